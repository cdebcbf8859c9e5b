/-! The twin's evaluation, by kinds. -/
section
set_option maxRecDepth 100000
abbrev kX3_truth : aK := (yX3_truth, cX3_truth, 1, (Option.some Jvm.ClassFile.FieldType.long), [])
theorem hcX3_truth : kX3_truth.1.cls ≠ "java/lang/invoke/MethodHandle" ∧ kX3_truth.1.cls ≠ "java/lang/invoke/VarHandle" ∧ (parseMethodDescriptor kX3_truth.1.desc).map (fun d => d.parameters.length) = some 1 := ⟨by decide, by decide, by decide +kernel⟩
theorem ct_truth (G : aG) (h : hH) (z : Bool) : Con G kX3_truth [.int (bI z)] h ((1, 0, 0, 0), (fun r h1 => r = some (.long (lb z)) ∧ h = h1), nX) := by
  refine Con.of (plainFor_of_name rfl) rfl (Nat.le_of_ble_eq_true rfl) ?_
  refine AW.eq (lv2 := [(0, .int (bI z))]) (s2 := []) rfl rfl rfl rfl rfl ?_
  refine aw_iload_n (n := 1) dX3_truth_0 rfl 0 rfl rfl ?_
  refine aw_if_eq (n := 4) (tgt := 8) dX3_truth_1 (by decide) rfl (fun c_1 => ?_) (fun c_1 => ?_)
  · skip
    have b_1 : z = false := (bI_0 _).mp c_1
    refine aw_lconst (n := 9) (v := 0) dX3_truth_8 (by decide) rfl ?_
    exact aw_lret dX3_truth_9 rfl ⟨congrArg some (congrArg Value.long (by simp_all [lb])), rfl⟩ ⟨Nat.zero_le _, Nat.zero_le _⟩
  · skip
    have b_1 : z = true := Bool.of_not_eq_false (fun e => c_1 ((bI_0 _).mpr e))
    refine aw_lconst (n := 5) (v := 1) dX3_truth_4 (by decide) rfl ?_
    refine aw_goto (tgt := 9) dX3_truth_5 (by decide) ?_
    exact aw_lret dX3_truth_9 rfl ⟨congrArg some (congrArg Value.long (by simp_all [lb])), rfl⟩ ⟨Nat.zero_le _, Nat.zero_le _⟩

abbrev kX3_compared : aK := (yX3_compared, cX3_compared, 5, (Option.some Jvm.ClassFile.FieldType.boolean), [])
theorem hcX3_compared : kX3_compared.1.cls ≠ "java/lang/invoke/MethodHandle" ∧ kX3_compared.1.cls ≠ "java/lang/invoke/VarHandle" ∧ (parseMethodDescriptor kX3_compared.1.desc).map (fun d => d.parameters.length) = some 3 := ⟨by decide, by decide, by decide +kernel⟩
theorem ct_compared (G : aG) (h : hH) (k : Nat) (x y : Int64) (hk : k < 6) : Con G kX3_compared [.int (nI k), .long x, .long y] h ((1, 0, 0, 0), (fun r h1 => r = some (.int (bI (cmT k x y))) ∧ h = h1), nX) := by
  refine Con.of (plainFor_of_name rfl) rfl (Nat.le_of_ble_eq_true rfl) ?_
  refine AW.eq (lv2 := [(0, .int (nI k)), (1, .long x), (3, .long y)]) (s2 := []) rfl rfl rfl rfl rfl ?_
  have hk_ : k = 0 ∨ k = 1 ∨ k = 2 ∨ k = 3 ∨ k = 4 ∨ k = 5 := by omega
  rcases hk_ with rfl | rfl | rfl | rfl | rfl | rfl
  · skip
    refine aw_iload_n (n := 1) dX3_compared_0 rfl 0 rfl rfl ?_
    refine aw_if_ne (n := 4) (tgt := 18) dX3_compared_1 (by decide) rfl (fun c_1 => ?_) (fun c_1 => ?_)
    · skip
      exact absurd c_1 (by decide +kernel)
    · skip
      refine aw_lload_n (n := 5) dX3_compared_4 rfl 1 rfl rfl ?_
      refine aw_lload_n (n := 6) dX3_compared_5 rfl 2 rfl rfl ?_
      refine aw_lcmp (n := 7) dX3_compared_6 rfl ?_
      refine aw_if_ne (n := 10) (tgt := 14) dX3_compared_7 (by decide) rfl (fun c_7 => ?_) (fun c_7 => ?_)
      · skip
        have o_7 : ¬ (x = y) := fun z => c_7 ((lg_cmp_eq0 _ _).mpr z)
        refine aw_iconst (n := 15) (v := 0) dX3_compared_14 (by decide) rfl ?_
        refine aw_goto (tgt := 105) dX3_compared_15 (by decide) ?_
        exact aw_zret dX3_compared_105 rfl (by decide) ⟨congrArg some (congrArg Value.int (by simp [bI, cmT, c_1, o_7]; try first | exact Int64.not_le.mpr (by assumption) | exact Int64.not_lt.mp (by assumption) | exact Int64.not_le.mp (by assumption))), rfl⟩ ⟨Nat.zero_le _, Nat.zero_le _⟩
      · skip
        have o_7 : x = y := (lg_cmp_eq0 _ _).mp c_7
        refine aw_iconst (n := 11) (v := 1) dX3_compared_10 (by decide) rfl ?_
        refine aw_goto (tgt := 105) dX3_compared_11 (by decide) ?_
        exact aw_zret dX3_compared_105 rfl (by decide) ⟨congrArg some (congrArg Value.int (by simp [bI, cmT, c_1, o_7]; try first | exact Int64.not_le.mpr (by assumption) | exact Int64.not_lt.mp (by assumption) | exact Int64.not_le.mp (by assumption))), rfl⟩ ⟨Nat.zero_le _, Nat.zero_le _⟩
  · skip
    refine aw_iload_n (n := 1) dX3_compared_0 rfl 0 rfl rfl ?_
    refine aw_if_ne (n := 4) (tgt := 18) dX3_compared_1 (by decide) rfl (fun c_1 => ?_) (fun c_1 => ?_)
    · skip
      refine aw_iload_n (n := 19) dX3_compared_18 rfl 0 rfl rfl ?_
      refine aw_iconst (n := 20) (v := 1) dX3_compared_19 (by decide) rfl ?_
      refine aw_icmp_ne (n := 23) (tgt := 37) dX3_compared_20 (by decide) rfl (fun c_20 => ?_) (fun c_20 => ?_)
      · skip
        exact absurd c_20 (by decide +kernel)
      · skip
        refine aw_lload_n (n := 24) dX3_compared_23 rfl 1 rfl rfl ?_
        refine aw_lload_n (n := 25) dX3_compared_24 rfl 2 rfl rfl ?_
        refine aw_lcmp (n := 26) dX3_compared_25 rfl ?_
        refine aw_if_eq (n := 29) (tgt := 33) dX3_compared_26 (by decide) rfl (fun c_26 => ?_) (fun c_26 => ?_)
        · skip
          have o_26 : x = y := (lg_cmp_eq0 _ _).mp c_26
          refine aw_iconst (n := 34) (v := 0) dX3_compared_33 (by decide) rfl ?_
          refine aw_goto (tgt := 105) dX3_compared_34 (by decide) ?_
          exact aw_zret dX3_compared_105 rfl (by decide) ⟨congrArg some (congrArg Value.int (by simp [bI, cmT, c_1, c_20, o_26]; try first | exact Int64.not_le.mpr (by assumption) | exact Int64.not_lt.mp (by assumption) | exact Int64.not_le.mp (by assumption))), rfl⟩ ⟨Nat.zero_le _, Nat.zero_le _⟩
        · skip
          have o_26 : ¬ (x = y) := fun z => c_26 ((lg_cmp_eq0 _ _).mpr z)
          refine aw_iconst (n := 30) (v := 1) dX3_compared_29 (by decide) rfl ?_
          refine aw_goto (tgt := 105) dX3_compared_30 (by decide) ?_
          exact aw_zret dX3_compared_105 rfl (by decide) ⟨congrArg some (congrArg Value.int (by simp [bI, cmT, c_1, c_20, o_26]; try first | exact Int64.not_le.mpr (by assumption) | exact Int64.not_lt.mp (by assumption) | exact Int64.not_le.mp (by assumption))), rfl⟩ ⟨Nat.zero_le _, Nat.zero_le _⟩
    · skip
      exact absurd c_1 (by decide +kernel)
  · skip
    refine aw_iload_n (n := 1) dX3_compared_0 rfl 0 rfl rfl ?_
    refine aw_if_ne (n := 4) (tgt := 18) dX3_compared_1 (by decide) rfl (fun c_1 => ?_) (fun c_1 => ?_)
    · skip
      refine aw_iload_n (n := 19) dX3_compared_18 rfl 0 rfl rfl ?_
      refine aw_iconst (n := 20) (v := 1) dX3_compared_19 (by decide) rfl ?_
      refine aw_icmp_ne (n := 23) (tgt := 37) dX3_compared_20 (by decide) rfl (fun c_20 => ?_) (fun c_20 => ?_)
      · skip
        refine aw_iload_n (n := 38) dX3_compared_37 rfl 0 rfl rfl ?_
        refine aw_iconst (n := 39) (v := 2) dX3_compared_38 (by decide) rfl ?_
        refine aw_icmp_ne (n := 42) (tgt := 56) dX3_compared_39 (by decide) rfl (fun c_39 => ?_) (fun c_39 => ?_)
        · skip
          exact absurd c_39 (by decide +kernel)
        · skip
          refine aw_lload_n (n := 43) dX3_compared_42 rfl 1 rfl rfl ?_
          refine aw_lload_n (n := 44) dX3_compared_43 rfl 2 rfl rfl ?_
          refine aw_lcmp (n := 45) dX3_compared_44 rfl ?_
          refine aw_if_ge (n := 48) (tgt := 52) dX3_compared_45 (by decide) rfl (fun c_45 => ?_) (fun c_45 => ?_)
          · skip
            have o_45 : y ≤ x := (lg_ge0 _ _).mp c_45
            refine aw_iconst (n := 53) (v := 0) dX3_compared_52 (by decide) rfl ?_
            refine aw_goto (tgt := 105) dX3_compared_53 (by decide) ?_
            exact aw_zret dX3_compared_105 rfl (by decide) ⟨congrArg some (congrArg Value.int (by simp [bI, cmT, c_1, c_20, c_39, o_45]; try first | exact Int64.not_le.mpr (by assumption) | exact Int64.not_lt.mp (by assumption) | exact Int64.not_le.mp (by assumption))), rfl⟩ ⟨Nat.zero_le _, Nat.zero_le _⟩
          · skip
            have o_45 : ¬ (y ≤ x) := fun z => c_45 ((lg_ge0 _ _).mpr z)
            refine aw_iconst (n := 49) (v := 1) dX3_compared_48 (by decide) rfl ?_
            refine aw_goto (tgt := 105) dX3_compared_49 (by decide) ?_
            exact aw_zret dX3_compared_105 rfl (by decide) ⟨congrArg some (congrArg Value.int (by simp [bI, cmT, c_1, c_20, c_39, o_45]; try first | exact Int64.not_le.mpr (by assumption) | exact Int64.not_lt.mp (by assumption) | exact Int64.not_le.mp (by assumption))), rfl⟩ ⟨Nat.zero_le _, Nat.zero_le _⟩
      · skip
        exact absurd c_20 (by decide +kernel)
    · skip
      exact absurd c_1 (by decide +kernel)
  · skip
    refine aw_iload_n (n := 1) dX3_compared_0 rfl 0 rfl rfl ?_
    refine aw_if_ne (n := 4) (tgt := 18) dX3_compared_1 (by decide) rfl (fun c_1 => ?_) (fun c_1 => ?_)
    · skip
      refine aw_iload_n (n := 19) dX3_compared_18 rfl 0 rfl rfl ?_
      refine aw_iconst (n := 20) (v := 1) dX3_compared_19 (by decide) rfl ?_
      refine aw_icmp_ne (n := 23) (tgt := 37) dX3_compared_20 (by decide) rfl (fun c_20 => ?_) (fun c_20 => ?_)
      · skip
        refine aw_iload_n (n := 38) dX3_compared_37 rfl 0 rfl rfl ?_
        refine aw_iconst (n := 39) (v := 2) dX3_compared_38 (by decide) rfl ?_
        refine aw_icmp_ne (n := 42) (tgt := 56) dX3_compared_39 (by decide) rfl (fun c_39 => ?_) (fun c_39 => ?_)
        · skip
          refine aw_iload_n (n := 57) dX3_compared_56 rfl 0 rfl rfl ?_
          refine aw_iconst (n := 58) (v := 3) dX3_compared_57 (by decide) rfl ?_
          refine aw_icmp_ne (n := 61) (tgt := 75) dX3_compared_58 (by decide) rfl (fun c_58 => ?_) (fun c_58 => ?_)
          · skip
            exact absurd c_58 (by decide +kernel)
          · skip
            refine aw_lload_n (n := 62) dX3_compared_61 rfl 1 rfl rfl ?_
            refine aw_lload_n (n := 63) dX3_compared_62 rfl 2 rfl rfl ?_
            refine aw_lcmp (n := 64) dX3_compared_63 rfl ?_
            refine aw_if_le (n := 67) (tgt := 71) dX3_compared_64 (by decide) rfl (fun c_64 => ?_) (fun c_64 => ?_)
            · skip
              have o_64 : x ≤ y := (lg_le0 _ _).mp c_64
              refine aw_iconst (n := 72) (v := 0) dX3_compared_71 (by decide) rfl ?_
              refine aw_goto (tgt := 105) dX3_compared_72 (by decide) ?_
              exact aw_zret dX3_compared_105 rfl (by decide) ⟨congrArg some (congrArg Value.int (by simp [bI, cmT, c_1, c_20, c_39, c_58, o_64]; try first | exact Int64.not_le.mpr (by assumption) | exact Int64.not_lt.mp (by assumption) | exact Int64.not_le.mp (by assumption))), rfl⟩ ⟨Nat.zero_le _, Nat.zero_le _⟩
            · skip
              have o_64 : ¬ (x ≤ y) := fun z => c_64 ((lg_le0 _ _).mpr z)
              refine aw_iconst (n := 68) (v := 1) dX3_compared_67 (by decide) rfl ?_
              refine aw_goto (tgt := 105) dX3_compared_68 (by decide) ?_
              exact aw_zret dX3_compared_105 rfl (by decide) ⟨congrArg some (congrArg Value.int (by simp [bI, cmT, c_1, c_20, c_39, c_58, o_64]; try first | exact Int64.not_le.mpr (by assumption) | exact Int64.not_lt.mp (by assumption) | exact Int64.not_le.mp (by assumption))), rfl⟩ ⟨Nat.zero_le _, Nat.zero_le _⟩
        · skip
          exact absurd c_39 (by decide +kernel)
      · skip
        exact absurd c_20 (by decide +kernel)
    · skip
      exact absurd c_1 (by decide +kernel)
  · skip
    refine aw_iload_n (n := 1) dX3_compared_0 rfl 0 rfl rfl ?_
    refine aw_if_ne (n := 4) (tgt := 18) dX3_compared_1 (by decide) rfl (fun c_1 => ?_) (fun c_1 => ?_)
    · skip
      refine aw_iload_n (n := 19) dX3_compared_18 rfl 0 rfl rfl ?_
      refine aw_iconst (n := 20) (v := 1) dX3_compared_19 (by decide) rfl ?_
      refine aw_icmp_ne (n := 23) (tgt := 37) dX3_compared_20 (by decide) rfl (fun c_20 => ?_) (fun c_20 => ?_)
      · skip
        refine aw_iload_n (n := 38) dX3_compared_37 rfl 0 rfl rfl ?_
        refine aw_iconst (n := 39) (v := 2) dX3_compared_38 (by decide) rfl ?_
        refine aw_icmp_ne (n := 42) (tgt := 56) dX3_compared_39 (by decide) rfl (fun c_39 => ?_) (fun c_39 => ?_)
        · skip
          refine aw_iload_n (n := 57) dX3_compared_56 rfl 0 rfl rfl ?_
          refine aw_iconst (n := 58) (v := 3) dX3_compared_57 (by decide) rfl ?_
          refine aw_icmp_ne (n := 61) (tgt := 75) dX3_compared_58 (by decide) rfl (fun c_58 => ?_) (fun c_58 => ?_)
          · skip
            refine aw_iload_n (n := 76) dX3_compared_75 rfl 0 rfl rfl ?_
            refine aw_iconst (n := 77) (v := 4) dX3_compared_76 (by decide) rfl ?_
            refine aw_icmp_ne (n := 80) (tgt := 94) dX3_compared_77 (by decide) rfl (fun c_77 => ?_) (fun c_77 => ?_)
            · skip
              exact absurd c_77 (by decide +kernel)
            · skip
              refine aw_lload_n (n := 81) dX3_compared_80 rfl 1 rfl rfl ?_
              refine aw_lload_n (n := 82) dX3_compared_81 rfl 2 rfl rfl ?_
              refine aw_lcmp (n := 83) dX3_compared_82 rfl ?_
              refine aw_if_gt (n := 86) (tgt := 90) dX3_compared_83 (by decide) rfl (fun c_83 => ?_) (fun c_83 => ?_)
              · skip
                have o_83 : y < x := (lg_gt0 _ _).mp c_83
                refine aw_iconst (n := 91) (v := 0) dX3_compared_90 (by decide) rfl ?_
                refine aw_goto (tgt := 105) dX3_compared_91 (by decide) ?_
                exact aw_zret dX3_compared_105 rfl (by decide) ⟨congrArg some (congrArg Value.int (by simp [bI, cmT, c_1, c_20, c_39, c_58, c_77, o_83]; try first | exact Int64.not_le.mpr (by assumption) | exact Int64.not_lt.mp (by assumption) | exact Int64.not_le.mp (by assumption))), rfl⟩ ⟨Nat.zero_le _, Nat.zero_le _⟩
              · skip
                have o_83 : ¬ (y < x) := fun z => c_83 ((lg_gt0 _ _).mpr z)
                refine aw_iconst (n := 87) (v := 1) dX3_compared_86 (by decide) rfl ?_
                refine aw_goto (tgt := 105) dX3_compared_87 (by decide) ?_
                exact aw_zret dX3_compared_105 rfl (by decide) ⟨congrArg some (congrArg Value.int (by simp [bI, cmT, c_1, c_20, c_39, c_58, c_77, o_83]; try first | exact Int64.not_le.mpr (by assumption) | exact Int64.not_lt.mp (by assumption) | exact Int64.not_le.mp (by assumption))), rfl⟩ ⟨Nat.zero_le _, Nat.zero_le _⟩
          · skip
            exact absurd c_58 (by decide +kernel)
        · skip
          exact absurd c_39 (by decide +kernel)
      · skip
        exact absurd c_20 (by decide +kernel)
    · skip
      exact absurd c_1 (by decide +kernel)
  · skip
    refine aw_iload_n (n := 1) dX3_compared_0 rfl 0 rfl rfl ?_
    refine aw_if_ne (n := 4) (tgt := 18) dX3_compared_1 (by decide) rfl (fun c_1 => ?_) (fun c_1 => ?_)
    · skip
      refine aw_iload_n (n := 19) dX3_compared_18 rfl 0 rfl rfl ?_
      refine aw_iconst (n := 20) (v := 1) dX3_compared_19 (by decide) rfl ?_
      refine aw_icmp_ne (n := 23) (tgt := 37) dX3_compared_20 (by decide) rfl (fun c_20 => ?_) (fun c_20 => ?_)
      · skip
        refine aw_iload_n (n := 38) dX3_compared_37 rfl 0 rfl rfl ?_
        refine aw_iconst (n := 39) (v := 2) dX3_compared_38 (by decide) rfl ?_
        refine aw_icmp_ne (n := 42) (tgt := 56) dX3_compared_39 (by decide) rfl (fun c_39 => ?_) (fun c_39 => ?_)
        · skip
          refine aw_iload_n (n := 57) dX3_compared_56 rfl 0 rfl rfl ?_
          refine aw_iconst (n := 58) (v := 3) dX3_compared_57 (by decide) rfl ?_
          refine aw_icmp_ne (n := 61) (tgt := 75) dX3_compared_58 (by decide) rfl (fun c_58 => ?_) (fun c_58 => ?_)
          · skip
            refine aw_iload_n (n := 76) dX3_compared_75 rfl 0 rfl rfl ?_
            refine aw_iconst (n := 77) (v := 4) dX3_compared_76 (by decide) rfl ?_
            refine aw_icmp_ne (n := 80) (tgt := 94) dX3_compared_77 (by decide) rfl (fun c_77 => ?_) (fun c_77 => ?_)
            · skip
              refine aw_lload_n (n := 95) dX3_compared_94 rfl 1 rfl rfl ?_
              refine aw_lload_n (n := 96) dX3_compared_95 rfl 2 rfl rfl ?_
              refine aw_lcmp (n := 97) dX3_compared_96 rfl ?_
              refine aw_if_lt (n := 100) (tgt := 104) dX3_compared_97 (by decide) rfl (fun c_97 => ?_) (fun c_97 => ?_)
              · skip
                have o_97 : x < y := (lg_lt0 _ _).mp c_97
                refine aw_iconst (n := 105) (v := 0) dX3_compared_104 (by decide) rfl ?_
                exact aw_zret dX3_compared_105 rfl (by decide) ⟨congrArg some (congrArg Value.int (by simp [bI, cmT, c_1, c_20, c_39, c_58, c_77, o_97]; try first | exact Int64.not_le.mpr (by assumption) | exact Int64.not_lt.mp (by assumption) | exact Int64.not_le.mp (by assumption))), rfl⟩ ⟨Nat.zero_le _, Nat.zero_le _⟩
              · skip
                have o_97 : ¬ (x < y) := fun z => c_97 ((lg_lt0 _ _).mpr z)
                refine aw_iconst (n := 101) (v := 1) dX3_compared_100 (by decide) rfl ?_
                refine aw_goto (tgt := 105) dX3_compared_101 (by decide) ?_
                exact aw_zret dX3_compared_105 rfl (by decide) ⟨congrArg some (congrArg Value.int (by simp [bI, cmT, c_1, c_20, c_39, c_58, c_77, o_97]; try first | exact Int64.not_le.mpr (by assumption) | exact Int64.not_lt.mp (by assumption) | exact Int64.not_le.mp (by assumption))), rfl⟩ ⟨Nat.zero_le _, Nat.zero_le _⟩
            · skip
              exact absurd c_77 (by decide +kernel)
          · skip
            exact absurd c_58 (by decide +kernel)
        · skip
          exact absurd c_39 (by decide +kernel)
      · skip
        exact absurd c_20 (by decide +kernel)
    · skip
      exact absurd c_1 (by decide +kernel)

abbrev kX3_both : aK := (yX3_both, cX3_both, 5, (Option.some Jvm.ClassFile.FieldType.long), [])
theorem hcX3_both : kX3_both.1.cls ≠ "java/lang/invoke/MethodHandle" ∧ kX3_both.1.cls ≠ "java/lang/invoke/VarHandle" ∧ (parseMethodDescriptor kX3_both.1.desc).map (fun d => d.parameters.length) = some 3 := ⟨by decide, by decide, by decide +kernel⟩
theorem ct_both (G : aG) (h : hH) (k : Nat) (x y : Int64) (hk : k < 5) : Con G kX3_both [.int (nI k), .long x, .long y] h ((1, 0, 0, 0), (fun r h1 => r = some (.long (boT k x y)) ∧ h = h1), nX) := by
  refine Con.of (plainFor_of_name rfl) rfl (Nat.le_of_ble_eq_true rfl) ?_
  refine AW.eq (lv2 := [(0, .int (nI k)), (1, .long x), (3, .long y)]) (s2 := []) rfl rfl rfl rfl rfl ?_
  have hk_ : k = 0 ∨ k = 1 ∨ k = 2 ∨ k = 3 ∨ k = 4 := by omega
  rcases hk_ with rfl | rfl | rfl | rfl | rfl
  · skip
    refine aw_iload_n (n := 1) dX3_both_0 rfl 0 rfl rfl ?_
    refine aw_iconst (n := 2) (v := 2) dX3_both_1 (by decide) rfl ?_
    refine aw_icmp_le (n := 5) (tgt := 13) dX3_both_2 (by decide) rfl (fun c_2 => ?_) (fun c_2 => ?_)
    · skip
      refine aw_iload_n (n := 14) dX3_both_13 rfl 0 rfl rfl ?_
      refine aw_if_ne (n := 17) (tgt := 23) dX3_both_14 (by decide) rfl (fun c_14 => ?_) (fun c_14 => ?_)
      · skip
        exact absurd c_14 (by decide +kernel)
      · skip
        refine aw_lload_n (n := 18) dX3_both_17 rfl 1 rfl rfl ?_
        refine aw_lload_n (n := 19) dX3_both_18 rfl 2 rfl rfl ?_
        refine aw_ladd (n := 20) dX3_both_19 rfl ?_
        refine aw_goto (tgt := 59) dX3_both_20 (by decide) ?_
        exact aw_lret dX3_both_59 rfl ⟨congrArg some (congrArg Value.long (by simp [boT, boT])), rfl⟩ ⟨Nat.zero_le _, Nat.zero_le _⟩
    · skip
      exact absurd c_2 (by decide +kernel)
  · skip
    refine aw_iload_n (n := 1) dX3_both_0 rfl 0 rfl rfl ?_
    refine aw_iconst (n := 2) (v := 2) dX3_both_1 (by decide) rfl ?_
    refine aw_icmp_le (n := 5) (tgt := 13) dX3_both_2 (by decide) rfl (fun c_2 => ?_) (fun c_2 => ?_)
    · skip
      refine aw_iload_n (n := 14) dX3_both_13 rfl 0 rfl rfl ?_
      refine aw_if_ne (n := 17) (tgt := 23) dX3_both_14 (by decide) rfl (fun c_14 => ?_) (fun c_14 => ?_)
      · skip
        refine aw_iload_n (n := 24) dX3_both_23 rfl 0 rfl rfl ?_
        refine aw_iconst (n := 25) (v := 1) dX3_both_24 (by decide) rfl ?_
        refine aw_icmp_ne (n := 28) (tgt := 34) dX3_both_25 (by decide) rfl (fun c_25 => ?_) (fun c_25 => ?_)
        · skip
          exact absurd c_25 (by decide +kernel)
        · skip
          refine aw_lload_n (n := 29) dX3_both_28 rfl 1 rfl rfl ?_
          refine aw_lload_n (n := 30) dX3_both_29 rfl 2 rfl rfl ?_
          refine aw_lsub (n := 31) dX3_both_30 rfl ?_
          refine aw_goto (tgt := 59) dX3_both_31 (by decide) ?_
          exact aw_lret dX3_both_59 rfl ⟨congrArg some (congrArg Value.long (by simp [boT, boT])), rfl⟩ ⟨Nat.zero_le _, Nat.zero_le _⟩
      · skip
        exact absurd c_14 (by decide +kernel)
    · skip
      exact absurd c_2 (by decide +kernel)
  · skip
    refine aw_iload_n (n := 1) dX3_both_0 rfl 0 rfl rfl ?_
    refine aw_iconst (n := 2) (v := 2) dX3_both_1 (by decide) rfl ?_
    refine aw_icmp_le (n := 5) (tgt := 13) dX3_both_2 (by decide) rfl (fun c_2 => ?_) (fun c_2 => ?_)
    · skip
      refine aw_iload_n (n := 14) dX3_both_13 rfl 0 rfl rfl ?_
      refine aw_if_ne (n := 17) (tgt := 23) dX3_both_14 (by decide) rfl (fun c_14 => ?_) (fun c_14 => ?_)
      · skip
        refine aw_iload_n (n := 24) dX3_both_23 rfl 0 rfl rfl ?_
        refine aw_iconst (n := 25) (v := 1) dX3_both_24 (by decide) rfl ?_
        refine aw_icmp_ne (n := 28) (tgt := 34) dX3_both_25 (by decide) rfl (fun c_25 => ?_) (fun c_25 => ?_)
        · skip
          refine aw_iload_n (n := 35) dX3_both_34 rfl 0 rfl rfl ?_
          refine aw_iconst (n := 36) (v := 2) dX3_both_35 (by decide) rfl ?_
          refine aw_icmp_ne (n := 39) (tgt := 45) dX3_both_36 (by decide) rfl (fun c_36 => ?_) (fun c_36 => ?_)
          · skip
            exact absurd c_36 (by decide +kernel)
          · skip
            refine aw_lload_n (n := 40) dX3_both_39 rfl 1 rfl rfl ?_
            refine aw_lload_n (n := 41) dX3_both_40 rfl 2 rfl rfl ?_
            refine aw_lmul (n := 42) dX3_both_41 rfl ?_
            refine aw_goto (tgt := 59) dX3_both_42 (by decide) ?_
            exact aw_lret dX3_both_59 rfl ⟨congrArg some (congrArg Value.long (by simp [boT, boT])), rfl⟩ ⟨Nat.zero_le _, Nat.zero_le _⟩
        · skip
          exact absurd c_25 (by decide +kernel)
      · skip
        exact absurd c_14 (by decide +kernel)
    · skip
      exact absurd c_2 (by decide +kernel)
  · skip
    refine aw_iload_n (n := 1) dX3_both_0 rfl 0 rfl rfl ?_
    refine aw_iconst (n := 2) (v := 2) dX3_both_1 (by decide) rfl ?_
    refine aw_icmp_le (n := 5) (tgt := 13) dX3_both_2 (by decide) rfl (fun c_2 => ?_) (fun c_2 => ?_)
    · skip
      exact absurd c_2 (by decide +kernel)
    · skip
      refine aw_lload_n (n := 6) dX3_both_5 rfl 2 rfl rfl ?_
      refine aw_lconst (n := 7) (v := 0) dX3_both_6 (by decide) rfl ?_
      refine aw_lcmp (n := 8) dX3_both_7 rfl ?_
      refine aw_if_ne (n := 11) (tgt := 13) dX3_both_8 (by decide) rfl (fun c_8 => ?_) (fun c_8 => ?_)
      · skip
        have o_8 : ¬ (y = (0 : Int64)) := fun z => c_8 ((lg_cmp_eq0 _ _).mpr z)
        refine aw_iload_n (n := 14) dX3_both_13 rfl 0 rfl rfl ?_
        refine aw_if_ne (n := 17) (tgt := 23) dX3_both_14 (by decide) rfl (fun c_14 => ?_) (fun c_14 => ?_)
        · skip
          refine aw_iload_n (n := 24) dX3_both_23 rfl 0 rfl rfl ?_
          refine aw_iconst (n := 25) (v := 1) dX3_both_24 (by decide) rfl ?_
          refine aw_icmp_ne (n := 28) (tgt := 34) dX3_both_25 (by decide) rfl (fun c_25 => ?_) (fun c_25 => ?_)
          · skip
            refine aw_iload_n (n := 35) dX3_both_34 rfl 0 rfl rfl ?_
            refine aw_iconst (n := 36) (v := 2) dX3_both_35 (by decide) rfl ?_
            refine aw_icmp_ne (n := 39) (tgt := 45) dX3_both_36 (by decide) rfl (fun c_36 => ?_) (fun c_36 => ?_)
            · skip
              refine aw_iload_n (n := 46) dX3_both_45 rfl 0 rfl rfl ?_
              refine aw_iconst (n := 47) (v := 3) dX3_both_46 (by decide) rfl ?_
              refine aw_icmp_ne (n := 50) (tgt := 56) dX3_both_47 (by decide) rfl (fun c_47 => ?_) (fun c_47 => ?_)
              · skip
                exact absurd c_47 (by decide +kernel)
              · skip
                refine aw_lload_n (n := 51) dX3_both_50 rfl 1 rfl rfl ?_
                refine aw_lload_n (n := 52) dX3_both_51 rfl 2 rfl rfl ?_
                refine aw_ldiv (n := 53) dX3_both_52 o_8 rfl ?_
                refine aw_goto (tgt := 59) dX3_both_53 (by decide) ?_
                exact aw_lret dX3_both_59 rfl ⟨congrArg some (congrArg Value.long (by simp [boT, o_8])), rfl⟩ ⟨Nat.zero_le _, Nat.zero_le _⟩
            · skip
              exact absurd c_36 (by decide +kernel)
          · skip
            exact absurd c_25 (by decide +kernel)
        · skip
          exact absurd c_14 (by decide +kernel)
      · skip
        have o_8 : y = (0 : Int64) := (lg_cmp_eq0 _ _).mp c_8
        refine aw_lconst (n := 12) (v := 0) dX3_both_11 (by decide) rfl ?_
        exact aw_lret dX3_both_12 rfl ⟨congrArg some (congrArg Value.long (by simp [boT, o_8])), rfl⟩ ⟨Nat.zero_le _, Nat.zero_le _⟩
  · skip
    refine aw_iload_n (n := 1) dX3_both_0 rfl 0 rfl rfl ?_
    refine aw_iconst (n := 2) (v := 2) dX3_both_1 (by decide) rfl ?_
    refine aw_icmp_le (n := 5) (tgt := 13) dX3_both_2 (by decide) rfl (fun c_2 => ?_) (fun c_2 => ?_)
    · skip
      exact absurd c_2 (by decide +kernel)
    · skip
      refine aw_lload_n (n := 6) dX3_both_5 rfl 2 rfl rfl ?_
      refine aw_lconst (n := 7) (v := 0) dX3_both_6 (by decide) rfl ?_
      refine aw_lcmp (n := 8) dX3_both_7 rfl ?_
      refine aw_if_ne (n := 11) (tgt := 13) dX3_both_8 (by decide) rfl (fun c_8 => ?_) (fun c_8 => ?_)
      · skip
        have o_8 : ¬ (y = (0 : Int64)) := fun z => c_8 ((lg_cmp_eq0 _ _).mpr z)
        refine aw_iload_n (n := 14) dX3_both_13 rfl 0 rfl rfl ?_
        refine aw_if_ne (n := 17) (tgt := 23) dX3_both_14 (by decide) rfl (fun c_14 => ?_) (fun c_14 => ?_)
        · skip
          refine aw_iload_n (n := 24) dX3_both_23 rfl 0 rfl rfl ?_
          refine aw_iconst (n := 25) (v := 1) dX3_both_24 (by decide) rfl ?_
          refine aw_icmp_ne (n := 28) (tgt := 34) dX3_both_25 (by decide) rfl (fun c_25 => ?_) (fun c_25 => ?_)
          · skip
            refine aw_iload_n (n := 35) dX3_both_34 rfl 0 rfl rfl ?_
            refine aw_iconst (n := 36) (v := 2) dX3_both_35 (by decide) rfl ?_
            refine aw_icmp_ne (n := 39) (tgt := 45) dX3_both_36 (by decide) rfl (fun c_36 => ?_) (fun c_36 => ?_)
            · skip
              refine aw_iload_n (n := 46) dX3_both_45 rfl 0 rfl rfl ?_
              refine aw_iconst (n := 47) (v := 3) dX3_both_46 (by decide) rfl ?_
              refine aw_icmp_ne (n := 50) (tgt := 56) dX3_both_47 (by decide) rfl (fun c_47 => ?_) (fun c_47 => ?_)
              · skip
                refine aw_lload_n (n := 57) dX3_both_56 rfl 1 rfl rfl ?_
                refine aw_lload_n (n := 58) dX3_both_57 rfl 2 rfl rfl ?_
                refine aw_lrem (n := 59) dX3_both_58 o_8 rfl ?_
                exact aw_lret dX3_both_59 rfl ⟨congrArg some (congrArg Value.long (by simp [boT, o_8])), rfl⟩ ⟨Nat.zero_le _, Nat.zero_le _⟩
              · skip
                exact absurd c_47 (by decide +kernel)
            · skip
              exact absurd c_36 (by decide +kernel)
          · skip
            exact absurd c_25 (by decide +kernel)
        · skip
          exact absurd c_14 (by decide +kernel)
      · skip
        have o_8 : y = (0 : Int64) := (lg_cmp_eq0 _ _).mp c_8
        refine aw_lconst (n := 12) (v := 0) dX3_both_11 (by decide) rfl ?_
        exact aw_lret dX3_both_12 rfl ⟨congrArg some (congrArg Value.long (by simp [boT, o_8])), rfl⟩ ⟨Nat.zero_le _, Nat.zero_le _⟩

abbrev kX3_overAll : aK := (yX3_overAll, cX3_overAll, 7, (Option.some Jvm.ClassFile.FieldType.long), [])
theorem hcX3_overAll : kX3_overAll.1.cls ≠ "java/lang/invoke/MethodHandle" ∧ kX3_overAll.1.cls ≠ "java/lang/invoke/VarHandle" ∧ (parseMethodDescriptor kX3_overAll.1.desc).map (fun d => d.parameters.length) = some 3 := ⟨by decide, by decide, by decide +kernel⟩
theorem ct_overAll (G : aG) (h : hH) (b : Nat) (ms : tM) (hb : gB G ≤ b) (hT : TW b h ms) (k a i : Nat) (hk : 27 ≤ k) (hk2 : k ≤ 29) (ha : a < 1203) (hi : i < 120) : Con G kX3_overAll [.ref b, .int (nI k), .int (nI a), .int (nI i)] h ((2, 23, 0, 0), (fun r h1 => r = some (.long (ovU k (tb ms a) i)) ∧ h = h1), nX) := by
  refine Con.of (plainFor_of_name rfl) rfl (Nat.le_of_ble_eq_true rfl) ?_
  refine AW.eq (lv2 := [(0, .ref b), (1, .int (nI k)), (2, .int (nI a)), (3, .int (nI i))]) (s2 := []) rfl rfl rfl rfl rfl ?_
  have hk_ : k = 27 ∨ k = 28 ∨ k = 29 := by omega
  rcases hk_ with rfl | rfl | rfl
  · skip
    refine aw_aload_n (n := 1) dX3_overAll_0 rfl 0 rfl rfl ?_
    refine aw_iload_n (n := 2) dX3_overAll_1 rfl 2 rfl rfl ?_
    refine aw_iconst (n := 3) (v := 0) dX3_overAll_2 (by decide) rfl ?_
    refine AW.sts (st' := [.int (nI 0), .int (nI a), .ref b]) (by rw [show (0 : Int32) = nI 0 from (by rfl)]) ?_
    refine aw_callV (n := 6) (C0 := RX3) (As := [.int (nI a), .int (nI 0)]) (rest := []) (K2 := kX3_at) dX3_overAll_3 q3060 q3062 qs92 q113 q3063 ⟨rfl, hcX3_at⟩ rfl hT.1 (ct_at G h b ms hb hT a 0 (by omega) (by omega)) rfl (Nat.le_of_ble_eq_true rfl) ⟨Nat.le_of_ble_eq_true rfl, Nat.le_of_ble_eq_true rfl⟩ ⟨Nat.zero_le _, Nat.zero_le _⟩ (fun _ _ _ z => z.elim) rfl (fun r_3 h_3 q_3 => ?_)
    obtain ⟨rfl, rfl⟩ := q_3
    refine AW.sts (st' := [.long (tb ms a 0)]) rfl ?_
    refine aw_lstore (n := 8) (lv' := [(4, .long (tb ms a 0)), (0, .ref b), (1, .int (nI 27)), (2, .int (nI a)), (3, .int (nI i))]) dX3_overAll_6 (by decide) rfl rfl ?_
    refine aw_iconst (n := 9) (v := 1) dX3_overAll_8 (by decide) rfl ?_
    refine aw_istore (n := 11) (lv' := [(6, .int 1), (4, .long (tb ms a 0)), (0, .ref b), (1, .int (nI 27)), (2, .int (nI a)), (3, .int (nI i))]) dX3_overAll_9 (by decide) rfl rfl ?_
    suffices L_11 : ∀ (m_ : Nat) (c : Nat) (hc : c ≤ i), i - c < m_ → AW G kX3_overAll ((2, 23, 0, 0), (fun r h1 => r = some (.long (ovU 27 (tb ms a) i)) ∧ h = h1), nX) 11 [(6, .int (nI (c + 1))), (4, .long (ovU 27 (tb ms a) c)), (0, .ref b), (1, .int (nI 27)), (2, .int (nI a)), (3, .int (nI i))] [] h 0 0 from
      AW.lvs (lv' := [(6, .int 1), (4, .long (tb ms a 0)), (0, .ref b), (1, .int (nI 27)), (2, .int (nI a)), (3, .int (nI i))]) (AW.eq (lv2 := _) (rfl) rfl rfl rfl rfl (L_11 _ 0 (by omega) (Nat.lt_succ_self _))) (by simp)
    intro m_
    induction m_ with
    | zero => intro c hc h_m; exact absurd h_m (Nat.not_lt_zero _)
    | succ m_ ih_11 =>
      intro c hc h_m
      refine aw_iload (n := 13) dX3_overAll_11 0 rfl rfl ?_
      refine aw_iload_n (n := 14) dX3_overAll_13 rfl 5 rfl rfl ?_
      refine aw_icmp_gt (n := 17) (tgt := 77) dX3_overAll_14 (by decide) rfl (fun c_14 => ?_) (fun c_14 => ?_)
      · skip
        have n_14 : i < (c + 1) := (nI_ltI (a := i) (b := (c + 1)) (by omega) (by omega)).mp (by exact c_14)
        refine aw_lload (n := 79) dX3_overAll_77 1 rfl rfl ?_
        exact aw_lret dX3_overAll_79 rfl ⟨congrArg some (congrArg Value.long (by rw [show i = c by omega])), rfl⟩ ⟨Nat.zero_le _, Nat.zero_le _⟩
      · skip
        have n_14 : ¬ (i < (c + 1)) := fun z => c_14 (by have y := (nI_ltI (a := i) (b := (c + 1)) (by omega) (by omega)).mpr z; exact y)
        refine aw_iload_n (n := 18) dX3_overAll_17 rfl 3 rfl rfl ?_
        refine aw_bipush (n := 20) (v := 27) dX3_overAll_18 (by decide) rfl ?_
        refine aw_icmp_ne (n := 23) (tgt := 38) dX3_overAll_20 (by decide) rfl (fun c_20 => ?_) (fun c_20 => ?_)
        · skip
          exact absurd c_20 (by decide +kernel)
        · skip
          refine aw_lload (n := 25) dX3_overAll_23 1 rfl rfl ?_
          refine aw_aload_n (n := 26) dX3_overAll_25 rfl 2 rfl rfl ?_
          refine aw_iload_n (n := 27) dX3_overAll_26 rfl 4 rfl rfl ?_
          refine aw_iload (n := 29) dX3_overAll_27 0 rfl rfl ?_
          refine aw_callV (n := 32) (C0 := RX3) (As := [.int (nI a), .int (nI (c + 1))]) (rest := [.long (ovU 27 (tb ms a) c)]) (K2 := kX3_at) dX3_overAll_29 q3060 q3062 qs92 q113 q3063 ⟨rfl, hcX3_at⟩ rfl hT.1 (ct_at G h b ms hb hT a (c + 1) (by omega) (by omega)) rfl (Nat.le_of_ble_eq_true rfl) ⟨Nat.le_of_ble_eq_true rfl, Nat.le_of_ble_eq_true rfl⟩ ⟨Nat.zero_le _, Nat.zero_le _⟩ (fun _ _ _ z => z.elim) rfl (fun r_29 h_29 q_29 => ?_)
          obtain ⟨rfl, rfl⟩ := q_29
          refine AW.sts (st' := [.long (tb ms a (c + 1)), .long (ovU 27 (tb ms a) c)]) rfl ?_
          refine aw_callS (n := 35) (As := [.long (ovU 27 (tb ms a) c), .long (tb ms a (c + 1))]) (rest := []) (K2 := kJ15_max_2) dX3_overAll_32 q3090 q2261 q125 q2262 hcJ15_max_2 (cj_maxL G h (ovU 27 (tb ms a) c) (tb ms a (c + 1))) rfl (Nat.le_of_ble_eq_true rfl) ⟨Nat.le_of_ble_eq_true rfl, Nat.le_of_ble_eq_true rfl⟩ ⟨Nat.zero_le _, Nat.zero_le _⟩ (fun _ _ _ z => z.elim) rfl (fun r_32 h_32 q_32 => ?_)
          obtain ⟨rfl, rfl⟩ := q_32
          refine AW.sts (st' := [.long (if (ovU 27 (tb ms a) c) < (tb ms a (c + 1)) then (tb ms a (c + 1)) else (ovU 27 (tb ms a) c))]) rfl ?_
          refine aw_goto (tgt := 69) dX3_overAll_35 (by decide) ?_
          refine aw_lstore (n := 71) (lv' := [(4, .long (if (ovU 27 (tb ms a) c) < (tb ms a (c + 1)) then (tb ms a (c + 1)) else (ovU 27 (tb ms a) c))), (6, .int (nI (c + 1))), (0, .ref b), (1, .int (nI 27)), (2, .int (nI a)), (3, .int (nI i))]) dX3_overAll_69 (by decide) rfl rfl ?_
          refine aw_iinc (n := 74) (v := nI ((c + 1) + 1)) (lv' := [(6, .int (nI ((c + 1) + 1))), (4, .long (if (ovU 27 (tb ms a) c) < (tb ms a (c + 1)) then (tb ms a (c + 1)) else (ovU 27 (tb ms a) c))), (0, .ref b), (1, .int (nI 27)), (2, .int (nI a)), (3, .int (nI i))]) dX3_overAll_71 1 rfl (by rw [show nI (c + 1) = nI (c + 1) from rfl]; exact nI_1 _) (by decide) rfl rfl ?_
          refine aw_goto (tgt := 11) dX3_overAll_74 (by decide) ?_
          exact AW.lvs (lv' := [(6, .int (nI ((c + 1) + 1))), (4, .long (if (ovU 27 (tb ms a) c) < (tb ms a (c + 1)) then (tb ms a (c + 1)) else (ovU 27 (tb ms a) c))), (0, .ref b), (1, .int (nI 27)), (2, .int (nI a)), (3, .int (nI i))]) (AW.eq (lv2 := _) (by simp [ovU, ovF]) rfl rfl rfl rfl (ih_11 (c + 1) (by omega) (by omega))) (by simp)
  · skip
    refine aw_aload_n (n := 1) dX3_overAll_0 rfl 0 rfl rfl ?_
    refine aw_iload_n (n := 2) dX3_overAll_1 rfl 2 rfl rfl ?_
    refine aw_iconst (n := 3) (v := 0) dX3_overAll_2 (by decide) rfl ?_
    refine AW.sts (st' := [.int (nI 0), .int (nI a), .ref b]) (by rw [show (0 : Int32) = nI 0 from (by rfl)]) ?_
    refine aw_callV (n := 6) (C0 := RX3) (As := [.int (nI a), .int (nI 0)]) (rest := []) (K2 := kX3_at) dX3_overAll_3 q3060 q3062 qs92 q113 q3063 ⟨rfl, hcX3_at⟩ rfl hT.1 (ct_at G h b ms hb hT a 0 (by omega) (by omega)) rfl (Nat.le_of_ble_eq_true rfl) ⟨Nat.le_of_ble_eq_true rfl, Nat.le_of_ble_eq_true rfl⟩ ⟨Nat.zero_le _, Nat.zero_le _⟩ (fun _ _ _ z => z.elim) rfl (fun r_3 h_3 q_3 => ?_)
    obtain ⟨rfl, rfl⟩ := q_3
    refine AW.sts (st' := [.long (tb ms a 0)]) rfl ?_
    refine aw_lstore (n := 8) (lv' := [(4, .long (tb ms a 0)), (0, .ref b), (1, .int (nI 28)), (2, .int (nI a)), (3, .int (nI i))]) dX3_overAll_6 (by decide) rfl rfl ?_
    refine aw_iconst (n := 9) (v := 1) dX3_overAll_8 (by decide) rfl ?_
    refine aw_istore (n := 11) (lv' := [(6, .int 1), (4, .long (tb ms a 0)), (0, .ref b), (1, .int (nI 28)), (2, .int (nI a)), (3, .int (nI i))]) dX3_overAll_9 (by decide) rfl rfl ?_
    suffices L_11 : ∀ (m_ : Nat) (c : Nat) (hc : c ≤ i), i - c < m_ → AW G kX3_overAll ((2, 23, 0, 0), (fun r h1 => r = some (.long (ovU 28 (tb ms a) i)) ∧ h = h1), nX) 11 [(6, .int (nI (c + 1))), (4, .long (ovU 28 (tb ms a) c)), (0, .ref b), (1, .int (nI 28)), (2, .int (nI a)), (3, .int (nI i))] [] h 0 0 from
      AW.lvs (lv' := [(6, .int 1), (4, .long (tb ms a 0)), (0, .ref b), (1, .int (nI 28)), (2, .int (nI a)), (3, .int (nI i))]) (AW.eq (lv2 := _) (rfl) rfl rfl rfl rfl (L_11 _ 0 (by omega) (Nat.lt_succ_self _))) (by simp)
    intro m_
    induction m_ with
    | zero => intro c hc h_m; exact absurd h_m (Nat.not_lt_zero _)
    | succ m_ ih_11 =>
      intro c hc h_m
      refine aw_iload (n := 13) dX3_overAll_11 0 rfl rfl ?_
      refine aw_iload_n (n := 14) dX3_overAll_13 rfl 5 rfl rfl ?_
      refine aw_icmp_gt (n := 17) (tgt := 77) dX3_overAll_14 (by decide) rfl (fun c_14 => ?_) (fun c_14 => ?_)
      · skip
        have n_14 : i < (c + 1) := (nI_ltI (a := i) (b := (c + 1)) (by omega) (by omega)).mp (by exact c_14)
        refine aw_lload (n := 79) dX3_overAll_77 1 rfl rfl ?_
        exact aw_lret dX3_overAll_79 rfl ⟨congrArg some (congrArg Value.long (by rw [show i = c by omega])), rfl⟩ ⟨Nat.zero_le _, Nat.zero_le _⟩
      · skip
        have n_14 : ¬ (i < (c + 1)) := fun z => c_14 (by have y := (nI_ltI (a := i) (b := (c + 1)) (by omega) (by omega)).mpr z; exact y)
        refine aw_iload_n (n := 18) dX3_overAll_17 rfl 3 rfl rfl ?_
        refine aw_bipush (n := 20) (v := 27) dX3_overAll_18 (by decide) rfl ?_
        refine aw_icmp_ne (n := 23) (tgt := 38) dX3_overAll_20 (by decide) rfl (fun c_20 => ?_) (fun c_20 => ?_)
        · skip
          refine aw_iload_n (n := 39) dX3_overAll_38 rfl 3 rfl rfl ?_
          refine aw_bipush (n := 41) (v := 28) dX3_overAll_39 (by decide) rfl ?_
          refine aw_icmp_ne (n := 44) (tgt := 59) dX3_overAll_41 (by decide) rfl (fun c_41 => ?_) (fun c_41 => ?_)
          · skip
            exact absurd c_41 (by decide +kernel)
          · skip
            refine aw_lload (n := 46) dX3_overAll_44 1 rfl rfl ?_
            refine aw_aload_n (n := 47) dX3_overAll_46 rfl 2 rfl rfl ?_
            refine aw_iload_n (n := 48) dX3_overAll_47 rfl 4 rfl rfl ?_
            refine aw_iload (n := 50) dX3_overAll_48 0 rfl rfl ?_
            refine aw_callV (n := 53) (C0 := RX3) (As := [.int (nI a), .int (nI (c + 1))]) (rest := [.long (ovU 28 (tb ms a) c)]) (K2 := kX3_at) dX3_overAll_50 q3060 q3062 qs92 q113 q3063 ⟨rfl, hcX3_at⟩ rfl hT.1 (ct_at G h b ms hb hT a (c + 1) (by omega) (by omega)) rfl (Nat.le_of_ble_eq_true rfl) ⟨Nat.le_of_ble_eq_true rfl, Nat.le_of_ble_eq_true rfl⟩ ⟨Nat.zero_le _, Nat.zero_le _⟩ (fun _ _ _ z => z.elim) rfl (fun r_50 h_50 q_50 => ?_)
            obtain ⟨rfl, rfl⟩ := q_50
            refine AW.sts (st' := [.long (tb ms a (c + 1)), .long (ovU 28 (tb ms a) c)]) rfl ?_
            refine aw_callS (n := 56) (As := [.long (ovU 28 (tb ms a) c), .long (tb ms a (c + 1))]) (rest := []) (K2 := kJ15_min_2) dX3_overAll_53 q3091 q2264 q125 q2265 hcJ15_min_2 (cj_minL G h (ovU 28 (tb ms a) c) (tb ms a (c + 1))) rfl (Nat.le_of_ble_eq_true rfl) ⟨Nat.le_of_ble_eq_true rfl, Nat.le_of_ble_eq_true rfl⟩ ⟨Nat.zero_le _, Nat.zero_le _⟩ (fun _ _ _ z => z.elim) rfl (fun r_53 h_53 q_53 => ?_)
            obtain ⟨rfl, rfl⟩ := q_53
            refine AW.sts (st' := [.long (if (tb ms a (c + 1)) < (ovU 28 (tb ms a) c) then (tb ms a (c + 1)) else (ovU 28 (tb ms a) c))]) rfl ?_
            refine aw_goto (tgt := 69) dX3_overAll_56 (by decide) ?_
            refine aw_lstore (n := 71) (lv' := [(4, .long (if (tb ms a (c + 1)) < (ovU 28 (tb ms a) c) then (tb ms a (c + 1)) else (ovU 28 (tb ms a) c))), (6, .int (nI (c + 1))), (0, .ref b), (1, .int (nI 28)), (2, .int (nI a)), (3, .int (nI i))]) dX3_overAll_69 (by decide) rfl rfl ?_
            refine aw_iinc (n := 74) (v := nI ((c + 1) + 1)) (lv' := [(6, .int (nI ((c + 1) + 1))), (4, .long (if (tb ms a (c + 1)) < (ovU 28 (tb ms a) c) then (tb ms a (c + 1)) else (ovU 28 (tb ms a) c))), (0, .ref b), (1, .int (nI 28)), (2, .int (nI a)), (3, .int (nI i))]) dX3_overAll_71 1 rfl (by rw [show nI (c + 1) = nI (c + 1) from rfl]; exact nI_1 _) (by decide) rfl rfl ?_
            refine aw_goto (tgt := 11) dX3_overAll_74 (by decide) ?_
            exact AW.lvs (lv' := [(6, .int (nI ((c + 1) + 1))), (4, .long (if (tb ms a (c + 1)) < (ovU 28 (tb ms a) c) then (tb ms a (c + 1)) else (ovU 28 (tb ms a) c))), (0, .ref b), (1, .int (nI 28)), (2, .int (nI a)), (3, .int (nI i))]) (AW.eq (lv2 := _) (by simp [ovU, ovF]) rfl rfl rfl rfl (ih_11 (c + 1) (by omega) (by omega))) (by simp)
        · skip
          exact absurd c_20 (by decide +kernel)
  · skip
    refine aw_aload_n (n := 1) dX3_overAll_0 rfl 0 rfl rfl ?_
    refine aw_iload_n (n := 2) dX3_overAll_1 rfl 2 rfl rfl ?_
    refine aw_iconst (n := 3) (v := 0) dX3_overAll_2 (by decide) rfl ?_
    refine AW.sts (st' := [.int (nI 0), .int (nI a), .ref b]) (by rw [show (0 : Int32) = nI 0 from (by rfl)]) ?_
    refine aw_callV (n := 6) (C0 := RX3) (As := [.int (nI a), .int (nI 0)]) (rest := []) (K2 := kX3_at) dX3_overAll_3 q3060 q3062 qs92 q113 q3063 ⟨rfl, hcX3_at⟩ rfl hT.1 (ct_at G h b ms hb hT a 0 (by omega) (by omega)) rfl (Nat.le_of_ble_eq_true rfl) ⟨Nat.le_of_ble_eq_true rfl, Nat.le_of_ble_eq_true rfl⟩ ⟨Nat.zero_le _, Nat.zero_le _⟩ (fun _ _ _ z => z.elim) rfl (fun r_3 h_3 q_3 => ?_)
    obtain ⟨rfl, rfl⟩ := q_3
    refine AW.sts (st' := [.long (tb ms a 0)]) rfl ?_
    refine aw_lstore (n := 8) (lv' := [(4, .long (tb ms a 0)), (0, .ref b), (1, .int (nI 29)), (2, .int (nI a)), (3, .int (nI i))]) dX3_overAll_6 (by decide) rfl rfl ?_
    refine aw_iconst (n := 9) (v := 1) dX3_overAll_8 (by decide) rfl ?_
    refine aw_istore (n := 11) (lv' := [(6, .int 1), (4, .long (tb ms a 0)), (0, .ref b), (1, .int (nI 29)), (2, .int (nI a)), (3, .int (nI i))]) dX3_overAll_9 (by decide) rfl rfl ?_
    suffices L_11 : ∀ (m_ : Nat) (c : Nat) (hc : c ≤ i), i - c < m_ → AW G kX3_overAll ((2, 23, 0, 0), (fun r h1 => r = some (.long (ovU 29 (tb ms a) i)) ∧ h = h1), nX) 11 [(6, .int (nI (c + 1))), (4, .long (ovU 29 (tb ms a) c)), (0, .ref b), (1, .int (nI 29)), (2, .int (nI a)), (3, .int (nI i))] [] h 0 0 from
      AW.lvs (lv' := [(6, .int 1), (4, .long (tb ms a 0)), (0, .ref b), (1, .int (nI 29)), (2, .int (nI a)), (3, .int (nI i))]) (AW.eq (lv2 := _) (rfl) rfl rfl rfl rfl (L_11 _ 0 (by omega) (Nat.lt_succ_self _))) (by simp)
    intro m_
    induction m_ with
    | zero => intro c hc h_m; exact absurd h_m (Nat.not_lt_zero _)
    | succ m_ ih_11 =>
      intro c hc h_m
      refine aw_iload (n := 13) dX3_overAll_11 0 rfl rfl ?_
      refine aw_iload_n (n := 14) dX3_overAll_13 rfl 5 rfl rfl ?_
      refine aw_icmp_gt (n := 17) (tgt := 77) dX3_overAll_14 (by decide) rfl (fun c_14 => ?_) (fun c_14 => ?_)
      · skip
        have n_14 : i < (c + 1) := (nI_ltI (a := i) (b := (c + 1)) (by omega) (by omega)).mp (by exact c_14)
        refine aw_lload (n := 79) dX3_overAll_77 1 rfl rfl ?_
        exact aw_lret dX3_overAll_79 rfl ⟨congrArg some (congrArg Value.long (by rw [show i = c by omega])), rfl⟩ ⟨Nat.zero_le _, Nat.zero_le _⟩
      · skip
        have n_14 : ¬ (i < (c + 1)) := fun z => c_14 (by have y := (nI_ltI (a := i) (b := (c + 1)) (by omega) (by omega)).mpr z; exact y)
        refine aw_iload_n (n := 18) dX3_overAll_17 rfl 3 rfl rfl ?_
        refine aw_bipush (n := 20) (v := 27) dX3_overAll_18 (by decide) rfl ?_
        refine aw_icmp_ne (n := 23) (tgt := 38) dX3_overAll_20 (by decide) rfl (fun c_20 => ?_) (fun c_20 => ?_)
        · skip
          refine aw_iload_n (n := 39) dX3_overAll_38 rfl 3 rfl rfl ?_
          refine aw_bipush (n := 41) (v := 28) dX3_overAll_39 (by decide) rfl ?_
          refine aw_icmp_ne (n := 44) (tgt := 59) dX3_overAll_41 (by decide) rfl (fun c_41 => ?_) (fun c_41 => ?_)
          · skip
            refine aw_lload (n := 61) dX3_overAll_59 1 rfl rfl ?_
            refine aw_aload_n (n := 62) dX3_overAll_61 rfl 2 rfl rfl ?_
            refine aw_iload_n (n := 63) dX3_overAll_62 rfl 4 rfl rfl ?_
            refine aw_iload (n := 65) dX3_overAll_63 0 rfl rfl ?_
            refine aw_callV (n := 68) (C0 := RX3) (As := [.int (nI a), .int (nI (c + 1))]) (rest := [.long (ovU 29 (tb ms a) c)]) (K2 := kX3_at) dX3_overAll_65 q3060 q3062 qs92 q113 q3063 ⟨rfl, hcX3_at⟩ rfl hT.1 (ct_at G h b ms hb hT a (c + 1) (by omega) (by omega)) rfl (Nat.le_of_ble_eq_true rfl) ⟨Nat.le_of_ble_eq_true rfl, Nat.le_of_ble_eq_true rfl⟩ ⟨Nat.zero_le _, Nat.zero_le _⟩ (fun _ _ _ z => z.elim) rfl (fun r_65 h_65 q_65 => ?_)
            obtain ⟨rfl, rfl⟩ := q_65
            refine AW.sts (st' := [.long (tb ms a (c + 1)), .long (ovU 29 (tb ms a) c)]) rfl ?_
            refine aw_ladd (n := 69) dX3_overAll_68 rfl ?_
            refine aw_lstore (n := 71) (lv' := [(4, .long ((ovU 29 (tb ms a) c) + (tb ms a (c + 1)))), (6, .int (nI (c + 1))), (0, .ref b), (1, .int (nI 29)), (2, .int (nI a)), (3, .int (nI i))]) dX3_overAll_69 (by decide) rfl rfl ?_
            refine aw_iinc (n := 74) (v := nI ((c + 1) + 1)) (lv' := [(6, .int (nI ((c + 1) + 1))), (4, .long ((ovU 29 (tb ms a) c) + (tb ms a (c + 1)))), (0, .ref b), (1, .int (nI 29)), (2, .int (nI a)), (3, .int (nI i))]) dX3_overAll_71 1 rfl (by rw [show nI (c + 1) = nI (c + 1) from rfl]; exact nI_1 _) (by decide) rfl rfl ?_
            refine aw_goto (tgt := 11) dX3_overAll_74 (by decide) ?_
            exact AW.lvs (lv' := [(6, .int (nI ((c + 1) + 1))), (4, .long ((ovU 29 (tb ms a) c) + (tb ms a (c + 1)))), (0, .ref b), (1, .int (nI 29)), (2, .int (nI a)), (3, .int (nI i))]) (AW.eq (lv2 := _) (by simp [ovU, ovF]) rfl rfl rfl rfl (ih_11 (c + 1) (by omega) (by omega))) (by simp)
          · skip
            exact absurd c_41 (by decide +kernel)
        · skip
          exact absurd c_20 (by decide +kernel)

abbrev kX3_isTrue : aK := (yX3_isTrue, cX3_isTrue, 7, (Option.some Jvm.ClassFile.FieldType.boolean), [])
theorem hcX3_isTrue : kX3_isTrue.1.cls ≠ "java/lang/invoke/MethodHandle" ∧ kX3_isTrue.1.cls ≠ "java/lang/invoke/VarHandle" ∧ (parseMethodDescriptor kX3_isTrue.1.desc).map (fun d => d.parameters.length) = some 2 := ⟨by decide, by decide, by decide +kernel⟩
theorem ct_isTrue (G : aG) (h : hH) (b : Nat) (ms : tM) (hb : gB G ≤ b) (hT : TW b h ms) (n i k a c cq : Nat) (hn : n < 1203) (hi : i < 120) (hN : okN ms n k a c cq) (h14 : k < 14) (h9 : k = 9 → cq < 6) : Con G kX3_isTrue [.ref b, .int (nI n), .int (nI i)] h ((4, 70, 0, 0), (fun r h1 => r = some (.int (bI (itT ms k n a c cq i))) ∧ h = h1), nX) := by
  refine Con.of (plainFor_of_name rfl) rfl (Nat.le_of_ble_eq_true rfl) ?_
  refine AW.eq (lv2 := [(0, .ref b), (1, .int (nI n)), (2, .int (nI i))]) (s2 := []) rfl rfl rfl rfl rfl ?_
  have hk_ : k = 0 ∨ k = 1 ∨ k = 2 ∨ k = 3 ∨ k = 4 ∨ k = 5 ∨ k = 6 ∨ k = 7 ∨ k = 8 ∨ k = 9 ∨ k = 10 ∨ k = 11 ∨ k = 12 ∨ k = 13 := by omega
  rcases hk_ with rfl | rfl | rfl | rfl | rfl | rfl | rfl | rfl | rfl | rfl | rfl | rfl | rfl | rfl
  · skip
    obtain ⟨ha, ha2⟩ := hN.2.2.2.1 (by decide)
    refine aw_aload_n (n := 1) dX3_isTrue_0 rfl 0 rfl rfl ?_
    refine aw_getf (n := 4) (v := .ref (b + 6)) (C0 := RX3) (T := TX3) dX3_isTrue_1 rfl 10 q2651 (Or.inl rfl) hT.1 rfl rfl ?_
    refine aw_iload_n (n := 5) dX3_isTrue_4 rfl 1 rfl rfl ?_
    refine aw_iald (n := 6) (v := .int (ms.2.1 10 n)) dX3_isTrue_5 rfl n rfl hT.a10 (by omega) (by decide) rfl rfl ?_
    refine aw_istore_n (n := 7) (lv' := [(3, .int (ms.2.1 10 n)), (0, .ref b), (1, .int (nI n)), (2, .int (nI i))]) dX3_isTrue_6 rfl (by decide) rfl rfl ?_
    refine aw_aload_n (n := 8) dX3_isTrue_7 rfl 1 rfl rfl ?_
    refine aw_getf (n := 11) (v := .ref (b + 7)) (C0 := RX3) (T := TX3) dX3_isTrue_8 rfl 11 q2652 (Or.inl rfl) hT.1 rfl rfl ?_
    refine aw_iload_n (n := 12) dX3_isTrue_11 rfl 2 rfl rfl ?_
    refine aw_iald (n := 13) (v := .int (ms.2.1 11 n)) dX3_isTrue_12 rfl n rfl hT.a11 (by omega) (by decide) rfl rfl ?_
    refine aw_istore (n := 15) (lv' := [(4, .int (ms.2.1 11 n)), (3, .int (ms.2.1 10 n)), (0, .ref b), (1, .int (nI n)), (2, .int (nI i))]) dX3_isTrue_13 (by decide) rfl rfl ?_
    refine aw_aload_n (n := 16) dX3_isTrue_15 rfl 2 rfl rfl ?_
    refine aw_getf (n := 19) (v := .ref (b + 5)) (C0 := RX3) (T := TX3) dX3_isTrue_16 rfl 9 q2650 (Or.inl rfl) hT.1 rfl rfl ?_
    refine aw_iload_n (n := 20) dX3_isTrue_19 rfl 3 rfl rfl ?_
    refine aw_iald (n := 21) (v := .int (ms.2.1 9 n)) dX3_isTrue_20 rfl n rfl hT.a9 (by omega) (by decide) rfl rfl ?_
    refine AW.sts (st' := [.int (nI 0)]) (by rw [show ms.2.1 9 n = nI 0 from hN.2.2.1]) ?_
    refine aw_tableIn (tgt := 88) dX3_isTrue_21 (by decide) (by decide) (off := 67) (by rfl) (by decide) ?_
    refine aw_aload_n (n := 89) dX3_isTrue_88 rfl 2 rfl rfl ?_
    refine aw_iload_n (n := 90) dX3_isTrue_89 rfl 1 rfl rfl ?_
    refine aw_iload_n (n := 91) dX3_isTrue_90 rfl 4 rfl rfl ?_
    refine AW.sts (st' := [.int (nI i), .int (nI a), .ref b]) (by rw [show ms.2.1 10 n = nI a from ha]) ?_
    refine aw_callV (n := 94) (C0 := RX3) (As := [.int (nI a), .int (nI i)]) (rest := []) (K2 := kX3_holds) dX3_isTrue_91 q3056 q3058 qs91 q113 q3059 ⟨rfl, hcX3_holds⟩ rfl hT.1 (ct_holds G h b ms hb hT a i (by omega) (by omega)) rfl (Nat.le_of_ble_eq_true rfl) ⟨Nat.le_of_ble_eq_true rfl, Nat.le_of_ble_eq_true rfl⟩ ⟨Nat.zero_le _, Nat.zero_le _⟩ (fun _ _ _ z => z.elim) rfl (fun r_91 h_91 q_91 => ?_)
    obtain ⟨rfl, rfl⟩ := q_91
    refine AW.sts (st' := [.int (bI (hd ms a i))]) rfl ?_
    refine aw_if_ne (n := 97) (tgt := 101) dX3_isTrue_94 (by decide) rfl (fun c_94 => ?_) (fun c_94 => ?_)
    · skip
      have b_94 : (hd ms a i) = true := Bool.of_not_eq_false (fun e => c_94 ((bI_0 _).mpr e))
      refine aw_iconst (n := 102) (v := 0) dX3_isTrue_101 (by decide) rfl ?_
      exact aw_zret dX3_isTrue_102 rfl (by decide) ⟨congrArg some (congrArg Value.int (by first | (simp [itT, bI, b_94, c_94] <;> (try (intros; omega)); done) | simp_all [itT, bI])), rfl⟩ ⟨Nat.zero_le _, Nat.zero_le _⟩
    · skip
      have b_94 : (hd ms a i) = false := (bI_0 _).mp c_94
      refine aw_iconst (n := 98) (v := 1) dX3_isTrue_97 (by decide) rfl ?_
      refine aw_goto (tgt := 102) dX3_isTrue_98 (by decide) ?_
      exact aw_zret dX3_isTrue_102 rfl (by decide) ⟨congrArg some (congrArg Value.int (by first | (simp [itT, bI, b_94, c_94] <;> (try (intros; omega)); done) | simp_all [itT, bI])), rfl⟩ ⟨Nat.zero_le _, Nat.zero_le _⟩
  · skip
    obtain ⟨ha, ha2⟩ := hN.2.2.2.1 (by decide)
    refine aw_aload_n (n := 1) dX3_isTrue_0 rfl 0 rfl rfl ?_
    refine aw_getf (n := 4) (v := .ref (b + 6)) (C0 := RX3) (T := TX3) dX3_isTrue_1 rfl 10 q2651 (Or.inl rfl) hT.1 rfl rfl ?_
    refine aw_iload_n (n := 5) dX3_isTrue_4 rfl 1 rfl rfl ?_
    refine aw_iald (n := 6) (v := .int (ms.2.1 10 n)) dX3_isTrue_5 rfl n rfl hT.a10 (by omega) (by decide) rfl rfl ?_
    refine aw_istore_n (n := 7) (lv' := [(3, .int (ms.2.1 10 n)), (0, .ref b), (1, .int (nI n)), (2, .int (nI i))]) dX3_isTrue_6 rfl (by decide) rfl rfl ?_
    refine aw_aload_n (n := 8) dX3_isTrue_7 rfl 1 rfl rfl ?_
    refine aw_getf (n := 11) (v := .ref (b + 7)) (C0 := RX3) (T := TX3) dX3_isTrue_8 rfl 11 q2652 (Or.inl rfl) hT.1 rfl rfl ?_
    refine aw_iload_n (n := 12) dX3_isTrue_11 rfl 2 rfl rfl ?_
    refine aw_iald (n := 13) (v := .int (ms.2.1 11 n)) dX3_isTrue_12 rfl n rfl hT.a11 (by omega) (by decide) rfl rfl ?_
    refine aw_istore (n := 15) (lv' := [(4, .int (ms.2.1 11 n)), (3, .int (ms.2.1 10 n)), (0, .ref b), (1, .int (nI n)), (2, .int (nI i))]) dX3_isTrue_13 (by decide) rfl rfl ?_
    refine aw_aload_n (n := 16) dX3_isTrue_15 rfl 2 rfl rfl ?_
    refine aw_getf (n := 19) (v := .ref (b + 5)) (C0 := RX3) (T := TX3) dX3_isTrue_16 rfl 9 q2650 (Or.inl rfl) hT.1 rfl rfl ?_
    refine aw_iload_n (n := 20) dX3_isTrue_19 rfl 3 rfl rfl ?_
    refine aw_iald (n := 21) (v := .int (ms.2.1 9 n)) dX3_isTrue_20 rfl n rfl hT.a9 (by omega) (by decide) rfl rfl ?_
    refine AW.sts (st' := [.int (nI 1)]) (by rw [show ms.2.1 9 n = nI 1 from hN.2.2.1]) ?_
    refine aw_tableIn (tgt := 103) dX3_isTrue_21 (by decide) (by decide) (off := 82) (by rfl) (by decide) ?_
    refine aw_iload_n (n := 104) dX3_isTrue_103 rfl 4 rfl rfl ?_
    refine aw_if_le (n := 107) (tgt := 122) dX3_isTrue_104 (by decide) rfl (fun c_104 => ?_) (fun c_104 => ?_)
    · skip
      have n_104 : i ≤ 0 := (nI_leI (a := i) (b := 0) (by omega) (by omega)).mp (by rw [← ((by rfl) : (0 : Int32) = nI 0)]; exact c_104)
      refine aw_iconst (n := 123) (v := 0) dX3_isTrue_122 (by decide) rfl ?_
      exact aw_zret dX3_isTrue_123 rfl (by decide) ⟨congrArg some (congrArg Value.int (by first | (simp [itT, bI, n_104, c_104] <;> (try (intros; omega)); done) | simp_all [itT, bI])), rfl⟩ ⟨Nat.zero_le _, Nat.zero_le _⟩
    · skip
      have n_104 : ¬ (i ≤ 0) := fun z => c_104 (by have y := (nI_leI (a := i) (b := 0) (by omega) (by omega)).mpr z; rw [← ((by rfl) : (0 : Int32) = nI 0)] at y; exact y)
      refine aw_aload_n (n := 108) dX3_isTrue_107 rfl 2 rfl rfl ?_
      refine aw_iload_n (n := 109) dX3_isTrue_108 rfl 1 rfl rfl ?_
      refine aw_iload_n (n := 110) dX3_isTrue_109 rfl 4 rfl rfl ?_
      refine aw_iconst (n := 111) (v := 1) dX3_isTrue_110 (by decide) rfl ?_
      refine aw_isub (n := 112) dX3_isTrue_111 rfl ?_
      refine AW.sts (st' := [.int (nI (i - 1)), .int (ms.2.1 10 n), .ref b]) (by rw [show (nI i) - 1 = nI (i - 1) from (by exact (pk_sub (b := 1) (by omega)))]) ?_
      refine AW.sts (st' := [.int (nI (i - 1)), .int (nI a), .ref b]) (by rw [show ms.2.1 10 n = nI a from ha]) ?_
      refine aw_callV (n := 115) (C0 := RX3) (As := [.int (nI a), .int (nI (i - 1))]) (rest := []) (K2 := kX3_holds) dX3_isTrue_112 q3056 q3058 qs91 q113 q3059 ⟨rfl, hcX3_holds⟩ rfl hT.1 (ct_holds G h b ms hb hT a (i - 1) (by omega) (by omega)) rfl (Nat.le_of_ble_eq_true rfl) ⟨Nat.le_of_ble_eq_true rfl, Nat.le_of_ble_eq_true rfl⟩ ⟨Nat.zero_le _, Nat.zero_le _⟩ (fun _ _ _ z => z.elim) rfl (fun r_112 h_112 q_112 => ?_)
      obtain ⟨rfl, rfl⟩ := q_112
      refine AW.sts (st' := [.int (bI (hd ms a (i - 1)))]) rfl ?_
      refine aw_if_eq (n := 118) (tgt := 122) dX3_isTrue_115 (by decide) rfl (fun c_115 => ?_) (fun c_115 => ?_)
      · skip
        have b_115 : (hd ms a (i - 1)) = false := (bI_0 _).mp c_115
        refine aw_iconst (n := 123) (v := 0) dX3_isTrue_122 (by decide) rfl ?_
        exact aw_zret dX3_isTrue_123 rfl (by decide) ⟨congrArg some (congrArg Value.int (by first | (simp [itT, bI, n_104, c_104, b_115, c_115] <;> (try (intros; omega)); done) | simp_all [itT, bI])), rfl⟩ ⟨Nat.zero_le _, Nat.zero_le _⟩
      · skip
        have b_115 : (hd ms a (i - 1)) = true := Bool.of_not_eq_false (fun e => c_115 ((bI_0 _).mpr e))
        refine aw_iconst (n := 119) (v := 1) dX3_isTrue_118 (by decide) rfl ?_
        refine aw_goto (tgt := 123) dX3_isTrue_119 (by decide) ?_
        exact aw_zret dX3_isTrue_123 rfl (by decide) ⟨congrArg some (congrArg Value.int (by first | (simp [itT, bI, n_104, c_104, b_115, c_115] <;> (try (intros; omega)); done) | simp_all [itT, bI])), rfl⟩ ⟨Nat.zero_le _, Nat.zero_le _⟩
  · skip
    obtain ⟨ha, ha2⟩ := hN.2.2.2.1 (by decide)
    refine aw_aload_n (n := 1) dX3_isTrue_0 rfl 0 rfl rfl ?_
    refine aw_getf (n := 4) (v := .ref (b + 6)) (C0 := RX3) (T := TX3) dX3_isTrue_1 rfl 10 q2651 (Or.inl rfl) hT.1 rfl rfl ?_
    refine aw_iload_n (n := 5) dX3_isTrue_4 rfl 1 rfl rfl ?_
    refine aw_iald (n := 6) (v := .int (ms.2.1 10 n)) dX3_isTrue_5 rfl n rfl hT.a10 (by omega) (by decide) rfl rfl ?_
    refine aw_istore_n (n := 7) (lv' := [(3, .int (ms.2.1 10 n)), (0, .ref b), (1, .int (nI n)), (2, .int (nI i))]) dX3_isTrue_6 rfl (by decide) rfl rfl ?_
    refine aw_aload_n (n := 8) dX3_isTrue_7 rfl 1 rfl rfl ?_
    refine aw_getf (n := 11) (v := .ref (b + 7)) (C0 := RX3) (T := TX3) dX3_isTrue_8 rfl 11 q2652 (Or.inl rfl) hT.1 rfl rfl ?_
    refine aw_iload_n (n := 12) dX3_isTrue_11 rfl 2 rfl rfl ?_
    refine aw_iald (n := 13) (v := .int (ms.2.1 11 n)) dX3_isTrue_12 rfl n rfl hT.a11 (by omega) (by decide) rfl rfl ?_
    refine aw_istore (n := 15) (lv' := [(4, .int (ms.2.1 11 n)), (3, .int (ms.2.1 10 n)), (0, .ref b), (1, .int (nI n)), (2, .int (nI i))]) dX3_isTrue_13 (by decide) rfl rfl ?_
    refine aw_aload_n (n := 16) dX3_isTrue_15 rfl 2 rfl rfl ?_
    refine aw_getf (n := 19) (v := .ref (b + 5)) (C0 := RX3) (T := TX3) dX3_isTrue_16 rfl 9 q2650 (Or.inl rfl) hT.1 rfl rfl ?_
    refine aw_iload_n (n := 20) dX3_isTrue_19 rfl 3 rfl rfl ?_
    refine aw_iald (n := 21) (v := .int (ms.2.1 9 n)) dX3_isTrue_20 rfl n rfl hT.a9 (by omega) (by decide) rfl rfl ?_
    refine AW.sts (st' := [.int (nI 2)]) (by rw [show ms.2.1 9 n = nI 2 from hN.2.2.1]) ?_
    refine aw_tableIn (tgt := 124) dX3_isTrue_21 (by decide) (by decide) (off := 103) (by rfl) (by decide) ?_
    refine aw_aload_n (n := 125) dX3_isTrue_124 rfl 2 rfl rfl ?_
    refine aw_iload_n (n := 126) dX3_isTrue_125 rfl 1 rfl rfl ?_
    refine aw_iload_n (n := 127) dX3_isTrue_126 rfl 4 rfl rfl ?_
    refine AW.sts (st' := [.int (nI i), .int (nI a), .ref b]) (by rw [show ms.2.1 10 n = nI a from ha]) ?_
    refine aw_callV (n := 130) (C0 := RX3) (As := [.int (nI a), .int (nI i)]) (rest := []) (K2 := kX3_holds) dX3_isTrue_127 q3056 q3058 qs91 q113 q3059 ⟨rfl, hcX3_holds⟩ rfl hT.1 (ct_holds G h b ms hb hT a i (by omega) (by omega)) rfl (Nat.le_of_ble_eq_true rfl) ⟨Nat.le_of_ble_eq_true rfl, Nat.le_of_ble_eq_true rfl⟩ ⟨Nat.zero_le _, Nat.zero_le _⟩ (fun _ _ _ z => z.elim) rfl (fun r_127 h_127 q_127 => ?_)
    obtain ⟨rfl, rfl⟩ := q_127
    refine AW.sts (st' := [.int (bI (hd ms a i))]) rfl ?_
    refine aw_if_eq (n := 133) (tgt := 152) dX3_isTrue_130 (by decide) rfl (fun c_130 => ?_) (fun c_130 => ?_)
    · skip
      have b_130 : (hd ms a i) = false := (bI_0 _).mp c_130
      refine aw_iconst (n := 153) (v := 0) dX3_isTrue_152 (by decide) rfl ?_
      exact aw_zret dX3_isTrue_153 rfl (by decide) ⟨congrArg some (congrArg Value.int (by first | (simp [itT, bI, b_130, c_130] <;> (try (intros; omega)); done) | simp_all [itT, bI])), rfl⟩ ⟨Nat.zero_le _, Nat.zero_le _⟩
    · skip
      have b_130 : (hd ms a i) = true := Bool.of_not_eq_false (fun e => c_130 ((bI_0 _).mpr e))
      refine aw_iload_n (n := 134) dX3_isTrue_133 rfl 4 rfl rfl ?_
      refine aw_if_eq (n := 137) (tgt := 148) dX3_isTrue_134 (by decide) rfl (fun c_134 => ?_) (fun c_134 => ?_)
      · skip
        have n_134 : i = 0 := (nI_eq (a := i) (b := 0) (by omega) (by omega)).mp (by rw [← ((by rfl) : (0 : Int32) = nI 0)]; exact c_134)
        refine aw_iconst (n := 149) (v := 1) dX3_isTrue_148 (by decide) rfl ?_
        refine aw_goto (tgt := 153) dX3_isTrue_149 (by decide) ?_
        exact aw_zret dX3_isTrue_153 rfl (by decide) ⟨congrArg some (congrArg Value.int (by first | (simp [itT, bI, b_130, c_130, c_134] <;> (try (intros; omega)); done) | simp_all [itT, bI])), rfl⟩ ⟨Nat.zero_le _, Nat.zero_le _⟩
      · skip
        have n_134 : ¬ (i = 0) := fun z => c_134 (by have y := (nI_eq (a := i) (b := 0) (by omega) (by omega)).mpr z; rw [← ((by rfl) : (0 : Int32) = nI 0)] at y; exact y)
        refine aw_aload_n (n := 138) dX3_isTrue_137 rfl 2 rfl rfl ?_
        refine aw_iload_n (n := 139) dX3_isTrue_138 rfl 1 rfl rfl ?_
        refine aw_iload_n (n := 140) dX3_isTrue_139 rfl 4 rfl rfl ?_
        refine aw_iconst (n := 141) (v := 1) dX3_isTrue_140 (by decide) rfl ?_
        refine aw_isub (n := 142) dX3_isTrue_141 rfl ?_
        refine AW.sts (st' := [.int (nI (i - 1)), .int (ms.2.1 10 n), .ref b]) (by rw [show (nI i) - 1 = nI (i - 1) from (by exact (pk_sub (b := 1) (by omega)))]) ?_
        refine AW.sts (st' := [.int (nI (i - 1)), .int (nI a), .ref b]) (by rw [show ms.2.1 10 n = nI a from ha]) ?_
        refine aw_callV (n := 145) (C0 := RX3) (As := [.int (nI a), .int (nI (i - 1))]) (rest := []) (K2 := kX3_holds) dX3_isTrue_142 q3056 q3058 qs91 q113 q3059 ⟨rfl, hcX3_holds⟩ rfl hT.1 (ct_holds G h b ms hb hT a (i - 1) (by omega) (by omega)) rfl (Nat.le_of_ble_eq_true rfl) ⟨Nat.le_of_ble_eq_true rfl, Nat.le_of_ble_eq_true rfl⟩ ⟨Nat.zero_le _, Nat.zero_le _⟩ (fun _ _ _ z => z.elim) rfl (fun r_142 h_142 q_142 => ?_)
        obtain ⟨rfl, rfl⟩ := q_142
        refine AW.sts (st' := [.int (bI (hd ms a (i - 1)))]) rfl ?_
        refine aw_if_ne (n := 148) (tgt := 152) dX3_isTrue_145 (by decide) rfl (fun c_145 => ?_) (fun c_145 => ?_)
        · skip
          have b_145 : (hd ms a (i - 1)) = true := Bool.of_not_eq_false (fun e => c_145 ((bI_0 _).mpr e))
          refine aw_iconst (n := 153) (v := 0) dX3_isTrue_152 (by decide) rfl ?_
          exact aw_zret dX3_isTrue_153 rfl (by decide) ⟨congrArg some (congrArg Value.int (by first | (simp [itT, bI, b_130, c_130, n_134, c_134, b_145, c_145] <;> (try (intros; omega)); done) | simp_all [itT, bI])), rfl⟩ ⟨Nat.zero_le _, Nat.zero_le _⟩
        · skip
          have b_145 : (hd ms a (i - 1)) = false := (bI_0 _).mp c_145
          refine aw_iconst (n := 149) (v := 1) dX3_isTrue_148 (by decide) rfl ?_
          refine aw_goto (tgt := 153) dX3_isTrue_149 (by decide) ?_
          exact aw_zret dX3_isTrue_153 rfl (by decide) ⟨congrArg some (congrArg Value.int (by first | (simp [itT, bI, b_130, c_130, n_134, c_134, b_145, c_145] <;> (try (intros; omega)); done) | simp_all [itT, bI])), rfl⟩ ⟨Nat.zero_le _, Nat.zero_le _⟩
  · skip
    obtain ⟨ha, ha2⟩ := hN.2.2.2.1 (by decide)
    refine aw_aload_n (n := 1) dX3_isTrue_0 rfl 0 rfl rfl ?_
    refine aw_getf (n := 4) (v := .ref (b + 6)) (C0 := RX3) (T := TX3) dX3_isTrue_1 rfl 10 q2651 (Or.inl rfl) hT.1 rfl rfl ?_
    refine aw_iload_n (n := 5) dX3_isTrue_4 rfl 1 rfl rfl ?_
    refine aw_iald (n := 6) (v := .int (ms.2.1 10 n)) dX3_isTrue_5 rfl n rfl hT.a10 (by omega) (by decide) rfl rfl ?_
    refine aw_istore_n (n := 7) (lv' := [(3, .int (ms.2.1 10 n)), (0, .ref b), (1, .int (nI n)), (2, .int (nI i))]) dX3_isTrue_6 rfl (by decide) rfl rfl ?_
    refine aw_aload_n (n := 8) dX3_isTrue_7 rfl 1 rfl rfl ?_
    refine aw_getf (n := 11) (v := .ref (b + 7)) (C0 := RX3) (T := TX3) dX3_isTrue_8 rfl 11 q2652 (Or.inl rfl) hT.1 rfl rfl ?_
    refine aw_iload_n (n := 12) dX3_isTrue_11 rfl 2 rfl rfl ?_
    refine aw_iald (n := 13) (v := .int (ms.2.1 11 n)) dX3_isTrue_12 rfl n rfl hT.a11 (by omega) (by decide) rfl rfl ?_
    refine aw_istore (n := 15) (lv' := [(4, .int (ms.2.1 11 n)), (3, .int (ms.2.1 10 n)), (0, .ref b), (1, .int (nI n)), (2, .int (nI i))]) dX3_isTrue_13 (by decide) rfl rfl ?_
    refine aw_aload_n (n := 16) dX3_isTrue_15 rfl 2 rfl rfl ?_
    refine aw_getf (n := 19) (v := .ref (b + 5)) (C0 := RX3) (T := TX3) dX3_isTrue_16 rfl 9 q2650 (Or.inl rfl) hT.1 rfl rfl ?_
    refine aw_iload_n (n := 20) dX3_isTrue_19 rfl 3 rfl rfl ?_
    refine aw_iald (n := 21) (v := .int (ms.2.1 9 n)) dX3_isTrue_20 rfl n rfl hT.a9 (by omega) (by decide) rfl rfl ?_
    refine AW.sts (st' := [.int (nI 3)]) (by rw [show ms.2.1 9 n = nI 3 from hN.2.2.1]) ?_
    refine aw_tableIn (tgt := 154) dX3_isTrue_21 (by decide) (by decide) (off := 133) (by rfl) (by decide) ?_
    refine aw_aload_n (n := 155) dX3_isTrue_154 rfl 2 rfl rfl ?_
    refine aw_iload_n (n := 156) dX3_isTrue_155 rfl 1 rfl rfl ?_
    refine aw_iload_n (n := 157) dX3_isTrue_156 rfl 4 rfl rfl ?_
    refine AW.sts (st' := [.int (nI i), .int (nI a), .ref b]) (by rw [show ms.2.1 10 n = nI a from ha]) ?_
    refine aw_callV (n := 160) (C0 := RX3) (As := [.int (nI a), .int (nI i)]) (rest := []) (K2 := kX3_holds) dX3_isTrue_157 q3056 q3058 qs91 q113 q3059 ⟨rfl, hcX3_holds⟩ rfl hT.1 (ct_holds G h b ms hb hT a i (by omega) (by omega)) rfl (Nat.le_of_ble_eq_true rfl) ⟨Nat.le_of_ble_eq_true rfl, Nat.le_of_ble_eq_true rfl⟩ ⟨Nat.zero_le _, Nat.zero_le _⟩ (fun _ _ _ z => z.elim) rfl (fun r_157 h_157 q_157 => ?_)
    obtain ⟨rfl, rfl⟩ := q_157
    refine AW.sts (st' := [.int (bI (hd ms a i))]) rfl ?_
    refine aw_if_ne (n := 163) (tgt := 182) dX3_isTrue_160 (by decide) rfl (fun c_160 => ?_) (fun c_160 => ?_)
    · skip
      have b_160 : (hd ms a i) = true := Bool.of_not_eq_false (fun e => c_160 ((bI_0 _).mpr e))
      refine aw_iconst (n := 183) (v := 0) dX3_isTrue_182 (by decide) rfl ?_
      exact aw_zret dX3_isTrue_183 rfl (by decide) ⟨congrArg some (congrArg Value.int (by first | (simp [itT, bI, b_160, c_160] <;> (try (intros; omega)); done) | simp_all [itT, bI])), rfl⟩ ⟨Nat.zero_le _, Nat.zero_le _⟩
    · skip
      have b_160 : (hd ms a i) = false := (bI_0 _).mp c_160
      refine aw_iload_n (n := 164) dX3_isTrue_163 rfl 4 rfl rfl ?_
      refine aw_if_le (n := 167) (tgt := 182) dX3_isTrue_164 (by decide) rfl (fun c_164 => ?_) (fun c_164 => ?_)
      · skip
        have n_164 : i ≤ 0 := (nI_leI (a := i) (b := 0) (by omega) (by omega)).mp (by rw [← ((by rfl) : (0 : Int32) = nI 0)]; exact c_164)
        refine aw_iconst (n := 183) (v := 0) dX3_isTrue_182 (by decide) rfl ?_
        exact aw_zret dX3_isTrue_183 rfl (by decide) ⟨congrArg some (congrArg Value.int (by first | (simp [itT, bI, b_160, c_160, n_164, c_164] <;> (try (intros; omega)); done) | simp_all [itT, bI])), rfl⟩ ⟨Nat.zero_le _, Nat.zero_le _⟩
      · skip
        have n_164 : ¬ (i ≤ 0) := fun z => c_164 (by have y := (nI_leI (a := i) (b := 0) (by omega) (by omega)).mpr z; rw [← ((by rfl) : (0 : Int32) = nI 0)] at y; exact y)
        refine aw_aload_n (n := 168) dX3_isTrue_167 rfl 2 rfl rfl ?_
        refine aw_iload_n (n := 169) dX3_isTrue_168 rfl 1 rfl rfl ?_
        refine aw_iload_n (n := 170) dX3_isTrue_169 rfl 4 rfl rfl ?_
        refine aw_iconst (n := 171) (v := 1) dX3_isTrue_170 (by decide) rfl ?_
        refine aw_isub (n := 172) dX3_isTrue_171 rfl ?_
        refine AW.sts (st' := [.int (nI (i - 1)), .int (ms.2.1 10 n), .ref b]) (by rw [show (nI i) - 1 = nI (i - 1) from (by exact (pk_sub (b := 1) (by omega)))]) ?_
        refine AW.sts (st' := [.int (nI (i - 1)), .int (nI a), .ref b]) (by rw [show ms.2.1 10 n = nI a from ha]) ?_
        refine aw_callV (n := 175) (C0 := RX3) (As := [.int (nI a), .int (nI (i - 1))]) (rest := []) (K2 := kX3_holds) dX3_isTrue_172 q3056 q3058 qs91 q113 q3059 ⟨rfl, hcX3_holds⟩ rfl hT.1 (ct_holds G h b ms hb hT a (i - 1) (by omega) (by omega)) rfl (Nat.le_of_ble_eq_true rfl) ⟨Nat.le_of_ble_eq_true rfl, Nat.le_of_ble_eq_true rfl⟩ ⟨Nat.zero_le _, Nat.zero_le _⟩ (fun _ _ _ z => z.elim) rfl (fun r_172 h_172 q_172 => ?_)
        obtain ⟨rfl, rfl⟩ := q_172
        refine AW.sts (st' := [.int (bI (hd ms a (i - 1)))]) rfl ?_
        refine aw_if_eq (n := 178) (tgt := 182) dX3_isTrue_175 (by decide) rfl (fun c_175 => ?_) (fun c_175 => ?_)
        · skip
          have b_175 : (hd ms a (i - 1)) = false := (bI_0 _).mp c_175
          refine aw_iconst (n := 183) (v := 0) dX3_isTrue_182 (by decide) rfl ?_
          exact aw_zret dX3_isTrue_183 rfl (by decide) ⟨congrArg some (congrArg Value.int (by first | (simp [itT, bI, b_160, c_160, n_164, c_164, b_175, c_175] <;> (try (intros; omega)); done) | simp_all [itT, bI])), rfl⟩ ⟨Nat.zero_le _, Nat.zero_le _⟩
        · skip
          have b_175 : (hd ms a (i - 1)) = true := Bool.of_not_eq_false (fun e => c_175 ((bI_0 _).mpr e))
          refine aw_iconst (n := 179) (v := 1) dX3_isTrue_178 (by decide) rfl ?_
          refine aw_goto (tgt := 183) dX3_isTrue_179 (by decide) ?_
          exact aw_zret dX3_isTrue_183 rfl (by decide) ⟨congrArg some (congrArg Value.int (by first | (simp [itT, bI, b_160, c_160, n_164, c_164, b_175, c_175] <;> (try (intros; omega)); done) | simp_all [itT, bI])), rfl⟩ ⟨Nat.zero_le _, Nat.zero_le _⟩
  · skip
    obtain ⟨ha, ha2⟩ := hN.2.2.2.1 (by decide)
    refine aw_aload_n (n := 1) dX3_isTrue_0 rfl 0 rfl rfl ?_
    refine aw_getf (n := 4) (v := .ref (b + 6)) (C0 := RX3) (T := TX3) dX3_isTrue_1 rfl 10 q2651 (Or.inl rfl) hT.1 rfl rfl ?_
    refine aw_iload_n (n := 5) dX3_isTrue_4 rfl 1 rfl rfl ?_
    refine aw_iald (n := 6) (v := .int (ms.2.1 10 n)) dX3_isTrue_5 rfl n rfl hT.a10 (by omega) (by decide) rfl rfl ?_
    refine aw_istore_n (n := 7) (lv' := [(3, .int (ms.2.1 10 n)), (0, .ref b), (1, .int (nI n)), (2, .int (nI i))]) dX3_isTrue_6 rfl (by decide) rfl rfl ?_
    refine aw_aload_n (n := 8) dX3_isTrue_7 rfl 1 rfl rfl ?_
    refine aw_getf (n := 11) (v := .ref (b + 7)) (C0 := RX3) (T := TX3) dX3_isTrue_8 rfl 11 q2652 (Or.inl rfl) hT.1 rfl rfl ?_
    refine aw_iload_n (n := 12) dX3_isTrue_11 rfl 2 rfl rfl ?_
    refine aw_iald (n := 13) (v := .int (ms.2.1 11 n)) dX3_isTrue_12 rfl n rfl hT.a11 (by omega) (by decide) rfl rfl ?_
    refine aw_istore (n := 15) (lv' := [(4, .int (ms.2.1 11 n)), (3, .int (ms.2.1 10 n)), (0, .ref b), (1, .int (nI n)), (2, .int (nI i))]) dX3_isTrue_13 (by decide) rfl rfl ?_
    refine aw_aload_n (n := 16) dX3_isTrue_15 rfl 2 rfl rfl ?_
    refine aw_getf (n := 19) (v := .ref (b + 5)) (C0 := RX3) (T := TX3) dX3_isTrue_16 rfl 9 q2650 (Or.inl rfl) hT.1 rfl rfl ?_
    refine aw_iload_n (n := 20) dX3_isTrue_19 rfl 3 rfl rfl ?_
    refine aw_iald (n := 21) (v := .int (ms.2.1 9 n)) dX3_isTrue_20 rfl n rfl hT.a9 (by omega) (by decide) rfl rfl ?_
    refine AW.sts (st' := [.int (nI 4)]) (by rw [show ms.2.1 9 n = nI 4 from hN.2.2.1]) ?_
    refine aw_tableIn (tgt := 184) dX3_isTrue_21 (by decide) (by decide) (off := 163) (by rfl) (by decide) ?_
    refine aw_iconst (n := 185) (v := 0) dX3_isTrue_184 (by decide) rfl ?_
    refine aw_istore (n := 187) (lv' := [(5, .int 0), (4, .int (ms.2.1 11 n)), (3, .int (ms.2.1 10 n)), (0, .ref b), (1, .int (nI n)), (2, .int (nI i))]) dX3_isTrue_185 (by decide) rfl rfl ?_
    refine aw_iconst (n := 188) (v := 0) dX3_isTrue_187 (by decide) rfl ?_
    refine aw_istore (n := 190) (lv' := [(6, .int 0), (5, .int 0), (4, .int (ms.2.1 11 n)), (3, .int (ms.2.1 10 n)), (0, .ref b), (1, .int (nI n)), (2, .int (nI i))]) dX3_isTrue_188 (by decide) rfl rfl ?_
    suffices L_190 : ∀ (m_ : Nat) (c9 : Nat) (hc9 : c9 ≤ i + 1), i + 1 - c9 < m_ → AW G kX3_isTrue ((4, 70, 0, 0), (fun r h1 => r = some (.int (bI (itT ms 4 n a c cq i))) ∧ h = h1), nX) 190 [(6, .int (nI c9)), (5, .int (bI (anyU (fun j => hd ms a j && wiT ms n j i) c9))), (4, .int (ms.2.1 11 n)), (3, .int (ms.2.1 10 n)), (0, .ref b), (1, .int (nI n)), (2, .int (nI i))] [] h 0 0 from
      AW.lvs (lv' := [(6, .int 0), (5, .int 0), (4, .int (ms.2.1 11 n)), (3, .int (ms.2.1 10 n)), (0, .ref b), (1, .int (nI n)), (2, .int (nI i))]) (AW.eq (lv2 := _) (rfl) rfl rfl rfl rfl (L_190 _ 0 (by omega) (Nat.lt_succ_self _))) (by simp)
    intro m_
    induction m_ with
    | zero => intro c9 hc9 h_m; exact absurd h_m (Nat.not_lt_zero _)
    | succ m_ ih_190 =>
      intro c9 hc9 h_m
      refine aw_iload (n := 192) dX3_isTrue_190 0 rfl rfl ?_
      refine aw_iload_n (n := 193) dX3_isTrue_192 rfl 6 rfl rfl ?_
      refine aw_icmp_gt (n := 196) (tgt := 235) dX3_isTrue_193 (by decide) rfl (fun c_193 => ?_) (fun c_193 => ?_)
      · skip
        have n_193 : i < c9 := (nI_ltI (a := i) (b := c9) (by omega) (by omega)).mp (by exact c_193)
        refine aw_iload (n := 237) dX3_isTrue_235 1 rfl rfl ?_
        exact aw_zret dX3_isTrue_237 rfl (bI_le _) ⟨congrArg some (congrArg Value.int (by rw [show c9 = i + 1 by omega]; rfl)), rfl⟩ ⟨Nat.zero_le _, Nat.zero_le _⟩
      · skip
        have n_193 : ¬ (i < c9) := fun z => c_193 (by have y := (nI_ltI (a := i) (b := c9) (by omega) (by omega)).mpr z; exact y)
        refine aw_iload (n := 198) dX3_isTrue_196 1 rfl rfl ?_
        refine aw_if_ne (n := 201) (tgt := 222) dX3_isTrue_198 (by decide) rfl (fun c_198 => ?_) (fun c_198 => ?_)
        · skip
          have b_198 : (anyU (fun j => hd ms a j && wiT ms n j i) c9) = true := Bool.of_not_eq_false (fun e => c_198 ((bI_0 _).mpr e))
          refine aw_iconst (n := 223) (v := 1) dX3_isTrue_222 (by decide) rfl ?_
          refine aw_goto (tgt := 227) dX3_isTrue_223 (by decide) ?_
          refine aw_istore (n := 229) (lv' := [(5, .int 1), (6, .int (nI c9)), (4, .int (ms.2.1 11 n)), (3, .int (ms.2.1 10 n)), (0, .ref b), (1, .int (nI n)), (2, .int (nI i))]) dX3_isTrue_227 (by decide) rfl rfl ?_
          refine aw_iinc (n := 232) (v := nI (c9 + 1)) (lv' := [(6, .int (nI (c9 + 1))), (5, .int 1), (4, .int (ms.2.1 11 n)), (3, .int (ms.2.1 10 n)), (0, .ref b), (1, .int (nI n)), (2, .int (nI i))]) dX3_isTrue_229 1 rfl (by rw [show nI c9 = nI c9 from rfl]; exact nI_1 _) (by decide) rfl rfl ?_
          refine aw_goto (tgt := 190) dX3_isTrue_232 (by decide) ?_
          exact AW.lvs (lv' := [(6, .int (nI (c9 + 1))), (5, .int 1), (4, .int (ms.2.1 11 n)), (3, .int (ms.2.1 10 n)), (0, .ref b), (1, .int (nI n)), (2, .int (nI i))]) (AW.eq (lv2 := _) (by simp [anyU, bI, *]) rfl rfl rfl rfl (ih_190 (c9 + 1) (by omega) (by omega))) (by simp)
        · skip
          have b_198 : (anyU (fun j => hd ms a j && wiT ms n j i) c9) = false := (bI_0 _).mp c_198
          refine aw_aload_n (n := 202) dX3_isTrue_201 rfl 4 rfl rfl ?_
          refine aw_iload_n (n := 203) dX3_isTrue_202 rfl 3 rfl rfl ?_
          refine aw_iload (n := 205) dX3_isTrue_203 0 rfl rfl ?_
          refine AW.sts (st' := [.int (nI c9), .int (nI a), .ref b]) (by rw [show ms.2.1 10 n = nI a from ha]) ?_
          refine aw_callV (n := 208) (C0 := RX3) (As := [.int (nI a), .int (nI c9)]) (rest := []) (K2 := kX3_holds) dX3_isTrue_205 q3056 q3058 qs91 q113 q3059 ⟨rfl, hcX3_holds⟩ rfl hT.1 (ct_holds G h b ms hb hT a c9 (by omega) (by omega)) rfl (Nat.le_of_ble_eq_true rfl) ⟨Nat.le_of_ble_eq_true rfl, Nat.le_of_ble_eq_true rfl⟩ ⟨Nat.zero_le _, Nat.zero_le _⟩ (fun _ _ _ z => z.elim) rfl (fun r_205 h_205 q_205 => ?_)
          obtain ⟨rfl, rfl⟩ := q_205
          refine AW.sts (st' := [.int (bI (hd ms a c9))]) rfl ?_
          refine aw_if_eq (n := 211) (tgt := 226) dX3_isTrue_208 (by decide) rfl (fun c_208 => ?_) (fun c_208 => ?_)
          · skip
            have b_208 : (hd ms a c9) = false := (bI_0 _).mp c_208
            refine aw_iconst (n := 227) (v := 0) dX3_isTrue_226 (by decide) rfl ?_
            refine aw_istore (n := 229) (lv' := [(5, .int 0), (6, .int (nI c9)), (4, .int (ms.2.1 11 n)), (3, .int (ms.2.1 10 n)), (0, .ref b), (1, .int (nI n)), (2, .int (nI i))]) dX3_isTrue_227 (by decide) rfl rfl ?_
            refine aw_iinc (n := 232) (v := nI (c9 + 1)) (lv' := [(6, .int (nI (c9 + 1))), (5, .int 0), (4, .int (ms.2.1 11 n)), (3, .int (ms.2.1 10 n)), (0, .ref b), (1, .int (nI n)), (2, .int (nI i))]) dX3_isTrue_229 1 rfl (by rw [show nI c9 = nI c9 from rfl]; exact nI_1 _) (by decide) rfl rfl ?_
            refine aw_goto (tgt := 190) dX3_isTrue_232 (by decide) ?_
            exact AW.lvs (lv' := [(6, .int (nI (c9 + 1))), (5, .int 0), (4, .int (ms.2.1 11 n)), (3, .int (ms.2.1 10 n)), (0, .ref b), (1, .int (nI n)), (2, .int (nI i))]) (AW.eq (lv2 := _) (by simp [anyU, bI, *]) rfl rfl rfl rfl (ih_190 (c9 + 1) (by omega) (by omega))) (by simp)
          · skip
            have b_208 : (hd ms a c9) = true := Bool.of_not_eq_false (fun e => c_208 ((bI_0 _).mpr e))
            refine aw_aload_n (n := 212) dX3_isTrue_211 rfl 4 rfl rfl ?_
            refine aw_iload_n (n := 213) dX3_isTrue_212 rfl 5 rfl rfl ?_
            refine aw_iload (n := 215) dX3_isTrue_213 0 rfl rfl ?_
            refine aw_iload_n (n := 216) dX3_isTrue_215 rfl 6 rfl rfl ?_
            refine aw_callV (n := 219) (C0 := RX3) (As := [.int (nI n), .int (nI c9), .int (nI i)]) (rest := []) (K2 := kX3_isWithin) dX3_isTrue_216 q3064 q3066 qs93 q113 q3067 ⟨rfl, hcX3_isWithin⟩ rfl hT.1 (ct_isWithin G h b ms hb hT n c9 i (by omega) (by omega) (by omega)) rfl (Nat.le_of_ble_eq_true rfl) ⟨Nat.le_of_ble_eq_true rfl, Nat.le_of_ble_eq_true rfl⟩ ⟨Nat.zero_le _, Nat.zero_le _⟩ (fun _ _ _ z => z.elim) rfl (fun r_216 h_216 q_216 => ?_)
            obtain ⟨rfl, rfl⟩ := q_216
            refine AW.sts (st' := [.int (bI (wiT ms n c9 i))]) rfl ?_
            refine aw_if_eq (n := 222) (tgt := 226) dX3_isTrue_219 (by decide) rfl (fun c_219 => ?_) (fun c_219 => ?_)
            · skip
              have b_219 : (wiT ms n c9 i) = false := (bI_0 _).mp c_219
              refine aw_iconst (n := 227) (v := 0) dX3_isTrue_226 (by decide) rfl ?_
              refine aw_istore (n := 229) (lv' := [(5, .int 0), (6, .int (nI c9)), (4, .int (ms.2.1 11 n)), (3, .int (ms.2.1 10 n)), (0, .ref b), (1, .int (nI n)), (2, .int (nI i))]) dX3_isTrue_227 (by decide) rfl rfl ?_
              refine aw_iinc (n := 232) (v := nI (c9 + 1)) (lv' := [(6, .int (nI (c9 + 1))), (5, .int 0), (4, .int (ms.2.1 11 n)), (3, .int (ms.2.1 10 n)), (0, .ref b), (1, .int (nI n)), (2, .int (nI i))]) dX3_isTrue_229 1 rfl (by rw [show nI c9 = nI c9 from rfl]; exact nI_1 _) (by decide) rfl rfl ?_
              refine aw_goto (tgt := 190) dX3_isTrue_232 (by decide) ?_
              exact AW.lvs (lv' := [(6, .int (nI (c9 + 1))), (5, .int 0), (4, .int (ms.2.1 11 n)), (3, .int (ms.2.1 10 n)), (0, .ref b), (1, .int (nI n)), (2, .int (nI i))]) (AW.eq (lv2 := _) (by simp [anyU, bI, *]) rfl rfl rfl rfl (ih_190 (c9 + 1) (by omega) (by omega))) (by simp)
            · skip
              have b_219 : (wiT ms n c9 i) = true := Bool.of_not_eq_false (fun e => c_219 ((bI_0 _).mpr e))
              refine aw_iconst (n := 223) (v := 1) dX3_isTrue_222 (by decide) rfl ?_
              refine aw_goto (tgt := 227) dX3_isTrue_223 (by decide) ?_
              refine aw_istore (n := 229) (lv' := [(5, .int 1), (6, .int (nI c9)), (4, .int (ms.2.1 11 n)), (3, .int (ms.2.1 10 n)), (0, .ref b), (1, .int (nI n)), (2, .int (nI i))]) dX3_isTrue_227 (by decide) rfl rfl ?_
              refine aw_iinc (n := 232) (v := nI (c9 + 1)) (lv' := [(6, .int (nI (c9 + 1))), (5, .int 1), (4, .int (ms.2.1 11 n)), (3, .int (ms.2.1 10 n)), (0, .ref b), (1, .int (nI n)), (2, .int (nI i))]) dX3_isTrue_229 1 rfl (by rw [show nI c9 = nI c9 from rfl]; exact nI_1 _) (by decide) rfl rfl ?_
              refine aw_goto (tgt := 190) dX3_isTrue_232 (by decide) ?_
              exact AW.lvs (lv' := [(6, .int (nI (c9 + 1))), (5, .int 1), (4, .int (ms.2.1 11 n)), (3, .int (ms.2.1 10 n)), (0, .ref b), (1, .int (nI n)), (2, .int (nI i))]) (AW.eq (lv2 := _) (by simp [anyU, bI, *]) rfl rfl rfl rfl (ih_190 (c9 + 1) (by omega) (by omega))) (by simp)
  · skip
    obtain ⟨ha, ha2⟩ := hN.2.2.2.1 (by decide)
    refine aw_aload_n (n := 1) dX3_isTrue_0 rfl 0 rfl rfl ?_
    refine aw_getf (n := 4) (v := .ref (b + 6)) (C0 := RX3) (T := TX3) dX3_isTrue_1 rfl 10 q2651 (Or.inl rfl) hT.1 rfl rfl ?_
    refine aw_iload_n (n := 5) dX3_isTrue_4 rfl 1 rfl rfl ?_
    refine aw_iald (n := 6) (v := .int (ms.2.1 10 n)) dX3_isTrue_5 rfl n rfl hT.a10 (by omega) (by decide) rfl rfl ?_
    refine aw_istore_n (n := 7) (lv' := [(3, .int (ms.2.1 10 n)), (0, .ref b), (1, .int (nI n)), (2, .int (nI i))]) dX3_isTrue_6 rfl (by decide) rfl rfl ?_
    refine aw_aload_n (n := 8) dX3_isTrue_7 rfl 1 rfl rfl ?_
    refine aw_getf (n := 11) (v := .ref (b + 7)) (C0 := RX3) (T := TX3) dX3_isTrue_8 rfl 11 q2652 (Or.inl rfl) hT.1 rfl rfl ?_
    refine aw_iload_n (n := 12) dX3_isTrue_11 rfl 2 rfl rfl ?_
    refine aw_iald (n := 13) (v := .int (ms.2.1 11 n)) dX3_isTrue_12 rfl n rfl hT.a11 (by omega) (by decide) rfl rfl ?_
    refine aw_istore (n := 15) (lv' := [(4, .int (ms.2.1 11 n)), (3, .int (ms.2.1 10 n)), (0, .ref b), (1, .int (nI n)), (2, .int (nI i))]) dX3_isTrue_13 (by decide) rfl rfl ?_
    refine aw_aload_n (n := 16) dX3_isTrue_15 rfl 2 rfl rfl ?_
    refine aw_getf (n := 19) (v := .ref (b + 5)) (C0 := RX3) (T := TX3) dX3_isTrue_16 rfl 9 q2650 (Or.inl rfl) hT.1 rfl rfl ?_
    refine aw_iload_n (n := 20) dX3_isTrue_19 rfl 3 rfl rfl ?_
    refine aw_iald (n := 21) (v := .int (ms.2.1 9 n)) dX3_isTrue_20 rfl n rfl hT.a9 (by omega) (by decide) rfl rfl ?_
    refine AW.sts (st' := [.int (nI 5)]) (by rw [show ms.2.1 9 n = nI 5 from hN.2.2.1]) ?_
    refine aw_tableIn (tgt := 238) dX3_isTrue_21 (by decide) (by decide) (off := 217) (by rfl) (by decide) ?_
    refine aw_aload_n (n := 239) dX3_isTrue_238 rfl 2 rfl rfl ?_
    refine aw_iload_n (n := 240) dX3_isTrue_239 rfl 3 rfl rfl ?_
    refine aw_iload_n (n := 241) dX3_isTrue_240 rfl 4 rfl rfl ?_
    refine aw_callV (n := 244) (C0 := RX3) (As := [.int (nI n), .int (nI i)]) (rest := []) (K2 := kX3_firstMiss) dX3_isTrue_241 q3068 q3070 qs94 q113 q3071 ⟨rfl, hcX3_firstMiss⟩ rfl hT.1 (ct_firstMiss G h b ms hb hT n i a (by omega) (by omega) ha (by omega)) rfl (Nat.le_of_ble_eq_true rfl) ⟨Nat.le_of_ble_eq_true rfl, Nat.le_of_ble_eq_true rfl⟩ ⟨Nat.zero_le _, Nat.zero_le _⟩ (fun _ _ _ z => z.elim) rfl (fun r_241 h_241 q_241 => ?_)
    obtain ⟨rfl, rfl⟩ := q_241
    refine AW.sts (st' := [.int (fmT ms n a i)]) rfl ?_
    refine aw_iconst (n := 245) (v := (-1)) dX3_isTrue_244 (by decide) rfl ?_
    refine aw_icmp_ne (n := 248) (tgt := 252) dX3_isTrue_245 (by decide) rfl (fun c_245 => ?_) (fun c_245 => ?_)
    · skip
      refine aw_iconst (n := 253) (v := 0) dX3_isTrue_252 (by decide) rfl ?_
      exact aw_zret dX3_isTrue_253 rfl (by decide) ⟨congrArg some (congrArg Value.int (by first | (simp [itT, bI, c_245] <;> (try (intros; omega)); done) | simp_all [itT, bI])), rfl⟩ ⟨Nat.zero_le _, Nat.zero_le _⟩
    · skip
      refine aw_iconst (n := 249) (v := 1) dX3_isTrue_248 (by decide) rfl ?_
      refine aw_goto (tgt := 253) dX3_isTrue_249 (by decide) ?_
      exact aw_zret dX3_isTrue_253 rfl (by decide) ⟨congrArg some (congrArg Value.int (by first | (simp [itT, bI, c_245] <;> (try (intros; omega)); done) | simp_all [itT, bI])), rfl⟩ ⟨Nat.zero_le _, Nat.zero_le _⟩
  · skip
    refine aw_aload_n (n := 1) dX3_isTrue_0 rfl 0 rfl rfl ?_
    refine aw_getf (n := 4) (v := .ref (b + 6)) (C0 := RX3) (T := TX3) dX3_isTrue_1 rfl 10 q2651 (Or.inl rfl) hT.1 rfl rfl ?_
    refine aw_iload_n (n := 5) dX3_isTrue_4 rfl 1 rfl rfl ?_
    refine aw_iald (n := 6) (v := .int (ms.2.1 10 n)) dX3_isTrue_5 rfl n rfl hT.a10 (by omega) (by decide) rfl rfl ?_
    refine aw_istore_n (n := 7) (lv' := [(3, .int (ms.2.1 10 n)), (0, .ref b), (1, .int (nI n)), (2, .int (nI i))]) dX3_isTrue_6 rfl (by decide) rfl rfl ?_
    refine aw_aload_n (n := 8) dX3_isTrue_7 rfl 1 rfl rfl ?_
    refine aw_getf (n := 11) (v := .ref (b + 7)) (C0 := RX3) (T := TX3) dX3_isTrue_8 rfl 11 q2652 (Or.inl rfl) hT.1 rfl rfl ?_
    refine aw_iload_n (n := 12) dX3_isTrue_11 rfl 2 rfl rfl ?_
    refine aw_iald (n := 13) (v := .int (ms.2.1 11 n)) dX3_isTrue_12 rfl n rfl hT.a11 (by omega) (by decide) rfl rfl ?_
    refine aw_istore (n := 15) (lv' := [(4, .int (ms.2.1 11 n)), (3, .int (ms.2.1 10 n)), (0, .ref b), (1, .int (nI n)), (2, .int (nI i))]) dX3_isTrue_13 (by decide) rfl rfl ?_
    refine aw_aload_n (n := 16) dX3_isTrue_15 rfl 2 rfl rfl ?_
    refine aw_getf (n := 19) (v := .ref (b + 5)) (C0 := RX3) (T := TX3) dX3_isTrue_16 rfl 9 q2650 (Or.inl rfl) hT.1 rfl rfl ?_
    refine aw_iload_n (n := 20) dX3_isTrue_19 rfl 3 rfl rfl ?_
    refine aw_iald (n := 21) (v := .int (ms.2.1 9 n)) dX3_isTrue_20 rfl n rfl hT.a9 (by omega) (by decide) rfl rfl ?_
    refine AW.sts (st' := [.int (nI 6)]) (by rw [show ms.2.1 9 n = nI 6 from hN.2.2.1]) ?_
    refine aw_tableIn (tgt := 254) dX3_isTrue_21 (by decide) (by decide) (off := 233) (by rfl) (by decide) ?_
    refine aw_iconst (n := 255) (v := 1) dX3_isTrue_254 (by decide) rfl ?_
    exact aw_zret dX3_isTrue_255 rfl (by decide) ⟨congrArg some (congrArg Value.int (by first | (simp [itT, bI] <;> (try (intros; omega)); done) | simp_all [itT, bI])), rfl⟩ ⟨Nat.zero_le _, Nat.zero_le _⟩
  · skip
    refine aw_aload_n (n := 1) dX3_isTrue_0 rfl 0 rfl rfl ?_
    refine aw_getf (n := 4) (v := .ref (b + 6)) (C0 := RX3) (T := TX3) dX3_isTrue_1 rfl 10 q2651 (Or.inl rfl) hT.1 rfl rfl ?_
    refine aw_iload_n (n := 5) dX3_isTrue_4 rfl 1 rfl rfl ?_
    refine aw_iald (n := 6) (v := .int (ms.2.1 10 n)) dX3_isTrue_5 rfl n rfl hT.a10 (by omega) (by decide) rfl rfl ?_
    refine aw_istore_n (n := 7) (lv' := [(3, .int (ms.2.1 10 n)), (0, .ref b), (1, .int (nI n)), (2, .int (nI i))]) dX3_isTrue_6 rfl (by decide) rfl rfl ?_
    refine aw_aload_n (n := 8) dX3_isTrue_7 rfl 1 rfl rfl ?_
    refine aw_getf (n := 11) (v := .ref (b + 7)) (C0 := RX3) (T := TX3) dX3_isTrue_8 rfl 11 q2652 (Or.inl rfl) hT.1 rfl rfl ?_
    refine aw_iload_n (n := 12) dX3_isTrue_11 rfl 2 rfl rfl ?_
    refine aw_iald (n := 13) (v := .int (ms.2.1 11 n)) dX3_isTrue_12 rfl n rfl hT.a11 (by omega) (by decide) rfl rfl ?_
    refine aw_istore (n := 15) (lv' := [(4, .int (ms.2.1 11 n)), (3, .int (ms.2.1 10 n)), (0, .ref b), (1, .int (nI n)), (2, .int (nI i))]) dX3_isTrue_13 (by decide) rfl rfl ?_
    refine aw_aload_n (n := 16) dX3_isTrue_15 rfl 2 rfl rfl ?_
    refine aw_getf (n := 19) (v := .ref (b + 5)) (C0 := RX3) (T := TX3) dX3_isTrue_16 rfl 9 q2650 (Or.inl rfl) hT.1 rfl rfl ?_
    refine aw_iload_n (n := 20) dX3_isTrue_19 rfl 3 rfl rfl ?_
    refine aw_iald (n := 21) (v := .int (ms.2.1 9 n)) dX3_isTrue_20 rfl n rfl hT.a9 (by omega) (by decide) rfl rfl ?_
    refine AW.sts (st' := [.int (nI 7)]) (by rw [show ms.2.1 9 n = nI 7 from hN.2.2.1]) ?_
    refine aw_tableIn (tgt := 256) dX3_isTrue_21 (by decide) (by decide) (off := 235) (by rfl) (by decide) ?_
    refine aw_iconst (n := 257) (v := 0) dX3_isTrue_256 (by decide) rfl ?_
    exact aw_zret dX3_isTrue_257 rfl (by decide) ⟨congrArg some (congrArg Value.int (by first | (simp [itT, bI] <;> (try (intros; omega)); done) | simp_all [itT, bI])), rfl⟩ ⟨Nat.zero_le _, Nat.zero_le _⟩
  · skip
    obtain ⟨ha, ha2⟩ := hN.2.2.2.1 (by decide)
    refine aw_aload_n (n := 1) dX3_isTrue_0 rfl 0 rfl rfl ?_
    refine aw_getf (n := 4) (v := .ref (b + 6)) (C0 := RX3) (T := TX3) dX3_isTrue_1 rfl 10 q2651 (Or.inl rfl) hT.1 rfl rfl ?_
    refine aw_iload_n (n := 5) dX3_isTrue_4 rfl 1 rfl rfl ?_
    refine aw_iald (n := 6) (v := .int (ms.2.1 10 n)) dX3_isTrue_5 rfl n rfl hT.a10 (by omega) (by decide) rfl rfl ?_
    refine aw_istore_n (n := 7) (lv' := [(3, .int (ms.2.1 10 n)), (0, .ref b), (1, .int (nI n)), (2, .int (nI i))]) dX3_isTrue_6 rfl (by decide) rfl rfl ?_
    refine aw_aload_n (n := 8) dX3_isTrue_7 rfl 1 rfl rfl ?_
    refine aw_getf (n := 11) (v := .ref (b + 7)) (C0 := RX3) (T := TX3) dX3_isTrue_8 rfl 11 q2652 (Or.inl rfl) hT.1 rfl rfl ?_
    refine aw_iload_n (n := 12) dX3_isTrue_11 rfl 2 rfl rfl ?_
    refine aw_iald (n := 13) (v := .int (ms.2.1 11 n)) dX3_isTrue_12 rfl n rfl hT.a11 (by omega) (by decide) rfl rfl ?_
    refine aw_istore (n := 15) (lv' := [(4, .int (ms.2.1 11 n)), (3, .int (ms.2.1 10 n)), (0, .ref b), (1, .int (nI n)), (2, .int (nI i))]) dX3_isTrue_13 (by decide) rfl rfl ?_
    refine aw_aload_n (n := 16) dX3_isTrue_15 rfl 2 rfl rfl ?_
    refine aw_getf (n := 19) (v := .ref (b + 5)) (C0 := RX3) (T := TX3) dX3_isTrue_16 rfl 9 q2650 (Or.inl rfl) hT.1 rfl rfl ?_
    refine aw_iload_n (n := 20) dX3_isTrue_19 rfl 3 rfl rfl ?_
    refine aw_iald (n := 21) (v := .int (ms.2.1 9 n)) dX3_isTrue_20 rfl n rfl hT.a9 (by omega) (by decide) rfl rfl ?_
    refine AW.sts (st' := [.int (nI 8)]) (by rw [show ms.2.1 9 n = nI 8 from hN.2.2.1]) ?_
    refine aw_tableIn (tgt := 258) dX3_isTrue_21 (by decide) (by decide) (off := 237) (by rfl) (by decide) ?_
    refine aw_aload_n (n := 259) dX3_isTrue_258 rfl 2 rfl rfl ?_
    refine aw_iload_n (n := 260) dX3_isTrue_259 rfl 1 rfl rfl ?_
    refine aw_iload_n (n := 261) dX3_isTrue_260 rfl 4 rfl rfl ?_
    refine AW.sts (st' := [.int (nI i), .int (nI a), .ref b]) (by rw [show ms.2.1 10 n = nI a from ha]) ?_
    refine aw_callV (n := 264) (C0 := RX3) (As := [.int (nI a), .int (nI i)]) (rest := []) (K2 := kX3_holds) dX3_isTrue_261 q3056 q3058 qs91 q113 q3059 ⟨rfl, hcX3_holds⟩ rfl hT.1 (ct_holds G h b ms hb hT a i (by omega) (by omega)) rfl (Nat.le_of_ble_eq_true rfl) ⟨Nat.le_of_ble_eq_true rfl, Nat.le_of_ble_eq_true rfl⟩ ⟨Nat.zero_le _, Nat.zero_le _⟩ (fun _ _ _ z => z.elim) rfl (fun r_261 h_261 q_261 => ?_)
    obtain ⟨rfl, rfl⟩ := q_261
    refine AW.sts (st' := [.int (bI (hd ms a i))]) rfl ?_
    exact aw_zret dX3_isTrue_264 rfl (bI_le _) ⟨congrArg some (congrArg Value.int (by first | (simp [itT, bI] <;> (try (intros; omega)); done) | simp_all [itT, bI])), rfl⟩ ⟨Nat.zero_le _, Nat.zero_le _⟩
  · skip
    obtain ⟨ha, ha2⟩ := hN.2.2.2.1 (by decide)
    obtain ⟨hc, hc2⟩ := hN.2.2.2.2.1 (by decide)
    obtain ⟨hcq, hcq2⟩ := hN.2.2.2.2.2 (by decide)
    have hcq3 := h9 rfl
    refine aw_aload_n (n := 1) dX3_isTrue_0 rfl 0 rfl rfl ?_
    refine aw_getf (n := 4) (v := .ref (b + 6)) (C0 := RX3) (T := TX3) dX3_isTrue_1 rfl 10 q2651 (Or.inl rfl) hT.1 rfl rfl ?_
    refine aw_iload_n (n := 5) dX3_isTrue_4 rfl 1 rfl rfl ?_
    refine aw_iald (n := 6) (v := .int (ms.2.1 10 n)) dX3_isTrue_5 rfl n rfl hT.a10 (by omega) (by decide) rfl rfl ?_
    refine aw_istore_n (n := 7) (lv' := [(3, .int (ms.2.1 10 n)), (0, .ref b), (1, .int (nI n)), (2, .int (nI i))]) dX3_isTrue_6 rfl (by decide) rfl rfl ?_
    refine aw_aload_n (n := 8) dX3_isTrue_7 rfl 1 rfl rfl ?_
    refine aw_getf (n := 11) (v := .ref (b + 7)) (C0 := RX3) (T := TX3) dX3_isTrue_8 rfl 11 q2652 (Or.inl rfl) hT.1 rfl rfl ?_
    refine aw_iload_n (n := 12) dX3_isTrue_11 rfl 2 rfl rfl ?_
    refine aw_iald (n := 13) (v := .int (ms.2.1 11 n)) dX3_isTrue_12 rfl n rfl hT.a11 (by omega) (by decide) rfl rfl ?_
    refine aw_istore (n := 15) (lv' := [(4, .int (ms.2.1 11 n)), (3, .int (ms.2.1 10 n)), (0, .ref b), (1, .int (nI n)), (2, .int (nI i))]) dX3_isTrue_13 (by decide) rfl rfl ?_
    refine aw_aload_n (n := 16) dX3_isTrue_15 rfl 2 rfl rfl ?_
    refine aw_getf (n := 19) (v := .ref (b + 5)) (C0 := RX3) (T := TX3) dX3_isTrue_16 rfl 9 q2650 (Or.inl rfl) hT.1 rfl rfl ?_
    refine aw_iload_n (n := 20) dX3_isTrue_19 rfl 3 rfl rfl ?_
    refine aw_iald (n := 21) (v := .int (ms.2.1 9 n)) dX3_isTrue_20 rfl n rfl hT.a9 (by omega) (by decide) rfl rfl ?_
    refine AW.sts (st' := [.int (nI 9)]) (by rw [show ms.2.1 9 n = nI 9 from hN.2.2.1]) ?_
    refine aw_tableIn (tgt := 265) dX3_isTrue_21 (by decide) (by decide) (off := 244) (by rfl) (by decide) ?_
    refine aw_aload_n (n := 266) dX3_isTrue_265 rfl 2 rfl rfl ?_
    refine aw_getf (n := 269) (v := .ref (b + 8)) (C0 := RX3) (T := TX3) dX3_isTrue_266 rfl 12 q2653 (Or.inl rfl) hT.1 rfl rfl ?_
    refine aw_iload_n (n := 270) dX3_isTrue_269 rfl 3 rfl rfl ?_
    refine aw_iald (n := 271) (v := .int (ms.2.1 12 n)) dX3_isTrue_270 rfl n rfl hT.a12 (by omega) (by decide) rfl rfl ?_
    refine aw_aload_n (n := 272) dX3_isTrue_271 rfl 2 rfl rfl ?_
    refine aw_iload_n (n := 273) dX3_isTrue_272 rfl 1 rfl rfl ?_
    refine aw_iload_n (n := 274) dX3_isTrue_273 rfl 4 rfl rfl ?_
    refine AW.sts (st' := [.int (nI i), .int (nI a), .ref b, .int (ms.2.1 12 n)]) (by rw [show ms.2.1 10 n = nI a from ha]) ?_
    refine aw_callV (n := 277) (C0 := RX3) (As := [.int (nI a), .int (nI i)]) (rest := [.int (ms.2.1 12 n)]) (K2 := kX3_at) dX3_isTrue_274 q3060 q3062 qs92 q113 q3063 ⟨rfl, hcX3_at⟩ rfl hT.1 (ct_at G h b ms hb hT a i (by omega) (by omega)) rfl (Nat.le_of_ble_eq_true rfl) ⟨Nat.le_of_ble_eq_true rfl, Nat.le_of_ble_eq_true rfl⟩ ⟨Nat.zero_le _, Nat.zero_le _⟩ (fun _ _ _ z => z.elim) rfl (fun r_274 h_274 q_274 => ?_)
    obtain ⟨rfl, rfl⟩ := q_274
    refine AW.sts (st' := [.long (tb ms a i), .int (ms.2.1 12 n)]) rfl ?_
    refine aw_aload_n (n := 278) dX3_isTrue_277 rfl 2 rfl rfl ?_
    refine aw_iload (n := 280) dX3_isTrue_278 0 rfl rfl ?_
    refine aw_iload_n (n := 281) dX3_isTrue_280 rfl 4 rfl rfl ?_
    refine AW.sts (st' := [.int (nI i), .int (nI c), .ref b, .long (tb ms a i), .int (ms.2.1 12 n)]) (by rw [show ms.2.1 11 n = nI c from hc]) ?_
    refine aw_callV (n := 284) (C0 := RX3) (As := [.int (nI c), .int (nI i)]) (rest := [.long (tb ms a i), .int (ms.2.1 12 n)]) (K2 := kX3_at) dX3_isTrue_281 q3060 q3062 qs92 q113 q3063 ⟨rfl, hcX3_at⟩ rfl hT.1 (ct_at G h b ms hb hT c i (by omega) (by omega)) rfl (Nat.le_of_ble_eq_true rfl) ⟨Nat.le_of_ble_eq_true rfl, Nat.le_of_ble_eq_true rfl⟩ ⟨Nat.zero_le _, Nat.zero_le _⟩ (fun _ _ _ z => z.elim) rfl (fun r_281 h_281 q_281 => ?_)
    obtain ⟨rfl, rfl⟩ := q_281
    refine AW.sts (st' := [.long (tb ms c i), .long (tb ms a i), .int (ms.2.1 12 n)]) rfl ?_
    refine AW.sts (st' := [.long (tb ms c i), .long (tb ms a i), .int (nI cq)]) (by rw [hcq]) ?_
    refine aw_callS (n := 287) (As := [.int (nI cq), .long (tb ms a i), .long (tb ms c i)]) (rest := []) (K2 := kX3_compared) dX3_isTrue_284 q3072 q3073 q113 q3074 hcX3_compared (ct_compared G h cq (tb ms a i) (tb ms c i) (by omega)) rfl (Nat.le_of_ble_eq_true rfl) ⟨Nat.le_of_ble_eq_true rfl, Nat.le_of_ble_eq_true rfl⟩ ⟨Nat.zero_le _, Nat.zero_le _⟩ (fun _ _ _ z => z.elim) rfl (fun r_284 h_284 q_284 => ?_)
    obtain ⟨rfl, rfl⟩ := q_284
    refine AW.sts (st' := [.int (bI (cmT cq (tb ms a i) (tb ms c i)))]) rfl ?_
    exact aw_zret dX3_isTrue_287 rfl (bI_le _) ⟨congrArg some (congrArg Value.int (by first | (simp [itT, bI] <;> (try (intros; omega)); done) | simp_all [itT, bI])), rfl⟩ ⟨Nat.zero_le _, Nat.zero_le _⟩
  · skip
    obtain ⟨ha, ha2⟩ := hN.2.2.2.1 (by decide)
    obtain ⟨hc, hc2⟩ := hN.2.2.2.2.1 (by decide)
    refine aw_aload_n (n := 1) dX3_isTrue_0 rfl 0 rfl rfl ?_
    refine aw_getf (n := 4) (v := .ref (b + 6)) (C0 := RX3) (T := TX3) dX3_isTrue_1 rfl 10 q2651 (Or.inl rfl) hT.1 rfl rfl ?_
    refine aw_iload_n (n := 5) dX3_isTrue_4 rfl 1 rfl rfl ?_
    refine aw_iald (n := 6) (v := .int (ms.2.1 10 n)) dX3_isTrue_5 rfl n rfl hT.a10 (by omega) (by decide) rfl rfl ?_
    refine aw_istore_n (n := 7) (lv' := [(3, .int (ms.2.1 10 n)), (0, .ref b), (1, .int (nI n)), (2, .int (nI i))]) dX3_isTrue_6 rfl (by decide) rfl rfl ?_
    refine aw_aload_n (n := 8) dX3_isTrue_7 rfl 1 rfl rfl ?_
    refine aw_getf (n := 11) (v := .ref (b + 7)) (C0 := RX3) (T := TX3) dX3_isTrue_8 rfl 11 q2652 (Or.inl rfl) hT.1 rfl rfl ?_
    refine aw_iload_n (n := 12) dX3_isTrue_11 rfl 2 rfl rfl ?_
    refine aw_iald (n := 13) (v := .int (ms.2.1 11 n)) dX3_isTrue_12 rfl n rfl hT.a11 (by omega) (by decide) rfl rfl ?_
    refine aw_istore (n := 15) (lv' := [(4, .int (ms.2.1 11 n)), (3, .int (ms.2.1 10 n)), (0, .ref b), (1, .int (nI n)), (2, .int (nI i))]) dX3_isTrue_13 (by decide) rfl rfl ?_
    refine aw_aload_n (n := 16) dX3_isTrue_15 rfl 2 rfl rfl ?_
    refine aw_getf (n := 19) (v := .ref (b + 5)) (C0 := RX3) (T := TX3) dX3_isTrue_16 rfl 9 q2650 (Or.inl rfl) hT.1 rfl rfl ?_
    refine aw_iload_n (n := 20) dX3_isTrue_19 rfl 3 rfl rfl ?_
    refine aw_iald (n := 21) (v := .int (ms.2.1 9 n)) dX3_isTrue_20 rfl n rfl hT.a9 (by omega) (by decide) rfl rfl ?_
    refine AW.sts (st' := [.int (nI 10)]) (by rw [show ms.2.1 9 n = nI 10 from hN.2.2.1]) ?_
    refine aw_tableIn (tgt := 288) dX3_isTrue_21 (by decide) (by decide) (off := 267) (by rfl) (by decide) ?_
    refine aw_aload_n (n := 289) dX3_isTrue_288 rfl 2 rfl rfl ?_
    refine aw_iload_n (n := 290) dX3_isTrue_289 rfl 3 rfl rfl ?_
    refine aw_iload_n (n := 291) dX3_isTrue_290 rfl 4 rfl rfl ?_
    refine aw_callV (n := 294) (C0 := RX3) (As := [.int (nI n), .int (nI i)]) (rest := []) (K2 := kX3_isSince) dX3_isTrue_291 q3075 q3077 qs95 q113 q3078 ⟨rfl, hcX3_isSince⟩ rfl hT.1 (ct_isSince G h b ms hb hT n i a c (by omega) (by omega) ha (by omega) hc (by omega)) rfl (Nat.le_of_ble_eq_true rfl) ⟨Nat.le_of_ble_eq_true rfl, Nat.le_of_ble_eq_true rfl⟩ ⟨Nat.zero_le _, Nat.zero_le _⟩ (fun _ _ _ z => z.elim) rfl (fun r_291 h_291 q_291 => ?_)
    obtain ⟨rfl, rfl⟩ := q_291
    refine AW.sts (st' := [.int (bI (snD (fun j => hd ms c j && wiT ms n j i) (hd ms a) (i + 1)))]) rfl ?_
    exact aw_zret dX3_isTrue_294 rfl (bI_le _) ⟨congrArg some (congrArg Value.int (by first | (simp [itT, bI] <;> (try (intros; omega)); done) | simp_all [itT, bI])), rfl⟩ ⟨Nat.zero_le _, Nat.zero_le _⟩
  · skip
    obtain ⟨ha, ha2⟩ := hN.2.2.2.1 (by decide)
    obtain ⟨hc, hc2⟩ := hN.2.2.2.2.1 (by decide)
    refine aw_aload_n (n := 1) dX3_isTrue_0 rfl 0 rfl rfl ?_
    refine aw_getf (n := 4) (v := .ref (b + 6)) (C0 := RX3) (T := TX3) dX3_isTrue_1 rfl 10 q2651 (Or.inl rfl) hT.1 rfl rfl ?_
    refine aw_iload_n (n := 5) dX3_isTrue_4 rfl 1 rfl rfl ?_
    refine aw_iald (n := 6) (v := .int (ms.2.1 10 n)) dX3_isTrue_5 rfl n rfl hT.a10 (by omega) (by decide) rfl rfl ?_
    refine aw_istore_n (n := 7) (lv' := [(3, .int (ms.2.1 10 n)), (0, .ref b), (1, .int (nI n)), (2, .int (nI i))]) dX3_isTrue_6 rfl (by decide) rfl rfl ?_
    refine aw_aload_n (n := 8) dX3_isTrue_7 rfl 1 rfl rfl ?_
    refine aw_getf (n := 11) (v := .ref (b + 7)) (C0 := RX3) (T := TX3) dX3_isTrue_8 rfl 11 q2652 (Or.inl rfl) hT.1 rfl rfl ?_
    refine aw_iload_n (n := 12) dX3_isTrue_11 rfl 2 rfl rfl ?_
    refine aw_iald (n := 13) (v := .int (ms.2.1 11 n)) dX3_isTrue_12 rfl n rfl hT.a11 (by omega) (by decide) rfl rfl ?_
    refine aw_istore (n := 15) (lv' := [(4, .int (ms.2.1 11 n)), (3, .int (ms.2.1 10 n)), (0, .ref b), (1, .int (nI n)), (2, .int (nI i))]) dX3_isTrue_13 (by decide) rfl rfl ?_
    refine aw_aload_n (n := 16) dX3_isTrue_15 rfl 2 rfl rfl ?_
    refine aw_getf (n := 19) (v := .ref (b + 5)) (C0 := RX3) (T := TX3) dX3_isTrue_16 rfl 9 q2650 (Or.inl rfl) hT.1 rfl rfl ?_
    refine aw_iload_n (n := 20) dX3_isTrue_19 rfl 3 rfl rfl ?_
    refine aw_iald (n := 21) (v := .int (ms.2.1 9 n)) dX3_isTrue_20 rfl n rfl hT.a9 (by omega) (by decide) rfl rfl ?_
    refine AW.sts (st' := [.int (nI 11)]) (by rw [show ms.2.1 9 n = nI 11 from hN.2.2.1]) ?_
    refine aw_tableIn (tgt := 295) dX3_isTrue_21 (by decide) (by decide) (off := 274) (by rfl) (by decide) ?_
    refine aw_aload_n (n := 296) dX3_isTrue_295 rfl 2 rfl rfl ?_
    refine aw_iload_n (n := 297) dX3_isTrue_296 rfl 1 rfl rfl ?_
    refine aw_iload_n (n := 298) dX3_isTrue_297 rfl 4 rfl rfl ?_
    refine AW.sts (st' := [.int (nI i), .int (nI a), .ref b]) (by rw [show ms.2.1 10 n = nI a from ha]) ?_
    refine aw_callV (n := 301) (C0 := RX3) (As := [.int (nI a), .int (nI i)]) (rest := []) (K2 := kX3_holds) dX3_isTrue_298 q3056 q3058 qs91 q113 q3059 ⟨rfl, hcX3_holds⟩ rfl hT.1 (ct_holds G h b ms hb hT a i (by omega) (by omega)) rfl (Nat.le_of_ble_eq_true rfl) ⟨Nat.le_of_ble_eq_true rfl, Nat.le_of_ble_eq_true rfl⟩ ⟨Nat.zero_le _, Nat.zero_le _⟩ (fun _ _ _ z => z.elim) rfl (fun r_298 h_298 q_298 => ?_)
    obtain ⟨rfl, rfl⟩ := q_298
    refine AW.sts (st' := [.int (bI (hd ms a i))]) rfl ?_
    refine aw_if_eq (n := 304) (tgt := 318) dX3_isTrue_301 (by decide) rfl (fun c_301 => ?_) (fun c_301 => ?_)
    · skip
      have b_301 : (hd ms a i) = false := (bI_0 _).mp c_301
      refine aw_iconst (n := 319) (v := 0) dX3_isTrue_318 (by decide) rfl ?_
      exact aw_zret dX3_isTrue_319 rfl (by decide) ⟨congrArg some (congrArg Value.int (by first | (simp [itT, bI, b_301, c_301] <;> (try (intros; omega)); done) | simp_all [itT, bI])), rfl⟩ ⟨Nat.zero_le _, Nat.zero_le _⟩
    · skip
      have b_301 : (hd ms a i) = true := Bool.of_not_eq_false (fun e => c_301 ((bI_0 _).mpr e))
      refine aw_aload_n (n := 305) dX3_isTrue_304 rfl 2 rfl rfl ?_
      refine aw_iload (n := 307) dX3_isTrue_305 0 rfl rfl ?_
      refine aw_iload_n (n := 308) dX3_isTrue_307 rfl 4 rfl rfl ?_
      refine AW.sts (st' := [.int (nI i), .int (nI c), .ref b]) (by rw [show ms.2.1 11 n = nI c from hc]) ?_
      refine aw_callV (n := 311) (C0 := RX3) (As := [.int (nI c), .int (nI i)]) (rest := []) (K2 := kX3_holds) dX3_isTrue_308 q3056 q3058 qs91 q113 q3059 ⟨rfl, hcX3_holds⟩ rfl hT.1 (ct_holds G h b ms hb hT c i (by omega) (by omega)) rfl (Nat.le_of_ble_eq_true rfl) ⟨Nat.le_of_ble_eq_true rfl, Nat.le_of_ble_eq_true rfl⟩ ⟨Nat.zero_le _, Nat.zero_le _⟩ (fun _ _ _ z => z.elim) rfl (fun r_308 h_308 q_308 => ?_)
      obtain ⟨rfl, rfl⟩ := q_308
      refine AW.sts (st' := [.int (bI (hd ms c i))]) rfl ?_
      refine aw_if_eq (n := 314) (tgt := 318) dX3_isTrue_311 (by decide) rfl (fun c_311 => ?_) (fun c_311 => ?_)
      · skip
        have b_311 : (hd ms c i) = false := (bI_0 _).mp c_311
        refine aw_iconst (n := 319) (v := 0) dX3_isTrue_318 (by decide) rfl ?_
        exact aw_zret dX3_isTrue_319 rfl (by decide) ⟨congrArg some (congrArg Value.int (by first | (simp [itT, bI, b_301, c_301, b_311, c_311] <;> (try (intros; omega)); done) | simp_all [itT, bI])), rfl⟩ ⟨Nat.zero_le _, Nat.zero_le _⟩
      · skip
        have b_311 : (hd ms c i) = true := Bool.of_not_eq_false (fun e => c_311 ((bI_0 _).mpr e))
        refine aw_iconst (n := 315) (v := 1) dX3_isTrue_314 (by decide) rfl ?_
        refine aw_goto (tgt := 319) dX3_isTrue_315 (by decide) ?_
        exact aw_zret dX3_isTrue_319 rfl (by decide) ⟨congrArg some (congrArg Value.int (by first | (simp [itT, bI, b_301, c_301, b_311, c_311] <;> (try (intros; omega)); done) | simp_all [itT, bI])), rfl⟩ ⟨Nat.zero_le _, Nat.zero_le _⟩
  · skip
    obtain ⟨ha, ha2⟩ := hN.2.2.2.1 (by decide)
    obtain ⟨hc, hc2⟩ := hN.2.2.2.2.1 (by decide)
    refine aw_aload_n (n := 1) dX3_isTrue_0 rfl 0 rfl rfl ?_
    refine aw_getf (n := 4) (v := .ref (b + 6)) (C0 := RX3) (T := TX3) dX3_isTrue_1 rfl 10 q2651 (Or.inl rfl) hT.1 rfl rfl ?_
    refine aw_iload_n (n := 5) dX3_isTrue_4 rfl 1 rfl rfl ?_
    refine aw_iald (n := 6) (v := .int (ms.2.1 10 n)) dX3_isTrue_5 rfl n rfl hT.a10 (by omega) (by decide) rfl rfl ?_
    refine aw_istore_n (n := 7) (lv' := [(3, .int (ms.2.1 10 n)), (0, .ref b), (1, .int (nI n)), (2, .int (nI i))]) dX3_isTrue_6 rfl (by decide) rfl rfl ?_
    refine aw_aload_n (n := 8) dX3_isTrue_7 rfl 1 rfl rfl ?_
    refine aw_getf (n := 11) (v := .ref (b + 7)) (C0 := RX3) (T := TX3) dX3_isTrue_8 rfl 11 q2652 (Or.inl rfl) hT.1 rfl rfl ?_
    refine aw_iload_n (n := 12) dX3_isTrue_11 rfl 2 rfl rfl ?_
    refine aw_iald (n := 13) (v := .int (ms.2.1 11 n)) dX3_isTrue_12 rfl n rfl hT.a11 (by omega) (by decide) rfl rfl ?_
    refine aw_istore (n := 15) (lv' := [(4, .int (ms.2.1 11 n)), (3, .int (ms.2.1 10 n)), (0, .ref b), (1, .int (nI n)), (2, .int (nI i))]) dX3_isTrue_13 (by decide) rfl rfl ?_
    refine aw_aload_n (n := 16) dX3_isTrue_15 rfl 2 rfl rfl ?_
    refine aw_getf (n := 19) (v := .ref (b + 5)) (C0 := RX3) (T := TX3) dX3_isTrue_16 rfl 9 q2650 (Or.inl rfl) hT.1 rfl rfl ?_
    refine aw_iload_n (n := 20) dX3_isTrue_19 rfl 3 rfl rfl ?_
    refine aw_iald (n := 21) (v := .int (ms.2.1 9 n)) dX3_isTrue_20 rfl n rfl hT.a9 (by omega) (by decide) rfl rfl ?_
    refine AW.sts (st' := [.int (nI 12)]) (by rw [show ms.2.1 9 n = nI 12 from hN.2.2.1]) ?_
    refine aw_tableIn (tgt := 320) dX3_isTrue_21 (by decide) (by decide) (off := 299) (by rfl) (by decide) ?_
    refine aw_aload_n (n := 321) dX3_isTrue_320 rfl 2 rfl rfl ?_
    refine aw_iload_n (n := 322) dX3_isTrue_321 rfl 1 rfl rfl ?_
    refine aw_iload_n (n := 323) dX3_isTrue_322 rfl 4 rfl rfl ?_
    refine AW.sts (st' := [.int (nI i), .int (nI a), .ref b]) (by rw [show ms.2.1 10 n = nI a from ha]) ?_
    refine aw_callV (n := 326) (C0 := RX3) (As := [.int (nI a), .int (nI i)]) (rest := []) (K2 := kX3_holds) dX3_isTrue_323 q3056 q3058 qs91 q113 q3059 ⟨rfl, hcX3_holds⟩ rfl hT.1 (ct_holds G h b ms hb hT a i (by omega) (by omega)) rfl (Nat.le_of_ble_eq_true rfl) ⟨Nat.le_of_ble_eq_true rfl, Nat.le_of_ble_eq_true rfl⟩ ⟨Nat.zero_le _, Nat.zero_le _⟩ (fun _ _ _ z => z.elim) rfl (fun r_323 h_323 q_323 => ?_)
    obtain ⟨rfl, rfl⟩ := q_323
    refine AW.sts (st' := [.int (bI (hd ms a i))]) rfl ?_
    refine aw_if_ne (n := 329) (tgt := 339) dX3_isTrue_326 (by decide) rfl (fun c_326 => ?_) (fun c_326 => ?_)
    · skip
      have b_326 : (hd ms a i) = true := Bool.of_not_eq_false (fun e => c_326 ((bI_0 _).mpr e))
      refine aw_iconst (n := 340) (v := 1) dX3_isTrue_339 (by decide) rfl ?_
      refine aw_goto (tgt := 344) dX3_isTrue_340 (by decide) ?_
      exact aw_zret dX3_isTrue_344 rfl (by decide) ⟨congrArg some (congrArg Value.int (by first | (simp [itT, bI, b_326, c_326] <;> (try (intros; omega)); done) | simp_all [itT, bI])), rfl⟩ ⟨Nat.zero_le _, Nat.zero_le _⟩
    · skip
      have b_326 : (hd ms a i) = false := (bI_0 _).mp c_326
      refine aw_aload_n (n := 330) dX3_isTrue_329 rfl 2 rfl rfl ?_
      refine aw_iload (n := 332) dX3_isTrue_330 0 rfl rfl ?_
      refine aw_iload_n (n := 333) dX3_isTrue_332 rfl 4 rfl rfl ?_
      refine AW.sts (st' := [.int (nI i), .int (nI c), .ref b]) (by rw [show ms.2.1 11 n = nI c from hc]) ?_
      refine aw_callV (n := 336) (C0 := RX3) (As := [.int (nI c), .int (nI i)]) (rest := []) (K2 := kX3_holds) dX3_isTrue_333 q3056 q3058 qs91 q113 q3059 ⟨rfl, hcX3_holds⟩ rfl hT.1 (ct_holds G h b ms hb hT c i (by omega) (by omega)) rfl (Nat.le_of_ble_eq_true rfl) ⟨Nat.le_of_ble_eq_true rfl, Nat.le_of_ble_eq_true rfl⟩ ⟨Nat.zero_le _, Nat.zero_le _⟩ (fun _ _ _ z => z.elim) rfl (fun r_333 h_333 q_333 => ?_)
      obtain ⟨rfl, rfl⟩ := q_333
      refine AW.sts (st' := [.int (bI (hd ms c i))]) rfl ?_
      refine aw_if_eq (n := 339) (tgt := 343) dX3_isTrue_336 (by decide) rfl (fun c_336 => ?_) (fun c_336 => ?_)
      · skip
        have b_336 : (hd ms c i) = false := (bI_0 _).mp c_336
        refine aw_iconst (n := 344) (v := 0) dX3_isTrue_343 (by decide) rfl ?_
        exact aw_zret dX3_isTrue_344 rfl (by decide) ⟨congrArg some (congrArg Value.int (by first | (simp [itT, bI, b_326, c_326, b_336, c_336] <;> (try (intros; omega)); done) | simp_all [itT, bI])), rfl⟩ ⟨Nat.zero_le _, Nat.zero_le _⟩
      · skip
        have b_336 : (hd ms c i) = true := Bool.of_not_eq_false (fun e => c_336 ((bI_0 _).mpr e))
        refine aw_iconst (n := 340) (v := 1) dX3_isTrue_339 (by decide) rfl ?_
        refine aw_goto (tgt := 344) dX3_isTrue_340 (by decide) ?_
        exact aw_zret dX3_isTrue_344 rfl (by decide) ⟨congrArg some (congrArg Value.int (by first | (simp [itT, bI, b_326, c_326, b_336, c_336] <;> (try (intros; omega)); done) | simp_all [itT, bI])), rfl⟩ ⟨Nat.zero_le _, Nat.zero_le _⟩
  · skip
    obtain ⟨ha, ha2⟩ := hN.2.2.2.1 (by decide)
    obtain ⟨hc, hc2⟩ := hN.2.2.2.2.1 (by decide)
    refine aw_aload_n (n := 1) dX3_isTrue_0 rfl 0 rfl rfl ?_
    refine aw_getf (n := 4) (v := .ref (b + 6)) (C0 := RX3) (T := TX3) dX3_isTrue_1 rfl 10 q2651 (Or.inl rfl) hT.1 rfl rfl ?_
    refine aw_iload_n (n := 5) dX3_isTrue_4 rfl 1 rfl rfl ?_
    refine aw_iald (n := 6) (v := .int (ms.2.1 10 n)) dX3_isTrue_5 rfl n rfl hT.a10 (by omega) (by decide) rfl rfl ?_
    refine aw_istore_n (n := 7) (lv' := [(3, .int (ms.2.1 10 n)), (0, .ref b), (1, .int (nI n)), (2, .int (nI i))]) dX3_isTrue_6 rfl (by decide) rfl rfl ?_
    refine aw_aload_n (n := 8) dX3_isTrue_7 rfl 1 rfl rfl ?_
    refine aw_getf (n := 11) (v := .ref (b + 7)) (C0 := RX3) (T := TX3) dX3_isTrue_8 rfl 11 q2652 (Or.inl rfl) hT.1 rfl rfl ?_
    refine aw_iload_n (n := 12) dX3_isTrue_11 rfl 2 rfl rfl ?_
    refine aw_iald (n := 13) (v := .int (ms.2.1 11 n)) dX3_isTrue_12 rfl n rfl hT.a11 (by omega) (by decide) rfl rfl ?_
    refine aw_istore (n := 15) (lv' := [(4, .int (ms.2.1 11 n)), (3, .int (ms.2.1 10 n)), (0, .ref b), (1, .int (nI n)), (2, .int (nI i))]) dX3_isTrue_13 (by decide) rfl rfl ?_
    refine aw_aload_n (n := 16) dX3_isTrue_15 rfl 2 rfl rfl ?_
    refine aw_getf (n := 19) (v := .ref (b + 5)) (C0 := RX3) (T := TX3) dX3_isTrue_16 rfl 9 q2650 (Or.inl rfl) hT.1 rfl rfl ?_
    refine aw_iload_n (n := 20) dX3_isTrue_19 rfl 3 rfl rfl ?_
    refine aw_iald (n := 21) (v := .int (ms.2.1 9 n)) dX3_isTrue_20 rfl n rfl hT.a9 (by omega) (by decide) rfl rfl ?_
    refine AW.sts (st' := [.int (nI 13)]) (by rw [show ms.2.1 9 n = nI 13 from hN.2.2.1]) ?_
    refine aw_tableOut (tgt := 345) dX3_isTrue_21 (by decide) (by decide) ?_
    refine aw_aload_n (n := 346) dX3_isTrue_345 rfl 2 rfl rfl ?_
    refine aw_iload_n (n := 347) dX3_isTrue_346 rfl 1 rfl rfl ?_
    refine aw_iload_n (n := 348) dX3_isTrue_347 rfl 4 rfl rfl ?_
    refine AW.sts (st' := [.int (nI i), .int (nI a), .ref b]) (by rw [show ms.2.1 10 n = nI a from ha]) ?_
    refine aw_callV (n := 351) (C0 := RX3) (As := [.int (nI a), .int (nI i)]) (rest := []) (K2 := kX3_holds) dX3_isTrue_348 q3056 q3058 qs91 q113 q3059 ⟨rfl, hcX3_holds⟩ rfl hT.1 (ct_holds G h b ms hb hT a i (by omega) (by omega)) rfl (Nat.le_of_ble_eq_true rfl) ⟨Nat.le_of_ble_eq_true rfl, Nat.le_of_ble_eq_true rfl⟩ ⟨Nat.zero_le _, Nat.zero_le _⟩ (fun _ _ _ z => z.elim) rfl (fun r_348 h_348 q_348 => ?_)
    obtain ⟨rfl, rfl⟩ := q_348
    refine AW.sts (st' := [.int (bI (hd ms a i))]) rfl ?_
    refine aw_if_eq (n := 354) (tgt := 364) dX3_isTrue_351 (by decide) rfl (fun c_351 => ?_) (fun c_351 => ?_)
    · skip
      have b_351 : (hd ms a i) = false := (bI_0 _).mp c_351
      refine aw_iconst (n := 365) (v := 1) dX3_isTrue_364 (by decide) rfl ?_
      refine aw_goto (tgt := 369) dX3_isTrue_365 (by decide) ?_
      exact aw_zret dX3_isTrue_369 rfl (by decide) ⟨congrArg some (congrArg Value.int (by first | (simp [itT, bI, b_351, c_351] <;> (try (intros; omega)); done) | simp_all [itT, bI])), rfl⟩ ⟨Nat.zero_le _, Nat.zero_le _⟩
    · skip
      have b_351 : (hd ms a i) = true := Bool.of_not_eq_false (fun e => c_351 ((bI_0 _).mpr e))
      refine aw_aload_n (n := 355) dX3_isTrue_354 rfl 2 rfl rfl ?_
      refine aw_iload (n := 357) dX3_isTrue_355 0 rfl rfl ?_
      refine aw_iload_n (n := 358) dX3_isTrue_357 rfl 4 rfl rfl ?_
      refine AW.sts (st' := [.int (nI i), .int (nI c), .ref b]) (by rw [show ms.2.1 11 n = nI c from hc]) ?_
      refine aw_callV (n := 361) (C0 := RX3) (As := [.int (nI c), .int (nI i)]) (rest := []) (K2 := kX3_holds) dX3_isTrue_358 q3056 q3058 qs91 q113 q3059 ⟨rfl, hcX3_holds⟩ rfl hT.1 (ct_holds G h b ms hb hT c i (by omega) (by omega)) rfl (Nat.le_of_ble_eq_true rfl) ⟨Nat.le_of_ble_eq_true rfl, Nat.le_of_ble_eq_true rfl⟩ ⟨Nat.zero_le _, Nat.zero_le _⟩ (fun _ _ _ z => z.elim) rfl (fun r_358 h_358 q_358 => ?_)
      obtain ⟨rfl, rfl⟩ := q_358
      refine AW.sts (st' := [.int (bI (hd ms c i))]) rfl ?_
      refine aw_if_eq (n := 364) (tgt := 368) dX3_isTrue_361 (by decide) rfl (fun c_361 => ?_) (fun c_361 => ?_)
      · skip
        have b_361 : (hd ms c i) = false := (bI_0 _).mp c_361
        refine aw_iconst (n := 369) (v := 0) dX3_isTrue_368 (by decide) rfl ?_
        exact aw_zret dX3_isTrue_369 rfl (by decide) ⟨congrArg some (congrArg Value.int (by first | (simp [itT, bI, b_351, c_351, b_361, c_361] <;> (try (intros; omega)); done) | simp_all [itT, bI])), rfl⟩ ⟨Nat.zero_le _, Nat.zero_le _⟩
      · skip
        have b_361 : (hd ms c i) = true := Bool.of_not_eq_false (fun e => c_361 ((bI_0 _).mpr e))
        refine aw_iconst (n := 365) (v := 1) dX3_isTrue_364 (by decide) rfl ?_
        refine aw_goto (tgt := 369) dX3_isTrue_365 (by decide) ?_
        exact aw_zret dX3_isTrue_369 rfl (by decide) ⟨congrArg some (congrArg Value.int (by first | (simp [itT, bI, b_351, c_351, b_361, c_361] <;> (try (intros; omega)); done) | simp_all [itT, bI])), rfl⟩ ⟨Nat.zero_le _, Nat.zero_le _⟩

abbrev kX3_worth : aK := (yX3_worth, cX3_worth, 7, (Option.some Jvm.ClassFile.FieldType.long), [])
theorem hcX3_worth : kX3_worth.1.cls ≠ "java/lang/invoke/MethodHandle" ∧ kX3_worth.1.cls ≠ "java/lang/invoke/VarHandle" ∧ (parseMethodDescriptor kX3_worth.1.desc).map (fun d => d.parameters.length) = some 2 := ⟨by decide, by decide, by decide +kernel⟩
theorem fU_in (p : Nat → Bool) : ∀ c : Nat, fU p c ≠ -1 → ∃ l : Nat, fU p c = nI l ∧ l < c
  | 0, h => absurd rfl h
  | c + 1, h => by
    simp only [fU] at h ⊢
    by_cases e : p c = true
    · rw [if_pos e]; exact ⟨c, rfl, by omega⟩
    · rw [if_neg e] at h ⊢
      obtain ⟨l, h1, h2⟩ := fU_in p c h
      exact ⟨l, h1, by omega⟩
theorem lhT_in (ms : tM) (a i : Nat) (h : lhT ms a i ≠ -1) : ∃ l : Nat, lhT ms a i = nI l ∧ l ≤ i := by
  obtain ⟨l, h1, h2⟩ := fU_in (hd ms a) (i + 1) h
  exact ⟨l, h1, by omega⟩
theorem ct_worth (G : aG) (h : hH) (b : Nat) (ms : tM) (hb : gB G ≤ b) (hT : TW b h ms) (n i k a c cq : Nat) (hn : n < 1203) (hi : i < 120) (hN : okN ms n k a c cq) (h20 : 20 ≤ k) (h9 : k = 34 → cq < 5) (h8 : k = 21 → a < 8) : Con G kX3_worth [.ref b, .int (nI n), .int (nI i)] h ((4, 68, 0, 0), (fun r h1 => r = some (.long (woT ms k (ms.2.1 10 n) a c cq i)) ∧ h = h1), nX) := by
  refine Con.of (plainFor_of_name rfl) rfl (Nat.le_of_ble_eq_true rfl) ?_
  refine AW.eq (lv2 := [(0, .ref b), (1, .int (nI n)), (2, .int (nI i))]) (s2 := []) rfl rfl rfl rfl rfl ?_
  have hk_ : k = 20 ∨ k = 21 ∨ k = 22 ∨ k = 23 ∨ k = 24 ∨ k = 25 ∨ k = 26 ∨ k = 27 ∨ k = 28 ∨ k = 29 ∨ k = 30 ∨ k = 31 ∨ k = 32 ∨ k = 33 ∨ k = 34 := by have := hN.2.1; omega
  rcases hk_ with rfl | rfl | rfl | rfl | rfl | rfl | rfl | rfl | rfl | rfl | rfl | rfl | rfl | rfl | rfl
  · skip
    refine aw_aload_n (n := 1) dX3_worth_0 rfl 0 rfl rfl ?_
    refine aw_getf (n := 4) (v := .ref (b + 6)) (C0 := RX3) (T := TX3) dX3_worth_1 rfl 10 q2651 (Or.inl rfl) hT.1 rfl rfl ?_
    refine aw_iload_n (n := 5) dX3_worth_4 rfl 1 rfl rfl ?_
    refine aw_iald (n := 6) (v := .int (ms.2.1 10 n)) dX3_worth_5 rfl n rfl hT.a10 (by omega) (by decide) rfl rfl ?_
    refine aw_istore_n (n := 7) (lv' := [(3, .int (ms.2.1 10 n)), (0, .ref b), (1, .int (nI n)), (2, .int (nI i))]) dX3_worth_6 rfl (by decide) rfl rfl ?_
    refine aw_aload_n (n := 8) dX3_worth_7 rfl 1 rfl rfl ?_
    refine aw_getf (n := 11) (v := .ref (b + 5)) (C0 := RX3) (T := TX3) dX3_worth_8 rfl 9 q2650 (Or.inl rfl) hT.1 rfl rfl ?_
    refine aw_iload_n (n := 12) dX3_worth_11 rfl 2 rfl rfl ?_
    refine aw_iald (n := 13) (v := .int (ms.2.1 9 n)) dX3_worth_12 rfl n rfl hT.a9 (by omega) (by decide) rfl rfl ?_
    refine AW.sts (st' := [.int (nI 20)]) (by rw [show ms.2.1 9 n = nI 20 from hN.2.2.1]) ?_
    refine aw_tableIn (tgt := 84) dX3_worth_13 (by decide) (by decide) (off := 71) (by rfl) (by decide) ?_
    refine aw_iload_n (n := 85) dX3_worth_84 rfl 0 rfl rfl ?_
    refine aw_i2l (n := 86) dX3_worth_85 rfl rfl ?_
    exact aw_lret dX3_worth_86 rfl ⟨congrArg some (congrArg Value.long (by simp [woT] <;> (try (intros; omega)))), rfl⟩ ⟨Nat.zero_le _, Nat.zero_le _⟩
  · skip
    obtain ⟨ha, ha2⟩ := hN.2.2.2.1 (by decide)
    have h8 := h8 rfl
    refine aw_aload_n (n := 1) dX3_worth_0 rfl 0 rfl rfl ?_
    refine aw_getf (n := 4) (v := .ref (b + 6)) (C0 := RX3) (T := TX3) dX3_worth_1 rfl 10 q2651 (Or.inl rfl) hT.1 rfl rfl ?_
    refine aw_iload_n (n := 5) dX3_worth_4 rfl 1 rfl rfl ?_
    refine aw_iald (n := 6) (v := .int (ms.2.1 10 n)) dX3_worth_5 rfl n rfl hT.a10 (by omega) (by decide) rfl rfl ?_
    refine aw_istore_n (n := 7) (lv' := [(3, .int (ms.2.1 10 n)), (0, .ref b), (1, .int (nI n)), (2, .int (nI i))]) dX3_worth_6 rfl (by decide) rfl rfl ?_
    refine aw_aload_n (n := 8) dX3_worth_7 rfl 1 rfl rfl ?_
    refine aw_getf (n := 11) (v := .ref (b + 5)) (C0 := RX3) (T := TX3) dX3_worth_8 rfl 9 q2650 (Or.inl rfl) hT.1 rfl rfl ?_
    refine aw_iload_n (n := 12) dX3_worth_11 rfl 2 rfl rfl ?_
    refine aw_iald (n := 13) (v := .int (ms.2.1 9 n)) dX3_worth_12 rfl n rfl hT.a9 (by omega) (by decide) rfl rfl ?_
    refine AW.sts (st' := [.int (nI 21)]) (by rw [show ms.2.1 9 n = nI 21 from hN.2.2.1]) ?_
    refine aw_tableIn (tgt := 87) dX3_worth_13 (by decide) (by decide) (off := 74) (by rfl) (by decide) ?_
    refine aw_aload_n (n := 88) dX3_worth_87 rfl 1 rfl rfl ?_
    refine aw_getf (n := 91) (v := .ref (b + 21)) (C0 := RX3) (T := TX3) dX3_worth_88 rfl 31 q2672 (Or.inl rfl) hT.1 rfl rfl ?_
    refine aw_bipush (n := 93) (v := 8) dX3_worth_91 (by decide) rfl ?_
    refine aw_iload_n (n := 94) dX3_worth_93 rfl 3 rfl rfl ?_
    refine aw_imul (n := 95) dX3_worth_94 rfl ?_
    refine aw_iload_n (n := 96) dX3_worth_95 rfl 0 rfl rfl ?_
    refine aw_iadd (n := 97) dX3_worth_96 rfl ?_
    refine aw_lald (n := 98) (v := .long (ms.2.2 31 ((8 * i) + a))) dX3_worth_97 rfl ((8 * i) + a) (by rw [show 8 * (nI i) = nI (8 * i) from (by rw [show 8 = nI 8 from (by rfl), show nI i = nI i from rfl]; exact pk_mul _ _), show ms.2.1 10 n = nI a from ha]; exact nI_add _ _) hT.a31 (by omega) (by decide) rfl rfl ?_
    exact aw_lret dX3_worth_98 rfl ⟨congrArg some (congrArg Value.long (by simp [woT] <;> (try (intros; omega)))), rfl⟩ ⟨Nat.zero_le _, Nat.zero_le _⟩
  · skip
    obtain ⟨ha, ha2⟩ := hN.2.2.2.1 (by decide)
    refine aw_aload_n (n := 1) dX3_worth_0 rfl 0 rfl rfl ?_
    refine aw_getf (n := 4) (v := .ref (b + 6)) (C0 := RX3) (T := TX3) dX3_worth_1 rfl 10 q2651 (Or.inl rfl) hT.1 rfl rfl ?_
    refine aw_iload_n (n := 5) dX3_worth_4 rfl 1 rfl rfl ?_
    refine aw_iald (n := 6) (v := .int (ms.2.1 10 n)) dX3_worth_5 rfl n rfl hT.a10 (by omega) (by decide) rfl rfl ?_
    refine aw_istore_n (n := 7) (lv' := [(3, .int (ms.2.1 10 n)), (0, .ref b), (1, .int (nI n)), (2, .int (nI i))]) dX3_worth_6 rfl (by decide) rfl rfl ?_
    refine aw_aload_n (n := 8) dX3_worth_7 rfl 1 rfl rfl ?_
    refine aw_getf (n := 11) (v := .ref (b + 5)) (C0 := RX3) (T := TX3) dX3_worth_8 rfl 9 q2650 (Or.inl rfl) hT.1 rfl rfl ?_
    refine aw_iload_n (n := 12) dX3_worth_11 rfl 2 rfl rfl ?_
    refine aw_iald (n := 13) (v := .int (ms.2.1 9 n)) dX3_worth_12 rfl n rfl hT.a9 (by omega) (by decide) rfl rfl ?_
    refine AW.sts (st' := [.int (nI 22)]) (by rw [show ms.2.1 9 n = nI 22 from hN.2.2.1]) ?_
    refine aw_tableIn (tgt := 99) dX3_worth_13 (by decide) (by decide) (off := 86) (by rfl) (by decide) ?_
    refine aw_aload_n (n := 100) dX3_worth_99 rfl 1 rfl rfl ?_
    refine aw_iload_n (n := 101) dX3_worth_100 rfl 0 rfl rfl ?_
    refine aw_iload_n (n := 102) dX3_worth_101 rfl 3 rfl rfl ?_
    refine AW.sts (st' := [.int (nI i), .int (nI a), .ref b]) (by rw [show ms.2.1 10 n = nI a from ha]) ?_
    refine aw_callV (n := 105) (C0 := RX3) (As := [.int (nI a), .int (nI i)]) (rest := []) (K2 := kX3_at) dX3_worth_102 q3060 q3062 qs92 q113 q3063 ⟨rfl, hcX3_at⟩ rfl hT.1 (ct_at G h b ms hb hT a i (by omega) (by omega)) rfl (Nat.le_of_ble_eq_true rfl) ⟨Nat.le_of_ble_eq_true rfl, Nat.le_of_ble_eq_true rfl⟩ ⟨Nat.zero_le _, Nat.zero_le _⟩ (fun _ _ _ z => z.elim) rfl (fun r_102 h_102 q_102 => ?_)
    obtain ⟨rfl, rfl⟩ := q_102
    refine AW.sts (st' := [.long (tb ms a i)]) rfl ?_
    exact aw_lret dX3_worth_105 rfl ⟨congrArg some (congrArg Value.long (by simp [woT] <;> (try (intros; omega)))), rfl⟩ ⟨Nat.zero_le _, Nat.zero_le _⟩
  · skip
    refine aw_aload_n (n := 1) dX3_worth_0 rfl 0 rfl rfl ?_
    refine aw_getf (n := 4) (v := .ref (b + 6)) (C0 := RX3) (T := TX3) dX3_worth_1 rfl 10 q2651 (Or.inl rfl) hT.1 rfl rfl ?_
    refine aw_iload_n (n := 5) dX3_worth_4 rfl 1 rfl rfl ?_
    refine aw_iald (n := 6) (v := .int (ms.2.1 10 n)) dX3_worth_5 rfl n rfl hT.a10 (by omega) (by decide) rfl rfl ?_
    refine aw_istore_n (n := 7) (lv' := [(3, .int (ms.2.1 10 n)), (0, .ref b), (1, .int (nI n)), (2, .int (nI i))]) dX3_worth_6 rfl (by decide) rfl rfl ?_
    refine aw_aload_n (n := 8) dX3_worth_7 rfl 1 rfl rfl ?_
    refine aw_getf (n := 11) (v := .ref (b + 5)) (C0 := RX3) (T := TX3) dX3_worth_8 rfl 9 q2650 (Or.inl rfl) hT.1 rfl rfl ?_
    refine aw_iload_n (n := 12) dX3_worth_11 rfl 2 rfl rfl ?_
    refine aw_iald (n := 13) (v := .int (ms.2.1 9 n)) dX3_worth_12 rfl n rfl hT.a9 (by omega) (by decide) rfl rfl ?_
    refine AW.sts (st' := [.int (nI 23)]) (by rw [show ms.2.1 9 n = nI 23 from hN.2.2.1]) ?_
    refine aw_tableIn (tgt := 106) dX3_worth_13 (by decide) (by decide) (off := 93) (by rfl) (by decide) ?_
    refine aw_aload_n (n := 107) dX3_worth_106 rfl 1 rfl rfl ?_
    refine aw_getf (n := 110) (v := .ref (b + 20)) (C0 := RX3) (T := TX3) dX3_worth_107 rfl 30 q2671 (Or.inl rfl) hT.1 rfl rfl ?_
    refine aw_iload_n (n := 111) dX3_worth_110 rfl 3 rfl rfl ?_
    refine aw_iald (n := 112) (v := .int (ms.2.1 30 i)) dX3_worth_111 rfl i rfl hT.a30 (by omega) (by decide) rfl rfl ?_
    refine aw_i2l (n := 113) dX3_worth_112 rfl rfl ?_
    exact aw_lret dX3_worth_113 rfl ⟨congrArg some (congrArg Value.long (by simp [woT] <;> (try (intros; omega)))), rfl⟩ ⟨Nat.zero_le _, Nat.zero_le _⟩
  · skip
    refine aw_aload_n (n := 1) dX3_worth_0 rfl 0 rfl rfl ?_
    refine aw_getf (n := 4) (v := .ref (b + 6)) (C0 := RX3) (T := TX3) dX3_worth_1 rfl 10 q2651 (Or.inl rfl) hT.1 rfl rfl ?_
    refine aw_iload_n (n := 5) dX3_worth_4 rfl 1 rfl rfl ?_
    refine aw_iald (n := 6) (v := .int (ms.2.1 10 n)) dX3_worth_5 rfl n rfl hT.a10 (by omega) (by decide) rfl rfl ?_
    refine aw_istore_n (n := 7) (lv' := [(3, .int (ms.2.1 10 n)), (0, .ref b), (1, .int (nI n)), (2, .int (nI i))]) dX3_worth_6 rfl (by decide) rfl rfl ?_
    refine aw_aload_n (n := 8) dX3_worth_7 rfl 1 rfl rfl ?_
    refine aw_getf (n := 11) (v := .ref (b + 5)) (C0 := RX3) (T := TX3) dX3_worth_8 rfl 9 q2650 (Or.inl rfl) hT.1 rfl rfl ?_
    refine aw_iload_n (n := 12) dX3_worth_11 rfl 2 rfl rfl ?_
    refine aw_iald (n := 13) (v := .int (ms.2.1 9 n)) dX3_worth_12 rfl n rfl hT.a9 (by omega) (by decide) rfl rfl ?_
    refine AW.sts (st' := [.int (nI 24)]) (by rw [show ms.2.1 9 n = nI 24 from hN.2.2.1]) ?_
    refine aw_tableIn (tgt := 114) dX3_worth_13 (by decide) (by decide) (off := 101) (by rfl) (by decide) ?_
    refine aw_iload_n (n := 115) dX3_worth_114 rfl 3 rfl rfl ?_
    refine aw_i2l (n := 116) dX3_worth_115 rfl rfl ?_
    exact aw_lret dX3_worth_116 rfl ⟨congrArg some (congrArg Value.long (by simp [woT] <;> (try (intros; omega)))), rfl⟩ ⟨Nat.zero_le _, Nat.zero_le _⟩
  · skip
    obtain ⟨ha, ha2⟩ := hN.2.2.2.1 (by decide)
    refine aw_aload_n (n := 1) dX3_worth_0 rfl 0 rfl rfl ?_
    refine aw_getf (n := 4) (v := .ref (b + 6)) (C0 := RX3) (T := TX3) dX3_worth_1 rfl 10 q2651 (Or.inl rfl) hT.1 rfl rfl ?_
    refine aw_iload_n (n := 5) dX3_worth_4 rfl 1 rfl rfl ?_
    refine aw_iald (n := 6) (v := .int (ms.2.1 10 n)) dX3_worth_5 rfl n rfl hT.a10 (by omega) (by decide) rfl rfl ?_
    refine aw_istore_n (n := 7) (lv' := [(3, .int (ms.2.1 10 n)), (0, .ref b), (1, .int (nI n)), (2, .int (nI i))]) dX3_worth_6 rfl (by decide) rfl rfl ?_
    refine aw_aload_n (n := 8) dX3_worth_7 rfl 1 rfl rfl ?_
    refine aw_getf (n := 11) (v := .ref (b + 5)) (C0 := RX3) (T := TX3) dX3_worth_8 rfl 9 q2650 (Or.inl rfl) hT.1 rfl rfl ?_
    refine aw_iload_n (n := 12) dX3_worth_11 rfl 2 rfl rfl ?_
    refine aw_iald (n := 13) (v := .int (ms.2.1 9 n)) dX3_worth_12 rfl n rfl hT.a9 (by omega) (by decide) rfl rfl ?_
    refine AW.sts (st' := [.int (nI 25)]) (by rw [show ms.2.1 9 n = nI 25 from hN.2.2.1]) ?_
    refine aw_tableIn (tgt := 117) dX3_worth_13 (by decide) (by decide) (off := 104) (by rfl) (by decide) ?_
    refine aw_aload_n (n := 118) dX3_worth_117 rfl 1 rfl rfl ?_
    refine aw_iload_n (n := 119) dX3_worth_118 rfl 0 rfl rfl ?_
    refine aw_iload_n (n := 120) dX3_worth_119 rfl 3 rfl rfl ?_
    refine AW.sts (st' := [.int (nI i), .int (nI a), .ref b]) (by rw [show ms.2.1 10 n = nI a from ha]) ?_
    refine aw_callV (n := 123) (C0 := RX3) (As := [.int (nI a), .int (nI i)]) (rest := []) (K2 := kX3_at) dX3_worth_120 q3060 q3062 qs92 q113 q3063 ⟨rfl, hcX3_at⟩ rfl hT.1 (ct_at G h b ms hb hT a i (by omega) (by omega)) rfl (Nat.le_of_ble_eq_true rfl) ⟨Nat.le_of_ble_eq_true rfl, Nat.le_of_ble_eq_true rfl⟩ ⟨Nat.zero_le _, Nat.zero_le _⟩ (fun _ _ _ z => z.elim) rfl (fun r_120 h_120 q_120 => ?_)
    obtain ⟨rfl, rfl⟩ := q_120
    refine AW.sts (st' := [.long (tb ms a i)]) rfl ?_
    refine aw_lneg (n := 124) dX3_worth_123 rfl ?_
    exact aw_lret dX3_worth_124 rfl ⟨congrArg some (congrArg Value.long (by simp [woT] <;> (try (intros; omega)))), rfl⟩ ⟨Nat.zero_le _, Nat.zero_le _⟩
  · skip
    obtain ⟨ha, ha2⟩ := hN.2.2.2.1 (by decide)
    refine aw_aload_n (n := 1) dX3_worth_0 rfl 0 rfl rfl ?_
    refine aw_getf (n := 4) (v := .ref (b + 6)) (C0 := RX3) (T := TX3) dX3_worth_1 rfl 10 q2651 (Or.inl rfl) hT.1 rfl rfl ?_
    refine aw_iload_n (n := 5) dX3_worth_4 rfl 1 rfl rfl ?_
    refine aw_iald (n := 6) (v := .int (ms.2.1 10 n)) dX3_worth_5 rfl n rfl hT.a10 (by omega) (by decide) rfl rfl ?_
    refine aw_istore_n (n := 7) (lv' := [(3, .int (ms.2.1 10 n)), (0, .ref b), (1, .int (nI n)), (2, .int (nI i))]) dX3_worth_6 rfl (by decide) rfl rfl ?_
    refine aw_aload_n (n := 8) dX3_worth_7 rfl 1 rfl rfl ?_
    refine aw_getf (n := 11) (v := .ref (b + 5)) (C0 := RX3) (T := TX3) dX3_worth_8 rfl 9 q2650 (Or.inl rfl) hT.1 rfl rfl ?_
    refine aw_iload_n (n := 12) dX3_worth_11 rfl 2 rfl rfl ?_
    refine aw_iald (n := 13) (v := .int (ms.2.1 9 n)) dX3_worth_12 rfl n rfl hT.a9 (by omega) (by decide) rfl rfl ?_
    refine AW.sts (st' := [.int (nI 26)]) (by rw [show ms.2.1 9 n = nI 26 from hN.2.2.1]) ?_
    refine aw_tableIn (tgt := 125) dX3_worth_13 (by decide) (by decide) (off := 112) (by rfl) (by decide) ?_
    refine aw_iload_n (n := 126) dX3_worth_125 rfl 3 rfl rfl ?_
    refine aw_if_ne (n := 129) (tgt := 133) dX3_worth_126 (by decide) rfl (fun c_126 => ?_) (fun c_126 => ?_)
    · skip
      have n_126 : ¬ (i = 0) := fun z => c_126 (by have y := (nI_eq (a := i) (b := 0) (by omega) (by omega)).mpr z; rw [← ((by rfl) : (0 : Int32) = nI 0)] at y; exact y)
      refine aw_aload_n (n := 134) dX3_worth_133 rfl 1 rfl rfl ?_
      refine aw_iload_n (n := 135) dX3_worth_134 rfl 0 rfl rfl ?_
      refine aw_iload_n (n := 136) dX3_worth_135 rfl 3 rfl rfl ?_
      refine aw_iconst (n := 137) (v := 1) dX3_worth_136 (by decide) rfl ?_
      refine aw_isub (n := 138) dX3_worth_137 rfl ?_
      refine AW.sts (st' := [.int (nI (i - 1)), .int (ms.2.1 10 n), .ref b]) (by rw [show (nI i) - 1 = nI (i - 1) from (by exact (pk_sub (b := 1) (by omega)))]) ?_
      refine AW.sts (st' := [.int (nI (i - 1)), .int (nI a), .ref b]) (by rw [show ms.2.1 10 n = nI a from ha]) ?_
      refine aw_callV (n := 141) (C0 := RX3) (As := [.int (nI a), .int (nI (i - 1))]) (rest := []) (K2 := kX3_at) dX3_worth_138 q3060 q3062 qs92 q113 q3063 ⟨rfl, hcX3_at⟩ rfl hT.1 (ct_at G h b ms hb hT a (i - 1) (by omega) (by omega)) rfl (Nat.le_of_ble_eq_true rfl) ⟨Nat.le_of_ble_eq_true rfl, Nat.le_of_ble_eq_true rfl⟩ ⟨Nat.zero_le _, Nat.zero_le _⟩ (fun _ _ _ z => z.elim) rfl (fun r_138 h_138 q_138 => ?_)
      obtain ⟨rfl, rfl⟩ := q_138
      refine AW.sts (st' := [.long (tb ms a (i - 1))]) rfl ?_
      exact aw_lret dX3_worth_141 rfl ⟨congrArg some (congrArg Value.long (by simp [woT, n_126, c_126] <;> (try (intros; omega)))), rfl⟩ ⟨Nat.zero_le _, Nat.zero_le _⟩
    · skip
      have n_126 : i = 0 := (nI_eq (a := i) (b := 0) (by omega) (by omega)).mp (by rw [← ((by rfl) : (0 : Int32) = nI 0)]; exact c_126)
      refine aw_lconst (n := 130) (v := 0) dX3_worth_129 (by decide) rfl ?_
      refine aw_goto (tgt := 141) dX3_worth_130 (by decide) ?_
      exact aw_lret dX3_worth_141 rfl ⟨congrArg some (congrArg Value.long (by simp [woT, c_126] <;> (try (intros; omega)))), rfl⟩ ⟨Nat.zero_le _, Nat.zero_le _⟩
  · skip
    obtain ⟨ha, ha2⟩ := hN.2.2.2.1 (by decide)
    refine aw_aload_n (n := 1) dX3_worth_0 rfl 0 rfl rfl ?_
    refine aw_getf (n := 4) (v := .ref (b + 6)) (C0 := RX3) (T := TX3) dX3_worth_1 rfl 10 q2651 (Or.inl rfl) hT.1 rfl rfl ?_
    refine aw_iload_n (n := 5) dX3_worth_4 rfl 1 rfl rfl ?_
    refine aw_iald (n := 6) (v := .int (ms.2.1 10 n)) dX3_worth_5 rfl n rfl hT.a10 (by omega) (by decide) rfl rfl ?_
    refine aw_istore_n (n := 7) (lv' := [(3, .int (ms.2.1 10 n)), (0, .ref b), (1, .int (nI n)), (2, .int (nI i))]) dX3_worth_6 rfl (by decide) rfl rfl ?_
    refine aw_aload_n (n := 8) dX3_worth_7 rfl 1 rfl rfl ?_
    refine aw_getf (n := 11) (v := .ref (b + 5)) (C0 := RX3) (T := TX3) dX3_worth_8 rfl 9 q2650 (Or.inl rfl) hT.1 rfl rfl ?_
    refine aw_iload_n (n := 12) dX3_worth_11 rfl 2 rfl rfl ?_
    refine aw_iald (n := 13) (v := .int (ms.2.1 9 n)) dX3_worth_12 rfl n rfl hT.a9 (by omega) (by decide) rfl rfl ?_
    refine AW.sts (st' := [.int (nI 27)]) (by rw [show ms.2.1 9 n = nI 27 from hN.2.2.1]) ?_
    refine aw_tableIn (tgt := 142) dX3_worth_13 (by decide) (by decide) (off := 129) (by rfl) (by decide) ?_
    refine aw_aload_n (n := 143) dX3_worth_142 rfl 1 rfl rfl ?_
    refine aw_aload_n (n := 144) dX3_worth_143 rfl 1 rfl rfl ?_
    refine aw_getf (n := 147) (v := .ref (b + 5)) (C0 := RX3) (T := TX3) dX3_worth_144 rfl 9 q2650 (Or.inl rfl) hT.1 rfl rfl ?_
    refine aw_iload_n (n := 148) dX3_worth_147 rfl 2 rfl rfl ?_
    refine aw_iald (n := 149) (v := .int (ms.2.1 9 n)) dX3_worth_148 rfl n rfl hT.a9 (by omega) (by decide) rfl rfl ?_
    refine aw_iload_n (n := 150) dX3_worth_149 rfl 0 rfl rfl ?_
    refine aw_iload_n (n := 151) dX3_worth_150 rfl 3 rfl rfl ?_
    refine AW.sts (st' := [.int (nI i), .int (nI a), .int (ms.2.1 9 n), .ref b]) (by rw [show ms.2.1 10 n = nI a from ha]) ?_
    refine AW.sts (st' := [.int (nI i), .int (nI a), .int (nI 27), .ref b]) (by rw [show ms.2.1 9 n = nI 27 from hN.2.2.1]) ?_
    refine aw_callV (n := 154) (C0 := RX3) (As := [.int (nI 27), .int (nI a), .int (nI i)]) (rest := []) (K2 := kX3_overAll) dX3_worth_151 q3086 q3088 qs97 q113 q3089 ⟨rfl, hcX3_overAll⟩ rfl hT.1 (ct_overAll G h b ms hb hT 27 a i (by decide) (by decide) ha2 hi) rfl (Nat.le_of_ble_eq_true rfl) ⟨Nat.le_of_ble_eq_true rfl, Nat.le_of_ble_eq_true rfl⟩ ⟨Nat.zero_le _, Nat.zero_le _⟩ (fun _ _ _ z => z.elim) rfl (fun r_151 h_151 q_151 => ?_)
    obtain ⟨rfl, rfl⟩ := q_151
    refine AW.sts (st' := [.long (ovU 27 (tb ms a) i)]) rfl ?_
    exact aw_lret dX3_worth_154 rfl ⟨congrArg some (congrArg Value.long (by simp [woT] <;> (try (intros; omega)))), rfl⟩ ⟨Nat.zero_le _, Nat.zero_le _⟩
  · skip
    obtain ⟨ha, ha2⟩ := hN.2.2.2.1 (by decide)
    refine aw_aload_n (n := 1) dX3_worth_0 rfl 0 rfl rfl ?_
    refine aw_getf (n := 4) (v := .ref (b + 6)) (C0 := RX3) (T := TX3) dX3_worth_1 rfl 10 q2651 (Or.inl rfl) hT.1 rfl rfl ?_
    refine aw_iload_n (n := 5) dX3_worth_4 rfl 1 rfl rfl ?_
    refine aw_iald (n := 6) (v := .int (ms.2.1 10 n)) dX3_worth_5 rfl n rfl hT.a10 (by omega) (by decide) rfl rfl ?_
    refine aw_istore_n (n := 7) (lv' := [(3, .int (ms.2.1 10 n)), (0, .ref b), (1, .int (nI n)), (2, .int (nI i))]) dX3_worth_6 rfl (by decide) rfl rfl ?_
    refine aw_aload_n (n := 8) dX3_worth_7 rfl 1 rfl rfl ?_
    refine aw_getf (n := 11) (v := .ref (b + 5)) (C0 := RX3) (T := TX3) dX3_worth_8 rfl 9 q2650 (Or.inl rfl) hT.1 rfl rfl ?_
    refine aw_iload_n (n := 12) dX3_worth_11 rfl 2 rfl rfl ?_
    refine aw_iald (n := 13) (v := .int (ms.2.1 9 n)) dX3_worth_12 rfl n rfl hT.a9 (by omega) (by decide) rfl rfl ?_
    refine AW.sts (st' := [.int (nI 28)]) (by rw [show ms.2.1 9 n = nI 28 from hN.2.2.1]) ?_
    refine aw_tableIn (tgt := 142) dX3_worth_13 (by decide) (by decide) (off := 129) (by rfl) (by decide) ?_
    refine aw_aload_n (n := 143) dX3_worth_142 rfl 1 rfl rfl ?_
    refine aw_aload_n (n := 144) dX3_worth_143 rfl 1 rfl rfl ?_
    refine aw_getf (n := 147) (v := .ref (b + 5)) (C0 := RX3) (T := TX3) dX3_worth_144 rfl 9 q2650 (Or.inl rfl) hT.1 rfl rfl ?_
    refine aw_iload_n (n := 148) dX3_worth_147 rfl 2 rfl rfl ?_
    refine aw_iald (n := 149) (v := .int (ms.2.1 9 n)) dX3_worth_148 rfl n rfl hT.a9 (by omega) (by decide) rfl rfl ?_
    refine aw_iload_n (n := 150) dX3_worth_149 rfl 0 rfl rfl ?_
    refine aw_iload_n (n := 151) dX3_worth_150 rfl 3 rfl rfl ?_
    refine AW.sts (st' := [.int (nI i), .int (nI a), .int (ms.2.1 9 n), .ref b]) (by rw [show ms.2.1 10 n = nI a from ha]) ?_
    refine AW.sts (st' := [.int (nI i), .int (nI a), .int (nI 28), .ref b]) (by rw [show ms.2.1 9 n = nI 28 from hN.2.2.1]) ?_
    refine aw_callV (n := 154) (C0 := RX3) (As := [.int (nI 28), .int (nI a), .int (nI i)]) (rest := []) (K2 := kX3_overAll) dX3_worth_151 q3086 q3088 qs97 q113 q3089 ⟨rfl, hcX3_overAll⟩ rfl hT.1 (ct_overAll G h b ms hb hT 28 a i (by decide) (by decide) ha2 hi) rfl (Nat.le_of_ble_eq_true rfl) ⟨Nat.le_of_ble_eq_true rfl, Nat.le_of_ble_eq_true rfl⟩ ⟨Nat.zero_le _, Nat.zero_le _⟩ (fun _ _ _ z => z.elim) rfl (fun r_151 h_151 q_151 => ?_)
    obtain ⟨rfl, rfl⟩ := q_151
    refine AW.sts (st' := [.long (ovU 28 (tb ms a) i)]) rfl ?_
    exact aw_lret dX3_worth_154 rfl ⟨congrArg some (congrArg Value.long (by simp [woT] <;> (try (intros; omega)))), rfl⟩ ⟨Nat.zero_le _, Nat.zero_le _⟩
  · skip
    obtain ⟨ha, ha2⟩ := hN.2.2.2.1 (by decide)
    refine aw_aload_n (n := 1) dX3_worth_0 rfl 0 rfl rfl ?_
    refine aw_getf (n := 4) (v := .ref (b + 6)) (C0 := RX3) (T := TX3) dX3_worth_1 rfl 10 q2651 (Or.inl rfl) hT.1 rfl rfl ?_
    refine aw_iload_n (n := 5) dX3_worth_4 rfl 1 rfl rfl ?_
    refine aw_iald (n := 6) (v := .int (ms.2.1 10 n)) dX3_worth_5 rfl n rfl hT.a10 (by omega) (by decide) rfl rfl ?_
    refine aw_istore_n (n := 7) (lv' := [(3, .int (ms.2.1 10 n)), (0, .ref b), (1, .int (nI n)), (2, .int (nI i))]) dX3_worth_6 rfl (by decide) rfl rfl ?_
    refine aw_aload_n (n := 8) dX3_worth_7 rfl 1 rfl rfl ?_
    refine aw_getf (n := 11) (v := .ref (b + 5)) (C0 := RX3) (T := TX3) dX3_worth_8 rfl 9 q2650 (Or.inl rfl) hT.1 rfl rfl ?_
    refine aw_iload_n (n := 12) dX3_worth_11 rfl 2 rfl rfl ?_
    refine aw_iald (n := 13) (v := .int (ms.2.1 9 n)) dX3_worth_12 rfl n rfl hT.a9 (by omega) (by decide) rfl rfl ?_
    refine AW.sts (st' := [.int (nI 29)]) (by rw [show ms.2.1 9 n = nI 29 from hN.2.2.1]) ?_
    refine aw_tableIn (tgt := 142) dX3_worth_13 (by decide) (by decide) (off := 129) (by rfl) (by decide) ?_
    refine aw_aload_n (n := 143) dX3_worth_142 rfl 1 rfl rfl ?_
    refine aw_aload_n (n := 144) dX3_worth_143 rfl 1 rfl rfl ?_
    refine aw_getf (n := 147) (v := .ref (b + 5)) (C0 := RX3) (T := TX3) dX3_worth_144 rfl 9 q2650 (Or.inl rfl) hT.1 rfl rfl ?_
    refine aw_iload_n (n := 148) dX3_worth_147 rfl 2 rfl rfl ?_
    refine aw_iald (n := 149) (v := .int (ms.2.1 9 n)) dX3_worth_148 rfl n rfl hT.a9 (by omega) (by decide) rfl rfl ?_
    refine aw_iload_n (n := 150) dX3_worth_149 rfl 0 rfl rfl ?_
    refine aw_iload_n (n := 151) dX3_worth_150 rfl 3 rfl rfl ?_
    refine AW.sts (st' := [.int (nI i), .int (nI a), .int (ms.2.1 9 n), .ref b]) (by rw [show ms.2.1 10 n = nI a from ha]) ?_
    refine AW.sts (st' := [.int (nI i), .int (nI a), .int (nI 29), .ref b]) (by rw [show ms.2.1 9 n = nI 29 from hN.2.2.1]) ?_
    refine aw_callV (n := 154) (C0 := RX3) (As := [.int (nI 29), .int (nI a), .int (nI i)]) (rest := []) (K2 := kX3_overAll) dX3_worth_151 q3086 q3088 qs97 q113 q3089 ⟨rfl, hcX3_overAll⟩ rfl hT.1 (ct_overAll G h b ms hb hT 29 a i (by decide) (by decide) ha2 hi) rfl (Nat.le_of_ble_eq_true rfl) ⟨Nat.le_of_ble_eq_true rfl, Nat.le_of_ble_eq_true rfl⟩ ⟨Nat.zero_le _, Nat.zero_le _⟩ (fun _ _ _ z => z.elim) rfl (fun r_151 h_151 q_151 => ?_)
    obtain ⟨rfl, rfl⟩ := q_151
    refine AW.sts (st' := [.long (ovU 29 (tb ms a) i)]) rfl ?_
    exact aw_lret dX3_worth_154 rfl ⟨congrArg some (congrArg Value.long (by simp [woT] <;> (try (intros; omega)))), rfl⟩ ⟨Nat.zero_le _, Nat.zero_le _⟩
  · skip
    obtain ⟨ha, ha2⟩ := hN.2.2.2.1 (by decide)
    refine aw_aload_n (n := 1) dX3_worth_0 rfl 0 rfl rfl ?_
    refine aw_getf (n := 4) (v := .ref (b + 6)) (C0 := RX3) (T := TX3) dX3_worth_1 rfl 10 q2651 (Or.inl rfl) hT.1 rfl rfl ?_
    refine aw_iload_n (n := 5) dX3_worth_4 rfl 1 rfl rfl ?_
    refine aw_iald (n := 6) (v := .int (ms.2.1 10 n)) dX3_worth_5 rfl n rfl hT.a10 (by omega) (by decide) rfl rfl ?_
    refine aw_istore_n (n := 7) (lv' := [(3, .int (ms.2.1 10 n)), (0, .ref b), (1, .int (nI n)), (2, .int (nI i))]) dX3_worth_6 rfl (by decide) rfl rfl ?_
    refine aw_aload_n (n := 8) dX3_worth_7 rfl 1 rfl rfl ?_
    refine aw_getf (n := 11) (v := .ref (b + 5)) (C0 := RX3) (T := TX3) dX3_worth_8 rfl 9 q2650 (Or.inl rfl) hT.1 rfl rfl ?_
    refine aw_iload_n (n := 12) dX3_worth_11 rfl 2 rfl rfl ?_
    refine aw_iald (n := 13) (v := .int (ms.2.1 9 n)) dX3_worth_12 rfl n rfl hT.a9 (by omega) (by decide) rfl rfl ?_
    refine AW.sts (st' := [.int (nI 30)]) (by rw [show ms.2.1 9 n = nI 30 from hN.2.2.1]) ?_
    refine aw_tableIn (tgt := 155) dX3_worth_13 (by decide) (by decide) (off := 142) (by rfl) (by decide) ?_
    refine aw_lconst (n := 156) (v := 0) dX3_worth_155 (by decide) rfl ?_
    refine aw_lstore (n := 158) (lv' := [(4, .long 0), (3, .int (ms.2.1 10 n)), (0, .ref b), (1, .int (nI n)), (2, .int (nI i))]) dX3_worth_156 (by decide) rfl rfl ?_
    refine aw_iconst (n := 159) (v := 0) dX3_worth_158 (by decide) rfl ?_
    refine aw_istore (n := 161) (lv' := [(6, .int 0), (4, .long 0), (3, .int (ms.2.1 10 n)), (0, .ref b), (1, .int (nI n)), (2, .int (nI i))]) dX3_worth_159 (by decide) rfl rfl ?_
    suffices L_161 : ∀ (m_ : Nat) (c9 : Nat) (hc9 : c9 ≤ i + 1), i + 1 - c9 < m_ → AW G kX3_worth ((4, 68, 0, 0), (fun r h1 => r = some (.long (woT ms 30 (ms.2.1 10 n) a c cq i)) ∧ h = h1), nX) 161 [(6, .int (nI c9)), (4, .long (sumU (tb ms a) c9)), (3, .int (ms.2.1 10 n)), (0, .ref b), (1, .int (nI n)), (2, .int (nI i))] [] h 0 0 from
      AW.lvs (lv' := [(6, .int 0), (4, .long 0), (3, .int (ms.2.1 10 n)), (0, .ref b), (1, .int (nI n)), (2, .int (nI i))]) (AW.eq (lv2 := _) (rfl) rfl rfl rfl rfl (L_161 _ 0 (by omega) (Nat.lt_succ_self _))) (by simp)
    intro m_
    induction m_ with
    | zero => intro c9 hc9 h_m; exact absurd h_m (Nat.not_lt_zero _)
    | succ m_ ih_161 =>
      intro c9 hc9 h_m
      refine aw_iload (n := 163) dX3_worth_161 0 rfl rfl ?_
      refine aw_iload_n (n := 164) dX3_worth_163 rfl 5 rfl rfl ?_
      refine aw_icmp_gt (n := 167) (tgt := 185) dX3_worth_164 (by decide) rfl (fun c_164 => ?_) (fun c_164 => ?_)
      · skip
        have n_164 : i < c9 := (nI_ltI (a := i) (b := c9) (by omega) (by omega)).mp (by exact c_164)
        refine aw_lload (n := 187) dX3_worth_185 1 rfl rfl ?_
        exact aw_lret dX3_worth_187 rfl ⟨congrArg some (congrArg Value.long (by rw [show c9 = i + 1 by omega]; rfl)), rfl⟩ ⟨Nat.zero_le _, Nat.zero_le _⟩
      · skip
        have n_164 : ¬ (i < c9) := fun z => c_164 (by have y := (nI_ltI (a := i) (b := c9) (by omega) (by omega)).mpr z; exact y)
        refine aw_lload (n := 169) dX3_worth_167 1 rfl rfl ?_
        refine aw_aload_n (n := 170) dX3_worth_169 rfl 3 rfl rfl ?_
        refine aw_iload_n (n := 171) dX3_worth_170 rfl 2 rfl rfl ?_
        refine aw_iload (n := 173) dX3_worth_171 0 rfl rfl ?_
        refine AW.sts (st' := [.int (nI c9), .int (nI a), .ref b, .long (sumU (tb ms a) c9)]) (by rw [show ms.2.1 10 n = nI a from ha]) ?_
        refine aw_callV (n := 176) (C0 := RX3) (As := [.int (nI a), .int (nI c9)]) (rest := [.long (sumU (tb ms a) c9)]) (K2 := kX3_at) dX3_worth_173 q3060 q3062 qs92 q113 q3063 ⟨rfl, hcX3_at⟩ rfl hT.1 (ct_at G h b ms hb hT a c9 (by omega) (by omega)) rfl (Nat.le_of_ble_eq_true rfl) ⟨Nat.le_of_ble_eq_true rfl, Nat.le_of_ble_eq_true rfl⟩ ⟨Nat.zero_le _, Nat.zero_le _⟩ (fun _ _ _ z => z.elim) rfl (fun r_173 h_173 q_173 => ?_)
        obtain ⟨rfl, rfl⟩ := q_173
        refine AW.sts (st' := [.long (tb ms a c9), .long (sumU (tb ms a) c9)]) rfl ?_
        refine aw_ladd (n := 177) dX3_worth_176 rfl ?_
        refine aw_lstore (n := 179) (lv' := [(4, .long ((sumU (tb ms a) c9) + (tb ms a c9))), (6, .int (nI c9)), (3, .int (ms.2.1 10 n)), (0, .ref b), (1, .int (nI n)), (2, .int (nI i))]) dX3_worth_177 (by decide) rfl rfl ?_
        refine aw_iinc (n := 182) (v := nI (c9 + 1)) (lv' := [(6, .int (nI (c9 + 1))), (4, .long ((sumU (tb ms a) c9) + (tb ms a c9))), (3, .int (ms.2.1 10 n)), (0, .ref b), (1, .int (nI n)), (2, .int (nI i))]) dX3_worth_179 1 rfl (by rw [show nI c9 = nI c9 from rfl]; exact nI_1 _) (by decide) rfl rfl ?_
        refine aw_goto (tgt := 161) dX3_worth_182 (by decide) ?_
        exact AW.lvs (lv' := [(6, .int (nI (c9 + 1))), (4, .long ((sumU (tb ms a) c9) + (tb ms a c9))), (3, .int (ms.2.1 10 n)), (0, .ref b), (1, .int (nI n)), (2, .int (nI i))]) (AW.eq (lv2 := _) (by simp [sumU]) rfl rfl rfl rfl (ih_161 (c9 + 1) (by omega) (by omega))) (by simp)
  · skip
    obtain ⟨ha, ha2⟩ := hN.2.2.2.1 (by decide)
    refine aw_aload_n (n := 1) dX3_worth_0 rfl 0 rfl rfl ?_
    refine aw_getf (n := 4) (v := .ref (b + 6)) (C0 := RX3) (T := TX3) dX3_worth_1 rfl 10 q2651 (Or.inl rfl) hT.1 rfl rfl ?_
    refine aw_iload_n (n := 5) dX3_worth_4 rfl 1 rfl rfl ?_
    refine aw_iald (n := 6) (v := .int (ms.2.1 10 n)) dX3_worth_5 rfl n rfl hT.a10 (by omega) (by decide) rfl rfl ?_
    refine aw_istore_n (n := 7) (lv' := [(3, .int (ms.2.1 10 n)), (0, .ref b), (1, .int (nI n)), (2, .int (nI i))]) dX3_worth_6 rfl (by decide) rfl rfl ?_
    refine aw_aload_n (n := 8) dX3_worth_7 rfl 1 rfl rfl ?_
    refine aw_getf (n := 11) (v := .ref (b + 5)) (C0 := RX3) (T := TX3) dX3_worth_8 rfl 9 q2650 (Or.inl rfl) hT.1 rfl rfl ?_
    refine aw_iload_n (n := 12) dX3_worth_11 rfl 2 rfl rfl ?_
    refine aw_iald (n := 13) (v := .int (ms.2.1 9 n)) dX3_worth_12 rfl n rfl hT.a9 (by omega) (by decide) rfl rfl ?_
    refine AW.sts (st' := [.int (nI 31)]) (by rw [show ms.2.1 9 n = nI 31 from hN.2.2.1]) ?_
    refine aw_tableIn (tgt := 188) dX3_worth_13 (by decide) (by decide) (off := 175) (by rfl) (by decide) ?_
    refine aw_aload_n (n := 189) dX3_worth_188 rfl 1 rfl rfl ?_
    refine aw_iload_n (n := 190) dX3_worth_189 rfl 0 rfl rfl ?_
    refine aw_iload_n (n := 191) dX3_worth_190 rfl 3 rfl rfl ?_
    refine AW.sts (st' := [.int (nI i), .int (nI a), .ref b]) (by rw [show ms.2.1 10 n = nI a from ha]) ?_
    refine aw_callV (n := 194) (C0 := RX3) (As := [.int (nI a), .int (nI i)]) (rest := []) (K2 := kX3_lastHolding) dX3_worth_191 q3092 q3094 qs98 q113 q3095 ⟨rfl, hcX3_lastHolding⟩ rfl hT.1 (ct_lastHolding G h b ms hb hT a i (by omega) (by omega)) rfl (Nat.le_of_ble_eq_true rfl) ⟨Nat.le_of_ble_eq_true rfl, Nat.le_of_ble_eq_true rfl⟩ ⟨Nat.zero_le _, Nat.zero_le _⟩ (fun _ _ _ z => z.elim) rfl (fun r_191 h_191 q_191 => ?_)
    obtain ⟨rfl, rfl⟩ := q_191
    refine AW.sts (st' := [.int (lhT ms a i)]) rfl ?_
    refine aw_iconst (n := 195) (v := (-1)) dX3_worth_194 (by decide) rfl ?_
    refine aw_icmp_ne (n := 198) (tgt := 204) dX3_worth_195 (by decide) rfl (fun c_195 => ?_) (fun c_195 => ?_)
    · skip
      obtain ⟨l9, hl9, hl92⟩ := lhT_in ms a i c_195
      have hl93 : nN (lhT ms a i) = l9 := by rw [hl9]; exact nN_nI (by omega)
      refine aw_aload_n (n := 205) dX3_worth_204 rfl 1 rfl rfl ?_
      refine aw_getf (n := 208) (v := .ref (b + 20)) (C0 := RX3) (T := TX3) dX3_worth_205 rfl 30 q2671 (Or.inl rfl) hT.1 rfl rfl ?_
      refine aw_iload_n (n := 209) dX3_worth_208 rfl 3 rfl rfl ?_
      refine aw_iald (n := 210) (v := .int (ms.2.1 30 i)) dX3_worth_209 rfl i rfl hT.a30 (by omega) (by decide) rfl rfl ?_
      refine aw_aload_n (n := 211) dX3_worth_210 rfl 1 rfl rfl ?_
      refine aw_getf (n := 214) (v := .ref (b + 20)) (C0 := RX3) (T := TX3) dX3_worth_211 rfl 30 q2671 (Or.inl rfl) hT.1 rfl rfl ?_
      refine aw_aload_n (n := 215) dX3_worth_214 rfl 1 rfl rfl ?_
      refine aw_iload_n (n := 216) dX3_worth_215 rfl 0 rfl rfl ?_
      refine aw_iload_n (n := 217) dX3_worth_216 rfl 3 rfl rfl ?_
      refine AW.sts (st' := [.int (nI i), .int (nI a), .ref b, .ref (b + 20), .int (ms.2.1 30 i)]) (by rw [show ms.2.1 10 n = nI a from ha]) ?_
      refine aw_callV (n := 220) (C0 := RX3) (As := [.int (nI a), .int (nI i)]) (rest := [.ref (b + 20), .int (ms.2.1 30 i)]) (K2 := kX3_lastHolding) dX3_worth_217 q3092 q3094 qs98 q113 q3095 ⟨rfl, hcX3_lastHolding⟩ rfl hT.1 (ct_lastHolding G h b ms hb hT a i (by omega) (by omega)) rfl (Nat.le_of_ble_eq_true rfl) ⟨Nat.le_of_ble_eq_true rfl, Nat.le_of_ble_eq_true rfl⟩ ⟨Nat.zero_le _, Nat.zero_le _⟩ (fun _ _ _ z => z.elim) rfl (fun r_217 h_217 q_217 => ?_)
      obtain ⟨rfl, rfl⟩ := q_217
      refine AW.sts (st' := [.int (lhT ms a i), .ref (b + 20), .int (ms.2.1 30 i)]) rfl ?_
      refine aw_iald (n := 221) (v := .int (ms.2.1 30 l9)) dX3_worth_220 rfl l9 hl9 hT.a30 (by omega) (by decide) rfl rfl ?_
      refine aw_isub (n := 222) dX3_worth_221 rfl ?_
      refine aw_i2l (n := 223) dX3_worth_222 rfl rfl ?_
      exact aw_lret dX3_worth_223 rfl ⟨congrArg some (congrArg Value.long (by simp [woT, c_195, hl93, c_195] <;> (try (intros; omega)))), rfl⟩ ⟨Nat.zero_le _, Nat.zero_le _⟩
    · skip
      refine aw_ldc2 (n := 201) (v := -1) dX3_worth_198 q3096 rfl ?_
      refine aw_goto (tgt := 223) dX3_worth_201 (by decide) ?_
      exact aw_lret dX3_worth_223 rfl ⟨congrArg some (congrArg Value.long (by simp [woT, c_195] <;> (try (intros; omega)))), rfl⟩ ⟨Nat.zero_le _, Nat.zero_le _⟩
  · skip
    obtain ⟨ha, ha2⟩ := hN.2.2.2.1 (by decide)
    obtain ⟨hc, hc2⟩ := hN.2.2.2.2.1 (by decide)
    refine aw_aload_n (n := 1) dX3_worth_0 rfl 0 rfl rfl ?_
    refine aw_getf (n := 4) (v := .ref (b + 6)) (C0 := RX3) (T := TX3) dX3_worth_1 rfl 10 q2651 (Or.inl rfl) hT.1 rfl rfl ?_
    refine aw_iload_n (n := 5) dX3_worth_4 rfl 1 rfl rfl ?_
    refine aw_iald (n := 6) (v := .int (ms.2.1 10 n)) dX3_worth_5 rfl n rfl hT.a10 (by omega) (by decide) rfl rfl ?_
    refine aw_istore_n (n := 7) (lv' := [(3, .int (ms.2.1 10 n)), (0, .ref b), (1, .int (nI n)), (2, .int (nI i))]) dX3_worth_6 rfl (by decide) rfl rfl ?_
    refine aw_aload_n (n := 8) dX3_worth_7 rfl 1 rfl rfl ?_
    refine aw_getf (n := 11) (v := .ref (b + 5)) (C0 := RX3) (T := TX3) dX3_worth_8 rfl 9 q2650 (Or.inl rfl) hT.1 rfl rfl ?_
    refine aw_iload_n (n := 12) dX3_worth_11 rfl 2 rfl rfl ?_
    refine aw_iald (n := 13) (v := .int (ms.2.1 9 n)) dX3_worth_12 rfl n rfl hT.a9 (by omega) (by decide) rfl rfl ?_
    refine AW.sts (st' := [.int (nI 32)]) (by rw [show ms.2.1 9 n = nI 32 from hN.2.2.1]) ?_
    refine aw_tableIn (tgt := 224) dX3_worth_13 (by decide) (by decide) (off := 211) (by rfl) (by decide) ?_
    refine aw_aload_n (n := 225) dX3_worth_224 rfl 1 rfl rfl ?_
    refine aw_iload_n (n := 226) dX3_worth_225 rfl 0 rfl rfl ?_
    refine aw_iload_n (n := 227) dX3_worth_226 rfl 3 rfl rfl ?_
    refine AW.sts (st' := [.int (nI i), .int (nI a), .ref b]) (by rw [show ms.2.1 10 n = nI a from ha]) ?_
    refine aw_callV (n := 230) (C0 := RX3) (As := [.int (nI a), .int (nI i)]) (rest := []) (K2 := kX3_lastHolding) dX3_worth_227 q3092 q3094 qs98 q113 q3095 ⟨rfl, hcX3_lastHolding⟩ rfl hT.1 (ct_lastHolding G h b ms hb hT a i (by omega) (by omega)) rfl (Nat.le_of_ble_eq_true rfl) ⟨Nat.le_of_ble_eq_true rfl, Nat.le_of_ble_eq_true rfl⟩ ⟨Nat.zero_le _, Nat.zero_le _⟩ (fun _ _ _ z => z.elim) rfl (fun r_227 h_227 q_227 => ?_)
    obtain ⟨rfl, rfl⟩ := q_227
    refine AW.sts (st' := [.int (lhT ms a i)]) rfl ?_
    refine aw_iconst (n := 231) (v := (-1)) dX3_worth_230 (by decide) rfl ?_
    refine aw_icmp_ne (n := 234) (tgt := 238) dX3_worth_231 (by decide) rfl (fun c_231 => ?_) (fun c_231 => ?_)
    · skip
      obtain ⟨l9, hl9, hl92⟩ := lhT_in ms a i c_231
      have hl93 : nN (lhT ms a i) = l9 := by rw [hl9]; exact nN_nI (by omega)
      refine aw_aload_n (n := 239) dX3_worth_238 rfl 1 rfl rfl ?_
      refine aw_aload_n (n := 240) dX3_worth_239 rfl 1 rfl rfl ?_
      refine aw_getf (n := 243) (v := .ref (b + 7)) (C0 := RX3) (T := TX3) dX3_worth_240 rfl 11 q2652 (Or.inl rfl) hT.1 rfl rfl ?_
      refine aw_iload_n (n := 244) dX3_worth_243 rfl 2 rfl rfl ?_
      refine aw_iald (n := 245) (v := .int (ms.2.1 11 n)) dX3_worth_244 rfl n rfl hT.a11 (by omega) (by decide) rfl rfl ?_
      refine aw_aload_n (n := 246) dX3_worth_245 rfl 1 rfl rfl ?_
      refine aw_iload_n (n := 247) dX3_worth_246 rfl 0 rfl rfl ?_
      refine aw_iload_n (n := 248) dX3_worth_247 rfl 3 rfl rfl ?_
      refine AW.sts (st' := [.int (nI i), .int (nI a), .ref b, .int (ms.2.1 11 n), .ref b]) (by rw [show ms.2.1 10 n = nI a from ha]) ?_
      refine aw_callV (n := 251) (C0 := RX3) (As := [.int (nI a), .int (nI i)]) (rest := [.int (ms.2.1 11 n), .ref b]) (K2 := kX3_lastHolding) dX3_worth_248 q3092 q3094 qs98 q113 q3095 ⟨rfl, hcX3_lastHolding⟩ rfl hT.1 (ct_lastHolding G h b ms hb hT a i (by omega) (by omega)) rfl (Nat.le_of_ble_eq_true rfl) ⟨Nat.le_of_ble_eq_true rfl, Nat.le_of_ble_eq_true rfl⟩ ⟨Nat.zero_le _, Nat.zero_le _⟩ (fun _ _ _ z => z.elim) rfl (fun r_248 h_248 q_248 => ?_)
      obtain ⟨rfl, rfl⟩ := q_248
      refine AW.sts (st' := [.int (lhT ms a i), .int (ms.2.1 11 n), .ref b]) rfl ?_
      refine AW.sts (st' := [.int (nI l9), .int (ms.2.1 11 n), .ref b]) (by rw [show lhT ms a i = nI l9 from hl9]) ?_
      refine AW.sts (st' := [.int (nI l9), .int (nI c), .ref b]) (by rw [show ms.2.1 11 n = nI c from hc]) ?_
      refine aw_callV (n := 254) (C0 := RX3) (As := [.int (nI c), .int (nI l9)]) (rest := []) (K2 := kX3_at) dX3_worth_251 q3060 q3062 qs92 q113 q3063 ⟨rfl, hcX3_at⟩ rfl hT.1 (ct_at G h b ms hb hT c l9 (by omega) (by omega)) rfl (Nat.le_of_ble_eq_true rfl) ⟨Nat.le_of_ble_eq_true rfl, Nat.le_of_ble_eq_true rfl⟩ ⟨Nat.zero_le _, Nat.zero_le _⟩ (fun _ _ _ z => z.elim) rfl (fun r_251 h_251 q_251 => ?_)
      obtain ⟨rfl, rfl⟩ := q_251
      refine AW.sts (st' := [.long (tb ms c l9)]) rfl ?_
      exact aw_lret dX3_worth_254 rfl ⟨congrArg some (congrArg Value.long (by simp [woT, c_231, hl93, c_231] <;> (try (intros; omega)))), rfl⟩ ⟨Nat.zero_le _, Nat.zero_le _⟩
    · skip
      refine aw_lconst (n := 235) (v := 0) dX3_worth_234 (by decide) rfl ?_
      refine aw_goto (tgt := 254) dX3_worth_235 (by decide) ?_
      exact aw_lret dX3_worth_254 rfl ⟨congrArg some (congrArg Value.long (by simp [woT, c_231] <;> (try (intros; omega)))), rfl⟩ ⟨Nat.zero_le _, Nat.zero_le _⟩
  · skip
    obtain ⟨ha, ha2⟩ := hN.2.2.2.1 (by decide)
    obtain ⟨hc, hc2⟩ := hN.2.2.2.2.1 (by decide)
    obtain ⟨hcq, hcq2⟩ := hN.2.2.2.2.2 (by decide)
    refine aw_aload_n (n := 1) dX3_worth_0 rfl 0 rfl rfl ?_
    refine aw_getf (n := 4) (v := .ref (b + 6)) (C0 := RX3) (T := TX3) dX3_worth_1 rfl 10 q2651 (Or.inl rfl) hT.1 rfl rfl ?_
    refine aw_iload_n (n := 5) dX3_worth_4 rfl 1 rfl rfl ?_
    refine aw_iald (n := 6) (v := .int (ms.2.1 10 n)) dX3_worth_5 rfl n rfl hT.a10 (by omega) (by decide) rfl rfl ?_
    refine aw_istore_n (n := 7) (lv' := [(3, .int (ms.2.1 10 n)), (0, .ref b), (1, .int (nI n)), (2, .int (nI i))]) dX3_worth_6 rfl (by decide) rfl rfl ?_
    refine aw_aload_n (n := 8) dX3_worth_7 rfl 1 rfl rfl ?_
    refine aw_getf (n := 11) (v := .ref (b + 5)) (C0 := RX3) (T := TX3) dX3_worth_8 rfl 9 q2650 (Or.inl rfl) hT.1 rfl rfl ?_
    refine aw_iload_n (n := 12) dX3_worth_11 rfl 2 rfl rfl ?_
    refine aw_iald (n := 13) (v := .int (ms.2.1 9 n)) dX3_worth_12 rfl n rfl hT.a9 (by omega) (by decide) rfl rfl ?_
    refine AW.sts (st' := [.int (nI 33)]) (by rw [show ms.2.1 9 n = nI 33 from hN.2.2.1]) ?_
    refine aw_tableIn (tgt := 255) dX3_worth_13 (by decide) (by decide) (off := 242) (by rfl) (by decide) ?_
    refine aw_aload_n (n := 256) dX3_worth_255 rfl 1 rfl rfl ?_
    refine aw_aload_n (n := 257) dX3_worth_256 rfl 1 rfl rfl ?_
    refine aw_iload_n (n := 258) dX3_worth_257 rfl 0 rfl rfl ?_
    refine aw_iload_n (n := 259) dX3_worth_258 rfl 3 rfl rfl ?_
    refine AW.sts (st' := [.int (nI i), .int (nI a), .ref b, .ref b]) (by rw [show ms.2.1 10 n = nI a from ha]) ?_
    refine aw_callV (n := 262) (C0 := RX3) (As := [.int (nI a), .int (nI i)]) (rest := [.ref b]) (K2 := kX3_holds) dX3_worth_259 q3056 q3058 qs91 q113 q3059 ⟨rfl, hcX3_holds⟩ rfl hT.1 (ct_holds G h b ms hb hT a i (by omega) (by omega)) rfl (Nat.le_of_ble_eq_true rfl) ⟨Nat.le_of_ble_eq_true rfl, Nat.le_of_ble_eq_true rfl⟩ ⟨Nat.zero_le _, Nat.zero_le _⟩ (fun _ _ _ z => z.elim) rfl (fun r_259 h_259 q_259 => ?_)
    obtain ⟨rfl, rfl⟩ := q_259
    refine AW.sts (st' := [.int (bI (hd ms a i)), .ref b]) rfl ?_
    refine aw_if_eq (n := 265) (tgt := 274) dX3_worth_262 (by decide) rfl (fun c_262 => ?_) (fun c_262 => ?_)
    · skip
      have b_262 : (hd ms a i) = false := (bI_0 _).mp c_262
      refine aw_aload_n (n := 275) dX3_worth_274 rfl 1 rfl rfl ?_
      refine aw_getf (n := 278) (v := .ref (b + 8)) (C0 := RX3) (T := TX3) dX3_worth_275 rfl 12 q2653 (Or.inl rfl) hT.1 rfl rfl ?_
      refine aw_iload_n (n := 279) dX3_worth_278 rfl 2 rfl rfl ?_
      refine aw_iald (n := 280) (v := .int (ms.2.1 12 n)) dX3_worth_279 rfl n rfl hT.a12 (by omega) (by decide) rfl rfl ?_
      refine aw_iload_n (n := 281) dX3_worth_280 rfl 3 rfl rfl ?_
      refine AW.sts (st' := [.int (nI i), .int (nI cq), .ref b]) (by rw [show ms.2.1 12 n = nI cq from hcq]) ?_
      refine aw_callV (n := 284) (C0 := RX3) (As := [.int (nI cq), .int (nI i)]) (rest := []) (K2 := kX3_at) dX3_worth_281 q3060 q3062 qs92 q113 q3063 ⟨rfl, hcX3_at⟩ rfl hT.1 (ct_at G h b ms hb hT cq i (by omega) (by omega)) rfl (Nat.le_of_ble_eq_true rfl) ⟨Nat.le_of_ble_eq_true rfl, Nat.le_of_ble_eq_true rfl⟩ ⟨Nat.zero_le _, Nat.zero_le _⟩ (fun _ _ _ z => z.elim) rfl (fun r_281 h_281 q_281 => ?_)
      obtain ⟨rfl, rfl⟩ := q_281
      refine AW.sts (st' := [.long (tb ms cq i)]) rfl ?_
      exact aw_lret dX3_worth_284 rfl ⟨congrArg some (congrArg Value.long (by simp [woT, b_262, c_262] <;> (try (intros; omega)))), rfl⟩ ⟨Nat.zero_le _, Nat.zero_le _⟩
    · skip
      have b_262 : (hd ms a i) = true := Bool.of_not_eq_false (fun e => c_262 ((bI_0 _).mpr e))
      refine aw_aload_n (n := 266) dX3_worth_265 rfl 1 rfl rfl ?_
      refine aw_getf (n := 269) (v := .ref (b + 7)) (C0 := RX3) (T := TX3) dX3_worth_266 rfl 11 q2652 (Or.inl rfl) hT.1 rfl rfl ?_
      refine aw_iload_n (n := 270) dX3_worth_269 rfl 2 rfl rfl ?_
      refine aw_iald (n := 271) (v := .int (ms.2.1 11 n)) dX3_worth_270 rfl n rfl hT.a11 (by omega) (by decide) rfl rfl ?_
      refine aw_goto (tgt := 280) dX3_worth_271 (by decide) ?_
      refine aw_iload_n (n := 281) dX3_worth_280 rfl 3 rfl rfl ?_
      refine AW.sts (st' := [.int (nI i), .int (nI c), .ref b]) (by rw [show ms.2.1 11 n = nI c from hc]) ?_
      refine aw_callV (n := 284) (C0 := RX3) (As := [.int (nI c), .int (nI i)]) (rest := []) (K2 := kX3_at) dX3_worth_281 q3060 q3062 qs92 q113 q3063 ⟨rfl, hcX3_at⟩ rfl hT.1 (ct_at G h b ms hb hT c i (by omega) (by omega)) rfl (Nat.le_of_ble_eq_true rfl) ⟨Nat.le_of_ble_eq_true rfl, Nat.le_of_ble_eq_true rfl⟩ ⟨Nat.zero_le _, Nat.zero_le _⟩ (fun _ _ _ z => z.elim) rfl (fun r_281 h_281 q_281 => ?_)
      obtain ⟨rfl, rfl⟩ := q_281
      refine AW.sts (st' := [.long (tb ms c i)]) rfl ?_
      exact aw_lret dX3_worth_284 rfl ⟨congrArg some (congrArg Value.long (by simp [woT, b_262, c_262] <;> (try (intros; omega)))), rfl⟩ ⟨Nat.zero_le _, Nat.zero_le _⟩
  · skip
    obtain ⟨ha, ha2⟩ := hN.2.2.2.1 (by decide)
    obtain ⟨hc, hc2⟩ := hN.2.2.2.2.1 (by decide)
    obtain ⟨hcq, hcq2⟩ := hN.2.2.2.2.2 (by decide)
    have hcq3 := h9 rfl
    refine aw_aload_n (n := 1) dX3_worth_0 rfl 0 rfl rfl ?_
    refine aw_getf (n := 4) (v := .ref (b + 6)) (C0 := RX3) (T := TX3) dX3_worth_1 rfl 10 q2651 (Or.inl rfl) hT.1 rfl rfl ?_
    refine aw_iload_n (n := 5) dX3_worth_4 rfl 1 rfl rfl ?_
    refine aw_iald (n := 6) (v := .int (ms.2.1 10 n)) dX3_worth_5 rfl n rfl hT.a10 (by omega) (by decide) rfl rfl ?_
    refine aw_istore_n (n := 7) (lv' := [(3, .int (ms.2.1 10 n)), (0, .ref b), (1, .int (nI n)), (2, .int (nI i))]) dX3_worth_6 rfl (by decide) rfl rfl ?_
    refine aw_aload_n (n := 8) dX3_worth_7 rfl 1 rfl rfl ?_
    refine aw_getf (n := 11) (v := .ref (b + 5)) (C0 := RX3) (T := TX3) dX3_worth_8 rfl 9 q2650 (Or.inl rfl) hT.1 rfl rfl ?_
    refine aw_iload_n (n := 12) dX3_worth_11 rfl 2 rfl rfl ?_
    refine aw_iald (n := 13) (v := .int (ms.2.1 9 n)) dX3_worth_12 rfl n rfl hT.a9 (by omega) (by decide) rfl rfl ?_
    refine AW.sts (st' := [.int (nI 34)]) (by rw [show ms.2.1 9 n = nI 34 from hN.2.2.1]) ?_
    refine aw_tableOut (tgt := 285) dX3_worth_13 (by decide) (by decide) ?_
    refine aw_aload_n (n := 286) dX3_worth_285 rfl 1 rfl rfl ?_
    refine aw_getf (n := 289) (v := .ref (b + 8)) (C0 := RX3) (T := TX3) dX3_worth_286 rfl 12 q2653 (Or.inl rfl) hT.1 rfl rfl ?_
    refine aw_iload_n (n := 290) dX3_worth_289 rfl 2 rfl rfl ?_
    refine aw_iald (n := 291) (v := .int (ms.2.1 12 n)) dX3_worth_290 rfl n rfl hT.a12 (by omega) (by decide) rfl rfl ?_
    refine aw_aload_n (n := 292) dX3_worth_291 rfl 1 rfl rfl ?_
    refine aw_iload_n (n := 293) dX3_worth_292 rfl 0 rfl rfl ?_
    refine aw_iload_n (n := 294) dX3_worth_293 rfl 3 rfl rfl ?_
    refine AW.sts (st' := [.int (nI i), .int (nI a), .ref b, .int (ms.2.1 12 n)]) (by rw [show ms.2.1 10 n = nI a from ha]) ?_
    refine aw_callV (n := 297) (C0 := RX3) (As := [.int (nI a), .int (nI i)]) (rest := [.int (ms.2.1 12 n)]) (K2 := kX3_at) dX3_worth_294 q3060 q3062 qs92 q113 q3063 ⟨rfl, hcX3_at⟩ rfl hT.1 (ct_at G h b ms hb hT a i (by omega) (by omega)) rfl (Nat.le_of_ble_eq_true rfl) ⟨Nat.le_of_ble_eq_true rfl, Nat.le_of_ble_eq_true rfl⟩ ⟨Nat.zero_le _, Nat.zero_le _⟩ (fun _ _ _ z => z.elim) rfl (fun r_294 h_294 q_294 => ?_)
    obtain ⟨rfl, rfl⟩ := q_294
    refine AW.sts (st' := [.long (tb ms a i), .int (ms.2.1 12 n)]) rfl ?_
    refine aw_aload_n (n := 298) dX3_worth_297 rfl 1 rfl rfl ?_
    refine aw_aload_n (n := 299) dX3_worth_298 rfl 1 rfl rfl ?_
    refine aw_getf (n := 302) (v := .ref (b + 7)) (C0 := RX3) (T := TX3) dX3_worth_299 rfl 11 q2652 (Or.inl rfl) hT.1 rfl rfl ?_
    refine aw_iload_n (n := 303) dX3_worth_302 rfl 2 rfl rfl ?_
    refine aw_iald (n := 304) (v := .int (ms.2.1 11 n)) dX3_worth_303 rfl n rfl hT.a11 (by omega) (by decide) rfl rfl ?_
    refine aw_iload_n (n := 305) dX3_worth_304 rfl 3 rfl rfl ?_
    refine AW.sts (st' := [.int (nI i), .int (nI c), .ref b, .long (tb ms a i), .int (ms.2.1 12 n)]) (by rw [show ms.2.1 11 n = nI c from hc]) ?_
    refine aw_callV (n := 308) (C0 := RX3) (As := [.int (nI c), .int (nI i)]) (rest := [.long (tb ms a i), .int (ms.2.1 12 n)]) (K2 := kX3_at) dX3_worth_305 q3060 q3062 qs92 q113 q3063 ⟨rfl, hcX3_at⟩ rfl hT.1 (ct_at G h b ms hb hT c i (by omega) (by omega)) rfl (Nat.le_of_ble_eq_true rfl) ⟨Nat.le_of_ble_eq_true rfl, Nat.le_of_ble_eq_true rfl⟩ ⟨Nat.zero_le _, Nat.zero_le _⟩ (fun _ _ _ z => z.elim) rfl (fun r_305 h_305 q_305 => ?_)
    obtain ⟨rfl, rfl⟩ := q_305
    refine AW.sts (st' := [.long (tb ms c i), .long (tb ms a i), .int (ms.2.1 12 n)]) rfl ?_
    refine AW.sts (st' := [.long (tb ms c i), .long (tb ms a i), .int (nI cq)]) (by rw [hcq]) ?_
    refine aw_callS (n := 311) (As := [.int (nI cq), .long (tb ms a i), .long (tb ms c i)]) (rest := []) (K2 := kX3_both) dX3_worth_308 q3097 q3098 q113 q3099 hcX3_both (ct_both G h cq (tb ms a i) (tb ms c i) (by omega)) rfl (Nat.le_of_ble_eq_true rfl) ⟨Nat.le_of_ble_eq_true rfl, Nat.le_of_ble_eq_true rfl⟩ ⟨Nat.zero_le _, Nat.zero_le _⟩ (fun _ _ _ z => z.elim) rfl (fun r_308 h_308 q_308 => ?_)
    obtain ⟨rfl, rfl⟩ := q_308
    refine AW.sts (st' := [.long (boT cq (tb ms a i) (tb ms c i))]) rfl ?_
    exact aw_lret dX3_worth_311 rfl ⟨congrArg some (congrArg Value.long (by simp [woT] <;> (try (intros; omega)))), rfl⟩ ⟨Nat.zero_le _, Nat.zero_le _⟩

end
