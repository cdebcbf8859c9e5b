/-! The twin: told, alarms, differ, steps. -/
section
set_option maxRecDepth 100000
abbrev kX3_toldOf : aK := (yX3_toldOf, cX3_toldOf, 9, (Option.some Jvm.ClassFile.FieldType.int), [])
theorem hcX3_toldOf : kX3_toldOf.1.cls ≠ "java/lang/invoke/MethodHandle" ∧ kX3_toldOf.1.cls ≠ "java/lang/invoke/VarHandle" ∧ (parseMethodDescriptor kX3_toldOf.1.desc).map (fun d => d.parameters.length) = some 2 := ⟨by decide, by decide, by decide +kernel⟩
theorem ct_toldOf (G : aG) (h : hH) (b : Nat) (ms : tM) (hb : gB G ≤ b) (hT : TW b h ms) (hI : tOK ms) (v k : Nat) (hv : v < Mn ms 3) (hk : k < 5) : Con G kX3_toldOf [.ref b, .int (nI v), .int (nI k)] h ((4, 66, 0, 0), (fun r h1 => r = some (.int (tdT ms v k)) ∧ h = h1), nX) := by
  have := hI.L2; have := hI.S2; have := hI.M0; have := hI.M1; have := hI.M2; have := hI.M3; have := hI.P2; have := hI.K2; have := hI.KM2
  refine Con.of (plainFor_of_name rfl) rfl (Nat.le_of_ble_eq_true rfl) ?_
  refine AW.eq (lv2 := [(0, .ref b), (1, .int (nI v)), (2, .int (nI k))]) (s2 := []) rfl rfl rfl rfl rfl ?_
  refine aw_iconst (n := 1) (v := 0) dX3_toldOf_0 (by decide) rfl ?_
  refine aw_istore_n (n := 2) (lv' := [(3, .int 0), (0, .ref b), (1, .int (nI v)), (2, .int (nI k))]) dX3_toldOf_1 rfl (by decide) rfl rfl ?_
  refine aw_iconst (n := 3) (v := (-1)) dX3_toldOf_2 (by decide) rfl ?_
  refine aw_istore (n := 5) (lv' := [(4, .int (-1)), (3, .int 0), (0, .ref b), (1, .int (nI v)), (2, .int (nI k))]) dX3_toldOf_3 (by decide) rfl rfl ?_
  refine aw_iconst (n := 6) (v := 0) dX3_toldOf_5 (by decide) rfl ?_
  refine aw_istore (n := 8) (lv' := [(5, .int 0), (4, .int (-1)), (3, .int 0), (0, .ref b), (1, .int (nI v)), (2, .int (nI k))]) dX3_toldOf_6 (by decide) rfl rfl ?_
  refine aw_iconst (n := 9) (v := 0) dX3_toldOf_8 (by decide) rfl ?_
  refine aw_istore (n := 11) (lv' := [(6, .int 0), (5, .int 0), (4, .int (-1)), (3, .int 0), (0, .ref b), (1, .int (nI v)), (2, .int (nI k))]) dX3_toldOf_9 (by decide) rfl rfl ?_
  refine aw_iconst (n := 12) (v := 0) dX3_toldOf_11 (by decide) rfl ?_
  refine aw_istore (n := 14) (lv' := [(7, .int 0), (6, .int 0), (5, .int 0), (4, .int (-1)), (3, .int 0), (0, .ref b), (1, .int (nI v)), (2, .int (nI k))]) dX3_toldOf_12 (by decide) rfl rfl ?_
  suffices L_14 : ∀ (m_ : Nat) (c : Nat) (hc : c ≤ Sn ms), Sn ms - c < m_ → AW G kX3_toldOf ((4, 66, 0, 0), (fun r h1 => r = some (.int (tdT ms v k)) ∧ h = h1), nX) 14 [(7, .int (nI c)), (3, .int ((tdS (hd ms (tp ms 3 v)) c).1)), (4, .int ((tdS (hd ms (tp ms 3 v)) c).2.1)), (5, .int ((tdS (hd ms (tp ms 3 v)) c).2.2.1)), (6, .int ((tdS (hd ms (tp ms 3 v)) c).2.2.2)), (0, .ref b), (1, .int (nI v)), (2, .int (nI k))] [] h 0 0 from
    AW.lvs (lv' := [(7, .int 0), (3, .int 0), (4, .int (-1)), (5, .int 0), (6, .int 0), (0, .ref b), (1, .int (nI v)), (2, .int (nI k))]) (AW.eq (lv2 := _) (rfl) rfl rfl rfl rfl (L_14 _ 0 (by omega) (Nat.lt_succ_self _))) (by simp)
  intro m_
  induction m_ with
  | zero => intro c hc h_m; exact absurd h_m (Nat.not_lt_zero _)
  | succ m_ ih_14 =>
    intro c hc h_m
    refine aw_iload (n := 16) dX3_toldOf_14 0 rfl rfl ?_
    refine aw_aload_n (n := 17) dX3_toldOf_16 rfl 5 rfl rfl ?_
    refine aw_getf (n := 20) (v := .int (nI (Sn ms))) (C0 := RX3) (T := TX3) dX3_toldOf_17 rfl 29 q2670 (Or.inl rfl) hT.1 (congrArg some (congrArg Value.int hI.S)) rfl ?_
    refine aw_icmp_ge (n := 23) (tgt := 90) dX3_toldOf_20 (by decide) rfl (fun c_20 => ?_) (fun c_20 => ?_)
    · skip
      have n_20 : (Sn ms) ≤ c := (nI_leI (a := (Sn ms)) (b := c) (by omega) (by omega)).mp (by exact c_20)
      refine aw_iload_n (n := 91) dX3_toldOf_90 rfl 7 rfl rfl ?_
      refine aw_if_ne (n := 94) (tgt := 103) dX3_toldOf_91 (by decide) rfl (fun c_91 => ?_) (fun c_91 => ?_)
      · skip
        have n_91 : ¬ (k = 0) := fun z => c_91 (by have y := (nI_eq (a := k) (b := 0) (by omega) (by omega)).mpr z; rw [← ((by rfl) : (0 : Int32) = nI 0)] at y; exact y)
        refine aw_iload_n (n := 104) dX3_toldOf_103 rfl 7 rfl rfl ?_
        refine aw_iconst (n := 105) (v := 1) dX3_toldOf_104 (by decide) rfl ?_
        refine aw_icmp_ne (n := 108) (tgt := 112) dX3_toldOf_105 (by decide) rfl (fun c_105 => ?_) (fun c_105 => ?_)
        · skip
          have n_105 : ¬ (k = 1) := fun z => c_105 (by have y := (nI_eq (a := k) (b := 1) (by omega) (by omega)).mpr z; rw [← ((by rfl) : (1 : Int32) = nI 1)] at y; exact y)
          refine aw_iload_n (n := 113) dX3_toldOf_112 rfl 7 rfl rfl ?_
          refine aw_iconst (n := 114) (v := 2) dX3_toldOf_113 (by decide) rfl ?_
          refine aw_icmp_ne (n := 117) (tgt := 122) dX3_toldOf_114 (by decide) rfl (fun c_114 => ?_) (fun c_114 => ?_)
          · skip
            have n_114 : ¬ (k = 2) := fun z => c_114 (by have y := (nI_eq (a := k) (b := 2) (by omega) (by omega)).mpr z; rw [← ((by rfl) : (2 : Int32) = nI 2)] at y; exact y)
            refine aw_iload_n (n := 123) dX3_toldOf_122 rfl 7 rfl rfl ?_
            refine aw_iconst (n := 124) (v := 3) dX3_toldOf_123 (by decide) rfl ?_
            refine aw_icmp_ne (n := 127) (tgt := 132) dX3_toldOf_124 (by decide) rfl (fun c_124 => ?_) (fun c_124 => ?_)
            · skip
              have n_124 : ¬ (k = 3) := fun z => c_124 (by have y := (nI_eq (a := k) (b := 3) (by omega) (by omega)).mpr z; rw [← ((by rfl) : (3 : Int32) = nI 3)] at y; exact y)
              refine aw_iload (n := 134) dX3_toldOf_132 3 rfl rfl ?_
              exact aw_iret dX3_toldOf_134 rfl ⟨congrArg some (congrArg Value.int (by have e9 : c = Sn ms := (by omega); subst e9; simp [tdT, toT, n_20, c_20, n_91, c_91, n_105, c_105, n_114, c_114, n_124, c_124] <;> (try omega))), rfl⟩ ⟨Nat.zero_le _, Nat.zero_le _⟩
            · skip
              have n_124 : k = 3 := (nI_eq (a := k) (b := 3) (by omega) (by omega)).mp (by rw [← ((by rfl) : (3 : Int32) = nI 3)]; exact c_124)
              refine aw_iload (n := 129) dX3_toldOf_127 4 rfl rfl ?_
              refine aw_goto (tgt := 134) dX3_toldOf_129 (by decide) ?_
              exact aw_iret dX3_toldOf_134 rfl ⟨congrArg some (congrArg Value.int (by have e9 : c = Sn ms := (by omega); subst e9; simp [tdT, toT, n_20, c_20, n_91, c_91, n_105, c_105, n_114, c_114, c_124] <;> (try omega))), rfl⟩ ⟨Nat.zero_le _, Nat.zero_le _⟩
          · skip
            have n_114 : k = 2 := (nI_eq (a := k) (b := 2) (by omega) (by omega)).mp (by rw [← ((by rfl) : (2 : Int32) = nI 2)]; exact c_114)
            refine aw_iload (n := 119) dX3_toldOf_117 2 rfl rfl ?_
            refine aw_goto (tgt := 134) dX3_toldOf_119 (by decide) ?_
            exact aw_iret dX3_toldOf_134 rfl ⟨congrArg some (congrArg Value.int (by have e9 : c = Sn ms := (by omega); subst e9; simp [tdT, toT, n_20, c_20, n_91, c_91, n_105, c_105, c_114] <;> (try omega))), rfl⟩ ⟨Nat.zero_le _, Nat.zero_le _⟩
        · skip
          have n_105 : k = 1 := (nI_eq (a := k) (b := 1) (by omega) (by omega)).mp (by rw [← ((by rfl) : (1 : Int32) = nI 1)]; exact c_105)
          refine aw_iload_n (n := 109) dX3_toldOf_108 rfl 1 rfl rfl ?_
          refine aw_goto (tgt := 134) dX3_toldOf_109 (by decide) ?_
          exact aw_iret dX3_toldOf_134 rfl ⟨congrArg some (congrArg Value.int (by have e9 : c = Sn ms := (by omega); subst e9; simp [tdT, toT, n_20, c_20, n_91, c_91, c_105] <;> (try omega))), rfl⟩ ⟨Nat.zero_le _, Nat.zero_le _⟩
      · skip
        have n_91 : k = 0 := (nI_eq (a := k) (b := 0) (by omega) (by omega)).mp (by rw [← ((by rfl) : (0 : Int32) = nI 0)]; exact c_91)
        refine aw_aload_n (n := 95) dX3_toldOf_94 rfl 5 rfl rfl ?_
        refine aw_getf (n := 98) (v := .ref (b + 19)) (C0 := RX3) (T := TX3) dX3_toldOf_95 rfl 26 q2667 (Or.inl rfl) hT.1 rfl rfl ?_
        refine aw_iload_n (n := 99) dX3_toldOf_98 rfl 6 rfl rfl ?_
        refine aw_iald (n := 100) (v := .int (ms.2.1 26 v)) dX3_toldOf_99 rfl v rfl hT.a26 (by omega) (by decide) rfl rfl ?_
        refine aw_goto (tgt := 134) dX3_toldOf_100 (by decide) ?_
        exact aw_iret dX3_toldOf_134 rfl ⟨congrArg some (congrArg Value.int (by have e9 : c = Sn ms := (by omega); subst e9; simp [tdT, toT, n_20, c_20, c_91] <;> (try omega))), rfl⟩ ⟨Nat.zero_le _, Nat.zero_le _⟩
    · skip
      have n_20 : ¬ ((Sn ms) ≤ c) := fun z => c_20 (by have y := (nI_leI (a := (Sn ms)) (b := c) (by omega) (by omega)).mpr z; exact y)
      refine aw_aload_n (n := 24) dX3_toldOf_23 rfl 5 rfl rfl ?_
      refine aw_iload_n (n := 25) dX3_toldOf_24 rfl 6 rfl rfl ?_
      refine aw_iload (n := 27) dX3_toldOf_25 0 rfl rfl ?_
      refine aw_callV (n := 30) (C0 := RX3) (As := [.int (nI v), .int (nI c)]) (rest := []) (K2 := kX3_watches) dX3_toldOf_27 q3100 q3102 qs99 q113 q3103 ⟨rfl, hcX3_watches⟩ rfl hT.1 (ct_watches G h b ms hb hT v c (tp ms 3 v) (by omega) (by omega) (hI.T (k := 3) (by decide) (by decide) (by omega)) (by have := hI.T2 (k := 3) (j := v) (by decide) (by decide) (by omega); omega)) rfl (Nat.le_of_ble_eq_true rfl) ⟨Nat.le_of_ble_eq_true rfl, Nat.le_of_ble_eq_true rfl⟩ ⟨Nat.zero_le _, Nat.zero_le _⟩ (fun _ _ _ z => z.elim) rfl (fun r_27 h_27 q_27 => ?_)
      obtain ⟨rfl, rfl⟩ := q_27
      refine AW.sts (st' := [.int (bI (hd ms (tp ms 3 v) c))]) rfl ?_
      refine aw_istore (n := 32) (lv' := [(8, .int (bI (hd ms (tp ms 3 v) c))), (7, .int (nI c)), (3, .int ((tdS (hd ms (tp ms 3 v)) c).1)), (4, .int ((tdS (hd ms (tp ms 3 v)) c).2.1)), (5, .int ((tdS (hd ms (tp ms 3 v)) c).2.2.1)), (6, .int ((tdS (hd ms (tp ms 3 v)) c).2.2.2)), (0, .ref b), (1, .int (nI v)), (2, .int (nI k))]) dX3_toldOf_30 (by decide) rfl rfl ?_
      refine aw_iload (n := 34) dX3_toldOf_32 0 rfl rfl ?_
      refine aw_if_eq (n := 37) (tgt := 41) dX3_toldOf_34 (by decide) rfl (fun c_34 => ?_) (fun c_34 => ?_)
      · skip
        have b_34 : (hd ms (tp ms 3 v) c) = false := (bI_0 _).mp c_34
        refine aw_iload (n := 43) dX3_toldOf_41 4 rfl rfl ?_
        refine aw_iconst (n := 44) (v := 1) dX3_toldOf_43 (by decide) rfl ?_
        refine aw_iadd (n := 45) dX3_toldOf_44 rfl ?_
        refine aw_istore (n := 47) (lv' := [(5, .int (((tdS (hd ms (tp ms 3 v)) c).2.2.1) + 1)), (8, .int (bI (hd ms (tp ms 3 v) c))), (7, .int (nI c)), (3, .int ((tdS (hd ms (tp ms 3 v)) c).1)), (4, .int ((tdS (hd ms (tp ms 3 v)) c).2.1)), (6, .int ((tdS (hd ms (tp ms 3 v)) c).2.2.2)), (0, .ref b), (1, .int (nI v)), (2, .int (nI k))]) dX3_toldOf_45 (by decide) rfl rfl ?_
        refine aw_iload (n := 49) dX3_toldOf_47 5 rfl rfl ?_
        refine aw_iload (n := 51) dX3_toldOf_49 0 rfl rfl ?_
        refine aw_callS (n := 54) (As := [.int ((tdS (hd ms (tp ms 3 v)) c).2.2.2), .int (((tdS (hd ms (tp ms 3 v)) c).2.2.1) + 1)]) (rest := []) (K2 := kJ15_max) dX3_toldOf_51 q2812 q376 q125 q377 hcJ15_max (cj_maxI G h ((tdS (hd ms (tp ms 3 v)) c).2.2.2) (((tdS (hd ms (tp ms 3 v)) c).2.2.1) + 1)) rfl (Nat.le_of_ble_eq_true rfl) ⟨Nat.le_of_ble_eq_true rfl, Nat.le_of_ble_eq_true rfl⟩ ⟨Nat.zero_le _, Nat.zero_le _⟩ (fun _ _ _ z => z.elim) rfl (fun r_51 h_51 q_51 => ?_)
        obtain ⟨rfl, rfl⟩ := q_51
        refine AW.sts (st' := [.int (if ((tdS (hd ms (tp ms 3 v)) c).2.2.2) < (((tdS (hd ms (tp ms 3 v)) c).2.2.1) + 1) then (((tdS (hd ms (tp ms 3 v)) c).2.2.1) + 1) else ((tdS (hd ms (tp ms 3 v)) c).2.2.2))]) rfl ?_
        refine aw_istore (n := 56) (lv' := [(6, .int (if ((tdS (hd ms (tp ms 3 v)) c).2.2.2) < (((tdS (hd ms (tp ms 3 v)) c).2.2.1) + 1) then (((tdS (hd ms (tp ms 3 v)) c).2.2.1) + 1) else ((tdS (hd ms (tp ms 3 v)) c).2.2.2))), (5, .int (((tdS (hd ms (tp ms 3 v)) c).2.2.1) + 1)), (8, .int (bI (hd ms (tp ms 3 v) c))), (7, .int (nI c)), (3, .int ((tdS (hd ms (tp ms 3 v)) c).1)), (4, .int ((tdS (hd ms (tp ms 3 v)) c).2.1)), (0, .ref b), (1, .int (nI v)), (2, .int (nI k))]) dX3_toldOf_54 (by decide) rfl rfl ?_
        refine aw_iload_n (n := 57) dX3_toldOf_56 rfl 4 rfl rfl ?_
        refine aw_iload (n := 59) dX3_toldOf_57 2 rfl rfl ?_
        refine aw_if_eq (n := 62) (tgt := 66) dX3_toldOf_59 (by decide) rfl (fun c_59 => ?_) (fun c_59 => ?_)
        · skip
          have b_59 : (hd ms (tp ms 3 v) c) = false := (bI_0 _).mp c_59
          refine aw_iconst (n := 67) (v := 1) dX3_toldOf_66 (by decide) rfl ?_
          refine aw_iadd (n := 68) dX3_toldOf_67 rfl ?_
          refine aw_istore_n (n := 69) (lv' := [(3, .int (((tdS (hd ms (tp ms 3 v)) c).1) + 1)), (6, .int (if ((tdS (hd ms (tp ms 3 v)) c).2.2.2) < (((tdS (hd ms (tp ms 3 v)) c).2.2.1) + 1) then (((tdS (hd ms (tp ms 3 v)) c).2.2.1) + 1) else ((tdS (hd ms (tp ms 3 v)) c).2.2.2))), (5, .int (((tdS (hd ms (tp ms 3 v)) c).2.2.1) + 1)), (8, .int (bI (hd ms (tp ms 3 v) c))), (7, .int (nI c)), (4, .int ((tdS (hd ms (tp ms 3 v)) c).2.1)), (0, .ref b), (1, .int (nI v)), (2, .int (nI k))]) dX3_toldOf_68 rfl (by decide) rfl rfl ?_
          refine aw_iload (n := 71) dX3_toldOf_69 3 rfl rfl ?_
          refine aw_if_ne (n := 74) (tgt := 84) dX3_toldOf_71 (by decide) rfl (fun c_71 => ?_) (fun c_71 => ?_)
          · skip
            have b_71 : (hd ms (tp ms 3 v) c) = true := Bool.of_not_eq_false (fun e => c_71 ((bI_0 _).mpr e))
            exact absurd (b_59.symm.trans b_71) (by decide)
          · skip
            have b_71 : (hd ms (tp ms 3 v) c) = false := (bI_0 _).mp c_71
            refine aw_iload (n := 76) dX3_toldOf_74 5 rfl rfl ?_
            refine aw_iconst (n := 77) (v := (-1)) dX3_toldOf_76 (by decide) rfl ?_
            refine aw_icmp_ne (n := 80) (tgt := 84) dX3_toldOf_77 (by decide) rfl (fun c_77 => ?_) (fun c_77 => ?_)
            · skip
              refine aw_iinc (n := 87) (v := nI (c + 1)) (lv' := [(7, .int (nI (c + 1))), (3, .int (((tdS (hd ms (tp ms 3 v)) c).1) + 1)), (6, .int (if ((tdS (hd ms (tp ms 3 v)) c).2.2.2) < (((tdS (hd ms (tp ms 3 v)) c).2.2.1) + 1) then (((tdS (hd ms (tp ms 3 v)) c).2.2.1) + 1) else ((tdS (hd ms (tp ms 3 v)) c).2.2.2))), (5, .int (((tdS (hd ms (tp ms 3 v)) c).2.2.1) + 1)), (8, .int (bI (hd ms (tp ms 3 v) c))), (4, .int ((tdS (hd ms (tp ms 3 v)) c).2.1)), (0, .ref b), (1, .int (nI v)), (2, .int (nI k))]) dX3_toldOf_84 4 rfl (by rw [show nI c = nI c from rfl]; exact nI_1 _) (by decide) rfl rfl ?_
              refine aw_goto (tgt := 14) dX3_toldOf_87 (by decide) ?_
              exact AW.lvs (lv' := [(7, .int (nI (c + 1))), (3, .int (((tdS (hd ms (tp ms 3 v)) c).1) + 1)), (4, .int ((tdS (hd ms (tp ms 3 v)) c).2.1)), (5, .int (((tdS (hd ms (tp ms 3 v)) c).2.2.1) + 1)), (6, .int (if ((tdS (hd ms (tp ms 3 v)) c).2.2.2) < (((tdS (hd ms (tp ms 3 v)) c).2.2.1) + 1) then (((tdS (hd ms (tp ms 3 v)) c).2.2.1) + 1) else ((tdS (hd ms (tp ms 3 v)) c).2.2.2))), (0, .ref b), (1, .int (nI v)), (2, .int (nI k))]) (AW.eq (lv2 := _) (by simp [tdS, n_20, c_20, b_34, c_34, b_59, c_59, b_71, c_71, c_77]) rfl rfl rfl rfl (ih_14 (c + 1) (by omega) (by omega))) (by simp)
            · skip
              refine aw_iload (n := 82) dX3_toldOf_80 4 rfl rfl ?_
              refine aw_istore (n := 84) (lv' := [(4, .int (nI c)), (3, .int (((tdS (hd ms (tp ms 3 v)) c).1) + 1)), (6, .int (if ((tdS (hd ms (tp ms 3 v)) c).2.2.2) < (((tdS (hd ms (tp ms 3 v)) c).2.2.1) + 1) then (((tdS (hd ms (tp ms 3 v)) c).2.2.1) + 1) else ((tdS (hd ms (tp ms 3 v)) c).2.2.2))), (5, .int (((tdS (hd ms (tp ms 3 v)) c).2.2.1) + 1)), (8, .int (bI (hd ms (tp ms 3 v) c))), (7, .int (nI c)), (0, .ref b), (1, .int (nI v)), (2, .int (nI k))]) dX3_toldOf_82 (by decide) rfl rfl ?_
              refine aw_iinc (n := 87) (v := nI (c + 1)) (lv' := [(7, .int (nI (c + 1))), (4, .int (nI c)), (3, .int (((tdS (hd ms (tp ms 3 v)) c).1) + 1)), (6, .int (if ((tdS (hd ms (tp ms 3 v)) c).2.2.2) < (((tdS (hd ms (tp ms 3 v)) c).2.2.1) + 1) then (((tdS (hd ms (tp ms 3 v)) c).2.2.1) + 1) else ((tdS (hd ms (tp ms 3 v)) c).2.2.2))), (5, .int (((tdS (hd ms (tp ms 3 v)) c).2.2.1) + 1)), (8, .int (bI (hd ms (tp ms 3 v) c))), (0, .ref b), (1, .int (nI v)), (2, .int (nI k))]) dX3_toldOf_84 5 rfl (by rw [show nI c = nI c from rfl]; exact nI_1 _) (by decide) rfl rfl ?_
              refine aw_goto (tgt := 14) dX3_toldOf_87 (by decide) ?_
              exact AW.lvs (lv' := [(7, .int (nI (c + 1))), (3, .int (((tdS (hd ms (tp ms 3 v)) c).1) + 1)), (4, .int (nI c)), (5, .int (((tdS (hd ms (tp ms 3 v)) c).2.2.1) + 1)), (6, .int (if ((tdS (hd ms (tp ms 3 v)) c).2.2.2) < (((tdS (hd ms (tp ms 3 v)) c).2.2.1) + 1) then (((tdS (hd ms (tp ms 3 v)) c).2.2.1) + 1) else ((tdS (hd ms (tp ms 3 v)) c).2.2.2))), (0, .ref b), (1, .int (nI v)), (2, .int (nI k))]) (AW.eq (lv2 := _) (by simp [tdS, n_20, c_20, b_34, c_34, b_59, c_59, b_71, c_71, c_77]) rfl rfl rfl rfl (ih_14 (c + 1) (by omega) (by omega))) (by simp)
        · skip
          have b_59 : (hd ms (tp ms 3 v) c) = true := Bool.of_not_eq_false (fun e => c_59 ((bI_0 _).mpr e))
          exact absurd (b_34.symm.trans b_59) (by decide)
      · skip
        have b_34 : (hd ms (tp ms 3 v) c) = true := Bool.of_not_eq_false (fun e => c_34 ((bI_0 _).mpr e))
        refine aw_iconst (n := 38) (v := 0) dX3_toldOf_37 (by decide) rfl ?_
        refine aw_goto (tgt := 45) dX3_toldOf_38 (by decide) ?_
        refine aw_istore (n := 47) (lv' := [(5, .int 0), (8, .int (bI (hd ms (tp ms 3 v) c))), (7, .int (nI c)), (3, .int ((tdS (hd ms (tp ms 3 v)) c).1)), (4, .int ((tdS (hd ms (tp ms 3 v)) c).2.1)), (6, .int ((tdS (hd ms (tp ms 3 v)) c).2.2.2)), (0, .ref b), (1, .int (nI v)), (2, .int (nI k))]) dX3_toldOf_45 (by decide) rfl rfl ?_
        refine aw_iload (n := 49) dX3_toldOf_47 5 rfl rfl ?_
        refine aw_iload (n := 51) dX3_toldOf_49 0 rfl rfl ?_
        refine aw_callS (n := 54) (As := [.int ((tdS (hd ms (tp ms 3 v)) c).2.2.2), .int 0]) (rest := []) (K2 := kJ15_max) dX3_toldOf_51 q2812 q376 q125 q377 hcJ15_max (cj_maxI G h ((tdS (hd ms (tp ms 3 v)) c).2.2.2) (0 : Int32)) rfl (Nat.le_of_ble_eq_true rfl) ⟨Nat.le_of_ble_eq_true rfl, Nat.le_of_ble_eq_true rfl⟩ ⟨Nat.zero_le _, Nat.zero_le _⟩ (fun _ _ _ z => z.elim) rfl (fun r_51 h_51 q_51 => ?_)
        obtain ⟨rfl, rfl⟩ := q_51
        refine AW.sts (st' := [.int (if ((tdS (hd ms (tp ms 3 v)) c).2.2.2) < (0 : Int32) then (0 : Int32) else ((tdS (hd ms (tp ms 3 v)) c).2.2.2))]) rfl ?_
        refine aw_istore (n := 56) (lv' := [(6, .int (if ((tdS (hd ms (tp ms 3 v)) c).2.2.2) < (0 : Int32) then (0 : Int32) else ((tdS (hd ms (tp ms 3 v)) c).2.2.2))), (5, .int 0), (8, .int (bI (hd ms (tp ms 3 v) c))), (7, .int (nI c)), (3, .int ((tdS (hd ms (tp ms 3 v)) c).1)), (4, .int ((tdS (hd ms (tp ms 3 v)) c).2.1)), (0, .ref b), (1, .int (nI v)), (2, .int (nI k))]) dX3_toldOf_54 (by decide) rfl rfl ?_
        refine aw_iload_n (n := 57) dX3_toldOf_56 rfl 4 rfl rfl ?_
        refine aw_iload (n := 59) dX3_toldOf_57 2 rfl rfl ?_
        refine aw_if_eq (n := 62) (tgt := 66) dX3_toldOf_59 (by decide) rfl (fun c_59_2 => ?_) (fun c_59_2 => ?_)
        · skip
          have b_59_2 : (hd ms (tp ms 3 v) c) = false := (bI_0 _).mp c_59_2
          exact absurd (b_34.symm.trans b_59_2) (by decide)
        · skip
          have b_59_2 : (hd ms (tp ms 3 v) c) = true := Bool.of_not_eq_false (fun e => c_59_2 ((bI_0 _).mpr e))
          refine aw_iconst (n := 63) (v := 0) dX3_toldOf_62 (by decide) rfl ?_
          refine aw_goto (tgt := 67) dX3_toldOf_63 (by decide) ?_
          refine aw_iadd (n := 68) dX3_toldOf_67 rfl ?_
          refine aw_istore_n (n := 69) (lv' := [(3, .int (((tdS (hd ms (tp ms 3 v)) c).1) + 0)), (6, .int (if ((tdS (hd ms (tp ms 3 v)) c).2.2.2) < (0 : Int32) then (0 : Int32) else ((tdS (hd ms (tp ms 3 v)) c).2.2.2))), (5, .int 0), (8, .int (bI (hd ms (tp ms 3 v) c))), (7, .int (nI c)), (4, .int ((tdS (hd ms (tp ms 3 v)) c).2.1)), (0, .ref b), (1, .int (nI v)), (2, .int (nI k))]) dX3_toldOf_68 rfl (by decide) rfl rfl ?_
          refine aw_iload (n := 71) dX3_toldOf_69 3 rfl rfl ?_
          refine aw_if_ne (n := 74) (tgt := 84) dX3_toldOf_71 (by decide) rfl (fun c_71_2 => ?_) (fun c_71_2 => ?_)
          · skip
            have b_71_2 : (hd ms (tp ms 3 v) c) = true := Bool.of_not_eq_false (fun e => c_71_2 ((bI_0 _).mpr e))
            refine aw_iinc (n := 87) (v := nI (c + 1)) (lv' := [(7, .int (nI (c + 1))), (3, .int (((tdS (hd ms (tp ms 3 v)) c).1) + 0)), (6, .int (if ((tdS (hd ms (tp ms 3 v)) c).2.2.2) < (0 : Int32) then (0 : Int32) else ((tdS (hd ms (tp ms 3 v)) c).2.2.2))), (5, .int 0), (8, .int (bI (hd ms (tp ms 3 v) c))), (4, .int ((tdS (hd ms (tp ms 3 v)) c).2.1)), (0, .ref b), (1, .int (nI v)), (2, .int (nI k))]) dX3_toldOf_84 4 rfl (by rw [show nI c = nI c from rfl]; exact nI_1 _) (by decide) rfl rfl ?_
            refine aw_goto (tgt := 14) dX3_toldOf_87 (by decide) ?_
            exact AW.lvs (lv' := [(7, .int (nI (c + 1))), (3, .int (((tdS (hd ms (tp ms 3 v)) c).1) + 0)), (4, .int ((tdS (hd ms (tp ms 3 v)) c).2.1)), (5, .int 0), (6, .int (if ((tdS (hd ms (tp ms 3 v)) c).2.2.2) < (0 : Int32) then (0 : Int32) else ((tdS (hd ms (tp ms 3 v)) c).2.2.2))), (0, .ref b), (1, .int (nI v)), (2, .int (nI k))]) (AW.eq (lv2 := _) (by simp [tdS, n_20, c_20, b_34, c_34, b_59_2, c_59_2, b_71_2, c_71_2]) rfl rfl rfl rfl (ih_14 (c + 1) (by omega) (by omega))) (by simp)
          · skip
            have b_71_2 : (hd ms (tp ms 3 v) c) = false := (bI_0 _).mp c_71_2
            exact absurd (b_59_2.symm.trans b_71_2) (by decide)

abbrev kX3_told : aK := (yX3_told, cX3_told, 3, (Option.some Jvm.ClassFile.FieldType.int), [])
theorem hcX3_told : kX3_told.1.cls ≠ "java/lang/invoke/MethodHandle" ∧ kX3_told.1.cls ≠ "java/lang/invoke/VarHandle" ∧ (parseMethodDescriptor kX3_told.1.desc).map (fun d => d.parameters.length) = some 2 := ⟨by decide, by decide, by decide +kernel⟩
theorem ct_told (G : aG) (h : hH) (b : Nat) (ms : tM) (hb : gB G ≤ b) (hT : TW b h ms) (hI : tOK ms) (v k : Int32) : Con G kX3_told [.ref b, .int v, .int k] h ((5, 94, 0, 0), (fun r h1 => r = some (.int (opTold ms v k).1) ∧ TW b h1 ((opTold ms v k).2) ∧ Fr (TS b) h h1 ∧ h1.1 = h.1), nX) := by
  have := hI.L2; have := hI.S2; have := hI.M0; have := hI.M1; have := hI.M2; have := hI.M3; have := hI.P2; have := hI.K2; have := hI.KM2
  refine Con.of (plainFor_of_name rfl) rfl (Nat.le_of_ble_eq_true rfl) ?_
  refine AW.eq (lv2 := [(0, .ref b), (1, .int v), (2, .int k)]) (s2 := []) rfl rfl rfl rfl rfl ?_
  refine aw_aload_n (n := 1) dX3_told_0 rfl 0 rfl rfl ?_
  refine aw_iconst (n := 2) (v := 0) dX3_told_1 (by decide) rfl ?_
  refine aw_tput (n := 5) (k := 0) dX3_told_2 q2641 (by decide) rfl rfl rfl rfl rfl hT hb rfl rfl (fun h_1 hT_1 hF_1 hz_1 => ?_)
  refine aw_aload_n (n := 6) dX3_told_5 rfl 0 rfl rfl ?_
  refine aw_iload_n (n := 7) dX3_told_6 rfl 1 rfl rfl ?_
  refine aw_callV (n := 10) (C0 := RX3) (As := [.int v]) (rest := []) (K2 := kX3_isWatch) dX3_told_7 q3146 q3148 qs101 q113 q3149 ⟨rfl, hcX3_isWatch⟩ rfl hT_1.1 (ct_isWatch G h_1 b (tS ms 0 (0 : Int32)) hb hT_1 (tOK.thrown hI _) v) rfl (Nat.le_of_ble_eq_true rfl) ⟨Nat.le_of_ble_eq_true rfl, Nat.le_of_ble_eq_true rfl⟩ ⟨Nat.zero_le _, Nat.zero_le _⟩ (fun _ _ _ z => z.elim) rfl (fun r_7 h_7 q_7 => ?_)
  obtain ⟨rfl, rfl⟩ := q_7
  refine AW.sts (st' := [.int (bI (inS v (Mn ms 3)))]) rfl ?_
  refine aw_if_eq (n := 13) (tgt := 31) dX3_told_10 (by decide) rfl (fun c_10 => ?_) (fun c_10 => ?_)
  · skip
    have b_10 : (inS v (Mn ms 3)) = false := (bI_0 _).mp c_10
    refine aw_aload_n (n := 32) dX3_told_31 rfl 0 rfl rfl ?_
    refine aw_iconst (n := 33) (v := 1) dX3_told_32 (by decide) rfl ?_
    refine aw_callV (n := 36) (C0 := RX3) (As := [.int 1]) (rest := []) (K2 := kX3_no) dX3_told_33 q2773 q2775 qs42 q113 q2776 ⟨rfl, hcX3_no⟩ rfl hT_1.1 (ct_no G h_1 b (tS ms 0 (0 : Int32)) hb hT_1 (1 : Int32)) rfl (Nat.le_of_ble_eq_true rfl) ⟨Nat.le_of_ble_eq_true rfl, Nat.le_of_ble_eq_true rfl⟩ ⟨Nat.zero_le _, Nat.zero_le _⟩ (fun _ _ _ z => z.elim) rfl (fun r_33 h_33 q_33 => ?_)
    obtain ⟨rfl, hT_33, hF_33, hz_33⟩ := q_33
    have hG_33 := Fr.trans hF_1 hF_33
    refine AW.sts (st' := [.int 0]) rfl ?_
    have e9 : opTold ms v k = (0, tS (tS ms 0 (0 : Int32)) 0 (1 : Int32)) := by first | (simp [opTold, c_10, b_10, tS_tS]; done) | simp_all [opTold, tS_tS]
    exact aw_iret dX3_told_36 rfl ⟨by rw [e9], by rw [e9]; exact hT_33, hG_33, (by omega)⟩ ⟨Nat.zero_le _, Nat.zero_le _⟩
  · skip
    have b_10 : (inS v (Mn ms 3)) = true := Bool.of_not_eq_false (fun e => c_10 ((bI_0 _).mpr e))
    obtain ⟨j, hj, rfl⟩ := inS_of b_10 (by omega)
    refine aw_iload_n (n := 14) dX3_told_13 rfl 2 rfl rfl ?_
    refine aw_iconst (n := 15) (v := 0) dX3_told_14 (by decide) rfl ?_
    refine aw_iconst (n := 16) (v := 4) dX3_told_15 (by decide) rfl ?_
    refine aw_callS (n := 19) (As := [.int k, .int 0, .int 4]) (rest := []) (K2 := kX3_isIn) dX3_told_16 q2781 q2782 q113 q2783 hcX3_isIn (ct_isIn G h_1 k (0 : Int32) (4 : Int32)) rfl (Nat.le_of_ble_eq_true rfl) ⟨Nat.le_of_ble_eq_true rfl, Nat.le_of_ble_eq_true rfl⟩ ⟨Nat.zero_le _, Nat.zero_le _⟩ (fun _ _ _ z => z.elim) rfl (fun r_16 h_16 q_16 => ?_)
    obtain ⟨rfl, rfl⟩ := q_16
    refine AW.sts (st' := [.int (bI (inS k 5))]) (by rw [inS, show nI 5 - 1 = 4 from by decide]; rfl) ?_
    refine aw_if_eq (n := 22) (tgt := 31) dX3_told_19 (by decide) rfl (fun c_19 => ?_) (fun c_19 => ?_)
    · skip
      have b_19 : (inS k 5) = false := (bI_0 _).mp c_19
      refine aw_aload_n (n := 32) dX3_told_31 rfl 0 rfl rfl ?_
      refine aw_iconst (n := 33) (v := 1) dX3_told_32 (by decide) rfl ?_
      refine aw_callV (n := 36) (C0 := RX3) (As := [.int 1]) (rest := []) (K2 := kX3_no) dX3_told_33 q2773 q2775 qs42 q113 q2776 ⟨rfl, hcX3_no⟩ rfl hT_1.1 (ct_no G h_1 b (tS ms 0 (0 : Int32)) hb hT_1 (1 : Int32)) rfl (Nat.le_of_ble_eq_true rfl) ⟨Nat.le_of_ble_eq_true rfl, Nat.le_of_ble_eq_true rfl⟩ ⟨Nat.zero_le _, Nat.zero_le _⟩ (fun _ _ _ z => z.elim) rfl (fun r_33 h_33 q_33 => ?_)
      obtain ⟨rfl, hT_33, hF_33, hz_33⟩ := q_33
      have hG_33 := Fr.trans hF_1 hF_33
      refine AW.sts (st' := [.int 0]) rfl ?_
      have e9 : opTold ms (nI j) k = (0, tS (tS ms 0 (0 : Int32)) 0 (1 : Int32)) := by first | (simp [opTold, c_10, b_10, c_19, b_19, nN_nI (show j < 2 ^ 31 by omega), tS_tS]; done) | simp_all [opTold, nN_nI (show j < 2 ^ 31 by omega), tS_tS]
      exact aw_iret dX3_told_36 rfl ⟨by rw [e9], by rw [e9]; exact hT_33, hG_33, (by omega)⟩ ⟨Nat.zero_le _, Nat.zero_le _⟩
    · skip
      have b_19 : (inS k 5) = true := Bool.of_not_eq_false (fun e => c_19 ((bI_0 _).mpr e))
      obtain ⟨kk, hkk, rfl⟩ := inS_of b_19 (by omega)
      refine aw_aload_n (n := 23) dX3_told_22 rfl 0 rfl rfl ?_
      refine aw_iload_n (n := 24) dX3_told_23 rfl 1 rfl rfl ?_
      refine aw_iload_n (n := 25) dX3_told_24 rfl 2 rfl rfl ?_
      refine aw_callV (n := 28) (C0 := RX3) (As := [.int (nI j), .int (nI kk)]) (rest := []) (K2 := kX3_toldOf) dX3_told_25 q3154 q3156 qs102 q113 q3157 ⟨rfl, hcX3_toldOf⟩ rfl hT_1.1 (ct_toldOf G h_1 b (tS ms 0 (0 : Int32)) hb hT_1 (tOK.thrown hI _) j kk (by assumption) (by omega)) rfl (Nat.le_of_ble_eq_true rfl) ⟨Nat.le_of_ble_eq_true rfl, Nat.le_of_ble_eq_true rfl⟩ ⟨Nat.zero_le _, Nat.zero_le _⟩ (fun _ _ _ z => z.elim) rfl (fun r_25 h_25 q_25 => ?_)
      obtain ⟨rfl, rfl⟩ := q_25
      refine AW.sts (st' := [.int (tdT ms j kk)]) rfl ?_
      refine aw_goto (tgt := 36) dX3_told_28 (by decide) ?_
      have e9 : opTold ms (nI j) (nI kk) = (tdT ms j kk, tS ms 0 (0 : Int32)) := by first | (simp [opTold, c_10, b_10, c_19, b_19, nN_nI (show j < 2 ^ 31 by omega), nN_nI (show kk < 2 ^ 31 by omega), tS_tS]; done) | simp_all [opTold, nN_nI (show j < 2 ^ 31 by omega), nN_nI (show kk < 2 ^ 31 by omega), tS_tS]
      exact aw_iret dX3_told_36 rfl ⟨by rw [e9], by rw [e9]; exact hT_1, hF_1, (by omega)⟩ ⟨Nat.zero_le _, Nat.zero_le _⟩

abbrev kX3_begin : aK := (yX3_begin, cX3_begin, 2, (Option.none : Option Jvm.ClassFile.FieldType), [])
theorem hcX3_begin : kX3_begin.1.cls ≠ "java/lang/invoke/MethodHandle" ∧ kX3_begin.1.cls ≠ "java/lang/invoke/VarHandle" ∧ (parseMethodDescriptor kX3_begin.1.desc).map (fun d => d.parameters.length) = some 0 := ⟨by decide, by decide, by decide +kernel⟩
theorem ct_begin (G : aG) (h : hH) (b : Nat) (ms : tM) (hb : gB G ≤ b) (hT : TW b h ms) (hI : tOK ms) : Con G kX3_begin [.ref b] h ((1, 0, 0, 0), (fun r h1 => r = none ∧ TW b h1 (begT ms) ∧ Fr (TS b) h h1 ∧ h1.1 = h.1), nX) := by
  have := hI.L2; have := hI.S2; have := hI.M0; have := hI.M1; have := hI.M2; have := hI.M3; have := hI.P2; have := hI.K2; have := hI.KM2
  refine Con.of (plainFor_of_name rfl) rfl (Nat.le_of_ble_eq_true rfl) ?_
  refine AW.eq (lv2 := [(0, .ref b)]) (s2 := []) rfl rfl rfl rfl rfl ?_
  refine aw_aload_n (n := 1) dX3_begin_0 rfl 0 rfl rfl ?_
  refine aw_iconst (n := 2) (v := 0) dX3_begin_1 (by decide) rfl ?_
  refine aw_tput (n := 5) (k := 29) dX3_begin_2 q2670 (by decide) rfl rfl rfl rfl rfl hT hb rfl rfl (fun h_1 hT_1 hF_1 hz_1 => ?_)
  refine aw_iconst (n := 6) (v := 0) dX3_begin_5 (by decide) rfl ?_
  refine aw_istore_n (n := 7) (lv' := [(1, .int 0), (0, .ref b)]) dX3_begin_6 rfl (by decide) rfl rfl ?_
  suffices L_7 : ∀ (m_ : Nat) (c : Nat) (hh : hH) (hc : c ≤ Mn ms 0) (hTc : TW b hh (bgS ms c)) (hFc : Fr (TS b) h hh) (hzc : hh.1 = h.1), Mn ms 0 - c < m_ → AW G kX3_begin ((1, 0, 0, 0), (fun r h1 => r = none ∧ TW b h1 (begT ms) ∧ Fr (TS b) h h1 ∧ h1.1 = h.1), nX) 7 [(1, .int (nI c)), (0, .ref b)] [] hh 0 0 from
    AW.lvs (lv' := [(1, .int 0), (0, .ref b)]) (AW.eq (lv2 := _) (rfl) rfl rfl rfl rfl (L_7 _ 0 h_1 (by omega) hT_1 hF_1 (by omega) (Nat.lt_succ_self _))) (by simp)
  intro m_
  induction m_ with
  | zero => intro c hh hc hTc hFc hzc h_m; exact absurd h_m (Nat.not_lt_zero _)
  | succ m_ ih_7 =>
    intro c hh hc hTc hFc hzc h_m
    refine aw_iload_n (n := 8) dX3_begin_7 rfl 0 rfl rfl ?_
    refine aw_aload_n (n := 9) dX3_begin_8 rfl 1 rfl rfl ?_
    refine aw_getf (n := 12) (v := .ref (b + 16)) (C0 := RX3) (T := TX3) dX3_begin_9 rfl 23 q2664 (Or.inl rfl) hTc.1 rfl rfl ?_
    refine aw_iconst (n := 13) (v := 0) dX3_begin_12 (by decide) rfl ?_
    refine aw_iald (n := 14) (v := .int ((bgS ms c).2.1 23 0)) dX3_begin_13 rfl 0 (by rfl) hTc.a23 (by omega) (by decide) rfl rfl ?_
    refine aw_icmp_ge (n := 17) (tgt := 35) dX3_begin_14 (by decide) rfl (fun c_14 => ?_) (fun c_14 => ?_)
    · skip
      have n_14 : (Mn ms 0) ≤ c := (nI_leI (a := (Mn ms 0)) (b := c) (by omega) (by omega)).mp (by rw [← ((by rw [bgS_21]; exact hI.M (by decide)) : ((bgS ms c).2.1 23 0) = nI (Mn ms 0))]; exact c_14)
      exact aw_vret dX3_begin_35 rfl ⟨rfl, by rw [begT, show Mn ms 0 = c by omega]; exact hTc, hFc, hzc⟩ ⟨Nat.zero_le _, Nat.zero_le _⟩
    · skip
      have n_14 : ¬ ((Mn ms 0) ≤ c) := fun z => c_14 (by have y := (nI_leI (a := (Mn ms 0)) (b := c) (by omega) (by omega)).mpr z; rw [← ((by rw [bgS_21]; exact hI.M (by decide)) : ((bgS ms c).2.1 23 0) = nI (Mn ms 0))] at y; exact y)
      refine aw_aload_n (n := 18) dX3_begin_17 rfl 1 rfl rfl ?_
      refine aw_getf (n := 21) (v := .ref (b + 22)) (C0 := RX3) (T := TX3) dX3_begin_18 rfl 32 q2673 (Or.inl rfl) hTc.1 rfl rfl ?_
      refine aw_iload_n (n := 22) dX3_begin_21 rfl 0 rfl rfl ?_
      refine aw_aload_n (n := 23) dX3_begin_22 rfl 1 rfl rfl ?_
      refine aw_getf (n := 26) (v := .ref (b + 17)) (C0 := RX3) (T := TX3) dX3_begin_23 rfl 24 q2665 (Or.inl rfl) hTc.1 rfl rfl ?_
      refine aw_iload_n (n := 27) dX3_begin_26 rfl 0 rfl rfl ?_
      refine aw_lald (n := 28) (v := .long ((bgS ms c).2.2 24 c)) dX3_begin_27 rfl c rfl hTc.a24 (by omega) (by decide) rfl rfl ?_
      refine aw_tlast (n := 29) dX3_begin_28 TW.m32 hTc hb c rfl (by omega) (by decide) rfl (fun h_2 hT_2 hF_2 hz_2 => ?_)
      have hG_2 := Fr.trans hFc hF_2
      refine aw_iinc (n := 32) (v := nI (c + 1)) (lv' := [(1, .int (nI (c + 1))), (0, .ref b)]) dX3_begin_29 0 rfl (by rw [show nI c = nI c from rfl]; exact nI_1 _) (by decide) rfl rfl ?_
      refine aw_goto (tgt := 7) dX3_begin_32 (by decide) ?_
      exact AW.lvs (lv' := [(1, .int (nI (c + 1))), (0, .ref b)]) (AW.eq (lv2 := _) (rfl) rfl rfl rfl rfl (ih_7 (c + 1) h_2 (by omega) (by simpa [bgS, bgS_22] using hT_2) hG_2 (by omega) (by omega))) (by simp)

abbrev kX3_step : aK := (yX3_step, cX3_step, 4, (Option.some Jvm.ClassFile.FieldType.int), [])
theorem hcX3_step : kX3_step.1.cls ≠ "java/lang/invoke/MethodHandle" ∧ kX3_step.1.cls ≠ "java/lang/invoke/VarHandle" ∧ (parseMethodDescriptor kX3_step.1.desc).map (fun d => d.parameters.length) = some 1 := ⟨by decide, by decide, by decide +kernel⟩
theorem ct_step (G : aG) (h : hH) (b : Nat) (ms : tM) (hb : gB G ≤ b) (hT : TW b h ms) (hI : tOK ms) (t : Int32) (hs : Sn ms < 120) : Con G kX3_step [.ref b, .int t] h ((6, 120, 0, 0), (fun r h1 => r = some (.int (stepT ms t).1) ∧ TW b h1 ((stepT ms t).2) ∧ Fr (TS b) h h1 ∧ h1.1 = h.1), nX) := by
  have := hI.L2; have := hI.S2; have := hI.M0; have := hI.M1; have := hI.M2; have := hI.M3; have := hI.P2; have := hI.K2; have := hI.KM2
  refine Con.of (plainFor_of_name rfl) rfl (Nat.le_of_ble_eq_true rfl) ?_
  refine AW.eq (lv2 := [(0, .ref b), (1, .int t)]) (s2 := []) rfl rfl rfl rfl rfl ?_
  refine aw_aload_n (n := 1) dX3_step_0 rfl 0 rfl rfl ?_
  refine aw_getf (n := 4) (v := .ref (b + 20)) (C0 := RX3) (T := TX3) dX3_step_1 rfl 30 q2671 (Or.inl rfl) hT.1 rfl rfl ?_
  refine aw_aload_n (n := 5) dX3_step_4 rfl 0 rfl rfl ?_
  refine aw_getf (n := 8) (v := .int (nI (Sn ms))) (C0 := RX3) (T := TX3) dX3_step_5 rfl 29 q2670 (Or.inl rfl) hT.1 (congrArg some (congrArg Value.int hI.S)) rfl ?_
  refine aw_iload_n (n := 9) dX3_step_8 rfl 1 rfl rfl ?_
  refine aw_tiast (n := 10) dX3_step_9 TW.m30 hT hb (Sn ms) rfl (by omega) (by decide) rfl (fun h_1 hT_1 hF_1 hz_1 => ?_)
  refine aw_iconst (n := 11) (v := 0) dX3_step_10 (by decide) rfl ?_
  refine aw_istore_n (n := 12) (lv' := [(2, .int 0), (0, .ref b), (1, .int t)]) dX3_step_11 rfl (by decide) rfl rfl ?_
  suffices L_12 : ∀ (m_ : Nat) (c : Nat) (hh : hH) (hc : c ≤ Mn ms 0) (hTc : TW b hh (sgS ms t c)) (hFc : Fr (TS b) h hh) (hzc : hh.1 = h.1), Mn ms 0 - c < m_ → AW G kX3_step ((6, 120, 0, 0), (fun r h1 => r = some (.int (stepT ms t).1) ∧ TW b h1 ((stepT ms t).2) ∧ Fr (TS b) h h1 ∧ h1.1 = h.1), nX) 12 [(2, .int (nI c)), (0, .ref b), (1, .int t)] [] hh 0 0 from
    AW.lvs (lv' := [(2, .int 0), (0, .ref b), (1, .int t)]) (AW.eq (lv2 := _) (rfl) rfl rfl rfl rfl (L_12 _ 0 h_1 (by omega) hT_1 hF_1 (by omega) (Nat.lt_succ_self _))) (by simp)
  intro m_
  induction m_ with
  | zero => intro c hh hc hTc hFc hzc h_m; exact absurd h_m (Nat.not_lt_zero _)
  | succ m_ ih_12 =>
    intro c hh hc hTc hFc hzc h_m
    refine aw_iload_n (n := 13) dX3_step_12 rfl 0 rfl rfl ?_
    refine aw_aload_n (n := 14) dX3_step_13 rfl 1 rfl rfl ?_
    refine aw_getf (n := 17) (v := .ref (b + 16)) (C0 := RX3) (T := TX3) dX3_step_14 rfl 23 q2664 (Or.inl rfl) hTc.1 rfl rfl ?_
    refine aw_iconst (n := 18) (v := 0) dX3_step_17 (by decide) rfl ?_
    refine aw_iald (n := 19) (v := .int ((sgS ms t c).2.1 23 0)) dX3_step_18 rfl 0 (by rfl) hTc.a23 (by omega) (by decide) rfl rfl ?_
    refine aw_icmp_ge (n := 22) (tgt := 48) dX3_step_19 (by decide) rfl (fun c_19 => ?_) (fun c_19 => ?_)
    · skip
      have n_19 : Mn ms 0 ≤ c := (nI_leI (a := Mn ms 0) (b := c) (by omega) (by omega)).mp (by rw [← (show (sgS ms t c).2.1 23 0 = nI (Mn ms 0) from by rw [sgS_21]; exact hI.M (by decide))]; exact c_19)
      have e9 : c = Mn ms 0 := by omega
      subst e9
      refine aw_aload_n (n := 49) dX3_step_48 rfl 1 rfl rfl ?_
      refine aw_iconst (n := 50) (v := 0) dX3_step_49 (by decide) rfl ?_
      refine aw_aload_n (n := 51) dX3_step_50 rfl 1 rfl rfl ?_
      refine aw_getf (n := 54) (v := .int (nI (Pn ms))) (C0 := RX3) (T := TX3) dX3_step_51 rfl 27 q2668 (Or.inl rfl) hTc.1 (congrArg some (congrArg Value.int (by rw [sgS_1]; exact hI.P))) rfl ?_
      refine aw_aload_n (n := 55) dX3_step_54 rfl 1 rfl rfl ?_
      refine aw_getf (n := 58) (v := .int (nI (Sn ms))) (C0 := RX3) (T := TX3) dX3_step_55 rfl 29 q2670 (Or.inl rfl) hTc.1 (congrArg some (congrArg Value.int (by rw [sgS_1]; exact hI.S))) rfl ?_
      refine AW.sts (st' := [.int (nI (Sn ms)), .int (nI (Pn ms)), .int (nI 0), .ref b]) (by rw [show (0 : Int32) = nI 0 from (by rfl)]) ?_
      refine aw_callV (n := 61) (C0 := RX3) (As := [.int (nI 0), .int (nI (Pn ms)), .int (nI (Sn ms))]) (rest := []) (K2 := kX3_reckon) dX3_step_58 q3048 q3050 qs89 q113 q3051 ⟨rfl, hcX3_reckon⟩ rfl hTc.1 (ct_reckon G hh b (sgS ms t (Mn ms 0)) hb hTc 0 (Pn ms) (Sn ms) (by omega) (by omega) (by omega) (fun n _ hn => okW_cg (fun k9 h9 => by rw [sgS_21]; simp [tI, h9]) (hI.W hn).1)) rfl (Nat.le_of_ble_eq_true rfl) ⟨Nat.le_of_ble_eq_true rfl, Nat.le_of_ble_eq_true rfl⟩ ⟨Nat.zero_le _, Nat.zero_le _⟩ (fun _ _ _ z => z.elim) rfl (fun r_58 h_58 q_58 => ?_)
      obtain ⟨rfl, hT_58, hF_58, hz_58⟩ := q_58
      have hT_58 : TW b h_58 (stM ms t) := hT_58
      have hG_58 := Fr.trans hFc hF_58
      have hI2 := stM_ok hI t
      refine AW.sts (st' := []) rfl ?_
      refine aw_iconst (n := 62) (v := 0) dX3_step_61 (by decide) rfl ?_
      refine aw_istore_n (n := 63) (lv' := [(2, .int 0), (0, .ref b), (1, .int t)]) dX3_step_62 rfl (by decide) rfl rfl ?_
      refine aw_iconst (n := 64) (v := 0) dX3_step_63 (by decide) rfl ?_
      refine aw_istore_n (n := 65) (lv' := [(3, .int 0), (2, .int 0), (0, .ref b), (1, .int t)]) dX3_step_64 rfl (by decide) rfl rfl ?_
      suffices L_65 : ∀ (m_ : Nat) (c : Nat) (hc : c ≤ Mn ms 3), Mn ms 3 - c < m_ → AW G kX3_step ((6, 120, 0, 0), (fun r h1 => r = some (.int (stepT ms t).1) ∧ TW b h1 ((stepT ms t).2) ∧ Fr (TS b) h h1 ∧ h1.1 = h.1), nX) 65 [(3, .int (nI c)), (2, .int (notT (stM ms t) (Sn ms) c)), (0, .ref b), (1, .int t)] [] h_58 0 0 from
        AW.lvs (lv' := [(3, .int 0), (2, .int 0), (0, .ref b), (1, .int t)]) (AW.eq (lv2 := _) (rfl) rfl rfl rfl rfl (L_65 _ 0 (by omega) (Nat.lt_succ_self _))) (by simp)
      intro m_
      induction m_ with
      | zero => intro c hc h_m; exact absurd h_m (Nat.not_lt_zero _)
      | succ m_ ih_65 =>
        intro c hc h_m
        have hM9 : Mn (stM ms t) 3 = Mn ms 3 := by unfold Mn; rw [stM_21 _ _ _ (by decide)]
        have hP9 := hI2.P2
        refine aw_iload_n (n := 66) dX3_step_65 rfl 0 rfl rfl ?_
        refine aw_aload_n (n := 67) dX3_step_66 rfl 2 rfl rfl ?_
        refine aw_getf (n := 70) (v := .ref (b + 16)) (C0 := RX3) (T := TX3) dX3_step_67 rfl 23 q2664 (Or.inl rfl) hT_58.1 rfl rfl ?_
        refine aw_iconst (n := 71) (v := 3) dX3_step_70 (by decide) rfl ?_
        refine aw_iald (n := 72) (v := .int ((stM ms t).2.1 23 3)) dX3_step_71 rfl 3 (by rfl) hT_58.a23 (by omega) (by decide) rfl rfl ?_
        refine aw_icmp_ge (n := 75) (tgt := 101) dX3_step_72 (by decide) rfl (fun c_72 => ?_) (fun c_72 => ?_)
        · skip
          have n_72 : (Mn ms 3) ≤ c := (nI_leI (a := (Mn ms 3)) (b := c) (by omega) (by omega)).mp (by rw [← ((by rw [stM_21 _ _ _ (by decide)]; exact hI.M (by decide)) : ((stM ms t).2.1 23 3) = nI (Mn ms 3))]; exact c_72)
          refine aw_aload_n (n := 102) dX3_step_101 rfl 2 rfl rfl ?_
          refine aw_dup (n := 103) dX3_step_102 rfl rfl ?_
          refine aw_getf (n := 106) (v := .int (nI (Sn ms))) (C0 := RX3) (T := TX3) dX3_step_103 rfl 29 q2670 (Or.inl rfl) hT_58.1 (congrArg some (congrArg Value.int (by rw [stM_1]; exact hI.S))) rfl ?_
          refine aw_iconst (n := 107) (v := 1) dX3_step_106 (by decide) rfl ?_
          refine aw_iadd (n := 108) dX3_step_107 rfl ?_
          refine AW.sts (st' := [.int (nI ((Sn ms) + 1)), .ref b]) (by rw [show (nI (Sn ms)) + 1 = nI ((Sn ms) + 1) from (nI_1 _)]) ?_
          refine aw_tput (n := 111) (k := 29) dX3_step_108 q2670 (by decide) rfl rfl rfl rfl rfl hT_58 hb rfl rfl (fun h_2 hT_2 hF_2 hz_2 => ?_)
          have hG_2 := Fr.trans hG_58 hF_2
          refine aw_iload_n (n := 112) dX3_step_111 rfl 1 rfl rfl ?_
          exact aw_iret dX3_step_112 rfl ⟨by rw [show c = Mn ms 3 by omega]; rfl, hT_2, hG_2, (by omega)⟩ ⟨Nat.zero_le _, Nat.zero_le _⟩
        · skip
          have n_72 : ¬ ((Mn ms 3) ≤ c) := fun z => c_72 (by have y := (nI_leI (a := (Mn ms 3)) (b := c) (by omega) (by omega)).mpr z; rw [← ((by rw [stM_21 _ _ _ (by decide)]; exact hI.M (by decide)) : ((stM ms t).2.1 23 3) = nI (Mn ms 3))] at y; exact y)
          refine aw_iload_n (n := 76) dX3_step_75 rfl 1 rfl rfl ?_
          refine aw_aload_n (n := 77) dX3_step_76 rfl 2 rfl rfl ?_
          refine aw_iload_n (n := 78) dX3_step_77 rfl 0 rfl rfl ?_
          refine aw_aload_n (n := 79) dX3_step_78 rfl 2 rfl rfl ?_
          refine aw_getf (n := 82) (v := .int (nI (Sn ms))) (C0 := RX3) (T := TX3) dX3_step_79 rfl 29 q2670 (Or.inl rfl) hT_58.1 (congrArg some (congrArg Value.int (by rw [stM_1]; exact hI.S))) rfl ?_
          refine aw_callV (n := 85) (C0 := RX3) (As := [.int (nI c), .int (nI (Sn ms))]) (rest := [.int (notT (stM ms t) (Sn ms) c)]) (K2 := kX3_watches) dX3_step_82 q3100 q3102 qs99 q113 q3103 ⟨rfl, hcX3_watches⟩ rfl hT_58.1 (ct_watches G h_58 b (stM ms t) hb hT_58 c (Sn ms) (tp (stM ms t) 3 c) (by omega) (by omega) (hI2.T (k := 3) (by decide) (by decide) (by omega)) (by have := hI2.T2 (k := 3) (j := c) (by decide) (by decide) (by omega); omega)) rfl (Nat.le_of_ble_eq_true rfl) ⟨Nat.le_of_ble_eq_true rfl, Nat.le_of_ble_eq_true rfl⟩ ⟨Nat.zero_le _, Nat.zero_le _⟩ (fun _ _ _ z => z.elim) rfl (fun r_82 h_82 q_82 => ?_)
          obtain ⟨rfl, rfl⟩ := q_82
          refine AW.sts (st' := [.int (bI (hd (stM ms t) (tp (stM ms t) 3 c) (Sn ms))), .int (notT (stM ms t) (Sn ms) c)]) rfl ?_
          refine aw_if_eq (n := 88) (tgt := 92) dX3_step_85 (by decide) rfl (fun c_85 => ?_) (fun c_85 => ?_)
          · skip
            have b_85 : (hd (stM ms t) (tp (stM ms t) 3 c) (Sn ms)) = false := (bI_0 _).mp c_85
            refine aw_iconst (n := 93) (v := 1) dX3_step_92 (by decide) rfl ?_
            refine aw_iadd (n := 94) dX3_step_93 rfl ?_
            refine aw_istore_n (n := 95) (lv' := [(2, .int ((notT (stM ms t) (Sn ms) c) + 1)), (3, .int (nI c)), (0, .ref b), (1, .int t)]) dX3_step_94 rfl (by decide) rfl rfl ?_
            refine aw_iinc (n := 98) (v := nI (c + 1)) (lv' := [(3, .int (nI (c + 1))), (2, .int ((notT (stM ms t) (Sn ms) c) + 1)), (0, .ref b), (1, .int t)]) dX3_step_95 1 rfl (by rw [show nI c = nI c from rfl]; exact nI_1 _) (by decide) rfl rfl ?_
            refine aw_goto (tgt := 65) dX3_step_98 (by decide) ?_
            exact AW.lvs (lv' := [(3, .int (nI (c + 1))), (2, .int ((notT (stM ms t) (Sn ms) c) + 1)), (0, .ref b), (1, .int t)]) (AW.eq (lv2 := _) (by simp [notT, b_85]) rfl rfl rfl rfl (ih_65 (c + 1) (by omega) (by omega))) (by simp)
          · skip
            have b_85 : (hd (stM ms t) (tp (stM ms t) 3 c) (Sn ms)) = true := Bool.of_not_eq_false (fun e => c_85 ((bI_0 _).mpr e))
            refine aw_iconst (n := 89) (v := 0) dX3_step_88 (by decide) rfl ?_
            refine aw_goto (tgt := 93) dX3_step_89 (by decide) ?_
            refine aw_iadd (n := 94) dX3_step_93 rfl ?_
            refine aw_istore_n (n := 95) (lv' := [(2, .int ((notT (stM ms t) (Sn ms) c) + 0)), (3, .int (nI c)), (0, .ref b), (1, .int t)]) dX3_step_94 rfl (by decide) rfl rfl ?_
            refine aw_iinc (n := 98) (v := nI (c + 1)) (lv' := [(3, .int (nI (c + 1))), (2, .int ((notT (stM ms t) (Sn ms) c) + 0)), (0, .ref b), (1, .int t)]) dX3_step_95 1 rfl (by rw [show nI c = nI c from rfl]; exact nI_1 _) (by decide) rfl rfl ?_
            refine aw_goto (tgt := 65) dX3_step_98 (by decide) ?_
            exact AW.lvs (lv' := [(3, .int (nI (c + 1))), (2, .int ((notT (stM ms t) (Sn ms) c) + 0)), (0, .ref b), (1, .int t)]) (AW.eq (lv2 := _) (by simp [notT, b_85]) rfl rfl rfl rfl (ih_65 (c + 1) (by omega) (by omega))) (by simp)
    · skip
      have n_19 : ¬ (Mn ms 0 ≤ c) := fun z => c_19 (by have y := (nI_leI (a := Mn ms 0) (b := c) (by omega) (by omega)).mpr z; rw [← (show (sgS ms t c).2.1 23 0 = nI (Mn ms 0) from by rw [sgS_21]; exact hI.M (by decide))] at y; exact y)
      refine aw_aload_n (n := 23) dX3_step_22 rfl 1 rfl rfl ?_
      refine aw_getf (n := 26) (v := .ref (b + 21)) (C0 := RX3) (T := TX3) dX3_step_23 rfl 31 q2672 (Or.inl rfl) hTc.1 rfl rfl ?_
      refine aw_bipush (n := 28) (v := 8) dX3_step_26 (by decide) rfl ?_
      refine aw_aload_n (n := 29) dX3_step_28 rfl 1 rfl rfl ?_
      refine aw_getf (n := 32) (v := .int (nI (Sn ms))) (C0 := RX3) (T := TX3) dX3_step_29 rfl 29 q2670 (Or.inl rfl) hTc.1 (congrArg some (congrArg Value.int (by rw [sgS_1]; exact hI.S))) rfl ?_
      refine aw_imul (n := 33) dX3_step_32 rfl ?_
      refine aw_iload_n (n := 34) dX3_step_33 rfl 0 rfl rfl ?_
      refine aw_iadd (n := 35) dX3_step_34 rfl ?_
      refine aw_aload_n (n := 36) dX3_step_35 rfl 1 rfl rfl ?_
      refine aw_getf (n := 39) (v := .ref (b + 22)) (C0 := RX3) (T := TX3) dX3_step_36 rfl 32 q2673 (Or.inl rfl) hTc.1 rfl rfl ?_
      refine aw_iload_n (n := 40) dX3_step_39 rfl 0 rfl rfl ?_
      refine aw_lald (n := 41) (v := .long ((sgS ms t c).2.2 32 c)) dX3_step_40 rfl c rfl hTc.a32 (by omega) (by decide) rfl rfl ?_
      refine aw_tlast (n := 42) dX3_step_41 TW.m31 hTc hb ((8 * (Sn ms)) + c) (by rw [show 8 * (nI (Sn ms)) = nI (8 * (Sn ms)) from (by rw [show 8 = nI 8 from (by rfl), show nI (Sn ms) = nI (Sn ms) from rfl]; exact pk_mul _ _), show nI c = nI c from rfl]; exact nI_add _ _) (by omega) (by decide) rfl (fun h_3 hT_3 hF_3 hz_3 => ?_)
      have hG_3 := Fr.trans hFc hF_3
      refine aw_iinc (n := 45) (v := nI (c + 1)) (lv' := [(2, .int (nI (c + 1))), (0, .ref b), (1, .int t)]) dX3_step_42 0 rfl (by rw [show nI c = nI c from rfl]; exact nI_1 _) (by decide) rfl rfl ?_
      refine aw_goto (tgt := 12) dX3_step_45 (by decide) ?_
      exact AW.lvs (lv' := [(2, .int (nI (c + 1))), (0, .ref b), (1, .int t)]) (AW.eq (lv2 := _) (rfl) rfl rfl rfl rfl (ih_12 (c + 1) h_3 (by omega) (by simpa [sgS, sgS_22] using hT_3) hG_3 (by omega) (by omega))) (by simp)

abbrev kX3_restart : aK := (yX3_restart, cX3_restart, 1, (Option.some Jvm.ClassFile.FieldType.int), [])
theorem hcX3_restart : kX3_restart.1.cls ≠ "java/lang/invoke/MethodHandle" ∧ kX3_restart.1.cls ≠ "java/lang/invoke/VarHandle" ∧ (parseMethodDescriptor kX3_restart.1.desc).map (fun d => d.parameters.length) = some 0 := ⟨by decide, by decide, by decide +kernel⟩
theorem ct_restart (G : aG) (h : hH) (b : Nat) (ms : tM) (hb : gB G ≤ b) (hT : TW b h ms) (hI : tOK ms) : Con G kX3_restart [.ref b] h ((2, 21, 0, 0), (fun r h1 => r = some (.int (opRestart ms).1) ∧ TW b h1 ((opRestart ms).2) ∧ Fr (TS b) h h1 ∧ h1.1 = h.1), nX) := by
  have := hI.L2; have := hI.S2; have := hI.M0; have := hI.M1; have := hI.M2; have := hI.M3; have := hI.P2; have := hI.K2; have := hI.KM2
  refine Con.of (plainFor_of_name rfl) rfl (Nat.le_of_ble_eq_true rfl) ?_
  refine AW.eq (lv2 := [(0, .ref b)]) (s2 := []) rfl rfl rfl rfl rfl ?_
  refine aw_aload_n (n := 1) dX3_restart_0 rfl 0 rfl rfl ?_
  refine aw_iconst (n := 2) (v := 0) dX3_restart_1 (by decide) rfl ?_
  refine aw_tput (n := 5) (k := 0) dX3_restart_2 q2641 (by decide) rfl rfl rfl rfl rfl hT hb rfl rfl (fun h_1 hT_1 hF_1 hz_1 => ?_)
  refine aw_aload_n (n := 6) dX3_restart_5 rfl 0 rfl rfl ?_
  refine aw_getf (n := 9) (v := .int (bI (decide (0 < Mn ms 3)))) (C0 := RX3) (T := TX3) dX3_restart_6 rfl 18 q2659 (Or.inl rfl) hT_1.1 (congrArg some (congrArg Value.int hI.I)) rfl ?_
  refine aw_if_ne (n := 12) (tgt := 18) dX3_restart_9 (by decide) rfl (fun c_9 => ?_) (fun c_9 => ?_)
  · skip
    have b_9 : (decide (0 < Mn ms 3)) = true := Bool.of_not_eq_false (fun e => c_9 ((bI_0 _).mpr e))
    refine aw_aload_n (n := 19) dX3_restart_18 rfl 0 rfl rfl ?_
    refine aw_callV (n := 22) (C0 := RX3) (As := []) (rest := []) (K2 := kX3_begin) dX3_restart_19 q3020 q3022 qs86 q113 q3023 ⟨rfl, hcX3_begin⟩ rfl hT_1.1 (ct_begin G h_1 b (tS ms 0 (0 : Int32)) hb hT_1 (tOK.thrown hI _)) rfl (Nat.le_of_ble_eq_true rfl) ⟨Nat.le_of_ble_eq_true rfl, Nat.le_of_ble_eq_true rfl⟩ ⟨Nat.zero_le _, Nat.zero_le _⟩ (fun _ _ _ z => z.elim) rfl (fun r_19 h_19 q_19 => ?_)
    obtain ⟨rfl, hT_19, hF_19, hz_19⟩ := q_19
    have hG_19 := Fr.trans hF_1 hF_19
    refine AW.sts (st' := []) rfl ?_
    refine aw_aload_n (n := 23) dX3_restart_22 rfl 0 rfl rfl ?_
    refine aw_getf (n := 26) (v := .ref (b + 16)) (C0 := RX3) (T := TX3) dX3_restart_23 rfl 23 q2664 (Or.inl rfl) hT_19.1 rfl rfl ?_
    refine aw_iconst (n := 27) (v := 3) dX3_restart_26 (by decide) rfl ?_
    refine aw_iald (n := 28) (v := .int ((begT (tS ms 0 0)).2.1 23 3)) dX3_restart_27 rfl 3 (by rfl) hT_19.a23 (by omega) (by decide) rfl rfl ?_
    refine AW.sts (st' := [.int (ms.2.1 23 3)]) (by rw [begT, bgS_21]; rfl) ?_
    have e9 : opRestart ms = (ms.2.1 23 3, begT (tS ms 0 0)) := by first | (simp [opRestart, b_9, c_9, tS_tS]; done) | simp_all [opRestart, tS_tS]
    exact aw_iret dX3_restart_28 rfl ⟨by rw [e9], by rw [e9]; exact hT_19, hG_19, (by omega)⟩ ⟨Nat.zero_le _, Nat.zero_le _⟩
  · skip
    have b_9 : (decide (0 < Mn ms 3)) = false := (bI_0 _).mp c_9
    refine aw_aload_n (n := 13) dX3_restart_12 rfl 0 rfl rfl ?_
    refine aw_iconst (n := 14) (v := 1) dX3_restart_13 (by decide) rfl ?_
    refine aw_callV (n := 17) (C0 := RX3) (As := [.int 1]) (rest := []) (K2 := kX3_no) dX3_restart_14 q2773 q2775 qs42 q113 q2776 ⟨rfl, hcX3_no⟩ rfl hT_1.1 (ct_no G h_1 b (tS ms 0 (0 : Int32)) hb hT_1 (1 : Int32)) rfl (Nat.le_of_ble_eq_true rfl) ⟨Nat.le_of_ble_eq_true rfl, Nat.le_of_ble_eq_true rfl⟩ ⟨Nat.zero_le _, Nat.zero_le _⟩ (fun _ _ _ z => z.elim) rfl (fun r_14 h_14 q_14 => ?_)
    obtain ⟨rfl, hT_14, hF_14, hz_14⟩ := q_14
    have hG_14 := Fr.trans hF_1 hF_14
    refine AW.sts (st' := [.int 0]) rfl ?_
    have e9 : opRestart ms = (0, tS (tS ms 0 (0 : Int32)) 0 (1 : Int32)) := by first | (simp [opRestart, b_9, c_9, tS_tS]; done) | simp_all [opRestart, tS_tS]
    exact aw_iret dX3_restart_17 rfl ⟨by rw [e9], by rw [e9]; exact hT_14, hG_14, (by omega)⟩ ⟨Nat.zero_le _, Nat.zero_le _⟩

abbrev kX3_tick : aK := (yX3_tick, cX3_tick, 2, (Option.some Jvm.ClassFile.FieldType.int), [])
theorem hcX3_tick : kX3_tick.1.cls ≠ "java/lang/invoke/MethodHandle" ∧ kX3_tick.1.cls ≠ "java/lang/invoke/VarHandle" ∧ (parseMethodDescriptor kX3_tick.1.desc).map (fun d => d.parameters.length) = some 1 := ⟨by decide, by decide, by decide +kernel⟩
theorem ct_tick (G : aG) (h : hH) (b : Nat) (ms : tM) (hb : gB G ≤ b) (hT : TW b h ms) (hI : tOK ms) (v : Int32) : Con G kX3_tick [.ref b, .int v] h ((7, 143, 0, 0), (fun r h1 => r = some (.int (opTick ms v).1) ∧ TW b h1 ((opTick ms v).2) ∧ Fr (TS b) h h1 ∧ h1.1 = h.1), nX) := by
  have := hI.L2; have := hI.S2; have := hI.M0; have := hI.M1; have := hI.M2; have := hI.M3; have := hI.P2; have := hI.K2; have := hI.KM2
  refine Con.of (plainFor_of_name rfl) rfl (Nat.le_of_ble_eq_true rfl) ?_
  refine AW.eq (lv2 := [(0, .ref b), (1, .int v)]) (s2 := []) rfl rfl rfl rfl rfl ?_
  refine aw_aload_n (n := 1) dX3_tick_0 rfl 0 rfl rfl ?_
  refine aw_iconst (n := 2) (v := 0) dX3_tick_1 (by decide) rfl ?_
  refine aw_tput (n := 5) (k := 0) dX3_tick_2 q2641 (by decide) rfl rfl rfl rfl rfl hT hb rfl rfl (fun h_1 hT_1 hF_1 hz_1 => ?_)
  refine aw_iload_n (n := 6) dX3_tick_5 rfl 1 rfl rfl ?_
  refine aw_iconst (n := 7) (v := 0) dX3_tick_6 (by decide) rfl ?_
  refine aw_sipush (n := 10) (v := 1000) dX3_tick_7 (by decide) rfl ?_
  refine aw_callS (n := 13) (As := [.int v, .int 0, .int 1000]) (rest := []) (K2 := kX3_isIn) dX3_tick_10 q2781 q2782 q113 q2783 hcX3_isIn (ct_isIn G h_1 v (0 : Int32) (1000 : Int32)) rfl (Nat.le_of_ble_eq_true rfl) ⟨Nat.le_of_ble_eq_true rfl, Nat.le_of_ble_eq_true rfl⟩ ⟨Nat.zero_le _, Nat.zero_le _⟩ (fun _ _ _ z => z.elim) rfl (fun r_10 h_10 q_10 => ?_)
  obtain ⟨rfl, rfl⟩ := q_10
  refine AW.sts (st' := [.int (bI (inS v 1001))]) (by rw [inS, show nI 1001 - 1 = 1000 from by decide]; rfl) ?_
  refine aw_if_ne (n := 16) (tgt := 22) dX3_tick_13 (by decide) rfl (fun c_13 => ?_) (fun c_13 => ?_)
  · skip
    have b_13 : inS v 1001 = true := Bool.of_not_eq_false (fun e => c_13 ((bI_0 _).mpr e))
    refine aw_aload_n (n := 23) dX3_tick_22 rfl 0 rfl rfl ?_
    refine aw_getf (n := 26) (v := .int (bI (decide (0 < Mn ms 3)))) (C0 := RX3) (T := TX3) dX3_tick_23 rfl 18 q2659 (Or.inl rfl) hT_1.1 (congrArg some (congrArg Value.int hI.I)) rfl ?_
    refine aw_if_eq (n := 29) (tgt := 38) dX3_tick_26 (by decide) rfl (fun c_26 => ?_) (fun c_26 => ?_)
    · skip
      have b_26 : (decide (0 < Mn ms 3)) = false := (bI_0 _).mp c_26
      refine aw_aload_n (n := 39) dX3_tick_38 rfl 0 rfl rfl ?_
      refine aw_iconst (n := 40) (v := 2) dX3_tick_39 (by decide) rfl ?_
      refine aw_callV (n := 43) (C0 := RX3) (As := [.int 2]) (rest := []) (K2 := kX3_no) dX3_tick_40 q2773 q2775 qs42 q113 q2776 ⟨rfl, hcX3_no⟩ rfl hT_1.1 (ct_no G h_1 b (tS ms 0 (0 : Int32)) hb hT_1 (2 : Int32)) rfl (Nat.le_of_ble_eq_true rfl) ⟨Nat.le_of_ble_eq_true rfl, Nat.le_of_ble_eq_true rfl⟩ ⟨Nat.zero_le _, Nat.zero_le _⟩ (fun _ _ _ z => z.elim) rfl (fun r_40 h_40 q_40 => ?_)
      obtain ⟨rfl, hT_40, hF_40, hz_40⟩ := q_40
      have hG_40 := Fr.trans hF_1 hF_40
      refine AW.sts (st' := [.int 0]) rfl ?_
      have e9 : opTick ms v = (0, tS (tS ms 0 (0 : Int32)) 0 (2 : Int32)) := by first | (simp [opTick, c_13, b_13, b_26, c_26, tS_tS]; done) | simp_all [opTick, tS_tS]
      exact aw_iret dX3_tick_43 rfl ⟨by rw [e9], by rw [e9]; exact hT_40, hG_40, (by omega)⟩ ⟨Nat.zero_le _, Nat.zero_le _⟩
    · skip
      have b_26 : (decide (0 < Mn ms 3)) = true := Bool.of_not_eq_false (fun e => c_26 ((bI_0 _).mpr e))
      refine aw_aload_n (n := 30) dX3_tick_29 rfl 0 rfl rfl ?_
      refine aw_getf (n := 33) (v := .int (nI (Sn ms))) (C0 := RX3) (T := TX3) dX3_tick_30 rfl 29 q2670 (Or.inl rfl) hT_1.1 (congrArg some (congrArg Value.int hI.S)) rfl ?_
      refine aw_bipush (n := 35) (v := 120) dX3_tick_33 (by decide) rfl ?_
      refine aw_icmp_ne (n := 38) (tgt := 44) dX3_tick_35 (by decide) rfl (fun c_35 => ?_) (fun c_35 => ?_)
      · skip
        have n_35 : ¬ ((Sn ms) = 120) := fun z => c_35 (by have y := (nI_eq (a := (Sn ms)) (b := 120) (by omega) (by omega)).mpr z; rw [← ((by rfl) : (120 : Int32) = nI 120)] at y; exact y)
        refine aw_aload_n (n := 45) dX3_tick_44 rfl 0 rfl rfl ?_
        refine aw_aload_n (n := 46) dX3_tick_45 rfl 0 rfl rfl ?_
        refine aw_getf (n := 49) (v := .int (nI (Sn ms))) (C0 := RX3) (T := TX3) dX3_tick_46 rfl 29 q2670 (Or.inl rfl) hT_1.1 (congrArg some (congrArg Value.int hI.S)) rfl ?_
        refine aw_if_ne (n := 52) (tgt := 56) dX3_tick_49 (by decide) rfl (fun c_49 => ?_) (fun c_49 => ?_)
        · skip
          have n_49 : ¬ ((Sn ms) = 0) := fun z => c_49 (by have y := (nI_eq (a := (Sn ms)) (b := 0) (by omega) (by omega)).mpr z; rw [← ((by rfl) : (0 : Int32) = nI 0)] at y; exact y)
          refine aw_aload_n (n := 57) dX3_tick_56 rfl 0 rfl rfl ?_
          refine aw_getf (n := 60) (v := .ref (b + 20)) (C0 := RX3) (T := TX3) dX3_tick_57 rfl 30 q2671 (Or.inl rfl) hT_1.1 rfl rfl ?_
          refine aw_aload_n (n := 61) dX3_tick_60 rfl 0 rfl rfl ?_
          refine aw_getf (n := 64) (v := .int (nI (Sn ms))) (C0 := RX3) (T := TX3) dX3_tick_61 rfl 29 q2670 (Or.inl rfl) hT_1.1 (congrArg some (congrArg Value.int hI.S)) rfl ?_
          refine aw_iconst (n := 65) (v := 1) dX3_tick_64 (by decide) rfl ?_
          refine aw_isub (n := 66) dX3_tick_65 rfl ?_
          refine aw_iald (n := 67) (v := .int (ms.2.1 30 ((Sn ms) - 1))) dX3_tick_66 rfl ((Sn ms) - 1) (by exact (pk_sub (b := 1) (by omega))) hT_1.a30 (by omega) (by decide) rfl rfl ?_
          refine aw_iload_n (n := 68) dX3_tick_67 rfl 1 rfl rfl ?_
          refine aw_iadd (n := 69) dX3_tick_68 rfl ?_
          refine AW.sts (st' := [.int (lastT ms + v), .ref b]) (by simp [lastT, c_13, b_13, b_26, c_26, n_35, c_35, n_49, c_49]) ?_
          refine aw_callV (n := 72) (C0 := RX3) (As := [.int (lastT ms + v)]) (rest := []) (K2 := kX3_step) dX3_tick_69 q3044 q3046 qs88 q113 q3047 ⟨rfl, hcX3_step⟩ rfl hT_1.1 (ct_step G h_1 b (tS ms 0 (0 : Int32)) hb hT_1 (tOK.thrown hI _) (lastT ms + v) (by have : Sn (tS ms 0 0) = Sn ms := rfl; omega)) rfl (Nat.le_of_ble_eq_true rfl) ⟨Nat.le_of_ble_eq_true rfl, Nat.le_of_ble_eq_true rfl⟩ ⟨Nat.zero_le _, Nat.zero_le _⟩ (fun _ _ _ z => z.elim) rfl (fun r_69 h_69 q_69 => ?_)
          obtain ⟨rfl, hT_69, hF_69, hz_69⟩ := q_69
          have hG_69 := Fr.trans hF_1 hF_69
          refine AW.sts (st' := [.int ((stepT (tS ms 0 0) (lastT ms + v)).1)]) rfl ?_
          have m9 : ¬ Mn ms 3 = 0 := by have := of_decide_eq_true b_26; omega
          have e9 : opTick ms v = stepT (tS ms 0 0) (lastT ms + v) := by first | (simp [opTick, c_13, b_13, b_26, c_26, n_35, c_35, n_49, c_49, m9]; done) | (simp [opTick, c_13, b_13, b_26, c_26, n_35, c_35, n_49, c_49, m9]; intros; omega) | simp_all [opTick]
          exact aw_iret dX3_tick_72 rfl ⟨by rw [e9], by rw [e9]; exact hT_69, hG_69, (by omega)⟩ ⟨Nat.zero_le _, Nat.zero_le _⟩
        · skip
          have n_49 : (Sn ms) = 0 := (nI_eq (a := (Sn ms)) (b := 0) (by omega) (by omega)).mp (by rw [← ((by rfl) : (0 : Int32) = nI 0)]; exact c_49)
          refine aw_iconst (n := 53) (v := 0) dX3_tick_52 (by decide) rfl ?_
          refine aw_goto (tgt := 67) dX3_tick_53 (by decide) ?_
          refine aw_iload_n (n := 68) dX3_tick_67 rfl 1 rfl rfl ?_
          refine aw_iadd (n := 69) dX3_tick_68 rfl ?_
          refine AW.sts (st' := [.int (lastT ms + v), .ref b]) (by simp [lastT, c_13, b_13, b_26, c_26, n_35, c_35, c_49, n_49]) ?_
          refine aw_callV (n := 72) (C0 := RX3) (As := [.int (lastT ms + v)]) (rest := []) (K2 := kX3_step) dX3_tick_69 q3044 q3046 qs88 q113 q3047 ⟨rfl, hcX3_step⟩ rfl hT_1.1 (ct_step G h_1 b (tS ms 0 (0 : Int32)) hb hT_1 (tOK.thrown hI _) (lastT ms + v) (by have : Sn (tS ms 0 0) = Sn ms := rfl; omega)) rfl (Nat.le_of_ble_eq_true rfl) ⟨Nat.le_of_ble_eq_true rfl, Nat.le_of_ble_eq_true rfl⟩ ⟨Nat.zero_le _, Nat.zero_le _⟩ (fun _ _ _ z => z.elim) rfl (fun r_69 h_69 q_69 => ?_)
          obtain ⟨rfl, hT_69, hF_69, hz_69⟩ := q_69
          have hG_69 := Fr.trans hF_1 hF_69
          refine AW.sts (st' := [.int ((stepT (tS ms 0 0) (lastT ms + v)).1)]) rfl ?_
          have m9 : ¬ Mn ms 3 = 0 := by have := of_decide_eq_true b_26; omega
          have e9 : opTick ms v = stepT (tS ms 0 0) (lastT ms + v) := by first | (simp [opTick, c_13, b_13, b_26, c_26, n_35, c_35, c_49, m9]; done) | (simp [opTick, c_13, b_13, b_26, c_26, n_35, c_35, c_49, m9]; intros; omega) | simp_all [opTick]
          exact aw_iret dX3_tick_72 rfl ⟨by rw [e9], by rw [e9]; exact hT_69, hG_69, (by omega)⟩ ⟨Nat.zero_le _, Nat.zero_le _⟩
      · skip
        have n_35 : (Sn ms) = 120 := (nI_eq (a := (Sn ms)) (b := 120) (by omega) (by omega)).mp (by rw [← ((by rfl) : (120 : Int32) = nI 120)]; exact c_35)
        refine aw_aload_n (n := 39) dX3_tick_38 rfl 0 rfl rfl ?_
        refine aw_iconst (n := 40) (v := 2) dX3_tick_39 (by decide) rfl ?_
        refine aw_callV (n := 43) (C0 := RX3) (As := [.int 2]) (rest := []) (K2 := kX3_no) dX3_tick_40 q2773 q2775 qs42 q113 q2776 ⟨rfl, hcX3_no⟩ rfl hT_1.1 (ct_no G h_1 b (tS ms 0 (0 : Int32)) hb hT_1 (2 : Int32)) rfl (Nat.le_of_ble_eq_true rfl) ⟨Nat.le_of_ble_eq_true rfl, Nat.le_of_ble_eq_true rfl⟩ ⟨Nat.zero_le _, Nat.zero_le _⟩ (fun _ _ _ z => z.elim) rfl (fun r_40 h_40 q_40 => ?_)
        obtain ⟨rfl, hT_40, hF_40, hz_40⟩ := q_40
        have hG_40 := Fr.trans hF_1 hF_40
        refine AW.sts (st' := [.int 0]) rfl ?_
        have e9 : opTick ms v = (0, tS (tS ms 0 (0 : Int32)) 0 (2 : Int32)) := by first | (simp [opTick, c_13, b_13, b_26, c_26, c_35, tS_tS]; done) | simp_all [opTick, tS_tS]
        exact aw_iret dX3_tick_43 rfl ⟨by rw [e9], by rw [e9]; exact hT_40, hG_40, (by omega)⟩ ⟨Nat.zero_le _, Nat.zero_le _⟩
  · skip
    have b_13 : inS v 1001 = false := (bI_0 _).mp c_13
    refine aw_aload_n (n := 17) dX3_tick_16 rfl 0 rfl rfl ?_
    refine aw_iconst (n := 18) (v := 1) dX3_tick_17 (by decide) rfl ?_
    refine aw_callV (n := 21) (C0 := RX3) (As := [.int 1]) (rest := []) (K2 := kX3_no) dX3_tick_18 q2773 q2775 qs42 q113 q2776 ⟨rfl, hcX3_no⟩ rfl hT_1.1 (ct_no G h_1 b (tS ms 0 (0 : Int32)) hb hT_1 (1 : Int32)) rfl (Nat.le_of_ble_eq_true rfl) ⟨Nat.le_of_ble_eq_true rfl, Nat.le_of_ble_eq_true rfl⟩ ⟨Nat.zero_le _, Nat.zero_le _⟩ (fun _ _ _ z => z.elim) rfl (fun r_18 h_18 q_18 => ?_)
    obtain ⟨rfl, hT_18, hF_18, hz_18⟩ := q_18
    have hG_18 := Fr.trans hF_1 hF_18
    refine AW.sts (st' := [.int 0]) rfl ?_
    have e9 : opTick ms v = (0, tS (tS ms 0 (0 : Int32)) 0 (1 : Int32)) := by first | (simp [opTick, c_13, b_13, tS_tS]; done) | simp_all [opTick, tS_tS]
    exact aw_iret dX3_tick_21 rfl ⟨by rw [e9], by rw [e9]; exact hT_18, hG_18, (by omega)⟩ ⟨Nat.zero_le _, Nat.zero_le _⟩

end
