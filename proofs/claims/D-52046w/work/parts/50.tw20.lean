/-! The twin: meanings. -/
section
set_option maxRecDepth 100000
abbrev kX3_node : aK := (yX3_node, cX3_node, 6, (Option.some Jvm.ClassFile.FieldType.int), [])
theorem hcX3_node : kX3_node.1.cls ≠ "java/lang/invoke/MethodHandle" ∧ kX3_node.1.cls ≠ "java/lang/invoke/VarHandle" ∧ (parseMethodDescriptor kX3_node.1.desc).map (fun d => d.parameters.length) = some 5 := ⟨by decide, by decide, by decide +kernel⟩
theorem ct_node (G : aG) (h : hH) (b : Nat) (ms : tM) (hb : gB G ≤ b) (hT : TW b h ms) (so x y z fr : Int32) (h8 : ms.1 8 = nI (nn ms)) (hlt : nn ms < 1203) : Con G kX3_node [.ref b, .int so, .int x, .int y, .int z, .int fr] h ((1, 0, 0, 0), (fun r h1 => r = some (.int 0) ∧ TW b h1 (nodT ms so x y z fr) ∧ Fr (TS b) h h1 ∧ h1.1 = h.1), nX) := by
  refine Con.of (plainFor_of_name rfl) rfl (Nat.le_of_ble_eq_true rfl) ?_
  refine AW.eq (lv2 := [(0, .ref b), (1, .int so), (2, .int x), (3, .int y), (4, .int z), (5, .int fr)]) (s2 := []) rfl rfl rfl rfl rfl ?_
  refine aw_aload_n (n := 1) dX3_node_0 rfl 0 rfl rfl ?_
  refine aw_getf (n := 4) (v := .ref (b + 5)) (C0 := RX3) (T := TX3) dX3_node_1 rfl 9 q2650 (Or.inl rfl) hT.1 rfl rfl ?_
  refine aw_aload_n (n := 5) dX3_node_4 rfl 0 rfl rfl ?_
  refine aw_getf (n := 8) (v := .int (ms.1 8)) (C0 := RX3) (T := TX3) dX3_node_5 rfl 8 q2649 (Or.inl rfl) hT.1 rfl rfl ?_
  refine aw_iload_n (n := 9) dX3_node_8 rfl 1 rfl rfl ?_
  refine aw_tiast (n := 10) dX3_node_9 TW.m9 hT hb (nn ms) h8 (by omega) (by decide) rfl (fun h_1 hT_1 hF_1 hz_1 => ?_)
  refine aw_aload_n (n := 11) dX3_node_10 rfl 0 rfl rfl ?_
  refine aw_getf (n := 14) (v := .ref (b + 6)) (C0 := RX3) (T := TX3) dX3_node_11 rfl 10 q2651 (Or.inl rfl) hT_1.1 rfl rfl ?_
  refine aw_aload_n (n := 15) dX3_node_14 rfl 0 rfl rfl ?_
  refine aw_getf (n := 18) (v := .int (ms.1 8)) (C0 := RX3) (T := TX3) dX3_node_15 rfl 8 q2649 (Or.inl rfl) hT_1.1 rfl rfl ?_
  refine aw_iload_n (n := 19) dX3_node_18 rfl 2 rfl rfl ?_
  refine aw_tiast (n := 20) dX3_node_19 TW.m10 hT_1 hb (nn ms) h8 (by omega) (by decide) rfl (fun h_2 hT_2 hF_2 hz_2 => ?_)
  have hG_2 := Fr.trans hF_1 hF_2
  refine aw_aload_n (n := 21) dX3_node_20 rfl 0 rfl rfl ?_
  refine aw_getf (n := 24) (v := .ref (b + 7)) (C0 := RX3) (T := TX3) dX3_node_21 rfl 11 q2652 (Or.inl rfl) hT_2.1 rfl rfl ?_
  refine aw_aload_n (n := 25) dX3_node_24 rfl 0 rfl rfl ?_
  refine aw_getf (n := 28) (v := .int (ms.1 8)) (C0 := RX3) (T := TX3) dX3_node_25 rfl 8 q2649 (Or.inl rfl) hT_2.1 rfl rfl ?_
  refine aw_iload_n (n := 29) dX3_node_28 rfl 3 rfl rfl ?_
  refine aw_tiast (n := 30) dX3_node_29 TW.m11 hT_2 hb (nn ms) h8 (by omega) (by decide) rfl (fun h_3 hT_3 hF_3 hz_3 => ?_)
  have hG_3 := Fr.trans hG_2 hF_3
  refine aw_aload_n (n := 31) dX3_node_30 rfl 0 rfl rfl ?_
  refine aw_getf (n := 34) (v := .ref (b + 8)) (C0 := RX3) (T := TX3) dX3_node_31 rfl 12 q2653 (Or.inl rfl) hT_3.1 rfl rfl ?_
  refine aw_aload_n (n := 35) dX3_node_34 rfl 0 rfl rfl ?_
  refine aw_getf (n := 38) (v := .int (ms.1 8)) (C0 := RX3) (T := TX3) dX3_node_35 rfl 8 q2649 (Or.inl rfl) hT_3.1 rfl rfl ?_
  refine aw_iload (n := 40) dX3_node_38 4 rfl rfl ?_
  refine aw_tiast (n := 41) dX3_node_40 TW.m12 hT_3 hb (nn ms) h8 (by omega) (by decide) rfl (fun h_4 hT_4 hF_4 hz_4 => ?_)
  have hG_4 := Fr.trans hG_3 hF_4
  refine aw_aload_n (n := 42) dX3_node_41 rfl 0 rfl rfl ?_
  refine aw_getf (n := 45) (v := .ref (b + 9)) (C0 := RX3) (T := TX3) dX3_node_42 rfl 13 q2654 (Or.inl rfl) hT_4.1 rfl rfl ?_
  refine aw_aload_n (n := 46) dX3_node_45 rfl 0 rfl rfl ?_
  refine aw_getf (n := 49) (v := .int (ms.1 8)) (C0 := RX3) (T := TX3) dX3_node_46 rfl 8 q2649 (Or.inl rfl) hT_4.1 rfl rfl ?_
  refine aw_iconst (n := 50) (v := 0) dX3_node_49 (by decide) rfl ?_
  refine aw_tiast (n := 51) dX3_node_50 TW.m13 hT_4 hb (nn ms) h8 (by omega) (by decide) rfl (fun h_5 hT_5 hF_5 hz_5 => ?_)
  have hG_5 := Fr.trans hG_4 hF_5
  refine aw_aload_n (n := 52) dX3_node_51 rfl 0 rfl rfl ?_
  refine aw_getf (n := 55) (v := .ref (b + 10)) (C0 := RX3) (T := TX3) dX3_node_52 rfl 14 q2655 (Or.inl rfl) hT_5.1 rfl rfl ?_
  refine aw_aload_n (n := 56) dX3_node_55 rfl 0 rfl rfl ?_
  refine aw_getf (n := 59) (v := .int (ms.1 8)) (C0 := RX3) (T := TX3) dX3_node_56 rfl 8 q2649 (Or.inl rfl) hT_5.1 rfl rfl ?_
  refine aw_iconst (n := 60) (v := (-1)) dX3_node_59 (by decide) rfl ?_
  refine aw_tiast (n := 61) dX3_node_60 TW.m14 hT_5 hb (nn ms) h8 (by omega) (by decide) rfl (fun h_6 hT_6 hF_6 hz_6 => ?_)
  have hG_6 := Fr.trans hG_5 hF_6
  refine aw_aload_n (n := 62) dX3_node_61 rfl 0 rfl rfl ?_
  refine aw_getf (n := 65) (v := .ref (b + 11)) (C0 := RX3) (T := TX3) dX3_node_62 rfl 15 q2656 (Or.inl rfl) hT_6.1 rfl rfl ?_
  refine aw_aload_n (n := 66) dX3_node_65 rfl 0 rfl rfl ?_
  refine aw_getf (n := 69) (v := .int (ms.1 8)) (C0 := RX3) (T := TX3) dX3_node_66 rfl 8 q2649 (Or.inl rfl) hT_6.1 rfl rfl ?_
  refine aw_iload (n := 71) dX3_node_69 5 rfl rfl ?_
  refine aw_tiast (n := 72) dX3_node_71 TW.m15 hT_6 hb (nn ms) h8 (by omega) (by decide) rfl (fun h_7 hT_7 hF_7 hz_7 => ?_)
  have hG_7 := Fr.trans hG_6 hF_7
  refine aw_aload_n (n := 73) dX3_node_72 rfl 0 rfl rfl ?_
  refine aw_aload_n (n := 74) dX3_node_73 rfl 0 rfl rfl ?_
  refine aw_getf (n := 77) (v := .int (ms.1 8)) (C0 := RX3) (T := TX3) dX3_node_74 rfl 8 q2649 (Or.inl rfl) hT_7.1 rfl rfl ?_
  refine aw_tput (n := 80) (k := 17) dX3_node_77 q2658 (by decide) rfl rfl rfl rfl rfl hT_7 hb rfl rfl (fun h_8 hT_8 hF_8 hz_8 => ?_)
  have hG_8 := Fr.trans hG_7 hF_8
  refine aw_aload_n (n := 81) dX3_node_80 rfl 0 rfl rfl ?_
  refine aw_dup (n := 82) dX3_node_81 rfl rfl ?_
  refine aw_getf (n := 85) (v := .int (ms.1 8)) (C0 := RX3) (T := TX3) dX3_node_82 rfl 8 q2649 (Or.inl rfl) hT_8.1 rfl rfl ?_
  refine aw_iconst (n := 86) (v := 1) dX3_node_85 (by decide) rfl ?_
  refine aw_iadd (n := 87) dX3_node_86 rfl ?_
  refine AW.sts (st' := [.int (nI ((nn ms) + 1)), .ref b]) (by rw [show (ms.1 8) + 1 = nI ((nn ms) + 1) from ((congrArg (fun z9 : Int32 => z9 + 1) (h8 : (ms.1 8) = nI (nn ms))).trans (nI_1 _))]) ?_
  refine aw_tput (n := 90) (k := 8) dX3_node_87 q2649 (by decide) rfl rfl rfl rfl rfl hT_8 hb rfl rfl (fun h_9 hT_9 hF_9 hz_9 => ?_)
  have hG_9 := Fr.trans hG_8 hF_9
  refine aw_iconst (n := 91) (v := 0) dX3_node_90 (by decide) rfl ?_
  exact aw_iret dX3_node_91 rfl ⟨rfl, hT_9, hG_9, (by omega)⟩ ⟨Nat.zero_le _, Nat.zero_le _⟩

abbrev kX3_wrong : aK := (yX3_wrong, cX3_wrong, 3, (Option.some Jvm.ClassFile.FieldType.int), [])
theorem hcX3_wrong : kX3_wrong.1.cls ≠ "java/lang/invoke/MethodHandle" ∧ kX3_wrong.1.cls ≠ "java/lang/invoke/VarHandle" ∧ (parseMethodDescriptor kX3_wrong.1.desc).map (fun d => d.parameters.length) = some 2 := ⟨by decide, by decide, by decide +kernel⟩
theorem ct_wrong (G : aG) (h : hH) (b : Nat) (ms : tM) (hb : gB G ≤ b) (hT : TW b h ms) (T : Tv) (t : Nat) (hk : tkAt ms T t) (e : Int32) : Con G kX3_wrong [.ref b, .int e, .int (nI t)] h ((1, 0, 0, 0), (fun r h1 => r = some (.int e) ∧ TW b h1 (tS ms 3 (nI (T.2.1 t))) ∧ Fr (TS b) h h1 ∧ h1.1 = h.1), nX) := by
  have hk1 := hk.1; have hk2 := hk.2.1; have hk6 := hk.2.2.2.2.2.1; have hk7 := hk.2.2.2.2.2.2
  refine Con.of (plainFor_of_name rfl) rfl (Nat.le_of_ble_eq_true rfl) ?_
  refine AW.eq (lv2 := [(0, .ref b), (1, .int e), (2, .int (nI t))]) (s2 := []) rfl rfl rfl rfl rfl ?_
  refine aw_aload_n (n := 1) dX3_wrong_0 rfl 0 rfl rfl ?_
  refine aw_aload_n (n := 2) dX3_wrong_1 rfl 0 rfl rfl ?_
  refine aw_getf (n := 5) (v := .ref (b + 3)) (C0 := RX3) (T := TX3) dX3_wrong_2 rfl 5 q2646 (Or.inl rfl) hT.1 rfl rfl ?_
  refine aw_iload_n (n := 6) dX3_wrong_5 rfl 2 rfl rfl ?_
  refine aw_iald (n := 7) (v := .int (ms.2.1 5 t)) dX3_wrong_6 rfl t rfl hT.a5 (by omega) (by decide) rfl rfl ?_
  refine AW.sts (st' := [.int (nI (T.2.1 t)), .ref b]) (by rw [show ms.2.1 5 t = nI (T.2.1 t) from hk.2.2.2.1]) ?_
  refine aw_tput (n := 10) (k := 3) dX3_wrong_7 q2644 (by decide) rfl rfl rfl rfl rfl hT hb rfl rfl (fun h_1 hT_1 hF_1 hz_1 => ?_)
  refine aw_iload_n (n := 11) dX3_wrong_10 rfl 1 rfl rfl ?_
  exact aw_iret dX3_wrong_11 rfl ⟨rfl, hT_1, hF_1, (by omega)⟩ ⟨Nat.zero_le _, Nat.zero_le _⟩

abbrev kX3_find : aK := (yX3_find, cX3_find, 4, (Option.some Jvm.ClassFile.FieldType.int), [])
theorem hcX3_find : kX3_find.1.cls ≠ "java/lang/invoke/MethodHandle" ∧ kX3_find.1.cls ≠ "java/lang/invoke/VarHandle" ∧ (parseMethodDescriptor kX3_find.1.desc).map (fun d => d.parameters.length) = some 1 := ⟨by decide, by decide, by decide +kernel⟩
theorem ct_find (G : aG) (h : hH)  (b : Nat) (ms : tM) (hb : gB G ≤ b) (hT : TW b h ms) (T : Tv) (t : Nat) (hk : tkAt ms T t) (hnm : ms.1 19 = nI (nN (ms.1 19))) (hnm4 : nN (ms.1 19) ≤ 44) : Con G kX3_find [.ref b, .int (nI t)] h ((4, 66, 0, 0), (fun r h1 => r = some (.int (fnT T ms t)) ∧ h = h1), nX) := by
  refine Con.of (plainFor_of_name rfl) rfl (Nat.le_of_ble_eq_true rfl) ?_
  refine AW.eq (lv2 := [(0, .ref b), (1, .int (nI t))]) (s2 := []) rfl rfl rfl rfl rfl ?_
  refine aw_iconst (n := 1) (v := (-1)) dX3_find_0 (by decide) rfl ?_
  refine aw_istore_n (n := 2) (lv' := [(2, .int (-1)), (0, .ref b), (1, .int (nI t))]) dX3_find_1 rfl (by decide) rfl rfl ?_
  refine aw_iconst (n := 3) (v := 0) dX3_find_2 (by decide) rfl ?_
  refine aw_istore_n (n := 4) (lv' := [(3, .int 0), (2, .int (-1)), (0, .ref b), (1, .int (nI t))]) dX3_find_3 rfl (by decide) rfl rfl ?_
  suffices L_4 : ∀ (m_ : Nat) (c : Nat) (hc : c ≤ nN (ms.1 19)), nN (ms.1 19) - c < m_ → AW G kX3_find ((4, 66, 0, 0), (fun r h1 => r = some (.int (fnT T ms t)) ∧ h = h1), nX) 4 [(3, .int (nI c)), (2, .int (fU (fun k => ms.2.2 20 k == nameT T t) c)), (0, .ref b), (1, .int (nI t))] [] h 0 0 from
    AW.lvs (lv' := [(3, .int 0), (2, .int (-1)), (0, .ref b), (1, .int (nI t))]) (AW.eq (lv2 := _) (rfl) rfl rfl rfl rfl (L_4 _ 0 (by omega) (Nat.lt_succ_self _))) (by simp)
  intro m_
  induction m_ with
  | zero => intro c hc h_m; exact absurd h_m (Nat.not_lt_zero _)
  | succ m_ ih_4 =>
    intro c hc h_m
    refine aw_iload_n (n := 5) dX3_find_4 rfl 0 rfl rfl ?_
    refine aw_aload_n (n := 6) dX3_find_5 rfl 2 rfl rfl ?_
    refine aw_getf (n := 9) (v := .int (nI (nN (ms.1 19)))) (C0 := RX3) (T := TX3) dX3_find_6 rfl 19 q2660 (Or.inl rfl) hT.1 (congrArg some (congrArg Value.int hnm)) rfl ?_
    refine aw_icmp_ge (n := 12) (tgt := 35) dX3_find_9 (by decide) rfl (fun c_9 => ?_) (fun c_9 => ?_)
    · skip
      have n_9 : (nN (ms.1 19)) ≤ c := (nI_leI (a := (nN (ms.1 19))) (b := c) (by omega) (by omega)).mp (by exact c_9)
      refine aw_iload_n (n := 36) dX3_find_35 rfl 1 rfl rfl ?_
      exact aw_iret dX3_find_36 rfl ⟨congrArg some (congrArg Value.int (by rw [fnT, show nN (ms.1 19) = c by omega])), rfl⟩ ⟨Nat.zero_le _, Nat.zero_le _⟩
    · skip
      have n_9 : ¬ ((nN (ms.1 19)) ≤ c) := fun z => c_9 (by have y := (nI_leI (a := (nN (ms.1 19))) (b := c) (by omega) (by omega)).mpr z; exact y)
      refine aw_aload_n (n := 13) dX3_find_12 rfl 2 rfl rfl ?_
      refine aw_getf (n := 16) (v := .ref (b + 13)) (C0 := RX3) (T := TX3) dX3_find_13 rfl 20 q2661 (Or.inl rfl) hT.1 rfl rfl ?_
      refine aw_iload_n (n := 17) dX3_find_16 rfl 0 rfl rfl ?_
      refine aw_lald (n := 18) (v := .long (ms.2.2 20 c)) dX3_find_17 rfl c rfl hT.a20 (by omega) (by decide) rfl rfl ?_
      refine aw_aload_n (n := 19) dX3_find_18 rfl 2 rfl rfl ?_
      refine aw_iload_n (n := 20) dX3_find_19 rfl 3 rfl rfl ?_
      refine aw_callV (n := 23) (C0 := RX3) (As := [.int (nI t)]) (rest := [.long (ms.2.2 20 c)]) (K2 := kX3_nameOf) dX3_find_20 q2953 q2955 qs70 q113 q2956 ⟨rfl, hcX3_nameOf⟩ rfl hT.1 (ct_nameOf G h b ms hb hT T t hk) rfl (Nat.le_of_ble_eq_true rfl) ⟨Nat.le_of_ble_eq_true rfl, Nat.le_of_ble_eq_true rfl⟩ ⟨Nat.zero_le _, Nat.zero_le _⟩ (fun _ _ _ z => z.elim) rfl (fun r_20 h_20 q_20 => ?_)
      obtain ⟨rfl, rfl⟩ := q_20
      refine AW.sts (st' := [.long (nameT T t), .long (ms.2.2 20 c)]) rfl ?_
      refine aw_lcmp (n := 24) dX3_find_23 rfl ?_
      refine aw_if_ne (n := 27) (tgt := 29) dX3_find_24 (by decide) rfl (fun c_24 => ?_) (fun c_24 => ?_)
      · skip
        have o_24 : ¬ ((ms.2.2 20 c) = (nameT T t)) := fun z => c_24 ((lg_cmp_eq0 _ _).mpr z)
        refine aw_iinc (n := 32) (v := nI (c + 1)) (lv' := [(3, .int (nI (c + 1))), (2, .int (fU (fun k => ms.2.2 20 k == nameT T t) c)), (0, .ref b), (1, .int (nI t))]) dX3_find_29 0 rfl (by rw [show nI c = nI c from rfl]; exact nI_1 _) (by decide) rfl rfl ?_
        refine aw_goto (tgt := 4) dX3_find_32 (by decide) ?_
        exact AW.lvs (lv' := [(3, .int (nI (c + 1))), (2, .int (fU (fun k => ms.2.2 20 k == nameT T t) c)), (0, .ref b), (1, .int (nI t))]) (AW.eq (lv2 := _) (by first | rw [fU, if_pos (beq_iff_eq.mpr o_24)] | rw [fU, if_neg (fun z => o_24 (beq_iff_eq.mp z))]) rfl rfl rfl rfl (ih_4 (c + 1) (by omega) (by omega))) (by simp)
      · skip
        have o_24 : (ms.2.2 20 c) = (nameT T t) := (lg_cmp_eq0 _ _).mp c_24
        refine aw_iload_n (n := 28) dX3_find_27 rfl 0 rfl rfl ?_
        refine aw_istore_n (n := 29) (lv' := [(2, .int (nI c)), (3, .int (nI c)), (0, .ref b), (1, .int (nI t))]) dX3_find_28 rfl (by decide) rfl rfl ?_
        refine aw_iinc (n := 32) (v := nI (c + 1)) (lv' := [(3, .int (nI (c + 1))), (2, .int (nI c)), (0, .ref b), (1, .int (nI t))]) dX3_find_29 1 rfl (by rw [show nI c = nI c from rfl]; exact nI_1 _) (by decide) rfl rfl ?_
        refine aw_goto (tgt := 4) dX3_find_32 (by decide) ?_
        exact AW.lvs (lv' := [(3, .int (nI (c + 1))), (2, .int (nI c)), (0, .ref b), (1, .int (nI t))]) (AW.eq (lv2 := _) (by first | rw [fU, if_pos (beq_iff_eq.mpr o_24)] | rw [fU, if_neg (fun z => o_24 (beq_iff_eq.mp z))]) rfl rfl rfl rfl (ih_4 (c + 1) (by omega) (by omega))) (by simp)

end
