/-! String.indexOf; the twin: symbolAt, scan. -/
section
set_option maxRecDepth 100000
abbrev kJ17_canEncode_2 : aK := (yJ17_canEncode_2, cJ17_canEncode_2, 1, (Option.some Jvm.ClassFile.FieldType.boolean), [])
theorem hcJ17_canEncode_2 : kJ17_canEncode_2.1.cls ≠ "java/lang/invoke/MethodHandle" ∧ kJ17_canEncode_2.1.cls ≠ "java/lang/invoke/VarHandle" ∧ (parseMethodDescriptor kJ17_canEncode_2.1.desc).map (fun d => d.parameters.length) = some 1 := ⟨by decide, by decide, by decide +kernel⟩
theorem cs_canI (G : aG) (h : hH) (x : Nat) (hx : x < 256) : Con G kJ17_canEncode_2 [.int (nI x)] h ((1, 0, 0, 0), (fun r h1 => r = some (.int (1)) ∧ h = h1), nX) := by
  refine Con.of (plainFor_of_name rfl) rfl (Nat.le_of_ble_eq_true rfl) ?_
  refine AW.eq (lv2 := [(0, .int (nI x))]) (s2 := []) rfl rfl rfl rfl rfl ?_
  refine aw_iload_n (n := 1) dJ17_canEncode_2_0 rfl 0 rfl rfl ?_
  refine aw_if_lt (n := 4) (tgt := 15) dJ17_canEncode_2_1 (by decide) rfl (fun c_1 => ?_) (fun c_1 => ?_)
  · skip
    have n_1 : x < 0 := (nI_ltI (a := x) (b := 0) (by omega) (by omega)).mp (by rw [← ((by rfl) : (0 : Int32) = nI 0)]; exact c_1)
    exact absurd c_1 (nI_pos (by omega))
  · skip
    have n_1 : ¬ (x < 0) := fun z => c_1 (by have y := (nI_ltI (a := x) (b := 0) (by omega) (by omega)).mpr z; rw [← ((by rfl) : (0 : Int32) = nI 0)] at y; exact y)
    refine aw_iload_n (n := 5) dJ17_canEncode_2_4 rfl 0 rfl rfl ?_
    refine aw_sipush (n := 8) (v := 255) dJ17_canEncode_2_5 (by decide) rfl ?_
    refine aw_icmp_gt (n := 11) (tgt := 15) dJ17_canEncode_2_8 (by decide) rfl (fun c_8 => ?_) (fun c_8 => ?_)
    · skip
      have n_8 : 255 < x := (nI_ltI (a := 255) (b := x) (by omega) (by omega)).mp (by rw [← ((by rfl) : (255 : Int32) = nI 255)]; exact c_8)
      exfalso; omega
    · skip
      have n_8 : ¬ (255 < x) := fun z => c_8 (by have y := (nI_ltI (a := 255) (b := x) (by omega) (by omega)).mpr z; rw [← ((by rfl) : (255 : Int32) = nI 255)] at y; exact y)
      refine aw_iconst (n := 12) (v := 1) dJ17_canEncode_2_11 (by decide) rfl ?_
      refine aw_goto (tgt := 16) dJ17_canEncode_2_12 (by decide) ?_
      exact aw_zret dJ17_canEncode_2_16 rfl (by decide) ⟨rfl, rfl⟩ ⟨Nat.zero_le _, Nat.zero_le _⟩

abbrev kJ17_indexOfChar : aK := (yJ17_indexOfChar, cJ17_indexOfChar, 6, (Option.some Jvm.ClassFile.FieldType.int), [])
theorem hcJ17_indexOfChar : kJ17_indexOfChar.1.cls ≠ "java/lang/invoke/MethodHandle" ∧ kJ17_indexOfChar.1.cls ≠ "java/lang/invoke/VarHandle" ∧ (parseMethodDescriptor kJ17_indexOfChar.1.desc).map (fun d => d.parameters.length) = some 4 := ⟨by decide, by decide, by decide +kernel⟩
theorem cs_ioc (G : aG) (h : hH) (v n x : Nat) (bs : List Nat) (f : Nat → Value) (hV : h.2 v = some (har 2 n f)) (hn : n < 2 ^ 31) (hx : x < 256) (hf : ∀ j : Nat, j < n → f j = .int (sb_b (bs.getD j 0)) ∧ bs.getD j 0 < 256) : Con G kJ17_indexOfChar [.ref v, .int (nI x), .int (nI 0), .int (nI n)] h ((1, 0, 0, 0), (fun r h1 => r = some (.int (ixF (fun j => bs.getD j 0 == x) n)) ∧ h = h1), nX) := by
  refine Con.of (plainFor_of_name rfl) rfl (Nat.le_of_ble_eq_true rfl) ?_
  refine AW.eq (lv2 := [(0, .ref v), (1, .int (nI x)), (2, .int (nI 0)), (3, .int (nI n))]) (s2 := []) rfl rfl rfl rfl rfl ?_
  refine aw_iload_n (n := 1) dJ17_indexOfChar_0 rfl 1 rfl rfl ?_
  refine aw_i2b (n := 2) dJ17_indexOfChar_1 rfl rfl ?_
  refine aw_istore (n := 4) (lv' := [(4, .int ((nI x).toInt8.toInt32)), (0, .ref v), (1, .int (nI x)), (2, .int (nI 0)), (3, .int (nI n))]) dJ17_indexOfChar_2 (by decide) rfl rfl ?_
  refine aw_iload_n (n := 5) dJ17_indexOfChar_4 rfl 3 rfl rfl ?_
  refine aw_istore (n := 7) (lv' := [(5, .int (nI 0)), (4, .int ((nI x).toInt8.toInt32)), (0, .ref v), (1, .int (nI x)), (2, .int (nI 0)), (3, .int (nI n))]) dJ17_indexOfChar_5 (by decide) rfl rfl ?_
  suffices L_7 : ∀ (m_ : Nat) (j : Nat) (hj : j ≤ n) (hv9 : fD (fun j => bs.getD j 0 == x) (n - 1) n = fD (fun j => bs.getD j 0 == x) (n - 1) (n - j)), n - j < m_ → AW G kJ17_indexOfChar ((1, 0, 0, 0), (fun r h1 => r = some (.int (ixF (fun j => bs.getD j 0 == x) n)) ∧ h = h1), nX) 7 [(5, .int (nI j)), (4, .int (sb_b x)), (0, .ref v), (1, .int (nI x)), (2, .int (nI 0)), (3, .int (nI n))] [] h 0 0 from
    AW.lvs (lv' := [(5, .int (nI 0)), (4, .int ((nI x).toInt8.toInt32)), (0, .ref v), (1, .int (nI x)), (2, .int (nI 0)), (3, .int (nI n))]) (AW.eq (lv2 := _) (rfl) rfl rfl rfl rfl (L_7 _ 0 (by omega) (by rw [Nat.sub_zero]) (Nat.lt_succ_self _))) (by simp)
  intro m_
  induction m_ with
  | zero => intro j hj hv9 h_m; exact absurd h_m (Nat.not_lt_zero _)
  | succ m_ ih_7 =>
    intro j hj hv9 h_m
    refine aw_iload (n := 9) dJ17_indexOfChar_7 0 rfl rfl ?_
    refine aw_iload_n (n := 10) dJ17_indexOfChar_9 rfl 5 rfl rfl ?_
    refine aw_icmp_ge (n := 13) (tgt := 31) dJ17_indexOfChar_10 (by decide) rfl (fun c_10 => ?_) (fun c_10 => ?_)
    · skip
      have n_10 : n ≤ j := (nI_leI (a := n) (b := j) (by omega) (by omega)).mp (by exact c_10)
      refine aw_iconst (n := 32) (v := (-1)) dJ17_indexOfChar_31 (by decide) rfl ?_
      exact aw_iret dJ17_indexOfChar_32 rfl ⟨congrArg some (congrArg Value.int (by rw [ixF, hv9, show n - j = 0 by omega]; rfl)), rfl⟩ ⟨Nat.zero_le _, Nat.zero_le _⟩
    · skip
      have n_10 : ¬ (n ≤ j) := fun z => c_10 (by have y := (nI_leI (a := n) (b := j) (by omega) (by omega)).mpr z; exact y)
      refine aw_aload_n (n := 14) dJ17_indexOfChar_13 rfl 2 rfl rfl ?_
      refine aw_iload (n := 16) dJ17_indexOfChar_14 0 rfl rfl ?_
      refine aw_bald (n := 17) (v := .int (sb_b (bs.getD j 0))) dJ17_indexOfChar_16 rfl j rfl hV (by omega) hn (hf j (by omega)).1 rfl ?_
      refine aw_iload (n := 19) dJ17_indexOfChar_17 1 rfl rfl ?_
      refine aw_icmp_ne (n := 22) (tgt := 25) dJ17_indexOfChar_19 (by decide) rfl (fun c_19 => ?_) (fun c_19 => ?_)
      · skip
        refine aw_iinc (n := 28) (v := nI (j + 1)) (lv' := [(5, .int (nI (j + 1))), (4, .int (sb_b x)), (0, .ref v), (1, .int (nI x)), (2, .int (nI 0)), (3, .int (nI n))]) dJ17_indexOfChar_25 0 rfl (by rw [show nI j = nI j from rfl]; exact nI_1 _) (by decide) rfl rfl ?_
        refine aw_goto (tgt := 7) dJ17_indexOfChar_28 (by decide) ?_
        exact AW.lvs (lv' := [(5, .int (nI (j + 1))), (4, .int (sb_b x)), (0, .ref v), (1, .int (nI x)), (2, .int (nI 0)), (3, .int (nI n))]) (AW.eq (lv2 := _) (rfl) rfl rfl rfl rfl (ih_7 (j + 1) (by omega) (by rw [hv9, ix_step _ (by omega), if_neg (fun z => c_19 (by rw [beq_iff_eq.mp z]))]) (by omega))) (by simp)
      · skip
        refine aw_iload (n := 24) dJ17_indexOfChar_22 0 rfl rfl ?_
        exact aw_iret dJ17_indexOfChar_24 rfl ⟨congrArg some (congrArg Value.int (by rw [ixF, hv9, ix_step _ (by omega), if_pos (beq_iff_eq.mpr (sb_inj _ (hf j (by omega)).2 _ hx c_19))])), rfl⟩ ⟨Nat.zero_le _, Nat.zero_le _⟩

abbrev kJ17_indexOf : aK := (yJ17_indexOf, cJ17_indexOf, 4, (Option.some Jvm.ClassFile.FieldType.int), [])
theorem hcJ17_indexOf : kJ17_indexOf.1.cls ≠ "java/lang/invoke/MethodHandle" ∧ kJ17_indexOf.1.cls ≠ "java/lang/invoke/VarHandle" ∧ (parseMethodDescriptor kJ17_indexOf.1.desc).map (fun d => d.parameters.length) = some 4 := ⟨by decide, by decide, by decide +kernel⟩
theorem cs_lio (G : aG) (h : hH) (v n x : Nat) (bs : List Nat) (f : Nat → Value) (hV : h.2 v = some (har 2 n f)) (hn : n < 2 ^ 31) (hn0 : 0 < n) (hx : x < 256) (hf : ∀ j : Nat, j < n → f j = .int (sb_b (bs.getD j 0)) ∧ bs.getD j 0 < 256) : Con G kJ17_indexOf [.ref v, .int (nI x), .int (nI 0), .int (nI n)] h ((2, 25, 0, 0), (fun r h1 => r = some (.int (ixF (fun j => bs.getD j 0 == x) n)) ∧ h = h1), nX) := by
  refine Con.of (plainFor_of_name rfl) rfl (Nat.le_of_ble_eq_true rfl) ?_
  refine AW.eq (lv2 := [(0, .ref v), (1, .int (nI x)), (2, .int (nI 0)), (3, .int (nI n))]) (s2 := []) rfl rfl rfl rfl rfl ?_
  refine aw_iload_n (n := 1) dJ17_indexOf_0 rfl 1 rfl rfl ?_
  refine aw_callS (n := 4) (As := [.int (nI x)]) (rest := []) (K2 := kJ17_canEncode_2) dJ17_indexOf_1 q863 q864 q128 q865 hcJ17_canEncode_2 (cs_canI G h x hx) rfl (Nat.le_of_ble_eq_true rfl) ⟨Nat.le_of_ble_eq_true rfl, Nat.le_of_ble_eq_true rfl⟩ ⟨Nat.zero_le _, Nat.zero_le _⟩ (fun _ _ _ z => z.elim) rfl (fun r_1 h_1 q_1 => ?_)
  obtain ⟨rfl, rfl⟩ := q_1
  refine AW.sts (st' := [.int 1]) rfl ?_
  refine aw_if_ne (n := 7) (tgt := 9) dJ17_indexOf_4 (by decide) rfl (fun c_4 => ?_) (fun c_4 => ?_)
  · skip
    refine aw_iload_n (n := 10) dJ17_indexOf_9 rfl 2 rfl rfl ?_
    refine aw_iconst (n := 11) (v := 0) dJ17_indexOf_10 (by decide) rfl ?_
    refine aw_callS (n := 14) (As := [.int (nI 0), .int 0]) (rest := []) (K2 := kJ15_max) dJ17_indexOf_11 q866 q376 q125 q377 hcJ15_max (cj_maxI G h (nI 0) 0) rfl (Nat.le_of_ble_eq_true rfl) ⟨Nat.le_of_ble_eq_true rfl, Nat.le_of_ble_eq_true rfl⟩ ⟨Nat.zero_le _, Nat.zero_le _⟩ (fun _ _ _ z => z.elim) rfl (fun r_11 h_11 q_11 => ?_)
    obtain ⟨rfl, rfl⟩ := q_11
    refine AW.sts (st' := [.int (nI 0)]) (by rw [show (0 : Int32) = nI 0 from rfl]; simp) ?_
    refine aw_istore_n (n := 15) (lv' := [(2, .int (nI 0)), (0, .ref v), (1, .int (nI x)), (3, .int (nI n))]) dJ17_indexOf_14 rfl (by decide) rfl rfl ?_
    refine aw_iload_n (n := 16) dJ17_indexOf_15 rfl 3 rfl rfl ?_
    refine aw_aload_n (n := 17) dJ17_indexOf_16 rfl 1 rfl rfl ?_
    refine aw_alen (n := 18) (v := nI n) dJ17_indexOf_17 rfl hV rfl rfl ?_
    refine aw_callS (n := 21) (As := [.int (nI n), .int (nI n)]) (rest := []) (K2 := kJ15_min) dJ17_indexOf_18 q867 q394 q125 q395 hcJ15_min (cj_minI G h (nI n) (nI n)) rfl (Nat.le_of_ble_eq_true rfl) ⟨Nat.le_of_ble_eq_true rfl, Nat.le_of_ble_eq_true rfl⟩ ⟨Nat.zero_le _, Nat.zero_le _⟩ (fun _ _ _ z => z.elim) rfl (fun r_18 h_18 q_18 => ?_)
    obtain ⟨rfl, rfl⟩ := q_18
    refine AW.sts (st' := [.int (nI n)]) (by simp) ?_
    refine aw_istore_n (n := 22) (lv' := [(3, .int (nI n)), (2, .int (nI 0)), (0, .ref v), (1, .int (nI x))]) dJ17_indexOf_21 rfl (by decide) rfl rfl ?_
    refine aw_iload_n (n := 23) dJ17_indexOf_22 rfl 1 rfl rfl ?_
    refine aw_iload_n (n := 24) dJ17_indexOf_23 rfl 0 rfl rfl ?_
    refine aw_icmp_lt (n := 27) (tgt := 29) dJ17_indexOf_24 (by decide) rfl (fun c_24 => ?_) (fun c_24 => ?_)
    · skip
      have n_24 : 0 < n := (nI_ltI (a := 0) (b := n) (by omega) (by omega)).mp (by exact c_24)
      refine aw_aload_n (n := 30) dJ17_indexOf_29 rfl 2 rfl rfl ?_
      refine aw_iload_n (n := 31) dJ17_indexOf_30 rfl 3 rfl rfl ?_
      refine aw_iload_n (n := 32) dJ17_indexOf_31 rfl 1 rfl rfl ?_
      refine aw_iload_n (n := 33) dJ17_indexOf_32 rfl 0 rfl rfl ?_
      refine aw_callS (n := 36) (As := [.ref v, .int (nI x), .int (nI 0), .int (nI n)]) (rest := []) (K2 := kJ17_indexOfChar) dJ17_indexOf_33 q868 q869 q128 q870 hcJ17_indexOfChar (cs_ioc G h v n x bs f hV hn hx hf) rfl (Nat.le_of_ble_eq_true rfl) ⟨Nat.le_of_ble_eq_true rfl, Nat.le_of_ble_eq_true rfl⟩ ⟨Nat.zero_le _, Nat.zero_le _⟩ (fun _ _ _ z => z.elim) rfl (fun r_33 h_33 q_33 => ?_)
      obtain ⟨rfl, rfl⟩ := q_33
      refine AW.sts (st' := [.int (ixF (fun j => bs.getD j 0 == x) n)]) rfl ?_
      exact aw_iret dJ17_indexOf_36 rfl ⟨rfl, rfl⟩ ⟨Nat.zero_le _, Nat.zero_le _⟩
    · skip
      have n_24 : ¬ (0 < n) := fun z => c_24 (by have y := (nI_ltI (a := 0) (b := n) (by omega) (by omega)).mpr z; exact y)
      exfalso; omega
  · skip
    exact absurd c_4 (by decide +kernel)

abbrev kJ12_indexOf_2 : aK := (yJ12_indexOf_2, cJ12_indexOf_2, 3, (Option.some Jvm.ClassFile.FieldType.int), [])
theorem hcJ12_indexOf_2 : kJ12_indexOf_2.1.cls ≠ "java/lang/invoke/MethodHandle" ∧ kJ12_indexOf_2.1.cls ≠ "java/lang/invoke/VarHandle" ∧ (parseMethodDescriptor kJ12_indexOf_2.1.desc).map (fun d => d.parameters.length) = some 2 := ⟨by decide, by decide, by decide +kernel⟩
theorem cs_indexOf2 (G : aG) (h : hH) (a v n x : Nat) (w9 z9 : Int32) (bs : List Nat) (f : Nat → Value) (hA : h.2 a = some (hob 29 [.ref v, .int 0, .int w9, .int z9])) (hV : h.2 v = some (har 2 n f)) (hn : n < 2 ^ 31) (hn0 : 0 < n) (hx : x < 256) (hf : ∀ j : Nat, j < n → f j = .int (sb_b (bs.getD j 0)) ∧ bs.getD j 0 < 256) : Con G kJ12_indexOf_2 [.ref a, .int (nI x), .int (nI 0)] h ((3, 48, 0, 0), (fun r h1 => r = some (.int (ixF (fun j => bs.getD j 0 == x) n)) ∧ h = h1), nX) := by
  refine Con.of (plainFor_of_name rfl) rfl (Nat.le_of_ble_eq_true rfl) ?_
  refine AW.eq (lv2 := [(0, .ref a), (1, .int (nI x)), (2, .int (nI 0))]) (s2 := []) rfl rfl rfl rfl rfl ?_
  refine aw_aload_n (n := 1) dJ12_indexOf_2_0 rfl 0 rfl rfl ?_
  refine aw_callV (n := 4) (C0 := RJ12) (As := []) (rest := []) (K2 := kJ12_isLatin1) dJ12_indexOf_2_1 q666 q667 q668 q122 q669 ⟨rfl, hcJ12_isLatin1⟩ rfl hA (cs_isLatin1 G h a v n w9 z9 f hA hV hn) rfl (Nat.le_of_ble_eq_true rfl) ⟨Nat.le_of_ble_eq_true rfl, Nat.le_of_ble_eq_true rfl⟩ ⟨Nat.zero_le _, Nat.zero_le _⟩ (fun _ _ _ z => z.elim) rfl (fun r_1 h_1 q_1 => ?_)
  obtain ⟨rfl, rfl⟩ := q_1
  refine AW.sts (st' := [.int 1]) rfl ?_
  refine aw_if_eq (n := 7) (tgt := 23) dJ12_indexOf_2_4 (by decide) rfl (fun c_4 => ?_) (fun c_4 => ?_)
  · skip
    exact absurd c_4 (by decide +kernel)
  · skip
    refine aw_aload_n (n := 8) dJ12_indexOf_2_7 rfl 0 rfl rfl ?_
    refine aw_getf (n := 11) (v := .ref v) (C0 := RJ12) (T := TJ12) dJ12_indexOf_2_8 rfl 0 q645 (Or.inl rfl) hA rfl rfl ?_
    refine aw_iload_n (n := 12) dJ12_indexOf_2_11 rfl 1 rfl rfl ?_
    refine aw_iload_n (n := 13) dJ12_indexOf_2_12 rfl 2 rfl rfl ?_
    refine aw_aload_n (n := 14) dJ12_indexOf_2_13 rfl 0 rfl rfl ?_
    refine aw_callV (n := 17) (C0 := RJ12) (As := []) (rest := [.int (nI 0), .int (nI x), .ref v]) (K2 := kJ12_length) dJ12_indexOf_2_14 q690 q583 q584 q122 q585 ⟨rfl, hcJ12_length⟩ rfl hA (cs_length G h a v n w9 z9 f hA hV hn) rfl (Nat.le_of_ble_eq_true rfl) ⟨Nat.le_of_ble_eq_true rfl, Nat.le_of_ble_eq_true rfl⟩ ⟨Nat.zero_le _, Nat.zero_le _⟩ (fun _ _ _ z => z.elim) rfl (fun r_14 h_14 q_14 => ?_)
    obtain ⟨rfl, rfl⟩ := q_14
    refine AW.sts (st' := [.int (nI n), .int (nI 0), .int (nI x), .ref v]) rfl ?_
    refine aw_callS (n := 20) (As := [.ref v, .int (nI x), .int (nI 0), .int (nI n)]) (rest := []) (K2 := kJ17_indexOf) dJ12_indexOf_2_17 q860 q861 q128 q862 hcJ17_indexOf (cs_lio G h v n x bs f hV hn hn0 hx hf) rfl (Nat.le_of_ble_eq_true rfl) ⟨Nat.le_of_ble_eq_true rfl, Nat.le_of_ble_eq_true rfl⟩ ⟨Nat.zero_le _, Nat.zero_le _⟩ (fun _ _ _ z => z.elim) rfl (fun r_17 h_17 q_17 => ?_)
    obtain ⟨rfl, rfl⟩ := q_17
    refine AW.sts (st' := [.int (ixF (fun j => bs.getD j 0 == x) n)]) rfl ?_
    refine aw_goto (tgt := 36) dJ12_indexOf_2_20 (by decide) ?_
    exact aw_iret dJ12_indexOf_2_36 rfl ⟨rfl, rfl⟩ ⟨Nat.zero_le _, Nat.zero_le _⟩

abbrev kJ12_indexOf : aK := (yJ12_indexOf, cJ12_indexOf, 2, (Option.some Jvm.ClassFile.FieldType.int), [])
theorem hcJ12_indexOf : kJ12_indexOf.1.cls ≠ "java/lang/invoke/MethodHandle" ∧ kJ12_indexOf.1.cls ≠ "java/lang/invoke/VarHandle" ∧ (parseMethodDescriptor kJ12_indexOf.1.desc).map (fun d => d.parameters.length) = some 1 := ⟨by decide, by decide, by decide +kernel⟩
theorem cs_indexOf (G : aG) (h : hH) (a v n x : Nat) (w9 z9 : Int32) (bs : List Nat) (f : Nat → Value) (hA : h.2 a = some (hob 29 [.ref v, .int 0, .int w9, .int z9])) (hV : h.2 v = some (har 2 n f)) (hn : n < 2 ^ 31) (hn0 : 0 < n) (hx : x < 256) (hf : ∀ j : Nat, j < n → f j = .int (sb_b (bs.getD j 0)) ∧ bs.getD j 0 < 256) : Con G kJ12_indexOf [.ref a, .int (nI x)] h ((4, 70, 0, 0), (fun r h1 => r = some (.int (ixF (fun j => bs.getD j 0 == x) n)) ∧ h = h1), nX) := by
  refine Con.of (plainFor_of_name rfl) rfl (Nat.le_of_ble_eq_true rfl) ?_
  refine AW.eq (lv2 := [(0, .ref a), (1, .int (nI x))]) (s2 := []) rfl rfl rfl rfl rfl ?_
  refine aw_aload_n (n := 1) dJ12_indexOf_0 rfl 0 rfl rfl ?_
  refine aw_iload_n (n := 2) dJ12_indexOf_1 rfl 1 rfl rfl ?_
  refine aw_iconst (n := 3) (v := 0) dJ12_indexOf_2 (by decide) rfl ?_
  refine AW.sts (st' := [.int (nI 0), .int (nI x), .ref a]) (by rw [show (0 : Int32) = nI 0 from (by rfl)]) ?_
  refine aw_callV (n := 6) (C0 := RJ12) (As := [.int (nI x), .int (nI 0)]) (rest := []) (K2 := kJ12_indexOf_2) dJ12_indexOf_3 q856 q857 q858 q122 q859 ⟨rfl, hcJ12_indexOf_2⟩ rfl hA (cs_indexOf2 G h a v n x w9 z9 bs f hA hV hn hn0 hx hf) rfl (Nat.le_of_ble_eq_true rfl) ⟨Nat.le_of_ble_eq_true rfl, Nat.le_of_ble_eq_true rfl⟩ ⟨Nat.zero_le _, Nat.zero_le _⟩ (fun _ _ _ z => z.elim) rfl (fun r_3 h_3 q_3 => ?_)
  obtain ⟨rfl, rfl⟩ := q_3
  refine AW.sts (st' := [.int (ixF (fun j => bs.getD j 0 == x) n)]) rfl ?_
  exact aw_iret dJ12_indexOf_6 rfl ⟨rfl, rfl⟩ ⟨Nat.zero_le _, Nat.zero_le _⟩

abbrev kX3_symbolAt : aK := (yX3_symbolAt, cX3_symbolAt, 5, (Option.some Jvm.ClassFile.FieldType.int), [])
theorem hcX3_symbolAt : kX3_symbolAt.1.cls ≠ "java/lang/invoke/MethodHandle" ∧ kX3_symbolAt.1.cls ≠ "java/lang/invoke/VarHandle" ∧ (parseMethodDescriptor kX3_symbolAt.1.desc).map (fun d => d.parameters.length) = some 1 := ⟨by decide, by decide, by decide +kernel⟩
theorem ct_symbolAt (G : aG) (h : hH)  (b : Nat) (ms : tM) (hb : gB G ≤ b) (hT : TW b h ms) (hL : ms.1 2 = nI (Ln ms)) (hL2 : Ln ms ≤ 1800) (hY : tpOK ms) (p : Nat) (hp : p ≤ 1800) : Con G kX3_symbolAt [.ref b, .int (nI p)] h ((5, 91, 0, 0), (fun r h1 => r = some (.int (symT (byT ms p) (byT ms (p + 1)))) ∧ h = h1), nX) := by
  refine Con.of (plainFor_of_name rfl) rfl (Nat.le_of_ble_eq_true rfl) ?_
  refine AW.eq (lv2 := [(0, .ref b), (1, .int (nI p))]) (s2 := []) rfl rfl rfl rfl rfl ?_
  refine aw_aload_n (n := 1) dX3_symbolAt_0 rfl 0 rfl rfl ?_
  refine aw_iload_n (n := 2) dX3_symbolAt_1 rfl 1 rfl rfl ?_
  refine aw_callV (n := 5) (C0 := RX3) (As := [.int (nI p)]) (rest := []) (K2 := kX3_byteAt) dX3_symbolAt_2 q2796 q2798 qs45 q113 q2799 ⟨rfl, hcX3_byteAt⟩ rfl hT.1 (ct_byteAt G h b ms hb hT p (Ln ms) (by omega) hL hL2) rfl (Nat.le_of_ble_eq_true rfl) ⟨Nat.le_of_ble_eq_true rfl, Nat.le_of_ble_eq_true rfl⟩ ⟨Nat.zero_le _, Nat.zero_le _⟩ (fun _ _ _ z => z.elim) rfl (fun r_2 h_2 q_2 => ?_)
  obtain ⟨rfl, rfl⟩ := q_2
  refine AW.sts (st' := [.int (byT ms p)]) rfl ?_
  refine aw_istore_n (n := 6) (lv' := [(2, .int (byT ms p)), (0, .ref b), (1, .int (nI p))]) dX3_symbolAt_5 rfl (by decide) rfl rfl ?_
  refine aw_aload_n (n := 7) dX3_symbolAt_6 rfl 1 rfl rfl ?_
  refine aw_iload_n (n := 8) dX3_symbolAt_7 rfl 2 rfl rfl ?_
  refine aw_iconst (n := 9) (v := 1) dX3_symbolAt_8 (by decide) rfl ?_
  refine aw_iadd (n := 10) dX3_symbolAt_9 rfl ?_
  refine AW.sts (st' := [.int (nI (p + 1)), .ref b]) (by rw [show (nI p) + 1 = nI (p + 1) from (nI_1 _)]) ?_
  refine aw_callV (n := 13) (C0 := RX3) (As := [.int (nI (p + 1))]) (rest := []) (K2 := kX3_byteAt) dX3_symbolAt_10 q2796 q2798 qs45 q113 q2799 ⟨rfl, hcX3_byteAt⟩ rfl hT.1 (ct_byteAt G h b ms hb hT (p + 1) (Ln ms) (by omega) hL hL2) rfl (Nat.le_of_ble_eq_true rfl) ⟨Nat.le_of_ble_eq_true rfl, Nat.le_of_ble_eq_true rfl⟩ ⟨Nat.zero_le _, Nat.zero_le _⟩ (fun _ _ _ z => z.elim) rfl (fun r_10 h_10 q_10 => ?_)
  obtain ⟨rfl, rfl⟩ := q_10
  refine AW.sts (st' := [.int (byT ms (p + 1))]) rfl ?_
  refine aw_istore_n (n := 14) (lv' := [(3, .int (byT ms (p + 1))), (2, .int (byT ms p)), (0, .ref b), (1, .int (nI p))]) dX3_symbolAt_13 rfl (by decide) rfl rfl ?_
  refine aw_iload_n (n := 15) dX3_symbolAt_14 rfl 1 rfl rfl ?_
  refine aw_bipush (n := 17) (v := 46) dX3_symbolAt_15 (by decide) rfl ?_
  refine aw_icmp_ne (n := 20) (tgt := 32) dX3_symbolAt_17 (by decide) rfl (fun c_17 => ?_) (fun c_17 => ?_)
  · skip
    suffices J_79 : ∀ (z : Bool) (hz : z = twoB (byT ms p) (byT ms (p + 1))), AW G kX3_symbolAt ((5, 91, 0, 0), (fun r h1 => r = some (.int (symT (byT ms p) (byT ms (p + 1)))) ∧ h = h1), nX) 79 [(3, .int (byT ms (p + 1))), (2, .int (byT ms p)), (0, .ref b), (1, .int (nI p))] [.int (bI z)] h 0 0 by
      refine aw_iload_n (n := 33) dX3_symbolAt_32 rfl 1 rfl rfl ?_
      refine aw_bipush (n := 35) (v := 58) dX3_symbolAt_33 (by decide) rfl ?_
      refine aw_icmp_ne (n := 38) (tgt := 44) dX3_symbolAt_35 (by decide) rfl (fun c_35 => ?_) (fun c_35 => ?_)
      · skip
        refine aw_iload_n (n := 45) dX3_symbolAt_44 rfl 1 rfl rfl ?_
        refine aw_bipush (n := 47) (v := 60) dX3_symbolAt_45 (by decide) rfl ?_
        refine aw_icmp_ne (n := 50) (tgt := 62) dX3_symbolAt_47 (by decide) rfl (fun c_47 => ?_) (fun c_47 => ?_)
        · skip
          refine aw_iload_n (n := 63) dX3_symbolAt_62 rfl 1 rfl rfl ?_
          refine aw_bipush (n := 65) (v := 62) dX3_symbolAt_63 (by decide) rfl ?_
          refine aw_icmp_ne (n := 68) (tgt := 78) dX3_symbolAt_65 (by decide) rfl (fun c_65 => ?_) (fun c_65 => ?_)
          · skip
            refine aw_iconst (n := 79) (v := 0) dX3_symbolAt_78 (by decide) rfl ?_
            exact AW.lvs (lv' := [(3, .int (byT ms (p + 1))), (2, .int (byT ms p)), (0, .ref b), (1, .int (nI p))]) (AW.eq (lv2 := _) (rfl) (rfl) rfl rfl rfl (J_79 false (by first | (simp [twoB, c_17, c_35, c_47, c_65]; done) | exact absurd ((by assumption : byT ms p = 58).symm.trans (by assumption : byT ms p = 60)) (by decide) | exact absurd ((by assumption : byT ms p = 58).symm.trans (by assumption : byT ms p = 62)) (by decide) | exact absurd ((by assumption : byT ms p = 60).symm.trans (by assumption : byT ms p = 62)) (by decide)))) (by simp)
          · skip
            refine aw_iload_n (n := 69) dX3_symbolAt_68 rfl 0 rfl rfl ?_
            refine aw_bipush (n := 71) (v := 61) dX3_symbolAt_69 (by decide) rfl ?_
            refine aw_icmp_ne (n := 74) (tgt := 78) dX3_symbolAt_71 (by decide) rfl (fun c_71 => ?_) (fun c_71 => ?_)
            · skip
              refine aw_iconst (n := 79) (v := 0) dX3_symbolAt_78 (by decide) rfl ?_
              exact AW.lvs (lv' := [(3, .int (byT ms (p + 1))), (2, .int (byT ms p)), (0, .ref b), (1, .int (nI p))]) (AW.eq (lv2 := _) (rfl) (rfl) rfl rfl rfl (J_79 false (by first | (simp [twoB, c_17, c_35, c_47, c_65, c_71]; done) | exact absurd ((by assumption : byT ms p = 58).symm.trans (by assumption : byT ms p = 60)) (by decide) | exact absurd ((by assumption : byT ms p = 58).symm.trans (by assumption : byT ms p = 62)) (by decide) | exact absurd ((by assumption : byT ms p = 60).symm.trans (by assumption : byT ms p = 62)) (by decide)))) (by simp)
            · skip
              refine aw_iconst (n := 75) (v := 1) dX3_symbolAt_74 (by decide) rfl ?_
              refine aw_goto (tgt := 79) dX3_symbolAt_75 (by decide) ?_
              exact AW.lvs (lv' := [(3, .int (byT ms (p + 1))), (2, .int (byT ms p)), (0, .ref b), (1, .int (nI p))]) (AW.eq (lv2 := _) (rfl) (rfl) rfl rfl rfl (J_79 true (by first | (simp [twoB, c_17, c_35, c_47, c_65, c_71]; done) | exact absurd ((by assumption : byT ms p = 58).symm.trans (by assumption : byT ms p = 60)) (by decide) | exact absurd ((by assumption : byT ms p = 58).symm.trans (by assumption : byT ms p = 62)) (by decide) | exact absurd ((by assumption : byT ms p = 60).symm.trans (by assumption : byT ms p = 62)) (by decide)))) (by simp)
        · skip
          refine aw_iload_n (n := 51) dX3_symbolAt_50 rfl 0 rfl rfl ?_
          refine aw_bipush (n := 53) (v := 61) dX3_symbolAt_51 (by decide) rfl ?_
          refine aw_icmp_eq (n := 56) (tgt := 74) dX3_symbolAt_53 (by decide) rfl (fun c_53 => ?_) (fun c_53 => ?_)
          · skip
            refine aw_iconst (n := 75) (v := 1) dX3_symbolAt_74 (by decide) rfl ?_
            refine aw_goto (tgt := 79) dX3_symbolAt_75 (by decide) ?_
            exact AW.lvs (lv' := [(3, .int (byT ms (p + 1))), (2, .int (byT ms p)), (0, .ref b), (1, .int (nI p))]) (AW.eq (lv2 := _) (rfl) (rfl) rfl rfl rfl (J_79 true (by first | (simp [twoB, c_17, c_35, c_47, c_53]; done) | exact absurd ((by assumption : byT ms p = 58).symm.trans (by assumption : byT ms p = 60)) (by decide) | exact absurd ((by assumption : byT ms p = 58).symm.trans (by assumption : byT ms p = 62)) (by decide) | exact absurd ((by assumption : byT ms p = 60).symm.trans (by assumption : byT ms p = 62)) (by decide)))) (by simp)
          · skip
            refine aw_iload_n (n := 57) dX3_symbolAt_56 rfl 0 rfl rfl ?_
            refine aw_bipush (n := 59) (v := 62) dX3_symbolAt_57 (by decide) rfl ?_
            refine aw_icmp_eq (n := 62) (tgt := 74) dX3_symbolAt_59 (by decide) rfl (fun c_59 => ?_) (fun c_59 => ?_)
            · skip
              refine aw_iconst (n := 75) (v := 1) dX3_symbolAt_74 (by decide) rfl ?_
              refine aw_goto (tgt := 79) dX3_symbolAt_75 (by decide) ?_
              exact AW.lvs (lv' := [(3, .int (byT ms (p + 1))), (2, .int (byT ms p)), (0, .ref b), (1, .int (nI p))]) (AW.eq (lv2 := _) (rfl) (rfl) rfl rfl rfl (J_79 true (by first | (simp [twoB, c_17, c_35, c_47, c_53, c_59]; done) | exact absurd ((by assumption : byT ms p = 58).symm.trans (by assumption : byT ms p = 60)) (by decide) | exact absurd ((by assumption : byT ms p = 58).symm.trans (by assumption : byT ms p = 62)) (by decide) | exact absurd ((by assumption : byT ms p = 60).symm.trans (by assumption : byT ms p = 62)) (by decide)))) (by simp)
            · skip
              refine aw_iload_n (n := 63) dX3_symbolAt_62 rfl 1 rfl rfl ?_
              refine aw_bipush (n := 65) (v := 62) dX3_symbolAt_63 (by decide) rfl ?_
              refine aw_icmp_ne (n := 68) (tgt := 78) dX3_symbolAt_65 (by decide) rfl (fun c_65_2 => ?_) (fun c_65_2 => ?_)
              · skip
                refine aw_iconst (n := 79) (v := 0) dX3_symbolAt_78 (by decide) rfl ?_
                exact AW.lvs (lv' := [(3, .int (byT ms (p + 1))), (2, .int (byT ms p)), (0, .ref b), (1, .int (nI p))]) (AW.eq (lv2 := _) (rfl) (rfl) rfl rfl rfl (J_79 false (by first | (simp [twoB, c_17, c_35, c_47, c_53, c_59, c_65_2]; done) | exact absurd ((by assumption : byT ms p = 58).symm.trans (by assumption : byT ms p = 60)) (by decide) | exact absurd ((by assumption : byT ms p = 58).symm.trans (by assumption : byT ms p = 62)) (by decide) | exact absurd ((by assumption : byT ms p = 60).symm.trans (by assumption : byT ms p = 62)) (by decide)))) (by simp)
              · skip
                refine aw_iload_n (n := 69) dX3_symbolAt_68 rfl 0 rfl rfl ?_
                refine aw_bipush (n := 71) (v := 61) dX3_symbolAt_69 (by decide) rfl ?_
                refine aw_icmp_ne (n := 74) (tgt := 78) dX3_symbolAt_71 (by decide) rfl (fun c_71_2 => ?_) (fun c_71_2 => ?_)
                · skip
                  refine aw_iconst (n := 79) (v := 0) dX3_symbolAt_78 (by decide) rfl ?_
                  exact AW.lvs (lv' := [(3, .int (byT ms (p + 1))), (2, .int (byT ms p)), (0, .ref b), (1, .int (nI p))]) (AW.eq (lv2 := _) (rfl) (rfl) rfl rfl rfl (J_79 false (by first | (simp [twoB, c_17, c_35, c_47, c_53, c_59, c_65_2, c_71_2]; done) | exact absurd ((by assumption : byT ms p = 58).symm.trans (by assumption : byT ms p = 60)) (by decide) | exact absurd ((by assumption : byT ms p = 58).symm.trans (by assumption : byT ms p = 62)) (by decide) | exact absurd ((by assumption : byT ms p = 60).symm.trans (by assumption : byT ms p = 62)) (by decide)))) (by simp)
                · skip
                  refine aw_iconst (n := 75) (v := 1) dX3_symbolAt_74 (by decide) rfl ?_
                  refine aw_goto (tgt := 79) dX3_symbolAt_75 (by decide) ?_
                  exact AW.lvs (lv' := [(3, .int (byT ms (p + 1))), (2, .int (byT ms p)), (0, .ref b), (1, .int (nI p))]) (AW.eq (lv2 := _) (rfl) (rfl) rfl rfl rfl (J_79 true (by first | (simp [twoB, c_17, c_35, c_47, c_53, c_59, c_65_2, c_71_2]; done) | exact absurd ((by assumption : byT ms p = 58).symm.trans (by assumption : byT ms p = 60)) (by decide) | exact absurd ((by assumption : byT ms p = 58).symm.trans (by assumption : byT ms p = 62)) (by decide) | exact absurd ((by assumption : byT ms p = 60).symm.trans (by assumption : byT ms p = 62)) (by decide)))) (by simp)
      · skip
        refine aw_iload_n (n := 39) dX3_symbolAt_38 rfl 0 rfl rfl ?_
        refine aw_bipush (n := 41) (v := 61) dX3_symbolAt_39 (by decide) rfl ?_
        refine aw_icmp_eq (n := 44) (tgt := 74) dX3_symbolAt_41 (by decide) rfl (fun c_41 => ?_) (fun c_41 => ?_)
        · skip
          refine aw_iconst (n := 75) (v := 1) dX3_symbolAt_74 (by decide) rfl ?_
          refine aw_goto (tgt := 79) dX3_symbolAt_75 (by decide) ?_
          exact AW.lvs (lv' := [(3, .int (byT ms (p + 1))), (2, .int (byT ms p)), (0, .ref b), (1, .int (nI p))]) (AW.eq (lv2 := _) (rfl) (rfl) rfl rfl rfl (J_79 true (by first | (simp [twoB, c_17, c_35, c_41]; done) | exact absurd ((by assumption : byT ms p = 58).symm.trans (by assumption : byT ms p = 60)) (by decide) | exact absurd ((by assumption : byT ms p = 58).symm.trans (by assumption : byT ms p = 62)) (by decide) | exact absurd ((by assumption : byT ms p = 60).symm.trans (by assumption : byT ms p = 62)) (by decide)))) (by simp)
        · skip
          refine aw_iload_n (n := 45) dX3_symbolAt_44 rfl 1 rfl rfl ?_
          refine aw_bipush (n := 47) (v := 60) dX3_symbolAt_45 (by decide) rfl ?_
          refine aw_icmp_ne (n := 50) (tgt := 62) dX3_symbolAt_47 (by decide) rfl (fun c_47_2 => ?_) (fun c_47_2 => ?_)
          · skip
            refine aw_iload_n (n := 63) dX3_symbolAt_62 rfl 1 rfl rfl ?_
            refine aw_bipush (n := 65) (v := 62) dX3_symbolAt_63 (by decide) rfl ?_
            refine aw_icmp_ne (n := 68) (tgt := 78) dX3_symbolAt_65 (by decide) rfl (fun c_65_3 => ?_) (fun c_65_3 => ?_)
            · skip
              refine aw_iconst (n := 79) (v := 0) dX3_symbolAt_78 (by decide) rfl ?_
              exact AW.lvs (lv' := [(3, .int (byT ms (p + 1))), (2, .int (byT ms p)), (0, .ref b), (1, .int (nI p))]) (AW.eq (lv2 := _) (rfl) (rfl) rfl rfl rfl (J_79 false (by first | (simp [twoB, c_17, c_35, c_41, c_47_2, c_65_3]; done) | exact absurd ((by assumption : byT ms p = 58).symm.trans (by assumption : byT ms p = 60)) (by decide) | exact absurd ((by assumption : byT ms p = 58).symm.trans (by assumption : byT ms p = 62)) (by decide) | exact absurd ((by assumption : byT ms p = 60).symm.trans (by assumption : byT ms p = 62)) (by decide)))) (by simp)
            · skip
              refine aw_iload_n (n := 69) dX3_symbolAt_68 rfl 0 rfl rfl ?_
              refine aw_bipush (n := 71) (v := 61) dX3_symbolAt_69 (by decide) rfl ?_
              refine aw_icmp_ne (n := 74) (tgt := 78) dX3_symbolAt_71 (by decide) rfl (fun c_71_3 => ?_) (fun c_71_3 => ?_)
              · skip
                refine aw_iconst (n := 79) (v := 0) dX3_symbolAt_78 (by decide) rfl ?_
                exact AW.lvs (lv' := [(3, .int (byT ms (p + 1))), (2, .int (byT ms p)), (0, .ref b), (1, .int (nI p))]) (AW.eq (lv2 := _) (rfl) (rfl) rfl rfl rfl (J_79 false (by first | (simp [twoB, c_17, c_35, c_41, c_47_2, c_65_3, c_71_3]; done) | exact absurd ((by assumption : byT ms p = 58).symm.trans (by assumption : byT ms p = 60)) (by decide) | exact absurd ((by assumption : byT ms p = 58).symm.trans (by assumption : byT ms p = 62)) (by decide) | exact absurd ((by assumption : byT ms p = 60).symm.trans (by assumption : byT ms p = 62)) (by decide)))) (by simp)
              · skip
                refine aw_iconst (n := 75) (v := 1) dX3_symbolAt_74 (by decide) rfl ?_
                refine aw_goto (tgt := 79) dX3_symbolAt_75 (by decide) ?_
                exact AW.lvs (lv' := [(3, .int (byT ms (p + 1))), (2, .int (byT ms p)), (0, .ref b), (1, .int (nI p))]) (AW.eq (lv2 := _) (rfl) (rfl) rfl rfl rfl (J_79 true (by first | (simp [twoB, c_17, c_35, c_41, c_47_2, c_65_3, c_71_3]; done) | exact absurd ((by assumption : byT ms p = 58).symm.trans (by assumption : byT ms p = 60)) (by decide) | exact absurd ((by assumption : byT ms p = 58).symm.trans (by assumption : byT ms p = 62)) (by decide) | exact absurd ((by assumption : byT ms p = 60).symm.trans (by assumption : byT ms p = 62)) (by decide)))) (by simp)
          · skip
            refine aw_iload_n (n := 51) dX3_symbolAt_50 rfl 0 rfl rfl ?_
            refine aw_bipush (n := 53) (v := 61) dX3_symbolAt_51 (by decide) rfl ?_
            refine aw_icmp_eq (n := 56) (tgt := 74) dX3_symbolAt_53 (by decide) rfl (fun c_53_2 => ?_) (fun c_53_2 => ?_)
            · skip
              refine aw_iconst (n := 75) (v := 1) dX3_symbolAt_74 (by decide) rfl ?_
              refine aw_goto (tgt := 79) dX3_symbolAt_75 (by decide) ?_
              exact AW.lvs (lv' := [(3, .int (byT ms (p + 1))), (2, .int (byT ms p)), (0, .ref b), (1, .int (nI p))]) (AW.eq (lv2 := _) (rfl) (rfl) rfl rfl rfl (J_79 true (by first | (simp [twoB, c_17, c_35, c_41, c_47_2, c_53_2]; done) | exact absurd ((by assumption : byT ms p = 58).symm.trans (by assumption : byT ms p = 60)) (by decide) | exact absurd ((by assumption : byT ms p = 58).symm.trans (by assumption : byT ms p = 62)) (by decide) | exact absurd ((by assumption : byT ms p = 60).symm.trans (by assumption : byT ms p = 62)) (by decide)))) (by simp)
            · skip
              refine aw_iload_n (n := 57) dX3_symbolAt_56 rfl 0 rfl rfl ?_
              refine aw_bipush (n := 59) (v := 62) dX3_symbolAt_57 (by decide) rfl ?_
              refine aw_icmp_eq (n := 62) (tgt := 74) dX3_symbolAt_59 (by decide) rfl (fun c_59_2 => ?_) (fun c_59_2 => ?_)
              · skip
                refine aw_iconst (n := 75) (v := 1) dX3_symbolAt_74 (by decide) rfl ?_
                refine aw_goto (tgt := 79) dX3_symbolAt_75 (by decide) ?_
                exact AW.lvs (lv' := [(3, .int (byT ms (p + 1))), (2, .int (byT ms p)), (0, .ref b), (1, .int (nI p))]) (AW.eq (lv2 := _) (rfl) (rfl) rfl rfl rfl (J_79 true (by first | (simp [twoB, c_17, c_35, c_41, c_47_2, c_53_2, c_59_2]; done) | exact absurd ((by assumption : byT ms p = 58).symm.trans (by assumption : byT ms p = 60)) (by decide) | exact absurd ((by assumption : byT ms p = 58).symm.trans (by assumption : byT ms p = 62)) (by decide) | exact absurd ((by assumption : byT ms p = 60).symm.trans (by assumption : byT ms p = 62)) (by decide)))) (by simp)
              · skip
                refine aw_iload_n (n := 63) dX3_symbolAt_62 rfl 1 rfl rfl ?_
                refine aw_bipush (n := 65) (v := 62) dX3_symbolAt_63 (by decide) rfl ?_
                refine aw_icmp_ne (n := 68) (tgt := 78) dX3_symbolAt_65 (by decide) rfl (fun c_65_4 => ?_) (fun c_65_4 => ?_)
                · skip
                  refine aw_iconst (n := 79) (v := 0) dX3_symbolAt_78 (by decide) rfl ?_
                  exact AW.lvs (lv' := [(3, .int (byT ms (p + 1))), (2, .int (byT ms p)), (0, .ref b), (1, .int (nI p))]) (AW.eq (lv2 := _) (rfl) (rfl) rfl rfl rfl (J_79 false (by first | (simp [twoB, c_17, c_35, c_41, c_47_2, c_53_2, c_59_2, c_65_4]; done) | exact absurd ((by assumption : byT ms p = 58).symm.trans (by assumption : byT ms p = 60)) (by decide) | exact absurd ((by assumption : byT ms p = 58).symm.trans (by assumption : byT ms p = 62)) (by decide) | exact absurd ((by assumption : byT ms p = 60).symm.trans (by assumption : byT ms p = 62)) (by decide)))) (by simp)
                · skip
                  refine aw_iload_n (n := 69) dX3_symbolAt_68 rfl 0 rfl rfl ?_
                  refine aw_bipush (n := 71) (v := 61) dX3_symbolAt_69 (by decide) rfl ?_
                  refine aw_icmp_ne (n := 74) (tgt := 78) dX3_symbolAt_71 (by decide) rfl (fun c_71_4 => ?_) (fun c_71_4 => ?_)
                  · skip
                    refine aw_iconst (n := 79) (v := 0) dX3_symbolAt_78 (by decide) rfl ?_
                    exact AW.lvs (lv' := [(3, .int (byT ms (p + 1))), (2, .int (byT ms p)), (0, .ref b), (1, .int (nI p))]) (AW.eq (lv2 := _) (rfl) (rfl) rfl rfl rfl (J_79 false (by first | (simp [twoB, c_17, c_35, c_41, c_47_2, c_53_2, c_59_2, c_65_4, c_71_4]; done) | exact absurd ((by assumption : byT ms p = 58).symm.trans (by assumption : byT ms p = 60)) (by decide) | exact absurd ((by assumption : byT ms p = 58).symm.trans (by assumption : byT ms p = 62)) (by decide) | exact absurd ((by assumption : byT ms p = 60).symm.trans (by assumption : byT ms p = 62)) (by decide)))) (by simp)
                  · skip
                    refine aw_iconst (n := 75) (v := 1) dX3_symbolAt_74 (by decide) rfl ?_
                    refine aw_goto (tgt := 79) dX3_symbolAt_75 (by decide) ?_
                    exact AW.lvs (lv' := [(3, .int (byT ms (p + 1))), (2, .int (byT ms p)), (0, .ref b), (1, .int (nI p))]) (AW.eq (lv2 := _) (rfl) (rfl) rfl rfl rfl (J_79 true (by first | (simp [twoB, c_17, c_35, c_41, c_47_2, c_53_2, c_59_2, c_65_4, c_71_4]; done) | exact absurd ((by assumption : byT ms p = 58).symm.trans (by assumption : byT ms p = 60)) (by decide) | exact absurd ((by assumption : byT ms p = 58).symm.trans (by assumption : byT ms p = 62)) (by decide) | exact absurd ((by assumption : byT ms p = 60).symm.trans (by assumption : byT ms p = 62)) (by decide)))) (by simp)
    intro z hz
    refine aw_istore (n := 81) (lv' := [(4, .int (bI z)), (3, .int (byT ms (p + 1))), (2, .int (byT ms p)), (0, .ref b), (1, .int (nI p))]) dX3_symbolAt_79 (by decide) rfl rfl ?_
    refine aw_iload (n := 83) dX3_symbolAt_81 0 rfl rfl ?_
    refine aw_if_eq (n := 86) (tgt := 88) dX3_symbolAt_83 (by decide) rfl (fun c_83 => ?_) (fun c_83 => ?_)
    · skip
      have b_83 : z = false := (bI_0 _).mp c_83
      refine aw_iload_n (n := 89) dX3_symbolAt_88 rfl 2 rfl rfl ?_
      refine aw_if_le (n := 92) (tgt := 105) dX3_symbolAt_89 (by decide) rfl (fun c_89 => ?_) (fun c_89 => ?_)
      · skip
        refine aw_iconst (n := 106) (v := 0) dX3_symbolAt_105 (by decide) rfl ?_
        exact aw_iret dX3_symbolAt_106 rfl ⟨congrArg some (congrArg Value.int (by rw [symT, if_neg c_17, ← hz, if_neg (by rw [b_83]; decide), if_neg (by rw [Bool.and_eq_true, decide_eq_true_eq]; exact fun z => Int32.not_le.mpr z.1 c_89)])), rfl⟩ ⟨Nat.zero_le _, Nat.zero_le _⟩
      · skip
        refine aw_ldcS (n := 94) (q := 35) dX3_symbolAt_92 90 rfl rfl ?_
        refine aw_iload_n (n := 95) dX3_symbolAt_94 rfl 2 rfl rfl ?_
        refine aw_know (fun gd_0 hi_0 => ?_)
        obtain ⟨x, hx, hxe⟩ := byT_nI hY (k := p) (fun z => by rw [z] at c_89; exact c_89 (by decide))
        refine AW.sts (st' := [.int (nI x), .ref (gT G 35)]) (by rw [hxe]) ?_
        obtain ⟨v8, w8, z8, f8, hA8, hV8, hf8⟩ := str_at gd_0 hi_0 (i := 35) (bs := sw 35) rfl
        refine aw_callV (n := 98) (C0 := RJ12) (As := [.int (nI x)]) (rest := []) (K2 := kJ12_indexOf) dX3_symbolAt_95 q2811 q853 q854 q122 q855 ⟨rfl, hcJ12_indexOf⟩ rfl hA8 (cs_indexOf G h _ v8 16 x w8 z8 (sw 35) f8 hA8 hV8 (by decide) (by decide) hx (fun j hj => ⟨hf8 j hj, Nat.lt_trans ((lo_at (i := 35) (bs := sw 35) rfl).2 j hj) (by decide)⟩)) rfl (Nat.le_of_ble_eq_true rfl) ⟨Nat.le_of_ble_eq_true rfl, Nat.le_of_ble_eq_true rfl⟩ ⟨Nat.zero_le _, Nat.zero_le _⟩ (fun _ _ _ z => z.elim) rfl (fun r_95 h_95 q_95 => ?_)
        obtain ⟨rfl, rfl⟩ := q_95
        refine AW.sts (st' := [.int (ixF (fun j => (sw 35).getD j 0 == x) 16)]) rfl ?_
        refine aw_if_lt (n := 101) (tgt := 105) dX3_symbolAt_98 (by decide) rfl (fun c_98 => ?_) (fun c_98 => ?_)
        · skip
          refine aw_iconst (n := 106) (v := 0) dX3_symbolAt_105 (by decide) rfl ?_
          exact aw_iret dX3_symbolAt_106 rfl ⟨congrArg some (congrArg Value.int (by rw [symT, if_neg c_17, ← hz, if_neg (by rw [b_83]; decide), if_neg (by rw [hxe, isSy_ix x hx, Bool.and_eq_true, decide_eq_true_eq, decide_eq_true_eq]; rw [hxe] at c_89; exact fun z => Int32.not_le.mpr c_98 z.2)])), rfl⟩ ⟨Nat.zero_le _, Nat.zero_le _⟩
        · skip
          refine aw_iconst (n := 102) (v := 1) dX3_symbolAt_101 (by decide) rfl ?_
          refine aw_goto (tgt := 106) dX3_symbolAt_102 (by decide) ?_
          exact aw_iret dX3_symbolAt_106 rfl ⟨congrArg some (congrArg Value.int (by rw [symT, if_neg c_17, ← hz, if_neg (by rw [b_83]; decide), if_pos (by rw [hxe, isSy_ix x hx, Bool.and_eq_true, decide_eq_true_eq, decide_eq_true_eq]; rw [hxe] at c_89; exact ⟨Int32.not_le.mp c_89, Int32.not_lt.mp c_98⟩)])), rfl⟩ ⟨Nat.zero_le _, Nat.zero_le _⟩
    · skip
      have b_83 : z = true := Bool.of_not_eq_false (fun e => c_83 ((bI_0 _).mpr e))
      refine aw_iconst (n := 87) (v := 2) dX3_symbolAt_86 (by decide) rfl ?_
      exact aw_iret dX3_symbolAt_87 rfl ⟨congrArg some (congrArg Value.int (by rw [symT, if_neg c_17, ← hz, if_pos b_83])), rfl⟩ ⟨Nat.zero_le _, Nat.zero_le _⟩
  · skip
    refine aw_iload_n (n := 21) dX3_symbolAt_20 rfl 0 rfl rfl ?_
    refine aw_bipush (n := 23) (v := 46) dX3_symbolAt_21 (by decide) rfl ?_
    refine aw_icmp_ne (n := 26) (tgt := 30) dX3_symbolAt_23 (by decide) rfl (fun c_23 => ?_) (fun c_23 => ?_)
    · skip
      refine aw_iconst (n := 31) (v := 0) dX3_symbolAt_30 (by decide) rfl ?_
      exact aw_iret dX3_symbolAt_31 rfl ⟨congrArg some (congrArg Value.int (by simp [symT, c_17, c_23])), rfl⟩ ⟨Nat.zero_le _, Nat.zero_le _⟩
    · skip
      refine aw_iconst (n := 27) (v := 2) dX3_symbolAt_26 (by decide) rfl ?_
      refine aw_goto (tgt := 31) dX3_symbolAt_27 (by decide) ?_
      exact aw_iret dX3_symbolAt_31 rfl ⟨congrArg some (congrArg Value.int (by simp [symT, c_17, c_23])), rfl⟩ ⟨Nat.zero_le _, Nat.zero_le _⟩

end
