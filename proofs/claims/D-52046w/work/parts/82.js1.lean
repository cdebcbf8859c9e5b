/-! String: charAt, equals, hashCode. -/
section
set_option maxRecDepth 100000
theorem chr_alg (k : Nat) (h : k < 256) : ((sb_b k &&& 255).toUInt32 % 65536).toInt32 = nI k := by rw [(sb_byte k h).1]; exact (sb_byte k h).2.1
theorem chr_narg {k : Nat} (h : k < 256) : narrow .char (.int (nI k)) = .int (nI k) := (pk_charN (by omega)).1
theorem cs_l1_charAt (G : aG) (h : hH) (v : Nat) (bs : List Nat) (f : Nat → Value) (hV : h.2 v = some (har 2 bs.length f)) (hf : ∀ j, j < bs.length → f j = .int (sb_b (bs.getD j 0))) (hb : ∀ j, j < bs.length → bs.getD j 0 < 256) (hl : bs.length ≤ 2000) (j k : Nat) (hj : j < bs.length) (hk : bs.getD j 0 = k) : Con G kJ17_charAt [.ref v, .int (nI j)] h ((3, 43, 0, 0), (fun r h1 => r = some (.int (nI k)) ∧ h = h1), nX) := by
  refine Con.of (plainFor_of_name rfl) rfl (Nat.le_of_ble_eq_true rfl) ?_
  refine AW.eq (lv2 := [(0, .ref v), (1, .int (nI j))]) (s2 := []) rfl rfl rfl rfl rfl ?_
  refine aw_know (fun gd hi => ?_)
  have lt_v : v < h.1 := hi.2.1 _ _ hV
  refine aw_iload_n (n := 1) dJ17_charAt_0 rfl 1 rfl rfl ?_
  refine aw_aload_n (n := 2) dJ17_charAt_1 rfl 0 rfl rfl ?_
  refine aw_alen (n := 3) (v := nI bs.length) dJ17_charAt_2 rfl hV rfl rfl ?_
  refine aw_callS (n := 6) (As := [.int (nI j), .int (nI bs.length)]) (rest := []) (K2 := kJ12_checkIndex) dJ17_charAt_3 q673 q447 q122 q448 hcJ12_checkIndex (cs_sci G h j bs.length hj (by omega)) rfl (Nat.le_of_ble_eq_true rfl) ⟨Nat.le_of_ble_eq_true rfl, Nat.le_of_ble_eq_true rfl⟩ ⟨by first | omega | (dsimp only; omega) | decide, by first | omega | (dsimp only; omega) | decide⟩ (fun _ _ _ z => z.elim) rfl (fun r_3 h_3 q_3 => ?_)
  obtain ⟨rfl, rfl⟩ := q_3
  refine AW.sts (st' := []) rfl ?_
  refine aw_aload_n (n := 7) dJ17_charAt_6 rfl 0 rfl rfl ?_
  refine aw_iload_n (n := 8) dJ17_charAt_7 rfl 1 rfl rfl ?_
  refine aw_bald (n := 9) (v := .int (sb_b (bs.getD j 0))) dJ17_charAt_8 rfl j rfl hV (by omega) (by omega) (hf _ (by omega)) rfl ?_
  refine aw_sipush (n := 12) (v := 255) dJ17_charAt_9 (by decide) rfl ?_
  refine aw_iand (n := 13) dJ17_charAt_12 rfl ?_
  refine aw_i2c (n := 14) dJ17_charAt_13 rfl rfl ?_
  refine AW.sts (st' := [.int (nI k)]) (by rw [chr_alg _ (hb j hj), hk]) ?_
  exact aw_zret dJ17_charAt_14 rfl (chr_narg (by rw [← hk]; exact hb j hj)) ⟨rfl, rfl⟩ ⟨Nat.zero_le _, Nat.zero_le _⟩

abbrev kJ17_getChar : aK := (yJ17_getChar, cJ17_getChar, 2, (Option.some Jvm.ClassFile.FieldType.char), [])
theorem hcJ17_getChar : kJ17_getChar.1.cls ≠ "java/lang/invoke/MethodHandle" ∧ kJ17_getChar.1.cls ≠ "java/lang/invoke/VarHandle" ∧ (parseMethodDescriptor kJ17_getChar.1.desc).map (fun d => d.parameters.length) = some 2 := ⟨by decide, by decide, by decide +kernel⟩
theorem cs_l1_getChar (G : aG) (h : hH) (v : Nat) (bs : List Nat) (f : Nat → Value) (hV : h.2 v = some (har 2 bs.length f)) (hf : ∀ j, j < bs.length → f j = .int (sb_b (bs.getD j 0))) (hb : ∀ j, j < bs.length → bs.getD j 0 < 256) (hl : bs.length ≤ 2000) (j k : Nat) (hj : j < bs.length) (hk : bs.getD j 0 = k) : Con G kJ17_getChar [.ref v, .int (nI j)] h ((1, 0, 0, 0), (fun r h1 => r = some (.int (nI k)) ∧ h = h1), nX) := by
  refine Con.of (plainFor_of_name rfl) rfl (Nat.le_of_ble_eq_true rfl) ?_
  refine AW.eq (lv2 := [(0, .ref v), (1, .int (nI j))]) (s2 := []) rfl rfl rfl rfl rfl ?_
  refine aw_know (fun gd hi => ?_)
  have lt_v : v < h.1 := hi.2.1 _ _ hV
  refine aw_aload_n (n := 1) dJ17_getChar_0 rfl 0 rfl rfl ?_
  refine aw_iload_n (n := 2) dJ17_getChar_1 rfl 1 rfl rfl ?_
  refine aw_bald (n := 3) (v := .int (sb_b (bs.getD j 0))) dJ17_getChar_2 rfl j rfl hV (by omega) (by omega) (hf _ (by omega)) rfl ?_
  refine aw_sipush (n := 6) (v := 255) dJ17_getChar_3 (by decide) rfl ?_
  refine aw_iand (n := 7) dJ17_getChar_6 rfl ?_
  refine aw_i2c (n := 8) dJ17_getChar_7 rfl rfl ?_
  refine AW.sts (st' := [.int (nI k)]) (by rw [chr_alg _ (hb j hj), hk]) ?_
  exact aw_zret dJ17_getChar_8 rfl (chr_narg (by rw [← hk]; exact hb j hj)) ⟨rfl, rfl⟩ ⟨Nat.zero_le _, Nat.zero_le _⟩

theorem cs_charAtG (G : aG) (h : hH) (a v : Nat) (bs : List Nat) (w z : Int32) (hS : isSt h a v bs w z) (j k : Nat) (hj : j < bs.length) (hk : bs.getD j 0 = k) : Con G kJ12_charAt [.ref a, .int (nI j)] h ((4, 64, 0, 0), (fun r h1 => r = some (.int (nI k)) ∧ h = h1), nX) := by
  obtain ⟨f, hA, hV, hf, hb, hl⟩ := hS
  refine Con.of (plainFor_of_name rfl) rfl (Nat.le_of_ble_eq_true rfl) ?_
  refine AW.eq (lv2 := [(0, .ref a), (1, .int (nI j))]) (s2 := []) rfl rfl rfl rfl rfl ?_
  refine aw_know (fun gd hi => ?_)
  have lt_a : a < h.1 := hi.2.1 _ _ hA
  have lt_v : v < h.1 := hi.2.1 _ _ hV
  refine aw_aload_n (n := 1) dJ12_charAt_0 rfl 0 rfl rfl ?_
  refine aw_callV (n := 4) (C0 := RJ12) (As := []) (rest := []) (K2 := kJ12_isLatin1) dJ12_charAt_1 q666 q667 q668 q122 q669 ⟨rfl, hcJ12_isLatin1⟩ rfl hA (cs_isLatin1 G h a v bs.length w z f hA hV (by omega)) rfl (Nat.le_of_ble_eq_true rfl) ⟨Nat.le_of_ble_eq_true rfl, Nat.le_of_ble_eq_true rfl⟩ ⟨by first | omega | (dsimp only; omega) | decide, by first | omega | (dsimp only; omega) | decide⟩ (fun _ _ _ z => z.elim) rfl (fun r_1 h_1 q_1 => ?_)
  obtain ⟨rfl, rfl⟩ := q_1
  refine AW.sts (st' := [.int 1]) rfl ?_
  refine aw_if_eq (n := 7) (tgt := 16) dJ12_charAt_4 (by decide) rfl (fun c_4 => ?_) (fun c_4 => ?_)
  · skip
    exact absurd c_4 (by decide +kernel)
  · skip
    refine aw_aload_n (n := 8) dJ12_charAt_7 rfl 0 rfl rfl ?_
    refine aw_getf (n := 11) (v := .ref v) (C0 := RJ12) (T := TJ12) dJ12_charAt_8 rfl 0 q645 (Or.inl rfl) hA rfl rfl ?_
    refine aw_iload_n (n := 12) dJ12_charAt_11 rfl 1 rfl rfl ?_
    refine aw_callS (n := 15) (As := [.ref v, .int (nI j)]) (rest := []) (K2 := kJ17_charAt) dJ12_charAt_12 q670 q671 q128 q672 hcJ17_charAt (cs_l1_charAt G h v bs f hV hf hb hl j k hj hk) rfl (Nat.le_of_ble_eq_true rfl) ⟨Nat.le_of_ble_eq_true rfl, Nat.le_of_ble_eq_true rfl⟩ ⟨by first | omega | (dsimp only; omega) | decide, by first | omega | (dsimp only; omega) | decide⟩ (fun _ _ _ z => z.elim) rfl (fun r_12 h_12 q_12 => ?_)
    obtain ⟨rfl, rfl⟩ := q_12
    refine AW.sts (st' := [.int (nI k)]) rfl ?_
    exact aw_zret dJ12_charAt_15 rfl (chr_narg (by rw [← hk]; exact hb j hj)) ⟨rfl, rfl⟩ ⟨Nat.zero_le _, Nat.zero_le _⟩

theorem cs_lenG (G : aG) (h : hH) (a v : Nat) (bs : List Nat) (w z : Int32) (hS : isSt h a v bs w z) : Con G kJ12_length [.ref a] h ((2, 20, 0, 0), (fun r h1 => r = some (.int (nI bs.length)) ∧ h = h1), nX) := by
  obtain ⟨f, hA, hV, hf, hb, hl⟩ := hS
  refine Con.of (plainFor_of_name rfl) rfl (Nat.le_of_ble_eq_true rfl) ?_
  refine AW.eq (lv2 := [(0, .ref a)]) (s2 := []) rfl rfl rfl rfl rfl ?_
  refine aw_know (fun gd hi => ?_)
  have lt_a : a < h.1 := hi.2.1 _ _ hA
  have lt_v : v < h.1 := hi.2.1 _ _ hV
  refine aw_aload_n (n := 1) dJ12_length_0 rfl 0 rfl rfl ?_
  refine aw_getf (n := 4) (v := .ref v) (C0 := RJ12) (T := TJ12) dJ12_length_1 rfl 0 q645 (Or.inl rfl) hA rfl rfl ?_
  refine aw_alen (n := 5) (v := nI bs.length) dJ12_length_4 rfl hV rfl rfl ?_
  refine aw_aload_n (n := 6) dJ12_length_5 rfl 0 rfl rfl ?_
  refine aw_callV (n := 9) (C0 := RJ12) (As := []) (rest := [.int (nI bs.length)]) (K2 := kJ12_coder) dJ12_length_6 q586 q587 q588 q122 q589 ⟨rfl, hcJ12_coder⟩ rfl hA (cs_coder G h a v bs.length w z f hA hV (by omega)) rfl (Nat.le_of_ble_eq_true rfl) ⟨Nat.le_of_ble_eq_true rfl, Nat.le_of_ble_eq_true rfl⟩ ⟨by first | omega | (dsimp only; omega) | decide, by first | omega | (dsimp only; omega) | decide⟩ (fun _ _ _ z => z.elim) rfl (fun r_6 h_6 q_6 => ?_)
  obtain ⟨rfl, rfl⟩ := q_6
  refine AW.sts (st' := [.int 0, .int (nI bs.length)]) rfl ?_
  refine aw_ishr (n := 10) dJ12_length_9 rfl ?_
  exact aw_iret dJ12_length_10 rfl ⟨by rw [shr0], rfl⟩ ⟨Nat.zero_le _, Nat.zero_le _⟩

abbrev kJ17_equals : aK := (yJ17_equals, cJ17_equals, 3, (Option.some Jvm.ClassFile.FieldType.boolean), [])
theorem hcJ17_equals : kJ17_equals.1.cls ≠ "java/lang/invoke/MethodHandle" ∧ kJ17_equals.1.cls ≠ "java/lang/invoke/VarHandle" ∧ (parseMethodDescriptor kJ17_equals.1.desc).map (fun d => d.parameters.length) = some 2 := ⟨by decide, by decide, by decide +kernel⟩
theorem cs_l1eq (G : aG) (h : hH) (v u : Nat) (bs cs : List Nat) (f g : Nat → Value) (hV : h.2 v = some (har 2 bs.length f)) (hU : h.2 u = some (har 2 cs.length g)) (hf : ∀ j, j < bs.length → f j = .int (sb_b (bs.getD j 0))) (hg : ∀ j, j < cs.length → g j = .int (sb_b (cs.getD j 0))) (hb : ∀ j, j < bs.length → bs.getD j 0 < 256) (hc : ∀ j, j < cs.length → cs.getD j 0 < 256) (hl : bs.length ≤ 2000) (hm : cs.length ≤ 2000) : Con G kJ17_equals [.ref v, .ref u] h ((1, 0, 0, 0), (fun r h1 => r = some (.int (bI (decide (bs = cs)))) ∧ h = h1), nX) := by
  refine Con.of (plainFor_of_name rfl) rfl (Nat.le_of_ble_eq_true rfl) ?_
  refine AW.eq (lv2 := [(0, .ref v), (1, .ref u)]) (s2 := []) rfl rfl rfl rfl rfl ?_
  refine aw_know (fun gd hi => ?_)
  have lt_v : v < h.1 := hi.2.1 _ _ hV
  have lt_u : u < h.1 := hi.2.1 _ _ hU
  refine aw_aload_n (n := 1) dJ17_equals_0 rfl 0 rfl rfl ?_
  refine aw_alen (n := 2) (v := nI bs.length) dJ17_equals_1 rfl hV rfl rfl ?_
  refine aw_aload_n (n := 3) dJ17_equals_2 rfl 1 rfl rfl ?_
  refine aw_alen (n := 4) (v := nI cs.length) dJ17_equals_3 rfl hU rfl rfl ?_
  refine aw_icmp_ne (n := 7) (tgt := 34) dJ17_equals_4 (by decide) rfl (fun c_4 => ?_) (fun c_4 => ?_)
  · skip
    have n_4 : ¬ (bs.length = cs.length) := fun z => c_4 (by have y := (nI_eq (a := bs.length) (b := cs.length) (by omega) (by omega)).mpr z; exact y)
    refine aw_iconst (n := 35) (v := 0) dJ17_equals_34 (by decide) rfl ?_
    exact aw_zret dJ17_equals_35 rfl (by decide) ⟨by have e9 : bs ≠ cs := fun e => n_4 (by rw [e]); simp [bI, e9], rfl⟩ ⟨Nat.zero_le _, Nat.zero_le _⟩
  · skip
    have n_4 : bs.length = cs.length := (nI_eq (a := bs.length) (b := cs.length) (by omega) (by omega)).mp (by exact c_4)
    have hln : bs.length = cs.length := by omega
    refine aw_iconst (n := 8) (v := 0) dJ17_equals_7 (by decide) rfl ?_
    refine aw_istore_n (n := 9) (lv' := [(2, .int 0), (0, .ref v), (1, .ref u)]) dJ17_equals_8 rfl (by decide) rfl rfl ?_
    suffices L_9 : ∀ (m_ : Nat) (j : Nat) (hj : j ≤ bs.length) (he : ∀ i, i < j → sb_b (bs.getD i 0) = sb_b (cs.getD i 0)), bs.length - j < m_ → AW G kJ17_equals ((1, 0, 0, 0), (fun r h1 => r = some (.int (bI (decide (bs = cs)))) ∧ h = h1), nX) 9 [(2, .int (nI j)), (1, .ref u), (0, .ref v)] [] h 0 0 from
      AW.lvs (lv' := [(2, .int 0), (1, .ref u), (0, .ref v)]) (AW.eq (lv2 := _) (rfl) rfl rfl rfl rfl (L_9 _ 0 (Nat.zero_le _) (fun i hi => absurd hi (Nat.not_lt_zero _)) (Nat.lt_succ_self _))) (by simp)
    intro m_
    induction m_ with
    | zero => intro j hj he h_m; exact absurd h_m (Nat.not_lt_zero _)
    | succ m_ ih_9 =>
      intro j hj he h_m
      refine aw_iload_n (n := 10) dJ17_equals_9 rfl 0 rfl rfl ?_
      refine aw_aload_n (n := 11) dJ17_equals_10 rfl 2 rfl rfl ?_
      refine aw_alen (n := 12) (v := nI bs.length) dJ17_equals_11 rfl hV rfl rfl ?_
      refine aw_icmp_ge (n := 15) (tgt := 32) dJ17_equals_12 (by decide) rfl (fun c_12 => ?_) (fun c_12 => ?_)
      · skip
        have n_12 : bs.length ≤ j := (nI_leI (a := bs.length) (b := j) (by omega) (by omega)).mp (by exact c_12)
        refine aw_iconst (n := 33) (v := 1) dJ17_equals_32 (by decide) rfl ?_
        exact aw_zret dJ17_equals_33 rfl (by decide) ⟨by have hj9 : j = bs.length := (by omega); have e9 : bs = cs := txt_eq hln hb hc (fun i hi => he i (by omega)); simp [bI, e9], rfl⟩ ⟨Nat.zero_le _, Nat.zero_le _⟩
      · skip
        have n_12 : ¬ (bs.length ≤ j) := fun z => c_12 (by have y := (nI_leI (a := bs.length) (b := j) (by omega) (by omega)).mpr z; exact y)
        refine aw_aload_n (n := 16) dJ17_equals_15 rfl 2 rfl rfl ?_
        refine aw_iload_n (n := 17) dJ17_equals_16 rfl 0 rfl rfl ?_
        refine aw_bald (n := 18) (v := .int (sb_b (bs.getD j 0))) dJ17_equals_17 rfl j rfl hV (by omega) (by omega) (hf _ (by omega)) rfl ?_
        refine aw_aload_n (n := 19) dJ17_equals_18 rfl 1 rfl rfl ?_
        refine aw_iload_n (n := 20) dJ17_equals_19 rfl 0 rfl rfl ?_
        refine aw_bald (n := 21) (v := .int (sb_b (cs.getD j 0))) dJ17_equals_20 rfl j rfl hU (by omega) (by omega) (hg _ (by omega)) rfl ?_
        refine aw_icmp_eq (n := 24) (tgt := 26) dJ17_equals_21 (by decide) rfl (fun c_21 => ?_) (fun c_21 => ?_)
        · skip
          refine aw_iinc (n := 29) (v := nI (j + 1)) (lv' := [(2, .int (nI (j + 1))), (1, .ref u), (0, .ref v)]) dJ17_equals_26 0 rfl (by rw [show nI j = nI j from rfl]; exact nI_1 _) (by decide) rfl rfl ?_
          refine aw_goto (tgt := 9) dJ17_equals_29 (by decide) ?_
          have he9 : ∀ i, i < j + 1 → sb_b (bs.getD i 0) = sb_b (cs.getD i 0) := by
            intro i hi
            by_cases e : i = j
            · subst e; exact c_21
            · exact he i (by omega)
          exact AW.lvs (lv' := [(2, .int (nI (j + 1))), (1, .ref u), (0, .ref v)]) (AW.eq (lv2 := _) (rfl) rfl rfl rfl rfl (ih_9 (j + 1) (by omega) he9 (by omega))) (by simp)
        · skip
          refine aw_iconst (n := 25) (v := 0) dJ17_equals_24 (by decide) rfl ?_
          exact aw_zret dJ17_equals_25 rfl (by decide) ⟨by have e9 : bs ≠ cs := fun e => c_21 (by rw [e]); simp [bI, e9], rfl⟩ ⟨Nat.zero_le _, Nat.zero_le _⟩

abbrev kJ12_equals : aK := (yJ12_equals, cJ12_equals, 3, (Option.some Jvm.ClassFile.FieldType.boolean), [])
theorem hcJ12_equals : kJ12_equals.1.cls ≠ "java/lang/invoke/MethodHandle" ∧ kJ12_equals.1.cls ≠ "java/lang/invoke/VarHandle" ∧ (parseMethodDescriptor kJ12_equals.1.desc).map (fun d => d.parameters.length) = some 1 := ⟨by decide, by decide, by decide +kernel⟩
theorem cs_equals (G : aG) (h : hH) (a v : Nat) (bs : List Nat) (w z : Int32) (hS : isSt h a v bs w z) (b u : Nat) (cs : List Nat) (w2 z2 : Int32) (hS2 : isSt h b u cs w2 z2) : Con G kJ12_equals [.ref a, .ref b] h ((2, 22, 0, 0), (fun r h1 => r = some (.int (bI (decide (bs = cs)))) ∧ h = h1), nX) := by
  obtain ⟨f, hA, hV, hf, hb, hl⟩ := hS
  obtain ⟨g, hB, hU, hg, hc, hm⟩ := hS2
  refine Con.of (plainFor_of_name rfl) rfl (Nat.le_of_ble_eq_true rfl) ?_
  refine AW.eq (lv2 := [(0, .ref a), (1, .ref b)]) (s2 := []) rfl rfl rfl rfl rfl ?_
  refine aw_know (fun gd hi => ?_)
  have lt_a : a < h.1 := hi.2.1 _ _ hA
  have lt_b : b < h.1 := hi.2.1 _ _ hB
  have lt_v : v < h.1 := hi.2.1 _ _ hV
  have lt_u : u < h.1 := hi.2.1 _ _ hU
  refine aw_aload_n (n := 1) dJ12_equals_0 rfl 0 rfl rfl ?_
  refine aw_aload_n (n := 2) dJ12_equals_1 rfl 1 rfl rfl ?_
  refine aw_acmp_ne (n := 5) (x := (some a)) (y := (some b)) (tgt := 7) dJ12_equals_2 (by decide) rfl (fun c_2 => ?_) (fun c_2 => ?_)
  · skip
    refine aw_aload_n (n := 8) dJ12_equals_7 rfl 1 rfl rfl ?_
    refine aw_inst (n := 11) dJ12_equals_8 q779 rfl hB (Or.inl rfl) rfl ?_
    refine aw_if_eq (n := 14) (tgt := 54) dJ12_equals_11 (by decide) rfl (fun c_11 => ?_) (fun c_11 => ?_)
    · skip
      exact absurd c_11 (by decide +kernel)
    · skip
      refine aw_aload_n (n := 15) dJ12_equals_14 rfl 1 rfl rfl ?_
      refine aw_cast (n := 18) dJ12_equals_15 q779 rfl hB (Or.inl rfl) rfl ?_
      refine aw_astore_n (n := 19) (lv' := [(2, .ref b), (0, .ref a), (1, .ref b)]) dJ12_equals_18 rfl (by decide) rfl rfl ?_
      refine aw_gets (n := 22) (v := .int 1) dJ12_equals_19 32 rfl q590 rfl gd.2.2.2.2.2.2.2.1.2.2.1.2.1 rfl ?_
      refine aw_if_eq (n := 25) (tgt := 36) dJ12_equals_22 (by decide) rfl (fun c_22 => ?_) (fun c_22 => ?_)
      · skip
        exact absurd c_22 (by decide +kernel)
      · skip
        refine aw_aload_n (n := 26) dJ12_equals_25 rfl 1 rfl rfl ?_
        refine aw_getf (n := 29) (v := .int 0) (C0 := RJ12) (T := TJ12) dJ12_equals_26 rfl 1 q646 (Or.inl rfl) hA rfl rfl ?_
        refine aw_aload_n (n := 30) dJ12_equals_29 rfl 0 rfl rfl ?_
        refine aw_getf (n := 33) (v := .int 0) (C0 := RJ12) (T := TJ12) dJ12_equals_30 rfl 1 q646 (Or.inl rfl) hB rfl rfl ?_
        refine aw_icmp_ne (n := 36) (tgt := 54) dJ12_equals_33 (by decide) rfl (fun c_33 => ?_) (fun c_33 => ?_)
        · skip
          exact absurd c_33 (by decide +kernel)
        · skip
          refine aw_aload_n (n := 37) dJ12_equals_36 rfl 1 rfl rfl ?_
          refine aw_getf (n := 40) (v := .ref v) (C0 := RJ12) (T := TJ12) dJ12_equals_37 rfl 0 q645 (Or.inl rfl) hA rfl rfl ?_
          refine aw_aload_n (n := 41) dJ12_equals_40 rfl 0 rfl rfl ?_
          refine aw_getf (n := 44) (v := .ref u) (C0 := RJ12) (T := TJ12) dJ12_equals_41 rfl 0 q645 (Or.inl rfl) hB rfl rfl ?_
          refine aw_callS (n := 47) (As := [.ref v, .ref u]) (rest := []) (K2 := kJ17_equals) dJ12_equals_44 q780 q781 q128 q782 hcJ17_equals (cs_l1eq G h v u bs cs f g hV hU hf hg hb hc hl hm) rfl (Nat.le_of_ble_eq_true rfl) ⟨Nat.le_of_ble_eq_true rfl, Nat.le_of_ble_eq_true rfl⟩ ⟨by first | omega | (dsimp only; omega) | decide, by first | omega | (dsimp only; omega) | decide⟩ (fun _ _ _ z => z.elim) rfl (fun r_44 h_44 q_44 => ?_)
          obtain ⟨rfl, rfl⟩ := q_44
          refine AW.sts (st' := [.int (bI (decide (bs = cs)))]) rfl ?_
          refine aw_if_eq (n := 50) (tgt := 54) dJ12_equals_47 (by decide) rfl (fun c_47 => ?_) (fun c_47 => ?_)
          · skip
            have b_47 : (decide (bs = cs)) = false := (bI_0 _).mp c_47
            refine aw_iconst (n := 55) (v := 0) dJ12_equals_54 (by decide) rfl ?_
            exact aw_zret dJ12_equals_55 rfl (by decide) ⟨by have z9 := b_47; revert z9; cases hd9 : decide (bs = cs) <;> simp [bI], rfl⟩ ⟨Nat.zero_le _, Nat.zero_le _⟩
          · skip
            have b_47 : (decide (bs = cs)) = true := Bool.of_not_eq_false (fun e => c_47 ((bI_0 _).mpr e))
            refine aw_iconst (n := 51) (v := 1) dJ12_equals_50 (by decide) rfl ?_
            refine aw_goto (tgt := 55) dJ12_equals_51 (by decide) ?_
            exact aw_zret dJ12_equals_55 rfl (by decide) ⟨by have z9 := b_47; revert z9; cases hd9 : decide (bs = cs) <;> simp [bI], rfl⟩ ⟨Nat.zero_le _, Nat.zero_le _⟩
  · skip
    refine aw_iconst (n := 6) (v := 1) dJ12_equals_5 (by decide) rfl ?_
    exact aw_zret dJ12_equals_6 rfl (by decide) ⟨by have e9 : a = b := (by simpa using c_2); subst e9; have e8 := hA.symm.trans hB; cases e8; have e7 := hV.symm.trans hU; have e6 : bs.length = cs.length ∧ f = g := (by simpa using e7); have e5 : bs = cs := getD_ext e6.1 (fun j hj => sb_inj _ (hb j hj) _ (hc j (by omega)) (by have z1 := hf j hj; have z2 := hg j (by omega); rw [e6.2] at z1; have z3 := z1.symm.trans z2; simpa using z3)); simp [bI, e5], rfl⟩ ⟨Nat.zero_le _, Nat.zero_le _⟩

abbrev kJ14_signedHashCode : aK := (yJ14_signedHashCode, cJ14_signedHashCode, 6, (Option.some Jvm.ClassFile.FieldType.int), [])
theorem hcJ14_signedHashCode : kJ14_signedHashCode.1.cls ≠ "java/lang/invoke/MethodHandle" ∧ kJ14_signedHashCode.1.cls ≠ "java/lang/invoke/VarHandle" ∧ (parseMethodDescriptor kJ14_signedHashCode.1.desc).map (fun d => d.parameters.length) = some 4 := ⟨by decide, by decide, by decide +kernel⟩
theorem cs_signed (G : aG) (h : hH) (v : Nat) (bs : List Nat) (f : Nat → Value) (hV : h.2 v = some (har 2 bs.length f)) (hf : ∀ j, j < bs.length → f j = .int (sb_b (bs.getD j 0))) (hb : ∀ j, j < bs.length → bs.getD j 0 < 256) (hl : bs.length ≤ 2000) : Con G kJ14_signedHashCode [.int 0, .ref v, .int 0, .int (nI bs.length)] h ((1, 0, 0, 0), (fun r h1 => r = some (.int (hashT bs)) ∧ h = h1), nX) := by
  refine Con.of (plainFor_of_name rfl) rfl (Nat.le_of_ble_eq_true rfl) ?_
  refine AW.eq (lv2 := [(0, .int 0), (1, .ref v), (2, .int 0), (3, .int (nI bs.length))]) (s2 := []) rfl rfl rfl rfl rfl ?_
  refine aw_know (fun gd hi => ?_)
  have lt_v : v < h.1 := hi.2.1 _ _ hV
  refine aw_iload_n (n := 1) dJ14_signedHashCode_0 rfl 2 rfl rfl ?_
  refine aw_iload_n (n := 2) dJ14_signedHashCode_1 rfl 3 rfl rfl ?_
  refine aw_iadd (n := 3) dJ14_signedHashCode_2 rfl ?_
  refine AW.sts (st' := [.int (nI bs.length)]) (by rw [Int32.zero_add]) ?_
  refine aw_istore (n := 5) (lv' := [(4, .int (nI bs.length)), (0, .int 0), (1, .ref v), (2, .int 0), (3, .int (nI bs.length))]) dJ14_signedHashCode_3 (by decide) rfl rfl ?_
  refine aw_iload_n (n := 6) dJ14_signedHashCode_5 rfl 3 rfl rfl ?_
  refine aw_istore (n := 8) (lv' := [(5, .int 0), (4, .int (nI bs.length)), (0, .int 0), (1, .ref v), (2, .int 0), (3, .int (nI bs.length))]) dJ14_signedHashCode_6 (by decide) rfl rfl ?_
  suffices L_8 : ∀ (m_ : Nat) (j : Nat) (hj : j ≤ bs.length), bs.length - j < m_ → AW G kJ14_signedHashCode ((1, 0, 0, 0), (fun r h1 => r = some (.int (hashT bs)) ∧ h = h1), nX) 8 [(5, .int (nI j)), (4, .int (nI bs.length)), (3, .int (nI bs.length)), (2, .int 0), (1, .ref v), (0, .int (hsI (fun j => bs.getD j 0) j))] [] h 0 0 from
    AW.lvs (lv' := [(5, .int 0), (4, .int (nI bs.length)), (3, .int (nI bs.length)), (2, .int 0), (1, .ref v), (0, .int 0)]) (AW.eq (lv2 := _) (rfl) rfl rfl rfl rfl (L_8 _ 0 (Nat.zero_le _) (Nat.lt_succ_self _))) (by simp)
  intro m_
  induction m_ with
  | zero => intro j hj h_m; exact absurd h_m (Nat.not_lt_zero _)
  | succ m_ ih_8 =>
    intro j hj h_m
    refine aw_iload (n := 10) dJ14_signedHashCode_8 0 rfl rfl ?_
    refine aw_iload (n := 12) dJ14_signedHashCode_10 1 rfl rfl ?_
    refine aw_icmp_ge (n := 15) (tgt := 35) dJ14_signedHashCode_12 (by decide) rfl (fun c_12 => ?_) (fun c_12 => ?_)
    · skip
      have n_12 : bs.length ≤ j := (nI_leI (a := bs.length) (b := j) (by omega) (by omega)).mp (by exact c_12)
      refine aw_iload_n (n := 36) dJ14_signedHashCode_35 rfl 5 rfl rfl ?_
      exact aw_iret dJ14_signedHashCode_36 rfl ⟨by rw [hashT, show bs.length = j by omega], rfl⟩ ⟨Nat.zero_le _, Nat.zero_le _⟩
    · skip
      have n_12 : ¬ (bs.length ≤ j) := fun z => c_12 (by have y := (nI_leI (a := bs.length) (b := j) (by omega) (by omega)).mpr z; exact y)
      refine aw_bipush (n := 17) (v := 31) dJ14_signedHashCode_15 (by decide) rfl ?_
      refine aw_iload_n (n := 18) dJ14_signedHashCode_17 rfl 5 rfl rfl ?_
      refine aw_imul (n := 19) dJ14_signedHashCode_18 rfl ?_
      refine aw_aload_n (n := 20) dJ14_signedHashCode_19 rfl 4 rfl rfl ?_
      refine aw_iload (n := 22) dJ14_signedHashCode_20 0 rfl rfl ?_
      refine aw_bald (n := 23) (v := .int (sb_b (bs.getD j 0))) dJ14_signedHashCode_22 rfl j rfl hV (by omega) (by omega) (hf _ (by omega)) rfl ?_
      refine aw_sipush (n := 26) (v := 255) dJ14_signedHashCode_23 (by decide) rfl ?_
      refine aw_iand (n := 27) dJ14_signedHashCode_26 rfl ?_
      refine AW.sts (st' := [.int (nI (bs.getD j 0)), .int (31 * (hsI (fun j => bs.getD j 0) j))]) (by rw [(sb_byte _ (hb j (by omega))).1]) ?_
      refine aw_iadd (n := 28) dJ14_signedHashCode_27 rfl ?_
      refine aw_istore_n (n := 29) (lv' := [(0, .int ((31 * (hsI (fun j => bs.getD j 0) j)) + (nI (bs.getD j 0)))), (5, .int (nI j)), (4, .int (nI bs.length)), (3, .int (nI bs.length)), (2, .int 0), (1, .ref v)]) dJ14_signedHashCode_28 rfl (by decide) rfl rfl ?_
      refine aw_iinc (n := 32) (v := nI (j + 1)) (lv' := [(5, .int (nI (j + 1))), (0, .int ((31 * (hsI (fun j => bs.getD j 0) j)) + (nI (bs.getD j 0)))), (4, .int (nI bs.length)), (3, .int (nI bs.length)), (2, .int 0), (1, .ref v)]) dJ14_signedHashCode_29 1 rfl (by rw [show nI j = nI j from rfl]; exact nI_1 _) (by decide) rfl rfl ?_
      refine aw_goto (tgt := 8) dJ14_signedHashCode_32 (by decide) ?_
      exact AW.lvs (lv' := [(5, .int (nI (j + 1))), (4, .int (nI bs.length)), (3, .int (nI bs.length)), (2, .int 0), (1, .ref v), (0, .int ((31 * (hsI (fun j => bs.getD j 0) j)) + (nI (bs.getD j 0))))]) (AW.eq (lv2 := _) (rfl) rfl rfl rfl rfl (ih_8 (j + 1) (by omega) (by omega))) (by simp)

abbrev kJ14_vectorizedHashCode : aK := (yJ14_vectorizedHashCode, cJ14_vectorizedHashCode, 5, (Option.some Jvm.ClassFile.FieldType.int), [])
theorem hcJ14_vectorizedHashCode : kJ14_vectorizedHashCode.1.cls ≠ "java/lang/invoke/MethodHandle" ∧ kJ14_vectorizedHashCode.1.cls ≠ "java/lang/invoke/VarHandle" ∧ (parseMethodDescriptor kJ14_vectorizedHashCode.1.desc).map (fun d => d.parameters.length) = some 5 := ⟨by decide, by decide, by decide +kernel⟩
theorem cs_vecH (G : aG) (h : hH) (v : Nat) (bs : List Nat) (f : Nat → Value) (hV : h.2 v = some (har 2 bs.length f)) (hf : ∀ j, j < bs.length → f j = .int (sb_b (bs.getD j 0))) (hb : ∀ j, j < bs.length → bs.getD j 0 < 256) (hl : bs.length ≤ 2000) : Con G kJ14_vectorizedHashCode [.ref v, .int 0, .int (nI bs.length), .int 0, .int 4] h ((2, 25, 0, 0), (fun r h1 => r = some (.int (hashT bs)) ∧ h = h1), nX) := by
  refine Con.of (plainFor_of_name rfl) rfl (Nat.le_of_ble_eq_true rfl) ?_
  refine AW.eq (lv2 := [(0, .ref v), (1, .int 0), (2, .int (nI bs.length)), (3, .int 0), (4, .int 4)]) (s2 := []) rfl rfl rfl rfl rfl ?_
  refine aw_know (fun gd hi => ?_)
  have lt_v : v < h.1 := hi.2.1 _ _ hV
  refine aw_iload (n := 2) dJ14_vectorizedHashCode_0 4 rfl rfl ?_
  refine AW.sts (st' := [.int (nI 4)]) (by rw [show (4 : Int32) = nI 4 from (by rfl)]) ?_
  refine aw_tableIn (tgt := 44) dJ14_vectorizedHashCode_2 (by decide) (by decide) (off := 42) (by rfl) (by decide) ?_
  refine aw_iload_n (n := 45) dJ14_vectorizedHashCode_44 rfl 3 rfl rfl ?_
  refine aw_aload_n (n := 46) dJ14_vectorizedHashCode_45 rfl 0 rfl rfl ?_
  refine aw_castA (n := 49) dJ14_vectorizedHashCode_46 q727 (Or.inr ⟨_, _, _, _, hV, rfl, rfl⟩) (Or.inl rfl) rfl ?_
  refine aw_iload_n (n := 50) dJ14_vectorizedHashCode_49 rfl 1 rfl rfl ?_
  refine aw_iload_n (n := 51) dJ14_vectorizedHashCode_50 rfl 2 rfl rfl ?_
  refine aw_callS (n := 54) (As := [.int 0, .ref v, .int 0, .int (nI bs.length)]) (rest := []) (K2 := kJ14_signedHashCode) dJ14_vectorizedHashCode_51 q728 q729 q124 q730 hcJ14_signedHashCode (cs_signed G h v bs f hV hf hb hl) rfl (Nat.le_of_ble_eq_true rfl) ⟨Nat.le_of_ble_eq_true rfl, Nat.le_of_ble_eq_true rfl⟩ ⟨by first | omega | (dsimp only; omega) | decide, by first | omega | (dsimp only; omega) | decide⟩ (fun _ _ _ z => z.elim) rfl (fun r_51 h_51 q_51 => ?_)
  obtain ⟨rfl, rfl⟩ := q_51
  refine AW.sts (st' := [.int (hashT bs)]) rfl ?_
  refine aw_goto (tgt := 157) dJ14_vectorizedHashCode_54 (by decide) ?_
  exact aw_iret dJ14_vectorizedHashCode_157 rfl ⟨rfl, rfl⟩ ⟨Nat.zero_le _, Nat.zero_le _⟩

abbrev kJ17_hashCode : aK := (yJ17_hashCode, cJ17_hashCode, 1, (Option.some Jvm.ClassFile.FieldType.int), [])
theorem hcJ17_hashCode : kJ17_hashCode.1.cls ≠ "java/lang/invoke/MethodHandle" ∧ kJ17_hashCode.1.cls ≠ "java/lang/invoke/VarHandle" ∧ (parseMethodDescriptor kJ17_hashCode.1.desc).map (fun d => d.parameters.length) = some 1 := ⟨by decide, by decide, by decide +kernel⟩
theorem cs_l1hash (G : aG) (h : hH) (v : Nat) (bs : List Nat) (f : Nat → Value) (hV : h.2 v = some (har 2 bs.length f)) (hf : ∀ j, j < bs.length → f j = .int (sb_b (bs.getD j 0))) (hb : ∀ j, j < bs.length → bs.getD j 0 < 256) (hl : bs.length ≤ 2000) : Con G kJ17_hashCode [.ref v] h ((3, 49, 0, 0), (fun r h1 => r = some (.int (hashT bs)) ∧ h = h1), nX) := by
  refine Con.of (plainFor_of_name rfl) rfl (Nat.le_of_ble_eq_true rfl) ?_
  refine AW.eq (lv2 := [(0, .ref v)]) (s2 := []) rfl rfl rfl rfl rfl ?_
  refine aw_know (fun gd hi => ?_)
  have lt_v : v < h.1 := hi.2.1 _ _ hV
  refine aw_aload_n (n := 1) dJ17_hashCode_0 rfl 0 rfl rfl ?_
  refine aw_alen (n := 2) (v := nI bs.length) dJ17_hashCode_1 rfl hV rfl rfl ?_
  rcases (show bs.length = 0 ∨ bs.length = 1 ∨ 2 ≤ bs.length by omega) with en | en | en
  · skip
    refine aw_lookup (off := 26) (tgt := 28) dJ17_hashCode_2 (by decide) (by rw [en]; decide) (by decide) ?_
    refine aw_iconst (n := 29) (v := 0) dJ17_hashCode_28 (by decide) rfl ?_
    refine aw_goto (tgt := 51) dJ17_hashCode_29 (by decide) ?_
    exact aw_iret dJ17_hashCode_51 rfl ⟨by rw [hashT, en]; rfl, rfl⟩ ⟨Nat.zero_le _, Nat.zero_le _⟩
  · skip
    refine aw_lookup (off := 30) (tgt := 32) dJ17_hashCode_2 (by decide) (by rw [en]; decide) (by decide) ?_
    refine aw_aload_n (n := 33) dJ17_hashCode_32 rfl 0 rfl rfl ?_
    refine aw_iconst (n := 34) (v := 0) dJ17_hashCode_33 (by decide) rfl ?_
    refine aw_bald (n := 35) (v := .int (sb_b (bs.getD 0 0))) dJ17_hashCode_34 rfl 0 (by rfl) hV (by omega) (by omega) (hf _ (by omega)) rfl ?_
    refine aw_sipush (n := 38) (v := 255) dJ17_hashCode_35 (by decide) rfl ?_
    refine aw_iand (n := 39) dJ17_hashCode_38 rfl ?_
    refine aw_goto (tgt := 51) dJ17_hashCode_39 (by decide) ?_
    exact aw_iret dJ17_hashCode_51 rfl ⟨by rw [hashT, en, (sb_byte _ (hb 0 (by omega))).1]; simp [hsI], rfl⟩ ⟨Nat.zero_le _, Nat.zero_le _⟩
  · skip
    refine aw_lookup (off := 40) (tgt := 42) dJ17_hashCode_2 (by decide) (by rw [nI_toInt (by omega)]; simp only [Op.lookupswitch.offset]; rw [if_neg (by omega), if_neg (by omega)]) (by decide) ?_
    refine aw_aload_n (n := 43) dJ17_hashCode_42 rfl 0 rfl rfl ?_
    refine aw_iconst (n := 44) (v := 0) dJ17_hashCode_43 (by decide) rfl ?_
    refine aw_aload_n (n := 45) dJ17_hashCode_44 rfl 0 rfl rfl ?_
    refine aw_alen (n := 46) (v := nI bs.length) dJ17_hashCode_45 rfl hV rfl rfl ?_
    refine aw_iconst (n := 47) (v := 0) dJ17_hashCode_46 (by decide) rfl ?_
    refine aw_iconst (n := 48) (v := 4) dJ17_hashCode_47 (by decide) rfl ?_
    refine aw_callS (n := 51) (As := [.ref v, .int 0, .int (nI bs.length), .int 0, .int 4]) (rest := []) (K2 := kJ14_vectorizedHashCode) dJ17_hashCode_48 q724 q725 q124 q726 hcJ14_vectorizedHashCode (cs_vecH G h v bs f hV hf hb hl) rfl (Nat.le_of_ble_eq_true rfl) ⟨Nat.le_of_ble_eq_true rfl, Nat.le_of_ble_eq_true rfl⟩ ⟨by first | omega | (dsimp only; omega) | decide, by first | omega | (dsimp only; omega) | decide⟩ (fun _ _ _ z => z.elim) rfl (fun r_48 h_48 q_48 => ?_)
    obtain ⟨rfl, rfl⟩ := q_48
    refine AW.sts (st' := [.int (hashT bs)]) rfl ?_
    exact aw_iret dJ17_hashCode_51 rfl ⟨rfl, rfl⟩ ⟨Nat.zero_le _, Nat.zero_le _⟩

abbrev kJ12_hashCode : aK := (yJ12_hashCode, cJ12_hashCode, 2, (Option.some Jvm.ClassFile.FieldType.int), [])
theorem hcJ12_hashCode : kJ12_hashCode.1.cls ≠ "java/lang/invoke/MethodHandle" ∧ kJ12_hashCode.1.cls ≠ "java/lang/invoke/VarHandle" ∧ (parseMethodDescriptor kJ12_hashCode.1.desc).map (fun d => d.parameters.length) = some 0 := ⟨by decide, by decide, by decide +kernel⟩
theorem cs_hash0 (G : aG) (h : hH) (a v : Nat) (bs : List Nat) (hS : isSt h a v bs 0 0) (hba : gB G ≤ a) : Con G kJ12_hashCode [.ref a] h ((4, 69, 0, 0), (fun r h1 => r = some (.int (hashT bs)) ∧ isSt h1 a v bs (hashT bs) (zfT bs) ∧ Fr (fun q => q = a) h h1 ∧ h1.1 = h.1), nX) := by
  obtain ⟨f, hA, hV, hf, hb, hl⟩ := hS
  refine Con.of (plainFor_of_name rfl) rfl (Nat.le_of_ble_eq_true rfl) ?_
  refine AW.eq (lv2 := [(0, .ref a)]) (s2 := []) rfl rfl rfl rfl rfl ?_
  refine aw_know (fun gd hi => ?_)
  have lt_a : a < h.1 := hi.2.1 _ _ hA
  have lt_v : v < h.1 := hi.2.1 _ _ hV
  refine aw_aload_n (n := 1) dJ12_hashCode_0 rfl 0 rfl rfl ?_
  refine aw_getf (n := 4) (v := .int 0) (C0 := RJ12) (T := TJ12) dJ12_hashCode_1 rfl 2 q647 (Or.inl rfl) hA rfl rfl ?_
  refine aw_istore_n (n := 5) (lv' := [(1, .int 0), (0, .ref a)]) dJ12_hashCode_4 rfl (by decide) rfl rfl ?_
  refine aw_iload_n (n := 6) dJ12_hashCode_5 rfl 0 rfl rfl ?_
  refine aw_if_ne (n := 9) (tgt := 58) dJ12_hashCode_6 (by decide) rfl (fun c_6 => ?_) (fun c_6 => ?_)
  · skip
    exact absurd c_6 (by decide +kernel)
  · skip
    refine aw_aload_n (n := 10) dJ12_hashCode_9 rfl 1 rfl rfl ?_
    refine aw_getf (n := 13) (v := .int 0) (C0 := RJ12) (T := TJ12) dJ12_hashCode_10 rfl 3 q648 (Or.inl rfl) hA rfl rfl ?_
    refine aw_if_ne (n := 16) (tgt := 58) dJ12_hashCode_13 (by decide) rfl (fun c_13 => ?_) (fun c_13 => ?_)
    · skip
      exact absurd c_13 (by decide +kernel)
    · skip
      refine aw_aload_n (n := 17) dJ12_hashCode_16 rfl 1 rfl rfl ?_
      refine aw_callV (n := 20) (C0 := RJ12) (As := []) (rest := []) (K2 := kJ12_isLatin1) dJ12_hashCode_17 q666 q667 q668 q122 q669 ⟨rfl, hcJ12_isLatin1⟩ rfl hA (cs_isLatin1 G h a v bs.length 0 0 f hA hV (by omega)) rfl (Nat.le_of_ble_eq_true rfl) ⟨Nat.le_of_ble_eq_true rfl, Nat.le_of_ble_eq_true rfl⟩ ⟨by first | omega | (dsimp only; omega) | decide, by first | omega | (dsimp only; omega) | decide⟩ (fun _ _ _ z => z.elim) rfl (fun r_17 h_17 q_17 => ?_)
      obtain ⟨rfl, rfl⟩ := q_17
      refine AW.sts (st' := [.int 1]) rfl ?_
      refine aw_if_eq (n := 23) (tgt := 33) dJ12_hashCode_20 (by decide) rfl (fun c_20 => ?_) (fun c_20 => ?_)
      · skip
        exact absurd c_20 (by decide +kernel)
      · skip
        refine aw_aload_n (n := 24) dJ12_hashCode_23 rfl 1 rfl rfl ?_
        refine aw_getf (n := 27) (v := .ref v) (C0 := RJ12) (T := TJ12) dJ12_hashCode_24 rfl 0 q645 (Or.inl rfl) hA rfl rfl ?_
        refine aw_callS (n := 30) (As := [.ref v]) (rest := []) (K2 := kJ17_hashCode) dJ12_hashCode_27 q721 q722 q128 q723 hcJ17_hashCode (cs_l1hash G h v bs f hV hf hb hl) rfl (Nat.le_of_ble_eq_true rfl) ⟨Nat.le_of_ble_eq_true rfl, Nat.le_of_ble_eq_true rfl⟩ ⟨by first | omega | (dsimp only; omega) | decide, by first | omega | (dsimp only; omega) | decide⟩ (fun _ _ _ z => z.elim) rfl (fun r_27 h_27 q_27 => ?_)
        obtain ⟨rfl, rfl⟩ := q_27
        refine AW.sts (st' := [.int (hashT bs)]) rfl ?_
        refine aw_goto (tgt := 40) dJ12_hashCode_30 (by decide) ?_
        refine aw_istore_n (n := 41) (lv' := [(1, .int (hashT bs)), (0, .ref a)]) dJ12_hashCode_40 rfl (by decide) rfl rfl ?_
        refine aw_iload_n (n := 42) dJ12_hashCode_41 rfl 0 rfl rfl ?_
        refine aw_if_ne (n := 45) (tgt := 53) dJ12_hashCode_42 (by decide) rfl (fun c_42 => ?_) (fun c_42 => ?_)
        · skip
          have n0 : ¬ hashT bs = 0 := c_42
          refine aw_aload_n (n := 54) dJ12_hashCode_53 rfl 1 rfl rfl ?_
          refine aw_iload_n (n := 55) dJ12_hashCode_54 rfl 0 rfl rfl ?_
          refine aw_putK (n := 58) (fs' := [.ref v, .int 0, .int (hashT bs), .int 0]) (C0 := RJ12) (T := TJ12) (N := 4) (ci := 29) dJ12_hashCode_55 rfl in_J12 tyJ12 tyJ12_ok nmJ12 q457 2 (by decide) q647 (Or.inl rfl) (by first | exact Or.inl rfl | exact Or.inr ⟨rfl, rfl, rfl⟩) rfl hA (by omega) rfl rfl (Nat.le_of_ble_eq_true rfl) rfl rfl (fun y_1 w_1 => ?_)
          have zy_1 : y_1.1 = h.1 := w_1.2.2
          refine aw_iload_n (n := 59) dJ12_hashCode_58 rfl 0 rfl rfl ?_
          have f_2 : y_1.2 v = some (har 2 bs.length f) := (w_1.k (ne_kind hV hA ar_ob) hV)
          exact aw_iret dJ12_hashCode_59 rfl ⟨rfl, ⟨f, (w_1.1).trans (by rw [zfT, if_neg n0]), f_2, hf, hb, hl⟩, (Fr.w Fr.rf w_1 (Or.inl rfl)), by omega⟩ ⟨Nat.zero_le _, Nat.zero_le _⟩
        · skip
          have e0 : hashT bs = 0 := c_42
          refine aw_aload_n (n := 46) dJ12_hashCode_45 rfl 1 rfl rfl ?_
          refine aw_iconst (n := 47) (v := 1) dJ12_hashCode_46 (by decide) rfl ?_
          refine aw_putK (n := 50) (fs' := [.ref v, .int 0, .int 0, .int 1]) (C0 := RJ12) (T := TJ12) (N := 4) (ci := 29) dJ12_hashCode_47 rfl in_J12 tyJ12 tyJ12_ok nmJ12 q457 3 (by decide) q648 (Or.inl rfl) (by first | exact Or.inl rfl | exact Or.inr ⟨rfl, rfl, rfl⟩) rfl hA (by omega) rfl rfl (Nat.le_of_ble_eq_true rfl) rfl rfl (fun y_3 w_3 => ?_)
          have zy_3 : y_3.1 = h.1 := w_3.2.2
          refine aw_goto (tgt := 58) dJ12_hashCode_50 (by decide) ?_
          refine aw_iload_n (n := 59) dJ12_hashCode_58 rfl 0 rfl rfl ?_
          have f_4 : y_3.2 v = some (har 2 bs.length f) := (w_3.k (ne_kind hV hA ar_ob) hV)
          exact aw_iret dJ12_hashCode_59 rfl ⟨rfl, ⟨f, (w_3.1).trans (by rw [zfT, if_pos e0, e0]), f_4, hf, hb, hl⟩, (Fr.w Fr.rf w_3 (Or.inl rfl)), by omega⟩ ⟨Nat.zero_le _, Nat.zero_le _⟩

theorem cs_hash1 (G : aG) (h : hH) (a v : Nat) (bs : List Nat) (hS : isSt h a v bs (hashT bs) (zfT bs)) : Con G kJ12_hashCode [.ref a] h ((1, 0, 0, 0), (fun r h1 => r = some (.int (hashT bs)) ∧ h = h1), nX) := by
  obtain ⟨f, hA, hV, hf, hb, hl⟩ := hS
  refine Con.of (plainFor_of_name rfl) rfl (Nat.le_of_ble_eq_true rfl) ?_
  refine AW.eq (lv2 := [(0, .ref a)]) (s2 := []) rfl rfl rfl rfl rfl ?_
  refine aw_know (fun gd hi => ?_)
  have lt_a : a < h.1 := hi.2.1 _ _ hA
  have lt_v : v < h.1 := hi.2.1 _ _ hV
  by_cases e0 : hashT bs = 0
  · skip
    have ez : zfT bs = 1 := if_pos e0
    rw [e0, ez] at hA
    rw [e0]
    refine aw_aload_n (n := 1) dJ12_hashCode_0 rfl 0 rfl rfl ?_
    refine aw_getf (n := 4) (v := .int 0) (C0 := RJ12) (T := TJ12) dJ12_hashCode_1 rfl 2 q647 (Or.inl rfl) hA rfl rfl ?_
    refine aw_istore_n (n := 5) (lv' := [(1, .int 0), (0, .ref a)]) dJ12_hashCode_4 rfl (by decide) rfl rfl ?_
    refine aw_iload_n (n := 6) dJ12_hashCode_5 rfl 0 rfl rfl ?_
    refine aw_if_ne (n := 9) (tgt := 58) dJ12_hashCode_6 (by decide) rfl (fun c_6 => ?_) (fun c_6 => ?_)
    · skip
      exact absurd rfl c_6
    · skip
      refine aw_aload_n (n := 10) dJ12_hashCode_9 rfl 1 rfl rfl ?_
      refine aw_getf (n := 13) (v := .int 1) (C0 := RJ12) (T := TJ12) dJ12_hashCode_10 rfl 3 q648 (Or.inl rfl) hA rfl rfl ?_
      refine aw_if_ne (n := 16) (tgt := 58) dJ12_hashCode_13 (by decide) rfl (fun c_13 => ?_) (fun c_13 => ?_)
      · skip
        refine aw_iload_n (n := 59) dJ12_hashCode_58 rfl 0 rfl rfl ?_
        exact aw_iret dJ12_hashCode_59 rfl ⟨rfl, rfl⟩ ⟨Nat.zero_le _, Nat.zero_le _⟩
      · skip
        exact absurd c_13 (by decide +kernel)
  · skip
    have ez : zfT bs = 0 := if_neg e0
    rw [ez] at hA
    refine aw_aload_n (n := 1) dJ12_hashCode_0 rfl 0 rfl rfl ?_
    refine aw_getf (n := 4) (v := .int (hashT bs)) (C0 := RJ12) (T := TJ12) dJ12_hashCode_1 rfl 2 q647 (Or.inl rfl) hA rfl rfl ?_
    refine aw_istore_n (n := 5) (lv' := [(1, .int (hashT bs)), (0, .ref a)]) dJ12_hashCode_4 rfl (by decide) rfl rfl ?_
    refine aw_iload_n (n := 6) dJ12_hashCode_5 rfl 0 rfl rfl ?_
    refine aw_if_ne (n := 9) (tgt := 58) dJ12_hashCode_6 (by decide) rfl (fun c_6_2 => ?_) (fun c_6_2 => ?_)
    · skip
      refine aw_iload_n (n := 59) dJ12_hashCode_58 rfl 0 rfl rfl ?_
      exact aw_iret dJ12_hashCode_59 rfl ⟨rfl, rfl⟩ ⟨Nat.zero_le _, Nat.zero_le _⟩
    · skip
      exact absurd c_6_2 e0

end
