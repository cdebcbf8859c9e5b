/-! String.compareTo and what a tree asks of keys. -/
section
set_option maxRecDepth 100000
theorem fxT_go {x y : Nat → Nat} {c j : Nat} (h : x j = y j) : fxT x y (c + 1) j = fxT x y c (j + 1) := by rw [fxT, if_pos h]
theorem fxT_stop {x y : Nat → Nat} {c j : Nat} (h : x j ≠ y j) : fxT x y (c + 1) j = j := by rw [fxT, if_neg h]
abbrev kJ14_mismatch : aK := (yJ14_mismatch, cJ14_mismatch, 4, (Option.some Jvm.ClassFile.FieldType.int), [])
theorem hcJ14_mismatch : kJ14_mismatch.1.cls ≠ "java/lang/invoke/MethodHandle" ∧ kJ14_mismatch.1.cls ≠ "java/lang/invoke/VarHandle" ∧ (parseMethodDescriptor kJ14_mismatch.1.desc).map (fun d => d.parameters.length) = some 3 := ⟨by decide, by decide, by decide +kernel⟩
theorem cs_mm7 (G : aG) (h : hH) (v u : Nat) (bs cs : List Nat) (f g : Nat → Value) (hV : h.2 v = some (har 2 bs.length f)) (hU : h.2 u = some (har 2 cs.length g)) (hf : ∀ j, j < bs.length → f j = .int (sb_b (bs.getD j 0))) (hg : ∀ j, j < cs.length → g j = .int (sb_b (cs.getD j 0))) (hb : ∀ j, j < bs.length → bs.getD j 0 < 256) (hc : ∀ j, j < cs.length → cs.getD j 0 < 256) (hl : bs.length ≤ 2000) (hm : cs.length ≤ 2000) (l : Nat) (hl1 : l ≤ bs.length) (hl2 : l ≤ cs.length) (hl7 : l ≤ 7) : Con G kJ14_mismatch [.ref v, .ref u, .int (nI l)] h ((1, 0, 0, 0), (fun r h1 => r = some (.int (if fxT (gD bs) (gD cs) l 0 = l then -1 else nI (fxT (gD bs) (gD cs) l 0))) ∧ h = h1), nX) := by
  refine Con.of (plainFor_of_name rfl) rfl (Nat.le_of_ble_eq_true rfl) ?_
  refine AW.eq (lv2 := [(0, .ref v), (1, .ref u), (2, .int (nI l))]) (s2 := []) rfl rfl rfl rfl rfl ?_
  refine aw_know (fun gd hi => ?_)
  have lt_v : v < h.1 := hi.2.1 _ _ hV
  have lt_u : u < h.1 := hi.2.1 _ _ hU
  refine aw_iconst (n := 1) (v := 0) dJ14_mismatch_0 (by decide) rfl ?_
  refine aw_istore_n (n := 2) (lv' := [(3, .int 0), (0, .ref v), (1, .ref u), (2, .int (nI l))]) dJ14_mismatch_1 rfl (by decide) rfl rfl ?_
  refine aw_iload_n (n := 3) dJ14_mismatch_2 rfl 3 rfl rfl ?_
  refine aw_bipush (n := 5) (v := 7) dJ14_mismatch_3 (by decide) rfl ?_
  refine aw_icmp_le (n := 8) (tgt := 49) dJ14_mismatch_5 (by decide) rfl (fun c_5 => ?_) (fun c_5 => ?_)
  · skip
    have n_5 : l ≤ 7 := (nI_leI (a := l) (b := 7) (by omega) (by omega)).mp (by rw [← ((by rfl) : (7 : Int32) = nI 7)]; exact c_5)
    suffices L_49 : ∀ (m_ : Nat) (j : Nat) (hj : j ≤ l) (he2 : fxT (gD bs) (gD cs) l 0 = fxT (gD bs) (gD cs) (l - j) j), l - j < m_ → AW G kJ14_mismatch ((1, 0, 0, 0), (fun r h1 => r = some (.int (if fxT (gD bs) (gD cs) l 0 = l then -1 else nI (fxT (gD bs) (gD cs) l 0))) ∧ h = h1), nX) 49 [(3, .int (nI j)), (2, .int (nI l)), (1, .ref u), (0, .ref v)] [] h 0 0 from
      AW.lvs (lv' := [(3, .int 0), (2, .int (nI l)), (1, .ref u), (0, .ref v)]) (AW.eq (lv2 := _) (rfl) rfl rfl rfl rfl (L_49 _ 0 (Nat.zero_le _) rfl (Nat.lt_succ_self _))) (by simp)
    intro m_
    induction m_ with
    | zero => intro j hj he2 h_m; exact absurd h_m (Nat.not_lt_zero _)
    | succ m_ ih_49 =>
      intro j hj he2 h_m
      refine aw_iload_n (n := 50) dJ14_mismatch_49 rfl 0 rfl rfl ?_
      refine aw_iload_n (n := 51) dJ14_mismatch_50 rfl 1 rfl rfl ?_
      refine aw_icmp_ge (n := 54) (tgt := 71) dJ14_mismatch_51 (by decide) rfl (fun c_51 => ?_) (fun c_51 => ?_)
      · skip
        have n_51 : l ≤ j := (nI_leI (a := l) (b := j) (by omega) (by omega)).mp (by exact c_51)
        refine aw_iconst (n := 72) (v := (-1)) dJ14_mismatch_71 (by decide) rfl ?_
        exact aw_iret dJ14_mismatch_72 rfl ⟨by have e9 : fxT (gD bs) (gD cs) l 0 = l := (by rw [he2, show l - j = 0 by omega, fxT]; omega); rw [if_pos e9], rfl⟩ ⟨Nat.zero_le _, Nat.zero_le _⟩
      · skip
        have n_51 : ¬ (l ≤ j) := fun z => c_51 (by have y := (nI_leI (a := l) (b := j) (by omega) (by omega)).mpr z; exact y)
        refine aw_aload_n (n := 55) dJ14_mismatch_54 rfl 3 rfl rfl ?_
        refine aw_iload_n (n := 56) dJ14_mismatch_55 rfl 0 rfl rfl ?_
        refine aw_bald (n := 57) (v := .int (sb_b (bs.getD j 0))) dJ14_mismatch_56 rfl j rfl hV (by omega) (by omega) (hf _ (by omega)) rfl ?_
        refine aw_aload_n (n := 58) dJ14_mismatch_57 rfl 2 rfl rfl ?_
        refine aw_iload_n (n := 59) dJ14_mismatch_58 rfl 0 rfl rfl ?_
        refine aw_bald (n := 60) (v := .int (sb_b (cs.getD j 0))) dJ14_mismatch_59 rfl j rfl hU (by omega) (by omega) (hg _ (by omega)) rfl ?_
        refine aw_icmp_eq (n := 63) (tgt := 65) dJ14_mismatch_60 (by decide) rfl (fun c_60 => ?_) (fun c_60 => ?_)
        · skip
          refine aw_iinc (n := 68) (v := nI (j + 1)) (lv' := [(3, .int (nI (j + 1))), (2, .int (nI l)), (1, .ref u), (0, .ref v)]) dJ14_mismatch_65 0 rfl (by rw [show nI j = nI j from rfl]; exact nI_1 _) (by decide) rfl rfl ?_
          refine aw_goto (tgt := 49) dJ14_mismatch_68 (by decide) ?_
          have hx9 : bs.getD j 0 = cs.getD j 0 := sb_inj _ (hb j (by omega)) _ (hc j (by omega)) c_60
          exact AW.lvs (lv' := [(3, .int (nI (j + 1))), (2, .int (nI l)), (1, .ref u), (0, .ref v)]) (AW.eq (lv2 := _) (rfl) rfl rfl rfl rfl (ih_49 (j + 1) (by omega) (by rw [he2, show l - j = (l - (j + 1)) + 1 by omega, fxT_go (x := gD bs) (y := gD cs) hx9]) (by omega))) (by simp)
        · skip
          refine aw_iload_n (n := 64) dJ14_mismatch_63 rfl 0 rfl rfl ?_
          exact aw_iret dJ14_mismatch_64 rfl ⟨by have e9 : fxT (gD bs) (gD cs) l 0 = j := (by rw [he2, show l - j = (l - (j + 1)) + 1 by omega, fxT_stop (fun e => c_60 (by rw [show bs.getD j 0 = cs.getD j 0 from e]))]); rw [e9, if_neg (by omega)], rfl⟩ ⟨Nat.zero_le _, Nat.zero_le _⟩
  · skip
    have n_5 : ¬ (l ≤ 7) := fun z => c_5 (by have y := (nI_leI (a := l) (b := 7) (by omega) (by omega)).mpr z; rw [← ((by rfl) : (7 : Int32) = nI 7)] at y; exact y)
    exfalso; omega

abbrev kJ14_vectorizedMismatch : aK := (yJ14_vectorizedMismatch, cJ14_vectorizedMismatch, 19, (Option.some Jvm.ClassFile.FieldType.int), [])
theorem hcJ14_vectorizedMismatch : kJ14_vectorizedMismatch.1.cls ≠ "java/lang/invoke/MethodHandle" ∧ kJ14_vectorizedMismatch.1.cls ≠ "java/lang/invoke/VarHandle" ∧ (parseMethodDescriptor kJ14_vectorizedMismatch.1.desc).map (fun d => d.parameters.length) = some 6 := ⟨by decide, by decide, by decide +kernel⟩
theorem cs_vm (G : aG) (h : hH) (v u : Nat) (bs cs : List Nat) (f g : Nat → Value) (hV : h.2 v = some (har 2 bs.length f)) (hU : h.2 u = some (har 2 cs.length g)) (hf : ∀ j, j < bs.length → f j = .int (sb_b (bs.getD j 0))) (hg : ∀ j, j < cs.length → g j = .int (sb_b (cs.getD j 0))) (hb : ∀ j, j < bs.length → bs.getD j 0 < 256) (hc : ∀ j, j < cs.length → cs.getD j 0 < 256) (hl : bs.length ≤ 2000) (hm : cs.length ≤ 2000) (hl1 : 8 ≤ bs.length) (hl2 : 8 ≤ cs.length) : Con G kJ14_vectorizedMismatch [.ref v, .long 16, .ref u, .long 16, .int (nI 8), .int 0] h ((6, 200, 0, 0), (fun r h1 => r = some (.int (if fxT (gD bs) (gD cs) 8 0 = 8 then -1 else nI (fxT (gD bs) (gD cs) 8 0))) ∧ h = h1), nX) := sorry
theorem cs_mm8 (G : aG) (h : hH) (v u : Nat) (bs cs : List Nat) (f g : Nat → Value) (hV : h.2 v = some (har 2 bs.length f)) (hU : h.2 u = some (har 2 cs.length g)) (hf : ∀ j, j < bs.length → f j = .int (sb_b (bs.getD j 0))) (hg : ∀ j, j < cs.length → g j = .int (sb_b (cs.getD j 0))) (hb : ∀ j, j < bs.length → bs.getD j 0 < 256) (hc : ∀ j, j < cs.length → cs.getD j 0 < 256) (hl : bs.length ≤ 2000) (hm : cs.length ≤ 2000) (hl1 : 8 ≤ bs.length) (hl2 : 8 ≤ cs.length) : Con G kJ14_mismatch [.ref v, .ref u, .int (nI 8)] h ((7, 238, 0, 0), (fun r h1 => r = some (.int (if fxT (gD bs) (gD cs) 8 0 = 8 then -1 else nI (fxT (gD bs) (gD cs) 8 0))) ∧ h = h1), nX) := by
  refine Con.of (plainFor_of_name rfl) rfl (Nat.le_of_ble_eq_true rfl) ?_
  refine AW.eq (lv2 := [(0, .ref v), (1, .ref u), (2, .int (nI 8))]) (s2 := []) rfl rfl rfl rfl rfl ?_
  refine aw_know (fun gd hi => ?_)
  have lt_v : v < h.1 := hi.2.1 _ _ hV
  have lt_u : u < h.1 := hi.2.1 _ _ hU
  refine aw_iconst (n := 1) (v := 0) dJ14_mismatch_0 (by decide) rfl ?_
  refine aw_istore_n (n := 2) (lv' := [(3, .int 0), (0, .ref v), (1, .ref u), (2, .int (nI 8))]) dJ14_mismatch_1 rfl (by decide) rfl rfl ?_
  refine aw_iload_n (n := 3) dJ14_mismatch_2 rfl 3 rfl rfl ?_
  refine aw_bipush (n := 5) (v := 7) dJ14_mismatch_3 (by decide) rfl ?_
  refine aw_icmp_le (n := 8) (tgt := 49) dJ14_mismatch_5 (by decide) rfl (fun c_5 => ?_) (fun c_5 => ?_)
  · skip
    exact absurd c_5 (by decide +kernel)
  · skip
    refine aw_aload_n (n := 9) dJ14_mismatch_8 rfl 1 rfl rfl ?_
    refine aw_iconst (n := 10) (v := 0) dJ14_mismatch_9 (by decide) rfl ?_
    refine aw_bald (n := 11) (v := .int (sb_b (bs.getD 0 0))) dJ14_mismatch_10 rfl 0 (by rfl) hV (by omega) (by omega) (hf _ (by omega)) rfl ?_
    refine aw_aload_n (n := 12) dJ14_mismatch_11 rfl 2 rfl rfl ?_
    refine aw_iconst (n := 13) (v := 0) dJ14_mismatch_12 (by decide) rfl ?_
    refine aw_bald (n := 14) (v := .int (sb_b (cs.getD 0 0))) dJ14_mismatch_13 rfl 0 (by rfl) hU (by omega) (by omega) (hg _ (by omega)) rfl ?_
    refine aw_icmp_eq (n := 17) (tgt := 19) dJ14_mismatch_14 (by decide) rfl (fun c_14 => ?_) (fun c_14 => ?_)
    · skip
      refine aw_aload_n (n := 20) dJ14_mismatch_19 rfl 1 rfl rfl ?_
      refine aw_gets (n := 23) (v := .int 16) dJ14_mismatch_20 36 rfl q1305 rfl gd.2.2.2.2.2.2.2.1.2.2.2.1.1.1 rfl ?_
      refine aw_i2l (n := 24) dJ14_mismatch_23 rfl rfl ?_
      refine aw_aload_n (n := 25) dJ14_mismatch_24 rfl 2 rfl rfl ?_
      refine aw_gets (n := 28) (v := .int 16) dJ14_mismatch_25 36 rfl q1305 rfl gd.2.2.2.2.2.2.2.1.2.2.2.1.1.1 rfl ?_
      refine aw_i2l (n := 29) dJ14_mismatch_28 rfl rfl ?_
      refine aw_iload_n (n := 30) dJ14_mismatch_29 rfl 3 rfl rfl ?_
      refine aw_gets (n := 33) (v := .int 0) dJ14_mismatch_30 38 rfl q1307 rfl gd.2.2.2.2.2.2.2.1.2.2.2.1.1.2.2.1 rfl ?_
      refine AW.sts (st' := [.int 0, .int (nI 8), .long 16, .ref u, .long 16, .ref v]) rfl ?_
      refine aw_callS (n := 36) (As := [.ref v, .long 16, .ref u, .long 16, .int (nI 8), .int 0]) (rest := []) (K2 := kJ14_vectorizedMismatch) dJ14_mismatch_33 q1309 q1310 q124 q1311 hcJ14_vectorizedMismatch (cs_vm G h v u bs cs f g hV hU hf hg hb hc hl hm hl1 hl2) rfl (Nat.le_of_ble_eq_true rfl) ⟨Nat.le_of_ble_eq_true rfl, Nat.le_of_ble_eq_true rfl⟩ ⟨by first | omega | (dsimp only; omega) | decide, by first | omega | (dsimp only; omega) | decide⟩ (fun _ _ _ z => z.elim) rfl (fun r_33 h_33 q_33 => ?_)
      obtain ⟨rfl, rfl⟩ := q_33
      refine AW.sts (st' := [.int (if fxT (gD bs) (gD cs) 8 0 = 8 then -1 else nI (fxT (gD bs) (gD cs) 8 0))]) rfl ?_
      refine aw_istore_n (n := 37) (lv' := [(3, .int (if fxT (gD bs) (gD cs) 8 0 = 8 then -1 else nI (fxT (gD bs) (gD cs) 8 0))), (0, .ref v), (1, .ref u), (2, .int (nI 8))]) dJ14_mismatch_36 rfl (by decide) rfl rfl ?_
      refine aw_iload_n (n := 38) dJ14_mismatch_37 rfl 0 rfl rfl ?_
      by_cases e8 : fxT (gD bs) (gD cs) 8 0 = 8
      · skip
        refine AW.eq (lv2 := [(3, .int (-1)), (0, .ref v), (1, .ref u), (2, .int (nI 8))]) (s2 := [.int (-1)]) (by rw [if_pos e8]) (by rw [if_pos e8]) rfl rfl rfl ?_
        refine aw_if_lt (n := 41) (tgt := 43) dJ14_mismatch_38 (by decide) rfl (fun c_38_2 => ?_) (fun c_38_2 => ?_)
        · skip
          refine aw_iload_n (n := 44) dJ14_mismatch_43 rfl 3 rfl rfl ?_
          refine aw_iload_n (n := 45) dJ14_mismatch_44 rfl 0 rfl rfl ?_
          refine aw_iconst (n := 46) (v := (-1)) dJ14_mismatch_45 (by decide) rfl ?_
          refine aw_ixor (n := 47) dJ14_mismatch_46 rfl ?_
          refine aw_isub (n := 48) dJ14_mismatch_47 rfl ?_
          refine aw_istore_n (n := 49) (lv' := [(3, .int ((nI 8) - ((-1) ^^^ (-1)))), (0, .ref v), (1, .ref u), (2, .int (nI 8))]) dJ14_mismatch_48 rfl (by decide) rfl rfl ?_
          refine AW.eq (lv2 := [(3, .int (nI 8)), (0, .ref v), (1, .ref u), (2, .int (nI 8))]) (s2 := []) (by first | (simp; done) | (simp; decide)) rfl rfl rfl rfl ?_
          refine aw_iload_n (n := 50) dJ14_mismatch_49 rfl 0 rfl rfl ?_
          refine aw_iload_n (n := 51) dJ14_mismatch_50 rfl 3 rfl rfl ?_
          refine aw_icmp_ge (n := 54) (tgt := 71) dJ14_mismatch_51 (by decide) rfl (fun c_51 => ?_) (fun c_51 => ?_)
          · skip
            refine aw_iconst (n := 72) (v := (-1)) dJ14_mismatch_71 (by decide) rfl ?_
            exact aw_iret dJ14_mismatch_72 rfl ⟨by rw [if_pos e8], rfl⟩ ⟨Nat.zero_le _, Nat.zero_le _⟩
          · skip
            exact absurd c_51 (by decide +kernel)
        · skip
          exact absurd c_38_2 (by decide +kernel)
      · skip
        have l8 := (fxT_in (gD bs) (gD cs) 8 0).2.1
        refine AW.eq (lv2 := [(3, .int (nI (fxT (gD bs) (gD cs) 8 0))), (0, .ref v), (1, .ref u), (2, .int (nI 8))]) (s2 := [.int (nI (fxT (gD bs) (gD cs) 8 0))]) (by rw [if_neg e8]) (by rw [if_neg e8]) rfl rfl rfl ?_
        refine aw_if_lt (n := 41) (tgt := 43) dJ14_mismatch_38 (by decide) rfl (fun c_38_3 => ?_) (fun c_38_3 => ?_)
        · skip
          have n_38_3 : (fxT (gD bs) (gD cs) 8 0) < 0 := (nI_ltI (a := (fxT (gD bs) (gD cs) 8 0)) (b := 0) (by omega) (by omega)).mp (by rw [← ((by rfl) : (0 : Int32) = nI 0)]; exact c_38_3)
          exact absurd c_38_3 (nI_pos (by omega))
        · skip
          have n_38_3 : ¬ ((fxT (gD bs) (gD cs) 8 0) < 0) := fun z => c_38_3 (by have y := (nI_ltI (a := (fxT (gD bs) (gD cs) 8 0)) (b := 0) (by omega) (by omega)).mpr z; rw [← ((by rfl) : (0 : Int32) = nI 0)] at y; exact y)
          refine aw_iload_n (n := 42) dJ14_mismatch_41 rfl 0 rfl rfl ?_
          exact aw_iret dJ14_mismatch_42 rfl ⟨by rw [if_neg e8], rfl⟩ ⟨Nat.zero_le _, Nat.zero_le _⟩
    · skip
      refine aw_iconst (n := 18) (v := 0) dJ14_mismatch_17 (by decide) rfl ?_
      exact aw_iret dJ14_mismatch_18 rfl ⟨by have h9 : gD bs 0 ≠ gD cs 0 := (fun e => c_14 (by rw [show bs.getD 0 0 = cs.getD 0 0 from e])); have e9 : fxT (gD bs) (gD cs) 8 0 = 0 := fxT_stop h9; rw [e9, if_neg (by decide)]; rfl, rfl⟩ ⟨Nat.zero_le _, Nat.zero_le _⟩

abbrev kJ17_compareTo_2 : aK := (yJ17_compareTo_2, cJ17_compareTo_2, 6, (Option.some Jvm.ClassFile.FieldType.int), [])
theorem hcJ17_compareTo_2 : kJ17_compareTo_2.1.cls ≠ "java/lang/invoke/MethodHandle" ∧ kJ17_compareTo_2.1.cls ≠ "java/lang/invoke/VarHandle" ∧ (parseMethodDescriptor kJ17_compareTo_2.1.desc).map (fun d => d.parameters.length) = some 4 := ⟨by decide, by decide, by decide +kernel⟩
theorem cs_cmp4 (G : aG) (h : hH) (v u : Nat) (bs cs : List Nat) (f g : Nat → Value) (hV : h.2 v = some (har 2 bs.length f)) (hU : h.2 u = some (har 2 cs.length g)) (hf : ∀ j, j < bs.length → f j = .int (sb_b (bs.getD j 0))) (hg : ∀ j, j < cs.length → g j = .int (sb_b (cs.getD j 0))) (hb : ∀ j, j < bs.length → bs.getD j 0 < 256) (hc : ∀ j, j < cs.length → cs.getD j 0 < 256) (hl : bs.length ≤ 2000) (hm : cs.length ≤ 2000) (hx1 : bs.length ≤ 8 ∨ cs.length ≤ 8) : Con G kJ17_compareTo_2 [.ref v, .ref u, .int (nI bs.length), .int (nI cs.length)] h ((8, 261, 0, 0), (fun r h1 => r = some (.int (cmpT bs cs)) ∧ h = h1), nX) := by
  have hm1 := Nat.min_le_left bs.length cs.length; have hm2 := Nat.min_le_right bs.length cs.length
  refine Con.of (plainFor_of_name rfl) rfl (Nat.le_of_ble_eq_true rfl) ?_
  refine AW.eq (lv2 := [(0, .ref v), (1, .ref u), (2, .int (nI bs.length)), (3, .int (nI cs.length))]) (s2 := []) rfl rfl rfl rfl rfl ?_
  refine aw_know (fun gd hi => ?_)
  have lt_v : v < h.1 := hi.2.1 _ _ hV
  have lt_u : u < h.1 := hi.2.1 _ _ hU
  refine aw_iload_n (n := 1) dJ17_compareTo_2_0 rfl 2 rfl rfl ?_
  refine aw_iload_n (n := 2) dJ17_compareTo_2_1 rfl 3 rfl rfl ?_
  refine aw_callS (n := 5) (As := [.int (nI bs.length), .int (nI cs.length)]) (rest := []) (K2 := kJ15_min) dJ17_compareTo_2_2 q867 q394 q125 q395 hcJ15_min (cj_minI G h (nI bs.length) (nI cs.length)) rfl (Nat.le_of_ble_eq_true rfl) ⟨Nat.le_of_ble_eq_true rfl, Nat.le_of_ble_eq_true rfl⟩ ⟨by first | omega | (dsimp only; omega) | decide, by first | omega | (dsimp only; omega) | decide⟩ (fun _ _ _ z => z.elim) rfl (fun r_2 h_2 q_2 => ?_)
  obtain ⟨rfl, rfl⟩ := q_2
  refine AW.sts (st' := [.int (nI (min bs.length cs.length))]) (by rw [nI_min (by first | decide | omega) (by first | decide | omega)]; rfl) ?_
  refine aw_istore (n := 7) (lv' := [(4, .int (nI (min bs.length cs.length))), (0, .ref v), (1, .ref u), (2, .int (nI bs.length)), (3, .int (nI cs.length))]) dJ17_compareTo_2_5 (by decide) rfl rfl ?_
  refine aw_aload_n (n := 8) dJ17_compareTo_2_7 rfl 1 rfl rfl ?_
  refine aw_aload_n (n := 9) dJ17_compareTo_2_8 rfl 2 rfl rfl ?_
  refine aw_iload (n := 11) dJ17_compareTo_2_9 0 rfl rfl ?_
  rcases Nat.lt_or_ge (min bs.length cs.length) 8 with l8 | l8
  · skip
    refine aw_callS (n := 14) (As := [.ref v, .ref u, .int (nI (min bs.length cs.length))]) (rest := []) (K2 := kJ14_mismatch) dJ17_compareTo_2_11 q1302 q1303 q124 q1304 hcJ14_mismatch (cs_mm7 G h v u bs cs f g hV hU hf hg hb hc hl hm (min bs.length cs.length) (Nat.min_le_left _ _) (Nat.min_le_right _ _) (by omega)) rfl (Nat.le_of_ble_eq_true rfl) ⟨Nat.le_of_ble_eq_true rfl, Nat.le_of_ble_eq_true rfl⟩ ⟨by first | omega | (dsimp only; omega) | decide, by first | omega | (dsimp only; omega) | decide⟩ (fun _ _ _ z => z.elim) rfl (fun r_11 h_11 q_11 => ?_)
    obtain ⟨rfl, rfl⟩ := q_11
    refine AW.sts (st' := [.int (if fxT (gD bs) (gD cs) (min bs.length cs.length) 0 = (min bs.length cs.length) then -1 else nI (fxT (gD bs) (gD cs) (min bs.length cs.length) 0))]) rfl ?_
    by_cases em : mmN bs cs = min bs.length cs.length
    · skip
      refine AW.sts (st' := [.int (-1)]) (by first | (rw [if_pos (show fxT (gD bs) (gD cs) (min bs.length cs.length) 0 = min bs.length cs.length from em)]; done) | (rw [if_pos (show fxT (gD bs) (gD cs) (min bs.length cs.length) 0 = min bs.length cs.length from em)]; rfl)) ?_
      refine aw_istore (n := 16) (lv' := [(5, .int (-1)), (4, .int (nI (min bs.length cs.length))), (0, .ref v), (1, .ref u), (2, .int (nI bs.length)), (3, .int (nI cs.length))]) dJ17_compareTo_2_14 (by decide) rfl rfl ?_
      refine aw_iload (n := 18) dJ17_compareTo_2_16 0 rfl rfl ?_
      refine aw_if_ge (n := 21) (tgt := 27) dJ17_compareTo_2_18 (by decide) rfl (fun c_18 => ?_) (fun c_18 => ?_)
      · skip
        exact absurd c_18 (by decide +kernel)
      · skip
        refine aw_iload_n (n := 22) dJ17_compareTo_2_21 rfl 4 rfl rfl ?_
        refine aw_iload_n (n := 23) dJ17_compareTo_2_22 rfl 5 rfl rfl ?_
        refine aw_isub (n := 24) dJ17_compareTo_2_23 rfl ?_
        refine aw_goto (tgt := 40) dJ17_compareTo_2_24 (by decide) ?_
        exact aw_iret dJ17_compareTo_2_40 rfl ⟨by rw [cmpT, if_pos em], rfl⟩ ⟨Nat.zero_le _, Nat.zero_le _⟩
    · skip
      refine AW.sts (st' := [.int (nI (mmN bs cs))]) (by first | (rw [if_neg (show ¬ fxT (gD bs) (gD cs) (min bs.length cs.length) 0 = min bs.length cs.length from em)]; done) | (rw [if_neg (show ¬ fxT (gD bs) (gD cs) (min bs.length cs.length) 0 = min bs.length cs.length from em)]; rfl)) ?_
      have lm : mmN bs cs < min bs.length cs.length := by have := (fxT_in (gD bs) (gD cs) (min bs.length cs.length) 0).2.1; unfold mmN at *; omega
      refine aw_istore (n := 16) (lv' := [(5, .int (nI (mmN bs cs))), (4, .int (nI (min bs.length cs.length))), (0, .ref v), (1, .ref u), (2, .int (nI bs.length)), (3, .int (nI cs.length))]) dJ17_compareTo_2_14 (by decide) rfl rfl ?_
      refine aw_iload (n := 18) dJ17_compareTo_2_16 0 rfl rfl ?_
      refine aw_if_ge (n := 21) (tgt := 27) dJ17_compareTo_2_18 (by decide) rfl (fun c_18_2 => ?_) (fun c_18_2 => ?_)
      · skip
        have n_18_2 : 0 ≤ (mmN bs cs) := (nI_leI (a := 0) (b := (mmN bs cs)) (by omega) (by omega)).mp (by rw [← ((by rfl) : (0 : Int32) = nI 0)]; exact c_18_2)
        refine aw_aload_n (n := 28) dJ17_compareTo_2_27 rfl 2 rfl rfl ?_
        refine aw_iload (n := 30) dJ17_compareTo_2_28 0 rfl rfl ?_
        refine aw_callS (n := 33) (As := [.ref v, .int (nI (mmN bs cs))]) (rest := []) (K2 := kJ17_getChar) dJ17_compareTo_2_30 q1406 q1407 q128 q1408 hcJ17_getChar (cs_l1_getChar G h v bs f hV hf hb hl (mmN bs cs) (gD bs (mmN bs cs)) (by omega) rfl) rfl (Nat.le_of_ble_eq_true rfl) ⟨Nat.le_of_ble_eq_true rfl, Nat.le_of_ble_eq_true rfl⟩ ⟨by first | omega | (dsimp only; omega) | decide, by first | omega | (dsimp only; omega) | decide⟩ (fun _ _ _ z => z.elim) rfl (fun r_30 h_30 q_30 => ?_)
        obtain ⟨rfl, rfl⟩ := q_30
        refine AW.sts (st' := [.int (nI (gD bs (mmN bs cs)))]) rfl ?_
        refine aw_aload_n (n := 34) dJ17_compareTo_2_33 rfl 3 rfl rfl ?_
        refine aw_iload (n := 36) dJ17_compareTo_2_34 0 rfl rfl ?_
        refine aw_callS (n := 39) (As := [.ref u, .int (nI (mmN bs cs))]) (rest := [.int (nI (gD bs (mmN bs cs)))]) (K2 := kJ17_getChar) dJ17_compareTo_2_36 q1406 q1407 q128 q1408 hcJ17_getChar (cs_l1_getChar G h u cs g hU hg hc hm (mmN bs cs) (gD cs (mmN bs cs)) (by omega) rfl) rfl (Nat.le_of_ble_eq_true rfl) ⟨Nat.le_of_ble_eq_true rfl, Nat.le_of_ble_eq_true rfl⟩ ⟨by first | omega | (dsimp only; omega) | decide, by first | omega | (dsimp only; omega) | decide⟩ (fun _ _ _ z => z.elim) rfl (fun r_36 h_36 q_36 => ?_)
        obtain ⟨rfl, rfl⟩ := q_36
        refine AW.sts (st' := [.int (nI (gD cs (mmN bs cs))), .int (nI (gD bs (mmN bs cs)))]) rfl ?_
        refine aw_isub (n := 40) dJ17_compareTo_2_39 rfl ?_
        exact aw_iret dJ17_compareTo_2_40 rfl ⟨by rw [cmpT, if_neg em], rfl⟩ ⟨Nat.zero_le _, Nat.zero_le _⟩
      · skip
        have n_18_2 : ¬ (0 ≤ (mmN bs cs)) := fun z => c_18_2 (by have y := (nI_leI (a := 0) (b := (mmN bs cs)) (by omega) (by omega)).mpr z; rw [← ((by rfl) : (0 : Int32) = nI 0)] at y; exact y)
        exact absurd (nI_pos' (by omega)) c_18_2
  · skip
    have e8 : min bs.length cs.length = 8 := by omega
    refine AW.sts (st' := [.int (nI 8), .ref u, .ref v]) (by rw [e8]) ?_
    refine aw_callS (n := 14) (As := [.ref v, .ref u, .int (nI 8)]) (rest := []) (K2 := kJ14_mismatch) dJ17_compareTo_2_11 q1302 q1303 q124 q1304 hcJ14_mismatch (cs_mm8 G h v u bs cs f g hV hU hf hg hb hc hl hm (by omega) (by omega)) rfl (Nat.le_of_ble_eq_true rfl) ⟨Nat.le_of_ble_eq_true rfl, Nat.le_of_ble_eq_true rfl⟩ ⟨by first | omega | (dsimp only; omega) | decide, by first | omega | (dsimp only; omega) | decide⟩ (fun _ _ _ z => z.elim) rfl (fun r_11 h_11 q_11 => ?_)
    obtain ⟨rfl, rfl⟩ := q_11
    refine AW.sts (st' := [.int (if fxT (gD bs) (gD cs) 8 0 = 8 then -1 else nI (fxT (gD bs) (gD cs) 8 0))]) rfl ?_
    refine AW.sts (st' := [.int (if fxT (gD bs) (gD cs) (min bs.length cs.length) 0 = (min bs.length cs.length) then -1 else nI (fxT (gD bs) (gD cs) (min bs.length cs.length) 0))]) (by rw [e8]) ?_
    by_cases em : mmN bs cs = min bs.length cs.length
    · skip
      refine AW.sts (st' := [.int (-1)]) (by first | (rw [if_pos (show fxT (gD bs) (gD cs) (min bs.length cs.length) 0 = min bs.length cs.length from em)]; done) | (rw [if_pos (show fxT (gD bs) (gD cs) (min bs.length cs.length) 0 = min bs.length cs.length from em)]; rfl)) ?_
      refine aw_istore (n := 16) (lv' := [(5, .int (-1)), (4, .int (nI (min bs.length cs.length))), (0, .ref v), (1, .ref u), (2, .int (nI bs.length)), (3, .int (nI cs.length))]) dJ17_compareTo_2_14 (by decide) rfl rfl ?_
      refine aw_iload (n := 18) dJ17_compareTo_2_16 0 rfl rfl ?_
      refine aw_if_ge (n := 21) (tgt := 27) dJ17_compareTo_2_18 (by decide) rfl (fun c_18_3 => ?_) (fun c_18_3 => ?_)
      · skip
        exact absurd c_18_3 (by decide +kernel)
      · skip
        refine aw_iload_n (n := 22) dJ17_compareTo_2_21 rfl 4 rfl rfl ?_
        refine aw_iload_n (n := 23) dJ17_compareTo_2_22 rfl 5 rfl rfl ?_
        refine aw_isub (n := 24) dJ17_compareTo_2_23 rfl ?_
        refine aw_goto (tgt := 40) dJ17_compareTo_2_24 (by decide) ?_
        exact aw_iret dJ17_compareTo_2_40 rfl ⟨by rw [cmpT, if_pos em], rfl⟩ ⟨Nat.zero_le _, Nat.zero_le _⟩
    · skip
      refine AW.sts (st' := [.int (nI (mmN bs cs))]) (by first | (rw [if_neg (show ¬ fxT (gD bs) (gD cs) (min bs.length cs.length) 0 = min bs.length cs.length from em)]; done) | (rw [if_neg (show ¬ fxT (gD bs) (gD cs) (min bs.length cs.length) 0 = min bs.length cs.length from em)]; rfl)) ?_
      have lm : mmN bs cs < min bs.length cs.length := by have := (fxT_in (gD bs) (gD cs) (min bs.length cs.length) 0).2.1; unfold mmN at *; omega
      refine aw_istore (n := 16) (lv' := [(5, .int (nI (mmN bs cs))), (4, .int (nI (min bs.length cs.length))), (0, .ref v), (1, .ref u), (2, .int (nI bs.length)), (3, .int (nI cs.length))]) dJ17_compareTo_2_14 (by decide) rfl rfl ?_
      refine aw_iload (n := 18) dJ17_compareTo_2_16 0 rfl rfl ?_
      refine aw_if_ge (n := 21) (tgt := 27) dJ17_compareTo_2_18 (by decide) rfl (fun c_18_4 => ?_) (fun c_18_4 => ?_)
      · skip
        have n_18_4 : 0 ≤ (mmN bs cs) := (nI_leI (a := 0) (b := (mmN bs cs)) (by omega) (by omega)).mp (by rw [← ((by rfl) : (0 : Int32) = nI 0)]; exact c_18_4)
        refine aw_aload_n (n := 28) dJ17_compareTo_2_27 rfl 2 rfl rfl ?_
        refine aw_iload (n := 30) dJ17_compareTo_2_28 0 rfl rfl ?_
        refine aw_callS (n := 33) (As := [.ref v, .int (nI (mmN bs cs))]) (rest := []) (K2 := kJ17_getChar) dJ17_compareTo_2_30 q1406 q1407 q128 q1408 hcJ17_getChar (cs_l1_getChar G h v bs f hV hf hb hl (mmN bs cs) (gD bs (mmN bs cs)) (by omega) rfl) rfl (Nat.le_of_ble_eq_true rfl) ⟨Nat.le_of_ble_eq_true rfl, Nat.le_of_ble_eq_true rfl⟩ ⟨by first | omega | (dsimp only; omega) | decide, by first | omega | (dsimp only; omega) | decide⟩ (fun _ _ _ z => z.elim) rfl (fun r_30 h_30 q_30 => ?_)
        obtain ⟨rfl, rfl⟩ := q_30
        refine AW.sts (st' := [.int (nI (gD bs (mmN bs cs)))]) rfl ?_
        refine aw_aload_n (n := 34) dJ17_compareTo_2_33 rfl 3 rfl rfl ?_
        refine aw_iload (n := 36) dJ17_compareTo_2_34 0 rfl rfl ?_
        refine aw_callS (n := 39) (As := [.ref u, .int (nI (mmN bs cs))]) (rest := [.int (nI (gD bs (mmN bs cs)))]) (K2 := kJ17_getChar) dJ17_compareTo_2_36 q1406 q1407 q128 q1408 hcJ17_getChar (cs_l1_getChar G h u cs g hU hg hc hm (mmN bs cs) (gD cs (mmN bs cs)) (by omega) rfl) rfl (Nat.le_of_ble_eq_true rfl) ⟨Nat.le_of_ble_eq_true rfl, Nat.le_of_ble_eq_true rfl⟩ ⟨by first | omega | (dsimp only; omega) | decide, by first | omega | (dsimp only; omega) | decide⟩ (fun _ _ _ z => z.elim) rfl (fun r_36 h_36 q_36 => ?_)
        obtain ⟨rfl, rfl⟩ := q_36
        refine AW.sts (st' := [.int (nI (gD cs (mmN bs cs))), .int (nI (gD bs (mmN bs cs)))]) rfl ?_
        refine aw_isub (n := 40) dJ17_compareTo_2_39 rfl ?_
        exact aw_iret dJ17_compareTo_2_40 rfl ⟨by rw [cmpT, if_neg em], rfl⟩ ⟨Nat.zero_le _, Nat.zero_le _⟩
      · skip
        have n_18_4 : ¬ (0 ≤ (mmN bs cs)) := fun z => c_18_4 (by have y := (nI_leI (a := 0) (b := (mmN bs cs)) (by omega) (by omega)).mpr z; rw [← ((by rfl) : (0 : Int32) = nI 0)] at y; exact y)
        exact absurd (nI_pos' (by omega)) c_18_4

abbrev kJ17_compareTo : aK := (yJ17_compareTo, cJ17_compareTo, 4, (Option.some Jvm.ClassFile.FieldType.int), [])
theorem hcJ17_compareTo : kJ17_compareTo.1.cls ≠ "java/lang/invoke/MethodHandle" ∧ kJ17_compareTo.1.cls ≠ "java/lang/invoke/VarHandle" ∧ (parseMethodDescriptor kJ17_compareTo.1.desc).map (fun d => d.parameters.length) = some 2 := ⟨by decide, by decide, by decide +kernel⟩
theorem cs_cmp2 (G : aG) (h : hH) (v u : Nat) (bs cs : List Nat) (f g : Nat → Value) (hV : h.2 v = some (har 2 bs.length f)) (hU : h.2 u = some (har 2 cs.length g)) (hf : ∀ j, j < bs.length → f j = .int (sb_b (bs.getD j 0))) (hg : ∀ j, j < cs.length → g j = .int (sb_b (cs.getD j 0))) (hb : ∀ j, j < bs.length → bs.getD j 0 < 256) (hc : ∀ j, j < cs.length → cs.getD j 0 < 256) (hl : bs.length ≤ 2000) (hm : cs.length ≤ 2000) (hx1 : bs.length ≤ 8 ∨ cs.length ≤ 8) : Con G kJ17_compareTo [.ref v, .ref u] h ((9, 286, 0, 0), (fun r h1 => r = some (.int (cmpT bs cs)) ∧ h = h1), nX) := by
  refine Con.of (plainFor_of_name rfl) rfl (Nat.le_of_ble_eq_true rfl) ?_
  refine AW.eq (lv2 := [(0, .ref v), (1, .ref u)]) (s2 := []) rfl rfl rfl rfl rfl ?_
  refine aw_know (fun gd hi => ?_)
  have lt_v : v < h.1 := hi.2.1 _ _ hV
  have lt_u : u < h.1 := hi.2.1 _ _ hU
  refine aw_aload_n (n := 1) dJ17_compareTo_0 rfl 0 rfl rfl ?_
  refine aw_alen (n := 2) (v := nI bs.length) dJ17_compareTo_1 rfl hV rfl rfl ?_
  refine aw_istore_n (n := 3) (lv' := [(2, .int (nI bs.length)), (0, .ref v), (1, .ref u)]) dJ17_compareTo_2 rfl (by decide) rfl rfl ?_
  refine aw_aload_n (n := 4) dJ17_compareTo_3 rfl 2 rfl rfl ?_
  refine aw_alen (n := 5) (v := nI cs.length) dJ17_compareTo_4 rfl hU rfl rfl ?_
  refine aw_istore_n (n := 6) (lv' := [(3, .int (nI cs.length)), (2, .int (nI bs.length)), (0, .ref v), (1, .ref u)]) dJ17_compareTo_5 rfl (by decide) rfl rfl ?_
  refine aw_aload_n (n := 7) dJ17_compareTo_6 rfl 2 rfl rfl ?_
  refine aw_aload_n (n := 8) dJ17_compareTo_7 rfl 3 rfl rfl ?_
  refine aw_iload_n (n := 9) dJ17_compareTo_8 rfl 1 rfl rfl ?_
  refine aw_iload_n (n := 10) dJ17_compareTo_9 rfl 0 rfl rfl ?_
  refine aw_callS (n := 13) (As := [.ref v, .ref u, .int (nI bs.length), .int (nI cs.length)]) (rest := []) (K2 := kJ17_compareTo_2) dJ17_compareTo_10 q1299 q1300 q128 q1301 hcJ17_compareTo_2 (cs_cmp4 G h v u bs cs f g hV hU hf hg hb hc hl hm hx1) rfl (Nat.le_of_ble_eq_true rfl) ⟨Nat.le_of_ble_eq_true rfl, Nat.le_of_ble_eq_true rfl⟩ ⟨by first | omega | (dsimp only; omega) | decide, by first | omega | (dsimp only; omega) | decide⟩ (fun _ _ _ z => z.elim) rfl (fun r_10 h_10 q_10 => ?_)
  obtain ⟨rfl, rfl⟩ := q_10
  refine AW.sts (st' := [.int (cmpT bs cs)]) rfl ?_
  exact aw_iret dJ17_compareTo_13 rfl ⟨rfl, rfl⟩ ⟨Nat.zero_le _, Nat.zero_le _⟩

abbrev kJ12_compareTo_2 : aK := (yJ12_compareTo_2, cJ12_compareTo_2, 5, (Option.some Jvm.ClassFile.FieldType.int), [])
theorem hcJ12_compareTo_2 : kJ12_compareTo_2.1.cls ≠ "java/lang/invoke/MethodHandle" ∧ kJ12_compareTo_2.1.cls ≠ "java/lang/invoke/VarHandle" ∧ (parseMethodDescriptor kJ12_compareTo_2.1.desc).map (fun d => d.parameters.length) = some 1 := ⟨by decide, by decide, by decide +kernel⟩
theorem cs_cmpS (G : aG) (h : hH) (a v b u : Nat) (bs cs : List Nat) (w z w2 z2 : Int32) (hS : isSt h a v bs w z) (hS2 : isSt h b u cs w2 z2) (hx1 : bs.length ≤ 8 ∨ cs.length ≤ 8) : Con G kJ12_compareTo_2 [.ref a, .ref b] h ((10, 309, 0, 0), (fun r h1 => r = some (.int (cmpT bs cs)) ∧ h = h1), nX) := by
  obtain ⟨f, hA, hV, hf, hb, hl⟩ := hS
  obtain ⟨g, hB, hU, hg, hc, hm⟩ := hS2
  refine Con.of (plainFor_of_name rfl) rfl (Nat.le_of_ble_eq_true rfl) ?_
  refine AW.eq (lv2 := [(0, .ref a), (1, .ref b)]) (s2 := []) rfl rfl rfl rfl rfl ?_
  refine aw_know (fun gd hi => ?_)
  have lt_a : a < h.1 := hi.2.1 _ _ hA
  have lt_b : b < h.1 := hi.2.1 _ _ hB
  have lt_v : v < h.1 := hi.2.1 _ _ hV
  have lt_u : u < h.1 := hi.2.1 _ _ hU
  refine aw_aload_n (n := 1) dJ12_compareTo_2_0 rfl 0 rfl rfl ?_
  refine aw_getf (n := 4) (v := .ref v) (C0 := RJ12) (T := TJ12) dJ12_compareTo_2_1 rfl 0 q645 (Or.inl rfl) hA rfl rfl ?_
  refine aw_astore_n (n := 5) (lv' := [(2, .ref v), (0, .ref a), (1, .ref b)]) dJ12_compareTo_2_4 rfl (by decide) rfl rfl ?_
  refine aw_aload_n (n := 6) dJ12_compareTo_2_5 rfl 2 rfl rfl ?_
  refine aw_getf (n := 9) (v := .ref u) (C0 := RJ12) (T := TJ12) dJ12_compareTo_2_6 rfl 0 q645 (Or.inl rfl) hB rfl rfl ?_
  refine aw_astore_n (n := 10) (lv' := [(3, .ref u), (2, .ref v), (0, .ref a), (1, .ref b)]) dJ12_compareTo_2_9 rfl (by decide) rfl rfl ?_
  refine aw_aload_n (n := 11) dJ12_compareTo_2_10 rfl 2 rfl rfl ?_
  refine aw_callV (n := 14) (C0 := RJ12) (As := []) (rest := []) (K2 := kJ12_coder) dJ12_compareTo_2_11 q586 q587 q588 q122 q589 ⟨rfl, hcJ12_coder⟩ rfl hA (cs_coder G h a v bs.length w z f hA hV (by omega)) rfl (Nat.le_of_ble_eq_true rfl) ⟨Nat.le_of_ble_eq_true rfl, Nat.le_of_ble_eq_true rfl⟩ ⟨by first | omega | (dsimp only; omega) | decide, by first | omega | (dsimp only; omega) | decide⟩ (fun _ _ _ z => z.elim) rfl (fun r_11 h_11 q_11 => ?_)
  obtain ⟨rfl, rfl⟩ := q_11
  refine AW.sts (st' := [.int 0]) rfl ?_
  refine aw_istore (n := 16) (lv' := [(4, .int 0), (3, .ref u), (2, .ref v), (0, .ref a), (1, .ref b)]) dJ12_compareTo_2_14 (by decide) rfl rfl ?_
  refine aw_iload (n := 18) dJ12_compareTo_2_16 0 rfl rfl ?_
  refine aw_aload_n (n := 19) dJ12_compareTo_2_18 rfl 4 rfl rfl ?_
  refine aw_callV (n := 22) (C0 := RJ12) (As := []) (rest := [.int 0]) (K2 := kJ12_coder) dJ12_compareTo_2_19 q586 q587 q588 q122 q589 ⟨rfl, hcJ12_coder⟩ rfl hB (cs_coder G h b u cs.length w2 z2 g hB hU (by omega)) rfl (Nat.le_of_ble_eq_true rfl) ⟨Nat.le_of_ble_eq_true rfl, Nat.le_of_ble_eq_true rfl⟩ ⟨by first | omega | (dsimp only; omega) | decide, by first | omega | (dsimp only; omega) | decide⟩ (fun _ _ _ z => z.elim) rfl (fun r_19 h_19 q_19 => ?_)
  obtain ⟨rfl, rfl⟩ := q_19
  refine AW.sts (st' := [.int 0, .int 0]) rfl ?_
  refine aw_icmp_ne (n := 25) (tgt := 44) dJ12_compareTo_2_22 (by decide) rfl (fun c_22 => ?_) (fun c_22 => ?_)
  · skip
    exact absurd c_22 (by decide +kernel)
  · skip
    refine aw_iload (n := 27) dJ12_compareTo_2_25 0 rfl rfl ?_
    refine aw_if_ne (n := 30) (tgt := 38) dJ12_compareTo_2_27 (by decide) rfl (fun c_27 => ?_) (fun c_27 => ?_)
    · skip
      exact absurd c_27 (by decide +kernel)
    · skip
      refine aw_aload_n (n := 31) dJ12_compareTo_2_30 rfl 2 rfl rfl ?_
      refine aw_aload_n (n := 32) dJ12_compareTo_2_31 rfl 1 rfl rfl ?_
      refine aw_callS (n := 35) (As := [.ref v, .ref u]) (rest := []) (K2 := kJ17_compareTo) dJ12_compareTo_2_32 q1296 q1297 q128 q1298 hcJ17_compareTo (cs_cmp2 G h v u bs cs f g hV hU hf hg hb hc hl hm hx1) rfl (Nat.le_of_ble_eq_true rfl) ⟨Nat.le_of_ble_eq_true rfl, Nat.le_of_ble_eq_true rfl⟩ ⟨by first | omega | (dsimp only; omega) | decide, by first | omega | (dsimp only; omega) | decide⟩ (fun _ _ _ z => z.elim) rfl (fun r_32 h_32 q_32 => ?_)
      obtain ⟨rfl, rfl⟩ := q_32
      refine AW.sts (st' := [.int (cmpT bs cs)]) rfl ?_
      refine aw_goto (tgt := 43) dJ12_compareTo_2_35 (by decide) ?_
      exact aw_iret dJ12_compareTo_2_43 rfl ⟨rfl, rfl⟩ ⟨Nat.zero_le _, Nat.zero_le _⟩

abbrev kJ12_compareTo : aK := (yJ12_compareTo, cJ12_compareTo, 2, (Option.some Jvm.ClassFile.FieldType.int), [])
theorem hcJ12_compareTo : kJ12_compareTo.1.cls ≠ "java/lang/invoke/MethodHandle" ∧ kJ12_compareTo.1.cls ≠ "java/lang/invoke/VarHandle" ∧ (parseMethodDescriptor kJ12_compareTo.1.desc).map (fun d => d.parameters.length) = some 1 := ⟨by decide, by decide, by decide +kernel⟩
theorem cs_cmpO (G : aG) (h : hH) (a v b u : Nat) (bs cs : List Nat) (w z w2 z2 : Int32) (hS : isSt h a v bs w z) (hS2 : isSt h b u cs w2 z2) (hx1 : bs.length ≤ 8 ∨ cs.length ≤ 8) : Con G kJ12_compareTo [.ref a, .ref b] h ((11, 333, 0, 0), (fun r h1 => r = some (.int (cmpT bs cs)) ∧ h = h1), nX) := by
  have hS0 := hS; have hS20 := hS2
  obtain ⟨f, hA, hV, hf, hb, hl⟩ := hS
  obtain ⟨g, hB, hU, hg, hc, hm⟩ := hS2
  refine Con.of (plainFor_of_name rfl) rfl (Nat.le_of_ble_eq_true rfl) ?_
  refine AW.eq (lv2 := [(0, .ref a), (1, .ref b)]) (s2 := []) rfl rfl rfl rfl rfl ?_
  refine aw_know (fun gd hi => ?_)
  have lt_a : a < h.1 := hi.2.1 _ _ hA
  have lt_b : b < h.1 := hi.2.1 _ _ hB
  refine aw_aload_n (n := 1) dJ12_compareTo_0 rfl 0 rfl rfl ?_
  refine aw_aload_n (n := 2) dJ12_compareTo_1 rfl 1 rfl rfl ?_
  refine aw_cast (n := 5) dJ12_compareTo_2 q779 rfl hB (Or.inl rfl) rfl ?_
  refine aw_callV (n := 8) (C0 := RJ12) (As := [.ref b]) (rest := []) (K2 := kJ12_compareTo_2) dJ12_compareTo_5 q1292 q1293 q1294 q122 q1295 ⟨rfl, hcJ12_compareTo_2⟩ rfl hA (cs_cmpS G h a v b u bs cs w z w2 z2 hS0 hS20 hx1) rfl (Nat.le_of_ble_eq_true rfl) ⟨Nat.le_of_ble_eq_true rfl, Nat.le_of_ble_eq_true rfl⟩ ⟨by first | omega | (dsimp only; omega) | decide, by first | omega | (dsimp only; omega) | decide⟩ (fun _ _ _ z => z.elim) rfl (fun r_5 h_5 q_5 => ?_)
  obtain ⟨rfl, rfl⟩ := q_5
  refine AW.sts (st' := [.int (cmpT bs cs)]) rfl ?_
  exact aw_iret dJ12_compareTo_8 rfl ⟨rfl, rfl⟩ ⟨Nat.zero_le _, Nat.zero_le _⟩

abbrev kJ4_compareComparables : aK := (yJ4_compareComparables, cJ4_compareComparables, 3, (Option.some Jvm.ClassFile.FieldType.int), [])
theorem hcJ4_compareComparables : kJ4_compareComparables.1.cls ≠ "java/lang/invoke/MethodHandle" ∧ kJ4_compareComparables.1.cls ≠ "java/lang/invoke/VarHandle" ∧ (parseMethodDescriptor kJ4_compareComparables.1.desc).map (fun d => d.parameters.length) = some 3 := ⟨by decide, by decide, by decide +kernel⟩
theorem hm_cmpC (G : aG) (h : hH) (a v b u : Nat) (bs cs : List Nat) (w z w2 z2 : Int32) (hS : isSt h a v bs w z) (hS2 : isSt h b u cs w2 z2) (hx1 : bs.length ≤ 8 ∨ cs.length ≤ 8) : Con G kJ4_compareComparables [.ref (gM G 0), .ref a, .ref b] h ((12, 354, 0, 0), (fun r h1 => r = some (.int (cmpT bs cs)) ∧ h = h1), nX) := by
  have hS0 := hS; have hS20 := hS2
  obtain ⟨f, hA, hV, hf, hb, hl⟩ := hS
  obtain ⟨g, hB, hU, hg, hc, hm⟩ := hS2
  refine Con.of (plainFor_of_name rfl) rfl (Nat.le_of_ble_eq_true rfl) ?_
  refine AW.eq (lv2 := [(0, .ref (gM G 0)), (1, .ref a), (2, .ref b)]) (s2 := []) rfl rfl rfl rfl rfl ?_
  refine aw_know (fun gd hi => ?_)
  have lt_a : a < h.1 := hi.2.1 _ _ hA
  have lt_b : b < h.1 := hi.2.1 _ _ hB
  refine aw_aload_n (n := 1) dJ4_compareComparables_0 rfl 2 rfl rfl ?_
  refine aw_ifnull (n := 4) dJ4_compareComparables_1 rfl ?_
  refine aw_aload_n (n := 5) dJ4_compareComparables_4 rfl 2 rfl rfl ?_
  refine aw_getC (n := 8) (q := 0) dJ4_compareComparables_5 q1229 q3304 q959 q922 q968 (List.Mem.head _) (Or.inl ⟨_, _, _, _, hB, rfl⟩) ⟨Nat.le_of_ble_eq_true rfl, Nat.le_of_ble_eq_true rfl⟩ rfl ?_
  refine aw_aload_n (n := 9) dJ4_compareComparables_8 rfl 0 rfl rfl ?_
  refine aw_acmp_eq (n := 12) (x := (some (gM G 0))) (y := (some (gM G 0))) (tgt := 16) dJ4_compareComparables_9 (by decide) rfl (fun _ => ?_) (fun z9 => absurd rfl z9)
  refine aw_aload_n (n := 17) dJ4_compareComparables_16 rfl 1 rfl rfl ?_
  refine aw_cast (n := 20) dJ4_compareComparables_17 q1228 rfl hA (Or.inr q1286) rfl ?_
  refine aw_aload_n (n := 21) dJ4_compareComparables_20 rfl 2 rfl rfl ?_
  refine aw_callF (n := 26) (C0 := RJ12) (As := [.ref b]) (rest := []) (K2 := kJ12_compareTo) (x := ⟨"java/lang/Comparable", "compareTo", "(Ljava/lang/Object;)I"⟩) dJ4_compareComparables_21 q1235 q1287 q1289 q122 q1291 q457 q1237 q1236 q1290 q1288 q1286 ⟨by decide, by decide, (show (parseMethodDescriptor "(Ljava/lang/Object;)I").map (fun d => d.parameters.length) = some 1 from by decide +kernel)⟩ rfl hA (cs_cmpO G h a v b u bs cs w z w2 z2 hS0 hS20 hx1) rfl (Nat.le_of_ble_eq_true rfl) ⟨Nat.le_of_ble_eq_true rfl, Nat.le_of_ble_eq_true rfl⟩ ⟨by first | omega | (dsimp only; omega) | decide, by first | omega | (dsimp only; omega) | decide⟩ (fun _ _ _ z => z.elim) rfl (fun r_21 h_21 q_21 => ?_)
  obtain ⟨rfl, rfl⟩ := q_21
  refine AW.sts (st' := [.int (cmpT bs cs)]) rfl ?_
  exact aw_iret dJ4_compareComparables_26 rfl ⟨rfl, rfl⟩ ⟨Nat.zero_le _, Nat.zero_le _⟩

abbrev kJ4_comparableClassFor : aK := (yJ4_comparableClassFor, cJ4_comparableClassFor, 9, (Option.some (Jvm.ClassFile.FieldType.object "java/lang/Class")), [])
theorem hcJ4_comparableClassFor : kJ4_comparableClassFor.1.cls ≠ "java/lang/invoke/MethodHandle" ∧ kJ4_comparableClassFor.1.cls ≠ "java/lang/invoke/VarHandle" ∧ (parseMethodDescriptor kJ4_comparableClassFor.1.desc).map (fun d => d.parameters.length) = some 1 := ⟨by decide, by decide, by decide +kernel⟩
theorem hm_compF (G : aG) (h : hH) (a v : Nat) (bs : List Nat) (w z : Int32) (hS : isSt h a v bs w z) : Con G kJ4_comparableClassFor [.ref a] h ((2, 30, 0, 0), (fun r h1 => r = some (.ref (gM G 0)) ∧ h = h1), nX) := by
  obtain ⟨f, hA, hV, hf, hb, hl⟩ := hS
  refine Con.of (plainFor_of_name rfl) rfl (Nat.le_of_ble_eq_true rfl) ?_
  refine AW.eq (lv2 := [(0, .ref a)]) (s2 := []) rfl rfl rfl rfl rfl ?_
  refine aw_know (fun gd hi => ?_)
  have lt_a : a < h.1 := hi.2.1 _ _ hA
  refine aw_aload_n (n := 1) dJ4_comparableClassFor_0 rfl 0 rfl rfl ?_
  refine aw_inst (n := 4) dJ4_comparableClassFor_1 q1228 rfl hA (Or.inr q1286) rfl ?_
  refine aw_if_eq (n := 7) (tgt := 113) dJ4_comparableClassFor_4 (by decide) rfl (fun c_4 => ?_) (fun c_4 => ?_)
  · skip
    exact absurd c_4 (by decide +kernel)
  · skip
    refine aw_aload_n (n := 8) dJ4_comparableClassFor_7 rfl 0 rfl rfl ?_
    refine aw_getC (n := 11) (q := 0) dJ4_comparableClassFor_8 q1229 q3304 q959 q922 q968 (List.Mem.head _) (Or.inl ⟨_, _, _, _, hA, rfl⟩) ⟨Nat.le_of_ble_eq_true rfl, Nat.le_of_ble_eq_true rfl⟩ rfl ?_
    refine aw_dup (n := 12) dJ4_comparableClassFor_11 rfl rfl ?_
    refine aw_astore_n (n := 13) (lv' := [(1, .ref (gM G 0)), (0, .ref a)]) dJ4_comparableClassFor_12 rfl (by decide) rfl rfl ?_
    refine aw_ldcM (n := 15) dJ4_comparableClassFor_13 q1230 (List.Mem.head _) rfl ?_
    refine aw_acmp_ne (n := 18) (x := (some (gM G 0))) (y := (some (gM G 0))) (tgt := 20) dJ4_comparableClassFor_15 (by decide) rfl (fun z9 => absurd z9 (fun k9 => k9 rfl)) (fun _ => ?_)
    refine aw_aload_n (n := 19) dJ4_comparableClassFor_18 rfl 0 rfl rfl ?_
    exact aw_aret dJ4_comparableClassFor_19 rfl (Or.inl ⟨_, rfl⟩) (Or.inr ⟨_, rfl⟩) ⟨rfl, rfl⟩ ⟨Nat.zero_le _, Nat.zero_le _⟩

/-- the spread hash of a key -/
def spT (bs : List Nat) : Int32 := hashT bs ^^^ ((hashT bs).toUInt32 >>> ((16 : Int32).toUInt32 &&& Int32.toUInt32 31)).toInt32
abbrev kJ4_hash : aK := (yJ4_hash, cJ4_hash, 2, (Option.some Jvm.ClassFile.FieldType.int), [])
theorem hcJ4_hash : kJ4_hash.1.cls ≠ "java/lang/invoke/MethodHandle" ∧ kJ4_hash.1.cls ≠ "java/lang/invoke/VarHandle" ∧ (parseMethodDescriptor kJ4_hash.1.desc).map (fun d => d.parameters.length) = some 1 := ⟨by decide, by decide, by decide +kernel⟩
theorem hm_hash (G : aG) (h : hH) (a v : Nat) (bs : List Nat) (hS : isSt h a v bs (hashT bs) (zfT bs)) : Con G kJ4_hash [.ref a] h ((2, 21, 0, 0), (fun r h1 => r = some (.int (spT bs)) ∧ h = h1), nX) := by
  have hS0 := hS
  obtain ⟨f, hA, hV, hf, hb, hl⟩ := hS
  refine Con.of (plainFor_of_name rfl) rfl (Nat.le_of_ble_eq_true rfl) ?_
  refine AW.eq (lv2 := [(0, .ref a)]) (s2 := []) rfl rfl rfl rfl rfl ?_
  refine aw_know (fun gd hi => ?_)
  have lt_a : a < h.1 := hi.2.1 _ _ hA
  refine aw_aload_n (n := 1) dJ4_hash_0 rfl 0 rfl rfl ?_
  refine aw_ifnonnull (tgt := 8) dJ4_hash_1 (by decide) ?_
  refine aw_aload_n (n := 9) dJ4_hash_8 rfl 0 rfl rfl ?_
  refine aw_callU (n := 12) "java/lang/Object" (C0 := RJ12) (As := []) (rest := []) (K2 := kJ12_hashCode) (x := ⟨"java/lang/Object", "hashCode", "()I"⟩) dJ4_hash_9 q1117 q1119 (Or.inl q1116) q1160 q718 q122 q720 ⟨by decide, by decide, (show (parseMethodDescriptor "()I").map (fun d => d.parameters.length) = some 0 from by decide +kernel)⟩ rfl hA (cs_hash1 G h a v bs hS0) rfl (Nat.le_of_ble_eq_true rfl) ⟨Nat.le_of_ble_eq_true rfl, Nat.le_of_ble_eq_true rfl⟩ ⟨by first | omega | (dsimp only; omega) | decide, by first | omega | (dsimp only; omega) | decide⟩ (fun _ _ _ z => z.elim) rfl (fun r_9 h_9 q_9 => ?_)
  obtain ⟨rfl, rfl⟩ := q_9
  refine AW.sts (st' := [.int (hashT bs)]) rfl ?_
  refine aw_dup (n := 13) dJ4_hash_12 rfl rfl ?_
  refine aw_istore_n (n := 14) (lv' := [(1, .int (hashT bs)), (0, .ref a)]) dJ4_hash_13 rfl (by decide) rfl rfl ?_
  refine aw_iload_n (n := 15) dJ4_hash_14 rfl 0 rfl rfl ?_
  refine aw_bipush (n := 17) (v := 16) dJ4_hash_15 (by decide) rfl ?_
  refine aw_iushr (n := 18) dJ4_hash_17 rfl rfl ?_
  refine aw_ixor (n := 19) dJ4_hash_18 rfl ?_
  exact aw_iret dJ4_hash_19 rfl ⟨rfl, rfl⟩ ⟨Nat.zero_le _, Nat.zero_le _⟩

end
