/-! ArrayList: add, clear, its constructor; its iterator. -/
section
set_option maxRecDepth 100000
abbrev kJ2_add_2 : aK := (yJ2_add_2, cJ2_add_2, 4, (Option.none : Option Jvm.ClassFile.FieldType), [])
theorem hcJ2_add_2 : kJ2_add_2.1.cls ≠ "java/lang/invoke/MethodHandle" ∧ kJ2_add_2.1.cls ≠ "java/lang/invoke/VarHandle" ∧ (parseMethodDescriptor kJ2_add_2.1.desc).map (fun d => d.parameters.length) = some 3 := ⟨by decide, by decide, by decide +kernel⟩
theorem ca_add3 (G : aG) (h : hH) (o a x n cap : Nat) (mc : Int32) (f : Nat → Value) (xs : List Nat) (hxs : xs.length = n) (hbo : gB G ≤ o) (hO : h.2 o = some (hob 24 [.int mc, .ref a, .int (nI n)])) (hA : h.2 a = some (har 4 cap f)) (hlen : n ≤ cap) (hcap : cap < 2000) (hn : n ≤ 1000) (hf : ∀ j, j < n → f j = .ref (xs.getD j 0)) (hz : (cap = 0 ∧ Value.ref a = gV G 33 ∧ a < gB G) ∨ (0 < cap ∧ gB G ≤ a))(hel : ∀ j, j < n → elO h (xs.getD j 0) ∧ xs.getD j 0 ≠ o ∧ xs.getD j 0 ≠ a) (hx : elO h x ∧ x ≠ o ∧ x ≠ a) : Con G kJ2_add_2 [.ref o, .ref x, .ref a, .int (nI n)] h ((6, 147, 1, 1510), (fun r h1 => r = none ∧ (∃ a1 : Nat, isALm G h1 o a1 mc (xs ++ [x]) ∧ (a1 = a ∨ h.1 ≤ a1)) ∧ Fr (fun q => q = o ∨ q = a) h h1 ∧ h1.1 ≤ h.1 + 1), nX) := by
  refine Con.of (plainFor_of_name rfl) rfl (Nat.le_of_ble_eq_true rfl) ?_
  refine AW.eq (lv2 := [(0, .ref o), (1, .ref x), (2, .ref a), (3, .int (nI n))]) (s2 := []) rfl rfl rfl rfl rfl ?_
  refine aw_know (fun gd hi => ?_)
  have lt_o : o < h.1 := hi.2.1 _ _ hO
  have lt_a : a < h.1 := hi.2.1 _ _ hA
  refine aw_iload_n (n := 1) dJ2_add_2_0 rfl 3 rfl rfl ?_
  refine aw_aload_n (n := 2) dJ2_add_2_1 rfl 2 rfl rfl ?_
  refine aw_alen (n := 3) (v := nI cap) dJ2_add_2_2 rfl hA rfl rfl ?_
  refine aw_icmp_ne (n := 6) (tgt := 11) dJ2_add_2_3 (by decide) rfl (fun c_3 => ?_) (fun c_3 => ?_)
  · skip
    have n_3 : ¬ (n = cap) := fun z => c_3 (by have y := (nI_eq (a := n) (b := cap) (by omega) (by omega)).mpr z; exact y)
    refine aw_aload_n (n := 12) dJ2_add_2_11 rfl 2 rfl rfl ?_
    refine aw_iload_n (n := 13) dJ2_add_2_12 rfl 3 rfl rfl ?_
    refine aw_aload_n (n := 14) dJ2_add_2_13 rfl 1 rfl rfl ?_
    obtain ⟨ad9, k9, c9⟩ := hx.1
    refine aw_aastAK (n := 15) (ti := 4) (N := cap) (f' := updV f n (.ref x)) dJ2_add_2_14 rfl n rfl hA (by rcases hz with z | z; omega; exact z.2) (by omega) (by omega) (by exact k9) (Or.inr c9) rfl rfl (fun y_1 w_1 => ?_)
    have zy_1 : y_1.1 = h.1 := w_1.2.2
    refine aw_aload_n (n := 16) dJ2_add_2_15 rfl 0 rfl rfl ?_
    refine aw_iload_n (n := 17) dJ2_add_2_16 rfl 3 rfl rfl ?_
    refine aw_iconst (n := 18) (v := 1) dJ2_add_2_17 (by decide) rfl ?_
    refine aw_iadd (n := 19) dJ2_add_2_18 rfl ?_
    refine AW.sts (st' := [.int (nI (n + 1)), .ref o]) (by rw [show (nI n) + 1 = nI (n + 1) from (nI_1 _)]) ?_
    have f_2 : y_1.2 o = some (hob 24 [.int mc, .ref a, .int (nI n)]) := (w_1.k (ne_kind hO hA ob_ar) hO)
    refine aw_putK (n := 22) (fs' := [.int mc, .ref a, .int (nI (n + 1))]) (C0 := RJ2) (T := TJ2) (N := 3) (ci := 24) dJ2_add_2_19 rfl in_J2 tyJ2 tyJ2_ok nmJ2 q184 2 (by decide) q200 (Or.inl rfl) (by first | exact Or.inl rfl | exact Or.inr ⟨rfl, rfl, rfl⟩) rfl f_2 (by omega) rfl rfl (Nat.le_of_ble_eq_true rfl) rfl rfl (fun y_3 w_3 => ?_)
    have zy_3 : y_3.1 = y_1.1 := w_3.2.2
    have f_4 : y_3.2 a = some (har 4 cap (updV f n (.ref x))) := (w_3.k (ne_kind hA hO ar_ob) w_1.1)
    have hf9 : ∀ j, j < (xs ++ [x]).length → (updV f n (.ref x)) j = .ref ((xs ++ [x]).getD j 0) := by
      intro j hj
      rw [List.length_append, List.length_singleton, hxs] at hj
      by_cases e : j = n
      · subst e; rw [← hxs, getD_last]; simp [updV, hxs]
      · rw [getD_app (by omega)]; simp only [updV, if_neg e]; exact hf j (by omega)
    exact aw_vret dJ2_add_2_22 rfl ⟨rfl, ⟨a, ⟨cap, _, by rw [List.length_append, List.length_singleton, hxs]; exact w_3.1, f_4, by rw [List.length_append, List.length_singleton, hxs]; omega, by omega, hf9, Or.inr ⟨by omega, by rcases hz with z | z; omega; exact z.2⟩⟩, Or.inl rfl⟩, (Fr.w (Fr.w Fr.rf w_1 (Or.inl (Or.inr rfl))) w_3 (Or.inl (Or.inl rfl))), by omega⟩ ⟨Nat.zero_le _, Nat.zero_le _⟩
  · skip
    have n_3 : n = cap := (nI_eq (a := n) (b := cap) (by omega) (by omega)).mp (by exact c_3)
    refine aw_aload_n (n := 7) dJ2_add_2_6 rfl 0 rfl rfl ?_
    have en : n = cap := n_3
    subst en
    refine aw_callV (n := 10) (C0 := RJ2) (As := []) (rest := []) (K2 := kJ2_grow) dJ2_add_2_7 q909 q911 qs3 q110 q912 ⟨rfl, hcJ2_grow⟩ rfl hO (ca_grow G h o a n mc f hbo hO hA hn (fun e => by rcases hz with z | z; exact z.2.1; omega) (fun j hj => by rw [hf j hj]; exact (hel j hj).1.ok)) rfl (Nat.le_of_ble_eq_true rfl) ⟨Nat.le_of_ble_eq_true rfl, Nat.le_of_ble_eq_true rfl⟩ ⟨by first | omega | (dsimp only; omega) | decide, by first | omega | (dsimp only; omega) | decide⟩ (fun _ _ _ z => z.elim) rfl (fun r_7 h_7 q_7 => ?_)
    obtain ⟨x_7, N_7, g_7, rfl, b_7, lx_7, hO_7, hX_7, lN_7, uN_7, hg_7, hF_7, zz_7⟩ := q_7
    have zc_7 : h.1 ≤ h_7.1 := hF_7.1
    refine AW.sts (st' := [.ref x_7]) rfl ?_
    refine aw_astore_n (n := 11) (lv' := [(2, .ref x_7), (0, .ref o), (1, .ref x), (3, .int (nI n))]) dJ2_add_2_10 rfl (by decide) rfl rfl ?_
    refine aw_aload_n (n := 12) dJ2_add_2_11 rfl 0 rfl rfl ?_
    refine aw_iload_n (n := 13) dJ2_add_2_12 rfl 3 rfl rfl ?_
    refine aw_aload_n (n := 14) dJ2_add_2_13 rfl 2 rfl rfl ?_
    obtain ⟨ad9, k9, c9⟩ := hx.1
    refine aw_aastAK (n := 15) (ti := 4) (N := N_7) (f' := updV g_7 n (.ref x)) dJ2_add_2_14 rfl n rfl hX_7 b_7 (by omega) (by omega) (by exact (k9.fr hi hF_7 (hx.2.1))) (Or.inr c9) rfl rfl (fun y_5 w_5 => ?_)
    have zy_5 : y_5.1 = h_7.1 := w_5.2.2
    refine aw_aload_n (n := 16) dJ2_add_2_15 rfl 1 rfl rfl ?_
    refine aw_iload_n (n := 17) dJ2_add_2_16 rfl 3 rfl rfl ?_
    refine aw_iconst (n := 18) (v := 1) dJ2_add_2_17 (by decide) rfl ?_
    refine aw_iadd (n := 19) dJ2_add_2_18 rfl ?_
    refine AW.sts (st' := [.int (nI (n + 1)), .ref o]) (by rw [show (nI n) + 1 = nI (n + 1) from (nI_1 _)]) ?_
    have f_6 : y_5.2 o = some (hob 24 [.int mc, .ref x_7, .int (nI n)]) := (w_5.k (by omega) hO_7)
    refine aw_putK (n := 22) (fs' := [.int mc, .ref x_7, .int (nI (n + 1))]) (C0 := RJ2) (T := TJ2) (N := 3) (ci := 24) dJ2_add_2_19 rfl in_J2 tyJ2 tyJ2_ok nmJ2 q184 2 (by decide) q200 (Or.inl rfl) (by first | exact Or.inl rfl | exact Or.inr ⟨rfl, rfl, rfl⟩) rfl f_6 (by omega) rfl rfl (Nat.le_of_ble_eq_true rfl) rfl rfl (fun y_7 w_7 => ?_)
    have zy_7 : y_7.1 = y_5.1 := w_7.2.2
    have f_8 : y_7.2 x_7 = some (har 4 N_7 (updV g_7 n (.ref x))) := (w_7.k (by omega) w_5.1)
    have hf9 : ∀ j, j < (xs ++ [x]).length → (updV g_7 n (.ref x)) j = .ref ((xs ++ [x]).getD j 0) := by
      intro j hj
      rw [List.length_append, List.length_singleton, hxs] at hj
      by_cases e : j = n
      · subst e; rw [← hxs, getD_last]; simp [updV, hxs]
      · rw [getD_app (by omega)]; simp only [updV, if_neg e]; exact (hg_7 j (by omega)).trans (hf j (by omega))
    exact aw_vret dJ2_add_2_22 rfl ⟨rfl, ⟨x_7, ⟨N_7, _, by rw [List.length_append, List.length_singleton, hxs]; exact w_7.1, f_8, by rw [List.length_append, List.length_singleton, hxs]; omega, by omega, hf9, Or.inr ⟨by omega, b_7⟩⟩, Or.inr (by omega)⟩, (Fr.w (Fr.w (Fr.c Fr.rf hF_7 (fun a9 z9 => by have z9 : a9 = o := z9; rw [z9]; exact (Or.inl (Or.inl rfl)))) w_5 (Or.inr (by omega))) w_7 (Or.inl (Or.inl rfl))), by omega⟩ ⟨(by first | exact Nat.le_refl _ | omega | (dsimp only; omega)), (by first | exact Nat.le_refl _ | omega | (dsimp only; omega))⟩

abbrev kJ2_add : aK := (yJ2_add, cJ2_add, 2, (Option.some Jvm.ClassFile.FieldType.boolean), [])
theorem hcJ2_add : kJ2_add.1.cls ≠ "java/lang/invoke/MethodHandle" ∧ kJ2_add.1.cls ≠ "java/lang/invoke/VarHandle" ∧ (parseMethodDescriptor kJ2_add.1.desc).map (fun d => d.parameters.length) = some 1 := ⟨by decide, by decide, by decide +kernel⟩
theorem ca_add (G : aG) (h : hH) (o a : Nat) (xs : List Nat) (hL : isAL G h o a xs)(x : Nat) (hbo : gB G ≤ o) (hn : xs.length ≤ 1000) (hel : ∀ j, j < xs.length → elO h (xs.getD j 0) ∧ xs.getD j 0 ≠ o ∧ xs.getD j 0 ≠ a) (hx : elO h x ∧ x ≠ o ∧ x ≠ a) : Con G kJ2_add [.ref o, .ref x] h ((7, 170, 1, 1510), (fun r h1 => r = some (.int 1) ∧ (∃ (mc : Int32) (a1 : Nat), isALm G h1 o a1 mc (xs ++ [x]) ∧ (a1 = a ∨ h.1 ≤ a1)) ∧ Fr (fun q => q = o ∨ q = a) h h1 ∧ h1.1 ≤ h.1 + 1), nX) := by
  obtain ⟨mc, cap, f, hO, hA, hlen, hcap, hf, hz⟩ := hL
  refine Con.of (plainFor_of_name rfl) rfl (Nat.le_of_ble_eq_true rfl) ?_
  refine AW.eq (lv2 := [(0, .ref o), (1, .ref x)]) (s2 := []) rfl rfl rfl rfl rfl ?_
  refine aw_know (fun gd hi => ?_)
  have lt_o : o < h.1 := hi.2.1 _ _ hO
  have lt_a : a < h.1 := hi.2.1 _ _ hA
  refine aw_aload_n (n := 1) dJ2_add_0 rfl 0 rfl rfl ?_
  refine aw_dup (n := 2) dJ2_add_1 rfl rfl ?_
  refine aw_getf (n := 5) (v := .int mc) (C0 := RJ2) (T := TJ2) dJ2_add_2 rfl 0 q204 (Or.inr q203) hO rfl rfl ?_
  refine aw_iconst (n := 6) (v := 1) dJ2_add_5 (by decide) rfl ?_
  refine aw_iadd (n := 7) dJ2_add_6 rfl ?_
  refine aw_putK (n := 10) (fs' := [.int (mc + 1), .ref a, .int (nI xs.length)]) (C0 := RJ2) (T := TJ2) (N := 3) (ci := 24) dJ2_add_7 rfl in_J2 tyJ2 tyJ2_ok nmJ2 q184 0 (by decide) q204 (Or.inr q203) (by first | exact Or.inl rfl | exact Or.inr ⟨rfl, rfl, rfl⟩) rfl hO (by omega) rfl rfl (Nat.le_of_ble_eq_true rfl) rfl rfl (fun y_1 w_1 => ?_)
  have zy_1 : y_1.1 = h.1 := w_1.2.2
  refine aw_aload_n (n := 11) dJ2_add_10 rfl 0 rfl rfl ?_
  refine aw_aload_n (n := 12) dJ2_add_11 rfl 1 rfl rfl ?_
  refine aw_aload_n (n := 13) dJ2_add_12 rfl 0 rfl rfl ?_
  refine aw_getf (n := 16) (v := .ref a) (C0 := RJ2) (T := TJ2) dJ2_add_13 rfl 1 q197 (Or.inl rfl) w_1.1 rfl rfl ?_
  refine aw_aload_n (n := 17) dJ2_add_16 rfl 0 rfl rfl ?_
  refine aw_getf (n := 20) (v := .int (nI xs.length)) (C0 := RJ2) (T := TJ2) dJ2_add_17 rfl 2 q200 (Or.inl rfl) w_1.1 rfl rfl ?_
  have f_2 : y_1.2 a = some (har 4 cap f) := (w_1.k (ne_kind hA hO ar_ob) hA)
  have el9 : ∀ j, j < xs.length → elO y_1 (xs.getD j 0) ∧ xs.getD j 0 ≠ o ∧ xs.getD j 0 ≠ a := fun j hj => ⟨(hel j hj).1.mv (w_1.2.1 _ (hel j hj).2.1), (hel j hj).2⟩
  refine aw_callV (n := 23) (C0 := RJ2) (As := [.ref x, .ref a, .int (nI xs.length)]) (rest := []) (K2 := kJ2_add_2) dJ2_add_20 q905 q907 qs2 q110 q908 ⟨rfl, hcJ2_add_2⟩ rfl w_1.1 (ca_add3 G y_1 o a x xs.length cap (mc + 1) f xs rfl hbo w_1.1 f_2 hlen hcap hn hf hz el9 ⟨hx.1.mv (w_1.2.1 _ hx.2.1), hx.2⟩) rfl (Nat.le_of_ble_eq_true rfl) ⟨Nat.le_of_ble_eq_true rfl, Nat.le_of_ble_eq_true rfl⟩ ⟨by first | omega | (dsimp only; omega) | decide, by first | omega | (dsimp only; omega) | decide⟩ (fun _ _ _ z => z.elim) rfl (fun r_20 h_20 q_20 => ?_)
  obtain ⟨rfl, ⟨a1, hL_20, ha_20⟩, hF_20, hz_20⟩ := q_20
  have hL9 : ∃ a1 : Nat, isALm G h_20 o a1 (mc + 1) (xs ++ [x]) ∧ (a1 = a ∨ h.1 ≤ a1) := ⟨a1, hL_20, by omega⟩
  have zc_20 : y_1.1 ≤ h_20.1 := hF_20.1
  refine AW.sts (st' := []) rfl ?_
  refine aw_iconst (n := 24) (v := 1) dJ2_add_23 (by decide) rfl ?_
  exact aw_zret dJ2_add_24 rfl (by decide) ⟨rfl, ⟨mc + 1, hL9⟩, (Fr.c (Fr.w Fr.rf w_1 (Or.inl (Or.inl rfl))) hF_20 (fun a9 z9 => by rcases z9 with z9 | z9 <;> rw [z9] <;> first | exact (Or.inl (Or.inl rfl)) | exact (Or.inl (Or.inr rfl)))), by omega⟩ ⟨(by first | exact Nat.le_refl _ | omega | (dsimp only; omega)), (by first | exact Nat.le_refl _ | omega | (dsimp only; omega))⟩

abbrev kJ2_clear : aK := (yJ2_clear, cJ2_clear, 4, (Option.none : Option Jvm.ClassFile.FieldType), [])
theorem hcJ2_clear : kJ2_clear.1.cls ≠ "java/lang/invoke/MethodHandle" ∧ kJ2_clear.1.cls ≠ "java/lang/invoke/VarHandle" ∧ (parseMethodDescriptor kJ2_clear.1.desc).map (fun d => d.parameters.length) = some 0 := ⟨by decide, by decide, by decide +kernel⟩
theorem ca_clear (G : aG) (h : hH) (o a : Nat) (xs : List Nat) (hL : isAL G h o a xs) (hbo : gB G ≤ o) : Con G kJ2_clear [.ref o] h ((1, 0, 0, 0), (fun r h1 => r = none ∧ isAL G h1 o a [] ∧ Fr (fun q => q = o ∨ q = a) h h1 ∧ h1.1 = h.1), nX) := by
  obtain ⟨mc, cap, f, hO, hA, hlen, hcap, hf, hz⟩ := hL
  refine Con.of (plainFor_of_name rfl) rfl (Nat.le_of_ble_eq_true rfl) ?_
  refine AW.eq (lv2 := [(0, .ref o)]) (s2 := []) rfl rfl rfl rfl rfl ?_
  refine aw_know (fun gd hi => ?_)
  have lt_o : o < h.1 := hi.2.1 _ _ hO
  have lt_a : a < h.1 := hi.2.1 _ _ hA
  refine aw_aload_n (n := 1) dJ2_clear_0 rfl 0 rfl rfl ?_
  refine aw_dup (n := 2) dJ2_clear_1 rfl rfl ?_
  refine aw_getf (n := 5) (v := .int mc) (C0 := RJ2) (T := TJ2) dJ2_clear_2 rfl 0 q204 (Or.inr q203) hO rfl rfl ?_
  refine aw_iconst (n := 6) (v := 1) dJ2_clear_5 (by decide) rfl ?_
  refine aw_iadd (n := 7) dJ2_clear_6 rfl ?_
  refine aw_putK (n := 10) (fs' := [.int (mc + 1), .ref a, .int (nI xs.length)]) (C0 := RJ2) (T := TJ2) (N := 3) (ci := 24) dJ2_clear_7 rfl in_J2 tyJ2 tyJ2_ok nmJ2 q184 0 (by decide) q204 (Or.inr q203) (by first | exact Or.inl rfl | exact Or.inr ⟨rfl, rfl, rfl⟩) rfl hO (by omega) rfl rfl (Nat.le_of_ble_eq_true rfl) rfl rfl (fun y_1 w_1 => ?_)
  have zy_1 : y_1.1 = h.1 := w_1.2.2
  refine aw_aload_n (n := 11) dJ2_clear_10 rfl 0 rfl rfl ?_
  refine aw_getf (n := 14) (v := .ref a) (C0 := RJ2) (T := TJ2) dJ2_clear_11 rfl 1 q197 (Or.inl rfl) w_1.1 rfl rfl ?_
  refine aw_astore_n (n := 15) (lv' := [(1, .ref a), (0, .ref o)]) dJ2_clear_14 rfl (by decide) rfl rfl ?_
  refine aw_aload_n (n := 16) dJ2_clear_15 rfl 1 rfl rfl ?_
  refine aw_getf (n := 19) (v := .int (nI xs.length)) (C0 := RJ2) (T := TJ2) dJ2_clear_16 rfl 2 q200 (Or.inl rfl) w_1.1 rfl rfl ?_
  refine aw_istore_n (n := 20) (lv' := [(2, .int (nI xs.length)), (1, .ref a), (0, .ref o)]) dJ2_clear_19 rfl (by decide) rfl rfl ?_
  refine aw_aload_n (n := 21) dJ2_clear_20 rfl 2 rfl rfl ?_
  refine aw_iconst (n := 22) (v := 0) dJ2_clear_21 (by decide) rfl ?_
  refine aw_dup_x1 (n := 23) dJ2_clear_22 rfl rfl rfl ?_
  refine aw_putK (n := 26) (fs' := [.int (mc + 1), .ref a, .int 0]) (C0 := RJ2) (T := TJ2) (N := 3) (ci := 24) dJ2_clear_23 rfl in_J2 tyJ2 tyJ2_ok nmJ2 q184 2 (by decide) q200 (Or.inl rfl) (by first | exact Or.inl rfl | exact Or.inr ⟨rfl, rfl, rfl⟩) rfl w_1.1 (by omega) rfl rfl (Nat.le_of_ble_eq_true rfl) rfl rfl (fun y_2 w_2 => ?_)
  have zy_2 : y_2.1 = y_1.1 := w_2.2.2
  refine aw_istore_n (n := 27) (lv' := [(3, .int 0), (2, .int (nI xs.length)), (1, .ref a), (0, .ref o)]) dJ2_clear_26 rfl (by decide) rfl rfl ?_
  have f_3 : y_2.2 a = some (har 4 cap f) := (w_2.k (ne_kind hA hO ar_ob) (w_1.k (ne_kind hA hO ar_ob) hA))
  suffices L_27 : ∀ (m_ : Nat) (j : Nat) (hh : hH) (g : Nat → Value) (hj : j ≤ xs.length) (hOc : hh.2 o = some (hob 24 [.int (mc + 1), .ref a, .int (nI 0)])) (hAc : hh.2 a = some (har 4 cap g)) (hFc : Fr (fun q => q = o ∨ q = a) h hh) (hzc : hh.1 = h.1), xs.length - j < m_ → AW G kJ2_clear ((1, 0, 0, 0), (fun r h1 => r = none ∧ isAL G h1 o a [] ∧ Fr (fun q => q = o ∨ q = a) h h1 ∧ h1.1 = h.1), nX) 27 [(3, .int (nI j)), (2, .int (nI xs.length)), (1, .ref a), (0, .ref o)] [] hh 0 0 from
    AW.lvs (lv' := [(3, .int 0), (2, .int (nI xs.length)), (1, .ref a), (0, .ref o)]) (AW.eq (lv2 := _) (rfl) rfl rfl rfl rfl (L_27 _ 0 y_2 f (by omega) w_2.1 f_3 (Fr.w (Fr.w Fr.rf w_1 (Or.inl (Or.inl rfl))) w_2 (Or.inl (Or.inl rfl))) (by omega) (Nat.lt_succ_self _))) (by simp)
  intro m_
  induction m_ with
  | zero => intro j hh g hj hOc hAc hFc hzc h_m; exact absurd h_m (Nat.not_lt_zero _)
  | succ m_ ih_27 =>
    intro j hh g hj hOc hAc hFc hzc h_m
    refine aw_iload_n (n := 28) dJ2_clear_27 rfl 0 rfl rfl ?_
    refine aw_iload_n (n := 29) dJ2_clear_28 rfl 1 rfl rfl ?_
    refine aw_icmp_ge (n := 32) (tgt := 42) dJ2_clear_29 (by decide) rfl (fun c_29 => ?_) (fun c_29 => ?_)
    · skip
      have n_29 : xs.length ≤ j := (nI_leI (a := xs.length) (b := j) (by omega) (by omega)).mp (by exact c_29)
      exact aw_vret dJ2_clear_42 rfl ⟨rfl, ⟨mc + 1, cap, g, hOc, hAc, Nat.zero_le _, hcap, fun j hj => absurd hj (Nat.not_lt_zero _), hz⟩, hFc, hzc⟩ ⟨Nat.zero_le _, Nat.zero_le _⟩
    · skip
      have n_29 : ¬ (xs.length ≤ j) := fun z => c_29 (by have y := (nI_leI (a := xs.length) (b := j) (by omega) (by omega)).mpr z; exact y)
      refine aw_aload_n (n := 33) dJ2_clear_32 rfl 2 rfl rfl ?_
      refine aw_iload_n (n := 34) dJ2_clear_33 rfl 0 rfl rfl ?_
      refine aw_null (n := 35) dJ2_clear_34 rfl ?_
      refine aw_aastNK (n := 36) (ti := 4) (N := cap) (f' := updV g j (.null)) dJ2_clear_35 rfl j rfl hAc (by rcases hz with z | z; omega; exact z.2) (by omega) (by omega) rfl rfl (fun y_4 w_4 => ?_)
      have zy_4 : y_4.1 = hh.1 := w_4.2.2
      refine aw_iinc (n := 39) (v := nI (j + 1)) (lv' := [(3, .int (nI (j + 1))), (2, .int (nI xs.length)), (1, .ref a), (0, .ref o)]) dJ2_clear_36 0 rfl (by rw [show nI j = nI j from rfl]; exact nI_1 _) (by decide) rfl rfl ?_
      refine aw_goto (tgt := 27) dJ2_clear_39 (by decide) ?_
      have f_5 : y_4.2 o = some (hob 24 [.int (mc + 1), .ref a, .int (nI 0)]) := (w_4.k (ne_kind hO hA ob_ar) hOc)
      exact AW.lvs (lv' := [(3, .int (nI (j + 1))), (2, .int (nI xs.length)), (1, .ref a), (0, .ref o)]) (AW.eq (lv2 := _) (rfl) rfl rfl rfl rfl (ih_27 (j + 1) y_4 _ (by omega) f_5 w_4.1 (Fr.w hFc w_4 (Or.inl (Or.inr rfl))) (by omega) (by omega))) (by simp)

abbrev kJ0_init : aK := (yJ0_init, cJ0_init, 1, (Option.none : Option Jvm.ClassFile.FieldType), [])
theorem hcJ0_init : kJ0_init.1.cls ≠ "java/lang/invoke/MethodHandle" ∧ kJ0_init.1.cls ≠ "java/lang/invoke/VarHandle" ∧ (parseMethodDescriptor kJ0_init.1.desc).map (fun d => d.parameters.length) = some 0 := ⟨by decide, by decide, by decide +kernel⟩
theorem ca_acI (G : aG) (h : hH) (o : Nat) : Con G kJ0_init [.ref o] h ((2, 24, 0, 0), (fun r h1 => r = none ∧ h = h1), nX) := by
  refine Con.of (plainFor_of_name rfl) rfl (Nat.le_of_ble_eq_true rfl) ?_
  refine AW.eq (lv2 := [(0, .ref o)]) (s2 := []) rfl rfl rfl rfl rfl ?_
  refine aw_aload_n (n := 1) dJ0_init_0 rfl 0 rfl rfl ?_
  refine aw_objInit (n := 4) dJ0_init_1 q194 ⟨Nat.le_of_ble_eq_true rfl, Nat.le_of_ble_eq_true rfl⟩ rfl ?_
  exact aw_vret dJ0_init_4 rfl ⟨rfl, rfl⟩ ⟨Nat.zero_le _, Nat.zero_le _⟩

abbrev kJ1_init : aK := (yJ1_init, cJ1_init, 1, (Option.none : Option Jvm.ClassFile.FieldType), [])
theorem hcJ1_init : kJ1_init.1.cls ≠ "java/lang/invoke/MethodHandle" ∧ kJ1_init.1.cls ≠ "java/lang/invoke/VarHandle" ∧ (parseMethodDescriptor kJ1_init.1.desc).map (fun d => d.parameters.length) = some 0 := ⟨by decide, by decide, by decide +kernel⟩
theorem ca_abI (G : aG) (h : hH) (o : Nat) (hbo : gB G ≤ o) (hO : h.2 o = some (hob 24 [.int 0, .null, .int 0])) : Con G kJ1_init [.ref o] h ((3, 44, 0, 0), (fun r h1 => r = none ∧ h1.2 o = some (hob 24 [.int 0, .null, .int 0]) ∧ Fr (fun q => q = o) h h1 ∧ h1.1 = h.1), nX) := by
  refine Con.of (plainFor_of_name rfl) rfl (Nat.le_of_ble_eq_true rfl) ?_
  refine AW.eq (lv2 := [(0, .ref o)]) (s2 := []) rfl rfl rfl rfl rfl ?_
  refine aw_know (fun gd hi => ?_)
  have lt_o : o < h.1 := hi.2.1 _ _ hO
  refine aw_aload_n (n := 1) dJ1_init_0 rfl 0 rfl rfl ?_
  refine aw_callI (n := 4) (As := []) (rest := []) (K2 := kJ0_init) dJ1_init_1 q191 q192 q108 q193 rfl rfl hcJ0_init (ca_acI G h o) rfl (Nat.le_of_ble_eq_true rfl) ⟨Nat.le_of_ble_eq_true rfl, Nat.le_of_ble_eq_true rfl⟩ ⟨by first | omega | (dsimp only; omega) | decide, by first | omega | (dsimp only; omega) | decide⟩ (fun _ _ _ z => z.elim) rfl (fun r_1 h_1 q_1 => ?_)
  obtain ⟨rfl, rfl⟩ := q_1
  refine AW.sts (st' := []) rfl ?_
  refine aw_aload_n (n := 5) dJ1_init_4 rfl 0 rfl rfl ?_
  refine aw_iconst (n := 6) (v := 0) dJ1_init_5 (by decide) rfl ?_
  refine aw_putK (n := 9) (fs' := [.int 0, .null, .int 0]) (C0 := RJ2) (T := TJ2) (N := 3) (ci := 24) dJ1_init_6 rfl in_J2 tyJ2 tyJ2_ok nmJ2 q184 0 (by decide) q201 (Or.inl rfl) (by first | exact Or.inl rfl | exact Or.inr ⟨rfl, rfl, rfl⟩) rfl hO (by omega) rfl rfl (Nat.le_of_ble_eq_true rfl) rfl rfl (fun y_1 w_1 => ?_)
  have zy_1 : y_1.1 = h.1 := w_1.2.2
  exact aw_vret dJ1_init_9 rfl ⟨rfl, w_1.1, (Fr.w Fr.rf w_1 (Or.inl rfl)), by omega⟩ ⟨Nat.zero_le _, Nat.zero_le _⟩

abbrev kJ2_init : aK := (yJ2_init, cJ2_init, 1, (Option.none : Option Jvm.ClassFile.FieldType), [])
theorem hcJ2_init : kJ2_init.1.cls ≠ "java/lang/invoke/MethodHandle" ∧ kJ2_init.1.cls ≠ "java/lang/invoke/VarHandle" ∧ (parseMethodDescriptor kJ2_init.1.desc).map (fun d => d.parameters.length) = some 0 := ⟨by decide, by decide, by decide +kernel⟩
theorem ca_init (G : aG) (h : hH) (o : Nat) (hbo : gB G ≤ o) (hO : h.2 o = some (hob 24 [.int 0, .null, .int 0])) : Con G kJ2_init [.ref o] h ((4, 64, 0, 0), (fun r h1 => r = none ∧ (∃ a : Nat, isAL G h1 o a []) ∧ Fr (fun q => q = o) h h1 ∧ h1.1 = h.1), nX) := by
  refine Con.of (plainFor_of_name rfl) rfl (Nat.le_of_ble_eq_true rfl) ?_
  refine AW.eq (lv2 := [(0, .ref o)]) (s2 := []) rfl rfl rfl rfl rfl ?_
  refine aw_know (fun gd hi => ?_)
  have lt_o : o < h.1 := hi.2.1 _ _ hO
  obtain ⟨a0, e33⟩ := gd.2.2.2.2.2.2.2.1.2.2.1.1 33 (Or.inr rfl)
  refine aw_aload_n (n := 1) dJ2_init_0 rfl 0 rfl rfl ?_
  refine aw_callI (n := 4) (As := []) (rest := []) (K2 := kJ1_init) dJ2_init_1 q188 q189 q109 q190 rfl rfl hcJ1_init (ca_abI G h o hbo hO) rfl (Nat.le_of_ble_eq_true rfl) ⟨Nat.le_of_ble_eq_true rfl, Nat.le_of_ble_eq_true rfl⟩ ⟨by first | omega | (dsimp only; omega) | decide, by first | omega | (dsimp only; omega) | decide⟩ (fun _ _ _ z => z.elim) rfl (fun r_1 h_1 q_1 => ?_)
  obtain ⟨rfl, hO_1, hF_1, zz_1⟩ := q_1
  have zc_1 : h.1 ≤ h_1.1 := hF_1.1
  refine AW.sts (st' := []) rfl ?_
  refine aw_aload_n (n := 5) dJ2_init_4 rfl 0 rfl rfl ?_
  refine aw_gets (n := 8) (v := .ref a0) dJ2_init_5 33 rfl q195 rfl e33 rfl ?_
  refine aw_putK (n := 11) (fs' := [.int 0, .ref a0, .int 0]) (C0 := RJ2) (T := TJ2) (N := 3) (ci := 24) dJ2_init_8 rfl in_J2 tyJ2 tyJ2_ok nmJ2 q184 1 (by decide) q197 (Or.inl rfl) (by first | exact Or.inl rfl | exact Or.inr ⟨rfl, rfl, rfl⟩) rfl hO_1 (by omega) rfl rfl (Nat.le_of_ble_eq_true rfl) rfl rfl (fun y_1 w_1 => ?_)
  have zy_1 : y_1.1 = h_1.1 := w_1.2.2
  obtain ⟨f0, hA0⟩ := gd.2.2.2.2.2.2.2.1.2.2.2.2.1.2; rw [e33] at hA0
  refine aw_know (fun _ hi9 => ?_)
  exact aw_vret dJ2_init_11 rfl ⟨rfl, ⟨a0, 0, 0, f0, w_1.1, good_at gd hi9 hA0, Nat.le_refl _, by omega, fun j hj => absurd hj (Nat.not_lt_zero _), Or.inl ⟨rfl, e33.symm, gd.2.2.2.2.2.2.2.2 _ _ hA0⟩⟩, (Fr.w (Fr.c Fr.rf hF_1 (fun a9 z9 => by have z9 : a9 = o := z9; rw [z9]; exact (Or.inl rfl))) w_1 (Or.inl rfl)), by omega⟩ ⟨Nat.zero_le _, Nat.zero_le _⟩

abbrev kJ30_init : aK := (yJ30_init, cJ30_init, 2, (Option.none : Option Jvm.ClassFile.FieldType), [])
theorem hcJ30_init : kJ30_init.1.cls ≠ "java/lang/invoke/MethodHandle" ∧ kJ30_init.1.cls ≠ "java/lang/invoke/VarHandle" ∧ (parseMethodDescriptor kJ30_init.1.desc).map (fun d => d.parameters.length) = some 1 := ⟨by decide, by decide, by decide +kernel⟩
theorem ca_itI (G : aG) (h : hH) (o a : Nat) (mc : Int32) (xs : List Nat) (hL : isALm G h o a mc xs) (it : Nat) (hbi : gB G ≤ it) (hI : h.2 it = some (hob 30 [.int 0, .int 0, .int 0, .null])) : Con G kJ30_init [.ref it, .ref o] h ((2, 24, 0, 0), (fun r h1 => r = none ∧ h1.2 it = some (hob 30 [.int (nI 0), .int (-1), .int mc, .ref o]) ∧ Fr (fun q => q = it) h h1 ∧ h1.1 = h.1), nX) := by
  obtain ⟨cap, f, hO, hA, hlen, hcap, hf, hz⟩ := hL
  refine Con.of (plainFor_of_name rfl) rfl (Nat.le_of_ble_eq_true rfl) ?_
  refine AW.eq (lv2 := [(0, .ref it), (1, .ref o)]) (s2 := []) rfl rfl rfl rfl rfl ?_
  refine aw_know (fun gd hi => ?_)
  have lt_it : it < h.1 := hi.2.1 _ _ hI
  have lt_o : o < h.1 := hi.2.1 _ _ hO
  have lt_a : a < h.1 := hi.2.1 _ _ hA
  refine aw_aload_n (n := 1) dJ30_init_0 rfl 0 rfl rfl ?_
  refine aw_aload_n (n := 2) dJ30_init_1 rfl 1 rfl rfl ?_
  refine aw_putK (n := 5) (fs' := [.int 0, .int 0, .int 0, .ref o]) (C0 := RJ30) (T := TJ30) (N := 4) (ci := 30) dJ30_init_2 rfl in_J30 tyJ30 tyJ30_ok nmJ30 q2088 3 (by decide) q2096 (Or.inl rfl) (by first | exact Or.inl rfl | exact Or.inr ⟨rfl, rfl, rfl⟩) rfl hI (by omega) rfl rfl (Nat.le_of_ble_eq_true rfl) rfl rfl (fun y_1 w_1 => ?_)
  have zy_1 : y_1.1 = h.1 := w_1.2.2
  refine aw_aload_n (n := 6) dJ30_init_5 rfl 0 rfl rfl ?_
  refine aw_objInit (n := 9) dJ30_init_6 q2092 ⟨Nat.le_of_ble_eq_true rfl, Nat.le_of_ble_eq_true rfl⟩ rfl ?_
  refine aw_aload_n (n := 10) dJ30_init_9 rfl 0 rfl rfl ?_
  refine aw_iconst (n := 11) (v := (-1)) dJ30_init_10 (by decide) rfl ?_
  refine aw_putK (n := 14) (fs' := [.int 0, .int (-1), .int 0, .ref o]) (C0 := RJ30) (T := TJ30) (N := 4) (ci := 30) dJ30_init_11 rfl in_J30 tyJ30 tyJ30_ok nmJ30 q2088 1 (by decide) q2094 (Or.inl rfl) (by first | exact Or.inl rfl | exact Or.inr ⟨rfl, rfl, rfl⟩) rfl w_1.1 (by omega) rfl rfl (Nat.le_of_ble_eq_true rfl) rfl rfl (fun y_2 w_2 => ?_)
  have zy_2 : y_2.1 = y_1.1 := w_2.2.2
  refine aw_aload_n (n := 15) dJ30_init_14 rfl 0 rfl rfl ?_
  refine aw_aload_n (n := 16) dJ30_init_15 rfl 0 rfl rfl ?_
  refine aw_getf (n := 19) (v := .ref o) (C0 := RJ30) (T := TJ30) dJ30_init_16 rfl 3 q2096 (Or.inl rfl) w_2.1 rfl rfl ?_
  have f_3 : y_2.2 o = some (hob 24 [.int mc, .ref a, .int (nI xs.length)]) := (w_2.k (ne_kind hO hI (ob_ob (by decide))) (w_1.k (ne_kind hO hI (ob_ob (by decide))) hO))
  refine aw_getf (n := 22) (v := .int mc) (C0 := RJ2) (T := TJ2) dJ30_init_19 rfl 0 q202 (Or.inr q203) f_3 rfl rfl ?_
  refine aw_putK (n := 25) (fs' := [.int 0, .int (-1), .int mc, .ref o]) (C0 := RJ30) (T := TJ30) (N := 4) (ci := 30) dJ30_init_22 rfl in_J30 tyJ30 tyJ30_ok nmJ30 q2088 2 (by decide) q2095 (Or.inl rfl) (by first | exact Or.inl rfl | exact Or.inr ⟨rfl, rfl, rfl⟩) rfl w_2.1 (by omega) rfl rfl (Nat.le_of_ble_eq_true rfl) rfl rfl (fun y_4 w_4 => ?_)
  have zy_4 : y_4.1 = y_2.1 := w_4.2.2
  exact aw_vret dJ30_init_25 rfl ⟨rfl, w_4.1, (Fr.w (Fr.w (Fr.w Fr.rf w_1 (Or.inl rfl)) w_2 (Or.inl rfl)) w_4 (Or.inl rfl)), by omega⟩ ⟨Nat.zero_le _, Nat.zero_le _⟩

abbrev kJ2_iterator : aK := (yJ2_iterator, cJ2_iterator, 1, (Option.some (Jvm.ClassFile.FieldType.object "java/util/Iterator")), [])
theorem hcJ2_iterator : kJ2_iterator.1.cls ≠ "java/lang/invoke/MethodHandle" ∧ kJ2_iterator.1.cls ≠ "java/lang/invoke/VarHandle" ∧ (parseMethodDescriptor kJ2_iterator.1.desc).map (fun d => d.parameters.length) = some 0 := ⟨by decide, by decide, by decide +kernel⟩
theorem dfJ30 : ∀ j, j < 4 → ([.int 0, .int 0, .int 0, .null] : List Value)[j]? = some (defaultValue (tyJ30 j)) := fun j hj => by
  match j, hj with
  | 0, _ => rfl
  | 1, _ => rfl
  | 2, _ => rfl
  | 3, _ => rfl
theorem ca_iterator (G : aG) (h : hH) (o a : Nat) (mc : Int32) (xs : List Nat) (hL : isALm G h o a mc xs) : Con G kJ2_iterator [.ref o] h ((3, 45, 1, 4), (fun r h1 => ∃ it : Nat, r = some (.ref it) ∧ h.1 ≤ it ∧ gB G ≤ it ∧ h1.2 it = some (hob 30 [.int (nI 0), .int (-1), .int mc, .ref o]) ∧ Fr nS h h1 ∧ h1.1 = h.1 + 1), nX) := by
  have hL0 := hL
  obtain ⟨cap, f, hO, hA, hlen, hcap, hf, hz⟩ := hL
  refine Con.of (plainFor_of_name rfl) rfl (Nat.le_of_ble_eq_true rfl) ?_
  refine AW.eq (lv2 := [(0, .ref o)]) (s2 := []) rfl rfl rfl rfl rfl ?_
  refine aw_know (fun gd hi => ?_)
  have lt_o : o < h.1 := hi.2.1 _ _ hO
  have lt_a : a < h.1 := hi.2.1 _ _ hA
  refine aw_newK (n := 3) (C0 := RJ30) (T := TJ30) (N := 4) (ci := 30) (fs := [.int 0, .int 0, .int 0, .null]) dJ2_iterator_0 rfl in_J30 tyJ30 tyJ30_ok q2087 4 q2088 q167 rfl dfJ30 (by first | omega | (dsimp only; omega) | decide) (by first | omega | (dsimp only; omega) | decide) rfl (by first | rfl | omega) (by first | rfl | omega) (fun y_1 u_1 bu_1 w_1 => ?_)
  have eu_1 : u_1 = h.1 := w_1.2.2.1
  have zy_1 : y_1.1 = u_1 + 1 := w_1.2.2.2
  refine aw_dup (n := 4) dJ2_iterator_3 rfl rfl ?_
  refine aw_aload_n (n := 5) dJ2_iterator_4 rfl 0 rfl rfl ?_
  have hL9 : isALm G y_1 o a mc xs := hL0.mv (w_1.2.1 _ (by omega)) (w_1.2.1 _ (by omega))
  refine aw_callI (n := 8) (As := [.ref o]) (rest := [.ref u_1]) (K2 := kJ30_init) dJ2_iterator_5 q2089 q2090 q167 q2091 rfl rfl hcJ30_init (ca_itI G y_1 o a mc xs hL9 u_1 bu_1 w_1.1) rfl (Nat.le_of_ble_eq_true rfl) ⟨Nat.le_of_ble_eq_true rfl, Nat.le_of_ble_eq_true rfl⟩ ⟨by first | omega | (dsimp only; omega) | decide, by first | omega | (dsimp only; omega) | decide⟩ (fun _ _ _ z => z.elim) rfl (fun r_5 h_5 q_5 => ?_)
  obtain ⟨rfl, hI_5, hF_5, hz_5⟩ := q_5
  have zc_5 : y_1.1 ≤ h_5.1 := hF_5.1
  refine AW.sts (st' := [.ref u_1]) rfl ?_
  exact aw_aret dJ2_iterator_8 rfl (Or.inl ⟨_, rfl⟩) (Or.inr ⟨_, rfl⟩) ⟨u_1, rfl, by omega, bu_1, hI_5, (Fr.c (Fr.n Fr.rf w_1) hF_5 (fun a9 z9 => by have z9 : a9 = u_1 := z9; rw [z9]; exact (Or.inr (by omega)))), by omega⟩ ⟨(by first | exact Nat.le_refl _ | omega | (dsimp only; omega)), (by first | exact Nat.le_refl _ | omega | (dsimp only; omega))⟩

abbrev kJ30_hasNext : aK := (yJ30_hasNext, cJ30_hasNext, 1, (Option.some Jvm.ClassFile.FieldType.boolean), [])
theorem hcJ30_hasNext : kJ30_hasNext.1.cls ≠ "java/lang/invoke/MethodHandle" ∧ kJ30_hasNext.1.cls ≠ "java/lang/invoke/VarHandle" ∧ (parseMethodDescriptor kJ30_hasNext.1.desc).map (fun d => d.parameters.length) = some 0 := ⟨by decide, by decide, by decide +kernel⟩
theorem ca_hasNext (G : aG) (h : hH) (o a : Nat) (mc : Int32) (xs : List Nat) (hL : isALm G h o a mc xs) (it c : Nat) (l : Int32) (hI : h.2 it = some (hob 30 [.int (nI c), .int l, .int mc, .ref o])) (hc : c ≤ xs.length) : Con G kJ30_hasNext [.ref it] h ((1, 0, 0, 0), (fun r h1 => r = some (.int (bI (decide (c < xs.length)))) ∧ h = h1), nX) := by
  obtain ⟨cap, f, hO, hA, hlen, hcap, hf, hz⟩ := hL
  refine Con.of (plainFor_of_name rfl) rfl (Nat.le_of_ble_eq_true rfl) ?_
  refine AW.eq (lv2 := [(0, .ref it)]) (s2 := []) rfl rfl rfl rfl rfl ?_
  refine aw_know (fun gd hi => ?_)
  have lt_it : it < h.1 := hi.2.1 _ _ hI
  have lt_o : o < h.1 := hi.2.1 _ _ hO
  have lt_a : a < h.1 := hi.2.1 _ _ hA
  refine aw_aload_n (n := 1) dJ30_hasNext_0 rfl 0 rfl rfl ?_
  refine aw_getf (n := 4) (v := .int (nI c)) (C0 := RJ30) (T := TJ30) dJ30_hasNext_1 rfl 0 q2093 (Or.inl rfl) hI rfl rfl ?_
  refine aw_aload_n (n := 5) dJ30_hasNext_4 rfl 0 rfl rfl ?_
  refine aw_getf (n := 8) (v := .ref o) (C0 := RJ30) (T := TJ30) dJ30_hasNext_5 rfl 3 q2096 (Or.inl rfl) hI rfl rfl ?_
  refine aw_getfN (n := 11) (v := .int (nI xs.length)) (C0 := RJ2) (T := TJ2) dJ30_hasNext_8 rfl 2 q199 (Or.inl rfl) in_J2 hO rfl rfl ?_
  refine aw_icmp_eq (n := 14) (tgt := 18) dJ30_hasNext_11 (by decide) rfl (fun c_11 => ?_) (fun c_11 => ?_)
  · skip
    have n_11 : c = xs.length := (nI_eq (a := c) (b := xs.length) (by omega) (by omega)).mp (by exact c_11)
    refine aw_iconst (n := 19) (v := 0) dJ30_hasNext_18 (by decide) rfl ?_
    exact aw_zret dJ30_hasNext_19 rfl (by decide) ⟨congrArg some (congrArg Value.int (by simp [bI]; omega)), rfl⟩ ⟨Nat.zero_le _, Nat.zero_le _⟩
  · skip
    have n_11 : ¬ (c = xs.length) := fun z => c_11 (by have y := (nI_eq (a := c) (b := xs.length) (by omega) (by omega)).mpr z; exact y)
    refine aw_iconst (n := 15) (v := 1) dJ30_hasNext_14 (by decide) rfl ?_
    refine aw_goto (tgt := 19) dJ30_hasNext_15 (by decide) ?_
    exact aw_zret dJ30_hasNext_19 rfl (by decide) ⟨congrArg some (congrArg Value.int (by simp [bI]; omega)), rfl⟩ ⟨Nat.zero_le _, Nat.zero_le _⟩

abbrev kJ30_checkForComodification : aK := (yJ30_checkForComodification, cJ30_checkForComodification, 1, (Option.none : Option Jvm.ClassFile.FieldType), [])
theorem hcJ30_checkForComodification : kJ30_checkForComodification.1.cls ≠ "java/lang/invoke/MethodHandle" ∧ kJ30_checkForComodification.1.cls ≠ "java/lang/invoke/VarHandle" ∧ (parseMethodDescriptor kJ30_checkForComodification.1.desc).map (fun d => d.parameters.length) = some 0 := ⟨by decide, by decide, by decide +kernel⟩
theorem ca_chk (G : aG) (h : hH) (o a : Nat) (mc : Int32) (xs : List Nat) (hL : isALm G h o a mc xs) (it c : Nat) (l : Int32) (hI : h.2 it = some (hob 30 [.int (nI c), .int l, .int mc, .ref o])) (hc : c ≤ xs.length) : Con G kJ30_checkForComodification [.ref it] h ((1, 0, 0, 0), (fun r h1 => r = none ∧ h = h1), nX) := by
  obtain ⟨cap, f, hO, hA, hlen, hcap, hf, hz⟩ := hL
  refine Con.of (plainFor_of_name rfl) rfl (Nat.le_of_ble_eq_true rfl) ?_
  refine AW.eq (lv2 := [(0, .ref it)]) (s2 := []) rfl rfl rfl rfl rfl ?_
  refine aw_know (fun gd hi => ?_)
  have lt_it : it < h.1 := hi.2.1 _ _ hI
  have lt_o : o < h.1 := hi.2.1 _ _ hO
  have lt_a : a < h.1 := hi.2.1 _ _ hA
  refine aw_aload_n (n := 1) dJ30_checkForComodification_0 rfl 0 rfl rfl ?_
  refine aw_getf (n := 4) (v := .ref o) (C0 := RJ30) (T := TJ30) dJ30_checkForComodification_1 rfl 3 q2096 (Or.inl rfl) hI rfl rfl ?_
  refine aw_getf (n := 7) (v := .int mc) (C0 := RJ2) (T := TJ2) dJ30_checkForComodification_4 rfl 0 q202 (Or.inr q203) hO rfl rfl ?_
  refine aw_aload_n (n := 8) dJ30_checkForComodification_7 rfl 0 rfl rfl ?_
  refine aw_getf (n := 11) (v := .int mc) (C0 := RJ30) (T := TJ30) dJ30_checkForComodification_8 rfl 2 q2095 (Or.inl rfl) hI rfl rfl ?_
  refine aw_icmp_eq (n := 14) (tgt := 22) dJ30_checkForComodification_11 (by decide) rfl (fun c_11 => ?_) (fun c_11 => ?_)
  · skip
    exact aw_vret dJ30_checkForComodification_22 rfl ⟨rfl, rfl⟩ ⟨Nat.zero_le _, Nat.zero_le _⟩
  · skip
    exact absurd rfl c_11

abbrev kJ30_next : aK := (yJ30_next, cJ30_next, 3, (Option.some (Jvm.ClassFile.FieldType.object "java/lang/Object")), [])
theorem hcJ30_next : kJ30_next.1.cls ≠ "java/lang/invoke/MethodHandle" ∧ kJ30_next.1.cls ≠ "java/lang/invoke/VarHandle" ∧ (parseMethodDescriptor kJ30_next.1.desc).map (fun d => d.parameters.length) = some 0 := ⟨by decide, by decide, by decide +kernel⟩
theorem ca_next (G : aG) (h : hH) (o a : Nat) (mc : Int32) (xs : List Nat) (hL : isALm G h o a mc xs) (it c : Nat) (l : Int32) (hI : h.2 it = some (hob 30 [.int (nI c), .int l, .int mc, .ref o])) (hc : c < xs.length) (hbi : gB G ≤ it) : Con G kJ30_next [.ref it] h ((2, 20, 0, 0), (fun r h1 => r = some (.ref (xs.getD c 0)) ∧ h1.2 it = some (hob 30 [.int (nI (c + 1)), .int (nI c), .int mc, .ref o]) ∧ Fr (fun q => q = it) h h1 ∧ h1.1 = h.1), nX) := by
  have hL0 := hL
  obtain ⟨cap, f, hO, hA, hlen, hcap, hf, hz⟩ := hL
  refine Con.of (plainFor_of_name rfl) rfl (Nat.le_of_ble_eq_true rfl) ?_
  refine AW.eq (lv2 := [(0, .ref it)]) (s2 := []) rfl rfl rfl rfl rfl ?_
  refine aw_know (fun gd hi => ?_)
  have lt_it : it < h.1 := hi.2.1 _ _ hI
  have lt_o : o < h.1 := hi.2.1 _ _ hO
  have lt_a : a < h.1 := hi.2.1 _ _ hA
  refine aw_aload_n (n := 1) dJ30_next_0 rfl 0 rfl rfl ?_
  refine aw_callV (n := 4) (C0 := RJ30) (As := []) (rest := []) (K2 := kJ30_checkForComodification) dJ30_next_1 q2125 q2126 q2127 q167 q2128 ⟨rfl, hcJ30_checkForComodification⟩ rfl hI (ca_chk G h o a mc xs hL0 it c l hI (Nat.le_of_lt hc)) rfl (Nat.le_of_ble_eq_true rfl) ⟨Nat.le_of_ble_eq_true rfl, Nat.le_of_ble_eq_true rfl⟩ ⟨by first | omega | (dsimp only; omega) | decide, by first | omega | (dsimp only; omega) | decide⟩ (fun _ _ _ z => z.elim) rfl (fun r_1 h_1 q_1 => ?_)
  obtain ⟨rfl, rfl⟩ := q_1
  refine AW.sts (st' := []) rfl ?_
  refine aw_aload_n (n := 5) dJ30_next_4 rfl 0 rfl rfl ?_
  refine aw_getf (n := 8) (v := .int (nI c)) (C0 := RJ30) (T := TJ30) dJ30_next_5 rfl 0 q2093 (Or.inl rfl) hI rfl rfl ?_
  refine aw_istore_n (n := 9) (lv' := [(1, .int (nI c)), (0, .ref it)]) dJ30_next_8 rfl (by decide) rfl rfl ?_
  refine aw_iload_n (n := 10) dJ30_next_9 rfl 0 rfl rfl ?_
  refine aw_aload_n (n := 11) dJ30_next_10 rfl 1 rfl rfl ?_
  refine aw_getf (n := 14) (v := .ref o) (C0 := RJ30) (T := TJ30) dJ30_next_11 rfl 3 q2096 (Or.inl rfl) hI rfl rfl ?_
  refine aw_getfN (n := 17) (v := .int (nI xs.length)) (C0 := RJ2) (T := TJ2) dJ30_next_14 rfl 2 q199 (Or.inl rfl) in_J2 hO rfl rfl ?_
  refine aw_icmp_lt (n := 20) (tgt := 28) dJ30_next_17 (by decide) rfl (fun c_17 => ?_) (fun c_17 => ?_)
  · skip
    have n_17 : c < xs.length := (nI_ltI (a := c) (b := xs.length) (by omega) (by omega)).mp (by exact c_17)
    refine aw_aload_n (n := 29) dJ30_next_28 rfl 1 rfl rfl ?_
    refine aw_getf (n := 32) (v := .ref o) (C0 := RJ30) (T := TJ30) dJ30_next_29 rfl 3 q2096 (Or.inl rfl) hI rfl rfl ?_
    refine aw_getf (n := 35) (v := .ref a) (C0 := RJ2) (T := TJ2) dJ30_next_32 rfl 1 q198 (Or.inl rfl) hO rfl rfl ?_
    refine aw_astore_n (n := 36) (lv' := [(2, .ref a), (1, .int (nI c)), (0, .ref it)]) dJ30_next_35 rfl (by decide) rfl rfl ?_
    refine aw_iload_n (n := 37) dJ30_next_36 rfl 1 rfl rfl ?_
    refine aw_aload_n (n := 38) dJ30_next_37 rfl 0 rfl rfl ?_
    refine aw_alen (n := 39) (v := nI cap) dJ30_next_38 rfl hA rfl rfl ?_
    refine aw_icmp_lt (n := 42) (tgt := 50) dJ30_next_39 (by decide) rfl (fun c_39 => ?_) (fun c_39 => ?_)
    · skip
      have n_39 : c < cap := (nI_ltI (a := c) (b := cap) (by omega) (by omega)).mp (by exact c_39)
      refine aw_aload_n (n := 51) dJ30_next_50 rfl 2 rfl rfl ?_
      refine aw_iload_n (n := 52) dJ30_next_51 rfl 1 rfl rfl ?_
      refine aw_iconst (n := 53) (v := 1) dJ30_next_52 (by decide) rfl ?_
      refine aw_iadd (n := 54) dJ30_next_53 rfl ?_
      refine AW.sts (st' := [.int (nI (c + 1)), .ref it]) (by rw [show (nI c) + 1 = nI (c + 1) from (nI_1 _)]) ?_
      refine aw_putK (n := 57) (fs' := [.int (nI (c + 1)), .int l, .int mc, .ref o]) (C0 := RJ30) (T := TJ30) (N := 4) (ci := 30) dJ30_next_54 rfl in_J30 tyJ30 tyJ30_ok nmJ30 q2088 0 (by decide) q2093 (Or.inl rfl) (by first | exact Or.inl rfl | exact Or.inr ⟨rfl, rfl, rfl⟩) rfl hI (by omega) rfl rfl (Nat.le_of_ble_eq_true rfl) rfl rfl (fun y_1 w_1 => ?_)
      have zy_1 : y_1.1 = h.1 := w_1.2.2
      refine aw_aload_n (n := 58) dJ30_next_57 rfl 0 rfl rfl ?_
      refine aw_aload_n (n := 59) dJ30_next_58 rfl 2 rfl rfl ?_
      refine aw_iload_n (n := 60) dJ30_next_59 rfl 1 rfl rfl ?_
      refine aw_dup_x1 (n := 61) dJ30_next_60 rfl rfl rfl ?_
      refine aw_putK (n := 64) (fs' := [.int (nI (c + 1)), .int (nI c), .int mc, .ref o]) (C0 := RJ30) (T := TJ30) (N := 4) (ci := 30) dJ30_next_61 rfl in_J30 tyJ30 tyJ30_ok nmJ30 q2088 1 (by decide) q2094 (Or.inl rfl) (by first | exact Or.inl rfl | exact Or.inr ⟨rfl, rfl, rfl⟩) rfl w_1.1 (by omega) rfl rfl (Nat.le_of_ble_eq_true rfl) rfl rfl (fun y_2 w_2 => ?_)
      have zy_2 : y_2.1 = y_1.1 := w_2.2.2
      have f_3 : y_2.2 a = some (har 4 cap f) := (w_2.k (ne_kind hA hI ar_ob) (w_1.k (ne_kind hA hI ar_ob) hA))
      refine aw_aald (n := 65) (v := .ref (xs.getD c 0)) dJ30_next_64 rfl rfl c rfl f_3 (by omega) (by omega) (hf _ (by omega)) rfl ?_
      exact aw_aret dJ30_next_65 rfl (Or.inl ⟨_, rfl⟩) (Or.inr ⟨_, rfl⟩) ⟨rfl, w_2.1, (Fr.w (Fr.w Fr.rf w_1 (Or.inl rfl)) w_2 (Or.inl rfl)), by omega⟩ ⟨Nat.zero_le _, Nat.zero_le _⟩
    · skip
      have n_39 : ¬ (c < cap) := fun z => c_39 (by have y := (nI_ltI (a := c) (b := cap) (by omega) (by omega)).mpr z; exact y)
      exfalso; omega
  · skip
    have n_17 : ¬ (c < xs.length) := fun z => c_17 (by have y := (nI_ltI (a := c) (b := xs.length) (by omega) (by omega)).mpr z; exact y)
    exfalso; omega

end
