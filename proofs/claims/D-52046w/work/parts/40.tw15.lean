/-! The twin: tokens. -/
section
set_option maxRecDepth 100000
abbrev kX3_is : aK := (yX3_is, cX3_is, 5, (Option.some Jvm.ClassFile.FieldType.boolean), [])
theorem hcX3_is : kX3_is.1.cls ≠ "java/lang/invoke/MethodHandle" ∧ kX3_is.1.cls ≠ "java/lang/invoke/VarHandle" ∧ (parseMethodDescriptor kX3_is.1.desc).map (fun d => d.parameters.length) = some 2 := ⟨by decide, by decide, by decide +kernel⟩
theorem ct_is (G : aG) (h : hH)  (b : Nat) (ms : tM) (hb : gB G ≤ b) (hT : TW b h ms) (T : Tv) (t : Nat) (hk : tkAt ms T t) (a : Nat) (bs : List Nat) (hS : isStr h.2 a bs) (hlo : loS bs) : Con G kX3_is [.ref b, .int (nI t), .ref a] h ((5, 85, 0, 0), (fun r h1 => r = some (.int (bI (seesB T t bs))) ∧ h = h1), nX) := by
  have hk1 := hk.1; have hk2 := hk.2.1; have hk6 := hk.2.2.2.2.2.1; have hk7 := hk.2.2.2.2.2.2
  have hl64 := hlo.1
  obtain ⟨v, w9, z9, f, hA, hV, hf⟩ := hS
  refine Con.of (plainFor_of_name rfl) rfl (Nat.le_of_ble_eq_true rfl) ?_
  refine AW.eq (lv2 := [(0, .ref b), (1, .int (nI t)), (2, .ref a)]) (s2 := []) rfl rfl rfl rfl rfl ?_
  suffices J_45 : ∀ (z : Bool) (hz : z = ((T.1 t == 1 || T.1 t == 3) && ((T.2.2 t).length == bs.length))), AW G kX3_is ((5, 85, 0, 0), (fun r h1 => r = some (.int (bI (seesB T t bs))) ∧ h = h1), nX) 45 [(0, .ref b), (1, .int (nI t)), (2, .ref a)] [.int (bI z)] h 0 0 by
    refine aw_aload_n (n := 1) dX3_is_0 rfl 0 rfl rfl ?_
    refine aw_getf (n := 4) (v := .ref (b + 2)) (C0 := RX3) (T := TX3) dX3_is_1 rfl 4 q2645 (Or.inl rfl) hT.1 rfl rfl ?_
    refine aw_iload_n (n := 5) dX3_is_4 rfl 1 rfl rfl ?_
    refine aw_iald (n := 6) (v := .int (ms.2.1 4 t)) dX3_is_5 rfl t rfl hT.a4 (by omega) (by decide) rfl rfl ?_
    refine aw_iconst (n := 7) (v := 1) dX3_is_6 (by decide) rfl ?_
    refine aw_icmp_eq (n := 10) (tgt := 20) dX3_is_7 (by decide) rfl (fun c_7 => ?_) (fun c_7 => ?_)
    · skip
      have n_7 : (T.1 t) = 1 := (nI_eq (a := (T.1 t)) (b := 1) (by omega) (by omega)).mp (by rw [← (hk.2.2.1 : (ms.2.1 4 t) = nI (T.1 t)), ← ((by rfl) : (1 : Int32) = nI 1)]; exact c_7)
      refine aw_aload_n (n := 21) dX3_is_20 rfl 0 rfl rfl ?_
      refine aw_getf (n := 24) (v := .ref (b + 4)) (C0 := RX3) (T := TX3) dX3_is_21 rfl 6 q2647 (Or.inl rfl) hT.1 rfl rfl ?_
      refine aw_iload_n (n := 25) dX3_is_24 rfl 1 rfl rfl ?_
      refine aw_iald (n := 26) (v := .int (ms.2.1 6 t)) dX3_is_25 rfl t rfl hT.a6 (by omega) (by decide) rfl rfl ?_
      refine aw_aload_n (n := 27) dX3_is_26 rfl 0 rfl rfl ?_
      refine aw_getf (n := 30) (v := .ref (b + 3)) (C0 := RX3) (T := TX3) dX3_is_27 rfl 5 q2646 (Or.inl rfl) hT.1 rfl rfl ?_
      refine aw_iload_n (n := 31) dX3_is_30 rfl 1 rfl rfl ?_
      refine aw_iald (n := 32) (v := .int (ms.2.1 5 t)) dX3_is_31 rfl t rfl hT.a5 (by omega) (by decide) rfl rfl ?_
      refine aw_isub (n := 33) dX3_is_32 rfl ?_
      refine aw_aload_n (n := 34) dX3_is_33 rfl 2 rfl rfl ?_
      refine aw_callV (n := 37) (C0 := RJ12) (As := []) (rest := [.int ((ms.2.1 6 t) - (ms.2.1 5 t))]) (K2 := kJ12_length) dX3_is_34 q2834 q583 q584 q122 q585 ⟨rfl, hcJ12_length⟩ rfl hA (cs_length G h a v bs.length w9 z9 f hA hV (by omega)) rfl (Nat.le_of_ble_eq_true rfl) ⟨Nat.le_of_ble_eq_true rfl, Nat.le_of_ble_eq_true rfl⟩ ⟨Nat.zero_le _, Nat.zero_le _⟩ (fun _ _ _ z => z.elim) rfl (fun r_34 h_34 q_34 => ?_)
      obtain ⟨rfl, rfl⟩ := q_34
      refine AW.sts (st' := [.int (nI bs.length), .int ((ms.2.1 6 t) - (ms.2.1 5 t))]) rfl ?_
      refine aw_icmp_ne (n := 40) (tgt := 44) dX3_is_37 (by decide) rfl (fun c_37 => ?_) (fun c_37 => ?_)
      · skip
        have n_37 : ¬ (((T.2.2 t).length) = bs.length) := fun z => c_37 (by have y := (nI_eq (a := (T.2.2 t).length) (b := bs.length) (by omega) (by omega)).mpr z; rw [← ((by rw [hk.2.2.2.1, hk.2.2.2.2.1]; exact nI_dif _ _) : ((ms.2.1 6 t) - (ms.2.1 5 t)) = nI ((T.2.2 t).length))] at y; exact y)
        refine aw_iconst (n := 45) (v := 0) dX3_is_44 (by decide) rfl ?_
        exact AW.lvs (lv' := [(0, .ref b), (1, .int (nI t)), (2, .ref a)]) (AW.eq (lv2 := _) (rfl) (rfl) rfl rfl rfl (J_45 false (by simp [c_7, n_37, c_37, n_7]))) (by simp)
      · skip
        have n_37 : ((T.2.2 t).length) = bs.length := (nI_eq (a := (T.2.2 t).length) (b := bs.length) (by omega) (by omega)).mp (by rw [← ((by rw [hk.2.2.2.1, hk.2.2.2.2.1]; exact nI_dif _ _) : ((ms.2.1 6 t) - (ms.2.1 5 t)) = nI ((T.2.2 t).length))]; exact c_37)
        refine aw_iconst (n := 41) (v := 1) dX3_is_40 (by decide) rfl ?_
        refine aw_goto (tgt := 45) dX3_is_41 (by decide) ?_
        exact AW.lvs (lv' := [(0, .ref b), (1, .int (nI t)), (2, .ref a)]) (AW.eq (lv2 := _) (rfl) (rfl) rfl rfl rfl (J_45 true (by simp [c_7, c_37, n_7, n_37]))) (by simp)
    · skip
      have n_7 : ¬ ((T.1 t) = 1) := fun z => c_7 (by have y := (nI_eq (a := (T.1 t)) (b := 1) (by omega) (by omega)).mpr z; rw [← (hk.2.2.1 : (ms.2.1 4 t) = nI (T.1 t)), ← ((by rfl) : (1 : Int32) = nI 1)] at y; exact y)
      refine aw_aload_n (n := 11) dX3_is_10 rfl 0 rfl rfl ?_
      refine aw_getf (n := 14) (v := .ref (b + 2)) (C0 := RX3) (T := TX3) dX3_is_11 rfl 4 q2645 (Or.inl rfl) hT.1 rfl rfl ?_
      refine aw_iload_n (n := 15) dX3_is_14 rfl 1 rfl rfl ?_
      refine aw_iald (n := 16) (v := .int (ms.2.1 4 t)) dX3_is_15 rfl t rfl hT.a4 (by omega) (by decide) rfl rfl ?_
      refine aw_iconst (n := 17) (v := 3) dX3_is_16 (by decide) rfl ?_
      refine aw_icmp_ne (n := 20) (tgt := 44) dX3_is_17 (by decide) rfl (fun c_17 => ?_) (fun c_17 => ?_)
      · skip
        have n_17 : ¬ ((T.1 t) = 3) := fun z => c_17 (by have y := (nI_eq (a := (T.1 t)) (b := 3) (by omega) (by omega)).mpr z; rw [← (hk.2.2.1 : (ms.2.1 4 t) = nI (T.1 t)), ← ((by rfl) : (3 : Int32) = nI 3)] at y; exact y)
        refine aw_iconst (n := 45) (v := 0) dX3_is_44 (by decide) rfl ?_
        exact AW.lvs (lv' := [(0, .ref b), (1, .int (nI t)), (2, .ref a)]) (AW.eq (lv2 := _) (rfl) (rfl) rfl rfl rfl (J_45 false (by simp [n_7, c_7, n_17, c_17]))) (by simp)
      · skip
        have n_17 : (T.1 t) = 3 := (nI_eq (a := (T.1 t)) (b := 3) (by omega) (by omega)).mp (by rw [← (hk.2.2.1 : (ms.2.1 4 t) = nI (T.1 t)), ← ((by rfl) : (3 : Int32) = nI 3)]; exact c_17)
        refine aw_aload_n (n := 21) dX3_is_20 rfl 0 rfl rfl ?_
        refine aw_getf (n := 24) (v := .ref (b + 4)) (C0 := RX3) (T := TX3) dX3_is_21 rfl 6 q2647 (Or.inl rfl) hT.1 rfl rfl ?_
        refine aw_iload_n (n := 25) dX3_is_24 rfl 1 rfl rfl ?_
        refine aw_iald (n := 26) (v := .int (ms.2.1 6 t)) dX3_is_25 rfl t rfl hT.a6 (by omega) (by decide) rfl rfl ?_
        refine aw_aload_n (n := 27) dX3_is_26 rfl 0 rfl rfl ?_
        refine aw_getf (n := 30) (v := .ref (b + 3)) (C0 := RX3) (T := TX3) dX3_is_27 rfl 5 q2646 (Or.inl rfl) hT.1 rfl rfl ?_
        refine aw_iload_n (n := 31) dX3_is_30 rfl 1 rfl rfl ?_
        refine aw_iald (n := 32) (v := .int (ms.2.1 5 t)) dX3_is_31 rfl t rfl hT.a5 (by omega) (by decide) rfl rfl ?_
        refine aw_isub (n := 33) dX3_is_32 rfl ?_
        refine aw_aload_n (n := 34) dX3_is_33 rfl 2 rfl rfl ?_
        refine aw_callV (n := 37) (C0 := RJ12) (As := []) (rest := [.int ((ms.2.1 6 t) - (ms.2.1 5 t))]) (K2 := kJ12_length) dX3_is_34 q2834 q583 q584 q122 q585 ⟨rfl, hcJ12_length⟩ rfl hA (cs_length G h a v bs.length w9 z9 f hA hV (by omega)) rfl (Nat.le_of_ble_eq_true rfl) ⟨Nat.le_of_ble_eq_true rfl, Nat.le_of_ble_eq_true rfl⟩ ⟨Nat.zero_le _, Nat.zero_le _⟩ (fun _ _ _ z => z.elim) rfl (fun r_34 h_34 q_34 => ?_)
        obtain ⟨rfl, rfl⟩ := q_34
        refine AW.sts (st' := [.int (nI bs.length), .int ((ms.2.1 6 t) - (ms.2.1 5 t))]) rfl ?_
        refine aw_icmp_ne (n := 40) (tgt := 44) dX3_is_37 (by decide) rfl (fun c_37_2 => ?_) (fun c_37_2 => ?_)
        · skip
          have n_37_2 : ¬ (((T.2.2 t).length) = bs.length) := fun z => c_37_2 (by have y := (nI_eq (a := (T.2.2 t).length) (b := bs.length) (by omega) (by omega)).mpr z; rw [← ((by rw [hk.2.2.2.1, hk.2.2.2.2.1]; exact nI_dif _ _) : ((ms.2.1 6 t) - (ms.2.1 5 t)) = nI ((T.2.2 t).length))] at y; exact y)
          refine aw_iconst (n := 45) (v := 0) dX3_is_44 (by decide) rfl ?_
          exact AW.lvs (lv' := [(0, .ref b), (1, .int (nI t)), (2, .ref a)]) (AW.eq (lv2 := _) (rfl) (rfl) rfl rfl rfl (J_45 false (by simp [n_7, c_7, c_17, n_37_2, c_37_2, n_17]))) (by simp)
        · skip
          have n_37_2 : ((T.2.2 t).length) = bs.length := (nI_eq (a := (T.2.2 t).length) (b := bs.length) (by omega) (by omega)).mp (by rw [← ((by rw [hk.2.2.2.1, hk.2.2.2.2.1]; exact nI_dif _ _) : ((ms.2.1 6 t) - (ms.2.1 5 t)) = nI ((T.2.2 t).length))]; exact c_37_2)
          refine aw_iconst (n := 41) (v := 1) dX3_is_40 (by decide) rfl ?_
          refine aw_goto (tgt := 45) dX3_is_41 (by decide) ?_
          exact AW.lvs (lv' := [(0, .ref b), (1, .int (nI t)), (2, .ref a)]) (AW.eq (lv2 := _) (rfl) (rfl) rfl rfl rfl (J_45 true (by simp [n_7, c_7, c_17, c_37_2, n_17, n_37_2]))) (by simp)
  intro z hz
  refine aw_istore_n (n := 46) (lv' := [(3, .int (bI z)), (0, .ref b), (1, .int (nI t)), (2, .ref a)]) dX3_is_45 rfl (by decide) rfl rfl ?_
  refine aw_iconst (n := 47) (v := 0) dX3_is_46 (by decide) rfl ?_
  refine aw_istore (n := 49) (lv' := [(4, .int 0), (3, .int (bI z)), (0, .ref b), (1, .int (nI t)), (2, .ref a)]) dX3_is_47 (by decide) rfl rfl ?_
  suffices L_49 : ∀ (m_ : Nat) (c : Nat) (hc : c ≤ bs.length), bs.length - c < m_ → AW G kX3_is ((5, 85, 0, 0), (fun r h1 => r = some (.int (bI (seesB T t bs))) ∧ h = h1), nX) 49 [(4, .int (nI c)), (3, .int (bI (z && eqN (fun j => (T.2.2 t).getD j 0) (fun j => bs.getD j 0) c))), (0, .ref b), (1, .int (nI t)), (2, .ref a)] [] h 0 0 from
    AW.lvs (lv' := [(4, .int 0), (3, .int (bI z)), (0, .ref b), (1, .int (nI t)), (2, .ref a)]) (AW.eq (lv2 := _) (by rw [eqN, Bool.and_true]; rfl) rfl rfl rfl rfl (L_49 _ 0 (by omega) (Nat.lt_succ_self _))) (by simp)
  intro m_
  induction m_ with
  | zero => intro c hc h_m; exact absurd h_m (Nat.not_lt_zero _)
  | succ m_ ih_49 =>
    intro c hc h_m
    refine aw_iload (n := 51) dX3_is_49 0 rfl rfl ?_
    refine aw_aload_n (n := 52) dX3_is_51 rfl 4 rfl rfl ?_
    refine aw_callV (n := 55) (C0 := RJ12) (As := []) (rest := [.int (nI c)]) (K2 := kJ12_length) dX3_is_52 q2834 q583 q584 q122 q585 ⟨rfl, hcJ12_length⟩ rfl hA (cs_length G h a v bs.length w9 z9 f hA hV (by omega)) rfl (Nat.le_of_ble_eq_true rfl) ⟨Nat.le_of_ble_eq_true rfl, Nat.le_of_ble_eq_true rfl⟩ ⟨Nat.zero_le _, Nat.zero_le _⟩ (fun _ _ _ z => z.elim) rfl (fun r_52 h_52 q_52 => ?_)
    obtain ⟨rfl, rfl⟩ := q_52
    refine AW.sts (st' := [.int (nI bs.length), .int (nI c)]) rfl ?_
    refine aw_icmp_ge (n := 58) (tgt := 97) dX3_is_55 (by decide) rfl (fun c_55 => ?_) (fun c_55 => ?_)
    · skip
      have n_55 : bs.length ≤ c := (nI_leI (a := bs.length) (b := c) (by omega) (by omega)).mp (by exact c_55)
      refine aw_iload_n (n := 98) dX3_is_97 rfl 1 rfl rfl ?_
      exact aw_zret dX3_is_98 rfl (bI_le _) ⟨congrArg some (congrArg Value.int (congrArg bI (by rw [hz]; exact sees_end (by omega)))), rfl⟩ ⟨Nat.zero_le _, Nat.zero_le _⟩
    · skip
      have n_55 : ¬ (bs.length ≤ c) := fun z => c_55 (by have y := (nI_leI (a := bs.length) (b := c) (by omega) (by omega)).mpr z; exact y)
      refine aw_iload_n (n := 59) dX3_is_58 rfl 1 rfl rfl ?_
      refine aw_if_eq (n := 62) (tgt := 97) dX3_is_59 (by decide) rfl (fun c_59 => ?_) (fun c_59 => ?_)
      · skip
        have b_59 : (z && eqN (fun j => (T.2.2 t).getD j 0) (fun j => bs.getD j 0) c) = false := (bI_0 _).mp c_59
        refine aw_iload_n (n := 98) dX3_is_97 rfl 1 rfl rfl ?_
        exact aw_zret dX3_is_98 rfl (bI_le _) ⟨congrArg some (congrArg Value.int (congrArg bI (b_59.trans (sees_cut hc (by rw [← hz]; exact b_59)).symm))), rfl⟩ ⟨Nat.zero_le _, Nat.zero_le _⟩
      · skip
        have b_59 : (z && eqN (fun j => (T.2.2 t).getD j 0) (fun j => bs.getD j 0) c) = true := Bool.of_not_eq_false (fun e => c_59 ((bI_0 _).mpr e))
        have hl9 : (T.2.2 t).length = bs.length := by rw [hz] at b_59; simp only [Bool.and_eq_true, beq_iff_eq] at b_59; exact b_59.1.2
        have hbl := hlo.2 c (by omega); have hxl := (hk7 c (by omega)).2
        refine aw_aload_n (n := 63) dX3_is_62 rfl 2 rfl rfl ?_
        refine aw_getf (n := 66) (v := .ref (b + 1)) (C0 := RX3) (T := TX3) dX3_is_63 rfl 1 q2642 (Or.inl rfl) hT.1 rfl rfl ?_
        refine aw_aload_n (n := 67) dX3_is_66 rfl 2 rfl rfl ?_
        refine aw_getf (n := 70) (v := .ref (b + 3)) (C0 := RX3) (T := TX3) dX3_is_67 rfl 5 q2646 (Or.inl rfl) hT.1 rfl rfl ?_
        refine aw_iload_n (n := 71) dX3_is_70 rfl 3 rfl rfl ?_
        refine aw_iald (n := 72) (v := .int (ms.2.1 5 t)) dX3_is_71 rfl t rfl hT.a5 (by omega) (by decide) rfl rfl ?_
        refine aw_iload (n := 74) dX3_is_72 0 rfl rfl ?_
        refine aw_iadd (n := 75) dX3_is_74 rfl ?_
        refine aw_iald (n := 76) (v := .int (ms.2.1 1 ((T.2.1 t) + c))) dX3_is_75 rfl ((T.2.1 t) + c) (by rw [show ms.2.1 5 t = nI (T.2.1 t) from hk.2.2.2.1, show nI c = nI c from rfl]; exact nI_add _ _) hT.a1 (by omega) (by decide) rfl rfl ?_
        refine aw_aload_n (n := 77) dX3_is_76 rfl 4 rfl rfl ?_
        refine aw_iload (n := 79) dX3_is_77 0 rfl rfl ?_
        refine aw_callV (n := 82) (C0 := RJ12) (As := [.int (nI c)]) (rest := [.int (ms.2.1 1 ((T.2.1 t) + c))]) (K2 := kJ12_charAt) dX3_is_79 q2835 q663 q664 q122 q665 ⟨rfl, hcJ12_charAt⟩ rfl hA (cs_charAt G h a v bs.length w9 z9 f hA hV (by omega) c (bs.getD c 0) (by omega) (hlo.2 c (by omega)) (by rw [hf c (by omega), sb_lo _ (hlo.2 c (by omega))])) rfl (Nat.le_of_ble_eq_true rfl) ⟨Nat.le_of_ble_eq_true rfl, Nat.le_of_ble_eq_true rfl⟩ ⟨Nat.zero_le _, Nat.zero_le _⟩ (fun _ _ _ z => z.elim) rfl (fun r_79 h_79 q_79 => ?_)
        obtain ⟨rfl, rfl⟩ := q_79
        refine AW.sts (st' := [.int (nI (bs.getD c 0)), .int (ms.2.1 1 ((T.2.1 t) + c))]) rfl ?_
        refine aw_icmp_ne (n := 85) (tgt := 89) dX3_is_82 (by decide) rfl (fun c_82 => ?_) (fun c_82 => ?_)
        · skip
          have n_82 : ¬ (((T.2.2 t).getD c 0) = (bs.getD c 0)) := fun z => c_82 (by have y := (nI_eq (a := ((T.2.2 t).getD c 0)) (b := (bs.getD c 0)) (by omega) (by omega)).mpr z; rw [← ((hk7 c (by omega)).1 : (ms.2.1 1 ((T.2.1 t) + c)) = nI ((T.2.2 t).getD c 0))] at y; exact y)
          refine aw_iconst (n := 90) (v := 0) dX3_is_89 (by decide) rfl ?_
          refine aw_istore_n (n := 91) (lv' := [(3, .int 0), (4, .int (nI c)), (0, .ref b), (1, .int (nI t)), (2, .ref a)]) dX3_is_90 rfl (by decide) rfl rfl ?_
          refine aw_iinc (n := 94) (v := nI (c + 1)) (lv' := [(4, .int (nI (c + 1))), (3, .int 0), (0, .ref b), (1, .int (nI t)), (2, .ref a)]) dX3_is_91 1 rfl (by rw [show nI c = nI c from rfl]; exact nI_1 _) (by decide) rfl rfl ?_
          refine aw_goto (tgt := 49) dX3_is_94 (by decide) ?_
          exact AW.lvs (lv' := [(4, .int (nI (c + 1))), (3, .int 0), (0, .ref b), (1, .int (nI t)), (2, .ref a)]) (AW.eq (lv2 := _) (by rw [show (z && eqN (fun j => (T.2.2 t).getD j 0) (fun j => bs.getD j 0) (c + 1)) = false from by rw [eqN, ← Bool.and_assoc, b_59, Bool.true_and]; first | exact beq_iff_eq.mpr n_82 | exact beq_false_of_ne n_82]; rfl) rfl rfl rfl rfl (ih_49 (c + 1) (by omega) (by omega))) (by simp)
        · skip
          have n_82 : ((T.2.2 t).getD c 0) = (bs.getD c 0) := (nI_eq (a := ((T.2.2 t).getD c 0)) (b := (bs.getD c 0)) (by omega) (by omega)).mp (by rw [← ((hk7 c (by omega)).1 : (ms.2.1 1 ((T.2.1 t) + c)) = nI ((T.2.2 t).getD c 0))]; exact c_82)
          refine aw_iconst (n := 86) (v := 1) dX3_is_85 (by decide) rfl ?_
          refine aw_goto (tgt := 90) dX3_is_86 (by decide) ?_
          refine aw_istore_n (n := 91) (lv' := [(3, .int 1), (4, .int (nI c)), (0, .ref b), (1, .int (nI t)), (2, .ref a)]) dX3_is_90 rfl (by decide) rfl rfl ?_
          refine aw_iinc (n := 94) (v := nI (c + 1)) (lv' := [(4, .int (nI (c + 1))), (3, .int 1), (0, .ref b), (1, .int (nI t)), (2, .ref a)]) dX3_is_91 1 rfl (by rw [show nI c = nI c from rfl]; exact nI_1 _) (by decide) rfl rfl ?_
          refine aw_goto (tgt := 49) dX3_is_94 (by decide) ?_
          exact AW.lvs (lv' := [(4, .int (nI (c + 1))), (3, .int 1), (0, .ref b), (1, .int (nI t)), (2, .ref a)]) (AW.eq (lv2 := _) (by rw [show (z && eqN (fun j => (T.2.2 t).getD j 0) (fun j => bs.getD j 0) (c + 1)) = true from by rw [eqN, ← Bool.and_assoc, b_59, Bool.true_and]; first | exact beq_iff_eq.mpr n_82 | exact beq_false_of_ne n_82]; rfl) rfl rfl rfl rfl (ih_49 (c + 1) (by omega) (by omega))) (by simp)

abbrev kX3_which : aK := (yX3_which, cX3_which, 5, (Option.some Jvm.ClassFile.FieldType.int), [])
theorem hcX3_which : kX3_which.1.cls ≠ "java/lang/invoke/MethodHandle" ∧ kX3_which.1.cls ≠ "java/lang/invoke/VarHandle" ∧ (parseMethodDescriptor kX3_which.1.desc).map (fun d => d.parameters.length) = some 2 := ⟨by decide, by decide, by decide +kernel⟩
theorem ct_which (G : aG) (h : hH)  (b : Nat) (ms : tM) (hb : gB G ≤ b) (hT : TW b h ms) (T : Tv) (t : Nat) (hk : tkAt ms T t) (wa9 : Nat) (ws : List (List Nat)) (hW : isWl h.2 wa9 ws) (hn : ws.length ≤ 64) : Con G kX3_which [.ref b, .int (nI t), .ref wa9] h ((6, 109, 0, 0), (fun r h1 => r = some (.int (whT T t ws)) ∧ h = h1), nX) := by
  obtain ⟨f, wa, hA, hE⟩ := hW
  refine Con.of (plainFor_of_name rfl) rfl (Nat.le_of_ble_eq_true rfl) ?_
  refine AW.eq (lv2 := [(0, .ref b), (1, .int (nI t)), (2, .ref wa9)]) (s2 := []) rfl rfl rfl rfl rfl ?_
  refine aw_iconst (n := 1) (v := (-1)) dX3_which_0 (by decide) rfl ?_
  refine aw_istore_n (n := 2) (lv' := [(3, .int (-1)), (0, .ref b), (1, .int (nI t)), (2, .ref wa9)]) dX3_which_1 rfl (by decide) rfl rfl ?_
  refine aw_iconst (n := 3) (v := 0) dX3_which_2 (by decide) rfl ?_
  refine aw_istore (n := 5) (lv' := [(4, .int 0), (3, .int (-1)), (0, .ref b), (1, .int (nI t)), (2, .ref wa9)]) dX3_which_3 (by decide) rfl rfl ?_
  suffices L_5 : ∀ (m_ : Nat) (c : Nat) (hc : c ≤ ws.length), ws.length - c < m_ → AW G kX3_which ((6, 109, 0, 0), (fun r h1 => r = some (.int (whT T t ws)) ∧ h = h1), nX) 5 [(4, .int (nI c)), (3, .int (fU (fun j => seesB T t (ws.getD j [])) c)), (0, .ref b), (1, .int (nI t)), (2, .ref wa9)] [] h 0 0 from
    AW.lvs (lv' := [(4, .int 0), (3, .int (-1)), (0, .ref b), (1, .int (nI t)), (2, .ref wa9)]) (AW.eq (lv2 := _) (rfl) rfl rfl rfl rfl (L_5 _ 0 (by omega) (Nat.lt_succ_self _))) (by simp)
  intro m_
  induction m_ with
  | zero => intro c hc h_m; exact absurd h_m (Nat.not_lt_zero _)
  | succ m_ ih_5 =>
    intro c hc h_m
    refine aw_iload (n := 7) dX3_which_5 0 rfl rfl ?_
    refine aw_aload_n (n := 8) dX3_which_7 rfl 4 rfl rfl ?_
    refine aw_alen (n := 9) (v := nI ws.length) dX3_which_8 rfl hA rfl rfl ?_
    refine aw_icmp_ge (n := 12) (tgt := 33) dX3_which_9 (by decide) rfl (fun c_9 => ?_) (fun c_9 => ?_)
    · skip
      have n_9 : ws.length ≤ c := (nI_leI (a := ws.length) (b := c) (by omega) (by omega)).mp (by exact c_9)
      refine aw_iload_n (n := 34) dX3_which_33 rfl 1 rfl rfl ?_
      exact aw_iret dX3_which_34 rfl ⟨congrArg some (congrArg Value.int (by rw [whT, show ws.length = c by omega])), rfl⟩ ⟨Nat.zero_le _, Nat.zero_le _⟩
    · skip
      have n_9 : ¬ (ws.length ≤ c) := fun z => c_9 (by have y := (nI_leI (a := ws.length) (b := c) (by omega) (by omega)).mpr z; exact y)
      refine aw_aload_n (n := 13) dX3_which_12 rfl 2 rfl rfl ?_
      refine aw_iload_n (n := 14) dX3_which_13 rfl 3 rfl rfl ?_
      refine aw_aload_n (n := 15) dX3_which_14 rfl 4 rfl rfl ?_
      refine aw_iload (n := 17) dX3_which_15 0 rfl rfl ?_
      refine aw_aald (n := 18) (v := .ref (wa c)) dX3_which_17 rfl rfl c rfl hA (by omega) (by omega) (hE c (by omega)).1 rfl ?_
      refine aw_callV (n := 21) (C0 := RX3) (As := [.int (nI t), .ref (wa c)]) (rest := []) (K2 := kX3_is) dX3_which_18 q2830 q2832 qs51 q113 q2833 ⟨rfl, hcX3_is⟩ rfl hT.1 (ct_is G h b ms hb hT T t hk (wa c) (ws.getD c []) (hE c (by omega)).2.1 (hE c (by omega)).2.2) rfl (Nat.le_of_ble_eq_true rfl) ⟨Nat.le_of_ble_eq_true rfl, Nat.le_of_ble_eq_true rfl⟩ ⟨Nat.zero_le _, Nat.zero_le _⟩ (fun _ _ _ z => z.elim) rfl (fun r_18 h_18 q_18 => ?_)
      obtain ⟨rfl, rfl⟩ := q_18
      refine AW.sts (st' := [.int (bI (seesB T t (ws.getD c [])))]) rfl ?_
      refine aw_if_eq (n := 24) (tgt := 27) dX3_which_21 (by decide) rfl (fun c_21 => ?_) (fun c_21 => ?_)
      · skip
        have b_21 : (seesB T t (ws.getD c [])) = false := (bI_0 _).mp c_21
        refine aw_iinc (n := 30) (v := nI (c + 1)) (lv' := [(4, .int (nI (c + 1))), (3, .int (fU (fun j => seesB T t (ws.getD j [])) c)), (0, .ref b), (1, .int (nI t)), (2, .ref wa9)]) dX3_which_27 0 rfl (by rw [show nI c = nI c from rfl]; exact nI_1 _) (by decide) rfl rfl ?_
        refine aw_goto (tgt := 5) dX3_which_30 (by decide) ?_
        exact AW.lvs (lv' := [(4, .int (nI (c + 1))), (3, .int (fU (fun j => seesB T t (ws.getD j [])) c)), (0, .ref b), (1, .int (nI t)), (2, .ref wa9)]) (AW.eq (lv2 := _) (by first | rw [fU, if_pos b_21] | rw [fU, if_neg (by rw [b_21]; decide)]) rfl rfl rfl rfl (ih_5 (c + 1) (by omega) (by omega))) (by simp)
      · skip
        have b_21 : (seesB T t (ws.getD c [])) = true := Bool.of_not_eq_false (fun e => c_21 ((bI_0 _).mpr e))
        refine aw_iload (n := 26) dX3_which_24 0 rfl rfl ?_
        refine aw_istore_n (n := 27) (lv' := [(3, .int (nI c)), (4, .int (nI c)), (0, .ref b), (1, .int (nI t)), (2, .ref wa9)]) dX3_which_26 rfl (by decide) rfl rfl ?_
        refine aw_iinc (n := 30) (v := nI (c + 1)) (lv' := [(4, .int (nI (c + 1))), (3, .int (nI c)), (0, .ref b), (1, .int (nI t)), (2, .ref wa9)]) dX3_which_27 1 rfl (by rw [show nI c = nI c from rfl]; exact nI_1 _) (by decide) rfl rfl ?_
        refine aw_goto (tgt := 5) dX3_which_30 (by decide) ?_
        exact AW.lvs (lv' := [(4, .int (nI (c + 1))), (3, .int (nI c)), (0, .ref b), (1, .int (nI t)), (2, .ref wa9)]) (AW.eq (lv2 := _) (by first | rw [fU, if_pos b_21] | rw [fU, if_neg (by rw [b_21]; decide)]) rfl rfl rfl rfl (ih_5 (c + 1) (by omega) (by omega))) (by simp)

theorem fU_lt (p : Nat → Bool) : ∀ n : Nat, fU p n = -1 ∨ ∃ j : Nat, j < n ∧ fU p n = nI j ∧ p j = true
  | 0 => Or.inl rfl
  | n + 1 => by
    simp only [fU]
    by_cases e : p n = true
    · rw [if_pos e]; exact Or.inr ⟨n, by omega, rfl, e⟩
    · rw [if_neg e]
      rcases fU_lt p n with h | ⟨j, h1, h2, h3⟩
      · exact Or.inl h
      · exact Or.inr ⟨j, by omega, h2, h3⟩
theorem vAd_at {G : aG} (gd : GoodG G) {i : Nat} (hi : i < 32 ∨ i = 33) : gV G i = .ref (vAd (gV G i)) := by
  obtain ⟨a, e⟩ := gd.2.2.2.2.2.2.2.1.2.2.1.1 i hi
  rw [e]
  rfl
abbrev kX3_isName : aK := (yX3_isName, cX3_isName, 2, (Option.some Jvm.ClassFile.FieldType.boolean), [])
theorem hcX3_isName : kX3_isName.1.cls ≠ "java/lang/invoke/MethodHandle" ∧ kX3_isName.1.cls ≠ "java/lang/invoke/VarHandle" ∧ (parseMethodDescriptor kX3_isName.1.desc).map (fun d => d.parameters.length) = some 1 := ⟨by decide, by decide, by decide +kernel⟩
theorem ct_isName (G : aG) (h : hH)  (b : Nat) (ms : tM) (hb : gB G ≤ b) (hT : TW b h ms) (T : Tv) (t : Nat) (hk : tkAt ms T t) : Con G kX3_isName [.ref b, .int (nI t)] h ((7, 133, 0, 0), (fun r h1 => r = some (.int (bI (isNm T t))) ∧ h = h1), nX) := by
  have hk1 := hk.1; have hk2 := hk.2.1; have hk6 := hk.2.2.2.2.2.1; have hk7 := hk.2.2.2.2.2.2
  refine Con.of (plainFor_of_name rfl) rfl (Nat.le_of_ble_eq_true rfl) ?_
  refine AW.eq (lv2 := [(0, .ref b), (1, .int (nI t))]) (s2 := []) rfl rfl rfl rfl rfl ?_
  refine aw_know (fun gd hi => ?_)
  refine aw_aload_n (n := 1) dX3_isName_0 rfl 0 rfl rfl ?_
  refine aw_getf (n := 4) (v := .ref (b + 2)) (C0 := RX3) (T := TX3) dX3_isName_1 rfl 4 q2645 (Or.inl rfl) hT.1 rfl rfl ?_
  refine aw_iload_n (n := 5) dX3_isName_4 rfl 1 rfl rfl ?_
  refine aw_iald (n := 6) (v := .int (ms.2.1 4 t)) dX3_isName_5 rfl t rfl hT.a4 (by omega) (by decide) rfl rfl ?_
  refine aw_iconst (n := 7) (v := 1) dX3_isName_6 (by decide) rfl ?_
  refine aw_icmp_ne (n := 10) (tgt := 26) dX3_isName_7 (by decide) rfl (fun c_7 => ?_) (fun c_7 => ?_)
  · skip
    have n_7 : ¬ ((T.1 t) = 1) := fun z => c_7 (by have y := (nI_eq (a := (T.1 t)) (b := 1) (by omega) (by omega)).mpr z; rw [← (hk.2.2.1 : (ms.2.1 4 t) = nI (T.1 t)), ← ((by rfl) : (1 : Int32) = nI 1)] at y; exact y)
    refine aw_iconst (n := 27) (v := 0) dX3_isName_26 (by decide) rfl ?_
    exact aw_zret dX3_isName_27 rfl (by cases T.1 t == 1 <;> first | decide | (split <;> decide)) ⟨congrArg some (congrArg Value.int (by simp [isNm, bI, n_7, c_7])), rfl⟩ ⟨Nat.zero_le _, Nat.zero_le _⟩
  · skip
    have n_7 : (T.1 t) = 1 := (nI_eq (a := (T.1 t)) (b := 1) (by omega) (by omega)).mp (by rw [← (hk.2.2.1 : (ms.2.1 4 t) = nI (T.1 t)), ← ((by rfl) : (1 : Int32) = nI 1)]; exact c_7)
    refine aw_aload_n (n := 11) dX3_isName_10 rfl 0 rfl rfl ?_
    refine aw_iload_n (n := 12) dX3_isName_11 rfl 1 rfl rfl ?_
    refine aw_gets (n := 15) (v := .ref (vAd (gV G 27))) dX3_isName_12 27 rfl q2848 rfl (vAd_at gd (by decide)) rfl ?_
    refine aw_callV (n := 18) (C0 := RX3) (As := [.int (nI t), .ref (vAd (gV G 27))]) (rest := []) (K2 := kX3_which) dX3_isName_15 q2850 q2852 qs55 q113 q2853 ⟨rfl, hcX3_which⟩ rfl hT.1 (ct_which G h b ms hb hT T t hk _ (wlW 0) (wl_at gd hi (k := 0) rfl) (by decide)) rfl (Nat.le_of_ble_eq_true rfl) ⟨Nat.le_of_ble_eq_true rfl, Nat.le_of_ble_eq_true rfl⟩ ⟨Nat.zero_le _, Nat.zero_le _⟩ (fun _ _ _ z => z.elim) rfl (fun r_15 h_15 q_15 => ?_)
    obtain ⟨rfl, rfl⟩ := q_15
    refine AW.sts (st' := [.int (whT T t (wlW 0))]) rfl ?_
    refine aw_iconst (n := 19) (v := (-1)) dX3_isName_18 (by decide) rfl ?_
    refine aw_icmp_ne (n := 22) (tgt := 26) dX3_isName_19 (by decide) rfl (fun c_19 => ?_) (fun c_19 => ?_)
    · skip
      refine aw_iconst (n := 27) (v := 0) dX3_isName_26 (by decide) rfl ?_
      exact aw_zret dX3_isName_27 rfl (by cases T.1 t == 1 <;> first | decide | (split <;> decide)) ⟨congrArg some (congrArg Value.int (by simp [isNm, bI, c_7, c_19, n_7])), rfl⟩ ⟨Nat.zero_le _, Nat.zero_le _⟩
    · skip
      refine aw_iconst (n := 23) (v := 1) dX3_isName_22 (by decide) rfl ?_
      refine aw_goto (tgt := 27) dX3_isName_23 (by decide) ?_
      exact aw_zret dX3_isName_27 rfl (by cases T.1 t == 1 <;> first | decide | (split <;> decide)) ⟨congrArg some (congrArg Value.int (by simp [isNm, bI, c_7, c_19, n_7])), rfl⟩ ⟨Nat.zero_le _, Nat.zero_le _⟩

abbrev kX3_numberOf : aK := (yX3_numberOf, cX3_numberOf, 4, (Option.some Jvm.ClassFile.FieldType.int), [])
theorem hcX3_numberOf : kX3_numberOf.1.cls ≠ "java/lang/invoke/MethodHandle" ∧ kX3_numberOf.1.cls ≠ "java/lang/invoke/VarHandle" ∧ (parseMethodDescriptor kX3_numberOf.1.desc).map (fun d => d.parameters.length) = some 1 := ⟨by decide, by decide, by decide +kernel⟩
theorem ct_numberOf (G : aG) (h : hH)  (b : Nat) (ms : tM) (hb : gB G ≤ b) (hT : TW b h ms) (T : Tv) (t : Nat) (hk : tkAt ms T t) : Con G kX3_numberOf [.ref b, .int (nI t)] h ((1, 0, 0, 0), (fun r h1 => r = some (.int (numT T t)) ∧ h = h1), nX) := by
  have hk1 := hk.1; have hk2 := hk.2.1; have hk6 := hk.2.2.2.2.2.1; have hk7 := hk.2.2.2.2.2.2
  refine Con.of (plainFor_of_name rfl) rfl (Nat.le_of_ble_eq_true rfl) ?_
  refine AW.eq (lv2 := [(0, .ref b), (1, .int (nI t))]) (s2 := []) rfl rfl rfl rfl rfl ?_
  refine aw_iconst (n := 1) (v := 0) dX3_numberOf_0 (by decide) rfl ?_
  refine aw_istore_n (n := 2) (lv' := [(2, .int 0), (0, .ref b), (1, .int (nI t))]) dX3_numberOf_1 rfl (by decide) rfl rfl ?_
  refine aw_aload_n (n := 3) dX3_numberOf_2 rfl 1 rfl rfl ?_
  refine aw_getf (n := 6) (v := .ref (b + 3)) (C0 := RX3) (T := TX3) dX3_numberOf_3 rfl 5 q2646 (Or.inl rfl) hT.1 rfl rfl ?_
  refine aw_iload_n (n := 7) dX3_numberOf_6 rfl 2 rfl rfl ?_
  refine aw_iald (n := 8) (v := .int (ms.2.1 5 t)) dX3_numberOf_7 rfl t rfl hT.a5 (by omega) (by decide) rfl rfl ?_
  refine aw_istore_n (n := 9) (lv' := [(3, .int (ms.2.1 5 t)), (2, .int 0), (0, .ref b), (1, .int (nI t))]) dX3_numberOf_8 rfl (by decide) rfl rfl ?_
  suffices L_9 : ∀ (m_ : Nat) (c : Nat) (hc : c ≤ (T.2.2 t).length), (T.2.2 t).length - c < m_ → AW G kX3_numberOf ((1, 0, 0, 0), (fun r h1 => r = some (.int (numT T t)) ∧ h = h1), nX) 9 [(3, .int (nI (T.2.1 t + c))), (2, .int (numI (fun j => (T.2.2 t).getD j 0) c)), (0, .ref b), (1, .int (nI t))] [] h 0 0 from
    AW.lvs (lv' := [(3, .int (ms.2.1 5 t)), (2, .int 0), (0, .ref b), (1, .int (nI t))]) (AW.eq (lv2 := _) (by rw [hk.2.2.2.1]; rfl) rfl rfl rfl rfl (L_9 _ 0 (by omega) (Nat.lt_succ_self _))) (by simp)
  intro m_
  induction m_ with
  | zero => intro c hc h_m; exact absurd h_m (Nat.not_lt_zero _)
  | succ m_ ih_9 =>
    intro c hc h_m
    refine aw_iload_n (n := 10) dX3_numberOf_9 rfl 0 rfl rfl ?_
    refine aw_aload_n (n := 11) dX3_numberOf_10 rfl 2 rfl rfl ?_
    refine aw_getf (n := 14) (v := .ref (b + 4)) (C0 := RX3) (T := TX3) dX3_numberOf_11 rfl 6 q2647 (Or.inl rfl) hT.1 rfl rfl ?_
    refine aw_iload_n (n := 15) dX3_numberOf_14 rfl 3 rfl rfl ?_
    refine aw_iald (n := 16) (v := .int (ms.2.1 6 t)) dX3_numberOf_15 rfl t rfl hT.a6 (by omega) (by decide) rfl rfl ?_
    refine aw_icmp_ge (n := 19) (tgt := 40) dX3_numberOf_16 (by decide) rfl (fun c_16 => ?_) (fun c_16 => ?_)
    · skip
      have n_16 : (T.2.1 t + (T.2.2 t).length) ≤ (T.2.1 t + c) := (nI_leI (a := (T.2.1 t + (T.2.2 t).length)) (b := (T.2.1 t + c)) (by omega) (by omega)).mp (by rw [← (hk.2.2.2.2.1 : (ms.2.1 6 t) = nI (T.2.1 t + (T.2.2 t).length))]; exact c_16)
      refine aw_iload_n (n := 41) dX3_numberOf_40 rfl 1 rfl rfl ?_
      exact aw_iret dX3_numberOf_41 rfl ⟨congrArg some (congrArg Value.int (by rw [numT, show (T.2.2 t).length = c by omega])), rfl⟩ ⟨Nat.zero_le _, Nat.zero_le _⟩
    · skip
      have n_16 : ¬ ((T.2.1 t + (T.2.2 t).length) ≤ (T.2.1 t + c)) := fun z => c_16 (by have y := (nI_leI (a := (T.2.1 t + (T.2.2 t).length)) (b := (T.2.1 t + c)) (by omega) (by omega)).mpr z; rw [← (hk.2.2.2.2.1 : (ms.2.1 6 t) = nI (T.2.1 t + (T.2.2 t).length))] at y; exact y)
      refine aw_bipush (n := 21) (v := 10) dX3_numberOf_19 (by decide) rfl ?_
      refine aw_iload_n (n := 22) dX3_numberOf_21 rfl 1 rfl rfl ?_
      refine aw_imul (n := 23) dX3_numberOf_22 rfl ?_
      refine aw_aload_n (n := 24) dX3_numberOf_23 rfl 2 rfl rfl ?_
      refine aw_getf (n := 27) (v := .ref (b + 1)) (C0 := RX3) (T := TX3) dX3_numberOf_24 rfl 1 q2642 (Or.inl rfl) hT.1 rfl rfl ?_
      refine aw_iload_n (n := 28) dX3_numberOf_27 rfl 0 rfl rfl ?_
      refine aw_iald (n := 29) (v := .int (ms.2.1 1 (T.2.1 t + c))) dX3_numberOf_28 rfl (T.2.1 t + c) rfl hT.a1 (by omega) (by decide) rfl rfl ?_
      refine aw_iadd (n := 30) dX3_numberOf_29 rfl ?_
      refine aw_bipush (n := 32) (v := 48) dX3_numberOf_30 (by decide) rfl ?_
      refine aw_isub (n := 33) dX3_numberOf_32 rfl ?_
      refine aw_istore_n (n := 34) (lv' := [(2, .int (((10 * (numI (fun j => (T.2.2 t).getD j 0) c)) + (ms.2.1 1 (T.2.1 t + c))) - 48)), (3, .int (nI (T.2.1 t + c))), (0, .ref b), (1, .int (nI t))]) dX3_numberOf_33 rfl (by decide) rfl rfl ?_
      refine aw_iinc (n := 37) (v := nI ((T.2.1 t + c) + 1)) (lv' := [(3, .int (nI ((T.2.1 t + c) + 1))), (2, .int (((10 * (numI (fun j => (T.2.2 t).getD j 0) c)) + (ms.2.1 1 (T.2.1 t + c))) - 48)), (0, .ref b), (1, .int (nI t))]) dX3_numberOf_34 1 rfl (by rw [show nI (T.2.1 t + c) = nI (T.2.1 t + c) from rfl]; exact nI_1 _) (by decide) rfl rfl ?_
      refine aw_goto (tgt := 9) dX3_numberOf_37 (by decide) ?_
      exact AW.lvs (lv' := [(3, .int (nI ((T.2.1 t + c) + 1))), (2, .int (((10 * (numI (fun j => (T.2.2 t).getD j 0) c)) + (ms.2.1 1 (T.2.1 t + c))) - 48)), (0, .ref b), (1, .int (nI t))]) (AW.eq (lv2 := _) (by rw [numI, (hk7 c (by omega)).1]; rfl) rfl rfl rfl rfl (ih_9 (c + 1) (by omega) (by omega))) (by simp)

abbrev kX3_nameOf : aK := (yX3_nameOf, cX3_nameOf, 5, (Option.some Jvm.ClassFile.FieldType.long), [])
theorem hcX3_nameOf : kX3_nameOf.1.cls ≠ "java/lang/invoke/MethodHandle" ∧ kX3_nameOf.1.cls ≠ "java/lang/invoke/VarHandle" ∧ (parseMethodDescriptor kX3_nameOf.1.desc).map (fun d => d.parameters.length) = some 1 := ⟨by decide, by decide, by decide +kernel⟩
theorem ct_nameOf (G : aG) (h : hH)  (b : Nat) (ms : tM) (hb : gB G ≤ b) (hT : TW b h ms) (T : Tv) (t : Nat) (hk : tkAt ms T t) : Con G kX3_nameOf [.ref b, .int (nI t)] h ((3, 42, 0, 0), (fun r h1 => r = some (.long (nameT T t)) ∧ h = h1), nX) := by
  have hk1 := hk.1; have hk2 := hk.2.1; have hk6 := hk.2.2.2.2.2.1; have hk7 := hk.2.2.2.2.2.2
  refine Con.of (plainFor_of_name rfl) rfl (Nat.le_of_ble_eq_true rfl) ?_
  refine AW.eq (lv2 := [(0, .ref b), (1, .int (nI t))]) (s2 := []) rfl rfl rfl rfl rfl ?_
  refine aw_lconst (n := 1) (v := 0) dX3_nameOf_0 (by decide) rfl ?_
  refine aw_lstore_n (n := 2) (lv' := [(2, .long 0), (0, .ref b), (1, .int (nI t))]) dX3_nameOf_1 rfl (by decide) rfl rfl ?_
  refine aw_aload_n (n := 3) dX3_nameOf_2 rfl 1 rfl rfl ?_
  refine aw_getf (n := 6) (v := .ref (b + 3)) (C0 := RX3) (T := TX3) dX3_nameOf_3 rfl 5 q2646 (Or.inl rfl) hT.1 rfl rfl ?_
  refine aw_iload_n (n := 7) dX3_nameOf_6 rfl 2 rfl rfl ?_
  refine aw_iald (n := 8) (v := .int (ms.2.1 5 t)) dX3_nameOf_7 rfl t rfl hT.a5 (by omega) (by decide) rfl rfl ?_
  refine aw_istore (n := 10) (lv' := [(4, .int (ms.2.1 5 t)), (2, .long 0), (0, .ref b), (1, .int (nI t))]) dX3_nameOf_8 (by decide) rfl rfl ?_
  suffices L_10 : ∀ (m_ : Nat) (c : Nat) (hc : c ≤ (T.2.2 t).length), (T.2.2 t).length - c < m_ → AW G kX3_nameOf ((3, 42, 0, 0), (fun r h1 => r = some (.long (nameT T t)) ∧ h = h1), nX) 10 [(4, .int (nI (T.2.1 t + c))), (2, .long (namI (fun j => (T.2.2 t).getD j 0) c)), (0, .ref b), (1, .int (nI t))] [] h 0 0 from
    AW.lvs (lv' := [(4, .int (ms.2.1 5 t)), (2, .long 0), (0, .ref b), (1, .int (nI t))]) (AW.eq (lv2 := _) (by rw [hk.2.2.2.1]; rfl) rfl rfl rfl rfl (L_10 _ 0 (by omega) (Nat.lt_succ_self _))) (by simp)
  intro m_
  induction m_ with
  | zero => intro c hc h_m; exact absurd h_m (Nat.not_lt_zero _)
  | succ m_ ih_10 =>
    intro c hc h_m
    refine aw_iload (n := 12) dX3_nameOf_10 0 rfl rfl ?_
    refine aw_aload_n (n := 13) dX3_nameOf_12 rfl 2 rfl rfl ?_
    refine aw_getf (n := 16) (v := .ref (b + 4)) (C0 := RX3) (T := TX3) dX3_nameOf_13 rfl 6 q2647 (Or.inl rfl) hT.1 rfl rfl ?_
    refine aw_iload_n (n := 17) dX3_nameOf_16 rfl 3 rfl rfl ?_
    refine aw_iald (n := 18) (v := .int (ms.2.1 6 t)) dX3_nameOf_17 rfl t rfl hT.a6 (by omega) (by decide) rfl rfl ?_
    refine aw_icmp_ge (n := 21) (tgt := 71) dX3_nameOf_18 (by decide) rfl (fun c_18 => ?_) (fun c_18 => ?_)
    · skip
      have n_18 : (T.2.1 t + (T.2.2 t).length) ≤ (T.2.1 t + c) := (nI_leI (a := (T.2.1 t + (T.2.2 t).length)) (b := (T.2.1 t + c)) (by omega) (by omega)).mp (by rw [← (hk.2.2.2.2.1 : (ms.2.1 6 t) = nI (T.2.1 t + (T.2.2 t).length))]; exact c_18)
      refine aw_lload_n (n := 72) dX3_nameOf_71 rfl 1 rfl rfl ?_
      exact aw_lret dX3_nameOf_72 rfl ⟨congrArg some (congrArg Value.long (by rw [nameT, show (T.2.2 t).length = c by omega])), rfl⟩ ⟨Nat.zero_le _, Nat.zero_le _⟩
    · skip
      have n_18 : ¬ ((T.2.1 t + (T.2.2 t).length) ≤ (T.2.1 t + c)) := fun z => c_18 (by have y := (nI_leI (a := (T.2.1 t + (T.2.2 t).length)) (b := (T.2.1 t + c)) (by omega) (by omega)).mpr z; rw [← (hk.2.2.2.2.1 : (ms.2.1 6 t) = nI (T.2.1 t + (T.2.2 t).length))] at y; exact y)
      refine aw_ldc2 (n := 24) (v := 37) dX3_nameOf_21 q2957 rfl ?_
      refine aw_lload_n (n := 25) dX3_nameOf_24 rfl 1 rfl rfl ?_
      refine aw_lmul (n := 26) dX3_nameOf_25 rfl ?_
      refine aw_aload_n (n := 27) dX3_nameOf_26 rfl 2 rfl rfl ?_
      refine aw_getf (n := 30) (v := .ref (b + 1)) (C0 := RX3) (T := TX3) dX3_nameOf_27 rfl 1 q2642 (Or.inl rfl) hT.1 rfl rfl ?_
      refine aw_iload (n := 32) dX3_nameOf_30 0 rfl rfl ?_
      refine aw_iald (n := 33) (v := .int (ms.2.1 1 (T.2.1 t + c))) dX3_nameOf_32 rfl (T.2.1 t + c) rfl hT.a1 (by omega) (by decide) rfl rfl ?_
      refine aw_callS (n := 36) (As := [.int (ms.2.1 1 (T.2.1 t + c))]) (rest := [.long (37 * (namI (fun j => (T.2.2 t).getD j 0) c))]) (K2 := kX3_isDigit) dX3_nameOf_33 q2803 q2804 q113 q2805 hcX3_isDigit (ct_isDigit G h (ms.2.1 1 (T.2.1 t + c))) rfl (Nat.le_of_ble_eq_true rfl) ⟨Nat.le_of_ble_eq_true rfl, Nat.le_of_ble_eq_true rfl⟩ ⟨Nat.zero_le _, Nat.zero_le _⟩ (fun _ _ _ z => z.elim) rfl (fun r_33 h_33 q_33 => ?_)
      obtain ⟨rfl, rfl⟩ := q_33
      refine AW.sts (st' := [.int (bI (decide (48 ≤ ms.2.1 1 (T.2.1 t + c)) && decide (ms.2.1 1 (T.2.1 t + c) ≤ 57))), .long (37 * (namI (fun j => (T.2.2 t).getD j 0) c))]) rfl ?_
      refine aw_if_eq (n := 39) (tgt := 52) dX3_nameOf_36 (by decide) rfl (fun c_36 => ?_) (fun c_36 => ?_)
      · skip
        have b_36 : (decide (48 ≤ ms.2.1 1 (T.2.1 t + c)) && decide (ms.2.1 1 (T.2.1 t + c) ≤ 57)) = false := (bI_0 _).mp c_36
        refine aw_aload_n (n := 53) dX3_nameOf_52 rfl 2 rfl rfl ?_
        refine aw_getf (n := 56) (v := .ref (b + 1)) (C0 := RX3) (T := TX3) dX3_nameOf_53 rfl 1 q2642 (Or.inl rfl) hT.1 rfl rfl ?_
        refine aw_iload (n := 58) dX3_nameOf_56 0 rfl rfl ?_
        refine aw_iald (n := 59) (v := .int (ms.2.1 1 (T.2.1 t + c))) dX3_nameOf_58 rfl (T.2.1 t + c) rfl hT.a1 (by omega) (by decide) rfl rfl ?_
        refine aw_bipush (n := 61) (v := 86) dX3_nameOf_59 (by decide) rfl ?_
        refine aw_isub (n := 62) dX3_nameOf_61 rfl ?_
        refine aw_i2l (n := 63) dX3_nameOf_62 rfl rfl ?_
        refine aw_ladd (n := 64) dX3_nameOf_63 rfl ?_
        refine aw_lstore_n (n := 65) (lv' := [(2, .long ((37 * (namI (fun j => (T.2.2 t).getD j 0) c)) + (((ms.2.1 1 (T.2.1 t + c)) - 86).toInt64))), (4, .int (nI (T.2.1 t + c))), (0, .ref b), (1, .int (nI t))]) dX3_nameOf_64 rfl (by decide) rfl rfl ?_
        refine aw_iinc (n := 68) (v := nI ((T.2.1 t + c) + 1)) (lv' := [(4, .int (nI ((T.2.1 t + c) + 1))), (2, .long ((37 * (namI (fun j => (T.2.2 t).getD j 0) c)) + (((ms.2.1 1 (T.2.1 t + c)) - 86).toInt64))), (0, .ref b), (1, .int (nI t))]) dX3_nameOf_65 1 rfl (by rw [show nI (T.2.1 t + c) = nI (T.2.1 t + c) from rfl]; exact nI_1 _) (by decide) rfl rfl ?_
        refine aw_goto (tgt := 10) dX3_nameOf_68 (by decide) ?_
        exact AW.lvs (lv' := [(4, .int (nI ((T.2.1 t + c) + 1))), (2, .long ((37 * (namI (fun j => (T.2.2 t).getD j 0) c)) + (((ms.2.1 1 (T.2.1 t + c)) - 86).toInt64))), (0, .ref b), (1, .int (nI t))]) (AW.eq (lv2 := _) (by rw [(hk7 c (by omega)).1] at b_36 ⊢; first | (rw [namI, if_pos b_36]; rfl) | (rw [namI, if_neg (by rw [b_36]; decide)]; rfl)) rfl rfl rfl rfl (ih_10 (c + 1) (by omega) (by omega))) (by simp)
      · skip
        have b_36 : (decide (48 ≤ ms.2.1 1 (T.2.1 t + c)) && decide (ms.2.1 1 (T.2.1 t + c) ≤ 57)) = true := Bool.of_not_eq_false (fun e => c_36 ((bI_0 _).mpr e))
        refine aw_aload_n (n := 40) dX3_nameOf_39 rfl 2 rfl rfl ?_
        refine aw_getf (n := 43) (v := .ref (b + 1)) (C0 := RX3) (T := TX3) dX3_nameOf_40 rfl 1 q2642 (Or.inl rfl) hT.1 rfl rfl ?_
        refine aw_iload (n := 45) dX3_nameOf_43 0 rfl rfl ?_
        refine aw_iald (n := 46) (v := .int (ms.2.1 1 (T.2.1 t + c))) dX3_nameOf_45 rfl (T.2.1 t + c) rfl hT.a1 (by omega) (by decide) rfl rfl ?_
        refine aw_bipush (n := 48) (v := 47) dX3_nameOf_46 (by decide) rfl ?_
        refine aw_isub (n := 49) dX3_nameOf_48 rfl ?_
        refine aw_goto (tgt := 62) dX3_nameOf_49 (by decide) ?_
        refine aw_i2l (n := 63) dX3_nameOf_62 rfl rfl ?_
        refine aw_ladd (n := 64) dX3_nameOf_63 rfl ?_
        refine aw_lstore_n (n := 65) (lv' := [(2, .long ((37 * (namI (fun j => (T.2.2 t).getD j 0) c)) + (((ms.2.1 1 (T.2.1 t + c)) - 47).toInt64))), (4, .int (nI (T.2.1 t + c))), (0, .ref b), (1, .int (nI t))]) dX3_nameOf_64 rfl (by decide) rfl rfl ?_
        refine aw_iinc (n := 68) (v := nI ((T.2.1 t + c) + 1)) (lv' := [(4, .int (nI ((T.2.1 t + c) + 1))), (2, .long ((37 * (namI (fun j => (T.2.2 t).getD j 0) c)) + (((ms.2.1 1 (T.2.1 t + c)) - 47).toInt64))), (0, .ref b), (1, .int (nI t))]) dX3_nameOf_65 1 rfl (by rw [show nI (T.2.1 t + c) = nI (T.2.1 t + c) from rfl]; exact nI_1 _) (by decide) rfl rfl ?_
        refine aw_goto (tgt := 10) dX3_nameOf_68 (by decide) ?_
        exact AW.lvs (lv' := [(4, .int (nI ((T.2.1 t + c) + 1))), (2, .long ((37 * (namI (fun j => (T.2.2 t).getD j 0) c)) + (((ms.2.1 1 (T.2.1 t + c)) - 47).toInt64))), (0, .ref b), (1, .int (nI t))]) (AW.eq (lv2 := _) (by rw [(hk7 c (by omega)).1] at b_36 ⊢; first | (rw [namI, if_pos b_36]; rfl) | (rw [namI, if_neg (by rw [b_36]; decide)]; rfl)) rfl rfl rfl rfl (ih_10 (c + 1) (by omega) (by omega))) (by simp)

abbrev kX3_sees : aK := (yX3_sees, cX3_sees, 2, (Option.some Jvm.ClassFile.FieldType.boolean), [])
theorem hcX3_sees : kX3_sees.1.cls ≠ "java/lang/invoke/MethodHandle" ∧ kX3_sees.1.cls ≠ "java/lang/invoke/VarHandle" ∧ (parseMethodDescriptor kX3_sees.1.desc).map (fun d => d.parameters.length) = some 1 := ⟨by decide, by decide, by decide +kernel⟩
theorem ct_sees (G : aG) (h : hH)  (b : Nat) (ms : tM) (hb : gB G ≤ b) (hT : TW b h ms) (T : Tv) (a : Nat) (ha : ms.1 7 = nI a) (hk : tkAt ms T a) (wd : Nat) (bs : List Nat) (hS : isStr h.2 wd bs) (hlo : loS bs) : Con G kX3_sees [.ref b, .ref wd] h ((6, 109, 0, 0), (fun r h1 => r = some (.int (bI (seesB T a bs))) ∧ h = h1), nX) := by
  refine Con.of (plainFor_of_name rfl) rfl (Nat.le_of_ble_eq_true rfl) ?_
  refine AW.eq (lv2 := [(0, .ref b), (1, .ref wd)]) (s2 := []) rfl rfl rfl rfl rfl ?_
  refine aw_aload_n (n := 1) dX3_sees_0 rfl 0 rfl rfl ?_
  refine aw_aload_n (n := 2) dX3_sees_1 rfl 0 rfl rfl ?_
  refine aw_getf (n := 5) (v := .int (nI a)) (C0 := RX3) (T := TX3) dX3_sees_2 rfl 7 q2648 (Or.inl rfl) hT.1 (congrArg some (congrArg Value.int ha)) rfl ?_
  refine aw_aload_n (n := 6) dX3_sees_5 rfl 1 rfl rfl ?_
  refine aw_callV (n := 9) (C0 := RX3) (As := [.int (nI a), .ref wd]) (rest := []) (K2 := kX3_is) dX3_sees_6 q2830 q2832 qs51 q113 q2833 ⟨rfl, hcX3_is⟩ rfl hT.1 (ct_is G h b ms hb hT T a hk wd bs hS hlo) rfl (Nat.le_of_ble_eq_true rfl) ⟨Nat.le_of_ble_eq_true rfl, Nat.le_of_ble_eq_true rfl⟩ ⟨Nat.zero_le _, Nat.zero_le _⟩ (fun _ _ _ z => z.elim) rfl (fun r_6 h_6 q_6 => ?_)
  obtain ⟨rfl, rfl⟩ := q_6
  refine AW.sts (st' := [.int (bI (seesB T a bs))]) rfl ?_
  exact aw_zret dX3_sees_9 rfl (bI_le _) ⟨rfl, rfl⟩ ⟨Nat.zero_le _, Nat.zero_le _⟩

/-- on by a token, if there can be one more -/
def goM (a : Nat) (ms : tM) : tM := if a = 400 then ms else tS ms 7 (nI (a + 1))
theorem goM_400 (ms : tM) : goM 400 ms = ms := if_pos rfl
theorem goM_lt {a : Nat} {ms : tM} (h : a ≠ 400) : goM a ms = tS ms 7 (nI (a + 1)) := if_neg h
abbrev kX3_goes : aK := (yX3_goes, cX3_goes, 1, (Option.some Jvm.ClassFile.FieldType.boolean), [])
theorem hcX3_goes : kX3_goes.1.cls ≠ "java/lang/invoke/MethodHandle" ∧ kX3_goes.1.cls ≠ "java/lang/invoke/VarHandle" ∧ (parseMethodDescriptor kX3_goes.1.desc).map (fun d => d.parameters.length) = some 0 := ⟨by decide, by decide, by decide +kernel⟩
theorem ct_goes (G : aG) (h : hH)  (b : Nat) (ms : tM) (hb : gB G ≤ b) (hT : TW b h ms) (a : Nat) (ha : ms.1 7 = nI a) (ha4 : a ≤ 400) : Con G kX3_goes [.ref b] h ((1, 0, 0, 0), (fun r h1 => r = some (.int (bI (a != 400))) ∧ TW b h1 (goM a ms) ∧ Fr (TS b) h h1 ∧ h1.1 = h.1), nX) := by
  refine Con.of (plainFor_of_name rfl) rfl (Nat.le_of_ble_eq_true rfl) ?_
  refine AW.eq (lv2 := [(0, .ref b)]) (s2 := []) rfl rfl rfl rfl rfl ?_
  refine aw_aload_n (n := 1) dX3_goes_0 rfl 0 rfl rfl ?_
  refine aw_getf (n := 4) (v := .int (nI a)) (C0 := RX3) (T := TX3) dX3_goes_1 rfl 7 q2648 (Or.inl rfl) hT.1 (congrArg some (congrArg Value.int ha)) rfl ?_
  refine aw_sipush (n := 7) (v := 400) dX3_goes_4 (by decide) rfl ?_
  refine aw_icmp_ne (n := 10) (tgt := 12) dX3_goes_7 (by decide) rfl (fun c_7 => ?_) (fun c_7 => ?_)
  · skip
    have n_7 : ¬ (a = 400) := fun z => c_7 (by have y := (nI_eq (a := a) (b := 400) (by omega) (by omega)).mpr z; rw [← ((by rfl) : (400 : Int32) = nI 400)] at y; exact y)
    refine aw_aload_n (n := 13) dX3_goes_12 rfl 0 rfl rfl ?_
    refine aw_dup (n := 14) dX3_goes_13 rfl rfl ?_
    refine aw_getf (n := 17) (v := .int (nI a)) (C0 := RX3) (T := TX3) dX3_goes_14 rfl 7 q2648 (Or.inl rfl) hT.1 (congrArg some (congrArg Value.int ha)) rfl ?_
    refine aw_iconst (n := 18) (v := 1) dX3_goes_17 (by decide) rfl ?_
    refine aw_iadd (n := 19) dX3_goes_18 rfl ?_
    refine aw_tput (n := 22) (k := 7) dX3_goes_19 q2648 (by decide) rfl rfl rfl rfl rfl hT hb rfl rfl (fun h_1 hT_1 hF_1 hz_1 => ?_)
    refine aw_iconst (n := 23) (v := 1) dX3_goes_22 (by decide) rfl ?_
    exact aw_zret dX3_goes_23 rfl (by decide) ⟨by simp [n_7, bI], by rw [goM_lt n_7, ← nI_1]; exact hT_1, hF_1, (by omega)⟩ ⟨Nat.zero_le _, Nat.zero_le _⟩
  · skip
    have n_7 : a = 400 := (nI_eq (a := a) (b := 400) (by omega) (by omega)).mp (by rw [← ((by rfl) : (400 : Int32) = nI 400)]; exact c_7)
    refine aw_iconst (n := 11) (v := 0) dX3_goes_10 (by decide) rfl ?_
    exact aw_zret dX3_goes_11 rfl (by decide) ⟨by simp [n_7, bI], by rw [n_7, goM_400]; exact hT, Fr.rf, rfl⟩ ⟨Nat.zero_le _, Nat.zero_le _⟩

abbrev kX3_takes : aK := (yX3_takes, cX3_takes, 2, (Option.some Jvm.ClassFile.FieldType.boolean), [])
theorem hcX3_takes : kX3_takes.1.cls ≠ "java/lang/invoke/MethodHandle" ∧ kX3_takes.1.cls ≠ "java/lang/invoke/VarHandle" ∧ (parseMethodDescriptor kX3_takes.1.desc).map (fun d => d.parameters.length) = some 1 := ⟨by decide, by decide, by decide +kernel⟩
theorem ct_takes (G : aG) (h : hH)  (b : Nat) (ms : tM) (hb : gB G ≤ b) (hT : TW b h ms) (T : Tv) (a : Nat) (ha : ms.1 7 = nI a) (hk : tkAt ms T a) (ha4 : a ≤ 400) (wd : Nat) (bs : List Nat) (hS : isStr h.2 wd bs) (hlo : loS bs) : Con G kX3_takes [.ref b, .ref wd] h ((7, 130, 0, 0), (fun r h1 => r = some (.int (bI (seesB T a bs && a != 400))) ∧ TW b h1 (if seesB T a bs = true then goM a ms else ms) ∧ Fr (TS b) h h1 ∧ h1.1 = h.1), nX) := by
  have hk1 := hk.1; have hk2 := hk.2.1; have hk6 := hk.2.2.2.2.2.1; have hk7 := hk.2.2.2.2.2.2
  refine Con.of (plainFor_of_name rfl) rfl (Nat.le_of_ble_eq_true rfl) ?_
  refine AW.eq (lv2 := [(0, .ref b), (1, .ref wd)]) (s2 := []) rfl rfl rfl rfl rfl ?_
  refine aw_aload_n (n := 1) dX3_takes_0 rfl 0 rfl rfl ?_
  refine aw_aload_n (n := 2) dX3_takes_1 rfl 1 rfl rfl ?_
  refine aw_callV (n := 5) (C0 := RX3) (As := [.ref wd]) (rest := []) (K2 := kX3_sees) dX3_takes_2 q2826 q2828 qs50 q113 q2829 ⟨rfl, hcX3_sees⟩ rfl hT.1 (ct_sees G h b ms hb hT T a ha hk wd bs hS hlo) rfl (Nat.le_of_ble_eq_true rfl) ⟨Nat.le_of_ble_eq_true rfl, Nat.le_of_ble_eq_true rfl⟩ ⟨Nat.zero_le _, Nat.zero_le _⟩ (fun _ _ _ z => z.elim) rfl (fun r_2 h_2 q_2 => ?_)
  obtain ⟨rfl, rfl⟩ := q_2
  refine AW.sts (st' := [.int (bI (seesB T a bs))]) rfl ?_
  refine aw_if_eq (n := 8) (tgt := 19) dX3_takes_5 (by decide) rfl (fun c_5 => ?_) (fun c_5 => ?_)
  · skip
    have b_5 : (seesB T a bs) = false := (bI_0 _).mp c_5
    refine aw_iconst (n := 20) (v := 0) dX3_takes_19 (by decide) rfl ?_
    exact aw_zret dX3_takes_20 rfl (by decide) ⟨by simp [bI, b_5, c_5], by simp [b_5, c_5]; exact hT, Fr.rf, rfl⟩ ⟨Nat.zero_le _, Nat.zero_le _⟩
  · skip
    have b_5 : (seesB T a bs) = true := Bool.of_not_eq_false (fun e => c_5 ((bI_0 _).mpr e))
    refine aw_aload_n (n := 9) dX3_takes_8 rfl 0 rfl rfl ?_
    refine aw_callV (n := 12) (C0 := RX3) (As := []) (rest := []) (K2 := kX3_goes) dX3_takes_9 q2836 q2838 qs52 q113 q2839 ⟨rfl, hcX3_goes⟩ rfl hT.1 (ct_goes G h b ms hb hT a ha ha4) rfl (Nat.le_of_ble_eq_true rfl) ⟨Nat.le_of_ble_eq_true rfl, Nat.le_of_ble_eq_true rfl⟩ ⟨Nat.zero_le _, Nat.zero_le _⟩ (fun _ _ _ z => z.elim) rfl (fun r_9 h_9 q_9 => ?_)
    obtain ⟨rfl, hT_9, hF_9, hz_9⟩ := q_9
    refine AW.sts (st' := [.int (bI (a != 400))]) rfl ?_
    refine aw_if_eq (n := 15) (tgt := 19) dX3_takes_12 (by decide) rfl (fun c_12 => ?_) (fun c_12 => ?_)
    · skip
      have b_12 : (a != 400) = false := (bI_0 _).mp c_12
      refine aw_iconst (n := 20) (v := 0) dX3_takes_19 (by decide) rfl ?_
      exact aw_zret dX3_takes_20 rfl (by decide) ⟨by simp [bI, b_5, c_5, b_12, c_12], by simp [b_5, c_5, b_12, c_12]; exact hT_9, hF_9, (by omega)⟩ ⟨Nat.zero_le _, Nat.zero_le _⟩
    · skip
      have b_12 : (a != 400) = true := Bool.of_not_eq_false (fun e => c_12 ((bI_0 _).mpr e))
      refine aw_iconst (n := 16) (v := 1) dX3_takes_15 (by decide) rfl ?_
      refine aw_goto (tgt := 20) dX3_takes_16 (by decide) ?_
      exact aw_zret dX3_takes_20 rfl (by decide) ⟨by simp [bI, b_5, c_5, b_12, c_12], by simp [b_5, c_5, b_12, c_12]; exact hT_9, hF_9, (by omega)⟩ ⟨Nat.zero_le _, Nat.zero_le _⟩

abbrev kX3_takesName : aK := (yX3_takesName, cX3_takesName, 1, (Option.some Jvm.ClassFile.FieldType.boolean), [])
theorem hcX3_takesName : kX3_takesName.1.cls ≠ "java/lang/invoke/MethodHandle" ∧ kX3_takesName.1.cls ≠ "java/lang/invoke/VarHandle" ∧ (parseMethodDescriptor kX3_takesName.1.desc).map (fun d => d.parameters.length) = some 0 := ⟨by decide, by decide, by decide +kernel⟩
theorem ct_takesName (G : aG) (h : hH)  (b : Nat) (ms : tM) (hb : gB G ≤ b) (hT : TW b h ms) (T : Tv) (a : Nat) (ha : ms.1 7 = nI a) (hk : tkAt ms T a) (ha4 : a ≤ 400) : Con G kX3_takesName [.ref b] h ((8, 154, 0, 0), (fun r h1 => r = some (.int (bI (isNm T a && a != 400))) ∧ TW b h1 (if isNm T a = true then goM a ms else ms) ∧ Fr (TS b) h h1 ∧ h1.1 = h.1), nX) := by
  have hk1 := hk.1; have hk2 := hk.2.1; have hk6 := hk.2.2.2.2.2.1; have hk7 := hk.2.2.2.2.2.2
  refine Con.of (plainFor_of_name rfl) rfl (Nat.le_of_ble_eq_true rfl) ?_
  refine AW.eq (lv2 := [(0, .ref b)]) (s2 := []) rfl rfl rfl rfl rfl ?_
  refine aw_aload_n (n := 1) dX3_takesName_0 rfl 0 rfl rfl ?_
  refine aw_aload_n (n := 2) dX3_takesName_1 rfl 0 rfl rfl ?_
  refine aw_getf (n := 5) (v := .int (nI a)) (C0 := RX3) (T := TX3) dX3_takesName_2 rfl 7 q2648 (Or.inl rfl) hT.1 (congrArg some (congrArg Value.int ha)) rfl ?_
  refine aw_callV (n := 8) (C0 := RX3) (As := [.int (nI a)]) (rest := []) (K2 := kX3_isName) dX3_takesName_5 q2844 q2846 qs54 q113 q2847 ⟨rfl, hcX3_isName⟩ rfl hT.1 (ct_isName G h b ms hb hT T a hk) rfl (Nat.le_of_ble_eq_true rfl) ⟨Nat.le_of_ble_eq_true rfl, Nat.le_of_ble_eq_true rfl⟩ ⟨Nat.zero_le _, Nat.zero_le _⟩ (fun _ _ _ z => z.elim) rfl (fun r_5 h_5 q_5 => ?_)
  obtain ⟨rfl, rfl⟩ := q_5
  refine AW.sts (st' := [.int (bI (isNm T a))]) rfl ?_
  refine aw_if_eq (n := 11) (tgt := 22) dX3_takesName_8 (by decide) rfl (fun c_8 => ?_) (fun c_8 => ?_)
  · skip
    have b_8 : (isNm T a) = false := (bI_0 _).mp c_8
    refine aw_iconst (n := 23) (v := 0) dX3_takesName_22 (by decide) rfl ?_
    exact aw_zret dX3_takesName_23 rfl (by decide) ⟨by simp [bI, b_8, c_8], by simp [b_8, c_8]; exact hT, Fr.rf, rfl⟩ ⟨Nat.zero_le _, Nat.zero_le _⟩
  · skip
    have b_8 : (isNm T a) = true := Bool.of_not_eq_false (fun e => c_8 ((bI_0 _).mpr e))
    refine aw_aload_n (n := 12) dX3_takesName_11 rfl 0 rfl rfl ?_
    refine aw_callV (n := 15) (C0 := RX3) (As := []) (rest := []) (K2 := kX3_goes) dX3_takesName_12 q2836 q2838 qs52 q113 q2839 ⟨rfl, hcX3_goes⟩ rfl hT.1 (ct_goes G h b ms hb hT a ha ha4) rfl (Nat.le_of_ble_eq_true rfl) ⟨Nat.le_of_ble_eq_true rfl, Nat.le_of_ble_eq_true rfl⟩ ⟨Nat.zero_le _, Nat.zero_le _⟩ (fun _ _ _ z => z.elim) rfl (fun r_12 h_12 q_12 => ?_)
    obtain ⟨rfl, hT_12, hF_12, hz_12⟩ := q_12
    refine AW.sts (st' := [.int (bI (a != 400))]) rfl ?_
    refine aw_if_eq (n := 18) (tgt := 22) dX3_takesName_15 (by decide) rfl (fun c_15 => ?_) (fun c_15 => ?_)
    · skip
      have b_15 : (a != 400) = false := (bI_0 _).mp c_15
      refine aw_iconst (n := 23) (v := 0) dX3_takesName_22 (by decide) rfl ?_
      exact aw_zret dX3_takesName_23 rfl (by decide) ⟨by simp [bI, b_8, c_8, b_15, c_15], by simp [b_8, c_8, b_15, c_15]; exact hT_12, hF_12, (by omega)⟩ ⟨Nat.zero_le _, Nat.zero_le _⟩
    · skip
      have b_15 : (a != 400) = true := Bool.of_not_eq_false (fun e => c_15 ((bI_0 _).mpr e))
      refine aw_iconst (n := 19) (v := 1) dX3_takesName_18 (by decide) rfl ?_
      refine aw_goto (tgt := 23) dX3_takesName_19 (by decide) ?_
      exact aw_zret dX3_takesName_23 rfl (by decide) ⟨by simp [bI, b_8, c_8, b_15, c_15], by simp [b_8, c_8, b_15, c_15]; exact hT_12, hF_12, (by omega)⟩ ⟨Nat.zero_le _, Nat.zero_le _⟩

abbrev kX3_takesNumber : aK := (yX3_takesNumber, cX3_takesNumber, 1, (Option.some Jvm.ClassFile.FieldType.boolean), [])
theorem hcX3_takesNumber : kX3_takesNumber.1.cls ≠ "java/lang/invoke/MethodHandle" ∧ kX3_takesNumber.1.cls ≠ "java/lang/invoke/VarHandle" ∧ (parseMethodDescriptor kX3_takesNumber.1.desc).map (fun d => d.parameters.length) = some 0 := ⟨by decide, by decide, by decide +kernel⟩
theorem ct_takesNumber (G : aG) (h : hH)  (b : Nat) (ms : tM) (hb : gB G ≤ b) (hT : TW b h ms) (T : Tv) (a : Nat) (ha : ms.1 7 = nI a) (hk : tkAt ms T a) (ha4 : a ≤ 400) : Con G kX3_takesNumber [.ref b] h ((2, 20, 0, 0), (fun r h1 => r = some (.int (bI ((T.1 a == 2) && a != 400))) ∧ TW b h1 (if (T.1 a == 2) = true then goM a ms else ms) ∧ Fr (TS b) h h1 ∧ h1.1 = h.1), nX) := by
  have hk1 := hk.1; have hk2 := hk.2.1; have hk6 := hk.2.2.2.2.2.1; have hk7 := hk.2.2.2.2.2.2
  refine Con.of (plainFor_of_name rfl) rfl (Nat.le_of_ble_eq_true rfl) ?_
  refine AW.eq (lv2 := [(0, .ref b)]) (s2 := []) rfl rfl rfl rfl rfl ?_
  refine aw_aload_n (n := 1) dX3_takesNumber_0 rfl 0 rfl rfl ?_
  refine aw_getf (n := 4) (v := .ref (b + 2)) (C0 := RX3) (T := TX3) dX3_takesNumber_1 rfl 4 q2645 (Or.inl rfl) hT.1 rfl rfl ?_
  refine aw_aload_n (n := 5) dX3_takesNumber_4 rfl 0 rfl rfl ?_
  refine aw_getf (n := 8) (v := .int (nI a)) (C0 := RX3) (T := TX3) dX3_takesNumber_5 rfl 7 q2648 (Or.inl rfl) hT.1 (congrArg some (congrArg Value.int ha)) rfl ?_
  refine aw_iald (n := 9) (v := .int (ms.2.1 4 a)) dX3_takesNumber_8 rfl a rfl hT.a4 (by omega) (by decide) rfl rfl ?_
  refine aw_iconst (n := 10) (v := 2) dX3_takesNumber_9 (by decide) rfl ?_
  refine aw_icmp_ne (n := 13) (tgt := 24) dX3_takesNumber_10 (by decide) rfl (fun c_10 => ?_) (fun c_10 => ?_)
  · skip
    have n_10 : ¬ ((T.1 a) = 2) := fun z => c_10 (by have y := (nI_eq (a := (T.1 a)) (b := 2) (by omega) (by omega)).mpr z; rw [← (hk.2.2.1 : (ms.2.1 4 a) = nI (T.1 a)), ← ((by rfl) : (2 : Int32) = nI 2)] at y; exact y)
    refine aw_iconst (n := 25) (v := 0) dX3_takesNumber_24 (by decide) rfl ?_
    exact aw_zret dX3_takesNumber_25 rfl (by decide) ⟨by simp [bI, n_10, c_10], by simp [n_10, c_10]; exact hT, Fr.rf, rfl⟩ ⟨Nat.zero_le _, Nat.zero_le _⟩
  · skip
    have n_10 : (T.1 a) = 2 := (nI_eq (a := (T.1 a)) (b := 2) (by omega) (by omega)).mp (by rw [← (hk.2.2.1 : (ms.2.1 4 a) = nI (T.1 a)), ← ((by rfl) : (2 : Int32) = nI 2)]; exact c_10)
    refine aw_aload_n (n := 14) dX3_takesNumber_13 rfl 0 rfl rfl ?_
    refine aw_callV (n := 17) (C0 := RX3) (As := []) (rest := []) (K2 := kX3_goes) dX3_takesNumber_14 q2836 q2838 qs52 q113 q2839 ⟨rfl, hcX3_goes⟩ rfl hT.1 (ct_goes G h b ms hb hT a ha ha4) rfl (Nat.le_of_ble_eq_true rfl) ⟨Nat.le_of_ble_eq_true rfl, Nat.le_of_ble_eq_true rfl⟩ ⟨Nat.zero_le _, Nat.zero_le _⟩ (fun _ _ _ z => z.elim) rfl (fun r_14 h_14 q_14 => ?_)
    obtain ⟨rfl, hT_14, hF_14, hz_14⟩ := q_14
    refine AW.sts (st' := [.int (bI (a != 400))]) rfl ?_
    refine aw_if_eq (n := 20) (tgt := 24) dX3_takesNumber_17 (by decide) rfl (fun c_17 => ?_) (fun c_17 => ?_)
    · skip
      have b_17 : (a != 400) = false := (bI_0 _).mp c_17
      refine aw_iconst (n := 25) (v := 0) dX3_takesNumber_24 (by decide) rfl ?_
      exact aw_zret dX3_takesNumber_25 rfl (by decide) ⟨by simp [bI, c_10, b_17, c_17, n_10], by simp [c_10, b_17, c_17, n_10]; exact hT_14, hF_14, (by omega)⟩ ⟨Nat.zero_le _, Nat.zero_le _⟩
    · skip
      have b_17 : (a != 400) = true := Bool.of_not_eq_false (fun e => c_17 ((bI_0 _).mpr e))
      refine aw_iconst (n := 21) (v := 1) dX3_takesNumber_20 (by decide) rfl ?_
      refine aw_goto (tgt := 25) dX3_takesNumber_21 (by decide) ?_
      exact aw_zret dX3_takesNumber_25 rfl (by decide) ⟨by simp [bI, c_10, b_17, c_17, n_10], by simp [c_10, b_17, c_17, n_10]; exact hT_14, hF_14, (by omega)⟩ ⟨Nat.zero_le _, Nat.zero_le _⟩

end
