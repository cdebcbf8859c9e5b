/-! The twin: replay. -/
section
set_option maxRecDepth 100000
theorem tOK_eq {ms ms' : tM} (h1 : ms'.1 = ms.1) (h2 : ms'.2.1 = ms.2.1) (hI : tOK ms) : tOK ms' := tOK_cg h1 (fun k _ => by rw [h2]) hI
theorem tOK_S29 {ms : tM} (h : tOK ms) {v : Nat} (hv : v ≤ 120) : tOK (tS ms 29 (nI v)) := ⟨h.1, ⟨by show nI v = nI (nN (nI v)); rw [nN_nI (by omega)], by show nN (nI v) ≤ 120; rw [nN_nI (by omega)]; exact hv⟩, h.2.2⟩
theorem rkT_22 (ms : tM) (fr i : Nat) (k : Nat) (hk : k ≠ 16) : ∀ c, (rkT ms fr i c).2.2 k = ms.2.2 k
  | 0 => rfl
  | c + 1 => by simp [rkT, tL, hk, rkT_22 ms fr i k hk c]
theorem stM_22 (ms : tM) (t : Int32) (k : Nat) (h1 : k ≠ 16) (h2 : k ≠ 31) : (stM ms t).2.2 k = ms.2.2 k := by rw [stM, rkT_22 _ _ _ _ h1, sgS_22 _ _ _ h2]
theorem begT_ok {ms : tM} (hI : tOK ms) : tOK (begT ms) := tOK_eq (ms := tS ms 29 (nI 0)) (by rw [begT, bgS_1]; rfl) (by rw [begT, bgS_21]; rfl) (tOK_S29 hI (by omega))
theorem begT_S {ms : tM} : Sn (begT ms) = 0 := by unfold Sn; rw [begT, bgS_1]; rfl
/-- the signals set as they were kept at step i, c of them -/
def rpS (m : tM) (src : Nat → Int64) (i : Nat) : Nat → tM
  | 0 => m
  | c + 1 => tL (rpS m src i c) 32 c (src (8 * i + c))
theorem rpS_1 (m : tM) (src : Nat → Int64) (i : Nat) : ∀ c, (rpS m src i c).1 = m.1
  | 0 => rfl
  | c + 1 => rpS_1 m src i c
theorem rpS_21 (m : tM) (src : Nat → Int64) (i : Nat) : ∀ c, (rpS m src i c).2.1 = m.2.1
  | 0 => rfl
  | c + 1 => rpS_21 m src i c
theorem rpS_22 (m : tM) (src : Nat → Int64) (i : Nat) (k : Nat) (hk : k ≠ 32) : ∀ c, (rpS m src i c).2.2 k = m.2.2 k
  | 0 => rfl
  | c + 1 => by simp [rpS, tL, hk, rpS_22 m src i k hk c]
theorem rpS_ok {m : tM} (hI : tOK m) (src : Nat → Int64) (i c : Nat) : tOK (rpS m src i c) := tOK_eq (rpS_1 m src i c) (rpS_21 m src i c) hI
/-- c kept steps done anew: how many are good -/
def rpT (m : tM) (mn : Nat) (src : Nat → Int64) (kt : Nat → Int32) : Nat → Int32 × tM
  | 0 => (0, m)
  | c + 1 => ((rpT m mn src kt c).1 + (if (stepT (rpS (rpT m mn src kt c).2 src c mn) (kt c)).1 = 0 then 1 else 0), (stepT (rpS (rpT m mn src kt c).2 src c mn) (kt c)).2)
def opReplay (ms : tM) : Int32 × tM := if 0 < Mn ms 3 then rpT (begT (tS ms 0 0)) (min (Mn ms 0) (KMn ms)) (ms.2.2 36) (ms.2.1 35) (Kn ms) else (0, tS ms 0 1)
def RpI (ms m : tM) (c : Nat) : Prop := tOK m ∧ Sn m = c ∧ m.2.1 23 = ms.2.1 23 ∧ m.1 33 = ms.1 33 ∧ m.1 34 = ms.1 34 ∧ m.2.1 35 = ms.2.1 35 ∧ m.2.2 36 = ms.2.2 36
theorem rpI_step {ms m : tM} {c : Nat} (h : RpI ms m c) (hc : c < 120) (src : Nat → Int64) (mn : Nat) (t : Int32) : RpI ms (stepT (rpS m src c mn) t).2 (c + 1) := by
  obtain ⟨h1, h2, h3, h4, h5, h6, h7⟩ := h
  have hs : Sn (rpS m src c mn) = c := by unfold Sn; rw [rpS_1]; exact h2
  show RpI ms (tS (stM (rpS m src c mn) t) 29 (nI (Sn (rpS m src c mn) + 1))) (c + 1)
  rw [hs]
  refine ⟨tOK_S29 (stM_ok (rpS_ok h1 src c mn) t) (by omega), nN_nI (by omega), ?_, ?_, ?_, ?_, ?_⟩
  · show (stM (rpS m src c mn) t).2.1 23 = _
    rw [stM_21 _ _ _ (by decide), rpS_21, h3]
  · show (stM (rpS m src c mn) t).1 33 = _
    rw [stM_1, rpS_1, h4]
  · show (stM (rpS m src c mn) t).1 34 = _
    rw [stM_1, rpS_1, h5]
  · show (stM (rpS m src c mn) t).2.1 35 = _
    rw [stM_21 _ _ _ (by decide), rpS_21, h6]
  · show (stM (rpS m src c mn) t).2.2 36 = _
    rw [stM_22 _ _ _ (by decide) (by decide), rpS_22 _ _ _ _ (by decide), h7]
theorem rp_inv {m : tM} (hI : tOK m) (hS : Sn m = 0) (mn : Nat) (src : Nat → Int64) (kt : Nat → Int32) : ∀ c, c ≤ 120 → RpI m (rpT m mn src kt c).2 c
  | 0, _ => ⟨hI, hS, rfl, rfl, rfl, rfl, rfl⟩
  | c + 1, h => rpI_step (rp_inv hI hS mn src kt c (by omega)) (by omega) src mn (kt c)
theorem minN {a b : Nat} (ha : a < 2 ^ 31) (hb : b < 2 ^ 31) : (if nI b < nI a then nI b else nI a) = nI (min a b) := by
  by_cases h : b < a
  · rw [if_pos ((nI_ltI hb ha).mpr h), Nat.min_eq_right (by omega)]
  · rw [if_neg (fun z => h ((nI_ltI hb ha).mp z)), Nat.min_eq_left (by omega)]
abbrev kX3_replay : aK := (yX3_replay, cX3_replay, 4, (Option.some Jvm.ClassFile.FieldType.int), [])
theorem hcX3_replay : kX3_replay.1.cls ≠ "java/lang/invoke/MethodHandle" ∧ kX3_replay.1.cls ≠ "java/lang/invoke/VarHandle" ∧ (parseMethodDescriptor kX3_replay.1.desc).map (fun d => d.parameters.length) = some 0 := ⟨by decide, by decide, by decide +kernel⟩
theorem ct_replay (G : aG) (h : hH) (b : Nat) (ms : tM) (hb : gB G ≤ b) (hT : TW b h ms) (hI : tOK ms) : Con G kX3_replay [.ref b] h ((7, 143, 0, 0), (fun r h1 => r = some (.int (opReplay ms).1) ∧ TW b h1 ((opReplay ms).2) ∧ Fr (TS b) h h1 ∧ h1.1 = h.1), nX) := by
  have := hI.L2; have := hI.S2; have := hI.M0; have := hI.M1; have := hI.M2; have := hI.M3; have := hI.P2; have := hI.K2; have := hI.KM2
  refine Con.of (plainFor_of_name rfl) rfl (Nat.le_of_ble_eq_true rfl) ?_
  refine AW.eq (lv2 := [(0, .ref b)]) (s2 := []) rfl rfl rfl rfl rfl ?_
  refine aw_aload_n (n := 1) dX3_replay_0 rfl 0 rfl rfl ?_
  refine aw_iconst (n := 2) (v := 0) dX3_replay_1 (by decide) rfl ?_
  refine aw_tput (n := 5) (k := 0) dX3_replay_2 q2641 (by decide) rfl rfl rfl rfl rfl hT hb rfl rfl (fun h_1 hT_1 hF_1 hz_1 => ?_)
  refine aw_aload_n (n := 6) dX3_replay_5 rfl 0 rfl rfl ?_
  refine aw_getf (n := 9) (v := .int (bI (decide (0 < Mn ms 3)))) (C0 := RX3) (T := TX3) dX3_replay_6 rfl 18 q2659 (Or.inl rfl) hT_1.1 (congrArg some (congrArg Value.int hI.I)) rfl ?_
  refine aw_if_ne (n := 12) (tgt := 18) dX3_replay_9 (by decide) rfl (fun c_9 => ?_) (fun c_9 => ?_)
  · skip
    have b_9 : (decide (0 < Mn ms 3)) = true := Bool.of_not_eq_false (fun e => c_9 ((bI_0 _).mpr e))
    refine aw_aload_n (n := 19) dX3_replay_18 rfl 0 rfl rfl ?_
    refine aw_callV (n := 22) (C0 := RX3) (As := []) (rest := []) (K2 := kX3_begin) dX3_replay_19 q3020 q3022 qs86 q113 q3023 ⟨rfl, hcX3_begin⟩ rfl hT_1.1 (ct_begin G h_1 b (tS ms 0 (0 : Int32)) hb hT_1 (tOK.thrown hI _)) rfl (Nat.le_of_ble_eq_true rfl) ⟨Nat.le_of_ble_eq_true rfl, Nat.le_of_ble_eq_true rfl⟩ ⟨Nat.zero_le _, Nat.zero_le _⟩ (fun _ _ _ z => z.elim) rfl (fun r_19 h_19 q_19 => ?_)
    obtain ⟨rfl, hT_19, hF_19, hz_19⟩ := q_19
    have hG_19 := Fr.trans hF_1 hF_19
    refine AW.sts (st' := []) rfl ?_
    refine aw_iconst (n := 23) (v := 0) dX3_replay_22 (by decide) rfl ?_
    refine aw_istore_n (n := 24) (lv' := [(1, .int 0), (0, .ref b)]) dX3_replay_23 rfl (by decide) rfl rfl ?_
    refine aw_iconst (n := 25) (v := 0) dX3_replay_24 (by decide) rfl ?_
    refine aw_istore_n (n := 26) (lv' := [(2, .int 0), (1, .int 0), (0, .ref b)]) dX3_replay_25 rfl (by decide) rfl rfl ?_
    suffices L_26 : ∀ (m_ : Nat) (c : Nat) (hh : hH) (hc : c ≤ Kn ms) (hTc : TW b hh ((rpT (begT (tS ms 0 0)) (min (Mn ms 0) (KMn ms)) (ms.2.2 36) (ms.2.1 35) c).2)) (hFc : Fr (TS b) h hh) (hzc : hh.1 = h.1), Kn ms - c < m_ → AW G kX3_replay ((7, 143, 0, 0), (fun r h1 => r = some (.int (opReplay ms).1) ∧ TW b h1 ((opReplay ms).2) ∧ Fr (TS b) h h1 ∧ h1.1 = h.1), nX) 26 [(2, .int (nI c)), (1, .int ((rpT (begT (tS ms 0 0)) (min (Mn ms 0) (KMn ms)) (ms.2.2 36) (ms.2.1 35) c).1)), (0, .ref b)] [] hh 0 0 from
      AW.lvs (lv' := [(2, .int 0), (1, .int 0), (0, .ref b)]) (AW.eq (lv2 := _) (rfl) rfl rfl rfl rfl (L_26 _ 0 h_19 (by omega) hT_19 hG_19 (by omega) (Nat.lt_succ_self _))) (by simp)
    intro m_
    induction m_ with
    | zero => intro c hh hc hTc hFc hzc h_m; exact absurd h_m (Nat.not_lt_zero _)
    | succ m_ ih_26 =>
      intro c hh hc hTc hFc hzc h_m
      have hJ := rp_inv (begT_ok (tOK.thrown hI 0)) begT_S (min (Mn ms 0) (KMn ms)) (ms.2.2 36) (ms.2.1 35) c (by omega)
      have hJ23 : ((rpT (begT (tS ms 0 0)) (min (Mn ms 0) (KMn ms)) (ms.2.2 36) (ms.2.1 35) c).2).2.1 23 = ms.2.1 23 := hJ.2.2.1.trans (by rw [begT, bgS_21]; rfl)
      have hJ33 : ((rpT (begT (tS ms 0 0)) (min (Mn ms 0) (KMn ms)) (ms.2.2 36) (ms.2.1 35) c).2).1 33 = ms.1 33 := hJ.2.2.2.1.trans (by rw [begT, bgS_1]; rfl)
      have hJ34 : ((rpT (begT (tS ms 0 0)) (min (Mn ms 0) (KMn ms)) (ms.2.2 36) (ms.2.1 35) c).2).1 34 = ms.1 34 := hJ.2.2.2.2.1.trans (by rw [begT, bgS_1]; rfl)
      have hJ35 : ((rpT (begT (tS ms 0 0)) (min (Mn ms 0) (KMn ms)) (ms.2.2 36) (ms.2.1 35) c).2).2.1 35 = ms.2.1 35 := hJ.2.2.2.2.2.1.trans (by rw [begT, bgS_21]; rfl)
      have hJ36 : ((rpT (begT (tS ms 0 0)) (min (Mn ms 0) (KMn ms)) (ms.2.2 36) (ms.2.1 35) c).2).2.2 36 = ms.2.2 36 := hJ.2.2.2.2.2.2.trans (by rw [begT, bgS_22 _ _ (by decide)]; rfl)
      refine aw_iload_n (n := 27) dX3_replay_26 rfl 0 rfl rfl ?_
      refine aw_aload_n (n := 28) dX3_replay_27 rfl 2 rfl rfl ?_
      refine aw_getf (n := 31) (v := .int (nI (Kn ms))) (C0 := RX3) (T := TX3) dX3_replay_28 rfl 33 q2674 (Or.inl rfl) hTc.1 (congrArg some (congrArg Value.int (by rw [hJ33]; exact hI.K))) rfl ?_
      refine aw_icmp_ge (n := 34) (tgt := 103) dX3_replay_31 (by decide) rfl (fun c_31 => ?_) (fun c_31 => ?_)
      · skip
        have n_31 : (Kn ms) ≤ c := (nI_leI (a := (Kn ms)) (b := c) (by omega) (by omega)).mp (by exact c_31)
        refine aw_iload_n (n := 104) dX3_replay_103 rfl 1 rfl rfl ?_
        have e9 : opReplay ms = ((rpT (begT (tS ms 0 0)) (min (Mn ms 0) (KMn ms)) (ms.2.2 36) (ms.2.1 35) c).1, ((rpT (begT (tS ms 0 0)) (min (Mn ms 0) (KMn ms)) (ms.2.2 36) (ms.2.1 35) c).2)) := by rw [opReplay, if_pos (of_decide_eq_true b_9), show Kn ms = c by omega]
        exact aw_iret dX3_replay_104 rfl ⟨by rw [e9], by rw [e9]; exact hTc, hFc, (by omega)⟩ ⟨Nat.zero_le _, Nat.zero_le _⟩
      · skip
        have n_31 : ¬ ((Kn ms) ≤ c) := fun z => c_31 (by have y := (nI_leI (a := (Kn ms)) (b := c) (by omega) (by omega)).mpr z; exact y)
        refine aw_iconst (n := 35) (v := 0) dX3_replay_34 (by decide) rfl ?_
        refine aw_istore_n (n := 36) (lv' := [(3, .int 0), (2, .int (nI c)), (1, .int ((rpT (begT (tS ms 0 0)) (min (Mn ms 0) (KMn ms)) (ms.2.2 36) (ms.2.1 35) c).1)), (0, .ref b)]) dX3_replay_35 rfl (by decide) rfl rfl ?_
        suffices L_36 : ∀ (m_ : Nat) (c2 : Nat) (h2 : hH) (hc2 : c2 ≤ (min (Mn ms 0) (KMn ms))) (hTd : TW b h2 (rpS ((rpT (begT (tS ms 0 0)) (min (Mn ms 0) (KMn ms)) (ms.2.2 36) (ms.2.1 35) c).2) (ms.2.2 36) c c2)) (hFd : Fr (TS b) h h2) (hzd : h2.1 = h.1), (min (Mn ms 0) (KMn ms)) - c2 < m_ → AW G kX3_replay ((7, 143, 0, 0), (fun r h1 => r = some (.int (opReplay ms).1) ∧ TW b h1 ((opReplay ms).2) ∧ Fr (TS b) h h1 ∧ h1.1 = h.1), nX) 36 [(3, .int (nI c2)), (2, .int (nI c)), (1, .int ((rpT (begT (tS ms 0 0)) (min (Mn ms 0) (KMn ms)) (ms.2.2 36) (ms.2.1 35) c).1)), (0, .ref b)] [] h2 0 0 from
          AW.lvs (lv' := [(3, .int 0), (2, .int (nI c)), (1, .int ((rpT (begT (tS ms 0 0)) (min (Mn ms 0) (KMn ms)) (ms.2.2 36) (ms.2.1 35) c).1)), (0, .ref b)]) (AW.eq (lv2 := _) (rfl) rfl rfl rfl rfl (L_36 _ 0 hh (by omega) hTc hFc (by omega) (Nat.lt_succ_self _))) (by simp)
        intro m_
        induction m_ with
        | zero => intro c2 h2 hc2 hTd hFd hzd h_m; exact absurd h_m (Nat.not_lt_zero _)
        | succ m_ ih_36 =>
          intro c2 h2 hc2 hTd hFd hzd h_m
          refine aw_iload_n (n := 37) dX3_replay_36 rfl 0 rfl rfl ?_
          refine aw_aload_n (n := 38) dX3_replay_37 rfl 3 rfl rfl ?_
          refine aw_getf (n := 41) (v := .ref (b + 16)) (C0 := RX3) (T := TX3) dX3_replay_38 rfl 23 q2664 (Or.inl rfl) hTd.1 rfl rfl ?_
          refine aw_iconst (n := 42) (v := 0) dX3_replay_41 (by decide) rfl ?_
          refine aw_iald (n := 43) (v := .int ((rpS ((rpT (begT (tS ms 0 0)) (min (Mn ms 0) (KMn ms)) (ms.2.2 36) (ms.2.1 35) c).2) (ms.2.2 36) c c2).2.1 23 0)) dX3_replay_42 rfl 0 (by rfl) hTd.a23 (by omega) (by decide) rfl rfl ?_
          refine aw_aload_n (n := 44) dX3_replay_43 rfl 3 rfl rfl ?_
          refine aw_getf (n := 47) (v := .int (nI (KMn ms))) (C0 := RX3) (T := TX3) dX3_replay_44 rfl 34 q2675 (Or.inl rfl) hTd.1 (congrArg some (congrArg Value.int (by rw [rpS_1, hJ34]; exact hI.KM))) rfl ?_
          refine AW.sts (st' := [.int (nI (KMn ms)), .int (nI (Mn ms 0)), .int (nI c2)]) (by rw [show (rpS ((rpT (begT (tS ms 0 0)) (min (Mn ms 0) (KMn ms)) (ms.2.2 36) (ms.2.1 35) c).2) (ms.2.2 36) c c2).2.1 23 0 = nI (Mn ms 0) from (by rw [rpS_21, hJ23]; exact hI.M (by decide))]) ?_
          refine aw_callS (n := 50) (As := [.int (nI (Mn ms 0)), .int (nI (KMn ms))]) (rest := [.int (nI c2)]) (K2 := kJ15_min) dX3_replay_47 q3121 q394 q125 q395 hcJ15_min (cj_minI G h2 (nI (Mn ms 0)) (nI (KMn ms))) rfl (Nat.le_of_ble_eq_true rfl) ⟨Nat.le_of_ble_eq_true rfl, Nat.le_of_ble_eq_true rfl⟩ ⟨Nat.zero_le _, Nat.zero_le _⟩ (fun _ _ _ z => z.elim) rfl (fun r_47 h_47 q_47 => ?_)
          obtain ⟨rfl, rfl⟩ := q_47
          refine AW.sts (st' := [.int (nI (min (Mn ms 0) (KMn ms))), .int (nI c2)]) (by rw [minN (show Mn ms 0 < 2 ^ 31 by omega) (show KMn ms < 2 ^ 31 by omega)]; rfl) ?_
          refine aw_icmp_ge (n := 53) (tgt := 76) dX3_replay_50 (by decide) rfl (fun c_50 => ?_) (fun c_50 => ?_)
          · skip
            have n_50 : (min (Mn ms 0) (KMn ms)) ≤ c2 := (nI_leI (by omega) (by omega)).mp c_50
            have e9 : c2 = (min (Mn ms 0) (KMn ms)) := by omega
            subst e9
            refine aw_iload_n (n := 77) dX3_replay_76 rfl 2 rfl rfl ?_
            refine aw_aload_n (n := 78) dX3_replay_77 rfl 3 rfl rfl ?_
            refine aw_aload_n (n := 79) dX3_replay_78 rfl 3 rfl rfl ?_
            refine aw_getf (n := 82) (v := .ref (b + 23)) (C0 := RX3) (T := TX3) dX3_replay_79 rfl 35 q2676 (Or.inl rfl) hTd.1 rfl rfl ?_
            refine aw_iload_n (n := 83) dX3_replay_82 rfl 1 rfl rfl ?_
            refine aw_iald (n := 84) (v := .int ((rpS ((rpT (begT (tS ms 0 0)) (min (Mn ms 0) (KMn ms)) (ms.2.2 36) (ms.2.1 35) c).2) (ms.2.2 36) c (min (Mn ms 0) (KMn ms))).2.1 35 c)) dX3_replay_83 rfl c rfl hTd.a35 (by omega) (by decide) rfl rfl ?_
            refine AW.sts (st' := [.int (ms.2.1 35 c)] ++ [.ref b, .int ((rpT (begT (tS ms 0 0)) (min (Mn ms 0) (KMn ms)) (ms.2.2 36) (ms.2.1 35) c).1)]) (by rw [show (rpS ((rpT (begT (tS ms 0 0)) (min (Mn ms 0) (KMn ms)) (ms.2.2 36) (ms.2.1 35) c).2) (ms.2.2 36) c (min (Mn ms 0) (KMn ms))).2.1 35 c = ms.2.1 35 c from by rw [rpS_21, hJ35]]; rfl) ?_
            refine AW.sts (st' := [.int (ms.2.1 35 c), .ref b, .int ((rpT (begT (tS ms 0 0)) (min (Mn ms 0) (KMn ms)) (ms.2.2 36) (ms.2.1 35) c).1)]) rfl ?_
            refine aw_callV (n := 87) (C0 := RX3) (As := [.int (ms.2.1 35 c)]) (rest := [.int ((rpT (begT (tS ms 0 0)) (min (Mn ms 0) (KMn ms)) (ms.2.2 36) (ms.2.1 35) c).1)]) (K2 := kX3_step) dX3_replay_84 q3044 q3046 qs88 q113 q3047 ⟨rfl, hcX3_step⟩ rfl hTd.1 (ct_step G h2 b (rpS ((rpT (begT (tS ms 0 0)) (min (Mn ms 0) (KMn ms)) (ms.2.2 36) (ms.2.1 35) c).2) (ms.2.2 36) c (min (Mn ms 0) (KMn ms))) hb hTd (rpS_ok hJ.1 _ _ _) (ms.2.1 35 c) (by have z : Sn (rpS ((rpT (begT (tS ms 0 0)) (min (Mn ms 0) (KMn ms)) (ms.2.2 36) (ms.2.1 35) c).2) (ms.2.2 36) c (min (Mn ms 0) (KMn ms))) = c := (by unfold Sn; rw [rpS_1]; exact hJ.2.1); omega)) rfl (Nat.le_of_ble_eq_true rfl) ⟨Nat.le_of_ble_eq_true rfl, Nat.le_of_ble_eq_true rfl⟩ ⟨Nat.zero_le _, Nat.zero_le _⟩ (fun _ _ _ z => z.elim) rfl (fun r_84 h_84 q_84 => ?_)
            obtain ⟨rfl, hT_84, hF_84, hz_84⟩ := q_84
            have hG_84 := Fr.trans hFd hF_84
            refine AW.sts (st' := [.int ((stepT (rpS ((rpT (begT (tS ms 0 0)) (min (Mn ms 0) (KMn ms)) (ms.2.2 36) (ms.2.1 35) c).2) (ms.2.2 36) c (min (Mn ms 0) (KMn ms))) (ms.2.1 35 c)).1), .int ((rpT (begT (tS ms 0 0)) (min (Mn ms 0) (KMn ms)) (ms.2.2 36) (ms.2.1 35) c).1)]) rfl ?_
            refine aw_if_ne (n := 90) (tgt := 94) dX3_replay_87 (by decide) rfl (fun c_87 => ?_) (fun c_87 => ?_)
            · skip
              refine aw_iconst (n := 95) (v := 0) dX3_replay_94 (by decide) rfl ?_
              refine aw_iadd (n := 96) dX3_replay_95 rfl ?_
              refine aw_istore_n (n := 97) (lv' := [(1, .int (((rpT (begT (tS ms 0 0)) (min (Mn ms 0) (KMn ms)) (ms.2.2 36) (ms.2.1 35) c).1) + 0)), (3, .int (nI (min (Mn ms 0) (KMn ms)))), (2, .int (nI c)), (0, .ref b)]) dX3_replay_96 rfl (by decide) rfl rfl ?_
              refine aw_iinc (n := 100) (v := nI (c + 1)) (lv' := [(2, .int (nI (c + 1))), (1, .int (((rpT (begT (tS ms 0 0)) (min (Mn ms 0) (KMn ms)) (ms.2.2 36) (ms.2.1 35) c).1) + 0)), (3, .int (nI (min (Mn ms 0) (KMn ms)))), (0, .ref b)]) dX3_replay_97 2 rfl (by rw [show nI c = nI c from rfl]; exact nI_1 _) (by decide) rfl rfl ?_
              refine aw_goto (tgt := 26) dX3_replay_100 (by decide) ?_
              exact AW.lvs (lv' := [(2, .int (nI (c + 1))), (1, .int (((rpT (begT (tS ms 0 0)) (min (Mn ms 0) (KMn ms)) (ms.2.2 36) (ms.2.1 35) c).1) + 0)), (0, .ref b)]) (AW.eq (lv2 := _) (by rw [show ((rpT (begT (tS ms 0 0)) (min (Mn ms 0) (KMn ms)) (ms.2.2 36) (ms.2.1 35) (c + 1))).1 = ((rpT (begT (tS ms 0 0)) (min (Mn ms 0) (KMn ms)) (ms.2.2 36) (ms.2.1 35) c).1) + 0 from by rw [rpT]; simp [c_87]]) rfl rfl rfl rfl (ih_26 (c + 1) h_84 (by omega) hT_84 hG_84 (by omega) (by omega))) (by simp)
            · skip
              refine aw_iconst (n := 91) (v := 1) dX3_replay_90 (by decide) rfl ?_
              refine aw_goto (tgt := 95) dX3_replay_91 (by decide) ?_
              refine aw_iadd (n := 96) dX3_replay_95 rfl ?_
              refine aw_istore_n (n := 97) (lv' := [(1, .int (((rpT (begT (tS ms 0 0)) (min (Mn ms 0) (KMn ms)) (ms.2.2 36) (ms.2.1 35) c).1) + 1)), (3, .int (nI (min (Mn ms 0) (KMn ms)))), (2, .int (nI c)), (0, .ref b)]) dX3_replay_96 rfl (by decide) rfl rfl ?_
              refine aw_iinc (n := 100) (v := nI (c + 1)) (lv' := [(2, .int (nI (c + 1))), (1, .int (((rpT (begT (tS ms 0 0)) (min (Mn ms 0) (KMn ms)) (ms.2.2 36) (ms.2.1 35) c).1) + 1)), (3, .int (nI (min (Mn ms 0) (KMn ms)))), (0, .ref b)]) dX3_replay_97 2 rfl (by rw [show nI c = nI c from rfl]; exact nI_1 _) (by decide) rfl rfl ?_
              refine aw_goto (tgt := 26) dX3_replay_100 (by decide) ?_
              exact AW.lvs (lv' := [(2, .int (nI (c + 1))), (1, .int (((rpT (begT (tS ms 0 0)) (min (Mn ms 0) (KMn ms)) (ms.2.2 36) (ms.2.1 35) c).1) + 1)), (0, .ref b)]) (AW.eq (lv2 := _) (by rw [show ((rpT (begT (tS ms 0 0)) (min (Mn ms 0) (KMn ms)) (ms.2.2 36) (ms.2.1 35) (c + 1))).1 = ((rpT (begT (tS ms 0 0)) (min (Mn ms 0) (KMn ms)) (ms.2.2 36) (ms.2.1 35) c).1) + 1 from by rw [rpT]; simp [c_87]]) rfl rfl rfl rfl (ih_26 (c + 1) h_84 (by omega) hT_84 hG_84 (by omega) (by omega))) (by simp)
          · skip
            have n_50 : ¬ ((min (Mn ms 0) (KMn ms)) ≤ c2) := fun z => c_50 ((nI_leI (by omega) (by omega)).mpr z)
            refine aw_aload_n (n := 54) dX3_replay_53 rfl 3 rfl rfl ?_
            refine aw_getf (n := 57) (v := .ref (b + 22)) (C0 := RX3) (T := TX3) dX3_replay_54 rfl 32 q2673 (Or.inl rfl) hTd.1 rfl rfl ?_
            refine aw_iload_n (n := 58) dX3_replay_57 rfl 0 rfl rfl ?_
            refine aw_aload_n (n := 59) dX3_replay_58 rfl 3 rfl rfl ?_
            refine aw_getf (n := 62) (v := .ref (b + 24)) (C0 := RX3) (T := TX3) dX3_replay_59 rfl 36 q2677 (Or.inl rfl) hTd.1 rfl rfl ?_
            refine aw_bipush (n := 64) (v := 8) dX3_replay_62 (by decide) rfl ?_
            refine aw_iload_n (n := 65) dX3_replay_64 rfl 1 rfl rfl ?_
            refine aw_imul (n := 66) dX3_replay_65 rfl ?_
            refine aw_iload_n (n := 67) dX3_replay_66 rfl 0 rfl rfl ?_
            refine aw_iadd (n := 68) dX3_replay_67 rfl ?_
            refine aw_lald (n := 69) (v := .long ((rpS ((rpT (begT (tS ms 0 0)) (min (Mn ms 0) (KMn ms)) (ms.2.2 36) (ms.2.1 35) c).2) (ms.2.2 36) c c2).2.2 36 ((8 * c) + c2))) dX3_replay_68 rfl ((8 * c) + c2) (by rw [show 8 * (nI c) = nI (8 * c) from (by rw [show 8 = nI 8 from (by rfl), show nI c = nI c from rfl]; exact pk_mul _ _), show nI c2 = nI c2 from rfl]; exact nI_add _ _) hTd.a36 (by omega) (by decide) rfl rfl ?_
            refine aw_tlast (n := 70) dX3_replay_69 TW.m32 hTd hb c2 rfl (by omega) (by decide) rfl (fun h_2 hT_2 hF_2 hz_2 => ?_)
            have hG_2 := Fr.trans hFd hF_2
            refine aw_iinc (n := 73) (v := nI (c2 + 1)) (lv' := [(3, .int (nI (c2 + 1))), (2, .int (nI c)), (1, .int ((rpT (begT (tS ms 0 0)) (min (Mn ms 0) (KMn ms)) (ms.2.2 36) (ms.2.1 35) c).1)), (0, .ref b)]) dX3_replay_70 0 rfl (by rw [show nI c2 = nI c2 from rfl]; exact nI_1 _) (by decide) rfl rfl ?_
            refine aw_goto (tgt := 36) dX3_replay_73 (by decide) ?_
            exact AW.lvs (lv' := [(3, .int (nI (c2 + 1))), (2, .int (nI c)), (1, .int ((rpT (begT (tS ms 0 0)) (min (Mn ms 0) (KMn ms)) (ms.2.2 36) (ms.2.1 35) c).1)), (0, .ref b)]) (AW.eq (lv2 := _) (rfl) rfl rfl rfl rfl (ih_36 (c2 + 1) h_2 (by omega) (by have z := hT_2; rw [rpS_22 _ _ _ _ (by decide), hJ36] at z; exact z) hG_2 (by omega) (by omega))) (by simp)
  · skip
    have b_9 : (decide (0 < Mn ms 3)) = false := (bI_0 _).mp c_9
    refine aw_aload_n (n := 13) dX3_replay_12 rfl 0 rfl rfl ?_
    refine aw_iconst (n := 14) (v := 1) dX3_replay_13 (by decide) rfl ?_
    refine aw_callV (n := 17) (C0 := RX3) (As := [.int 1]) (rest := []) (K2 := kX3_no) dX3_replay_14 q2773 q2775 qs42 q113 q2776 ⟨rfl, hcX3_no⟩ rfl hT_1.1 (ct_no G h_1 b (tS ms 0 (0 : Int32)) hb hT_1 (1 : Int32)) rfl (Nat.le_of_ble_eq_true rfl) ⟨Nat.le_of_ble_eq_true rfl, Nat.le_of_ble_eq_true rfl⟩ ⟨Nat.zero_le _, Nat.zero_le _⟩ (fun _ _ _ z => z.elim) rfl (fun r_14 h_14 q_14 => ?_)
    obtain ⟨rfl, hT_14, hF_14, hz_14⟩ := q_14
    have hG_14 := Fr.trans hF_1 hF_14
    refine AW.sts (st' := [.int 0]) rfl ?_
    have e9 : opReplay ms = (0, tS (tS ms 0 (0 : Int32)) 0 (1 : Int32)) := by first | (simp [opReplay, b_9, c_9, tS_tS]; done) | simp_all [opReplay, tS_tS]
    exact aw_iret dX3_replay_17 rfl ⟨by rw [e9], by rw [e9]; exact hT_14, hG_14, (by omega)⟩ ⟨Nat.zero_le _, Nat.zero_le _⟩

end
