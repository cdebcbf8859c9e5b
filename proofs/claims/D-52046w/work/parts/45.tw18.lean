/-! The twin: scan. -/
section
set_option maxRecDepth 100000
theorem nI_sub2 {p q : Nat} (h : p ≤ q) : nI q - nI p = nI (q - p) := by
  have := nI_dif p (q - p)
  rwa [show p + (q - p) = q by omega] at this
theorem Ln_sc (ms : tM) (n : Nat) : Ln (scT ms n) = Ln ms := by unfold Ln; rw [scT_1]
theorem tpOK_sc {ms : tM} (h : tpOK ms) (n : Nat) : tpOK (scT ms n) := by
  unfold tpOK
  rw [Ln_sc, scT_k ms (by decide)]
  exact h
theorem sym_mx (x y : Int32) : (if 1 < symT x y then symT x y else 1) = nI (if 1 < symT x y then 2 else 1) := by
  rcases symT_in x y with e | e | e <;> rw [e] <;> decide
abbrev kX3_scan : aK := (yX3_scan, cX3_scan, 6, (Option.none : Option Jvm.ClassFile.FieldType), [])
theorem hcX3_scan : kX3_scan.1.cls ≠ "java/lang/invoke/MethodHandle" ∧ kX3_scan.1.cls ≠ "java/lang/invoke/VarHandle" ∧ (parseMethodDescriptor kX3_scan.1.desc).map (fun d => d.parameters.length) = some 0 := ⟨by decide, by decide, by decide +kernel⟩
theorem ct_scan (G : aG) (h : hH)  (b : Nat) (ms : tM) (hb : gB G ≤ b) (hT : TW b h ms) (hL : ms.1 2 = nI (Ln ms)) (hL2 : Ln ms ≤ 1800) (hY : tpOK ms) : Con G kX3_scan [.ref b] h ((6, 115, 0, 0), (fun r h1 => ∃ n : Nat, r = none ∧ TW b h1 (scT ms (n + 1)) ∧ Fr (TS b) h h1 ∧ h1.1 = h.1 ∧ kinT (byT ms) (Ln ms) n = 0 ∧ ∀ i : Nat, i < n → kinT (byT ms) (Ln ms) i ≠ 0), nX) := by
  refine Con.of (plainFor_of_name rfl) rfl (Nat.le_of_ble_eq_true rfl) ?_
  refine AW.eq (lv2 := [(0, .ref b)]) (s2 := []) rfl rfl rfl rfl rfl ?_
  refine aw_iconst (n := 1) (v := 0) dX3_scan_0 (by decide) rfl ?_
  refine aw_istore_n (n := 2) (lv' := [(1, .int 0), (0, .ref b)]) dX3_scan_1 rfl (by decide) rfl rfl ?_
  refine aw_iconst (n := 3) (v := 0) dX3_scan_2 (by decide) rfl ?_
  refine aw_istore_n (n := 4) (lv' := [(2, .int 0), (1, .int 0), (0, .ref b)]) dX3_scan_3 rfl (by decide) rfl rfl ?_
  refine aw_iconst (n := 5) (v := 1) dX3_scan_4 (by decide) rfl ?_
  refine aw_istore_n (n := 6) (lv' := [(3, .int 1), (2, .int 0), (1, .int 0), (0, .ref b)]) dX3_scan_5 rfl (by decide) rfl rfl ?_
  suffices L_6 : ∀ (m_ : Nat) (n : Nat) (z : Bool) (hh : hH) (hn : n ≤ Ln ms + 1) (hTc : TW b hh (scT ms n)) (hFc : Fr (TS b) h hh) (hzc : hh.1 = h.1) (hk1 : ∀ i : Nat, i + 1 < n → kinT (byT ms) (Ln ms) i ≠ 0) (hk2 : z = true → ∀ i : Nat, i < n → kinT (byT ms) (Ln ms) i ≠ 0) (hk3 : z = false → 0 < n ∧ kinT (byT ms) (Ln ms) (n - 1) = 0), Ln ms + 2 - n < m_ → AW G kX3_scan ((6, 115, 0, 0), (fun r h1 => ∃ n : Nat, r = none ∧ TW b h1 (scT ms (n + 1)) ∧ Fr (TS b) h h1 ∧ h1.1 = h.1 ∧ kinT (byT ms) (Ln ms) n = 0 ∧ ∀ i : Nat, i < n → kinT (byT ms) (Ln ms) i ≠ 0), nX) 6 [(3, .int (bI z)), (2, .int (nI (posT (byT ms) (Ln ms) n))), (1, .int (nI n)), (0, .ref b)] [] hh 0 0 from
    AW.lvs (lv' := [(3, .int 1), (2, .int 0), (1, .int 0), (0, .ref b)]) (AW.eq (lv2 := _) (rfl) rfl rfl rfl rfl (L_6 _ 0 true h (Nat.zero_le _) hT Fr.rf rfl (fun i hi => absurd hi (by omega)) (fun _ i hi => absurd hi (by omega)) (fun z => absurd z (by decide)) (Nat.lt_succ_self _))) (by simp)
  intro m_
  induction m_ with
  | zero => intro n z hh hn hTc hFc hzc hk1 hk2 hk3 h_m; exact absurd h_m (Nat.not_lt_zero _)
  | succ m_ ih_6 =>
    intro n z hh hn hTc hFc hzc hk1 hk2 hk3 h_m
    refine aw_iload_n (n := 7) dX3_scan_6 rfl 0 rfl rfl ?_
    refine aw_if_eq (n := 10) (tgt := 230) dX3_scan_7 (by decide) rfl (fun c_7 => ?_) (fun c_7 => ?_)
    · skip
      have b_7 : z = false := (bI_0 _).mp c_7
      exact aw_vret dX3_scan_230 rfl ⟨n - 1, rfl, by rw [show n - 1 + 1 = n by have := (hk3 b_7).1; omega]; exact hTc, hFc, hzc, (hk3 b_7).2, fun i hi => hk1 i (by omega)⟩ ⟨Nat.zero_le _, Nat.zero_le _⟩
    · skip
      have b_7 : z = true := Bool.of_not_eq_false (fun e => c_7 ((bI_0 _).mpr e))
      have hall := hk2 b_7
      have hpg := posT_ge n hall
      have hpi := posT_in (ms := ms) n
      suffices L_10 : ∀ (m_ : Nat) (p : Nat) (hp : p ≤ Ln ms) (hsk : skT (byT ms) (Ln ms) (posT (byT ms) (Ln ms) n) = spn (fun k => blB (byT ms k)) (Ln ms - p) p), Ln ms - p < m_ → AW G kX3_scan ((6, 115, 0, 0), (fun r h1 => ∃ n : Nat, r = none ∧ TW b h1 (scT ms (n + 1)) ∧ Fr (TS b) h h1 ∧ h1.1 = h.1 ∧ kinT (byT ms) (Ln ms) n = 0 ∧ ∀ i : Nat, i < n → kinT (byT ms) (Ln ms) i ≠ 0), nX) 10 [(2, .int (nI p)), (1, .int (nI n)), (0, .ref b)] [] hh 0 0 from
        AW.lvs (lv' := [(2, .int (nI (posT (byT ms) (Ln ms) n))), (1, .int (nI n)), (0, .ref b)]) (AW.eq (lv2 := _) (rfl) rfl rfl rfl rfl (L_10 _ (posT (byT ms) (Ln ms) n) hpi rfl (Nat.lt_succ_self _))) (by simp)
      intro m_
      induction m_ with
      | zero => intro p hp hsk h_m; exact absurd h_m (Nat.not_lt_zero _)
      | succ m_ ih_10 =>
        intro p hp hsk h_m
        refine aw_aload_n (n := 11) dX3_scan_10 rfl 2 rfl rfl ?_
        refine aw_iload_n (n := 12) dX3_scan_11 rfl 0 rfl rfl ?_
        refine aw_callV (n := 15) (C0 := RX3) (As := [.int (nI p)]) (rest := []) (K2 := kX3_byteAt) dX3_scan_12 q2796 q2798 qs45 q113 q2799 ⟨rfl, hcX3_byteAt⟩ rfl hTc.1 (ct_byteAt G hh b (scT ms n) hb hTc p (Ln ms) (by omega) (by rw [scT_1]; exact hL) hL2) rfl (Nat.le_of_ble_eq_true rfl) ⟨Nat.le_of_ble_eq_true rfl, Nat.le_of_ble_eq_true rfl⟩ ⟨Nat.zero_le _, Nat.zero_le _⟩ (fun _ _ _ z => z.elim) rfl (fun r_12 h_12 q_12 => ?_)
        obtain ⟨rfl, rfl⟩ := q_12
        refine AW.sts (st' := [.int (byT ms p)]) (by rw [scT_k ms (by decide)]; rfl) ?_
        refine aw_bipush (n := 17) (v := 32) dX3_scan_15 (by decide) rfl ?_
        refine aw_icmp_eq (n := 20) (tgt := 30) dX3_scan_17 (by decide) rfl (fun c_17 => ?_) (fun c_17 => ?_)
        · skip
          have hlt8 : p < Ln ms := byT_lt (by first | (rw [c_17]; decide) | (rw [c_27]; decide))
          refine aw_iinc (n := 33) (v := nI (p + 1)) (lv' := [(2, .int (nI (p + 1))), (1, .int (nI n)), (0, .ref b)]) dX3_scan_30 0 rfl (by rw [show nI p = nI p from rfl]; exact nI_1 _) (by decide) rfl rfl ?_
          refine aw_goto (tgt := 10) dX3_scan_33 (by decide) ?_
          exact AW.lvs (lv' := [(2, .int (nI (p + 1))), (1, .int (nI n)), (0, .ref b)]) (AW.eq (lv2 := _) (rfl) rfl rfl rfl rfl (ih_10 (p + 1) (by have z9 : p < Ln ms := byT_lt (by first | (rw [c_17]; decide) | (rw [c_27]; decide)); omega) (hsk.trans (spn_go (by show blB (byT ms p) = true; first | (rw [c_17]; rfl) | (rw [c_27]; rfl)) (byT_lt (by first | (rw [c_17]; decide) | (rw [c_27]; decide))))) (by omega))) (by simp)
        · skip
          refine aw_aload_n (n := 21) dX3_scan_20 rfl 2 rfl rfl ?_
          refine aw_iload_n (n := 22) dX3_scan_21 rfl 0 rfl rfl ?_
          refine aw_callV (n := 25) (C0 := RX3) (As := [.int (nI p)]) (rest := []) (K2 := kX3_byteAt) dX3_scan_22 q2796 q2798 qs45 q113 q2799 ⟨rfl, hcX3_byteAt⟩ rfl hTc.1 (ct_byteAt G hh b (scT ms n) hb hTc p (Ln ms) (by omega) (by rw [scT_1]; exact hL) hL2) rfl (Nat.le_of_ble_eq_true rfl) ⟨Nat.le_of_ble_eq_true rfl, Nat.le_of_ble_eq_true rfl⟩ ⟨Nat.zero_le _, Nat.zero_le _⟩ (fun _ _ _ z => z.elim) rfl (fun r_22 h_22 q_22 => ?_)
          obtain ⟨rfl, rfl⟩ := q_22
          refine AW.sts (st' := [.int (byT ms p)]) (by rw [scT_k ms (by decide)]; rfl) ?_
          refine aw_bipush (n := 27) (v := 10) dX3_scan_25 (by decide) rfl ?_
          refine aw_icmp_ne (n := 30) (tgt := 36) dX3_scan_27 (by decide) rfl (fun c_27 => ?_) (fun c_27 => ?_)
          · skip
            have hs9 : skT (byT ms) (Ln ms) (posT (byT ms) (Ln ms) n) = p := hsk.trans (spn_stop (by show blB (byT ms p) = false; simp [blB, c_17, c_27]) _)
            suffices J_187 : ∀ (so q : Nat) (hq : tokQ (byT ms) (Ln ms) p = (so, q)), AW G kX3_scan ((6, 115, 0, 0), (fun r h1 => ∃ n : Nat, r = none ∧ TW b h1 (scT ms (n + 1)) ∧ Fr (TS b) h h1 ∧ h1.1 = h.1 ∧ kinT (byT ms) (Ln ms) n = 0 ∧ ∀ i : Nat, i < n → kinT (byT ms) (Ln ms) i ≠ 0), nX) 187 [(5, .int (nI so)), (4, .int (nI q)), (2, .int (nI p)), (1, .int (nI n)), (0, .ref b)] [] hh 0 0 by
              refine aw_iload_n (n := 37) dX3_scan_36 rfl 0 rfl rfl ?_
              refine aw_istore (n := 39) (lv' := [(4, .int (nI p)), (2, .int (nI p)), (1, .int (nI n)), (0, .ref b)]) dX3_scan_37 (by decide) rfl rfl ?_
              refine aw_iconst (n := 40) (v := 0) dX3_scan_39 (by decide) rfl ?_
              refine aw_istore (n := 42) (lv' := [(5, .int 0), (4, .int (nI p)), (2, .int (nI p)), (1, .int (nI n)), (0, .ref b)]) dX3_scan_40 (by decide) rfl rfl ?_
              refine aw_aload_n (n := 43) dX3_scan_42 rfl 4 rfl rfl ?_
              refine aw_iload_n (n := 44) dX3_scan_43 rfl 2 rfl rfl ?_
              refine aw_callV (n := 47) (C0 := RX3) (As := [.int (nI p)]) (rest := []) (K2 := kX3_byteAt) dX3_scan_44 q2796 q2798 qs45 q113 q2799 ⟨rfl, hcX3_byteAt⟩ rfl hTc.1 (ct_byteAt G hh b (scT ms n) hb hTc p (Ln ms) (by omega) (by rw [scT_1]; exact hL) hL2) rfl (Nat.le_of_ble_eq_true rfl) ⟨Nat.le_of_ble_eq_true rfl, Nat.le_of_ble_eq_true rfl⟩ ⟨Nat.zero_le _, Nat.zero_le _⟩ (fun _ _ _ z => z.elim) rfl (fun r_44 h_44 q_44 => ?_)
              obtain ⟨rfl, rfl⟩ := q_44
              refine AW.sts (st' := [.int (byT ms p)]) (by rw [scT_k ms (by decide)]; rfl) ?_
              refine aw_callS (n := 50) (As := [.int (byT ms p)]) (rest := []) (K2 := kX3_isLetter) dX3_scan_47 q2800 q2801 q113 q2802 hcX3_isLetter (ct_isLetter G hh (byT ms p)) rfl (Nat.le_of_ble_eq_true rfl) ⟨Nat.le_of_ble_eq_true rfl, Nat.le_of_ble_eq_true rfl⟩ ⟨Nat.zero_le _, Nat.zero_le _⟩ (fun _ _ _ z => z.elim) rfl (fun r_47 h_47 q_47 => ?_)
              obtain ⟨rfl, rfl⟩ := q_47
              refine AW.sts (st' := [.int (bI (leB (byT ms p)))]) rfl ?_
              refine aw_if_eq (n := 53) (tgt := 102) dX3_scan_50 (by decide) rfl (fun c_50 => ?_) (fun c_50 => ?_)
              · skip
                have b_50 : (leB (byT ms p)) = false := (bI_0 _).mp c_50
                refine aw_aload_n (n := 103) dX3_scan_102 rfl 4 rfl rfl ?_
                refine aw_iload_n (n := 104) dX3_scan_103 rfl 2 rfl rfl ?_
                refine aw_callV (n := 107) (C0 := RX3) (As := [.int (nI p)]) (rest := []) (K2 := kX3_byteAt) dX3_scan_104 q2796 q2798 qs45 q113 q2799 ⟨rfl, hcX3_byteAt⟩ rfl hTc.1 (ct_byteAt G hh b (scT ms n) hb hTc p (Ln ms) (by omega) (by rw [scT_1]; exact hL) hL2) rfl (Nat.le_of_ble_eq_true rfl) ⟨Nat.le_of_ble_eq_true rfl, Nat.le_of_ble_eq_true rfl⟩ ⟨Nat.zero_le _, Nat.zero_le _⟩ (fun _ _ _ z => z.elim) rfl (fun r_104 h_104 q_104 => ?_)
                obtain ⟨rfl, rfl⟩ := q_104
                refine AW.sts (st' := [.int (byT ms p)]) (by rw [scT_k ms (by decide)]; rfl) ?_
                refine aw_callS (n := 110) (As := [.int (byT ms p)]) (rest := []) (K2 := kX3_isDigit) dX3_scan_107 q2803 q2804 q113 q2805 hcX3_isDigit (ct_isDigit G hh (byT ms p)) rfl (Nat.le_of_ble_eq_true rfl) ⟨Nat.le_of_ble_eq_true rfl, Nat.le_of_ble_eq_true rfl⟩ ⟨Nat.zero_le _, Nat.zero_le _⟩ (fun _ _ _ z => z.elim) rfl (fun r_107 h_107 q_107 => ?_)
                obtain ⟨rfl, rfl⟩ := q_107
                refine AW.sts (st' := [.int (bI (diB (byT ms p)))]) rfl ?_
                refine aw_if_eq (n := 113) (tgt := 150) dX3_scan_110 (by decide) rfl (fun c_110 => ?_) (fun c_110 => ?_)
                · skip
                  have b_110 : (diB (byT ms p)) = false := (bI_0 _).mp c_110
                  refine aw_iload_n (n := 151) dX3_scan_150 rfl 2 rfl rfl ?_
                  refine aw_aload_n (n := 152) dX3_scan_151 rfl 4 rfl rfl ?_
                  refine aw_getf (n := 155) (v := .int (nI (Ln ms))) (C0 := RX3) (T := TX3) dX3_scan_152 rfl 2 q2643 (Or.inl rfl) hTc.1 (congrArg some (congrArg Value.int (by rw [scT_1]; exact hL))) rfl ?_
                  refine aw_icmp_ge (n := 158) (tgt := 187) dX3_scan_155 (by decide) rfl (fun c_155 => ?_) (fun c_155 => ?_)
                  · skip
                    have n_155 : (Ln ms) ≤ p := (nI_leI (a := (Ln ms)) (b := p) (by omega) (by omega)).mp (by exact c_155)
                    exact AW.lvs (lv' := [(5, .int 0), (4, .int (nI p)), (2, .int (nI p)), (1, .int (nI n)), (0, .ref b)]) (AW.eq (lv2 := _) (rfl) (rfl) rfl rfl rfl (J_187 0 p (by rw [tokQ, if_neg (by rw [b_50]; decide), if_neg (by rw [b_110]; decide), if_neg (by omega)]))) (by simp)
                  · skip
                    have n_155 : ¬ ((Ln ms) ≤ p) := fun z => c_155 (by have y := (nI_leI (a := (Ln ms)) (b := p) (by omega) (by omega)).mpr z; exact y)
                    refine aw_iload (n := 160) dX3_scan_158 1 rfl rfl ?_
                    refine aw_iconst (n := 161) (v := 1) dX3_scan_160 (by decide) rfl ?_
                    refine aw_aload_n (n := 162) dX3_scan_161 rfl 4 rfl rfl ?_
                    refine aw_iload_n (n := 163) dX3_scan_162 rfl 2 rfl rfl ?_
                    refine aw_callV (n := 166) (C0 := RX3) (As := [.int (nI p)]) (rest := [.int 1, .int (nI p)]) (K2 := kX3_symbolAt) dX3_scan_163 q2806 q2808 qs46 q113 q2809 ⟨rfl, hcX3_symbolAt⟩ rfl hTc.1 (ct_symbolAt G hh b (scT ms n) hb hTc (by rw [Ln_sc, scT_1]; exact hL) (by rw [Ln_sc]; exact hL2) (tpOK_sc hY n) p (by omega)) rfl (Nat.le_of_ble_eq_true rfl) ⟨Nat.le_of_ble_eq_true rfl, Nat.le_of_ble_eq_true rfl⟩ ⟨Nat.zero_le _, Nat.zero_le _⟩ (fun _ _ _ z => z.elim) rfl (fun r_163 h_163 q_163 => ?_)
                    obtain ⟨rfl, rfl⟩ := q_163
                    refine AW.sts (st' := [.int (symT (byT ms p) (byT ms (p + 1))), .int 1, .int (nI p)]) (by rw [byT_sc, byT_sc]; rfl) ?_
                    refine aw_callS (n := 169) (As := [.int 1, .int (symT (byT ms p) (byT ms (p + 1)))]) (rest := [.int (nI p)]) (K2 := kJ15_max) dX3_scan_166 q2812 q376 q125 q377 hcJ15_max (cj_maxI G hh 1 (symT (byT ms p) (byT ms (p + 1)))) rfl (Nat.le_of_ble_eq_true rfl) ⟨Nat.le_of_ble_eq_true rfl, Nat.le_of_ble_eq_true rfl⟩ ⟨Nat.zero_le _, Nat.zero_le _⟩ (fun _ _ _ z => z.elim) rfl (fun r_166 h_166 q_166 => ?_)
                    obtain ⟨rfl, rfl⟩ := q_166
                    refine AW.sts (st' := [.int (nI (if 1 < symT (byT ms p) (byT ms (p + 1)) then 2 else 1)), .int (nI p)]) (by rw [sym_mx]; rfl) ?_
                    refine aw_iadd (n := 170) dX3_scan_169 rfl ?_
                    refine aw_istore (n := 172) (lv' := [(4, .int ((nI p) + (nI (if 1 < symT (byT ms p) (byT ms (p + 1)) then 2 else 1)))), (5, .int 0), (2, .int (nI p)), (1, .int (nI n)), (0, .ref b)]) dX3_scan_170 (by decide) rfl rfl ?_
                    refine aw_aload_n (n := 173) dX3_scan_172 rfl 4 rfl rfl ?_
                    refine aw_iload_n (n := 174) dX3_scan_173 rfl 2 rfl rfl ?_
                    refine aw_callV (n := 177) (C0 := RX3) (As := [.int (nI p)]) (rest := []) (K2 := kX3_symbolAt) dX3_scan_174 q2806 q2808 qs46 q113 q2809 ⟨rfl, hcX3_symbolAt⟩ rfl hTc.1 (ct_symbolAt G hh b (scT ms n) hb hTc (by rw [Ln_sc, scT_1]; exact hL) (by rw [Ln_sc]; exact hL2) (tpOK_sc hY n) p (by omega)) rfl (Nat.le_of_ble_eq_true rfl) ⟨Nat.le_of_ble_eq_true rfl, Nat.le_of_ble_eq_true rfl⟩ ⟨Nat.zero_le _, Nat.zero_le _⟩ (fun _ _ _ z => z.elim) rfl (fun r_174 h_174 q_174 => ?_)
                    obtain ⟨rfl, rfl⟩ := q_174
                    refine AW.sts (st' := [.int (symT (byT ms p) (byT ms (p + 1)))]) (by rw [byT_sc, byT_sc]; rfl) ?_
                    refine aw_if_le (n := 180) (tgt := 184) dX3_scan_177 (by decide) rfl (fun c_177 => ?_) (fun c_177 => ?_)
                    · skip
                      refine aw_iconst (n := 185) (v := 4) dX3_scan_184 (by decide) rfl ?_
                      refine aw_istore (n := 187) (lv' := [(5, .int 4), (4, .int ((nI p) + (nI (if 1 < symT (byT ms p) (byT ms (p + 1)) then 2 else 1)))), (2, .int (nI p)), (1, .int (nI n)), (0, .ref b)]) dX3_scan_185 (by decide) rfl rfl ?_
                      exact AW.lvs (lv' := [(5, .int 4), (4, .int ((nI p) + (nI (if 1 < symT (byT ms p) (byT ms (p + 1)) then 2 else 1)))), (2, .int (nI p)), (1, .int (nI n)), (0, .ref b)]) (AW.eq (lv2 := _) (by rw [nI_add]; rfl) (rfl) rfl rfl rfl (J_187 4 (p + (if 1 < symT (byT ms p) (byT ms (p + 1)) then 2 else 1)) (by rw [tokQ, if_neg (by rw [b_50]; decide), if_neg (by rw [b_110]; decide), if_pos (by omega), if_neg (Int32.not_lt.mpr c_177)]))) (by simp)
                    · skip
                      refine aw_iconst (n := 181) (v := 3) dX3_scan_180 (by decide) rfl ?_
                      refine aw_goto (tgt := 185) dX3_scan_181 (by decide) ?_
                      refine aw_istore (n := 187) (lv' := [(5, .int 3), (4, .int ((nI p) + (nI (if 1 < symT (byT ms p) (byT ms (p + 1)) then 2 else 1)))), (2, .int (nI p)), (1, .int (nI n)), (0, .ref b)]) dX3_scan_185 (by decide) rfl rfl ?_
                      exact AW.lvs (lv' := [(5, .int 3), (4, .int ((nI p) + (nI (if 1 < symT (byT ms p) (byT ms (p + 1)) then 2 else 1)))), (2, .int (nI p)), (1, .int (nI n)), (0, .ref b)]) (AW.eq (lv2 := _) (by rw [nI_add]; rfl) (rfl) rfl rfl rfl (J_187 3 (p + (if 1 < symT (byT ms p) (byT ms (p + 1)) then 2 else 1)) (by rw [tokQ, if_neg (by rw [b_50]; decide), if_neg (by rw [b_110]; decide), if_pos (by omega), if_pos (Int32.not_le.mp c_177)]))) (by simp)
                · skip
                  have b_110 : (diB (byT ms p)) = true := Bool.of_not_eq_false (fun e => c_110 ((bI_0 _).mpr e))
                  suffices L_113 : ∀ (m_ : Nat) (q : Nat) (hqL9 : q ≤ Ln ms) (hsq : spn (fun k => diB (byT ms k)) (Ln ms - p) p = spn (fun k => diB (byT ms k)) (Ln ms - q) q) (hpq : p ≤ q), Ln ms - q < m_ → AW G kX3_scan ((6, 115, 0, 0), (fun r h1 => ∃ n : Nat, r = none ∧ TW b h1 (scT ms (n + 1)) ∧ Fr (TS b) h h1 ∧ h1.1 = h.1 ∧ kinT (byT ms) (Ln ms) n = 0 ∧ ∀ i : Nat, i < n → kinT (byT ms) (Ln ms) i ≠ 0), nX) 113 [(4, .int (nI q)), (5, .int 0), (2, .int (nI p)), (1, .int (nI n)), (0, .ref b)] [] hh 0 0 from
                    AW.lvs (lv' := [(4, .int (nI p)), (5, .int 0), (2, .int (nI p)), (1, .int (nI n)), (0, .ref b)]) (AW.eq (lv2 := _) (rfl) rfl rfl rfl rfl (L_113 _ p hp rfl (Nat.le_refl _) (Nat.lt_succ_self _))) (by simp)
                  intro m_
                  induction m_ with
                  | zero => intro q hqL9 hsq hpq h_m; exact absurd h_m (Nat.not_lt_zero _)
                  | succ m_ ih_113 =>
                    intro q hqL9 hsq hpq h_m
                    refine aw_aload_n (n := 114) dX3_scan_113 rfl 4 rfl rfl ?_
                    refine aw_iload (n := 116) dX3_scan_114 0 rfl rfl ?_
                    refine aw_callV (n := 119) (C0 := RX3) (As := [.int (nI q)]) (rest := []) (K2 := kX3_byteAt) dX3_scan_116 q2796 q2798 qs45 q113 q2799 ⟨rfl, hcX3_byteAt⟩ rfl hTc.1 (ct_byteAt G hh b (scT ms n) hb hTc q (Ln ms) (by omega) (by rw [scT_1]; exact hL) hL2) rfl (Nat.le_of_ble_eq_true rfl) ⟨Nat.le_of_ble_eq_true rfl, Nat.le_of_ble_eq_true rfl⟩ ⟨Nat.zero_le _, Nat.zero_le _⟩ (fun _ _ _ z => z.elim) rfl (fun r_116 h_116 q_116 => ?_)
                    obtain ⟨rfl, rfl⟩ := q_116
                    refine AW.sts (st' := [.int (byT ms q)]) (by rw [scT_k ms (by decide)]; rfl) ?_
                    refine aw_callS (n := 122) (As := [.int (byT ms q)]) (rest := []) (K2 := kX3_isDigit) dX3_scan_119 q2803 q2804 q113 q2805 hcX3_isDigit (ct_isDigit G hh (byT ms q)) rfl (Nat.le_of_ble_eq_true rfl) ⟨Nat.le_of_ble_eq_true rfl, Nat.le_of_ble_eq_true rfl⟩ ⟨Nat.zero_le _, Nat.zero_le _⟩ (fun _ _ _ z => z.elim) rfl (fun r_119 h_119 q_119 => ?_)
                    obtain ⟨rfl, rfl⟩ := q_119
                    refine AW.sts (st' := [.int (bI (diB (byT ms q)))]) rfl ?_
                    refine aw_if_eq (n := 125) (tgt := 131) dX3_scan_122 (by decide) rfl (fun c_122 => ?_) (fun c_122 => ?_)
                    · skip
                      have b_122 : (diB (byT ms q)) = false := (bI_0 _).mp c_122
                      have hqe : spn (fun k => diB (byT ms k)) (Ln ms - p) p = q := hsq.trans (spn_stop b_122 _)
                      refine aw_iload (n := 133) dX3_scan_131 0 rfl rfl ?_
                      refine aw_iload_n (n := 134) dX3_scan_133 rfl 2 rfl rfl ?_
                      refine aw_isub (n := 135) dX3_scan_134 rfl ?_
                      refine aw_bipush (n := 137) (v := 6) dX3_scan_135 (by decide) rfl ?_
                      refine aw_icmp_gt (n := 140) (tgt := 144) dX3_scan_137 (by decide) rfl (fun c_137 => ?_) (fun c_137 => ?_)
                      · skip
                        have n_137 : 6 < (q - p) := (nI_ltI (a := 6) (b := (q - p)) (by omega) (by omega)).mp (by rw [← ((by rfl) : (6 : Int32) = nI 6), ← ((nI_sub2 (by omega)) : ((nI q) - (nI p)) = nI (q - p))]; exact c_137)
                        refine aw_iconst (n := 145) (v := 4) dX3_scan_144 (by decide) rfl ?_
                        refine aw_istore (n := 147) (lv' := [(5, .int 4), (4, .int (nI q)), (2, .int (nI p)), (1, .int (nI n)), (0, .ref b)]) dX3_scan_145 (by decide) rfl rfl ?_
                        refine aw_goto (tgt := 187) dX3_scan_147 (by decide) ?_
                        exact AW.lvs (lv' := [(5, .int 4), (4, .int (nI q)), (2, .int (nI p)), (1, .int (nI n)), (0, .ref b)]) (AW.eq (lv2 := _) (rfl) (rfl) rfl rfl rfl (J_187 4 q (by rw [tokQ, if_neg (by rw [b_50]; decide), if_pos b_110, hqe, if_neg (by omega)]))) (by simp)
                      · skip
                        have n_137 : ¬ (6 < (q - p)) := fun z => c_137 (by have y := (nI_ltI (a := 6) (b := (q - p)) (by omega) (by omega)).mpr z; rw [← ((by rfl) : (6 : Int32) = nI 6), ← ((nI_sub2 (by omega)) : ((nI q) - (nI p)) = nI (q - p))] at y; exact y)
                        refine aw_iconst (n := 141) (v := 2) dX3_scan_140 (by decide) rfl ?_
                        refine aw_goto (tgt := 145) dX3_scan_141 (by decide) ?_
                        refine aw_istore (n := 147) (lv' := [(5, .int 2), (4, .int (nI q)), (2, .int (nI p)), (1, .int (nI n)), (0, .ref b)]) dX3_scan_145 (by decide) rfl rfl ?_
                        refine aw_goto (tgt := 187) dX3_scan_147 (by decide) ?_
                        exact AW.lvs (lv' := [(5, .int 2), (4, .int (nI q)), (2, .int (nI p)), (1, .int (nI n)), (0, .ref b)]) (AW.eq (lv2 := _) (rfl) (rfl) rfl rfl rfl (J_187 2 q (by rw [tokQ, if_neg (by rw [b_50]; decide), if_pos b_110, hqe, if_pos (by omega)]))) (by simp)
                    · skip
                      have b_122 : (diB (byT ms q)) = true := Bool.of_not_eq_false (fun e => c_122 ((bI_0 _).mpr e))
                      have hlt9 : q < Ln ms := byT_lt (fun z => by rw [z] at b_122; exact absurd b_122 (by decide))
                      refine aw_iinc (n := 128) (v := nI (q + 1)) (lv' := [(4, .int (nI (q + 1))), (5, .int 0), (2, .int (nI p)), (1, .int (nI n)), (0, .ref b)]) dX3_scan_125 0 rfl (by rw [show nI q = nI q from rfl]; exact nI_1 _) (by decide) rfl rfl ?_
                      refine aw_goto (tgt := 113) dX3_scan_128 (by decide) ?_
                      exact AW.lvs (lv' := [(4, .int (nI (q + 1))), (5, .int 0), (2, .int (nI p)), (1, .int (nI n)), (0, .ref b)]) (AW.eq (lv2 := _) (rfl) rfl rfl rfl rfl (ih_113 (q + 1) (by omega) (hsq.trans (spn_go (by show diB (byT ms q) = true; exact b_122) hlt9)) (by omega) (by omega))) (by simp)
              · skip
                have b_50 : (leB (byT ms p)) = true := Bool.of_not_eq_false (fun e => c_50 ((bI_0 _).mpr e))
                suffices L_53 : ∀ (m_ : Nat) (q : Nat) (hqL9 : q ≤ Ln ms) (hsq : spn (fun k => leB (byT ms k) || diB (byT ms k)) (Ln ms - p) p = spn (fun k => leB (byT ms k) || diB (byT ms k)) (Ln ms - q) q) (hpq : p ≤ q), Ln ms - q < m_ → AW G kX3_scan ((6, 115, 0, 0), (fun r h1 => ∃ n : Nat, r = none ∧ TW b h1 (scT ms (n + 1)) ∧ Fr (TS b) h h1 ∧ h1.1 = h.1 ∧ kinT (byT ms) (Ln ms) n = 0 ∧ ∀ i : Nat, i < n → kinT (byT ms) (Ln ms) i ≠ 0), nX) 53 [(4, .int (nI q)), (5, .int 0), (2, .int (nI p)), (1, .int (nI n)), (0, .ref b)] [] hh 0 0 from
                  AW.lvs (lv' := [(4, .int (nI p)), (5, .int 0), (2, .int (nI p)), (1, .int (nI n)), (0, .ref b)]) (AW.eq (lv2 := _) (rfl) rfl rfl rfl rfl (L_53 _ p hp rfl (Nat.le_refl _) (Nat.lt_succ_self _))) (by simp)
                intro m_
                induction m_ with
                | zero => intro q hqL9 hsq hpq h_m; exact absurd h_m (Nat.not_lt_zero _)
                | succ m_ ih_53 =>
                  intro q hqL9 hsq hpq h_m
                  refine aw_aload_n (n := 54) dX3_scan_53 rfl 4 rfl rfl ?_
                  refine aw_iload (n := 56) dX3_scan_54 0 rfl rfl ?_
                  refine aw_callV (n := 59) (C0 := RX3) (As := [.int (nI q)]) (rest := []) (K2 := kX3_byteAt) dX3_scan_56 q2796 q2798 qs45 q113 q2799 ⟨rfl, hcX3_byteAt⟩ rfl hTc.1 (ct_byteAt G hh b (scT ms n) hb hTc q (Ln ms) (by omega) (by rw [scT_1]; exact hL) hL2) rfl (Nat.le_of_ble_eq_true rfl) ⟨Nat.le_of_ble_eq_true rfl, Nat.le_of_ble_eq_true rfl⟩ ⟨Nat.zero_le _, Nat.zero_le _⟩ (fun _ _ _ z => z.elim) rfl (fun r_56 h_56 q_56 => ?_)
                  obtain ⟨rfl, rfl⟩ := q_56
                  refine AW.sts (st' := [.int (byT ms q)]) (by rw [scT_k ms (by decide)]; rfl) ?_
                  refine aw_callS (n := 62) (As := [.int (byT ms q)]) (rest := []) (K2 := kX3_isLetter) dX3_scan_59 q2800 q2801 q113 q2802 hcX3_isLetter (ct_isLetter G hh (byT ms q)) rfl (Nat.le_of_ble_eq_true rfl) ⟨Nat.le_of_ble_eq_true rfl, Nat.le_of_ble_eq_true rfl⟩ ⟨Nat.zero_le _, Nat.zero_le _⟩ (fun _ _ _ z => z.elim) rfl (fun r_59 h_59 q_59 => ?_)
                  obtain ⟨rfl, rfl⟩ := q_59
                  refine AW.sts (st' := [.int (bI (leB (byT ms q)))]) rfl ?_
                  refine aw_if_ne (n := 65) (tgt := 77) dX3_scan_62 (by decide) rfl (fun c_62 => ?_) (fun c_62 => ?_)
                  · skip
                    have b_62 : (leB (byT ms q)) = true := Bool.of_not_eq_false (fun e => c_62 ((bI_0 _).mpr e))
                    have hlt9 : q < Ln ms := byT_lt (fun z => by first | (rw [z] at b_62; exact absurd b_62 (by decide)) | (rw [z] at b_74; exact absurd b_74 (by decide)))
                    refine aw_iinc (n := 80) (v := nI (q + 1)) (lv' := [(4, .int (nI (q + 1))), (5, .int 0), (2, .int (nI p)), (1, .int (nI n)), (0, .ref b)]) dX3_scan_77 0 rfl (by rw [show nI q = nI q from rfl]; exact nI_1 _) (by decide) rfl rfl ?_
                    refine aw_goto (tgt := 53) dX3_scan_80 (by decide) ?_
                    exact AW.lvs (lv' := [(4, .int (nI (q + 1))), (5, .int 0), (2, .int (nI p)), (1, .int (nI n)), (0, .ref b)]) (AW.eq (lv2 := _) (rfl) rfl rfl rfl rfl (ih_53 (q + 1) (by omega) (hsq.trans (spn_go (by show (leB (byT ms q) || diB (byT ms q)) = true; first | (rw [b_62]; rfl) | (rw [b_74]; exact Bool.or_true _)) hlt9)) (by omega) (by omega))) (by simp)
                  · skip
                    have b_62 : (leB (byT ms q)) = false := (bI_0 _).mp c_62
                    refine aw_aload_n (n := 66) dX3_scan_65 rfl 4 rfl rfl ?_
                    refine aw_iload (n := 68) dX3_scan_66 0 rfl rfl ?_
                    refine aw_callV (n := 71) (C0 := RX3) (As := [.int (nI q)]) (rest := []) (K2 := kX3_byteAt) dX3_scan_68 q2796 q2798 qs45 q113 q2799 ⟨rfl, hcX3_byteAt⟩ rfl hTc.1 (ct_byteAt G hh b (scT ms n) hb hTc q (Ln ms) (by omega) (by rw [scT_1]; exact hL) hL2) rfl (Nat.le_of_ble_eq_true rfl) ⟨Nat.le_of_ble_eq_true rfl, Nat.le_of_ble_eq_true rfl⟩ ⟨Nat.zero_le _, Nat.zero_le _⟩ (fun _ _ _ z => z.elim) rfl (fun r_68 h_68 q_68 => ?_)
                    obtain ⟨rfl, rfl⟩ := q_68
                    refine AW.sts (st' := [.int (byT ms q)]) (by rw [scT_k ms (by decide)]; rfl) ?_
                    refine aw_callS (n := 74) (As := [.int (byT ms q)]) (rest := []) (K2 := kX3_isDigit) dX3_scan_71 q2803 q2804 q113 q2805 hcX3_isDigit (ct_isDigit G hh (byT ms q)) rfl (Nat.le_of_ble_eq_true rfl) ⟨Nat.le_of_ble_eq_true rfl, Nat.le_of_ble_eq_true rfl⟩ ⟨Nat.zero_le _, Nat.zero_le _⟩ (fun _ _ _ z => z.elim) rfl (fun r_71 h_71 q_71 => ?_)
                    obtain ⟨rfl, rfl⟩ := q_71
                    refine AW.sts (st' := [.int (bI (diB (byT ms q)))]) rfl ?_
                    refine aw_if_eq (n := 77) (tgt := 83) dX3_scan_74 (by decide) rfl (fun c_74 => ?_) (fun c_74 => ?_)
                    · skip
                      have b_74 : (diB (byT ms q)) = false := (bI_0 _).mp c_74
                      have hqe : spn (fun k => leB (byT ms k) || diB (byT ms k)) (Ln ms - p) p = q := hsq.trans (spn_stop (by show (leB (byT ms q) || diB (byT ms q)) = false; rw [b_62, b_74]; rfl) _)
                      refine aw_iload (n := 85) dX3_scan_83 0 rfl rfl ?_
                      refine aw_iload_n (n := 86) dX3_scan_85 rfl 2 rfl rfl ?_
                      refine aw_isub (n := 87) dX3_scan_86 rfl ?_
                      refine aw_bipush (n := 89) (v := 8) dX3_scan_87 (by decide) rfl ?_
                      refine aw_icmp_gt (n := 92) (tgt := 96) dX3_scan_89 (by decide) rfl (fun c_89 => ?_) (fun c_89 => ?_)
                      · skip
                        have n_89 : 8 < (q - p) := (nI_ltI (a := 8) (b := (q - p)) (by omega) (by omega)).mp (by rw [← ((by rfl) : (8 : Int32) = nI 8), ← ((nI_sub2 (by omega)) : ((nI q) - (nI p)) = nI (q - p))]; exact c_89)
                        refine aw_iconst (n := 97) (v := 4) dX3_scan_96 (by decide) rfl ?_
                        refine aw_istore (n := 99) (lv' := [(5, .int 4), (4, .int (nI q)), (2, .int (nI p)), (1, .int (nI n)), (0, .ref b)]) dX3_scan_97 (by decide) rfl rfl ?_
                        refine aw_goto (tgt := 187) dX3_scan_99 (by decide) ?_
                        exact AW.lvs (lv' := [(5, .int 4), (4, .int (nI q)), (2, .int (nI p)), (1, .int (nI n)), (0, .ref b)]) (AW.eq (lv2 := _) (rfl) (rfl) rfl rfl rfl (J_187 4 q (by rw [tokQ, if_pos b_50, hqe, if_neg (by omega)]))) (by simp)
                      · skip
                        have n_89 : ¬ (8 < (q - p)) := fun z => c_89 (by have y := (nI_ltI (a := 8) (b := (q - p)) (by omega) (by omega)).mpr z; rw [← ((by rfl) : (8 : Int32) = nI 8), ← ((nI_sub2 (by omega)) : ((nI q) - (nI p)) = nI (q - p))] at y; exact y)
                        refine aw_iconst (n := 93) (v := 1) dX3_scan_92 (by decide) rfl ?_
                        refine aw_goto (tgt := 97) dX3_scan_93 (by decide) ?_
                        refine aw_istore (n := 99) (lv' := [(5, .int 1), (4, .int (nI q)), (2, .int (nI p)), (1, .int (nI n)), (0, .ref b)]) dX3_scan_97 (by decide) rfl rfl ?_
                        refine aw_goto (tgt := 187) dX3_scan_99 (by decide) ?_
                        exact AW.lvs (lv' := [(5, .int 1), (4, .int (nI q)), (2, .int (nI p)), (1, .int (nI n)), (0, .ref b)]) (AW.eq (lv2 := _) (rfl) (rfl) rfl rfl rfl (J_187 1 q (by rw [tokQ, if_pos b_50, hqe, if_pos (by omega)]))) (by simp)
                    · skip
                      have b_74 : (diB (byT ms q)) = true := Bool.of_not_eq_false (fun e => c_74 ((bI_0 _).mpr e))
                      have hlt9 : q < Ln ms := byT_lt (fun z => by first | (rw [z] at b_62; exact absurd b_62 (by decide)) | (rw [z] at b_74; exact absurd b_74 (by decide)))
                      refine aw_iinc (n := 80) (v := nI (q + 1)) (lv' := [(4, .int (nI (q + 1))), (5, .int 0), (2, .int (nI p)), (1, .int (nI n)), (0, .ref b)]) dX3_scan_77 0 rfl (by rw [show nI q = nI q from rfl]; exact nI_1 _) (by decide) rfl rfl ?_
                      refine aw_goto (tgt := 53) dX3_scan_80 (by decide) ?_
                      exact AW.lvs (lv' := [(4, .int (nI (q + 1))), (5, .int 0), (2, .int (nI p)), (1, .int (nI n)), (0, .ref b)]) (AW.eq (lv2 := _) (rfl) rfl rfl rfl rfl (ih_53 (q + 1) (by omega) (hsq.trans (spn_go (by show (leB (byT ms q) || diB (byT ms q)) = true; first | (rw [b_62]; rfl) | (rw [b_74]; exact Bool.or_true _)) hlt9)) (by omega) (by omega))) (by simp)
            intro so q hq
            have hso := tokQ_in (ms := ms) (s := p) hp; have hqL := tokQ_le (ms := ms) (s := p) hp
            rw [hq] at hso hqL; dsimp only at hso hqL
            refine aw_aload_n (n := 188) dX3_scan_187 rfl 4 rfl rfl ?_
            refine aw_getf (n := 191) (v := .ref (b + 2)) (C0 := RX3) (T := TX3) dX3_scan_188 rfl 4 q2645 (Or.inl rfl) hTc.1 rfl rfl ?_
            refine aw_iload_n (n := 192) dX3_scan_191 rfl 3 rfl rfl ?_
            refine aw_iload (n := 194) dX3_scan_192 0 rfl rfl ?_
            refine aw_tiast (n := 195) dX3_scan_194 TW.m4 hTc hb n rfl (by omega) (by decide) rfl (fun h_1 hT_1 hF_1 hz_1 => ?_)
            have hG_1 := Fr.trans hFc hF_1
            refine aw_aload_n (n := 196) dX3_scan_195 rfl 4 rfl rfl ?_
            refine aw_getf (n := 199) (v := .ref (b + 3)) (C0 := RX3) (T := TX3) dX3_scan_196 rfl 5 q2646 (Or.inl rfl) hT_1.1 rfl rfl ?_
            refine aw_iload_n (n := 200) dX3_scan_199 rfl 3 rfl rfl ?_
            refine aw_iload_n (n := 201) dX3_scan_200 rfl 2 rfl rfl ?_
            refine aw_tiast (n := 202) dX3_scan_201 TW.m5 hT_1 hb n rfl (by omega) (by decide) rfl (fun h_2 hT_2 hF_2 hz_2 => ?_)
            have hG_2 := Fr.trans hG_1 hF_2
            refine aw_aload_n (n := 203) dX3_scan_202 rfl 4 rfl rfl ?_
            refine aw_getf (n := 206) (v := .ref (b + 4)) (C0 := RX3) (T := TX3) dX3_scan_203 rfl 6 q2647 (Or.inl rfl) hT_2.1 rfl rfl ?_
            refine aw_iload_n (n := 207) dX3_scan_206 rfl 3 rfl rfl ?_
            refine aw_iload (n := 209) dX3_scan_207 1 rfl rfl ?_
            refine aw_tiast (n := 210) dX3_scan_209 TW.m6 hT_2 hb n rfl (by omega) (by decide) rfl (fun h_3 hT_3 hF_3 hz_3 => ?_)
            have hG_3 := Fr.trans hG_2 hF_3
            have hT9 : TW b h_3 (scT ms (n + 1)) := by
              show TW b h_3 (tI (tI (tI (scT ms n) 4 n (nI (tokQ (byT ms) (Ln ms) (skT (byT ms) (Ln ms) (posT (byT ms) (Ln ms) n))).1)) 5 n (nI (skT (byT ms) (Ln ms) (posT (byT ms) (Ln ms) n)))) 6 n (nI (tokQ (byT ms) (Ln ms) (skT (byT ms) (Ln ms) (posT (byT ms) (Ln ms) n))).2))
              rw [hs9, hq]
              exact hT_3
            have hkn : kinT (byT ms) (Ln ms) n = so := by show (tokQ (byT ms) (Ln ms) (skT (byT ms) (Ln ms) (posT (byT ms) (Ln ms) n))).1 = so; rw [hs9, hq]
            have hps : (posT (byT ms) (Ln ms) (n + 1)) = q := by show (tokQ (byT ms) (Ln ms) (skT (byT ms) (Ln ms) (posT (byT ms) (Ln ms) n))).2 = q; rw [hs9, hq]
            refine aw_iinc (n := 213) (v := nI (n + 1)) (lv' := [(1, .int (nI (n + 1))), (5, .int (nI so)), (4, .int (nI q)), (2, .int (nI p)), (0, .ref b)]) dX3_scan_210 3 rfl (by rw [show nI n = nI n from rfl]; exact nI_1 _) (by decide) rfl rfl ?_
            refine aw_iload (n := 215) dX3_scan_213 2 rfl rfl ?_
            refine aw_istore_n (n := 216) (lv' := [(2, .int (nI q)), (1, .int (nI (n + 1))), (5, .int (nI so)), (4, .int (nI q)), (0, .ref b)]) dX3_scan_215 rfl (by decide) rfl rfl ?_
            refine aw_iload (n := 218) dX3_scan_216 2 rfl rfl ?_
            refine aw_if_eq (n := 221) (tgt := 225) dX3_scan_218 (by decide) rfl (fun c_218 => ?_) (fun c_218 => ?_)
            · skip
              have n_218 : so = 0 := (nI_eq (a := so) (b := 0) (by omega) (by omega)).mp (by rw [← ((by rfl) : (0 : Int32) = nI 0)]; exact c_218)
              refine aw_iconst (n := 226) (v := 0) dX3_scan_225 (by decide) rfl ?_
              refine aw_istore_n (n := 227) (lv' := [(3, .int 0), (2, .int (nI q)), (1, .int (nI (n + 1))), (5, .int (nI so)), (4, .int (nI q)), (0, .ref b)]) dX3_scan_226 rfl (by decide) rfl rfl ?_
              refine aw_goto (tgt := 6) dX3_scan_227 (by decide) ?_
              exact AW.lvs (lv' := [(3, .int 0), (2, .int (nI q)), (1, .int (nI (n + 1))), (0, .ref b)]) (AW.eq (lv2 := _) (by rw [hps]; rfl) rfl rfl rfl rfl (ih_6 (n + 1) false h_3 (by omega) hT9 hG_3 (by omega) (fun i hi => hall i (by omega)) (fun z => absurd z (by decide)) (fun _ => ⟨by omega, by rw [show n + 1 - 1 = n by omega, hkn]; exact n_218⟩) (by omega))) (by simp)
            · skip
              have n_218 : ¬ (so = 0) := fun z => c_218 (by have y := (nI_eq (a := so) (b := 0) (by omega) (by omega)).mpr z; rw [← ((by rfl) : (0 : Int32) = nI 0)] at y; exact y)
              refine aw_iconst (n := 222) (v := 1) dX3_scan_221 (by decide) rfl ?_
              refine aw_goto (tgt := 226) dX3_scan_222 (by decide) ?_
              refine aw_istore_n (n := 227) (lv' := [(3, .int 1), (2, .int (nI q)), (1, .int (nI (n + 1))), (5, .int (nI so)), (4, .int (nI q)), (0, .ref b)]) dX3_scan_226 rfl (by decide) rfl rfl ?_
              refine aw_goto (tgt := 6) dX3_scan_227 (by decide) ?_
              exact AW.lvs (lv' := [(3, .int 1), (2, .int (nI q)), (1, .int (nI (n + 1))), (0, .ref b)]) (AW.eq (lv2 := _) (by rw [hps]; rfl) rfl rfl rfl rfl (ih_6 (n + 1) true h_3 (by omega) hT9 hG_3 (by omega) (fun i hi => hall i (by omega)) (fun _ i hi => (Nat.lt_or_ge i n).elim (fun l => hall i l) (fun l => by have e : i = n := (by omega); rw [e, hkn]; exact n_218)) (fun z => absurd z (by decide)) (by omega))) (by simp)
          · skip
            have hlt8 : p < Ln ms := byT_lt (by first | (rw [c_17]; decide) | (rw [c_27]; decide))
            refine aw_iinc (n := 33) (v := nI (p + 1)) (lv' := [(2, .int (nI (p + 1))), (1, .int (nI n)), (0, .ref b)]) dX3_scan_30 0 rfl (by rw [show nI p = nI p from rfl]; exact nI_1 _) (by decide) rfl rfl ?_
            refine aw_goto (tgt := 10) dX3_scan_33 (by decide) ?_
            exact AW.lvs (lv' := [(2, .int (nI (p + 1))), (1, .int (nI n)), (0, .ref b)]) (AW.eq (lv2 := _) (rfl) rfl rfl rfl rfl (ih_10 (p + 1) (by have z9 : p < Ln ms := byT_lt (by first | (rw [c_17]; decide) | (rw [c_27]; decide)); omega) (hsk.trans (spn_go (by show blB (byT ms p) = true; first | (rw [c_17]; rfl) | (rw [c_27]; rfl)) (byT_lt (by first | (rw [c_17]; decide) | (rw [c_27]; decide))))) (by omega))) (by simp)

end
