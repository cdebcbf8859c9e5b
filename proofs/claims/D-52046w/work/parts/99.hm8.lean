/-! getNode. -/
section
set_option maxRecDepth 100000
abbrev kJ4_getNode : aK := (yJ4_getNode, cJ4_getNode, 8, (Option.some (Jvm.ClassFile.FieldType.object "java/util/HashMap$Node")), [])
theorem hcJ4_getNode : kJ4_getNode.1.cls ≠ "java/lang/invoke/MethodHandle" ∧ kJ4_getNode.1.cls ≠ "java/lang/invoke/VarHandle" ∧ (parseMethodDescriptor kJ4_getNode.1.desc).map (fun d => d.parameters.length) = some 1 := ⟨by decide, by decide, by decide +kernel⟩
theorem hm_gnN (G : aG) (h : hH) (E : hH) (m k u : Nat) (bs : List Nat) (g : List Nat → Option Nat) (sz : Nat) (hs : sub E h) (hS : isSt h k u bs (hashT bs) (zfT bs)) (hb8 : bs.length ≤ 8) (mc : Int32) (lv : Value) (hM : h.2 m = some (hobM .null 0 mc 0 lv)) (hg : g bs = none) : Con G kJ4_getNode [.ref m, .ref k] h ((20, 500, 0, 0), (fun r h1 => ((∃ x a, r = some (.ref x) ∧ g bs = some a ∧ nodV h x a) ∨ (g bs = none ∧ r = some .null)) ∧ h = h1), nX) := by
  have hS1 := hS
  obtain ⟨f0, hS0, _⟩ := hS1
  refine Con.of (plainFor_of_name rfl) rfl (Nat.le_of_ble_eq_true rfl) ?_
  refine AW.eq (lv2 := [(0, .ref m), (1, .ref k)]) (s2 := []) rfl rfl rfl rfl rfl ?_
  refine aw_know (fun gd hi => ?_)
  have lt_m : m < h.1 := hi.2.1 _ _ hM
  have lt_k : k < h.1 := hi.2.1 _ _ hS0
  refine aw_aload_n (n := 1) dJ4_getNode_0 rfl 0 rfl rfl ?_
  refine aw_getf (n := 4) (v := .null) (C0 := RJ4) (T := TJ4) dJ4_getNode_1 rfl 2 q223 (Or.inl rfl) hM rfl rfl ?_
  refine aw_dup (n := 5) dJ4_getNode_4 rfl rfl ?_
  refine aw_astore_nN (n := 6) (lv' := [(2, .null), (0, .ref m), (1, .ref k)]) dJ4_getNode_5 rfl (by decide) rfl rfl ?_
  refine aw_ifnullN (tgt := 148) dJ4_getNode_6 (by decide) ?_
  refine aw_null (n := 149) dJ4_getNode_148 rfl ?_
  exact aw_aret dJ4_getNode_149 rfl (Or.inl ⟨_, rfl⟩) (Or.inl rfl) ⟨Or.inr ⟨hg, rfl⟩, rfl⟩ ⟨Nat.zero_le _, Nat.zero_le _⟩

theorem hm_gnT (G : aG) (h : hH) (E : hH) (m k u : Nat) (bs : List Nat) (g : List Nat → Option Nat) (sz : Nat) (hs : sub E h) (hS : isSt h k u bs (hashT bs) (zfT bs)) (hb8 : bs.length ≤ 8) (mc : Int32) (lv : Value) (t n : Nat) (f : Nat → Value) (Ms : Nat → Nat → Prop) (hM : h.2 m = some (hobM (.ref t) sz mc (3 * n / 4) lv)) (hT : isTB G E h g t n f Ms sz) : Con G kJ4_getNode [.ref m, .ref k] h ((20, 500, 0, 0), (fun r h1 => ((∃ x a, r = some (.ref x) ∧ g bs = some a ∧ nodV h x a) ∨ (g bs = none ∧ r = some .null)) ∧ h = h1), nX) := by
  have hS1 := hS
  obtain ⟨f0, hS0, _⟩ := hS1
  obtain ⟨hA, hbt, hn, hBs⟩ := hT
  have hn9 : n ≤ 64 := by rcases hn with e | e | e <;> omega
  have hn1 : 16 ≤ n := by rcases hn with e | e | e <;> omega
  obtain ⟨i, hi0, hixb⟩ : ∃ i, i < n ∧ (nI n - 1) &&& spT bs = nI i := ⟨_, (ixT_in hn _).2, (ixT_in hn _).1⟩
  have hix := hixb
  obtain ⟨κ, tx, ⟨hKE, hIx, htr, hGP⟩, hBin⟩ := hBs i hi0
  generalize Ms i = M at *
  have hK := hKE.sub hs
  refine Con.of (plainFor_of_name rfl) rfl (Nat.le_of_ble_eq_true rfl) ?_
  refine AW.eq (lv2 := [(0, .ref m), (1, .ref k)]) (s2 := []) rfl rfl rfl rfl rfl ?_
  refine aw_know (fun gd hi => ?_)
  have lt_m : m < h.1 := hi.2.1 _ _ hM
  have lt_k : k < h.1 := hi.2.1 _ _ hS0
  have lt_t : t < h.1 := hi.2.1 _ _ hA
  refine aw_aload_n (n := 1) dJ4_getNode_0 rfl 0 rfl rfl ?_
  refine aw_getf (n := 4) (v := .ref t) (C0 := RJ4) (T := TJ4) dJ4_getNode_1 rfl 2 q223 (Or.inl rfl) hM rfl rfl ?_
  refine aw_dup (n := 5) dJ4_getNode_4 rfl rfl ?_
  refine aw_astore_n (n := 6) (lv' := [(2, .ref t), (0, .ref m), (1, .ref k)]) dJ4_getNode_5 rfl (by decide) rfl rfl ?_
  refine aw_ifnull (n := 9) dJ4_getNode_6 rfl ?_
  refine aw_aload_n (n := 10) dJ4_getNode_9 rfl 0 rfl rfl ?_
  refine aw_alen (n := 11) (v := nI n) dJ4_getNode_10 rfl hA rfl rfl ?_
  refine aw_dup (n := 12) dJ4_getNode_11 rfl rfl ?_
  refine aw_istore (n := 14) (lv' := [(5, .int (nI n)), (2, .ref t), (0, .ref m), (1, .ref k)]) dJ4_getNode_12 (by decide) rfl rfl ?_
  refine aw_if_le (n := 17) (tgt := 148) dJ4_getNode_14 (by decide) rfl (fun c_14 => ?_) (fun c_14 => ?_)
  · skip
    exact absurd c_14 (nI_nle (by omega) (by omega))
  · skip
    have n_14 : ¬ (n ≤ 0) := fun z => c_14 (by have y := (nI_leI (a := n) (b := 0) (by omega) (by omega)).mpr z; rw [← ((by rfl) : (0 : Int32) = nI 0)] at y; exact y)
    refine aw_aload_n (n := 18) dJ4_getNode_17 rfl 1 rfl rfl ?_
    refine aw_iload (n := 20) dJ4_getNode_18 0 rfl rfl ?_
    refine aw_iconst (n := 21) (v := 1) dJ4_getNode_20 (by decide) rfl ?_
    refine aw_isub (n := 22) dJ4_getNode_21 rfl ?_
    refine aw_aload_n (n := 23) dJ4_getNode_22 rfl 3 rfl rfl ?_
    refine aw_callS (n := 26) (As := [.ref k]) (rest := [.int ((nI n) - 1), .ref t]) (K2 := kJ4_hash) dJ4_getNode_23 q1113 q1114 q112 q1115 hcJ4_hash (hm_hash G h k u bs hS) rfl (Nat.le_of_ble_eq_true rfl) ⟨Nat.le_of_ble_eq_true rfl, Nat.le_of_ble_eq_true rfl⟩ ⟨by first | omega | (dsimp only; omega) | decide, by first | omega | (dsimp only; omega) | decide⟩ (fun _ _ _ z => z.elim) rfl (fun r_23 h_23 q_23 => ?_)
    obtain ⟨rfl, rfl⟩ := q_23
    refine AW.sts (st' := [.int (spT bs), .int ((nI n) - 1), .ref t]) rfl ?_
    refine aw_dup (n := 27) dJ4_getNode_26 rfl rfl ?_
    refine aw_istore (n := 29) (lv' := [(6, .int (spT bs)), (5, .int (nI n)), (2, .ref t), (0, .ref m), (1, .ref k)]) dJ4_getNode_27 (by decide) rfl rfl ?_
    refine aw_iand (n := 30) dJ4_getNode_29 rfl ?_
    refine AW.sts (st' := [.int (nI i), .ref t]) (by rw [hix]) ?_
    rcases hBin with ⟨nx, L, hLl, o, hv, hch, hnd, hML, hCP⟩ | ⟨hn6, nx, pa, lf, rt, pv, rd, root, bl, bh, ht, B, hv, hTP, hB, hW, hn0⟩
    · cases L with
      | nil =>
        have eo : o = none := hch
        subst eo
        refine aw_aald (n := 31) (v := .null) dJ4_getNode_30 rfl rfl i rfl hA hi0 (by rcases hn with e | e | e <;> omega) hv rfl ?_
        refine aw_dup (n := 32) dJ4_getNode_31 rfl rfl ?_
        refine aw_astore_nN (n := 33) (lv' := [(3, .null), (6, .int (spT bs)), (5, .int (nI n)), (2, .ref t), (0, .ref m), (1, .ref k)]) dJ4_getNode_32 rfl (by decide) rfl rfl ?_
        refine aw_ifnullN (tgt := 148) dJ4_getNode_33 (by decide) ?_
        refine aw_null (n := 149) dJ4_getNode_148 rfl ?_
        exact aw_aret dJ4_getNode_149 rfl (Or.inl ⟨_, rfl⟩) (Or.inl rfl) ⟨Or.inr ⟨hGP.no hixb (fun y hy => absurd ((hML y).mp hy) (by simp)), rfl⟩, rfl⟩ ⟨Nat.zero_le _, Nat.zero_le _⟩
      | cons hd L =>
        obtain ⟨eo, hc1⟩ := hch
        subst eo
        have hMhd : M hd := (hML hd).mpr List.mem_cons_self
        obtain ⟨⟨uh9, hKp⟩, hKh, hK8⟩ := hK hd hMhd
        refine aw_aald (n := 31) (v := .ref hd) dJ4_getNode_30 rfl rfl i rfl hA hi0 (by rcases hn with e | e | e <;> omega) hv rfl ?_
        refine aw_dup (n := 32) dJ4_getNode_31 rfl rfl ?_
        refine aw_astore_n (n := 33) (lv' := [(3, .ref hd), (6, .int (spT bs)), (5, .int (nI n)), (2, .ref t), (0, .ref m), (1, .ref k)]) dJ4_getNode_32 rfl (by decide) rfl rfl ?_
        refine aw_ifnull (n := 36) dJ4_getNode_33 rfl ?_
        refine aw_aload_n (n := 37) dJ4_getNode_36 rfl 0 rfl rfl ?_
        refine aw_getf (n := 40) (v := .int ((κ hd).1)) (C0 := RJ25) (T := TJ25) dJ4_getNode_37 rfl 0 q1549 (Or.inl rfl) (hCP hd hMhd).1 rfl rfl ?_
        refine aw_iload (n := 42) dJ4_getNode_40 1 rfl rfl ?_
        refine aw_icmp_ne (n := 45) (tgt := 71) dJ4_getNode_42 (by decide) rfl (fun c_42 => ?_) (fun c_42 => ?_)
        · skip
          have nt : tx hd ≠ bs := fun e9 => c_42 (by rw [hKh, e9])
          refine aw_aload_n (n := 72) dJ4_getNode_71 rfl 0 rfl rfl ?_
          rcases optc (nx hd) with hq_1 | ⟨e72_1, hq_1⟩
          · skip
            refine aw_getf (n := 75) (v := .null) (C0 := RJ25) (T := TJ25) dJ4_getNode_72 rfl 3 q1560 (Or.inl rfl) (hCP hd hMhd).1 (congrArg (fun z9 => some (va_rf z9)) (show nx hd = none from by exact hq_1)) rfl ?_
            refine aw_dup (n := 76) dJ4_getNode_75 rfl rfl ?_
            refine aw_astoreN (n := 78) (lv' := [(4, .null), (3, .ref hd), (6, .int (spT bs)), (5, .int (nI n)), (2, .ref t), (0, .ref m), (1, .ref k)]) dJ4_getNode_76 (by decide) rfl rfl ?_
            refine aw_ifnullN (tgt := 148) dJ4_getNode_78 (by decide) ?_
            refine aw_null (n := 149) dJ4_getNode_148 rfl ?_
            exact aw_aret dJ4_getNode_149 rfl (Or.inl ⟨_, rfl⟩) (Or.inl rfl) ⟨Or.inr ⟨hGP.no hixb (fun y hy e9 => by have eL : L = [] := (by have g9 := hc1; rw [hq_1] at g9; cases h9 : L with | nil => rfl | cons a9 L9 => rw [h9] at g9; cases g9.1); rw [hML y, eL] at hy; rcases List.mem_singleton.mp hy with rfl; exact nt e9), rfl⟩, rfl⟩ ⟨Nat.zero_le _, Nat.zero_le _⟩
          · skip
            obtain ⟨L9, eL9⟩ : ∃ L9, L = e72_1 :: L9 := by cases h9 : L with | nil => rw [h9, hq_1] at hc1; cases hc1 | cons a9 L9 => exact ⟨L9, by have g9 := hc1; rw [h9] at g9; have g8 := g9.1; rw [hq_1] at g8; cases g8; rfl⟩
            have k_e72_1 : M e72_1 := (hML e72_1).mpr (List.mem_cons_of_mem _ (by rw [eL9]; exact List.mem_cons_self))
            refine aw_getf (n := 75) (v := .ref e72_1) (C0 := RJ25) (T := TJ25) dJ4_getNode_72 rfl 3 q1560 (Or.inl rfl) (hCP hd hMhd).1 (congrArg (fun z9 => some (va_rf z9)) (show nx hd = some e72_1 from by exact hq_1)) rfl ?_
            refine aw_dup (n := 76) dJ4_getNode_75 rfl rfl ?_
            refine aw_astore (n := 78) (lv' := [(4, .ref e72_1), (3, .ref hd), (6, .int (spT bs)), (5, .int (nI n)), (2, .ref t), (0, .ref m), (1, .ref k)]) dJ4_getNode_76 (by decide) rfl rfl ?_
            refine aw_ifnull (n := 81) dJ4_getNode_78 rfl ?_
            refine aw_aload_n (n := 82) dJ4_getNode_81 rfl 1 rfl rfl ?_
            refine aw_instNo (n := 85) dJ4_getNode_82 q1211 rfl (hCP hd hMhd).1 (List.Mem.tail _ (List.Mem.tail _ (List.Mem.head _))) rfl ?_
            refine aw_if_eq (n := 88) (tgt := 99) dJ4_getNode_85 (by decide) rfl (fun c_85 => ?_) (fun c_85 => ?_)
            · skip
              suffices L_99 : ∀ (m_ : Nat) (e : Nat) (L1 : List Nat) (hc2 : chn nx (nx e) L1) (hM1 : ∀ q, q ∈ e :: L1 → M q) (hbf : ∀ y, M y → tx y = bs → y ∈ e :: L1), L1.length < m_ → AW G kJ4_getNode ((20, 500, 0, 0), (fun r h1 => ((∃ x a, r = some (.ref x) ∧ g bs = some a ∧ nodV h x a) ∨ (g bs = none ∧ r = some .null)) ∧ h = h1), nX) 99 [(4, .ref e), (6, .int (spT bs)), (0, .ref m), (1, .ref k)] [] h 0 0 from
                AW.lvs (lv' := [(4, .ref e72_1), (6, .int (spT bs)), (0, .ref m), (1, .ref k)]) (AW.eq (lv2 := _) (rfl) rfl rfl rfl rfl (L_99 _ e72_1 L9 (by have g9 := hc1; rw [eL9] at g9; exact g9.2) (fun q hq => (hML q).mpr (List.mem_cons_of_mem _ (by rw [eL9]; exact hq))) (fun y9 hy9 e9 => by have m9 := (hML y9).mp hy9; rw [eL9] at m9; rcases List.mem_cons.mp m9 with rfl | m8; exact absurd e9 nt; exact m8) (Nat.lt_succ_self _))) (by simp)
              intro m_
              induction m_ with
              | zero => intro e L1 hc2 hM1 hbf h_m; exact absurd h_m (Nat.not_lt_zero _)
              | succ m_ ih_99 =>
                intro e L1 hc2 hM1 hbf h_m
                obtain ⟨⟨uh9, hKp⟩, hKh, hK8⟩ := hK e (hM1 e List.mem_cons_self)
                refine aw_aload (n := 101) dJ4_getNode_99 0 rfl rfl ?_
                refine aw_getf (n := 104) (v := .int ((κ e).1)) (C0 := RJ25) (T := TJ25) dJ4_getNode_101 rfl 0 q1549 (Or.inl rfl) (hCP e (hM1 e List.mem_cons_self)).1 rfl rfl ?_
                refine aw_iload (n := 106) dJ4_getNode_104 1 rfl rfl ?_
                refine aw_icmp_ne (n := 109) (tgt := 137) dJ4_getNode_106 (by decide) rfl (fun c_106 => ?_) (fun c_106 => ?_)
                · skip
                  have nt : tx e ≠ bs := fun e9 => c_106 (by rw [hKh, e9])
                  refine aw_aload (n := 139) dJ4_getNode_137 0 rfl rfl ?_
                  rcases optc (nx e) with hq_2 | ⟨e139_2, hq_2⟩
                  · skip
                    refine aw_getf (n := 142) (v := .null) (C0 := RJ25) (T := TJ25) dJ4_getNode_139 rfl 3 q1560 (Or.inl rfl) (hCP e (hM1 e List.mem_cons_self)).1 (congrArg (fun z9 => some (va_rf z9)) (show nx e = none from by exact hq_2)) rfl ?_
                    refine aw_dup (n := 143) dJ4_getNode_142 rfl rfl ?_
                    refine aw_astoreN (n := 145) (lv' := [(4, .null), (6, .int (spT bs)), (0, .ref m), (1, .ref k)]) dJ4_getNode_143 (by decide) rfl rfl ?_
                    refine aw_ifnonnullN (n := 148) dJ4_getNode_145 rfl ?_
                    refine aw_null (n := 149) dJ4_getNode_148 rfl ?_
                    exact aw_aret dJ4_getNode_149 rfl (Or.inl ⟨_, rfl⟩) (Or.inl rfl) ⟨Or.inr ⟨hGP.no hixb (fun y hy e9 => by have eL : L1 = [] := (by have g9 := hc2; rw [hq_2] at g9; cases h9 : L1 with | nil => rfl | cons a9 L9 => rw [h9] at g9; cases g9.1); have m9 := hbf y hy e9; rw [eL] at m9; rcases List.mem_singleton.mp m9 with rfl; exact nt e9), rfl⟩, rfl⟩ ⟨Nat.zero_le _, Nat.zero_le _⟩
                  · skip
                    obtain ⟨L9, eL9⟩ : ∃ L9, L1 = e139_2 :: L9 := by cases h9 : L1 with | nil => rw [h9, hq_2] at hc2; cases hc2 | cons a9 L9 => exact ⟨L9, by have g9 := hc2; rw [h9] at g9; have g8 := g9.1; rw [hq_2] at g8; cases g8; rfl⟩
                    have k_e139_2 : M e139_2 := hM1 e139_2 (List.mem_cons_of_mem _ (by rw [eL9]; exact List.mem_cons_self))
                    refine aw_getf (n := 142) (v := .ref e139_2) (C0 := RJ25) (T := TJ25) dJ4_getNode_139 rfl 3 q1560 (Or.inl rfl) (hCP e (hM1 e List.mem_cons_self)).1 (congrArg (fun z9 => some (va_rf z9)) (show nx e = some e139_2 from by exact hq_2)) rfl ?_
                    refine aw_dup (n := 143) dJ4_getNode_142 rfl rfl ?_
                    refine aw_astore (n := 145) (lv' := [(4, .ref e139_2), (6, .int (spT bs)), (0, .ref m), (1, .ref k)]) dJ4_getNode_143 (by decide) rfl rfl ?_
                    refine aw_ifnonnull (tgt := 99) dJ4_getNode_145 (by decide) ?_
                    have g7 : L1.length = L9.length + 1 := by rw [eL9]; rfl
                    exact AW.lvs (lv' := [(4, .ref e139_2), (6, .int (spT bs)), (0, .ref m), (1, .ref k)]) (AW.eq (lv2 := _) (rfl) rfl rfl rfl rfl (ih_99 e139_2 L9 (by have g9 := hc2; rw [eL9] at g9; exact g9.2) (fun q hq => hM1 q (List.mem_cons_of_mem _ (by rw [eL9]; exact hq))) (fun y9 hy9 e9 => by have m9 := hbf y9 hy9 e9; rw [eL9] at m9; rcases List.mem_cons.mp m9 with rfl | m8; exact absurd e9 nt; exact m8) (by omega))) (by simp)
                · skip
                  refine aw_aload (n := 111) dJ4_getNode_109 0 rfl rfl ?_
                  refine aw_getf (n := 114) (v := .ref ((κ e).2.1)) (C0 := RJ25) (T := TJ25) dJ4_getNode_111 rfl 1 q1553 (Or.inl rfl) (hCP e (hM1 e List.mem_cons_self)).1 rfl rfl ?_
                  refine aw_dup (n := 115) dJ4_getNode_114 rfl rfl ?_
                  refine aw_astore (n := 117) (lv' := [(7, .ref ((κ e).2.1)), (4, .ref e), (6, .int (spT bs)), (0, .ref m), (1, .ref k)]) dJ4_getNode_115 (by decide) rfl rfl ?_
                  refine aw_aload_n (n := 118) dJ4_getNode_117 rfl 4 rfl rfl ?_
                  refine aw_acmp_eq (n := 121) (x := (some ((κ e).2.1))) (y := (some k)) (tgt := 134) dJ4_getNode_118 (by decide) rfl (fun c_118 => ?_) (fun c_118 => ?_)
                  · skip
                    have ek : (κ e).2.1 = k := by simpa using c_118
                    have et : tx e = bs := (hS.uniq (by rw [← ek]; exact hKp)).symm
                    refine aw_aload (n := 136) dJ4_getNode_134 1 rfl rfl ?_
                    exact aw_aret dJ4_getNode_136 rfl (Or.inl ⟨_, rfl⟩) (Or.inr ⟨_, rfl⟩) ⟨Or.inl ⟨e, _, rfl, hGP.yes hixb (hM1 e List.mem_cons_self) et, Or.inl ⟨_, _, _, (hCP e (hM1 e List.mem_cons_self)).1⟩⟩, rfl⟩ ⟨Nat.zero_le _, Nat.zero_le _⟩
                  · skip
                    refine aw_aload_n (n := 122) dJ4_getNode_121 rfl 4 rfl rfl ?_
                    refine aw_ifnull (n := 125) dJ4_getNode_122 rfl ?_
                    refine aw_aload_n (n := 126) dJ4_getNode_125 rfl 4 rfl rfl ?_
                    refine aw_aload (n := 128) dJ4_getNode_126 0 rfl rfl ?_
                    refine aw_callU (n := 131) "java/lang/Object" (C0 := RJ12) (As := [.ref ((κ e).2.1)]) (rest := []) (K2 := kJ12_equals) (x := ⟨"java/lang/Object", "equals", "(Ljava/lang/Object;)Z"⟩) dJ4_getNode_128 q1166 q1168 (Or.inl q1165) q1206 q776 q122 q778 ⟨by decide, by decide, (show (parseMethodDescriptor "(Ljava/lang/Object;)Z").map (fun d => d.parameters.length) = some 1 from by decide +kernel)⟩ rfl hS0 (cs_equals G h k u bs _ _ hS (κ e).2.1 uh9 (tx e) _ _ hKp) rfl (Nat.le_of_ble_eq_true rfl) ⟨Nat.le_of_ble_eq_true rfl, Nat.le_of_ble_eq_true rfl⟩ ⟨by first | omega | (dsimp only; omega) | decide, by first | omega | (dsimp only; omega) | decide⟩ (fun _ _ _ z => z.elim) rfl (fun r_128 h_128 q_128 => ?_)
                    obtain ⟨rfl, rfl⟩ := q_128
                    refine AW.sts (st' := [.int (bI (decide (bs = tx e)))]) rfl ?_
                    refine aw_if_eq (n := 134) (tgt := 137) dJ4_getNode_131 (by decide) rfl (fun c_131 => ?_) (fun c_131 => ?_)
                    · skip
                      have b_131 : (decide (bs = tx e)) = false := (bI_0 _).mp c_131
                      have nt : tx e ≠ bs := fun e9 => of_decide_eq_false b_131 e9.symm
                      refine aw_aload (n := 139) dJ4_getNode_137 1 rfl rfl ?_
                      rcases optc (nx e) with hq_3 | ⟨e139_3, hq_3⟩
                      · skip
                        refine aw_getf (n := 142) (v := .null) (C0 := RJ25) (T := TJ25) dJ4_getNode_139 rfl 3 q1560 (Or.inl rfl) (hCP e (hM1 e List.mem_cons_self)).1 (congrArg (fun z9 => some (va_rf z9)) (show nx e = none from by exact hq_3)) rfl ?_
                        refine aw_dup (n := 143) dJ4_getNode_142 rfl rfl ?_
                        refine aw_astoreN (n := 145) (lv' := [(4, .null), (7, .ref ((κ e).2.1)), (6, .int (spT bs)), (0, .ref m), (1, .ref k)]) dJ4_getNode_143 (by decide) rfl rfl ?_
                        refine aw_ifnonnullN (n := 148) dJ4_getNode_145 rfl ?_
                        refine aw_null (n := 149) dJ4_getNode_148 rfl ?_
                        exact aw_aret dJ4_getNode_149 rfl (Or.inl ⟨_, rfl⟩) (Or.inl rfl) ⟨Or.inr ⟨hGP.no hixb (fun y hy e9 => by have eL : L1 = [] := (by have g9 := hc2; rw [hq_3] at g9; cases h9 : L1 with | nil => rfl | cons a9 L9 => rw [h9] at g9; cases g9.1); have m9 := hbf y hy e9; rw [eL] at m9; rcases List.mem_singleton.mp m9 with rfl; exact nt e9), rfl⟩, rfl⟩ ⟨Nat.zero_le _, Nat.zero_le _⟩
                      · skip
                        obtain ⟨L9, eL9⟩ : ∃ L9, L1 = e139_3 :: L9 := by cases h9 : L1 with | nil => rw [h9, hq_3] at hc2; cases hc2 | cons a9 L9 => exact ⟨L9, by have g9 := hc2; rw [h9] at g9; have g8 := g9.1; rw [hq_3] at g8; cases g8; rfl⟩
                        have k_e139_3 : M e139_3 := hM1 e139_3 (List.mem_cons_of_mem _ (by rw [eL9]; exact List.mem_cons_self))
                        refine aw_getf (n := 142) (v := .ref e139_3) (C0 := RJ25) (T := TJ25) dJ4_getNode_139 rfl 3 q1560 (Or.inl rfl) (hCP e (hM1 e List.mem_cons_self)).1 (congrArg (fun z9 => some (va_rf z9)) (show nx e = some e139_3 from by exact hq_3)) rfl ?_
                        refine aw_dup (n := 143) dJ4_getNode_142 rfl rfl ?_
                        refine aw_astore (n := 145) (lv' := [(4, .ref e139_3), (7, .ref ((κ e).2.1)), (6, .int (spT bs)), (0, .ref m), (1, .ref k)]) dJ4_getNode_143 (by decide) rfl rfl ?_
                        refine aw_ifnonnull (tgt := 99) dJ4_getNode_145 (by decide) ?_
                        have g7 : L1.length = L9.length + 1 := by rw [eL9]; rfl
                        exact AW.lvs (lv' := [(4, .ref e139_3), (6, .int (spT bs)), (0, .ref m), (1, .ref k)]) (AW.eq (lv2 := _) (rfl) rfl rfl rfl rfl (ih_99 e139_3 L9 (by have g9 := hc2; rw [eL9] at g9; exact g9.2) (fun q hq => hM1 q (List.mem_cons_of_mem _ (by rw [eL9]; exact hq))) (fun y9 hy9 e9 => by have m9 := hbf y9 hy9 e9; rw [eL9] at m9; rcases List.mem_cons.mp m9 with rfl | m8; exact absurd e9 nt; exact m8) (by omega))) (by simp)
                    · skip
                      have b_131 : (decide (bs = tx e)) = true := Bool.of_not_eq_false (fun e => c_131 ((bI_0 _).mpr e))
                      have et : tx e = bs := (of_decide_eq_true b_131).symm
                      refine aw_aload (n := 136) dJ4_getNode_134 1 rfl rfl ?_
                      exact aw_aret dJ4_getNode_136 rfl (Or.inl ⟨_, rfl⟩) (Or.inr ⟨_, rfl⟩) ⟨Or.inl ⟨e, _, rfl, hGP.yes hixb (hM1 e List.mem_cons_self) et, Or.inl ⟨_, _, _, (hCP e (hM1 e List.mem_cons_self)).1⟩⟩, rfl⟩ ⟨Nat.zero_le _, Nat.zero_le _⟩
            · skip
              exact absurd c_85 (by decide +kernel)
        · skip
          refine aw_aload_n (n := 46) dJ4_getNode_45 rfl 0 rfl rfl ?_
          refine aw_getf (n := 49) (v := .ref ((κ hd).2.1)) (C0 := RJ25) (T := TJ25) dJ4_getNode_46 rfl 1 q1553 (Or.inl rfl) (hCP hd hMhd).1 rfl rfl ?_
          refine aw_dup (n := 50) dJ4_getNode_49 rfl rfl ?_
          refine aw_astore (n := 52) (lv' := [(7, .ref ((κ hd).2.1)), (3, .ref hd), (6, .int (spT bs)), (5, .int (nI n)), (2, .ref t), (0, .ref m), (1, .ref k)]) dJ4_getNode_50 (by decide) rfl rfl ?_
          refine aw_aload_n (n := 53) dJ4_getNode_52 rfl 6 rfl rfl ?_
          refine aw_acmp_eq (n := 56) (x := (some ((κ hd).2.1))) (y := (some k)) (tgt := 69) dJ4_getNode_53 (by decide) rfl (fun c_53 => ?_) (fun c_53 => ?_)
          · skip
            have ek : (κ hd).2.1 = k := by simpa using c_53
            have et : tx hd = bs := (hS.uniq (by rw [← ek]; exact hKp)).symm
            refine aw_aload_n (n := 70) dJ4_getNode_69 rfl 1 rfl rfl ?_
            exact aw_aret dJ4_getNode_70 rfl (Or.inl ⟨_, rfl⟩) (Or.inr ⟨_, rfl⟩) ⟨Or.inl ⟨hd, _, rfl, hGP.yes hixb hMhd et, Or.inl ⟨_, _, _, (hCP hd hMhd).1⟩⟩, rfl⟩ ⟨Nat.zero_le _, Nat.zero_le _⟩
          · skip
            refine aw_aload_n (n := 57) dJ4_getNode_56 rfl 6 rfl rfl ?_
            refine aw_ifnull (n := 60) dJ4_getNode_57 rfl ?_
            refine aw_aload_n (n := 61) dJ4_getNode_60 rfl 6 rfl rfl ?_
            refine aw_aload (n := 63) dJ4_getNode_61 0 rfl rfl ?_
            refine aw_callU (n := 66) "java/lang/Object" (C0 := RJ12) (As := [.ref ((κ hd).2.1)]) (rest := []) (K2 := kJ12_equals) (x := ⟨"java/lang/Object", "equals", "(Ljava/lang/Object;)Z"⟩) dJ4_getNode_63 q1166 q1168 (Or.inl q1165) q1206 q776 q122 q778 ⟨by decide, by decide, (show (parseMethodDescriptor "(Ljava/lang/Object;)Z").map (fun d => d.parameters.length) = some 1 from by decide +kernel)⟩ rfl hS0 (cs_equals G h k u bs _ _ hS (κ hd).2.1 uh9 (tx hd) _ _ hKp) rfl (Nat.le_of_ble_eq_true rfl) ⟨Nat.le_of_ble_eq_true rfl, Nat.le_of_ble_eq_true rfl⟩ ⟨by first | omega | (dsimp only; omega) | decide, by first | omega | (dsimp only; omega) | decide⟩ (fun _ _ _ z => z.elim) rfl (fun r_63 h_63 q_63 => ?_)
            obtain ⟨rfl, rfl⟩ := q_63
            refine AW.sts (st' := [.int (bI (decide (bs = tx hd)))]) rfl ?_
            refine aw_if_eq (n := 69) (tgt := 71) dJ4_getNode_66 (by decide) rfl (fun c_66 => ?_) (fun c_66 => ?_)
            · skip
              have b_66 : (decide (bs = tx hd)) = false := (bI_0 _).mp c_66
              have nt : tx hd ≠ bs := fun e9 => of_decide_eq_false b_66 e9.symm
              refine aw_aload_n (n := 72) dJ4_getNode_71 rfl 1 rfl rfl ?_
              rcases optc (nx hd) with hq_4 | ⟨e72_4, hq_4⟩
              · skip
                refine aw_getf (n := 75) (v := .null) (C0 := RJ25) (T := TJ25) dJ4_getNode_72 rfl 3 q1560 (Or.inl rfl) (hCP hd hMhd).1 (congrArg (fun z9 => some (va_rf z9)) (show nx hd = none from by exact hq_4)) rfl ?_
                refine aw_dup (n := 76) dJ4_getNode_75 rfl rfl ?_
                refine aw_astoreN (n := 78) (lv' := [(4, .null), (7, .ref ((κ hd).2.1)), (3, .ref hd), (6, .int (spT bs)), (5, .int (nI n)), (2, .ref t), (0, .ref m), (1, .ref k)]) dJ4_getNode_76 (by decide) rfl rfl ?_
                refine aw_ifnullN (tgt := 148) dJ4_getNode_78 (by decide) ?_
                refine aw_null (n := 149) dJ4_getNode_148 rfl ?_
                exact aw_aret dJ4_getNode_149 rfl (Or.inl ⟨_, rfl⟩) (Or.inl rfl) ⟨Or.inr ⟨hGP.no hixb (fun y hy e9 => by have eL : L = [] := (by have g9 := hc1; rw [hq_4] at g9; cases h9 : L with | nil => rfl | cons a9 L9 => rw [h9] at g9; cases g9.1); rw [hML y, eL] at hy; rcases List.mem_singleton.mp hy with rfl; exact nt e9), rfl⟩, rfl⟩ ⟨Nat.zero_le _, Nat.zero_le _⟩
              · skip
                obtain ⟨L9, eL9⟩ : ∃ L9, L = e72_4 :: L9 := by cases h9 : L with | nil => rw [h9, hq_4] at hc1; cases hc1 | cons a9 L9 => exact ⟨L9, by have g9 := hc1; rw [h9] at g9; have g8 := g9.1; rw [hq_4] at g8; cases g8; rfl⟩
                have k_e72_4 : M e72_4 := (hML e72_4).mpr (List.mem_cons_of_mem _ (by rw [eL9]; exact List.mem_cons_self))
                refine aw_getf (n := 75) (v := .ref e72_4) (C0 := RJ25) (T := TJ25) dJ4_getNode_72 rfl 3 q1560 (Or.inl rfl) (hCP hd hMhd).1 (congrArg (fun z9 => some (va_rf z9)) (show nx hd = some e72_4 from by exact hq_4)) rfl ?_
                refine aw_dup (n := 76) dJ4_getNode_75 rfl rfl ?_
                refine aw_astore (n := 78) (lv' := [(4, .ref e72_4), (7, .ref ((κ hd).2.1)), (3, .ref hd), (6, .int (spT bs)), (5, .int (nI n)), (2, .ref t), (0, .ref m), (1, .ref k)]) dJ4_getNode_76 (by decide) rfl rfl ?_
                refine aw_ifnull (n := 81) dJ4_getNode_78 rfl ?_
                refine aw_aload_n (n := 82) dJ4_getNode_81 rfl 2 rfl rfl ?_
                refine aw_instNo (n := 85) dJ4_getNode_82 q1211 rfl (hCP hd hMhd).1 (List.Mem.tail _ (List.Mem.tail _ (List.Mem.head _))) rfl ?_
                refine aw_if_eq (n := 88) (tgt := 99) dJ4_getNode_85 (by decide) rfl (fun c_85_2 => ?_) (fun c_85_2 => ?_)
                · skip
                  suffices L_99 : ∀ (m_ : Nat) (e : Nat) (L1 : List Nat) (hc2 : chn nx (nx e) L1) (hM1 : ∀ q, q ∈ e :: L1 → M q) (hbf : ∀ y, M y → tx y = bs → y ∈ e :: L1), L1.length < m_ → AW G kJ4_getNode ((20, 500, 0, 0), (fun r h1 => ((∃ x a, r = some (.ref x) ∧ g bs = some a ∧ nodV h x a) ∨ (g bs = none ∧ r = some .null)) ∧ h = h1), nX) 99 [(4, .ref e), (6, .int (spT bs)), (0, .ref m), (1, .ref k)] [] h 0 0 from
                    AW.lvs (lv' := [(4, .ref e72_4), (6, .int (spT bs)), (0, .ref m), (1, .ref k)]) (AW.eq (lv2 := _) (rfl) rfl rfl rfl rfl (L_99 _ e72_4 L9 (by have g9 := hc1; rw [eL9] at g9; exact g9.2) (fun q hq => (hML q).mpr (List.mem_cons_of_mem _ (by rw [eL9]; exact hq))) (fun y9 hy9 e9 => by have m9 := (hML y9).mp hy9; rw [eL9] at m9; rcases List.mem_cons.mp m9 with rfl | m8; exact absurd e9 nt; exact m8) (Nat.lt_succ_self _))) (by simp)
                  intro m_
                  induction m_ with
                  | zero => intro e L1 hc2 hM1 hbf h_m; exact absurd h_m (Nat.not_lt_zero _)
                  | succ m_ ih_99 =>
                    intro e L1 hc2 hM1 hbf h_m
                    obtain ⟨⟨uh9, hKp⟩, hKh, hK8⟩ := hK e (hM1 e List.mem_cons_self)
                    refine aw_aload (n := 101) dJ4_getNode_99 0 rfl rfl ?_
                    refine aw_getf (n := 104) (v := .int ((κ e).1)) (C0 := RJ25) (T := TJ25) dJ4_getNode_101 rfl 0 q1549 (Or.inl rfl) (hCP e (hM1 e List.mem_cons_self)).1 rfl rfl ?_
                    refine aw_iload (n := 106) dJ4_getNode_104 1 rfl rfl ?_
                    refine aw_icmp_ne (n := 109) (tgt := 137) dJ4_getNode_106 (by decide) rfl (fun c_106_2 => ?_) (fun c_106_2 => ?_)
                    · skip
                      have nt : tx e ≠ bs := fun e9 => c_106_2 (by rw [hKh, e9])
                      refine aw_aload (n := 139) dJ4_getNode_137 0 rfl rfl ?_
                      rcases optc (nx e) with hq_5 | ⟨e139_5, hq_5⟩
                      · skip
                        refine aw_getf (n := 142) (v := .null) (C0 := RJ25) (T := TJ25) dJ4_getNode_139 rfl 3 q1560 (Or.inl rfl) (hCP e (hM1 e List.mem_cons_self)).1 (congrArg (fun z9 => some (va_rf z9)) (show nx e = none from by exact hq_5)) rfl ?_
                        refine aw_dup (n := 143) dJ4_getNode_142 rfl rfl ?_
                        refine aw_astoreN (n := 145) (lv' := [(4, .null), (6, .int (spT bs)), (0, .ref m), (1, .ref k)]) dJ4_getNode_143 (by decide) rfl rfl ?_
                        refine aw_ifnonnullN (n := 148) dJ4_getNode_145 rfl ?_
                        refine aw_null (n := 149) dJ4_getNode_148 rfl ?_
                        exact aw_aret dJ4_getNode_149 rfl (Or.inl ⟨_, rfl⟩) (Or.inl rfl) ⟨Or.inr ⟨hGP.no hixb (fun y hy e9 => by have eL : L1 = [] := (by have g9 := hc2; rw [hq_5] at g9; cases h9 : L1 with | nil => rfl | cons a9 L9 => rw [h9] at g9; cases g9.1); have m9 := hbf y hy e9; rw [eL] at m9; rcases List.mem_singleton.mp m9 with rfl; exact nt e9), rfl⟩, rfl⟩ ⟨Nat.zero_le _, Nat.zero_le _⟩
                      · skip
                        obtain ⟨L9, eL9⟩ : ∃ L9, L1 = e139_5 :: L9 := by cases h9 : L1 with | nil => rw [h9, hq_5] at hc2; cases hc2 | cons a9 L9 => exact ⟨L9, by have g9 := hc2; rw [h9] at g9; have g8 := g9.1; rw [hq_5] at g8; cases g8; rfl⟩
                        have k_e139_5 : M e139_5 := hM1 e139_5 (List.mem_cons_of_mem _ (by rw [eL9]; exact List.mem_cons_self))
                        refine aw_getf (n := 142) (v := .ref e139_5) (C0 := RJ25) (T := TJ25) dJ4_getNode_139 rfl 3 q1560 (Or.inl rfl) (hCP e (hM1 e List.mem_cons_self)).1 (congrArg (fun z9 => some (va_rf z9)) (show nx e = some e139_5 from by exact hq_5)) rfl ?_
                        refine aw_dup (n := 143) dJ4_getNode_142 rfl rfl ?_
                        refine aw_astore (n := 145) (lv' := [(4, .ref e139_5), (6, .int (spT bs)), (0, .ref m), (1, .ref k)]) dJ4_getNode_143 (by decide) rfl rfl ?_
                        refine aw_ifnonnull (tgt := 99) dJ4_getNode_145 (by decide) ?_
                        have g7 : L1.length = L9.length + 1 := by rw [eL9]; rfl
                        exact AW.lvs (lv' := [(4, .ref e139_5), (6, .int (spT bs)), (0, .ref m), (1, .ref k)]) (AW.eq (lv2 := _) (rfl) rfl rfl rfl rfl (ih_99 e139_5 L9 (by have g9 := hc2; rw [eL9] at g9; exact g9.2) (fun q hq => hM1 q (List.mem_cons_of_mem _ (by rw [eL9]; exact hq))) (fun y9 hy9 e9 => by have m9 := hbf y9 hy9 e9; rw [eL9] at m9; rcases List.mem_cons.mp m9 with rfl | m8; exact absurd e9 nt; exact m8) (by omega))) (by simp)
                    · skip
                      refine aw_aload (n := 111) dJ4_getNode_109 0 rfl rfl ?_
                      refine aw_getf (n := 114) (v := .ref ((κ e).2.1)) (C0 := RJ25) (T := TJ25) dJ4_getNode_111 rfl 1 q1553 (Or.inl rfl) (hCP e (hM1 e List.mem_cons_self)).1 rfl rfl ?_
                      refine aw_dup (n := 115) dJ4_getNode_114 rfl rfl ?_
                      refine aw_astore (n := 117) (lv' := [(7, .ref ((κ e).2.1)), (4, .ref e), (6, .int (spT bs)), (0, .ref m), (1, .ref k)]) dJ4_getNode_115 (by decide) rfl rfl ?_
                      refine aw_aload_n (n := 118) dJ4_getNode_117 rfl 4 rfl rfl ?_
                      refine aw_acmp_eq (n := 121) (x := (some ((κ e).2.1))) (y := (some k)) (tgt := 134) dJ4_getNode_118 (by decide) rfl (fun c_118_2 => ?_) (fun c_118_2 => ?_)
                      · skip
                        have ek : (κ e).2.1 = k := by simpa using c_118_2
                        have et : tx e = bs := (hS.uniq (by rw [← ek]; exact hKp)).symm
                        refine aw_aload (n := 136) dJ4_getNode_134 1 rfl rfl ?_
                        exact aw_aret dJ4_getNode_136 rfl (Or.inl ⟨_, rfl⟩) (Or.inr ⟨_, rfl⟩) ⟨Or.inl ⟨e, _, rfl, hGP.yes hixb (hM1 e List.mem_cons_self) et, Or.inl ⟨_, _, _, (hCP e (hM1 e List.mem_cons_self)).1⟩⟩, rfl⟩ ⟨Nat.zero_le _, Nat.zero_le _⟩
                      · skip
                        refine aw_aload_n (n := 122) dJ4_getNode_121 rfl 4 rfl rfl ?_
                        refine aw_ifnull (n := 125) dJ4_getNode_122 rfl ?_
                        refine aw_aload_n (n := 126) dJ4_getNode_125 rfl 4 rfl rfl ?_
                        refine aw_aload (n := 128) dJ4_getNode_126 0 rfl rfl ?_
                        refine aw_callU (n := 131) "java/lang/Object" (C0 := RJ12) (As := [.ref ((κ e).2.1)]) (rest := []) (K2 := kJ12_equals) (x := ⟨"java/lang/Object", "equals", "(Ljava/lang/Object;)Z"⟩) dJ4_getNode_128 q1166 q1168 (Or.inl q1165) q1206 q776 q122 q778 ⟨by decide, by decide, (show (parseMethodDescriptor "(Ljava/lang/Object;)Z").map (fun d => d.parameters.length) = some 1 from by decide +kernel)⟩ rfl hS0 (cs_equals G h k u bs _ _ hS (κ e).2.1 uh9 (tx e) _ _ hKp) rfl (Nat.le_of_ble_eq_true rfl) ⟨Nat.le_of_ble_eq_true rfl, Nat.le_of_ble_eq_true rfl⟩ ⟨by first | omega | (dsimp only; omega) | decide, by first | omega | (dsimp only; omega) | decide⟩ (fun _ _ _ z => z.elim) rfl (fun r_128 h_128 q_128 => ?_)
                        obtain ⟨rfl, rfl⟩ := q_128
                        refine AW.sts (st' := [.int (bI (decide (bs = tx e)))]) rfl ?_
                        refine aw_if_eq (n := 134) (tgt := 137) dJ4_getNode_131 (by decide) rfl (fun c_131_2 => ?_) (fun c_131_2 => ?_)
                        · skip
                          have b_131_2 : (decide (bs = tx e)) = false := (bI_0 _).mp c_131_2
                          have nt : tx e ≠ bs := fun e9 => of_decide_eq_false b_131_2 e9.symm
                          refine aw_aload (n := 139) dJ4_getNode_137 1 rfl rfl ?_
                          rcases optc (nx e) with hq_6 | ⟨e139_6, hq_6⟩
                          · skip
                            refine aw_getf (n := 142) (v := .null) (C0 := RJ25) (T := TJ25) dJ4_getNode_139 rfl 3 q1560 (Or.inl rfl) (hCP e (hM1 e List.mem_cons_self)).1 (congrArg (fun z9 => some (va_rf z9)) (show nx e = none from by exact hq_6)) rfl ?_
                            refine aw_dup (n := 143) dJ4_getNode_142 rfl rfl ?_
                            refine aw_astoreN (n := 145) (lv' := [(4, .null), (7, .ref ((κ e).2.1)), (6, .int (spT bs)), (0, .ref m), (1, .ref k)]) dJ4_getNode_143 (by decide) rfl rfl ?_
                            refine aw_ifnonnullN (n := 148) dJ4_getNode_145 rfl ?_
                            refine aw_null (n := 149) dJ4_getNode_148 rfl ?_
                            exact aw_aret dJ4_getNode_149 rfl (Or.inl ⟨_, rfl⟩) (Or.inl rfl) ⟨Or.inr ⟨hGP.no hixb (fun y hy e9 => by have eL : L1 = [] := (by have g9 := hc2; rw [hq_6] at g9; cases h9 : L1 with | nil => rfl | cons a9 L9 => rw [h9] at g9; cases g9.1); have m9 := hbf y hy e9; rw [eL] at m9; rcases List.mem_singleton.mp m9 with rfl; exact nt e9), rfl⟩, rfl⟩ ⟨Nat.zero_le _, Nat.zero_le _⟩
                          · skip
                            obtain ⟨L9, eL9⟩ : ∃ L9, L1 = e139_6 :: L9 := by cases h9 : L1 with | nil => rw [h9, hq_6] at hc2; cases hc2 | cons a9 L9 => exact ⟨L9, by have g9 := hc2; rw [h9] at g9; have g8 := g9.1; rw [hq_6] at g8; cases g8; rfl⟩
                            have k_e139_6 : M e139_6 := hM1 e139_6 (List.mem_cons_of_mem _ (by rw [eL9]; exact List.mem_cons_self))
                            refine aw_getf (n := 142) (v := .ref e139_6) (C0 := RJ25) (T := TJ25) dJ4_getNode_139 rfl 3 q1560 (Or.inl rfl) (hCP e (hM1 e List.mem_cons_self)).1 (congrArg (fun z9 => some (va_rf z9)) (show nx e = some e139_6 from by exact hq_6)) rfl ?_
                            refine aw_dup (n := 143) dJ4_getNode_142 rfl rfl ?_
                            refine aw_astore (n := 145) (lv' := [(4, .ref e139_6), (7, .ref ((κ e).2.1)), (6, .int (spT bs)), (0, .ref m), (1, .ref k)]) dJ4_getNode_143 (by decide) rfl rfl ?_
                            refine aw_ifnonnull (tgt := 99) dJ4_getNode_145 (by decide) ?_
                            have g7 : L1.length = L9.length + 1 := by rw [eL9]; rfl
                            exact AW.lvs (lv' := [(4, .ref e139_6), (6, .int (spT bs)), (0, .ref m), (1, .ref k)]) (AW.eq (lv2 := _) (rfl) rfl rfl rfl rfl (ih_99 e139_6 L9 (by have g9 := hc2; rw [eL9] at g9; exact g9.2) (fun q hq => hM1 q (List.mem_cons_of_mem _ (by rw [eL9]; exact hq))) (fun y9 hy9 e9 => by have m9 := hbf y9 hy9 e9; rw [eL9] at m9; rcases List.mem_cons.mp m9 with rfl | m8; exact absurd e9 nt; exact m8) (by omega))) (by simp)
                        · skip
                          have b_131_2 : (decide (bs = tx e)) = true := Bool.of_not_eq_false (fun e => c_131_2 ((bI_0 _).mpr e))
                          have et : tx e = bs := (of_decide_eq_true b_131_2).symm
                          refine aw_aload (n := 136) dJ4_getNode_134 1 rfl rfl ?_
                          exact aw_aret dJ4_getNode_136 rfl (Or.inl ⟨_, rfl⟩) (Or.inr ⟨_, rfl⟩) ⟨Or.inl ⟨e, _, rfl, hGP.yes hixb (hM1 e List.mem_cons_self) et, Or.inl ⟨_, _, _, (hCP e (hM1 e List.mem_cons_self)).1⟩⟩, rfl⟩ ⟨Nat.zero_le _, Nat.zero_le _⟩
                · skip
                  exact absurd c_85_2 (by decide +kernel)
            · skip
              have b_66 : (decide (bs = tx hd)) = true := Bool.of_not_eq_false (fun e => c_66 ((bI_0 _).mpr e))
              have et : tx hd = bs := (of_decide_eq_true b_66).symm
              refine aw_aload_n (n := 70) dJ4_getNode_69 rfl 1 rfl rfl ?_
              exact aw_aret dJ4_getNode_70 rfl (Or.inl ⟨_, rfl⟩) (Or.inr ⟨_, rfl⟩) ⟨Or.inl ⟨hd, _, rfl, hGP.yes hixb hMhd et, Or.inl ⟨_, _, _, (hCP hd hMhd).1⟩⟩, rfl⟩ ⟨Nat.zero_le _, Nat.zero_le _⟩
    · skip
      obtain ⟨⟨uh9, hKp⟩, hKh, hK8⟩ := hK root hB.1
      refine aw_aald (n := 31) (v := .ref root) dJ4_getNode_30 rfl rfl i rfl hA hi0 (by rcases hn with e | e | e <;> omega) hv rfl ?_
      refine aw_dup (n := 32) dJ4_getNode_31 rfl rfl ?_
      refine aw_astore_n (n := 33) (lv' := [(3, .ref root), (6, .int (spT bs)), (5, .int (nI n)), (2, .ref t), (0, .ref m), (1, .ref k)]) dJ4_getNode_32 rfl (by decide) rfl rfl ?_
      refine aw_ifnull (n := 36) dJ4_getNode_33 rfl ?_
      refine aw_aload_n (n := 37) dJ4_getNode_36 rfl 0 rfl rfl ?_
      refine aw_getf (n := 40) (v := .int ((κ root).1)) (C0 := RJ27) (T := TJ27) dJ4_getNode_37 rfl 2 q1549 (Or.inl rfl) (hTP root hB.1).1 rfl rfl ?_
      refine aw_iload (n := 42) dJ4_getNode_40 1 rfl rfl ?_
      refine aw_icmp_ne (n := 45) (tgt := 71) dJ4_getNode_42 (by decide) rfl (fun c_42 => ?_) (fun c_42 => ?_)
      · skip
        have nt : tx root ≠ bs := fun e9 => c_42 (by rw [hKh, e9])
        refine aw_aload_n (n := 72) dJ4_getNode_71 rfl 0 rfl rfl ?_
        rcases optc (nx root) with hq_7 | ⟨n72_7, hq_7⟩
        · skip
          exact absurd hq_7 hn0
        · skip
          have k_n72_7 := (hW root hB.1).1 n72_7 hq_7
          refine aw_getf (n := 75) (v := .ref n72_7) (C0 := RJ27) (T := TJ27) dJ4_getNode_72 rfl 5 q1560 (Or.inl rfl) (hTP root hB.1).1 (congrArg (fun z9 => some (va_rf z9)) (show nx root = some n72_7 from by exact hq_7)) rfl ?_
          refine aw_dup (n := 76) dJ4_getNode_75 rfl rfl ?_
          refine aw_astore (n := 78) (lv' := [(4, .ref n72_7), (3, .ref root), (6, .int (spT bs)), (5, .int (nI n)), (2, .ref t), (0, .ref m), (1, .ref k)]) dJ4_getNode_76 (by decide) rfl rfl ?_
          refine aw_ifnull (n := 81) dJ4_getNode_78 rfl ?_
          refine aw_aload_n (n := 82) dJ4_getNode_81 rfl 1 rfl rfl ?_
          refine aw_inst (n := 85) dJ4_getNode_82 q1211 rfl (hTP root hB.1).1 (Or.inl rfl) rfl ?_
          refine aw_if_eq (n := 88) (tgt := 99) dJ4_getNode_85 (by decide) rfl (fun c_85 => ?_) (fun c_85 => ?_)
          · skip
            exact absurd c_85 (by decide +kernel)
          · skip
            refine aw_aload_n (n := 89) dJ4_getNode_88 rfl 1 rfl rfl ?_
            refine aw_cast (n := 92) dJ4_getNode_89 q1211 rfl (hTP root hB.1).1 (Or.inl rfl) rfl ?_
            refine aw_iload (n := 94) dJ4_getNode_92 2 rfl rfl ?_
            refine aw_aload_n (n := 95) dJ4_getNode_94 rfl 6 rfl rfl ?_
            refine aw_callV (n := 98) (C0 := RJ27) (As := [.int (spT bs), .ref k]) (rest := []) (K2 := kJ27_getTreeNode) dJ4_getNode_95 q1212 q1213 q1214 q145 q1215 ⟨rfl, hcJ27_getTreeNode⟩ rfl (hTP root hB.1).1 (hm_gtn G h M κ nx pa lf rt pv rd hTP tx root bl bh ht B hB hK k u bs hS hb8 root hB.1) rfl (Nat.le_of_ble_eq_true rfl) ⟨Nat.le_of_ble_eq_true rfl, Nat.le_of_ble_eq_true rfl⟩ ⟨by first | omega | (dsimp only; omega) | decide, by first | omega | (dsimp only; omega) | decide⟩ (fun _ _ _ z => z.elim) rfl (fun r_95 h_95 q_95 => ?_)
            obtain ⟨hR, rfl⟩ := q_95
            rcases hR with ⟨z, hz, ez, rfl⟩ | ⟨hno, rfl⟩
            · skip
              refine AW.sts (st' := [.ref z]) rfl ?_
              exact aw_aret dJ4_getNode_98 rfl (Or.inl ⟨_, rfl⟩) (Or.inr ⟨_, rfl⟩) ⟨Or.inl ⟨z, _, rfl, hGP.yes hixb hz ez, Or.inr ⟨_, _, _, _, _, _, _, _, (hTP z hz).1⟩⟩, rfl⟩ ⟨Nat.zero_le _, Nat.zero_le _⟩
            · skip
              refine AW.sts (st' := [.null]) rfl ?_
              exact aw_aret dJ4_getNode_98 rfl (Or.inl ⟨_, rfl⟩) (Or.inl rfl) ⟨Or.inr ⟨hGP.no hixb hno, rfl⟩, rfl⟩ ⟨Nat.zero_le _, Nat.zero_le _⟩
      · skip
        refine aw_aload_n (n := 46) dJ4_getNode_45 rfl 0 rfl rfl ?_
        refine aw_getf (n := 49) (v := .ref ((κ root).2.1)) (C0 := RJ27) (T := TJ27) dJ4_getNode_46 rfl 3 q1553 (Or.inl rfl) (hTP root hB.1).1 rfl rfl ?_
        refine aw_dup (n := 50) dJ4_getNode_49 rfl rfl ?_
        refine aw_astore (n := 52) (lv' := [(7, .ref ((κ root).2.1)), (3, .ref root), (6, .int (spT bs)), (5, .int (nI n)), (2, .ref t), (0, .ref m), (1, .ref k)]) dJ4_getNode_50 (by decide) rfl rfl ?_
        refine aw_aload_n (n := 53) dJ4_getNode_52 rfl 6 rfl rfl ?_
        refine aw_acmp_eq (n := 56) (x := (some ((κ root).2.1))) (y := (some k)) (tgt := 69) dJ4_getNode_53 (by decide) rfl (fun c_53 => ?_) (fun c_53 => ?_)
        · skip
          have ek : (κ root).2.1 = k := by simpa using c_53
          have et : tx root = bs := (hS.uniq (by rw [← ek]; exact hKp)).symm
          refine aw_aload_n (n := 70) dJ4_getNode_69 rfl 1 rfl rfl ?_
          exact aw_aret dJ4_getNode_70 rfl (Or.inl ⟨_, rfl⟩) (Or.inr ⟨_, rfl⟩) ⟨Or.inl ⟨root, _, rfl, hGP.yes hixb hB.1 et, Or.inr ⟨_, _, _, _, _, _, _, _, (hTP root hB.1).1⟩⟩, rfl⟩ ⟨Nat.zero_le _, Nat.zero_le _⟩
        · skip
          refine aw_aload_n (n := 57) dJ4_getNode_56 rfl 6 rfl rfl ?_
          refine aw_ifnull (n := 60) dJ4_getNode_57 rfl ?_
          refine aw_aload_n (n := 61) dJ4_getNode_60 rfl 6 rfl rfl ?_
          refine aw_aload (n := 63) dJ4_getNode_61 0 rfl rfl ?_
          refine aw_callU (n := 66) "java/lang/Object" (C0 := RJ12) (As := [.ref ((κ root).2.1)]) (rest := []) (K2 := kJ12_equals) (x := ⟨"java/lang/Object", "equals", "(Ljava/lang/Object;)Z"⟩) dJ4_getNode_63 q1166 q1168 (Or.inl q1165) q1206 q776 q122 q778 ⟨by decide, by decide, (show (parseMethodDescriptor "(Ljava/lang/Object;)Z").map (fun d => d.parameters.length) = some 1 from by decide +kernel)⟩ rfl hS0 (cs_equals G h k u bs _ _ hS (κ root).2.1 uh9 (tx root) _ _ hKp) rfl (Nat.le_of_ble_eq_true rfl) ⟨Nat.le_of_ble_eq_true rfl, Nat.le_of_ble_eq_true rfl⟩ ⟨by first | omega | (dsimp only; omega) | decide, by first | omega | (dsimp only; omega) | decide⟩ (fun _ _ _ z => z.elim) rfl (fun r_63 h_63 q_63 => ?_)
          obtain ⟨rfl, rfl⟩ := q_63
          refine AW.sts (st' := [.int (bI (decide (bs = tx root)))]) rfl ?_
          refine aw_if_eq (n := 69) (tgt := 71) dJ4_getNode_66 (by decide) rfl (fun c_66 => ?_) (fun c_66 => ?_)
          · skip
            have b_66 : (decide (bs = tx root)) = false := (bI_0 _).mp c_66
            have nt : tx root ≠ bs := fun e9 => of_decide_eq_false b_66 e9.symm
            refine aw_aload_n (n := 72) dJ4_getNode_71 rfl 1 rfl rfl ?_
            rcases optc (nx root) with hq_8 | ⟨n72_8, hq_8⟩
            · skip
              exact absurd hq_8 hn0
            · skip
              have k_n72_8 := (hW root hB.1).1 n72_8 hq_8
              refine aw_getf (n := 75) (v := .ref n72_8) (C0 := RJ27) (T := TJ27) dJ4_getNode_72 rfl 5 q1560 (Or.inl rfl) (hTP root hB.1).1 (congrArg (fun z9 => some (va_rf z9)) (show nx root = some n72_8 from by exact hq_8)) rfl ?_
              refine aw_dup (n := 76) dJ4_getNode_75 rfl rfl ?_
              refine aw_astore (n := 78) (lv' := [(4, .ref n72_8), (7, .ref ((κ root).2.1)), (3, .ref root), (6, .int (spT bs)), (5, .int (nI n)), (2, .ref t), (0, .ref m), (1, .ref k)]) dJ4_getNode_76 (by decide) rfl rfl ?_
              refine aw_ifnull (n := 81) dJ4_getNode_78 rfl ?_
              refine aw_aload_n (n := 82) dJ4_getNode_81 rfl 2 rfl rfl ?_
              refine aw_inst (n := 85) dJ4_getNode_82 q1211 rfl (hTP root hB.1).1 (Or.inl rfl) rfl ?_
              refine aw_if_eq (n := 88) (tgt := 99) dJ4_getNode_85 (by decide) rfl (fun c_85_2 => ?_) (fun c_85_2 => ?_)
              · skip
                exact absurd c_85_2 (by decide +kernel)
              · skip
                refine aw_aload_n (n := 89) dJ4_getNode_88 rfl 2 rfl rfl ?_
                refine aw_cast (n := 92) dJ4_getNode_89 q1211 rfl (hTP root hB.1).1 (Or.inl rfl) rfl ?_
                refine aw_iload (n := 94) dJ4_getNode_92 3 rfl rfl ?_
                refine aw_aload_n (n := 95) dJ4_getNode_94 rfl 7 rfl rfl ?_
                refine aw_callV (n := 98) (C0 := RJ27) (As := [.int (spT bs), .ref k]) (rest := []) (K2 := kJ27_getTreeNode) dJ4_getNode_95 q1212 q1213 q1214 q145 q1215 ⟨rfl, hcJ27_getTreeNode⟩ rfl (hTP root hB.1).1 (hm_gtn G h M κ nx pa lf rt pv rd hTP tx root bl bh ht B hB hK k u bs hS hb8 root hB.1) rfl (Nat.le_of_ble_eq_true rfl) ⟨Nat.le_of_ble_eq_true rfl, Nat.le_of_ble_eq_true rfl⟩ ⟨by first | omega | (dsimp only; omega) | decide, by first | omega | (dsimp only; omega) | decide⟩ (fun _ _ _ z => z.elim) rfl (fun r_95 h_95 q_95 => ?_)
                obtain ⟨hR, rfl⟩ := q_95
                rcases hR with ⟨z, hz, ez, rfl⟩ | ⟨hno, rfl⟩
                · skip
                  refine AW.sts (st' := [.ref z]) rfl ?_
                  exact aw_aret dJ4_getNode_98 rfl (Or.inl ⟨_, rfl⟩) (Or.inr ⟨_, rfl⟩) ⟨Or.inl ⟨z, _, rfl, hGP.yes hixb hz ez, Or.inr ⟨_, _, _, _, _, _, _, _, (hTP z hz).1⟩⟩, rfl⟩ ⟨Nat.zero_le _, Nat.zero_le _⟩
                · skip
                  refine AW.sts (st' := [.null]) rfl ?_
                  exact aw_aret dJ4_getNode_98 rfl (Or.inl ⟨_, rfl⟩) (Or.inl rfl) ⟨Or.inr ⟨hGP.no hixb hno, rfl⟩, rfl⟩ ⟨Nat.zero_le _, Nat.zero_le _⟩
          · skip
            have b_66 : (decide (bs = tx root)) = true := Bool.of_not_eq_false (fun e => c_66 ((bI_0 _).mpr e))
            have et : tx root = bs := (of_decide_eq_true b_66).symm
            refine aw_aload_n (n := 70) dJ4_getNode_69 rfl 1 rfl rfl ?_
            exact aw_aret dJ4_getNode_70 rfl (Or.inl ⟨_, rfl⟩) (Or.inr ⟨_, rfl⟩) ⟨Or.inl ⟨root, _, rfl, hGP.yes hixb hB.1 et, Or.inr ⟨_, _, _, _, _, _, _, _, (hTP root hB.1).1⟩⟩, rfl⟩ ⟨Nat.zero_le _, Nat.zero_le _⟩

theorem hm_gn (G : aG) (h : hH) (E : hH) (m k u : Nat) (bs : List Nat) (g : List Nat → Option Nat) (sz : Nat) (hs : sub E h) (hS : isSt h k u bs (hashT bs) (zfT bs)) (hb8 : bs.length ≤ 8) (O : Nat → Prop) (hH_ : isHM G E h m O g sz) : Con G kJ4_getNode [.ref m, .ref k] h ((20, 500, 0, 0), (fun r h1 => ((∃ x a, r = some (.ref x) ∧ g bs = some a ∧ nodV h x a) ∨ (g bs = none ∧ r = some .null)) ∧ h = h1), nX) := by
  obtain ⟨hb, h24, mc, lv, ⟨h1, h2, h3, h4⟩ | ⟨t, n, f, M, h1, h2, h3, h4⟩⟩ := hH_
  · exact hm_gnN G h E m k u bs g sz hs hS hb8 mc lv h1 (h3 bs)
  · exact hm_gnT G h E m k u bs g sz hs hS hb8 mc lv t n f M h1 h3
abbrev kJ4_get : aK := (yJ4_get, cJ4_get, 3, (Option.some (Jvm.ClassFile.FieldType.object "java/lang/Object")), [])
theorem hcJ4_get : kJ4_get.1.cls ≠ "java/lang/invoke/MethodHandle" ∧ kJ4_get.1.cls ≠ "java/lang/invoke/VarHandle" ∧ (parseMethodDescriptor kJ4_get.1.desc).map (fun d => d.parameters.length) = some 1 := ⟨by decide, by decide, by decide +kernel⟩
theorem hm_get (G : aG) (h : hH) (E : hH) (m k u : Nat) (bs : List Nat) (g : List Nat → Option Nat) (sz : Nat) (hs : sub E h) (hS : isSt h k u bs (hashT bs) (zfT bs)) (hb8 : bs.length ≤ 8) (O : Nat → Prop) (hH_ : isHM G E h m O g sz) : Con G kJ4_get [.ref m, .ref k] h ((21, 527, 0, 0), (fun r h1 => r = some (va_rf (g bs)) ∧ h = h1), nX) := by
  obtain ⟨mf, hM⟩ : ∃ mf, h.2 m = some (hob 25 mf) := by obtain ⟨hb, h24, mc, lv, ⟨h1, h2⟩ | ⟨t, n, f, M, h1, h2⟩⟩ := hH_; exact ⟨_, h1⟩; exact ⟨_, h1⟩
  refine Con.of (plainFor_of_name rfl) rfl (Nat.le_of_ble_eq_true rfl) ?_
  refine AW.eq (lv2 := [(0, .ref m), (1, .ref k)]) (s2 := []) rfl rfl rfl rfl rfl ?_
  refine aw_know (fun gd hi => ?_)
  have lt_m : m < h.1 := hi.2.1 _ _ hM
  refine aw_aload_n (n := 1) dJ4_get_0 rfl 0 rfl rfl ?_
  refine aw_aload_n (n := 2) dJ4_get_1 rfl 1 rfl rfl ?_
  refine aw_callV (n := 5) (C0 := RJ4) (As := [.ref k]) (rest := []) (K2 := kJ4_getNode) dJ4_get_2 q1109 q1110 q1111 q112 q1112 ⟨rfl, hcJ4_getNode⟩ rfl hM (hm_gn G h E m k u bs g sz hs hS hb8 O hH_) rfl (Nat.le_of_ble_eq_true rfl) ⟨Nat.le_of_ble_eq_true rfl, Nat.le_of_ble_eq_true rfl⟩ ⟨by first | omega | (dsimp only; omega) | decide, by first | omega | (dsimp only; omega) | decide⟩ (fun _ _ _ z => z.elim) rfl (fun r_2 h_2 q_2 => ?_)
  obtain ⟨hR, rfl⟩ := q_2
  rcases hR with ⟨x, a, rfl, hga, ⟨w1, k1, o1, hX⟩ | ⟨w1, k1, v1, v2, v3, v4, v5, v6, hX⟩⟩ | ⟨hga, rfl⟩
  · skip
    refine AW.sts (st' := [.ref x]) rfl ?_
    refine aw_dup (n := 6) dJ4_get_5 rfl rfl ?_
    refine aw_astore_n (n := 7) (lv' := [(2, .ref x), (0, .ref m), (1, .ref k)]) dJ4_get_6 rfl (by decide) rfl rfl ?_
    refine aw_ifnonnull (tgt := 14) dJ4_get_7 (by decide) ?_
    refine aw_aload_n (n := 15) dJ4_get_14 rfl 0 rfl rfl ?_
    refine aw_getf (n := 18) (v := .ref a) (C0 := RJ25) (T := TJ25) dJ4_get_15 rfl 2 q1555 (Or.inl rfl) hX rfl rfl ?_
    exact aw_aret dJ4_get_18 rfl (Or.inl ⟨_, rfl⟩) (Or.inr ⟨_, rfl⟩) ⟨by rw [hga]; rfl, rfl⟩ ⟨Nat.zero_le _, Nat.zero_le _⟩
  · skip
    refine AW.sts (st' := [.ref x]) rfl ?_
    refine aw_dup (n := 6) dJ4_get_5 rfl rfl ?_
    refine aw_astore_n (n := 7) (lv' := [(2, .ref x), (0, .ref m), (1, .ref k)]) dJ4_get_6 rfl (by decide) rfl rfl ?_
    refine aw_ifnonnull (tgt := 14) dJ4_get_7 (by decide) ?_
    refine aw_aload_n (n := 15) dJ4_get_14 rfl 0 rfl rfl ?_
    refine aw_getf (n := 18) (v := .ref a) (C0 := RJ27) (T := TJ27) dJ4_get_15 rfl 4 q1555 (Or.inl rfl) hX rfl rfl ?_
    exact aw_aret dJ4_get_18 rfl (Or.inl ⟨_, rfl⟩) (Or.inr ⟨_, rfl⟩) ⟨by rw [hga]; rfl, rfl⟩ ⟨Nat.zero_le _, Nat.zero_le _⟩
  · skip
    refine AW.sts (st' := [.null]) rfl ?_
    refine aw_dup (n := 6) dJ4_get_5 rfl rfl ?_
    refine aw_astore_nN (n := 7) (lv' := [(2, .null), (0, .ref m), (1, .ref k)]) dJ4_get_6 rfl (by decide) rfl rfl ?_
    refine aw_ifnonnullN (n := 10) dJ4_get_7 rfl ?_
    refine aw_null (n := 11) dJ4_get_10 rfl ?_
    refine aw_goto (tgt := 18) dJ4_get_11 (by decide) ?_
    exact aw_aret dJ4_get_18 rfl (Or.inl ⟨_, rfl⟩) (Or.inl rfl) ⟨by rw [hga]; rfl, rfl⟩ ⟨Nat.zero_le _, Nat.zero_le _⟩

abbrev kJ4_containsKey : aK := (yJ4_containsKey, cJ4_containsKey, 2, (Option.some Jvm.ClassFile.FieldType.boolean), [])
theorem hcJ4_containsKey : kJ4_containsKey.1.cls ≠ "java/lang/invoke/MethodHandle" ∧ kJ4_containsKey.1.cls ≠ "java/lang/invoke/VarHandle" ∧ (parseMethodDescriptor kJ4_containsKey.1.desc).map (fun d => d.parameters.length) = some 1 := ⟨by decide, by decide, by decide +kernel⟩
theorem hm_ck (G : aG) (h : hH) (E : hH) (m k u : Nat) (bs : List Nat) (g : List Nat → Option Nat) (sz : Nat) (hs : sub E h) (hS : isSt h k u bs (hashT bs) (zfT bs)) (hb8 : bs.length ≤ 8) (O : Nat → Prop) (hH_ : isHM G E h m O g sz) : Con G kJ4_containsKey [.ref m, .ref k] h ((21, 527, 0, 0), (fun r h1 => r = some (.int (bI (g bs).isSome)) ∧ h = h1), nX) := by
  obtain ⟨mf, hM⟩ : ∃ mf, h.2 m = some (hob 25 mf) := by obtain ⟨hb, h24, mc, lv, ⟨h1, h2⟩ | ⟨t, n, f, M, h1, h2⟩⟩ := hH_; exact ⟨_, h1⟩; exact ⟨_, h1⟩
  refine Con.of (plainFor_of_name rfl) rfl (Nat.le_of_ble_eq_true rfl) ?_
  refine AW.eq (lv2 := [(0, .ref m), (1, .ref k)]) (s2 := []) rfl rfl rfl rfl rfl ?_
  refine aw_know (fun gd hi => ?_)
  have lt_m : m < h.1 := hi.2.1 _ _ hM
  refine aw_aload_n (n := 1) dJ4_containsKey_0 rfl 0 rfl rfl ?_
  refine aw_aload_n (n := 2) dJ4_containsKey_1 rfl 1 rfl rfl ?_
  refine aw_callV (n := 5) (C0 := RJ4) (As := [.ref k]) (rest := []) (K2 := kJ4_getNode) dJ4_containsKey_2 q1109 q1110 q1111 q112 q1112 ⟨rfl, hcJ4_getNode⟩ rfl hM (hm_gn G h E m k u bs g sz hs hS hb8 O hH_) rfl (Nat.le_of_ble_eq_true rfl) ⟨Nat.le_of_ble_eq_true rfl, Nat.le_of_ble_eq_true rfl⟩ ⟨by first | omega | (dsimp only; omega) | decide, by first | omega | (dsimp only; omega) | decide⟩ (fun _ _ _ z => z.elim) rfl (fun r_2 h_2 q_2 => ?_)
  obtain ⟨hR, rfl⟩ := q_2
  rcases hR with ⟨x, a, rfl, hga, ⟨w1, k1, o1, hX⟩ | ⟨w1, k1, v1, v2, v3, v4, v5, v6, hX⟩⟩ | ⟨hga, rfl⟩
  · skip
    refine AW.sts (st' := [.ref x]) rfl ?_
    refine aw_ifnull (n := 8) dJ4_containsKey_5 rfl ?_
    refine aw_iconst (n := 9) (v := 1) dJ4_containsKey_8 (by decide) rfl ?_
    refine aw_goto (tgt := 13) dJ4_containsKey_9 (by decide) ?_
    exact aw_zret dJ4_containsKey_13 rfl (by decide) ⟨by rw [hga]; rfl, rfl⟩ ⟨Nat.zero_le _, Nat.zero_le _⟩
  · skip
    refine AW.sts (st' := [.ref x]) rfl ?_
    refine aw_ifnull (n := 8) dJ4_containsKey_5 rfl ?_
    refine aw_iconst (n := 9) (v := 1) dJ4_containsKey_8 (by decide) rfl ?_
    refine aw_goto (tgt := 13) dJ4_containsKey_9 (by decide) ?_
    exact aw_zret dJ4_containsKey_13 rfl (by decide) ⟨by rw [hga]; rfl, rfl⟩ ⟨Nat.zero_le _, Nat.zero_le _⟩
  · skip
    refine AW.sts (st' := [.null]) rfl ?_
    refine aw_ifnullN (tgt := 12) dJ4_containsKey_5 (by decide) ?_
    refine aw_iconst (n := 13) (v := 0) dJ4_containsKey_12 (by decide) rfl ?_
    exact aw_zret dJ4_containsKey_13 rfl (by decide) ⟨by rw [hga]; rfl, rfl⟩ ⟨Nat.zero_le _, Nat.zero_le _⟩

end
