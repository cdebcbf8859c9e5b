/-! putTreeVal of a key that is not there. -/
section
set_option maxRecDepth 100000
abbrev kJ27_putTreeVal : aK := (yJ27_putTreeVal, cJ27_putTreeVal, 16, (Option.some (Jvm.ClassFile.FieldType.object "java/util/HashMap$TreeNode")), [])
theorem hcJ27_putTreeVal : kJ27_putTreeVal.1.cls ≠ "java/lang/invoke/MethodHandle" ∧ kJ27_putTreeVal.1.cls ≠ "java/lang/invoke/VarHandle" ∧ (parseMethodDescriptor kJ27_putTreeVal.1.desc).map (fun d => d.parameters.length) = some 5 := ⟨by decide, by decide, by decide +kernel⟩
theorem hm_ptv (G : aG) (h : hH) (N : Nat → Prop) (κ : Nat → Int32 × Nat × Nat) (nx pa lf rt pv : oF) (rd : Nat → Bool) (hTP : TPic G h N κ nx pa lf rt pv rd) (tx : Nat → List Nat) (root : Nat) (bl bh : oF) (ht : Nat → Nat) (B : Nat) (hB : BT (ltM tx) N pa lf rt root bl bh ht B) (hK : KP h N κ tx) (k u : Nat) (bs : List Nat) (hS : isSt h k u bs (hashT bs) (zfT bs)) (hb8 : bs.length ≤ 8) (m v t n i : Nat) (mf : List Value) (hM : h.2 m = some (hob 25 mf)) (f : Nat → Value) (hA : h.2 t = some (har 5 n f)) (hbt : gB G ≤ t) (hn : nOK n) (hi0 : i < n) (hf : f i = .ref root) (hW : LW N nx pv) (hn0 : nx root ≠ none) (hab : ∀ y, N y → tx y ≠ bs) (htr : ∀ y z, N y → N z → y ≠ z → tx y ≠ tx z) (hIx : ∀ y, N y → (nI n - 1) &&& (κ y).1 = nI i) (hixb : (nI n - 1) &&& spT bs = nI i) : Con G kJ27_putTreeVal [.ref root, .ref m, .ref t, .int (spT bs), .ref k, .ref v] h ((13, 376, 1, 11), (fun z h1 => z = some .null ∧ ∃ (root1 : Nat) (nx1 pa1 lf1 rt1 pv1 : oF) (rd1 : Nat → Bool) (lo1 hi1 : oF) (ht1 : Nat → Nat) (B1 : Nat), TPic G h1 (fun q => N q ∨ q = h.1) (fun q => if q = h.1 then (spT bs, k, v) else κ q) nx1 pa1 lf1 rt1 pv1 rd1 ∧ BT (ltM (fun q => if q = h.1 then bs else tx q)) (fun q => N q ∨ q = h.1) pa1 lf1 rt1 root1 lo1 hi1 ht1 B1 ∧ LW (fun q => N q ∨ q = h.1) nx1 pv1 ∧ nx1 root1 ≠ none ∧ (∃ f1 : Nat → Value, h1.2 t = some (har 5 n f1) ∧ f1 i = .ref root1 ∧ ∀ j, j ≠ i → f1 j = f j) ∧ Fr (fun q => N q ∨ q = t) h h1 ∧ h1.1 = h.1 + 1), nX) := by
  have hS1 := hS
  obtain ⟨f0, hS0, _⟩ := hS1
  have hn9 : n ≤ 64 := by rcases hn with e | e | e <;> omega
  refine Con.of (plainFor_of_name rfl) rfl (Nat.le_of_ble_eq_true rfl) ?_
  refine AW.eq (lv2 := [(0, .ref root), (1, .ref m), (2, .ref t), (3, .int (spT bs)), (4, .ref k), (5, .ref v)]) (s2 := []) rfl rfl rfl rfl rfl ?_
  refine aw_know (fun gd hi => ?_)
  have lt_k : k < h.1 := hi.2.1 _ _ hS0
  have lt_m : m < h.1 := hi.2.1 _ _ hM
  have lt_t : t < h.1 := hi.2.1 _ _ hA
  refine aw_null (n := 1) dJ27_putTreeVal_0 rfl ?_
  refine aw_astoreN (n := 3) (lv' := [(6, .null), (0, .ref root), (1, .ref m), (2, .ref t), (3, .int (spT bs)), (4, .ref k), (5, .ref v)]) dJ27_putTreeVal_1 (by decide) rfl rfl ?_
  refine aw_iconst (n := 4) (v := 0) dJ27_putTreeVal_3 (by decide) rfl ?_
  refine aw_istore (n := 6) (lv' := [(7, .int 0), (6, .null), (0, .ref root), (1, .ref m), (2, .ref t), (3, .int (spT bs)), (4, .ref k), (5, .ref v)]) dJ27_putTreeVal_4 (by decide) rfl rfl ?_
  refine aw_aload_n (n := 7) dJ27_putTreeVal_6 rfl 2 rfl rfl ?_
  refine aw_getf (n := 10) (v := .null) (C0 := RJ27) (T := TJ27) dJ27_putTreeVal_7 rfl 6 q1609 (Or.inl rfl) (hTP root hB.1).1 (congrArg (fun z9 => some (va_rf z9)) (show pa root = none from by exact hB.2.1)) rfl ?_
  refine aw_ifnullN (tgt := 20) dJ27_putTreeVal_10 (by decide) ?_
  refine aw_aload_n (n := 21) dJ27_putTreeVal_20 rfl 2 rfl rfl ?_
  refine aw_astore (n := 23) (lv' := [(8, .ref root), (7, .int 0), (6, .null), (0, .ref root), (1, .ref m), (2, .ref t), (3, .int (spT bs)), (4, .ref k), (5, .ref v)]) dJ27_putTreeVal_21 (by decide) rfl rfl ?_
  refine aw_aload (n := 25) dJ27_putTreeVal_23 0 rfl rfl ?_
  refine aw_astore (n := 27) (lv' := [(9, .ref root), (8, .ref root), (7, .int 0), (6, .null), (0, .ref root), (1, .ref m), (2, .ref t), (3, .int (spT bs)), (4, .ref k), (5, .ref v)]) dJ27_putTreeVal_25 (by decide) rfl rfl ?_
  suffices L_27 : ∀ (m_ : Nat) (p : Nat)  (hp : N p) (g1 : kL tx bs bl p) (g2 : kH tx bs bh p) (kc : Option Nat) (hkc : kc = none ∨ kc = some (gM G 0)), ht p < m_ → AW G kJ27_putTreeVal ((13, 376, 1, 11), (fun z h1 => z = some .null ∧ ∃ (root1 : Nat) (nx1 pa1 lf1 rt1 pv1 : oF) (rd1 : Nat → Bool) (lo1 hi1 : oF) (ht1 : Nat → Nat) (B1 : Nat), TPic G h1 (fun q => N q ∨ q = h.1) (fun q => if q = h.1 then (spT bs, k, v) else κ q) nx1 pa1 lf1 rt1 pv1 rd1 ∧ BT (ltM (fun q => if q = h.1 then bs else tx q)) (fun q => N q ∨ q = h.1) pa1 lf1 rt1 root1 lo1 hi1 ht1 B1 ∧ LW (fun q => N q ∨ q = h.1) nx1 pv1 ∧ nx1 root1 ≠ none ∧ (∃ f1 : Nat → Value, h1.2 t = some (har 5 n f1) ∧ f1 i = .ref root1 ∧ ∀ j, j ≠ i → f1 j = f j) ∧ Fr (fun q => N q ∨ q = t) h h1 ∧ h1.1 = h.1 + 1), nX) 27 [(9, .ref p), (8, .ref root), (7, .int 0), (6, va_rf kc), (0, .ref root), (1, .ref m), (2, .ref t), (3, .int (spT bs)), (4, .ref k), (5, .ref v)] [] h 0 0 from
    AW.lvs (lv' := [(9, .ref root), (8, .ref root), (7, .int 0), (6, .null), (0, .ref root), (1, .ref m), (2, .ref t), (3, .int (spT bs)), (4, .ref k), (5, .ref v)]) (AW.eq (lv2 := _) (rfl) rfl rfl rfl rfl (L_27 _ root hB.1 (fun y e => by rw [hB.2.2.1] at e; cases e) (fun y e => by rw [hB.2.2.2.1] at e; cases e) none (Or.inl rfl) (Nat.lt_succ_self _))) (by simp)
  intro m_
  induction m_ with
  | zero => intro p hp g1 g2 kc hkc h_m; exact absurd h_m (Nat.not_lt_zero _)
  | succ m_ ih_27 =>
    intro p hp g1 g2 kc hkc h_m
    obtain ⟨⟨up9, hKp⟩, hKh, hK8⟩ := hK p hp
    have okb := hS.ok; have okp := hKp.ok
    have T9 : ∀ (d9 : Int32), ((d9 ≤ 0 ∧ ltK (spT bs, bs) (spT (tx p), tx p) ∧ lf p = none) ∨ (0 < d9 ∧ ltK (spT (tx p), tx p) (spT bs, bs) ∧ rt p = none)) → AW G kJ27_putTreeVal ((13, 376, 1, 11), (fun z h1 => z = some .null ∧ ∃ (root1 : Nat) (nx1 pa1 lf1 rt1 pv1 : oF) (rd1 : Nat → Bool) (lo1 hi1 : oF) (ht1 : Nat → Nat) (B1 : Nat), TPic G h1 (fun q => N q ∨ q = h.1) (fun q => if q = h.1 then (spT bs, k, v) else κ q) nx1 pa1 lf1 rt1 pv1 rd1 ∧ BT (ltM (fun q => if q = h.1 then bs else tx q)) (fun q => N q ∨ q = h.1) pa1 lf1 rt1 root1 lo1 hi1 ht1 B1 ∧ LW (fun q => N q ∨ q = h.1) nx1 pv1 ∧ nx1 root1 ≠ none ∧ (∃ f1 : Nat → Value, h1.2 t = some (har 5 n f1) ∧ f1 i = .ref root1 ∧ ∀ j, j ≠ i → f1 j = f j) ∧ Fr (fun q => N q ∨ q = t) h h1 ∧ h1.1 = h.1 + 1), nX) 221 [(13, .ref p), (10, .int d9), (8, .ref root), (0, .ref root), (1, .ref m), (2, .ref t), (3, .int (spT bs)), (4, .ref k), (5, .ref v)] [] h 0 0 := by
      intro d9 hd9
      have n_p := ne_kind (hTP p hp).1 hA ob_ar
      rcases hd9 with ⟨hd1, hd2, hd3⟩ | ⟨hd1, hd2, hd3⟩
      · skip
        refine aw_aload (n := 223) dJ27_putTreeVal_221 0 rfl rfl ?_
        rcases optc (nx p) with hq_1 | ⟨n223_1, hq_1⟩
        · skip
          refine aw_getf (n := 226) (v := .null) (C0 := RJ27) (T := TJ27) dJ27_putTreeVal_223 rfl 5 q1557 (Or.inr q1558) (hTP p hp).1 (congrArg (fun z9 => some (va_rf z9)) (show nx p = none from by exact hq_1)) rfl ?_
          refine aw_astoreN (n := 228) (lv' := [(14, .null), (13, .ref p), (10, .int d9), (8, .ref root), (0, .ref root), (1, .ref m), (2, .ref t), (3, .int (spT bs)), (4, .ref k), (5, .ref v)]) dJ27_putTreeVal_226 (by decide) rfl rfl ?_
          refine aw_aload_n (n := 229) dJ27_putTreeVal_228 rfl 5 rfl rfl ?_
          refine aw_iload_n (n := 230) dJ27_putTreeVal_229 rfl 7 rfl rfl ?_
          refine aw_aload (n := 232) dJ27_putTreeVal_230 8 rfl rfl ?_
          refine aw_aload (n := 234) dJ27_putTreeVal_232 9 rfl rfl ?_
          refine aw_aloadN (n := 236) dJ27_putTreeVal_234 0 rfl rfl ?_
          refine AW.sts (st' := [va_rf none, .ref v, .ref k, .int (spT bs), .ref m]) rfl ?_
          refine aw_callV (n := 239) (C0 := RJ4) (As := [.int (spT bs), .ref k, .ref v, va_rf none]) (rest := []) (K2 := kJ4_newTreeNode) dJ27_putTreeVal_236 q1597 q1598 q1599 q112 q1600 ⟨rfl, hcJ4_newTreeNode⟩ rfl hM (hm_newTN G h m k v (spT bs) none) rfl (Nat.le_of_ble_eq_true rfl) ⟨Nat.le_of_ble_eq_true rfl, Nat.le_of_ble_eq_true rfl⟩ ⟨by first | omega | (dsimp only; omega) | decide, by first | omega | (dsimp only; omega) | decide⟩ (fun _ _ _ z => z.elim) rfl (fun r_236 h_236 q_236 => ?_)
          obtain ⟨x, rfl, ex, hbx, hX, hFx, hzx⟩ := q_236
          have zc_236 : h.1 ≤ h_236.1 := hFx.1
          have nNx : ¬ N x := fun e9 => absurd (hi.2.1 _ _ (hTP x e9).1) (by omega)
          have hTx := TPic.add (TPic.fr hi hTP hFx (fun _ _ z9 => z9)) nNx hX hbx
          obtain ⟨κ1, eκ⟩ : ∃ κ1, κ1 = (fun q => if q = x then (spT bs, k, v) else κ q) := ⟨_, rfl⟩
          rw [← eκ] at hTx
          refine AW.sts (st' := [.ref x]) rfl ?_
          refine aw_astore (n := 241) (lv' := [(15, .ref x), (14, .null), (13, .ref p), (10, .int d9), (8, .ref root), (0, .ref root), (1, .ref m), (2, .ref t), (3, .int (spT bs)), (4, .ref k), (5, .ref v)]) dJ27_putTreeVal_239 (by decide) rfl rfl ?_
          refine aw_iload (n := 243) dJ27_putTreeVal_241 3 rfl rfl ?_
          refine aw_if_gt (n := 246) (tgt := 256) dJ27_putTreeVal_243 (by decide) rfl (fun c_243 => ?_) (fun c_243 => ?_)
          · skip
            exact absurd c_243 (Int32.not_lt.mpr hd1)
          · skip
            refine aw_aload (n := 248) dJ27_putTreeVal_246 2 rfl rfl ?_
            refine aw_aload (n := 250) dJ27_putTreeVal_248 0 rfl rfl ?_
            refine aw_putK (n := 253) (fs' := [.null, .null, .int (κ1 p).1, .ref (κ1 p).2.1, .ref (κ1 p).2.2, va_rf ((up nx x none) p), va_rf ((up pa x none) p), va_rf (some x), va_rf ((up rt x none) p), va_rf ((up pv x none) p), .int (bI ((ub rd x false) p))]) (C0 := RJ27) (T := TJ27) (N := 11) (ci := 27) dJ27_putTreeVal_250 rfl in_J27 tyJ27 tyJ27_ok nmJ27 q1601 7 (by decide) q1610 (Or.inl rfl) (Or.inl rfl) rfl (hTx p (Or.inl hp)).1 (hTx p (Or.inl hp)).2 rfl rfl (Nat.le_of_ble_eq_true rfl) rfl rfl (fun y_2 w_2 => ?_)
            have zy_2 : y_2.1 = h_236.1 := w_2.2.2
            have hT_2 := TPic.plf (v := some x) hTx w_2
            refine aw_goto (tgt := 263) dJ27_putTreeVal_253 (by decide) ?_
            refine aw_aload (n := 265) dJ27_putTreeVal_263 2 rfl rfl ?_
            refine aw_aload (n := 267) dJ27_putTreeVal_265 0 rfl rfl ?_
            refine aw_putK (n := 270) (fs' := [.null, .null, .int (κ1 p).1, .ref (κ1 p).2.1, .ref (κ1 p).2.2, va_rf (some x), va_rf ((up pa x none) p), va_rf ((up (up lf x none) p (some x)) p), va_rf ((up rt x none) p), va_rf ((up pv x none) p), .int (bI ((ub rd x false) p))]) (C0 := RJ27) (T := TJ27) (N := 11) (ci := 27) dJ27_putTreeVal_267 rfl in_J27 tyJ27 tyJ27_ok nmJ27 q1601 5 (by decide) q1557 (Or.inr q1558) (Or.inl rfl) rfl (hT_2 p (Or.inl hp)).1 (hT_2 p (Or.inl hp)).2 rfl rfl (Nat.le_of_ble_eq_true rfl) rfl rfl (fun y_3 w_3 => ?_)
            have zy_3 : y_3.1 = y_2.1 := w_3.2.2
            have hT_3 := TPic.pnx (v := some x) hT_2 w_3
            refine aw_aload (n := 272) dJ27_putTreeVal_270 0 rfl rfl ?_
            refine aw_aload (n := 274) dJ27_putTreeVal_272 0 rfl rfl ?_
            refine aw_aload (n := 276) dJ27_putTreeVal_274 2 rfl rfl ?_
            refine aw_dup_x1 (n := 277) dJ27_putTreeVal_276 rfl rfl rfl ?_
            refine aw_putK (n := 280) (fs' := [.null, .null, .int (κ1 x).1, .ref (κ1 x).2.1, .ref (κ1 x).2.2, va_rf ((up (up nx x none) p (some x)) x), va_rf ((up pa x none) x), va_rf ((up (up lf x none) p (some x)) x), va_rf ((up rt x none) x), va_rf (some p), .int (bI ((ub rd x false) x))]) (C0 := RJ27) (T := TJ27) (N := 11) (ci := 27) dJ27_putTreeVal_277 rfl in_J27 tyJ27 tyJ27_ok nmJ27 q1601 9 (by decide) q1612 (Or.inl rfl) (Or.inl rfl) rfl (hT_3 x (Or.inr rfl)).1 (hT_3 x (Or.inr rfl)).2 rfl rfl (Nat.le_of_ble_eq_true rfl) rfl rfl (fun y_4 w_4 => ?_)
            have zy_4 : y_4.1 = y_3.1 := w_4.2.2
            have hT_4 := TPic.ppv (v := some p) hT_3 w_4
            refine aw_putK (n := 283) (fs' := [.null, .null, .int (κ1 x).1, .ref (κ1 x).2.1, .ref (κ1 x).2.2, va_rf ((up (up nx x none) p (some x)) x), va_rf (some p), va_rf ((up (up lf x none) p (some x)) x), va_rf ((up rt x none) x), va_rf ((up (up pv x none) x (some p)) x), .int (bI ((ub rd x false) x))]) (C0 := RJ27) (T := TJ27) (N := 11) (ci := 27) dJ27_putTreeVal_280 rfl in_J27 tyJ27 tyJ27_ok nmJ27 q1601 6 (by decide) q1609 (Or.inl rfl) (Or.inl rfl) rfl (hT_4 x (Or.inr rfl)).1 (hT_4 x (Or.inr rfl)).2 rfl rfl (Nat.le_of_ble_eq_true rfl) rfl rfl (fun y_5 w_5 => ?_)
            have zy_5 : y_5.1 = y_4.1 := w_5.2.2
            have hT_5 := TPic.ppa (v := some p) hT_4 w_5
            refine aw_aloadN (n := 285) dJ27_putTreeVal_283 1 rfl rfl ?_
            refine aw_ifnullN (tgt := 298) dJ27_putTreeVal_285 (by decide) ?_
            refine aw_aload_n (n := 299) dJ27_putTreeVal_298 rfl 7 rfl rfl ?_
            refine aw_aload (n := 301) dJ27_putTreeVal_299 4 rfl rfl ?_
            refine aw_aload (n := 303) dJ27_putTreeVal_301 0 rfl rfl ?_
            obtain ⟨lo0, hi0_, ht0, hB0⟩ := leafL hB htr (fun y hy => (hK y hy).1.choose_spec.ok) nNx hp g1 hd2 hd3
            refine aw_callS (n := 306) (As := [.ref root, .ref x]) (rest := [.ref t]) (K2 := kJ27_balanceInsertion) dJ27_putTreeVal_303 q1575 q1576 q145 q1577 hcJ27_balanceInsertion (hm_bal G y_5 (fun q => N q ∨ q = x) κ1 (up (up nx x none) p (some x)) (up (up pa x none) x (some p)) (up (up lf x none) p (some x)) (up rt x none) (up (up pv x none) x (some p)) (ub rd x false) hT_5 (ltM (fun q => if q = x then bs else tx q)) root lo0 hi0_ ht0 (B + 1) hB0 (ltN3 _) x (Or.inr rfl)) rfl (Nat.le_of_ble_eq_true rfl) ⟨Nat.le_of_ble_eq_true rfl, Nat.le_of_ble_eq_true rfl⟩ ⟨by first | omega | (dsimp only; omega) | decide, by first | omega | (dsimp only; omega) | decide⟩ (fun _ _ _ z => z.elim) rfl (fun r_303 h_303 q_303 => ?_)
            obtain ⟨root1, pa1, lf1, rt1, rd1, lo1, hi1, ht1, B1, rfl, hT1, hB1, hFb, hzb⟩ := q_303
            have zc_303 : y_5.1 ≤ h_303.1 := hFb.1
            refine AW.sts (st' := [.ref root1, .ref t]) rfl ?_
            have f_6 : h_303.2 t = some (har 5 n f) := (hFb.k (by omega) (fun z9 => z9.elim (fun k9 => ne_kind hA (hTP t k9).1 ar_ob rfl) (fun e9 => by omega)) (w_5.k (by omega) (w_4.k (by omega) (w_3.k (fun e9 => n_p e9.symm) (w_2.k (fun e9 => n_p e9.symm) (hFx.k (by omega) (fun z => z) hA))))))
            have nrx : root ≠ x := fun e9 => nNx (e9 ▸ hB.1)
            have hn1 : (up (up nx x none) p (some x)) root ≠ none := by unfold up; by_cases e9 : root = p; (rw [if_pos e9]; simp); (rw [if_neg e9, if_neg nrx]; exact hn0)
            have hix1 : (nI n - 1) &&& (κ1 root1).1 = nI i := by rw [eκ]; show (nI n - 1) &&& (if root1 = x then (spT bs, k, v) else κ root1).1 = nI i; rcases hB1.1 with e9 | e9; (have nz9 : root1 ≠ x := (fun z9 => nNx (z9 ▸ e9)); rw [if_neg nz9]; exact hIx _ e9); (rw [if_pos e9]; exact hixb)
            have hLW1 : LW (fun q => N q ∨ q = x) (up (up nx x none) p (some x)) (up (up pv x none) x (some p)) := (LW.uq (LW.un (LW.add hW nn_in) p (sm_in (Or.inr rfl))) x (sm_in (Or.inl hp)))
            refine aw_callS (n := 309) (As := [.ref t, .ref root1]) (rest := []) (K2 := kJ27_moveRootToFront) dJ27_putTreeVal_306 q1584 q1585 q145 q1586 hcJ27_moveRootToFront (hm_mrf G h_303 (fun q => N q ∨ q = x) κ1 (up (up nx x none) p (some x)) pa1 lf1 rt1 (up (up pv x none) x (some p)) rd1 hT1 t n i root root1 f f_6 hbt hn hi0 hix1 hf (Or.inl hB.1) hB1.1 hLW1 hn1) rfl (Nat.le_of_ble_eq_true rfl) ⟨Nat.le_of_ble_eq_true rfl, Nat.le_of_ble_eq_true rfl⟩ ⟨by first | omega | (dsimp only; omega) | decide, by first | omega | (dsimp only; omega) | decide⟩ (fun _ _ _ z => z.elim) rfl (fun r_306 h_306 q_306 => ?_)
            obtain ⟨rfl, nx2, pv2, hT2, hW2, hn2, ⟨f2, hA2, hf2, hfj2⟩, hFm, hzm⟩ := q_306
            have zc_306 : h_303.1 ≤ h_306.1 := hFm.1
            refine AW.sts (st' := []) rfl ?_
            refine aw_null (n := 310) dJ27_putTreeVal_309 rfl ?_
            exact aw_aret dJ27_putTreeVal_310 rfl (Or.inl ⟨_, rfl⟩) (Or.inl rfl) ⟨rfl, root1, nx2, pa1, lf1, rt1, pv2, rd1, lo1, hi1, ht1, B1, by rw [← ex, ← eκ]; exact hT2, by rw [← ex]; exact hB1, by rw [← ex]; exact hW2, hn2, ⟨f2, hA2, hf2, hfj2⟩, (Fr.c (Fr.c (Fr.w (Fr.w (Fr.w (Fr.w (Fr.c Fr.rf hFx (fun _ z => z.elim)) w_2 (Or.inl (Or.inl hp))) w_3 (Or.inl (Or.inl hp))) w_4 (Or.inr (by omega))) w_5 (Or.inr (by omega))) hFb (fun a9 z9 => z9.elim (fun k9 => Or.inl (Or.inl k9)) (fun e9 => Or.inr (by omega)))) hFm (fun a9 z9 => z9.elim (fun z8 => z8.elim (fun k9 => Or.inl (Or.inl k9)) (fun e9 => Or.inr (by omega))) (fun e9 => Or.inl (Or.inr e9)))), by omega⟩ ⟨(by first | exact Nat.le_refl _ | omega | (dsimp only; omega)), (by first | exact Nat.le_refl _ | omega | (dsimp only; omega))⟩
        · skip
          have k_n223_1 : N n223_1 := (hW p hp).1 n223_1 hq_1
          have n_n223_1 := ne_kind (hTP n223_1 k_n223_1).1 hA ob_ar
          refine aw_getf (n := 226) (v := .ref n223_1) (C0 := RJ27) (T := TJ27) dJ27_putTreeVal_223 rfl 5 q1557 (Or.inr q1558) (hTP p hp).1 (congrArg (fun z9 => some (va_rf z9)) (show nx p = some n223_1 from by exact hq_1)) rfl ?_
          refine aw_astore (n := 228) (lv' := [(14, .ref n223_1), (13, .ref p), (10, .int d9), (8, .ref root), (0, .ref root), (1, .ref m), (2, .ref t), (3, .int (spT bs)), (4, .ref k), (5, .ref v)]) dJ27_putTreeVal_226 (by decide) rfl rfl ?_
          refine aw_aload_n (n := 229) dJ27_putTreeVal_228 rfl 5 rfl rfl ?_
          refine aw_iload_n (n := 230) dJ27_putTreeVal_229 rfl 7 rfl rfl ?_
          refine aw_aload (n := 232) dJ27_putTreeVal_230 8 rfl rfl ?_
          refine aw_aload (n := 234) dJ27_putTreeVal_232 9 rfl rfl ?_
          refine aw_aload (n := 236) dJ27_putTreeVal_234 0 rfl rfl ?_
          refine AW.sts (st' := [va_rf (some n223_1), .ref v, .ref k, .int (spT bs), .ref m]) rfl ?_
          refine aw_callV (n := 239) (C0 := RJ4) (As := [.int (spT bs), .ref k, .ref v, va_rf (some n223_1)]) (rest := []) (K2 := kJ4_newTreeNode) dJ27_putTreeVal_236 q1597 q1598 q1599 q112 q1600 ⟨rfl, hcJ4_newTreeNode⟩ rfl hM (hm_newTN G h m k v (spT bs) (some n223_1)) rfl (Nat.le_of_ble_eq_true rfl) ⟨Nat.le_of_ble_eq_true rfl, Nat.le_of_ble_eq_true rfl⟩ ⟨by first | omega | (dsimp only; omega) | decide, by first | omega | (dsimp only; omega) | decide⟩ (fun _ _ _ z => z.elim) rfl (fun r_236 h_236 q_236 => ?_)
          obtain ⟨x, rfl, ex, hbx, hX, hFx, hzx⟩ := q_236
          have zc_236 : h.1 ≤ h_236.1 := hFx.1
          have nNx : ¬ N x := fun e9 => absurd (hi.2.1 _ _ (hTP x e9).1) (by omega)
          have hTx := TPic.add (TPic.fr hi hTP hFx (fun _ _ z9 => z9)) nNx hX hbx
          obtain ⟨κ1, eκ⟩ : ∃ κ1, κ1 = (fun q => if q = x then (spT bs, k, v) else κ q) := ⟨_, rfl⟩
          rw [← eκ] at hTx
          refine AW.sts (st' := [.ref x]) rfl ?_
          refine aw_astore (n := 241) (lv' := [(15, .ref x), (14, .ref n223_1), (13, .ref p), (10, .int d9), (8, .ref root), (0, .ref root), (1, .ref m), (2, .ref t), (3, .int (spT bs)), (4, .ref k), (5, .ref v)]) dJ27_putTreeVal_239 (by decide) rfl rfl ?_
          refine aw_iload (n := 243) dJ27_putTreeVal_241 3 rfl rfl ?_
          refine aw_if_gt (n := 246) (tgt := 256) dJ27_putTreeVal_243 (by decide) rfl (fun c_243_2 => ?_) (fun c_243_2 => ?_)
          · skip
            exact absurd c_243_2 (Int32.not_lt.mpr hd1)
          · skip
            refine aw_aload (n := 248) dJ27_putTreeVal_246 2 rfl rfl ?_
            refine aw_aload (n := 250) dJ27_putTreeVal_248 0 rfl rfl ?_
            refine aw_putK (n := 253) (fs' := [.null, .null, .int (κ1 p).1, .ref (κ1 p).2.1, .ref (κ1 p).2.2, va_rf ((up nx x (some n223_1)) p), va_rf ((up pa x none) p), va_rf (some x), va_rf ((up rt x none) p), va_rf ((up pv x none) p), .int (bI ((ub rd x false) p))]) (C0 := RJ27) (T := TJ27) (N := 11) (ci := 27) dJ27_putTreeVal_250 rfl in_J27 tyJ27 tyJ27_ok nmJ27 q1601 7 (by decide) q1610 (Or.inl rfl) (Or.inl rfl) rfl (hTx p (Or.inl hp)).1 (hTx p (Or.inl hp)).2 rfl rfl (Nat.le_of_ble_eq_true rfl) rfl rfl (fun y_7 w_7 => ?_)
            have zy_7 : y_7.1 = h_236.1 := w_7.2.2
            have hT_7 := TPic.plf (v := some x) hTx w_7
            refine aw_goto (tgt := 263) dJ27_putTreeVal_253 (by decide) ?_
            refine aw_aload (n := 265) dJ27_putTreeVal_263 2 rfl rfl ?_
            refine aw_aload (n := 267) dJ27_putTreeVal_265 0 rfl rfl ?_
            refine aw_putK (n := 270) (fs' := [.null, .null, .int (κ1 p).1, .ref (κ1 p).2.1, .ref (κ1 p).2.2, va_rf (some x), va_rf ((up pa x none) p), va_rf ((up (up lf x none) p (some x)) p), va_rf ((up rt x none) p), va_rf ((up pv x none) p), .int (bI ((ub rd x false) p))]) (C0 := RJ27) (T := TJ27) (N := 11) (ci := 27) dJ27_putTreeVal_267 rfl in_J27 tyJ27 tyJ27_ok nmJ27 q1601 5 (by decide) q1557 (Or.inr q1558) (Or.inl rfl) rfl (hT_7 p (Or.inl hp)).1 (hT_7 p (Or.inl hp)).2 rfl rfl (Nat.le_of_ble_eq_true rfl) rfl rfl (fun y_8 w_8 => ?_)
            have zy_8 : y_8.1 = y_7.1 := w_8.2.2
            have hT_8 := TPic.pnx (v := some x) hT_7 w_8
            refine aw_aload (n := 272) dJ27_putTreeVal_270 0 rfl rfl ?_
            refine aw_aload (n := 274) dJ27_putTreeVal_272 0 rfl rfl ?_
            refine aw_aload (n := 276) dJ27_putTreeVal_274 2 rfl rfl ?_
            refine aw_dup_x1 (n := 277) dJ27_putTreeVal_276 rfl rfl rfl ?_
            refine aw_putK (n := 280) (fs' := [.null, .null, .int (κ1 x).1, .ref (κ1 x).2.1, .ref (κ1 x).2.2, va_rf ((up (up nx x (some n223_1)) p (some x)) x), va_rf ((up pa x none) x), va_rf ((up (up lf x none) p (some x)) x), va_rf ((up rt x none) x), va_rf (some p), .int (bI ((ub rd x false) x))]) (C0 := RJ27) (T := TJ27) (N := 11) (ci := 27) dJ27_putTreeVal_277 rfl in_J27 tyJ27 tyJ27_ok nmJ27 q1601 9 (by decide) q1612 (Or.inl rfl) (Or.inl rfl) rfl (hT_8 x (Or.inr rfl)).1 (hT_8 x (Or.inr rfl)).2 rfl rfl (Nat.le_of_ble_eq_true rfl) rfl rfl (fun y_9 w_9 => ?_)
            have zy_9 : y_9.1 = y_8.1 := w_9.2.2
            have hT_9 := TPic.ppv (v := some p) hT_8 w_9
            refine aw_putK (n := 283) (fs' := [.null, .null, .int (κ1 x).1, .ref (κ1 x).2.1, .ref (κ1 x).2.2, va_rf ((up (up nx x (some n223_1)) p (some x)) x), va_rf (some p), va_rf ((up (up lf x none) p (some x)) x), va_rf ((up rt x none) x), va_rf ((up (up pv x none) x (some p)) x), .int (bI ((ub rd x false) x))]) (C0 := RJ27) (T := TJ27) (N := 11) (ci := 27) dJ27_putTreeVal_280 rfl in_J27 tyJ27 tyJ27_ok nmJ27 q1601 6 (by decide) q1609 (Or.inl rfl) (Or.inl rfl) rfl (hT_9 x (Or.inr rfl)).1 (hT_9 x (Or.inr rfl)).2 rfl rfl (Nat.le_of_ble_eq_true rfl) rfl rfl (fun y_10 w_10 => ?_)
            have zy_10 : y_10.1 = y_9.1 := w_10.2.2
            have hT_10 := TPic.ppa (v := some p) hT_9 w_10
            refine aw_aload (n := 285) dJ27_putTreeVal_283 1 rfl rfl ?_
            refine aw_ifnull (n := 288) dJ27_putTreeVal_285 rfl ?_
            refine aw_aload (n := 290) dJ27_putTreeVal_288 1 rfl rfl ?_
            refine aw_cast (n := 293) dJ27_putTreeVal_290 q1532 rfl (hT_10 n223_1 (Or.inl k_n223_1)).1 (Or.inl rfl) rfl ?_
            refine aw_aload (n := 295) dJ27_putTreeVal_293 0 rfl rfl ?_
            refine aw_putK (n := 298) (fs' := [.null, .null, .int (κ1 n223_1).1, .ref (κ1 n223_1).2.1, .ref (κ1 n223_1).2.2, va_rf ((up (up nx x (some n223_1)) p (some x)) n223_1), va_rf ((up (up pa x none) x (some p)) n223_1), va_rf ((up (up lf x none) p (some x)) n223_1), va_rf ((up rt x none) n223_1), va_rf (some x), .int (bI ((ub rd x false) n223_1))]) (C0 := RJ27) (T := TJ27) (N := 11) (ci := 27) dJ27_putTreeVal_295 rfl in_J27 tyJ27 tyJ27_ok nmJ27 q1601 9 (by decide) q1612 (Or.inl rfl) (Or.inl rfl) rfl (hT_10 n223_1 (Or.inl k_n223_1)).1 (hT_10 n223_1 (Or.inl k_n223_1)).2 rfl rfl (Nat.le_of_ble_eq_true rfl) rfl rfl (fun y_11 w_11 => ?_)
            have zy_11 : y_11.1 = y_10.1 := w_11.2.2
            have hT_11 := TPic.ppv (v := some x) hT_10 w_11
            refine aw_aload_n (n := 299) dJ27_putTreeVal_298 rfl 7 rfl rfl ?_
            refine aw_aload (n := 301) dJ27_putTreeVal_299 4 rfl rfl ?_
            refine aw_aload (n := 303) dJ27_putTreeVal_301 0 rfl rfl ?_
            obtain ⟨lo0, hi0_, ht0, hB0⟩ := leafL hB htr (fun y hy => (hK y hy).1.choose_spec.ok) nNx hp g1 hd2 hd3
            refine aw_callS (n := 306) (As := [.ref root, .ref x]) (rest := [.ref t]) (K2 := kJ27_balanceInsertion) dJ27_putTreeVal_303 q1575 q1576 q145 q1577 hcJ27_balanceInsertion (hm_bal G y_11 (fun q => N q ∨ q = x) κ1 (up (up nx x (some n223_1)) p (some x)) (up (up pa x none) x (some p)) (up (up lf x none) p (some x)) (up rt x none) (up (up (up pv x none) x (some p)) n223_1 (some x)) (ub rd x false) hT_11 (ltM (fun q => if q = x then bs else tx q)) root lo0 hi0_ ht0 (B + 1) hB0 (ltN3 _) x (Or.inr rfl)) rfl (Nat.le_of_ble_eq_true rfl) ⟨Nat.le_of_ble_eq_true rfl, Nat.le_of_ble_eq_true rfl⟩ ⟨by first | omega | (dsimp only; omega) | decide, by first | omega | (dsimp only; omega) | decide⟩ (fun _ _ _ z => z.elim) rfl (fun r_303 h_303 q_303 => ?_)
            obtain ⟨root1, pa1, lf1, rt1, rd1, lo1, hi1, ht1, B1, rfl, hT1, hB1, hFb, hzb⟩ := q_303
            have zc_303 : y_11.1 ≤ h_303.1 := hFb.1
            refine AW.sts (st' := [.ref root1, .ref t]) rfl ?_
            have f_12 : h_303.2 t = some (har 5 n f) := (hFb.k (by omega) (fun z9 => z9.elim (fun k9 => ne_kind hA (hTP t k9).1 ar_ob rfl) (fun e9 => by omega)) (w_11.k (fun e9 => n_n223_1 e9.symm) (w_10.k (by omega) (w_9.k (by omega) (w_8.k (fun e9 => n_p e9.symm) (w_7.k (fun e9 => n_p e9.symm) (hFx.k (by omega) (fun z => z) hA)))))))
            have nrx : root ≠ x := fun e9 => nNx (e9 ▸ hB.1)
            have hn1 : (up (up nx x (some n223_1)) p (some x)) root ≠ none := by unfold up; by_cases e9 : root = p; (rw [if_pos e9]; simp); (rw [if_neg e9, if_neg nrx]; exact hn0)
            have hix1 : (nI n - 1) &&& (κ1 root1).1 = nI i := by rw [eκ]; show (nI n - 1) &&& (if root1 = x then (spT bs, k, v) else κ root1).1 = nI i; rcases hB1.1 with e9 | e9; (have nz9 : root1 ≠ x := (fun z9 => nNx (z9 ▸ e9)); rw [if_neg nz9]; exact hIx _ e9); (rw [if_pos e9]; exact hixb)
            have hLW1 : LW (fun q => N q ∨ q = x) (up (up nx x (some n223_1)) p (some x)) (up (up (up pv x none) x (some p)) n223_1 (some x)) := (LW.uq (LW.uq (LW.un (LW.add hW (sm_in k_n223_1)) p (sm_in (Or.inr rfl))) x (sm_in (Or.inl hp))) n223_1 (sm_in (Or.inr rfl)))
            refine aw_callS (n := 309) (As := [.ref t, .ref root1]) (rest := []) (K2 := kJ27_moveRootToFront) dJ27_putTreeVal_306 q1584 q1585 q145 q1586 hcJ27_moveRootToFront (hm_mrf G h_303 (fun q => N q ∨ q = x) κ1 (up (up nx x (some n223_1)) p (some x)) pa1 lf1 rt1 (up (up (up pv x none) x (some p)) n223_1 (some x)) rd1 hT1 t n i root root1 f f_12 hbt hn hi0 hix1 hf (Or.inl hB.1) hB1.1 hLW1 hn1) rfl (Nat.le_of_ble_eq_true rfl) ⟨Nat.le_of_ble_eq_true rfl, Nat.le_of_ble_eq_true rfl⟩ ⟨by first | omega | (dsimp only; omega) | decide, by first | omega | (dsimp only; omega) | decide⟩ (fun _ _ _ z => z.elim) rfl (fun r_306 h_306 q_306 => ?_)
            obtain ⟨rfl, nx2, pv2, hT2, hW2, hn2, ⟨f2, hA2, hf2, hfj2⟩, hFm, hzm⟩ := q_306
            have zc_306 : h_303.1 ≤ h_306.1 := hFm.1
            refine AW.sts (st' := []) rfl ?_
            refine aw_null (n := 310) dJ27_putTreeVal_309 rfl ?_
            exact aw_aret dJ27_putTreeVal_310 rfl (Or.inl ⟨_, rfl⟩) (Or.inl rfl) ⟨rfl, root1, nx2, pa1, lf1, rt1, pv2, rd1, lo1, hi1, ht1, B1, by rw [← ex, ← eκ]; exact hT2, by rw [← ex]; exact hB1, by rw [← ex]; exact hW2, hn2, ⟨f2, hA2, hf2, hfj2⟩, (Fr.c (Fr.c (Fr.w (Fr.w (Fr.w (Fr.w (Fr.w (Fr.c Fr.rf hFx (fun _ z => z.elim)) w_7 (Or.inl (Or.inl hp))) w_8 (Or.inl (Or.inl hp))) w_9 (Or.inr (by omega))) w_10 (Or.inr (by omega))) w_11 (Or.inl (Or.inl k_n223_1))) hFb (fun a9 z9 => z9.elim (fun k9 => Or.inl (Or.inl k9)) (fun e9 => Or.inr (by omega)))) hFm (fun a9 z9 => z9.elim (fun z8 => z8.elim (fun k9 => Or.inl (Or.inl k9)) (fun e9 => Or.inr (by omega))) (fun e9 => Or.inl (Or.inr e9)))), by omega⟩ ⟨(by first | exact Nat.le_refl _ | omega | (dsimp only; omega)), (by first | exact Nat.le_refl _ | omega | (dsimp only; omega))⟩
      · skip
        refine aw_aload (n := 223) dJ27_putTreeVal_221 0 rfl rfl ?_
        rcases optc (nx p) with hq_13 | ⟨n223_13, hq_13⟩
        · skip
          refine aw_getf (n := 226) (v := .null) (C0 := RJ27) (T := TJ27) dJ27_putTreeVal_223 rfl 5 q1557 (Or.inr q1558) (hTP p hp).1 (congrArg (fun z9 => some (va_rf z9)) (show nx p = none from by exact hq_13)) rfl ?_
          refine aw_astoreN (n := 228) (lv' := [(14, .null), (13, .ref p), (10, .int d9), (8, .ref root), (0, .ref root), (1, .ref m), (2, .ref t), (3, .int (spT bs)), (4, .ref k), (5, .ref v)]) dJ27_putTreeVal_226 (by decide) rfl rfl ?_
          refine aw_aload_n (n := 229) dJ27_putTreeVal_228 rfl 5 rfl rfl ?_
          refine aw_iload_n (n := 230) dJ27_putTreeVal_229 rfl 7 rfl rfl ?_
          refine aw_aload (n := 232) dJ27_putTreeVal_230 8 rfl rfl ?_
          refine aw_aload (n := 234) dJ27_putTreeVal_232 9 rfl rfl ?_
          refine aw_aloadN (n := 236) dJ27_putTreeVal_234 0 rfl rfl ?_
          refine AW.sts (st' := [va_rf none, .ref v, .ref k, .int (spT bs), .ref m]) rfl ?_
          refine aw_callV (n := 239) (C0 := RJ4) (As := [.int (spT bs), .ref k, .ref v, va_rf none]) (rest := []) (K2 := kJ4_newTreeNode) dJ27_putTreeVal_236 q1597 q1598 q1599 q112 q1600 ⟨rfl, hcJ4_newTreeNode⟩ rfl hM (hm_newTN G h m k v (spT bs) none) rfl (Nat.le_of_ble_eq_true rfl) ⟨Nat.le_of_ble_eq_true rfl, Nat.le_of_ble_eq_true rfl⟩ ⟨by first | omega | (dsimp only; omega) | decide, by first | omega | (dsimp only; omega) | decide⟩ (fun _ _ _ z => z.elim) rfl (fun r_236 h_236 q_236 => ?_)
          obtain ⟨x, rfl, ex, hbx, hX, hFx, hzx⟩ := q_236
          have zc_236 : h.1 ≤ h_236.1 := hFx.1
          have nNx : ¬ N x := fun e9 => absurd (hi.2.1 _ _ (hTP x e9).1) (by omega)
          have hTx := TPic.add (TPic.fr hi hTP hFx (fun _ _ z9 => z9)) nNx hX hbx
          obtain ⟨κ1, eκ⟩ : ∃ κ1, κ1 = (fun q => if q = x then (spT bs, k, v) else κ q) := ⟨_, rfl⟩
          rw [← eκ] at hTx
          refine AW.sts (st' := [.ref x]) rfl ?_
          refine aw_astore (n := 241) (lv' := [(15, .ref x), (14, .null), (13, .ref p), (10, .int d9), (8, .ref root), (0, .ref root), (1, .ref m), (2, .ref t), (3, .int (spT bs)), (4, .ref k), (5, .ref v)]) dJ27_putTreeVal_239 (by decide) rfl rfl ?_
          refine aw_iload (n := 243) dJ27_putTreeVal_241 3 rfl rfl ?_
          refine aw_if_gt (n := 246) (tgt := 256) dJ27_putTreeVal_243 (by decide) rfl (fun c_243 => ?_) (fun c_243 => ?_)
          · skip
            refine aw_aload (n := 258) dJ27_putTreeVal_256 2 rfl rfl ?_
            refine aw_aload (n := 260) dJ27_putTreeVal_258 0 rfl rfl ?_
            refine aw_putK (n := 263) (fs' := [.null, .null, .int (κ1 p).1, .ref (κ1 p).2.1, .ref (κ1 p).2.2, va_rf ((up nx x none) p), va_rf ((up pa x none) p), va_rf ((up lf x none) p), va_rf (some x), va_rf ((up pv x none) p), .int (bI ((ub rd x false) p))]) (C0 := RJ27) (T := TJ27) (N := 11) (ci := 27) dJ27_putTreeVal_260 rfl in_J27 tyJ27 tyJ27_ok nmJ27 q1601 8 (by decide) q1611 (Or.inl rfl) (Or.inl rfl) rfl (hTx p (Or.inl hp)).1 (hTx p (Or.inl hp)).2 rfl rfl (Nat.le_of_ble_eq_true rfl) rfl rfl (fun y_14 w_14 => ?_)
            have zy_14 : y_14.1 = h_236.1 := w_14.2.2
            have hT_14 := TPic.prt (v := some x) hTx w_14
            refine aw_aload (n := 265) dJ27_putTreeVal_263 2 rfl rfl ?_
            refine aw_aload (n := 267) dJ27_putTreeVal_265 0 rfl rfl ?_
            refine aw_putK (n := 270) (fs' := [.null, .null, .int (κ1 p).1, .ref (κ1 p).2.1, .ref (κ1 p).2.2, va_rf (some x), va_rf ((up pa x none) p), va_rf ((up lf x none) p), va_rf ((up (up rt x none) p (some x)) p), va_rf ((up pv x none) p), .int (bI ((ub rd x false) p))]) (C0 := RJ27) (T := TJ27) (N := 11) (ci := 27) dJ27_putTreeVal_267 rfl in_J27 tyJ27 tyJ27_ok nmJ27 q1601 5 (by decide) q1557 (Or.inr q1558) (Or.inl rfl) rfl (hT_14 p (Or.inl hp)).1 (hT_14 p (Or.inl hp)).2 rfl rfl (Nat.le_of_ble_eq_true rfl) rfl rfl (fun y_15 w_15 => ?_)
            have zy_15 : y_15.1 = y_14.1 := w_15.2.2
            have hT_15 := TPic.pnx (v := some x) hT_14 w_15
            refine aw_aload (n := 272) dJ27_putTreeVal_270 0 rfl rfl ?_
            refine aw_aload (n := 274) dJ27_putTreeVal_272 0 rfl rfl ?_
            refine aw_aload (n := 276) dJ27_putTreeVal_274 2 rfl rfl ?_
            refine aw_dup_x1 (n := 277) dJ27_putTreeVal_276 rfl rfl rfl ?_
            refine aw_putK (n := 280) (fs' := [.null, .null, .int (κ1 x).1, .ref (κ1 x).2.1, .ref (κ1 x).2.2, va_rf ((up (up nx x none) p (some x)) x), va_rf ((up pa x none) x), va_rf ((up lf x none) x), va_rf ((up (up rt x none) p (some x)) x), va_rf (some p), .int (bI ((ub rd x false) x))]) (C0 := RJ27) (T := TJ27) (N := 11) (ci := 27) dJ27_putTreeVal_277 rfl in_J27 tyJ27 tyJ27_ok nmJ27 q1601 9 (by decide) q1612 (Or.inl rfl) (Or.inl rfl) rfl (hT_15 x (Or.inr rfl)).1 (hT_15 x (Or.inr rfl)).2 rfl rfl (Nat.le_of_ble_eq_true rfl) rfl rfl (fun y_16 w_16 => ?_)
            have zy_16 : y_16.1 = y_15.1 := w_16.2.2
            have hT_16 := TPic.ppv (v := some p) hT_15 w_16
            refine aw_putK (n := 283) (fs' := [.null, .null, .int (κ1 x).1, .ref (κ1 x).2.1, .ref (κ1 x).2.2, va_rf ((up (up nx x none) p (some x)) x), va_rf (some p), va_rf ((up lf x none) x), va_rf ((up (up rt x none) p (some x)) x), va_rf ((up (up pv x none) x (some p)) x), .int (bI ((ub rd x false) x))]) (C0 := RJ27) (T := TJ27) (N := 11) (ci := 27) dJ27_putTreeVal_280 rfl in_J27 tyJ27 tyJ27_ok nmJ27 q1601 6 (by decide) q1609 (Or.inl rfl) (Or.inl rfl) rfl (hT_16 x (Or.inr rfl)).1 (hT_16 x (Or.inr rfl)).2 rfl rfl (Nat.le_of_ble_eq_true rfl) rfl rfl (fun y_17 w_17 => ?_)
            have zy_17 : y_17.1 = y_16.1 := w_17.2.2
            have hT_17 := TPic.ppa (v := some p) hT_16 w_17
            refine aw_aloadN (n := 285) dJ27_putTreeVal_283 1 rfl rfl ?_
            refine aw_ifnullN (tgt := 298) dJ27_putTreeVal_285 (by decide) ?_
            refine aw_aload_n (n := 299) dJ27_putTreeVal_298 rfl 7 rfl rfl ?_
            refine aw_aload (n := 301) dJ27_putTreeVal_299 4 rfl rfl ?_
            refine aw_aload (n := 303) dJ27_putTreeVal_301 0 rfl rfl ?_
            obtain ⟨lo0, hi0_, ht0, hB0⟩ := leafR hB htr (fun y hy => (hK y hy).1.choose_spec.ok) nNx hp g2 hd2 hd3
            refine aw_callS (n := 306) (As := [.ref root, .ref x]) (rest := [.ref t]) (K2 := kJ27_balanceInsertion) dJ27_putTreeVal_303 q1575 q1576 q145 q1577 hcJ27_balanceInsertion (hm_bal G y_17 (fun q => N q ∨ q = x) κ1 (up (up nx x none) p (some x)) (up (up pa x none) x (some p)) (up lf x none) (up (up rt x none) p (some x)) (up (up pv x none) x (some p)) (ub rd x false) hT_17 (ltM (fun q => if q = x then bs else tx q)) root lo0 hi0_ ht0 (B + 1) hB0 (ltN3 _) x (Or.inr rfl)) rfl (Nat.le_of_ble_eq_true rfl) ⟨Nat.le_of_ble_eq_true rfl, Nat.le_of_ble_eq_true rfl⟩ ⟨by first | omega | (dsimp only; omega) | decide, by first | omega | (dsimp only; omega) | decide⟩ (fun _ _ _ z => z.elim) rfl (fun r_303 h_303 q_303 => ?_)
            obtain ⟨root1, pa1, lf1, rt1, rd1, lo1, hi1, ht1, B1, rfl, hT1, hB1, hFb, hzb⟩ := q_303
            have zc_303 : y_17.1 ≤ h_303.1 := hFb.1
            refine AW.sts (st' := [.ref root1, .ref t]) rfl ?_
            have f_18 : h_303.2 t = some (har 5 n f) := (hFb.k (by omega) (fun z9 => z9.elim (fun k9 => ne_kind hA (hTP t k9).1 ar_ob rfl) (fun e9 => by omega)) (w_17.k (by omega) (w_16.k (by omega) (w_15.k (fun e9 => n_p e9.symm) (w_14.k (fun e9 => n_p e9.symm) (hFx.k (by omega) (fun z => z) hA))))))
            have nrx : root ≠ x := fun e9 => nNx (e9 ▸ hB.1)
            have hn1 : (up (up nx x none) p (some x)) root ≠ none := by unfold up; by_cases e9 : root = p; (rw [if_pos e9]; simp); (rw [if_neg e9, if_neg nrx]; exact hn0)
            have hix1 : (nI n - 1) &&& (κ1 root1).1 = nI i := by rw [eκ]; show (nI n - 1) &&& (if root1 = x then (spT bs, k, v) else κ root1).1 = nI i; rcases hB1.1 with e9 | e9; (have nz9 : root1 ≠ x := (fun z9 => nNx (z9 ▸ e9)); rw [if_neg nz9]; exact hIx _ e9); (rw [if_pos e9]; exact hixb)
            have hLW1 : LW (fun q => N q ∨ q = x) (up (up nx x none) p (some x)) (up (up pv x none) x (some p)) := (LW.uq (LW.un (LW.add hW nn_in) p (sm_in (Or.inr rfl))) x (sm_in (Or.inl hp)))
            refine aw_callS (n := 309) (As := [.ref t, .ref root1]) (rest := []) (K2 := kJ27_moveRootToFront) dJ27_putTreeVal_306 q1584 q1585 q145 q1586 hcJ27_moveRootToFront (hm_mrf G h_303 (fun q => N q ∨ q = x) κ1 (up (up nx x none) p (some x)) pa1 lf1 rt1 (up (up pv x none) x (some p)) rd1 hT1 t n i root root1 f f_18 hbt hn hi0 hix1 hf (Or.inl hB.1) hB1.1 hLW1 hn1) rfl (Nat.le_of_ble_eq_true rfl) ⟨Nat.le_of_ble_eq_true rfl, Nat.le_of_ble_eq_true rfl⟩ ⟨by first | omega | (dsimp only; omega) | decide, by first | omega | (dsimp only; omega) | decide⟩ (fun _ _ _ z => z.elim) rfl (fun r_306 h_306 q_306 => ?_)
            obtain ⟨rfl, nx2, pv2, hT2, hW2, hn2, ⟨f2, hA2, hf2, hfj2⟩, hFm, hzm⟩ := q_306
            have zc_306 : h_303.1 ≤ h_306.1 := hFm.1
            refine AW.sts (st' := []) rfl ?_
            refine aw_null (n := 310) dJ27_putTreeVal_309 rfl ?_
            exact aw_aret dJ27_putTreeVal_310 rfl (Or.inl ⟨_, rfl⟩) (Or.inl rfl) ⟨rfl, root1, nx2, pa1, lf1, rt1, pv2, rd1, lo1, hi1, ht1, B1, by rw [← ex, ← eκ]; exact hT2, by rw [← ex]; exact hB1, by rw [← ex]; exact hW2, hn2, ⟨f2, hA2, hf2, hfj2⟩, (Fr.c (Fr.c (Fr.w (Fr.w (Fr.w (Fr.w (Fr.c Fr.rf hFx (fun _ z => z.elim)) w_14 (Or.inl (Or.inl hp))) w_15 (Or.inl (Or.inl hp))) w_16 (Or.inr (by omega))) w_17 (Or.inr (by omega))) hFb (fun a9 z9 => z9.elim (fun k9 => Or.inl (Or.inl k9)) (fun e9 => Or.inr (by omega)))) hFm (fun a9 z9 => z9.elim (fun z8 => z8.elim (fun k9 => Or.inl (Or.inl k9)) (fun e9 => Or.inr (by omega))) (fun e9 => Or.inl (Or.inr e9)))), by omega⟩ ⟨(by first | exact Nat.le_refl _ | omega | (dsimp only; omega)), (by first | exact Nat.le_refl _ | omega | (dsimp only; omega))⟩
          · skip
            exact absurd hd1 c_243
        · skip
          have k_n223_13 : N n223_13 := (hW p hp).1 n223_13 hq_13
          have n_n223_13 := ne_kind (hTP n223_13 k_n223_13).1 hA ob_ar
          refine aw_getf (n := 226) (v := .ref n223_13) (C0 := RJ27) (T := TJ27) dJ27_putTreeVal_223 rfl 5 q1557 (Or.inr q1558) (hTP p hp).1 (congrArg (fun z9 => some (va_rf z9)) (show nx p = some n223_13 from by exact hq_13)) rfl ?_
          refine aw_astore (n := 228) (lv' := [(14, .ref n223_13), (13, .ref p), (10, .int d9), (8, .ref root), (0, .ref root), (1, .ref m), (2, .ref t), (3, .int (spT bs)), (4, .ref k), (5, .ref v)]) dJ27_putTreeVal_226 (by decide) rfl rfl ?_
          refine aw_aload_n (n := 229) dJ27_putTreeVal_228 rfl 5 rfl rfl ?_
          refine aw_iload_n (n := 230) dJ27_putTreeVal_229 rfl 7 rfl rfl ?_
          refine aw_aload (n := 232) dJ27_putTreeVal_230 8 rfl rfl ?_
          refine aw_aload (n := 234) dJ27_putTreeVal_232 9 rfl rfl ?_
          refine aw_aload (n := 236) dJ27_putTreeVal_234 0 rfl rfl ?_
          refine AW.sts (st' := [va_rf (some n223_13), .ref v, .ref k, .int (spT bs), .ref m]) rfl ?_
          refine aw_callV (n := 239) (C0 := RJ4) (As := [.int (spT bs), .ref k, .ref v, va_rf (some n223_13)]) (rest := []) (K2 := kJ4_newTreeNode) dJ27_putTreeVal_236 q1597 q1598 q1599 q112 q1600 ⟨rfl, hcJ4_newTreeNode⟩ rfl hM (hm_newTN G h m k v (spT bs) (some n223_13)) rfl (Nat.le_of_ble_eq_true rfl) ⟨Nat.le_of_ble_eq_true rfl, Nat.le_of_ble_eq_true rfl⟩ ⟨by first | omega | (dsimp only; omega) | decide, by first | omega | (dsimp only; omega) | decide⟩ (fun _ _ _ z => z.elim) rfl (fun r_236 h_236 q_236 => ?_)
          obtain ⟨x, rfl, ex, hbx, hX, hFx, hzx⟩ := q_236
          have zc_236 : h.1 ≤ h_236.1 := hFx.1
          have nNx : ¬ N x := fun e9 => absurd (hi.2.1 _ _ (hTP x e9).1) (by omega)
          have hTx := TPic.add (TPic.fr hi hTP hFx (fun _ _ z9 => z9)) nNx hX hbx
          obtain ⟨κ1, eκ⟩ : ∃ κ1, κ1 = (fun q => if q = x then (spT bs, k, v) else κ q) := ⟨_, rfl⟩
          rw [← eκ] at hTx
          refine AW.sts (st' := [.ref x]) rfl ?_
          refine aw_astore (n := 241) (lv' := [(15, .ref x), (14, .ref n223_13), (13, .ref p), (10, .int d9), (8, .ref root), (0, .ref root), (1, .ref m), (2, .ref t), (3, .int (spT bs)), (4, .ref k), (5, .ref v)]) dJ27_putTreeVal_239 (by decide) rfl rfl ?_
          refine aw_iload (n := 243) dJ27_putTreeVal_241 3 rfl rfl ?_
          refine aw_if_gt (n := 246) (tgt := 256) dJ27_putTreeVal_243 (by decide) rfl (fun c_243_2 => ?_) (fun c_243_2 => ?_)
          · skip
            refine aw_aload (n := 258) dJ27_putTreeVal_256 2 rfl rfl ?_
            refine aw_aload (n := 260) dJ27_putTreeVal_258 0 rfl rfl ?_
            refine aw_putK (n := 263) (fs' := [.null, .null, .int (κ1 p).1, .ref (κ1 p).2.1, .ref (κ1 p).2.2, va_rf ((up nx x (some n223_13)) p), va_rf ((up pa x none) p), va_rf ((up lf x none) p), va_rf (some x), va_rf ((up pv x none) p), .int (bI ((ub rd x false) p))]) (C0 := RJ27) (T := TJ27) (N := 11) (ci := 27) dJ27_putTreeVal_260 rfl in_J27 tyJ27 tyJ27_ok nmJ27 q1601 8 (by decide) q1611 (Or.inl rfl) (Or.inl rfl) rfl (hTx p (Or.inl hp)).1 (hTx p (Or.inl hp)).2 rfl rfl (Nat.le_of_ble_eq_true rfl) rfl rfl (fun y_19 w_19 => ?_)
            have zy_19 : y_19.1 = h_236.1 := w_19.2.2
            have hT_19 := TPic.prt (v := some x) hTx w_19
            refine aw_aload (n := 265) dJ27_putTreeVal_263 2 rfl rfl ?_
            refine aw_aload (n := 267) dJ27_putTreeVal_265 0 rfl rfl ?_
            refine aw_putK (n := 270) (fs' := [.null, .null, .int (κ1 p).1, .ref (κ1 p).2.1, .ref (κ1 p).2.2, va_rf (some x), va_rf ((up pa x none) p), va_rf ((up lf x none) p), va_rf ((up (up rt x none) p (some x)) p), va_rf ((up pv x none) p), .int (bI ((ub rd x false) p))]) (C0 := RJ27) (T := TJ27) (N := 11) (ci := 27) dJ27_putTreeVal_267 rfl in_J27 tyJ27 tyJ27_ok nmJ27 q1601 5 (by decide) q1557 (Or.inr q1558) (Or.inl rfl) rfl (hT_19 p (Or.inl hp)).1 (hT_19 p (Or.inl hp)).2 rfl rfl (Nat.le_of_ble_eq_true rfl) rfl rfl (fun y_20 w_20 => ?_)
            have zy_20 : y_20.1 = y_19.1 := w_20.2.2
            have hT_20 := TPic.pnx (v := some x) hT_19 w_20
            refine aw_aload (n := 272) dJ27_putTreeVal_270 0 rfl rfl ?_
            refine aw_aload (n := 274) dJ27_putTreeVal_272 0 rfl rfl ?_
            refine aw_aload (n := 276) dJ27_putTreeVal_274 2 rfl rfl ?_
            refine aw_dup_x1 (n := 277) dJ27_putTreeVal_276 rfl rfl rfl ?_
            refine aw_putK (n := 280) (fs' := [.null, .null, .int (κ1 x).1, .ref (κ1 x).2.1, .ref (κ1 x).2.2, va_rf ((up (up nx x (some n223_13)) p (some x)) x), va_rf ((up pa x none) x), va_rf ((up lf x none) x), va_rf ((up (up rt x none) p (some x)) x), va_rf (some p), .int (bI ((ub rd x false) x))]) (C0 := RJ27) (T := TJ27) (N := 11) (ci := 27) dJ27_putTreeVal_277 rfl in_J27 tyJ27 tyJ27_ok nmJ27 q1601 9 (by decide) q1612 (Or.inl rfl) (Or.inl rfl) rfl (hT_20 x (Or.inr rfl)).1 (hT_20 x (Or.inr rfl)).2 rfl rfl (Nat.le_of_ble_eq_true rfl) rfl rfl (fun y_21 w_21 => ?_)
            have zy_21 : y_21.1 = y_20.1 := w_21.2.2
            have hT_21 := TPic.ppv (v := some p) hT_20 w_21
            refine aw_putK (n := 283) (fs' := [.null, .null, .int (κ1 x).1, .ref (κ1 x).2.1, .ref (κ1 x).2.2, va_rf ((up (up nx x (some n223_13)) p (some x)) x), va_rf (some p), va_rf ((up lf x none) x), va_rf ((up (up rt x none) p (some x)) x), va_rf ((up (up pv x none) x (some p)) x), .int (bI ((ub rd x false) x))]) (C0 := RJ27) (T := TJ27) (N := 11) (ci := 27) dJ27_putTreeVal_280 rfl in_J27 tyJ27 tyJ27_ok nmJ27 q1601 6 (by decide) q1609 (Or.inl rfl) (Or.inl rfl) rfl (hT_21 x (Or.inr rfl)).1 (hT_21 x (Or.inr rfl)).2 rfl rfl (Nat.le_of_ble_eq_true rfl) rfl rfl (fun y_22 w_22 => ?_)
            have zy_22 : y_22.1 = y_21.1 := w_22.2.2
            have hT_22 := TPic.ppa (v := some p) hT_21 w_22
            refine aw_aload (n := 285) dJ27_putTreeVal_283 1 rfl rfl ?_
            refine aw_ifnull (n := 288) dJ27_putTreeVal_285 rfl ?_
            refine aw_aload (n := 290) dJ27_putTreeVal_288 1 rfl rfl ?_
            refine aw_cast (n := 293) dJ27_putTreeVal_290 q1532 rfl (hT_22 n223_13 (Or.inl k_n223_13)).1 (Or.inl rfl) rfl ?_
            refine aw_aload (n := 295) dJ27_putTreeVal_293 0 rfl rfl ?_
            refine aw_putK (n := 298) (fs' := [.null, .null, .int (κ1 n223_13).1, .ref (κ1 n223_13).2.1, .ref (κ1 n223_13).2.2, va_rf ((up (up nx x (some n223_13)) p (some x)) n223_13), va_rf ((up (up pa x none) x (some p)) n223_13), va_rf ((up lf x none) n223_13), va_rf ((up (up rt x none) p (some x)) n223_13), va_rf (some x), .int (bI ((ub rd x false) n223_13))]) (C0 := RJ27) (T := TJ27) (N := 11) (ci := 27) dJ27_putTreeVal_295 rfl in_J27 tyJ27 tyJ27_ok nmJ27 q1601 9 (by decide) q1612 (Or.inl rfl) (Or.inl rfl) rfl (hT_22 n223_13 (Or.inl k_n223_13)).1 (hT_22 n223_13 (Or.inl k_n223_13)).2 rfl rfl (Nat.le_of_ble_eq_true rfl) rfl rfl (fun y_23 w_23 => ?_)
            have zy_23 : y_23.1 = y_22.1 := w_23.2.2
            have hT_23 := TPic.ppv (v := some x) hT_22 w_23
            refine aw_aload_n (n := 299) dJ27_putTreeVal_298 rfl 7 rfl rfl ?_
            refine aw_aload (n := 301) dJ27_putTreeVal_299 4 rfl rfl ?_
            refine aw_aload (n := 303) dJ27_putTreeVal_301 0 rfl rfl ?_
            obtain ⟨lo0, hi0_, ht0, hB0⟩ := leafR hB htr (fun y hy => (hK y hy).1.choose_spec.ok) nNx hp g2 hd2 hd3
            refine aw_callS (n := 306) (As := [.ref root, .ref x]) (rest := [.ref t]) (K2 := kJ27_balanceInsertion) dJ27_putTreeVal_303 q1575 q1576 q145 q1577 hcJ27_balanceInsertion (hm_bal G y_23 (fun q => N q ∨ q = x) κ1 (up (up nx x (some n223_13)) p (some x)) (up (up pa x none) x (some p)) (up lf x none) (up (up rt x none) p (some x)) (up (up (up pv x none) x (some p)) n223_13 (some x)) (ub rd x false) hT_23 (ltM (fun q => if q = x then bs else tx q)) root lo0 hi0_ ht0 (B + 1) hB0 (ltN3 _) x (Or.inr rfl)) rfl (Nat.le_of_ble_eq_true rfl) ⟨Nat.le_of_ble_eq_true rfl, Nat.le_of_ble_eq_true rfl⟩ ⟨by first | omega | (dsimp only; omega) | decide, by first | omega | (dsimp only; omega) | decide⟩ (fun _ _ _ z => z.elim) rfl (fun r_303 h_303 q_303 => ?_)
            obtain ⟨root1, pa1, lf1, rt1, rd1, lo1, hi1, ht1, B1, rfl, hT1, hB1, hFb, hzb⟩ := q_303
            have zc_303 : y_23.1 ≤ h_303.1 := hFb.1
            refine AW.sts (st' := [.ref root1, .ref t]) rfl ?_
            have f_24 : h_303.2 t = some (har 5 n f) := (hFb.k (by omega) (fun z9 => z9.elim (fun k9 => ne_kind hA (hTP t k9).1 ar_ob rfl) (fun e9 => by omega)) (w_23.k (fun e9 => n_n223_13 e9.symm) (w_22.k (by omega) (w_21.k (by omega) (w_20.k (fun e9 => n_p e9.symm) (w_19.k (fun e9 => n_p e9.symm) (hFx.k (by omega) (fun z => z) hA)))))))
            have nrx : root ≠ x := fun e9 => nNx (e9 ▸ hB.1)
            have hn1 : (up (up nx x (some n223_13)) p (some x)) root ≠ none := by unfold up; by_cases e9 : root = p; (rw [if_pos e9]; simp); (rw [if_neg e9, if_neg nrx]; exact hn0)
            have hix1 : (nI n - 1) &&& (κ1 root1).1 = nI i := by rw [eκ]; show (nI n - 1) &&& (if root1 = x then (spT bs, k, v) else κ root1).1 = nI i; rcases hB1.1 with e9 | e9; (have nz9 : root1 ≠ x := (fun z9 => nNx (z9 ▸ e9)); rw [if_neg nz9]; exact hIx _ e9); (rw [if_pos e9]; exact hixb)
            have hLW1 : LW (fun q => N q ∨ q = x) (up (up nx x (some n223_13)) p (some x)) (up (up (up pv x none) x (some p)) n223_13 (some x)) := (LW.uq (LW.uq (LW.un (LW.add hW (sm_in k_n223_13)) p (sm_in (Or.inr rfl))) x (sm_in (Or.inl hp))) n223_13 (sm_in (Or.inr rfl)))
            refine aw_callS (n := 309) (As := [.ref t, .ref root1]) (rest := []) (K2 := kJ27_moveRootToFront) dJ27_putTreeVal_306 q1584 q1585 q145 q1586 hcJ27_moveRootToFront (hm_mrf G h_303 (fun q => N q ∨ q = x) κ1 (up (up nx x (some n223_13)) p (some x)) pa1 lf1 rt1 (up (up (up pv x none) x (some p)) n223_13 (some x)) rd1 hT1 t n i root root1 f f_24 hbt hn hi0 hix1 hf (Or.inl hB.1) hB1.1 hLW1 hn1) rfl (Nat.le_of_ble_eq_true rfl) ⟨Nat.le_of_ble_eq_true rfl, Nat.le_of_ble_eq_true rfl⟩ ⟨by first | omega | (dsimp only; omega) | decide, by first | omega | (dsimp only; omega) | decide⟩ (fun _ _ _ z => z.elim) rfl (fun r_306 h_306 q_306 => ?_)
            obtain ⟨rfl, nx2, pv2, hT2, hW2, hn2, ⟨f2, hA2, hf2, hfj2⟩, hFm, hzm⟩ := q_306
            have zc_306 : h_303.1 ≤ h_306.1 := hFm.1
            refine AW.sts (st' := []) rfl ?_
            refine aw_null (n := 310) dJ27_putTreeVal_309 rfl ?_
            exact aw_aret dJ27_putTreeVal_310 rfl (Or.inl ⟨_, rfl⟩) (Or.inl rfl) ⟨rfl, root1, nx2, pa1, lf1, rt1, pv2, rd1, lo1, hi1, ht1, B1, by rw [← ex, ← eκ]; exact hT2, by rw [← ex]; exact hB1, by rw [← ex]; exact hW2, hn2, ⟨f2, hA2, hf2, hfj2⟩, (Fr.c (Fr.c (Fr.w (Fr.w (Fr.w (Fr.w (Fr.w (Fr.c Fr.rf hFx (fun _ z => z.elim)) w_19 (Or.inl (Or.inl hp))) w_20 (Or.inl (Or.inl hp))) w_21 (Or.inr (by omega))) w_22 (Or.inr (by omega))) w_23 (Or.inl (Or.inl k_n223_13))) hFb (fun a9 z9 => z9.elim (fun k9 => Or.inl (Or.inl k9)) (fun e9 => Or.inr (by omega)))) hFm (fun a9 z9 => z9.elim (fun z8 => z8.elim (fun k9 => Or.inl (Or.inl k9)) (fun e9 => Or.inr (by omega))) (fun e9 => Or.inl (Or.inr e9)))), by omega⟩ ⟨(by first | exact Nat.le_refl _ | omega | (dsimp only; omega)), (by first | exact Nat.le_refl _ | omega | (dsimp only; omega))⟩
          · skip
            exact absurd hd1 c_243_2
    rcases hkc with rfl | rfl
    · skip
      refine AW.eq (lv2 := [(9, .ref p), (8, .ref root), (7, .int 0), (6, .null), (0, .ref root), (1, .ref m), (2, .ref t), (3, .int (spT bs)), (4, .ref k), (5, .ref v)]) (s2 := []) rfl rfl rfl rfl rfl ?_
      refine aw_aload (n := 29) dJ27_putTreeVal_27 0 rfl rfl ?_
      refine aw_getf (n := 32) (v := .int ((κ p).1)) (C0 := RJ27) (T := TJ27) dJ27_putTreeVal_29 rfl 2 q1547 (Or.inr q1548) (hTP p hp).1 rfl rfl ?_
      refine aw_dup (n := 33) dJ27_putTreeVal_32 rfl rfl ?_
      refine aw_istore (n := 35) (lv' := [(11, .int ((κ p).1)), (9, .ref p), (8, .ref root), (7, .int 0), (6, .null), (0, .ref root), (1, .ref m), (2, .ref t), (3, .int (spT bs)), (4, .ref k), (5, .ref v)]) dJ27_putTreeVal_33 (by decide) rfl rfl ?_
      refine aw_iload_n (n := 36) dJ27_putTreeVal_35 rfl 8 rfl rfl ?_
      refine aw_icmp_le (n := 39) (tgt := 45) dJ27_putTreeVal_36 (by decide) rfl (fun c_36 => ?_) (fun c_36 => ?_)
      · skip
        refine aw_iload (n := 47) dJ27_putTreeVal_45 0 rfl rfl ?_
        refine aw_iload_n (n := 48) dJ27_putTreeVal_47 rfl 8 rfl rfl ?_
        refine aw_icmp_ge (n := 51) (tgt := 57) dJ27_putTreeVal_48 (by decide) rfl (fun c_48 => ?_) (fun c_48 => ?_)
        · skip
          have eh : spT bs = spT (tx p) := by rw [← hKh]; exact Int32.le_antisymm c_48 c_36
          refine aw_aload (n := 59) dJ27_putTreeVal_57 1 rfl rfl ?_
          refine aw_getf (n := 62) (v := .ref ((κ p).2.1)) (C0 := RJ27) (T := TJ27) dJ27_putTreeVal_59 rfl 3 q1551 (Or.inr q1552) (hTP p hp).1 rfl rfl ?_
          refine aw_dup (n := 63) dJ27_putTreeVal_62 rfl rfl ?_
          refine aw_astore (n := 65) (lv' := [(12, .ref ((κ p).2.1)), (11, .int ((κ p).1)), (9, .ref p), (8, .ref root), (7, .int 0), (6, .null), (0, .ref root), (1, .ref m), (2, .ref t), (3, .int (spT bs)), (4, .ref k), (5, .ref v)]) dJ27_putTreeVal_63 (by decide) rfl rfl ?_
          refine aw_aload (n := 67) dJ27_putTreeVal_65 10 rfl rfl ?_
          refine aw_acmp_eq (n := 70) (x := (some ((κ p).2.1))) (y := (some k)) (tgt := 85) dJ27_putTreeVal_67 (by decide) rfl (fun c_67 => ?_) (fun c_67 => ?_)
          · skip
            have ek : (κ p).2.1 = k := by simpa using c_67
            exact absurd (hS.uniq (by rw [← ek]; exact hKp)).symm (hab p hp)
          · skip
            refine aw_aload (n := 72) dJ27_putTreeVal_70 10 rfl rfl ?_
            refine aw_ifnull (n := 75) dJ27_putTreeVal_72 rfl ?_
            refine aw_aload (n := 77) dJ27_putTreeVal_75 10 rfl rfl ?_
            refine aw_aload (n := 79) dJ27_putTreeVal_77 0 rfl rfl ?_
            refine aw_callU (n := 82) "java/lang/Object" (C0 := RJ12) (As := [.ref ((κ p).2.1)]) (rest := []) (K2 := kJ12_equals) (x := ⟨"java/lang/Object", "equals", "(Ljava/lang/Object;)Z"⟩) dJ27_putTreeVal_79 q1224 q1168 (Or.inl q1165) q1206 q776 q122 q778 ⟨by decide, by decide, (show (parseMethodDescriptor "(Ljava/lang/Object;)Z").map (fun d => d.parameters.length) = some 1 from by decide +kernel)⟩ rfl hS0 (cs_equals G h k u bs _ _ hS (κ p).2.1 up9 (tx p) _ _ hKp) rfl (Nat.le_of_ble_eq_true rfl) ⟨Nat.le_of_ble_eq_true rfl, Nat.le_of_ble_eq_true rfl⟩ ⟨by first | omega | (dsimp only; omega) | decide, by first | omega | (dsimp only; omega) | decide⟩ (fun _ _ _ z => z.elim) rfl (fun r_79 h_79 q_79 => ?_)
            obtain ⟨rfl, rfl⟩ := q_79
            refine AW.sts (st' := [.int (bI (decide (bs = tx p)))]) rfl ?_
            refine aw_if_eq (n := 85) (tgt := 88) dJ27_putTreeVal_82 (by decide) rfl (fun c_82 => ?_) (fun c_82 => ?_)
            · skip
              have b_82 : (decide (bs = tx p)) = false := (bI_0 _).mp c_82
              have nt : bs ≠ tx p := of_decide_eq_false b_82
              refine aw_aloadN (n := 90) dJ27_putTreeVal_88 5 rfl rfl ?_
              refine aw_ifnonnullN (n := 93) dJ27_putTreeVal_90 rfl ?_
              refine aw_aload (n := 95) dJ27_putTreeVal_93 10 rfl rfl ?_
              refine aw_callS (n := 98) (As := [.ref k]) (rest := []) (K2 := kJ4_comparableClassFor) dJ27_putTreeVal_95 q1225 q1226 q112 q1227 hcJ4_comparableClassFor (hm_compF G h k u bs _ _ hS) rfl (Nat.le_of_ble_eq_true rfl) ⟨Nat.le_of_ble_eq_true rfl, Nat.le_of_ble_eq_true rfl⟩ ⟨by first | omega | (dsimp only; omega) | decide, by first | omega | (dsimp only; omega) | decide⟩ (fun _ _ _ z => z.elim) rfl (fun r_95 h_95 q_95 => ?_)
              obtain ⟨rfl, rfl⟩ := q_95
              refine AW.sts (st' := [.ref (gM G 0)]) rfl ?_
              refine aw_dup (n := 99) dJ27_putTreeVal_98 rfl rfl ?_
              refine aw_astore (n := 101) (lv' := [(6, .ref (gM G 0)), (12, .ref ((κ p).2.1)), (11, .int ((κ p).1)), (9, .ref p), (8, .ref root), (7, .int 0), (0, .ref root), (1, .ref m), (2, .ref t), (3, .int (spT bs)), (4, .ref k), (5, .ref v)]) dJ27_putTreeVal_99 (by decide) rfl rfl ?_
              refine aw_ifnull (n := 104) dJ27_putTreeVal_101 rfl ?_
              refine aw_aload (n := 106) dJ27_putTreeVal_104 0 rfl rfl ?_
              refine aw_aload (n := 108) dJ27_putTreeVal_106 10 rfl rfl ?_
              refine aw_aload (n := 110) dJ27_putTreeVal_108 1 rfl rfl ?_
              refine aw_callS (n := 113) (As := [.ref (gM G 0), .ref k, .ref ((κ p).2.1)]) (rest := []) (K2 := kJ4_compareComparables) dJ27_putTreeVal_110 q1231 q1232 q112 q1233 hcJ4_compareComparables (hm_cmpC G h k u (κ p).2.1 up9 bs (tx p) _ _ _ _ hS hKp (Or.inl hb8)) rfl (Nat.le_of_ble_eq_true rfl) ⟨Nat.le_of_ble_eq_true rfl, Nat.le_of_ble_eq_true rfl⟩ ⟨by first | omega | (dsimp only; omega) | decide, by first | omega | (dsimp only; omega) | decide⟩ (fun _ _ _ z => z.elim) rfl (fun r_110 h_110 q_110 => ?_)
              obtain ⟨rfl, rfl⟩ := q_110
              refine AW.sts (st' := [.int (cmpT bs (tx p))]) rfl ?_
              refine aw_dup (n := 114) dJ27_putTreeVal_113 rfl rfl ?_
              refine aw_istore (n := 116) (lv' := [(10, .int (cmpT bs (tx p))), (6, .ref (gM G 0)), (12, .ref ((κ p).2.1)), (11, .int ((κ p).1)), (9, .ref p), (8, .ref root), (7, .int 0), (0, .ref root), (1, .ref m), (2, .ref t), (3, .int (spT bs)), (4, .ref k), (5, .ref v)]) dJ27_putTreeVal_114 (by decide) rfl rfl ?_
              refine aw_if_ne (n := 119) (tgt := 193) dJ27_putTreeVal_116 (by decide) rfl (fun c_116 => ?_) (fun c_116 => ?_)
              · skip
                refine aw_aload (n := 195) dJ27_putTreeVal_193 4 rfl rfl ?_
                refine aw_astore (n := 197) (lv' := [(13, .ref p), (10, .int (cmpT bs (tx p))), (6, .ref (gM G 0)), (12, .ref ((κ p).2.1)), (11, .int ((κ p).1)), (9, .ref p), (8, .ref root), (7, .int 0), (0, .ref root), (1, .ref m), (2, .ref t), (3, .int (spT bs)), (4, .ref k), (5, .ref v)]) dJ27_putTreeVal_195 (by decide) rfl rfl ?_
                refine aw_iload (n := 199) dJ27_putTreeVal_197 1 rfl rfl ?_
                refine aw_if_gt (n := 202) (tgt := 210) dJ27_putTreeVal_199 (by decide) rfl (fun c_199 => ?_) (fun c_199 => ?_)
                · skip
                  have hs9 : 0 < cmpT bs (tx p) := c_199
                  have hd9 : ltK (spT (tx p), tx p) (spT bs, bs) := (by rcases ltX_cmp okb.1 okp.1 okb.2 okp.2 with z | z | z; exact absurd z.1 (fun e9 => absurd (Int32.lt_trans c_199 e9) Int32.lt_irrefl); exact absurd z.2 nt; exact Or.inr ⟨eh.symm, z.2⟩)
                  refine aw_aload (n := 212) dJ27_putTreeVal_210 5 rfl rfl ?_
                  rcases optc (rt p) with hq_25 | ⟨r212_25, hq_25⟩
                  · skip
                    refine aw_getf (n := 215) (v := .null) (C0 := RJ27) (T := TJ27) dJ27_putTreeVal_212 rfl 8 q1611 (Or.inl rfl) (hTP p hp).1 (congrArg (fun z9 => some (va_rf z9)) (show rt p = none from by exact hq_25)) rfl ?_
                    refine aw_dup (n := 216) dJ27_putTreeVal_215 rfl rfl ?_
                    refine aw_astoreN (n := 218) (lv' := [(9, .null), (13, .ref p), (10, .int (cmpT bs (tx p))), (6, .ref (gM G 0)), (12, .ref ((κ p).2.1)), (11, .int ((κ p).1)), (8, .ref root), (7, .int 0), (0, .ref root), (1, .ref m), (2, .ref t), (3, .int (spT bs)), (4, .ref k), (5, .ref v)]) dJ27_putTreeVal_216 (by decide) rfl rfl ?_
                    refine aw_ifnonnullN (n := 221) dJ27_putTreeVal_218 rfl ?_
                    exact AW.lvs (lv' := [(13, .ref p), (10, .int (cmpT bs (tx p))), (8, .ref root), (0, .ref root), (1, .ref m), (2, .ref t), (3, .int (spT bs)), (4, .ref k), (5, .ref v)]) (AW.eq (lv2 := _) (rfl) rfl rfl rfl rfl (T9 (cmpT bs (tx p)) (Or.inr ⟨hs9, hd9, hq_25⟩))) (by simp)
                  · skip
                    have k_r212_25 : N r212_25 := BT.ch hB hp (Or.inr hq_25)
                    refine aw_getf (n := 215) (v := .ref r212_25) (C0 := RJ27) (T := TJ27) dJ27_putTreeVal_212 rfl 8 q1611 (Or.inl rfl) (hTP p hp).1 (congrArg (fun z9 => some (va_rf z9)) (show rt p = some r212_25 from by exact hq_25)) rfl ?_
                    refine aw_dup (n := 216) dJ27_putTreeVal_215 rfl rfl ?_
                    refine aw_astore (n := 218) (lv' := [(9, .ref r212_25), (13, .ref p), (10, .int (cmpT bs (tx p))), (6, .ref (gM G 0)), (12, .ref ((κ p).2.1)), (11, .int ((κ p).1)), (8, .ref root), (7, .int 0), (0, .ref root), (1, .ref m), (2, .ref t), (3, .int (spT bs)), (4, .ref k), (5, .ref v)]) dJ27_putTreeVal_216 (by decide) rfl rfl ?_
                    refine aw_ifnonnull (tgt := 311) dJ27_putTreeVal_218 (by decide) ?_
                    refine aw_goto (tgt := 27) dJ27_putTreeVal_311 (by decide) ?_
                    have t9 := kLH_R hB hp g2 hd9 hq_25
                    have m9 := t9.2.1
                    exact AW.lvs (lv' := [(9, .ref r212_25), (8, .ref root), (7, .int 0), (6, .ref (gM G 0)), (0, .ref root), (1, .ref m), (2, .ref t), (3, .int (spT bs)), (4, .ref k), (5, .ref v)]) (AW.eq (lv2 := _) (rfl) rfl rfl rfl rfl (ih_27 r212_25 t9.1 t9.2.2.1 t9.2.2.2 (some (gM G 0)) (Or.inr rfl) (by omega))) (by simp)
                · skip
                  have hs9 : cmpT bs (tx p) ≤ 0 := Int32.not_lt.mp c_199
                  have hd9 : ltK (spT bs, bs) (spT (tx p), tx p) := (by rcases ltX_cmp okb.1 okp.1 okb.2 okp.2 with z | z | z; exact Or.inr ⟨eh, z.2⟩; exact absurd z.2 nt; exact absurd z.1 c_199)
                  refine aw_aload (n := 204) dJ27_putTreeVal_202 5 rfl rfl ?_
                  rcases optc (lf p) with hq_26 | ⟨l204_26, hq_26⟩
                  · skip
                    refine aw_getf (n := 207) (v := .null) (C0 := RJ27) (T := TJ27) dJ27_putTreeVal_204 rfl 7 q1610 (Or.inl rfl) (hTP p hp).1 (congrArg (fun z9 => some (va_rf z9)) (show lf p = none from by exact hq_26)) rfl ?_
                    refine aw_goto (tgt := 215) dJ27_putTreeVal_207 (by decide) ?_
                    refine aw_dup (n := 216) dJ27_putTreeVal_215 rfl rfl ?_
                    refine aw_astoreN (n := 218) (lv' := [(9, .null), (13, .ref p), (10, .int (cmpT bs (tx p))), (6, .ref (gM G 0)), (12, .ref ((κ p).2.1)), (11, .int ((κ p).1)), (8, .ref root), (7, .int 0), (0, .ref root), (1, .ref m), (2, .ref t), (3, .int (spT bs)), (4, .ref k), (5, .ref v)]) dJ27_putTreeVal_216 (by decide) rfl rfl ?_
                    refine aw_ifnonnullN (n := 221) dJ27_putTreeVal_218 rfl ?_
                    exact AW.lvs (lv' := [(13, .ref p), (10, .int (cmpT bs (tx p))), (8, .ref root), (0, .ref root), (1, .ref m), (2, .ref t), (3, .int (spT bs)), (4, .ref k), (5, .ref v)]) (AW.eq (lv2 := _) (rfl) rfl rfl rfl rfl (T9 (cmpT bs (tx p)) (Or.inl ⟨hs9, hd9, hq_26⟩))) (by simp)
                  · skip
                    have k_l204_26 : N l204_26 := BT.ch hB hp (Or.inl hq_26)
                    refine aw_getf (n := 207) (v := .ref l204_26) (C0 := RJ27) (T := TJ27) dJ27_putTreeVal_204 rfl 7 q1610 (Or.inl rfl) (hTP p hp).1 (congrArg (fun z9 => some (va_rf z9)) (show lf p = some l204_26 from by exact hq_26)) rfl ?_
                    refine aw_goto (tgt := 215) dJ27_putTreeVal_207 (by decide) ?_
                    refine aw_dup (n := 216) dJ27_putTreeVal_215 rfl rfl ?_
                    refine aw_astore (n := 218) (lv' := [(9, .ref l204_26), (13, .ref p), (10, .int (cmpT bs (tx p))), (6, .ref (gM G 0)), (12, .ref ((κ p).2.1)), (11, .int ((κ p).1)), (8, .ref root), (7, .int 0), (0, .ref root), (1, .ref m), (2, .ref t), (3, .int (spT bs)), (4, .ref k), (5, .ref v)]) dJ27_putTreeVal_216 (by decide) rfl rfl ?_
                    refine aw_ifnonnull (tgt := 311) dJ27_putTreeVal_218 (by decide) ?_
                    refine aw_goto (tgt := 27) dJ27_putTreeVal_311 (by decide) ?_
                    have t9 := kLH_L hB hp g1 hd9 hq_26
                    have m9 := t9.2.1
                    exact AW.lvs (lv' := [(9, .ref l204_26), (8, .ref root), (7, .int 0), (6, .ref (gM G 0)), (0, .ref root), (1, .ref m), (2, .ref t), (3, .int (spT bs)), (4, .ref k), (5, .ref v)]) (AW.eq (lv2 := _) (rfl) rfl rfl rfl rfl (ih_27 l204_26 t9.1 t9.2.2.1 t9.2.2.2 (some (gM G 0)) (Or.inr rfl) (by omega))) (by simp)
              · skip
                exfalso; rcases ltX_cmp okb.1 okp.1 okb.2 okp.2 with z | z | z; rw [c_116] at z; exact absurd z.1 (by decide); exact nt z.2; rw [c_116] at z; exact absurd z.1 (by decide)
            · skip
              have b_82 : (decide (bs = tx p)) = true := Bool.of_not_eq_false (fun e => c_82 ((bI_0 _).mpr e))
              exact absurd (of_decide_eq_true b_82).symm (hab p hp)
        · skip
          have g9 : spT (tx p) < spT bs := by rw [← hKh]; exact Int32.not_le.mp c_48
          have hd9 : ltK (spT (tx p), tx p) (spT bs, bs) := Or.inl g9
          have hs9 : (0 : Int32) < 1 := by decide
          refine aw_iconst (n := 52) (v := 1) dJ27_putTreeVal_51 (by decide) rfl ?_
          refine aw_istore (n := 54) (lv' := [(10, .int 1), (11, .int ((κ p).1)), (9, .ref p), (8, .ref root), (7, .int 0), (6, .null), (0, .ref root), (1, .ref m), (2, .ref t), (3, .int (spT bs)), (4, .ref k), (5, .ref v)]) dJ27_putTreeVal_52 (by decide) rfl rfl ?_
          refine aw_goto (tgt := 193) dJ27_putTreeVal_54 (by decide) ?_
          refine aw_aload (n := 195) dJ27_putTreeVal_193 2 rfl rfl ?_
          refine aw_astore (n := 197) (lv' := [(13, .ref p), (10, .int 1), (11, .int ((κ p).1)), (9, .ref p), (8, .ref root), (7, .int 0), (6, .null), (0, .ref root), (1, .ref m), (2, .ref t), (3, .int (spT bs)), (4, .ref k), (5, .ref v)]) dJ27_putTreeVal_195 (by decide) rfl rfl ?_
          refine aw_iload (n := 199) dJ27_putTreeVal_197 1 rfl rfl ?_
          refine aw_if_gt (n := 202) (tgt := 210) dJ27_putTreeVal_199 (by decide) rfl (fun c_199_2 => ?_) (fun c_199_2 => ?_)
          · skip
            refine aw_aload (n := 212) dJ27_putTreeVal_210 3 rfl rfl ?_
            rcases optc (rt p) with hq_27 | ⟨r212_27, hq_27⟩
            · skip
              refine aw_getf (n := 215) (v := .null) (C0 := RJ27) (T := TJ27) dJ27_putTreeVal_212 rfl 8 q1611 (Or.inl rfl) (hTP p hp).1 (congrArg (fun z9 => some (va_rf z9)) (show rt p = none from by exact hq_27)) rfl ?_
              refine aw_dup (n := 216) dJ27_putTreeVal_215 rfl rfl ?_
              refine aw_astoreN (n := 218) (lv' := [(9, .null), (13, .ref p), (10, .int 1), (11, .int ((κ p).1)), (8, .ref root), (7, .int 0), (6, .null), (0, .ref root), (1, .ref m), (2, .ref t), (3, .int (spT bs)), (4, .ref k), (5, .ref v)]) dJ27_putTreeVal_216 (by decide) rfl rfl ?_
              refine aw_ifnonnullN (n := 221) dJ27_putTreeVal_218 rfl ?_
              exact AW.lvs (lv' := [(13, .ref p), (10, .int 1), (8, .ref root), (0, .ref root), (1, .ref m), (2, .ref t), (3, .int (spT bs)), (4, .ref k), (5, .ref v)]) (AW.eq (lv2 := _) (rfl) rfl rfl rfl rfl (T9 1 (Or.inr ⟨hs9, hd9, hq_27⟩))) (by simp)
            · skip
              have k_r212_27 : N r212_27 := BT.ch hB hp (Or.inr hq_27)
              refine aw_getf (n := 215) (v := .ref r212_27) (C0 := RJ27) (T := TJ27) dJ27_putTreeVal_212 rfl 8 q1611 (Or.inl rfl) (hTP p hp).1 (congrArg (fun z9 => some (va_rf z9)) (show rt p = some r212_27 from by exact hq_27)) rfl ?_
              refine aw_dup (n := 216) dJ27_putTreeVal_215 rfl rfl ?_
              refine aw_astore (n := 218) (lv' := [(9, .ref r212_27), (13, .ref p), (10, .int 1), (11, .int ((κ p).1)), (8, .ref root), (7, .int 0), (6, .null), (0, .ref root), (1, .ref m), (2, .ref t), (3, .int (spT bs)), (4, .ref k), (5, .ref v)]) dJ27_putTreeVal_216 (by decide) rfl rfl ?_
              refine aw_ifnonnull (tgt := 311) dJ27_putTreeVal_218 (by decide) ?_
              refine aw_goto (tgt := 27) dJ27_putTreeVal_311 (by decide) ?_
              have t9 := kLH_R hB hp g2 hd9 hq_27
              have m9 := t9.2.1
              exact AW.lvs (lv' := [(9, .ref r212_27), (8, .ref root), (7, .int 0), (6, .null), (0, .ref root), (1, .ref m), (2, .ref t), (3, .int (spT bs)), (4, .ref k), (5, .ref v)]) (AW.eq (lv2 := _) (rfl) rfl rfl rfl rfl (ih_27 r212_27 t9.1 t9.2.2.1 t9.2.2.2 none (Or.inl rfl) (by omega))) (by simp)
          · skip
            exact absurd c_199_2 (by decide +kernel)
      · skip
        have g9 : spT bs < spT (tx p) := by rw [← hKh]; exact Int32.not_le.mp c_36
        have hd9 : ltK (spT bs, bs) (spT (tx p), tx p) := Or.inl g9
        have hs9 : (-1 : Int32) ≤ 0 := by decide
        refine aw_iconst (n := 40) (v := (-1)) dJ27_putTreeVal_39 (by decide) rfl ?_
        refine aw_istore (n := 42) (lv' := [(10, .int (-1)), (11, .int ((κ p).1)), (9, .ref p), (8, .ref root), (7, .int 0), (6, .null), (0, .ref root), (1, .ref m), (2, .ref t), (3, .int (spT bs)), (4, .ref k), (5, .ref v)]) dJ27_putTreeVal_40 (by decide) rfl rfl ?_
        refine aw_goto (tgt := 193) dJ27_putTreeVal_42 (by decide) ?_
        refine aw_aload (n := 195) dJ27_putTreeVal_193 2 rfl rfl ?_
        refine aw_astore (n := 197) (lv' := [(13, .ref p), (10, .int (-1)), (11, .int ((κ p).1)), (9, .ref p), (8, .ref root), (7, .int 0), (6, .null), (0, .ref root), (1, .ref m), (2, .ref t), (3, .int (spT bs)), (4, .ref k), (5, .ref v)]) dJ27_putTreeVal_195 (by decide) rfl rfl ?_
        refine aw_iload (n := 199) dJ27_putTreeVal_197 1 rfl rfl ?_
        refine aw_if_gt (n := 202) (tgt := 210) dJ27_putTreeVal_199 (by decide) rfl (fun c_199_3 => ?_) (fun c_199_3 => ?_)
        · skip
          exact absurd c_199_3 (by decide +kernel)
        · skip
          refine aw_aload (n := 204) dJ27_putTreeVal_202 3 rfl rfl ?_
          rcases optc (lf p) with hq_28 | ⟨l204_28, hq_28⟩
          · skip
            refine aw_getf (n := 207) (v := .null) (C0 := RJ27) (T := TJ27) dJ27_putTreeVal_204 rfl 7 q1610 (Or.inl rfl) (hTP p hp).1 (congrArg (fun z9 => some (va_rf z9)) (show lf p = none from by exact hq_28)) rfl ?_
            refine aw_goto (tgt := 215) dJ27_putTreeVal_207 (by decide) ?_
            refine aw_dup (n := 216) dJ27_putTreeVal_215 rfl rfl ?_
            refine aw_astoreN (n := 218) (lv' := [(9, .null), (13, .ref p), (10, .int (-1)), (11, .int ((κ p).1)), (8, .ref root), (7, .int 0), (6, .null), (0, .ref root), (1, .ref m), (2, .ref t), (3, .int (spT bs)), (4, .ref k), (5, .ref v)]) dJ27_putTreeVal_216 (by decide) rfl rfl ?_
            refine aw_ifnonnullN (n := 221) dJ27_putTreeVal_218 rfl ?_
            exact AW.lvs (lv' := [(13, .ref p), (10, .int (-1)), (8, .ref root), (0, .ref root), (1, .ref m), (2, .ref t), (3, .int (spT bs)), (4, .ref k), (5, .ref v)]) (AW.eq (lv2 := _) (rfl) rfl rfl rfl rfl (T9 (-1) (Or.inl ⟨hs9, hd9, hq_28⟩))) (by simp)
          · skip
            have k_l204_28 : N l204_28 := BT.ch hB hp (Or.inl hq_28)
            refine aw_getf (n := 207) (v := .ref l204_28) (C0 := RJ27) (T := TJ27) dJ27_putTreeVal_204 rfl 7 q1610 (Or.inl rfl) (hTP p hp).1 (congrArg (fun z9 => some (va_rf z9)) (show lf p = some l204_28 from by exact hq_28)) rfl ?_
            refine aw_goto (tgt := 215) dJ27_putTreeVal_207 (by decide) ?_
            refine aw_dup (n := 216) dJ27_putTreeVal_215 rfl rfl ?_
            refine aw_astore (n := 218) (lv' := [(9, .ref l204_28), (13, .ref p), (10, .int (-1)), (11, .int ((κ p).1)), (8, .ref root), (7, .int 0), (6, .null), (0, .ref root), (1, .ref m), (2, .ref t), (3, .int (spT bs)), (4, .ref k), (5, .ref v)]) dJ27_putTreeVal_216 (by decide) rfl rfl ?_
            refine aw_ifnonnull (tgt := 311) dJ27_putTreeVal_218 (by decide) ?_
            refine aw_goto (tgt := 27) dJ27_putTreeVal_311 (by decide) ?_
            have t9 := kLH_L hB hp g1 hd9 hq_28
            have m9 := t9.2.1
            exact AW.lvs (lv' := [(9, .ref l204_28), (8, .ref root), (7, .int 0), (6, .null), (0, .ref root), (1, .ref m), (2, .ref t), (3, .int (spT bs)), (4, .ref k), (5, .ref v)]) (AW.eq (lv2 := _) (rfl) rfl rfl rfl rfl (ih_27 l204_28 t9.1 t9.2.2.1 t9.2.2.2 none (Or.inl rfl) (by omega))) (by simp)
    · skip
      refine AW.eq (lv2 := [(9, .ref p), (8, .ref root), (7, .int 0), (6, .ref (gM G 0)), (0, .ref root), (1, .ref m), (2, .ref t), (3, .int (spT bs)), (4, .ref k), (5, .ref v)]) (s2 := []) rfl rfl rfl rfl rfl ?_
      refine aw_aload (n := 29) dJ27_putTreeVal_27 0 rfl rfl ?_
      refine aw_getf (n := 32) (v := .int ((κ p).1)) (C0 := RJ27) (T := TJ27) dJ27_putTreeVal_29 rfl 2 q1547 (Or.inr q1548) (hTP p hp).1 rfl rfl ?_
      refine aw_dup (n := 33) dJ27_putTreeVal_32 rfl rfl ?_
      refine aw_istore (n := 35) (lv' := [(11, .int ((κ p).1)), (9, .ref p), (8, .ref root), (7, .int 0), (6, .ref (gM G 0)), (0, .ref root), (1, .ref m), (2, .ref t), (3, .int (spT bs)), (4, .ref k), (5, .ref v)]) dJ27_putTreeVal_33 (by decide) rfl rfl ?_
      refine aw_iload_n (n := 36) dJ27_putTreeVal_35 rfl 8 rfl rfl ?_
      refine aw_icmp_le (n := 39) (tgt := 45) dJ27_putTreeVal_36 (by decide) rfl (fun c_36 => ?_) (fun c_36 => ?_)
      · skip
        refine aw_iload (n := 47) dJ27_putTreeVal_45 0 rfl rfl ?_
        refine aw_iload_n (n := 48) dJ27_putTreeVal_47 rfl 8 rfl rfl ?_
        refine aw_icmp_ge (n := 51) (tgt := 57) dJ27_putTreeVal_48 (by decide) rfl (fun c_48 => ?_) (fun c_48 => ?_)
        · skip
          have eh : spT bs = spT (tx p) := by rw [← hKh]; exact Int32.le_antisymm c_48 c_36
          refine aw_aload (n := 59) dJ27_putTreeVal_57 1 rfl rfl ?_
          refine aw_getf (n := 62) (v := .ref ((κ p).2.1)) (C0 := RJ27) (T := TJ27) dJ27_putTreeVal_59 rfl 3 q1551 (Or.inr q1552) (hTP p hp).1 rfl rfl ?_
          refine aw_dup (n := 63) dJ27_putTreeVal_62 rfl rfl ?_
          refine aw_astore (n := 65) (lv' := [(12, .ref ((κ p).2.1)), (11, .int ((κ p).1)), (9, .ref p), (8, .ref root), (7, .int 0), (6, .ref (gM G 0)), (0, .ref root), (1, .ref m), (2, .ref t), (3, .int (spT bs)), (4, .ref k), (5, .ref v)]) dJ27_putTreeVal_63 (by decide) rfl rfl ?_
          refine aw_aload (n := 67) dJ27_putTreeVal_65 10 rfl rfl ?_
          refine aw_acmp_eq (n := 70) (x := (some ((κ p).2.1))) (y := (some k)) (tgt := 85) dJ27_putTreeVal_67 (by decide) rfl (fun c_67 => ?_) (fun c_67 => ?_)
          · skip
            have ek : (κ p).2.1 = k := by simpa using c_67
            exact absurd (hS.uniq (by rw [← ek]; exact hKp)).symm (hab p hp)
          · skip
            refine aw_aload (n := 72) dJ27_putTreeVal_70 10 rfl rfl ?_
            refine aw_ifnull (n := 75) dJ27_putTreeVal_72 rfl ?_
            refine aw_aload (n := 77) dJ27_putTreeVal_75 10 rfl rfl ?_
            refine aw_aload (n := 79) dJ27_putTreeVal_77 0 rfl rfl ?_
            refine aw_callU (n := 82) "java/lang/Object" (C0 := RJ12) (As := [.ref ((κ p).2.1)]) (rest := []) (K2 := kJ12_equals) (x := ⟨"java/lang/Object", "equals", "(Ljava/lang/Object;)Z"⟩) dJ27_putTreeVal_79 q1224 q1168 (Or.inl q1165) q1206 q776 q122 q778 ⟨by decide, by decide, (show (parseMethodDescriptor "(Ljava/lang/Object;)Z").map (fun d => d.parameters.length) = some 1 from by decide +kernel)⟩ rfl hS0 (cs_equals G h k u bs _ _ hS (κ p).2.1 up9 (tx p) _ _ hKp) rfl (Nat.le_of_ble_eq_true rfl) ⟨Nat.le_of_ble_eq_true rfl, Nat.le_of_ble_eq_true rfl⟩ ⟨by first | omega | (dsimp only; omega) | decide, by first | omega | (dsimp only; omega) | decide⟩ (fun _ _ _ z => z.elim) rfl (fun r_79 h_79 q_79 => ?_)
            obtain ⟨rfl, rfl⟩ := q_79
            refine AW.sts (st' := [.int (bI (decide (bs = tx p)))]) rfl ?_
            refine aw_if_eq (n := 85) (tgt := 88) dJ27_putTreeVal_82 (by decide) rfl (fun c_82 => ?_) (fun c_82 => ?_)
            · skip
              have b_82 : (decide (bs = tx p)) = false := (bI_0 _).mp c_82
              have nt : bs ≠ tx p := of_decide_eq_false b_82
              refine aw_aload (n := 90) dJ27_putTreeVal_88 5 rfl rfl ?_
              refine aw_ifnonnull (tgt := 104) dJ27_putTreeVal_90 (by decide) ?_
              refine aw_aload (n := 106) dJ27_putTreeVal_104 5 rfl rfl ?_
              refine aw_aload (n := 108) dJ27_putTreeVal_106 10 rfl rfl ?_
              refine aw_aload (n := 110) dJ27_putTreeVal_108 0 rfl rfl ?_
              refine aw_callS (n := 113) (As := [.ref (gM G 0), .ref k, .ref ((κ p).2.1)]) (rest := []) (K2 := kJ4_compareComparables) dJ27_putTreeVal_110 q1231 q1232 q112 q1233 hcJ4_compareComparables (hm_cmpC G h k u (κ p).2.1 up9 bs (tx p) _ _ _ _ hS hKp (Or.inl hb8)) rfl (Nat.le_of_ble_eq_true rfl) ⟨Nat.le_of_ble_eq_true rfl, Nat.le_of_ble_eq_true rfl⟩ ⟨by first | omega | (dsimp only; omega) | decide, by first | omega | (dsimp only; omega) | decide⟩ (fun _ _ _ z => z.elim) rfl (fun r_110 h_110 q_110 => ?_)
              obtain ⟨rfl, rfl⟩ := q_110
              refine AW.sts (st' := [.int (cmpT bs (tx p))]) rfl ?_
              refine aw_dup (n := 114) dJ27_putTreeVal_113 rfl rfl ?_
              refine aw_istore (n := 116) (lv' := [(10, .int (cmpT bs (tx p))), (12, .ref ((κ p).2.1)), (11, .int ((κ p).1)), (9, .ref p), (8, .ref root), (7, .int 0), (6, .ref (gM G 0)), (0, .ref root), (1, .ref m), (2, .ref t), (3, .int (spT bs)), (4, .ref k), (5, .ref v)]) dJ27_putTreeVal_114 (by decide) rfl rfl ?_
              refine aw_if_ne (n := 119) (tgt := 193) dJ27_putTreeVal_116 (by decide) rfl (fun c_116 => ?_) (fun c_116 => ?_)
              · skip
                refine aw_aload (n := 195) dJ27_putTreeVal_193 3 rfl rfl ?_
                refine aw_astore (n := 197) (lv' := [(13, .ref p), (10, .int (cmpT bs (tx p))), (12, .ref ((κ p).2.1)), (11, .int ((κ p).1)), (9, .ref p), (8, .ref root), (7, .int 0), (6, .ref (gM G 0)), (0, .ref root), (1, .ref m), (2, .ref t), (3, .int (spT bs)), (4, .ref k), (5, .ref v)]) dJ27_putTreeVal_195 (by decide) rfl rfl ?_
                refine aw_iload (n := 199) dJ27_putTreeVal_197 1 rfl rfl ?_
                refine aw_if_gt (n := 202) (tgt := 210) dJ27_putTreeVal_199 (by decide) rfl (fun c_199 => ?_) (fun c_199 => ?_)
                · skip
                  have hs9 : 0 < cmpT bs (tx p) := c_199
                  have hd9 : ltK (spT (tx p), tx p) (spT bs, bs) := (by rcases ltX_cmp okb.1 okp.1 okb.2 okp.2 with z | z | z; exact absurd z.1 (fun e9 => absurd (Int32.lt_trans c_199 e9) Int32.lt_irrefl); exact absurd z.2 nt; exact Or.inr ⟨eh.symm, z.2⟩)
                  refine aw_aload (n := 212) dJ27_putTreeVal_210 4 rfl rfl ?_
                  rcases optc (rt p) with hq_29 | ⟨r212_29, hq_29⟩
                  · skip
                    refine aw_getf (n := 215) (v := .null) (C0 := RJ27) (T := TJ27) dJ27_putTreeVal_212 rfl 8 q1611 (Or.inl rfl) (hTP p hp).1 (congrArg (fun z9 => some (va_rf z9)) (show rt p = none from by exact hq_29)) rfl ?_
                    refine aw_dup (n := 216) dJ27_putTreeVal_215 rfl rfl ?_
                    refine aw_astoreN (n := 218) (lv' := [(9, .null), (13, .ref p), (10, .int (cmpT bs (tx p))), (12, .ref ((κ p).2.1)), (11, .int ((κ p).1)), (8, .ref root), (7, .int 0), (6, .ref (gM G 0)), (0, .ref root), (1, .ref m), (2, .ref t), (3, .int (spT bs)), (4, .ref k), (5, .ref v)]) dJ27_putTreeVal_216 (by decide) rfl rfl ?_
                    refine aw_ifnonnullN (n := 221) dJ27_putTreeVal_218 rfl ?_
                    exact AW.lvs (lv' := [(13, .ref p), (10, .int (cmpT bs (tx p))), (8, .ref root), (0, .ref root), (1, .ref m), (2, .ref t), (3, .int (spT bs)), (4, .ref k), (5, .ref v)]) (AW.eq (lv2 := _) (rfl) rfl rfl rfl rfl (T9 (cmpT bs (tx p)) (Or.inr ⟨hs9, hd9, hq_29⟩))) (by simp)
                  · skip
                    have k_r212_29 : N r212_29 := BT.ch hB hp (Or.inr hq_29)
                    refine aw_getf (n := 215) (v := .ref r212_29) (C0 := RJ27) (T := TJ27) dJ27_putTreeVal_212 rfl 8 q1611 (Or.inl rfl) (hTP p hp).1 (congrArg (fun z9 => some (va_rf z9)) (show rt p = some r212_29 from by exact hq_29)) rfl ?_
                    refine aw_dup (n := 216) dJ27_putTreeVal_215 rfl rfl ?_
                    refine aw_astore (n := 218) (lv' := [(9, .ref r212_29), (13, .ref p), (10, .int (cmpT bs (tx p))), (12, .ref ((κ p).2.1)), (11, .int ((κ p).1)), (8, .ref root), (7, .int 0), (6, .ref (gM G 0)), (0, .ref root), (1, .ref m), (2, .ref t), (3, .int (spT bs)), (4, .ref k), (5, .ref v)]) dJ27_putTreeVal_216 (by decide) rfl rfl ?_
                    refine aw_ifnonnull (tgt := 311) dJ27_putTreeVal_218 (by decide) ?_
                    refine aw_goto (tgt := 27) dJ27_putTreeVal_311 (by decide) ?_
                    have t9 := kLH_R hB hp g2 hd9 hq_29
                    have m9 := t9.2.1
                    exact AW.lvs (lv' := [(9, .ref r212_29), (8, .ref root), (7, .int 0), (6, .ref (gM G 0)), (0, .ref root), (1, .ref m), (2, .ref t), (3, .int (spT bs)), (4, .ref k), (5, .ref v)]) (AW.eq (lv2 := _) (rfl) rfl rfl rfl rfl (ih_27 r212_29 t9.1 t9.2.2.1 t9.2.2.2 (some (gM G 0)) (Or.inr rfl) (by omega))) (by simp)
                · skip
                  have hs9 : cmpT bs (tx p) ≤ 0 := Int32.not_lt.mp c_199
                  have hd9 : ltK (spT bs, bs) (spT (tx p), tx p) := (by rcases ltX_cmp okb.1 okp.1 okb.2 okp.2 with z | z | z; exact Or.inr ⟨eh, z.2⟩; exact absurd z.2 nt; exact absurd z.1 c_199)
                  refine aw_aload (n := 204) dJ27_putTreeVal_202 4 rfl rfl ?_
                  rcases optc (lf p) with hq_30 | ⟨l204_30, hq_30⟩
                  · skip
                    refine aw_getf (n := 207) (v := .null) (C0 := RJ27) (T := TJ27) dJ27_putTreeVal_204 rfl 7 q1610 (Or.inl rfl) (hTP p hp).1 (congrArg (fun z9 => some (va_rf z9)) (show lf p = none from by exact hq_30)) rfl ?_
                    refine aw_goto (tgt := 215) dJ27_putTreeVal_207 (by decide) ?_
                    refine aw_dup (n := 216) dJ27_putTreeVal_215 rfl rfl ?_
                    refine aw_astoreN (n := 218) (lv' := [(9, .null), (13, .ref p), (10, .int (cmpT bs (tx p))), (12, .ref ((κ p).2.1)), (11, .int ((κ p).1)), (8, .ref root), (7, .int 0), (6, .ref (gM G 0)), (0, .ref root), (1, .ref m), (2, .ref t), (3, .int (spT bs)), (4, .ref k), (5, .ref v)]) dJ27_putTreeVal_216 (by decide) rfl rfl ?_
                    refine aw_ifnonnullN (n := 221) dJ27_putTreeVal_218 rfl ?_
                    exact AW.lvs (lv' := [(13, .ref p), (10, .int (cmpT bs (tx p))), (8, .ref root), (0, .ref root), (1, .ref m), (2, .ref t), (3, .int (spT bs)), (4, .ref k), (5, .ref v)]) (AW.eq (lv2 := _) (rfl) rfl rfl rfl rfl (T9 (cmpT bs (tx p)) (Or.inl ⟨hs9, hd9, hq_30⟩))) (by simp)
                  · skip
                    have k_l204_30 : N l204_30 := BT.ch hB hp (Or.inl hq_30)
                    refine aw_getf (n := 207) (v := .ref l204_30) (C0 := RJ27) (T := TJ27) dJ27_putTreeVal_204 rfl 7 q1610 (Or.inl rfl) (hTP p hp).1 (congrArg (fun z9 => some (va_rf z9)) (show lf p = some l204_30 from by exact hq_30)) rfl ?_
                    refine aw_goto (tgt := 215) dJ27_putTreeVal_207 (by decide) ?_
                    refine aw_dup (n := 216) dJ27_putTreeVal_215 rfl rfl ?_
                    refine aw_astore (n := 218) (lv' := [(9, .ref l204_30), (13, .ref p), (10, .int (cmpT bs (tx p))), (12, .ref ((κ p).2.1)), (11, .int ((κ p).1)), (8, .ref root), (7, .int 0), (6, .ref (gM G 0)), (0, .ref root), (1, .ref m), (2, .ref t), (3, .int (spT bs)), (4, .ref k), (5, .ref v)]) dJ27_putTreeVal_216 (by decide) rfl rfl ?_
                    refine aw_ifnonnull (tgt := 311) dJ27_putTreeVal_218 (by decide) ?_
                    refine aw_goto (tgt := 27) dJ27_putTreeVal_311 (by decide) ?_
                    have t9 := kLH_L hB hp g1 hd9 hq_30
                    have m9 := t9.2.1
                    exact AW.lvs (lv' := [(9, .ref l204_30), (8, .ref root), (7, .int 0), (6, .ref (gM G 0)), (0, .ref root), (1, .ref m), (2, .ref t), (3, .int (spT bs)), (4, .ref k), (5, .ref v)]) (AW.eq (lv2 := _) (rfl) rfl rfl rfl rfl (ih_27 l204_30 t9.1 t9.2.2.1 t9.2.2.2 (some (gM G 0)) (Or.inr rfl) (by omega))) (by simp)
              · skip
                exfalso; rcases ltX_cmp okb.1 okp.1 okb.2 okp.2 with z | z | z; rw [c_116] at z; exact absurd z.1 (by decide); exact nt z.2; rw [c_116] at z; exact absurd z.1 (by decide)
            · skip
              have b_82 : (decide (bs = tx p)) = true := Bool.of_not_eq_false (fun e => c_82 ((bI_0 _).mpr e))
              exact absurd (of_decide_eq_true b_82).symm (hab p hp)
        · skip
          have g9 : spT (tx p) < spT bs := by rw [← hKh]; exact Int32.not_le.mp c_48
          have hd9 : ltK (spT (tx p), tx p) (spT bs, bs) := Or.inl g9
          have hs9 : (0 : Int32) < 1 := by decide
          refine aw_iconst (n := 52) (v := 1) dJ27_putTreeVal_51 (by decide) rfl ?_
          refine aw_istore (n := 54) (lv' := [(10, .int 1), (11, .int ((κ p).1)), (9, .ref p), (8, .ref root), (7, .int 0), (6, .ref (gM G 0)), (0, .ref root), (1, .ref m), (2, .ref t), (3, .int (spT bs)), (4, .ref k), (5, .ref v)]) dJ27_putTreeVal_52 (by decide) rfl rfl ?_
          refine aw_goto (tgt := 193) dJ27_putTreeVal_54 (by decide) ?_
          refine aw_aload (n := 195) dJ27_putTreeVal_193 2 rfl rfl ?_
          refine aw_astore (n := 197) (lv' := [(13, .ref p), (10, .int 1), (11, .int ((κ p).1)), (9, .ref p), (8, .ref root), (7, .int 0), (6, .ref (gM G 0)), (0, .ref root), (1, .ref m), (2, .ref t), (3, .int (spT bs)), (4, .ref k), (5, .ref v)]) dJ27_putTreeVal_195 (by decide) rfl rfl ?_
          refine aw_iload (n := 199) dJ27_putTreeVal_197 1 rfl rfl ?_
          refine aw_if_gt (n := 202) (tgt := 210) dJ27_putTreeVal_199 (by decide) rfl (fun c_199_2 => ?_) (fun c_199_2 => ?_)
          · skip
            refine aw_aload (n := 212) dJ27_putTreeVal_210 3 rfl rfl ?_
            rcases optc (rt p) with hq_31 | ⟨r212_31, hq_31⟩
            · skip
              refine aw_getf (n := 215) (v := .null) (C0 := RJ27) (T := TJ27) dJ27_putTreeVal_212 rfl 8 q1611 (Or.inl rfl) (hTP p hp).1 (congrArg (fun z9 => some (va_rf z9)) (show rt p = none from by exact hq_31)) rfl ?_
              refine aw_dup (n := 216) dJ27_putTreeVal_215 rfl rfl ?_
              refine aw_astoreN (n := 218) (lv' := [(9, .null), (13, .ref p), (10, .int 1), (11, .int ((κ p).1)), (8, .ref root), (7, .int 0), (6, .ref (gM G 0)), (0, .ref root), (1, .ref m), (2, .ref t), (3, .int (spT bs)), (4, .ref k), (5, .ref v)]) dJ27_putTreeVal_216 (by decide) rfl rfl ?_
              refine aw_ifnonnullN (n := 221) dJ27_putTreeVal_218 rfl ?_
              exact AW.lvs (lv' := [(13, .ref p), (10, .int 1), (8, .ref root), (0, .ref root), (1, .ref m), (2, .ref t), (3, .int (spT bs)), (4, .ref k), (5, .ref v)]) (AW.eq (lv2 := _) (rfl) rfl rfl rfl rfl (T9 1 (Or.inr ⟨hs9, hd9, hq_31⟩))) (by simp)
            · skip
              have k_r212_31 : N r212_31 := BT.ch hB hp (Or.inr hq_31)
              refine aw_getf (n := 215) (v := .ref r212_31) (C0 := RJ27) (T := TJ27) dJ27_putTreeVal_212 rfl 8 q1611 (Or.inl rfl) (hTP p hp).1 (congrArg (fun z9 => some (va_rf z9)) (show rt p = some r212_31 from by exact hq_31)) rfl ?_
              refine aw_dup (n := 216) dJ27_putTreeVal_215 rfl rfl ?_
              refine aw_astore (n := 218) (lv' := [(9, .ref r212_31), (13, .ref p), (10, .int 1), (11, .int ((κ p).1)), (8, .ref root), (7, .int 0), (6, .ref (gM G 0)), (0, .ref root), (1, .ref m), (2, .ref t), (3, .int (spT bs)), (4, .ref k), (5, .ref v)]) dJ27_putTreeVal_216 (by decide) rfl rfl ?_
              refine aw_ifnonnull (tgt := 311) dJ27_putTreeVal_218 (by decide) ?_
              refine aw_goto (tgt := 27) dJ27_putTreeVal_311 (by decide) ?_
              have t9 := kLH_R hB hp g2 hd9 hq_31
              have m9 := t9.2.1
              exact AW.lvs (lv' := [(9, .ref r212_31), (8, .ref root), (7, .int 0), (6, .ref (gM G 0)), (0, .ref root), (1, .ref m), (2, .ref t), (3, .int (spT bs)), (4, .ref k), (5, .ref v)]) (AW.eq (lv2 := _) (rfl) rfl rfl rfl rfl (ih_27 r212_31 t9.1 t9.2.2.1 t9.2.2.2 (some (gM G 0)) (Or.inr rfl) (by omega))) (by simp)
          · skip
            exact absurd c_199_2 (by decide +kernel)
      · skip
        have g9 : spT bs < spT (tx p) := by rw [← hKh]; exact Int32.not_le.mp c_36
        have hd9 : ltK (spT bs, bs) (spT (tx p), tx p) := Or.inl g9
        have hs9 : (-1 : Int32) ≤ 0 := by decide
        refine aw_iconst (n := 40) (v := (-1)) dJ27_putTreeVal_39 (by decide) rfl ?_
        refine aw_istore (n := 42) (lv' := [(10, .int (-1)), (11, .int ((κ p).1)), (9, .ref p), (8, .ref root), (7, .int 0), (6, .ref (gM G 0)), (0, .ref root), (1, .ref m), (2, .ref t), (3, .int (spT bs)), (4, .ref k), (5, .ref v)]) dJ27_putTreeVal_40 (by decide) rfl rfl ?_
        refine aw_goto (tgt := 193) dJ27_putTreeVal_42 (by decide) ?_
        refine aw_aload (n := 195) dJ27_putTreeVal_193 2 rfl rfl ?_
        refine aw_astore (n := 197) (lv' := [(13, .ref p), (10, .int (-1)), (11, .int ((κ p).1)), (9, .ref p), (8, .ref root), (7, .int 0), (6, .ref (gM G 0)), (0, .ref root), (1, .ref m), (2, .ref t), (3, .int (spT bs)), (4, .ref k), (5, .ref v)]) dJ27_putTreeVal_195 (by decide) rfl rfl ?_
        refine aw_iload (n := 199) dJ27_putTreeVal_197 1 rfl rfl ?_
        refine aw_if_gt (n := 202) (tgt := 210) dJ27_putTreeVal_199 (by decide) rfl (fun c_199_3 => ?_) (fun c_199_3 => ?_)
        · skip
          exact absurd c_199_3 (by decide +kernel)
        · skip
          refine aw_aload (n := 204) dJ27_putTreeVal_202 3 rfl rfl ?_
          rcases optc (lf p) with hq_32 | ⟨l204_32, hq_32⟩
          · skip
            refine aw_getf (n := 207) (v := .null) (C0 := RJ27) (T := TJ27) dJ27_putTreeVal_204 rfl 7 q1610 (Or.inl rfl) (hTP p hp).1 (congrArg (fun z9 => some (va_rf z9)) (show lf p = none from by exact hq_32)) rfl ?_
            refine aw_goto (tgt := 215) dJ27_putTreeVal_207 (by decide) ?_
            refine aw_dup (n := 216) dJ27_putTreeVal_215 rfl rfl ?_
            refine aw_astoreN (n := 218) (lv' := [(9, .null), (13, .ref p), (10, .int (-1)), (11, .int ((κ p).1)), (8, .ref root), (7, .int 0), (6, .ref (gM G 0)), (0, .ref root), (1, .ref m), (2, .ref t), (3, .int (spT bs)), (4, .ref k), (5, .ref v)]) dJ27_putTreeVal_216 (by decide) rfl rfl ?_
            refine aw_ifnonnullN (n := 221) dJ27_putTreeVal_218 rfl ?_
            exact AW.lvs (lv' := [(13, .ref p), (10, .int (-1)), (8, .ref root), (0, .ref root), (1, .ref m), (2, .ref t), (3, .int (spT bs)), (4, .ref k), (5, .ref v)]) (AW.eq (lv2 := _) (rfl) rfl rfl rfl rfl (T9 (-1) (Or.inl ⟨hs9, hd9, hq_32⟩))) (by simp)
          · skip
            have k_l204_32 : N l204_32 := BT.ch hB hp (Or.inl hq_32)
            refine aw_getf (n := 207) (v := .ref l204_32) (C0 := RJ27) (T := TJ27) dJ27_putTreeVal_204 rfl 7 q1610 (Or.inl rfl) (hTP p hp).1 (congrArg (fun z9 => some (va_rf z9)) (show lf p = some l204_32 from by exact hq_32)) rfl ?_
            refine aw_goto (tgt := 215) dJ27_putTreeVal_207 (by decide) ?_
            refine aw_dup (n := 216) dJ27_putTreeVal_215 rfl rfl ?_
            refine aw_astore (n := 218) (lv' := [(9, .ref l204_32), (13, .ref p), (10, .int (-1)), (11, .int ((κ p).1)), (8, .ref root), (7, .int 0), (6, .ref (gM G 0)), (0, .ref root), (1, .ref m), (2, .ref t), (3, .int (spT bs)), (4, .ref k), (5, .ref v)]) dJ27_putTreeVal_216 (by decide) rfl rfl ?_
            refine aw_ifnonnull (tgt := 311) dJ27_putTreeVal_218 (by decide) ?_
            refine aw_goto (tgt := 27) dJ27_putTreeVal_311 (by decide) ?_
            have t9 := kLH_L hB hp g1 hd9 hq_32
            have m9 := t9.2.1
            exact AW.lvs (lv' := [(9, .ref l204_32), (8, .ref root), (7, .int 0), (6, .ref (gM G 0)), (0, .ref root), (1, .ref m), (2, .ref t), (3, .int (spT bs)), (4, .ref k), (5, .ref v)]) (AW.eq (lv2 := _) (rfl) rfl rfl rfl rfl (ih_27 l204_32 t9.1 t9.2.2.1 t9.2.2.2 (some (gM G 0)) (Or.inr rfl) (by omega))) (by simp)

end
