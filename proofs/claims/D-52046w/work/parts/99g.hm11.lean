/-! HashMap: treeifyBin. -/
section
set_option maxRecDepth 100000
theorem TPic.w {G : aG} {h h1 : hH} {N : Nat → Prop} {κ : kF} {nx pa lf rt pv : oF} {rd : Nat → Bool} {a : Nat} {e : hE} (H : TPic G h N κ nx pa lf rt pv rd) (w : hW1 h h1 a e) (hn : ∀ x, N x → x ≠ a) : TPic G h1 N κ nx pa lf rt pv rd := fun x hx => ⟨(w.2.1 x (hn x hx)).trans (H x hx).1, (H x hx).2⟩
/-- the copies so far -/
def cpI (G : aG) (h0 hh : hH) (κ : kF) (tx : Nat → List Nat) (A Q : List Nat) (hd tl : Option Nat) (κ1 : kF) (tx1 : Nat → List Nat) (nx1 pv1 : oF) : Prop :=
  TPic G hh (fun q => q ∈ Q) κ1 nx1 nF nF nF pv1 fF ∧ och nx1 hd tl Q ∧ (∀ t, tl = some t → nx1 t = none) ∧ Q.map (fun q => (κ1 q, tx1 q)) = A.map (fun q => (κ q, tx q)) ∧ Q.Nodup ∧ (∀ q, q ∈ Q → h0.1 ≤ q ∧ q < hh.1) ∧ LW (fun q => q ∈ Q) nx1 pv1
theorem cpI.nil (G : aG) (h0 hh : hH) (κ : kF) (tx : Nat → List Nat) (κ1 : kF) (tx1 : Nat → List Nat) (nx1 pv1 : oF) : cpI G h0 hh κ tx [] [] none none κ1 tx1 nx1 pv1 := ⟨(fun _ m => by cases m), och.nil, (fun _ e => nomatch e), rfl, List.nodup_nil, (fun _ m => by cases m), (fun _ m => by cases m)⟩
theorem map_ne {κ1 : kF} {tx1 : Nat → List Nat} {Q : List Nat} {x : Nat} {c : Int32 × Nat × Nat} {b : List Nat} (hx : x ∉ Q) : Q.map (fun q => ((if q = x then c else κ1 q), (if q = x then b else tx1 q))) = Q.map (fun q => (κ1 q, tx1 q)) := List.map_congr_left fun q hq => by
  have e : q ≠ x := fun e => hx (e ▸ hq)
  simp only [if_neg e]
theorem cpI.one {G : aG} {h0 hh h1 : hH} {κ : kF} {tx : Nat → List Nat} {κ1 : kF} {tx1 : Nat → List Nat} {nx1 pv1 : oF} {x e : Nat} (hx : x = hh.1) (hb : h0.1 ≤ hh.1) (hz : h1.1 = hh.1 + 1) (H : TPic G h1 (fun q => q ∈ ([] : List Nat) ∨ q = x) (fun q => if q = x then ((κ e).1, (κ e).2.1, (κ e).2.2) else κ1 q) (up nx1 x none) (up nF x none) (up nF x none) (up nF x none) (up pv1 x none) (ub fF x false)) : cpI G h0 h1 κ tx [e] [x] (some x) (some x) (fun q => if q = x then ((κ e).1, (κ e).2.1, (κ e).2.2) else κ1 q) (fun q => if q = x then tx e else tx1 q) (up nx1 x none) (up pv1 x none) := by
  refine ⟨H.cg (fun q m => Or.inr (List.mem_singleton.mp m)) (fun _ _ => rfl) (fun _ _ => rfl) (fun q _ => by simp [up]) (fun q _ => by simp [up]) (fun q _ => by simp [up]) (fun _ _ => rfl) (fun q _ => by simp [ub]), och.one, fun t et => ?_, by simp, by simp, fun q m => ?_, fun q m => ?_⟩
  · cases et; simp [up]
  · have := List.mem_singleton.mp m; omega
  · have e9 := List.mem_singleton.mp m
    subst e9
    exact ⟨fun y hy => by simp [up] at hy, fun y hy => by simp [up] at hy⟩
theorem cpI.snoc {G : aG} {h0 hh h1 : hH} {κ : kF} {tx : Nat → List Nat} {A Q : List Nat} {hd : Option Nat} {t1 : Nat} {κ1 : kF} {tx1 : Nat → List Nat} {nx1 pv1 : oF} {x e : Nat} (I : cpI G h0 hh κ tx A Q hd (some t1) κ1 tx1 nx1 pv1) (ht : t1 ∈ Q) (hx : x = hh.1) (hb : h0.1 ≤ hh.1) (hz : h1.1 = hh.1 + 1) (H : TPic G h1 (fun q => q ∈ Q ∨ q = x) (fun q => if q = x then ((κ e).1, (κ e).2.1, (κ e).2.2) else κ1 q) (up (up nx1 x none) t1 (some x)) (up nF x none) (up nF x none) (up nF x none) (up (up pv1 x none) x (some t1)) (ub fF x false)) : cpI G h0 h1 κ tx (A ++ [e]) (Q ++ [x]) hd (some x) (fun q => if q = x then ((κ e).1, (κ e).2.1, (κ e).2.2) else κ1 q) (fun q => if q = x then tx e else tx1 q) (up (up nx1 x none) t1 (some x)) (up (up pv1 x none) x (some t1)) := by
  obtain ⟨i1, i2, i3, i4, i5, i6, i7⟩ := I
  have hxQ : x ∉ Q := fun m => by have := (i6 x m).2; omega
  have hxt : x ≠ t1 := fun e9 => hxQ (e9 ▸ ht)
  refine ⟨H.cg (fun q m => (List.mem_append.mp m).imp id List.mem_singleton.mp) (fun _ _ => rfl) (fun _ _ => rfl) (fun q _ => by simp [up]) (fun q _ => by simp [up]) (fun q _ => by simp [up]) (fun _ _ => rfl) (fun q _ => by simp [ub]), (i2.upd hxQ).snoc i5, fun t et => ?_, ?_, ?_, fun q m => ?_, fun q m => ?_⟩
  · cases et; simp [up, hxt]
  · rw [List.map_append, List.map_append, map_ne hxQ, i4]; simp
  · exact List.nodup_append.mpr ⟨i5, by simp, fun a ha b hb9 e9 => hxQ (by rw [← List.mem_singleton.mp hb9, ← e9]; exact ha)⟩
  · rcases List.mem_append.mp m with m | m
    · have := i6 q m; omega
    · have := List.mem_singleton.mp m; omega
  · have inx : x ∈ Q ++ [x] := List.mem_append_right _ (List.mem_singleton.mpr rfl)
    have ind : ∀ y, y ∈ Q → y ∈ Q ++ [x] := fun y m9 => List.mem_append_left _ m9
    refine ⟨fun y hy => ?_, fun y hy => ?_⟩
    · unfold up at hy
      by_cases e1 : q = t1
      · rw [if_pos e1] at hy; cases hy; exact inx
      · rw [if_neg e1] at hy
        by_cases e2 : q = x
        · rw [if_pos e2] at hy; cases hy
        · rw [if_neg e2] at hy
          rcases List.mem_append.mp m with m | m
          · exact ind y ((i7 q m).1 y hy)
          · exact absurd (List.mem_singleton.mp m) e2
    · unfold up at hy
      by_cases e2 : q = x
      · rw [if_pos e2] at hy; cases hy; exact ind _ ht
      · rw [if_neg e2, if_neg e2] at hy
        rcases List.mem_append.mp m with m | m
        · exact ind y ((i7 q m).2 y hy)
        · exact absurd (List.mem_singleton.mp m) e2
theorem cpI.fin {G : aG} {h0 hh : hH} {κ : kF} {tx : Nat → List Nat} {A Q : List Nat} {hd : Option Nat} {t1 : Nat} {κ1 : kF} {tx1 : Nat → List Nat} {nx1 pv1 : oF} (I : cpI G h0 hh κ tx A Q hd (some t1) κ1 tx1 nx1 pv1) : ∃ d L, hd = some d ∧ Q = d :: L ∧ chn nx1 (nx1 d) L := by
  obtain ⟨i1, i2, i3, i4, i5, i6, i7⟩ := I
  cases Q with
  | nil => exact absurd i2.2 (by simp)
  | cons d L => exact ⟨d, L, i2.1, rfl, (i2.cl2 (i3 t1 rfl)).2⟩
abbrev kJ4_replacementTreeNode : aK := (yJ4_replacementTreeNode, cJ4_replacementTreeNode, 3, (Option.some (Jvm.ClassFile.FieldType.object "java/util/HashMap$TreeNode")), [])
theorem hcJ4_replacementTreeNode : kJ4_replacementTreeNode.1.cls ≠ "java/lang/invoke/MethodHandle" ∧ kJ4_replacementTreeNode.1.cls ≠ "java/lang/invoke/VarHandle" ∧ (parseMethodDescriptor kJ4_replacementTreeNode.1.desc).map (fun d => d.parameters.length) = some 2 := ⟨by decide, by decide, by decide +kernel⟩
theorem hm_rtn (G : aG) (h : hH) (m p k v : Nat) (w : Int32) (o : Value) (hP : h.2 p = some (hob 26 [.int w, .ref k, .ref v, o])) : Con G kJ4_replacementTreeNode [.ref m, .ref p, .null] h ((5, 96, 1, 11), (fun r h1 => ∃ x : Nat, r = some (.ref x) ∧ x = h.1 ∧ gB G ≤ x ∧ h1.2 x = some (hob 27 [.null, .null, .int w, .ref k, .ref v, va_rf none, .null, .null, .null, .null, .int 0]) ∧ Fr nS h h1 ∧ h1.1 = h.1 + 1), nX) := by
  refine Con.of (plainFor_of_name rfl) rfl (Nat.le_of_ble_eq_true rfl) ?_
  refine AW.eq (lv2 := [(0, .ref m), (1, .ref p), (2, .null)]) (s2 := []) rfl rfl rfl rfl rfl ?_
  refine aw_know (fun gd hi => ?_)
  have lt_p : p < h.1 := hi.2.1 _ _ hP
  refine aw_newK (n := 3) (C0 := RJ27) (T := TJ27) (N := 11) (ci := 27) (fs := [.null, .null, .int 0, .null, .null, .null, .null, .null, .null, .null, .int 0]) dJ4_replacementTreeNode_0 rfl in_J27 tyJ27 tyJ27_ok q1211 11 q1601 q145 rfl dfJ27 (by first | omega | (dsimp only; omega) | decide) (by first | omega | (dsimp only; omega) | decide) rfl (by first | rfl | omega) (by first | rfl | omega) (fun y_1 u_1 bu_1 w_1 => ?_)
  have eu_1 : u_1 = h.1 := w_1.2.2.1
  have zy_1 : y_1.1 = u_1 + 1 := w_1.2.2.2
  refine aw_dup (n := 4) dJ4_replacementTreeNode_3 rfl rfl ?_
  refine aw_aload_n (n := 5) dJ4_replacementTreeNode_4 rfl 1 rfl rfl ?_
  have f_2 : y_1.2 p = some (hob 26 [.int w, .ref k, .ref v, o]) := (w_1.k (by omega) hP)
  refine aw_getf (n := 8) (v := .int w) (C0 := RJ25) (T := TJ25) dJ4_replacementTreeNode_5 rfl 0 q1549 (Or.inl rfl) f_2 rfl rfl ?_
  refine aw_aload_n (n := 9) dJ4_replacementTreeNode_8 rfl 1 rfl rfl ?_
  refine aw_getf (n := 12) (v := .ref k) (C0 := RJ25) (T := TJ25) dJ4_replacementTreeNode_9 rfl 1 q1553 (Or.inl rfl) f_2 rfl rfl ?_
  refine aw_aload_n (n := 13) dJ4_replacementTreeNode_12 rfl 1 rfl rfl ?_
  refine aw_getf (n := 16) (v := .ref v) (C0 := RJ25) (T := TJ25) dJ4_replacementTreeNode_13 rfl 2 q1555 (Or.inl rfl) f_2 rfl rfl ?_
  refine aw_aload_nN (n := 17) dJ4_replacementTreeNode_16 rfl 2 rfl rfl ?_
  refine AW.sts (st' := [va_rf none, .ref v, .ref k, .int w, .ref u_1, .ref u_1]) rfl ?_
  refine aw_callI (n := 20) (As := [.int w, .ref k, .ref v, va_rf none]) (rest := [.ref u_1]) (K2 := kJ27_init) dJ4_replacementTreeNode_17 q1602 q1603 q145 q1604 rfl rfl hcJ27_init (hm_tnI G y_1 u_1 k v w none bu_1 w_1.1) rfl (Nat.le_of_ble_eq_true rfl) ⟨Nat.le_of_ble_eq_true rfl, Nat.le_of_ble_eq_true rfl⟩ ⟨by first | omega | (dsimp only; omega) | decide, by first | omega | (dsimp only; omega) | decide⟩ (fun _ _ _ z => z.elim) rfl (fun r_17 h_17 q_17 => ?_)
  obtain ⟨rfl, hX1, hF1, hz1⟩ := q_17
  have zc_17 : y_1.1 ≤ h_17.1 := hF1.1
  refine AW.sts (st' := [.ref u_1]) rfl ?_
  exact aw_aret dJ4_replacementTreeNode_20 rfl (Or.inl ⟨_, rfl⟩) (Or.inr ⟨_, rfl⟩) ⟨u_1, rfl, by omega, bu_1, hX1, (Fr.c (Fr.n Fr.rf w_1) hF1 (fun a9 z9 => by have z9 : a9 = u_1 := z9; rw [z9]; exact (Or.inr (by omega)))), by omega⟩ ⟨(by first | exact Nat.le_refl _ | omega | (dsimp only; omega)), (by first | exact Nat.le_refl _ | omega | (dsimp only; omega))⟩

abbrev kJ4_treeifyBin : aK := (yJ4_treeifyBin, cJ4_treeifyBin, 9, (Option.none : Option Jvm.ClassFile.FieldType), [])
theorem hcJ4_treeifyBin : kJ4_treeifyBin.1.cls ≠ "java/lang/invoke/MethodHandle" ∧ kJ4_treeifyBin.1.cls ≠ "java/lang/invoke/VarHandle" ∧ (parseMethodDescriptor kJ4_treeifyBin.1.desc).map (fun d => d.parameters.length) = some 2 := ⟨by decide, by decide, by decide +kernel⟩
theorem hm_tfbN (G : aG) (h : hH) (E : hH) (m : Nat) (g : List Nat → Option Nat) (sF sz : Nat) (mc : Int32) (lv : Value) (t n : Nat) (f : Nat → Value) (Ms : Nat → Nat → Prop) (hbm : gB G ≤ m) (hM : h.2 m = some (hobM (.ref t) sF mc (3 * n / 4) lv)) (hT : isTB G E h g t n f Ms sz) (hn2 : n = 16 ∨ n = 32) (ww : Int32) : Con G kJ4_treeifyBin [.ref m, .ref t, .int ww] h ((30, 1600, 1, 64), (fun r h1 => r = none ∧ ∃ (t2 : Nat) (f2 : Nat → Value) (M2 : Nat → Nat → Prop), t2 = h.1 ∧ h1.2 m = some (hobM (.ref t2) sF mc (3 * (2 * n) / 4) lv) ∧ isTB G E h1 g t2 (2 * n) f2 M2 sz ∧ (∀ i q, i < 2 * n → M2 i q → ∃ k, k < n ∧ Ms k q) ∧ Fr (fun q => q = m ∨ q = t ∨ ∃ i, i < n ∧ Ms i q) h h1 ∧ h1.1 = h.1 + 1), nX) := by
  obtain ⟨hA, hbt, hn, hBs⟩ := id hT
  have hn9 : n ≤ 32 := by rcases hn2 with e | e <;> omega
  refine Con.of (plainFor_of_name rfl) rfl (Nat.le_of_ble_eq_true rfl) ?_
  refine AW.eq (lv2 := [(0, .ref m), (1, .ref t), (2, .int ww)]) (s2 := []) rfl rfl rfl rfl rfl ?_
  refine aw_know (fun gd hi => ?_)
  have lt_m : m < h.1 := hi.2.1 _ _ hM
  have lt_t : t < h.1 := hi.2.1 _ _ hA
  refine aw_aload_n (n := 1) dJ4_treeifyBin_0 rfl 1 rfl rfl ?_
  refine aw_ifnull (n := 4) dJ4_treeifyBin_1 rfl ?_
  refine aw_aload_n (n := 5) dJ4_treeifyBin_4 rfl 1 rfl rfl ?_
  refine aw_alen (n := 6) (v := nI n) dJ4_treeifyBin_5 rfl hA rfl rfl ?_
  refine aw_dup (n := 7) dJ4_treeifyBin_6 rfl rfl ?_
  refine aw_istore_n (n := 8) (lv' := [(3, .int (nI n)), (0, .ref m), (1, .ref t), (2, .int ww)]) dJ4_treeifyBin_7 rfl (by decide) rfl rfl ?_
  refine aw_bipush (n := 10) (v := 64) dJ4_treeifyBin_8 (by decide) rfl ?_
  refine aw_icmp_ge (n := 13) (tgt := 21) dJ4_treeifyBin_10 (by decide) rfl (fun c_10 => ?_) (fun c_10 => ?_)
  · skip
    have n_10 : 64 ≤ n := (nI_leI (a := 64) (b := n) (by omega) (by omega)).mp (by rw [← ((by rfl) : (64 : Int32) = nI 64)]; exact c_10)
    exfalso; omega
  · skip
    have n_10 : ¬ (64 ≤ n) := fun z => c_10 (by have y := (nI_leI (a := 64) (b := n) (by omega) (by omega)).mpr z; rw [← ((by rfl) : (64 : Int32) = nI 64)] at y; exact y)
    refine aw_aload_n (n := 14) dJ4_treeifyBin_13 rfl 1 rfl rfl ?_
    refine aw_callV (n := 17) (C0 := RJ4) (As := []) (rest := []) (K2 := kJ4_resize) dJ4_treeifyBin_14 q1519 q1520 q1521 q112 q1522 ⟨rfl, hcJ4_resize⟩ rfl hM (hm_rsT G h E m g sF sz mc lv t n f Ms hbm hM hT hn2) rfl (Nat.le_of_ble_eq_true rfl) ⟨Nat.le_of_ble_eq_true rfl, Nat.le_of_ble_eq_true rfl⟩ ⟨by first | omega | (dsimp only; omega) | decide, by first | omega | (dsimp only; omega) | decide⟩ (fun _ _ _ z => z.elim) rfl (fun r_14 h_14 q_14 => ?_)
    obtain ⟨t2, f2, M2, rfl, q1, q2, q3, q4, q5, q6⟩ := q_14
    refine AW.sts (st' := [.ref t2]) rfl ?_
    refine aw_pop (n := 18) dJ4_treeifyBin_17 rfl rfl ?_
    refine aw_goto (tgt := 109) dJ4_treeifyBin_18 (by decide) ?_
    exact aw_vret dJ4_treeifyBin_109 rfl ⟨rfl, t2, f2, M2, q1, q2, q3, q4, q5, q6⟩ ⟨(by first | exact Nat.le_refl _ | omega | (dsimp only; omega)), (by first | exact Nat.le_refl _ | omega | (dsimp only; omega))⟩

theorem hm_tfb64 (G : aG) (h : hH) (E : hH) (m : Nat) (mf : List Value) (g : List Nat → Option Nat) (sz : Nat) (t : Nat) (f : Nat → Value) (Ms : Nat → Nat → Prop) (hMm : h.2 m = some (hob 25 mf)) (hs : sub E h) (hT : isTB G E h g t 64 f Ms sz) (i : Nat) (hi0 : i < 64) (ww : Int32) (hix : (nI 64 - 1) &&& ww = nI i) (κ : kF) (tx : Nat → List Nat) (nx : oF) (e0 : Nat) (L1 : List Nat) (hBK : BinK E g 64 i (Ms i) κ tx) (hv : f i = .ref e0) (hch : chn nx (nx e0) L1) (hnd : (e0 :: L1).Nodup) (hML : ∀ q, Ms i q ↔ q ∈ e0 :: L1) (hCP : CPic G h (Ms i) κ nx) (hL1 : L1 ≠ []) (hlen : L1.length + 1 ≤ 24) : Con G kJ4_treeifyBin [.ref m, .ref t, .int ww] h ((30, 1600, 24, 264), (fun r h1 => r = none ∧ ∃ (f1 : Nat → Value) (M1 : Nat → Prop), isTB G E h1 g t 64 f1 (fun k => if k = i then M1 else Ms k) sz ∧ (∀ q, M1 q → h.1 ≤ q) ∧ Fr (fun q => q = t) h h1), nX) := by
  obtain ⟨hA, hbt, hn, hBs⟩ := id hT
  have hMe0 : Ms i e0 := (hML e0).mpr List.mem_cons_self
  refine Con.of (plainFor_of_name rfl) rfl (Nat.le_of_ble_eq_true rfl) ?_
  refine AW.eq (lv2 := [(0, .ref m), (1, .ref t), (2, .int ww)]) (s2 := []) rfl rfl rfl rfl rfl ?_
  refine aw_know (fun gd hi => ?_)
  have lt_m : m < h.1 := hi.2.1 _ _ hMm
  have lt_t : t < h.1 := hi.2.1 _ _ hA
  have hMl : ∀ j q, j < 64 → Ms j q → q < h.1 ∧ q ≠ t := fun j q hj hq => by obtain ⟨_, w9, _, ⟨k9, v9, o9, g9⟩ | ⟨k9, v9, a1, a2, a3, a4, a5, a6, g9⟩⟩ := (hBs j hj).node hq; exact ⟨hi.2.1 _ _ g9, ne_kind g9 hA ob_ar⟩; exact ⟨hi.2.1 _ _ g9, ne_kind g9 hA ob_ar⟩
  refine aw_aload_n (n := 1) dJ4_treeifyBin_0 rfl 1 rfl rfl ?_
  refine aw_ifnull (n := 4) dJ4_treeifyBin_1 rfl ?_
  refine aw_aload_n (n := 5) dJ4_treeifyBin_4 rfl 1 rfl rfl ?_
  refine aw_alen (n := 6) (v := nI 64) dJ4_treeifyBin_5 rfl hA rfl rfl ?_
  refine aw_dup (n := 7) dJ4_treeifyBin_6 rfl rfl ?_
  refine aw_istore_n (n := 8) (lv' := [(3, .int (nI 64)), (0, .ref m), (1, .ref t), (2, .int ww)]) dJ4_treeifyBin_7 rfl (by decide) rfl rfl ?_
  refine aw_bipush (n := 10) (v := 64) dJ4_treeifyBin_8 (by decide) rfl ?_
  refine aw_icmp_ge (n := 13) (tgt := 21) dJ4_treeifyBin_10 (by decide) rfl (fun c_10 => ?_) (fun c_10 => ?_)
  · skip
    refine aw_aload_n (n := 22) dJ4_treeifyBin_21 rfl 2 rfl rfl ?_
    refine aw_iload_n (n := 23) dJ4_treeifyBin_22 rfl 0 rfl rfl ?_
    refine aw_iconst (n := 24) (v := 1) dJ4_treeifyBin_23 (by decide) rfl ?_
    refine aw_isub (n := 25) dJ4_treeifyBin_24 rfl ?_
    refine aw_iload_n (n := 26) dJ4_treeifyBin_25 rfl 3 rfl rfl ?_
    refine aw_iand (n := 27) dJ4_treeifyBin_26 rfl ?_
    refine AW.sts (st' := [.int (nI i), .ref t]) (by rw [hix]) ?_
    refine aw_dup (n := 28) dJ4_treeifyBin_27 rfl rfl ?_
    refine aw_istore (n := 30) (lv' := [(4, .int (nI i)), (3, .int (nI 64)), (0, .ref m), (1, .ref t), (2, .int ww)]) dJ4_treeifyBin_28 (by decide) rfl rfl ?_
    refine aw_aald (n := 31) (v := .ref e0) dJ4_treeifyBin_30 rfl rfl i rfl hA hi0 (by decide) hv rfl ?_
    refine aw_dup (n := 32) dJ4_treeifyBin_31 rfl rfl ?_
    refine aw_astore (n := 34) (lv' := [(5, .ref e0), (4, .int (nI i)), (3, .int (nI 64)), (0, .ref m), (1, .ref t), (2, .int ww)]) dJ4_treeifyBin_32 (by decide) rfl rfl ?_
    refine aw_ifnull (n := 37) dJ4_treeifyBin_34 rfl ?_
    refine aw_null (n := 38) dJ4_treeifyBin_37 rfl ?_
    refine aw_astoreN (n := 40) (lv' := [(6, .null), (5, .ref e0), (4, .int (nI i)), (3, .int (nI 64)), (0, .ref m), (1, .ref t), (2, .int ww)]) dJ4_treeifyBin_38 (by decide) rfl rfl ?_
    refine aw_null (n := 41) dJ4_treeifyBin_40 rfl ?_
    refine aw_astoreN (n := 43) (lv' := [(7, .null), (6, .null), (5, .ref e0), (4, .int (nI i)), (3, .int (nI 64)), (0, .ref m), (1, .ref t), (2, .int ww)]) dJ4_treeifyBin_41 (by decide) rfl rfl ?_
    suffices L_43 : ∀ (m_ : Nat) (hh : hH) (A Q R : List Nat) (e k9 : Nat) (hd tl : Option Nat) (κ1 : kF) (tx1 : Nat → List Nat) (nx1 pv1 : oF) (hI : cpI G h hh κ tx A Q hd tl κ1 tx1 nx1 pv1) (hAR : e0 :: L1 = A ++ e :: R) (hcR : chn nx (nx e) R) (hk9 : Q.length = k9) (hFc : Fr nS h hh) (hzc : h.1 ≤ hh.1), R.length < m_ → AW G kJ4_treeifyBin ((30, 1600, 24, 264), (fun r h1 => r = none ∧ ∃ (f1 : Nat → Value) (M1 : Nat → Prop), isTB G E h1 g t 64 f1 (fun k => if k = i then M1 else Ms k) sz ∧ (∀ q, M1 q → h.1 ≤ q) ∧ Fr (fun q => q = t) h h1), nX) 43 [(7, va_rf tl), (6, va_rf hd), (5, .ref e), (4, .int (nI i)), (1, .ref t), (0, .ref m)] [] hh k9 (11 * k9) from
      AW.lvs (lv' := [(7, .null), (6, .null), (5, .ref e0), (4, .int (nI i)), (1, .ref t), (0, .ref m)]) (AW.eq (lv2 := _) (rfl) rfl rfl rfl rfl (L_43 _ h [] [] L1 e0 0 none none κ tx nx nx (cpI.nil G h _ κ tx κ tx nx nx) rfl hch rfl Fr.rf (Nat.le_refl _) (Nat.lt_succ_self _))) (by simp)
    intro m_
    induction m_ with
    | zero => intro hh A Q R e k9 hd tl κ1 tx1 nx1 pv1 hI hAR hcR hk9 hFc hzc h_m; exact absurd h_m (Nat.not_lt_zero _)
    | succ m_ ih_43 =>
      intro hh A Q R e k9 hd tl κ1 tx1 nx1 pv1 hI hAR hcR hk9 hFc hzc h_m
      have hMe : Ms i e := (hML e).mpr (by rw [hAR]; exact List.mem_append_right _ List.mem_cons_self)
      have hCPc := hCP.fr hi hFc (fun _ _ z9 => z9)
      have lQ9 : Q.length = A.length := by have g9 := congrArg List.length hI.2.2.2.1; simpa using g9
      have lA9 : L1.length + 1 = A.length + (R.length + 1) := by have g9 := congrArg List.length hAR; simpa using g9
      have hAc := hFc.k (hi.2.1 _ _ hA) (fun z9 => z9) hA
      have hMc := hFc.k (hi.2.1 _ _ hMm) (fun z9 => z9) hMm
      rcases hI.2.1.cs with ⟨eQ, rfl, rfl⟩ | ⟨a1, t1, rfl, rfl, hmA, hmA0⟩
      · skip
        subst eQ
        have eA : A = [] := List.eq_nil_of_length_eq_zero (by rw [← lQ9]; rfl)
        subst eA
        refine AW.eq (lv2 := [(7, .null), (6, .null), (5, .ref e), (4, .int (nI i)), (1, .ref t), (0, .ref m)]) (s2 := []) rfl rfl rfl rfl rfl ?_
        refine aw_aload_n (n := 44) dJ4_treeifyBin_43 rfl 5 rfl rfl ?_
        refine aw_aload (n := 46) dJ4_treeifyBin_44 2 rfl rfl ?_
        refine aw_null (n := 47) dJ4_treeifyBin_46 rfl ?_
        refine aw_callV (n := 50) (C0 := RJ4) (As := [.ref e, .null]) (rest := []) (K2 := kJ4_replacementTreeNode) dJ4_treeifyBin_47 q1638 q1639 q1640 q112 q1641 ⟨rfl, hcJ4_replacementTreeNode⟩ rfl hMc (hm_rtn G hh m e (κ e).2.1 (κ e).2.2 (κ e).1 _ (hCPc e hMe).1) rfl (Nat.le_of_ble_eq_true rfl) ⟨Nat.le_of_ble_eq_true rfl, Nat.le_of_ble_eq_true rfl⟩ ⟨by first | omega | (dsimp only; omega) | decide, by first | omega | (dsimp only; omega) | decide⟩ (fun _ _ _ z => z.elim) rfl (fun r_47 h_47 q_47 => ?_)
        obtain ⟨x, rfl, ex, hbx, hX, hFx, hzx⟩ := q_47
        have zc_47 : hh.1 ≤ h_47.1 := hFx.1
        have nNx : ¬ (x ∈ ([] : List Nat)) := fun m9 => by have := (hI.2.2.2.2.2.1 x m9).2; omega
        have hTx := TPic.add (N := fun q => q ∈ ([] : List Nat)) (fun q m9 => ⟨(hFx.2 q (hI.2.2.2.2.2.1 q m9).2 (fun z9 => z9)).trans (hI.1 q m9).1, (hI.1 q m9).2⟩) nNx hX hbx
        obtain ⟨κ9, eκ⟩ : ∃ κ9, κ9 = (fun q => if q = x then ((κ e).1, (κ e).2.1, (κ e).2.2) else κ1 q) := ⟨_, rfl⟩
        rw [← eκ] at hTx
        refine AW.sts (st' := [.ref x]) rfl ?_
        refine aw_astore (n := 52) (lv' := [(8, .ref x), (7, .null), (6, .null), (5, .ref e), (4, .int (nI i)), (1, .ref t), (0, .ref m)]) dJ4_treeifyBin_50 (by decide) rfl rfl ?_
        refine aw_aloadN (n := 54) dJ4_treeifyBin_52 1 rfl rfl ?_
        refine aw_ifnonnullN (n := 57) dJ4_treeifyBin_54 rfl ?_
        refine aw_aload (n := 59) dJ4_treeifyBin_57 0 rfl rfl ?_
        refine aw_astore (n := 61) (lv' := [(6, .ref x), (8, .ref x), (7, .null), (5, .ref e), (4, .int (nI i)), (1, .ref t), (0, .ref m)]) dJ4_treeifyBin_59 (by decide) rfl rfl ?_
        refine aw_goto (tgt := 78) dJ4_treeifyBin_61 (by decide) ?_
        refine aw_aload (n := 80) dJ4_treeifyBin_78 1 rfl rfl ?_
        refine aw_astore (n := 82) (lv' := [(7, .ref x), (6, .ref x), (8, .ref x), (5, .ref e), (4, .int (nI i)), (1, .ref t), (0, .ref m)]) dJ4_treeifyBin_80 (by decide) rfl rfl ?_
        have hCPd := hCP.fr hi (Fr.c hFc hFx (fun _ z => z.elim)) (fun _ _ z9 => z9)
        have hI2 := cpI.one (h1 := h_47) (κ := κ) (tx := tx) (tx1 := tx1) (e := e) ex hzc (by omega) (by rw [eκ] at hTx; exact hTx)
        refine aw_aload (n := 84) dJ4_treeifyBin_82 3 rfl rfl ?_
        rcases optc (nx e) with hq_1 | ⟨e84_1, hq_1⟩
        · skip
          have eR : R = [] := by cases h9 : R with | nil => rfl | cons a9 L9 => rw [h9, hq_1] at hcR; cases hcR.1
          refine aw_getf (n := 87) (v := .null) (C0 := RJ25) (T := TJ25) dJ4_treeifyBin_84 rfl 3 q1560 (Or.inl rfl) (hCPd e hMe).1 (congrArg (fun z9 => some (va_rf z9)) (show nx e = none from by exact hq_1)) rfl ?_
          refine aw_dup (n := 88) dJ4_treeifyBin_87 rfl rfl ?_
          refine aw_astoreN (n := 90) (lv' := [(5, .null), (7, .ref x), (6, .ref x), (8, .ref x), (4, .int (nI i)), (1, .ref t), (0, .ref m)]) dJ4_treeifyBin_88 (by decide) rfl rfl ?_
          refine aw_ifnonnullN (n := 93) dJ4_treeifyBin_90 rfl ?_
          refine aw_aload_n (n := 94) dJ4_treeifyBin_93 rfl 5 rfl rfl ?_
          refine aw_iload (n := 96) dJ4_treeifyBin_94 4 rfl rfl ?_
          refine aw_aload (n := 98) dJ4_treeifyBin_96 2 rfl rfl ?_
          refine aw_dup_x2 (n := 99) dJ4_treeifyBin_98 rfl rfl rfl rfl ?_
          have f_2 : h_47.2 t = some (har 5 64 f) := (hFx.k (by omega) (fun z => z) hAc)
          refine aw_aastK (n := 100) (ti := 5) (N := 64) (f' := updV f i (.ref x)) dJ4_treeifyBin_99 rfl i rfl f_2 hbt hi0 (by decide) rfl (hTx x (Or.inr rfl)).1 (Or.inr q3301) rfl rfl (fun y_3 w_3 => ?_)
          have zy_3 : y_3.1 = h_47.1 := w_3.2.2
          refine aw_ifnull (n := 103) dJ4_treeifyBin_100 rfl ?_
          refine aw_aload (n := 105) dJ4_treeifyBin_103 2 rfl rfl ?_
          refine aw_aload_n (n := 106) dJ4_treeifyBin_105 rfl 5 rfl rfl ?_
          obtain ⟨d9, L9, ed9, eQ9, hc9⟩ := hI2.fin
          cases ed9
          have hT9 := hI2.1.w w_3 (fun q hq => ne_kind (hI2.1 q hq).1 f_2 ob_ar)
          have lQ2 : [x].length = [e].length := by have g9 := congrArg List.length hI2.2.2.2.1; simpa using g9
          have eAL : e0 :: L1 = [e] := by rw [hAR, eR]; rfl
          have hmp9 := hI2.2.2.2.1
          rw [← eAL] at hmp9
          have hBK2 := BinK.copy hBK hML hnd hmp9
          have hBh : BinK h g 64 i (Ms i) κ tx := ⟨hBK.1.sub hs, hBK.2⟩
          have hF9 : Fr (fun q => q = t) h y_3 := (Fr.w (Fr.c (Fr.c Fr.rf hFc (fun _ z9 => z9.elim)) hFx (fun _ z => z.elim)) w_3 (Or.inl rfl))
          have hK9 := KP.fr hi (BinK.copy hBh hML hnd hmp9).1 hF9 (fun a z9 => Or.inr ⟨64, f, by have e9 : a = t := z9; rw [e9]; exact hA⟩)
          have hn9 : L9 ≠ [] := fun e9 => by have g9 := congrArg List.length eAL; have g8 := congrArg List.length eQ9; have g7 := lQ2; rw [e9] at g8; simp only [List.length_cons, List.length_nil, List.length_append] at g9 g8 g7; exact hL1 (List.eq_nil_of_length_eq_zero (by omega))
          have hnx9 : (up nx1 x none) x ≠ none := fun e9 => hn9 (by have g9 := hc9; rw [e9] at g9; cases L9 with | nil => rfl | cons _ _ => cases g9.1)
          have hND9 := hI2.2.2.2.2.1; rw [eQ9] at hND9
          refine aw_callV (n := 109) (C0 := RJ27) (As := [.ref t]) (rest := []) (K2 := kJ27_treeify) dJ4_treeifyBin_106 q1642 q1572 q1573 q145 q1574 ⟨rfl, hcJ27_treeify⟩ rfl (hT9 x (by rw [eQ9]; exact List.mem_cons_self)).1 (hm_tfy G y_3 L9 x (fun q => q ∈ [x]) _ _ _ _ hT9 (fun q => by rw [eQ9]; exact List.mem_cons) hc9 (List.nodup_cons.mp hND9) hK9 hBK2.2.2.1 t 64 i _ w_3.1 hbt hn hi0 (by simp [updV]) hI2.2.2.2.2.2.2 hnx9 hBK2.2.1) rfl (Nat.le_of_ble_eq_true rfl) ⟨Nat.le_of_ble_eq_true rfl, Nat.le_of_ble_eq_true rfl⟩ ⟨by first | omega | (dsimp only; omega) | decide, by first | omega | (dsimp only; omega) | decide⟩ (fun _ _ _ z => z.elim) rfl (fun r_106 h_106 q_106 => ?_)
          obtain ⟨rfl, root1, nx2, pa2, lf2, rt2, pv2, rd2, lo2, hi2, ht2, B2, hT2, hB2, hW2, hn2, ⟨f2, hA2, hf2, hfj2⟩, hFm, hzm⟩ := q_106
          have zc_106 : y_3.1 ≤ h_106.1 := hFm.1
          refine AW.sts (st' := []) rfl ?_
          have hFz : Fr (fun q => q = t) h h_106 := (Fr.c (Fr.w (Fr.c (Fr.c Fr.rf hFc (fun _ z9 => z9.elim)) hFx (fun _ z => z.elim)) w_3 (Or.inl rfl)) hFm (fun a9 z9 => z9.elim (fun m9 => Or.inr (hI2.2.2.2.2.2.1 a9 m9).1) (fun e9 => Or.inl e9)))
          exact aw_vret dJ4_treeifyBin_109 rfl ⟨rfl, f2, (fun q => q ∈ [x]), ⟨hA2, hbt, hn, fun j hj => by by_cases e9 : j = i; (subst e9; simp only [if_pos]; exact ⟨_, _, hBK2, Or.inr ⟨rfl, _, _, _, _, _, _, _, _, _, _, _, hf2, hT2, hB2, hW2, hn2⟩⟩); (simp only [if_neg e9]; rw [hfj2 j e9]; simp only [updV, if_neg e9]; exact (hBs j hj).mv (fun q hq => hFz.2 q (hMl j q hj hq).1 (hMl j q hj hq).2))⟩, fun q m9 => (hI2.2.2.2.2.2.1 q m9).1, hFz⟩ ⟨(by first | exact Nat.le_refl _ | omega | (dsimp only; omega)), (by first | exact Nat.le_refl _ | omega | (dsimp only; omega))⟩
        · skip
          obtain ⟨R1, eR⟩ : ∃ R1, R = e84_1 :: R1 := by cases R with | nil => rw [hq_1] at hcR; cases hcR | cons a9 L9 => exact ⟨L9, by have g9 := hcR.1; rw [hq_1] at g9; cases g9; rfl⟩
          refine aw_getf (n := 87) (v := .ref e84_1) (C0 := RJ25) (T := TJ25) dJ4_treeifyBin_84 rfl 3 q1560 (Or.inl rfl) (hCPd e hMe).1 (congrArg (fun z9 => some (va_rf z9)) (show nx e = some e84_1 from by exact hq_1)) rfl ?_
          refine aw_dup (n := 88) dJ4_treeifyBin_87 rfl rfl ?_
          refine aw_astore (n := 90) (lv' := [(5, .ref e84_1), (7, .ref x), (6, .ref x), (8, .ref x), (4, .int (nI i)), (1, .ref t), (0, .ref m)]) dJ4_treeifyBin_88 (by decide) rfl rfl ?_
          refine aw_ifnonnull (tgt := 43) dJ4_treeifyBin_90 (by decide) ?_
          have lR9 : R.length = R1.length + 1 := by rw [eR]; rfl
          exact AW.lvs (lv' := [(7, .ref x), (6, .ref x), (5, .ref e84_1), (4, .int (nI i)), (1, .ref t), (0, .ref m)]) (AW.eq (lv2 := _) (rfl) rfl rfl rfl rfl (ih_43 h_47 [e] [x] R1 e84_1 (k9 + 1) (some x) (some x) _ _ _ _ hI2 (by rw [hAR, eR]; simp) (by have g9 := hcR; rw [eR] at g9; exact g9.2) (by rw [← hk9]; simp) (Fr.c hFc hFx (fun _ z => z.elim)) (by omega) (by omega))) (by simp)
      · skip
        refine AW.eq (lv2 := [(7, .ref t1), (6, .ref a1), (5, .ref e), (4, .int (nI i)), (1, .ref t), (0, .ref m)]) (s2 := []) rfl rfl rfl rfl rfl ?_
        refine aw_aload_n (n := 44) dJ4_treeifyBin_43 rfl 5 rfl rfl ?_
        refine aw_aload (n := 46) dJ4_treeifyBin_44 2 rfl rfl ?_
        refine aw_null (n := 47) dJ4_treeifyBin_46 rfl ?_
        refine aw_callV (n := 50) (C0 := RJ4) (As := [.ref e, .null]) (rest := []) (K2 := kJ4_replacementTreeNode) dJ4_treeifyBin_47 q1638 q1639 q1640 q112 q1641 ⟨rfl, hcJ4_replacementTreeNode⟩ rfl hMc (hm_rtn G hh m e (κ e).2.1 (κ e).2.2 (κ e).1 _ (hCPc e hMe).1) rfl (Nat.le_of_ble_eq_true rfl) ⟨Nat.le_of_ble_eq_true rfl, Nat.le_of_ble_eq_true rfl⟩ ⟨by first | omega | (dsimp only; omega) | decide, by first | omega | (dsimp only; omega) | decide⟩ (fun _ _ _ z => z.elim) rfl (fun r_47 h_47 q_47 => ?_)
        obtain ⟨x, rfl, ex, hbx, hX, hFx, hzx⟩ := q_47
        have zc_47 : hh.1 ≤ h_47.1 := hFx.1
        have nNx : ¬ (x ∈ Q) := fun m9 => by have := (hI.2.2.2.2.2.1 x m9).2; omega
        have hTx := TPic.add (N := fun q => q ∈ Q) (fun q m9 => ⟨(hFx.2 q (hI.2.2.2.2.2.1 q m9).2 (fun z9 => z9)).trans (hI.1 q m9).1, (hI.1 q m9).2⟩) nNx hX hbx
        obtain ⟨κ9, eκ⟩ : ∃ κ9, κ9 = (fun q => if q = x then ((κ e).1, (κ e).2.1, (κ e).2.2) else κ1 q) := ⟨_, rfl⟩
        rw [← eκ] at hTx
        refine AW.sts (st' := [.ref x]) rfl ?_
        refine aw_astore (n := 52) (lv' := [(8, .ref x), (7, .ref t1), (6, .ref a1), (5, .ref e), (4, .int (nI i)), (1, .ref t), (0, .ref m)]) dJ4_treeifyBin_50 (by decide) rfl rfl ?_
        refine aw_aload (n := 54) dJ4_treeifyBin_52 1 rfl rfl ?_
        refine aw_ifnonnull (tgt := 64) dJ4_treeifyBin_54 (by decide) ?_
        refine aw_aload (n := 66) dJ4_treeifyBin_64 0 rfl rfl ?_
        refine aw_aload (n := 68) dJ4_treeifyBin_66 1 rfl rfl ?_
        refine aw_putK (n := 71) (fs' := [.null, .null, .int (κ9 x).1, .ref (κ9 x).2.1, .ref (κ9 x).2.2, va_rf ((up nx1 x none) x), va_rf ((up nF x none) x), va_rf ((up nF x none) x), va_rf ((up nF x none) x), va_rf (some t1), .int (bI ((ub fF x false) x))]) (C0 := RJ27) (T := TJ27) (N := 11) (ci := 27) dJ4_treeifyBin_68 rfl in_J27 tyJ27 tyJ27_ok nmJ27 q1601 9 (by decide) q1613 (Or.inl rfl) (Or.inl rfl) rfl (hTx x (Or.inr rfl)).1 (hTx x (Or.inr rfl)).2 rfl rfl (Nat.le_of_ble_eq_true rfl) rfl rfl (fun y_4 w_4 => ?_)
        have zy_4 : y_4.1 = h_47.1 := w_4.2.2
        have hT_4 := TPic.ppv (v := some t1) hTx w_4
        refine aw_aload (n := 73) dJ4_treeifyBin_71 1 rfl rfl ?_
        refine aw_aload (n := 75) dJ4_treeifyBin_73 0 rfl rfl ?_
        refine aw_putK (n := 78) (fs' := [.null, .null, .int (κ9 t1).1, .ref (κ9 t1).2.1, .ref (κ9 t1).2.2, va_rf (some x), va_rf ((up nF x none) t1), va_rf ((up nF x none) t1), va_rf ((up nF x none) t1), va_rf ((up (up pv1 x none) x (some t1)) t1), .int (bI ((ub fF x false) t1))]) (C0 := RJ27) (T := TJ27) (N := 11) (ci := 27) dJ4_treeifyBin_75 rfl in_J27 tyJ27 tyJ27_ok nmJ27 q1601 5 (by decide) q1561 (Or.inr q1558) (Or.inl rfl) rfl (hT_4 t1 (Or.inl hmA)).1 (hT_4 t1 (Or.inl hmA)).2 rfl rfl (Nat.le_of_ble_eq_true rfl) rfl rfl (fun y_5 w_5 => ?_)
        have zy_5 : y_5.1 = y_4.1 := w_5.2.2
        have hT_5 := TPic.pnx (v := some x) hT_4 w_5
        refine aw_aload (n := 80) dJ4_treeifyBin_78 0 rfl rfl ?_
        refine aw_astore (n := 82) (lv' := [(7, .ref x), (8, .ref x), (6, .ref a1), (5, .ref e), (4, .int (nI i)), (1, .ref t), (0, .ref m)]) dJ4_treeifyBin_80 (by decide) rfl rfl ?_
        have hCPd := hCP.fr hi (Fr.w (Fr.w (Fr.c hFc hFx (fun _ z => z.elim)) w_4 (Or.inr (by omega))) w_5 (Or.inr (hI.2.2.2.2.2.1 t1 hmA).1)) (fun _ _ z9 => z9)
        have hI2 := hI.snoc (h1 := y_5) (e := e) hmA ex hzc (by omega) (by rw [eκ] at hT_5; exact hT_5)
        refine aw_aload (n := 84) dJ4_treeifyBin_82 3 rfl rfl ?_
        rcases optc (nx e) with hq_6 | ⟨e84_6, hq_6⟩
        · skip
          have eR : R = [] := by cases h9 : R with | nil => rfl | cons a9 L9 => rw [h9, hq_6] at hcR; cases hcR.1
          refine aw_getf (n := 87) (v := .null) (C0 := RJ25) (T := TJ25) dJ4_treeifyBin_84 rfl 3 q1560 (Or.inl rfl) (hCPd e hMe).1 (congrArg (fun z9 => some (va_rf z9)) (show nx e = none from by exact hq_6)) rfl ?_
          refine aw_dup (n := 88) dJ4_treeifyBin_87 rfl rfl ?_
          refine aw_astoreN (n := 90) (lv' := [(5, .null), (7, .ref x), (8, .ref x), (6, .ref a1), (4, .int (nI i)), (1, .ref t), (0, .ref m)]) dJ4_treeifyBin_88 (by decide) rfl rfl ?_
          refine aw_ifnonnullN (n := 93) dJ4_treeifyBin_90 rfl ?_
          refine aw_aload_n (n := 94) dJ4_treeifyBin_93 rfl 5 rfl rfl ?_
          refine aw_iload (n := 96) dJ4_treeifyBin_94 4 rfl rfl ?_
          refine aw_aload (n := 98) dJ4_treeifyBin_96 3 rfl rfl ?_
          refine aw_dup_x2 (n := 99) dJ4_treeifyBin_98 rfl rfl rfl rfl ?_
          have f_7 : y_5.2 t = some (har 5 64 f) := (w_5.k (ne_kind hAc (hI.1 t1 hmA).1 ar_ob) (w_4.k (by omega) (hFx.k (by omega) (fun z => z) hAc)))
          refine aw_aastK (n := 100) (ti := 5) (N := 64) (f' := updV f i (.ref a1)) dJ4_treeifyBin_99 rfl i rfl f_7 hbt hi0 (by decide) rfl (hT_5 a1 (Or.inl hmA0)).1 (Or.inr q3301) rfl rfl (fun y_8 w_8 => ?_)
          have zy_8 : y_8.1 = y_5.1 := w_8.2.2
          refine aw_ifnull (n := 103) dJ4_treeifyBin_100 rfl ?_
          refine aw_aload (n := 105) dJ4_treeifyBin_103 3 rfl rfl ?_
          refine aw_aload_n (n := 106) dJ4_treeifyBin_105 rfl 5 rfl rfl ?_
          obtain ⟨d9, L9, ed9, eQ9, hc9⟩ := hI2.fin
          cases ed9
          have hT9 := hI2.1.w w_8 (fun q hq => ne_kind (hI2.1 q hq).1 f_7 ob_ar)
          have lQ2 : (Q ++ [x]).length = (A ++ [e]).length := by have g9 := congrArg List.length hI2.2.2.2.1; simpa using g9
          have eAL : e0 :: L1 = (A ++ [e]) := by rw [hAR, eR]
          have hmp9 := hI2.2.2.2.1
          rw [← eAL] at hmp9
          have hBK2 := BinK.copy hBK hML hnd hmp9
          have hBh : BinK h g 64 i (Ms i) κ tx := ⟨hBK.1.sub hs, hBK.2⟩
          have hF9 : Fr (fun q => q = t) h y_8 := (Fr.w (Fr.w (Fr.w (Fr.c (Fr.c Fr.rf hFc (fun _ z9 => z9.elim)) hFx (fun _ z => z.elim)) w_4 (Or.inr (by omega))) w_5 (Or.inr (hI.2.2.2.2.2.1 t1 hmA).1)) w_8 (Or.inl rfl))
          have hK9 := KP.fr hi (BinK.copy hBh hML hnd hmp9).1 hF9 (fun a z9 => Or.inr ⟨64, f, by have e9 : a = t := z9; rw [e9]; exact hA⟩)
          have hn9 : L9 ≠ [] := fun e9 => by have g9 := congrArg List.length eAL; have g8 := congrArg List.length eQ9; have g7 := lQ2; rw [e9] at g8; simp only [List.length_cons, List.length_nil, List.length_append] at g9 g8 g7; exact hL1 (List.eq_nil_of_length_eq_zero (by omega))
          have hnx9 : (up (up nx1 x none) t1 (some x)) a1 ≠ none := fun e9 => hn9 (by have g9 := hc9; rw [e9] at g9; cases L9 with | nil => rfl | cons _ _ => cases g9.1)
          have hND9 := hI2.2.2.2.2.1; rw [eQ9] at hND9
          refine aw_callV (n := 109) (C0 := RJ27) (As := [.ref t]) (rest := []) (K2 := kJ27_treeify) dJ4_treeifyBin_106 q1642 q1572 q1573 q145 q1574 ⟨rfl, hcJ27_treeify⟩ rfl (hT9 a1 (by rw [eQ9]; exact List.mem_cons_self)).1 (hm_tfy G y_8 L9 a1 (fun q => q ∈ (Q ++ [x])) _ _ _ _ hT9 (fun q => by rw [eQ9]; exact List.mem_cons) hc9 (List.nodup_cons.mp hND9) hK9 hBK2.2.2.1 t 64 i _ w_8.1 hbt hn hi0 (by simp [updV]) hI2.2.2.2.2.2.2 hnx9 hBK2.2.1) rfl (Nat.le_of_ble_eq_true rfl) ⟨Nat.le_of_ble_eq_true rfl, Nat.le_of_ble_eq_true rfl⟩ ⟨by first | omega | (dsimp only; omega) | decide, by first | omega | (dsimp only; omega) | decide⟩ (fun _ _ _ z => z.elim) rfl (fun r_106 h_106 q_106 => ?_)
          obtain ⟨rfl, root1, nx2, pa2, lf2, rt2, pv2, rd2, lo2, hi2, ht2, B2, hT2, hB2, hW2, hn2, ⟨f2, hA2, hf2, hfj2⟩, hFm, hzm⟩ := q_106
          have zc_106 : y_8.1 ≤ h_106.1 := hFm.1
          refine AW.sts (st' := []) rfl ?_
          have hFz : Fr (fun q => q = t) h h_106 := (Fr.c (Fr.w (Fr.w (Fr.w (Fr.c (Fr.c Fr.rf hFc (fun _ z9 => z9.elim)) hFx (fun _ z => z.elim)) w_4 (Or.inr (by omega))) w_5 (Or.inr (hI.2.2.2.2.2.1 t1 hmA).1)) w_8 (Or.inl rfl)) hFm (fun a9 z9 => z9.elim (fun m9 => Or.inr (hI2.2.2.2.2.2.1 a9 m9).1) (fun e9 => Or.inl e9)))
          exact aw_vret dJ4_treeifyBin_109 rfl ⟨rfl, f2, (fun q => q ∈ (Q ++ [x])), ⟨hA2, hbt, hn, fun j hj => by by_cases e9 : j = i; (subst e9; simp only [if_pos]; exact ⟨_, _, hBK2, Or.inr ⟨rfl, _, _, _, _, _, _, _, _, _, _, _, hf2, hT2, hB2, hW2, hn2⟩⟩); (simp only [if_neg e9]; rw [hfj2 j e9]; simp only [updV, if_neg e9]; exact (hBs j hj).mv (fun q hq => hFz.2 q (hMl j q hj hq).1 (hMl j q hj hq).2))⟩, fun q m9 => (hI2.2.2.2.2.2.1 q m9).1, hFz⟩ ⟨(by first | exact Nat.le_refl _ | omega | (dsimp only; omega)), (by first | exact Nat.le_refl _ | omega | (dsimp only; omega))⟩
        · skip
          obtain ⟨R1, eR⟩ : ∃ R1, R = e84_6 :: R1 := by cases R with | nil => rw [hq_6] at hcR; cases hcR | cons a9 L9 => exact ⟨L9, by have g9 := hcR.1; rw [hq_6] at g9; cases g9; rfl⟩
          refine aw_getf (n := 87) (v := .ref e84_6) (C0 := RJ25) (T := TJ25) dJ4_treeifyBin_84 rfl 3 q1560 (Or.inl rfl) (hCPd e hMe).1 (congrArg (fun z9 => some (va_rf z9)) (show nx e = some e84_6 from by exact hq_6)) rfl ?_
          refine aw_dup (n := 88) dJ4_treeifyBin_87 rfl rfl ?_
          refine aw_astore (n := 90) (lv' := [(5, .ref e84_6), (7, .ref x), (8, .ref x), (6, .ref a1), (4, .int (nI i)), (1, .ref t), (0, .ref m)]) dJ4_treeifyBin_88 (by decide) rfl rfl ?_
          refine aw_ifnonnull (tgt := 43) dJ4_treeifyBin_90 (by decide) ?_
          have lR9 : R.length = R1.length + 1 := by rw [eR]; rfl
          exact AW.lvs (lv' := [(7, .ref x), (6, .ref a1), (5, .ref e84_6), (4, .int (nI i)), (1, .ref t), (0, .ref m)]) (AW.eq (lv2 := _) (rfl) rfl rfl rfl rfl (ih_43 y_5 (A ++ [e]) (Q ++ [x]) R1 e84_6 (k9 + 1) (some a1) (some x) _ _ _ _ hI2 (by rw [hAR, eR]; simp) (by have g9 := hcR; rw [eR] at g9; exact g9.2) (by rw [← hk9]; simp) (Fr.w (Fr.w (Fr.c hFc hFx (fun _ z => z.elim)) w_4 (Or.inr (by omega))) w_5 (Or.inr (hI.2.2.2.2.2.1 t1 hmA).1)) (by omega) (by omega))) (by simp)
  · skip
    exact absurd c_10 (by decide +kernel)

end
