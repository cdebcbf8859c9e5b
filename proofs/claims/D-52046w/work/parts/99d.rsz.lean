/-! PURE: a bin is split in two. -/
section
set_option maxRecDepth 100000
theorem sp_16 : ∀ k, k < 32 → ∀ j, j < 16 → (nI 16 - 1) &&& nI k = nI j → (nI k &&& nI 16 = 0 ∧ k = j) ∨ (nI k &&& nI 16 ≠ 0 ∧ k = j + 16) := by decide +kernel
theorem sp_32 : ∀ k, k < 64 → ∀ j, j < 32 → (nI 32 - 1) &&& nI k = nI j → (nI k &&& nI 32 = 0 ∧ k = j) ∨ (nI k &&& nI 32 ≠ 0 ∧ k = j + 32) := by decide +kernel
theorem sp_n {n : Nat} (hn : n = 16 ∨ n = 32) (w : Int32) {j : Nat} (hj : j < n) (h : (nI n - 1) &&& w = nI j) : (w &&& nI n = 0 ∧ (nI (2 * n) - 1) &&& w = nI j) ∨ (w &&& nI n ≠ 0 ∧ (nI (2 * n) - 1) &&& w = nI (j + n)) := by
  obtain ⟨h1, h2⟩ := ixT_in (n := 2 * n) (by rcases hn with e | e <;> subst e; exact Or.inr (Or.inl rfl); exact Or.inr (Or.inr rfl)) w
  generalize ixT (2 * n) w = k at h1 h2
  rw [h1]
  have e1 : (nI n - 1) &&& nI k = nI j := by
    rw [← h1, ← h, ← Int32.and_assoc]
    congr 1
    rcases hn with e | e <;> subst e <;> decide
  have e2 : w &&& nI n = nI k &&& nI n := by
    rw [← h1, Int32.and_comm (nI (2 * n) - 1) w, Int32.and_assoc]
    congr 1
    rcases hn with e | e <;> subst e <;> decide
  rw [e2]
  rcases hn with e | e <;> subst e
  · rcases sp_16 k h2 j hj e1 with ⟨a, b⟩ | ⟨a, b⟩
    · exact Or.inl ⟨a, by rw [b]⟩
    · exact Or.inr ⟨a, by rw [b]⟩
  · rcases sp_32 k h2 j hj e1 with ⟨a, b⟩ | ⟨a, b⟩
    · exact Or.inl ⟨a, by rw [b]⟩
    · exact Or.inr ⟨a, by rw [b]⟩
theorem sp_up {n : Nat} (hn : n = 16 ∨ n = 32) (w : Int32) {j i : Nat} (hj : j < n) (hi : i = j ∨ i = j + n) (h : (nI (2 * n) - 1) &&& w = nI i) : (nI n - 1) &&& w = nI j := by
  obtain ⟨h1, h2⟩ := ixT_in (n := n) (by rcases hn with e | e <;> subst e; exact Or.inl rfl; exact Or.inr (Or.inl rfl)) w
  rw [h1]
  generalize ixT n w = k at h1 h2
  have hb : n ≤ 32 := by rcases hn with e | e <;> omega
  rcases sp_n hn w h2 h1 with ⟨a, b⟩ | ⟨a, b⟩
  · have := (nI_eq (by omega) (by rcases hi with e | e <;> omega)).mp (b.symm.trans h)
    rcases hi with e | e
    · rw [this, e]
    · omega
  · have := (nI_eq (by omega) (by rcases hi with e | e <;> omega)).mp (b.symm.trans h)
    rcases hi with e | e
    · omega
    · have : k = j := by omega
      rw [this]
theorem binSplit {E : hH} {g : List Nat → Option Nat} {n j : Nat} {M : Nat → Prop} {κ : kF} {tx : Nat → List Nat} (hn : n = 16 ∨ n = 32) (hj : j < n) (H : BinK E g n j M κ tx) {A B : List Nat} (hM : ∀ q, M q ↔ q ∈ A ∨ q ∈ B) (hA : ∀ q, q ∈ A → (κ q).1 &&& nI n = 0) (hB : ∀ q, q ∈ B → (κ q).1 &&& nI n ≠ 0) : BinK E g (2 * n) j (fun q => q ∈ A) κ tx ∧ BinK E g (2 * n) (j + n) (fun q => q ∈ B) κ tx := by
  obtain ⟨hK, hI, hT, hG⟩ := H
  have ha : ∀ q, q ∈ A → M q := fun q m => (hM q).mpr (Or.inl m)
  have hb : ∀ q, q ∈ B → M q := fun q m => (hM q).mpr (Or.inr m)
  have hb2 : n ≤ 32 := by rcases hn with e | e <;> omega
  refine ⟨⟨fun q m => hK q (ha q m), fun q m => ?_, fun y z hy hz => hT y z (ha y hy) (ha z hz), fun bs hbs a => ?_⟩, ⟨fun q m => hK q (hb q m), fun q m => ?_, fun y z hy hz => hT y z (hb y hy) (hb z hz), fun bs hbs a => ?_⟩⟩
  · rcases sp_n hn _ hj (hI q (ha q m)) with ⟨e1, e2⟩ | ⟨e1, e2⟩
    · exact e2
    · exact absurd (hA q m) e1
  · rw [hG bs (sp_up hn _ hj (Or.inl rfl) hbs) a]
    constructor
    · rintro ⟨y, y1, y2, y3⟩
      rcases (hM y).mp y1 with m | m
      · exact ⟨y, m, y2, y3⟩
      · refine absurd ?_ (hB y m)
        rw [(hK y y1).2.1, y2]
        rcases sp_n hn _ hj (sp_up hn _ hj (Or.inl rfl) hbs) with ⟨e1, e2⟩ | ⟨e1, e2⟩
        · exact e1
        · have := (nI_eq (by omega) (by omega)).mp (hbs.symm.trans e2)
          have h0 : 0 < n := by omega
          omega
    · rintro ⟨y, y1, y2, y3⟩
      exact ⟨y, ha y y1, y2, y3⟩
  · rcases sp_n hn _ hj (hI q (hb q m)) with ⟨e1, e2⟩ | ⟨e1, e2⟩
    · exact absurd e1 (hB q m)
    · exact e2
  · rw [hG bs (sp_up hn _ hj (Or.inr rfl) hbs) a]
    constructor
    · rintro ⟨y, y1, y2, y3⟩
      rcases (hM y).mp y1 with m | m
      · have h9 := hA y m
        rw [(hK y y1).2.1, y2] at h9
        rcases sp_n hn _ hj (sp_up hn _ hj (Or.inr rfl) hbs) with ⟨e1, e2⟩ | ⟨e1, e2⟩
        · have := (nI_eq (by omega) (by omega)).mp (hbs.symm.trans e2)
          have h0 : 0 < n := by omega
          omega
        · exact absurd h9 e1
      · exact ⟨y, m, y2, y3⟩
    · rintro ⟨y, y1, y2, y3⟩
      exact ⟨y, hb y y1, y2, y3⟩
/-- a chain that is open at its end -/
def oc1 (nx : oF) : Nat → List Nat → Nat → Prop
  | a, [], t => t = a
  | a, b :: L, t => nx a = some b ∧ oc1 nx b L t
def och (nx : oF) (hd tl : Option Nat) : List Nat → Prop
  | [] => hd = none ∧ tl = none
  | a :: L => hd = some a ∧ ∃ t, tl = some t ∧ oc1 nx a L t
theorem oc1.mem {nx : oF} : ∀ {L : List Nat} {a t : Nat}, oc1 nx a L t → t ∈ a :: L
  | [], _, _, h => by rw [show _ = _ from h]; exact List.mem_cons_self
  | _ :: _, _, _, h => List.mem_cons_of_mem _ (oc1.mem h.2)
theorem oc1.upd {nx : oF} {q : Nat} {v : Option Nat} : ∀ {L : List Nat} {a t : Nat}, oc1 nx a L t → q ∉ a :: L → oc1 (up nx q v) a L t
  | [], _, _, h, _ => h
  | b :: L, a, t, h, hq => ⟨by have e9 : a ≠ q := (fun e => hq (e ▸ List.mem_cons_self)); unfold up; rw [if_neg e9]; exact h.1, oc1.upd h.2 (fun m => hq (List.mem_cons_of_mem _ m))⟩
theorem oc1.snoc {nx : oF} {e : Nat} : ∀ {L : List Nat} {a t : Nat}, oc1 nx a L t → (a :: L).Nodup → oc1 (up nx t (some e)) a (L ++ [e]) e
  | [], a, t, h, _ => by
    have h9 : t = a := h
    subst h9
    exact ⟨by simp [up], rfl⟩
  | b :: L, a, t, h, hn => by
    have hm := oc1.mem h.2
    have hn2 := List.nodup_cons.mp hn
    exact ⟨by have e9 : a ≠ t := (fun z => hn2.1 (z ▸ hm)); unfold up; rw [if_neg e9]; exact h.1, oc1.snoc h.2 hn2.2⟩
theorem oc1.close {nx : oF} : ∀ {L : List Nat} {a t : Nat}, oc1 nx a L t → (a :: L).Nodup → chn (up nx t none) (some a) (a :: L)
  | [], a, t, h, _ => by
    have h9 : t = a := h
    subst h9
    exact ⟨rfl, by simp [up, chn]⟩
  | b :: L, a, t, h, hn => by
    have hm := oc1.mem h.2
    have hn2 := List.nodup_cons.mp hn
    have g := oc1.close h.2 hn2.2
    exact ⟨rfl, by have e9 : a ≠ t := (fun z => hn2.1 (z ▸ hm)); have e8 : up nx t none a = some b := (by unfold up; rw [if_neg e9]; exact h.1); rw [e8]; exact g⟩
theorem och.nil {nx : oF} : och nx none none [] := ⟨rfl, rfl⟩
theorem och.one {nx : oF} {e : Nat} : och nx (some e) (some e) [e] := ⟨rfl, e, rfl, rfl⟩
theorem och.cs {nx : oF} {hd tl : Option Nat} {A : List Nat} (h : och nx hd tl A) : (A = [] ∧ hd = none ∧ tl = none) ∨ ∃ a t, hd = some a ∧ tl = some t ∧ t ∈ A ∧ a ∈ A := by
  cases A with
  | nil => exact Or.inl ⟨rfl, h⟩
  | cons a L =>
    obtain ⟨h1, t, h2, h3⟩ := h
    exact Or.inr ⟨a, t, h1, h2, oc1.mem h3, List.mem_cons_self⟩
theorem och.upd {nx : oF} {hd tl : Option Nat} {A : List Nat} (h : och nx hd tl A) {q : Nat} {v : Option Nat} (hq : q ∉ A) : och (up nx q v) hd tl A := by
  cases A with
  | nil => exact h
  | cons a L =>
    obtain ⟨h1, t, h2, h3⟩ := h
    exact ⟨h1, t, h2, h3.upd hq⟩
theorem och.snoc {nx : oF} {hd : Option Nat} {t e : Nat} {A : List Nat} (h : och nx hd (some t) A) (hn : A.Nodup) : och (up nx t (some e)) hd (some e) (A ++ [e]) := by
  cases A with
  | nil => exact absurd h.2 (by simp)
  | cons a L =>
    obtain ⟨h1, t', h2, h3⟩ := h
    cases h2
    exact ⟨h1, e, rfl, h3.snoc hn⟩
theorem och.close {nx : oF} {hd : Option Nat} {t : Nat} {A : List Nat} (h : och nx hd (some t) A) (hn : A.Nodup) : chn (up nx t none) hd A := by
  cases A with
  | nil => exact absurd h.2 (by simp)
  | cons a L =>
    obtain ⟨h1, t', h2, h3⟩ := h
    cases h2
    rw [h1]
    exact h3.close hn
theorem chn.upd {nx : oF} {q : Nat} {v : Option Nat} : ∀ {L : List Nat} {o : Option Nat}, chn nx o L → q ∉ L → chn (up nx q v) o L
  | [], _, h, _ => h
  | b :: L, o, h, hq => ⟨h.1, by have e9 : b ≠ q := (fun e => hq (e ▸ List.mem_cons_self)); unfold up; rw [if_neg e9]; exact chn.upd h.2 (fun m => hq (List.mem_cons_of_mem _ m))⟩
/-- a node of a bin -/
theorem Bin.node {G : aG} {E h : hH} {g : List Nat → Option Nat} {n i sz : Nat} {v : Value} {M : Nat → Prop} (H : Bin G E h g n i v M sz) {q : Nat} (hq : M q) : gB G ≤ q ∧ ∃ w, (nI n - 1) &&& w = nI i ∧ ((∃ k v o, h.2 q = some (hob 26 [.int w, .ref k, .ref v, o])) ∨ ∃ k v v1 v2 v3 v4 v5 v6, h.2 q = some (hob 27 [.null, .null, .int w, .ref k, .ref v, v1, v2, v3, v4, v5, v6])) := by
  obtain ⟨κ, tx, hK, H⟩ := H
  rcases H with ⟨nx, L, hl, o, h1, h2, h3, h4, h5⟩ | ⟨h6, nx, pa, lf, rt, pv, rd, root, lo, hi, ht, B, h1, h2, h3⟩
  · exact ⟨(h5 q hq).2, _, hK.2.1 q hq, Or.inl ⟨_, _, _, (h5 q hq).1⟩⟩
  · exact ⟨(h2 q hq).2, _, hK.2.1 q hq, Or.inr ⟨_, _, _, _, _, _, _, _, (h2 q hq).1⟩⟩
theorem Bin.mv {G : aG} {E h h1 : hH} {g : List Nat → Option Nat} {n i sz : Nat} {v : Value} {M : Nat → Prop} (H : Bin G E h g n i v M sz) (he : ∀ q, M q → h1.2 q = h.2 q) : Bin G E h1 g n i v M sz := by
  obtain ⟨κ, tx, hK, H⟩ := H
  refine ⟨κ, tx, hK, ?_⟩
  rcases H with ⟨nx, L, hl, o, h1, h2, h3, h4, h5⟩ | ⟨h6, nx, pa, lf, rt, pv, rd, root, lo, hi, ht, B, h1, h2, h3⟩
  · exact Or.inl ⟨nx, L, hl, o, h1, h2, h3, h4, fun q hq => ⟨(he q hq).trans (h5 q hq).1, (h5 q hq).2⟩⟩
  · exact Or.inr ⟨h6, nx, pa, lf, rt, pv, rd, root, lo, hi, ht, B, h1, fun q hq => ⟨(he q hq).trans (h2 q hq).1, (h2 q hq).2⟩, h3⟩
theorem Bin.dj {G : aG} {E h : hH} {g : List Nat → Option Nat} {n i j sz : Nat} {v v' : Value} {M M' : Nat → Prop} (hn : nOK n) (hi : i < n) (hj : j < n) (H : Bin G E h g n i v M sz) (H' : Bin G E h g n j v' M' sz) {q : Nat} (hq : M q) (hq' : M' q) : i = j := by
  obtain ⟨_, w, w1, w2⟩ := H.node hq
  obtain ⟨_, u, u1, u2⟩ := H'.node hq'
  have e : w = u := by
    rcases w2 with ⟨k, v, o, w2⟩ | ⟨k, v, a1, a2, a3, a4, a5, a6, w2⟩ <;> rcases u2 with ⟨k', v', o', u2⟩ | ⟨k', v', b1, b2, b3, b4, b5, b6, u2⟩ <;> have z := w2.symm.trans u2 <;> simp at z
    · exact z.1
    · exact z.1
  rw [e, u1] at w1
  have hb : n ≤ 64 := by rcases hn with e | e | e <;> omega
  exact ((nI_eq (by omega) (by omega)).mp w1).symm
/-- the two bins that come out of one -/
theorem resBin {G : aG} {E h : hH} {g : List Nat → Option Nat} {n j sz : Nat} {M : Nat → Prop} {κ : kF} {tx : Nat → List Nat} {nx : oF} {A B : List Nat} {oA oB : Option Nat} (hn : n = 16 ∨ n = 32) (hj : j < n) (H : BinK E g n j M κ tx) (hM : ∀ q, M q ↔ q ∈ A ∨ q ∈ B) (hA : ∀ q, q ∈ A → (κ q).1 &&& nI n = 0) (hB : ∀ q, q ∈ B → (κ q).1 &&& nI n ≠ 0) (hCP : CPic G h M κ nx) (hcA : chn nx oA A) (hcB : chn nx oB B) (hnd : (A ++ B).Nodup) (hl : A.length + B.length ≤ sz) :
    Bin G E h g (2 * n) j (va_rf oA) (fun q => q ∈ A) sz ∧ Bin G E h g (2 * n) (j + n) (va_rf oB) (fun q => q ∈ B) sz := by
  obtain ⟨h1, h2⟩ := binSplit hn hj H hM hA hB
  obtain ⟨n1, n2, _⟩ := List.nodup_append.mp hnd
  exact ⟨⟨κ, tx, h1, Or.inl ⟨nx, A, by omega, oA, rfl, hcA, n1, fun _ => Iff.rfl, hCP.cg (fun q m => (hM q).mpr (Or.inl m)) (fun _ _ => rfl) (fun _ _ => rfl)⟩⟩, ⟨κ, tx, h2, Or.inl ⟨nx, B, by omega, oB, rfl, hcB, n2, fun _ => Iff.rfl, hCP.cg (fun q m => (hM q).mpr (Or.inr m)) (fun _ _ => rfl) (fun _ _ => rfl)⟩⟩⟩
/-- the bins below j are done -/
def rsI (G : aG) (E h : hH) (g : List Nat → Option Nat) (n sz : Nat) (f : Nat → Value) (Ms : Nat → Nat → Prop) (j : Nat) (f2 : Nat → Value) (M2 : Nat → Nat → Prop) : Prop :=
  (∀ i, j ≤ i → i < n → Bin G E h g n i (f i) (Ms i) sz ∧ f2 i = .null ∧ f2 (i + n) = .null) ∧ ∀ i, i < j → Bin G E h g (2 * n) i (f2 i) (M2 i) sz ∧ Bin G E h g (2 * n) (i + n) (f2 (i + n)) (M2 (i + n)) sz ∧ (∀ q, M2 i q → Ms i q) ∧ ∀ q, M2 (i + n) q → Ms i q
theorem rsI.go {G : aG} {E h h1 : hH} {g : List Nat → Option Nat} {n sz j : Nat} {f f2 f3 : Nat → Value} {Ms M2 : Nat → Nat → Prop} {PA PB : Nat → Prop} (H : rsI G E h g n sz f Ms j f2 M2) (hj : j < n) (he : ∀ i q, i < n → i ≠ j → Ms i q → h1.2 q = h.2 q) (hf : ∀ i, i ≠ j → i ≠ j + n → f3 i = f2 i) (hA : Bin G E h1 g (2 * n) j (f3 j) PA sz) (hB : Bin G E h1 g (2 * n) (j + n) (f3 (j + n)) PB sz) (hPA : ∀ q, PA q → Ms j q) (hPB : ∀ q, PB q → Ms j q) : rsI G E h1 g n sz f Ms (j + 1) f3 (fun i => if i = j then PA else if i = j + n then PB else M2 i) := by
  refine ⟨fun i h1 h2 => ?_, fun i hi => ?_⟩
  · obtain ⟨a, b, c⟩ := H.1 i (by omega) h2
    exact ⟨a.mv (fun q hq => he i q h2 (by omega) hq), (hf i (by omega) (by omega)).trans b, (hf (i + n) (by omega) (by omega)).trans c⟩
  · by_cases e : i = j
    · subst e
      have e2 : i + n ≠ i := by omega
      simp only [if_pos, if_neg e2]
      exact ⟨hA, hB, hPA, hPB⟩
    · obtain ⟨a, b, c, d⟩ := H.2 i (by omega)
      have e2 : i ≠ j + n := by omega
      have e3 : i + n ≠ j := by omega
      have e4 : i + n ≠ j + n := by omega
      simp only [if_neg e, if_neg e2, if_neg e3, if_neg e4]
      rw [hf i e e2, hf (i + n) e3 e4]
      exact ⟨a.mv (fun q hq => he i q (by omega) e (c q hq)), b.mv (fun q hq => he i q (by omega) e (d q hq)), c, d⟩
theorem rsI.fin {G : aG} {E h : hH} {g : List Nat → Option Nat} {n sz : Nat} {f f2 : Nat → Value} {Ms M2 : Nat → Nat → Prop} (H : rsI G E h g n sz f Ms n f2 M2) : (∀ i, i < 2 * n → Bin G E h g (2 * n) i (f2 i) (M2 i) sz) ∧ ∀ i q, i < 2 * n → M2 i q → ∃ k, k < n ∧ Ms k q := by
  refine ⟨fun i hi => ?_, fun i q hi hq => ?_⟩
  · by_cases e : i < n
    · exact (H.2 i e).1
    · have := (H.2 (i - n) (by omega)).2.1
      rw [show i - n + n = i by omega] at this
      exact this
  · by_cases e : i < n
    · exact ⟨i, e, (H.2 i e).2.2.1 q hq⟩
    · exact ⟨i - n, by omega, (H.2 (i - n) (by omega)).2.2.2 q (by rw [show i - n + n = i by omega]; exact hq)⟩
theorem CPic.w {G : aG} {h h1 : hH} {N : Nat → Prop} {κ : kF} {nx : oF} {a : Nat} {e : hE} (H : CPic G h N κ nx) (w : hW1 h h1 a e) (hn : ∀ x, N x → x ≠ a) : CPic G h1 N κ nx := fun x hx => ⟨(w.2.1 x (hn x hx)).trans (H x hx).1, (H x hx).2⟩
theorem nd_lo {A B R : List Nat} {e : Nat} (h : (A ++ (B ++ e :: R)).Nodup) : ((A ++ [e]) ++ (B ++ R)).Nodup := by
  have p : (A ++ (B ++ e :: R)).Perm ((A ++ [e]) ++ (B ++ R)) := by
    rw [List.append_assoc]
    exact List.Perm.append_left A List.perm_middle
  exact p.nodup_iff.mp h
theorem nd_hi {A B R : List Nat} {e : Nat} (h : (A ++ (B ++ e :: R)).Nodup) : (A ++ ((B ++ [e]) ++ R)).Nodup := by
  rw [List.append_assoc]
  exact h
end
