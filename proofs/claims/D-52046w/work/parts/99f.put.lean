/-! PURE: a key is put into a bin; a bin is copied. -/
section
set_option maxRecDepth 100000
def gPut (g : List Nat → Option Nat) (bs : List Nat) (v : Nat) : List Nat → Option Nat := fun cs => if cs = bs then some v else g cs
theorem BinK.add {E : hH} {g : List Nat → Option Nat} {n i : Nat} {M : Nat → Prop} {κ : kF} {tx : Nat → List Nat} (H : BinK E g n i M κ tx) {bs : List Nat} {k u v x : Nat} (hx : (nI n - 1) &&& spT bs = nI i) (hS : isSt E k u bs (hashT bs) (zfT bs)) (hb : bs.length ≤ 8) (hg : g bs = none) (hn : ¬ M x) : BinK E (gPut g bs v) n i (fun q => M q ∨ q = x) (fun q => if q = x then (spT bs, k, v) else κ q) (fun q => if q = x then bs else tx q) := by
  obtain ⟨hK, hI, hT, hG⟩ := H
  have hne : ∀ y, M y → y ≠ x := fun y hy e => hn (e ▸ hy)
  have hno : ∀ y, M y → tx y ≠ bs := fun y hy e => by rw [hG.yes hx hy e] at hg; cases hg
  refine ⟨fun y hy => ?_, fun y hy => ?_, fun y z hy hz hyz => ?_, fun cs hcs a => ?_⟩
  · by_cases e : y = x
    · simp only [if_pos e]
      exact ⟨⟨u, hS⟩, trivial, hb⟩
    · simp only [if_neg e]
      exact hK y (hy.resolve_right e)
  · by_cases e : y = x
    · simp only [if_pos e]; exact hx
    · simp only [if_neg e]
      exact hI y (hy.resolve_right e)
  · by_cases e : y = x
    · have e2 : z ≠ x := fun e2 => hyz (e.trans e2.symm)
      simp only [if_pos e, if_neg e2]
      exact fun e3 => hno z (hz.resolve_right e2) e3.symm
    · simp only [if_neg e]
      by_cases e2 : z = x
      · simp only [if_pos e2]
        exact hno y (hy.resolve_right e)
      · simp only [if_neg e2]
        exact hT y z (hy.resolve_right e) (hz.resolve_right e2) hyz
  · unfold gPut
    by_cases ec : cs = bs
    · subst ec
      rw [if_pos rfl]
      constructor
      · intro e
        cases e
        exact ⟨x, Or.inr rfl, by simp, by simp⟩
      · rintro ⟨y, y1, y2, y3⟩
        by_cases e : y = x
        · simp only [if_pos e] at y3
          rw [y3]
        · simp only [if_neg e] at y2
          exact absurd y2 (hno y (y1.resolve_right e))
    · rw [if_neg ec, hG cs hcs a]
      constructor
      · rintro ⟨y, y1, y2, y3⟩
        have e := hne y y1
        exact ⟨y, Or.inl y1, by simp only [if_neg e]; exact y2, by simp only [if_neg e]; exact y3⟩
      · rintro ⟨y, y1, y2, y3⟩
        by_cases e : y = x
        · simp only [if_pos e] at y2
          exact absurd y2.symm ec
        · simp only [if_neg e] at y2 y3
          exact ⟨y, y1.resolve_right e, y2, y3⟩
theorem Bin.oth {G : aG} {E h : hH} {g : List Nat → Option Nat} {n i j sz sz' : Nat} {w : Value} {M : Nat → Prop} {bs : List Nat} {v : Nat} (H : Bin G E h g n i w M sz) (hx : (nI n - 1) &&& spT bs = nI j) (hi : i < 64) (hj : j < 64) (hn : i ≠ j) (hsz : sz ≤ sz') : Bin G E h (gPut g bs v) n i w M sz' := by
  obtain ⟨κ, tx, ⟨hK, hI, hT, hG⟩, H⟩ := H
  refine ⟨κ, tx, ⟨hK, hI, hT, fun cs hcs a => ?_⟩, H.imp (fun ⟨nx, L, hl, h9⟩ => ⟨nx, L, by omega, h9⟩) id⟩
  have e : cs ≠ bs := fun e => by
    subst e
    exact hn ((nI_eq (by omega) (by omega)).mp (hcs.symm.trans hx))
  unfold gPut
  rw [if_neg e]
  exact hG cs hcs a
theorem nd_map {α : Type} {f : Nat → α} : ∀ {L : List Nat}, L.Nodup → (∀ x y, x ∈ L → y ∈ L → x ≠ y → f x ≠ f y) → (L.map f).Nodup
  | [], _, _ => List.nodup_nil
  | a :: L, h, hf => by
    obtain ⟨h1, h2⟩ := List.nodup_cons.mp h
    refine List.nodup_cons.mpr ⟨fun m => ?_, nd_map h2 (fun x y hx hy => hf x y (List.mem_cons_of_mem _ hx) (List.mem_cons_of_mem _ hy))⟩
    obtain ⟨b, b1, b2⟩ := List.mem_map.mp m
    exact hf b a (List.mem_cons_of_mem _ b1) List.mem_cons_self (fun e => h1 (e ▸ b1)) b2
theorem map_nd {α : Type} {f : Nat → α} : ∀ {L : List Nat}, (L.map f).Nodup → ∀ x y, x ∈ L → y ∈ L → x ≠ y → f x ≠ f y
  | a :: L, h, x, y, hx, hy, hn => by
    obtain ⟨h1, h2⟩ := List.nodup_cons.mp h
    rcases List.mem_cons.mp hx with e | hx9
    · rcases List.mem_cons.mp hy with e2 | hy9
      · exact absurd (e.trans e2.symm) hn
      · subst e; exact fun e3 => h1 (List.mem_map.mpr ⟨y, hy9, e3.symm⟩)
    · rcases List.mem_cons.mp hy with e2 | hy9
      · subst e2; exact fun e3 => h1 (List.mem_map.mpr ⟨x, hx9, e3⟩)
      · exact map_nd h2 x y hx9 hy9 hn
/-- a copy of a bin -/
theorem BinK.copy {E : hH} {g : List Nat → Option Nat} {n i : Nat} {M : Nat → Prop} {κ κ1 : kF} {tx tx1 : Nat → List Nat} {L Q : List Nat} (H : BinK E g n i M κ tx) (hM : ∀ q, M q ↔ q ∈ L) (hL : L.Nodup) (he : Q.map (fun q => (κ1 q, tx1 q)) = L.map (fun q => (κ q, tx q))) : BinK E g n i (fun q => q ∈ Q) κ1 tx1 := by
  obtain ⟨hK, hI, hT, hG⟩ := H
  have hf : ∀ y, y ∈ Q → ∃ x, M x ∧ κ1 y = κ x ∧ tx1 y = tx x := fun y hy => by
    have : (κ1 y, tx1 y) ∈ L.map (fun q => (κ q, tx q)) := by rw [← he]; exact List.mem_map.mpr ⟨y, hy, rfl⟩
    obtain ⟨x, x1, x2⟩ := List.mem_map.mp this
    have e := Prod.mk.inj x2
    exact ⟨x, (hM x).mpr x1, e.1.symm, e.2.symm⟩
  have hb : ∀ x, M x → ∃ y, y ∈ Q ∧ κ1 y = κ x ∧ tx1 y = tx x := fun x hx => by
    have : (κ x, tx x) ∈ Q.map (fun q => (κ1 q, tx1 q)) := by rw [he]; exact List.mem_map.mpr ⟨x, (hM x).mp hx, rfl⟩
    obtain ⟨y, y1, y2⟩ := List.mem_map.mp this
    have e := Prod.mk.inj y2
    exact ⟨y, y1, e.1, e.2⟩
  have ht : Q.map tx1 = L.map tx := by
    have := congrArg (List.map Prod.snd) he
    rw [List.map_map, List.map_map] at this
    exact this
  have hn : (Q.map tx1).Nodup := by
    rw [ht]
    exact nd_map hL (fun x y hx hy => hT x y ((hM x).mpr hx) ((hM y).mpr hy))
  refine ⟨fun y hy => ?_, fun y hy => ?_, fun y z hy hz => map_nd hn y z hy hz, fun cs hcs a => ?_⟩
  · obtain ⟨x, x1, x2, x3⟩ := hf y hy
    rw [x2, x3]; exact hK x x1
  · obtain ⟨x, x1, x2, x3⟩ := hf y hy
    rw [x2]; exact hI x x1
  · rw [hG cs hcs a]
    constructor
    · rintro ⟨x, x1, x2, x3⟩
      obtain ⟨y, y1, y2, y3⟩ := hb x x1
      exact ⟨y, y1, y3.trans x2, by rw [y2]; exact x3⟩
    · rintro ⟨y, y1, y2, y3⟩
      obtain ⟨x, x1, x2, x3⟩ := hf y y1
      exact ⟨x, x1, x3.symm.trans y2, by rw [← x2]; exact y3⟩
theorem chn.snoc {nx : oF} {x p : Nat} : ∀ {A : List Nat} {o : Option Nat}, chn nx o (A ++ [p]) → (A ++ [p]).Nodup → x ∉ A ++ [p] → chn (up (up nx x none) p (some x)) o (A ++ [p] ++ [x])
  | [], o, h, hn, hx => by
    have e : x ≠ p := fun e => hx (e ▸ List.mem_singleton.mpr rfl)
    exact ⟨h.1, by simp [up], by simp [up, e, chn]⟩
  | a :: A, o, h, hn, hx => by
    obtain ⟨h1, h2⟩ := List.nodup_cons.mp hn
    have e1 : a ≠ p := fun e => h1 (e ▸ List.mem_append_right _ (List.mem_singleton.mpr rfl))
    have e2 : a ≠ x := fun e => hx (e ▸ List.mem_cons_self)
    exact ⟨h.1, by unfold up; rw [if_neg e1, if_neg e2]; exact chn.snoc h.2 h2 (fun m => hx (List.mem_cons_of_mem _ m))⟩
theorem oc1.cl2 {nx : oF} : ∀ {L : List Nat} {a t : Nat}, oc1 nx a L t → nx t = none → chn nx (some a) (a :: L)
  | [], a, t, h, hn => by
    have h9 : t = a := h
    subst h9
    exact ⟨rfl, hn⟩
  | b :: L, a, t, h, hn => ⟨rfl, by rw [h.1]; exact oc1.cl2 h.2 hn⟩
theorem och.cl2 {nx : oF} {hd : Option Nat} {t : Nat} {A : List Nat} (h : och nx hd (some t) A) (hn : nx t = none) : chn nx hd A := by
  cases A with
  | nil => exact absurd h.2 (by simp)
  | cons a L =>
    obtain ⟨h1, t', h2, h3⟩ := h
    cases h2
    rw [h1]
    exact h3.cl2 hn
end
