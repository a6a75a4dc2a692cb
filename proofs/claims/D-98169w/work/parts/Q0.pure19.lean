/-! ===== plain: a table while it is read ===== -/
section P8p
variable {G : GE} {I J I' J' : HI} {P P' : HP} {T T' : HT} {z z' z0 r tp t e n : Nat} {τ η ν : Int → Int} {Ls : List (List Int)} {s : TS}
theorem NL.cg (h : NL G I P T n e Ls) (hh : ∀ a, (T a).1 = 52 ∨ (T a).1 = 9 ∨ (T a).1 = 57 ∨ (T a).1 = 2 → I' a = I a ∧ P' a = P a ∧ T' a = T a) : NL G I' P' T' n e Ls := by
  obtain ⟨y1, y2, y3, y4, y5, y6, y7⟩ := h
  obtain ⟨f1, f2, f3⟩ := hh n (Or.inl (by rw [y1]))
  have he : (T e).1 = 9 := by rcases y6 with ⟨-, -, y⟩ | ⟨-, y⟩ <;> rw [y]
  obtain ⟨g1, g2, g3⟩ := hh e (Or.inr (Or.inl he))
  refine ⟨by rw [f3]; exact y1, by rw [f1]; exact y2, by rw [f1]; exact y3, y4, by rw [f2]; exact y5, by rw [g3]; exact y6, fun i p q => ?_⟩
  obtain ⟨w, a1, a2⟩ := y7 i p q
  exact ⟨w, by rw [g2]; exact a1, a2.cg (fun a ha => hh a (by omega))⟩
theorem shT.cg (h : shT G P T t) (h0 : P' t = P t) (h2 : P' (t + 2) = P (t + 2)) (hh : ∀ a, t ≤ a → a < t + 11 → T' a = T a) : shT G P' T' t := by
  obtain ⟨a1, a2, a3, a4, a5, a6, a7, a8, a9, a10, a11⟩ := h
  have e0 := hh t (by omega) (by omega)
  refine ⟨a1, by rw [e0]; exact a2, by rw [h0]; exact a3, by rw [hh (t + 1) (by omega) (by omega)]; exact a4, by rw [h0]; exact a5, by rw [hh (t + 2) (by omega) (by omega)]; exact a6, by rw [h0]; exact a7, by rw [hh (t + 9) (by omega) (by omega)]; exact a8, by rw [h0]; exact a9, by rw [hh (t + 10) (by omega) (by omega)]; exact a10, fun p p0 p1 => ?_⟩
  obtain ⟨b1, b2⟩ := a11 p p0 p1
  exact ⟨by rw [h2]; exact b1, by rw [hh (t + 3 + p.toNat) (by omega) (by omega)]; exact b2⟩
theorem TR.cg (h : TR I t η) (hh : ∀ a, t ≤ a → a < t + 11 → I' a = I a) : TR I' t η := by
  obtain ⟨⟨a0, a1, a2, a3⟩, b, c, e9, f⟩ := h
  have e0 := hh t (by omega) (by omega)
  refine ⟨⟨by rw [e0]; exact a0, by rw [hh (t + 1) (by omega) (by omega)]; exact a1, by rw [e0]; exact a2, by rw [e0]; exact a3⟩, by rw [e0]; exact b, fun p k x y u v => by rw [hh _ (by omega) (by omega)]; exact c p k x y u v, fun i x y => by rw [hh _ (by omega) (by omega)]; exact e9 i x y, fun k x y => by rw [hh _ (by omega) (by omega)]; exact f k x y⟩
theorem TR.w0 {v : Int} (h : TR I t η) : TR (ui I t 0 v) t (us η 0 v) := by
  obtain ⟨⟨a0, a1, a2, a3⟩, b, c, e9, f⟩ := h
  refine ⟨⟨by rw [ui_e ⟨rfl, rfl⟩, us_s], by rw [ui_o (by omega), us_n (by omega)]; exact a1, by rw [ui_o (by omega), us_n (by omega)]; exact a2, by rw [ui_o (by omega), us_n (by omega)]; exact a3⟩, by rw [ui_o (by omega), us_n (by omega)]; exact b, fun p k x y u v => by rw [ui_o (by omega), us_n (by omega)]; exact c p k x y u v, fun i x y => by rw [us_n (by omega)] at y; rw [ui_o (by omega), us_n (by omega)]; exact e9 i x y, fun k x y => by rw [ui_o (by omega), us_n (by omega)]; exact f k x y⟩
theorem TR.w1 {v : Int} (h : TR I t η) : TR (ui I t 1 v) t (us η 3 v) := by
  obtain ⟨⟨a0, a1, a2, a3⟩, b, c, e9, f⟩ := h
  refine ⟨⟨by rw [ui_o (by omega), us_n (by omega)]; exact a0, by rw [ui_o (by omega), us_n (by omega)]; exact a1, by rw [ui_o (by omega), us_n (by omega)]; exact a2, by rw [ui_e ⟨rfl, rfl⟩, us_s]⟩, by rw [ui_o (by omega), us_n (by omega)]; exact b, fun p k x y u v => by rw [ui_o (by omega), us_n (by omega)]; exact c p k x y u v, fun i x y => by rw [us_n (by omega)] at y; rw [ui_o (by omega), us_n (by omega)]; exact e9 i x y, fun k x y => by rw [ui_o (by omega), us_n (by omega)]; exact f k x y⟩
theorem TR.w4 {v : Int} (h : TR I t η) : TR (ui I t 4 v) t (us η 2 v) := by
  obtain ⟨⟨a0, a1, a2, a3⟩, b, c, e9, f⟩ := h
  refine ⟨⟨by rw [ui_o (by omega), us_n (by omega)]; exact a0, by rw [ui_o (by omega), us_n (by omega)]; exact a1, by rw [ui_e ⟨rfl, rfl⟩, us_s], by rw [ui_o (by omega), us_n (by omega)]; exact a3⟩, by rw [ui_o (by omega), us_n (by omega)]; exact b, fun p k x y u v => by rw [ui_o (by omega), us_n (by omega)]; exact c p k x y u v, fun i x y => by rw [us_n (by omega)] at y; rw [ui_o (by omega), us_n (by omega)]; exact e9 i x y, fun k x y => by rw [ui_o (by omega), us_n (by omega)]; exact f k x y⟩
theorem TR.w2 {v : Int} (h : TR I t η) : TR (ui I t 2 v) t η := by
  obtain ⟨⟨a0, a1, a2, a3⟩, b, c, e9, f⟩ := h
  exact ⟨⟨by rw [ui_o (by omega)]; exact a0, by rw [ui_o (by omega)]; exact a1, by rw [ui_o (by omega)]; exact a2, by rw [ui_o (by omega)]; exact a3⟩, by rw [ui_o (by omega)]; exact b, fun p k x y u v => by rw [ui_o (by omega)]; exact c p k x y u v, fun i x y => by rw [ui_o (by omega)]; exact e9 i x y, fun k x y => by rw [ui_o (by omega)]; exact f k x y⟩
theorem TR.names {v : Int} (h : TR I t η) (hh : ∀ a, t ≤ a → a < t + 11 → a ≠ t + 1 → I' a = I a) (h1 : I' (t + 1) 2 = v) : TR I' t (us η 1 v) := by
  obtain ⟨⟨a0, a1, a2, a3⟩, b, c, e9, f⟩ := h
  have e0 := hh t (by omega) (by omega) (by omega)
  refine ⟨⟨by rw [e0, us_n (by omega)]; exact a0, by rw [us_s]; exact h1, by rw [e0, us_n (by omega)]; exact a2, by rw [e0, us_n (by omega)]; exact a3⟩, by rw [e0, us_n (by omega)]; exact b, fun p k x y u v => by rw [hh _ (by omega) (by omega) (by omega), us_n (by omega)]; exact c p k x y u v, fun i x y => by rw [us_n (by omega)] at y; rw [hh _ (by omega) (by omega) (by omega), us_n (by omega)]; exact e9 i x y, fun k x y => by rw [hh _ (by omega) (by omega) (by omega), us_n (by omega)]; exact f k x y⟩
theorem TR.hand {p k m v : Int} (h : TR I t η) (h7 : 0 ≤ η 7 ∧ η 7 ≤ 52) (hp : 0 ≤ p ∧ p < 6) (hk : 0 ≤ k ∧ k < 13) : TR (ui (ui I (t + 3 + p.toNat) k m) (t + 10) k v) t (us (us η (571 + k) v) (60 + 13 * p + k) m) := by
  obtain ⟨⟨a0, a1, a2, a3⟩, b, c, e9, f⟩ := h
  refine ⟨⟨?_, ?_, ?_, ?_⟩, ?_, fun p2 k2 x y u w => ?_, fun i x y => ?_, fun k2 x y => ?_⟩
  · rw [ui_o (by omega), ui_o (by omega), us_n (by omega), us_n (by omega)]; exact a0
  · rw [ui_o (by omega), ui_o (by omega), us_n (by omega), us_n (by omega)]; exact a1
  · rw [ui_o (by omega), ui_o (by omega), us_n (by omega), us_n (by omega)]; exact a2
  · rw [ui_o (by omega), ui_o (by omega), us_n (by omega), us_n (by omega)]; exact a3
  · rw [ui_o (by omega), ui_o (by omega), us_n (by omega), us_n (by omega)]; exact b
  · rw [ui_o (by omega)]
    by_cases q : p2 = p ∧ k2 = k
    · obtain ⟨rfl, rfl⟩ := q; rw [ui_e ⟨rfl, rfl⟩, us_s]
    · rw [ui_o (by omega), us_n (by omega), us_n (by omega)]; exact c p2 k2 x y u w
  · rw [us_n (by omega), us_n (by omega)] at y
    rw [ui_o (by omega), ui_o (by omega), us_n (by omega), us_n (by omega)]; exact e9 i x y
  · by_cases q : k2 = k
    · subst q; rw [ui_e ⟨rfl, rfl⟩, us_n (by omega), us_s]
    · rw [ui_o (by omega), ui_o (by omega), us_n (by omega), us_n (by omega)]; exact f k2 x y
theorem TR.heapw {k v : Int} (h : TR I t η) (h7 : 0 ≤ η 7 ∧ η 7 ≤ 51) (hk : 0 ≤ k ∧ k < 13) : TR (ui (ui (ui I (t + 10) k v) (t + 9) (η 7) k) t 3 (η 7 + 1)) t (us (us (us η (571 + k) v) (8 + η 7) k) 7 (η 7 + 1)) := by
  obtain ⟨⟨a0, a1, a2, a3⟩, b, c, e9, f⟩ := h
  refine ⟨⟨?_, ?_, ?_, ?_⟩, ?_, fun p2 k2 x y u w => ?_, fun i x y => ?_, fun k2 x y => ?_⟩
  · rw [ui_o (by omega), ui_o (by omega), ui_o (by omega), us_n (by omega), us_n (by omega), us_n (by omega)]; exact a0
  · rw [ui_o (by omega), ui_o (by omega), ui_o (by omega), us_n (by omega), us_n (by omega), us_n (by omega)]; exact a1
  · rw [ui_o (by omega), ui_o (by omega), ui_o (by omega), us_n (by omega), us_n (by omega), us_n (by omega)]; exact a2
  · rw [ui_o (by omega), ui_o (by omega), ui_o (by omega), us_n (by omega), us_n (by omega), us_n (by omega)]; exact a3
  · rw [ui_e ⟨rfl, rfl⟩, us_s]
  · rw [ui_o (by omega), ui_o (by omega), ui_o (by omega), us_n (by omega), us_n (by omega), us_n (by omega)]; exact c p2 k2 x y u w
  · rw [us_s] at y
    rw [ui_o (by omega)]
    by_cases q : i = η 7
    · subst q; rw [ui_e ⟨rfl, rfl⟩, us_n (by omega), us_s]
    · rw [ui_o (by omega), ui_o (by omega), us_n (by omega), us_n (by omega), us_n (by omega)]; exact e9 i x (by omega)
  · rw [ui_o (by omega), ui_o (by omega)]
    by_cases q : k2 = k
    · subst q; rw [ui_e ⟨rfl, rfl⟩, us_n (by omega), us_n (by omega), us_s]
    · rw [ui_o (by omega), us_n (by omega), us_n (by omega), us_n (by omega)]; exact f k2 x y
/-- the table at t, read so far -/
def TB (G : GE) (I : HI) (P : HP) (T : HT) (t e : Nat) (Ls : List (List Int)) (s : TS) : Prop := shT G P T t ∧ TR I t s.2.2.1 ∧ I t 2 = s.1 19 ∧ NL G I P T (t + 1) e Ls ∧ (Ls.length : Int) = s.2.2.1 1 ∧ ∀ i : Int, 0 ≤ i → i < Ls.length → WD (Ls.getD i.toNat []) ∧ cod (Ls.getD i.toNat []) = s.2.2.2 (6 + i)
theorem shT.tg (h : shT G P T t) {a : Nat} (h0 : t ≤ a) (h1 : a < t + 11) : (T a).1 ≠ 0 ∧ (T a).1 ≠ 33 ∧ (T a).1 ≠ 9 ∧ (T a).1 ≠ 57 ∧ (T a).1 ≠ 2 ∧ ((T a).1 = 52 → a = t + 1) := by
  obtain ⟨a1, a2, a3, a4, a5, a6, a7, a8, a9, a10, a11⟩ := h
  have hc : a = t ∨ a = t + 1 ∨ a = t + 2 ∨ a = t + 9 ∨ a = t + 10 ∨ ∃ p : Int, 0 ≤ p ∧ p < 6 ∧ a = t + 3 + p.toNat := by
    by_cases q : t + 3 ≤ a ∧ a < t + 9
    · exact Or.inr (Or.inr (Or.inr (Or.inr (Or.inr ⟨((a - (t + 3) : Nat) : Int), by omega, by omega, by omega⟩))))
    · omega
  rcases hc with rfl | rfl | rfl | rfl | rfl | ⟨p, p0, p1, rfl⟩
  · rw [a2]; exact ⟨by decide, by decide, by decide, by decide, by decide, fun q => absurd q (by decide)⟩
  · rw [a4]; exact ⟨by decide, by decide, by decide, by decide, by decide, fun _ => rfl⟩
  · rw [a6]; exact ⟨by decide, by decide, by decide, by decide, by decide, fun q => absurd q (by decide)⟩
  · rw [a8]; exact ⟨by decide, by decide, by decide, by decide, by decide, fun q => absurd q (by decide)⟩
  · rw [a10]; exact ⟨by decide, by decide, by decide, by decide, by decide, fun q => absurd q (by decide)⟩
  · rw [(a11 p p0 p1).2]; exact ⟨by decide, by decide, by decide, by decide, by decide, fun q => absurd q (by decide)⟩
theorem TB.cg {s' : TS} (h : TB G I P T t e Ls s) (hh : ∀ a, (T a).1 ≠ 0 → (T a).1 ≠ 33 → I' a = I a ∧ P' a = P a ∧ T' a = T a) (e1 : s'.2.2 = s.2.2) (e2 : s'.1 19 = s.1 19) : TB G I' P' T' t e Ls s' := by
  obtain ⟨a1, a2, a3, a4, a5, a6⟩ := h
  have ht : ∀ a, t ≤ a → a < t + 11 → I' a = I a ∧ P' a = P a ∧ T' a = T a := fun a p q => hh a (a1.tg p q).1 (a1.tg p q).2.1
  refine ⟨a1.cg (ht t (by omega) (by omega)).2.1 (ht (t + 2) (by omega) (by omega)).2.1 (fun a p q => (ht a p q).2.2), ?_, ?_, a4.cg (fun a q => hh a (by omega) (by omega)), ?_, fun i p q => ?_⟩
  · rw [e1]; exact a2.cg (fun a p q => (ht a p q).1)
  · rw [e2, (ht t (by omega) (by omega)).1]; exact a3
  · rw [e1]; exact a5
  · rw [e1]; exact a6 i p q
/-- a number of the table's object, or of its rows, is written -/
theorem TB.tab {s' : TS} (h : TB G I P T t e Ls s) (hh : ∀ a, (a < t ∨ t + 11 ≤ a ∨ a = t + 1) → I' a = I a) (hr : TR I' t s'.2.2.1) (h2 : I' t 2 = s'.1 19) (e1 : s'.2.2.1 1 = s.2.2.1 1) (e2 : s'.2.2.2 = s.2.2.2) : TB G I' P T t e Ls s' := by
  obtain ⟨a1, a2, a3, a4, a5, a6⟩ := h
  refine ⟨a1, hr, h2, a4.cg (fun a q => ⟨hh a ?_, rfl, rfl⟩), by rw [e1]; exact a5, fun i p q => by rw [e2]; exact a6 i p q⟩
  by_cases c : t ≤ a ∧ a < t + 11
  · have := a1.tg c.1 c.2
    have h52 : (T a).1 = 52 := by omega
    exact Or.inr (Or.inr (this.2.2.2.2.2 h52))
  · omega
/-- the whole of a table's reader -/
def TWd (G : GE) (I : HI) (P : HP) (T : HT) (z0 z r tp t e : Nat) (τ : Int → Int) (Ls : List (List Int)) (s : TS) : Prop := (G.2.2.2.1 ≤ z0 ∧ z0 ≤ r ∧ z0 ≤ t ∧ tp < z0 ∧ r < z ∧ t + 11 ≤ z ∧ (T e = (9, 10) → z0 ≤ e)) ∧ CS G I P T ∧ RD I P T 13 r tp τ s ∧ TB G I P T t e Ls s ∧ P r 9 = some t ∧ ((s.1 20 = 0 ∨ s.1 20 = 1) ∧ (s.1 21 = 0 ∨ s.1 21 = 1) ∧ (s.1 22 = 0 ∨ s.1 22 = 1)) ∧ I r 10 = s.1 20 + 2 * s.1 21 + 4 * s.1 22 ∧ TSW s ∧ s.1 5 ≤ 940
theorem TWd.S (h : TWd G I P T z0 z r tp t e τ Ls s) : ∀ a, a < z0 → a < z ∧ a ≠ r := fun a q => by have := h.1; omega
theorem TWd.ti (h : TWd G I P T z0 z r tp t e τ Ls s) : TI s.1 := h.2.2.2.2.2.2.2.1.1
theorem TWd.rf {s' : TS} (h : TWd G I P T z0 z r tp t e τ Ls s) (hz : z ≤ z') (hf : RF z r I J P T I' J' P' T') (hR : RD I' P' T' 13 r tp τ s') (hzz : ∀ a, z ≤ a → (T a).1 = 0) (e1 : s'.2.2 = s.2.2) (f19 : ∀ j : Int, 15 ≤ j → s'.1 j = s.1 j) (e5 : s'.1 5 = s.1 5) (hw : TSW s') : TWd G I' P' T' z0 z' r tp t e τ Ls s' := by
  obtain ⟨a1, a2, a3, a4, a5, a6, a7, a8, a9⟩ := h
  have hlt : ∀ a, (T a).1 ≠ 0 → a < z := fun a q => Nat.not_le.mp fun c => q (hzz a c)
  have hr33 : (T r).1 = 33 := by rw [a3.1.1]
  have hh : ∀ a, (T a).1 ≠ 0 → (T a).1 ≠ 33 → I' a = I a ∧ P' a = P a ∧ T' a = T a := fun a p q => by
    have := hf.1 a (hlt a p) (fun c => q (by rw [c]; exact hr33))
    exact ⟨this.1, this.2.2, hf.2.1 a (hlt a p)⟩
  refine ⟨⟨a1.1, a1.2.1, a1.2.2.1, a1.2.2.2.1, by omega, by omega, fun q => ?_⟩, a2.fz (z := 0) (J := I) (J1 := I) (fun a q => ?_), hR, a4.cg hh e1 (f19 19 (by omega)), ?_, ?_, ?_, hw, ?_⟩
  · by_cases c : (T e).1 = 0
    · have := a4.2.2.2.1.2.2.2.2.2.1
      rcases this with ⟨-, -, y⟩ | ⟨-, y⟩ <;> rw [y] at c <;> exact absurd c (by decide)
    · rw [hf.2.1 e (hlt e c)] at q
      exact a1.2.2.2.2.2.2 q
  · have := hf.1 a (by omega) (by omega)
    exact ⟨this.1, this.2.2, hf.2.1 a (by omega)⟩
  · rw [hf.2.2.2.1 9 (by omega)]; exact a5
  · rw [f19 20 (by omega), f19 21 (by omega), f19 22 (by omega)]; exact a6
  · rw [f19 20 (by omega), f19 21 (by omega), f19 22 (by omega), hf.2.2.2.2 10 (by omega)]; exact a7
  · rw [e5]; exact a9
theorem TWd.go (h : TWd G I P T z0 z r tp t e τ Ls s) (hz : z ≤ z') (hf : RF z r I J P T I' J' P' T') (hR : RD I' P' T' 13 r tp τ (g_nx τ s)) (hzz : ∀ a, z ≤ a → (T a).1 = 0) : TWd G I' P' T' z0 z' r tp t e τ Ls (g_nx τ s) := h.rf hz hf hR hzz rfl (fun j q => t_next_f (by omega)) (t_next_f (by omega)) h.2.2.2.2.2.2.2.1.nx
theorem TWd.fz (h : TWd G I P T z0 z r tp t e τ Ls s) (hz : z ≤ z') (hf : FZ z I J P T I' J' P' T') (hzz : ∀ a, z ≤ a → (T a).1 = 0) : TWd G I' P' T' z0 z' r tp t e τ Ls s := h.rf hz (hf.toRF h.1.2.2.2.2.1) (h.2.2.1.fz hf h.1.2.2.2.2.1 (by have := h.1; omega) hzz) hzz rfl (fun _ _ => rfl) rfl h.2.2.2.2.2.2.2.1
/-- a name more -/
theorem TWd.add {L : List Int} {e' : Nat} (h : TWd G I P T z0 z r tp t e τ Ls s) (hl : Ls.length < 6) (hz : z ≤ z') (he' : e' = e ∨ e' = z) (hzz : ∀ a, z ≤ a → (T a).1 = 0) (hWL : WD L) (hco : cod L = s.2.1) (hf : ∀ a, a < z → a ≠ t + 1 → (a = e → T e = (9, 0)) → I' a = I a ∧ J' a = J a ∧ P' a = P a) (hT : ∀ a, a < z → T' a = T a) (hN : NL G I' P' T' (t + 1) e' (Ls ++ [L])) : TWd G I' P' T' z0 z' r tp t e' τ (Ls ++ [L]) (g_h 1 (s.2.2.1 1 + 1) (g_n (6 + s.2.2.1 1) s.2.1 s)) ∧ FS (fun a => a < z0) I J P T I' J' P' T' := by
  obtain ⟨a1, a2, a3, a4, a5, a6, a7, a8, a9⟩ := h
  have hlt : ∀ a, (T a).1 ≠ 0 → a < z := fun a q => Nat.not_le.mp fun c => q (hzz a c)
  have hTe := a4.2.2.2.1.2.2.2.2.2.1
  have hTn : (T (t + 1)).1 = 52 := by rw [a4.1.t_names]
  have hTe9 : (T e).1 = 9 := by rcases hTe with ⟨-, -, y⟩ | ⟨-, y⟩ <;> rw [y]
  have hf2 : ∀ a, (T a).1 ≠ 0 → (T a).1 ≠ 52 → (T a).1 ≠ 9 → I' a = I a ∧ J' a = J a ∧ P' a = P a ∧ T' a = T a := fun a p q u => by
    have := hf a (hlt a p) (fun c => q (by rw [c]; exact hTn)) (fun c => absurd hTe9 (by rw [← c]; exact u))
    exact ⟨this.1, this.2.1, this.2.2, hT a (hlt a p)⟩
  have hfs : FS (fun a => a < z0) I J P T I' J' P' T' := fun a q => by
    dsimp only at q
    have := hf a (by omega) (by omega) (fun c => by
      rcases hTe with ⟨-, -, y⟩ | ⟨-, y⟩
      · exact y
      · have := a1.2.2.2.2.2.2 y; omega)
    exact ⟨this.1, this.2.1, this.2.2, hT a (by omega)⟩
  have hr := hf2 r (by rw [a3.1.1]; decide) (by rw [a3.1.1]; decide) (by rw [a3.1.1]; decide)
  have htt : ∀ a, t ≤ a → a < t + 11 → a ≠ t + 1 → I' a = I a ∧ J' a = J a ∧ P' a = P a ∧ T' a = T a := fun a p q u => by
    have := a4.1.tg p q
    exact hf2 a this.1 (fun c => u (this.2.2.2.2.2 c)) this.2.2.1
  have ht0 := htt t (by omega) (by omega) (by omega)
  have hη : (Ls.length : Int) = s.2.2.1 1 := a4.2.2.2.2.1
  have hsg : ∀ a, (T a).1 = 57 ∨ (T a).1 = 2 → I' a = I a ∧ P' a = P a ∧ T' a = T a := fun a q => by
    have := hf2 a (by omega) (by omega) (by omega)
    exact ⟨this.1, this.2.2.1, this.2.2.2⟩
  refine ⟨⟨⟨a1.1, a1.2.1, a1.2.2.1, a1.2.2.2.1, by omega, by omega, fun q => ?_⟩, a2.fz (z := 0) (J := I) (J1 := I) (fun a q => ?_), ⟨?_, ?_⟩, ⟨?_, ?_, ?_, hN, ?_, fun i p q => ?_⟩, ?_, a6, ?_, ⟨a8.1, ?_, fun q => ?_⟩, a9⟩, hfs⟩
  · rcases he' with c | c
    · rw [c] at q ⊢
      rw [hT e (hlt e (by omega))] at q
      exact a1.2.2.2.2.2.2 q
    · omega
  · have := hfs a (by show a < z0; omega)
    exact ⟨this.1, this.2.2.1, this.2.2.2⟩
  · obtain ⟨b1, b2, b3, b4, b5, b6, b7, b8⟩ := a3.1
    have htp := hsg tp (Or.inr (by rw [b3]))
    exact ⟨by rw [hr.2.2.2]; exact b1, by rw [hr.2.2.1]; exact b2, by rw [htp.2.2]; exact b3, by rw [htp.1]; exact b4, by rw [hr.1]; exact b5, by rw [hr.1]; exact b6, by rw [hr.1]; exact b7, b8⟩
  · obtain ⟨b1, b2, b3, b4, b5, b6⟩ := a3.2
    unfold TK
    rw [hr.1, hr.2.2.1]
    refine ⟨b1, b2, fun q => ?_, b4, b5, b6⟩
    obtain ⟨c1, w, L, c2, c3, c4, c5⟩ := b3 q
    exact ⟨c1, w, L, c2, c3.cg hsg, c4, c5⟩
  · exact a4.1.cg ht0.2.2.1 (htt (t + 2) (by omega) (by omega) (by omega)).2.2.1 (fun a p q => hT a (by omega))
  · exact a4.2.1.names (fun a p q u => (htt a p q u).1) (by rw [hN.2.2.1, List.length_append]; simp; exact hη)
  · rw [ht0.1]; exact a4.2.2.1
  · rw [List.length_append]
    show _ = us s.2.2.1 1 (s.2.2.1 1 + 1) 1
    rw [us_s]; simp; exact hη
  · rw [List.length_append] at q
    simp only [List.length_cons, List.length_nil] at q
    show _ ∧ _ = us s.2.2.2 (6 + s.2.2.1 1) s.2.1 (6 + i)
    by_cases c : i = Ls.length
    · subst c
      rw [us_e (by omega), List.getD_eq_getElem?_getD, Int.toNat_natCast, List.getElem?_append_right (by omega)]
      simp
      exact ⟨hWL, hco⟩
    · rw [us_n (by omega), List.getD_eq_getElem?_getD, List.getElem?_append_left (by omega), ← List.getD_eq_getElem?_getD]
      exact a4.2.2.2.2.2 i p (by omega)
  · rw [hr.2.2.1]; exact a5
  · rw [hr.1]; exact a7
  · exact a8.2.1.small (Or.inl ⟨rfl, by omega, by omega⟩)
  · show us s.2.2.1 1 (s.2.2.1 1 + 1) 0 = 0
    rw [us_n (by omega)]; exact a8.2.2 q
/-- a fault by the model's words -/
theorem bad15 {s : TS} {k : Int} : (g_bad k s).1 15 = k ∧ (g_bad k s).1 16 = s.1 12 := by unfold g_bad; simp (disch := omega) only [us_n, us_s]; exact ⟨trivial, trivial⟩
theorem onc_t {a b c k : Int} (ha : a = 0 ∨ a = 1) (hb : b = 0 ∨ b = 1) (hc : c = 0 ∨ c = 1) (hk : k = 0 ∨ k = 1 ∨ k = 2) : tb (a + 2 * b + 4 * c) k ↔ (if k = 0 then a else if k = 1 then b else c) = 1 := by
  rcases ha with rfl | rfl <;> rcases hb with rfl | rfl <;> rcases hc with rfl | rfl <;> rcases hk with rfl | rfl | rfl <;> decide
theorem onc_o {a b c k : Int} (ha : a = 0 ∨ a = 1) (hb : b = 0 ∨ b = 1) (hc : c = 0 ∨ c = 1) (hk : k = 0 ∨ k = 1 ∨ k = 2) : ((((a + 2 * b + 4 * c).toNat ||| (1 * ((2 ^ k.toNat : Nat) : Int)).toNat : Nat)) : Int) = (if k = 0 then 1 else a) + 2 * (if k = 1 then 1 else b) + 4 * (if k = 2 then 1 else c) := by
  rcases ha with rfl | rfl <;> rcases hb with rfl | rfl <;> rcases hc with rfl | rfl <;> rcases hk with rfl | rfl | rfl <;> decide
end P8p
