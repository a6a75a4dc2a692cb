/-! ===== the component: an evening is read: what holds on the way ===== -/
section P18
variable {G : GE} {I J I' J' : HI} {P P' : HP} {T T' : HT} {z z' z0 r tp g t en d : Nat} {Q : QT} {X : XT} {τ ρ : Int → Int} {Ls : List (List Int)} {s s' : TS} {e e' : EV}
abbrev SE (z0 g : Nat) : Nat → Prop := fun a => a < z0 ∧ (a < g ∨ g + 31 ≤ a)
def EWd (G : GE) (I : HI) (P : HP) (T : HT) (z0 z r tp g t en : Nat) (τ : Int → Int) (Ls : List (List Int)) (s : TS) (e : EV) : Prop :=
  (G.2.2.2.1 ≤ z0 ∧ z0 ≤ r ∧ tp < z0 ∧ r < z ∧ g + 31 ≤ z0 ∧ t + 11 ≤ z0 ∧ (tp < g ∨ g + 31 ≤ tp) ∧ G.2.2.2.1 ≤ g) ∧ CS G I P T ∧ RD I P T 15 r tp τ s ∧ EJ G I P T r g t e ∧ NL G I P T (t + 1) en Ls ∧ (∀ i : Int, 0 ≤ i → i < Ls.length → WD (Ls.getD i.toNat []) ∧ cod (Ls.getD i.toNat []) = s.2.2.2 (0 + i)) ∧ (Ls.length : Int) = e.1 1 ∧ TI s.1 ∧ s.1 5 ≤ 940
def EQv (G : GE) (z0 z r tp g t en : Nat) (τ : Int → Int) (Ls : List (List Int)) (I J : HI) (P : HP) (T : HT) (s' : TS) (e' : EV) (I' J' : HI) (P' : HP) (T' : HT) (z' : Nat) : Prop := z ≤ z' ∧ FS (SE z0 g) I J P T I' J' P' T' ∧ (∀ a, a < z0 → J' a = J a ∧ P' a = P a ∧ T' a = T a) ∧ EWd G I' P' T' z0 z' r tp g t en τ Ls s' e'
theorem EWd.b (h : EWd G I P T z0 z r tp g t en τ Ls s e) : G.2.2.2.1 ≤ r := by have := h.1; omega
theorem EWd.rz (h : EWd G I P T z0 z r tp g t en τ Ls s e) : r < z := h.1.2.2.2.1
theorem EWd.tz (h : EWd G I P T z0 z r tp g t en τ Ls s e) : tp < z := by have := h.1; omega
theorem EWd.rd (h : EWd G I P T z0 z r tp g t en τ Ls s e) : RD I P T 15 r tp τ s := h.2.2.1
theorem EWd.o (h : EWd G I P T z0 z r tp g t en τ Ls s e) : T r = (15 + 20, 0) := h.2.2.1.1.1
theorem EWd.ej (h : EWd G I P T z0 z r tp g t en τ Ls s e) : EJ G I P T r g t e := h.2.2.2.1
theorem EWd.nl (h : EWd G I P T z0 z r tp g t en τ Ls s e) : NL G I P T (t + 1) en Ls := h.2.2.2.2.1
theorem EWd.nm (h : EWd G I P T z0 z r tp g t en τ Ls s e) : ∀ i : Int, 0 ≤ i → i < Ls.length → WD (Ls.getD i.toNat []) ∧ cod (Ls.getD i.toNat []) = s.2.2.2 (0 + i) := h.2.2.2.2.2.1
theorem EWd.ln (h : EWd G I P T z0 z r tp g t en τ Ls s e) : (Ls.length : Int) = e.1 1 := h.2.2.2.2.2.2.1
theorem EWd.ti (h : EWd G I P T z0 z r tp g t en τ Ls s e) : TI s.1 := h.2.2.2.2.2.2.2.1
theorem EWd.g5 (h : EWd G I P T z0 z r tp g t en τ Ls s e) : s.1 5 ≤ 940 := h.2.2.2.2.2.2.2.2
theorem EWd.sh (h : EWd G I P T z0 z r tp g t en τ Ls s e) : shG G P T g t := h.2.2.2.1.2.2.1
theorem EWd.pg (h : EWd G I P T z0 z r tp g t en τ Ls s e) : P r 9 = some g := h.2.2.2.1.2.1
theorem EWd.S (h : EWd G I P T z0 z r tp g t en τ Ls s e) : ∀ a, SE z0 g a → a < z ∧ a ≠ r := fun a q => by
  have := h.1
  have q1 : a < z0 := q.1
  omega
/-- the reader alone goes on -/
theorem EWd.rf (h : EWd G I P T z0 z r tp g t en τ Ls s e) (hz : z ≤ z') (hf : RF z r I J P T I' J' P' T') (hR : RD I' P' T' 15 r tp τ s') (hn : s'.2.2.2 = s.2.2.2) (hti : TI s'.1) (h5 : s'.1 5 ≤ 940) (hzz : ∀ a, z ≤ a → (T a).1 = 0) : EWd G I' P' T' z0 z' r tp g t en τ Ls s' e := by
  obtain ⟨a1, a2, a3, a4, a5, a6, a7, a8, a9⟩ := h
  have hlt : ∀ a, (T a).1 ≠ 0 → a < z := fun a q => Nat.not_le.mp fun c => q (hzz a c)
  have hr35 : (T r).1 = 35 := by rw [a3.1.1]
  have hh : ∀ a, (T a).1 ≠ 0 → (T a).1 ≠ 35 → I' a = I a ∧ P' a = P a ∧ T' a = T a := fun a p q => by
    have := hf.1 a (hlt a p) (fun c => q (by rw [c]; exact hr35))
    exact ⟨this.1, this.2.2, hf.2.1 a (hlt a p)⟩
  obtain ⟨b1, b2, b3, b4, b5, b6, b7, b8, b9, b10⟩ := a4
  have hP : ∀ a, a < z0 → P' a = P a := fun a q => (hf.1 a (by omega) (by omega)).2.2
  have hT : ∀ a, a < z0 → T' a = T a := fun a q => hf.2.1 a (by omega)
  have hI : ∀ a, a < z0 → I' a = I a := fun a q => (hf.1 a (by omega) (by omega)).1
  refine ⟨⟨a1.1, a1.2.1, a1.2.2.1, by omega, a1.2.2.2.2⟩, a2.fz (z := 0) (J := I) (J1 := I) (fun a q => ⟨hI a (by omega), hP a (by omega), hT a (by omega)⟩), hR, ⟨⟨hR.1.1, b1.2⟩, ?_, ⟨?_, ?_, ?_⟩, ?_, b5, ?_, ?_, ?_, b9, b10⟩, a5.cg (fun a q => hh a (by omega) (by omega)), ?_, a7, hti, h5⟩
  · rw [hf.2.2.2.1 9 (by omega)]; exact b2
  · exact (b3.1.ct (fun a p q => hT a (by omega))).pf (fun j _ => by rw [hP g (by omega)]) ⟨hP _ (by omega), hP _ (by omega), hP _ (by omega)⟩
  · exact b3.2.1.cg (hP _ (by omega)) (hP _ (by omega)) (fun a p q => hT a (by omega))
  · rw [hP g (by omega)]; exact b3.2.2
  · exact b4.fr (fun b q => hI b (by omega))
  · rw [hf.2.2.2.2 10 (by omega)]; exact b6
  · rw [hf.2.2.2.2 11 (by omega)]; exact b7
  · rw [hf.2.2.2.2 12 (by omega)]; exact b8
  · rw [hn]; exact a6
theorem EWd.go (h : EWd G I P T z0 z r tp g t en τ Ls s e) (hz : z ≤ z') (hf : RF z r I J P T I' J' P' T') (hR : RD I' P' T' 15 r tp τ (g_nx τ s)) (hzz : ∀ a, z ≤ a → (T a).1 = 0) : EQv G z0 z r tp g t en τ Ls I J P T (g_nx τ s) e I' J' P' T' z' := ⟨hz, hf.fs h.S, fun a q => by
    have := h.1
    have k := hf.1 a (by omega) (by omega)
    exact ⟨k.2.1, k.2.2, hf.2.1 a (by omega)⟩, h.rf hz hf hR rfl h.ti.nx (by have : (g_nx τ s).1 5 = s.1 5 := t_next_f (by omega); rw [this]; exact h.g5) hzz⟩
theorem EQv.rf (h : EWd G I P T z0 z r tp g t en τ Ls s e) : EQv G z0 z r tp g t en τ Ls I J P T s e I J P T z := ⟨Nat.le_refl _, FS.rf, fun _ _ => ⟨rfl, rfl, rfl⟩, h⟩
theorem EQv.tr {I1 J1 I2 J2 : HI} {P1 P2 : HP} {T1 T2 : HT} {z1 z2 : Nat} {s1 s2 : TS} {e1 e2 : EV} (h : EQv G z0 z r tp g t en τ Ls I J P T s1 e1 I1 J1 P1 T1 z1) (k : EQv G z0 z1 r tp g t en τ Ls I1 J1 P1 T1 s2 e2 I2 J2 P2 T2 z2) : EQv G z0 z r tp g t en τ Ls I J P T s2 e2 I2 J2 P2 T2 z2 := ⟨Nat.le_trans h.1 k.1, h.2.1.tr k.2.1, fun a q => by
    have a1 := h.2.2.1 a q
    have a2 := k.2.2.1 a q
    exact ⟨a2.1.trans a1.1, a2.2.1.trans a1.2.1, a2.2.2.trans a1.2.2⟩, k.2.2.2⟩
theorem EWd.w18 {v : Int} (h : EWd G I P T z0 z r tp g t en τ Ls s e) : EWd G I P T z0 z r tp g t en τ Ls (g_w 18 v s) e := by
  obtain ⟨a1, a2, a3, a4, a5, a6, a7, a8, a9⟩ := h
  have ew : ∀ j : Int, j ≠ 18 → (g_w 18 v s).1 j = s.1 j := fun j q => us_n q
  refine ⟨a1, a2, ⟨?_, ?_⟩, a4, a5, a6, a7, TI.us a8 (by omega), by rw [ew 5 (by omega)]; exact a9⟩
  · obtain ⟨b1, b2, b3, b4, b5, b6, b7, b8⟩ := a3.1
    exact ⟨b1, b2, b3, b4, by rw [ew 3 (by omega)]; exact b5, by rw [ew 5 (by omega)]; exact b6, by rw [ew 4 (by omega)]; exact b7, b8⟩
  · have := a3.2
    unfold TK at this ⊢
    rw [ew 12 (by omega), ew 11 (by omega), ew 14 (by omega)]
    exact this
/-- a line was judged -/
theorem EWd.jd (h : EWd G I P T z0 z r tp g t en τ Ls s e) (hf : JF r g I I') (he : EJ G I' P T r g t e') (h1 : e'.1 1 = e.1 1) : EWd G I' P T z0 z r tp g t en τ Ls s e' := by
  obtain ⟨a1, a2, a3, a4, a5, a6, a7, a8, a9⟩ := h
  have hg0 := a4.2.2.1.1
  have tg2 : ∀ a, (T a).1 = 52 ∨ (T a).1 = 9 ∨ (T a).1 = 57 ∨ (T a).1 = 2 → I' a = I a := fun a q => hf.1 a (fun c => by rw [c, a3.1.1] at q; revert q; decide) (by
    by_cases c : g ≤ a ∧ a < g + 31
    · have := gtag hg0 c.1 c.2
      omega
    · omega)
  refine ⟨a1, a2.fz (z := 0) (J := I) (J1 := I) (fun a q => ⟨hf.1 a (by omega) (by omega), rfl, rfl⟩), ⟨?_, ?_⟩, he, a5.cg (fun a q => ⟨tg2 a q, rfl, rfl⟩), a6, by rw [h1]; exact a7, a8, a9⟩
  · obtain ⟨b1, b2, b3, b4, b5, b6, b7, b8⟩ := a3.1
    exact ⟨b1, b2, b3, by rw [hf.1 tp b8 a1.2.2.2.2.2.2.1]; exact b4, by rw [hf.2 1 (by omega)]; exact b5, by rw [hf.2 2 (by omega)]; exact b6, by rw [hf.2 3 (by omega)]; exact b7, b8⟩
  · obtain ⟨b1, b2, b3, b4, b5, b6⟩ := a3.2
    unfold TK
    rw [hf.2 5 (by omega), hf.2 4 (by omega), hf.2 6 (by omega), hf.2 7 (by omega)]
    refine ⟨b1, b2, fun q => ?_, b4, b5, b6⟩
    obtain ⟨c1, w, L, c2, c3, c4, c5⟩ := b3 q
    exact ⟨c1, w, L, c2, c3.cg (fun a ha => ⟨tg2 a (by omega), rfl, rfl⟩), c4, c5⟩
theorem JF.fs (h : EWd G I P T z0 z r tp g t en τ Ls s e) (hf : JF r g I I') : FS (SE z0 g) I J P T I' J P T := fun a q => ⟨hf.1 a (by have := h.1; have q1 : a < z0 := q.1; omega) q.2, rfl, rfl, rfl⟩
end P18
