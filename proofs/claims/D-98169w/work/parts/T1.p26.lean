/-! ===== the component: a sentence is read: what holds on the way ===== -/
section P26
variable {G : GE} {I J I' J' : HI} {P P' : HP} {T T' : HT} {z z' z0 r tp t en d : Nat} {Q : QT} {X : XT} {τ ρ : Int → Int} {Ls : List (List Int)} {n : Nat} {s s' : TS} {o w o' w' : Int}
def SWd (G : GE) (I : HI) (P : HP) (T : HT) (z0 z r tp t en : Nat) (τ : Int → Int) (Ls : List (List Int)) (n : Nat) (s : TS) (o w : Int) : Prop :=
  (G.2.2.2.1 ≤ z0 ∧ z0 ≤ r ∧ tp < z0 ∧ r < z ∧ t + 11 ≤ z0) ∧ CS G I P T ∧ RD I P T 16 r tp τ s ∧ (P r 9 = some t ∧ I r 10 = o ∧ I r 11 = w) ∧ shT G P T t ∧ NL G I P T (t + 1) en Ls ∧ (∀ i : Int, 0 ≤ i → i < Ls.length → WD (Ls.getD i.toNat []) ∧ cod (Ls.getD i.toNat []) = s.2.2.2 (0 + i)) ∧ Ls.length = n ∧ TI s.1 ∧ s.1 5 ≤ 940
/-- below z nothing but the reader has changed -/
def SG (z r : Nat) (I J : HI) (P : HP) (T : HT) (I' J' : HI) (P' : HP) (T' : HT) : Prop := ∀ a, a < z → a ≠ r → I' a = I a ∧ J' a = J a ∧ P' a = P a ∧ T' a = T a
def SQv (G : GE) (z0 z r tp t en : Nat) (τ : Int → Int) (Ls : List (List Int)) (n : Nat) (I J : HI) (P : HP) (T : HT) (s' : TS) (o' w' : Int) (I' J' : HI) (P' : HP) (T' : HT) (z' : Nat) : Prop := z ≤ z' ∧ SG z r I J P T I' J' P' T' ∧ SWd G I' P' T' z0 z' r tp t en τ Ls n s' o' w'
theorem SG.rf : SG z r I J P T I J P T := fun _ _ _ => ⟨rfl, rfl, rfl, rfl⟩
theorem SG.tr {z1 : Nat} {I1 J1 I2 J2 : HI} {P1 P2 : HP} {T1 T2 : HT} (hz : z ≤ z1) (h : SG z r I J P T I1 J1 P1 T1) (k : SG z1 r I1 J1 P1 T1 I2 J2 P2 T2) : SG z r I J P T I2 J2 P2 T2 := fun a q u => by
  have a1 := h a q u
  have a2 := k a (by omega) u
  exact ⟨a2.1.trans a1.1, a2.2.1.trans a1.2.1, a2.2.2.1.trans a1.2.2.1, a2.2.2.2.trans a1.2.2.2⟩
theorem SWd.b (h : SWd G I P T z0 z r tp t en τ Ls n s o w) : G.2.2.2.1 ≤ r := by have := h.1; omega
theorem SWd.rz (h : SWd G I P T z0 z r tp t en τ Ls n s o w) : r < z := h.1.2.2.2.1
theorem SWd.tz (h : SWd G I P T z0 z r tp t en τ Ls n s o w) : tp < z := by have := h.1; omega
theorem SWd.rd (h : SWd G I P T z0 z r tp t en τ Ls n s o w) : RD I P T 16 r tp τ s := h.2.2.1
theorem SWd.oT (h : SWd G I P T z0 z r tp t en τ Ls n s o w) : T r = (16 + 20, 0) := h.2.2.1.1.1
theorem SWd.pt (h : SWd G I P T z0 z r tp t en τ Ls n s o w) : P r 9 = some t := h.2.2.2.1.1
theorem SWd.i10 (h : SWd G I P T z0 z r tp t en τ Ls n s o w) : I r 10 = o := h.2.2.2.1.2.1
theorem SWd.i11 (h : SWd G I P T z0 z r tp t en τ Ls n s o w) : I r 11 = w := h.2.2.2.1.2.2
theorem SWd.st (h : SWd G I P T z0 z r tp t en τ Ls n s o w) : shT G P T t := h.2.2.2.2.1
theorem SWd.nl (h : SWd G I P T z0 z r tp t en τ Ls n s o w) : NL G I P T (t + 1) en Ls := h.2.2.2.2.2.1
theorem SWd.nm (h : SWd G I P T z0 z r tp t en τ Ls n s o w) : ∀ i : Int, 0 ≤ i → i < Ls.length → WD (Ls.getD i.toNat []) ∧ cod (Ls.getD i.toNat []) = s.2.2.2 (0 + i) := h.2.2.2.2.2.2.1
theorem SWd.ln (h : SWd G I P T z0 z r tp t en τ Ls n s o w) : Ls.length = n := h.2.2.2.2.2.2.2.1
theorem SWd.ti (h : SWd G I P T z0 z r tp t en τ Ls n s o w) : TI s.1 := h.2.2.2.2.2.2.2.2.1
theorem SWd.g5 (h : SWd G I P T z0 z r tp t en τ Ls n s o w) : s.1 5 ≤ 940 := h.2.2.2.2.2.2.2.2.2
theorem SWd.S0 (h : SWd G I P T z0 z r tp t en τ Ls n s o w) : ∀ a, (fun a => a < z0) a → a < z ∧ a ≠ r := fun a q => by
  have := h.1
  have q : a < z0 := q
  omega
theorem SWd.rf (h : SWd G I P T z0 z r tp t en τ Ls n s o w) (hz : z ≤ z') (hf : RF z r I J P T I' J' P' T') (hR : RD I' P' T' 16 r tp τ s') (hn : s'.2.2.2 = s.2.2.2) (hti : TI s'.1) (h5 : s'.1 5 ≤ 940) (hzz : ∀ a, z ≤ a → (T a).1 = 0) : SWd G I' P' T' z0 z' r tp t en τ Ls n s' o w := by
  obtain ⟨a1, a2, a3, a4, a5, a6, a7, a8, a9⟩ := h
  have hlt : ∀ a, (T a).1 ≠ 0 → a < z := fun a q => Nat.not_le.mp fun c => q (hzz a c)
  have hr36 : (T r).1 = 36 := by rw [a3.1.1]
  have hh : ∀ a, (T a).1 ≠ 0 → (T a).1 ≠ 36 → I' a = I a ∧ P' a = P a ∧ T' a = T a := fun a p q => by
    have := hf.1 a (hlt a p) (fun c => q (by rw [c]; exact hr36))
    exact ⟨this.1, this.2.2, hf.2.1 a (hlt a p)⟩
  have hP : ∀ a, a < z0 → P' a = P a := fun a q => (hf.1 a (by omega) (by omega)).2.2
  have hT : ∀ a, a < z0 → T' a = T a := fun a q => hf.2.1 a (by omega)
  have hI : ∀ a, a < z0 → I' a = I a := fun a q => (hf.1 a (by omega) (by omega)).1
  refine ⟨⟨a1.1, a1.2.1, a1.2.2.1, by omega, a1.2.2.2.2⟩, a2.fz (z := 0) (J := I) (J1 := I) (fun a q => ⟨hI a (by omega), hP a (by omega), hT a (by omega)⟩), hR, ⟨?_, ?_, ?_⟩, a5.cg (hP _ (by omega)) (hP _ (by omega)) (fun a p q => hT a (by omega)), a6.cg (fun a q => hh a (by omega) (by omega)), ?_, a8, hti, h5⟩
  · rw [hf.2.2.2.1 9 (by omega)]; exact a4.1
  · rw [hf.2.2.2.2 10 (by omega)]; exact a4.2.1
  · rw [hf.2.2.2.2 11 (by omega)]; exact a4.2.2
  · rw [hn]; exact a7
theorem RF.sg (hf : RF z r I J P T I' J' P' T') : SG z r I J P T I' J' P' T' := fun a p q => by
  have := hf.1 a p q
  exact ⟨this.1, this.2.1, this.2.2, hf.2.1 a p⟩
theorem SWd.go (h : SWd G I P T z0 z r tp t en τ Ls n s o w) (hz : z ≤ z') (hf : RF z r I J P T I' J' P' T') (hR : RD I' P' T' 16 r tp τ (g_nx τ s)) (hzz : ∀ a, z ≤ a → (T a).1 = 0) : SQv G z0 z r tp t en τ Ls n I J P T (g_nx τ s) o w I' J' P' T' z' := ⟨hz, hf.sg, h.rf hz hf hR rfl h.ti.nx (by have : (g_nx τ s).1 5 = s.1 5 := t_next_f (by omega); rw [this]; exact h.g5) hzz⟩
theorem SQv.rf (h : SWd G I P T z0 z r tp t en τ Ls n s o w) : SQv G z0 z r tp t en τ Ls n I J P T s o w I J P T z := ⟨Nat.le_refl _, SG.rf, h⟩
theorem SQv.tr {I1 J1 I2 J2 : HI} {P1 P2 : HP} {T1 T2 : HT} {z1 z2 : Nat} {s1 s2 : TS} {o1 w1 o2 w2 : Int} (h : SQv G z0 z r tp t en τ Ls n I J P T s1 o1 w1 I1 J1 P1 T1 z1) (k : SQv G z0 z1 r tp t en τ Ls n I1 J1 P1 T1 s2 o2 w2 I2 J2 P2 T2 z2) : SQv G z0 z r tp t en τ Ls n I J P T s2 o2 w2 I2 J2 P2 T2 z2 := ⟨Nat.le_trans h.1 k.1, h.2.1.tr h.1 k.2.1, k.2.2⟩
theorem SQv.fs (h0 : SWd G I P T z0 z r tp t en τ Ls n s o w) (h : SQv G z0 z r tp t en τ Ls n I J P T s' o' w' I' J' P' T' z') : FS (fun a => a < z0) I J P T I' J' P' T' := fun a q => by
  have := h0.1
  have q : a < z0 := q
  exact h.2.1 a (by omega) (by omega)
/-- a fault from farther on -/
theorem XK.sq {k pl : Int} (hX : XK X (fun a => a < z0) I J P T k pl) (h0 : SWd G I P T z0 z r tp t en τ Ls n s o w) (h : SQv G z0 z r tp t en τ Ls n I J P T s' o' w' I' J' P' T' z') : XK X (fun a => a < z0) I' J' P' T' k pl := hX.fs (SQv.fs h0 h)
/-- only cells that the reader doesn't know have changed, or come -/
theorem SWd.fz (h : SWd G I P T z0 z r tp t en τ Ls n s o w) (hz : z ≤ z') (hf : FZ z I J P T I' J' P' T') (hzz : ∀ a, z ≤ a → (T a).1 = 0) : SWd G I' P' T' z0 z' r tp t en τ Ls n s o w := h.rf hz (hf.toRF h.rz) (h.rd.fz hf h.rz h.tz hzz) rfl h.ti h.g5 hzz
/-- a tree's cell is written -/
theorem SWd.ob {c : Nat} (h : SWd G I P T z0 z r tp t en τ Ls n s o w) (hc : 38 ≤ (T c).1 ∧ (T c).1 ≤ 42) (hc0 : z0 ≤ c) (hI : ∀ a, a ≠ c → I' a = I a) (hP : ∀ a, a ≠ c → P' a = P a) : SWd G I' P' T z0 z r tp t en τ Ls n s o w := by
  obtain ⟨a1, a2, a3, a4, a5, a6, a7, a8, a9⟩ := h
  have hr : r ≠ c := fun e => by have := a3.1.1; rw [e] at this; rw [this] at hc; omega
  have tg : ∀ a, (T a).1 = 52 ∨ (T a).1 = 9 ∨ (T a).1 = 57 ∨ (T a).1 = 2 → a ≠ c := fun a q e => by rw [e] at q; omega
  refine ⟨a1, a2.fz (z := 0) (J := I) (J1 := I) (fun a q => ⟨hI a (by omega), hP a (by omega), rfl⟩), ⟨?_, ?_⟩, by rw [hP r hr, hI r hr]; exact a4, a5.cg (hP _ (by omega)) (hP _ (by omega)) (fun _ _ _ => rfl), a6.cg (fun a q => ⟨hI a (tg a q), hP a (tg a q), rfl⟩), a7, a8, a9⟩
  · obtain ⟨b1, b2, b3, b4, b5, b6, b7, b8⟩ := a3.1
    exact ⟨b1, by rw [hP r hr]; exact b2, b3, by rw [hI tp (by omega)]; exact b4, by rw [hI r hr]; exact b5, by rw [hI r hr]; exact b6, by rw [hI r hr]; exact b7, b8⟩
  · obtain ⟨b1, b2, b3, b4, b5, b6⟩ := a3.2
    unfold TK
    rw [hI r hr, hP r hr]
    refine ⟨b1, b2, fun q => ?_, b4, b5, b6⟩
    obtain ⟨c1, w, L, c2, c3, c4, c5⟩ := b3 q
    exact ⟨c1, w, L, c2, c3.cg (fun a ha => ⟨hI a (tg a (by omega)), hP a (tg a (by omega)), rfl⟩), c4, c5⟩
/-- the reader counts -/
theorem SWd.wr {j v : Int} (hj : j = 10 ∨ j = 11) (h : SWd G I P T z0 z r tp t en τ Ls n s o w) : SWd G (ui I r j v) P T z0 z r tp t en τ Ls n s (if j = 10 then v else o) (if j = 11 then v else w) := by
  obtain ⟨a1, a2, a3, a4, a5, a6, a7, a8, a9⟩ := h
  have tg : ∀ a, (T a).1 = 52 ∨ (T a).1 = 9 ∨ (T a).1 = 57 ∨ (T a).1 = 2 → a ≠ r := fun a q e => by have := a3.1.1; rw [e, this] at q; omega
  have hI : ∀ a, a ≠ r → ui I r j v a = I a := fun a q => ui_nr q
  have hj' : ∀ i, i ≠ j → ui I r j v r i = I r i := fun i q => ui_nj q
  have e5 := hj' 5 (by omega)
  have e4 := hj' 4 (by omega)
  have e6 := hj' 6 (by omega)
  have e7 := hj' 7 (by omega)
  refine ⟨a1, a2.fz (z := 0) (J := I) (J1 := I) (fun a q => ⟨hI a (by omega), rfl, rfl⟩), ⟨?_, ?_⟩, ⟨a4.1, ?_, ?_⟩, a5, a6.cg (fun a q => ⟨hI a (tg a q), rfl, rfl⟩), a7, a8, a9⟩
  · obtain ⟨b1, b2, b3, b4, b5, b6, b7, b8⟩ := a3.1
    exact ⟨b1, b2, b3, by rw [hI tp (by omega)]; exact b4, by rw [hj' 1 (by omega)]; exact b5, by rw [hj' 2 (by omega)]; exact b6, by rw [hj' 3 (by omega)]; exact b7, b8⟩
  · obtain ⟨b1, b2, b3, b4, b5, b6⟩ := a3.2
    unfold TK
    rw [e5, e4, e6, e7]
    refine ⟨b1, b2, fun q => ?_, b4, b5, b6⟩
    obtain ⟨c1, w, L, c2, c3, c4, c5⟩ := b3 q
    exact ⟨c1, w, L, c2, c3.cg (fun a ha => ⟨hI a (tg a (by omega)), rfl, rfl⟩), c4, c5⟩
  · by_cases c : j = 10
    · rw [if_pos c, c]; exact ui_sv
    · rw [if_neg c, hj' 10 (by omega)]; exact a4.2.1
  · by_cases c : j = 11
    · rw [if_pos c, c]; exact ui_sv
    · rw [if_neg c, hj' 11 (by omega)]; exact a4.2.2
theorem ws0 : WD (sbs "not") ∧ cod (sbs "not") = 7237492 := ⟨wds_WD _ (by decide +kernel), by decide +kernel⟩
theorem ws1 : WD (sbs "book") ∧ cod (sbs "book") = 1651470187 := ⟨wds_WD _ (by decide +kernel), by decide +kernel⟩
theorem ws2 : WD (sbs "known") ∧ cod (sbs "known") = 461414299502 := ⟨wds_WD _ (by decide +kernel), by decide +kernel⟩
theorem ws3 : WD (sbs "held") ∧ cod (sbs "held") = 1751477348 := ⟨wds_WD _ (by decide +kernel), by decide +kernel⟩
theorem ws4 : WD (sbs "hands") ∧ cod (sbs "hands") = 448311223411 := ⟨wds_WD _ (by decide +kernel), by decide +kernel⟩
theorem ws5 : WD (sbs "heaped") ∧ cod (sbs "heaped") = 114784635741540 := ⟨wds_WD _ (by decide +kernel), by decide +kernel⟩
theorem ws6 : WD (sbs "most") ∧ cod (sbs "most") = 1836020596 := ⟨wds_WD _ (by decide +kernel), by decide +kernel⟩
theorem ws7 : WD (sbs "place") ∧ cod (sbs "place") = 482854658917 := ⟨wds_WD _ (by decide +kernel), by decide +kernel⟩
theorem ws8 : WD (sbs "and") ∧ cod (sbs "and") = 6385252 := ⟨wds_WD _ (by decide +kernel), by decide +kernel⟩
theorem ws9 : WD (sbs "or") ∧ cod (sbs "or") = 28530 := ⟨wds_WD _ (by decide +kernel), by decide +kernel⟩
theorem S_go (h : SWd G I P T z0 z r tp t en τ Ls n s o w) (hQ : ∀ I' J' P' T' z', SQv G z0 z r tp t en τ Ls n I J P T (g_nx τ s) o w I' J' P' T' z' → Q none I' J' P' T' z') : MC G yX12_go (ws_ yX12_go cX12_go 5 (none : Option FieldType)) (d + 7) 4 60 [.ref r] I J P T z Q nX := MC.tz fun hzz =>
  C_goS h.rd.1 (h.ti.g h.g5) h.b h.rz h.tz (fun I' J' P' T' z' a b c => hQ I' J' P' T' z' (h.go a b c hzz))
/-- what a reading costs -/
def kc (r : SR) (o : Int) : Nat := if r.1 = 0 then 40 * (r.2.2.1 - o).toNat + 20 else 40 * (r.2.2.1 - o).toNat - 5
def ks (r : SR) (o : Int) : Nat := if r.1 = 0 then 500 * (r.2.2.1 - o).toNat + 300 else 500 * (r.2.2.1 - o).toNat - 63
/-- the contract of a method that reads just as f -/
def RC (G : GE) (z0 r tp t en : Nat) (τ : Int → Int) (Ls : List (List Int)) (n : Nat) (y : MethodName) (ws : List Cond) (dd : Nat) (w : Int) (f : TS → Int → SR) : Prop := ∀ I J P T z s o, SWd G I P T z0 z r tp t en τ Ls n s o w → 0 ≤ o → o ≤ 20 → ∀ (Q : QT) (X : XT), ((f s o).1 = 1 → ∀ I' J' P' T' z' c, SQv G z0 z r tp t en τ Ls n I J P T (f s o).2.1 (f s o).2.2.1 w I' J' P' T' z' → CT I' P' T' z z' (f s o).2.2.2.length c (f s o).2.2.2 → Q (some (.ref c)) I' J' P' T' z') → ((f s o).1 = 0 → XK X (fun a => a < z0) I J P T ((f s o).2.1.1 15) ((f s o).2.1.1 16)) → MC G y ws dd (kc (f s o) o) (ks (f s o) o) [.ref r] I J P T z Q X
end P26
