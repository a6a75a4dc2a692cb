/-! ===== what stays while a text is read; faults ===== -/
/-- in the places of S nothing has changed -/
def FS (S : Nat → Prop) (I J : HI) (P : HP) (T : HT) (I' J' : HI) (P' : HP) (T' : HT) : Prop := ∀ a, S a → I' a = I a ∧ J' a = J a ∧ P' a = P a ∧ T' a = T a
theorem FS.rf {S : Nat → Prop} {I J : HI} {P : HP} {T : HT} : FS S I J P T I J P T := fun _ _ => ⟨rfl, rfl, rfl, rfl⟩
theorem FS.tr {S : Nat → Prop} {I J I1 J1 I2 J2 : HI} {P P1 P2 : HP} {T T1 T2 : HT} (h : FS S I J P T I1 J1 P1 T1) (k : FS S I1 J1 P1 T1 I2 J2 P2 T2) : FS S I J P T I2 J2 P2 T2 := fun a q => by
  have a1 := h a q
  have a2 := k a q
  exact ⟨a2.1.trans a1.1, a2.2.1.trans a1.2.1, a2.2.2.1.trans a1.2.2.1, a2.2.2.2.trans a1.2.2.2⟩
theorem FZ.fs {S : Nat → Prop} {z : Nat} {I J I1 J1 : HI} {P P1 : HP} {T T1 : HT} (h : FZ z I J P T I1 J1 P1 T1) (hS : ∀ a, S a → a < z) : FS S I J P T I1 J1 P1 T1 := fun a q => h a (hS a q)
theorem RF.fs {S : Nat → Prop} {z r : Nat} {I J I1 J1 : HI} {P P1 : HP} {T T1 : HT} (h : RF z r I J P T I1 J1 P1 T1) (hS : ∀ a, S a → a < z ∧ a ≠ r) : FS S I J P T I1 J1 P1 T1 := fun a q => by
  obtain ⟨a1, a2, a3⟩ := h.1 a (hS a q).1 (hS a q).2
  exact ⟨a1, a2, a3, h.2.1 a (hS a q).1⟩
theorem FZ.rf {z : Nat} {I J : HI} {P : HP} {T : HT} : FZ z I J P T I J P T := fun _ _ => ⟨rfl, rfl, rfl, rfl⟩
theorem FZ.tr {z z1 : Nat} {I J I1 J1 I2 J2 : HI} {P P1 P2 : HP} {T T1 T2 : HT} (hz : z ≤ z1) (h : FZ z I J P T I1 J1 P1 T1) (k : FZ z1 I1 J1 P1 T1 I2 J2 P2 T2) : FZ z I J P T I2 J2 P2 T2 := fun a q => by
  have a1 := h a q
  have a2 := k a (by omega)
  exact ⟨a2.1.trans a1.1, a2.2.1.trans a1.2.1, a2.2.2.1.trans a1.2.2.1, a2.2.2.2.trans a1.2.2.2⟩
theorem FZ.toRF {z r : Nat} {I J I1 J1 : HI} {P P1 : HP} {T T1 : HT} (h : FZ z I J P T I1 J1 P1 T1) (hr : r < z) : RF z r I J P T I1 J1 P1 T1 := ⟨fun a p _ => ⟨(h a p).1, (h a p).2.1, (h a p).2.2.1⟩, fun a p => (h a p).2.2.2, (h r hr).2.1, fun k _ => by rw [(h r hr).2.2.1], fun k _ => by rw [(h r hr).1]⟩
/-- a fault of kind k at pl may be thrown from here -/
def XK (X : XT) (S : Nat → Prop) (I J : HI) (P : HP) (T : HT) (k pl : Int) : Prop := ∀ q I' J' P' T' z', FS S I J P T I' J' P' T' → T' q = (34, 0) → I' q 0 = k → I' q 1 = pl → X "SevenTable$Fault" q I' J' P' T' z'
theorem XK.fs {X : XT} {S : Nat → Prop} {I J I1 J1 : HI} {P P1 : HP} {T T1 : HT} {k pl : Int} (h : XK X S I J P T k pl) (hf : FS S I J P T I1 J1 P1 T1) : XK X S I1 J1 P1 T1 k pl := fun q I' J' P' T' z' a b c d => h q I' J' P' T' z' (hf.tr a) b c d
/-- the constants -/
def CS (G : GE) (I : HI) (P : HP) (T : HT) : Prop := (∀ (i : Nat) (q : String × Nat × String), strT[i]? = some q → G.2.2.2.2 i < G.2.2.2.1 ∧ T (G.2.2.2.2 i) = (57, 0) ∧ I (G.2.2.2.2 i) 1 = 0 ∧ ∃ b, b < G.2.2.2.1 ∧ P (G.2.2.2.2 i) 0 = some b ∧ SA I T b (sbs q.2.2)) ∧ G.2.2.2.2 100 < G.2.2.2.1 ∧ T (G.2.2.2.2 100) = (9, 0)
theorem CS.st {G : GE} {I : HI} {P : HP} {T : HT} (h : CS G I P T) {i : Nat} {q : String × Nat × String} (hi : strT[i]? = some q) {L : List Int} (hL : sbs q.2.2 = L) : ST I P T (G.2.2.2.2 i) L := by
  obtain ⟨-, a1, a2, b, -, a3, a4⟩ := h.1 i q hi
  exact ⟨a1, a2, b, a3, by rw [← hL]; exact a4⟩
theorem CS.fz {G : GE} {z : Nat} {I J I1 J1 : HI} {P P1 : HP} {T T1 : HT} (h : CS G I P T) (hz : ∀ a, a < G.2.2.2.1 → I1 a = I a ∧ P1 a = P a ∧ T1 a = T a) : CS G I1 P1 T1 := by
  refine ⟨fun i q hi => ?_, h.2.1, by rw [(hz _ h.2.1).2.2]; exact h.2.2⟩
  obtain ⟨a0, a1, a2, b, b0, a3, a4, a5⟩ := h.1 i q hi
  obtain ⟨e1, e2, e3⟩ := hz _ a0
  obtain ⟨f1, f2, f3⟩ := hz _ b0
  exact ⟨a0, by rw [e3]; exact a1, by rw [e1]; exact a2, b, b0, by rw [e2]; exact a3, by rw [f3]; exact a4, fun j p q => by rw [f1]; exact a5 j p q⟩
theorem TK.cs {I : HI} {P : HP} {T : HT} {r : Nat} {s : TS} (h : TK I P T r s) (ht : 0 ≤ s.1 11 ∧ s.1 11 ≤ 4) : (s.1 11 = 0 ∧ I r 4 = 0) ∨ (s.1 11 = 1 ∧ I r 4 = 2) ∨ (s.1 11 = 2 ∧ I r 4 = 3) ∨ (s.1 11 = 3 ∧ s.1 14 = 59 ∧ I r 4 = 4) ∨ (s.1 11 = 3 ∧ s.1 14 ≠ 59 ∧ I r 4 = 6) ∨ (s.1 11 = 4 ∧ (I r 4 = 1 ∨ I r 4 = 5)) := by
  obtain ⟨-, a0, a1, a2, a3, a4⟩ := h
  have c : s.1 11 = 0 ∨ s.1 11 = 1 ∨ s.1 11 = 2 ∨ s.1 11 = 3 ∨ s.1 11 = 4 := by omega
  rcases c with c | c | c | c | c
  · have := a0 c; omega
  · have := (a1 c).1; omega
  · have := (a2 c).1; omega
  · have := a3 c; omega
  · have := a4 c; omega
theorem TK.fz {z : Nat} {I J I1 J1 : HI} {P P1 : HP} {T T1 : HT} {r : Nat} {s : TS} (h : TK I P T r s) (hf : FZ z I J P T I1 J1 P1 T1) (hr : r < z) (hz : ∀ a, z ≤ a → (T a).1 = 0) : TK I1 P1 T1 r s := by
  obtain ⟨e1, -, e2, e3⟩ := hf r hr
  obtain ⟨a9, a0, a1, a2, a3, a4⟩ := h
  unfold TK
  rw [e1, e2]
  refine ⟨a9, a0, fun q => ?_, a2, a3, a4⟩
  obtain ⟨b1, w, L, b2, b3, b4, b5⟩ := a1 q
  refine ⟨b1, w, L, b2, b3.cg (fun a ha => ?_), b4, b5⟩
  have hlt : a < z := Nat.not_le.mp fun c => by have := hz a c; omega
  exact ⟨(hf a hlt).1, (hf a hlt).2.2.1, (hf a hlt).2.2.2⟩
theorem RB.fz {z : Nat} {I J I1 J1 : HI} {P P1 : HP} {T T1 : HT} {c r tp : Nat} {τ : Int → Int} {s : TS} (h : RB I P T c r tp τ s) (hf : FZ z I J P T I1 J1 P1 T1) (hr : r < z) (ht : tp < z) : RB I1 P1 T1 c r tp τ s := by
  obtain ⟨e1, -, e2, e3⟩ := hf r hr
  obtain ⟨f1, -, f2, f3⟩ := hf tp ht
  obtain ⟨a1, a2, a3, a4, a5, a6, a7, a8⟩ := h
  exact ⟨by rw [e3]; exact a1, by rw [e2]; exact a2, by rw [f3]; exact a3, by rw [f1]; exact a4, by rw [e1]; exact a5, by rw [e1]; exact a6, by rw [e1]; exact a7, a8⟩
theorem RD.fz {z : Nat} {I J I1 J1 : HI} {P P1 : HP} {T T1 : HT} {c r tp : Nat} {τ : Int → Int} {s : TS} (h : RD I P T c r tp τ s) (hf : FZ z I J P T I1 J1 P1 T1) (hr : r < z) (ht : tp < z) (hz : ∀ a, z ≤ a → (T a).1 = 0) : RD I1 P1 T1 c r tp τ s := ⟨h.1.fz hf hr ht, h.2.fz hf hr hz⟩
def fg (p : Prop) (I J : HI) (P : HP) (T : HT) (z : Nat) (v : Option Value) : QT := fun v0 I0 J0 P0 T0 z0 => p ∧ fe I J P T z v v0 I0 J0 P0 T0 z0
theorem fg_i {p : Prop} {I J : HI} {P : HP} {T : HT} {z : Nat} {v : Option Value} (h : p) : fg p I J P T z v v I J P T z := ⟨h, fe_i⟩
section FG
variable {G : GE} {M : MI} {R : Room} {Z : ZP} {cu su : Nat} {I J : HI} {P : HP} {T : HT} {z pc : Nat} {ls : List (Option Value)} {st : List Value} {p : Prop}
theorem k_gnv (k : p → PW G M R Z cu su I J P T z pc ls st) : ∀ v I' J' P' T' z', fg p I J P T z none v I' J' P' T' z' → PW G M R Z cu su I' J' P' T' z' pc ls (v.toList ++ st) := by
  rintro v I' J' P' T' z' ⟨h, hf⟩
  exact k_fv (k h) v I' J' P' T' z' hf
theorem k_gni {e : Int} (k : p → PW G M R Z cu su I J P T z pc ls (iv e :: st)) : ∀ v I' J' P' T' z', fg p I J P T z (some (iv e)) v I' J' P' T' z' → PW G M R Z cu su I' J' P' T' z' pc ls (v.toList ++ st) := by
  rintro v I' J' P' T' z' ⟨h, hf⟩
  exact k_fi (k h) v I' J' P' T' z' hf
end FG
theorem TI.t {ω : Int → Int} (h : TI ω) : 0 ≤ ω 11 ∧ ω 11 ≤ 4 := ⟨h.2.2.2.2.1, h.2.2.2.2.2.1⟩
theorem TI.p {ω : Int → Int} (h : TI ω) : rg (ω 12) := by have a1 := h.2.2.2.2.2.2.1; have a2 := h.2.2.2.2.2.2.2.1; have a3 := h.2.2.1; omega
theorem TI.g {ω : Int → Int} (h : TI ω) (h5 : ω 5 ≤ 940) : 0 ≤ ω 4 ∧ ω 4 ≤ ω 3 ∧ ω 3 ≤ 940 ∧ 0 ≤ ω 5 ∧ ω 5 ≤ 940 := ⟨h.1, h.2.1, h.2.2.1, h.2.2.2.1, h5⟩
