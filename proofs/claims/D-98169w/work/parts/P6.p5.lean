/-! ===== readers: ends, frames, what a reader says ===== -/
def er (v0 : Option Value) (Φ : HI → HI → HP → HT → Nat → Prop) : QT := fun v I' J' P' T' z' => v = v0 ∧ Φ I' J' P' T' z'
theorem er_i {I J : HI} {P : HP} {T : HT} {z : Nat} {v0 : Option Value} {Φ : HI → HI → HP → HT → Nat → Prop} (h : Φ I J P T z) : er v0 Φ v0 I J P T z := ⟨rfl, h⟩
theorem k_er {G : GE} {M : MI} {R : Room} {Z : ZP} {cu su pc : Nat} {ls : List (Option Value)} {st : List Value} {v0 : Option Value} {Φ : HI → HI → HP → HT → Nat → Prop} (k : ∀ I' J' P' T' z', Φ I' J' P' T' z' → PW G M R Z cu su I' J' P' T' z' pc ls (v0.toList ++ st)) : ∀ v I' J' P' T' z', er v0 Φ v I' J' P' T' z' → PW G M R Z cu su I' J' P' T' z' pc ls (v.toList ++ st) := by
  intro v I' J' P' T' z' h
  obtain ⟨rfl, h⟩ := h
  exact k I' J' P' T' z' h
/-- what lies beyond z is nothing yet -/
theorem r_tz {G : GE} {M : MI} {R : Room} {Z : ZP} {cu su : Nat} {I J : HI} {P : HP} {T : HT} {z pc : Nat} {ls : List (Option Value)} {st : List Value} (k : (∀ a, z ≤ a → (T a).1 = 0) → PW G M R Z cu su I J P T z pc ls st) : PW G M R Z cu su I J P T z pc ls st := by
  intro p e s m args below meth c0 H locs la hC hR hS hL
  exact k hR.2.1 p e s m args below meth c0 H locs la hC hR hS hL
/-- .. and the run's own cells begin no later -/
theorem r_gz {G : GE} {M : MI} {R : Room} {Z : ZP} {cu su : Nat} {I J : HI} {P : HP} {T : HT} {z pc : Nat} {ls : List (Option Value)} {st : List Value} (k : G.2.2.2.1 ≤ z → PW G M R Z cu su I J P T z pc ls st) : PW G M R Z cu su I J P T z pc ls st := by
  intro p e s m args below meth c0 H locs la hC hR hS hL
  refine k ?_ p e s m args below meth c0 H locs la hC hR hS hL
  have h1 := hC.z
  have h2 := hS.1
  have h3 := hR.1
  omega
/-- of the reader at r only what is read has changed; new cells aside nothing else -/
def RF (z r : Nat) (I J : HI) (P : HP) (T : HT) (I' J' : HI) (P' : HP) (T' : HT) : Prop := (∀ a, a < z → a ≠ r → I' a = I a ∧ J' a = J a ∧ P' a = P a) ∧ (∀ a, a < z → T' a = T a) ∧ J' r = J r ∧ (∀ k, k ≠ 8 → P' r k = P r k) ∧ ∀ k, k < 3 ∨ 8 ≤ k → I' r k = I r k
theorem RF.rf {z r : Nat} {I J : HI} {P : HP} {T : HT} : RF z r I J P T I J P T := ⟨fun _ _ _ => ⟨rfl, rfl, rfl⟩, fun _ _ => rfl, rfl, fun _ _ => rfl, fun _ _ => rfl⟩
theorem RF.tr {z z1 r : Nat} {I J I1 J1 I2 J2 : HI} {P P1 P2 : HP} {T T1 T2 : HT} (hz : z ≤ z1) (h : RF z r I J P T I1 J1 P1 T1) (k : RF z1 r I1 J1 P1 T1 I2 J2 P2 T2) : RF z r I J P T I2 J2 P2 T2 := by
  refine ⟨fun a p q => ?_, fun a p => ?_, ?_, fun n p => ?_, fun n p => ?_⟩
  · have a1 := h.1 a p q
    have a2 := k.1 a (by omega) q
    exact ⟨a2.1.trans a1.1, a2.2.1.trans a1.2.1, a2.2.2.trans a1.2.2⟩
  · exact (k.2.1 a (by omega)).trans (h.2.1 a p)
  · exact k.2.2.1.trans h.2.2.1
  · exact (k.2.2.2.1 n p).trans (h.2.2.2.1 n p)
  · exact (k.2.2.2.2 n p).trans (h.2.2.2.2 n p)
theorem ST.cg {I I' : HI} {P P' : HP} {T T' : HT} {w : Nat} {L : List Int} (h : ST I P T w L) (e : ∀ a, (T a).1 = 57 ∨ (T a).1 = 2 → I' a = I a ∧ P' a = P a ∧ T' a = T a) : ST I' P' T' w L := by
  obtain ⟨a1, a2, b, a3, a4, a5⟩ := h
  obtain ⟨e1, e2, e3⟩ := e w (Or.inl (by rw [a1]))
  obtain ⟨f1, f2, f3⟩ := e b (Or.inr (by rw [a4]))
  exact ⟨by rw [e3]; exact a1, by rw [e1]; exact a2, b, by rw [e2]; exact a3, by rw [f3]; exact a4, fun j p q => by rw [f1]; exact a5 j p q⟩
/-- the reader's ground: its tape, how much of it, the limit, the place -/
def RB (I : HI) (P : HP) (T : HT) (c r tp : Nat) (τ : Int → Int) (s : TS) : Prop := T r = (c + 20, 0) ∧ P r 0 = some tp ∧ T tp = (2, 940) ∧ I tp = τ ∧ I r 1 = s.1 3 ∧ I r 2 = s.1 5 ∧ I r 3 = s.1 4 ∧ tp ≠ r
/-- the token -/
def TK (I : HI) (P : HP) (T : HT) (r : Nat) (s : TS) : Prop := I r 5 = s.1 12 ∧ (s.1 11 = 0 → I r 4 = 0) ∧ (s.1 11 = 1 → I r 4 = 2 ∧ ∃ w L, P r 8 = some w ∧ ST I P T w L ∧ WD L ∧ cod L = s.2.1) ∧ (s.1 11 = 2 → I r 4 = 3 ∧ I r 6 = s.1 14) ∧ (s.1 11 = 3 → (s.1 14 = 59 ∧ I r 4 = 4) ∨ (s.1 14 ≠ 59 ∧ I r 4 = 6 ∧ I r 7 = s.1 14)) ∧ (s.1 11 = 4 → I r 4 = 1 ∨ I r 4 = 5)
def RD (I : HI) (P : HP) (T : HT) (c r tp : Nat) (τ : Int → Int) (s : TS) : Prop := RB I P T c r tp τ s ∧ TK I P T r s
/-- a byte; beyond the end 0 -/
def bt (τ : Int → Int) (n p : Int) : Int := if p < n then τ p % 256 else 0
theorem bt_r {τ : Int → Int} {n p : Int} : 0 ≤ bt τ n p ∧ bt τ n p < 256 := by unfold bt; split <;> omega
theorem bt_pk {τ : Int → Int} {n p : Int} (h : 0 < bt τ n p) : pk τ n p = bt τ n p := by unfold bt pk at *; split <;> simp_all
theorem bt_in {τ : Int → Int} {n p : Int} (h : p < n) : bt τ n p = pk τ n p := by unfold bt pk; rw [if_pos h, if_pos h]
theorem bt_S {τ : Int → Int} {n p : Int} : isS (bt τ n p) ↔ isS (pk τ n p) := by unfold bt pk isS; split <;> omega
theorem bt_D {τ : Int → Int} {n p : Int} : isD (bt τ n p) ↔ isD (pk τ n p) := by unfold bt pk isD; split <;> omega
section P5
variable {G : GE} {I J : HI} {P : HP} {T : HT} {z r tp d : Nat} {Q : QT} {X : XT} {τ ω : Int → Int} {s : TS}
theorem C_isLetter {c : Int} (hc : rg c) (hQ : Q (some (iv (bz (isS c)))) I J P T z) : MC G yX12_isLetter (ws_ yX12_isLetter cX12_isLetter 1 (some FieldType.boolean)) (d) 0 0 [iv c] I J P T z Q nX := by
  refine MC.of (by decide) (Nat.le_of_ble_eq_true rfl) ?_
  show PW G mX12_isLetter (rmD (d) 0 0) (MZ G Q nX 0 0) 0 0 I J P T z 0 [some (iv c)] []
  refine r_iload_n (pc := 0) dX12_isLetter_0 rfl rfl ?_
  refine r_bipush (pc := 1) dX12_isLetter_1 (by decide +kernel) ?_
  refine r_icmp_lt (pc := 3) 16 dX12_isLetter_3 rfl (by omega) (by omega) (fun h3 => ?_) (fun h3 => ?_)
  · refine r_iconst (pc := 16) dX12_isLetter_16 ?_
    refine r_ireturn (pc := 17) rfl (by decide +kernel) dX12_isLetter_17 (Nat.le_of_ble_eq_true rfl) (Nat.le_of_ble_eq_true rfl) ?_
    rw [bz_f (by unfold isS; omega)] at hQ
    exact hQ
  refine r_iload_n (pc := 6) dX12_isLetter_6 rfl rfl ?_
  refine r_bipush (pc := 7) dX12_isLetter_7 (by decide +kernel) ?_
  refine r_icmp_gt (pc := 9) 16 dX12_isLetter_9 rfl (by omega) (by omega) (fun h9 => ?_) (fun h9 => ?_)
  · refine r_iconst (pc := 16) dX12_isLetter_16 ?_
    refine r_ireturn (pc := 17) rfl (by decide +kernel) dX12_isLetter_17 (Nat.le_of_ble_eq_true rfl) (Nat.le_of_ble_eq_true rfl) ?_
    rw [bz_f (by unfold isS; omega)] at hQ
    exact hQ
  refine r_iconst (pc := 12) dX12_isLetter_12 ?_
  refine r_goto (pc := 13) 17 dX12_isLetter_13 rfl ?_
  refine r_ireturn (pc := 17) rfl (by decide +kernel) dX12_isLetter_17 (Nat.le_of_ble_eq_true rfl) (Nat.le_of_ble_eq_true rfl) ?_
  rw [bz_t (by unfold isS; omega)] at hQ
  exact hQ
theorem C_isDigit {c : Int} (hc : rg c) (hQ : Q (some (iv (bz (isD c)))) I J P T z) : MC G yX12_isDigit (ws_ yX12_isDigit cX12_isDigit 1 (some FieldType.boolean)) (d) 0 0 [iv c] I J P T z Q nX := by
  refine MC.of (by decide) (Nat.le_of_ble_eq_true rfl) ?_
  show PW G mX12_isDigit (rmD (d) 0 0) (MZ G Q nX 0 0) 0 0 I J P T z 0 [some (iv c)] []
  refine r_iload_n (pc := 0) dX12_isDigit_0 rfl rfl ?_
  refine r_bipush (pc := 1) dX12_isDigit_1 (by decide +kernel) ?_
  refine r_icmp_lt (pc := 3) 16 dX12_isDigit_3 rfl (by omega) (by omega) (fun h3 => ?_) (fun h3 => ?_)
  · refine r_iconst (pc := 16) dX12_isDigit_16 ?_
    refine r_ireturn (pc := 17) rfl (by decide +kernel) dX12_isDigit_17 (Nat.le_of_ble_eq_true rfl) (Nat.le_of_ble_eq_true rfl) ?_
    rw [bz_f (by unfold isD; omega)] at hQ
    exact hQ
  refine r_iload_n (pc := 6) dX12_isDigit_6 rfl rfl ?_
  refine r_bipush (pc := 7) dX12_isDigit_7 (by decide +kernel) ?_
  refine r_icmp_gt (pc := 9) 16 dX12_isDigit_9 rfl (by omega) (by omega) (fun h9 => ?_) (fun h9 => ?_)
  · refine r_iconst (pc := 16) dX12_isDigit_16 ?_
    refine r_ireturn (pc := 17) rfl (by decide +kernel) dX12_isDigit_17 (Nat.le_of_ble_eq_true rfl) (Nat.le_of_ble_eq_true rfl) ?_
    rw [bz_f (by unfold isD; omega)] at hQ
    exact hQ
  refine r_iconst (pc := 12) dX12_isDigit_12 ?_
  refine r_goto (pc := 13) 17 dX12_isDigit_13 rfl ?_
  refine r_ireturn (pc := 17) rfl (by decide +kernel) dX12_isDigit_17 (Nat.le_of_ble_eq_true rfl) (Nat.le_of_ble_eq_true rfl) ?_
  rw [bz_t (by unfold isD; omega)] at hQ
  exact hQ
end P5
