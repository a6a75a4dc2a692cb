/-! ===== the face: games that are tried ===== -/
section L6p
variable {σ η π : Int → Int}
theorem HW.bg (h : HW η) : BG η := by
  have h7 := h.h7
  obtain ⟨a0, a1, a2, a3, a4, a5, a6, a7, a8, a9⟩ := id h
  refine ⟨⟨h7.1, fun i x y => by have := a6 i x y; omega, fun p x y => by rw [a4 (229 + p) (by omega)]; omega, fun p i x y u v => by rw [a4 (235 + 52 * p + i) (by omega)]; omega⟩, a1, a0, fun p x y => ⟨a4 _ (by omega), h.cards ⟨x, y⟩⟩⟩
theorem dealt_hw {n sd : Int} (hc : WF σ) (h0 : 1 ≤ σ 0) (h1 : 1 ≤ σ 1) (hn : 1 ≤ n) (hm : n * σ 1 ≤ 4 * σ 0) : HW (f_dealt π σ n sd) := by
  have ht := hc.cv.ta
  exact (dealt_DT (π := π) (σ := σ) (n := n) (sd := sd) (by omega) (by omega) hn hm).hw (by omega) (by omega) (by omega) hn hm
theorem dealt_tb {n sd : Int} (h0 : 1 ≤ σ 0 ∧ σ 0 ≤ 13) (h1 : 1 ≤ σ 1 ∧ σ 1 ≤ 6) (hn : 1 ≤ n) (hm : n * σ 1 ≤ 4 * σ 0) {j : Int} (j0 : 0 ≤ j) (j4 : j < 4) : f_dealt π σ n sd j = σ j := by
  rw [(dealt_DT (π := π) (σ := σ) (n := n) (sd := sd) h0 h1 hn hm).1 j (by omega), deal0_v, if_neg (by omega), if_neg (by omega)]
def W5 (σ : Int → Int) : Prop := W2 σ ∧ 5 * σ 1 ≤ 4 * σ 0
theorem W5.asks {a b k l : Int} (h : W5 σ) (ho : AO σ a b k) : W5 (f_asks σ a b k l).1 := ⟨h.1.asks ho, by rw [asks_tb h.1.1 ho (by omega) (by omega), asks_tb h.1.1 ho (by omega) (by omega)]; exact h.2⟩
theorem W5.deal {sd : Int} (h : W5 σ) : HW (f_dealt π σ 5 sd) ∧ W5 (f_begins (f_dealt π σ 5 sd)) ∧ ∀ j, 0 ≤ j → j < 4 → f_begins (f_dealt π σ 5 sd) j = σ j := by
  have ht := h.1.1.cv.ta
  have h2 := h.1.2
  have h5 := h.2
  have hw := dealt_hw (π := π) (n := 5) (sd := sd) h.1.1 (by omega) (by omega) (by omega) (by omega)
  obtain ⟨b1, b2⟩ := WF.begins hw
  have e : ∀ j, 0 ≤ j → j < 4 → f_begins (f_dealt π σ 5 sd) j = σ j := fun j x y => by
    rw [b2 j x y]; exact dealt_tb (by omega) (by omega) (by omega) (by omega) x y
  have e0 := e 0 (by omega) (by omega)
  have e1 := e 1 (by omega) (by omega)
  exact ⟨hw, ⟨⟨b1, by omega⟩, by omega⟩, e⟩
theorem GmOK_W5 : GmOK W5 := fun σ h => by
  have ht := h.1.1.cv.ta
  have h2 := h.1.2
  have h5 := h.2
  exact ⟨by omega, by omega, h5, fun π sd => ⟨(h.deal (π := π) (sd := sd)).1.bg, (h.deal (π := π) (sd := sd)).2.1⟩⟩
theorem PlOK_W5 : PlOK W5 := fun σ h => by
  obtain ⟨a1, a2, a3, a4, a5⟩ := PlOK_W2 σ h.1
  refine ⟨a1, a2, a3, a4, fun h4 => ?_⟩
  obtain ⟨b1, b2, b3⟩ := a5 h4
  refine ⟨b1, b2, fun rule r0 r1 => ?_⟩
  obtain ⟨c1, c2, c3, c4, c5, c6⟩ := b3 rule r0 r1
  exact ⟨c1, c2, c3, c4, c5, h.asks (h.1.1.ao h.1.2 h4 ⟨r0, r1⟩).2.2.2.2⟩
theorem f_bst_iff : ∀ n : Nat, f_bst σ n = true ↔ ∀ a : Int, 1 ≤ a → a ≤ n → f_booksOf σ a < f_booksOf σ 0 := by
  intro n
  induction n with
  | zero => exact ⟨fun _ a h0 h1 => by omega, fun _ => rfl⟩
  | succ n ih =>
    unfold f_bst
    rw [Bool.and_eq_true, ih, decide_eq_true_eq]
    refine ⟨fun h a h0 h1 => ?_, fun h => ⟨fun a h0 h1 => h a h0 (by omega), h _ (by omega) (by omega)⟩⟩
    by_cases e : a = ((n + 1 : Nat) : Int)
    · rw [e]; exact h.2
    · exact h.1 a h0 (by omega)
theorem f_rul_v {i j a k : Int} {rl : Int → Int} (h : 0 ≤ a ∧ a < k) : f_rul i j rl k a = if a = 0 then i else j := if_pos h
end L6p
def ew (J : HI) (T : HT) (z : Nat) (Φ : Int → HI → HP → Prop) : QT := fun v I' J' P' T' z' => J' = J ∧ T' = T ∧ z' = z ∧ ∃ w, v = some (iv w) ∧ Φ w I' P'
theorem ew_i {J I : HI} {P : HP} {T : HT} {z : Nat} {w : Int} {Φ : Int → HI → HP → Prop} (h : Φ w I P) : ew J T z Φ (some (iv w)) I J P T z := ⟨rfl, rfl, rfl, w, rfl, h⟩
theorem k_w {G : GE} {J : HI} {T : HT} {z : Nat} {M : MI} {R : Room} {Z : ZP} {cu su pc : Nat} {ls : List (Option Value)} {st : List Value} {Φ : Int → HI → HP → Prop} (k : ∀ w I' P', Φ w I' P' → PW G M R Z cu su I' J P' T z pc ls (iv w :: st)) : ∀ v I' J' P' T' z', ew J T z Φ v I' J' P' T' z' → PW G M R Z cu su I' J' P' T' z' pc ls (v.toList ++ st) := by
  intro v I' J' P' T' z' h
  obtain ⟨rfl, rfl, rfl, w, rfl, h⟩ := h
  exact k w I' P' h
section L6
variable {G : GE} {I I0 I' J : HI} {P P' P1 : HP} {T : HT} {z : Nat} {x t d g : Nat} {Q : QT} {σ μ τ ω r π rl σ0 : Int → Int}
/-- what tried games leave: how many are won, how long they are -/
def WNS (x t : Nat) (c : Prop) (y : GS) (I : HI) (P : HP) (v : Int) (I' : HI) (P' : HP) : Prop := (¬ c ∧ v = -1 ∧ I' = I ∧ P' = P) ∨ (c ∧ (v = y.2.2.2.2.2 ∧ 0 ≤ v ∧ v ≤ 30) ∧ (∀ b : Nat, b ≠ x → (b < x + 44 ∨ x + 75 ≤ b) → I' b = I b) ∧ I' x = us (I x) 21 y.2.2.2.2.1 ∧ P' = up P (x + 44) 0 (some t) ∧ 0 ≤ I' (x + 44) 13 ∧ I' (x + 44) 13 ≤ 52)
theorem C_wins (hx : XS G I P T x t σ μ) (h13 : 0 ≤ I (x + 44) 13 ∧ I (x + 44) 13 ≤ 52) {i j n fr s9 : Int} (hi : rg i) (hj : rg j) (hn : rg n) (hfr : rg fr) (hσ0 : gmC σ i j n → WF σ0 ∧ ∀ j, 0 ≤ j → j < 4 → σ0 j = σ j)
    (hQ : ∀ v I' P', WNS x t (gmC σ i j n) (f_gm i j fr n.toNat 0 (rl, π, s9, σ0, 0, 0)) I P v I' P' → Q (some (iv v)) I' J P' T z) : MC G yX1_wins (ws_ yX1_wins cX1_wins 10 (some FieldType.int)) (d + 9) 0 0 [.ref x, iv i, iv j, iv n, iv fr] I J P T z Q nX := by
  have hb := hx.b
  have ht := hx.ta
  have htx := hx.tx
  refine MC.of (by decide) (Nat.le_of_ble_eq_true rfl) ?_
  show PW G mX1_wins (rmD (d + 9) 0 0) (MZ G Q nX 0 0) 0 0 I J P T z 0 [some (.ref x), some (iv i), some (iv j), some (iv n), some (iv fr), none, none, none, none, none] []
  have bad : ¬ gmC σ i j n → PW G mX1_wins (rmD (d + 9) 0 0) (MZ G Q nX 0 0) 0 0 I J P T z 47 [some (.ref x), some (iv i), some (iv j), some (iv n), some (iv fr), none, none, none, none, none] [] := by
    intro q
    refine r_iconst (pc := 47) dX1_wins_47 ?_
    refine r_ireturn (pc := 48) rfl rfl dX1_wins_48 (Nat.le_of_ble_eq_true rfl) (Nat.le_of_ble_eq_true rfl) ?_
    exact hQ (-1) I P (Or.inl ⟨q, rfl, rfl, rfl⟩)
  refine r_iload_n (pc := 0) dX1_wins_0 rfl rfl ?_
  refine r_iconst (pc := 1) dX1_wins_1 ?_
  refine r_iconst (pc := 2) dX1_wins_2 ?_
  refine r_callS3 (pc := 3) (C_isIn (by omega) (by omega) (by omega) fe_i) im_X1_isIn q1228 dX1_wins_3 (Nat.le_of_ble_eq_true rfl) (Nat.le_of_ble_eq_true rfl) rfl (k_fi ?_) (fun _ _ _ _ _ _ _ hx => no_x hx)
  refine r_if_eq (pc := 6) 47 dX1_wins_6 rfl bz_g (fun h6 => ?_) (fun h6 => ?_)
  · exact bad (fun q => bz_0.mp h6 q.1)
  have q1 := bz_ne.mp h6
  refine r_iload_n (pc := 9) dX1_wins_9 rfl rfl ?_
  refine r_iconst (pc := 10) dX1_wins_10 ?_
  refine r_iconst (pc := 11) dX1_wins_11 ?_
  refine r_callS3 (pc := 12) (C_isIn (by omega) (by omega) (by omega) fe_i) im_X1_isIn q1228 dX1_wins_12 (Nat.le_of_ble_eq_true rfl) (Nat.le_of_ble_eq_true rfl) rfl (k_fi ?_) (fun _ _ _ _ _ _ _ hx => no_x hx)
  refine r_if_eq (pc := 15) 47 dX1_wins_15 rfl bz_g (fun h15 => ?_) (fun h15 => ?_)
  · exact bad (fun q => bz_0.mp h15 q.2.1)
  have q2 := bz_ne.mp h15
  refine r_iload_n (pc := 18) dX1_wins_18 rfl rfl ?_
  refine r_iconst (pc := 19) dX1_wins_19 ?_
  refine r_bipush (pc := 20) dX1_wins_20 (by decide +kernel) ?_
  refine r_callS3 (pc := 22) (C_isIn (by omega) (by omega) (by omega) fe_i) im_X1_isIn q1228 dX1_wins_22 (Nat.le_of_ble_eq_true rfl) (Nat.le_of_ble_eq_true rfl) rfl (k_fi ?_) (fun _ _ _ _ _ _ _ hx => no_x hx)
  refine r_if_eq (pc := 25) 47 dX1_wins_25 rfl bz_g (fun h25 => ?_) (fun h25 => ?_)
  · exact bad (fun q => bz_0.mp h25 q.2.2.1)
  have q3 := bz_ne.mp h25
  refine r_aload_n (pc := 28) dX1_wins_28 rfl rfl ?_
  refine r_getr (pc := 29) (c := 1) (k := 3) (kz := 3) hx.o cok_1 (Nat.le_of_ble_eq_true rfl) q513 ⟨rfl, rfl⟩ (Or.inl rfl) rfl (fun _ _ _ => rfl) hx.p_table dX1_wins_29 ?_
  refine r_callV0 (pc := 32) (C_many hx.tb fe_i) im_X2_many q369 q1241 hx.tb.o rfl dX1_wins_32 (Nat.le_of_ble_eq_true rfl) (Nat.le_of_ble_eq_true rfl) rfl (k_fi ?_) (fun _ _ _ _ _ _ _ hx => no_x hx)
  rw [hx.r.ta.2.1]
  refine r_iconst (pc := 35) dX1_wins_35 ?_
  refine r_icmp_lt (pc := 36) 47 dX1_wins_36 rfl (by omega) (by omega) (fun h36 => ?_) (fun h36 => ?_)
  · exact bad (fun q => by omega)
  refine r_aload_n (pc := 39) dX1_wins_39 rfl rfl ?_
  refine r_iconst (pc := 40) dX1_wins_40 ?_
  refine r_callV1 (pc := 41) (C_canDeal hx (by omega) fe_i) im_X1_canDeal qs43 q1466 hx.o rfl dX1_wins_41 (Nat.le_of_ble_eq_true rfl) (Nat.le_of_ble_eq_true rfl) rfl (k_fi ?_) (fun _ _ _ _ _ _ _ hx => no_x hx)
  refine r_if_ne (pc := 44) 49 dX1_wins_44 rfl bz_g (fun h44 => ?_) (fun h44 => ?_)
  · have q4 := bz_ne.mp h44
    have hc : gmC σ i j n := ⟨q1, q2, q3, by omega, by omega⟩
    obtain ⟨w0, tb0⟩ := hσ0 hc
    have tb00 := tb0 0 (by omega) (by omega)
    have tb01 := tb0 1 (by omega) (by omega)
    refine r_iconst (pc := 49) dX1_wins_49 ?_
    refine r_istore5 (pc := 50) (Nat.le_of_ble_eq_true rfl) dX1_wins_50 rfl ?_
    refine r_aload_n (pc := 52) dX1_wins_52 rfl rfl ?_
    refine r_iconst (pc := 53) dX1_wins_53 ?_
    refine r_puti (pc := 54) (c := 1) (k := 21) (kz := 21) hx.o cok_1 (Nat.le_of_ble_eq_true rfl) q531 ⟨rfl, rfl⟩ (Or.inl rfl) rfl (by omega) rfl rfl (by omega) (fun _ _ _ => rfl) ⟨rfl, rfl⟩ dX1_wins_54 ?_
    refine r_iconst (pc := 57) dX1_wins_57 ?_
    refine r_istore6 (pc := 58) (Nat.le_of_ble_eq_true rfl) dX1_wins_58 rfl ?_
    have loop : ∀ (m : Nat) (k : Int) (y : GS) (I1 : HI) (P1 : HP) (l7 l8 l9 : Option Value), 0 ≤ k → k + m = n → W5 y.2.2.2.1 → (∀ j, 0 ≤ j → j < 4 → y.2.2.2.1 j = σ j) → (0 ≤ y.2.2.2.2.1 ∧ y.2.2.2.2.1 ≤ 300 * k) → (0 ≤ y.2.2.2.2.2 ∧ y.2.2.2.2.2 ≤ k) → (∀ b : Nat, b ≠ x → (b < x + 44 ∨ x + 75 ≤ b) → I1 b = I b) → I1 x = us (I x) 21 y.2.2.2.2.1 → (0 ≤ I1 (x + 44) 13 ∧ I1 (x + 44) 13 ≤ 52) → ((k = 0 ∧ P1 = P) ∨ P1 = up P (x + 44) 0 (some t)) → f_gm i j fr n.toNat 0 (rl, π, s9, σ0, 0, 0) = f_gm i j fr m k y → PW G mX1_wins (rmD (d + 9) 0 0) (MZ G Q nX 0 0) 0 0 I1 J P1 T z 60 [some (.ref x), some (iv i), some (iv j), some (iv n), some (iv fr), some (iv y.2.2.2.2.2), some (iv k), l7, l8, l9] [] := by
      intro m
      induction m with
      | zero =>
        intro k y I1 P1 l7 l8 l9 h0 hm hw htb has hwn hfr1 hx21 h13 hP he
        refine r_iload (pc := 60) dX1_wins_60 rfl ?_
        refine r_iload_n (pc := 62) dX1_wins_62 rfl rfl ?_
        refine r_icmp_ge (pc := 63) 211 dX1_wins_63 rfl (by omega) (by omega) (fun h63 => ?_) (fun h63 => ?_)
        · refine r_iload (pc := 211) dX1_wins_211 rfl ?_
          refine r_ireturn (pc := 213) rfl rfl dX1_wins_213 (Nat.le_of_ble_eq_true rfl) (Nat.le_of_ble_eq_true rfl) ?_
          refine hQ _ I1 P1 (Or.inr ⟨hc, ⟨by rw [he]; rfl, by omega, by omega⟩, hfr1, by rw [he]; exact hx21, ?_, h13⟩)
          rcases hP with q | q
          · omega
          · exact q
        omega
      | succ m ih =>
        intro k y I1 P1 l7 l8 l9 h0 hm hw htb has hwn hfr1 hx21 h13 hP he
        obtain ⟨rly, πy, sy, σy, asy, wny⟩ := y
        have t0 := htb 0 (by omega) (by omega)
        have t1 := htb 1 (by omega) (by omega)
        have t2 := htb 2 (by omega) (by omega)
        have t3 := htb 3 (by omega) (by omega)
        simp only at hw htb has hwn hx21 he t0 t1 t2 t3
        have hpf : PF x P P1 := by
          rcases hP with q | q
          · rw [q.2]; exact PF.rf
          · rw [q]; exact PF.rf.upd (by unfold okP; omega)
        have hPn : ∀ b : Nat, b ≠ x + 44 → P1 b = P b := by
          intro b q9
          rcases hP with q | q
          · rw [q.2]
          · rw [q]; exact funext (fun i => up_n q9)
        have hx1 : XS G I1 P1 T x t σ μ := hx.pf hpf (fun b q => hfr1 b (by omega) (by omega)) (by rw [hPn x (by omega)]) (by rw [hPn (x + 13) (by omega)])
        have ta1 : I1 t 0 = σy 0 ∧ I1 (t + 1) 2 = σy 1 ∧ I1 t 4 = σy 2 ∧ I1 t 1 = σy 3 := by
          have := hx1.r.ta
          omega
        obtain ⟨dw, d5, dtb⟩ := hw.deal (π := πy) (sd := wr (fr + k))
        have dtb1 := dtb 1 (by omega) (by omega)
        refine r_iload (pc := 60) dX1_wins_60 rfl ?_
        refine r_iload_n (pc := 62) dX1_wins_62 rfl rfl ?_
        refine r_icmp_ge (pc := 63) 211 dX1_wins_63 rfl (by omega) (by omega) (fun h63 => ?_) (fun h63 => ?_)
        · omega
        refine r_aload_n (pc := 66) dX1_wins_66 rfl rfl ?_
        refine r_getr (pc := 67) (c := 1) (k := 5) (kz := 5) hx1.o cok_1 (Nat.le_of_ble_eq_true rfl) q515 ⟨rfl, rfl⟩ (Or.inl rfl) rfl (fun _ _ _ => rfl) hx1.p_trial dX1_wins_67 ?_
        refine r_aload_n (pc := 70) dX1_wins_70 rfl rfl ?_
        refine r_getr (pc := 71) (c := 1) (k := 3) (kz := 3) hx1.o cok_1 (Nat.le_of_ble_eq_true rfl) q513 ⟨rfl, rfl⟩ (Or.inl rfl) rfl (fun _ _ _ => rfl) hx1.p_table dX1_wins_71 ?_
        refine r_iconst (pc := 74) dX1_wins_74 ?_
        refine r_iload (pc := 75) dX1_wins_75 rfl ?_
        refine r_iload (pc := 77) dX1_wins_77 rfl ?_
        refine r_iadd (pc := 79) dX1_wins_79 ?_
        rw [← iv_wr (x := fr + k)]
        refine r_callV3 (pc := 80) (C_deal (σ := σy) (π := πy) (Q := ee J T z (some (.ref (x + 44))) (fun I' P' => ∃ ν, P' = up P1 (x + 44) 0 (some t) ∧ GF (x + 44) I1 I' ∧ GR I' (x + 44) t (f_begins (f_dealt πy σy 5 (wr (fr + k)))) ν)) (hx1.x.g (o := 44) (by decide)) hx1.tb (by omega) ta1 h13 (by omega) (by omega) (by omega) (by omega) wr_r (by omega) (fun I' ν a b => ee_i ⟨ν, rfl, a, b⟩)) im_X3_deal q1472 q1470 hx1.t_trial rfl dX1_wins_80 (Nat.le_of_ble_eq_true rfl) (Nat.le_of_ble_eq_true rfl) rfl (k_e fun I2 P2 h2 => ?_) (fun _ _ _ _ _ _ _ hx => no_x hx)
        obtain ⟨ν, eP2, hf2, hr2⟩ := h2
        have eP : P2 = up P (x + 44) 0 (some t) := by
          rw [eP2]
          rcases hP with q | q
          · rw [q.2]
          · rw [q]; exact up_id (by simp [up])
        have hpf2 : PF x P P2 := by rw [eP]; exact PF.rf.upd (by unfold okP; omega)
        have hPn2 : ∀ b : Nat, b ≠ x + 44 → P2 b = P b := fun b q => by rw [eP]; exact funext (fun i => up_n q)
        have hx2 : XS G I2 P2 T x t σ μ := hx.pf hpf2 (fun b q => by rw [hf2 b (by omega)]; exact hfr1 b (by omega) (by omega)) (by rw [hPn2 x (by omega)]) (by rw [hPn2 (x + 13) (by omega)])
        have hs2 : shG G P2 T (x + 44) t := ⟨hx2.x.g (o := 44) (by decide), hx2.tb, by rw [eP]; simp [up]⟩
        generalize hσ1 : f_begins (f_dealt πy σy 5 (wr (fr + k))) = σ1 at d5 hr2 dtb dtb1
        clear eP2
        have hrv : ∀ a, 0 ≤ a → a < σ 1 → f_rul i j rly (σ1 1) a = if a = 0 then i else j := fun a u v => f_rul_v (by omega)
        generalize hrl : f_rul i j rly (σ1 1) = rl' at hrv
        show PW G mX1_wins (rmD (d + 9) 0 0) (MZ G Q nX 0 0) 0 0 I2 J P2 T z 83 [some (.ref x), some (iv i), some (iv j), some (iv n), some (iv fr), some (iv wny), some (iv k), l7, l8, l9] [.ref (x + 44)]
        refine r_pop (pc := 83) dX1_wins_83 rfl ?_
        refine r_iconst (pc := 84) dX1_wins_84 ?_
        refine r_istore7 (pc := 85) (Nat.le_of_ble_eq_true rfl) dX1_wins_85 rfl ?_
        have fin : ∀ (I3 : HI) (σ3 ν3 : Int → Int) (q : Int), (0 ≤ q ∧ q ≤ 300) → GF (x + 44) I2 I3 → GR I3 (x + 44) t σ3 ν3 → W5 σ3 → (∀ j, 0 ≤ j → j < 4 → σ3 j = σ j) → f_q rl' 300 σ1 = (σ3, q) → PW G mX1_wins (rmD (d + 9) 0 0) (MZ G Q nX 0 0) 0 0 I3 J P2 T z 138 [some (.ref x), some (iv i), some (iv j), some (iv n), some (iv fr), some (iv wny), some (iv k), some (iv q), l8, l9] [] := by
          intro I3 σ3 ν3 q hq hf3 hr3 hw3 htb3 hfq
          have e3x : I3 x = us (I x) 21 asy := by rw [hf3 x (by omega), hf2 x (by omega)]; exact hx21
          have e31 := htb3 1 (by omega) (by omega)
          have hx3 : XS G I3 P2 T x t σ μ := hx2.fr (fun b q => hf3 b (by omega))
          have ey : f_gm1 i j (wr (fr + k)) (rly, πy, sy, σy, asy, wny) = (rl', (f_shuffled πy σy (wr (fr + k))).1, (f_shuffled πy σy (wr (fr + k))).2, σ3, asy + q, wny + bz (f_bst σ3 (σ3 1 - 1).toNat = true)) := by
            unfold f_gm1
            simp only [hσ1, hrl, hfq]
          refine r_aload_n (pc := 138) dX1_wins_138 rfl rfl ?_
          refine r_dup (pc := 139) dX1_wins_139 rfl ?_
          refine r_geti (pc := 140) (c := 1) (k := 21) (kz := 21) hx3.o cok_1 (Nat.le_of_ble_eq_true rfl) q531 ⟨rfl, rfl⟩ (Or.inl rfl) rfl (fun _ _ _ => rfl) dX1_wins_140 (fun hr140 => ?_)
          rw [e3x, us_s] at hr140 ⊢
          refine r_iload (pc := 143) dX1_wins_143 rfl ?_
          refine r_iadd (pc := 145) dX1_wins_145 ?_
          refine r_puti (pc := 146) (c := 1) (k := 21) (kz := 21) hx3.o cok_1 (Nat.le_of_ble_eq_true rfl) q531 ⟨rfl, rfl⟩ (Or.inl rfl) rfl (by omega) rfl rfl (by omega) (fun _ _ _ => rfl) ⟨rfl, rfl⟩ dX1_wins_146 ?_
          have f8 : ∀ b : Nat, b ≠ x → ui I3 x 21 (asy + q) b = I3 b := fun b q => funext (fun i => ui_n q)
          have e8 : ui I3 x 21 (asy + q) x = us (I x) 21 (asy + q) := by
            funext i9
            unfold ui
            rw [e3x]
            unfold us
            by_cases e : i9 = 21 <;> simp [e]
          have hx4 : XS G (ui I3 x 21 (asy + q)) P2 T x t σ μ := hx3.fr (fun b q => f8 b (by omega))
          have hr4 : GR (ui I3 x 21 (asy + q)) (x + 44) t σ3 ν3 := hr3.fr (fun b q => f8 b (by omega))
          generalize ui I3 x 21 (asy + q) = I4 at f8 e8 hx4 hr4
          refine r_iconst (pc := 149) dX1_wins_149 ?_
          refine r_istore8 (pc := 150) (Nat.le_of_ble_eq_true rfl) dX1_wins_150 rfl ?_
          refine r_iconst (pc := 152) dX1_wins_152 ?_
          refine r_istore9 (pc := 153) (Nat.le_of_ble_eq_true rfl) dX1_wins_153 rfl ?_
          have bkr := fun a : Int => f_booksOf_r (σ := σ3) (k := a)
          have bk0 := bkr 0
          have loop3 : ∀ (m3 : Nat) (p mo : Int), 1 ≤ p → p + m3 = σ 1 → (0 ≤ mo ∧ mo ≤ 13) → (mo < f_booksOf σ3 0 ↔ 0 < f_booksOf σ3 0 ∧ ∀ a, 1 ≤ a → a < p → f_booksOf σ3 a < f_booksOf σ3 0) → PW G mX1_wins (rmD (d + 9) 0 0) (MZ G Q nX 0 0) 0 0 I4 J P2 T z 155 [some (.ref x), some (iv i), some (iv j), some (iv n), some (iv fr), some (iv wny), some (iv k), some (iv q), some (iv mo), some (iv p)] [] := by
            intro m3
            induction m3 with
            | zero =>
              intro p mo h0 hm3 hmo hiff
              obtain rfl : p = σ 1 := by omega
              have hbst : mo < f_booksOf σ3 0 ↔ f_bst σ3 (σ3 1 - 1).toNat = true := by
                rw [hiff, f_bst_iff]
                constructor
                · intro h a u v; exact h.2 a u (by omega)
                · intro h
                  have := h 1 (by omega) (by omega)
                  have := bkr 1
                  exact ⟨by omega, fun a u v => h a u (by omega)⟩
              have nxt : ∀ w : Int, w = wny + bz (f_bst σ3 (σ3 1 - 1).toNat = true) → PW G mX1_wins (rmD (d + 9) 0 0) (MZ G Q nX 0 0) 0 0 I4 J P2 T z 205 [some (.ref x), some (iv i), some (iv j), some (iv n), some (iv fr), some (iv w), some (iv k), some (iv q), some (iv mo), some (iv (σ 1))] [] := by
                intro w ew9
                have bzr := bz_r (p := f_bst σ3 (σ3 1 - 1).toNat = true)
                refine r_iinc6 (pc := 205) (Nat.le_of_ble_eq_true rfl) dX1_wins_205 rfl ?_
                refine r_goto (pc := 208) 60 dX1_wins_208 rfl ?_
                have hp4 := hr4.hp
                have := ih (k + 1) (rl', (f_shuffled πy σy (wr (fr + k))).1, (f_shuffled πy σy (wr (fr + k))).2, σ3, asy + q, w) I4 P2 (some (iv q)) (some (iv mo)) (some (iv (σ 1))) (by omega) (by omega) hw3 htb3 (by simp only; omega) (by simp only; omega) (fun b u v => by rw [f8 b u, hf3 b (by omega), hf2 b (by omega)]; exact hfr1 b u v) e8 (by omega) (Or.inr eP) (by rw [he, ew9]; conv => lhs; unfold f_gm; rw [ey])
                exact this
              refine r_iload (pc := 155) dX1_wins_155 rfl ?_
              refine r_aload_n (pc := 157) dX1_wins_157 rfl rfl ?_
              refine r_getr (pc := 158) (c := 1) (k := 3) (kz := 3) hx4.o cok_1 (Nat.le_of_ble_eq_true rfl) q513 ⟨rfl, rfl⟩ (Or.inl rfl) rfl (fun _ _ _ => rfl) hx4.p_table dX1_wins_158 ?_
              refine r_callV0 (pc := 161) (C_many hx4.tb fe_i) im_X2_many q369 q1241 hx4.tb.o rfl dX1_wins_161 (Nat.le_of_ble_eq_true rfl) (Nat.le_of_ble_eq_true rfl) rfl (k_fi ?_) (fun _ _ _ _ _ _ _ hx => no_x hx)
              rw [hx4.r.ta.2.1]
              refine r_icmp_ge (pc := 164) 189 dX1_wins_164 rfl (by omega) (by omega) (fun h164 => ?_) (fun h164 => ?_)
              · refine r_aload_n (pc := 189) dX1_wins_189 rfl rfl ?_
                refine r_getr (pc := 190) (c := 1) (k := 5) (kz := 5) hx4.o cok_1 (Nat.le_of_ble_eq_true rfl) q515 ⟨rfl, rfl⟩ (Or.inl rfl) rfl (fun _ _ _ => rfl) hx4.p_trial dX1_wins_190 ?_
                refine r_iconst (pc := 193) dX1_wins_193 ?_
                refine r_callV1 (pc := 194) (C_booksOf hs2 hr4 (by omega) fe_i) im_X3_booksOf q1210 q1208 hx4.t_trial rfl dX1_wins_194 (Nat.le_of_ble_eq_true rfl) (Nat.le_of_ble_eq_true rfl) rfl (k_fi ?_) (fun _ _ _ _ _ _ _ hx => no_x hx)
                refine r_iload (pc := 197) dX1_wins_197 rfl ?_
                refine r_icmp_le (pc := 199) 205 dX1_wins_199 rfl (by omega) (by omega) (fun h199 => ?_) (fun h199 => ?_)
                · refine nxt wny ?_
                  rw [bz_f (fun q => by have := hbst.mpr q; omega)]; omega
                refine r_iinc5 (pc := 202) (Nat.le_of_ble_eq_true rfl) dX1_wins_202 rfl ?_
                refine nxt (wny + 1) ?_
                rw [bz_t (hbst.mp (by omega))]
              omega
            | succ m3 ih3 =>
              intro p mo h0 hm3 hmo hiff
              have bkp := bkr p
              refine r_iload (pc := 155) dX1_wins_155 rfl ?_
              refine r_aload_n (pc := 157) dX1_wins_157 rfl rfl ?_
              refine r_getr (pc := 158) (c := 1) (k := 3) (kz := 3) hx4.o cok_1 (Nat.le_of_ble_eq_true rfl) q513 ⟨rfl, rfl⟩ (Or.inl rfl) rfl (fun _ _ _ => rfl) hx4.p_table dX1_wins_158 ?_
              refine r_callV0 (pc := 161) (C_many hx4.tb fe_i) im_X2_many q369 q1241 hx4.tb.o rfl dX1_wins_161 (Nat.le_of_ble_eq_true rfl) (Nat.le_of_ble_eq_true rfl) rfl (k_fi ?_) (fun _ _ _ _ _ _ _ hx => no_x hx)
              rw [hx4.r.ta.2.1]
              refine r_icmp_ge (pc := 164) 189 dX1_wins_164 rfl (by omega) (by omega) (fun h164 => ?_) (fun h164 => ?_)
              · omega
              refine r_iload (pc := 167) dX1_wins_167 rfl ?_
              refine r_aload_n (pc := 169) dX1_wins_169 rfl rfl ?_
              refine r_getr (pc := 170) (c := 1) (k := 5) (kz := 5) hx4.o cok_1 (Nat.le_of_ble_eq_true rfl) q515 ⟨rfl, rfl⟩ (Or.inl rfl) rfl (fun _ _ _ => rfl) hx4.p_trial dX1_wins_170 ?_
              refine r_iload (pc := 173) dX1_wins_173 rfl ?_
              refine r_callV1 (pc := 175) (C_booksOf hs2 hr4 (by omega) fe_i) im_X3_booksOf q1210 q1208 hx4.t_trial rfl dX1_wins_175 (Nat.le_of_ble_eq_true rfl) (Nat.le_of_ble_eq_true rfl) rfl (k_fi ?_) (fun _ _ _ _ _ _ _ hx => no_x hx)
              refine r_mmax (pc := 178) q1487 dX1_wins_178 (by omega) (by omega) (Nat.le_of_ble_eq_true rfl) (Nat.le_of_ble_eq_true rfl) rfl ?_
              refine r_istore8 (pc := 181) (Nat.le_of_ble_eq_true rfl) dX1_wins_181 rfl ?_
              refine r_iinc9 (pc := 183) (Nat.le_of_ble_eq_true rfl) dX1_wins_183 rfl ?_
              refine r_goto (pc := 186) 155 dX1_wins_186 rfl ?_
              refine ih3 (p + 1) _ (by omega) (by omega) (by omega) ?_
              constructor
              · intro h
                have := hiff.mp (by omega)
                refine ⟨this.1, fun a u v => ?_⟩
                by_cases e : a = p
                · subst e; omega
                · exact this.2 a u (by omega)
              · intro h
                have := hiff.mpr ⟨h.1, fun a u v => h.2 a u (by omega)⟩
                have := h.2 p (by omega) (by omega)
                omega
          exact loop3 (σ 1 - 1).toNat 1 0 (by omega) (by omega) (by omega) ⟨fun h => ⟨h, fun a u v => by omega⟩, fun h => h.1⟩
        have loop2 : ∀ (m2 : Nat) (q : Int) (I3 : HI) (σ3 ν3 : Int → Int), 0 ≤ q → q + m2 = 300 → GF (x + 44) I2 I3 → GR I3 (x + 44) t σ3 ν3 → W5 σ3 → (∀ j, 0 ≤ j → j < 4 → σ3 j = σ j) → f_q rl' 300 σ1 = ((f_q rl' m2 σ3).1, (f_q rl' m2 σ3).2 + q) → PW G mX1_wins (rmD (d + 9) 0 0) (MZ G Q nX 0 0) 0 0 I3 J P2 T z 87 [some (.ref x), some (iv i), some (iv j), some (iv n), some (iv fr), some (iv wny), some (iv k), some (iv q), l8, l9] [] := by
          intro m2
          induction m2 with
          | zero =>
            intro q I3 σ3 ν3 h0 hm2 hf3 hr3 hw3 htb3 hfq
            refine r_iload (pc := 87) dX1_wins_87 rfl ?_
            refine r_sipush (pc := 89) dX1_wins_89 (by decide +kernel) ?_
            refine r_icmp_ge (pc := 92) 138 dX1_wins_92 rfl (by omega) (by omega) (fun h92 => ?_) (fun h92 => ?_)
            · refine fin I3 σ3 ν3 q (by omega) hf3 hr3 hw3 htb3 ?_
              rw [hfq]
              show (σ3, 0 + q) = _
              rw [Int.zero_add]
            omega
          | succ m2 ih2 =>
            intro q I3 σ3 ν3 h0 hm2 hf3 hr3 hw3 htb3 hfq
            have hx3 : XS G I3 P2 T x t σ μ := hx2.fr (fun b q => hf3 b (by omega))
            have e31 := htb3 1 (by omega) (by omega)
            refine r_iload (pc := 87) dX1_wins_87 rfl ?_
            refine r_sipush (pc := 89) dX1_wins_89 (by decide +kernel) ?_
            refine r_icmp_ge (pc := 92) 138 dX1_wins_92 rfl (by omega) (by omega) (fun h92 => ?_) (fun h92 => ?_)
            · omega
            refine r_aload_n (pc := 95) dX1_wins_95 rfl rfl ?_
            refine r_getr (pc := 96) (c := 1) (k := 5) (kz := 5) hx3.o cok_1 (Nat.le_of_ble_eq_true rfl) q515 ⟨rfl, rfl⟩ (Or.inl rfl) rfl (fun _ _ _ => rfl) hx3.p_trial dX1_wins_96 ?_
            refine r_callV0 (pc := 99) (C_isOver hs2 hr3 fe_i) im_X3_isOver q1256 q1360 hx3.t_trial rfl dX1_wins_99 (Nat.le_of_ble_eq_true rfl) (Nat.le_of_ble_eq_true rfl) rfl (k_fi ?_) (fun _ _ _ _ _ _ _ hx => no_x hx)
            refine r_if_ne (pc := 102) 138 dX1_wins_102 rfl bz_g (fun h102 => ?_) (fun h102 => ?_)
            · have q5 := bz_ne.mp h102
              refine fin I3 σ3 ν3 q (by omega) hf3 hr3 hw3 htb3 ?_
              rw [hfq]
              unfold f_q
              rw [if_pos q5, Int.zero_add]
            have q5 : ¬ σ3 4 = -1 := bz_0.mp h102
            have t4 : 0 ≤ σ3 4 ∧ σ3 4 < σ3 1 := by
              rcases hw3.1.1.tu with u | u
              · exact absurd u q5
              · exact ⟨u.1, u.2.1⟩
            have hr4 := hrv (σ3 4) (by omega) (by omega)
            have step : ∀ rule : Int, rule = rl' (σ3 4) → 0 ≤ rule ∧ rule ≤ 3 → PW G mX1_wins (rmD (d + 9) 0 0) (MZ G Q nX 0 0) 0 0 I3 J P2 T z 128 [some (.ref x), some (iv i), some (iv j), some (iv n), some (iv fr), some (iv wny), some (iv k), some (iv q), l8, l9] [iv rule, .ref (x + 85), .ref (x + 44)] := by
              intro rule er hrule
              subst er
              have hao := hw3.1.1.ao hw3.1.2 q5 (rule := rl' (σ3 4)) hrule
              refine r_aald (pc := 128) hx3.t_bents ⟨by decide, by decide⟩ rfl (fun _ _ _ => rfl) (by omega) (by omega) (hx3.x.q_bents (by omega) (by omega)) dX1_wins_128 ?_
              refine r_callS2 (pc := 129) (C_asksS (Q := ee J T z none (fun I' P' => P' = P2 ∧ GF (x + 44) I2 I' ∧ GR I' (x + 44) t (f_asks σ3 (σ3 4) (f_bent σ3 (σ3 4) (rl' (σ3 4)) / 100) (f_bent σ3 (σ3 4) (rl' (σ3 4)) % 100) 0).1 (f_tl σ3 (f_bent σ3 (σ3 4) (rl' (σ3 4)))))) hx3.x hs2 hf3 hr3 hw3.1 q5 hrule (fun I' a b => ee_i ⟨rfl, a, b⟩)) im_X1_asks q1459 dX1_wins_129 (Nat.le_of_ble_eq_true rfl) (Nat.le_of_ble_eq_true rfl) rfl (k_e fun I4 P4 h4 => ?_) (fun _ _ _ _ _ _ _ hx => no_x hx)
              obtain ⟨rfl, hf4, hr4'⟩ := h4
              show PW G mX1_wins (rmD (d + 9) 0 0) (MZ G Q nX 0 0) 0 0 I4 J P4 T z 132 [some (.ref x), some (iv i), some (iv j), some (iv n), some (iv fr), some (iv wny), some (iv k), some (iv q), l8, l9] []
              refine r_iinc7 (pc := 132) (Nat.le_of_ble_eq_true rfl) dX1_wins_132 rfl ?_
              refine r_goto (pc := 135) 87 dX1_wins_135 rfl ?_
              refine ih2 (q + 1) I4 _ _ (by omega) (by omega) hf4 hr4' (hw3.asks hao.2.2.2.2) (fun j u v => by rw [asks_tb hw3.1.1 hao.2.2.2.2 u v]; exact htb3 j u v) ?_
              rw [hfq]
              conv => lhs; unfold f_q
              rw [if_neg q5]
              simp only
              refine Prod.ext rfl ?_
              simp only
              omega
            refine r_aload_n (pc := 105) dX1_wins_105 rfl rfl ?_
            refine r_getr (pc := 106) (c := 1) (k := 5) (kz := 5) hx3.o cok_1 (Nat.le_of_ble_eq_true rfl) q515 ⟨rfl, rfl⟩ (Or.inl rfl) rfl (fun _ _ _ => rfl) hx3.p_trial dX1_wins_106 ?_
            refine r_aload_n (pc := 109) dX1_wins_109 rfl rfl ?_
            refine r_getr (pc := 110) (c := 1) (k := 20) (kz := 20) hx3.o cok_1 (Nat.le_of_ble_eq_true rfl) q530 ⟨rfl, rfl⟩ (Or.inl rfl) rfl (fun _ _ _ => rfl) hx3.p_bents dX1_wins_110 ?_
            refine r_aload_n (pc := 113) dX1_wins_113 rfl rfl ?_
            refine r_getr (pc := 114) (c := 1) (k := 5) (kz := 5) hx3.o cok_1 (Nat.le_of_ble_eq_true rfl) q515 ⟨rfl, rfl⟩ (Or.inl rfl) rfl (fun _ _ _ => rfl) hx3.p_trial dX1_wins_114 ?_
            refine r_getiN (pc := 117) (c := 3) (k := 14) (kz := 14) hs2.o cok_3 (Nat.le_of_ble_eq_true rfl) q308 ⟨rfl, rfl⟩ (Or.inl rfl) rfl (fun _ _ _ => rfl) dX1_wins_117 (fun hr117 => ?_)
            rw [hr3.turn] at hr117 ⊢
            refine r_if_ne (pc := 120) 127 dX1_wins_120 rfl (by omega) (fun h120 => ?_) (fun h120 => ?_)
            · refine r_iload_n (pc := 127) dX1_wins_127 rfl rfl ?_
              rw [if_neg (by omega)] at hr4
              exact step j hr4.symm q2
            refine r_iload_n (pc := 123) dX1_wins_123 rfl rfl ?_
            refine r_goto (pc := 124) 128 dX1_wins_124 rfl ?_
            rw [if_pos (by omega)] at hr4
            exact step i hr4.symm q1
        exact loop2 300 0 I2 σ1 ν (by omega) (by omega) GF.rf hr2 d5 (fun j u v => by rw [dtb j u v]; exact htb j u v) (Prod.ext rfl (Int.add_zero _).symm)
    have f8 : ∀ b : Nat, b ≠ x → ui I x 21 0 b = I b := fun b q => funext (fun i => ui_n q)
    refine loop n.toNat 0 (rl, π, s9, σ0, 0, 0) (ui I x 21 0) P none none none (by omega) (by omega) ⟨⟨w0, by simp only; omega⟩, by simp only; omega⟩ tb0 (by simp only; omega) (by simp only; omega) (fun b u _ => f8 b u) ?_ (by rw [f8 _ (by omega)]; exact h13) (Or.inl ⟨rfl, rfl⟩) rfl
    funext i9
    unfold ui us
    simp
  exact bad (fun q => bz_0.mp h44 (by omega))
end L6
