/-! ===== the component: bents ===== -/
section PB
variable {σ : Int → Int} {p : Int}
theorem kn1_same : ∀ (n : Nat) (k : Int), f_kn1 σ p p k n = -1 := by
  intro n
  induction n with
  | zero => intro k; rfl
  | succ n ih => intro k; simp only [f_kn1]; rw [if_neg (fun q => q.1 rfl)]; exact ih (k + 1)
theorem kn1_v {q : Int} (hq : 0 ≤ q) : ∀ (n : Nat) (k : Int), 0 ≤ k → k + n ≤ 13 → f_kn1 σ p q k n = -1 ∨ ∃ j, k ≤ j ∧ j < k + n ∧ f_kn1 σ p q k n = 100 * q + j ∧ q ≠ p ∧ 0 < σ (60 + 13 * p + j) := by
  intro n
  induction n with
  | zero => intro k _ _; exact Or.inl rfl
  | succ n ih =>
    intro k h0 h1
    simp only [f_kn1]
    by_cases c : q ≠ p ∧ 0 < σ (151 + 13 * q + k) ∧ 0 < σ (60 + 13 * p + k)
    · rw [if_pos c]; exact Or.inr ⟨k, by omega, by omega, rfl, c.1, c.2.2⟩
    · rw [if_neg c]
      rcases ih (k + 1) (by omega) (by omega) with h | ⟨j, a, b, e, f, g⟩
      · exact Or.inl h
      · exact Or.inr ⟨j, by omega, by omega, e, f, g⟩
theorem kn_v : ∀ (n : Nat) (q : Int), 0 ≤ q → f_kn σ p q n = -1 ∨ ∃ r j, q ≤ r ∧ r < q + n ∧ 0 ≤ j ∧ j < 13 ∧ f_kn σ p q n = 100 * r + j ∧ r ≠ p ∧ 0 < σ (60 + 13 * p + j) := by
  intro n
  induction n with
  | zero => intro q _; exact Or.inl rfl
  | succ n ih =>
    intro q h0
    simp only [f_kn]
    by_cases c : f_kn1 σ p q 0 13 = -1
    · rw [if_pos c]
      rcases ih (q + 1) (by omega) with h | ⟨r, j, a, b, e, f, g, i, k⟩
      · exact Or.inl h
      · exact Or.inr ⟨r, j, by omega, by omega, e, f, g, i, k⟩
    · rw [if_neg c]
      rcases kn1_v h0 13 0 (by omega) (by omega) with h | ⟨j, a, b, e, f, g⟩
      · exact absurd h c
      · exact Or.inr ⟨q, j, by omega, by omega, a, by omega, e, f, g⟩
theorem nwc_v (h1 : 2 ≤ σ 1) (hp : 0 ≤ p ∧ p < σ 1) : ∀ (n : Nat) (i : Int), 1 ≤ i → i + n = σ 1 → 0 ≤ f_nwc σ p i n ∧ f_nwc σ p i n < σ 1 ∧ f_nwc σ p i n ≠ p := by
  have key : ∀ i, 1 ≤ i → i < σ 1 → 0 ≤ (p + i) % σ 1 ∧ (p + i) % σ 1 < σ 1 ∧ (p + i) % σ 1 ≠ p := by
    intro i a b
    refine ⟨Int.emod_nonneg _ (by omega), Int.emod_lt_of_pos _ (by omega), ?_⟩
    by_cases c : p + i < σ 1
    · rw [Int.emod_eq_of_lt (by omega) c]; omega
    · have : (p + i) % σ 1 = p + i - σ 1 := by
        rw [← Int.sub_emod_right, Int.emod_eq_of_lt (by omega) (by omega)]
      omega
  intro n
  induction n with
  | zero => intro i _ _; exact key 1 (by omega) (by omega)
  | succ n ih =>
    intro i h0 hn
    simp only [f_nwc]
    split
    · exact key i h0 (by omega)
    · exact ih (i + 1) (by omega) (by omega)
theorem who_v : ∀ (n : Nat) (who q : Int), 0 ≤ q → (who = -1 ∨ 0 ≤ who ∧ who < q ∧ who ≠ p) → (f_who σ p who q n = -1 ∧ (who = -1 ∧ ∀ r, q ≤ r → r < q + n → r = p)) ∨ (0 ≤ f_who σ p who q n ∧ f_who σ p who q n < q + n ∧ f_who σ p who q n ≠ p) := by
  intro n
  induction n with
  | zero =>
    intro who q h0 h
    simp only [f_who]
    rcases h with h | h
    · exact Or.inl ⟨h, h, fun r a b => by omega⟩
    · exact Or.inr ⟨h.1, by omega, h.2.2⟩
  | succ n ih =>
    intro who q h0 h
    simp only [f_who]
    by_cases c : q ≠ p ∧ (who < 0 ∨ f_cards σ who < f_cards σ q)
    · rw [if_pos c]
      rcases ih q (q + 1) (by omega) (Or.inr ⟨h0, by omega, c.1⟩) with k | k
      · omega
      · exact Or.inr ⟨k.1, by omega, k.2.2⟩
    · rw [if_neg c]
      rcases ih who (q + 1) (by omega) (by rcases h with h | h; exact Or.inl h; exact Or.inr ⟨h.1, by omega, h.2.2⟩) with k | k
      · refine Or.inl ⟨k.1, k.2.1, fun r a b => ?_⟩
        by_cases e : r = q
        · subst e
          by_cases f : r = p
          · exact f
          · exact absurd ⟨f, Or.inl (by omega)⟩ c
        · exact k.2.2 r (by omega) (by omega)
      · exact Or.inr ⟨k.1, by omega, k.2.2⟩
theorem most_v : ∀ (n : Nat) (m k : Int), 0 ≤ m → m < 13 → 0 ≤ k → k + n ≤ 13 → 0 < σ (60 + 13 * p + m) → 0 ≤ f_most σ p m k n ∧ f_most σ p m k n < 13 ∧ 0 < σ (60 + 13 * p + f_most σ p m k n) := by
  intro n
  induction n with
  | zero => intro m k a b _ _ c; exact ⟨a, b, c⟩
  | succ n ih =>
    intro m k a b c e f
    simp only [f_most]
    split
    · exact ih k (k + 1) c (by omega) (by omega) (by omega) (by omega)
    · exact ih m (k + 1) a b (by omega) (by omega) f
/-- what a bent says can be asked -/
theorem HN.ok {σ : Int → Int} {p rule : Int} (h : HN σ p) (hr : 0 ≤ rule ∧ rule ≤ 3) : ∃ b k, f_bent0 σ p rule = 100 * b + k ∧ 0 ≤ b ∧ b < σ 1 ∧ b ≠ p ∧ 0 ≤ k ∧ k < 13 ∧ 0 < σ (60 + 13 * p + k) := by
  obtain ⟨l0, l1, l2, l3⟩ := h.lv
  obtain ⟨h1, hp, hz, hx, hdr⟩ := h
  have nw := nwc_v (σ := σ) h1.1 hp (σ 1 - 1).toNat 1 (by omega) (by omega)
  unfold f_bent0
  simp only
  by_cases c1 : rule = 1 ∧ f_kn σ p 0 (σ 1).toNat ≠ -1
  · rw [if_pos c1]
    rcases kn_v (σ := σ) (p := p) (σ 1).toNat 0 (by omega) with k | ⟨r, j, a, b, e, f, g, i, k⟩
    · exact absurd k c1.2
    · exact ⟨r, j, g, by omega, by omega, i, e, f, k⟩
  · rw [if_neg c1]
    by_cases c2 : rule = 2
    · rw [if_pos c2]
      have w := who_v (σ := σ) (p := p) (σ 1).toNat (-1) 0 (by omega) (Or.inl rfl)
      have m := most_v (σ := σ) (p := p) (13 - f_least σ p 0 13).toNat (f_least σ p 0 13) (f_least σ p 0 13) l0 l1 l0 (by omega) l2
      rcases w with w | w
      · have a := w.2.2 0 (by omega) (by omega)
        have b := w.2.2 1 (by omega) (by omega)
        omega
      · exact ⟨_, _, rfl, w.1, by omega, w.2.2, m.1, m.2.1, m.2.2⟩
    · rw [if_neg c2]
      by_cases c3 : rule = 3 ∧ 0 ≤ σ (565 + p) - 1 ∧ 0 < σ (60 + 13 * p + (σ (565 + p) - 1))
      · rw [if_pos c3]; exact ⟨_, _, rfl, nw.1, nw.2.1, nw.2.2, c3.2.1, by omega, c3.2.2⟩
      · rw [if_neg c3]; exact ⟨_, _, rfl, nw.1, nw.2.1, nw.2.2, l0, l1, l2⟩
theorem most_eq (h : HN σ p) : f_most σ p 0 1 12 = f_most σ p (f_least σ p 0 13) (f_least σ p 0 13) (13 - f_least σ p 0 13).toNat := by
  obtain ⟨l0, l1, l2, l3⟩ := h.lv
  generalize f_least σ p 0 13 = l at l0 l1 l2 l3
  have rhs : f_most σ p l l (13 - l).toNat = f_most σ p l (l + 1) (12 - l).toNat := by
    rw [show (13 - l).toNat = (12 - l).toNat + 1 by omega]
    simp only [f_most]
    rw [if_neg (by omega)]
  rw [rhs]
  by_cases z : l = 0
  · subst z; rfl
  have key : ∀ (n : Nat) (k : Int), 1 ≤ k → k ≤ l → k + n = 13 → f_most σ p 0 k n = f_most σ p l (l + 1) (12 - l).toNat := by
    intro n
    induction n with
    | zero => intro k _ _ _; omega
    | succ n ih =>
      intro k a b c
      simp only [f_most]
      have z0 : σ (60 + 13 * p + 0) = 0 := l3 0 (by omega) (by omega)
      by_cases e : k = l
      · subst e
        rw [if_pos (by omega), show n = (12 - k).toNat by omega]
      · rw [if_neg (by have := l3 k (by omega) (by omega); omega)]
        exact ih (k + 1) (by omega) (by omega) (by omega)
  exact key 12 1 (by omega) (by omega) (by omega)
end PB
section K10
variable {G : GE} {I I0 J : HI} {P : HP} {T : HT} {z : Nat} {g g2 t d b : Nat} {Q : QT} {σ μ η π : Int → Int}
theorem C_bent0 (hs : shG G P T g t) (hr : GR I g t σ μ) {p : Int} (h : HN σ p) (hQ : Q (some (iv (f_bent0 σ p 0))) I J P T z) : MC G yX6_asks (ws_ yX6_asks cX6_asks 3 (some FieldType.int)) (d + 5) 0 0 [.ref b, .ref g, iv p] I J P T z Q nX := by
  refine MC.of (by decide) (Nat.le_of_ble_eq_true rfl) ?_
  show PW G mX6_asks (rmD (d + 5) 0 0) (MZ G Q nX 0 0) 0 0 I J P T z 0 [some (.ref b), some (.ref g), some (iv p)] []
  refine r_aload_n (pc := 0) dX6_asks_0 rfl rfl ?_
  refine r_iload_n (pc := 1) dX6_asks_1 rfl rfl ?_
  refine r_callSI2 (pc := 2) (C_least hs hr h fe_i) im_X5_least rfl q1445 q1444 dX6_asks_2 (Nat.le_of_ble_eq_true rfl) (Nat.le_of_ble_eq_true rfl) rfl (k_fi ?_) (fun _ _ _ _ _ _ _ hx => no_x hx)
  refine r_ireturn (pc := 5) rfl rfl dX6_asks_5 (Nat.le_of_ble_eq_true rfl) (Nat.le_of_ble_eq_true rfl) ?_
  exact hQ
theorem C_bent1 (hs : shG G P T g t) (hr : GR I g t σ μ) {p : Int} (h : HN σ p) (hQ : Q (some (iv (f_bent0 σ p 1))) I J P T z) : MC G yX7_asks (ws_ yX7_asks cX7_asks 5 (some FieldType.int)) (d + 5) 0 0 [.ref b, .ref g, iv p] I J P T z Q nX := by
  obtain ⟨h1, hp, hz, hx, hdr⟩ := id h
  refine MC.of (by decide) (Nat.le_of_ble_eq_true rfl) ?_
  show PW G mX7_asks (rmD (d + 5) 0 0) (MZ G Q nX 0 0) 0 0 I J P T z 0 [some (.ref b), some (.ref g), some (iv p), none, none] []
  unfold f_bent0 at hQ
  simp only at hQ
  refine r_iconst (pc := 0) dX7_asks_0 ?_
  refine r_istore_n3 (pc := 1) (Nat.le_of_ble_eq_true rfl) dX7_asks_1 rfl ?_
  have loop : ∀ (n : Nat) (q : Int) (l4 : Option Value), 0 ≤ q → q + n = σ 1 → f_kn σ p q n = f_kn σ p 0 (σ 1).toNat → PW G mX7_asks (rmD (d + 5) 0 0) (MZ G Q nX 0 0) 0 0 I J P T z 2 [some (.ref b), some (.ref g), some (iv p), some (iv q), l4] [] := by
    intro n
    induction n with
    | zero =>
      intro q l4 h0 hn he
      have he : -1 = f_kn σ p 0 (σ 1).toNat := he
      rw [if_neg (fun w => w.2 he.symm), if_neg (by omega), if_neg (by omega)] at hQ
      refine r_iload_n (pc := 2) dX7_asks_2 rfl rfl ?_
      refine r_aload_n (pc := 3) dX7_asks_3 rfl rfl ?_
      refine r_getrN (pc := 4) (c := 3) (k := 0) (kz := 0) hs.o cok_3 (Nat.le_of_ble_eq_true rfl) q260 ⟨rfl, rfl⟩ (Or.inl rfl) rfl (fun _ _ _ => rfl) hs.p_t dX7_asks_4 ?_
      refine r_callV0 (pc := 7) (C_many hs.tb fe_i) im_X2_many q369 q1416 hs.tb.o rfl dX7_asks_7 (Nat.le_of_ble_eq_true rfl) (Nat.le_of_ble_eq_true rfl) rfl (k_fi ?_) (fun _ _ _ _ _ _ _ hx => no_x hx)
      rw [hr.ta.2.1]
      refine r_icmp_ge (pc := 10) 72 dX7_asks_10 rfl (by omega) (by omega) (fun h10 => ?_) (fun h10 => ?_)
      · refine r_aload_n (pc := 72) dX7_asks_72 rfl rfl ?_
        refine r_iload_n (pc := 73) dX7_asks_73 rfl rfl ?_
        refine r_callSI2 (pc := 74) (C_least hs hr h fe_i) im_X5_least rfl q1418 q1417 dX7_asks_74 (Nat.le_of_ble_eq_true rfl) (Nat.le_of_ble_eq_true rfl) rfl (k_fi ?_) (fun _ _ _ _ _ _ _ hx => no_x hx)
        refine r_ireturn (pc := 77) rfl rfl dX7_asks_77 (Nat.le_of_ble_eq_true rfl) (Nat.le_of_ble_eq_true rfl) ?_
        exact hQ
      omega
    | succ n ih =>
      intro q l4 h0 hn he
      simp only [f_kn] at he
      refine r_iload_n (pc := 2) dX7_asks_2 rfl rfl ?_
      refine r_aload_n (pc := 3) dX7_asks_3 rfl rfl ?_
      refine r_getrN (pc := 4) (c := 3) (k := 0) (kz := 0) hs.o cok_3 (Nat.le_of_ble_eq_true rfl) q260 ⟨rfl, rfl⟩ (Or.inl rfl) rfl (fun _ _ _ => rfl) hs.p_t dX7_asks_4 ?_
      refine r_callV0 (pc := 7) (C_many hs.tb fe_i) im_X2_many q369 q1416 hs.tb.o rfl dX7_asks_7 (Nat.le_of_ble_eq_true rfl) (Nat.le_of_ble_eq_true rfl) rfl (k_fi ?_) (fun _ _ _ _ _ _ _ hx => no_x hx)
      rw [hr.ta.2.1]
      refine r_icmp_ge (pc := 10) 72 dX7_asks_10 rfl (by omega) (by omega) (fun h10 => ?_) (fun h10 => ?_)
      · omega
      generalize hK : f_kn1 σ p q 0 13 = K at he
      have nxt : ∀ l4, K = -1 → PW G mX7_asks (rmD (d + 5) 0 0) (MZ G Q nX 0 0) 0 0 I J P T z 66 [some (.ref b), some (.ref g), some (iv p), some (iv q), l4] [] := by
        intro l4 c
        rw [if_pos c] at he
        refine r_iinc3 (pc := 66) (Nat.le_of_ble_eq_true rfl) dX7_asks_66 rfl ?_
        refine r_goto (pc := 69) 2 dX7_asks_69 rfl ?_
        exact ih (q + 1) _ (by omega) (by omega) he
      have inner : ∀ (m : Nat) (k : Int), 0 ≤ k → k + m = 13 → q ≠ p → f_kn1 σ p q k m = K → PW G mX7_asks (rmD (d + 5) 0 0) (MZ G Q nX 0 0) 0 0 I J P T z 16 [some (.ref b), some (.ref g), some (iv p), some (iv q), some (iv k)] [] := by
        intro m
        induction m with
        | zero =>
          intro k k0 km hqp hk
          have hk : -1 = K := hk
          refine r_iload (pc := 16) dX7_asks_16 rfl ?_
          refine r_bipush (pc := 18) dX7_asks_18 (by decide +kernel) ?_
          refine r_icmp_ge (pc := 20) 66 dX7_asks_20 rfl (by omega) (by omega) (fun h20 => ?_) (fun h20 => ?_)
          · exact nxt _ hk.symm
          omega
        | succ m im =>
          intro k k0 km hqp hk
          simp only [f_kn1] at hk
          refine r_iload (pc := 16) dX7_asks_16 rfl ?_
          refine r_bipush (pc := 18) dX7_asks_18 (by decide +kernel) ?_
          refine r_icmp_ge (pc := 20) 66 dX7_asks_20 rfl (by omega) (by omega) (fun h20 => ?_) (fun h20 => ?_)
          · omega
          refine r_iload_n (pc := 23) dX7_asks_23 rfl rfl ?_
          refine r_iload_n (pc := 24) dX7_asks_24 rfl rfl ?_
          refine r_icmp_eq (pc := 25) 66 dX7_asks_25 rfl (by omega) (by omega) (fun h25 => ?_) (fun h25 => ?_)
          · exact absurd h25 hqp
          refine r_aload_n (pc := 28) dX7_asks_28 rfl rfl ?_
          refine r_getrN (pc := 29) (c := 3) (k := 2) (kz := 2) hs.o cok_3 (Nat.le_of_ble_eq_true rfl) q276 ⟨rfl, rfl⟩ (Or.inl rfl) rfl (fun _ _ _ => rfl) hs.p_known dX7_asks_29 ?_
          refine r_iload_n (pc := 32) dX7_asks_32 rfl rfl ?_
          refine r_aald (pc := 33) hs.t_known ⟨by decide, by decide⟩ rfl (fun _ _ _ => rfl) (by omega) (by omega) (hs.q_known (by omega) (by omega)) dX7_asks_33 ?_
          refine r_iload (pc := 34) dX7_asks_34 rfl ?_
          refine r_iald (pc := 36) (hs.u_known (by omega) (by omega)) (by omega) (by omega) dX7_asks_36 (fun hr36 => ?_)
          rw [hr.known (by omega) (by omega) (by omega) (by omega)] at hr36 ⊢
          refine r_if_le (pc := 37) 60 dX7_asks_37 rfl (by omega) (fun h37 => ?_) (fun h37 => ?_)
          · rw [if_neg (by omega)] at hk
            refine r_iinc4 (pc := 60) (Nat.le_of_ble_eq_true rfl) dX7_asks_60 rfl ?_
            refine r_goto (pc := 63) 16 dX7_asks_63 rfl ?_
            exact im (k + 1) (by omega) (by omega) hqp hk
          refine r_aload_n (pc := 40) dX7_asks_40 rfl rfl ?_
          refine r_getrN (pc := 41) (c := 3) (k := 1) (kz := 1) hs.o cok_3 (Nat.le_of_ble_eq_true rfl) q268 ⟨rfl, rfl⟩ (Or.inl rfl) rfl (fun _ _ _ => rfl) hs.p_hand dX7_asks_41 ?_
          refine r_iload_n (pc := 44) dX7_asks_44 rfl rfl ?_
          refine r_aald (pc := 45) hs.t_hand ⟨by decide, by decide⟩ rfl (fun _ _ _ => rfl) (by omega) (by omega) (hs.q_hand (by omega) (by omega)) dX7_asks_45 ?_
          refine r_iload (pc := 46) dX7_asks_46 rfl ?_
          refine r_iald (pc := 48) (hs.u_hand (by omega) (by omega)) (by omega) (by omega) dX7_asks_48 (fun hr48 => ?_)
          rw [hr.hand (by omega) (by omega) (by omega) (by omega)] at hr48 ⊢
          refine r_if_le (pc := 49) 60 dX7_asks_49 rfl (by omega) (fun h49 => ?_) (fun h49 => ?_)
          · rw [if_neg (by omega)] at hk
            refine r_iinc4 (pc := 60) (Nat.le_of_ble_eq_true rfl) dX7_asks_60 rfl ?_
            refine r_goto (pc := 63) 16 dX7_asks_63 rfl ?_
            exact im (k + 1) (by omega) (by omega) hqp hk
          rw [if_pos ⟨hqp, h37, h49⟩] at hk
          rw [if_neg (by omega), ← hk] at he
          rw [← he, if_pos ⟨trivial, by omega⟩] at hQ
          refine r_bipush (pc := 52) dX7_asks_52 (by decide +kernel) ?_
          refine r_iload_n (pc := 54) dX7_asks_54 rfl rfl ?_
          refine r_imul (pc := 55) dX7_asks_55 ?_
          refine r_iload (pc := 56) dX7_asks_56 rfl ?_
          refine r_iadd (pc := 58) dX7_asks_58 ?_
          refine r_ireturn (pc := 59) rfl rfl dX7_asks_59 (Nat.le_of_ble_eq_true rfl) (Nat.le_of_ble_eq_true rfl) ?_
          exact hQ
      refine r_iconst (pc := 13) dX7_asks_13 ?_
      refine r_istore4 (pc := 14) (Nat.le_of_ble_eq_true rfl) dX7_asks_14 rfl ?_
      by_cases c : q = p
      · subst c
        refine r_iload (pc := 16) dX7_asks_16 rfl ?_
        refine r_bipush (pc := 18) dX7_asks_18 (by decide +kernel) ?_
        refine r_icmp_ge (pc := 20) 66 dX7_asks_20 rfl (by omega) (by omega) (fun h20 => ?_) (fun h20 => ?_)
        · omega
        refine r_iload_n (pc := 23) dX7_asks_23 rfl rfl ?_
        refine r_iload_n (pc := 24) dX7_asks_24 rfl rfl ?_
        refine r_icmp_eq (pc := 25) 66 dX7_asks_25 rfl (by omega) (by omega) (fun h25 => ?_) (fun h25 => ?_)
        · exact nxt _ (by rw [← hK]; exact kn1_same 13 0)
        exact absurd rfl h25
      exact inner 13 0 (by omega) (by omega) c hK
  exact loop (σ 1).toNat 0 _ (by omega) (by omega) rfl
theorem C_bent2 (hs : shG G P T g t) (hr : GR I g t σ μ) {p : Int} (h : HN σ p) (hQ : Q (some (iv (f_bent0 σ p 2))) I J P T z) : MC G yX8_asks (ws_ yX8_asks cX8_asks 6 (some FieldType.int)) (d + 5) 0 0 [.ref b, .ref g, iv p] I J P T z Q nX := by
  obtain ⟨h1, hp, hz, hx, hdr⟩ := id h
  have hb := hs.b
  refine MC.of (by decide) (Nat.le_of_ble_eq_true rfl) ?_
  show PW G mX8_asks (rmD (d + 5) 0 0) (MZ G Q nX 0 0) 0 0 I J P T z 0 [some (.ref b), some (.ref g), some (iv p), none, none, none] []
  unfold f_bent0 at hQ
  simp only at hQ
  rw [if_neg (by omega), if_pos trivial, ← most_eq h] at hQ
  generalize hK : f_most σ p 0 1 12 = K at hQ
  -- whom
  have loop2 : ∀ (n : Nat) (q who m : Int), 0 ≤ q → q + n = σ 1 → (who = -1 ∨ 0 ≤ who ∧ who < q) → (0 ≤ m ∧ m < 13) → Q (some (iv (100 * f_who σ p who q n + m))) I J P T z → PW G mX8_asks (rmD (d + 5) 0 0) (MZ G Q nX 0 0) 0 0 I J P T z 47 [some (.ref b), some (.ref g), some (iv p), some (iv m), some (iv who), some (iv q)] [] := by
    intro n
    induction n with
    | zero =>
      intro q who m h0 hn hw hm hQ
      refine r_iload (pc := 47) dX8_asks_47 rfl ?_
      refine r_aload_n (pc := 49) dX8_asks_49 rfl rfl ?_
      refine r_getrN (pc := 50) (c := 3) (k := 0) (kz := 0) hs.o cok_3 (Nat.le_of_ble_eq_true rfl) q263 ⟨rfl, rfl⟩ (Or.inl rfl) rfl (fun _ _ _ => rfl) hs.p_t dX8_asks_50 ?_
      refine r_callV0 (pc := 53) (C_many hs.tb fe_i) im_X2_many q369 q1449 hs.tb.o rfl dX8_asks_53 (Nat.le_of_ble_eq_true rfl) (Nat.le_of_ble_eq_true rfl) rfl (k_fi ?_) (fun _ _ _ _ _ _ _ hx => no_x hx)
      rw [hr.ta.2.1]
      refine r_icmp_ge (pc := 56) 96 dX8_asks_56 rfl (by omega) (by omega) (fun h56 => ?_) (fun h56 => ?_)
      · refine r_bipush (pc := 96) dX8_asks_96 (by decide +kernel) ?_
        refine r_iload (pc := 98) dX8_asks_98 rfl ?_
        refine r_imul (pc := 100) dX8_asks_100 ?_
        refine r_iload_n (pc := 101) dX8_asks_101 rfl rfl ?_
        refine r_iadd (pc := 102) dX8_asks_102 ?_
        refine r_ireturn (pc := 103) rfl rfl dX8_asks_103 (Nat.le_of_ble_eq_true rfl) (Nat.le_of_ble_eq_true rfl) ?_
        exact hQ
      omega
    | succ n ih =>
      intro q who m h0 hn hw hm hQ
      simp only [f_who] at hQ
      refine r_iload (pc := 47) dX8_asks_47 rfl ?_
      refine r_aload_n (pc := 49) dX8_asks_49 rfl rfl ?_
      refine r_getrN (pc := 50) (c := 3) (k := 0) (kz := 0) hs.o cok_3 (Nat.le_of_ble_eq_true rfl) q263 ⟨rfl, rfl⟩ (Or.inl rfl) rfl (fun _ _ _ => rfl) hs.p_t dX8_asks_50 ?_
      refine r_callV0 (pc := 53) (C_many hs.tb fe_i) im_X2_many q369 q1449 hs.tb.o rfl dX8_asks_53 (Nat.le_of_ble_eq_true rfl) (Nat.le_of_ble_eq_true rfl) rfl (k_fi ?_) (fun _ _ _ _ _ _ _ hx => no_x hx)
      rw [hr.ta.2.1]
      refine r_icmp_ge (pc := 56) 96 dX8_asks_56 rfl (by omega) (by omega) (fun h56 => ?_) (fun h56 => ?_)
      · omega
      refine r_iload (pc := 59) dX8_asks_59 rfl ?_
      refine r_iload_n (pc := 61) dX8_asks_61 rfl rfl ?_
      refine r_icmp_eq (pc := 62) 90 dX8_asks_62 rfl (by omega) (by omega) (fun h62 => ?_) (fun h62 => ?_)
      · rw [if_neg (fun w => w.1 h62)] at hQ
        refine r_iinc5 (pc := 90) (Nat.le_of_ble_eq_true rfl) dX8_asks_90 rfl ?_
        refine r_goto (pc := 93) 47 dX8_asks_93 rfl ?_
        exact ih (q + 1) who m (by omega) (by omega) (by omega) hm hQ
      refine r_iload (pc := 65) dX8_asks_65 rfl ?_
      refine r_iconst (pc := 67) dX8_asks_67 ?_
      refine r_icmp_eq (pc := 68) 86 dX8_asks_68 rfl (by omega) (by omega) (fun h68 => ?_) (fun h68 => ?_)
      · rw [if_pos ⟨h62, by omega⟩] at hQ
        refine r_iload (pc := 86) dX8_asks_86 rfl ?_
        refine r_istore4 (pc := 88) (Nat.le_of_ble_eq_true rfl) dX8_asks_88 rfl ?_
        refine r_iinc5 (pc := 90) (Nat.le_of_ble_eq_true rfl) dX8_asks_90 rfl ?_
        refine r_goto (pc := 93) 47 dX8_asks_93 rfl ?_
        exact ih (q + 1) q m (by omega) (by omega) (by omega) hm hQ
      refine r_aload_n (pc := 71) dX8_asks_71 rfl rfl ?_
      refine r_iload (pc := 72) dX8_asks_72 rfl ?_
      refine r_callV1 (pc := 74) (C_size hs hr (by omega) fe_i) im_X3_size q383 q1450 hs.o rfl dX8_asks_74 (Nat.le_of_ble_eq_true rfl) (Nat.le_of_ble_eq_true rfl) rfl (k_fi ?_) (fun _ _ _ _ _ _ _ hx => no_x hx)
      refine r_aload_n (pc := 77) dX8_asks_77 rfl rfl ?_
      refine r_iload (pc := 78) dX8_asks_78 rfl ?_
      refine r_callV1 (pc := 80) (C_size hs hr (by omega) fe_i) im_X3_size q383 q1450 hs.o rfl dX8_asks_80 (Nat.le_of_ble_eq_true rfl) (Nat.le_of_ble_eq_true rfl) rfl (k_fi ?_) (fun _ _ _ _ _ _ _ hx => no_x hx)
      refine r_icmp_le (pc := 83) 90 dX8_asks_83 rfl f_cards_r f_cards_r (fun h83 => ?_) (fun h83 => ?_)
      · rw [if_neg (by omega)] at hQ
        refine r_iinc5 (pc := 90) (Nat.le_of_ble_eq_true rfl) dX8_asks_90 rfl ?_
        refine r_goto (pc := 93) 47 dX8_asks_93 rfl ?_
        exact ih (q + 1) who m (by omega) (by omega) (by omega) hm hQ
      rw [if_pos ⟨h62, Or.inr h83⟩] at hQ
      refine r_iload (pc := 86) dX8_asks_86 rfl ?_
      refine r_istore4 (pc := 88) (Nat.le_of_ble_eq_true rfl) dX8_asks_88 rfl ?_
      refine r_iinc5 (pc := 90) (Nat.le_of_ble_eq_true rfl) dX8_asks_90 rfl ?_
      refine r_goto (pc := 93) 47 dX8_asks_93 rfl ?_
      exact ih (q + 1) q m (by omega) (by omega) (by omega) hm hQ
  have loop1 : ∀ (n : Nat) (m k : Int), 0 ≤ m → m < 13 → 0 ≤ k → k + n = 13 → f_most σ p m k n = K → PW G mX8_asks (rmD (d + 5) 0 0) (MZ G Q nX 0 0) 0 0 I J P T z 5 [some (.ref b), some (.ref g), some (iv p), some (iv m), some (iv k), none] [] := by
    intro n
    induction n with
    | zero =>
      intro m k m0 m1 h0 hn he
      have he : m = K := he
      rw [← he] at hQ
      refine r_iload (pc := 5) dX8_asks_5 rfl ?_
      refine r_bipush (pc := 7) dX8_asks_7 (by decide +kernel) ?_
      refine r_icmp_ge (pc := 9) 41 dX8_asks_9 rfl (by omega) (by omega) (fun h9 => ?_) (fun h9 => ?_)
      · refine r_iconst (pc := 41) dX8_asks_41 ?_
        refine r_istore4 (pc := 42) (Nat.le_of_ble_eq_true rfl) dX8_asks_42 rfl ?_
        refine r_iconst (pc := 44) dX8_asks_44 ?_
        refine r_istore5 (pc := 45) (Nat.le_of_ble_eq_true rfl) dX8_asks_45 rfl ?_
        exact loop2 (σ 1).toNat 0 (-1) m (by omega) (by omega) (Or.inl rfl) ⟨m0, m1⟩ hQ
      omega
    | succ n ih =>
      intro m k m0 m1 h0 hn he
      simp only [f_most] at he
      refine r_iload (pc := 5) dX8_asks_5 rfl ?_
      refine r_bipush (pc := 7) dX8_asks_7 (by decide +kernel) ?_
      refine r_icmp_ge (pc := 9) 41 dX8_asks_9 rfl (by omega) (by omega) (fun h9 => ?_) (fun h9 => ?_)
      · omega
      refine r_aload_n (pc := 12) dX8_asks_12 rfl rfl ?_
      refine r_getrN (pc := 13) (c := 3) (k := 1) (kz := 1) hs.o cok_3 (Nat.le_of_ble_eq_true rfl) q266 ⟨rfl, rfl⟩ (Or.inl rfl) rfl (fun _ _ _ => rfl) hs.p_hand dX8_asks_13 ?_
      refine r_iload_n (pc := 16) dX8_asks_16 rfl rfl ?_
      refine r_aald (pc := 17) hs.t_hand ⟨by decide, by decide⟩ rfl (fun _ _ _ => rfl) (by omega) (by omega) (hs.q_hand (by omega) (by omega)) dX8_asks_17 ?_
      refine r_iload (pc := 18) dX8_asks_18 rfl ?_
      refine r_iald (pc := 20) (hs.u_hand (by omega) (by omega)) (by omega) (by omega) dX8_asks_20 (fun hr20 => ?_)
      rw [hr.hand (by omega) (by omega) (by omega) (by omega)] at hr20 ⊢
      refine r_aload_n (pc := 21) dX8_asks_21 rfl rfl ?_
      refine r_getrN (pc := 22) (c := 3) (k := 1) (kz := 1) hs.o cok_3 (Nat.le_of_ble_eq_true rfl) q266 ⟨rfl, rfl⟩ (Or.inl rfl) rfl (fun _ _ _ => rfl) hs.p_hand dX8_asks_22 ?_
      refine r_iload_n (pc := 25) dX8_asks_25 rfl rfl ?_
      refine r_aald (pc := 26) hs.t_hand ⟨by decide, by decide⟩ rfl (fun _ _ _ => rfl) (by omega) (by omega) (hs.q_hand (by omega) (by omega)) dX8_asks_26 ?_
      refine r_iload_n (pc := 27) dX8_asks_27 rfl rfl ?_
      refine r_iald (pc := 28) (hs.u_hand (by omega) (by omega)) (by omega) (by omega) dX8_asks_28 (fun hr28 => ?_)
      rw [hr.hand (by omega) (by omega) (by omega) (by omega)] at hr28 ⊢
      refine r_icmp_le (pc := 29) 35 dX8_asks_29 rfl (by omega) (by omega) (fun h29 => ?_) (fun h29 => ?_)
      · rw [if_neg (by omega)] at he
        refine r_iinc4 (pc := 35) (Nat.le_of_ble_eq_true rfl) dX8_asks_35 rfl ?_
        refine r_goto (pc := 38) 5 dX8_asks_38 rfl ?_
        exact ih m (k + 1) m0 m1 (by omega) (by omega) he
      rw [if_pos h29] at he
      refine r_iload (pc := 32) dX8_asks_32 rfl ?_
      refine r_istore_n3 (pc := 34) (Nat.le_of_ble_eq_true rfl) dX8_asks_34 rfl ?_
      refine r_iinc4 (pc := 35) (Nat.le_of_ble_eq_true rfl) dX8_asks_35 rfl ?_
      refine r_goto (pc := 38) 5 dX8_asks_38 rfl ?_
      exact ih k (k + 1) (by omega) (by omega) (by omega) (by omega) he
  refine r_iconst (pc := 0) dX8_asks_0 ?_
  refine r_istore_n3 (pc := 1) (Nat.le_of_ble_eq_true rfl) dX8_asks_1 rfl ?_
  refine r_iconst (pc := 2) dX8_asks_2 ?_
  refine r_istore4 (pc := 3) (Nat.le_of_ble_eq_true rfl) dX8_asks_3 rfl ?_
  exact loop1 12 0 1 (by omega) (by omega) (by omega) (by omega) hK
theorem C_bent3 (hs : shG G P T g t) (hr : GR I g t σ μ) {p : Int} (h : HN σ p) (hQ : Q (some (iv (f_bent0 σ p 3))) I J P T z) : MC G yX9_asks (ws_ yX9_asks cX9_asks 4 (some FieldType.int)) (d + 5) 0 0 [.ref b, .ref g, iv p] I J P T z Q nX := by
  obtain ⟨h1, hp, hz, hx, hdr⟩ := id h
  have hb := hs.b
  refine MC.of (by decide) (Nat.le_of_ble_eq_true rfl) ?_
  show PW G mX9_asks (rmD (d + 5) 0 0) (MZ G Q nX 0 0) 0 0 I J P T z 0 [some (.ref b), some (.ref g), some (iv p), none] []
  unfold f_bent0 at hQ
  simp only at hQ
  rw [if_neg (by omega), if_neg (by omega)] at hQ
  refine r_aload_n (pc := 0) dX9_asks_0 rfl rfl ?_
  refine r_getrN (pc := 1) (c := 3) (k := 8) (kz := 8) hs.o cok_3 (Nat.le_of_ble_eq_true rfl) q289 ⟨rfl, rfl⟩ (Or.inl rfl) rfl (fun _ _ _ => rfl) hs.p_drew dX9_asks_1 ?_
  refine r_iload_n (pc := 4) dX9_asks_4 rfl rfl ?_
  refine r_iald (pc := 5) hs.t_drew (by omega) (by omega) dX9_asks_5 (fun hr5 => ?_)
  rw [hr.drew (by omega) (by omega)] at hr5 ⊢
  refine r_istore_n3 (pc := 6) (Nat.le_of_ble_eq_true rfl) dX9_asks_6 rfl ?_
  refine r_iload_n (pc := 7) dX9_asks_7 rfl rfl ?_
  refine r_iconst (pc := 8) dX9_asks_8 ?_
  refine r_icmp_eq (pc := 9) 32 dX9_asks_9 rfl (by omega) (by omega) (fun h9 => ?_) (fun h9 => ?_)
  · rw [if_neg (by omega)] at hQ
    refine r_aload_n (pc := 32) dX9_asks_32 rfl rfl ?_
    refine r_iload_n (pc := 33) dX9_asks_33 rfl rfl ?_
    refine r_callSI2 (pc := 34) (C_least hs hr h fe_i) im_X5_least rfl q1440 q1439 dX9_asks_34 (Nat.le_of_ble_eq_true rfl) (Nat.le_of_ble_eq_true rfl) rfl (k_fi ?_) (fun _ _ _ _ _ _ _ hx => no_x hx)
    refine r_ireturn (pc := 37) rfl rfl dX9_asks_37 (Nat.le_of_ble_eq_true rfl) (Nat.le_of_ble_eq_true rfl) ?_
    exact hQ
  refine r_aload_n (pc := 12) dX9_asks_12 rfl rfl ?_
  refine r_getrN (pc := 13) (c := 3) (k := 1) (kz := 1) hs.o cok_3 (Nat.le_of_ble_eq_true rfl) q265 ⟨rfl, rfl⟩ (Or.inl rfl) rfl (fun _ _ _ => rfl) hs.p_hand dX9_asks_13 ?_
  refine r_iload_n (pc := 16) dX9_asks_16 rfl rfl ?_
  refine r_aald (pc := 17) hs.t_hand ⟨by decide, by decide⟩ rfl (fun _ _ _ => rfl) (by omega) (by omega) (hs.q_hand (by omega) (by omega)) dX9_asks_17 ?_
  refine r_iload_n (pc := 18) dX9_asks_18 rfl rfl ?_
  refine r_iald (pc := 19) (hs.u_hand (by omega) (by omega)) (by omega) (by omega) dX9_asks_19 (fun hr19 => ?_)
  rw [hr.hand (by omega) (by omega) (by omega) (by omega)] at hr19 ⊢
  refine r_if_le (pc := 20) 32 dX9_asks_20 rfl (by omega) (fun h20 => ?_) (fun h20 => ?_)
  · rw [if_neg (by omega)] at hQ
    refine r_aload_n (pc := 32) dX9_asks_32 rfl rfl ?_
    refine r_iload_n (pc := 33) dX9_asks_33 rfl rfl ?_
    refine r_callSI2 (pc := 34) (C_least hs hr h fe_i) im_X5_least rfl q1440 q1439 dX9_asks_34 (Nat.le_of_ble_eq_true rfl) (Nat.le_of_ble_eq_true rfl) rfl (k_fi ?_) (fun _ _ _ _ _ _ _ hx => no_x hx)
    refine r_ireturn (pc := 37) rfl rfl dX9_asks_37 (Nat.le_of_ble_eq_true rfl) (Nat.le_of_ble_eq_true rfl) ?_
    exact hQ
  rw [if_pos ⟨trivial, by omega, h20⟩] at hQ
  refine r_aload_n (pc := 23) dX9_asks_23 rfl rfl ?_
  refine r_iload_n (pc := 24) dX9_asks_24 rfl rfl ?_
  refine r_iload_n (pc := 25) dX9_asks_25 rfl rfl ?_
  refine r_callSI3 (pc := 26) (C_askb hs hr h1 hp (by omega) fe_i) im_X5_ask rfl q1438 q1437 dX9_asks_26 (Nat.le_of_ble_eq_true rfl) (Nat.le_of_ble_eq_true rfl) rfl (k_fi ?_) (fun _ _ _ _ _ _ _ hx => no_x hx)
  refine r_goto (pc := 29) 37 dX9_asks_29 rfl ?_
  refine r_ireturn (pc := 37) rfl rfl dX9_asks_37 (Nat.le_of_ble_eq_true rfl) (Nat.le_of_ble_eq_true rfl) ?_
  exact hQ
end K10
