/-! ===== texts: strings, builders, lists of names ===== -/
/-- a row of bytes holds the text L -/
def SA (I : HI) (T : HT) (b : Nat) (L : List Int) : Prop := T b = (2, (L.length : Int)) ∧ ∀ j : Int, 0 ≤ j → j < L.length → I b j = L.getD j.toNat 0
/-- the String at w is the text L -/
def ST (I : HI) (P : HP) (T : HT) (w : Nat) (L : List Int) : Prop := T w = (57, 0) ∧ I w 1 = 0 ∧ ∃ b, P w 0 = some b ∧ SA I T b L
theorem sh0 {x : Int} : x / (((2 ^ (0 : Int).toNat : Nat)) : Int) = x := by simp
theorem sl0 {x : Int} : x * (((2 ^ (0 : Int).toNat : Nat)) : Int) = x := by simp
theorem getD_ext {L M : List Int} (h : L.length = M.length) (e : ∀ j : Int, 0 ≤ j → j < L.length → L.getD j.toNat 0 = M.getD j.toNat 0) : L = M := by
  apply List.ext_getElem h
  intro i h1 h2
  have := e i (by omega) (by omega)
  rw [Int.toNat_natCast, List.getD_eq_getElem?_getD, List.getD_eq_getElem?_getD, List.getElem?_eq_getElem h1, List.getElem?_eq_getElem h2] at this
  exact this
theorem SA.uniq {I : HI} {T : HT} {b : Nat} {L M : List Int} (h : SA I T b L) (k : SA I T b M) : L = M := by
  have e := congrArg Prod.snd (h.1.symm.trans k.1)
  dsimp only at e
  refine getD_ext (by omega) (fun j h0 h1 => ?_)
  rw [← h.2 j h0 h1, ← k.2 j h0 (by omega)]
theorem ST.uniq {I : HI} {P : HP} {T : HT} {w : Nat} {L M : List Int} (h : ST I P T w L) (k : ST I P T w M) : L = M := by
  obtain ⟨-, -, b, hp, hb⟩ := h
  obtain ⟨-, -, b2, hp2, hb2⟩ := k
  obtain rfl : b = b2 := Option.some.inj (hp.symm.trans hp2)
  exact hb.uniq hb2
section P2
variable {G : GE} {I J : HI} {P : HP} {T : HT} {z w d : Nat} {Q : QT} {L L2 : List Int}
theorem C_coder (hT : T w = (57, 0)) (h0 : I w 1 = 0) (hQ : Q (some (iv 0)) I J P T z) : MC G yJ7_coder (ws_ yJ7_coder cJ7_coder 1 (some FieldType.byte)) (d) 0 0 [.ref w] I J P T z Q nX := by
  refine MC.of (by decide) (Nat.le_of_ble_eq_true rfl) ?_
  show PW G mJ7_coder (rmD (d) 0 0) (MZ G Q nX 0 0) 0 0 I J P T z 0 [some (.ref w)] []
  refine r_getsC (pc := 0) q838 rfl dJ7_coder_0 ?_
  refine r_if_eq (pc := 3) 13 dJ7_coder_3 rfl (by omega) (fun h3 => ?_) (fun h3 => ?_)
  · omega
  refine r_aload_n (pc := 6) dJ7_coder_6 rfl rfl ?_
  refine r_geti (pc := 7) (c := 37) (k := 1) (kz := 1) hT cok_37 (Nat.le_of_ble_eq_true rfl) q853 ⟨rfl, rfl⟩ (Or.inl rfl) rfl (fun _ _ _ => rfl) dJ7_coder_7 (fun hr7 => ?_)
  rw [h0] at hr7 ⊢
  refine r_goto (pc := 10) 14 dJ7_coder_10 rfl ?_
  refine r_ireturn (pc := 14) rfl (by decide +kernel) dJ7_coder_14 (Nat.le_of_ble_eq_true rfl) (Nat.le_of_ble_eq_true rfl) ?_
  exact hQ
theorem C_isLatin1 (hT : T w = (57, 0)) (h0 : I w 1 = 0) (hQ : Q (some (iv 1)) I J P T z) : MC G yJ7_isLatin1 (ws_ yJ7_isLatin1 cJ7_isLatin1 1 (some FieldType.boolean)) (d) 0 0 [.ref w] I J P T z Q nX := by
  refine MC.of (by decide) (Nat.le_of_ble_eq_true rfl) ?_
  show PW G mJ7_isLatin1 (rmD (d) 0 0) (MZ G Q nX 0 0) 0 0 I J P T z 0 [some (.ref w)] []
  refine r_getsC (pc := 0) q838 rfl dJ7_isLatin1_0 ?_
  refine r_if_eq (pc := 3) 17 dJ7_isLatin1_3 rfl (by omega) (fun h3 => ?_) (fun h3 => ?_)
  · omega
  refine r_aload_n (pc := 6) dJ7_isLatin1_6 rfl rfl ?_
  refine r_geti (pc := 7) (c := 37) (k := 1) (kz := 1) hT cok_37 (Nat.le_of_ble_eq_true rfl) q853 ⟨rfl, rfl⟩ (Or.inl rfl) rfl (fun _ _ _ => rfl) dJ7_isLatin1_7 (fun hr7 => ?_)
  rw [h0] at hr7 ⊢
  refine r_if_ne (pc := 10) 17 dJ7_isLatin1_10 rfl (by omega) (fun h10 => ?_) (fun h10 => ?_)
  · omega
  refine r_iconst (pc := 13) dJ7_isLatin1_13 ?_
  refine r_goto (pc := 14) 18 dJ7_isLatin1_14 rfl ?_
  refine r_ireturn (pc := 18) rfl (by decide +kernel) dJ7_isLatin1_18 (Nat.le_of_ble_eq_true rfl) (Nat.le_of_ble_eq_true rfl) ?_
  exact hQ
theorem C_slen (h : ST I P T w L) (hQ : Q (some (iv L.length)) I J P T z) : MC G yJ7_length (ws_ yJ7_length cJ7_length 1 (some FieldType.int)) (d + 1) 0 0 [.ref w] I J P T z Q nX := by
  obtain ⟨hT, h0, b, hp, hb⟩ := h
  refine MC.of (by decide) (Nat.le_of_ble_eq_true rfl) ?_
  show PW G mJ7_length (rmD (d + 1) 0 0) (MZ G Q nX 0 0) 0 0 I J P T z 0 [some (.ref w)] []
  refine r_aload_n (pc := 0) dJ7_length_0 rfl rfl ?_
  refine r_getr (pc := 1) (c := 37) (k := 0) (kz := 0) hT cok_37 (Nat.le_of_ble_eq_true rfl) q852 ⟨rfl, rfl⟩ (Or.inl rfl) rfl (fun _ _ _ => rfl) hp dJ7_length_1 ?_
  refine r_alen (pc := 4) hb.1 ⟨by decide, by decide⟩ dJ7_length_4 (fun hn4 hm4 => ?_)
  refine r_aload_n (pc := 5) dJ7_length_5 rfl rfl ?_
  refine r_callV0 (pc := 6) (C_coder hT h0 fe_i) im_J7_coder q1023 q1021 hT rfl dJ7_length_6 (Nat.le_of_ble_eq_true rfl) (Nat.le_of_ble_eq_true rfl) rfl (k_fi ?_) (fun _ _ _ _ _ _ _ hx => no_x hx)
  refine r_ishr (pc := 9) dJ7_length_9 (by omega) (by omega) ?_
  rw [sh0]
  refine r_ireturn (pc := 10) rfl rfl dJ7_length_10 (Nat.le_of_ble_eq_true rfl) (Nat.le_of_ble_eq_true rfl) ?_
  exact hQ
theorem C_equalsB {a b : Nat} (ha : SA I T a L) (hb : SA I T b L2) (hQ : Q (some (iv (bz (L = L2)))) I J P T z) : MC G yJ10_equals (ws_ yJ10_equals cJ10_equals 3 (some FieldType.boolean)) (d) 0 0 [.ref a, .ref b] I J P T z Q nX := by
  refine MC.of (by decide) (Nat.le_of_ble_eq_true rfl) ?_
  show PW G mJ10_equals (rmD (d) 0 0) (MZ G Q nX 0 0) 0 0 I J P T z 0 [some (.ref a), some (.ref b), none] []
  refine r_aload_n (pc := 0) dJ10_equals_0 rfl rfl ?_
  refine r_alen (pc := 1) ha.1 ⟨by decide, by decide⟩ dJ10_equals_1 (fun hn1 hm1 => ?_)
  refine r_aload_n (pc := 2) dJ10_equals_2 rfl rfl ?_
  refine r_alen (pc := 3) hb.1 ⟨by decide, by decide⟩ dJ10_equals_3 (fun hn3 hm3 => ?_)
  refine r_icmp_ne (pc := 4) 34 dJ10_equals_4 rfl (by omega) (by omega) (fun h4 => ?_) (fun h4 => ?_)
  · refine r_iconst (pc := 34) dJ10_equals_34 ?_
    refine r_ireturn (pc := 35) rfl (by decide +kernel) dJ10_equals_35 (Nat.le_of_ble_eq_true rfl) (Nat.le_of_ble_eq_true rfl) ?_
    rw [bz_f (fun e => h4 (by rw [e]))] at hQ
    exact hQ
  refine r_iconst (pc := 7) dJ10_equals_7 ?_
  refine r_istore_n2 (pc := 8) (Nat.le_of_ble_eq_true rfl) dJ10_equals_8 rfl ?_
  have loop : ∀ (n : Nat) (j : Int), 0 ≤ j → j + n = L.length → (∀ i : Int, 0 ≤ i → i < j → L.getD i.toNat 0 = L2.getD i.toNat 0) → PW G mJ10_equals (rmD (d) 0 0) (MZ G Q nX 0 0) 0 0 I J P T z 9 [some (.ref a), some (.ref b), some (iv j)] [] := by
    intro n
    induction n with
    | zero =>
      intro j j0 jn hj
      refine r_iload_n (pc := 9) dJ10_equals_9 rfl rfl ?_
      refine r_aload_n (pc := 10) dJ10_equals_10 rfl rfl ?_
      refine r_alen (pc := 11) ha.1 ⟨by decide, by decide⟩ dJ10_equals_11 (fun hn11 hm11 => ?_)
      refine r_icmp_ge (pc := 12) 32 dJ10_equals_12 rfl (by omega) (by omega) (fun h12 => ?_) (fun h12 => ?_)
      · refine r_iconst (pc := 32) dJ10_equals_32 ?_
        refine r_ireturn (pc := 33) rfl (by decide +kernel) dJ10_equals_33 (Nat.le_of_ble_eq_true rfl) (Nat.le_of_ble_eq_true rfl) ?_
        rw [bz_t (getD_ext (by omega) (fun i p q => hj i p (by omega)))] at hQ
        exact hQ
      omega
    | succ n ih =>
      intro j j0 jn hj
      refine r_iload_n (pc := 9) dJ10_equals_9 rfl rfl ?_
      refine r_aload_n (pc := 10) dJ10_equals_10 rfl rfl ?_
      refine r_alen (pc := 11) ha.1 ⟨by decide, by decide⟩ dJ10_equals_11 (fun hn11 hm11 => ?_)
      refine r_icmp_ge (pc := 12) 32 dJ10_equals_12 rfl (by omega) (by omega) (fun h12 => ?_) (fun h12 => ?_)
      · omega
      refine r_aload_n (pc := 15) dJ10_equals_15 rfl rfl ?_
      refine r_iload_n (pc := 16) dJ10_equals_16 rfl rfl ?_
      refine r_bald (pc := 17) ha.1 (by omega) (by omega) dJ10_equals_17 (fun hr17 => ?_)
      refine r_aload_n (pc := 18) dJ10_equals_18 rfl rfl ?_
      refine r_iload_n (pc := 19) dJ10_equals_19 rfl rfl ?_
      refine r_bald (pc := 20) hb.1 (by omega) (by omega) dJ10_equals_20 (fun hr20 => ?_)
      refine r_icmp_eq (pc := 21) 26 dJ10_equals_21 rfl (by omega) (by omega) (fun h21 => ?_) (fun h21 => ?_)
      · refine r_iinc2 (pc := 26) (Nat.le_of_ble_eq_true rfl) dJ10_equals_26 rfl ?_
        refine r_goto (pc := 29) 9 dJ10_equals_29 rfl ?_
        refine ih (j + 1) (by omega) (by omega) (fun i p q => ?_)
        by_cases e : i = j
        · subst e
          rw [← ha.2 i p (by omega), ← hb.2 i p (by omega)]; exact h21
        · exact hj i p (by omega)
      refine r_iconst (pc := 24) dJ10_equals_24 ?_
      refine r_ireturn (pc := 25) rfl (by decide +kernel) dJ10_equals_25 (Nat.le_of_ble_eq_true rfl) (Nat.le_of_ble_eq_true rfl) ?_
      rw [bz_f (fun e => h21 (by rw [ha.2 j j0 (by omega), hb.2 j j0 (by omega), e]))] at hQ
      exact hQ
  exact loop L.length 0 (by omega) (by omega) (fun i p q => by omega)
theorem C_equals {w2 : Nat} (h : ST I P T w L) (h2 : ST I P T w2 L2) (hQ : Q (some (iv (bz (L = L2)))) I J P T z) : MC G yJ7_equals (ws_ yJ7_equals cJ7_equals 3 (some FieldType.boolean)) (d + 1) 0 0 [.ref w, .ref w2] I J P T z Q nX := by
  have hu : w = w2 → L = L2 := fun e => by subst e; exact h.uniq h2
  obtain ⟨hT, h0, b, hp, hb⟩ := h
  obtain ⟨hT2, h02, b2, hp2, hb2⟩ := h2
  refine MC.of (by decide) (Nat.le_of_ble_eq_true rfl) ?_
  show PW G mJ7_equals (rmD (d + 1) 0 0) (MZ G Q nX 0 0) 0 0 I J P T z 0 [some (.ref w), some (.ref w2), none] []
  refine r_aload_n (pc := 0) dJ7_equals_0 rfl rfl ?_
  refine r_aload_n (pc := 1) dJ7_equals_1 rfl rfl ?_
  refine r_acmp_ne (pc := 2) 7 dJ7_equals_2 rfl (fun h2 => ?_) (fun h2 => ?_)
  · refine r_aload_n (pc := 7) dJ7_equals_7 rfl rfl ?_
    refine r_instS (pc := 8) (cb := 37) rfl q878 hT2 dJ7_equals_8 ?_
    refine r_if_eq (pc := 11) 54 dJ7_equals_11 rfl (by omega) (fun h11 => ?_) (fun h11 => ?_)
    · omega
    refine r_aload_n (pc := 14) dJ7_equals_14 rfl rfl ?_
    refine r_castS (pc := 15) (cb := 37) rfl q878 hT2 dJ7_equals_15 ?_
    refine r_astore_n2 (pc := 18) (Nat.le_of_ble_eq_true rfl) dJ7_equals_18 rfl ?_
    refine r_getsC (pc := 19) q838 rfl dJ7_equals_19 ?_
    refine r_if_eq (pc := 22) 36 dJ7_equals_22 rfl (by omega) (fun h22 => ?_) (fun h22 => ?_)
    · omega
    refine r_aload_n (pc := 25) dJ7_equals_25 rfl rfl ?_
    refine r_geti (pc := 26) (c := 37) (k := 1) (kz := 1) hT cok_37 (Nat.le_of_ble_eq_true rfl) q853 ⟨rfl, rfl⟩ (Or.inl rfl) rfl (fun _ _ _ => rfl) dJ7_equals_26 (fun hr26 => ?_)
    rw [h0] at hr26 ⊢
    refine r_aload_n (pc := 29) dJ7_equals_29 rfl rfl ?_
    refine r_geti (pc := 30) (c := 37) (k := 1) (kz := 1) hT2 cok_37 (Nat.le_of_ble_eq_true rfl) q853 ⟨rfl, rfl⟩ (Or.inl rfl) rfl (fun _ _ _ => rfl) dJ7_equals_30 (fun hr30 => ?_)
    rw [h02] at hr30 ⊢
    refine r_icmp_ne (pc := 33) 54 dJ7_equals_33 rfl (by omega) (by omega) (fun h33 => ?_) (fun h33 => ?_)
    · exact absurd rfl h33
    refine r_aload_n (pc := 36) dJ7_equals_36 rfl rfl ?_
    refine r_getr (pc := 37) (c := 37) (k := 0) (kz := 0) hT cok_37 (Nat.le_of_ble_eq_true rfl) q852 ⟨rfl, rfl⟩ (Or.inl rfl) rfl (fun _ _ _ => rfl) hp dJ7_equals_37 ?_
    refine r_aload_n (pc := 40) dJ7_equals_40 rfl rfl ?_
    refine r_getr (pc := 41) (c := 37) (k := 0) (kz := 0) hT2 cok_37 (Nat.le_of_ble_eq_true rfl) q852 ⟨rfl, rfl⟩ (Or.inl rfl) rfl (fun _ _ _ => rfl) hp2 dJ7_equals_41 ?_
    refine r_callS2 (pc := 44) (C_equalsB hb hb2 fe_i) im_J10_equals q879 dJ7_equals_44 (Nat.le_of_ble_eq_true rfl) (Nat.le_of_ble_eq_true rfl) rfl (k_fi ?_) (fun _ _ _ _ _ _ _ hx => no_x hx)
    have br := bz_r (p := L = L2)
    refine r_if_eq (pc := 47) 54 dJ7_equals_47 rfl (by omega) (fun h47 => ?_) (fun h47 => ?_)
    · refine r_iconst (pc := 54) dJ7_equals_54 ?_
      refine r_ireturn (pc := 55) rfl (by decide +kernel) dJ7_equals_55 (Nat.le_of_ble_eq_true rfl) (Nat.le_of_ble_eq_true rfl) ?_
      rw [h47] at hQ
      exact hQ
    refine r_iconst (pc := 50) dJ7_equals_50 ?_
    refine r_goto (pc := 51) 55 dJ7_equals_51 rfl ?_
    refine r_ireturn (pc := 55) rfl (by decide +kernel) dJ7_equals_55 (Nat.le_of_ble_eq_true rfl) (Nat.le_of_ble_eq_true rfl) ?_
    rw [show bz (L = L2) = 1 by omega] at hQ
    exact hQ
  refine r_iconst (pc := 5) dJ7_equals_5 ?_
  refine r_ireturn (pc := 6) rfl (by decide +kernel) dJ7_equals_6 (Nat.le_of_ble_eq_true rfl) (Nat.le_of_ble_eq_true rfl) ?_
  rw [bz_t (hu h2)] at hQ
  exact hQ
/-- the text L2 stands in L from i on -/
def occ (L L2 : List Int) (i : Int) : Prop := 0 ≤ i ∧ i + L2.length ≤ L.length ∧ ∀ j : Int, 0 ≤ j → j < L2.length → L.getD (i + j).toNat 0 = L2.getD j.toNat 0
theorem C_indexOfB {a b : Nat} (ha : SA I T a L) (hb : SA I T b L2) (h2 : 0 < L2.length) (h1 : L.length < 1000000) (hl : L2.length ≤ L.length) (hQ : ∀ r : Int, (-1 ≤ r ∧ r < 1000000) → (0 ≤ r ↔ ∃ i, occ L L2 i) → Q (some (iv r)) I J P T z) : MC G yJ10_indexOf_2 (ws_ yJ10_indexOf_2 cJ10_indexOf_2 11 (some FieldType.int)) (d) 0 0 [.ref a, iv L.length, .ref b, iv L2.length, iv 0] I J P T z Q nX := by
  refine MC.of (by decide) (Nat.le_of_ble_eq_true rfl) ?_
  show PW G mJ10_indexOf_2 (rmD (d) 0 0) (MZ G Q nX 0 0) 0 0 I J P T z 0 [some (.ref a), some (iv L.length), some (.ref b), some (iv L2.length), some (iv 0), none, none, none, none, none, none] []
  refine r_aload_n (pc := 0) dJ10_indexOf_2_0 rfl rfl ?_
  refine r_iconst (pc := 1) dJ10_indexOf_2_1 ?_
  refine r_bald (pc := 2) hb.1 (by omega) (by omega) dJ10_indexOf_2_2 (fun hr2 => ?_)
  refine r_istore5 (pc := 3) (Nat.le_of_ble_eq_true rfl) dJ10_indexOf_2_3 rfl ?_
  refine r_iload_n (pc := 5) dJ10_indexOf_2_5 rfl rfl ?_
  refine r_iload_n (pc := 6) dJ10_indexOf_2_6 rfl rfl ?_
  refine r_isub (pc := 7) dJ10_indexOf_2_7 ?_
  refine r_istore6 (pc := 8) (Nat.le_of_ble_eq_true rfl) dJ10_indexOf_2_8 rfl ?_
  refine r_iload (pc := 10) dJ10_indexOf_2_10 rfl ?_
  refine r_istore7 (pc := 12) (Nat.le_of_ble_eq_true rfl) dJ10_indexOf_2_12 rfl ?_
  have nof : ∀ i : Int, 0 ≤ i → I a i ≠ I b 0 → ¬ occ L L2 i := fun i p q o => q (by
    have e := o.2.2 0 (by omega) (by omega)
    rw [ha.2 i p (by have := o.2.1; omega), hb.2 0 (by omega) (by omega), ← e, Int.add_zero])
  have loop : ∀ (n : Nat) (i : Int) (l8 l9 l10 : Option Value), 0 ≤ i → i + n = (L.length : Int) - L2.length + 1 → (∀ k : Int, 0 ≤ k → k < i → ¬ occ L L2 k) → PW G mJ10_indexOf_2 (rmD (d) 0 0) (MZ G Q nX 0 0) 0 0 I J P T z 14 [some (.ref a), some (iv L.length), some (.ref b), some (iv L2.length), some (iv 0), some (iv (I b 0)), some (iv (L.length - L2.length)), some (iv i), l8, l9, l10] [] := by
    intro n
    induction n using Nat.strongRecOn with
    | ind n ih =>
      intro i l8 l9 l10 i0 hin hno
      have fin : (L.length : Int) - L2.length < i → PW G mJ10_indexOf_2 (rmD (d) 0 0) (MZ G Q nX 0 0) 0 0 I J P T z 119 [some (.ref a), some (iv L.length), some (.ref b), some (iv L2.length), some (iv 0), some (iv (I b 0)), some (iv (L.length - L2.length)), some (iv i), l8, l9, l10] [] := by
        intro hi
        refine r_iconst (pc := 119) dJ10_indexOf_2_119 ?_
        refine r_ireturn (pc := 120) rfl rfl dJ10_indexOf_2_120 (Nat.le_of_ble_eq_true rfl) (Nat.le_of_ble_eq_true rfl) ?_
        refine hQ (-1) (by omega) ⟨fun h => by omega, fun ⟨k, hk⟩ => ?_⟩
        exact absurd hk (hno k hk.1 (by have := hk.2.1; omega))
      refine r_iload (pc := 14) dJ10_indexOf_2_14 rfl ?_
      refine r_iload (pc := 16) dJ10_indexOf_2_16 rfl ?_
      refine r_icmp_gt (pc := 18) 119 dJ10_indexOf_2_18 rfl (by omega) (by omega) (fun h18 => ?_) (fun h18 => ?_)
      · exact fin h18
      have step : ∀ (i : Int) (l8 l9 l10 : Option Value), 0 ≤ i → i ≤ (L.length : Int) - L2.length → i + n ≥ (L.length : Int) - L2.length + 1 → (∀ k : Int, 0 ≤ k → k < i → ¬ occ L L2 k) → I a i = I b 0 → PW G mJ10_indexOf_2 (rmD (d) 0 0) (MZ G Q nX 0 0) 0 0 I J P T z 52 [some (.ref a), some (iv L.length), some (.ref b), some (iv L2.length), some (iv 0), some (iv (I b 0)), some (iv (L.length - L2.length)), some (iv i), l8, l9, l10] [] := by
        intro i l8 l9 l10 i0 i1 hin hno hab
        have next : ¬ occ L L2 i → ∀ l8 l9 l10 : Option Value, PW G mJ10_indexOf_2 (rmD (d) 0 0) (MZ G Q nX 0 0) 0 0 I J P T z 113 [some (.ref a), some (iv L.length), some (.ref b), some (iv L2.length), some (iv 0), some (iv (I b 0)), some (iv (L.length - L2.length)), some (iv i), l8, l9, l10] [] := by
          intro hnn l8 l9 l10
          refine r_iinc7 (pc := 113) (Nat.le_of_ble_eq_true rfl) dJ10_indexOf_2_113 rfl ?_
          refine r_goto (pc := 116) 14 dJ10_indexOf_2_116 rfl ?_
          refine ih ((L.length : Int) - L2.length + 1 - (i + 1)).toNat (by omega) (i + 1) l8 l9 l10 (by omega) (by omega) (fun k p q => ?_)
          by_cases e : k = i
          · subst e; exact hnn
          · exact hno k p (by omega)
        refine r_iload (pc := 52) dJ10_indexOf_2_52 rfl ?_
        refine r_iload (pc := 54) dJ10_indexOf_2_54 rfl ?_
        refine r_icmp_gt (pc := 56) 113 dJ10_indexOf_2_56 rfl (by omega) (by omega) (fun h56 => ?_) (fun h56 => ?_)
        · omega
        refine r_iload (pc := 59) dJ10_indexOf_2_59 rfl ?_
        refine r_iconst (pc := 61) dJ10_indexOf_2_61 ?_
        refine r_iadd (pc := 62) dJ10_indexOf_2_62 ?_
        refine r_istore8 (pc := 63) (Nat.le_of_ble_eq_true rfl) dJ10_indexOf_2_63 rfl ?_
        refine r_iload (pc := 65) dJ10_indexOf_2_65 rfl ?_
        refine r_iload_n (pc := 67) dJ10_indexOf_2_67 rfl rfl ?_
        refine r_iadd (pc := 68) dJ10_indexOf_2_68 ?_
        refine r_iconst (pc := 69) dJ10_indexOf_2_69 ?_
        refine r_isub (pc := 70) dJ10_indexOf_2_70 ?_
        refine r_istore9 (pc := 71) (Nat.le_of_ble_eq_true rfl) dJ10_indexOf_2_71 rfl ?_
        refine r_iconst (pc := 73) dJ10_indexOf_2_73 ?_
        refine r_istore10 (pc := 74) (Nat.le_of_ble_eq_true rfl) dJ10_indexOf_2_74 rfl ?_
        have inn : ∀ (m : Nat) (j : Int), 1 ≤ j → j + m = L2.length → (∀ k : Int, 0 ≤ k → k < j → L.getD (i + k).toNat 0 = L2.getD k.toNat 0) → PW G mJ10_indexOf_2 (rmD (d) 0 0) (MZ G Q nX 0 0) 0 0 I J P T z 76 [some (.ref a), some (iv L.length), some (.ref b), some (iv L2.length), some (iv 0), some (iv (I b 0)), some (iv (L.length - L2.length)), some (iv i), some (iv (i + j)), some (iv (i + 1 + L2.length - 1)), some (iv j)] [] := by
          intro m
          induction m with
          | zero =>
            intro j j1 jm hj
            refine r_iload (pc := 76) dJ10_indexOf_2_76 rfl ?_
            refine r_iload (pc := 78) dJ10_indexOf_2_78 rfl ?_
            refine r_icmp_ge (pc := 80) 103 dJ10_indexOf_2_80 rfl (by omega) (by omega) (fun h80 => ?_) (fun h80 => ?_)
            · refine r_iload (pc := 103) dJ10_indexOf_2_103 rfl ?_
              refine r_iload (pc := 105) dJ10_indexOf_2_105 rfl ?_
              refine r_icmp_ne (pc := 107) 113 dJ10_indexOf_2_107 rfl (by omega) (by omega) (fun h107 => ?_) (fun h107 => ?_)
              · omega
              refine r_iload (pc := 110) dJ10_indexOf_2_110 rfl ?_
              refine r_ireturn (pc := 112) rfl rfl dJ10_indexOf_2_112 (Nat.le_of_ble_eq_true rfl) (Nat.le_of_ble_eq_true rfl) ?_
              exact hQ i (by omega) ⟨fun _ => ⟨i, i0, by omega, fun k p q => hj k p (by omega)⟩, fun _ => i0⟩
            omega
          | succ m ihm =>
            intro j j1 jm hj
            refine r_iload (pc := 76) dJ10_indexOf_2_76 rfl ?_
            refine r_iload (pc := 78) dJ10_indexOf_2_78 rfl ?_
            refine r_icmp_ge (pc := 80) 103 dJ10_indexOf_2_80 rfl (by omega) (by omega) (fun h80 => ?_) (fun h80 => ?_)
            · omega
            refine r_aload_n (pc := 83) dJ10_indexOf_2_83 rfl rfl ?_
            refine r_iload (pc := 84) dJ10_indexOf_2_84 rfl ?_
            refine r_bald (pc := 86) ha.1 (by omega) (by omega) dJ10_indexOf_2_86 (fun hr86 => ?_)
            refine r_aload_n (pc := 87) dJ10_indexOf_2_87 rfl rfl ?_
            refine r_iload (pc := 88) dJ10_indexOf_2_88 rfl ?_
            refine r_bald (pc := 90) hb.1 (by omega) (by omega) dJ10_indexOf_2_90 (fun hr90 => ?_)
            refine r_icmp_ne (pc := 91) 103 dJ10_indexOf_2_91 rfl (by omega) (by omega) (fun h91 => ?_) (fun h91 => ?_)
            · refine r_iload (pc := 103) dJ10_indexOf_2_103 rfl ?_
              refine r_iload (pc := 105) dJ10_indexOf_2_105 rfl ?_
              refine r_icmp_ne (pc := 107) 113 dJ10_indexOf_2_107 rfl (by omega) (by omega) (fun h107 => ?_) (fun h107 => ?_)
              · refine next (fun o => h91 ?_) _ _ _
                have e := o.2.2 j (by omega) (by omega)
                rw [ha.2 (i + j) (by omega) (by omega), hb.2 j (by omega) (by omega), e]
              omega
            refine r_iinc8 (pc := 94) (Nat.le_of_ble_eq_true rfl) dJ10_indexOf_2_94 rfl ?_
            refine r_iinc10 (pc := 97) (Nat.le_of_ble_eq_true rfl) dJ10_indexOf_2_97 rfl ?_
            refine r_goto (pc := 100) 76 dJ10_indexOf_2_100 rfl ?_
            have e : (i + j) + 1 = i + (j + 1) := by omega
            rw [e]
            refine ihm (j + 1) (by omega) (by omega) (fun k p q => ?_)
            by_cases e2 : k = j
            · subst e2
              rw [← ha.2 (i + k) (by omega) (by omega), ← hb.2 k (by omega) (by omega)]
              exact h91
            · exact hj k p (by omega)
        refine inn (L2.length - 1) 1 (by omega) (by omega) (fun k p q => ?_)
        obtain rfl : k = 0 := by omega
        rw [Int.add_zero, ← ha.2 i i0 (by omega), ← hb.2 0 (by omega) (by omega)]
        exact hab
      refine r_aload_n (pc := 21) dJ10_indexOf_2_21 rfl rfl ?_
      refine r_iload (pc := 22) dJ10_indexOf_2_22 rfl ?_
      refine r_bald (pc := 24) ha.1 (by omega) (by omega) dJ10_indexOf_2_24 (fun hr24 => ?_)
      refine r_iload (pc := 25) dJ10_indexOf_2_25 rfl ?_
      refine r_icmp_eq (pc := 27) 52 dJ10_indexOf_2_27 rfl (by omega) (by omega) (fun h27 => ?_) (fun h27 => ?_)
      · exact step i l8 l9 l10 i0 h18 (by omega) hno h27
      have skip : ∀ (m : Nat) (i : Int) (l8 l9 l10 : Option Value), 0 ≤ i → i ≤ (L.length : Int) - L2.length → i + m = (L.length : Int) - L2.length + 1 → m ≤ n → (∀ k : Int, 0 ≤ k → k < i + 1 → ¬ occ L L2 k) → PW G mJ10_indexOf_2 (rmD (d) 0 0) (MZ G Q nX 0 0) 0 0 I J P T z 30 [some (.ref a), some (iv L.length), some (.ref b), some (iv L2.length), some (iv 0), some (iv (I b 0)), some (iv (L.length - L2.length)), some (iv i), l8, l9, l10] [] := by
        intro m
        induction m with
        | zero => intro i l8 l9 l10 a1 a2 a3 a4 a5; omega
        | succ m ihm =>
          intro i l8 l9 l10 i0 i1 im mn hno
          refine r_iinc7 (pc := 30) (Nat.le_of_ble_eq_true rfl) dJ10_indexOf_2_30 rfl ?_
          refine r_iload (pc := 33) dJ10_indexOf_2_33 rfl ?_
          refine r_iload (pc := 35) dJ10_indexOf_2_35 rfl ?_
          refine r_icmp_gt (pc := 37) 52 dJ10_indexOf_2_37 rfl (by omega) (by omega) (fun h37 => ?_) (fun h37 => ?_)
          · refine r_iload (pc := 52) dJ10_indexOf_2_52 rfl ?_
            refine r_iload (pc := 54) dJ10_indexOf_2_54 rfl ?_
            refine r_icmp_gt (pc := 56) 113 dJ10_indexOf_2_56 rfl (by omega) (by omega) (fun h56 => ?_) (fun h56 => ?_)
            · refine r_iinc7 (pc := 113) (Nat.le_of_ble_eq_true rfl) dJ10_indexOf_2_113 rfl ?_
              refine r_goto (pc := 116) 14 dJ10_indexOf_2_116 rfl ?_
              refine r_iload (pc := 14) dJ10_indexOf_2_14 rfl ?_
              refine r_iload (pc := 16) dJ10_indexOf_2_16 rfl ?_
              refine r_icmp_gt (pc := 18) 119 dJ10_indexOf_2_18 rfl (by omega) (by omega) (fun h18 => ?_) (fun h18 => ?_)
              · refine r_iconst (pc := 119) dJ10_indexOf_2_119 ?_
                refine r_ireturn (pc := 120) rfl rfl dJ10_indexOf_2_120 (Nat.le_of_ble_eq_true rfl) (Nat.le_of_ble_eq_true rfl) ?_
                refine hQ (-1) (by omega) ⟨fun h => by omega, fun ⟨k, hk⟩ => ?_⟩
                exact absurd hk (hno k hk.1 (by have := hk.2.1; omega))
              omega
            omega
          refine r_aload_n (pc := 40) dJ10_indexOf_2_40 rfl rfl ?_
          refine r_iload (pc := 41) dJ10_indexOf_2_41 rfl ?_
          refine r_bald (pc := 43) ha.1 (by omega) (by omega) dJ10_indexOf_2_43 (fun hr43 => ?_)
          refine r_iload (pc := 44) dJ10_indexOf_2_44 rfl ?_
          refine r_icmp_eq (pc := 46) 52 dJ10_indexOf_2_46 rfl (by omega) (by omega) (fun h46 => ?_) (fun h46 => ?_)
          · refine step (i + 1) l8 l9 l10 (by omega) (by omega) (by omega) (fun k p q => hno k p (by omega)) h46
          refine r_goto (pc := 49) 30 dJ10_indexOf_2_49 rfl ?_
          refine ihm (i + 1) l8 l9 l10 (by omega) (by omega) (by omega) (by omega) (fun k p q => ?_)
          by_cases e : k = i + 1
          · subst e; exact nof _ p h46
          · exact hno k p (by omega)
      refine skip n i l8 l9 l10 i0 h18 (by omega) (Nat.le_refl _) (fun k p q => ?_)
      by_cases e : k = i
      · subst e; exact nof _ p h27
      · exact hno k p (by omega)
  exact loop (L.length - L2.length + 1) 0 none none none (by omega) (by omega) (fun k p q => by omega)
theorem C_indexOfA {a b : Nat} (ha : SA I T a L) (hb : SA I T b L2) (hl2 : 0 < L2.length) (h1 : L.length < 1000000) (hl : L2.length ≤ L.length) (hQ : ∀ r : Int, (-1 ≤ r ∧ r < 1000000) → (0 ≤ r ↔ ∃ i, occ L L2 i) → Q (some (iv r)) I J P T z) : MC G yJ10_indexOf (ws_ yJ10_indexOf cJ10_indexOf 2 (some FieldType.int)) (d + 1) 0 0 [.ref a, .ref b] I J P T z Q nX := by
  refine MC.of (by decide) (Nat.le_of_ble_eq_true rfl) ?_
  show PW G mJ10_indexOf (rmD (d + 1) 0 0) (MZ G Q nX 0 0) 0 0 I J P T z 0 [some (.ref a), some (.ref b)] []
  refine r_aload_n (pc := 0) dJ10_indexOf_0 rfl rfl ?_
  refine r_alen (pc := 1) hb.1 ⟨by decide, by decide⟩ dJ10_indexOf_1 (fun hn1 hm1 => ?_)
  refine r_if_ne (pc := 2) 7 dJ10_indexOf_2 rfl (by omega) (fun h2 => ?_) (fun h2 => ?_)
  · refine r_aload_n (pc := 7) dJ10_indexOf_7 rfl rfl ?_
    refine r_alen (pc := 8) ha.1 ⟨by decide, by decide⟩ dJ10_indexOf_8 (fun hn8 hm8 => ?_)
    refine r_if_ne (pc := 9) 14 dJ10_indexOf_9 rfl (by omega) (fun h9 => ?_) (fun h9 => ?_)
    · refine r_aload_n (pc := 14) dJ10_indexOf_14 rfl rfl ?_
      refine r_aload_n (pc := 15) dJ10_indexOf_15 rfl rfl ?_
      refine r_alen (pc := 16) ha.1 ⟨by decide, by decide⟩ dJ10_indexOf_16 (fun hn16 hm16 => ?_)
      refine r_aload_n (pc := 17) dJ10_indexOf_17 rfl rfl ?_
      refine r_aload_n (pc := 18) dJ10_indexOf_18 rfl rfl ?_
      refine r_alen (pc := 19) hb.1 ⟨by decide, by decide⟩ dJ10_indexOf_19 (fun hn19 hm19 => ?_)
      refine r_iconst (pc := 20) dJ10_indexOf_20 ?_
      refine r_callS5 (pc := 21) (C_indexOfB (Q := fun v I' J' P' T' z' => ∃ r : Int, ((-1 ≤ r ∧ r < 1000000) ∧ (0 ≤ r ↔ ∃ i, occ L L2 i)) ∧ fe I J P T z (some (iv r)) v I' J' P' T' z') ha hb hl2 h1 hl (fun r p q => ⟨r, ⟨p, q⟩, fe_i⟩)) im_J10_indexOf_2 q1051 dJ10_indexOf_21 (Nat.le_of_ble_eq_true rfl) (Nat.le_of_ble_eq_true rfl) rfl (fun v I' J' P' T' z' ⟨r, ⟨p, q⟩, hf⟩ => k_fi ?_ v I' J' P' T' z' hf) (fun _ _ _ _ _ _ _ hx => no_x hx)
      refine r_ireturn (pc := 24) rfl rfl dJ10_indexOf_24 (Nat.le_of_ble_eq_true rfl) (Nat.le_of_ble_eq_true rfl) ?_
      exact hQ r p q
    omega
  omega
theorem C_indexOf {w2 : Nat} (h : ST I P T w L) (hh2 : ST I P T w2 L2) (h2 : 0 < L2.length) (h1 : L.length < 1000000) (hl : L2.length ≤ L.length) (hQ : ∀ r : Int, (-1 ≤ r ∧ r < 1000000) → (0 ≤ r ↔ ∃ i, occ L L2 i) → Q (some (iv r)) I J P T z) : MC G yJ7_indexOf (ws_ yJ7_indexOf cJ7_indexOf 3 (some FieldType.int)) (d + 2) 0 0 [.ref w, .ref w2] I J P T z Q nX := by
  obtain ⟨hT, h0, b, hp, hb⟩ := h
  obtain ⟨hT2, h02, b2, hp2, hb2⟩ := hh2
  refine MC.of (by decide) (Nat.le_of_ble_eq_true rfl) ?_
  show PW G mJ7_indexOf (rmD (d + 2) 0 0) (MZ G Q nX 0 0) 0 0 I J P T z 0 [some (.ref w), some (.ref w2), none] []
  refine r_aload_n (pc := 0) dJ7_indexOf_0 rfl rfl ?_
  refine r_callV0 (pc := 1) (C_coder hT h0 fe_i) im_J7_coder q1023 q1021 hT rfl dJ7_indexOf_1 (Nat.le_of_ble_eq_true rfl) (Nat.le_of_ble_eq_true rfl) rfl (k_fi ?_) (fun _ _ _ _ _ _ _ hx => no_x hx)
  refine r_istore_n2 (pc := 4) (Nat.le_of_ble_eq_true rfl) dJ7_indexOf_4 rfl ?_
  refine r_iload_n (pc := 5) dJ7_indexOf_5 rfl rfl ?_
  refine r_aload_n (pc := 6) dJ7_indexOf_6 rfl rfl ?_
  refine r_callV0 (pc := 7) (C_coder hT2 h02 fe_i) im_J7_coder q1023 q1021 hT2 rfl dJ7_indexOf_7 (Nat.le_of_ble_eq_true rfl) (Nat.le_of_ble_eq_true rfl) rfl (k_fi ?_) (fun _ _ _ _ _ _ _ hx => no_x hx)
  refine r_icmp_ne (pc := 10) 46 dJ7_indexOf_10 rfl (by omega) (by omega) (fun h10 => ?_) (fun h10 => ?_)
  · exact absurd rfl h10
  refine r_aload_n (pc := 13) dJ7_indexOf_13 rfl rfl ?_
  refine r_callV0 (pc := 14) (C_isLatin1 hT h0 fe_i) im_J7_isLatin1 q1046 q1044 hT rfl dJ7_indexOf_14 (Nat.le_of_ble_eq_true rfl) (Nat.le_of_ble_eq_true rfl) rfl (k_fi ?_) (fun _ _ _ _ _ _ _ hx => no_x hx)
  refine r_if_eq (pc := 17) 34 dJ7_indexOf_17 rfl (by omega) (fun h17 => ?_) (fun h17 => ?_)
  · omega
  refine r_aload_n (pc := 20) dJ7_indexOf_20 rfl rfl ?_
  refine r_getr (pc := 21) (c := 37) (k := 0) (kz := 0) hT cok_37 (Nat.le_of_ble_eq_true rfl) q852 ⟨rfl, rfl⟩ (Or.inl rfl) rfl (fun _ _ _ => rfl) hp dJ7_indexOf_21 ?_
  refine r_aload_n (pc := 24) dJ7_indexOf_24 rfl rfl ?_
  refine r_getr (pc := 25) (c := 37) (k := 0) (kz := 0) hT2 cok_37 (Nat.le_of_ble_eq_true rfl) q852 ⟨rfl, rfl⟩ (Or.inl rfl) rfl (fun _ _ _ => rfl) hp2 dJ7_indexOf_25 ?_
  refine r_callS2 (pc := 28) (C_indexOfA (Q := fun v I' J' P' T' z' => ∃ r : Int, ((-1 ≤ r ∧ r < 1000000) ∧ (0 ≤ r ↔ ∃ i, occ L L2 i)) ∧ fe I J P T z (some (iv r)) v I' J' P' T' z') hb hb2 h2 h1 hl (fun r p q => ⟨r, ⟨p, q⟩, fe_i⟩)) im_J10_indexOf q1048 dJ7_indexOf_28 (Nat.le_of_ble_eq_true rfl) (Nat.le_of_ble_eq_true rfl) rfl (fun v I' J' P' T' z' ⟨r, ⟨p, q⟩, hf⟩ => k_fi ?_ v I' J' P' T' z' hf) (fun _ _ _ _ _ _ _ hx => no_x hx)
  refine r_goto (pc := 31) 45 dJ7_indexOf_31 rfl ?_
  refine r_ireturn (pc := 45) rfl rfl dJ7_indexOf_45 (Nat.le_of_ble_eq_true rfl) (Nat.le_of_ble_eq_true rfl) ?_
  exact hQ r p q
end P2
