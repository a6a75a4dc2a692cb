/-! ===== the model: beginning, questions ===== -/
section M3
variable {G : GE} {I J : HI} {P : HP} {T : HT} {z : Nat} {m d : Nat} {Q : QT} {σ : Int → Int}
theorem M_begins (hs : shM G P T m) (hg : RG σ) (h1 : 0 ≤ σ 1 ∧ σ 1 ≤ 6) (h0k : 0 ≤ σ 0 ∧ σ 0 ≤ 13) (hc : ∀ p, 0 ≤ p → p < 6 → σ (229 + p) = 0 ∧ 0 ≤ f_cards σ p ∧ f_cards σ p + σ 7 ≤ 52) (hQ : Q none (ur I (m + 2) (f_begins σ)) J P T z) : MC G yX11_begins (ws_ yX11_begins cX11_begins 4 (none : Option FieldType)) (d + 5) 0 0 [.ref m] (ur I (m + 2) σ) J P T z Q nX := by
  have hb := hs.b
  refine MC.of (by decide) (Nat.le_of_ble_eq_true rfl) ?_
  show PW G mX11_begins (rmD (d + 5) 0 0) (MZ G Q nX 0 0) 0 0 (ur I (m + 2) σ) J P T z 0 [some (.ref m), none, none, none] []
  refine r_iconst (pc := 0) dX11_begins_0 ?_
  refine r_istore_n1 (pc := 1) (Nat.le_of_ble_eq_true rfl) dX11_begins_1 rfl ?_
  have tail : ∀ (n : Nat) (k : Int) (σ2 : Int → Int) (l2 l3 : Option Value), 0 ≤ k → k ≤ σ 1 → σ 1 - k = n → RG σ2 → σ2 1 = σ 1 → σ2 0 = σ 0 → Q none (ur I (m + 2) (f_settles (f_beg2 σ2 k n) 0)) J P T z → PW G mX11_begins (rmD (d + 5) 0 0) (MZ G Q nX 0 0) 0 0 (ur I (m + 2) σ2) J P T z 45 [some (.ref m), some (iv k), l2, l3] [] := by
    intro n
    induction n with
    | zero =>
      intro k σ2 l2 l3 hk0 hk1 hn h2 e1 e0 hQ
      refine r_iload_n (pc := 45) dX11_begins_45 rfl rfl ?_
      refine r_aload_n (pc := 46) dX11_begins_46 rfl rfl ?_
      refine r_getr (pc := 47) (c := 11) (k := 6) (kz := 6) hs.o cok_11 (Nat.le_of_ble_eq_true rfl) q1866 ⟨rfl, rfl⟩ (Or.inl rfl) rfl (fun _ _ _ => rfl) hs.p_s dX11_begins_47 ?_
      refine r_iconst (pc := 50) dX11_begins_50 ?_
      refine r_ialdU (pc := 51) hs.t_s (by omega) (by omega) dX11_begins_51 (fun hr51 => ?_)
      rw [e1]
      refine r_icmp_ge (pc := 52) 86 dX11_begins_52 rfl (by omega) (by omega) (fun h52 => ?_) (fun h52 => ?_)
      · refine r_aload_n (pc := 86) dX11_begins_86 rfl rfl ?_
        refine r_iconst (pc := 87) dX11_begins_87 ?_
        refine r_callV1 (pc := 88) (M_settles hs h2 (by omega) (by omega) fe_i) im_X11_settles qs75 q2149 hs.o rfl dX11_begins_88 (Nat.le_of_ble_eq_true rfl) (Nat.le_of_ble_eq_true rfl) rfl (k_fv ?_) (fun _ _ _ _ _ _ _ hx => no_x hx)
        refine r_return (pc := 91) rfl dX11_begins_91 (Nat.le_of_ble_eq_true rfl) (Nat.le_of_ble_eq_true rfl) ?_
        exact hQ
      omega
    | succ n ih =>
      intro k σ2 l2 l3 hk0 hk1 hn h2 e1 e0 hQ
      have hk : 0 ≤ k ∧ k < 6 := by omega
      refine r_iload_n (pc := 45) dX11_begins_45 rfl rfl ?_
      refine r_aload_n (pc := 46) dX11_begins_46 rfl rfl ?_
      refine r_getr (pc := 47) (c := 11) (k := 6) (kz := 6) hs.o cok_11 (Nat.le_of_ble_eq_true rfl) q1866 ⟨rfl, rfl⟩ (Or.inl rfl) rfl (fun _ _ _ => rfl) hs.p_s dX11_begins_47 ?_
      refine r_iconst (pc := 50) dX11_begins_50 ?_
      refine r_ialdU (pc := 51) hs.t_s (by omega) (by omega) dX11_begins_51 (fun hr51 => ?_)
      rw [e1]
      refine r_icmp_ge (pc := 52) 86 dX11_begins_52 rfl (by omega) (by omega) (fun h52 => ?_) (fun h52 => ?_)
      · omega
      refine r_iconst (pc := 55) dX11_begins_55 ?_
      refine r_istore_n2 (pc := 56) (Nat.le_of_ble_eq_true rfl) dX11_begins_56 rfl ?_
      have inner : ∀ (n2 : Nat) (kind : Int) (σ3 : Int → Int), 0 ≤ kind → kind ≤ σ 0 → σ 0 - kind = n2 → RG σ3 → σ3 1 = σ 1 → σ3 0 = σ 0 → f_bks σ3 k kind n2 = f_bks σ2 k 0 (σ2 0).toNat → PW G mX11_begins (rmD (d + 5) 0 0) (MZ G Q nX 0 0) 0 0 (ur I (m + 2) σ3) J P T z 57 [some (.ref m), some (iv k), some (iv kind), l3] [] := by
        intro n2
        induction n2 with
        | zero =>
          intro kind σ3 g0 g1 gn h3 f1 f0 he
          refine r_iload_n (pc := 57) dX11_begins_57 rfl rfl ?_
          refine r_aload_n (pc := 58) dX11_begins_58 rfl rfl ?_
          refine r_getr (pc := 59) (c := 11) (k := 6) (kz := 6) hs.o cok_11 (Nat.le_of_ble_eq_true rfl) q1866 ⟨rfl, rfl⟩ (Or.inl rfl) rfl (fun _ _ _ => rfl) hs.p_s dX11_begins_59 ?_
          refine r_iconst (pc := 62) dX11_begins_62 ?_
          refine r_ialdU (pc := 63) hs.t_s (by omega) (by omega) dX11_begins_63 (fun hr63 => ?_)
          rw [f0]
          refine r_icmp_ge (pc := 64) 80 dX11_begins_64 rfl (by omega) (by omega) (fun h64 => ?_) (fun h64 => ?_)
          · refine r_iinc1 (pc := 80) (Nat.le_of_ble_eq_true rfl) dX11_begins_80 rfl ?_
            refine r_goto (pc := 83) 45 dX11_begins_83 rfl ?_
            have he : σ3 = f_bks σ2 k 0 (σ2 0).toNat := he
            refine ih (k + 1) σ3 _ _ (by omega) (by omega) (by omega) h3 f1 f0 ?_
            rw [he]
            exact hQ
          omega
        | succ n2 ih2 =>
          intro kind σ3 g0 g1 gn h3 f1 f0 he
          have hkd : 0 ≤ kind ∧ kind < 13 := by omega
          refine r_iload_n (pc := 57) dX11_begins_57 rfl rfl ?_
          refine r_aload_n (pc := 58) dX11_begins_58 rfl rfl ?_
          refine r_getr (pc := 59) (c := 11) (k := 6) (kz := 6) hs.o cok_11 (Nat.le_of_ble_eq_true rfl) q1866 ⟨rfl, rfl⟩ (Or.inl rfl) rfl (fun _ _ _ => rfl) hs.p_s dX11_begins_59 ?_
          refine r_iconst (pc := 62) dX11_begins_62 ?_
          refine r_ialdU (pc := 63) hs.t_s (by omega) (by omega) dX11_begins_63 (fun hr63 => ?_)
          rw [f0]
          refine r_icmp_ge (pc := 64) 80 dX11_begins_64 rfl (by omega) (by omega) (fun h64 => ?_) (fun h64 => ?_)
          · omega
          refine r_aload_n (pc := 67) dX11_begins_67 rfl rfl ?_
          refine r_iload_n (pc := 68) dX11_begins_68 rfl rfl ?_
          refine r_iload_n (pc := 69) dX11_begins_69 rfl rfl ?_
          refine r_callV2 (pc := 70) (M_books hs hk hkd h3 fe_i) im_X11_books qs72 q2134 hs.o rfl dX11_begins_70 (Nat.le_of_ble_eq_true rfl) (Nat.le_of_ble_eq_true rfl) rfl (k_fi ?_) (fun _ _ _ _ _ _ _ hx => no_x hx)
          refine r_pop (pc := 73) dX11_begins_73 rfl ?_
          refine r_iinc2 (pc := 74) (Nat.le_of_ble_eq_true rfl) dX11_begins_74 rfl ?_
          refine r_goto (pc := 77) 57 dX11_begins_77 rfl ?_
          refine ih2 (kind + 1) _ (by omega) (by omega) (by omega) (RG_books h3 hk hkd) ?_ ?_ he
          · rw [f_books_n h3 hk hkd (by omega) (by omega) (by omega) (by omega) (by omega) (by omega)]; exact f1
          · rw [f_books_n h3 hk hkd (by omega) (by omega) (by omega) (by omega) (by omega) (by omega)]; exact f0
      exact inner (σ 0).toNat 0 σ2 (by omega) (by omega) (by omega) h2 e1 e0 (by rw [e0])
  have loop : ∀ (n : Nat) (k : Int) (σ2 : Int → Int) (l2 l3 : Option Value), 0 ≤ k → k ≤ σ 1 → σ 1 - k = n → RG σ2 → σ2 1 = σ 1 → σ2 0 = σ 0 → (∀ p, k ≤ p → p < 6 → σ2 (229 + p) = 0 ∧ 0 ≤ f_cards σ2 p ∧ f_cards σ2 p + σ2 7 ≤ 52) → f_beg1 σ2 k n = f_beg1 σ 0 (σ 1).toNat → PW G mX11_begins (rmD (d + 5) 0 0) (MZ G Q nX 0 0) 0 0 (ur I (m + 2) σ2) J P T z 2 [some (.ref m), some (iv k), l2, l3] [] := by
    intro n
    induction n with
    | zero =>
      intro k σ2 l2 l3 hk0 hk1 hn h2 e1 e0 hc2 he
      refine r_iload_n (pc := 2) dX11_begins_2 rfl rfl ?_
      refine r_aload_n (pc := 3) dX11_begins_3 rfl rfl ?_
      refine r_getr (pc := 4) (c := 11) (k := 6) (kz := 6) hs.o cok_11 (Nat.le_of_ble_eq_true rfl) q1866 ⟨rfl, rfl⟩ (Or.inl rfl) rfl (fun _ _ _ => rfl) hs.p_s dX11_begins_4 ?_
      refine r_iconst (pc := 7) dX11_begins_7 ?_
      refine r_ialdU (pc := 8) hs.t_s (by omega) (by omega) dX11_begins_8 (fun hr8 => ?_)
      rw [e1]
      refine r_icmp_ge (pc := 9) 43 dX11_begins_9 rfl (by omega) (by omega) (fun h9 => ?_) (fun h9 => ?_)
      · refine r_iconst (pc := 43) dX11_begins_43 ?_
        refine r_istore_n1 (pc := 44) (Nat.le_of_ble_eq_true rfl) dX11_begins_44 rfl ?_
        have he : σ2 = f_beg1 σ 0 (σ 1).toNat := he
        refine tail (σ 1).toNat 0 σ2 _ _ (by omega) (by omega) (by omega) h2 e1 e0 ?_
        rw [he]
        exact hQ
      omega
    | succ n ih =>
      intro k σ2 l2 l3 hk0 hk1 hn h2 e1 e0 hc2 he
      have hk : 0 ≤ k ∧ k < 6 := by omega
      obtain ⟨c1, c2, c3⟩ := hc2 k (by omega) (by omega)
      have h72 := h2.1
      refine r_iload_n (pc := 2) dX11_begins_2 rfl rfl ?_
      refine r_aload_n (pc := 3) dX11_begins_3 rfl rfl ?_
      refine r_getr (pc := 4) (c := 11) (k := 6) (kz := 6) hs.o cok_11 (Nat.le_of_ble_eq_true rfl) q1866 ⟨rfl, rfl⟩ (Or.inl rfl) rfl (fun _ _ _ => rfl) hs.p_s dX11_begins_4 ?_
      refine r_iconst (pc := 7) dX11_begins_7 ?_
      refine r_ialdU (pc := 8) hs.t_s (by omega) (by omega) dX11_begins_8 (fun hr8 => ?_)
      rw [e1]
      refine r_icmp_ge (pc := 9) 43 dX11_begins_9 rfl (by omega) (by omega) (fun h9 => ?_) (fun h9 => ?_)
      · omega
      refine r_aload_n (pc := 12) dX11_begins_12 rfl rfl ?_
      refine r_iload_n (pc := 13) dX11_begins_13 rfl rfl ?_
      refine r_callV1 (pc := 14) (M_cards hs hk fe_i) im_X11_cards qs70 q2126 hs.o rfl dX11_begins_14 (Nat.le_of_ble_eq_true rfl) (Nat.le_of_ble_eq_true rfl) rfl (k_fi ?_) (fun _ _ _ _ _ _ _ hx => no_x hx)
      refine r_istore_n2 (pc := 17) (Nat.le_of_ble_eq_true rfl) dX11_begins_17 rfl ?_
      refine r_iconst (pc := 18) dX11_begins_18 ?_
      refine r_istore_n3 (pc := 19) (Nat.le_of_ble_eq_true rfl) dX11_begins_19 rfl ?_
      have inner : ∀ (n2 : Nat) (i : Int) (σ3 : Int → Int), 0 ≤ i → i ≤ f_cards σ2 k → f_cards σ2 k - i = n2 → RG σ3 → σ3 (229 + k) + n2 + σ3 7 ≤ 52 → f_addn σ3 k n2 = f_addn σ2 k (f_cards σ2 k).toNat → PW G mX11_begins (rmD (d + 5) 0 0) (MZ G Q nX 0 0) 0 0 (ur I (m + 2) σ3) J P T z 20 [some (.ref m), some (iv k), some (iv (f_cards σ2 k)), some (iv i)] [] := by
        intro n2
        induction n2 with
        | zero =>
          intro i σ3 g0 g1 gn h3 h37 he3
          refine r_iload_n (pc := 20) dX11_begins_20 rfl rfl ?_
          refine r_iload_n (pc := 21) dX11_begins_21 rfl rfl ?_
          refine r_icmp_ge (pc := 22) 37 dX11_begins_22 rfl (by omega) (by omega) (fun h22 => ?_) (fun h22 => ?_)
          · refine r_iinc1 (pc := 37) (Nat.le_of_ble_eq_true rfl) dX11_begins_37 rfl ?_
            refine r_goto (pc := 40) 2 dX11_begins_40 rfl ?_
            have he3 : σ3 = f_addn σ2 k (f_cards σ2 k).toNat := he3
            obtain ⟨a1, a2, a3⟩ := f_addn_g hk (f_cards σ2 k).toNat h2 (by omega)
            rw [← he3] at a1 a2 a3
            refine ih (k + 1) σ3 _ _ (by omega) (by omega) (by omega) h3 (by rw [a3 1 (by omega) (by omega)]; exact e1) (by rw [a3 0 (by omega) (by omega)]; exact e0) (fun p p0 p1 => ?_) ?_
            · rw [a3 _ (by omega) (by omega), a3 7 (by omega) (by omega), f_cards_c (τ := σ2) (fun j j0 j1 => a3 _ (by omega) (by omega))]
              exact hc2 p (by omega) p1
            · rw [he3]; exact he
          omega
        | succ n2 ih2 =>
          intro i σ3 g0 g1 gn h3 h37 he3
          have h73 := h3.1
          have ho := h3.o hk
          refine r_iload_n (pc := 20) dX11_begins_20 rfl rfl ?_
          refine r_iload_n (pc := 21) dX11_begins_21 rfl rfl ?_
          refine r_icmp_ge (pc := 22) 37 dX11_begins_22 rfl (by omega) (by omega) (fun h22 => ?_) (fun h22 => ?_)
          · omega
          refine r_aload_n (pc := 25) dX11_begins_25 rfl rfl ?_
          refine r_iload_n (pc := 26) dX11_begins_26 rfl rfl ?_
          refine r_iconst (pc := 27) dX11_begins_27 ?_
          refine r_callV2 (pc := 28) (M_adds hs hk (by omega) (by omega) fe_i) im_X11_adds qs71 q2130 hs.o rfl dX11_begins_28 (Nat.le_of_ble_eq_true rfl) (Nat.le_of_ble_eq_true rfl) rfl (k_fv ?_) (fun _ _ _ _ _ _ _ hx => no_x hx)
          refine r_iinc3 (pc := 31) (Nat.le_of_ble_eq_true rfl) dX11_begins_31 rfl ?_
          refine r_goto (pc := 34) 20 dX11_begins_34 rfl ?_
          refine ih2 (i + 1) _ (by omega) (by omega) (by omega) (RG_adds h3 hk (by omega) (by omega)) ?_ he3
          have e7 : f_adds σ3 k 0 7 = σ3 7 := by unfold f_adds; rw [us_n (by omega), us_n (by omega)]
          have e2 : f_adds σ3 k 0 (229 + k) = σ3 (229 + k) + 1 := us_s
          omega
      exact inner (f_cards σ2 k).toNat 0 σ2 (by omega) (by omega) (by omega) h2 (by omega) rfl
  exact loop (σ 1).toNat 0 σ _ _ (by omega) (by omega) (by omega) hg rfl rfl (fun p a b => hc p a b) rfl
theorem M_isPerson (hs : shM G P T m) {k : Int} (hk : rg k) (h1 : 0 ≤ σ 1 ∧ σ 1 ≤ 6) (hQ : Q (some (iv (bz (isP σ k)))) (ur I (m + 2) σ) J P T z) : MC G yX11_isPerson (ws_ yX11_isPerson cX11_isPerson 2 (some FieldType.boolean)) (d + 1) 0 0 [.ref m, iv k] (ur I (m + 2) σ) J P T z Q nX := by
  have hb := hs.b
  refine MC.of (by decide) (Nat.le_of_ble_eq_true rfl) ?_
  show PW G mX11_isPerson (rmD (d + 1) 0 0) (MZ G Q nX 0 0) 0 0 (ur I (m + 2) σ) J P T z 0 [some (.ref m), some (iv k)] []
  refine r_iload_n (pc := 0) dX11_isPerson_0 rfl rfl ?_
  refine r_iconst (pc := 1) dX11_isPerson_1 ?_
  refine r_aload_n (pc := 2) dX11_isPerson_2 rfl rfl ?_
  refine r_getr (pc := 3) (c := 11) (k := 6) (kz := 6) hs.o cok_11 (Nat.le_of_ble_eq_true rfl) q1866 ⟨rfl, rfl⟩ (Or.inl rfl) rfl (fun _ _ _ => rfl) hs.p_s dX11_isPerson_3 ?_
  refine r_iconst (pc := 6) dX11_isPerson_6 ?_
  refine r_ialdU (pc := 7) hs.t_s (by omega) (by omega) dX11_isPerson_7 (fun hr7 => ?_)
  refine r_iconst (pc := 8) dX11_isPerson_8 ?_
  refine r_isub (pc := 9) dX11_isPerson_9 ?_
  refine r_callS3 (pc := 10) (M_isIn hk (by omega) (by omega) fe_i) im_X11_isIn q2095 dX11_isPerson_10 (Nat.le_of_ble_eq_true rfl) (Nat.le_of_ble_eq_true rfl) rfl (k_fi ?_) (fun _ _ _ _ _ _ _ hx => no_x hx)
  refine r_ireturn (pc := 13) rfl bz_n dX11_isPerson_13 (Nat.le_of_ble_eq_true rfl) (Nat.le_of_ble_eq_true rfl) ?_
  exact hQ
theorem M_isKind (hs : shM G P T m) {k : Int} (hk : rg k) (h1 : 0 ≤ σ 0 ∧ σ 0 ≤ 13) (hQ : Q (some (iv (bz (isK σ k)))) (ur I (m + 2) σ) J P T z) : MC G yX11_isKind (ws_ yX11_isKind cX11_isKind 2 (some FieldType.boolean)) (d + 1) 0 0 [.ref m, iv k] (ur I (m + 2) σ) J P T z Q nX := by
  have hb := hs.b
  refine MC.of (by decide) (Nat.le_of_ble_eq_true rfl) ?_
  show PW G mX11_isKind (rmD (d + 1) 0 0) (MZ G Q nX 0 0) 0 0 (ur I (m + 2) σ) J P T z 0 [some (.ref m), some (iv k)] []
  refine r_iload_n (pc := 0) dX11_isKind_0 rfl rfl ?_
  refine r_iconst (pc := 1) dX11_isKind_1 ?_
  refine r_aload_n (pc := 2) dX11_isKind_2 rfl rfl ?_
  refine r_getr (pc := 3) (c := 11) (k := 6) (kz := 6) hs.o cok_11 (Nat.le_of_ble_eq_true rfl) q1866 ⟨rfl, rfl⟩ (Or.inl rfl) rfl (fun _ _ _ => rfl) hs.p_s dX11_isKind_3 ?_
  refine r_iconst (pc := 6) dX11_isKind_6 ?_
  refine r_ialdU (pc := 7) hs.t_s (by omega) (by omega) dX11_isKind_7 (fun hr7 => ?_)
  refine r_iconst (pc := 8) dX11_isKind_8 ?_
  refine r_isub (pc := 9) dX11_isKind_9 ?_
  refine r_callS3 (pc := 10) (M_isIn hk (by omega) (by omega) fe_i) im_X11_isIn q2095 dX11_isKind_10 (Nat.le_of_ble_eq_true rfl) (Nat.le_of_ble_eq_true rfl) rfl (k_fi ?_) (fun _ _ _ _ _ _ _ hx => no_x hx)
  refine r_ireturn (pc := 13) rfl bz_n dX11_isKind_13 (Nat.le_of_ble_eq_true rfl) (Nat.le_of_ble_eq_true rfl) ?_
  exact hQ
theorem M_booksOf (hs : shM G P T m) {k : Int} (hk : -1 ≤ k ∧ k < 6) (hQ : Q (some (iv (f_booksOf σ k))) (ur I (m + 2) σ) J P T z) : MC G yX11_booksOf (ws_ yX11_booksOf cX11_booksOf 4 (some FieldType.int)) (d) 0 0 [.ref m, iv k] (ur I (m + 2) σ) J P T z Q nX := by
  have hb := hs.b
  refine MC.of (by decide) (Nat.le_of_ble_eq_true rfl) ?_
  show PW G mX11_booksOf (rmD (d) 0 0) (MZ G Q nX 0 0) 0 0 (ur I (m + 2) σ) J P T z 0 [some (.ref m), some (iv k), none, none] []
  refine r_iconst (pc := 0) dX11_booksOf_0 ?_
  refine r_istore_n2 (pc := 1) (Nat.le_of_ble_eq_true rfl) dX11_booksOf_1 rfl ?_
  refine r_iconst (pc := 2) dX11_booksOf_2 ?_
  refine r_istore_n3 (pc := 3) (Nat.le_of_ble_eq_true rfl) dX11_booksOf_3 rfl ?_
  have loop : ∀ (n : Nat) (i : Int), 0 ≤ i → i ≤ 13 → 13 - i < n → PW G mX11_booksOf (rmD (d) 0 0) (MZ G Q nX 0 0) 0 0 (ur I (m + 2) σ) J P T z 4 [some (.ref m), some (iv k), some (iv (sm (fun j => bz (σ (138 + j) = k + 1)) i.toNat)), some (iv i)] [] := by
    intro n
    induction n with
    | zero => intro i h0 h1 h2; omega
    | succ n ih =>
      intro i h0 h1 h2
      have es := sm_succ (f := fun j => bz (σ (138 + j) = k + 1)) h0
      refine r_iload_n (pc := 4) dX11_booksOf_4 rfl rfl ?_
      refine r_bipush (pc := 5) dX11_booksOf_5 (by decide +kernel) ?_
      refine r_icmp_ge (pc := 7) 40 dX11_booksOf_7 rfl (by omega) (by omega) (fun h7 => ?_) (fun h7 => ?_)
      · obtain rfl : i = 13 := by omega
        refine r_iload_n (pc := 40) dX11_booksOf_40 rfl rfl ?_
        refine r_ireturn (pc := 41) rfl rfl dX11_booksOf_41 (Nat.le_of_ble_eq_true rfl) (Nat.le_of_ble_eq_true rfl) ?_
        exact hQ
      refine r_iload_n (pc := 10) dX11_booksOf_10 rfl rfl ?_
      refine r_aload_n (pc := 11) dX11_booksOf_11 rfl rfl ?_
      refine r_getr (pc := 12) (c := 11) (k := 6) (kz := 6) hs.o cok_11 (Nat.le_of_ble_eq_true rfl) q1866 ⟨rfl, rfl⟩ (Or.inl rfl) rfl (fun _ _ _ => rfl) hs.p_s dX11_booksOf_12 ?_
      refine r_sipush (pc := 15) dX11_booksOf_15 (by decide +kernel) ?_
      refine r_iload_n (pc := 18) dX11_booksOf_18 rfl rfl ?_
      refine r_iadd (pc := 19) dX11_booksOf_19 ?_
      refine r_ialdU (pc := 20) hs.t_s (by omega) (by omega) dX11_booksOf_20 (fun hr20 => ?_)
      refine r_iload_n (pc := 21) dX11_booksOf_21 rfl rfl ?_
      refine r_iconst (pc := 22) dX11_booksOf_22 ?_
      refine r_iadd (pc := 23) dX11_booksOf_23 ?_
      refine r_icmp_ne (pc := 24) 31 dX11_booksOf_24 rfl (by omega) (by omega) (fun h24 => ?_) (fun h24 => ?_)
      · refine r_iconst (pc := 31) dX11_booksOf_31 ?_
        refine r_iadd (pc := 32) dX11_booksOf_32 ?_
        refine r_istore_n2 (pc := 33) (Nat.le_of_ble_eq_true rfl) dX11_booksOf_33 rfl ?_
        refine r_iinc3 (pc := 34) (Nat.le_of_ble_eq_true rfl) dX11_booksOf_34 rfl ?_
        refine r_goto (pc := 37) 4 dX11_booksOf_37 rfl ?_
        rw [show (0 : Int) = bz (σ (138 + i) = k + 1) from (bz_f h24).symm, es]
        exact ih (i + 1) (by omega) (by omega) (by omega)
      refine r_iconst (pc := 27) dX11_booksOf_27 ?_
      refine r_goto (pc := 28) 32 dX11_booksOf_28 rfl ?_
      refine r_iadd (pc := 32) dX11_booksOf_32 ?_
      refine r_istore_n2 (pc := 33) (Nat.le_of_ble_eq_true rfl) dX11_booksOf_33 rfl ?_
      refine r_iinc3 (pc := 34) (Nat.le_of_ble_eq_true rfl) dX11_booksOf_34 rfl ?_
      refine r_goto (pc := 37) 4 dX11_booksOf_37 rfl ?_
      have e1 : bz (σ (138 + i) = k + 1) = 1 := bz_t h24
      have es : sm (fun j => bz (σ (138 + j) = k + 1)) i.toNat + 1 = sm (fun j => bz (σ (138 + j) = k + 1)) (i + 1).toNat := by rw [← es, e1]
      rw [es]
      exact ih (i + 1) (by omega) (by omega) (by omega)
  exact loop 14 0 (by omega) (by omega) (by omega)
theorem M_allBooks (hs : shM G P T m) (hQ : Q (some (iv (f_allBooks σ))) (ur I (m + 2) σ) J P T z) : MC G yX11_allBooks (ws_ yX11_allBooks cX11_allBooks 3 (some FieldType.int)) (d) 0 0 [.ref m] (ur I (m + 2) σ) J P T z Q nX := by
  have hb := hs.b
  refine MC.of (by decide) (Nat.le_of_ble_eq_true rfl) ?_
  show PW G mX11_allBooks (rmD (d) 0 0) (MZ G Q nX 0 0) 0 0 (ur I (m + 2) σ) J P T z 0 [some (.ref m), none, none] []
  refine r_iconst (pc := 0) dX11_allBooks_0 ?_
  refine r_istore_n1 (pc := 1) (Nat.le_of_ble_eq_true rfl) dX11_allBooks_1 rfl ?_
  refine r_iconst (pc := 2) dX11_allBooks_2 ?_
  refine r_istore_n2 (pc := 3) (Nat.le_of_ble_eq_true rfl) dX11_allBooks_3 rfl ?_
  have loop : ∀ (n : Nat) (i : Int), 0 ≤ i → i ≤ 13 → 13 - i < n → PW G mX11_allBooks (rmD (d) 0 0) (MZ G Q nX 0 0) 0 0 (ur I (m + 2) σ) J P T z 4 [some (.ref m), some (iv (sm (fun j => bz (0 < σ (138 + j))) i.toNat)), some (iv i)] [] := by
    intro n
    induction n with
    | zero => intro i h0 h1 h2; omega
    | succ n ih =>
      intro i h0 h1 h2
      have es := sm_succ (f := fun j => bz (0 < σ (138 + j))) h0
      refine r_iload_n (pc := 4) dX11_allBooks_4 rfl rfl ?_
      refine r_bipush (pc := 5) dX11_allBooks_5 (by decide +kernel) ?_
      refine r_icmp_ge (pc := 7) 37 dX11_allBooks_7 rfl (by omega) (by omega) (fun h7 => ?_) (fun h7 => ?_)
      · obtain rfl : i = 13 := by omega
        refine r_iload_n (pc := 37) dX11_allBooks_37 rfl rfl ?_
        refine r_ireturn (pc := 38) rfl rfl dX11_allBooks_38 (Nat.le_of_ble_eq_true rfl) (Nat.le_of_ble_eq_true rfl) ?_
        exact hQ
      refine r_iload_n (pc := 10) dX11_allBooks_10 rfl rfl ?_
      refine r_aload_n (pc := 11) dX11_allBooks_11 rfl rfl ?_
      refine r_getr (pc := 12) (c := 11) (k := 6) (kz := 6) hs.o cok_11 (Nat.le_of_ble_eq_true rfl) q1866 ⟨rfl, rfl⟩ (Or.inl rfl) rfl (fun _ _ _ => rfl) hs.p_s dX11_allBooks_12 ?_
      refine r_sipush (pc := 15) dX11_allBooks_15 (by decide +kernel) ?_
      refine r_iload_n (pc := 18) dX11_allBooks_18 rfl rfl ?_
      refine r_iadd (pc := 19) dX11_allBooks_19 ?_
      refine r_ialdU (pc := 20) hs.t_s (by omega) (by omega) dX11_allBooks_20 (fun hr20 => ?_)
      refine r_if_le (pc := 21) 28 dX11_allBooks_21 rfl (by omega) (fun h21 => ?_) (fun h21 => ?_)
      · refine r_iconst (pc := 28) dX11_allBooks_28 ?_
        refine r_iadd (pc := 29) dX11_allBooks_29 ?_
        refine r_istore_n1 (pc := 30) (Nat.le_of_ble_eq_true rfl) dX11_allBooks_30 rfl ?_
        refine r_iinc2 (pc := 31) (Nat.le_of_ble_eq_true rfl) dX11_allBooks_31 rfl ?_
        refine r_goto (pc := 34) 4 dX11_allBooks_34 rfl ?_
        have e1 : bz (0 < σ (138 + i)) = 0 := bz_f (by omega)
        have es : sm (fun j => bz (0 < σ (138 + j))) i.toNat + 0 = sm (fun j => bz (0 < σ (138 + j))) (i + 1).toNat := by rw [← es, e1]
        rw [es]
        exact ih (i + 1) (by omega) (by omega) (by omega)
      refine r_iconst (pc := 24) dX11_allBooks_24 ?_
      refine r_goto (pc := 25) 29 dX11_allBooks_25 rfl ?_
      refine r_iadd (pc := 29) dX11_allBooks_29 ?_
      refine r_istore_n1 (pc := 30) (Nat.le_of_ble_eq_true rfl) dX11_allBooks_30 rfl ?_
      refine r_iinc2 (pc := 31) (Nat.le_of_ble_eq_true rfl) dX11_allBooks_31 rfl ?_
      refine r_goto (pc := 34) 4 dX11_allBooks_34 rfl ?_
      have e1 : bz (0 < σ (138 + i)) = 1 := bz_t h21
      have es : sm (fun j => bz (0 < σ (138 + j))) i.toNat + 1 = sm (fun j => bz (0 < σ (138 + j))) (i + 1).toNat := by rw [← es, e1]
      rw [es]
      exact ih (i + 1) (by omega) (by omega) (by omega)
  exact loop 14 0 (by omega) (by omega) (by omega)
end M3
