/-! ===== the model: books, draws, refills, settling ===== -/
section M2
variable {G : GE} {I J : HI} {P : HP} {T : HT} {z : Nat} {m d : Nat} {Q : QT} {σ : Int → Int}
theorem M_books (hs : shM G P T m) {k kind : Int} (hk : 0 ≤ k ∧ k < 6) (hkd : 0 ≤ kind ∧ kind < 13) (hg : RG σ) (hQ : Q (some (iv (bz (4 ≤ σ (60 + 13 * k + kind))))) (ur I (m + 2) (f_books σ k kind)) J P T z) : MC G yX11_books (ws_ yX11_books cX11_books 4 (some FieldType.boolean)) (d + 2) 0 0 [.ref m, iv k, iv kind] (ur I (m + 2) σ) J P T z Q nX := by
  have hb := hs.b
  refine MC.of (by decide) (Nat.le_of_ble_eq_true rfl) ?_
  show PW G mX11_books (rmD (d + 2) 0 0) (MZ G Q nX 0 0) 0 0 (ur I (m + 2) σ) J P T z 0 [some (.ref m), some (iv k), some (iv kind), none] []
  refine r_rgU fun hrg => ?_
  refine r_aload_n (pc := 0) dX11_books_0 rfl rfl ?_
  refine r_iload_n (pc := 1) dX11_books_1 rfl rfl ?_
  refine r_iload_n (pc := 2) dX11_books_2 rfl rfl ?_
  refine r_iconst (pc := 3) dX11_books_3 ?_
  have hr1 := hrg (60 + 13 * k + kind)
  refine r_callV3 (pc := 4) (M_hand0 hs hk hkd fe_i) im_X11_handOf qs73 q2138 hs.o rfl dX11_books_4 (Nat.le_of_ble_eq_true rfl) (Nat.le_of_ble_eq_true rfl) rfl (k_fi ?_) (fun _ _ _ _ _ _ _ hx => no_x hx)
  refine r_iconst (pc := 7) dX11_books_7 ?_
  refine r_icmp_ge (pc := 8) 13 dX11_books_8 rfl (by omega) (by omega) (fun h8 => ?_) (fun h8 => ?_)
  · refine r_aload_n (pc := 13) dX11_books_13 rfl rfl ?_
    refine r_getr (pc := 14) (c := 11) (k := 6) (kz := 6) hs.o cok_11 (Nat.le_of_ble_eq_true rfl) q1866 ⟨rfl, rfl⟩ (Or.inl rfl) rfl (fun _ _ _ => rfl) hs.p_s dX11_books_14 ?_
    refine r_sipush (pc := 17) dX11_books_17 (by decide +kernel) ?_
    refine r_bipush (pc := 20) dX11_books_20 (by decide +kernel) ?_
    refine r_iload_n (pc := 22) dX11_books_22 rfl rfl ?_
    refine r_imul (pc := 23) dX11_books_23 ?_
    refine r_iadd (pc := 24) dX11_books_24 ?_
    refine r_iload_n (pc := 25) dX11_books_25 rfl rfl ?_
    refine r_iadd (pc := 26) dX11_books_26 ?_
    refine r_ialdU (pc := 27) hs.t_s (by omega) (by omega) dX11_books_27 (fun hr27 => ?_)
    refine r_istore_n3 (pc := 28) (Nat.le_of_ble_eq_true rfl) dX11_books_28 rfl ?_
    have hr2 := hrg (151 + 13 * k + kind)
    have loop : ∀ (n : Nat) (i : Int) (σ2 : Int → Int), rg i → RG σ2 → (4 - i).toNat = n → f_lr σ2 k kind n = f_lr σ k kind (4 - σ (151 + 13 * k + kind)).toNat → PW G mX11_books (rmD (d + 2) 0 0) (MZ G Q nX 0 0) 0 0 (ur I (m + 2) σ2) J P T z 29 [some (.ref m), some (iv k), some (iv kind), some (iv i)] [] := by
      intro n
      induction n with
      | zero =>
        intro i σ2 hi h2 hn he
        refine r_iload_n (pc := 29) dX11_books_29 rfl rfl ?_
        refine r_iconst (pc := 30) dX11_books_30 ?_
        refine r_icmp_ge (pc := 31) 46 dX11_books_31 rfl (by omega) (by omega) (fun h31 => ?_) (fun h31 => ?_)
        · refine r_aload_n (pc := 46) dX11_books_46 rfl rfl ?_
          refine r_getr (pc := 47) (c := 11) (k := 6) (kz := 6) hs.o cok_11 (Nat.le_of_ble_eq_true rfl) q1866 ⟨rfl, rfl⟩ (Or.inl rfl) rfl (fun _ _ _ => rfl) hs.p_s dX11_books_47 ?_
          refine r_sipush (pc := 50) dX11_books_50 (by decide +kernel) ?_
          refine r_bipush (pc := 53) dX11_books_53 (by decide +kernel) ?_
          refine r_iload_n (pc := 55) dX11_books_55 rfl rfl ?_
          refine r_imul (pc := 56) dX11_books_56 ?_
          refine r_iadd (pc := 57) dX11_books_57 ?_
          refine r_iload_n (pc := 58) dX11_books_58 rfl rfl ?_
          refine r_iadd (pc := 59) dX11_books_59 ?_
          refine r_iconst (pc := 60) dX11_books_60 ?_
          refine r_iastU (pc := 61) hs.t_s (by omega) (by omega) (by omega) (by omega) dX11_books_61 ?_
          refine r_aload_n (pc := 62) dX11_books_62 rfl rfl ?_
          refine r_iload_n (pc := 63) dX11_books_63 rfl rfl ?_
          refine r_iload_n (pc := 64) dX11_books_64 rfl rfl ?_
          refine r_bipush (pc := 65) dX11_books_65 (by decide +kernel) ?_
          refine r_callV3 (pc := 67) (M_handOf hs hk hkd fe_i) im_X11_handOf qs73 q2138 hs.o rfl dX11_books_67 (Nat.le_of_ble_eq_true rfl) (Nat.le_of_ble_eq_true rfl) rfl (k_fi ?_) (fun _ _ _ _ _ _ _ hx => no_x hx)
          refine r_pop (pc := 70) dX11_books_70 rfl ?_
          refine r_aload_n (pc := 71) dX11_books_71 rfl rfl ?_
          refine r_getr (pc := 72) (c := 11) (k := 6) (kz := 6) hs.o cok_11 (Nat.le_of_ble_eq_true rfl) q1866 ⟨rfl, rfl⟩ (Or.inl rfl) rfl (fun _ _ _ => rfl) hs.p_s dX11_books_72 ?_
          refine r_sipush (pc := 75) dX11_books_75 (by decide +kernel) ?_
          refine r_iload_n (pc := 78) dX11_books_78 rfl rfl ?_
          refine r_iadd (pc := 79) dX11_books_79 ?_
          refine r_iload_n (pc := 80) dX11_books_80 rfl rfl ?_
          refine r_iconst (pc := 81) dX11_books_81 ?_
          refine r_iadd (pc := 82) dX11_books_82 ?_
          refine r_iastU (pc := 83) hs.t_s (by omega) (by omega) (by omega) (by omega) dX11_books_83 ?_
          refine r_iconst (pc := 84) dX11_books_84 ?_
          refine r_ireturn (pc := 85) rfl (by decide +kernel) dX11_books_85 (Nat.le_of_ble_eq_true rfl) (Nat.le_of_ble_eq_true rfl) ?_
          unfold f_books at hQ
          rw [if_neg (by omega), bz_t h8, ← he] at hQ
          exact hQ
        omega
      | succ n ih =>
        intro i σ2 hi h2 hn he
        refine r_iload_n (pc := 29) dX11_books_29 rfl rfl ?_
        refine r_iconst (pc := 30) dX11_books_30 ?_
        refine r_icmp_ge (pc := 31) 46 dX11_books_31 rfl (by omega) (by omega) (fun h31 => ?_) (fun h31 => ?_)
        · omega
        refine r_aload_n (pc := 34) dX11_books_34 rfl rfl ?_
        refine r_iload_n (pc := 35) dX11_books_35 rfl rfl ?_
        refine r_iload_n (pc := 36) dX11_books_36 rfl rfl ?_
        refine r_callV2 (pc := 37) (M_learns hs hk hkd (h2.o hk) fe_i) im_X11_learns qs74 q2142 hs.o rfl dX11_books_37 (Nat.le_of_ble_eq_true rfl) (Nat.le_of_ble_eq_true rfl) rfl (k_fv ?_) (fun _ _ _ _ _ _ _ hx => no_x hx)
        refine r_iinc3 (pc := 40) (Nat.le_of_ble_eq_true rfl) dX11_books_40 rfl ?_
        refine r_goto (pc := 43) 29 dX11_books_43 rfl ?_
        exact ih (i + 1) _ (by omega) (RG_learns h2 hk hkd) (by omega) he
    exact loop _ _ σ hr2 hg rfl rfl
  refine r_iconst (pc := 11) dX11_books_11 ?_
  refine r_ireturn (pc := 12) rfl (by decide +kernel) dX11_books_12 (Nat.le_of_ble_eq_true rfl) (Nat.le_of_ble_eq_true rfl) ?_
  unfold f_books at hQ
  rw [if_pos h8, bz_f (by omega)] at hQ
  exact hQ
theorem M_draws (hs : shM G P T m) {k : Int} (hk : 0 ≤ k ∧ k < 6) (h7 : 0 < σ 7 ∧ σ 7 ≤ 52) (h8 : 0 ≤ σ 8 ∧ σ 8 < 13) (hQ : Q (some (iv (σ 8))) (ur I (m + 2) (f_draws σ k)) J P T z) : MC G yX11_draws (ws_ yX11_draws cX11_draws 4 (some FieldType.int)) (d + 1) 0 0 [.ref m, iv k] (ur I (m + 2) σ) J P T z Q nX := by
  have hb := hs.b
  refine MC.of (by decide) (Nat.le_of_ble_eq_true rfl) ?_
  show PW G mX11_draws (rmD (d + 1) 0 0) (MZ G Q nX 0 0) 0 0 (ur I (m + 2) σ) J P T z 0 [some (.ref m), some (iv k), none, none] []
  refine r_aload_n (pc := 0) dX11_draws_0 rfl rfl ?_
  refine r_getr (pc := 1) (c := 11) (k := 6) (kz := 6) hs.o cok_11 (Nat.le_of_ble_eq_true rfl) q1866 ⟨rfl, rfl⟩ (Or.inl rfl) rfl (fun _ _ _ => rfl) hs.p_s dX11_draws_1 ?_
  refine r_bipush (pc := 4) dX11_draws_4 (by decide +kernel) ?_
  refine r_ialdU (pc := 6) hs.t_s (by omega) (by omega) dX11_draws_6 (fun hr6 => ?_)
  refine r_istore_n2 (pc := 7) (Nat.le_of_ble_eq_true rfl) dX11_draws_7 rfl ?_
  refine r_aload_n (pc := 8) dX11_draws_8 rfl rfl ?_
  refine r_getr (pc := 9) (c := 11) (k := 6) (kz := 6) hs.o cok_11 (Nat.le_of_ble_eq_true rfl) q1866 ⟨rfl, rfl⟩ (Or.inl rfl) rfl (fun _ _ _ => rfl) hs.p_s dX11_draws_9 ?_
  refine r_bipush (pc := 12) dX11_draws_12 (by decide +kernel) ?_
  refine r_dup2 (pc := 14) dX11_draws_14 rfl rfl ?_
  refine r_ialdU (pc := 15) hs.t_s (by omega) (by omega) dX11_draws_15 (fun hr15 => ?_)
  refine r_iconst (pc := 16) dX11_draws_16 ?_
  refine r_isub (pc := 17) dX11_draws_17 ?_
  refine r_iastU (pc := 18) hs.t_s (by omega) (by omega) (by omega) (by omega) dX11_draws_18 ?_
  refine r_iconst (pc := 19) dX11_draws_19 ?_
  refine r_istore_n3 (pc := 20) (Nat.le_of_ble_eq_true rfl) dX11_draws_20 rfl ?_
  have loop : ∀ (n : Nat) (i : Int) (σ2 : Int → Int), 0 ≤ i → i ≤ σ 7 - 1 → σ2 7 = σ 7 - 1 → σ 7 - 1 - i < n → dl σ2 8 (σ 7 - 1) i = dl (us σ 7 (σ 7 - 1)) 8 (σ 7 - 1) 0 → PW G mX11_draws (rmD (d + 1) 0 0) (MZ G Q nX 0 0) 0 0 (ur I (m + 2) σ2) J P T z 21 [some (.ref m), some (iv k), some (iv (σ 8)), some (iv i)] [] := by
    intro n
    induction n with
    | zero => intro i σ2 h0 h1 h2 h3 h4; omega
    | succ n ih =>
      intro i σ2 h0 h1 h2 h3 h4
      refine r_iload_n (pc := 21) dX11_draws_21 rfl rfl ?_
      refine r_aload_n (pc := 22) dX11_draws_22 rfl rfl ?_
      refine r_getr (pc := 23) (c := 11) (k := 6) (kz := 6) hs.o cok_11 (Nat.le_of_ble_eq_true rfl) q1866 ⟨rfl, rfl⟩ (Or.inl rfl) rfl (fun _ _ _ => rfl) hs.p_s dX11_draws_23 ?_
      refine r_bipush (pc := 26) dX11_draws_26 (by decide +kernel) ?_
      refine r_ialdU (pc := 28) hs.t_s (by omega) (by omega) dX11_draws_28 (fun hr28 => ?_)
      rw [h2]
      refine r_icmp_ge (pc := 29) 58 dX11_draws_29 rfl (by omega) (by omega) (fun h29 => ?_) (fun h29 => ?_)
      · rw [dl_end (by omega)] at h4
        refine r_aload_n (pc := 58) dX11_draws_58 rfl rfl ?_
        refine r_iload_n (pc := 59) dX11_draws_59 rfl rfl ?_
        refine r_iload_n (pc := 60) dX11_draws_60 rfl rfl ?_
        refine r_iconst (pc := 61) dX11_draws_61 ?_
        refine r_callV3 (pc := 62) (M_handOf hs hk h8 fe_i) im_X11_handOf qs73 q2138 hs.o rfl dX11_draws_62 (Nat.le_of_ble_eq_true rfl) (Nat.le_of_ble_eq_true rfl) rfl (k_fi ?_) (fun _ _ _ _ _ _ _ hx => no_x hx)
        refine r_pop (pc := 65) dX11_draws_65 rfl ?_
        refine r_aload_n (pc := 66) dX11_draws_66 rfl rfl ?_
        refine r_getr (pc := 67) (c := 11) (k := 6) (kz := 6) hs.o cok_11 (Nat.le_of_ble_eq_true rfl) q1866 ⟨rfl, rfl⟩ (Or.inl rfl) rfl (fun _ _ _ => rfl) hs.p_s dX11_draws_67 ?_
        refine r_sipush (pc := 70) dX11_draws_70 (by decide +kernel) ?_
        refine r_iload_n (pc := 73) dX11_draws_73 rfl rfl ?_
        refine r_iadd (pc := 74) dX11_draws_74 ?_
        refine r_iload_n (pc := 75) dX11_draws_75 rfl rfl ?_
        refine r_iconst (pc := 76) dX11_draws_76 ?_
        refine r_iadd (pc := 77) dX11_draws_77 ?_
        refine r_iastU (pc := 78) hs.t_s (by omega) (by omega) (by omega) (by omega) dX11_draws_78 ?_
        refine r_iload_n (pc := 79) dX11_draws_79 rfl rfl ?_
        refine r_ireturn (pc := 80) rfl rfl dX11_draws_80 (Nat.le_of_ble_eq_true rfl) (Nat.le_of_ble_eq_true rfl) ?_
        unfold f_draws at hQ
        rw [← h4] at hQ
        exact hQ
      refine r_aload_n (pc := 32) dX11_draws_32 rfl rfl ?_
      refine r_getr (pc := 33) (c := 11) (k := 6) (kz := 6) hs.o cok_11 (Nat.le_of_ble_eq_true rfl) q1866 ⟨rfl, rfl⟩ (Or.inl rfl) rfl (fun _ _ _ => rfl) hs.p_s dX11_draws_33 ?_
      refine r_bipush (pc := 36) dX11_draws_36 (by decide +kernel) ?_
      refine r_iload_n (pc := 38) dX11_draws_38 rfl rfl ?_
      refine r_iadd (pc := 39) dX11_draws_39 ?_
      refine r_aload_n (pc := 40) dX11_draws_40 rfl rfl ?_
      refine r_getr (pc := 41) (c := 11) (k := 6) (kz := 6) hs.o cok_11 (Nat.le_of_ble_eq_true rfl) q1866 ⟨rfl, rfl⟩ (Or.inl rfl) rfl (fun _ _ _ => rfl) hs.p_s dX11_draws_41 ?_
      refine r_bipush (pc := 44) dX11_draws_44 (by decide +kernel) ?_
      refine r_iload_n (pc := 46) dX11_draws_46 rfl rfl ?_
      refine r_iadd (pc := 47) dX11_draws_47 ?_
      refine r_iconst (pc := 48) dX11_draws_48 ?_
      refine r_iadd (pc := 49) dX11_draws_49 ?_
      refine r_ialdU (pc := 50) hs.t_s (by omega) (by omega) dX11_draws_50 (fun hr50 => ?_)
      refine r_iastU (pc := 51) hs.t_s (by omega) (by omega) (by omega) (by omega) dX11_draws_51 ?_
      refine r_iinc3 (pc := 52) (Nat.le_of_ble_eq_true rfl) dX11_draws_52 rfl ?_
      refine r_goto (pc := 55) 21 dX11_draws_55 rfl ?_
      refine ih (i + 1) _ (by omega) (by omega) (by rw [us_n (by omega)]; exact h2) (by omega) ?_
      rw [← h4]
      exact dl_step (by omega)
  exact loop 53 0 _ (by omega) (by omega) us_s (by omega) rfl
theorem M_refills (hs : shM G P T m) {k : Int} (hk : 0 ≤ k ∧ k < 6) (hg : RG σ) (hQ : Q none (ur I (m + 2) (f_refills σ k (σ 7).toNat)) J P T z) : MC G yX11_refills (ws_ yX11_refills cX11_refills 5 (none : Option FieldType)) (d + 3) 0 0 [.ref m, iv k] (ur I (m + 2) σ) J P T z Q nX := by
  have hb := hs.b
  refine MC.of (by decide) (Nat.le_of_ble_eq_true rfl) ?_
  show PW G mX11_refills (rmD (d + 3) 0 0) (MZ G Q nX 0 0) 0 0 (ur I (m + 2) σ) J P T z 0 [some (.ref m), some (iv k), none, none, none] []
  have loop : ∀ (n : Nat) (σ2 : Int → Int) (l2 l3 l4 : Option Value), RG σ2 → σ2 7 ≤ n → Q none (ur I (m + 2) (f_refills σ2 k n)) J P T z → PW G mX11_refills (rmD (d + 3) 0 0) (MZ G Q nX 0 0) 0 0 (ur I (m + 2) σ2) J P T z 0 [some (.ref m), some (iv k), l2, l3, l4] [] := by
    intro n
    induction n with
    | zero =>
      intro σ2 l2 l3 l4 h2 hn hQ
      refine r_aload_n (pc := 0) dX11_refills_0 rfl rfl ?_
      refine r_iload_n (pc := 1) dX11_refills_1 rfl rfl ?_
      refine r_callV1 (pc := 2) (M_cards hs hk fe_i) im_X11_cards qs70 q2126 hs.o rfl dX11_refills_2 (Nat.le_of_ble_eq_true rfl) (Nat.le_of_ble_eq_true rfl) rfl (k_fi ?_) (fun _ _ _ _ _ _ _ hx => no_x hx)
      refine r_if_ne (pc := 5) 97 dX11_refills_5 rfl f_cards_r (fun h5 => ?_) (fun h5 => ?_)
      · refine r_return (pc := 97) rfl dX11_refills_97 (Nat.le_of_ble_eq_true rfl) (Nat.le_of_ble_eq_true rfl) ?_
        exact hQ
      refine r_aload_n (pc := 8) dX11_refills_8 rfl rfl ?_
      refine r_getr (pc := 9) (c := 11) (k := 6) (kz := 6) hs.o cok_11 (Nat.le_of_ble_eq_true rfl) q1866 ⟨rfl, rfl⟩ (Or.inl rfl) rfl (fun _ _ _ => rfl) hs.p_s dX11_refills_9 ?_
      refine r_bipush (pc := 12) dX11_refills_12 (by decide +kernel) ?_
      refine r_ialdU (pc := 14) hs.t_s (by omega) (by omega) dX11_refills_14 (fun hr14 => ?_)
      refine r_if_le (pc := 15) 97 dX11_refills_15 rfl (by omega) (fun h15 => ?_) (fun h15 => ?_)
      · refine r_return (pc := 97) rfl dX11_refills_97 (Nat.le_of_ble_eq_true rfl) (Nat.le_of_ble_eq_true rfl) ?_
        exact hQ
      omega
    | succ n ih =>
      intro σ2 l2 l3 l4 h2 hn hQ
      unfold f_refills at hQ
      refine r_aload_n (pc := 0) dX11_refills_0 rfl rfl ?_
      refine r_iload_n (pc := 1) dX11_refills_1 rfl rfl ?_
      refine r_callV1 (pc := 2) (M_cards hs hk fe_i) im_X11_cards qs70 q2126 hs.o rfl dX11_refills_2 (Nat.le_of_ble_eq_true rfl) (Nat.le_of_ble_eq_true rfl) rfl (k_fi ?_) (fun _ _ _ _ _ _ _ hx => no_x hx)
      refine r_if_ne (pc := 5) 97 dX11_refills_5 rfl f_cards_r (fun h5 => ?_) (fun h5 => ?_)
      · refine r_return (pc := 97) rfl dX11_refills_97 (Nat.le_of_ble_eq_true rfl) (Nat.le_of_ble_eq_true rfl) ?_
        rw [if_neg (fun q => h5 q.1)] at hQ
        exact hQ
      refine r_aload_n (pc := 8) dX11_refills_8 rfl rfl ?_
      refine r_getr (pc := 9) (c := 11) (k := 6) (kz := 6) hs.o cok_11 (Nat.le_of_ble_eq_true rfl) q1866 ⟨rfl, rfl⟩ (Or.inl rfl) rfl (fun _ _ _ => rfl) hs.p_s dX11_refills_9 ?_
      refine r_bipush (pc := 12) dX11_refills_12 (by decide +kernel) ?_
      refine r_ialdU (pc := 14) hs.t_s (by omega) (by omega) dX11_refills_14 (fun hr14 => ?_)
      refine r_if_le (pc := 15) 97 dX11_refills_15 rfl (by omega) (fun h15 => ?_) (fun h15 => ?_)
      · refine r_return (pc := 97) rfl dX11_refills_97 (Nat.le_of_ble_eq_true rfl) (Nat.le_of_ble_eq_true rfl) ?_
        rw [if_neg (by omega)] at hQ
        exact hQ
      refine r_aload_n (pc := 18) dX11_refills_18 rfl rfl ?_
      refine r_getr (pc := 19) (c := 11) (k := 6) (kz := 6) hs.o cok_11 (Nat.le_of_ble_eq_true rfl) q1866 ⟨rfl, rfl⟩ (Or.inl rfl) rfl (fun _ _ _ => rfl) hs.p_s dX11_refills_19 ?_
      refine r_iconst (pc := 22) dX11_refills_22 ?_
      refine r_ialdU (pc := 23) hs.t_s (by omega) (by omega) dX11_refills_23 (fun hr23 => ?_)
      refine r_if_le (pc := 24) 97 dX11_refills_24 rfl (by omega) (fun h24 => ?_) (fun h24 => ?_)
      · refine r_return (pc := 97) rfl dX11_refills_97 (Nat.le_of_ble_eq_true rfl) (Nat.le_of_ble_eq_true rfl) ?_
        rw [if_neg (by omega)] at hQ
        exact hQ
      rw [if_pos ⟨h5, h15, h24⟩] at hQ
      have h7 := h2.h7
      have body : ∀ N : Int, N = (if σ2 3 < σ2 7 then σ2 3 else σ2 7) → PW G mX11_refills (rmD (d + 3) 0 0) (MZ G Q nX 0 0) 0 0 (ur I (m + 2) σ2) J P T z 59 [some (.ref m), some (iv k), l2, l3, l4] [iv N] := by
        intro N hN
        rw [← hN] at hQ
        have hN2 : 0 < N ∧ N ≤ σ2 7 := by rw [hN]; split <;> omega
        refine r_istore_n2 (pc := 59) (Nat.le_of_ble_eq_true rfl) dX11_refills_59 rfl ?_
        refine r_iconst (pc := 60) dX11_refills_60 ?_
        refine r_istore_n3 (pc := 61) (Nat.le_of_ble_eq_true rfl) dX11_refills_61 rfl ?_
        have inner : ∀ (n2 : Nat) (i : Int) (σ3 : Int → Int) (l4 : Option Value), 0 ≤ i → i ≤ N → N - i = n2 → RG σ3 → (n2 : Int) ≤ σ3 7 → f_drawn σ3 k n2 = f_drawn σ2 k N.toNat → PW G mX11_refills (rmD (d + 3) 0 0) (MZ G Q nX 0 0) 0 0 (ur I (m + 2) σ3) J P T z 62 [some (.ref m), some (iv k), some (iv N), some (iv i), l4] [] := by
          intro n2
          induction n2 with
          | zero =>
            intro i σ3 l4 h0 h1 hn2 h3 h37 he
            refine r_iload_n (pc := 62) dX11_refills_62 rfl rfl ?_
            refine r_iload_n (pc := 63) dX11_refills_63 rfl rfl ?_
            refine r_icmp_ge (pc := 64) 94 dX11_refills_64 rfl (by omega) (by omega) (fun h64 => ?_) (fun h64 => ?_)
            · refine r_goto (pc := 94) 0 dX11_refills_94 rfl ?_
              have he : σ3 = f_drawn σ2 k N.toNat := he
              subst he
              obtain ⟨a1, a2, a3⟩ := f_drawn_g hk N.toNat h2 (by omega)
              exact ih _ _ _ _ a1 (by omega) hQ
            omega
          | succ n2 ih2 =>
            intro i σ3 l4 h0 h1 hn2 h3 h37 he
            have h73 := h3.h7
            have h83 : 0 ≤ σ3 8 ∧ σ3 8 < 13 := h3.2.1 0 (by omega) (by omega)
            have ho3 := h3.2.2.1 k hk.1 hk.2
            have e7 := f_draws_7 (σ := σ3) hk h83
            have eo : f_draws σ3 k (229 + k) = σ3 (229 + k) := f_draws_n (by omega) h83 (by omega) (by omega) (by omega) (by omega)
            have hd3 := RG_draws h3 hk (by omega)
            obtain ⟨b1, b2, b3⟩ := f_draw1_g h3 hk (by omega)
            refine r_iload_n (pc := 62) dX11_refills_62 rfl rfl ?_
            refine r_iload_n (pc := 63) dX11_refills_63 rfl rfl ?_
            refine r_icmp_ge (pc := 64) 94 dX11_refills_64 rfl (by omega) (by omega) (fun h64 => ?_) (fun h64 => ?_)
            · omega
            refine r_aload_n (pc := 67) dX11_refills_67 rfl rfl ?_
            refine r_iload_n (pc := 68) dX11_refills_68 rfl rfl ?_
            refine r_callV1 (pc := 69) (M_draws hs hk (by omega) h83 fe_i) im_X11_draws qs77 q2157 hs.o rfl dX11_refills_69 (Nat.le_of_ble_eq_true rfl) (Nat.le_of_ble_eq_true rfl) rfl (k_fi ?_) (fun _ _ _ _ _ _ _ hx => no_x hx)
            refine r_istore4 (pc := 72) (Nat.le_of_ble_eq_true rfl) dX11_refills_72 rfl ?_
            refine r_aload_n (pc := 74) dX11_refills_74 rfl rfl ?_
            refine r_iload_n (pc := 75) dX11_refills_75 rfl rfl ?_
            refine r_iconst (pc := 76) dX11_refills_76 ?_
            refine r_callV2 (pc := 77) (M_adds hs hk (by omega) (by rw [eo]; omega) fe_i) im_X11_adds qs71 q2130 hs.o rfl dX11_refills_77 (Nat.le_of_ble_eq_true rfl) (Nat.le_of_ble_eq_true rfl) rfl (k_fv ?_) (fun _ _ _ _ _ _ _ hx => no_x hx)
            refine r_aload_n (pc := 80) dX11_refills_80 rfl rfl ?_
            refine r_iload_n (pc := 81) dX11_refills_81 rfl rfl ?_
            refine r_iload (pc := 82) dX11_refills_82 rfl ?_
            refine r_callV2 (pc := 84) (M_books hs hk h83 (RG_adds hd3 hk (by omega) (by rw [e7, eo]; omega)) fe_i) im_X11_books qs72 q2134 hs.o rfl dX11_refills_84 (Nat.le_of_ble_eq_true rfl) (Nat.le_of_ble_eq_true rfl) rfl (k_fi ?_) (fun _ _ _ _ _ _ _ hx => no_x hx)
            refine r_pop (pc := 87) dX11_refills_87 rfl ?_
            refine r_iinc3 (pc := 88) (Nat.le_of_ble_eq_true rfl) dX11_refills_88 rfl ?_
            refine r_goto (pc := 91) 62 dX11_refills_91 rfl ?_
            exact ih2 (i + 1) _ _ (by omega) (by omega) (by omega) b1 (by show _ ≤ f_draw1 σ3 k 7; rw [b2]; omega) he
        exact inner N.toNat 0 σ2 l4 (by omega) (by omega) (by omega) h2 (by omega) rfl
      refine r_aload_n (pc := 27) dX11_refills_27 rfl rfl ?_
      refine r_getr (pc := 28) (c := 11) (k := 6) (kz := 6) hs.o cok_11 (Nat.le_of_ble_eq_true rfl) q1866 ⟨rfl, rfl⟩ (Or.inl rfl) rfl (fun _ _ _ => rfl) hs.p_s dX11_refills_28 ?_
      refine r_iconst (pc := 31) dX11_refills_31 ?_
      refine r_ialdU (pc := 32) hs.t_s (by omega) (by omega) dX11_refills_32 (fun hr32 => ?_)
      refine r_aload_n (pc := 33) dX11_refills_33 rfl rfl ?_
      refine r_getr (pc := 34) (c := 11) (k := 6) (kz := 6) hs.o cok_11 (Nat.le_of_ble_eq_true rfl) q1866 ⟨rfl, rfl⟩ (Or.inl rfl) rfl (fun _ _ _ => rfl) hs.p_s dX11_refills_34 ?_
      refine r_bipush (pc := 37) dX11_refills_37 (by decide +kernel) ?_
      refine r_ialdU (pc := 39) hs.t_s (by omega) (by omega) dX11_refills_39 (fun hr39 => ?_)
      refine r_icmp_ge (pc := 40) 52 dX11_refills_40 rfl (by omega) (by omega) (fun h40 => ?_) (fun h40 => ?_)
      · refine r_aload_n (pc := 52) dX11_refills_52 rfl rfl ?_
        refine r_getr (pc := 53) (c := 11) (k := 6) (kz := 6) hs.o cok_11 (Nat.le_of_ble_eq_true rfl) q1866 ⟨rfl, rfl⟩ (Or.inl rfl) rfl (fun _ _ _ => rfl) hs.p_s dX11_refills_53 ?_
        refine r_bipush (pc := 56) dX11_refills_56 (by decide +kernel) ?_
        refine r_ialdU (pc := 58) hs.t_s (by omega) (by omega) dX11_refills_58 (fun hr58 => ?_)
        exact body _ (by rw [if_neg (by omega)])
      refine r_aload_n (pc := 43) dX11_refills_43 rfl rfl ?_
      refine r_getr (pc := 44) (c := 11) (k := 6) (kz := 6) hs.o cok_11 (Nat.le_of_ble_eq_true rfl) q1866 ⟨rfl, rfl⟩ (Or.inl rfl) rfl (fun _ _ _ => rfl) hs.p_s dX11_refills_44 ?_
      refine r_iconst (pc := 47) dX11_refills_47 ?_
      refine r_ialdU (pc := 48) hs.t_s (by omega) (by omega) dX11_refills_48 (fun hr48 => ?_)
      refine r_goto (pc := 49) 59 dX11_refills_49 rfl ?_
      exact body _ (by rw [if_pos h40])
  exact loop _ σ none none none hg (by have := hg.1; omega) hQ
theorem M_settles (hs : shM G P T m) {from_ : Int} (hg : RG σ) (h1 : 0 ≤ σ 1 ∧ σ 1 ≤ 6) (hf : 0 ≤ from_ ∧ from_ ≤ 6) (hQ : Q none (ur I (m + 2) (f_settles σ from_)) J P T z) : MC G yX11_settles (ws_ yX11_settles cX11_settles 4 (none : Option FieldType)) (d + 4) 0 0 [.ref m, iv from_] (ur I (m + 2) σ) J P T z Q nX := by
  have hb := hs.b
  refine MC.of (by decide) (Nat.le_of_ble_eq_true rfl) ?_
  show PW G mX11_settles (rmD (d + 4) 0 0) (MZ G Q nX 0 0) 0 0 (ur I (m + 2) σ) J P T z 0 [some (.ref m), some (iv from_), none, none] []
  refine r_aload_n (pc := 0) dX11_settles_0 rfl rfl ?_
  refine r_getr (pc := 1) (c := 11) (k := 6) (kz := 6) hs.o cok_11 (Nat.le_of_ble_eq_true rfl) q1866 ⟨rfl, rfl⟩ (Or.inl rfl) rfl (fun _ _ _ => rfl) hs.p_s dX11_settles_1 ?_
  refine r_iconst (pc := 4) dX11_settles_4 ?_
  refine r_iconst (pc := 5) dX11_settles_5 ?_
  refine r_iastU (pc := 6) hs.t_s (by omega) (by omega) (by omega) (by omega) dX11_settles_6 ?_
  refine r_iconst (pc := 7) dX11_settles_7 ?_
  refine r_istore_n2 (pc := 8) (Nat.le_of_ble_eq_true rfl) dX11_settles_8 rfl ?_
  have loop : ∀ (n : Nat) (i : Int) (σ2 : Int → Int) (l3 : Option Value), 0 ≤ i → i ≤ σ 1 → σ 1 - i = n → RG σ2 → σ2 1 = σ 1 → Q none (ur I (m + 2) (f_settle σ2 from_ i n)) J P T z → PW G mX11_settles (rmD (d + 4) 0 0) (MZ G Q nX 0 0) 0 0 (ur I (m + 2) σ2) J P T z 9 [some (.ref m), some (iv from_), some (iv i), l3] [] := by
    intro n
    induction n with
    | zero =>
      intro i σ2 l3 h0 hi hn h2 e1 hQ
      refine r_iload_n (pc := 9) dX11_settles_9 rfl rfl ?_
      refine r_aload_n (pc := 10) dX11_settles_10 rfl rfl ?_
      refine r_getr (pc := 11) (c := 11) (k := 6) (kz := 6) hs.o cok_11 (Nat.le_of_ble_eq_true rfl) q1866 ⟨rfl, rfl⟩ (Or.inl rfl) rfl (fun _ _ _ => rfl) hs.p_s dX11_settles_11 ?_
      refine r_iconst (pc := 14) dX11_settles_14 ?_
      refine r_ialdU (pc := 15) hs.t_s (by omega) (by omega) dX11_settles_15 (fun hr15 => ?_)
      rw [e1]
      refine r_icmp_ge (pc := 16) 60 dX11_settles_16 rfl (by omega) (by omega) (fun h16 => ?_) (fun h16 => ?_)
      · refine r_return (pc := 60) rfl dX11_settles_60 (Nat.le_of_ble_eq_true rfl) (Nat.le_of_ble_eq_true rfl) ?_
        exact hQ
      omega
    | succ n ih =>
      intro i σ2 l3 h0 hi hn h2 e1 hQ
      have hk : 0 ≤ (from_ + i) % σ 1 ∧ (from_ + i) % σ 1 < 6 := ⟨Int.emod_nonneg _ (by omega), by have := Int.emod_lt_of_pos (from_ + i) (show 0 < σ 1 by omega); omega⟩
      refine r_iload_n (pc := 9) dX11_settles_9 rfl rfl ?_
      refine r_aload_n (pc := 10) dX11_settles_10 rfl rfl ?_
      refine r_getr (pc := 11) (c := 11) (k := 6) (kz := 6) hs.o cok_11 (Nat.le_of_ble_eq_true rfl) q1866 ⟨rfl, rfl⟩ (Or.inl rfl) rfl (fun _ _ _ => rfl) hs.p_s dX11_settles_11 ?_
      refine r_iconst (pc := 14) dX11_settles_14 ?_
      refine r_ialdU (pc := 15) hs.t_s (by omega) (by omega) dX11_settles_15 (fun hr15 => ?_)
      rw [e1]
      refine r_icmp_ge (pc := 16) 60 dX11_settles_16 rfl (by omega) (by omega) (fun h16 => ?_) (fun h16 => ?_)
      · omega
      refine r_iload_n (pc := 19) dX11_settles_19 rfl rfl ?_
      refine r_iload_n (pc := 20) dX11_settles_20 rfl rfl ?_
      refine r_iadd (pc := 21) dX11_settles_21 ?_
      refine r_aload_n (pc := 22) dX11_settles_22 rfl rfl ?_
      refine r_getr (pc := 23) (c := 11) (k := 6) (kz := 6) hs.o cok_11 (Nat.le_of_ble_eq_true rfl) q1866 ⟨rfl, rfl⟩ (Or.inl rfl) rfl (fun _ _ _ => rfl) hs.p_s dX11_settles_23 ?_
      refine r_iconst (pc := 26) dX11_settles_26 ?_
      refine r_ialdU (pc := 27) hs.t_s (by omega) (by omega) dX11_settles_27 (fun hr27 => ?_)
      rw [e1]
      refine r_irem (pc := 28) dX11_settles_28 (by omega) (by omega) ?_
      refine r_istore_n3 (pc := 29) (Nat.le_of_ble_eq_true rfl) dX11_settles_29 rfl ?_
      refine r_aload_n (pc := 30) dX11_settles_30 rfl rfl ?_
      refine r_iload_n (pc := 31) dX11_settles_31 rfl rfl ?_
      refine r_callV1 (pc := 32) (M_refills hs hk h2 fe_i) im_X11_refills qs76 q2153 hs.o rfl dX11_settles_32 (Nat.le_of_ble_eq_true rfl) (Nat.le_of_ble_eq_true rfl) rfl (k_fv ?_) (fun _ _ _ _ _ _ _ hx => no_x hx)
      obtain ⟨a1, a2, a3⟩ := f_refills_g hk (σ2 7).toNat h2
      have hQ : Q none (ur I (m + 2) (if f_cards (f_refills σ2 ((from_ + i) % σ2 1) (σ2 7).toNat) ((from_ + i) % σ2 1) = 0 then f_settle (f_refills σ2 ((from_ + i) % σ2 1) (σ2 7).toNat) from_ (i + 1) n else us (f_refills σ2 ((from_ + i) % σ2 1) (σ2 7).toNat) 4 ((from_ + i) % σ2 1))) J P T z := hQ
      rw [e1] at hQ
      refine r_aload_n (pc := 35) dX11_settles_35 rfl rfl ?_
      refine r_iload_n (pc := 36) dX11_settles_36 rfl rfl ?_
      refine r_callV1 (pc := 37) (M_cards hs hk fe_i) im_X11_cards qs70 q2126 hs.o rfl dX11_settles_37 (Nat.le_of_ble_eq_true rfl) (Nat.le_of_ble_eq_true rfl) rfl (k_fi ?_) (fun _ _ _ _ _ _ _ hx => no_x hx)
      refine r_if_ne (pc := 40) 46 dX11_settles_40 rfl f_cards_r (fun h40 => ?_) (fun h40 => ?_)
      · refine r_aload_n (pc := 46) dX11_settles_46 rfl rfl ?_
        refine r_getr (pc := 47) (c := 11) (k := 6) (kz := 6) hs.o cok_11 (Nat.le_of_ble_eq_true rfl) q1866 ⟨rfl, rfl⟩ (Or.inl rfl) rfl (fun _ _ _ => rfl) hs.p_s dX11_settles_47 ?_
        refine r_iconst (pc := 50) dX11_settles_50 ?_
        refine r_iload_n (pc := 51) dX11_settles_51 rfl rfl ?_
        refine r_iastU (pc := 52) hs.t_s (by omega) (by omega) (by omega) (by omega) dX11_settles_52 ?_
        refine r_return (pc := 53) rfl dX11_settles_53 (Nat.le_of_ble_eq_true rfl) (Nat.le_of_ble_eq_true rfl) ?_
        rw [if_neg h40] at hQ
        exact hQ
      refine r_goto (pc := 43) 54 dX11_settles_43 rfl ?_
      refine r_iinc2 (pc := 54) (Nat.le_of_ble_eq_true rfl) dX11_settles_54 rfl ?_
      refine r_goto (pc := 57) 9 dX11_settles_57 rfl ?_
      rw [if_pos h40] at hQ
      exact ih (i + 1) _ _ (by omega) (by omega) (by omega) a1 (by rw [a3 1 (by omega) (by omega), e1]) hQ
  exact loop _ 0 _ none (by omega) (by omega) (by omega) (RG_us hg (by omega)) (us_n (by omega)) hQ
end M2
