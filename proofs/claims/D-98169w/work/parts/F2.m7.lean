/-! ===== the model: leader, gains, bents ===== -/
section M7
variable {G : GE} {I J : HI} {P : HP} {T : HT} {z : Nat} {m d : Nat} {Q : QT} {σ u : Int → Int}
theorem M_leader (hs : shM G P T m) (h1 : 0 ≤ σ 1 ∧ σ 1 ≤ 6) (hQ : Q (some (iv (f_lead σ (-1) 0 (σ 1).toNat))) (ur (ui I m 0 0) (m + 2) σ) J P T z) : MC G yX11_leader (ws_ yX11_leader cX11_leader 3 (some FieldType.int)) (d + 1) 0 0 [.ref m] (ur I (m + 2) σ) J P T z Q nX := by
  have hb := hs.b
  refine MC.of (by decide) (Nat.le_of_ble_eq_true rfl) ?_
  show PW G mX11_leader (rmD (d + 1) 0 0) (MZ G Q nX 0 0) 0 0 (ur I (m + 2) σ) J P T z 0 [some (.ref m), none, none] []
  refine r_aload_n (pc := 0) dX11_leader_0 rfl rfl ?_
  refine r_iconst (pc := 1) dX11_leader_1 ?_
  refine r_putiU (pc := 2) (c := 11) (k := 0) (kz := 0) hs.o cok_11 (Nat.le_of_ble_eq_true rfl) q1860 ⟨rfl, rfl⟩ (Or.inl rfl) rfl (by omega) (by omega) rfl rfl (by omega) (fun _ _ _ => rfl) ⟨rfl, rfl⟩ dX11_leader_2 ?_
  refine r_iconst (pc := 5) dX11_leader_5 ?_
  refine r_istore_n1 (pc := 6) (Nat.le_of_ble_eq_true rfl) dX11_leader_6 rfl ?_
  refine r_iconst (pc := 7) dX11_leader_7 ?_
  refine r_istore_n2 (pc := 8) (Nat.le_of_ble_eq_true rfl) dX11_leader_8 rfl ?_
  have loop : ∀ (n : Nat) (best k : Int), -1 ≤ best → 0 ≤ k → best < k → k ≤ σ 1 → σ 1 - k = n → Q (some (iv (f_lead σ best k n))) (ur (ui I m 0 0) (m + 2) σ) J P T z → PW G mX11_leader (rmD (d + 1) 0 0) (MZ G Q nX 0 0) 0 0 (ur (ui I m 0 0) (m + 2) σ) J P T z 9 [some (.ref m), some (iv best), some (iv k)] [] := by
    intro n
    induction n with
    | zero =>
      intro best k g0 g1 g2 g3 gn hQ
      refine r_iload_n (pc := 9) dX11_leader_9 rfl rfl ?_
      refine r_aload_n (pc := 10) dX11_leader_10 rfl rfl ?_
      refine r_getr (pc := 11) (c := 11) (k := 6) (kz := 6) hs.o cok_11 (Nat.le_of_ble_eq_true rfl) q1866 ⟨rfl, rfl⟩ (Or.inl rfl) rfl (fun _ _ _ => rfl) hs.p_s dX11_leader_11 ?_
      refine r_iconst (pc := 14) dX11_leader_14 ?_
      refine r_ialdU (pc := 15) hs.t_s (by omega) (by omega) dX11_leader_15 (fun hr15 => ?_)
      refine r_icmp_ge (pc := 16) 44 dX11_leader_16 rfl (by omega) (by omega) (fun h16 => ?_) (fun h16 => ?_)
      · refine r_iload_n (pc := 44) dX11_leader_44 rfl rfl ?_
        refine r_ireturn (pc := 45) rfl rfl dX11_leader_45 (Nat.le_of_ble_eq_true rfl) (Nat.le_of_ble_eq_true rfl) ?_
        exact hQ
      omega
    | succ n ih =>
      intro best k g0 g1 g2 g3 gn hQ
      unfold f_lead at hQ
      have set : (best < 0 ∨ f_booksOf σ best < f_booksOf σ k) → PW G mX11_leader (rmD (d + 1) 0 0) (MZ G Q nX 0 0) 0 0 (ur (ui I m 0 0) (m + 2) σ) J P T z 36 [some (.ref m), some (iv best), some (iv k)] [] := by
        intro hc
        rw [if_pos hc] at hQ
        refine r_iload_n (pc := 36) dX11_leader_36 rfl rfl ?_
        refine r_istore_n1 (pc := 37) (Nat.le_of_ble_eq_true rfl) dX11_leader_37 rfl ?_
        refine r_iinc2 (pc := 38) (Nat.le_of_ble_eq_true rfl) dX11_leader_38 rfl ?_
        refine r_goto (pc := 41) 9 dX11_leader_41 rfl ?_
        exact ih k (k + 1) (by omega) (by omega) (by omega) (by omega) (by omega) hQ
      refine r_iload_n (pc := 9) dX11_leader_9 rfl rfl ?_
      refine r_aload_n (pc := 10) dX11_leader_10 rfl rfl ?_
      refine r_getr (pc := 11) (c := 11) (k := 6) (kz := 6) hs.o cok_11 (Nat.le_of_ble_eq_true rfl) q1866 ⟨rfl, rfl⟩ (Or.inl rfl) rfl (fun _ _ _ => rfl) hs.p_s dX11_leader_11 ?_
      refine r_iconst (pc := 14) dX11_leader_14 ?_
      refine r_ialdU (pc := 15) hs.t_s (by omega) (by omega) dX11_leader_15 (fun hr15 => ?_)
      refine r_icmp_ge (pc := 16) 44 dX11_leader_16 rfl (by omega) (by omega) (fun h16 => ?_) (fun h16 => ?_)
      · omega
      refine r_iload_n (pc := 19) dX11_leader_19 rfl rfl ?_
      refine r_if_lt (pc := 20) 36 dX11_leader_20 rfl (by omega) (fun h20 => ?_) (fun h20 => ?_)
      · exact set (Or.inl h20)
      refine r_aload_n (pc := 23) dX11_leader_23 rfl rfl ?_
      refine r_iload_n (pc := 24) dX11_leader_24 rfl rfl ?_
      refine r_callV1 (pc := 25) (M_booksOf hs (by omega) fe_i) im_X11_booksOf qs81 q2185 hs.o rfl dX11_leader_25 (Nat.le_of_ble_eq_true rfl) (Nat.le_of_ble_eq_true rfl) rfl (k_fi ?_) (fun _ _ _ _ _ _ _ hx => no_x hx)
      refine r_aload_n (pc := 28) dX11_leader_28 rfl rfl ?_
      refine r_iload_n (pc := 29) dX11_leader_29 rfl rfl ?_
      refine r_callV1 (pc := 30) (M_booksOf hs (by omega) fe_i) im_X11_booksOf qs81 q2185 hs.o rfl dX11_leader_30 (Nat.le_of_ble_eq_true rfl) (Nat.le_of_ble_eq_true rfl) rfl (k_fi ?_) (fun _ _ _ _ _ _ _ hx => no_x hx)
      have r1 := f_booksOf_r (σ := σ) (k := k)
      have r2 := f_booksOf_r (σ := σ) (k := best)
      refine r_icmp_le (pc := 33) 38 dX11_leader_33 rfl (by omega) (by omega) (fun h33 => ?_) (fun h33 => ?_)
      · rw [if_neg (by omega)] at hQ
        refine r_iinc2 (pc := 38) (Nat.le_of_ble_eq_true rfl) dX11_leader_38 rfl ?_
        refine r_goto (pc := 41) 9 dX11_leader_41 rfl ?_
        exact ih best (k + 1) (by omega) (by omega) (by omega) (by omega) (by omega) hQ
      exact set (Or.inr h33)
  exact loop _ (-1) 0 (by omega) (by omega) (by omega) (by omega) (by omega) hQ
theorem M_inHands (hs : shM G P T m) {kind : Int} (hkd : 0 ≤ kind ∧ kind < 13) (h1 : 0 ≤ σ 1 ∧ σ 1 ≤ 6) (hQ : Q (some (iv (f_inHands σ kind))) (ur I (m + 2) σ) J P T z) : MC G yX11_inHands (ws_ yX11_inHands cX11_inHands 4 (some FieldType.int)) (d + 1) 0 0 [.ref m, iv kind] (ur I (m + 2) σ) J P T z Q nX := by
  have hb := hs.b
  refine MC.of (by decide) (Nat.le_of_ble_eq_true rfl) ?_
  show PW G mX11_inHands (rmD (d + 1) 0 0) (MZ G Q nX 0 0) 0 0 (ur I (m + 2) σ) J P T z 0 [some (.ref m), some (iv kind), none, none] []
  refine r_iconst (pc := 0) dX11_inHands_0 ?_
  refine r_istore_n2 (pc := 1) (Nat.le_of_ble_eq_true rfl) dX11_inHands_1 rfl ?_
  refine r_iconst (pc := 2) dX11_inHands_2 ?_
  refine r_istore_n3 (pc := 3) (Nat.le_of_ble_eq_true rfl) dX11_inHands_3 rfl ?_
  have loop : ∀ (n : Nat) (i : Int), 0 ≤ i → i ≤ σ 1 → σ 1 - i < n → PW G mX11_inHands (rmD (d + 1) 0 0) (MZ G Q nX 0 0) 0 0 (ur I (m + 2) σ) J P T z 4 [some (.ref m), some (iv kind), some (iv (sm (fun q => σ (60 + 13 * q + kind)) i.toNat)), some (iv i)] [] := by
    intro n
    induction n with
    | zero => intro i h0 h1 h2; omega
    | succ n ih =>
      intro i g0 g1 g2
      refine r_iload_n (pc := 4) dX11_inHands_4 rfl rfl ?_
      refine r_aload_n (pc := 5) dX11_inHands_5 rfl rfl ?_
      refine r_getr (pc := 6) (c := 11) (k := 6) (kz := 6) hs.o cok_11 (Nat.le_of_ble_eq_true rfl) q1866 ⟨rfl, rfl⟩ (Or.inl rfl) rfl (fun _ _ _ => rfl) hs.p_s dX11_inHands_6 ?_
      refine r_iconst (pc := 9) dX11_inHands_9 ?_
      refine r_ialdU (pc := 10) hs.t_s (by omega) (by omega) dX11_inHands_10 (fun hr10 => ?_)
      refine r_icmp_ge (pc := 11) 30 dX11_inHands_11 rfl (by omega) (by omega) (fun h11 => ?_) (fun h11 => ?_)
      · obtain rfl : i = σ 1 := by omega
        refine r_iload_n (pc := 30) dX11_inHands_30 rfl rfl ?_
        refine r_ireturn (pc := 31) rfl rfl dX11_inHands_31 (Nat.le_of_ble_eq_true rfl) (Nat.le_of_ble_eq_true rfl) ?_
        exact hQ
      refine r_iload_n (pc := 14) dX11_inHands_14 rfl rfl ?_
      refine r_aload_n (pc := 15) dX11_inHands_15 rfl rfl ?_
      refine r_iload_n (pc := 16) dX11_inHands_16 rfl rfl ?_
      refine r_iload_n (pc := 17) dX11_inHands_17 rfl rfl ?_
      refine r_iconst (pc := 18) dX11_inHands_18 ?_
      refine r_callV3 (pc := 19) (M_hand0 hs (by omega) hkd fe_i) im_X11_handOf qs73 q2138 hs.o rfl dX11_inHands_19 (Nat.le_of_ble_eq_true rfl) (Nat.le_of_ble_eq_true rfl) rfl (k_fi ?_) (fun _ _ _ _ _ _ _ hx => no_x hx)
      refine r_iadd (pc := 22) dX11_inHands_22 ?_
      refine r_istore_n2 (pc := 23) (Nat.le_of_ble_eq_true rfl) dX11_inHands_23 rfl ?_
      refine r_iinc3 (pc := 24) (Nat.le_of_ble_eq_true rfl) dX11_inHands_24 rfl ?_
      refine r_goto (pc := 27) 4 dX11_inHands_27 rfl ?_
      rw [sm_succ (f := fun q => σ (60 + 13 * q + kind)) g0]
      exact ih (i + 1) (by omega) (by omega) (by omega)
  exact loop 7 0 (by omega) (by omega) (by omega)
theorem M_gains (hs : shM G P T m) {k : Int} (hk : rg k) (h1 : 0 ≤ σ 1 ∧ σ 1 ≤ 6) (hQ : Q (some (iv (if isP σ k then f_gain σ k else -1))) (ur (ui I m 0 0) (m + 2) σ) J P T z) : MC G yX11_gains (ws_ yX11_gains cX11_gains 4 (some FieldType.int)) (d + 2) 0 0 [.ref m, iv k] (ur I (m + 2) σ) J P T z Q nX := by
  have hb := hs.b
  refine MC.of (by decide) (Nat.le_of_ble_eq_true rfl) ?_
  show PW G mX11_gains (rmD (d + 2) 0 0) (MZ G Q nX 0 0) 0 0 (ur I (m + 2) σ) J P T z 0 [some (.ref m), some (iv k), none, none] []
  refine r_rgU fun hrg => ?_
  refine r_aload_n (pc := 0) dX11_gains_0 rfl rfl ?_
  refine r_iconst (pc := 1) dX11_gains_1 ?_
  refine r_putiU (pc := 2) (c := 11) (k := 0) (kz := 0) hs.o cok_11 (Nat.le_of_ble_eq_true rfl) q1860 ⟨rfl, rfl⟩ (Or.inl rfl) rfl (by omega) (by omega) rfl rfl (by omega) (fun _ _ _ => rfl) ⟨rfl, rfl⟩ dX11_gains_2 ?_
  refine r_aload_n (pc := 5) dX11_gains_5 rfl rfl ?_
  refine r_iload_n (pc := 6) dX11_gains_6 rfl rfl ?_
  refine r_callV1 (pc := 7) (M_isPerson hs hk h1 fe_i) im_X11_isPerson qs78 q2169 hs.o rfl dX11_gains_7 (Nat.le_of_ble_eq_true rfl) (Nat.le_of_ble_eq_true rfl) rfl (k_fi ?_) (fun _ _ _ _ _ _ _ hx => no_x hx)
  refine r_if_ne (pc := 10) 15 dX11_gains_10 rfl bz_g (fun h10 => ?_) (fun h10 => ?_)
  · have g1 := bz_ne.mp h10
    rw [if_pos g1] at hQ
    refine r_aload_n (pc := 15) dX11_gains_15 rfl rfl ?_
    refine r_iload_n (pc := 16) dX11_gains_16 rfl rfl ?_
    refine r_callV1 (pc := 17) (M_booksOf hs (by omega) fe_i) im_X11_booksOf qs81 q2185 hs.o rfl dX11_gains_17 (Nat.le_of_ble_eq_true rfl) (Nat.le_of_ble_eq_true rfl) rfl (k_fi ?_) (fun _ _ _ _ _ _ _ hx => no_x hx)
    refine r_istore_n2 (pc := 20) (Nat.le_of_ble_eq_true rfl) dX11_gains_20 rfl ?_
    refine r_iconst (pc := 21) dX11_gains_21 ?_
    refine r_istore_n3 (pc := 22) (Nat.le_of_ble_eq_true rfl) dX11_gains_22 rfl ?_
    have loop : ∀ (n : Nat) (i : Int), 0 ≤ i → i ≤ 13 → 13 - i < n → PW G mX11_gains (rmD (d + 2) 0 0) (MZ G Q nX 0 0) 0 0 (ur (ui I m 0 0) (m + 2) σ) J P T z 23 [some (.ref m), some (iv k), some (iv (f_booksOf σ k + sm (fun j => bz (0 < σ (60 + 13 * k + j) ∧ wr (f_inHands σ j) = 4)) i.toNat)), some (iv i)] [] := by
      intro n
      induction n with
      | zero => intro i h0 h1 h2; omega
      | succ n ih =>
        intro i h0 h1 h2
        have es := sm_succ (f := fun j => bz (0 < σ (60 + 13 * k + j) ∧ wr (f_inHands σ j) = 4)) h0
        have nxt := ih (i + 1) (by omega)
        rw [← es, ← Int.add_assoc] at nxt
        have bad : ¬ (0 < σ (60 + 13 * k + i) ∧ wr (f_inHands σ i) = 4) → i < 13 → PW G mX11_gains (rmD (d + 2) 0 0) (MZ G Q nX 0 0) 0 0 (ur (ui I m 0 0) (m + 2) σ) J P T z 53 [some (.ref m), some (iv k), some (iv (f_booksOf σ k + sm (fun j => bz (0 < σ (60 + 13 * k + j) ∧ wr (f_inHands σ j) = 4)) i.toNat)), some (iv i)] [iv (f_booksOf σ k + sm (fun j => bz (0 < σ (60 + 13 * k + j) ∧ wr (f_inHands σ j) = 4)) i.toNat)] := by
          intro hc hi
          rw [bz_f hc] at nxt
          refine r_iconst (pc := 53) dX11_gains_53 ?_
          refine r_iadd (pc := 54) dX11_gains_54 ?_
          refine r_istore_n2 (pc := 55) (Nat.le_of_ble_eq_true rfl) dX11_gains_55 rfl ?_
          refine r_iinc3 (pc := 56) (Nat.le_of_ble_eq_true rfl) dX11_gains_56 rfl ?_
          refine r_goto (pc := 59) 23 dX11_gains_59 rfl ?_
          exact nxt (by omega) (by omega)
        refine r_iload_n (pc := 23) dX11_gains_23 rfl rfl ?_
        refine r_bipush (pc := 24) dX11_gains_24 (by decide +kernel) ?_
        refine r_icmp_ge (pc := 26) 62 dX11_gains_26 rfl (by omega) (by omega) (fun h26 => ?_) (fun h26 => ?_)
        · obtain rfl : i = 13 := by omega
          refine r_iload_n (pc := 62) dX11_gains_62 rfl rfl ?_
          refine r_ireturn (pc := 63) rfl rfl dX11_gains_63 (Nat.le_of_ble_eq_true rfl) (Nat.le_of_ble_eq_true rfl) ?_
          exact hQ
        refine r_iload_n (pc := 29) dX11_gains_29 rfl rfl ?_
        refine r_aload_n (pc := 30) dX11_gains_30 rfl rfl ?_
        refine r_iload_n (pc := 31) dX11_gains_31 rfl rfl ?_
        refine r_iload_n (pc := 32) dX11_gains_32 rfl rfl ?_
        refine r_iconst (pc := 33) dX11_gains_33 ?_
        have hr9 := hrg (60 + 13 * k + i)
        refine r_callV3 (pc := 34) (M_hand0 hs (by omega) (by omega) fe_i) im_X11_handOf qs73 q2138 hs.o rfl dX11_gains_34 (Nat.le_of_ble_eq_true rfl) (Nat.le_of_ble_eq_true rfl) rfl (k_fi ?_) (fun _ _ _ _ _ _ _ hx => no_x hx)
        refine r_if_le (pc := 37) 53 dX11_gains_37 rfl (by omega) (fun h37 => ?_) (fun h37 => ?_)
        · exact bad (by omega) h26
        refine r_aload_n (pc := 40) dX11_gains_40 rfl rfl ?_
        refine r_iload_n (pc := 41) dX11_gains_41 rfl rfl ?_
        refine r_callV1 (pc := 42) (M_inHands hs (by omega) (by omega) fe_i) im_X11_inHands qs91 q2295 hs.o rfl dX11_gains_42 (Nat.le_of_ble_eq_true rfl) (Nat.le_of_ble_eq_true rfl) rfl (k_fi ?_) (fun _ _ _ _ _ _ _ hx => no_x hx)
        rw [← iv_wr (x := f_inHands σ i)]
        refine r_iconst (pc := 45) dX11_gains_45 ?_
        refine r_icmp_ne (pc := 46) 53 dX11_gains_46 rfl wr_r (by omega) (fun h46 => ?_) (fun h46 => ?_)
        · exact bad (by omega) h26
        rw [bz_t ⟨h37, h46⟩] at nxt
        refine r_iconst (pc := 49) dX11_gains_49 ?_
        refine r_goto (pc := 50) 54 dX11_gains_50 rfl ?_
        refine r_iadd (pc := 54) dX11_gains_54 ?_
        refine r_istore_n2 (pc := 55) (Nat.le_of_ble_eq_true rfl) dX11_gains_55 rfl ?_
        refine r_iinc3 (pc := 56) (Nat.le_of_ble_eq_true rfl) dX11_gains_56 rfl ?_
        refine r_goto (pc := 59) 23 dX11_gains_59 rfl ?_
        exact nxt (by omega) (by omega)
    have := loop 14 0 (by omega) (by omega) (by omega)
    simp only [show (0 : Int).toNat = 0 from rfl, sm, Int.add_zero] at this
    exact this
  rw [if_neg (bz_0.mp h10)] at hQ
  refine r_iconst (pc := 13) dX11_gains_13 ?_
  refine r_ireturn (pc := 14) rfl rfl dX11_gains_14 (Nat.le_of_ble_eq_true rfl) (Nat.le_of_ble_eq_true rfl) ?_
  exact hQ
theorem M_nwc (hs : shM G P T m) {a : Int} (ha : 0 ≤ a ∧ a < 6) (h1 : 0 < σ 1 ∧ σ 1 ≤ 6) (hQ : Q (some (iv (f_nwc σ a 1 (σ 1 - 1).toNat))) (ur I (m + 2) σ) J P T z) : MC G yX11_nextWithCards (ws_ yX11_nextWithCards cX11_nextWithCards 3 (some FieldType.int)) (d + 1) 0 0 [.ref m, iv a] (ur I (m + 2) σ) J P T z Q nX := by
  have hb := hs.b
  refine MC.of (by decide) (Nat.le_of_ble_eq_true rfl) ?_
  show PW G mX11_nextWithCards (rmD (d + 1) 0 0) (MZ G Q nX 0 0) 0 0 (ur I (m + 2) σ) J P T z 0 [some (.ref m), some (iv a), none] []
  refine r_iconst (pc := 0) dX11_nextWithCards_0 ?_
  refine r_istore_n2 (pc := 1) (Nat.le_of_ble_eq_true rfl) dX11_nextWithCards_1 rfl ?_
  have loop : ∀ (n : Nat) (i : Int), 1 ≤ i → i ≤ σ 1 → σ 1 - i = n → Q (some (iv (f_nwc σ a i n))) (ur I (m + 2) σ) J P T z → PW G mX11_nextWithCards (rmD (d + 1) 0 0) (MZ G Q nX 0 0) 0 0 (ur I (m + 2) σ) J P T z 2 [some (.ref m), some (iv a), some (iv i)] [] := by
    intro n
    induction n with
    | zero =>
      intro i g0 g1 gn hQ
      refine r_iload_n (pc := 2) dX11_nextWithCards_2 rfl rfl ?_
      refine r_aload_n (pc := 3) dX11_nextWithCards_3 rfl rfl ?_
      refine r_getr (pc := 4) (c := 11) (k := 6) (kz := 6) hs.o cok_11 (Nat.le_of_ble_eq_true rfl) q1866 ⟨rfl, rfl⟩ (Or.inl rfl) rfl (fun _ _ _ => rfl) hs.p_s dX11_nextWithCards_4 ?_
      refine r_iconst (pc := 7) dX11_nextWithCards_7 ?_
      refine r_ialdU (pc := 8) hs.t_s (by omega) (by omega) dX11_nextWithCards_8 (fun hr8 => ?_)
      refine r_icmp_ge (pc := 9) 46 dX11_nextWithCards_9 rfl (by omega) (by omega) (fun h9 => ?_) (fun h9 => ?_)
      · refine r_iload_n (pc := 46) dX11_nextWithCards_46 rfl rfl ?_
        refine r_iconst (pc := 47) dX11_nextWithCards_47 ?_
        refine r_iadd (pc := 48) dX11_nextWithCards_48 ?_
        refine r_aload_n (pc := 49) dX11_nextWithCards_49 rfl rfl ?_
        refine r_getr (pc := 50) (c := 11) (k := 6) (kz := 6) hs.o cok_11 (Nat.le_of_ble_eq_true rfl) q1866 ⟨rfl, rfl⟩ (Or.inl rfl) rfl (fun _ _ _ => rfl) hs.p_s dX11_nextWithCards_50 ?_
        refine r_iconst (pc := 53) dX11_nextWithCards_53 ?_
        refine r_ialdU (pc := 54) hs.t_s (by omega) (by omega) dX11_nextWithCards_54 (fun hr54 => ?_)
        refine r_irem (pc := 55) dX11_nextWithCards_55 (by omega) (by omega) ?_
        refine r_ireturn (pc := 56) rfl rfl dX11_nextWithCards_56 (Nat.le_of_ble_eq_true rfl) (Nat.le_of_ble_eq_true rfl) ?_
        exact hQ
      omega
    | succ n ih =>
      intro i g0 g1 gn hQ
      have hk : 0 ≤ (a + i) % σ 1 ∧ (a + i) % σ 1 < 6 := ⟨Int.emod_nonneg _ (by omega), by have := Int.emod_lt_of_pos (a + i) h1.1; omega⟩
      unfold f_nwc at hQ
      refine r_iload_n (pc := 2) dX11_nextWithCards_2 rfl rfl ?_
      refine r_aload_n (pc := 3) dX11_nextWithCards_3 rfl rfl ?_
      refine r_getr (pc := 4) (c := 11) (k := 6) (kz := 6) hs.o cok_11 (Nat.le_of_ble_eq_true rfl) q1866 ⟨rfl, rfl⟩ (Or.inl rfl) rfl (fun _ _ _ => rfl) hs.p_s dX11_nextWithCards_4 ?_
      refine r_iconst (pc := 7) dX11_nextWithCards_7 ?_
      refine r_ialdU (pc := 8) hs.t_s (by omega) (by omega) dX11_nextWithCards_8 (fun hr8 => ?_)
      refine r_icmp_ge (pc := 9) 46 dX11_nextWithCards_9 rfl (by omega) (by omega) (fun h9 => ?_) (fun h9 => ?_)
      · omega
      refine r_aload_n (pc := 12) dX11_nextWithCards_12 rfl rfl ?_
      refine r_iload_n (pc := 13) dX11_nextWithCards_13 rfl rfl ?_
      refine r_iload_n (pc := 14) dX11_nextWithCards_14 rfl rfl ?_
      refine r_iadd (pc := 15) dX11_nextWithCards_15 ?_
      refine r_aload_n (pc := 16) dX11_nextWithCards_16 rfl rfl ?_
      refine r_getr (pc := 17) (c := 11) (k := 6) (kz := 6) hs.o cok_11 (Nat.le_of_ble_eq_true rfl) q1866 ⟨rfl, rfl⟩ (Or.inl rfl) rfl (fun _ _ _ => rfl) hs.p_s dX11_nextWithCards_17 ?_
      refine r_iconst (pc := 20) dX11_nextWithCards_20 ?_
      refine r_ialdU (pc := 21) hs.t_s (by omega) (by omega) dX11_nextWithCards_21 (fun hr21 => ?_)
      refine r_irem (pc := 22) dX11_nextWithCards_22 (by omega) (by omega) ?_
      refine r_callV1 (pc := 23) (M_cards hs hk fe_i) im_X11_cards qs70 q2126 hs.o rfl dX11_nextWithCards_23 (Nat.le_of_ble_eq_true rfl) (Nat.le_of_ble_eq_true rfl) rfl (k_fi ?_) (fun _ _ _ _ _ _ _ hx => no_x hx)
      refine r_if_le (pc := 26) 40 dX11_nextWithCards_26 rfl f_cards_r (fun h26 => ?_) (fun h26 => ?_)
      · rw [if_neg (by omega)] at hQ
        refine r_iinc2 (pc := 40) (Nat.le_of_ble_eq_true rfl) dX11_nextWithCards_40 rfl ?_
        refine r_goto (pc := 43) 2 dX11_nextWithCards_43 rfl ?_
        exact ih (i + 1) (by omega) (by omega) (by omega) hQ
      rw [if_pos h26] at hQ
      refine r_iload_n (pc := 29) dX11_nextWithCards_29 rfl rfl ?_
      refine r_iload_n (pc := 30) dX11_nextWithCards_30 rfl rfl ?_
      refine r_iadd (pc := 31) dX11_nextWithCards_31 ?_
      refine r_aload_n (pc := 32) dX11_nextWithCards_32 rfl rfl ?_
      refine r_getr (pc := 33) (c := 11) (k := 6) (kz := 6) hs.o cok_11 (Nat.le_of_ble_eq_true rfl) q1866 ⟨rfl, rfl⟩ (Or.inl rfl) rfl (fun _ _ _ => rfl) hs.p_s dX11_nextWithCards_33 ?_
      refine r_iconst (pc := 36) dX11_nextWithCards_36 ?_
      refine r_ialdU (pc := 37) hs.t_s (by omega) (by omega) dX11_nextWithCards_37 (fun hr37 => ?_)
      refine r_irem (pc := 38) dX11_nextWithCards_38 (by omega) (by omega) ?_
      refine r_ireturn (pc := 39) rfl rfl dX11_nextWithCards_39 (Nat.le_of_ble_eq_true rfl) (Nat.le_of_ble_eq_true rfl) ?_
      exact hQ
  exact loop (σ 1 - 1).toNat 1 (by omega) (by omega) (by omega) hQ
set_option maxHeartbeats 2000000 in
/-- what a bent asks for, of somebody who has a card (some kind is in the hand) -/
theorem M_bentOf (hs : shM G P T m) {a rule : Int} (ha : 0 ≤ a ∧ a < 6) (hr : rg rule) (h1 : 0 ≤ σ 1 ∧ σ 1 ≤ 6) (hd9 : ∀ p, 0 ≤ p → p < 6 → 0 ≤ σ (565 + p) ∧ σ (565 + p) ≤ 13) (hsm : f_cards σ a ≠ 0 → ∃ j, 0 ≤ j ∧ j < 13 ∧ σ (60 + 13 * a + j) ≠ 0) (hQ : Q (some (iv (f_bent σ a rule))) (ur I (m + 2) σ) J P T z) : MC G yX11_bentOf (ws_ yX11_bentOf cX11_bentOf 7 (some FieldType.int)) (d + 2) 0 0 [.ref m, iv a, iv rule] (ur I (m + 2) σ) J P T z Q nX := by
  have hb := hs.b
  refine MC.of (by decide) (Nat.le_of_ble_eq_true rfl) ?_
  show PW G mX11_bentOf (rmD (d + 2) 0 0) (MZ G Q nX 0 0) 0 0 (ur I (m + 2) σ) J P T z 0 [some (.ref m), some (iv a), some (iv rule), none, none, none, none] []
  refine r_rgU fun hrg => ?_
  unfold f_bent at hQ
  refine r_aload_n (pc := 0) dX11_bentOf_0 rfl rfl ?_
  refine r_iload_n (pc := 1) dX11_bentOf_1 rfl rfl ?_
  refine r_callV1 (pc := 2) (M_cards hs ha fe_i) im_X11_cards qs70 q2126 hs.o rfl dX11_bentOf_2 (Nat.le_of_ble_eq_true rfl) (Nat.le_of_ble_eq_true rfl) rfl (k_fi ?_) (fun _ _ _ _ _ _ _ hx => no_x hx)
  refine r_if_eq (pc := 5) 18 dX11_bentOf_5 rfl f_cards_r (fun h5 => ?_) (fun h5 => ?_)
  · rw [if_pos (Or.inl h5)] at hQ
    refine r_iconst (pc := 18) dX11_bentOf_18 ?_
    refine r_ireturn (pc := 19) rfl rfl dX11_bentOf_19 (Nat.le_of_ble_eq_true rfl) (Nat.le_of_ble_eq_true rfl) ?_
    exact hQ
  refine r_aload_n (pc := 8) dX11_bentOf_8 rfl rfl ?_
  refine r_getr (pc := 9) (c := 11) (k := 6) (kz := 6) hs.o cok_11 (Nat.le_of_ble_eq_true rfl) q1866 ⟨rfl, rfl⟩ (Or.inl rfl) rfl (fun _ _ _ => rfl) hs.p_s dX11_bentOf_9 ?_
  refine r_iconst (pc := 12) dX11_bentOf_12 ?_
  refine r_ialdU (pc := 13) hs.t_s (by omega) (by omega) dX11_bentOf_13 (fun hr13 => ?_)
  refine r_iconst (pc := 14) dX11_bentOf_14 ?_
  refine r_icmp_ge (pc := 15) 20 dX11_bentOf_15 rfl (by omega) (by omega) (fun h15 => ?_) (fun h15 => ?_)
  · rw [if_neg (by omega)] at hQ
    unfold f_bent0 at hQ
    obtain ⟨j0, j1, j2, j3⟩ := hsm h5
    refine r_iconst (pc := 20) dX11_bentOf_20 ?_
    refine r_istore_n3 (pc := 21) (Nat.le_of_ble_eq_true rfl) dX11_bentOf_21 rfl ?_
    have last : ∀ (least : Int) (l4 l5 l6 : Option Value), 0 ≤ least → least < 13 → rule ≠ 2 → Q (some (iv (100 * f_nwc σ a 1 (σ 1 - 1).toNat + (if rule = 3 ∧ 0 ≤ σ (565 + a) - 1 ∧ 0 < σ (60 + 13 * a + (σ (565 + a) - 1)) then σ (565 + a) - 1 else least)))) (ur I (m + 2) σ) J P T z → PW G mX11_bentOf (rmD (d + 2) 0 0) (MZ G Q nX 0 0) 0 0 (ur I (m + 2) σ) J P T z 125 [some (.ref m), some (iv a), some (iv rule), some (iv least), l4, l5, l6] [] := by
      intro least l4 l5 l6 g0 g1 g2 hQ
      have hda := hd9 a ha.1 ha.2
      refine r_iload_n (pc := 125) dX11_bentOf_125 rfl rfl ?_
      refine r_iconst (pc := 126) dX11_bentOf_126 ?_
      refine r_icmp_ne (pc := 127) 234 dX11_bentOf_127 rfl (by omega) (by omega) (fun h127 => ?_) (fun h127 => ?_)
      · refine r_aload_n (pc := 234) dX11_bentOf_234 rfl rfl ?_
        refine r_getr (pc := 235) (c := 11) (k := 6) (kz := 6) hs.o cok_11 (Nat.le_of_ble_eq_true rfl) q1866 ⟨rfl, rfl⟩ (Or.inl rfl) rfl (fun _ _ _ => rfl) hs.p_s dX11_bentOf_235 ?_
        refine r_sipush (pc := 238) dX11_bentOf_238 (by decide +kernel) ?_
        refine r_iload_n (pc := 241) dX11_bentOf_241 rfl rfl ?_
        refine r_iadd (pc := 242) dX11_bentOf_242 ?_
        refine r_ialdU (pc := 243) hs.t_s (by omega) (by omega) dX11_bentOf_243 (fun hr243 => ?_)
        refine r_iconst (pc := 244) dX11_bentOf_244 ?_
        refine r_isub (pc := 245) dX11_bentOf_245 ?_
        refine r_istore4 (pc := 246) (Nat.le_of_ble_eq_true rfl) dX11_bentOf_246 rfl ?_
        refine r_bipush (pc := 248) dX11_bentOf_248 (by decide +kernel) ?_
        refine r_aload_n (pc := 250) dX11_bentOf_250 rfl rfl ?_
        refine r_iload_n (pc := 251) dX11_bentOf_251 rfl rfl ?_
        refine r_callV1 (pc := 252) (M_nwc hs ha (by omega) fe_i) im_X11_nextWithCards qs99 q2345 hs.o rfl dX11_bentOf_252 (Nat.le_of_ble_eq_true rfl) (Nat.le_of_ble_eq_true rfl) rfl (k_fi ?_) (fun _ _ _ _ _ _ _ hx => no_x hx)
        refine r_imul (pc := 255) dX11_bentOf_255 ?_
        refine r_iload_n (pc := 256) dX11_bentOf_256 rfl rfl ?_
        refine r_iconst (pc := 257) dX11_bentOf_257 ?_
        refine r_icmp_ne (pc := 258) 282 dX11_bentOf_258 rfl (by omega) (by omega) (fun h258 => ?_) (fun h258 => ?_)
        · rw [if_neg (by omega)] at hQ
          refine r_iload_n (pc := 282) dX11_bentOf_282 rfl rfl ?_
          refine r_iadd (pc := 283) dX11_bentOf_283 ?_
          refine r_ireturn (pc := 284) rfl rfl dX11_bentOf_284 (Nat.le_of_ble_eq_true rfl) (Nat.le_of_ble_eq_true rfl) ?_
          exact hQ
        refine r_iload (pc := 261) dX11_bentOf_261 rfl ?_
        refine r_if_lt (pc := 263) 282 dX11_bentOf_263 rfl (by omega) (fun h263 => ?_) (fun h263 => ?_)
        · rw [if_neg (by omega)] at hQ
          refine r_iload_n (pc := 282) dX11_bentOf_282 rfl rfl ?_
          refine r_iadd (pc := 283) dX11_bentOf_283 ?_
          refine r_ireturn (pc := 284) rfl rfl dX11_bentOf_284 (Nat.le_of_ble_eq_true rfl) (Nat.le_of_ble_eq_true rfl) ?_
          exact hQ
        have hr9 := hrg (60 + 13 * a + (σ (565 + a) - 1))
        refine r_aload_n (pc := 266) dX11_bentOf_266 rfl rfl ?_
        refine r_iload_n (pc := 267) dX11_bentOf_267 rfl rfl ?_
        refine r_iload (pc := 268) dX11_bentOf_268 rfl ?_
        refine r_iconst (pc := 270) dX11_bentOf_270 ?_
        refine r_callV3 (pc := 271) (M_hand0 hs ha (by omega) fe_i) im_X11_handOf qs73 q2138 hs.o rfl dX11_bentOf_271 (Nat.le_of_ble_eq_true rfl) (Nat.le_of_ble_eq_true rfl) rfl (k_fi ?_) (fun _ _ _ _ _ _ _ hx => no_x hx)
        refine r_if_le (pc := 274) 282 dX11_bentOf_274 rfl (by omega) (fun h274 => ?_) (fun h274 => ?_)
        · rw [if_neg (by omega)] at hQ
          refine r_iload_n (pc := 282) dX11_bentOf_282 rfl rfl ?_
          refine r_iadd (pc := 283) dX11_bentOf_283 ?_
          refine r_ireturn (pc := 284) rfl rfl dX11_bentOf_284 (Nat.le_of_ble_eq_true rfl) (Nat.le_of_ble_eq_true rfl) ?_
          exact hQ
        rw [if_pos ⟨h258, h263, h274⟩] at hQ
        refine r_iload (pc := 277) dX11_bentOf_277 rfl ?_
        refine r_goto (pc := 279) 283 dX11_bentOf_279 rfl ?_
        refine r_iadd (pc := 283) dX11_bentOf_283 ?_
        refine r_ireturn (pc := 284) rfl rfl dX11_bentOf_284 (Nat.le_of_ble_eq_true rfl) (Nat.le_of_ble_eq_true rfl) ?_
        exact hQ
      exact absurd h127 g2
    have two : ∀ (least : Int) (l4 l5 l6 : Option Value), 0 ≤ least → least < 13 → rule = 2 → Q (some (iv (100 * f_who σ a (-1) 0 (σ 1).toNat + f_most σ a least least (13 - least).toNat))) (ur I (m + 2) σ) J P T z → PW G mX11_bentOf (rmD (d + 2) 0 0) (MZ G Q nX 0 0) 0 0 (ur I (m + 2) σ) J P T z 125 [some (.ref m), some (iv a), some (iv rule), some (iv least), l4, l5, l6] [] := by
      intro least l4 l5 l6 g0 g1 g2 hQ
      refine r_iload_n (pc := 125) dX11_bentOf_125 rfl rfl ?_
      refine r_iconst (pc := 126) dX11_bentOf_126 ?_
      refine r_icmp_ne (pc := 127) 234 dX11_bentOf_127 rfl (by omega) (by omega) (fun h127 => ?_) (fun h127 => ?_)
      · exact absurd g2 h127
      refine r_iconst (pc := 130) dX11_bentOf_130 ?_
      refine r_istore4 (pc := 131) (Nat.le_of_ble_eq_true rfl) dX11_bentOf_131 rfl ?_
      refine r_iconst (pc := 133) dX11_bentOf_133 ?_
      refine r_istore5 (pc := 134) (Nat.le_of_ble_eq_true rfl) dX11_bentOf_134 rfl ?_
      have loop2 : ∀ (n : Nat) (most k who q : Int), 0 ≤ most → most < 13 → 0 ≤ k → k ≤ 13 → 13 - k = n → Q (some (iv (100 * who + f_most σ a most k n))) (ur I (m + 2) σ) J P T z → PW G mX11_bentOf (rmD (d + 2) 0 0) (MZ G Q nX 0 0) 0 0 (ur I (m + 2) σ) J P T z 189 [some (.ref m), some (iv a), some (iv rule), some (iv least), some (iv who), some (iv most), some (iv k)] [] := by
        intro n
        induction n with
        | zero =>
          intro most k who q p0 p1 p2 p3 pn hQ
          refine r_iload (pc := 189) dX11_bentOf_189 rfl ?_
          refine r_bipush (pc := 191) dX11_bentOf_191 (by decide +kernel) ?_
          refine r_icmp_ge (pc := 193) 225 dX11_bentOf_193 rfl (by omega) (by omega) (fun h193 => ?_) (fun h193 => ?_)
          · refine r_bipush (pc := 225) dX11_bentOf_225 (by decide +kernel) ?_
            refine r_iload (pc := 227) dX11_bentOf_227 rfl ?_
            refine r_imul (pc := 229) dX11_bentOf_229 ?_
            refine r_iload (pc := 230) dX11_bentOf_230 rfl ?_
            refine r_iadd (pc := 232) dX11_bentOf_232 ?_
            refine r_ireturn (pc := 233) rfl rfl dX11_bentOf_233 (Nat.le_of_ble_eq_true rfl) (Nat.le_of_ble_eq_true rfl) ?_
            exact hQ
          omega
        | succ n ih =>
          intro most k who q p0 p1 p2 p3 pn hQ
          unfold f_most at hQ
          have hr1 := hrg (60 + 13 * a + k)
          have hr2 := hrg (60 + 13 * a + most)
          refine r_iload (pc := 189) dX11_bentOf_189 rfl ?_
          refine r_bipush (pc := 191) dX11_bentOf_191 (by decide +kernel) ?_
          refine r_icmp_ge (pc := 193) 225 dX11_bentOf_193 rfl (by omega) (by omega) (fun h193 => ?_) (fun h193 => ?_)
          · omega
          refine r_aload_n (pc := 196) dX11_bentOf_196 rfl rfl ?_
          refine r_iload_n (pc := 197) dX11_bentOf_197 rfl rfl ?_
          refine r_iload (pc := 198) dX11_bentOf_198 rfl ?_
          refine r_iconst (pc := 200) dX11_bentOf_200 ?_
          refine r_callV3 (pc := 201) (M_hand0 hs ha (by omega) fe_i) im_X11_handOf qs73 q2138 hs.o rfl dX11_bentOf_201 (Nat.le_of_ble_eq_true rfl) (Nat.le_of_ble_eq_true rfl) rfl (k_fi ?_) (fun _ _ _ _ _ _ _ hx => no_x hx)
          refine r_aload_n (pc := 204) dX11_bentOf_204 rfl rfl ?_
          refine r_iload_n (pc := 205) dX11_bentOf_205 rfl rfl ?_
          refine r_iload (pc := 206) dX11_bentOf_206 rfl ?_
          refine r_iconst (pc := 208) dX11_bentOf_208 ?_
          refine r_callV3 (pc := 209) (M_hand0 hs ha (by omega) fe_i) im_X11_handOf qs73 q2138 hs.o rfl dX11_bentOf_209 (Nat.le_of_ble_eq_true rfl) (Nat.le_of_ble_eq_true rfl) rfl (k_fi ?_) (fun _ _ _ _ _ _ _ hx => no_x hx)
          refine r_icmp_le (pc := 212) 219 dX11_bentOf_212 rfl (by omega) (by omega) (fun h212 => ?_) (fun h212 => ?_)
          · rw [if_neg (by omega)] at hQ
            refine r_iinc6 (pc := 219) (Nat.le_of_ble_eq_true rfl) dX11_bentOf_219 rfl ?_
            refine r_goto (pc := 222) 189 dX11_bentOf_222 rfl ?_
            exact ih most (k + 1) who q (by omega) (by omega) (by omega) (by omega) (by omega) hQ
          rw [if_pos h212] at hQ
          refine r_iload (pc := 215) dX11_bentOf_215 rfl ?_
          refine r_istore5 (pc := 217) (Nat.le_of_ble_eq_true rfl) dX11_bentOf_217 rfl ?_
          refine r_iinc6 (pc := 219) (Nat.le_of_ble_eq_true rfl) dX11_bentOf_219 rfl ?_
          refine r_goto (pc := 222) 189 dX11_bentOf_222 rfl ?_
          exact ih k (k + 1) who q (by omega) (by omega) (by omega) (by omega) (by omega) hQ
      have loop1 : ∀ (n : Nat) (who q : Int), -1 ≤ who → 0 ≤ q → who < q → q ≤ σ 1 → σ 1 - q = n → Q (some (iv (100 * f_who σ a who q n + f_most σ a least least (13 - least).toNat))) (ur I (m + 2) σ) J P T z → PW G mX11_bentOf (rmD (d + 2) 0 0) (MZ G Q nX 0 0) 0 0 (ur I (m + 2) σ) J P T z 136 [some (.ref m), some (iv a), some (iv rule), some (iv least), some (iv who), some (iv q), l6] [] := by
        intro n
        induction n with
        | zero =>
          intro who q p0 p1 p2 p3 pn hQ
          refine r_iload (pc := 136) dX11_bentOf_136 rfl ?_
          refine r_aload_n (pc := 138) dX11_bentOf_138 rfl rfl ?_
          refine r_getr (pc := 139) (c := 11) (k := 6) (kz := 6) hs.o cok_11 (Nat.le_of_ble_eq_true rfl) q1866 ⟨rfl, rfl⟩ (Or.inl rfl) rfl (fun _ _ _ => rfl) hs.p_s dX11_bentOf_139 ?_
          refine r_iconst (pc := 142) dX11_bentOf_142 ?_
          refine r_ialdU (pc := 143) hs.t_s (by omega) (by omega) dX11_bentOf_143 (fun hr143 => ?_)
          refine r_icmp_ge (pc := 144) 183 dX11_bentOf_144 rfl (by omega) (by omega) (fun h144 => ?_) (fun h144 => ?_)
          · refine r_iload_n (pc := 183) dX11_bentOf_183 rfl rfl ?_
            refine r_istore5 (pc := 184) (Nat.le_of_ble_eq_true rfl) dX11_bentOf_184 rfl ?_
            refine r_iload_n (pc := 186) dX11_bentOf_186 rfl rfl ?_
            refine r_istore6 (pc := 187) (Nat.le_of_ble_eq_true rfl) dX11_bentOf_187 rfl ?_
            exact loop2 _ _ _ _ 0 (by omega) (by omega) (by omega) (by omega) (by omega) hQ
          omega
        | succ n ih =>
          intro who q p0 p1 p2 p3 pn hQ
          unfold f_who at hQ
          have skip : ¬ (q ≠ a ∧ (who < 0 ∨ f_cards σ who < f_cards σ q)) → PW G mX11_bentOf (rmD (d + 2) 0 0) (MZ G Q nX 0 0) 0 0 (ur I (m + 2) σ) J P T z 177 [some (.ref m), some (iv a), some (iv rule), some (iv least), some (iv who), some (iv q), l6] [] := by
            intro hc
            rw [if_neg hc] at hQ
            refine r_iinc5 (pc := 177) (Nat.le_of_ble_eq_true rfl) dX11_bentOf_177 rfl ?_
            refine r_goto (pc := 180) 136 dX11_bentOf_180 rfl ?_
            exact ih who (q + 1) p0 (by omega) (by omega) (by omega) (by omega) hQ
          have take : (q ≠ a ∧ (who < 0 ∨ f_cards σ who < f_cards σ q)) → PW G mX11_bentOf (rmD (d + 2) 0 0) (MZ G Q nX 0 0) 0 0 (ur I (m + 2) σ) J P T z 173 [some (.ref m), some (iv a), some (iv rule), some (iv least), some (iv who), some (iv q), l6] [] := by
            intro hc
            rw [if_pos hc] at hQ
            refine r_iload (pc := 173) dX11_bentOf_173 rfl ?_
            refine r_istore4 (pc := 175) (Nat.le_of_ble_eq_true rfl) dX11_bentOf_175 rfl ?_
            refine r_iinc5 (pc := 177) (Nat.le_of_ble_eq_true rfl) dX11_bentOf_177 rfl ?_
            refine r_goto (pc := 180) 136 dX11_bentOf_180 rfl ?_
            exact ih q (q + 1) (by omega) (by omega) (by omega) (by omega) (by omega) hQ
          refine r_iload (pc := 136) dX11_bentOf_136 rfl ?_
          refine r_aload_n (pc := 138) dX11_bentOf_138 rfl rfl ?_
          refine r_getr (pc := 139) (c := 11) (k := 6) (kz := 6) hs.o cok_11 (Nat.le_of_ble_eq_true rfl) q1866 ⟨rfl, rfl⟩ (Or.inl rfl) rfl (fun _ _ _ => rfl) hs.p_s dX11_bentOf_139 ?_
          refine r_iconst (pc := 142) dX11_bentOf_142 ?_
          refine r_ialdU (pc := 143) hs.t_s (by omega) (by omega) dX11_bentOf_143 (fun hr143 => ?_)
          refine r_icmp_ge (pc := 144) 183 dX11_bentOf_144 rfl (by omega) (by omega) (fun h144 => ?_) (fun h144 => ?_)
          · omega
          refine r_iload (pc := 147) dX11_bentOf_147 rfl ?_
          refine r_iload_n (pc := 149) dX11_bentOf_149 rfl rfl ?_
          refine r_icmp_eq (pc := 150) 177 dX11_bentOf_150 rfl (by omega) (by omega) (fun h150 => ?_) (fun h150 => ?_)
          · exact skip (by omega)
          refine r_iload (pc := 153) dX11_bentOf_153 rfl ?_
          refine r_if_lt (pc := 155) 173 dX11_bentOf_155 rfl (by omega) (fun h155 => ?_) (fun h155 => ?_)
          · exact take ⟨h150, Or.inl h155⟩
          refine r_aload_n (pc := 158) dX11_bentOf_158 rfl rfl ?_
          refine r_iload (pc := 159) dX11_bentOf_159 rfl ?_
          refine r_callV1 (pc := 161) (M_cards hs (by omega) fe_i) im_X11_cards qs70 q2126 hs.o rfl dX11_bentOf_161 (Nat.le_of_ble_eq_true rfl) (Nat.le_of_ble_eq_true rfl) rfl (k_fi ?_) (fun _ _ _ _ _ _ _ hx => no_x hx)
          refine r_aload_n (pc := 164) dX11_bentOf_164 rfl rfl ?_
          refine r_iload (pc := 165) dX11_bentOf_165 rfl ?_
          refine r_callV1 (pc := 167) (M_cards hs (by omega) fe_i) im_X11_cards qs70 q2126 hs.o rfl dX11_bentOf_167 (Nat.le_of_ble_eq_true rfl) (Nat.le_of_ble_eq_true rfl) rfl (k_fi ?_) (fun _ _ _ _ _ _ _ hx => no_x hx)
          refine r_icmp_le (pc := 170) 177 dX11_bentOf_170 rfl f_cards_r f_cards_r (fun h170 => ?_) (fun h170 => ?_)
          · exact skip (by omega)
          exact take ⟨h150, Or.inr h170⟩
      exact loop1 _ (-1) 0 (by omega) (by omega) (by omega) (by omega) (by omega) hQ
    have first : ∀ (n : Nat) (i : Int), 0 ≤ i → i ≤ j0 → 13 - i = n → f_least σ a i n = f_least σ a 0 13 → PW G mX11_bentOf (rmD (d + 2) 0 0) (MZ G Q nX 0 0) 0 0 (ur I (m + 2) σ) J P T z 22 [some (.ref m), some (iv a), some (iv rule), some (iv i), none, none, none] [] := by
      intro n
      induction n with
      | zero => intro i g0 g1 gn he; omega
      | succ n ih =>
        intro i g0 g1 gn he
        have hr9 := hrg (60 + 13 * a + i)
        refine r_aload_n (pc := 22) dX11_bentOf_22 rfl rfl ?_
        refine r_iload_n (pc := 23) dX11_bentOf_23 rfl rfl ?_
        refine r_iload_n (pc := 24) dX11_bentOf_24 rfl rfl ?_
        refine r_iconst (pc := 25) dX11_bentOf_25 ?_
        refine r_callV3 (pc := 26) (M_hand0 hs ha (by omega) fe_i) im_X11_handOf qs73 q2138 hs.o rfl dX11_bentOf_26 (Nat.le_of_ble_eq_true rfl) (Nat.le_of_ble_eq_true rfl) rfl (k_fi ?_) (fun _ _ _ _ _ _ _ hx => no_x hx)
        refine r_if_ne (pc := 29) 38 dX11_bentOf_29 rfl (by omega) (fun h29 => ?_) (fun h29 => ?_)
        · have e : f_least σ a 0 13 = i := by rw [← he]; exact if_neg h29
          rw [e] at hQ
          refine r_iload_n (pc := 38) dX11_bentOf_38 rfl rfl ?_
          refine r_iconst (pc := 39) dX11_bentOf_39 ?_
          refine r_icmp_ne (pc := 40) 125 dX11_bentOf_40 rfl (by omega) (by omega) (fun h40 => ?_) (fun h40 => ?_)
          · rw [if_neg (fun q => h40 q.1)] at hQ
            by_cases r2 : rule = 2
            · rw [if_pos r2] at hQ
              exact two i _ _ _ g0 (by omega) r2 hQ
            · rw [if_neg r2] at hQ
              exact last i _ _ _ g0 (by omega) r2 hQ
          refine r_iconst (pc := 43) dX11_bentOf_43 ?_
          refine r_istore4 (pc := 44) (Nat.le_of_ble_eq_true rfl) dX11_bentOf_44 rfl ?_
          have known : ∀ (n2 : Nat) (q : Int) (l5 : Option Value), 0 ≤ q → q ≤ σ 1 → σ 1 - q = n2 → f_kn σ a q n2 = f_kn σ a 0 (σ 1).toNat → PW G mX11_bentOf (rmD (d + 2) 0 0) (MZ G Q nX 0 0) 0 0 (ur I (m + 2) σ) J P T z 46 [some (.ref m), some (iv a), some (iv rule), some (iv i), some (iv q), l5, none] [] := by
            intro n2
            induction n2 with
            | zero =>
              intro q l5 p0 p1 pn hk
              have hk : -1 = f_kn σ a 0 (σ 1).toNat := hk
              refine r_iload (pc := 46) dX11_bentOf_46 rfl ?_
              refine r_aload_n (pc := 48) dX11_bentOf_48 rfl rfl ?_
              refine r_getr (pc := 49) (c := 11) (k := 6) (kz := 6) hs.o cok_11 (Nat.le_of_ble_eq_true rfl) q1866 ⟨rfl, rfl⟩ (Or.inl rfl) rfl (fun _ _ _ => rfl) hs.p_s dX11_bentOf_49 ?_
              refine r_iconst (pc := 52) dX11_bentOf_52 ?_
              refine r_ialdU (pc := 53) hs.t_s (by omega) (by omega) dX11_bentOf_53 (fun hr53 => ?_)
              refine r_icmp_ge (pc := 54) 125 dX11_bentOf_54 rfl (by omega) (by omega) (fun h54 => ?_) (fun h54 => ?_)
              · rw [if_neg (fun q => q.2 hk.symm), if_neg (by omega)] at hQ
                exact last i _ _ _ g0 (by omega) (by omega) hQ
              omega
            | succ n2 ih2 =>
              intro q l5 p0 p1 pn hk
              have hk0 : (if f_kn1 σ a q 0 13 = -1 then f_kn σ a (q + 1) n2 else f_kn1 σ a q 0 13) = f_kn σ a 0 (σ 1).toNat := hk
              refine r_iload (pc := 46) dX11_bentOf_46 rfl ?_
              refine r_aload_n (pc := 48) dX11_bentOf_48 rfl rfl ?_
              refine r_getr (pc := 49) (c := 11) (k := 6) (kz := 6) hs.o cok_11 (Nat.le_of_ble_eq_true rfl) q1866 ⟨rfl, rfl⟩ (Or.inl rfl) rfl (fun _ _ _ => rfl) hs.p_s dX11_bentOf_49 ?_
              refine r_iconst (pc := 52) dX11_bentOf_52 ?_
              refine r_ialdU (pc := 53) hs.t_s (by omega) (by omega) dX11_bentOf_53 (fun hr53 => ?_)
              refine r_icmp_ge (pc := 54) 125 dX11_bentOf_54 rfl (by omega) (by omega) (fun h54 => ?_) (fun h54 => ?_)
              · omega
              refine r_iconst (pc := 57) dX11_bentOf_57 ?_
              refine r_istore5 (pc := 58) (Nat.le_of_ble_eq_true rfl) dX11_bentOf_58 rfl ?_
              have inner : ∀ (n3 : Nat) (k : Int), 0 ≤ k → k ≤ 13 → 13 - k = n3 → f_kn1 σ a q k n3 = f_kn1 σ a q 0 13 → PW G mX11_bentOf (rmD (d + 2) 0 0) (MZ G Q nX 0 0) 0 0 (ur I (m + 2) σ) J P T z 60 [some (.ref m), some (iv a), some (iv rule), some (iv i), some (iv q), some (iv k), none] [] := by
                intro n3
                induction n3 with
                | zero =>
                  intro k k0 k1 kn9 hk3
                  have hk3 : -1 = f_kn1 σ a q 0 13 := hk3
                  refine r_iload (pc := 60) dX11_bentOf_60 rfl ?_
                  refine r_bipush (pc := 62) dX11_bentOf_62 (by decide +kernel) ?_
                  refine r_icmp_ge (pc := 64) 119 dX11_bentOf_64 rfl (by omega) (by omega) (fun h64 => ?_) (fun h64 => ?_)
                  · rw [if_pos hk3.symm] at hk0
                    refine r_iinc4 (pc := 119) (Nat.le_of_ble_eq_true rfl) dX11_bentOf_119 rfl ?_
                    refine r_goto (pc := 122) 46 dX11_bentOf_122 rfl ?_
                    exact ih2 (q + 1) _ (by omega) (by omega) (by omega) hk0
                  omega
                | succ n3 ih3 =>
                  intro k k0 k1 kn9 hk3
                  have hk4 : (if q ≠ a ∧ 0 < σ (151 + 13 * q + k) ∧ 0 < σ (60 + 13 * a + k) then 100 * q + k else f_kn1 σ a q (k + 1) n3) = f_kn1 σ a q 0 13 := hk3
                  have skip : ¬ (q ≠ a ∧ 0 < σ (151 + 13 * q + k) ∧ 0 < σ (60 + 13 * a + k)) → PW G mX11_bentOf (rmD (d + 2) 0 0) (MZ G Q nX 0 0) 0 0 (ur I (m + 2) σ) J P T z 113 [some (.ref m), some (iv a), some (iv rule), some (iv i), some (iv q), some (iv k), none] [] := by
                    intro hc
                    rw [if_neg hc] at hk4
                    refine r_iinc5 (pc := 113) (Nat.le_of_ble_eq_true rfl) dX11_bentOf_113 rfl ?_
                    refine r_goto (pc := 116) 60 dX11_bentOf_116 rfl ?_
                    exact ih3 (k + 1) (by omega) (by omega) (by omega) hk4
                  have hr8 := hrg (60 + 13 * a + k)
                  refine r_iload (pc := 60) dX11_bentOf_60 rfl ?_
                  refine r_bipush (pc := 62) dX11_bentOf_62 (by decide +kernel) ?_
                  refine r_icmp_ge (pc := 64) 119 dX11_bentOf_64 rfl (by omega) (by omega) (fun h64 => ?_) (fun h64 => ?_)
                  · omega
                  refine r_iload (pc := 67) dX11_bentOf_67 rfl ?_
                  refine r_iload_n (pc := 69) dX11_bentOf_69 rfl rfl ?_
                  refine r_icmp_eq (pc := 70) 113 dX11_bentOf_70 rfl (by omega) (by omega) (fun h70 => ?_) (fun h70 => ?_)
                  · exact skip (by omega)
                  refine r_aload_n (pc := 73) dX11_bentOf_73 rfl rfl ?_
                  refine r_getr (pc := 74) (c := 11) (k := 6) (kz := 6) hs.o cok_11 (Nat.le_of_ble_eq_true rfl) q1866 ⟨rfl, rfl⟩ (Or.inl rfl) rfl (fun _ _ _ => rfl) hs.p_s dX11_bentOf_74 ?_
                  refine r_sipush (pc := 77) dX11_bentOf_77 (by decide +kernel) ?_
                  refine r_bipush (pc := 80) dX11_bentOf_80 (by decide +kernel) ?_
                  refine r_iload (pc := 82) dX11_bentOf_82 rfl ?_
                  refine r_imul (pc := 84) dX11_bentOf_84 ?_
                  refine r_iadd (pc := 85) dX11_bentOf_85 ?_
                  refine r_iload (pc := 86) dX11_bentOf_86 rfl ?_
                  refine r_iadd (pc := 88) dX11_bentOf_88 ?_
                  refine r_ialdU (pc := 89) hs.t_s (by omega) (by omega) dX11_bentOf_89 (fun hr89 => ?_)
                  refine r_if_le (pc := 90) 113 dX11_bentOf_90 rfl (by omega) (fun h90 => ?_) (fun h90 => ?_)
                  · exact skip (by omega)
                  refine r_aload_n (pc := 93) dX11_bentOf_93 rfl rfl ?_
                  refine r_iload_n (pc := 94) dX11_bentOf_94 rfl rfl ?_
                  refine r_iload (pc := 95) dX11_bentOf_95 rfl ?_
                  refine r_iconst (pc := 97) dX11_bentOf_97 ?_
                  refine r_callV3 (pc := 98) (M_hand0 hs ha (by omega) fe_i) im_X11_handOf qs73 q2138 hs.o rfl dX11_bentOf_98 (Nat.le_of_ble_eq_true rfl) (Nat.le_of_ble_eq_true rfl) rfl (k_fi ?_) (fun _ _ _ _ _ _ _ hx => no_x hx)
                  refine r_if_le (pc := 101) 113 dX11_bentOf_101 rfl (by omega) (fun h101 => ?_) (fun h101 => ?_)
                  · exact skip (by omega)
                  rw [if_pos ⟨h70, h90, h101⟩] at hk4
                  rw [if_neg (by omega), ← hk4] at hk0
                  rw [← hk0, if_pos ⟨h40, by omega⟩] at hQ
                  refine r_bipush (pc := 104) dX11_bentOf_104 (by decide +kernel) ?_
                  refine r_iload (pc := 106) dX11_bentOf_106 rfl ?_
                  refine r_imul (pc := 108) dX11_bentOf_108 ?_
                  refine r_iload (pc := 109) dX11_bentOf_109 rfl ?_
                  refine r_iadd (pc := 111) dX11_bentOf_111 ?_
                  refine r_ireturn (pc := 112) rfl rfl dX11_bentOf_112 (Nat.le_of_ble_eq_true rfl) (Nat.le_of_ble_eq_true rfl) ?_
                  exact hQ
              exact inner 13 0 (by omega) (by omega) (by omega) rfl
          exact known (σ 1).toNat 0 _ (by omega) (by omega) (by omega) rfl
        have he : f_least σ a (i + 1) n = f_least σ a 0 13 := by rw [← he]; exact (if_pos h29).symm
        refine r_iinc3 (pc := 32) (Nat.le_of_ble_eq_true rfl) dX11_bentOf_32 rfl ?_
        refine r_goto (pc := 35) 22 dX11_bentOf_35 rfl ?_
        refine ih (i + 1) (by omega) ?_ (by omega) he
        rcases Int.lt_or_eq_of_le g1 with q | q
        · omega
        · exact absurd (q ▸ h29) j3
    exact first 13 0 (by omega) (by omega) (by omega) rfl
  rw [if_pos (Or.inr h15)] at hQ
  refine r_iconst (pc := 18) dX11_bentOf_18 ?_
  refine r_ireturn (pc := 19) rfl rfl dX11_bentOf_19 (Nat.le_of_ble_eq_true rfl) (Nat.le_of_ble_eq_true rfl) ?_
  exact hQ
end M7
