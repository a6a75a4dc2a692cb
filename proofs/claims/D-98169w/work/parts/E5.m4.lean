/-! ===== the model: its faces that answer ===== -/
section M4
variable {G : GE} {I J : HI} {P : HP} {T : HT} {z : Nat} {m d : Nat} {Q : QT} {σ : Int → Int}
theorem M_thrown (hs : shM G P T m) (hQ : Q (some (iv (I m 0))) (ur I (m + 2) σ) J P T z) : MC G yX11_thrown (ws_ yX11_thrown cX11_thrown 1 (some FieldType.int)) (d) 0 0 [.ref m] (ur I (m + 2) σ) J P T z Q nX := by
  have hb := hs.b
  refine MC.of (by decide) (Nat.le_of_ble_eq_true rfl) ?_
  show PW G mX11_thrown (rmD (d) 0 0) (MZ G Q nX 0 0) 0 0 (ur I (m + 2) σ) J P T z 0 [some (.ref m)] []
  refine r_aload_n (pc := 0) dX11_thrown_0 rfl rfl ?_
  refine r_getiU (pc := 1) (c := 11) (k := 0) (kz := 0) hs.o cok_11 (Nat.le_of_ble_eq_true rfl) q1860 ⟨rfl, rfl⟩ (Or.inl rfl) rfl (by omega) (fun _ _ _ => rfl) dX11_thrown_1 (fun hr1 => ?_)
  refine r_ireturn (pc := 4) rfl rfl dX11_thrown_4 (Nat.le_of_ble_eq_true rfl) (Nat.le_of_ble_eq_true rfl) ?_
  exact hQ
theorem M_throwsIf (hs : shM G P T m) {p : Prop} [Decidable p] (hQ : Q (some (iv (bz p))) (ur (ui I m 0 (bz p)) (m + 2) σ) J P T z) : MC G yX11_throwsIf (ws_ yX11_throwsIf cX11_throwsIf 2 (some FieldType.boolean)) (d) 0 0 [.ref m, iv (bz p)] (ur I (m + 2) σ) J P T z Q nX := by
  have hb := hs.b
  refine MC.of (by decide) (Nat.le_of_ble_eq_true rfl) ?_
  show PW G mX11_throwsIf (rmD (d) 0 0) (MZ G Q nX 0 0) 0 0 (ur I (m + 2) σ) J P T z 0 [some (.ref m), some (iv (bz p))] []
  refine r_aload_n (pc := 0) dX11_throwsIf_0 rfl rfl ?_
  refine r_iload_n (pc := 1) dX11_throwsIf_1 rfl rfl ?_
  refine r_if_eq (pc := 2) 9 dX11_throwsIf_2 rfl bz_g (fun h2 => ?_) (fun h2 => ?_)
  · refine r_iconst (pc := 9) dX11_throwsIf_9 ?_
    refine r_putiU (pc := 10) (c := 11) (k := 0) (kz := 0) hs.o cok_11 (Nat.le_of_ble_eq_true rfl) q1860 ⟨rfl, rfl⟩ (Or.inl rfl) rfl (by omega) (by omega) rfl rfl (by omega) (fun _ _ _ => rfl) ⟨rfl, rfl⟩ dX11_throwsIf_10 ?_
    refine r_iload_n (pc := 13) dX11_throwsIf_13 rfl rfl ?_
    refine r_ireturn (pc := 14) rfl bz_n dX11_throwsIf_14 (Nat.le_of_ble_eq_true rfl) (Nat.le_of_ble_eq_true rfl) ?_
    rw [h2] at hQ ⊢
    exact hQ
  refine r_iconst (pc := 5) dX11_throwsIf_5 ?_
  refine r_goto (pc := 6) 10 dX11_throwsIf_6 rfl ?_
  refine r_putiU (pc := 10) (c := 11) (k := 0) (kz := 0) hs.o cok_11 (Nat.le_of_ble_eq_true rfl) q1860 ⟨rfl, rfl⟩ (Or.inl rfl) rfl (by omega) (by omega) rfl rfl (by omega) (fun _ _ _ => rfl) ⟨rfl, rfl⟩ dX11_throwsIf_10 ?_
  refine r_iload_n (pc := 13) dX11_throwsIf_13 rfl rfl ?_
  refine r_ireturn (pc := 14) rfl bz_n dX11_throwsIf_14 (Nat.le_of_ble_eq_true rfl) (Nat.le_of_ble_eq_true rfl) ?_
  have e1 : bz p = 1 := bz_t (bz_ne.mp h2)
  rw [e1] at hQ ⊢
  exact hQ
theorem M_hand (hs : shM G P T m) {k kind : Int} (hk : rg k) (hkd : rg kind) (h1 : 0 ≤ σ 1 ∧ σ 1 ≤ 6) (h0 : 0 ≤ σ 0 ∧ σ 0 ≤ 13) (hQ : Q (some (iv (if isP σ k ∧ isK σ kind then σ (60 + 13 * k + kind) else 0))) (ur (ui I m 0 (bz (¬ (isP σ k ∧ isK σ kind)))) (m + 2) σ) J P T z) : MC G yX11_hand (ws_ yX11_hand cX11_hand 3 (some FieldType.int)) (d + 2) 0 0 [.ref m, iv k, iv kind] (ur I (m + 2) σ) J P T z Q nX := by
  have hb := hs.b
  refine MC.of (by decide) (Nat.le_of_ble_eq_true rfl) ?_
  show PW G mX11_hand (rmD (d + 2) 0 0) (MZ G Q nX 0 0) 0 0 (ur I (m + 2) σ) J P T z 0 [some (.ref m), some (iv k), some (iv kind)] []
  have bad : ¬ (isP σ k ∧ isK σ kind) → PW G mX11_hand (rmD (d + 2) 0 0) (MZ G Q nX 0 0) 0 0 (ur I (m + 2) σ) J P T z 17 [some (.ref m), some (iv k), some (iv kind)] [.ref m] := by
    intro hn
    refine r_iconst (pc := 17) dX11_hand_17 ?_
    rw [show (1 : Int) = bz (¬ (isP σ k ∧ isK σ kind)) from (bz_t hn).symm]
    refine r_goto (pc := 18) 22 dX11_hand_18 rfl ?_
    refine r_callV1 (pc := 22) (M_throwsIf hs fe_i) im_X11_throwsIf qs80 q2177 hs.o rfl dX11_hand_22 (Nat.le_of_ble_eq_true rfl) (Nat.le_of_ble_eq_true rfl) rfl (k_fi ?_) (fun _ _ _ _ _ _ _ hx => no_x hx)
    refine r_if_eq (pc := 25) 32 dX11_hand_25 rfl bz_g (fun h25 => ?_) (fun h25 => ?_)
    · exact absurd hn (bz_0.mp h25)
    refine r_iconst (pc := 28) dX11_hand_28 ?_
    refine r_goto (pc := 29) 39 dX11_hand_29 rfl ?_
    refine r_ireturn (pc := 39) rfl rfl dX11_hand_39 (Nat.le_of_ble_eq_true rfl) (Nat.le_of_ble_eq_true rfl) ?_
    rw [if_neg hn] at hQ
    exact hQ
  refine r_aload_n (pc := 0) dX11_hand_0 rfl rfl ?_
  refine r_aload_n (pc := 1) dX11_hand_1 rfl rfl ?_
  refine r_iload_n (pc := 2) dX11_hand_2 rfl rfl ?_
  refine r_callV1 (pc := 3) (M_isPerson hs hk h1 fe_i) im_X11_isPerson qs78 q2169 hs.o rfl dX11_hand_3 (Nat.le_of_ble_eq_true rfl) (Nat.le_of_ble_eq_true rfl) rfl (k_fi ?_) (fun _ _ _ _ _ _ _ hx => no_x hx)
  refine r_if_eq (pc := 6) 17 dX11_hand_6 rfl bz_g (fun h6 => ?_) (fun h6 => ?_)
  · exact bad (fun q => bz_0.mp h6 q.1)
  refine r_aload_n (pc := 9) dX11_hand_9 rfl rfl ?_
  refine r_iload_n (pc := 10) dX11_hand_10 rfl rfl ?_
  refine r_callV1 (pc := 11) (M_isKind hs hkd h0 fe_i) im_X11_isKind qs79 q2173 hs.o rfl dX11_hand_11 (Nat.le_of_ble_eq_true rfl) (Nat.le_of_ble_eq_true rfl) rfl (k_fi ?_) (fun _ _ _ _ _ _ _ hx => no_x hx)
  refine r_if_ne (pc := 14) 21 dX11_hand_14 rfl bz_g (fun h14 => ?_) (fun h14 => ?_)
  · have hp : isP σ k ∧ isK σ kind := ⟨bz_ne.mp h6, bz_ne.mp h14⟩
    refine r_iconst (pc := 21) dX11_hand_21 ?_
    rw [show (0 : Int) = bz (¬ (isP σ k ∧ isK σ kind)) from (bz_f (fun q => q hp)).symm]
    refine r_callV1 (pc := 22) (M_throwsIf hs fe_i) im_X11_throwsIf qs80 q2177 hs.o rfl dX11_hand_22 (Nat.le_of_ble_eq_true rfl) (Nat.le_of_ble_eq_true rfl) rfl (k_fi ?_) (fun _ _ _ _ _ _ _ hx => no_x hx)
    refine r_if_eq (pc := 25) 32 dX11_hand_25 rfl bz_g (fun h25 => ?_) (fun h25 => ?_)
    · rw [if_pos hp] at hQ
      refine r_aload_n (pc := 32) dX11_hand_32 rfl rfl ?_
      refine r_iload_n (pc := 33) dX11_hand_33 rfl rfl ?_
      refine r_iload_n (pc := 34) dX11_hand_34 rfl rfl ?_
      refine r_iconst (pc := 35) dX11_hand_35 ?_
      refine r_callV3 (pc := 36) (M_hand0 hs (by omega) (by omega) fe_i) im_X11_handOf qs73 q2138 hs.o rfl dX11_hand_36 (Nat.le_of_ble_eq_true rfl) (Nat.le_of_ble_eq_true rfl) rfl (k_fi ?_) (fun _ _ _ _ _ _ _ hx => no_x hx)
      refine r_ireturn (pc := 39) rfl rfl dX11_hand_39 (Nat.le_of_ble_eq_true rfl) (Nat.le_of_ble_eq_true rfl) ?_
      exact hQ
    exact absurd hp (bz_ne.mp h25)
  exact bad (fun q => bz_0.mp h14 q.2)
theorem M_book (hs : shM G P T m) {kind : Int} (hkd : rg kind) (h0 : 0 ≤ σ 0 ∧ σ 0 ≤ 13) (hQ : Q (some (iv (if isK σ kind then σ (138 + kind) - 1 else -1))) (ur (ui I m 0 0) (m + 2) σ) J P T z) : MC G yX11_book (ws_ yX11_book cX11_book 2 (some FieldType.int)) (d + 2) 0 0 [.ref m, iv kind] (ur I (m + 2) σ) J P T z Q nX := by
  have hb := hs.b
  refine MC.of (by decide) (Nat.le_of_ble_eq_true rfl) ?_
  show PW G mX11_book (rmD (d + 2) 0 0) (MZ G Q nX 0 0) 0 0 (ur I (m + 2) σ) J P T z 0 [some (.ref m), some (iv kind)] []
  refine r_aload_n (pc := 0) dX11_book_0 rfl rfl ?_
  refine r_iconst (pc := 1) dX11_book_1 ?_
  refine r_putiU (pc := 2) (c := 11) (k := 0) (kz := 0) hs.o cok_11 (Nat.le_of_ble_eq_true rfl) q1860 ⟨rfl, rfl⟩ (Or.inl rfl) rfl (by omega) (by omega) rfl rfl (by omega) (fun _ _ _ => rfl) ⟨rfl, rfl⟩ dX11_book_2 ?_
  refine r_aload_n (pc := 5) dX11_book_5 rfl rfl ?_
  refine r_iload_n (pc := 6) dX11_book_6 rfl rfl ?_
  refine r_callV1 (pc := 7) (M_isKind hs hkd h0 fe_i) im_X11_isKind qs79 q2173 hs.o rfl dX11_book_7 (Nat.le_of_ble_eq_true rfl) (Nat.le_of_ble_eq_true rfl) rfl (k_fi ?_) (fun _ _ _ _ _ _ _ hx => no_x hx)
  refine r_if_eq (pc := 10) 28 dX11_book_10 rfl bz_g (fun h10 => ?_) (fun h10 => ?_)
  · rw [if_neg (bz_0.mp h10)] at hQ
    refine r_iconst (pc := 28) dX11_book_28 ?_
    refine r_ireturn (pc := 29) rfl rfl dX11_book_29 (Nat.le_of_ble_eq_true rfl) (Nat.le_of_ble_eq_true rfl) ?_
    exact hQ
  have hp := bz_ne.mp h10
  rw [if_pos hp] at hQ
  refine r_aload_n (pc := 13) dX11_book_13 rfl rfl ?_
  refine r_getr (pc := 14) (c := 11) (k := 6) (kz := 6) hs.o cok_11 (Nat.le_of_ble_eq_true rfl) q1866 ⟨rfl, rfl⟩ (Or.inl rfl) rfl (fun _ _ _ => rfl) hs.p_s dX11_book_14 ?_
  refine r_sipush (pc := 17) dX11_book_17 (by decide +kernel) ?_
  refine r_iload_n (pc := 20) dX11_book_20 rfl rfl ?_
  refine r_iadd (pc := 21) dX11_book_21 ?_
  refine r_ialdU (pc := 22) hs.t_s (by omega) (by omega) dX11_book_22 (fun hr22 => ?_)
  refine r_iconst (pc := 23) dX11_book_23 ?_
  refine r_isub (pc := 24) dX11_book_24 ?_
  refine r_goto (pc := 25) 29 dX11_book_25 rfl ?_
  refine r_ireturn (pc := 29) rfl rfl dX11_book_29 (Nat.le_of_ble_eq_true rfl) (Nat.le_of_ble_eq_true rfl) ?_
  exact hQ
theorem M_heap (hs : shM G P T m) {i : Int} (hi : rg i) (h7 : 0 ≤ σ 7 ∧ σ 7 ≤ 52) (hQ : Q (some (iv (if 0 ≤ i ∧ i ≤ σ 7 - 1 then σ (8 + i) else -1))) (ur (ui I m 0 0) (m + 2) σ) J P T z) : MC G yX11_heap (ws_ yX11_heap cX11_heap 2 (some FieldType.int)) (d + 1) 0 0 [.ref m, iv i] (ur I (m + 2) σ) J P T z Q nX := by
  have hb := hs.b
  refine MC.of (by decide) (Nat.le_of_ble_eq_true rfl) ?_
  show PW G mX11_heap (rmD (d + 1) 0 0) (MZ G Q nX 0 0) 0 0 (ur I (m + 2) σ) J P T z 0 [some (.ref m), some (iv i)] []
  refine r_aload_n (pc := 0) dX11_heap_0 rfl rfl ?_
  refine r_iconst (pc := 1) dX11_heap_1 ?_
  refine r_putiU (pc := 2) (c := 11) (k := 0) (kz := 0) hs.o cok_11 (Nat.le_of_ble_eq_true rfl) q1860 ⟨rfl, rfl⟩ (Or.inl rfl) rfl (by omega) (by omega) rfl rfl (by omega) (fun _ _ _ => rfl) ⟨rfl, rfl⟩ dX11_heap_2 ?_
  refine r_iload_n (pc := 5) dX11_heap_5 rfl rfl ?_
  refine r_iconst (pc := 6) dX11_heap_6 ?_
  refine r_aload_n (pc := 7) dX11_heap_7 rfl rfl ?_
  refine r_getr (pc := 8) (c := 11) (k := 6) (kz := 6) hs.o cok_11 (Nat.le_of_ble_eq_true rfl) q1866 ⟨rfl, rfl⟩ (Or.inl rfl) rfl (fun _ _ _ => rfl) hs.p_s dX11_heap_8 ?_
  refine r_bipush (pc := 11) dX11_heap_11 (by decide +kernel) ?_
  refine r_ialdU (pc := 13) hs.t_s (by omega) (by omega) dX11_heap_13 (fun hr13 => ?_)
  refine r_iconst (pc := 14) dX11_heap_14 ?_
  refine r_isub (pc := 15) dX11_heap_15 ?_
  refine r_callS3 (pc := 16) (M_isIn hi (by omega) (by omega) fe_i) im_X11_isIn q2095 dX11_heap_16 (Nat.le_of_ble_eq_true rfl) (Nat.le_of_ble_eq_true rfl) rfl (k_fi ?_) (fun _ _ _ _ _ _ _ hx => no_x hx)
  refine r_if_eq (pc := 19) 34 dX11_heap_19 rfl bz_g (fun h19 => ?_) (fun h19 => ?_)
  · rw [if_neg (bz_0.mp h19)] at hQ
    refine r_iconst (pc := 34) dX11_heap_34 ?_
    refine r_ireturn (pc := 35) rfl rfl dX11_heap_35 (Nat.le_of_ble_eq_true rfl) (Nat.le_of_ble_eq_true rfl) ?_
    exact hQ
  have hp := bz_ne.mp h19
  rw [if_pos hp] at hQ
  refine r_aload_n (pc := 22) dX11_heap_22 rfl rfl ?_
  refine r_getr (pc := 23) (c := 11) (k := 6) (kz := 6) hs.o cok_11 (Nat.le_of_ble_eq_true rfl) q1866 ⟨rfl, rfl⟩ (Or.inl rfl) rfl (fun _ _ _ => rfl) hs.p_s dX11_heap_23 ?_
  refine r_bipush (pc := 26) dX11_heap_26 (by decide +kernel) ?_
  refine r_iload_n (pc := 28) dX11_heap_28 rfl rfl ?_
  refine r_iadd (pc := 29) dX11_heap_29 ?_
  refine r_ialdU (pc := 30) hs.t_s (by omega) (by omega) dX11_heap_30 (fun hr30 => ?_)
  refine r_goto (pc := 31) 35 dX11_heap_31 rfl ?_
  refine r_ireturn (pc := 35) rfl rfl dX11_heap_35 (Nat.le_of_ble_eq_true rfl) (Nat.le_of_ble_eq_true rfl) ?_
  exact hQ
theorem M_whyOf (hs : shM G P T m) {a b kind : Int} (ha : 0 ≤ a ∧ a < 6) (hb2 : rg b) (hkd : 0 ≤ kind ∧ kind < 13) (hQ : Q (some (iv (f_why σ a b kind))) (ur I (m + 2) σ) J P T z) : MC G yX11_whyOf (ws_ yX11_whyOf cX11_whyOf 4 (some FieldType.int)) (d + 1) 0 0 [.ref m, iv a, iv b, iv kind] (ur I (m + 2) σ) J P T z Q nX := by
  have hb := hs.b
  refine MC.of (by decide) (Nat.le_of_ble_eq_true rfl) ?_
  show PW G mX11_whyOf (rmD (d + 1) 0 0) (MZ G Q nX 0 0) 0 0 (ur I (m + 2) σ) J P T z 0 [some (.ref m), some (iv a), some (iv b), some (iv kind)] []
  unfold f_why at hQ
  refine r_rgU fun hrg => ?_
  refine r_aload_n (pc := 0) dX11_whyOf_0 rfl rfl ?_
  refine r_getr (pc := 1) (c := 11) (k := 6) (kz := 6) hs.o cok_11 (Nat.le_of_ble_eq_true rfl) q1866 ⟨rfl, rfl⟩ (Or.inl rfl) rfl (fun _ _ _ => rfl) hs.p_s dX11_whyOf_1 ?_
  refine r_iconst (pc := 4) dX11_whyOf_4 ?_
  refine r_ialdU (pc := 5) hs.t_s (by omega) (by omega) dX11_whyOf_5 (fun hr5 => ?_)
  refine r_iconst (pc := 6) dX11_whyOf_6 ?_
  refine r_icmp_ne (pc := 7) 14 dX11_whyOf_7 rfl (by omega) (by omega) (fun h7 => ?_) (fun h7 => ?_)
  · rw [if_neg h7] at hQ
    refine r_aload_n (pc := 14) dX11_whyOf_14 rfl rfl ?_
    refine r_getr (pc := 15) (c := 11) (k := 6) (kz := 6) hs.o cok_11 (Nat.le_of_ble_eq_true rfl) q1866 ⟨rfl, rfl⟩ (Or.inl rfl) rfl (fun _ _ _ => rfl) hs.p_s dX11_whyOf_15 ?_
    refine r_iconst (pc := 18) dX11_whyOf_18 ?_
    refine r_ialdU (pc := 19) hs.t_s (by omega) (by omega) dX11_whyOf_19 (fun hr19 => ?_)
    refine r_iload_n (pc := 20) dX11_whyOf_20 rfl rfl ?_
    refine r_icmp_eq (pc := 21) 28 dX11_whyOf_21 rfl (by omega) (by omega) (fun h21 => ?_) (fun h21 => ?_)
    · rw [if_neg (by omega)] at hQ
      have hr1 := hrg (60 + 13 * a + kind)
      refine r_aload_n (pc := 28) dX11_whyOf_28 rfl rfl ?_
      refine r_iload_n (pc := 29) dX11_whyOf_29 rfl rfl ?_
      refine r_iload_n (pc := 30) dX11_whyOf_30 rfl rfl ?_
      refine r_iconst (pc := 31) dX11_whyOf_31 ?_
      refine r_callV3 (pc := 32) (M_hand0 hs ha hkd fe_i) im_X11_handOf qs73 q2138 hs.o rfl dX11_whyOf_32 (Nat.le_of_ble_eq_true rfl) (Nat.le_of_ble_eq_true rfl) rfl (k_fi ?_) (fun _ _ _ _ _ _ _ hx => no_x hx)
      refine r_if_ne (pc := 35) 42 dX11_whyOf_35 rfl (by omega) (fun h35 => ?_) (fun h35 => ?_)
      · rw [if_neg h35] at hQ
        refine r_iload_n (pc := 42) dX11_whyOf_42 rfl rfl ?_
        refine r_iload_n (pc := 43) dX11_whyOf_43 rfl rfl ?_
        refine r_icmp_ne (pc := 44) 51 dX11_whyOf_44 rfl (by omega) (by omega) (fun h44 => ?_) (fun h44 => ?_)
        · rw [if_neg h44] at hQ
          refine r_iconst (pc := 51) dX11_whyOf_51 ?_
          refine r_ireturn (pc := 52) rfl rfl dX11_whyOf_52 (Nat.le_of_ble_eq_true rfl) (Nat.le_of_ble_eq_true rfl) ?_
          exact hQ
        rw [if_pos h44] at hQ
        refine r_iconst (pc := 47) dX11_whyOf_47 ?_
        refine r_goto (pc := 48) 52 dX11_whyOf_48 rfl ?_
        refine r_ireturn (pc := 52) rfl rfl dX11_whyOf_52 (Nat.le_of_ble_eq_true rfl) (Nat.le_of_ble_eq_true rfl) ?_
        exact hQ
      rw [if_pos h35] at hQ
      refine r_iconst (pc := 38) dX11_whyOf_38 ?_
      refine r_goto (pc := 39) 52 dX11_whyOf_39 rfl ?_
      refine r_ireturn (pc := 52) rfl rfl dX11_whyOf_52 (Nat.le_of_ble_eq_true rfl) (Nat.le_of_ble_eq_true rfl) ?_
      exact hQ
    rw [if_pos h21] at hQ
    refine r_iconst (pc := 24) dX11_whyOf_24 ?_
    refine r_goto (pc := 25) 52 dX11_whyOf_25 rfl ?_
    refine r_ireturn (pc := 52) rfl rfl dX11_whyOf_52 (Nat.le_of_ble_eq_true rfl) (Nat.le_of_ble_eq_true rfl) ?_
    exact hQ
  rw [if_pos h7] at hQ
  refine r_iconst (pc := 10) dX11_whyOf_10 ?_
  refine r_goto (pc := 11) 52 dX11_whyOf_11 rfl ?_
  refine r_ireturn (pc := 52) rfl rfl dX11_whyOf_52 (Nat.le_of_ble_eq_true rfl) (Nat.le_of_ble_eq_true rfl) ?_
  exact hQ
theorem M_areAsked (hs : shM G P T m) {a b kind : Int} (ha : rg a) (hb2 : rg b) (hkd : rg kind) (h1 : 0 ≤ σ 1 ∧ σ 1 ≤ 6) (h0 : 0 ≤ σ 0 ∧ σ 0 ≤ 13) (hQ : Q (some (iv (bz (isP σ a ∧ isP σ b ∧ isK σ kind)))) (ur I (m + 2) σ) J P T z) : MC G yX11_areAsked (ws_ yX11_areAsked cX11_areAsked 4 (some FieldType.boolean)) (d + 2) 0 0 [.ref m, iv a, iv b, iv kind] (ur I (m + 2) σ) J P T z Q nX := by
  have hb := hs.b
  refine MC.of (by decide) (Nat.le_of_ble_eq_true rfl) ?_
  show PW G mX11_areAsked (rmD (d + 2) 0 0) (MZ G Q nX 0 0) 0 0 (ur I (m + 2) σ) J P T z 0 [some (.ref m), some (iv a), some (iv b), some (iv kind)] []
  refine r_aload_n (pc := 0) dX11_areAsked_0 rfl rfl ?_
  refine r_iload_n (pc := 1) dX11_areAsked_1 rfl rfl ?_
  refine r_callV1 (pc := 2) (M_isPerson hs ha h1 fe_i) im_X11_isPerson qs78 q2169 hs.o rfl dX11_areAsked_2 (Nat.le_of_ble_eq_true rfl) (Nat.le_of_ble_eq_true rfl) rfl (k_fi ?_) (fun _ _ _ _ _ _ _ hx => no_x hx)
  refine r_if_eq (pc := 5) 28 dX11_areAsked_5 rfl bz_g (fun h5 => ?_) (fun h5 => ?_)
  · rw [bz_f (fun q => bz_0.mp h5 q.1)] at hQ
    refine r_iconst (pc := 28) dX11_areAsked_28 ?_
    refine r_ireturn (pc := 29) rfl (by decide +kernel) dX11_areAsked_29 (Nat.le_of_ble_eq_true rfl) (Nat.le_of_ble_eq_true rfl) ?_
    exact hQ
  refine r_aload_n (pc := 8) dX11_areAsked_8 rfl rfl ?_
  refine r_iload_n (pc := 9) dX11_areAsked_9 rfl rfl ?_
  refine r_callV1 (pc := 10) (M_isPerson hs hb2 h1 fe_i) im_X11_isPerson qs78 q2169 hs.o rfl dX11_areAsked_10 (Nat.le_of_ble_eq_true rfl) (Nat.le_of_ble_eq_true rfl) rfl (k_fi ?_) (fun _ _ _ _ _ _ _ hx => no_x hx)
  refine r_if_eq (pc := 13) 28 dX11_areAsked_13 rfl bz_g (fun h13 => ?_) (fun h13 => ?_)
  · rw [bz_f (fun q => bz_0.mp h13 q.2.1)] at hQ
    refine r_iconst (pc := 28) dX11_areAsked_28 ?_
    refine r_ireturn (pc := 29) rfl (by decide +kernel) dX11_areAsked_29 (Nat.le_of_ble_eq_true rfl) (Nat.le_of_ble_eq_true rfl) ?_
    exact hQ
  refine r_aload_n (pc := 16) dX11_areAsked_16 rfl rfl ?_
  refine r_iload_n (pc := 17) dX11_areAsked_17 rfl rfl ?_
  refine r_callV1 (pc := 18) (M_isKind hs hkd h0 fe_i) im_X11_isKind qs79 q2173 hs.o rfl dX11_areAsked_18 (Nat.le_of_ble_eq_true rfl) (Nat.le_of_ble_eq_true rfl) rfl (k_fi ?_) (fun _ _ _ _ _ _ _ hx => no_x hx)
  refine r_if_eq (pc := 21) 28 dX11_areAsked_21 rfl bz_g (fun h21 => ?_) (fun h21 => ?_)
  · rw [bz_f (fun q => bz_0.mp h21 q.2.2)] at hQ
    refine r_iconst (pc := 28) dX11_areAsked_28 ?_
    refine r_ireturn (pc := 29) rfl (by decide +kernel) dX11_areAsked_29 (Nat.le_of_ble_eq_true rfl) (Nat.le_of_ble_eq_true rfl) ?_
    exact hQ
  rw [bz_t ⟨bz_ne.mp h5, bz_ne.mp h13, bz_ne.mp h21⟩] at hQ
  refine r_iconst (pc := 24) dX11_areAsked_24 ?_
  refine r_goto (pc := 25) 29 dX11_areAsked_25 rfl ?_
  refine r_ireturn (pc := 29) rfl (by decide +kernel) dX11_areAsked_29 (Nat.le_of_ble_eq_true rfl) (Nat.le_of_ble_eq_true rfl) ?_
  exact hQ
theorem M_why (hs : shM G P T m) {a b kind : Int} (ha : rg a) (hb2 : rg b) (hkd : rg kind) (h1 : 0 ≤ σ 1 ∧ σ 1 ≤ 6) (h0 : 0 ≤ σ 0 ∧ σ 0 ≤ 13) (hQ : Q (some (iv (if isP σ a ∧ isP σ b ∧ isK σ kind then f_why σ a b kind else -1))) (ur (ui I m 0 0) (m + 2) σ) J P T z) : MC G yX11_why (ws_ yX11_why cX11_why 4 (some FieldType.int)) (d + 3) 0 0 [.ref m, iv a, iv b, iv kind] (ur I (m + 2) σ) J P T z Q nX := by
  have hb := hs.b
  refine MC.of (by decide) (Nat.le_of_ble_eq_true rfl) ?_
  show PW G mX11_why (rmD (d + 3) 0 0) (MZ G Q nX 0 0) 0 0 (ur I (m + 2) σ) J P T z 0 [some (.ref m), some (iv a), some (iv b), some (iv kind)] []
  refine r_aload_n (pc := 0) dX11_why_0 rfl rfl ?_
  refine r_iconst (pc := 1) dX11_why_1 ?_
  refine r_putiU (pc := 2) (c := 11) (k := 0) (kz := 0) hs.o cok_11 (Nat.le_of_ble_eq_true rfl) q1860 ⟨rfl, rfl⟩ (Or.inl rfl) rfl (by omega) (by omega) rfl rfl (by omega) (fun _ _ _ => rfl) ⟨rfl, rfl⟩ dX11_why_2 ?_
  refine r_aload_n (pc := 5) dX11_why_5 rfl rfl ?_
  refine r_iload_n (pc := 6) dX11_why_6 rfl rfl ?_
  refine r_iload_n (pc := 7) dX11_why_7 rfl rfl ?_
  refine r_iload_n (pc := 8) dX11_why_8 rfl rfl ?_
  refine r_callV3 (pc := 9) (M_areAsked hs ha hb2 hkd h1 h0 fe_i) im_X11_areAsked qs83 q2209 hs.o rfl dX11_why_9 (Nat.le_of_ble_eq_true rfl) (Nat.le_of_ble_eq_true rfl) rfl (k_fi ?_) (fun _ _ _ _ _ _ _ hx => no_x hx)
  refine r_if_eq (pc := 12) 25 dX11_why_12 rfl bz_g (fun h12 => ?_) (fun h12 => ?_)
  · rw [if_neg (bz_0.mp h12)] at hQ
    refine r_iconst (pc := 25) dX11_why_25 ?_
    refine r_ireturn (pc := 26) rfl rfl dX11_why_26 (Nat.le_of_ble_eq_true rfl) (Nat.le_of_ble_eq_true rfl) ?_
    exact hQ
  obtain ⟨g1, g2, g3⟩ := bz_ne.mp h12
  rw [if_pos ⟨g1, g2, g3⟩] at hQ
  refine r_aload_n (pc := 15) dX11_why_15 rfl rfl ?_
  refine r_iload_n (pc := 16) dX11_why_16 rfl rfl ?_
  refine r_iload_n (pc := 17) dX11_why_17 rfl rfl ?_
  refine r_iload_n (pc := 18) dX11_why_18 rfl rfl ?_
  refine r_callV3 (pc := 19) (M_whyOf hs (by omega) hb2 (by omega) fe_i) im_X11_whyOf qs84 q2213 hs.o rfl dX11_why_19 (Nat.le_of_ble_eq_true rfl) (Nat.le_of_ble_eq_true rfl) rfl (k_fi ?_) (fun _ _ _ _ _ _ _ hx => no_x hx)
  refine r_goto (pc := 22) 26 dX11_why_22 rfl ?_
  refine r_ireturn (pc := 26) rfl rfl dX11_why_26 (Nat.le_of_ble_eq_true rfl) (Nat.le_of_ble_eq_true rfl) ?_
  exact hQ
theorem M_sureOf (hs : shM G P T m) {b kind : Int} (hk : 0 ≤ b ∧ b < 6) (hkd : 0 ≤ kind ∧ kind < 13) (hn : 0 ≤ σ (229 + b) ∧ σ (229 + b) ≤ 52) (hQ : Q (some (iv (f_sure σ b kind))) (ur I (m + 2) σ) J P T z) : MC G yX11_sureOf (ws_ yX11_sureOf cX11_sureOf 4 (some FieldType.int)) (d + 1) 0 0 [.ref m, iv b, iv kind] (ur I (m + 2) σ) J P T z Q nX := by
  have hb := hs.b
  refine MC.of (by decide) (Nat.le_of_ble_eq_true rfl) ?_
  show PW G mX11_sureOf (rmD (d + 1) 0 0) (MZ G Q nX 0 0) 0 0 (ur I (m + 2) σ) J P T z 0 [some (.ref m), some (iv b), some (iv kind), none] []
  unfold f_sure at hQ
  refine r_aload_n (pc := 0) dX11_sureOf_0 rfl rfl ?_
  refine r_getr (pc := 1) (c := 11) (k := 6) (kz := 6) hs.o cok_11 (Nat.le_of_ble_eq_true rfl) q1866 ⟨rfl, rfl⟩ (Or.inl rfl) rfl (fun _ _ _ => rfl) hs.p_s dX11_sureOf_1 ?_
  refine r_sipush (pc := 4) dX11_sureOf_4 (by decide +kernel) ?_
  refine r_bipush (pc := 7) dX11_sureOf_7 (by decide +kernel) ?_
  refine r_iload_n (pc := 9) dX11_sureOf_9 rfl rfl ?_
  refine r_imul (pc := 10) dX11_sureOf_10 ?_
  refine r_iadd (pc := 11) dX11_sureOf_11 ?_
  refine r_iload_n (pc := 12) dX11_sureOf_12 rfl rfl ?_
  refine r_iadd (pc := 13) dX11_sureOf_13 ?_
  refine r_ialdU (pc := 14) hs.t_s (by omega) (by omega) dX11_sureOf_14 (fun hr14 => ?_)
  refine r_if_le (pc := 15) 20 dX11_sureOf_15 rfl (by omega) (fun h15 => ?_) (fun h15 => ?_)
  · rw [if_neg (by omega)] at hQ
    refine r_iconst (pc := 20) dX11_sureOf_20 ?_
    refine r_istore_n3 (pc := 21) (Nat.le_of_ble_eq_true rfl) dX11_sureOf_21 rfl ?_
    have loop : ∀ (n : Nat) (i : Int), 0 ≤ i → i ≤ σ (229 + b) → σ (229 + b) - i < n → ff (fun j => tb (σ (235 + 52 * b + j)) kind) i (σ (229 + b) - i).toNat = f_can σ b kind → PW G mX11_sureOf (rmD (d + 1) 0 0) (MZ G Q nX 0 0) 0 0 (ur I (m + 2) σ) J P T z 22 [some (.ref m), some (iv b), some (iv kind), some (iv i)] [] := by
      intro n
      induction n with
      | zero => intro i h0 h1 h2 h3; omega
      | succ n ih =>
        intro i h0 h1 h2 h3
        refine r_iload_n (pc := 22) dX11_sureOf_22 rfl rfl ?_
        refine r_aload_n (pc := 23) dX11_sureOf_23 rfl rfl ?_
        refine r_getr (pc := 24) (c := 11) (k := 6) (kz := 6) hs.o cok_11 (Nat.le_of_ble_eq_true rfl) q1866 ⟨rfl, rfl⟩ (Or.inl rfl) rfl (fun _ _ _ => rfl) hs.p_s dX11_sureOf_24 ?_
        refine r_sipush (pc := 27) dX11_sureOf_27 (by decide +kernel) ?_
        refine r_iload_n (pc := 30) dX11_sureOf_30 rfl rfl ?_
        refine r_iadd (pc := 31) dX11_sureOf_31 ?_
        refine r_ialdU (pc := 32) hs.t_s (by omega) (by omega) dX11_sureOf_32 (fun hr32 => ?_)
        refine r_icmp_ge (pc := 33) 66 dX11_sureOf_33 rfl (by omega) (by omega) (fun h33 => ?_) (fun h33 => ?_)
        · obtain rfl : i = σ (229 + b) := by omega
          have hc : f_can σ b kind = σ (229 + b) := by rw [← h3, Int.sub_self]; rfl
          rw [if_pos hc] at hQ
          refine r_iconst (pc := 66) dX11_sureOf_66 ?_
          refine r_ireturn (pc := 67) rfl rfl dX11_sureOf_67 (Nat.le_of_ble_eq_true rfl) (Nat.le_of_ble_eq_true rfl) ?_
          exact hQ
        refine r_aload_n (pc := 36) dX11_sureOf_36 rfl rfl ?_
        refine r_getr (pc := 37) (c := 11) (k := 6) (kz := 6) hs.o cok_11 (Nat.le_of_ble_eq_true rfl) q1866 ⟨rfl, rfl⟩ (Or.inl rfl) rfl (fun _ _ _ => rfl) hs.p_s dX11_sureOf_37 ?_
        refine r_sipush (pc := 40) dX11_sureOf_40 (by decide +kernel) ?_
        refine r_bipush (pc := 43) dX11_sureOf_43 (by decide +kernel) ?_
        refine r_iload_n (pc := 45) dX11_sureOf_45 rfl rfl ?_
        refine r_imul (pc := 46) dX11_sureOf_46 ?_
        refine r_iadd (pc := 47) dX11_sureOf_47 ?_
        refine r_iload_n (pc := 48) dX11_sureOf_48 rfl rfl ?_
        refine r_iadd (pc := 49) dX11_sureOf_49 ?_
        refine r_ialdU (pc := 50) hs.t_s (by omega) (by omega) dX11_sureOf_50 (fun hr50 => ?_)
        refine r_iload_n (pc := 51) dX11_sureOf_51 rfl rfl ?_
        refine r_callS2 (pc := 52) (M_bitOf hr50 (by omega) fe_i) im_X11_bitOf q2146 dX11_sureOf_52 (Nat.le_of_ble_eq_true rfl) (Nat.le_of_ble_eq_true rfl) rfl (k_fi ?_) (fun _ _ _ _ _ _ _ hx => no_x hx)
        refine r_if_ne (pc := 55) 60 dX11_sureOf_55 rfl bz_g (fun h55 => ?_) (fun h55 => ?_)
        · refine r_iinc3 (pc := 60) (Nat.le_of_ble_eq_true rfl) dX11_sureOf_60 rfl ?_
          refine r_goto (pc := 63) 22 dX11_sureOf_63 rfl ?_
          refine ih (i + 1) (by omega) (by omega) (by omega) ?_
          rw [← h3]
          have ht : tb (σ (235 + 52 * b + i)) kind := bz_ne.mp h55
          obtain ⟨w, hw⟩ : ∃ w : Nat, (σ (229 + b) - i).toNat = w + 1 := ⟨(σ (229 + b) - i).toNat - 1, by omega⟩
          rw [hw, ff_t (b := fun j => tb (σ (235 + 52 * b + j)) kind) ht]
          congr 1
          omega
        rw [bz_0] at h55
        have hc : f_can σ b kind = i := by rw [← h3]; exact ff_f (b := fun j => tb (σ (235 + 52 * b + j)) kind) h55
        rw [if_neg (by omega)] at hQ
        refine r_iconst (pc := 58) dX11_sureOf_58 ?_
        refine r_ireturn (pc := 59) rfl rfl dX11_sureOf_59 (Nat.le_of_ble_eq_true rfl) (Nat.le_of_ble_eq_true rfl) ?_
        exact hQ
    exact loop 53 0 (by omega) (by omega) (by omega) (by rw [Int.sub_zero]; rfl)
  rw [if_pos h15] at hQ
  refine r_iconst (pc := 18) dX11_sureOf_18 ?_
  refine r_ireturn (pc := 19) rfl rfl dX11_sureOf_19 (Nat.le_of_ble_eq_true rfl) (Nat.le_of_ble_eq_true rfl) ?_
  exact hQ
theorem M_known (hs : shM G P T m) {k kind : Int} (hk : rg k) (hkd : rg kind) (h1 : 0 ≤ σ 1 ∧ σ 1 ≤ 6) (h0 : 0 ≤ σ 0 ∧ σ 0 ≤ 13) (hQ : Q (some (iv (if isP σ k ∧ isK σ kind then σ (151 + 13 * k + kind) else -1))) (ur (ui I m 0 0) (m + 2) σ) J P T z) : MC G yX11_known (ws_ yX11_known cX11_known 3 (some FieldType.int)) (d + 2) 0 0 [.ref m, iv k, iv kind] (ur I (m + 2) σ) J P T z Q nX := by
  have hb := hs.b
  refine MC.of (by decide) (Nat.le_of_ble_eq_true rfl) ?_
  show PW G mX11_known (rmD (d + 2) 0 0) (MZ G Q nX 0 0) 0 0 (ur I (m + 2) σ) J P T z 0 [some (.ref m), some (iv k), some (iv kind)] []
  refine r_aload_n (pc := 0) dX11_known_0 rfl rfl ?_
  refine r_iconst (pc := 1) dX11_known_1 ?_
  refine r_putiU (pc := 2) (c := 11) (k := 0) (kz := 0) hs.o cok_11 (Nat.le_of_ble_eq_true rfl) q1860 ⟨rfl, rfl⟩ (Or.inl rfl) rfl (by omega) (by omega) rfl rfl (by omega) (fun _ _ _ => rfl) ⟨rfl, rfl⟩ dX11_known_2 ?_
  refine r_aload_n (pc := 5) dX11_known_5 rfl rfl ?_
  refine r_iload_n (pc := 6) dX11_known_6 rfl rfl ?_
  refine r_callV1 (pc := 7) (M_isPerson hs hk h1 fe_i) im_X11_isPerson qs78 q2169 hs.o rfl dX11_known_7 (Nat.le_of_ble_eq_true rfl) (Nat.le_of_ble_eq_true rfl) rfl (k_fi ?_) (fun _ _ _ _ _ _ _ hx => no_x hx)
  refine r_if_eq (pc := 10) 39 dX11_known_10 rfl bz_g (fun h10 => ?_) (fun h10 => ?_)
  · rw [if_neg (fun q => bz_0.mp h10 q.1)] at hQ
    refine r_iconst (pc := 39) dX11_known_39 ?_
    refine r_ireturn (pc := 40) rfl rfl dX11_known_40 (Nat.le_of_ble_eq_true rfl) (Nat.le_of_ble_eq_true rfl) ?_
    exact hQ
  refine r_aload_n (pc := 13) dX11_known_13 rfl rfl ?_
  refine r_iload_n (pc := 14) dX11_known_14 rfl rfl ?_
  refine r_callV1 (pc := 15) (M_isKind hs hkd h0 fe_i) im_X11_isKind qs79 q2173 hs.o rfl dX11_known_15 (Nat.le_of_ble_eq_true rfl) (Nat.le_of_ble_eq_true rfl) rfl (k_fi ?_) (fun _ _ _ _ _ _ _ hx => no_x hx)
  refine r_if_eq (pc := 18) 39 dX11_known_18 rfl bz_g (fun h18 => ?_) (fun h18 => ?_)
  · rw [if_neg (fun q => bz_0.mp h18 q.2)] at hQ
    refine r_iconst (pc := 39) dX11_known_39 ?_
    refine r_ireturn (pc := 40) rfl rfl dX11_known_40 (Nat.le_of_ble_eq_true rfl) (Nat.le_of_ble_eq_true rfl) ?_
    exact hQ
  have g1 := bz_ne.mp h10
  have g2 := bz_ne.mp h18
  rw [if_pos ⟨g1, g2⟩] at hQ
  refine r_aload_n (pc := 21) dX11_known_21 rfl rfl ?_
  refine r_getr (pc := 22) (c := 11) (k := 6) (kz := 6) hs.o cok_11 (Nat.le_of_ble_eq_true rfl) q1866 ⟨rfl, rfl⟩ (Or.inl rfl) rfl (fun _ _ _ => rfl) hs.p_s dX11_known_22 ?_
  refine r_sipush (pc := 25) dX11_known_25 (by decide +kernel) ?_
  refine r_bipush (pc := 28) dX11_known_28 (by decide +kernel) ?_
  refine r_iload_n (pc := 30) dX11_known_30 rfl rfl ?_
  refine r_imul (pc := 31) dX11_known_31 ?_
  refine r_iadd (pc := 32) dX11_known_32 ?_
  refine r_iload_n (pc := 33) dX11_known_33 rfl rfl ?_
  refine r_iadd (pc := 34) dX11_known_34 ?_
  refine r_ialdU (pc := 35) hs.t_s (by omega) (by omega) dX11_known_35 (fun hr35 => ?_)
  refine r_goto (pc := 36) 40 dX11_known_36 rfl ?_
  refine r_ireturn (pc := 40) rfl rfl dX11_known_40 (Nat.le_of_ble_eq_true rfl) (Nat.le_of_ble_eq_true rfl) ?_
  exact hQ
theorem M_can (hs : shM G P T m) {k kind : Int} (hk : rg k) (hkd : rg kind) (h1 : 0 ≤ σ 1 ∧ σ 1 ≤ 6) (h0 : 0 ≤ σ 0 ∧ σ 0 ≤ 13) (hg : RG σ) (hQ : Q (some (iv (if isP σ k ∧ isK σ kind then sm (fun j => bz (¬ tb (σ (235 + 52 * k + j)) kind)) (σ (229 + k)).toNat else -1))) (ur (ui I m 0 0) (m + 2) σ) J P T z) : MC G yX11_can (ws_ yX11_can cX11_can 5 (some FieldType.int)) (d + 2) 0 0 [.ref m, iv k, iv kind] (ur I (m + 2) σ) J P T z Q nX := by
  have hb := hs.b
  refine MC.of (by decide) (Nat.le_of_ble_eq_true rfl) ?_
  show PW G mX11_can (rmD (d + 2) 0 0) (MZ G Q nX 0 0) 0 0 (ur I (m + 2) σ) J P T z 0 [some (.ref m), some (iv k), some (iv kind), none, none] []
  have bad : ¬ (isP σ k ∧ isK σ kind) → PW G mX11_can (rmD (d + 2) 0 0) (MZ G Q nX 0 0) 0 0 (ur (ui I m 0 0) (m + 2) σ) J P T z 21 [some (.ref m), some (iv k), some (iv kind), none, none] [] := by
    intro hn
    rw [if_neg hn] at hQ
    refine r_iconst (pc := 21) dX11_can_21 ?_
    refine r_ireturn (pc := 22) rfl rfl dX11_can_22 (Nat.le_of_ble_eq_true rfl) (Nat.le_of_ble_eq_true rfl) ?_
    exact hQ
  refine r_aload_n (pc := 0) dX11_can_0 rfl rfl ?_
  refine r_iconst (pc := 1) dX11_can_1 ?_
  refine r_putiU (pc := 2) (c := 11) (k := 0) (kz := 0) hs.o cok_11 (Nat.le_of_ble_eq_true rfl) q1860 ⟨rfl, rfl⟩ (Or.inl rfl) rfl (by omega) (by omega) rfl rfl (by omega) (fun _ _ _ => rfl) ⟨rfl, rfl⟩ dX11_can_2 ?_
  refine r_aload_n (pc := 5) dX11_can_5 rfl rfl ?_
  refine r_iload_n (pc := 6) dX11_can_6 rfl rfl ?_
  refine r_callV1 (pc := 7) (M_isPerson hs hk h1 fe_i) im_X11_isPerson qs78 q2169 hs.o rfl dX11_can_7 (Nat.le_of_ble_eq_true rfl) (Nat.le_of_ble_eq_true rfl) rfl (k_fi ?_) (fun _ _ _ _ _ _ _ hx => no_x hx)
  refine r_if_eq (pc := 10) 21 dX11_can_10 rfl bz_g (fun h10 => ?_) (fun h10 => ?_)
  · exact bad (fun q => bz_0.mp h10 q.1)
  refine r_aload_n (pc := 13) dX11_can_13 rfl rfl ?_
  refine r_iload_n (pc := 14) dX11_can_14 rfl rfl ?_
  refine r_callV1 (pc := 15) (M_isKind hs hkd h0 fe_i) im_X11_isKind qs79 q2173 hs.o rfl dX11_can_15 (Nat.le_of_ble_eq_true rfl) (Nat.le_of_ble_eq_true rfl) rfl (k_fi ?_) (fun _ _ _ _ _ _ _ hx => no_x hx)
  refine r_if_ne (pc := 18) 23 dX11_can_18 rfl bz_g (fun h18 => ?_) (fun h18 => ?_)
  · have g1 := bz_ne.mp h10
    have g2 := bz_ne.mp h18
    rw [if_pos ⟨g1, g2⟩] at hQ
    have hn := hg.o (show 0 ≤ k ∧ k < 6 by omega)
    refine r_iconst (pc := 23) dX11_can_23 ?_
    refine r_istore_n3 (pc := 24) (Nat.le_of_ble_eq_true rfl) dX11_can_24 rfl ?_
    refine r_iconst (pc := 25) dX11_can_25 ?_
    refine r_istore4 (pc := 26) (Nat.le_of_ble_eq_true rfl) dX11_can_26 rfl ?_
    have loop : ∀ (n : Nat) (i : Int), 0 ≤ i → i ≤ σ (229 + k) → σ (229 + k) - i < n → PW G mX11_can (rmD (d + 2) 0 0) (MZ G Q nX 0 0) 0 0 (ur (ui I m 0 0) (m + 2) σ) J P T z 28 [some (.ref m), some (iv k), some (iv kind), some (iv (sm (fun j => bz (¬ tb (σ (235 + 52 * k + j)) kind)) i.toNat)), some (iv i)] [] := by
      intro n
      induction n with
      | zero => intro i h0 h1 h2; omega
      | succ n ih =>
        intro i h0 h1 h2
        have es := sm_succ (f := fun j => bz (¬ tb (σ (235 + 52 * k + j)) kind)) h0
        refine r_iload (pc := 28) dX11_can_28 rfl ?_
        refine r_aload_n (pc := 30) dX11_can_30 rfl rfl ?_
        refine r_getr (pc := 31) (c := 11) (k := 6) (kz := 6) hs.o cok_11 (Nat.le_of_ble_eq_true rfl) q1866 ⟨rfl, rfl⟩ (Or.inl rfl) rfl (fun _ _ _ => rfl) hs.p_s dX11_can_31 ?_
        refine r_sipush (pc := 34) dX11_can_34 (by decide +kernel) ?_
        refine r_iload_n (pc := 37) dX11_can_37 rfl rfl ?_
        refine r_iadd (pc := 38) dX11_can_38 ?_
        refine r_ialdU (pc := 39) hs.t_s (by omega) (by omega) dX11_can_39 (fun hr39 => ?_)
        refine r_icmp_ge (pc := 40) 80 dX11_can_40 rfl (by omega) (by omega) (fun h40 => ?_) (fun h40 => ?_)
        · obtain rfl : i = σ (229 + k) := by omega
          refine r_iload_n (pc := 80) dX11_can_80 rfl rfl ?_
          refine r_ireturn (pc := 81) rfl rfl dX11_can_81 (Nat.le_of_ble_eq_true rfl) (Nat.le_of_ble_eq_true rfl) ?_
          exact hQ
        refine r_iload_n (pc := 43) dX11_can_43 rfl rfl ?_
        refine r_aload_n (pc := 44) dX11_can_44 rfl rfl ?_
        refine r_getr (pc := 45) (c := 11) (k := 6) (kz := 6) hs.o cok_11 (Nat.le_of_ble_eq_true rfl) q1866 ⟨rfl, rfl⟩ (Or.inl rfl) rfl (fun _ _ _ => rfl) hs.p_s dX11_can_45 ?_
        refine r_sipush (pc := 48) dX11_can_48 (by decide +kernel) ?_
        refine r_bipush (pc := 51) dX11_can_51 (by decide +kernel) ?_
        refine r_iload_n (pc := 53) dX11_can_53 rfl rfl ?_
        refine r_imul (pc := 54) dX11_can_54 ?_
        refine r_iadd (pc := 55) dX11_can_55 ?_
        refine r_iload (pc := 56) dX11_can_56 rfl ?_
        refine r_iadd (pc := 58) dX11_can_58 ?_
        refine r_ialdU (pc := 59) hs.t_s (by omega) (by omega) dX11_can_59 (fun hr59 => ?_)
        refine r_iload_n (pc := 60) dX11_can_60 rfl rfl ?_
        refine r_callS2 (pc := 61) (M_bitOf hr59 (by omega) fe_i) im_X11_bitOf q2146 dX11_can_61 (Nat.le_of_ble_eq_true rfl) (Nat.le_of_ble_eq_true rfl) rfl (k_fi ?_) (fun _ _ _ _ _ _ _ hx => no_x hx)
        refine r_if_eq (pc := 64) 71 dX11_can_64 rfl bz_g (fun h64 => ?_) (fun h64 => ?_)
        · refine r_iconst (pc := 71) dX11_can_71 ?_
          refine r_iadd (pc := 72) dX11_can_72 ?_
          refine r_istore_n3 (pc := 73) (Nat.le_of_ble_eq_true rfl) dX11_can_73 rfl ?_
          refine r_iinc4 (pc := 74) (Nat.le_of_ble_eq_true rfl) dX11_can_74 rfl ?_
          refine r_goto (pc := 77) 28 dX11_can_77 rfl ?_
          have e1 : bz (¬ tb (σ (235 + 52 * k + i)) kind) = 1 := bz_t (bz_0.mp h64)
          have es : sm (fun j => bz (¬ tb (σ (235 + 52 * k + j)) kind)) i.toNat + 1 = sm (fun j => bz (¬ tb (σ (235 + 52 * k + j)) kind)) (i + 1).toNat := by rw [← es, e1]
          rw [es]
          exact ih (i + 1) (by omega) (by omega) (by omega)
        refine r_iconst (pc := 67) dX11_can_67 ?_
        refine r_goto (pc := 68) 72 dX11_can_68 rfl ?_
        refine r_iadd (pc := 72) dX11_can_72 ?_
        refine r_istore_n3 (pc := 73) (Nat.le_of_ble_eq_true rfl) dX11_can_73 rfl ?_
        refine r_iinc4 (pc := 74) (Nat.le_of_ble_eq_true rfl) dX11_can_74 rfl ?_
        refine r_goto (pc := 77) 28 dX11_can_77 rfl ?_
        have e1 : bz (¬ tb (σ (235 + 52 * k + i)) kind) = 0 := bz_f (fun q => q (bz_ne.mp h64))
        have es : sm (fun j => bz (¬ tb (σ (235 + 52 * k + j)) kind)) i.toNat + 0 = sm (fun j => bz (¬ tb (σ (235 + 52 * k + j)) kind)) (i + 1).toNat := by rw [← es, e1]
        rw [es]
        exact ih (i + 1) (by omega) (by omega) (by omega)
    exact loop 53 0 (by omega) (by omega) (by omega)
  exact bad (fun q => bz_0.mp h18 q.2)
theorem M_fault (hs : shM G P T m) (hQ : Q (some (iv (I m 15))) (ur (ui I m 0 0) (m + 2) σ) J P T z) : MC G yX11_fault (ws_ yX11_fault cX11_fault 1 (some FieldType.int)) (d) 0 0 [.ref m] (ur I (m + 2) σ) J P T z Q nX := by
  have hb := hs.b
  refine MC.of (by decide) (Nat.le_of_ble_eq_true rfl) ?_
  show PW G mX11_fault (rmD (d) 0 0) (MZ G Q nX 0 0) 0 0 (ur I (m + 2) σ) J P T z 0 [some (.ref m)] []
  refine r_aload_n (pc := 0) dX11_fault_0 rfl rfl ?_
  refine r_iconst (pc := 1) dX11_fault_1 ?_
  refine r_putiU (pc := 2) (c := 11) (k := 0) (kz := 0) hs.o cok_11 (Nat.le_of_ble_eq_true rfl) q1860 ⟨rfl, rfl⟩ (Or.inl rfl) rfl (by omega) (by omega) rfl rfl (by omega) (fun _ _ _ => rfl) ⟨rfl, rfl⟩ dX11_fault_2 ?_
  refine r_aload_n (pc := 5) dX11_fault_5 rfl rfl ?_
  refine r_getiU (pc := 6) (c := 11) (k := 15) (kz := 15) hs.o cok_11 (Nat.le_of_ble_eq_true rfl) q1875 ⟨rfl, rfl⟩ (Or.inl rfl) rfl (by omega) (fun _ _ _ => rfl) dX11_fault_6 (fun hr6 => ?_)
  rw [ui_j (by omega)]
  refine r_ireturn (pc := 9) rfl rfl dX11_fault_9 (Nat.le_of_ble_eq_true rfl) (Nat.le_of_ble_eq_true rfl) ?_
  exact hQ
theorem M_count (hs : shM G P T m) {w : Int} (hw : rg w) (hQ : Q (some (iv (if w = 4 then I m 2 else if 0 ≤ w ∧ w ≤ 3 then σ w else -1))) (ur (ui I m 0 0) (m + 2) σ) J P T z) : MC G yX11_count (ws_ yX11_count cX11_count 2 (some FieldType.int)) (d + 1) 0 0 [.ref m, iv w] (ur I (m + 2) σ) J P T z Q nX := by
  have hb := hs.b
  refine MC.of (by decide) (Nat.le_of_ble_eq_true rfl) ?_
  show PW G mX11_count (rmD (d + 1) 0 0) (MZ G Q nX 0 0) 0 0 (ur I (m + 2) σ) J P T z 0 [some (.ref m), some (iv w)] []
  refine r_aload_n (pc := 0) dX11_count_0 rfl rfl ?_
  refine r_iconst (pc := 1) dX11_count_1 ?_
  refine r_putiU (pc := 2) (c := 11) (k := 0) (kz := 0) hs.o cok_11 (Nat.le_of_ble_eq_true rfl) q1860 ⟨rfl, rfl⟩ (Or.inl rfl) rfl (by omega) (by omega) rfl rfl (by omega) (fun _ _ _ => rfl) ⟨rfl, rfl⟩ dX11_count_2 ?_
  refine r_iload_n (pc := 5) dX11_count_5 rfl rfl ?_
  refine r_iconst (pc := 6) dX11_count_6 ?_
  refine r_icmp_ne (pc := 7) 17 dX11_count_7 rfl (by omega) (by omega) (fun h7 => ?_) (fun h7 => ?_)
  · rw [if_neg h7] at hQ
    refine r_iload_n (pc := 17) dX11_count_17 rfl rfl ?_
    refine r_iconst (pc := 18) dX11_count_18 ?_
    refine r_iconst (pc := 19) dX11_count_19 ?_
    refine r_callS3 (pc := 20) (M_isIn hw (by omega) (by omega) fe_i) im_X11_isIn q2095 dX11_count_20 (Nat.le_of_ble_eq_true rfl) (Nat.le_of_ble_eq_true rfl) rfl (k_fi ?_) (fun _ _ _ _ _ _ _ hx => no_x hx)
    refine r_if_eq (pc := 23) 35 dX11_count_23 rfl bz_g (fun h23 => ?_) (fun h23 => ?_)
    · rw [if_neg (bz_0.mp h23)] at hQ
      refine r_iconst (pc := 35) dX11_count_35 ?_
      refine r_ireturn (pc := 36) rfl rfl dX11_count_36 (Nat.le_of_ble_eq_true rfl) (Nat.le_of_ble_eq_true rfl) ?_
      exact hQ
    have g1 := bz_ne.mp h23
    rw [if_pos g1] at hQ
    refine r_aload_n (pc := 26) dX11_count_26 rfl rfl ?_
    refine r_getr (pc := 27) (c := 11) (k := 6) (kz := 6) hs.o cok_11 (Nat.le_of_ble_eq_true rfl) q1866 ⟨rfl, rfl⟩ (Or.inl rfl) rfl (fun _ _ _ => rfl) hs.p_s dX11_count_27 ?_
    refine r_iload_n (pc := 30) dX11_count_30 rfl rfl ?_
    refine r_ialdU (pc := 31) hs.t_s (by omega) (by omega) dX11_count_31 (fun hr31 => ?_)
    refine r_goto (pc := 32) 36 dX11_count_32 rfl ?_
    refine r_ireturn (pc := 36) rfl rfl dX11_count_36 (Nat.le_of_ble_eq_true rfl) (Nat.le_of_ble_eq_true rfl) ?_
    exact hQ
  rw [if_pos h7] at hQ
  refine r_aload_n (pc := 10) dX11_count_10 rfl rfl ?_
  refine r_getiU (pc := 11) (c := 11) (k := 2) (kz := 2) hs.o cok_11 (Nat.le_of_ble_eq_true rfl) q1862 ⟨rfl, rfl⟩ (Or.inl rfl) rfl (by omega) (fun _ _ _ => rfl) dX11_count_11 (fun hr11 => ?_)
  rw [ui_j (by omega)]
  refine r_goto (pc := 14) 36 dX11_count_14 rfl ?_
  refine r_ireturn (pc := 36) rfl rfl dX11_count_36 (Nat.le_of_ble_eq_true rfl) (Nat.le_of_ble_eq_true rfl) ?_
  exact hQ
theorem M_asked (hs : shM G P T m) {w : Int} (hw : rg w) (hQ : Q (some (iv (if I m 24 ≠ 0 ∧ 0 ≤ w ∧ w ≤ 7 then I (m + 7) w else -1))) (ur (ui I m 0 0) (m + 2) σ) J P T z) : MC G yX11_asked (ws_ yX11_asked cX11_asked 2 (some FieldType.int)) (d + 1) 0 0 [.ref m, iv w] (ur I (m + 2) σ) J P T z Q nX := by
  have hb := hs.b
  refine MC.of (by decide) (Nat.le_of_ble_eq_true rfl) ?_
  show PW G mX11_asked (rmD (d + 1) 0 0) (MZ G Q nX 0 0) 0 0 (ur I (m + 2) σ) J P T z 0 [some (.ref m), some (iv w)] []
  refine r_aload_n (pc := 0) dX11_asked_0 rfl rfl ?_
  refine r_iconst (pc := 1) dX11_asked_1 ?_
  refine r_putiU (pc := 2) (c := 11) (k := 0) (kz := 0) hs.o cok_11 (Nat.le_of_ble_eq_true rfl) q1860 ⟨rfl, rfl⟩ (Or.inl rfl) rfl (by omega) (by omega) rfl rfl (by omega) (fun _ _ _ => rfl) ⟨rfl, rfl⟩ dX11_asked_2 ?_
  refine r_aload_n (pc := 5) dX11_asked_5 rfl rfl ?_
  refine r_getiU (pc := 6) (c := 11) (k := 24) (kz := 24) hs.o cok_11 (Nat.le_of_ble_eq_true rfl) q1884 ⟨rfl, rfl⟩ (Or.inl rfl) rfl (by omega) (fun _ _ _ => rfl) dX11_asked_6 (fun hr6 => ?_)
  rw [ui_j (by omega)]
  refine r_if_eq (pc := 9) 31 dX11_asked_9 rfl (by rw [ui_j (by omega)] at hr6; exact hr6) (fun h9 => ?_) (fun h9 => ?_)
  · rw [if_neg (by omega)] at hQ
    refine r_iconst (pc := 31) dX11_asked_31 ?_
    refine r_ireturn (pc := 32) rfl rfl dX11_asked_32 (Nat.le_of_ble_eq_true rfl) (Nat.le_of_ble_eq_true rfl) ?_
    exact hQ
  refine r_iload_n (pc := 12) dX11_asked_12 rfl rfl ?_
  refine r_iconst (pc := 13) dX11_asked_13 ?_
  refine r_bipush (pc := 14) dX11_asked_14 (by decide +kernel) ?_
  refine r_callS3 (pc := 16) (M_isIn hw (by omega) (by omega) fe_i) im_X11_isIn q2095 dX11_asked_16 (Nat.le_of_ble_eq_true rfl) (Nat.le_of_ble_eq_true rfl) rfl (k_fi ?_) (fun _ _ _ _ _ _ _ hx => no_x hx)
  refine r_if_eq (pc := 19) 31 dX11_asked_19 rfl bz_g (fun h19 => ?_) (fun h19 => ?_)
  · rw [if_neg (fun q => bz_0.mp h19 q.2)] at hQ
    refine r_iconst (pc := 31) dX11_asked_31 ?_
    refine r_ireturn (pc := 32) rfl rfl dX11_asked_32 (Nat.le_of_ble_eq_true rfl) (Nat.le_of_ble_eq_true rfl) ?_
    exact hQ
  have g1 := bz_ne.mp h19
  rw [if_pos ⟨h9, g1⟩] at hQ
  refine r_aload_n (pc := 22) dX11_asked_22 rfl rfl ?_
  refine r_getr (pc := 23) (c := 11) (k := 23) (kz := 23) hs.o cok_11 (Nat.le_of_ble_eq_true rfl) q1883 ⟨rfl, rfl⟩ (Or.inl rfl) rfl (fun _ _ _ => rfl) hs.p_askedAt dX11_asked_23 ?_
  refine r_iload_n (pc := 26) dX11_asked_26 rfl rfl ?_
  refine r_ialdV (pc := 27) hs.t_askedAt (by omega) (by omega) (by omega) dX11_asked_27 (fun hr27 => ?_)
  rw [ui_n (by omega)]
  refine r_goto (pc := 28) 32 dX11_asked_28 rfl ?_
  refine r_ireturn (pc := 32) rfl rfl dX11_asked_32 (Nat.le_of_ble_eq_true rfl) (Nat.le_of_ble_eq_true rfl) ?_
  exact hQ
end M4
