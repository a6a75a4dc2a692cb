/-! ===== the component: cards, settling ===== -/
section K2
variable {G : GE} {I I0 J : HI} {P : HP} {T : HT} {z : Nat} {g t d : Nat} {Q : QT} {σ μ : Int → Int}
theorem GR.mu {I : HI} {g t : Nat} {σ μ ν : Int → Int} (h : GR I g t σ μ) (e : ∀ i, 0 ≤ i → i < 8 → ν i = μ i) : GR I g t σ ν := by
  unfold GR at h ⊢
  obtain ⟨a1, a2, a3, a4, a5, a6, a7, a8, a9, a10, a11, a12, a13, a14, a15, a16, a17, a18⟩ := h
  exact ⟨a1, a2, a3, a4, a5, a6, a7, a8, a9, a10, a11, a12, a13, a14, a15, fun i x y => by rw [e i x y]; exact a16 i x y, a17, a18⟩
theorem C_draw (hs : shG G P T g t) (hf : GF g I0 I) (hr : GR I g t σ μ) {p : Int} (hp : 0 ≤ p ∧ p < 6) (h7 : 0 < σ 7) (hg : RG σ) (hQ : ∀ I', GF g I0 I' → GR I' g t (f_draws σ p) μ → Q (some (iv (σ 8))) I' J P T z) : MC G yX3_draw (ws_ yX3_draw cX3_draw 3 (some FieldType.int)) (d) 0 0 [.ref g, iv p] I J P T z Q nX := by
  have hb := hs.b
  refine MC.of (by decide) (Nat.le_of_ble_eq_true rfl) ?_
  show PW G mX3_draw (rmD (d) 0 0) (MZ G Q nX 0 0) 0 0 I J P T z 0 [some (.ref g), some (iv p), none] []
  have hh := hr.hp
  have h8 := hg.2.1 0 (by omega) h7
  have e8 := hr.heap (i := 0) (by omega) h7
  rw [show (8 : Int) + 0 = 8 by omega] at h8 e8
  rw [Int.add_zero] at e8
  refine r_aload_n (pc := 0) dX3_draw_0 rfl rfl ?_
  refine r_getr (pc := 1) (c := 3) (k := 10) (kz := 10) hs.o cok_3 (Nat.le_of_ble_eq_true rfl) q294 ⟨rfl, rfl⟩ (Or.inl rfl) rfl (fun _ _ _ => rfl) hs.p_heap dX3_draw_1 ?_
  refine r_aload_n (pc := 4) dX3_draw_4 rfl rfl ?_
  refine r_geti (pc := 5) (c := 3) (k := 12) (kz := 12) hs.o cok_3 (Nat.le_of_ble_eq_true rfl) q301 ⟨rfl, rfl⟩ (Or.inl rfl) rfl (fun _ _ _ => rfl) dX3_draw_5 (fun hr5 => ?_)
  refine r_iald (pc := 8) hs.t_heap (by omega) (by omega) dX3_draw_8 (fun hr8 => ?_)
  rw [e8]
  refine r_istore_n2 (pc := 9) (Nat.le_of_ble_eq_true rfl) dX3_draw_9 rfl ?_
  refine r_aload_n (pc := 10) dX3_draw_10 rfl rfl ?_
  refine r_dup (pc := 11) dX3_draw_11 rfl ?_
  refine r_geti (pc := 12) (c := 3) (k := 12) (kz := 12) hs.o cok_3 (Nat.le_of_ble_eq_true rfl) q301 ⟨rfl, rfl⟩ (Or.inl rfl) rfl (fun _ _ _ => rfl) dX3_draw_12 (fun hr12 => ?_)
  refine r_iconst (pc := 15) dX3_draw_15 ?_
  refine r_iadd (pc := 16) dX3_draw_16 ?_
  refine r_puti (pc := 17) (c := 3) (k := 12) (kz := 12) hs.o cok_3 (Nat.le_of_ble_eq_true rfl) q301 ⟨rfl, rfl⟩ (Or.inl rfl) rfl (by omega) rfl rfl (by omega) (fun _ _ _ => rfl) ⟨rfl, rfl⟩ dX3_draw_17 ?_
  refine g_draw_w hf hr h7 (by omega) fun I1 hf1 hr1 => ?_
  refine r_aload_n (pc := 20) dX3_draw_20 rfl rfl ?_
  refine r_getr (pc := 21) (c := 3) (k := 1) (kz := 1) hs.o cok_3 (Nat.le_of_ble_eq_true rfl) q264 ⟨rfl, rfl⟩ (Or.inl rfl) rfl (fun _ _ _ => rfl) hs.p_hand dX3_draw_21 ?_
  refine r_iload_n (pc := 24) dX3_draw_24 rfl rfl ?_
  refine r_aald (pc := 25) hs.t_hand ⟨by decide, by decide⟩ rfl (fun _ _ _ => rfl) (by omega) (by omega) (hs.q_hand (by omega) (by omega)) dX3_draw_25 ?_
  refine r_iload_n (pc := 26) dX3_draw_26 rfl rfl ?_
  refine r_dup2 (pc := 27) dX3_draw_27 rfl rfl ?_
  refine r_iald (pc := 28) (hs.u_hand (by omega) (by omega)) (by omega) (by omega) dX3_draw_28 (fun hr28 => ?_)
  rw [hr1.hand (by omega) (by omega) (by omega) (by omega)] at hr28 ⊢
  refine r_iconst (pc := 29) dX3_draw_29 ?_
  refine r_iadd (pc := 30) dX3_draw_30 ?_
  refine r_iastW (pc := 31) (hs.u_hand (by omega) (by omega)) (by omega) (by omega) (by omega) dX3_draw_31 ?_
  refine g_hand_w hf1 hr1 (by omega) (by omega) (by omega) (by omega) fun Ig1 hfg1 hrg1 => ?_
  refine r_aload_n (pc := 32) dX3_draw_32 rfl rfl ?_
  refine r_getr (pc := 33) (c := 3) (k := 8) (kz := 8) hs.o cok_3 (Nat.le_of_ble_eq_true rfl) q288 ⟨rfl, rfl⟩ (Or.inl rfl) rfl (fun _ _ _ => rfl) hs.p_drew dX3_draw_33 ?_
  refine r_iload_n (pc := 36) dX3_draw_36 rfl rfl ?_
  refine r_iload_n (pc := 37) dX3_draw_37 rfl rfl ?_
  refine r_iast (pc := 38) hs.t_drew (by omega) (by omega) (by omega) (by omega) dX3_draw_38 ?_
  refine g_drew_w hfg1 hrg1 (by omega) (by omega) fun Ig2 hfg2 hrg2 => ?_
  refine r_iload_n (pc := 39) dX3_draw_39 rfl rfl ?_
  refine r_ireturn (pc := 40) rfl rfl dX3_draw_40 (Nat.le_of_ble_eq_true rfl) (Nat.le_of_ble_eq_true rfl) ?_
  exact hQ _ hfg2 hrg2
theorem C_books (hs : shG G P T g t) (hf : GF g I0 I) (hr : GR I g t σ μ) {p : Int} (hp : 0 ≤ p ∧ p < 6) (hc : CV σ) (hQ : ∀ I', GF g I0 I' → GR I' g t (f_bks σ p 0 13) (f_l5 σ μ p 0 13) → Q none I' J P T z) : MC G yX3_books (ws_ yX3_books cX3_books 3 (none : Option FieldType)) (d + 4) 0 0 [.ref g, iv p] I J P T z Q nX := by
  have hb := hs.b
  refine MC.of (by decide) (Nat.le_of_ble_eq_true rfl) ?_
  show PW G mX3_books (rmD (d + 4) 0 0) (MZ G Q nX 0 0) 0 0 I J P T z 0 [some (.ref g), some (iv p), none] []
  generalize hD : f_bks σ p 0 13 = D at hQ
  generalize hL : f_l5 σ μ p 0 13 = L at hQ
  refine r_iconst (pc := 0) dX3_books_0 ?_
  refine r_istore_n2 (pc := 1) (Nat.le_of_ble_eq_true rfl) dX3_books_1 rfl ?_
  have loop : ∀ (n : Nat) (k : Int) (I1 : HI) (σ1 μ1 : Int → Int), 0 ≤ k → k + n = 13 → GF g I0 I1 → GR I1 g t σ1 μ1 → CV σ1 → f_bks σ1 p k n = D → f_l5 σ1 μ1 p k n = L → PW G mX3_books (rmD (d + 4) 0 0) (MZ G Q nX 0 0) 0 0 I1 J P T z 2 [some (.ref g), some (iv p), some (iv k)] [] := by
    intro n
    induction n with
    | zero =>
      intro k I1 σ1 μ1 h0 hn hf1 hr1 hc1 hD1 hL1
      have hD1 : σ1 = D := hD1
      have hL1 : μ1 = L := hL1
      subst hD1 hL1
      refine r_iload_n (pc := 2) dX3_books_2 rfl rfl ?_
      refine r_bipush (pc := 3) dX3_books_3 (by decide +kernel) ?_
      refine r_icmp_ge (pc := 5) 88 dX3_books_5 rfl (by omega) (by omega) (fun h5 => ?_) (fun h5 => ?_)
      · refine r_return (pc := 88) rfl dX3_books_88 (Nat.le_of_ble_eq_true rfl) (Nat.le_of_ble_eq_true rfl) ?_
        exact hQ _ hf1 hr1
      omega
    | succ n ih =>
      intro k I1 σ1 μ1 h0 hn hf1 hr1 hc1 hD1 hL1
      have hk : 0 ≤ k ∧ k < 13 := by omega
      have h4 := hc1.h4 hp.1 hp.2 hk.1 hk.2
      have hkn := hc1.kn hp.1 hp.2 hk.1 hk.2
      have hD1 : f_bks (f_books σ1 p k) p (k + 1) n = D := hD1
      simp only [f_l5] at hL1
      refine r_iload_n (pc := 2) dX3_books_2 rfl rfl ?_
      refine r_bipush (pc := 3) dX3_books_3 (by decide +kernel) ?_
      refine r_icmp_ge (pc := 5) 88 dX3_books_5 rfl (by omega) (by omega) (fun h5 => ?_) (fun h5 => ?_)
      · omega
      refine r_aload_n (pc := 8) dX3_books_8 rfl rfl ?_
      refine r_getr (pc := 9) (c := 3) (k := 1) (kz := 1) hs.o cok_3 (Nat.le_of_ble_eq_true rfl) q264 ⟨rfl, rfl⟩ (Or.inl rfl) rfl (fun _ _ _ => rfl) hs.p_hand dX3_books_9 ?_
      refine r_iload_n (pc := 12) dX3_books_12 rfl rfl ?_
      refine r_aald (pc := 13) hs.t_hand ⟨by decide, by decide⟩ rfl (fun _ _ _ => rfl) (by omega) (by omega) (hs.q_hand (by omega) (by omega)) dX3_books_13 ?_
      refine r_iload_n (pc := 14) dX3_books_14 rfl rfl ?_
      refine r_iald (pc := 15) (hs.u_hand (by omega) (by omega)) (by omega) (by omega) dX3_books_15 (fun hr15 => ?_)
      rw [hr1.hand (by omega) (by omega) (by omega) (by omega)] at hr15 ⊢
      refine r_iconst (pc := 16) dX3_books_16 ?_
      refine r_icmp_ge (pc := 17) 23 dX3_books_17 rfl (by omega) (by omega) (fun h17 => ?_) (fun h17 => ?_)
      · rw [if_neg (by omega)] at hL1
        have c4 : σ1 (60 + 13 * p + k) = 4 := by omega
        have cb := (hc1.books hp hk).1
        have eb : f_books σ1 p k = us (us (us (f_lr σ1 p k (4 - σ1 (151 + 13 * p + k)).toNat) (151 + 13 * p + k) 0) (60 + 13 * p + k) 0) (138 + k) (p + 1) := by
          unfold f_books f_hand
          rw [if_neg (by omega), us_n (show 60 + 13 * p + k ≠ 151 + 13 * p + k by omega), f_lr_n hp hk (by omega) (by omega) (by omega) (by omega) _ hc1.rg, c4]
          rfl
        refine r_aload_n (pc := 23) dX3_books_23 rfl rfl ?_
        refine r_iload_n (pc := 24) dX3_books_24 rfl rfl ?_
        refine r_iload_n (pc := 25) dX3_books_25 rfl rfl ?_
        refine r_iconst (pc := 26) dX3_books_26 ?_
        refine r_callV3 (pc := 27) (C_learnUpTo hs hf1 hr1 hp hk (by omega) hc1.rg qg_i) im_X3_learnUpTo qs4 q397 hs.o rfl dX3_books_27 (Nat.le_of_ble_eq_true rfl) (Nat.le_of_ble_eq_true rfl) rfl (k_gv fun I2 hf2 hr2 => ?_) (fun _ _ _ _ _ _ _ hx => no_x hx)
        refine r_aload_n (pc := 30) dX3_books_30 rfl rfl ?_
        refine r_getr (pc := 31) (c := 3) (k := 2) (kz := 2) hs.o cok_3 (Nat.le_of_ble_eq_true rfl) q274 ⟨rfl, rfl⟩ (Or.inl rfl) rfl (fun _ _ _ => rfl) hs.p_known dX3_books_31 ?_
        refine r_iload_n (pc := 34) dX3_books_34 rfl rfl ?_
        refine r_aald (pc := 35) hs.t_known ⟨by decide, by decide⟩ rfl (fun _ _ _ => rfl) (by omega) (by omega) (hs.q_known (by omega) (by omega)) dX3_books_35 ?_
        refine r_iload_n (pc := 36) dX3_books_36 rfl rfl ?_
        refine r_iconst (pc := 37) dX3_books_37 ?_
        refine r_iast (pc := 38) (hs.u_known (by omega) (by omega)) (by omega) (by omega) (by omega) (by omega) dX3_books_38 ?_
        refine g_known_w hf2 hr2 (by omega) (by omega) (by omega) (by omega) fun Ig3 hfg3 hrg3 => ?_
        refine r_aload_n (pc := 39) dX3_books_39 rfl rfl ?_
        refine r_getr (pc := 40) (c := 3) (k := 1) (kz := 1) hs.o cok_3 (Nat.le_of_ble_eq_true rfl) q264 ⟨rfl, rfl⟩ (Or.inl rfl) rfl (fun _ _ _ => rfl) hs.p_hand dX3_books_40 ?_
        refine r_iload_n (pc := 43) dX3_books_43 rfl rfl ?_
        refine r_aald (pc := 44) hs.t_hand ⟨by decide, by decide⟩ rfl (fun _ _ _ => rfl) (by omega) (by omega) (hs.q_hand (by omega) (by omega)) dX3_books_44 ?_
        refine r_iload_n (pc := 45) dX3_books_45 rfl rfl ?_
        refine r_iconst (pc := 46) dX3_books_46 ?_
        refine r_iast (pc := 47) (hs.u_hand (by omega) (by omega)) (by omega) (by omega) (by omega) (by omega) dX3_books_47 ?_
        refine g_hand_w hfg3 hrg3 (by omega) (by omega) (by omega) (by omega) fun Ig4 hfg4 hrg4 => ?_
        refine r_aload_n (pc := 48) dX3_books_48 rfl rfl ?_
        refine r_getr (pc := 49) (c := 3) (k := 9) (kz := 9) hs.o cok_3 (Nat.le_of_ble_eq_true rfl) q291 ⟨rfl, rfl⟩ (Or.inl rfl) rfl (fun _ _ _ => rfl) hs.p_book dX3_books_49 ?_
        refine r_iload_n (pc := 52) dX3_books_52 rfl rfl ?_
        refine r_iload_n (pc := 53) dX3_books_53 rfl rfl ?_
        refine r_iast (pc := 54) hs.t_book (by omega) (by omega) (by omega) (by omega) dX3_books_54 ?_
        refine g_book_w hfg4 hrg4 (by omega) (by omega) fun Ig5 hfg5 hrg5 => ?_
        rw [← eb] at hrg5
        refine r_aload_n (pc := 55) dX3_books_55 rfl rfl ?_
        refine r_getr (pc := 56) (c := 3) (k := 17) (kz := 17) hs.o cok_3 (Nat.le_of_ble_eq_true rfl) q314 ⟨rfl, rfl⟩ (Or.inl rfl) rfl (fun _ _ _ => rfl) hs.p_latest dX3_books_56 ?_
        refine r_iconst (pc := 59) dX3_books_59 ?_
        refine r_iald (pc := 60) hs.t_latest (by omega) (by omega) dX3_books_60 (fun hr60 => ?_)
        rw [hrg5.latest (by omega) (by omega)] at hr60 ⊢
        refine r_iconst (pc := 61) dX3_books_61 ?_
        refine r_icmp_eq (pc := 62) 75 dX3_books_62 rfl (by omega) (by omega) (fun h62 => ?_) (fun h62 => ?_)
        · rw [if_pos (Or.inl h62)] at hL1
          refine r_aload_n (pc := 75) dX3_books_75 rfl rfl ?_
          refine r_getr (pc := 76) (c := 3) (k := 17) (kz := 17) hs.o cok_3 (Nat.le_of_ble_eq_true rfl) q314 ⟨rfl, rfl⟩ (Or.inl rfl) rfl (fun _ _ _ => rfl) hs.p_latest dX3_books_76 ?_
          refine r_iconst (pc := 79) dX3_books_79 ?_
          refine r_iload_n (pc := 80) dX3_books_80 rfl rfl ?_
          refine r_iast (pc := 81) hs.t_latest (by omega) (by omega) (by omega) (by omega) dX3_books_81 ?_
          refine g_latest_w hfg5 hrg5 (by omega) (by omega) fun Ig6 hfg6 hrg6 => ?_
          refine r_iinc2 (pc := 82) (Nat.le_of_ble_eq_true rfl) dX3_books_82 rfl ?_
          refine r_goto (pc := 85) 2 dX3_books_85 rfl ?_
          exact ih (k + 1) _ _ _ (by omega) (by omega) hfg6 hrg6 cb hD1 hL1
        refine r_iload_n (pc := 65) dX3_books_65 rfl rfl ?_
        refine r_aload_n (pc := 66) dX3_books_66 rfl rfl ?_
        refine r_getr (pc := 67) (c := 3) (k := 17) (kz := 17) hs.o cok_3 (Nat.le_of_ble_eq_true rfl) q314 ⟨rfl, rfl⟩ (Or.inl rfl) rfl (fun _ _ _ => rfl) hs.p_latest dX3_books_67 ?_
        refine r_iconst (pc := 70) dX3_books_70 ?_
        refine r_iald (pc := 71) hs.t_latest (by omega) (by omega) dX3_books_71 (fun hr71 => ?_)
        rw [hrg5.latest (by omega) (by omega)] at hr71 ⊢
        refine r_icmp_ge (pc := 72) 82 dX3_books_72 rfl (by omega) (by omega) (fun h72 => ?_) (fun h72 => ?_)
        · rw [if_neg (by omega)] at hL1
          refine r_iinc2 (pc := 82) (Nat.le_of_ble_eq_true rfl) dX3_books_82 rfl ?_
          refine r_goto (pc := 85) 2 dX3_books_85 rfl ?_
          exact ih (k + 1) _ _ _ (by omega) (by omega) hfg5 hrg5 cb hD1 hL1
        rw [if_pos (Or.inr h72)] at hL1
        refine r_aload_n (pc := 75) dX3_books_75 rfl rfl ?_
        refine r_getr (pc := 76) (c := 3) (k := 17) (kz := 17) hs.o cok_3 (Nat.le_of_ble_eq_true rfl) q314 ⟨rfl, rfl⟩ (Or.inl rfl) rfl (fun _ _ _ => rfl) hs.p_latest dX3_books_76 ?_
        refine r_iconst (pc := 79) dX3_books_79 ?_
        refine r_iload_n (pc := 80) dX3_books_80 rfl rfl ?_
        refine r_iast (pc := 81) hs.t_latest (by omega) (by omega) (by omega) (by omega) dX3_books_81 ?_
        refine g_latest_w hfg5 hrg5 (by omega) (by omega) fun Ig7 hfg7 hrg7 => ?_
        refine r_iinc2 (pc := 82) (Nat.le_of_ble_eq_true rfl) dX3_books_82 rfl ?_
        refine r_goto (pc := 85) 2 dX3_books_85 rfl ?_
        exact ih (k + 1) _ _ _ (by omega) (by omega) hfg7 hrg7 cb hD1 hL1
      rw [if_pos h17] at hL1
      rw [f_books_lt h17] at hD1 hL1
      refine r_goto (pc := 20) 82 dX3_books_20 rfl ?_
      refine r_iinc2 (pc := 82) (Nat.le_of_ble_eq_true rfl) dX3_books_82 rfl ?_
      refine r_goto (pc := 85) 2 dX3_books_85 rfl ?_
      exact ih (k + 1) _ _ _ (by omega) (by omega) hf1 hr1 hc1 hD1 hL1
  exact loop 13 0 I σ μ (by omega) (by omega) hf hr hc hD hL
theorem C_settle (hs : shG G P T g t) (hf : GF g I0 I) (hr : GR I g t σ μ) {fr : Int} (hc : CV σ) (h3 : R3 σ) (hfr : fr = 0 ∨ 0 ≤ fr ∧ fr < σ 1) (hQ : ∀ I' μ', GF g I0 I' → GR I' g t (f_settles σ fr) μ' → (∀ j, j ≠ 5 → μ' j = μ j) → Q none I' J P T z) : MC G yX3_settle (ws_ yX3_settle cX3_settle 5 (none : Option FieldType)) (d + 5) 0 0 [.ref g, iv fr] I J P T z Q nX := by
  have hb := hs.b
  have ht := hc.ta
  refine MC.of (by decide) (Nat.le_of_ble_eq_true rfl) ?_
  show PW G mX3_settle (rmD (d + 5) 0 0) (MZ G Q nX 0 0) 0 0 I J P T z 0 [some (.ref g), some (iv fr), none, none, none] []
  refine r_iload_n (pc := 0) dX3_settle_0 rfl rfl ?_
  refine r_istore_n2 (pc := 1) (Nat.le_of_ble_eq_true rfl) dX3_settle_1 rfl ?_
  refine r_iconst (pc := 2) dX3_settle_2 ?_
  refine r_istore_n3 (pc := 3) (Nat.le_of_ble_eq_true rfl) dX3_settle_3 rfl ?_
  unfold f_settles at hQ
  generalize hD : f_settle (us σ 4 (-1)) fr 0 (σ 1).toNat = D at hQ
  have loop : ∀ (n : Nat) (i p : Int) (I1 : HI) (σ1 μ1 : Int → Int) (l4 : Option Value), 0 ≤ i → i + n = σ 1 → (n = 0 ∨ p = (fr + i) % σ 1) → GF g I0 I1 → GR I1 g t σ1 μ1 → CV σ1 → R3 σ1 → σ1 1 = σ 1 → (∀ j, j ≠ 5 → μ1 j = μ j) → f_settle (us σ1 4 (-1)) fr i n = D → PW G mX3_settle (rmD (d + 5) 0 0) (MZ G Q nX 0 0) 0 0 I1 J P T z 4 [some (.ref g), some (iv fr), some (iv p), some (iv i), l4] [] := by
    intro n
    induction n with
    | zero =>
      intro i p I1 σ1 μ1 l4 h0 hn hp hf1 hr1 hc1 h31 e1 hm hD1
      have hD1 : us σ1 4 (-1) = D := hD1
      refine r_iload_n (pc := 4) dX3_settle_4 rfl rfl ?_
      refine r_aload_n (pc := 5) dX3_settle_5 rfl rfl ?_
      refine r_getr (pc := 6) (c := 3) (k := 0) (kz := 0) hs.o cok_3 (Nat.le_of_ble_eq_true rfl) q259 ⟨rfl, rfl⟩ (Or.inl rfl) rfl (fun _ _ _ => rfl) hs.p_t dX3_settle_6 ?_
      refine r_callV0 (pc := 9) (C_many hs.tb fe_i) im_X2_many q369 q367 hs.tb.o rfl dX3_settle_9 (Nat.le_of_ble_eq_true rfl) (Nat.le_of_ble_eq_true rfl) rfl (k_fi ?_) (fun _ _ _ _ _ _ _ hx => no_x hx)
      rw [hr1.ta.2.1, e1]
      refine r_icmp_ge (pc := 12) 119 dX3_settle_12 rfl (by omega) (by omega) (fun h12 => ?_) (fun h12 => ?_)
      · refine r_aload_n (pc := 119) dX3_settle_119 rfl rfl ?_
        refine r_iconst (pc := 120) dX3_settle_120 ?_
        refine r_puti (pc := 121) (c := 3) (k := 14) (kz := 14) hs.o cok_3 (Nat.le_of_ble_eq_true rfl) q307 ⟨rfl, rfl⟩ (Or.inl rfl) rfl (by omega) rfl rfl (by omega) (fun _ _ _ => rfl) ⟨rfl, rfl⟩ dX3_settle_121 ?_
        refine g_turn_w hf1 hr1 fun Ig8 hfg8 hrg8 => ?_
        refine r_return (pc := 124) rfl dX3_settle_124 (Nat.le_of_ble_eq_true rfl) (Nat.le_of_ble_eq_true rfl) ?_
        rw [hD1] at hrg8
        exact hQ _ _ hfg8 hrg8 hm
      omega
    | succ n ih =>
      intro i p I1 σ1 μ1 l4 h0 hn hp hf1 hr1 hc1 h31 e1 hm hD1
      have hp : p = (fr + i) % σ 1 := by rcases hp with q | q; omega; exact q
      have hpr : 0 ≤ p ∧ p < σ 1 := by rw [hp]; exact ⟨Int.emod_nonneg _ (by omega), Int.emod_lt_of_pos _ (by omega)⟩
      have hp6 : 0 ≤ p ∧ p < 6 := by omega
      simp only [f_settle] at hD1
      rw [us_n (show (1 : Int) ≠ 4 by omega), e1, ← hp, us_n (show (7 : Int) ≠ 4 by omega), k4_refills _ hc1.rg hp6] at hD1
      have hnx : (p + 1) % σ 1 = (fr + (i + 1)) % σ 1 := by rw [hp, Int.emod_add_emod]; congr 1; omega
      -- behind the refills
      have aft : ∀ (I2 : HI) (σ2 μ2 : Int → Int) (l4 : Option Value), GF g I0 I2 → GR I2 g t σ2 μ2 → CV σ2 → R3 σ2 → σ2 1 = σ 1 → (∀ j, j ≠ 5 → μ2 j = μ j) → (if f_cards (us σ2 4 (-1)) p = 0 then f_settle (us σ2 4 (-1)) fr (i + 1) n else us (us σ2 4 (-1)) 4 p) = D → PW G mX3_settle (rmD (d + 5) 0 0) (MZ G Q nX 0 0) 0 0 I2 J P T z 87 [some (.ref g), some (iv fr), some (iv p), some (iv i), l4] [] := by
        intro I2 σ2 μ2 l4 hf2 hr2 hc2 h32 e2 hm2 hD2
        rw [k4_cards hp6.1, us_us] at hD2
        have hcd := hc2.cd hp6.1 hp6.2
        refine r_aload_n (pc := 87) dX3_settle_87 rfl rfl ?_
        refine r_iload_n (pc := 88) dX3_settle_88 rfl rfl ?_
        refine r_callV1 (pc := 89) (C_size hs hr2 hp6 fe_i) im_X3_size q383 q381 hs.o rfl dX3_settle_89 (Nat.le_of_ble_eq_true rfl) (Nat.le_of_ble_eq_true rfl) rfl (k_fi ?_) (fun _ _ _ _ _ _ _ hx => no_x hx)
        refine r_if_le (pc := 92) 101 dX3_settle_92 rfl f_cards_r (fun h92 => ?_) (fun h92 => ?_)
        · rw [if_pos (by omega)] at hD2
          refine r_iload_n (pc := 101) dX3_settle_101 rfl rfl ?_
          refine r_iconst (pc := 102) dX3_settle_102 ?_
          refine r_iadd (pc := 103) dX3_settle_103 ?_
          refine r_aload_n (pc := 104) dX3_settle_104 rfl rfl ?_
          refine r_getr (pc := 105) (c := 3) (k := 0) (kz := 0) hs.o cok_3 (Nat.le_of_ble_eq_true rfl) q259 ⟨rfl, rfl⟩ (Or.inl rfl) rfl (fun _ _ _ => rfl) hs.p_t dX3_settle_105 ?_
          refine r_callV0 (pc := 108) (C_many hs.tb fe_i) im_X2_many q369 q367 hs.tb.o rfl dX3_settle_108 (Nat.le_of_ble_eq_true rfl) (Nat.le_of_ble_eq_true rfl) rfl (k_fi ?_) (fun _ _ _ _ _ _ _ hx => no_x hx)
          rw [hr2.ta.2.1, e2]
          refine r_irem (pc := 111) dX3_settle_111 (by omega) (by omega) ?_
          rw [hnx]
          refine r_istore_n2 (pc := 112) (Nat.le_of_ble_eq_true rfl) dX3_settle_112 rfl ?_
          refine r_iinc3 (pc := 113) (Nat.le_of_ble_eq_true rfl) dX3_settle_113 rfl ?_
          refine r_goto (pc := 116) 4 dX3_settle_116 rfl ?_
          exact ih (i + 1) _ _ _ _ _ (by omega) (by omega) (Or.inr rfl) hf2 hr2 hc2 h32 e2 hm2 hD2
        rw [if_neg (by omega)] at hD2
        refine r_aload_n (pc := 95) dX3_settle_95 rfl rfl ?_
        refine r_iload_n (pc := 96) dX3_settle_96 rfl rfl ?_
        refine r_puti (pc := 97) (c := 3) (k := 14) (kz := 14) hs.o cok_3 (Nat.le_of_ble_eq_true rfl) q307 ⟨rfl, rfl⟩ (Or.inl rfl) rfl (by omega) rfl rfl (by omega) (fun _ _ _ => rfl) ⟨rfl, rfl⟩ dX3_settle_97 ?_
        refine g_turn_w hf2 hr2 fun Ig9 hfg9 hrg9 => ?_
        refine r_return (pc := 100) rfl dX3_settle_100 (Nat.le_of_ble_eq_true rfl) (Nat.le_of_ble_eq_true rfl) ?_
        rw [hD2] at hrg9
        exact hQ _ _ hfg9 hrg9 hm2
      generalize hR : f_refills σ1 p (σ1 7).toNat = ρ at hD1
      have rl : ∀ (m : Nat) (I2 : HI) (σ2 μ2 : Int → Int) (l4 : Option Value), σ2 7 ≤ m → GF g I0 I2 → GR I2 g t σ2 μ2 → CV σ2 → R3 σ2 → σ2 1 = σ 1 → (∀ j, j ≠ 5 → μ2 j = μ j) → f_refills σ2 p m = ρ → PW G mX3_settle (rmD (d + 5) 0 0) (MZ G Q nX 0 0) 0 0 I2 J P T z 15 [some (.ref g), some (iv fr), some (iv p), some (iv i), l4] [] := by
        intro m
        induction m with
        | zero =>
          intro I2 σ2 μ2 l4 hm7 hf2 hr2 hc2 h32 e2 hm2 hR2
          have hR2 : σ2 = ρ := hR2
          subst hR2
          refine r_aload_n (pc := 15) dX3_settle_15 rfl rfl ?_
          refine r_iload_n (pc := 16) dX3_settle_16 rfl rfl ?_
          refine r_callV1 (pc := 17) (C_size hs hr2 hp6 fe_i) im_X3_size q383 q381 hs.o rfl dX3_settle_17 (Nat.le_of_ble_eq_true rfl) (Nat.le_of_ble_eq_true rfl) rfl (k_fi ?_) (fun _ _ _ _ _ _ _ hx => no_x hx)
          refine r_if_ne (pc := 20) 87 dX3_settle_20 rfl f_cards_r (fun h20 => ?_) (fun h20 => ?_)
          · exact aft _ _ _ _ hf2 hr2 hc2 h32 e2 hm2 hD1
          refine r_aload_n (pc := 23) dX3_settle_23 rfl rfl ?_
          refine r_getr (pc := 24) (c := 3) (k := 0) (kz := 0) hs.o cok_3 (Nat.le_of_ble_eq_true rfl) q259 ⟨rfl, rfl⟩ (Or.inl rfl) rfl (fun _ _ _ => rfl) hs.p_t dX3_settle_24 ?_
          refine r_getiN (pc := 27) (c := 2) (k := 1) (kz := 1) hs.tb.o cok_2 (Nat.le_of_ble_eq_true rfl) q209 ⟨rfl, rfl⟩ (Or.inl rfl) rfl (fun _ _ _ => rfl) dX3_settle_27 (fun hr27 => ?_)
          rw [hr2.ta.2.2.2] at hr27 ⊢
          refine r_if_le (pc := 30) 87 dX3_settle_30 rfl (by omega) (fun h30 => ?_) (fun h30 => ?_)
          · exact aft _ _ _ _ hf2 hr2 hc2 h32 e2 hm2 hD1
          refine r_aload_n (pc := 33) dX3_settle_33 rfl rfl ?_
          refine r_callV0 (pc := 34) (C_left hs hr2 fe_i) im_X3_left q425 q423 hs.o rfl dX3_settle_34 (Nat.le_of_ble_eq_true rfl) (Nat.le_of_ble_eq_true rfl) rfl (k_fi ?_) (fun _ _ _ _ _ _ _ hx => no_x hx)
          have h77 := hc2.rg.h7
          refine r_if_le (pc := 37) 87 dX3_settle_37 rfl (by omega) (fun h37 => ?_) (fun h37 => ?_)
          · exact aft _ _ _ _ hf2 hr2 hc2 h32 e2 hm2 hD1
          omega
        | succ m im =>
          intro I2 σ2 μ2 l4 hm7 hf2 hr2 hc2 h32 e2 hm2 hR2
          have h77 := hc2.rg.h7
          simp only [f_refills] at hR2
          refine r_aload_n (pc := 15) dX3_settle_15 rfl rfl ?_
          refine r_iload_n (pc := 16) dX3_settle_16 rfl rfl ?_
          refine r_callV1 (pc := 17) (C_size hs hr2 hp6 fe_i) im_X3_size q383 q381 hs.o rfl dX3_settle_17 (Nat.le_of_ble_eq_true rfl) (Nat.le_of_ble_eq_true rfl) rfl (k_fi ?_) (fun _ _ _ _ _ _ _ hx => no_x hx)
          refine r_if_ne (pc := 20) 87 dX3_settle_20 rfl f_cards_r (fun h20 => ?_) (fun h20 => ?_)
          · rw [if_neg (fun q => h20 q.1)] at hR2
            subst hR2
            exact aft _ _ _ _ hf2 hr2 hc2 h32 e2 hm2 hD1
          refine r_aload_n (pc := 23) dX3_settle_23 rfl rfl ?_
          refine r_getr (pc := 24) (c := 3) (k := 0) (kz := 0) hs.o cok_3 (Nat.le_of_ble_eq_true rfl) q259 ⟨rfl, rfl⟩ (Or.inl rfl) rfl (fun _ _ _ => rfl) hs.p_t dX3_settle_24 ?_
          refine r_getiN (pc := 27) (c := 2) (k := 1) (kz := 1) hs.tb.o cok_2 (Nat.le_of_ble_eq_true rfl) q209 ⟨rfl, rfl⟩ (Or.inl rfl) rfl (fun _ _ _ => rfl) dX3_settle_27 (fun hr27 => ?_)
          rw [hr2.ta.2.2.2] at hr27 ⊢
          refine r_if_le (pc := 30) 87 dX3_settle_30 rfl (by omega) (fun h30 => ?_) (fun h30 => ?_)
          · rw [if_neg (fun q => by omega)] at hR2
            subst hR2
            exact aft _ _ _ _ hf2 hr2 hc2 h32 e2 hm2 hD1
          refine r_aload_n (pc := 33) dX3_settle_33 rfl rfl ?_
          refine r_callV0 (pc := 34) (C_left hs hr2 fe_i) im_X3_left q425 q423 hs.o rfl dX3_settle_34 (Nat.le_of_ble_eq_true rfl) (Nat.le_of_ble_eq_true rfl) rfl (k_fi ?_) (fun _ _ _ _ _ _ _ hx => no_x hx)
          refine r_if_le (pc := 37) 87 dX3_settle_37 rfl (by omega) (fun h37 => ?_) (fun h37 => ?_)
          · rw [if_neg (fun q => by omega)] at hR2
            subst hR2
            exact aft _ _ _ _ hf2 hr2 hc2 h32 e2 hm2 hD1
          rw [if_pos ⟨h20, h37, h30⟩] at hR2
          refine r_aload_n (pc := 40) dX3_settle_40 rfl rfl ?_
          refine r_getr (pc := 41) (c := 3) (k := 0) (kz := 0) hs.o cok_3 (Nat.le_of_ble_eq_true rfl) q259 ⟨rfl, rfl⟩ (Or.inl rfl) rfl (fun _ _ _ => rfl) hs.p_t dX3_settle_41 ?_
          refine r_getiN (pc := 44) (c := 2) (k := 1) (kz := 1) hs.tb.o cok_2 (Nat.le_of_ble_eq_true rfl) q209 ⟨rfl, rfl⟩ (Or.inl rfl) rfl (fun _ _ _ => rfl) dX3_settle_44 (fun hr44 => ?_)
          rw [hr2.ta.2.2.2] at hr44 ⊢
          refine r_aload_n (pc := 47) dX3_settle_47 rfl rfl ?_
          refine r_callV0 (pc := 48) (C_left hs hr2 fe_i) im_X3_left q425 q423 hs.o rfl dX3_settle_48 (Nat.le_of_ble_eq_true rfl) (Nat.le_of_ble_eq_true rfl) rfl (k_fi ?_) (fun _ _ _ _ _ _ _ hx => no_x hx)
          refine r_mmin (pc := 51) q427 dX3_settle_51 hr44 (by omega) (Nat.le_of_ble_eq_true rfl) (Nat.le_of_ble_eq_true rfl) rfl ?_
          have hmin : (if σ2 7 < σ2 3 then σ2 7 else σ2 3) = (if σ2 3 < σ2 7 then σ2 3 else σ2 7) := by split <;> split <;> omega
          rw [hmin]
          generalize hN : (if σ2 3 < σ2 7 then σ2 3 else σ2 7) = N at hR2
          have hN0 : 0 < N ∧ N ≤ σ2 7 := by rw [← hN]; split <;> omega
          obtain ⟨c1, c2, c3, c4, c5, c6⟩ := hc2.drn h32 (p := p) (by omega) h20 N.toNat (by omega)
          have hDRB : DRB σ2 p := ⟨hc2, by omega, h20⟩
          refine r_istore4 (pc := 54) (Nat.le_of_ble_eq_true rfl) dX3_settle_54 rfl ?_
          have dl2 : ∀ (q : Nat) (k : Int) (I3 : HI) (σ3 : Int → Int), k = q → GF g I0 I3 → GR I3 g t σ3 μ2 → CV σ3 → σ3 1 = σ 1 → k ≤ σ3 7 → f_dn σ3 p q = f_dn σ2 p N.toNat → PW G mX3_settle (rmD (d + 5) 0 0) (MZ G Q nX 0 0) 0 0 I3 J P T z 56 [some (.ref g), some (iv fr), some (iv p), some (iv i), some (iv k)] [] := by
            intro q
            induction q with
            | zero =>
              intro k I3 σ3 hk hf3 hr3 hc3 e3 h73 hE
              have hE : σ3 = f_dn σ2 p N.toNat := hE
              refine r_iload (pc := 56) dX3_settle_56 rfl ?_
              refine r_if_le (pc := 58) 79 dX3_settle_58 rfl (by omega) (fun h58 => ?_) (fun h58 => ?_)
              · refine r_aload_n (pc := 79) dX3_settle_79 rfl rfl ?_
                refine r_iload_n (pc := 80) dX3_settle_80 rfl rfl ?_
                refine r_callV1 (pc := 81) (C_books hs hf3 hr3 hp6 hc3 qg_i) im_X3_books qs3 q393 hs.o rfl dX3_settle_81 (Nat.le_of_ble_eq_true rfl) (Nat.le_of_ble_eq_true rfl) rfl (k_gv fun I4 hf4 hr4 => ?_) (fun _ _ _ _ _ _ _ hx => no_x hx)
                refine r_goto (pc := 84) 15 dX3_settle_84 rfl ?_
                rw [hE] at hr4
                exact im _ _ _ _ (by omega) hf4 (hr4.eq c3) c1 c2 (by rw [c4 1 (by omega) (by omega)]; exact e2) (fun j hj => by rw [f_l5_n hj]; exact hm2 j hj) hR2
              omega
            | succ q iq =>
              intro k I3 σ3 hk hf3 hr3 hc3 e3 h73 hE
              have h373 := hc3.rg.h7
              have hcd3 := hc3.cd hp6.1 hp6.2
              have h83 := hc3.rg.2.1 0 (by omega) (by omega)
              rw [show (8 : Int) + 0 = 8 by omega] at h83
              have eo : f_draws σ3 p (229 + p) = σ3 (229 + p) := f_draws_n (by omega) h83 (by omega) (by omega) (by omega) (by omega)
              have e7 : f_draws σ3 p 7 = σ3 7 - 1 := f_draws_7 hp6 h83
              have e11 : f_draws σ3 p 1 = σ3 1 := f_draws_n (by omega) h83 (by omega) (by omega) (by omega) (by omega)
              have hea : ∀ j, j < 229 → f_adds (f_draws σ3 p) p 0 j = f_draws σ3 p j := fun j hj => by unfold f_adds; rw [eo, us_n (by omega), us_n (by omega)]
              refine r_iload (pc := 56) dX3_settle_56 rfl ?_
              refine r_if_le (pc := 58) 79 dX3_settle_58 rfl (by omega) (fun h58 => ?_) (fun h58 => ?_)
              · omega
              refine r_aload_n (pc := 61) dX3_settle_61 rfl rfl ?_
              refine r_iload_n (pc := 62) dX3_settle_62 rfl rfl ?_
              refine r_callV1 (pc := 63) (C_draw hs hf3 hr3 hp6 (by omega) hc3.rg qg_i) im_X3_draw qs9 q430 hs.o rfl dX3_settle_63 (Nat.le_of_ble_eq_true rfl) (Nat.le_of_ble_eq_true rfl) rfl (k_gi fun I4 hf4 hr4 => ?_) (fun _ _ _ _ _ _ _ hx => no_x hx)
              refine r_pop (pc := 66) dX3_settle_66 rfl ?_
              refine r_aload_n (pc := 67) dX3_settle_67 rfl rfl ?_
              refine r_iload_n (pc := 68) dX3_settle_68 rfl rfl ?_
              refine r_iconst (pc := 69) dX3_settle_69 ?_
              refine r_callV2 (pc := 70) (C_others hs hf4 hr4 hp6 (by omega) (by rw [eo]; omega) qg_i) im_X3_others qs1 q385 hs.o rfl dX3_settle_70 (Nat.le_of_ble_eq_true rfl) (Nat.le_of_ble_eq_true rfl) rfl (k_gv fun I5 hf5 hr5 => ?_) (fun _ _ _ _ _ _ _ hx => no_x hx)
              refine r_iinc4 (pc := 73) (Nat.le_of_ble_eq_true rfl) dX3_settle_73 rfl ?_
              refine r_goto (pc := 76) 56 dX3_settle_76 rfl ?_
              exact iq (k + -1) I5 _ (by omega) hf5 hr5 (hc3.drawA (by omega) (by omega)) (by rw [hea 1 (by omega), e11]; exact e3) (by rw [hea 7 (by omega), e7]; omega) hE
          exact dl2 N.toNat N I2 σ2 (by omega) hf2 hr2 hc2 e2 hN0.2 rfl
      refine r_iload_n (pc := 4) dX3_settle_4 rfl rfl ?_
      refine r_aload_n (pc := 5) dX3_settle_5 rfl rfl ?_
      refine r_getr (pc := 6) (c := 3) (k := 0) (kz := 0) hs.o cok_3 (Nat.le_of_ble_eq_true rfl) q259 ⟨rfl, rfl⟩ (Or.inl rfl) rfl (fun _ _ _ => rfl) hs.p_t dX3_settle_6 ?_
      refine r_callV0 (pc := 9) (C_many hs.tb fe_i) im_X2_many q369 q367 hs.tb.o rfl dX3_settle_9 (Nat.le_of_ble_eq_true rfl) (Nat.le_of_ble_eq_true rfl) rfl (k_fi ?_) (fun _ _ _ _ _ _ _ hx => no_x hx)
      rw [hr1.ta.2.1, e1]
      refine r_icmp_ge (pc := 12) 119 dX3_settle_12 rfl (by omega) (by omega) (fun h12 => ?_) (fun h12 => ?_)
      · omega
      exact rl (σ1 7).toNat I1 σ1 μ1 l4 (by omega) hf1 hr1 hc1 h31 e1 hm hR
  refine loop (σ 1).toNat 0 fr I σ μ _ (by omega) (by omega) ?_ hf hr hc h3 rfl (fun _ _ => rfl) hD
  rcases hfr with q | q
  · subst q
    by_cases z0 : σ 1 = 0
    · exact Or.inl (by omega)
    · exact Or.inr (by rw [Int.add_zero, Int.zero_emod])
  · exact Or.inr (by rw [Int.add_zero, Int.emod_eq_of_lt q.1 q.2])
end K2
