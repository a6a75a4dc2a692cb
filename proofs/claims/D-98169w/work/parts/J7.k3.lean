/-! ===== the component: askings ===== -/
section K3
variable {G : GE} {I I0 J : HI} {P : HP} {T : HT} {z : Nat} {g t d : Nat} {Q : QT} {σ μ : Int → Int}
theorem C_whyNot (hs : shG G P T g t) (hr : GR I g t σ μ) {p q k : Int} (hp : 0 ≤ p ∧ p < 6) (hq : 0 ≤ q ∧ q < 6) (hk : 0 ≤ k ∧ k < 13) (hQ : Q (some (iv (f_why σ p q k))) I J P T z) : MC G yX3_whyNot (ws_ yX3_whyNot cX3_whyNot 4 (some FieldType.int)) (d + 1) 0 0 [.ref g, iv p, iv q, iv k] I J P T z Q nX := by
  have hb := hs.b
  refine MC.of (by decide) (Nat.le_of_ble_eq_true rfl) ?_
  show PW G mX3_whyNot (rmD (d + 1) 0 0) (MZ G Q nX 0 0) 0 0 I J P T z 0 [some (.ref g), some (iv p), some (iv q), some (iv k)] []
  unfold f_why at hQ
  refine r_aload_n (pc := 0) dX3_whyNot_0 rfl rfl ?_
  refine r_callV0 (pc := 1) (C_isOver hs hr fe_i) im_X3_isOver q1256 q1254 hs.o rfl dX3_whyNot_1 (Nat.le_of_ble_eq_true rfl) (Nat.le_of_ble_eq_true rfl) rfl (k_fi ?_) (fun _ _ _ _ _ _ _ hx => no_x hx)
  refine r_if_eq (pc := 4) 9 dX3_whyNot_4 rfl bz_g (fun h4 => ?_) (fun h4 => ?_)
  · rw [if_neg (bz_0.mp h4)] at hQ
    refine r_iload_n (pc := 9) dX3_whyNot_9 rfl rfl ?_
    refine r_aload_n (pc := 10) dX3_whyNot_10 rfl rfl ?_
    refine r_geti (pc := 11) (c := 3) (k := 14) (kz := 14) hs.o cok_3 (Nat.le_of_ble_eq_true rfl) q307 ⟨rfl, rfl⟩ (Or.inl rfl) rfl (fun _ _ _ => rfl) dX3_whyNot_11 (fun hr11 => ?_)
    rw [hr.turn] at hr11 ⊢
    refine r_icmp_eq (pc := 14) 19 dX3_whyNot_14 rfl (by omega) (by omega) (fun h14 => ?_) (fun h14 => ?_)
    · rw [if_neg (fun w => w h14.symm)] at hQ
      refine r_aload_n (pc := 19) dX3_whyNot_19 rfl rfl ?_
      refine r_getr (pc := 20) (c := 3) (k := 1) (kz := 1) hs.o cok_3 (Nat.le_of_ble_eq_true rfl) q264 ⟨rfl, rfl⟩ (Or.inl rfl) rfl (fun _ _ _ => rfl) hs.p_hand dX3_whyNot_20 ?_
      refine r_iload_n (pc := 23) dX3_whyNot_23 rfl rfl ?_
      refine r_aald (pc := 24) hs.t_hand ⟨by decide, by decide⟩ rfl (fun _ _ _ => rfl) (by omega) (by omega) (hs.q_hand (by omega) (by omega)) dX3_whyNot_24 ?_
      refine r_iload_n (pc := 25) dX3_whyNot_25 rfl rfl ?_
      refine r_iald (pc := 26) (hs.u_hand (by omega) (by omega)) (by omega) (by omega) dX3_whyNot_26 (fun hr26 => ?_)
      rw [hr.hand (by omega) (by omega) (by omega) (by omega)] at hr26 ⊢
      refine r_if_ne (pc := 27) 32 dX3_whyNot_27 rfl (by omega) (fun h27 => ?_) (fun h27 => ?_)
      · rw [if_neg h27] at hQ
        refine r_iload_n (pc := 32) dX3_whyNot_32 rfl rfl ?_
        refine r_iload_n (pc := 33) dX3_whyNot_33 rfl rfl ?_
        refine r_icmp_ne (pc := 34) 41 dX3_whyNot_34 rfl (by omega) (by omega) (fun h34 => ?_) (fun h34 => ?_)
        · rw [if_neg h34] at hQ
          refine r_iconst (pc := 41) dX3_whyNot_41 ?_
          refine r_ireturn (pc := 42) rfl rfl dX3_whyNot_42 (Nat.le_of_ble_eq_true rfl) (Nat.le_of_ble_eq_true rfl) ?_
          exact hQ
        rw [if_pos h34] at hQ
        refine r_iconst (pc := 37) dX3_whyNot_37 ?_
        refine r_goto (pc := 38) 42 dX3_whyNot_38 rfl ?_
        refine r_ireturn (pc := 42) rfl rfl dX3_whyNot_42 (Nat.le_of_ble_eq_true rfl) (Nat.le_of_ble_eq_true rfl) ?_
        exact hQ
      rw [if_pos h27] at hQ
      refine r_iconst (pc := 30) dX3_whyNot_30 ?_
      refine r_ireturn (pc := 31) rfl rfl dX3_whyNot_31 (Nat.le_of_ble_eq_true rfl) (Nat.le_of_ble_eq_true rfl) ?_
      exact hQ
    rw [if_pos (fun w => h14 w.symm)] at hQ
    refine r_iconst (pc := 17) dX3_whyNot_17 ?_
    refine r_ireturn (pc := 18) rfl rfl dX3_whyNot_18 (Nat.le_of_ble_eq_true rfl) (Nat.le_of_ble_eq_true rfl) ?_
    exact hQ
  rw [if_pos (bz_ne.mp h4)] at hQ
  refine r_iconst (pc := 7) dX3_whyNot_7 ?_
  refine r_ireturn (pc := 8) rfl rfl dX3_whyNot_8 (Nat.le_of_ble_eq_true rfl) (Nat.le_of_ble_eq_true rfl) ?_
  exact hQ
theorem C_gives (hs : shG G P T g t) (hf : GF g I0 I) (hr : GR I g t σ μ) {a b k n : Int} (ha : 0 ≤ a ∧ a < 6) (hb2 : 0 ≤ b ∧ b < 6) (hab : a ≠ b) (hk : 0 ≤ k ∧ k < 13) (hc : CV σ) (hn : n = σ (60 + 13 * b + k)) (hQ : ∀ I', GF g I0 I' → GR I' g t (f_giv2 (f_giv1 σ b k n) a k n) μ → Q none I' J P T z) : MC G yX3_gives (ws_ yX3_gives cX3_gives 5 (none : Option FieldType)) (d + 4) 0 0 [.ref g, iv b, iv a, iv k, iv n] I J P T z Q nX := by
  have hb := hs.b
  have h4 := hc.h4 hb2.1 hb2.2 hk.1 hk.2
  refine MC.of (by decide) (Nat.le_of_ble_eq_true rfl) ?_
  show PW G mX3_gives (rmD (d + 4) 0 0) (MZ G Q nX 0 0) 0 0 I J P T z 0 [some (.ref g), some (iv b), some (iv a), some (iv k), some (iv n)] []
  refine r_aload_n (pc := 0) dX3_gives_0 rfl rfl ?_
  refine r_iload_n (pc := 1) dX3_gives_1 rfl rfl ?_
  refine r_iload_n (pc := 2) dX3_gives_2 rfl rfl ?_
  refine r_iload (pc := 3) dX3_gives_3 rfl ?_
  refine r_callV3 (pc := 5) (C_learnUpTo hs hf hr hb2 hk (by omega) hc.rg qg_i) im_X3_learnUpTo qs4 q397 hs.o rfl dX3_gives_5 (Nat.le_of_ble_eq_true rfl) (Nat.le_of_ble_eq_true rfl) rfl (k_gv fun I2 hf2 hr2 => ?_) (fun _ _ _ _ _ _ _ hx => no_x hx)
  have hg2 := RG_lr hb2 hk (n - σ (151 + 13 * b + k)).toNat hc.rg
  have e2 : f_lr σ b k (n - σ (151 + 13 * b + k)).toNat (60 + 13 * b + k) = n := by rw [f_lr_n hb2 hk (by omega) (by omega) (by omega) (by omega) _ hc.rg]; exact hn.symm
  unfold f_giv1 at hQ
  generalize f_lr σ b k (n - σ (151 + 13 * b + k)).toNat = τ at hr2 hg2 e2 hQ
  refine r_aload_n (pc := 8) dX3_gives_8 rfl rfl ?_
  refine r_getr (pc := 9) (c := 3) (k := 2) (kz := 2) hs.o cok_3 (Nat.le_of_ble_eq_true rfl) q274 ⟨rfl, rfl⟩ (Or.inl rfl) rfl (fun _ _ _ => rfl) hs.p_known dX3_gives_9 ?_
  refine r_iload_n (pc := 12) dX3_gives_12 rfl rfl ?_
  refine r_aald (pc := 13) hs.t_known ⟨by decide, by decide⟩ rfl (fun _ _ _ => rfl) (by omega) (by omega) (hs.q_known (by omega) (by omega)) dX3_gives_13 ?_
  refine r_iload_n (pc := 14) dX3_gives_14 rfl rfl ?_
  refine r_iconst (pc := 15) dX3_gives_15 ?_
  refine r_iast (pc := 16) (hs.u_known (by omega) (by omega)) (by omega) (by omega) (by omega) (by omega) dX3_gives_16 ?_
  refine g_known_w hf2 hr2 (by omega) (by omega) (by omega) (by omega) fun Ig1 hfg1 hrg1 => ?_
  refine r_aload_n (pc := 17) dX3_gives_17 rfl rfl ?_
  refine r_iload_n (pc := 18) dX3_gives_18 rfl rfl ?_
  refine r_iload_n (pc := 19) dX3_gives_19 rfl rfl ?_
  have hg3 : RG (us τ (151 + 13 * b + k) 0) := RG_us hg2 (by omega)
  refine r_callV2 (pc := 20) (C_cannot hs hfg1 hrg1 hb2 hk hg3 qg_i) im_X3_cannot qs28 q1282 hs.o rfl dX3_gives_20 (Nat.le_of_ble_eq_true rfl) (Nat.le_of_ble_eq_true rfl) rfl (k_gv fun I3 hf3 hr3 => ?_) (fun _ _ _ _ _ _ _ hx => no_x hx)
  have e3 : f_cannot (us τ (151 + 13 * b + k) 0) b k (60 + 13 * b + k) = n := by
    have := hg3.o hb2
    rw [f_cannot_n (by omega), us_n (by omega)]; exact e2
  generalize f_cannot (us τ (151 + 13 * b + k) 0) b k = Y at hr3 e3 hQ
  rw [← giv_eq ha hb2 hab hk e3] at hQ
  refine r_aload_n (pc := 23) dX3_gives_23 rfl rfl ?_
  refine r_getr (pc := 24) (c := 3) (k := 2) (kz := 2) hs.o cok_3 (Nat.le_of_ble_eq_true rfl) q274 ⟨rfl, rfl⟩ (Or.inl rfl) rfl (fun _ _ _ => rfl) hs.p_known dX3_gives_24 ?_
  refine r_iload_n (pc := 27) dX3_gives_27 rfl rfl ?_
  refine r_aald (pc := 28) hs.t_known ⟨by decide, by decide⟩ rfl (fun _ _ _ => rfl) (by omega) (by omega) (hs.q_known (by omega) (by omega)) dX3_gives_28 ?_
  refine r_iload_n (pc := 29) dX3_gives_29 rfl rfl ?_
  refine r_dup2 (pc := 30) dX3_gives_30 rfl rfl ?_
  refine r_iald (pc := 31) (hs.u_known (by omega) (by omega)) (by omega) (by omega) dX3_gives_31 (fun hr31 => ?_)
  rw [hr3.known (by omega) (by omega) (by omega) (by omega)] at hr31 ⊢
  refine r_iload (pc := 32) dX3_gives_32 rfl ?_
  refine r_iadd (pc := 34) dX3_gives_34 ?_
  refine r_iastW (pc := 35) (hs.u_known (by omega) (by omega)) (by omega) (by omega) (by omega) dX3_gives_35 ?_
  refine g_known_w hf3 hr3 (by omega) (by omega) (by omega) (by omega) fun Ig2 hfg2 hrg2 => ?_
  refine r_aload_n (pc := 36) dX3_gives_36 rfl rfl ?_
  refine r_getr (pc := 37) (c := 3) (k := 1) (kz := 1) hs.o cok_3 (Nat.le_of_ble_eq_true rfl) q264 ⟨rfl, rfl⟩ (Or.inl rfl) rfl (fun _ _ _ => rfl) hs.p_hand dX3_gives_37 ?_
  refine r_iload_n (pc := 40) dX3_gives_40 rfl rfl ?_
  refine r_aald (pc := 41) hs.t_hand ⟨by decide, by decide⟩ rfl (fun _ _ _ => rfl) (by omega) (by omega) (hs.q_hand (by omega) (by omega)) dX3_gives_41 ?_
  refine r_iload_n (pc := 42) dX3_gives_42 rfl rfl ?_
  refine r_iconst (pc := 43) dX3_gives_43 ?_
  refine r_iast (pc := 44) (hs.u_hand (by omega) (by omega)) (by omega) (by omega) (by omega) (by omega) dX3_gives_44 ?_
  refine g_hand_w hfg2 hrg2 (by omega) (by omega) (by omega) (by omega) fun Ig3 hfg3 hrg3 => ?_
  refine r_aload_n (pc := 45) dX3_gives_45 rfl rfl ?_
  refine r_getr (pc := 46) (c := 3) (k := 1) (kz := 1) hs.o cok_3 (Nat.le_of_ble_eq_true rfl) q264 ⟨rfl, rfl⟩ (Or.inl rfl) rfl (fun _ _ _ => rfl) hs.p_hand dX3_gives_46 ?_
  refine r_iload_n (pc := 49) dX3_gives_49 rfl rfl ?_
  refine r_aald (pc := 50) hs.t_hand ⟨by decide, by decide⟩ rfl (fun _ _ _ => rfl) (by omega) (by omega) (hs.q_hand (by omega) (by omega)) dX3_gives_50 ?_
  refine r_iload_n (pc := 51) dX3_gives_51 rfl rfl ?_
  refine r_dup2 (pc := 52) dX3_gives_52 rfl rfl ?_
  refine r_iald (pc := 53) (hs.u_hand (by omega) (by omega)) (by omega) (by omega) dX3_gives_53 (fun hr53 => ?_)
  rw [hrg3.hand (by omega) (by omega) (by omega) (by omega)] at hr53 ⊢
  rw [us_n (by omega), us_n (by omega)] at hr53 ⊢
  refine r_iload (pc := 54) dX3_gives_54 rfl ?_
  refine r_iadd (pc := 56) dX3_gives_56 ?_
  refine r_iastW (pc := 57) (hs.u_hand (by omega) (by omega)) (by omega) (by omega) (by omega) dX3_gives_57 ?_
  refine g_hand_w hfg3 hrg3 (by omega) (by omega) (by omega) (by omega) fun Ig4 hfg4 hrg4 => ?_
  refine r_aload_n (pc := 58) dX3_gives_58 rfl rfl ?_
  refine r_getr (pc := 59) (c := 3) (k := 7) (kz := 7) hs.o cok_3 (Nat.le_of_ble_eq_true rfl) q286 ⟨rfl, rfl⟩ (Or.inl rfl) rfl (fun _ _ _ => rfl) hs.p_given dX3_gives_59 ?_
  refine r_iload_n (pc := 62) dX3_gives_62 rfl rfl ?_
  refine r_dup2 (pc := 63) dX3_gives_63 rfl rfl ?_
  refine r_iald (pc := 64) hs.t_given (by omega) (by omega) dX3_gives_64 (fun hr64 => ?_)
  rw [hrg4.given (by omega) (by omega)] at hr64 ⊢
  rw [us_n (by omega), us_n (by omega), us_n (by omega)] at hr64 ⊢
  refine r_iload (pc := 65) dX3_gives_65 rfl ?_
  refine r_iadd (pc := 67) dX3_gives_67 ?_
  refine r_iastW (pc := 68) hs.t_given (by omega) (by omega) (by omega) dX3_gives_68 ?_
  refine g_given_w hfg4 hrg4 (by omega) (by omega) fun Ig5 hfg5 hrg5 => ?_
  refine r_aload_n (pc := 69) dX3_gives_69 rfl rfl ?_
  refine r_iconst (pc := 70) dX3_gives_70 ?_
  refine r_puti (pc := 71) (c := 3) (k := 16) (kz := 16) hs.o cok_3 (Nat.le_of_ble_eq_true rfl) q312 ⟨rfl, rfl⟩ (Or.inl rfl) rfl (by omega) rfl rfl (by omega) (fun _ _ _ => rfl) ⟨rfl, rfl⟩ dX3_gives_71 ?_
  refine g_vain_w hfg5 hrg5 fun Ig6 hfg6 hrg6 => ?_
  refine r_return (pc := 74) rfl dX3_gives_74 (Nat.le_of_ble_eq_true rfl) (Nat.le_of_ble_eq_true rfl) ?_
  exact hQ _ hfg6 hrg6
theorem C_says (hs : shG G P T g t) (hf : GF g I0 I) (hr : GR I g t σ μ) {a b k : Int} (ha : 0 ≤ a ∧ a < σ 1) (hb2 : 0 ≤ b ∧ b < 6) (hk : 0 ≤ k ∧ k < 13) (hc : CV σ)
    (hQ0 : ¬ 0 < f_no1 σ b k 7 → ∀ I', GF g I0 I' → GR I' g t (f_no1 σ b k) μ → Q (some (iv 0)) I' J P T z)
    (hQ1 : 0 < f_no1 σ b k 7 → ∀ I', GF g I0 I' → GR I' g t (f_no2 (us (f_no1 σ b k) 6 0) a k) (us μ 4 (f_no1 σ b k 8)) → Q (some (iv (bz (f_no1 σ b k 2 = 1 ∧ f_no1 σ b k 8 = k)))) I' J P T z) : MC G yX3_says (ws_ yX3_says cX3_says 6 (some FieldType.boolean)) (d + 4) 0 0 [.ref g, iv a, iv b, iv k] I J P T z Q nX := by
  have hb := hs.b
  have ht := hc.ta
  have ha6 : 0 ≤ a ∧ a < 6 := by omega
  have hkn := hc.kn hb2.1 hb2.2 hk.1 hk.2
  refine MC.of (by decide) (Nat.le_of_ble_eq_true rfl) ?_
  show PW G mX3_says (rmD (d + 4) 0 0) (MZ G Q nX 0 0) 0 0 I J P T z 0 [some (.ref g), some (iv a), some (iv b), some (iv k), none, none] []
  have nt : ∀ (Y : Int → Int) (v : Int), us (us Y 6 v) 6 0 = us Y 6 0 := fun Y v => us_us
  unfold f_no1 at hQ0 hQ1
  simp only [nt, us_n (show (7 : Int) ≠ 6 by omega), us_n (show (8 : Int) ≠ 6 by omega), us_n (show (2 : Int) ≠ 6 by omega)] at hQ0 hQ1
  generalize hU : f_unk (f_no0 σ b k) b k (σ (151 + 13 * b + k)).toNat = U at hQ0 hQ1
  -- behind the loop
  have aft : ∀ I1, GF g I0 I1 → GR I1 g t U μ → CV U → U 1 = σ 1 → PW G mX3_says (rmD (d + 4) 0 0) (MZ G Q nX 0 0) 0 0 I1 J P T z 53 [some (.ref g), some (iv a), some (iv b), some (iv k), none, none] [] := by
    intro I1 hf1 hr1 hcU e1
    refine r_aload_n (pc := 53) dX3_says_53 rfl rfl ?_
    refine r_iload_n (pc := 54) dX3_says_54 rfl rfl ?_
    refine r_iload_n (pc := 55) dX3_says_55 rfl rfl ?_
    refine r_callV2 (pc := 56) (C_cannot hs hf1 hr1 hb2 hk hcU.rg qg_i) im_X3_cannot qs28 q1282 hs.o rfl dX3_says_56 (Nat.le_of_ble_eq_true rfl) (Nat.le_of_ble_eq_true rfl) rfl (k_gv fun I2 hf2 hr2 => ?_) (fun _ _ _ _ _ _ _ hx => no_x hx)
    have hcY := hcU.cannot hb2 hk
    have hcd := hcU.cd hb2.1 hb2.2
    have e1Y : f_cannot U b k 1 = σ 1 := by rw [f_cannot_n (by omega)]; exact e1
    generalize f_cannot U b k = Y at hr2 hcY hQ0 hQ1 e1Y
    have h77 := hcY.rg.h7
    refine r_aload_n (pc := 59) dX3_says_59 rfl rfl ?_
    refine r_callV0 (pc := 60) (C_left hs hr2 fe_i) im_X3_left q425 q423 hs.o rfl dX3_says_60 (Nat.le_of_ble_eq_true rfl) (Nat.le_of_ble_eq_true rfl) rfl (k_fi ?_) (fun _ _ _ _ _ _ _ hx => no_x hx)
    refine r_if_ne (pc := 63) 78 dX3_says_63 rfl (by omega) (fun h63 => ?_) (fun h63 => ?_)
    · refine r_aload_n (pc := 78) dX3_says_78 rfl rfl ?_
      refine r_iconst (pc := 79) dX3_says_79 ?_
      refine r_puti (pc := 80) (c := 3) (k := 16) (kz := 16) hs.o cok_3 (Nat.le_of_ble_eq_true rfl) q312 ⟨rfl, rfl⟩ (Or.inl rfl) rfl (by omega) rfl rfl (by omega) (fun _ _ _ => rfl) ⟨rfl, rfl⟩ dX3_says_80 ?_
      refine g_vain_w hf2 hr2 fun Ig7 hfg7 hrg7 => ?_
      refine r_aload_n (pc := 83) dX3_says_83 rfl rfl ?_
      refine r_iload_n (pc := 84) dX3_says_84 rfl rfl ?_
      have h8 := hcY.hp.2 0 (by omega) (by omega)
      rw [show (8 : Int) + 0 = 8 by omega] at h8
      have htY := hcY.ta
      have c6 : CV (us Y 6 0) := hcY.usc (by omega)
      have e67 : us Y 6 0 7 = Y 7 := us_n (by omega)
      have e68 : us Y 6 0 8 = Y 8 := us_n (by omega)
      have e62 : us Y 6 0 2 = Y 2 := us_n (by omega)
      have hQ1 := hQ1 (by omega)
      rw [← e68, ← e62] at hQ1
      generalize us Y 6 0 = V at hrg7 c6 e67 e68 e62 hQ1
      refine r_callV1 (pc := 85) (C_draw hs hfg7 hrg7 ha6 (by omega) c6.rg qg_i) im_X3_draw qs9 q430 hs.o rfl dX3_says_85 (Nat.le_of_ble_eq_true rfl) (Nat.le_of_ble_eq_true rfl) rfl (k_gi fun I3 hf3 hr3 => ?_) (fun _ _ _ _ _ _ _ hx => no_x hx)
      have h7V := c6.rg.h7
      have eo : f_draws V a (229 + a) = V (229 + a) := f_draws_n (by omega) (by omega) (by omega) (by omega) (by omega) (by omega)
      have e2 : f_draws V a 2 = V 2 := f_draws_n (by omega) (by omega) (by omega) (by omega) (by omega) (by omega)
      have hcdV := c6.cd ha6.1 ha6.2
      unfold f_no2 at hQ1
      refine r_istore4 (pc := 88) (Nat.le_of_ble_eq_true rfl) dX3_says_88 rfl ?_
      refine r_aload_n (pc := 90) dX3_says_90 rfl rfl ?_
      refine r_getr (pc := 91) (c := 3) (k := 17) (kz := 17) hs.o cok_3 (Nat.le_of_ble_eq_true rfl) q314 ⟨rfl, rfl⟩ (Or.inl rfl) rfl (fun _ _ _ => rfl) hs.p_latest dX3_says_91 ?_
      refine r_iconst (pc := 94) dX3_says_94 ?_
      refine r_iload (pc := 95) dX3_says_95 rfl ?_
      refine r_iast (pc := 97) hs.t_latest (by omega) (by omega) (by omega) (by omega) dX3_says_97 ?_
      refine g_latest_w hf3 hr3 (by omega) (by omega) fun Ig8 hfg8 hrg8 => ?_
      refine r_aload_n (pc := 98) dX3_says_98 rfl rfl ?_
      refine r_getr (pc := 99) (c := 3) (k := 0) (kz := 0) hs.o cok_3 (Nat.le_of_ble_eq_true rfl) q259 ⟨rfl, rfl⟩ (Or.inl rfl) rfl (fun _ _ _ => rfl) hs.p_t dX3_says_99 ?_
      refine r_getiN (pc := 102) (c := 2) (k := 4) (kz := 4) hs.tb.o cok_2 (Nat.le_of_ble_eq_true rfl) q217 ⟨rfl, rfl⟩ (Or.inl rfl) rfl (fun _ _ _ => rfl) dX3_says_102 (fun hr102 => ?_)
      rw [hrg8.ta.2.2.1] at hr102 ⊢
      rw [e2]
      have end1 : ∀ (w : Prop) [Decidable w] (l5 : Option Value), True := fun _ _ _ => trivial
      refine r_if_eq (pc := 105) 118 dX3_says_105 rfl (by omega) (fun h105 => ?_) (fun h105 => ?_)
      · rw [if_neg (by omega), bz_f (by omega)] at hQ1
        refine r_iconst (pc := 118) dX3_says_118 ?_
        refine r_istore5 (pc := 119) (Nat.le_of_ble_eq_true rfl) dX3_says_119 rfl ?_
        refine r_iload (pc := 121) dX3_says_121 rfl ?_
        refine r_if_eq (pc := 123) 142 dX3_says_123 rfl (by omega) (fun h123 => ?_) (fun h123 => ?_)
        · refine r_aload_n (pc := 142) dX3_says_142 rfl rfl ?_
          refine r_iload_n (pc := 143) dX3_says_143 rfl rfl ?_
          refine r_iconst (pc := 144) dX3_says_144 ?_
          refine r_callV2 (pc := 145) (C_others hs hfg8 hrg8 ha6 (by omega) (by rw [eo]; omega) qg_i) im_X3_others qs1 q385 hs.o rfl dX3_says_145 (Nat.le_of_ble_eq_true rfl) (Nat.le_of_ble_eq_true rfl) rfl (k_gv fun I4 hf4 hr4 => ?_) (fun _ _ _ _ _ _ _ hx => no_x hx)
          refine r_iload (pc := 148) dX3_says_148 rfl ?_
          refine r_ireturn (pc := 150) rfl (by decide +kernel) dX3_says_150 (Nat.le_of_ble_eq_true rfl) (Nat.le_of_ble_eq_true rfl) ?_
          exact hQ1 _ hf4 hr4
        · exact absurd rfl h123
      refine r_iload (pc := 108) dX3_says_108 rfl ?_
      refine r_iload_n (pc := 110) dX3_says_110 rfl rfl ?_
      refine r_icmp_ne (pc := 111) 118 dX3_says_111 rfl (by omega) (by omega) (fun h111 => ?_) (fun h111 => ?_)
      · rw [if_neg (by omega), bz_f (by omega)] at hQ1
        refine r_iconst (pc := 118) dX3_says_118 ?_
        refine r_istore5 (pc := 119) (Nat.le_of_ble_eq_true rfl) dX3_says_119 rfl ?_
        refine r_iload (pc := 121) dX3_says_121 rfl ?_
        refine r_if_eq (pc := 123) 142 dX3_says_123 rfl (by omega) (fun h123 => ?_) (fun h123 => ?_)
        · refine r_aload_n (pc := 142) dX3_says_142 rfl rfl ?_
          refine r_iload_n (pc := 143) dX3_says_143 rfl rfl ?_
          refine r_iconst (pc := 144) dX3_says_144 ?_
          refine r_callV2 (pc := 145) (C_others hs hfg8 hrg8 ha6 (by omega) (by rw [eo]; omega) qg_i) im_X3_others qs1 q385 hs.o rfl dX3_says_145 (Nat.le_of_ble_eq_true rfl) (Nat.le_of_ble_eq_true rfl) rfl (k_gv fun I4 hf4 hr4 => ?_) (fun _ _ _ _ _ _ _ hx => no_x hx)
          refine r_iload (pc := 148) dX3_says_148 rfl ?_
          refine r_ireturn (pc := 150) rfl (by decide +kernel) dX3_says_150 (Nat.le_of_ble_eq_true rfl) (Nat.le_of_ble_eq_true rfl) ?_
          exact hQ1 _ hf4 hr4
        · exact absurd rfl h123
      have hV2 := c6.ta
      rw [if_pos ⟨by omega, h111⟩, bz_t ⟨by omega, h111⟩] at hQ1
      refine r_iconst (pc := 114) dX3_says_114 ?_
      refine r_goto (pc := 115) 119 dX3_says_115 rfl ?_
      refine r_istore5 (pc := 119) (Nat.le_of_ble_eq_true rfl) dX3_says_119 rfl ?_
      refine r_iload (pc := 121) dX3_says_121 rfl ?_
      refine r_if_eq (pc := 123) 142 dX3_says_123 rfl (by omega) (fun h123 => ?_) (fun h123 => ?_)
      · omega
      refine r_aload_n (pc := 126) dX3_says_126 rfl rfl ?_
      refine r_getr (pc := 127) (c := 3) (k := 2) (kz := 2) hs.o cok_3 (Nat.le_of_ble_eq_true rfl) q274 ⟨rfl, rfl⟩ (Or.inl rfl) rfl (fun _ _ _ => rfl) hs.p_known dX3_says_127 ?_
      refine r_iload_n (pc := 130) dX3_says_130 rfl rfl ?_
      refine r_aald (pc := 131) hs.t_known ⟨by decide, by decide⟩ rfl (fun _ _ _ => rfl) (by omega) (by omega) (hs.q_known (by omega) (by omega)) dX3_says_131 ?_
      refine r_iload (pc := 132) dX3_says_132 rfl ?_
      refine r_dup2 (pc := 134) dX3_says_134 rfl rfl ?_
      refine r_iald (pc := 135) (hs.u_known (by omega) (by omega)) (by omega) (by omega) dX3_says_135 (fun hr135 => ?_)
      rw [hrg8.known (by omega) (by omega) (by omega) (by omega)] at hr135 ⊢
      refine r_iconst (pc := 136) dX3_says_136 ?_
      refine r_iadd (pc := 137) dX3_says_137 ?_
      refine r_iastW (pc := 138) (hs.u_known (by omega) (by omega)) (by omega) (by omega) (by omega) dX3_says_138 ?_
      refine g_known_w hfg8 hrg8 (by omega) (by omega) (by omega) (by omega) fun Ig9 hfg9 hrg9 => ?_
      refine r_goto (pc := 139) 148 dX3_says_139 rfl ?_
      refine r_iload (pc := 148) dX3_says_148 rfl ?_
      refine r_ireturn (pc := 150) rfl (by decide +kernel) dX3_says_150 (Nat.le_of_ble_eq_true rfl) (Nat.le_of_ble_eq_true rfl) ?_
      rw [← h111] at hQ1
      exact hQ1 _ hfg9 hrg9
    have hQ0 := hQ0 (by omega)
    refine r_aload_n (pc := 66) dX3_says_66 rfl rfl ?_
    refine r_dup (pc := 67) dX3_says_67 rfl ?_
    refine r_geti (pc := 68) (c := 3) (k := 16) (kz := 16) hs.o cok_3 (Nat.le_of_ble_eq_true rfl) q312 ⟨rfl, rfl⟩ (Or.inl rfl) rfl (fun _ _ _ => rfl) dX3_says_68 (fun hr68 => ?_)
    rw [hr2.vain] at hr68 ⊢
    refine r_iconst (pc := 71) dX3_says_71 ?_
    refine r_iadd (pc := 72) dX3_says_72 ?_
    refine r_putiW (pc := 73) (c := 3) (k := 16) (kz := 16) hs.o cok_3 (Nat.le_of_ble_eq_true rfl) q312 ⟨rfl, rfl⟩ (Or.inl rfl) rfl (by omega) rfl rfl (fun _ _ _ => rfl) dX3_says_73 ?_
    refine g_vain_w hf2 hr2 fun I3 hf3 hr3 => ?_
    refine r_iconst (pc := 76) dX3_says_76 ?_
    refine r_ireturn (pc := 77) rfl (by decide +kernel) dX3_says_77 (Nat.le_of_ble_eq_true rfl) (Nat.le_of_ble_eq_true rfl) ?_
    exact hQ0 _ hf3 hr3
  have loop : ∀ (n : Nat) (I1 : HI) (σ4 : Int → Int), GF g I0 I1 → GR I1 g t σ4 μ → CV σ4 → σ4 1 = σ 1 → σ4 (151 + 13 * b + k) = n → f_unk σ4 b k n = U → PW G mX3_says (rmD (d + 4) 0 0) (MZ G Q nX 0 0) 0 0 I1 J P T z 21 [some (.ref g), some (iv a), some (iv b), some (iv k), none, none] [] := by
    intro n
    induction n with
    | zero =>
      intro I1 σ4 hf1 hr1 hc4 e1 hn hU4
      have hU4 : σ4 = U := hU4
      subst hU4
      refine r_aload_n (pc := 21) dX3_says_21 rfl rfl ?_
      refine r_getr (pc := 22) (c := 3) (k := 2) (kz := 2) hs.o cok_3 (Nat.le_of_ble_eq_true rfl) q274 ⟨rfl, rfl⟩ (Or.inl rfl) rfl (fun _ _ _ => rfl) hs.p_known dX3_says_22 ?_
      refine r_iload_n (pc := 25) dX3_says_25 rfl rfl ?_
      refine r_aald (pc := 26) hs.t_known ⟨by decide, by decide⟩ rfl (fun _ _ _ => rfl) (by omega) (by omega) (hs.q_known (by omega) (by omega)) dX3_says_26 ?_
      refine r_iload_n (pc := 27) dX3_says_27 rfl rfl ?_
      refine r_iald (pc := 28) (hs.u_known (by omega) (by omega)) (by omega) (by omega) dX3_says_28 (fun hr28 => ?_)
      rw [hr1.known (by omega) (by omega) (by omega) (by omega)] at hr28 ⊢
      refine r_if_le (pc := 29) 53 dX3_says_29 rfl (by omega) (fun h29 => ?_) (fun h29 => ?_)
      · exact aft _ hf1 hr1 hc4 e1
      omega
    | succ n ih =>
      intro I1 σ4 hf1 hr1 hc4 e1 hn hU4
      have c5 := hc4.unk1 hb2 hk (by omega)
      have hkn4 := hc4.kn hb2.1 hb2.2 hk.1 hk.2
      have h44 := hc4.h4 hb2.1 hb2.2 hk.1 hk.2
      have hcd5 := c5.cd hb2.1 hb2.2
      have ho4 := hc4.cd hb2.1 hb2.2
      have eo5 : us (f_adds σ4 b 0) (151 + 13 * b + k) (σ4 (151 + 13 * b + k) - 1) (229 + b) = σ4 (229 + b) + 1 := by unfold f_adds; rw [us_n (by omega), us_s]
      rw [eo5] at hcd5
      have h77 := c5.rg.h7
      have ek : f_adds σ4 b 0 (151 + 13 * b + k) = σ4 (151 + 13 * b + k) := by unfold f_adds; rw [us_n (by omega), us_n (by omega)]
      refine r_aload_n (pc := 21) dX3_says_21 rfl rfl ?_
      refine r_getr (pc := 22) (c := 3) (k := 2) (kz := 2) hs.o cok_3 (Nat.le_of_ble_eq_true rfl) q274 ⟨rfl, rfl⟩ (Or.inl rfl) rfl (fun _ _ _ => rfl) hs.p_known dX3_says_22 ?_
      refine r_iload_n (pc := 25) dX3_says_25 rfl rfl ?_
      refine r_aald (pc := 26) hs.t_known ⟨by decide, by decide⟩ rfl (fun _ _ _ => rfl) (by omega) (by omega) (hs.q_known (by omega) (by omega)) dX3_says_26 ?_
      refine r_iload_n (pc := 27) dX3_says_27 rfl rfl ?_
      refine r_iald (pc := 28) (hs.u_known (by omega) (by omega)) (by omega) (by omega) dX3_says_28 (fun hr28 => ?_)
      rw [hr1.known (by omega) (by omega) (by omega) (by omega)] at hr28 ⊢
      refine r_if_le (pc := 29) 53 dX3_says_29 rfl (by omega) (fun h29 => ?_) (fun h29 => ?_)
      · omega
      refine r_aload_n (pc := 32) dX3_says_32 rfl rfl ?_
      refine r_iload_n (pc := 33) dX3_says_33 rfl rfl ?_
      refine r_iconst (pc := 34) dX3_says_34 ?_
      refine r_callV2 (pc := 35) (C_others hs hf1 hr1 hb2 (by omega) (by omega) qg_i) im_X3_others qs1 q385 hs.o rfl dX3_says_35 (Nat.le_of_ble_eq_true rfl) (Nat.le_of_ble_eq_true rfl) rfl (k_gv fun I2 hf2 hr2 => ?_) (fun _ _ _ _ _ _ _ hx => no_x hx)
      refine r_aload_n (pc := 38) dX3_says_38 rfl rfl ?_
      refine r_getr (pc := 39) (c := 3) (k := 2) (kz := 2) hs.o cok_3 (Nat.le_of_ble_eq_true rfl) q274 ⟨rfl, rfl⟩ (Or.inl rfl) rfl (fun _ _ _ => rfl) hs.p_known dX3_says_39 ?_
      refine r_iload_n (pc := 42) dX3_says_42 rfl rfl ?_
      refine r_aald (pc := 43) hs.t_known ⟨by decide, by decide⟩ rfl (fun _ _ _ => rfl) (by omega) (by omega) (hs.q_known (by omega) (by omega)) dX3_says_43 ?_
      refine r_iload_n (pc := 44) dX3_says_44 rfl rfl ?_
      refine r_dup2 (pc := 45) dX3_says_45 rfl rfl ?_
      refine r_iald (pc := 46) (hs.u_known (by omega) (by omega)) (by omega) (by omega) dX3_says_46 (fun hr46 => ?_)
      rw [hr2.known (by omega) (by omega) (by omega) (by omega)] at hr46 ⊢
      rw [ek] at hr46 ⊢
      refine r_iconst (pc := 47) dX3_says_47 ?_
      refine r_isub (pc := 48) dX3_says_48 ?_
      refine r_iast (pc := 49) (hs.u_known (by omega) (by omega)) (by omega) (by omega) (by omega) (by omega) dX3_says_49 ?_
      refine g_known_w hf2 hr2 (by omega) (by omega) (by omega) (by omega) fun Ig10 hfg10 hrg10 => ?_
      refine r_goto (pc := 50) 21 dX3_says_50 rfl ?_
      exact ih _ _ hfg10 hrg10 c5 (by rw [us_n (by omega)]; unfold f_adds; rw [us_n (by omega), us_n (by omega)]; exact e1) (by rw [us_s]; omega) hU4
  have hz0 : ∀ j, j ≠ 547 + b → f_no0 σ b k j = σ j := fun j q => by
    unfold f_no0
    split
    · exact us_n q
    · rfl
  refine r_aload_n (pc := 0) dX3_says_0 rfl rfl ?_
  refine r_getr (pc := 1) (c := 3) (k := 2) (kz := 2) hs.o cok_3 (Nat.le_of_ble_eq_true rfl) q274 ⟨rfl, rfl⟩ (Or.inl rfl) rfl (fun _ _ _ => rfl) hs.p_known dX3_says_1 ?_
  refine r_iload_n (pc := 4) dX3_says_4 rfl rfl ?_
  refine r_aald (pc := 5) hs.t_known ⟨by decide, by decide⟩ rfl (fun _ _ _ => rfl) (by omega) (by omega) (hs.q_known (by omega) (by omega)) dX3_says_5 ?_
  refine r_iload_n (pc := 6) dX3_says_6 rfl rfl ?_
  refine r_iald (pc := 7) (hs.u_known (by omega) (by omega)) (by omega) (by omega) dX3_says_7 (fun hr7 => ?_)
  rw [hr.known (by omega) (by omega) (by omega) (by omega)] at hr7 ⊢
  refine r_if_le (pc := 8) 21 dX3_says_8 rfl (by omega) (fun h8 => ?_) (fun h8 => ?_)
  · have e0 : f_no0 σ b k = σ := by unfold f_no0; rw [if_neg (by omega)]
    rw [e0] at hU
    exact loop _ _ _ hf hr hc rfl (by omega) hU
  have e0 : f_no0 σ b k = us σ (547 + b) (wr (σ (547 + b) + 1)) := by unfold f_no0; rw [if_pos h8]
  rw [e0] at hU
  refine r_aload_n (pc := 11) dX3_says_11 rfl rfl ?_
  refine r_getr (pc := 12) (c := 3) (k := 5) (kz := 5) hs.o cok_3 (Nat.le_of_ble_eq_true rfl) q282 ⟨rfl, rfl⟩ (Or.inl rfl) rfl (fun _ _ _ => rfl) hs.p_caught dX3_says_12 ?_
  refine r_iload_n (pc := 15) dX3_says_15 rfl rfl ?_
  refine r_dup2 (pc := 16) dX3_says_16 rfl rfl ?_
  refine r_iald (pc := 17) hs.t_caught (by omega) (by omega) dX3_says_17 (fun hr17 => ?_)
  rw [hr.caught (by omega) (by omega)] at hr17 ⊢
  refine r_iconst (pc := 18) dX3_says_18 ?_
  refine r_iadd (pc := 19) dX3_says_19 ?_
  refine r_iastW (pc := 20) hs.t_caught (by omega) (by omega) (by omega) dX3_says_20 ?_
  refine g_caught_w hf hr (by omega) (by omega) fun Ig11 hfg11 hrg11 => ?_
  exact loop _ _ _ hfg11 hrg11 (hc.usc (by omega)) (us_n (by omega)) (by rw [us_n (by omega)]; omega) hU
end K3
