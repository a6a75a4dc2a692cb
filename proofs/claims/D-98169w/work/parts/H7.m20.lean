/-! ===== the model: deal, called; whether games can be ===== -/
section M20
variable {G : GE} {I J : HI} {P : HP} {T : HT} {z : Nat} {m d : Nat} {Q : QT} {σ π ω u : Int → Int}
theorem M_deal (hs : shM G P T m) {n sd : Int} (hn : rg n) (hsd : rg sd) (h0 : 0 ≤ σ 0 ∧ σ 0 ≤ 13) (h1 : 0 ≤ σ 1 ∧ σ 1 ≤ 6) (h27 : 0 ≤ ω 27 ∧ ω 27 ≤ 8)
    (hB : (1 ≤ n ∧ n ≤ 9) → 1 ≤ σ 1 → 1 ≤ σ 0 → n * σ 1 ≤ 4 * σ 0 → BG (f_dealt π σ n sd))
    (hQ : if (1 ≤ n ∧ n ≤ 9) ∧ σ 1 ≠ 0 ∧ σ 0 ≠ 0 ∧ n * σ 1 ≤ 4 * σ 0 then Q (some (iv 1)) (ur (ur (ur (ur I (m + 21) (f_shuffled π σ sd).1) m (us (us (us ω 0 0) 27 (kn (ω 27) + 1)) 49 (f_shuffled π σ sd).2)) (m + 8) (ku u (ω 27) σ)) (m + 2) (f_begins (f_dealt π σ n sd))) J P T z
      else Q (some (iv 0)) (ur (ur (ur (ur I (m + 21) π) m (us ω 0 0)) (m + 8) u) (m + 2) σ) J P T z) : MC G yX11_deal (ws_ yX11_deal cX11_deal 3 (some FieldType.boolean)) (d + 7) 0 0 [.ref m, iv n, iv sd] (ur (ur (ur (ur I (m + 21) π) m ω) (m + 8) u) (m + 2) σ) J P T z Q nX := by
  have hb := hs.b
  refine MC.of (by decide) (Nat.le_of_ble_eq_true rfl) ?_
  show PW G mX11_deal (rmD (d + 7) 0 0) (MZ G Q nX 0 0) 0 0 (ur (ur (ur (ur I (m + 21) π) m ω) (m + 8) u) (m + 2) σ) J P T z 0 [some (.ref m), some (iv n), some (iv sd)] []
  have bad : ¬ ((1 ≤ n ∧ n ≤ 9) ∧ σ 1 ≠ 0 ∧ σ 0 ≠ 0 ∧ n * σ 1 ≤ 4 * σ 0) → PW G mX11_deal (rmD (d + 7) 0 0) (MZ G Q nX 0 0) 0 0 (ur (ur (ur (ur I (m + 21) π) m (us ω 0 0)) (m + 8) u) (m + 2) σ) J P T z 52 [some (.ref m), some (iv n), some (iv sd)] [] := by
    intro hc
    rw [if_neg hc] at hQ
    refine r_iconst (pc := 52) dX11_deal_52 ?_
    refine r_ireturn (pc := 53) rfl (nb_z (by omega)) dX11_deal_53 (Nat.le_of_ble_eq_true rfl) (Nat.le_of_ble_eq_true rfl) ?_
    exact hQ
  refine r_aload_n (pc := 0) dX11_deal_0 rfl rfl ?_
  refine r_iconst (pc := 1) dX11_deal_1 ?_
  refine r_puti (pc := 2) (c := 11) (k := 0) (kz := 0) hs.o cok_11 (Nat.le_of_ble_eq_true rfl) q1860 ⟨rfl, rfl⟩ (Or.inl rfl) rfl (by omega) rfl rfl (by omega) (fun _ _ _ => rfl) ⟨rfl, rfl⟩ dX11_deal_2 ?_
  try simp (disch := omega) only [ui_ur, ui_ur_n, ur_sv, ur_nv, ui_sv, ui_nv, ui_uis, us_s, us_n]
  refine r_iload_n (pc := 5) dX11_deal_5 rfl rfl ?_
  refine r_iconst (pc := 6) dX11_deal_6 ?_
  refine r_bipush (pc := 7) dX11_deal_7 (by decide +kernel) ?_
  refine r_callS3 (pc := 9) (M_isIn hn (by omega) (by omega) fe_i) im_X11_isIn q2095 dX11_deal_9 (Nat.le_of_ble_eq_true rfl) (Nat.le_of_ble_eq_true rfl) rfl (k_fi ?_) (fun _ _ _ _ _ _ _ hx => no_x hx)
  refine r_if_eq (pc := 12) 52 dX11_deal_12 rfl bz_g (fun h12 => ?_) (fun h12 => ?_)
  · exact bad fun q => bz_0.mp h12 q.1
  have g1 := bz_ne.mp h12
  refine r_aload_n (pc := 15) dX11_deal_15 rfl rfl ?_
  refine r_getr (pc := 16) (c := 11) (k := 6) (kz := 6) hs.o cok_11 (Nat.le_of_ble_eq_true rfl) q1866 ⟨rfl, rfl⟩ (Or.inl rfl) rfl (fun _ _ _ => rfl) hs.p_s dX11_deal_16 ?_
  refine r_iconst (pc := 19) dX11_deal_19 ?_
  refine r_iald (pc := 20) hs.t_s (by omega) (by omega) dX11_deal_20 (fun hr20 => ?_)
  try simp (disch := omega) only [ui_ur, ui_ur_n, ur_sv, ur_nv, ui_sv, ui_nv, ui_uis, us_s, us_n] at hr20 ⊢
  refine r_if_eq (pc := 21) 52 dX11_deal_21 rfl (by omega) (fun h21 => ?_) (fun h21 => ?_)
  · exact bad fun q => q.2.1 h21
  refine r_aload_n (pc := 24) dX11_deal_24 rfl rfl ?_
  refine r_getr (pc := 25) (c := 11) (k := 6) (kz := 6) hs.o cok_11 (Nat.le_of_ble_eq_true rfl) q1866 ⟨rfl, rfl⟩ (Or.inl rfl) rfl (fun _ _ _ => rfl) hs.p_s dX11_deal_25 ?_
  refine r_iconst (pc := 28) dX11_deal_28 ?_
  refine r_iald (pc := 29) hs.t_s (by omega) (by omega) dX11_deal_29 (fun hr29 => ?_)
  try simp (disch := omega) only [ui_ur, ui_ur_n, ur_sv, ur_nv, ui_sv, ui_nv, ui_uis, us_s, us_n] at hr29 ⊢
  refine r_if_eq (pc := 30) 52 dX11_deal_30 rfl (by omega) (fun h30 => ?_) (fun h30 => ?_)
  · exact bad fun q => q.2.2.1 h30
  have hnm : 0 ≤ n * σ 1 := Int.mul_nonneg (by omega) (by omega)
  have hn2 : n * σ 1 ≤ 9 * 6 := Int.mul_le_mul g1.2 h1.2 (by omega) (by omega)
  refine r_iload_n (pc := 33) dX11_deal_33 rfl rfl ?_
  refine r_aload_n (pc := 34) dX11_deal_34 rfl rfl ?_
  refine r_getr (pc := 35) (c := 11) (k := 6) (kz := 6) hs.o cok_11 (Nat.le_of_ble_eq_true rfl) q1866 ⟨rfl, rfl⟩ (Or.inl rfl) rfl (fun _ _ _ => rfl) hs.p_s dX11_deal_35 ?_
  refine r_iconst (pc := 38) dX11_deal_38 ?_
  refine r_iald (pc := 39) hs.t_s (by omega) (by omega) dX11_deal_39 (fun hr39 => ?_)
  try simp (disch := omega) only [ui_ur, ui_ur_n, ur_sv, ur_nv, ui_sv, ui_nv, ui_uis, us_s, us_n] at hr39 ⊢
  refine r_imul (pc := 40) dX11_deal_40 ?_
  refine r_iconst (pc := 41) dX11_deal_41 ?_
  refine r_aload_n (pc := 42) dX11_deal_42 rfl rfl ?_
  refine r_getr (pc := 43) (c := 11) (k := 6) (kz := 6) hs.o cok_11 (Nat.le_of_ble_eq_true rfl) q1866 ⟨rfl, rfl⟩ (Or.inl rfl) rfl (fun _ _ _ => rfl) hs.p_s dX11_deal_43 ?_
  refine r_iconst (pc := 46) dX11_deal_46 ?_
  refine r_iald (pc := 47) hs.t_s (by omega) (by omega) dX11_deal_47 (fun hr47 => ?_)
  try simp (disch := omega) only [ui_ur, ui_ur_n, ur_sv, ur_nv, ui_sv, ui_nv, ui_uis, us_s, us_n] at hr47 ⊢
  refine r_imul (pc := 48) dX11_deal_48 ?_
  refine r_icmp_le (pc := 49) 54 dX11_deal_49 rfl (by omega) (by omega) (fun h49 => ?_) (fun h49 => ?_)
  · rw [if_pos ⟨g1, h21, h30, h49⟩] at hQ
    refine r_aload_n (pc := 54) dX11_deal_54 rfl rfl ?_
    have em : ur (ur I (m + 21) π) m (us ω 0 0) m 27 = ω 27 := by rw [ur_sv, us_n (by omega)]
    refine r_callV0 (pc := 55) (M_keep hs (by rw [em]; exact h27) fe_i) im_X11_keep qs85 q2221 hs.o rfl dX11_deal_55 (Nat.le_of_ble_eq_true rfl) (Nat.le_of_ble_eq_true rfl) rfl (k_fv ?_) (fun _ _ _ _ _ _ _ hx => no_x hx)
    rw [em]
    try simp (disch := omega) only [ui_ur, ui_ur_n, ur_sv, ur_nv, ui_sv, ui_nv, ui_uis, us_s, us_n]
    refine r_aload_n (pc := 58) dX11_deal_58 rfl rfl ?_
    refine r_iload_n (pc := 59) dX11_deal_59 rfl rfl ?_
    refine r_iload_n (pc := 60) dX11_deal_60 rfl rfl ?_
    have e8 : ∀ (π ω u σ : Int → Int), ur (ur (ur (ur I (m + 21) π) m ω) (m + 8) u) (m + 2) σ = ur (ur (ur (ur I (m + 8) u) (m + 21) π) m ω) (m + 2) σ := fun π ω u σ => by
      rw [ur_comm (a := m + 21) (b := m) (by omega), ur_comm (a := m + 21) (b := m + 8) (by omega), ur_comm (a := m) (b := m + 8) (by omega), ur_comm (a := m) (b := m + 21) (by omega)]
    rw [e8] at hQ ⊢
    refine r_callV2 (pc := 61) (M_deals hs g1 hsd (by omega) (by omega) h49 (hB g1 (by omega) (by omega) h49) fe_i) im_X11_deals qs102 q2365 hs.o rfl dX11_deal_61 (Nat.le_of_ble_eq_true rfl) (Nat.le_of_ble_eq_true rfl) rfl (k_fv ?_) (fun _ _ _ _ _ _ _ hx => no_x hx)
    refine r_iconst (pc := 64) dX11_deal_64 ?_
    refine r_ireturn (pc := 65) rfl (nb_z (by omega)) dX11_deal_65 (Nat.le_of_ble_eq_true rfl) (Nat.le_of_ble_eq_true rfl) ?_
    exact hQ
  exact bad fun q => absurd q.2.2.2 (by omega)
theorem M_areGames (hs : shM G P T m) {i j n : Int} (hi : rg i) (hj : rg j) (hn : rg n) (h0 : 0 ≤ σ 0 ∧ σ 0 ≤ 13) (h1 : 0 ≤ σ 1 ∧ σ 1 ≤ 6)
    (hQ : Q (some (iv (bz ((0 ≤ i ∧ i ≤ 3) ∧ (0 ≤ j ∧ j ≤ 3) ∧ (1 ≤ n ∧ n ≤ 30) ∧ 1 < σ 1 ∧ 5 * σ 1 ≤ 4 * σ 0)))) (ur I (m + 2) σ) J P T z) : MC G yX11_areGames (ws_ yX11_areGames cX11_areGames 4 (some FieldType.boolean)) (d + 1) 0 0 [.ref m, iv i, iv j, iv n] (ur I (m + 2) σ) J P T z Q nX := by
  have hb := hs.b
  refine MC.of (by decide) (Nat.le_of_ble_eq_true rfl) ?_
  show PW G mX11_areGames (rmD (d + 1) 0 0) (MZ G Q nX 0 0) 0 0 (ur I (m + 2) σ) J P T z 0 [some (.ref m), some (iv i), some (iv j), some (iv n)] []
  have bad : ¬ ((0 ≤ i ∧ i ≤ 3) ∧ (0 ≤ j ∧ j ≤ 3) ∧ (1 ≤ n ∧ n ≤ 30) ∧ 1 < σ 1 ∧ 5 * σ 1 ≤ 4 * σ 0) → PW G mX11_areGames (rmD (d + 1) 0 0) (MZ G Q nX 0 0) 0 0 (ur I (m + 2) σ) J P T z 61 [some (.ref m), some (iv i), some (iv j), some (iv n)] [] := by
    intro hc
    rw [bz_f hc] at hQ
    refine r_iconst (pc := 61) dX11_areGames_61 ?_
    refine r_ireturn (pc := 62) rfl (nb_z (by omega)) dX11_areGames_62 (Nat.le_of_ble_eq_true rfl) (Nat.le_of_ble_eq_true rfl) ?_
    exact hQ
  refine r_iload_n (pc := 0) dX11_areGames_0 rfl rfl ?_
  refine r_iconst (pc := 1) dX11_areGames_1 ?_
  refine r_iconst (pc := 2) dX11_areGames_2 ?_
  refine r_callS3 (pc := 3) (M_isIn hi (by omega) (by omega) fe_i) im_X11_isIn q2095 dX11_areGames_3 (Nat.le_of_ble_eq_true rfl) (Nat.le_of_ble_eq_true rfl) rfl (k_fi ?_) (fun _ _ _ _ _ _ _ hx => no_x hx)
  refine r_if_eq (pc := 6) 61 dX11_areGames_6 rfl bz_g (fun h6 => ?_) (fun h6 => ?_)
  · exact bad fun q => bz_0.mp h6 q.1
  have g1 := bz_ne.mp h6
  refine r_iload_n (pc := 9) dX11_areGames_9 rfl rfl ?_
  refine r_iconst (pc := 10) dX11_areGames_10 ?_
  refine r_iconst (pc := 11) dX11_areGames_11 ?_
  refine r_callS3 (pc := 12) (M_isIn hj (by omega) (by omega) fe_i) im_X11_isIn q2095 dX11_areGames_12 (Nat.le_of_ble_eq_true rfl) (Nat.le_of_ble_eq_true rfl) rfl (k_fi ?_) (fun _ _ _ _ _ _ _ hx => no_x hx)
  refine r_if_eq (pc := 15) 61 dX11_areGames_15 rfl bz_g (fun h15 => ?_) (fun h15 => ?_)
  · exact bad fun q => bz_0.mp h15 q.2.1
  have g2 := bz_ne.mp h15
  refine r_iload_n (pc := 18) dX11_areGames_18 rfl rfl ?_
  refine r_iconst (pc := 19) dX11_areGames_19 ?_
  refine r_bipush (pc := 20) dX11_areGames_20 (by decide +kernel) ?_
  refine r_callS3 (pc := 22) (M_isIn hn (by omega) (by omega) fe_i) im_X11_isIn q2095 dX11_areGames_22 (Nat.le_of_ble_eq_true rfl) (Nat.le_of_ble_eq_true rfl) rfl (k_fi ?_) (fun _ _ _ _ _ _ _ hx => no_x hx)
  refine r_if_eq (pc := 25) 61 dX11_areGames_25 rfl bz_g (fun h25 => ?_) (fun h25 => ?_)
  · exact bad fun q => bz_0.mp h25 q.2.2.1
  have g3 := bz_ne.mp h25
  refine r_aload_n (pc := 28) dX11_areGames_28 rfl rfl ?_
  refine r_getr (pc := 29) (c := 11) (k := 6) (kz := 6) hs.o cok_11 (Nat.le_of_ble_eq_true rfl) q1866 ⟨rfl, rfl⟩ (Or.inl rfl) rfl (fun _ _ _ => rfl) hs.p_s dX11_areGames_29 ?_
  refine r_iconst (pc := 32) dX11_areGames_32 ?_
  refine r_iald (pc := 33) hs.t_s (by omega) (by omega) dX11_areGames_33 (fun hr33 => ?_)
  try simp (disch := omega) only [ui_ur, ui_ur_n, ur_sv, ur_nv, ui_sv, ui_nv, ui_uis, us_s, us_n] at hr33 ⊢
  refine r_iconst (pc := 34) dX11_areGames_34 ?_
  refine r_icmp_le (pc := 35) 61 dX11_areGames_35 rfl (by omega) (by omega) (fun h35 => ?_) (fun h35 => ?_)
  · exact bad (by omega)
  refine r_iconst (pc := 38) dX11_areGames_38 ?_
  refine r_aload_n (pc := 39) dX11_areGames_39 rfl rfl ?_
  refine r_getr (pc := 40) (c := 11) (k := 6) (kz := 6) hs.o cok_11 (Nat.le_of_ble_eq_true rfl) q1866 ⟨rfl, rfl⟩ (Or.inl rfl) rfl (fun _ _ _ => rfl) hs.p_s dX11_areGames_40 ?_
  refine r_iconst (pc := 43) dX11_areGames_43 ?_
  refine r_iald (pc := 44) hs.t_s (by omega) (by omega) dX11_areGames_44 (fun hr44 => ?_)
  try simp (disch := omega) only [ui_ur, ui_ur_n, ur_sv, ur_nv, ui_sv, ui_nv, ui_uis, us_s, us_n] at hr44 ⊢
  refine r_imul (pc := 45) dX11_areGames_45 ?_
  refine r_iconst (pc := 46) dX11_areGames_46 ?_
  refine r_aload_n (pc := 47) dX11_areGames_47 rfl rfl ?_
  refine r_getr (pc := 48) (c := 11) (k := 6) (kz := 6) hs.o cok_11 (Nat.le_of_ble_eq_true rfl) q1866 ⟨rfl, rfl⟩ (Or.inl rfl) rfl (fun _ _ _ => rfl) hs.p_s dX11_areGames_48 ?_
  refine r_iconst (pc := 51) dX11_areGames_51 ?_
  refine r_iald (pc := 52) hs.t_s (by omega) (by omega) dX11_areGames_52 (fun hr52 => ?_)
  try simp (disch := omega) only [ui_ur, ui_ur_n, ur_sv, ur_nv, ui_sv, ui_nv, ui_uis, us_s, us_n] at hr52 ⊢
  refine r_imul (pc := 53) dX11_areGames_53 ?_
  refine r_icmp_gt (pc := 54) 61 dX11_areGames_54 rfl (by omega) (by omega) (fun h54 => ?_) (fun h54 => ?_)
  · exact bad (by omega)
  rw [bz_t ⟨g1, g2, g3, by omega, by omega⟩] at hQ
  refine r_iconst (pc := 57) dX11_areGames_57 ?_
  refine r_goto (pc := 58) 62 dX11_areGames_58 rfl ?_
  refine r_ireturn (pc := 62) rfl (nb_z (by omega)) dX11_areGames_62 (Nat.le_of_ble_eq_true rfl) (Nat.le_of_ble_eq_true rfl) ?_
  exact hQ
end M20
