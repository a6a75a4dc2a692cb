/-! ===== the model: games, length ===== -/
abbrev gmC (σ : Int → Int) (i j n : Int) : Prop := (0 ≤ i ∧ i ≤ 3) ∧ (0 ≤ j ∧ j ≤ 3) ∧ (1 ≤ n ∧ n ≤ 30) ∧ 1 < σ 1 ∧ 5 * σ 1 ≤ 4 * σ 0
section M23
variable {G : GE} {I J : HI} {P : HP} {T : HT} {z : Nat} {m d : Nat} {Q : QT} {σ π ω bf rl : Int → Int}
theorem M_games (hs : shM G P T m) {W : (Int → Int) → Prop} (hW : PlOK W) (hG : GmOK W) {i j n fr : Int} (hw : gmC σ i j n → W σ) (hi : rg i) (hj : rg j) (hn : rg n) (hfr : rg fr) (h0 : 0 ≤ σ 0 ∧ σ 0 ≤ 13) (h1 : 0 ≤ σ 1 ∧ σ 1 ≤ 6) (hr : ∀ a, 0 ≤ a → a < 6 → 0 ≤ rl a ∧ rl a ≤ 3)
    (hQ : if gmC σ i j n then ∀ x, x = f_gm i j fr n.toNat 0 (rl, π, ω 49, σ, 0, 0) → Q (some (iv x.2.2.2.2.2)) (gI I m (kr bf 0 σ 580) (us ω 0 0) (x.1, x.2.1, x.2.2.1, br x.2.2.2.1 (kr bf 0 σ 580) 0 580, x.2.2.2.2.1, x.2.2.2.2.2)) J P T z
      else Q (some (iv (-1))) (ur (ur (ur (ur (ur I (m + 20) rl) (m + 9) bf) (m + 21) π) m (us ω 0 0)) (m + 2) σ) J P T z) : MC G yX11_games (ws_ yX11_games cX11_games 5 (some FieldType.int)) (d + 8) 0 0 [.ref m, iv i, iv j, iv n, iv fr] (ur (ur (ur (ur (ur I (m + 20) rl) (m + 9) bf) (m + 21) π) m ω) (m + 2) σ) J P T z Q nX := by
  have hb := hs.b
  refine MC.of (by decide) (Nat.le_of_ble_eq_true rfl) ?_
  show PW G mX11_games (rmD (d + 8) 0 0) (MZ G Q nX 0 0) 0 0 (ur (ur (ur (ur (ur I (m + 20) rl) (m + 9) bf) (m + 21) π) m ω) (m + 2) σ) J P T z 0 [some (.ref m), some (iv i), some (iv j), some (iv n), some (iv fr)] []
  refine r_aload_n (pc := 0) dX11_games_0 rfl rfl ?_
  refine r_iconst (pc := 1) dX11_games_1 ?_
  refine r_puti (pc := 2) (c := 11) (k := 0) (kz := 0) hs.o cok_11 (Nat.le_of_ble_eq_true rfl) q1860 ⟨rfl, rfl⟩ (Or.inl rfl) rfl (by omega) rfl rfl (by omega) (fun _ _ _ => rfl) ⟨rfl, rfl⟩ dX11_games_2 ?_
  try simp (disch := omega) only [ui_ur, ui_ur_n, ur_sv, ur_nv, ui_sv, ui_nv, ui_uis, us_s, us_n]
  refine r_aload_n (pc := 5) dX11_games_5 rfl rfl ?_
  refine r_iload_n (pc := 6) dX11_games_6 rfl rfl ?_
  refine r_iload_n (pc := 7) dX11_games_7 rfl rfl ?_
  refine r_iload_n (pc := 8) dX11_games_8 rfl rfl ?_
  refine r_callV3 (pc := 9) (M_areGames hs hi hj hn h0 h1 fe_i) im_X11_areGames qs104 q2378 hs.o rfl dX11_games_9 (Nat.le_of_ble_eq_true rfl) (Nat.le_of_ble_eq_true rfl) rfl (k_fi ?_) (fun _ _ _ _ _ _ _ hx => no_x hx)
  refine r_if_eq (pc := 12) 27 dX11_games_12 rfl bz_g (fun h12 => ?_) (fun h12 => ?_)
  · rw [if_neg (bz_0.mp h12)] at hQ
    refine r_iconst (pc := 27) dX11_games_27 ?_
    refine r_ireturn (pc := 28) rfl rfl dX11_games_28 (Nat.le_of_ble_eq_true rfl) (Nat.le_of_ble_eq_true rfl) ?_
    exact hQ
  have g := bz_ne.mp h12
  rw [if_pos g] at hQ
  have e49 : us ω 0 0 49 = ω 49 := us_n (by omega)
  rw [← e49] at hQ
  have hQ := hQ _ rfl
  refine r_aload_n (pc := 15) dX11_games_15 rfl rfl ?_
  refine r_iload_n (pc := 16) dX11_games_16 rfl rfl ?_
  refine r_iload_n (pc := 17) dX11_games_17 rfl rfl ?_
  refine r_iload_n (pc := 18) dX11_games_18 rfl rfl ?_
  refine r_iload (pc := 19) dX11_games_19 rfl ?_
  refine r_callV4 (pc := 21) (M_gamesOf hs hW hG (hw g) g.1 g.2.1 g.2.2.1 hfr hr (fun x hx => by subst hx; exact fe_i)) im_X11_gamesOf qs105 q2382 hs.o rfl dX11_games_21 (Nat.le_of_ble_eq_true rfl) (Nat.le_of_ble_eq_true rfl) rfl (k_fi ?_) (fun _ _ _ _ _ _ _ hx => no_x hx)
  refine r_goto (pc := 24) 28 dX11_games_24 rfl ?_
  refine r_ireturn (pc := 28) rfl rfl dX11_games_28 (Nat.le_of_ble_eq_true rfl) (Nat.le_of_ble_eq_true rfl) ?_
  exact hQ
theorem M_length (hs : shM G P T m) {W : (Int → Int) → Prop} (hW : PlOK W) (hG : GmOK W) {i j n fr : Int} (hw : gmC σ i j n → W σ) (hi : rg i) (hj : rg j) (hn : rg n) (hfr : rg fr) (h0 : 0 ≤ σ 0 ∧ σ 0 ≤ 13) (h1 : 0 ≤ σ 1 ∧ σ 1 ≤ 6) (hr : ∀ a, 0 ≤ a → a < 6 → 0 ≤ rl a ∧ rl a ≤ 3)
    (hQ : if gmC σ i j n then ∀ x, x = f_gm i j fr n.toNat 0 (rl, π, ω 49, σ, 0, 0) → Q (some (iv x.2.2.2.2.1)) (gI I m (kr bf 0 σ 580) (us ω 0 0) (x.1, x.2.1, x.2.2.1, br x.2.2.2.1 (kr bf 0 σ 580) 0 580, x.2.2.2.2.1, x.2.2.2.2.2)) J P T z
      else Q (some (iv (-1))) (ur (ur (ur (ur (ur I (m + 20) rl) (m + 9) bf) (m + 21) π) m (us ω 0 0)) (m + 2) σ) J P T z) : MC G yX11_length (ws_ yX11_length cX11_length 5 (some FieldType.int)) (d + 8) 0 0 [.ref m, iv i, iv j, iv n, iv fr] (ur (ur (ur (ur (ur I (m + 20) rl) (m + 9) bf) (m + 21) π) m ω) (m + 2) σ) J P T z Q nX := by
  have hb := hs.b
  refine MC.of (by decide) (Nat.le_of_ble_eq_true rfl) ?_
  show PW G mX11_length (rmD (d + 8) 0 0) (MZ G Q nX 0 0) 0 0 (ur (ur (ur (ur (ur I (m + 20) rl) (m + 9) bf) (m + 21) π) m ω) (m + 2) σ) J P T z 0 [some (.ref m), some (iv i), some (iv j), some (iv n), some (iv fr)] []
  refine r_aload_n (pc := 0) dX11_length_0 rfl rfl ?_
  refine r_iconst (pc := 1) dX11_length_1 ?_
  refine r_puti (pc := 2) (c := 11) (k := 0) (kz := 0) hs.o cok_11 (Nat.le_of_ble_eq_true rfl) q1860 ⟨rfl, rfl⟩ (Or.inl rfl) rfl (by omega) rfl rfl (by omega) (fun _ _ _ => rfl) ⟨rfl, rfl⟩ dX11_length_2 ?_
  try simp (disch := omega) only [ui_ur, ui_ur_n, ur_sv, ur_nv, ui_sv, ui_nv, ui_uis, us_s, us_n]
  refine r_aload_n (pc := 5) dX11_length_5 rfl rfl ?_
  refine r_iload_n (pc := 6) dX11_length_6 rfl rfl ?_
  refine r_iload_n (pc := 7) dX11_length_7 rfl rfl ?_
  refine r_iload_n (pc := 8) dX11_length_8 rfl rfl ?_
  refine r_callV3 (pc := 9) (M_areGames hs hi hj hn h0 h1 fe_i) im_X11_areGames qs104 q2378 hs.o rfl dX11_length_9 (Nat.le_of_ble_eq_true rfl) (Nat.le_of_ble_eq_true rfl) rfl (k_fi ?_) (fun _ _ _ _ _ _ _ hx => no_x hx)
  refine r_if_ne (pc := 12) 17 dX11_length_12 rfl bz_g (fun h12 => ?_) (fun h12 => ?_)
  · have g := bz_ne.mp h12
    rw [if_pos g] at hQ
    have e49 : us ω 0 0 49 = ω 49 := us_n (by omega)
    rw [← e49] at hQ
    have hQ := hQ _ rfl
    refine r_aload_n (pc := 17) dX11_length_17 rfl rfl ?_
    refine r_iload_n (pc := 18) dX11_length_18 rfl rfl ?_
    refine r_iload_n (pc := 19) dX11_length_19 rfl rfl ?_
    refine r_iload_n (pc := 20) dX11_length_20 rfl rfl ?_
    refine r_iload (pc := 21) dX11_length_21 rfl ?_
    refine r_callV4 (pc := 23) (M_gamesOf hs hW hG (hw g) g.1 g.2.1 g.2.2.1 hfr hr (fun x hx => by subst hx; exact fe_i)) im_X11_gamesOf qs105 q2382 hs.o rfl dX11_length_23 (Nat.le_of_ble_eq_true rfl) (Nat.le_of_ble_eq_true rfl) rfl (k_fi ?_) (fun _ _ _ _ _ _ _ hx => no_x hx)
    refine r_pop (pc := 26) dX11_length_26 rfl ?_
    refine r_aload_n (pc := 27) dX11_length_27 rfl rfl ?_
    refine r_geti (pc := 28) (c := 11) (k := 51) (kz := 51) hs.o cok_11 (Nat.le_of_ble_eq_true rfl) q1911 ⟨rfl, rfl⟩ (Or.inl rfl) rfl (fun _ _ _ => rfl) dX11_length_28 (fun hr28 => ?_)
    try simp (disch := omega) only [ui_ur, ui_ur_n, ur_sv, ur_nv, ui_sv, ui_nv, ui_uis, us_s, us_n] at hr28 ⊢
    refine r_ireturn (pc := 31) rfl rfl dX11_length_31 (Nat.le_of_ble_eq_true rfl) (Nat.le_of_ble_eq_true rfl) ?_
    exact hQ
  rw [if_neg (bz_0.mp h12)] at hQ
  refine r_iconst (pc := 15) dX11_length_15 ?_
  refine r_ireturn (pc := 16) rfl rfl dX11_length_16 (Nat.le_of_ble_eq_true rfl) (Nat.le_of_ble_eq_true rfl) ?_
  exact hQ
end M23
