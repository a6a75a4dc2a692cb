/-! ===== the model: reply ===== -/
section M28
variable {G : GE} {I J : HI} {P : HP} {T : HT} {z : Nat} {m d : Nat} {Q : QT} {σ π ω bf rl : Int → Int}
theorem M_reply (hs : shM G P T m) {j n fr : Int} (hw : gmC σ 0 j n → W5 σ) (hj : rg j) (hn : rg n) (hfr : rg fr) (h0 : 0 ≤ σ 0 ∧ σ 0 ≤ 13) (h1 : 0 ≤ σ 1 ∧ σ 1 ≤ 6) (hr : ∀ a, 0 ≤ a → a < 6 → 0 ≤ rl a ∧ rl a ≤ 3)
    (hQ : if gmC σ 0 j n then ∀ (V rl' bf' π' ω' σ' : Int → Int), (∀ i, 0 ≤ i → i ≤ 3 → ∃ rl π s9 σ0, (WF σ0 ∧ ∀ j, 0 ≤ j → j < 4 → σ0 j = σ j) ∧ V i = (f_gm i j fr n.toNat 0 (rl, π, s9, σ0, 0, 0)).2.2.2.2.2) → (∀ a, 0 ≤ a → a < 6 → 0 ≤ rl' a ∧ rl' a ≤ 3) → (∀ k, k ≠ 49 → k ≠ 51 → ω' k = us ω 0 0 k) → (∀ k, 0 ≤ k → σ' k = σ k) → Q (some (iv (f_bm V 4 0 (-1) (-1)))) (ur (ur (ur (ur (ur I (m + 20) rl') (m + 9) bf') (m + 21) π') m ω') (m + 2) σ') J P T z
      else Q (some (iv (-1))) (ur (ur (ur (ur (ur I (m + 20) rl) (m + 9) bf) (m + 21) π) m (us ω 0 0)) (m + 2) σ) J P T z) : MC G yX11_reply (ws_ yX11_reply cX11_reply 8 (some FieldType.int)) (d + 8) 0 0 [.ref m, iv j, iv n, iv fr] (ur (ur (ur (ur (ur I (m + 20) rl) (m + 9) bf) (m + 21) π) m ω) (m + 2) σ) J P T z Q nX := by
  have hb := hs.b
  refine MC.of (by decide) (Nat.le_of_ble_eq_true rfl) ?_
  show PW G mX11_reply (rmD (d + 8) 0 0) (MZ G Q nX 0 0) 0 0 (ur (ur (ur (ur (ur I (m + 20) rl) (m + 9) bf) (m + 21) π) m ω) (m + 2) σ) J P T z 0 [some (.ref m), some (iv j), some (iv n), some (iv fr), none, none, none, none] []
  refine r_aload_n (pc := 0) dX11_reply_0 rfl rfl ?_
  refine r_iconst (pc := 1) dX11_reply_1 ?_
  refine r_puti (pc := 2) (c := 11) (k := 0) (kz := 0) hs.o cok_11 (Nat.le_of_ble_eq_true rfl) q1860 ⟨rfl, rfl⟩ (Or.inl rfl) rfl (by omega) rfl rfl (by omega) (fun _ _ _ => rfl) ⟨rfl, rfl⟩ dX11_reply_2 ?_
  try simp (disch := omega) only [ui_ur, ui_ur_n, ur_sv, ur_nv, ui_sv, ui_nv, ui_uis, us_s, us_n]
  refine r_aload_n (pc := 5) dX11_reply_5 rfl rfl ?_
  refine r_iconst (pc := 6) dX11_reply_6 ?_
  refine r_iload_n (pc := 7) dX11_reply_7 rfl rfl ?_
  refine r_iload_n (pc := 8) dX11_reply_8 rfl rfl ?_
  refine r_callV3 (pc := 9) (M_areGames hs (by omega) hj hn h0 h1 fe_i) im_X11_areGames qs104 q2378 hs.o rfl dX11_reply_9 (Nat.le_of_ble_eq_true rfl) (Nat.le_of_ble_eq_true rfl) rfl (k_fi ?_) (fun _ _ _ _ _ _ _ hx => no_x hx)
  refine r_if_ne (pc := 12) 17 dX11_reply_12 rfl bz_g (fun h12 => ?_) (fun h12 => ?_)
  · have q1 : gmC σ 0 j n := bz_ne.mp h12
    rw [if_pos q1] at hQ
    have hw := hw q1
    refine r_iconst (pc := 17) dX11_reply_17 ?_
    refine r_istore4 (pc := 18) (Nat.le_of_ble_eq_true rfl) dX11_reply_18 rfl ?_
    refine r_iconst (pc := 20) dX11_reply_20 ?_
    refine r_istore5 (pc := 21) (Nat.le_of_ble_eq_true rfl) dX11_reply_21 rfl ?_
    refine r_iconst (pc := 23) dX11_reply_23 ?_
    refine r_istore6 (pc := 24) (Nat.le_of_ble_eq_true rfl) dX11_reply_24 rfl ?_
    have loop : ∀ (k : Nat) (i best most : Int) (V rl1 bf1 π1 ω1 σ1 : Int → Int) (l7 : Option Value), 0 ≤ i → i + k = 4 → (-1 ≤ best ∧ best ≤ 3) → (-1 ≤ most ∧ most ≤ 30) → (∀ i', 0 ≤ i' → i' < i → ∃ rl π s9 σ0, (WF σ0 ∧ ∀ j, 0 ≤ j → j < 4 → σ0 j = σ j) ∧ V i' = (f_gm i' j fr n.toNat 0 (rl, π, s9, σ0, 0, 0)).2.2.2.2.2) → (∀ a, 0 ≤ a → a < 6 → 0 ≤ rl1 a ∧ rl1 a ≤ 3) → (∀ k, k ≠ 49 → k ≠ 51 → ω1 k = us ω 0 0 k) → (∀ k, 0 ≤ k → σ1 k = σ k) → (∀ V' : Int → Int, (∀ i', 0 ≤ i' → i' < i → V' i' = V i') → f_bm V' 4 0 (-1) (-1) = f_bm V' k i best most) → PW G mX11_reply (rmD (d + 8) 0 0) (MZ G Q nX 0 0) 0 0 (ur (ur (ur (ur (ur I (m + 20) rl1) (m + 9) bf1) (m + 21) π1) m ω1) (m + 2) σ1) J P T z 26 [some (.ref m), some (iv j), some (iv n), some (iv fr), some (iv best), some (iv most), some (iv i), l7] [] := by
      intro k
      induction k with
      | zero =>
        intro i best most V rl1 bf1 π1 ω1 σ1 l7 h0 hk hbe hmo hV hr1 hω hσ he
        refine r_iload (pc := 26) dX11_reply_26 rfl ?_
        refine r_iconst (pc := 28) dX11_reply_28 ?_
        refine r_icmp_ge (pc := 29) 67 dX11_reply_29 rfl (by omega) (by omega) (fun h29 => ?_) (fun h29 => ?_)
        · refine r_iload (pc := 67) dX11_reply_67 rfl ?_
          refine r_ireturn (pc := 69) rfl rfl dX11_reply_69 (Nat.le_of_ble_eq_true rfl) (Nat.le_of_ble_eq_true rfl) ?_
          have := hQ V rl1 bf1 π1 ω1 σ1 (fun i' u v => hV i' u (by omega)) hr1 hω hσ
          rw [he V (fun _ _ _ => rfl)] at this
          exact this
        omega
      | succ k ih =>
        intro i best most V rl1 bf1 π1 ω1 σ1 l7 h0 hk hbe hmo hV hr1 hω hσ he
        have w1 : WF σ1 := hw.1.1.cg (fun j u v => hσ j u)
        have s0 := hσ 0 (by omega)
        have s1 := hσ 1 (by omega)
        have h2 := hw.1.2
        have h5 := hw.2
        have w5 : W5 σ1 := ⟨⟨w1, by omega⟩, by omega⟩
        refine r_iload (pc := 26) dX11_reply_26 rfl ?_
        refine r_iconst (pc := 28) dX11_reply_28 ?_
        refine r_icmp_ge (pc := 29) 67 dX11_reply_29 rfl (by omega) (by omega) (fun h29 => ?_) (fun h29 => ?_)
        · omega
        refine r_aload_n (pc := 32) dX11_reply_32 rfl rfl ?_
        refine r_iload (pc := 33) dX11_reply_33 rfl ?_
        refine r_iload_n (pc := 35) dX11_reply_35 rfl rfl ?_
        refine r_iload_n (pc := 36) dX11_reply_36 rfl rfl ?_
        refine r_iload_n (pc := 37) dX11_reply_37 rfl rfl ?_
        refine (?_ : ∀ y : GS, y = f_gm i j fr n.toNat 0 (rl1, π1, ω1 49, σ1, 0, 0) → _) _ rfl
        intro y hy
        have gk := gm_ok (fr := fr) (i := i) (j := j) (by omega) q1.2.1 n.toNat 0 (y := (rl1, π1, ω1 49, σ1, 0, 0)) w5 hr1
        rw [← hy] at gk
        obtain ⟨y1, y2, y3, y4⟩ := gk
        have yx := f_gm_ok PlOK_W5 GmOK_W5 (i := i) (j := j) (fr := fr) (by omega) q1.2.1 n.toNat 0 (x := (rl1, π1, ω1 49, σ1, 0, 0)) ⟨w5, hr1, by show (0 : Int) ≤ 0 ∧ (0 : Int) ≤ 300 * 0; omega, by show (0 : Int) ≤ 0 ∧ (0 : Int) ≤ 0; omega⟩
        rw [← hy] at yx
        have ywn := yx.2.2.2
        refine r_callV4 (pc := 38) (M_gamesOf hs PlOK_W5 GmOK_W5 w5 (by omega) q1.2.1 q1.2.2.1 hfr hr1 (fun x hx => by rw [← hy] at hx; subst hx; exact fe_i)) im_X11_gamesOf qs105 q2382 hs.o rfl dX11_reply_38 (Nat.le_of_ble_eq_true rfl) (Nat.le_of_ble_eq_true rfl) rfl (k_fi ?_) (fun _ _ _ _ _ _ _ hx => no_x hx)
        have eV : ∀ i', 0 ≤ i' → i' < i + 1 → ∃ rl π s9 σ0, (WF σ0 ∧ ∀ j, 0 ≤ j → j < 4 → σ0 j = σ j) ∧ us V i y.2.2.2.2.2 i' = (f_gm i' j fr n.toNat 0 (rl, π, s9, σ0, 0, 0)).2.2.2.2.2 := by
          intro i' u v
          by_cases e : i' = i
          · subst e
            exact ⟨rl1, π1, ω1 49, σ1, ⟨w1, fun j u v => hσ j u⟩, by rw [us_s, hy]⟩
          · rw [us_n e]; exact hV i' u (by omega)
        have eσ : ∀ k, 0 ≤ k → br y.2.2.2.1 (kr bf1 0 σ1 580) 0 580 k = σ k := by
          intro k u
          unfold br
          by_cases e : 4 ≤ k ∧ k < 4 + 580
          · rw [if_pos e]
            unfold kr
            rw [if_pos (by omega), show 4 + (0 + (k - 4) - 0) = k by omega]
            exact hσ k u
          · rw [if_neg e]
            by_cases e2 : k < 4
            · rw [y2 k u e2]; exact hσ k u
            · rw [y3 k (by omega)]; exact hσ k u
        have eω : ∀ k, k ≠ 49 → k ≠ 51 → us (us ω1 51 y.2.2.2.2.1) 49 y.2.2.1 k = us ω 0 0 k := fun k u v => by rw [us_n u, us_n v]; exact hω k u v
        generalize y.2.2.2.2.2 = won at eV ywn
        refine r_istore7 (pc := 41) (Nat.le_of_ble_eq_true rfl) dX11_reply_41 rfl ?_
        refine r_iload (pc := 43) dX11_reply_43 rfl ?_
        refine r_iload (pc := 45) dX11_reply_45 rfl ?_
        refine r_icmp_gt (pc := 47) 53 dX11_reply_47 rfl (by omega) (by omega) (fun h47 => ?_) (fun h47 => ?_)
        · refine r_iload (pc := 53) dX11_reply_53 rfl ?_
          refine r_istore5 (pc := 55) (Nat.le_of_ble_eq_true rfl) dX11_reply_55 rfl ?_
          refine r_iload (pc := 57) dX11_reply_57 rfl ?_
          refine r_istore4 (pc := 59) (Nat.le_of_ble_eq_true rfl) dX11_reply_59 rfl ?_
          refine r_iinc6 (pc := 61) (Nat.le_of_ble_eq_true rfl) dX11_reply_61 rfl ?_
          refine r_goto (pc := 64) 26 dX11_reply_64 rfl ?_
          refine ih (i + 1) i won (us V i won) _ _ _ _ _ _ (by omega) (by omega) (by omega) (by omega) eV y4 eω eσ (fun V' hV' => ?_)
          have e9 := hV' i h0 (by omega)
          rw [us_s] at e9
          rw [he V' (fun i' u v => by rw [hV' i' u (by omega), us_n (by omega)])]
          conv => lhs; unfold f_bm
          rw [if_neg (by omega), e9]
        refine r_goto (pc := 50) 61 dX11_reply_50 rfl ?_
        refine r_iinc6 (pc := 61) (Nat.le_of_ble_eq_true rfl) dX11_reply_61 rfl ?_
        refine r_goto (pc := 64) 26 dX11_reply_64 rfl ?_
        refine ih (i + 1) best most (us V i won) _ _ _ _ _ _ (by omega) (by omega) hbe hmo eV y4 eω eσ (fun V' hV' => ?_)
        have e9 := hV' i h0 (by omega)
        rw [us_s] at e9
        rw [he V' (fun i' u v => by rw [hV' i' u (by omega), us_n (by omega)])]
        conv => lhs; unfold f_bm
        rw [if_pos (by omega)]
    exact loop 4 0 (-1) (-1) (fun _ => 0) rl bf π (us ω 0 0) σ none (by omega) (by omega) (by omega) (by omega) (fun i' u v => by omega) hr (fun _ _ _ => rfl) (fun _ _ => rfl) (fun _ _ => rfl)
  rw [if_neg (bz_0.mp h12)] at hQ
  refine r_iconst (pc := 15) dX11_reply_15 ?_
  refine r_ireturn (pc := 16) rfl rfl dX11_reply_16 (Nat.le_of_ble_eq_true rfl) (Nat.le_of_ble_eq_true rfl) ?_
  exact hQ
end M28
