/-! ===== the model: odds, next, whom ===== -/
section O2
variable {G : GE} {I J I' J' : HI} {P : HP} {T : HT} {z : Nat} {m d : Nat} {Q : QT} {σ ω lf κ κc u st on wy : Int → Int}
/-- what the model's odds leave -/
def MFr (m : Nat) (I J I' J' : HI) : Prop := (∀ a, a ≠ m → a ≠ m + 10 → a ≠ m + 11 → a ≠ m + 12 → I' a = I a) ∧ (∀ j, j ≠ 0 → j ≠ 33 → j ≠ 34 → j ≠ 35 → I' m j = I m j) ∧ ∀ c : Nat, c ≠ m + 13 → c ≠ m + 14 → J' c = J c
theorem hW_id (h : I (m + 2) = σ) : hW I m (I (m + 10)) (I (m + 11)) (I (m + 12)) (I m) σ = I := by
  subst h
  unfold hW
  rw [ur_id, ur_id, ur_id, ur_id, ur_id]
theorem jW_id : jW J m (J (m + 13)) (J (m + 14)) = J := by
  unfold jW
  rw [ur_id, ur_id]
theorem MFr.hw (hσ : I (m + 2) = σ) (h : ∀ j, j ≠ 0 → j ≠ 33 → j ≠ 34 → j ≠ 35 → ω j = I m j) : MFr m I J (hW I m lf κ st ω σ) (jW J m wy on) := ⟨fun a h1 h2 h3 h4 => by
    unfold hW
    by_cases c : a = m + 2
    · subst c; rw [ur_s, hσ]
    · rw [ur_n c, ur_n h1, ur_n h4, ur_n h3, ur_n h2], fun j h1 h2 h3 h4 => by unfold hW; rw [ur_n (by omega), ur_s]; exact h j h1 h2 h3 h4, fun c h1 h2 => by unfold jW; rw [ur_n h1, ur_n h2]⟩
theorem hM_hW : hM (ur I (m + 12) st) m lf κ ω σ = hW I m lf κ st ω σ := by
  unfold hM hW
  rw [ur_comm (a := m + 12) (b := m + 10) (by omega), ur_comm (a := m + 12) (b := m + 11) (by omega)]
theorem hW_0 : hW I m lf κ st ω σ m 0 = ω 0 := by
  unfold hW
  rw [ur_n (by omega), ur_s]
theorem M_looksW (hs : shM G P T m) (hcv : CV σ) {o : Int} (ho : 0 ≤ o ∧ o < σ 1)
    (hQ : ∀ lf' κ' ω', (∀ j, j ≠ 33 → j ≠ 34 → j ≠ 35 → ω' j = ω j) → ((ky σ o).1 ≠ 0 → (ω' 33 = (ky σ o).2.1 ∧ 0 ≤ (ky σ o).2.1 ∧ (ky σ o).2.1 ≤ 6) ∧ (∀ i, 0 ≤ i → i < (ky σ o).2.1 → κ' i = (ky σ o).2.2 i ∧ (0 ≤ (ky σ o).2.2 i ∧ (ky σ o).2.2 i < 13) ∧ 0 < un σ o ((ky σ o).2.2 i)) ∧ (∀ k, 0 ≤ k → k < 13 → lf' k = un σ o k) ∧ ω' 35 = f_sl σ o ∧ ω' 34 = f_sl σ o + σ 7) → Q (some (iv (bz (okO σ o)))) (hW I m lf' κ' st ω' σ) J P T z) : MC G yX11_looks (ws_ yX11_looks cX11_looks mX11_looks.2.2.1 mX11_looks.2.2.2.1) (d + 1) 0 0 [.ref m, iv o] (hW I m lf κ st ω σ) J P T z Q nX := by
  rw [← hM_hW]
  have ht := hcv.ta
  refine M_looks hs hcv ho (fun Y hY lf' κ' ω' h1 h2 => ?_)
  rw [kd_13 hcv (by omega)] at hY
  change Y = ky σ o at hY
  subst hY
  rw [hM_hW]
  refine hQ lf' κ' ω' h1 (fun c => ?_)
  obtain ⟨a1, a2, a3, a4, a5⟩ := h2 c
  exact ⟨a1, a2, a3, a4, by rw [a5]; exact un_sum hcv ho⟩
theorem pt_self {w a : Int} (hw : 0 ≤ w ∧ w ≤ 1) (ha : 0 < a) : pt w a a = 1 := by
  unfold pt
  rw [Nat.gcd_self, show ((a.toNat : Nat) : Int) = a by omega]
  split <;> exact Int.ediv_self (by omega)
theorem M_odds (hs : shM G P T m) (hcv : CV σ) (hσ : I (m + 2) = σ) {o q k w : Int} (ho : rg o) (hq : rg q) (hk : rg k) (hw : rg w)
    (hQ : ∀ I' J', MFr m I J I' J' → I' m 0 = bz (¬ gO σ o q k w) → Q (some (jv (if gO σ o q k w then pt w (twt σ o q k) (tall σ o) else 0))) I' J' P T z) : MC G yX11_odds (ws_ yX11_odds cX11_odds 7 (some FieldType.long)) (d + 3) 0 0 [.ref m, iv o, iv q, iv k, iv w] I J P T z Q nX := by
  have hb := hs.b
  have ht := hcv.ta
  refine MC.of (by decide) (Nat.le_of_ble_eq_true rfl) ?_
  show PW G mX11_odds (rmD (d + 3) 0 0) (MZ G Q nX 0 0) 0 0 I J P T z 0 [some (.ref m), some (iv o), some (iv q), some (iv k), some (iv w), none, none] []
  have key : ∀ lf κ st ω wy on, (∀ j, j ≠ 0 → j ≠ 33 → j ≠ 34 → j ≠ 35 → ω j = I m j) → PW G mX11_odds (rmD (d + 3) 0 0) (MZ G Q nX 0 0) 0 0 (hW I m lf κ st ω σ) (jW J m wy on) P T z 0 [some (.ref m), some (iv o), some (iv q), some (iv k), some (iv w), none, none] [] := by
    intro lf κ st ω wy on hω
    have bad : ¬ gO σ o q k w → ∀ lf κ ω, (∀ j, j ≠ 0 → j ≠ 33 → j ≠ 34 → j ≠ 35 → ω j = I m j) → PW G mX11_odds (rmD (d + 3) 0 0) (MZ G Q nX 0 0) 0 0 (hW I m lf κ st ω σ) (jW J m wy on) P T z 48 [some (.ref m), some (iv o), some (iv q), some (iv k), some (iv w), none, none] [.ref m] := by
      intro c lf κ ω hω
      refine r_iconst (pc := 48) dX11_odds_48 ?_
      rw [show (1 : Int) = bz (¬ gO σ o q k w) from (bz_t c).symm]
      refine r_goto (pc := 49) 53 dX11_odds_49 rfl ?_
      refine r_callV1 (pc := 53) (M_throwsIf hs fe_i) im_X11_throwsIf qs80 q2177 hs.o rfl dX11_odds_53 (Nat.le_of_ble_eq_true rfl) (Nat.le_of_ble_eq_true rfl) rfl (k_fi ?_) (fun _ _ _ _ _ _ _ hx => no_x hx)
      refine r_if_eq (pc := 56) 61 dX11_odds_56 rfl bz_g (fun h56 => ?_) (fun h56 => ?_)
      · exact absurd c (bz_0.mp h56)
      refine r_lconst (pc := 59) (x := 0) dX11_odds_59 (by decide +kernel) ?_
      refine r_lreturn (pc := 60) rfl dX11_odds_60 (Nat.le_of_ble_eq_true rfl) (Nat.le_of_ble_eq_true rfl) ?_
      rw [ui_ur]
      have := hQ _ _ (MFr.hw (lf := lf) (κ := κ) (st := st) (ω := us ω 0 (bz (¬ gO σ o q k w))) (wy := wy) (on := on) hσ (fun j h1 h2 h3 h4 => by rw [us_n h1]; exact hω j h1 h2 h3 h4)) (by rw [hW_0, us_s])
      rw [if_neg c] at this
      exact this
    refine r_aload_n (pc := 0) dX11_odds_0 rfl rfl ?_
    refine r_aload_n (pc := 1) dX11_odds_1 rfl rfl ?_
    refine r_iload_n (pc := 2) dX11_odds_2 rfl rfl ?_
    refine r_callV1 (pc := 3) (M_isPerson hs ho (by omega) fe_i) im_X11_isPerson qs78 q2169 hs.o rfl dX11_odds_3 (Nat.le_of_ble_eq_true rfl) (Nat.le_of_ble_eq_true rfl) rfl (k_fi ?_) (fun _ _ _ _ _ _ _ hx => no_x hx)
    refine r_if_eq (pc := 6) 48 dX11_odds_6 rfl bz_g (fun h6 => ?_) (fun h6 => ?_)
    · exact bad (fun c => bz_0.mp h6 c.1) _ _ _ hω
    have q1 := bz_ne.mp h6
    refine r_aload_n (pc := 9) dX11_odds_9 rfl rfl ?_
    refine r_iload_n (pc := 10) dX11_odds_10 rfl rfl ?_
    refine r_callV1 (pc := 11) (M_isPerson hs hq (by omega) fe_i) im_X11_isPerson qs78 q2169 hs.o rfl dX11_odds_11 (Nat.le_of_ble_eq_true rfl) (Nat.le_of_ble_eq_true rfl) rfl (k_fi ?_) (fun _ _ _ _ _ _ _ hx => no_x hx)
    refine r_if_eq (pc := 14) 48 dX11_odds_14 rfl bz_g (fun h14 => ?_) (fun h14 => ?_)
    · exact bad (fun c => bz_0.mp h14 c.2.1) _ _ _ hω
    have q2 := bz_ne.mp h14
    refine r_iload_n (pc := 17) dX11_odds_17 rfl rfl ?_
    refine r_iload_n (pc := 18) dX11_odds_18 rfl rfl ?_
    refine r_icmp_eq (pc := 19) 48 dX11_odds_19 rfl (by omega) (by omega) (fun h19 => ?_) (fun h19 => ?_)
    · exact bad (fun c => c.2.2.2.1 h19) _ _ _ hω
    refine r_aload_n (pc := 22) dX11_odds_22 rfl rfl ?_
    refine r_iload_n (pc := 23) dX11_odds_23 rfl rfl ?_
    refine r_callV1 (pc := 24) (M_isKind hs hk (by omega) fe_i) im_X11_isKind qs79 q2173 hs.o rfl dX11_odds_24 (Nat.le_of_ble_eq_true rfl) (Nat.le_of_ble_eq_true rfl) rfl (k_fi ?_) (fun _ _ _ _ _ _ _ hx => no_x hx)
    refine r_if_eq (pc := 27) 48 dX11_odds_27 rfl bz_g (fun h27 => ?_) (fun h27 => ?_)
    · exact bad (fun c => bz_0.mp h27 c.2.2.1) _ _ _ hω
    have q3 := bz_ne.mp h27
    refine r_iload (pc := 30) dX11_odds_30 rfl ?_
    refine r_iconst (pc := 32) dX11_odds_32 ?_
    refine r_iconst (pc := 33) dX11_odds_33 ?_
    refine r_callS3 (pc := 34) (M_isIn hw (by omega) (by omega) fe_i) im_X11_isIn q2095 dX11_odds_34 (Nat.le_of_ble_eq_true rfl) (Nat.le_of_ble_eq_true rfl) rfl (k_fi ?_) (fun _ _ _ _ _ _ _ hx => no_x hx)
    refine r_if_eq (pc := 37) 48 dX11_odds_37 rfl bz_g (fun h37 => ?_) (fun h37 => ?_)
    · exact bad (fun c => bz_0.mp h37 c.2.2.2.2.1) _ _ _ hω
    have q4 := bz_ne.mp h37
    have o6 : 0 ≤ o ∧ o < 6 := by omega
    refine r_aload_n (pc := 40) dX11_odds_40 rfl rfl ?_
    refine r_iload_n (pc := 41) dX11_odds_41 rfl rfl ?_
    refine r_callV1 (pc := 42) (M_looksW (Q := fun v I' J' P' T' z' => J' = jW J m wy on ∧ P' = P ∧ T' = T ∧ z' = z ∧ v = some (iv (bz (okO σ o))) ∧ ∃ lf' κ' ω', I' = hW I m lf' κ' st ω' σ ∧ (∀ j, j ≠ 33 → j ≠ 34 → j ≠ 35 → ω' j = ω j) ∧ ((ky σ o).1 ≠ 0 → (ω' 33 = (ky σ o).2.1 ∧ 0 ≤ (ky σ o).2.1 ∧ (ky σ o).2.1 ≤ 6) ∧ (∀ i, 0 ≤ i → i < (ky σ o).2.1 → κ' i = (ky σ o).2.2 i ∧ (0 ≤ (ky σ o).2.2 i ∧ (ky σ o).2.2 i < 13) ∧ 0 < un σ o ((ky σ o).2.2 i)) ∧ (∀ k, 0 ≤ k → k < 13 → lf' k = un σ o k) ∧ ω' 35 = f_sl σ o ∧ ω' 34 = f_sl σ o + σ 7)) hs hcv (by omega) (fun lf' κ' ω' h1 h2 => ⟨rfl, rfl, rfl, rfl, rfl, lf', κ', ω', rfl, h1, h2⟩)) im_X11_looks qs89 q2257 hs.o rfl dX11_odds_42 (Nat.le_of_ble_eq_true rfl) (Nat.le_of_ble_eq_true rfl) rfl (?_) (fun _ _ _ _ _ _ _ hx => no_x hx)
    intro v I' J' P' T' z' h
    obtain ⟨rfl, rfl, rfl, rfl, rfl, lf', κ', ω', rfl, hω', hL⟩ := h
    have hω2 : ∀ j, j ≠ 0 → j ≠ 33 → j ≠ 34 → j ≠ 35 → ω' j = I m j := fun j h1 h2 h3 h4 => by rw [hω' j h2 h3 h4]; exact hω j h1 h2 h3 h4
    show PW G mX11_odds (rmD (d + 3) 0 0) (MZ G Q nX 0 0) 0 0 (hW I m lf' κ' st ω' σ) (jW J m wy on) P' T' z' 45 [some (.ref m), some (iv o), some (iv q), some (iv k), some (iv w), none, none] [iv (bz (okO σ o)), .ref m]
    refine r_if_ne (pc := 45) 52 dX11_odds_45 rfl bz_g (fun h45 => ?_) (fun h45 => ?_)
    · have q5 := bz_ne.mp h45
      obtain ⟨⟨e33, n0, n6⟩, hκ, hlf, -, -⟩ := hL q5.1
      have hL1 : ∀ i : Int, 0 ≤ i → i < (ky σ o).2.1.toNat → κ' i = (ky σ o).2.2 i ∧ (0 ≤ (ky σ o).2.2 i ∧ (ky σ o).2.2 i < 13) ∧ lf' ((ky σ o).2.2 i) = un σ o ((ky σ o).2.2 i) ∧ 0 ≤ un σ o ((ky σ o).2.2 i) ∧ un σ o ((ky σ o).2.2 i) ≤ 4 := fun i p p2 => by
        obtain ⟨a1, a2, a3⟩ := hκ i p (by omega)
        exact ⟨a1, a2, hlf _ a2.1 a2.2, by omega, un_4 hcv o6 a2⟩
      have ta := TW_le (κ := (ky σ o).2.2) (u := fun i => un σ o ((ky σ o).2.2 i)) (n := (ky σ o).2.1.toNat) (by omega) (fun i p p2 => (hL1 i p p2).2.2.2.2) (LM_12 (o := o) (q0 := -1) (nt := -1) hcv q5.2)
      have tw := f_wt_r (κ := (ky σ o).2.2) (u := fun i => un σ o ((ky σ o).2.2 i)) (q := q) (k := k) hcv (n := (ky σ o).2.1.toNat) (by omega) (fun i p p2 => (hL1 i p p2).2.2.2.2) q5.2
      have eall : TW (ky σ o).2.2 (ky σ o).2.1.toNat (LM σ o (-1) 0 (σ 1).toNat 0) (fun _ => 1) (fun i => un σ o ((ky σ o).2.2 i)) = tall σ o := by rw [LM_nt (nt := 0) (nt' := -1) _ _ (by omega)]; rfl
      change 0 ≤ tall σ o ∧ tall σ o ≤ _ at ta
      change 0 ≤ twt σ o q k ∧ twt σ o q k ≤ tall σ o at tw
      refine r_iconst (pc := 52) dX11_odds_52 ?_
      rw [show (0 : Int) = bz False from rfl]
      refine r_callV1 (pc := 53) (M_throwsIf hs fe_i) im_X11_throwsIf qs80 q2177 hs.o rfl dX11_odds_53 (Nat.le_of_ble_eq_true rfl) (Nat.le_of_ble_eq_true rfl) rfl (k_fi ?_) (fun _ _ _ _ _ _ _ hx => no_x hx)
      rw [ui_ur, show bz False = 0 from rfl]
      refine r_if_eq (pc := 56) 61 dX11_odds_56 rfl (by omega) (fun h56 => ?_) (fun h56 => ?_)
      · refine r_aload_n (pc := 61) dX11_odds_61 rfl rfl ?_
        refine r_iload_n (pc := 62) dX11_odds_62 rfl rfl ?_
        refine r_iconst (pc := 63) dX11_odds_63 ?_
        refine r_iconst (pc := 64) dX11_odds_64 ?_
        refine r_callV3 (pc := 65) (M_waysOf (d := d + 1) (Q := fun v I' J' P'' T'' zz => P'' = P' ∧ T'' = T' ∧ zz = z' ∧ v = some (jv (tall σ o)) ∧ ∃ st' on' wy', I' = hW I m lf' κ' st' (us ω' 0 0) σ ∧ J' = jW J m wy' on') hs hcv (n := (ky σ o).2.1.toNat) (by omega) (by rw [us_n (by omega), e33]; omega) hL1 o6 (Or.inl ⟨rfl, rfl⟩) (LM_12 hcv q5.2) (fun st' on' wy' _ _ => ⟨rfl, rfl, rfl, by rw [eall], st', on', wy', rfl, rfl⟩)) im_X11_waysOf qs90 q2261 hs.o rfl dX11_odds_65 (Nat.le_of_ble_eq_true rfl) (Nat.le_of_ble_eq_true rfl) rfl (?_) (fun _ _ _ _ _ _ _ hx => no_x hx)
        intro v I2 J2 P2 T2 z2 h
        obtain ⟨rfl, rfl, rfl, rfl, st', on', wy', rfl, rfl⟩ := h
        have lr := lc_r (x := tall σ o) (y := 0)
        have le := lc_eq (x := tall σ o) (y := 0)
        show PW G mX11_odds (rmD (d + 3) 0 0) (MZ G Q nX 0 0) 0 0 (hW I m lf' κ' st' (us ω' 0 0) σ) (jW J m wy' on') P2 T2 z2 68 [some (.ref m), some (iv o), some (iv q), some (iv k), some (iv w), none, none] [jv (tall σ o)]
        refine r_lstore5 (pc := 68) (Nat.le_of_ble_eq_true rfl) dX11_odds_68 rfl ?_
        refine r_aload_n (pc := 70) dX11_odds_70 rfl rfl ?_
        refine r_lload (pc := 71) dX11_odds_71 rfl ?_
        refine r_lconst (pc := 73) (x := 0) dX11_odds_73 (by decide +kernel) ?_
        refine r_lcmp (pc := 74) dX11_odds_74 (by omega) (by omega) ?_
        refine r_if_ne (pc := 75) 82 dX11_odds_75 rfl (by omega) (fun h75 => ?_) (fun h75 => ?_)
        · have c0 : 0 < tall σ o := by
            have : tall σ o ≠ 0 := fun c => h75 (le.mpr c)
            omega
          have cg : gO σ o q k w := ⟨q1, q2, q3, h19, q4, q5, c0⟩
          refine r_iconst (pc := 82) dX11_odds_82 ?_
          rw [show (0 : Int) = bz False from rfl]
          refine r_callV1 (pc := 83) (M_throwsIf hs fe_i) im_X11_throwsIf qs80 q2177 hs.o rfl dX11_odds_83 (Nat.le_of_ble_eq_true rfl) (Nat.le_of_ble_eq_true rfl) rfl (k_fi ?_) (fun _ _ _ _ _ _ _ hx => no_x hx)
          rw [ui_ur, show bz False = 0 from rfl]
          refine r_if_eq (pc := 86) 91 dX11_odds_86 rfl (by omega) (fun h86 => ?_) (fun h86 => ?_)
          · have fin : ∀ st on wy, Q (some (jv (pt w (twt σ o q k) (tall σ o)))) (hW I m lf' κ' st (us (us ω' 0 0) 0 0) σ) (jW J m wy on) P2 T2 z2 := fun st on wy => by
              have := hQ _ _ (MFr.hw (lf := lf') (κ := κ') (st := st) (ω := us (us ω' 0 0) 0 0) (wy := wy) (on := on) hσ (fun j h1 h2 h3 h4 => by rw [us_n h1, us_n h1]; exact hω2 j h1 h2 h3 h4)) (by rw [hW_0, us_s, bz_f (fun c => c cg)])
              rw [if_pos cg] at this
              exact this
            refine r_aload_n (pc := 91) dX11_odds_91 rfl rfl ?_
            refine r_getr (pc := 92) (c := 11) (k := 6) (kz := 6) hs.o cok_11 (Nat.le_of_ble_eq_true rfl) q1866 ⟨rfl, rfl⟩ (Or.inl rfl) rfl (fun _ _ _ => rfl) hs.p_s dX11_odds_92 ?_
            refine r_sipush (pc := 95) dX11_odds_95 (by decide +kernel) ?_
            refine r_bipush (pc := 98) dX11_odds_98 (by decide +kernel) ?_
            refine r_iload_n (pc := 100) dX11_odds_100 rfl rfl ?_
            refine r_imul (pc := 101) dX11_odds_101 ?_
            refine r_iadd (pc := 102) dX11_odds_102 ?_
            refine r_iload_n (pc := 103) dX11_odds_103 rfl rfl ?_
            refine r_iadd (pc := 104) dX11_odds_104 ?_
            refine r_iald (pc := 105) hs.t_s (by omega) (by omega) dX11_odds_105 (fun hr105 => ?_)
            rw [ur_sv] at hr105 ⊢
            refine r_if_le (pc := 106) 113 dX11_odds_106 rfl (by omega) (fun h106 => ?_) (fun h106 => ?_)
            · have ew : twt σ o q k = tall σ o - TW (ky σ o).2.2 (ky σ o).2.1.toNat (LM σ o q k (σ 1).toNat 0) (fun _ => 1) (fun i => un σ o ((ky σ o).2.2 i)) := if_neg (by omega)
              refine r_lload (pc := 113) dX11_odds_113 rfl ?_
              refine r_aload_n (pc := 115) dX11_odds_115 rfl rfl ?_
              refine r_iload_n (pc := 116) dX11_odds_116 rfl rfl ?_
              refine r_iload_n (pc := 117) dX11_odds_117 rfl rfl ?_
              refine r_iload_n (pc := 118) dX11_odds_118 rfl rfl ?_
              refine r_callV3 (pc := 119) (M_waysOf (d := d + 1) (Q := fun v I' J' P'' T'' zz => P'' = P2 ∧ T'' = T2 ∧ zz = z2 ∧ v = some (jv (TW (ky σ o).2.2 (ky σ o).2.1.toNat (LM σ o q k (σ 1).toNat 0) (fun _ => 1) (fun i => un σ o ((ky σ o).2.2 i)))) ∧ ∃ st' on' wy', I' = hW I m lf' κ' st' (us (us ω' 0 0) 0 0) σ ∧ J' = jW J m wy' on') hs hcv (n := (ky σ o).2.1.toNat) (by omega) (by rw [us_n (by omega), us_n (by omega), e33]; omega) hL1 o6 (Or.inr ⟨by omega, by omega⟩) (LM_12 hcv q5.2) (fun st' on' wy' _ _ => ⟨rfl, rfl, rfl, rfl, st', on', wy', rfl, rfl⟩)) im_X11_waysOf qs90 q2261 hs.o rfl dX11_odds_119 (Nat.le_of_ble_eq_true rfl) (Nat.le_of_ble_eq_true rfl) rfl (?_) (fun _ _ _ _ _ _ _ hx => no_x hx)
              intro v I4 J4 P4 T4 z4 h
              obtain ⟨rfl, rfl, rfl, rfl, st4, on4, wy4, rfl, rfl⟩ := h
              show PW G mX11_odds (rmD (d + 3) 0 0) (MZ G Q nX 0 0) 0 0 (hW I m lf' κ' st4 (us (us ω' 0 0) 0 0) σ) (jW J m wy4 on4) P4 T4 z4 122 [some (.ref m), some (iv o), some (iv q), some (iv k), some (iv w), some (jv (tall σ o)), none] [jv (TW (ky σ o).2.2 (ky σ o).2.1.toNat (LM σ o q k (σ 1).toNat 0) (fun _ => 1) (fun i => un σ o ((ky σ o).2.2 i))), jv (tall σ o)]
              refine r_lsub (pc := 122) dX11_odds_122 ?_
              rw [← ew]
              refine r_lload (pc := 123) dX11_odds_123 rfl ?_
              refine r_iload (pc := 125) dX11_odds_125 rfl ?_
              refine r_callS3 (pc := 127) (M_part (d := d + 1) (by omega) (by omega) hw fe_i) im_X11_part q2268 dX11_odds_127 (Nat.le_of_ble_eq_true rfl) (Nat.le_of_ble_eq_true rfl) rfl (k_fj ?_) (fun _ _ _ _ _ _ _ hx => no_x hx)
              refine r_lreturn (pc := 130) rfl dX11_odds_130 (Nat.le_of_ble_eq_true rfl) (Nat.le_of_ble_eq_true rfl) ?_
              exact fin _ _ _
            have ew : twt σ o q k = tall σ o := if_pos (by omega)
            have f9 := fin st' on' wy'
            rw [ew, pt_self q4 c0] at f9
            refine r_lconst (pc := 109) (x := 1) dX11_odds_109 (by decide +kernel) ?_
            refine r_goto (pc := 110) 130 dX11_odds_110 rfl ?_
            refine r_lreturn (pc := 130) rfl dX11_odds_130 (Nat.le_of_ble_eq_true rfl) (Nat.le_of_ble_eq_true rfl) ?_
            exact f9
          exact absurd rfl h86
        have c0 : tall σ o = 0 := le.mp (by omega)
        have cg : ¬ gO σ o q k w := fun c => by have := c.2.2.2.2.2.2; omega
        refine r_iconst (pc := 78) dX11_odds_78 ?_
        rw [show (1 : Int) = bz True from rfl]
        refine r_goto (pc := 79) 83 dX11_odds_79 rfl ?_
        refine r_callV1 (pc := 83) (M_throwsIf hs fe_i) im_X11_throwsIf qs80 q2177 hs.o rfl dX11_odds_83 (Nat.le_of_ble_eq_true rfl) (Nat.le_of_ble_eq_true rfl) rfl (k_fi ?_) (fun _ _ _ _ _ _ _ hx => no_x hx)
        rw [ui_ur, show bz True = 1 from rfl]
        refine r_if_eq (pc := 86) 91 dX11_odds_86 rfl (by omega) (fun h86 => ?_) (fun h86 => ?_)
        · exact absurd h86 (by decide)
        refine r_lconst (pc := 89) (x := 0) dX11_odds_89 (by decide +kernel) ?_
        refine r_lreturn (pc := 90) rfl dX11_odds_90 (Nat.le_of_ble_eq_true rfl) (Nat.le_of_ble_eq_true rfl) ?_
        have := hQ _ _ (MFr.hw (lf := lf') (κ := κ') (st := st') (ω := us (us ω' 0 0) 0 1) (wy := wy') (on := on') hσ (fun j h1 h2 h3 h4 => by rw [us_n h1, us_n h1]; exact hω2 j h1 h2 h3 h4)) (by rw [hW_0, us_s, bz_t cg])
        rw [if_neg cg] at this
        exact this
      exact absurd rfl h56
    exact bad (fun c => bz_0.mp h45 c.2.2.2.2.2.1) _ _ _ hω2
  have h9 := key (I (m + 10)) (I (m + 11)) (I (m + 12)) (I m) (J (m + 13)) (J (m + 14)) (fun j _ _ _ _ => rfl)
  rw [hW_id hσ, jW_id] at h9
  exact h9
end O2
