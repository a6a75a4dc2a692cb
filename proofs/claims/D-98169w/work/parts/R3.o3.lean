/-! ===== the model: next ===== -/
section O3
variable {G : GE} {I J I' J' : HI} {P : HP} {T : HT} {z : Nat} {m d : Nat} {Q : QT} {σ ω lf κ κc u st on wy : Int → Int}
theorem M_nextF (hs : shM G P T m) (hcv : CV σ) (hσ : I (m + 2) = σ) {o k w : Int} (ho : rg o) (hk : rg k) (hw : rg w)
    (hQ : ∀ I' J', MFr m I J I' J' → I' m 0 = bz (¬ gN σ o k w) → Q (some (jv (if gN σ o k w then pt w (tnx σ o k) (tall σ o * σ 7) else 0))) I' J' P T z) : MC G yX11_next_2 (ws_ yX11_next_2 cX11_next_2 11 (some FieldType.long)) (d + 3) 0 0 [.ref m, iv o, iv k, iv w] I J P T z Q nX := by
  have hb := hs.b
  have ht := hcv.ta
  have hhp := hcv.hp.1
  have h52g := hcv.rg
  refine MC.of (by decide) (Nat.le_of_ble_eq_true rfl) ?_
  show PW G mX11_next_2 (rmD (d + 3) 0 0) (MZ G Q nX 0 0) 0 0 I J P T z 0 [some (.ref m), some (iv o), some (iv k), some (iv w), none, none, none, none, none, none, none] []
  have key : ∀ lf κ st ω wy on, (∀ j, j ≠ 0 → j ≠ 33 → j ≠ 34 → j ≠ 35 → ω j = I m j) → PW G mX11_next_2 (rmD (d + 3) 0 0) (MZ G Q nX 0 0) 0 0 (hW I m lf κ st ω σ) (jW J m wy on) P T z 0 [some (.ref m), some (iv o), some (iv k), some (iv w), none, none, none, none, none, none, none] [] := by
    intro lf κ st ω wy on hω
    have bad : ¬ gN σ o k w → ∀ lf κ ω, (∀ j, j ≠ 0 → j ≠ 33 → j ≠ 34 → j ≠ 35 → ω j = I m j) → PW G mX11_next_2 (rmD (d + 3) 0 0) (MZ G Q nX 0 0) 0 0 (hW I m lf κ st ω σ) (jW J m wy on) P T z 44 [some (.ref m), some (iv o), some (iv k), some (iv w), none, none, none, none, none, none, none] [.ref m] := by
      intro c lf κ ω hω
      refine r_iconst (pc := 44) dX11_next_2_44 ?_
      rw [show (1 : Int) = bz (¬ gN σ o k w) from (bz_t c).symm]
      refine r_goto (pc := 45) 49 dX11_next_2_45 rfl ?_
      refine r_callV1 (pc := 49) (M_throwsIf hs fe_i) im_X11_throwsIf qs80 q2177 hs.o rfl dX11_next_2_49 (Nat.le_of_ble_eq_true rfl) (Nat.le_of_ble_eq_true rfl) rfl (k_fi ?_) (fun _ _ _ _ _ _ _ hx => no_x hx)
      refine r_if_eq (pc := 52) 57 dX11_next_2_52 rfl bz_g (fun h52 => ?_) (fun h52 => ?_)
      · exact absurd c (bz_0.mp h52)
      refine r_lconst (pc := 55) (x := 0) dX11_next_2_55 (by decide +kernel) ?_
      refine r_lreturn (pc := 56) rfl dX11_next_2_56 (Nat.le_of_ble_eq_true rfl) (Nat.le_of_ble_eq_true rfl) ?_
      rw [ui_ur]
      have := hQ _ _ (MFr.hw (lf := lf) (κ := κ) (st := st) (ω := us ω 0 (bz (¬ gN σ o k w))) (wy := wy) (on := on) hσ (fun j h1 h2 h3 h4 => by rw [us_n h1]; exact hω j h1 h2 h3 h4)) (by rw [hW_0, us_s])
      rw [if_neg c] at this
      exact this
    refine r_aload_n (pc := 0) dX11_next_2_0 rfl rfl ?_
    refine r_aload_n (pc := 1) dX11_next_2_1 rfl rfl ?_
    refine r_iload_n (pc := 2) dX11_next_2_2 rfl rfl ?_
    refine r_callV1 (pc := 3) (M_isPerson hs ho (by omega) fe_i) im_X11_isPerson qs78 q2169 hs.o rfl dX11_next_2_3 (Nat.le_of_ble_eq_true rfl) (Nat.le_of_ble_eq_true rfl) rfl (k_fi ?_) (fun _ _ _ _ _ _ _ hx => no_x hx)
    refine r_if_eq (pc := 6) 44 dX11_next_2_6 rfl bz_g (fun h6 => ?_) (fun h6 => ?_)
    · exact bad (fun c => bz_0.mp h6 c.1) _ _ _ hω
    have q1 := bz_ne.mp h6
    refine r_aload_n (pc := 9) dX11_next_2_9 rfl rfl ?_
    refine r_iload_n (pc := 10) dX11_next_2_10 rfl rfl ?_
    refine r_callV1 (pc := 11) (M_isKind hs hk (by omega) fe_i) im_X11_isKind qs79 q2173 hs.o rfl dX11_next_2_11 (Nat.le_of_ble_eq_true rfl) (Nat.le_of_ble_eq_true rfl) rfl (k_fi ?_) (fun _ _ _ _ _ _ _ hx => no_x hx)
    refine r_if_eq (pc := 14) 44 dX11_next_2_14 rfl bz_g (fun h14 => ?_) (fun h14 => ?_)
    · exact bad (fun c => bz_0.mp h14 c.2.1) _ _ _ hω
    have q2 := bz_ne.mp h14
    refine r_iload_n (pc := 17) dX11_next_2_17 rfl rfl ?_
    refine r_iconst (pc := 18) dX11_next_2_18 ?_
    refine r_iconst (pc := 19) dX11_next_2_19 ?_
    refine r_callS3 (pc := 20) (M_isIn hw (by omega) (by omega) fe_i) im_X11_isIn q2095 dX11_next_2_20 (Nat.le_of_ble_eq_true rfl) (Nat.le_of_ble_eq_true rfl) rfl (k_fi ?_) (fun _ _ _ _ _ _ _ hx => no_x hx)
    refine r_if_eq (pc := 23) 44 dX11_next_2_23 rfl bz_g (fun h23 => ?_) (fun h23 => ?_)
    · exact bad (fun c => bz_0.mp h23 c.2.2.1) _ _ _ hω
    have q4 := bz_ne.mp h23
    refine r_aload_n (pc := 26) dX11_next_2_26 rfl rfl ?_
    refine r_getr (pc := 27) (c := 11) (k := 6) (kz := 6) hs.o cok_11 (Nat.le_of_ble_eq_true rfl) q1866 ⟨rfl, rfl⟩ (Or.inl rfl) rfl (fun _ _ _ => rfl) hs.p_s dX11_next_2_27 ?_
    refine r_bipush (pc := 30) dX11_next_2_30 (by decide +kernel) ?_
    refine r_iald (pc := 32) hs.t_s (by omega) (by omega) dX11_next_2_32 (fun hr32 => ?_)
    rw [ur_sv] at hr32 ⊢
    refine r_if_eq (pc := 33) 44 dX11_next_2_33 rfl (by omega) (fun h33 => ?_) (fun h33 => ?_)
    · exact bad (fun c => by have := c.2.2.2.1; omega) _ _ _ hω
    have o6 : 0 ≤ o ∧ o < 6 := by omega
    refine r_aload_n (pc := 36) dX11_next_2_36 rfl rfl ?_
    refine r_iload_n (pc := 37) dX11_next_2_37 rfl rfl ?_
    refine r_callV1 (pc := 38) (M_looksW (Q := fun v I' J' P' T' z' => J' = jW J m wy on ∧ P' = P ∧ T' = T ∧ z' = z ∧ v = some (iv (bz (okO σ o))) ∧ ∃ lf' κ' ω', I' = hW I m lf' κ' st ω' σ ∧ (∀ j, j ≠ 33 → j ≠ 34 → j ≠ 35 → ω' j = ω j) ∧ ((ky σ o).1 ≠ 0 → (ω' 33 = (ky σ o).2.1 ∧ 0 ≤ (ky σ o).2.1 ∧ (ky σ o).2.1 ≤ 6) ∧ (∀ i, 0 ≤ i → i < (ky σ o).2.1 → κ' i = (ky σ o).2.2 i ∧ (0 ≤ (ky σ o).2.2 i ∧ (ky σ o).2.2 i < 13) ∧ 0 < un σ o ((ky σ o).2.2 i)) ∧ (∀ k, 0 ≤ k → k < 13 → lf' k = un σ o k) ∧ ω' 35 = f_sl σ o ∧ ω' 34 = f_sl σ o + σ 7)) hs hcv (by omega) (fun lf' κ' ω' h1 h2 => ⟨rfl, rfl, rfl, rfl, rfl, lf', κ', ω', rfl, h1, h2⟩)) im_X11_looks qs89 q2257 hs.o rfl dX11_next_2_38 (Nat.le_of_ble_eq_true rfl) (Nat.le_of_ble_eq_true rfl) rfl (?_) (fun _ _ _ _ _ _ _ hx => no_x hx)
    intro v I' J' P' T' z' h
    obtain ⟨rfl, rfl, rfl, rfl, rfl, lf', κ', ω', rfl, hω', hL⟩ := h
    have hω2 : ∀ j, j ≠ 0 → j ≠ 33 → j ≠ 34 → j ≠ 35 → ω' j = I m j := fun j h1 h2 h3 h4 => by rw [hω' j h2 h3 h4]; exact hω j h1 h2 h3 h4
    show PW G mX11_next_2 (rmD (d + 3) 0 0) (MZ G Q nX 0 0) 0 0 (hW I m lf' κ' st ω' σ) (jW J m wy on) P' T' z' 41 [some (.ref m), some (iv o), some (iv k), some (iv w), none, none, none, none, none, none, none] [iv (bz (okO σ o)), .ref m]
    refine r_if_ne (pc := 41) 48 dX11_next_2_41 rfl bz_g (fun h41 => ?_) (fun h41 => ?_)
    · have q5 := bz_ne.mp h41
      obtain ⟨⟨e33, n0, n6⟩, hκ, hlf, e35, e34⟩ := hL q5.1
      have hL1 : ∀ i : Int, 0 ≤ i → i < (ky σ o).2.1.toNat → κ' i = (ky σ o).2.2 i ∧ (0 ≤ (ky σ o).2.2 i ∧ (ky σ o).2.2 i < 13) ∧ lf' ((ky σ o).2.2 i) = un σ o ((ky σ o).2.2 i) ∧ 0 ≤ un σ o ((ky σ o).2.2 i) ∧ un σ o ((ky σ o).2.2 i) ≤ 4 := fun i p p2 => by
        obtain ⟨a1, a2, a3⟩ := hκ i p (by omega)
        exact ⟨a1, a2, hlf _ a2.1 a2.2, by omega, un_4 hcv o6 a2⟩
      have hlen := LM_12 (o := o) (q0 := -1) (nt := -1) hcv q5.2
      have ta := TW_le (κ := (ky σ o).2.2) (u := fun i => un σ o ((ky σ o).2.2 i)) (n := (ky σ o).2.1.toNat) (by omega) (fun i p p2 => (hL1 i p p2).2.2.2.2) hlen
      have tn := tnx_r (k := k) (by omega) (fun i p p2 => (hL1 i p p2).2.2.2) hlen
      have eLM : LM σ o (-1) 0 (σ 1).toNat 0 = LM σ o (-1) (-1) (σ 1).toNat 0 := LM_nt (nt := 0) (nt' := -1) _ _ (by omega)
      change 0 ≤ tall σ o ∧ tall σ o ≤ _ at ta
      have hsl0 : 0 ≤ f_sl σ o := (sm_bd (f := fun q => if q = o then 0 else σ (229 + q)) (a := 0) (b := 52) (n := (σ 1).toNat) (fun q p p2 => by
        have := h52g.2.2.1 q p (by omega)
        split <;> omega)).1 |> fun h => by unfold f_sl; omega
      have h7 : σ 7 ≤ 52 := h52g.h7.2
      refine r_iconst (pc := 48) dX11_next_2_48 ?_
      rw [show (0 : Int) = bz False from rfl]
      refine r_callV1 (pc := 49) (M_throwsIf hs fe_i) im_X11_throwsIf qs80 q2177 hs.o rfl dX11_next_2_49 (Nat.le_of_ble_eq_true rfl) (Nat.le_of_ble_eq_true rfl) rfl (k_fi ?_) (fun _ _ _ _ _ _ _ hx => no_x hx)
      rw [ui_ur, show bz False = 0 from rfl]
      refine r_if_eq (pc := 52) 57 dX11_next_2_52 rfl (by omega) (fun h52 => ?_) (fun h52 => ?_)
      · refine r_aload_n (pc := 57) dX11_next_2_57 rfl rfl ?_
        refine r_iload_n (pc := 58) dX11_next_2_58 rfl rfl ?_
        refine r_iconst (pc := 59) dX11_next_2_59 ?_
        refine r_iconst (pc := 60) dX11_next_2_60 ?_
        refine r_callV3 (pc := 61) (M_waysOf (d := d + 1) (Q := fun v I' J' P'' T'' zz => P'' = P' ∧ T'' = T' ∧ zz = z' ∧ v = some (jv (tall σ o)) ∧ ∃ st' on' wy', I' = hW I m lf' κ' st' (us ω' 0 0) σ ∧ J' = jW J m wy' on' ∧ WY (ky σ o).2.2 s5 (fun _ => 5) (fun i => un σ o ((ky σ o).2.2 i)) (ky σ o).2.1.toNat (5 ^ (ky σ o).2.1.toNat) wy' (LM σ o (-1) (-1) (σ 1).toNat 0) ∧ (∀ i : Int, 0 ≤ i → i < (ky σ o).2.1.toNat → st' i = s5 i)) hs hcv (n := (ky σ o).2.1.toNat) (by omega) (by rw [us_n (by omega), e33]; omega) hL1 o6 (Or.inl ⟨rfl, rfl⟩) (by rw [eLM]; exact hlen) (fun st' on' wy' h1 h2 => ⟨rfl, rfl, rfl, by rw [eLM]; rfl, st', on', wy', rfl, rfl, by rw [eLM] at h1; exact h1, h2⟩)) im_X11_waysOf qs90 q2261 hs.o rfl dX11_next_2_61 (Nat.le_of_ble_eq_true rfl) (Nat.le_of_ble_eq_true rfl) rfl (?_) (fun _ _ _ _ _ _ _ hx => no_x hx)
        intro v I2 J2 P2 T2 z2 h
        obtain ⟨rfl, rfl, rfl, rfl, st', on', wy', rfl, rfl, hWY, hst⟩ := h
        have lr := lc_r (x := tall σ o) (y := 0)
        have le := lc_eq (x := tall σ o) (y := 0)
        have thr : tall σ o = 0 → PW G mX11_next_2 (rmD (d + 3) 0 0) (MZ G Q nX 0 0) 0 0 (hW I m lf' κ' st' (us ω' 0 0) σ) (jW J m wy' on') P2 T2 z2 85 [some (.ref m), some (iv o), some (iv k), some (iv w), some (jv (tall σ o)), none, none, none, none, none, none] [.ref m] := by
          intro c0
          have cg : ¬ gN σ o k w := fun c => by have := c.2.2.2.2.2; omega
          refine r_iconst (pc := 85) dX11_next_2_85 ?_
          rw [show (1 : Int) = bz True from rfl]
          refine r_goto (pc := 86) 90 dX11_next_2_86 rfl ?_
          refine r_callV1 (pc := 90) (M_throwsIf hs fe_i) im_X11_throwsIf qs80 q2177 hs.o rfl dX11_next_2_90 (Nat.le_of_ble_eq_true rfl) (Nat.le_of_ble_eq_true rfl) rfl (k_fi ?_) (fun _ _ _ _ _ _ _ hx => no_x hx)
          rw [ui_ur, show bz True = 1 from rfl]
          refine r_if_eq (pc := 93) 98 dX11_next_2_93 rfl (by omega) (fun h93 => ?_) (fun h93 => ?_)
          · exact absurd h93 (by decide)
          refine r_lconst (pc := 96) (x := 0) dX11_next_2_96 (by decide +kernel) ?_
          refine r_lreturn (pc := 97) rfl dX11_next_2_97 (Nat.le_of_ble_eq_true rfl) (Nat.le_of_ble_eq_true rfl) ?_
          have := hQ _ _ (MFr.hw (lf := lf') (κ := κ') (st := st') (ω := us (us ω' 0 0) 0 1) (wy := wy') (on := on') hσ (fun j h1 h2 h3 h4 => by rw [us_n h1, us_n h1]; exact hω2 j h1 h2 h3 h4)) (by rw [hW_0, us_s, bz_t cg])
          rw [if_neg cg] at this
          exact this
        show PW G mX11_next_2 (rmD (d + 3) 0 0) (MZ G Q nX 0 0) 0 0 (hW I m lf' κ' st' (us ω' 0 0) σ) (jW J m wy' on') P2 T2 z2 64 [some (.ref m), some (iv o), some (iv k), some (iv w), none, none, none, none, none, none, none] [jv (tall σ o)]
        refine r_lstore4 (pc := 64) (Nat.le_of_ble_eq_true rfl) dX11_next_2_64 rfl ?_
        refine r_aload_n (pc := 66) dX11_next_2_66 rfl rfl ?_
        refine r_lload (pc := 67) dX11_next_2_67 rfl ?_
        refine r_lconst (pc := 69) (x := 0) dX11_next_2_69 (by decide +kernel) ?_
        refine r_lcmp (pc := 70) dX11_next_2_70 (by omega) (by omega) ?_
        refine r_if_eq (pc := 71) 85 dX11_next_2_71 rfl (by omega) (fun h71 => ?_) (fun h71 => ?_)
        · exact thr (le.mp h71)
        have c0 : 0 < tall σ o := by
          have : tall σ o ≠ 0 := fun c => h71 (le.mpr c)
          omega
        have cg : gN σ o k w := ⟨q1, q2, q4, by omega, q5, c0⟩
        have e34' : hW I m lf' κ' st' (us ω' 0 0) σ m 34 = f_sl σ o + σ 7 := by unfold hW; rw [ur_n (by omega), ur_s, us_n (by omega), e34]
        have e35' : hW I m lf' κ' st' (us ω' 0 0) σ m 35 = f_sl σ o := by unfold hW; rw [ur_n (by omega), ur_s, us_n (by omega), e35]
        refine r_aload_n (pc := 74) dX11_next_2_74 rfl rfl ?_
        refine r_geti (pc := 75) (c := 11) (k := 34) (kz := 34) hs.o cok_11 (Nat.le_of_ble_eq_true rfl) q1894 ⟨rfl, rfl⟩ (Or.inl rfl) rfl (fun _ _ _ => rfl) dX11_next_2_75 (fun hr75 => ?_)
        rw [e34'] at hr75 ⊢
        refine r_aload_n (pc := 78) dX11_next_2_78 rfl rfl ?_
        refine r_geti (pc := 79) (c := 11) (k := 35) (kz := 35) hs.o cok_11 (Nat.le_of_ble_eq_true rfl) q1895 ⟨rfl, rfl⟩ (Or.inl rfl) rfl (fun _ _ _ => rfl) dX11_next_2_79 (fun hr79 => ?_)
        rw [e35'] at hr79 ⊢
        refine r_icmp_gt (pc := 82) 89 dX11_next_2_82 rfl (by omega) (by omega) (fun h82 => ?_) (fun h82 => ?_)
        · refine r_iconst (pc := 89) dX11_next_2_89 ?_
          rw [show (0 : Int) = bz False from rfl]
          refine r_callV1 (pc := 90) (M_throwsIf hs fe_i) im_X11_throwsIf qs80 q2177 hs.o rfl dX11_next_2_90 (Nat.le_of_ble_eq_true rfl) (Nat.le_of_ble_eq_true rfl) rfl (k_fi ?_) (fun _ _ _ _ _ _ _ hx => no_x hx)
          rw [ui_ur, show bz False = 0 from rfl]
          refine r_if_eq (pc := 93) 98 dX11_next_2_93 rfl (by omega) (fun h93 => ?_) (fun h93 => ?_)
          · have hQ := hQ _ _ (MFr.hw (lf := lf') (κ := κ') (st := st') (ω := us (us ω' 0 0) 0 0) (wy := wy') (on := on') hσ (fun j h1 h2 h3 h4 => by rw [us_n h1, us_n h1]; exact hω2 j h1 h2 h3 h4)) (by rw [hW_0, us_s, bz_f (fun c => c cg)])
            rw [if_pos cg] at hQ
            have htn : tnx σ o k = sm (fun i => if (ky σ o).2.2 i = k then TW (ky σ o).2.2 (ky σ o).2.1.toNat (LM σ o (-1) (-1) (σ 1).toNat 0) (fun v => v i) (fun i => un σ o ((ky σ o).2.2 i)) else 0) (ky σ o).2.1.toNat := rfl
            have e33' : ω' 33 = ((ky σ o).2.1.toNat : Int) := by omega
            have n6' : (ky σ o).2.1.toNat ≤ 6 := by omega
            obtain ⟨all, hall⟩ : ∃ all, all = tall σ o := ⟨_, rfl⟩
            rw [← hall] at hQ c0 ta ⊢
            have e33W : ∀ ω2, ω2 = us (us ω' 0 0) 0 0 → hW I m lf' κ' st' ω2 σ m 33 = ω' 33 := fun ω2 h => by unfold hW; rw [ur_n (by omega), ur_s, h, us_n (by omega), us_n (by omega)]
            have e33W := e33W _ rfl
            rw [e33'] at e33W
            generalize (ky σ o).2.1.toNat = n at hL1 hWY hst htn e33W n6'
            generalize (ky σ o).2.2 = κc at hL1 hWY htn
            generalize LM σ o (-1) (-1) (σ 1).toNat 0 = L at hWY htn
            have eκW : ∀ i : Int, 0 ≤ i → i < n → hW I m lf' κ' st' (us (us ω' 0 0) 0 0) σ (m + 11) i = κc i := fun i p p2 => by unfold hW; rw [ur_n (by omega), ur_n (by omega), ur_n (by omega), ur_s]; exact (hL1 i p p2).1
            have elW : ∀ i : Int, 0 ≤ i → i < n → hW I m lf' κ' st' (us (us ω' 0 0) 0 0) σ (m + 10) (κc i) = un σ o (κc i) := fun i p p2 => by unfold hW; rw [ur_n (by omega), ur_n (by omega), ur_n (by omega), ur_n (by omega), ur_s]; exact (hL1 i p p2).2.2.1
            have esW : ∀ i : Int, 0 ≤ i → i < n → hW I m lf' κ' st' (us (us ω' 0 0) 0 0) σ (m + 12) i = s5 i := fun i p p2 => by unfold hW; rw [ur_n (by omega), ur_n (by omega), ur_s]; exact hst i p p2
            have ewW : ∀ s, jW J m wy' on' (m + 13) s = wy' s := fun s => by unfold jW; rw [ur_s]
            have e34W : hW I m lf' κ' st' (us (us ω' 0 0) 0 0) σ m 34 = f_sl σ o + σ 7 := by unfold hW; rw [ur_n (by omega), ur_s, us_n (by omega), us_n (by omega), e34]
            have e35W : hW I m lf' κ' st' (us (us ω' 0 0) 0 0) σ m 35 = f_sl σ o := by unfold hW; rw [ur_n (by omega), ur_s, us_n (by omega), us_n (by omega), e35]
            show PW G mX11_next_2 (rmD (d + 3) 0 0) (MZ G Q nX 0 0) 0 0 (hW I m lf' κ' st' (us (us ω' 0 0) 0 0) σ) (jW J m wy' on') P2 T2 z2 98 [some (.ref m), some (iv o), some (iv k), some (iv w), some (jv all), none, none, none, none, none, none] []
            generalize hW I m lf' κ' st' (us (us ω' 0 0) 0 0) σ = I9 at *
            generalize jW J m wy' on' = J9 at *
            obtain ⟨g, hg⟩ : ∃ g : Int → Int, g = fun i => if κc i = k then TW κc n L (fun v => v i) (fun i => un σ o (κc i)) else 0 := ⟨_, rfl⟩
            rw [← hg] at htn
            have s5n := s5_r (i := (n : Int)) (by omega) (by omega)
            have hS5 : s5 n = ((5 ^ n : Nat) : Int) := by unfold s5; rw [show ((n : Int)).toNat = n by omega]; exact (Int.natCast_pow 5 n).symm
            generalize 5 ^ n = S at hWY hS5
            have outer : ∀ (q : Nat) (i : Int) (l10 : Option Value), 0 ≤ i → i + q = n → PW G mX11_next_2 (rmD (d + 3) 0 0) (MZ G Q nX 0 0) 0 0 I9 J9 P2 T2 z2 131 [some (.ref m), some (iv o), some (iv k), some (iv w), some (jv all), none, some (iv (s5 n)), some (jv (sm g i.toNat)), none, some (iv i), l10] [] := by
              intro q
              induction q with
              | zero =>
                intro i l10 i0 iq
                obtain rfl : i = n := by omega
                refine r_iload (pc := 131) dX11_next_2_131 rfl ?_
                refine r_aload_n (pc := 133) dX11_next_2_133 rfl rfl ?_
                refine r_geti (pc := 134) (c := 11) (k := 33) (kz := 33) hs.o cok_11 (Nat.le_of_ble_eq_true rfl) q1893 ⟨rfl, rfl⟩ (Or.inl rfl) rfl (fun _ _ _ => rfl) dX11_next_2_134 (fun hr134 => ?_)
                rw [e33W] at hr134 ⊢
                refine r_icmp_ge (pc := 137) 209 dX11_next_2_137 rfl (by omega) (by omega) (fun h137 => ?_) (fun h137 => ?_)
                · refine r_lload (pc := 209) dX11_next_2_209 rfl ?_
                  refine r_lload (pc := 211) dX11_next_2_211 rfl ?_
                  refine r_aload_n (pc := 213) dX11_next_2_213 rfl rfl ?_
                  refine r_geti (pc := 214) (c := 11) (k := 34) (kz := 34) hs.o cok_11 (Nat.le_of_ble_eq_true rfl) q1894 ⟨rfl, rfl⟩ (Or.inl rfl) rfl (fun _ _ _ => rfl) dX11_next_2_214 (fun hr214 => ?_)
                  rw [e34W] at hr214 ⊢
                  refine r_aload_n (pc := 217) dX11_next_2_217 rfl rfl ?_
                  refine r_geti (pc := 218) (c := 11) (k := 35) (kz := 35) hs.o cok_11 (Nat.le_of_ble_eq_true rfl) q1895 ⟨rfl, rfl⟩ (Or.inl rfl) rfl (fun _ _ _ => rfl) dX11_next_2_218 (fun hr218 => ?_)
                  rw [e35W] at hr218 ⊢
                  refine r_isub (pc := 221) dX11_next_2_221 ?_
                  rw [show f_sl σ o + σ 7 - f_sl σ o = σ 7 by omega, show ((n : Int)).toNat = n by omega, ← htn]
                  refine r_i2l (pc := 222) dX11_next_2_222 (by omega) ?_
                  refine r_lmul (pc := 223) dX11_next_2_223 ?_
                  refine r_iload_n (pc := 224) dX11_next_2_224 rfl rfl ?_
                  have m0 : 0 < all * σ 7 := Int.mul_pos c0 (by omega)
                  have m1 : all * σ 7 ≤ 36520347436056576 * 52 := Int.le_trans (Int.mul_le_mul_of_nonneg_right ta.2 (by omega)) (Int.mul_le_mul_of_nonneg_left (by omega) (by omega))
                  refine r_callS3 (pc := 225) (M_part (d := d + 1) (by omega) (by omega) hw fe_i) im_X11_part q2268 dX11_next_2_225 (Nat.le_of_ble_eq_true rfl) (Nat.le_of_ble_eq_true rfl) rfl (k_fj ?_) (fun _ _ _ _ _ _ _ hx => no_x hx)
                  refine r_lreturn (pc := 228) rfl dX11_next_2_228 (Nat.le_of_ble_eq_true rfl) (Nat.le_of_ble_eq_true rfl) ?_
                  exact hQ
                omega
              | succ q ih =>
                intro i l10 i0 iq
                obtain ⟨-, hκ, -, u0, u4⟩ := hL1 i i0 (by omega)
                have nxt : ∀ (v : Int) (l10 : Option Value), v = sm g (i + 1).toNat → PW G mX11_next_2 (rmD (d + 3) 0 0) (MZ G Q nX 0 0) 0 0 I9 J9 P2 T2 z2 203 [some (.ref m), some (iv o), some (iv k), some (iv w), some (jv all), none, some (iv (s5 n)), some (jv v), none, some (iv i), l10] [] := by
                  intro v l10 hv
                  subst hv
                  refine r_iinc9 (pc := 203) (Nat.le_of_ble_eq_true rfl) dX11_next_2_203 rfl ?_
                  refine r_goto (pc := 206) 131 dX11_next_2_206 rfl ?_
                  exact ih (i + 1) l10 (by omega) (by omega)
                have e1 := sm_succ (f := g) i0
                refine r_iload (pc := 131) dX11_next_2_131 rfl ?_
                refine r_aload_n (pc := 133) dX11_next_2_133 rfl rfl ?_
                refine r_geti (pc := 134) (c := 11) (k := 33) (kz := 33) hs.o cok_11 (Nat.le_of_ble_eq_true rfl) q1893 ⟨rfl, rfl⟩ (Or.inl rfl) rfl (fun _ _ _ => rfl) dX11_next_2_134 (fun hr134 => ?_)
                rw [e33W] at hr134 ⊢
                refine r_icmp_ge (pc := 137) 209 dX11_next_2_137 rfl (by omega) (by omega) (fun h137 => ?_) (fun h137 => ?_)
                · omega
                refine r_aload_n (pc := 140) dX11_next_2_140 rfl rfl ?_
                refine r_getr (pc := 141) (c := 11) (k := 29) (kz := 29) hs.o cok_11 (Nat.le_of_ble_eq_true rfl) q1889 ⟨rfl, rfl⟩ (Or.inl rfl) rfl (fun _ _ _ => rfl) hs.p_kindAt dX11_next_2_141 ?_
                refine r_iload (pc := 144) dX11_next_2_144 rfl ?_
                refine r_iald (pc := 146) hs.t_kindAt (by omega) (by omega) dX11_next_2_146 (fun hr146 => ?_)
                rw [eκW i i0 (by omega)] at hr146 ⊢
                refine r_iload_n (pc := 147) dX11_next_2_147 rfl rfl ?_
                refine r_icmp_eq (pc := 148) 154 dX11_next_2_148 rfl (by omega) (by omega) (fun h148 => ?_) (fun h148 => ?_)
                · obtain ⟨f, hf⟩ : ∃ f : Int → Int, f = fun s => wy' s * vs s5 (fun _ => 5) (fun i => un σ o (κc i)) s i := ⟨_, rfl⟩
                  have hfS : sm f S = g i := by
                    rw [hf, hg, hWY.2 (fun v => v i) (HC_i i0 (by omega))]
                    exact (if_pos h148).symm
                  obtain ⟨uk, huk⟩ : ∃ uk, uk = un σ o (κc i) := ⟨_, rfl⟩
                  have evs : ∀ s, f s = wy' s * (uk - s / s5 i % 5) := fun s => by rw [hf, huk]; rfl
                  have u0' : 0 ≤ uk := by rw [huk]; exact u0
                  have u4' : uk ≤ 4 := by rw [huk]; exact u4
                  have eu' : I9 (m + 10) k = uk := by rw [huk, ← h148]; exact elW i i0 (by omega)
                  have s5i := s5_r (i := i) i0 (by omega)
                  refine r_iconst (pc := 154) dX11_next_2_154 ?_
                  refine r_istore10 (pc := 155) (Nat.le_of_ble_eq_true rfl) dX11_next_2_155 rfl ?_
                  have inner : ∀ (r : Nat) (s : Int), 0 ≤ s → s + r = S → PW G mX11_next_2 (rmD (d + 3) 0 0) (MZ G Q nX 0 0) 0 0 I9 J9 P2 T2 z2 157 [some (.ref m), some (iv o), some (iv k), some (iv w), some (jv all), none, some (iv (s5 n)), some (jv (sm g i.toNat + sm f s.toNat)), none, some (iv i), some (iv s)] [] := by
                    intro r
                    induction r with
                    | zero =>
                      intro s s0 sq
                      obtain rfl : s = S := by omega
                      refine r_iload (pc := 157) dX11_next_2_157 rfl ?_
                      refine r_iload (pc := 159) dX11_next_2_159 rfl ?_
                      refine r_icmp_ge (pc := 161) 203 dX11_next_2_161 rfl (by omega) (by omega) (fun h161 => ?_) (fun h161 => ?_)
                      · refine nxt _ _ ?_
                        rw [show ((S : Int)).toNat = S by omega, hfS, e1]
                      omega
                    | succ r ihq =>
                      intro s s0 sq
                      have hd0 := Int.emod_nonneg (s / s5 i) (show (5 : Int) ≠ 0 by omega)
                      have hd1 := Int.emod_lt_of_pos (s / s5 i) (show (0 : Int) < 5 by omega)
                      have e2 := sm_succ (f := f) s0
                      refine r_iload (pc := 157) dX11_next_2_157 rfl ?_
                      refine r_iload (pc := 159) dX11_next_2_159 rfl ?_
                      refine r_icmp_ge (pc := 161) 203 dX11_next_2_161 rfl (by omega) (by omega) (fun h161 => ?_) (fun h161 => ?_)
                      · omega
                      refine r_lload (pc := 164) dX11_next_2_164 rfl ?_
                      refine r_aload_n (pc := 166) dX11_next_2_166 rfl rfl ?_
                      refine r_getr (pc := 167) (c := 11) (k := 31) (kz := 31) hs.o cok_11 (Nat.le_of_ble_eq_true rfl) q1891 ⟨rfl, rfl⟩ (Or.inl rfl) rfl (fun _ _ _ => rfl) hs.p_ways dX11_next_2_167 ?_
                      refine r_iload (pc := 170) dX11_next_2_170 rfl ?_
                      refine r_lald (pc := 172) hs.t_ways (by omega) (by omega) dX11_next_2_172 (fun hr172 => ?_)
                      rw [ewW] at hr172 ⊢
                      refine r_aload_n (pc := 173) dX11_next_2_173 rfl rfl ?_
                      refine r_getr (pc := 174) (c := 11) (k := 28) (kz := 28) hs.o cok_11 (Nat.le_of_ble_eq_true rfl) q1888 ⟨rfl, rfl⟩ (Or.inl rfl) rfl (fun _ _ _ => rfl) hs.p_left dX11_next_2_174 ?_
                      refine r_iload_n (pc := 177) dX11_next_2_177 rfl rfl ?_
                      refine r_iald (pc := 178) hs.t_left (by omega) (by omega) dX11_next_2_178 (fun hr178 => ?_)
                      rw [eu'] at hr178 ⊢
                      refine r_iload (pc := 179) dX11_next_2_179 rfl ?_
                      refine r_aload_n (pc := 181) dX11_next_2_181 rfl rfl ?_
                      refine r_getr (pc := 182) (c := 11) (k := 30) (kz := 30) hs.o cok_11 (Nat.le_of_ble_eq_true rfl) q1890 ⟨rfl, rfl⟩ (Or.inl rfl) rfl (fun _ _ _ => rfl) hs.p_step dX11_next_2_182 ?_
                      refine r_iload (pc := 185) dX11_next_2_185 rfl ?_
                      refine r_iald (pc := 187) hs.t_step (by omega) (by omega) dX11_next_2_187 (fun hr187 => ?_)
                      rw [esW i i0 (by omega)] at hr187 ⊢
                      refine r_callS2 (pc := 188) (M_digit (by omega) (by omega) fe_i) im_X11_digit q2265 dX11_next_2_188 (Nat.le_of_ble_eq_true rfl) (Nat.le_of_ble_eq_true rfl) rfl (k_fi ?_) (fun _ _ _ _ _ _ _ hx => no_x hx)
                      refine r_isub (pc := 191) dX11_next_2_191 ?_
                      refine r_i2l (pc := 192) dX11_next_2_192 (by omega) ?_
                      refine r_lmul (pc := 193) dX11_next_2_193 ?_
                      refine r_ladd (pc := 194) dX11_next_2_194 ?_
                      rw [← evs, Int.add_assoc, e2]
                      refine r_lstore7 (pc := 195) (Nat.le_of_ble_eq_true rfl) dX11_next_2_195 rfl ?_
                      refine r_iinc10 (pc := 197) (Nat.le_of_ble_eq_true rfl) dX11_next_2_197 rfl ?_
                      refine r_goto (pc := 200) 157 dX11_next_2_200 rfl ?_
                      exact ihq (s + 1) (by omega) (by omega)
                  have hi := inner S 0 (by omega) (by omega)
                  rw [show sm f (0 : Int).toNat = 0 from rfl, Int.add_zero] at hi
                  exact hi
                refine r_goto (pc := 151) 203 dX11_next_2_151 rfl ?_
                refine nxt _ _ ?_
                rw [← e1, hg]
                show _ = _ + (if κc i = k then _ else 0)
                rw [if_neg h148, Int.add_zero]
            have codes : ∀ (q : Nat) (i : Int), 0 ≤ i → i + q = n → PW G mX11_next_2 (rmD (d + 3) 0 0) (MZ G Q nX 0 0) 0 0 I9 J9 P2 T2 z2 104 [some (.ref m), some (iv o), some (iv k), some (iv w), some (jv all), none, some (iv (s5 i)), some (iv i), none, none, none] [] := by
              intro q
              induction q with
              | zero =>
                intro i i0 iq
                obtain rfl : i = n := by omega
                refine r_iload (pc := 104) dX11_next_2_104 rfl ?_
                refine r_aload_n (pc := 106) dX11_next_2_106 rfl rfl ?_
                refine r_geti (pc := 107) (c := 11) (k := 33) (kz := 33) hs.o cok_11 (Nat.le_of_ble_eq_true rfl) q1893 ⟨rfl, rfl⟩ (Or.inl rfl) rfl (fun _ _ _ => rfl) dX11_next_2_107 (fun hr107 => ?_)
                rw [e33W] at hr107 ⊢
                refine r_icmp_ge (pc := 110) 125 dX11_next_2_110 rfl (by omega) (by omega) (fun h110 => ?_) (fun h110 => ?_)
                · refine r_lconst (pc := 125) (x := 0) dX11_next_2_125 (by decide +kernel) ?_
                  refine r_lstore7 (pc := 126) (Nat.le_of_ble_eq_true rfl) dX11_next_2_126 rfl ?_
                  refine r_iconst (pc := 128) dX11_next_2_128 ?_
                  refine r_istore9 (pc := 129) (Nat.le_of_ble_eq_true rfl) dX11_next_2_129 rfl ?_
                  exact outer n 0 _ (by omega) (by omega)
                omega
              | succ q ih =>
                intro i i0 iq
                refine r_iload (pc := 104) dX11_next_2_104 rfl ?_
                refine r_aload_n (pc := 106) dX11_next_2_106 rfl rfl ?_
                refine r_geti (pc := 107) (c := 11) (k := 33) (kz := 33) hs.o cok_11 (Nat.le_of_ble_eq_true rfl) q1893 ⟨rfl, rfl⟩ (Or.inl rfl) rfl (fun _ _ _ => rfl) dX11_next_2_107 (fun hr107 => ?_)
                rw [e33W] at hr107 ⊢
                refine r_icmp_ge (pc := 110) 125 dX11_next_2_110 rfl (by omega) (by omega) (fun h110 => ?_) (fun h110 => ?_)
                · omega
                refine r_iload (pc := 113) dX11_next_2_113 rfl ?_
                refine r_iconst (pc := 115) dX11_next_2_115 ?_
                refine r_imul (pc := 116) dX11_next_2_116 ?_
                rw [← s5_s i0]
                refine r_istore6 (pc := 117) (Nat.le_of_ble_eq_true rfl) dX11_next_2_117 rfl ?_
                refine r_iinc7 (pc := 119) (Nat.le_of_ble_eq_true rfl) dX11_next_2_119 rfl ?_
                refine r_goto (pc := 122) 104 dX11_next_2_122 rfl ?_
                exact ih (i + 1) (by omega) (by omega)
            refine r_iconst (pc := 98) dX11_next_2_98 ?_
            refine r_istore6 (pc := 99) (Nat.le_of_ble_eq_true rfl) dX11_next_2_99 rfl ?_
            refine r_iconst (pc := 101) dX11_next_2_101 ?_
            refine r_istore7 (pc := 102) (Nat.le_of_ble_eq_true rfl) dX11_next_2_102 rfl ?_
            exact codes n 0 (by omega) (by omega)
          exact absurd rfl h93
        omega
      exact absurd rfl h52
    exact bad (fun c => bz_0.mp h41 c.2.2.2.2.1) _ _ _ hω2
  have h9 := key (I (m + 10)) (I (m + 11)) (I (m + 12)) (I m) (J (m + 13)) (J (m + 14)) (fun j _ _ _ _ => rfl)
  rw [hW_id hσ, jW_id] at h9
  exact h9
end O3
