/-! ===== the model: whom ===== -/
section O4
variable {G : GE} {I J I' J' : HI} {P : HP} {T : HT} {z : Nat} {m d : Nat} {Q : QT} {σ ω lf κ κc u st on wy : Int → Int}
theorem hW_2 {j : Int} : hW I m lf κ st ω σ (m + 2) j = σ j := by
  unfold hW
  rw [ur_s]
abbrev gW (σ : Int → Int) (o : Int) : Prop := isP σ o ∧ f_cards σ o ≠ 0 ∧ okO σ o ∧ 0 < tall σ o
def f_whom (σ : Int → Int) (o : Int) : Int := if gW σ o then (f_wq σ (twt σ o) o (σ 1).toNat 0 (-1, -1)).2 else -1
theorem M_whom (hs : shM G P T m) (hcv : CV σ) (hσ : I (m + 2) = σ) {o : Int} (ho : rg o)
    (hQ : ∀ I' J', MFr m I J I' J' → I' m 0 = 0 → Q (some (iv (f_whom σ o))) I' J' P T z) : MC G yX11_whom (ws_ yX11_whom cX11_whom 11 (some FieldType.int)) (d + 3) 0 0 [.ref m, iv o] I J P T z Q nX := by
  have hb := hs.b
  have ht := hcv.ta
  have hhp := hcv.hp.1
  refine MC.of (by decide) (Nat.le_of_ble_eq_true rfl) ?_
  show PW G mX11_whom (rmD (d + 3) 0 0) (MZ G Q nX 0 0) 0 0 I J P T z 0 [some (.ref m), some (iv o), none, none, none, none, none, none, none, none, none] []
  have key : ∀ lf κ st ω wy on, (∀ j, j ≠ 0 → j ≠ 33 → j ≠ 34 → j ≠ 35 → ω j = I m j) → PW G mX11_whom (rmD (d + 3) 0 0) (MZ G Q nX 0 0) 0 0 (hW I m lf κ st ω σ) (jW J m wy on) P T z 0 [some (.ref m), some (iv o), none, none, none, none, none, none, none, none, none] [] := by
    intro lf κ st ω wy on hω
    have bad : ¬ gW σ o → ∀ lf κ ω, (∀ j, j ≠ 0 → j ≠ 33 → j ≠ 34 → j ≠ 35 → ω j = I m j) → ω 0 = 0 → PW G mX11_whom (rmD (d + 3) 0 0) (MZ G Q nX 0 0) 0 0 (hW I m lf κ st ω σ) (jW J m wy on) P T z 29 [some (.ref m), some (iv o), none, none, none, none, none, none, none, none, none] [] := by
      intro c lf κ ω hω h0
      refine r_iconst (pc := 29) dX11_whom_29 ?_
      refine r_ireturn (pc := 30) rfl rfl dX11_whom_30 (Nat.le_of_ble_eq_true rfl) (Nat.le_of_ble_eq_true rfl) ?_
      have := hQ _ _ (MFr.hw (lf := lf) (κ := κ) (st := st) (ω := ω) (wy := wy) (on := on) hσ hω) (by rw [hW_0, h0])
      unfold f_whom at this
      rw [if_neg c] at this
      exact this
    have hω1 : ∀ j, j ≠ 0 → j ≠ 33 → j ≠ 34 → j ≠ 35 → us ω 0 0 j = I m j := fun j h1 h2 h3 h4 => by rw [us_n h1]; exact hω j h1 h2 h3 h4
    have eput : ui (hW I m lf κ st ω σ) m 0 0 = hW I m lf κ st (us ω 0 0) σ := by
      unfold hW
      rw [ui_ur_n (by omega), ui_ur]
    refine r_aload_n (pc := 0) dX11_whom_0 rfl rfl ?_
    refine r_iconst (pc := 1) dX11_whom_1 ?_
    refine r_puti (pc := 2) (c := 11) (k := 0) (kz := 0) hs.o cok_11 (Nat.le_of_ble_eq_true rfl) q1860 ⟨rfl, rfl⟩ (Or.inl rfl) rfl (by omega) rfl rfl (by omega) (fun _ _ _ => rfl) ⟨rfl, rfl⟩ dX11_whom_2 ?_
    rw [eput]
    refine r_aload_n (pc := 5) dX11_whom_5 rfl rfl ?_
    refine r_iload_n (pc := 6) dX11_whom_6 rfl rfl ?_
    refine r_callV1 (pc := 7) (M_isPerson hs ho (by omega) fe_i) im_X11_isPerson qs78 q2169 hs.o rfl dX11_whom_7 (Nat.le_of_ble_eq_true rfl) (Nat.le_of_ble_eq_true rfl) rfl (k_fi ?_) (fun _ _ _ _ _ _ _ hx => no_x hx)
    refine r_if_eq (pc := 10) 29 dX11_whom_10 rfl bz_g (fun h10 => ?_) (fun h10 => ?_)
    · exact bad (fun c => bz_0.mp h10 c.1) _ _ _ hω1 us_s
    have q1 := bz_ne.mp h10
    have o6 : 0 ≤ o ∧ o < 6 := by omega
    have c9 := hcv.cd o6.1 o6.2
    refine r_aload_n (pc := 13) dX11_whom_13 rfl rfl ?_
    refine r_iload_n (pc := 14) dX11_whom_14 rfl rfl ?_
    refine r_callV1 (pc := 15) (M_cards hs o6 fe_i) im_X11_cards qs70 q2126 hs.o rfl dX11_whom_15 (Nat.le_of_ble_eq_true rfl) (Nat.le_of_ble_eq_true rfl) rfl (k_fi ?_) (fun _ _ _ _ _ _ _ hx => no_x hx)
    refine r_if_eq (pc := 18) 29 dX11_whom_18 rfl (by omega) (fun h18 => ?_) (fun h18 => ?_)
    · exact bad (fun c => c.2.1 h18) _ _ _ hω1 us_s
    refine r_aload_n (pc := 21) dX11_whom_21 rfl rfl ?_
    refine r_iload_n (pc := 22) dX11_whom_22 rfl rfl ?_
    refine r_callV1 (pc := 23) (M_looksW (Q := fun v I' J' P' T' z' => J' = jW J m wy on ∧ P' = P ∧ T' = T ∧ z' = z ∧ v = some (iv (bz (okO σ o))) ∧ ∃ lf' κ' ω', I' = hW I m lf' κ' st ω' σ ∧ (∀ j, j ≠ 33 → j ≠ 34 → j ≠ 35 → ω' j = us ω 0 0 j) ∧ ((ky σ o).1 ≠ 0 → (ω' 33 = (ky σ o).2.1 ∧ 0 ≤ (ky σ o).2.1 ∧ (ky σ o).2.1 ≤ 6) ∧ (∀ i, 0 ≤ i → i < (ky σ o).2.1 → κ' i = (ky σ o).2.2 i ∧ (0 ≤ (ky σ o).2.2 i ∧ (ky σ o).2.2 i < 13) ∧ 0 < un σ o ((ky σ o).2.2 i)) ∧ (∀ k, 0 ≤ k → k < 13 → lf' k = un σ o k) ∧ ω' 35 = f_sl σ o ∧ ω' 34 = f_sl σ o + σ 7)) hs hcv (by omega) (fun lf' κ' ω' h1 h2 => ⟨rfl, rfl, rfl, rfl, rfl, lf', κ', ω', rfl, h1, h2⟩)) im_X11_looks qs89 q2257 hs.o rfl dX11_whom_23 (Nat.le_of_ble_eq_true rfl) (Nat.le_of_ble_eq_true rfl) rfl (?_) (fun _ _ _ _ _ _ _ hx => no_x hx)
    intro v I' J' P' T' z' h
    obtain ⟨rfl, rfl, rfl, rfl, rfl, lf', κ', ω', rfl, hω', hL⟩ := h
    have hω2 : ∀ j, j ≠ 0 → j ≠ 33 → j ≠ 34 → j ≠ 35 → ω' j = I m j := fun j h1 h2 h3 h4 => by rw [hω' j h2 h3 h4]; exact hω1 j h1 h2 h3 h4
    have h00 : ω' 0 = 0 := by rw [hω' 0 (by omega) (by omega) (by omega)]; exact us_s
    show PW G mX11_whom (rmD (d + 3) 0 0) (MZ G Q nX 0 0) 0 0 (hW I m lf' κ' st ω' σ) (jW J m wy on) P' T' z' 26 [some (.ref m), some (iv o), none, none, none, none, none, none, none, none, none] [iv (bz (okO σ o))]
    refine r_if_ne (pc := 26) 31 dX11_whom_26 rfl bz_g (fun h26 => ?_) (fun h26 => ?_)
    · have q5 := bz_ne.mp h26
      obtain ⟨⟨e33, n0, n6⟩, hκ, hlf, -, -⟩ := hL q5.1
      have hL1 : ∀ i : Int, 0 ≤ i → i < (ky σ o).2.1.toNat → κ' i = (ky σ o).2.2 i ∧ (0 ≤ (ky σ o).2.2 i ∧ (ky σ o).2.2 i < 13) ∧ lf' ((ky σ o).2.2 i) = un σ o ((ky σ o).2.2 i) ∧ 0 ≤ un σ o ((ky σ o).2.2 i) ∧ un σ o ((ky σ o).2.2 i) ≤ 4 := fun i p p2 => by
        obtain ⟨a1, a2, a3⟩ := hκ i p (by omega)
        exact ⟨a1, a2, hlf _ a2.1 a2.2, by omega, un_4 hcv o6 a2⟩
      have ta := TW_le (κ := (ky σ o).2.2) (u := fun i => un σ o ((ky σ o).2.2 i)) (n := (ky σ o).2.1.toNat) (by omega) (fun i p p2 => (hL1 i p p2).2.2.2.2) (LM_12 (o := o) (q0 := -1) (nt := -1) hcv q5.2)
      have tw : ∀ q k, 0 ≤ twt σ o q k ∧ twt σ o q k ≤ tall σ o := fun q k => f_wt_r (κ := (ky σ o).2.2) (u := fun i => un σ o ((ky σ o).2.2 i)) (q := q) (k := k) hcv (n := (ky σ o).2.1.toNat) (by omega) (fun i p p2 => (hL1 i p p2).2.2.2.2) q5.2
      have eall : TW (ky σ o).2.2 (ky σ o).2.1.toNat (LM σ o (-1) 0 (σ 1).toNat 0) (fun _ => 1) (fun i => un σ o ((ky σ o).2.2 i)) = tall σ o := by rw [LM_nt (nt := 0) (nt' := -1) _ _ (by omega)]; rfl
      change 0 ≤ tall σ o ∧ tall σ o ≤ _ at ta
      refine r_aload_n (pc := 31) dX11_whom_31 rfl rfl ?_
      refine r_iload_n (pc := 32) dX11_whom_32 rfl rfl ?_
      refine r_iconst (pc := 33) dX11_whom_33 ?_
      refine r_iconst (pc := 34) dX11_whom_34 ?_
      refine r_callV3 (pc := 35) (M_waysOf (d := d + 1) (Q := fun v I' J' P'' T'' zz => P'' = P' ∧ T'' = T' ∧ zz = z' ∧ v = some (jv (tall σ o)) ∧ ∃ st' on' wy', I' = hW I m lf' κ' st' ω' σ ∧ J' = jW J m wy' on') hs hcv (n := (ky σ o).2.1.toNat) (by omega) (by rw [e33]; omega) hL1 o6 (Or.inl ⟨rfl, rfl⟩) (LM_12 hcv q5.2) (fun st' on' wy' _ _ => ⟨rfl, rfl, rfl, by rw [eall], st', on', wy', rfl, rfl⟩)) im_X11_waysOf qs90 q2261 hs.o rfl dX11_whom_35 (Nat.le_of_ble_eq_true rfl) (Nat.le_of_ble_eq_true rfl) rfl (?_) (fun _ _ _ _ _ _ _ hx => no_x hx)
      intro v I2 J2 P2 T2 z2 h
      obtain ⟨rfl, rfl, rfl, rfl, st', on', wy', rfl, rfl⟩ := h
      have lr := lc_r (x := tall σ o) (y := 0)
      have le := lc_eq (x := tall σ o) (y := 0)
      show PW G mX11_whom (rmD (d + 3) 0 0) (MZ G Q nX 0 0) 0 0 (hW I m lf' κ' st' ω' σ) (jW J m wy' on') P2 T2 z2 38 [some (.ref m), some (iv o), none, none, none, none, none, none, none, none, none] [jv (tall σ o)]
      refine r_lstore_n2 (pc := 38) (Nat.le_of_ble_eq_true rfl) dX11_whom_38 rfl ?_
      refine r_lload_n (pc := 39) dX11_whom_39 rfl rfl ?_
      refine r_lconst (pc := 40) (x := 0) dX11_whom_40 (by decide +kernel) ?_
      refine r_lcmp (pc := 41) dX11_whom_41 (by omega) (by omega) ?_
      refine r_if_ne (pc := 42) 47 dX11_whom_42 rfl (by omega) (fun h42 => ?_) (fun h42 => ?_)
      · have c0 : 0 < tall σ o := by
          have : tall σ o ≠ 0 := fun c => h42 (le.mpr c)
          omega
        have fin : ∀ st on wy, Q (some (iv (f_wq σ (twt σ o) o (σ 1).toNat 0 (-1, -1)).2)) (hW I m lf' κ' st ω' σ) (jW J m wy on) P2 T2 z2 := fun st on wy => by
          have := hQ _ _ (MFr.hw (lf := lf') (κ := κ') (st := st) (ω := ω') (wy := wy) (on := on) hσ hω2) (by rw [hW_0, h00])
          unfold f_whom at this
          rw [if_pos ⟨q1, h18, q5, c0⟩] at this
          exact this
        generalize hall : tall σ o = all at ta tw c0
        refine r_ldc2 (pc := 47) (x := -1) q2282 dX11_whom_47 (by decide +kernel) ?_
        refine r_lstore4 (pc := 50) (Nat.le_of_ble_eq_true rfl) dX11_whom_50 rfl ?_
        refine r_iconst (pc := 52) dX11_whom_52 ?_
        refine r_istore6 (pc := 53) (Nat.le_of_ble_eq_true rfl) dX11_whom_53 rfl ?_
        refine r_iconst (pc := 55) dX11_whom_55 ?_
        refine r_istore7 (pc := 56) (Nat.le_of_ble_eq_true rfl) dX11_whom_56 rfl ?_
        obtain ⟨R, hR⟩ : ∃ R, R = f_wq σ (twt σ o) o (σ 1).toNat 0 (-1, -1) := ⟨_, rfl⟩
        rw [← hR] at fin
        have loop : ∀ (c : Nat) (q : Int) (st on wy : Int → Int) (mo be : Int) (l8 l9 l10 : Option Value), 0 ≤ q → q + c = σ 1 → (-1 ≤ mo ∧ mo ≤ 36520347436056576) → R = f_wq σ (twt σ o) o c q (mo, be) → PW G mX11_whom (rmD (d + 3) 0 0) (MZ G Q nX 0 0) 0 0 (hW I m lf' κ' st ω' σ) (jW J m wy on) P2 T2 z2 58 [some (.ref m), some (iv o), some (jv all), none, some (jv mo), none, some (iv be), some (iv q), l8, l9, l10] [] := by
          intro c
          induction c with
          | zero =>
            intro q st on wy mo be l8 l9 l10 h0 hm h3 h4
            refine r_iload (pc := 58) dX11_whom_58 rfl ?_
            refine r_aload_n (pc := 60) dX11_whom_60 rfl rfl ?_
            refine r_getr (pc := 61) (c := 11) (k := 6) (kz := 6) hs.o cok_11 (Nat.le_of_ble_eq_true rfl) q1866 ⟨rfl, rfl⟩ (Or.inl rfl) rfl (fun _ _ _ => rfl) hs.p_s dX11_whom_61 ?_
            refine r_iconst (pc := 64) dX11_whom_64 ?_
            refine r_iald (pc := 65) hs.t_s (by omega) (by omega) dX11_whom_65 (fun hr65 => ?_)
            rw [hW_2] at hr65 ⊢
            refine r_icmp_ge (pc := 66) 177 dX11_whom_66 rfl (by omega) (by omega) (fun h66 => ?_) (fun h66 => ?_)
            · refine r_iload (pc := 177) dX11_whom_177 rfl ?_
              refine r_ireturn (pc := 179) rfl rfl dX11_whom_179 (Nat.le_of_ble_eq_true rfl) (Nat.le_of_ble_eq_true rfl) ?_
              have f9 := fin st on wy
              rw [h4] at f9
              exact f9
            omega
          | succ c ih =>
            intro q st on wy mo be l8 l9 l10 h0 hm h3 h4
            refine r_iload (pc := 58) dX11_whom_58 rfl ?_
            refine r_aload_n (pc := 60) dX11_whom_60 rfl rfl ?_
            refine r_getr (pc := 61) (c := 11) (k := 6) (kz := 6) hs.o cok_11 (Nat.le_of_ble_eq_true rfl) q1866 ⟨rfl, rfl⟩ (Or.inl rfl) rfl (fun _ _ _ => rfl) hs.p_s dX11_whom_61 ?_
            refine r_iconst (pc := 64) dX11_whom_64 ?_
            refine r_iald (pc := 65) hs.t_s (by omega) (by omega) dX11_whom_65 (fun hr65 => ?_)
            rw [hW_2] at hr65 ⊢
            refine r_icmp_ge (pc := 66) 177 dX11_whom_66 rfl (by omega) (by omega) (fun h66 => ?_) (fun h66 => ?_)
            · omega
            refine r_iconst (pc := 69) dX11_whom_69 ?_
            refine r_istore8 (pc := 70) (Nat.le_of_ble_eq_true rfl) dX11_whom_70 rfl ?_
            have inner : ∀ (w : Nat) (k : Int) (st on wy : Int → Int) (mo be : Int) (l9 l10 : Option Value), 0 ≤ k → k + w = σ 0 → (-1 ≤ mo ∧ mo ≤ 36520347436056576) → R = f_wq σ (twt σ o) o c (q + 1) (f_wk σ (twt σ o q) o q w k (mo, be)) → PW G mX11_whom (rmD (d + 3) 0 0) (MZ G Q nX 0 0) 0 0 (hW I m lf' κ' st ω' σ) (jW J m wy on) P2 T2 z2 72 [some (.ref m), some (iv o), some (jv all), none, some (jv mo), none, some (iv be), some (iv q), some (iv k), l9, l10] [] := by
              intro w
              induction w with
              | zero =>
                intro k st on wy mo be l9 l10 k0 kw h3 h4
                refine r_iload (pc := 72) dX11_whom_72 rfl ?_
                refine r_aload_n (pc := 74) dX11_whom_74 rfl rfl ?_
                refine r_getr (pc := 75) (c := 11) (k := 6) (kz := 6) hs.o cok_11 (Nat.le_of_ble_eq_true rfl) q1866 ⟨rfl, rfl⟩ (Or.inl rfl) rfl (fun _ _ _ => rfl) hs.p_s dX11_whom_75 ?_
                refine r_iconst (pc := 78) dX11_whom_78 ?_
                refine r_iald (pc := 79) hs.t_s (by omega) (by omega) dX11_whom_79 (fun hr79 => ?_)
                rw [hW_2] at hr79 ⊢
                refine r_icmp_ge (pc := 80) 171 dX11_whom_80 rfl (by omega) (by omega) (fun h80 => ?_) (fun h80 => ?_)
                · refine r_iinc7 (pc := 171) (Nat.le_of_ble_eq_true rfl) dX11_whom_171 rfl ?_
                  refine r_goto (pc := 174) 58 dX11_whom_174 rfl ?_
                  exact ih (q + 1) st on wy mo be _ _ _ (by omega) (by omega) h3 h4
                omega
              | succ w ihw =>
                intro k st on wy mo be l9 l10 k0 kw h3 h4
                have skip : ∀ (st on wy : Int → Int) (mo be : Int) (l9 l10 : Option Value), (-1 ≤ mo ∧ mo ≤ 36520347436056576) → R = f_wq σ (twt σ o) o c (q + 1) (f_wk σ (twt σ o q) o q w (k + 1) (mo, be)) → PW G mX11_whom (rmD (d + 3) 0 0) (MZ G Q nX 0 0) 0 0 (hW I m lf' κ' st ω' σ) (jW J m wy on) P2 T2 z2 165 [some (.ref m), some (iv o), some (jv all), none, some (jv mo), none, some (iv be), some (iv q), some (iv k), l9, l10] [] := by
                  intro st on wy mo be l9 l10 h3 h4
                  refine r_iinc8 (pc := 165) (Nat.le_of_ble_eq_true rfl) dX11_whom_165 rfl ?_
                  refine r_goto (pc := 168) 72 dX11_whom_168 rfl ?_
                  exact ihw (k + 1) st on wy mo be l9 l10 (by omega) (by omega) h3 h4
                have nx : (q = o ∨ σ (60 + 13 * o + k) = 0) → ∀ l9 l10 : Option Value, PW G mX11_whom (rmD (d + 3) 0 0) (MZ G Q nX 0 0) 0 0 (hW I m lf' κ' st ω' σ) (jW J m wy on) P2 T2 z2 165 [some (.ref m), some (iv o), some (jv all), none, some (jv mo), none, some (iv be), some (iv q), some (iv k), l9, l10] [] := by
                  intro c l9 l10
                  refine skip st on wy mo be l9 l10 h3 ?_
                  rw [h4]
                  conv => lhs; unfold f_wk
                  rw [if_pos c]
                have wrk := tw q k
                have st9 : ¬ (q = o ∨ σ (60 + 13 * o + k) = 0) → ∀ (st on wy : Int → Int) (l9 l10 : Option Value), PW G mX11_whom (rmD (d + 3) 0 0) (MZ G Q nX 0 0) 0 0 (hW I m lf' κ' st ω' σ) (jW J m wy on) P2 T2 z2 138 [some (.ref m), some (iv o), some (jv all), none, some (jv mo), none, some (iv be), some (iv q), some (iv k), l9, l10] [jv (twt σ o q k)] := by
                  intro c st on wy l9 l10
                  generalize hv : twt σ o q k = vv at wrk
                  have lr2 := lc_r (x := vv) (y := mo)
                  have lg2 := lc_gt (x := vv) (y := mo)
                  refine r_lstore9 (pc := 138) (Nat.le_of_ble_eq_true rfl) dX11_whom_138 rfl ?_
                  refine r_lload (pc := 140) dX11_whom_140 rfl ?_
                  refine r_lload (pc := 142) dX11_whom_142 rfl ?_
                  refine r_lcmp (pc := 144) dX11_whom_144 (by omega) (by omega) ?_
                  refine r_if_gt (pc := 145) 151 dX11_whom_145 rfl (by omega) (fun h145 => ?_) (fun h145 => ?_)
                  · have c2 := lg2.mp h145
                    refine r_lload (pc := 151) dX11_whom_151 rfl ?_
                    refine r_lstore4 (pc := 153) (Nat.le_of_ble_eq_true rfl) dX11_whom_153 rfl ?_
                    refine r_bipush (pc := 155) dX11_whom_155 (by decide +kernel) ?_
                    refine r_iload (pc := 157) dX11_whom_157 rfl ?_
                    refine r_imul (pc := 159) dX11_whom_159 ?_
                    refine r_iload (pc := 160) dX11_whom_160 rfl ?_
                    refine r_iadd (pc := 162) dX11_whom_162 ?_
                    refine r_istore6 (pc := 163) (Nat.le_of_ble_eq_true rfl) dX11_whom_163 rfl ?_
                    refine skip st on wy vv (100 * q + k) _ _ (by omega) ?_
                    rw [h4]
                    conv => lhs; unfold f_wk
                    rw [if_neg c, if_neg (by rw [hv]; show ¬ vv ≤ mo; omega), hv]
                  refine r_goto (pc := 148) 165 dX11_whom_148 rfl ?_
                  refine skip st on wy mo be _ _ h3 ?_
                  rw [h4]
                  conv => lhs; unfold f_wk
                  rw [if_neg c, if_pos (by rw [hv]; show vv ≤ mo; have := lg2; omega)]
                have k13 := hcv.kn (p := q) (k := k) h0 (by omega) k0 (by omega)
                have h4a := hcv.h4 (p := q) (k := k) h0 (by omega) k0 (by omega)
                have h4b := hcv.h4 (p := o) (k := k) o6.1 o6.2 k0 (by omega)
                refine r_iload (pc := 72) dX11_whom_72 rfl ?_
                refine r_aload_n (pc := 74) dX11_whom_74 rfl rfl ?_
                refine r_getr (pc := 75) (c := 11) (k := 6) (kz := 6) hs.o cok_11 (Nat.le_of_ble_eq_true rfl) q1866 ⟨rfl, rfl⟩ (Or.inl rfl) rfl (fun _ _ _ => rfl) hs.p_s dX11_whom_75 ?_
                refine r_iconst (pc := 78) dX11_whom_78 ?_
                refine r_iald (pc := 79) hs.t_s (by omega) (by omega) dX11_whom_79 (fun hr79 => ?_)
                rw [hW_2] at hr79 ⊢
                refine r_icmp_ge (pc := 80) 171 dX11_whom_80 rfl (by omega) (by omega) (fun h80 => ?_) (fun h80 => ?_)
                · omega
                refine r_iload (pc := 83) dX11_whom_83 rfl ?_
                refine r_iload_n (pc := 85) dX11_whom_85 rfl rfl ?_
                refine r_icmp_eq (pc := 86) 165 dX11_whom_86 rfl (by omega) (by omega) (fun h86 => ?_) (fun h86 => ?_)
                · exact nx (Or.inl h86) _ _
                refine r_aload_n (pc := 89) dX11_whom_89 rfl rfl ?_
                refine r_iload_n (pc := 90) dX11_whom_90 rfl rfl ?_
                refine r_iload (pc := 91) dX11_whom_91 rfl ?_
                refine r_iconst (pc := 93) dX11_whom_93 ?_
                refine r_callV3 (pc := 94) (M_hand0 hs o6 (by omega) fe_i) im_X11_handOf qs73 q2138 hs.o rfl dX11_whom_94 (Nat.le_of_ble_eq_true rfl) (Nat.le_of_ble_eq_true rfl) rfl (k_fi ?_) (fun _ _ _ _ _ _ _ hx => no_x hx)
                refine r_if_ne (pc := 97) 103 dX11_whom_97 rfl (by omega) (fun h97 => ?_) (fun h97 => ?_)
                · refine r_aload_n (pc := 103) dX11_whom_103 rfl rfl ?_
                  refine r_getr (pc := 104) (c := 11) (k := 6) (kz := 6) hs.o cok_11 (Nat.le_of_ble_eq_true rfl) q1866 ⟨rfl, rfl⟩ (Or.inl rfl) rfl (fun _ _ _ => rfl) hs.p_s dX11_whom_104 ?_
                  refine r_sipush (pc := 107) dX11_whom_107 (by decide +kernel) ?_
                  refine r_bipush (pc := 110) dX11_whom_110 (by decide +kernel) ?_
                  refine r_iload (pc := 112) dX11_whom_112 rfl ?_
                  refine r_imul (pc := 114) dX11_whom_114 ?_
                  refine r_iadd (pc := 115) dX11_whom_115 ?_
                  refine r_iload (pc := 116) dX11_whom_116 rfl ?_
                  refine r_iadd (pc := 118) dX11_whom_118 ?_
                  refine r_iald (pc := 119) hs.t_s (by omega) (by omega) dX11_whom_119 (fun hr119 => ?_)
                  rw [ur_sv] at hr119 ⊢
                  refine r_if_le (pc := 120) 127 dX11_whom_120 rfl (by omega) (fun h120 => ?_) (fun h120 => ?_)
                  · have ew : twt σ o q k = all - TW (ky σ o).2.2 (ky σ o).2.1.toNat (LM σ o q k (σ 1).toNat 0) (fun _ => 1) (fun i => un σ o ((ky σ o).2.2 i)) := by rw [← hall]; exact if_neg (by omega)
                    refine r_lload_n (pc := 127) dX11_whom_127 rfl rfl ?_
                    refine r_aload_n (pc := 128) dX11_whom_128 rfl rfl ?_
                    refine r_iload_n (pc := 129) dX11_whom_129 rfl rfl ?_
                    refine r_iload (pc := 130) dX11_whom_130 rfl ?_
                    refine r_iload (pc := 132) dX11_whom_132 rfl ?_
                    refine r_callV3 (pc := 134) (M_waysOf (d := d + 1) (Q := fun v I' J' P'' T'' zz => P'' = P2 ∧ T'' = T2 ∧ zz = z2 ∧ v = some (jv (TW (ky σ o).2.2 (ky σ o).2.1.toNat (LM σ o q k (σ 1).toNat 0) (fun _ => 1) (fun i => un σ o ((ky σ o).2.2 i)))) ∧ ∃ st' on' wy', I' = hW I m lf' κ' st' ω' σ ∧ J' = jW J m wy' on') hs hcv (n := (ky σ o).2.1.toNat) (by omega) (by rw [e33]; omega) hL1 o6 (Or.inr ⟨by omega, by omega⟩) (LM_12 hcv q5.2) (fun st' on' wy' _ _ => ⟨rfl, rfl, rfl, rfl, st', on', wy', rfl, rfl⟩)) im_X11_waysOf qs90 q2261 hs.o rfl dX11_whom_134 (Nat.le_of_ble_eq_true rfl) (Nat.le_of_ble_eq_true rfl) rfl (?_) (fun _ _ _ _ _ _ _ hx => no_x hx)
                    intro v I4 J4 P4 T4 z4 h
                    obtain ⟨rfl, rfl, rfl, rfl, st4, on4, wy4, rfl, rfl⟩ := h
                    show PW G mX11_whom (rmD (d + 3) 0 0) (MZ G Q nX 0 0) 0 0 (hW I m lf' κ' st4 ω' σ) (jW J m wy4 on4) P4 T4 z4 137 [some (.ref m), some (iv o), some (jv all), none, some (jv mo), none, some (iv be), some (iv q), some (iv k), l9, l10] [jv (TW (ky σ o).2.2 (ky σ o).2.1.toNat (LM σ o q k (σ 1).toNat 0) (fun _ => 1) (fun i => un σ o ((ky σ o).2.2 i))), jv all]
                    refine r_lsub (pc := 137) dX11_whom_137 ?_
                    rw [← ew]
                    exact st9 (by omega) st4 on4 wy4 _ _
                  have ew : twt σ o q k = all := by rw [← hall]; exact if_pos (by omega)
                  have f9 := st9 (by omega) st on wy l9 l10
                  rw [ew] at f9
                  refine r_lload_n (pc := 123) dX11_whom_123 rfl rfl ?_
                  refine r_goto (pc := 124) 138 dX11_whom_124 rfl ?_
                  exact f9
                refine r_goto (pc := 100) 165 dX11_whom_100 rfl ?_
                exact nx (Or.inr h97) _ _
            exact inner (σ 0).toNat 0 st on wy mo be _ _ (by omega) (by omega) h3 h4
        exact loop (σ 1).toNat 0 st' on' wy' (-1) (-1) _ _ _ (by omega) (by omega) (by omega) hR
      refine r_iconst (pc := 45) dX11_whom_45 ?_
      refine r_ireturn (pc := 46) rfl rfl dX11_whom_46 (Nat.le_of_ble_eq_true rfl) (Nat.le_of_ble_eq_true rfl) ?_
      have c0 : tall σ o = 0 := le.mp (by omega)
      have := hQ _ _ (MFr.hw (lf := lf') (κ := κ') (st := st') (ω := ω') (wy := wy') (on := on') hσ hω2) (by rw [hW_0, h00])
      unfold f_whom at this
      rw [if_neg (fun c => by have := c.2.2.2; omega)] at this
      exact this
    exact bad (fun c => bz_0.mp h26 c.2.2.1) _ _ _ hω2 h00
  have h9 := key (I (m + 10)) (I (m + 11)) (I (m + 12)) (I m) (J (m + 13)) (J (m + 14)) (fun j _ _ _ _ => rfl)
  rw [hW_id hσ, jW_id] at h9
  exact h9
end O4
