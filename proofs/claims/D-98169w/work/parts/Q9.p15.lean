/-! ===== the component: hand, odds, next ===== -/
section P15
variable {G : GE} {I J I' J' I1 J1 : HI} {P P' P1 : HP} {T T' : HT} {z x t d : Nat} {Q : QT} {X : XT} {σ μ ω υ κ sc : Int → Int}
/-- what odds leave -/
def OFr (x : Nat) (I J : HI) (P : HP) (I' J' : HI) (P' : HP) : Prop := (∀ a, a ≠ x → a ≠ x + 77 → a ≠ x + 78 → a ≠ x + 79 → I' a = I a) ∧ (∀ j, j ≠ 13 → j ≠ 14 → I' x j = I x j) ∧ (∀ c : Nat, c ≠ x + 80 → c ≠ x + 81 → J' c = J c) ∧ ∃ a b, ((a = x + 80 ∧ b = x + 81) ∨ (a = x + 81 ∧ b = x + 80)) ∧ P' = Pab P x a b
theorem hU_id : hU I x (I (x + 77)) (I (x + 78)) (I (x + 79)) (I x) = I := by
  unfold hU
  rw [ur_id, ur_id, ur_id, ur_id]
theorem OFr.rf {a b : Nat} (ha : P x 15 = some a) (hb : P x 16 = some b) (hab : (a = x + 80 ∧ b = x + 81) ∨ (a = x + 81 ∧ b = x + 80)) : OFr x I J P I J P := ⟨fun _ _ _ _ _ => rfl, fun _ _ _ => rfl, fun _ _ _ => rfl, a, b, hab, by unfold Pab; rw [up_id ha, up_id hb]⟩
theorem OFr.hu (h : ∀ j, j ≠ 13 → j ≠ 14 → ω j = I x j) {a b : Nat} (hJ : ∀ c : Nat, c ≠ x + 80 → c ≠ x + 81 → J' c = J c) (hab : (a = x + 80 ∧ b = x + 81) ∨ (a = x + 81 ∧ b = x + 80)) : OFr x I J P (hU I x υ κ sc ω) J' (Pab P x a b) := ⟨fun c h1 h2 h3 h4 => by unfold hU; rw [ur_n h1, ur_n h4, ur_n h3, ur_n h2], fun j h1 h2 => by unfold hU; rw [ur_sv]; exact h j h1 h2, hJ, a, b, hab, rfl⟩
theorem C_handF (hx : XS G I P T x t σ μ) {p k : Int} (hp : rg p) (hk : rg k) (hQ : isP σ p ∧ isK σ k → Q (some (iv (σ (60 + 13 * p + k)))) I J P T z) (hX : ¬ (isP σ p ∧ isK σ k) → X nse z I J P T (z + 1)) : MC G yX1_hand (ws_ yX1_hand cX1_hand 3 (some FieldType.int)) (d + 7) 1 6 [.ref x, iv p, iv k] I J P T z Q X := by
  have hb := hx.b
  have ht := hx.ta
  have hr := hx.r
  refine MC.of (by decide) (Nat.le_of_ble_eq_true rfl) ?_
  show PW G mX1_hand (rmD (d + 7) 1 6) (MZ G Q X 1 6) 0 0 I J P T z 0 [some (.ref x), some (iv p), some (iv k)] []
  have bad : ¬ (isP σ p ∧ isK σ k) → PW G mX1_hand (rmD (d + 7) 1 6) (MZ G Q X 1 6) 0 0 I J P T z 26 [some (.ref x), some (iv p), some (iv k)] [] := by
    intro c
    refine r_iconst (pc := 26) dX1_hand_26 ?_
    refine r_callS1 (pc := 27) (C_need0 (Q := fun _ _ _ _ _ _ => False) (X := X) (hX c)) im_X1_need q1775 dX1_hand_27 (Nat.le_of_ble_eq_true rfl) (Nat.le_of_ble_eq_true rfl) rfl (fun _ _ _ _ _ _ h => h.elim) (fun _ _ _ _ _ _ _ hx => x_out rfl (Nat.le_of_ble_eq_true rfl) (Nat.le_of_ble_eq_true rfl) hx)
  refine r_aload_n (pc := 0) dX1_hand_0 rfl rfl ?_
  refine r_getr (pc := 1) (c := 1) (k := 3) (kz := 3) hx.o cok_1 (Nat.le_of_ble_eq_true rfl) q513 ⟨rfl, rfl⟩ (Or.inl rfl) rfl (fun _ _ _ => rfl) hx.p_table dX1_hand_1 ?_
  refine r_iload_n (pc := 4) dX1_hand_4 rfl rfl ?_
  refine r_callV1 (pc := 5) (C_isP (d := d + 4) hx hp fe_i) im_X2_isPerson q1203 q1201 hx.tb.o rfl dX1_hand_5 (Nat.le_of_ble_eq_true rfl) (Nat.le_of_ble_eq_true rfl) rfl (k_fi ?_) (fun _ _ _ _ _ _ _ hx => no_x hx)
  refine r_if_eq (pc := 8) 26 dX1_hand_8 rfl bz_g (fun h8 => ?_) (fun h8 => ?_)
  · exact bad (fun c => bz_0.mp h8 c.1)
  have q1 := bz_ne.mp h8
  refine r_aload_n (pc := 11) dX1_hand_11 rfl rfl ?_
  refine r_getr (pc := 12) (c := 1) (k := 3) (kz := 3) hx.o cok_1 (Nat.le_of_ble_eq_true rfl) q513 ⟨rfl, rfl⟩ (Or.inl rfl) rfl (fun _ _ _ => rfl) hx.p_table dX1_hand_12 ?_
  refine r_iload_n (pc := 15) dX1_hand_15 rfl rfl ?_
  refine r_callV1 (pc := 16) (C_isK (d := d + 4) hx hk fe_i) im_X2_isKind q1221 q1219 hx.tb.o rfl dX1_hand_16 (Nat.le_of_ble_eq_true rfl) (Nat.le_of_ble_eq_true rfl) rfl (k_fi ?_) (fun _ _ _ _ _ _ _ hx => no_x hx)
  refine r_if_eq (pc := 19) 26 dX1_hand_19 rfl bz_g (fun h19 => ?_) (fun h19 => ?_)
  · exact bad (fun c => bz_0.mp h19 c.2)
  have q2 := bz_ne.mp h19
  refine r_iconst (pc := 22) dX1_hand_22 ?_
  refine r_goto (pc := 23) 27 dX1_hand_23 rfl ?_
  refine r_callS1 (pc := 27) (C_need1 (X := nX) fe_i) im_X1_need q1775 dX1_hand_27 (Nat.le_of_ble_eq_true rfl) (Nat.le_of_ble_eq_true rfl) rfl (k_fv ?_) (fun _ _ _ _ _ _ _ hx => no_x hx)
  refine r_aload_n (pc := 30) dX1_hand_30 rfl rfl ?_
  refine r_getr (pc := 31) (c := 1) (k := 4) (kz := 4) hx.o cok_1 (Nat.le_of_ble_eq_true rfl) q514 ⟨rfl, rfl⟩ (Or.inl rfl) rfl (fun _ _ _ => rfl) hx.p_now dX1_hand_31 ?_
  refine r_getrN (pc := 34) (c := 3) (k := 1) (kz := 1) hx.g.o cok_3 (Nat.le_of_ble_eq_true rfl) q273 ⟨rfl, rfl⟩ (Or.inl rfl) rfl (fun _ _ _ => rfl) hx.g.p_hand dX1_hand_34 ?_
  refine r_iload_n (pc := 37) dX1_hand_37 rfl rfl ?_
  refine r_aald (pc := 38) hx.g.t_hand ⟨by decide, by decide⟩ rfl (fun _ _ _ => rfl) (by omega) (by omega) (hx.g.q_hand (by omega) (by omega)) dX1_hand_38 ?_
  refine r_iload_n (pc := 39) dX1_hand_39 rfl rfl ?_
  refine r_iald (pc := 40) (hx.g.u_hand (by omega) (by omega)) (by omega) (by omega) dX1_hand_40 (fun hr40 => ?_)
  rw [hr.hand (by omega) (by omega) (by omega) (by omega)] at hr40 ⊢
  refine r_ireturn (pc := 41) rfl rfl dX1_hand_41 (Nat.le_of_ble_eq_true rfl) (Nat.le_of_ble_eq_true rfl) ?_
  exact hQ ⟨q1, q2⟩
theorem C_odds (hx : XS G I P T x t σ μ) {a0 b0 : Nat} (ha : P x 15 = some a0) (hbn : P x 16 = some b0) (hab : (a0 = x + 80 ∧ b0 = x + 81) ∨ (a0 = x + 81 ∧ b0 = x + 80)) {o q k w : Int} (ho : rg o) (hq : rg q) (hk : rg k) (hw : rg w)
    (hQ : gO σ o q k w → ∀ I' J' P', OFr x I J P I' J' P' → Q (some (jv (pt w (twt σ o q k) (tall σ o)))) I' J' P' T z) (hX : ¬ gO σ o q k w → ∀ I' J' P', OFr x I J P I' J' P' → X nse z I' J' P' T (z + 1)) : MC G yX1_odds (ws_ yX1_odds cX1_odds 7 (some FieldType.long)) (d + 128) 1 6 [.ref x, iv o, iv q, iv k, iv w] I J P T z Q X := by
  have hb := hx.b
  have ht := hx.ta
  have hcv := hx.w.cv
  refine MC.of (by decide) (Nat.le_of_ble_eq_true rfl) ?_
  show PW G mX1_odds (rmD (d + 128) 1 6) (MZ G Q X 1 6) 0 0 I J P T z 0 [some (.ref x), some (iv o), some (iv q), some (iv k), some (iv w), none, none] []
  have bad : ¬ gO σ o q k w → ∀ I' J' P', OFr x I J P I' J' P' → PW G mX1_odds (rmD (d + 128) 1 6) (MZ G Q X 1 6) 0 0 I' J' P' T z 37 [some (.ref x), some (iv o), some (iv q), some (iv k), some (iv w), none, none] [] := by
    intro c I' J' P' hf
    refine r_iconst (pc := 37) dX1_odds_37 ?_
    refine r_callS1 (pc := 38) (C_need0 (d := d + 121) (Q := fun _ _ _ _ _ _ => False) (X := X) (hX c _ _ _ hf)) im_X1_need q1775 dX1_odds_38 (Nat.le_of_ble_eq_true rfl) (Nat.le_of_ble_eq_true rfl) rfl (fun _ _ _ _ _ _ h => h.elim) (fun _ _ _ _ _ _ _ hx => x_out rfl (Nat.le_of_ble_eq_true rfl) (Nat.le_of_ble_eq_true rfl) hx)
  have rf0 : OFr x I J P I J P := OFr.rf ha hbn hab
  refine r_aload_n (pc := 0) dX1_odds_0 rfl rfl ?_
  refine r_iload_n (pc := 1) dX1_odds_1 rfl rfl ?_
  refine r_iload_n (pc := 2) dX1_odds_2 rfl rfl ?_
  refine r_iload_n (pc := 3) dX1_odds_3 rfl rfl ?_
  refine r_callV3 (pc := 4) (C_areTold (d := d + 124) hx ho hq hk fe_i) im_X1_areTold qs25 q1246 hx.o rfl dX1_odds_4 (Nat.le_of_ble_eq_true rfl) (Nat.le_of_ble_eq_true rfl) rfl (k_fi ?_) (fun _ _ _ _ _ _ _ hx => no_x hx)
  refine r_if_eq (pc := 7) 37 dX1_odds_7 rfl bz_g (fun h7 => ?_) (fun h7 => ?_)
  · exact bad (fun c => bz_0.mp h7 ⟨c.1, c.2.1, c.2.2.1⟩) _ _ _ rf0
  have q1 := bz_ne.mp h7
  refine r_iload_n (pc := 10) dX1_odds_10 rfl rfl ?_
  refine r_iload_n (pc := 11) dX1_odds_11 rfl rfl ?_
  refine r_icmp_eq (pc := 12) 37 dX1_odds_12 rfl (by omega) (by omega) (fun h12 => ?_) (fun h12 => ?_)
  · exact bad (fun c => c.2.2.2.1 h12) _ _ _ rf0
  refine r_iload (pc := 15) dX1_odds_15 rfl ?_
  refine r_iconst (pc := 17) dX1_odds_17 ?_
  refine r_iconst (pc := 18) dX1_odds_18 ?_
  refine r_callS3 (pc := 19) (C_isIn hw (by omega) (by omega) fe_i) im_X1_isIn q1228 dX1_odds_19 (Nat.le_of_ble_eq_true rfl) (Nat.le_of_ble_eq_true rfl) rfl (k_fi ?_) (fun _ _ _ _ _ _ _ hx => no_x hx)
  refine r_if_eq (pc := 22) 37 dX1_odds_22 rfl bz_g (fun h22 => ?_) (fun h22 => ?_)
  · exact bad (fun c => bz_0.mp h22 c.2.2.2.2.1) _ _ _ rf0
  have q3 := bz_ne.mp h22
  have o6 : 0 ≤ o ∧ o < 6 := by omega
  have hlay := @C_lay G I J P T z x t (d + 125) (fun v I' J' P' T' z' => J' = J ∧ P' = P ∧ T' = T ∧ z' = z ∧ v = some (iv (bz (okO σ o))) ∧ ∃ υ' κ' sc' ω', I' = hU I x υ' κ' sc' ω' ∧ (∀ j, j ≠ 13 → j ≠ 14 → ω' j = I x j) ∧ ((ky σ o).1 ≠ 0 → ∃ S s2, UL I' x (ky σ o).2.1.toNat (fun i => un σ o ((ky σ o).2.2 i)) (ky σ o).2.2 s2 S)) σ μ (I x) (I (x + 77)) (I (x + 78)) (I (x + 79)) hx o (by omega) (fun υ' κ' sc' ω' h1 h2 => ⟨rfl, rfl, rfl, rfl, rfl, υ', κ', sc', ω', rfl, h1, h2⟩)
  rw [hU_id] at hlay
  refine r_aload_n (pc := 25) dX1_odds_25 rfl rfl ?_
  refine r_iload_n (pc := 26) dX1_odds_26 rfl rfl ?_
  refine r_callV1 (pc := 27) hlay im_X1_layUnseen qs31 q1316 hx.o rfl dX1_odds_27 (Nat.le_of_ble_eq_true rfl) (Nat.le_of_ble_eq_true rfl) rfl (?_) (fun _ _ _ _ _ _ _ hx => no_x hx)
  intro v I' J' P' T' z' h
  obtain ⟨rfl, rfl, rfl, rfl, rfl, υ', κ', sc', ω', hI1, hω, hUL⟩ := h
  have hx1 : XS G I' P' T' x t σ μ := by rw [hI1]; exact hx.hu
  have rf1 : OFr x I J' P' I' J' P' := by
    have := OFr.hu (I := I) (P := P') (υ := υ') (κ := κ') (sc := sc') hω (J := J') (J' := J') (fun _ _ _ => rfl) hab
    unfold Pab at this
    rw [up_id ha, up_id hbn, ← hI1] at this
    exact this
  show PW G mX1_odds (rmD (d + 128) 1 6) (MZ G Q X 1 6) 0 0 I' J' P' T' z' 30 [some (.ref x), some (iv o), some (iv q), some (iv k), some (iv w), none, none] [iv (bz (okO σ o))]
  refine r_if_eq (pc := 30) 37 dX1_odds_30 rfl bz_g (fun h30 => ?_) (fun h30 => ?_)
  · exact bad (fun c => bz_0.mp h30 c.2.2.2.2.2.1) _ _ _ rf1
  have q2 := bz_ne.mp h30
  obtain ⟨S, s2, hU1⟩ := hUL q2.1
  have hn6 := hU1.1
  have hu : ∀ i : Int, 0 ≤ i → i < (ky σ o).2.1.toNat → un σ o ((ky σ o).2.2 i) ≤ 4 := fun i p q => (hU1.2.2.2.2.2.2 i p q).2.2.2.2.2
  have ta := TW_le (κ := (ky σ o).2.2) (u := fun i => un σ o ((ky σ o).2.2 i)) hn6 hu (LM_12 (o := o) (q0 := -1) (nt := -1) hcv q2.2)
  have tw := f_wt_r (κ := (ky σ o).2.2) (u := fun i => un σ o ((ky σ o).2.2 i)) (q := q) (k := k) hcv hn6 hu q2.2
  change 0 ≤ tall σ o ∧ tall σ o ≤ _ at ta
  change 0 ≤ twt σ o q k ∧ twt σ o q k ≤ tall σ o at tw
  refine r_iconst (pc := 33) dX1_odds_33 ?_
  refine r_goto (pc := 34) 38 dX1_odds_34 rfl ?_
  refine r_callS1 (pc := 38) (C_need1 (X := nX) fe_i) im_X1_need q1775 dX1_odds_38 (Nat.le_of_ble_eq_true rfl) (Nat.le_of_ble_eq_true rfl) rfl (k_fv ?_) (fun _ _ _ _ _ _ _ hx => no_x hx)
  refine r_aload_n (pc := 41) dX1_odds_41 rfl rfl ?_
  refine r_iload_n (pc := 42) dX1_odds_42 rfl rfl ?_
  refine r_iconst (pc := 43) dX1_odds_43 ?_
  refine r_iconst (pc := 44) dX1_odds_44 ?_
  refine r_callV3 (pc := 45) (C_ways (d := d + 124) (Q := fun v I2 J2 P2 T2 z2 => I2 = I' ∧ T2 = T' ∧ z2 = z' ∧ v = some (jv (tall σ o)) ∧ ∃ a b, P2 = Pab P' x a b ∧ ((a = x + 80 ∧ b = x + 81) ∨ (a = x + 81 ∧ b = x + 80)) ∧ (∀ c : Nat, c ≠ x + 80 → c ≠ x + 81 → J2 c = J' c)) hx1 hU1 ha hbn hab o6 (Or.inl ⟨rfl, rfl⟩) (LM_12 hcv q2.2) (fun a b J'' h1 h2 _ => ⟨rfl, rfl, rfl, rfl, a, b, rfl, h1, h2⟩)) im_X1_count qs32 q1320 hx1.o rfl dX1_odds_45 (Nat.le_of_ble_eq_true rfl) (Nat.le_of_ble_eq_true rfl) rfl (?_) (fun _ _ _ _ _ _ _ hx => no_x hx)
  intro v I2 J2 P2 T2 z2 h
  obtain ⟨rfl, rfl, rfl, rfl, a, b, rfl, hab2, hJ2⟩ := h
  have hx2 := hx1.pab (a := a) (b := b)
  have rf2 : ∀ (a b : Nat) (J3 : HI), ((a = x + 80 ∧ b = x + 81) ∨ (a = x + 81 ∧ b = x + 80)) → (∀ c : Nat, c ≠ x + 80 → c ≠ x + 81 → J3 c = J' c) → OFr x I J' P' I2 J3 (Pab P' x a b) := fun a b J3 h1 h2 => by rw [hI1]; exact OFr.hu hω h2 h1
  obtain ⟨all, hall⟩ : ∃ all, all = tall σ o := ⟨_, rfl⟩
  rw [← hall] at ta tw
  have lr := lc_r (x := all) (y := 0)
  have lg := lc_gt (x := all) (y := 0)
  show PW G mX1_odds (rmD (d + 128) 1 6) (MZ G Q X 1 6) (0+0+0+0+0+0) (0+0+0+0+0+0) I2 J2 (Pab P' x a b) T2 z2 48 [some (.ref x), some (iv o), some (iv q), some (iv k), some (iv w), none, none] [jv (tall σ o)]
  rw [← hall]
  refine r_lstore5 (pc := 48) (Nat.le_of_ble_eq_true rfl) dX1_odds_48 rfl ?_
  refine r_lload (pc := 50) dX1_odds_50 rfl ?_
  refine r_lconst (pc := 52) (x := 0) dX1_odds_52 (by decide +kernel) ?_
  refine r_lcmp (pc := 53) dX1_odds_53 (by omega) (by omega) ?_
  refine r_if_le (pc := 54) 61 dX1_odds_54 rfl (by omega) (fun h54 => ?_) (fun h54 => ?_)
  · have c9 : ¬ gO σ o q k w := fun c => by
      have c7 := c.2.2.2.2.2.2
      rw [← hall] at c7
      have := lg.mpr c7
      omega
    refine r_iconst (pc := 61) dX1_odds_61 ?_
    refine r_callS1 (pc := 62) (C_need0 (d := d + 121) (Q := fun _ _ _ _ _ _ => False) (X := X) (hX c9 _ _ _ (rf2 a b J2 hab2 hJ2))) im_X1_need q1775 dX1_odds_62 (Nat.le_of_ble_eq_true rfl) (Nat.le_of_ble_eq_true rfl) rfl (fun _ _ _ _ _ _ h => h.elim) (fun _ _ _ _ _ _ _ hx => x_out rfl (Nat.le_of_ble_eq_true rfl) (Nat.le_of_ble_eq_true rfl) hx)
  have c0 : 0 < all := lg.mp (by omega)
  refine r_iconst (pc := 57) dX1_odds_57 ?_
  refine r_goto (pc := 58) 62 dX1_odds_58 rfl ?_
  refine r_callS1 (pc := 62) (C_need1 (X := nX) fe_i) im_X1_need q1775 dX1_odds_62 (Nat.le_of_ble_eq_true rfl) (Nat.le_of_ble_eq_true rfl) rfl (k_fv ?_) (fun _ _ _ _ _ _ _ hx => no_x hx)
  refine r_aload_n (pc := 65) dX1_odds_65 rfl rfl ?_
  refine r_iload_n (pc := 66) dX1_odds_66 rfl rfl ?_
  refine r_iload_n (pc := 67) dX1_odds_67 rfl rfl ?_
  refine r_iload_n (pc := 68) dX1_odds_68 rfl rfl ?_
  refine r_lload (pc := 69) dX1_odds_69 rfl ?_
  refine r_callV4 (pc := 71) (C_with (d := d + 123) (Q := fun v I4 J4 P4 T4 z4 => I4 = I2 ∧ T4 = T2 ∧ z4 = z2 ∧ v = some (jv (twt σ o q k)) ∧ ∃ a b, P4 = Pab P' x a b ∧ ((a = x + 80 ∧ b = x + 81) ∨ (a = x + 81 ∧ b = x + 80)) ∧ (∀ c : Nat, c ≠ x + 80 → c ≠ x + 81 → J4 c = J2 c)) hx2 hU1 Pab_15 Pab_16 hab2 o6 (by omega) (by omega) q2.2 (fun a b J'' h1 h2 => ⟨rfl, rfl, rfl, by rw [hall]; rfl, a, b, Pab_Pab, h1, h2⟩)) im_X1_with qs34 q1336 hx2.o rfl dX1_odds_71 (Nat.le_of_ble_eq_true rfl) (Nat.le_of_ble_eq_true rfl) rfl (?_) (fun _ _ _ _ _ _ _ hx => no_x hx)
  intro v I4 J4 P4 T4 z4 h
  obtain ⟨rfl, rfl, rfl, rfl, a4, b4, rfl, hab4, hJ4⟩ := h
  have hx4 := hx1.pab (a := a4) (b := b4)
  show PW G mX1_odds (rmD (d + 128) 1 6) (MZ G Q X 1 6) (0+0+0+0+0+0+0+0) (0+0+0+0+0+0+0+0) I4 J4 (Pab P' x a4 b4) T4 z4 74 [some (.ref x), some (iv o), some (iv q), some (iv k), some (iv w), some (jv all), none] [jv (twt σ o q k)]
  refine r_lload (pc := 74) dX1_odds_74 rfl ?_
  refine r_iload (pc := 76) dX1_odds_76 rfl ?_
  refine r_callS3 (pc := 78) (C_part (d := d) (by omega) (by omega) hw fe_i) im_X1_part q1805 dX1_odds_78 (Nat.le_of_ble_eq_true rfl) (Nat.le_of_ble_eq_true rfl) rfl (k_fj ?_) (fun _ _ _ _ _ _ _ hx => no_x hx)
  refine r_lreturn (pc := 81) rfl dX1_odds_81 (Nat.le_of_ble_eq_true rfl) (Nat.le_of_ble_eq_true rfl) ?_
  have := hQ ⟨q1.1, q1.2.1, q1.2.2, h12, q3, q2, by rw [← hall]; exact c0⟩ _ _ _ (rf2 a4 b4 J4 hab4 (fun c p p2 => by rw [hJ4 c p p2]; exact hJ2 c p p2))
  rw [← hall] at this
  exact this
end P15
