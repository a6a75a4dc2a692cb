/-! ===== the component: next ===== -/
section P16
variable {G : GE} {I J I' J' I1 J1 : HI} {P P' P1 : HP} {T T' : HT} {z x t d : Nat} {Q : QT} {X : XT} {σ μ ω υ κ sc : Int → Int}
theorem C_nextF (hx : XS G I P T x t σ μ) {a0 b0 : Nat} (ha : P x 15 = some a0) (hbn : P x 16 = some b0) (hab : (a0 = x + 80 ∧ b0 = x + 81) ∨ (a0 = x + 81 ∧ b0 = x + 80)) {o k w : Int} (ho : rg o) (hk : rg k) (hw : rg w)
    (hQ : gN σ o k w → ∀ I' J' P', OFr x I J P I' J' P' → Q (some (jv (pt w (tnx σ o k) (tall σ o * σ 7)))) I' J' P' T z) (hX : ¬ gN σ o k w → ∀ I' J' P', OFr x I J P I' J' P' → X nse z I' J' P' T (z + 1)) : MC G yX1_next (ws_ yX1_next cX1_next 10 (some FieldType.long)) (d + 128) 1 6 [.ref x, iv o, iv k, iv w] I J P T z Q X := by
  have hb := hx.b
  have ht := hx.ta
  have hcv := hx.w.cv
  have hhp := hx.r.hp
  refine MC.of (by decide) (Nat.le_of_ble_eq_true rfl) ?_
  show PW G mX1_next (rmD (d + 128) 1 6) (MZ G Q X 1 6) 0 0 I J P T z 0 [some (.ref x), some (iv o), some (iv k), some (iv w), none, none, none, none, none, none] []
  have bad : ¬ gN σ o k w → ∀ I' J' P', OFr x I J P I' J' P' → PW G mX1_next (rmD (d + 128) 1 6) (MZ G Q X 1 6) 0 0 I' J' P' T z 53 [some (.ref x), some (iv o), some (iv k), some (iv w), none, none, none, none, none, none] [] := by
    intro c I' J' P' hf
    refine r_iconst (pc := 53) dX1_next_53 ?_
    refine r_callS1 (pc := 54) (C_need0 (d := d + 121) (Q := fun _ _ _ _ _ _ => False) (X := X) (hX c _ _ _ hf)) im_X1_need q1775 dX1_next_54 (Nat.le_of_ble_eq_true rfl) (Nat.le_of_ble_eq_true rfl) rfl (fun _ _ _ _ _ _ h => h.elim) (fun _ _ _ _ _ _ _ hx => x_out rfl (Nat.le_of_ble_eq_true rfl) (Nat.le_of_ble_eq_true rfl) hx)
  have rf0 : OFr x I J P I J P := OFr.rf ha hbn hab
  refine r_aload_n (pc := 0) dX1_next_0 rfl rfl ?_
  refine r_getr (pc := 1) (c := 1) (k := 3) (kz := 3) hx.o cok_1 (Nat.le_of_ble_eq_true rfl) q513 ⟨rfl, rfl⟩ (Or.inl rfl) rfl (fun _ _ _ => rfl) hx.p_table dX1_next_1 ?_
  refine r_iload_n (pc := 4) dX1_next_4 rfl rfl ?_
  refine r_callV1 (pc := 5) (C_isP (d := d + 125) hx ho fe_i) im_X2_isPerson q1203 q1201 hx.tb.o rfl dX1_next_5 (Nat.le_of_ble_eq_true rfl) (Nat.le_of_ble_eq_true rfl) rfl (k_fi ?_) (fun _ _ _ _ _ _ _ hx => no_x hx)
  refine r_if_eq (pc := 8) 53 dX1_next_8 rfl bz_g (fun h8 => ?_) (fun h8 => ?_)
  · exact bad (fun c => bz_0.mp h8 c.1) _ _ _ rf0
  have q1 := bz_ne.mp h8
  refine r_aload_n (pc := 11) dX1_next_11 rfl rfl ?_
  refine r_getr (pc := 12) (c := 1) (k := 3) (kz := 3) hx.o cok_1 (Nat.le_of_ble_eq_true rfl) q513 ⟨rfl, rfl⟩ (Or.inl rfl) rfl (fun _ _ _ => rfl) hx.p_table dX1_next_12 ?_
  refine r_iload_n (pc := 15) dX1_next_15 rfl rfl ?_
  refine r_callV1 (pc := 16) (C_isK (d := d + 125) hx hk fe_i) im_X2_isKind q1221 q1219 hx.tb.o rfl dX1_next_16 (Nat.le_of_ble_eq_true rfl) (Nat.le_of_ble_eq_true rfl) rfl (k_fi ?_) (fun _ _ _ _ _ _ _ hx => no_x hx)
  refine r_if_eq (pc := 19) 53 dX1_next_19 rfl bz_g (fun h19 => ?_) (fun h19 => ?_)
  · exact bad (fun c => bz_0.mp h19 c.2.1) _ _ _ rf0
  have q1b := bz_ne.mp h19
  refine r_iload_n (pc := 22) dX1_next_22 rfl rfl ?_
  refine r_iconst (pc := 23) dX1_next_23 ?_
  refine r_iconst (pc := 24) dX1_next_24 ?_
  refine r_callS3 (pc := 25) (C_isIn hw (by omega) (by omega) fe_i) im_X1_isIn q1228 dX1_next_25 (Nat.le_of_ble_eq_true rfl) (Nat.le_of_ble_eq_true rfl) rfl (k_fi ?_) (fun _ _ _ _ _ _ _ hx => no_x hx)
  refine r_if_eq (pc := 28) 53 dX1_next_28 rfl bz_g (fun h28 => ?_) (fun h28 => ?_)
  · exact bad (fun c => bz_0.mp h28 c.2.2.1) _ _ _ rf0
  have q3 := bz_ne.mp h28
  refine r_aload_n (pc := 31) dX1_next_31 rfl rfl ?_
  refine r_getr (pc := 32) (c := 1) (k := 4) (kz := 4) hx.o cok_1 (Nat.le_of_ble_eq_true rfl) q514 ⟨rfl, rfl⟩ (Or.inl rfl) rfl (fun _ _ _ => rfl) hx.p_now dX1_next_32 ?_
  refine r_callV0 (pc := 35) (C_left hx.g hx.r fe_i) im_X3_left q425 q1227 hx.g.o rfl dX1_next_35 (Nat.le_of_ble_eq_true rfl) (Nat.le_of_ble_eq_true rfl) rfl (k_fi ?_) (fun _ _ _ _ _ _ _ hx => no_x hx)
  refine r_if_le (pc := 38) 53 dX1_next_38 rfl (by omega) (fun h38 => ?_) (fun h38 => ?_)
  · exact bad (fun c => by have := c.2.2.2.1; omega) _ _ _ rf0
  have o6 : 0 ≤ o ∧ o < 6 := by omega
  have hlay := @C_lay G I J P T z x t (d + 125) (fun v I' J' P' T' z' => J' = J ∧ P' = P ∧ T' = T ∧ z' = z ∧ v = some (iv (bz (okO σ o))) ∧ ∃ υ' κ' sc' ω', I' = hU I x υ' κ' sc' ω' ∧ (∀ j, j ≠ 13 → j ≠ 14 → ω' j = I x j) ∧ ((ky σ o).1 ≠ 0 → ∃ S s2, UL I' x (ky σ o).2.1.toNat (fun i => un σ o ((ky σ o).2.2 i)) (ky σ o).2.2 s2 S)) σ μ (I x) (I (x + 77)) (I (x + 78)) (I (x + 79)) hx o (by omega) (fun υ' κ' sc' ω' h1 h2 => ⟨rfl, rfl, rfl, rfl, rfl, υ', κ', sc', ω', rfl, h1, h2⟩)
  rw [hU_id] at hlay
  refine r_aload_n (pc := 41) dX1_next_41 rfl rfl ?_
  refine r_iload_n (pc := 42) dX1_next_42 rfl rfl ?_
  refine r_callV1 (pc := 43) hlay im_X1_layUnseen qs31 q1316 hx.o rfl dX1_next_43 (Nat.le_of_ble_eq_true rfl) (Nat.le_of_ble_eq_true rfl) rfl (?_) (fun _ _ _ _ _ _ _ hx => no_x hx)
  intro v I' J' P' T' z' h
  obtain ⟨rfl, rfl, rfl, rfl, rfl, υ', κ', sc', ω', hI1, hω, hUL⟩ := h
  have hx1 : XS G I' P' T' x t σ μ := by rw [hI1]; exact hx.hu
  have rf1 : OFr x I J' P' I' J' P' := by
    have := OFr.hu (I := I) (P := P') (υ := υ') (κ := κ') (sc := sc') hω (J := J') (J' := J') (fun _ _ _ => rfl) hab
    unfold Pab at this
    rw [up_id ha, up_id hbn, ← hI1] at this
    exact this
  show PW G mX1_next (rmD (d + 128) 1 6) (MZ G Q X 1 6) 0 0 I' J' P' T' z' 46 [some (.ref x), some (iv o), some (iv k), some (iv w), none, none, none, none, none, none] [iv (bz (okO σ o))]
  refine r_if_eq (pc := 46) 53 dX1_next_46 rfl bz_g (fun h46 => ?_) (fun h46 => ?_)
  · exact bad (fun c => bz_0.mp h46 c.2.2.2.2.1) _ _ _ rf1
  have q2 := bz_ne.mp h46
  obtain ⟨S, s2, hU1⟩ := hUL q2.1
  obtain ⟨hn6, e13, e14, eS, hS, hRX, hL⟩ := id hU1
  have hu : ∀ i : Int, 0 ≤ i → i < (ky σ o).2.1.toNat → 0 ≤ un σ o ((ky σ o).2.2 i) ∧ un σ o ((ky σ o).2.2 i) ≤ 4 := fun i p q => (hL i p q).2.2.2.2
  have ta := TW_le (κ := (ky σ o).2.2) (u := fun i => un σ o ((ky σ o).2.2 i)) hn6 (fun i p q => (hu i p q).2) (LM_12 (o := o) (q0 := -1) (nt := -1) hcv q2.2)
  have tn := tnx_r (k := k) hn6 hu (LM_12 (o := o) (q0 := -1) (nt := -1) hcv q2.2)
  change 0 ≤ tall σ o ∧ tall σ o ≤ _ at ta
  refine r_iconst (pc := 49) dX1_next_49 ?_
  refine r_goto (pc := 50) 54 dX1_next_50 rfl ?_
  refine r_callS1 (pc := 54) (C_need1 (X := nX) fe_i) im_X1_need q1775 dX1_next_54 (Nat.le_of_ble_eq_true rfl) (Nat.le_of_ble_eq_true rfl) rfl (k_fv ?_) (fun _ _ _ _ _ _ _ hx => no_x hx)
  refine r_aload_n (pc := 57) dX1_next_57 rfl rfl ?_
  refine r_iload_n (pc := 58) dX1_next_58 rfl rfl ?_
  refine r_iconst (pc := 59) dX1_next_59 ?_
  refine r_iconst (pc := 60) dX1_next_60 ?_
  refine r_callV3 (pc := 61) (C_ways (d := d + 124) (Q := fun v I2 J2 P2 T2 z2 => I2 = I' ∧ T2 = T' ∧ z2 = z' ∧ v = some (jv (tall σ o)) ∧ ∃ a b, P2 = Pab P' x a b ∧ ((a = x + 80 ∧ b = x + 81) ∨ (a = x + 81 ∧ b = x + 80)) ∧ (∀ c : Nat, c ≠ x + 80 → c ≠ x + 81 → J2 c = J' c) ∧ WY (ky σ o).2.2 s2 (fun i => un σ o ((ky σ o).2.2 i) + 1) (fun i => un σ o ((ky σ o).2.2 i)) (ky σ o).2.1.toNat S (J2 a) (LM σ o (-1) (-1) (σ 1).toNat 0)) hx1 hU1 ha hbn hab o6 (Or.inl ⟨rfl, rfl⟩) (LM_12 hcv q2.2) (fun a b J'' h1 h2 h3 => ⟨rfl, rfl, rfl, rfl, a, b, rfl, h1, h2, h3⟩)) im_X1_count qs32 q1320 hx1.o rfl dX1_next_61 (Nat.le_of_ble_eq_true rfl) (Nat.le_of_ble_eq_true rfl) rfl (?_) (fun _ _ _ _ _ _ _ hx => no_x hx)
  intro v I2 J2 P2 T2 z2 h
  obtain ⟨rfl, rfl, rfl, rfl, a, b, rfl, hab2, hJ2, hWY⟩ := h
  have hx2 := hx1.pab (a := a) (b := b)
  have rf2 : OFr x I J' P' I2 J2 (Pab P' x a b) := by rw [hI1]; exact OFr.hu hω hJ2 hab2
  obtain ⟨all, hall⟩ : ∃ all, all = tall σ o := ⟨_, rfl⟩
  rw [← hall] at ta
  have lr := lc_r (x := all) (y := 0)
  have lg := lc_gt (x := all) (y := 0)
  have hTa : T2 a = (3, 15625) := by
    rcases hab2 with q | q
    · rw [q.1]; exact hx.x.2.2.2.1.1
    · rw [q.1]; exact hx.x.2.2.2.1.2
  show PW G mX1_next (rmD (d + 128) 1 6) (MZ G Q X 1 6) (0+0+0+0+0+0+0) (0+0+0+0+0+0+0) I2 J2 (Pab P' x a b) T2 z2 64 [some (.ref x), some (iv o), some (iv k), some (iv w), none, none, none, none, none, none] [jv (tall σ o)]
  rw [← hall]
  refine r_lstore4 (pc := 64) (Nat.le_of_ble_eq_true rfl) dX1_next_64 rfl ?_
  refine r_lload (pc := 66) dX1_next_66 rfl ?_
  refine r_lconst (pc := 68) (x := 0) dX1_next_68 (by decide +kernel) ?_
  refine r_lcmp (pc := 69) dX1_next_69 (by omega) (by omega) ?_
  refine r_if_le (pc := 70) 77 dX1_next_70 rfl (by omega) (fun h70 => ?_) (fun h70 => ?_)
  · have c9 : ¬ gN σ o k w := fun c => by
      have c7 := c.2.2.2.2.2
      rw [← hall] at c7
      have := lg.mpr c7
      omega
    refine r_iconst (pc := 77) dX1_next_77 ?_
    refine r_callS1 (pc := 78) (C_need0 (d := d + 121) (Q := fun _ _ _ _ _ _ => False) (X := X) (hX c9 _ _ _ rf2)) im_X1_need q1775 dX1_next_78 (Nat.le_of_ble_eq_true rfl) (Nat.le_of_ble_eq_true rfl) rfl (fun _ _ _ _ _ _ h => h.elim) (fun _ _ _ _ _ _ _ hx => x_out rfl (Nat.le_of_ble_eq_true rfl) (Nat.le_of_ble_eq_true rfl) hx)
  have c0 : 0 < all := lg.mp (by omega)
  refine r_iconst (pc := 73) dX1_next_73 ?_
  refine r_goto (pc := 74) 78 dX1_next_74 rfl ?_
  refine r_callS1 (pc := 78) (C_need1 (X := nX) fe_i) im_X1_need q1775 dX1_next_78 (Nat.le_of_ble_eq_true rfl) (Nat.le_of_ble_eq_true rfl) rfl (k_fv ?_) (fun _ _ _ _ _ _ _ hx => no_x hx)
  refine r_lconst (pc := 81) (x := 0) dX1_next_81 (by decide +kernel) ?_
  refine r_lstore6 (pc := 82) (Nat.le_of_ble_eq_true rfl) dX1_next_82 rfl ?_
  refine r_iconst (pc := 84) dX1_next_84 ?_
  refine r_istore8 (pc := 85) (Nat.le_of_ble_eq_true rfl) dX1_next_85 rfl ?_
  have hQ := hQ ⟨q1, q1b, q3, by omega, q2, by rw [← hall]; exact c0⟩ _ _ _ rf2
  rw [← hall] at hQ
  have htn : tnx σ o k = sm (fun i => if (ky σ o).2.2 i = k then TW (ky σ o).2.2 (ky σ o).2.1.toNat (LM σ o (-1) (-1) (σ 1).toNat 0) (fun v => v i) (fun i => un σ o ((ky σ o).2.2 i)) else 0) (ky σ o).2.1.toNat := rfl
  generalize (ky σ o).2.1.toNat = n at hU1 hn6 e13 eS hRX hL hu hWY htn
  generalize (ky σ o).2.2 = κc at hU1 hRX hL hu hWY htn
  generalize LM σ o (-1) (-1) (σ 1).toNat 0 = L at hWY htn
  obtain ⟨g, hg⟩ : ∃ g : Int → Int, g = fun i => if κc i = k then TW κc n L (fun v => v i) (fun i => un σ o (κc i)) else 0 := ⟨_, rfl⟩
  rw [← hg] at htn
  have outer : ∀ (m : Nat) (i : Int) (l9 : Option Value), 0 ≤ i → i + m = n → PW G mX1_next (rmD (d + 128) 1 6) (MZ G Q X 1 6) 0 0 I2 J2 (Pab P' x a b) T2 z2 87 [some (.ref x), some (iv o), some (iv k), some (iv w), some (jv all), none, some (jv (sm g i.toNat)), none, some (iv i), l9] [] := by
    intro m
    induction m with
    | zero =>
      intro i l9 i0 im
      obtain rfl : i = n := by omega
      refine r_iload (pc := 87) dX1_next_87 rfl ?_
      refine r_aload_n (pc := 89) dX1_next_89 rfl rfl ?_
      refine r_geti (pc := 90) (c := 1) (k := 13) (kz := 13) hx2.o cok_1 (Nat.le_of_ble_eq_true rfl) q523 ⟨rfl, rfl⟩ (Or.inl rfl) rfl (fun _ _ _ => rfl) dX1_next_90 (fun hr90 => ?_)
      rw [e13] at hr90 ⊢
      refine r_icmp_ge (pc := 93) 171 dX1_next_93 rfl (by omega) (by omega) (fun h93 => ?_) (fun h93 => ?_)
      · refine r_lload (pc := 171) dX1_next_171 rfl ?_
        refine r_lload (pc := 173) dX1_next_173 rfl ?_
        refine r_aload_n (pc := 175) dX1_next_175 rfl rfl ?_
        refine r_getr (pc := 176) (c := 1) (k := 4) (kz := 4) hx2.o cok_1 (Nat.le_of_ble_eq_true rfl) q514 ⟨rfl, rfl⟩ (Or.inl rfl) rfl (fun _ _ _ => rfl) hx2.p_now dX1_next_176 ?_
        refine r_callV0 (pc := 179) (C_left hx2.g hx2.r fe_i) im_X3_left q425 q1227 hx2.g.o rfl dX1_next_179 (Nat.le_of_ble_eq_true rfl) (Nat.le_of_ble_eq_true rfl) rfl (k_fi ?_) (fun _ _ _ _ _ _ _ hx => no_x hx)
        rw [show ((n : Int)).toNat = n by omega, ← htn]
        refine r_i2l (pc := 182) dX1_next_182 (by omega) ?_
        refine r_lmul (pc := 183) dX1_next_183 ?_
        refine r_iload_n (pc := 184) dX1_next_184 rfl rfl ?_
        have m0 : 0 < all * σ 7 := Int.mul_pos c0 (by omega)
        have m1 : all * σ 7 ≤ 36520347436056576 * 52 := Int.le_trans (Int.mul_le_mul_of_nonneg_right ta.2 (by omega)) (Int.mul_le_mul_of_nonneg_left (by omega) (by omega))
        refine r_callS3 (pc := 185) (C_part (d := d) (by omega) (by omega) hw fe_i) im_X1_part q1805 dX1_next_185 (Nat.le_of_ble_eq_true rfl) (Nat.le_of_ble_eq_true rfl) rfl (k_fj ?_) (fun _ _ _ _ _ _ _ hx => no_x hx)
        refine r_lreturn (pc := 188) rfl dX1_next_188 (Nat.le_of_ble_eq_true rfl) (Nat.le_of_ble_eq_true rfl) ?_
        exact hQ
      omega
    | succ m ih =>
      intro i l9 i0 im
      obtain ⟨eκ, hκ, esc, eu, u0, u4⟩ := hL i i0 (by omega)
      have nxt : ∀ (v : Int) (l9 : Option Value), v = sm g (i + 1).toNat → PW G mX1_next (rmD (d + 128) 1 6) (MZ G Q X 1 6) 0 0 I2 J2 (Pab P' x a b) T2 z2 165 [some (.ref x), some (iv o), some (iv k), some (iv w), some (jv all), none, some (jv v), none, some (iv i), l9] [] := by
        intro v l9 hv
        subst hv
        refine r_iinc8 (pc := 165) (Nat.le_of_ble_eq_true rfl) dX1_next_165 rfl ?_
        refine r_goto (pc := 168) 87 dX1_next_168 rfl ?_
        exact ih (i + 1) l9 (by omega) (by omega)
      have e1 := sm_succ (f := g) i0
      refine r_iload (pc := 87) dX1_next_87 rfl ?_
      refine r_aload_n (pc := 89) dX1_next_89 rfl rfl ?_
      refine r_geti (pc := 90) (c := 1) (k := 13) (kz := 13) hx2.o cok_1 (Nat.le_of_ble_eq_true rfl) q523 ⟨rfl, rfl⟩ (Or.inl rfl) rfl (fun _ _ _ => rfl) dX1_next_90 (fun hr90 => ?_)
      rw [e13] at hr90 ⊢
      refine r_icmp_ge (pc := 93) 171 dX1_next_93 rfl (by omega) (by omega) (fun h93 => ?_) (fun h93 => ?_)
      · omega
      refine r_aload_n (pc := 96) dX1_next_96 rfl rfl ?_
      refine r_getr (pc := 97) (c := 1) (k := 11) (kz := 11) hx2.o cok_1 (Nat.le_of_ble_eq_true rfl) q521 ⟨rfl, rfl⟩ (Or.inl rfl) rfl (fun _ _ _ => rfl) hx2.p_kindAt dX1_next_97 ?_
      refine r_iload (pc := 100) dX1_next_100 rfl ?_
      refine r_iald (pc := 102) hx2.t_kindAt (by omega) (by omega) dX1_next_102 (fun hr102 => ?_)
      rw [eκ] at hr102 ⊢
      refine r_iload_n (pc := 103) dX1_next_103 rfl rfl ?_
      refine r_icmp_ne (pc := 104) 165 dX1_next_104 rfl (by omega) (by omega) (fun h104 => ?_) (fun h104 => ?_)
      · refine nxt _ _ ?_
        rw [← e1, hg]
        show _ = _ + (if κc i = k then _ else 0)
        rw [if_neg h104, Int.add_zero]
      obtain ⟨f, hf⟩ : ∃ f : Int → Int, f = fun s => J2 a s * vs s2 (fun i => un σ o (κc i) + 1) (fun i => un σ o (κc i)) s i := ⟨_, rfl⟩
      have hfS : sm f S = g i := by
        rw [hf, hg, hWY.2 (fun v => v i) (HC_i i0 (by omega))]
        exact (if_pos h104).symm
      obtain ⟨uk, huk⟩ : ∃ uk, uk = un σ o (κc i) := ⟨_, rfl⟩
      have evs : ∀ s, f s = J2 a s * (uk - s / s2 i % (uk + 1)) := fun s => by rw [hf, huk]; rfl
      have u0' : 0 ≤ uk := by rw [huk]; exact u0
      have u4' : uk ≤ 4 := by rw [huk]; exact u4
      have eu' : I2 (x + 77) k = uk := by rw [huk, ← h104]; exact eu
      refine r_iconst (pc := 107) dX1_next_107 ?_
      refine r_istore9 (pc := 108) (Nat.le_of_ble_eq_true rfl) dX1_next_108 rfl ?_
      have inner : ∀ (q : Nat) (s : Int), 0 ≤ s → s + q = S → PW G mX1_next (rmD (d + 128) 1 6) (MZ G Q X 1 6) 0 0 I2 J2 (Pab P' x a b) T2 z2 110 [some (.ref x), some (iv o), some (iv k), some (iv w), some (jv all), none, some (jv (sm g i.toNat + sm f s.toNat)), none, some (iv i), some (iv s)] [] := by
        intro q
        induction q with
        | zero =>
          intro s s0 sq
          obtain rfl : s = S := by omega
          refine r_iload (pc := 110) dX1_next_110 rfl ?_
          refine r_aload_n (pc := 112) dX1_next_112 rfl rfl ?_
          refine r_geti (pc := 113) (c := 1) (k := 14) (kz := 14) hx2.o cok_1 (Nat.le_of_ble_eq_true rfl) q524 ⟨rfl, rfl⟩ (Or.inl rfl) rfl (fun _ _ _ => rfl) dX1_next_113 (fun hr113 => ?_)
          rw [e14] at hr113 ⊢
          refine r_icmp_ge (pc := 116) 165 dX1_next_116 rfl (by omega) (by omega) (fun h116 => ?_) (fun h116 => ?_)
          · refine nxt _ _ ?_
            rw [show ((S : Int)).toNat = S by omega, hfS, e1]
          omega
        | succ q ihq =>
          intro s s0 sq
          have hsz := C_wsz hU1 s0 (by omega) i0 (by omega : i < _)
          have hd0 := Int.emod_nonneg (s / s2 i) (show uk + 1 ≠ 0 by omega)
          have hd1 := Int.emod_lt_of_pos (s / s2 i) (show 0 < uk + 1 by omega)
          have q0 : 0 ≤ s / s2 i := Int.ediv_nonneg s0 (by omega)
          have q1 : s / s2 i ≤ s := Int.ediv_le_self _ s0
          have e2 := sm_succ (f := f) s0
          refine r_iload (pc := 110) dX1_next_110 rfl ?_
          refine r_aload_n (pc := 112) dX1_next_112 rfl rfl ?_
          refine r_geti (pc := 113) (c := 1) (k := 14) (kz := 14) hx2.o cok_1 (Nat.le_of_ble_eq_true rfl) q524 ⟨rfl, rfl⟩ (Or.inl rfl) rfl (fun _ _ _ => rfl) dX1_next_113 (fun hr113 => ?_)
          rw [e14] at hr113 ⊢
          refine r_icmp_ge (pc := 116) 165 dX1_next_116 rfl (by omega) (by omega) (fun h116 => ?_) (fun h116 => ?_)
          · omega
          refine r_lload (pc := 119) dX1_next_119 rfl ?_
          refine r_aload_n (pc := 121) dX1_next_121 rfl rfl ?_
          refine r_getr (pc := 122) (c := 1) (k := 15) (kz := 15) hx2.o cok_1 (Nat.le_of_ble_eq_true rfl) q525 ⟨rfl, rfl⟩ (Or.inl rfl) rfl (fun _ _ _ => rfl) Pab_15 dX1_next_122 ?_
          refine r_iload (pc := 125) dX1_next_125 rfl ?_
          refine r_lald (pc := 127) hTa (by omega) (by omega) dX1_next_127 (fun hr127 => ?_)
          refine r_aload_n (pc := 128) dX1_next_128 rfl rfl ?_
          refine r_getr (pc := 129) (c := 1) (k := 10) (kz := 10) hx2.o cok_1 (Nat.le_of_ble_eq_true rfl) q520 ⟨rfl, rfl⟩ (Or.inl rfl) rfl (fun _ _ _ => rfl) hx2.p_unseen dX1_next_129 ?_
          refine r_iload_n (pc := 132) dX1_next_132 rfl rfl ?_
          refine r_iald (pc := 133) hx2.t_unseen (by omega) (by omega) dX1_next_133 (fun hr133 => ?_)
          rw [eu'] at hr133 ⊢
          refine r_iload (pc := 134) dX1_next_134 rfl ?_
          refine r_aload_n (pc := 136) dX1_next_136 rfl rfl ?_
          refine r_getr (pc := 137) (c := 1) (k := 12) (kz := 12) hx2.o cok_1 (Nat.le_of_ble_eq_true rfl) q522 ⟨rfl, rfl⟩ (Or.inl rfl) rfl (fun _ _ _ => rfl) hx2.p_scale dX1_next_137 ?_
          refine r_iload (pc := 140) dX1_next_140 rfl ?_
          refine r_iald (pc := 142) hx2.t_scale (by omega) (by omega) dX1_next_142 (fun hr142 => ?_)
          rw [esc] at hr142 ⊢
          refine r_idiv (pc := 143) dX1_next_143 (by omega) (by omega) ?_
          refine r_aload_n (pc := 144) dX1_next_144 rfl rfl ?_
          refine r_getr (pc := 145) (c := 1) (k := 10) (kz := 10) hx2.o cok_1 (Nat.le_of_ble_eq_true rfl) q520 ⟨rfl, rfl⟩ (Or.inl rfl) rfl (fun _ _ _ => rfl) hx2.p_unseen dX1_next_145 ?_
          refine r_iload_n (pc := 148) dX1_next_148 rfl rfl ?_
          refine r_iald (pc := 149) hx2.t_unseen (by omega) (by omega) dX1_next_149 (fun hr149 => ?_)
          rw [eu'] at hr149 ⊢
          refine r_iconst (pc := 150) dX1_next_150 ?_
          refine r_iadd (pc := 151) dX1_next_151 ?_
          refine r_irem (pc := 152) dX1_next_152 (by omega) (by omega) ?_
          refine r_isub (pc := 153) dX1_next_153 ?_
          refine r_i2l (pc := 154) dX1_next_154 (by omega) ?_
          refine r_lmul (pc := 155) dX1_next_155 ?_
          refine r_ladd (pc := 156) dX1_next_156 ?_
          refine r_lstore6 (pc := 157) (Nat.le_of_ble_eq_true rfl) dX1_next_157 rfl ?_
          rw [← evs, Int.add_assoc, e2]
          refine r_iinc9 (pc := 159) (Nat.le_of_ble_eq_true rfl) dX1_next_159 rfl ?_
          refine r_goto (pc := 162) 110 dX1_next_162 rfl ?_
          exact ihq (s + 1) (by omega) (by omega)
      have hi := inner S 0 (by omega) (by omega)
      rw [show sm f (0 : Int).toNat = 0 from rfl, Int.add_zero] at hi
      exact hi
  exact outer n 0 _ (by omega) (by omega)
end P16
