/-! ===== odds: whom to ask, the walk ===== -/
def f_wk (σ V : Int → Int) (o q : Int) : Nat → Int → Int × Int → Int × Int
  | 0, _, y => y
  | m + 1, k, y => if q = o ∨ σ (60 + 13 * o + k) = 0 then f_wk σ V o q m (k + 1) y else if V k ≤ y.1 then f_wk σ V o q m (k + 1) y else f_wk σ V o q m (k + 1) (V k, 100 * q + k)
def f_wq (σ : Int → Int) (V : Int → Int → Int) (o : Int) : Nat → Int → Int × Int → Int × Int
  | 0, _, y => y
  | m + 1, q, y => f_wq σ V o m (q + 1) (f_wk σ (V q) o q (σ 0).toNat 0 y)
section N6
variable {G : GE} {I I0 I' J : HI} {P P' P1 : HP} {T : HT} {z : Nat} {x t d g : Nat} {Q : QT} {σ μ ω υ κ sc : Int → Int}
theorem C_whom (hx : XS G I P T x t σ μ) {a0 b0 : Nat} (ha : P x 15 = some a0) (hbn : P x 16 = some b0) (hab : (a0 = x + 80 ∧ b0 = x + 81) ∨ (a0 = x + 81 ∧ b0 = x + 80)) {o : Int} (ho : rg o)
    (hQ : if ¬ (isP σ o ∧ f_cards σ o ≠ 0) then Q (some (iv (-1))) (hU I x υ κ sc ω) J P T z else ∀ Y, Y = f_kd (un σ o) (σ 0).toNat 0 (0, fun _ => 0) → ∀ υ' κ' sc' ω', (∀ j, j ≠ 13 → j ≠ 14 → ω' j = ω j) → if ¬ (Y.1 ≠ 0 ∧ f_sl σ o ≤ 12) then Q (some (iv (-1))) (hU I x υ' κ' sc' ω') J P T z else
      ∀ all, all = TW Y.2.2 Y.2.1.toNat (LM σ o (-1) (-1) (σ 1).toNat 0) (fun _ => 1) (fun i => un σ o (Y.2.2 i)) → ∀ a b J', ((a = x + 80 ∧ b = x + 81) ∨ (a = x + 81 ∧ b = x + 80)) → (∀ c : Nat, c ≠ x + 80 → c ≠ x + 81 → J' c = J c) → Q (some (iv (if 0 < all then (f_wq σ (fun q k => f_wt σ Y.2.2 (fun i => un σ o (Y.2.2 i)) Y.2.1.toNat o q k all) o (σ 1).toNat 0 (-1, -1)).2 else -1))) (hU I x υ' κ' sc' ω') J' (Pab P x a b) T z) : MC G yX1_whom (ws_ yX1_whom cX1_whom 11 (some FieldType.int)) (d + 5) 0 0 [.ref x, iv o] (hU I x υ κ sc ω) J P T z Q nX := by
  have hb := hx.b
  have ht := hx.ta
  have hcv := hx.w.cv
  have hx1 : XS G (hU I x υ κ sc ω) P T x t σ μ := hx.hu
  refine MC.of (by decide) (Nat.le_of_ble_eq_true rfl) ?_
  show PW G mX1_whom (rmD (d + 5) 0 0) (MZ G Q nX 0 0) 0 0 (hU I x υ κ sc ω) J P T z 0 [some (.ref x), some (iv o), none, none, none, none, none, none, none, none, none] []
  have bad : ¬ (isP σ o ∧ f_cards σ o ≠ 0) → PW G mX1_whom (rmD (d + 5) 0 0) (MZ G Q nX 0 0) 0 0 (hU I x υ κ sc ω) J P T z 30 [some (.ref x), some (iv o), none, none, none, none, none, none, none, none, none] [] := by
    intro c
    rw [if_pos c] at hQ
    refine r_iconst (pc := 30) dX1_whom_30 ?_
    refine r_ireturn (pc := 31) rfl rfl dX1_whom_31 (Nat.le_of_ble_eq_true rfl) (Nat.le_of_ble_eq_true rfl) ?_
    exact hQ
  refine r_aload_n (pc := 0) dX1_whom_0 rfl rfl ?_
  refine r_getr (pc := 1) (c := 1) (k := 3) (kz := 3) hx1.o cok_1 (Nat.le_of_ble_eq_true rfl) q513 ⟨rfl, rfl⟩ (Or.inl rfl) rfl (fun _ _ _ => rfl) hx1.p_table dX1_whom_1 ?_
  refine r_iload_n (pc := 4) dX1_whom_4 rfl rfl ?_
  refine r_callV1 (pc := 5) (C_isP hx1 ho fe_i) im_X2_isPerson q1203 q1201 hx1.tb.o rfl dX1_whom_5 (Nat.le_of_ble_eq_true rfl) (Nat.le_of_ble_eq_true rfl) rfl (k_fi ?_) (fun _ _ _ _ _ _ _ hx => no_x hx)
  refine r_if_eq (pc := 8) 30 dX1_whom_8 rfl bz_g (fun h8 => ?_) (fun h8 => ?_)
  · exact bad (fun c => bz_0.mp h8 c.1)
  have q1 := bz_ne.mp h8
  have o6 : 0 ≤ o ∧ o < 6 := by omega
  have c9 := hcv.cd o6.1 o6.2
  have c7 := hcv.hp.1
  refine r_aload_n (pc := 11) dX1_whom_11 rfl rfl ?_
  refine r_getr (pc := 12) (c := 1) (k := 4) (kz := 4) hx1.o cok_1 (Nat.le_of_ble_eq_true rfl) q514 ⟨rfl, rfl⟩ (Or.inl rfl) rfl (fun _ _ _ => rfl) hx1.p_now dX1_whom_12 ?_
  refine r_iload_n (pc := 15) dX1_whom_15 rfl rfl ?_
  refine r_callV1 (pc := 16) (C_size hx1.g hx1.r o6 fe_i) im_X3_size q383 q1207 hx1.g.o rfl dX1_whom_16 (Nat.le_of_ble_eq_true rfl) (Nat.le_of_ble_eq_true rfl) rfl (k_fi ?_) (fun _ _ _ _ _ _ _ hx => no_x hx)
  refine r_if_eq (pc := 19) 30 dX1_whom_19 rfl (by omega) (fun h19 => ?_) (fun h19 => ?_)
  · exact bad (fun c => c.2 h19)
  rw [if_neg (fun c => c ⟨q1, h19⟩)] at hQ
  replace hQ := hQ _ rfl
  have hlay := @C_lay G I J P T z x t (d + 2) (fun v I' J' P' T' z' => J' = J ∧ P' = P ∧ T' = T ∧ z' = z ∧ v = some (iv (bz ((f_kd (un σ o) (σ 0).toNat 0 (0, fun _ => 0)).1 ≠ 0 ∧ f_sl σ o ≤ 12))) ∧ ∃ υ' κ' sc' ω', I' = hU I x υ' κ' sc' ω' ∧ (∀ j, j ≠ 13 → j ≠ 14 → ω' j = ω j) ∧ ((f_kd (un σ o) (σ 0).toNat 0 (0, fun _ => 0)).1 ≠ 0 → ∃ S s2, UL I' x (f_kd (un σ o) (σ 0).toNat 0 (0, fun _ => 0)).2.1.toNat (fun i => un σ o ((f_kd (un σ o) (σ 0).toNat 0 (0, fun _ => 0)).2.2 i)) (f_kd (un σ o) (σ 0).toNat 0 (0, fun _ => 0)).2.2 s2 S)) σ μ ω υ κ sc hx o (by omega) (fun υ' κ' sc' ω' h1 h2 => ⟨rfl, rfl, rfl, rfl, rfl, υ', κ', sc', ω', rfl, h1, h2⟩)
  generalize f_kd (un σ o) (σ 0).toNat 0 (0, fun _ => 0) = Y at hQ hlay
  refine r_aload_n (pc := 22) dX1_whom_22 rfl rfl ?_
  refine r_iload_n (pc := 23) dX1_whom_23 rfl rfl ?_
  refine r_callV1 (pc := 24) hlay im_X1_layUnseen qs31 q1316 hx1.o rfl dX1_whom_24 (Nat.le_of_ble_eq_true rfl) (Nat.le_of_ble_eq_true rfl) rfl (?_) (fun _ _ _ _ _ _ _ hx => no_x hx)
  intro v I' J' P' T' z' h
  obtain ⟨rfl, rfl, rfl, rfl, rfl, υ', κ', sc', ω', rfl, hω, hUL⟩ := h
  replace hQ := hQ υ' κ' sc' ω' hω
  have hx1 : XS G (hU I x υ' κ' sc' ω') P' T' x t σ μ := hx.hu
  generalize hU I x υ' κ' sc' ω' = I1 at hQ hUL hx1
  show PW G mX1_whom (rmD (d + 5) 0 0) (MZ G Q nX 0 0) 0 0 I1 J' P' T' z' 27 [some (.ref x), some (iv o), none, none, none, none, none, none, none, none, none] [iv (bz (Y.1 ≠ 0 ∧ f_sl σ o ≤ 12))]
  refine r_if_ne (pc := 27) 32 dX1_whom_27 rfl bz_g (fun h27 => ?_) (fun h27 => ?_)
  · have q2 := bz_ne.mp h27
    rw [if_neg (fun c => c q2)] at hQ
    replace hQ := hQ _ rfl
    obtain ⟨S, s2, hU1⟩ := hUL q2.1
    have hn6 := hU1.1
    have hu : ∀ i : Int, 0 ≤ i → i < Y.2.1.toNat → un σ o (Y.2.2 i) ≤ 4 := fun i p q => (hU1.2.2.2.2.2.2 i p q).2.2.2.2.2
    generalize Y.2.1.toNat = n at hQ hU1 hn6 hu
    generalize Y.2.2 = κc at hQ hU1 hu
    have tl : ∀ q0 nt, 0 ≤ TW κc n (LM σ o q0 nt (σ 1).toNat 0) (fun _ => 1) (fun i => un σ o (κc i)) ∧ TW κc n (LM σ o q0 nt (σ 1).toNat 0) (fun _ => 1) (fun i => un σ o (κc i)) ≤ 36520347436056576 := fun q0 nt => TW_le hn6 hu (LM_12 hcv q2.2)
    have ta := tl (-1) (-1)
    refine r_aload_n (pc := 32) dX1_whom_32 rfl rfl ?_
    refine r_iload_n (pc := 33) dX1_whom_33 rfl rfl ?_
    refine r_iconst (pc := 34) dX1_whom_34 ?_
    refine r_iconst (pc := 35) dX1_whom_35 ?_
    refine r_callV3 (pc := 36) (C_ways (Q := fun v I' J'' P'' T'' zz => I' = I1 ∧ T'' = T' ∧ zz = z' ∧ v = some (jv (TW κc n (LM σ o (-1) (-1) (σ 1).toNat 0) (fun _ => 1) (fun i => un σ o (κc i)))) ∧ ∃ a b, P'' = Pab P' x a b ∧ ((a = x + 80 ∧ b = x + 81) ∨ (a = x + 81 ∧ b = x + 80)) ∧ (∀ c : Nat, c ≠ x + 80 → c ≠ x + 81 → J'' c = J' c)) hx1 hU1 ha hbn hab o6 (Or.inl ⟨rfl, rfl⟩) (LM_12 hcv q2.2) (fun a b J'' h1 h2 _ => ⟨rfl, rfl, rfl, rfl, a, b, rfl, h1, h2⟩)) im_X1_count qs32 q1320 hx1.o rfl dX1_whom_36 (Nat.le_of_ble_eq_true rfl) (Nat.le_of_ble_eq_true rfl) rfl (?_) (fun _ _ _ _ _ _ _ hx => no_x hx)
    intro v I2 J2 P2 T2 z2 h
    obtain ⟨rfl, rfl, rfl, rfl, a, b, rfl, hab2, hJ2⟩ := h
    have wr9 : ∀ q k, -36520347436056576 ≤ f_wt σ κc (fun i => un σ o (κc i)) n o q k (TW κc n (LM σ o (-1) (-1) (σ 1).toNat 0) (fun _ => 1) (fun i => un σ o (κc i))) ∧ f_wt σ κc (fun i => un σ o (κc i)) n o q k (TW κc n (LM σ o (-1) (-1) (σ 1).toNat 0) (fun _ => 1) (fun i => un σ o (κc i))) ≤ 36520347436056576 := fun q k => by
      have := tl q k
      unfold f_wt
      split <;> omega
    generalize TW κc n (LM σ o (-1) (-1) (σ 1).toNat 0) (fun _ => 1) (fun i => un σ o (κc i)) = all at hQ ta wr9
    have hr := hx1.r
    show PW G mX1_whom (rmD (d + 5) 0 0) (MZ G Q nX 0 0) 0 0 I2 J2 (Pab P' x a b) T2 z2 39 [some (.ref x), some (iv o), none, none, none, none, none, none, none, none, none] [jv all]
    refine r_lstore_n2 (pc := 39) (Nat.le_of_ble_eq_true rfl) dX1_whom_39 rfl ?_
    refine r_iconst (pc := 40) dX1_whom_40 ?_
    refine r_istore4 (pc := 41) (Nat.le_of_ble_eq_true rfl) dX1_whom_41 rfl ?_
    refine r_ldc2 (pc := 43) (x := -1) q1335 dX1_whom_43 (by decide +kernel) ?_
    refine r_lstore5 (pc := 46) (Nat.le_of_ble_eq_true rfl) dX1_whom_46 rfl ?_
    refine r_iconst (pc := 48) dX1_whom_48 ?_
    refine r_istore7 (pc := 49) (Nat.le_of_ble_eq_true rfl) dX1_whom_49 rfl ?_
    have fin : ∀ (a b : Nat) (J3 : HI) (mo be : Int) (l7 l8 l9 l10 : Option Value), ((a = x + 80 ∧ b = x + 81) ∨ (a = x + 81 ∧ b = x + 80)) → (∀ c : Nat, c ≠ x + 80 → c ≠ x + 81 → J3 c = J' c) → be = (if 0 < all then (f_wq σ (fun q k => f_wt σ κc (fun i => un σ o (κc i)) n o q k all) o (σ 1).toNat 0 (-1, -1)).2 else -1) → PW G mX1_whom (rmD (d + 5) 0 0) (MZ G Q nX 0 0) 0 0 I2 J3 (Pab P' x a b) T2 z2 157 [some (.ref x), some (iv o), some (jv all), none, some (iv be), some (jv mo), none, l7, l8, l9, l10] [] := by
      intro a b J3 mo be l7 l8 l9 l10 h1 h2 h3
      refine r_iload (pc := 157) dX1_whom_157 rfl ?_
      refine r_ireturn (pc := 159) rfl rfl dX1_whom_159 (Nat.le_of_ble_eq_true rfl) (Nat.le_of_ble_eq_true rfl) ?_
      rw [h3]
      exact hQ a b J3 h1 h2
    have loop : ∀ (m : Nat) (q : Int) (a b : Nat) (J3 : HI) (mo be : Int) (l8 l9 l10 : Option Value), 0 ≤ q → q + m = σ 1 → ((a = x + 80 ∧ b = x + 81) ∨ (a = x + 81 ∧ b = x + 80)) → (∀ c : Nat, c ≠ x + 80 → c ≠ x + 81 → J3 c = J' c) → (-36520347436056576 ≤ mo ∧ mo ≤ 36520347436056576) → (0 < all → f_wq σ (fun q k => f_wt σ κc (fun i => un σ o (κc i)) n o q k all) o (σ 1).toNat 0 (-1, -1) = f_wq σ (fun q k => f_wt σ κc (fun i => un σ o (κc i)) n o q k all) o m q (mo, be)) → (¬ 0 < all → be = -1) → PW G mX1_whom (rmD (d + 5) 0 0) (MZ G Q nX 0 0) 0 0 I2 J3 (Pab P' x a b) T2 z2 51 [some (.ref x), some (iv o), some (jv all), none, some (iv be), some (jv mo), none, some (iv q), l8, l9, l10] [] := by
      intro m
      induction m with
      | zero =>
        intro q a b J3 mo be l8 l9 l10 h0 hm h1 h2 h3 h4 h5
        have hx3 := hx1.pab (a := a) (b := b)
        refine r_iload (pc := 51) dX1_whom_51 rfl ?_
        refine r_aload_n (pc := 53) dX1_whom_53 rfl rfl ?_
        refine r_getr (pc := 54) (c := 1) (k := 3) (kz := 3) hx3.o cok_1 (Nat.le_of_ble_eq_true rfl) q513 ⟨rfl, rfl⟩ (Or.inl rfl) rfl (fun _ _ _ => rfl) hx3.p_table dX1_whom_54 ?_
        refine r_callV0 (pc := 57) (C_many hx3.tb fe_i) im_X2_many q369 q1241 hx3.tb.o rfl dX1_whom_57 (Nat.le_of_ble_eq_true rfl) (Nat.le_of_ble_eq_true rfl) rfl (k_fi ?_) (fun _ _ _ _ _ _ _ hx => no_x hx)
        rw [hx3.r.ta.2.1]
        refine r_icmp_ge (pc := 60) 157 dX1_whom_60 rfl (by omega) (by omega) (fun h60 => ?_) (fun h60 => ?_)
        · refine fin a b J3 mo be _ _ _ _ h1 h2 ?_
          split
          · rename_i c; rw [h4 c]; rfl
          · rename_i c; exact h5 c
        omega
      | succ m ih =>
        intro q a b J3 mo be l8 l9 l10 h0 hm h1 h2 h3 h4 h5
        have hx3 := hx1.pab (a := a) (b := b)
        have lr := lc_r (x := all) (y := 0)
        have lg := lc_gt (x := all) (y := 0)
        refine r_iload (pc := 51) dX1_whom_51 rfl ?_
        refine r_aload_n (pc := 53) dX1_whom_53 rfl rfl ?_
        refine r_getr (pc := 54) (c := 1) (k := 3) (kz := 3) hx3.o cok_1 (Nat.le_of_ble_eq_true rfl) q513 ⟨rfl, rfl⟩ (Or.inl rfl) rfl (fun _ _ _ => rfl) hx3.p_table dX1_whom_54 ?_
        refine r_callV0 (pc := 57) (C_many hx3.tb fe_i) im_X2_many q369 q1241 hx3.tb.o rfl dX1_whom_57 (Nat.le_of_ble_eq_true rfl) (Nat.le_of_ble_eq_true rfl) rfl (k_fi ?_) (fun _ _ _ _ _ _ _ hx => no_x hx)
        rw [hx3.r.ta.2.1]
        refine r_icmp_ge (pc := 60) 157 dX1_whom_60 rfl (by omega) (by omega) (fun h60 => ?_) (fun h60 => ?_)
        · omega
        refine r_lload_n (pc := 63) dX1_whom_63 rfl rfl ?_
        refine r_lconst (pc := 64) (x := 0) dX1_whom_64 (by decide +kernel) ?_
        refine r_lcmp (pc := 65) dX1_whom_65 (by omega) (by omega) ?_
        refine r_if_le (pc := 66) 157 dX1_whom_66 rfl (by omega) (fun h66 => ?_) (fun h66 => ?_)
        · have c : ¬ 0 < all := fun c => by have := lg.mpr c; omega
          refine fin a b J3 mo be _ _ _ _ h1 h2 ?_
          rw [if_neg c]; exact h5 c
        have call := lg.mp (by omega)
        refine r_iconst (pc := 69) dX1_whom_69 ?_
        refine r_istore8 (pc := 70) (Nat.le_of_ble_eq_true rfl) dX1_whom_70 rfl ?_
        have inner : ∀ (w : Nat) (k : Int) (a b : Nat) (J3 : HI) (mo be : Int) (l9 l10 : Option Value), 0 ≤ k → k + w = σ 0 → ((a = x + 80 ∧ b = x + 81) ∨ (a = x + 81 ∧ b = x + 80)) → (∀ c : Nat, c ≠ x + 80 → c ≠ x + 81 → J3 c = J' c) → (-36520347436056576 ≤ mo ∧ mo ≤ 36520347436056576) → f_wq σ (fun q k => f_wt σ κc (fun i => un σ o (κc i)) n o q k all) o (σ 1).toNat 0 (-1, -1) = f_wq σ (fun q k => f_wt σ κc (fun i => un σ o (κc i)) n o q k all) o m (q + 1) (f_wk σ (fun k => f_wt σ κc (fun i => un σ o (κc i)) n o q k all) o q w k (mo, be)) → PW G mX1_whom (rmD (d + 5) 0 0) (MZ G Q nX 0 0) 0 0 I2 J3 (Pab P' x a b) T2 z2 72 [some (.ref x), some (iv o), some (jv all), none, some (iv be), some (jv mo), none, some (iv q), some (iv k), l9, l10] [] := by
          intro w
          induction w with
          | zero =>
            intro k a b J3 mo be l9 l10 k0 kw h1 h2 h3 h4
            have hx3 := hx1.pab (a := a) (b := b)
            refine r_iload (pc := 72) dX1_whom_72 rfl ?_
            refine r_aload_n (pc := 74) dX1_whom_74 rfl rfl ?_
            refine r_getr (pc := 75) (c := 1) (k := 3) (kz := 3) hx3.o cok_1 (Nat.le_of_ble_eq_true rfl) q513 ⟨rfl, rfl⟩ (Or.inl rfl) rfl (fun _ _ _ => rfl) hx3.p_table dX1_whom_75 ?_
            refine r_getiN (pc := 78) (c := 2) (k := 0) (kz := 0) hx3.tb.o cok_2 (Nat.le_of_ble_eq_true rfl) q205 ⟨rfl, rfl⟩ (Or.inl rfl) rfl (fun _ _ _ => rfl) dX1_whom_78 (fun hr78 => ?_)
            rw [hr.ta.1] at hr78 ⊢
            refine r_icmp_ge (pc := 81) 151 dX1_whom_81 rfl (by omega) (by omega) (fun h81 => ?_) (fun h81 => ?_)
            · refine r_iinc7 (pc := 151) (Nat.le_of_ble_eq_true rfl) dX1_whom_151 rfl ?_
              refine r_goto (pc := 154) 51 dX1_whom_154 rfl ?_
              exact ih (q + 1) a b J3 mo be _ _ _ (by omega) (by omega) h1 h2 h3 (fun _ => h4) (fun c => absurd call c)
            omega
          | succ w ihw =>
            intro k a b J3 mo be l9 l10 k0 kw h1 h2 h3 h4
            have hx3 := hx1.pab (a := a) (b := b)
            have skip : ∀ (a b : Nat) (J3 : HI) (mo be : Int) (l9 l10 : Option Value), ((a = x + 80 ∧ b = x + 81) ∨ (a = x + 81 ∧ b = x + 80)) → (∀ c : Nat, c ≠ x + 80 → c ≠ x + 81 → J3 c = J' c) → (-36520347436056576 ≤ mo ∧ mo ≤ 36520347436056576) → f_wq σ (fun q k => f_wt σ κc (fun i => un σ o (κc i)) n o q k all) o (σ 1).toNat 0 (-1, -1) = f_wq σ (fun q k => f_wt σ κc (fun i => un σ o (κc i)) n o q k all) o m (q + 1) (f_wk σ (fun k => f_wt σ κc (fun i => un σ o (κc i)) n o q k all) o q w (k + 1) (mo, be)) → PW G mX1_whom (rmD (d + 5) 0 0) (MZ G Q nX 0 0) 0 0 I2 J3 (Pab P' x a b) T2 z2 145 [some (.ref x), some (iv o), some (jv all), none, some (iv be), some (jv mo), none, some (iv q), some (iv k), l9, l10] [] := by
              intro a b J3 mo be l9 l10 h1 h2 h3 h4
              refine r_iinc8 (pc := 145) (Nat.le_of_ble_eq_true rfl) dX1_whom_145 rfl ?_
              refine r_goto (pc := 148) 72 dX1_whom_148 rfl ?_
              exact ihw (k + 1) a b J3 mo be l9 l10 (by omega) (by omega) h1 h2 h3 h4
            have nx : (q = o ∨ σ (60 + 13 * o + k) = 0) → ∀ l9 l10 : Option Value, PW G mX1_whom (rmD (d + 5) 0 0) (MZ G Q nX 0 0) 0 0 I2 J3 (Pab P' x a b) T2 z2 145 [some (.ref x), some (iv o), some (jv all), none, some (iv be), some (jv mo), none, some (iv q), some (iv k), l9, l10] [] := by
              intro c l9 l10
              refine skip a b J3 mo be l9 l10 h1 h2 h3 ?_
              rw [h4]
              conv => lhs; unfold f_wk
              rw [if_pos c]
            refine r_iload (pc := 72) dX1_whom_72 rfl ?_
            refine r_aload_n (pc := 74) dX1_whom_74 rfl rfl ?_
            refine r_getr (pc := 75) (c := 1) (k := 3) (kz := 3) hx3.o cok_1 (Nat.le_of_ble_eq_true rfl) q513 ⟨rfl, rfl⟩ (Or.inl rfl) rfl (fun _ _ _ => rfl) hx3.p_table dX1_whom_75 ?_
            refine r_getiN (pc := 78) (c := 2) (k := 0) (kz := 0) hx3.tb.o cok_2 (Nat.le_of_ble_eq_true rfl) q205 ⟨rfl, rfl⟩ (Or.inl rfl) rfl (fun _ _ _ => rfl) dX1_whom_78 (fun hr78 => ?_)
            rw [hr.ta.1] at hr78 ⊢
            refine r_icmp_ge (pc := 81) 151 dX1_whom_81 rfl (by omega) (by omega) (fun h81 => ?_) (fun h81 => ?_)
            · omega
            refine r_iload (pc := 84) dX1_whom_84 rfl ?_
            refine r_iload_n (pc := 86) dX1_whom_86 rfl rfl ?_
            refine r_icmp_eq (pc := 87) 145 dX1_whom_87 rfl (by omega) (by omega) (fun h87 => ?_) (fun h87 => ?_)
            · exact nx (Or.inl h87) _ _
            refine r_aload_n (pc := 90) dX1_whom_90 rfl rfl ?_
            refine r_getr (pc := 91) (c := 1) (k := 4) (kz := 4) hx3.o cok_1 (Nat.le_of_ble_eq_true rfl) q514 ⟨rfl, rfl⟩ (Or.inl rfl) rfl (fun _ _ _ => rfl) hx3.p_now dX1_whom_91 ?_
            refine r_getrN (pc := 94) (c := 3) (k := 1) (kz := 1) hx3.g.o cok_3 (Nat.le_of_ble_eq_true rfl) q273 ⟨rfl, rfl⟩ (Or.inl rfl) rfl (fun _ _ _ => rfl) hx3.g.p_hand dX1_whom_94 ?_
            refine r_iload_n (pc := 97) dX1_whom_97 rfl rfl ?_
            refine r_aald (pc := 98) hx3.g.t_hand ⟨by decide, by decide⟩ rfl (fun _ _ _ => rfl) (by omega) (by omega) (hx3.g.q_hand (by omega) (by omega)) dX1_whom_98 ?_
            refine r_iload (pc := 99) dX1_whom_99 rfl ?_
            refine r_iald (pc := 101) (hx3.g.u_hand (by omega) (by omega)) (by omega) (by omega) dX1_whom_101 (fun hr101 => ?_)
            rw [hr.hand o6.1 o6.2 k0 (by omega)] at hr101 ⊢
            refine r_if_ne (pc := 102) 108 dX1_whom_102 rfl (by omega) (fun h102 => ?_) (fun h102 => ?_)
            · refine r_aload_n (pc := 108) dX1_whom_108 rfl rfl ?_
              refine r_iload_n (pc := 109) dX1_whom_109 rfl rfl ?_
              refine r_iload (pc := 110) dX1_whom_110 rfl ?_
              refine r_iload (pc := 112) dX1_whom_112 rfl ?_
              refine r_lload_n (pc := 114) dX1_whom_114 rfl rfl ?_
              refine r_callV4 (pc := 115) (C_with (Q := fun v I' J'' P'' T'' zz => I' = I2 ∧ T'' = T2 ∧ zz = z2 ∧ v = some (jv (f_wt σ κc (fun i => un σ o (κc i)) n o q k all)) ∧ ∃ a b, P'' = Pab P' x a b ∧ ((a = x + 80 ∧ b = x + 81) ∨ (a = x + 81 ∧ b = x + 80)) ∧ (∀ c : Nat, c ≠ x + 80 → c ≠ x + 81 → J'' c = J3 c)) hx3 hU1 Pab_15 Pab_16 h1 o6 (by omega) (by omega) q2.2 (fun a b J'' h1 h2 => ⟨rfl, rfl, rfl, rfl, a, b, Pab_Pab, h1, h2⟩)) im_X1_with qs34 q1336 hx3.o rfl dX1_whom_115 (Nat.le_of_ble_eq_true rfl) (Nat.le_of_ble_eq_true rfl) rfl (?_) (fun _ _ _ _ _ _ _ hx => no_x hx)
              intro v I4 J4 P4 T4 z4 h
              obtain ⟨rfl, rfl, rfl, rfl, a4, b4, rfl, hab4, hJ4⟩ := h
              have hJ5 : ∀ c : Nat, c ≠ x + 80 → c ≠ x + 81 → J4 c = J' c := fun c p p2 => by rw [hJ4 c p p2]; exact h2 c p p2
              have wrk := wr9 q k
              generalize hv : f_wt σ κc (fun i => un σ o (κc i)) n o q k all = vv at wrk
              have lr2 := lc_r (x := vv) (y := mo)
              have lg2 := lc_gt (x := vv) (y := mo)
              show PW G mX1_whom (rmD (d + 5) 0 0) (MZ G Q nX 0 0) 0 0 I4 J4 (Pab P' x a4 b4) T4 z4 118 [some (.ref x), some (iv o), some (jv all), none, some (iv be), some (jv mo), none, some (iv q), some (iv k), l9, l10] [jv vv]
              refine r_lstore9 (pc := 118) (Nat.le_of_ble_eq_true rfl) dX1_whom_118 rfl ?_
              refine r_lload (pc := 120) dX1_whom_120 rfl ?_
              refine r_lload (pc := 122) dX1_whom_122 rfl ?_
              refine r_lcmp (pc := 124) dX1_whom_124 (by omega) (by omega) ?_
              refine r_if_gt (pc := 125) 131 dX1_whom_125 rfl (by omega) (fun h125 => ?_) (fun h125 => ?_)
              · have c := lg2.mp h125
                refine r_lload (pc := 131) dX1_whom_131 rfl ?_
                refine r_lstore5 (pc := 133) (Nat.le_of_ble_eq_true rfl) dX1_whom_133 rfl ?_
                refine r_bipush (pc := 135) dX1_whom_135 (by decide +kernel) ?_
                refine r_iload (pc := 137) dX1_whom_137 rfl ?_
                refine r_imul (pc := 139) dX1_whom_139 ?_
                refine r_iload (pc := 140) dX1_whom_140 rfl ?_
                refine r_iadd (pc := 142) dX1_whom_142 ?_
                refine r_istore4 (pc := 143) (Nat.le_of_ble_eq_true rfl) dX1_whom_143 rfl ?_
                refine skip a4 b4 J4 vv (100 * q + k) _ _ hab4 hJ5 wrk ?_
                rw [h4]
                conv => lhs; unfold f_wk
                rw [if_neg (by omega), if_neg (by rw [hv]; show ¬ vv ≤ mo; omega), hv]
              refine r_goto (pc := 128) 145 dX1_whom_128 rfl ?_
              refine skip a4 b4 J4 mo be _ _ hab4 hJ5 h3 ?_
              rw [h4]
              conv => lhs; unfold f_wk
              rw [if_neg (by omega), if_pos (by rw [hv]; show vv ≤ mo; have : ¬ mo < vv := (fun c => by have := lg2.mpr c; omega); omega)]
            refine r_goto (pc := 105) 145 dX1_whom_105 rfl ?_
            exact nx (Or.inr (by omega)) _ _
        exact inner (σ 0).toNat 0 a b J3 mo be l9 l10 (by omega) (by omega) h1 h2 h3 (h4 call)
    exact loop (σ 1).toNat 0 a b J2 (-1) (-1) none none none (by omega) (by omega) hab2 hJ2 (by omega) (fun _ => rfl) (fun _ => rfl)
  rw [if_pos (bz_0.mp h27)] at hQ
  refine r_iconst (pc := 30) dX1_whom_30 ?_
  refine r_ireturn (pc := 31) rfl rfl dX1_whom_31 (Nat.le_of_ble_eq_true rfl) (Nat.le_of_ble_eq_true rfl) ?_
  exact hQ
end N6
