/-! ===== the component: a line of an evening ===== -/
section P20
variable {G : GE} {I J I' J' : HI} {P P' : HP} {T T' : HT} {z z' z0 r tp g t en d : Nat} {Q : QT} {X : XT} {τ ρ σ rd : Int → Int} {Ls : List (List Int)} {s s' : TS} {e e' : EV}
theorem D_eline (h : EWd G I P T z0 z r tp g t en τ Ls s e) (hρ : RES ρ) (h0 : σ 0 = e.1 0) (h1 : σ 1 = e.1 1) {a to : Int} (ha : isP e.1 a) (hl : 0 ≤ e.2.2.1 ∧ e.2.2.1 < 1000)
    (hQ : (e_1 τ ρ σ to a s rd).1 ≠ 0 → isG 59 (e_1 τ ρ σ to a s rd).2.1 → ∀ I' J' P' T' z', EQv G z0 z r tp g t en τ Ls I J P T (g_nx τ (e_1 τ ρ σ to a s rd).2.1) (ev2 (e_1 τ ρ σ to a s rd).2.2 to e) I' J' P' T' z' → Q none I' J' P' T' z')
    (hX0 : (e_1 τ ρ σ to a s rd).1 = 0 → XE X z0 g I J P T ((e_1 τ ρ σ to a s rd).2.1.1 15) ((e_1 τ ρ σ to a s rd).2.1.1 16)) (hX1 : (e_1 τ ρ σ to a s rd).1 ≠ 0 → ¬ isG 59 (e_1 τ ρ σ to a s rd).2.1 → XE X z0 g I J P T 1 ((e_1 τ ρ σ to a s rd).2.1.1 12)) : MC G yX15_line (ws_ yX15_line cX15_line 6 (none : Option FieldType)) (d + 10) 37 492 [.ref r, iv a] I J P T z Q X := by
  have hw := h.ej.2.2.2.2.1
  have ht := hw.cv.ta
  refine MC.of (by decide) (Nat.le_of_ble_eq_true rfl) ?_
  show PW G mX15_line (rmD (d + 10) 37 492) (MZ G Q X 37 492) 0 0 I J P T z 0 [some (.ref r), some (iv a), none, none, none, none] []
  refine r_aload_n (pc := 0) dX15_line_0 rfl rfl ?_
  refine r_aload_n (pc := 1) dX15_line_1 rfl rfl ?_
  refine r_ldcS (pc := 2) 9 rfl rfl dX15_line_2 ?_
  refine r_callU1 (pc := 4) (C_isE h.rd h.ti.t (h.2.1.st (i := 9) rfl rfl) we0.1 fe_i) im_X12_is rfl q1559 q1558 q1557 h.o rfl dX15_line_4 (Nat.le_of_ble_eq_true rfl) (Nat.le_of_ble_eq_true rfl) rfl (k_fi ?_) (fun _ _ _ _ _ _ _ hx => no_x hx)
  rw [we0.2]
  unfold e_1 at hQ hX0 hX1
  by_cases c1 : isW 1634954099 s
  · rw [if_neg (fun c => c c1)] at hQ hX0 hX1
    rw [bz_t c1]
    refine r_iconst (pc := 7) dX15_line_7 ?_
    refine r_callU2 (pc := 8) (C_needE (S := fun a => a < z0) (X := X) (Q := fe I J P T z none) h.rd h.ti.t h.ti.p (by omega) (by omega) h.rz h.S0 (fun _ => fe_i) (fun c => absurd c (by decide))) im_X12_need rfl q1547 q1546 q1545 h.o rfl dX15_line_8 (Nat.le_of_ble_eq_true rfl) (Nat.le_of_ble_eq_true rfl) rfl (k_fv ?_) (fun _ _ _ _ _ _ _ hx => x_out rfl (Nat.le_of_ble_eq_true rfl) (Nat.le_of_ble_eq_true rfl) hx)
    refine r_aload_n (pc := 11) dX15_line_11 rfl rfl ?_
    refine r_callU0 (pc := 12) (E_go (Q := er none (EQv G z0 z r tp g t en τ Ls I J P T (g_nx τ s) e)) h (fun I' J' P' T' z' a => er_i a)) im_X12_go rfl q1541 q1540 q1539 h.o rfl dX15_line_12 (Nat.le_of_ble_eq_true rfl) (Nat.le_of_ble_eq_true rfl) rfl (k_er fun I1 J1 P1 T1 z1 a1 => ?_) (fun _ _ _ _ _ _ _ hx => no_x hx)
    have hw1 := a1.2.2.2
    have hg1 := hw1.sh
    generalize g_nx τ s = s1 at hQ hX0 hX1 a1 hw1
    show PW G mX15_line (rmD (d + 10) 37 492) (MZ G Q X 37 492) 5 68 I1 J1 P1 T1 z1 15 [some (.ref r), some (iv a), none, none, none, none] []
    refine r_aload_n (pc := 15) dX15_line_15 rfl rfl ?_
    refine r_aload_n (pc := 16) dX15_line_16 rfl rfl ?_
    refine r_getr (pc := 17) (c := 15) (k := 9) (kz := 9) hw1.o cok_15 (Nat.le_of_ble_eq_true rfl) q1510 ⟨rfl, rfl⟩ (Or.inl rfl) rfl (fun _ _ _ => rfl) hw1.pg dX15_line_17 ?_
    refine r_getrN (pc := 20) (c := 3) (k := 0) (kz := 0) hg1.o cok_3 (Nat.le_of_ble_eq_true rfl) q262 ⟨rfl, rfl⟩ (Or.inl rfl) rfl (fun _ _ _ => rfl) hg1.2.2 dX15_line_20 ?_
    unfold e_2 at hQ hX0 hX1
    have hn : e.1 1 = ((σ 1).toNat : Int) := by rw [h1]; omega
    refine r_callU1 (pc := 23) (E_person (ρ := ρ) (X := X) (Q := fun v I' J' P' T' z' => isN ρ s1 ∧ 0 ≤ t_find s1.2.2.2 s1.2.1 0 0 (σ 1).toNat ∧ er (some (iv (t_find s1.2.2.2 s1.2.1 0 0 (σ 1).toNat))) (EQv G z0 z1 r tp g t en τ Ls I1 J1 P1 T1 (g_nx τ s1) e) v I' J' P' T' z') hw1 hρ hn (fun q1 q2 I' J' P' T' z' a => ⟨q1, q2, er_i a⟩) (fun q => by rw [if_pos q] at hX0; exact (hX0 rfl).bd.xk a1) (fun q q2 => by rw [if_neg (fun c => c q), if_pos q2] at hX0; exact (hX0 rfl).bd.xk a1)) im_X12_person rfl q1551 q1550 q1549 hw1.o rfl dX15_line_23 (Nat.le_of_ble_eq_true rfl) (Nat.le_of_ble_eq_true rfl) rfl (fun v I' J' P' T' z' ⟨q1, q2, hv⟩ => k_er (fun I2 J2 P2 T2 z2 a2 => ?_) v I' J' P' T' z' hv) (fun _ _ _ _ _ _ _ hx => x_out rfl (Nat.le_of_ble_eq_true rfl) (Nat.le_of_ble_eq_true rfl) hx)
    rw [if_neg (fun c => c q1), if_neg (by omega)] at hQ hX0 hX1
    have fr := t_find_r (ν := s1.2.2.2) (w := s1.2.1) (f := 0) (σ 1).toNat 0 (by omega)
    generalize t_find s1.2.2.2 s1.2.1 0 0 (σ 1).toNat = b at *
    have a2 := a1.tr a2
    clear a1 hw1 hg1
    have hw2 := a2.2.2.2
    have hg2 := hw2.sh
    generalize g_nx τ s1 = s2 at hQ hX0 hX1 a2 hw2
    have hbP : isP e.1 b := by omega
    show PW G mX15_line (rmD (d + 10) 37 492) (MZ G Q X 37 492) 15 204 I2 J2 P2 T2 z2 26 [some (.ref r), some (iv a), none, none, none, none] [iv b]
    refine r_istore_n2 (pc := 26) (Nat.le_of_ble_eq_true rfl) dX15_line_26 rfl ?_
    refine r_aload_n (pc := 27) dX15_line_27 rfl rfl ?_
    refine r_iconst (pc := 28) dX15_line_28 ?_
    refine r_aload_n (pc := 29) dX15_line_29 rfl rfl ?_
    refine r_getr (pc := 30) (c := 15) (k := 9) (kz := 9) hw2.o cok_15 (Nat.le_of_ble_eq_true rfl) q1510 ⟨rfl, rfl⟩ (Or.inl rfl) rfl (fun _ _ _ => rfl) hw2.pg dX15_line_30 ?_
    refine r_getrN (pc := 33) (c := 3) (k := 0) (kz := 0) hg2.o cok_3 (Nat.le_of_ble_eq_true rfl) q262 ⟨rfl, rfl⟩ (Or.inl rfl) rfl (fun _ _ _ => rfl) hg2.2.2 dX15_line_33 ?_
    refine r_getiN (pc := 36) (c := 2) (k := 0) (kz := 0) hg2.2.1.o cok_2 (Nat.le_of_ble_eq_true rfl) q201 ⟨rfl, rfl⟩ (Or.inl rfl) rfl (fun _ _ _ => rfl) dX15_line_36 (fun hr36 => ?_)
    rw [hw2.ej.2.2.2.1.ta.1] at hr36 ⊢
    refine r_iconst (pc := 39) dX15_line_39 ?_
    refine r_isub (pc := 40) dX15_line_40 ?_
    unfold e_3 at hQ hX0 hX1
    rw [h0] at hQ hX0 hX1
    refine r_callU2 (pc := 41) (E_takes (X := X) (Q := fun v I' J' P' T' z' => (g_takes τ 0 (e.1 0 - 1) s2).1 ≠ 0 ∧ (g_takes τ 0 (e.1 0 - 1) s2).2.1 18 = s2.1 14 ∧ 0 ≤ s2.1 14 ∧ s2.1 14 ≤ e.1 0 - 1 ∧ er (some (iv (s2.1 14))) (EQv G z0 z2 r tp g t en τ Ls I2 J2 P2 T2 (g_takes τ 0 (e.1 0 - 1) s2).2 e) v I' J' P' T' z') hw2 (by omega) (by omega) (fun q1 q2 q3 q4 I' J' P' T' z' a => ⟨q1, q2, q3, q4, er_i a⟩) (fun q => by rw [if_pos q] at hX0; exact (hX0 rfl).xk a2)) im_X12_number rfl q1562 q1561 q1560 hw2.o rfl dX15_line_41 (Nat.le_of_ble_eq_true rfl) (Nat.le_of_ble_eq_true rfl) rfl (fun v I' J' P' T' z' ⟨q1, q2, q3, q4, hv⟩ => k_er (fun I3 J3 P3 T3 z3 a3 => ?_) v I' J' P' T' z' hv) (fun _ _ _ _ _ _ _ hx => x_out rfl (Nat.le_of_ble_eq_true rfl) (Nat.le_of_ble_eq_true rfl) hx)
    rw [if_neg q1, q2] at hQ hX0 hX1
    generalize (g_takes τ 0 (e.1 0 - 1) s2).2 = s3 at hQ hX0 hX1 a3
    generalize s2.1 14 = k at *
    have a3 := a2.tr a3
    clear a2 hw2 hg2
    have hw3 := a3.2.2.2
    have hkK : isK e.1 k := by omega
    show PW G mX15_line (rmD (d + 10) 37 492) (MZ G Q X 37 492) 21 280 I3 J3 P3 T3 z3 44 [some (.ref r), some (iv a), some (iv b), none, none, none] [iv k]
    -- the end of a line: read, then judged
    have fin : ∀ (s4 : TS) (n : Int) (I4 J4 : HI) (P4 : HP) (T4 : HT) (z4 : Nat) (l4 : Int), rg n → (∀ rd4, rd4 to = a → rd4 (to + 1) = b → rd4 (to + 2) = k → rd4 (to + 3) = n → isG 59 s4 → ∀ I' J' P' T' z', EQv G z0 z r tp g t en τ Ls I J P T (g_nx τ s4) (ev2 rd4 to e) I' J' P' T' z' → Q none I' J' P' T' z') → (¬ isG 59 s4 → XE X z0 g I J P T 1 (s4.1 12)) → EQv G z0 z r tp g t en τ Ls I J P T s4 e I4 J4 P4 T4 z4 → PW G mX15_line (rmD (d + 10) 37 492) (MZ G Q X 37 492) 32 424 I4 J4 P4 T4 z4 96 [some (.ref r), some (iv a), some (iv b), some (iv k), some (iv l4), none] [iv n] := by
      intro s4 n I4 J4 P4 T4 z4 l4 hn4 hQ4 hX4 a4
      have hw4 := a4.2.2.2
      refine r_istore5 (pc := 96) (Nat.le_of_ble_eq_true rfl) dX15_line_96 rfl ?_
      refine r_aload_n (pc := 98) dX15_line_98 rfl rfl ?_
      refine r_callU0 (pc := 99) (E_end (X := X) (Q := fun v I' J' P' T' z' => isG 59 s4 ∧ er none (EQv G z0 z4 r tp g t en τ Ls I4 J4 P4 T4 (g_nx τ s4) e) v I' J' P' T' z') hw4 (fun q I' J' P' T' z' a => ⟨q, er_i a⟩) (fun q => (hX4 q).xk a4)) im_X12_end rfl q1567 q1566 q1565 hw4.o rfl dX15_line_99 (Nat.le_of_ble_eq_true rfl) (Nat.le_of_ble_eq_true rfl) rfl (fun v I' J' P' T' z' ⟨q1, hv⟩ => k_er (fun I5 J5 P5 T5 z5 a5 => ?_) v I' J' P' T' z' hv) (fun _ _ _ _ _ _ _ hx => x_out rfl (Nat.le_of_ble_eq_true rfl) (Nat.le_of_ble_eq_true rfl) hx)
      have a5 := a4.tr a5
      have hw5 := a5.2.2.2
      have h11 := hw5.ej.2.2.2.2.2.2.1
      obtain ⟨rd4, f1, f2, f3, f4⟩ : ∃ rd4 : Int → Int, rd4 to = a ∧ rd4 (to + 1) = b ∧ rd4 (to + 2) = k ∧ rd4 (to + 3) = n := ⟨us (us (us (us rd to a) (to + 1) b) (to + 2) k) (to + 3) n, by rw [us_n (by omega), us_n (by omega), us_n (by omega), us_s], by rw [us_n (by omega), us_n (by omega), us_s], by rw [us_n (by omega), us_s], us_s⟩
      have hQ4 := hQ4 rd4 f1 f2 f3 f4 q1
      unfold ev2 at hQ4
      rw [f1, f2, f3, f4] at hQ4
      show PW G mX15_line (rmD (d + 10) 37 492) (MZ G Q X 37 492) 37 492 I5 J5 P5 T5 z5 102 [some (.ref r), some (iv a), some (iv b), some (iv k), some (iv l4), some (iv n)] []
      refine r_aload_n (pc := 102) dX15_line_102 rfl rfl ?_
      refine r_geti (pc := 103) (c := 15) (k := 11) (kz := 11) hw5.o cok_15 (Nat.le_of_ble_eq_true rfl) q1513 ⟨rfl, rfl⟩ (Or.inl rfl) rfl (fun _ _ _ => rfl) dX15_line_103 (fun hr103 => ?_)
      rw [h11] at hr103 ⊢
      refine r_if_ne (pc := 106) 118 dX15_line_106 rfl (by omega) (fun h106 => ?_) (fun h106 => ?_)
      · rw [if_neg h106] at hQ4
        refine r_return (pc := 118) rfl dX15_line_118 (Nat.le_of_ble_eq_true rfl) (Nat.le_of_ble_eq_true rfl) ?_
        exact hQ4 _ _ _ _ _ a5
      rw [if_pos h106] at hQ4
      refine r_aload_n (pc := 109) dX15_line_109 rfl rfl ?_
      refine r_iload_n (pc := 110) dX15_line_110 rfl rfl ?_
      refine r_iload_n (pc := 111) dX15_line_111 rfl rfl ?_
      refine r_iload_n (pc := 112) dX15_line_112 rfl rfl ?_
      refine r_iload (pc := 113) dX15_line_113 rfl ?_
      refine r_callV4 (pc := 115) (C_judge (d := d + 2) (Q := fun v I' J' P' T' z' => J' = J5 ∧ P' = P5 ∧ T' = T5 ∧ z' = z5 ∧ v = none ∧ JF r g I5 I' ∧ EJ G I' P5 T5 r g t (ev1 a b k n e)) hw5.ej ha hbP hkK hn4 hl (fun I' p q => ⟨rfl, rfl, rfl, rfl, rfl, p, q⟩)) im_X15_judge qs47 q1568 hw5.o rfl dX15_line_115 (Nat.le_of_ble_eq_true rfl) (Nat.le_of_ble_eq_true rfl) rfl (fun v I' J' P' T' z' hv => ?_) (fun _ _ _ _ _ _ _ hx => no_x hx)
      obtain ⟨rfl, rfl, rfl, rfl, rfl, hf6, he6⟩ := hv
      have hw6 := hw5.jd hf6 he6 (ev1_1 hw ha hbP hkK (by omega) (by omega))
      show PW G mX15_line (rmD (d + 10) 37 492) (MZ G Q X 37 492) 37 492 I' J' P' T' z' 118 [some (.ref r), some (iv a), some (iv b), some (iv k), some (iv l4), some (iv n)] []
      refine r_return (pc := 118) rfl dX15_line_118 (Nat.le_of_ble_eq_true rfl) (Nat.le_of_ble_eq_true rfl) ?_
      exact hQ4 _ _ _ _ _ ⟨a5.1, a5.2.1.tr (JF.fs hw5 hf6), a5.2.2.1, hw6⟩
    refine r_istore_n3 (pc := 44) (Nat.le_of_ble_eq_true rfl) dX15_line_44 rfl ?_
    refine r_aload_n (pc := 45) dX15_line_45 rfl rfl ?_
    refine r_ldcS (pc := 46) 10 rfl rfl dX15_line_46 ?_
    refine r_callU1 (pc := 48) (C_isE hw3.rd hw3.ti.t (hw3.2.1.st (i := 10) rfl rfl) we1.1 fe_i) im_X12_is rfl q1559 q1558 q1557 hw3.o rfl dX15_line_48 (Nat.le_of_ble_eq_true rfl) (Nat.le_of_ble_eq_true rfl) rfl (k_fi ?_) (fun _ _ _ _ _ _ _ hx => no_x hx)
    rw [we1.2]
    unfold e_tail at hQ hX0 hX1
    refine r_istore4 (pc := 51) (Nat.le_of_ble_eq_true rfl) dX15_line_51 rfl ?_
    refine r_aload_n (pc := 53) dX15_line_53 rfl rfl ?_
    refine r_iload (pc := 54) dX15_line_54 rfl ?_
    -- after the word
    have wd : ∀ l4 : Int, (l4 = 0 ∨ l4 = 1) → (l4 = 1 → isW 444150998387 s3) → (l4 = 0 → isW 28271 s3) → PW G mX15_line (rmD (d + 10) 37 492) (MZ G Q X 37 492) 21 280 I3 J3 P3 T3 z3 68 [some (.ref r), some (iv a), some (iv b), some (iv k), some (iv l4), none] [.ref r] := by
      intro l4 hl4 hg1 hg0
      refine r_iconst (pc := 68) dX15_line_68 ?_
      refine r_goto (pc := 69) 73 dX15_line_69 rfl ?_
      refine r_iconst (pc := 73) dX15_line_73 ?_
      refine r_callU2 (pc := 74) (C_needE (S := fun a => a < z0) (X := X) (Q := fe I3 J3 P3 T3 z3 none) hw3.rd hw3.ti.t hw3.ti.p (by omega) (by omega) hw3.rz hw3.S0 (fun _ => fe_i) (fun c => absurd c (by decide))) im_X12_need rfl q1547 q1546 q1545 hw3.o rfl dX15_line_74 (Nat.le_of_ble_eq_true rfl) (Nat.le_of_ble_eq_true rfl) rfl (k_fv ?_) (fun _ _ _ _ _ _ _ hx => x_out rfl (Nat.le_of_ble_eq_true rfl) (Nat.le_of_ble_eq_true rfl) hx)
      refine r_aload_n (pc := 77) dX15_line_77 rfl rfl ?_
      refine r_callU0 (pc := 78) (E_go (Q := er none (EQv G z0 z3 r tp g t en τ Ls I3 J3 P3 T3 (g_nx τ s3) e)) hw3 (fun I' J' P' T' z' a => er_i a)) im_X12_go rfl q1541 q1540 q1539 hw3.o rfl dX15_line_78 (Nat.le_of_ble_eq_true rfl) (Nat.le_of_ble_eq_true rfl) rfl (k_er fun I4 J4 P4 T4 z4 a4 => ?_) (fun _ _ _ _ _ _ _ hx => no_x hx)
      have a4 := a3.tr a4
      have hw4 := a4.2.2.2
      show PW G mX15_line (rmD (d + 10) 37 492) (MZ G Q X 37 492) 26 348 I4 J4 P4 T4 z4 81 [some (.ref r), some (iv a), some (iv b), some (iv k), some (iv l4), none] []
      refine r_iload (pc := 81) dX15_line_81 rfl ?_
      refine r_if_eq (pc := 83) 95 dX15_line_83 rfl (by omega) (fun h83 => ?_) (fun h83 => ?_)
      · have w0 := hg0 h83
        rw [if_pos w0] at hQ hX0 hX1
        refine r_iconst (pc := 95) dX15_line_95 ?_
        refine r_widen (cu' := 32) (su' := 424) (by decide) (by decide) ?_
        exact fin (g_nx τ s3) 0 I4 J4 P4 T4 z4 _ (by omega) (fun rd4 p1 p2 p3 p4 q => by
          have hQ := hQ (by simp) q
          unfold ev2 at hQ ⊢
          simp (disch := omega) only [us_n, us_s] at hQ
          rw [p1, p2, p3, p4]
          exact hQ) (fun q => hX1 (by simp) q) a4
      have w1 := hg1 (by omega)
      rw [if_neg (fun c => by have := c.2; have := w1.2; omega), if_neg (fun c => c w1)] at hQ hX0 hX1
      generalize g_nx τ s3 = s4 at *
      refine r_aload_n (pc := 86) dX15_line_86 rfl rfl ?_
      refine r_iconst (pc := 87) dX15_line_87 ?_
      refine r_iconst (pc := 88) dX15_line_88 ?_
      refine r_callU2 (pc := 89) (E_takes (X := X) (Q := fun v I' J' P' T' z' => (g_takes τ 1 4 s4).1 ≠ 0 ∧ (g_takes τ 1 4 s4).2.1 18 = s4.1 14 ∧ 1 ≤ s4.1 14 ∧ s4.1 14 ≤ 4 ∧ er (some (iv (s4.1 14))) (EQv G z0 z4 r tp g t en τ Ls I4 J4 P4 T4 (g_takes τ 1 4 s4).2 e) v I' J' P' T' z') hw4 (by omega) (by omega) (fun q1 q2 q3 q4 I' J' P' T' z' a => ⟨q1, q2, q3, q4, er_i a⟩) (fun q => by rw [if_pos q] at hX0; exact (hX0 rfl).xk a4)) im_X12_number rfl q1562 q1561 q1560 hw4.o rfl dX15_line_89 (Nat.le_of_ble_eq_true rfl) (Nat.le_of_ble_eq_true rfl) rfl (fun v I' J' P' T' z' ⟨q1, q2, q3, q4, hv⟩ => k_er (fun I5 J5 P5 T5 z5 a5 => ?_) v I' J' P' T' z' hv) (fun _ _ _ _ _ _ _ hx => x_out rfl (Nat.le_of_ble_eq_true rfl) (Nat.le_of_ble_eq_true rfl) hx)
      rw [if_neg q1, q2] at hQ hX0 hX1
      have a5 := a4.tr a5
      show PW G mX15_line (rmD (d + 10) 37 492) (MZ G Q X 37 492) 32 424 I5 J5 P5 T5 z5 92 [some (.ref r), some (iv a), some (iv b), some (iv k), some (iv l4), none] [iv (s4.1 14)]
      refine r_goto (pc := 92) 96 dX15_line_92 rfl ?_
      exact fin (g_takes τ 1 4 s4).2 (s4.1 14) I5 J5 P5 T5 z5 _ (by omega) (fun rd4 p1 p2 p3 p4 q => by
        have hQ := hQ (by simp) q
        unfold ev2 at hQ ⊢
        simp (disch := omega) only [us_n, us_s] at hQ
        rw [p1, p2, p3, p4]
        exact hQ) (fun q => hX1 (by simp) q) a5
    by_cases c2 : isW 444150998387 s3
    · rw [bz_t c2]
      refine r_if_ne (pc := 56) 68 dX15_line_56 rfl (by omega) (fun h56 => ?_) (fun h56 => ?_)
      · exact wd 1 (Or.inr rfl) (fun _ => c2) (fun c => absurd c (by decide))
      exact absurd h56 (by decide)
    rw [bz_f c2]
    refine r_if_ne (pc := 56) 68 dX15_line_56 rfl (by omega) (fun h56 => ?_) (fun h56 => ?_)
    · exact absurd rfl h56
    refine r_aload_n (pc := 59) dX15_line_59 rfl rfl ?_
    refine r_ldcS (pc := 60) 11 rfl rfl dX15_line_60 ?_
    refine r_callU1 (pc := 62) (C_isE hw3.rd hw3.ti.t (hw3.2.1.st (i := 11) rfl rfl) we2.1 fe_i) im_X12_is rfl q1559 q1558 q1557 hw3.o rfl dX15_line_62 (Nat.le_of_ble_eq_true rfl) (Nat.le_of_ble_eq_true rfl) rfl (k_fi ?_) (fun _ _ _ _ _ _ _ hx => no_x hx)
    rw [we2.2]
    by_cases c3 : isW 28271 s3
    · rw [bz_t c3]
      refine r_if_eq (pc := 65) 72 dX15_line_65 rfl (by omega) (fun h65 => ?_) (fun h65 => ?_)
      · exact absurd h65 (by decide)
      exact wd 0 (Or.inl rfl) (fun c => absurd c (by decide)) (fun _ => c3)
    rw [bz_f c3]
    rw [if_neg c3, if_pos c2] at hX0
    refine r_if_eq (pc := 65) 72 dX15_line_65 rfl (by omega) (fun h65 => ?_) (fun h65 => ?_)
    · refine r_iconst (pc := 72) dX15_line_72 ?_
      refine r_iconst (pc := 73) dX15_line_73 ?_
      refine r_callU2 (pc := 74) (C_needE (S := fun a => a < z0) (X := X) (Q := fg ((0 : Int) = 1) I3 J3 P3 T3 z3 none) hw3.rd hw3.ti.t hw3.ti.p (by omega) (by omega) hw3.rz hw3.S0 fg_i (fun _ => by rw [one1]; exact (hX0 rfl).bd.xk a3)) im_X12_need rfl q1547 q1546 q1545 hw3.o rfl dX15_line_74 (Nat.le_of_ble_eq_true rfl) (Nat.le_of_ble_eq_true rfl) rfl (k_gnv fun h => by omega) (fun _ _ _ _ _ _ _ hx => x_out rfl (Nat.le_of_ble_eq_true rfl) (Nat.le_of_ble_eq_true rfl) hx)
    exact absurd rfl h65
  rw [if_pos c1] at hX0
  rw [bz_f c1]
  refine r_iconst (pc := 7) dX15_line_7 ?_
  refine r_callU2 (pc := 8) (C_needE (S := fun a => a < z0) (X := X) (Q := fg ((0 : Int) = 1) I J P T z none) h.rd h.ti.t h.ti.p (by omega) (by omega) h.rz h.S0 fg_i (fun _ => by rw [one1]; exact (hX0 rfl).bd.xk (EQv.rf h))) im_X12_need rfl q1547 q1546 q1545 h.o rfl dX15_line_8 (Nat.le_of_ble_eq_true rfl) (Nat.le_of_ble_eq_true rfl) rfl (k_gnv fun h => by omega) (fun _ _ _ _ _ _ _ hx => x_out rfl (Nat.le_of_ble_eq_true rfl) (Nat.le_of_ble_eq_true rfl) hx)
end P20
