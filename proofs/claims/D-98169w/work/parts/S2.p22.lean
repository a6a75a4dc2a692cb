/-! ===== the component: an evening is read to its end ===== -/
section P22
variable {G : GE} {I J I' J' : HI} {P P' : HP} {T T' : HT} {z z' z0 r tp g t en d : Nat} {Q : QT} {X : XT} {τ ρ σ rd : Int → Int} {Ls : List (List Int)} {s s' : TS} {e e' : EV}
theorem EWd.fz (h : EWd G I P T z0 z r tp g t en τ Ls s e) (hz : z ≤ z') (hf : FZ z I J P T I' J' P' T') (hzz : ∀ a, z ≤ a → (T a).1 = 0) : EQv G z0 z r tp g t en τ Ls I J P T s e I' J' P' T' z' := ⟨hz, hf.fs (fun a q => (h.S a q).1), fun a q => by
    have := h.1
    have k := hf a (by omega)
    exact ⟨k.2.1, k.2.2.1, k.2.2.2⟩, h.rf hz (hf.toRF h.rz) (h.rd.fz hf h.rz h.tz hzz) rfl h.ti h.g5 hzz⟩
set_option maxRecDepth 100000 in
theorem D_eread (h : EW0 G I P T z0 z r tp g t en τ Ls s e) (hρ : RES ρ) (h0 : σ 0 = e.1 0) (h1 : σ 1 = e.1 1) (hl : e.2.2.1 = 0) (h52 : s.1 52 = 0)
    (hQ : (e_tab τ ρ σ 31 (g_nx τ s) rd).1 = 1 → ∀ (n : Nat) I' J' P' T' z', (e_tab τ ρ σ 31 (g_nx τ s) rd).2.1.1 52 = n → n ≤ 30 → EQv G z0 z r tp g t en τ Ls I J P T (e_tab τ ρ σ 31 (g_nx τ s) rd).2.1 (evs (e_tab τ ρ σ 31 (g_nx τ s) rd).2.2 n e) I' J' P' T' z' → Q (some (.ref r)) I' J' P' T' z')
    (hX : (e_tab τ ρ σ 31 (g_nx τ s) rd).1 = 0 → XE X z0 g I J P T ((e_tab τ ρ σ 31 (g_nx τ s) rd).2.1.1 15) ((e_tab τ ρ σ 31 (g_nx τ s) rd).2.1.1 16)) : MC G yX15_read (ws_ yX15_read cX15_read 2 (some (FieldType.object "SevenTable$EveningReader"))) (d + 11) 1680 22140 [.ref r] I J P T z Q X := by
  have hw0 := h.2.2.2.1.2.2.2.2.1
  have ht := hw0.cv.ta
  refine MC.of (by decide) (Nat.le_of_ble_eq_true rfl) ?_
  show PW G mX15_read (rmD (d + 11) 1680 22140) (MZ G Q X 1680 22140) 0 0 I J P T z 0 [some (.ref r), none] []
  refine r_tz fun hzz => ?_
  have hb : G.2.2.2.1 ≤ r := by have := h.1; omega
  have htz : tp < z := by have := h.1; omega
  refine r_aload_n (pc := 0) dX15_read_0 rfl rfl ?_
  refine r_callU0 (pc := 1) (C_goE (Q := er none (EQv G z0 z r tp g t en τ Ls I J P T (g_nx τ s) e)) h.2.2.1 h.2.2.2.2.2.2.2 hb h.1.2.2.2.1 htz (fun I' J' P' T' z' a b c => er_i (h.go a b c hzz))) im_X12_go rfl q1541 q1540 q1539 h.2.2.1.1 rfl dX15_read_1 (Nat.le_of_ble_eq_true rfl) (Nat.le_of_ble_eq_true rfl) rfl (k_er fun I1 J1 P1 T1 z1 a => ?_) (fun _ _ _ _ _ _ _ hx => no_x hx)
  have hn : e.1 1 = ((σ 1).toNat : Int) := by rw [h1]; omega
  have loop : ∀ (n j : Nat) (I1 J1 : HI) (P1 : HP) (T1 : HT) (z1 : Nat) (s1 : TS) (rd1 : Int → Int), e_tab τ ρ σ 31 (g_nx τ s) rd = e_tab τ ρ σ n s1 rd1 → j + n = 31 → j ≤ 30 → s1.1 52 = j → EQv G z0 z r tp g t en τ Ls I J P T s1 (evs rd1 j e) I1 J1 P1 T1 z1 → PW G mX15_read (rmD (d + 11) 1680 22140) (MZ G Q X 1680 22140) (4+54*j) (60+712*j) I1 J1 P1 T1 z1 6 [some (.ref r), some (iv j)] [] := by
    intro n
    induction n with
    | zero =>
      intro j I1 J1 P1 T1 z1 s1 rd1 he hj hj30 h5 a
      omega
    | succ n ih =>
      intro j I1 J1 P1 T1 z1 s1 rd1 he hj hj30 h5 a
      have hw1 := a.2.2.2
      have hcs := hw1.rd.2.cs hw1.ti.t
      have hej : (evs rd1 j e).1 0 = e.1 0 ∧ (evs rd1 j e).1 1 = e.1 1 := by
        have k1 := hw1.ln
        have k2 := h.2.2.2.2.2.2.1
        have k3 := hw1.ej.2.2.2.1.ta.1
        have k4 := h.2.2.2.1.2.2.2.1.ta.1
        have k5 := (a.2.1 t ⟨by have := h.1; omega, h.2.2.2.1.2.2.2.2.2.2.2.2.1⟩).1
        rw [k5] at k3
        exact ⟨k3.symm.trans k4, by omega⟩
      have hll := evs_l (rd := rd1) (e := e) j
      obtain ⟨e1, he1⟩ : ∃ e1, e1 = evs rd1 j e := ⟨_, rfl⟩
      have a0 := a
      rw [← he1] at a hw1 hej hll
      refine r_tz fun hzz1 => ?_
      refine r_aload_n (pc := 6) dX15_read_6 rfl rfl ?_
      refine r_geti (pc := 7) (c := 15) (k := 4) (kz := 4) hw1.o cok_15 (Nat.le_of_ble_eq_true rfl) q624 ⟨rfl, rfl⟩ (Or.inr q625) rfl (fun _ _ _ => rfl) dX15_read_7 (fun hr7 => ?_)
      refine r_if_eq (pc := 10) 89 dX15_read_10 rfl (by omega) (fun h10 => ?_) (fun h10 => ?_)
      · have h0' : s1.1 11 = 0 := by omega
        have eg : e_tab τ ρ σ (n + 1) s1 rd1 = (1, s1, rd1) := by
          show (if s1.1 11 = 0 then _ else _) = _
          rw [if_pos h0']
        rw [he, eg] at hQ
        refine r_aload_n (pc := 89) dX15_read_89 rfl rfl ?_
        refine r_areturn (pc := 90) rfl (Or.inl ⟨_, rfl⟩) dX15_read_90 (by omega) (by omega) ?_
        exact hQ rfl j _ _ _ _ _ h5 hj30 a0
      have h0' : s1.1 11 ≠ 0 := by omega
      have eg : e_tab τ ρ σ (n + 1) s1 rd1 = (if (e_line τ ρ σ s1 rd1).1 = 0 then (0, (e_line τ ρ σ s1 rd1).2.1, (e_line τ ρ σ s1 rd1).2.2) else if ¬ isG 59 (e_line τ ρ σ s1 rd1).2.1 then (0, g_bad 1 (e_line τ ρ σ s1 rd1).2.1, (e_line τ ρ σ s1 rd1).2.2) else e_tab τ ρ σ n (g_w 52 ((g_nx τ (e_line τ ρ σ s1 rd1).2.1).1 52 + 1) (g_nx τ (e_line τ ρ σ s1 rd1).2.1)) (e_line τ ρ σ s1 rd1).2.2) := by
        conv => lhs; unfold e_tab
        rw [if_neg h0']
      rw [he, eg] at hX
      rw [eg] at he
      refine r_aload_n (pc := 13) dX15_read_13 rfl rfl ?_
      refine r_aload_n (pc := 14) dX15_read_14 rfl rfl ?_
      refine r_callU0 (pc := 15) (C_isNameE (Q := er (some (iv (bz (isN ρ s1)))) (EQv G z0 z1 r tp g t en τ Ls I1 J1 P1 T1 s1 e1)) hw1.rd hw1.ti.t hw1.rz hw1.2.1 hρ (fun I' J' P' T' z' a b => er_i (hw1.fz a b hzz1))) im_X12_isName rfl q1544 q1543 q1542 hw1.o rfl dX15_read_15 (by omega) (by omega) rfl (k_er fun I2 J2 P2 T2 z2 a2 => ?_) (fun _ _ _ _ _ _ _ hx => no_x hx)
      have a2 := a.tr a2
      have hw2 := a2.2.2.2
      show PW G mX15_read (rmD (d + 11) 1680 22140) (MZ G Q X 1680 22140) (4+54*j+4) (60+712*j+60) I2 J2 P2 T2 z2 18 [some (.ref r), some (iv j)] [iv (bz (isN ρ s1)), .ref r]
      by_cases c1 : isN ρ s1
      · rw [bz_t c1]
        have h4 : s1.1 11 ≠ 4 := by have := c1.1; omega
        refine r_iconst (pc := 18) dX15_read_18 ?_
        refine r_callU2 (pc := 19) (C_needE (S := fun a => a < z0) (X := X) (Q := fe I2 J2 P2 T2 z2 none) hw2.rd hw2.ti.t hw2.ti.p (by omega) (by omega) hw2.rz hw2.S0 (fun _ => fe_i) (fun c => absurd c (by decide))) im_X12_need rfl q1547 q1546 q1545 hw2.o rfl dX15_read_19 (by omega) (by omega) rfl (k_fv ?_) (fun _ _ _ _ _ _ _ hx => x_out rfl (by omega) (by omega) hx)
        obtain ⟨-, w, L, hPw, hsw, hWL, hco⟩ := hw2.rd.2.2.2.1 c1.1
        have hg2 := hw2.sh
        have hlen : Ls.length = (σ 1).toNat := by have := hw2.ln; omega
        have efi : ixo Ls L 0 Ls.length = t_find s1.2.2.2 s1.2.1 0 0 (σ 1).toNat := by rw [ixo_find hWL hw2.nm Ls.length 0 (by omega) (by omega), hco, hlen]
        have hfr := t_find_r (ν := s1.2.2.2) (w := s1.2.1) (f := 0) (σ 1).toNat 0 (by omega)
        have eL : e_line τ ρ σ s1 rd1 = (if t_find s1.2.2.2 s1.2.1 0 0 (σ 1).toNat < 0 then (0, g_bad 3 s1, rd1) else if s1.1 52 = 30 then (0, g_bad 4 s1, rd1) else e_1 τ ρ σ (4 * s1.1 52) (t_find s1.2.2.2 s1.2.1 0 0 (σ 1).toNat) (g_nx τ s1) rd1) := by
          unfold e_line
          rw [if_neg (fun c => c c1)]
        refine r_aload_n (pc := 22) dX15_read_22 rfl rfl ?_
        refine r_aload_n (pc := 23) dX15_read_23 rfl rfl ?_
        refine r_getr (pc := 24) (c := 15) (k := 9) (kz := 9) hw2.o cok_15 (Nat.le_of_ble_eq_true rfl) q1510 ⟨rfl, rfl⟩ (Or.inl rfl) rfl (fun _ _ _ => rfl) hw2.pg dX15_read_24 ?_
        refine r_getrN (pc := 27) (c := 3) (k := 0) (kz := 0) hg2.o cok_3 (Nat.le_of_ble_eq_true rfl) q262 ⟨rfl, rfl⟩ (Or.inl rfl) rfl (fun _ _ _ => rfl) hg2.2.2 dX15_read_27 ?_
        refine r_getrN (pc := 30) (c := 2) (k := 5) (kz := 5) hg2.2.1.o cok_2 (Nat.le_of_ble_eq_true rfl) q220 ⟨rfl, rfl⟩ (Or.inl rfl) rfl (fun _ _ _ => rfl) hg2.2.1.p_names dX15_read_30 ?_
        refine r_aload_n (pc := 33) dX15_read_33 rfl rfl ?_
        refine r_getr (pc := 34) (c := 15) (k := 8) (kz := 8) hw2.o cok_15 (Nat.le_of_ble_eq_true rfl) q635 ⟨rfl, rfl⟩ (Or.inr q636) rfl (fun _ _ _ => rfl) hPw dX15_read_34 ?_
        refine r_callV1 (pc := 37) (C_ixof (d := d + 7) hw2.nl hsw fe_i) im_J2_indexOf q1068 q1548 hw2.nl.1 rfl dX15_read_37 (by omega) (by omega) rfl (k_fi ?_) (fun _ _ _ _ _ _ _ hx => no_x hx)
        rw [efi]
        refine r_if_lt (pc := 40) 47 dX15_read_40 rfl (by omega) (fun h40 => ?_) (fun h40 => ?_)
        · rw [if_pos (by omega)] at eL
          rw [eL] at hX
          refine r_iconst (pc := 47) dX15_read_47 ?_
          refine r_iconst (pc := 48) dX15_read_48 ?_
          refine r_callU2 (pc := 49) (C_needE (S := fun a => a < z0) (X := X) (Q := fg ((0 : Int) = 1) I2 J2 P2 T2 z2 none) hw2.rd hw2.ti.t hw2.ti.p (by omega) (by omega) hw2.rz hw2.S0 fg_i (fun _ => by rw [if_neg h4]; exact (hX rfl).bd.xk a2)) im_X12_need rfl q1547 q1546 q1545 hw2.o rfl dX15_read_49 (by omega) (by omega) rfl (k_gnv fun h => by omega) (fun _ _ _ _ _ _ _ hx => x_out rfl (by omega) (by omega) hx)
        rw [if_neg (by omega)] at eL
        refine r_iconst (pc := 43) dX15_read_43 ?_
        refine r_goto (pc := 44) 48 dX15_read_44 rfl ?_
        refine r_iconst (pc := 48) dX15_read_48 ?_
        refine r_callU2 (pc := 49) (C_needE (S := fun a => a < z0) (X := X) (Q := fe I2 J2 P2 T2 z2 none) hw2.rd hw2.ti.t hw2.ti.p (by omega) (by omega) hw2.rz hw2.S0 (fun _ => fe_i) (fun c => absurd c (by decide))) im_X12_need rfl q1547 q1546 q1545 hw2.o rfl dX15_read_49 (by omega) (by omega) rfl (k_fv ?_) (fun _ _ _ _ _ _ _ hx => x_out rfl (by omega) (by omega) hx)
        refine r_aload_n (pc := 52) dX15_read_52 rfl rfl ?_
        refine r_iload_n (pc := 53) dX15_read_53 rfl rfl ?_
        refine r_bipush (pc := 54) dX15_read_54 (by decide +kernel) ?_
        refine r_icmp_ge (pc := 56) 63 dX15_read_56 rfl (by omega) (by omega) (fun h56 => ?_) (fun h56 => ?_)
        · rw [if_pos (by omega)] at eL
          rw [eL] at hX
          refine r_iconst (pc := 63) dX15_read_63 ?_
          refine r_iconst (pc := 64) dX15_read_64 ?_
          refine r_callU2 (pc := 65) (C_needE (S := fun a => a < z0) (X := X) (Q := fg ((0 : Int) = 1) I2 J2 P2 T2 z2 none) hw2.rd hw2.ti.t hw2.ti.p (by omega) (by omega) hw2.rz hw2.S0 fg_i (fun _ => by rw [if_neg h4]; exact (hX rfl).bd.xk a2)) im_X12_need rfl q1547 q1546 q1545 hw2.o rfl dX15_read_65 (by omega) (by omega) rfl (k_gnv fun h => by omega) (fun _ _ _ _ _ _ _ hx => x_out rfl (by omega) (by omega) hx)
        rw [if_neg (by omega), h5] at eL
        rw [eL] at hX he
        refine r_iconst (pc := 59) dX15_read_59 ?_
        refine r_goto (pc := 60) 64 dX15_read_60 rfl ?_
        refine r_iconst (pc := 64) dX15_read_64 ?_
        refine r_callU2 (pc := 65) (C_needE (S := fun a => a < z0) (X := X) (Q := fe I2 J2 P2 T2 z2 none) hw2.rd hw2.ti.t hw2.ti.p (by omega) (by omega) hw2.rz hw2.S0 (fun _ => fe_i) (fun c => absurd c (by decide))) im_X12_need rfl q1547 q1546 q1545 hw2.o rfl dX15_read_65 (by omega) (by omega) rfl (k_fv ?_) (fun _ _ _ _ _ _ _ hx => x_out rfl (by omega) (by omega) hx)
        refine r_aload_n (pc := 68) dX15_read_68 rfl rfl ?_
        refine r_aload_n (pc := 69) dX15_read_69 rfl rfl ?_
        refine r_aload_n (pc := 70) dX15_read_70 rfl rfl ?_
        refine r_getr (pc := 71) (c := 15) (k := 9) (kz := 9) hw2.o cok_15 (Nat.le_of_ble_eq_true rfl) q1510 ⟨rfl, rfl⟩ (Or.inl rfl) rfl (fun _ _ _ => rfl) hw2.pg dX15_read_71 ?_
        refine r_getrN (pc := 74) (c := 3) (k := 0) (kz := 0) hg2.o cok_3 (Nat.le_of_ble_eq_true rfl) q262 ⟨rfl, rfl⟩ (Or.inl rfl) rfl (fun _ _ _ => rfl) hg2.2.2 dX15_read_74 ?_
        refine r_callU1 (pc := 77) (E_person (ρ := ρ) (X := X) (Q := fun v I' J' P' T' z' => 0 ≤ t_find s1.2.2.2 s1.2.1 0 0 (σ 1).toNat ∧ er (some (iv (t_find s1.2.2.2 s1.2.1 0 0 (σ 1).toNat))) (EQv G z0 z2 r tp g t en τ Ls I2 J2 P2 T2 (g_nx τ s1) e1) v I' J' P' T' z') hw2 hρ (by omega) (fun q1 q2 I' J' P' T' z' a => ⟨q2, er_i a⟩) (fun q => absurd c1 q) (fun q q2 => by omega)) im_X12_person rfl q1551 q1550 q1549 hw2.o rfl dX15_read_77 (by omega) (by omega) rfl (fun v I' J' P' T' z' ⟨q2, hv⟩ => k_er (fun I3 J3 P3 T3 z3 a3 => ?_) v I' J' P' T' z' hv) (fun _ _ _ _ _ _ _ hx => x_out rfl (by omega) (by omega) hx)
        generalize t_find s1.2.2.2 s1.2.1 0 0 (σ 1).toNat = p at *
        have a3 := a2.tr a3
        have hw3 := a3.2.2.2
        obtain ⟨R, hR⟩ : ∃ R, R = e_1 τ ρ σ (4 * (j : Int)) p (g_nx τ s1) rd1 := ⟨_, rfl⟩
        have hR52 : R.2.1.1 52 = j := by
          rw [hR, e_1_52 (by omega)]
          have : (g_nx τ s1).1 52 = s1.1 52 := t_next_f (by omega)
          rw [this, h5]
        have hRrd : ∀ i : Int, i < 4 * (j : Int) → R.2.2 i = rd1 i := fun i q => by rw [hR]; exact e_1_rd q
        rw [← hR] at hX he
        show PW G mX15_read (rmD (d + 11) 1680 22140) (MZ G Q X 1680 22140) (4+54*j+4+1+0+1+1+10) (60+712*j+60+8+0+8+8+136) I3 J3 P3 T3 z3 80 [some (.ref r), some (iv j)] [iv p, .ref r]
        refine r_callV1 (pc := 80) (D_eline (rd := rd1) (to := 4 * (j : Int)) (X := X) (Q := fun v I' J' P' T' z' => R.1 ≠ 0 ∧ isG 59 R.2.1 ∧ er none (EQv G z0 z3 r tp g t en τ Ls I3 J3 P3 T3 (g_nx τ R.2.1) (ev2 R.2.2 (4 * (j : Int)) e1)) v I' J' P' T' z') hw3 hρ (h0.trans hej.1.symm) (h1.trans hej.2.symm) ⟨by omega, by omega⟩ (by omega) (fun q1 q2 I' J' P' T' z' a => by rw [← hR] at q1 q2 a; exact ⟨q1, q2, er_i a⟩) (fun q => by rw [← hR] at q ⊢; rw [if_pos q] at hX; exact (hX rfl).tr a3) (fun q q2 => by rw [← hR] at q q2 ⊢; rw [if_neg q, if_pos q2] at hX; exact (hX rfl).bd.tr a3)) im_X15_line qs46 q1552 hw3.o rfl dX15_read_80 (by omega) (by omega) rfl (fun v I' J' P' T' z' ⟨r1, r2, hv⟩ => k_er (fun I4 J4 P4 T4 z4 a4 => ?_) v I' J' P' T' z' hv) (fun _ _ _ _ _ _ _ hx => x_out rfl (by omega) (by omega) hx)
        rw [if_neg r1, if_neg (fun c => c r2)] at he
        have a4 := a3.tr a4
        show PW G mX15_read (rmD (d + 11) 1680 22140) (MZ G Q X 1680 22140) (4+54*j+4+1+0+1+1+10+37) (60+712*j+60+8+0+8+8+136+492) I4 J4 P4 T4 z4 83 [some (.ref r), some (iv j)] []
        refine r_iinc1 (pc := 83) (Nat.le_of_ble_eq_true rfl) dX15_read_83 rfl ?_
        refine r_goto (pc := 86) 6 dX15_read_86 rfl ?_
        refine r_widen (cu' := 4 + 54 * (j + 1)) (su' := 60 + 712 * (j + 1)) (by omega) (by omega) ?_
        have hn52 : (g_nx τ R.2.1).1 52 = j := by
          have : (g_nx τ R.2.1).1 52 = R.2.1.1 52 := t_next_f (by omega)
          rw [this, hR52]
        refine ih (j + 1) I4 J4 P4 T4 z4 _ R.2.2 he (by omega) (by omega) ?_ ⟨a4.1, a4.2.1, a4.2.2.1, EWd.w (by omega) ?_⟩
        · show us (g_nx τ R.2.1).1 52 _ 52 = _
          rw [us_s, hn52]
          exact (Int.natCast_succ j).symm
        · have : evs R.2.2 (j + 1) e = ev2 R.2.2 (4 * (j : Int)) e1 := by
            show ev2 R.2.2 (4 * (j : Int)) (evs R.2.2 j e) = _
            rw [evs_cg j (fun i _ q => hRrd i q), he1]
          rw [this]
          exact a4.2.2.2
      rw [bz_f c1]
      have eL : e_line τ ρ σ s1 rd1 = (0, g_bad 1 s1, rd1) := by
        unfold e_line
        rw [if_pos c1]
      rw [eL] at hX
      refine r_iconst (pc := 18) dX15_read_18 ?_
      refine r_callU2 (pc := 19) (C_needE (S := fun a => a < z0) (X := X) (Q := fg ((0 : Int) = 1) I2 J2 P2 T2 z2 none) hw2.rd hw2.ti.t hw2.ti.p (by omega) (by omega) hw2.rz hw2.S0 fg_i (fun _ => by rw [one1]; exact (hX rfl).bd.xk a2)) im_X12_need rfl q1547 q1546 q1545 hw2.o rfl dX15_read_19 (by omega) (by omega) rfl (k_gnv fun h => by omega) (fun _ _ _ _ _ _ _ hx => x_out rfl (by omega) (by omega) hx)
  show PW G mX15_read (rmD (d + 11) 1680 22140) (MZ G Q X 1680 22140) 4 60 I1 J1 P1 T1 z1 4 [some (.ref r), none] []
  refine r_iconst (pc := 4) dX15_read_4 ?_
  refine r_istore_n1 (pc := 5) (Nat.le_of_ble_eq_true rfl) dX15_read_5 rfl ?_
  exact loop 31 0 I1 J1 P1 T1 z1 (g_nx τ s) rd rfl rfl (by omega) (by have : (g_nx τ s).1 52 = s.1 52 := t_next_f (by omega); rw [this, h52]; rfl) a
end P22
