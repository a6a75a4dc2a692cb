/-! ===== the component: an operand of a sentence ===== -/
def nmb (s : TS) : Int := if isW 448311223411 s then 0 else if isW 114784635741540 s then 1 else if isW 1836020596 s then 2 else if isW 482854658917 s then 3 else -1
section P28
variable {G : GE} {I J I' J' : HI} {P P' : HP} {T T' : HT} {z z' z0 r tp t en d c : Nat} {Q : QT} {X : XT} {τ ρ : Int → Int} {Ls : List (List Int)} {n : Nat} {s s' : TS} {o w : Int}
theorem nmb_r : -1 ≤ nmb s ∧ nmb s ≤ 3 := by unfold nmb; repeat (first | split | omega)
theorem opn_iff : opn s ↔ isG 40 s ∨ isW 7237492 s ∨ isW 1651470187 s ∨ isW 461414299502 s ∨ isW 1751477348 s ∨ nmb s ≠ -1 := by
  unfold opn lf nmb isW isG
  by_cases c : s.1 11 = 1
  · simp only [c, true_and]
    repeat (first | split | omega)
  · simp [c]
theorem lf_num (h : 0 ≤ nmb s) : lf s = 3 + nmb s := by
  unfold lf nmb isW at *
  by_cases c : s.1 11 = 1
  · simp only [c, true_and] at *
    repeat (first | split | omega)
  · simp only [c, false_and, if_false] at h
    omega
theorem lf_w {c v : Int} (h : isW c s) (hc : (c = 1651470187 ∧ v = 0) ∨ (c = 461414299502 ∧ v = 1) ∨ (c = 1751477348 ∧ v = 2)) : lf s = v := by
  unfold lf isW at *
  obtain ⟨h1, h2⟩ := h
  simp only [h1, true_and]
  repeat (first | split | omega)
theorem nx_sg (h : (g_nx τ s).1 11 = 3) : (g_nx τ s).1 14 = 59 ∨ (g_nx τ s).1 14 = 40 ∨ (g_nx τ s).1 14 = 41 ∨ (60 ≤ (g_nx τ s).1 14 ∧ (g_nx τ s).1 14 ≤ 62) := by
  revert h
  unfold g_nx t_next
  dsimp only
  generalize t_skip τ (s.1 3) (s.1 3 - s.1 4).toNat (s.1 4) = p
  unfold t_next1
  dsimp only
  split
  · intro h; dsimp only at h; rw [us_s] at h; omega
  · split
    · intro h; dsimp only at h; rw [us_s] at h; omega
    · split
      · intro h
        dsimp only at h ⊢
        rw [us_n (by omega), us_n (by omega), us_s] at h
        rw [us_n (by omega), us_s]
        unfold t_sign at h
        split at h <;> omega
      · intro h
        dsimp only at h
        rw [us_s] at h
        unfold t_kind at h
        split at h
        · omega
        · split at h <;> omega
theorem C_numbered (h : SWd G I P T z0 z r tp t en τ Ls n s o w) (hQ : Q (some (iv (nmb s))) I J P T z) : MC G yX16_numbered (ws_ yX16_numbered cX16_numbered 1 (some FieldType.int)) (d + 3) 0 0 [.ref r] I J P T z Q nX := by
  refine MC.of (by decide) (Nat.le_of_ble_eq_true rfl) ?_
  show PW G mX16_numbered (rmD (d + 3) 0 0) (MZ G Q nX 0 0) 0 0 I J P T z 0 [some (.ref r)] []
  unfold nmb at hQ
  refine r_aload_n (pc := 0) dX16_numbered_0 rfl rfl ?_
  refine r_ldcS (pc := 1) 16 rfl rfl dX16_numbered_1 ?_
  refine r_callU1 (pc := 3) (C_isS (d := d) h.rd h.ti.t (h.2.1.st (i := 16) rfl rfl) ws4.1 fe_i) im_X12_is rfl q1630 q1629 q1628 h.oT rfl dX16_numbered_3 (Nat.le_of_ble_eq_true rfl) (Nat.le_of_ble_eq_true rfl) rfl (k_fi ?_) (fun _ _ _ _ _ _ _ hx => no_x hx)
  rw [ws4.2]
  refine r_if_eq (pc := 6) 13 dX16_numbered_6 rfl bz_g (fun h6 => ?_) (fun h6 => ?_)
  · rw [if_neg (bz_0.mp h6)] at hQ
    refine r_aload_n (pc := 13) dX16_numbered_13 rfl rfl ?_
    refine r_ldcS (pc := 14) 17 rfl rfl dX16_numbered_14 ?_
    refine r_callU1 (pc := 16) (C_isS (d := d) h.rd h.ti.t (h.2.1.st (i := 17) rfl rfl) ws5.1 fe_i) im_X12_is rfl q1630 q1629 q1628 h.oT rfl dX16_numbered_16 (Nat.le_of_ble_eq_true rfl) (Nat.le_of_ble_eq_true rfl) rfl (k_fi ?_) (fun _ _ _ _ _ _ _ hx => no_x hx)
    rw [ws5.2]
    refine r_if_eq (pc := 19) 26 dX16_numbered_19 rfl bz_g (fun h19 => ?_) (fun h19 => ?_)
    · rw [if_neg (bz_0.mp h19)] at hQ
      refine r_aload_n (pc := 26) dX16_numbered_26 rfl rfl ?_
      refine r_ldcS (pc := 27) 18 rfl rfl dX16_numbered_27 ?_
      refine r_callU1 (pc := 29) (C_isS (d := d) h.rd h.ti.t (h.2.1.st (i := 18) rfl rfl) ws6.1 fe_i) im_X12_is rfl q1630 q1629 q1628 h.oT rfl dX16_numbered_29 (Nat.le_of_ble_eq_true rfl) (Nat.le_of_ble_eq_true rfl) rfl (k_fi ?_) (fun _ _ _ _ _ _ _ hx => no_x hx)
      rw [ws6.2]
      refine r_if_eq (pc := 32) 39 dX16_numbered_32 rfl bz_g (fun h32 => ?_) (fun h32 => ?_)
      · rw [if_neg (bz_0.mp h32)] at hQ
        refine r_aload_n (pc := 39) dX16_numbered_39 rfl rfl ?_
        refine r_ldcS (pc := 40) 19 rfl rfl dX16_numbered_40 ?_
        refine r_callU1 (pc := 42) (C_isS (d := d) h.rd h.ti.t (h.2.1.st (i := 19) rfl rfl) ws7.1 fe_i) im_X12_is rfl q1630 q1629 q1628 h.oT rfl dX16_numbered_42 (Nat.le_of_ble_eq_true rfl) (Nat.le_of_ble_eq_true rfl) rfl (k_fi ?_) (fun _ _ _ _ _ _ _ hx => no_x hx)
        rw [ws7.2]
        refine r_if_eq (pc := 45) 52 dX16_numbered_45 rfl bz_g (fun h45 => ?_) (fun h45 => ?_)
        · rw [if_neg (bz_0.mp h45)] at hQ
          refine r_iconst (pc := 52) dX16_numbered_52 ?_
          refine r_ireturn (pc := 53) rfl rfl dX16_numbered_53 (Nat.le_of_ble_eq_true rfl) (Nat.le_of_ble_eq_true rfl) ?_
          exact hQ
        rw [if_pos (bz_ne.mp h45)] at hQ
        refine r_iconst (pc := 48) dX16_numbered_48 ?_
        refine r_goto (pc := 49) 53 dX16_numbered_49 rfl ?_
        refine r_ireturn (pc := 53) rfl rfl dX16_numbered_53 (Nat.le_of_ble_eq_true rfl) (Nat.le_of_ble_eq_true rfl) ?_
        exact hQ
      rw [if_pos (bz_ne.mp h32)] at hQ
      refine r_iconst (pc := 35) dX16_numbered_35 ?_
      refine r_goto (pc := 36) 53 dX16_numbered_36 rfl ?_
      refine r_ireturn (pc := 53) rfl rfl dX16_numbered_53 (Nat.le_of_ble_eq_true rfl) (Nat.le_of_ble_eq_true rfl) ?_
      exact hQ
    rw [if_pos (bz_ne.mp h19)] at hQ
    refine r_iconst (pc := 22) dX16_numbered_22 ?_
    refine r_goto (pc := 23) 53 dX16_numbered_23 rfl ?_
    refine r_ireturn (pc := 53) rfl rfl dX16_numbered_53 (Nat.le_of_ble_eq_true rfl) (Nat.le_of_ble_eq_true rfl) ?_
    exact hQ
  rw [if_pos (bz_ne.mp h6)] at hQ
  refine r_iconst (pc := 9) dX16_numbered_9 ?_
  refine r_goto (pc := 10) 53 dX16_numbered_10 rfl ?_
  refine r_ireturn (pc := 53) rfl rfl dX16_numbered_53 (Nat.le_of_ble_eq_true rfl) (Nat.le_of_ble_eq_true rfl) ?_
  exact hQ
theorem C_than (h : SWd G I P T z0 z r tp t en τ Ls n s o w) (hsg : s.1 11 = 3 → s.1 14 = 59 ∨ s.1 14 = 40 ∨ s.1 14 = 41 ∨ (60 ≤ s.1 14 ∧ s.1 14 ≤ 62)) {wh : Int} (hwh : 0 ≤ wh ∧ wh ≤ 3)
    (hQ : (s_than τ (3 + wh) s o).1 = 1 → ∀ I' J' P' T' z' c, SQv G z0 z r tp t en τ Ls n I J P T (s_than τ (3 + wh) s o).2.1 o w I' J' P' T' z' → CT I' P' T' z z' 1 c (s_than τ (3 + wh) s o).2.2.2 → Q (some (.ref c)) I' J' P' T' z')
    (hX : (s_than τ (3 + wh) s o).1 = 0 → XK X (fun a => a < z0) I J P T ((s_than τ (3 + wh) s o).2.1.1 15) ((s_than τ (3 + wh) s o).2.1.1 16)) : MC G yX16_than (ws_ yX16_than cX16_than 3 (some (FieldType.object "SevenTable$Cond"))) (d + 10) 12 147 [.ref r, iv wh] I J P T z Q X := by
  have hcs := h.rd.2.cs h.ti.t
  have tk := h.rd.2
  refine MC.of (by decide) (Nat.le_of_ble_eq_true rfl) ?_
  show PW G mX16_than (rmD (d + 10) 12 147) (MZ G Q X 12 147) 0 0 I J P T z 0 [some (.ref r), some (iv wh), none] []
  unfold s_than at hQ hX
  have bad : ¬ (s.1 11 = 3 ∧ 60 ≤ s.1 14 ∧ s.1 14 ≤ 62) → PW G mX16_than (rmD (d + 10) 12 147) (MZ G Q X 12 147) 0 0 I J P T z 32 [some (.ref r), some (iv wh), none] [.ref r] := by
    intro c
    rw [if_pos c] at hX
    refine r_iconst (pc := 32) dX16_than_32 ?_
    refine r_iconst (pc := 33) dX16_than_33 ?_
    refine r_callU2 (pc := 34) (C_needS (S := fun a => a < z0) (X := X) (Q := fg ((0 : Int) = 1) I J P T z none) h.rd h.ti.t h.ti.p (by omega) (by omega) h.rz h.S0 fg_i (fun _ => by rw [one1]; exact (hX rfl).bd)) im_X12_need rfl q1644 q1643 q1642 h.oT rfl dX16_than_34 (Nat.le_of_ble_eq_true rfl) (Nat.le_of_ble_eq_true rfl) rfl (k_gnv fun h => by omega) (fun _ _ _ _ _ _ _ hx => x_out rfl (Nat.le_of_ble_eq_true rfl) (Nat.le_of_ble_eq_true rfl) hx)
  refine r_aload_n (pc := 0) dX16_than_0 rfl rfl ?_
  refine r_aload_n (pc := 1) dX16_than_1 rfl rfl ?_
  refine r_geti (pc := 2) (c := 16) (k := 4) (kz := 4) h.oT cok_16 (Nat.le_of_ble_eq_true rfl) q626 ⟨rfl, rfl⟩ (Or.inr q627) rfl (fun _ _ _ => rfl) dX16_than_2 (fun hr2 => ?_)
  refine r_bipush (pc := 5) dX16_than_5 (by decide +kernel) ?_
  refine r_icmp_ne (pc := 7) 32 dX16_than_7 rfl (by omega) (by omega) (fun h7 => ?_) (fun h7 => ?_)
  · exact bad (fun c => by omega)
  have h3 : s.1 11 = 3 := by omega
  have h7 : I r 7 = s.1 14 := by
    have := tk.2.2.2.2.1 h3
    omega
  refine r_aload_n (pc := 10) dX16_than_10 rfl rfl ?_
  refine r_geti (pc := 11) (c := 16) (k := 7) (kz := 7) h.oT cok_16 (Nat.le_of_ble_eq_true rfl) q632 ⟨rfl, rfl⟩ (Or.inr q633) rfl (fun _ _ _ => rfl) dX16_than_11 (fun hr11 => ?_)
  rw [h7] at hr11 ⊢
  refine r_bipush (pc := 14) dX16_than_14 (by decide +kernel) ?_
  refine r_icmp_eq (pc := 16) 32 dX16_than_16 rfl (by omega) (by omega) (fun h16 => ?_) (fun h16 => ?_)
  · exact bad (fun c => by omega)
  refine r_aload_n (pc := 19) dX16_than_19 rfl rfl ?_
  refine r_geti (pc := 20) (c := 16) (k := 7) (kz := 7) h.oT cok_16 (Nat.le_of_ble_eq_true rfl) q632 ⟨rfl, rfl⟩ (Or.inr q633) rfl (fun _ _ _ => rfl) dX16_than_20 (fun hr20 => ?_)
  rw [h7] at hr20 ⊢
  refine r_bipush (pc := 23) dX16_than_23 (by decide +kernel) ?_
  refine r_icmp_eq (pc := 25) 32 dX16_than_25 rfl (by omega) (by omega) (fun h25 => ?_) (fun h25 => ?_)
  · exact bad (fun c => by omega)
  have g0 : s.1 11 = 3 ∧ 60 ≤ s.1 14 ∧ s.1 14 ≤ 62 := by have := hsg h3; omega
  rw [if_neg (fun c => c g0)] at hQ hX
  refine r_iconst (pc := 28) dX16_than_28 ?_
  refine r_goto (pc := 29) 33 dX16_than_29 rfl ?_
  refine r_iconst (pc := 33) dX16_than_33 ?_
  refine r_callU2 (pc := 34) (C_needS (S := fun a => a < z0) (X := X) (Q := fe I J P T z none) h.rd h.ti.t h.ti.p (by omega) (by omega) h.rz h.S0 (fun _ => fe_i) (fun c => absurd c (by decide))) im_X12_need rfl q1644 q1643 q1642 h.oT rfl dX16_than_34 (Nat.le_of_ble_eq_true rfl) (Nat.le_of_ble_eq_true rfl) rfl (k_fv ?_) (fun _ _ _ _ _ _ _ hx => x_out rfl (Nat.le_of_ble_eq_true rfl) (Nat.le_of_ble_eq_true rfl) hx)
  refine r_aload_n (pc := 37) dX16_than_37 rfl rfl ?_
  refine r_geti (pc := 38) (c := 16) (k := 7) (kz := 7) h.oT cok_16 (Nat.le_of_ble_eq_true rfl) q632 ⟨rfl, rfl⟩ (Or.inr q633) rfl (fun _ _ _ => rfl) dX16_than_38 (fun hr38 => ?_)
  rw [h7] at hr38 ⊢
  refine r_istore_n2 (pc := 41) (Nat.le_of_ble_eq_true rfl) dX16_than_41 rfl ?_
  refine r_aload_n (pc := 42) dX16_than_42 rfl rfl ?_
  refine r_callU0 (pc := 43) (S_go (d := d + 2) (Q := er none (SQv G z0 z r tp t en τ Ls n I J P T (g_nx τ s) o w)) h (fun I' J' P' T' z' a => er_i a)) im_X12_go rfl q1614 q1613 q1612 h.oT rfl dX16_than_43 (Nat.le_of_ble_eq_true rfl) (Nat.le_of_ble_eq_true rfl) rfl (k_er fun I2 J2 P2 T2 z2 a2 => ?_) (fun _ _ _ _ _ _ _ hx => no_x hx)
  have hw2 := a2.2.2
  show PW G mX16_than (rmD (d + 10) 12 147) (MZ G Q X 12 147) 5 68 I2 J2 P2 T2 z2 46 [some (.ref r), some (iv wh), some (iv (s.1 14))] []
  refine r_tz fun hzz2 => ?_
  refine r_new (pc := 46) (c := 21) cok_21 rfl (by decide +kernel) q1689 q1690 q156 (Nat.le_of_ble_eq_true rfl) (Nat.le_of_ble_eq_true rfl) dX16_than_46 ?_
  have hw3 : SWd G (ur I2 z2 fun _ => 0) (urp P2 z2 fun _ => none) (ut T2 z2 (41, 0)) z0 (z2 + 1) r tp t en τ Ls n (g_nx τ s) o w := hw2.fz (J := J2) (J' := ur J2 z2 fun _ => 0) (by omega) (fun a q => ⟨ur_n (by omega), ur_n (by omega), urp_n (by omega), ut_n (by omega)⟩) hzz2
  have hb2 := hw2.1
  have a3 : SG z r I J P T (ur I2 z2 fun _ => 0) (ur J2 z2 fun _ => 0) (urp P2 z2 fun _ => none) (ut T2 z2 (41, 0)) := a2.2.1.tr a2.1 (fun b q1 q2 => ⟨ur_n (by omega), ur_n (by omega), urp_n (by omega), ut_n (by omega)⟩)
  have a3s : FS (fun a => a < z0) I J P T (ur I2 z2 fun _ => 0) (ur J2 z2 fun _ => 0) (urp P2 z2 fun _ => none) (ut T2 z2 (41, 0)) := fun b q => by
    have := h.1
    have q : b < z0 := q
    exact a3 b (by omega) (by omega)
  refine r_dup (pc := 49) dX16_than_49 rfl ?_
  refine r_iload_n (pc := 50) dX16_than_50 rfl rfl ?_
  refine r_iload_n (pc := 51) dX16_than_51 rfl rfl ?_
  refine r_aload_n (pc := 52) dX16_than_52 rfl rfl ?_
  refine r_iconst (pc := 53) dX16_than_53 ?_
  refine r_sipush (pc := 54) dX16_than_54 (by decide +kernel) ?_
  refine r_tz fun hzz3 => ?_
  have hz12 := a2.1
  refine r_callU2 (pc := 57) (C_numberS (d := d) (S := fun a => a < z0) (X := X) (Q := fun v I' J' P' T' z' => (g_nx τ s).1 11 = 2 ∧ er (some (iv ((g_nx τ s).1 14))) (SQv G z0 (z2 + 1) r tp t en τ Ls n (ur I2 z2 fun _ => 0) (ur J2 z2 fun _ => 0) (urp P2 z2 fun _ => none) (ut T2 z2 (41, 0)) (g_nx τ (g_nx τ s)) o w) v I' J' P' T' z') hw3.rd hw3.ti hw3.g5 hw3.b (by omega) (by omega) hw3.rz hw3.tz hw3.S0 (fun q1 q2 q3 I' J' P' T' z' b1 b2 b3 => ⟨q1, er_i (hw3.go b1 b2 b3 hzz3)⟩) (fun q => by rw [if_pos q] at hX; exact (hX rfl).bd.fs a3s) (fun q q2 => absurd (hw3.ti.2.2.2.2.2.2.2.2 q) q2)) im_X12_number rfl q1693 q1692 q1691 hw3.oT rfl dX16_than_57 (Nat.le_of_ble_eq_true rfl) (Nat.le_of_ble_eq_true rfl) rfl (fun v I' J' P' T' z' ⟨g1, hv⟩ => k_er (fun I4 J4 P4 T4 z4 b1 => ?_) v I' J' P' T' z' hv) (fun _ _ _ _ _ _ _ hx => x_out rfl (Nat.le_of_ble_eq_true rfl) (Nat.le_of_ble_eq_true rfl) hx)
  rw [if_neg (fun c => c g1)] at hQ
  have hw4 := b1.2.2
  have vr := hw3.ti.2.2.2.2.2.2.2.2 g1
  have hTz : T4 z2 = (41, 0) := by rw [(b1.2.1 z2 (by omega) (by omega)).2.2.2]; exact ut_s
  have zz4 : z2 + 1 ≤ z4 := b1.1
  show PW G mX16_than (rmD (d + 10) 12 147) (MZ G Q X 12 147) 12 147 I4 J4 P4 T4 z4 60 [some (.ref r), some (iv wh), some (iv (s.1 14))] [iv ((g_nx τ s).1 14), iv (s.1 14), iv wh, .ref z2, .ref z2]
  refine r_callI3 (pc := 60) (C_thanI (d := d + 7) (c := z2) hTz (by omega) (by omega) (by omega) (by omega) fe_i) im_X21_init rfl q1694 dX16_than_60 (Nat.le_of_ble_eq_true rfl) (Nat.le_of_ble_eq_true rfl) rfl (k_fv ?_) (fun _ _ _ _ _ _ _ hx => no_x hx)
  refine r_areturn (pc := 63) rfl (Or.inl ⟨_, rfl⟩) dX16_than_63 (by decide) (by decide) ?_
  have fI : ∀ b, b ≠ z2 → ui (ui (ui I4 z2 0 wh) z2 1 (s.1 14)) z2 2 ((g_nx τ s).1 14) b = I4 b := fun b q => by rw [ui_nr q, ui_nr q, ui_nr q]
  have hw5 : SWd G (ui (ui (ui I4 z2 0 wh) z2 1 (s.1 14)) z2 2 ((g_nx τ s).1 14)) P4 T4 z0 z4 r tp t en τ Ls n (g_nx τ (g_nx τ s)) o w := hw4.ob (c := z2) (by rw [hTz]; decide) (by omega) fI (fun _ _ => rfl)
  refine hQ rfl _ _ _ _ _ z2 ⟨by omega, ?_, hw5⟩ ⟨⟨by omega, by omega⟩, Or.inr (Or.inr (Or.inl ⟨hTz, wh, s.1 14, (g_nx τ s).1 14, hwh, g0.2, vr, ?_, ?_, ui_sv, rfl⟩))⟩
  · intro b q1 q2
    have b3 := b1.2.1 b (by omega) q2
    have b4 := a3 b q1 q2
    rw [fI b (by omega)]
    exact ⟨b3.1.trans b4.1, b3.2.1.trans b4.2.1, b3.2.2.1.trans b4.2.2.1, b3.2.2.2.trans b4.2.2.2⟩
  · rw [ui_nj (by omega), ui_nj (by omega), ui_sv]
  · rw [ui_nj (by omega), ui_sv]
/-- in brackets -/
def s_br (τ : Int → Int) (R : SR) : SR := if R.1 = 0 then R else if ¬ isG 41 R.2.1 then (0, g_bad 1 R.2.1, R.2.2.1, []) else (1, g_nx τ R.2.1, R.2.2.1, R.2.2.2)
theorem C_bracket {f : TS → Int → SR} {dd : Nat} (H : RC G z0 r tp t en τ Ls n yX16_or (ws_ yX16_or cX16_or 2 (some (FieldType.object "SevenTable$Cond"))) (dd + 10) w f) (hf : SFn n f) (h : SWd G I P T z0 z r tp t en τ Ls n s o w) (h0 : 0 ≤ o) (h1 : o ≤ 20)
    (hQ : (s_br τ (f s o)).1 = 1 → ∀ I' J' P' T' z' c, SQv G z0 z r tp t en τ Ls n I J P T (s_br τ (f s o)).2.1 (f s o).2.2.1 w I' J' P' T' z' → CT I' P' T' z z' (f s o).2.2.2.length c (f s o).2.2.2 → Q (some (.ref c)) I' J' P' T' z')
    (hX : (s_br τ (f s o)).1 = 0 → XK X (fun a => a < z0) I J P T ((s_br τ (f s o)).2.1.1 15) ((s_br τ (f s o)).2.1.1 16)) : MC G yX16_bracket (ws_ yX16_bracket cX16_bracket 2 (some (FieldType.object "SevenTable$Cond"))) (dd + 11) (kc (f s o) o + 5) (ks (f s o) o + 68) [.ref r] I J P T z Q X := by
  have ok := hf s o h.ti h0 h1
  unfold s_br at hQ hX
  generalize hF : f s o = rr at *
  refine MC.of (by decide) (Nat.le_of_ble_eq_true rfl) ?_
  show PW G mX16_bracket (rmD (dd + 11) (kc rr o + 5) (ks rr o + 68)) (MZ G Q X (kc rr o + 5) (ks rr o + 68)) 0 0 I J P T z 0 [some (.ref r), none] []
  refine r_aload_n (pc := 0) dX16_bracket_0 rfl rfl ?_
  refine r_callV0 (pc := 1) (H _ _ _ _ _ _ _ h h0 h1 (fun v I' J' P' T' z' => rr.1 = 1 ∧ ∃ c2, v = some (.ref c2) ∧ SQv G z0 z r tp t en τ Ls n I J P T rr.2.1 rr.2.2.1 w I' J' P' T' z' ∧ CT I' P' T' z z' rr.2.2.2.length c2 rr.2.2.2) X (fun q I' J' P' T' z' c2 b1 b2 => by rw [hF] at q b1 b2; exact ⟨q, c2, rfl, b1, b2⟩) (fun q => by rw [hF] at q ⊢; rw [if_pos q] at hX; exact hX q)) im_X16_or qs48 q1615 h.oT rfl dX16_bracket_1 (by rw [hF]; omega) (by rw [hF]; omega) rfl (fun v I4 J4 P4 T4 z4 hv => ?_) (fun _ _ _ _ _ _ _ hx => x_out rfl (by rw [hF]; omega) (by rw [hF]; omega) hx)
  obtain ⟨r1, c2, rfl, b1, b2⟩ := hv
  have hw1 := b1.2.2
  have tk := hw1.rd.2
  have hcs := tk.cs hw1.ti.t
  rw [if_neg (by omega)] at hQ hX
  rw [hF]
  show PW G mX16_bracket (rmD (dd + 11) (kc rr o + 5) (ks rr o + 68)) (MZ G Q X (kc rr o + 5) (ks rr o + 68)) (0+kc rr o) (0+ks rr o) I4 J4 P4 T4 z4 4 [some (.ref r), none] [.ref c2]
  have bad : ¬ isG 41 rr.2.1 → PW G mX16_bracket (rmD (dd + 11) (kc rr o + 5) (ks rr o + 68)) (MZ G Q X (kc rr o + 5) (ks rr o + 68)) (0+kc rr o) (0+ks rr o) I4 J4 P4 T4 z4 28 [some (.ref r), some (.ref c2)] [.ref r] := by
    intro c
    rw [if_pos c] at hX
    refine r_iconst (pc := 28) dX16_bracket_28 ?_
    refine r_iconst (pc := 29) dX16_bracket_29 ?_
    refine r_callU2 (pc := 30) (C_needS (d := dd + 3) (S := fun a => a < z0) (X := X) (Q := fg ((0 : Int) = 1) I4 J4 P4 T4 z4 none) hw1.rd hw1.ti.t hw1.ti.p (by omega) (by omega) hw1.rz hw1.S0 fg_i (fun _ => by rw [one1]; exact ((hX rfl).bd).sq h b1)) im_X12_need rfl q1644 q1643 q1642 hw1.oT rfl dX16_bracket_30 (by omega) (by omega) rfl (k_gnv fun h => by omega) (fun _ _ _ _ _ _ _ hx => x_out rfl (by omega) (by omega) hx)
  refine r_astore_n1 (pc := 4) (Nat.le_of_ble_eq_true rfl) dX16_bracket_4 rfl ?_
  refine r_aload_n (pc := 5) dX16_bracket_5 rfl rfl ?_
  refine r_aload_n (pc := 6) dX16_bracket_6 rfl rfl ?_
  refine r_geti (pc := 7) (c := 16) (k := 4) (kz := 4) hw1.oT cok_16 (Nat.le_of_ble_eq_true rfl) q626 ⟨rfl, rfl⟩ (Or.inr q627) rfl (fun _ _ _ => rfl) dX16_bracket_7 (fun hr7 => ?_)
  refine r_bipush (pc := 10) dX16_bracket_10 (by decide +kernel) ?_
  refine r_icmp_ne (pc := 12) 28 dX16_bracket_12 rfl (by omega) (by omega) (fun h12 => ?_) (fun h12 => ?_)
  · exact bad (fun c => by have := c.1; have := c.2; omega)
  have h3 : rr.2.1.1 11 = 3 := by omega
  have h7 : I4 r 7 = rr.2.1.1 14 := by
    have := tk.2.2.2.2.1 h3
    omega
  refine r_aload_n (pc := 15) dX16_bracket_15 rfl rfl ?_
  refine r_geti (pc := 16) (c := 16) (k := 7) (kz := 7) hw1.oT cok_16 (Nat.le_of_ble_eq_true rfl) q632 ⟨rfl, rfl⟩ (Or.inr q633) rfl (fun _ _ _ => rfl) dX16_bracket_16 (fun hr16 => ?_)
  rw [h7] at hr16 ⊢
  have r14 : rg (rr.2.1.1 14) := hr16
  refine r_bipush (pc := 19) dX16_bracket_19 (by decide +kernel) ?_
  refine r_icmp_ne (pc := 21) 28 dX16_bracket_21 rfl (by omega) (by omega) (fun h21 => ?_) (fun h21 => ?_)
  · exact bad (fun c => h21 c.2)
  rw [if_neg (fun c => c ⟨h3, h21⟩)] at hQ
  refine r_iconst (pc := 24) dX16_bracket_24 ?_
  refine r_goto (pc := 25) 29 dX16_bracket_25 rfl ?_
  refine r_iconst (pc := 29) dX16_bracket_29 ?_
  refine r_callU2 (pc := 30) (C_needS (d := dd + 3) (S := fun a => a < z0) (X := X) (Q := fe I4 J4 P4 T4 z4 none) hw1.rd hw1.ti.t hw1.ti.p (by omega) (by omega) hw1.rz hw1.S0 (fun _ => fe_i) (fun c => absurd c (by decide))) im_X12_need rfl q1644 q1643 q1642 hw1.oT rfl dX16_bracket_30 (by omega) (by omega) rfl (k_fv ?_) (fun _ _ _ _ _ _ _ hx => x_out rfl (by omega) (by omega) hx)
  refine r_aload_n (pc := 33) dX16_bracket_33 rfl rfl ?_
  refine r_callU0 (pc := 34) (S_go (d := dd + 3) (Q := er none (SQv G z0 z4 r tp t en τ Ls n I4 J4 P4 T4 (g_nx τ rr.2.1) rr.2.2.1 w)) hw1 (fun I' J' P' T' z' a => er_i a)) im_X12_go rfl q1614 q1613 q1612 hw1.oT rfl dX16_bracket_34 (by omega) (by omega) rfl (k_er fun I5 J5 P5 T5 z5 a5 => ?_) (fun _ _ _ _ _ _ _ hx => no_x hx)
  show PW G mX16_bracket (rmD (dd + 11) (kc rr o + 5) (ks rr o + 68)) (MZ G Q X (kc rr o + 5) (ks rr o + 68)) (0+kc rr o+1+4) (0+ks rr o+8+60) I5 J5 P5 T5 z5 37 [some (.ref r), some (.ref c2)] []
  refine r_aload_n (pc := 37) dX16_bracket_37 rfl rfl ?_
  refine r_areturn (pc := 38) rfl (Or.inl ⟨_, rfl⟩) dX16_bracket_38 (by omega) (by omega) ?_
  refine hQ rfl _ _ _ _ _ c2 (b1.tr a5) (CT.rg (Nat.le_refl _) a5.1 _ (CT.cg _ b2 (fun b q1 q2 => ?_)))
  have := a5.2.1 b q2 (by have := h.rz; omega)
  exact ⟨this.1, this.2.2.1, this.2.2.2⟩
end P28
