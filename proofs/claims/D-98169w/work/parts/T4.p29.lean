/-! ===== the component: an operand of a sentence, by its depth ===== -/
section P29
variable {G : GE} {I J I' J' : HI} {P P' : HP} {T T' : HT} {z z' z0 r tp t en d c : Nat} {Q : QT} {X : XT} {τ ρ : Int → Int} {Ls : List (List Int)} {n : Nat} {s s' : TS} {o w : Int}
abbrev ws1o : List Cond := ws_ yX16_one cX16_one 8 (some (FieldType.object "SevenTable$Cond"))
abbrev wsOr : List Cond := ws_ yX16_or cX16_or 2 (some (FieldType.object "SevenTable$Cond"))
set_option maxHeartbeats 2000000 in
theorem C_opd (hρ : RES ρ) (hn6 : n ≤ 6) {R : SR} {k : Nat} (hR : R = s_one τ ρ n k s o) (hk : (k : Int) + w = 8) (hw0 : 0 ≤ w) {dd : Nat}
    (H1 : ∀ k', k = k' + 1 → RC G z0 r tp t en τ Ls n yX16_one ws1o (dd + 11) (w + 1) (s_one τ ρ n k')) (H2 : ∀ k', k = k' + 1 → RC G z0 r tp t en τ Ls n yX16_or wsOr (dd + 10) (w + 1) (s_or τ (s_one τ ρ n k')))
    (h : SWd G I P T z0 z r tp t en τ Ls n s o w) (h0 : 0 ≤ o) (h1 : o ≤ 20) (hQ : R.1 = 1 → ∀ I' J' P' T' z' c, SQv G z0 z r tp t en τ Ls n I J P T R.2.1 R.2.2.1 w I' J' P' T' z' → CT I' P' T' z z' R.2.2.2.length c R.2.2.2 → Q (some (.ref c)) I' J' P' T' z') (hX : R.1 = 0 → XK X (fun a => a < z0) I J P T (R.2.1.1 15) (R.2.1.1 16)) : MC G yX16_one (ws_ yX16_one cX16_one 8 (some (FieldType.object "SevenTable$Cond"))) (dd + 12) (kc R o) (ks R o) [.ref r] I J P T z Q X := by
  have okR : SOk n s o R := by rw [hR]; exact SFn.one k s o h.ti h0 h1
  have oR := okR.2.1
  have tk := h.rd.2
  have hcs := tk.cs h.ti.t
  have kc20 : 20 ≤ kc R o ∧ 100 ≤ ks R o := by
    unfold kc ks
    by_cases q : R.1 = 0
    · rw [if_pos q, if_pos q]; omega
    · have r1 : R.1 = 1 := by have := okR.1; omega
      have := (okR.2.2.2.2.2 r1).2.1
      rw [if_neg q, if_neg q]; omega
  refine MC.of (by decide) (Nat.le_of_ble_eq_true rfl) ?_
  show PW G mX16_one (rmD (dd + 12) (kc R o) (ks R o)) (MZ G Q X (kc R o) (ks R o)) 0 0 I J P T z 0 [some (.ref r), none, none, none, none, none, none, none] []
  -- from here on it is known whether it opens
  have st24 : PW G mX16_one (rmD (dd + 12) (kc R o) (ks R o)) (MZ G Q X (kc R o) (ks R o)) 0 0 I J P T z 23 [some (.ref r), none, none, none, none, none, none, none] [iv (bz (isG 40 s))] := by
    refine r_istore_n1 (pc := 23) (Nat.le_of_ble_eq_true rfl) dX16_one_23 rfl ?_
    refine r_aload_n (pc := 24) dX16_one_24 rfl rfl ?_
    refine r_ldcS (pc := 25) 12 rfl rfl dX16_one_25 ?_
    refine r_callU1 (pc := 27) (C_isS (d := dd + 9) h.rd h.ti.t (h.2.1.st (i := 12) rfl rfl) ws0.1 fe_i) im_X12_is rfl q1630 q1629 q1628 h.oT rfl dX16_one_27 (by omega) (by omega) rfl (k_fi ?_) (fun _ _ _ _ _ _ _ hx => no_x hx)
    rw [ws0.2]
    refine r_istore_n2 (pc := 30) (Nat.le_of_ble_eq_true rfl) dX16_one_30 rfl ?_
    refine r_aload_n (pc := 31) dX16_one_31 rfl rfl ?_
    refine r_ldcS (pc := 32) 13 rfl rfl dX16_one_32 ?_
    refine r_callU1 (pc := 34) (C_isS (d := dd + 9) h.rd h.ti.t (h.2.1.st (i := 13) rfl rfl) ws1.1 fe_i) im_X12_is rfl q1630 q1629 q1628 h.oT rfl dX16_one_34 (by omega) (by omega) rfl (k_fi ?_) (fun _ _ _ _ _ _ _ hx => no_x hx)
    rw [ws1.2]
    refine r_istore_n3 (pc := 37) (Nat.le_of_ble_eq_true rfl) dX16_one_37 rfl ?_
    refine r_aload_n (pc := 38) dX16_one_38 rfl rfl ?_
    refine r_ldcS (pc := 39) 14 rfl rfl dX16_one_39 ?_
    refine r_callU1 (pc := 41) (C_isS (d := dd + 9) h.rd h.ti.t (h.2.1.st (i := 14) rfl rfl) ws2.1 fe_i) im_X12_is rfl q1630 q1629 q1628 h.oT rfl dX16_one_41 (by omega) (by omega) rfl (k_fi ?_) (fun _ _ _ _ _ _ _ hx => no_x hx)
    rw [ws2.2]
    refine r_istore4 (pc := 44) (Nat.le_of_ble_eq_true rfl) dX16_one_44 rfl ?_
    refine r_aload_n (pc := 46) dX16_one_46 rfl rfl ?_
    refine r_ldcS (pc := 47) 15 rfl rfl dX16_one_47 ?_
    refine r_callU1 (pc := 49) (C_isS (d := dd + 9) h.rd h.ti.t (h.2.1.st (i := 15) rfl rfl) ws3.1 fe_i) im_X12_is rfl q1630 q1629 q1628 h.oT rfl dX16_one_49 (by omega) (by omega) rfl (k_fi ?_) (fun _ _ _ _ _ _ _ hx => no_x hx)
    rw [ws3.2]
    refine r_istore5 (pc := 52) (Nat.le_of_ble_eq_true rfl) dX16_one_52 rfl ?_
    refine r_aload_n (pc := 54) dX16_one_54 rfl rfl ?_
    refine r_callV0 (pc := 55) (C_numbered (d := dd + 8) h fe_i) im_X16_numbered qs51 q1634 h.oT rfl dX16_one_55 (by omega) (by omega) rfl (k_fi ?_) (fun _ _ _ _ _ _ _ hx => no_x hx)
    have b1 := bz_r (p := isG 40 s)
    have b2 := bz_r (p := isW 7237492 s)
    have b3 := bz_r (p := isW 1651470187 s)
    have b4 := bz_r (p := isW 461414299502 s)
    have b5 := bz_r (p := isW 1751477348 s)
    have b6 := nmb_r (s := s)
    have no : ¬ opn s → PW G mX16_one (rmD (dd + 12) (kc R o) (ks R o)) (MZ G Q X (kc R o) (ks R o)) 0 0 I J P T z 93 [some (.ref r), some (iv (bz (isG 40 s))), some (iv (bz (isW 7237492 s))), some (iv (bz (isW 1651470187 s))), some (iv (bz (isW 461414299502 s))), some (iv (bz (isW 1751477348 s))), some (iv (nmb s)), none] [.ref r] := by
      intro q
      have e : R = (0, g_bad 1 s, o, []) := by
        rw [hR]
        cases k with
        | zero => unfold s_one; rw [if_pos q]
        | succ k => unfold s_one; rw [if_pos q]
      rw [e] at hX
      refine r_iconst (pc := 93) dX16_one_93 ?_
      refine r_iconst (pc := 94) dX16_one_94 ?_
      refine r_callU2 (pc := 95) (C_needS (d := dd + 4) (S := fun a => a < z0) (X := X) (Q := fg ((0 : Int) = 1) I J P T z none) h.rd h.ti.t h.ti.p (by omega) (by omega) h.rz h.S0 fg_i (fun _ => by rw [one1]; exact (hX rfl).bd)) im_X12_need rfl q1644 q1643 q1642 h.oT rfl dX16_one_95 (by omega) (by omega) rfl (k_gnv fun h => by omega) (fun _ _ _ _ _ _ _ hx => x_out rfl (by omega) (by omega) hx)
    have yes : opn s → PW G mX16_one (rmD (dd + 12) (kc R o) (ks R o)) (MZ G Q X (kc R o) (ks R o)) 0 0 I J P T z 89 [some (.ref r), some (iv (bz (isG 40 s))), some (iv (bz (isW 7237492 s))), some (iv (bz (isW 1651470187 s))), some (iv (bz (isW 461414299502 s))), some (iv (bz (isW 1751477348 s))), some (iv (nmb s)), none] [.ref r] := by
      intro hop
      have h4n : s.1 11 ≠ 4 := by
        intro c
        rcases opn_iff.mp hop with q | q | q | q | q | q
        · have := q.1; omega
        · have := q.1; omega
        · have := q.1; omega
        · have := q.1; omega
        · have := q.1; omega
        · refine q ?_
          unfold nmb isW
          rw [if_neg (by omega), if_neg (by omega), if_neg (by omega), if_neg (by omega)]
      have bad4 : R = (0, g_bad 4 s, o, []) → PW G mX16_one (rmD (dd + 12) (kc R o) (ks R o)) (MZ G Q X (kc R o) (ks R o)) 1 8 I J P T z 121 [some (.ref r), some (iv (bz (isG 40 s))), some (iv (bz (isW 7237492 s))), some (iv (bz (isW 1651470187 s))), some (iv (bz (isW 461414299502 s))), some (iv (bz (isW 1751477348 s))), some (iv (nmb s)), none] [.ref r] := by
        intro e
        rw [e] at hX
        refine r_iconst (pc := 121) dX16_one_121 ?_
        refine r_iconst (pc := 122) dX16_one_122 ?_
        refine r_callU2 (pc := 123) (C_needS (d := dd + 4) (S := fun a => a < z0) (X := X) (Q := fg ((0 : Int) = 1) I J P T z none) h.rd h.ti.t h.ti.p (by omega) (by omega) h.rz h.S0 fg_i (fun _ => by rw [if_neg h4n]; exact (hX rfl).bd)) im_X12_need rfl q1644 q1643 q1642 h.oT rfl dX16_one_123 (by omega) (by omega) rfl (k_gnv fun h => by omega) (fun _ _ _ _ _ _ _ hx => x_out rfl (by omega) (by omega) hx)
      refine r_iconst (pc := 89) dX16_one_89 ?_
      refine r_goto (pc := 90) 94 dX16_one_90 rfl ?_
      refine r_iconst (pc := 94) dX16_one_94 ?_
      refine r_callU2 (pc := 95) (C_needS (d := dd + 4) (S := fun a => a < z0) (X := X) (Q := fe I J P T z none) h.rd h.ti.t h.ti.p (by omega) (by omega) h.rz h.S0 (fun _ => fe_i) (fun c => absurd c (by decide))) im_X12_need rfl q1644 q1643 q1642 h.oT rfl dX16_one_95 (by omega) (by omega) rfl (k_fv ?_) (fun _ _ _ _ _ _ _ hx => x_out rfl (by omega) (by omega) hx)
      show PW G mX16_one (rmD (dd + 12) (kc R o) (ks R o)) (MZ G Q X (kc R o) (ks R o)) 1 8 I J P T z 98 [some (.ref r), some (iv (bz (isG 40 s))), some (iv (bz (isW 7237492 s))), some (iv (bz (isW 1651470187 s))), some (iv (bz (isW 461414299502 s))), some (iv (bz (isW 1751477348 s))), some (iv (nmb s)), none] []
      refine r_aload_n (pc := 98) dX16_one_98 rfl rfl ?_
      refine r_aload_n (pc := 99) dX16_one_99 rfl rfl ?_
      refine r_geti (pc := 100) (c := 16) (k := 10) (kz := 10) h.oT cok_16 (Nat.le_of_ble_eq_true rfl) q1589 ⟨rfl, rfl⟩ (Or.inl rfl) rfl (fun _ _ _ => rfl) dX16_one_100 (fun hr100 => ?_)
      rw [h.i10] at hr100 ⊢
      refine r_bipush (pc := 103) dX16_one_103 (by decide +kernel) ?_
      refine r_icmp_ge (pc := 105) 121 dX16_one_105 rfl (by omega) (by omega) (fun h105 => ?_) (fun h105 => ?_)
      · refine bad4 ?_
        rw [hR]
        cases k with
        | zero => unfold s_one; rw [if_neg (fun q => q hop)]
        | succ k => unfold s_one; rw [if_neg (fun q => q hop), if_pos (by omega)]
      refine r_aload_n (pc := 108) dX16_one_108 rfl rfl ?_
      refine r_geti (pc := 109) (c := 16) (k := 11) (kz := 11) h.oT cok_16 (Nat.le_of_ble_eq_true rfl) q1591 ⟨rfl, rfl⟩ (Or.inl rfl) rfl (fun _ _ _ => rfl) dX16_one_109 (fun hr109 => ?_)
      rw [h.i11] at hr109 ⊢
      refine r_bipush (pc := 112) dX16_one_112 (by decide +kernel) ?_
      refine r_icmp_ge (pc := 114) 121 dX16_one_114 rfl (by omega) (by omega) (fun h114 => ?_) (fun h114 => ?_)
      · refine bad4 ?_
        have k0 : k = 0 := by omega
        rw [hR, k0]
        unfold s_one
        rw [if_neg (fun q => q hop)]
      obtain ⟨k', rfl⟩ : ∃ k', k = k' + 1 := ⟨k - 1, by omega⟩
      have H1 := H1 k' rfl
      have H2 := H2 k' rfl
      have eR : R = s_op τ ρ n (s_one τ ρ n k') s o := by
        rw [hR]
        conv => lhs; unfold s_one
        rw [if_neg (fun q => q hop), if_neg (by omega)]
      refine r_iconst (pc := 117) dX16_one_117 ?_
      refine r_goto (pc := 118) 122 dX16_one_118 rfl ?_
      refine r_iconst (pc := 122) dX16_one_122 ?_
      refine r_callU2 (pc := 123) (C_needS (d := dd + 4) (S := fun a => a < z0) (X := X) (Q := fe I J P T z none) h.rd h.ti.t h.ti.p (by omega) (by omega) h.rz h.S0 (fun _ => fe_i) (fun c => absurd c (by decide))) im_X12_need rfl q1644 q1643 q1642 h.oT rfl dX16_one_123 (by omega) (by omega) rfl (k_fv ?_) (fun _ _ _ _ _ _ _ hx => x_out rfl (by omega) (by omega) hx)
      show PW G mX16_one (rmD (dd + 12) (kc R o) (ks R o)) (MZ G Q X (kc R o) (ks R o)) 2 16 I J P T z 126 [some (.ref r), some (iv (bz (isG 40 s))), some (iv (bz (isW 7237492 s))), some (iv (bz (isW 1651470187 s))), some (iv (bz (isW 461414299502 s))), some (iv (bz (isW 1751477348 s))), some (iv (nmb s)), none] []
      have hbr := h.b
      refine r_aload_n (pc := 126) dX16_one_126 rfl rfl ?_
      refine r_dup (pc := 127) dX16_one_127 rfl ?_
      refine r_geti (pc := 128) (c := 16) (k := 10) (kz := 10) h.oT cok_16 (Nat.le_of_ble_eq_true rfl) q1589 ⟨rfl, rfl⟩ (Or.inl rfl) rfl (fun _ _ _ => rfl) dX16_one_128 (fun hr128 => ?_)
      rw [h.i10] at hr128 ⊢
      refine r_iconst (pc := 131) dX16_one_131 ?_
      refine r_iadd (pc := 132) dX16_one_132 ?_
      refine r_puti (pc := 133) (c := 16) (k := 10) (kz := 10) h.oT cok_16 (Nat.le_of_ble_eq_true rfl) q1589 ⟨rfl, rfl⟩ (Or.inl rfl) rfl (by omega) rfl rfl (by omega) (fun _ _ _ => rfl) ⟨rfl, rfl⟩ dX16_one_133 ?_
      have hA : SWd G (ui I r 10 (o + 1)) P T z0 z r tp t en τ Ls n s (o + 1) w := by
        have := h.wr (j := 10) (v := o + 1) (Or.inl rfl)
        rw [if_pos rfl, if_neg (by decide)] at this
        exact this
      refine r_aload_n (pc := 136) dX16_one_136 rfl rfl ?_
      refine r_dup (pc := 137) dX16_one_137 rfl ?_
      refine r_geti (pc := 138) (c := 16) (k := 11) (kz := 11) hA.oT cok_16 (Nat.le_of_ble_eq_true rfl) q1591 ⟨rfl, rfl⟩ (Or.inl rfl) rfl (fun _ _ _ => rfl) dX16_one_138 (fun hr138 => ?_)
      rw [hA.i11] at hr138 ⊢
      refine r_iconst (pc := 141) dX16_one_141 ?_
      refine r_iadd (pc := 142) dX16_one_142 ?_
      refine r_puti (pc := 143) (c := 16) (k := 11) (kz := 11) hA.oT cok_16 (Nat.le_of_ble_eq_true rfl) q1591 ⟨rfl, rfl⟩ (Or.inl rfl) rfl (by omega) rfl rfl (by omega) (fun _ _ _ => rfl) ⟨rfl, rfl⟩ dX16_one_143 ?_
      have hB : SWd G (ui (ui I r 10 (o + 1)) r 11 (w + 1)) P T z0 z r tp t en τ Ls n s (o + 1) (w + 1) := by
        have := hA.wr (j := 11) (v := w + 1) (Or.inr rfl)
        rw [if_neg (by decide), if_pos rfl] at this
        exact this
      have fB : SG z r I J P T (ui (ui I r 10 (o + 1)) r 11 (w + 1)) J P T := fun b q1 q2 => ⟨by rw [ui_nr q2, ui_nr q2], rfl, rfl, rfl⟩
      refine r_aload_n (pc := 146) dX16_one_146 rfl rfl ?_
      refine r_callU0 (pc := 147) (S_go (d := dd + 4) (Q := er none (SQv G z0 z r tp t en τ Ls n (ui (ui I r 10 (o + 1)) r 11 (w + 1)) J P T (g_nx τ s) (o + 1) (w + 1))) hB (fun I' J' P' T' z' a => er_i a)) im_X12_go rfl q1614 q1613 q1612 hB.oT rfl dX16_one_147 (by omega) (by omega) rfl (k_er fun I2 J2 P2 T2 z2 a2 => ?_) (fun _ _ _ _ _ _ _ hx => no_x hx)
      have hw2 := a2.2.2
      have hz2 := a2.1
      have fA : SG z r I J P T I2 J2 P2 T2 := fB.tr (Nat.le_refl _) a2.2.1
      have fS : FS (fun a => a < z0) I J P T I2 J2 P2 T2 := fun b q => by
        have := h.1
        have q : b < z0 := q
        exact fA b (by omega) (by omega)
      have rzz := h.rz
      have hz0r : z0 ≤ r := h.1.2.1
      -- the end of all
      have fin : ∀ (cu su : Nat) (I5 J5 : HI) (P5 : HP) (T5 : HT) (z5 : Nat) (s5 : TS) (o5 : Int) (L : List CD) (c5 : Nat), R = (1, s5, o5, L) → z2 ≤ z5 → SG z r I J P T I5 J5 P5 T5 → SWd G I5 P5 T5 z0 z5 r tp t en τ Ls n s5 o5 (w + 1) → CT I5 P5 T5 z z5 L.length c5 L → cu ≤ kc R o → su ≤ ks R o → PW G mX16_one (rmD (dd + 12) (kc R o) (ks R o)) (MZ G Q X (kc R o) (ks R o)) cu su I5 J5 P5 T5 z5 229 [some (.ref r), some (iv (bz (isG 40 s))), some (iv (bz (isW 7237492 s))), some (iv (bz (isW 1651470187 s))), some (iv (bz (isW 461414299502 s))), some (iv (bz (isW 1751477348 s))), some (iv (nmb s)), none] [.ref c5] := by
        intro cu su I5 J5 P5 T5 z5 s5 o5 L c5 e hz5 f5 h5 ct5 cu1 su1
        rw [e] at hQ
        refine r_astore7 (pc := 229) (Nat.le_of_ble_eq_true rfl) dX16_one_229 rfl ?_
        refine r_aload_n (pc := 231) dX16_one_231 rfl rfl ?_
        refine r_dup (pc := 232) dX16_one_232 rfl ?_
        refine r_geti (pc := 233) (c := 16) (k := 11) (kz := 11) h5.oT cok_16 (Nat.le_of_ble_eq_true rfl) q1591 ⟨rfl, rfl⟩ (Or.inl rfl) rfl (fun _ _ _ => rfl) dX16_one_233 (fun hr233 => ?_)
        rw [h5.i11] at hr233 ⊢
        refine r_iconst (pc := 236) dX16_one_236 ?_
        refine r_isub (pc := 237) dX16_one_237 ?_
        refine r_puti (pc := 238) (c := 16) (k := 11) (kz := 11) h5.oT cok_16 (Nat.le_of_ble_eq_true rfl) q1591 ⟨rfl, rfl⟩ (Or.inl rfl) rfl (by omega) rfl rfl (by omega) (fun _ _ _ => rfl) ⟨rfl, rfl⟩ dX16_one_238 ?_
        have hC : SWd G (ui I5 r 11 (w + 1 - 1)) P5 T5 z0 z5 r tp t en τ Ls n s5 o5 w := by
          have := h5.wr (j := 11) (v := w + 1 - 1) (Or.inr rfl)
          rw [if_neg (by decide), if_pos rfl] at this
          rw [show w + 1 - 1 = w by omega] at this ⊢
          exact this
        refine r_aload (pc := 241) dX16_one_241 rfl ?_
        refine r_areturn (pc := 243) rfl (Or.inl ⟨_, rfl⟩) dX16_one_243 cu1 su1 ?_
        refine hQ rfl _ _ _ _ _ c5 ⟨by omega, fun b q1 q2 => ?_, hC⟩ (CT.cg _ ct5 (fun b q1 q2 => ⟨ui_nr (by omega), rfl, rfl⟩))
        rw [ui_nr q2]
        exact f5 b q1 q2
      have fX : R.1 = 0 → XK X (fun a => a < z0) I2 J2 P2 T2 (R.2.1.1 15) (R.2.1.1 16) := fun q => (hX q).fs fS
      show PW G mX16_one (rmD (dd + 12) (kc R o) (ks R o)) (MZ G Q X (kc R o) (ks R o)) 6 76 I2 J2 P2 T2 z2 150 [some (.ref r), some (iv (bz (isG 40 s))), some (iv (bz (isW 7237492 s))), some (iv (bz (isW 1651470187 s))), some (iv (bz (isW 461414299502 s))), some (iv (bz (isW 1751477348 s))), some (iv (nmb s)), none] []
      refine r_tz fun hzz2 => ?_
      -- a new cell
      have nw : ∀ c9 : Nat, SWd G (ur I2 z2 fun _ => 0) (urp P2 z2 fun _ => none) (ut T2 z2 (c9, 0)) z0 (z2 + 1) r tp t en τ Ls n (g_nx τ s) (o + 1) (w + 1) := fun c9 => hw2.fz (J := J2) (J' := ur J2 z2 fun _ => 0) (by omega) (fun a q => ⟨ur_n (by omega), ur_n (by omega), urp_n (by omega), ut_n (by omega)⟩) hzz2
      have nf : ∀ c9 : Nat, SG z r I J P T (ur I2 z2 fun _ => 0) (ur J2 z2 fun _ => 0) (urp P2 z2 fun _ => none) (ut T2 z2 (c9, 0)) := fun c9 => fA.tr hz2 (fun b q1 q2 => ⟨ur_n (by omega), ur_n (by omega), urp_n (by omega), ut_n (by omega)⟩)
      have nS : ∀ c9 : Nat, FS (fun a => a < z0) I J P T (ur I2 z2 fun _ => 0) (ur J2 z2 fun _ => 0) (urp P2 z2 fun _ => none) (ut T2 z2 (c9, 0)) := fun c9 b q => by
        have q : b < z0 := q
        exact nf c9 b (by omega) (by omega)
      unfold s_op at eR
      refine r_iload_n (pc := 150) dX16_one_150 rfl rfl ?_
      refine r_if_eq (pc := 151) 161 dX16_one_151 rfl bz_g (fun h151 => ?_) (fun h151 => ?_)
      · have c1 := bz_0.mp h151
        rw [if_neg c1] at eR
        refine r_iload_n (pc := 161) dX16_one_161 rfl rfl ?_
        refine r_if_eq (pc := 162) 179 dX16_one_162 rfl bz_g (fun h162 => ?_) (fun h162 => ?_)
        · have c2 := bz_0.mp h162
          rw [if_neg c2] at eR
          refine r_iload_n (pc := 179) dX16_one_179 rfl rfl ?_
          refine r_if_eq (pc := 180) 193 dX16_one_180 rfl bz_g (fun h180 => ?_) (fun h180 => ?_)
          · have c3 := bz_0.mp h180
            -- somebody's, by name
            have who : ∀ l4, (l4 = 0 ∨ l4 = 1) → lf s = 2 - l4 → bz (isW 461414299502 s) = l4 → PW G mX16_one (rmD (dd + 12) (kc R o) (ks R o)) (MZ G Q X (kc R o) (ks R o)) 6 76 I2 J2 P2 T2 z2 203 [some (.ref r), some (iv (bz (isG 40 s))), some (iv (bz (isW 7237492 s))), some (iv (bz (isW 1651470187 s))), some (iv (bz (isW 461414299502 s))), some (iv (bz (isW 1751477348 s))), some (iv (nmb s)), none] [] := by
              intro l4 hl4 hlf hb4
              have eR : R = s_who τ ρ n (2 - l4) (g_nx τ s) (o + 1) := by
                rw [eR, hlf]
                unfold s_leaf
                rw [if_neg (by omega), if_pos (by omega)]
              unfold s_who at eR
              rw [hb4]
              have hw3 := nw 40
              refine r_new (pc := 203) (c := 20) cok_20 rfl (by decide +kernel) q1669 q1670 q155 (by show 6 + 1 ≤ kc R o; omega) (by show 76 + 2 ≤ ks R o; omega) dX16_one_203 ?_
              refine r_dup (pc := 206) dX16_one_206 rfl ?_
              refine r_aload_n (pc := 207) dX16_one_207 rfl rfl ?_
              refine r_aload_n (pc := 208) dX16_one_208 rfl rfl ?_
              refine r_getr (pc := 209) (c := 16) (k := 9) (kz := 9) hw3.oT cok_16 (Nat.le_of_ble_eq_true rfl) q1588 ⟨rfl, rfl⟩ (Or.inl rfl) rfl (fun _ _ _ => rfl) hw3.pt dX16_one_209 ?_
              refine r_tz fun hzz3 => ?_
              have kbig : R.1 = 0 → 60 ≤ kc R o ∧ 800 ≤ ks R o := fun q => by
                have e5 : R.2.2.1 = o + 1 := by
                  rw [eR]
                  split
                  · rfl
                  · split <;> rfl
                unfold kc ks
                rw [if_pos q, if_pos q, e5]
                omega
              have kbig2 : R.1 ≠ 0 → 35 ≤ kc R o ∧ 437 ≤ ks R o := fun q => by
                have e5 : R.2.2.1 = o + 1 := by
                  rw [eR]
                  split
                  · rfl
                  · split <;> rfl
                unfold kc ks
                rw [if_neg q, if_neg q, e5]
                omega
              have kb : 35 ≤ kc R o ∧ 437 ≤ ks R o := by
                by_cases q : R.1 = 0
                · have := kbig q; omega
                · exact kbig2 q
              have hln := hw3.ln
              refine r_callU1 (pc := 212) (C_personRS (d := dd + 3) (S := fun a => a < z0) (ρ := ρ) (X := X) (f := 0) (Q := fun v I' J' P' T' z' => isN ρ (g_nx τ s) ∧ 0 ≤ t_find (g_nx τ s).2.2.2 (g_nx τ s).2.1 0 0 n ∧ er (some (iv (t_find (g_nx τ s).2.2.2 (g_nx τ s).2.1 0 0 n))) (SQv G z0 (z2 + 1) r tp t en τ Ls n (ur I2 z2 fun _ => 0) (ur J2 z2 fun _ => 0) (urp P2 z2 fun _ => none) (ut T2 z2 (40, 0)) (g_nx τ (g_nx τ s)) (o + 1) (w + 1)) v I' J' P' T' z') hw3.rd hw3.ti hw3.g5 hw3.b hw3.rz hw3.tz hw3.S0 hw3.2.1 hρ hw3.st hw3.nl hw3.nm (fun q1 q2 I' J' P' T' z' b1 b2 b3 => by rw [hln] at q2 ⊢; exact ⟨q1, q2, er_i (hw3.go b1 b2 b3 hzz3)⟩) (fun q => by rw [if_pos q] at eR; rw [eR] at hX; exact (hX rfl).bd.fs (nS 40)) (fun q q2 => by rw [hln] at q2; rw [if_neg (fun c => c q), if_pos q2] at eR; rw [eR] at hX; exact (hX rfl).bd.fs (nS 40))) im_X12_person rfl q1673 q1672 q1671 hw3.oT rfl dX16_one_212 (by omega) (by omega) rfl (fun v I' J' P' T' z' ⟨g1, g2, hv⟩ => k_er (fun I4 J4 P4 T4 z4 b1 => ?_) v I' J' P' T' z' hv) (fun _ _ _ _ _ _ _ hx => x_out rfl (by omega) (by omega) hx)
              rw [if_neg (fun c => c g1), if_neg (by omega)] at eR
              have fr := t_find_r (ν := (g_nx τ s).2.2.2) (w := (g_nx τ s).2.1) (f := 0) n 0 (by omega)
              generalize t_find (g_nx τ s).2.2.2 (g_nx τ s).2.1 0 0 n = p at *
              have hw4 := b1.2.2
              have hTz : T4 z2 = (40, 0) := by rw [(b1.2.1 z2 (by omega) (by omega)).2.2.2]; exact ut_s
              have zz4 : z2 + 1 ≤ z4 := b1.1
              show PW G mX16_one (rmD (dd + 12) (kc R o) (ks R o)) (MZ G Q X (kc R o) (ks R o)) (6+1+10) (76+2+136) I4 J4 P4 T4 z4 215 [some (.ref r), some (iv (bz (isG 40 s))), some (iv (bz (isW 7237492 s))), some (iv (bz (isW 1651470187 s))), some (iv l4), some (iv (bz (isW 1751477348 s))), some (iv (nmb s)), none] [iv p, .ref z2, .ref z2]
              refine r_iload (pc := 215) dX16_one_215 rfl ?_
              refine r_callI2 (pc := 217) (C_inI (d := dd + 9) (c := z2) hTz (by have := hw2.1; omega) (by omega) hl4 fe_i) im_X20_init rfl q1674 dX16_one_217 (by omega) (by omega) rfl (k_fv ?_) (fun _ _ _ _ _ _ _ hx => no_x hx)
              refine r_goto (pc := 220) 229 dX16_one_220 rfl ?_
              have fI : ∀ b, b ≠ z2 → ui (ui I4 z2 0 p) z2 1 l4 b = I4 b := fun b q => by rw [ui_nr q, ui_nr q]
              have hw5 : SWd G (ui (ui I4 z2 0 p) z2 1 l4) P4 T4 z0 z4 r tp t en τ Ls n (g_nx τ (g_nx τ s)) (o + 1) (w + 1) := hw4.ob (c := z2) (by rw [hTz]; decide) (by omega) fI (fun _ _ => rfl)
              rw [← hb4]
              refine fin _ _ _ _ _ _ _ (g_nx τ (g_nx τ s)) (o + 1) [(2 - l4, 0, p)] z2 eR (by omega) (fun b q1 q2 => ?_) ?_ ?_ (by omega) (by omega)
              · have b3 := b1.2.1 b (by omega) q2
                have b4 := nf 40 b q1 q2
                rw [hb4, fI b (by omega)]
                exact ⟨b3.1.trans b4.1, b3.2.1.trans b4.2.1, b3.2.2.1.trans b4.2.2.1, b3.2.2.2.trans b4.2.2.2⟩
              · rw [hb4]; exact hw5
              · rw [hb4]
                exact ⟨⟨by omega, by omega⟩, Or.inr (Or.inl ⟨hTz, p, l4, by omega, hl4, by rw [ui_nj (by omega), ui_sv], ui_sv, rfl⟩)⟩
            refine r_iload (pc := 193) dX16_one_193 rfl ?_
            refine r_if_ne (pc := 195) 203 dX16_one_195 rfl bz_g (fun h195 => ?_) (fun h195 => ?_)
            · have c4 := bz_ne.mp h195
              exact who 1 (Or.inr rfl) (by rw [lf_w c4 (Or.inr (Or.inl ⟨rfl, rfl⟩))]; rfl) (bz_t c4)
            have c4 := bz_0.mp h195
            refine r_iload (pc := 198) dX16_one_198 rfl ?_
            refine r_if_eq (pc := 200) 223 dX16_one_200 rfl bz_g (fun h200 => ?_) (fun h200 => ?_)
            · have c5 := bz_0.mp h200
              have hnm : nmb s ≠ -1 := by
                rcases opn_iff.mp hop with q | q | q | q | q | q
                · exact absurd q c1
                · exact absurd q c2
                · exact absurd q c3
                · exact absurd q c4
                · exact absurd q c5
                · exact q
              have elf := lf_num (s := s) (by omega)
              have eR : R = s_than τ (3 + nmb s) (g_nx τ s) (o + 1) := by
                rw [eR, elf]
                unfold s_leaf
                rw [if_neg (by omega), if_neg (by omega)]
              have eo : R.2.2.1 = o + 1 := by
                rw [eR]
                unfold s_than
                split
                · rfl
                · split <;> rfl
              have kb : 35 ≤ kc R o ∧ 437 ≤ ks R o := by
                unfold kc ks
                rw [eo]
                split <;> omega
              refine r_aload_n (pc := 223) dX16_one_223 rfl rfl ?_
              refine r_iload (pc := 224) dX16_one_224 rfl ?_
              obtain ⟨SR9, hSR⟩ : ∃ S9, S9 = s_than τ (3 + nmb s) (g_nx τ s) (o + 1) := ⟨_, rfl⟩
              have len : SR9.1 = 1 → SR9.2.2.2.length = 1 := by
                rw [hSR]
                unfold s_than
                split
                · intro q; exact absurd (show (0 : Int) = 1 from q) (by decide)
                · split
                  · intro q; exact absurd (show (0 : Int) = 1 from q) (by decide)
                  · intro _; rfl
              rw [← hSR] at eR
              refine r_callV1 (pc := 226) (C_than (d := dd + 1) (X := X) (wh := nmb s) (Q := fun v I' J' P' T' z' => SR9.1 = 1 ∧ ∃ c2, v = some (.ref c2) ∧ SQv G z0 z2 r tp t en τ Ls n I2 J2 P2 T2 SR9.2.1 (o + 1) (w + 1) I' J' P' T' z' ∧ CT I' P' T' z2 z' 1 c2 SR9.2.2.2) hw2 nx_sg (by omega) (fun q I' J' P' T' z' c2 b1 b2 => by rw [← hSR] at q b1 b2; exact ⟨q, c2, rfl, b1, b2⟩) (fun q => by rw [← hSR] at q ⊢; rw [eR] at fX; exact fX q)) im_X16_than qs53 q1685 hw2.oT rfl dX16_one_226 (by omega) (by omega) rfl (fun v I4 J4 P4 T4 z4 hv => ?_) (fun _ _ _ _ _ _ _ hx => x_out rfl (by omega) (by omega) hx)
              obtain ⟨r1, c2, rfl, b1, b2⟩ := hv
              show PW G mX16_one (rmD (dd + 12) (kc R o) (ks R o)) (MZ G Q X (kc R o) (ks R o)) (6+12) (76+147) I4 J4 P4 T4 z4 229 [some (.ref r), some (iv (bz (isG 40 s))), some (iv (bz (isW 7237492 s))), some (iv (bz (isW 1651470187 s))), some (iv (bz (isW 461414299502 s))), some (iv (bz (isW 1751477348 s))), some (iv (nmb s)), none] [.ref c2]
              refine fin _ _ _ _ _ _ _ SR9.2.1 (o + 1) SR9.2.2.2 c2 ?_ b1.1 (fA.tr hz2 b1.2.1) b1.2.2 ?_ (by omega) (by omega)
              · rw [eR] at eo ⊢
                have e9 : SR9 = (SR9.1, SR9.2.1, SR9.2.2.1, SR9.2.2.2) := rfl
                rw [eo, r1] at e9
                exact e9
              · rw [len r1]
                exact CT.rg hz2 (Nat.le_refl _) _ b2
            have c5 := bz_ne.mp h200
            exact who 0 (Or.inl rfl) (by rw [lf_w c5 (Or.inr (Or.inr ⟨rfl, rfl⟩))]; rfl) (bz_f c4)
          have c3 := bz_ne.mp h180
          have elf : lf s = 0 := lf_w c3 (Or.inl ⟨rfl, rfl⟩)
          have eR : R = (1, g_nx τ s, o + 1, [(0, 0, 0)]) := by
            rw [eR, elf]
            unfold s_leaf
            rw [if_pos rfl]
          have hw3 := nw 39
          refine r_new (pc := 183) (c := 19) cok_19 rfl (by decide +kernel) q1662 q1663 q154 (by show 6 + 1 ≤ kc R o; omega) (by show 76 + 0 ≤ ks R o; omega) dX16_one_183 ?_
          refine r_dup (pc := 186) dX16_one_186 rfl ?_
          refine r_callIN0 (pc := 187) (C_bookI (d := dd + 9) (c := z2) fe_i) im_X19_init rfl q1664 dX16_one_187 (by omega) (by omega) rfl (k_fv ?_) (fun _ _ _ _ _ _ _ hx => no_x hx)
          refine r_goto (pc := 190) 229 dX16_one_190 rfl ?_
          exact fin _ _ _ _ _ _ _ (g_nx τ s) (o + 1) [(0, 0, 0)] z2 eR (by omega) (nf 39) hw3 ⟨⟨by omega, by omega⟩, Or.inl ⟨ut_s, rfl⟩⟩ (by omega) (by omega)
        have c2 := bz_ne.mp h162
        rw [if_pos c2] at eR
        have ok1 : SOk n (g_nx τ s) (o + 1) (s_one τ ρ n k' (g_nx τ s) (o + 1)) := SFn.one k' (g_nx τ s) (o + 1) hw2.ti (by omega) (by omega)
        have hw3 := nw 38
        generalize hF : s_one τ ρ n k' (g_nx τ s) (o + 1) = rr at eR ok1
        have d5 := ok1.2.1
        have room : kc rr (o + 1) + 7 ≤ kc R o ∧ ks rr (o + 1) + 77 ≤ ks R o := by
          by_cases q : rr.1 = 0
          · rw [if_pos q] at eR
            rw [eR]
            unfold kc ks
            rw [if_pos q, if_pos q, if_pos q, if_pos q]
            omega
          · rw [if_neg q] at eR
            have r1 : rr.1 = 1 := by have := ok1.1; omega
            have := (ok1.2.2.2.2.2 r1).2.1
            unfold kc ks
            rw [if_neg q, if_neg q, eR, if_neg (show ¬ (1 : Int) = 0 by decide), if_neg (show ¬ (1 : Int) = 0 by decide)]
            dsimp only
            omega
        refine r_new (pc := 165) (c := 18) cok_18 rfl (by decide +kernel) q1649 q1650 q153 (by show 6 + 1 ≤ kc R o; omega) (by show 76 + 1 ≤ ks R o; omega) dX16_one_165 ?_
        refine r_dup (pc := 168) dX16_one_168 rfl ?_
        refine r_aload_n (pc := 169) dX16_one_169 rfl rfl ?_
        refine r_callV0 (pc := 170) (H1 _ _ _ _ _ _ _ hw3 (by omega) (by omega) (fun v I' J' P' T' z' => rr.1 = 1 ∧ ∃ c2, v = some (.ref c2) ∧ SQv G z0 (z2 + 1) r tp t en τ Ls n (ur I2 z2 fun _ => 0) (ur J2 z2 fun _ => 0) (urp P2 z2 fun _ => none) (ut T2 z2 (38, 0)) rr.2.1 rr.2.2.1 (w + 1) I' J' P' T' z' ∧ CT I' P' T' (z2 + 1) z' rr.2.2.2.length c2 rr.2.2.2) X (fun q I' J' P' T' z' c2 b1 b2 => by rw [hF] at q b1 b2; exact ⟨q, c2, rfl, b1, b2⟩) (fun q => by rw [hF] at q ⊢; rw [if_pos q] at eR; rw [eR] at hX; exact (hX q).fs (nS 38))) im_X16_one qs50 q1623 hw3.oT rfl dX16_one_170 (by rw [hF]; omega) (by rw [hF]; omega) rfl (fun v I4 J4 P4 T4 z4 hv => ?_) (fun _ _ _ _ _ _ _ hx => x_out rfl (by rw [hF]; omega) (by rw [hF]; omega) hx)
        obtain ⟨r1, c9, rfl, b1, b2⟩ := hv
        rw [if_neg (by omega)] at eR
        rw [hF]
        have hw4 := b1.2.2
        have hTz : T4 z2 = (38, 0) := by rw [(b1.2.1 z2 (by omega) (by omega)).2.2.2]; exact ut_s
        have zz4 : z2 + 1 ≤ z4 := b1.1
        show PW G mX16_one (rmD (dd + 12) (kc R o) (ks R o)) (MZ G Q X (kc R o) (ks R o)) (6+1+kc rr (o+1)) (76+1+ks rr (o+1)) I4 J4 P4 T4 z4 173 [some (.ref r), some (iv (bz (isG 40 s))), some (iv (bz (isW 7237492 s))), some (iv (bz (isW 1651470187 s))), some (iv (bz (isW 461414299502 s))), some (iv (bz (isW 1751477348 s))), some (iv (nmb s)), none] [.ref c9, .ref z2, .ref z2]
        refine r_callI1 (pc := 173) (C_notI (d := dd + 9) (c := z2) (a := c9) hTz (by have := hw2.1; omega) fe_i) im_X18_init rfl q1651 dX16_one_173 (by omega) (by omega) rfl (k_fv ?_) (fun _ _ _ _ _ _ _ hx => no_x hx)
        refine r_goto (pc := 176) 229 dX16_one_176 rfl ?_
        have fP : ∀ b, b ≠ z2 → up P4 z2 0 (some c9) b = P4 b := fun b q => up_nr q
        have hw5 : SWd G I4 (up P4 z2 0 (some c9)) T4 z0 z4 r tp t en τ Ls n rr.2.1 rr.2.2.1 (w + 1) := hw4.ob (c := z2) (by rw [hTz]; decide) (by omega) (fun _ _ => rfl) fP
        refine fin _ _ _ _ _ _ _ rr.2.1 rr.2.2.1 (rr.2.2.2 ++ [(10, 0, 0)]) z2 eR (by omega) (fun b q1 q2 => ?_) hw5 ?_ (by omega) (by omega)
        · have b3 := b1.2.1 b (by omega) q2
          have b4 := nf 38 b q1 q2
          rw [fP b (by omega)]
          exact ⟨b3.1.trans b4.1, b3.2.1.trans b4.2.1, b3.2.2.1.trans b4.2.2.1, b3.2.2.2.trans b4.2.2.2⟩
        · have el : (rr.2.2.2 ++ [(10, 0, 0)]).length = rr.2.2.2.length + 1 := by simp only [List.length_append, List.length_singleton]
          rw [el]
          refine ⟨⟨by omega, by omega⟩, Or.inr (Or.inr (Or.inr (Or.inl ⟨hTz, c9, rr.2.2.2, up_s, ?_, rfl⟩)))⟩
          refine CT.rg (show z ≤ z2 + 1 by omega) (Nat.le_refl _) _ (CT.cg _ b2 (fun b q1 q2 => ⟨rfl, fP b (by omega), rfl⟩))
      have c1 := bz_ne.mp h151
      rw [if_pos c1] at eR
      have ok1 := (SFn.one (τ := τ) (ρ := ρ) (n := n) k').or (τ := τ) (g_nx τ s) (o + 1) hw2.ti (by omega) (by omega)
      have hf2 : SFn n (s_or τ (s_one τ ρ n k')) := (SFn.one k').or
      obtain ⟨rr, hF⟩ : ∃ rr, rr = s_or τ (s_one τ ρ n k') (g_nx τ s) (o + 1) := ⟨_, rfl⟩
      rw [← hF] at eR ok1
      have d5 := ok1.2.1
      have eB : R = s_br τ rr := eR
      have room : kc rr (o + 1) + 11 ≤ kc R o ∧ ks rr (o + 1) + 144 ≤ ks R o := by
        by_cases q : rr.1 = 0
        · rw [if_pos q] at eR
          rw [eR]
          unfold kc ks
          rw [if_pos q, if_pos q, if_pos q, if_pos q]
          omega
        · rw [if_neg q] at eR
          have r1 : rr.1 = 1 := by have := ok1.1; omega
          have := (ok1.2.2.2.2.2 r1).2.1
          have eo : R.2.2.1 = rr.2.2.1 := by rw [eR]; split <;> rfl
          unfold kc ks
          rw [if_neg q, if_neg q, eo]
          split <;> omega
      refine r_aload_n (pc := 154) dX16_one_154 rfl rfl ?_
      refine r_callV0 (pc := 155) (C_bracket (X := X) (Q := fun v I' J' P' T' z' => R.1 = 1 ∧ ∃ c2, v = some (.ref c2) ∧ SQv G z0 z2 r tp t en τ Ls n I2 J2 P2 T2 R.2.1 rr.2.2.1 (w + 1) I' J' P' T' z' ∧ CT I' P' T' z2 z' rr.2.2.2.length c2 rr.2.2.2) H2 hf2 hw2 (by omega) (by omega) (fun q I' J' P' T' z' c2 b1 b2 => by rw [← hF, ← eB] at q b1; rw [← hF] at b2; exact ⟨q, c2, rfl, b1, b2⟩) (fun q => by rw [← hF, ← eB] at q ⊢; exact fX q)) im_X16_bracket qs52 q1645 hw2.oT rfl dX16_one_155 (by rw [← hF]; omega) (by rw [← hF]; omega) rfl (fun v I4 J4 P4 T4 z4 hv => ?_) (fun _ _ _ _ _ _ _ hx => x_out rfl (by rw [← hF]; omega) (by rw [← hF]; omega) hx)
      obtain ⟨r1, c9, rfl, b1, b2⟩ := hv
      have e9 : R = (1, R.2.1, rr.2.2.1, rr.2.2.2) := by
        by_cases q : rr.1 = 0
        · rw [if_pos q] at eR; rw [eR] at r1; omega
        · rw [if_neg q] at eR
          by_cases q2 : isG 41 rr.2.1
          · rw [if_neg (fun c => c q2)] at eR; rw [eR]
          · rw [if_pos q2] at eR; rw [eR] at r1; exact absurd (show (0 : Int) = 1 from r1) (by decide)
      rw [← hF]
      show PW G mX16_one (rmD (dd + 12) (kc R o) (ks R o)) (MZ G Q X (kc R o) (ks R o)) (6+(kc rr (o+1)+5)) (76+(ks rr (o+1)+68)) I4 J4 P4 T4 z4 158 [some (.ref r), some (iv (bz (isG 40 s))), some (iv (bz (isW 7237492 s))), some (iv (bz (isW 1651470187 s))), some (iv (bz (isW 461414299502 s))), some (iv (bz (isW 1751477348 s))), some (iv (nmb s)), none] [.ref c9]
      refine r_goto (pc := 158) 229 dX16_one_158 rfl ?_
      exact fin _ _ _ _ _ _ _ R.2.1 rr.2.2.1 rr.2.2.2 c9 e9 b1.1 (fA.tr hz2 b1.2.1) b1.2.2 (CT.rg hz2 (Nat.le_refl _) _ b2) (by omega) (by omega)
    refine r_istore6 (pc := 58) (Nat.le_of_ble_eq_true rfl) dX16_one_58 rfl ?_
    refine r_aload_n (pc := 60) dX16_one_60 rfl rfl ?_
    refine r_iload_n (pc := 61) dX16_one_61 rfl rfl ?_
    refine r_if_ne (pc := 62) 89 dX16_one_62 rfl bz_g (fun h62 => ?_) (fun h62 => ?_)
    · exact yes (opn_iff.mpr (Or.inl (bz_ne.mp h62)))
    refine r_iload_n (pc := 65) dX16_one_65 rfl rfl ?_
    refine r_if_ne (pc := 66) 89 dX16_one_66 rfl bz_g (fun h66 => ?_) (fun h66 => ?_)
    · exact yes (opn_iff.mpr (Or.inr (Or.inl (bz_ne.mp h66))))
    refine r_iload_n (pc := 69) dX16_one_69 rfl rfl ?_
    refine r_if_ne (pc := 70) 89 dX16_one_70 rfl bz_g (fun h70 => ?_) (fun h70 => ?_)
    · exact yes (opn_iff.mpr (Or.inr (Or.inr (Or.inl (bz_ne.mp h70)))))
    refine r_iload (pc := 73) dX16_one_73 rfl ?_
    refine r_if_ne (pc := 75) 89 dX16_one_75 rfl bz_g (fun h75 => ?_) (fun h75 => ?_)
    · exact yes (opn_iff.mpr (Or.inr (Or.inr (Or.inr (Or.inl (bz_ne.mp h75))))))
    refine r_iload (pc := 78) dX16_one_78 rfl ?_
    refine r_if_ne (pc := 80) 89 dX16_one_80 rfl bz_g (fun h80 => ?_) (fun h80 => ?_)
    · exact yes (opn_iff.mpr (Or.inr (Or.inr (Or.inr (Or.inr (Or.inl (bz_ne.mp h80)))))))
    refine r_iload (pc := 83) dX16_one_83 rfl ?_
    refine r_iconst (pc := 85) dX16_one_85 ?_
    refine r_icmp_eq (pc := 86) 93 dX16_one_86 rfl (by omega) (by omega) (fun h86 => ?_) (fun h86 => ?_)
    · refine no (fun q => ?_)
      rcases opn_iff.mp q with q | q | q | q | q | q
      · exact bz_0.mp h62 q
      · exact bz_0.mp h66 q
      · exact bz_0.mp h70 q
      · exact bz_0.mp h75 q
      · exact bz_0.mp h80 q
      · exact q h86
    exact yes (opn_iff.mpr (Or.inr (Or.inr (Or.inr (Or.inr (Or.inr h86))))))
  refine r_aload_n (pc := 0) dX16_one_0 rfl rfl ?_
  refine r_geti (pc := 1) (c := 16) (k := 4) (kz := 4) h.oT cok_16 (Nat.le_of_ble_eq_true rfl) q626 ⟨rfl, rfl⟩ (Or.inr q627) rfl (fun _ _ _ => rfl) dX16_one_1 (fun hr1 => ?_)
  refine r_bipush (pc := 4) dX16_one_4 (by decide +kernel) ?_
  refine r_icmp_ne (pc := 6) 22 dX16_one_6 rfl (by omega) (by omega) (fun h6 => ?_) (fun h6 => ?_)
  · rw [bz_f (fun c => by have := c.1; have := c.2; omega)] at st24
    refine r_iconst (pc := 22) dX16_one_22 ?_
    exact st24
  have h3 : s.1 11 = 3 := by omega
  have h7 : I r 7 = s.1 14 := by
    have := tk.2.2.2.2.1 h3
    omega
  refine r_aload_n (pc := 9) dX16_one_9 rfl rfl ?_
  refine r_geti (pc := 10) (c := 16) (k := 7) (kz := 7) h.oT cok_16 (Nat.le_of_ble_eq_true rfl) q632 ⟨rfl, rfl⟩ (Or.inr q633) rfl (fun _ _ _ => rfl) dX16_one_10 (fun hr10 => ?_)
  rw [h7] at hr10 ⊢
  refine r_bipush (pc := 13) dX16_one_13 (by decide +kernel) ?_
  refine r_icmp_ne (pc := 15) 22 dX16_one_15 rfl (by omega) (by omega) (fun h15 => ?_) (fun h15 => ?_)
  · rw [bz_f (fun c => h15 c.2)] at st24
    refine r_iconst (pc := 22) dX16_one_22 ?_
    exact st24
  rw [bz_t ⟨h3, h15⟩] at st24
  refine r_iconst (pc := 18) dX16_one_18 ?_
  refine r_goto (pc := 19) 23 dX16_one_19 rfl ?_
  exact st24
/-- operands and chains, by their depth -/
theorem RC_one (hρ : RES ρ) (hn6 : n ≤ 6) : ∀ (k d : Nat), k ≤ 8 → RC G z0 r tp t en τ Ls n yX16_one ws1o (d + 12 + 4 * k) (8 - (k : Int)) (s_one τ ρ n k) ∧ RC G z0 r tp t en τ Ls n yX16_or wsOr (d + 14 + 4 * k) (8 - (k : Int)) (s_or τ (s_one τ ρ n k)) := by
  intro k
  induction k with
  | zero =>
    intro d _
    have h1 : RC G z0 r tp t en τ Ls n yX16_one ws1o (d + 12) (8 - ((0 : Nat) : Int)) (s_one τ ρ n 0) := fun I J P T z s o h h0 h1 Q X hQ hX => C_opd (dd := d) hρ hn6 rfl (by omega) (by omega) (fun k' e => by omega) (fun k' e => by omega) h h0 h1 hQ hX
    exact ⟨h1, C_or (dd := d + 5) (C_and (dd := d + 4) h1 (SFn.one 0)) (SFn.one 0).and⟩
  | succ k ih =>
    intro d hk
    obtain ⟨i1, -⟩ := ih (d + 3) (by omega)
    obtain ⟨-, i2⟩ := ih d (by omega)
    have ew : (8 : Int) - ((k + 1 : Nat) : Int) + 1 = 8 - (k : Nat) := by omega
    have h1 : RC G z0 r tp t en τ Ls n yX16_one ws1o (d + 12 + 4 * (k + 1)) (8 - ((k + 1 : Nat) : Int)) (s_one τ ρ n (k + 1)) := fun I J P T z s o h h0 h1 Q X hQ hX => by
      have e1 : d + 12 + 4 * (k + 1) = (d + 4 + 4 * k) + 12 := by omega
      rw [e1]
      refine C_opd (dd := d + 4 + 4 * k) hρ hn6 rfl (by omega) (by omega) (fun k' e => ?_) (fun k' e => ?_) h h0 h1 hQ hX
      · obtain rfl : k' = k := by omega
        rw [ew]
        have e2 : d + 4 + 4 * k' + 11 = d + 3 + 12 + 4 * k' := by omega
        rw [e2]
        exact i1
      · obtain rfl : k' = k := by omega
        rw [ew]
        have e2 : d + 4 + 4 * k' + 10 = d + 14 + 4 * k' := by omega
        rw [e2]
        exact i2
    have e3 : d + 12 + 4 * (k + 1) = (d + 4 + 4 * (k + 1)) + 8 := by omega
    have e4 : d + 14 + 4 * (k + 1) = (d + 5 + 4 * (k + 1)) + 9 := by omega
    refine ⟨h1, ?_⟩
    rw [e4]
    have hA := C_and (dd := d + 4 + 4 * (k + 1)) (e3 ▸ h1) (SFn.one (k + 1))
    have e5 : d + 4 + 4 * (k + 1) + 9 = (d + 5 + 4 * (k + 1)) + 8 := by omega
    rw [e5] at hA
    exact C_or hA (SFn.one (k + 1)).and
end P29
