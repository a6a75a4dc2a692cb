/-! ===== the component: chains of a sentence ===== -/
section P27
variable {G : GE} {I J I' J' : HI} {P P' : HP} {T T' : HT} {z z' z0 r tp t en d c : Nat} {Q : QT} {X : XT} {τ ρ : Int → Int} {Ls : List (List Int)} {n : Nat} {s s' : TS} {o w : Int}
theorem C_c17 (hQ : Q none I J P T z) : MC G yX17_init (ws_ yX17_init cX17_init 1 (none : Option FieldType)) (d + 1) 0 0 [.ref c] I J P T z Q nX := by
  refine MC.of (by decide) (Nat.le_of_ble_eq_true rfl) ?_
  show PW G mX17_init (rmD (d + 1) 0 0) (MZ G Q nX 0 0) 0 0 I J P T z 0 [some (.ref c)] []
  refine r_aload_n (pc := 0) dX17_init_0 rfl rfl ?_
  refine r_objI (pc := 1) q1657 dX17_init_1 rfl ?_
  refine r_return (pc := 4) rfl dX17_init_4 (Nat.le_of_ble_eq_true rfl) (Nat.le_of_ble_eq_true rfl) ?_
  exact hQ
theorem C_notI {a : Nat} (hT : T c = (38, 0)) (hb : G.2.2.2.1 ≤ c) (hQ : Q none I J (up P c 0 (some a)) T z) : MC G yX18_init (ws_ yX18_init cX18_init 2 (none : Option FieldType)) (d + 2) 0 0 [.ref c, .ref a] I J P T z Q nX := by
  refine MC.of (by decide) (Nat.le_of_ble_eq_true rfl) ?_
  show PW G mX18_init (rmD (d + 2) 0 0) (MZ G Q nX 0 0) 0 0 I J P T z 0 [some (.ref c), some (.ref a)] []
  refine r_aload_n (pc := 0) dX18_init_0 rfl rfl ?_
  refine r_callIN0 (pc := 1) (C_c17 fe_i) im_X17_init rfl q1654 dX18_init_1 (Nat.le_of_ble_eq_true rfl) (Nat.le_of_ble_eq_true rfl) rfl (k_fv ?_) (fun _ _ _ _ _ _ _ hx => no_x hx)
  refine r_aload_n (pc := 4) dX18_init_4 rfl rfl ?_
  refine r_aload_n (pc := 5) dX18_init_5 rfl rfl ?_
  refine r_putrF (pc := 6) (r := (some a)) (c := 18) (k := 0) (kz := 0) hT cok_18 (Nat.le_of_ble_eq_true rfl) q1658 ⟨rfl, rfl⟩ (Or.inl rfl) rfl (by omega) rfl rfl rfl rfl rfl (fun _ _ _ => rfl) ⟨rfl, rfl⟩ dX18_init_6 ?_
  refine r_return (pc := 9) rfl dX18_init_9 (Nat.le_of_ble_eq_true rfl) (Nat.le_of_ble_eq_true rfl) ?_
  exact hQ
theorem C_bookI (hQ : Q none I J P T z) : MC G yX19_init (ws_ yX19_init cX19_init 1 (none : Option FieldType)) (d + 2) 0 0 [.ref c] I J P T z Q nX := by
  refine MC.of (by decide) (Nat.le_of_ble_eq_true rfl) ?_
  show PW G mX19_init (rmD (d + 2) 0 0) (MZ G Q nX 0 0) 0 0 I J P T z 0 [some (.ref c)] []
  refine r_aload_n (pc := 0) dX19_init_0 rfl rfl ?_
  refine r_callIN0 (pc := 1) (C_c17 fe_i) im_X17_init rfl q1667 dX19_init_1 (Nat.le_of_ble_eq_true rfl) (Nat.le_of_ble_eq_true rfl) rfl (k_fv ?_) (fun _ _ _ _ _ _ _ hx => no_x hx)
  refine r_return (pc := 4) rfl dX19_init_4 (Nat.le_of_ble_eq_true rfl) (Nat.le_of_ble_eq_true rfl) ?_
  exact hQ
theorem C_inI {p a : Int} (hT : T c = (40, 0)) (hb : G.2.2.2.1 ≤ c) (hp : rg p) (ha : a = 0 ∨ a = 1) (hQ : Q none (ui (ui I c 0 p) c 1 a) J P T z) : MC G yX20_init (ws_ yX20_init cX20_init 3 (none : Option FieldType)) (d + 2) 0 0 [.ref c, iv p, iv a] I J P T z Q nX := by
  refine MC.of (by decide) (Nat.le_of_ble_eq_true rfl) ?_
  show PW G mX20_init (rmD (d + 2) 0 0) (MZ G Q nX 0 0) 0 0 I J P T z 0 [some (.ref c), some (iv p), some (iv a)] []
  refine r_aload_n (pc := 0) dX20_init_0 rfl rfl ?_
  refine r_callIN0 (pc := 1) (C_c17 fe_i) im_X17_init rfl q1677 dX20_init_1 (Nat.le_of_ble_eq_true rfl) (Nat.le_of_ble_eq_true rfl) rfl (k_fv ?_) (fun _ _ _ _ _ _ _ hx => no_x hx)
  refine r_aload_n (pc := 4) dX20_init_4 rfl rfl ?_
  refine r_iload_n (pc := 5) dX20_init_5 rfl rfl ?_
  refine r_putiF (pc := 6) (c := 20) (k := 0) (kz := 0) hT cok_20 (Nat.le_of_ble_eq_true rfl) q1678 ⟨rfl, rfl⟩ (Or.inl rfl) rfl (by omega) rfl rfl rfl rfl (by omega) (fun _ _ _ => rfl) ⟨rfl, rfl⟩ dX20_init_6 ?_
  refine r_aload_n (pc := 9) dX20_init_9 rfl rfl ?_
  refine r_iload_n (pc := 10) dX20_init_10 rfl rfl ?_
  rcases ha with rfl | rfl
  · refine r_putiF (pc := 11) (c := 20) (k := 1) (kz := 1) hT cok_20 (Nat.le_of_ble_eq_true rfl) q1679 ⟨rfl, rfl⟩ (Or.inl rfl) rfl (by omega) rfl rfl rfl rfl (by omega) (fun _ _ _ => rfl) ⟨rfl, rfl⟩ dX20_init_11 ?_
    refine r_return (pc := 14) rfl dX20_init_14 (Nat.le_of_ble_eq_true rfl) (Nat.le_of_ble_eq_true rfl) ?_
    exact hQ
  refine r_putiF (pc := 11) (c := 20) (k := 1) (kz := 1) hT cok_20 (Nat.le_of_ble_eq_true rfl) q1679 ⟨rfl, rfl⟩ (Or.inl rfl) rfl (by omega) rfl rfl rfl rfl (by omega) (fun _ _ _ => rfl) ⟨rfl, rfl⟩ dX20_init_11 ?_
  refine r_return (pc := 14) rfl dX20_init_14 (Nat.le_of_ble_eq_true rfl) (Nat.le_of_ble_eq_true rfl) ?_
  exact hQ
theorem C_thanI {a b e : Int} (hT : T c = (41, 0)) (hb : G.2.2.2.1 ≤ c) (h1 : rg a) (h2 : rg b) (h3 : rg e) (hQ : Q none (ui (ui (ui I c 0 a) c 1 b) c 2 e) J P T z) : MC G yX21_init (ws_ yX21_init cX21_init 4 (none : Option FieldType)) (d + 2) 0 0 [.ref c, iv a, iv b, iv e] I J P T z Q nX := by
  refine MC.of (by decide) (Nat.le_of_ble_eq_true rfl) ?_
  show PW G mX21_init (rmD (d + 2) 0 0) (MZ G Q nX 0 0) 0 0 I J P T z 0 [some (.ref c), some (iv a), some (iv b), some (iv e)] []
  refine r_aload_n (pc := 0) dX21_init_0 rfl rfl ?_
  refine r_callIN0 (pc := 1) (C_c17 fe_i) im_X17_init rfl q1697 dX21_init_1 (Nat.le_of_ble_eq_true rfl) (Nat.le_of_ble_eq_true rfl) rfl (k_fv ?_) (fun _ _ _ _ _ _ _ hx => no_x hx)
  refine r_aload_n (pc := 4) dX21_init_4 rfl rfl ?_
  refine r_iload_n (pc := 5) dX21_init_5 rfl rfl ?_
  refine r_putiF (pc := 6) (c := 21) (k := 0) (kz := 0) hT cok_21 (Nat.le_of_ble_eq_true rfl) q1698 ⟨rfl, rfl⟩ (Or.inl rfl) rfl (by omega) rfl rfl rfl rfl (by omega) (fun _ _ _ => rfl) ⟨rfl, rfl⟩ dX21_init_6 ?_
  refine r_aload_n (pc := 9) dX21_init_9 rfl rfl ?_
  refine r_iload_n (pc := 10) dX21_init_10 rfl rfl ?_
  refine r_putiF (pc := 11) (c := 21) (k := 1) (kz := 1) hT cok_21 (Nat.le_of_ble_eq_true rfl) q1699 ⟨rfl, rfl⟩ (Or.inl rfl) rfl (by omega) rfl rfl rfl rfl (by omega) (fun _ _ _ => rfl) ⟨rfl, rfl⟩ dX21_init_11 ?_
  refine r_aload_n (pc := 14) dX21_init_14 rfl rfl ?_
  refine r_iload_n (pc := 15) dX21_init_15 rfl rfl ?_
  refine r_putiF (pc := 16) (c := 21) (k := 2) (kz := 2) hT cok_21 (Nat.le_of_ble_eq_true rfl) q1700 ⟨rfl, rfl⟩ (Or.inl rfl) rfl (by omega) rfl rfl rfl rfl (by omega) (fun _ _ _ => rfl) ⟨rfl, rfl⟩ dX21_init_16 ?_
  refine r_return (pc := 19) rfl dX21_init_19 (Nat.le_of_ble_eq_true rfl) (Nat.le_of_ble_eq_true rfl) ?_
  exact hQ
theorem C_twoI {a b : Nat} {e : Int} (hT : T c = (42, 0)) (hb : G.2.2.2.1 ≤ c) (he : e = 0 ∨ e = 1) (hQ : Q none (ui I c 2 e) J (up (up P c 0 (some a)) c 1 (some b)) T z) : MC G yX22_init (ws_ yX22_init cX22_init 4 (none : Option FieldType)) (d + 2) 0 0 [.ref c, .ref a, .ref b, iv e] I J P T z Q nX := by
  refine MC.of (by decide) (Nat.le_of_ble_eq_true rfl) ?_
  show PW G mX22_init (rmD (d + 2) 0 0) (MZ G Q nX 0 0) 0 0 I J P T z 0 [some (.ref c), some (.ref a), some (.ref b), some (iv e)] []
  refine r_aload_n (pc := 0) dX22_init_0 rfl rfl ?_
  refine r_callIN0 (pc := 1) (C_c17 fe_i) im_X17_init rfl q1714 dX22_init_1 (Nat.le_of_ble_eq_true rfl) (Nat.le_of_ble_eq_true rfl) rfl (k_fv ?_) (fun _ _ _ _ _ _ _ hx => no_x hx)
  refine r_aload_n (pc := 4) dX22_init_4 rfl rfl ?_
  refine r_aload_n (pc := 5) dX22_init_5 rfl rfl ?_
  refine r_putrF (pc := 6) (r := (some a)) (c := 22) (k := 0) (kz := 0) hT cok_22 (Nat.le_of_ble_eq_true rfl) q1715 ⟨rfl, rfl⟩ (Or.inl rfl) rfl (by omega) rfl rfl rfl rfl rfl (fun _ _ _ => rfl) ⟨rfl, rfl⟩ dX22_init_6 ?_
  refine r_aload_n (pc := 9) dX22_init_9 rfl rfl ?_
  refine r_aload_n (pc := 10) dX22_init_10 rfl rfl ?_
  refine r_putrF (pc := 11) (r := (some b)) (c := 22) (k := 1) (kz := 1) hT cok_22 (Nat.le_of_ble_eq_true rfl) q1716 ⟨rfl, rfl⟩ (Or.inl rfl) rfl (by omega) rfl rfl rfl rfl rfl (fun _ _ _ => rfl) ⟨rfl, rfl⟩ dX22_init_11 ?_
  refine r_aload_n (pc := 14) dX22_init_14 rfl rfl ?_
  refine r_iload_n (pc := 15) dX22_init_15 rfl rfl ?_
  rcases he with rfl | rfl
  · refine r_putiF (pc := 16) (c := 22) (k := 2) (kz := 2) hT cok_22 (Nat.le_of_ble_eq_true rfl) q1717 ⟨rfl, rfl⟩ (Or.inl rfl) rfl (by omega) rfl rfl rfl rfl (by omega) (fun _ _ _ => rfl) ⟨rfl, rfl⟩ dX22_init_16 ?_
    refine r_return (pc := 19) rfl dX22_init_19 (Nat.le_of_ble_eq_true rfl) (Nat.le_of_ble_eq_true rfl) ?_
    exact hQ
  refine r_putiF (pc := 16) (c := 22) (k := 2) (kz := 2) hT cok_22 (Nat.le_of_ble_eq_true rfl) q1717 ⟨rfl, rfl⟩ (Or.inl rfl) rfl (by omega) rfl rfl rfl rfl (by omega) (fun _ _ _ => rfl) ⟨rfl, rfl⟩ dX22_init_16 ?_
  refine r_return (pc := 19) rfl dX22_init_19 (Nat.le_of_ble_eq_true rfl) (Nat.le_of_ble_eq_true rfl) ?_
  exact hQ
theorem C_and {f : TS → Int → SR} {dd : Nat} (H : RC G z0 r tp t en τ Ls n yX16_one (ws_ yX16_one cX16_one 8 (some (FieldType.object "SevenTable$Cond"))) (dd + 8) w f) (hf : SFn n f) : RC G z0 r tp t en τ Ls n yX16_and (ws_ yX16_and cX16_and 2 (some (FieldType.object "SevenTable$Cond"))) (dd + 9) w (s_ch τ 6385252 11 f) := by
  intro I J P T z s o h h0 h1 Q X hQ hX
  have ok := hf s o h.ti h0 h1
  have okR := (SOk.ch (τ := τ) (w := 6385252) (c := 11) hf (by decide) h.ti h0 h1).1
  obtain ⟨R, hR⟩ : ∃ R, R = s_ch τ 6385252 11 f s o := ⟨_, rfl⟩
  rw [← hR] at hQ hX okR ⊢
  have oR := okR.2.1
  refine MC.tz fun hzz => ?_
  refine MC.of (by decide) (Nat.le_of_ble_eq_true rfl) ?_
  show PW G mX16_and (rmD (dd + 9) (kc R o) (ks R o)) (MZ G Q X (kc R o) (ks R o)) 0 0 I J P T z 0 [some (.ref r), none] []
  have loop : ∀ (k : Nat) (I1 J1 : HI) (P1 : HP) (T1 : HT) (z1 : Nat) (s1 : TS) (o1 : Int) (L : List CD) (c1 : Nat), SQv G z0 z r tp t en τ Ls n I J P T s1 o1 w I1 J1 P1 T1 z1 → CT I1 P1 T1 z z1 L.length c1 L → 0 < L.length → R = s_al τ 6385252 11 f k s1 o1 L → o + 1 ≤ o1 → o1 ≤ 20 → 21 ≤ o1 + k → PW G mX16_and (rmD (dd + 9) (kc R o) (ks R o)) (MZ G Q X (kc R o) (ks R o)) (40*(o1-o).toNat-5) (500*(o1-o).toNat-63) I1 J1 P1 T1 z1 5 [some (.ref r), some (.ref c1)] [] := by
    intro k
    induction k with
    | zero => intro I1 J1 P1 T1 z1 s1 o1 L c1 _ _ _ _ _ _ _; omega
    | succ k ih =>
      intro I1 J1 P1 T1 z1 s1 o1 L c1 a hc hL he p1 p2 p3
      have hw1 := a.2.2
      have mono := al_o (τ := τ) (w := 6385252) (c := 11) hf (k + 1) s1 o1 L hw1.ti (by omega) p2
      rw [← he] at mono
      unfold s_al at he
      refine r_aload_n (pc := 5) dX16_and_5 rfl rfl ?_
      refine r_ldcS (pc := 6) 20 rfl rfl dX16_and_6 ?_
      refine r_callU1 (pc := 8) (C_isS (d := dd + 6) hw1.rd hw1.ti.t (hw1.2.1.st (i := 20) rfl rfl) ws8.1 fe_i) im_X12_is rfl q1630 q1629 q1628 hw1.oT rfl dX16_and_8 (by unfold kc; split <;> omega) (by unfold ks; split <;> omega) rfl (k_fi ?_) (fun _ _ _ _ _ _ _ hx => no_x hx)
      rw [ws8.2]
      by_cases c0 : isW 6385252 s1
      · rw [if_pos c0] at he
        rw [bz_t c0]
        refine r_if_eq (pc := 11) 35 dX16_and_11 rfl (by omega) (fun h11 => ?_) (fun h11 => ?_)
        · exact absurd h11 (by decide)
        have okf := hf (g_nx τ s1) o1 hw1.ti.nx (by omega) p2
        have d5 := okf.2.1
        -- how much there is left
        have room : (40 * (o1 - o).toNat ≤ kc R o) ∧ 500 * (o1 - o).toNat ≤ ks R o := by
          unfold kc ks
          by_cases q : (f (g_nx τ s1) o1).1 = 0
          · rw [if_pos q] at he
            rw [he, if_pos q, if_pos q]
            omega
          · rw [if_neg q] at he
            have r1 : (f (g_nx τ s1) o1).1 = 1 := by have := okf.1; omega
            have m2 := al_o (τ := τ) (w := 6385252) (c := 11) hf k (f (g_nx τ s1) o1).2.1 (f (g_nx τ s1) o1).2.2.1 (L ++ (f (g_nx τ s1) o1).2.2.2 ++ [(11, 0, 0)]) (okf.2.2.2.2.2 r1).1 (by omega) (by omega)
            rw [← he] at m2
            have := (okf.2.2.2.2.2 r1).2.1
            split <;> omega
        have room2 : 40 * (o1 - o).toNat + kc (f (g_nx τ s1) o1) o1 ≤ kc R o ∧ 500 * (o1 - o).toNat + ks (f (g_nx τ s1) o1) o1 ≤ ks R o := by
          by_cases q : (f (g_nx τ s1) o1).1 = 0
          · rw [if_pos q] at he
            rw [he]
            unfold kc ks
            rw [if_pos q, if_pos q, if_pos q, if_pos q]
            omega
          · rw [if_neg q] at he
            have r1 : (f (g_nx τ s1) o1).1 = 1 := by have := okf.1; omega
            have m2 := al_o (τ := τ) (w := 6385252) (c := 11) hf k (f (g_nx τ s1) o1).2.1 (f (g_nx τ s1) o1).2.2.1 (L ++ (f (g_nx τ s1) o1).2.2.2 ++ [(11, 0, 0)]) (okf.2.2.2.2.2 r1).1 (by omega) (by omega)
            rw [← he] at m2
            have := (okf.2.2.2.2.2 r1).2.1
            unfold kc ks
            rw [if_neg q, if_neg q]
            split <;> omega
        refine r_aload_n (pc := 14) dX16_and_14 rfl rfl ?_
        refine r_callU0 (pc := 15) (S_go (d := dd + 1) (Q := er none (SQv G z0 z1 r tp t en τ Ls n I1 J1 P1 T1 (g_nx τ s1) o1 w)) hw1 (fun I' J' P' T' z' a => er_i a)) im_X12_go rfl q1614 q1613 q1612 hw1.oT rfl dX16_and_15 (by omega) (by omega) rfl (k_er fun I2 J2 P2 T2 z2 a2 => ?_) (fun _ _ _ _ _ _ _ hx => no_x hx)
        have hw2 := a2.2.2
        show PW G mX16_and (rmD (dd + 9) (kc R o) (ks R o)) (MZ G Q X (kc R o) (ks R o)) (40*(o1-o).toNat-5+0+4) (500*(o1-o).toNat-63+0+60) I2 J2 P2 T2 z2 18 [some (.ref r), some (.ref c1)] []
        refine r_tz fun hzz2 => ?_
        have hc2 : CT I2 P2 T2 z z1 L.length c1 L := CT.cg _ hc (fun a q1 q2 => by
          have := a2.2.1 a q2 (fun e => by have := h.rz; omega)
          exact ⟨this.1, this.2.2.1, this.2.2.2⟩)
        refine r_new (pc := 18) (c := 22) cok_22 rfl (by decide +kernel) q1709 q1710 q157 (by show 40*(o1-o).toNat-5+0+4+1 ≤ kc R o; omega) (by show 500*(o1-o).toNat-63+0+60+3 ≤ ks R o; omega) dX16_and_18 ?_
        have hw3 : SWd G (ur I2 z2 fun _ => 0) (urp P2 z2 fun _ => none) (ut T2 z2 (42, 0)) z0 (z2 + 1) r tp t en τ Ls n (g_nx τ s1) o1 w := hw2.fz (J := J2) (J' := ur J2 z2 fun _ => 0) (by omega) (fun a q => ⟨ur_n (by omega), ur_n (by omega), urp_n (by omega), ut_n (by omega)⟩) hzz2
        refine r_dup (pc := 21) dX16_and_21 rfl ?_
        refine r_aload_n (pc := 22) dX16_and_22 rfl rfl ?_
        refine r_aload_n (pc := 23) dX16_and_23 rfl rfl ?_
        generalize hF : f (g_nx τ s1) o1 = rr at he room2 okf d5
        refine r_callV0 (pc := 24) (H _ _ _ _ _ _ _ hw3 (by omega) p2 (fun v I' J' P' T' z' => rr.1 = 1 ∧ ∃ c2, v = some (.ref c2) ∧ SQv G z0 (z2 + 1) r tp t en τ Ls n (ur I2 z2 fun _ => 0) (ur J2 z2 fun _ => 0) (urp P2 z2 fun _ => none) (ut T2 z2 (42, 0)) rr.2.1 rr.2.2.1 w I' J' P' T' z' ∧ CT I' P' T' (z2 + 1) z' rr.2.2.2.length c2 rr.2.2.2) X (fun q I' J' P' T' z' c2 b1 b2 => by rw [hF] at q b1 b2; exact ⟨q, c2, rfl, b1, b2⟩) (fun q => by rw [hF] at q ⊢; rw [if_pos q] at he; rw [he] at hX; refine ((hX q).sq h a).fs (FS.tr (SQv.fs hw1 a2) (fun b q9 => ?_)); have q9 : b < z0 := q9; have := hw2.1; exact ⟨ur_n (by omega), ur_n (by omega), urp_n (by omega), ut_n (by omega)⟩)) im_X16_one qs50 q1623 hw3.oT rfl dX16_and_24 (by rw [hF]; omega) (by rw [hF]; omega) rfl (fun v I4 J4 P4 T4 z4 hv => ?_) (fun _ _ _ _ _ _ _ hx => x_out rfl (by rw [hF]; omega) (by rw [hF]; omega) hx)
        obtain ⟨r1, c2, rfl, b1, b2⟩ := hv
        rw [if_neg (by omega)] at he
        have hw4 := b1.2.2
        have oo := (okf.2.2.2.2.2 r1).2.1
        have lpos := (okf.2.2.2.2.2 r1).2.2.1.1
        have kcr : kc rr o1 = 40 * (rr.2.2.1 - o1).toNat - 5 := if_neg (by omega)
        have ksr : ks rr o1 = 500 * (rr.2.2.1 - o1).toNat - 63 := if_neg (by omega)
        rw [hF]
        have hTz : T4 z2 = (42, 0) := by rw [(b1.2.1 z2 (by omega) (by have := hw2.rz; omega)).2.2.2]; exact ut_s
        show PW G mX16_and (rmD (dd + 9) (kc R o) (ks R o)) (MZ G Q X (kc R o) (ks R o)) (40*(o1-o).toNat-5+0+4+1+kc rr o1) (500*(o1-o).toNat-63+0+60+3+ks rr o1) I4 J4 P4 T4 z4 27 [some (.ref r), some (.ref c1)] [.ref c2, .ref c1, .ref z2, .ref z2]
        refine r_iconst (pc := 27) dX16_and_27 ?_
        refine r_callI3 (pc := 28) (C_twoI (d := dd + 6) (a := c1) (b := c2) (e := 1) hTz (by have := hw2.1; omega) (by decide) fe_i) im_X22_init rfl q1711 dX16_and_28 (by omega) (by omega) rfl (k_fv ?_) (fun _ _ _ _ _ _ _ hx => no_x hx)
        refine r_astore_n1 (pc := 31) (Nat.le_of_ble_eq_true rfl) dX16_and_31 rfl ?_
        refine r_goto (pc := 32) 5 dX16_and_32 rfl ?_
        have fI : ∀ b, b ≠ z2 → ui I4 z2 2 1 b = I4 b := fun b q => ui_nr q
        have fP : ∀ b, b ≠ z2 → up (up P4 z2 0 (some c1)) z2 1 (some c2) b = P4 b := fun b q => by rw [up_nr q, up_nr q]
        have hw5 : SWd G (ui I4 z2 2 1) (up (up P4 z2 0 (some c1)) z2 1 (some c2)) T4 z0 z4 r tp t en τ Ls n rr.2.1 rr.2.2.1 w := hw4.ob (c := z2) (by rw [hTz]; decide) (by have := hw2.1; omega) fI fP
        have zz4 : z2 + 1 ≤ z4 := b1.1
        have zz1 : z1 ≤ z2 := a2.1
        have hz1 : z ≤ z1 := a.1
        refine r_widen (cu' := 40*(rr.2.2.1-o).toNat-5) (su' := 500*(rr.2.2.1-o).toNat-63) (by omega) (by omega) ?_
        refine ih _ _ _ _ _ rr.2.1 rr.2.2.1 (L ++ rr.2.2.2 ++ [(11, 0, 0)]) z2 ⟨by omega, ?_, hw5⟩ ?_ ?_ he (by omega) (by omega) (by omega)
        · refine (a.2.1.tr hz1 a2.2.1).tr (by omega) (fun b q1 q2 => ?_)
          have b3 := b1.2.1 b (by omega) q2
          rw [fI b (by omega), fP b (by omega), b3.1, b3.2.1, b3.2.2.1, b3.2.2.2]
          exact ⟨ur_n (by omega), ur_n (by omega), urp_n (by omega), ut_n (by omega)⟩
        · have el : (L ++ rr.2.2.2 ++ [(11, 0, 0)]).length = (L.length + rr.2.2.2.length) + 1 := by simp only [List.length_append, List.length_singleton]
          rw [el]
          refine ⟨⟨by omega, by omega⟩, Or.inr (Or.inr (Or.inr (Or.inr ⟨hTz, c1, c2, L, rr.2.2.2, 1, ?_, ?_, ui_sv, by decide, ?_, ?_, rfl⟩)))⟩
          · show up (up P4 z2 0 (some c1)) z2 1 (some c2) z2 0 = _
            unfold up
            simp
          · exact up_s
          · refine CT.le (by omega) (CT.rg (Nat.le_refl _) (show z1 ≤ z4 by omega) _ (CT.cg _ hc2 (fun b q1 q2 => ?_)))
            have b3 := b1.2.1 b (by omega) (by have := h.rz; omega)
            rw [fI b (by omega), fP b (by omega), b3.1, b3.2.2.1, b3.2.2.2]
            exact ⟨ur_n (by omega), urp_n (by omega), ut_n (by omega)⟩
          · refine CT.le (by omega) (CT.rg (show z ≤ z2 + 1 by omega) (Nat.le_refl _) _ (CT.cg _ b2 (fun b q1 q2 => ?_)))
            rw [fI b (by omega), fP b (by omega)]
            exact ⟨rfl, rfl, rfl⟩
        · simp only [List.length_append, List.length_singleton]; omega
      rw [if_neg c0] at he
      rw [bz_f c0]
      refine r_if_eq (pc := 11) 35 dX16_and_11 rfl (by omega) (fun h11 => ?_) (fun h11 => ?_)
      · refine r_aload_n (pc := 35) dX16_and_35 rfl rfl ?_
        rw [he] at hQ
        have kcR : kc R o = 40 * (o1 - o).toNat - 5 := by rw [he]; exact if_neg (show ¬ (1 : Int) = 0 by decide)
        have ksR : ks R o = 500 * (o1 - o).toNat - 63 := by rw [he]; exact if_neg (show ¬ (1 : Int) = 0 by decide)
        refine r_areturn (pc := 36) rfl (Or.inl ⟨_, rfl⟩) dX16_and_36 (by omega) (by omega) ?_
        exact hQ rfl _ _ _ _ _ c1 a hc
      exact absurd rfl h11
  unfold s_ch at hR
  refine r_aload_n (pc := 0) dX16_and_0 rfl rfl ?_
  generalize hF : f s o = rr at hR ok
  have room2 : kc rr o ≤ kc R o ∧ ks rr o ≤ ks R o := by
    by_cases q : rr.1 = 0
    · rw [if_pos q] at hR
      rw [hR]
      omega
    · rw [if_neg q] at hR
      have r1 : rr.1 = 1 := by have := ok.1; omega
      have m2 := al_o (τ := τ) (w := 6385252) (c := 11) hf 21 rr.2.1 rr.2.2.1 rr.2.2.2 (ok.2.2.2.2.2 r1).1 (by have := ok.2.1; omega) (by have := ok.2.1; omega)
      rw [← hR] at m2
      unfold kc ks
      rw [if_neg q, if_neg q]
      split <;> omega
  refine r_callV0 (pc := 1) (H _ _ _ _ _ _ _ h h0 h1 (fun v I' J' P' T' z' => rr.1 = 1 ∧ ∃ c2, v = some (.ref c2) ∧ SQv G z0 z r tp t en τ Ls n I J P T rr.2.1 rr.2.2.1 w I' J' P' T' z' ∧ CT I' P' T' z z' rr.2.2.2.length c2 rr.2.2.2) X (fun q I' J' P' T' z' c2 b1 b2 => by rw [hF] at q b1 b2; exact ⟨q, c2, rfl, b1, b2⟩) (fun q => by rw [hF] at q ⊢; rw [if_pos q] at hR; rw [hR] at hX; exact hX q)) im_X16_one qs50 q1623 h.oT rfl dX16_and_1 (by rw [hF]; omega) (by rw [hF]; omega) rfl (fun v I4 J4 P4 T4 z4 hv => ?_) (fun _ _ _ _ _ _ _ hx => x_out rfl (by rw [hF]; omega) (by rw [hF]; omega) hx)
  obtain ⟨r1, c2, rfl, b1, b2⟩ := hv
  rw [if_neg (by omega)] at hR
  rw [hF]
  have oo := (ok.2.2.2.2.2 r1).2.1
  have kcr : kc rr o = 40 * (rr.2.2.1 - o).toNat - 5 := if_neg (by omega)
  have ksr : ks rr o = 500 * (rr.2.2.1 - o).toNat - 63 := if_neg (by omega)
  show PW G mX16_and (rmD (dd + 9) (kc R o) (ks R o)) (MZ G Q X (kc R o) (ks R o)) (0+kc rr o) (0+ks rr o) I4 J4 P4 T4 z4 4 [some (.ref r), none] [.ref c2]
  refine r_astore_n1 (pc := 4) (Nat.le_of_ble_eq_true rfl) dX16_and_4 rfl ?_
  refine r_widen (cu' := 40*(rr.2.2.1-o).toNat-5) (su' := 500*(rr.2.2.1-o).toNat-63) (by omega) (by omega) ?_
  exact loop 21 I4 J4 P4 T4 z4 rr.2.1 rr.2.2.1 rr.2.2.2 c2 b1 b2 (ok.2.2.2.2.2 r1).2.2.1.1 hR oo ok.2.1.2 (by omega)
theorem C_or {f : TS → Int → SR} {dd : Nat} (H : RC G z0 r tp t en τ Ls n yX16_and (ws_ yX16_and cX16_and 2 (some (FieldType.object "SevenTable$Cond"))) (dd + 8) w f) (hf : SFn n f) : RC G z0 r tp t en τ Ls n yX16_or (ws_ yX16_or cX16_or 2 (some (FieldType.object "SevenTable$Cond"))) (dd + 9) w (s_ch τ 28530 12 f) := by
  intro I J P T z s o h h0 h1 Q X hQ hX
  have ok := hf s o h.ti h0 h1
  have okR := (SOk.ch (τ := τ) (w := 28530) (c := 12) hf (by decide) h.ti h0 h1).1
  obtain ⟨R, hR⟩ : ∃ R, R = s_ch τ 28530 12 f s o := ⟨_, rfl⟩
  rw [← hR] at hQ hX okR ⊢
  have oR := okR.2.1
  refine MC.tz fun hzz => ?_
  refine MC.of (by decide) (Nat.le_of_ble_eq_true rfl) ?_
  show PW G mX16_or (rmD (dd + 9) (kc R o) (ks R o)) (MZ G Q X (kc R o) (ks R o)) 0 0 I J P T z 0 [some (.ref r), none] []
  have loop : ∀ (k : Nat) (I1 J1 : HI) (P1 : HP) (T1 : HT) (z1 : Nat) (s1 : TS) (o1 : Int) (L : List CD) (c1 : Nat), SQv G z0 z r tp t en τ Ls n I J P T s1 o1 w I1 J1 P1 T1 z1 → CT I1 P1 T1 z z1 L.length c1 L → 0 < L.length → R = s_al τ 28530 12 f k s1 o1 L → o + 1 ≤ o1 → o1 ≤ 20 → 21 ≤ o1 + k → PW G mX16_or (rmD (dd + 9) (kc R o) (ks R o)) (MZ G Q X (kc R o) (ks R o)) (40*(o1-o).toNat-5) (500*(o1-o).toNat-63) I1 J1 P1 T1 z1 5 [some (.ref r), some (.ref c1)] [] := by
    intro k
    induction k with
    | zero => intro I1 J1 P1 T1 z1 s1 o1 L c1 _ _ _ _ _ _ _; omega
    | succ k ih =>
      intro I1 J1 P1 T1 z1 s1 o1 L c1 a hc hL he p1 p2 p3
      have hw1 := a.2.2
      have mono := al_o (τ := τ) (w := 28530) (c := 12) hf (k + 1) s1 o1 L hw1.ti (by omega) p2
      rw [← he] at mono
      unfold s_al at he
      refine r_aload_n (pc := 5) dX16_or_5 rfl rfl ?_
      refine r_ldcS (pc := 6) 21 rfl rfl dX16_or_6 ?_
      refine r_callU1 (pc := 8) (C_isS (d := dd + 6) hw1.rd hw1.ti.t (hw1.2.1.st (i := 21) rfl rfl) ws9.1 fe_i) im_X12_is rfl q1630 q1629 q1628 hw1.oT rfl dX16_or_8 (by unfold kc; split <;> omega) (by unfold ks; split <;> omega) rfl (k_fi ?_) (fun _ _ _ _ _ _ _ hx => no_x hx)
      rw [ws9.2]
      by_cases c0 : isW 28530 s1
      · rw [if_pos c0] at he
        rw [bz_t c0]
        refine r_if_eq (pc := 11) 35 dX16_or_11 rfl (by omega) (fun h11 => ?_) (fun h11 => ?_)
        · exact absurd h11 (by decide)
        have okf := hf (g_nx τ s1) o1 hw1.ti.nx (by omega) p2
        have d5 := okf.2.1
        -- how much there is left
        have room : (40 * (o1 - o).toNat ≤ kc R o) ∧ 500 * (o1 - o).toNat ≤ ks R o := by
          unfold kc ks
          by_cases q : (f (g_nx τ s1) o1).1 = 0
          · rw [if_pos q] at he
            rw [he, if_pos q, if_pos q]
            omega
          · rw [if_neg q] at he
            have r1 : (f (g_nx τ s1) o1).1 = 1 := by have := okf.1; omega
            have m2 := al_o (τ := τ) (w := 28530) (c := 12) hf k (f (g_nx τ s1) o1).2.1 (f (g_nx τ s1) o1).2.2.1 (L ++ (f (g_nx τ s1) o1).2.2.2 ++ [(12, 0, 0)]) (okf.2.2.2.2.2 r1).1 (by omega) (by omega)
            rw [← he] at m2
            have := (okf.2.2.2.2.2 r1).2.1
            split <;> omega
        have room2 : 40 * (o1 - o).toNat + kc (f (g_nx τ s1) o1) o1 ≤ kc R o ∧ 500 * (o1 - o).toNat + ks (f (g_nx τ s1) o1) o1 ≤ ks R o := by
          by_cases q : (f (g_nx τ s1) o1).1 = 0
          · rw [if_pos q] at he
            rw [he]
            unfold kc ks
            rw [if_pos q, if_pos q, if_pos q, if_pos q]
            omega
          · rw [if_neg q] at he
            have r1 : (f (g_nx τ s1) o1).1 = 1 := by have := okf.1; omega
            have m2 := al_o (τ := τ) (w := 28530) (c := 12) hf k (f (g_nx τ s1) o1).2.1 (f (g_nx τ s1) o1).2.2.1 (L ++ (f (g_nx τ s1) o1).2.2.2 ++ [(12, 0, 0)]) (okf.2.2.2.2.2 r1).1 (by omega) (by omega)
            rw [← he] at m2
            have := (okf.2.2.2.2.2 r1).2.1
            unfold kc ks
            rw [if_neg q, if_neg q]
            split <;> omega
        refine r_aload_n (pc := 14) dX16_or_14 rfl rfl ?_
        refine r_callU0 (pc := 15) (S_go (d := dd + 1) (Q := er none (SQv G z0 z1 r tp t en τ Ls n I1 J1 P1 T1 (g_nx τ s1) o1 w)) hw1 (fun I' J' P' T' z' a => er_i a)) im_X12_go rfl q1614 q1613 q1612 hw1.oT rfl dX16_or_15 (by omega) (by omega) rfl (k_er fun I2 J2 P2 T2 z2 a2 => ?_) (fun _ _ _ _ _ _ _ hx => no_x hx)
        have hw2 := a2.2.2
        show PW G mX16_or (rmD (dd + 9) (kc R o) (ks R o)) (MZ G Q X (kc R o) (ks R o)) (40*(o1-o).toNat-5+0+4) (500*(o1-o).toNat-63+0+60) I2 J2 P2 T2 z2 18 [some (.ref r), some (.ref c1)] []
        refine r_tz fun hzz2 => ?_
        have hc2 : CT I2 P2 T2 z z1 L.length c1 L := CT.cg _ hc (fun a q1 q2 => by
          have := a2.2.1 a q2 (fun e => by have := h.rz; omega)
          exact ⟨this.1, this.2.2.1, this.2.2.2⟩)
        refine r_new (pc := 18) (c := 22) cok_22 rfl (by decide +kernel) q1709 q1710 q157 (by show 40*(o1-o).toNat-5+0+4+1 ≤ kc R o; omega) (by show 500*(o1-o).toNat-63+0+60+3 ≤ ks R o; omega) dX16_or_18 ?_
        have hw3 : SWd G (ur I2 z2 fun _ => 0) (urp P2 z2 fun _ => none) (ut T2 z2 (42, 0)) z0 (z2 + 1) r tp t en τ Ls n (g_nx τ s1) o1 w := hw2.fz (J := J2) (J' := ur J2 z2 fun _ => 0) (by omega) (fun a q => ⟨ur_n (by omega), ur_n (by omega), urp_n (by omega), ut_n (by omega)⟩) hzz2
        refine r_dup (pc := 21) dX16_or_21 rfl ?_
        refine r_aload_n (pc := 22) dX16_or_22 rfl rfl ?_
        refine r_aload_n (pc := 23) dX16_or_23 rfl rfl ?_
        generalize hF : f (g_nx τ s1) o1 = rr at he room2 okf d5
        refine r_callV0 (pc := 24) (H _ _ _ _ _ _ _ hw3 (by omega) p2 (fun v I' J' P' T' z' => rr.1 = 1 ∧ ∃ c2, v = some (.ref c2) ∧ SQv G z0 (z2 + 1) r tp t en τ Ls n (ur I2 z2 fun _ => 0) (ur J2 z2 fun _ => 0) (urp P2 z2 fun _ => none) (ut T2 z2 (42, 0)) rr.2.1 rr.2.2.1 w I' J' P' T' z' ∧ CT I' P' T' (z2 + 1) z' rr.2.2.2.length c2 rr.2.2.2) X (fun q I' J' P' T' z' c2 b1 b2 => by rw [hF] at q b1 b2; exact ⟨q, c2, rfl, b1, b2⟩) (fun q => by rw [hF] at q ⊢; rw [if_pos q] at he; rw [he] at hX; refine ((hX q).sq h a).fs (FS.tr (SQv.fs hw1 a2) (fun b q9 => ?_)); have q9 : b < z0 := q9; have := hw2.1; exact ⟨ur_n (by omega), ur_n (by omega), urp_n (by omega), ut_n (by omega)⟩)) im_X16_and qs49 q1619 hw3.oT rfl dX16_or_24 (by rw [hF]; omega) (by rw [hF]; omega) rfl (fun v I4 J4 P4 T4 z4 hv => ?_) (fun _ _ _ _ _ _ _ hx => x_out rfl (by rw [hF]; omega) (by rw [hF]; omega) hx)
        obtain ⟨r1, c2, rfl, b1, b2⟩ := hv
        rw [if_neg (by omega)] at he
        have hw4 := b1.2.2
        have oo := (okf.2.2.2.2.2 r1).2.1
        have lpos := (okf.2.2.2.2.2 r1).2.2.1.1
        have kcr : kc rr o1 = 40 * (rr.2.2.1 - o1).toNat - 5 := if_neg (by omega)
        have ksr : ks rr o1 = 500 * (rr.2.2.1 - o1).toNat - 63 := if_neg (by omega)
        rw [hF]
        have hTz : T4 z2 = (42, 0) := by rw [(b1.2.1 z2 (by omega) (by have := hw2.rz; omega)).2.2.2]; exact ut_s
        show PW G mX16_or (rmD (dd + 9) (kc R o) (ks R o)) (MZ G Q X (kc R o) (ks R o)) (40*(o1-o).toNat-5+0+4+1+kc rr o1) (500*(o1-o).toNat-63+0+60+3+ks rr o1) I4 J4 P4 T4 z4 27 [some (.ref r), some (.ref c1)] [.ref c2, .ref c1, .ref z2, .ref z2]
        refine r_iconst (pc := 27) dX16_or_27 ?_
        refine r_callI3 (pc := 28) (C_twoI (d := dd + 6) (a := c1) (b := c2) (e := 0) hTz (by have := hw2.1; omega) (by decide) fe_i) im_X22_init rfl q1711 dX16_or_28 (by omega) (by omega) rfl (k_fv ?_) (fun _ _ _ _ _ _ _ hx => no_x hx)
        refine r_astore_n1 (pc := 31) (Nat.le_of_ble_eq_true rfl) dX16_or_31 rfl ?_
        refine r_goto (pc := 32) 5 dX16_or_32 rfl ?_
        have fI : ∀ b, b ≠ z2 → ui I4 z2 2 0 b = I4 b := fun b q => ui_nr q
        have fP : ∀ b, b ≠ z2 → up (up P4 z2 0 (some c1)) z2 1 (some c2) b = P4 b := fun b q => by rw [up_nr q, up_nr q]
        have hw5 : SWd G (ui I4 z2 2 0) (up (up P4 z2 0 (some c1)) z2 1 (some c2)) T4 z0 z4 r tp t en τ Ls n rr.2.1 rr.2.2.1 w := hw4.ob (c := z2) (by rw [hTz]; decide) (by have := hw2.1; omega) fI fP
        have zz4 : z2 + 1 ≤ z4 := b1.1
        have zz1 : z1 ≤ z2 := a2.1
        have hz1 : z ≤ z1 := a.1
        refine r_widen (cu' := 40*(rr.2.2.1-o).toNat-5) (su' := 500*(rr.2.2.1-o).toNat-63) (by omega) (by omega) ?_
        refine ih _ _ _ _ _ rr.2.1 rr.2.2.1 (L ++ rr.2.2.2 ++ [(12, 0, 0)]) z2 ⟨by omega, ?_, hw5⟩ ?_ ?_ he (by omega) (by omega) (by omega)
        · refine (a.2.1.tr hz1 a2.2.1).tr (by omega) (fun b q1 q2 => ?_)
          have b3 := b1.2.1 b (by omega) q2
          rw [fI b (by omega), fP b (by omega), b3.1, b3.2.1, b3.2.2.1, b3.2.2.2]
          exact ⟨ur_n (by omega), ur_n (by omega), urp_n (by omega), ut_n (by omega)⟩
        · have el : (L ++ rr.2.2.2 ++ [(12, 0, 0)]).length = (L.length + rr.2.2.2.length) + 1 := by simp only [List.length_append, List.length_singleton]
          rw [el]
          refine ⟨⟨by omega, by omega⟩, Or.inr (Or.inr (Or.inr (Or.inr ⟨hTz, c1, c2, L, rr.2.2.2, 0, ?_, ?_, ui_sv, by decide, ?_, ?_, rfl⟩)))⟩
          · show up (up P4 z2 0 (some c1)) z2 1 (some c2) z2 0 = _
            unfold up
            simp
          · exact up_s
          · refine CT.le (by omega) (CT.rg (Nat.le_refl _) (show z1 ≤ z4 by omega) _ (CT.cg _ hc2 (fun b q1 q2 => ?_)))
            have b3 := b1.2.1 b (by omega) (by have := h.rz; omega)
            rw [fI b (by omega), fP b (by omega), b3.1, b3.2.2.1, b3.2.2.2]
            exact ⟨ur_n (by omega), urp_n (by omega), ut_n (by omega)⟩
          · refine CT.le (by omega) (CT.rg (show z ≤ z2 + 1 by omega) (Nat.le_refl _) _ (CT.cg _ b2 (fun b q1 q2 => ?_)))
            rw [fI b (by omega), fP b (by omega)]
            exact ⟨rfl, rfl, rfl⟩
        · simp only [List.length_append, List.length_singleton]; omega
      rw [if_neg c0] at he
      rw [bz_f c0]
      refine r_if_eq (pc := 11) 35 dX16_or_11 rfl (by omega) (fun h11 => ?_) (fun h11 => ?_)
      · refine r_aload_n (pc := 35) dX16_or_35 rfl rfl ?_
        rw [he] at hQ
        have kcR : kc R o = 40 * (o1 - o).toNat - 5 := by rw [he]; exact if_neg (show ¬ (1 : Int) = 0 by decide)
        have ksR : ks R o = 500 * (o1 - o).toNat - 63 := by rw [he]; exact if_neg (show ¬ (1 : Int) = 0 by decide)
        refine r_areturn (pc := 36) rfl (Or.inl ⟨_, rfl⟩) dX16_or_36 (by omega) (by omega) ?_
        exact hQ rfl _ _ _ _ _ c1 a hc
      exact absurd rfl h11
  unfold s_ch at hR
  refine r_aload_n (pc := 0) dX16_or_0 rfl rfl ?_
  generalize hF : f s o = rr at hR ok
  have room2 : kc rr o ≤ kc R o ∧ ks rr o ≤ ks R o := by
    by_cases q : rr.1 = 0
    · rw [if_pos q] at hR
      rw [hR]
      omega
    · rw [if_neg q] at hR
      have r1 : rr.1 = 1 := by have := ok.1; omega
      have m2 := al_o (τ := τ) (w := 28530) (c := 12) hf 21 rr.2.1 rr.2.2.1 rr.2.2.2 (ok.2.2.2.2.2 r1).1 (by have := ok.2.1; omega) (by have := ok.2.1; omega)
      rw [← hR] at m2
      unfold kc ks
      rw [if_neg q, if_neg q]
      split <;> omega
  refine r_callV0 (pc := 1) (H _ _ _ _ _ _ _ h h0 h1 (fun v I' J' P' T' z' => rr.1 = 1 ∧ ∃ c2, v = some (.ref c2) ∧ SQv G z0 z r tp t en τ Ls n I J P T rr.2.1 rr.2.2.1 w I' J' P' T' z' ∧ CT I' P' T' z z' rr.2.2.2.length c2 rr.2.2.2) X (fun q I' J' P' T' z' c2 b1 b2 => by rw [hF] at q b1 b2; exact ⟨q, c2, rfl, b1, b2⟩) (fun q => by rw [hF] at q ⊢; rw [if_pos q] at hR; rw [hR] at hX; exact hX q)) im_X16_and qs49 q1619 h.oT rfl dX16_or_1 (by rw [hF]; omega) (by rw [hF]; omega) rfl (fun v I4 J4 P4 T4 z4 hv => ?_) (fun _ _ _ _ _ _ _ hx => x_out rfl (by rw [hF]; omega) (by rw [hF]; omega) hx)
  obtain ⟨r1, c2, rfl, b1, b2⟩ := hv
  rw [if_neg (by omega)] at hR
  rw [hF]
  have oo := (ok.2.2.2.2.2 r1).2.1
  have kcr : kc rr o = 40 * (rr.2.2.1 - o).toNat - 5 := if_neg (by omega)
  have ksr : ks rr o = 500 * (rr.2.2.1 - o).toNat - 63 := if_neg (by omega)
  show PW G mX16_or (rmD (dd + 9) (kc R o) (ks R o)) (MZ G Q X (kc R o) (ks R o)) (0+kc rr o) (0+ks rr o) I4 J4 P4 T4 z4 4 [some (.ref r), none] [.ref c2]
  refine r_astore_n1 (pc := 4) (Nat.le_of_ble_eq_true rfl) dX16_or_4 rfl ?_
  refine r_widen (cu' := 40*(rr.2.2.1-o).toNat-5) (su' := 500*(rr.2.2.1-o).toNat-63) (by omega) (by omega) ?_
  exact loop 21 I4 J4 P4 T4 z4 rr.2.1 rr.2.2.1 rr.2.2.2 c2 b1 b2 (ok.2.2.2.2.2 r1).2.2.1.1 hR oo ok.2.1.2 (by omega)
end P27
