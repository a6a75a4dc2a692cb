/-! ===== the component: a table is read, persons, hands, heaps, lines ===== -/
section P9
variable {G : GE} {I J : HI} {P : HP} {T : HT} {z z0 r tp t e d : Nat} {Q : QT} {X : XT} {τ ρ : Int → Int} {Ls : List (List Int)} {s : TS}
theorem TWd.n1 (h : TWd G I P T z0 z r tp t e τ Ls s) : I (t + 1) 2 = s.2.2.1 1 := h.tr.1.2.1
theorem TWd.nl (h : TWd G I P T z0 z r tp t e τ Ls s) : NL G I P T (t + 1) e Ls := h.tb.2.2.2.1
theorem TWd.ln (h : TWd G I P T z0 z r tp t e τ Ls s) : (Ls.length : Int) = s.2.2.1 1 := h.tb.2.2.2.2.1
theorem TWd.nm (h : TWd G I P T z0 z r tp t e τ Ls s) : ∀ i : Int, 0 ≤ i → i < Ls.length → WD (Ls.getD i.toNat []) ∧ cod (Ls.getD i.toNat []) = s.2.2.2 (6 + i) := h.tb.2.2.2.2.2
theorem D_person (h : TWd G I P T z0 z r tp t e τ Ls s) (htok : s.1 11 ≠ 4) (hρ : RES ρ) (hQ : (g_person τ ρ s).1 ≠ 0 → ∀ I' J' P' T' z', TQ G z0 z r tp t τ I J P T (g_person τ ρ s).2 I' J' P' T' z' → Q none I' J' P' T' z') (hX : (g_person τ ρ s).1 = 0 → XK X (fun a => a < z0) I J P T ((g_person τ ρ s).2.1 15) ((g_person τ ρ s).2.1 16)) : MC G yX13_person (ws_ yX13_person cX13_person 1 (none : Option FieldType)) (d + 8) 16 214 [.ref r] I J P T z Q X := by
  have hn1 := h.n1
  have hln := h.ln
  have hl6 := h.nl.2.2.2.1
  refine MC.of (by decide) (Nat.le_of_ble_eq_true rfl) ?_
  show PW G mX13_person (rmD (d + 8) 16 214) (MZ G Q X 16 214) 0 0 I J P T z 0 [some (.ref r)] []
  refine r_aload_n (pc := 0) dX13_person_0 rfl rfl ?_
  refine r_aload_n (pc := 1) dX13_person_1 rfl rfl ?_
  refine r_getr (pc := 2) (c := 13) (k := 9) (kz := 9) h.o cok_13 (Nat.le_of_ble_eq_true rfl) q616 ⟨rfl, rfl⟩ (Or.inl rfl) rfl (fun _ _ _ => rfl) h.pt dX13_person_2 ?_
  refine r_callV0 (pc := 5) (C_many h.sh fe_i) im_X2_many q369 q985 h.sh.o rfl dX13_person_5 (Nat.le_of_ble_eq_true rfl) (Nat.le_of_ble_eq_true rfl) rfl (k_fi ?_) (fun _ _ _ _ _ _ _ hx => no_x hx)
  rw [hn1]
  refine r_bipush (pc := 8) dX13_person_8 (by decide +kernel) ?_
  refine r_icmp_ge (pc := 10) 17 dX13_person_10 rfl (by omega) (by omega) (fun h10 => ?_) (fun h10 => ?_)
  · refine r_iconst (pc := 17) dX13_person_17 ?_
    refine r_iconst (pc := 18) dX13_person_18 ?_
    refine r_callU2 (pc := 19) (C_needT (S := fun a => a < z0) (X := X) (Q := fg ((0 : Int) = 1) I J P T z none) h.rd h.ti.t h.ti.p (by omega) (by omega) h.rz h.S fg_i (fun _ => by unfold g_person at hX; rw [if_pos (show s.2.2.1 1 = 6 by omega)] at hX; rw [if_neg htok]; exact (hX rfl).bad)) im_X12_need rfl q894 q892 q891 h.o rfl dX13_person_19 (Nat.le_of_ble_eq_true rfl) (Nat.le_of_ble_eq_true rfl) rfl (k_gnv fun h => by omega) (fun _ _ _ _ _ _ _ hx => x_out rfl (Nat.le_of_ble_eq_true rfl) (Nat.le_of_ble_eq_true rfl) hx)
  have eg : g_person τ ρ s = g_person1 τ ρ (g_nx τ s) := by unfold g_person; rw [if_neg (by omega)]
  rw [eg] at hQ hX
  refine r_iconst (pc := 13) dX13_person_13 ?_
  refine r_goto (pc := 14) 18 dX13_person_14 rfl ?_
  refine r_iconst (pc := 18) dX13_person_18 ?_
  refine r_callU2 (pc := 19) (C_needT (S := fun a => a < z0) (X := X) (Q := fe I J P T z none) h.rd h.ti.t h.ti.p (by omega) (by omega) h.rz h.S (fun _ => fe_i) (fun c => by omega)) im_X12_need rfl q894 q892 q891 h.o rfl dX13_person_19 (Nat.le_of_ble_eq_true rfl) (Nat.le_of_ble_eq_true rfl) rfl (k_fv ?_) (fun _ _ _ _ _ _ _ hx => x_out rfl (Nat.le_of_ble_eq_true rfl) (Nat.le_of_ble_eq_true rfl) hx)
  refine r_aload_n (pc := 22) dX13_person_22 rfl rfl ?_
  refine r_callU0 (pc := 23) (D_go (Q := er none (TQ G z0 z r tp t τ I J P T (g_nx τ s))) h (fun I' J' P' T' z' a => er_i a)) im_X12_go rfl q669 q667 q666 h.o rfl dX13_person_23 (Nat.le_of_ble_eq_true rfl) (Nat.le_of_ble_eq_true rfl) rfl (k_er fun I1 J1 P1 T1 z1 a => ?_) (fun _ _ _ _ _ _ _ hx => no_x hx)
  obtain ⟨hz1, hf1, e1, Ls1, hw1⟩ := a
  have hl1 : (Ls1.length : Int) = s.2.2.1 1 := hw1.ln
  generalize g_nx τ s = s1 at hw1 hQ hX hl1
  have hl6 := hw1.nl.2.2.2.1
  show PW G mX13_person (rmD (d + 8) 16 214) (MZ G Q X 16 214) (0+0+1+4) (0+0+8+60) I1 J1 P1 T1 z1 26 [some (.ref r)] []
  refine r_tz fun hzz1 => ?_
  refine r_aload_n (pc := 26) dX13_person_26 rfl rfl ?_
  refine r_aload_n (pc := 27) dX13_person_27 rfl rfl ?_
  refine r_callU0 (pc := 28) (C_isNameT (Q := er (some (iv (bz (isN ρ s1)))) (fun I' J' P' T' z' => z1 ≤ z' ∧ FZ z1 I1 J1 P1 T1 I' J' P' T')) hw1.rd hw1.ti.t hw1.rz hw1.2.1 hρ (fun I' J' P' T' z' a b => er_i ⟨a, b⟩)) im_X12_isName rfl q989 q987 q986 hw1.o rfl dX13_person_28 (Nat.le_of_ble_eq_true rfl) (Nat.le_of_ble_eq_true rfl) rfl (k_er fun I2 J2 P2 T2 z2 ⟨hz2, hf2⟩ => ?_) (fun _ _ _ _ _ _ _ hx => no_x hx)
  have hw2 := hw1.fz hz2 hf2 hzz1
  have hfs2 : FS (fun a => a < z0) I J P T I2 J2 P2 T2 := hf1.tr (hf2.fs (fun a q => (hw1.S a q).1))
  have br := bz_r (p := isN ρ s1)
  show PW G mX13_person (rmD (d + 8) 16 214) (MZ G Q X 16 214) (0+0+1+4+4) (0+0+8+60+60) I2 J2 P2 T2 z2 31 [some (.ref r)] [iv (bz (isN ρ s1)), .ref r]
  refine r_tz fun hzz2 => ?_
  refine r_iconst (pc := 31) dX13_person_31 ?_
  refine r_callU2 (pc := 32) (C_needT (S := fun a => a < z0) (X := X) (Q := fg (bz (isN ρ s1) = 1) I2 J2 P2 T2 z2 none) hw2.rd hw2.ti.t hw2.ti.p (by omega) (by omega) hw2.rz hw2.S fg_i (fun c => by unfold g_person1 at hX; rw [if_pos (bz_0.mp c)] at hX; rw [one1]; exact (hX rfl).bad.fs hfs2)) im_X12_need rfl q894 q892 q891 hw2.o rfl dX13_person_32 (Nat.le_of_ble_eq_true rfl) (Nat.le_of_ble_eq_true rfl) rfl (k_gnv fun hb1 => ?_) (fun _ _ _ _ _ _ _ hx => x_out rfl (Nat.le_of_ble_eq_true rfl) (Nat.le_of_ble_eq_true rfl) hx)
  have hN := bz_1.mp hb1
  obtain ⟨-, w, L, hPw, hsw, hWL, hco⟩ := hw2.rd.2.2.2.1 hN.1
  have efi : ixo Ls1 L 0 Ls1.length = t_find s1.2.2.2 s1.2.1 6 0 (s1.2.2.1 1).toNat := by
    rw [ixo_find hWL hw2.nm Ls1.length 0 (by omega) (by omega), hco, show (s1.2.2.1 1).toNat = Ls1.length by have := hw2.ln; omega]
  have hfr := t_find_r (ν := s1.2.2.2) (w := s1.2.1) (f := 6) (s1.2.2.1 1).toNat 0 (by omega)
  refine r_aload_n (pc := 35) dX13_person_35 rfl rfl ?_
  refine r_aload_n (pc := 36) dX13_person_36 rfl rfl ?_
  refine r_getr (pc := 37) (c := 13) (k := 9) (kz := 9) hw2.o cok_13 (Nat.le_of_ble_eq_true rfl) q616 ⟨rfl, rfl⟩ (Or.inl rfl) rfl (fun _ _ _ => rfl) hw2.pt dX13_person_37 ?_
  refine r_getrN (pc := 40) (c := 2) (k := 5) (kz := 5) hw2.sh.o cok_2 (Nat.le_of_ble_eq_true rfl) q221 ⟨rfl, rfl⟩ (Or.inl rfl) rfl (fun _ _ _ => rfl) hw2.sh.p_names dX13_person_40 ?_
  refine r_aload_n (pc := 43) dX13_person_43 rfl rfl ?_
  refine r_getr (pc := 44) (c := 13) (k := 8) (kz := 8) hw2.o cok_13 (Nat.le_of_ble_eq_true rfl) q637 ⟨rfl, rfl⟩ (Or.inr q638) rfl (fun _ _ _ => rfl) hPw dX13_person_44 ?_
  refine r_callV1 (pc := 47) (C_ixof hw2.nl hsw fe_i) im_J2_indexOf q1068 q1066 hw2.sh.t_names rfl dX13_person_47 (Nat.le_of_ble_eq_true rfl) (Nat.le_of_ble_eq_true rfl) rfl (k_fi ?_) (fun _ _ _ _ _ _ _ hx => no_x hx)
  rw [efi]
  have eg2 : g_person1 τ ρ s1 = (if 0 ≤ t_find s1.2.2.2 s1.2.1 6 0 (s1.2.2.1 1).toNat then (0, g_bad 3 s1) else (1, g_nx τ (g_h 1 (s1.2.2.1 1 + 1) (g_n (6 + s1.2.2.1 1) s1.2.1 s1)))) := by
    unfold g_person1
    rw [if_neg (fun c => c hN)]
  rw [eg2] at hQ hX
  generalize t_find s1.2.2.2 s1.2.1 6 0 (s1.2.2.1 1).toNat = fd at hfr hQ hX
  have hs6 : s1.2.2.1 1 ≤ 6 := by have := hw2.ln; omega
  refine r_if_ge (pc := 50) 57 dX13_person_50 rfl (by omega) (fun h50 => ?_) (fun h50 => ?_)
  · refine r_iconst (pc := 57) dX13_person_57 ?_
    refine r_iconst (pc := 58) dX13_person_58 ?_
    refine r_callU2 (pc := 59) (C_needT (S := fun a => a < z0) (X := X) (Q := fg ((0 : Int) = 1) I2 J2 P2 T2 z2 none) hw2.rd hw2.ti.t hw2.ti.p (by omega) (by omega) hw2.rz hw2.S fg_i (fun _ => by rw [if_pos h50] at hX; rw [if_neg (by have := hN.1; omega)]; exact (hX rfl).bad.fs hfs2)) im_X12_need rfl q894 q892 q891 hw2.o rfl dX13_person_59 (Nat.le_of_ble_eq_true rfl) (Nat.le_of_ble_eq_true rfl) rfl (k_gnv fun h => by omega) (fun _ _ _ _ _ _ _ hx => x_out rfl (Nat.le_of_ble_eq_true rfl) (Nat.le_of_ble_eq_true rfl) hx)
  rw [if_neg (by omega)] at hQ
  refine r_iconst (pc := 53) dX13_person_53 ?_
  refine r_goto (pc := 54) 58 dX13_person_54 rfl ?_
  refine r_iconst (pc := 58) dX13_person_58 ?_
  refine r_callU2 (pc := 59) (C_needT (S := fun a => a < z0) (X := X) (Q := fe I2 J2 P2 T2 z2 none) hw2.rd hw2.ti.t hw2.ti.p (by omega) (by omega) hw2.rz hw2.S (fun _ => fe_i) (fun c => by omega)) im_X12_need rfl q894 q892 q891 hw2.o rfl dX13_person_59 (Nat.le_of_ble_eq_true rfl) (Nat.le_of_ble_eq_true rfl) rfl (k_fv ?_) (fun _ _ _ _ _ _ _ hx => x_out rfl (Nat.le_of_ble_eq_true rfl) (Nat.le_of_ble_eq_true rfl) hx)
  refine r_aload_n (pc := 62) dX13_person_62 rfl rfl ?_
  refine r_getr (pc := 63) (c := 13) (k := 9) (kz := 9) hw2.o cok_13 (Nat.le_of_ble_eq_true rfl) q616 ⟨rfl, rfl⟩ (Or.inl rfl) rfl (fun _ _ _ => rfl) hw2.pt dX13_person_63 ?_
  refine r_getrN (pc := 66) (c := 2) (k := 5) (kz := 5) hw2.sh.o cok_2 (Nat.le_of_ble_eq_true rfl) q221 ⟨rfl, rfl⟩ (Or.inl rfl) rfl (fun _ _ _ => rfl) hw2.sh.p_names dX13_person_66 ?_
  refine r_aload_n (pc := 69) dX13_person_69 rfl rfl ?_
  refine r_getr (pc := 70) (c := 13) (k := 8) (kz := 8) hw2.o cok_13 (Nat.le_of_ble_eq_true rfl) q637 ⟨rfl, rfl⟩ (Or.inr q638) rfl (fun _ _ _ => rfl) hPw dX13_person_70 ?_
  have hl5 : Ls1.length < 6 := by omega
  refine r_callV1 (pc := 73) (C_add (Q := er (some (iv 1)) (fun I' J' P' T' z' => ∃ e', z2 ≤ z' ∧ TWd G I' P' T' z0 z' r tp t e' τ (Ls1 ++ [L]) (g_h 1 (s1.2.2.1 1 + 1) (g_n (6 + s1.2.2.1 1) s1.2.1 s1)) ∧ FS (fun a => a < z0) I2 J2 P2 T2 I' J' P' T')) hw2.nl hl5 (by have := hw2.bt; omega) (by have := hw2.1; omega) hsw hzz2 (fun I' J' P' T' z' e' b1 b2 b3 b4 b5 => er_i ⟨e', b1, TWd.add (J := J2) hw2 hl5 b1 b2 hzz2 hWL hco b3 b4 b5⟩)) im_J2_add q1102 q1100 hw2.sh.t_names rfl dX13_person_73 (Nat.le_of_ble_eq_true rfl) (Nat.le_of_ble_eq_true rfl) rfl (k_er fun I3 J3 P3 T3 z3 ⟨e3, hz3, hw3, hf3⟩ => ?_) (fun _ _ _ _ _ _ _ hx => no_x hx)
  show PW G mX13_person (rmD (d + 8) 16 214) (MZ G Q X 16 214) (0+0+1+4+4+1+0+1+1) (0+0+8+60+60+8+0+8+10) I3 J3 P3 T3 z3 76 [some (.ref r)] [iv 1]
  refine r_pop (pc := 76) dX13_person_76 rfl ?_
  refine r_aload_n (pc := 77) dX13_person_77 rfl rfl ?_
  refine r_callU0 (pc := 78) (D_go (Q := er none (TQ G z0 z3 r tp t τ I3 J3 P3 T3 (g_nx τ (g_h 1 (s1.2.2.1 1 + 1) (g_n (6 + s1.2.2.1 1) s1.2.1 s1))))) hw3 (fun I' J' P' T' z' a => er_i a)) im_X12_go rfl q669 q667 q666 hw3.o rfl dX13_person_78 (Nat.le_of_ble_eq_true rfl) (Nat.le_of_ble_eq_true rfl) rfl (k_er fun I4 J4 P4 T4 z4 a => ?_) (fun _ _ _ _ _ _ _ hx => no_x hx)
  show PW G mX13_person (rmD (d + 8) 16 214) (MZ G Q X 16 214) (0+0+1+4+4+1+0+1+1+4) (0+0+8+60+60+8+0+8+10+60) I4 J4 P4 T4 z4 81 [some (.ref r)] []
  refine r_return (pc := 81) rfl dX13_person_81 (Nat.le_of_ble_eq_true rfl) (Nat.le_of_ble_eq_true rfl) ?_
  exact hQ (by simp) _ _ _ _ _ ⟨by have := a.1; omega, (hfs2.tr hf3).tr a.2.1, a.2.2⟩
theorem D_hand (h : TWd G I P T z0 z r tp t e τ Ls s) (hρ : RES ρ) (hQ : (g_hand1 τ ρ (g_nx τ s)).1 ≠ 0 → ∀ I' J' P' T' z', TQ G z0 z r tp t τ I J P T (g_hand1 τ ρ (g_nx τ s)).2 I' J' P' T' z' → Q none I' J' P' T' z') (hX : (g_hand1 τ ρ (g_nx τ s)).1 = 0 → XK X (fun a => a < z0) I J P T ((g_hand1 τ ρ (g_nx τ s)).2.1 15) ((g_hand1 τ ρ (g_nx τ s)).2.1 16)) : MC G yX13_hand (ws_ yX13_hand cX13_hand 4 (none : Option FieldType)) (d + 9) 28 364 [.ref r] I J P T z Q X := by
  refine MC.of (by decide) (Nat.le_of_ble_eq_true rfl) ?_
  show PW G mX13_hand (rmD (d + 9) 28 364) (MZ G Q X 28 364) 0 0 I J P T z 0 [some (.ref r), none, none, none] []
  refine r_aload_n (pc := 0) dX13_hand_0 rfl rfl ?_
  refine r_callU0 (pc := 1) (D_go (Q := er none (TQ G z0 z r tp t τ I J P T (g_nx τ s))) h (fun I' J' P' T' z' a => er_i a)) im_X12_go rfl q669 q667 q666 h.o rfl dX13_hand_1 (Nat.le_of_ble_eq_true rfl) (Nat.le_of_ble_eq_true rfl) rfl (k_er fun I1 J1 P1 T1 z1 a => ?_) (fun _ _ _ _ _ _ _ hx => no_x hx)
  obtain ⟨hz1, hf1, e1, Ls1, hw1⟩ := a
  generalize g_nx τ s = s1 at hw1 hQ hX
  have hl6 := hw1.nl.2.2.2.1
  have hln := hw1.ln
  have etn : (s1.2.2.1 1).toNat = Ls1.length := by omega
  show PW G mX13_hand (rmD (d + 9) 28 364) (MZ G Q X 28 364) (0+4) (0+60) I1 J1 P1 T1 z1 4 [some (.ref r), none, none, none] []
  refine r_tz fun hzz1 => ?_
  refine r_aload_n (pc := 4) dX13_hand_4 rfl rfl ?_
  refine r_aload_n (pc := 5) dX13_hand_5 rfl rfl ?_
  refine r_getr (pc := 6) (c := 13) (k := 9) (kz := 9) hw1.o cok_13 (Nat.le_of_ble_eq_true rfl) q616 ⟨rfl, rfl⟩ (Or.inl rfl) rfl (fun _ _ _ => rfl) hw1.pt dX13_hand_6 ?_
  refine r_callU1 (pc := 9) (C_personRT (S := fun a => a < z0) (X := X) (ρ := ρ) (ν := s1.2.2.2) (f := 6) (Q := fun v I' J' P' T' z' => (isN ρ s1 ∧ 0 ≤ t_find s1.2.2.2 s1.2.1 6 0 Ls1.length) ∧ er (some (iv (t_find s1.2.2.2 s1.2.1 6 0 Ls1.length))) (TQ G z0 z1 r tp t τ I1 J1 P1 T1 (g_nx τ s1)) v I' J' P' T' z') hw1.rd hw1.ti hw1.g5 hw1.b hw1.rz hw1.tz hw1.S hw1.2.1 hρ hw1.sh hw1.nl hw1.nm (fun q1 q2 I' J' P' T' z' b1 b2 b3 => ⟨⟨q1, q2⟩, er_i (TQ.go hw1 b1 b2 b3 hzz1)⟩) (fun q => by unfold g_hand1 at hX; rw [if_pos q] at hX; exact (hX rfl).bad.fs hf1) (fun q1 q2 => by unfold g_hand1 at hX; rw [if_neg (fun c => c q1), etn, if_pos q2] at hX; exact (hX rfl).bad.fs hf1)) im_X12_person rfl q1163 q1161 q1160 hw1.o rfl dX13_hand_9 (Nat.le_of_ble_eq_true rfl) (Nat.le_of_ble_eq_true rfl) rfl (fun v I' J' P' T' z' ⟨hc, hv⟩ => k_er (fun I2 J2 P2 T2 z2 a => ?_) v I' J' P' T' z' hv) (fun _ _ _ _ _ _ _ hx => x_out rfl (Nat.le_of_ble_eq_true rfl) (Nat.le_of_ble_eq_true rfl) hx)
  have hfr := t_find_r (ν := s1.2.2.2) (w := s1.2.1) (f := 6) Ls1.length 0 (by omega)
  have eg : g_hand1 τ ρ s1 = g_hand2 τ (t_find s1.2.2.2 s1.2.1 6 0 Ls1.length) (g_nx τ s1) := by unfold g_hand1; rw [if_neg (fun c => c hc.1), etn, if_neg (by omega)]
  rw [eg] at hQ hX
  obtain ⟨hz2, hf2, e2, Ls2, hw2⟩ := a
  have hln2 : (s1.2.2.1 1) = (g_nx τ s1).2.2.1 1 := rfl
  have hfs2 := hf1.tr hf2
  generalize t_find s1.2.2.2 s1.2.1 6 0 Ls1.length = p at hfr hc hQ hX ⊢
  generalize g_nx τ s1 = s2 at hw2 hQ hX hln2
  have hp6 : 0 ≤ p ∧ p < s2.2.2.1 1 ∧ p < 6 := by omega
  have hH2 := hw2.w.2.1
  have hk13 : 0 ≤ s2.2.2.1 0 ∧ s2.2.2.1 0 ≤ 13 := hH2.1
  have e20 : I2 t 0 = s2.2.2.1 0 := hw2.tr.1.1
  show PW G mX13_hand (rmD (d + 9) 28 364) (MZ G Q X 28 364) (0+4+10) (0+60+136) I2 J2 P2 T2 z2 12 [some (.ref r), none, none, none] [iv p]
  refine r_istore_n1 (pc := 12) (Nat.le_of_ble_eq_true rfl) dX13_hand_12 rfl ?_
  refine r_aload_n (pc := 13) dX13_hand_13 rfl rfl ?_
  refine r_iconst (pc := 14) dX13_hand_14 ?_
  refine r_aload_n (pc := 15) dX13_hand_15 rfl rfl ?_
  refine r_getr (pc := 16) (c := 13) (k := 9) (kz := 9) hw2.o cok_13 (Nat.le_of_ble_eq_true rfl) q616 ⟨rfl, rfl⟩ (Or.inl rfl) rfl (fun _ _ _ => rfl) hw2.pt dX13_hand_16 ?_
  refine r_getiN (pc := 19) (c := 2) (k := 0) (kz := 0) hw2.sh.o cok_2 (Nat.le_of_ble_eq_true rfl) q204 ⟨rfl, rfl⟩ (Or.inl rfl) rfl (fun _ _ _ => rfl) dX13_hand_19 (fun hr19 => ?_)
  rw [e20] at hr19 ⊢
  refine r_iconst (pc := 22) dX13_hand_22 ?_
  refine r_isub (pc := 23) dX13_hand_23 ?_
  refine r_callU2 (pc := 24) (C_holdT (S := fun a => a < z0) (X := X) (Q := fg (s2.1 11 = 2 ∧ 0 ≤ s2.1 14 ∧ s2.1 14 ≤ s2.2.2.1 0 - 1) I2 J2 P2 T2 z2 (some (iv (s2.1 14)))) hw2.rd hw2.ti (by omega) (by omega) hw2.rz hw2.S (fun a b c => fg_i ⟨a, b, c⟩) (fun q => by unfold g_hand2 at hX; rw [if_pos q] at hX; exact (hX rfl).bad.fs hfs2) (fun q1 q2 => by unfold g_hand2 at hX; rw [if_neg (by omega), if_pos (by have := hw2.ti.2.2.2.2.2.2.2.2 q1; omega)] at hX; exact (hX rfl).bad.fs hfs2)) im_X12_hold rfl q1171 q1169 q1168 hw2.o rfl dX13_hand_24 (Nat.le_of_ble_eq_true rfl) (Nat.le_of_ble_eq_true rfl) rfl (k_gni fun hc2 => ?_) (fun _ _ _ _ _ _ _ hx => x_out rfl (Nat.le_of_ble_eq_true rfl) (Nat.le_of_ble_eq_true rfl) hx)
  obtain ⟨h11, hk0, hk1⟩ := hc2
  have eg2 : g_hand2 τ p s2 = (if 0 < s2.2.2.1 (60 + 13 * p + s2.1 14) then (0, g_bad 3 s2) else g_hand3 τ p (s2.1 14) (g_nx τ s2)) := by unfold g_hand2; rw [if_neg (by omega), if_neg (by omega)]
  rw [eg2] at hQ hX
  have eh : I2 (t + 3 + p.toNat) (s2.1 14) = s2.2.2.1 (60 + 13 * p + s2.1 14) := hw2.tr.2.2.1 p (s2.1 14) (by omega) (by omega) (by omega) (by omega)
  have hone := hH2.one (p := p) (k := s2.1 14) (by omega) (by omega)
  generalize hkk : s2.1 14 = k at hk0 hk1 eh hQ hX hone ⊢
  have hk13b : k < 13 := by omega
  refine r_istore_n2 (pc := 27) (Nat.le_of_ble_eq_true rfl) dX13_hand_27 rfl ?_
  refine r_aload_n (pc := 28) dX13_hand_28 rfl rfl ?_
  refine r_aload_n (pc := 29) dX13_hand_29 rfl rfl ?_
  refine r_getr (pc := 30) (c := 13) (k := 9) (kz := 9) hw2.o cok_13 (Nat.le_of_ble_eq_true rfl) q616 ⟨rfl, rfl⟩ (Or.inl rfl) rfl (fun _ _ _ => rfl) hw2.pt dX13_hand_30 ?_
  refine r_getrN (pc := 33) (c := 2) (k := 6) (kz := 6) hw2.sh.o cok_2 (Nat.le_of_ble_eq_true rfl) q225 ⟨rfl, rfl⟩ (Or.inl rfl) rfl (fun _ _ _ => rfl) hw2.sh.p_hand dX13_hand_33 ?_
  refine r_iload_n (pc := 36) dX13_hand_36 rfl rfl ?_
  refine r_aald (pc := 37) hw2.sh.t_hand ⟨by decide, by decide⟩ rfl (fun _ _ _ => rfl) (by omega) (by omega) (hw2.sh.q_hand (by omega) (by omega)) dX13_hand_37 ?_
  refine r_iload_n (pc := 38) dX13_hand_38 rfl rfl ?_
  refine r_iald (pc := 39) (hw2.sh.u_hand (by omega) (by omega)) (by omega) (by omega) dX13_hand_39 (fun hr39 => ?_)
  rw [eh] at hr39 ⊢
  refine r_if_ne (pc := 40) 47 dX13_hand_40 rfl (by omega) (fun h40 => ?_) (fun h40 => ?_)
  · refine r_iconst (pc := 47) dX13_hand_47 ?_
    refine r_iconst (pc := 48) dX13_hand_48 ?_
    refine r_callU2 (pc := 49) (C_needT (S := fun a => a < z0) (X := X) (Q := fg ((0 : Int) = 1) I2 J2 P2 T2 z2 none) hw2.rd hw2.ti.t hw2.ti.p (by omega) (by omega) hw2.rz hw2.S fg_i (fun _ => by rw [if_pos (by omega)] at hX; rw [if_neg (by omega)]; exact (hX rfl).bad.fs hfs2)) im_X12_need rfl q894 q892 q891 hw2.o rfl dX13_hand_49 (Nat.le_of_ble_eq_true rfl) (Nat.le_of_ble_eq_true rfl) rfl (k_gnv fun h => by omega) (fun _ _ _ _ _ _ _ hx => x_out rfl (Nat.le_of_ble_eq_true rfl) (Nat.le_of_ble_eq_true rfl) hx)
  rw [if_neg (by omega)] at hQ hX
  refine r_iconst (pc := 43) dX13_hand_43 ?_
  refine r_goto (pc := 44) 48 dX13_hand_44 rfl ?_
  refine r_iconst (pc := 48) dX13_hand_48 ?_
  refine r_callU2 (pc := 49) (C_needT (S := fun a => a < z0) (X := X) (Q := fe I2 J2 P2 T2 z2 none) hw2.rd hw2.ti.t hw2.ti.p (by omega) (by omega) hw2.rz hw2.S (fun _ => fe_i) (fun c => by omega)) im_X12_need rfl q894 q892 q891 hw2.o rfl dX13_hand_49 (Nat.le_of_ble_eq_true rfl) (Nat.le_of_ble_eq_true rfl) rfl (k_fv ?_) (fun _ _ _ _ _ _ _ hx => x_out rfl (Nat.le_of_ble_eq_true rfl) (Nat.le_of_ble_eq_true rfl) hx)
  refine r_aload_n (pc := 52) dX13_hand_52 rfl rfl ?_
  refine r_callU0 (pc := 53) (D_go (Q := er none (TQ G z0 z2 r tp t τ I2 J2 P2 T2 (g_nx τ s2))) hw2 (fun I' J' P' T' z' a => er_i a)) im_X12_go rfl q669 q667 q666 hw2.o rfl dX13_hand_53 (Nat.le_of_ble_eq_true rfl) (Nat.le_of_ble_eq_true rfl) rfl (k_er fun I3 J3 P3 T3 z3 a => ?_) (fun _ _ _ _ _ _ _ hx => no_x hx)
  obtain ⟨hz3, hf3, e3, Ls3, hw3⟩ := a
  have hfs3 := hfs2.tr hf3
  have hh3 : (g_nx τ s2).2.2.1 = s2.2.2.1 := rfl
  generalize g_nx τ s2 = s3 at hw3 hQ hX hh3
  rw [← hh3] at hp6 hk1 hone h40
  have hH3 := hw3.w.2.1
  show PW G mX13_hand (rmD (d + 9) 28 364) (MZ G Q X 28 364) (0+4+10+2+1+4) (0+60+136+16+8+60) I3 J3 P3 T3 z3 56 [some (.ref r), some (iv p), some (iv k), none] []
  refine r_aload_n (pc := 56) dX13_hand_56 rfl rfl ?_
  refine r_iconst (pc := 57) dX13_hand_57 ?_
  refine r_iconst (pc := 58) dX13_hand_58 ?_
  refine r_callU2 (pc := 59) (C_holdT (S := fun a => a < z0) (X := X) (Q := fg (s3.1 11 = 2 ∧ 1 ≤ s3.1 14 ∧ s3.1 14 ≤ 4) I3 J3 P3 T3 z3 (some (iv (s3.1 14)))) hw3.rd hw3.ti (by omega) (by omega) hw3.rz hw3.S (fun a b c => fg_i ⟨a, b, c⟩) (fun q => by unfold g_hand3 at hX; rw [if_pos q] at hX; exact (hX rfl).bad.fs hfs3) (fun q1 q2 => by unfold g_hand3 at hX; rw [if_neg (by omega), if_pos q2] at hX; exact (hX rfl).bad.fs hfs3)) im_X12_hold rfl q1171 q1169 q1168 hw3.o rfl dX13_hand_59 (Nat.le_of_ble_eq_true rfl) (Nat.le_of_ble_eq_true rfl) rfl (k_gni fun hc3 => ?_) (fun _ _ _ _ _ _ _ hx => x_out rfl (Nat.le_of_ble_eq_true rfl) (Nat.le_of_ble_eq_true rfl) hx)
  obtain ⟨h11c, hn1, hn4⟩ := hc3
  have eg3 : g_hand3 τ p k s3 = (if 4 < s3.2.2.1 (571 + k) + s3.1 14 then (0, g_bad 5 s3) else (1, g_nx τ (g_h (60 + 13 * p + k) (s3.1 14) (g_h (571 + k) (s3.2.2.1 (571 + k) + s3.1 14) s3)))) := by unfold g_hand3; rw [if_neg (by omega), if_neg (by omega)]
  rw [eg3] at hQ hX
  have ecd : I3 (t + 10) k = s3.2.2.1 (571 + k) := hw3.tr.2.2.2.2 k (by omega) (by omega)
  have h7 := hH3.h7
  have hc4 := (hH3.2.2.2.2.2.2.2.2.1 k (by omega) (by omega)).1
  have hc0 : 0 ≤ s3.2.2.1 (571 + k) := (hH3.one (p := p) (k := k) (by omega) (by omega)).2.2
  generalize hnn : s3.1 14 = n at hn1 hn4 hQ hX ⊢
  refine r_istore_n3 (pc := 62) (Nat.le_of_ble_eq_true rfl) dX13_hand_62 rfl ?_
  refine r_aload_n (pc := 63) dX13_hand_63 rfl rfl ?_
  refine r_aload_n (pc := 64) dX13_hand_64 rfl rfl ?_
  refine r_getr (pc := 65) (c := 13) (k := 9) (kz := 9) hw3.o cok_13 (Nat.le_of_ble_eq_true rfl) q616 ⟨rfl, rfl⟩ (Or.inl rfl) rfl (fun _ _ _ => rfl) hw3.pt dX13_hand_65 ?_
  refine r_getrN (pc := 68) (c := 2) (k := 8) (kz := 8) hw3.sh.o cok_2 (Nat.le_of_ble_eq_true rfl) q231 ⟨rfl, rfl⟩ (Or.inl rfl) rfl (fun _ _ _ => rfl) hw3.sh.p_cards dX13_hand_68 ?_
  refine r_iload_n (pc := 71) dX13_hand_71 rfl rfl ?_
  refine r_iald (pc := 72) hw3.sh.t_cards (by omega) (by omega) dX13_hand_72 (fun hr72 => ?_)
  rw [ecd] at hr72 ⊢
  refine r_iload_n (pc := 73) dX13_hand_73 rfl rfl ?_
  refine r_iadd (pc := 74) dX13_hand_74 ?_
  refine r_iconst (pc := 75) dX13_hand_75 ?_
  refine r_icmp_gt (pc := 76) 83 dX13_hand_76 rfl (by omega) (by omega) (fun h76 => ?_) (fun h76 => ?_)
  · refine r_iconst (pc := 83) dX13_hand_83 ?_
    refine r_iconst (pc := 84) dX13_hand_84 ?_
    refine r_callU2 (pc := 85) (C_needT (S := fun a => a < z0) (X := X) (Q := fg ((0 : Int) = 1) I3 J3 P3 T3 z3 none) hw3.rd hw3.ti.t hw3.ti.p (by omega) (by omega) hw3.rz hw3.S fg_i (fun _ => by rw [if_pos (by omega)] at hX; rw [if_neg (by omega)]; exact (hX rfl).bad.fs hfs3)) im_X12_need rfl q894 q892 q891 hw3.o rfl dX13_hand_85 (Nat.le_of_ble_eq_true rfl) (Nat.le_of_ble_eq_true rfl) rfl (k_gnv fun h => by omega) (fun _ _ _ _ _ _ _ hx => x_out rfl (Nat.le_of_ble_eq_true rfl) (Nat.le_of_ble_eq_true rfl) hx)
  rw [if_neg (by omega)] at hQ
  refine r_iconst (pc := 79) dX13_hand_79 ?_
  refine r_goto (pc := 80) 84 dX13_hand_80 rfl ?_
  refine r_iconst (pc := 84) dX13_hand_84 ?_
  refine r_callU2 (pc := 85) (C_needT (S := fun a => a < z0) (X := X) (Q := fe I3 J3 P3 T3 z3 none) hw3.rd hw3.ti.t hw3.ti.p (by omega) (by omega) hw3.rz hw3.S (fun _ => fe_i) (fun c => by omega)) im_X12_need rfl q894 q892 q891 hw3.o rfl dX13_hand_85 (Nat.le_of_ble_eq_true rfl) (Nat.le_of_ble_eq_true rfl) rfl (k_fv ?_) (fun _ _ _ _ _ _ _ hx => x_out rfl (Nat.le_of_ble_eq_true rfl) (Nat.le_of_ble_eq_true rfl) hx)
  have hbt := hw3.bt
  refine r_aload_n (pc := 88) dX13_hand_88 rfl rfl ?_
  refine r_getr (pc := 89) (c := 13) (k := 9) (kz := 9) hw3.o cok_13 (Nat.le_of_ble_eq_true rfl) q616 ⟨rfl, rfl⟩ (Or.inl rfl) rfl (fun _ _ _ => rfl) hw3.pt dX13_hand_89 ?_
  refine r_getrN (pc := 92) (c := 2) (k := 6) (kz := 6) hw3.sh.o cok_2 (Nat.le_of_ble_eq_true rfl) q225 ⟨rfl, rfl⟩ (Or.inl rfl) rfl (fun _ _ _ => rfl) hw3.sh.p_hand dX13_hand_92 ?_
  refine r_iload_n (pc := 95) dX13_hand_95 rfl rfl ?_
  refine r_aald (pc := 96) hw3.sh.t_hand ⟨by decide, by decide⟩ rfl (fun _ _ _ => rfl) (by omega) (by omega) (hw3.sh.q_hand (by omega) (by omega)) dX13_hand_96 ?_
  refine r_iload_n (pc := 97) dX13_hand_97 rfl rfl ?_
  refine r_iload_n (pc := 98) dX13_hand_98 rfl rfl ?_
  refine r_iast (pc := 99) (hw3.sh.u_hand (by omega) (by omega)) (by omega) (by omega) (by omega) (by omega) dX13_hand_99 ?_
  refine r_aload_n (pc := 100) dX13_hand_100 rfl rfl ?_
  refine r_getr (pc := 101) (c := 13) (k := 9) (kz := 9) hw3.o cok_13 (Nat.le_of_ble_eq_true rfl) q616 ⟨rfl, rfl⟩ (Or.inl rfl) rfl (fun _ _ _ => rfl) hw3.pt dX13_hand_101 ?_
  refine r_getrN (pc := 104) (c := 2) (k := 8) (kz := 8) hw3.sh.o cok_2 (Nat.le_of_ble_eq_true rfl) q231 ⟨rfl, rfl⟩ (Or.inl rfl) rfl (fun _ _ _ => rfl) hw3.sh.p_cards dX13_hand_104 ?_
  refine r_iload_n (pc := 107) dX13_hand_107 rfl rfl ?_
  refine r_dup2 (pc := 108) dX13_hand_108 rfl rfl ?_
  refine r_iald (pc := 109) hw3.sh.t_cards (by omega) (by omega) dX13_hand_109 (fun hr109 => ?_)
  rw [ui_nv (by omega), ecd] at hr109 ⊢
  refine r_iload_n (pc := 110) dX13_hand_110 rfl rfl ?_
  refine r_iadd (pc := 111) dX13_hand_111 ?_
  refine r_iast (pc := 112) hw3.sh.t_cards (by omega) (by omega) (by omega) (by omega) dX13_hand_112 ?_
  have hw4 := TWd.tab (J := J3) (I' := ui (ui I3 (t + 3 + p.toNat) k n) (t + 10) k (s3.2.2.1 (571 + k) + n)) (s' := g_h (60 + 13 * p + k) n (g_h (571 + k) (s3.2.2.1 (571 + k) + n) s3)) hw3 (fun a q => by rw [ui_nr (by omega), ui_nr (by omega)]) (hw3.tr.hand h7 (by omega) (by omega)) (by rw [ui_nv (by omega), ui_nv (by omega)]; exact hw3.tb.2.2.1) (by rw [g_h_n (by omega), g_h_n (by omega)]) rfl (fun _ _ _ => rfl) rfl ⟨hw3.w.1, hH3.hand (by omega) (by omega) (by omega) (by omega), fun q => by
    rw [g_h_n (by omega), g_h_n (by omega)]; exact hw3.w.2.2 q⟩
  have hfs4 := hfs3.tr hw4.2
  have hw4 := hw4.1
  generalize ui (ui I3 (t + 3 + p.toNat) k n) (t + 10) k (s3.2.2.1 (571 + k) + n) = I4 at hw4 hfs4 ⊢
  refine r_aload_n (pc := 113) dX13_hand_113 rfl rfl ?_
  refine r_callU0 (pc := 114) (D_go (Q := er none (TQ G z0 z3 r tp t τ I4 J3 P3 T3 (g_nx τ (g_h (60 + 13 * p + k) n (g_h (571 + k) (s3.2.2.1 (571 + k) + n) s3))))) hw4 (fun I' J' P' T' z' a => er_i a)) im_X12_go rfl q669 q667 q666 hw4.o rfl dX13_hand_114 (Nat.le_of_ble_eq_true rfl) (Nat.le_of_ble_eq_true rfl) rfl (k_er fun I5 J5 P5 T5 z5 a => ?_) (fun _ _ _ _ _ _ _ hx => no_x hx)
  show PW G mX13_hand (rmD (d + 9) 28 364) (MZ G Q X 28 364) (0+4+10+2+1+4+2+1+4) (0+60+136+16+8+60+16+8+60) I5 J5 P5 T5 z5 117 [some (.ref r), some (iv p), some (iv k), some (iv n)] []
  refine r_return (pc := 117) rfl dX13_hand_117 (Nat.le_of_ble_eq_true rfl) (Nat.le_of_ble_eq_true rfl) ?_
  exact hQ (by simp) _ _ _ _ _ ⟨by have := a.1; omega, hfs4.tr a.2.1, a.2.2⟩
theorem D_heap (h : TWd G I P T z0 z r tp t e τ Ls s) (hQ : ∀ I' J' P' T' z' s', ((g_heap τ 950 (g_nx τ s) = (1, s') ∧ isG 59 s') ∨ (g_heap τ 950 (g_nx τ s) = (0, g_bad 1 s') ∧ ¬ isG 59 s')) → TQ G z0 z r tp t τ I J P T s' I' J' P' T' z' → Q none I' J' P' T' z') (hX : (g_heap τ 950 (g_nx τ s)).1 = 0 → XK X (fun a => a < z0) I J P T ((g_heap τ 950 (g_nx τ s)).2.1 15) ((g_heap τ 950 (g_nx τ s)).2.1 16)) : MC G yX13_heap (ws_ yX13_heap cX13_heap 2 (none : Option FieldType)) (d + 9) 375 4512 [.ref r] I J P T z Q X := by
  refine MC.of (by decide) (Nat.le_of_ble_eq_true rfl) ?_
  show PW G mX13_heap (rmD (d + 9) 375 4512) (MZ G Q X 375 4512) 0 0 I J P T z 0 [some (.ref r), none] []
  refine r_aload_n (pc := 0) dX13_heap_0 rfl rfl ?_
  refine r_callU0 (pc := 1) (D_go (Q := er none (TQ G z0 z r tp t τ I J P T (g_nx τ s))) h (fun I' J' P' T' z' a => er_i a)) im_X12_go rfl q669 q667 q666 h.o rfl dX13_heap_1 (Nat.le_of_ble_eq_true rfl) (Nat.le_of_ble_eq_true rfl) rfl (k_er fun I1 J1 P1 T1 z1 a => ?_) (fun _ _ _ _ _ _ _ hx => no_x hx)
  have loop : ∀ (n j : Nat) (I1 J1 : HI) (P1 : HP) (T1 : HT) (z1 : Nat) (s1 : TS) (l1 : Option Value), g_heap τ 950 (g_nx τ s) = g_heap τ n s1 → (s1.1 3 - s1.1 4 + 2 ≤ n ∨ s1.1 11 ≠ 2 ∧ 1 ≤ n) → (j : Int) ≤ s1.2.2.1 7 → TQ G z0 z r tp t τ I J P T s1 I1 J1 P1 T1 z1 → PW G mX13_heap (rmD (d + 9) 375 4512) (MZ G Q X 375 4512) (4+7*j) (60+84*j) I1 J1 P1 T1 z1 4 [some (.ref r), l1] [] := by
    intro n
    induction n with
    | zero =>
      intro j I1 J1 P1 T1 z1 s1 l1 he hn hj a
      obtain ⟨hz1, hf1, e1, Ls1, hw1⟩ := a
      have := hw1.ti
      unfold TI at this
      omega
    | succ n ih =>
      intro j I1 J1 P1 T1 z1 s1 l1 he hn hj a
      obtain ⟨hz1, hf1, e1, Ls1, hw1⟩ := a
      rw [he] at hX
      have hH1 := hw1.w.2.1
      have hk13 : 0 ≤ s1.2.2.1 0 ∧ s1.2.2.1 0 ≤ 13 := hH1.1
      have h7 := hH1.h7
      have e10 : I1 t 0 = s1.2.2.1 0 := hw1.tr.1.1
      refine r_aload_n (pc := 4) dX13_heap_4 rfl rfl ?_
      refine r_iconst (pc := 5) dX13_heap_5 ?_
      refine r_aload_n (pc := 6) dX13_heap_6 rfl rfl ?_
      refine r_getr (pc := 7) (c := 13) (k := 9) (kz := 9) hw1.o cok_13 (Nat.le_of_ble_eq_true rfl) q616 ⟨rfl, rfl⟩ (Or.inl rfl) rfl (fun _ _ _ => rfl) hw1.pt dX13_heap_7 ?_
      refine r_getiN (pc := 10) (c := 2) (k := 0) (kz := 0) hw1.sh.o cok_2 (Nat.le_of_ble_eq_true rfl) q204 ⟨rfl, rfl⟩ (Or.inl rfl) rfl (fun _ _ _ => rfl) dX13_heap_10 (fun hr10 => ?_)
      rw [e10] at hr10 ⊢
      refine r_iconst (pc := 13) dX13_heap_13 ?_
      refine r_isub (pc := 14) dX13_heap_14 ?_
      refine r_callU2 (pc := 15) (C_holdT (S := fun a => a < z0) (X := X) (Q := fg (s1.1 11 = 2 ∧ 0 ≤ s1.1 14 ∧ s1.1 14 ≤ s1.2.2.1 0 - 1) I1 J1 P1 T1 z1 (some (iv (s1.1 14)))) hw1.rd hw1.ti (by omega) (by omega) hw1.rz hw1.S (fun a b c => fg_i ⟨a, b, c⟩) (fun q => by unfold g_heap at hX; rw [if_pos q] at hX; exact (hX rfl).bad.fs hf1) (fun q1 q2 => by unfold g_heap at hX; rw [if_neg (by omega), if_pos (by have := hw1.ti.2.2.2.2.2.2.2.2 q1; omega)] at hX; exact (hX rfl).bad.fs hf1)) im_X12_hold rfl q1171 q1169 q1168 hw1.o rfl dX13_heap_15 (by show 4 + 7 * j + 2 ≤ 375; omega) (by show 60 + 84 * j + 16 ≤ 4512; omega) rfl (k_gni fun hc2 => ?_) (fun _ _ _ _ _ _ _ hx => x_out rfl (by show 4 + 7 * j + 2 ≤ 375; omega) (by show 60 + 84 * j + 16 ≤ 4512; omega) hx)
      obtain ⟨h11, hk0, hk1⟩ := hc2
      have eg : g_heap τ (n + 1) s1 = (if s1.2.2.1 (571 + s1.1 14) = 4 then (0, g_bad 5 s1) else if isG 59 (g_nx τ (g_h 7 (s1.2.2.1 7 + 1) (g_h (8 + s1.2.2.1 7) (s1.1 14) (g_h (571 + s1.1 14) (s1.2.2.1 (571 + s1.1 14) + 1) s1)))) then (1, g_nx τ (g_h 7 (s1.2.2.1 7 + 1) (g_h (8 + s1.2.2.1 7) (s1.1 14) (g_h (571 + s1.1 14) (s1.2.2.1 (571 + s1.1 14) + 1) s1)))) else g_heap τ n (g_nx τ (g_h 7 (s1.2.2.1 7 + 1) (g_h (8 + s1.2.2.1 7) (s1.1 14) (g_h (571 + s1.1 14) (s1.2.2.1 (571 + s1.1 14) + 1) s1))))) := by
        conv => lhs; unfold g_heap
        rw [if_neg (by omega), if_neg (by omega)]
      rw [eg] at hX he
      have hGO := GO.nx (τ := τ) hw1.w
      generalize hkk : s1.1 14 = k at hk0 hk1 hX he ⊢
      have ecd : I1 (t + 10) k = s1.2.2.1 (571 + k) := hw1.tr.2.2.2.2 k (by omega) (by omega)
      have hc4 := (hH1.2.2.2.2.2.2.2.2.1 k (by omega) (by omega)).1
      have hc0 : 0 ≤ s1.2.2.1 (571 + k) := (hH1.one (p := 0) (k := k) (by omega) (by omega)).2.2
      have e17 : I1 t 3 = s1.2.2.1 7 := hw1.tr.2.1
      refine r_istore_n1 (pc := 18) (Nat.le_of_ble_eq_true rfl) dX13_heap_18 rfl ?_
      refine r_aload_n (pc := 19) dX13_heap_19 rfl rfl ?_
      refine r_aload_n (pc := 20) dX13_heap_20 rfl rfl ?_
      refine r_getr (pc := 21) (c := 13) (k := 9) (kz := 9) hw1.o cok_13 (Nat.le_of_ble_eq_true rfl) q616 ⟨rfl, rfl⟩ (Or.inl rfl) rfl (fun _ _ _ => rfl) hw1.pt dX13_heap_21 ?_
      refine r_getrN (pc := 24) (c := 2) (k := 8) (kz := 8) hw1.sh.o cok_2 (Nat.le_of_ble_eq_true rfl) q231 ⟨rfl, rfl⟩ (Or.inl rfl) rfl (fun _ _ _ => rfl) hw1.sh.p_cards dX13_heap_24 ?_
      refine r_iload_n (pc := 27) dX13_heap_27 rfl rfl ?_
      refine r_iald (pc := 28) hw1.sh.t_cards (by omega) (by omega) dX13_heap_28 (fun hr28 => ?_)
      rw [ecd] at hr28 ⊢
      refine r_iconst (pc := 29) dX13_heap_29 ?_
      refine r_icmp_ge (pc := 30) 37 dX13_heap_30 rfl (by omega) (by omega) (fun h30 => ?_) (fun h30 => ?_)
      · refine r_iconst (pc := 37) dX13_heap_37 ?_
        refine r_iconst (pc := 38) dX13_heap_38 ?_
        refine r_callU2 (pc := 39) (C_needT (S := fun a => a < z0) (X := X) (Q := fg ((0 : Int) = 1) I1 J1 P1 T1 z1 none) hw1.rd hw1.ti.t hw1.ti.p (by omega) (by omega) hw1.rz hw1.S fg_i (fun _ => by rw [if_pos (by omega)] at hX; rw [if_neg (by omega)]; exact (hX rfl).bad.fs hf1)) im_X12_need rfl q894 q892 q891 hw1.o rfl dX13_heap_39 (by show 4 + 7 * j + 2 + 1 ≤ 375; omega) (by show 60 + 84 * j + 16 + 8 ≤ 4512; omega) rfl (k_gnv fun h => by omega) (fun _ _ _ _ _ _ _ hx => x_out rfl (by show 4 + 7 * j + 2 + 1 ≤ 375; omega) (by show 60 + 84 * j + 16 + 8 ≤ 4512; omega) hx)
      rw [if_neg (by omega)] at hX he
      have h751 : s1.2.2.1 7 ≤ 51 := hH1.h7s (k := k) (by omega) (by omega)
      refine r_iconst (pc := 33) dX13_heap_33 ?_
      refine r_goto (pc := 34) 38 dX13_heap_34 rfl ?_
      refine r_iconst (pc := 38) dX13_heap_38 ?_
      refine r_callU2 (pc := 39) (C_needT (S := fun a => a < z0) (X := X) (Q := fe I1 J1 P1 T1 z1 none) hw1.rd hw1.ti.t hw1.ti.p (by omega) (by omega) hw1.rz hw1.S (fun _ => fe_i) (fun c => by omega)) im_X12_need rfl q894 q892 q891 hw1.o rfl dX13_heap_39 (by show 4 + 7 * j + 2 + 1 ≤ 375; omega) (by show 60 + 84 * j + 16 + 8 ≤ 4512; omega) rfl (k_fv ?_) (fun _ _ _ _ _ _ _ hx => x_out rfl (by show 4 + 7 * j + 2 + 1 ≤ 375; omega) (by show 60 + 84 * j + 16 + 8 ≤ 4512; omega) hx)
      have hbt := hw1.bt
      refine r_aload_n (pc := 42) dX13_heap_42 rfl rfl ?_
      refine r_getr (pc := 43) (c := 13) (k := 9) (kz := 9) hw1.o cok_13 (Nat.le_of_ble_eq_true rfl) q616 ⟨rfl, rfl⟩ (Or.inl rfl) rfl (fun _ _ _ => rfl) hw1.pt dX13_heap_43 ?_
      refine r_getrN (pc := 46) (c := 2) (k := 8) (kz := 8) hw1.sh.o cok_2 (Nat.le_of_ble_eq_true rfl) q231 ⟨rfl, rfl⟩ (Or.inl rfl) rfl (fun _ _ _ => rfl) hw1.sh.p_cards dX13_heap_46 ?_
      refine r_iload_n (pc := 49) dX13_heap_49 rfl rfl ?_
      refine r_dup2 (pc := 50) dX13_heap_50 rfl rfl ?_
      refine r_iald (pc := 51) hw1.sh.t_cards (by omega) (by omega) dX13_heap_51 (fun hr51 => ?_)
      rw [ecd] at hr51 ⊢
      refine r_iconst (pc := 52) dX13_heap_52 ?_
      refine r_iadd (pc := 53) dX13_heap_53 ?_
      refine r_iast (pc := 54) hw1.sh.t_cards (by omega) (by omega) (by omega) (by omega) dX13_heap_54 ?_
      refine r_aload_n (pc := 55) dX13_heap_55 rfl rfl ?_
      refine r_getr (pc := 56) (c := 13) (k := 9) (kz := 9) hw1.o cok_13 (Nat.le_of_ble_eq_true rfl) q616 ⟨rfl, rfl⟩ (Or.inl rfl) rfl (fun _ _ _ => rfl) hw1.pt dX13_heap_56 ?_
      refine r_getrN (pc := 59) (c := 2) (k := 7) (kz := 7) hw1.sh.o cok_2 (Nat.le_of_ble_eq_true rfl) q228 ⟨rfl, rfl⟩ (Or.inl rfl) rfl (fun _ _ _ => rfl) hw1.sh.p_heap dX13_heap_59 ?_
      refine r_aload_n (pc := 62) dX13_heap_62 rfl rfl ?_
      refine r_getr (pc := 63) (c := 13) (k := 9) (kz := 9) hw1.o cok_13 (Nat.le_of_ble_eq_true rfl) q616 ⟨rfl, rfl⟩ (Or.inl rfl) rfl (fun _ _ _ => rfl) hw1.pt dX13_heap_63 ?_
      refine r_getiN (pc := 66) (c := 2) (k := 3) (kz := 3) hw1.sh.o cok_2 (Nat.le_of_ble_eq_true rfl) q214 ⟨rfl, rfl⟩ (Or.inl rfl) rfl (fun _ _ _ => rfl) dX13_heap_66 (fun hr66 => ?_)
      rw [ui_nv (by omega), e17] at hr66 ⊢
      refine r_iload_n (pc := 69) dX13_heap_69 rfl rfl ?_
      refine r_iast (pc := 70) hw1.sh.t_heap (by omega) (by omega) (by omega) (by omega) dX13_heap_70 ?_
      refine r_aload_n (pc := 71) dX13_heap_71 rfl rfl ?_
      refine r_getr (pc := 72) (c := 13) (k := 9) (kz := 9) hw1.o cok_13 (Nat.le_of_ble_eq_true rfl) q616 ⟨rfl, rfl⟩ (Or.inl rfl) rfl (fun _ _ _ => rfl) hw1.pt dX13_heap_72 ?_
      refine r_dup (pc := 75) dX13_heap_75 rfl ?_
      refine r_getiN (pc := 76) (c := 2) (k := 3) (kz := 3) hw1.sh.o cok_2 (Nat.le_of_ble_eq_true rfl) q214 ⟨rfl, rfl⟩ (Or.inl rfl) rfl (fun _ _ _ => rfl) dX13_heap_76 (fun hr76 => ?_)
      rw [ui_nv (by omega), ui_nv (by omega), e17] at hr76 ⊢
      refine r_iconst (pc := 79) dX13_heap_79 ?_
      refine r_iadd (pc := 80) dX13_heap_80 ?_
      refine r_putiN (pc := 81) (c := 2) (k := 3) (kz := 3) hw1.sh.o cok_2 (Nat.le_of_ble_eq_true rfl) q214 ⟨rfl, rfl⟩ (Or.inl rfl) rfl (by omega) rfl rfl (by omega) (fun _ _ _ => rfl) ⟨rfl, rfl⟩ dX13_heap_81 ?_
      have hw2 := TWd.tab (J := J1) (I' := ui (ui (ui I1 (t + 10) k (s1.2.2.1 (571 + k) + 1)) (t + 9) (s1.2.2.1 7) k) t 3 (s1.2.2.1 7 + 1)) (s' := g_h 7 (s1.2.2.1 7 + 1) (g_h (8 + s1.2.2.1 7) k (g_h (571 + k) (s1.2.2.1 (571 + k) + 1) s1))) hw1 (fun a q => by rw [ui_nr (by omega), ui_nr (by omega), ui_nr (by omega)]) (hw1.tr.heapw (by omega) (by omega)) (by rw [ui_nj (by omega), ui_nv (by omega), ui_nv (by omega)]; exact hw1.tb.2.2.1) (by rw [g_h_n (by omega), g_h_n (by omega), g_h_n (by omega)]) rfl (fun _ _ _ => rfl) rfl ⟨hw1.w.1, hH1.heap (by omega) (by omega), fun q => by
        rw [g_h_n (by omega), g_h_n (by omega), g_h_n (by omega)]; exact hw1.w.2.2 q⟩
      have hf2 := hf1.tr hw2.2
      have hw2 := hw2.1
      obtain ⟨s2, hs2⟩ : ∃ s2, s2 = g_h 7 (s1.2.2.1 7 + 1) (g_h (8 + s1.2.2.1 7) k (g_h (571 + k) (s1.2.2.1 (571 + k) + 1) s1)) := ⟨_, rfl⟩
      have hs7 : s2.2.2.1 7 = s1.2.2.1 7 + 1 := by rw [hs2, g_h_s]
      have hso : s2.1 = s1.1 := by rw [hs2]; rfl
      rw [← hs2] at hw2 hX he
      generalize ui (ui (ui I1 (t + 10) k (s1.2.2.1 (571 + k) + 1)) (t + 9) (s1.2.2.1 7) k) t 3 (s1.2.2.1 7 + 1) = I2 at hw2 hf2 ⊢
      refine r_aload_n (pc := 84) dX13_heap_84 rfl rfl ?_
      refine r_callU0 (pc := 85) (D_go (Q := er none (TQ G z0 z1 r tp t τ I2 J1 P1 T1 (g_nx τ s2))) hw2 (fun I' J' P' T' z' a => er_i a)) im_X12_go rfl q669 q667 q666 hw2.o rfl dX13_heap_85 (by show 4 + 7 * j + 2 + 1 + 4 ≤ 375; omega) (by show 60 + 84 * j + 16 + 8 + 60 ≤ 4512; omega) rfl (k_er fun I3 J3 P3 T3 z3 a => ?_) (fun _ _ _ _ _ _ _ hx => no_x hx)
      have a3 : TQ G z0 z r tp t τ I J P T (g_nx τ s2) I3 J3 P3 T3 z3 := ⟨by have := a.1; omega, hf2.tr a.2.1, a.2.2⟩
      have hGO2 := GO.nx (τ := τ) hw2.w
      have h37 : (g_nx τ s2).2.2.1 7 = s1.2.2.1 7 + 1 := hs7
      obtain ⟨e3, Ls3, hw3⟩ := a.2.2
      obtain ⟨s3, hs3⟩ : ∃ s3, s3 = g_nx τ s2 := ⟨_, rfl⟩
      rw [← hs3] at a3 hGO2 h37 hw3 he hX
      have hcs := hw3.rd.2.cs hw3.ti.t
      refine r_widen (cu' := 4 + 7 * (j + 1)) (su' := 60 + 84 * (j + 1)) (by show 4 + 7 * j + 2 + 1 + 4 ≤ _; omega) (by show 60 + 84 * j + 16 + 8 + 60 ≤ _; omega) ?_
      show PW G mX13_heap (rmD (d + 9) 375 4512) (MZ G Q X 375 4512) (4+7*(j+1)) (60+84*(j+1)) I3 J3 P3 T3 z3 88 [some (.ref r), some (iv k)] []
      refine r_aload_n (pc := 88) dX13_heap_88 rfl rfl ?_
      refine r_geti (pc := 89) (c := 13) (k := 4) (kz := 4) hw3.o cok_13 (Nat.le_of_ble_eq_true rfl) q622 ⟨rfl, rfl⟩ (Or.inr q623) rfl (fun _ _ _ => rfl) dX13_heap_89 (fun hr89 => ?_)
      refine r_iconst (pc := 92) dX13_heap_92 ?_
      refine r_icmp_eq (pc := 93) 4 dX13_heap_93 rfl (by omega) (by omega) (fun h93 => ?_) (fun h93 => ?_)
      · have h3e : s3.1 11 = 2 := by omega
        have hng : ¬ isG 59 s3 := fun c => by have := c.1; omega
        rw [if_neg hng] at he
        refine ih (j + 1) I3 J3 P3 T3 z3 s3 _ he ?_ (by omega) a3
        have t1 := hw1.ti
        unfold TI at t1
        have g1 := hGO2.2.1 (Or.inr (Or.inl h3e))
        have g2 := hGO2.2.2
        rw [hso] at g1 g2
        omega
      have h3e : s3.1 11 ≠ 2 := by omega
      refine r_return (pc := 96) rfl dX13_heap_96 (by show 4 + 7 * (j + 1) ≤ 375; omega) (by show 60 + 84 * (j + 1) ≤ 4512; omega) ?_
      refine hQ _ _ _ _ _ s3 ?_ a3
      by_cases hg : isG 59 s3
      · rw [if_pos hg] at he
        exact Or.inl ⟨he, hg⟩
      · rw [if_neg hg] at he
        refine Or.inr ⟨?_, hg⟩
        rw [he]
        have hn1 : 1 ≤ n := by
          have t1 := hw1.ti
          unfold TI at t1
          omega
        obtain ⟨m, rfl⟩ : ∃ m, n = m + 1 := ⟨n - 1, by omega⟩
        unfold g_heap
        rw [if_pos h3e]
  have hti := a.2.2
  obtain ⟨e1, Ls1, hw1⟩ := hti
  have t1 := hw1.ti
  unfold TI at t1
  exact loop 950 0 I1 J1 P1 T1 z1 (g_nx τ s) none rfl (Or.inl (by omega)) (by have := hw1.w.2.1.h7; omega) a
end P9
