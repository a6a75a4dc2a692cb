/-! ===== the component: the face's sentence ===== -/
section P30
variable {G : GE} {I J I' J' : HI} {P P' : HP} {T T' : HT} {z z' z0 r tp t en d c x : Nat} {Q : QT} {X : XT} {τ ρ σ μ : Int → Int} {Ls : List (List Int)} {n : Nat} {s s' : TS} {o w : Int}
def SW0 (G : GE) (I : HI) (P : HP) (T : HT) (z0 z r tp t en : Nat) (τ : Int → Int) (Ls : List (List Int)) (n : Nat) (s : TS) : Prop :=
  (G.2.2.2.1 ≤ z0 ∧ z0 ≤ r ∧ tp < z0 ∧ r < z ∧ t + 11 ≤ z0) ∧ CS G I P T ∧ RB I P T 16 r tp τ s ∧ (P r 9 = some t ∧ I r 10 = 0 ∧ I r 11 = 0) ∧ shT G P T t ∧ NL G I P T (t + 1) en Ls ∧ (∀ i : Int, 0 ≤ i → i < Ls.length → WD (Ls.getD i.toNat []) ∧ cod (Ls.getD i.toNat []) = s.2.2.2 (0 + i)) ∧ Ls.length = n ∧ (0 ≤ s.1 4 ∧ s.1 4 ≤ s.1 3 ∧ s.1 3 ≤ 940 ∧ 0 ≤ s.1 5 ∧ s.1 5 ≤ 940)
theorem SW0.go (h : SW0 G I P T z0 z r tp t en τ Ls n s) (hz : z ≤ z') (hf : RF z r I J P T I' J' P' T') (hR : RD I' P' T' 16 r tp τ (g_nx τ s)) (hzz : ∀ a, z ≤ a → (T a).1 = 0) : SQv G z0 z r tp t en τ Ls n I J P T (g_nx τ s) 0 0 I' J' P' T' z' := by
  obtain ⟨a1, a2, a3, a4, a5, a6, a7, a8, a9⟩ := h
  have hlt : ∀ a, (T a).1 ≠ 0 → a < z := fun a q => Nat.not_le.mp fun c => q (hzz a c)
  have hr36 : (T r).1 = 36 := by rw [a3.1]
  have hh : ∀ a, (T a).1 ≠ 0 → (T a).1 ≠ 36 → I' a = I a ∧ P' a = P a ∧ T' a = T a := fun a p q => by
    have := hf.1 a (hlt a p) (fun c => q (by rw [c]; exact hr36))
    exact ⟨this.1, this.2.2, hf.2.1 a (hlt a p)⟩
  have hP : ∀ a, a < z0 → P' a = P a := fun a q => (hf.1 a (by omega) (by omega)).2.2
  have hT : ∀ a, a < z0 → T' a = T a := fun a q => hf.2.1 a (by omega)
  have hI : ∀ a, a < z0 → I' a = I a := fun a q => (hf.1 a (by omega) (by omega)).1
  have h5 : (g_nx τ s).1 5 = s.1 5 := t_next_f (by omega)
  refine ⟨hz, hf.sg, ⟨a1.1, a1.2.1, a1.2.2.1, by omega, a1.2.2.2.2⟩, a2.fz (z := 0) (J := I) (J1 := I) (fun a q => ⟨hI a (by omega), hP a (by omega), hT a (by omega)⟩), hR, ⟨?_, ?_, ?_⟩, a5.cg (hP _ (by omega)) (hP _ (by omega)) (fun a p q => hT a (by omega)), a6.cg (fun a q => hh a (by omega) (by omega)), a7, a8, TI_nx a9.1 a9.2.1 a9.2.2.1 a9.2.2.2.1, by rw [h5]; exact a9.2.2.2.2⟩
  · rw [hf.2.2.2.1 9 (by omega)]; exact a4.1
  · rw [hf.2.2.2.2 10 (by omega)]; exact a4.2.1
  · rw [hf.2.2.2.2 11 (by omega)]; exact a4.2.2
theorem D_sread (hρ : RES ρ) (hn6 : n ≤ 6) (h : SW0 G I P T z0 z r tp t en τ Ls n s) (hQ : (s_all τ ρ n s).1 = 1 → ∀ I' J' P' T' z' c, SQv G z0 z r tp t en τ Ls n I J P T (s_all τ ρ n s).2.1 (s_all τ ρ n s).2.2.1 0 I' J' P' T' z' → CT I' P' T' z z' (s_all τ ρ n s).2.2.2.length c (s_all τ ρ n s).2.2.2 → Q (some (.ref c)) I' J' P' T' z') (hX : (s_all τ ρ n s).1 = 0 → XK X (fun a => a < z0) I J P T ((s_all τ ρ n s).2.1.1 15) ((s_all τ ρ n s).2.1.1 16)) : MC G yX16_read (ws_ yX16_read cX16_read 2 (some (FieldType.object "SevenTable$Cond"))) (d + 47) 830 10400 [.ref r] I J P T z Q X := by
  refine MC.of (by decide) (Nat.le_of_ble_eq_true rfl) ?_
  show PW G mX16_read (rmD (d + 47) 830 10400) (MZ G Q X 830 10400) 0 0 I J P T z 0 [some (.ref r), none] []
  refine r_tz fun hzz => ?_
  have hb : G.2.2.2.1 ≤ r := by have := h.1; omega
  have htz : tp < z := by have := h.1; omega
  have hS0 : ∀ a, a < z0 → a < z ∧ a ≠ r := fun a q => by have := h.1; omega
  refine r_aload_n (pc := 0) dX16_read_0 rfl rfl ?_
  refine r_callU0 (pc := 1) (C_goS (d := d + 39) (Q := er none (SQv G z0 z r tp t en τ Ls n I J P T (g_nx τ s) 0 0)) h.2.2.1 h.2.2.2.2.2.2.2.2 hb h.1.2.2.2.1 htz (fun I' J' P' T' z' a b c => er_i (h.go a b c hzz))) im_X12_go rfl q1614 q1613 q1612 h.2.2.1.1 rfl dX16_read_1 (Nat.le_of_ble_eq_true rfl) (Nat.le_of_ble_eq_true rfl) rfl (k_er fun I1 J1 P1 T1 z1 a1 => ?_) (fun _ _ _ _ _ _ _ hx => no_x hx)
  have hw1 := a1.2.2
  have f1 : FS (fun a => a < z0) I J P T I1 J1 P1 T1 := fun b q => by
    have := hS0 b q
    exact a1.2.1 b this.1 this.2
  have ok := (SFn.one (τ := τ) (ρ := ρ) (n := n) 8).or (τ := τ) (g_nx τ s) 0 hw1.ti (by omega) (by omega)
  unfold s_all at hQ hX
  generalize hF : s_or τ (s_one τ ρ n 8) (g_nx τ s) 0 = rr at hQ hX ok
  have d5 := ok.2.1
  have kcr : kc rr 0 ≤ 820 ∧ ks rr 0 ≤ 10300 := by
    unfold kc ks
    split <;> omega
  show PW G mX16_read (rmD (d + 47) 830 10400) (MZ G Q X 830 10400) 4 60 I1 J1 P1 T1 z1 4 [some (.ref r), none] []
  refine r_aload_n (pc := 4) dX16_read_4 rfl rfl ?_
  have H := (RC_one (G := G) (z0 := z0) (r := r) (tp := tp) (t := t) (en := en) (τ := τ) (Ls := Ls) hρ hn6 8 d (by omega)).2
  refine r_callV0 (pc := 5) (H _ _ _ _ _ _ _ hw1 (by omega) (by omega) (fun v I' J' P' T' z' => rr.1 = 1 ∧ ∃ c2, v = some (.ref c2) ∧ SQv G z0 z1 r tp t en τ Ls n I1 J1 P1 T1 rr.2.1 rr.2.2.1 0 I' J' P' T' z' ∧ CT I' P' T' z1 z' rr.2.2.2.length c2 rr.2.2.2) X (fun q I' J' P' T' z' c2 b1 b2 => by rw [hF] at q b1 b2; exact ⟨q, c2, rfl, b1, b2⟩) (fun q => by rw [hF] at q ⊢; rw [if_pos q] at hX; exact (hX q).fs f1)) im_X16_or qs48 q1615 hw1.oT rfl dX16_read_5 (by rw [hF]; omega) (by rw [hF]; omega) rfl (fun v I4 J4 P4 T4 z4 hv => ?_) (fun _ _ _ _ _ _ _ hx => x_out rfl (by rw [hF]; omega) (by rw [hF]; omega) hx)
  obtain ⟨r1, c2, rfl, b1, b2⟩ := hv
  rw [if_neg (by omega)] at hQ hX
  rw [hF]
  have hw4 := b1.2.2
  have tk := hw4.rd.2.cs hw4.ti.t
  have f4 : FS (fun a => a < z0) I J P T I4 J4 P4 T4 := f1.tr (SQv.fs hw1 b1)
  show PW G mX16_read (rmD (d + 47) 830 10400) (MZ G Q X 830 10400) (4+kc rr 0) (60+ks rr 0) I4 J4 P4 T4 z4 8 [some (.ref r), none] [.ref c2]
  refine r_astore_n1 (pc := 8) (Nat.le_of_ble_eq_true rfl) dX16_read_8 rfl ?_
  refine r_aload_n (pc := 9) dX16_read_9 rfl rfl ?_
  refine r_aload_n (pc := 10) dX16_read_10 rfl rfl ?_
  refine r_geti (pc := 11) (c := 16) (k := 4) (kz := 4) hw4.oT cok_16 (Nat.le_of_ble_eq_true rfl) q626 ⟨rfl, rfl⟩ (Or.inr q627) rfl (fun _ _ _ => rfl) dX16_read_11 (fun hr11 => ?_)
  refine r_if_ne (pc := 14) 21 dX16_read_14 rfl (by omega) (fun h14 => ?_) (fun h14 => ?_)
  · rw [if_pos (by omega)] at hX
    refine r_iconst (pc := 21) dX16_read_21 ?_
    refine r_iconst (pc := 22) dX16_read_22 ?_
    refine r_callU2 (pc := 23) (C_needS (d := d + 39) (S := fun a => a < z0) (X := X) (Q := fg ((0 : Int) = 1) I4 J4 P4 T4 z4 none) hw4.rd hw4.ti.t hw4.ti.p (by omega) (by omega) hw4.rz hw4.S0 fg_i (fun _ => by rw [one1]; exact (hX rfl).bd.fs f4)) im_X12_need rfl q1644 q1643 q1642 hw4.oT rfl dX16_read_23 (by omega) (by omega) rfl (k_gnv fun h => by omega) (fun _ _ _ _ _ _ _ hx => x_out rfl (by omega) (by omega) hx)
  have g0 : ¬ rr.2.1.1 11 ≠ 0 := by omega
  rw [if_neg g0] at hQ
  refine r_iconst (pc := 17) dX16_read_17 ?_
  refine r_goto (pc := 18) 22 dX16_read_18 rfl ?_
  refine r_iconst (pc := 22) dX16_read_22 ?_
  refine r_callU2 (pc := 23) (C_needS (d := d + 39) (S := fun a => a < z0) (X := X) (Q := fe I4 J4 P4 T4 z4 none) hw4.rd hw4.ti.t hw4.ti.p (by omega) (by omega) hw4.rz hw4.S0 (fun _ => fe_i) (fun c => absurd c (by decide))) im_X12_need rfl q1644 q1643 q1642 hw4.oT rfl dX16_read_23 (by omega) (by omega) rfl (k_fv ?_) (fun _ _ _ _ _ _ _ hx => x_out rfl (by omega) (by omega) hx)
  refine r_aload_n (pc := 26) dX16_read_26 rfl rfl ?_
  refine r_areturn (pc := 27) rfl (Or.inl ⟨_, rfl⟩) dX16_read_27 (by omega) (by omega) ?_
  exact hQ r1 _ _ _ _ _ c2 (a1.tr b1) (CT.rg a1.1 (Nat.le_refl _) _ b2)
theorem C_srI {m : Int} (hT : T r = (36, 0)) (hb : G.2.2.2.1 ≤ r) (hn : rg m) (hQ : Q none (ui (ui I r 1 m) r 2 200) J (up (up (up P r 8 (some (G.2.2.2.2 0))) r 0 (some tp)) r 9 (some t)) T z) : MC G yX16_init (ws_ yX16_init cX16_init 4 (none : Option FieldType)) (d + 2) 0 0 [.ref r, .ref tp, iv m, .ref t] I J P T z Q nX := by
  refine MC.of (by decide) (Nat.le_of_ble_eq_true rfl) ?_
  show PW G mX16_init (rmD (d + 2) 0 0) (MZ G Q nX 0 0) 0 0 I J P T z 0 [some (.ref r), some (.ref tp), some (iv m), some (.ref t)] []
  refine r_aload_n (pc := 0) dX16_init_0 rfl rfl ?_
  refine r_aload_n (pc := 1) dX16_init_1 rfl rfl ?_
  refine r_iload_n (pc := 2) dX16_init_2 rfl rfl ?_
  refine r_sipush (pc := 3) dX16_init_3 (by decide +kernel) ?_
  refine r_callI3 (pc := 6) (C_rdIS (d := d) hT hb hn (by omega) fe_i) im_X12_init rfl q1587 dX16_init_6 (Nat.le_of_ble_eq_true rfl) (Nat.le_of_ble_eq_true rfl) rfl (k_fv ?_) (fun _ _ _ _ _ _ _ hx => no_x hx)
  refine r_aload_n (pc := 9) dX16_init_9 rfl rfl ?_
  refine r_aload_n (pc := 10) dX16_init_10 rfl rfl ?_
  refine r_putrF (pc := 11) (r := (some t)) (c := 16) (k := 9) (kz := 9) hT cok_16 (Nat.le_of_ble_eq_true rfl) q1588 ⟨rfl, rfl⟩ (Or.inl rfl) rfl (by omega) rfl rfl rfl rfl rfl (fun _ _ _ => rfl) ⟨rfl, rfl⟩ dX16_init_11 ?_
  refine r_return (pc := 14) rfl dX16_init_14 (Nat.le_of_ble_eq_true rfl) (Nat.le_of_ble_eq_true rfl) ?_
  exact hQ
set_option maxRecDepth 100000 in
theorem C_sentence {s0 : TS} (hx : XS G I P T x t σ μ) (hcs : CS G I P T) (hρ : RES ρ) (hnl : NL G I P T (t + 1) en Ls) (hnm : ∀ i : Int, 0 ≤ i → i < Ls.length → WD (Ls.getD i.toNat []) ∧ cod (Ls.getD i.toNat []) = s0.2.2.2 (0 + i)) (hln : Ls.length = n) (hn1 : (n : Int) = σ 1)
    (h3 : s0.1 3 = I x 1) (hm : 0 ≤ I x 1 ∧ I x 1 ≤ 940) (h4 : s0.1 4 = 0) (h5 : s0.1 5 = 200)
    (hQ0 : (s_all (I (x + 1)) ρ n s0).1 = 0 → ∀ I' J' P' T' z', (∀ a, a < z → a ≠ x → I' a = I a) → (∀ a, a < z → J' a = J a ∧ P' a = P a ∧ T' a = T a) → I' x = us (us (I x) 1 0) 2 ((s_all (I (x + 1)) ρ n s0).2.1.1 15) → Q (some (iv (-1 - (s_all (I (x + 1)) ρ n s0).2.1.1 16))) I' J' P' T' z')
    (hQ1 : (s_all (I (x + 1)) ρ n s0).1 = 1 → ∀ I' J' P' T' z' c, z ≤ z' → (∀ a, a < z → a ≠ x → I' a = I a) → (∀ a, a < z → J' a = J a ∧ T' a = T a) → (∀ a, a < z → ∀ j, ¬ (a = x ∧ j = 6) → P' a j = P a j) → I' x = us (us (I x) 1 0) 2 0 → P' x 6 = some c → CT I' P' T' z z' (s_all (I (x + 1)) ρ n s0).2.2.2.length c (s_all (I (x + 1)) ρ n s0).2.2.2 → Q (some (iv (s_all (I (x + 1)) ρ n s0).2.2.1)) I' J' P' T' z') : MC G yX1_sentence (wsW_ yX1_sentence cX1_sentence 3 (some FieldType.int) [((10 : Nat), (39 : Nat), (40 : Nat), (133 : Nat))]) (d + 48) 840 10420 [.ref x] I J P T z Q nX := by
  have hb := hx.b
  have hs := hx.x
  have hto : T x = (21, 0) := hs.o
  have ht := hx.ta
  obtain ⟨τ, hτ⟩ : ∃ τ, τ = I (x + 1) := ⟨_, rfl⟩
  rw [← hτ] at hQ1 hQ0
  obtain ⟨ω, hω⟩ : ∃ ω, ω = I x := ⟨_, rfl⟩
  rw [← hω] at h3 hm hQ1 hQ0
  obtain ⟨R, hR⟩ : ∃ R, R = s_all τ ρ n s0 := ⟨_, rfl⟩
  rw [← hR] at hQ1 hQ0
  refine MC.ofH (by decide) (Nat.le_of_ble_eq_true rfl) ?_
  refine pw_ur (a := x) ?_
  rw [← hω]
  show PW G mX1_sentence (rmD (d + 48) 840 10420) (MZ G Q nX 840 10420) 0 0 (ur I x ω) J P T z 0 [some (.ref x), none, none] []
  refine r_gz fun hgz => r_tz fun hzz => ?_
  have hlt : ∀ {a : Nat} {t : Nat} {k : Int}, T a = (t, k) → t ≠ 0 → a < z := fun {a t k} p q => Nat.not_le.mp fun c => q (by have := hzz a c; rw [p] at this; exact this)
  have hz404 : x + 404 ≤ z := by
    have := hlt (hs.g (o := 373) (by decide)).t_latest (by decide)
    omega
  have ht11 : t + 11 ≤ z := by
    have := hlt hx.tb.t_cards (by decide)
    omega
  have htx := hx.tx
  refine r_aload_n (pc := 0) dX1_sentence_0 rfl rfl ?_
  refine r_callV0 (pc := 1) (C_take hs fe_i) im_X1_take qs11 q600 hto rfl dX1_sentence_1 (Nat.le_of_ble_eq_true rfl) (Nat.le_of_ble_eq_true rfl) rfl (k_fi ?_) (fun _ _ _ _ _ _ _ hx => no_x hx)
  refine r_istore_n1 (pc := 4) (Nat.le_of_ble_eq_true rfl) dX1_sentence_4 rfl ?_
  refine r_aload_n (pc := 5) dX1_sentence_5 rfl rfl ?_
  refine r_iconst (pc := 6) dX1_sentence_6 ?_
  refine r_puti (pc := 7) (c := 1) (k := 2) (kz := 2) hto cok_1 (Nat.le_of_ble_eq_true rfl) q512 ⟨rfl, rfl⟩ (Or.inl rfl) rfl (by omega) rfl rfl (by omega) (fun _ _ _ => rfl) ⟨rfl, rfl⟩ dX1_sentence_7 ?_
  try simp (disch := omega) only [ui_ur, ui_ur_n, ur_sv, ur_nv, ui_sv, ui_nv, ui_uis, us_s, us_n]
  obtain ⟨m, hm2⟩ : ∃ m, m = ω 1 := ⟨_, rfl⟩
  rw [← hm2] at h3 hm ⊢
  refine r_new (pc := 10) (c := 16) cok_16 rfl (by decide +kernel) q1582 q1583 q151 (Nat.le_of_ble_eq_true rfl) (Nat.le_of_ble_eq_true rfl) dX1_sentence_10 ?_
  have hTx0 : ut T z (36, 0) x = (21, 0) := by rw [ut_n (by omega)]; exact hto
  have hs1 : shX G (urp P z fun _ => none) (ut T z (36, 0)) x := hs.cg (fun a p q => ut_n (by omega)) (fun a j p q u => by rw [urp_n (by omega)])
  have hpt1 : urp P z (fun _ => none) x 3 = some t := by rw [urp_n (by omega)]; exact hx.p_table
  refine r_dup (pc := 13) dX1_sentence_13 rfl ?_
  refine r_aload_n (pc := 14) dX1_sentence_14 rfl rfl ?_
  refine r_getr (pc := 15) (c := 1) (k := 0) (kz := 0) hTx0 cok_1 (Nat.le_of_ble_eq_true rfl) q510 ⟨rfl, rfl⟩ (Or.inl rfl) rfl (fun _ _ _ => rfl) hs1.p_tape dX1_sentence_15 ?_
  refine r_iload_n (pc := 18) dX1_sentence_18 rfl rfl ?_
  refine r_aload_n (pc := 19) dX1_sentence_19 rfl rfl ?_
  refine r_getr (pc := 20) (c := 1) (k := 3) (kz := 3) hTx0 cok_1 (Nat.le_of_ble_eq_true rfl) q513 ⟨rfl, rfl⟩ (Or.inl rfl) rfl (fun _ _ _ => rfl) hpt1 dX1_sentence_20 ?_
  refine r_callI3 (pc := 23) (C_srI (d := d + 45) (r := z) (tp := x + 1) (t := t) ut_s hgz (by omega) fe_i) im_X16_init rfl q1584 dX1_sentence_23 (Nat.le_of_ble_eq_true rfl) (Nat.le_of_ble_eq_true rfl) rfl (k_fv ?_) (fun _ _ _ _ _ _ _ hx => no_x hx)
  have hI1 : ∀ a, a ≠ z → ui (ui (ur (ur I x (us (us ω 1 0) 2 0)) z fun _ => 0) z 1 m) z 2 200 a = ur I x (us (us ω 1 0) 2 0) a := fun a q => by rw [ui_nr q, ui_nr q, ur_n q]
  have hP1 : ∀ a, a ≠ z → up (up (up (urp P z fun _ => none) z 8 (some (G.2.2.2.2 0))) z 0 (some (x + 1))) z 9 (some t) a = P a := fun a q => by rw [up_nr q, up_nr q, up_nr q, urp_n q]
  have hJ1 : ∀ a, a ≠ z → (ur J z fun _ => 0) a = J a := fun a q => ur_n q
  have hT1 : ∀ a, a ≠ z → ut T z (36, 0) a = T a := fun a q => ut_n q
  have hw0 : SW0 G (ui (ui (ur (ur I x (us (us ω 1 0) 2 0)) z fun _ => 0) z 1 m) z 2 200) (up (up (up (urp P z fun _ => none) z 8 (some (G.2.2.2.2 0))) z 0 (some (x + 1))) z 9 (some t)) (ut T z (36, 0)) z (z + 1) z (x + 1) t en τ Ls n s0 := by
    refine ⟨⟨hgz, Nat.le_refl _, by omega, by omega, ht11⟩, hcs.fz (z := 0) (J := I) (J1 := I) (fun a q => ⟨?_, hP1 a (by omega), hT1 a (by omega)⟩), ⟨ut_s, ?_, ?_, ?_, ?_, ?_, ?_, by omega⟩, ⟨up_s, ?_, ?_⟩, hx.tb.cg (hP1 _ (by omega)) (hP1 _ (by omega)) (fun a p q => hT1 a (by omega)), hnl.cg (fun a q => ?_), hnm, hln, ⟨by omega, by omega, by omega, by omega, by omega⟩⟩
    · rw [hI1 a (by omega), ur_n (by omega)]
    · simp [up]
    · rw [hT1 _ (by omega)]; exact hs.t_tape
    · rw [hI1 _ (by omega), ur_n (by omega), hτ]
    · rw [ui_nj (by omega), ui_sv]; exact h3.symm
    · rw [ui_sv]; exact h5.symm
    · rw [ui_nj (by omega), ui_nj (by omega), ur_sv]; exact h4.symm
    · rw [ui_nj (by omega), ui_nj (by omega), ur_sv]
    · rw [ui_nj (by omega), ui_nj (by omega), ur_sv]
    · have haz : a < z := Nat.not_le.mp fun c => by have := hzz a c; omega
      have hax : a ≠ x := fun c => by rw [c, hto] at q; revert q; decide
      exact ⟨by rw [hI1 a (by omega), ur_n hax], hP1 a (by omega), hT1 a (by omega)⟩
  generalize ui (ui (ur (ur I x (us (us ω 1 0) 2 0)) z fun _ => 0) z 1 m) z 2 200 = I1 at hI1 hw0
  generalize up (up (up (urp P z fun _ => none) z 8 (some (G.2.2.2.2 0))) z 0 (some (x + 1))) z 9 (some t) = P1 at hP1 hw0
  generalize (ur J z fun _ => 0) = J1 at hJ1
  generalize ut T z (36, 0) = T1 at hT1 hw0
  have hcat : ∀ E q (I' J' : HI) (P' : HP) (T' : HT) z', (E = "SevenTable$Fault" ∧ FS (fun a => a < z) I1 J1 P1 T1 I' J' P' T' ∧ T' q = (34, 0) ∧ R.1 = 0 ∧ I' q 0 = R.2.1.1 15 ∧ I' q 1 = R.2.1.1 16) → PX G mX1_sentence (rmD (d + 48) 840 10420) (MZ G Q nX 840 10420) (1 + 830) (12 + 10400) I' J' P' T' z' 29 [some (.ref x), some (iv m), some (.ref z)] [.ref x] E q := by
    intro E q I' J' P' T' z' ⟨hE, hf, hTq, hg0, hk, hp⟩
    subst hE
    have fx := hf x (by show x < z; omega)
    have hTx : T' x = (21, 0) := by rw [fx.2.2.2, hT1 x (by omega)]; exact hto
    refine x_catch (nm := "SevenTable$Fault") rfl ⟨by decide, by decide⟩ (by decide) q599 q899 ?_
    show PW G mX1_sentence (rmD (d + 48) 840 10420) (MZ G Q nX 840 10420) (1 + 830) (12 + 10400) I' J' P' T' z' 40 [some (.ref x), some (iv m), some (.ref z)] [.ref q]
    refine r_astore_n2 (pc := 40) (Nat.le_of_ble_eq_true rfl) dX1_sentence_40 rfl ?_
    refine r_aload_n (pc := 41) dX1_sentence_41 rfl rfl ?_
    refine r_aload_n (pc := 42) dX1_sentence_42 rfl rfl ?_
    refine r_getiN (pc := 43) (c := 14) (k := 0) (kz := 0) hTq cok_14 (Nat.le_of_ble_eq_true rfl) q943 ⟨rfl, rfl⟩ (Or.inl rfl) rfl (fun _ _ _ => rfl) dX1_sentence_43 (fun hr43 => ?_)
    rw [hk] at hr43 ⊢
    refine r_puti (pc := 46) (c := 1) (k := 2) (kz := 2) hTx cok_1 (Nat.le_of_ble_eq_true rfl) q512 ⟨rfl, rfl⟩ (Or.inl rfl) rfl (by omega) rfl rfl (by omega) (fun _ _ _ => rfl) ⟨rfl, rfl⟩ dX1_sentence_46 ?_
    refine r_iconst (pc := 49) dX1_sentence_49 ?_
    refine r_aload_n (pc := 50) dX1_sentence_50 rfl rfl ?_
    refine r_getiN (pc := 51) (c := 14) (k := 1) (kz := 1) hTq cok_14 (Nat.le_of_ble_eq_true rfl) q945 ⟨rfl, rfl⟩ (Or.inl rfl) rfl (fun _ _ _ => rfl) dX1_sentence_51 (fun hr51 => ?_)
    have nq : q ≠ x := fun c => by rw [c, hTx] at hTq; exact absurd (congrArg Prod.fst hTq) (by decide)
    rw [ui_nv nq, hp] at hr51 ⊢
    refine r_isub (pc := 54) dX1_sentence_54 ?_
    refine r_ireturn (pc := 55) rfl rfl dX1_sentence_55 (by decide) (by decide) ?_
    refine hQ0 hg0 _ _ _ _ _ (fun a p1 p2 => ?_) (fun a p1 => ?_) ?_
    · rw [ui_nr p2, (hf a p1).1, hI1 a (by omega), ur_n p2]
    · exact ⟨by rw [(hf a p1).2.1]; exact hJ1 a (by omega), by rw [(hf a p1).2.2.1]; exact hP1 a (by omega), by rw [(hf a p1).2.2.2]; exact hT1 a (by omega)⟩
    · funext j
      by_cases c : j = 2
      · subst c; rw [ui_sv, us_s]
      · rw [ui_nj c, fx.1, hI1 x (by omega), ur_sv, us_n c, us_n c]
  have hTx1 : T1 x = (21, 0) := by rw [hT1 x (by omega)]; exact hto
  show PW G mX1_sentence (rmD (d + 48) 840 10420) (MZ G Q nX 840 10420) 1 12 I1 J1 P1 T1 (z + 1) 26 [some (.ref x), some (iv m), none] [.ref z]
  refine r_astore_n2 (pc := 26) (Nat.le_of_ble_eq_true rfl) dX1_sentence_26 rfl ?_
  refine r_aload_n (pc := 27) dX1_sentence_27 rfl rfl ?_
  refine r_aload_n (pc := 28) dX1_sentence_28 rfl rfl ?_
  refine r_callV0 (pc := 29) (D_sread (d := d) (X := fun E q I' J' P' T' z' => E = "SevenTable$Fault" ∧ FS (fun a => a < z) I1 J1 P1 T1 I' J' P' T' ∧ T' q = (34, 0) ∧ R.1 = 0 ∧ I' q 0 = R.2.1.1 15 ∧ I' q 1 = R.2.1.1 16) (Q := fun v I' J' P' T' z' => R.1 = 1 ∧ ∃ c2, v = some (.ref c2) ∧ SQv G z (z + 1) z (x + 1) t en τ Ls n I1 J1 P1 T1 R.2.1 R.2.2.1 0 I' J' P' T' z' ∧ CT I' P' T' (z + 1) z' R.2.2.2.length c2 R.2.2.2) hρ (by omega) hw0 (fun q I' J' P' T' z' c2 b1 b2 => by rw [← hR] at q b1 b2; exact ⟨q, c2, rfl, b1, b2⟩) (fun q => by rw [← hR] at q ⊢; exact fun q2 I' J' P' T' z' b1 b2 b3 b4 => ⟨rfl, b1, b2, q, b3, b4⟩)) im_X16_read q1610 q1608 hw0.2.2.1.1 rfl dX1_sentence_29 (by decide) (by decide) rfl (fun v I3 J3 P3 T3 z3 hv => ?_) (fun _ _ _ _ _ _ _ hx => hcat _ _ _ _ _ _ _ hx)
  obtain ⟨r1, c2, rfl, b1, b2⟩ := hv
  have hQ1 := hQ1 r1
  have hw3 := b1.2.2
  have hz3 := b1.1
  have f3 : ∀ a, a < z → I3 a = ur I x (us (us ω 1 0) 2 0) a ∧ J3 a = J a ∧ P3 a = P a ∧ T3 a = T a := fun a q => by
    obtain ⟨e1, e2, e3, e4⟩ := b1.2.1 a (by omega) (by omega)
    exact ⟨e1.trans (hI1 a (by omega)), e2.trans (hJ1 a (by omega)), e3.trans (hP1 a (by omega)), e4.trans (hT1 a (by omega))⟩
  have hTx3 : T3 x = (21, 0) := by rw [(f3 x (by omega)).2.2.2]; exact hto
  show PW G mX1_sentence (rmD (d + 48) 840 10420) (MZ G Q nX 840 10420) (1+830) (12+10400) I3 J3 P3 T3 z3 32 [some (.ref x), some (iv m), some (.ref z)] [.ref c2, .ref x]
  refine r_putr (pc := 32) (r := (some c2)) (c := 1) (k := 6) (kz := 6) hTx3 cok_1 (Nat.le_of_ble_eq_true rfl) q516 ⟨rfl, rfl⟩ (Or.inl rfl) rfl (by omega) rfl rfl rfl (fun _ _ _ => rfl) ⟨rfl, rfl⟩ dX1_sentence_32 ?_
  refine r_aload_n (pc := 35) dX1_sentence_35 rfl rfl ?_
  refine r_getiN (pc := 36) (c := 16) (k := 10) (kz := 10) hw3.oT cok_16 (Nat.le_of_ble_eq_true rfl) q1590 ⟨rfl, rfl⟩ (Or.inl rfl) rfl (fun _ _ _ => rfl) dX1_sentence_36 (fun hr36 => ?_)
  rw [hw3.i10] at hr36 ⊢
  refine r_ireturn (pc := 39) rfl rfl dX1_sentence_39 (by decide) (by decide) ?_
  refine hQ1 _ _ _ _ _ c2 (by omega) (fun a p1 p2 => ?_) (fun a p1 => ⟨(f3 a p1).2.1, (f3 a p1).2.2.2⟩) (fun a p1 j p2 => ?_) ?_ up_s (CT.rg (show z ≤ z + 1 by omega) (Nat.le_refl _) _ (CT.cg _ b2 (fun b q1 q2 => ⟨rfl, up_nr (by omega), rfl⟩)))
  · rw [(f3 a p1).1, ur_n p2]
  · have : up P3 x 6 (some c2) a j = P3 a j := by unfold up; rw [if_neg p2]
    rw [this, (f3 a p1).2.2.1]
  · rw [(f3 x (by omega)).1, ur_s]
end P30
