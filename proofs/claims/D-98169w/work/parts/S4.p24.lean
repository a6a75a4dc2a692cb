/-! ===== the component: the face's evening  ===== -/
section P24
variable {G : GE} {I J I' J' : HI} {P P' : HP} {T T' : HT} {z x t en d : Nat} {Q : QT} {τ ρ σ μ ν rd : Int → Int} {Ls : List (List Int)}
/-- what an evening may change below z, but for a heap of the reader's own -/
def NF (z x : Nat) (I J : HI) (P : HP) (T : HT) (I' J' : HI) (P' : HP) (T' : HT) : Prop := (∀ a, a < z → a ≠ x → a ≠ x + 90 → (a < x + 44 ∨ x + 75 ≤ a) → I' a = I a) ∧ (∀ a, a < z → J' a = J a) ∧ (∀ a, a < z → ∀ j, ¬ (a = x + 44 ∧ j = 0) → P' a j = P a j) ∧ ∀ a, a < z → T' a = T a
/-- .. if it is lived -/
def NL1 (z x : Nat) (I J : HI) (P : HP) (T : HT) (I' J' : HI) (P' : HP) (T' : HT) : Prop := (∀ a, a < z → (a < x ∨ (x < a ∧ a < x + 13) ∨ (x + 75 ≤ a ∧ a < x + 156 ∧ a ≠ x + 76 ∧ a ≠ x + 90) ∨ x + 404 ≤ a) → I' a = I a) ∧ (∀ a, a < z → J' a = J a) ∧ (∀ a, a < z → (a < x + 156 ∨ x + 404 ≤ a) → a ≠ x + 75 → ∀ j, ¬ (a = x + 44 ∧ j = 0) → P' a j = P a j) ∧ ∀ a, a < z → T' a = T a
/-- what is heard -/
def hrd (e : EV) (f : Int → Int) : Int → Int := us (us (us (us f 0 e.2.2.2.1) 1 e.2.2.1) 2 (f_allBooks e.1)) 3 (e.1 4)
theorem ui_usr {a : Nat} {j v : Int} : ui I a j v = ur I a (us (I a) j v) := by
  funext b i
  unfold ui ur us
  by_cases c : b = a
  · subst c; simp
  · simp [c]
set_option maxRecDepth 100000 in
theorem C_evening {s0 : TS} (hx : XS G I P T x t σ μ) {N : Int} {β : Int → Nat} {υ : Int → Int → Int} (hB : XB I P x t N β υ) (hcs : CS G I P T) (hρ : RES ρ) (hnl : NL G I P T (t + 1) en Ls) (hnm : ∀ i : Int, 0 ≤ i → i < Ls.length → WD (Ls.getD i.toNat []) ∧ cod (Ls.getD i.toNat []) = s0.2.2.2 (0 + i)) (hln : (Ls.length : Int) = σ 1) (h13 : 0 ≤ I (x + 44) 13 ∧ I (x + 44) 13 ≤ 52)
    (h3 : s0.1 3 = I x 1) (hm : 0 ≤ I x 1 ∧ I x 1 ≤ 940) (h4 : s0.1 4 = 0) (h5 : s0.1 5 = 500) (h52 : s0.1 52 = 0) {lv : Int} (hlv : rg lv) (hbad : ¬ (0 ≤ lv ∧ lv ≤ 1) → Q (some (iv (-1000))) I J P T z)
    (hQ0 : (0 ≤ lv ∧ lv ≤ 1) → (e_tab (I (x + 1)) ρ σ 31 (g_nx (I (x + 1)) s0) rd).1 = 0 → ∀ I' J' P' T' z', NF z x I J P T I' J' P' T' → I' (x + 90) = I (x + 90) → I' x = us (us (I x) 1 0) 2 ((e_tab (I (x + 1)) ρ σ 31 (g_nx (I (x + 1)) s0) rd).2.1.1 15) → Q (some (iv (-2 - (e_tab (I (x + 1)) ρ σ 31 (g_nx (I (x + 1)) s0) rd).2.1.1 16))) I' J' P' T' z')
    (hQ1 : (0 ≤ lv ∧ lv ≤ 1) → (e_tab (I (x + 1)) ρ σ 31 (g_nx (I (x + 1)) s0) rd).1 = 1 → ∀ (n : Nat) (e : EV), (e_tab (I (x + 1)) ρ σ 31 (g_nx (I (x + 1)) s0) rd).2.1.1 52 = n → n ≤ 30 → e = evs (e_tab (I (x + 1)) ρ σ 31 (g_nx (I (x + 1)) s0) rd).2.2 n (σ, μ, 0, 0, -1) → ∀ I' J' P' T' z',
      (¬ (lv = 1 ∧ 0 < e.2.2.1) → NF z x I J P T I' J' P' T' → I' (x + 90) = hrd e (I (x + 90)) → I' x = us (us (I x) 1 0) 2 0 → (0 ≤ I' (x + 44) 13 ∧ I' (x + 44) 13 ≤ 52) → Q (some (iv e.2.2.2.2)) I' J' P' T' z') ∧
      (lv = 1 ∧ 0 < e.2.2.1 → ∀ β', NL1 z x I J P T I' J' P' T' → I' (x + 90) = hrd e (I (x + 90)) → I' x = us (us (us (I x) 1 0) 2 0) 8 (kn N + 1) → (0 ≤ I' (x + 44) 13 ∧ I' (x + 44) 13 ≤ 52) → XS G I' P' T' x t e.1 e.2.1 → XB I' P' x t (kn N + 1) β' (kb υ N σ) → I' (x + 76) = told e.2.1 (I (x + 76)) → Q (some (iv e.2.2.2.2)) I' J' P' T' z')) : MC G yX1_evening (wsW_ yX1_evening cX1_evening 4 (some FieldType.int) [((23 : Nat), (132 : Nat), (133 : Nat), (133 : Nat))]) (d + 14) 1700 22200 [.ref x, iv lv] I J P T z Q nX := by
  have hb := hx.b
  have hs := hx.x
  have hto : T x = (21, 0) := hs.o
  refine MC.ofH (by decide) (Nat.le_of_ble_eq_true rfl) ?_
  show PW G mX1_evening (rmD (d + 14) 1700 22200) (MZ G Q nX 1700 22200) 0 0 I J P T z 0 [some (.ref x), some (iv lv), none, none] []
  refine r_iload_n (pc := 0) dX1_evening_0 rfl rfl ?_
  refine r_iconst (pc := 1) dX1_evening_1 ?_
  refine r_iconst (pc := 2) dX1_evening_2 ?_
  refine r_callS3 (pc := 3) (C_isIn hlv (by omega) (by omega) fe_i) im_X1_isIn q1228 dX1_evening_3 (Nat.le_of_ble_eq_true rfl) (Nat.le_of_ble_eq_true rfl) rfl (k_fi ?_) (fun _ _ _ _ _ _ _ hx => no_x hx)
  refine r_if_ne (pc := 6) 13 dX1_evening_6 rfl bz_g (fun h6 => ?_) (fun h6 => ?_)
  · have q1 := bz_ne.mp h6
    have hQ0 := hQ0 q1
    have hQ1 := hQ1 q1
    obtain ⟨τ, hτ⟩ : ∃ τ, τ = I (x + 1) := ⟨_, rfl⟩
    rw [← hτ] at hQ0 hQ1
    obtain ⟨ω, hω⟩ : ∃ ω, ω = I x := ⟨_, rfl⟩
    rw [← hω] at hQ0 hQ1 h3 hm
    obtain ⟨R, hR⟩ : ∃ R, R = e_tab τ ρ σ 31 (g_nx τ s0) rd := ⟨_, rfl⟩
    rw [← hR] at hQ0 hQ1
    refine pw_ur (a := x) ?_
    rw [← hω]
    show PW G mX1_evening (rmD (d + 14) 1700 22200) (MZ G Q nX 1700 22200) 0 0 (ur I x ω) J P T z 13 [some (.ref x), some (iv lv), none, none] []
    refine r_gz fun hgz => r_tz fun hzz => ?_
    have hlt : ∀ {a : Nat} {t : Nat} {k : Int}, T a = (t, k) → t ≠ 0 → a < z := fun {a t k} p q => Nat.not_le.mp fun c => q (by have := hzz a c; rw [p] at this; exact this)
    have hz404 : x + 404 ≤ z := by
      have := hlt (hs.g (o := 373) (by decide)).t_latest (by decide)
      omega
    have ht11 : t + 11 ≤ z := by
      have := hlt hx.tb.t_cards (by decide)
      omega
    have htx := hx.tx
    refine r_aload_n (pc := 13) dX1_evening_13 rfl rfl ?_
    refine r_callV0 (pc := 14) (C_take hs fe_i) im_X1_take qs11 q600 hto rfl dX1_evening_14 (Nat.le_of_ble_eq_true rfl) (Nat.le_of_ble_eq_true rfl) rfl (k_fi ?_) (fun _ _ _ _ _ _ _ hx => no_x hx)
    refine r_istore_n2 (pc := 17) (Nat.le_of_ble_eq_true rfl) dX1_evening_17 rfl ?_
    refine r_aload_n (pc := 18) dX1_evening_18 rfl rfl ?_
    refine r_iconst (pc := 19) dX1_evening_19 ?_
    refine r_puti (pc := 20) (c := 1) (k := 2) (kz := 2) hto cok_1 (Nat.le_of_ble_eq_true rfl) q512 ⟨rfl, rfl⟩ (Or.inl rfl) rfl (by omega) rfl rfl (by omega) (fun _ _ _ => rfl) ⟨rfl, rfl⟩ dX1_evening_20 ?_
    try simp (disch := omega) only [ui_ur, ui_ur_n, ur_sv, ur_nv, ui_sv, ui_nv, ui_uis, us_s, us_n]
    obtain ⟨m, hm2⟩ : ∃ m, m = ω 1 := ⟨_, rfl⟩
    rw [← hm2] at h3 hm ⊢
    refine r_new (pc := 23) (c := 15) cok_15 rfl (by decide +kernel) q1504 q1505 q150 (Nat.le_of_ble_eq_true rfl) (Nat.le_of_ble_eq_true rfl) dX1_evening_23 ?_
    have hTx0 : ut T z (35, 0) x = (21, 0) := by rw [ut_n (by omega)]; exact hto
    have hs1 : shX G (urp P z fun _ => none) (ut T z (35, 0)) x := hs.cg (fun a p q => ut_n (by omega)) (fun a j p q u => by rw [urp_n (by omega)])
    have hgm := hs1.g (o := 44) (by decide)
    have hgn : shG G (urp P z fun _ => none) (ut T z (35, 0)) (x + 13) t := ⟨hs1.g (o := 13) (by decide), hx.tb.cg (urp_n (by omega)) (urp_n (by omega)) (fun a p q => ut_n (by omega)), by rw [urp_n (by omega)]; exact hx.g.2.2⟩
    have hgr : GR (ur (ur I x (us (us ω 1 0) 2 0)) z fun _ => 0) (x + 13) t σ μ := hx.r.fr (fun b q => by rw [ur_n (by omega), ur_n (by omega)])
    refine r_dup (pc := 26) dX1_evening_26 rfl ?_
    refine r_aload_n (pc := 27) dX1_evening_27 rfl rfl ?_
    refine r_getr (pc := 28) (c := 1) (k := 0) (kz := 0) hTx0 cok_1 (Nat.le_of_ble_eq_true rfl) q510 ⟨rfl, rfl⟩ (Or.inl rfl) rfl (fun _ _ _ => rfl) hs1.p_tape dX1_evening_28 ?_
    refine r_iload_n (pc := 31) dX1_evening_31 rfl rfl ?_
    refine r_aload_n (pc := 32) dX1_evening_32 rfl rfl ?_
    refine r_getr (pc := 33) (c := 1) (k := 5) (kz := 5) hTx0 cok_1 (Nat.le_of_ble_eq_true rfl) q515 ⟨rfl, rfl⟩ (Or.inl rfl) rfl (fun _ _ _ => rfl) hs1.p_trial dX1_evening_33 ?_
    refine r_aload_n (pc := 36) dX1_evening_36 rfl rfl ?_
    refine r_getr (pc := 37) (c := 1) (k := 4) (kz := 4) hTx0 cok_1 (Nat.le_of_ble_eq_true rfl) q514 ⟨rfl, rfl⟩ (Or.inl rfl) rfl (fun _ _ _ => rfl) hs1.p_now dX1_evening_37 ?_
    refine r_callV1 (pc := 40) (C_as (g := x + 44) (Q := er (some (.ref (x + 44))) (fun I' J' P' T' z' => J' = (ur J z fun _ => 0) ∧ P' = up (urp P z fun _ => none) (x + 44) 0 (some t) ∧ T' = ut T z (35, 0) ∧ z' = z + 1 ∧ GF (x + 44) (ur (ur I x (us (us ω 1 0) 2 0)) z fun _ => 0) I' ∧ GR I' (x + 44) t σ μ)) hgm hgn (by omega) (by omega) hgr (fun I' a b => er_i ⟨rfl, rfl, rfl, rfl, a, b⟩)) im_X3_as q1268 q1266 hs1.t_trial rfl dX1_evening_40 (Nat.le_of_ble_eq_true rfl) (Nat.le_of_ble_eq_true rfl) rfl (k_er fun I1 J1 P1 T1 z1 ⟨e1, e2, e3, e4, hf1, hr1⟩ => ?_) (fun _ _ _ _ _ _ _ hx => no_x hx)
    subst e1 e3 e4
    have hI1z : I1 z = fun _ => 0 := by rw [hf1 z (by omega), ur_s]
    have hI1 : ∀ a, a < z → a ≠ x → (a < x + 44 ∨ x + 75 ≤ a) → I1 a = I a := fun a p q u => by rw [hf1 a (by omega), ur_n (by omega), ur_n q]
    have hI1x : I1 x = us (us ω 1 0) 2 0 := by rw [hf1 x (by omega), ur_n (by omega), ur_s]
    have hP1 : ∀ a, a < z → a ≠ x + 44 → P1 a = P a := fun a p q => by rw [e2, up_nr q, urp_n (by omega)]
    have hs2 : shX G P1 (ut T z (35, 0)) x := hs1.cg (fun a p q => rfl) (fun a j p q u => by
      rw [e2]
      unfold up
      rw [if_neg (fun c => u (by rw [c.1, c.2]; unfold okP; omega))])
    have hst1 : shT G P1 (ut T z (35, 0)) t := hx.tb.cg (hP1 _ (by omega) (by omega)) (hP1 _ (by omega) (by omega)) (fun a p q => ut_n (by omega))
    have hT1 : ∀ a, a < z → ut T z (35, 0) a = T a := fun a p => ut_n (by omega)
    show PW G mX1_evening (rmD (d + 14) 1700 22200) (MZ G Q nX 1700 22200) 1 13 I1 (ur J z fun _ => 0) P1 (ut T z (35, 0)) (z + 1) 43 [some (.ref x), some (iv lv), some (iv m), none] [.ref (x + 44), iv m, .ref (x + 1), .ref z, .ref z]
    refine r_callI3 (pc := 43) (C_erI (r := z) (tp := x + 1) (g := x + 44) ut_s hgz (by omega) fe_i) im_X15_init rfl q1506 dX1_evening_43 (Nat.le_of_ble_eq_true rfl) (Nat.le_of_ble_eq_true rfl) rfl (k_fv ?_) (fun _ _ _ _ _ _ _ hx => no_x hx)
    have hP2 : ∀ a, a ≠ z → up (up (up P1 z 8 (some (G.2.2.2.2 0))) z 0 (some (x + 1))) z 9 (some (x + 44)) a = P1 a := fun a p => by rw [up_nr p, up_nr p, up_nr p]
    have hI2 : ∀ a, a ≠ z → ui (ui (ui I1 z 1 m) z 2 500) z 12 (-1) a = I1 a := fun a p => by rw [ui_nr p, ui_nr p, ui_nr p]
    have hw0 : EW0 G (ui (ui (ui I1 z 1 m) z 2 500) z 12 (-1)) (up (up (up P1 z 8 (some (G.2.2.2.2 0))) z 0 (some (x + 1))) z 9 (some (x + 44))) (ut T z (35, 0)) z (z + 1) z (x + 1) (x + 44) t en τ Ls s0 (σ, μ, 0, 0, -1) := by
      refine ⟨⟨hgz, Nat.le_refl _, by omega, by omega, by omega, ht11, by omega, by omega⟩, hcs.fz (z := 0) (J := I) (J1 := I) (fun a q => ⟨?_, ?_, hT1 a (by omega)⟩), ⟨ut_s, ?_, ?_, ?_, ?_, ?_, ?_, by omega⟩, ⟨⟨ut_s, hgz, by omega, by omega, by omega⟩, up_s, ⟨?_, ?_, ?_⟩, hr1.fr (fun b q => hI2 b (by omega)), hx.w, ?_, ?_, ui_sv, by omega, by omega⟩, hnl.cg (fun a q => ?_), hnm, hln, ⟨by omega, by omega, by omega, by omega, by omega⟩⟩
      · rw [hI2 a (by omega)]; exact hI1 a (by omega) (by omega) (by omega)
      · rw [hP2 a (by omega)]; exact hP1 a (by omega) (by omega)
      · simp [up]
      · rw [hT1 _ (by omega)]; exact hs.t_tape
      · rw [hI2 _ (by omega), hI1 _ (by omega) (by omega) (by omega), hτ]
      · rw [ui_nj (by omega), ui_nj (by omega), ui_sv]; exact h3.symm
      · rw [ui_nj (by omega), ui_sv]; exact h5.symm
      · rw [ui_nj (by omega), ui_nj (by omega), ui_nj (by omega), hI1z]; exact h4.symm
      · exact (hs2.g (o := 44) (by decide)).pf (fun j _ => by rw [hP2 _ (by omega)]) ⟨hP2 _ (by omega), hP2 _ (by omega), hP2 _ (by omega)⟩
      · exact hst1.cg (hP2 _ (by omega)) (hP2 _ (by omega)) (fun _ _ _ => rfl)
      · rw [hP2 _ (by omega), e2]; exact up_s
      · rw [ui_nj (by omega), ui_nj (by omega), ui_nj (by omega), hI1z]
      · rw [ui_nj (by omega), ui_nj (by omega), ui_nj (by omega), hI1z]
      · have haz : a < z := Nat.not_le.mp fun c => by have := hzz a c; omega
        have hax : a ≠ x := fun c => by rw [c, hto] at q; revert q; decide
        have hreg : a < x + 44 ∨ x + 75 ≤ a := by
          by_cases c : x + 44 ≤ a ∧ a < x + 75
          · have := gtag (hs.g (o := 44) (by decide)) c.1 (by omega)
            omega
          · omega
        exact ⟨by rw [hI2 a (by omega)]; exact hI1 a haz hax hreg, by rw [hP2 a (by omega)]; exact hP1 a haz (by omega), hT1 a haz⟩
    have hz1 : ∀ a, a < z → a ≠ x → (a < x + 44 ∨ x + 75 ≤ a) → ui (ui (ui I1 z 1 m) z 2 500) z 12 (-1) a = I a := fun a p q u => by rw [hI2 a (by omega)]; exact hI1 a p q u
    have hz2 : ui (ui (ui I1 z 1 m) z 2 500) z 12 (-1) x = us (us ω 1 0) 2 0 := by rw [hI2 x (by omega)]; exact hI1x
    have hz3 : ∀ a, a < z → ∀ j, ¬ (a = x + 44 ∧ j = 0) → up (up (up P1 z 8 (some (G.2.2.2.2 0))) z 0 (some (x + 1))) z 9 (some (x + 44)) a j = P a j := fun a p j q => by
      rw [hP2 a (by omega), e2]
      unfold up
      rw [if_neg q, urp_n (by omega)]
    have hz4 : ∀ a, a < z → (ur J z fun _ => 0) a = J a := fun a p => ur_n (by omega)
    generalize ui (ui (ui I1 z 1 m) z 2 500) z 12 (-1) = I2 at hI2 hw0 hz1 hz2
    generalize up (up (up P1 z 8 (some (G.2.2.2.2 0))) z 0 (some (x + 1))) z 9 (some (x + 44)) = P2 at hP2 hw0 hz3
    generalize (ur J z fun _ => 0) = J2 at hz4
    generalize hT2 : ut T z (35, 0) = T2 at hw0 hT1 hs2 hst1
    -- a fault is caught
    have hcat : ∀ E q (I' J' : HI) (P' : HP) (T' : HT) z', (E = "SevenTable$Fault" ∧ (FS (SE z (x + 44)) I2 J2 P2 T2 I' J' P' T' ∧ (∀ a, a < z → J' a = J2 a ∧ P' a = P2 a ∧ T' a = T2 a)) ∧ T' q = (34, 0) ∧ R.1 = 0 ∧ I' q 0 = R.2.1.1 15 ∧ I' q 1 = R.2.1.1 16) → PX G mX1_evening (rmD (d + 14) 1700 22200) (MZ G Q nX 1700 22200) (1 + 0 + 1680) (13 + 0 + 22140) I' J' P' T' z' 46 [some (.ref x), some (iv lv), some (iv m), none] [] E q := by
      intro E q I' J' P' T' z' ⟨hE, ⟨hf, hfa⟩, hTq, hg0, hk, hp⟩
      subst hE
      have fx := hf x ⟨by omega, by omega⟩
      have hTx : T' x = (21, 0) := by rw [fx.2.2.2, hT1 x (by omega)]; exact hto
      refine x_catch (nm := "SevenTable$Fault") rfl ⟨by decide, by decide⟩ (by decide) q599 q899 ?_
      show PW G mX1_evening (rmD (d + 14) 1700 22200) (MZ G Q nX 1700 22200) (1 + 0 + 1680) (13 + 0 + 22140) I' J' P' T' z' 133 [some (.ref x), some (iv lv), some (iv m), none] [.ref q]
      refine r_astore_n3 (pc := 133) (Nat.le_of_ble_eq_true rfl) dX1_evening_133 rfl ?_
      refine r_aload_n (pc := 134) dX1_evening_134 rfl rfl ?_
      refine r_aload_n (pc := 135) dX1_evening_135 rfl rfl ?_
      refine r_getiN (pc := 136) (c := 14) (k := 0) (kz := 0) hTq cok_14 (Nat.le_of_ble_eq_true rfl) q943 ⟨rfl, rfl⟩ (Or.inl rfl) rfl (fun _ _ _ => rfl) dX1_evening_136 (fun hr136 => ?_)
      rw [hk] at hr136 ⊢
      refine r_puti (pc := 139) (c := 1) (k := 2) (kz := 2) hTx cok_1 (Nat.le_of_ble_eq_true rfl) q512 ⟨rfl, rfl⟩ (Or.inl rfl) rfl (by omega) rfl rfl (by omega) (fun _ _ _ => rfl) ⟨rfl, rfl⟩ dX1_evening_139 ?_
      refine r_bipush (pc := 142) dX1_evening_142 (by decide +kernel) ?_
      refine r_aload_n (pc := 144) dX1_evening_144 rfl rfl ?_
      refine r_getiN (pc := 145) (c := 14) (k := 1) (kz := 1) hTq cok_14 (Nat.le_of_ble_eq_true rfl) q945 ⟨rfl, rfl⟩ (Or.inl rfl) rfl (fun _ _ _ => rfl) dX1_evening_145 (fun hr145 => ?_)
      have nq : q ≠ x := fun c => by rw [c, hTx] at hTq; exact absurd (congrArg Prod.fst hTq) (by decide)
      rw [ui_nv nq, hp] at hr145 ⊢
      refine r_isub (pc := 148) dX1_evening_148 ?_
      refine r_ireturn (pc := 149) rfl rfl dX1_evening_149 (by decide) (by decide) ?_
      refine hQ0 hg0 _ _ _ _ _ ⟨fun a p1 p2 p3 p4 => ?_, fun a p1 => ?_, fun a p1 j p2 => ?_, fun a p1 => ?_⟩ ?_ ?_
      · rw [ui_nr p2, (hf a ⟨p1, by omega⟩).1]; exact hz1 a p1 p2 p4
      · rw [(hfa a p1).1]; exact hz4 a p1
      · rw [(hfa a p1).2.1]; exact hz3 a p1 j p2
      · rw [(hfa a p1).2.2]; exact hT1 a p1
      · rw [ui_nr (by omega), (hf (x + 90) ⟨by omega, by omega⟩).1]; exact hz1 _ (by omega) (by omega) (by omega)
      · funext j
        by_cases c : j = 2
        · subst c; rw [ui_sv, us_s]
        · rw [ui_nj c, fx.1, hz2, us_n c, us_n c]
    show PW G mX1_evening (rmD (d + 14) 1700 22200) (MZ G Q nX 1700 22200) (1+0) (13+0) I2 J2 P2 T2 (z + 1) 46 [some (.ref x), some (iv lv), some (iv m), none] [.ref z]
    refine r_callV0 (pc := 46) (D_eread (d := d + 2) (rd := rd) (σ := σ) (X := fun E q I' J' P' T' z' => E = "SevenTable$Fault" ∧ (FS (SE z (x + 44)) I2 J2 P2 T2 I' J' P' T' ∧ (∀ a, a < z → J' a = J2 a ∧ P' a = P2 a ∧ T' a = T2 a)) ∧ T' q = (34, 0) ∧ R.1 = 0 ∧ I' q 0 = R.2.1.1 15 ∧ I' q 1 = R.2.1.1 16) (Q := fun v I' J' P' T' z' => R.1 = 1 ∧ ∃ n : Nat, R.2.1.1 52 = n ∧ n ≤ 30 ∧ er (some (.ref z)) (EQv G z (z + 1) z (x + 1) (x + 44) t en τ Ls I2 J2 P2 T2 R.2.1 (evs R.2.2 n (σ, μ, 0, 0, -1))) v I' J' P' T' z') hw0 hρ rfl rfl rfl h52 (fun q n I' J' P' T' z' a b c => by rw [← hR] at q a c; exact ⟨q, n, a, b, er_i c⟩) (fun q => by rw [← hR] at q ⊢; exact fun q2 I' J' P' T' z' b1 b2 b3 b4 b5 => ⟨rfl, ⟨b1, b2⟩, b3, q, b4, b5⟩)) im_X15_read q1537 q1535 hw0.2.2.1.1 rfl dX1_evening_46 (by decide) (by decide) rfl (fun v I' J' P' T' z' ⟨hg1, n, hn1, hn2, hv⟩ => k_er (fun I3 J3 P3 T3 z3 a3 => ?_) v I' J' P' T' z' hv) (fun _ _ _ _ _ _ _ hx => hcat _ _ _ _ _ _ _ hx)
    obtain ⟨e, he⟩ : ∃ e, e = evs R.2.2 n (σ, μ, 0, 0, -1) := ⟨_, rfl⟩
    rw [← he] at a3
    have hQ1 := hQ1 hg1 n e hn1 hn2 he
    have hll := evs_l (rd := R.2.2) (e := (σ, μ, 0, 0, -1)) n
    rw [← he] at hll
    have hl0 : (0 : Int) ≤ e.2.2.1 := hll.1
    obtain ⟨-, hf3, hfa3, hw3⟩ := a3
    have hw3e := hw3.ej
    obtain ⟨⟨hTr, -, -, -, -⟩, -, hs3, hr3, hwe, h10, h11, h12, -, -⟩ := hw3e
    have hT3 : ∀ a, a < z → T3 a = T a := fun a p => by rw [(hfa3 a p).2.2]; exact hT1 a p
    have hP3 : ∀ a, a < z → ∀ j, ¬ (a = x + 44 ∧ j = 0) → P3 a j = P a j := fun a p j q => by rw [(hfa3 a p).2.1]; exact hz3 a p j q
    have hJ3 : ∀ a, a < z → J3 a = J a := fun a p => by rw [(hfa3 a p).1]; exact hz4 a p
    have hI3 : ∀ a, a < z → a ≠ x → (a < x + 44 ∨ x + 75 ≤ a) → I3 a = I a := fun a p q u => by rw [(hf3 a ⟨p, u⟩).1]; exact hz1 a p q u
    have hI3x : I3 x = us (us ω 1 0) 2 0 := by rw [(hf3 x ⟨by omega, by omega⟩).1]; exact hz2
    have hX3 : shX G P3 T3 x := hs.cg (fun a p q => hT3 a (by omega)) (fun a j p q u => hP3 a (by omega) j (fun c => u (by rw [c.1, c.2]; unfold okP; omega)))
    have hTx3 : T3 x = (21, 0) := hX3.o
    have c13 : 0 ≤ I3 (x + 44) 13 ∧ I3 (x + 44) 13 ≤ 52 := by have := hr3.hp; omega
    have hbk : ∀ k : Int, 0 ≤ k → k < 13 → 0 ≤ e.1 (138 + k) := fun k p q => (hwe.cv.bk p q).1
    show PW G mX1_evening (rmD (d + 14) 1700 22200) (MZ G Q nX 1700 22200) (1+0+1680) (13+0+22140) I3 J3 P3 T3 z3 49 [some (.ref x), some (iv lv), some (iv m), none] [.ref z]
    refine r_astore_n3 (pc := 49) (Nat.le_of_ble_eq_true rfl) dX1_evening_49 rfl ?_
    refine r_aload_n (pc := 50) dX1_evening_50 rfl rfl ?_
    refine r_getr (pc := 51) (c := 1) (k := 22) (kz := 22) hTx3 cok_1 (Nat.le_of_ble_eq_true rfl) q532 ⟨rfl, rfl⟩ (Or.inl rfl) rfl (fun _ _ _ => rfl) hX3.p_heard dX1_evening_51 ?_
    refine r_iconst (pc := 54) dX1_evening_54 ?_
    refine r_aload_n (pc := 55) dX1_evening_55 rfl rfl ?_
    refine r_getiN (pc := 56) (c := 15) (k := 11) (kz := 11) hTr cok_15 (Nat.le_of_ble_eq_true rfl) q1514 ⟨rfl, rfl⟩ (Or.inl rfl) rfl (fun _ _ _ => rfl) dX1_evening_56 (fun hr56 => ?_)
    rw [h11] at hr56 ⊢
    refine r_iast (pc := 59) hX3.t_heard (by omega) (by omega) (by omega) (by omega) dX1_evening_59 ?_
    refine r_aload_n (pc := 60) dX1_evening_60 rfl rfl ?_
    refine r_getr (pc := 61) (c := 1) (k := 22) (kz := 22) hTx3 cok_1 (Nat.le_of_ble_eq_true rfl) q532 ⟨rfl, rfl⟩ (Or.inl rfl) rfl (fun _ _ _ => rfl) hX3.p_heard dX1_evening_61 ?_
    refine r_iconst (pc := 64) dX1_evening_64 ?_
    refine r_aload_n (pc := 65) dX1_evening_65 rfl rfl ?_
    refine r_getiN (pc := 66) (c := 15) (k := 10) (kz := 10) hTr cok_15 (Nat.le_of_ble_eq_true rfl) q1512 ⟨rfl, rfl⟩ (Or.inl rfl) rfl (fun _ _ _ => rfl) dX1_evening_66 (fun hr66 => ?_)
    rw [ui_nv (by omega), h10] at hr66 ⊢
    refine r_iast (pc := 69) hX3.t_heard (by omega) (by omega) (by omega) (by omega) dX1_evening_69 ?_
    refine r_aload_n (pc := 70) dX1_evening_70 rfl rfl ?_
    refine r_getr (pc := 71) (c := 1) (k := 22) (kz := 22) hTx3 cok_1 (Nat.le_of_ble_eq_true rfl) q532 ⟨rfl, rfl⟩ (Or.inl rfl) rfl (fun _ _ _ => rfl) hX3.p_heard dX1_evening_71 ?_
    refine r_iconst (pc := 74) dX1_evening_74 ?_
    refine r_aload_n (pc := 75) dX1_evening_75 rfl rfl ?_
    refine r_getr (pc := 76) (c := 1) (k := 5) (kz := 5) hTx3 cok_1 (Nat.le_of_ble_eq_true rfl) q515 ⟨rfl, rfl⟩ (Or.inl rfl) rfl (fun _ _ _ => rfl) hX3.p_trial dX1_evening_76 ?_
    have gr1 : ∀ (f : Int → Int), GR (ur I3 (x + 90) f) (x + 44) t e.1 e.2.1 := fun f => hr3.fr (fun b q => ur_n (by omega))
    have en1 : ui (ui I3 (x + 90) 0 e.2.2.2.1) (x + 90) 1 e.2.2.1 = ur I3 (x + 90) (us (us (I3 (x + 90)) 0 e.2.2.2.1) 1 e.2.2.1) := by rw [ui_usr (I := I3), ui_ur]
    rw [en1]
    refine r_callV0 (pc := 79) (C_allBooks (d := d + 13) hs3 (gr1 _) hbk fe_i) im_X3_books_2 q1235 q1233 hs3.o rfl dX1_evening_79 (by decide) (by decide) rfl (k_fi ?_) (fun _ _ _ _ _ _ _ hx => no_x hx)
    have hab := f_allBooks_r (σ := e.1)
    refine r_iast (pc := 82) hX3.t_heard (by omega) (by omega) (by omega) (by omega) dX1_evening_82 ?_
    rw [ui_ur]
    refine r_aload_n (pc := 83) dX1_evening_83 rfl rfl ?_
    refine r_getr (pc := 84) (c := 1) (k := 22) (kz := 22) hTx3 cok_1 (Nat.le_of_ble_eq_true rfl) q532 ⟨rfl, rfl⟩ (Or.inl rfl) rfl (fun _ _ _ => rfl) hX3.p_heard dX1_evening_84 ?_
    refine r_iconst (pc := 87) dX1_evening_87 ?_
    refine r_aload_n (pc := 88) dX1_evening_88 rfl rfl ?_
    refine r_getr (pc := 89) (c := 1) (k := 5) (kz := 5) hTx3 cok_1 (Nat.le_of_ble_eq_true rfl) q515 ⟨rfl, rfl⟩ (Or.inl rfl) rfl (fun _ _ _ => rfl) hX3.p_trial dX1_evening_89 ?_
    refine r_getiN (pc := 92) (c := 3) (k := 14) (kz := 14) hs3.o cok_3 (Nat.le_of_ble_eq_true rfl) q308 ⟨rfl, rfl⟩ (Or.inl rfl) rfl (fun _ _ _ => rfl) dX1_evening_92 (fun hr92 => ?_)
    rw [(gr1 _).turn] at hr92 ⊢
    refine r_iast (pc := 95) hX3.t_heard (by omega) (by omega) (by omega) (by omega) dX1_evening_95 ?_
    rw [ui_ur]
    have eh : us (us (us (us (I3 (x + 90)) 0 e.2.2.2.1) 1 e.2.2.1) 2 (f_allBooks e.1)) 3 (e.1 4) = hrd e (I (x + 90)) := by rw [hI3 (x + 90) (by omega) (by omega) (by omega)]; rfl
    rw [eh]
    have hI4 : ∀ a, a ≠ x + 90 → ur I3 (x + 90) (hrd e (I (x + 90))) a = I3 a := fun a q => ur_n q
    have hI490 : ur I3 (x + 90) (hrd e (I (x + 90))) (x + 90) = hrd e (I (x + 90)) := ur_s
    have hr4 := gr1 (hrd e (I (x + 90)))
    generalize ur I3 (x + 90) (hrd e (I (x + 90))) = I4 at hI4 hI490 hr4
    have h10' : I4 z 10 = e.2.2.1 := by rw [hI4 z (by omega)]; exact h10
    have h12' : I4 z 12 = e.2.2.2.2 := by rw [hI4 z (by omega)]; exact h12
    have done : ¬ (lv = 1 ∧ 0 < e.2.2.1) → PW G mX1_evening (rmD (d + 14) 1700 22200) (MZ G Q nX 1700 22200) (1+0+1680+0) (13+0+22140+0) I4 J3 P3 T3 z3 128 [some (.ref x), some (iv lv), some (iv m), some (.ref z)] [] := by
      intro q
      refine r_aload_n (pc := 128) dX1_evening_128 rfl rfl ?_
      refine r_getiN (pc := 129) (c := 15) (k := 12) (kz := 12) hTr cok_15 (Nat.le_of_ble_eq_true rfl) q1516 ⟨rfl, rfl⟩ (Or.inl rfl) rfl (fun _ _ _ => rfl) dX1_evening_129 (fun hr129 => ?_)
      rw [h12'] at hr129 ⊢
      refine r_ireturn (pc := 132) rfl rfl dX1_evening_132 (by decide) (by decide) ?_
      refine (hQ1 I4 J3 P3 T3 z3).1 q ⟨fun a p1 p2 p3 p4 => ?_, hJ3, hP3, hT3⟩ hI490 ?_ ?_
      · rw [hI4 a p3]; exact hI3 a p1 p2 p4
      · rw [hI4 x (by omega)]; exact hI3x
      · rw [hI4 (x + 44) (by omega)]; exact c13
    refine r_iload_n (pc := 96) dX1_evening_96 rfl rfl ?_
    refine r_iconst (pc := 97) dX1_evening_97 ?_
    refine r_icmp_ne (pc := 98) 128 dX1_evening_98 rfl (by omega) (by omega) (fun h98 => ?_) (fun h98 => ?_)
    · exact done (fun c => h98 c.1)
    refine r_aload_n (pc := 101) dX1_evening_101 rfl rfl ?_
    refine r_getiN (pc := 102) (c := 15) (k := 10) (kz := 10) hTr cok_15 (Nat.le_of_ble_eq_true rfl) q1512 ⟨rfl, rfl⟩ (Or.inl rfl) rfl (fun _ _ _ => rfl) dX1_evening_102 (fun hr102 => ?_)
    rw [h10'] at hr102 ⊢
    refine r_if_le (pc := 105) 128 dX1_evening_105 rfl (by omega) (fun h105 => ?_) (fun h105 => ?_)
    · exact done (fun c => by omega)
    have hx4 : XS G I4 P3 T3 x t σ μ := ⟨hX3, by rw [hP3 x (by omega) 3 (by omega)]; exact hx.p_table, ⟨hX3.g (o := 13) (by decide), hs3.2.1, by rw [hP3 (x + 13) (by omega) 0 (by omega)]; exact hx.g.2.2⟩, hx.r.fr (fun b q => by rw [hI4 b (by omega)]; exact hI3 b (by omega) (by omega) (by omega)), hx.w, hx.tx⟩
    have hB4 : XB I4 P3 x t N β υ := hB.fr (by have := hB.2.2.1; omega) (by rw [hI4 x (by omega), hI3x, us_n (by omega), us_n (by omega), hω]; exact hB.2.2.2.1) (fun b q => by rw [hI4 b (by omega)]; exact hI3 b (by omega) (by omega) (by omega)) (funext fun j => hP3 (x + 75) (by omega) j (by omega)) (fun b q => funext fun j => hP3 b (by omega) j (by omega))
    refine r_aload_n (pc := 108) dX1_evening_108 rfl rfl ?_
    refine r_callV0 (pc := 109) (C_snap (d := d + 10) (Q := ee J3 T3 z3 none (fun I' P' => ∃ β', SNF x N I4 I' P3 P' ∧ XS G I' P' T3 x t σ μ ∧ XB I' P' x t (kn N + 1) β' (kb υ N σ))) hx4 hB4 (fun I' P' β' a1 a2 a3 => ee_i ⟨β', a1, a2, a3⟩)) im_X1_snap qs26 q1262 hTx3 rfl dX1_evening_109 (by decide) (by decide) rfl (k_e fun I5 P5 h5 => ?_) (fun _ _ _ _ _ _ _ hx => no_x hx)
    obtain ⟨β', hsn, hx5, hB5⟩ := h5
    obtain ⟨s1, s2, s3, s4⟩ := hsn
    have hr5 : GR I5 (x + 44) t e.1 e.2.1 := hr4.fr (fun b q => s1 b (by omega) (by omega))
    have hs5 : shG G P5 T3 (x + 44) t := ⟨hx5.x.g (o := 44) (by decide), hx5.tb, by rw [s4 (x + 44) (by omega) (by omega)]; exact hs3.2.2⟩
    show PW G mX1_evening (rmD (d + 14) 1700 22200) (MZ G Q nX 1700 22200) (1+0+1680+0+0) (13+0+22140+0+0) I5 J3 P5 T3 z3 112 [some (.ref x), some (iv lv), some (iv m), some (.ref z)] []
    refine r_aload_n (pc := 112) dX1_evening_112 rfl rfl ?_
    refine r_getr (pc := 113) (c := 1) (k := 4) (kz := 4) hx5.o cok_1 (Nat.le_of_ble_eq_true rfl) q514 ⟨rfl, rfl⟩ (Or.inl rfl) rfl (fun _ _ _ => rfl) hx5.p_now dX1_evening_113 ?_
    refine r_aload_n (pc := 116) dX1_evening_116 rfl rfl ?_
    refine r_getr (pc := 117) (c := 1) (k := 5) (kz := 5) hx5.o cok_1 (Nat.le_of_ble_eq_true rfl) q515 ⟨rfl, rfl⟩ (Or.inl rfl) rfl (fun _ _ _ => rfl) hx5.p_trial dX1_evening_117 ?_
    refine r_callV1 (pc := 120) (C_as (d := d + 11) (g := x + 13) (Q := ee J3 T3 z3 (some (.ref (x + 13))) (fun I' P' => P' = P5 ∧ GF (x + 13) I5 I' ∧ GR I' (x + 13) t e.1 e.2.1)) hx5.g.1 hs5 (by omega) (by omega) hr5 (fun I' a b => by rw [up_id hx5.g.2.2]; exact ee_i ⟨rfl, a, b⟩)) im_X3_as q1268 q1266 hx5.g.o rfl dX1_evening_120 (by decide) (by decide) rfl (k_e fun I6 P6 h6 => ?_) (fun _ _ _ _ _ _ _ hx => no_x hx)
    obtain ⟨rfl, hf6, hr6⟩ := h6
    have hx6 : XS G I6 P6 T3 x t e.1 e.2.1 := ⟨hx5.x, hx5.p_table, hx5.g, hr6, hwe, hx5.tx⟩
    show PW G mX1_evening (rmD (d + 14) 1700 22200) (MZ G Q nX 1700 22200) (1+0+1680+0+0+0) (13+0+22140+0+0+0) I6 J3 P6 T3 z3 123 [some (.ref x), some (iv lv), some (iv m), some (.ref z)] [.ref (x + 13)]
    refine r_pop (pc := 123) dX1_evening_123 rfl ?_
    refine r_aload_n (pc := 124) dX1_evening_124 rfl rfl ?_
    refine r_callV0 (pc := 125) (C_tellAsked (d := d + 12) hx6 fe_i) im_X1_tellAsked qs30 q1290 hx6.o rfl dX1_evening_125 (by decide) (by decide) rfl (k_fv ?_) (fun _ _ _ _ _ _ _ hx => no_x hx)
    have e76 : I6 (x + 76) = I (x + 76) := by rw [hf6 _ (by omega), s1 _ (by omega) (by omega), hI4 _ (by omega)]; exact hI3 _ (by omega) (by omega) (by omega)
    have hI7 : ∀ b : Nat, b ≠ x + 76 → ur I6 (x + 76) (told e.2.1 (I6 (x + 76))) b = I6 b := fun b q => ur_n q
    have hI776 : ur I6 (x + 76) (told e.2.1 (I6 (x + 76))) (x + 76) = told e.2.1 (I (x + 76)) := by rw [ur_s, e76]
    generalize ur I6 (x + 76) (told e.2.1 (I6 (x + 76))) = I7 at hI7 hI776
    have hz312 : I7 z 12 = e.2.2.2.2 := by rw [hI7 z (by omega), hf6 z (by omega), s1 z (by omega) (by omega)]; exact h12'
    refine r_aload_n (pc := 128) dX1_evening_128 rfl rfl ?_
    refine r_getiN (pc := 129) (c := 15) (k := 12) (kz := 12) hTr cok_15 (Nat.le_of_ble_eq_true rfl) q1516 ⟨rfl, rfl⟩ (Or.inl rfl) rfl (fun _ _ _ => rfl) dX1_evening_129 (fun hr129 => ?_)
    rw [hz312] at hr129 ⊢
    refine r_ireturn (pc := 132) rfl rfl dX1_evening_132 (by decide) (by decide) ?_
    refine (hQ1 I7 J3 P6 T3 z3).2 ⟨by omega, by omega⟩ β' ⟨fun a p1 p2 => ?_, hJ3, fun a p1 p2 p3 j p4 => ?_, hT3⟩ ?_ ?_ ?_ (hx6.fr (fun b q => hI7 b (by omega))) (hB5.fr (by have := hB5.2.2.1; omega) ?_ (fun b q => ?_) rfl (fun _ _ => rfl)) hI776
    · rw [hI7 a (by omega), hf6 a (by omega), s1 a (by omega) (by omega), hI4 a (by omega)]; exact hI3 a p1 (by omega) (by omega)
    · rw [s4 a p2 p3]; exact hP3 a p1 j p4
    · rw [hI7 _ (by omega), hf6 _ (by omega), s1 _ (by omega) (by omega)]; exact hI490
    · rw [hI7 x (by omega), hf6 x (by omega), s2, hI4 x (by omega), hI3x]
    · rw [hI7 _ (by omega), hf6 _ (by omega), s1 _ (by omega) (by omega), hI4 _ (by omega)]; exact c13
    · rw [hI7 x (by omega), hf6 x (by omega)]; exact hB5.2.2.2.1
    · rw [hI7 b (by omega)]; exact hf6 b (by omega)
  refine r_sipush (pc := 9) dX1_evening_9 (by decide +kernel) ?_
  refine r_ireturn (pc := 12) rfl rfl dX1_evening_12 (by decide) (by decide) ?_
  exact hbad (bz_0.mp h6)
end P24
