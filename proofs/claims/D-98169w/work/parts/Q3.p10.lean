/-! ===== the component: a table is read, line by line ===== -/
section P10
variable {G : GE} {I J : HI} {P : HP} {T : HT} {z z0 r tp t e d : Nat} {Q : QT} {X : XT} {τ ρ : Int → Int} {Ls : List (List Int)} {s : TS}
theorem wk0 : WD (sbs "kinds") ∧ cod (sbs "kinds") = 461330343027 := ⟨wds_WD _ (by decide +kernel), by decide +kernel⟩
theorem wk1 : WD (sbs "person") ∧ cod (sbs "person") = 123581014175598 := ⟨wds_WD _ (by decide +kernel), by decide +kernel⟩
theorem wk2 : WD (sbs "hand") ∧ cod (sbs "hand") = 1751215716 := ⟨wds_WD _ (by decide +kernel), by decide +kernel⟩
theorem wk3 : WD (sbs "heap") ∧ cod (sbs "heap") = 1751474544 := ⟨wds_WD _ (by decide +kernel), by decide +kernel⟩
theorem wk4 : WD (sbs "again") ∧ cod (sbs "again") = 418346264942 := ⟨wds_WD _ (by decide +kernel), by decide +kernel⟩
theorem D_line (h : TWd G I P T z0 z r tp t e τ Ls s) (hρ : RES ρ) (hQ : ∀ I' J' P' T' z' s', (g_line τ ρ s = (1, s') ∨ (g_line τ ρ s = (0, g_bad 1 s') ∧ ¬ isG 59 s')) → TQ G z0 z r tp t τ I J P T s' I' J' P' T' z' → Q none I' J' P' T' z') (hX : (g_line τ ρ s).1 = 0 → XK X (fun a => a < z0) I J P T ((g_line τ ρ s).2.1 15) ((g_line τ ρ s).2.1 16)) : MC G yX13_line (ws_ yX13_line cX13_line 1 (none : Option FieldType)) (d + 11) 375 4512 [.ref r] I J P T z Q X := by
  have one : ∀ {x : Int × TS}, (x.1 = 0 ∨ x.1 = 1) → x.1 ≠ 0 → x = (1, x.2) := fun {x} a b => by
    rcases a with a | a
    · exact absurd a b
    · exact Prod.ext a rfl
  refine MC.of (by decide) (Nat.le_of_ble_eq_true rfl) ?_
  show PW G mX13_line (rmD (d + 11) 375 4512) (MZ G Q X 375 4512) 0 0 I J P T z 0 [some (.ref r)] []
  refine r_aload_n (pc := 0) dX13_line_0 rfl rfl ?_
  refine r_ldcS (pc := 1) 3 rfl rfl dX13_line_1 ?_
  refine r_callU1 (pc := 3) (C_isT h.rd h.ti.t (h.2.1.st (i := 3) rfl rfl) wk0.1 fe_i) im_X12_is rfl q871 q869 q868 h.o rfl dX13_line_3 (Nat.le_of_ble_eq_true rfl) (Nat.le_of_ble_eq_true rfl) rfl (k_fi ?_) (fun _ _ _ _ _ _ _ hx => no_x hx)
  rw [wk0.2]
  unfold g_line at hQ hX
  refine r_if_eq (pc := 6) 16 dX13_line_6 rfl bz_g (fun h6 => ?_) (fun h6 => ?_)
  · have c0 := bz_0.mp h6
    rw [if_neg c0] at hQ hX
    refine r_aload_n (pc := 16) dX13_line_16 rfl rfl ?_
    refine r_ldcS (pc := 17) 4 rfl rfl dX13_line_17 ?_
    refine r_callU1 (pc := 19) (C_isT h.rd h.ti.t (h.2.1.st (i := 4) rfl rfl) wk1.1 fe_i) im_X12_is rfl q871 q869 q868 h.o rfl dX13_line_19 (Nat.le_of_ble_eq_true rfl) (Nat.le_of_ble_eq_true rfl) rfl (k_fi ?_) (fun _ _ _ _ _ _ _ hx => no_x hx)
    rw [wk1.2]
    refine r_if_eq (pc := 22) 32 dX13_line_22 rfl bz_g (fun h22 => ?_) (fun h22 => ?_)
    · have c1 := bz_0.mp h22
      rw [if_neg c1] at hQ hX
      refine r_aload_n (pc := 32) dX13_line_32 rfl rfl ?_
      refine r_ldcS (pc := 33) 5 rfl rfl dX13_line_33 ?_
      refine r_callU1 (pc := 35) (C_isT h.rd h.ti.t (h.2.1.st (i := 5) rfl rfl) wk2.1 fe_i) im_X12_is rfl q871 q869 q868 h.o rfl dX13_line_35 (Nat.le_of_ble_eq_true rfl) (Nat.le_of_ble_eq_true rfl) rfl (k_fi ?_) (fun _ _ _ _ _ _ _ hx => no_x hx)
      rw [wk2.2]
      refine r_if_eq (pc := 38) 48 dX13_line_38 rfl bz_g (fun h38 => ?_) (fun h38 => ?_)
      · have c2 := bz_0.mp h38
        rw [if_neg c2] at hQ hX
        refine r_aload_n (pc := 48) dX13_line_48 rfl rfl ?_
        refine r_ldcS (pc := 49) 6 rfl rfl dX13_line_49 ?_
        refine r_callU1 (pc := 51) (C_isT h.rd h.ti.t (h.2.1.st (i := 6) rfl rfl) wk3.1 fe_i) im_X12_is rfl q871 q869 q868 h.o rfl dX13_line_51 (Nat.le_of_ble_eq_true rfl) (Nat.le_of_ble_eq_true rfl) rfl (k_fi ?_) (fun _ _ _ _ _ _ _ hx => no_x hx)
        rw [wk3.2]
        refine r_if_eq (pc := 54) 64 dX13_line_54 rfl bz_g (fun h54 => ?_) (fun h54 => ?_)
        · have c3 := bz_0.mp h54
          rw [if_neg c3] at hQ hX
          refine r_aload_n (pc := 64) dX13_line_64 rfl rfl ?_
          refine r_ldcS (pc := 65) 7 rfl rfl dX13_line_65 ?_
          refine r_callU1 (pc := 67) (C_isT h.rd h.ti.t (h.2.1.st (i := 7) rfl rfl) wk4.1 fe_i) im_X12_is rfl q871 q869 q868 h.o rfl dX13_line_67 (Nat.le_of_ble_eq_true rfl) (Nat.le_of_ble_eq_true rfl) rfl (k_fi ?_) (fun _ _ _ _ _ _ _ hx => no_x hx)
          rw [wk4.2]
          refine r_if_eq (pc := 70) 80 dX13_line_70 rfl bz_g (fun h70 => ?_) (fun h70 => ?_)
          · have c4 := bz_0.mp h70
            rw [if_neg c4] at hQ hX
            refine r_aload_n (pc := 80) dX13_line_80 rfl rfl ?_
            refine r_callV0 (pc := 81) (D_refill (X := X) (Q := fun v I' J' P' T' z' => (isW 125779835448428 s ∧ (g_refill τ s).1 ≠ 0) ∧ er none (TQ G z0 z r tp t τ I J P T (g_refill τ s).2) v I' J' P' T' z') h (fun q1 q2 I' J' P' T' z' a => ⟨⟨q1, q2⟩, er_i a⟩) (fun q => by rw [if_pos q] at hX; exact (hX rfl).bad) (fun q1 q2 => by rw [if_neg (fun c => c q1)] at hX; exact hX q2)) im_X13_refill qs23 q1182 h.o rfl dX13_line_81 (Nat.le_of_ble_eq_true rfl) (Nat.le_of_ble_eq_true rfl) rfl (fun v I' J' P' T' z' ⟨hc, hv⟩ => k_er (fun I1 J1 P1 T1 z1 a => ?_) v I' J' P' T' z' hv) (fun _ _ _ _ _ _ _ hx => x_out rfl (Nat.le_of_ble_eq_true rfl) (Nat.le_of_ble_eq_true rfl) hx)
            refine r_return (pc := 84) rfl dX13_line_84 (Nat.le_of_ble_eq_true rfl) (Nat.le_of_ble_eq_true rfl) ?_
            rw [if_neg (fun c => c hc.1)] at hQ
            exact hQ _ _ _ _ _ _ (Or.inl (one (g_refill_ok h.w).1 hc.2)) a
          have c4 := bz_ne.mp h70
          rw [if_pos c4] at hQ hX
          refine r_aload_n (pc := 73) dX13_line_73 rfl rfl ?_
          refine r_callV0 (pc := 74) (D_again (X := X) (Q := fun v I' J' P' T' z' => (g_again τ s).1 ≠ 0 ∧ er none (TQ G z0 z r tp t τ I J P T (g_again τ s).2) v I' J' P' T' z') h (by have := c4.1; omega) (fun q2 I' J' P' T' z' a => ⟨q2, er_i a⟩) hX) im_X13_again qs22 q1178 h.o rfl dX13_line_74 (Nat.le_of_ble_eq_true rfl) (Nat.le_of_ble_eq_true rfl) rfl (fun v I' J' P' T' z' ⟨hc, hv⟩ => k_er (fun I1 J1 P1 T1 z1 a => ?_) v I' J' P' T' z' hv) (fun _ _ _ _ _ _ _ hx => x_out rfl (Nat.le_of_ble_eq_true rfl) (Nat.le_of_ble_eq_true rfl) hx)
          refine r_goto (pc := 77) 84 dX13_line_77 rfl ?_
          refine r_return (pc := 84) rfl dX13_line_84 (Nat.le_of_ble_eq_true rfl) (Nat.le_of_ble_eq_true rfl) ?_
          exact hQ _ _ _ _ _ _ (Or.inl (one (g_again_ok h.w).1 hc)) a
        have c3 := bz_ne.mp h54
        rw [if_pos c3] at hQ hX
        refine r_aload_n (pc := 57) dX13_line_57 rfl rfl ?_
        refine r_callV0 (pc := 58) (D_heap (X := X) (Q := er none (fun I' J' P' T' z' => ∃ s', ((g_heap τ 950 (g_nx τ s) = (1, s') ∧ isG 59 s') ∨ (g_heap τ 950 (g_nx τ s) = (0, g_bad 1 s') ∧ ¬ isG 59 s')) ∧ TQ G z0 z r tp t τ I J P T s' I' J' P' T' z')) h (fun I' J' P' T' z' s' q a => er_i ⟨s', q, a⟩) hX) im_X13_heap qs21 q1173 h.o rfl dX13_line_58 (Nat.le_of_ble_eq_true rfl) (Nat.le_of_ble_eq_true rfl) rfl (k_er fun I1 J1 P1 T1 z1 ⟨s', q, a⟩ => ?_) (fun _ _ _ _ _ _ _ hx => x_out rfl (Nat.le_of_ble_eq_true rfl) (Nat.le_of_ble_eq_true rfl) hx)
        refine r_goto (pc := 61) 84 dX13_line_61 rfl ?_
        refine r_return (pc := 84) rfl dX13_line_84 (Nat.le_of_ble_eq_true rfl) (Nat.le_of_ble_eq_true rfl) ?_
        exact hQ _ _ _ _ _ s' (by rcases q with q | q; exact Or.inl q.1; exact Or.inr q) a
      have c2 := bz_ne.mp h38
      rw [if_pos c2] at hQ hX
      refine r_aload_n (pc := 41) dX13_line_41 rfl rfl ?_
      refine r_callV0 (pc := 42) (D_hand (X := X) (Q := fun v I' J' P' T' z' => (g_hand1 τ ρ (g_nx τ s)).1 ≠ 0 ∧ er none (TQ G z0 z r tp t τ I J P T (g_hand1 τ ρ (g_nx τ s)).2) v I' J' P' T' z') h hρ (fun q2 I' J' P' T' z' a => ⟨q2, er_i a⟩) hX) im_X13_hand qs20 q1156 h.o rfl dX13_line_42 (Nat.le_of_ble_eq_true rfl) (Nat.le_of_ble_eq_true rfl) rfl (fun v I' J' P' T' z' ⟨hc, hv⟩ => k_er (fun I1 J1 P1 T1 z1 a => ?_) v I' J' P' T' z' hv) (fun _ _ _ _ _ _ _ hx => x_out rfl (Nat.le_of_ble_eq_true rfl) (Nat.le_of_ble_eq_true rfl) hx)
      refine r_goto (pc := 45) 84 dX13_line_45 rfl ?_
      refine r_return (pc := 84) rfl dX13_line_84 (Nat.le_of_ble_eq_true rfl) (Nat.le_of_ble_eq_true rfl) ?_
      exact hQ _ _ _ _ _ _ (Or.inl (one (g_hand1_ok h.w.nx).1 hc)) a
    have c1 := bz_ne.mp h22
    rw [if_pos c1] at hQ hX
    refine r_aload_n (pc := 25) dX13_line_25 rfl rfl ?_
    refine r_callV0 (pc := 26) (D_person (X := X) (Q := fun v I' J' P' T' z' => (g_person τ ρ s).1 ≠ 0 ∧ er none (TQ G z0 z r tp t τ I J P T (g_person τ ρ s).2) v I' J' P' T' z') h (by have := c1.1; omega) hρ (fun q2 I' J' P' T' z' a => ⟨q2, er_i a⟩) hX) im_X13_person qs16 q981 h.o rfl dX13_line_26 (Nat.le_of_ble_eq_true rfl) (Nat.le_of_ble_eq_true rfl) rfl (fun v I' J' P' T' z' ⟨hc, hv⟩ => k_er (fun I1 J1 P1 T1 z1 a => ?_) v I' J' P' T' z' hv) (fun _ _ _ _ _ _ _ hx => x_out rfl (Nat.le_of_ble_eq_true rfl) (Nat.le_of_ble_eq_true rfl) hx)
    refine r_goto (pc := 29) 84 dX13_line_29 rfl ?_
    refine r_return (pc := 84) rfl dX13_line_84 (Nat.le_of_ble_eq_true rfl) (Nat.le_of_ble_eq_true rfl) ?_
    exact hQ _ _ _ _ _ _ (Or.inl (one (g_person_ok h.w).1 hc)) a
  have c0 := bz_ne.mp h6
  rw [if_pos c0] at hQ hX
  refine r_aload_n (pc := 9) dX13_line_9 rfl rfl ?_
  refine r_callV0 (pc := 10) (D_kinds (X := X) (Q := fun v I' J' P' T' z' => (g_kinds τ s).1 ≠ 0 ∧ er none (TQ G z0 z r tp t τ I J P T (g_kinds τ s).2) v I' J' P' T' z') h (by have := c0.1; omega) (fun q2 I' J' P' T' z' a => ⟨q2, er_i a⟩) hX) im_X13_kinds qs13 q882 h.o rfl dX13_line_10 (Nat.le_of_ble_eq_true rfl) (Nat.le_of_ble_eq_true rfl) rfl (fun v I' J' P' T' z' ⟨hc, hv⟩ => k_er (fun I1 J1 P1 T1 z1 a => ?_) v I' J' P' T' z' hv) (fun _ _ _ _ _ _ _ hx => x_out rfl (Nat.le_of_ble_eq_true rfl) (Nat.le_of_ble_eq_true rfl) hx)
  refine r_goto (pc := 13) 84 dX13_line_13 rfl ?_
  refine r_return (pc := 84) rfl dX13_line_84 (Nat.le_of_ble_eq_true rfl) (Nat.le_of_ble_eq_true rfl) ?_
  exact hQ _ _ _ _ _ _ (Or.inl (one (g_kinds_ok h.w).1 hc)) a
/-- a table's reader before its first token: its words aside -/
def TW0 (G : GE) (I : HI) (P : HP) (T : HT) (z0 z r tp t e : Nat) (τ : Int → Int) (Ls : List (List Int)) (s : TS) : Prop := (G.2.2.2.1 ≤ z0 ∧ z0 ≤ r ∧ z0 ≤ t ∧ tp < z0 ∧ r < z ∧ t + 11 ≤ z ∧ (T e = (9, 10) → z0 ≤ e)) ∧ CS G I P T ∧ RB I P T 13 r tp τ s ∧ TB G I P T t e Ls s ∧ P r 9 = some t ∧ ((s.1 20 = 0 ∨ s.1 20 = 1) ∧ (s.1 21 = 0 ∨ s.1 21 = 1) ∧ (s.1 22 = 0 ∨ s.1 22 = 1)) ∧ I r 10 = s.1 20 + 2 * s.1 21 + 4 * s.1 22 ∧ TSW (g_nx τ s) ∧ (0 ≤ s.1 4 ∧ s.1 4 ≤ s.1 3 ∧ s.1 3 ≤ 940 ∧ 0 ≤ s.1 5 ∧ s.1 5 ≤ 940)
theorem TW0.go {I' J' : HI} {P' : HP} {T' : HT} {z' : Nat} (h : TW0 G I P T z0 z r tp t e τ Ls s) (hz : z ≤ z') (hf : RF z r I J P T I' J' P' T') (hR : RD I' P' T' 13 r tp τ (g_nx τ s)) (hzz : ∀ a, z ≤ a → (T a).1 = 0) : TWd G I' P' T' z0 z' r tp t e τ Ls (g_nx τ s) := by
  obtain ⟨a1, a2, a3, a4, a5, a6, a7, a8, a9⟩ := h
  have hlt : ∀ a, (T a).1 ≠ 0 → a < z := fun a q => Nat.not_le.mp fun c => q (hzz a c)
  have hr33 : (T r).1 = 33 := by rw [a3.1]
  have f19 : ∀ j : Int, 15 ≤ j → (g_nx τ s).1 j = s.1 j := fun j q => t_next_f (by omega)
  have hh : ∀ a, (T a).1 ≠ 0 → (T a).1 ≠ 33 → I' a = I a ∧ P' a = P a ∧ T' a = T a := fun a p q => by
    have := hf.1 a (hlt a p) (fun c => q (by rw [c]; exact hr33))
    exact ⟨this.1, this.2.2, hf.2.1 a (hlt a p)⟩
  refine ⟨⟨a1.1, a1.2.1, a1.2.2.1, a1.2.2.2.1, by omega, by omega, fun q => ?_⟩, a2.fz (z := 0) (J := I) (J1 := I) (fun a q => ?_), hR, a4.cg hh rfl (f19 19 (by omega)), ?_, ?_, ?_, a8, ?_⟩
  · by_cases c : (T e).1 = 0
    · have := a4.2.2.2.1.2.2.2.2.2.1
      rcases this with ⟨-, -, y⟩ | ⟨-, y⟩ <;> rw [y] at c <;> exact absurd c (by decide)
    · rw [hf.2.1 e (hlt e c)] at q
      exact a1.2.2.2.2.2.2 q
  · have := hf.1 a (by omega) (by omega)
    exact ⟨this.1, this.2.2, hf.2.1 a (by omega)⟩
  · rw [hf.2.2.2.1 9 (by omega)]; exact a5
  · rw [f19 20 (by omega), f19 21 (by omega), f19 22 (by omega)]; exact a6
  · rw [f19 20 (by omega), f19 21 (by omega), f19 22 (by omega), hf.2.2.2.2 10 (by omega)]; exact a7
  · have : (g_nx τ s).1 5 = s.1 5 := t_next_f (by omega)
    rw [this]; exact a9.2.2.2.2
theorem D_read {m : Nat} (h : TW0 G I P T z0 z r tp t e τ Ls s) (hρ : RES ρ) (hm : s.1 3 = m) (h19 : s.1 19 = 0) (hQ : (g_tab τ ρ 950 (g_nx τ s)).1 = 1 → ∀ I' J' P' T' z', TQ G z0 z r tp t τ I J P T (g_tab τ ρ 950 (g_nx τ s)).2 I' J' P' T' z' → Q (some (.ref t)) I' J' P' T' z') (hX : (g_tab τ ρ 950 (g_nx τ s)).1 = 0 → XK X (fun a => a < z0) I J P T ((g_tab τ ρ 950 (g_nx τ s)).2.1 15) ((g_tab τ ρ 950 (g_nx τ s)).2.1 16)) : MC G yX13_read (ws_ yX13_read cX13_read 1 (some (FieldType.object "SevenTable$Table"))) (d + 12) (4+380*(m+1)) (60+4580*(m+1)) [.ref r] I J P T z Q X := by
  refine MC.of (by decide) (Nat.le_of_ble_eq_true rfl) ?_
  show PW G mX13_read (rmD (d + 12) (4+380*(m+1)) (60+4580*(m+1))) (MZ G Q X (4+380*(m+1)) (60+4580*(m+1))) 0 0 I J P T z 0 [some (.ref r)] []
  refine r_tz fun hzz => ?_
  have hb : G.2.2.2.1 ≤ r := by have := h.1; omega
  have htz : tp < z := by have := h.1; omega
  refine r_aload_n (pc := 0) dX13_read_0 rfl rfl ?_
  refine r_callU0 (pc := 1) (C_goT (Q := er none (TQ G z0 z r tp t τ I J P T (g_nx τ s))) h.2.2.1 h.2.2.2.2.2.2.2.2 hb h.1.2.2.2.2.1 htz (fun I' J' P' T' z' a b c => er_i ⟨a, RF.fs (S := fun a => a < z0) b (fun q u => by have := h.1; have u : q < z0 := u; omega), e, Ls, h.go a b c hzz⟩)) im_X12_go rfl q669 q667 q666 h.2.2.1.1 rfl dX13_read_1 (by show 0 + 4 ≤ _; omega) (by show 0 + 60 ≤ _; omega) rfl (k_er fun I1 J1 P1 T1 z1 a => ?_) (fun _ _ _ _ _ _ _ hx => no_x hx)
  have loop : ∀ (n j : Nat) (I1 J1 : HI) (P1 : HP) (T1 : HT) (z1 : Nat) (s1 : TS), g_tab τ ρ 950 (g_nx τ s) = g_tab τ ρ n s1 → s1.1 3 - s1.1 4 + 1 ≤ n → s1.1 3 = m → (j : Int) ≤ s1.1 4 → s1.1 19 = j → TQ G z0 z r tp t τ I J P T s1 I1 J1 P1 T1 z1 → PW G mX13_read (rmD (d + 12) (4+380*(m+1)) (60+4580*(m+1))) (MZ G Q X (4+380*(m+1)) (60+4580*(m+1))) (4+380*j) (60+4580*j) I1 J1 P1 T1 z1 4 [some (.ref r)] [] := by
    intro n
    induction n with
    | zero =>
      intro j I1 J1 P1 T1 z1 s1 he hn h3 hj hj19 a
      obtain ⟨hz1, hf1, e1, Ls1, hw1⟩ := a
      have := hw1.ti
      unfold TI at this
      omega
    | succ n ih =>
      intro j I1 J1 P1 T1 z1 s1 he hn h3 hj hj19 a
      have a0 := a
      obtain ⟨hz1, hf1, e1, Ls1, hw1⟩ := a
      have hcs := hw1.rd.2.cs hw1.ti.t
      have t1 := hw1.ti
      unfold TI at t1
      rw [he] at hX
      have hjm : j ≤ m := by omega
      refine r_aload_n (pc := 4) dX13_read_4 rfl rfl ?_
      refine r_geti (pc := 5) (c := 13) (k := 4) (kz := 4) hw1.o cok_13 (Nat.le_of_ble_eq_true rfl) q622 ⟨rfl, rfl⟩ (Or.inr q623) rfl (fun _ _ _ => rfl) dX13_read_5 (fun hr5 => ?_)
      refine r_if_eq (pc := 8) 35 dX13_read_8 rfl (by omega) (fun h8 => ?_) (fun h8 => ?_)
      · have h0 : s1.1 11 = 0 := by omega
        have eg : g_tab τ ρ (n + 1) s1 = (1, s1) := by unfold g_tab; rw [if_pos h0]
        rw [he, eg] at hQ
        refine r_aload_n (pc := 35) dX13_read_35 rfl rfl ?_
        refine r_getr (pc := 36) (c := 13) (k := 9) (kz := 9) hw1.o cok_13 (Nat.le_of_ble_eq_true rfl) q616 ⟨rfl, rfl⟩ (Or.inl rfl) rfl (fun _ _ _ => rfl) hw1.pt dX13_read_36 ?_
        refine r_areturn (pc := 39) rfl (Or.inl ⟨_, rfl⟩) dX13_read_39 (by show 4 + 380 * j ≤ _; omega) (by show 60 + 4580 * j ≤ _; omega) ?_
        exact hQ rfl _ _ _ _ _ a0
      have h0 : s1.1 11 ≠ 0 := by omega
      have eg : g_tab τ ρ (n + 1) s1 = (if (g_line τ ρ s1).1 = 0 then (0, (g_line τ ρ s1).2) else if ¬ isG 59 (g_line τ ρ s1).2 then (0, g_bad 1 (g_line τ ρ s1).2) else g_tab τ ρ n (g_w 19 ((g_nx τ (g_line τ ρ s1).2).1 19 + 1) (g_nx τ (g_line τ ρ s1).2))) := by
        conv => lhs; unfold g_tab
        rw [if_neg h0]
      rw [eg] at hX he
      have hok := g_line_ok (τ := τ) (ρ := ρ) hw1.w
      refine r_aload_n (pc := 11) dX13_read_11 rfl rfl ?_
      refine r_callV0 (pc := 12) (D_line (X := X) (Q := er none (fun I' J' P' T' z' => ∃ s', (g_line τ ρ s1 = (1, s') ∨ (g_line τ ρ s1 = (0, g_bad 1 s') ∧ ¬ isG 59 s')) ∧ TQ G z0 z1 r tp t τ I1 J1 P1 T1 s' I' J' P' T' z')) hw1 hρ (fun I' J' P' T' z' s' q a => er_i ⟨s', q, a⟩) (fun q => by rw [if_pos q] at hX; exact (hX rfl).fs hf1)) im_X13_line qs12 q863 hw1.o rfl dX13_read_12 (by show 4 + 380 * j + 375 ≤ _; omega) (by show 60 + 4580 * j + 4512 ≤ _; omega) rfl (k_er fun I2 J2 P2 T2 z2 ⟨s2, q, a⟩ => ?_) (fun _ _ _ _ _ _ _ hx => x_out rfl (by show 4 + 380 * j + 375 ≤ _; omega) (by show 60 + 4580 * j + 4512 ≤ _; omega) hx)
      obtain ⟨hz2, hf2, e2, Ls2, hw2⟩ := a
      have hf02 := hf1.tr hf2
      have hXe : ¬ isG 59 s2 → XK X (fun a => a < z0) I J P T 1 (s2.1 12) := fun hg => by
        rcases q with q | q
        · rw [q] at hX
          rw [if_neg (by simp), if_pos hg] at hX
          exact (hX rfl).bad
        · rw [q.1] at hX
          rw [if_pos rfl] at hX
          exact (hX rfl).bad
      show PW G mX13_read (rmD (d + 12) (4+380*(m+1)) (60+4580*(m+1))) (MZ G Q X (4+380*(m+1)) (60+4580*(m+1))) (4+380*j+375) (60+4580*j+4512) I2 J2 P2 T2 z2 15 [some (.ref r)] []
      refine r_aload_n (pc := 15) dX13_read_15 rfl rfl ?_
      refine r_callU0 (pc := 16) (D_end (X := X) (Q := fun v I' J' P' T' z' => isG 59 s2 ∧ er none (TQ G z0 z2 r tp t τ I2 J2 P2 T2 (g_nx τ s2)) v I' J' P' T' z') hw2 (fun hg I' J' P' T' z' a => ⟨hg, er_i a⟩) (fun hg => (hXe hg).fs hf02)) im_X12_end rfl q1190 q1188 q1187 hw2.o rfl dX13_read_16 (by show 4 + 380 * j + 375 + 5 ≤ _; omega) (by show 60 + 4580 * j + 4512 + 68 ≤ _; omega) rfl (fun v I' J' P' T' z' ⟨hg, hv⟩ => k_er (fun I3 J3 P3 T3 z3 a => ?_) v I' J' P' T' z' hv) (fun _ _ _ _ _ _ _ hx => x_out rfl (by show 4 + 380 * j + 375 + 5 ≤ _; omega) (by show 60 + 4580 * j + 4512 + 68 ≤ _; omega) hx)
      have q1 : g_line τ ρ s1 = (1, s2) := by
        rcases q with q | q
        · exact q
        · exact absurd hg q.2
      rw [q1] at he hok
      rw [if_neg (by simp), if_neg (fun c => c hg)] at he
      obtain ⟨hz3, hf3, e3, Ls3, hw3⟩ := a
      have hgo := (hok.2.1 rfl).2
      have hgo2 := GO.nx (τ := τ) hw2.w
      have e19 : I3 t 2 = (g_nx τ s2).1 19 := hw3.tb.2.2.1
      have k19 : s2.1 19 = j := by
        have := g_line_19 (τ := τ) (ρ := ρ) (s := s1)
        unfold K19 at this
        rw [q1] at this
        rw [this (by simp)]; exact hj19
      have k19 : (g_nx τ s2).1 19 = j := nx19.trans k19
      generalize g_nx τ s2 = s3 at hw3 he e19 hgo2 k19
      have hbt := hw3.bt
      show PW G mX13_read (rmD (d + 12) (4+380*(m+1)) (60+4580*(m+1))) (MZ G Q X (4+380*(m+1)) (60+4580*(m+1))) (4+380*j+375+5) (60+4580*j+4512+68) I3 J3 P3 T3 z3 19 [some (.ref r)] []
      refine r_aload_n (pc := 19) dX13_read_19 rfl rfl ?_
      refine r_getr (pc := 20) (c := 13) (k := 9) (kz := 9) hw3.o cok_13 (Nat.le_of_ble_eq_true rfl) q616 ⟨rfl, rfl⟩ (Or.inl rfl) rfl (fun _ _ _ => rfl) hw3.pt dX13_read_20 ?_
      refine r_dup (pc := 23) dX13_read_23 rfl ?_
      refine r_getiN (pc := 24) (c := 2) (k := 2) (kz := 2) hw3.sh.o cok_2 (Nat.le_of_ble_eq_true rfl) q211 ⟨rfl, rfl⟩ (Or.inl rfl) rfl (fun _ _ _ => rfl) dX13_read_24 (fun hr24 => ?_)
      rw [e19] at hr24 ⊢
      have h19 : rg (s3.1 19 + 1) := by omega
      refine r_iconst (pc := 27) dX13_read_27 ?_
      refine r_iadd (pc := 28) dX13_read_28 ?_
      refine r_putiN (pc := 29) (c := 2) (k := 2) (kz := 2) hw3.sh.o cok_2 (Nat.le_of_ble_eq_true rfl) q211 ⟨rfl, rfl⟩ (Or.inl rfl) rfl (by omega) rfl rfl h19 (fun _ _ _ => rfl) ⟨rfl, rfl⟩ dX13_read_29 ?_
      have hw4 := TWd.tab (J := J3) (I' := ui I3 t 2 (s3.1 19 + 1)) (s' := g_w 19 (s3.1 19 + 1) s3) hw3 (fun a q => ui_nr (by omega)) (hw3.tr.w2) ui_sv rfl rfl (fun j a b => g_w_n b) rfl (hw3.w.w (by omega) (fun q => by omega))
      refine r_widen (cu' := 4 + 380 * (j + 1)) (su' := 60 + 4580 * (j + 1)) (by show 4 + 380 * j + 375 + 5 ≤ _; omega) (by show 60 + 4580 * j + 4512 + 68 ≤ _; omega) ?_
      refine r_goto (pc := 32) 4 dX13_read_32 rfl ?_
      have g1 := hgo.2.1 (Or.inr (Or.inr hg.1))
      have g2 := hgo.2.2
      have g3 := hgo2.1
      have g4 := hgo2.2.2
      have w3 : (g_w 19 (s3.1 19 + 1) s3).1 3 = s3.1 3 := g_w_n (by omega)
      have w4 : (g_w 19 (s3.1 19 + 1) s3).1 4 = s3.1 4 := g_w_n (by omega)
      dsimp only at g1 g2
      refine ih (j + 1) _ _ _ _ _ (g_w 19 (s3.1 19 + 1) s3) he (by rw [w3, w4]; omega) (by rw [w3]; omega) (by rw [w4]; omega) (by rw [g_w_s]; omega) ⟨by omega, (hf02.tr hf3).tr hw4.2, e3, Ls3, hw4.1⟩
  obtain ⟨e1, Ls1, hw1⟩ := a.2.2
  have t1 := hw1.ti
  unfold TI at t1
  have e3 : (g_nx τ s).1 3 = s.1 3 := t_next_f (by omega)
  exact loop 950 0 I1 J1 P1 T1 z1 (g_nx τ s) rfl (by omega) (by omega) (by omega) (nx19.trans h19) a
end P10
