/-! ===== the component: a table ===== -/
section P11
variable {G : GE} {I J I' : HI} {P P' : HP} {T T' : HT} {z r tp t e x g d : Nat} {Q : QT} {X : XT} {τ ρ σ μ : Int → Int} {s : TS}
theorem shG0.ct (h : shG0 G P T g) (e : ∀ a, g ≤ a → a < g + 31 → T' a = T a) : shG0 G P T' g := by
  obtain ⟨a1, a2, a3, a4⟩ := h
  refine ⟨a1, by rw [e g (by omega) (by omega)]; exact a2, fun q hq => ⟨(a3 q hq).1, ?_⟩, fun p p0 p1 => ?_⟩
  · have := (a3 q hq).2
    unfold gArr at hq
    simp only [List.mem_cons, List.not_mem_nil, or_false] at hq
    rw [e _ (by omega) (by rcases hq with q9 | q9 | q9 | q9 | q9 | q9 | q9 | q9 | q9 | q9 | q9 | q9 <;> (rw [q9]; dsimp only; omega))]
    exact this
  · obtain ⟨⟨b1, b2⟩, ⟨b3, b4⟩, b5, b6⟩ := a4 p p0 p1
    exact ⟨⟨b1, by rw [e _ (by omega) (by omega)]; exact b2⟩, ⟨b3, by rw [e _ (by omega) (by omega)]; exact b4⟩, b5, by rw [e _ (by omega) (by omega)]; exact b6⟩
theorem shX.ct (h : shX G P T x) (e : ∀ a, x ≤ a → a < x + 404 → T' a = T a) : shX G P T' x := by
  obtain ⟨a1, a2, a3, a4, a5, a6, a7, a8⟩ := h
  refine ⟨a1, by rw [e x (by omega) (by omega)]; exact a2, fun q hq => ⟨(a3 q hq).1, ?_⟩, ⟨by rw [e _ (by omega) (by omega)]; exact a4.1, by rw [e _ (by omega) (by omega)]; exact a4.2⟩, ⟨a5.1, by rw [e _ (by omega) (by omega)]; exact a5.2⟩, fun i h0 h1 => ⟨(a6 i h0 h1).1, by rw [e _ (by omega) (by omega)]; exact (a6 i h0 h1).2⟩, fun k h0 h1 => ⟨(a7 k h0 h1).1, by rw [e _ (by omega) (by omega)]; exact (a7 k h0 h1).2.1, (a7 k h0 h1).2.2⟩, fun g hg => ?_⟩
  · have := (a3 q hq).2
    unfold xArr at hq
    simp only [List.mem_cons, List.not_mem_nil, or_false] at hq
    rw [e _ (by omega) (by rcases hq with q9 | q9 | q9 | q9 | q9 | q9 | q9 | q9 | q9 | q9 | q9 | q9 | q9 <;> (rw [q9]; dsimp only; omega))]
    exact this
  · have := a8 g hg
    unfold xGam at hg
    simp only [List.mem_cons, List.not_mem_nil, or_false] at hg
    exact this.ct (fun a p q => e a (by omega) (by omega))
theorem C_tabI (hT : T t = (22, 0)) (hb : G.2.2.2.1 ≤ t) (hz : z = t + 1) (hI : ∀ j, I t j = 0) (hc : G.2.2.2.2 100 < t ∧ T (G.2.2.2.2 100) = (9, 0)) (hQ : ∀ I' J' P' T', FZ t I J P T I' J' P' T' → shT G P' T' t → TR I' t (fun _ => 0) → I' t 2 = 0 → NL G I' P' T' (t + 1) (G.2.2.2.2 100) [] → Q none I' J' P' T' (t + 11)) : MC G yX2_init (ws_ yX2_init cX2_init 1 (none : Option FieldType)) (d + 4) 10 152 [.ref t] I J P T z Q nX := by
  subst hz
  have hT1 : ut T (t + 1) (52, 0) t = (22, 0) := by rw [ut_n (by omega)]; exact hT
  refine MC.of (by decide) (Nat.le_of_ble_eq_true rfl) ?_
  show PW G mX2_init (rmD (d + 4) 10 152) (MZ G Q nX 10 152) 0 0 I J P T (t + 1) 0 [some (.ref t)] []
  refine r_aload_n (pc := 0) dX2_init_0 rfl rfl ?_
  refine r_objI (pc := 1) q171 dX2_init_1 rfl ?_
  refine r_aload_n (pc := 4) dX2_init_4 rfl rfl ?_
  refine r_new (pc := 5) (c := 32) cok_32 rfl (by decide +kernel) q172 q173 q122 (Nat.le_of_ble_eq_true rfl) (Nat.le_of_ble_eq_true rfl) dX2_init_5 ?_
  refine r_dup (pc := 8) dX2_init_8 rfl ?_
  refine r_callI0 (pc := 9) (C_alI (T := ut T (t + 1) (52, 0)) ut_s (by omega) fe_i) im_J2_init rfl q174 dX2_init_9 (Nat.le_of_ble_eq_true rfl) (Nat.le_of_ble_eq_true rfl) rfl (k_fv ?_) (fun _ _ _ _ _ _ _ hx => no_x hx)
  refine r_putrF (pc := 12) (r := (some (t + 1))) (c := 2) (k := 5) (kz := 5) hT1 cok_2 (Nat.le_of_ble_eq_true rfl) q219 ⟨rfl, rfl⟩ (Or.inl rfl) rfl (by omega) rfl rfl rfl rfl rfl (fun _ _ _ => rfl) ⟨rfl, rfl⟩ dX2_init_12 ?_
  refine r_aload_n (pc := 15) dX2_init_15 rfl rfl ?_
  refine r_bipush (pc := 16) dX2_init_16 (by decide +kernel) ?_
  refine r_bipush (pc := 18) dX2_init_18 (by decide +kernel) ?_
  have hT2 : mT (ut T (t + 1) (52, 0)) (t + 1 + 1) 6 13 t = (22, 0) := by unfold mT; rw [if_neg (by omega), if_neg (by omega)]; exact hT1
  refine r_multi (pc := 20) q199 q200 q251 (by omega) (by omega) (Nat.le_of_ble_eq_true rfl) (Nat.le_of_ble_eq_true rfl) dX2_init_20 ?_
  refine r_putrF (pc := 24) (r := (some (t + 2))) (c := 2) (k := 6) (kz := 6) hT2 cok_2 (Nat.le_of_ble_eq_true rfl) q223 ⟨rfl, rfl⟩ (Or.inl rfl) rfl (by omega) rfl rfl rfl rfl rfl (fun _ _ _ => rfl) ⟨rfl, rfl⟩ dX2_init_24 ?_
  refine r_aload_n (pc := 27) dX2_init_27 rfl rfl ?_
  refine r_bipush (pc := 28) dX2_init_28 (by decide +kernel) ?_
  have hT3 : ut (mT (ut T (t + 1) (52, 0)) (t + 1 + 1) 6 13) (t + 1 + 1 + 1 + Int.toNat 6) (1, 52) t = (22, 0) := by rw [ut_n (by omega)]; exact hT2
  refine r_newa (pc := 30) (t := 1) (atype := .int) ⟨by decide, by decide⟩ rfl q251 (by omega) (by omega) (by decide) ⟨by decide, by decide⟩ (Nat.le_of_ble_eq_true rfl) (Nat.le_of_ble_eq_true rfl) dX2_init_30 ?_
  refine r_putrF (pc := 32) (r := (some (t + 9))) (c := 2) (k := 7) (kz := 7) hT3 cok_2 (Nat.le_of_ble_eq_true rfl) q226 ⟨rfl, rfl⟩ (Or.inl rfl) rfl (by omega) rfl rfl rfl rfl rfl (fun _ _ _ => rfl) ⟨rfl, rfl⟩ dX2_init_32 ?_
  refine r_aload_n (pc := 35) dX2_init_35 rfl rfl ?_
  refine r_bipush (pc := 36) dX2_init_36 (by decide +kernel) ?_
  have hT4 : ut (ut (mT (ut T (t + 1) (52, 0)) (t + 1 + 1) 6 13) (t + 1 + 1 + 1 + Int.toNat 6) (1, 52)) (t + 1 + 1 + 1 + Int.toNat 6 + 1) (1, 13) t = (22, 0) := by rw [ut_n (by omega)]; exact hT3
  refine r_newa (pc := 38) (t := 1) (atype := .int) ⟨by decide, by decide⟩ rfl q251 (by omega) (by omega) (by decide) ⟨by decide, by decide⟩ (Nat.le_of_ble_eq_true rfl) (Nat.le_of_ble_eq_true rfl) dX2_init_38 ?_
  refine r_putrF (pc := 40) (r := (some (t + 10))) (c := 2) (k := 8) (kz := 8) hT4 cok_2 (Nat.le_of_ble_eq_true rfl) q229 ⟨rfl, rfl⟩ (Or.inl rfl) rfl (by omega) rfl rfl rfl rfl rfl (fun _ _ _ => rfl) ⟨rfl, rfl⟩ dX2_init_40 ?_
  refine r_return (pc := 43) rfl dX2_init_43 (Nat.le_of_ble_eq_true rfl) (Nat.le_of_ble_eq_true rfl) ?_
  have e9 : t + 1 + 1 + 1 + Int.toNat 6 = t + 9 := rfl
  rw [e9]
  refine hQ _ _ _ _ (fun a ha => ⟨?_, ?_, ?_, ?_⟩) ⟨hb, hT4, ?_, ?_, ?_, ?_, ?_, ?_, ?_, ?_, fun p p0 p1 => ⟨?_, ?_⟩⟩ ⟨⟨?_, ?_, ?_, ?_⟩, ?_, fun p k p0 p1 k0 k1 => ?_, fun i i0 i1 => by have : i < (0 : Int) := i1; omega, fun k k0 k1 => ?_⟩ ?_ ⟨?_, ?_, ?_, by simp, ?_, Or.inl ⟨rfl, rfl, ?_⟩, fun i p q => by simp at q; omega⟩
  · rw [ur_n (by omega), ur_n (by omega)]; funext j; unfold mI; rw [if_neg (by omega), ui_nv (by omega), ur_nv (by omega)]
  · rw [ur_n (by omega), ur_n (by omega)]; funext j; unfold mI; rw [if_neg (by omega), ur_nv (by omega)]
  · rw [up_nr (by omega), urp_n (by omega), up_nr (by omega), urp_n (by omega), up_nr (by omega)]; funext j; unfold mP; rw [if_neg (by omega), if_neg (by omega), up_nr (by omega), up_nr (by omega), urp_n (by omega)]
  · rw [ut_n (by omega), ut_n (by omega)]; unfold mT; rw [if_neg (by omega), if_neg (by omega), ut_n (by omega)]
  all_goals try (simp [up, urp, mP, ut, mT, ur, ui, mI, hI, hc]; done)
  all_goals try (simp [up, urp, mP, ut, mT, ur, ui, mI, hI, hc, Nat.add_assoc]; done)
  · simp [up, urp, mP, Nat.add_assoc]
    exact ⟨p0, p1⟩
  · simp [ut, mT, Nat.add_assoc]
    intro _
    rw [if_neg (by omega), if_neg (by omega), if_pos (by omega)]
  · simp [ur, ui, mI, Nat.add_assoc]
    intros
    omega
  · simp only [ut, mT]
    rw [if_neg (by omega), if_neg (by omega), if_neg (by omega), if_neg (by omega), if_neg (by omega)]
    exact hc.2
theorem C_trI {n : Int} (hT : T r = (33, 0)) (hb : G.2.2.2.1 ≤ r) (hz : z = r + 1) (hn : 0 ≤ n ∧ n ≤ 940) (hI : ∀ j, I r j = 0) (htp : tp < r) (ht : T tp = (2, 940)) (hcs : CS G I P T) (h3 : s.1 3 = n) (h5 : s.1 5 = 900) (h4 : s.1 4 = 0) (h19 : s.1 19 = 0 ∧ s.1 20 = 0 ∧ s.1 21 = 0 ∧ s.1 22 = 0) (hh : ∀ j, 0 ≤ j → j < 584 → s.2.2.1 j = 0) (hw : TSW (g_nx (I tp) s)) (hQ : ∀ I' J' P' T', FZ r I J P T I' J' P' T' → TW0 G I' P' T' r (r + 12) r tp (r + 1) (G.2.2.2.2 100) (I tp) [] s → Q none I' J' P' T' (r + 12)) : MC G yX13_init (ws_ yX13_init cX13_init 3 (none : Option FieldType)) (d + 5) 11 161 [.ref r, .ref tp, iv n] I J P T z Q nX := by
  subst hz
  refine MC.of (by decide) (Nat.le_of_ble_eq_true rfl) ?_
  show PW G mX13_init (rmD (d + 5) 11 161) (MZ G Q nX 11 161) 0 0 I J P T (r + 1) 0 [some (.ref r), some (.ref tp), some (iv n)] []
  refine r_aload_n (pc := 0) dX13_init_0 rfl rfl ?_
  refine r_aload_n (pc := 1) dX13_init_1 rfl rfl ?_
  refine r_iload_n (pc := 2) dX13_init_2 rfl rfl ?_
  refine r_sipush (pc := 3) dX13_init_3 (by decide +kernel) ?_
  refine r_callI3 (pc := 6) (C_rdIT hT hb (by omega) (by omega) fe_i) im_X12_init rfl q609 dX13_init_6 (Nat.le_of_ble_eq_true rfl) (Nat.le_of_ble_eq_true rfl) rfl (k_fv ?_) (fun _ _ _ _ _ _ _ hx => no_x hx)
  refine r_aload_n (pc := 9) dX13_init_9 rfl rfl ?_
  refine r_new (pc := 10) (c := 2) cok_2 rfl (by decide +kernel) q614 q167 q119 (Nat.le_of_ble_eq_true rfl) (Nat.le_of_ble_eq_true rfl) dX13_init_10 ?_
  refine r_dup (pc := 13) dX13_init_13 rfl ?_
  have h100 := hcs.2.1
  refine r_callIN0 (pc := 14) (C_tabI (t := r + 1) (T := ut T (r + 1) (22, 0)) (I := ur (ui (ui I r 1 n) r 2 900) (r + 1) fun _ => 0) (Q := er none (fun I' J' P' T' z' => z' = r + 12 ∧ FZ (r + 1) (ur (ui (ui I r 1 n) r 2 900) (r + 1) fun _ => 0) (ur J (r + 1) fun _ => 0) (urp (up (up P r 8 (some (G.2.2.2.2 0))) r 0 (some tp)) (r + 1) fun _ => none) (ut T (r + 1) (22, 0)) I' J' P' T' ∧ shT G P' T' (r + 1) ∧ TR I' (r + 1) (fun _ => 0) ∧ I' (r + 1) 2 = 0 ∧ NL G I' P' T' (r + 1 + 1) (G.2.2.2.2 100) [])) ut_s (by omega) rfl (fun j => ur_sv) ⟨by omega, by rw [ut_n (by omega)]; exact hcs.2.2⟩ (fun I' J' P' T' a1 a2 a3 a4 a5 => er_i ⟨rfl, a1, a2, a3, a4, a5⟩)) im_X2_init rfl q615 dX13_init_14 (Nat.le_of_ble_eq_true rfl) (Nat.le_of_ble_eq_true rfl) rfl (k_er fun I1 J1 P1 T1 z1 ⟨hz1, hf1, b1, b2, b3, b4⟩ => ?_) (fun _ _ _ _ _ _ _ hx => no_x hx)
  subst hz1
  obtain ⟨f1, f2, f3, f4⟩ := hf1 r (by omega)
  rw [ur_n (by omega)] at f1
  rw [urp_n (by omega)] at f3
  rw [ut_n (by omega)] at f4
  have hT1 : T1 r = (13 + 20, 0) := by rw [f4]; exact hT
  show PW G mX13_init (rmD (d + 5) 11 161) (MZ G Q nX 11 161) (0+0+1+10) (0+0+9+152) I1 J1 P1 T1 (r + 12) 17 [some (.ref r), some (.ref tp), some (iv n)] [.ref (r + 1), .ref r]
  refine r_putrF (pc := 17) (r := (some (r + 1))) (c := 13) (k := 9) (kz := 9) hT1 cok_13 (Nat.le_of_ble_eq_true rfl) q616 ⟨rfl, rfl⟩ (Or.inl rfl) rfl (by omega) rfl rfl rfl rfl rfl (fun _ _ _ => rfl) ⟨rfl, rfl⟩ dX13_init_17 ?_
  refine r_return (pc := 20) rfl dX13_init_20 (Nat.le_of_ble_eq_true rfl) (Nat.le_of_ble_eq_true rfl) ?_
  have hz0 : FZ r I J P T I1 J1 (up P1 r 9 (some (r + 1))) T1 := fun a ha => by
    obtain ⟨g1, g2, g3, g4⟩ := hf1 a (by omega)
    exact ⟨by rw [g1, ur_n (by omega), ui_nr (by omega), ui_nr (by omega)], by rw [g2, ur_n (by omega)], by rw [up_nr (by omega), g3, urp_n (by omega), up_nr (by omega), up_nr (by omega)], by rw [g4, ut_n (by omega)]⟩
  have upn : ∀ a, a ≠ r → up P1 r 9 (some (r + 1)) a = P1 a := fun a q => up_nr q
  have ft := hz0 tp htp
  refine hQ _ _ _ _ hz0 ⟨⟨hb, Nat.le_refl _, by omega, htp, by omega, by omega, fun q => ?_⟩, hcs.fz (z := 0) (J := I) (J1 := I) (fun a q => ⟨(hz0 a (by omega)).1, (hz0 a (by omega)).2.2.1, (hz0 a (by omega)).2.2.2⟩), ⟨hT1, ?_, by rw [ft.2.2.2]; exact ht, ft.1, ?_, ?_, ?_, by omega⟩, ⟨b1.cg (upn _ (by omega)) (upn _ (by omega)) (fun _ _ _ => rfl), ?_, ?_, b4.cg (fun a q => ⟨rfl, upn a (fun c => by rw [c, hT1] at q; simp at q), rfl⟩), ?_, fun i p q => by simp at q; omega⟩, up_s, ⟨Or.inl h19.2.1, Or.inl h19.2.2.1, Or.inl h19.2.2.2⟩, ?_, hw, by omega⟩
  · rw [(hz0 _ (by omega)).2.2.2, hcs.2.2] at q
    exact absurd (congrArg Prod.snd q) (by decide)
  · have : up P1 r 9 (some (r + 1)) r 0 = P1 r 0 := by simp [up]
    rw [this, f3]; simp [up]
  · rw [f1, h3]; simp [ui]
  · rw [f1, h5]; simp [ui]
  · rw [f1, h4]; simp [ui, hI]
  · obtain ⟨⟨c0, c1, c2, c3⟩, c4, c5, c6, c7⟩ := b2
    refine ⟨⟨by rw [hh 0 (by omega) (by omega)]; exact c0, by rw [hh 1 (by omega) (by omega)]; exact c1, by rw [hh 2 (by omega) (by omega)]; exact c2, by rw [hh 3 (by omega) (by omega)]; exact c3⟩, by rw [hh 7 (by omega) (by omega)]; exact c4, fun p k p0 p1 k0 k1 => by rw [hh _ (by omega) (by omega)]; exact c5 p k p0 p1 k0 k1, fun i i0 i1 => ?_, fun k k0 k1 => by rw [hh _ (by omega) (by omega)]; exact c7 k k0 k1⟩
    rw [hh 7 (by omega) (by omega)] at i1
    omega
  · rw [h19.1]; exact b3
  · rw [hh 1 (by omega) (by omega)]; rfl
  · rw [f1, h19.2.1, h19.2.2.1, h19.2.2.2]; simp [ui, hI]
end P11
