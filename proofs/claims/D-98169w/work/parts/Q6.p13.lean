/-! ===== the component: the face's table ===== -/
section P13
variable {G : GE} {I J I' : HI} {P P' : HP} {T T' : HT} {z r tp t e x g d : Nat} {Q : QT} {τ ρ σ μ : Int → Int}
theorem shX.cg (h : shX G P T x) (eT : ∀ a, x ≤ a → a < x + 404 → T' a = T a) (eP : ∀ (a : Nat) (j : Int), x ≤ a → a < x + 404 → ¬ okP x a j → P' a j = P a j) : shX G P' T' x := by
  have h := h.ct eT
  obtain ⟨a1, a2, a3, a4, a5, a6, a7, a8⟩ := h
  refine ⟨a1, a2, fun q hq => ⟨?_, (a3 q hq).2⟩, a4, ⟨?_, a5.2⟩, fun i h0 h1 => ⟨?_, (a6 i h0 h1).2⟩, fun k h0 h1 => ⟨?_, (a7 k h0 h1).2.1, ?_⟩, fun g hg => ?_⟩
  · rw [← (a3 q hq).1]
    refine eP _ _ (by omega) (by omega) ?_
    unfold xArr at hq
    simp only [List.mem_cons, List.not_mem_nil, or_false] at hq
    unfold okP
    rcases hq with q9 | q9 | q9 | q9 | q9 | q9 | q9 | q9 | q9 | q9 | q9 | q9 | q9 <;> subst q9 <;> simp <;> omega
  · rw [eP _ _ (by omega) (by omega) (by unfold okP; omega)]; exact a5.1
  · rw [eP _ _ (by omega) (by omega) (by unfold okP; omega)]; exact (a6 i h0 h1).1
  · rw [eP _ _ (by omega) (by omega) (by unfold okP; omega)]; exact (a7 k h0 h1).1
  · rw [eP _ _ (by omega) (by omega) (by unfold okP; omega)]; exact (a7 k h0 h1).2.2
  · have ho := hg
    have h9 := a8 g hg
    unfold xGam at ho
    simp only [List.mem_cons, List.not_mem_nil, or_false] at ho
    rcases ho with q | q | q | q | q | q | q | q | q | q | q | q <;> subst q <;> exact h9.pf (fun j hj => eP _ j (by omega) (by omega) (by unfold okP; omega)) ⟨funext (fun j => eP _ j (by omega) (by omega) (by unfold okP; omega)), funext (fun j => eP _ j (by omega) (by omega) (by unfold okP; omega)), funext (fun j => eP _ j (by omega) (by omega) (by unfold okP; omega))⟩
theorem gtag (h : shG0 G P T g) {a : Nat} (h0 : g ≤ a) (h1 : a < g + 31) : (T a).1 = 23 ∨ (T a).1 = 5 ∨ (T a).1 = 1 := by
  have hc : a = g ∨ a = g + 1 ∨ a = g + 8 ∨ a = g + 15 ∨ (g + 22 ≤ a ∧ a < g + 31) ∨ ∃ p : Int, 0 ≤ p ∧ p < 6 ∧ (a = g + 2 + p.toNat ∨ a = g + 9 + p.toNat ∨ a = g + 16 + p.toNat) := by
    by_cases q : (g + 2 ≤ a ∧ a < g + 8) ∨ (g + 9 ≤ a ∧ a < g + 15) ∨ (g + 16 ≤ a ∧ a < g + 22)
    · refine Or.inr (Or.inr (Or.inr (Or.inr (Or.inr ?_))))
      rcases q with q | q | q
      · exact ⟨((a - (g + 2) : Nat) : Int), by omega, by omega, by omega⟩
      · exact ⟨((a - (g + 9) : Nat) : Int), by omega, by omega, by omega⟩
      · exact ⟨((a - (g + 16) : Nat) : Int), by omega, by omega, by omega⟩
    · omega
  rcases hc with rfl | rfl | rfl | rfl | c | ⟨p, p0, p1, c⟩
  · exact Or.inl (by rw [h.o])
  · exact Or.inr (Or.inl (by rw [h.t_hand]))
  · exact Or.inr (Or.inl (by rw [h.t_known]))
  · exact Or.inr (Or.inl (by rw [h.t_other]))
  · refine Or.inr (Or.inr ?_)
    have c2 : a = g + 22 ∨ a = g + 23 ∨ a = g + 24 ∨ a = g + 25 ∨ a = g + 26 ∨ a = g + 27 ∨ a = g + 28 ∨ a = g + 29 ∨ a = g + 30 := by omega
    rcases c2 with rfl | rfl | rfl | rfl | rfl | rfl | rfl | rfl | rfl
    · rw [h.t_others]
    · rw [h.t_caught]
    · rw [h.t_asks]
    · rw [h.t_given]
    · rw [h.t_drew]
    · rw [h.t_book]
    · rw [h.t_heap]
    · rw [h.t_cards]
    · rw [h.t_latest]
  · refine Or.inr (Or.inr ?_)
    rcases c with rfl | rfl | rfl
    · rw [h.u_hand p0 p1]
    · rw [h.u_known p0 p1]
    · rw [h.u_other p0 p1]
/-- a new table, its names by codes -/
def NM (G : GE) (I : HI) (P : HP) (T : HT) (t e : Nat) (Ls : List (List Int)) (ν : Int → Int) : Prop := NL G I P T (t + 1) e Ls ∧ ∀ i : Int, 0 ≤ i → i < Ls.length → WD (Ls.getD i.toNat []) ∧ cod (Ls.getD i.toNat []) = ν i
/-- what the face's table leaves, if it was told well -/
def TF (z x : Nat) (I J : HI) (P : HP) (T : HT) (I' J' : HI) (P' : HP) (T' : HT) : Prop := (∀ a, a < z → a ≠ x → (a < x + 13 ∨ x + 44 ≤ a) → I' a = I a) ∧ (∀ a, a < z → J' a = J a) ∧ (∀ a, a < z → ∀ j, ¬ (a = x ∧ (j = 3 ∨ j = 6)) → ¬ (a = x + 13 ∧ j = 0) → P' a j = P a j) ∧ ∀ a, a < z → T' a = T a
set_option maxRecDepth 100000 in
theorem C_table {m : Nat} {sm : TS} (hx : XS G I P T x t σ μ) (hcs : CS G I P T) (hρ : RES ρ) (hn : I x 1 = m) (hm : m ≤ 940) (h2 : sm.1 2 = m)
    (hQ1 : (g_table (I (x + 1)) ρ sm).1 = 1 → ∀ I' J' P' T' z' e Ls μ', z ≤ z' → TF z x I J P T I' J' P' T' → I' x = us (us (us (I x) 1 0) 2 0) 8 0 → P' x 6 = none → XS G I' P' T' x (z + 1) (f_begins (g_table (I (x + 1)) ρ sm).2.2.2.1) μ' → NM G I' P' T' (z + 1) e Ls (fun i => (g_table (I (x + 1)) ρ sm).2.2.2.2 (6 + i)) → (Ls.length : Int) = (g_table (I (x + 1)) ρ sm).2.2.2.1 1 → Q (some (iv ((g_table (I (x + 1)) ρ sm).2.1 19))) I' J' P' T' z')
    (hQ0 : (g_table (I (x + 1)) ρ sm).1 = 0 → ∀ I' J' P' T' z', (∀ a, a < z → a ≠ x → I' a = I a) → (∀ a, a < z → J' a = J a ∧ P' a = P a ∧ T' a = T a) → I' x = us (us (I x) 1 0) 2 ((g_table (I (x + 1)) ρ sm).2.1 15) → Q (some (iv (-1 - (g_table (I (x + 1)) ρ sm).2.1 16))) I' J' P' T' z') : MC G yX1_table (wsW_ yX1_table cX1_table 3 (some FieldType.int) [((10 : Nat), (58 : Nat), (59 : Nat), (133 : Nat))]) (d + 13) (16+380*(m+1)) (232+4580*(m+1)) [.ref x] I J P T z Q nX := by
  have hb := hx.b
  have hs := hx.x
  have hto : T x = (21, 0) := hs.o
  obtain ⟨τ, hτ⟩ : ∃ τ, τ = I (x + 1) := ⟨_, rfl⟩
  rw [← hτ] at hQ1 hQ0
  obtain ⟨ω, hω⟩ : ∃ ω, ω = I x := ⟨_, rfl⟩
  rw [← hω] at hn hQ1 hQ0
  have hg4 : (g_t0 sm).1 4 = 0 := by unfold g_t0; simp (disch := omega) only [us_n, us_s]
  have hg3 : (g_t0 sm).1 3 = m := by unfold g_t0; simp (disch := omega) only [us_n, us_s]; exact h2
  have hg5 : (g_t0 sm).1 5 = 900 := by unfold g_t0; simp (disch := omega) only [us_n, us_s]
  have hg19 : (g_t0 sm).1 19 = 0 ∧ (g_t0 sm).1 20 = 0 ∧ (g_t0 sm).1 21 = 0 ∧ (g_t0 sm).1 22 = 0 := by unfold g_t0; simp (disch := omega) only [us_n, us_s]; exact ⟨trivial, trivial, trivial, trivial⟩
  have hgh : ∀ j, 0 ≤ j → j < 584 → (g_t0 sm).2.2.1 j = 0 := fun j a b => by show cl sm.2.2.1 584 j = 0; unfold cl; rw [if_pos (by omega)]
  have hgw := g_t0_w (τ := τ) (s := sm) (by omega)
  refine MC.ofH (by decide) (Nat.le_of_ble_eq_true rfl) ?_
  refine pw_ur (a := x) ?_
  rw [← hω]
  show PW G mX1_table (rmD (d + 13) (16+380*(m+1)) (232+4580*(m+1))) (MZ G Q nX (16+380*(m+1)) (232+4580*(m+1))) 0 0 (ur I x ω) J P T z 0 [some (.ref x), none, none] []
  refine r_gz fun hgz => r_tz fun hzz => ?_
  have hlt : ∀ {a : Nat} {t : Nat} {k : Int}, T a = (t, k) → t ≠ 0 → a < z := fun {a t k} p q => Nat.not_le.mp fun c => q (by have := hzz a c; rw [p] at this; exact this)
  have hz404 : x + 404 ≤ z := by
    have := hlt (hs.g (o := 373) (by decide)).t_latest (by decide)
    omega
  refine r_aload_n (pc := 0) dX1_table_0 rfl rfl ?_
  refine r_callV0 (pc := 1) (C_take hs fe_i) im_X1_take qs11 q600 hto rfl dX1_table_1 (by show 0 + 0 ≤ _; omega) (by show 0 + 0 ≤ _; omega) rfl (k_fi ?_) (fun _ _ _ _ _ _ _ hx => no_x hx)
  rw [hn]
  refine r_istore_n1 (pc := 4) (Nat.le_of_ble_eq_true rfl) dX1_table_4 rfl ?_
  refine r_aload_n (pc := 5) dX1_table_5 rfl rfl ?_
  refine r_iconst (pc := 6) dX1_table_6 ?_
  refine r_puti (pc := 7) (c := 1) (k := 2) (kz := 2) hto cok_1 (Nat.le_of_ble_eq_true rfl) q512 ⟨rfl, rfl⟩ (Or.inl rfl) rfl (by omega) rfl rfl (by omega) (fun _ _ _ => rfl) ⟨rfl, rfl⟩ dX1_table_7 ?_
  try simp (disch := omega) only [ui_ur, ui_ur_n, ur_sv, ur_nv, ui_sv, ui_nv, ui_uis, us_s, us_n]
  -- a fault is caught
  have hcat : ∀ (cu su : Nat) (st : List Value) (pc : Nat), 10 ≤ pc → pc < 58 → cu ≤ 16 + 380 * (m + 1) → su ≤ 232 + 4580 * (m + 1) → ∀ E q (I' J' : HI) (P' : HP) (T' : HT) z', (E = "SevenTable$Fault" ∧ FS (fun a => a < z) (ur I x (us (us ω 1 0) 2 0)) J P T I' J' P' T' ∧ T' q = (34, 0) ∧ (g_table τ ρ sm).1 = 0 ∧ I' q 0 = (g_table τ ρ sm).2.1 15 ∧ I' q 1 = (g_table τ ρ sm).2.1 16) → PX G mX1_table (rmD (d + 13) (16+380*(m+1)) (232+4580*(m+1))) (MZ G Q nX (16+380*(m+1)) (232+4580*(m+1))) cu su I' J' P' T' z' pc [some (.ref x), some (iv m), none] st E q := by
    intro cu su st pc p1 p2 c1 c2 E q I' J' P' T' z' ⟨hE, hf, hTq, hg0, hk, hp⟩
    subst hE
    have fx := hf x (by show x < z; omega)
    have hTx : T' x = (21, 0) := by rw [fx.2.2.2]; exact hto
    refine x_catch (nm := "SevenTable$Fault") rfl ⟨p1, p2⟩ (by decide) q599 q899 ?_
    show PW G mX1_table (rmD (d + 13) (16+380*(m+1)) (232+4580*(m+1))) (MZ G Q nX (16+380*(m+1)) (232+4580*(m+1))) cu su I' J' P' T' z' 59 [some (.ref x), some (iv m), none] [.ref q]
    refine r_astore_n2 (pc := 59) (Nat.le_of_ble_eq_true rfl) dX1_table_59 rfl ?_
    refine r_aload_n (pc := 60) dX1_table_60 rfl rfl ?_
    refine r_aload_n (pc := 61) dX1_table_61 rfl rfl ?_
    refine r_getiN (pc := 62) (c := 14) (k := 0) (kz := 0) hTq cok_14 (Nat.le_of_ble_eq_true rfl) q943 ⟨rfl, rfl⟩ (Or.inl rfl) rfl (fun _ _ _ => rfl) dX1_table_62 (fun hr62 => ?_)
    rw [hk] at hr62 ⊢
    refine r_puti (pc := 65) (c := 1) (k := 2) (kz := 2) hTx cok_1 (Nat.le_of_ble_eq_true rfl) q512 ⟨rfl, rfl⟩ (Or.inl rfl) rfl (by omega) rfl rfl (by omega) (fun _ _ _ => rfl) ⟨rfl, rfl⟩ dX1_table_65 ?_
    refine r_iconst (pc := 68) dX1_table_68 ?_
    refine r_aload_n (pc := 69) dX1_table_69 rfl rfl ?_
    refine r_getiN (pc := 70) (c := 14) (k := 1) (kz := 1) hTq cok_14 (Nat.le_of_ble_eq_true rfl) q945 ⟨rfl, rfl⟩ (Or.inl rfl) rfl (fun _ _ _ => rfl) dX1_table_70 (fun hr70 => ?_)
    have nq : q ≠ x := fun c => by rw [c, hTx] at hTq; exact absurd (congrArg Prod.fst hTq) (by decide)
    rw [ui_nv nq, hp] at hr70 ⊢
    refine r_isub (pc := 73) dX1_table_73 ?_
    refine r_ireturn (pc := 74) rfl rfl dX1_table_74 c1 c2 ?_
    refine hQ0 hg0 _ _ _ _ _ (fun a qa qb => ?_) (fun a qa => ?_) ?_
    · rw [ui_nr qb, (hf a qa).1, ur_n qb]
    · exact ⟨(hf a qa).2.1, (hf a qa).2.2.1, (hf a qa).2.2.2⟩
    · funext j
      by_cases c : j = 2
      · subst c; rw [ui_sv, us_s]
      · rw [ui_nj c, fx.1, ur_sv, us_n c, us_n c]
  refine r_aload_n (pc := 10) dX1_table_10 rfl rfl ?_
  refine r_new (pc := 11) (c := 13) cok_13 rfl (by decide +kernel) q604 q605 q136 (by show 0 + 0 + 1 ≤ 16 + 380 * (m + 1); omega) (by show 0 + 0 + 11 ≤ 232 + 4580 * (m + 1); omega) dX1_table_11 ?_
  have hTx0 : ut T z (33, 0) x = (21, 0) := by rw [ut_n (by omega)]; exact hto
  have hTt : ut T z (33, 0) (x + 1) = (2, 940) := by rw [ut_n (by omega)]; exact hs.t_tape
  have hPt : urp P z (fun _ => none) x 0 = some (x + 1) := by rw [urp_n (by omega)]; exact hs.p_tape
  have hIt : ur (ur I x (us (us ω 1 0) 2 0)) z (fun _ => 0) (x + 1) = τ := by rw [ur_n (by omega), ur_n (by omega), hτ]
  have hcs1 : CS G (ur (ur I x (us (us ω 1 0) 2 0)) z fun _ => 0) (urp P z fun _ => none) (ut T z (33, 0)) := hcs.fz (z := 0) (J := I) (J1 := I) (fun a q => ⟨by rw [ur_n (by omega), ur_n (by omega)], urp_n (by omega), ut_n (by omega)⟩)
  refine r_dup (pc := 14) dX1_table_14 rfl ?_
  refine r_aload_n (pc := 15) dX1_table_15 rfl rfl ?_
  refine r_getr (pc := 16) (c := 1) (k := 0) (kz := 0) hTx0 cok_1 (Nat.le_of_ble_eq_true rfl) q510 ⟨rfl, rfl⟩ (Or.inl rfl) rfl (fun _ _ _ => rfl) hPt dX1_table_16 ?_
  refine r_iload_n (pc := 19) dX1_table_19 rfl rfl ?_
  refine r_callI2 (pc := 20) (C_trI (r := z) (tp := x + 1) (s := g_t0 sm) (I := ur (ur I x (us (us ω 1 0) 2 0)) z fun _ => 0) (T := ut T z (33, 0)) (Q := er none (fun I' J' P' T' z' => z' = z + 12 ∧ FZ z (ur (ur I x (us (us ω 1 0) 2 0)) z fun _ => 0) (ur J z fun _ => 0) (urp P z fun _ => none) (ut T z (33, 0)) I' J' P' T' ∧ TW0 G I' P' T' z (z + 12) z (x + 1) (z + 1) (G.2.2.2.2 100) τ [] (g_t0 sm))) ut_s hgz rfl (by omega) (fun j => ur_sv) (by omega) hTt hcs1 hg3 hg5 hg4 hg19 hgh (by rw [hIt]; exact hgw) (fun I' J' P' T' a1 a2 => er_i ⟨rfl, a1, by rw [hIt] at a2; exact a2⟩)) im_X13_init rfl q606 dX1_table_20 (by show 0 + 0 + 1 + 11 ≤ _; omega) (by show 0 + 0 + 11 + 161 ≤ _; omega) rfl (k_er fun I1 J1 P1 T1 z1 ⟨hz1, hf1, hw0⟩ => ?_) (fun _ _ _ _ _ _ _ hx => no_x hx)
  subst hz1
  have hfs1 : FS (fun a => a < z) (ur I x (us (us ω 1 0) 2 0)) J P T I1 J1 P1 T1 := fun a q => by
    obtain ⟨g1, g2, g3, g4⟩ := hf1 a q
    have q : a < z := q
    exact ⟨by rw [g1, ur_n (by omega)], by rw [g2, ur_n (by omega)], by rw [g3, urp_n (by omega)], by rw [g4, ut_n (by omega)]⟩
  show PW G mX1_table (rmD (d + 13) (16+380*(m+1)) (232+4580*(m+1))) (MZ G Q nX (16+380*(m+1)) (232+4580*(m+1))) (0+0+1+11) (0+0+11+161) I1 J1 P1 T1 (z + 12) 23 [some (.ref x), some (iv m), none] [.ref z, .ref x]
  refine r_callV0 (pc := 23) (D_read (X := fun E q I' J' P' T' z' => E = "SevenTable$Fault" ∧ FS (fun a => a < z) (ur I x (us (us ω 1 0) 2 0)) J P T I' J' P' T' ∧ T' q = (34, 0) ∧ (g_table τ ρ sm).1 = 0 ∧ I' q 0 = (g_table τ ρ sm).2.1 15 ∧ I' q 1 = (g_table τ ρ sm).2.1 16) (Q := fun v I' J' P' T' z' => (g_table τ ρ sm).1 = 1 ∧ er (some (.ref (z + 1))) (TQ G z (z + 12) z (x + 1) (z + 1) τ I1 J1 P1 T1 (g_table τ ρ sm).2) v I' J' P' T' z') hw0 hρ hg3 hg19.1 (fun q I' J' P' T' z' a => ⟨q, er_i a⟩) (fun q => fun q2 I' J' P' T' z' b1 b2 b3 b4 => ⟨rfl, hfs1.tr b1, b2, q, b3, b4⟩)) im_X13_read q664 q662 hw0.2.2.1.1 rfl dX1_table_23 (by show 0 + 0 + 1 + 11 + (4 + 380 * (m + 1)) ≤ 16 + 380 * (m + 1); omega) (by show 0 + 0 + 11 + 161 + (60 + 4580 * (m + 1)) ≤ 232 + 4580 * (m + 1); omega) rfl (fun v I' J' P' T' z' ⟨hg1, hv⟩ => k_er (fun I2 J2 P2 T2 z2 a => ?_) v I' J' P' T' z' hv) (fun _ _ _ _ _ _ _ hx => hcat (0 + 0 + 1 + 11 + (4 + 380 * (m + 1))) (0 + 0 + 11 + 161 + (60 + 4580 * (m + 1))) _ 23 (by omega) (by omega) (by omega) (by omega) _ _ _ _ _ _ _ hx)
  obtain ⟨hz2, hf2, e2, Ls2, hw2⟩ := a
  have hfs2 := hfs1.tr hf2
  have hQ1 := hQ1 hg1
  obtain ⟨s2, hs2⟩ : ∃ s2, s2 = (g_table τ ρ sm).2 := ⟨_, rfl⟩
  rw [← hs2] at hQ1 hw2
  have fx := hfs2 x (by show x < z; omega)
  have hTx2 : T2 x = (21, 0) := by rw [fx.2.2.2]; exact hto
  have hIx2 : I2 x = us (us ω 1 0) 2 0 := by rw [fx.1, ur_s]
  have hT2 : ∀ a, a < z → T2 a = T a := fun a q => (hfs2 a q).2.2.2
  have hPx2 : ∀ a, a < z → P2 a = P a := fun a q => (hfs2 a q).2.2.1
  have hIa2 : ∀ a, a < z → a ≠ x → I2 a = I a := fun a q u => by rw [(hfs2 a q).1, ur_n u]
  show PW G mX1_table (rmD (d + 13) (16+380*(m+1)) (232+4580*(m+1))) (MZ G Q nX (16+380*(m+1)) (232+4580*(m+1))) (0+0+1+11+(4+380*(m+1))) (0+0+11+161+(60+4580*(m+1))) I2 J2 P2 T2 z2 26 [some (.ref x), some (iv m), none] [.ref (z + 1), .ref x]
  have hs3 : shX G (up P2 x 3 (some (z + 1))) T2 x := hs.cg (fun a p q => hT2 a (by omega)) (fun a j p q u => by
    unfold up
    rw [if_neg (fun c => u (by rw [c.1, c.2]; unfold okP; omega)), hPx2 a (by omega)])
  have hg0 := hs3.g (o := 13) (by decide)
  have htb : shT G (up P2 x 3 (some (z + 1))) T2 (z + 1) := hw2.sh.cg (up_nr (by omega)) (up_nr (by omega)) (fun _ _ _ => rfl)
  have hp3 : up P2 x 3 (some (z + 1)) x 3 = some (z + 1) := up_s
  have hp4 : up P2 x 3 (some (z + 1)) x 4 = some (x + 13) := hs3.p_now
  have hhp := hx.r.hp
  refine r_putr (pc := 26) (r := (some (z + 1))) (c := 1) (k := 3) (kz := 3) hTx2 cok_1 (Nat.le_of_ble_eq_true rfl) q513 ⟨rfl, rfl⟩ (Or.inl rfl) rfl (by omega) rfl rfl rfl (fun _ _ _ => rfl) ⟨rfl, rfl⟩ dX1_table_26 ?_
  refine r_aload_n (pc := 29) dX1_table_29 rfl rfl ?_
  refine r_getr (pc := 30) (c := 1) (k := 4) (kz := 4) hTx2 cok_1 (Nat.le_of_ble_eq_true rfl) q514 ⟨rfl, rfl⟩ (Or.inl rfl) rfl (fun _ _ _ => rfl) hp4 dX1_table_30 ?_
  refine r_aload_n (pc := 33) dX1_table_33 rfl rfl ?_
  refine r_getr (pc := 34) (c := 1) (k := 3) (kz := 3) hTx2 cok_1 (Nat.le_of_ble_eq_true rfl) q513 ⟨rfl, rfl⟩ (Or.inl rfl) rfl (fun _ _ _ => rfl) hp3 dX1_table_34 ?_
  refine r_callV1 (pc := 37) (C_begin (η := s2.2.2.1) (Q := er (some (.ref (x + 13))) (fun I' J' P' T' z' => ∃ μ', J' = J2 ∧ P' = up (up P2 x 3 (some (z + 1))) (x + 13) 0 (some (z + 1)) ∧ T' = T2 ∧ z' = z2 ∧ GF (x + 13) I2 I' ∧ GR I' (x + 13) (z + 1) (f_begins s2.2.2.1) μ')) hg0 htb (by omega) hw2.tr hw2.w.2.1 (by rw [hIa2 (x + 13) (by omega) (by omega)]; omega) (fun I' μ' a b => er_i ⟨μ', rfl, rfl, rfl, rfl, a, b⟩)) im_X3_begin q358 q356 hg0.o rfl dX1_table_37 (by show 0 + 0 + 1 + 11 + (4 + 380 * (m + 1)) + 0 ≤ 16 + 380 * (m + 1); omega) (by show 0 + 0 + 11 + 161 + (60 + 4580 * (m + 1)) + 0 ≤ 232 + 4580 * (m + 1); omega) rfl (k_er fun I3 J3 P3 T3 z3 ⟨μ', q1, q2, q3, q4, hf3, hr3⟩ => ?_) (fun _ _ _ _ _ _ _ hx => no_x hx)
  subst q1 q3 q4
  have hIx3 : I3 x = us (us ω 1 0) 2 0 := by rw [hf3 x (by omega)]; exact hIx2
  have hp33 : up P3 x 6 none x 3 = some (z + 1) := by rw [q2]; simp [up]
  have hlin : I3 (z + 1) 2 = s2.1 19 := by rw [hf3 (z + 1) (by omega)]; exact hw2.tb.2.2.1
  show PW G mX1_table (rmD (d + 13) (16+380*(m+1)) (232+4580*(m+1))) (MZ G Q nX (16+380*(m+1)) (232+4580*(m+1))) (0+0+1+11+(4+380*(m+1))+0) (0+0+11+161+(60+4580*(m+1))+0) I3 J3 P3 T3 z3 40 [some (.ref x), some (iv m), none] [.ref (x + 13)]
  refine r_pop (pc := 40) dX1_table_40 rfl ?_
  refine r_aload_n (pc := 41) dX1_table_41 rfl rfl ?_
  refine r_null (pc := 42) dX1_table_42 ?_
  refine r_putr (pc := 43) (r := none) (c := 1) (k := 6) (kz := 6) hTx2 cok_1 (Nat.le_of_ble_eq_true rfl) q516 ⟨rfl, rfl⟩ (Or.inl rfl) rfl (by omega) rfl rfl rfl (fun _ _ _ => rfl) ⟨rfl, rfl⟩ dX1_table_43 ?_
  refine r_aload_n (pc := 46) dX1_table_46 rfl rfl ?_
  refine r_iconst (pc := 47) dX1_table_47 ?_
  refine r_puti (pc := 48) (c := 1) (k := 8) (kz := 8) hTx2 cok_1 (Nat.le_of_ble_eq_true rfl) q518 ⟨rfl, rfl⟩ (Or.inl rfl) rfl (by omega) rfl rfl (by omega) (fun _ _ _ => rfl) ⟨rfl, rfl⟩ dX1_table_48 ?_
  refine r_aload_n (pc := 51) dX1_table_51 rfl rfl ?_
  refine r_getr (pc := 52) (c := 1) (k := 3) (kz := 3) hTx2 cok_1 (Nat.le_of_ble_eq_true rfl) q513 ⟨rfl, rfl⟩ (Or.inl rfl) rfl (fun _ _ _ => rfl) hp33 dX1_table_52 ?_
  refine r_getiN (pc := 55) (c := 2) (k := 2) (kz := 2) htb.o cok_2 (Nat.le_of_ble_eq_true rfl) q212 ⟨rfl, rfl⟩ (Or.inl rfl) rfl (fun _ _ _ => rfl) dX1_table_55 (fun hr55 => ?_)
  rw [ui_nv (by omega), hlin] at hr55 ⊢
  refine r_ireturn (pc := 58) rfl rfl dX1_table_58 (by show 0 + 0 + 1 + 11 + (4 + 380 * (m + 1)) + 0 ≤ 16 + 380 * (m + 1); omega) (by show 0 + 0 + 11 + 161 + (60 + 4580 * (m + 1)) + 0 ≤ 232 + 4580 * (m + 1); omega) ?_
  have hP4 : ∀ a, a ≠ x → a ≠ x + 13 → up P3 x 6 none a = P2 a := fun a u v => by rw [up_nr u, q2, up_nr v, up_nr u]
  have hI4 : ∀ a, a ≠ x → (a < x + 13 ∨ x + 44 ≤ a) → ui I3 x 8 0 a = I2 a := fun a u v => by rw [ui_nr u]; exact hf3 a (by omega)
  refine hQ1 _ _ _ _ _ e2 Ls2 μ' (by omega) ⟨fun a q u v => ?_, fun a q => (hfs2 a q).2.1, fun a q j u v => ?_, hT2⟩ ?_ up_s ⟨?_, hp33, ⟨?_, ?_, ?_⟩, ?_, ?_, by omega⟩ ⟨?_, ?_⟩ hw2.ln
  · rw [hI4 a u v]; exact hIa2 a q u
  · have : up P3 x 6 none a j = P2 a j := by
      rw [q2]
      unfold up
      rw [if_neg (by omega), if_neg (by omega), if_neg (by omega)]
    rw [this, hPx2 a q]
  · funext j
    by_cases c : j = 8
    · subst c; rw [ui_sv, us_s]
    · rw [ui_nj c, hIx3, us_n c]
  · exact hs.cg (fun a p q => hT2 a (by omega)) (fun a j p q u => by
      have hn : ¬ (a = x ∧ (j = 3 ∨ j = 6)) ∧ ¬ (a = x + 13 ∧ j = 0) := by unfold okP at u; omega
      rw [q2]
      unfold up
      rw [if_neg (by omega), if_neg (by omega), if_neg (by omega), hPx2 a (by omega)])
  · exact (hs3.g (o := 13) (by decide)).pf (fun j hj => by rw [q2]; simp [up, hj]) ⟨by rw [hP4 _ (by omega) (by omega), up_nr (by omega)], by rw [hP4 _ (by omega) (by omega), up_nr (by omega)], by rw [hP4 _ (by omega) (by omega), up_nr (by omega)]⟩
  · exact hw2.sh.cg (hP4 _ (by omega) (by omega)) (hP4 _ (by omega) (by omega)) (fun _ _ _ => rfl)
  · rw [q2]; simp [up]
  · exact hr3.fr (fun b q => ui_nr (by omega))
  · exact (WF.begins hw2.w.2.1).1
  · refine hw2.nl.cg (fun a q => ?_)
    have hax : a ≠ x := fun c => by rw [c, hTx2] at q; simp at q
    have hreg : a < x + 13 ∨ x + 44 ≤ a := by
      by_cases c : x + 13 ≤ a ∧ a < x + 44
      · have := gtag (hs3.g (o := 13) (by decide)) c.1 (by omega)
        omega
      · omega
    exact ⟨hI4 a hax hreg, hP4 a hax (by omega), rfl⟩
  · intro i p q
    exact hw2.nm i p q
end P13
