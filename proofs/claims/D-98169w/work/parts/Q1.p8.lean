/-! ===== the component: a table is read ===== -/
section P8
variable {G : GE} {I J : HI} {P : HP} {T : HT} {z z0 r tp t e d : Nat} {Q : QT} {X : XT} {τ ρ : Int → Int} {Ls : List (List Int)} {s : TS}
/-- what a part of reading leaves -/
def TQ (G : GE) (z0 z r tp t : Nat) (τ : Int → Int) (I J : HI) (P : HP) (T : HT) (s' : TS) (I' J' : HI) (P' : HP) (T' : HT) (z' : Nat) : Prop := z ≤ z' ∧ FS (fun a => a < z0) I J P T I' J' P' T' ∧ ∃ e' Ls', TWd G I' P' T' z0 z' r tp t e' τ Ls' s'
theorem TQ.rf (h : TWd G I P T z0 z r tp t e τ Ls s) : TQ G z0 z r tp t τ I J P T s I J P T z := ⟨Nat.le_refl _, FS.rf, e, Ls, h⟩
theorem TQ.go {I' J' : HI} {P' : HP} {T' : HT} {z' : Nat} (h : TWd G I P T z0 z r tp t e τ Ls s) (hz : z ≤ z') (hf : RF z r I J P T I' J' P' T') (hR : RD I' P' T' 13 r tp τ (g_nx τ s)) (hzz : ∀ a, z ≤ a → (T a).1 = 0) : TQ G z0 z r tp t τ I J P T (g_nx τ s) I' J' P' T' z' := ⟨hz, hf.fs h.S, e, Ls, h.go hz hf hR hzz⟩
theorem TQ.tr {I1 J1 I2 J2 : HI} {P1 P2 : HP} {T1 T2 : HT} {z1 z2 : Nat} {s1 s2 : TS} (h : TQ G z0 z r tp t τ I J P T s1 I1 J1 P1 T1 z1) (k : TQ G z0 z1 r tp t τ I1 J1 P1 T1 s2 I2 J2 P2 T2 z2) : TQ G z0 z r tp t τ I J P T s2 I2 J2 P2 T2 z2 := ⟨Nat.le_trans h.1 k.1, h.2.1.tr k.2.1, k.2.2⟩
theorem MC.tz {y : MethodName} {ws : List Cond} {mc ms : Nat} {as : List Value} (k : (∀ a, z ≤ a → (T a).1 = 0) → MC G y ws d mc ms as I J P T z Q X) : MC G y ws d mc ms as I J P T z Q X := by
  by_cases hz : ∀ a, z ≤ a → (T a).1 = 0
  · exact k hz
  · intro p e h1 h2 h3 s m args below h4 h5 h6
    exact absurd h6.2.1.2.1 hz
theorem TWd.b (h : TWd G I P T z0 z r tp t e τ Ls s) : G.2.2.2.1 ≤ r := by have := h.1; omega
theorem TWd.rz (h : TWd G I P T z0 z r tp t e τ Ls s) : r < z := h.1.2.2.2.2.1
theorem TWd.tz (h : TWd G I P T z0 z r tp t e τ Ls s) : tp < z := by have := h.1; omega
theorem TWd.g5 (h : TWd G I P T z0 z r tp t e τ Ls s) : s.1 5 ≤ 940 := h.2.2.2.2.2.2.2.2
theorem TWd.rd (h : TWd G I P T z0 z r tp t e τ Ls s) : RD I P T 13 r tp τ s := h.2.2.1
theorem TWd.o (h : TWd G I P T z0 z r tp t e τ Ls s) : T r = (13 + 20, 0) := h.2.2.1.1.1
theorem TWd.pt (h : TWd G I P T z0 z r tp t e τ Ls s) : P r 9 = some t := h.2.2.2.2.1
theorem TWd.tb (h : TWd G I P T z0 z r tp t e τ Ls s) : TB G I P T t e Ls s := h.2.2.2.1
theorem TWd.sh (h : TWd G I P T z0 z r tp t e τ Ls s) : shT G P T t := h.2.2.2.1.1
theorem TWd.tr (h : TWd G I P T z0 z r tp t e τ Ls s) : TR I t s.2.2.1 := h.2.2.2.1.2.1
theorem TWd.w (h : TWd G I P T z0 z r tp t e τ Ls s) : TSW s := h.2.2.2.2.2.2.2.1
theorem TWd.bt (h : TWd G I P T z0 z r tp t e τ Ls s) : G.2.2.2.1 ≤ t := by have := h.1; omega
theorem XK.bad {s : TS} {k : Int} (h : XK X (fun a => a < z0) I J P T ((g_bad k s).1 15) ((g_bad k s).1 16)) : XK X (fun a => a < z0) I J P T k (s.1 12) := by rw [(bad15 (s := s)).1, (bad15 (s := s) (k := k)).2] at h; exact h
theorem D_go (h : TWd G I P T z0 z r tp t e τ Ls s) (hQ : ∀ I' J' P' T' z', TQ G z0 z r tp t τ I J P T (g_nx τ s) I' J' P' T' z' → Q none I' J' P' T' z') : MC G yX12_go (ws_ yX12_go cX12_go 5 (none : Option FieldType)) (d + 7) 4 60 [.ref r] I J P T z Q nX := MC.tz fun hzz => C_goT h.rd.1 (h.ti.g h.g5) h.b h.rz h.tz (fun I' J' P' T' z' a b c => hQ I' J' P' T' z' (TQ.go h a b c hzz))
theorem D_end (h : TWd G I P T z0 z r tp t e τ Ls s) (hQ : isG 59 s → ∀ I' J' P' T' z', TQ G z0 z r tp t τ I J P T (g_nx τ s) I' J' P' T' z' → Q none I' J' P' T' z') (hX : ¬ isG 59 s → XK X (fun a => a < z0) I J P T 1 (s.1 12)) : MC G yX12_end (ws_ yX12_end cX12_end 1 (none : Option FieldType)) (d + 8) 5 68 [.ref r] I J P T z Q X := MC.tz fun hzz => C_endRT (S := fun a => a < z0) h.rd h.ti h.g5 h.b h.rz h.tz h.S (fun q I' J' P' T' z' a b c => hQ q I' J' P' T' z' (TQ.go h a b c hzz)) hX
theorem one1 {s : TS} : (if s.1 11 = 4 then (1 : Int) else 1) = 1 := by split <;> rfl
theorem D_once {k : Int} (h : TWd G I P T z0 z r tp t e τ Ls s) (hk : k = 0 ∨ k = 1 ∨ k = 2) (htok : s.1 11 ≠ 4) (hh0 : k = 0 → s.2.2.1 0 = 0 ∨ s.1 20 = 1) (hQ : s.1 (20 + k) = 0 → ∀ I' J' P' T' z', TQ G z0 z r tp t τ I J P T (g_nx τ (g_w (20 + k) 1 s)) I' J' P' T' z' → Q none I' J' P' T' z') (hX : s.1 (20 + k) ≠ 0 → XK X (fun a => a < z0) I J P T 3 (s.1 12)) : MC G yX13_once (ws_ yX13_once cX13_once 2 (none : Option FieldType)) (d + 8) 5 68 [.ref r, iv k] I J P T z Q X := by
  have hti := h.ti
  obtain ⟨f0, f1, f2⟩ := h.2.2.2.2.2.1
  have h10 := h.2.2.2.2.2.2.1
  have hb : G.2.2.2.1 ≤ r := by have := h.1; omega
  have hrz : r < z := h.1.2.2.2.2.1
  have ht9 : tp < z := by have := h.1; omega
  have hfl : (if k = 0 then s.1 20 else if k = 1 then s.1 21 else s.1 22) = s.1 (20 + k) := by rcases hk with rfl | rfl | rfl <;> rfl
  refine MC.of (by decide) (Nat.le_of_ble_eq_true rfl) ?_
  show PW G mX13_once (rmD (d + 8) 5 68) (MZ G Q X 5 68) 0 0 I J P T z 0 [some (.ref r), some (iv k)] []
  refine r_tz fun hzz => ?_
  refine r_aload_n (pc := 0) dX13_once_0 rfl rfl ?_
  refine r_aload_n (pc := 1) dX13_once_1 rfl rfl ?_
  refine r_geti (pc := 2) (c := 13) (k := 10) (kz := 10) h.2.2.1.1.1 cok_13 (Nat.le_of_ble_eq_true rfl) q617 ⟨rfl, rfl⟩ (Or.inl rfl) rfl (fun _ _ _ => rfl) dX13_once_2 (fun hr2 => ?_)
  rw [h10] at hr2 ⊢
  refine r_iload_n (pc := 5) dX13_once_5 rfl rfl ?_
  refine r_callSN2 (pc := 6) (C_isOf hr2 (by omega) fe_i) im_X1_isOf q890 dX13_once_6 (Nat.le_of_ble_eq_true rfl) (Nat.le_of_ble_eq_true rfl) rfl (k_fi ?_) (fun _ _ _ _ _ _ _ hx => no_x hx)
  have ho := onc_t f0 f1 f2 hk
  rw [hfl] at ho
  refine r_if_ne (pc := 9) 16 dX13_once_9 rfl bz_g (fun h9 => ?_) (fun h9 => ?_)
  · refine r_iconst (pc := 16) dX13_once_16 ?_
    refine r_iconst (pc := 17) dX13_once_17 ?_
    refine r_callU2 (pc := 18) (C_needT (S := fun a => a < z0) (X := X) (Q := fg ((0 : Int) = 1) I J P T z none) h.2.2.1 hti.t hti.p (by omega) (by omega) hrz h.S fg_i (fun _ => by rw [if_neg htok]; exact hX (by have := ho.mp (bz_ne.mp h9); omega))) im_X12_need rfl q894 q892 q891 h.2.2.1.1.1 rfl dX13_once_18 (Nat.le_of_ble_eq_true rfl) (Nat.le_of_ble_eq_true rfl) rfl (k_gnv fun h => by omega) (fun _ _ _ _ _ _ _ hx => x_out rfl (Nat.le_of_ble_eq_true rfl) (Nat.le_of_ble_eq_true rfl) hx)
  have hz20 : s.1 (20 + k) = 0 := by
    have := bz_0.mp h9
    rw [ho] at this
    rcases hk with rfl | rfl | rfl
    · have : s.1 (20 + 0) = s.1 20 := rfl; omega
    · have : s.1 (20 + 1) = s.1 21 := rfl; omega
    · have : s.1 (20 + 2) = s.1 22 := rfl; omega
  refine r_iconst (pc := 12) dX13_once_12 ?_
  refine r_goto (pc := 13) 17 dX13_once_13 rfl ?_
  refine r_iconst (pc := 17) dX13_once_17 ?_
  refine r_callU2 (pc := 18) (C_needT (S := fun a => a < z0) (X := X) (Q := fe I J P T z none) h.2.2.1 hti.t hti.p (by omega) (by omega) hrz h.S (fun _ => fe_i) (fun c => by omega)) im_X12_need rfl q894 q892 q891 h.2.2.1.1.1 rfl dX13_once_18 (Nat.le_of_ble_eq_true rfl) (Nat.le_of_ble_eq_true rfl) rfl (k_fv ?_) (fun _ _ _ _ _ _ _ hx => x_out rfl (Nat.le_of_ble_eq_true rfl) (Nat.le_of_ble_eq_true rfl) hx)
  refine r_aload_n (pc := 21) dX13_once_21 rfl rfl ?_
  refine r_dup (pc := 22) dX13_once_22 rfl ?_
  refine r_geti (pc := 23) (c := 13) (k := 10) (kz := 10) h.2.2.1.1.1 cok_13 (Nat.le_of_ble_eq_true rfl) q617 ⟨rfl, rfl⟩ (Or.inl rfl) rfl (fun _ _ _ => rfl) dX13_once_23 (fun hr23 => ?_)
  rw [h10] at hr23 ⊢
  refine r_iconst (pc := 26) dX13_once_26 ?_
  refine r_iload_n (pc := 27) dX13_once_27 rfl rfl ?_
  refine r_ishl (pc := 28) dX13_once_28 (by omega) ?_
  have hp2 : 0 ≤ 1 * ((2 ^ k.toNat : Nat) : Int) ∧ 1 * ((2 ^ k.toNat : Nat) : Int) < 2147483648 := by rcases hk with rfl | rfl | rfl <;> decide
  refine r_ior (pc := 29) dX13_once_29 (by omega) hp2 ?_
  rw [onc_o f0 f1 f2 hk]
  have hx7 : rg ((if k = 0 then 1 else s.1 20) + 2 * (if k = 1 then 1 else s.1 21) + 4 * (if k = 2 then 1 else s.1 22)) := by rcases hk with rfl | rfl | rfl <;> simp <;> omega
  refine r_puti (pc := 30) (c := 13) (k := 10) (kz := 10) h.2.2.1.1.1 cok_13 (Nat.le_of_ble_eq_true rfl) q617 ⟨rfl, rfl⟩ (Or.inl rfl) rfl (by omega) rfl rfl hx7 (fun _ _ _ => rfl) ⟨rfl, rfl⟩ dX13_once_30 ?_
  have hw : TWd G (ui I r 10 ((if k = 0 then 1 else s.1 20) + 2 * (if k = 1 then 1 else s.1 21) + 4 * (if k = 2 then 1 else s.1 22))) P T z0 z r tp t e τ Ls (g_w (20 + k) 1 s) := by
    obtain ⟨a1, a2, a3, a4, a5, a6, a7, a8, a9⟩ := h
    have hne : ∀ a, (T a).1 ≠ 33 → a ≠ r := fun a q c => q (by rw [c, a3.1.1])
    have gj : ∀ j : Int, j < 15 → (g_w (20 + k) 1 s).1 j = s.1 j := fun j q => us_n (by omega)
    have g0 : (g_w (20 + k) 1 s).1 20 = (if k = 0 then 1 else s.1 20) := by rcases hk with rfl | rfl | rfl <;> simp [g_w, us]
    have g1 : (g_w (20 + k) 1 s).1 21 = (if k = 1 then 1 else s.1 21) := by rcases hk with rfl | rfl | rfl <;> simp [g_w, us]
    have g2 : (g_w (20 + k) 1 s).1 22 = (if k = 2 then 1 else s.1 22) := by rcases hk with rfl | rfl | rfl <;> simp [g_w, us]
    refine ⟨a1, a2.fz (z := 0) (J := I) (J1 := I) (fun a q => ⟨ui_nr (by omega), rfl, rfl⟩), ⟨?_, ?_⟩, a4.cg (fun a p q => ⟨ui_nr (hne a q), rfl, rfl⟩) rfl (us_n (by omega)), a5, ?_, ?_, a8.w (by omega) (fun _ q => by omega), ?_⟩
    · obtain ⟨b1, b2, b3, b4, b5, b6, b7, b8⟩ := a3.1
      exact ⟨b1, b2, b3, by rw [ui_nr b8]; exact b4, by rw [ui_nj (by omega), gj 3 (by omega)]; exact b5, by rw [ui_nj (by omega), gj 5 (by omega)]; exact b6, by rw [ui_nj (by omega), gj 4 (by omega)]; exact b7, b8⟩
    · obtain ⟨b1, b2, b3, b4, b5, b6⟩ := a3.2
      unfold TK
      rw [gj 12 (by omega), gj 11 (by omega), gj 14 (by omega), ui_nj (by omega), ui_nj (by omega), ui_nj (by omega), ui_nj (by omega)]
      refine ⟨b1, b2, fun q => ?_, b4, b5, b6⟩
      obtain ⟨c1, w, L, c2, c3, c4, c5⟩ := b3 q
      exact ⟨c1, w, L, c2, c3.cg (fun a ha => ⟨ui_nr (hne a (by omega)), rfl, rfl⟩), c4, c5⟩
    · rw [g0, g1, g2]
      rcases hk with rfl | rfl | rfl <;> simp <;> omega
    · rw [g0, g1, g2, ui_sv]
    · rw [gj 5 (by omega)]; exact a9
  have hfs : FS (fun a => a < z0) I J P T (ui I r 10 ((if k = 0 then 1 else s.1 20) + 2 * (if k = 1 then 1 else s.1 21) + 4 * (if k = 2 then 1 else s.1 22))) J P T := fun a q => ⟨ui_nr (by have := h.1; dsimp only at q; omega), rfl, rfl, rfl⟩
  generalize (ui I r 10 ((if k = 0 then 1 else s.1 20) + 2 * (if k = 1 then 1 else s.1 21) + 4 * (if k = 2 then 1 else s.1 22))) = I1 at hw hfs ⊢
  refine r_aload_n (pc := 33) dX13_once_33 rfl rfl ?_
  refine r_callU0 (pc := 34) (C_goT (Q := er none (TQ G z0 z r tp t τ I1 J P T (g_nx τ (g_w (20 + k) 1 s)))) hw.2.2.1.1 (hw.ti.g hw.2.2.2.2.2.2.2.2) hb hrz ht9 (fun I' J' P' T' z' a b c => er_i (TQ.go hw a b c hzz))) im_X12_go rfl q669 q667 q666 hw.2.2.1.1.1 rfl dX13_once_34 (Nat.le_of_ble_eq_true rfl) (Nat.le_of_ble_eq_true rfl) rfl (k_er fun I2 J2 P2 T2 z2 a => ?_) (fun _ _ _ _ _ _ _ hx => no_x hx)
  show PW G mX13_once (rmD (d + 8) 5 68) (MZ G Q X 5 68) (0+0+1+4) (0+0+8+60) I2 J2 P2 T2 z2 37 [some (.ref r), some (iv k)] []
  refine r_return (pc := 37) rfl dX13_once_37 (Nat.le_of_ble_eq_true rfl) (Nat.le_of_ble_eq_true rfl) ?_
  exact hQ hz20 _ _ _ _ _ ⟨a.1, hfs.tr a.2.1, a.2.2⟩
/-- a number of the table's own is written -/
theorem TWd.tab {I' : HI} {s' : TS} (h : TWd G I P T z0 z r tp t e τ Ls s) (hh : ∀ a, (a < t ∨ t + 11 ≤ a ∨ a = t + 1) → I' a = I a) (hr : TR I' t s'.2.2.1) (h2 : I' t 2 = s'.1 19) (e1 : s'.2.2.1 1 = s.2.2.1 1) (e2 : s'.2.2.2 = s.2.2.2) (e3 : ∀ j, j ≠ 18 → j ≠ 19 → s'.1 j = s.1 j) (e4 : s'.2.1 = s.2.1) (hw : TSW s') : TWd G I' P T z0 z r tp t e τ Ls s' ∧ FS (fun a => a < z0) I J P T I' J P T := by
  obtain ⟨a1, a2, a3, a4, a5, a6, a7, a8, a9⟩ := h
  have hrt : r < t ∨ t + 11 ≤ r := by
    by_cases c : t ≤ r ∧ r < t + 11
    · have := (a4.1.tg c.1 c.2).2.1
      rw [a3.1.1] at this
      exact absurd rfl this
    · omega
  have tg2 : ∀ a, (T a).1 = 57 ∨ (T a).1 = 2 → I' a = I a := fun a q => hh a (by
    by_cases c : t ≤ a ∧ a < t + 11
    · have := a4.1.tg c.1 c.2; omega
    · omega)
  have hIr := hh r (by omega)
  refine ⟨⟨a1, a2.fz (z := 0) (J := I) (J1 := I) (fun a q => ⟨hh a (by omega), rfl, rfl⟩), ⟨?_, ?_⟩, a4.tab hh hr h2 e1 e2, a5, ?_, ?_, hw, ?_⟩, fun a q => ⟨hh a (by dsimp only at q; omega), rfl, rfl, rfl⟩⟩
  · obtain ⟨b1, b2, b3, b4, b5, b6, b7, b8⟩ := a3.1
    refine ⟨b1, b2, b3, ?_, by rw [hIr, e3 3 (by omega) (by omega)]; exact b5, by rw [hIr, e3 5 (by omega) (by omega)]; exact b6, by rw [hIr, e3 4 (by omega) (by omega)]; exact b7, b8⟩
    rw [tg2 tp (Or.inr (by rw [b3]))]; exact b4
  · obtain ⟨b1, b2, b3, b4, b5, b6⟩ := a3.2
    unfold TK
    rw [e3 12 (by omega) (by omega), e3 11 (by omega) (by omega), e3 14 (by omega) (by omega), e4, hIr]
    refine ⟨b1, b2, fun q => ?_, b4, b5, b6⟩
    obtain ⟨c1, w, L, c2, c3, c4, c5⟩ := b3 q
    exact ⟨c1, w, L, c2, c3.cg (fun a ha => ⟨tg2 a ha, rfl, rfl⟩), c4, c5⟩
  · rw [e3 20 (by omega) (by omega), e3 21 (by omega) (by omega), e3 22 (by omega) (by omega)]; exact a6
  · rw [e3 20 (by omega) (by omega), e3 21 (by omega) (by omega), e3 22 (by omega) (by omega), hIr]; exact a7
  · rw [e3 5 (by omega) (by omega)]; exact a9
theorem g_h_s {s : TS} {j v : Int} : (g_h j v s).2.2.1 j = v := us_s
theorem g_h_n {s : TS} {i j v : Int} (h : i ≠ j) : (g_h j v s).2.2.1 i = s.2.2.1 i := us_n h
theorem TWd.w18 {v : Int} (h : TWd G I P T z0 z r tp t e τ Ls s) : TWd G I P T z0 z r tp t e τ Ls (g_w 18 v s) := by
  refine (TWd.tab (J := I) (s' := g_w 18 v s) h (fun _ _ => rfl) h.tr ?_ rfl rfl (fun j a b => g_w_n a) rfl (h.w.w (by omega) (fun q => by omega))).1
  rw [h.tb.2.2.1]
  exact (g_w_n (by omega)).symm
theorem D_number {lo hi : Int} (h : TWd G I P T z0 z r tp t e τ Ls s) (h1 : rg lo) (h2 : rg hi) (hQ : (g_takes τ lo hi s).1 ≠ 0 → ∀ I' J' P' T' z', TQ G z0 z r tp t τ I J P T (g_takes τ lo hi s).2 I' J' P' T' z' → Q (some (iv ((g_takes τ lo hi s).2.1 18))) I' J' P' T' z') (hX : (g_takes τ lo hi s).1 = 0 → XK X (fun a => a < z0) I J P T ((g_takes τ lo hi s).2.1 15) ((g_takes τ lo hi s).2.1 16)) : MC G yX12_number (ws_ yX12_number cX12_number 4 (some FieldType.int)) (d + 9) 6 76 [.ref r, iv lo, iv hi] I J P T z Q X := by
  refine MC.tz fun hzz => ?_
  have hw := h.w18 (v := s.1 14)
  have e11 : (g_w 18 (s.1 14) s).1 11 = s.1 11 := g_w_n (by omega)
  have e14 : (g_w 18 (s.1 14) s).1 14 = s.1 14 := g_w_n (by omega)
  have e12 : (g_w 18 (s.1 14) s).1 12 = s.1 12 := g_w_n (by omega)
  refine C_numberT (S := fun a => a < z0) (s := g_w 18 (s.1 14) s) hw.rd hw.ti hw.g5 hw.b h1 h2 hw.rz hw.tz hw.S (fun a b c I' J' P' T' z' a2 b2 c2 => ?_) (fun q => ?_) (fun q1 q2 => ?_)
  · rw [e11] at a
    rw [e14] at b c ⊢
    have et : g_takes τ lo hi s = (1, g_nx τ (g_w 18 (s.1 14) s)) := by unfold g_takes; rw [if_neg (by omega), if_neg (by omega)]
    rw [et] at hQ
    have e18 : (g_nx τ (g_w 18 (s.1 14) s)).1 18 = s.1 14 := (t_next_f (by omega)).trans g_w_s
    have := hQ (by simp) I' J' P' T' z' (TQ.go hw a2 b2 c2 hzz)
    dsimp only at this
    rw [e18] at this
    exact this
  · rw [e11] at q
    have et : g_takes τ lo hi s = (0, g_bad 1 s) := by unfold g_takes; rw [if_pos q]
    rw [et] at hX
    rw [e12]
    exact (hX rfl).bad
  · rw [e11] at q1
    rw [e14] at q2
    have et : g_takes τ lo hi s = (0, g_bad 2 s) := by unfold g_takes; rw [if_neg (by omega), if_pos q2]
    rw [et] at hX
    rw [e12]
    exact (hX rfl).bad
theorem D_kinds (h : TWd G I P T z0 z r tp t e τ Ls s) (htok : s.1 11 ≠ 4) (hQ : (g_kinds τ s).1 ≠ 0 → ∀ I' J' P' T' z', TQ G z0 z r tp t τ I J P T (g_kinds τ s).2 I' J' P' T' z' → Q none I' J' P' T' z') (hX : (g_kinds τ s).1 = 0 → XK X (fun a => a < z0) I J P T ((g_kinds τ s).2.1 15) ((g_kinds τ s).2.1 16)) : MC G yX13_kinds (ws_ yX13_kinds cX13_kinds 1 (none : Option FieldType)) (d + 10) 11 144 [.ref r] I J P T z Q X := by
  have h00 := h.w.2.2
  have hh0 : (0 : Int) = 0 → s.2.2.1 0 = 0 ∨ s.1 20 = 1 := fun _ => by rcases h.2.2.2.2.2.1.1 with a | a; exact Or.inl (h00 a); exact Or.inr a
  refine MC.of (by decide) (Nat.le_of_ble_eq_true rfl) ?_
  show PW G mX13_kinds (rmD (d + 10) 11 144) (MZ G Q X 11 144) 0 0 I J P T z 0 [some (.ref r)] []
  refine r_aload_n (pc := 0) dX13_kinds_0 rfl rfl ?_
  refine r_iconst (pc := 1) dX13_kinds_1 ?_
  refine r_callV1 (pc := 2) (D_once (X := X) (Q := fun v I' J' P' T' z' => s.1 20 = 0 ∧ er none (TQ G z0 z r tp t τ I J P T (g_nx τ (g_w 20 1 s))) v I' J' P' T' z') h (Or.inl rfl) htok hh0 (fun q I' J' P' T' z' a => ⟨q, er_i a⟩) (fun q => by unfold g_kinds at hX; rw [if_pos (show s.1 20 ≠ 0 from q)] at hX; exact (hX rfl).bad)) im_X13_once qs14 q886 h.o rfl dX13_kinds_2 (Nat.le_of_ble_eq_true rfl) (Nat.le_of_ble_eq_true rfl) rfl (fun v I' J' P' T' z' ⟨h20, hv⟩ => k_er (fun I1 J1 P1 T1 z1 a => ?_) v I' J' P' T' z' hv) (fun _ _ _ _ _ _ _ hx => x_out rfl (Nat.le_of_ble_eq_true rfl) (Nat.le_of_ble_eq_true rfl) hx)
  have eg : g_kinds τ s = (if (g_takes τ 2 13 (g_nx τ (g_w 20 1 s))).1 = 0 then g_takes τ 2 13 (g_nx τ (g_w 20 1 s)) else (1, g_h 0 ((g_takes τ 2 13 (g_nx τ (g_w 20 1 s))).2.1 18) (g_takes τ 2 13 (g_nx τ (g_w 20 1 s))).2)) := by
    unfold g_kinds
    rw [if_neg (by omega)]
  rw [eg] at hQ hX
  obtain ⟨hz1, hf1, e1, Ls1, hw1⟩ := a
  obtain ⟨s1, hs1⟩ : ∃ s1, s1 = g_nx τ (g_w 20 1 s) := ⟨_, rfl⟩
  rw [← hs1] at hw1 hQ hX
  have hk0 : s1.2.2.1 0 = 0 := by rw [hs1]; exact h00 h20
  show PW G mX13_kinds (rmD (d + 10) 11 144) (MZ G Q X 11 144) (0+5) (0+68) I1 J1 P1 T1 z1 5 [some (.ref r)] []
  refine r_aload_n (pc := 5) dX13_kinds_5 rfl rfl ?_
  refine r_getr (pc := 6) (c := 13) (k := 9) (kz := 9) hw1.o cok_13 (Nat.le_of_ble_eq_true rfl) q616 ⟨rfl, rfl⟩ (Or.inl rfl) rfl (fun _ _ _ => rfl) hw1.pt dX13_kinds_6 ?_
  refine r_aload_n (pc := 9) dX13_kinds_9 rfl rfl ?_
  refine r_iconst (pc := 10) dX13_kinds_10 ?_
  refine r_bipush (pc := 11) dX13_kinds_11 (by decide +kernel) ?_
  refine r_callU2 (pc := 13) (D_number (X := X) (Q := fun v I' J' P' T' z' => (g_takes τ 2 13 s1).1 ≠ 0 ∧ er (some (iv ((g_takes τ 2 13 s1).2.1 18))) (TQ G z0 z1 r tp t τ I1 J1 P1 T1 (g_takes τ 2 13 s1).2) v I' J' P' T' z') hw1 (by omega) (by omega) (fun q I' J' P' T' z' a => ⟨q, er_i a⟩) (fun q => by rw [if_pos q] at hX; exact (hX q).fs hf1)) im_X12_number rfl q965 q963 q962 hw1.o rfl dX13_kinds_13 (Nat.le_of_ble_eq_true rfl) (Nat.le_of_ble_eq_true rfl) rfl (fun v I' J' P' T' z' ⟨hn, hv⟩ => k_er (fun I2 J2 P2 T2 z2 a => ?_) v I' J' P' T' z' hv) (fun _ _ _ _ _ _ _ hx => x_out rfl (Nat.le_of_ble_eq_true rfl) (Nat.le_of_ble_eq_true rfl) hx)
  rw [if_neg hn] at hQ
  have gv := g_takes_v hn
  obtain ⟨hz2, hf2, e2, Ls2, hw2⟩ := a
  generalize (g_takes τ 2 13 s1).2 = s2 at hQ gv hw2 hf2 ⊢
  obtain ⟨g1, g2, g3, g4⟩ := gv
  show PW G mX13_kinds (rmD (d + 10) 11 144) (MZ G Q X 11 144) (0+5+6) (0+68+76) I2 J2 P2 T2 z2 16 [some (.ref r)] [iv (s2.1 18), .ref t]
  have hbt := hw2.bt
  refine r_putiN (pc := 16) (c := 2) (k := 0) (kz := 0) hw2.sh.o cok_2 (Nat.le_of_ble_eq_true rfl) q204 ⟨rfl, rfl⟩ (Or.inl rfl) rfl (by omega) rfl rfl (by omega) (fun _ _ _ => rfl) ⟨rfl, rfl⟩ dX13_kinds_16 ?_
  refine r_return (pc := 19) rfl dX13_kinds_19 (Nat.le_of_ble_eq_true rfl) (Nat.le_of_ble_eq_true rfl) ?_
  have hw3 := TWd.tab (J := J2) (I' := ui I2 t 0 (s2.1 18)) (s' := g_h 0 (s2.1 18) s2) hw2 (fun a q => ui_nr (by omega)) hw2.tr.w0 (by rw [ui_nj (by omega)]; exact hw2.tb.2.2.1) (g_h_n (by omega)) rfl (fun _ _ _ => rfl) rfl ⟨hw2.w.1, hw2.w.2.1.kinds ⟨g1, g2⟩ (by rw [g3]; exact hk0), fun q => by
    have : s2.1 20 = 0 := q
    rw [g4, hs1] at this
    have e20 : (g_nx τ (g_w 20 1 s)).1 20 = 1 := (t_next_f (by omega)).trans g_w_s
    omega⟩
  exact hQ (by simp) _ _ _ _ _ ⟨Nat.le_trans hz1 hz2, (hf1.tr hf2).tr hw3.2, e2, Ls2, hw3.1⟩
theorem D_again (h : TWd G I P T z0 z r tp t e τ Ls s) (htok : s.1 11 ≠ 4) (hQ : (g_again τ s).1 ≠ 0 → ∀ I' J' P' T' z', TQ G z0 z r tp t τ I J P T (g_again τ s).2 I' J' P' T' z' → Q none I' J' P' T' z') (hX : (g_again τ s).1 = 0 → XK X (fun a => a < z0) I J P T ((g_again τ s).2.1 15) ((g_again τ s).2.1 16)) : MC G yX13_again (ws_ yX13_again cX13_again 1 (none : Option FieldType)) (d + 9) 5 68 [.ref r] I J P T z Q X := by
  refine MC.of (by decide) (Nat.le_of_ble_eq_true rfl) ?_
  show PW G mX13_again (rmD (d + 9) 5 68) (MZ G Q X 5 68) 0 0 I J P T z 0 [some (.ref r)] []
  refine r_aload_n (pc := 0) dX13_again_0 rfl rfl ?_
  refine r_iconst (pc := 1) dX13_again_1 ?_
  refine r_callV1 (pc := 2) (D_once (X := X) (Q := fun v I' J' P' T' z' => s.1 21 = 0 ∧ er none (TQ G z0 z r tp t τ I J P T (g_nx τ (g_w 21 1 s))) v I' J' P' T' z') h (Or.inr (Or.inl rfl)) htok (fun q => by omega) (fun q I' J' P' T' z' a => ⟨q, er_i a⟩) (fun q => by unfold g_again at hX; rw [if_pos (show s.1 21 ≠ 0 from q)] at hX; exact (hX rfl).bad)) im_X13_once qs14 q886 h.o rfl dX13_again_2 (Nat.le_of_ble_eq_true rfl) (Nat.le_of_ble_eq_true rfl) rfl (fun v I' J' P' T' z' ⟨h20, hv⟩ => k_er (fun I1 J1 P1 T1 z1 a => ?_) v I' J' P' T' z' hv) (fun _ _ _ _ _ _ _ hx => x_out rfl (Nat.le_of_ble_eq_true rfl) (Nat.le_of_ble_eq_true rfl) hx)
  have eg : g_again τ s = (1, g_nx τ (g_h 2 1 (g_w 21 1 s))) := by
    unfold g_again
    rw [if_neg (by omega)]
  rw [eg] at hQ
  obtain ⟨hz1, hf1, e1, Ls1, hw1⟩ := a
  show PW G mX13_again (rmD (d + 9) 5 68) (MZ G Q X 5 68) (0+5) (0+68) I1 J1 P1 T1 z1 5 [some (.ref r)] []
  have hbt := hw1.bt
  refine r_aload_n (pc := 5) dX13_again_5 rfl rfl ?_
  refine r_getr (pc := 6) (c := 13) (k := 9) (kz := 9) hw1.o cok_13 (Nat.le_of_ble_eq_true rfl) q616 ⟨rfl, rfl⟩ (Or.inl rfl) rfl (fun _ _ _ => rfl) hw1.pt dX13_again_6 ?_
  refine r_iconst (pc := 9) dX13_again_9 ?_
  refine r_putiN (pc := 10) (c := 2) (k := 4) (kz := 4) hw1.sh.o cok_2 (Nat.le_of_ble_eq_true rfl) q215 ⟨rfl, rfl⟩ (Or.inl rfl) rfl (by omega) rfl rfl (by omega) (fun _ _ _ => rfl) ⟨rfl, rfl⟩ dX13_again_10 ?_
  refine r_return (pc := 13) rfl dX13_again_13 (Nat.le_of_ble_eq_true rfl) (Nat.le_of_ble_eq_true rfl) ?_
  have hw3 := TWd.tab (J := J1) (I' := ui I1 t 4 1) (s' := g_h 2 1 (g_nx τ (g_w 21 1 s))) hw1 (fun a q => ui_nr (by omega)) hw1.tr.w4 (by rw [ui_nj (by omega)]; exact hw1.tb.2.2.1) (g_h_n (by omega)) rfl (fun _ _ _ => rfl) rfl ⟨hw1.w.1, hw1.w.2.1.small (Or.inr (Or.inl ⟨rfl, rfl⟩)), fun q => by
    show us _ 2 1 0 = 0
    rw [us_n (by omega)]; exact hw1.w.2.2 q⟩
  exact hQ (by simp) _ _ _ _ _ ⟨hz1, hf1.tr hw3.2, e1, Ls1, hw3.1⟩
theorem D_refill (h : TWd G I P T z0 z r tp t e τ Ls s) (hQ : isW 125779835448428 s → (g_refill τ s).1 ≠ 0 → ∀ I' J' P' T' z', TQ G z0 z r tp t τ I J P T (g_refill τ s).2 I' J' P' T' z' → Q none I' J' P' T' z') (hX0 : ¬ isW 125779835448428 s → XK X (fun a => a < z0) I J P T 1 (s.1 12)) (hX : isW 125779835448428 s → (g_refill τ s).1 = 0 → XK X (fun a => a < z0) I J P T ((g_refill τ s).2.1 15) ((g_refill τ s).2.1 16)) : MC G yX13_refill (ws_ yX13_refill cX13_refill 1 (none : Option FieldType)) (d + 10) 12 152 [.ref r] I J P T z Q X := by
  have hcs : ST I P T (G.2.2.2.2 8) (sbs "refill") := h.2.1.st (i := 8) rfl rfl
  have hwd : WD (sbs "refill") := wds_WD _ (by decide +kernel)
  have ec : cod (sbs "refill") = 125779835448428 := by decide +kernel
  refine MC.of (by decide) (Nat.le_of_ble_eq_true rfl) ?_
  show PW G mX13_refill (rmD (d + 10) 12 152) (MZ G Q X 12 152) 0 0 I J P T z 0 [some (.ref r)] []
  refine r_aload_n (pc := 0) dX13_refill_0 rfl rfl ?_
  refine r_aload_n (pc := 1) dX13_refill_1 rfl rfl ?_
  refine r_ldcS (pc := 2) 8 rfl rfl dX13_refill_2 ?_
  refine r_callU1 (pc := 4) (C_isT h.rd h.ti.t hcs hwd fe_i) im_X12_is rfl q871 q869 q868 h.o rfl dX13_refill_4 (Nat.le_of_ble_eq_true rfl) (Nat.le_of_ble_eq_true rfl) rfl (k_fi ?_) (fun _ _ _ _ _ _ _ hx => no_x hx)
  rw [ec]
  have br := bz_r (p := isW 125779835448428 s)
  refine r_iconst (pc := 7) dX13_refill_7 ?_
  refine r_callU2 (pc := 8) (C_needT (S := fun a => a < z0) (X := X) (Q := fg (bz (isW 125779835448428 s) = 1) I J P T z none) h.rd h.ti.t h.ti.p (by omega) (by omega) h.rz h.S fg_i (fun c => by rw [one1]; exact hX0 (bz_0.mp c))) im_X12_need rfl q894 q892 q891 h.o rfl dX13_refill_8 (Nat.le_of_ble_eq_true rfl) (Nat.le_of_ble_eq_true rfl) rfl (k_gnv fun hb1 => ?_) (fun _ _ _ _ _ _ _ hx => x_out rfl (Nat.le_of_ble_eq_true rfl) (Nat.le_of_ble_eq_true rfl) hx)
  have hW := bz_1.mp hb1
  have hQ := hQ hW
  have hX := hX hW
  refine r_aload_n (pc := 11) dX13_refill_11 rfl rfl ?_
  refine r_iconst (pc := 12) dX13_refill_12 ?_
  refine r_callV1 (pc := 13) (D_once (X := X) (Q := fun v I' J' P' T' z' => s.1 22 = 0 ∧ er none (TQ G z0 z r tp t τ I J P T (g_nx τ (g_w 22 1 s))) v I' J' P' T' z') h (Or.inr (Or.inr rfl)) (by have := hW.1; omega) (fun q => by omega) (fun q I' J' P' T' z' a => ⟨q, er_i a⟩) (fun q => by unfold g_refill at hX; rw [if_pos (show s.1 22 ≠ 0 from q)] at hX; exact (hX rfl).bad)) im_X13_once qs14 q886 h.o rfl dX13_refill_13 (Nat.le_of_ble_eq_true rfl) (Nat.le_of_ble_eq_true rfl) rfl (fun v I' J' P' T' z' ⟨h20, hv⟩ => k_er (fun I1 J1 P1 T1 z1 a => ?_) v I' J' P' T' z' hv) (fun _ _ _ _ _ _ _ hx => x_out rfl (Nat.le_of_ble_eq_true rfl) (Nat.le_of_ble_eq_true rfl) hx)
  have eg : g_refill τ s = (if (g_takes τ 0 9 (g_nx τ (g_w 22 1 s))).1 = 0 then g_takes τ 0 9 (g_nx τ (g_w 22 1 s)) else (1, g_h 3 ((g_takes τ 0 9 (g_nx τ (g_w 22 1 s))).2.1 18) (g_takes τ 0 9 (g_nx τ (g_w 22 1 s))).2)) := by
    unfold g_refill
    rw [if_neg (by omega)]
  rw [eg] at hQ hX
  obtain ⟨hz1, hf1, e1, Ls1, hw1⟩ := a
  generalize g_nx τ (g_w 22 1 s) = s1 at hw1 hQ hX hf1
  show PW G mX13_refill (rmD (d + 10) 12 152) (MZ G Q X 12 152) (0+0+1+5) (0+0+8+68) I1 J1 P1 T1 z1 16 [some (.ref r)] []
  refine r_aload_n (pc := 16) dX13_refill_16 rfl rfl ?_
  refine r_getr (pc := 17) (c := 13) (k := 9) (kz := 9) hw1.o cok_13 (Nat.le_of_ble_eq_true rfl) q616 ⟨rfl, rfl⟩ (Or.inl rfl) rfl (fun _ _ _ => rfl) hw1.pt dX13_refill_17 ?_
  refine r_aload_n (pc := 20) dX13_refill_20 rfl rfl ?_
  refine r_iconst (pc := 21) dX13_refill_21 ?_
  refine r_bipush (pc := 22) dX13_refill_22 (by decide +kernel) ?_
  refine r_callU2 (pc := 24) (D_number (X := X) (Q := fun v I' J' P' T' z' => (g_takes τ 0 9 s1).1 ≠ 0 ∧ er (some (iv ((g_takes τ 0 9 s1).2.1 18))) (TQ G z0 z1 r tp t τ I1 J1 P1 T1 (g_takes τ 0 9 s1).2) v I' J' P' T' z') hw1 (by omega) (by omega) (fun q I' J' P' T' z' a => ⟨q, er_i a⟩) (fun q => by rw [if_pos q] at hX; exact (hX q).fs hf1)) im_X12_number rfl q965 q963 q962 hw1.o rfl dX13_refill_24 (Nat.le_of_ble_eq_true rfl) (Nat.le_of_ble_eq_true rfl) rfl (fun v I' J' P' T' z' ⟨hn, hv⟩ => k_er (fun I2 J2 P2 T2 z2 a => ?_) v I' J' P' T' z' hv) (fun _ _ _ _ _ _ _ hx => x_out rfl (Nat.le_of_ble_eq_true rfl) (Nat.le_of_ble_eq_true rfl) hx)
  rw [if_neg hn] at hQ
  have gv := g_takes_v hn
  obtain ⟨hz2, hf2, e2, Ls2, hw2⟩ := a
  generalize (g_takes τ 0 9 s1).2 = s2 at hQ gv hw2 hf2 ⊢
  obtain ⟨g1, g2, g3, g4⟩ := gv
  show PW G mX13_refill (rmD (d + 10) 12 152) (MZ G Q X 12 152) (0+0+1+5+6) (0+0+8+68+76) I2 J2 P2 T2 z2 27 [some (.ref r)] [iv (s2.1 18), .ref t]
  have hbt := hw2.bt
  refine r_putiN (pc := 27) (c := 2) (k := 1) (kz := 1) hw2.sh.o cok_2 (Nat.le_of_ble_eq_true rfl) q207 ⟨rfl, rfl⟩ (Or.inl rfl) rfl (by omega) rfl rfl (by omega) (fun _ _ _ => rfl) ⟨rfl, rfl⟩ dX13_refill_27 ?_
  refine r_return (pc := 30) rfl dX13_refill_30 (Nat.le_of_ble_eq_true rfl) (Nat.le_of_ble_eq_true rfl) ?_
  have hw3 := TWd.tab (J := J2) (I' := ui I2 t 1 (s2.1 18)) (s' := g_h 3 (s2.1 18) s2) hw2 (fun a q => ui_nr (by omega)) hw2.tr.w1 (by rw [ui_nj (by omega)]; exact hw2.tb.2.2.1) (g_h_n (by omega)) rfl (fun _ _ _ => rfl) rfl ⟨hw2.w.1, hw2.w.2.1.small (Or.inr (Or.inr ⟨rfl, g1, g2⟩)), fun q => by
    rw [g_h_n (by omega)]; exact hw2.w.2.2 q⟩
  exact hQ (by simp) _ _ _ _ _ ⟨Nat.le_trans hz1 hz2, (hf1.tr hf2).tr hw3.2, e2, Ls2, hw3.1⟩
end P8
