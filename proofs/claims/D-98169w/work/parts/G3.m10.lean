/-! ===== the model: lines of a table ===== -/
abbrev hI (I : HI) (m : Nat) (s : TS) : HI := ur (ur I (m + 3) s.2.2.1) m s.1
abbrev hJ (J : HI) (m : Nat) (s : TS) : HI := ur (ui J m 17 s.2.1) (m + 5) s.2.2.2
theorem hJ_e {J : HI} {m : Nat} {s : TS} : hJ J m s = ui (ur J (m + 5) s.2.2.2) m 17 s.2.1 := (ui_ur_n (by omega)).symm
theorem hJ_w {J : HI} {m : Nat} {s : TS} : hJ J m s m 17 = s.2.1 := by rw [hJ_e]; exact ui_sv
section M10
variable {G : GE} {I J : HI} {P : HP} {T : HT} {z : Nat} {m d : Nat} {Q : QT} {σ u τ ρ : Int → Int} {s : TS}
theorem M_nx (hs : shM G P T m) (hτ : I (m + 1) = τ) (hp : 0 ≤ s.1 4 ∧ s.1 4 ≤ s.1 3 ∧ s.1 3 ≤ 940) (hQ : Q none (hI I m (g_nx τ s)) (hJ J m (g_nx τ s)) P T z) : MC G yX11_next (ws_ yX11_next cX11_next 4 (none : Option FieldType)) (d + 1) 0 0 [.ref m] (hI I m s) (hJ J m s) P T z Q nX := by
  rw [hJ_e] at hQ ⊢
  refine M_next (I := ur I (m + 3) s.2.2.1) (J := ur J (m + 5) s.2.2.2) (ω := s.1) (w := s.2.1) hs hp ?_
  rw [ur_n (by omega), hτ]
  exact hQ
theorem M_badS (hs : shM G P T m) {k : Int} (hk : rg k) (hQ : Q (some (iv 0)) (hI I m (g_bad k s)) (hJ J m (g_bad k s)) P T z) : MC G yX11_bad (ws_ yX11_bad cX11_bad 2 (some FieldType.boolean)) (d) 0 0 [.ref m, iv k] (hI I m s) (hJ J m s) P T z Q nX :=
  M_bad (I := ur I (m + 3) s.2.2.1) (ω := s.1) hs hk hQ
theorem M_isWordS (hs : shM G P T m) {k : Int} (hk : rgj k) (hQ : Q (some (iv (bz (isW k s)))) (hI I m s) (hJ J m s) P T z) : MC G yX11_isWord (ws_ yX11_isWord cX11_isWord 3 (some FieldType.boolean)) (d) 0 0 [.ref m, jv k] (hI I m s) (hJ J m s) P T z Q nX := by
  refine M_isWord (I := ur I (m + 3) s.2.2.1) (ω := s.1) hs hk ?_
  have e0 : hJ J m s m 17 = s.2.1 := hJ_w
  rw [e0]
  exact hQ
theorem M_isSignS (hs : shM G P T m) {k : Int} (hk : rg k) (hQ : Q (some (iv (bz (isG k s)))) (hI I m s) (hJ J m s) P T z) : MC G yX11_isSign (ws_ yX11_isSign cX11_isSign 2 (some FieldType.boolean)) (d) 0 0 [.ref m, iv k] (hI I m s) (hJ J m s) P T z Q nX :=
  M_isSign (I := ur I (m + 3) s.2.2.1) (ω := s.1) hs hk hQ
theorem M_isNameS (hs : shM G P T m) (hρ : J (m + 6) = ρ) (hQ : Q (some (iv (bz (isN ρ s)))) (hI I m s) (hJ J m s) P T z) : MC G yX11_isName (ws_ yX11_isName cX11_isName 3 (some FieldType.boolean)) (d) 0 0 [.ref m] (hI I m s) (hJ J m s) P T z Q nX := by
  refine M_isName (I := ur I (m + 3) s.2.2.1) (ω := s.1) hs ?_
  have e : hJ J m s (m + 6) = ρ := by
    rw [← hρ]
    funext j
    simp (disch := omega) only [ui_nv, ur_nv]
  have e0 : hJ J m s m 17 = s.2.1 := hJ_w
  rw [e0, e]
  exact hQ
theorem M_findS (hs : shM G P T m) {n : Int} (hn : 0 ≤ n ∧ n ≤ 6) (hQ : Q (some (iv (t_find s.2.2.2 s.2.1 6 0 n.toNat))) (hI I m s) (hJ J m s) P T z) : MC G yX11_find (ws_ yX11_find cX11_find 4 (some FieldType.int)) (d) 0 0 [.ref m, iv 6, iv n] (hI I m s) (hJ J m s) P T z Q nX := by
  refine M_find hs (by omega) hn ?_
  have e : hJ J m s (m + 5) = s.2.2.2 := by
    funext j
    simp (disch := omega) only [ui_nv, ur_sv]
  have e0 : hJ J m s m 17 = s.2.1 := hJ_w
  rw [e0, e]
  exact hQ
theorem M_findS0 (hs : shM G P T m) {n : Int} (hn : 0 ≤ n ∧ n ≤ 6) (hQ : Q (some (iv (t_find s.2.2.2 s.2.1 0 0 n.toNat))) (hI I m s) (hJ J m s) P T z) : MC G yX11_find (ws_ yX11_find cX11_find 4 (some FieldType.int)) (d) 0 0 [.ref m, iv 0, iv n] (hI I m s) (hJ J m s) P T z Q nX := by
  refine M_find hs (by omega) hn ?_
  have e : hJ J m s (m + 5) = s.2.2.2 := by
    funext j
    simp (disch := omega) only [ui_nv, ur_sv]
  have e0 : hJ J m s m 17 = s.2.1 := hJ_w
  rw [e0, e]
  exact hQ
theorem M_sign (hs : shM G P T m) (hτ : I (m + 1) = τ) (hw : TI s.1) {c : Int} (hc : rg c) (hQ : if isG c s then Q (some (iv 1)) (hI I m (g_nx τ s)) (hJ J m (g_nx τ s)) P T z else Q (some (iv 0)) (hI I m (g_bad 1 s)) (hJ J m (g_bad 1 s)) P T z) : MC G yX11_sign (ws_ yX11_sign cX11_sign 2 (some FieldType.boolean)) (d + 2) 0 0 [.ref m, iv c] (hI I m s) (hJ J m s) P T z Q nX := by
  have hb := hs.b
  refine MC.of (by decide) (Nat.le_of_ble_eq_true rfl) ?_
  show PW G mX11_sign (rmD (d + 2) 0 0) (MZ G Q nX 0 0) 0 0 (hI I m s) (hJ J m s) P T z 0 [some (.ref m), some (iv c)] []
  refine r_aload_n (pc := 0) dX11_sign_0 rfl rfl ?_
  refine r_iload_n (pc := 1) dX11_sign_1 rfl rfl ?_
  refine r_callV1 (pc := 2) (M_isSignS hs hc fe_i) im_X11_isSign qs67 q2114 hs.o rfl dX11_sign_2 (Nat.le_of_ble_eq_true rfl) (Nat.le_of_ble_eq_true rfl) rfl (k_fi ?_) (fun _ _ _ _ _ _ _ hx => no_x hx)
  refine r_if_ne (pc := 5) 14 dX11_sign_5 rfl bz_g (fun h5 => ?_) (fun h5 => ?_)
  · rw [if_pos (bz_ne.mp h5)] at hQ
    refine r_aload_n (pc := 14) dX11_sign_14 rfl rfl ?_
    refine r_callV0 (pc := 15) (M_nx (I := I) (J := J) (s := s) hs hτ ⟨hw.1, hw.2.1, hw.2.2.1⟩ fe_i) im_X11_next qs57 q2065 hs.o rfl dX11_sign_15 (Nat.le_of_ble_eq_true rfl) (Nat.le_of_ble_eq_true rfl) rfl (k_fv ?_) (fun _ _ _ _ _ _ _ hx => no_x hx)
    refine r_iconst (pc := 18) dX11_sign_18 ?_
    refine r_ireturn (pc := 19) rfl (nb_z (by omega)) dX11_sign_19 (Nat.le_of_ble_eq_true rfl) (Nat.le_of_ble_eq_true rfl) ?_
    exact hQ
  rw [if_neg (bz_0.mp h5)] at hQ
  refine r_aload_n (pc := 8) dX11_sign_8 rfl rfl ?_
  refine r_iconst (pc := 9) dX11_sign_9 ?_
  refine r_callV1 (pc := 10) (M_badS (I := I) (J := J) (s := s) hs (by omega) fe_i) im_X11_bad qs61 q2087 hs.o rfl dX11_sign_10 (Nat.le_of_ble_eq_true rfl) (Nat.le_of_ble_eq_true rfl) rfl (k_fi ?_) (fun _ _ _ _ _ _ _ hx => no_x hx)
  refine r_ireturn (pc := 13) rfl (nb_z (by omega)) dX11_sign_13 (Nat.le_of_ble_eq_true rfl) (Nat.le_of_ble_eq_true rfl) ?_
  exact hQ
theorem M_takes (hs : shM G P T m) (hτ : I (m + 1) = τ) (hw : TI s.1) {lo hi : Int} (h1 : rg lo) (h2 : rg hi) (hQ : Q (some (iv (g_takes τ lo hi s).1)) (hI I m (g_takes τ lo hi s).2) (hJ J m (g_takes τ lo hi s).2) P T z) : MC G yX11_takes (ws_ yX11_takes cX11_takes 3 (some FieldType.boolean)) (d + 2) 0 0 [.ref m, iv lo, iv hi] (hI I m s) (hJ J m s) P T z Q nX := by
  have hb := hs.b
  refine MC.of (by decide) (Nat.le_of_ble_eq_true rfl) ?_
  show PW G mX11_takes (rmD (d + 2) 0 0) (MZ G Q nX 0 0) 0 0 (hI I m s) (hJ J m s) P T z 0 [some (.ref m), some (iv lo), some (iv hi)] []
  unfold g_takes at hQ
  refine r_aload_n (pc := 0) dX11_takes_0 rfl rfl ?_
  refine r_geti (pc := 1) (c := 11) (k := 11) (kz := 11) hs.o cok_11 (Nat.le_of_ble_eq_true rfl) q1871 ⟨rfl, rfl⟩ (Or.inl rfl) rfl (fun _ _ _ => rfl) dX11_takes_1 (fun hr1 => ?_)
  try simp (disch := omega) only [ui_ur, ui_ur_n, ur_sv, ur_nv, ui_sv, ui_nv, ui_uis, us_s, us_n] at hr1 ⊢
  refine r_iconst (pc := 4) dX11_takes_4 ?_
  refine r_icmp_eq (pc := 5) 14 dX11_takes_5 rfl (by omega) (by omega) (fun h5 => ?_) (fun h5 => ?_)
  · rw [if_neg (by omega)] at hQ
    have hn := hw.2.2.2.2.2.2.2.2 h5
    refine r_aload_n (pc := 14) dX11_takes_14 rfl rfl ?_
    refine r_geti (pc := 15) (c := 11) (k := 14) (kz := 14) hs.o cok_11 (Nat.le_of_ble_eq_true rfl) q1874 ⟨rfl, rfl⟩ (Or.inl rfl) rfl (fun _ _ _ => rfl) dX11_takes_15 (fun hr15 => ?_)
    try simp (disch := omega) only [ui_ur, ui_ur_n, ur_sv, ur_nv, ui_sv, ui_nv, ui_uis, us_s, us_n] at hr15 ⊢
    refine r_iload_n (pc := 18) dX11_takes_18 rfl rfl ?_
    refine r_iload_n (pc := 19) dX11_takes_19 rfl rfl ?_
    refine r_callS3 (pc := 20) (M_isIn (by omega) (by omega) (by omega) fe_i) im_X11_isIn q2095 dX11_takes_20 (Nat.le_of_ble_eq_true rfl) (Nat.le_of_ble_eq_true rfl) rfl (k_fi ?_) (fun _ _ _ _ _ _ _ hx => no_x hx)
    refine r_if_ne (pc := 23) 32 dX11_takes_23 rfl bz_g (fun h23 => ?_) (fun h23 => ?_)
    · rw [if_neg (fun q => q (bz_ne.mp h23))] at hQ
      refine r_aload_n (pc := 32) dX11_takes_32 rfl rfl ?_
      refine r_aload_n (pc := 33) dX11_takes_33 rfl rfl ?_
      refine r_geti (pc := 34) (c := 11) (k := 14) (kz := 14) hs.o cok_11 (Nat.le_of_ble_eq_true rfl) q1874 ⟨rfl, rfl⟩ (Or.inl rfl) rfl (fun _ _ _ => rfl) dX11_takes_34 (fun hr34 => ?_)
      try simp (disch := omega) only [ui_ur, ui_ur_n, ur_sv, ur_nv, ui_sv, ui_nv, ui_uis, us_s, us_n] at hr34 ⊢
      refine r_puti (pc := 37) (c := 11) (k := 18) (kz := 18) hs.o cok_11 (Nat.le_of_ble_eq_true rfl) q1878 ⟨rfl, rfl⟩ (Or.inl rfl) rfl (by omega) rfl rfl (by omega) (fun _ _ _ => rfl) ⟨rfl, rfl⟩ dX11_takes_37 ?_
      try simp (disch := omega) only [ui_ur, ui_ur_n, ur_sv, ur_nv, ui_sv, ui_nv, ui_uis, us_s, us_n]
      refine r_aload_n (pc := 40) dX11_takes_40 rfl rfl ?_
      have w1 : TI (g_w 18 (s.1 14) s).1 := TI.us hw (by omega)
      refine r_callV0 (pc := 41) (M_nx (I := I) (J := J) (s := g_w 18 (s.1 14) s) hs hτ ⟨w1.1, w1.2.1, w1.2.2.1⟩ fe_i) im_X11_next qs57 q2065 hs.o rfl dX11_takes_41 (Nat.le_of_ble_eq_true rfl) (Nat.le_of_ble_eq_true rfl) rfl (k_fv ?_) (fun _ _ _ _ _ _ _ hx => no_x hx)
      refine r_iconst (pc := 44) dX11_takes_44 ?_
      refine r_ireturn (pc := 45) rfl (nb_z (by omega)) dX11_takes_45 (Nat.le_of_ble_eq_true rfl) (Nat.le_of_ble_eq_true rfl) ?_
      exact hQ
    rw [if_pos (bz_0.mp h23)] at hQ
    refine r_aload_n (pc := 26) dX11_takes_26 rfl rfl ?_
    refine r_iconst (pc := 27) dX11_takes_27 ?_
    refine r_callV1 (pc := 28) (M_badS (I := I) (J := J) (s := s) hs (by omega) fe_i) im_X11_bad qs61 q2087 hs.o rfl dX11_takes_28 (Nat.le_of_ble_eq_true rfl) (Nat.le_of_ble_eq_true rfl) rfl (k_fi ?_) (fun _ _ _ _ _ _ _ hx => no_x hx)
    refine r_ireturn (pc := 31) rfl (nb_z (by omega)) dX11_takes_31 (Nat.le_of_ble_eq_true rfl) (Nat.le_of_ble_eq_true rfl) ?_
    exact hQ
  rw [if_pos (by omega)] at hQ
  refine r_aload_n (pc := 8) dX11_takes_8 rfl rfl ?_
  refine r_iconst (pc := 9) dX11_takes_9 ?_
  refine r_callV1 (pc := 10) (M_badS (I := I) (J := J) (s := s) hs (by omega) fe_i) im_X11_bad qs61 q2087 hs.o rfl dX11_takes_10 (Nat.le_of_ble_eq_true rfl) (Nat.le_of_ble_eq_true rfl) rfl (k_fi ?_) (fun _ _ _ _ _ _ _ hx => no_x hx)
  refine r_ireturn (pc := 13) rfl (nb_z (by omega)) dX11_takes_13 (Nat.le_of_ble_eq_true rfl) (Nat.le_of_ble_eq_true rfl) ?_
  exact hQ
end M10
