/-! ===== the model: behind an operand; a sentence ===== -/
section M32
variable {G : GE} {I J : HI} {P : HP} {T : HT} {z : Nat} {m dd : Nat} {Q : QT} {σ τ ρ rd st : Int → Int} {s : TS} {c o t d w : Int} {O : List CD} {S : List Int}
/-- an end of which only the row of codes is not told -/
def eq_rd (J : HI) (P : HP) (T : HT) (z : Nat) (O : List CD) (F : (Int → Int) → HI) : QT := er none (fun I' J' P' T' z' => J' = J ∧ P' = P ∧ T' = T ∧ z' = z ∧ ∃ rd', RL rd' O ∧ I' = F rd')
theorem k_rd {M : MI} {R : Room} {Z : ZP} {cu su pc : Nat} {ls : List (Option Value)} {st0 : List Value} {F : (Int → Int) → HI} (k : ∀ rd', RL rd' O → PW G M R Z cu su (F rd') J P T z pc ls st0) : ∀ v I' J' P' T' z', eq_rd J P T z O F v I' J' P' T' z' → PW G M R Z cu su I' J' P' T' z' pc ls (v.toList ++ st0) := by
  intro v I' J' P' T' z' h
  obtain ⟨rfl, rfl, rfl, rfl, rfl, rd', h1, rfl⟩ := h
  exact k rd' h1
set_option maxHeartbeats 1000000 in
theorem Y_behind (hs : shM G P T m) (hτ : I (m + 1) = τ) (hy : YI (s, O, S, d, o, 1)) (hx : Sx S) (hk : KL st S) (hr : RL rd O)
    (hQ1 : ∀ Y', (y_bhd τ s o (y_nt S O d)).1 = some Y' → ∀ rd' st', RL rd' Y'.2.1 → KL st' Y'.2.2.1 → Q (some (iv 1)) (yH I m st' σ rd' Y'.1 (Y'.2.1.length : Int) Y'.2.2.2.2.1 (Y'.2.2.1.length : Int) Y'.2.2.2.1 Y'.2.2.2.2.2) (hJ J m Y'.1) P T z)
    (hQ0 : (y_bhd τ s o (y_nt S O d)).1 = none → ∀ rd' c' t' d' w', Q (some (iv 0)) (yH I m st σ rd' (y_bhd τ s o (y_nt S O d)).2.2.1 c' o t' d' w') (hJ J m (y_bhd τ s o (y_nt S O d)).2.2.1) P T z) : MC G yX11_behind (ws_ yX11_behind cX11_behind 1 (some FieldType.boolean)) (dd + 2) 0 0 [.ref m] (yH I m st σ rd s (O.length : Int) o (S.length : Int) d 1) (hJ J m s) P T z Q nX := by
  have hb := hs.b
  obtain ⟨y1, y2, y3, y4, y5', y6⟩ := hy
  dsimp only at y1 y2 y3 y4 y5' y6
  have nl := nt_len (S := S) (O := O) (d := d)
  have nk := nt_kl (st := st) (S := S) (O := O) (d := d) hk
  have nx : Sx (y_nt S O d).2.1 := fun x q => hx x (nt_mem q)
  refine MC.of (by decide) (Nat.le_of_ble_eq_true rfl) ?_
  show PW G mX11_behind (rmD (dd + 2) 0 0) (MZ G Q nX 0 0) 0 0 (yH I m st σ rd s (O.length : Int) o (S.length : Int) d 1) (hJ J m s) P T z 0 [some (.ref m)] []
  refine r_aload_n (pc := 0) dX11_behind_0 rfl rfl ?_
  refine r_callV0 (pc := 1) (Y_nots (dd := dd) hs (by omega) S O d rd (eq_rd (hJ J m s) P T z (y_nt S O d).1 (fun rd' => yH I m st σ rd' s ((y_nt S O d).1.length : Int) o ((y_nt S O d).2.1.length : Int) (y_nt S O d).2.2 1)) hk hr (by omega) hx (by omega) (fun rd' h => er_i ⟨rfl, rfl, rfl, rfl, rd', h, rfl⟩)) im_X11_nots qs109 q2422 hs.o rfl dX11_behind_1 (Nat.le_of_ble_eq_true rfl) (Nat.le_of_ble_eq_true rfl) rfl (k_rd fun rd1 hr1 => ?_) (fun _ _ _ _ _ _ _ hx => no_x hx)
  generalize y_nt S O d = N at *
  unfold y_bhd at hQ1 hQ0
  have j1 := jn_len (t := 11) (S := N.2.1) (O := N.1)
  have j2 := jn_len (t := 12) (S := N.2.1) (O := N.1)
  have k1 := jn_kl (st := st) (t := 11) (S := N.2.1) (O := N.1) nk
  have k2 := jn_kl (st := st) (t := 12) (S := N.2.1) (O := N.1) nk
  show PW G mX11_behind (rmD (dd + 2) 0 0) (MZ G Q nX 0 0) 0 0 (yH I m st σ rd1 s (N.1.length : Int) o (N.2.1.length : Int) N.2.2 1) (hJ J m s) P T z 4 [some (.ref m)] []
  -- the end of a join
  have fin : ∀ (v : Int) (M : List CD × List Int) (rd2 : Int → Int), (v = 11 ∨ v = 12) → M.1.length + M.2.length ≤ 44 → RL rd2 M.1 → KL st M.2 → bz (isW 6385252 s) = 12 - v → (∀ rd' st', RL rd' M.1 → KL st' (v :: M.2) → Q (some (iv 1)) (yH I m st' σ rd' (g_nx τ s) (M.1.length : Int) o ((M.2.length : Int) + 1) N.2.2 0) (hJ J m (g_nx τ s)) P T z) → PW G mX11_behind (rmD (dd + 2) 0 0) (MZ G Q nX 0 0) 0 0 (yH I m st σ rd2 s (M.1.length : Int) o (M.2.length : Int) N.2.2 1) (hJ J m s) P T z 45 [some (.ref m)] [] := by
    intro v M rd2 hv hl hrM hkM hbz hQ
    have go : PW G mX11_behind (rmD (dd + 2) 0 0) (MZ G Q nX 0 0) 0 0 (yH I m st σ rd2 s (M.1.length : Int) o (M.2.length : Int) N.2.2 1) (hJ J m s) P T z 70 [some (.ref m)] [iv v, iv (M.2.length : Int), .ref (m + 23)] := by
      refine r_iast (pc := 70) hs.t_stack (by omega) (by omega) (by omega) (by omega) dX11_behind_70 ?_
      try simp (disch := omega) only [ui_ur, ui_ur_n, ur_sv, ur_nv, ui_sv, ui_nv, ui_uis, us_s, us_n]
      refine r_aload_n (pc := 71) dX11_behind_71 rfl rfl ?_
      refine r_dup (pc := 72) dX11_behind_72 rfl ?_
      refine r_geti (pc := 73) (c := 11) (k := 58) (kz := 58) hs.o cok_11 (Nat.le_of_ble_eq_true rfl) q1918 ⟨rfl, rfl⟩ (Or.inl rfl) rfl (fun _ _ _ => rfl) dX11_behind_73 (fun hr73 => ?_)
      try simp (disch := omega) only [ui_ur, ui_ur_n, ur_sv, ur_nv, ui_sv, ui_nv, ui_uis, us_s, us_n] at hr73 ⊢
      refine r_iconst (pc := 76) dX11_behind_76 ?_
      refine r_iadd (pc := 77) dX11_behind_77 ?_
      refine r_puti (pc := 78) (c := 11) (k := 58) (kz := 58) hs.o cok_11 (Nat.le_of_ble_eq_true rfl) q1918 ⟨rfl, rfl⟩ (Or.inl rfl) rfl (by omega) rfl rfl (by omega) (fun _ _ _ => rfl) ⟨rfl, rfl⟩ dX11_behind_78 ?_
      try simp (disch := omega) only [ui_ur, ui_ur_n, ur_sv, ur_nv, ui_sv, ui_nv, ui_uis, us_s, us_n]
      rw [y5_58]
      refine r_aload_n (pc := 81) dX11_behind_81 rfl rfl ?_
      refine r_iconst (pc := 82) dX11_behind_82 ?_
      refine r_puti (pc := 83) (c := 11) (k := 60) (kz := 60) hs.o cok_11 (Nat.le_of_ble_eq_true rfl) q1920 ⟨rfl, rfl⟩ (Or.inl rfl) rfl (by omega) rfl rfl (by omega) (fun _ _ _ => rfl) ⟨rfl, rfl⟩ dX11_behind_83 ?_
      try simp (disch := omega) only [ui_ur, ui_ur_n, ur_sv, ur_nv, ui_sv, ui_nv, ui_uis, us_s, us_n]
      rw [y5_60]
      refine r_aload_n (pc := 86) dX11_behind_86 rfl rfl ?_
      refine r_callV0 (pc := 87) (Y_nx (J := J) hs hτ y1 fe_i) im_X11_next qs57 q2065 hs.o rfl dX11_behind_87 (Nat.le_of_ble_eq_true rfl) (Nat.le_of_ble_eq_true rfl) rfl (k_fv ?_) (fun _ _ _ _ _ _ _ hx => no_x hx)
      refine r_iconst (pc := 90) dX11_behind_90 ?_
      refine r_ireturn (pc := 91) rfl (nb_z (by omega)) dX11_behind_91 (Nat.le_of_ble_eq_true rfl) (Nat.le_of_ble_eq_true rfl) ?_
      exact hQ rd2 _ hrM (hkM.push rfl)
    refine r_aload_n (pc := 45) dX11_behind_45 rfl rfl ?_
    refine r_getr (pc := 46) (c := 11) (k := 55) (kz := 55) hs.o cok_11 (Nat.le_of_ble_eq_true rfl) q1915 ⟨rfl, rfl⟩ (Or.inl rfl) rfl (fun _ _ _ => rfl) hs.p_stack dX11_behind_46 ?_
    refine r_aload_n (pc := 49) dX11_behind_49 rfl rfl ?_
    refine r_geti (pc := 50) (c := 11) (k := 58) (kz := 58) hs.o cok_11 (Nat.le_of_ble_eq_true rfl) q1918 ⟨rfl, rfl⟩ (Or.inl rfl) rfl (fun _ _ _ => rfl) dX11_behind_50 (fun hr50 => ?_)
    try simp (disch := omega) only [ui_ur, ui_ur_n, ur_sv, ur_nv, ui_sv, ui_nv, ui_uis, us_s, us_n] at hr50 ⊢
    refine r_aload_n (pc := 53) dX11_behind_53 rfl rfl ?_
    refine r_ldc2 (pc := 54) (x := 6385252) q1851 dX11_behind_54 (by decide +kernel) ?_
    refine r_callV1 (pc := 57) (Y_isW (J := J) hs (by omega) fe_i) im_X11_isWord qs60 q2083 hs.o rfl dX11_behind_57 (Nat.le_of_ble_eq_true rfl) (Nat.le_of_ble_eq_true rfl) rfl (k_fi ?_) (fun _ _ _ _ _ _ _ hx => no_x hx)
    rw [hbz]
    refine r_if_eq (pc := 60) 68 dX11_behind_60 rfl (by omega) (fun h60 => ?_) (fun h60 => ?_)
    · obtain rfl : v = 12 := by omega
      refine r_bipush (pc := 68) dX11_behind_68 (by decide +kernel) ?_
      exact go
    obtain rfl : v = 11 := by omega
    refine r_bipush (pc := 63) dX11_behind_63 (by decide +kernel) ?_
    refine r_goto (pc := 65) 70 dX11_behind_65 rfl ?_
    exact go
  have joinw : (isW 6385252 s ∨ isW 28530 s) → PW G mX11_behind (rmD (dd + 2) 0 0) (MZ G Q nX 0 0) 0 0 (yH I m st σ rd1 s (N.1.length : Int) o (N.2.1.length : Int) N.2.2 1) (hJ J m s) P T z 24 [some (.ref m)] [] := by
    intro q
    refine r_aload_n (pc := 24) dX11_behind_24 rfl rfl ?_
    refine r_aload_n (pc := 25) dX11_behind_25 rfl rfl ?_
    refine r_ldc2 (pc := 26) (x := 6385252) q1851 dX11_behind_26 (by decide +kernel) ?_
    refine r_callV1 (pc := 29) (Y_isW (J := J) hs (by omega) fe_i) im_X11_isWord qs60 q2083 hs.o rfl dX11_behind_29 (Nat.le_of_ble_eq_true rfl) (Nat.le_of_ble_eq_true rfl) rfl (k_fi ?_) (fun _ _ _ _ _ _ _ hx => no_x hx)
    by_cases c1 : isW 6385252 s
    · rw [if_pos c1] at hQ1
      rw [bz_t c1]
      refine r_if_eq (pc := 32) 40 dX11_behind_32 rfl (by omega) (fun h32 => ?_) (fun h32 => ?_)
      · exact absurd h32 (by decide)
      refine r_bipush (pc := 35) dX11_behind_35 (by decide +kernel) ?_
      refine r_goto (pc := 37) 42 dX11_behind_37 rfl ?_
      refine r_callV1 (pc := 42) (Y_joins (dd := dd) hs (Or.inl rfl) (by omega) (by omega) N.2.1 N.1 rd1 (eq_rd (hJ J m s) P T z (y_jn 11 N.2.1 N.1).1 (fun rd' => yH I m st σ rd' s ((y_jn 11 N.2.1 N.1).1.length : Int) o ((y_jn 11 N.2.1 N.1).2.length : Int) N.2.2 1)) nk hr1 (by omega) nx (fun rd' h => er_i ⟨rfl, rfl, rfl, rfl, rd', h, rfl⟩)) im_X11_joins qs111 q2430 hs.o rfl dX11_behind_42 (Nat.le_of_ble_eq_true rfl) (Nat.le_of_ble_eq_true rfl) rfl (k_rd fun rd2 hr2 => ?_) (fun _ _ _ _ _ _ _ hx => no_x hx)
      refine fin 11 (y_jn 11 N.2.1 N.1) rd2 (Or.inl rfl) (by omega) hr2 k1 (bz_t c1) (fun rd' st' a b => ?_)
      have := hQ1 _ rfl rd' st' a b
      dsimp only at this
      rw [show (((11 :: (y_jn 11 N.2.1 N.1).2).length : Nat) : Int) = ((y_jn 11 N.2.1 N.1).2.length : Int) + 1 by simp] at this
      exact this
    have c2 : isW 28530 s := by
      rcases q with q | q
      · exact absurd q c1
      · exact q
    rw [if_neg c1, if_pos c2] at hQ1
    rw [bz_f c1]
    refine r_if_eq (pc := 32) 40 dX11_behind_32 rfl (by omega) (fun h32 => ?_) (fun h32 => ?_)
    · refine r_bipush (pc := 40) dX11_behind_40 (by decide +kernel) ?_
      refine r_callV1 (pc := 42) (Y_joins (dd := dd) hs (Or.inr rfl) (by omega) (by omega) N.2.1 N.1 rd1 (eq_rd (hJ J m s) P T z (y_jn 12 N.2.1 N.1).1 (fun rd' => yH I m st σ rd' s ((y_jn 12 N.2.1 N.1).1.length : Int) o ((y_jn 12 N.2.1 N.1).2.length : Int) N.2.2 1)) nk hr1 (by omega) nx (fun rd' h => er_i ⟨rfl, rfl, rfl, rfl, rd', h, rfl⟩)) im_X11_joins qs111 q2430 hs.o rfl dX11_behind_42 (Nat.le_of_ble_eq_true rfl) (Nat.le_of_ble_eq_true rfl) rfl (k_rd fun rd2 hr2 => ?_) (fun _ _ _ _ _ _ _ hx => no_x hx)
      refine fin 12 (y_jn 12 N.2.1 N.1) rd2 (Or.inr rfl) (by omega) hr2 k2 (bz_f c1) (fun rd' st' a b => ?_)
      have := hQ1 _ rfl rd' st' a b
      dsimp only at this
      rw [show (((12 :: (y_jn 12 N.2.1 N.1).2).length : Nat) : Int) = ((y_jn 12 N.2.1 N.1).2.length : Int) + 1 by simp] at this
      exact this
    exact absurd rfl h32
  refine r_aload_n (pc := 4) dX11_behind_4 rfl rfl ?_
  refine r_ldc2 (pc := 5) (x := 6385252) q1851 dX11_behind_5 (by decide +kernel) ?_
  refine r_callV1 (pc := 8) (Y_isW (J := J) hs (by omega) fe_i) im_X11_isWord qs60 q2083 hs.o rfl dX11_behind_8 (Nat.le_of_ble_eq_true rfl) (Nat.le_of_ble_eq_true rfl) rfl (k_fi ?_) (fun _ _ _ _ _ _ _ hx => no_x hx)
  refine r_if_ne (pc := 11) 24 dX11_behind_11 rfl bz_g (fun h11 => ?_) (fun h11 => ?_)
  · exact joinw (Or.inl (bz_ne.mp h11))
  have c1 := bz_0.mp h11
  refine r_aload_n (pc := 14) dX11_behind_14 rfl rfl ?_
  refine r_ldc2 (pc := 15) (x := 28530) q1850 dX11_behind_15 (by decide +kernel) ?_
  refine r_callV1 (pc := 18) (Y_isW (J := J) hs (by omega) fe_i) im_X11_isWord qs60 q2083 hs.o rfl dX11_behind_18 (Nat.le_of_ble_eq_true rfl) (Nat.le_of_ble_eq_true rfl) rfl (k_fi ?_) (fun _ _ _ _ _ _ _ hx => no_x hx)
  refine r_if_eq (pc := 21) 92 dX11_behind_21 rfl bz_g (fun h21 => ?_) (fun h21 => ?_)
  · have c2 := bz_0.mp h21
    rw [if_neg c1, if_neg c2] at hQ1 hQ0
    refine r_aload_n (pc := 92) dX11_behind_92 rfl rfl ?_
    refine r_bipush (pc := 93) dX11_behind_93 (by decide +kernel) ?_
    refine r_callV1 (pc := 95) (Y_joins (dd := dd) hs (Or.inr rfl) (by omega) (by omega) N.2.1 N.1 rd1 (eq_rd (hJ J m s) P T z (y_jn 12 N.2.1 N.1).1 (fun rd' => yH I m st σ rd' s ((y_jn 12 N.2.1 N.1).1.length : Int) o ((y_jn 12 N.2.1 N.1).2.length : Int) N.2.2 1)) nk hr1 (by omega) nx (fun rd' h => er_i ⟨rfl, rfl, rfl, rfl, rd', h, rfl⟩)) im_X11_joins qs111 q2430 hs.o rfl dX11_behind_95 (Nat.le_of_ble_eq_true rfl) (Nat.le_of_ble_eq_true rfl) rfl (k_rd fun rd2 hr2 => ?_) (fun _ _ _ _ _ _ _ hx => no_x hx)
    generalize y_jn 12 N.2.1 N.1 = M at *
    have bad : (¬ isG 41 s ∨ M.2 = []) → PW G mX11_behind (rmD (dd + 2) 0 0) (MZ G Q nX 0 0) 0 0 (yH I m st σ rd2 s (M.1.length : Int) o (M.2.length : Int) N.2.2 1) (hJ J m s) P T z 114 [some (.ref m)] [] := by
      intro q
      rw [if_pos q] at hQ0
      refine r_aload_n (pc := 114) dX11_behind_114 rfl rfl ?_
      refine r_iconst (pc := 115) dX11_behind_115 ?_
      refine r_callV1 (pc := 116) (Y_bad (J := J) hs (by omega) fe_i) im_X11_bad qs61 q2087 hs.o rfl dX11_behind_116 (Nat.le_of_ble_eq_true rfl) (Nat.le_of_ble_eq_true rfl) rfl (k_fi ?_) (fun _ _ _ _ _ _ _ hx => no_x hx)
      refine r_ireturn (pc := 119) rfl (nb_z (by omega)) dX11_behind_119 (Nat.le_of_ble_eq_true rfl) (Nat.le_of_ble_eq_true rfl) ?_
      exact hQ0 rfl _ _ _ _ _
    show PW G mX11_behind (rmD (dd + 2) 0 0) (MZ G Q nX 0 0) 0 0 (yH I m st σ rd2 s (M.1.length : Int) o (M.2.length : Int) N.2.2 1) (hJ J m s) P T z 98 [some (.ref m)] []
    refine r_aload_n (pc := 98) dX11_behind_98 rfl rfl ?_
    refine r_bipush (pc := 99) dX11_behind_99 (by decide +kernel) ?_
    refine r_callV1 (pc := 101) (Y_isG (J := J) hs (by omega) fe_i) im_X11_isSign qs67 q2114 hs.o rfl dX11_behind_101 (Nat.le_of_ble_eq_true rfl) (Nat.le_of_ble_eq_true rfl) rfl (k_fi ?_) (fun _ _ _ _ _ _ _ hx => no_x hx)
    refine r_if_eq (pc := 104) 114 dX11_behind_104 rfl bz_g (fun h104 => ?_) (fun h104 => ?_)
    · exact bad (Or.inl (bz_0.mp h104))
    have c3 := bz_ne.mp h104
    refine r_aload_n (pc := 107) dX11_behind_107 rfl rfl ?_
    refine r_geti (pc := 108) (c := 11) (k := 58) (kz := 58) hs.o cok_11 (Nat.le_of_ble_eq_true rfl) q1918 ⟨rfl, rfl⟩ (Or.inl rfl) rfl (fun _ _ _ => rfl) dX11_behind_108 (fun hr108 => ?_)
    try simp (disch := omega) only [ui_ur, ui_ur_n, ur_sv, ur_nv, ui_sv, ui_nv, ui_uis, us_s, us_n] at hr108 ⊢
    refine r_if_ne (pc := 111) 120 dX11_behind_111 rfl (by omega) (fun h111 => ?_) (fun h111 => ?_)
    · have cne : M.2 ≠ [] := fun q => h111 (by rw [q]; rfl)
      rw [if_neg (fun q => by rcases q with q | q; exact q c3; exact cne q)] at hQ1
      have tl : (M.2.tail.length : Int) = (M.2.length : Int) - 1 := by
        rw [List.length_tail]
        have := List.length_pos_iff.mpr cne
        omega
      have ktl : KL st M.2.tail := by
        cases hM : M.2 with
        | nil => exact absurd hM cne
        | cons a b => rw [hM] at k2; exact k2.2
      refine r_aload_n (pc := 120) dX11_behind_120 rfl rfl ?_
      refine r_dup (pc := 121) dX11_behind_121 rfl ?_
      refine r_geti (pc := 122) (c := 11) (k := 58) (kz := 58) hs.o cok_11 (Nat.le_of_ble_eq_true rfl) q1918 ⟨rfl, rfl⟩ (Or.inl rfl) rfl (fun _ _ _ => rfl) dX11_behind_122 (fun hr122 => ?_)
      try simp (disch := omega) only [ui_ur, ui_ur_n, ur_sv, ur_nv, ui_sv, ui_nv, ui_uis, us_s, us_n] at hr122 ⊢
      refine r_iconst (pc := 125) dX11_behind_125 ?_
      refine r_isub (pc := 126) dX11_behind_126 ?_
      refine r_puti (pc := 127) (c := 11) (k := 58) (kz := 58) hs.o cok_11 (Nat.le_of_ble_eq_true rfl) q1918 ⟨rfl, rfl⟩ (Or.inl rfl) rfl (by omega) rfl rfl (by omega) (fun _ _ _ => rfl) ⟨rfl, rfl⟩ dX11_behind_127 ?_
      try simp (disch := omega) only [ui_ur, ui_ur_n, ur_sv, ur_nv, ui_sv, ui_nv, ui_uis, us_s, us_n]
      rw [y5_58]
      refine r_aload_n (pc := 130) dX11_behind_130 rfl rfl ?_
      refine r_dup (pc := 131) dX11_behind_131 rfl ?_
      refine r_geti (pc := 132) (c := 11) (k := 59) (kz := 59) hs.o cok_11 (Nat.le_of_ble_eq_true rfl) q1919 ⟨rfl, rfl⟩ (Or.inl rfl) rfl (fun _ _ _ => rfl) dX11_behind_132 (fun hr132 => ?_)
      try simp (disch := omega) only [ui_ur, ui_ur_n, ur_sv, ur_nv, ui_sv, ui_nv, ui_uis, us_s, us_n] at hr132 ⊢
      refine r_iconst (pc := 135) dX11_behind_135 ?_
      refine r_isub (pc := 136) dX11_behind_136 ?_
      refine r_puti (pc := 137) (c := 11) (k := 59) (kz := 59) hs.o cok_11 (Nat.le_of_ble_eq_true rfl) q1919 ⟨rfl, rfl⟩ (Or.inl rfl) rfl (by omega) rfl rfl (by omega) (fun _ _ _ => rfl) ⟨rfl, rfl⟩ dX11_behind_137 ?_
      try simp (disch := omega) only [ui_ur, ui_ur_n, ur_sv, ur_nv, ui_sv, ui_nv, ui_uis, us_s, us_n]
      rw [y5_59]
      refine r_aload_n (pc := 140) dX11_behind_140 rfl rfl ?_
      refine r_callV0 (pc := 141) (Y_nx (J := J) hs hτ y1 fe_i) im_X11_next qs57 q2065 hs.o rfl dX11_behind_141 (Nat.le_of_ble_eq_true rfl) (Nat.le_of_ble_eq_true rfl) rfl (k_fv ?_) (fun _ _ _ _ _ _ _ hx => no_x hx)
      refine r_iconst (pc := 144) dX11_behind_144 ?_
      refine r_ireturn (pc := 145) rfl (nb_z (by omega)) dX11_behind_145 (Nat.le_of_ble_eq_true rfl) (Nat.le_of_ble_eq_true rfl) ?_
      have := hQ1 _ rfl rd2 st hr2 ktl
      dsimp only at this
      rw [tl] at this
      exact this
    refine bad (Or.inr ?_)
    have : M.2.length = 0 := by omega
    exact List.length_eq_zero_iff.mp this
  exact joinw (Or.inr (bz_ne.mp h21))
set_option maxHeartbeats 2000000 in
theorem M_sentence (hs : shM G P T m) (hτ : I (m + 1) = τ) (hρ : J (m + 6) = ρ) (h2 : 0 ≤ s.1 2 ∧ s.1 2 ≤ 940) (h1 : 0 ≤ σ 1 ∧ σ 1 ≤ 6)
    (hQ0 : ∀ r, Ends τ ρ (σ 1).toNat (Op (g_nx τ (g_s0 s)) [] [] 1 0) r → r.1 = 0 → ∀ st' rd' c' o' t' d' w', Q (some (iv (-1 - r.2.1.1 16))) (yH I m st' σ rd' r.2.1 c' o' t' d' w') (hJ J m r.2.1) P T z)
    (hQ1 : ∀ r, Ends τ ρ (σ 1).toNat (Op (g_nx τ (g_s0 s)) [] [] 1 0) r → r.1 = 1 → ∀ st' rd' σ' c' o' t' d' w', (∀ j, j < 584 → σ' j = σ j) → CDR σ' r.2.2.2 → Q (some (iv r.2.2.1)) (yH I m st' σ' rd' r.2.1 c' o' t' d' w') (hJ J m r.2.1) P T z) : MC G yX11_sentence (ws_ yX11_sentence cX11_sentence 3 (some FieldType.int)) (dd + 3) 0 0 [.ref m] (hI (ur (ur (ur I (m + 23) st) (m + 2) σ) (m + 4) rd) m s) (hJ J m s) P T z Q nX := by
  have hb := hs.b
  refine MC.of (by decide) (Nat.le_of_ble_eq_true rfl) ?_
  show PW G mX11_sentence (rmD (dd + 3) 0 0) (MZ G Q nX 0 0) 0 0 (hI (ur (ur (ur I (m + 23) st) (m + 2) σ) (m + 4) rd) m s) (hJ J m s) P T z 0 [some (.ref m), none, none] []
  refine r_aload_n (pc := 0) dX11_sentence_0 rfl rfl ?_
  refine r_iconst (pc := 1) dX11_sentence_1 ?_
  refine r_puti (pc := 2) (c := 11) (k := 0) (kz := 0) hs.o cok_11 (Nat.le_of_ble_eq_true rfl) q1860 ⟨rfl, rfl⟩ (Or.inl rfl) rfl (by omega) rfl rfl (by omega) (fun _ _ _ => rfl) ⟨rfl, rfl⟩ dX11_sentence_2 ?_
  try simp (disch := omega) only [ui_ur, ui_ur_n, ur_sv, ur_nv, ui_sv, ui_nv, ui_uis, us_s, us_n]
  refine r_aload_n (pc := 5) dX11_sentence_5 rfl rfl ?_
  refine r_sipush (pc := 6) dX11_sentence_6 (by decide +kernel) ?_
  refine r_callV1 (pc := 9) (M_taken (I := ur (ur (ur (ur I (m + 23) st) (m + 2) σ) (m + 4) rd) (m + 3) s.2.2.1) (ω := us s.1 0 0) hs (by omega) fe_i) im_X11_taken qs56 q2061 hs.o rfl dX11_sentence_9 (Nat.le_of_ble_eq_true rfl) (Nat.le_of_ble_eq_true rfl) rfl (k_fv ?_) (fun _ _ _ _ _ _ _ hx => no_x hx)
  try simp (disch := omega) only [ui_ur, ui_ur_n, ur_sv, ur_nv, ui_sv, ui_nv, ui_uis, us_s, us_n]
  refine r_aload_n (pc := 12) dX11_sentence_12 rfl rfl ?_
  refine r_iconst (pc := 13) dX11_sentence_13 ?_
  refine r_puti (pc := 14) (c := 11) (k := 15) (kz := 15) hs.o cok_11 (Nat.le_of_ble_eq_true rfl) q1875 ⟨rfl, rfl⟩ (Or.inl rfl) rfl (by omega) rfl rfl (by omega) (fun _ _ _ => rfl) ⟨rfl, rfl⟩ dX11_sentence_14 ?_
  try simp (disch := omega) only [ui_ur, ui_ur_n, ur_sv, ur_nv, ui_sv, ui_nv, ui_uis, us_s, us_n]
  refine r_aload_n (pc := 17) dX11_sentence_17 rfl rfl ?_
  refine r_iconst (pc := 18) dX11_sentence_18 ?_
  refine r_puti (pc := 19) (c := 11) (k := 56) (kz := 56) hs.o cok_11 (Nat.le_of_ble_eq_true rfl) q1916 ⟨rfl, rfl⟩ (Or.inl rfl) rfl (by omega) rfl rfl (by omega) (fun _ _ _ => rfl) ⟨rfl, rfl⟩ dX11_sentence_19 ?_
  try simp (disch := omega) only [ui_ur, ui_ur_n, ur_sv, ur_nv, ui_sv, ui_nv, ui_uis, us_s, us_n]
  refine r_aload_n (pc := 22) dX11_sentence_22 rfl rfl ?_
  refine r_iconst (pc := 23) dX11_sentence_23 ?_
  refine r_puti (pc := 24) (c := 11) (k := 57) (kz := 57) hs.o cok_11 (Nat.le_of_ble_eq_true rfl) q1917 ⟨rfl, rfl⟩ (Or.inl rfl) rfl (by omega) rfl rfl (by omega) (fun _ _ _ => rfl) ⟨rfl, rfl⟩ dX11_sentence_24 ?_
  try simp (disch := omega) only [ui_ur, ui_ur_n, ur_sv, ur_nv, ui_sv, ui_nv, ui_uis, us_s, us_n]
  refine r_aload_n (pc := 27) dX11_sentence_27 rfl rfl ?_
  refine r_iconst (pc := 28) dX11_sentence_28 ?_
  refine r_puti (pc := 29) (c := 11) (k := 58) (kz := 58) hs.o cok_11 (Nat.le_of_ble_eq_true rfl) q1918 ⟨rfl, rfl⟩ (Or.inl rfl) rfl (by omega) rfl rfl (by omega) (fun _ _ _ => rfl) ⟨rfl, rfl⟩ dX11_sentence_29 ?_
  try simp (disch := omega) only [ui_ur, ui_ur_n, ur_sv, ur_nv, ui_sv, ui_nv, ui_uis, us_s, us_n]
  refine r_aload_n (pc := 32) dX11_sentence_32 rfl rfl ?_
  refine r_iconst (pc := 33) dX11_sentence_33 ?_
  refine r_puti (pc := 34) (c := 11) (k := 59) (kz := 59) hs.o cok_11 (Nat.le_of_ble_eq_true rfl) q1919 ⟨rfl, rfl⟩ (Or.inl rfl) rfl (by omega) rfl rfl (by omega) (fun _ _ _ => rfl) ⟨rfl, rfl⟩ dX11_sentence_34 ?_
  try simp (disch := omega) only [ui_ur, ui_ur_n, ur_sv, ur_nv, ui_sv, ui_nv, ui_uis, us_s, us_n]
  refine r_aload_n (pc := 37) dX11_sentence_37 rfl rfl ?_
  refine r_iconst (pc := 38) dX11_sentence_38 ?_
  refine r_puti (pc := 39) (c := 11) (k := 60) (kz := 60) hs.o cok_11 (Nat.le_of_ble_eq_true rfl) q1920 ⟨rfl, rfl⟩ (Or.inl rfl) rfl (by omega) rfl rfl (by omega) (fun _ _ _ => rfl) ⟨rfl, rfl⟩ dX11_sentence_39 ?_
  try simp (disch := omega) only [ui_ur, ui_ur_n, ur_sv, ur_nv, ui_sv, ui_nv, ui_uis, us_s, us_n]
  show PW G mX11_sentence (rmD (dd + 3) 0 0) (MZ G Q nX 0 0) 0 0 (yH I m st σ rd (g_s0 s) 0 0 0 1 0) (hJ J m (g_s0 s)) P T z 42 [some (.ref m), none, none] []
  have g3 : (g_s0 s).1 3 = s.1 2 := by unfold g_s0; simp (disch := omega) only [us_n, us_s]
  have g4 : (g_s0 s).1 4 = 0 := by unfold g_s0; simp (disch := omega) only [us_n, us_s]
  have g5 : (g_s0 s).1 5 = 200 := by unfold g_s0; simp (disch := omega) only [us_n, us_s]
  generalize g_s0 s = s0 at *
  refine r_aload_n (pc := 42) dX11_sentence_42 rfl rfl ?_
  refine r_callV0 (pc := 43) (M_nx (I := ur (ur (ur I (m + 23) st) (m + 2) σ) (m + 4) rd) (J := J) (s := (y5 s0.1 0 0 0 1 0, s0.2)) (τ := τ) hs (by rw [ur_n (by omega), ur_n (by omega), ur_n (by omega)]; exact hτ) (by have e3 : y5 s0.1 0 0 0 1 0 3 = s0.1 3 := y5_n (by omega); have e4 : y5 s0.1 0 0 0 1 0 4 = s0.1 4 := y5_n (by omega); show 0 ≤ y5 s0.1 0 0 0 1 0 4 ∧ y5 s0.1 0 0 0 1 0 4 ≤ y5 s0.1 0 0 0 1 0 3 ∧ y5 s0.1 0 0 0 1 0 3 ≤ 940; rw [e3, e4]; omega) fe_i) im_X11_next qs57 q2065 hs.o rfl dX11_sentence_43 (Nat.le_of_ble_eq_true rfl) (Nat.le_of_ble_eq_true rfl) rfl (k_fv ?_) (fun _ _ _ _ _ _ _ hx => no_x hx)
  rw [y5_nx]
  have w1 : TI (g_nx τ s0).1 := TI_nx (by omega) (by omega) (by omega) (by omega)
  have loop : ∀ (k : Nat) (s1 : TS) (O : List CD) (S : List Int) (d o w : Int) (st rd : Int → Int) (l2 : Option Value), Mz s1 < k → YI (s1, O, S, d, o, w) → Sx S → KL st S → RL rd O → (∀ r, Ends τ ρ (σ 1).toNat (s1, O, S, d, o, w) r → r.1 = 0 → ∀ st' rd' c' o' t' d' w', Q (some (iv (-1 - r.2.1.1 16))) (yH I m st' σ rd' r.2.1 c' o' t' d' w') (hJ J m r.2.1) P T z) → (∀ r, Ends τ ρ (σ 1).toNat (s1, O, S, d, o, w) r → r.1 = 1 → ∀ st' rd' σ' c' o' t' d' w', (∀ j, j < 584 → σ' j = σ j) → CDR σ' r.2.2.2 → Q (some (iv r.2.2.1)) (yH I m st' σ' rd' r.2.1 c' o' t' d' w') (hJ J m r.2.1) P T z) → PW G mX11_sentence (rmD (dd + 3) 0 0) (MZ G Q nX 0 0) 0 0 (yH I m st σ rd s1 (O.length : Int) o (S.length : Int) d w) (hJ J m s1) P T z 48 [some (.ref m), some (iv 1), l2] [] := by
    intro k
    induction k with
    | zero =>
      intro s1 O S d o w st rd l2 hm hy
      have := Mz_r hy.1
      dsimp only at this
      omega
    | succ k ih =>
      intro s1 O S d o w st rd l2 hm hy hx hk hr hQ0 hQ1
      have hy0 := hy
      obtain ⟨y1, y2, y3, y4, y5', y6⟩ := hy0
      dsimp only at y1 y2 y3 y4 y5' y6
      have out : ∀ (s9 : TS) (st' rd' : Int → Int) (c' o' t' d' w' : Int), Ends τ ρ (σ 1).toNat (s1, O, S, d, o, w) (0, s9, 0, []) → (0 ≤ s9.1 16 ∧ s9.1 16 ≤ 940) → PW G mX11_sentence (rmD (dd + 3) 0 0) (MZ G Q nX 0 0) 0 0 (yH I m st' σ rd' s9 c' o' t' d' w') (hJ J m s9) P T z 125 [some (.ref m), some (iv 1), l2] [] := by
        intro s9 st' rd' c' o' t' d' w' he h16
        refine r_iconst (pc := 125) dX11_sentence_125 ?_
        refine r_aload_n (pc := 126) dX11_sentence_126 rfl rfl ?_
        refine r_geti (pc := 127) (c := 11) (k := 16) (kz := 16) hs.o cok_11 (Nat.le_of_ble_eq_true rfl) q1876 ⟨rfl, rfl⟩ (Or.inl rfl) rfl (fun _ _ _ => rfl) dX11_sentence_127 (fun hr127 => ?_)
        try simp (disch := omega) only [ui_ur, ui_ur_n, ur_sv, ur_nv, ui_sv, ui_nv, ui_uis, us_s, us_n] at hr127 ⊢
        refine r_isub (pc := 130) dX11_sentence_130 ?_
        refine r_ireturn (pc := 131) rfl rfl dX11_sentence_131 (Nat.le_of_ble_eq_true rfl) (Nat.le_of_ble_eq_true rfl) ?_
        exact hQ0 _ he rfl _ _ _ _ _ _ _
      refine r_iload_n (pc := 48) dX11_sentence_48 rfl rfl ?_
      refine r_if_eq (pc := 49) 132 dX11_sentence_49 rfl (by omega) (fun h49 => ?_) (fun h49 => ?_)
      · exact absurd h49 (by decide)
      refine r_aload_n (pc := 52) dX11_sentence_52 rfl rfl ?_
      refine r_geti (pc := 53) (c := 11) (k := 60) (kz := 60) hs.o cok_11 (Nat.le_of_ble_eq_true rfl) q1920 ⟨rfl, rfl⟩ (Or.inl rfl) rfl (fun _ _ _ => rfl) dX11_sentence_53 (fun hr53 => ?_)
      try simp (disch := omega) only [ui_ur, ui_ur_n, ur_sv, ur_nv, ui_sv, ui_nv, ui_uis, us_s, us_n] at hr53 ⊢
      rcases y3 with rfl | rfl
      · refine r_if_eq (pc := 56) 101 dX11_sentence_56 rfl (by omega) (fun h56 => ?_) (fun h56 => ?_)
        · refine r_aload_n (pc := 101) dX11_sentence_101 rfl rfl ?_
          refine r_geti (pc := 102) (c := 11) (k := 60) (kz := 60) hs.o cok_11 (Nat.le_of_ble_eq_true rfl) q1920 ⟨rfl, rfl⟩ (Or.inl rfl) rfl (fun _ _ _ => rfl) dX11_sentence_102 (fun hr102 => ?_)
          try simp (disch := omega) only [ui_ur, ui_ur_n, ur_sv, ur_nv, ui_sv, ui_nv, ui_uis, us_s, us_n] at hr102 ⊢
          refine r_if_eq (pc := 105) 118 dX11_sentence_105 rfl (by omega) (fun h105 => ?_) (fun h105 => ?_)
          · have est := stp_op (τ := τ) (ρ := ρ) (n := (σ 1).toNat) (s := s1) (O := O) (S := S) (d := d) (o := o)
            refine r_aload_n (pc := 118) dX11_sentence_118 rfl rfl ?_
            refine r_callV0 (pc := 119) (Y_operand (dd := dd) (J := J) (ρ := ρ) (τ := τ) (Q := fun v I' J' P' T' z' => P' = P ∧ T' = T ∧ z' = z ∧ ((v = some (iv 1) ∧ ∃ Y' rd' st', (y_opd τ ρ (σ 1).toNat (s1, O, S, d, o, 0)).1 = some Y' ∧ RL rd' Y'.2.1 ∧ KL st' Y'.2.2.1 ∧ I' = yH I m st' σ rd' Y'.1 (Y'.2.1.length : Int) Y'.2.2.2.2.1 (Y'.2.2.1.length : Int) Y'.2.2.2.1 Y'.2.2.2.2.2 ∧ J' = hJ J m Y'.1) ∨ (v = some (iv 0) ∧ (y_opd τ ρ (σ 1).toNat (s1, O, S, d, o, 0)).1 = none ∧ ∃ c' o' w', I' = yH I m st σ rd (y_opd τ ρ (σ 1).toNat (s1, O, S, d, o, 0)).2.2.1 c' o' (S.length : Int) d w' ∧ J' = hJ J m (y_opd τ ρ (σ 1).toNat (s1, O, S, d, o, 0)).2.2.1))) hs hτ hρ hy hk hr h1 (fun Y' e rd' st' a b => ⟨rfl, rfl, rfl, Or.inl ⟨rfl, Y', rd', st', e, a, b, rfl, rfl⟩⟩) (fun e c' o' w' => ⟨rfl, rfl, rfl, Or.inr ⟨rfl, e, c', o', w', rfl, rfl⟩⟩)) im_X11_operand qs113 q2438 hs.o rfl dX11_sentence_119 (Nat.le_of_ble_eq_true rfl) (Nat.le_of_ble_eq_true rfl) rfl (fun v I' J' P' T' z' hv => ?_) (fun _ _ _ _ _ _ _ hx => no_x hx)
            obtain ⟨rfl, rfl, rfl, hv⟩ := hv
            rcases hv with ⟨rfl, Y', rd', st', e, a, b, rfl, rfl⟩ | ⟨rfl, e, c', o', w', rfl, rfl⟩
            · obtain ⟨yi, sx, mz⟩ := opd_ok hy hx e
              show PW G mX11_sentence (rmD (dd + 3) 0 0) (MZ G Q nX 0 0) 0 0 (yH I m st' σ rd' Y'.1 (Y'.2.1.length : Int) Y'.2.2.2.2.1 (Y'.2.2.1.length : Int) Y'.2.2.2.1 Y'.2.2.2.2.2) (hJ J m Y'.1) P' T' z' 122 [some (.ref m), some (iv 1), l2] [iv 1]
              refine r_if_ne (pc := 122) 48 dX11_sentence_122 rfl (by omega) (fun h122 => ?_) (fun h122 => ?_)
              · exact ih Y'.1 Y'.2.1 Y'.2.2.1 Y'.2.2.2.1 Y'.2.2.2.2.1 Y'.2.2.2.2.2 st' rd' l2 (by omega) yi sx b a (fun r hr => hQ0 r (Ends.st (by rw [est]; exact e) hr)) (fun r hr => hQ1 r (Ends.st (by rw [est]; exact e) hr))
              exact absurd h122 (by decide)
            · show PW G mX11_sentence (rmD (dd + 3) 0 0) (MZ G Q nX 0 0) 0 0 (yH I m st σ rd (y_opd τ ρ (σ 1).toNat (s1, O, S, d, o, 0)).2.2.1 c' o' (S.length : Int) d w') (hJ J m (y_opd τ ρ (σ 1).toNat (s1, O, S, d, o, 0)).2.2.1) P' T' z' 122 [some (.ref m), some (iv 1), l2] [iv 0]
              refine r_if_ne (pc := 122) 48 dX11_sentence_122 rfl (by omega) (fun h122 => ?_) (fun h122 => ?_)
              · exact absurd rfl h122
              obtain ⟨e2, e3⟩ := opd_f hy e
              exact out _ _ _ _ _ _ _ _ (Ends.fin (by rw [est]; exact e2)) e3
          exact absurd rfl h105
        exact absurd rfl h56
      refine r_if_eq (pc := 56) 101 dX11_sentence_56 rfl (by omega) (fun h56 => ?_) (fun h56 => ?_)
      · exact absurd h56 (by decide)
      have est := stp_wh (τ := τ) (ρ := ρ) (n := (σ 1).toNat) (s := s1) (O := O) (S := S) (d := d) (o := o)
      refine r_aload_n (pc := 59) dX11_sentence_59 rfl rfl ?_
      refine r_geti (pc := 60) (c := 11) (k := 11) (kz := 11) hs.o cok_11 (Nat.le_of_ble_eq_true rfl) q1871 ⟨rfl, rfl⟩ (Or.inl rfl) rfl (fun _ _ _ => rfl) dX11_sentence_60 (fun hr60 => ?_)
      try simp (disch := omega) only [ui_ur, ui_ur_n, ur_sv, ur_nv, ui_sv, ui_nv, ui_uis, us_s, us_n] at hr60 ⊢
      refine r_if_ne (pc := 63) 101 dX11_sentence_63 rfl (by omega) (fun h63 => ?_) (fun h63 => ?_)
      · rw [if_neg h63] at est
        refine r_aload_n (pc := 101) dX11_sentence_101 rfl rfl ?_
        refine r_geti (pc := 102) (c := 11) (k := 60) (kz := 60) hs.o cok_11 (Nat.le_of_ble_eq_true rfl) q1920 ⟨rfl, rfl⟩ (Or.inl rfl) rfl (fun _ _ _ => rfl) dX11_sentence_102 (fun hr102 => ?_)
        try simp (disch := omega) only [ui_ur, ui_ur_n, ur_sv, ur_nv, ui_sv, ui_nv, ui_uis, us_s, us_n] at hr102 ⊢
        refine r_if_eq (pc := 105) 118 dX11_sentence_105 rfl (by omega) (fun h105 => ?_) (fun h105 => ?_)
        · exact absurd h105 (by decide)
        refine r_aload_n (pc := 108) dX11_sentence_108 rfl rfl ?_
        refine r_callV0 (pc := 109) (Y_behind (dd := dd) (J := J) (τ := τ) (Q := fun v I' J' P' T' z' => P' = P ∧ T' = T ∧ z' = z ∧ ((v = some (iv 1) ∧ ∃ Y' rd' st', (y_bhd τ s1 o (y_nt S O d)).1 = some Y' ∧ RL rd' Y'.2.1 ∧ KL st' Y'.2.2.1 ∧ I' = yH I m st' σ rd' Y'.1 (Y'.2.1.length : Int) Y'.2.2.2.2.1 (Y'.2.2.1.length : Int) Y'.2.2.2.1 Y'.2.2.2.2.2 ∧ J' = hJ J m Y'.1) ∨ (v = some (iv 0) ∧ (y_bhd τ s1 o (y_nt S O d)).1 = none ∧ ∃ rd' c' t' d' w', I' = yH I m st σ rd' (y_bhd τ s1 o (y_nt S O d)).2.2.1 c' o t' d' w' ∧ J' = hJ J m (y_bhd τ s1 o (y_nt S O d)).2.2.1))) hs hτ hy hx hk hr (fun Y' e rd' st' a b => ⟨rfl, rfl, rfl, Or.inl ⟨rfl, Y', rd', st', e, a, b, rfl, rfl⟩⟩) (fun e rd' c' t' d' w' => ⟨rfl, rfl, rfl, Or.inr ⟨rfl, e, rd', c', t', d', w', rfl, rfl⟩⟩)) im_X11_behind qs112 q2434 hs.o rfl dX11_sentence_109 (Nat.le_of_ble_eq_true rfl) (Nat.le_of_ble_eq_true rfl) rfl (fun v I' J' P' T' z' hv => ?_) (fun _ _ _ _ _ _ _ hx => no_x hx)
        obtain ⟨rfl, rfl, rfl, hv⟩ := hv
        rcases hv with ⟨rfl, Y', rd', st', e, a, b, rfl, rfl⟩ | ⟨rfl, e, rd', c', t', d', w', rfl, rfl⟩
        · obtain ⟨yi, sx, mz⟩ := bhd_ok hy hx e
          show PW G mX11_sentence (rmD (dd + 3) 0 0) (MZ G Q nX 0 0) 0 0 (yH I m st' σ rd' Y'.1 (Y'.2.1.length : Int) Y'.2.2.2.2.1 (Y'.2.2.1.length : Int) Y'.2.2.2.1 Y'.2.2.2.2.2) (hJ J m Y'.1) P' T' z' 112 [some (.ref m), some (iv 1), l2] [iv 1]
          refine r_if_ne (pc := 112) 48 dX11_sentence_112 rfl (by omega) (fun h112 => ?_) (fun h112 => ?_)
          · exact ih Y'.1 Y'.2.1 Y'.2.2.1 Y'.2.2.2.1 Y'.2.2.2.2.1 Y'.2.2.2.2.2 st' rd' l2 (by omega) yi sx b a (fun r hr => hQ0 r (Ends.st (by rw [est]; exact e) hr)) (fun r hr => hQ1 r (Ends.st (by rw [est]; exact e) hr))
          exact absurd h112 (by decide)
        · show PW G mX11_sentence (rmD (dd + 3) 0 0) (MZ G Q nX 0 0) 0 0 (yH I m st σ rd' (y_bhd τ s1 o (y_nt S O d)).2.2.1 c' o t' d' w') (hJ J m (y_bhd τ s1 o (y_nt S O d)).2.2.1) P' T' z' 112 [some (.ref m), some (iv 1), l2] [iv 0]
          refine r_if_ne (pc := 112) 48 dX11_sentence_112 rfl (by omega) (fun h112 => ?_) (fun h112 => ?_)
          · exact absurd rfl h112
          obtain ⟨e2, e3⟩ := bhd_f (N := y_nt S O d) (o := o) y1 e
          refine r_goto (pc := 115) 125 dX11_sentence_115 rfl ?_
          exact out _ _ _ _ _ _ _ _ (Ends.fin (by rw [est]; exact e2)) e3
      rw [if_pos h63] at est
      have nl := nt_len (S := S) (O := O) (d := d)
      have nk := nt_kl (st := st) (S := S) (O := O) (d := d) hk
      have nx : Sx (y_nt S O d).2.1 := fun x q => hx x (nt_mem q)
      refine r_aload_n (pc := 66) dX11_sentence_66 rfl rfl ?_
      refine r_callV0 (pc := 67) (Y_nots (dd := dd + 1) hs (by omega) S O d rd (eq_rd (hJ J m s1) P T z (y_nt S O d).1 (fun rd' => yH I m st σ rd' s1 ((y_nt S O d).1.length : Int) o ((y_nt S O d).2.1.length : Int) (y_nt S O d).2.2 1)) hk hr (by omega) hx (by omega) (fun rd' h => er_i ⟨rfl, rfl, rfl, rfl, rd', h, rfl⟩)) im_X11_nots qs109 q2422 hs.o rfl dX11_sentence_67 (Nat.le_of_ble_eq_true rfl) (Nat.le_of_ble_eq_true rfl) rfl (k_rd fun rd1 hr1 => ?_) (fun _ _ _ _ _ _ _ hx => no_x hx)
      generalize y_nt S O d = N at *
      have j2 := jn_len (t := 12) (S := N.2.1) (O := N.1)
      show PW G mX11_sentence (rmD (dd + 3) 0 0) (MZ G Q nX 0 0) 0 0 (yH I m st σ rd1 s1 (N.1.length : Int) o (N.2.1.length : Int) N.2.2 1) (hJ J m s1) P T z 70 [some (.ref m), some (iv 1), l2] []
      refine r_aload_n (pc := 70) dX11_sentence_70 rfl rfl ?_
      refine r_bipush (pc := 71) dX11_sentence_71 (by decide +kernel) ?_
      refine r_callV1 (pc := 73) (Y_joins (dd := dd + 1) hs (Or.inr rfl) (by omega) (by omega) N.2.1 N.1 rd1 (eq_rd (hJ J m s1) P T z (y_jn 12 N.2.1 N.1).1 (fun rd' => yH I m st σ rd' s1 ((y_jn 12 N.2.1 N.1).1.length : Int) o ((y_jn 12 N.2.1 N.1).2.length : Int) N.2.2 1)) nk hr1 (by omega) nx (fun rd' h => er_i ⟨rfl, rfl, rfl, rfl, rd', h, rfl⟩)) im_X11_joins qs111 q2430 hs.o rfl dX11_sentence_73 (Nat.le_of_ble_eq_true rfl) (Nat.le_of_ble_eq_true rfl) rfl (k_rd fun rd2 hr2 => ?_) (fun _ _ _ _ _ _ _ hx => no_x hx)
      unfold y_end at est
      generalize y_jn 12 N.2.1 N.1 = M at *
      show PW G mX11_sentence (rmD (dd + 3) 0 0) (MZ G Q nX 0 0) 0 0 (yH I m st σ rd2 s1 (M.1.length : Int) o (M.2.length : Int) N.2.2 1) (hJ J m s1) P T z 76 [some (.ref m), some (iv 1), l2] []
      refine r_aload_n (pc := 76) dX11_sentence_76 rfl rfl ?_
      refine r_geti (pc := 77) (c := 11) (k := 58) (kz := 58) hs.o cok_11 (Nat.le_of_ble_eq_true rfl) q1918 ⟨rfl, rfl⟩ (Or.inl rfl) rfl (fun _ _ _ => rfl) dX11_sentence_77 (fun hr77 => ?_)
      try simp (disch := omega) only [ui_ur, ui_ur_n, ur_sv, ur_nv, ui_sv, ui_nv, ui_uis, us_s, us_n] at hr77 ⊢
      refine r_if_le (pc := 80) 96 dX11_sentence_80 rfl (by omega) (fun h80 => ?_) (fun h80 => ?_)
      · have e0 : M.2 = [] := List.length_eq_zero_iff.mp (by omega)
        rw [if_neg (fun c => c e0)] at est
        have hQ1 := hQ1 _ (Ends.fin est) rfl
        refine r_iconst (pc := 96) dX11_sentence_96 ?_
        refine r_istore_n1 (pc := 97) (Nat.le_of_ble_eq_true rfl) dX11_sentence_97 rfl ?_
        refine r_goto (pc := 98) 48 dX11_sentence_98 rfl ?_
        refine r_iload_n (pc := 48) dX11_sentence_48 rfl rfl ?_
        refine r_if_eq (pc := 49) 132 dX11_sentence_49 rfl (by omega) (fun h49 => ?_) (fun h49 => ?_)
        · refine r_aload_n (pc := 132) dX11_sentence_132 rfl rfl ?_
          refine r_getr (pc := 133) (c := 11) (k := 6) (kz := 6) hs.o cok_11 (Nat.le_of_ble_eq_true rfl) q1866 ⟨rfl, rfl⟩ (Or.inl rfl) rfl (fun _ _ _ => rfl) hs.p_s dX11_sentence_133 ?_
          refine r_sipush (pc := 136) dX11_sentence_136 (by decide +kernel) ?_
          refine r_aload_n (pc := 139) dX11_sentence_139 rfl rfl ?_
          refine r_geti (pc := 140) (c := 11) (k := 56) (kz := 56) hs.o cok_11 (Nat.le_of_ble_eq_true rfl) q1916 ⟨rfl, rfl⟩ (Or.inl rfl) rfl (fun _ _ _ => rfl) dX11_sentence_140 (fun hr140 => ?_)
          try simp (disch := omega) only [ui_ur, ui_ur_n, ur_sv, ur_nv, ui_sv, ui_nv, ui_uis, us_s, us_n] at hr140 ⊢
          refine r_iast (pc := 143) hs.t_s (by omega) (by omega) (by omega) (by omega) dX11_sentence_143 ?_
          try simp (disch := omega) only [ui_ur, ui_ur_n, ur_sv, ur_nv, ui_sv, ui_nv, ui_uis, us_s, us_n]
          have cp : ∀ (k : Nat) (i : Int), 0 ≤ i → i ≤ 3 * (M.1.length : Int) → 3 * (M.1.length : Int) - i = k → PW G mX11_sentence (rmD (dd + 3) 0 0) (MZ G Q nX 0 0) 0 0 (yH I m st (cp3 rd2 (us σ 584 (M.1.length : Int)) i) rd2 s1 (M.1.length : Int) o (M.2.length : Int) N.2.2 1) (hJ J m s1) P T z 146 [some (.ref m), some (iv 0), some (iv i)] [] := by
            intro k
            induction k with
            | zero =>
              intro i i0 i1 ik
              obtain rfl : i = 3 * (M.1.length : Int) := by omega
              refine r_iload_n (pc := 146) dX11_sentence_146 rfl rfl ?_
              refine r_iconst (pc := 147) dX11_sentence_147 ?_
              refine r_aload_n (pc := 148) dX11_sentence_148 rfl rfl ?_
              refine r_geti (pc := 149) (c := 11) (k := 56) (kz := 56) hs.o cok_11 (Nat.le_of_ble_eq_true rfl) q1916 ⟨rfl, rfl⟩ (Or.inl rfl) rfl (fun _ _ _ => rfl) dX11_sentence_149 (fun hr149 => ?_)
              try simp (disch := omega) only [ui_ur, ui_ur_n, ur_sv, ur_nv, ui_sv, ui_nv, ui_uis, us_s, us_n] at hr149 ⊢
              refine r_imul (pc := 152) dX11_sentence_152 ?_
              refine r_icmp_ge (pc := 153) 178 dX11_sentence_153 rfl (by omega) (by omega) (fun h153 => ?_) (fun h153 => ?_)
              · refine r_aload_n (pc := 178) dX11_sentence_178 rfl rfl ?_
                refine r_geti (pc := 179) (c := 11) (k := 57) (kz := 57) hs.o cok_11 (Nat.le_of_ble_eq_true rfl) q1917 ⟨rfl, rfl⟩ (Or.inl rfl) rfl (fun _ _ _ => rfl) dX11_sentence_179 (fun hr179 => ?_)
                try simp (disch := omega) only [ui_ur, ui_ur_n, ur_sv, ur_nv, ui_sv, ui_nv, ui_uis, us_s, us_n] at hr179 ⊢
                refine r_ireturn (pc := 182) rfl rfl dX11_sentence_182 (Nat.le_of_ble_eq_true rfl) (Nat.le_of_ble_eq_true rfl) ?_
                refine hQ1 st rd2 _ _ _ _ _ _ (fun j q => ?_) (cp3_cdr hr2)
                unfold cp3
                rw [if_neg (by omega), us_n (by omega)]
              omega
            | succ k ih2 =>
              intro i i0 i1 ik
              have nx := ih2 (i + 1) (by omega) (by omega) (by omega)
              rw [← cp3_us i0] at nx
              refine r_iload_n (pc := 146) dX11_sentence_146 rfl rfl ?_
              refine r_iconst (pc := 147) dX11_sentence_147 ?_
              refine r_aload_n (pc := 148) dX11_sentence_148 rfl rfl ?_
              refine r_geti (pc := 149) (c := 11) (k := 56) (kz := 56) hs.o cok_11 (Nat.le_of_ble_eq_true rfl) q1916 ⟨rfl, rfl⟩ (Or.inl rfl) rfl (fun _ _ _ => rfl) dX11_sentence_149 (fun hr149 => ?_)
              try simp (disch := omega) only [ui_ur, ui_ur_n, ur_sv, ur_nv, ui_sv, ui_nv, ui_uis, us_s, us_n] at hr149 ⊢
              refine r_imul (pc := 152) dX11_sentence_152 ?_
              refine r_icmp_ge (pc := 153) 178 dX11_sentence_153 rfl (by omega) (by omega) (fun h153 => ?_) (fun h153 => ?_)
              · omega
              refine r_aload_n (pc := 156) dX11_sentence_156 rfl rfl ?_
              refine r_getr (pc := 157) (c := 11) (k := 6) (kz := 6) hs.o cok_11 (Nat.le_of_ble_eq_true rfl) q1866 ⟨rfl, rfl⟩ (Or.inl rfl) rfl (fun _ _ _ => rfl) hs.p_s dX11_sentence_157 ?_
              refine r_sipush (pc := 160) dX11_sentence_160 (by decide +kernel) ?_
              refine r_iload_n (pc := 163) dX11_sentence_163 rfl rfl ?_
              refine r_iadd (pc := 164) dX11_sentence_164 ?_
              refine r_aload_n (pc := 165) dX11_sentence_165 rfl rfl ?_
              refine r_getr (pc := 166) (c := 11) (k := 8) (kz := 8) hs.o cok_11 (Nat.le_of_ble_eq_true rfl) q1868 ⟨rfl, rfl⟩ (Or.inl rfl) rfl (fun _ _ _ => rfl) hs.p_read dX11_sentence_166 ?_
              refine r_iload_n (pc := 169) dX11_sentence_169 rfl rfl ?_
              refine r_iald (pc := 170) hs.t_read (by omega) (by omega) dX11_sentence_170 (fun hr170 => ?_)
              try simp (disch := omega) only [ui_ur, ui_ur_n, ur_sv, ur_nv, ui_sv, ui_nv, ui_uis, us_s, us_n] at hr170 ⊢
              refine r_iast (pc := 171) hs.t_s (by omega) (by omega) (by omega) (by omega) dX11_sentence_171 ?_
              try simp (disch := omega) only [ui_ur, ui_ur_n, ur_sv, ur_nv, ui_sv, ui_nv, ui_uis, us_s, us_n]
              refine r_iinc2 (pc := 172) (Nat.le_of_ble_eq_true rfl) dX11_sentence_172 rfl ?_
              refine r_goto (pc := 175) 146 dX11_sentence_175 rfl ?_
              exact nx
          refine r_iconst (pc := 144) dX11_sentence_144 ?_
          refine r_istore_n2 (pc := 145) (Nat.le_of_ble_eq_true rfl) dX11_sentence_145 rfl ?_
          have l9 := cp (3 * M.1.length) 0 (by omega) (by omega) (by omega)
          rw [cp3_0] at l9
          exact l9
        exact absurd rfl h49
      have cne : M.2 ≠ [] := fun q => by rw [q] at h80; exact absurd h80 (by decide)
      rw [if_pos cne] at est
      refine r_aload_n (pc := 83) dX11_sentence_83 rfl rfl ?_
      refine r_iconst (pc := 84) dX11_sentence_84 ?_
      refine r_callV1 (pc := 85) (Y_bad (J := J) hs (by omega) fe_i) im_X11_bad qs61 q2087 hs.o rfl dX11_sentence_85 (Nat.le_of_ble_eq_true rfl) (Nat.le_of_ble_eq_true rfl) rfl (k_fi ?_) (fun _ _ _ _ _ _ _ hx => no_x hx)
      have b16 := bad16 (s := s1) (k := 1) y1
      refine r_pop (pc := 88) dX11_sentence_88 rfl ?_
      refine r_iconst (pc := 89) dX11_sentence_89 ?_
      refine r_aload_n (pc := 90) dX11_sentence_90 rfl rfl ?_
      refine r_geti (pc := 91) (c := 11) (k := 16) (kz := 16) hs.o cok_11 (Nat.le_of_ble_eq_true rfl) q1876 ⟨rfl, rfl⟩ (Or.inl rfl) rfl (fun _ _ _ => rfl) dX11_sentence_91 (fun hr91 => ?_)
      try simp (disch := omega) only [ui_ur, ui_ur_n, ur_sv, ur_nv, ui_sv, ui_nv, ui_uis, us_s, us_n] at hr91 ⊢
      refine r_isub (pc := 94) dX11_sentence_94 ?_
      refine r_ireturn (pc := 95) rfl rfl dX11_sentence_95 (Nat.le_of_ble_eq_true rfl) (Nat.le_of_ble_eq_true rfl) ?_
      exact hQ0 _ (Ends.fin est) rfl _ _ _ _ _ _ _
  have mz := Mz_r w1
  refine r_iconst (pc := 46) dX11_sentence_46 ?_
  refine r_istore_n1 (pc := 47) (Nat.le_of_ble_eq_true rfl) dX11_sentence_47 rfl ?_
  exact loop 942 (g_nx τ s0) [] [] 1 0 0 st rd none (by omega) ⟨w1, by dsimp only; omega, Or.inl rfl, by dsimp only; simp, by dsimp only; omega, by dsimp only; simp⟩ (fun x q => by cases q) trivial (fun i c hc => by simp at hc) hQ0 hQ1
end M32
