/-! ===== the model: images, reply ===== -/
/-- n places of a row from a place on are copied -/
def cpr (u : Int → Int) (at_ : Int) (f : Int → Int) (i : Int) : Int → Int := fun j => if at_ ≤ j ∧ j < at_ + i then f (j - at_) else u j
theorem cpr_0 {u f : Int → Int} {a : Int} : cpr u a f 0 = u := by funext j; unfold cpr; rw [if_neg (by omega)]
theorem cpr_s {u f : Int → Int} {a i : Int} (h : 0 ≤ i) : us (cpr u a f i) (a + i) (f i) = cpr u a f (i + 1) := by
  funext j
  simp only [us, cpr]
  by_cases e : j = a + i
  · rw [if_pos e, if_pos (by omega), show j - a = i by omega]
  · rw [if_neg e]
    by_cases q : a ≤ j ∧ j < a + i
    · rw [if_pos q, if_pos (by omega)]
    · rw [if_neg q, if_neg (by omega)]
section L8
variable {G : GE} {I J : HI} {P : HP} {T : HT} {z : Nat} {m d : Nat} {Q : QT} {σ u q ω ν κ : Int → Int}
theorem M_image (hs : shM G P T m) {k : Int} (hk : rg k)
    (hQ : if 0 ≤ k ∧ k ≤ 1 then Q (some (iv 1)) (ur (ur (ur (ur I (m + 25) (cpr u (765 * k) σ 765)) (m + 27) (us q k 1)) m (us ω 0 0)) (m + 2) σ) (ur (ur J (m + 26) (cpr κ (6 * k) ν 6)) (m + 5) ν) P T z else Q (some (iv 0)) (ur (ur (ur (ur I (m + 25) u) (m + 27) q) m (us ω 0 0)) (m + 2) σ) (ur (ur J (m + 26) κ) (m + 5) ν) P T z) : MC G yX11_image (ws_ yX11_image cX11_image 3 (some FieldType.boolean)) (d + 1) 0 0 [.ref m, iv k] (ur (ur (ur (ur I (m + 25) u) (m + 27) q) m ω) (m + 2) σ) (ur (ur J (m + 26) κ) (m + 5) ν) P T z Q nX := by
  have hb := hs.b
  refine MC.of (by decide) (Nat.le_of_ble_eq_true rfl) ?_
  show PW G mX11_image (rmD (d + 1) 0 0) (MZ G Q nX 0 0) 0 0 (ur (ur (ur (ur I (m + 25) u) (m + 27) q) m ω) (m + 2) σ) (ur (ur J (m + 26) κ) (m + 5) ν) P T z 0 [some (.ref m), some (iv k), none] []
  refine r_aload_n (pc := 0) dX11_image_0 rfl rfl ?_
  refine r_iconst (pc := 1) dX11_image_1 ?_
  refine r_puti (pc := 2) (c := 11) (k := 0) (kz := 0) hs.o cok_11 (Nat.le_of_ble_eq_true rfl) q1860 ⟨rfl, rfl⟩ (Or.inl rfl) rfl (by omega) rfl rfl (by omega) (fun _ _ _ => rfl) ⟨rfl, rfl⟩ dX11_image_2 ?_
  try simp (disch := omega) only [ui_ur, ui_ur_n, ur_sv, ur_nv, ui_sv, ui_nv, ui_uis, us_s, us_n]
  refine r_iload_n (pc := 5) dX11_image_5 rfl rfl ?_
  refine r_iconst (pc := 6) dX11_image_6 ?_
  refine r_iconst (pc := 7) dX11_image_7 ?_
  refine r_callS3 (pc := 8) (M_isIn (by omega) (by omega) (by omega) fe_i) im_X11_isIn q2095 dX11_image_8 (Nat.le_of_ble_eq_true rfl) (Nat.le_of_ble_eq_true rfl) rfl (k_fi ?_) (fun _ _ _ _ _ _ _ hx => no_x hx)
  refine r_if_ne (pc := 11) 16 dX11_image_11 rfl bz_g (fun h11 => ?_) (fun h11 => ?_)
  · have q1 := bz_ne.mp h11
    rw [if_pos q1] at hQ
    refine r_iconst (pc := 16) dX11_image_16 ?_
    refine r_istore_n2 (pc := 17) (Nat.le_of_ble_eq_true rfl) dX11_image_17 rfl ?_
    have loop2 : ∀ (n : Nat) (i : Int), 0 ≤ i → i + n = 6 → PW G mX11_image (rmD (d + 1) 0 0) (MZ G Q nX 0 0) 0 0 (ur (ur (ur (ur I (m + 25) (cpr u (765 * k) σ 765)) (m + 27) q) m (us ω 0 0)) (m + 2) σ) (ur (ur J (m + 26) (cpr κ (6 * k) ν i)) (m + 5) ν) P T z 51 [some (.ref m), some (iv k), some (iv i)] [] := by
      intro n
      induction n with
      | zero =>
        intro i h0 h1
        obtain rfl : i = 6 := by omega
        refine r_iload_n (pc := 51) dX11_image_51 rfl rfl ?_
        refine r_bipush (pc := 52) dX11_image_52 (by decide +kernel) ?_
        refine r_icmp_ge (pc := 54) 80 dX11_image_54 rfl (by omega) (by omega) (fun h54 => ?_) (fun h54 => ?_)
        · refine r_aload_n (pc := 80) dX11_image_80 rfl rfl ?_
          refine r_getr (pc := 81) (c := 11) (k := 64) (kz := 64) hs.o cok_11 (Nat.le_of_ble_eq_true rfl) q1924 ⟨rfl, rfl⟩ (Or.inl rfl) rfl (fun _ _ _ => rfl) hs.p_isKept dX11_image_81 ?_
          refine r_iload_n (pc := 84) dX11_image_84 rfl rfl ?_
          refine r_iconst (pc := 85) dX11_image_85 ?_
          refine r_zast (pc := 86) hs.t_isKept (by omega) (by omega) (by omega) (by omega) dX11_image_86 ?_
          try simp (disch := omega) only [ui_ur, ui_ur_n, ur_sv, ur_nv, ui_sv, ui_nv, ui_uis, us_s, us_n]
          refine r_iconst (pc := 87) dX11_image_87 ?_
          refine r_ireturn (pc := 88) rfl (nb_z (by omega)) dX11_image_88 (Nat.le_of_ble_eq_true rfl) (Nat.le_of_ble_eq_true rfl) ?_
          exact hQ
        omega
      | succ n ih =>
        intro i h0 h1
        refine r_iload_n (pc := 51) dX11_image_51 rfl rfl ?_
        refine r_bipush (pc := 52) dX11_image_52 (by decide +kernel) ?_
        refine r_icmp_ge (pc := 54) 80 dX11_image_54 rfl (by omega) (by omega) (fun h54 => ?_) (fun h54 => ?_)
        · omega
        refine r_aload_n (pc := 57) dX11_image_57 rfl rfl ?_
        refine r_getr (pc := 58) (c := 11) (k := 63) (kz := 63) hs.o cok_11 (Nat.le_of_ble_eq_true rfl) q1923 ⟨rfl, rfl⟩ (Or.inl rfl) rfl (fun _ _ _ => rfl) hs.p_namesKept dX11_image_58 ?_
        refine r_bipush (pc := 61) dX11_image_61 (by decide +kernel) ?_
        refine r_iload_n (pc := 63) dX11_image_63 rfl rfl ?_
        refine r_imul (pc := 64) dX11_image_64 ?_
        refine r_iload_n (pc := 65) dX11_image_65 rfl rfl ?_
        refine r_iadd (pc := 66) dX11_image_66 ?_
        refine r_aload_n (pc := 67) dX11_image_67 rfl rfl ?_
        refine r_getr (pc := 68) (c := 11) (k := 9) (kz := 9) hs.o cok_11 (Nat.le_of_ble_eq_true rfl) q1869 ⟨rfl, rfl⟩ (Or.inl rfl) rfl (fun _ _ _ => rfl) hs.p_names dX11_image_68 ?_
        refine r_iload_n (pc := 71) dX11_image_71 rfl rfl ?_
        refine r_lald (pc := 72) hs.t_names (by omega) (by omega) dX11_image_72 (fun hr72 => ?_)
        try simp (disch := omega) only [ui_ur, ui_ur_n, ur_sv, ur_nv, ui_sv, ui_nv, ui_uis, us_s, us_n] at hr72 ⊢
        refine r_last (pc := 73) hs.t_namesKept (by omega) (by omega) (by omega) hr72 dX11_image_73 ?_
        try simp (disch := omega) only [ui_ur, ui_ur_n, ur_sv, ur_nv, ui_sv, ui_nv, ui_uis, us_s, us_n]
        rw [cpr_s h0]
        refine r_iinc2 (pc := 74) (Nat.le_of_ble_eq_true rfl) dX11_image_74 rfl ?_
        refine r_goto (pc := 77) 51 dX11_image_77 rfl ?_
        exact ih (i + 1) (by omega) (by omega)
    have loop1 : ∀ (n : Nat) (i : Int), 0 ≤ i → i + n = 765 → PW G mX11_image (rmD (d + 1) 0 0) (MZ G Q nX 0 0) 0 0 (ur (ur (ur (ur I (m + 25) (cpr u (765 * k) σ i)) (m + 27) q) m (us ω 0 0)) (m + 2) σ) (ur (ur J (m + 26) κ) (m + 5) ν) P T z 18 [some (.ref m), some (iv k), some (iv i)] [] := by
      intro n
      induction n with
      | zero =>
        intro i h0 h1
        obtain rfl : i = 765 := by omega
        refine r_iload_n (pc := 18) dX11_image_18 rfl rfl ?_
        refine r_sipush (pc := 19) dX11_image_19 (by decide +kernel) ?_
        refine r_icmp_ge (pc := 22) 49 dX11_image_22 rfl (by omega) (by omega) (fun h22 => ?_) (fun h22 => ?_)
        · refine r_iconst (pc := 49) dX11_image_49 ?_
          refine r_istore_n2 (pc := 50) (Nat.le_of_ble_eq_true rfl) dX11_image_50 rfl ?_
          have := loop2 6 0 (by omega) (by omega)
          rw [cpr_0] at this
          exact this
        omega
      | succ n ih =>
        intro i h0 h1
        refine r_iload_n (pc := 18) dX11_image_18 rfl rfl ?_
        refine r_sipush (pc := 19) dX11_image_19 (by decide +kernel) ?_
        refine r_icmp_ge (pc := 22) 49 dX11_image_22 rfl (by omega) (by omega) (fun h22 => ?_) (fun h22 => ?_)
        · omega
        refine r_aload_n (pc := 25) dX11_image_25 rfl rfl ?_
        refine r_getr (pc := 26) (c := 11) (k := 62) (kz := 62) hs.o cok_11 (Nat.le_of_ble_eq_true rfl) q1922 ⟨rfl, rfl⟩ (Or.inl rfl) rfl (fun _ _ _ => rfl) hs.p_kept dX11_image_26 ?_
        refine r_sipush (pc := 29) dX11_image_29 (by decide +kernel) ?_
        refine r_iload_n (pc := 32) dX11_image_32 rfl rfl ?_
        refine r_imul (pc := 33) dX11_image_33 ?_
        refine r_iload_n (pc := 34) dX11_image_34 rfl rfl ?_
        refine r_iadd (pc := 35) dX11_image_35 ?_
        refine r_aload_n (pc := 36) dX11_image_36 rfl rfl ?_
        refine r_getr (pc := 37) (c := 11) (k := 6) (kz := 6) hs.o cok_11 (Nat.le_of_ble_eq_true rfl) q1866 ⟨rfl, rfl⟩ (Or.inl rfl) rfl (fun _ _ _ => rfl) hs.p_s dX11_image_37 ?_
        refine r_iload_n (pc := 40) dX11_image_40 rfl rfl ?_
        refine r_iald (pc := 41) hs.t_s (by omega) (by omega) dX11_image_41 (fun hr41 => ?_)
        try simp (disch := omega) only [ui_ur, ui_ur_n, ur_sv, ur_nv, ui_sv, ui_nv, ui_uis, us_s, us_n] at hr41 ⊢
        refine r_iast (pc := 42) hs.t_kept (by omega) (by omega) (by omega) hr41 dX11_image_42 ?_
        try simp (disch := omega) only [ui_ur, ui_ur_n, ur_sv, ur_nv, ui_sv, ui_nv, ui_uis, us_s, us_n]
        rw [cpr_s h0]
        refine r_iinc2 (pc := 43) (Nat.le_of_ble_eq_true rfl) dX11_image_43 rfl ?_
        refine r_goto (pc := 46) 18 dX11_image_46 rfl ?_
        exact ih (i + 1) (by omega) (by omega)
    have := loop1 765 0 (by omega) (by omega)
    rw [cpr_0] at this
    exact this
  rw [if_neg (bz_0.mp h11)] at hQ
  refine r_iconst (pc := 14) dX11_image_14 ?_
  refine r_ireturn (pc := 15) rfl (nb_z (by omega)) dX11_image_15 (Nat.le_of_ble_eq_true rfl) (Nat.le_of_ble_eq_true rfl) ?_
  exact hQ
theorem M_restore (hs : shM G P T m) {k : Int} (hk : rg k)
    (hQ : if (0 ≤ k ∧ k ≤ 1) ∧ q k ≠ 0 then Q (some (iv 1)) (ur (ur (ur (ur I (m + 25) u) (m + 27) q) m (us (us ω 0 0) 27 0)) (m + 2) (cpr σ 0 (fun j => u (765 * k + j)) 765)) (ur (ur J (m + 26) κ) (m + 5) (cpr ν 0 (fun j => κ (6 * k + j)) 6)) P T z else Q (some (iv 0)) (ur (ur (ur (ur I (m + 25) u) (m + 27) q) m (us ω 0 0)) (m + 2) σ) (ur (ur J (m + 26) κ) (m + 5) ν) P T z) : MC G yX11_restore (ws_ yX11_restore cX11_restore 3 (some FieldType.boolean)) (d + 1) 0 0 [.ref m, iv k] (ur (ur (ur (ur I (m + 25) u) (m + 27) q) m ω) (m + 2) σ) (ur (ur J (m + 26) κ) (m + 5) ν) P T z Q nX := by
  have hb := hs.b
  refine MC.of (by decide) (Nat.le_of_ble_eq_true rfl) ?_
  show PW G mX11_restore (rmD (d + 1) 0 0) (MZ G Q nX 0 0) 0 0 (ur (ur (ur (ur I (m + 25) u) (m + 27) q) m ω) (m + 2) σ) (ur (ur J (m + 26) κ) (m + 5) ν) P T z 0 [some (.ref m), some (iv k), none] []
  have bad : ¬ ((0 ≤ k ∧ k ≤ 1) ∧ q k ≠ 0) → PW G mX11_restore (rmD (d + 1) 0 0) (MZ G Q nX 0 0) 0 0 (ur (ur (ur (ur I (m + 25) u) (m + 27) q) m (us ω 0 0)) (m + 2) σ) (ur (ur J (m + 26) κ) (m + 5) ν) P T z 23 [some (.ref m), some (iv k), none] [] := by
    intro c
    rw [if_neg c] at hQ
    refine r_iconst (pc := 23) dX11_restore_23 ?_
    refine r_ireturn (pc := 24) rfl (nb_z (by omega)) dX11_restore_24 (Nat.le_of_ble_eq_true rfl) (Nat.le_of_ble_eq_true rfl) ?_
    exact hQ
  refine r_aload_n (pc := 0) dX11_restore_0 rfl rfl ?_
  refine r_iconst (pc := 1) dX11_restore_1 ?_
  refine r_puti (pc := 2) (c := 11) (k := 0) (kz := 0) hs.o cok_11 (Nat.le_of_ble_eq_true rfl) q1860 ⟨rfl, rfl⟩ (Or.inl rfl) rfl (by omega) rfl rfl (by omega) (fun _ _ _ => rfl) ⟨rfl, rfl⟩ dX11_restore_2 ?_
  try simp (disch := omega) only [ui_ur, ui_ur_n, ur_sv, ur_nv, ui_sv, ui_nv, ui_uis, us_s, us_n]
  refine r_iload_n (pc := 5) dX11_restore_5 rfl rfl ?_
  refine r_iconst (pc := 6) dX11_restore_6 ?_
  refine r_iconst (pc := 7) dX11_restore_7 ?_
  refine r_callS3 (pc := 8) (M_isIn (by omega) (by omega) (by omega) fe_i) im_X11_isIn q2095 dX11_restore_8 (Nat.le_of_ble_eq_true rfl) (Nat.le_of_ble_eq_true rfl) rfl (k_fi ?_) (fun _ _ _ _ _ _ _ hx => no_x hx)
  refine r_if_eq (pc := 11) 23 dX11_restore_11 rfl bz_g (fun h11 => ?_) (fun h11 => ?_)
  · exact bad (fun c => bz_0.mp h11 c.1)
  have q1 := bz_ne.mp h11
  refine r_aload_n (pc := 14) dX11_restore_14 rfl rfl ?_
  refine r_getr (pc := 15) (c := 11) (k := 64) (kz := 64) hs.o cok_11 (Nat.le_of_ble_eq_true rfl) q1924 ⟨rfl, rfl⟩ (Or.inl rfl) rfl (fun _ _ _ => rfl) hs.p_isKept dX11_restore_15 ?_
  refine r_iload_n (pc := 18) dX11_restore_18 rfl rfl ?_
  refine r_zald (pc := 19) hs.t_isKept (by omega) (by omega) dX11_restore_19 (fun hr19 => ?_)
  try simp (disch := omega) only [ui_ur, ui_ur_n, ur_sv, ur_nv, ui_sv, ui_nv, ui_uis, us_s, us_n] at hr19 ⊢
  refine r_if_ne (pc := 20) 25 dX11_restore_20 rfl hr19 (fun h20 => ?_) (fun h20 => ?_)
  · rw [if_pos ⟨q1, h20⟩] at hQ
    refine r_iconst (pc := 25) dX11_restore_25 ?_
    refine r_istore_n2 (pc := 26) (Nat.le_of_ble_eq_true rfl) dX11_restore_26 rfl ?_
    have loop2 : ∀ (n : Nat) (i : Int), 0 ≤ i → i + n = 6 → PW G mX11_restore (rmD (d + 1) 0 0) (MZ G Q nX 0 0) 0 0 (ur (ur (ur (ur I (m + 25) u) (m + 27) q) m (us ω 0 0)) (m + 2) (cpr σ 0 (fun j => u (765 * k + j)) 765)) (ur (ur J (m + 26) κ) (m + 5) (cpr ν 0 (fun j => κ (6 * k + j)) i)) P T z 60 [some (.ref m), some (iv k), some (iv i)] [] := by
      intro n
      induction n with
      | zero =>
        intro i h0 h1
        obtain rfl : i = 6 := by omega
        refine r_iload_n (pc := 60) dX11_restore_60 rfl rfl ?_
        refine r_bipush (pc := 61) dX11_restore_61 (by decide +kernel) ?_
        refine r_icmp_ge (pc := 63) 89 dX11_restore_63 rfl (by omega) (by omega) (fun h63 => ?_) (fun h63 => ?_)
        · refine r_aload_n (pc := 89) dX11_restore_89 rfl rfl ?_
          refine r_iconst (pc := 90) dX11_restore_90 ?_
          refine r_puti (pc := 91) (c := 11) (k := 27) (kz := 27) hs.o cok_11 (Nat.le_of_ble_eq_true rfl) q1887 ⟨rfl, rfl⟩ (Or.inl rfl) rfl (by omega) rfl rfl (by omega) (fun _ _ _ => rfl) ⟨rfl, rfl⟩ dX11_restore_91 ?_
          try simp (disch := omega) only [ui_ur, ui_ur_n, ur_sv, ur_nv, ui_sv, ui_nv, ui_uis, us_s, us_n]
          refine r_iconst (pc := 94) dX11_restore_94 ?_
          refine r_ireturn (pc := 95) rfl (nb_z (by omega)) dX11_restore_95 (Nat.le_of_ble_eq_true rfl) (Nat.le_of_ble_eq_true rfl) ?_
          exact hQ
        omega
      | succ n ih =>
        intro i h0 h1
        have hs9 := cpr_s (u := ν) (f := fun j => κ (6 * k + j)) (a := 0) h0
        rw [Int.zero_add] at hs9
        refine r_iload_n (pc := 60) dX11_restore_60 rfl rfl ?_
        refine r_bipush (pc := 61) dX11_restore_61 (by decide +kernel) ?_
        refine r_icmp_ge (pc := 63) 89 dX11_restore_63 rfl (by omega) (by omega) (fun h63 => ?_) (fun h63 => ?_)
        · omega
        refine r_aload_n (pc := 66) dX11_restore_66 rfl rfl ?_
        refine r_getr (pc := 67) (c := 11) (k := 9) (kz := 9) hs.o cok_11 (Nat.le_of_ble_eq_true rfl) q1869 ⟨rfl, rfl⟩ (Or.inl rfl) rfl (fun _ _ _ => rfl) hs.p_names dX11_restore_67 ?_
        refine r_iload_n (pc := 70) dX11_restore_70 rfl rfl ?_
        refine r_aload_n (pc := 71) dX11_restore_71 rfl rfl ?_
        refine r_getr (pc := 72) (c := 11) (k := 63) (kz := 63) hs.o cok_11 (Nat.le_of_ble_eq_true rfl) q1923 ⟨rfl, rfl⟩ (Or.inl rfl) rfl (fun _ _ _ => rfl) hs.p_namesKept dX11_restore_72 ?_
        refine r_bipush (pc := 75) dX11_restore_75 (by decide +kernel) ?_
        refine r_iload_n (pc := 77) dX11_restore_77 rfl rfl ?_
        refine r_imul (pc := 78) dX11_restore_78 ?_
        refine r_iload_n (pc := 79) dX11_restore_79 rfl rfl ?_
        refine r_iadd (pc := 80) dX11_restore_80 ?_
        refine r_lald (pc := 81) hs.t_namesKept (by omega) (by omega) dX11_restore_81 (fun hr81 => ?_)
        try simp (disch := omega) only [ui_ur, ui_ur_n, ur_sv, ur_nv, ui_sv, ui_nv, ui_uis, us_s, us_n] at hr81 ⊢
        refine r_last (pc := 82) hs.t_names (by omega) (by omega) (by omega) hr81 dX11_restore_82 ?_
        try simp (disch := omega) only [ui_ur, ui_ur_n, ur_sv, ur_nv, ui_sv, ui_nv, ui_uis, us_s, us_n]
        rw [hs9]
        refine r_iinc2 (pc := 83) (Nat.le_of_ble_eq_true rfl) dX11_restore_83 rfl ?_
        refine r_goto (pc := 86) 60 dX11_restore_86 rfl ?_
        exact ih (i + 1) (by omega) (by omega)
    have loop1 : ∀ (n : Nat) (i : Int), 0 ≤ i → i + n = 765 → PW G mX11_restore (rmD (d + 1) 0 0) (MZ G Q nX 0 0) 0 0 (ur (ur (ur (ur I (m + 25) u) (m + 27) q) m (us ω 0 0)) (m + 2) (cpr σ 0 (fun j => u (765 * k + j)) i)) (ur (ur J (m + 26) κ) (m + 5) ν) P T z 27 [some (.ref m), some (iv k), some (iv i)] [] := by
      intro n
      induction n with
      | zero =>
        intro i h0 h1
        obtain rfl : i = 765 := by omega
        refine r_iload_n (pc := 27) dX11_restore_27 rfl rfl ?_
        refine r_sipush (pc := 28) dX11_restore_28 (by decide +kernel) ?_
        refine r_icmp_ge (pc := 31) 58 dX11_restore_31 rfl (by omega) (by omega) (fun h31 => ?_) (fun h31 => ?_)
        · refine r_iconst (pc := 58) dX11_restore_58 ?_
          refine r_istore_n2 (pc := 59) (Nat.le_of_ble_eq_true rfl) dX11_restore_59 rfl ?_
          have := loop2 6 0 (by omega) (by omega)
          rw [cpr_0] at this
          exact this
        omega
      | succ n ih =>
        intro i h0 h1
        have hs9 := cpr_s (u := σ) (f := fun j => u (765 * k + j)) (a := 0) h0
        rw [Int.zero_add] at hs9
        refine r_iload_n (pc := 27) dX11_restore_27 rfl rfl ?_
        refine r_sipush (pc := 28) dX11_restore_28 (by decide +kernel) ?_
        refine r_icmp_ge (pc := 31) 58 dX11_restore_31 rfl (by omega) (by omega) (fun h31 => ?_) (fun h31 => ?_)
        · omega
        refine r_aload_n (pc := 34) dX11_restore_34 rfl rfl ?_
        refine r_getr (pc := 35) (c := 11) (k := 6) (kz := 6) hs.o cok_11 (Nat.le_of_ble_eq_true rfl) q1866 ⟨rfl, rfl⟩ (Or.inl rfl) rfl (fun _ _ _ => rfl) hs.p_s dX11_restore_35 ?_
        refine r_iload_n (pc := 38) dX11_restore_38 rfl rfl ?_
        refine r_aload_n (pc := 39) dX11_restore_39 rfl rfl ?_
        refine r_getr (pc := 40) (c := 11) (k := 62) (kz := 62) hs.o cok_11 (Nat.le_of_ble_eq_true rfl) q1922 ⟨rfl, rfl⟩ (Or.inl rfl) rfl (fun _ _ _ => rfl) hs.p_kept dX11_restore_40 ?_
        refine r_sipush (pc := 43) dX11_restore_43 (by decide +kernel) ?_
        refine r_iload_n (pc := 46) dX11_restore_46 rfl rfl ?_
        refine r_imul (pc := 47) dX11_restore_47 ?_
        refine r_iload_n (pc := 48) dX11_restore_48 rfl rfl ?_
        refine r_iadd (pc := 49) dX11_restore_49 ?_
        refine r_iald (pc := 50) hs.t_kept (by omega) (by omega) dX11_restore_50 (fun hr50 => ?_)
        try simp (disch := omega) only [ui_ur, ui_ur_n, ur_sv, ur_nv, ui_sv, ui_nv, ui_uis, us_s, us_n] at hr50 ⊢
        refine r_iast (pc := 51) hs.t_s (by omega) (by omega) (by omega) hr50 dX11_restore_51 ?_
        try simp (disch := omega) only [ui_ur, ui_ur_n, ur_sv, ur_nv, ui_sv, ui_nv, ui_uis, us_s, us_n]
        rw [hs9]
        refine r_iinc2 (pc := 52) (Nat.le_of_ble_eq_true rfl) dX11_restore_52 rfl ?_
        refine r_goto (pc := 55) 27 dX11_restore_55 rfl ?_
        exact ih (i + 1) (by omega) (by omega)
    have := loop1 765 0 (by omega) (by omega)
    rw [cpr_0] at this
    exact this
  exact bad (fun c => c.2 (by omega))
end L8
