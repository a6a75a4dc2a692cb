/-! ===== the model: play, called ===== -/
/-- the rules that are told: whether all are good, the row -/
def f_rl (τ : Int → Int) : Nat → Int → (Int → Int) → Int × (Int → Int)
  | 0, _, rl => (1, rl)
  | n + 1, k, rl => if 3 < τ k % 256 then (0, rl) else f_rl τ n (k + 1) (us rl k (τ k % 256))
theorem f_rl_r {τ : Int → Int} : ∀ (n : Nat) (k : Int) (rl : Int → Int), (∀ a, 0 ≤ a → a < 6 → 0 ≤ rl a ∧ rl a ≤ 3) → ∀ a, 0 ≤ a → a < 6 → 0 ≤ (f_rl τ n k rl).2 a ∧ (f_rl τ n k rl).2 a ≤ 3 := by
  intro n
  induction n with
  | zero => intro k rl h; exact h
  | succ n ih =>
    intro k rl h
    unfold f_rl
    split
    · exact h
    · refine ih (k + 1) _ fun a b c => ?_
      unfold us
      split
      · omega
      · exact h a b c
def f_tk (ω : Int → Int) (k : Int) : Int → Int := us (us (us (us (us ω 0 0) 3 (ω 2)) 2 0) 4 0) 5 k
section M17
variable {G : GE} {I J : HI} {P : HP} {T : HT} {z : Nat} {m d : Nat} {Q : QT} {σ u τ ω rl : Int → Int}
set_option maxHeartbeats 1000000 in
theorem M_play (hs : shM G P T m) {W : (Int → Int) → Prop} (hW : PlOK W) (hw : 2 ≤ σ 1 → W σ) (h1 : 0 ≤ σ 1 ∧ σ 1 ≤ 6) {n : Int} (hn : rg n) (hτ : I (m + 1) = τ) (h2 : 0 ≤ ω 2 ∧ ω 2 ≤ 940) (h27 : 0 ≤ ω 27 ∧ ω 27 ≤ 8) (hr : ∀ a, 0 ≤ a → a < 6 → 0 ≤ rl a ∧ rl a ≤ 3)
    (hQ : if ¬ ((1 ≤ n ∧ n ≤ 400) ∧ 2 ≤ σ 1 ∧ ω 2 = σ 1) then Q (some (iv (-1))) (ur (ur (ur (ur I (m + 20) rl) m (f_tk ω 940)) (m + 8) u) (m + 2) σ) J P T z
      else if (f_rl τ (ω 2).toNat 0 rl).1 = 0 then Q (some (iv (-1))) (ur (ur (ur (ur I (m + 20) (f_rl τ (ω 2).toNat 0 rl).2) m (f_tk ω 940)) (m + 8) u) (m + 2) σ) J P T z
      else if σ 4 = -1 then Q (some (iv 0)) (ur (ur (ur (ur I (m + 20) (f_rl τ (ω 2).toNat 0 rl).2) m (f_tk ω 940)) (m + 8) u) (m + 2) σ) J P T z
      else ∀ r, r = f_pl (f_rl τ (ω 2).toNat 0 rl).2 1 m n.toNat (ur (ur (ur I (m + 20) (f_rl τ (ω 2).toNat 0 rl).2) m (us (f_tk ω 940) 27 (kn (ω 27) + 1))) (m + 8) (ku u (ω 27) σ)) σ → Q (some (iv r.2.2)) (ur r.1 (m + 2) r.2.1) J P T z) : MC G yX11_play (ws_ yX11_play cX11_play 3 (some FieldType.int)) (d + 7) 0 0 [.ref m, iv n] (ur (ur (ur (ur I (m + 20) rl) m ω) (m + 8) u) (m + 2) σ) J P T z Q nX := by
  have hb := hs.b
  refine MC.of (by decide) (Nat.le_of_ble_eq_true rfl) ?_
  show PW G mX11_play (rmD (d + 7) 0 0) (MZ G Q nX 0 0) 0 0 (ur (ur (ur (ur I (m + 20) rl) m ω) (m + 8) u) (m + 2) σ) J P T z 0 [some (.ref m), some (iv n), none] []
  have hrg : ∀ ω : Int → Int, ur (ur (ur (ur I (m + 20) rl) m ω) (m + 8) u) (m + 2) σ = ur (ur (ur (ur I (m + 20) rl) (m + 8) u) (m + 2) σ) m ω := fun ω => by
    rw [ur_comm (a := m) (b := m + 8) (by omega), ur_comm (a := m) (b := m + 2) (by omega)]
  refine r_aload_n (pc := 0) dX11_play_0 rfl rfl ?_
  refine r_iconst (pc := 1) dX11_play_1 ?_
  refine r_puti (pc := 2) (c := 11) (k := 0) (kz := 0) hs.o cok_11 (Nat.le_of_ble_eq_true rfl) q1860 ⟨rfl, rfl⟩ (Or.inl rfl) rfl (by omega) rfl rfl (by omega) (fun _ _ _ => rfl) ⟨rfl, rfl⟩ dX11_play_2 ?_
  try simp (disch := omega) only [ui_ur, ui_ur_n, ur_sv, ur_nv, ui_sv, ui_nv, ui_uis, us_s, us_n]
  refine r_aload_n (pc := 5) dX11_play_5 rfl rfl ?_
  refine r_sipush (pc := 6) dX11_play_6 (by decide +kernel) ?_
  rw [hrg]
  refine r_callV1 (pc := 9) (M_taken (ω := us ω 0 0) hs (by omega) fe_i) im_X11_taken qs56 q2061 hs.o rfl dX11_play_9 (Nat.le_of_ble_eq_true rfl) (Nat.le_of_ble_eq_true rfl) rfl (k_fv ?_) (fun _ _ _ _ _ _ _ hx => no_x hx)
  try simp (disch := omega) only [ui_ur, ui_ur_n, ur_sv, ur_nv, ui_sv, ui_nv, ui_uis, us_s, us_n]
  rw [← hrg]
  have e3 : f_tk ω 940 3 = ω 2 := by unfold f_tk; simp (disch := omega) only [us_n, us_s]
  have e27 : f_tk ω 940 27 = ω 27 := by unfold f_tk; simp (disch := omega) only [us_n, us_s]
  show PW G mX11_play (rmD (d + 7) 0 0) (MZ G Q nX 0 0) 0 0 (ur (ur (ur (ur I (m + 20) rl) m (f_tk ω 940)) (m + 8) u) (m + 2) σ) J P T z 12 [some (.ref m), some (iv n), none] []
  have bad : ¬ ((1 ≤ n ∧ n ≤ 400) ∧ 2 ≤ σ 1 ∧ ω 2 = σ 1) → PW G mX11_play (rmD (d + 7) 0 0) (MZ G Q nX 0 0) 0 0 (ur (ur (ur (ur I (m + 20) rl) m (f_tk ω 940)) (m + 8) u) (m + 2) σ) J P T z 46 [some (.ref m), some (iv n), none] [] := by
    intro hc
    rw [if_pos hc] at hQ
    refine r_iconst (pc := 46) dX11_play_46 ?_
    refine r_ireturn (pc := 47) rfl rfl dX11_play_47 (Nat.le_of_ble_eq_true rfl) (Nat.le_of_ble_eq_true rfl) ?_
    exact hQ
  refine r_iload_n (pc := 12) dX11_play_12 rfl rfl ?_
  refine r_iconst (pc := 13) dX11_play_13 ?_
  refine r_sipush (pc := 14) dX11_play_14 (by decide +kernel) ?_
  refine r_callS3 (pc := 17) (M_isIn hn (by omega) (by omega) fe_i) im_X11_isIn q2095 dX11_play_17 (Nat.le_of_ble_eq_true rfl) (Nat.le_of_ble_eq_true rfl) rfl (k_fi ?_) (fun _ _ _ _ _ _ _ hx => no_x hx)
  refine r_if_eq (pc := 20) 46 dX11_play_20 rfl bz_g (fun h20 => ?_) (fun h20 => ?_)
  · exact bad fun q => bz_0.mp h20 q.1
  have g1 := bz_ne.mp h20
  refine r_aload_n (pc := 23) dX11_play_23 rfl rfl ?_
  refine r_getr (pc := 24) (c := 11) (k := 6) (kz := 6) hs.o cok_11 (Nat.le_of_ble_eq_true rfl) q1866 ⟨rfl, rfl⟩ (Or.inl rfl) rfl (fun _ _ _ => rfl) hs.p_s dX11_play_24 ?_
  refine r_iconst (pc := 27) dX11_play_27 ?_
  refine r_iald (pc := 28) hs.t_s (by omega) (by omega) dX11_play_28 (fun hr28 => ?_)
  try simp (disch := omega) only [ui_ur, ui_ur_n, ur_sv, ur_nv, ui_sv, ui_nv, ui_uis, us_s, us_n] at hr28 ⊢
  refine r_iconst (pc := 29) dX11_play_29 ?_
  refine r_icmp_lt (pc := 30) 46 dX11_play_30 rfl (by omega) (by omega) (fun h30 => ?_) (fun h30 => ?_)
  · exact bad (by omega)
  refine r_aload_n (pc := 33) dX11_play_33 rfl rfl ?_
  refine r_geti (pc := 34) (c := 11) (k := 3) (kz := 3) hs.o cok_11 (Nat.le_of_ble_eq_true rfl) q1863 ⟨rfl, rfl⟩ (Or.inl rfl) rfl (fun _ _ _ => rfl) dX11_play_34 (fun hr34 => ?_)
  try simp (disch := omega) only [ui_ur, ui_ur_n, ur_sv, ur_nv, ui_sv, ui_nv, ui_uis, us_s, us_n] at hr34 ⊢
  refine r_aload_n (pc := 37) dX11_play_37 rfl rfl ?_
  refine r_getr (pc := 38) (c := 11) (k := 6) (kz := 6) hs.o cok_11 (Nat.le_of_ble_eq_true rfl) q1866 ⟨rfl, rfl⟩ (Or.inl rfl) rfl (fun _ _ _ => rfl) hs.p_s dX11_play_38 ?_
  refine r_iconst (pc := 41) dX11_play_41 ?_
  refine r_iald (pc := 42) hs.t_s (by omega) (by omega) dX11_play_42 (fun hr42 => ?_)
  try simp (disch := omega) only [ui_ur, ui_ur_n, ur_sv, ur_nv, ui_sv, ui_nv, ui_uis, us_s, us_n] at hr42 ⊢
  rw [e3]
  refine r_icmp_eq (pc := 43) 48 dX11_play_43 rfl (by omega) (by omega) (fun h43 => ?_) (fun h43 => ?_)
  · rw [if_neg (fun q => q ⟨g1, by omega, h43⟩)] at hQ
    have loop : ∀ (j : Nat) (k : Int) (rl : Int → Int), 0 ≤ k → k ≤ σ 1 → σ 1 - k = j → (if (f_rl τ j k rl).1 = 0 then Q (some (iv (-1))) (ur (ur (ur (ur I (m + 20) (f_rl τ j k rl).2) m (f_tk ω 940)) (m + 8) u) (m + 2) σ) J P T z else PW G mX11_play (rmD (d + 7) 0 0) (MZ G Q nX 0 0) 0 0 (ur (ur (ur (ur I (m + 20) (f_rl τ j k rl).2) m (f_tk ω 940)) (m + 8) u) (m + 2) σ) J P T z 86 [some (.ref m), some (iv n), some (iv (σ 1))] []) → PW G mX11_play (rmD (d + 7) 0 0) (MZ G Q nX 0 0) 0 0 (ur (ur (ur (ur I (m + 20) rl) m (f_tk ω 940)) (m + 8) u) (m + 2) σ) J P T z 50 [some (.ref m), some (iv n), some (iv k)] [] := by
      intro j
      induction j with
      | zero =>
        intro k rl k0 k1 kj kk
        unfold f_rl at kk
        rw [if_neg (fun q => absurd (show (1 : Int) = 0 from q) (by decide))] at kk
        refine r_iload_n (pc := 50) dX11_play_50 rfl rfl ?_
        refine r_aload_n (pc := 51) dX11_play_51 rfl rfl ?_
        refine r_geti (pc := 52) (c := 11) (k := 3) (kz := 3) hs.o cok_11 (Nat.le_of_ble_eq_true rfl) q1863 ⟨rfl, rfl⟩ (Or.inl rfl) rfl (fun _ _ _ => rfl) dX11_play_52 (fun hr52 => ?_)
        try simp (disch := omega) only [ui_ur, ui_ur_n, ur_sv, ur_nv, ui_sv, ui_nv, ui_uis, us_s, us_n] at hr52 ⊢
        rw [e3]
        refine r_icmp_ge (pc := 55) 86 dX11_play_55 rfl (by omega) (by omega) (fun h55 => ?_) (fun h55 => ?_)
        · obtain rfl : k = σ 1 := by omega
          exact kk
        omega
      | succ j ih =>
        intro k rl k0 k1 kj kk
        unfold f_rl at kk
        have eo : (ur (ur (ur (ur I (m + 20) rl) m (f_tk ω 940)) (m + 8) u) (m + 2) σ) (m + 1) k = τ k := by
          rw [← hτ]
          simp (disch := omega) only [ur_nv]
        refine r_iload_n (pc := 50) dX11_play_50 rfl rfl ?_
        refine r_aload_n (pc := 51) dX11_play_51 rfl rfl ?_
        refine r_geti (pc := 52) (c := 11) (k := 3) (kz := 3) hs.o cok_11 (Nat.le_of_ble_eq_true rfl) q1863 ⟨rfl, rfl⟩ (Or.inl rfl) rfl (fun _ _ _ => rfl) dX11_play_52 (fun hr52 => ?_)
        try simp (disch := omega) only [ui_ur, ui_ur_n, ur_sv, ur_nv, ui_sv, ui_nv, ui_uis, us_s, us_n] at hr52 ⊢
        rw [e3]
        refine r_icmp_ge (pc := 55) 86 dX11_play_55 rfl (by omega) (by omega) (fun h55 => ?_) (fun h55 => ?_)
        · omega
        refine r_aload_n (pc := 58) dX11_play_58 rfl rfl ?_
        refine r_iload_n (pc := 59) dX11_play_59 rfl rfl ?_
        refine r_callV1 (pc := 60) (M_octet hs (by omega) fe_i) im_X11_octet qs100 q2353 hs.o rfl dX11_play_60 (Nat.le_of_ble_eq_true rfl) (Nat.le_of_ble_eq_true rfl) rfl (k_fi ?_) (fun _ _ _ _ _ _ _ hx => no_x hx)
        rw [eo]
        refine r_iconst (pc := 63) dX11_play_63 ?_
        refine r_icmp_le (pc := 64) 69 dX11_play_64 rfl (by omega) (by omega) (fun h64 => ?_) (fun h64 => ?_)
        · rw [if_neg (show ¬ 3 < τ k % 256 by omega)] at kk
          refine r_aload_n (pc := 69) dX11_play_69 rfl rfl ?_
          refine r_getr (pc := 70) (c := 11) (k := 48) (kz := 48) hs.o cok_11 (Nat.le_of_ble_eq_true rfl) q1908 ⟨rfl, rfl⟩ (Or.inl rfl) rfl (fun _ _ _ => rfl) hs.p_rules dX11_play_70 ?_
          refine r_iload_n (pc := 73) dX11_play_73 rfl rfl ?_
          refine r_aload_n (pc := 74) dX11_play_74 rfl rfl ?_
          refine r_iload_n (pc := 75) dX11_play_75 rfl rfl ?_
          refine r_callV1 (pc := 76) (M_octet hs (by omega) fe_i) im_X11_octet qs100 q2353 hs.o rfl dX11_play_76 (Nat.le_of_ble_eq_true rfl) (Nat.le_of_ble_eq_true rfl) rfl (k_fi ?_) (fun _ _ _ _ _ _ _ hx => no_x hx)
          rw [eo]
          refine r_iast (pc := 79) hs.t_rules (by omega) (by omega) (by omega) (by omega) dX11_play_79 ?_
          try simp (disch := omega) only [ui_ur, ui_ur_n, ur_sv, ur_nv, ui_sv, ui_nv, ui_uis, us_s, us_n]
          refine r_iinc2 (pc := 80) (Nat.le_of_ble_eq_true rfl) dX11_play_80 rfl ?_
          refine r_goto (pc := 83) 50 dX11_play_83 rfl ?_
          exact ih (k + 1) _ (by omega) (by omega) (by omega) kk
        rw [if_pos (show 3 < τ k % 256 by omega), if_pos rfl] at kk
        refine r_iconst (pc := 67) dX11_play_67 ?_
        refine r_ireturn (pc := 68) rfl rfl dX11_play_68 (Nat.le_of_ble_eq_true rfl) (Nat.le_of_ble_eq_true rfl) ?_
        exact kk
    refine r_iconst (pc := 48) dX11_play_48 ?_
    refine r_istore_n2 (pc := 49) (Nat.le_of_ble_eq_true rfl) dX11_play_49 rfl ?_
    refine loop (ω 2).toNat 0 rl (by omega) (by omega) (by omega) ?_
    have hr2 := f_rl_r (τ := τ) (ω 2).toNat 0 rl hr
    generalize f_rl τ (ω 2).toNat 0 rl = x at *
    split
    · rename_i c
      rw [if_pos c] at hQ
      exact hQ
    rename_i c
    rw [if_neg c] at hQ
    refine r_aload_n (pc := 86) dX11_play_86 rfl rfl ?_
    refine r_getr (pc := 87) (c := 11) (k := 6) (kz := 6) hs.o cok_11 (Nat.le_of_ble_eq_true rfl) q1866 ⟨rfl, rfl⟩ (Or.inl rfl) rfl (fun _ _ _ => rfl) hs.p_s dX11_play_87 ?_
    refine r_iconst (pc := 90) dX11_play_90 ?_
    refine r_iald (pc := 91) hs.t_s (by omega) (by omega) dX11_play_91 (fun hr91 => ?_)
    try simp (disch := omega) only [ui_ur, ui_ur_n, ur_sv, ur_nv, ui_sv, ui_nv, ui_uis, us_s, us_n] at hr91 ⊢
    refine r_iconst (pc := 92) dX11_play_92 ?_
    refine r_icmp_ne (pc := 93) 98 dX11_play_93 rfl (by omega) (by omega) (fun h93 => ?_) (fun h93 => ?_)
    · rw [if_neg h93] at hQ
      have hQ := hQ _ rfl
      refine r_aload_n (pc := 98) dX11_play_98 rfl rfl ?_
      have em : ur (ur I (m + 20) x.2) m (f_tk ω 940) m 27 = ω 27 := by rw [ur_sv, e27]
      refine r_callV0 (pc := 99) (M_keep hs (by rw [em]; exact h27) fe_i) im_X11_keep qs85 q2221 hs.o rfl dX11_play_99 (Nat.le_of_ble_eq_true rfl) (Nat.le_of_ble_eq_true rfl) rfl (k_fv ?_) (fun _ _ _ _ _ _ _ hx => no_x hx)
      rw [em]
      try simp (disch := omega) only [ui_ur, ui_ur_n, ur_sv, ur_nv, ui_sv, ui_nv, ui_uis, us_s, us_n]
      refine r_aload_n (pc := 102) dX11_play_102 rfl rfl ?_
      refine r_iload_n (pc := 103) dX11_play_103 rfl rfl ?_
      refine r_iconst (pc := 104) dX11_play_104 ?_
      have hc2 : (ur (ur (ur I (m + 20) x.2) m (us (f_tk ω 940) 27 (kn (ω 27) + 1))) (m + 8) (ku u (ω 27) σ)) (m + 20) = x.2 := by
        funext j
        simp (disch := omega) only [ur_nv, ur_sv]
      refine r_callV2 (pc := 105) (M_plays hs hW (hw (by omega)) (by omega) (by omega) hr2 (fun a _ _ => congrFun hc2 a) fe_i) im_X11_plays qs101 q2357 hs.o rfl dX11_play_105 (Nat.le_of_ble_eq_true rfl) (Nat.le_of_ble_eq_true rfl) rfl (k_fi ?_) (fun _ _ _ _ _ _ _ hx => no_x hx)
      refine r_ireturn (pc := 108) rfl rfl dX11_play_108 (Nat.le_of_ble_eq_true rfl) (Nat.le_of_ble_eq_true rfl) ?_
      exact hQ
    rw [if_pos h93] at hQ
    refine r_iconst (pc := 96) dX11_play_96 ?_
    refine r_ireturn (pc := 97) rfl rfl dX11_play_97 (Nat.le_of_ble_eq_true rfl) (Nat.le_of_ble_eq_true rfl) ?_
    exact hQ
  exact bad (by omega)
end M17
