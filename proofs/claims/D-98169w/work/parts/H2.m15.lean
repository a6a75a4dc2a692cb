/-! ===== the model: sweeps ===== -/
def f_sw1 (σ : Int → Int) (k kind : Int) : Nat → Int → (Int → Int) × Int → (Int → Int) × Int
  | 0, _, x => x
  | n + 1, q, x => f_sw1 σ k kind n (q + 1) (if q = k ∨ σ (60 + 13 * k + kind) = 0 ∨ σ (60 + 13 * q + kind) = 0 then x else (us x.1 x.2 (100 * q + kind), x.2 + 1))
def f_sw (σ : Int → Int) (k : Int) : Nat → Int → (Int → Int) × Int → (Int → Int) × Int
  | 0, _, x => x
  | n + 1, kind, x => f_sw σ k n (kind + 1) (f_sw1 σ k kind (σ 1).toNat 0 x)
theorem f_sw1_r {σ : Int → Int} {k kind : Int} : ∀ (n : Nat) (q b : Int) (x : (Int → Int) × Int), 0 ≤ x.2 → x.2 ≤ b + q - bz (k < q) → 0 ≤ (f_sw1 σ k kind n q x).2 ∧ (f_sw1 σ k kind n q x).2 ≤ b + (q + n) - bz (k < q + n) := by
  intro n
  induction n with
  | zero => intro q b x h0 h1; simp only [f_sw1]; rw [show q + ((0 : Nat) : Int) = q by omega]; omega
  | succ n ih =>
    intro q b x h0 h1
    unfold f_sw1
    have e : q + ((n + 1 : Nat) : Int) = (q + 1) + n := by omega
    rw [e]
    have b1 := bz_r (p := k < q)
    split
    · refine ih (q + 1) b x h0 ?_
      by_cases c : k < q + 1
      · rw [bz_t c]
        by_cases c2 : k < q
        · rw [bz_t c2] at h1; omega
        · rw [bz_f c2] at h1; omega
      · rw [bz_f c]; omega
    · rename_i hc
      refine ih (q + 1) b _ (by show 0 ≤ x.2 + 1; omega) ?_
      show x.2 + 1 ≤ _
      by_cases c : k < q + 1
      · rw [bz_t c]
        rw [bz_t (show k < q by omega)] at h1
        omega
      · rw [bz_f c]; omega
section M15
variable {G : GE} {I J : HI} {P : HP} {T : HT} {z : Nat} {m d : Nat} {Q : QT} {σ u ω r : Int → Int}
theorem M_sweep (hs : shM G P T m) {k : Int} (hk : rg k) (h1 : 0 ≤ σ 1 ∧ σ 1 ≤ 6)
    (hQ : if isP σ k then Q (some (iv (f_sw σ k 13 0 (r, 0)).2)) (ur (ur (ur I (m + 15) (f_sw σ k 13 0 (r, 0)).1) m (us (us ω 0 0) 37 (f_sw σ k 13 0 (r, 0)).2)) (m + 2) σ) J P T z else Q (some (iv (-1))) (ur (ur (ur I (m + 15) r) m (us ω 0 0)) (m + 2) σ) J P T z) : MC G yX11_sweep (ws_ yX11_sweep cX11_sweep 4 (some FieldType.int)) (d + 2) 0 0 [.ref m, iv k] (ur (ur (ur I (m + 15) r) m ω) (m + 2) σ) J P T z Q nX := by
  have hb := hs.b
  refine MC.of (by decide) (Nat.le_of_ble_eq_true rfl) ?_
  show PW G mX11_sweep (rmD (d + 2) 0 0) (MZ G Q nX 0 0) 0 0 (ur (ur (ur I (m + 15) r) m ω) (m + 2) σ) J P T z 0 [some (.ref m), some (iv k), none, none] []
  refine r_rgU fun hrg => ?_
  refine r_aload_n (pc := 0) dX11_sweep_0 rfl rfl ?_
  refine r_iconst (pc := 1) dX11_sweep_1 ?_
  refine r_puti (pc := 2) (c := 11) (k := 0) (kz := 0) hs.o cok_11 (Nat.le_of_ble_eq_true rfl) q1860 ⟨rfl, rfl⟩ (Or.inl rfl) rfl (by omega) rfl rfl (by omega) (fun _ _ _ => rfl) ⟨rfl, rfl⟩ dX11_sweep_2 ?_
  try simp (disch := omega) only [ui_ur, ui_ur_n, ur_sv, ur_nv, ui_sv, ui_nv, ui_uis, us_s, us_n]
  refine r_aload_n (pc := 5) dX11_sweep_5 rfl rfl ?_
  refine r_iload_n (pc := 6) dX11_sweep_6 rfl rfl ?_
  refine r_callV1 (pc := 7) (M_isPerson hs hk h1 fe_i) im_X11_isPerson qs78 q2169 hs.o rfl dX11_sweep_7 (Nat.le_of_ble_eq_true rfl) (Nat.le_of_ble_eq_true rfl) rfl (k_fi ?_) (fun _ _ _ _ _ _ _ hx => no_x hx)
  refine r_if_ne (pc := 10) 15 dX11_sweep_10 rfl bz_g (fun h10 => ?_) (fun h10 => ?_)
  · have g1 := bz_ne.mp h10
    rw [if_pos g1] at hQ
    refine r_aload_n (pc := 15) dX11_sweep_15 rfl rfl ?_
    refine r_iconst (pc := 16) dX11_sweep_16 ?_
    refine r_puti (pc := 17) (c := 11) (k := 37) (kz := 37) hs.o cok_11 (Nat.le_of_ble_eq_true rfl) q1897 ⟨rfl, rfl⟩ (Or.inl rfl) rfl (by omega) rfl rfl (by omega) (fun _ _ _ => rfl) ⟨rfl, rfl⟩ dX11_sweep_17 ?_
    try simp (disch := omega) only [ui_ur, ui_ur_n, ur_sv, ur_nv, ui_sv, ui_nv, ui_uis, us_s, us_n]
    refine r_iconst (pc := 20) dX11_sweep_20 ?_
    refine r_istore_n2 (pc := 21) (Nat.le_of_ble_eq_true rfl) dX11_sweep_21 rfl ?_
    have inner : ∀ (n : Nat) (kind q : Int) (x : (Int → Int) × Int), 0 ≤ kind → kind < 13 → 0 ≤ q → q ≤ σ 1 → σ 1 - q = n → 0 ≤ x.2 → x.2 ≤ 5 * kind + q - bz (k < q) → (∀ l3, PW G mX11_sweep (rmD (d + 2) 0 0) (MZ G Q nX 0 0) 0 0 (ur (ur (ur I (m + 15) (f_sw1 σ k kind n q x).1) m (us (us ω 0 0) 37 (f_sw1 σ k kind n q x).2)) (m + 2) σ) J P T z 99 [some (.ref m), some (iv k), some (iv kind), some l3] []) → PW G mX11_sweep (rmD (d + 2) 0 0) (MZ G Q nX 0 0) 0 0 (ur (ur (ur I (m + 15) x.1) m (us (us ω 0 0) 37 x.2)) (m + 2) σ) J P T z 30 [some (.ref m), some (iv k), some (iv kind), some (iv q)] [] := by
      intro n
      induction n with
      | zero =>
        intro kind q x k0 k1 q0 q1 qn x0 x1 kk
        refine r_iload_n (pc := 30) dX11_sweep_30 rfl rfl ?_
        refine r_aload_n (pc := 31) dX11_sweep_31 rfl rfl ?_
        refine r_getr (pc := 32) (c := 11) (k := 6) (kz := 6) hs.o cok_11 (Nat.le_of_ble_eq_true rfl) q1866 ⟨rfl, rfl⟩ (Or.inl rfl) rfl (fun _ _ _ => rfl) hs.p_s dX11_sweep_32 ?_
        refine r_iconst (pc := 35) dX11_sweep_35 ?_
        refine r_iald (pc := 36) hs.t_s (by omega) (by omega) dX11_sweep_36 (fun hr36 => ?_)
        try simp (disch := omega) only [ui_ur, ui_ur_n, ur_sv, ur_nv, ui_sv, ui_nv, ui_uis, us_s, us_n] at hr36 ⊢
        refine r_icmp_ge (pc := 37) 99 dX11_sweep_37 rfl (by omega) (by omega) (fun h37 => ?_) (fun h37 => ?_)
        · exact kk _
        omega
      | succ n ih =>
        intro kind q x k0 k1 q0 q1 qn x0 x1 kk
        unfold f_sw1 at kk
        have skip : (q = k ∨ σ (60 + 13 * k + kind) = 0 ∨ σ (60 + 13 * q + kind) = 0) → PW G mX11_sweep (rmD (d + 2) 0 0) (MZ G Q nX 0 0) 0 0 (ur (ur (ur I (m + 15) x.1) m (us (us ω 0 0) 37 x.2)) (m + 2) σ) J P T z 93 [some (.ref m), some (iv k), some (iv kind), some (iv q)] [] := by
          intro hc
          rw [if_pos hc] at kk
          refine r_iinc3 (pc := 93) (Nat.le_of_ble_eq_true rfl) dX11_sweep_93 rfl ?_
          refine r_goto (pc := 96) 30 dX11_sweep_96 rfl ?_
          refine ih kind (q + 1) x k0 k1 (by omega) (by omega) (by omega) x0 ?_ kk
          by_cases c : k < q + 1
          · rw [bz_t c]
            by_cases c2 : k < q
            · rw [bz_t c2] at x1; omega
            · rw [bz_f c2] at x1; omega
          · rw [bz_f c]
            rw [bz_f (by omega)] at x1; omega
        refine r_iload_n (pc := 30) dX11_sweep_30 rfl rfl ?_
        refine r_aload_n (pc := 31) dX11_sweep_31 rfl rfl ?_
        refine r_getr (pc := 32) (c := 11) (k := 6) (kz := 6) hs.o cok_11 (Nat.le_of_ble_eq_true rfl) q1866 ⟨rfl, rfl⟩ (Or.inl rfl) rfl (fun _ _ _ => rfl) hs.p_s dX11_sweep_32 ?_
        refine r_iconst (pc := 35) dX11_sweep_35 ?_
        refine r_iald (pc := 36) hs.t_s (by omega) (by omega) dX11_sweep_36 (fun hr36 => ?_)
        try simp (disch := omega) only [ui_ur, ui_ur_n, ur_sv, ur_nv, ui_sv, ui_nv, ui_uis, us_s, us_n] at hr36 ⊢
        refine r_icmp_ge (pc := 37) 99 dX11_sweep_37 rfl (by omega) (by omega) (fun h37 => ?_) (fun h37 => ?_)
        · omega
        have hra := hrg (60 + 13 * k + kind)
        have hrb := hrg (60 + 13 * q + kind)
        refine r_iload_n (pc := 40) dX11_sweep_40 rfl rfl ?_
        refine r_iload_n (pc := 41) dX11_sweep_41 rfl rfl ?_
        refine r_icmp_eq (pc := 42) 93 dX11_sweep_42 rfl (by omega) (by omega) (fun h42 => ?_) (fun h42 => ?_)
        · exact skip (Or.inl h42)
        refine r_aload_n (pc := 45) dX11_sweep_45 rfl rfl ?_
        refine r_iload_n (pc := 46) dX11_sweep_46 rfl rfl ?_
        refine r_iload_n (pc := 47) dX11_sweep_47 rfl rfl ?_
        refine r_iconst (pc := 48) dX11_sweep_48 ?_
        refine r_callV3 (pc := 49) (M_hand0 hs (by omega) (by omega) fe_i) im_X11_handOf qs73 q2138 hs.o rfl dX11_sweep_49 (Nat.le_of_ble_eq_true rfl) (Nat.le_of_ble_eq_true rfl) rfl (k_fi ?_) (fun _ _ _ _ _ _ _ hx => no_x hx)
        refine r_if_eq (pc := 52) 93 dX11_sweep_52 rfl (by omega) (fun h52 => ?_) (fun h52 => ?_)
        · exact skip (Or.inr (Or.inl h52))
        refine r_aload_n (pc := 55) dX11_sweep_55 rfl rfl ?_
        refine r_iload_n (pc := 56) dX11_sweep_56 rfl rfl ?_
        refine r_iload_n (pc := 57) dX11_sweep_57 rfl rfl ?_
        refine r_iconst (pc := 58) dX11_sweep_58 ?_
        refine r_callV3 (pc := 59) (M_hand0 hs (by omega) (by omega) fe_i) im_X11_handOf qs73 q2138 hs.o rfl dX11_sweep_59 (Nat.le_of_ble_eq_true rfl) (Nat.le_of_ble_eq_true rfl) rfl (k_fi ?_) (fun _ _ _ _ _ _ _ hx => no_x hx)
        refine r_if_ne (pc := 62) 68 dX11_sweep_62 rfl (by omega) (fun h62 => ?_) (fun h62 => ?_)
        · rw [if_neg (by omega)] at kk
          have x65 : x.2 < 65 := by
            by_cases c : k < q
            · rw [bz_t c] at x1; omega
            · rw [bz_f c] at x1; omega
          have b0 := bz_r (p := k < q)
          refine r_aload_n (pc := 68) dX11_sweep_68 rfl rfl ?_
          refine r_getr (pc := 69) (c := 11) (k := 36) (kz := 36) hs.o cok_11 (Nat.le_of_ble_eq_true rfl) q1896 ⟨rfl, rfl⟩ (Or.inl rfl) rfl (fun _ _ _ => rfl) hs.p_sweepRow dX11_sweep_69 ?_
          refine r_aload_n (pc := 72) dX11_sweep_72 rfl rfl ?_
          refine r_geti (pc := 73) (c := 11) (k := 37) (kz := 37) hs.o cok_11 (Nat.le_of_ble_eq_true rfl) q1897 ⟨rfl, rfl⟩ (Or.inl rfl) rfl (fun _ _ _ => rfl) dX11_sweep_73 (fun hr73 => ?_)
          try simp (disch := omega) only [ui_ur, ui_ur_n, ur_sv, ur_nv, ui_sv, ui_nv, ui_uis, us_s, us_n] at hr73 ⊢
          refine r_bipush (pc := 76) dX11_sweep_76 (by decide +kernel) ?_
          refine r_iload_n (pc := 78) dX11_sweep_78 rfl rfl ?_
          refine r_imul (pc := 79) dX11_sweep_79 ?_
          refine r_iload_n (pc := 80) dX11_sweep_80 rfl rfl ?_
          refine r_iadd (pc := 81) dX11_sweep_81 ?_
          refine r_iast (pc := 82) hs.t_sweepRow (by omega) (by omega) (by omega) (by omega) dX11_sweep_82 ?_
          try simp (disch := omega) only [ui_ur, ui_ur_n, ur_sv, ur_nv, ui_sv, ui_nv, ui_uis, us_s, us_n]
          refine r_aload_n (pc := 83) dX11_sweep_83 rfl rfl ?_
          refine r_dup (pc := 84) dX11_sweep_84 rfl ?_
          refine r_geti (pc := 85) (c := 11) (k := 37) (kz := 37) hs.o cok_11 (Nat.le_of_ble_eq_true rfl) q1897 ⟨rfl, rfl⟩ (Or.inl rfl) rfl (fun _ _ _ => rfl) dX11_sweep_85 (fun hr85 => ?_)
          try simp (disch := omega) only [ui_ur, ui_ur_n, ur_sv, ur_nv, ui_sv, ui_nv, ui_uis, us_s, us_n] at hr85 ⊢
          refine r_iconst (pc := 88) dX11_sweep_88 ?_
          refine r_iadd (pc := 89) dX11_sweep_89 ?_
          refine r_puti (pc := 90) (c := 11) (k := 37) (kz := 37) hs.o cok_11 (Nat.le_of_ble_eq_true rfl) q1897 ⟨rfl, rfl⟩ (Or.inl rfl) rfl (by omega) rfl rfl (by omega) (fun _ _ _ => rfl) ⟨rfl, rfl⟩ dX11_sweep_90 ?_
          try simp (disch := omega) only [ui_ur, ui_ur_n, ur_sv, ur_nv, ui_sv, ui_nv, ui_uis, us_s, us_n]
          rw [us_us]
          refine r_iinc3 (pc := 93) (Nat.le_of_ble_eq_true rfl) dX11_sweep_93 rfl ?_
          refine r_goto (pc := 96) 30 dX11_sweep_96 rfl ?_
          refine ih kind (q + 1) (us x.1 x.2 (100 * q + kind), x.2 + 1) k0 k1 (by omega) (by omega) (by omega) (by show 0 ≤ x.2 + 1; omega) ?_ kk
          show x.2 + 1 ≤ _
          by_cases c : k < q + 1
          · rw [bz_t c]
            rw [bz_t (show k < q by omega)] at x1
            omega
          · rw [bz_f c]; omega
        refine r_goto (pc := 65) 93 dX11_sweep_65 rfl ?_
        exact skip (Or.inr (Or.inr h62))
    have outer : ∀ (n : Nat) (kind : Int) (l3 : Option Value) (x : (Int → Int) × Int), 0 ≤ kind → kind ≤ 13 → 13 - kind = n → 0 ≤ x.2 → x.2 ≤ 5 * kind → Q (some (iv (f_sw σ k n kind x).2)) (ur (ur (ur I (m + 15) (f_sw σ k n kind x).1) m (us (us ω 0 0) 37 (f_sw σ k n kind x).2)) (m + 2) σ) J P T z → PW G mX11_sweep (rmD (d + 2) 0 0) (MZ G Q nX 0 0) 0 0 (ur (ur (ur I (m + 15) x.1) m (us (us ω 0 0) 37 x.2)) (m + 2) σ) J P T z 22 [some (.ref m), some (iv k), some (iv kind), l3] [] := by
      intro n
      induction n with
      | zero =>
        intro kind l3 x k0 k1 kn x0 x1 hQ
        refine r_iload_n (pc := 22) dX11_sweep_22 rfl rfl ?_
        refine r_bipush (pc := 23) dX11_sweep_23 (by decide +kernel) ?_
        refine r_icmp_ge (pc := 25) 105 dX11_sweep_25 rfl (by omega) (by omega) (fun h25 => ?_) (fun h25 => ?_)
        · refine r_aload_n (pc := 105) dX11_sweep_105 rfl rfl ?_
          refine r_geti (pc := 106) (c := 11) (k := 37) (kz := 37) hs.o cok_11 (Nat.le_of_ble_eq_true rfl) q1897 ⟨rfl, rfl⟩ (Or.inl rfl) rfl (fun _ _ _ => rfl) dX11_sweep_106 (fun hr106 => ?_)
          try simp (disch := omega) only [ui_ur, ui_ur_n, ur_sv, ur_nv, ui_sv, ui_nv, ui_uis, us_s, us_n] at hr106 ⊢
          refine r_ireturn (pc := 109) rfl rfl dX11_sweep_109 (Nat.le_of_ble_eq_true rfl) (Nat.le_of_ble_eq_true rfl) ?_
          exact hQ
        omega
      | succ n ih =>
        intro kind l3 x k0 k1 kn x0 x1 hQ
        unfold f_sw at hQ
        refine r_iload_n (pc := 22) dX11_sweep_22 rfl rfl ?_
        refine r_bipush (pc := 23) dX11_sweep_23 (by decide +kernel) ?_
        refine r_icmp_ge (pc := 25) 105 dX11_sweep_25 rfl (by omega) (by omega) (fun h25 => ?_) (fun h25 => ?_)
        · omega
        refine r_iconst (pc := 28) dX11_sweep_28 ?_
        refine r_istore_n3 (pc := 29) (Nat.le_of_ble_eq_true rfl) dX11_sweep_29 rfl ?_
        refine inner (σ 1).toNat kind 0 x k0 (by omega) (by omega) (by omega) (by omega) x0 (by rw [bz_f (by omega)]; omega) fun l3 => ?_
        have rr := f_sw1_r (σ := σ) (k := k) (kind := kind) (σ 1).toNat 0 (5 * kind) x x0 (by rw [bz_f (by omega)]; omega)
        rw [bz_t (by omega)] at rr
        generalize f_sw1 σ k kind (σ 1).toNat 0 x = y at *
        refine r_iinc2 (pc := 99) (Nat.le_of_ble_eq_true rfl) dX11_sweep_99 rfl ?_
        refine r_goto (pc := 102) 22 dX11_sweep_102 rfl ?_
        exact ih (kind + 1) _ y (by omega) (by omega) (by omega) rr.1 (by omega) hQ
    exact outer 13 0 none (r, 0) (by omega) (by omega) (by omega) (by show (0 : Int) ≤ 0; omega) (by show (0 : Int) ≤ 5 * 0; omega) hQ
  rw [if_neg (bz_0.mp h10)] at hQ
  refine r_iconst (pc := 13) dX11_sweep_13 ?_
  refine r_ireturn (pc := 14) rfl rfl dX11_sweep_14 (Nat.le_of_ble_eq_true rfl) (Nat.le_of_ble_eq_true rfl) ?_
  exact hQ
theorem M_swept (hs : shM G P T m) {i : Int} (hi : rg i) (h37 : 0 ≤ ω 37 ∧ ω 37 ≤ 65) (hQ : Q (some (iv (if 0 ≤ i ∧ i ≤ ω 37 - 1 then I (m + 15) i else -1))) (ur I m (us ω 0 0)) J P T z) : MC G yX11_swept (ws_ yX11_swept cX11_swept 2 (some FieldType.int)) (d + 1) 0 0 [.ref m, iv i] (ur I m ω) J P T z Q nX := by
  have hb := hs.b
  refine MC.of (by decide) (Nat.le_of_ble_eq_true rfl) ?_
  show PW G mX11_swept (rmD (d + 1) 0 0) (MZ G Q nX 0 0) 0 0 (ur I m ω) J P T z 0 [some (.ref m), some (iv i)] []
  refine r_aload_n (pc := 0) dX11_swept_0 rfl rfl ?_
  refine r_iconst (pc := 1) dX11_swept_1 ?_
  refine r_puti (pc := 2) (c := 11) (k := 0) (kz := 0) hs.o cok_11 (Nat.le_of_ble_eq_true rfl) q1860 ⟨rfl, rfl⟩ (Or.inl rfl) rfl (by omega) rfl rfl (by omega) (fun _ _ _ => rfl) ⟨rfl, rfl⟩ dX11_swept_2 ?_
  try simp (disch := omega) only [ui_ur, ui_ur_n, ur_sv, ur_nv, ui_sv, ui_nv, ui_uis, us_s, us_n]
  refine r_iload_n (pc := 5) dX11_swept_5 rfl rfl ?_
  refine r_iconst (pc := 6) dX11_swept_6 ?_
  refine r_aload_n (pc := 7) dX11_swept_7 rfl rfl ?_
  refine r_geti (pc := 8) (c := 11) (k := 37) (kz := 37) hs.o cok_11 (Nat.le_of_ble_eq_true rfl) q1897 ⟨rfl, rfl⟩ (Or.inl rfl) rfl (fun _ _ _ => rfl) dX11_swept_8 (fun hr8 => ?_)
  try simp (disch := omega) only [ui_ur, ui_ur_n, ur_sv, ur_nv, ui_sv, ui_nv, ui_uis, us_s, us_n] at hr8 ⊢
  refine r_iconst (pc := 11) dX11_swept_11 ?_
  refine r_isub (pc := 12) dX11_swept_12 ?_
  refine r_callS3 (pc := 13) (M_isIn hi (by omega) (by omega) fe_i) im_X11_isIn q2095 dX11_swept_13 (Nat.le_of_ble_eq_true rfl) (Nat.le_of_ble_eq_true rfl) rfl (k_fi ?_) (fun _ _ _ _ _ _ _ hx => no_x hx)
  refine r_if_eq (pc := 16) 28 dX11_swept_16 rfl bz_g (fun h16 => ?_) (fun h16 => ?_)
  · rw [if_neg (bz_0.mp h16)] at hQ
    refine r_iconst (pc := 28) dX11_swept_28 ?_
    refine r_ireturn (pc := 29) rfl rfl dX11_swept_29 (Nat.le_of_ble_eq_true rfl) (Nat.le_of_ble_eq_true rfl) ?_
    exact hQ
  have g := bz_ne.mp h16
  rw [if_pos g] at hQ
  refine r_aload_n (pc := 19) dX11_swept_19 rfl rfl ?_
  refine r_getr (pc := 20) (c := 11) (k := 36) (kz := 36) hs.o cok_11 (Nat.le_of_ble_eq_true rfl) q1896 ⟨rfl, rfl⟩ (Or.inl rfl) rfl (fun _ _ _ => rfl) hs.p_sweepRow dX11_swept_20 ?_
  refine r_iload_n (pc := 23) dX11_swept_23 rfl rfl ?_
  refine r_iald (pc := 24) hs.t_sweepRow (by omega) (by omega) dX11_swept_24 (fun hr24 => ?_)
  try simp (disch := omega) only [ui_ur, ui_ur_n, ur_sv, ur_nv, ui_sv, ui_nv, ui_uis, us_s, us_n] at hr24 ⊢
  refine r_goto (pc := 25) 29 dX11_swept_25 rfl ?_
  refine r_ireturn (pc := 29) rfl rfl dX11_swept_29 (Nat.le_of_ble_eq_true rfl) (Nat.le_of_ble_eq_true rfl) ?_
  exact hQ
end M15
