/-! ===== the face: the tape, sweeps, gains ===== -/
section L2
variable {G : GE} {I I0 J : HI} {P : HP} {T : HT} {z : Nat} {x t d : Nat} {Q : QT} {σ μ τ ω r : Int → Int}
theorem C_onTape (hs : shX G P T x) {k : Int} (hk : 0 ≤ k ∧ k < 940) (hQ : Q (some (iv (I (x + 1) k % 256))) I J P T z) : MC G yX1_onTape (ws_ yX1_onTape cX1_onTape 2 (some FieldType.int)) (d) 0 0 [.ref x, iv k] I J P T z Q nX := by
  have hb := hs.b
  refine MC.of (by decide) (Nat.le_of_ble_eq_true rfl) ?_
  show PW G mX1_onTape (rmD (d) 0 0) (MZ G Q nX 0 0) 0 0 I J P T z 0 [some (.ref x), some (iv k)] []
  refine r_aload_n (pc := 0) dX1_onTape_0 rfl rfl ?_
  refine r_getr (pc := 1) (c := 1) (k := 0) (kz := 0) hs.o cok_1 (Nat.le_of_ble_eq_true rfl) q510 ⟨rfl, rfl⟩ (Or.inl rfl) rfl (fun _ _ _ => rfl) hs.p_tape dX1_onTape_1 ?_
  refine r_iload_n (pc := 4) dX1_onTape_4 rfl rfl ?_
  refine r_bald (pc := 5) hs.t_tape (by omega) (by omega) dX1_onTape_5 (fun hr5 => ?_)
  try simp (disch := omega) only [ui_ur, ui_ur_n, ur_sv, ur_nv, ui_sv, ui_nv, ui_uis, us_s, us_n] at hr5 ⊢
  refine r_sipush (pc := 6) dX1_onTape_6 (by decide +kernel) ?_
  refine r_iand (pc := 9) 8 256 dX1_onTape_9 (by decide +kernel) (by decide) rfl ?_
  refine r_ireturn (pc := 10) rfl rfl dX1_onTape_10 (Nat.le_of_ble_eq_true rfl) (Nat.le_of_ble_eq_true rfl) ?_
  exact hQ
theorem C_take (hs : shX G P T x) (hQ : Q (some (iv (ω 1))) (ur I x (us ω 1 0)) J P T z) : MC G yX1_take (ws_ yX1_take cX1_take 2 (some FieldType.int)) (d) 0 0 [.ref x] (ur I x ω) J P T z Q nX := by
  have hb := hs.b
  refine MC.of (by decide) (Nat.le_of_ble_eq_true rfl) ?_
  show PW G mX1_take (rmD (d) 0 0) (MZ G Q nX 0 0) 0 0 (ur I x ω) J P T z 0 [some (.ref x), none] []
  refine r_aload_n (pc := 0) dX1_take_0 rfl rfl ?_
  refine r_geti (pc := 1) (c := 1) (k := 1) (kz := 1) hs.o cok_1 (Nat.le_of_ble_eq_true rfl) q511 ⟨rfl, rfl⟩ (Or.inl rfl) rfl (fun _ _ _ => rfl) dX1_take_1 (fun hr1 => ?_)
  try simp (disch := omega) only [ui_ur, ui_ur_n, ur_sv, ur_nv, ui_sv, ui_nv, ui_uis, us_s, us_n] at hr1 ⊢
  refine r_istore_n1 (pc := 4) (Nat.le_of_ble_eq_true rfl) dX1_take_4 rfl ?_
  refine r_aload_n (pc := 5) dX1_take_5 rfl rfl ?_
  refine r_iconst (pc := 6) dX1_take_6 ?_
  refine r_puti (pc := 7) (c := 1) (k := 1) (kz := 1) hs.o cok_1 (Nat.le_of_ble_eq_true rfl) q511 ⟨rfl, rfl⟩ (Or.inl rfl) rfl (by omega) rfl rfl (by omega) (fun _ _ _ => rfl) ⟨rfl, rfl⟩ dX1_take_7 ?_
  try simp (disch := omega) only [ui_ur, ui_ur_n, ur_sv, ur_nv, ui_sv, ui_nv, ui_uis, us_s, us_n]
  refine r_iload_n (pc := 10) dX1_take_10 rfl rfl ?_
  refine r_ireturn (pc := 11) rfl rfl dX1_take_11 (Nat.le_of_ble_eq_true rfl) (Nat.le_of_ble_eq_true rfl) ?_
  exact hQ
theorem C_come (hs : shX G P T x) {v : Int} (hv : rg v) (hl : 0 ≤ ω 1 ∧ ω 1 ≤ 936) (hQ : Q none (ur (ur I (x + 1) (f_four τ (ω 1) v)) x (us ω 1 (ω 1 + 4))) J P T z) : MC G yX1_come (ws_ yX1_come cX1_come 3 (none : Option FieldType)) (d) 0 0 [.ref x, iv v] (ur (ur I (x + 1) τ) x ω) J P T z Q nX := by
  have hb := hs.b
  refine MC.of (by decide) (Nat.le_of_ble_eq_true rfl) ?_
  show PW G mX1_come (rmD (d) 0 0) (MZ G Q nX 0 0) 0 0 (ur (ur I (x + 1) τ) x ω) J P T z 0 [some (.ref x), some (iv v), none] []
  refine r_bipush (pc := 0) dX1_come_0 (by decide +kernel) ?_
  refine r_istore_n2 (pc := 2) (Nat.le_of_ble_eq_true rfl) dX1_come_2 rfl ?_
  have step : ∀ (k l : Int) (τ : Int → Int), 0 ≤ k → k < 32 → 0 ≤ l → l < 940 → PW G mX1_come (rmD (d) 0 0) (MZ G Q nX 0 0) 0 0 (ur (ur I (x + 1) (us τ l (b8 (v / (2 ^ k.toNat : Nat))))) x (us ω 1 (l + 1))) J P T z 3 [some (.ref x), some (iv v), some (iv (k + -8))] [] → PW G mX1_come (rmD (d) 0 0) (MZ G Q nX 0 0) 0 0 (ur (ur I (x + 1) τ) x (us ω 1 l)) J P T z 3 [some (.ref x), some (iv v), some (iv k)] [] := by
    intro k l τ g0 g1 g2 g3 hk
    refine r_iload_n (pc := 3) dX1_come_3 rfl rfl ?_
    refine r_if_lt (pc := 4) 36 dX1_come_4 rfl (by omega) (fun h4 => ?_) (fun h4 => ?_)
    · omega
    refine r_aload_n (pc := 7) dX1_come_7 rfl rfl ?_
    refine r_getr (pc := 8) (c := 1) (k := 0) (kz := 0) hs.o cok_1 (Nat.le_of_ble_eq_true rfl) q510 ⟨rfl, rfl⟩ (Or.inl rfl) rfl (fun _ _ _ => rfl) hs.p_tape dX1_come_8 ?_
    refine r_aload_n (pc := 11) dX1_come_11 rfl rfl ?_
    refine r_geti (pc := 12) (c := 1) (k := 1) (kz := 1) hs.o cok_1 (Nat.le_of_ble_eq_true rfl) q511 ⟨rfl, rfl⟩ (Or.inl rfl) rfl (fun _ _ _ => rfl) dX1_come_12 (fun hr12 => ?_)
    try simp (disch := omega) only [ui_ur, ui_ur_n, ur_sv, ur_nv, ui_sv, ui_nv, ui_uis, us_s, us_n] at hr12 ⊢
    refine r_iload_n (pc := 15) dX1_come_15 rfl rfl ?_
    refine r_iload_n (pc := 16) dX1_come_16 rfl rfl ?_
    refine r_ishr (pc := 17) dX1_come_17 hv (by omega) ?_
    refine r_i2b (pc := 18) dX1_come_18  ?_
    refine r_bast (pc := 19) hs.t_tape (by omega) (by omega) (by omega) (by omega) dX1_come_19 ?_
    try simp (disch := omega) only [ui_ur, ui_ur_n, ur_sv, ur_nv, ui_sv, ui_nv, ui_uis, us_s, us_n]
    refine r_aload_n (pc := 20) dX1_come_20 rfl rfl ?_
    refine r_dup (pc := 21) dX1_come_21 rfl ?_
    refine r_geti (pc := 22) (c := 1) (k := 1) (kz := 1) hs.o cok_1 (Nat.le_of_ble_eq_true rfl) q511 ⟨rfl, rfl⟩ (Or.inl rfl) rfl (fun _ _ _ => rfl) dX1_come_22 (fun hr22 => ?_)
    try simp (disch := omega) only [ui_ur, ui_ur_n, ur_sv, ur_nv, ui_sv, ui_nv, ui_uis, us_s, us_n] at hr22 ⊢
    refine r_iconst (pc := 25) dX1_come_25 ?_
    refine r_iadd (pc := 26) dX1_come_26 ?_
    refine r_puti (pc := 27) (c := 1) (k := 1) (kz := 1) hs.o cok_1 (Nat.le_of_ble_eq_true rfl) q511 ⟨rfl, rfl⟩ (Or.inl rfl) rfl (by omega) rfl rfl (by omega) (fun _ _ _ => rfl) ⟨rfl, rfl⟩ dX1_come_27 ?_
    try simp (disch := omega) only [ui_ur, ui_ur_n, ur_sv, ur_nv, ui_sv, ui_nv, ui_uis, us_s, us_n]
    refine r_iinc2 (pc := 30) (Nat.le_of_ble_eq_true rfl) dX1_come_30 rfl ?_
    refine r_goto (pc := 33) 3 dX1_come_33 rfl ?_
    rw [us_us]
    exact hk
  rw [← us_id (f := ω) (j := 1) (v := ω 1) rfl]
  refine step 24 (ω 1) _ (by omega) (by omega) (by omega) (by omega) ?_
  refine step 16 (ω 1 + 1) _ (by omega) (by omega) (by omega) (by omega) ?_
  refine step 8 (ω 1 + 1 + 1) _ (by omega) (by omega) (by omega) (by omega) ?_
  refine step 0 (ω 1 + 1 + 1 + 1) _ (by omega) (by omega) (by omega) (by omega) ?_
  refine r_iload_n (pc := 3) dX1_come_3 rfl rfl ?_
  refine r_if_lt (pc := 4) 36 dX1_come_4 rfl (by omega) (fun h4 => ?_) (fun h4 => ?_)
  · refine r_return (pc := 36) rfl dX1_come_36 (Nat.le_of_ble_eq_true rfl) (Nat.le_of_ble_eq_true rfl) ?_
    have e : f_four τ (ω 1) v = us (us (us (us τ (ω 1) (b8 (v / (2 ^ (24 : Int).toNat : Nat)))) (ω 1 + 1) (b8 (v / (2 ^ (16 : Int).toNat : Nat)))) (ω 1 + 1 + 1) (b8 (v / (2 ^ (8 : Int).toNat : Nat)))) (ω 1 + 1 + 1 + 1) (b8 (v / (2 ^ (0 : Int).toNat : Nat))) := by
      unfold f_four
      rw [show ω 1 + 1 + 1 = ω 1 + 2 by omega, show ω 1 + 2 + 1 = ω 1 + 3 by omega, show v / (2 ^ (0 : Int).toNat : Nat) = v by simp]
      rfl
    rw [e, show ω 1 + 4 = ω 1 + 1 + 1 + 1 + 1 by omega] at hQ
    exact hQ
  omega
theorem C_feed (hs : shX G P T x) {a b c e f : Int} (h1 : rg a) (h2 : rg b) (h3 : rg c) (h4 : rg e) (h5 : rg f) (hl : 0 ≤ ω 1 ∧ ω 1 ≤ 940)
    (hQ : if 940 < ω 1 + 20 then Q (some (iv (-1))) (ur (ur I (x + 1) τ) x ω) J P T z else Q (some (iv (ω 1 + 20))) (ur (ur I (x + 1) (f_four (f_four (f_four (f_four (f_four τ (ω 1) a) (ω 1 + 4) b) (ω 1 + 8) c) (ω 1 + 12) e) (ω 1 + 16) f)) x (us ω 1 (ω 1 + 20))) J P T z) : MC G yX1_feed (ws_ yX1_feed cX1_feed 6 (some FieldType.int)) (d + 1) 0 0 [.ref x, iv a, iv b, iv c, iv e, iv f] (ur (ur I (x + 1) τ) x ω) J P T z Q nX := by
  have hb := hs.b
  refine MC.of (by decide) (Nat.le_of_ble_eq_true rfl) ?_
  show PW G mX1_feed (rmD (d + 1) 0 0) (MZ G Q nX 0 0) 0 0 (ur (ur I (x + 1) τ) x ω) J P T z 0 [some (.ref x), some (iv a), some (iv b), some (iv c), some (iv e), some (iv f)] []
  refine r_aload_n (pc := 0) dX1_feed_0 rfl rfl ?_
  refine r_geti (pc := 1) (c := 1) (k := 1) (kz := 1) hs.o cok_1 (Nat.le_of_ble_eq_true rfl) q511 ⟨rfl, rfl⟩ (Or.inl rfl) rfl (fun _ _ _ => rfl) dX1_feed_1 (fun hr1 => ?_)
  try simp (disch := omega) only [ui_ur, ui_ur_n, ur_sv, ur_nv, ui_sv, ui_nv, ui_uis, us_s, us_n] at hr1 ⊢
  refine r_bipush (pc := 4) dX1_feed_4 (by decide +kernel) ?_
  refine r_iadd (pc := 6) dX1_feed_6 ?_
  refine r_sipush (pc := 7) dX1_feed_7 (by decide +kernel) ?_
  refine r_icmp_le (pc := 10) 15 dX1_feed_10 rfl (by omega) (by omega) (fun h10 => ?_) (fun h10 => ?_)
  · rw [if_neg (by omega)] at hQ
    refine r_aload_n (pc := 15) dX1_feed_15 rfl rfl ?_
    refine r_iload_n (pc := 16) dX1_feed_16 rfl rfl ?_
    refine r_callV1 (pc := 17) (C_come hs h1 (by omega) fe_i) im_X1_come qs10 q587 hs.o rfl dX1_feed_17 (Nat.le_of_ble_eq_true rfl) (Nat.le_of_ble_eq_true rfl) rfl (k_fv ?_) (fun _ _ _ _ _ _ _ hx => no_x hx)
    try simp (disch := omega) only [ui_ur, ui_ur_n, ur_sv, ur_nv, ui_sv, ui_nv, ui_uis, us_s, us_n]
    refine r_aload_n (pc := 20) dX1_feed_20 rfl rfl ?_
    refine r_iload_n (pc := 21) dX1_feed_21 rfl rfl ?_
    refine r_callV1 (pc := 22) (C_come (ω := us ω 1 (ω 1 + 4)) hs h2 (by rw [us_s]; omega) fe_i) im_X1_come qs10 q587 hs.o rfl dX1_feed_22 (Nat.le_of_ble_eq_true rfl) (Nat.le_of_ble_eq_true rfl) rfl (k_fv ?_) (fun _ _ _ _ _ _ _ hx => no_x hx)
    try simp (disch := omega) only [ui_ur, ui_ur_n, ur_sv, ur_nv, ui_sv, ui_nv, ui_uis, us_s, us_n]
    rw [us_us, show ω 1 + 4 + 4 = ω 1 + 8 by omega]
    refine r_aload_n (pc := 25) dX1_feed_25 rfl rfl ?_
    refine r_iload_n (pc := 26) dX1_feed_26 rfl rfl ?_
    refine r_callV1 (pc := 27) (C_come (ω := us ω 1 (ω 1 + 8)) hs h3 (by rw [us_s]; omega) fe_i) im_X1_come qs10 q587 hs.o rfl dX1_feed_27 (Nat.le_of_ble_eq_true rfl) (Nat.le_of_ble_eq_true rfl) rfl (k_fv ?_) (fun _ _ _ _ _ _ _ hx => no_x hx)
    try simp (disch := omega) only [ui_ur, ui_ur_n, ur_sv, ur_nv, ui_sv, ui_nv, ui_uis, us_s, us_n]
    rw [us_us, show ω 1 + 8 + 4 = ω 1 + 12 by omega]
    refine r_aload_n (pc := 30) dX1_feed_30 rfl rfl ?_
    refine r_iload (pc := 31) dX1_feed_31 rfl ?_
    refine r_callV1 (pc := 33) (C_come (ω := us ω 1 (ω 1 + 12)) hs h4 (by rw [us_s]; omega) fe_i) im_X1_come qs10 q587 hs.o rfl dX1_feed_33 (Nat.le_of_ble_eq_true rfl) (Nat.le_of_ble_eq_true rfl) rfl (k_fv ?_) (fun _ _ _ _ _ _ _ hx => no_x hx)
    try simp (disch := omega) only [ui_ur, ui_ur_n, ur_sv, ur_nv, ui_sv, ui_nv, ui_uis, us_s, us_n]
    rw [us_us, show ω 1 + 12 + 4 = ω 1 + 16 by omega]
    refine r_aload_n (pc := 36) dX1_feed_36 rfl rfl ?_
    refine r_iload (pc := 37) dX1_feed_37 rfl ?_
    refine r_callV1 (pc := 39) (C_come (ω := us ω 1 (ω 1 + 16)) hs h5 (by rw [us_s]; omega) fe_i) im_X1_come qs10 q587 hs.o rfl dX1_feed_39 (Nat.le_of_ble_eq_true rfl) (Nat.le_of_ble_eq_true rfl) rfl (k_fv ?_) (fun _ _ _ _ _ _ _ hx => no_x hx)
    try simp (disch := omega) only [ui_ur, ui_ur_n, ur_sv, ur_nv, ui_sv, ui_nv, ui_uis, us_s, us_n]
    rw [us_us, show ω 1 + 16 + 4 = ω 1 + 20 by omega]
    refine r_aload_n (pc := 42) dX1_feed_42 rfl rfl ?_
    refine r_geti (pc := 43) (c := 1) (k := 1) (kz := 1) hs.o cok_1 (Nat.le_of_ble_eq_true rfl) q511 ⟨rfl, rfl⟩ (Or.inl rfl) rfl (fun _ _ _ => rfl) dX1_feed_43 (fun hr43 => ?_)
    try simp (disch := omega) only [ui_ur, ui_ur_n, ur_sv, ur_nv, ui_sv, ui_nv, ui_uis, us_s, us_n] at hr43 ⊢
    refine r_ireturn (pc := 46) rfl rfl dX1_feed_46 (Nat.le_of_ble_eq_true rfl) (Nat.le_of_ble_eq_true rfl) ?_
    exact hQ
  rw [if_pos (by omega)] at hQ
  refine r_iconst (pc := 13) dX1_feed_13 ?_
  refine r_ireturn (pc := 14) rfl rfl dX1_feed_14 (Nat.le_of_ble_eq_true rfl) (Nat.le_of_ble_eq_true rfl) ?_
  exact hQ
theorem C_end (hs : shX G P T x) {n : Int} (h1 : rg n) (hQ : if n < 0 ∨ ω 1 < n then Q (some (iv 0)) (ur I x ω) J P T z else Q (some (iv 1)) (ur I x (us ω 1 n)) J P T z) : MC G yX1_end (ws_ yX1_end cX1_end 2 (some FieldType.boolean)) (d) 0 0 [.ref x, iv n] (ur I x ω) J P T z Q nX := by
  have hb := hs.b
  refine MC.of (by decide) (Nat.le_of_ble_eq_true rfl) ?_
  show PW G mX1_end (rmD (d) 0 0) (MZ G Q nX 0 0) 0 0 (ur I x ω) J P T z 0 [some (.ref x), some (iv n)] []
  refine r_iload_n (pc := 0) dX1_end_0 rfl rfl ?_
  refine r_if_lt (pc := 1) 12 dX1_end_1 rfl (by omega) (fun h1 => ?_) (fun h1 => ?_)
  · rw [if_pos (by omega)] at hQ
    refine r_iconst (pc := 12) dX1_end_12 ?_
    refine r_ireturn (pc := 13) rfl (nb_z (by omega)) dX1_end_13 (Nat.le_of_ble_eq_true rfl) (Nat.le_of_ble_eq_true rfl) ?_
    exact hQ
  refine r_iload_n (pc := 4) dX1_end_4 rfl rfl ?_
  refine r_aload_n (pc := 5) dX1_end_5 rfl rfl ?_
  refine r_geti (pc := 6) (c := 1) (k := 1) (kz := 1) hs.o cok_1 (Nat.le_of_ble_eq_true rfl) q511 ⟨rfl, rfl⟩ (Or.inl rfl) rfl (fun _ _ _ => rfl) dX1_end_6 (fun hr6 => ?_)
  try simp (disch := omega) only [ui_ur, ui_ur_n, ur_sv, ur_nv, ui_sv, ui_nv, ui_uis, us_s, us_n] at hr6 ⊢
  refine r_icmp_le (pc := 9) 14 dX1_end_9 rfl (by omega) (by omega) (fun h9 => ?_) (fun h9 => ?_)
  · rw [if_neg (by omega)] at hQ
    refine r_aload_n (pc := 14) dX1_end_14 rfl rfl ?_
    refine r_iload_n (pc := 15) dX1_end_15 rfl rfl ?_
    refine r_puti (pc := 16) (c := 1) (k := 1) (kz := 1) hs.o cok_1 (Nat.le_of_ble_eq_true rfl) q511 ⟨rfl, rfl⟩ (Or.inl rfl) rfl (by omega) rfl rfl (by omega) (fun _ _ _ => rfl) ⟨rfl, rfl⟩ dX1_end_16 ?_
    try simp (disch := omega) only [ui_ur, ui_ur_n, ur_sv, ur_nv, ui_sv, ui_nv, ui_uis, us_s, us_n]
    refine r_iconst (pc := 19) dX1_end_19 ?_
    refine r_ireturn (pc := 20) rfl (nb_z (by omega)) dX1_end_20 (Nat.le_of_ble_eq_true rfl) (Nat.le_of_ble_eq_true rfl) ?_
    exact hQ
  rw [if_pos (by omega)] at hQ
  refine r_iconst (pc := 12) dX1_end_12 ?_
  refine r_ireturn (pc := 13) rfl (nb_z (by omega)) dX1_end_13 (Nat.le_of_ble_eq_true rfl) (Nat.le_of_ble_eq_true rfl) ?_
  exact hQ
theorem sm_cut {f : Int → Int} {n m : Nat} (hn : n ≤ m) (h : ∀ i : Int, n ≤ i → i < m → f i = 0) : sm f m = sm f n := by
  obtain ⟨k, rfl⟩ : ∃ k, m = n + k := ⟨m - n, by omega⟩
  rw [sm_app, sm_z (f := fun j => f ((n : Int) + j)) (fun j a b => h ((n : Int) + j) (by omega) (by omega)), Int.add_zero]
theorem gain_cut (h : CV σ) {p : Int} (hp : 0 ≤ p ∧ p < 6) : sm (fun j => bz (0 < σ (60 + 13 * p + j) ∧ wr (f_inHands σ j) = 4)) 13 = sm (fun j => bz (0 < σ (60 + 13 * p + j) ∧ f_inHands σ j = 4)) (σ 0).toNat := by
  have ht := h.ta
  rw [sm_cut (n := (σ 0).toNat) (m := 13) (by omega) (fun i a b => bz_f (fun q => by
    have o := h.one hp.1 hp.2 (k := i) (by omega) (by omega)
    have c := h.ca (k := i) (by omega) (by omega)
    have := ct_r (η := σ) (k := i)
    have := bz_r (p := 0 < σ (138 + i))
    omega))]
  refine sm_congr (fun i a b => ?_)
  have e : wr (f_inHands σ i) = f_inHands σ i := by
    have s := sm_bd (f := fun q => σ (60 + 13 * q + i)) (a := 0) (b := 4) (n := (σ 1).toNat) (fun q x y => h.h4 x (by omega) a (by omega))
    exact wr_id (by unfold f_inHands; omega)
  simp only [bz, e]
theorem C_gains (hx : XS G I P T x t σ μ) {p : Int} (hp2 : rg p) (hQ : Q (some (iv (if isP σ p then f_gain σ p else -1))) I J P T z) : MC G yX1_gains (ws_ yX1_gains cX1_gains 6 (some FieldType.int)) (d + 3) 0 0 [.ref x, iv p] I J P T z Q nX := by
  have hb := hx.b
  have ht := hx.ta
  have hcv := hx.w.cv
  refine MC.of (by decide) (Nat.le_of_ble_eq_true rfl) ?_
  show PW G mX1_gains (rmD (d + 3) 0 0) (MZ G Q nX 0 0) 0 0 I J P T z 0 [some (.ref x), some (iv p), none, none, none, none] []
  refine r_aload_n (pc := 0) dX1_gains_0 rfl rfl ?_
  refine r_getr (pc := 1) (c := 1) (k := 3) (kz := 3) hx.o cok_1 (Nat.le_of_ble_eq_true rfl) q513 ⟨rfl, rfl⟩ (Or.inl rfl) rfl (fun _ _ _ => rfl) hx.p_table dX1_gains_1 ?_
  refine r_iload_n (pc := 4) dX1_gains_4 rfl rfl ?_
  refine r_callV1 (pc := 5) (C_isP hx hp2 fe_i) im_X2_isPerson q1203 q1201 hx.tb.o rfl dX1_gains_5 (Nat.le_of_ble_eq_true rfl) (Nat.le_of_ble_eq_true rfl) rfl (k_fi ?_) (fun _ _ _ _ _ _ _ hx => no_x hx)
  refine r_if_ne (pc := 8) 13 dX1_gains_8 rfl bz_g (fun h8 => ?_) (fun h8 => ?_)
  · have q1 := bz_ne.mp h8
    have p6 : 0 ≤ p ∧ p < 6 := by omega
    rw [if_pos q1] at hQ
    unfold f_gain at hQ
    rw [gain_cut hcv p6] at hQ
    have br := f_booksOf_r (σ := σ) (k := p)
    refine r_aload_n (pc := 13) dX1_gains_13 rfl rfl ?_
    refine r_getr (pc := 14) (c := 1) (k := 4) (kz := 4) hx.o cok_1 (Nat.le_of_ble_eq_true rfl) q514 ⟨rfl, rfl⟩ (Or.inl rfl) rfl (fun _ _ _ => rfl) hx.p_now dX1_gains_14 ?_
    refine r_iload_n (pc := 17) dX1_gains_17 rfl rfl ?_
    refine r_callV1 (pc := 18) (C_booksOf hx.g hx.r p6 fe_i) im_X3_booksOf q1210 q1208 hx.g.o rfl dX1_gains_18 (Nat.le_of_ble_eq_true rfl) (Nat.le_of_ble_eq_true rfl) rfl (k_fi ?_) (fun _ _ _ _ _ _ _ hx => no_x hx)
    refine r_istore_n2 (pc := 21) (Nat.le_of_ble_eq_true rfl) dX1_gains_21 rfl ?_
    refine r_iconst (pc := 22) dX1_gains_22 ?_
    refine r_istore_n3 (pc := 23) (Nat.le_of_ble_eq_true rfl) dX1_gains_23 rfl ?_
    have loop : ∀ (n : Nat) (k : Int) (l4 l5 : Option Value), 0 ≤ k → k + n = σ 0 → PW G mX1_gains (rmD (d + 3) 0 0) (MZ G Q nX 0 0) 0 0 I J P T z 24 [some (.ref x), some (iv p), some (iv (f_booksOf σ p + sm (fun j => bz (0 < σ (60 + 13 * p + j) ∧ f_inHands σ j = 4)) k.toNat)), some (iv k), l4, l5] [] := by
      intro n
      induction n with
      | zero =>
        intro k l4 l5 h0 h1
        obtain rfl : k = σ 0 := by omega
        refine r_iload_n (pc := 24) dX1_gains_24 rfl rfl ?_
        refine r_aload_n (pc := 25) dX1_gains_25 rfl rfl ?_
        refine r_getr (pc := 26) (c := 1) (k := 3) (kz := 3) hx.o cok_1 (Nat.le_of_ble_eq_true rfl) q513 ⟨rfl, rfl⟩ (Or.inl rfl) rfl (fun _ _ _ => rfl) hx.p_table dX1_gains_26 ?_
        refine r_getiN (pc := 29) (c := 2) (k := 0) (kz := 0) hx.tb.o cok_2 (Nat.le_of_ble_eq_true rfl) q205 ⟨rfl, rfl⟩ (Or.inl rfl) rfl (fun _ _ _ => rfl) dX1_gains_29 (fun hr29 => ?_)
        rw [hx.r.ta.1] at hr29 ⊢
        refine r_icmp_ge (pc := 32) 105 dX1_gains_32 rfl (by omega) (by omega) (fun h32 => ?_) (fun h32 => ?_)
        · refine r_iload_n (pc := 105) dX1_gains_105 rfl rfl ?_
          refine r_ireturn (pc := 106) rfl rfl dX1_gains_106 (Nat.le_of_ble_eq_true rfl) (Nat.le_of_ble_eq_true rfl) ?_
          exact hQ
        omega
      | succ n ih =>
        intro k l4 l5 h0 h1
        have hs9 := sm_succ (f := fun j => bz (0 < σ (60 + 13 * p + j) ∧ f_inHands σ j = 4)) h0
        have sr := sm_bd (f := fun j => bz (0 < σ (60 + 13 * p + j) ∧ f_inHands σ j = 4)) (a := 0) (b := 1) (n := k.toNat) (fun _ _ _ => bz_r)
        refine r_iload_n (pc := 24) dX1_gains_24 rfl rfl ?_
        refine r_aload_n (pc := 25) dX1_gains_25 rfl rfl ?_
        refine r_getr (pc := 26) (c := 1) (k := 3) (kz := 3) hx.o cok_1 (Nat.le_of_ble_eq_true rfl) q513 ⟨rfl, rfl⟩ (Or.inl rfl) rfl (fun _ _ _ => rfl) hx.p_table dX1_gains_26 ?_
        refine r_getiN (pc := 29) (c := 2) (k := 0) (kz := 0) hx.tb.o cok_2 (Nat.le_of_ble_eq_true rfl) q205 ⟨rfl, rfl⟩ (Or.inl rfl) rfl (fun _ _ _ => rfl) dX1_gains_29 (fun hr29 => ?_)
        rw [hx.r.ta.1] at hr29 ⊢
        refine r_icmp_ge (pc := 32) 105 dX1_gains_32 rfl (by omega) (by omega) (fun h32 => ?_) (fun h32 => ?_)
        · omega
        refine r_iconst (pc := 35) dX1_gains_35 ?_
        refine r_istore4 (pc := 36) (Nat.le_of_ble_eq_true rfl) dX1_gains_36 rfl ?_
        refine r_iconst (pc := 38) dX1_gains_38 ?_
        refine r_istore5 (pc := 39) (Nat.le_of_ble_eq_true rfl) dX1_gains_39 rfl ?_
        have inner : ∀ (m : Nat) (q : Int), 0 ≤ q → q + m = σ 1 → PW G mX1_gains (rmD (d + 3) 0 0) (MZ G Q nX 0 0) 0 0 I J P T z 41 [some (.ref x), some (iv p), some (iv (f_booksOf σ p + sm (fun j => bz (0 < σ (60 + 13 * p + j) ∧ f_inHands σ j = 4)) k.toNat)), some (iv k), some (iv (sm (fun q => σ (60 + 13 * q + k)) q.toNat)), some (iv q)] [] := by
          intro m
          induction m with
          | zero =>
            intro q q0 qm
            obtain rfl : q = σ 1 := by omega
            have ihs := sm_bd (f := fun q => σ (60 + 13 * q + k)) (a := 0) (b := 4) (n := (σ 1).toNat) (fun q x y => hcv.h4 x (by omega) h0 (by omega))
            have eih : sm (fun q => σ (60 + 13 * q + k)) (σ 1).toNat = f_inHands σ k := rfl
            rw [eih] at ihs ⊢
            refine r_iload (pc := 41) dX1_gains_41 rfl ?_
            refine r_aload_n (pc := 43) dX1_gains_43 rfl rfl ?_
            refine r_getr (pc := 44) (c := 1) (k := 3) (kz := 3) hx.o cok_1 (Nat.le_of_ble_eq_true rfl) q513 ⟨rfl, rfl⟩ (Or.inl rfl) rfl (fun _ _ _ => rfl) hx.p_table dX1_gains_44 ?_
            refine r_callV0 (pc := 47) (C_many hx.tb fe_i) im_X2_many q369 q1241 hx.tb.o rfl dX1_gains_47 (Nat.le_of_ble_eq_true rfl) (Nat.le_of_ble_eq_true rfl) rfl (k_fi ?_) (fun _ _ _ _ _ _ _ hx => no_x hx)
            rw [hx.r.ta.2.1]
            refine r_icmp_ge (pc := 50) 76 dX1_gains_50 rfl (by omega) (by omega) (fun h50 => ?_) (fun h50 => ?_)
            · refine r_aload_n (pc := 76) dX1_gains_76 rfl rfl ?_
              refine r_getr (pc := 77) (c := 1) (k := 4) (kz := 4) hx.o cok_1 (Nat.le_of_ble_eq_true rfl) q514 ⟨rfl, rfl⟩ (Or.inl rfl) rfl (fun _ _ _ => rfl) hx.p_now dX1_gains_77 ?_
              refine r_getrN (pc := 80) (c := 3) (k := 1) (kz := 1) hx.g.o cok_3 (Nat.le_of_ble_eq_true rfl) q273 ⟨rfl, rfl⟩ (Or.inl rfl) rfl (fun _ _ _ => rfl) hx.g.p_hand dX1_gains_80 ?_
              refine r_iload_n (pc := 83) dX1_gains_83 rfl rfl ?_
              refine r_aald (pc := 84) hx.g.t_hand ⟨by decide, by decide⟩ rfl (fun _ _ _ => rfl) (by omega) (by omega) (hx.g.q_hand (by omega) (by omega)) dX1_gains_84 ?_
              refine r_iload_n (pc := 85) dX1_gains_85 rfl rfl ?_
              refine r_iald (pc := 86) (hx.g.u_hand (by omega) (by omega)) (by omega) (by omega) dX1_gains_86 (fun hr86 => ?_)
              rw [hx.r.hand (by omega) (by omega) (by omega) (by omega)] at hr86 ⊢
              refine r_if_le (pc := 87) 99 dX1_gains_87 rfl (by omega) (fun h87 => ?_) (fun h87 => ?_)
              · rw [bz_f (by omega), Int.add_zero] at hs9
                refine r_iinc3 (pc := 99) (Nat.le_of_ble_eq_true rfl) dX1_gains_99 rfl ?_
                refine r_goto (pc := 102) 24 dX1_gains_102 rfl ?_
                have := ih (k + 1) (some (iv (f_inHands σ k))) (some (iv (σ 1))) (by omega) (by omega)
                rw [← hs9] at this
                exact this
              refine r_iload (pc := 90) dX1_gains_90 rfl ?_
              refine r_iconst (pc := 92) dX1_gains_92 ?_
              refine r_icmp_ne (pc := 93) 99 dX1_gains_93 rfl (by omega) (by omega) (fun h93 => ?_) (fun h93 => ?_)
              · rw [bz_f (by omega), Int.add_zero] at hs9
                refine r_iinc3 (pc := 99) (Nat.le_of_ble_eq_true rfl) dX1_gains_99 rfl ?_
                refine r_goto (pc := 102) 24 dX1_gains_102 rfl ?_
                have := ih (k + 1) (some (iv (f_inHands σ k))) (some (iv (σ 1))) (by omega) (by omega)
                rw [← hs9] at this
                exact this
              rw [bz_t ⟨h87, h93⟩] at hs9
              refine r_iinc2 (pc := 96) (Nat.le_of_ble_eq_true rfl) dX1_gains_96 rfl ?_
              refine r_iinc3 (pc := 99) (Nat.le_of_ble_eq_true rfl) dX1_gains_99 rfl ?_
              refine r_goto (pc := 102) 24 dX1_gains_102 rfl ?_
              have := ih (k + 1) (some (iv (f_inHands σ k))) (some (iv (σ 1))) (by omega) (by omega)
              rw [← hs9, ← Int.add_assoc] at this
              exact this
            omega
          | succ m im =>
            intro q q0 qm
            refine r_iload (pc := 41) dX1_gains_41 rfl ?_
            refine r_aload_n (pc := 43) dX1_gains_43 rfl rfl ?_
            refine r_getr (pc := 44) (c := 1) (k := 3) (kz := 3) hx.o cok_1 (Nat.le_of_ble_eq_true rfl) q513 ⟨rfl, rfl⟩ (Or.inl rfl) rfl (fun _ _ _ => rfl) hx.p_table dX1_gains_44 ?_
            refine r_callV0 (pc := 47) (C_many hx.tb fe_i) im_X2_many q369 q1241 hx.tb.o rfl dX1_gains_47 (Nat.le_of_ble_eq_true rfl) (Nat.le_of_ble_eq_true rfl) rfl (k_fi ?_) (fun _ _ _ _ _ _ _ hx => no_x hx)
            rw [hx.r.ta.2.1]
            refine r_icmp_ge (pc := 50) 76 dX1_gains_50 rfl (by omega) (by omega) (fun h50 => ?_) (fun h50 => ?_)
            · omega
            refine r_iload (pc := 53) dX1_gains_53 rfl ?_
            refine r_aload_n (pc := 55) dX1_gains_55 rfl rfl ?_
            refine r_getr (pc := 56) (c := 1) (k := 4) (kz := 4) hx.o cok_1 (Nat.le_of_ble_eq_true rfl) q514 ⟨rfl, rfl⟩ (Or.inl rfl) rfl (fun _ _ _ => rfl) hx.p_now dX1_gains_56 ?_
            refine r_getrN (pc := 59) (c := 3) (k := 1) (kz := 1) hx.g.o cok_3 (Nat.le_of_ble_eq_true rfl) q273 ⟨rfl, rfl⟩ (Or.inl rfl) rfl (fun _ _ _ => rfl) hx.g.p_hand dX1_gains_59 ?_
            refine r_iload (pc := 62) dX1_gains_62 rfl ?_
            refine r_aald (pc := 64) hx.g.t_hand ⟨by decide, by decide⟩ rfl (fun _ _ _ => rfl) (by omega) (by omega) (hx.g.q_hand (by omega) (by omega)) dX1_gains_64 ?_
            refine r_iload_n (pc := 65) dX1_gains_65 rfl rfl ?_
            refine r_iald (pc := 66) (hx.g.u_hand (by omega) (by omega)) (by omega) (by omega) dX1_gains_66 (fun hr66 => ?_)
            rw [hx.r.hand (by omega) (by omega) (by omega) (by omega)] at hr66 ⊢
            refine r_iadd (pc := 67) dX1_gains_67 ?_
            refine r_istore4 (pc := 68) (Nat.le_of_ble_eq_true rfl) dX1_gains_68 rfl ?_
            refine r_iinc5 (pc := 70) (Nat.le_of_ble_eq_true rfl) dX1_gains_70 rfl ?_
            refine r_goto (pc := 73) 41 dX1_gains_73 rfl ?_
            have := im (q + 1) (by omega) (by omega)
            rw [← sm_succ (f := fun q => σ (60 + 13 * q + k)) q0] at this
            exact this
        exact inner (σ 1).toNat 0 (by omega) (by omega)
    have := loop (σ 0).toNat 0 none none (by omega) (by omega)
    simp only [Int.toNat_zero, sm, Int.add_zero] at this
    exact this
  rw [if_neg (bz_0.mp h8)] at hQ
  refine r_iconst (pc := 11) dX1_gains_11 ?_
  refine r_ireturn (pc := 12) rfl rfl dX1_gains_12 (Nat.le_of_ble_eq_true rfl) (Nat.le_of_ble_eq_true rfl) ?_
  exact hQ
theorem sw1_id {k kind : Int} (h : σ (60 + 13 * k + kind) = 0) : ∀ (n : Nat) (q : Int) (y : (Int → Int) × Int), f_sw1 σ k kind n q y = y := by
  intro n
  induction n with
  | zero => intro q y; rfl
  | succ n ih => intro q y; simp only [f_sw1]; rw [if_pos (Or.inr (Or.inl h))]; exact ih (q + 1) y
theorem sw_cut (hc : CV σ) {k : Int} (hk : 0 ≤ k ∧ k < 6) : ∀ (n : Nat) (i : Int) (y : (Int → Int) × Int), 0 ≤ i → i + n = 13 → f_sw σ k n i y = f_sw σ k (σ 0 - i).toNat i y := by
  have ht := hc.ta
  intro n
  induction n with
  | zero => intro i y h0 h1; rw [show (σ 0 - i).toNat = 0 by omega]
  | succ n ih =>
    intro i y h0 h1
    by_cases c : i < σ 0
    · rw [show (σ 0 - i).toNat = (σ 0 - (i + 1)).toNat + 1 by omega]
      simp only [f_sw]
      exact ih (i + 1) _ (by omega) (by omega)
    · rw [show (σ 0 - i).toNat = 0 by omega]
      have z0 : σ (60 + 13 * k + i) = 0 := by
        have o := hc.one hk.1 hk.2 (k := i) (by omega) (by omega)
        have c := hc.ca (k := i) (by omega) (by omega)
        have := ct_r (η := σ) (k := i)
        have := bz_r (p := 0 < σ (138 + i))
        omega
      simp only [f_sw]
      rw [sw1_id z0, ih (i + 1) y (by omega) (by omega), show (σ 0 - (i + 1)).toNat = 0 by omega]
      rfl
set_option maxHeartbeats 1000000 in
theorem C_sweep (hx : XS G I P T x t σ μ) {p : Int} (hp2 : rg p)
    (hQ : if isP σ p then Q (some (iv (f_sw σ p 13 0 (r, 0)).2)) (ur (ur I (x + 82) (f_sw σ p 13 0 (r, 0)).1) x (us ω 18 (f_sw σ p 13 0 (r, 0)).2)) J P T z else Q (some (iv (-1))) (ur (ur I (x + 82) r) x ω) J P T z) : MC G yX1_sweep (ws_ yX1_sweep cX1_sweep 4 (some FieldType.int)) (d + 3) 0 0 [.ref x, iv p] (ur (ur I (x + 82) r) x ω) J P T z Q nX := by
  have hb := hx.b
  have ht := hx.ta
  have htx := hx.tx
  have hxr : ∀ r ω : Int → Int, XS G (ur (ur I (x + 82) r) x ω) P T x t σ μ := fun r ω => hx.fr (fun b q => by rw [ur_n (by omega), ur_n (by omega)])
  have hz0 : (f_sw1 σ p 0 0 0 (r, 0)) = (r, 0) := rfl
  refine MC.of (by decide) (Nat.le_of_ble_eq_true rfl) ?_
  show PW G mX1_sweep (rmD (d + 3) 0 0) (MZ G Q nX 0 0) 0 0 (ur (ur I (x + 82) r) x ω) J P T z 0 [some (.ref x), some (iv p), none, none] []
  refine r_aload_n (pc := 0) dX1_sweep_0 rfl rfl ?_
  refine r_getr (pc := 1) (c := 1) (k := 3) (kz := 3) hx.o cok_1 (Nat.le_of_ble_eq_true rfl) q513 ⟨rfl, rfl⟩ (Or.inl rfl) rfl (fun _ _ _ => rfl) hx.p_table dX1_sweep_1 ?_
  refine r_iload_n (pc := 4) dX1_sweep_4 rfl rfl ?_
  refine r_callV1 (pc := 5) (C_isP (hxr r ω) hp2 fe_i) im_X2_isPerson q1203 q1201 hx.tb.o rfl dX1_sweep_5 (Nat.le_of_ble_eq_true rfl) (Nat.le_of_ble_eq_true rfl) rfl (k_fi ?_) (fun _ _ _ _ _ _ _ hx => no_x hx)
  refine r_if_ne (pc := 8) 13 dX1_sweep_8 rfl bz_g (fun h8 => ?_) (fun h8 => ?_)
  · have q1 := bz_ne.mp h8
    have p6 : 0 ≤ p ∧ p < 6 := by omega
    rw [if_pos q1] at hQ
    rw [sw_cut hx.w.cv p6 13 0 _ (by omega) (by omega), Int.sub_zero] at hQ
    generalize hD : f_sw σ p (σ 0).toNat 0 (r, 0) = D at hQ
    refine r_aload_n (pc := 13) dX1_sweep_13 rfl rfl ?_
    refine r_iconst (pc := 14) dX1_sweep_14 ?_
    refine r_puti (pc := 15) (c := 1) (k := 18) (kz := 18) hx.o cok_1 (Nat.le_of_ble_eq_true rfl) q528 ⟨rfl, rfl⟩ (Or.inl rfl) rfl (by omega) rfl rfl (by omega) (fun _ _ _ => rfl) ⟨rfl, rfl⟩ dX1_sweep_15 ?_
    try simp (disch := omega) only [ui_ur, ui_ur_n, ur_sv, ur_nv, ui_sv, ui_nv, ui_uis, us_s, us_n]
    refine r_iconst (pc := 18) dX1_sweep_18 ?_
    refine r_istore_n2 (pc := 19) (Nat.le_of_ble_eq_true rfl) dX1_sweep_19 rfl ?_
    have hk0 : ∀ r1 ω1, ur (ur I (x + 82) r1) x ω1 t 0 = σ 0 := fun r1 ω1 => (hxr r1 ω1).r.ta.1
    have hm0 : ∀ r1 ω1, ur (ur I (x + 82) r1) x ω1 (t + 1) 2 = σ 1 := fun r1 ω1 => (hxr r1 ω1).r.ta.2.1
    have hh0 : ∀ r1 ω1 q k, 0 ≤ q → q < 6 → 0 ≤ k → k < 13 → ur (ur I (x + 82) r1) x ω1 (x + 13 + 2 + q.toNat) k = σ (60 + 13 * q + k) := fun r1 ω1 q k a b c e => (hxr r1 ω1).r.hand a b c e
    have hhI : ∀ q k, 0 ≤ q → q < 6 → 0 ≤ k → k < 13 → I (x + 13 + 2 + q.toNat) k = σ (60 + 13 * q + k) := fun q k a b c e => hx.r.hand a b c e
    have hkI : I t 0 = σ 0 := hx.r.ta.1
    have loop : ∀ (n : Nat) (k : Int) (y : (Int → Int) × Int) (l3 : Option Value), 0 ≤ k → k + n = σ 0 → 0 ≤ y.2 → y.2 ≤ 5 * k → f_sw σ p n k y = D → PW G mX1_sweep (rmD (d + 3) 0 0) (MZ G Q nX 0 0) 0 0 (ur (ur I (x + 82) y.1) x (us ω 18 y.2)) J P T z 20 [some (.ref x), some (iv p), some (iv k), l3] [] := by
      intro n
      induction n with
      | zero =>
        intro k y l3 h0 h1 y0 y1 hD1
        have hD1 : y = D := hD1
        subst hD1
        refine r_iload_n (pc := 20) dX1_sweep_20 rfl rfl ?_
        refine r_aload_n (pc := 21) dX1_sweep_21 rfl rfl ?_
        refine r_getr (pc := 22) (c := 1) (k := 3) (kz := 3) hx.o cok_1 (Nat.le_of_ble_eq_true rfl) q513 ⟨rfl, rfl⟩ (Or.inl rfl) rfl (fun _ _ _ => rfl) hx.p_table dX1_sweep_22 ?_
        refine r_getiN (pc := 25) (c := 2) (k := 0) (kz := 0) hx.tb.o cok_2 (Nat.le_of_ble_eq_true rfl) q205 ⟨rfl, rfl⟩ (Or.inl rfl) rfl (fun _ _ _ => rfl) dX1_sweep_25 (fun hr25 => ?_)
        try simp (disch := omega) only [ui_ur, ui_ur_n, ur_sv, ur_nv, ui_sv, ui_nv, ui_uis, us_s, us_n] at hr25 ⊢
        rw [hkI] at hr25 ⊢
        refine r_icmp_ge (pc := 28) 117 dX1_sweep_28 rfl (by omega) (by omega) (fun h28 => ?_) (fun h28 => ?_)
        · refine r_aload_n (pc := 117) dX1_sweep_117 rfl rfl ?_
          refine r_geti (pc := 118) (c := 1) (k := 18) (kz := 18) hx.o cok_1 (Nat.le_of_ble_eq_true rfl) q528 ⟨rfl, rfl⟩ (Or.inl rfl) rfl (fun _ _ _ => rfl) dX1_sweep_118 (fun hr118 => ?_)
          try simp (disch := omega) only [ui_ur, ui_ur_n, ur_sv, ur_nv, ui_sv, ui_nv, ui_uis, us_s, us_n] at hr118 ⊢
          refine r_ireturn (pc := 121) rfl rfl dX1_sweep_121 (Nat.le_of_ble_eq_true rfl) (Nat.le_of_ble_eq_true rfl) ?_
          exact hQ
        omega
      | succ n ih =>
        intro k y l3 h0 h1 y0 y1 hD1
        simp only [f_sw] at hD1
        refine r_iload_n (pc := 20) dX1_sweep_20 rfl rfl ?_
        refine r_aload_n (pc := 21) dX1_sweep_21 rfl rfl ?_
        refine r_getr (pc := 22) (c := 1) (k := 3) (kz := 3) hx.o cok_1 (Nat.le_of_ble_eq_true rfl) q513 ⟨rfl, rfl⟩ (Or.inl rfl) rfl (fun _ _ _ => rfl) hx.p_table dX1_sweep_22 ?_
        refine r_getiN (pc := 25) (c := 2) (k := 0) (kz := 0) hx.tb.o cok_2 (Nat.le_of_ble_eq_true rfl) q205 ⟨rfl, rfl⟩ (Or.inl rfl) rfl (fun _ _ _ => rfl) dX1_sweep_25 (fun hr25 => ?_)
        try simp (disch := omega) only [ui_ur, ui_ur_n, ur_sv, ur_nv, ui_sv, ui_nv, ui_uis, us_s, us_n] at hr25 ⊢
        rw [hkI] at hr25 ⊢
        refine r_icmp_ge (pc := 28) 117 dX1_sweep_28 rfl (by omega) (by omega) (fun h28 => ?_) (fun h28 => ?_)
        · omega
        refine r_iconst (pc := 31) dX1_sweep_31 ?_
        refine r_istore_n3 (pc := 32) (Nat.le_of_ble_eq_true rfl) dX1_sweep_32 rfl ?_
        have inner : ∀ (m : Nat) (q : Int) (y : (Int → Int) × Int), 0 ≤ q → q + m = σ 1 → 0 ≤ y.2 → y.2 ≤ 5 * k + q - bz (p < q) → f_sw σ p n (k + 1) (f_sw1 σ p k m q y) = D → PW G mX1_sweep (rmD (d + 3) 0 0) (MZ G Q nX 0 0) 0 0 (ur (ur I (x + 82) y.1) x (us ω 18 y.2)) J P T z 33 [some (.ref x), some (iv p), some (iv k), some (iv q)] [] := by
          intro m
          induction m with
          | zero =>
            intro q y q0 qm y0 y1 hD1
            have hD1 : f_sw σ p n (k + 1) y = D := hD1
            rw [bz_t (show p < q by omega)] at y1
            refine r_iload_n (pc := 33) dX1_sweep_33 rfl rfl ?_
            refine r_aload_n (pc := 34) dX1_sweep_34 rfl rfl ?_
            refine r_getr (pc := 35) (c := 1) (k := 3) (kz := 3) hx.o cok_1 (Nat.le_of_ble_eq_true rfl) q513 ⟨rfl, rfl⟩ (Or.inl rfl) rfl (fun _ _ _ => rfl) hx.p_table dX1_sweep_35 ?_
            refine r_callV0 (pc := 38) (C_many hx.tb fe_i) im_X2_many q369 q1241 hx.tb.o rfl dX1_sweep_38 (Nat.le_of_ble_eq_true rfl) (Nat.le_of_ble_eq_true rfl) rfl (k_fi ?_) (fun _ _ _ _ _ _ _ hx => no_x hx)
            rw [hm0]
            refine r_icmp_ge (pc := 41) 111 dX1_sweep_41 rfl (by omega) (by omega) (fun h41 => ?_) (fun h41 => ?_)
            · refine r_iinc2 (pc := 111) (Nat.le_of_ble_eq_true rfl) dX1_sweep_111 rfl ?_
              refine r_goto (pc := 114) 20 dX1_sweep_114 rfl ?_
              exact ih (k + 1) y _ (by omega) (by omega) y0 (by omega) hD1
            omega
          | succ m im =>
            intro q y q0 qm y0 y1 hD1
            have b0 := bz_r (p := p < q)
            have b1 := bz_r (p := p < q + 1)
            have bm : q ≠ p → bz (p < q + 1) = bz (p < q) := fun e => by
              by_cases c : p < q
              · rw [bz_t c, bz_t (by omega)]
              · rw [bz_f c, bz_f (by omega)]
            have bp : q = p → bz (p < q) = 0 ∧ bz (p < q + 1) = 1 := fun e => ⟨bz_f (by omega), bz_t (by omega)⟩
            simp only [f_sw1] at hD1
            refine r_iload_n (pc := 33) dX1_sweep_33 rfl rfl ?_
            refine r_aload_n (pc := 34) dX1_sweep_34 rfl rfl ?_
            refine r_getr (pc := 35) (c := 1) (k := 3) (kz := 3) hx.o cok_1 (Nat.le_of_ble_eq_true rfl) q513 ⟨rfl, rfl⟩ (Or.inl rfl) rfl (fun _ _ _ => rfl) hx.p_table dX1_sweep_35 ?_
            refine r_callV0 (pc := 38) (C_many hx.tb fe_i) im_X2_many q369 q1241 hx.tb.o rfl dX1_sweep_38 (Nat.le_of_ble_eq_true rfl) (Nat.le_of_ble_eq_true rfl) rfl (k_fi ?_) (fun _ _ _ _ _ _ _ hx => no_x hx)
            rw [hm0]
            refine r_icmp_ge (pc := 41) 111 dX1_sweep_41 rfl (by omega) (by omega) (fun h41 => ?_) (fun h41 => ?_)
            · omega
            refine r_iload_n (pc := 44) dX1_sweep_44 rfl rfl ?_
            refine r_iload_n (pc := 45) dX1_sweep_45 rfl rfl ?_
            refine r_icmp_eq (pc := 46) 105 dX1_sweep_46 rfl (by omega) (by omega) (fun h46 => ?_) (fun h46 => ?_)
            · rw [if_pos (Or.inl h46)] at hD1
              have := bp h46
              refine r_iinc3 (pc := 105) (Nat.le_of_ble_eq_true rfl) dX1_sweep_105 rfl ?_
              refine r_goto (pc := 108) 33 dX1_sweep_108 rfl ?_
              exact im (q + 1) y (by omega) (by omega) y0 (by omega) hD1
            have bmq := bm h46
            refine r_aload_n (pc := 49) dX1_sweep_49 rfl rfl ?_
            refine r_getr (pc := 50) (c := 1) (k := 4) (kz := 4) hx.o cok_1 (Nat.le_of_ble_eq_true rfl) q514 ⟨rfl, rfl⟩ (Or.inl rfl) rfl (fun _ _ _ => rfl) hx.p_now dX1_sweep_50 ?_
            refine r_getrN (pc := 53) (c := 3) (k := 1) (kz := 1) hx.g.o cok_3 (Nat.le_of_ble_eq_true rfl) q273 ⟨rfl, rfl⟩ (Or.inl rfl) rfl (fun _ _ _ => rfl) hx.g.p_hand dX1_sweep_53 ?_
            refine r_iload_n (pc := 56) dX1_sweep_56 rfl rfl ?_
            refine r_aald (pc := 57) hx.g.t_hand ⟨by decide, by decide⟩ rfl (fun _ _ _ => rfl) (by omega) (by omega) (hx.g.q_hand (by omega) (by omega)) dX1_sweep_57 ?_
            refine r_iload_n (pc := 58) dX1_sweep_58 rfl rfl ?_
            refine r_iald (pc := 59) (hx.g.u_hand (by omega) (by omega)) (by omega) (by omega) dX1_sweep_59 (fun hr59 => ?_)
            try simp (disch := omega) only [ui_ur, ui_ur_n, ur_sv, ur_nv, ui_sv, ui_nv, ui_uis, us_s, us_n] at hr59 ⊢
            rw [hhI _ _ (by omega) (by omega) (by omega) (by omega)] at hr59 ⊢
            refine r_if_eq (pc := 60) 105 dX1_sweep_60 rfl (by omega) (fun h60 => ?_) (fun h60 => ?_)
            · rw [if_pos (Or.inr (Or.inl h60))] at hD1
              refine r_iinc3 (pc := 105) (Nat.le_of_ble_eq_true rfl) dX1_sweep_105 rfl ?_
              refine r_goto (pc := 108) 33 dX1_sweep_108 rfl ?_
              exact im (q + 1) y (by omega) (by omega) y0 (by omega) hD1
            refine r_aload_n (pc := 63) dX1_sweep_63 rfl rfl ?_
            refine r_getr (pc := 64) (c := 1) (k := 4) (kz := 4) hx.o cok_1 (Nat.le_of_ble_eq_true rfl) q514 ⟨rfl, rfl⟩ (Or.inl rfl) rfl (fun _ _ _ => rfl) hx.p_now dX1_sweep_64 ?_
            refine r_getrN (pc := 67) (c := 3) (k := 1) (kz := 1) hx.g.o cok_3 (Nat.le_of_ble_eq_true rfl) q273 ⟨rfl, rfl⟩ (Or.inl rfl) rfl (fun _ _ _ => rfl) hx.g.p_hand dX1_sweep_67 ?_
            refine r_iload_n (pc := 70) dX1_sweep_70 rfl rfl ?_
            refine r_aald (pc := 71) hx.g.t_hand ⟨by decide, by decide⟩ rfl (fun _ _ _ => rfl) (by omega) (by omega) (hx.g.q_hand (by omega) (by omega)) dX1_sweep_71 ?_
            refine r_iload_n (pc := 72) dX1_sweep_72 rfl rfl ?_
            refine r_iald (pc := 73) (hx.g.u_hand (by omega) (by omega)) (by omega) (by omega) dX1_sweep_73 (fun hr73 => ?_)
            try simp (disch := omega) only [ui_ur, ui_ur_n, ur_sv, ur_nv, ui_sv, ui_nv, ui_uis, us_s, us_n] at hr73 ⊢
            rw [hhI _ _ (by omega) (by omega) (by omega) (by omega)] at hr73 ⊢
            refine r_if_ne (pc := 74) 80 dX1_sweep_74 rfl (by omega) (fun h74 => ?_) (fun h74 => ?_)
            · rw [if_neg (by omega)] at hD1
              refine r_aload_n (pc := 80) dX1_sweep_80 rfl rfl ?_
              refine r_getr (pc := 81) (c := 1) (k := 17) (kz := 17) hx.o cok_1 (Nat.le_of_ble_eq_true rfl) q527 ⟨rfl, rfl⟩ (Or.inl rfl) rfl (fun _ _ _ => rfl) hx.p_swept dX1_sweep_81 ?_
              refine r_aload_n (pc := 84) dX1_sweep_84 rfl rfl ?_
              refine r_geti (pc := 85) (c := 1) (k := 18) (kz := 18) hx.o cok_1 (Nat.le_of_ble_eq_true rfl) q528 ⟨rfl, rfl⟩ (Or.inl rfl) rfl (fun _ _ _ => rfl) dX1_sweep_85 (fun hr85 => ?_)
              try simp (disch := omega) only [ui_ur, ui_ur_n, ur_sv, ur_nv, ui_sv, ui_nv, ui_uis, us_s, us_n] at hr85 ⊢
              refine r_bipush (pc := 88) dX1_sweep_88 (by decide +kernel) ?_
              refine r_iload_n (pc := 90) dX1_sweep_90 rfl rfl ?_
              refine r_imul (pc := 91) dX1_sweep_91 ?_
              refine r_iload_n (pc := 92) dX1_sweep_92 rfl rfl ?_
              refine r_iadd (pc := 93) dX1_sweep_93 ?_
              refine r_iast (pc := 94) hx.t_swept (by omega) (by omega) (by omega) (by omega) dX1_sweep_94 ?_
              try simp (disch := omega) only [ui_ur, ui_ur_n, ur_sv, ur_nv, ui_sv, ui_nv, ui_uis, us_s, us_n]
              refine r_aload_n (pc := 95) dX1_sweep_95 rfl rfl ?_
              refine r_dup (pc := 96) dX1_sweep_96 rfl ?_
              refine r_geti (pc := 97) (c := 1) (k := 18) (kz := 18) hx.o cok_1 (Nat.le_of_ble_eq_true rfl) q528 ⟨rfl, rfl⟩ (Or.inl rfl) rfl (fun _ _ _ => rfl) dX1_sweep_97 (fun hr97 => ?_)
              try simp (disch := omega) only [ui_ur, ui_ur_n, ur_sv, ur_nv, ui_sv, ui_nv, ui_uis, us_s, us_n] at hr97 ⊢
              refine r_iconst (pc := 100) dX1_sweep_100 ?_
              refine r_iadd (pc := 101) dX1_sweep_101 ?_
              refine r_puti (pc := 102) (c := 1) (k := 18) (kz := 18) hx.o cok_1 (Nat.le_of_ble_eq_true rfl) q528 ⟨rfl, rfl⟩ (Or.inl rfl) rfl (by omega) rfl rfl (by omega) (fun _ _ _ => rfl) ⟨rfl, rfl⟩ dX1_sweep_102 ?_
              try simp (disch := omega) only [ui_ur, ui_ur_n, ur_sv, ur_nv, ui_sv, ui_nv, ui_uis, us_s, us_n]
              rw [us_us]
              refine r_iinc3 (pc := 105) (Nat.le_of_ble_eq_true rfl) dX1_sweep_105 rfl ?_
              refine r_goto (pc := 108) 33 dX1_sweep_108 rfl ?_
              exact im (q + 1) (us y.1 y.2 (100 * q + k), y.2 + 1) (by omega) (by omega) (by show 0 ≤ y.2 + 1; omega) (by show y.2 + 1 ≤ _; omega) hD1
            rw [if_pos (Or.inr (Or.inr h74))] at hD1
            refine r_goto (pc := 77) 105 dX1_sweep_77 rfl ?_
            refine r_iinc3 (pc := 105) (Nat.le_of_ble_eq_true rfl) dX1_sweep_105 rfl ?_
            refine r_goto (pc := 108) 33 dX1_sweep_108 rfl ?_
            exact im (q + 1) y (by omega) (by omega) y0 (by omega) hD1
        exact inner (σ 1).toNat 0 y (by omega) (by omega) y0 (by rw [bz_f (show ¬ p < 0 by omega)]; omega) hD1
    exact loop (σ 0).toNat 0 (r, 0) _ (by omega) (by omega) (show (0 : Int) ≤ 0 by decide) (show (0 : Int) ≤ 5 * 0 by decide) hD
  rw [if_neg (bz_0.mp h8)] at hQ
  refine r_iconst (pc := 11) dX1_sweep_11 ?_
  refine r_ireturn (pc := 12) rfl rfl dX1_sweep_12 (Nat.le_of_ble_eq_true rfl) (Nat.le_of_ble_eq_true rfl) ?_
  exact hQ
end L2
