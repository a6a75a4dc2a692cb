/-! ===== the model: codes of open games ===== -/
section M25
variable {G : GE} {I J : HI} {P : HP} {T : HT} {z : Nat} {m d : Nat} {Q : QT} {σ mi he ω : Int → Int}
theorem M_part {a b w : Int} (ha : 0 ≤ a ∧ a < 9223372036854775808) (hb : 0 < b ∧ b < 9223372036854775808) (hw : rg w) (hQ : Q (some (jv ((if w = 0 then a else b) / ((Nat.gcd a.toNat b.toNat : Nat) : Int)))) I J P T z) : MC G yX11_part (ws_ yX11_part cX11_part 5 (some FieldType.long)) (d + 1) 0 0 [jv a, jv b, iv w] I J P T z Q nX := by
  refine MC.of (by decide) (Nat.le_of_ble_eq_true rfl) ?_
  show PW G mX11_part (rmD (d + 1) 0 0) (MZ G Q nX 0 0) 0 0 I J P T z 0 [some (jv a), none, some (jv b), none, some (iv w)] []
  have g0 : 0 < Nat.gcd a.toNat b.toNat := Nat.gcd_pos_of_pos_right _ (by omega)
  have g1 : Nat.gcd a.toNat b.toNat ≤ b.toNat := Nat.le_of_dvd (by omega) (Nat.gcd_dvd_right _ _)
  have fin : ∀ x : Int, 0 ≤ x → x < 9223372036854775808 → x = (if w = 0 then a else b) → PW G mX11_part (rmD (d + 1) 0 0) (MZ G Q nX 0 0) 0 0 I J P T z 10 [some (jv a), none, some (jv b), none, some (iv w)] [jv x] := by
    intro x x0 x1 ex
    rw [← ex] at hQ
    refine r_lload_n (pc := 10) dX11_part_10 rfl rfl ?_
    refine r_lload_n (pc := 11) dX11_part_11 rfl rfl ?_
    refine r_callS2 (pc := 12) (M_common ha (by omega) fe_i) im_X11_common q2271 dX11_part_12 (Nat.le_of_ble_eq_true rfl) (Nat.le_of_ble_eq_true rfl) rfl (k_fj ?_) (fun _ _ _ _ _ _ _ hx => no_x hx)
    refine r_ldiv (pc := 15) dX11_part_15 (by omega) (by omega) ?_
    refine r_lreturn (pc := 16) rfl dX11_part_16 (Nat.le_of_ble_eq_true rfl) (Nat.le_of_ble_eq_true rfl) ?_
    exact hQ
  refine r_iload (pc := 0) dX11_part_0 rfl ?_
  refine r_if_ne (pc := 2) 9 dX11_part_2 rfl (by omega) (fun h2 => ?_) (fun h2 => ?_)
  · refine r_lload_n (pc := 9) dX11_part_9 rfl rfl ?_
    exact fin b (by omega) (by omega) (if_neg h2).symm
  refine r_lload_n (pc := 5) dX11_part_5 rfl rfl ?_
  refine r_goto (pc := 6) 10 dX11_part_6 rfl ?_
  exact fin a (by omega) (by omega) (if_pos h2).symm
theorem M_decode (hs : shM G P T m) {c : Int} (hc : 0 ≤ c ∧ c < 156250)
    (hQ : Q none (ur (ur (ur I (m + 18) (us (us (us mi 0 (c / 10 % 5)) 1 (c / 10 / 25 % 5)) 2 (c / 10 / 25 / 25 % 5))) (m + 19) (us (us (us he 0 (c / 10 / 5 % 5)) 1 (c / 10 / 25 / 5 % 5)) 2 (c / 10 / 25 / 25 / 5 % 5))) m (us (us ω 43 (c % 2)) 42 (c / 2 % 5))) J P T z) : MC G yX11_decode (ws_ yX11_decode cX11_decode 4 (none : Option FieldType)) (d) 0 0 [.ref m, iv c] (ur (ur (ur I (m + 18) mi) (m + 19) he) m ω) J P T z Q nX := by
  have hb := hs.b
  refine MC.of (by decide) (Nat.le_of_ble_eq_true rfl) ?_
  show PW G mX11_decode (rmD (d) 0 0) (MZ G Q nX 0 0) 0 0 (ur (ur (ur I (m + 18) mi) (m + 19) he) m ω) J P T z 0 [some (.ref m), some (iv c), none, none] []
  have step : ∀ (k v : Int) (mi he ω : Int → Int), 0 ≤ k → k < 3 → 0 ≤ v → v < 156250 → PW G mX11_decode (rmD (d) 0 0) (MZ G Q nX 0 0) 0 0 (ur (ur (ur I (m + 18) (us mi k (v % 5))) (m + 19) (us he k (v / 5 % 5))) m ω) J P T z 23 [some (.ref m), some (iv c), some (iv (v / 25)), some (iv (k + 1))] [] → PW G mX11_decode (rmD (d) 0 0) (MZ G Q nX 0 0) 0 0 (ur (ur (ur I (m + 18) mi) (m + 19) he) m ω) J P T z 23 [some (.ref m), some (iv c), some (iv v), some (iv k)] [] := by
    intro k v mi he ω k0 k1 v0 v1 kk
    refine r_iload_n (pc := 23) dX11_decode_23 rfl rfl ?_
    refine r_iconst (pc := 24) dX11_decode_24 ?_
    refine r_icmp_ge (pc := 25) 59 dX11_decode_25 rfl (by omega) (by omega) (fun h25 => ?_) (fun h25 => ?_)
    · omega
    refine r_aload_n (pc := 28) dX11_decode_28 rfl rfl ?_
    refine r_getr (pc := 29) (c := 11) (k := 40) (kz := 40) hs.o cok_11 (Nat.le_of_ble_eq_true rfl) q1900 ⟨rfl, rfl⟩ (Or.inl rfl) rfl (fun _ _ _ => rfl) hs.p_mine dX11_decode_29 ?_
    refine r_iload_n (pc := 32) dX11_decode_32 rfl rfl ?_
    refine r_iload_n (pc := 33) dX11_decode_33 rfl rfl ?_
    refine r_iconst (pc := 34) dX11_decode_34 ?_
    refine r_irem (pc := 35) dX11_decode_35 (by omega) (by omega) ?_
    refine r_iast (pc := 36) hs.t_mine (by omega) (by omega) (by omega) (by omega) dX11_decode_36 ?_
    try simp (disch := omega) only [ui_ur, ui_ur_n, ur_sv, ur_nv, ui_sv, ui_nv, ui_uis, us_s, us_n]
    refine r_aload_n (pc := 37) dX11_decode_37 rfl rfl ?_
    refine r_getr (pc := 38) (c := 11) (k := 41) (kz := 41) hs.o cok_11 (Nat.le_of_ble_eq_true rfl) q1901 ⟨rfl, rfl⟩ (Or.inl rfl) rfl (fun _ _ _ => rfl) hs.p_hers dX11_decode_38 ?_
    refine r_iload_n (pc := 41) dX11_decode_41 rfl rfl ?_
    refine r_iload_n (pc := 42) dX11_decode_42 rfl rfl ?_
    refine r_iconst (pc := 43) dX11_decode_43 ?_
    refine r_idiv (pc := 44) dX11_decode_44 (by omega) (by omega) ?_
    refine r_iconst (pc := 45) dX11_decode_45 ?_
    refine r_irem (pc := 46) dX11_decode_46 (by omega) (by omega) ?_
    refine r_iast (pc := 47) hs.t_hers (by omega) (by omega) (by omega) (by omega) dX11_decode_47 ?_
    try simp (disch := omega) only [ui_ur, ui_ur_n, ur_sv, ur_nv, ui_sv, ui_nv, ui_uis, us_s, us_n]
    refine r_iload_n (pc := 48) dX11_decode_48 rfl rfl ?_
    refine r_bipush (pc := 49) dX11_decode_49 (by decide +kernel) ?_
    refine r_idiv (pc := 51) dX11_decode_51 (by omega) (by omega) ?_
    refine r_istore_n2 (pc := 52) (Nat.le_of_ble_eq_true rfl) dX11_decode_52 rfl ?_
    refine r_iinc3 (pc := 53) (Nat.le_of_ble_eq_true rfl) dX11_decode_53 rfl ?_
    refine r_goto (pc := 56) 23 dX11_decode_56 rfl ?_
    exact kk
  refine r_aload_n (pc := 0) dX11_decode_0 rfl rfl ?_
  refine r_iload_n (pc := 1) dX11_decode_1 rfl rfl ?_
  refine r_iconst (pc := 2) dX11_decode_2 ?_
  refine r_irem (pc := 3) dX11_decode_3 (by omega) (by omega) ?_
  refine r_puti (pc := 4) (c := 11) (k := 43) (kz := 43) hs.o cok_11 (Nat.le_of_ble_eq_true rfl) q1903 ⟨rfl, rfl⟩ (Or.inl rfl) rfl (by omega) rfl rfl (by omega) (fun _ _ _ => rfl) ⟨rfl, rfl⟩ dX11_decode_4 ?_
  try simp (disch := omega) only [ui_ur, ui_ur_n, ur_sv, ur_nv, ui_sv, ui_nv, ui_uis, us_s, us_n]
  refine r_aload_n (pc := 7) dX11_decode_7 rfl rfl ?_
  refine r_iload_n (pc := 8) dX11_decode_8 rfl rfl ?_
  refine r_iconst (pc := 9) dX11_decode_9 ?_
  refine r_idiv (pc := 10) dX11_decode_10 (by omega) (by omega) ?_
  refine r_iconst (pc := 11) dX11_decode_11 ?_
  refine r_irem (pc := 12) dX11_decode_12 (by omega) (by omega) ?_
  refine r_puti (pc := 13) (c := 11) (k := 42) (kz := 42) hs.o cok_11 (Nat.le_of_ble_eq_true rfl) q1902 ⟨rfl, rfl⟩ (Or.inl rfl) rfl (by omega) rfl rfl (by omega) (fun _ _ _ => rfl) ⟨rfl, rfl⟩ dX11_decode_13 ?_
  try simp (disch := omega) only [ui_ur, ui_ur_n, ur_sv, ur_nv, ui_sv, ui_nv, ui_uis, us_s, us_n]
  refine r_iload_n (pc := 16) dX11_decode_16 rfl rfl ?_
  refine r_bipush (pc := 17) dX11_decode_17 (by decide +kernel) ?_
  refine r_idiv (pc := 19) dX11_decode_19 (by omega) (by omega) ?_
  refine r_istore_n2 (pc := 20) (Nat.le_of_ble_eq_true rfl) dX11_decode_20 rfl ?_
  refine r_iconst (pc := 21) dX11_decode_21 ?_
  refine r_istore_n3 (pc := 22) (Nat.le_of_ble_eq_true rfl) dX11_decode_22 rfl ?_
  refine step 0 _ _ _ _ (by omega) (by omega) (by omega) (by omega) ?_
  refine step (0 + 1) _ _ _ _ (by omega) (by omega) (by omega) (by omega) ?_
  refine step (0 + 1 + 1) _ _ _ _ (by omega) (by omega) (by omega) (by omega) ?_
  refine r_iload_n (pc := 23) dX11_decode_23 rfl rfl ?_
  refine r_iconst (pc := 24) dX11_decode_24 ?_
  refine r_icmp_ge (pc := 25) 59 dX11_decode_25 rfl (by omega) (by omega) (fun h25 => ?_) (fun h25 => ?_)
  · refine r_return (pc := 59) rfl dX11_decode_59 (Nat.le_of_ble_eq_true rfl) (Nat.le_of_ble_eq_true rfl) ?_
    exact hQ
  omega
theorem M_codeOf (hs : shM G P T m) {t : Int} (ht : t = 0 ∨ t = 1) (hm : ∀ k, 0 ≤ k → k < 3 → 0 ≤ mi k ∧ mi k ≤ 4) (hh : ∀ k, 0 ≤ k → k < 3 → 0 ≤ he k ∧ he k ≤ 4) (hp : 0 ≤ ω 42 ∧ ω 42 ≤ 4) (hv : 0 ≤ ω 43 ∧ ω 43 ≤ 1) {f g : Int → Int} (ef : f = if t = 0 then he else mi) (eg : g = if t = 0 then mi else he)
    (hQ : Q (some (iv ((5 * (25 * (25 * (25 * 0 + 5 * f 2 + g 2) + 5 * f 1 + g 1) + 5 * f 0 + g 0) + ω 42) * 2 + ω 43))) (ur (ur (ur I (m + 18) mi) (m + 19) he) m ω) J P T z) : MC G yX11_codeOf (ws_ yX11_codeOf cX11_codeOf 4 (some FieldType.int)) (d) 0 0 [.ref m, iv t] (ur (ur (ur I (m + 18) mi) (m + 19) he) m ω) J P T z Q nX := by
  have hb := hs.b
  refine MC.of (by decide) (Nat.le_of_ble_eq_true rfl) ?_
  show PW G mX11_codeOf (rmD (d) 0 0) (MZ G Q nX 0 0) 0 0 (ur (ur (ur I (m + 18) mi) (m + 19) he) m ω) J P T z 0 [some (.ref m), some (iv t), none, none] []
  have step : ∀ (k v : Int), 0 ≤ k → k < 3 → 0 ≤ v → v < 156250 → PW G mX11_codeOf (rmD (d) 0 0) (MZ G Q nX 0 0) 0 0 (ur (ur (ur I (m + 18) mi) (m + 19) he) m ω) J P T z 4 [some (.ref m), some (iv t), some (iv (25 * v + 5 * f k + g k)), some (iv (k + -1))] [] → PW G mX11_codeOf (rmD (d) 0 0) (MZ G Q nX 0 0) 0 0 (ur (ur (ur I (m + 18) mi) (m + 19) he) m ω) J P T z 4 [some (.ref m), some (iv t), some (iv v), some (iv k)] [] := by
    intro k v k0 k1 v0 v1 kk
    have m1 := hm k k0 k1
    have h1 := hh k k0 k1
    refine r_iload_n (pc := 4) dX11_codeOf_4 rfl rfl ?_
    refine r_if_lt (pc := 5) 61 dX11_codeOf_5 rfl (by omega) (fun h5 => ?_) (fun h5 => ?_)
    · omega
    refine r_bipush (pc := 8) dX11_codeOf_8 (by decide +kernel) ?_
    refine r_iload_n (pc := 10) dX11_codeOf_10 rfl rfl ?_
    refine r_imul (pc := 11) dX11_codeOf_11 ?_
    refine r_iconst (pc := 12) dX11_codeOf_12 ?_
    refine r_iload_n (pc := 13) dX11_codeOf_13 rfl rfl ?_
    refine r_if_eq (pc := 14) 26 dX11_codeOf_14 rfl (by omega) (fun h14 => ?_) (fun h14 => ?_)
    · rw [ef, eg, if_pos h14, if_pos h14] at kk
      refine r_aload_n (pc := 26) dX11_codeOf_26 rfl rfl ?_
      refine r_getr (pc := 27) (c := 11) (k := 41) (kz := 41) hs.o cok_11 (Nat.le_of_ble_eq_true rfl) q1901 ⟨rfl, rfl⟩ (Or.inl rfl) rfl (fun _ _ _ => rfl) hs.p_hers dX11_codeOf_27 ?_
      refine r_iload_n (pc := 30) dX11_codeOf_30 rfl rfl ?_
      refine r_iald (pc := 31) hs.t_hers (by omega) (by omega) dX11_codeOf_31 (fun hr31 => ?_)
      try simp (disch := omega) only [ui_ur, ui_ur_n, ur_sv, ur_nv, ui_sv, ui_nv, ui_uis, us_s, us_n] at hr31 ⊢
      refine r_imul (pc := 32) dX11_codeOf_32 ?_
      refine r_iadd (pc := 33) dX11_codeOf_33 ?_
      refine r_iload_n (pc := 34) dX11_codeOf_34 rfl rfl ?_
      refine r_if_eq (pc := 35) 47 dX11_codeOf_35 rfl (by omega) (fun h35 => ?_) (fun h35 => ?_)
      · refine r_aload_n (pc := 47) dX11_codeOf_47 rfl rfl ?_
        refine r_getr (pc := 48) (c := 11) (k := 40) (kz := 40) hs.o cok_11 (Nat.le_of_ble_eq_true rfl) q1900 ⟨rfl, rfl⟩ (Or.inl rfl) rfl (fun _ _ _ => rfl) hs.p_mine dX11_codeOf_48 ?_
        refine r_iload_n (pc := 51) dX11_codeOf_51 rfl rfl ?_
        refine r_iald (pc := 52) hs.t_mine (by omega) (by omega) dX11_codeOf_52 (fun hr52 => ?_)
        try simp (disch := omega) only [ui_ur, ui_ur_n, ur_sv, ur_nv, ui_sv, ui_nv, ui_uis, us_s, us_n] at hr52 ⊢
        refine r_iadd (pc := 53) dX11_codeOf_53 ?_
        refine r_istore_n2 (pc := 54) (Nat.le_of_ble_eq_true rfl) dX11_codeOf_54 rfl ?_
        refine r_iinc3 (pc := 55) (Nat.le_of_ble_eq_true rfl) dX11_codeOf_55 rfl ?_
        refine r_goto (pc := 58) 4 dX11_codeOf_58 rfl ?_
        exact kk
      omega
    rw [ef, eg, if_neg h14, if_neg h14] at kk
    refine r_aload_n (pc := 17) dX11_codeOf_17 rfl rfl ?_
    refine r_getr (pc := 18) (c := 11) (k := 40) (kz := 40) hs.o cok_11 (Nat.le_of_ble_eq_true rfl) q1900 ⟨rfl, rfl⟩ (Or.inl rfl) rfl (fun _ _ _ => rfl) hs.p_mine dX11_codeOf_18 ?_
    refine r_iload_n (pc := 21) dX11_codeOf_21 rfl rfl ?_
    refine r_iald (pc := 22) hs.t_mine (by omega) (by omega) dX11_codeOf_22 (fun hr22 => ?_)
    try simp (disch := omega) only [ui_ur, ui_ur_n, ur_sv, ur_nv, ui_sv, ui_nv, ui_uis, us_s, us_n] at hr22 ⊢
    refine r_goto (pc := 23) 32 dX11_codeOf_23 rfl ?_
    refine r_imul (pc := 32) dX11_codeOf_32 ?_
    refine r_iadd (pc := 33) dX11_codeOf_33 ?_
    refine r_iload_n (pc := 34) dX11_codeOf_34 rfl rfl ?_
    refine r_if_eq (pc := 35) 47 dX11_codeOf_35 rfl (by omega) (fun h35 => ?_) (fun h35 => ?_)
    · omega
    refine r_aload_n (pc := 38) dX11_codeOf_38 rfl rfl ?_
    refine r_getr (pc := 39) (c := 11) (k := 41) (kz := 41) hs.o cok_11 (Nat.le_of_ble_eq_true rfl) q1901 ⟨rfl, rfl⟩ (Or.inl rfl) rfl (fun _ _ _ => rfl) hs.p_hers dX11_codeOf_39 ?_
    refine r_iload_n (pc := 42) dX11_codeOf_42 rfl rfl ?_
    refine r_iald (pc := 43) hs.t_hers (by omega) (by omega) dX11_codeOf_43 (fun hr43 => ?_)
    try simp (disch := omega) only [ui_ur, ui_ur_n, ur_sv, ur_nv, ui_sv, ui_nv, ui_uis, us_s, us_n] at hr43 ⊢
    refine r_goto (pc := 44) 53 dX11_codeOf_44 rfl ?_
    refine r_iadd (pc := 53) dX11_codeOf_53 ?_
    refine r_istore_n2 (pc := 54) (Nat.le_of_ble_eq_true rfl) dX11_codeOf_54 rfl ?_
    refine r_iinc3 (pc := 55) (Nat.le_of_ble_eq_true rfl) dX11_codeOf_55 rfl ?_
    refine r_goto (pc := 58) 4 dX11_codeOf_58 rfl ?_
    exact kk
  have fb : ∀ k, 0 ≤ k → k < 3 → (0 ≤ f k ∧ f k ≤ 4) ∧ 0 ≤ g k ∧ g k ≤ 4 := by
    intro k a b
    have := hm k a b
    have := hh k a b
    rw [ef, eg]
    split <;> omega
  have f2 := fb 2 (by omega) (by omega)
  have f1 := fb 1 (by omega) (by omega)
  have f0 := fb 0 (by omega) (by omega)
  refine r_iconst (pc := 0) dX11_codeOf_0 ?_
  refine r_istore_n2 (pc := 1) (Nat.le_of_ble_eq_true rfl) dX11_codeOf_1 rfl ?_
  refine r_iconst (pc := 2) dX11_codeOf_2 ?_
  refine r_istore_n3 (pc := 3) (Nat.le_of_ble_eq_true rfl) dX11_codeOf_3 rfl ?_
  refine step 2 0 (by omega) (by omega) (by omega) (by omega) ?_
  refine step 1 _ (by omega) (by omega) (by omega) (by omega) ?_
  refine step 0 _ (by omega) (by omega) (by omega) (by omega) ?_
  refine r_iload_n (pc := 4) dX11_codeOf_4 rfl rfl ?_
  refine r_if_lt (pc := 5) 61 dX11_codeOf_5 rfl (by omega) (fun h5 => ?_) (fun h5 => ?_)
  · refine r_iconst (pc := 61) dX11_codeOf_61 ?_
    refine r_iload_n (pc := 62) dX11_codeOf_62 rfl rfl ?_
    refine r_imul (pc := 63) dX11_codeOf_63 ?_
    refine r_aload_n (pc := 64) dX11_codeOf_64 rfl rfl ?_
    refine r_geti (pc := 65) (c := 11) (k := 42) (kz := 42) hs.o cok_11 (Nat.le_of_ble_eq_true rfl) q1902 ⟨rfl, rfl⟩ (Or.inl rfl) rfl (fun _ _ _ => rfl) dX11_codeOf_65 (fun hr65 => ?_)
    try simp (disch := omega) only [ui_ur, ui_ur_n, ur_sv, ur_nv, ui_sv, ui_nv, ui_uis, us_s, us_n] at hr65 ⊢
    refine r_iadd (pc := 68) dX11_codeOf_68 ?_
    refine r_iconst (pc := 69) dX11_codeOf_69 ?_
    refine r_imul (pc := 70) dX11_codeOf_70 ?_
    refine r_aload_n (pc := 71) dX11_codeOf_71 rfl rfl ?_
    refine r_geti (pc := 72) (c := 11) (k := 43) (kz := 43) hs.o cok_11 (Nat.le_of_ble_eq_true rfl) q1903 ⟨rfl, rfl⟩ (Or.inl rfl) rfl (fun _ _ _ => rfl) dX11_codeOf_72 (fun hr72 => ?_)
    try simp (disch := omega) only [ui_ur, ui_ur_n, ur_sv, ur_nv, ui_sv, ui_nv, ui_uis, us_s, us_n] at hr72 ⊢
    refine r_iadd (pc := 75) dX11_codeOf_75 ?_
    refine r_ireturn (pc := 76) rfl rfl dX11_codeOf_76 (Nat.le_of_ble_eq_true rfl) (Nat.le_of_ble_eq_true rfl) ?_
    exact hQ
  omega
end M25
