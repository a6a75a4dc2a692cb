/-! ===== the model: acts kept, and others ===== -/
section M6
variable {G : GE} {I J : HI} {P : HP} {T : HT} {z : Nat} {m d : Nat} {Q : QT} {σ u : Int → Int}
theorem M_keep (hs : shM G P T m) (hn : 0 ≤ I m 27 ∧ I m 27 ≤ 8) (hQ : Q none (ur (ur (ui I m 27 (kn (I m 27) + 1)) (m + 8) (ku u (I m 27) σ)) (m + 2) σ) J P T z) : MC G yX11_keep (ws_ yX11_keep cX11_keep 2 (none : Option FieldType)) (d) 0 0 [.ref m] (ur (ur I (m + 8) u) (m + 2) σ) J P T z Q nX := by
  have hb := hs.b
  refine MC.of (by decide) (Nat.le_of_ble_eq_true rfl) ?_
  show PW G mX11_keep (rmD (d) 0 0) (MZ G Q nX 0 0) 0 0 (ur (ur I (m + 8) u) (m + 2) σ) J P T z 0 [some (.ref m), none] []
  have body : ∀ (I : HI) (u : Int → Int) (n : Int) (l1 : Option Value), I m 27 = n → 0 ≤ n → n ≤ 7 → Q none (ur (ur (ui I m 27 (n + 1)) (m + 8) (kr u (580 * n) σ 580)) (m + 2) σ) J P T z → PW G mX11_keep (rmD (d) 0 0) (MZ G Q nX 0 0) 0 0 (ur (ur I (m + 8) u) (m + 2) σ) J P T z 46 [some (.ref m), l1] [] := by
    intro I u n l1 en h0 h7 hQ
    refine r_iconst (pc := 46) dX11_keep_46 ?_
    refine r_istore_n1 (pc := 47) (Nat.le_of_ble_eq_true rfl) dX11_keep_47 rfl ?_
    have loop : ∀ (k : Nat) (i : Int), 0 ≤ i → i ≤ 580 → 580 - i < k → PW G mX11_keep (rmD (d) 0 0) (MZ G Q nX 0 0) 0 0 (ur (ur I (m + 8) (kr u (580 * n) σ i)) (m + 2) σ) J P T z 48 [some (.ref m), some (iv i)] [] := by
      intro k
      induction k with
      | zero => intro i h0 h1 h2; omega
      | succ k ih =>
        intro i g0 g1 g2
        refine r_iload_n (pc := 48) dX11_keep_48 rfl rfl ?_
        refine r_sipush (pc := 49) dX11_keep_49 (by decide +kernel) ?_
        refine r_icmp_ge (pc := 52) 84 dX11_keep_52 rfl (by omega) (by omega) (fun h52 => ?_) (fun h52 => ?_)
        · obtain rfl : i = 580 := by omega
          refine r_aload_n (pc := 84) dX11_keep_84 rfl rfl ?_
          refine r_dup (pc := 85) dX11_keep_85 rfl ?_
          refine r_getiU (pc := 86) (c := 11) (k := 27) (kz := 27) hs.o cok_11 (Nat.le_of_ble_eq_true rfl) q1887 ⟨rfl, rfl⟩ (Or.inl rfl) rfl (by omega) (fun _ _ _ => rfl) dX11_keep_86 (fun hr86 => ?_)
          rw [ur_n (show m ≠ m + 8 by omega), en]
          refine r_iconst (pc := 89) dX11_keep_89 ?_
          refine r_iadd (pc := 90) dX11_keep_90 ?_
          refine r_putiU (pc := 91) (c := 11) (k := 27) (kz := 27) hs.o cok_11 (Nat.le_of_ble_eq_true rfl) q1887 ⟨rfl, rfl⟩ (Or.inl rfl) rfl (by omega) (by omega) rfl rfl (by omega) (fun _ _ _ => rfl) ⟨rfl, rfl⟩ dX11_keep_91 ?_
          rw [ui_ur_n (show m ≠ m + 8 by omega)]
          refine r_return (pc := 94) rfl dX11_keep_94 (Nat.le_of_ble_eq_true rfl) (Nat.le_of_ble_eq_true rfl) ?_
          exact hQ
        refine r_aload_n (pc := 55) dX11_keep_55 rfl rfl ?_
        refine r_getr (pc := 56) (c := 11) (k := 25) (kz := 25) hs.o cok_11 (Nat.le_of_ble_eq_true rfl) q1885 ⟨rfl, rfl⟩ (Or.inl rfl) rfl (fun _ _ _ => rfl) hs.p_undone dX11_keep_56 ?_
        refine r_sipush (pc := 59) dX11_keep_59 (by decide +kernel) ?_
        refine r_aload_n (pc := 62) dX11_keep_62 rfl rfl ?_
        refine r_getiU (pc := 63) (c := 11) (k := 27) (kz := 27) hs.o cok_11 (Nat.le_of_ble_eq_true rfl) q1887 ⟨rfl, rfl⟩ (Or.inl rfl) rfl (by omega) (fun _ _ _ => rfl) dX11_keep_63 (fun hr63 => ?_)
        rw [ur_n (show m ≠ m + 8 by omega), en]
        refine r_imul (pc := 66) dX11_keep_66 ?_
        refine r_iload_n (pc := 67) dX11_keep_67 rfl rfl ?_
        refine r_iadd (pc := 68) dX11_keep_68 ?_
        refine r_aload_n (pc := 69) dX11_keep_69 rfl rfl ?_
        refine r_getr (pc := 70) (c := 11) (k := 6) (kz := 6) hs.o cok_11 (Nat.le_of_ble_eq_true rfl) q1866 ⟨rfl, rfl⟩ (Or.inl rfl) rfl (fun _ _ _ => rfl) hs.p_s dX11_keep_70 ?_
        refine r_iconst (pc := 73) dX11_keep_73 ?_
        refine r_iload_n (pc := 74) dX11_keep_74 rfl rfl ?_
        refine r_iadd (pc := 75) dX11_keep_75 ?_
        refine r_ialdU (pc := 76) hs.t_s (by omega) (by omega) dX11_keep_76 (fun hr76 => ?_)
        refine r_iastV (pc := 77) hs.t_undone (by omega) (by omega) (by omega) (by omega) (by omega) dX11_keep_77 ?_
        rw [ui_ur, kr_s g0]
        refine r_iinc1 (pc := 78) (Nat.le_of_ble_eq_true rfl) dX11_keep_78 rfl ?_
        refine r_goto (pc := 81) 48 dX11_keep_81 rfl ?_
        exact ih (i + 1) (by omega) (by omega) (by omega)
    have := loop 581 0 (by omega) (by omega) (by omega)
    rw [kr_0] at this
    exact this
  refine r_aload_n (pc := 0) dX11_keep_0 rfl rfl ?_
  refine r_getiU (pc := 1) (c := 11) (k := 27) (kz := 27) hs.o cok_11 (Nat.le_of_ble_eq_true rfl) q1887 ⟨rfl, rfl⟩ (Or.inl rfl) rfl (by omega) (fun _ _ _ => rfl) dX11_keep_1 (fun hr1 => ?_)
  rw [ur_n (show m ≠ m + 8 by omega)]
  refine r_bipush (pc := 4) dX11_keep_4 (by decide +kernel) ?_
  refine r_icmp_ne (pc := 6) 46 dX11_keep_6 rfl (by omega) (by omega) (fun h6 => ?_) (fun h6 => ?_)
  · have e1 : kn (I m 27) = I m 27 := if_neg h6
    have e2 : ku u (I m 27) σ = kr u (580 * I m 27) σ 580 := by unfold ku; rw [e1, if_neg h6]
    rw [e1, e2] at hQ
    exact body I u _ _ rfl (by omega) (by omega) hQ
  have e1 : kn (I m 27) = 7 := if_pos h6
  have e2 : ku u (I m 27) σ = kr (ksh u 4060) (580 * 7) σ 580 := by unfold ku; rw [e1, if_pos h6]
  rw [e1, e2] at hQ
  refine r_iconst (pc := 9) dX11_keep_9 ?_
  refine r_istore_n1 (pc := 10) (Nat.le_of_ble_eq_true rfl) dX11_keep_10 rfl ?_
  have loop : ∀ (k : Nat) (i : Int), 0 ≤ i → i ≤ 4060 → 4060 - i < k → PW G mX11_keep (rmD (d) 0 0) (MZ G Q nX 0 0) 0 0 (ur (ur I (m + 8) (ksh u i)) (m + 2) σ) J P T z 11 [some (.ref m), some (iv i)] [] := by
    intro k
    induction k with
    | zero => intro i h0 h1 h2; omega
    | succ k ih =>
      intro i g0 g1 g2
      refine r_iload_n (pc := 11) dX11_keep_11 rfl rfl ?_
      refine r_sipush (pc := 12) dX11_keep_12 (by decide +kernel) ?_
      refine r_icmp_ge (pc := 15) 40 dX11_keep_15 rfl (by omega) (by omega) (fun h15 => ?_) (fun h15 => ?_)
      · obtain rfl : i = 4060 := by omega
        refine r_aload_n (pc := 40) dX11_keep_40 rfl rfl ?_
        refine r_bipush (pc := 41) dX11_keep_41 (by decide +kernel) ?_
        refine r_putiU (pc := 43) (c := 11) (k := 27) (kz := 27) hs.o cok_11 (Nat.le_of_ble_eq_true rfl) q1887 ⟨rfl, rfl⟩ (Or.inl rfl) rfl (by omega) (by omega) rfl rfl (by omega) (fun _ _ _ => rfl) ⟨rfl, rfl⟩ dX11_keep_43 ?_
        rw [ui_ur_n (show m ≠ m + 8 by omega)]
        refine body (ui I m 27 7) (ksh u 4060) 7 _ ui_s (by omega) (by omega) ?_
        rw [ui_ui]
        exact hQ
      refine r_aload_n (pc := 18) dX11_keep_18 rfl rfl ?_
      refine r_getr (pc := 19) (c := 11) (k := 25) (kz := 25) hs.o cok_11 (Nat.le_of_ble_eq_true rfl) q1885 ⟨rfl, rfl⟩ (Or.inl rfl) rfl (fun _ _ _ => rfl) hs.p_undone dX11_keep_19 ?_
      refine r_iload_n (pc := 22) dX11_keep_22 rfl rfl ?_
      refine r_aload_n (pc := 23) dX11_keep_23 rfl rfl ?_
      refine r_getr (pc := 24) (c := 11) (k := 25) (kz := 25) hs.o cok_11 (Nat.le_of_ble_eq_true rfl) q1885 ⟨rfl, rfl⟩ (Or.inl rfl) rfl (fun _ _ _ => rfl) hs.p_undone dX11_keep_24 ?_
      refine r_iload_n (pc := 27) dX11_keep_27 rfl rfl ?_
      refine r_sipush (pc := 28) dX11_keep_28 (by decide +kernel) ?_
      refine r_iadd (pc := 31) dX11_keep_31 ?_
      refine r_ialdV (pc := 32) hs.t_undone (by omega) (by omega) (by omega) dX11_keep_32 (fun hr32 => ?_)
      rw [ur_s]
      refine r_iastV (pc := 33) hs.t_undone (by omega) (by omega) (by omega) (by omega) (by rw [ur_s] at hr32; exact hr32) dX11_keep_33 ?_
      rw [ui_ur, ksh_s g0]
      refine r_iinc1 (pc := 34) (Nat.le_of_ble_eq_true rfl) dX11_keep_34 rfl ?_
      refine r_goto (pc := 37) 11 dX11_keep_37 rfl ?_
      exact ih (i + 1) (by omega) (by omega) (by omega)
  have := loop 4061 0 (by omega) (by omega) (by omega)
  rw [ksh_0] at this
  exact this
theorem M_undo (hs : shM G P T m) (hn : 0 ≤ I m 27 ∧ I m 27 ≤ 8) (hQ : Q (some (iv (I m 27 - 1))) (if I m 27 = 0 then ur (ur (ui I m 0 0) (m + 8) u) (m + 2) σ else ur (ur (ui (ui I m 0 0) m 27 (I m 27 - 1)) (m + 8) u) (m + 2) (br σ u (580 * (I m 27 - 1)) 580)) J P T z) : MC G yX11_undo (ws_ yX11_undo cX11_undo 2 (some FieldType.int)) (d) 0 0 [.ref m] (ur (ur I (m + 8) u) (m + 2) σ) J P T z Q nX := by
  have hb := hs.b
  refine MC.of (by decide) (Nat.le_of_ble_eq_true rfl) ?_
  show PW G mX11_undo (rmD (d) 0 0) (MZ G Q nX 0 0) 0 0 (ur (ur I (m + 8) u) (m + 2) σ) J P T z 0 [some (.ref m), none] []
  refine r_aload_n (pc := 0) dX11_undo_0 rfl rfl ?_
  refine r_iconst (pc := 1) dX11_undo_1 ?_
  refine r_putiU (pc := 2) (c := 11) (k := 0) (kz := 0) hs.o cok_11 (Nat.le_of_ble_eq_true rfl) q1860 ⟨rfl, rfl⟩ (Or.inl rfl) rfl (by omega) (by omega) rfl rfl (by omega) (fun _ _ _ => rfl) ⟨rfl, rfl⟩ dX11_undo_2 ?_
  rw [ui_ur_n (show m ≠ m + 8 by omega)]
  refine r_aload_n (pc := 5) dX11_undo_5 rfl rfl ?_
  refine r_getiU (pc := 6) (c := 11) (k := 27) (kz := 27) hs.o cok_11 (Nat.le_of_ble_eq_true rfl) q1887 ⟨rfl, rfl⟩ (Or.inl rfl) rfl (by omega) (fun _ _ _ => rfl) dX11_undo_6 (fun hr6 => ?_)
  rw [ur_n (show m ≠ m + 8 by omega), ui_j (by omega)]
  refine r_if_ne (pc := 9) 14 dX11_undo_9 rfl (by omega) (fun h9 => ?_) (fun h9 => ?_)
  · rw [if_neg h9] at hQ
    refine r_aload_n (pc := 14) dX11_undo_14 rfl rfl ?_
    refine r_dup (pc := 15) dX11_undo_15 rfl ?_
    refine r_getiU (pc := 16) (c := 11) (k := 27) (kz := 27) hs.o cok_11 (Nat.le_of_ble_eq_true rfl) q1887 ⟨rfl, rfl⟩ (Or.inl rfl) rfl (by omega) (fun _ _ _ => rfl) dX11_undo_16 (fun hr16 => ?_)
    rw [ur_n (show m ≠ m + 8 by omega), ui_j (by omega)]
    refine r_iconst (pc := 19) dX11_undo_19 ?_
    refine r_isub (pc := 20) dX11_undo_20 ?_
    refine r_putiU (pc := 21) (c := 11) (k := 27) (kz := 27) hs.o cok_11 (Nat.le_of_ble_eq_true rfl) q1887 ⟨rfl, rfl⟩ (Or.inl rfl) rfl (by omega) (by omega) rfl rfl (by omega) (fun _ _ _ => rfl) ⟨rfl, rfl⟩ dX11_undo_21 ?_
    rw [ui_ur_n (show m ≠ m + 8 by omega)]
    refine r_iconst (pc := 24) dX11_undo_24 ?_
    refine r_istore_n1 (pc := 25) (Nat.le_of_ble_eq_true rfl) dX11_undo_25 rfl ?_
    have loop : ∀ (k : Nat) (i : Int), 0 ≤ i → i ≤ 580 → 580 - i < k → PW G mX11_undo (rmD (d) 0 0) (MZ G Q nX 0 0) 0 0 (ur (ur (ui (ui I m 0 0) m 27 (I m 27 - 1)) (m + 8) u) (m + 2) (br σ u (580 * (I m 27 - 1)) i)) J P T z 26 [some (.ref m), some (iv i)] [] := by
      intro k
      induction k with
      | zero => intro i h0 h1 h2; omega
      | succ k ih =>
        intro i g0 g1 g2
        refine r_iload_n (pc := 26) dX11_undo_26 rfl rfl ?_
        refine r_sipush (pc := 27) dX11_undo_27 (by decide +kernel) ?_
        refine r_icmp_ge (pc := 30) 62 dX11_undo_30 rfl (by omega) (by omega) (fun h30 => ?_) (fun h30 => ?_)
        · obtain rfl : i = 580 := by omega
          refine r_aload_n (pc := 62) dX11_undo_62 rfl rfl ?_
          refine r_getiU (pc := 63) (c := 11) (k := 27) (kz := 27) hs.o cok_11 (Nat.le_of_ble_eq_true rfl) q1887 ⟨rfl, rfl⟩ (Or.inl rfl) rfl (by omega) (fun _ _ _ => rfl) dX11_undo_63 (fun hr63 => ?_)
          rw [ur_n (show m ≠ m + 8 by omega), ui_s]
          refine r_ireturn (pc := 66) rfl rfl dX11_undo_66 (Nat.le_of_ble_eq_true rfl) (Nat.le_of_ble_eq_true rfl) ?_
          exact hQ
        refine r_aload_n (pc := 33) dX11_undo_33 rfl rfl ?_
        refine r_getr (pc := 34) (c := 11) (k := 6) (kz := 6) hs.o cok_11 (Nat.le_of_ble_eq_true rfl) q1866 ⟨rfl, rfl⟩ (Or.inl rfl) rfl (fun _ _ _ => rfl) hs.p_s dX11_undo_34 ?_
        refine r_iconst (pc := 37) dX11_undo_37 ?_
        refine r_iload_n (pc := 38) dX11_undo_38 rfl rfl ?_
        refine r_iadd (pc := 39) dX11_undo_39 ?_
        refine r_aload_n (pc := 40) dX11_undo_40 rfl rfl ?_
        refine r_getr (pc := 41) (c := 11) (k := 25) (kz := 25) hs.o cok_11 (Nat.le_of_ble_eq_true rfl) q1885 ⟨rfl, rfl⟩ (Or.inl rfl) rfl (fun _ _ _ => rfl) hs.p_undone dX11_undo_41 ?_
        refine r_sipush (pc := 44) dX11_undo_44 (by decide +kernel) ?_
        refine r_aload_n (pc := 47) dX11_undo_47 rfl rfl ?_
        refine r_getiU (pc := 48) (c := 11) (k := 27) (kz := 27) hs.o cok_11 (Nat.le_of_ble_eq_true rfl) q1887 ⟨rfl, rfl⟩ (Or.inl rfl) rfl (by omega) (fun _ _ _ => rfl) dX11_undo_48 (fun hr48 => ?_)
        rw [ur_n (show m ≠ m + 8 by omega), ui_s]
        refine r_imul (pc := 51) dX11_undo_51 ?_
        refine r_iload_n (pc := 52) dX11_undo_52 rfl rfl ?_
        refine r_iadd (pc := 53) dX11_undo_53 ?_
        refine r_ialdV (pc := 54) hs.t_undone (by omega) (by omega) (by omega) dX11_undo_54 (fun hr54 => ?_)
        rw [ur_s]
        refine r_iastU (pc := 55) hs.t_s (by omega) (by omega) (by omega) (by rw [ur_s] at hr54; exact hr54) dX11_undo_55 ?_
        rw [br_s g0]
        refine r_iinc1 (pc := 56) (Nat.le_of_ble_eq_true rfl) dX11_undo_56 rfl ?_
        refine r_goto (pc := 59) 26 dX11_undo_59 rfl ?_
        exact ih (i + 1) (by omega) (by omega) (by omega)
    have := loop 581 0 (by omega) (by omega) (by omega)
    rw [br_0] at this
    exact this
  rw [if_pos h9] at hQ
  refine r_iconst (pc := 12) dX11_undo_12 ?_
  refine r_ireturn (pc := 13) rfl rfl dX11_undo_13 (Nat.le_of_ble_eq_true rfl) (Nat.le_of_ble_eq_true rfl) ?_
  rw [h9] at hQ
  exact hQ
theorem M_tries (hs : shM G P T m) (hQ : Q none (ur (ur I (m + 9) (kr u 0 σ 580)) (m + 2) σ) J P T z) : MC G yX11_tries (ws_ yX11_tries cX11_tries 2 (none : Option FieldType)) (d) 0 0 [.ref m] (ur (ur I (m + 9) u) (m + 2) σ) J P T z Q nX := by
  have hb := hs.b
  refine MC.of (by decide) (Nat.le_of_ble_eq_true rfl) ?_
  show PW G mX11_tries (rmD (d) 0 0) (MZ G Q nX 0 0) 0 0 (ur (ur I (m + 9) u) (m + 2) σ) J P T z 0 [some (.ref m), none] []
  refine r_iconst (pc := 0) dX11_tries_0 ?_
  refine r_istore_n1 (pc := 1) (Nat.le_of_ble_eq_true rfl) dX11_tries_1 rfl ?_
  have loop : ∀ (k : Nat) (i : Int), 0 ≤ i → i ≤ 580 → 580 - i < k → PW G mX11_tries (rmD (d) 0 0) (MZ G Q nX 0 0) 0 0 (ur (ur I (m + 9) (kr u 0 σ i)) (m + 2) σ) J P T z 2 [some (.ref m), some (iv i)] [] := by
    intro k
    induction k with
    | zero => intro i h0 h1 h2; omega
    | succ k ih =>
      intro i g0 g1 g2
      refine r_iload_n (pc := 2) dX11_tries_2 rfl rfl ?_
      refine r_sipush (pc := 3) dX11_tries_3 (by decide +kernel) ?_
      refine r_icmp_ge (pc := 6) 29 dX11_tries_6 rfl (by omega) (by omega) (fun h6 => ?_) (fun h6 => ?_)
      · obtain rfl : i = 580 := by omega
        refine r_return (pc := 29) rfl dX11_tries_29 (Nat.le_of_ble_eq_true rfl) (Nat.le_of_ble_eq_true rfl) ?_
        exact hQ
      refine r_aload_n (pc := 9) dX11_tries_9 rfl rfl ?_
      refine r_getr (pc := 10) (c := 11) (k := 26) (kz := 26) hs.o cok_11 (Nat.le_of_ble_eq_true rfl) q1886 ⟨rfl, rfl⟩ (Or.inl rfl) rfl (fun _ _ _ => rfl) hs.p_before dX11_tries_10 ?_
      refine r_iload_n (pc := 13) dX11_tries_13 rfl rfl ?_
      refine r_aload_n (pc := 14) dX11_tries_14 rfl rfl ?_
      refine r_getr (pc := 15) (c := 11) (k := 6) (kz := 6) hs.o cok_11 (Nat.le_of_ble_eq_true rfl) q1866 ⟨rfl, rfl⟩ (Or.inl rfl) rfl (fun _ _ _ => rfl) hs.p_s dX11_tries_15 ?_
      refine r_iconst (pc := 18) dX11_tries_18 ?_
      refine r_iload_n (pc := 19) dX11_tries_19 rfl rfl ?_
      refine r_iadd (pc := 20) dX11_tries_20 ?_
      refine r_ialdU (pc := 21) hs.t_s (by omega) (by omega) dX11_tries_21 (fun hr21 => ?_)
      refine r_iastV (pc := 22) hs.t_before (by omega) (by omega) (by omega) (by omega) (by omega) dX11_tries_22 ?_
      have e := kr_s (u := u) (σ := σ) (at_ := 0) g0
      rw [Int.zero_add] at e
      rw [ui_ur, e]
      refine r_iinc1 (pc := 23) (Nat.le_of_ble_eq_true rfl) dX11_tries_23 rfl ?_
      refine r_goto (pc := 26) 2 dX11_tries_26 rfl ?_
      exact ih (i + 1) (by omega) (by omega) (by omega)
  have := loop 581 0 (by omega) (by omega) (by omega)
  rw [kr_0] at this
  exact this
theorem M_back (hs : shM G P T m) (hQ : Q none (ur (ur I (m + 9) u) (m + 2) (br σ u 0 580)) J P T z) : MC G yX11_back (ws_ yX11_back cX11_back 2 (none : Option FieldType)) (d) 0 0 [.ref m] (ur (ur I (m + 9) u) (m + 2) σ) J P T z Q nX := by
  have hb := hs.b
  refine MC.of (by decide) (Nat.le_of_ble_eq_true rfl) ?_
  show PW G mX11_back (rmD (d) 0 0) (MZ G Q nX 0 0) 0 0 (ur (ur I (m + 9) u) (m + 2) σ) J P T z 0 [some (.ref m), none] []
  refine r_iconst (pc := 0) dX11_back_0 ?_
  refine r_istore_n1 (pc := 1) (Nat.le_of_ble_eq_true rfl) dX11_back_1 rfl ?_
  have loop : ∀ (k : Nat) (i : Int), 0 ≤ i → i ≤ 580 → 580 - i < k → PW G mX11_back (rmD (d) 0 0) (MZ G Q nX 0 0) 0 0 (ur (ur I (m + 9) u) (m + 2) (br σ u 0 i)) J P T z 2 [some (.ref m), some (iv i)] [] := by
    intro k
    induction k with
    | zero => intro i h0 h1 h2; omega
    | succ k ih =>
      intro i g0 g1 g2
      refine r_iload_n (pc := 2) dX11_back_2 rfl rfl ?_
      refine r_sipush (pc := 3) dX11_back_3 (by decide +kernel) ?_
      refine r_icmp_ge (pc := 6) 29 dX11_back_6 rfl (by omega) (by omega) (fun h6 => ?_) (fun h6 => ?_)
      · obtain rfl : i = 580 := by omega
        refine r_return (pc := 29) rfl dX11_back_29 (Nat.le_of_ble_eq_true rfl) (Nat.le_of_ble_eq_true rfl) ?_
        exact hQ
      refine r_aload_n (pc := 9) dX11_back_9 rfl rfl ?_
      refine r_getr (pc := 10) (c := 11) (k := 6) (kz := 6) hs.o cok_11 (Nat.le_of_ble_eq_true rfl) q1866 ⟨rfl, rfl⟩ (Or.inl rfl) rfl (fun _ _ _ => rfl) hs.p_s dX11_back_10 ?_
      refine r_iconst (pc := 13) dX11_back_13 ?_
      refine r_iload_n (pc := 14) dX11_back_14 rfl rfl ?_
      refine r_iadd (pc := 15) dX11_back_15 ?_
      refine r_aload_n (pc := 16) dX11_back_16 rfl rfl ?_
      refine r_getr (pc := 17) (c := 11) (k := 26) (kz := 26) hs.o cok_11 (Nat.le_of_ble_eq_true rfl) q1886 ⟨rfl, rfl⟩ (Or.inl rfl) rfl (fun _ _ _ => rfl) hs.p_before dX11_back_17 ?_
      refine r_iload_n (pc := 20) dX11_back_20 rfl rfl ?_
      refine r_ialdV (pc := 21) hs.t_before (by omega) (by omega) (by omega) dX11_back_21 (fun hr21 => ?_)
      rw [ur_s]
      refine r_iastU (pc := 22) hs.t_s (by omega) (by omega) (by omega) (by rw [ur_s] at hr21; exact hr21) dX11_back_22 ?_
      have e := br_s (u := u) (σ := σ) (at_ := 0) g0
      rw [Int.zero_add] at e
      rw [e]
      refine r_iinc1 (pc := 23) (Nat.le_of_ble_eq_true rfl) dX11_back_23 rfl ?_
      refine r_goto (pc := 26) 2 dX11_back_26 rfl ?_
      exact ih (i + 1) (by omega) (by omega) (by omega)
  have := loop 581 0 (by omega) (by omega) (by omega)
  rw [br_0] at this
  exact this
theorem M_ask (hs : shM G P T m) {a b kind lies : Int} (ha : rg a) (hb2 : rg b) (hkd : rg kind) (hl : rg lies) (hn : 0 ≤ I m 27 ∧ I m 27 ≤ 8) (hg : RG σ) (h1 : 0 ≤ σ 1 ∧ σ 1 ≤ 6) (h0 : 0 ≤ σ 0 ∧ σ 0 ≤ 13) (hkb : ∀ b kind, 0 ≤ b → b < 6 → 0 ≤ kind → kind < 13 → σ (229 + b) + σ (151 + 13 * b + kind) + σ 7 ≤ 52)
    (hQ : Q (some (iv (if (isP σ a ∧ isP σ b ∧ isK σ kind) ∧ 0 ≤ lies ∧ lies ≤ 1 then (if 0 < f_why σ a b kind then -2 - f_why σ a b kind else f_gives σ b kind lies) else -1)))
      (if ((isP σ a ∧ isP σ b ∧ isK σ kind) ∧ 0 ≤ lies ∧ lies ≤ 1) ∧ ¬ 0 < f_why σ a b kind then ur (tA (ur (ui (ui I m 0 0) m 27 (kn (I m 27) + 1)) (m + 8) (ku u (I m 27) σ)) m a b kind (f_gives σ b kind lies) (f_asks σ a b kind lies).2.1 (f_asks σ a b kind lies).2.2 (f_lie σ b kind lies) (f_sure σ b kind)) (m + 2) (f_asks σ a b kind lies).1 else ur (ur (ui I m 0 0) (m + 8) u) (m + 2) σ) J P T z) : MC G yX11_ask (ws_ yX11_ask cX11_ask 6 (some FieldType.int)) (d + 6) 0 0 [.ref m, iv a, iv b, iv kind, iv lies] (ur (ur I (m + 8) u) (m + 2) σ) J P T z Q nX := by
  have hb := hs.b
  refine MC.of (by decide) (Nat.le_of_ble_eq_true rfl) ?_
  show PW G mX11_ask (rmD (d + 6) 0 0) (MZ G Q nX 0 0) 0 0 (ur (ur I (m + 8) u) (m + 2) σ) J P T z 0 [some (.ref m), some (iv a), some (iv b), some (iv kind), some (iv lies), none] []
  have bad : ¬ ((isP σ a ∧ isP σ b ∧ isK σ kind) ∧ 0 ≤ lies ∧ lies ≤ 1) → PW G mX11_ask (rmD (d + 6) 0 0) (MZ G Q nX 0 0) 0 0 (ur (ur (ui I m 0 0) (m + 8) u) (m + 2) σ) J P T z 25 [some (.ref m), some (iv a), some (iv b), some (iv kind), some (iv lies), none] [] := by
    intro hx
    rw [if_neg hx, if_neg (fun q => hx q.1)] at hQ
    refine r_iconst (pc := 25) dX11_ask_25 ?_
    refine r_ireturn (pc := 26) rfl rfl dX11_ask_26 (Nat.le_of_ble_eq_true rfl) (Nat.le_of_ble_eq_true rfl) ?_
    exact hQ
  refine r_aload_n (pc := 0) dX11_ask_0 rfl rfl ?_
  refine r_iconst (pc := 1) dX11_ask_1 ?_
  refine r_putiU (pc := 2) (c := 11) (k := 0) (kz := 0) hs.o cok_11 (Nat.le_of_ble_eq_true rfl) q1860 ⟨rfl, rfl⟩ (Or.inl rfl) rfl (by omega) (by omega) rfl rfl (by omega) (fun _ _ _ => rfl) ⟨rfl, rfl⟩ dX11_ask_2 ?_
  rw [ui_ur_n (show m ≠ m + 8 by omega)]
  refine r_aload_n (pc := 5) dX11_ask_5 rfl rfl ?_
  refine r_iload_n (pc := 6) dX11_ask_6 rfl rfl ?_
  refine r_iload_n (pc := 7) dX11_ask_7 rfl rfl ?_
  refine r_iload_n (pc := 8) dX11_ask_8 rfl rfl ?_
  refine r_callV3 (pc := 9) (M_areAsked hs ha hb2 hkd h1 h0 fe_i) im_X11_areAsked qs83 q2209 hs.o rfl dX11_ask_9 (Nat.le_of_ble_eq_true rfl) (Nat.le_of_ble_eq_true rfl) rfl (k_fi ?_) (fun _ _ _ _ _ _ _ hx => no_x hx)
  refine r_if_eq (pc := 12) 25 dX11_ask_12 rfl bz_g (fun h12 => ?_) (fun h12 => ?_)
  · exact bad (fun q => bz_0.mp h12 q.1)
  refine r_iload (pc := 15) dX11_ask_15 rfl ?_
  refine r_iconst (pc := 17) dX11_ask_17 ?_
  refine r_iconst (pc := 18) dX11_ask_18 ?_
  refine r_callS3 (pc := 19) (M_isIn hl (by omega) (by omega) fe_i) im_X11_isIn q2095 dX11_ask_19 (Nat.le_of_ble_eq_true rfl) (Nat.le_of_ble_eq_true rfl) rfl (k_fi ?_) (fun _ _ _ _ _ _ _ hx => no_x hx)
  refine r_if_ne (pc := 22) 27 dX11_ask_22 rfl bz_g (fun h22 => ?_) (fun h22 => ?_)
  · have g1 := bz_ne.mp h12
    have g2 := bz_ne.mp h22
    rw [if_pos ⟨g1, g2⟩] at hQ
    have hwr : 0 ≤ f_why σ a b kind ∧ f_why σ a b kind ≤ 4 := by unfold f_why; split; omega; split; omega; split; omega; split <;> omega
    refine r_aload_n (pc := 27) dX11_ask_27 rfl rfl ?_
    refine r_iload_n (pc := 28) dX11_ask_28 rfl rfl ?_
    refine r_iload_n (pc := 29) dX11_ask_29 rfl rfl ?_
    refine r_iload_n (pc := 30) dX11_ask_30 rfl rfl ?_
    refine r_callV3 (pc := 31) (M_whyOf hs (by omega) hb2 (by omega) fe_i) im_X11_whyOf qs84 q2213 hs.o rfl dX11_ask_31 (Nat.le_of_ble_eq_true rfl) (Nat.le_of_ble_eq_true rfl) rfl (k_fi ?_) (fun _ _ _ _ _ _ _ hx => no_x hx)
    refine r_istore5 (pc := 34) (Nat.le_of_ble_eq_true rfl) dX11_ask_34 rfl ?_
    refine r_iload (pc := 36) dX11_ask_36 rfl ?_
    refine r_if_le (pc := 38) 47 dX11_ask_38 rfl (by omega) (fun h38 => ?_) (fun h38 => ?_)
    · rw [if_neg (show ¬ 0 < f_why σ a b kind by omega), if_pos ⟨⟨g1, g2⟩, (show ¬ 0 < f_why σ a b kind by omega)⟩] at hQ
      have hab : a ≠ b := by
        intro q
        have : f_why σ a b kind ≠ 0 := by unfold f_why; split; omega; split; omega; split; omega; omega
        omega
      refine r_aload_n (pc := 47) dX11_ask_47 rfl rfl ?_
      refine r_callV0 (pc := 48) (M_keep hs (by rw [ui_j (by omega)]; exact hn) fe_i) im_X11_keep qs85 q2221 hs.o rfl dX11_ask_48 (Nat.le_of_ble_eq_true rfl) (Nat.le_of_ble_eq_true rfl) rfl (k_fv ?_) (fun _ _ _ _ _ _ _ hx => no_x hx)
      rw [ui_j (show (27 : Int) ≠ 0 by omega)]
      refine r_aload_n (pc := 51) dX11_ask_51 rfl rfl ?_
      refine r_iload_n (pc := 52) dX11_ask_52 rfl rfl ?_
      refine r_iload_n (pc := 53) dX11_ask_53 rfl rfl ?_
      refine r_iload_n (pc := 54) dX11_ask_54 rfl rfl ?_
      refine r_iload (pc := 55) dX11_ask_55 rfl ?_
      refine r_iconst (pc := 57) dX11_ask_57 ?_
      refine r_callV5 (pc := 58) (M_asks hs (by omega) (by omega) hab (by omega) hl (Or.inr rfl) hg (by omega) (hkb b kind (by omega) (by omega) (by omega) (by omega)) fe_i) im_X11_asks qs86 q2225 hs.o rfl dX11_ask_58 (Nat.le_of_ble_eq_true rfl) (Nat.le_of_ble_eq_true rfl) rfl (k_fi ?_) (fun _ _ _ _ _ _ _ hx => no_x hx)
      rw [if_pos rfl]
      refine r_ireturn (pc := 61) rfl rfl dX11_ask_61 (Nat.le_of_ble_eq_true rfl) (Nat.le_of_ble_eq_true rfl) ?_
      exact hQ
    rw [if_pos h38, if_neg (fun q => q.2 h38)] at hQ
    refine r_bipush (pc := 41) dX11_ask_41 (by decide +kernel) ?_
    refine r_iload (pc := 43) dX11_ask_43 rfl ?_
    refine r_isub (pc := 45) dX11_ask_45 ?_
    refine r_ireturn (pc := 46) rfl rfl dX11_ask_46 (Nat.le_of_ble_eq_true rfl) (Nat.le_of_ble_eq_true rfl) ?_
    exact hQ
  exact bad (fun q => bz_0.mp h22 q.2)
end M6
