/-! ===== the model: person, now, sweeps, bent ===== -/
def f_set (σ : Int → Int) (k : Int) : Nat → Int
  | 0 => 0
  | n + 1 => (((f_set σ k n).toNat ||| (if 0 < σ (60 + 13 * k + n) then 2 ^ n else 0) : Nat) : Int)
theorem f_set_r {σ : Int → Int} {k : Int} : ∀ n : Nat, 0 ≤ f_set σ k n ∧ f_set σ k n < ((2 ^ n : Nat) : Int) := by
  intro n
  induction n with
  | zero => exact ⟨show (0 : Int) ≤ 0 by decide, show (0 : Int) < ((2 ^ 0 : Nat) : Int) by decide⟩
  | succ n ih =>
    unfold f_set
    refine ⟨by omega, ?_⟩
    refine Int.ofNat_lt.mpr (Nat.or_lt_two_pow ?_ ?_)
    · have : 2 ^ n ≤ 2 ^ (n + 1) := Nat.pow_le_pow_right (by omega) (by omega)
      omega
    · split
      · exact Nat.pow_lt_pow_right (by omega) (by omega)
      · exact Nat.pos_of_ne_zero (by exact Nat.ne_of_gt (Nat.two_pow_pos _))
def f_person (σ : Int → Int) (k what : Int) : Int :=
  if what = 0 then f_cards σ k else if what = 1 then f_booksOf σ k else if what = 2 then f_set σ k 13 else if what = 3 then σ (229 + k)
  else if what = 4 then σ (547 + k) else if what = 5 then σ (553 + k) else if what = 6 then σ (559 + k) else if what = 7 then σ (565 + k) - 1 else -1
def f_now (σ : Int → Int) (what : Int) : Int :=
  if what = 0 then σ 4 else if what = 1 then σ 7 else if what = 2 then σ 5 else if what = 3 then f_allBooks σ else if what = 4 then σ 6 else if what = 5 then σ 7 + sm (fun k => f_cards σ k) (σ 1).toNat else -1
section M14
variable {G : GE} {I J : HI} {P : HP} {T : HT} {z : Nat} {m d : Nat} {Q : QT} {σ u : Int → Int}
set_option maxHeartbeats 1000000 in
theorem M_person (hs : shM G P T m) {k what : Int} (hk : rg k) (hwh : rg what) (h1 : 0 ≤ σ 1 ∧ σ 1 ≤ 6) (hQ : Q (some (iv (if isP σ k then f_person σ k what else -1))) (ur (ui I m 0 0) (m + 2) σ) J P T z) : MC G yX11_person (ws_ yX11_person cX11_person 5 (some FieldType.int)) (d + 2) 0 0 [.ref m, iv k, iv what] (ur I (m + 2) σ) J P T z Q nX := by
  have hb := hs.b
  refine MC.of (by decide) (Nat.le_of_ble_eq_true rfl) ?_
  show PW G mX11_person (rmD (d + 2) 0 0) (MZ G Q nX 0 0) 0 0 (ur I (m + 2) σ) J P T z 0 [some (.ref m), some (iv k), some (iv what), none, none] []
  refine r_rgU fun hrg => ?_
  refine r_aload_n (pc := 0) dX11_person_0 rfl rfl ?_
  refine r_iconst (pc := 1) dX11_person_1 ?_
  refine r_putiU (pc := 2) (c := 11) (k := 0) (kz := 0) hs.o cok_11 (Nat.le_of_ble_eq_true rfl) q1860 ⟨rfl, rfl⟩ (Or.inl rfl) rfl (by omega) (by omega) rfl rfl (by omega) (fun _ _ _ => rfl) ⟨rfl, rfl⟩ dX11_person_2 ?_
  refine r_aload_n (pc := 5) dX11_person_5 rfl rfl ?_
  refine r_iload_n (pc := 6) dX11_person_6 rfl rfl ?_
  refine r_callV1 (pc := 7) (M_isPerson hs hk h1 fe_i) im_X11_isPerson qs78 q2169 hs.o rfl dX11_person_7 (Nat.le_of_ble_eq_true rfl) (Nat.le_of_ble_eq_true rfl) rfl (k_fi ?_) (fun _ _ _ _ _ _ _ hx => no_x hx)
  refine r_if_ne (pc := 10) 15 dX11_person_10 rfl bz_g (fun h10 => ?_) (fun h10 => ?_)
  · have g1 := bz_ne.mp h10
    rw [if_pos g1] at hQ
    have fin : PW G mX11_person (rmD (d + 2) 0 0) (MZ G Q nX 0 0) 0 0 (ur (ui I m 0 0) (m + 2) σ) J P T z 55 [some (.ref m), some (iv k), some (iv what), some (iv (f_set σ k 13)), some (iv 13)] [] := by
      unfold f_person at hQ
      refine r_iload_n (pc := 55) dX11_person_55 rfl rfl ?_
      by_cases e0 : what = 0
      · subst e0
        refine r_tswIn (pc := 56) 104 dX11_person_56 (by omega) (by omega) (by omega) rfl rfl ?_
        refine r_aload_n (pc := 104) dX11_person_104 rfl rfl ?_
        refine r_iload_n (pc := 105) dX11_person_105 rfl rfl ?_
        refine r_callV1 (pc := 106) (M_cards hs (by omega) fe_i) im_X11_cards qs70 q2126 hs.o rfl dX11_person_106 (Nat.le_of_ble_eq_true rfl) (Nat.le_of_ble_eq_true rfl) rfl (k_fi ?_) (fun _ _ _ _ _ _ _ hx => no_x hx)
        refine r_ireturn (pc := 109) rfl rfl dX11_person_109 (Nat.le_of_ble_eq_true rfl) (Nat.le_of_ble_eq_true rfl) ?_
        exact hQ
      rw [if_neg e0] at hQ
      by_cases e1 : what = 1
      · subst e1
        refine r_tswIn (pc := 56) 110 dX11_person_56 (by omega) (by omega) (by omega) rfl rfl ?_
        refine r_aload_n (pc := 110) dX11_person_110 rfl rfl ?_
        refine r_iload_n (pc := 111) dX11_person_111 rfl rfl ?_
        refine r_callV1 (pc := 112) (M_booksOf hs (by omega) fe_i) im_X11_booksOf qs81 q2185 hs.o rfl dX11_person_112 (Nat.le_of_ble_eq_true rfl) (Nat.le_of_ble_eq_true rfl) rfl (k_fi ?_) (fun _ _ _ _ _ _ _ hx => no_x hx)
        refine r_ireturn (pc := 115) rfl rfl dX11_person_115 (Nat.le_of_ble_eq_true rfl) (Nat.le_of_ble_eq_true rfl) ?_
        exact hQ
      rw [if_neg e1] at hQ
      by_cases e2 : what = 2
      · subst e2
        refine r_tswIn (pc := 56) 116 dX11_person_56 (by omega) (by omega) (by omega) rfl rfl ?_
        refine r_iload_n (pc := 116) dX11_person_116 rfl rfl ?_
        refine r_ireturn (pc := 117) rfl rfl dX11_person_117 (Nat.le_of_ble_eq_true rfl) (Nat.le_of_ble_eq_true rfl) ?_
        exact hQ
      rw [if_neg e2] at hQ
      by_cases e3 : what = 3
      · subst e3
        refine r_tswIn (pc := 56) 118 dX11_person_56 (by omega) (by omega) (by omega) rfl rfl ?_
        refine r_aload_n (pc := 118) dX11_person_118 rfl rfl ?_
        refine r_getr (pc := 119) (c := 11) (k := 6) (kz := 6) hs.o cok_11 (Nat.le_of_ble_eq_true rfl) q1866 ⟨rfl, rfl⟩ (Or.inl rfl) rfl (fun _ _ _ => rfl) hs.p_s dX11_person_119 ?_
        refine r_sipush (pc := 122) dX11_person_122 (by decide +kernel) ?_
        refine r_iload_n (pc := 125) dX11_person_125 rfl rfl ?_
        refine r_iadd (pc := 126) dX11_person_126 ?_
        refine r_ialdU (pc := 127) hs.t_s (by omega) (by omega) dX11_person_127 (fun hr127 => ?_)
        refine r_ireturn (pc := 128) rfl rfl dX11_person_128 (Nat.le_of_ble_eq_true rfl) (Nat.le_of_ble_eq_true rfl) ?_
        exact hQ
      rw [if_neg e3] at hQ
      by_cases e4 : what = 4
      · subst e4
        refine r_tswIn (pc := 56) 129 dX11_person_56 (by omega) (by omega) (by omega) rfl rfl ?_
        refine r_aload_n (pc := 129) dX11_person_129 rfl rfl ?_
        refine r_getr (pc := 130) (c := 11) (k := 6) (kz := 6) hs.o cok_11 (Nat.le_of_ble_eq_true rfl) q1866 ⟨rfl, rfl⟩ (Or.inl rfl) rfl (fun _ _ _ => rfl) hs.p_s dX11_person_130 ?_
        refine r_sipush (pc := 133) dX11_person_133 (by decide +kernel) ?_
        refine r_iload_n (pc := 136) dX11_person_136 rfl rfl ?_
        refine r_iadd (pc := 137) dX11_person_137 ?_
        refine r_ialdU (pc := 138) hs.t_s (by omega) (by omega) dX11_person_138 (fun hr138 => ?_)
        refine r_ireturn (pc := 139) rfl rfl dX11_person_139 (Nat.le_of_ble_eq_true rfl) (Nat.le_of_ble_eq_true rfl) ?_
        exact hQ
      rw [if_neg e4] at hQ
      by_cases e5 : what = 5
      · subst e5
        refine r_tswIn (pc := 56) 140 dX11_person_56 (by omega) (by omega) (by omega) rfl rfl ?_
        refine r_aload_n (pc := 140) dX11_person_140 rfl rfl ?_
        refine r_getr (pc := 141) (c := 11) (k := 6) (kz := 6) hs.o cok_11 (Nat.le_of_ble_eq_true rfl) q1866 ⟨rfl, rfl⟩ (Or.inl rfl) rfl (fun _ _ _ => rfl) hs.p_s dX11_person_141 ?_
        refine r_sipush (pc := 144) dX11_person_144 (by decide +kernel) ?_
        refine r_iload_n (pc := 147) dX11_person_147 rfl rfl ?_
        refine r_iadd (pc := 148) dX11_person_148 ?_
        refine r_ialdU (pc := 149) hs.t_s (by omega) (by omega) dX11_person_149 (fun hr149 => ?_)
        refine r_ireturn (pc := 150) rfl rfl dX11_person_150 (Nat.le_of_ble_eq_true rfl) (Nat.le_of_ble_eq_true rfl) ?_
        exact hQ
      rw [if_neg e5] at hQ
      by_cases e6 : what = 6
      · subst e6
        refine r_tswIn (pc := 56) 151 dX11_person_56 (by omega) (by omega) (by omega) rfl rfl ?_
        refine r_aload_n (pc := 151) dX11_person_151 rfl rfl ?_
        refine r_getr (pc := 152) (c := 11) (k := 6) (kz := 6) hs.o cok_11 (Nat.le_of_ble_eq_true rfl) q1866 ⟨rfl, rfl⟩ (Or.inl rfl) rfl (fun _ _ _ => rfl) hs.p_s dX11_person_152 ?_
        refine r_sipush (pc := 155) dX11_person_155 (by decide +kernel) ?_
        refine r_iload_n (pc := 158) dX11_person_158 rfl rfl ?_
        refine r_iadd (pc := 159) dX11_person_159 ?_
        refine r_ialdU (pc := 160) hs.t_s (by omega) (by omega) dX11_person_160 (fun hr160 => ?_)
        refine r_ireturn (pc := 161) rfl rfl dX11_person_161 (Nat.le_of_ble_eq_true rfl) (Nat.le_of_ble_eq_true rfl) ?_
        exact hQ
      rw [if_neg e6] at hQ
      by_cases e7 : what = 7
      · subst e7
        refine r_tswIn (pc := 56) 162 dX11_person_56 (by omega) (by omega) (by omega) rfl rfl ?_
        refine r_aload_n (pc := 162) dX11_person_162 rfl rfl ?_
        refine r_getr (pc := 163) (c := 11) (k := 6) (kz := 6) hs.o cok_11 (Nat.le_of_ble_eq_true rfl) q1866 ⟨rfl, rfl⟩ (Or.inl rfl) rfl (fun _ _ _ => rfl) hs.p_s dX11_person_163 ?_
        refine r_sipush (pc := 166) dX11_person_166 (by decide +kernel) ?_
        refine r_iload_n (pc := 169) dX11_person_169 rfl rfl ?_
        refine r_iadd (pc := 170) dX11_person_170 ?_
        refine r_ialdU (pc := 171) hs.t_s (by omega) (by omega) dX11_person_171 (fun hr171 => ?_)
        refine r_iconst (pc := 172) dX11_person_172 ?_
        refine r_isub (pc := 173) dX11_person_173 ?_
        refine r_ireturn (pc := 174) rfl rfl dX11_person_174 (Nat.le_of_ble_eq_true rfl) (Nat.le_of_ble_eq_true rfl) ?_
        exact hQ
      rw [if_neg e7] at hQ
      refine r_tswOut (pc := 56) 175 dX11_person_56 (by omega) (by omega) rfl ?_
      refine r_iconst (pc := 175) dX11_person_175 ?_
      refine r_ireturn (pc := 176) rfl rfl dX11_person_176 (Nat.le_of_ble_eq_true rfl) (Nat.le_of_ble_eq_true rfl) ?_
      exact hQ
    have loop : ∀ (n : Nat) (i : Int), 0 ≤ i → i ≤ 13 → 13 - i < n → PW G mX11_person (rmD (d + 2) 0 0) (MZ G Q nX 0 0) 0 0 (ur (ui I m 0 0) (m + 2) σ) J P T z 20 [some (.ref m), some (iv k), some (iv what), some (iv (f_set σ k i.toNat)), some (iv i)] [] := by
      intro n
      induction n with
      | zero => intro i h0 h1 h2; omega
      | succ n ih =>
        intro i h0 h1 h2
        have fr := f_set_r (σ := σ) (k := k) i.toNat
        have fp : (2 : Nat) ^ i.toNat ≤ 2 ^ 13 := Nat.pow_le_pow_right (by omega) (by omega)
        refine r_iload (pc := 20) dX11_person_20 rfl ?_
        refine r_bipush (pc := 22) dX11_person_22 (by decide +kernel) ?_
        refine r_icmp_ge (pc := 24) 55 dX11_person_24 rfl (by omega) (by omega) (fun h24 => ?_) (fun h24 => ?_)
        · obtain rfl : i = 13 := by omega
          exact fin
        have nx := ih (i + 1) (by omega) (by omega) (by omega)
        rw [show (i + 1).toNat = i.toNat + 1 by omega] at nx
        unfold f_set at nx
        rw [show ((i.toNat : Nat) : Int) = i by omega] at nx
        refine r_iload_n (pc := 27) dX11_person_27 rfl rfl ?_
        refine r_aload_n (pc := 28) dX11_person_28 rfl rfl ?_
        refine r_iload_n (pc := 29) dX11_person_29 rfl rfl ?_
        refine r_iload (pc := 30) dX11_person_30 rfl ?_
        refine r_iconst (pc := 32) dX11_person_32 ?_
        have hr9 := hrg (60 + 13 * k + i)
        refine r_callV3 (pc := 33) (M_hand0 hs (by omega) (by omega) fe_i) im_X11_handOf qs73 q2138 hs.o rfl dX11_person_33 (Nat.le_of_ble_eq_true rfl) (Nat.le_of_ble_eq_true rfl) rfl (k_fi ?_) (fun _ _ _ _ _ _ _ hx => no_x hx)
        refine r_if_le (pc := 36) 46 dX11_person_36 rfl (by omega) (fun h36 => ?_) (fun h36 => ?_)
        · rw [if_neg (by omega)] at nx
          refine r_iconst (pc := 46) dX11_person_46 ?_
          refine r_ior (pc := 47) dX11_person_47 (by omega) (by omega) ?_
          refine r_istore_n3 (pc := 48) (Nat.le_of_ble_eq_true rfl) dX11_person_48 rfl ?_
          refine r_iinc4 (pc := 49) (Nat.le_of_ble_eq_true rfl) dX11_person_49 rfl ?_
          refine r_goto (pc := 52) 20 dX11_person_52 rfl ?_
          exact nx
        rw [if_pos (by omega)] at nx
        refine r_iconst (pc := 39) dX11_person_39 ?_
        refine r_iload (pc := 40) dX11_person_40 rfl ?_
        refine r_ishl (pc := 42) dX11_person_42 (by omega) ?_
        refine r_goto (pc := 43) 47 dX11_person_43 rfl ?_
        rw [Int.one_mul]
        refine r_ior (pc := 47) dX11_person_47 (by omega) (by omega) ?_
        rw [Int.toNat_natCast]
        refine r_istore_n3 (pc := 48) (Nat.le_of_ble_eq_true rfl) dX11_person_48 rfl ?_
        refine r_iinc4 (pc := 49) (Nat.le_of_ble_eq_true rfl) dX11_person_49 rfl ?_
        refine r_goto (pc := 52) 20 dX11_person_52 rfl ?_
        exact nx
    refine r_iconst (pc := 15) dX11_person_15 ?_
    refine r_istore_n3 (pc := 16) (Nat.le_of_ble_eq_true rfl) dX11_person_16 rfl ?_
    refine r_iconst (pc := 17) dX11_person_17 ?_
    refine r_istore4 (pc := 18) (Nat.le_of_ble_eq_true rfl) dX11_person_18 rfl ?_
    exact loop 14 0 (by omega) (by omega) (by omega)
  rw [if_neg (bz_0.mp h10)] at hQ
  refine r_iconst (pc := 13) dX11_person_13 ?_
  refine r_ireturn (pc := 14) rfl rfl dX11_person_14 (Nat.le_of_ble_eq_true rfl) (Nat.le_of_ble_eq_true rfl) ?_
  exact hQ
theorem M_now (hs : shM G P T m) {what : Int} (hwh : rg what) (h1 : 0 ≤ σ 1 ∧ σ 1 ≤ 6) (hQ : Q (some (iv (f_now σ what))) (ur (ui I m 0 0) (m + 2) σ) J P T z) : MC G yX11_now (ws_ yX11_now cX11_now 4 (some FieldType.int)) (d + 1) 0 0 [.ref m, iv what] (ur I (m + 2) σ) J P T z Q nX := by
  have hb := hs.b
  refine MC.of (by decide) (Nat.le_of_ble_eq_true rfl) ?_
  show PW G mX11_now (rmD (d + 1) 0 0) (MZ G Q nX 0 0) 0 0 (ur I (m + 2) σ) J P T z 0 [some (.ref m), some (iv what), none, none] []
  have fin : PW G mX11_now (rmD (d + 1) 0 0) (MZ G Q nX 0 0) 0 0 (ur (ui I m 0 0) (m + 2) σ) J P T z 39 [some (.ref m), some (iv what), some (iv (σ 7 + sm (fun k => f_cards σ k) (σ 1).toNat)), some (iv (σ 1))] [] := by
    unfold f_now at hQ
    refine r_iload_n (pc := 39) dX11_now_39 rfl rfl ?_
    by_cases e0 : what = 0
    · subst e0
      refine r_tswIn (pc := 40) 80 dX11_now_40 (by omega) (by omega) (by omega) rfl rfl ?_
      refine r_aload_n (pc := 80) dX11_now_80 rfl rfl ?_
      refine r_getr (pc := 81) (c := 11) (k := 6) (kz := 6) hs.o cok_11 (Nat.le_of_ble_eq_true rfl) q1866 ⟨rfl, rfl⟩ (Or.inl rfl) rfl (fun _ _ _ => rfl) hs.p_s dX11_now_81 ?_
      refine r_iconst (pc := 84) dX11_now_84 ?_
      refine r_ialdU (pc := 85) hs.t_s (by omega) (by omega) dX11_now_85 (fun hr85 => ?_)
      refine r_ireturn (pc := 86) rfl rfl dX11_now_86 (Nat.le_of_ble_eq_true rfl) (Nat.le_of_ble_eq_true rfl) ?_
      exact hQ
    rw [if_neg e0] at hQ
    by_cases e1 : what = 1
    · subst e1
      refine r_tswIn (pc := 40) 87 dX11_now_40 (by omega) (by omega) (by omega) rfl rfl ?_
      refine r_aload_n (pc := 87) dX11_now_87 rfl rfl ?_
      refine r_getr (pc := 88) (c := 11) (k := 6) (kz := 6) hs.o cok_11 (Nat.le_of_ble_eq_true rfl) q1866 ⟨rfl, rfl⟩ (Or.inl rfl) rfl (fun _ _ _ => rfl) hs.p_s dX11_now_88 ?_
      refine r_bipush (pc := 91) dX11_now_91 (by decide +kernel) ?_
      refine r_ialdU (pc := 93) hs.t_s (by omega) (by omega) dX11_now_93 (fun hr93 => ?_)
      refine r_ireturn (pc := 94) rfl rfl dX11_now_94 (Nat.le_of_ble_eq_true rfl) (Nat.le_of_ble_eq_true rfl) ?_
      exact hQ
    rw [if_neg e1] at hQ
    by_cases e2 : what = 2
    · subst e2
      refine r_tswIn (pc := 40) 95 dX11_now_40 (by omega) (by omega) (by omega) rfl rfl ?_
      refine r_aload_n (pc := 95) dX11_now_95 rfl rfl ?_
      refine r_getr (pc := 96) (c := 11) (k := 6) (kz := 6) hs.o cok_11 (Nat.le_of_ble_eq_true rfl) q1866 ⟨rfl, rfl⟩ (Or.inl rfl) rfl (fun _ _ _ => rfl) hs.p_s dX11_now_96 ?_
      refine r_iconst (pc := 99) dX11_now_99 ?_
      refine r_ialdU (pc := 100) hs.t_s (by omega) (by omega) dX11_now_100 (fun hr100 => ?_)
      refine r_ireturn (pc := 101) rfl rfl dX11_now_101 (Nat.le_of_ble_eq_true rfl) (Nat.le_of_ble_eq_true rfl) ?_
      exact hQ
    rw [if_neg e2] at hQ
    by_cases e3 : what = 3
    · subst e3
      refine r_tswIn (pc := 40) 102 dX11_now_40 (by omega) (by omega) (by omega) rfl rfl ?_
      refine r_aload_n (pc := 102) dX11_now_102 rfl rfl ?_
      refine r_callV0 (pc := 103) (M_allBooks hs fe_i) im_X11_allBooks qs82 q2201 hs.o rfl dX11_now_103 (Nat.le_of_ble_eq_true rfl) (Nat.le_of_ble_eq_true rfl) rfl (k_fi ?_) (fun _ _ _ _ _ _ _ hx => no_x hx)
      refine r_ireturn (pc := 106) rfl rfl dX11_now_106 (Nat.le_of_ble_eq_true rfl) (Nat.le_of_ble_eq_true rfl) ?_
      exact hQ
    rw [if_neg e3] at hQ
    by_cases e4 : what = 4
    · subst e4
      refine r_tswIn (pc := 40) 107 dX11_now_40 (by omega) (by omega) (by omega) rfl rfl ?_
      refine r_aload_n (pc := 107) dX11_now_107 rfl rfl ?_
      refine r_getr (pc := 108) (c := 11) (k := 6) (kz := 6) hs.o cok_11 (Nat.le_of_ble_eq_true rfl) q1866 ⟨rfl, rfl⟩ (Or.inl rfl) rfl (fun _ _ _ => rfl) hs.p_s dX11_now_108 ?_
      refine r_bipush (pc := 111) dX11_now_111 (by decide +kernel) ?_
      refine r_ialdU (pc := 113) hs.t_s (by omega) (by omega) dX11_now_113 (fun hr113 => ?_)
      refine r_ireturn (pc := 114) rfl rfl dX11_now_114 (Nat.le_of_ble_eq_true rfl) (Nat.le_of_ble_eq_true rfl) ?_
      exact hQ
    rw [if_neg e4] at hQ
    by_cases e5 : what = 5
    · subst e5
      refine r_tswIn (pc := 40) 115 dX11_now_40 (by omega) (by omega) (by omega) rfl rfl ?_
      refine r_iload_n (pc := 115) dX11_now_115 rfl rfl ?_
      refine r_ireturn (pc := 116) rfl rfl dX11_now_116 (Nat.le_of_ble_eq_true rfl) (Nat.le_of_ble_eq_true rfl) ?_
      exact hQ
    rw [if_neg e5] at hQ
    refine r_tswOut (pc := 40) 117 dX11_now_40 (by omega) (by omega) rfl ?_
    refine r_iconst (pc := 117) dX11_now_117 ?_
    refine r_ireturn (pc := 118) rfl rfl dX11_now_118 (Nat.le_of_ble_eq_true rfl) (Nat.le_of_ble_eq_true rfl) ?_
    exact hQ
  have loop : ∀ (n : Nat) (i : Int), 0 ≤ i → i ≤ σ 1 → σ 1 - i < n → PW G mX11_now (rmD (d + 1) 0 0) (MZ G Q nX 0 0) 0 0 (ur (ui I m 0 0) (m + 2) σ) J P T z 15 [some (.ref m), some (iv what), some (iv (σ 7 + sm (fun k => f_cards σ k) i.toNat)), some (iv i)] [] := by
    intro n
    induction n with
    | zero => intro i h0 h1 h2; omega
    | succ n ih =>
      intro i g0 g1 g2
      have es := sm_succ (f := fun k => f_cards σ k) g0
      refine r_iload_n (pc := 15) dX11_now_15 rfl rfl ?_
      refine r_aload_n (pc := 16) dX11_now_16 rfl rfl ?_
      refine r_getr (pc := 17) (c := 11) (k := 6) (kz := 6) hs.o cok_11 (Nat.le_of_ble_eq_true rfl) q1866 ⟨rfl, rfl⟩ (Or.inl rfl) rfl (fun _ _ _ => rfl) hs.p_s dX11_now_17 ?_
      refine r_iconst (pc := 20) dX11_now_20 ?_
      refine r_ialdU (pc := 21) hs.t_s (by omega) (by omega) dX11_now_21 (fun hr21 => ?_)
      refine r_icmp_ge (pc := 22) 39 dX11_now_22 rfl (by omega) (by omega) (fun h22 => ?_) (fun h22 => ?_)
      · obtain rfl : i = σ 1 := by omega
        exact fin
      refine r_iload_n (pc := 25) dX11_now_25 rfl rfl ?_
      refine r_aload_n (pc := 26) dX11_now_26 rfl rfl ?_
      refine r_iload_n (pc := 27) dX11_now_27 rfl rfl ?_
      refine r_callV1 (pc := 28) (M_cards hs (by omega) fe_i) im_X11_cards qs70 q2126 hs.o rfl dX11_now_28 (Nat.le_of_ble_eq_true rfl) (Nat.le_of_ble_eq_true rfl) rfl (k_fi ?_) (fun _ _ _ _ _ _ _ hx => no_x hx)
      refine r_iadd (pc := 31) dX11_now_31 ?_
      refine r_istore_n2 (pc := 32) (Nat.le_of_ble_eq_true rfl) dX11_now_32 rfl ?_
      refine r_iinc3 (pc := 33) (Nat.le_of_ble_eq_true rfl) dX11_now_33 rfl ?_
      refine r_goto (pc := 36) 15 dX11_now_36 rfl ?_
      have nx := ih (i + 1) (by omega) (by omega) (by omega)
      rw [← es, ← Int.add_assoc] at nx
      exact nx
  refine r_aload_n (pc := 0) dX11_now_0 rfl rfl ?_
  refine r_iconst (pc := 1) dX11_now_1 ?_
  refine r_putiU (pc := 2) (c := 11) (k := 0) (kz := 0) hs.o cok_11 (Nat.le_of_ble_eq_true rfl) q1860 ⟨rfl, rfl⟩ (Or.inl rfl) rfl (by omega) (by omega) rfl rfl (by omega) (fun _ _ _ => rfl) ⟨rfl, rfl⟩ dX11_now_2 ?_
  refine r_aload_n (pc := 5) dX11_now_5 rfl rfl ?_
  refine r_getr (pc := 6) (c := 11) (k := 6) (kz := 6) hs.o cok_11 (Nat.le_of_ble_eq_true rfl) q1866 ⟨rfl, rfl⟩ (Or.inl rfl) rfl (fun _ _ _ => rfl) hs.p_s dX11_now_6 ?_
  refine r_bipush (pc := 9) dX11_now_9 (by decide +kernel) ?_
  refine r_ialdU (pc := 11) hs.t_s (by omega) (by omega) dX11_now_11 (fun hr11 => ?_)
  refine r_istore_n2 (pc := 12) (Nat.le_of_ble_eq_true rfl) dX11_now_12 rfl ?_
  refine r_iconst (pc := 13) dX11_now_13 ?_
  refine r_istore_n3 (pc := 14) (Nat.le_of_ble_eq_true rfl) dX11_now_14 rfl ?_
  have l := loop 7 0 (by omega) (by omega) (by omega)
  simp only [show (0 : Int).toNat = 0 from rfl, sm, Int.add_zero] at l
  exact l
theorem M_bent (hs : shM G P T m) {a rule : Int} (ha : rg a) (hr : rg rule) (h1 : 0 ≤ σ 1 ∧ σ 1 ≤ 6) (hd9 : ∀ p, 0 ≤ p → p < 6 → 0 ≤ σ (565 + p) ∧ σ (565 + p) ≤ 13) (hsm : ∀ a, 0 ≤ a → a < 6 → f_cards σ a ≠ 0 → ∃ j, 0 ≤ j ∧ j < 13 ∧ σ (60 + 13 * a + j) ≠ 0) (hQ : Q (some (iv (if isP σ a ∧ 0 ≤ rule ∧ rule ≤ 3 then f_bent σ a rule else -1))) (ur (ui I m 0 0) (m + 2) σ) J P T z) : MC G yX11_bent (ws_ yX11_bent cX11_bent 3 (some FieldType.int)) (d + 3) 0 0 [.ref m, iv a, iv rule] (ur I (m + 2) σ) J P T z Q nX := by
  have hb := hs.b
  refine MC.of (by decide) (Nat.le_of_ble_eq_true rfl) ?_
  show PW G mX11_bent (rmD (d + 3) 0 0) (MZ G Q nX 0 0) 0 0 (ur I (m + 2) σ) J P T z 0 [some (.ref m), some (iv a), some (iv rule)] []
  refine r_aload_n (pc := 0) dX11_bent_0 rfl rfl ?_
  refine r_iconst (pc := 1) dX11_bent_1 ?_
  refine r_putiU (pc := 2) (c := 11) (k := 0) (kz := 0) hs.o cok_11 (Nat.le_of_ble_eq_true rfl) q1860 ⟨rfl, rfl⟩ (Or.inl rfl) rfl (by omega) (by omega) rfl rfl (by omega) (fun _ _ _ => rfl) ⟨rfl, rfl⟩ dX11_bent_2 ?_
  refine r_aload_n (pc := 5) dX11_bent_5 rfl rfl ?_
  refine r_iload_n (pc := 6) dX11_bent_6 rfl rfl ?_
  refine r_callV1 (pc := 7) (M_isPerson hs ha h1 fe_i) im_X11_isPerson qs78 q2169 hs.o rfl dX11_bent_7 (Nat.le_of_ble_eq_true rfl) (Nat.le_of_ble_eq_true rfl) rfl (k_fi ?_) (fun _ _ _ _ _ _ _ hx => no_x hx)
  refine r_if_eq (pc := 10) 31 dX11_bent_10 rfl bz_g (fun h10 => ?_) (fun h10 => ?_)
  · rw [if_neg (fun q => bz_0.mp h10 q.1)] at hQ
    refine r_iconst (pc := 31) dX11_bent_31 ?_
    refine r_ireturn (pc := 32) rfl rfl dX11_bent_32 (Nat.le_of_ble_eq_true rfl) (Nat.le_of_ble_eq_true rfl) ?_
    exact hQ
  have g1 := bz_ne.mp h10
  refine r_iload_n (pc := 13) dX11_bent_13 rfl rfl ?_
  refine r_iconst (pc := 14) dX11_bent_14 ?_
  refine r_iconst (pc := 15) dX11_bent_15 ?_
  refine r_callS3 (pc := 16) (M_isIn hr (by omega) (by omega) fe_i) im_X11_isIn q2095 dX11_bent_16 (Nat.le_of_ble_eq_true rfl) (Nat.le_of_ble_eq_true rfl) rfl (k_fi ?_) (fun _ _ _ _ _ _ _ hx => no_x hx)
  refine r_if_eq (pc := 19) 31 dX11_bent_19 rfl bz_g (fun h19 => ?_) (fun h19 => ?_)
  · rw [if_neg (fun q => bz_0.mp h19 q.2)] at hQ
    refine r_iconst (pc := 31) dX11_bent_31 ?_
    refine r_ireturn (pc := 32) rfl rfl dX11_bent_32 (Nat.le_of_ble_eq_true rfl) (Nat.le_of_ble_eq_true rfl) ?_
    exact hQ
  have g2 := bz_ne.mp h19
  rw [if_pos ⟨g1, g2⟩] at hQ
  refine r_aload_n (pc := 22) dX11_bent_22 rfl rfl ?_
  refine r_iload_n (pc := 23) dX11_bent_23 rfl rfl ?_
  refine r_iload_n (pc := 24) dX11_bent_24 rfl rfl ?_
  refine r_callV2 (pc := 25) (M_bentOf hs (by omega) hr h1 hd9 (hsm a (by omega) (by omega)) fe_i) im_X11_bentOf qs98 q2341 hs.o rfl dX11_bent_25 (Nat.le_of_ble_eq_true rfl) (Nat.le_of_ble_eq_true rfl) rfl (k_fi ?_) (fun _ _ _ _ _ _ _ hx => no_x hx)
  refine r_goto (pc := 28) 32 dX11_bent_28 rfl ?_
  refine r_ireturn (pc := 32) rfl rfl dX11_bent_32 (Nat.le_of_ble_eq_true rfl) (Nat.le_of_ble_eq_true rfl) ?_
  exact hQ
end M14
