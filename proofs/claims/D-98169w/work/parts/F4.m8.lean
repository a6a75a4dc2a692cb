/-! ===== the model: the tape, tokens ===== -/
section M8
variable {G : GE} {I J : HI} {P : HP} {T : HT} {z : Nat} {m d : Nat} {Q : QT} {σ u τ ω : Int → Int} {w : Int}
theorem M_octet (hs : shM G P T m) {k : Int} (hk : 0 ≤ k ∧ k < 940) (hQ : Q (some (iv (I (m + 1) k % 256))) I J P T z) : MC G yX11_octet (ws_ yX11_octet cX11_octet 2 (some FieldType.int)) (d) 0 0 [.ref m, iv k] I J P T z Q nX := by
  have hb := hs.b
  refine MC.of (by decide) (Nat.le_of_ble_eq_true rfl) ?_
  show PW G mX11_octet (rmD (d) 0 0) (MZ G Q nX 0 0) 0 0 I J P T z 0 [some (.ref m), some (iv k)] []
  refine r_aload_n (pc := 0) dX11_octet_0 rfl rfl ?_
  refine r_getr (pc := 1) (c := 11) (k := 1) (kz := 1) hs.o cok_11 (Nat.le_of_ble_eq_true rfl) q1861 ⟨rfl, rfl⟩ (Or.inl rfl) rfl (fun _ _ _ => rfl) hs.p_tape dX11_octet_1 ?_
  refine r_iload_n (pc := 4) dX11_octet_4 rfl rfl ?_
  refine r_bald (pc := 5) hs.t_tape (by omega) (by omega) dX11_octet_5 (fun hr5 => ?_)
  try simp (disch := omega) only [ui_ur, ui_ur_n, ur_sv, ur_nv, ui_sv, ui_nv, ui_uis, us_s, us_n] at hr5 ⊢
  refine r_sipush (pc := 6) dX11_octet_6 (by decide +kernel) ?_
  refine r_iand (pc := 9) 8 256 dX11_octet_9 (by decide +kernel) (by decide) rfl ?_
  refine r_ireturn (pc := 10) rfl rfl dX11_octet_10 (Nat.le_of_ble_eq_true rfl) (Nat.le_of_ble_eq_true rfl) ?_
  exact hQ
theorem M_taken (hs : shM G P T m) {k : Int} (hk : rg k) (hQ : Q none (ur I m (us (us (us (us ω 3 (ω 2)) 2 0) 4 0) 5 k)) J P T z) : MC G yX11_taken (ws_ yX11_taken cX11_taken 2 (none : Option FieldType)) (d) 0 0 [.ref m, iv k] (ur I m ω) J P T z Q nX := by
  have hb := hs.b
  refine MC.of (by decide) (Nat.le_of_ble_eq_true rfl) ?_
  show PW G mX11_taken (rmD (d) 0 0) (MZ G Q nX 0 0) 0 0 (ur I m ω) J P T z 0 [some (.ref m), some (iv k)] []
  refine r_aload_n (pc := 0) dX11_taken_0 rfl rfl ?_
  refine r_aload_n (pc := 1) dX11_taken_1 rfl rfl ?_
  refine r_geti (pc := 2) (c := 11) (k := 2) (kz := 2) hs.o cok_11 (Nat.le_of_ble_eq_true rfl) q1862 ⟨rfl, rfl⟩ (Or.inl rfl) rfl (fun _ _ _ => rfl) dX11_taken_2 (fun hr2 => ?_)
  try simp (disch := omega) only [ui_ur, ui_ur_n, ur_sv, ur_nv, ui_sv, ui_nv, ui_uis, us_s, us_n] at hr2 ⊢
  refine r_puti (pc := 5) (c := 11) (k := 3) (kz := 3) hs.o cok_11 (Nat.le_of_ble_eq_true rfl) q1863 ⟨rfl, rfl⟩ (Or.inl rfl) rfl (by omega) rfl rfl (by omega) (fun _ _ _ => rfl) ⟨rfl, rfl⟩ dX11_taken_5 ?_
  try simp (disch := omega) only [ui_ur, ui_ur_n, ur_sv, ur_nv, ui_sv, ui_nv, ui_uis, us_s, us_n]
  refine r_aload_n (pc := 8) dX11_taken_8 rfl rfl ?_
  refine r_iconst (pc := 9) dX11_taken_9 ?_
  refine r_puti (pc := 10) (c := 11) (k := 2) (kz := 2) hs.o cok_11 (Nat.le_of_ble_eq_true rfl) q1862 ⟨rfl, rfl⟩ (Or.inl rfl) rfl (by omega) rfl rfl (by omega) (fun _ _ _ => rfl) ⟨rfl, rfl⟩ dX11_taken_10 ?_
  try simp (disch := omega) only [ui_ur, ui_ur_n, ur_sv, ur_nv, ui_sv, ui_nv, ui_uis, us_s, us_n]
  refine r_aload_n (pc := 13) dX11_taken_13 rfl rfl ?_
  refine r_iconst (pc := 14) dX11_taken_14 ?_
  refine r_puti (pc := 15) (c := 11) (k := 4) (kz := 4) hs.o cok_11 (Nat.le_of_ble_eq_true rfl) q1864 ⟨rfl, rfl⟩ (Or.inl rfl) rfl (by omega) rfl rfl (by omega) (fun _ _ _ => rfl) ⟨rfl, rfl⟩ dX11_taken_15 ?_
  try simp (disch := omega) only [ui_ur, ui_ur_n, ur_sv, ur_nv, ui_sv, ui_nv, ui_uis, us_s, us_n]
  refine r_aload_n (pc := 18) dX11_taken_18 rfl rfl ?_
  refine r_iload_n (pc := 19) dX11_taken_19 rfl rfl ?_
  refine r_puti (pc := 20) (c := 11) (k := 5) (kz := 5) hs.o cok_11 (Nat.le_of_ble_eq_true rfl) q1865 ⟨rfl, rfl⟩ (Or.inl rfl) rfl (by omega) rfl rfl (by omega) (fun _ _ _ => rfl) ⟨rfl, rfl⟩ dX11_taken_20 ?_
  try simp (disch := omega) only [ui_ur, ui_ur_n, ur_sv, ur_nv, ui_sv, ui_nv, ui_uis, us_s, us_n]
  refine r_return (pc := 23) rfl dX11_taken_23 (Nat.le_of_ble_eq_true rfl) (Nat.le_of_ble_eq_true rfl) ?_
  exact hQ
theorem M_peek (hs : shM G P T m) (hp : 0 ≤ ω 4 ∧ ω 3 ≤ 940) (hQ : Q (some (iv (pk (I (m + 1)) (ω 3) (ω 4)))) (ur I m ω) J P T z) : MC G yX11_peek (ws_ yX11_peek cX11_peek 1 (some FieldType.int)) (d) 0 0 [.ref m] (ur I m ω) J P T z Q nX := by
  have hb := hs.b
  refine MC.of (by decide) (Nat.le_of_ble_eq_true rfl) ?_
  show PW G mX11_peek (rmD (d) 0 0) (MZ G Q nX 0 0) 0 0 (ur I m ω) J P T z 0 [some (.ref m)] []
  unfold pk at hQ
  refine r_aload_n (pc := 0) dX11_peek_0 rfl rfl ?_
  refine r_geti (pc := 1) (c := 11) (k := 4) (kz := 4) hs.o cok_11 (Nat.le_of_ble_eq_true rfl) q1864 ⟨rfl, rfl⟩ (Or.inl rfl) rfl (fun _ _ _ => rfl) dX11_peek_1 (fun hr1 => ?_)
  try simp (disch := omega) only [ui_ur, ui_ur_n, ur_sv, ur_nv, ui_sv, ui_nv, ui_uis, us_s, us_n] at hr1 ⊢
  refine r_aload_n (pc := 4) dX11_peek_4 rfl rfl ?_
  refine r_geti (pc := 5) (c := 11) (k := 3) (kz := 3) hs.o cok_11 (Nat.le_of_ble_eq_true rfl) q1863 ⟨rfl, rfl⟩ (Or.inl rfl) rfl (fun _ _ _ => rfl) dX11_peek_5 (fun hr5 => ?_)
  try simp (disch := omega) only [ui_ur, ui_ur_n, ur_sv, ur_nv, ui_sv, ui_nv, ui_uis, us_s, us_n] at hr5 ⊢
  refine r_icmp_ge (pc := 8) 27 dX11_peek_8 rfl (by omega) (by omega) (fun h8 => ?_) (fun h8 => ?_)
  · rw [if_neg (by omega)] at hQ
    refine r_iconst (pc := 27) dX11_peek_27 ?_
    refine r_ireturn (pc := 28) rfl rfl dX11_peek_28 (Nat.le_of_ble_eq_true rfl) (Nat.le_of_ble_eq_true rfl) ?_
    exact hQ
  rw [if_pos (by omega)] at hQ
  refine r_aload_n (pc := 11) dX11_peek_11 rfl rfl ?_
  refine r_getr (pc := 12) (c := 11) (k := 1) (kz := 1) hs.o cok_11 (Nat.le_of_ble_eq_true rfl) q1861 ⟨rfl, rfl⟩ (Or.inl rfl) rfl (fun _ _ _ => rfl) hs.p_tape dX11_peek_12 ?_
  refine r_aload_n (pc := 15) dX11_peek_15 rfl rfl ?_
  refine r_geti (pc := 16) (c := 11) (k := 4) (kz := 4) hs.o cok_11 (Nat.le_of_ble_eq_true rfl) q1864 ⟨rfl, rfl⟩ (Or.inl rfl) rfl (fun _ _ _ => rfl) dX11_peek_16 (fun hr16 => ?_)
  try simp (disch := omega) only [ui_ur, ui_ur_n, ur_sv, ur_nv, ui_sv, ui_nv, ui_uis, us_s, us_n] at hr16 ⊢
  refine r_bald (pc := 19) hs.t_tape (by omega) (by omega) dX11_peek_19 (fun hr19 => ?_)
  try simp (disch := omega) only [ui_ur, ui_ur_n, ur_sv, ur_nv, ui_sv, ui_nv, ui_uis, us_s, us_n] at hr19 ⊢
  refine r_sipush (pc := 20) dX11_peek_20 (by decide +kernel) ?_
  refine r_iand (pc := 23) 8 256 dX11_peek_23 (by decide +kernel) (by decide) rfl ?_
  refine r_goto (pc := 24) 28 dX11_peek_24 rfl ?_
  refine r_ireturn (pc := 28) rfl rfl dX11_peek_28 (Nat.le_of_ble_eq_true rfl) (Nat.le_of_ble_eq_true rfl) ?_
  exact hQ
theorem M_isSmall {c : Int} (hc : rg c) (hQ : Q (some (iv (bz (isS c)))) I J P T z) : MC G yX11_isSmall (ws_ yX11_isSmall cX11_isSmall 1 (some FieldType.boolean)) (d) 0 0 [iv c] I J P T z Q nX := by
  refine MC.of (by decide) (Nat.le_of_ble_eq_true rfl) ?_
  show PW G mX11_isSmall (rmD (d) 0 0) (MZ G Q nX 0 0) 0 0 I J P T z 0 [some (iv c)] []
  refine r_iload_n (pc := 0) dX11_isSmall_0 rfl rfl ?_
  refine r_bipush (pc := 1) dX11_isSmall_1 (by decide +kernel) ?_
  refine r_icmp_lt (pc := 3) 16 dX11_isSmall_3 rfl (by omega) (by omega) (fun h3 => ?_) (fun h3 => ?_)
  · rw [bz_f (by unfold isS; omega)] at hQ
    refine r_iconst (pc := 16) dX11_isSmall_16 ?_
    refine r_ireturn (pc := 17) rfl (nb_z (by omega)) dX11_isSmall_17 (Nat.le_of_ble_eq_true rfl) (Nat.le_of_ble_eq_true rfl) ?_
    exact hQ
  refine r_iload_n (pc := 6) dX11_isSmall_6 rfl rfl ?_
  refine r_bipush (pc := 7) dX11_isSmall_7 (by decide +kernel) ?_
  refine r_icmp_gt (pc := 9) 16 dX11_isSmall_9 rfl (by omega) (by omega) (fun h9 => ?_) (fun h9 => ?_)
  · rw [bz_f (by unfold isS; omega)] at hQ
    refine r_iconst (pc := 16) dX11_isSmall_16 ?_
    refine r_ireturn (pc := 17) rfl (nb_z (by omega)) dX11_isSmall_17 (Nat.le_of_ble_eq_true rfl) (Nat.le_of_ble_eq_true rfl) ?_
    exact hQ
  rw [bz_t (by unfold isS; omega)] at hQ
  refine r_iconst (pc := 12) dX11_isSmall_12 ?_
  refine r_goto (pc := 13) 17 dX11_isSmall_13 rfl ?_
  refine r_ireturn (pc := 17) rfl (nb_z (by omega)) dX11_isSmall_17 (Nat.le_of_ble_eq_true rfl) (Nat.le_of_ble_eq_true rfl) ?_
  exact hQ
theorem M_isDigit {c : Int} (hc : rg c) (hQ : Q (some (iv (bz (isD c)))) I J P T z) : MC G yX11_isDigit (ws_ yX11_isDigit cX11_isDigit 1 (some FieldType.boolean)) (d) 0 0 [iv c] I J P T z Q nX := by
  refine MC.of (by decide) (Nat.le_of_ble_eq_true rfl) ?_
  show PW G mX11_isDigit (rmD (d) 0 0) (MZ G Q nX 0 0) 0 0 I J P T z 0 [some (iv c)] []
  refine r_iload_n (pc := 0) dX11_isDigit_0 rfl rfl ?_
  refine r_bipush (pc := 1) dX11_isDigit_1 (by decide +kernel) ?_
  refine r_icmp_lt (pc := 3) 16 dX11_isDigit_3 rfl (by omega) (by omega) (fun h3 => ?_) (fun h3 => ?_)
  · rw [bz_f (by unfold isD; omega)] at hQ
    refine r_iconst (pc := 16) dX11_isDigit_16 ?_
    refine r_ireturn (pc := 17) rfl (nb_z (by omega)) dX11_isDigit_17 (Nat.le_of_ble_eq_true rfl) (Nat.le_of_ble_eq_true rfl) ?_
    exact hQ
  refine r_iload_n (pc := 6) dX11_isDigit_6 rfl rfl ?_
  refine r_bipush (pc := 7) dX11_isDigit_7 (by decide +kernel) ?_
  refine r_icmp_gt (pc := 9) 16 dX11_isDigit_9 rfl (by omega) (by omega) (fun h9 => ?_) (fun h9 => ?_)
  · rw [bz_f (by unfold isD; omega)] at hQ
    refine r_iconst (pc := 16) dX11_isDigit_16 ?_
    refine r_ireturn (pc := 17) rfl (nb_z (by omega)) dX11_isDigit_17 (Nat.le_of_ble_eq_true rfl) (Nat.le_of_ble_eq_true rfl) ?_
    exact hQ
  rw [bz_t (by unfold isD; omega)] at hQ
  refine r_iconst (pc := 12) dX11_isDigit_12 ?_
  refine r_goto (pc := 13) 17 dX11_isDigit_13 rfl ?_
  refine r_ireturn (pc := 17) rfl (nb_z (by omega)) dX11_isDigit_17 (Nat.le_of_ble_eq_true rfl) (Nat.le_of_ble_eq_true rfl) ?_
  exact hQ
theorem M_bad (hs : shM G P T m) {k : Int} (hk : rg k) (hQ : Q (some (iv 0)) (ur I m (us (us ω 15 k) 16 (ω 12))) J P T z) : MC G yX11_bad (ws_ yX11_bad cX11_bad 2 (some FieldType.boolean)) (d) 0 0 [.ref m, iv k] (ur I m ω) J P T z Q nX := by
  have hb := hs.b
  refine MC.of (by decide) (Nat.le_of_ble_eq_true rfl) ?_
  show PW G mX11_bad (rmD (d) 0 0) (MZ G Q nX 0 0) 0 0 (ur I m ω) J P T z 0 [some (.ref m), some (iv k)] []
  refine r_aload_n (pc := 0) dX11_bad_0 rfl rfl ?_
  refine r_iload_n (pc := 1) dX11_bad_1 rfl rfl ?_
  refine r_puti (pc := 2) (c := 11) (k := 15) (kz := 15) hs.o cok_11 (Nat.le_of_ble_eq_true rfl) q1875 ⟨rfl, rfl⟩ (Or.inl rfl) rfl (by omega) rfl rfl (by omega) (fun _ _ _ => rfl) ⟨rfl, rfl⟩ dX11_bad_2 ?_
  try simp (disch := omega) only [ui_ur, ui_ur_n, ur_sv, ur_nv, ui_sv, ui_nv, ui_uis, us_s, us_n]
  refine r_aload_n (pc := 5) dX11_bad_5 rfl rfl ?_
  refine r_aload_n (pc := 6) dX11_bad_6 rfl rfl ?_
  refine r_geti (pc := 7) (c := 11) (k := 12) (kz := 12) hs.o cok_11 (Nat.le_of_ble_eq_true rfl) q1872 ⟨rfl, rfl⟩ (Or.inl rfl) rfl (fun _ _ _ => rfl) dX11_bad_7 (fun hr7 => ?_)
  try simp (disch := omega) only [ui_ur, ui_ur_n, ur_sv, ur_nv, ui_sv, ui_nv, ui_uis, us_s, us_n] at hr7 ⊢
  refine r_puti (pc := 10) (c := 11) (k := 16) (kz := 16) hs.o cok_11 (Nat.le_of_ble_eq_true rfl) q1876 ⟨rfl, rfl⟩ (Or.inl rfl) rfl (by omega) rfl rfl (by omega) (fun _ _ _ => rfl) ⟨rfl, rfl⟩ dX11_bad_10 ?_
  try simp (disch := omega) only [ui_ur, ui_ur_n, ur_sv, ur_nv, ui_sv, ui_nv, ui_uis, us_s, us_n]
  refine r_iconst (pc := 13) dX11_bad_13 ?_
  refine r_ireturn (pc := 14) rfl (nb_z (by omega)) dX11_bad_14 (Nat.le_of_ble_eq_true rfl) (Nat.le_of_ble_eq_true rfl) ?_
  exact hQ
theorem M_isWord (hs : shM G P T m) {k : Int} (hk : rgj k) (hQ : Q (some (iv (bz (ω 11 = 1 ∧ J m 17 = k)))) (ur I m ω) J P T z) : MC G yX11_isWord (ws_ yX11_isWord cX11_isWord 3 (some FieldType.boolean)) (d) 0 0 [.ref m, jv k] (ur I m ω) J P T z Q nX := by
  have hb := hs.b
  refine MC.of (by decide) (Nat.le_of_ble_eq_true rfl) ?_
  show PW G mX11_isWord (rmD (d) 0 0) (MZ G Q nX 0 0) 0 0 (ur I m ω) J P T z 0 [some (.ref m), some (jv k), none] []
  refine r_aload_n (pc := 0) dX11_isWord_0 rfl rfl ?_
  refine r_geti (pc := 1) (c := 11) (k := 11) (kz := 11) hs.o cok_11 (Nat.le_of_ble_eq_true rfl) q1871 ⟨rfl, rfl⟩ (Or.inl rfl) rfl (fun _ _ _ => rfl) dX11_isWord_1 (fun hr1 => ?_)
  try simp (disch := omega) only [ui_ur, ui_ur_n, ur_sv, ur_nv, ui_sv, ui_nv, ui_uis, us_s, us_n] at hr1 ⊢
  refine r_iconst (pc := 4) dX11_isWord_4 ?_
  refine r_icmp_ne (pc := 5) 21 dX11_isWord_5 rfl (by omega) (by omega) (fun h5 => ?_) (fun h5 => ?_)
  · rw [bz_f (by omega)] at hQ
    refine r_iconst (pc := 21) dX11_isWord_21 ?_
    refine r_ireturn (pc := 22) rfl (nb_z (by omega)) dX11_isWord_22 (Nat.le_of_ble_eq_true rfl) (Nat.le_of_ble_eq_true rfl) ?_
    exact hQ
  refine r_aload_n (pc := 8) dX11_isWord_8 rfl rfl ?_
  refine r_getj (pc := 9) (c := 11) (k := 17) (kz := 17) hs.o cok_11 (Nat.le_of_ble_eq_true rfl) q1877 ⟨rfl, rfl⟩ (Or.inl rfl) rfl (fun _ _ _ => rfl) dX11_isWord_9 (fun hr9 => ?_)
  try simp (disch := omega) only [ui_ur, ui_ur_n, ur_sv, ur_nv, ui_sv, ui_nv, ui_uis, us_s, us_n] at hr9 ⊢
  refine r_lload_n (pc := 12) dX11_isWord_12 rfl rfl ?_
  refine r_lcmp (pc := 13) dX11_isWord_13 (by omega) (by omega) ?_
  have lr := lc_r (x := J m 17) (y := k)
  refine r_if_ne (pc := 14) 21 dX11_isWord_14 rfl (by omega) (fun h14 => ?_) (fun h14 => ?_)
  · rw [bz_f (by have := lc_eq (x := J m 17) (y := k); omega)] at hQ
    refine r_iconst (pc := 21) dX11_isWord_21 ?_
    refine r_ireturn (pc := 22) rfl (nb_z (by omega)) dX11_isWord_22 (Nat.le_of_ble_eq_true rfl) (Nat.le_of_ble_eq_true rfl) ?_
    exact hQ
  rw [bz_t (by have := lc_eq (x := J m 17) (y := k); omega)] at hQ
  refine r_iconst (pc := 17) dX11_isWord_17 ?_
  refine r_goto (pc := 18) 22 dX11_isWord_18 rfl ?_
  refine r_ireturn (pc := 22) rfl (nb_z (by omega)) dX11_isWord_22 (Nat.le_of_ble_eq_true rfl) (Nat.le_of_ble_eq_true rfl) ?_
  exact hQ
theorem M_isSign (hs : shM G P T m) {k : Int} (hk : rg k) (hQ : Q (some (iv (bz (ω 11 = 3 ∧ ω 14 = k)))) (ur I m ω) J P T z) : MC G yX11_isSign (ws_ yX11_isSign cX11_isSign 2 (some FieldType.boolean)) (d) 0 0 [.ref m, iv k] (ur I m ω) J P T z Q nX := by
  have hb := hs.b
  refine MC.of (by decide) (Nat.le_of_ble_eq_true rfl) ?_
  show PW G mX11_isSign (rmD (d) 0 0) (MZ G Q nX 0 0) 0 0 (ur I m ω) J P T z 0 [some (.ref m), some (iv k)] []
  refine r_aload_n (pc := 0) dX11_isSign_0 rfl rfl ?_
  refine r_geti (pc := 1) (c := 11) (k := 11) (kz := 11) hs.o cok_11 (Nat.le_of_ble_eq_true rfl) q1871 ⟨rfl, rfl⟩ (Or.inl rfl) rfl (fun _ _ _ => rfl) dX11_isSign_1 (fun hr1 => ?_)
  try simp (disch := omega) only [ui_ur, ui_ur_n, ur_sv, ur_nv, ui_sv, ui_nv, ui_uis, us_s, us_n] at hr1 ⊢
  refine r_iconst (pc := 4) dX11_isSign_4 ?_
  refine r_icmp_ne (pc := 5) 20 dX11_isSign_5 rfl (by omega) (by omega) (fun h5 => ?_) (fun h5 => ?_)
  · rw [bz_f (by omega)] at hQ
    refine r_iconst (pc := 20) dX11_isSign_20 ?_
    refine r_ireturn (pc := 21) rfl (nb_z (by omega)) dX11_isSign_21 (Nat.le_of_ble_eq_true rfl) (Nat.le_of_ble_eq_true rfl) ?_
    exact hQ
  refine r_aload_n (pc := 8) dX11_isSign_8 rfl rfl ?_
  refine r_geti (pc := 9) (c := 11) (k := 14) (kz := 14) hs.o cok_11 (Nat.le_of_ble_eq_true rfl) q1874 ⟨rfl, rfl⟩ (Or.inl rfl) rfl (fun _ _ _ => rfl) dX11_isSign_9 (fun hr9 => ?_)
  try simp (disch := omega) only [ui_ur, ui_ur_n, ur_sv, ur_nv, ui_sv, ui_nv, ui_uis, us_s, us_n] at hr9 ⊢
  refine r_iload_n (pc := 12) dX11_isSign_12 rfl rfl ?_
  refine r_icmp_ne (pc := 13) 20 dX11_isSign_13 rfl (by omega) (by omega) (fun h13 => ?_) (fun h13 => ?_)
  · rw [bz_f (by omega)] at hQ
    refine r_iconst (pc := 20) dX11_isSign_20 ?_
    refine r_ireturn (pc := 21) rfl (nb_z (by omega)) dX11_isSign_21 (Nat.le_of_ble_eq_true rfl) (Nat.le_of_ble_eq_true rfl) ?_
    exact hQ
  rw [bz_t (by omega)] at hQ
  refine r_iconst (pc := 16) dX11_isSign_16 ?_
  refine r_goto (pc := 17) 21 dX11_isSign_17 rfl ?_
  refine r_ireturn (pc := 21) rfl (nb_z (by omega)) dX11_isSign_21 (Nat.le_of_ble_eq_true rfl) (Nat.le_of_ble_eq_true rfl) ?_
  exact hQ
theorem M_four (hs : shM G P T m) {v : Int} (hv : rg v) (hl : 0 ≤ ω 2 ∧ ω 2 ≤ 936) (hQ : Q none (ur (ur I (m + 1) (f_four τ (ω 2) v)) m (us ω 2 (ω 2 + 4))) J P T z) : MC G yX11_four (ws_ yX11_four cX11_four 3 (none : Option FieldType)) (d) 0 0 [.ref m, iv v] (ur (ur I (m + 1) τ) m ω) J P T z Q nX := by
  have hb := hs.b
  refine MC.of (by decide) (Nat.le_of_ble_eq_true rfl) ?_
  show PW G mX11_four (rmD (d) 0 0) (MZ G Q nX 0 0) 0 0 (ur (ur I (m + 1) τ) m ω) J P T z 0 [some (.ref m), some (iv v), none] []
  refine r_bipush (pc := 0) dX11_four_0 (by decide +kernel) ?_
  refine r_istore_n2 (pc := 2) (Nat.le_of_ble_eq_true rfl) dX11_four_2 rfl ?_
  have step : ∀ (k l : Int) (τ : Int → Int), 0 ≤ k → k < 32 → 0 ≤ l → l < 940 → PW G mX11_four (rmD (d) 0 0) (MZ G Q nX 0 0) 0 0 (ur (ur I (m + 1) (us τ l (b8 (v / (2 ^ k.toNat : Nat))))) m (us ω 2 (l + 1))) J P T z 3 [some (.ref m), some (iv v), some (iv (k + -8))] [] → PW G mX11_four (rmD (d) 0 0) (MZ G Q nX 0 0) 0 0 (ur (ur I (m + 1) τ) m (us ω 2 l)) J P T z 3 [some (.ref m), some (iv v), some (iv k)] [] := by
    intro k l τ g0 g1 g2 g3 hk
    refine r_iload_n (pc := 3) dX11_four_3 rfl rfl ?_
    refine r_if_lt (pc := 4) 36 dX11_four_4 rfl (by omega) (fun h4 => ?_) (fun h4 => ?_)
    · omega
    refine r_aload_n (pc := 7) dX11_four_7 rfl rfl ?_
    refine r_getr (pc := 8) (c := 11) (k := 1) (kz := 1) hs.o cok_11 (Nat.le_of_ble_eq_true rfl) q1861 ⟨rfl, rfl⟩ (Or.inl rfl) rfl (fun _ _ _ => rfl) hs.p_tape dX11_four_8 ?_
    refine r_aload_n (pc := 11) dX11_four_11 rfl rfl ?_
    refine r_geti (pc := 12) (c := 11) (k := 2) (kz := 2) hs.o cok_11 (Nat.le_of_ble_eq_true rfl) q1862 ⟨rfl, rfl⟩ (Or.inl rfl) rfl (fun _ _ _ => rfl) dX11_four_12 (fun hr12 => ?_)
    try simp (disch := omega) only [ui_ur, ui_ur_n, ur_sv, ur_nv, ui_sv, ui_nv, ui_uis, us_s, us_n] at hr12 ⊢
    refine r_iload_n (pc := 15) dX11_four_15 rfl rfl ?_
    refine r_iload_n (pc := 16) dX11_four_16 rfl rfl ?_
    refine r_ishr (pc := 17) dX11_four_17 hv (by omega) ?_
    refine r_i2b (pc := 18) dX11_four_18  ?_
    refine r_bast (pc := 19) hs.t_tape (by omega) (by omega) (by omega) (by omega) dX11_four_19 ?_
    try simp (disch := omega) only [ui_ur, ui_ur_n, ur_sv, ur_nv, ui_sv, ui_nv, ui_uis, us_s, us_n]
    refine r_aload_n (pc := 20) dX11_four_20 rfl rfl ?_
    refine r_dup (pc := 21) dX11_four_21 rfl ?_
    refine r_geti (pc := 22) (c := 11) (k := 2) (kz := 2) hs.o cok_11 (Nat.le_of_ble_eq_true rfl) q1862 ⟨rfl, rfl⟩ (Or.inl rfl) rfl (fun _ _ _ => rfl) dX11_four_22 (fun hr22 => ?_)
    try simp (disch := omega) only [ui_ur, ui_ur_n, ur_sv, ur_nv, ui_sv, ui_nv, ui_uis, us_s, us_n] at hr22 ⊢
    refine r_iconst (pc := 25) dX11_four_25 ?_
    refine r_iadd (pc := 26) dX11_four_26 ?_
    refine r_puti (pc := 27) (c := 11) (k := 2) (kz := 2) hs.o cok_11 (Nat.le_of_ble_eq_true rfl) q1862 ⟨rfl, rfl⟩ (Or.inl rfl) rfl (by omega) rfl rfl (by omega) (fun _ _ _ => rfl) ⟨rfl, rfl⟩ dX11_four_27 ?_
    try simp (disch := omega) only [ui_ur, ui_ur_n, ur_sv, ur_nv, ui_sv, ui_nv, ui_uis, us_s, us_n]
    refine r_iinc2 (pc := 30) (Nat.le_of_ble_eq_true rfl) dX11_four_30 rfl ?_
    refine r_goto (pc := 33) 3 dX11_four_33 rfl ?_
    rw [us_us]
    exact hk
  rw [← us_id (f := ω) (j := 2) (v := ω 2) rfl]
  refine step 24 (ω 2) _ (by omega) (by omega) (by omega) (by omega) ?_
  refine step 16 (ω 2 + 1) _ (by omega) (by omega) (by omega) (by omega) ?_
  refine step 8 (ω 2 + 1 + 1) _ (by omega) (by omega) (by omega) (by omega) ?_
  refine step 0 (ω 2 + 1 + 1 + 1) _ (by omega) (by omega) (by omega) (by omega) ?_
  refine r_iload_n (pc := 3) dX11_four_3 rfl rfl ?_
  refine r_if_lt (pc := 4) 36 dX11_four_4 rfl (by omega) (fun h4 => ?_) (fun h4 => ?_)
  · refine r_return (pc := 36) rfl dX11_four_36 (Nat.le_of_ble_eq_true rfl) (Nat.le_of_ble_eq_true rfl) ?_
    have e : f_four τ (ω 2) v = us (us (us (us τ (ω 2) (b8 (v / (2 ^ (24 : Int).toNat : Nat)))) (ω 2 + 1) (b8 (v / (2 ^ (16 : Int).toNat : Nat)))) (ω 2 + 1 + 1) (b8 (v / (2 ^ (8 : Int).toNat : Nat)))) (ω 2 + 1 + 1 + 1) (b8 (v / (2 ^ (0 : Int).toNat : Nat))) := by
      unfold f_four
      rw [show ω 2 + 1 + 1 = ω 2 + 2 by omega, show ω 2 + 2 + 1 = ω 2 + 3 by omega, show v / (2 ^ (0 : Int).toNat : Nat) = v by simp]
      rfl
    rw [e, show ω 2 + 4 = ω 2 + 1 + 1 + 1 + 1 by omega] at hQ
    exact hQ
  omega
theorem M_feed (hs : shM G P T m) {a b c e f : Int} (h1 : rg a) (h2 : rg b) (h3 : rg c) (h4 : rg e) (h5 : rg f) (hl : 0 ≤ ω 2 ∧ ω 2 ≤ 940)
    (hQ : if 940 < ω 2 + 20 then Q (some (iv (-1))) (ur (ur I (m + 1) τ) m (us ω 0 0)) J P T z else Q (some (iv (ω 2 + 20))) (ur (ur I (m + 1) (f_four (f_four (f_four (f_four (f_four τ (ω 2) a) (ω 2 + 4) b) (ω 2 + 8) c) (ω 2 + 12) e) (ω 2 + 16) f)) m (us (us ω 0 0) 2 (ω 2 + 20))) J P T z) : MC G yX11_feed (ws_ yX11_feed cX11_feed 6 (some FieldType.int)) (d + 1) 0 0 [.ref m, iv a, iv b, iv c, iv e, iv f] (ur (ur I (m + 1) τ) m ω) J P T z Q nX := by
  have hb := hs.b
  refine MC.of (by decide) (Nat.le_of_ble_eq_true rfl) ?_
  show PW G mX11_feed (rmD (d + 1) 0 0) (MZ G Q nX 0 0) 0 0 (ur (ur I (m + 1) τ) m ω) J P T z 0 [some (.ref m), some (iv a), some (iv b), some (iv c), some (iv e), some (iv f)] []
  refine r_aload_n (pc := 0) dX11_feed_0 rfl rfl ?_
  refine r_iconst (pc := 1) dX11_feed_1 ?_
  refine r_puti (pc := 2) (c := 11) (k := 0) (kz := 0) hs.o cok_11 (Nat.le_of_ble_eq_true rfl) q1860 ⟨rfl, rfl⟩ (Or.inl rfl) rfl (by omega) rfl rfl (by omega) (fun _ _ _ => rfl) ⟨rfl, rfl⟩ dX11_feed_2 ?_
  try simp (disch := omega) only [ui_ur, ui_ur_n, ur_sv, ur_nv, ui_sv, ui_nv, ui_uis, us_s, us_n]
  refine r_aload_n (pc := 5) dX11_feed_5 rfl rfl ?_
  refine r_geti (pc := 6) (c := 11) (k := 2) (kz := 2) hs.o cok_11 (Nat.le_of_ble_eq_true rfl) q1862 ⟨rfl, rfl⟩ (Or.inl rfl) rfl (fun _ _ _ => rfl) dX11_feed_6 (fun hr6 => ?_)
  try simp (disch := omega) only [ui_ur, ui_ur_n, ur_sv, ur_nv, ui_sv, ui_nv, ui_uis, us_s, us_n] at hr6 ⊢
  refine r_bipush (pc := 9) dX11_feed_9 (by decide +kernel) ?_
  refine r_iadd (pc := 11) dX11_feed_11 ?_
  refine r_sipush (pc := 12) dX11_feed_12 (by decide +kernel) ?_
  refine r_icmp_le (pc := 15) 20 dX11_feed_15 rfl (by omega) (by omega) (fun h15 => ?_) (fun h15 => ?_)
  · rw [if_neg (by omega)] at hQ
    refine r_aload_n (pc := 20) dX11_feed_20 rfl rfl ?_
    refine r_iload_n (pc := 21) dX11_feed_21 rfl rfl ?_
    refine r_callV1 (pc := 22) (M_four (ω := us ω 0 0) hs h1 (by rw [us_n (by omega)]; omega) fe_i) im_X11_four qs55 q1826 hs.o rfl dX11_feed_22 (Nat.le_of_ble_eq_true rfl) (Nat.le_of_ble_eq_true rfl) rfl (k_fv ?_) (fun _ _ _ _ _ _ _ hx => no_x hx)
    try simp (disch := omega) only [ui_ur, ui_ur_n, ur_sv, ur_nv, ui_sv, ui_nv, ui_uis, us_s, us_n]
    refine r_aload_n (pc := 25) dX11_feed_25 rfl rfl ?_
    refine r_iload_n (pc := 26) dX11_feed_26 rfl rfl ?_
    refine r_callV1 (pc := 27) (M_four (ω := us (us ω 0 0) 2 (ω 2 + 4)) hs h2 (by rw [us_s]; omega) fe_i) im_X11_four qs55 q1826 hs.o rfl dX11_feed_27 (Nat.le_of_ble_eq_true rfl) (Nat.le_of_ble_eq_true rfl) rfl (k_fv ?_) (fun _ _ _ _ _ _ _ hx => no_x hx)
    try simp (disch := omega) only [ui_ur, ui_ur_n, ur_sv, ur_nv, ui_sv, ui_nv, ui_uis, us_s, us_n]
    rw [us_us, show ω 2 + 4 + 4 = ω 2 + 8 by omega]
    refine r_aload_n (pc := 30) dX11_feed_30 rfl rfl ?_
    refine r_iload_n (pc := 31) dX11_feed_31 rfl rfl ?_
    refine r_callV1 (pc := 32) (M_four (ω := us (us ω 0 0) 2 (ω 2 + 8)) hs h3 (by rw [us_s]; omega) fe_i) im_X11_four qs55 q1826 hs.o rfl dX11_feed_32 (Nat.le_of_ble_eq_true rfl) (Nat.le_of_ble_eq_true rfl) rfl (k_fv ?_) (fun _ _ _ _ _ _ _ hx => no_x hx)
    try simp (disch := omega) only [ui_ur, ui_ur_n, ur_sv, ur_nv, ui_sv, ui_nv, ui_uis, us_s, us_n]
    rw [us_us, show ω 2 + 8 + 4 = ω 2 + 12 by omega]
    refine r_aload_n (pc := 35) dX11_feed_35 rfl rfl ?_
    refine r_iload (pc := 36) dX11_feed_36 rfl ?_
    refine r_callV1 (pc := 38) (M_four (ω := us (us ω 0 0) 2 (ω 2 + 12)) hs h4 (by rw [us_s]; omega) fe_i) im_X11_four qs55 q1826 hs.o rfl dX11_feed_38 (Nat.le_of_ble_eq_true rfl) (Nat.le_of_ble_eq_true rfl) rfl (k_fv ?_) (fun _ _ _ _ _ _ _ hx => no_x hx)
    try simp (disch := omega) only [ui_ur, ui_ur_n, ur_sv, ur_nv, ui_sv, ui_nv, ui_uis, us_s, us_n]
    rw [us_us, show ω 2 + 12 + 4 = ω 2 + 16 by omega]
    refine r_aload_n (pc := 41) dX11_feed_41 rfl rfl ?_
    refine r_iload (pc := 42) dX11_feed_42 rfl ?_
    refine r_callV1 (pc := 44) (M_four (ω := us (us ω 0 0) 2 (ω 2 + 16)) hs h5 (by rw [us_s]; omega) fe_i) im_X11_four qs55 q1826 hs.o rfl dX11_feed_44 (Nat.le_of_ble_eq_true rfl) (Nat.le_of_ble_eq_true rfl) rfl (k_fv ?_) (fun _ _ _ _ _ _ _ hx => no_x hx)
    try simp (disch := omega) only [ui_ur, ui_ur_n, ur_sv, ur_nv, ui_sv, ui_nv, ui_uis, us_s, us_n]
    rw [us_us, show ω 2 + 16 + 4 = ω 2 + 20 by omega]
    refine r_aload_n (pc := 47) dX11_feed_47 rfl rfl ?_
    refine r_geti (pc := 48) (c := 11) (k := 2) (kz := 2) hs.o cok_11 (Nat.le_of_ble_eq_true rfl) q1862 ⟨rfl, rfl⟩ (Or.inl rfl) rfl (fun _ _ _ => rfl) dX11_feed_48 (fun hr48 => ?_)
    try simp (disch := omega) only [ui_ur, ui_ur_n, ur_sv, ur_nv, ui_sv, ui_nv, ui_uis, us_s, us_n] at hr48 ⊢
    refine r_ireturn (pc := 51) rfl rfl dX11_feed_51 (Nat.le_of_ble_eq_true rfl) (Nat.le_of_ble_eq_true rfl) ?_
    exact hQ
  rw [if_pos (by omega)] at hQ
  refine r_iconst (pc := 18) dX11_feed_18 ?_
  refine r_ireturn (pc := 19) rfl rfl dX11_feed_19 (Nat.le_of_ble_eq_true rfl) (Nat.le_of_ble_eq_true rfl) ?_
  exact hQ
theorem M_end (hs : shM G P T m) {n : Int} (h1 : rg n) (hQ : if n < 0 ∨ ω 2 < n then Q (some (iv 0)) (ur I m (us ω 0 0)) J P T z else Q (some (iv 1)) (ur I m (us (us ω 0 0) 2 n)) J P T z) : MC G yX11_end (ws_ yX11_end cX11_end 2 (some FieldType.boolean)) (d) 0 0 [.ref m, iv n] (ur I m ω) J P T z Q nX := by
  have hb := hs.b
  refine MC.of (by decide) (Nat.le_of_ble_eq_true rfl) ?_
  show PW G mX11_end (rmD (d) 0 0) (MZ G Q nX 0 0) 0 0 (ur I m ω) J P T z 0 [some (.ref m), some (iv n)] []
  refine r_aload_n (pc := 0) dX11_end_0 rfl rfl ?_
  refine r_iconst (pc := 1) dX11_end_1 ?_
  refine r_puti (pc := 2) (c := 11) (k := 0) (kz := 0) hs.o cok_11 (Nat.le_of_ble_eq_true rfl) q1860 ⟨rfl, rfl⟩ (Or.inl rfl) rfl (by omega) rfl rfl (by omega) (fun _ _ _ => rfl) ⟨rfl, rfl⟩ dX11_end_2 ?_
  try simp (disch := omega) only [ui_ur, ui_ur_n, ur_sv, ur_nv, ui_sv, ui_nv, ui_uis, us_s, us_n]
  refine r_iload_n (pc := 5) dX11_end_5 rfl rfl ?_
  refine r_if_lt (pc := 6) 17 dX11_end_6 rfl (by omega) (fun h6 => ?_) (fun h6 => ?_)
  · rw [if_pos (by omega)] at hQ
    refine r_iconst (pc := 17) dX11_end_17 ?_
    refine r_ireturn (pc := 18) rfl (nb_z (by omega)) dX11_end_18 (Nat.le_of_ble_eq_true rfl) (Nat.le_of_ble_eq_true rfl) ?_
    exact hQ
  refine r_iload_n (pc := 9) dX11_end_9 rfl rfl ?_
  refine r_aload_n (pc := 10) dX11_end_10 rfl rfl ?_
  refine r_geti (pc := 11) (c := 11) (k := 2) (kz := 2) hs.o cok_11 (Nat.le_of_ble_eq_true rfl) q1862 ⟨rfl, rfl⟩ (Or.inl rfl) rfl (fun _ _ _ => rfl) dX11_end_11 (fun hr11 => ?_)
  try simp (disch := omega) only [ui_ur, ui_ur_n, ur_sv, ur_nv, ui_sv, ui_nv, ui_uis, us_s, us_n] at hr11 ⊢
  refine r_icmp_le (pc := 14) 19 dX11_end_14 rfl (by omega) (by omega) (fun h14 => ?_) (fun h14 => ?_)
  · rw [if_neg (by omega)] at hQ
    refine r_aload_n (pc := 19) dX11_end_19 rfl rfl ?_
    refine r_iload_n (pc := 20) dX11_end_20 rfl rfl ?_
    refine r_puti (pc := 21) (c := 11) (k := 2) (kz := 2) hs.o cok_11 (Nat.le_of_ble_eq_true rfl) q1862 ⟨rfl, rfl⟩ (Or.inl rfl) rfl (by omega) rfl rfl (by omega) (fun _ _ _ => rfl) ⟨rfl, rfl⟩ dX11_end_21 ?_
    try simp (disch := omega) only [ui_ur, ui_ur_n, ur_sv, ur_nv, ui_sv, ui_nv, ui_uis, us_s, us_n]
    refine r_iconst (pc := 24) dX11_end_24 ?_
    refine r_ireturn (pc := 25) rfl (nb_z (by omega)) dX11_end_25 (Nat.le_of_ble_eq_true rfl) (Nat.le_of_ble_eq_true rfl) ?_
    exact hQ
  rw [if_pos (by omega)] at hQ
  refine r_iconst (pc := 17) dX11_end_17 ?_
  refine r_ireturn (pc := 18) rfl (nb_z (by omega)) dX11_end_18 (Nat.le_of_ble_eq_true rfl) (Nat.le_of_ble_eq_true rfl) ?_
  exact hQ
theorem M_isName (hs : shM G P T m) (hQ : Q (some (iv (bz (ω 11 = 1 ∧ t_nm (J (m + 6)) (J m 17) 19)))) (ur I m ω) J P T z) : MC G yX11_isName (ws_ yX11_isName cX11_isName 3 (some FieldType.boolean)) (d) 0 0 [.ref m] (ur I m ω) J P T z Q nX := by
  have hb := hs.b
  refine MC.of (by decide) (Nat.le_of_ble_eq_true rfl) ?_
  show PW G mX11_isName (rmD (d) 0 0) (MZ G Q nX 0 0) 0 0 (ur I m ω) J P T z 0 [some (.ref m), none, none] []
  have loop : ∀ (n : Nat) (i : Int), 0 ≤ i → i ≤ 19 → 19 - i < n → PW G mX11_isName (rmD (d) 0 0) (MZ G Q nX 0 0) 0 0 (ur I m ω) J P T z 16 [some (.ref m), some (iv (bz (ω 11 = 1 ∧ t_nm (J (m + 6)) (J m 17) i.toNat))), some (iv i)] [] := by
    intro n
    induction n with
    | zero => intro i h0 h1 h2; omega
    | succ n ih =>
      intro i g0 g1 g2
      refine r_iload_n (pc := 16) dX11_isName_16 rfl rfl ?_
      refine r_bipush (pc := 17) dX11_isName_17 (by decide +kernel) ?_
      refine r_icmp_ge (pc := 19) 52 dX11_isName_19 rfl (by omega) (by omega) (fun h19 => ?_) (fun h19 => ?_)
      · obtain rfl : i = 19 := by omega
        refine r_iload_n (pc := 52) dX11_isName_52 rfl rfl ?_
        refine r_ireturn (pc := 53) rfl bz_n dX11_isName_53 (Nat.le_of_ble_eq_true rfl) (Nat.le_of_ble_eq_true rfl) ?_
        exact hQ
      have e1 : t_nm (J (m + 6)) (J m 17) (i + 1).toNat ↔ t_nm (J (m + 6)) (J m 17) i.toNat ∧ J m 17 ≠ J (m + 6) i := by
        rw [show (i + 1).toNat = i.toNat + 1 by omega]
        simp only [t_nm, t_nmb, Bool.and_eq_true, decide_eq_true_eq]
        rw [show ((i.toNat : Nat) : Int) = i by omega]
      have nxt := ih (i + 1) (by omega) (by omega) (by omega)
      have bad : ¬ (ω 11 = 1 ∧ t_nm (J (m + 6)) (J m 17) (i + 1).toNat) → PW G mX11_isName (rmD (d) 0 0) (MZ G Q nX 0 0) 0 0 (ur I m ω) J P T z 44 [some (.ref m), some (iv (bz (ω 11 = 1 ∧ t_nm (J (m + 6)) (J m 17) i.toNat))), some (iv i)] [] := by
        intro hc
        rw [bz_f hc] at nxt
        refine r_iconst (pc := 44) dX11_isName_44 ?_
        refine r_istore_n1 (pc := 45) (Nat.le_of_ble_eq_true rfl) dX11_isName_45 rfl ?_
        refine r_iinc2 (pc := 46) (Nat.le_of_ble_eq_true rfl) dX11_isName_46 rfl ?_
        refine r_goto (pc := 49) 16 dX11_isName_49 rfl ?_
        exact nxt
      refine r_iload_n (pc := 22) dX11_isName_22 rfl rfl ?_
      refine r_if_eq (pc := 23) 44 dX11_isName_23 rfl bz_g (fun h23 => ?_) (fun h23 => ?_)
      · have := bz_0.mp h23
        exact bad fun hc => this ⟨hc.1, (e1.mp hc.2).1⟩
      refine r_aload_n (pc := 26) dX11_isName_26 rfl rfl ?_
      refine r_getj (pc := 27) (c := 11) (k := 17) (kz := 17) hs.o cok_11 (Nat.le_of_ble_eq_true rfl) q1877 ⟨rfl, rfl⟩ (Or.inl rfl) rfl (fun _ _ _ => rfl) dX11_isName_27 (fun hr27 => ?_)
      try simp (disch := omega) only [ui_ur, ui_ur_n, ur_sv, ur_nv, ui_sv, ui_nv, ui_uis, us_s, us_n] at hr27 ⊢
      refine r_aload_n (pc := 30) dX11_isName_30 rfl rfl ?_
      refine r_getr (pc := 31) (c := 11) (k := 10) (kz := 10) hs.o cok_11 (Nat.le_of_ble_eq_true rfl) q1870 ⟨rfl, rfl⟩ (Or.inl rfl) rfl (fun _ _ _ => rfl) hs.p_reserved dX11_isName_31 ?_
      refine r_iload_n (pc := 34) dX11_isName_34 rfl rfl ?_
      refine r_lald (pc := 35) hs.t_reserved (by omega) (by omega) dX11_isName_35 (fun hr35 => ?_)
      try simp (disch := omega) only [ui_ur, ui_ur_n, ur_sv, ur_nv, ui_sv, ui_nv, ui_uis, us_s, us_n] at hr35 ⊢
      refine r_lcmp (pc := 36) dX11_isName_36 (by omega) (by omega) ?_
      have lr := lc_r (x := J m 17) (y := J (m + 6) i)
      have lr2 := lc_eq (x := J m 17) (y := J (m + 6) i)
      refine r_if_eq (pc := 37) 44 dX11_isName_37 rfl (by omega) (fun h37 => ?_) (fun h37 => ?_)
      · exact bad fun hc => (e1.mp hc.2).2 (lr2.mp h37)
      have b1 := bz_ne.mp h23
      rw [bz_t ⟨b1.1, e1.mpr ⟨b1.2, fun q => h37 (lr2.mpr q)⟩⟩] at nxt
      refine r_iconst (pc := 40) dX11_isName_40 ?_
      refine r_goto (pc := 41) 45 dX11_isName_41 rfl ?_
      refine r_istore_n1 (pc := 45) (Nat.le_of_ble_eq_true rfl) dX11_isName_45 rfl ?_
      refine r_iinc2 (pc := 46) (Nat.le_of_ble_eq_true rfl) dX11_isName_46 rfl ?_
      refine r_goto (pc := 49) 16 dX11_isName_49 rfl ?_
      exact nxt
  refine r_aload_n (pc := 0) dX11_isName_0 rfl rfl ?_
  refine r_geti (pc := 1) (c := 11) (k := 11) (kz := 11) hs.o cok_11 (Nat.le_of_ble_eq_true rfl) q1871 ⟨rfl, rfl⟩ (Or.inl rfl) rfl (fun _ _ _ => rfl) dX11_isName_1 (fun hr1 => ?_)
  try simp (disch := omega) only [ui_ur, ui_ur_n, ur_sv, ur_nv, ui_sv, ui_nv, ui_uis, us_s, us_n] at hr1 ⊢
  refine r_iconst (pc := 4) dX11_isName_4 ?_
  have fin := loop 20 0 (by omega) (by omega) (by omega)
  refine r_icmp_ne (pc := 5) 12 dX11_isName_5 rfl (by omega) (by omega) (fun h5 => ?_) (fun h5 => ?_)
  · rw [bz_f (by omega)] at fin
    refine r_iconst (pc := 12) dX11_isName_12 ?_
    refine r_istore_n1 (pc := 13) (Nat.le_of_ble_eq_true rfl) dX11_isName_13 rfl ?_
    refine r_iconst (pc := 14) dX11_isName_14 ?_
    refine r_istore_n2 (pc := 15) (Nat.le_of_ble_eq_true rfl) dX11_isName_15 rfl ?_
    exact fin
  rw [bz_t ⟨by omega, rfl⟩] at fin
  refine r_iconst (pc := 8) dX11_isName_8 ?_
  refine r_goto (pc := 9) 13 dX11_isName_9 rfl ?_
  refine r_istore_n1 (pc := 13) (Nat.le_of_ble_eq_true rfl) dX11_isName_13 rfl ?_
  refine r_iconst (pc := 14) dX11_isName_14 ?_
  refine r_istore_n2 (pc := 15) (Nat.le_of_ble_eq_true rfl) dX11_isName_15 rfl ?_
  exact fin
theorem M_find (hs : shM G P T m) {f n : Int} (hf : 0 ≤ f ∧ f ≤ 6) (hn : 0 ≤ n ∧ n ≤ 6) (hQ : Q (some (iv (t_find (J (m + 5)) (J m 17) f 0 n.toNat))) I J P T z) : MC G yX11_find (ws_ yX11_find cX11_find 4 (some FieldType.int)) (d) 0 0 [.ref m, iv f, iv n] I J P T z Q nX := by
  have hb := hs.b
  refine MC.of (by decide) (Nat.le_of_ble_eq_true rfl) ?_
  show PW G mX11_find (rmD (d) 0 0) (MZ G Q nX 0 0) 0 0 I J P T z 0 [some (.ref m), some (iv f), some (iv n), none] []
  refine r_iconst (pc := 0) dX11_find_0 ?_
  refine r_istore_n3 (pc := 1) (Nat.le_of_ble_eq_true rfl) dX11_find_1 rfl ?_
  have loop : ∀ (k : Nat) (i : Int), 0 ≤ i → i ≤ n → n - i = k → Q (some (iv (t_find (J (m + 5)) (J m 17) f i k))) I J P T z → PW G mX11_find (rmD (d) 0 0) (MZ G Q nX 0 0) 0 0 I J P T z 2 [some (.ref m), some (iv f), some (iv n), some (iv i)] [] := by
    intro k
    induction k with
    | zero =>
      intro i g0 g1 g2 hQ
      refine r_iload_n (pc := 2) dX11_find_2 rfl rfl ?_
      refine r_iload_n (pc := 3) dX11_find_3 rfl rfl ?_
      refine r_icmp_ge (pc := 4) 31 dX11_find_4 rfl (by omega) (by omega) (fun h4 => ?_) (fun h4 => ?_)
      · refine r_iconst (pc := 31) dX11_find_31 ?_
        refine r_ireturn (pc := 32) rfl rfl dX11_find_32 (Nat.le_of_ble_eq_true rfl) (Nat.le_of_ble_eq_true rfl) ?_
        exact hQ
      omega
    | succ k ih =>
      intro i g0 g1 g2 hQ
      unfold t_find at hQ
      refine r_iload_n (pc := 2) dX11_find_2 rfl rfl ?_
      refine r_iload_n (pc := 3) dX11_find_3 rfl rfl ?_
      refine r_icmp_ge (pc := 4) 31 dX11_find_4 rfl (by omega) (by omega) (fun h4 => ?_) (fun h4 => ?_)
      · omega
      refine r_aload_n (pc := 7) dX11_find_7 rfl rfl ?_
      refine r_getr (pc := 8) (c := 11) (k := 9) (kz := 9) hs.o cok_11 (Nat.le_of_ble_eq_true rfl) q1869 ⟨rfl, rfl⟩ (Or.inl rfl) rfl (fun _ _ _ => rfl) hs.p_names dX11_find_8 ?_
      refine r_iload_n (pc := 11) dX11_find_11 rfl rfl ?_
      refine r_iload_n (pc := 12) dX11_find_12 rfl rfl ?_
      refine r_iadd (pc := 13) dX11_find_13 ?_
      refine r_lald (pc := 14) hs.t_names (by omega) (by omega) dX11_find_14 (fun hr14 => ?_)
      try simp (disch := omega) only [ui_ur, ui_ur_n, ur_sv, ur_nv, ui_sv, ui_nv, ui_uis, us_s, us_n] at hr14 ⊢
      refine r_aload_n (pc := 15) dX11_find_15 rfl rfl ?_
      refine r_getj (pc := 16) (c := 11) (k := 17) (kz := 17) hs.o cok_11 (Nat.le_of_ble_eq_true rfl) q1877 ⟨rfl, rfl⟩ (Or.inl rfl) rfl (fun _ _ _ => rfl) dX11_find_16 (fun hr16 => ?_)
      try simp (disch := omega) only [ui_ur, ui_ur_n, ur_sv, ur_nv, ui_sv, ui_nv, ui_uis, us_s, us_n] at hr16 ⊢
      refine r_lcmp (pc := 19) dX11_find_19 (by omega) (by omega) ?_
      have lr := lc_r (x := J (m + 5) (f + i)) (y := J m 17)
      have lr2 := lc_eq (x := J (m + 5) (f + i)) (y := J m 17)
      refine r_if_ne (pc := 20) 25 dX11_find_20 rfl (by omega) (fun h20 => ?_) (fun h20 => ?_)
      · rw [if_neg (fun q => h20 (lr2.mpr q))] at hQ
        refine r_iinc3 (pc := 25) (Nat.le_of_ble_eq_true rfl) dX11_find_25 rfl ?_
        refine r_goto (pc := 28) 2 dX11_find_28 rfl ?_
        exact ih (i + 1) (by omega) (by omega) (by omega) hQ
      rw [if_pos (lr2.mp h20)] at hQ
      refine r_iload_n (pc := 23) dX11_find_23 rfl rfl ?_
      refine r_ireturn (pc := 24) rfl rfl dX11_find_24 (Nat.le_of_ble_eq_true rfl) (Nat.le_of_ble_eq_true rfl) ?_
      exact hQ
  exact loop _ 0 (by omega) (by omega) (by omega) hQ
end M8
