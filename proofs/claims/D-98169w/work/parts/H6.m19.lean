/-! ===== the model: a deal ===== -/
def f_pk0 (π : Int → Int) (i : Int) : Int → Int := fun j => if 0 ≤ j ∧ j < i then j / 4 else π j
theorem f_pk0_us {π : Int → Int} {i : Int} (h : 0 ≤ i) : us (f_pk0 π i) i (i / 4) = f_pk0 π (i + 1) := by
  funext j
  simp only [us, f_pk0]
  by_cases e : j = i
  · rw [if_pos e, if_pos (by omega), e]
  · rw [if_neg e]
    by_cases q : 0 ≤ j ∧ j < i
    · rw [if_pos q, if_pos (by omega)]
    · rw [if_neg q, if_neg (by omega)]
theorem f_pk0_0 {π : Int → Int} : f_pk0 π 0 = π := by
  funext j
  simp only [f_pk0]
  rw [if_neg (by omega)]
/-- the pack, shuffled from place i down; the seed -/
def f_shuf : Nat → (Int → Int) × Int → (Int → Int) × Int
  | 0, x => x
  | i + 1, x => f_shuf i (us (us x.1 ((i + 1 : Nat) : Int) (x.1 (f_dr x.2 ((i + 2 : Nat) : Int)))) (f_dr x.2 ((i + 2 : Nat) : Int)) (x.1 ((i + 1 : Nat) : Int)), f_seed x.2)
theorem f_dr_r {x n : Int} (h : 0 < n) : 0 ≤ f_dr x n ∧ f_dr x n < n := ⟨Int.emod_nonneg _ (by omega), Int.emod_lt_of_pos _ h⟩
theorem f_shuf_r {a b n : Int} : ∀ (i : Nat) (x : (Int → Int) × Int), (i : Int) < n → (∀ j, 0 ≤ j → j < n → a ≤ x.1 j ∧ x.1 j < b) → ∀ j, 0 ≤ j → j < n → a ≤ (f_shuf i x).1 j ∧ (f_shuf i x).1 j < b := by
  intro i
  induction i with
  | zero => intro x hi h; exact h
  | succ i ih =>
    intro x hi h
    unfold f_shuf
    have r := f_dr_r (x := x.2) (n := ((i + 2 : Nat) : Int)) (by omega)
    refine ih _ (by omega) fun j j0 j1 => ?_
    show a ≤ us (us x.1 ((i + 1 : Nat) : Int) (x.1 (f_dr x.2 ((i + 2 : Nat) : Int)))) (f_dr x.2 ((i + 2 : Nat) : Int)) (x.1 ((i + 1 : Nat) : Int)) j ∧ us (us x.1 ((i + 1 : Nat) : Int) (x.1 (f_dr x.2 ((i + 2 : Nat) : Int)))) (f_dr x.2 ((i + 2 : Nat) : Int)) (x.1 ((i + 1 : Nat) : Int)) j < b
    unfold us
    split
    · exact h _ (by omega) (by omega)
    · split
      · exact h _ (by omega) (by omega)
      · exact h j j0 j1
/-- cleared from 4 on, i places -/
def f_clr (σ : Int → Int) (i : Int) : Int → Int := fun j => if 4 ≤ j ∧ j < 4 + i then 0 else σ j
theorem f_clr_us {σ : Int → Int} {i : Int} (h : 0 ≤ i) : us (f_clr σ i) (4 + i) 0 = f_clr σ (i + 1) := by
  funext j
  simp only [us, f_clr]
  by_cases e : j = 4 + i
  · rw [if_pos e, if_pos (by omega)]
  · rw [if_neg e]
    by_cases q : 4 ≤ j ∧ j < 4 + i
    · rw [if_pos q, if_pos (by omega)]
    · rw [if_neg q, if_neg (by omega)]
theorem f_clr_0 {σ : Int → Int} : f_clr σ 0 = σ := by
  funext j
  simp only [f_clr]
  rw [if_neg (by omega)]
/-- four cards of each of the first i kinds -/
def f_fou (σ : Int → Int) (i : Int) : Int → Int := fun j => if 571 ≤ j ∧ j < 571 + i then 4 else σ j
theorem f_fou_us {σ : Int → Int} {i : Int} (h : 0 ≤ i) : us (f_fou σ i) (571 + i) 4 = f_fou σ (i + 1) := by
  funext j
  simp only [us, f_fou]
  by_cases e : j = 571 + i
  · rw [if_pos e, if_pos (by omega)]
  · rw [if_neg e]
    by_cases q : 571 ≤ j ∧ j < 571 + i
    · rw [if_pos q, if_pos (by omega)]
    · rw [if_neg q, if_neg (by omega)]
theorem f_fou_0 {σ : Int → Int} : f_fou σ 0 = σ := by
  funext j
  simp only [f_fou]
  rw [if_neg (by omega)]
/-- the i-th card is dealt -/
def f_dl1 (π : Int → Int) (n : Int) (σ : Int → Int) (i : Int) : Int → Int := if i < n * σ 1 then f_hand σ (i / n) (π i) 1 else us (us σ (8 + σ 7) (π i)) 7 (σ 7 + 1)
def f_dl (π : Int → Int) (n : Int) : Nat → Int → (Int → Int) → Int → Int
  | 0, _, σ => σ
  | k + 1, i, σ => f_dl π n k (i + 1) (f_dl1 π n σ i)
def f_deal0 (σ : Int → Int) : Int → Int := f_fou (f_clr σ 580) (σ 0)
def f_shuffled (π : Int → Int) (σ : Int → Int) (sd : Int) : (Int → Int) × Int := f_shuf (4 * σ 0 - 1).toNat (f_pk0 π (4 * σ 0), sd)
def f_dealt (π : Int → Int) (σ : Int → Int) (n sd : Int) : Int → Int := f_dl (f_shuffled π σ sd).1 n (4 * σ 0).toNat 0 (f_deal0 σ)
/-- what begins needs -/
def BG (σ : Int → Int) : Prop := RG σ ∧ (0 ≤ σ 1 ∧ σ 1 ≤ 6) ∧ (0 ≤ σ 0 ∧ σ 0 ≤ 13) ∧ ∀ p, 0 ≤ p → p < 6 → σ (229 + p) = 0 ∧ 0 ≤ f_cards σ p ∧ f_cards σ p + σ 7 ≤ 52
section M19
variable {G : GE} {I J : HI} {P : HP} {T : HT} {z : Nat} {m d : Nat} {Q : QT} {σ π ω : Int → Int}
set_option maxHeartbeats 1000000 in
theorem M_deals (hs : shM G P T m) {n sd : Int} (hn : 1 ≤ n ∧ n ≤ 9) (hsd : rg sd) (h0 : 1 ≤ σ 0 ∧ σ 0 ≤ 13) (h1 : 1 ≤ σ 1 ∧ σ 1 ≤ 6) (hm : n * σ 1 ≤ 4 * σ 0) (hB : BG (f_dealt π σ n sd))
    (hQ : Q none (ur (ur (ur I (m + 21) (f_shuffled π σ sd).1) m (us ω 49 (f_shuffled π σ sd).2)) (m + 2) (f_begins (f_dealt π σ n sd))) J P T z) : MC G yX11_deals (ws_ yX11_deals cX11_deals 7 (none : Option FieldType)) (d + 6) 0 0 [.ref m, iv n, iv sd] (ur (ur (ur I (m + 21) π) m ω) (m + 2) σ) J P T z Q nX := by
  have hb := hs.b
  refine MC.of (by decide) (Nat.le_of_ble_eq_true rfl) ?_
  show PW G mX11_deals (rmD (d + 6) 0 0) (MZ G Q nX 0 0) 0 0 (ur (ur (ur I (m + 21) π) m ω) (m + 2) σ) J P T z 0 [some (.ref m), some (iv n), some (iv sd), none, none, none, none] []
  have ecm : ∀ π ω : Int → Int, ur (ur (ur I (m + 21) π) m ω) (m + 2) σ = ur (ur (ur I (m + 21) π) (m + 2) σ) m ω := fun π ω => ur_comm (by omega)
  have hnm : 0 ≤ n * σ 1 := Int.mul_nonneg (by omega) (by omega)
  refine r_iconst (pc := 0) dX11_deals_0 ?_
  refine r_aload_n (pc := 1) dX11_deals_1 rfl rfl ?_
  refine r_getr (pc := 2) (c := 11) (k := 6) (kz := 6) hs.o cok_11 (Nat.le_of_ble_eq_true rfl) q1866 ⟨rfl, rfl⟩ (Or.inl rfl) rfl (fun _ _ _ => rfl) hs.p_s dX11_deals_2 ?_
  refine r_iconst (pc := 5) dX11_deals_5 ?_
  refine r_iald (pc := 6) hs.t_s (by omega) (by omega) dX11_deals_6 (fun hr6 => ?_)
  try simp (disch := omega) only [ui_ur, ui_ur_n, ur_sv, ur_nv, ui_sv, ui_nv, ui_uis, us_s, us_n] at hr6 ⊢
  refine r_imul (pc := 7) dX11_deals_7 ?_
  refine r_istore_n3 (pc := 8) (Nat.le_of_ble_eq_true rfl) dX11_deals_8 rfl ?_
  refine r_aload_n (pc := 9) dX11_deals_9 rfl rfl ?_
  refine r_iload_n (pc := 10) dX11_deals_10 rfl rfl ?_
  refine r_puti (pc := 11) (c := 11) (k := 49) (kz := 49) hs.o cok_11 (Nat.le_of_ble_eq_true rfl) q1909 ⟨rfl, rfl⟩ (Or.inl rfl) rfl (by omega) rfl rfl (by omega) (fun _ _ _ => rfl) ⟨rfl, rfl⟩ dX11_deals_11 ?_
  try simp (disch := omega) only [ui_ur, ui_ur_n, ur_sv, ur_nv, ui_sv, ui_nv, ui_uis, us_s, us_n]
  refine r_iconst (pc := 14) dX11_deals_14 ?_
  refine r_istore4 (pc := 15) (Nat.le_of_ble_eq_true rfl) dX11_deals_15 rfl ?_
  have l1 : ∀ (j : Nat) (i : Int), 0 ≤ i → i ≤ 4 * σ 0 → 4 * σ 0 - i < j → PW G mX11_deals (rmD (d + 6) 0 0) (MZ G Q nX 0 0) 0 0 (ur (ur (ur I (m + 21) (f_pk0 π (4 * σ 0))) m (us ω 49 sd)) (m + 2) σ) J P T z 40 [some (.ref m), some (iv n), some (iv sd), some (iv (4 * σ 0)), some (iv (4 * σ 0)), none, none] [] → PW G mX11_deals (rmD (d + 6) 0 0) (MZ G Q nX 0 0) 0 0 (ur (ur (ur I (m + 21) (f_pk0 π i)) m (us ω 49 sd)) (m + 2) σ) J P T z 17 [some (.ref m), some (iv n), some (iv sd), some (iv (4 * σ 0)), some (iv i), none, none] [] := by
    intro j
    induction j with
    | zero => intro i a b c; omega
    | succ j ih =>
      intro i a b c kk
      have nx := ih (i + 1)
      rw [← f_pk0_us a] at nx
      refine r_iload (pc := 17) dX11_deals_17 rfl ?_
      refine r_iload_n (pc := 19) dX11_deals_19 rfl rfl ?_
      refine r_icmp_ge (pc := 20) 40 dX11_deals_20 rfl (by omega) (by omega) (fun h20 => ?_) (fun h20 => ?_)
      · obtain rfl : i = 4 * σ 0 := by omega
        exact kk
      refine r_aload_n (pc := 23) dX11_deals_23 rfl rfl ?_
      refine r_getr (pc := 24) (c := 11) (k := 50) (kz := 50) hs.o cok_11 (Nat.le_of_ble_eq_true rfl) q1910 ⟨rfl, rfl⟩ (Or.inl rfl) rfl (fun _ _ _ => rfl) hs.p_pack dX11_deals_24 ?_
      refine r_iload (pc := 27) dX11_deals_27 rfl ?_
      refine r_iload (pc := 29) dX11_deals_29 rfl ?_
      refine r_iconst (pc := 31) dX11_deals_31 ?_
      refine r_idiv (pc := 32) dX11_deals_32 (by omega) (by omega) ?_
      refine r_iast (pc := 33) hs.t_pack (by omega) (by omega) (by omega) (by omega) dX11_deals_33 ?_
      try simp (disch := omega) only [ui_ur, ui_ur_n, ur_sv, ur_nv, ui_sv, ui_nv, ui_uis, us_s, us_n]
      refine r_iinc4 (pc := 34) (Nat.le_of_ble_eq_true rfl) dX11_deals_34 rfl ?_
      refine r_goto (pc := 37) 17 dX11_deals_37 rfl ?_
      exact nx (by omega) (by omega) (by omega) kk
  have l1 := l1 53 0 (by omega) (by omega) (by omega)
  rw [f_pk0_0] at l1
  refine l1 ?_
  have shr : ∀ j, 0 ≤ j → j < 4 * σ 0 → 0 ≤ (f_shuffled π σ sd).1 j ∧ (f_shuffled π σ sd).1 j < σ 0 := f_shuf_r _ _ (by omega) (fun j a b => by
    show 0 ≤ f_pk0 π (4 * σ 0) j ∧ f_pk0 π (4 * σ 0) j < σ 0
    unfold f_pk0
    rw [if_pos (by omega)]
    omega)
  have l2 : ∀ (i : Nat) (x : (Int → Int) × Int) (l5 l6 : Option Value), (i : Int) < 4 * σ 0 → (∀ l5 l6 : Option Value, PW G mX11_deals (rmD (d + 6) 0 0) (MZ G Q nX 0 0) 0 0 (ur (ur (ur I (m + 21) (f_shuf i x).1) m (us ω 49 (f_shuf i x).2)) (m + 2) σ) J P T z 98 [some (.ref m), some (iv n), some (iv sd), some (iv (4 * σ 0)), some (iv 0), l5, l6] []) → PW G mX11_deals (rmD (d + 6) 0 0) (MZ G Q nX 0 0) 0 0 (ur (ur (ur I (m + 21) x.1) m (us ω 49 x.2)) (m + 2) σ) J P T z 45 [some (.ref m), some (iv n), some (iv sd), some (iv (4 * σ 0)), some (iv (i : Int)), l5, l6] [] := by
    intro i
    induction i with
    | zero =>
      intro x l5 l6 hi kk
      refine r_iload (pc := 45) dX11_deals_45 rfl ?_
      refine r_if_le (pc := 47) 98 dX11_deals_47 rfl (by omega) (fun h47 => ?_) (fun h47 => ?_)
      · exact kk l5 l6
      omega
    | succ i ih =>
      intro x l5 l6 hi kk
      unfold f_shuf at kk
      have r := f_dr_r (x := x.2) (n := ((i + 2 : Nat) : Int)) (by omega)
      refine r_iload (pc := 45) dX11_deals_45 rfl ?_
      refine r_if_le (pc := 47) 98 dX11_deals_47 rfl (by omega) (fun h47 => ?_) (fun h47 => ?_)
      · omega
      refine r_aload_n (pc := 50) dX11_deals_50 rfl rfl ?_
      refine r_iload (pc := 51) dX11_deals_51 rfl ?_
      refine r_iconst (pc := 53) dX11_deals_53 ?_
      refine r_iadd (pc := 54) dX11_deals_54 ?_
      rw [ecm, show (((i + 1 : Nat) : Int)) + 1 = ((i + 2 : Nat) : Int) by omega]
      refine r_callV1 (pc := 55) (M_draw hs (by omega) fe_i) im_X11_draw qs103 q2369 hs.o rfl dX11_deals_55 (Nat.le_of_ble_eq_true rfl) (Nat.le_of_ble_eq_true rfl) rfl (k_fi ?_) (fun _ _ _ _ _ _ _ hx => no_x hx)
      rw [us_s, us_us, ← ecm]
      generalize f_dr x.2 ((i + 2 : Nat) : Int) = y at *
      refine r_istore5 (pc := 58) (Nat.le_of_ble_eq_true rfl) dX11_deals_58 rfl ?_
      refine r_aload_n (pc := 60) dX11_deals_60 rfl rfl ?_
      refine r_getr (pc := 61) (c := 11) (k := 50) (kz := 50) hs.o cok_11 (Nat.le_of_ble_eq_true rfl) q1910 ⟨rfl, rfl⟩ (Or.inl rfl) rfl (fun _ _ _ => rfl) hs.p_pack dX11_deals_61 ?_
      refine r_iload (pc := 64) dX11_deals_64 rfl ?_
      refine r_iald (pc := 66) hs.t_pack (by omega) (by omega) dX11_deals_66 (fun hr66 => ?_)
      try simp (disch := omega) only [ui_ur, ui_ur_n, ur_sv, ur_nv, ui_sv, ui_nv, ui_uis, us_s, us_n] at hr66 ⊢
      refine r_istore6 (pc := 67) (Nat.le_of_ble_eq_true rfl) dX11_deals_67 rfl ?_
      refine r_aload_n (pc := 69) dX11_deals_69 rfl rfl ?_
      refine r_getr (pc := 70) (c := 11) (k := 50) (kz := 50) hs.o cok_11 (Nat.le_of_ble_eq_true rfl) q1910 ⟨rfl, rfl⟩ (Or.inl rfl) rfl (fun _ _ _ => rfl) hs.p_pack dX11_deals_70 ?_
      refine r_iload (pc := 73) dX11_deals_73 rfl ?_
      refine r_aload_n (pc := 75) dX11_deals_75 rfl rfl ?_
      refine r_getr (pc := 76) (c := 11) (k := 50) (kz := 50) hs.o cok_11 (Nat.le_of_ble_eq_true rfl) q1910 ⟨rfl, rfl⟩ (Or.inl rfl) rfl (fun _ _ _ => rfl) hs.p_pack dX11_deals_76 ?_
      refine r_iload (pc := 79) dX11_deals_79 rfl ?_
      refine r_iald (pc := 81) hs.t_pack (by omega) (by omega) dX11_deals_81 (fun hr81 => ?_)
      try simp (disch := omega) only [ui_ur, ui_ur_n, ur_sv, ur_nv, ui_sv, ui_nv, ui_uis, us_s, us_n] at hr81 ⊢
      refine r_iast (pc := 82) hs.t_pack (by omega) (by omega) (by omega) (by omega) dX11_deals_82 ?_
      try simp (disch := omega) only [ui_ur, ui_ur_n, ur_sv, ur_nv, ui_sv, ui_nv, ui_uis, us_s, us_n]
      refine r_aload_n (pc := 83) dX11_deals_83 rfl rfl ?_
      refine r_getr (pc := 84) (c := 11) (k := 50) (kz := 50) hs.o cok_11 (Nat.le_of_ble_eq_true rfl) q1910 ⟨rfl, rfl⟩ (Or.inl rfl) rfl (fun _ _ _ => rfl) hs.p_pack dX11_deals_84 ?_
      refine r_iload (pc := 87) dX11_deals_87 rfl ?_
      refine r_iload (pc := 89) dX11_deals_89 rfl ?_
      refine r_iast (pc := 91) hs.t_pack (by omega) (by omega) (by omega) (by omega) dX11_deals_91 ?_
      try simp (disch := omega) only [ui_ur, ui_ur_n, ur_sv, ur_nv, ui_sv, ui_nv, ui_uis, us_s, us_n]
      refine r_iinc4 (pc := 92) (Nat.le_of_ble_eq_true rfl) dX11_deals_92 rfl ?_
      refine r_goto (pc := 95) 45 dX11_deals_95 rfl ?_
      rw [show (((i + 1 : Nat) : Int)) + -1 = (i : Int) by omega]
      exact ih (us (us x.1 ((i + 1 : Nat) : Int) (x.1 y)) y (x.1 ((i + 1 : Nat) : Int)), f_seed x.2) _ _ (by omega) kk
  refine r_iload_n (pc := 40) dX11_deals_40 rfl rfl ?_
  refine r_iconst (pc := 41) dX11_deals_41 ?_
  refine r_isub (pc := 42) dX11_deals_42 ?_
  refine r_istore4 (pc := 43) (Nat.le_of_ble_eq_true rfl) dX11_deals_43 rfl ?_
  have l2 := l2 (4 * σ 0 - 1).toNat (f_pk0 π (4 * σ 0), sd) none none (by omega)
  rw [show (((4 * σ 0 - 1).toNat : Nat) : Int) = 4 * σ 0 - 1 by omega] at l2
  refine l2 fun l5 l6 => ?_
  clear l1 l2
  show PW G mX11_deals (rmD (d + 6) 0 0) (MZ G Q nX 0 0) 0 0 (ur (ur (ur I (m + 21) (f_shuffled π σ sd).1) m (us ω 49 (f_shuffled π σ sd).2)) (m + 2) σ) J P T z 98 [some (.ref m), some (iv n), some (iv sd), some (iv (4 * σ 0)), some (iv 0), l5, l6] []
  unfold f_dealt at hB hQ
  generalize f_shuffled π σ sd = y at *
  have l3 : ∀ (j : Nat) (i : Int), 0 ≤ i → i ≤ 580 → 580 - i < j → PW G mX11_deals (rmD (d + 6) 0 0) (MZ G Q nX 0 0) 0 0 (ur (ur (ur I (m + 21) y.1) m (us ω 49 y.2)) (m + 2) (f_clr σ 580)) J P T z 125 [some (.ref m), some (iv n), some (iv sd), some (iv (4 * σ 0)), some (iv 580), l5, l6] [] → PW G mX11_deals (rmD (d + 6) 0 0) (MZ G Q nX 0 0) 0 0 (ur (ur (ur I (m + 21) y.1) m (us ω 49 y.2)) (m + 2) (f_clr σ i)) J P T z 101 [some (.ref m), some (iv n), some (iv sd), some (iv (4 * σ 0)), some (iv i), l5, l6] [] := by
    intro j
    induction j with
    | zero => intro i a b c; omega
    | succ j ih =>
      intro i a b c kk
      have nx := ih (i + 1)
      rw [← f_clr_us a] at nx
      refine r_iload (pc := 101) dX11_deals_101 rfl ?_
      refine r_sipush (pc := 103) dX11_deals_103 (by decide +kernel) ?_
      refine r_icmp_ge (pc := 106) 125 dX11_deals_106 rfl (by omega) (by omega) (fun h106 => ?_) (fun h106 => ?_)
      · obtain rfl : i = 580 := by omega
        exact kk
      refine r_aload_n (pc := 109) dX11_deals_109 rfl rfl ?_
      refine r_getr (pc := 110) (c := 11) (k := 6) (kz := 6) hs.o cok_11 (Nat.le_of_ble_eq_true rfl) q1866 ⟨rfl, rfl⟩ (Or.inl rfl) rfl (fun _ _ _ => rfl) hs.p_s dX11_deals_110 ?_
      refine r_iconst (pc := 113) dX11_deals_113 ?_
      refine r_iload (pc := 114) dX11_deals_114 rfl ?_
      refine r_iadd (pc := 116) dX11_deals_116 ?_
      refine r_iconst (pc := 117) dX11_deals_117 ?_
      refine r_iast (pc := 118) hs.t_s (by omega) (by omega) (by omega) (by omega) dX11_deals_118 ?_
      try simp (disch := omega) only [ui_ur, ui_ur_n, ur_sv, ur_nv, ui_sv, ui_nv, ui_uis, us_s, us_n]
      refine r_iinc4 (pc := 119) (Nat.le_of_ble_eq_true rfl) dX11_deals_119 rfl ?_
      refine r_goto (pc := 122) 101 dX11_deals_122 rfl ?_
      exact nx (by omega) (by omega) (by omega) kk
  have l3 := l3 581 0 (by omega) (by omega) (by omega)
  rw [f_clr_0] at l3
  refine r_iconst (pc := 98) dX11_deals_98 ?_
  refine r_istore4 (pc := 99) (Nat.le_of_ble_eq_true rfl) dX11_deals_99 rfl ?_
  refine l3 ?_
  clear l3
  have q0 : ∀ i, f_fou (f_clr σ 580) i 0 = σ 0 := fun i => by unfold f_fou f_clr; rw [if_neg (by omega), if_neg (by omega)]
  have l4 : ∀ (j : Nat) (i : Int), 0 ≤ i → i ≤ σ 0 → σ 0 - i < j → PW G mX11_deals (rmD (d + 6) 0 0) (MZ G Q nX 0 0) 0 0 (ur (ur (ur I (m + 21) y.1) m (us ω 49 y.2)) (m + 2) (f_deal0 σ)) J P T z 157 [some (.ref m), some (iv n), some (iv sd), some (iv (4 * σ 0)), some (iv (σ 0)), l5, l6] [] → PW G mX11_deals (rmD (d + 6) 0 0) (MZ G Q nX 0 0) 0 0 (ur (ur (ur I (m + 21) y.1) m (us ω 49 y.2)) (m + 2) (f_fou (f_clr σ 580) i)) J P T z 128 [some (.ref m), some (iv n), some (iv sd), some (iv (4 * σ 0)), some (iv i), l5, l6] [] := by
    intro j
    induction j with
    | zero => intro i a b c; omega
    | succ j ih =>
      intro i a b c kk
      have nx := ih (i + 1)
      rw [← f_fou_us a] at nx
      refine r_iload (pc := 128) dX11_deals_128 rfl ?_
      refine r_aload_n (pc := 130) dX11_deals_130 rfl rfl ?_
      refine r_getr (pc := 131) (c := 11) (k := 6) (kz := 6) hs.o cok_11 (Nat.le_of_ble_eq_true rfl) q1866 ⟨rfl, rfl⟩ (Or.inl rfl) rfl (fun _ _ _ => rfl) hs.p_s dX11_deals_131 ?_
      refine r_iconst (pc := 134) dX11_deals_134 ?_
      refine r_iald (pc := 135) hs.t_s (by omega) (by omega) dX11_deals_135 (fun hr135 => ?_)
      try simp (disch := omega) only [ui_ur, ui_ur_n, ur_sv, ur_nv, ui_sv, ui_nv, ui_uis, us_s, us_n] at hr135 ⊢
      rw [q0]
      refine r_icmp_ge (pc := 136) 157 dX11_deals_136 rfl (by omega) (by omega) (fun h136 => ?_) (fun h136 => ?_)
      · obtain rfl : i = σ 0 := by omega
        exact kk
      refine r_aload_n (pc := 139) dX11_deals_139 rfl rfl ?_
      refine r_getr (pc := 140) (c := 11) (k := 6) (kz := 6) hs.o cok_11 (Nat.le_of_ble_eq_true rfl) q1866 ⟨rfl, rfl⟩ (Or.inl rfl) rfl (fun _ _ _ => rfl) hs.p_s dX11_deals_140 ?_
      refine r_sipush (pc := 143) dX11_deals_143 (by decide +kernel) ?_
      refine r_iload (pc := 146) dX11_deals_146 rfl ?_
      refine r_iadd (pc := 148) dX11_deals_148 ?_
      refine r_iconst (pc := 149) dX11_deals_149 ?_
      refine r_iast (pc := 150) hs.t_s (by omega) (by omega) (by omega) (by omega) dX11_deals_150 ?_
      try simp (disch := omega) only [ui_ur, ui_ur_n, ur_sv, ur_nv, ui_sv, ui_nv, ui_uis, us_s, us_n]
      refine r_iinc4 (pc := 151) (Nat.le_of_ble_eq_true rfl) dX11_deals_151 rfl ?_
      refine r_goto (pc := 154) 128 dX11_deals_154 rfl ?_
      exact nx (by omega) (by omega) (by omega) kk
  have l4 := l4 14 0 (by omega) (by omega) (by omega)
  rw [f_fou_0] at l4
  refine r_iconst (pc := 125) dX11_deals_125 ?_
  refine r_istore4 (pc := 126) (Nat.le_of_ble_eq_true rfl) dX11_deals_126 rfl ?_
  refine l4 ?_
  clear l4
  have q1 : f_deal0 σ 1 = σ 1 := by unfold f_deal0 f_fou f_clr; rw [if_neg (by omega), if_neg (by omega)]
  have q7 : f_deal0 σ 7 = 0 := by unfold f_deal0 f_fou f_clr; rw [if_neg (by omega), if_pos (by omega)]
  have l6' : ∀ (j : Nat) (i : Int) (σ' : Int → Int), 0 ≤ i → i ≤ 4 * σ 0 → 4 * σ 0 - i = j → σ' 1 = σ 1 → 0 ≤ σ' 7 → σ' 7 ≤ i → BG (f_dl y.1 n j i σ') → Q none (ur (ur (ur I (m + 21) y.1) m (us ω 49 y.2)) (m + 2) (f_begins (f_dl y.1 n j i σ'))) J P T z → PW G mX11_deals (rmD (d + 6) 0 0) (MZ G Q nX 0 0) 0 0 (ur (ur (ur I (m + 21) y.1) m (us ω 49 y.2)) (m + 2) σ') J P T z 160 [some (.ref m), some (iv n), some (iv sd), some (iv (4 * σ 0)), some (iv i), l5, l6] [] := by
    intro j
    induction j with
    | zero =>
      intro i σ' a b c e1 e7 e8 hB hQ
      obtain ⟨b1, b2, b3, b4⟩ := hB
      refine r_iload (pc := 160) dX11_deals_160 rfl ?_
      refine r_iload_n (pc := 162) dX11_deals_162 rfl rfl ?_
      refine r_icmp_ge (pc := 163) 238 dX11_deals_163 rfl (by omega) (by omega) (fun h163 => ?_) (fun h163 => ?_)
      · refine r_aload_n (pc := 238) dX11_deals_238 rfl rfl ?_
        refine r_callV0 (pc := 239) (M_begins hs b1 b2 b3 b4 fe_i) im_X11_begins qs69 q2122 hs.o rfl dX11_deals_239 (Nat.le_of_ble_eq_true rfl) (Nat.le_of_ble_eq_true rfl) rfl (k_fv ?_) (fun _ _ _ _ _ _ _ hx => no_x hx)
        refine r_return (pc := 242) rfl dX11_deals_242 (Nat.le_of_ble_eq_true rfl) (Nat.le_of_ble_eq_true rfl) ?_
        exact hQ
      omega
    | succ j ih =>
      intro i σ' a b c e1 e7 e8 hB hQ
      unfold f_dl at hB hQ
      unfold f_dl1 at hB hQ
      refine r_iload (pc := 160) dX11_deals_160 rfl ?_
      refine r_iload_n (pc := 162) dX11_deals_162 rfl rfl ?_
      refine r_icmp_ge (pc := 163) 238 dX11_deals_163 rfl (by omega) (by omega) (fun h163 => ?_) (fun h163 => ?_)
      · omega
      have pr := shr i a (by omega)
      refine r_iload (pc := 166) dX11_deals_166 rfl ?_
      refine r_iload_n (pc := 168) dX11_deals_168 rfl rfl ?_
      refine r_aload_n (pc := 169) dX11_deals_169 rfl rfl ?_
      refine r_getr (pc := 170) (c := 11) (k := 6) (kz := 6) hs.o cok_11 (Nat.le_of_ble_eq_true rfl) q1866 ⟨rfl, rfl⟩ (Or.inl rfl) rfl (fun _ _ _ => rfl) hs.p_s dX11_deals_170 ?_
      refine r_iconst (pc := 173) dX11_deals_173 ?_
      refine r_iald (pc := 174) hs.t_s (by omega) (by omega) dX11_deals_174 (fun hr174 => ?_)
      try simp (disch := omega) only [ui_ur, ui_ur_n, ur_sv, ur_nv, ui_sv, ui_nv, ui_uis, us_s, us_n] at hr174 ⊢
      refine r_imul (pc := 175) dX11_deals_175 ?_
      rw [e1]
      refine r_icmp_ge (pc := 176) 199 dX11_deals_176 rfl (by omega) (by omega) (fun h176 => ?_) (fun h176 => ?_)
      · rw [if_neg (by rw [e1]; omega)] at hB hQ
        refine r_aload_n (pc := 199) dX11_deals_199 rfl rfl ?_
        refine r_getr (pc := 200) (c := 11) (k := 6) (kz := 6) hs.o cok_11 (Nat.le_of_ble_eq_true rfl) q1866 ⟨rfl, rfl⟩ (Or.inl rfl) rfl (fun _ _ _ => rfl) hs.p_s dX11_deals_200 ?_
        refine r_bipush (pc := 203) dX11_deals_203 (by decide +kernel) ?_
        refine r_aload_n (pc := 205) dX11_deals_205 rfl rfl ?_
        refine r_getr (pc := 206) (c := 11) (k := 6) (kz := 6) hs.o cok_11 (Nat.le_of_ble_eq_true rfl) q1866 ⟨rfl, rfl⟩ (Or.inl rfl) rfl (fun _ _ _ => rfl) hs.p_s dX11_deals_206 ?_
        refine r_bipush (pc := 209) dX11_deals_209 (by decide +kernel) ?_
        refine r_iald (pc := 211) hs.t_s (by omega) (by omega) dX11_deals_211 (fun hr211 => ?_)
        try simp (disch := omega) only [ui_ur, ui_ur_n, ur_sv, ur_nv, ui_sv, ui_nv, ui_uis, us_s, us_n] at hr211 ⊢
        refine r_iadd (pc := 212) dX11_deals_212 ?_
        refine r_aload_n (pc := 213) dX11_deals_213 rfl rfl ?_
        refine r_getr (pc := 214) (c := 11) (k := 50) (kz := 50) hs.o cok_11 (Nat.le_of_ble_eq_true rfl) q1910 ⟨rfl, rfl⟩ (Or.inl rfl) rfl (fun _ _ _ => rfl) hs.p_pack dX11_deals_214 ?_
        refine r_iload (pc := 217) dX11_deals_217 rfl ?_
        refine r_iald (pc := 219) hs.t_pack (by omega) (by omega) dX11_deals_219 (fun hr219 => ?_)
        try simp (disch := omega) only [ui_ur, ui_ur_n, ur_sv, ur_nv, ui_sv, ui_nv, ui_uis, us_s, us_n] at hr219 ⊢
        refine r_iast (pc := 220) hs.t_s (by omega) (by omega) (by omega) (by omega) dX11_deals_220 ?_
        try simp (disch := omega) only [ui_ur, ui_ur_n, ur_sv, ur_nv, ui_sv, ui_nv, ui_uis, us_s, us_n]
        refine r_aload_n (pc := 221) dX11_deals_221 rfl rfl ?_
        refine r_getr (pc := 222) (c := 11) (k := 6) (kz := 6) hs.o cok_11 (Nat.le_of_ble_eq_true rfl) q1866 ⟨rfl, rfl⟩ (Or.inl rfl) rfl (fun _ _ _ => rfl) hs.p_s dX11_deals_222 ?_
        refine r_bipush (pc := 225) dX11_deals_225 (by decide +kernel) ?_
        refine r_dup2 (pc := 227) dX11_deals_227 rfl rfl ?_
        refine r_iald (pc := 228) hs.t_s (by omega) (by omega) dX11_deals_228 (fun hr228 => ?_)
        try simp (disch := omega) only [ui_ur, ui_ur_n, ur_sv, ur_nv, ui_sv, ui_nv, ui_uis, us_s, us_n] at hr228 ⊢
        refine r_iconst (pc := 229) dX11_deals_229 ?_
        refine r_iadd (pc := 230) dX11_deals_230 ?_
        refine r_iast (pc := 231) hs.t_s (by omega) (by omega) (by omega) (by omega) dX11_deals_231 ?_
        try simp (disch := omega) only [ui_ur, ui_ur_n, ur_sv, ur_nv, ui_sv, ui_nv, ui_uis, us_s, us_n]
        refine r_iinc4 (pc := 232) (Nat.le_of_ble_eq_true rfl) dX11_deals_232 rfl ?_
        refine r_goto (pc := 235) 160 dX11_deals_235 rfl ?_
        refine ih (i + 1) _ (by omega) (by omega) (by omega) (by rw [us_n (by omega), us_n (by omega)]; exact e1) (by rw [us_s]; omega) (by rw [us_s]; omega) hB hQ
      rw [if_pos (by rw [e1]; omega)] at hB hQ
      have hd6 : 0 ≤ i / n ∧ i / n < 6 := ⟨Int.ediv_nonneg a (by omega), by
        refine Int.ediv_lt_of_lt_mul (by omega) ?_
        have : n * σ 1 ≤ n * 6 := Int.mul_le_mul_of_nonneg_left (by omega) (by omega)
        omega⟩
      refine r_aload_n (pc := 179) dX11_deals_179 rfl rfl ?_
      refine r_iload (pc := 180) dX11_deals_180 rfl ?_
      refine r_iload_n (pc := 182) dX11_deals_182 rfl rfl ?_
      refine r_idiv (pc := 183) dX11_deals_183 (by omega) (by omega) ?_
      refine r_aload_n (pc := 184) dX11_deals_184 rfl rfl ?_
      refine r_getr (pc := 185) (c := 11) (k := 50) (kz := 50) hs.o cok_11 (Nat.le_of_ble_eq_true rfl) q1910 ⟨rfl, rfl⟩ (Or.inl rfl) rfl (fun _ _ _ => rfl) hs.p_pack dX11_deals_185 ?_
      refine r_iload (pc := 188) dX11_deals_188 rfl ?_
      refine r_iald (pc := 190) hs.t_pack (by omega) (by omega) dX11_deals_190 (fun hr190 => ?_)
      try simp (disch := omega) only [ui_ur, ui_ur_n, ur_sv, ur_nv, ui_sv, ui_nv, ui_uis, us_s, us_n] at hr190 ⊢
      refine r_iconst (pc := 191) dX11_deals_191 ?_
      refine r_callV3 (pc := 192) (M_handOf hs hd6 (by omega) fe_i) im_X11_handOf qs73 q2138 hs.o rfl dX11_deals_192 (Nat.le_of_ble_eq_true rfl) (Nat.le_of_ble_eq_true rfl) rfl (k_fi ?_) (fun _ _ _ _ _ _ _ hx => no_x hx)
      refine r_pop (pc := 195) dX11_deals_195 rfl ?_
      refine r_goto (pc := 196) 232 dX11_deals_196 rfl ?_
      refine r_iinc4 (pc := 232) (Nat.le_of_ble_eq_true rfl) dX11_deals_232 rfl ?_
      refine r_goto (pc := 235) 160 dX11_deals_235 rfl ?_
      refine ih (i + 1) _ (by omega) (by omega) (by omega) ?_ ?_ ?_ hB hQ
      · rw [us_n (by omega)]; exact e1
      · rw [us_n (by omega)]; exact e7
      · rw [us_n (by omega)]; omega
  refine r_iconst (pc := 157) dX11_deals_157 ?_
  refine r_istore4 (pc := 158) (Nat.le_of_ble_eq_true rfl) dX11_deals_158 rfl ?_
  exact l6' (4 * σ 0).toNat 0 (f_deal0 σ) (by omega) (by omega) (by omega) q1 (by omega) (by omega) hB hQ
end M19
