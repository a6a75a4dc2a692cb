/-! ===== the model: heard; filling a hand of an open game ===== -/
/-- n cards of the heap come to a hand of three kinds: the hand, the place, books -/
def f_fil1 (σ : Int → Int) : Nat → (Int → Int) × Int × Int → (Int → Int) × Int × Int
  | 0, x => x
  | k + 1, x =>
    if us x.1 (σ (8 + x.2.1)) (x.1 (σ (8 + x.2.1)) + 1) (σ (8 + x.2.1)) < 4 then f_fil1 σ k (us x.1 (σ (8 + x.2.1)) (x.1 (σ (8 + x.2.1)) + 1), x.2.1 + 1, x.2.2 + 0)
    else f_fil1 σ k (us (us x.1 (σ (8 + x.2.1)) (x.1 (σ (8 + x.2.1)) + 1)) (σ (8 + x.2.1)) 0, x.2.1 + 1, x.2.2 + 1)
theorem f_fil1_p {σ : Int → Int} : ∀ (k : Nat) (x : (Int → Int) × Int × Int), (f_fil1 σ k x).2.1 = x.2.1 + k ∧ x.2.2 ≤ (f_fil1 σ k x).2.2 ∧ (f_fil1 σ k x).2.2 ≤ x.2.2 + k := by
  intro k
  induction k with
  | zero => intro x; simp only [f_fil1]; omega
  | succ k ih =>
    intro x
    unfold f_fil1
    split
    · have := ih (us x.1 (σ (8 + x.2.1)) (x.1 (σ (8 + x.2.1)) + 1), x.2.1 + 1, x.2.2 + 0)
      dsimp only at this
      omega
    · have := ih (us (us x.1 (σ (8 + x.2.1)) (x.1 (σ (8 + x.2.1)) + 1)) (σ (8 + x.2.1)) 0, x.2.1 + 1, x.2.2 + 1)
      dsimp only at this
      omega
def f_fil (σ : Int → Int) : Nat → (Int → Int) × Int × Int → (Int → Int) × Int × Int
  | 0, x => x
  | k + 1, x => if x.1 0 + x.1 1 + x.1 2 = 0 ∧ x.2.1 < σ 7 ∧ 0 < σ 3 then f_fil σ k (f_fil1 σ (if σ 3 < σ 7 - x.2.1 then σ 3 else σ 7 - x.2.1).toNat x) else x
abbrev f3 (f : Int → Int) : Prop := ∀ k, 0 ≤ k → k < 3 → 0 ≤ f k ∧ f k ≤ 3
theorem f_fil1_3 {σ : Int → Int} : ∀ (k : Nat) (x : (Int → Int) × Int × Int), f3 x.1 → f3 (f_fil1 σ k x).1 := by
  intro k
  induction k with
  | zero => intro x h; exact h
  | succ k ih =>
    intro x h
    unfold f_fil1
    split
    · rename_i c
      refine ih _ fun j j0 j1 => ?_
      show 0 ≤ us x.1 (σ (8 + x.2.1)) (x.1 (σ (8 + x.2.1)) + 1) j ∧ us x.1 (σ (8 + x.2.1)) (x.1 (σ (8 + x.2.1)) + 1) j ≤ 3
      by_cases e : j = σ (8 + x.2.1)
      · subst e
        have := h _ j0 j1
        rw [us_s] at c ⊢
        omega
      · rw [us_n e]; exact h j j0 j1
    · refine ih _ fun j j0 j1 => ?_
      show 0 ≤ us (us x.1 (σ (8 + x.2.1)) (x.1 (σ (8 + x.2.1)) + 1)) (σ (8 + x.2.1)) 0 j ∧ us (us x.1 (σ (8 + x.2.1)) (x.1 (σ (8 + x.2.1)) + 1)) (σ (8 + x.2.1)) 0 j ≤ 3
      by_cases e : j = σ (8 + x.2.1)
      · rw [us_e e]; omega
      · rw [us_n e, us_n e]; exact h j j0 j1
section M26
variable {G : GE} {I J : HI} {P : HP} {T : HT} {z : Nat} {m d : Nat} {Q : QT} {σ f ω : Int → Int}
theorem M_heard (hs : shM G P T m) {i : Int} (hi : rg i) (hQ : Q (some (iv (if ω 54 ≠ 0 ∧ 0 ≤ i ∧ i ≤ 3 then I (m + 22) i else -1))) (ur I m (us ω 0 0)) J P T z) : MC G yX11_heard (ws_ yX11_heard cX11_heard 2 (some FieldType.int)) (d + 1) 0 0 [.ref m, iv i] (ur I m ω) J P T z Q nX := by
  have hb := hs.b
  refine MC.of (by decide) (Nat.le_of_ble_eq_true rfl) ?_
  show PW G mX11_heard (rmD (d + 1) 0 0) (MZ G Q nX 0 0) 0 0 (ur I m ω) J P T z 0 [some (.ref m), some (iv i)] []
  refine r_aload_n (pc := 0) dX11_heard_0 rfl rfl ?_
  refine r_iconst (pc := 1) dX11_heard_1 ?_
  refine r_puti (pc := 2) (c := 11) (k := 0) (kz := 0) hs.o cok_11 (Nat.le_of_ble_eq_true rfl) q1860 ⟨rfl, rfl⟩ (Or.inl rfl) rfl (by omega) rfl rfl (by omega) (fun _ _ _ => rfl) ⟨rfl, rfl⟩ dX11_heard_2 ?_
  try simp (disch := omega) only [ui_ur, ui_ur_n, ur_sv, ur_nv, ui_sv, ui_nv, ui_uis, us_s, us_n]
  refine r_aload_n (pc := 5) dX11_heard_5 rfl rfl ?_
  refine r_geti (pc := 6) (c := 11) (k := 54) (kz := 54) hs.o cok_11 (Nat.le_of_ble_eq_true rfl) q1914 ⟨rfl, rfl⟩ (Or.inl rfl) rfl (fun _ _ _ => rfl) dX11_heard_6 (fun hr6 => ?_)
  try simp (disch := omega) only [ui_ur, ui_ur_n, ur_sv, ur_nv, ui_sv, ui_nv, ui_uis, us_s, us_n] at hr6 ⊢
  refine r_if_eq (pc := 9) 30 dX11_heard_9 rfl (by omega) (fun h9 => ?_) (fun h9 => ?_)
  · rw [if_neg (by omega)] at hQ
    refine r_iconst (pc := 30) dX11_heard_30 ?_
    refine r_ireturn (pc := 31) rfl rfl dX11_heard_31 (Nat.le_of_ble_eq_true rfl) (Nat.le_of_ble_eq_true rfl) ?_
    exact hQ
  refine r_iload_n (pc := 12) dX11_heard_12 rfl rfl ?_
  refine r_iconst (pc := 13) dX11_heard_13 ?_
  refine r_iconst (pc := 14) dX11_heard_14 ?_
  refine r_callS3 (pc := 15) (M_isIn hi (by omega) (by omega) fe_i) im_X11_isIn q2095 dX11_heard_15 (Nat.le_of_ble_eq_true rfl) (Nat.le_of_ble_eq_true rfl) rfl (k_fi ?_) (fun _ _ _ _ _ _ _ hx => no_x hx)
  refine r_if_eq (pc := 18) 30 dX11_heard_18 rfl bz_g (fun h18 => ?_) (fun h18 => ?_)
  · rw [if_neg (fun q => bz_0.mp h18 q.2)] at hQ
    refine r_iconst (pc := 30) dX11_heard_30 ?_
    refine r_ireturn (pc := 31) rfl rfl dX11_heard_31 (Nat.le_of_ble_eq_true rfl) (Nat.le_of_ble_eq_true rfl) ?_
    exact hQ
  have g := bz_ne.mp h18
  rw [if_pos ⟨h9, g⟩] at hQ
  refine r_aload_n (pc := 21) dX11_heard_21 rfl rfl ?_
  refine r_getr (pc := 22) (c := 11) (k := 53) (kz := 53) hs.o cok_11 (Nat.le_of_ble_eq_true rfl) q1913 ⟨rfl, rfl⟩ (Or.inl rfl) rfl (fun _ _ _ => rfl) hs.p_heardAt dX11_heard_22 ?_
  refine r_iload_n (pc := 25) dX11_heard_25 rfl rfl ?_
  refine r_iald (pc := 26) hs.t_heardAt (by omega) (by omega) dX11_heard_26 (fun hr26 => ?_)
  try simp (disch := omega) only [ui_ur, ui_ur_n, ur_sv, ur_nv, ui_sv, ui_nv, ui_uis, us_s, us_n] at hr26 ⊢
  refine r_goto (pc := 27) 31 dX11_heard_27 rfl ?_
  refine r_ireturn (pc := 31) rfl rfl dX11_heard_31 (Nat.le_of_ble_eq_true rfl) (Nat.le_of_ble_eq_true rfl) ?_
  exact hQ
theorem M_filled (hs : shM G P T m) {r : Nat} (hT : T r = (1, 3)) (hrm : m < r ∧ r ≠ m + 2) (h7 : 0 ≤ σ 7 ∧ σ 7 ≤ 4) (h3 : 0 ≤ σ 3 ∧ σ 3 ≤ 9) (hh : ∀ i, 0 ≤ i → i < σ 7 → 0 ≤ σ (8 + i) ∧ σ (8 + i) < 3) (hf : f3 f) (hp : 0 ≤ ω 42 ∧ ω 42 ≤ σ 7)
    (hQ : ∀ x, x = f_fil σ 5 (f, ω 42, 0) → Q (some (iv x.2.2)) (ur (ur (ur I r x.1) m (us ω 42 x.2.1)) (m + 2) σ) J P T z) : MC G yX11_filled (ws_ yX11_filled cX11_filled 6 (some FieldType.int)) (d + 1) 0 0 [.ref m, .ref r] (ur (ur (ur I r f) m ω) (m + 2) σ) J P T z Q nX := by
  have hb := hs.b
  refine MC.of (by decide) (Nat.le_of_ble_eq_true rfl) ?_
  show PW G mX11_filled (rmD (d + 1) 0 0) (MZ G Q nX 0 0) 0 0 (ur (ur (ur I r f) m ω) (m + 2) σ) J P T z 0 [some (.ref m), some (.ref r), none, none, none, none] []
  have inner : ∀ (k : Nat) (many i : Int) (x : (Int → Int) × Int × Int) (l5 : Option Value), 0 ≤ i → i ≤ many → many ≤ 9 → many - i = k → f3 x.1 → 0 ≤ x.2.1 → x.2.1 + k ≤ σ 7 → 0 ≤ x.2.2 → x.2.2 ≤ x.2.1 → (∀ l4 l5 : Option Value, PW G mX11_filled (rmD (d + 1) 0 0) (MZ G Q nX 0 0) 0 0 (ur (ur (ur I r (f_fil1 σ k x).1) m (us ω 42 (f_fil1 σ k x).2.1)) (m + 2) σ) J P T z 2 [some (.ref m), some (.ref r), some (iv (f_fil1 σ k x).2.2), some (iv many), l4, l5] []) → PW G mX11_filled (rmD (d + 1) 0 0) (MZ G Q nX 0 0) 0 0 (ur (ur (ur I r x.1) m (us ω 42 x.2.1)) (m + 2) σ) J P T z 78 [some (.ref m), some (.ref r), some (iv x.2.2), some (iv many), some (iv i), l5] [] := by
    intro k
    induction k with
    | zero =>
      intro many i x l5 i0 i1 m9 ik hx p0 p1 n0 n1 kk
      refine r_iload (pc := 78) dX11_filled_78 rfl ?_
      refine r_iload_n (pc := 80) dX11_filled_80 rfl rfl ?_
      refine r_icmp_ge (pc := 81) 131 dX11_filled_81 rfl (by omega) (by omega) (fun h81 => ?_) (fun h81 => ?_)
      · refine r_goto (pc := 131) 2 dX11_filled_131 rfl ?_
        exact kk _ _
      omega
    | succ k ih =>
      intro many i x l5 i0 i1 m9 ik hx p0 p1 n0 n1 kk
      have hc := hh x.2.1 p0 (by omega)
      have hxc := hx _ hc.1 hc.2
      unfold f_fil1 at kk
      generalize hcd : σ (8 + x.2.1) = c at *
      refine r_iload (pc := 78) dX11_filled_78 rfl ?_
      refine r_iload_n (pc := 80) dX11_filled_80 rfl rfl ?_
      refine r_icmp_ge (pc := 81) 131 dX11_filled_81 rfl (by omega) (by omega) (fun h81 => ?_) (fun h81 => ?_)
      · omega
      refine r_aload_n (pc := 84) dX11_filled_84 rfl rfl ?_
      refine r_getr (pc := 85) (c := 11) (k := 6) (kz := 6) hs.o cok_11 (Nat.le_of_ble_eq_true rfl) q1866 ⟨rfl, rfl⟩ (Or.inl rfl) rfl (fun _ _ _ => rfl) hs.p_s dX11_filled_85 ?_
      refine r_bipush (pc := 88) dX11_filled_88 (by decide +kernel) ?_
      refine r_aload_n (pc := 90) dX11_filled_90 rfl rfl ?_
      refine r_geti (pc := 91) (c := 11) (k := 42) (kz := 42) hs.o cok_11 (Nat.le_of_ble_eq_true rfl) q1902 ⟨rfl, rfl⟩ (Or.inl rfl) rfl (fun _ _ _ => rfl) dX11_filled_91 (fun hr91 => ?_)
      try simp (disch := omega) only [ui_ur, ui_ur_n, ur_sv, ur_nv, ui_sv, ui_nv, ui_uis, us_s, us_n] at hr91 ⊢
      refine r_iadd (pc := 94) dX11_filled_94 ?_
      refine r_iald (pc := 95) hs.t_s (by omega) (by omega) dX11_filled_95 (fun hr95 => ?_)
      try simp (disch := omega) only [ui_ur, ui_ur_n, ur_sv, ur_nv, ui_sv, ui_nv, ui_uis, us_s, us_n] at hr95 ⊢
      rw [hcd]
      refine r_istore5 (pc := 96) (Nat.le_of_ble_eq_true rfl) dX11_filled_96 rfl ?_
      refine r_aload_n (pc := 98) dX11_filled_98 rfl rfl ?_
      refine r_dup (pc := 99) dX11_filled_99 rfl ?_
      refine r_geti (pc := 100) (c := 11) (k := 42) (kz := 42) hs.o cok_11 (Nat.le_of_ble_eq_true rfl) q1902 ⟨rfl, rfl⟩ (Or.inl rfl) rfl (fun _ _ _ => rfl) dX11_filled_100 (fun hr100 => ?_)
      try simp (disch := omega) only [ui_ur, ui_ur_n, ur_sv, ur_nv, ui_sv, ui_nv, ui_uis, us_s, us_n] at hr100 ⊢
      refine r_iconst (pc := 103) dX11_filled_103 ?_
      refine r_iadd (pc := 104) dX11_filled_104 ?_
      refine r_puti (pc := 105) (c := 11) (k := 42) (kz := 42) hs.o cok_11 (Nat.le_of_ble_eq_true rfl) q1902 ⟨rfl, rfl⟩ (Or.inl rfl) rfl (by omega) rfl rfl (by omega) (fun _ _ _ => rfl) ⟨rfl, rfl⟩ dX11_filled_105 ?_
      try simp (disch := omega) only [ui_ur, ui_ur_n, ur_sv, ur_nv, ui_sv, ui_nv, ui_uis, us_s, us_n]
      refine r_aload_n (pc := 108) dX11_filled_108 rfl rfl ?_
      refine r_iload (pc := 109) dX11_filled_109 rfl ?_
      refine r_dup2 (pc := 111) dX11_filled_111 rfl rfl ?_
      refine r_iald (pc := 112) hT (by omega) (by omega) dX11_filled_112 (fun hr112 => ?_)
      try simp (disch := omega) only [ui_ur, ui_ur_n, ur_sv, ur_nv, ui_sv, ui_nv, ui_uis, us_s, us_n] at hr112 ⊢
      refine r_iconst (pc := 113) dX11_filled_113 ?_
      refine r_iadd (pc := 114) dX11_filled_114 ?_
      refine r_iast (pc := 115) hT (by omega) (by omega) (by omega) (by omega) dX11_filled_115 ?_
      try simp (disch := omega) only [ui_ur, ui_ur_n, ur_sv, ur_nv, ui_sv, ui_nv, ui_uis, us_s, us_n]
      rw [us_us]
      refine r_iload_n (pc := 116) dX11_filled_116 rfl rfl ?_
      refine r_aload_n (pc := 117) dX11_filled_117 rfl rfl ?_
      refine r_iload (pc := 118) dX11_filled_118 rfl ?_
      by_cases h4 : us x.1 c (x.1 c + 1) c < 4
      · rw [if_pos h4] at kk
        refine r_callS2 (pc := 120) (M_laid hT (by omega) hc (by rw [if_pos (by simp (disch := omega) only [ur_nv, ur_sv]; exact h4)]; exact fe_i)) im_X11_laid q2323 dX11_filled_120 (Nat.le_of_ble_eq_true rfl) (Nat.le_of_ble_eq_true rfl) rfl (k_fi ?_) (fun _ _ _ _ _ _ _ hx => no_x hx)
        refine r_iadd (pc := 123) dX11_filled_123 ?_
        refine r_istore_n2 (pc := 124) (Nat.le_of_ble_eq_true rfl) dX11_filled_124 rfl ?_
        refine r_iinc4 (pc := 125) (Nat.le_of_ble_eq_true rfl) dX11_filled_125 rfl ?_
        refine r_goto (pc := 128) 78 dX11_filled_128 rfl ?_
        refine ih many (i + 1) (us x.1 c (x.1 c + 1), x.2.1 + 1, x.2.2 + 0) _ (by omega) (by omega) m9 (by omega) ?_ (by show 0 ≤ x.2.1 + 1; omega) (by show x.2.1 + 1 + k ≤ σ 7; omega) (by show 0 ≤ x.2.2 + 0; omega) (by show x.2.2 + 0 ≤ x.2.1 + 1; omega) kk
        intro j j0 j1
        show 0 ≤ us x.1 c (x.1 c + 1) j ∧ us x.1 c (x.1 c + 1) j ≤ 3
        by_cases e : j = c
        · subst e; rw [us_s] at h4 ⊢; omega
        · rw [us_n e]; exact hx j j0 j1
      · rw [if_neg h4] at kk
        refine r_callS2 (pc := 120) (M_laid hT (by omega) hc (by rw [if_neg (by simp (disch := omega) only [ur_nv, ur_sv]; exact h4)]; exact fe_i)) im_X11_laid q2323 dX11_filled_120 (Nat.le_of_ble_eq_true rfl) (Nat.le_of_ble_eq_true rfl) rfl (k_fi ?_) (fun _ _ _ _ _ _ _ hx => no_x hx)
        try simp (disch := omega) only [ui_ur, ui_ur_n, ur_sv, ur_nv, ui_sv, ui_nv, ui_uis, us_s, us_n]
        refine r_iadd (pc := 123) dX11_filled_123 ?_
        refine r_istore_n2 (pc := 124) (Nat.le_of_ble_eq_true rfl) dX11_filled_124 rfl ?_
        refine r_iinc4 (pc := 125) (Nat.le_of_ble_eq_true rfl) dX11_filled_125 rfl ?_
        refine r_goto (pc := 128) 78 dX11_filled_128 rfl ?_
        refine ih many (i + 1) (us (us x.1 c (x.1 c + 1)) c 0, x.2.1 + 1, x.2.2 + 1) _ (by omega) (by omega) m9 (by omega) ?_ (by show 0 ≤ x.2.1 + 1; omega) (by show x.2.1 + 1 + k ≤ σ 7; omega) (by show 0 ≤ x.2.2 + 1; omega) (by show x.2.2 + 1 ≤ x.2.1 + 1; omega) kk
        intro j j0 j1
        show 0 ≤ us (us x.1 c (x.1 c + 1)) c 0 j ∧ us (us x.1 c (x.1 c + 1)) c 0 j ≤ 3
        by_cases e : j = c
        · rw [us_e e]; omega
        · rw [us_n e, us_n e]; exact hx j j0 j1
  have outer : ∀ (k : Nat) (x : (Int → Int) × Int × Int) (l3 l4 l5 : Option Value), f3 x.1 → 0 ≤ x.2.1 → x.2.1 ≤ σ 7 → 0 ≤ x.2.2 → x.2.2 ≤ x.2.1 → σ 7 - x.2.1 < k → (∀ y, y = f_fil σ k x → Q (some (iv y.2.2)) (ur (ur (ur I r y.1) m (us ω 42 y.2.1)) (m + 2) σ) J P T z) → PW G mX11_filled (rmD (d + 1) 0 0) (MZ G Q nX 0 0) 0 0 (ur (ur (ur I r x.1) m (us ω 42 x.2.1)) (m + 2) σ) J P T z 2 [some (.ref m), some (.ref r), some (iv x.2.2), l3, l4, l5] [] := by
    intro k
    induction k with
    | zero => intro x l3 l4 l5 hx p0 p1 n0 n1 pk; omega
    | succ k ih =>
      intro x l3 l4 l5 hx p0 p1 n0 n1 pk hQ
      have hQ := hQ _ rfl
      unfold f_fil at hQ
      have x0 := hx 0 (by omega) (by omega)
      have x1 := hx 1 (by omega) (by omega)
      have x2 := hx 2 (by omega) (by omega)
      have out : ¬ (x.1 0 + x.1 1 + x.1 2 = 0 ∧ x.2.1 < σ 7 ∧ 0 < σ 3) → PW G mX11_filled (rmD (d + 1) 0 0) (MZ G Q nX 0 0) 0 0 (ur (ur (ur I r x.1) m (us ω 42 x.2.1)) (m + 2) σ) J P T z 134 [some (.ref m), some (.ref r), some (iv x.2.2), l3, l4, l5] [] := by
        intro hc
        rw [if_neg hc] at hQ
        refine r_iload_n (pc := 134) dX11_filled_134 rfl rfl ?_
        refine r_ireturn (pc := 135) rfl rfl dX11_filled_135 (Nat.le_of_ble_eq_true rfl) (Nat.le_of_ble_eq_true rfl) ?_
        exact hQ
      refine r_aload_n (pc := 2) dX11_filled_2 rfl rfl ?_
      refine r_callS1 (pc := 3) (M_sumOf hT fe_i) im_X11_sumOf q2330 dX11_filled_3 (Nat.le_of_ble_eq_true rfl) (Nat.le_of_ble_eq_true rfl) rfl (k_fi ?_) (fun _ _ _ _ _ _ _ hx => no_x hx)
      try simp (disch := omega) only [ui_ur, ui_ur_n, ur_sv, ur_nv, ui_sv, ui_nv, ui_uis, us_s, us_n]
      refine r_if_ne (pc := 6) 134 dX11_filled_6 rfl (by omega) (fun h6 => ?_) (fun h6 => ?_)
      · exact out (by omega)
      refine r_aload_n (pc := 9) dX11_filled_9 rfl rfl ?_
      refine r_geti (pc := 10) (c := 11) (k := 42) (kz := 42) hs.o cok_11 (Nat.le_of_ble_eq_true rfl) q1902 ⟨rfl, rfl⟩ (Or.inl rfl) rfl (fun _ _ _ => rfl) dX11_filled_10 (fun hr10 => ?_)
      try simp (disch := omega) only [ui_ur, ui_ur_n, ur_sv, ur_nv, ui_sv, ui_nv, ui_uis, us_s, us_n] at hr10 ⊢
      refine r_aload_n (pc := 13) dX11_filled_13 rfl rfl ?_
      refine r_getr (pc := 14) (c := 11) (k := 6) (kz := 6) hs.o cok_11 (Nat.le_of_ble_eq_true rfl) q1866 ⟨rfl, rfl⟩ (Or.inl rfl) rfl (fun _ _ _ => rfl) hs.p_s dX11_filled_14 ?_
      refine r_bipush (pc := 17) dX11_filled_17 (by decide +kernel) ?_
      refine r_iald (pc := 19) hs.t_s (by omega) (by omega) dX11_filled_19 (fun hr19 => ?_)
      try simp (disch := omega) only [ui_ur, ui_ur_n, ur_sv, ur_nv, ui_sv, ui_nv, ui_uis, us_s, us_n] at hr19 ⊢
      refine r_icmp_ge (pc := 20) 134 dX11_filled_20 rfl (by omega) (by omega) (fun h20 => ?_) (fun h20 => ?_)
      · exact out (by omega)
      refine r_aload_n (pc := 23) dX11_filled_23 rfl rfl ?_
      refine r_getr (pc := 24) (c := 11) (k := 6) (kz := 6) hs.o cok_11 (Nat.le_of_ble_eq_true rfl) q1866 ⟨rfl, rfl⟩ (Or.inl rfl) rfl (fun _ _ _ => rfl) hs.p_s dX11_filled_24 ?_
      refine r_iconst (pc := 27) dX11_filled_27 ?_
      refine r_iald (pc := 28) hs.t_s (by omega) (by omega) dX11_filled_28 (fun hr28 => ?_)
      try simp (disch := omega) only [ui_ur, ui_ur_n, ur_sv, ur_nv, ui_sv, ui_nv, ui_uis, us_s, us_n] at hr28 ⊢
      refine r_if_le (pc := 29) 134 dX11_filled_29 rfl (by omega) (fun h29 => ?_) (fun h29 => ?_)
      · exact out (by omega)
      rw [if_pos ⟨h6, h20, h29⟩] at hQ
      have put : ∀ many : Int, many = (if σ 3 < σ 7 - x.2.1 then σ 3 else σ 7 - x.2.1) → 1 ≤ many → many ≤ σ 7 - x.2.1 → PW G mX11_filled (rmD (d + 1) 0 0) (MZ G Q nX 0 0) 0 0 (ur (ur (ur I r x.1) m (us ω 42 x.2.1)) (m + 2) σ) J P T z 74 [some (.ref m), some (.ref r), some (iv x.2.2), l3, l4, l5] [iv many] := by
        intro many em m1 m2
        rw [← em] at hQ
        refine r_istore_n3 (pc := 74) (Nat.le_of_ble_eq_true rfl) dX11_filled_74 rfl ?_
        refine r_iconst (pc := 75) dX11_filled_75 ?_
        refine r_istore4 (pc := 76) (Nat.le_of_ble_eq_true rfl) dX11_filled_76 rfl ?_
        have pp := f_fil1_p (σ := σ) many.toNat x
        have p3 := f_fil1_3 (σ := σ) many.toNat x hx
        refine inner many.toNat many 0 x l5 (by omega) (by omega) (by omega) (by omega) hx p0 (by omega) n0 n1 fun l4 l5 => ?_
        exact ih (f_fil1 σ many.toNat x) _ l4 l5 p3 (by omega) (by omega) (by omega) (by omega) (by omega) (fun y hy => by subst hy; exact hQ)
      refine r_aload_n (pc := 32) dX11_filled_32 rfl rfl ?_
      refine r_getr (pc := 33) (c := 11) (k := 6) (kz := 6) hs.o cok_11 (Nat.le_of_ble_eq_true rfl) q1866 ⟨rfl, rfl⟩ (Or.inl rfl) rfl (fun _ _ _ => rfl) hs.p_s dX11_filled_33 ?_
      refine r_iconst (pc := 36) dX11_filled_36 ?_
      refine r_iald (pc := 37) hs.t_s (by omega) (by omega) dX11_filled_37 (fun hr37 => ?_)
      try simp (disch := omega) only [ui_ur, ui_ur_n, ur_sv, ur_nv, ui_sv, ui_nv, ui_uis, us_s, us_n] at hr37 ⊢
      refine r_aload_n (pc := 38) dX11_filled_38 rfl rfl ?_
      refine r_getr (pc := 39) (c := 11) (k := 6) (kz := 6) hs.o cok_11 (Nat.le_of_ble_eq_true rfl) q1866 ⟨rfl, rfl⟩ (Or.inl rfl) rfl (fun _ _ _ => rfl) hs.p_s dX11_filled_39 ?_
      refine r_bipush (pc := 42) dX11_filled_42 (by decide +kernel) ?_
      refine r_iald (pc := 44) hs.t_s (by omega) (by omega) dX11_filled_44 (fun hr44 => ?_)
      try simp (disch := omega) only [ui_ur, ui_ur_n, ur_sv, ur_nv, ui_sv, ui_nv, ui_uis, us_s, us_n] at hr44 ⊢
      refine r_aload_n (pc := 45) dX11_filled_45 rfl rfl ?_
      refine r_geti (pc := 46) (c := 11) (k := 42) (kz := 42) hs.o cok_11 (Nat.le_of_ble_eq_true rfl) q1902 ⟨rfl, rfl⟩ (Or.inl rfl) rfl (fun _ _ _ => rfl) dX11_filled_46 (fun hr46 => ?_)
      try simp (disch := omega) only [ui_ur, ui_ur_n, ur_sv, ur_nv, ui_sv, ui_nv, ui_uis, us_s, us_n] at hr46 ⊢
      refine r_isub (pc := 49) dX11_filled_49 ?_
      refine r_icmp_ge (pc := 50) 62 dX11_filled_50 rfl (by omega) (by omega) (fun h50 => ?_) (fun h50 => ?_)
      · refine r_aload_n (pc := 62) dX11_filled_62 rfl rfl ?_
        refine r_getr (pc := 63) (c := 11) (k := 6) (kz := 6) hs.o cok_11 (Nat.le_of_ble_eq_true rfl) q1866 ⟨rfl, rfl⟩ (Or.inl rfl) rfl (fun _ _ _ => rfl) hs.p_s dX11_filled_63 ?_
        refine r_bipush (pc := 66) dX11_filled_66 (by decide +kernel) ?_
        refine r_iald (pc := 68) hs.t_s (by omega) (by omega) dX11_filled_68 (fun hr68 => ?_)
        try simp (disch := omega) only [ui_ur, ui_ur_n, ur_sv, ur_nv, ui_sv, ui_nv, ui_uis, us_s, us_n] at hr68 ⊢
        refine r_aload_n (pc := 69) dX11_filled_69 rfl rfl ?_
        refine r_geti (pc := 70) (c := 11) (k := 42) (kz := 42) hs.o cok_11 (Nat.le_of_ble_eq_true rfl) q1902 ⟨rfl, rfl⟩ (Or.inl rfl) rfl (fun _ _ _ => rfl) dX11_filled_70 (fun hr70 => ?_)
        try simp (disch := omega) only [ui_ur, ui_ur_n, ur_sv, ur_nv, ui_sv, ui_nv, ui_uis, us_s, us_n] at hr70 ⊢
        refine r_isub (pc := 73) dX11_filled_73 ?_
        exact put _ (if_neg (by omega)).symm (by omega) (by omega)
      refine r_aload_n (pc := 53) dX11_filled_53 rfl rfl ?_
      refine r_getr (pc := 54) (c := 11) (k := 6) (kz := 6) hs.o cok_11 (Nat.le_of_ble_eq_true rfl) q1866 ⟨rfl, rfl⟩ (Or.inl rfl) rfl (fun _ _ _ => rfl) hs.p_s dX11_filled_54 ?_
      refine r_iconst (pc := 57) dX11_filled_57 ?_
      refine r_iald (pc := 58) hs.t_s (by omega) (by omega) dX11_filled_58 (fun hr58 => ?_)
      try simp (disch := omega) only [ui_ur, ui_ur_n, ur_sv, ur_nv, ui_sv, ui_nv, ui_uis, us_s, us_n] at hr58 ⊢
      refine r_goto (pc := 59) 74 dX11_filled_59 rfl ?_
      exact put _ (if_pos h50).symm (by omega) (by omega)
  refine r_iconst (pc := 0) dX11_filled_0 ?_
  refine r_istore_n2 (pc := 1) (Nat.le_of_ble_eq_true rfl) dX11_filled_1 rfl ?_
  have st := outer 5 (f, ω 42, 0) none none none hf hp.1 hp.2 (by show (0 : Int) ≤ 0; omega) (by show (0 : Int) ≤ ω 42; omega) (by show σ 7 - ω 42 < ((5 : Nat) : Int); omega) hQ
  simp only at st
  rw [us_id (f := ω) (j := 42) (v := ω 42) rfl] at st
  exact st
end M26
