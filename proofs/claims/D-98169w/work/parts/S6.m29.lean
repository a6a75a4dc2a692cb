/-! ===== the model: an evening ===== -/
section M29p
variable {I J : HI} {m : Nat} {ω σ a u b h rd τ ρ : Int → Int} {s : TS} {e : EV}
/-- the model's heap while an evening is lived -/
abbrev eH (I : HI) (m : Nat) (ω σ a u b h rd : Int → Int) : HI := ur (ur (ur (ur (ur (ur (ur I (m + 22) h) (m + 4) rd) (m + 8) u) (m + 9) b) (m + 7) a) m ω) (m + 2) σ
theorem eH_in : hI (ur (ur I (m + 2) σ) (m + 4) rd) m s = eH (ur I (m + 3) s.2.2.1) m s.1 σ (I (m + 7)) (I (m + 8)) (I (m + 9)) (I (m + 22)) rd := by
  funext c
  by_cases h2 : c = m + 2
  · subst h2; funext i; simp [ur]
  by_cases h0 : c = m
  · subst h0; funext i; simp [ur]
  by_cases h3 : c = m + 3
  · subst h3; funext i; simp [ur]
  by_cases h4 : c = m + 4
  · subst h4; funext i; simp [ur]
  by_cases h7 : c = m + 7
  · subst h7; funext i; simp [ur]
  by_cases h8 : c = m + 8
  · subst h8; funext i; simp [ur]
  by_cases h9 : c = m + 9
  · subst h9; funext i; simp [ur]
  by_cases h22 : c = m + 22
  · subst h22; funext i; simp [ur]
  funext i
  simp [ur, h0, h2, h3, h4, h7, h8, h9, h22]
theorem eH9 : eH I m ω σ a u b h rd = ur (ur (ur (ur (ur (ur (ur I (m + 22) h) (m + 4) rd) (m + 8) u) (m + 7) a) m ω) (m + 9) b) (m + 2) σ := by
  show ur (ur (ur (ur _ (m + 9) b) (m + 7) a) m ω) (m + 2) σ = _
  rw [ur_comm (a := m + 9) (b := m + 7) (by omega), ur_comm (a := m + 9) (b := m) (by omega)]
theorem eH8 : eH I m ω σ a u b h rd = ur (ur (ur (ur (ur (ur (ur I (m + 22) h) (m + 4) rd) (m + 9) b) (m + 7) a) m ω) (m + 8) u) (m + 2) σ := by
  show ur (ur (ur (ur (ur _ (m + 8) u) (m + 9) b) (m + 7) a) m ω) (m + 2) σ = _
  rw [ur_comm (a := m + 8) (b := m + 9) (by omega), ur_comm (a := m + 8) (b := m + 7) (by omega), ur_comm (a := m + 8) (b := m) (by omega)]
theorem eH9u : ur (ur (ur (ur (ur (ur (ur I (m + 22) h) (m + 4) rd) (m + 8) u) (m + 9) b) (m + 7) a) m ω) (m + 2) σ = ur (ur (ur (ur (ur (ur (ur I (m + 22) h) (m + 4) rd) (m + 8) u) (m + 7) a) m ω) (m + 9) b) (m + 2) σ := eH9
theorem eH8u : ur (ur (ur (ur (ur (ur (ur I (m + 22) h) (m + 4) rd) (m + 8) u) (m + 9) b) (m + 7) a) m ω) (m + 2) σ = ur (ur (ur (ur (ur (ur (ur I (m + 22) h) (m + 4) rd) (m + 9) b) (m + 7) a) m ω) (m + 8) u) (m + 2) σ := eH8
theorem eH8w {j v : Int} : ur (ur (ui (ur (ur (ur (ur (ur I (m + 22) h) (m + 4) rd) (m + 9) b) (m + 7) a) m ω) m j v) (m + 8) u) (m + 2) σ = eH I m (us ω j v) σ a u b h rd := by
  rw [ui_ur, ← eH8]
/-- what is told of an asking, as a row -/
theorem tA_row {x y k g c l lie sure : Int} : tA (ur (ur (ur (ur (ur (ur I (m + 22) h) (m + 4) rd) (m + 8) u) (m + 9) b) (m + 7) a) m ω) m x y k g c l lie sure = ur (ur (ur (ur (ur (ur I (m + 22) h) (m + 4) rd) (m + 8) u) (m + 9) b) (m + 7) (told (f_tell x y k g c l lie sure) a)) m (us ω 24 1) := by
  unfold tA
  rw [ui_ur]
  generalize ur (ur (ur (ur I (m + 22) h) (m + 4) rd) (m + 8) u) (m + 9) b = X
  rw [ui_ur_n (by omega), ui_ur_n (by omega), ui_ur_n (by omega), ui_ur_n (by omega), ui_ur_n (by omega), ui_ur_n (by omega), ui_ur_n (by omega), ui_ur_n (by omega)]
  rw [ui_ur, ui_ur, ui_ur, ui_ur, ui_ur, ui_ur, ui_ur, ui_ur]
  congr 2
  funext j
  unfold told
  by_cases q : 0 ≤ j ∧ j < 8
  · rw [if_pos q]; exact (tell_0 q.1 q.2).symm
  · rw [if_neg q, us_n (by omega), us_n (by omega), us_n (by omega), us_n (by omega), us_n (by omega), us_n (by omega), us_n (by omega), us_n (by omega)]
theorem told_told {μ ν : Int → Int} : told μ (told ν a) = told μ a := by
  funext j
  unfold told
  split <;> rfl
/-- an evening's start -/
def g_e0 (s : TS) : TS := (us (us (us (us (us (us (us s.1 0 0) 3 (s.1 2)) 2 0) 4 0) 5 500) 15 0) 52 0, s.2)
/-- what is heard so far -/
def hh (f : Int → Int) (e : EV) : Int → Int := us (us (cl f 4) 0 e.2.2.2.1) 1 e.2.2.1
theorem hrd_hh {f : Int → Int} : us (us (hh f e) 2 (f_allBooks e.1)) 3 (e.1 4) = hrd e f := by
  funext j
  unfold hrd hh
  by_cases q : 0 ≤ j ∧ j < 4
  · rcases (show j = 0 ∨ j = 1 ∨ j = 2 ∨ j = 3 by omega) with rfl | rfl | rfl | rfl <;> simp [us]
  · simp only [us]
    rw [if_neg (by omega), if_neg (by omega), if_neg (by omega), if_neg (by omega), if_neg (by omega), if_neg (by omega), if_neg (by omega), if_neg (by omega)]
    unfold cl
    rw [if_neg (by omega)]
theorem hh_0 {f : Int → Int} {σ μ : Int → Int} {w : Int} : hh f (σ, μ, 0, 0, w) = cl f 4 := by
  unfold hh
  rw [us_id (j := 0) (f := cl f 4) (by unfold cl; rw [if_pos (by omega)]), us_id (by unfold cl; rw [if_pos (by omega)])]
theorem hh_1 {f : Int → Int} {w : Int} {e' : EV} (h0 : e'.2.2.2.1 = w) (h1 : e'.2.2.1 = e.2.2.1) : us (hh f e) 0 w = hh f e' := by
  unfold hh
  rw [us_comm (by omega), us_us, h0, h1]
theorem hh_2 {f : Int → Int} {w : Int} {e' : EV} (h0 : e'.2.2.2.1 = e.2.2.2.1) (h1 : e'.2.2.1 = w) : us (hh f e) 1 w = hh f e' := by
  unfold hh
  rw [us_us, h0, h1]
/-- places that a reading leaves -/
theorem e_tab_f {j : Int} (hj : j = 2 ∨ (19 ≤ j ∧ j ≠ 52)) : ∀ (n : Nat) {s : TS} {rd : Int → Int}, (e_tab τ ρ σ n s rd).2.1.1 j = s.1 j := by
  have nx : ∀ s : TS, (g_nx τ s).1 j = s.1 j := fun s => t_next_f (by omega)
  have bd : ∀ (k : Int) (s : TS), (g_bad k s).1 j = s.1 j := fun k s => by show us (us s.1 15 k) 16 (s.1 12) j = _; rw [us_n (by omega), us_n (by omega)]
  have tk : ∀ (lo hi : Int) (s : TS), (g_takes τ lo hi s).2.1 j = s.1 j := fun lo hi s => by
    unfold g_takes
    split
    · exact bd _ _
    · split
      · exact bd _ _
      · dsimp only
        rw [nx]
        exact us_n (by omega)
  have l1 : ∀ (to a : Int) (s : TS) (rd : Int → Int), (e_1 τ ρ σ to a s rd).2.1.1 j = s.1 j := fun to a s rd => by
    unfold e_1 e_2 e_3 e_tail
    dsimp only
    split
    · exact bd _ _
    · split
      · rw [bd, nx]
      · split
        · rw [bd, nx]
        · split
          · rw [tk, nx, nx]
          · split
            · rw [nx, tk, nx, nx]
            · split
              · rw [bd, tk, nx, nx]
              · split
                · rw [tk, nx, tk, nx, nx]
                · dsimp only; rw [tk, nx, tk, nx, nx]
  have ln : ∀ (s : TS) (rd : Int → Int), (e_line τ ρ σ s rd).2.1.1 j = s.1 j := fun s rd => by
    unfold e_line
    split
    · exact bd _ _
    · split
      · exact bd _ _
      · split
        · exact bd _ _
        · rw [l1, nx]
  intro n
  induction n with
  | zero => intro s rd; rfl
  | succ n ih =>
    intro s rd
    unfold e_tab
    split
    · rfl
    · split
      · exact ln _ _
      · split
        · dsimp only; rw [bd, ln]
        · rw [ih]
          show us (g_nx τ (e_line τ ρ σ s rd).2.1).1 52 ((g_nx τ (e_line τ ρ σ s rd).2.1).1 52 + 1) j = _
          rw [us_n (by omega), nx, ln]
theorem e_tab_nm : ∀ (n : Nat) {s : TS} {rd : Int → Int}, (e_tab τ ρ σ n s rd).2.1.2.2 = s.2.2 := by
  have tk : ∀ (lo hi : Int) (s : TS), (g_takes τ lo hi s).2.2.2 = s.2.2 := fun lo hi s => by
    unfold g_takes
    split
    · rfl
    · split <;> rfl
  have l1 : ∀ (to a : Int) (s : TS) (rd : Int → Int), (e_1 τ ρ σ to a s rd).2.1.2.2 = s.2.2 := fun to a s rd => by
    unfold e_1 e_2 e_3 e_tail
    dsimp only
    split
    · rfl
    · split
      · rfl
      · split
        · rfl
        · split
          · rw [tk]; rfl
          · split
            · show (g_takes τ 0 (σ 0 - 1) _).2.2.2 = _; rw [tk]; rfl
            · split
              · show (g_takes τ 0 (σ 0 - 1) _).2.2.2 = _; rw [tk]; rfl
              · split
                · show (g_takes τ 1 4 (g_nx τ (g_takes τ 0 (σ 0 - 1) _).2)).2.2.2 = _; rw [tk]; show (g_takes τ 0 (σ 0 - 1) _).2.2.2 = _; rw [tk]; rfl
                · show (g_takes τ 1 4 (g_nx τ (g_takes τ 0 (σ 0 - 1) _).2)).2.2.2 = _; rw [tk]; show (g_takes τ 0 (σ 0 - 1) _).2.2.2 = _; rw [tk]; rfl
  have ln : ∀ (s : TS) (rd : Int → Int), (e_line τ ρ σ s rd).2.1.2.2 = s.2.2 := fun s rd => by
    unfold e_line
    split
    · rfl
    · split
      · rfl
      · split
        · rfl
        · rw [l1]; rfl
  intro n
  induction n with
  | zero => intro s rd; rfl
  | succ n ih =>
    intro s rd
    unfold e_tab
    split
    · rfl
    · split
      · exact ln _ _
      · split
        · exact ln _ _
        · rw [ih]; exact ln _ _
end M29p
section M29
variable {G : GE} {I J : HI} {P : HP} {T : HT} {z : Nat} {m d : Nat} {Q : QT} {σ τ ρ rd μ : Int → Int} {s : TS}
set_option maxHeartbeats 4000000 in
theorem M_evening (hs : shM G P T m) (hτ : I (m + 1) = τ) (hρ : J (m + 6) = ρ) (h2 : 0 ≤ s.1 2 ∧ s.1 2 ≤ 940) (hN : 0 ≤ s.1 27 ∧ s.1 27 ≤ 8) (hw : WF σ) {lv : Int} (hlv : rg lv)
    (hbad : ¬ (0 ≤ lv ∧ lv ≤ 1) → Q (some (iv (-1000))) (hI (ur (ur I (m + 2) σ) (m + 4) rd) m (g_w 0 0 s)) (hJ J m s) P T z)
    (hQ0 : 0 ≤ lv ∧ lv ≤ 1 → ∀ R, R = e_tab τ ρ σ 31 (g_nx τ (g_e0 s)) rd → R.1 = 0 → Q (some (iv (-2 - R.2.1.1 16))) (hI (ur (ur I (m + 2) σ) (m + 4) R.2.2) m R.2.1) (hJ J m R.2.1) P T z)
    (hQ1 : 0 ≤ lv ∧ lv ≤ 1 → ∀ R, R = e_tab τ ρ σ 31 (g_nx τ (g_e0 s)) rd → R.1 = 1 → ∀ (n : Nat) (e : EV), R.2.1.1 52 = n → n ≤ 30 → e = evs R.2.2 n (σ, μ, 0, 0, -1) → EvI R.2.2 σ n e → ∀ I',
      I' = eH (ur I (m + 3) s.2.2.1) m (us (if lv = 1 ∧ 0 < e.2.2.1 then us (us R.2.1.1 27 (kn (s.1 27) + 1)) 24 1 else R.2.1.1) 54 1) (if lv = 1 then e.1 else br e.1 (kr (I (m + 9)) 0 σ 580) 0 580) (if lv = 1 ∧ 0 < e.2.2.1 then told e.2.1 (I (m + 7)) else I (m + 7)) (if lv = 1 ∧ 0 < e.2.2.1 then ku (I (m + 8)) (s.1 27) σ else I (m + 8)) (kr (I (m + 9)) 0 σ 580) (hrd e (I (m + 22))) R.2.2 → Q (some (iv e.2.2.2.2)) I' (hJ J m R.2.1) P T z) : MC G yX11_evening (ws_ yX11_evening cX11_evening 6 (some FieldType.int)) (d + 6) 0 0 [.ref m, iv lv] (hI (ur (ur I (m + 2) σ) (m + 4) rd) m s) (hJ J m s) P T z Q nX := by
  have hb := hs.b
  have ht := hw.cv.ta
  refine MC.of (by decide) (Nat.le_of_ble_eq_true rfl) ?_
  show PW G mX11_evening (rmD (d + 6) 0 0) (MZ G Q nX 0 0) 0 0 (hI (ur (ur I (m + 2) σ) (m + 4) rd) m s) (hJ J m s) P T z 0 [some (.ref m), some (iv lv), none, none, none, none] []
  have hτ2 : ∀ rd : Int → Int, (ur (ur I (m + 2) σ) (m + 4) rd) (m + 1) = τ := fun rd => by rw [ur_n (by omega), ur_n (by omega)]; exact hτ
  refine r_aload_n (pc := 0) dX11_evening_0 rfl rfl ?_
  refine r_iconst (pc := 1) dX11_evening_1 ?_
  refine r_puti (pc := 2) (c := 11) (k := 0) (kz := 0) hs.o cok_11 (Nat.le_of_ble_eq_true rfl) q1860 ⟨rfl, rfl⟩ (Or.inl rfl) rfl (by omega) rfl rfl (by omega) (fun _ _ _ => rfl) ⟨rfl, rfl⟩ dX11_evening_2 ?_
  try simp (disch := omega) only [ui_ur, ui_ur_n, ur_sv, ur_nv, ui_sv, ui_nv, ui_uis, us_s, us_n]
  refine r_iload_n (pc := 5) dX11_evening_5 rfl rfl ?_
  refine r_iconst (pc := 6) dX11_evening_6 ?_
  refine r_iconst (pc := 7) dX11_evening_7 ?_
  refine r_callS3 (pc := 8) (M_isIn hlv (by omega) (by omega) fe_i) im_X11_isIn q2095 dX11_evening_8 (Nat.le_of_ble_eq_true rfl) (Nat.le_of_ble_eq_true rfl) rfl (k_fi ?_) (fun _ _ _ _ _ _ _ hx => no_x hx)
  refine r_if_ne (pc := 11) 18 dX11_evening_11 rfl bz_g (fun h11 => ?_) (fun h11 => ?_)
  · have q1 := bz_ne.mp h11
    have hQ0 := hQ0 q1 _ rfl
    have hQ1 := hQ1 q1 _ rfl
    refine r_aload_n (pc := 18) dX11_evening_18 rfl rfl ?_
    refine r_sipush (pc := 19) dX11_evening_19 (by decide +kernel) ?_
    refine r_callV1 (pc := 22) (M_taken (ω := us s.1 0 0) hs (by omega) fe_i) im_X11_taken qs56 q2061 hs.o rfl dX11_evening_22 (Nat.le_of_ble_eq_true rfl) (Nat.le_of_ble_eq_true rfl) rfl (k_fv ?_) (fun _ _ _ _ _ _ _ hx => no_x hx)
    refine r_aload_n (pc := 25) dX11_evening_25 rfl rfl ?_
    refine r_iconst (pc := 26) dX11_evening_26 ?_
    refine r_puti (pc := 27) (c := 11) (k := 15) (kz := 15) hs.o cok_11 (Nat.le_of_ble_eq_true rfl) q1875 ⟨rfl, rfl⟩ (Or.inl rfl) rfl (by omega) rfl rfl (by omega) (fun _ _ _ => rfl) ⟨rfl, rfl⟩ dX11_evening_27 ?_
    try simp (disch := omega) only [ui_ur, ui_ur_n, ur_sv, ur_nv, ui_sv, ui_nv, ui_uis, us_s, us_n]
    refine r_aload_n (pc := 30) dX11_evening_30 rfl rfl ?_
    refine r_iconst (pc := 31) dX11_evening_31 ?_
    refine r_puti (pc := 32) (c := 11) (k := 52) (kz := 52) hs.o cok_11 (Nat.le_of_ble_eq_true rfl) q1912 ⟨rfl, rfl⟩ (Or.inl rfl) rfl (by omega) rfl rfl (by omega) (fun _ _ _ => rfl) ⟨rfl, rfl⟩ dX11_evening_32 ?_
    try simp (disch := omega) only [ui_ur, ui_ur_n, ur_sv, ur_nv, ui_sv, ui_nv, ui_uis, us_s, us_n]
    refine r_aload_n (pc := 35) dX11_evening_35 rfl rfl ?_
    show PW G mX11_evening (rmD (d + 6) 0 0) (MZ G Q nX 0 0) 0 0 (hI (ur (ur I (m + 2) σ) (m + 4) rd) m (g_e0 s)) (hJ J m (g_e0 s)) P T z 36 [some (.ref m), some (iv lv), none, none, none, none] [.ref m]
    have g3 : (g_e0 s).1 3 = s.1 2 := by unfold g_e0; simp (disch := omega) only [us_n, us_s]
    have g4 : (g_e0 s).1 4 = 0 := by unfold g_e0; simp (disch := omega) only [us_n, us_s]
    have g5 : (g_e0 s).1 5 = 500 := by unfold g_e0; simp (disch := omega) only [us_n, us_s]
    have g52 : (g_e0 s).1 52 = 0 := by unfold g_e0; simp (disch := omega) only [us_n, us_s]
    have g27 : (g_e0 s).1 27 = s.1 27 := by unfold g_e0; simp (disch := omega) only [us_n, us_s]
    have gh : (g_e0 s).2.2.1 = s.2.2.1 := rfl
    generalize g_e0 s = s0 at *
    refine r_callV0 (pc := 36) (M_nx (I := ur (ur I (m + 2) σ) (m + 4) rd) (J := J) (s := s0) hs (hτ2 rd) ⟨by omega, by omega, by omega⟩ fe_i) im_X11_next qs57 q2065 hs.o rfl dX11_evening_36 (Nat.le_of_ble_eq_true rfl) (Nat.le_of_ble_eq_true rfl) rfl (k_fv ?_) (fun _ _ _ _ _ _ _ hx => no_x hx)
    have w1 : TI (g_nx τ s0).1 := TI_nx (by omega) (by omega) (by omega) (by omega)
    have n52 : (g_nx τ s0).1 52 = 0 := by
      have : (g_nx τ s0).1 52 = s0.1 52 := t_next_f (by omega)
      rw [this]; exact g52
    have okt := e_tab_ok (τ := τ) (ρ := ρ) (σ := σ) (rd := rd) 31 w1 (by omega) (by omega) (by omega) (by intro i i0 i1; omega)
    have f27 : (e_tab τ ρ σ 31 (g_nx τ s0) rd).2.1.1 27 = s.1 27 := by
      rw [e_tab_f (by omega)]
      have : (g_nx τ s0).1 27 = s0.1 27 := t_next_f (by omega)
      rw [this]; exact g27
    have fnm : (e_tab τ ρ σ 31 (g_nx τ s0) rd).2.1.2.2 = s0.2.2 := e_tab_nm 31
    obtain ⟨R, hR⟩ : ∃ R, R = e_tab τ ρ σ 31 (g_nx τ s0) rd := ⟨_, rfl⟩
    rw [← hR] at hQ0 hQ1 okt f27 fnm
    have out : R.1 = 0 → PW G mX11_evening (rmD (d + 6) 0 0) (MZ G Q nX 0 0) 0 0 (hI (ur (ur I (m + 2) σ) (m + 4) R.2.2) m R.2.1) (hJ J m R.2.1) P T z 62 [some (.ref m), some (iv lv), none, none, none, none] [] := by
      intro r0
      have r16 := okt.2.1 r0
      refine r_bipush (pc := 62) dX11_evening_62 (by decide +kernel) ?_
      refine r_aload_n (pc := 64) dX11_evening_64 rfl rfl ?_
      refine r_geti (pc := 65) (c := 11) (k := 16) (kz := 16) hs.o cok_11 (Nat.le_of_ble_eq_true rfl) q1876 ⟨rfl, rfl⟩ (Or.inl rfl) rfl (fun _ _ _ => rfl) dX11_evening_65 (fun hr65 => ?_)
      try simp (disch := omega) only [ui_ur, ui_ur_n, ur_sv, ur_nv, ui_sv, ui_nv, ui_uis, us_s, us_n] at hr65 ⊢
      refine r_isub (pc := 68) dX11_evening_68 ?_
      refine r_ireturn (pc := 69) rfl rfl dX11_evening_69 (Nat.le_of_ble_eq_true rfl) (Nat.le_of_ble_eq_true rfl) ?_
      exact hQ0 r0
    -- lived
    have live : R.1 = 1 → PW G mX11_evening (rmD (d + 6) 0 0) (MZ G Q nX 0 0) 0 0 (hI (ur (ur I (m + 2) σ) (m + 4) R.2.2) m R.2.1) (hJ J m R.2.1) P T z 83 [some (.ref m), some (iv lv), none, none, none, none] [] := by
      intro r1
      obtain ⟨o1, o2, o3⟩ := okt.2.2 r1
      obtain ⟨n, hn⟩ : ∃ n : Nat, R.2.1.1 52 = n := ⟨(R.2.1.1 52).toNat, by omega⟩
      have hn30 : n ≤ 30 := by omega
      rw [hn] at o3
      have ev := fun i (hi : ((i : Nat) : Int) ≤ n) => EvI.all (μ := μ) hw o3 i hi
      have hQ1 := hQ1 r1 n _ hn hn30 rfl (ev n (by omega)) _ rfl
      have e3 : s.2.2.1 = R.2.1.2.2.1 := by rw [fnm, ← gh]
      rw [e3] at hQ1
      rw [eH_in]
      generalize hJ J m R.2.1 = J1 at hQ1 ⊢
      generalize ur I (m + 3) R.2.1.2.2.1 = I1 at hQ1 ⊢
      generalize R.2.1.1 = ω at hn hQ1 f27 o1 o2 ⊢
      generalize R.2.2 = rd1 at hQ1 o3 ev ⊢
      generalize I (m + 7) = a0 at hQ1 ⊢
      generalize I (m + 8) = u0 at hQ1 ⊢
      generalize I (m + 9) = b0 at hQ1 ⊢
      generalize I (m + 22) = h0 at hQ1 ⊢
      first | rw [eH9] | rw [eH9u]
      refine r_aload_n (pc := 83) dX11_evening_83 rfl rfl ?_
      refine r_callV0 (pc := 84) (M_tries (u := b0) (σ := σ) hs fe_i) im_X11_tries qs106 q2386 hs.o rfl dX11_evening_84 (Nat.le_of_ble_eq_true rfl) (Nat.le_of_ble_eq_true rfl) rfl (k_fv ?_) (fun _ _ _ _ _ _ _ hx => no_x hx)
      rw [← eH9]
      generalize kr b0 0 σ 580 = b1 at hQ1 ⊢
      refine r_iconst (pc := 87) dX11_evening_87 ?_
      refine r_istore_n2 (pc := 88) (Nat.le_of_ble_eq_true rfl) dX11_evening_88 rfl ?_
      have lp0 : ∀ (k : Nat) (i : Int), 0 ≤ i → i ≤ 4 → 4 - i = k → PW G mX11_evening (rmD (d + 6) 0 0) (MZ G Q nX 0 0) 0 0 (eH I1 m ω σ a0 u0 b1 (cl h0 4) rd1) J1 P T z 107 [some (.ref m), some (iv lv), some (iv 4), none, none, none] [] → PW G mX11_evening (rmD (d + 6) 0 0) (MZ G Q nX 0 0) 0 0 (eH I1 m ω σ a0 u0 b1 (cl h0 i) rd1) J1 P T z 89 [some (.ref m), some (iv lv), some (iv i), none, none, none] [] := by
        intro k
        induction k with
        | zero =>
          intro i i0 i1 ik kk
          obtain rfl : i = 4 := by omega
          refine r_iload_n (pc := 89) dX11_evening_89 rfl rfl ?_
          refine r_iconst (pc := 90) dX11_evening_90 ?_
          refine r_icmp_ge (pc := 91) 107 dX11_evening_91 rfl (by omega) (by omega) (fun h91 => ?_) (fun h91 => ?_)
          · exact kk
          omega
        | succ k ih =>
          intro i i0 i1 ik kk
          have nx := ih (i + 1) (by omega) (by omega) (by omega) kk
          rw [← cl_us i0] at nx
          refine r_iload_n (pc := 89) dX11_evening_89 rfl rfl ?_
          refine r_iconst (pc := 90) dX11_evening_90 ?_
          refine r_icmp_ge (pc := 91) 107 dX11_evening_91 rfl (by omega) (by omega) (fun h91 => ?_) (fun h91 => ?_)
          · omega
          refine r_aload_n (pc := 94) dX11_evening_94 rfl rfl ?_
          refine r_getr (pc := 95) (c := 11) (k := 53) (kz := 53) hs.o cok_11 (Nat.le_of_ble_eq_true rfl) q1913 ⟨rfl, rfl⟩ (Or.inl rfl) rfl (fun _ _ _ => rfl) hs.p_heardAt dX11_evening_95 ?_
          refine r_iload_n (pc := 98) dX11_evening_98 rfl rfl ?_
          refine r_iconst (pc := 99) dX11_evening_99 ?_
          refine r_iast (pc := 100) hs.t_heardAt (by omega) (by omega) (by omega) (by omega) dX11_evening_100 ?_
          try simp (disch := omega) only [ui_ur, ui_ur_n, ur_sv, ur_nv, ui_sv, ui_nv, ui_uis, us_s, us_n]
          refine r_iinc2 (pc := 101) (Nat.le_of_ble_eq_true rfl) dX11_evening_101 rfl ?_
          refine r_goto (pc := 104) 89 dX11_evening_104 rfl ?_
          exact nx
      have l0 := lp0 4 0 (by omega) (by omega) (by omega)
      rw [cl_0] at l0
      refine l0 ?_
      clear lp0 l0
      -- the loop
      obtain ⟨ou, hou⟩ : ∃ ou : EV → (Int → Int), ou = fun e => if lv = 1 ∧ 0 < e.2.2.1 then us (us ω 27 (kn (s.1 27) + 1)) 24 1 else ω := ⟨_, rfl⟩
      obtain ⟨oa, hoa⟩ : ∃ oa : EV → (Int → Int), oa = fun e => if lv = 1 ∧ 0 < e.2.2.1 then told e.2.1 a0 else a0 := ⟨_, rfl⟩
      obtain ⟨ok, hok⟩ : ∃ ok : EV → (Int → Int), ok = fun e => if lv = 1 ∧ 0 < e.2.2.1 then ku u0 (s.1 27) σ else u0 := ⟨_, rfl⟩
      have q52 : ∀ e, ou e 52 = n := fun e => by rw [hou]; dsimp only; split; rw [us_n (by omega), us_n (by omega)]; exact hn; exact hn
      have loop : ∀ (k i : Nat) (l4 l5 : Option Value), i + k = n → ∀ e : EV, e = evs rd1 i (σ, μ, 0, 0, -1) → PW G mX11_evening (rmD (d + 6) 0 0) (MZ G Q nX 0 0) 0 0 (eH I1 m (ou e) e.1 (oa e) (ok e) b1 (hh h0 e) rd1) J1 P T z 111 [some (.ref m), some (iv lv), some (iv e.2.2.2.2), some (iv i), l4, l5] [] := by
        have fin : ∀ (l3 l4 l5 : Option Value) (e : EV), e = evs rd1 n (σ, μ, 0, 0, -1) → PW G mX11_evening (rmD (d + 6) 0 0) (MZ G Q nX 0 0) 0 0 (eH I1 m (ou e) e.1 (oa e) (ok e) b1 (hh h0 e) rd1) J1 P T z 290 [some (.ref m), some (iv lv), some (iv e.2.2.2.2), l3, l4, l5] [] := by
          intro l3 l4 l5 e he
          rw [← he] at hQ1
          have hev := ev n (by omega)
          rw [← he] at hev
          have hab := f_allBooks_r (σ := e.1)
          have t4 := hev.1.tu
          have ht1 := hev.1.cv.ta
          have r4 : rg (e.1 4) := by
            rcases t4 with q | q
            · omega
            · have := q.1; have := q.2.1; omega
          have rw9 : rg e.2.2.2.2 := by have := hev.2.2.2.2; omega
          refine r_aload_n (pc := 290) dX11_evening_290 rfl rfl ?_
          refine r_getr (pc := 291) (c := 11) (k := 53) (kz := 53) hs.o cok_11 (Nat.le_of_ble_eq_true rfl) q1913 ⟨rfl, rfl⟩ (Or.inl rfl) rfl (fun _ _ _ => rfl) hs.p_heardAt dX11_evening_291 ?_
          refine r_iconst (pc := 294) dX11_evening_294 ?_
          refine r_aload_n (pc := 295) dX11_evening_295 rfl rfl ?_
          refine r_callV0 (pc := 296) (M_allBooks hs fe_i) im_X11_allBooks qs82 q2201 hs.o rfl dX11_evening_296 (Nat.le_of_ble_eq_true rfl) (Nat.le_of_ble_eq_true rfl) rfl (k_fi ?_) (fun _ _ _ _ _ _ _ hx => no_x hx)
          refine r_iast (pc := 299) hs.t_heardAt (by omega) (by omega) (by omega) (by omega) dX11_evening_299 ?_
          try simp (disch := omega) only [ui_ur, ui_ur_n, ur_sv, ur_nv, ui_sv, ui_nv, ui_uis, us_s, us_n]
          refine r_aload_n (pc := 300) dX11_evening_300 rfl rfl ?_
          refine r_getr (pc := 301) (c := 11) (k := 53) (kz := 53) hs.o cok_11 (Nat.le_of_ble_eq_true rfl) q1913 ⟨rfl, rfl⟩ (Or.inl rfl) rfl (fun _ _ _ => rfl) hs.p_heardAt dX11_evening_301 ?_
          refine r_iconst (pc := 304) dX11_evening_304 ?_
          refine r_aload_n (pc := 305) dX11_evening_305 rfl rfl ?_
          refine r_getr (pc := 306) (c := 11) (k := 6) (kz := 6) hs.o cok_11 (Nat.le_of_ble_eq_true rfl) q1866 ⟨rfl, rfl⟩ (Or.inl rfl) rfl (fun _ _ _ => rfl) hs.p_s dX11_evening_306 ?_
          refine r_iconst (pc := 309) dX11_evening_309 ?_
          refine r_iald (pc := 310) hs.t_s (by omega) (by omega) dX11_evening_310 (fun hr310 => ?_)
          try simp (disch := omega) only [ui_ur, ui_ur_n, ur_sv, ur_nv, ui_sv, ui_nv, ui_uis, us_s, us_n] at hr310 ⊢
          refine r_iast (pc := 311) hs.t_heardAt (by omega) (by omega) (by omega) (by omega) dX11_evening_311 ?_
          try simp (disch := omega) only [ui_ur, ui_ur_n, ur_sv, ur_nv, ui_sv, ui_nv, ui_uis, us_s, us_n]
          refine r_aload_n (pc := 312) dX11_evening_312 rfl rfl ?_
          refine r_iconst (pc := 313) dX11_evening_313 ?_
          refine r_puti (pc := 314) (c := 11) (k := 54) (kz := 54) hs.o cok_11 (Nat.le_of_ble_eq_true rfl) q1914 ⟨rfl, rfl⟩ (Or.inl rfl) rfl (by omega) rfl rfl (by omega) (fun _ _ _ => rfl) ⟨rfl, rfl⟩ dX11_evening_314 ?_
          try simp (disch := omega) only [ui_ur, ui_ur_n, ur_sv, ur_nv, ui_sv, ui_nv, ui_uis, us_s, us_n]
          rw [hrd_hh]
          rw [hou, hoa, hok]
          dsimp only
          refine r_iload_n (pc := 317) dX11_evening_317 rfl rfl ?_
          refine r_if_ne (pc := 318) 325 dX11_evening_318 rfl (by omega) (fun h318 => ?_) (fun h318 => ?_)
          · rw [if_pos (show lv = 1 by omega)] at hQ1
            refine r_iload_n (pc := 325) dX11_evening_325 rfl rfl ?_
            refine r_ireturn (pc := 326) rfl rfl dX11_evening_326 (Nat.le_of_ble_eq_true rfl) (Nat.le_of_ble_eq_true rfl) ?_
            exact hQ1
          rw [if_neg (show ¬ lv = 1 by omega)] at hQ1
          first | rw [eH9] | rw [eH9u]
          refine r_aload_n (pc := 321) dX11_evening_321 rfl rfl ?_
          refine r_callV0 (pc := 322) (M_back (u := b1) (σ := e.1) hs fe_i) im_X11_back qs107 q2390 hs.o rfl dX11_evening_322 (Nat.le_of_ble_eq_true rfl) (Nat.le_of_ble_eq_true rfl) rfl (k_fv ?_) (fun _ _ _ _ _ _ _ hx => no_x hx)
          rw [← eH9]
          refine r_iload_n (pc := 325) dX11_evening_325 rfl rfl ?_
          refine r_ireturn (pc := 326) rfl rfl dX11_evening_326 (Nat.le_of_ble_eq_true rfl) (Nat.le_of_ble_eq_true rfl) ?_
          exact hQ1
        intro k
        induction k with
        | zero =>
          intro i l4 l5 ik e he
          obtain rfl : i = n := by omega
          have hev := ev i (by omega)
          rw [← he] at hev
          refine r_iload_n (pc := 111) dX11_evening_111 rfl rfl ?_
          refine r_aload_n (pc := 112) dX11_evening_112 rfl rfl ?_
          refine r_geti (pc := 113) (c := 11) (k := 52) (kz := 52) hs.o cok_11 (Nat.le_of_ble_eq_true rfl) q1912 ⟨rfl, rfl⟩ (Or.inl rfl) rfl (fun _ _ _ => rfl) dX11_evening_113 (fun hr113 => ?_)
          try simp (disch := omega) only [ui_ur, ui_ur_n, ur_sv, ur_nv, ui_sv, ui_nv, ui_uis, us_s, us_n] at hr113 ⊢
          rw [q52 e] at hr113 ⊢
          refine r_icmp_ge (pc := 116) 290 dX11_evening_116 rfl (by omega) (by omega) (fun h116 => ?_) (fun h116 => ?_)
          · exact fin _ _ _ e he
          omega
        | succ k ih =>
          intro i l4 l5 ik e he
          have hev := ev i (by omega)
          rw [← he] at hev
          have hev0 := hev
          obtain ⟨v1, v2, v2b, v3, v4⟩ := hev0
          have rw9 : rg e.2.2.2.2 := by omega
          refine r_iload_n (pc := 111) dX11_evening_111 rfl rfl ?_
          refine r_aload_n (pc := 112) dX11_evening_112 rfl rfl ?_
          refine r_geti (pc := 113) (c := 11) (k := 52) (kz := 52) hs.o cok_11 (Nat.le_of_ble_eq_true rfl) q1912 ⟨rfl, rfl⟩ (Or.inl rfl) rfl (fun _ _ _ => rfl) dX11_evening_113 (fun hr113 => ?_)
          try simp (disch := omega) only [ui_ur, ui_ur_n, ur_sv, ur_nv, ui_sv, ui_nv, ui_uis, us_s, us_n] at hr113 ⊢
          rw [q52 e] at hr113 ⊢
          refine r_icmp_ge (pc := 116) 290 dX11_evening_116 rfl (by omega) (by omega) (fun h116 => ?_) (fun h116 => ?_)
          · omega
          refine r_iload_n (pc := 119) dX11_evening_119 rfl rfl ?_
          refine r_if_ge (pc := 120) 290 dX11_evening_120 rfl (by omega) (fun h120 => ?_) (fun h120 => ?_)
          · have : evs rd1 n (σ, μ, 0, 0, -1) = evs rd1 i (σ, μ, 0, 0, -1) := by
              rw [← ik]
              exact evs_stop (by rw [← he]; omega) (k + 1)
            exact fin _ _ _ e (by rw [this]; exact he)
          have c0 : e.2.2.2.1 = 0 ∧ e.2.2.1 = i ∧ e.2.2.2.2 = -1 := by omega
          obtain ⟨ra, rb, rk, rn⟩ := o3 i (by omega) (by omega)
          have e1 := v2 0 (by omega) (by omega)
          have e2 := v2 1 (by omega) (by omega)
          have pa : isP e.1 (rd1 (4 * (i : Int))) := by omega
          have pb : isP e.1 (rd1 (4 * (i : Int) + 1)) := by omega
          have pk : isK e.1 (rd1 (4 * (i : Int) + 2)) := by omega
          have hnx := ih (i + 1)
          have es : evs rd1 (i + 1) (σ, μ, 0, 0, -1) = ev1 (rd1 (4 * (i : Int))) (rd1 (4 * (i : Int) + 1)) (rd1 (4 * (i : Int) + 2)) (rd1 (4 * (i : Int) + 3)) e := by
            show ev2 rd1 (4 * (i : Int)) (evs rd1 i (σ, μ, 0, 0, -1)) = _
            rw [← he]
            unfold ev2
            rw [if_pos c0.1]
          refine r_iconst (pc := 123) dX11_evening_123 ?_
          refine r_iload_n (pc := 124) dX11_evening_124 rfl rfl ?_
          refine r_imul (pc := 125) dX11_evening_125 ?_
          refine r_istore4 (pc := 126) (Nat.le_of_ble_eq_true rfl) dX11_evening_126 rfl ?_
          obtain ⟨to, hto⟩ : ∃ to, to = 4 * (i : Int) := ⟨_, rfl⟩
          rw [← hto] at es pa pb pk ra rb rk rn ⊢
          have to0 : 0 ≤ to ∧ to < 120 := by omega
          obtain ⟨a, ha⟩ : ∃ a, a = rd1 to := ⟨_, rfl⟩
          obtain ⟨b, hb9⟩ : ∃ b, b = rd1 (to + 1) := ⟨_, rfl⟩
          obtain ⟨kd, hkd⟩ : ∃ kd, kd = rd1 (to + 2) := ⟨_, rfl⟩
          obtain ⟨nn, hnn⟩ : ∃ nn, nn = rd1 (to + 3) := ⟨_, rfl⟩
          rw [← ha, ← hb9, ← hkd, ← hnn] at es
          rw [← ha] at pa ra
          rw [← hb9] at pb rb
          rw [← hkd] at pk rk
          rw [← hnn] at rn
          have a6 : 0 ≤ a ∧ a < 6 := by omega
          have b6 : 0 ≤ b ∧ b < 6 := by omega
          have k13 : 0 ≤ kd ∧ kd < 13 := by omega
          have wr9 := why_r (σ := e.1) (a := a) (b := b) (k := kd)
          refine r_aload_n (pc := 128) dX11_evening_128 rfl rfl ?_
          refine r_aload_n (pc := 129) dX11_evening_129 rfl rfl ?_
          refine r_getr (pc := 130) (c := 11) (k := 8) (kz := 8) hs.o cok_11 (Nat.le_of_ble_eq_true rfl) q1868 ⟨rfl, rfl⟩ (Or.inl rfl) rfl (fun _ _ _ => rfl) hs.p_read dX11_evening_130 ?_
          refine r_iload (pc := 133) dX11_evening_133 rfl ?_
          refine r_iald (pc := 135) hs.t_read (by omega) (by omega) dX11_evening_135 (fun hr135 => ?_)
          try simp (disch := omega) only [ui_ur, ui_ur_n, ur_sv, ur_nv, ui_sv, ui_nv, ui_uis, us_s, us_n] at hr135 ⊢
          rw [← ha] at hr135 ⊢
          refine r_aload_n (pc := 136) dX11_evening_136 rfl rfl ?_
          refine r_getr (pc := 137) (c := 11) (k := 8) (kz := 8) hs.o cok_11 (Nat.le_of_ble_eq_true rfl) q1868 ⟨rfl, rfl⟩ (Or.inl rfl) rfl (fun _ _ _ => rfl) hs.p_read dX11_evening_137 ?_
          refine r_iload (pc := 140) dX11_evening_140 rfl ?_
          refine r_iconst (pc := 142) dX11_evening_142 ?_
          refine r_iadd (pc := 143) dX11_evening_143 ?_
          refine r_iald (pc := 144) hs.t_read (by omega) (by omega) dX11_evening_144 (fun hr144 => ?_)
          try simp (disch := omega) only [ui_ur, ui_ur_n, ur_sv, ur_nv, ui_sv, ui_nv, ui_uis, us_s, us_n] at hr144 ⊢
          rw [← hb9] at hr144 ⊢
          refine r_aload_n (pc := 145) dX11_evening_145 rfl rfl ?_
          refine r_getr (pc := 146) (c := 11) (k := 8) (kz := 8) hs.o cok_11 (Nat.le_of_ble_eq_true rfl) q1868 ⟨rfl, rfl⟩ (Or.inl rfl) rfl (fun _ _ _ => rfl) hs.p_read dX11_evening_146 ?_
          refine r_iload (pc := 149) dX11_evening_149 rfl ?_
          refine r_iconst (pc := 151) dX11_evening_151 ?_
          refine r_iadd (pc := 152) dX11_evening_152 ?_
          refine r_iald (pc := 153) hs.t_read (by omega) (by omega) dX11_evening_153 (fun hr153 => ?_)
          try simp (disch := omega) only [ui_ur, ui_ur_n, ur_sv, ur_nv, ui_sv, ui_nv, ui_uis, us_s, us_n] at hr153 ⊢
          rw [← hkd] at hr153 ⊢
          refine r_callV3 (pc := 154) (M_whyOf hs a6 (by omega) k13 fe_i) im_X11_whyOf qs84 q2213 hs.o rfl dX11_evening_154 (Nat.le_of_ble_eq_true rfl) (Nat.le_of_ble_eq_true rfl) rfl (k_fi ?_) (fun _ _ _ _ _ _ _ hx => no_x hx)
          refine r_istore5 (pc := 157) (Nat.le_of_ble_eq_true rfl) dX11_evening_157 rfl ?_
          refine r_iload (pc := 159) dX11_evening_159 rfl ?_
          -- not as told
          have wrong : ∀ w, w ≠ 0 → 0 ≤ w → w ≤ 5 → ev_w e.1 a b kd nn = w → PW G mX11_evening (rmD (d + 6) 0 0) (MZ G Q nX 0 0) 0 0 (eH I1 m (ou e) e.1 (oa e) (ok e) b1 (hh h0 e) rd1) J1 P T z 202 [some (.ref m), some (iv lv), some (iv e.2.2.2.2), some (iv i), some (iv to), some (iv w)] [] := by
            intro w w0 w1 w2 hw2
            have en : ev1 a b kd nn e = (e.1, e.2.1, e.2.2.1, w, e.2.2.1) := by
              unfold ev1
              rw [if_pos (by rw [hw2]; exact w0), hw2]
            refine r_iload (pc := 202) dX11_evening_202 rfl ?_
            refine r_if_le (pc := 204) 220 dX11_evening_204 rfl (by omega) (fun h204 => ?_) (fun h204 => ?_)
            · omega
            refine r_aload_n (pc := 207) dX11_evening_207 rfl rfl ?_
            refine r_getr (pc := 208) (c := 11) (k := 53) (kz := 53) hs.o cok_11 (Nat.le_of_ble_eq_true rfl) q1913 ⟨rfl, rfl⟩ (Or.inl rfl) rfl (fun _ _ _ => rfl) hs.p_heardAt dX11_evening_208 ?_
            refine r_iconst (pc := 211) dX11_evening_211 ?_
            refine r_iload (pc := 212) dX11_evening_212 rfl ?_
            refine r_iast (pc := 214) hs.t_heardAt (by omega) (by omega) (by omega) (by omega) dX11_evening_214 ?_
            try simp (disch := omega) only [ui_ur, ui_ur_n, ur_sv, ur_nv, ui_sv, ui_nv, ui_uis, us_s, us_n]
            refine r_iload_n (pc := 215) dX11_evening_215 rfl rfl ?_
            refine r_istore_n2 (pc := 216) (Nat.le_of_ble_eq_true rfl) dX11_evening_216 rfl ?_
            rw [hh_1 (f := h0) (e := e) (w := w) (e' := (e.1, e.2.1, e.2.2.1, w, e.2.2.1)) rfl rfl]
            refine r_goto (pc := 217) 284 dX11_evening_217 rfl ?_
            refine r_iinc3 (pc := 284) (Nat.le_of_ble_eq_true rfl) dX11_evening_284 rfl ?_
            refine r_goto (pc := 287) 111 dX11_evening_287 rfl ?_
            have := hnx (some (iv to)) (some (iv w)) (by omega) (e.1, e.2.1, e.2.2.1, w, e.2.2.1) (by rw [es, en])
            rw [show (((i + 1 : Nat) : Int)) = (i : Int) + 1 by omega] at this
            rw [← c0.2.1] at this ⊢
            rw [hou, hoa, hok] at this ⊢
            exact this
          -- as told
          have good : ev_w e.1 a b kd nn = 0 → f_why e.1 a b kd = 0 → PW G mX11_evening (rmD (d + 6) 0 0) (MZ G Q nX 0 0) 0 0 (eH I1 m (ou e) e.1 (oa e) (ok e) b1 (hh h0 e) rd1) J1 P T z 202 [some (.ref m), some (iv lv), some (iv e.2.2.2.2), some (iv i), some (iv to), some (iv 0)] [] := by
            intro hw0 hy0
            have ho := why_ao v1 pa pb pk hy0
            have hab : a ≠ b := ho.2.2.2.1
            have ht1 := v1.cv.ta
            have hsp := v1.sp b6 k13
            obtain ⟨σ2, hσ2⟩ : ∃ σ2, σ2 = (f_asks e.1 a b kd 0).1 := ⟨_, rfl⟩
            obtain ⟨μ2, hμ2⟩ : ∃ μ2, μ2 = f_tell a b kd (f_gives e.1 b kd 0) (f_asks e.1 a b kd 0).2.1 (f_asks e.1 a b kd 0).2.2 (f_lie e.1 b kd 0) (f_sure e.1 b kd) := ⟨_, rfl⟩
            have en : ev1 a b kd nn e = (σ2, μ2, e.2.2.1 + 1, 0, e.2.2.2.2) := by
              unfold ev1
              rw [if_neg (fun c => c hw0), hσ2, hμ2]
            have hnx := hnx (some (iv to)) (some (iv 0)) (by omega) (σ2, μ2, e.2.2.1 + 1, 0, e.2.2.2.2) (by rw [es, en])
            have end_ : ∀ (ω2 a2 u2 : Int → Int) (g : Int), ω2 = ou (σ2, μ2, e.2.2.1 + 1, 0, e.2.2.2.2) → a2 = oa (σ2, μ2, e.2.2.1 + 1, 0, e.2.2.2.2) → u2 = ok (σ2, μ2, e.2.2.1 + 1, 0, e.2.2.2.2) → PW G mX11_evening (rmD (d + 6) 0 0) (MZ G Q nX 0 0) 0 0 (eH I1 m ω2 σ2 a2 u2 b1 (hh h0 e) rd1) J1 P T z 273 [some (.ref m), some (iv lv), some (iv e.2.2.2.2), some (iv i), some (iv to), some (iv 0)] [iv g] := by
              intro ω2 a2 u2 g q1 q2 q3
              have hh1 : hh h0 e 1 = i := by unfold hh; rw [us_s]; exact c0.2.1
              refine r_pop (pc := 273) dX11_evening_273 rfl ?_
              refine r_aload_n (pc := 274) dX11_evening_274 rfl rfl ?_
              refine r_getr (pc := 275) (c := 11) (k := 53) (kz := 53) hs.o cok_11 (Nat.le_of_ble_eq_true rfl) q1913 ⟨rfl, rfl⟩ (Or.inl rfl) rfl (fun _ _ _ => rfl) hs.p_heardAt dX11_evening_275 ?_
              refine r_iconst (pc := 278) dX11_evening_278 ?_
              refine r_dup2 (pc := 279) dX11_evening_279 rfl rfl ?_
              refine r_iald (pc := 280) hs.t_heardAt (by omega) (by omega) dX11_evening_280 (fun hr280 => ?_)
              try simp (disch := omega) only [ui_ur, ui_ur_n, ur_sv, ur_nv, ui_sv, ui_nv, ui_uis, us_s, us_n] at hr280 ⊢
              rw [hh1] at hr280 ⊢
              refine r_iconst (pc := 281) dX11_evening_281 ?_
              refine r_iadd (pc := 282) dX11_evening_282 ?_
              refine r_iast (pc := 283) hs.t_heardAt (by omega) (by omega) (by omega) (by omega) dX11_evening_283 ?_
              try simp (disch := omega) only [ui_ur, ui_ur_n, ur_sv, ur_nv, ui_sv, ui_nv, ui_uis, us_s, us_n]
              rw [hh_2 (f := h0) (e := e) (w := (i : Int) + 1) (e' := (σ2, μ2, e.2.2.1 + 1, 0, e.2.2.2.2)) c0.1.symm (by show e.2.2.1 + 1 = (i : Int) + 1; omega)]
              refine r_iinc3 (pc := 284) (Nat.le_of_ble_eq_true rfl) dX11_evening_284 rfl ?_
              refine r_goto (pc := 287) 111 dX11_evening_287 rfl ?_
              rw [q1, q2, q3]
              rw [show (((i + 1 : Nat) : Int)) = (i : Int) + 1 by omega] at hnx
              exact hnx
            have ask : ∀ (ω2 u2 : Int → Int), PW G mX11_evening (rmD (d + 6) 0 0) (MZ G Q nX 0 0) 0 0 (eH I1 m ω2 e.1 (oa e) u2 b1 (hh h0 e) rd1) J1 P T z 233 [some (.ref m), some (iv lv), some (iv e.2.2.2.2), some (iv i), some (iv to), some (iv 0)] [] → True := fun _ _ _ => trivial
            clear ask
            have lines0 : (0 : Int) < e.2.2.1 + 1 := by omega
            refine r_iload (pc := 202) dX11_evening_202 rfl ?_
            refine r_if_le (pc := 204) 220 dX11_evening_204 rfl (by omega) (fun h204 => ?_) (fun h204 => ?_)
            · refine r_iload_n (pc := 220) dX11_evening_220 rfl rfl ?_
              refine r_iconst (pc := 221) dX11_evening_221 ?_
              refine r_icmp_ne (pc := 222) 233 dX11_evening_222 rfl (by omega) (by omega) (fun h222 => ?_) (fun h222 => ?_)
              · -- not lived
                refine r_aload_n (pc := 233) dX11_evening_233 rfl rfl ?_
                refine r_aload_n (pc := 234) dX11_evening_234 rfl rfl ?_
                refine r_getr (pc := 235) (c := 11) (k := 8) (kz := 8) hs.o cok_11 (Nat.le_of_ble_eq_true rfl) q1868 ⟨rfl, rfl⟩ (Or.inl rfl) rfl (fun _ _ _ => rfl) hs.p_read dX11_evening_235 ?_
                refine r_iload (pc := 238) dX11_evening_238 rfl ?_
                refine r_iald (pc := 240) hs.t_read (by omega) (by omega) dX11_evening_240 (fun hr240 => ?_)
                try simp (disch := omega) only [ui_ur, ui_ur_n, ur_sv, ur_nv, ui_sv, ui_nv, ui_uis, us_s, us_n] at hr240 ⊢
                rw [← ha] at hr240 ⊢
                refine r_aload_n (pc := 241) dX11_evening_241 rfl rfl ?_
                refine r_getr (pc := 242) (c := 11) (k := 8) (kz := 8) hs.o cok_11 (Nat.le_of_ble_eq_true rfl) q1868 ⟨rfl, rfl⟩ (Or.inl rfl) rfl (fun _ _ _ => rfl) hs.p_read dX11_evening_242 ?_
                refine r_iload (pc := 245) dX11_evening_245 rfl ?_
                refine r_iconst (pc := 247) dX11_evening_247 ?_
                refine r_iadd (pc := 248) dX11_evening_248 ?_
                refine r_iald (pc := 249) hs.t_read (by omega) (by omega) dX11_evening_249 (fun hr249 => ?_)
                try simp (disch := omega) only [ui_ur, ui_ur_n, ur_sv, ur_nv, ui_sv, ui_nv, ui_uis, us_s, us_n] at hr249 ⊢
                rw [← hb9] at hr249 ⊢
                refine r_aload_n (pc := 250) dX11_evening_250 rfl rfl ?_
                refine r_getr (pc := 251) (c := 11) (k := 8) (kz := 8) hs.o cok_11 (Nat.le_of_ble_eq_true rfl) q1868 ⟨rfl, rfl⟩ (Or.inl rfl) rfl (fun _ _ _ => rfl) hs.p_read dX11_evening_251 ?_
                refine r_iload (pc := 254) dX11_evening_254 rfl ?_
                refine r_iconst (pc := 256) dX11_evening_256 ?_
                refine r_iadd (pc := 257) dX11_evening_257 ?_
                refine r_iald (pc := 258) hs.t_read (by omega) (by omega) dX11_evening_258 (fun hr258 => ?_)
                try simp (disch := omega) only [ui_ur, ui_ur_n, ur_sv, ur_nv, ui_sv, ui_nv, ui_uis, us_s, us_n] at hr258 ⊢
                rw [← hkd] at hr258 ⊢
                refine r_iconst (pc := 259) dX11_evening_259 ?_
                refine r_iload_n (pc := 260) dX11_evening_260 rfl rfl ?_
                refine r_iconst (pc := 261) dX11_evening_261 ?_
                refine r_icmp_ne (pc := 262) 269 dX11_evening_262 rfl (by omega) (by omega) (fun h262 => ?_) (fun h262 => ?_)
                · refine r_iconst (pc := 269) dX11_evening_269 ?_
                  refine r_callV5 (pc := 270) (M_asks (σ := e.1) (told := 0) hs a6 b6 hab k13 (by omega) (Or.inl rfl) v1.cv.rg (by omega) hsp fe_i) im_X11_asks qs86 q2225 hs.o rfl dX11_evening_270 (Nat.le_of_ble_eq_true rfl) (Nat.le_of_ble_eq_true rfl) rfl (k_fi ?_) (fun _ _ _ _ _ _ _ hx => no_x hx)
                  rw [if_neg (show ¬ (0 : Int) = 1 by decide), ← hσ2]
                  refine end_ _ _ _ _ ?_ ?_ ?_
                  · rw [hou]; dsimp only; rw [if_neg (fun c => h222 c.1), if_neg (fun c => h222 c.1)]
                  · rw [hoa]; dsimp only; rw [if_neg (fun c => h222 c.1), if_neg (fun c => h222 c.1)]
                  · rw [hok]; dsimp only; rw [if_neg (fun c => h222 c.1), if_neg (fun c => h222 c.1)]
                exact absurd h262 h222
              -- lived
              have l1 : lv = 1 := h222
              subst l1
              have aft : ∀ (ω2 u2 : Int → Int), us ω2 24 1 = us (us ω 27 (kn (s.1 27) + 1)) 24 1 → u2 = ku u0 (s.1 27) σ → PW G mX11_evening (rmD (d + 6) 0 0) (MZ G Q nX 0 0) 0 0 (eH I1 m ω2 e.1 (oa e) u2 b1 (hh h0 e) rd1) J1 P T z 233 [some (.ref m), some (iv 1), some (iv e.2.2.2.2), some (iv i), some (iv to), some (iv 0)] [] := by
                intro ω2 u2 q1 q2
                refine r_aload_n (pc := 233) dX11_evening_233 rfl rfl ?_
                refine r_aload_n (pc := 234) dX11_evening_234 rfl rfl ?_
                refine r_getr (pc := 235) (c := 11) (k := 8) (kz := 8) hs.o cok_11 (Nat.le_of_ble_eq_true rfl) q1868 ⟨rfl, rfl⟩ (Or.inl rfl) rfl (fun _ _ _ => rfl) hs.p_read dX11_evening_235 ?_
                refine r_iload (pc := 238) dX11_evening_238 rfl ?_
                refine r_iald (pc := 240) hs.t_read (by omega) (by omega) dX11_evening_240 (fun hr240 => ?_)
                try simp (disch := omega) only [ui_ur, ui_ur_n, ur_sv, ur_nv, ui_sv, ui_nv, ui_uis, us_s, us_n] at hr240 ⊢
                rw [← ha] at hr240 ⊢
                refine r_aload_n (pc := 241) dX11_evening_241 rfl rfl ?_
                refine r_getr (pc := 242) (c := 11) (k := 8) (kz := 8) hs.o cok_11 (Nat.le_of_ble_eq_true rfl) q1868 ⟨rfl, rfl⟩ (Or.inl rfl) rfl (fun _ _ _ => rfl) hs.p_read dX11_evening_242 ?_
                refine r_iload (pc := 245) dX11_evening_245 rfl ?_
                refine r_iconst (pc := 247) dX11_evening_247 ?_
                refine r_iadd (pc := 248) dX11_evening_248 ?_
                refine r_iald (pc := 249) hs.t_read (by omega) (by omega) dX11_evening_249 (fun hr249 => ?_)
                try simp (disch := omega) only [ui_ur, ui_ur_n, ur_sv, ur_nv, ui_sv, ui_nv, ui_uis, us_s, us_n] at hr249 ⊢
                rw [← hb9] at hr249 ⊢
                refine r_aload_n (pc := 250) dX11_evening_250 rfl rfl ?_
                refine r_getr (pc := 251) (c := 11) (k := 8) (kz := 8) hs.o cok_11 (Nat.le_of_ble_eq_true rfl) q1868 ⟨rfl, rfl⟩ (Or.inl rfl) rfl (fun _ _ _ => rfl) hs.p_read dX11_evening_251 ?_
                refine r_iload (pc := 254) dX11_evening_254 rfl ?_
                refine r_iconst (pc := 256) dX11_evening_256 ?_
                refine r_iadd (pc := 257) dX11_evening_257 ?_
                refine r_iald (pc := 258) hs.t_read (by omega) (by omega) dX11_evening_258 (fun hr258 => ?_)
                try simp (disch := omega) only [ui_ur, ui_ur_n, ur_sv, ur_nv, ui_sv, ui_nv, ui_uis, us_s, us_n] at hr258 ⊢
                rw [← hkd] at hr258 ⊢
                refine r_iconst (pc := 259) dX11_evening_259 ?_
                refine r_iload_n (pc := 260) dX11_evening_260 rfl rfl ?_
                refine r_iconst (pc := 261) dX11_evening_261 ?_
                refine r_icmp_ne (pc := 262) 269 dX11_evening_262 rfl (by omega) (by omega) (fun h262 => ?_) (fun h262 => ?_)
                · exact absurd rfl h262
                refine r_iconst (pc := 265) dX11_evening_265 ?_
                refine r_goto (pc := 266) 270 dX11_evening_266 rfl ?_
                refine r_callV5 (pc := 270) (M_asks (σ := e.1) (told := 1) hs a6 b6 hab k13 (by omega) (Or.inr rfl) v1.cv.rg (by omega) hsp fe_i) im_X11_asks qs86 q2225 hs.o rfl dX11_evening_270 (Nat.le_of_ble_eq_true rfl) (Nat.le_of_ble_eq_true rfl) rfl (k_fi ?_) (fun _ _ _ _ _ _ _ hx => no_x hx)
                rw [if_pos rfl, ← hσ2, tA_row, ← hμ2]
                refine end_ _ _ _ _ ?_ ?_ ?_
                · rw [hou]; dsimp only; rw [if_pos ⟨rfl, lines0⟩]; exact q1
                · rw [hoa]; dsimp only; rw [if_pos (show (1 : Int) = 1 ∧ 0 < e.2.2.1 + 1 from ⟨rfl, lines0⟩)]; split; exact told_told; rfl
                · rw [hok]; dsimp only; rw [if_pos ⟨rfl, lines0⟩]; exact q2
              refine r_iload_n (pc := 225) dX11_evening_225 rfl rfl ?_
              refine r_if_ne (pc := 226) 233 dX11_evening_226 rfl (by omega) (fun h226 => ?_) (fun h226 => ?_)
              · have hl : 0 < e.2.2.1 := by omega
                refine aft _ _ ?_ ?_
                · rw [hou]; dsimp only; rw [if_pos ⟨rfl, hl⟩, us_us]
                · rw [hok]; dsimp only; rw [if_pos ⟨rfl, hl⟩]
              have hl : ¬ ((1 : Int) = 1 ∧ 0 < e.2.2.1) := by omega
              have eou : ou e = ω := by rw [hou]; dsimp only; rw [if_neg hl]
              have eok : ok e = u0 := by rw [hok]; dsimp only; rw [if_neg hl]
              have es0 : e.1 = σ := by
                have i0 : i = 0 := by omega
                rw [he, i0]
                rfl
              rw [eou, eok]
              first | rw [eH8] | rw [eH8u]
              refine r_aload_n (pc := 229) dX11_evening_229 rfl rfl ?_
              refine r_callV0 (pc := 230) (M_keep (u := u0) (σ := e.1) hs (by rw [ur_sv, f27]; exact hN) fe_i) im_X11_keep qs85 q2221 hs.o rfl dX11_evening_230 (Nat.le_of_ble_eq_true rfl) (Nat.le_of_ble_eq_true rfl) rfl (k_fv ?_) (fun _ _ _ _ _ _ _ hx => no_x hx)
              rw [ur_sv, f27, eH8w]
              refine aft _ _ rfl ?_
              rw [es0]
            omega
          refine r_if_ne (pc := 161) 202 dX11_evening_161 rfl (by omega) (fun h161 => ?_) (fun h161 => ?_)
          · refine wrong _ h161 wr9.1 (by omega) ?_
            unfold ev_w
            rw [if_neg (fun c => h161 c.1)]
          refine r_aload_n (pc := 164) dX11_evening_164 rfl rfl ?_
          refine r_aload_n (pc := 165) dX11_evening_165 rfl rfl ?_
          refine r_getr (pc := 166) (c := 11) (k := 8) (kz := 8) hs.o cok_11 (Nat.le_of_ble_eq_true rfl) q1868 ⟨rfl, rfl⟩ (Or.inl rfl) rfl (fun _ _ _ => rfl) hs.p_read dX11_evening_166 ?_
          refine r_iload (pc := 169) dX11_evening_169 rfl ?_
          refine r_iconst (pc := 171) dX11_evening_171 ?_
          refine r_iadd (pc := 172) dX11_evening_172 ?_
          refine r_iald (pc := 173) hs.t_read (by omega) (by omega) dX11_evening_173 (fun hr173 => ?_)
          try simp (disch := omega) only [ui_ur, ui_ur_n, ur_sv, ur_nv, ui_sv, ui_nv, ui_uis, us_s, us_n] at hr173 ⊢
          rw [← hb9] at hr173 ⊢
          refine r_aload_n (pc := 174) dX11_evening_174 rfl rfl ?_
          refine r_getr (pc := 175) (c := 11) (k := 8) (kz := 8) hs.o cok_11 (Nat.le_of_ble_eq_true rfl) q1868 ⟨rfl, rfl⟩ (Or.inl rfl) rfl (fun _ _ _ => rfl) hs.p_read dX11_evening_175 ?_
          refine r_iload (pc := 178) dX11_evening_178 rfl ?_
          refine r_iconst (pc := 180) dX11_evening_180 ?_
          refine r_iadd (pc := 181) dX11_evening_181 ?_
          refine r_iald (pc := 182) hs.t_read (by omega) (by omega) dX11_evening_182 (fun hr182 => ?_)
          try simp (disch := omega) only [ui_ur, ui_ur_n, ur_sv, ur_nv, ui_sv, ui_nv, ui_uis, us_s, us_n] at hr182 ⊢
          rw [← hkd] at hr182 ⊢
          refine r_iconst (pc := 183) dX11_evening_183 ?_
          refine r_callV3 (pc := 184) (M_hand0 hs b6 k13 fe_i) im_X11_handOf qs73 q2138 hs.o rfl dX11_evening_184 (Nat.le_of_ble_eq_true rfl) (Nat.le_of_ble_eq_true rfl) rfl (k_fi ?_) (fun _ _ _ _ _ _ _ hx => no_x hx)
          refine r_aload_n (pc := 187) dX11_evening_187 rfl rfl ?_
          refine r_getr (pc := 188) (c := 11) (k := 8) (kz := 8) hs.o cok_11 (Nat.le_of_ble_eq_true rfl) q1868 ⟨rfl, rfl⟩ (Or.inl rfl) rfl (fun _ _ _ => rfl) hs.p_read dX11_evening_188 ?_
          refine r_iload (pc := 191) dX11_evening_191 rfl ?_
          refine r_iconst (pc := 193) dX11_evening_193 ?_
          refine r_iadd (pc := 194) dX11_evening_194 ?_
          refine r_iald (pc := 195) hs.t_read (by omega) (by omega) dX11_evening_195 (fun hr195 => ?_)
          try simp (disch := omega) only [ui_ur, ui_ur_n, ur_sv, ur_nv, ui_sv, ui_nv, ui_uis, us_s, us_n] at hr195 ⊢
          rw [← hnn] at hr195 ⊢
          have h4 := v1.cv.h4 b6.1 b6.2 k13.1 k13.2
          rw [h161]
          refine r_icmp_eq (pc := 196) 202 dX11_evening_196 rfl (by omega) (by omega) (fun h196 => ?_) (fun h196 => ?_)
          · refine good ?_ h161
            unfold ev_w
            rw [if_neg (fun c => c.2 h196)]
            exact h161
          refine r_iconst (pc := 199) dX11_evening_199 ?_
          refine r_istore5 (pc := 200) (Nat.le_of_ble_eq_true rfl) dX11_evening_200 rfl ?_
          refine wrong 5 (by decide) (by decide) (by decide) ?_
          unfold ev_w
          rw [if_pos ⟨h161, h196⟩]
      refine r_iconst (pc := 107) dX11_evening_107 ?_
      refine r_istore_n2 (pc := 108) (Nat.le_of_ble_eq_true rfl) dX11_evening_108 rfl ?_
      refine r_iconst (pc := 109) dX11_evening_109 ?_
      refine r_istore_n3 (pc := 110) (Nat.le_of_ble_eq_true rfl) dX11_evening_110 rfl ?_
      have l9 := loop n 0 none none (by omega) (σ, μ, 0, 0, -1) rfl
      rw [hh_0] at l9
      have x1 : ou (σ, μ, 0, 0, -1) = ω := by rw [hou]; exact if_neg (fun c => absurd (show (0 : Int) < 0 from c.2) (by decide))
      have x2 : oa (σ, μ, 0, 0, -1) = a0 := by rw [hoa]; exact if_neg (fun c => absurd (show (0 : Int) < 0 from c.2) (by decide))
      have x3 : ok (σ, μ, 0, 0, -1) = u0 := by rw [hok]; exact if_neg (fun c => absurd (show (0 : Int) < 0 from c.2) (by decide))
      rw [x1, x2, x3] at l9
      exact l9
    -- read
    have main : ∀ (k : Nat) (s1 : TS) (rd1 : Int → Int), TI s1.1 → s1.1 52 + k = 31 → 0 ≤ s1.1 52 → R = e_tab τ ρ σ k s1 rd1 → 0 < k → PW G mX11_evening (rmD (d + 6) 0 0) (MZ G Q nX 0 0) 0 0 (hI (ur (ur I (m + 2) σ) (m + 4) rd1) m s1) (hJ J m s1) P T z 39 [some (.ref m), some (iv lv), none, none, none, none] [] := by
      intro k
      induction k with
      | zero => intro s1 rd1 _ _ _ _ h; omega
      | succ k ih =>
        intro s1 rd1 t1 t2 t3 he _
        unfold e_tab at he
        refine r_aload_n (pc := 39) dX11_evening_39 rfl rfl ?_
        refine r_geti (pc := 40) (c := 11) (k := 11) (kz := 11) hs.o cok_11 (Nat.le_of_ble_eq_true rfl) q1871 ⟨rfl, rfl⟩ (Or.inl rfl) rfl (fun _ _ _ => rfl) dX11_evening_40 (fun hr40 => ?_)
        try simp (disch := omega) only [ui_ur, ui_ur_n, ur_sv, ur_nv, ui_sv, ui_nv, ui_uis, us_s, us_n] at hr40 ⊢
        refine r_if_eq (pc := 43) 83 dX11_evening_43 rfl (by omega) (fun h43 => ?_) (fun h43 => ?_)
        · rw [if_pos h43] at he
          rw [he] at live
          exact live rfl
        rw [if_neg h43] at he
        refine r_aload_n (pc := 46) dX11_evening_46 rfl rfl ?_
        refine r_callV0 (pc := 47) (M_eveningLine (I := I) (J := J) (s := s1) (rd := rd1) (σ := σ) (τ := τ) (ρ := ρ) (Q := fe (hI (ur (ur I (m + 2) σ) (m + 4) (e_line τ ρ σ s1 rd1).2.2) m (e_line τ ρ σ s1 rd1).2.1) (hJ J m (e_line τ ρ σ s1 rd1).2.1) P T z (some (iv (e_line τ ρ σ s1 rd1).1))) hs hτ hρ t1 ht.1 ht.2.1 ⟨by omega, by omega⟩ (fun r q => by rw [q]; exact fe_i)) im_X11_eveningLine qs108 q2410 hs.o rfl dX11_evening_47 (Nat.le_of_ble_eq_true rfl) (Nat.le_of_ble_eq_true rfl) rfl (k_fi ?_) (fun _ _ _ _ _ _ _ hx => no_x hx)
        have ok := e_line_ok (τ := τ) (ρ := ρ) (σ := σ) (rd := rd1) t1
        generalize e_line τ ρ σ s1 rd1 = r at *
        have ok1 := ok.1
        refine r_if_eq (pc := 50) 62 dX11_evening_50 rfl (by omega) (fun h50 => ?_) (fun h50 => ?_)
        · rw [if_pos h50] at he
          rw [he] at out
          exact out rfl
        rw [if_neg h50] at he
        obtain ⟨o1, o2, o3⟩ := ok.2 h50
        refine r_aload_n (pc := 53) dX11_evening_53 rfl rfl ?_
        refine r_bipush (pc := 54) dX11_evening_54 (by decide +kernel) ?_
        by_cases hg : isG 59 r.2.1
        · rw [if_neg (show ¬ ¬ isG 59 r.2.1 from fun q => q hg)] at he
          refine r_callV1 (pc := 56) (M_sign (I := ur (ur I (m + 2) σ) (m + 4) r.2.2) (J := J) (s := r.2.1) (τ := τ) hs (hτ2 r.2.2) o1 (by omega) (by rw [if_pos hg]; exact fe_i)) im_X11_sign qs68 q2118 hs.o rfl dX11_evening_56 (Nat.le_of_ble_eq_true rfl) (Nat.le_of_ble_eq_true rfl) rfl (k_fi ?_) (fun _ _ _ _ _ _ _ hx => no_x hx)
          have w2 : TI (g_nx τ r.2.1).1 := o1.nx
          have m52 : (g_nx τ r.2.1).1 52 = s1.1 52 := by
            have : (g_nx τ r.2.1).1 52 = r.2.1.1 52 := t_next_f (by omega)
            rw [this]; exact o2
          generalize g_nx τ r.2.1 = t at *
          refine r_if_ne (pc := 59) 70 dX11_evening_59 rfl (by omega) (fun h59 => ?_) (fun h59 => ?_)
          · refine r_aload_n (pc := 70) dX11_evening_70 rfl rfl ?_
            refine r_dup (pc := 71) dX11_evening_71 rfl ?_
            refine r_geti (pc := 72) (c := 11) (k := 52) (kz := 52) hs.o cok_11 (Nat.le_of_ble_eq_true rfl) q1912 ⟨rfl, rfl⟩ (Or.inl rfl) rfl (fun _ _ _ => rfl) dX11_evening_72 (fun hr72 => ?_)
            try simp (disch := omega) only [ui_ur, ui_ur_n, ur_sv, ur_nv, ui_sv, ui_nv, ui_uis, us_s, us_n] at hr72 ⊢
            refine r_iconst (pc := 75) dX11_evening_75 ?_
            refine r_iadd (pc := 76) dX11_evening_76 ?_
            refine r_puti (pc := 77) (c := 11) (k := 52) (kz := 52) hs.o cok_11 (Nat.le_of_ble_eq_true rfl) q1912 ⟨rfl, rfl⟩ (Or.inl rfl) rfl (by omega) rfl rfl (by omega) (fun _ _ _ => rfl) ⟨rfl, rfl⟩ dX11_evening_77 ?_
            try simp (disch := omega) only [ui_ur, ui_ur_n, ur_sv, ur_nv, ui_sv, ui_nv, ui_uis, us_s, us_n]
            refine r_goto (pc := 80) 39 dX11_evening_80 rfl ?_
            have f52 : (g_w 52 (t.1 52 + 1) t).1 52 = t.1 52 + 1 := by show us t.1 52 (t.1 52 + 1) 52 = _; exact us_s
            exact ih (g_w 52 (t.1 52 + 1) t) r.2.2 (TI.us w2 (by omega)) (by rw [f52]; omega) (by rw [f52]; omega) he (by omega)
          omega
        rw [if_pos hg] at he
        refine r_callV1 (pc := 56) (M_sign (I := ur (ur I (m + 2) σ) (m + 4) r.2.2) (J := J) (s := r.2.1) (τ := τ) hs (hτ2 r.2.2) o1 (by omega) (by rw [if_neg hg]; exact fe_i)) im_X11_sign qs68 q2118 hs.o rfl dX11_evening_56 (Nat.le_of_ble_eq_true rfl) (Nat.le_of_ble_eq_true rfl) rfl (k_fi ?_) (fun _ _ _ _ _ _ _ hx => no_x hx)
        refine r_if_ne (pc := 59) 70 dX11_evening_59 rfl (by omega) (fun h59 => ?_) (fun h59 => ?_)
        · omega
        rw [he] at out
        exact out rfl
    exact main 31 (g_nx τ s0) rd w1 (by omega) (by omega) hR (by omega)
  refine r_sipush (pc := 14) dX11_evening_14 (by decide +kernel) ?_
  refine r_ireturn (pc := 17) rfl rfl dX11_evening_17 (Nat.le_of_ble_eq_true rfl) (Nat.le_of_ble_eq_true rfl) ?_
  exact hbad (bz_0.mp h11)
end M29
