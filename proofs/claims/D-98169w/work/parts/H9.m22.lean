/-! ===== the model: games, called ===== -/
def GX (W : (Int → Int) → Prop) (g : Int) (x : GS) : Prop := W x.2.2.2.1 ∧ (∀ a, 0 ≤ a → a < 6 → 0 ≤ x.1 a ∧ x.1 a ≤ 3) ∧ (0 ≤ x.2.2.2.2.1 ∧ x.2.2.2.2.1 ≤ 300 * g) ∧ 0 ≤ x.2.2.2.2.2 ∧ x.2.2.2.2.2 ≤ g
theorem f_gm1_ok {W : (Int → Int) → Prop} (hW : PlOK W) (hG : GmOK W) {i j g sd : Int} (hi : 0 ≤ i ∧ i ≤ 3) (hj : 0 ≤ j ∧ j ≤ 3) {x : GS} (h : GX W g x) : GX W (g + 1) (f_gm1 i j sd x) := by
  obtain ⟨rl, π, s49, σ, as, won⟩ := x
  obtain ⟨h1, h2, h3, h4⟩ := h
  simp only at h1 h2 h3 h4
  obtain ⟨t0, t1, t2, t3⟩ := hG σ h1
  obtain ⟨t4, t5⟩ := t3 π sd
  have hr2 : ∀ a, 0 ≤ a → a < 6 → 0 ≤ f_rul i j rl (f_begins (f_dealt π σ 5 sd) 1) a ∧ f_rul i j rl (f_begins (f_dealt π σ 5 sd) 1) a ≤ 3 := by
    intro a a0 a1
    unfold f_rul
    split
    · split <;> omega
    · exact h2 a a0 a1
  have fq := f_q_W hW hr2 300 t5
  have br := bz_r (p := f_bst (f_q (f_rul i j rl (f_begins (f_dealt π σ 5 sd) 1)) 300 (f_begins (f_dealt π σ 5 sd))).1 ((f_q (f_rul i j rl (f_begins (f_dealt π σ 5 sd) 1)) 300 (f_begins (f_dealt π σ 5 sd))).1 1 - 1).toNat = true)
  refine ⟨fq.1, hr2, ?_, ?_⟩
  · show 0 ≤ as + (f_q (f_rul i j rl (f_begins (f_dealt π σ 5 sd) 1)) 300 (f_begins (f_dealt π σ 5 sd))).2 ∧ as + (f_q (f_rul i j rl (f_begins (f_dealt π σ 5 sd) 1)) 300 (f_begins (f_dealt π σ 5 sd))).2 ≤ 300 * (g + 1)
    omega
  · show 0 ≤ won + bz (f_bst (f_q (f_rul i j rl (f_begins (f_dealt π σ 5 sd) 1)) 300 (f_begins (f_dealt π σ 5 sd))).1 ((f_q (f_rul i j rl (f_begins (f_dealt π σ 5 sd) 1)) 300 (f_begins (f_dealt π σ 5 sd))).1 1 - 1).toNat = true) ∧ won + bz (f_bst (f_q (f_rul i j rl (f_begins (f_dealt π σ 5 sd) 1)) 300 (f_begins (f_dealt π σ 5 sd))).1 ((f_q (f_rul i j rl (f_begins (f_dealt π σ 5 sd) 1)) 300 (f_begins (f_dealt π σ 5 sd))).1 1 - 1).toNat = true) ≤ g + 1
    omega
theorem f_gm_ok {W : (Int → Int) → Prop} (hW : PlOK W) (hG : GmOK W) {i j fr : Int} (hi : 0 ≤ i ∧ i ≤ 3) (hj : 0 ≤ j ∧ j ≤ 3) : ∀ (n : Nat) (g : Int) {x : GS}, GX W g x → GX W (g + n) (f_gm i j fr n g x) := by
  intro n
  induction n with
  | zero => intro g x h; rw [show g + ((0 : Nat) : Int) = g by omega]; exact h
  | succ n ih =>
    intro g x h
    unfold f_gm
    rw [show g + ((n + 1 : Nat) : Int) = g + 1 + n by omega]
    exact ih (g + 1) (f_gm1_ok hW hG hi hj h)
section M22
variable {G : GE} {I J : HI} {P : HP} {T : HT} {z : Nat} {m d : Nat} {Q : QT} {σ π ω bf rl : Int → Int}
theorem M_gamesOf (hs : shM G P T m) {W : (Int → Int) → Prop} (hW : PlOK W) (hG : GmOK W) (hw : W σ) {i j n fr : Int} (hi : 0 ≤ i ∧ i ≤ 3) (hj : 0 ≤ j ∧ j ≤ 3) (hn : 1 ≤ n ∧ n ≤ 30) (hfr : rg fr) (hr : ∀ a, 0 ≤ a → a < 6 → 0 ≤ rl a ∧ rl a ≤ 3)
    (hQ : ∀ x, x = f_gm i j fr n.toNat 0 (rl, π, ω 49, σ, 0, 0) → Q (some (iv x.2.2.2.2.2)) (gI I m (kr bf 0 σ 580) ω (x.1, x.2.1, x.2.2.1, br x.2.2.2.1 (kr bf 0 σ 580) 0 580, x.2.2.2.2.1, x.2.2.2.2.2)) J P T z) : MC G yX11_gamesOf (ws_ yX11_gamesOf cX11_gamesOf 9 (some FieldType.int)) (d + 7) 0 0 [.ref m, iv i, iv j, iv n, iv fr] (ur (ur (ur (ur (ur I (m + 20) rl) (m + 9) bf) (m + 21) π) m ω) (m + 2) σ) J P T z Q nX := by
  have hb := hs.b
  refine MC.of (by decide) (Nat.le_of_ble_eq_true rfl) ?_
  show PW G mX11_gamesOf (rmD (d + 7) 0 0) (MZ G Q nX 0 0) 0 0 (ur (ur (ur (ur (ur I (m + 20) rl) (m + 9) bf) (m + 21) π) m ω) (m + 2) σ) J P T z 0 [some (.ref m), some (iv i), some (iv j), some (iv n), some (iv fr), none, none, none, none] []
  have e9 : ∀ (rl bf π ω σ : Int → Int), ur (ur (ur (ur (ur I (m + 20) rl) (m + 9) bf) (m + 21) π) m ω) (m + 2) σ = ur (ur (ur (ur (ur I (m + 20) rl) (m + 21) π) m ω) (m + 9) bf) (m + 2) σ := fun rl bf π ω σ => by
    rw [ur_comm (a := m + 9) (b := m + 21) (by omega), ur_comm (a := m + 9) (b := m) (by omega)]
  have loop : ∀ (k : Nat) (g : Int) (x : GS) (l7 l8 : Option Value), 0 ≤ g → g ≤ n → n - g = k → GX W g x → (∀ y, y = f_gm i j fr k g x → ∀ l7 l8 : Option Value, PW G mX11_gamesOf (rmD (d + 7) 0 0) (MZ G Q nX 0 0) 0 0 (gI I m (kr bf 0 σ 580) ω y) J P T z 155 [some (.ref m), some (iv i), some (iv j), some (iv n), some (iv fr), some (iv y.2.2.2.2.2), some (iv n), l7, l8] []) → PW G mX11_gamesOf (rmD (d + 7) 0 0) (MZ G Q nX 0 0) 0 0 (gI I m (kr bf 0 σ 580) ω x) J P T z 15 [some (.ref m), some (iv i), some (iv j), some (iv n), some (iv fr), some (iv x.2.2.2.2.2), some (iv g), l7, l8] [] := by
    intro k
    induction k with
    | zero =>
      intro g x l7 l8 a b c hx kk
      have kk := kk _ rfl l7 l8
      refine r_iload (pc := 15) dX11_gamesOf_15 rfl ?_
      refine r_iload_n (pc := 17) dX11_gamesOf_17 rfl rfl ?_
      refine r_icmp_ge (pc := 18) 155 dX11_gamesOf_18 rfl (by omega) (by omega) (fun h18 => ?_) (fun h18 => ?_)
      · obtain rfl : g = n := by omega
        exact kk
      omega
    | succ k ih =>
      intro g x l7 l8 a b c hx kk
      obtain ⟨x1, x2, x3, x4⟩ := hx
      refine M_game1 hs hW hG hi hj (by omega) hfr x1 x2 x3 x4 l7 l8 fun l7 l8 => ?_
      exact ih (g + 1) _ l7 l8 (by omega) (by omega) (by omega) (f_gm1_ok hW hG hi hj ⟨x1, x2, x3, x4⟩) kk
  refine r_aload_n (pc := 0) dX11_gamesOf_0 rfl rfl ?_
  rw [e9]
  refine r_callV0 (pc := 1) (M_tries hs fe_i) im_X11_tries qs106 q2386 hs.o rfl dX11_gamesOf_1 (Nat.le_of_ble_eq_true rfl) (Nat.le_of_ble_eq_true rfl) rfl (k_fv ?_) (fun _ _ _ _ _ _ _ hx => no_x hx)
  rw [← e9]
  refine r_iconst (pc := 4) dX11_gamesOf_4 ?_
  refine r_istore5 (pc := 5) (Nat.le_of_ble_eq_true rfl) dX11_gamesOf_5 rfl ?_
  refine r_aload_n (pc := 7) dX11_gamesOf_7 rfl rfl ?_
  refine r_iconst (pc := 8) dX11_gamesOf_8 ?_
  refine r_puti (pc := 9) (c := 11) (k := 51) (kz := 51) hs.o cok_11 (Nat.le_of_ble_eq_true rfl) q1911 ⟨rfl, rfl⟩ (Or.inl rfl) rfl (by omega) rfl rfl (by omega) (fun _ _ _ => rfl) ⟨rfl, rfl⟩ dX11_gamesOf_9 ?_
  try simp (disch := omega) only [ui_ur, ui_ur_n, ur_sv, ur_nv, ui_sv, ui_nv, ui_uis, us_s, us_n]
  refine r_iconst (pc := 12) dX11_gamesOf_12 ?_
  refine r_istore6 (pc := 13) (Nat.le_of_ble_eq_true rfl) dX11_gamesOf_13 rfl ?_
  have st := loop n.toNat 0 (rl, π, ω 49, σ, 0, 0) none none (by omega) (by omega) (by omega) ⟨hw, hr, by show (0 : Int) ≤ 0 ∧ (0 : Int) ≤ 300 * 0; omega, by show (0 : Int) ≤ 0; omega, by show (0 : Int) ≤ 0; omega⟩
  have e0 : us (us ω 51 0) 49 (ω 49) = us ω 51 0 := us_id (by rw [us_n (by omega)])
  have e1 : gI I m (kr bf 0 σ 580) ω (rl, π, ω 49, σ, 0, 0) = ur (ur (ur (ur (ur I (m + 20) rl) (m + 9) (kr bf 0 σ 580)) (m + 21) π) m (us ω 51 0)) (m + 2) σ := by
    show ur (ur (ur (ur (ur I (m + 20) rl) (m + 9) (kr bf 0 σ 580)) (m + 21) π) m (us (us ω 51 0) 49 (ω 49))) (m + 2) σ = _
    rw [e0]
  rw [e1] at st
  refine st fun y hy l7 l8 => ?_
  have hQ := hQ y hy
  refine r_aload_n (pc := 155) dX11_gamesOf_155 rfl rfl ?_
  have ex := f_gm_ok hW hG (fr := fr) hi hj n.toNat 0 (x := (rl, π, ω 49, σ, 0, 0)) ⟨hw, hr, by show (0 : Int) ≤ 0 ∧ (0 : Int) ≤ 300 * 0; omega, by show (0 : Int) ≤ 0; omega, by show (0 : Int) ≤ 0; omega⟩
  rw [← hy] at ex
  show PW G mX11_gamesOf (rmD (d + 7) 0 0) (MZ G Q nX 0 0) 0 0 (ur (ur (ur (ur (ur I (m + 20) y.1) (m + 9) (kr bf 0 σ 580)) (m + 21) y.2.1) m (us (us ω 51 y.2.2.2.2.1) 49 y.2.2.1)) (m + 2) y.2.2.2.1) J P T z 156 [some (.ref m), some (iv i), some (iv j), some (iv n), some (iv fr), some (iv y.2.2.2.2.2), some (iv n), l7, l8] [.ref m]
  rw [e9]
  refine r_callV0 (pc := 156) (M_back hs fe_i) im_X11_back qs107 q2390 hs.o rfl dX11_gamesOf_156 (Nat.le_of_ble_eq_true rfl) (Nat.le_of_ble_eq_true rfl) rfl (k_fv ?_) (fun _ _ _ _ _ _ _ hx => no_x hx)
  rw [← e9]
  refine r_iload (pc := 159) dX11_gamesOf_159 rfl ?_
  refine r_ireturn (pc := 161) rfl rfl dX11_gamesOf_161 (Nat.le_of_ble_eq_true rfl) (Nat.le_of_ble_eq_true rfl) ?_
  exact hQ
end M22
