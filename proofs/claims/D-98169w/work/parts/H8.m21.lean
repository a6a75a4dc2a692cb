/-! ===== the model: games ===== -/
def f_q (rl : Int → Int) : Nat → (Int → Int) → (Int → Int) × Int
  | 0, σ => (σ, 0)
  | n + 1, σ =>
    if σ 4 = -1 then (σ, 0)
    else
      let to := f_bent σ (σ 4) (rl (σ 4))
      ((f_q rl n (f_asks σ (σ 4) (to / 100) (to % 100) 0).1).1, (f_q rl n (f_asks σ (σ 4) (to / 100) (to % 100) 0).1).2 + 1)
theorem f_pl_0 {rl : Int → Int} {m : Nat} : ∀ (n : Nat) (I : HI) (σ : Int → Int), f_pl rl 0 m n I σ = (I, f_q rl n σ) := by
  intro n
  induction n with
  | zero => intro I σ; rfl
  | succ n ih =>
    intro I σ
    unfold f_pl f_q
    split
    · rfl
    · simp only [if_neg (show ¬ (0 : Int) = 1 by decide), ih]
theorem f_q_W {W : (Int → Int) → Prop} (hW : PlOK W) {rl : Int → Int} (hr : ∀ a, 0 ≤ a → a < 6 → 0 ≤ rl a ∧ rl a ≤ 3) : ∀ (n : Nat) {σ : Int → Int}, W σ → W (f_q rl n σ).1 ∧ 0 ≤ (f_q rl n σ).2 ∧ (f_q rl n σ).2 ≤ n := by
  intro n
  induction n with
  | zero => intro σ h; exact ⟨h, show (0 : Int) ≤ 0 by decide, show (0 : Int) ≤ 0 by decide⟩
  | succ n ih =>
    intro σ h
    unfold f_q
    split
    · exact ⟨h, show (0 : Int) ≤ 0 by decide, by show (0 : Int) ≤ ((n + 1 : Nat) : Int); omega⟩
    · rename_i c
      obtain ⟨w1, w2, w3, w4, w5⟩ := hW σ h
      obtain ⟨a0, a1, w6⟩ := w5 c
      have r0 := hr (σ 4) a0 a1
      obtain ⟨b0, b1, b2, b3, b4, b5⟩ := w6 (rl (σ 4)) r0.1 r0.2
      have q := ih b5
      simp only
      exact ⟨q.1, by omega, by omega⟩
/-- the rules of a game: the first one's, the others' -/
def f_rul (i j : Int) (rl : Int → Int) (k : Int) : Int → Int := fun a => if 0 ≤ a ∧ a < k then (if a = 0 then i else j) else rl a
theorem f_rul_us {i j : Int} {rl : Int → Int} {k : Int} (h : 0 ≤ k) : us (f_rul i j rl k) k (if k = 0 then i else j) = f_rul i j rl (k + 1) := by
  funext a
  simp only [us, f_rul]
  by_cases e : a = k
  · subst e
    rw [if_pos rfl, if_pos (show 0 ≤ a ∧ a < a + 1 by omega)]
  · rw [if_neg e]
    by_cases q : 0 ≤ a ∧ a < k
    · rw [if_pos q, if_pos (show 0 ≤ a ∧ a < k + 1 by omega)]
    · rw [if_neg q, if_neg (show ¬ (0 ≤ a ∧ a < k + 1) by omega)]
theorem f_rul_0 {i j : Int} {rl : Int → Int} : f_rul i j rl 0 = rl := by
  funext a
  simp only [f_rul]
  rw [if_neg (by omega)]
/-- the first one has more books than each of the next n -/
def f_bst (σ : Int → Int) : Nat → Bool
  | 0 => true
  | n + 1 => f_bst σ n && decide (f_booksOf σ ((n + 1 : Nat) : Int) < f_booksOf σ 0)
/-- games: the rules, the pack, the seed, the state; askings and games won -/
abbrev GS := (Int → Int) × (Int → Int) × Int × (Int → Int) × Int × Int
def f_gm1 (i j sd : Int) (x : GS) : GS :=
  let y := f_shuffled x.2.1 x.2.2.2.1 sd
  let σ1 := f_begins (f_dealt x.2.1 x.2.2.2.1 5 sd)
  let r := f_q (f_rul i j x.1 (σ1 1)) 300 σ1
  (f_rul i j x.1 (σ1 1), y.1, y.2, r.1, x.2.2.2.2.1 + r.2, x.2.2.2.2.2 + bz (f_bst r.1 (r.1 1 - 1).toNat = true))
def f_gm (i j fr : Int) : Nat → Int → GS → GS
  | 0, _, x => x
  | n + 1, g, x => f_gm i j fr n (g + 1) (f_gm1 i j (wr (fr + g)) x)
def GmOK (W : (Int → Int) → Prop) : Prop := ∀ σ, W σ → (1 ≤ σ 0 ∧ σ 0 ≤ 13) ∧ (2 ≤ σ 1 ∧ σ 1 ≤ 6) ∧ 5 * σ 1 ≤ 4 * σ 0 ∧ ∀ π sd, BG (f_dealt π σ 5 sd) ∧ W (f_begins (f_dealt π σ 5 sd))
abbrev gI (I : HI) (m : Nat) (bf ω : Int → Int) (x : GS) : HI := ur (ur (ur (ur (ur I (m + 20) x.1) (m + 9) bf) (m + 21) x.2.1) m (us (us ω 51 x.2.2.2.2.1) 49 x.2.2.1)) (m + 2) x.2.2.2.1
section M21
variable {G : GE} {I J : HI} {P : HP} {T : HT} {z : Nat} {m d : Nat} {Q : QT} {σ π ω bf rl : Int → Int}
set_option maxHeartbeats 1000000 in
/-- one game -/
theorem M_game1 (hs : shM G P T m) {W : (Int → Int) → Prop} (hW : PlOK W) (hG : GmOK W) {i j n fr g : Int} (hi : 0 ≤ i ∧ i ≤ 3) (hj : 0 ≤ j ∧ j ≤ 3) (hg : 0 ≤ g ∧ g < n ∧ n ≤ 30) (hfr : rg fr) {x : GS} (hw : W x.2.2.2.1) (hr : ∀ a, 0 ≤ a → a < 6 → 0 ≤ x.1 a ∧ x.1 a ≤ 3) (hs5 : 0 ≤ x.2.2.2.2.1 ∧ x.2.2.2.2.1 ≤ 300 * g) (hwn : 0 ≤ x.2.2.2.2.2 ∧ x.2.2.2.2.2 ≤ g) (l7 l8 : Option Value)
    (kk : ∀ l7 l8 : Option Value, PW G mX11_gamesOf (rmD (d + 7) 0 0) (MZ G Q nX 0 0) 0 0 (gI I m bf ω (f_gm1 i j (wr (fr + g)) x)) J P T z 15 [some (.ref m), some (iv i), some (iv j), some (iv n), some (iv fr), some (iv (f_gm1 i j (wr (fr + g)) x).2.2.2.2.2), some (iv (g + 1)), l7, l8] []) : PW G mX11_gamesOf (rmD (d + 7) 0 0) (MZ G Q nX 0 0) 0 0 (gI I m bf ω x) J P T z 15 [some (.ref m), some (iv i), some (iv j), some (iv n), some (iv fr), some (iv x.2.2.2.2.2), some (iv g), l7, l8] [] := by
  have hb := hs.b
  obtain ⟨rl, π, s49, σ, as, won⟩ := x
  simp only at hw hr hs5 hwn
  obtain ⟨t0, t1, t2, t3⟩ := hG σ hw
  obtain ⟨t4, t5⟩ := t3 π (wr (fr + g))
  unfold f_gm1 at kk
  simp only at kk
  show PW G mX11_gamesOf (rmD (d + 7) 0 0) (MZ G Q nX 0 0) 0 0 (ur (ur (ur (ur (ur I (m + 20) rl) (m + 9) bf) (m + 21) π) m (us (us ω 51 as) 49 s49)) (m + 2) σ) J P T z 15 [some (.ref m), some (iv i), some (iv j), some (iv n), some (iv fr), some (iv won), some (iv g), l7, l8] []
  refine r_iload (pc := 15) dX11_gamesOf_15 rfl ?_
  refine r_iload_n (pc := 17) dX11_gamesOf_17 rfl rfl ?_
  refine r_icmp_ge (pc := 18) 155 dX11_gamesOf_18 rfl (by omega) (by omega) (fun h18 => ?_) (fun h18 => ?_)
  · omega
  refine r_aload_n (pc := 21) dX11_gamesOf_21 rfl rfl ?_
  refine r_iconst (pc := 22) dX11_gamesOf_22 ?_
  refine r_iload (pc := 23) dX11_gamesOf_23 rfl ?_
  refine r_iload (pc := 25) dX11_gamesOf_25 rfl ?_
  refine r_iadd (pc := 27) dX11_gamesOf_27 ?_
  rw [← iv_wr (x := fr + g)]
  refine r_callV2 (pc := 28) (M_deals hs (by omega) wr_r t0 (by omega) t2 t4 fe_i) im_X11_deals qs102 q2365 hs.o rfl dX11_gamesOf_28 (Nat.le_of_ble_eq_true rfl) (Nat.le_of_ble_eq_true rfl) rfl (k_fv ?_) (fun _ _ _ _ _ _ _ hx => no_x hx)
  rw [us_us]
  generalize f_shuffled π σ (wr (fr + g)) = y at *
  generalize f_begins (f_dealt π σ 5 (wr (fr + g))) = σ1 at *
  obtain ⟨u0, u1, u2, u3⟩ := hG σ1 t5
  have lr : ∀ (q : Nat) (k : Int), 0 ≤ k → k ≤ σ1 1 → σ1 1 - k < q → PW G mX11_gamesOf (rmD (d + 7) 0 0) (MZ G Q nX 0 0) 0 0 (ur (ur (ur (ur (ur I (m + 20) (f_rul i j rl (σ1 1))) (m + 9) bf) (m + 21) y.1) m (us (us ω 51 as) 49 y.2)) (m + 2) σ1) J P T z 68 [some (.ref m), some (iv i), some (iv j), some (iv n), some (iv fr), some (iv won), some (iv g), some (iv (σ1 1)), l8] [] → PW G mX11_gamesOf (rmD (d + 7) 0 0) (MZ G Q nX 0 0) 0 0 (ur (ur (ur (ur (ur I (m + 20) (f_rul i j rl k)) (m + 9) bf) (m + 21) y.1) m (us (us ω 51 as) 49 y.2)) (m + 2) σ1) J P T z 34 [some (.ref m), some (iv i), some (iv j), some (iv n), some (iv fr), some (iv won), some (iv g), some (iv k), l8] [] := by
    intro q
    induction q with
    | zero => intro k a b c; omega
    | succ q ih =>
      intro k a b c kk
      have nx := ih (k + 1)
      rw [← f_rul_us a] at nx
      refine r_iload (pc := 34) dX11_gamesOf_34 rfl ?_
      refine r_aload_n (pc := 36) dX11_gamesOf_36 rfl rfl ?_
      refine r_getr (pc := 37) (c := 11) (k := 6) (kz := 6) hs.o cok_11 (Nat.le_of_ble_eq_true rfl) q1866 ⟨rfl, rfl⟩ (Or.inl rfl) rfl (fun _ _ _ => rfl) hs.p_s dX11_gamesOf_37 ?_
      refine r_iconst (pc := 40) dX11_gamesOf_40 ?_
      refine r_iald (pc := 41) hs.t_s (by omega) (by omega) dX11_gamesOf_41 (fun hr41 => ?_)
      try simp (disch := omega) only [ui_ur, ui_ur_n, ur_sv, ur_nv, ui_sv, ui_nv, ui_uis, us_s, us_n] at hr41 ⊢
      refine r_icmp_ge (pc := 42) 68 dX11_gamesOf_42 rfl (by omega) (by omega) (fun h42 => ?_) (fun h42 => ?_)
      · obtain rfl : k = σ1 1 := by omega
        exact kk
      refine r_aload_n (pc := 45) dX11_gamesOf_45 rfl rfl ?_
      refine r_getr (pc := 46) (c := 11) (k := 48) (kz := 48) hs.o cok_11 (Nat.le_of_ble_eq_true rfl) q1908 ⟨rfl, rfl⟩ (Or.inl rfl) rfl (fun _ _ _ => rfl) hs.p_rules dX11_gamesOf_46 ?_
      refine r_iload (pc := 49) dX11_gamesOf_49 rfl ?_
      refine r_iload (pc := 51) dX11_gamesOf_51 rfl ?_
      refine r_if_ne (pc := 53) 60 dX11_gamesOf_53 rfl (by omega) (fun h53 => ?_) (fun h53 => ?_)
      · rw [if_neg h53] at nx
        refine r_iload_n (pc := 60) dX11_gamesOf_60 rfl rfl ?_
        refine r_iast (pc := 61) hs.t_rules (by omega) (by omega) (by omega) (by omega) dX11_gamesOf_61 ?_
        try simp (disch := omega) only [ui_ur, ui_ur_n, ur_sv, ur_nv, ui_sv, ui_nv, ui_uis, us_s, us_n]
        refine r_iinc7 (pc := 62) (Nat.le_of_ble_eq_true rfl) dX11_gamesOf_62 rfl ?_
        refine r_goto (pc := 65) 34 dX11_gamesOf_65 rfl ?_
        exact nx (by omega) (by omega) (by omega) kk
      rw [if_pos h53] at nx
      refine r_iload_n (pc := 56) dX11_gamesOf_56 rfl rfl ?_
      refine r_goto (pc := 57) 61 dX11_gamesOf_57 rfl ?_
      refine r_iast (pc := 61) hs.t_rules (by omega) (by omega) (by omega) (by omega) dX11_gamesOf_61 ?_
      try simp (disch := omega) only [ui_ur, ui_ur_n, ur_sv, ur_nv, ui_sv, ui_nv, ui_uis, us_s, us_n]
      refine r_iinc7 (pc := 62) (Nat.le_of_ble_eq_true rfl) dX11_gamesOf_62 rfl ?_
      refine r_goto (pc := 65) 34 dX11_gamesOf_65 rfl ?_
      exact nx (by omega) (by omega) (by omega) kk
  have lr := lr 7 0 (by omega) (by omega) (by omega)
  rw [f_rul_0] at lr
  refine r_iconst (pc := 31) dX11_gamesOf_31 ?_
  refine r_istore7 (pc := 32) (Nat.le_of_ble_eq_true rfl) dX11_gamesOf_32 rfl ?_
  refine lr ?_
  clear lr
  have hr2 : ∀ a, 0 ≤ a → a < 6 → 0 ≤ f_rul i j rl (σ1 1) a ∧ f_rul i j rl (σ1 1) a ≤ 3 := by
    intro a a0 a1
    unfold f_rul
    split
    · split <;> omega
    · exact hr a a0 a1
  have fq := f_q_W hW hr2 300 t5
  generalize f_rul i j rl (σ1 1) = rl2 at *
  have ei : (ur (ur (ur (ur I (m + 20) rl2) (m + 9) bf) (m + 21) y.1) m (us (us ω 51 as) 49 y.2)) (m + 20) = rl2 := by
    funext a
    simp (disch := omega) only [ur_nv, ur_sv]
  refine r_aload_n (pc := 68) dX11_gamesOf_68 rfl rfl ?_
  refine r_dup (pc := 69) dX11_gamesOf_69 rfl ?_
  refine r_geti (pc := 70) (c := 11) (k := 51) (kz := 51) hs.o cok_11 (Nat.le_of_ble_eq_true rfl) q1911 ⟨rfl, rfl⟩ (Or.inl rfl) rfl (fun _ _ _ => rfl) dX11_gamesOf_70 (fun hr70 => ?_)
  try simp (disch := omega) only [ui_ur, ui_ur_n, ur_sv, ur_nv, ui_sv, ui_nv, ui_uis, us_s, us_n] at hr70 ⊢
  refine r_aload_n (pc := 73) dX11_gamesOf_73 rfl rfl ?_
  refine r_sipush (pc := 74) dX11_gamesOf_74 (by decide +kernel) ?_
  refine r_iconst (pc := 77) dX11_gamesOf_77 ?_
  refine r_callV2 (pc := 78) (M_plays (told := 0) hs hW t5 (by omega) (by omega) hr2 (fun a _ _ => congrFun ei a) fe_i) im_X11_plays qs101 q2357 hs.o rfl dX11_gamesOf_78 (Nat.le_of_ble_eq_true rfl) (Nat.le_of_ble_eq_true rfl) rfl (k_fi ?_) (fun _ _ _ _ _ _ _ hx => no_x hx)
  rw [f_pl_0]
  simp only [show (300 : Int).toNat = 300 from rfl]
  generalize f_q rl2 300 σ1 = r at *
  obtain ⟨v0, v1, v2, v3⟩ := hG r.1 fq.1
  refine r_iadd (pc := 81) dX11_gamesOf_81 ?_
  refine r_puti (pc := 82) (c := 11) (k := 51) (kz := 51) hs.o cok_11 (Nat.le_of_ble_eq_true rfl) q1911 ⟨rfl, rfl⟩ (Or.inl rfl) rfl (by omega) rfl rfl (by omega) (fun _ _ _ => rfl) ⟨rfl, rfl⟩ dX11_gamesOf_82 ?_
  try simp (disch := omega) only [ui_ur, ui_ur_n, ur_sv, ur_nv, ui_sv, ui_nv, ui_uis, us_s, us_n]
  refine r_iconst (pc := 85) dX11_gamesOf_85 ?_
  refine r_istore7 (pc := 86) (Nat.le_of_ble_eq_true rfl) dX11_gamesOf_86 rfl ?_
  refine r_iconst (pc := 88) dX11_gamesOf_88 ?_
  refine r_istore8 (pc := 89) (Nat.le_of_ble_eq_true rfl) dX11_gamesOf_89 rfl ?_
  have e51 : us (us (us ω 51 as) 49 y.2) 51 (as + r.2) = us (us ω 51 (as + r.2)) 49 y.2 := by
    rw [us_comm (by omega), us_us]
  rw [e51]
  have fin : ∀ l7 l8 : Option Value, PW G mX11_gamesOf (rmD (d + 7) 0 0) (MZ G Q nX 0 0) 0 0 (ur (ur (ur (ur (ur I (m + 20) rl2) (m + 9) bf) (m + 21) y.1) m (us (us ω 51 (as + r.2)) 49 y.2)) (m + 2) r.1) J P T z 146 [some (.ref m), some (iv i), some (iv j), some (iv n), some (iv fr), some (iv won), some (iv g), l7, l8] [iv (bz (f_bst r.1 (r.1 1 - 1).toNat = true)), iv won] := by
    intro l7 l8
    refine r_iadd (pc := 146) dX11_gamesOf_146 ?_
    refine r_istore5 (pc := 147) (Nat.le_of_ble_eq_true rfl) dX11_gamesOf_147 rfl ?_
    refine r_iinc6 (pc := 149) (Nat.le_of_ble_eq_true rfl) dX11_gamesOf_149 rfl ?_
    refine r_goto (pc := 152) 15 dX11_gamesOf_152 rfl ?_
    exact kk l7 l8
  have lb : ∀ (q : Nat) (k : Int), 1 ≤ k → k ≤ r.1 1 → r.1 1 - k < q → PW G mX11_gamesOf (rmD (d + 7) 0 0) (MZ G Q nX 0 0) 0 0 (ur (ur (ur (ur (ur I (m + 20) rl2) (m + 9) bf) (m + 21) y.1) m (us (us ω 51 (as + r.2)) 49 y.2)) (m + 2) r.1) J P T z 91 [some (.ref m), some (iv i), some (iv j), some (iv n), some (iv fr), some (iv won), some (iv g), some (iv (bz (f_bst r.1 (k - 1).toNat = true))), some (iv k)] [] := by
    intro q
    induction q with
    | zero => intro k a b c; omega
    | succ q ih =>
      intro k a b c
      refine r_iload (pc := 91) dX11_gamesOf_91 rfl ?_
      refine r_aload_n (pc := 93) dX11_gamesOf_93 rfl rfl ?_
      refine r_getr (pc := 94) (c := 11) (k := 6) (kz := 6) hs.o cok_11 (Nat.le_of_ble_eq_true rfl) q1866 ⟨rfl, rfl⟩ (Or.inl rfl) rfl (fun _ _ _ => rfl) hs.p_s dX11_gamesOf_94 ?_
      refine r_iconst (pc := 97) dX11_gamesOf_97 ?_
      refine r_iald (pc := 98) hs.t_s (by omega) (by omega) dX11_gamesOf_98 (fun hr98 => ?_)
      try simp (disch := omega) only [ui_ur, ui_ur_n, ur_sv, ur_nv, ui_sv, ui_nv, ui_uis, us_s, us_n] at hr98 ⊢
      refine r_icmp_ge (pc := 99) 134 dX11_gamesOf_99 rfl (by omega) (by omega) (fun h99 => ?_) (fun h99 => ?_)
      · obtain rfl : k = r.1 1 := by omega
        refine r_iload (pc := 134) dX11_gamesOf_134 rfl ?_
        refine r_iload (pc := 136) dX11_gamesOf_136 rfl ?_
        refine r_if_eq (pc := 138) 145 dX11_gamesOf_138 rfl bz_g (fun h138 => ?_) (fun h138 => ?_)
        · rw [h138] at fin
          refine r_iconst (pc := 145) dX11_gamesOf_145 ?_
          exact fin _ _
        have b1 := bz_ne.mp h138
        rw [bz_t b1] at fin
        refine r_iconst (pc := 141) dX11_gamesOf_141 ?_
        refine r_goto (pc := 142) 146 dX11_gamesOf_142 rfl ?_
        rw [bz_t b1]
        exact fin _ _
      have nx := ih (k + 1) (by omega) (by omega) (by omega)
      have eb : f_bst r.1 (k + 1 - 1).toNat = (f_bst r.1 (k - 1).toNat && decide (f_booksOf r.1 k < f_booksOf r.1 0)) := by
        rw [show (k + 1 - 1).toNat = (k - 1).toNat + 1 by omega]
        show (f_bst r.1 (k - 1).toNat && decide (f_booksOf r.1 (((k - 1).toNat + 1 : Nat) : Int) < f_booksOf r.1 0)) = _
        rw [show (((k - 1).toNat + 1 : Nat) : Int) = k by omega]
      rw [eb] at nx
      have off : ¬ ((f_bst r.1 (k - 1).toNat && decide (f_booksOf r.1 k < f_booksOf r.1 0)) = true) → PW G mX11_gamesOf (rmD (d + 7) 0 0) (MZ G Q nX 0 0) 0 0 (ur (ur (ur (ur (ur I (m + 20) rl2) (m + 9) bf) (m + 21) y.1) m (us (us ω 51 (as + r.2)) 49 y.2)) (m + 2) r.1) J P T z 125 [some (.ref m), some (iv i), some (iv j), some (iv n), some (iv fr), some (iv won), some (iv g), some (iv (bz (f_bst r.1 (k - 1).toNat = true))), some (iv k)] [] := by
        intro hc
        rw [bz_f hc] at nx
        refine r_iconst (pc := 125) dX11_gamesOf_125 ?_
        refine r_istore7 (pc := 126) (Nat.le_of_ble_eq_true rfl) dX11_gamesOf_126 rfl ?_
        refine r_iinc8 (pc := 128) (Nat.le_of_ble_eq_true rfl) dX11_gamesOf_128 rfl ?_
        refine r_goto (pc := 131) 91 dX11_gamesOf_131 rfl ?_
        exact nx
      refine r_iload (pc := 102) dX11_gamesOf_102 rfl ?_
      refine r_if_eq (pc := 104) 125 dX11_gamesOf_104 rfl bz_g (fun h104 => ?_) (fun h104 => ?_)
      · have := bz_0.mp h104
        exact off (fun q => this (by simp only [Bool.and_eq_true] at q; exact q.1))
      have b1 := bz_ne.mp h104
      refine r_aload_n (pc := 107) dX11_gamesOf_107 rfl rfl ?_
      refine r_iconst (pc := 108) dX11_gamesOf_108 ?_
      refine r_callV1 (pc := 109) (M_booksOf hs (by omega) fe_i) im_X11_booksOf qs81 q2185 hs.o rfl dX11_gamesOf_109 (Nat.le_of_ble_eq_true rfl) (Nat.le_of_ble_eq_true rfl) rfl (k_fi ?_) (fun _ _ _ _ _ _ _ hx => no_x hx)
      refine r_aload_n (pc := 112) dX11_gamesOf_112 rfl rfl ?_
      refine r_iload (pc := 113) dX11_gamesOf_113 rfl ?_
      refine r_callV1 (pc := 115) (M_booksOf hs (by omega) fe_i) im_X11_booksOf qs81 q2185 hs.o rfl dX11_gamesOf_115 (Nat.le_of_ble_eq_true rfl) (Nat.le_of_ble_eq_true rfl) rfl (k_fi ?_) (fun _ _ _ _ _ _ _ hx => no_x hx)
      have r1 := f_booksOf_r (σ := r.1) (k := 0)
      have r2 := f_booksOf_r (σ := r.1) (k := k)
      refine r_icmp_le (pc := 118) 125 dX11_gamesOf_118 rfl (by omega) (by omega) (fun h118 => ?_) (fun h118 => ?_)
      · refine off ?_
        simp only [Bool.and_eq_true, decide_eq_true_eq]
        omega
      rw [bz_t (by simp only [Bool.and_eq_true, decide_eq_true_eq]; exact ⟨b1, by omega⟩)] at nx
      refine r_iconst (pc := 121) dX11_gamesOf_121 ?_
      refine r_goto (pc := 122) 126 dX11_gamesOf_122 rfl ?_
      refine r_istore7 (pc := 126) (Nat.le_of_ble_eq_true rfl) dX11_gamesOf_126 rfl ?_
      refine r_iinc8 (pc := 128) (Nat.le_of_ble_eq_true rfl) dX11_gamesOf_128 rfl ?_
      refine r_goto (pc := 131) 91 dX11_gamesOf_131 rfl ?_
      exact nx
  have lb := lb 7 1 (by omega) (by omega) (by omega)
  rw [show ((1 : Int) - 1).toNat = 0 from rfl, bz_t (show f_bst r.1 0 = true from rfl)] at lb
  exact lb
end M21
