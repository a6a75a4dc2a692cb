/-! ===== the model: operands, what is behind them, sentences ===== -/
section M31p
variable {τ ρ : Int → Int} {n : Nat} {s : TS} {O : List CD} {S : List Int} {o d : Int} {Y Y' : YS}
theorem jn_mem {t x : Int} : ∀ {S : List Int} {O : List CD}, x ∈ (y_jn t S O).2 → x ∈ S
  | [], O, h => by unfold y_jn at h; exact h
  | c :: S, O, h => by
    unfold y_jn at h
    split at h
    · exact List.mem_cons_of_mem _ (jn_mem h)
    · exact h
theorem nt_mem {x : Int} : ∀ {S : List Int} {O : List CD} {d : Int}, x ∈ (y_nt S O d).2.1 → x ∈ S
  | [], O, d, h => by unfold y_nt at h; exact h
  | c :: S, O, d, h => by
    unfold y_nt at h
    split at h
    · exact List.mem_cons_of_mem _ (nt_mem h)
    · exact h
/-- what is left to read -/
def Mz (s : TS) : Int := s.1 3 - s.1 4 + (if s.1 11 = 0 ∨ s.1 11 = 4 then 0 else 1)
theorem nx_m (h : TI s.1) (h0 : s.1 11 ≠ 0) (h4 : s.1 11 ≠ 4) : Mz (g_nx τ s) < Mz s := by
  have g := h.go (τ := τ) (w := s.2.1)
  have g1 : s.1 4 ≤ (g_nx τ s).1 4 := g.1
  have g2 : (g_nx τ s).1 11 ≠ 0 → (g_nx τ s).1 11 ≠ 4 → s.1 4 < (g_nx τ s).1 4 := g.2.1
  have g3 : (g_nx τ s).1 3 = s.1 3 := g.2.2
  unfold Mz
  rw [if_neg (show ¬ (s.1 11 = 0 ∨ s.1 11 = 4) by omega)]
  split
  · omega
  · rename_i c
    have := g2 (by omega) (by omega)
    omega
theorem Mz_r (h : TI s.1) : 0 ≤ Mz s ∧ Mz s ≤ 941 := by
  have h1 := h.1; have h2 := h.2.1; have h3 := h.2.2.1
  unfold Mz
  split <;> omega
def Sx (S : List Int) : Prop := ∀ x ∈ S, 10 ≤ x ∧ x ≤ 13
theorem leaf_m {l : Int} (h : TI s.1) (hl : 0 ≤ l ∧ l ≤ 6) (h1 : (s_leaf τ ρ n l s 0).1 ≠ 0) : TI (s_leaf τ ρ n l s 0).2.1.1 ∧ Mz (s_leaf τ ρ n l s 0).2.1 ≤ Mz s ∧ (s_leaf τ ρ n l s 0).2.2.2.length = 1 := by
  unfold s_leaf at h1 ⊢
  split at h1
  · rename_i c
    rw [if_pos c]
    exact ⟨h, Int.le_refl _, rfl⟩
  · rename_i c
    rw [if_neg c]
    split at h1
    · rename_i c2
      rw [if_pos c2]
      unfold s_who at h1 ⊢
      split at h1
      · exact absurd rfl h1
      · rename_i c3
        rw [if_neg c3]
        split at h1
        · exact absurd rfl h1
        · rename_i c4
          rw [if_neg c4]
          have c3 := (Decidable.not_not.mp c3).1
          have := nx_m (τ := τ) h (by omega) (by omega)
          exact ⟨h.nx, by show Mz (g_nx τ s) ≤ Mz s; omega, rfl⟩
    · rename_i c2
      rw [if_neg c2]
      unfold s_than at h1 ⊢
      split at h1
      · exact absurd rfl h1
      · rename_i c3
        rw [if_neg c3]
        split at h1
        · exact absurd rfl h1
        · rename_i c4
          rw [if_neg c4]
          have c3 := (Decidable.not_not.mp c3).1
          have w1 : TI (g_nx τ s).1 := h.nx
          have a := nx_m (τ := τ) h (by omega) (by omega)
          have b := nx_m (τ := τ) w1 (by omega) (by omega)
          exact ⟨w1.nx, by show Mz (g_nx τ (g_nx τ s)) ≤ Mz s; omega, rfl⟩
theorem opn_t (h : opn s) : s.1 11 = 1 ∨ s.1 11 = 3 := by
  rcases h with q | q | q
  · exact Or.inl q.1
  · exact Or.inr q.1
  · refine Or.inl (Classical.byContradiction fun c => ?_)
    unfold lf isW at q
    simp only [c, false_and, if_false] at q
    omega
theorem opd_ok (h : YI (s, O, S, d, o, 0)) (hx : Sx S) (e : (y_opd τ ρ n (s, O, S, d, o, 0)).1 = some Y') : YI Y' ∧ Sx Y'.2.2.1 ∧ Mz Y'.1 < Mz s := by
  obtain ⟨h1, h2, h3, h4, h5, h6⟩ := h
  dsimp only at h1 h2 h3 h4 h5 h6
  unfold y_opd at e
  dsimp only at e
  split at e
  · cases e
  · rename_i c
    have c := opn_t (Decidable.not_not.mp c)
    have m1 := nx_m (τ := τ) h1 (by omega) (by omega)
    have w1 : TI (g_nx τ s).1 := h1.nx
    split at e
    · cases e
    · rename_i c2
      split at e
      · cases e
        exact ⟨⟨w1, by dsimp only; omega, Or.inl rfl, by dsimp only; simp only [List.length_cons]; omega, by dsimp only; omega, by dsimp only; simp only [List.length_cons]; omega⟩, fun x q => by rcases List.mem_cons.mp q with q | q; omega; exact hx x q, m1⟩
      · split at e
        · cases e
          exact ⟨⟨w1, by dsimp only; omega, Or.inl rfl, by dsimp only; simp only [List.length_cons]; omega, by dsimp only; omega, by dsimp only; simp only [List.length_cons]; omega⟩, fun x q => by rcases List.mem_cons.mp q with q | q; omega; exact hx x q, m1⟩
        · rename_i c3 c4
          split at e
          · cases e
          · rename_i c5
            have hl : 0 ≤ lf s := by
              rcases Decidable.not_not.mp ‹¬¬opn s› with q | q | q
              · exact absurd q c3
              · exact absurd q c4
              · exact q
            obtain ⟨l1, l2, l3⟩ := leaf_m (τ := τ) (ρ := ρ) (n := n) (l := lf s) w1 ⟨hl, lf_r.2⟩ c5
            cases e
            exact ⟨⟨l1, by dsimp only; omega, Or.inr rfl, by dsimp only; simp only [List.length_append]; omega, by dsimp only; omega, by dsimp only; omega⟩, hx, by dsimp only; omega⟩
theorem bhd_ok (h : YI (s, O, S, d, o, 1)) (hx : Sx S) (e : (y_bhd τ s o (y_nt S O d)).1 = some Y') : YI Y' ∧ Sx Y'.2.2.1 ∧ Mz Y'.1 < Mz s := by
  obtain ⟨h1, h2, h3, h4, h5, h6⟩ := h
  dsimp only at h1 h2 h3 h4 h5 h6
  have nl := nt_len (S := S) (O := O) (d := d)
  have hx1 : Sx (y_nt S O d).2.1 := fun x q => hx x (nt_mem q)
  have w1 : TI (g_nx τ s).1 := h1.nx
  unfold y_bhd at e
  generalize y_nt S O d = N at *
  have j1 := jn_len (t := 11) (S := N.2.1) (O := N.1)
  have j2 := jn_len (t := 12) (S := N.2.1) (O := N.1)
  split at e
  · rename_i c
    have m1 := nx_m (τ := τ) h1 (by have := c.1; omega) (by have := c.1; omega)
    cases e
    exact ⟨⟨w1, h2, Or.inl rfl, by dsimp only; simp only [List.length_cons]; omega, by dsimp only; omega, by dsimp only; simp only [List.length_cons]; omega⟩, fun x q => by rcases List.mem_cons.mp q with q | q; omega; exact hx1 x (jn_mem q), m1⟩
  · split at e
    · rename_i c
      have m1 := nx_m (τ := τ) h1 (by have := c.1; omega) (by have := c.1; omega)
      cases e
      exact ⟨⟨w1, h2, Or.inl rfl, by dsimp only; simp only [List.length_cons]; omega, by dsimp only; omega, by dsimp only; simp only [List.length_cons]; omega⟩, fun x q => by rcases List.mem_cons.mp q with q | q; omega; exact hx1 x (jn_mem q), m1⟩
    · split at e
      · cases e
      · rename_i c
        have c41 : isG 41 s := Classical.byContradiction fun q => c (Or.inl q)
        have cne : (y_jn 12 N.2.1 N.1).2 ≠ [] := fun q => c (Or.inr q)
        have m1 := nx_m (τ := τ) h1 (by have := c41.1; omega) (by have := c41.1; omega)
        have tl : (y_jn 12 N.2.1 N.1).2.tail.length + 1 = (y_jn 12 N.2.1 N.1).2.length := by
          rw [List.length_tail]
          have := List.length_pos_iff.mpr cne
          omega
        cases e
        exact ⟨⟨w1, h2, Or.inr rfl, by dsimp only; omega, by dsimp only; omega, by dsimp only; omega⟩, fun x q => hx1 x (jn_mem (List.mem_of_mem_tail q)), m1⟩
theorem leaf_f {l : Int} (h : TI s.1) (h0 : (s_leaf τ ρ n l s 0).1 = 0) : 0 ≤ (s_leaf τ ρ n l s 0).2.1.1 16 ∧ (s_leaf τ ρ n l s 0).2.1.1 16 ≤ 940 := by
  unfold s_leaf at h0 ⊢
  split at h0
  · exact absurd (show (1 : Int) = 0 from h0) (by decide)
  · rename_i c
    rw [if_neg c]
    split at h0
    · rename_i c2
      rw [if_pos c2]
      unfold s_who at h0 ⊢
      split at h0
      · rename_i c3; rw [if_pos c3]; exact bad16 h
      · rename_i c3
        rw [if_neg c3]
        split at h0
        · rename_i c4; rw [if_pos c4]; exact bad16 h
        · exact absurd (show (1 : Int) = 0 from h0) (by decide)
    · rename_i c2
      rw [if_neg c2]
      unfold s_than at h0 ⊢
      split at h0
      · rename_i c3; rw [if_pos c3]; exact bad16 h
      · rename_i c3
        rw [if_neg c3]
        split at h0
        · rename_i c4; rw [if_pos c4]; exact bad16 (show TI (g_nx τ s).1 from h.nx)
        · exact absurd (show (1 : Int) = 0 from h0) (by decide)
/-- ends that are faults -/
theorem opd_f (h : YI (s, O, S, d, o, 0)) (e : (y_opd τ ρ n (s, O, S, d, o, 0)).1 = none) : y_opd τ ρ n (s, O, S, d, o, 0) = (none, (0, (y_opd τ ρ n (s, O, S, d, o, 0)).2.2.1, 0, [])) ∧ 0 ≤ (y_opd τ ρ n (s, O, S, d, o, 0)).2.2.1.1 16 ∧ (y_opd τ ρ n (s, O, S, d, o, 0)).2.2.1.1 16 ≤ 940 := by
  have h1 : TI s.1 := h.1
  unfold y_opd at e ⊢
  dsimp only at e ⊢
  split at e
  · rename_i c; rw [if_pos c]; exact ⟨rfl, bad16 h1⟩
  · rename_i c
    rw [if_neg c]
    split at e
    · rename_i c; rw [if_pos c]; exact ⟨rfl, bad16 h1⟩
    · rename_i c
      rw [if_neg c]
      split at e
      · cases e
      · rename_i c
        rw [if_neg c]
        split at e
        · cases e
        · rename_i c
          rw [if_neg c]
          split at e
          · rename_i c; rw [if_pos c]; exact ⟨rfl, leaf_f (show TI (g_nx τ s).1 from h1.nx) c⟩
          · cases e
theorem bhd_f {N : List CD × List Int × Int} (h : TI s.1) (e : (y_bhd τ s o N).1 = none) : y_bhd τ s o N = (none, (0, (y_bhd τ s o N).2.2.1, 0, [])) ∧ 0 ≤ (y_bhd τ s o N).2.2.1.1 16 ∧ (y_bhd τ s o N).2.2.1.1 16 ≤ 940 := by
  unfold y_bhd at e ⊢
  split at e
  · cases e
  · rename_i c
    rw [if_neg c]
    split at e
    · cases e
    · rename_i c
      rw [if_neg c]
      split at e
      · rename_i c; rw [if_pos c]; exact ⟨rfl, bad16 h⟩
      · cases e
/-- the codes as they lie behind the game -/
def CDR (σ : Int → Int) (L : List CD) : Prop := σ 584 = (L.length : Int) ∧ RL (fun j => σ (585 + j)) L
/-- a sentence's start -/
def g_s0 (s : TS) : TS := (us (us (us (us (us (us s.1 0 0) 3 (s.1 2)) 2 0) 4 0) 5 200) 15 0, s.2)
def cp3 (rd σ : Int → Int) (k : Int) : Int → Int := fun j => if 585 ≤ j ∧ j < 585 + k then rd (j - 585) else σ j
theorem cp3_us {rd σ : Int → Int} {k : Int} (h : 0 ≤ k) : us (cp3 rd σ k) (585 + k) (rd k) = cp3 rd σ (k + 1) := by
  funext j
  simp only [us, cp3]
  by_cases e : j = 585 + k
  · rw [if_pos e, if_pos (by omega), e, show 585 + k - 585 = k by omega]
  · rw [if_neg e]
    by_cases q : 585 ≤ j ∧ j < 585 + k
    · rw [if_pos q, if_pos (by omega)]
    · rw [if_neg q, if_neg (by omega)]
theorem cp3_0 {rd σ : Int → Int} : cp3 rd σ 0 = σ := by
  funext j
  simp only [cp3]
  rw [if_neg (by omega)]
theorem cp3_cdr {rd σ : Int → Int} {L : List CD} (h : RL rd L) : CDR (cp3 rd (us σ 584 (L.length : Int)) (3 * (L.length : Int))) L := by
  refine ⟨?_, fun i c hc => ?_⟩
  · unfold cp3
    rw [if_neg (by omega), us_s]
  · have hi : i < L.length := (List.getElem?_eq_some_iff.mp hc).1
    have := h i c hc
    dsimp only
    unfold cp3
    rw [if_pos (by omega), if_pos (by omega), if_pos (by omega)]
    rw [show 585 + 3 * (i : Int) - 585 = 3 * (i : Int) by omega, show 585 + (3 * (i : Int) + 1) - 585 = 3 * (i : Int) + 1 by omega, show 585 + (3 * (i : Int) + 2) - 585 = 3 * (i : Int) + 2 by omega]
    exact this
end M31p
section M31
variable {G : GE} {I J : HI} {P : HP} {T : HT} {z : Nat} {m dd : Nat} {Q : QT} {σ τ ρ rd st : Int → Int} {s : TS} {c o t d w : Int} {O : List CD} {S : List Int}
set_option maxHeartbeats 1000000 in
theorem Y_operand (hs : shM G P T m) (hτ : I (m + 1) = τ) (hρ : J (m + 6) = ρ) (hy : YI (s, O, S, d, o, 0)) (hk : KL st S) (hr : RL rd O) (h1 : 0 ≤ σ 1 ∧ σ 1 ≤ 6)
    (hQ1 : ∀ Y', (y_opd τ ρ (σ 1).toNat (s, O, S, d, o, 0)).1 = some Y' → ∀ rd' st', RL rd' Y'.2.1 → KL st' Y'.2.2.1 → Q (some (iv 1)) (yH I m st' σ rd' Y'.1 (Y'.2.1.length : Int) Y'.2.2.2.2.1 (Y'.2.2.1.length : Int) Y'.2.2.2.1 Y'.2.2.2.2.2) (hJ J m Y'.1) P T z)
    (hQ0 : (y_opd τ ρ (σ 1).toNat (s, O, S, d, o, 0)).1 = none → ∀ c' o' w', Q (some (iv 0)) (yH I m st σ rd (y_opd τ ρ (σ 1).toNat (s, O, S, d, o, 0)).2.2.1 c' o' (S.length : Int) d w') (hJ J m (y_opd τ ρ (σ 1).toNat (s, O, S, d, o, 0)).2.2.1) P T z) : MC G yX11_operand (ws_ yX11_operand cX11_operand 5 (some FieldType.boolean)) (dd + 2) 0 0 [.ref m] (yH I m st σ rd s (O.length : Int) o (S.length : Int) d 0) (hJ J m s) P T z Q nX := by
  have hb := hs.b
  obtain ⟨y1, y2, y3, y4, y5', y6⟩ := hy
  dsimp only at y1 y2 y3 y4 y5' y6
  refine MC.of (by decide) (Nat.le_of_ble_eq_true rfl) ?_
  show PW G mX11_operand (rmD (dd + 2) 0 0) (MZ G Q nX 0 0) 0 0 (yH I m st σ rd s (O.length : Int) o (S.length : Int) d 0) (hJ J m s) P T z 0 [some (.ref m), none, none, none, none] []
  unfold y_opd at hQ1 hQ0
  dsimp only at hQ1 hQ0
  refine r_aload_n (pc := 0) dX11_operand_0 rfl rfl ?_
  refine r_ldc2 (pc := 1) (x := 7237492) q1852 dX11_operand_1 (by decide +kernel) ?_
  refine r_callV1 (pc := 4) (Y_isW (J := J) hs (by omega) fe_i) im_X11_isWord qs60 q2083 hs.o rfl dX11_operand_4 (Nat.le_of_ble_eq_true rfl) (Nat.le_of_ble_eq_true rfl) rfl (k_fi ?_) (fun _ _ _ _ _ _ _ hx => no_x hx)
  refine r_istore_n1 (pc := 7) (Nat.le_of_ble_eq_true rfl) dX11_operand_7 rfl ?_
  refine r_aload_n (pc := 8) dX11_operand_8 rfl rfl ?_
  refine r_bipush (pc := 9) dX11_operand_9 (by decide +kernel) ?_
  refine r_callV1 (pc := 11) (Y_isG (J := J) hs (by omega) fe_i) im_X11_isSign qs67 q2114 hs.o rfl dX11_operand_11 (Nat.le_of_ble_eq_true rfl) (Nat.le_of_ble_eq_true rfl) rfl (k_fi ?_) (fun _ _ _ _ _ _ _ hx => no_x hx)
  refine r_istore_n2 (pc := 14) (Nat.le_of_ble_eq_true rfl) dX11_operand_14 rfl ?_
  refine r_aload_n (pc := 15) dX11_operand_15 rfl rfl ?_
  refine r_callV0 (pc := 16) (Y_leafOf (J := J) hs fe_i) im_X11_leafOf qs114 q2442 hs.o rfl dX11_operand_16 (Nat.le_of_ble_eq_true rfl) (Nat.le_of_ble_eq_true rfl) rfl (k_fi ?_) (fun _ _ _ _ _ _ _ hx => no_x hx)
  have lr := lf_r (s := s)
  have b1 := bz_r (p := isW 7237492 s)
  have b2 := bz_r (p := isG 40 s)
  have yes : opn s → PW G mX11_operand (rmD (dd + 2) 0 0) (MZ G Q nX 0 0) 0 0 (yH I m st σ rd s (O.length : Int) o (S.length : Int) d 0) (hJ J m s) P T z 38 [some (.ref m), some (iv (bz (isW 7237492 s))), some (iv (bz (isG 40 s))), some (iv (lf s)), none] [] := by
    intro hop
    have tk := opn_t hop
    rw [if_neg (fun q => q hop)] at hQ1 hQ0
    have bad4 : (o = 20 ∨ 8 < d) → PW G mX11_operand (rmD (dd + 2) 0 0) (MZ G Q nX 0 0) 0 0 (yH I m st σ rd s (O.length : Int) o (S.length : Int) d 0) (hJ J m s) P T z 56 [some (.ref m), some (iv (bz (isW 7237492 s))), some (iv (bz (isG 40 s))), some (iv (lf s)), none] [] := by
      intro q
      rw [if_pos q] at hQ0
      refine r_aload_n (pc := 56) dX11_operand_56 rfl rfl ?_
      refine r_iconst (pc := 57) dX11_operand_57 ?_
      refine r_callV1 (pc := 58) (Y_bad (J := J) hs (by omega) fe_i) im_X11_bad qs61 q2087 hs.o rfl dX11_operand_58 (Nat.le_of_ble_eq_true rfl) (Nat.le_of_ble_eq_true rfl) rfl (k_fi ?_) (fun _ _ _ _ _ _ _ hx => no_x hx)
      refine r_ireturn (pc := 61) rfl (nb_z (by omega)) dX11_operand_61 (Nat.le_of_ble_eq_true rfl) (Nat.le_of_ble_eq_true rfl) ?_
      exact hQ0 rfl _ _ _
    refine r_aload_n (pc := 38) dX11_operand_38 rfl rfl ?_
    refine r_geti (pc := 39) (c := 11) (k := 57) (kz := 57) hs.o cok_11 (Nat.le_of_ble_eq_true rfl) q1917 ⟨rfl, rfl⟩ (Or.inl rfl) rfl (fun _ _ _ => rfl) dX11_operand_39 (fun hr39 => ?_)
    try simp (disch := omega) only [ui_ur, ui_ur_n, ur_sv, ur_nv, ui_sv, ui_nv, ui_uis, us_s, us_n] at hr39 ⊢
    refine r_bipush (pc := 42) dX11_operand_42 (by decide +kernel) ?_
    refine r_icmp_eq (pc := 44) 56 dX11_operand_44 rfl (by omega) (by omega) (fun h44 => ?_) (fun h44 => ?_)
    · exact bad4 (Or.inl h44)
    refine r_aload_n (pc := 47) dX11_operand_47 rfl rfl ?_
    refine r_geti (pc := 48) (c := 11) (k := 59) (kz := 59) hs.o cok_11 (Nat.le_of_ble_eq_true rfl) q1919 ⟨rfl, rfl⟩ (Or.inl rfl) rfl (fun _ _ _ => rfl) dX11_operand_48 (fun hr48 => ?_)
    try simp (disch := omega) only [ui_ur, ui_ur_n, ur_sv, ur_nv, ui_sv, ui_nv, ui_uis, us_s, us_n] at hr48 ⊢
    refine r_bipush (pc := 51) dX11_operand_51 (by decide +kernel) ?_
    refine r_icmp_le (pc := 53) 62 dX11_operand_53 rfl (by omega) (by omega) (fun h53 => ?_) (fun h53 => ?_)
    · rw [if_neg (by omega)] at hQ1 hQ0
      refine r_aload_n (pc := 62) dX11_operand_62 rfl rfl ?_
      refine r_dup (pc := 63) dX11_operand_63 rfl ?_
      refine r_geti (pc := 64) (c := 11) (k := 57) (kz := 57) hs.o cok_11 (Nat.le_of_ble_eq_true rfl) q1917 ⟨rfl, rfl⟩ (Or.inl rfl) rfl (fun _ _ _ => rfl) dX11_operand_64 (fun hr64 => ?_)
      try simp (disch := omega) only [ui_ur, ui_ur_n, ur_sv, ur_nv, ui_sv, ui_nv, ui_uis, us_s, us_n] at hr64 ⊢
      refine r_iconst (pc := 67) dX11_operand_67 ?_
      refine r_iadd (pc := 68) dX11_operand_68 ?_
      refine r_puti (pc := 69) (c := 11) (k := 57) (kz := 57) hs.o cok_11 (Nat.le_of_ble_eq_true rfl) q1917 ⟨rfl, rfl⟩ (Or.inl rfl) rfl (by omega) rfl rfl (by omega) (fun _ _ _ => rfl) ⟨rfl, rfl⟩ dX11_operand_69 ?_
      try simp (disch := omega) only [ui_ur, ui_ur_n, ur_sv, ur_nv, ui_sv, ui_nv, ui_uis, us_s, us_n]
      rw [y5_57]
      refine r_aload_n (pc := 72) dX11_operand_72 rfl rfl ?_
      refine r_callV0 (pc := 73) (Y_nx (J := J) hs hτ y1 fe_i) im_X11_next qs57 q2065 hs.o rfl dX11_operand_73 (Nat.le_of_ble_eq_true rfl) (Nat.le_of_ble_eq_true rfl) rfl (k_fv ?_) (fun _ _ _ _ _ _ _ hx => no_x hx)
      have w1 : TI (g_nx τ s).1 := y1.nx
      have push : ∀ v : Int, (v = 10 ∨ v = 13) → (∀ rd' st', RL rd' O → KL st' (v :: S) → Q (some (iv 1)) (yH I m st' σ rd' (g_nx τ s) (O.length : Int) (o + 1) ((S.length : Int) + 1) (d + 1) 0) (hJ J m (g_nx τ s)) P T z) → PW G mX11_operand (rmD (dd + 2) 0 0) (MZ G Q nX 0 0) 0 0 (yH I m st σ rd (g_nx τ s) (O.length : Int) (o + 1) (S.length : Int) d 0) (hJ J m (g_nx τ s)) P T z 103 [some (.ref m), some (iv (bz (isW 7237492 s))), some (iv (bz (isG 40 s))), some (iv (lf s)), none] [iv v, iv (S.length : Int), .ref (m + 23)] := by
        intro v hv hQ
        refine r_iast (pc := 103) hs.t_stack (by omega) (by omega) (by omega) (by omega) dX11_operand_103 ?_
        try simp (disch := omega) only [ui_ur, ui_ur_n, ur_sv, ur_nv, ui_sv, ui_nv, ui_uis, us_s, us_n]
        refine r_aload_n (pc := 104) dX11_operand_104 rfl rfl ?_
        refine r_dup (pc := 105) dX11_operand_105 rfl ?_
        refine r_geti (pc := 106) (c := 11) (k := 58) (kz := 58) hs.o cok_11 (Nat.le_of_ble_eq_true rfl) q1918 ⟨rfl, rfl⟩ (Or.inl rfl) rfl (fun _ _ _ => rfl) dX11_operand_106 (fun hr106 => ?_)
        try simp (disch := omega) only [ui_ur, ui_ur_n, ur_sv, ur_nv, ui_sv, ui_nv, ui_uis, us_s, us_n] at hr106 ⊢
        refine r_iconst (pc := 109) dX11_operand_109 ?_
        refine r_iadd (pc := 110) dX11_operand_110 ?_
        refine r_puti (pc := 111) (c := 11) (k := 58) (kz := 58) hs.o cok_11 (Nat.le_of_ble_eq_true rfl) q1918 ⟨rfl, rfl⟩ (Or.inl rfl) rfl (by omega) rfl rfl (by omega) (fun _ _ _ => rfl) ⟨rfl, rfl⟩ dX11_operand_111 ?_
        try simp (disch := omega) only [ui_ur, ui_ur_n, ur_sv, ur_nv, ui_sv, ui_nv, ui_uis, us_s, us_n]
        rw [y5_58]
        refine r_aload_n (pc := 114) dX11_operand_114 rfl rfl ?_
        refine r_dup (pc := 115) dX11_operand_115 rfl ?_
        refine r_geti (pc := 116) (c := 11) (k := 59) (kz := 59) hs.o cok_11 (Nat.le_of_ble_eq_true rfl) q1919 ⟨rfl, rfl⟩ (Or.inl rfl) rfl (fun _ _ _ => rfl) dX11_operand_116 (fun hr116 => ?_)
        try simp (disch := omega) only [ui_ur, ui_ur_n, ur_sv, ur_nv, ui_sv, ui_nv, ui_uis, us_s, us_n] at hr116 ⊢
        refine r_iconst (pc := 119) dX11_operand_119 ?_
        refine r_iadd (pc := 120) dX11_operand_120 ?_
        refine r_puti (pc := 121) (c := 11) (k := 59) (kz := 59) hs.o cok_11 (Nat.le_of_ble_eq_true rfl) q1919 ⟨rfl, rfl⟩ (Or.inl rfl) rfl (by omega) rfl rfl (by omega) (fun _ _ _ => rfl) ⟨rfl, rfl⟩ dX11_operand_121 ?_
        try simp (disch := omega) only [ui_ur, ui_ur_n, ur_sv, ur_nv, ui_sv, ui_nv, ui_uis, us_s, us_n]
        rw [y5_59]
        refine r_iconst (pc := 124) dX11_operand_124 ?_
        refine r_ireturn (pc := 125) rfl (nb_z (by omega)) dX11_operand_125 (Nat.le_of_ble_eq_true rfl) (Nat.le_of_ble_eq_true rfl) ?_
        exact hQ rd _ hr (hk.push rfl)
      refine r_iload_n (pc := 76) dX11_operand_76 rfl rfl ?_
      refine r_if_ne (pc := 77) 84 dX11_operand_77 rfl bz_g (fun h77 => ?_) (fun h77 => ?_)
      · have c1 := bz_ne.mp h77
        rw [if_pos c1] at hQ1
        refine r_aload_n (pc := 84) dX11_operand_84 rfl rfl ?_
        refine r_getr (pc := 85) (c := 11) (k := 55) (kz := 55) hs.o cok_11 (Nat.le_of_ble_eq_true rfl) q1915 ⟨rfl, rfl⟩ (Or.inl rfl) rfl (fun _ _ _ => rfl) hs.p_stack dX11_operand_85 ?_
        refine r_aload_n (pc := 88) dX11_operand_88 rfl rfl ?_
        refine r_geti (pc := 89) (c := 11) (k := 58) (kz := 58) hs.o cok_11 (Nat.le_of_ble_eq_true rfl) q1918 ⟨rfl, rfl⟩ (Or.inl rfl) rfl (fun _ _ _ => rfl) dX11_operand_89 (fun hr89 => ?_)
        try simp (disch := omega) only [ui_ur, ui_ur_n, ur_sv, ur_nv, ui_sv, ui_nv, ui_uis, us_s, us_n] at hr89 ⊢
        refine r_iload_n (pc := 92) dX11_operand_92 rfl rfl ?_
        refine r_if_eq (pc := 93) 101 dX11_operand_93 rfl bz_g (fun h93 => ?_) (fun h93 => ?_)
        · exact absurd (bz_0.mp h93) (fun q => q c1)
        refine r_bipush (pc := 96) dX11_operand_96 (by decide +kernel) ?_
        refine r_goto (pc := 98) 103 dX11_operand_98 rfl ?_
        refine push 10 (Or.inl rfl) (fun rd' st' a b => ?_)
        have := hQ1 _ rfl rd' st' a b
        dsimp only at this
        rw [show (((10 :: S).length : Nat) : Int) = (S.length : Int) + 1 by simp] at this
        exact this
      have c1 := bz_0.mp h77
      rw [if_neg c1] at hQ1 hQ0
      refine r_iload_n (pc := 80) dX11_operand_80 rfl rfl ?_
      refine r_if_eq (pc := 81) 126 dX11_operand_81 rfl bz_g (fun h81 => ?_) (fun h81 => ?_)
      · have c2 := bz_0.mp h81
        rw [if_neg c2] at hQ1 hQ0
        have hl : 0 ≤ lf s := by
          rcases hop with q | q | q
          · exact absurd q c1
          · exact absurd q c2
          · exact q
        refine r_aload_n (pc := 126) dX11_operand_126 rfl rfl ?_
        refine r_iconst (pc := 127) dX11_operand_127 ?_
        refine r_puti (pc := 128) (c := 11) (k := 60) (kz := 60) hs.o cok_11 (Nat.le_of_ble_eq_true rfl) q1920 ⟨rfl, rfl⟩ (Or.inl rfl) rfl (by omega) rfl rfl (by omega) (fun _ _ _ => rfl) ⟨rfl, rfl⟩ dX11_operand_128 ?_
        try simp (disch := omega) only [ui_ur, ui_ur_n, ur_sv, ur_nv, ui_sv, ui_nv, ui_uis, us_s, us_n]
        rw [y5_60]
        obtain ⟨s1, hs1⟩ : ∃ s1, s1 = g_nx τ s := ⟨_, rfl⟩
        rw [← hs1] at w1 hQ1 hQ0 ⊢
        obtain ⟨l, hl9⟩ : ∃ l, l = lf s := ⟨_, rfl⟩
        rw [← hl9] at hl lr hQ1 hQ0 ⊢
        clear push
        have cod1 : ∀ (a b e : Int), RL (us (us (us rd (3 * (O.length : Int)) a) (3 * (O.length : Int) + 1) b) (3 * (O.length : Int) + 2) e) (O ++ [(a, b, e)]) := fun a b e => hr.app rfl
        have ln : ∀ x : CD, (((O ++ [x]).length : Nat) : Int) = (O.length : Int) + 1 := fun x => by simp
        obtain ⟨R, hR⟩ : ∃ R, R = s_leaf τ ρ (σ 1).toNat l s1 0 := ⟨_, rfl⟩
        rw [← hR] at hQ1 hQ0
        have f0 : ∀ s9 : TS, R = (0, s9, 0, []) → ∀ c' o' w', Q (some (iv 0)) (yH I m st σ rd s9 c' o' (S.length : Int) d w') (hJ J m s9) P T z := by
          intro s9 e
          rw [e, if_pos rfl] at hQ0
          exact hQ0 rfl
        have f1 : ∀ (s9 : TS) (x : CD), R = (1, s9, 0, [x]) → ∀ rd', RL rd' (O ++ [x]) → Q (some (iv 1)) (yH I m st σ rd' s9 ((O.length : Int) + 1) (o + 1) (S.length : Int) d 1) (hJ J m s9) P T z := by
          intro s9 x e rd' hr'
          rw [e, if_neg (show ¬ (1 : Int) = 0 by decide)] at hQ1
          have := hQ1 _ rfl rd' st hr' hk
          dsimp only at this
          rw [ln] at this
          exact this
        clear hQ1 hQ0
        unfold s_leaf at hR
        refine r_iload_n (pc := 131) dX11_operand_131 rfl rfl ?_
        refine r_if_ne (pc := 132) 144 dX11_operand_132 rfl (by omega) (fun h132 => ?_) (fun h132 => ?_)
        · rw [if_neg h132] at hR
          refine r_iload_n (pc := 144) dX11_operand_144 rfl rfl ?_
          refine r_iconst (pc := 145) dX11_operand_145 ?_
          refine r_icmp_ge (pc := 146) 200 dX11_operand_146 rfl (by omega) (by omega) (fun h146 => ?_) (fun h146 => ?_)
          · rw [if_neg (by omega)] at hR
            unfold s_than at hR
            have badT : ¬ (s1.1 11 = 3 ∧ 60 ≤ s1.1 14 ∧ s1.1 14 ≤ 62) → PW G mX11_operand (rmD (dd + 2) 0 0) (MZ G Q nX 0 0) 0 0 (yH I m st σ rd s1 (O.length : Int) (o + 1) (S.length : Int) d 1) (hJ J m s1) P T z 226 [some (.ref m), some (iv (bz (isW 7237492 s))), some (iv (bz (isG 40 s))), some (iv l), none] [] := by
              intro q
              rw [if_pos q] at hR
              refine r_aload_n (pc := 226) dX11_operand_226 rfl rfl ?_
              refine r_iconst (pc := 227) dX11_operand_227 ?_
              refine r_callV1 (pc := 228) (Y_bad (J := J) hs (by omega) fe_i) im_X11_bad qs61 q2087 hs.o rfl dX11_operand_228 (Nat.le_of_ble_eq_true rfl) (Nat.le_of_ble_eq_true rfl) rfl (k_fi ?_) (fun _ _ _ _ _ _ _ hx => no_x hx)
              refine r_ireturn (pc := 231) rfl (nb_z (by omega)) dX11_operand_231 (Nat.le_of_ble_eq_true rfl) (Nat.le_of_ble_eq_true rfl) ?_
              exact f0 _ hR _ _ _
            refine r_aload_n (pc := 200) dX11_operand_200 rfl rfl ?_
            refine r_geti (pc := 201) (c := 11) (k := 11) (kz := 11) hs.o cok_11 (Nat.le_of_ble_eq_true rfl) q1871 ⟨rfl, rfl⟩ (Or.inl rfl) rfl (fun _ _ _ => rfl) dX11_operand_201 (fun hr201 => ?_)
            try simp (disch := omega) only [ui_ur, ui_ur_n, ur_sv, ur_nv, ui_sv, ui_nv, ui_uis, us_s, us_n] at hr201 ⊢
            refine r_iconst (pc := 204) dX11_operand_204 ?_
            refine r_icmp_ne (pc := 205) 226 dX11_operand_205 rfl (by omega) (by omega) (fun h205 => ?_) (fun h205 => ?_)
            · exact badT (fun q => h205 q.1)
            refine r_aload_n (pc := 208) dX11_operand_208 rfl rfl ?_
            refine r_geti (pc := 209) (c := 11) (k := 14) (kz := 14) hs.o cok_11 (Nat.le_of_ble_eq_true rfl) q1874 ⟨rfl, rfl⟩ (Or.inl rfl) rfl (fun _ _ _ => rfl) dX11_operand_209 (fun hr209 => ?_)
            try simp (disch := omega) only [ui_ur, ui_ur_n, ur_sv, ur_nv, ui_sv, ui_nv, ui_uis, us_s, us_n] at hr209 ⊢
            refine r_bipush (pc := 212) dX11_operand_212 (by decide +kernel) ?_
            refine r_icmp_lt (pc := 214) 226 dX11_operand_214 rfl (by omega) (by omega) (fun h214 => ?_) (fun h214 => ?_)
            · exact badT (fun q => by omega)
            refine r_aload_n (pc := 217) dX11_operand_217 rfl rfl ?_
            refine r_geti (pc := 218) (c := 11) (k := 14) (kz := 14) hs.o cok_11 (Nat.le_of_ble_eq_true rfl) q1874 ⟨rfl, rfl⟩ (Or.inl rfl) rfl (fun _ _ _ => rfl) dX11_operand_218 (fun hr218 => ?_)
            try simp (disch := omega) only [ui_ur, ui_ur_n, ur_sv, ur_nv, ui_sv, ui_nv, ui_uis, us_s, us_n] at hr218 ⊢
            refine r_bipush (pc := 221) dX11_operand_221 (by decide +kernel) ?_
            refine r_icmp_le (pc := 223) 232 dX11_operand_223 rfl (by omega) (by omega) (fun h223 => ?_) (fun h223 => ?_)
            · have g0 : s1.1 11 = 3 ∧ 60 ≤ s1.1 14 ∧ s1.1 14 ≤ 62 := ⟨h205, by omega, by omega⟩
              rw [if_neg (fun q => q g0)] at hR
              refine r_aload_n (pc := 232) dX11_operand_232 rfl rfl ?_
              refine r_geti (pc := 233) (c := 11) (k := 14) (kz := 14) hs.o cok_11 (Nat.le_of_ble_eq_true rfl) q1874 ⟨rfl, rfl⟩ (Or.inl rfl) rfl (fun _ _ _ => rfl) dX11_operand_233 (fun hr233 => ?_)
              try simp (disch := omega) only [ui_ur, ui_ur_n, ur_sv, ur_nv, ui_sv, ui_nv, ui_uis, us_s, us_n] at hr233 ⊢
              refine r_istore4 (pc := 236) (Nat.le_of_ble_eq_true rfl) dX11_operand_236 rfl ?_
              refine r_aload_n (pc := 238) dX11_operand_238 rfl rfl ?_
              refine r_callV0 (pc := 239) (Y_nx (J := J) hs hτ w1 fe_i) im_X11_next qs57 q2065 hs.o rfl dX11_operand_239 (Nat.le_of_ble_eq_true rfl) (Nat.le_of_ble_eq_true rfl) rfl (k_fv ?_) (fun _ _ _ _ _ _ _ hx => no_x hx)
              have w2 : TI (g_nx τ s1).1 := w1.nx
              obtain ⟨s2, hs2⟩ : ∃ s2, s2 = g_nx τ s1 := ⟨_, rfl⟩
              rw [← hs2] at w2 hR ⊢
              refine r_aload_n (pc := 242) dX11_operand_242 rfl rfl ?_
              refine r_geti (pc := 243) (c := 11) (k := 11) (kz := 11) hs.o cok_11 (Nat.le_of_ble_eq_true rfl) q1871 ⟨rfl, rfl⟩ (Or.inl rfl) rfl (fun _ _ _ => rfl) dX11_operand_243 (fun hr243 => ?_)
              try simp (disch := omega) only [ui_ur, ui_ur_n, ur_sv, ur_nv, ui_sv, ui_nv, ui_uis, us_s, us_n] at hr243 ⊢
              refine r_iconst (pc := 246) dX11_operand_246 ?_
              refine r_icmp_eq (pc := 247) 256 dX11_operand_247 rfl (by omega) (by omega) (fun h247 => ?_) (fun h247 => ?_)
              · rw [if_neg (fun q => q h247)] at hR
                have vr := w2.2.2.2.2.2.2.2.2 h247
                refine r_aload_n (pc := 256) dX11_operand_256 rfl rfl ?_
                refine r_iload_n (pc := 257) dX11_operand_257 rfl rfl ?_
                refine r_iload (pc := 258) dX11_operand_258 rfl ?_
                refine r_aload_n (pc := 260) dX11_operand_260 rfl rfl ?_
                refine r_geti (pc := 261) (c := 11) (k := 14) (kz := 14) hs.o cok_11 (Nat.le_of_ble_eq_true rfl) q1874 ⟨rfl, rfl⟩ (Or.inl rfl) rfl (fun _ _ _ => rfl) dX11_operand_261 (fun hr261 => ?_)
                try simp (disch := omega) only [ui_ur, ui_ur_n, ur_sv, ur_nv, ui_sv, ui_nv, ui_uis, us_s, us_n] at hr261 ⊢
                refine r_callV3 (pc := 264) (Y_code hs (by omega) (by omega) (by omega) (by omega) fe_i) im_X11_code qs110 q2426 hs.o rfl dX11_operand_264 (Nat.le_of_ble_eq_true rfl) (Nat.le_of_ble_eq_true rfl) rfl (k_fv ?_) (fun _ _ _ _ _ _ _ hx => no_x hx)
                refine r_aload_n (pc := 267) dX11_operand_267 rfl rfl ?_
                refine r_callV0 (pc := 268) (Y_nx (J := J) hs hτ w2 fe_i) im_X11_next qs57 q2065 hs.o rfl dX11_operand_268 (Nat.le_of_ble_eq_true rfl) (Nat.le_of_ble_eq_true rfl) rfl (k_fv ?_) (fun _ _ _ _ _ _ _ hx => no_x hx)
                refine r_iconst (pc := 271) dX11_operand_271 ?_
                refine r_ireturn (pc := 272) rfl (nb_z (by omega)) dX11_operand_272 (Nat.le_of_ble_eq_true rfl) (Nat.le_of_ble_eq_true rfl) ?_
                exact f1 _ _ hR _ (cod1 l (s1.1 14) (s2.1 14))
              rw [if_pos h247] at hR
              refine r_aload_n (pc := 250) dX11_operand_250 rfl rfl ?_
              refine r_iconst (pc := 251) dX11_operand_251 ?_
              refine r_callV1 (pc := 252) (Y_bad (J := J) hs (by omega) fe_i) im_X11_bad qs61 q2087 hs.o rfl dX11_operand_252 (Nat.le_of_ble_eq_true rfl) (Nat.le_of_ble_eq_true rfl) rfl (k_fi ?_) (fun _ _ _ _ _ _ _ hx => no_x hx)
              refine r_ireturn (pc := 255) rfl (nb_z (by omega)) dX11_operand_255 (Nat.le_of_ble_eq_true rfl) (Nat.le_of_ble_eq_true rfl) ?_
              exact f0 _ hR _ _ _
            exact badT (fun q => by omega)
          rw [if_pos (by omega)] at hR
          unfold s_who at hR
          refine r_aload_n (pc := 149) dX11_operand_149 rfl rfl ?_
          refine r_callV0 (pc := 150) (Y_isN (J := J) hs hρ fe_i) im_X11_isName qs63 q2098 hs.o rfl dX11_operand_150 (Nat.le_of_ble_eq_true rfl) (Nat.le_of_ble_eq_true rfl) rfl (k_fi ?_) (fun _ _ _ _ _ _ _ hx => no_x hx)
          refine r_if_ne (pc := 153) 162 dX11_operand_153 rfl bz_g (fun h153 => ?_) (fun h153 => ?_)
          · have c3 := bz_ne.mp h153
            rw [if_neg (fun q => q c3)] at hR
            refine r_aload_n (pc := 162) dX11_operand_162 rfl rfl ?_
            refine r_iconst (pc := 163) dX11_operand_163 ?_
            refine r_aload_n (pc := 164) dX11_operand_164 rfl rfl ?_
            refine r_getr (pc := 165) (c := 11) (k := 6) (kz := 6) hs.o cok_11 (Nat.le_of_ble_eq_true rfl) q1866 ⟨rfl, rfl⟩ (Or.inl rfl) rfl (fun _ _ _ => rfl) hs.p_s dX11_operand_165 ?_
            refine r_iconst (pc := 168) dX11_operand_168 ?_
            refine r_iald (pc := 169) hs.t_s (by omega) (by omega) dX11_operand_169 (fun hr169 => ?_)
            try simp (disch := omega) only [ui_ur, ui_ur_n, ur_sv, ur_nv, ui_sv, ui_nv, ui_uis, us_s, us_n] at hr169 ⊢
            refine r_callV2 (pc := 170) (Y_find (J := J) hs h1 fe_i) im_X11_find qs64 q2102 hs.o rfl dX11_operand_170 (Nat.le_of_ble_eq_true rfl) (Nat.le_of_ble_eq_true rfl) rfl (k_fi ?_) (fun _ _ _ _ _ _ _ hx => no_x hx)
            have kr := t_find_r (ν := s1.2.2.2) (w := s1.2.1) (f := 0) (σ 1).toNat 0 (by omega)
            generalize t_find s1.2.2.2 s1.2.1 0 0 (σ 1).toNat = p at *
            refine r_istore4 (pc := 173) (Nat.le_of_ble_eq_true rfl) dX11_operand_173 rfl ?_
            refine r_iload (pc := 175) dX11_operand_175 rfl ?_
            refine r_if_ge (pc := 177) 186 dX11_operand_177 rfl (by omega) (fun h177 => ?_) (fun h177 => ?_)
            · rw [if_neg (by omega)] at hR
              refine r_aload_n (pc := 186) dX11_operand_186 rfl rfl ?_
              refine r_iload_n (pc := 187) dX11_operand_187 rfl rfl ?_
              refine r_iconst (pc := 188) dX11_operand_188 ?_
              refine r_iload (pc := 189) dX11_operand_189 rfl ?_
              refine r_callV3 (pc := 191) (Y_code hs (by omega) (by omega) (by omega) (by omega) fe_i) im_X11_code qs110 q2426 hs.o rfl dX11_operand_191 (Nat.le_of_ble_eq_true rfl) (Nat.le_of_ble_eq_true rfl) rfl (k_fv ?_) (fun _ _ _ _ _ _ _ hx => no_x hx)
              refine r_aload_n (pc := 194) dX11_operand_194 rfl rfl ?_
              refine r_callV0 (pc := 195) (Y_nx (J := J) hs hτ w1 fe_i) im_X11_next qs57 q2065 hs.o rfl dX11_operand_195 (Nat.le_of_ble_eq_true rfl) (Nat.le_of_ble_eq_true rfl) rfl (k_fv ?_) (fun _ _ _ _ _ _ _ hx => no_x hx)
              refine r_iconst (pc := 198) dX11_operand_198 ?_
              refine r_ireturn (pc := 199) rfl (nb_z (by omega)) dX11_operand_199 (Nat.le_of_ble_eq_true rfl) (Nat.le_of_ble_eq_true rfl) ?_
              exact f1 _ _ hR _ (cod1 l 0 p)
            rw [if_pos (by omega)] at hR
            refine r_aload_n (pc := 180) dX11_operand_180 rfl rfl ?_
            refine r_iconst (pc := 181) dX11_operand_181 ?_
            refine r_callV1 (pc := 182) (Y_bad (J := J) hs (by omega) fe_i) im_X11_bad qs61 q2087 hs.o rfl dX11_operand_182 (Nat.le_of_ble_eq_true rfl) (Nat.le_of_ble_eq_true rfl) rfl (k_fi ?_) (fun _ _ _ _ _ _ _ hx => no_x hx)
            refine r_ireturn (pc := 185) rfl (nb_z (by omega)) dX11_operand_185 (Nat.le_of_ble_eq_true rfl) (Nat.le_of_ble_eq_true rfl) ?_
            exact f0 _ hR _ _ _
          have c3 := bz_0.mp h153
          rw [if_pos c3] at hR
          refine r_aload_n (pc := 156) dX11_operand_156 rfl rfl ?_
          refine r_iconst (pc := 157) dX11_operand_157 ?_
          refine r_callV1 (pc := 158) (Y_bad (J := J) hs (by omega) fe_i) im_X11_bad qs61 q2087 hs.o rfl dX11_operand_158 (Nat.le_of_ble_eq_true rfl) (Nat.le_of_ble_eq_true rfl) rfl (k_fi ?_) (fun _ _ _ _ _ _ _ hx => no_x hx)
          refine r_ireturn (pc := 161) rfl (nb_z (by omega)) dX11_operand_161 (Nat.le_of_ble_eq_true rfl) (Nat.le_of_ble_eq_true rfl) ?_
          exact f0 _ hR _ _ _
        rw [if_pos h132] at hR
        refine r_aload_n (pc := 135) dX11_operand_135 rfl rfl ?_
        refine r_iload_n (pc := 136) dX11_operand_136 rfl rfl ?_
        refine r_iconst (pc := 137) dX11_operand_137 ?_
        refine r_iconst (pc := 138) dX11_operand_138 ?_
        refine r_callV3 (pc := 139) (Y_code hs (by omega) (by omega) (by omega) (by omega) fe_i) im_X11_code qs110 q2426 hs.o rfl dX11_operand_139 (Nat.le_of_ble_eq_true rfl) (Nat.le_of_ble_eq_true rfl) rfl (k_fv ?_) (fun _ _ _ _ _ _ _ hx => no_x hx)
        refine r_iconst (pc := 142) dX11_operand_142 ?_
        refine r_ireturn (pc := 143) rfl (nb_z (by omega)) dX11_operand_143 (Nat.le_of_ble_eq_true rfl) (Nat.le_of_ble_eq_true rfl) ?_
        have := f1 _ _ hR _ (cod1 0 0 0)
        rw [h132]
        exact this
      have c2 := bz_ne.mp h81
      rw [if_pos c2] at hQ1
      refine r_aload_n (pc := 84) dX11_operand_84 rfl rfl ?_
      refine r_getr (pc := 85) (c := 11) (k := 55) (kz := 55) hs.o cok_11 (Nat.le_of_ble_eq_true rfl) q1915 ⟨rfl, rfl⟩ (Or.inl rfl) rfl (fun _ _ _ => rfl) hs.p_stack dX11_operand_85 ?_
      refine r_aload_n (pc := 88) dX11_operand_88 rfl rfl ?_
      refine r_geti (pc := 89) (c := 11) (k := 58) (kz := 58) hs.o cok_11 (Nat.le_of_ble_eq_true rfl) q1918 ⟨rfl, rfl⟩ (Or.inl rfl) rfl (fun _ _ _ => rfl) dX11_operand_89 (fun hr89 => ?_)
      try simp (disch := omega) only [ui_ur, ui_ur_n, ur_sv, ur_nv, ui_sv, ui_nv, ui_uis, us_s, us_n] at hr89 ⊢
      refine r_iload_n (pc := 92) dX11_operand_92 rfl rfl ?_
      refine r_if_eq (pc := 93) 101 dX11_operand_93 rfl bz_g (fun h93 => ?_) (fun h93 => ?_)
      · refine r_bipush (pc := 101) dX11_operand_101 (by decide +kernel) ?_
        refine push 13 (Or.inr rfl) (fun rd' st' a b => ?_)
        have := hQ1 _ rfl rd' st' a b
        dsimp only at this
        rw [show (((13 :: S).length : Nat) : Int) = (S.length : Int) + 1 by simp] at this
        exact this
      exact absurd (bz_ne.mp h93) c1
    exact bad4 (Or.inr (by omega))
  refine r_istore_n3 (pc := 19) (Nat.le_of_ble_eq_true rfl) dX11_operand_19 rfl ?_
  refine r_iload_n (pc := 20) dX11_operand_20 rfl rfl ?_
  refine r_if_ne (pc := 21) 38 dX11_operand_21 rfl bz_g (fun h21 => ?_) (fun h21 => ?_)
  · exact yes (Or.inl (bz_ne.mp h21))
  refine r_iload_n (pc := 24) dX11_operand_24 rfl rfl ?_
  refine r_if_ne (pc := 25) 38 dX11_operand_25 rfl bz_g (fun h25 => ?_) (fun h25 => ?_)
  · exact yes (Or.inr (Or.inl (bz_ne.mp h25)))
  refine r_iload_n (pc := 28) dX11_operand_28 rfl rfl ?_
  refine r_if_ge (pc := 29) 38 dX11_operand_29 rfl (by omega) (fun h29 => ?_) (fun h29 => ?_)
  · exact yes (Or.inr (Or.inr (by omega)))
  have no : ¬ opn s := fun q => by
    rcases q with q | q | q
    · exact bz_0.mp h21 q
    · exact bz_0.mp h25 q
    · omega
  rw [if_pos no] at hQ0
  refine r_aload_n (pc := 32) dX11_operand_32 rfl rfl ?_
  refine r_iconst (pc := 33) dX11_operand_33 ?_
  refine r_callV1 (pc := 34) (Y_bad (J := J) hs (by omega) fe_i) im_X11_bad qs61 q2087 hs.o rfl dX11_operand_34 (Nat.le_of_ble_eq_true rfl) (Nat.le_of_ble_eq_true rfl) rfl (k_fi ?_) (fun _ _ _ _ _ _ _ hx => no_x hx)
  refine r_ireturn (pc := 37) rfl (nb_z (by omega)) dX11_operand_37 (Nat.le_of_ble_eq_true rfl) (Nat.le_of_ble_eq_true rfl) ?_
  exact hQ0 rfl _ _ _
end M31
