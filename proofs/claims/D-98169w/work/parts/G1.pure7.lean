/-! ===== plain: reading a table ===== -/
abbrev TS := (Int → Int) × Int × (Int → Int) × (Int → Int)
def g_nx (τ : Int → Int) (s : TS) : TS := ((t_next τ s.1 s.2.1).1, (t_next τ s.1 s.2.1).2, s.2.2)
def g_bad (k : Int) (s : TS) : TS := (us (us s.1 15 k) 16 (s.1 12), s.2)
def g_w (j v : Int) (s : TS) : TS := (us s.1 j v, s.2)
def g_h (j v : Int) (s : TS) : TS := (s.1, s.2.1, us s.2.2.1 j v, s.2.2.2)
def g_n (j v : Int) (s : TS) : TS := (s.1, s.2.1, s.2.2.1, us s.2.2.2 j v)
abbrev isW (c : Int) (s : TS) : Prop := s.1 11 = 1 ∧ s.2.1 = c
abbrev isG (c : Int) (s : TS) : Prop := s.1 11 = 3 ∧ s.1 14 = c
abbrev isN (ρ : Int → Int) (s : TS) : Prop := s.1 11 = 1 ∧ t_nm ρ s.2.1 19
def g_takes (τ : Int → Int) (lo hi : Int) (s : TS) : Int × TS :=
  if s.1 11 ≠ 2 then (0, g_bad 1 s) else if ¬ (lo ≤ s.1 14 ∧ s.1 14 ≤ hi) then (0, g_bad 2 s) else (1, g_nx τ (g_w 18 (s.1 14) s))
def g_kinds (τ : Int → Int) (s : TS) : Int × TS :=
  if s.1 20 ≠ 0 then (0, g_bad 3 s)
  else
    let r := g_takes τ 2 13 (g_nx τ (g_w 20 1 s))
    if r.1 = 0 then r else (1, g_h 0 (r.2.1 18) r.2)
def g_person1 (τ ρ : Int → Int) (s : TS) : Int × TS :=
  if ¬ isN ρ s then (0, g_bad 1 s)
  else if 0 ≤ t_find s.2.2.2 s.2.1 6 0 (s.2.2.1 1).toNat then (0, g_bad 3 s)
  else (1, g_nx τ (g_h 1 (s.2.2.1 1 + 1) (g_n (6 + s.2.2.1 1) s.2.1 s)))
def g_person (τ ρ : Int → Int) (s : TS) : Int × TS := if s.2.2.1 1 = 6 then (0, g_bad 4 s) else g_person1 τ ρ (g_nx τ s)
def g_hand3 (τ : Int → Int) (k kind : Int) (s : TS) : Int × TS :=
  if s.1 11 ≠ 2 then (0, g_bad 1 s) else if ¬ (1 ≤ s.1 14 ∧ s.1 14 ≤ 4) then (0, g_bad 2 s)
  else if 4 < s.2.2.1 (571 + kind) + s.1 14 then (0, g_bad 5 s)
  else (1, g_nx τ (g_h (60 + 13 * k + kind) (s.1 14) (g_h (571 + kind) (s.2.2.1 (571 + kind) + s.1 14) s)))
def g_hand2 (τ : Int → Int) (k : Int) (s : TS) : Int × TS :=
  if s.1 11 ≠ 2 then (0, g_bad 1 s) else if s.2.2.1 0 ≤ s.1 14 then (0, g_bad 2 s)
  else if 0 < s.2.2.1 (60 + 13 * k + s.1 14) then (0, g_bad 3 s) else g_hand3 τ k (s.1 14) (g_nx τ s)
def g_hand1 (τ ρ : Int → Int) (s : TS) : Int × TS :=
  if ¬ isN ρ s then (0, g_bad 1 s)
  else if t_find s.2.2.2 s.2.1 6 0 (s.2.2.1 1).toNat < 0 then (0, g_bad 3 s)
  else g_hand2 τ (t_find s.2.2.2 s.2.1 6 0 (s.2.2.1 1).toNat) (g_nx τ s)
def g_heap (τ : Int → Int) : Nat → TS → Int × TS
  | 0, s => (0, s)
  | n + 1, s =>
    if s.1 11 ≠ 2 then (0, g_bad 1 s) else if s.2.2.1 0 ≤ s.1 14 then (0, g_bad 2 s)
    else if s.2.2.1 (571 + s.1 14) = 4 then (0, g_bad 5 s)
    else
      let s1 := g_nx τ (g_h 7 (s.2.2.1 7 + 1) (g_h (8 + s.2.2.1 7) (s.1 14) (g_h (571 + s.1 14) (s.2.2.1 (571 + s.1 14) + 1) s)))
      if isG 59 s1 then (1, s1) else g_heap τ n s1
def g_again (τ : Int → Int) (s : TS) : Int × TS := if s.1 21 ≠ 0 then (0, g_bad 3 s) else (1, g_nx τ (g_h 2 1 (g_w 21 1 s)))
def g_refill (τ : Int → Int) (s : TS) : Int × TS :=
  if s.1 22 ≠ 0 then (0, g_bad 3 s)
  else
    let r := g_takes τ 0 9 (g_nx τ (g_w 22 1 s))
    if r.1 = 0 then r else (1, g_h 3 (r.2.1 18) r.2)
def g_line (τ ρ : Int → Int) (s : TS) : Int × TS :=
  if isW 461330343027 s then g_kinds τ s
  else if isW 123581014175598 s then g_person τ ρ s
  else if isW 1751215716 s then g_hand1 τ ρ (g_nx τ s)
  else if isW 1751474544 s then g_heap τ 950 (g_nx τ s)
  else if isW 418346264942 s then g_again τ s
  else if ¬ isW 125779835448428 s then (0, g_bad 1 s)
  else g_refill τ s
def g_tab (τ ρ : Int → Int) : Nat → TS → Int × TS
  | 0, s => (0, s)
  | n + 1, s =>
    if s.1 11 = 0 then (1, s)
    else
      let r := g_line τ ρ s
      if r.1 = 0 then (0, r.2) else if ¬ isG 59 r.2 then (0, g_bad 1 r.2) else g_tab τ ρ n (g_w 19 ((g_nx τ r.2).1 19 + 1) (g_nx τ r.2))
/-! tokens: ranges -/
theorem t_wd_r {τ : Int → Int} {n small : Int} : ∀ (k : Nat) (x : Int × Int × Int × Int × Int), 0 ≤ x.2.2.2.1 → (x.1 = 0 ∨ x.1 = 1) → 0 ≤ x.2.2.1 → (x.2.2.2.1 = 0 → x.2.2.1 = 0) → (x.2.2.2.1 = 1 → x.2.2.1 ≤ 200) → (x.2.2.2.1 = 2 → x.2.2.1 ≤ 2300) → x.2.2.1 ≤ 30000 → 0 ≤ x.2.1 → (small = 0 → x.1 = 1 → (x.2.2.2.1 = 0 → x.2.2.1 = 0) ∧ (x.2.2.2.1 = 1 → x.2.2.1 ≤ 9) ∧ (x.2.2.2.1 = 2 → x.2.2.1 ≤ 99) ∧ (x.2.2.2.1 = 3 → x.2.2.1 ≤ 999)) →
    x.2.2.2.2 ≤ (t_wd τ n small k x).2.2.2.2 ∧ (t_wd τ n small k x).2.2.2.2 ≤ x.2.2.2.2 + k ∧ x.2.2.2.1 ≤ (t_wd τ n small k x).2.2.2.1 ∧ (t_wd τ n small k x).2.2.2.1 = x.2.2.2.1 + ((t_wd τ n small k x).2.2.2.2 - x.2.2.2.2) ∧ 0 ≤ (t_wd τ n small k x).2.2.1 ∧ (t_wd τ n small k x).2.2.1 ≤ 30000 ∧ (small = 0 → (t_wd τ n small k x).1 ≠ 0 → (t_wd τ n small k x).2.2.2.1 ≤ 3 → (t_wd τ n small k x).2.2.1 ≤ 999) := by
  intro k
  induction k with
  | zero =>
    rintro ⟨al, w, nu, sp, p⟩ h1 h2 h3 h4 h5 h6 h7 h8 h9
    simp only [t_wd] at *
    refine ⟨by omega, by omega, by omega, by omega, by omega, by omega, fun a b c => ?_⟩
    have := h9 a (by omega)
    omega
  | succ k ih =>
    rintro ⟨al, w, nu, sp, p⟩ h1 h2 h3 h4 h5 h6 h7 h8 h9
    unfold t_wd
    simp only at *
    split
    · rename_i hc
      have pr := pk_r (τ := τ) (n := n) (p := p)
      have hc2 : 48 ≤ pk τ n p := by omega
      have q := ih (bz (al ≠ 0 ∧ bz (isS (pk τ n p)) = small), (if sp < 7 then w * 256 + pk τ n p else w), (if sp < 3 then 10 * nu + pk τ n p - 48 else nu), sp + 1, p + 1)
      dsimp only at q
      have q := q (by omega) (by have := bz_r (p := al ≠ 0 ∧ bz (isS (pk τ n p)) = small); omega) (by split <;> omega) (by omega) (by intro; rw [if_pos (by omega)]; omega) (by intro; rw [if_pos (by omega)]; omega) (by split <;> omega) (by split <;> omega) (by
        intro s0 b1
        have b2 := bz_1.mp b1
        have dd : isD (pk τ n p) := by
          rcases hc with a | a
          · have := bz_t a; omega
          · exact a
        have := h9 s0 (by omega)
        refine ⟨by omega, fun e => ?_, fun e => ?_, fun e => ?_⟩ <;> rw [if_pos (by omega)] <;> omega)
      refine ⟨by omega, by omega, by omega, by omega, q.2.2.2.2.1, q.2.2.2.2.2.1, q.2.2.2.2.2.2⟩
    · dsimp only
      refine ⟨by omega, by omega, by omega, by omega, by omega, by omega, fun a b c => ?_⟩
      have := h9 a (by omega)
      omega
/-- what a token leaves: other numbers stay; the place goes on -/
theorem t_next_f {τ ω : Int → Int} {w j : Int} (h : j ≠ 4 ∧ j ≠ 11 ∧ j ≠ 12 ∧ j ≠ 13 ∧ j ≠ 14) : (t_next τ ω w).1 j = ω j := by
  unfold t_next t_next1
  simp only
  split
  · simp (disch := omega) only [us_n]
  · split
    · simp (disch := omega) only [us_n]
    · split <;> simp (disch := omega) only [us_n]
theorem t_next_p {τ ω : Int → Int} {w : Int} (hp : 0 ≤ ω 4 ∧ ω 4 ≤ ω 3) (h5 : 0 ≤ ω 5) : ω 4 ≤ (t_next τ ω w).1 4 ∧ (t_next τ ω w).1 4 ≤ ω 3 ∧ 0 ≤ (t_next τ ω w).1 11 ∧ (t_next τ ω w).1 11 ≤ 4 ∧ 0 ≤ (t_next τ ω w).1 12 ∧ (t_next τ ω w).1 12 ≤ ω 3 ∧ ((t_next τ ω w).1 11 ≠ 0 → (t_next τ ω w).1 11 ≠ 4 → ω 4 < (t_next τ ω w).1 4) ∧ ((t_next τ ω w).1 11 = 2 → 0 ≤ (t_next τ ω w).1 14 ∧ (t_next τ ω w).1 14 ≤ 999) := by
  have sk := t_skip_r (τ := τ) (n := ω 3) (ω 3 - ω 4).toNat (ω 4)
  unfold t_next
  generalize t_skip τ (ω 3) (ω 3 - ω 4).toNat (ω 4) = p at *
  unfold t_next1
  simp only
  split
  · simp (disch := omega) only [us_n, us_s]
    omega
  · split
    · simp (disch := omega) only [us_n, us_s]
      omega
    · rename_i h0
      have hp : p < ω 3 := by
        unfold pk at h0
        split at h0 <;> omega
      split
      · simp (disch := omega) only [us_n, us_s]
        have : t_sign (pk τ (ω 3) p) = 3 ∨ t_sign (pk τ (ω 3) p) = 4 := by unfold t_sign; split <;> omega
        omega
      · rename_i hw
        simp (disch := omega) only [us_n, us_s]
        have hs : isS (pk τ (ω 3) p) ∨ isD (pk τ (ω 3) p) := by
          rcases Decidable.em (isS (pk τ (ω 3) p)) with a | a
          · exact Or.inl a
          · rcases Decidable.em (isD (pk τ (ω 3) p)) with b | b
            · exact Or.inr b
            · exact absurd ⟨a, b⟩ hw
        have br := bz_r (p := isS (pk τ (ω 3) p))
        generalize hsm : bz (isS (pk τ (ω 3) p)) = small at *
        have big := t_wd_r (τ := τ) (n := ω 3) (small := small) (ω 3 - p).toNat (1, 0, 0, 0, p)
        dsimp only at big
        have big := big (by omega) (by omega) (by omega) (by omega) (by omega) (by omega) (by omega) (by omega) (by omega)
        have e : t_run τ ω p = t_wd τ (ω 3) small (ω 3 - p).toNat (1, 0, 0, 0, p) := by unfold t_run; rw [hsm]
        have adv : p < (t_run τ ω p).2.2.2.2 := by
          rw [e, show (ω 3 - p).toNat = (ω 3 - (p + 1)).toNat + 1 by omega]
          unfold t_wd
          rw [if_pos hs]
          have pr := pk_r (τ := τ) (n := ω 3) (p := p)
          have q := t_wd_r (τ := τ) (n := ω 3) (small := small) (ω 3 - (p + 1)).toNat (bz ((1 : Int) ≠ 0 ∧ bz (isS (pk τ (ω 3) p)) = small), (if (0 : Int) < 7 then 0 * 256 + pk τ (ω 3) p else 0), (if (0 : Int) < 3 then 10 * 0 + pk τ (ω 3) p - 48 else 0), 0 + 1, p + 1)
          dsimp only at q
          have q := q (by omega) (by have := bz_r (p := (1 : Int) ≠ 0 ∧ bz (isS (pk τ (ω 3) p)) = small); omega) (by rw [if_pos (by omega)]; omega) (by omega) (by intro; rw [if_pos (by omega)]; omega) (by omega) (by rw [if_pos (by omega)]; omega) (by rw [if_pos (by omega)]; omega) (by
            intro s0 b1
            have dd : isD (pk τ (ω 3) p) := by
              rcases hs with a | a
              · have := bz_t a; omega
              · exact a
            refine ⟨by omega, fun _ => ?_, by omega, by omega⟩
            rw [if_pos (by omega)]; omega)
          omega
        rw [← e] at big
        generalize t_run τ ω p = r at *
        have tk : 0 ≤ t_kind small r ∧ t_kind small r ≤ 4 ∧ (t_kind small r = 2 → small = 0 ∧ r.1 ≠ 0 ∧ r.2.2.2.1 ≤ 3) := by
          unfold t_kind
          by_cases h2 : small = 0
          · simp only [if_pos h2]
            split <;> omega
          · simp only [if_neg h2]
            split <;> omega
        refine ⟨by omega, by omega, by omega, by omega, by omega, by omega, fun _ _ => by omega, fun h => ⟨by omega, ?_⟩⟩
        have t2 := tk.2.2 h
        exact big.2.2.2.2.2.2 t2.1 t2.2.1 t2.2.2
