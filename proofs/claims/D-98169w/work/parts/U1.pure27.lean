/-! ===== plain: open hands: what an asking leads to, what it is worth ===== -/
def ly (f : Int → Int) (k : Int) : Int → Int := if f k < 4 then f else us f k 0
def lyn (f : Int → Int) (k : Int) : Int := if f k < 4 then 0 else 1
/-- an asking: hands, place, vain, gain, whether the turn stays -/
def o_st (σ f h : Int → Int) (p v k : Int) : (Int → Int) × (Int → Int) × Int × Int × Int × Int :=
  if 0 < h k then (ly (us f k (f k + h k)) k, us h k 0, p, 0, lyn (us f k (f k + h k)) k, 1)
  else if p < σ 7 then (ly (us f (σ (8 + p)) (f (σ (8 + p)) + 1)) (σ (8 + p)), h, p + 1, 0, lyn (us f (σ (8 + p)) (f (σ (8 + p)) + 1)) (σ (8 + p)), bz (σ 2 = 1 ∧ σ (8 + p) = k))
  else (f, h, p, v + 1, 0, 0)
abbrev OR := Int × Int × Int × (Int → Int) × (Int → Int) × Int × Int
/-- .. and whose turn it is then: gain, sign, whether it goes on, who asks, the other, place, vain -/
def o_go (σ f h : Int → Int) (p v k : Int) : OR :=
  let a := o_st σ f h p v k
  if a.2.2.2.1 = 2 then (a.2.2.2.2.1, 1, 0, f, h, p, v)
  else if a.2.2.2.2.2 ≠ 0 then
    let r := o_set σ a.1 a.2.1 a.2.2.1
    (a.2.2.2.2.1 + r.1, r.2.1, r.2.2.1, r.2.2.2.1, r.2.2.2.2.1, r.2.2.2.2.2, a.2.2.2.1)
  else
    let r := o_set σ a.2.1 a.1 a.2.2.1
    (a.2.2.2.2.1 - r.1, -r.2.1, r.2.2.1, r.2.2.2.1, r.2.2.2.2.1, r.2.2.2.2.2, a.2.2.2.1)
section PU27
variable {σ f g h f' h' : Int → Int} {p v k n : Int}
/-- cards in all -/
def oN (σ f h : Int → Int) (p : Int) : Int := s3 f + s3 h + (σ 7 - p)
theorem ly_ok {c : Int} (h : f3 f) (h0 : 0 ≤ c) (h1 : c < 3) {x : Int} (hx : 0 ≤ x ∧ x ≤ 4) : f3 (ly (us f c x) c) ∧ s3 (ly (us f c x) c) + 4 * lyn (us f c x) c = s3 f - f c + x ∧ (0 ≤ lyn (us f c x) c ∧ lyn (us f c x) c ≤ 1) ∧ ∀ j, 0 ≤ j → j < 3 → ly (us f c x) c j ≤ us f c x j := by
  unfold ly lyn
  rw [us_s]
  by_cases q : x < 4
  · rw [if_pos q, if_pos q]
    refine ⟨fun j a b => ?_, by rw [us_sum h0 h1]; omega, by omega, fun j a b => Int.le_refl _⟩
    by_cases e : j = c
    · subst e; rw [us_s]; omega
    · rw [us_n e]; exact h j a b
  · rw [if_neg q, if_neg q, us_us]
    refine ⟨fun j a b => ?_, by rw [us_sum h0 h1]; omega, by omega, fun j a b => ?_⟩
    · by_cases e : j = c
      · subst e; rw [us_s]; omega
      · rw [us_n e]; exact h j a b
    · by_cases e : j = c
      · subst e; rw [us_s, us_s]; omega
      · rw [us_n e, us_n e]; exact Int.le_refl _
theorem prs_le (h1 : ∀ j, 0 ≤ j → j < 3 → 0 < f' j → 0 < f j) : prs f' ≤ prs f := by
  have key : ∀ j, 0 ≤ j → j < 3 → bz (0 < f' j) ≤ bz (0 < f j) := fun j a b => by
    by_cases c : 0 < f' j
    · rw [bz_t c, bz_t (h1 j a b c)]; exact Int.le_refl _
    · rw [bz_f c]; exact (bz_r (p := 0 < f j)).1
  have a := key 0 (by omega) (by omega); have b := key 1 (by omega) (by omega); have c := key 2 (by omega) (by omega)
  unfold prs; omega
theorem prs_0 {c : Int} (h0 : 0 ≤ c) (h1 : c < 3) (hp : 0 < f c) : prs (us f c 0) = prs f - 1 := by
  unfold prs
  rcases (show c = 0 ∨ c = 1 ∨ c = 2 by omega) with rfl | rfl | rfl
  · rw [us_s, us_n (by decide), us_n (by decide), bz_t hp, bz_f (p := 0 < (0 : Int)) (by decide)]; omega
  · rw [us_s, us_n (by decide), us_n (by decide), bz_t hp, bz_f (p := 0 < (0 : Int)) (by decide)]; omega
  · rw [us_s, us_n (by decide), us_n (by decide), bz_t hp, bz_f (p := 0 < (0 : Int)) (by decide)]; omega
theorem kq_r {j : Int} : 0 ≤ kq σ j ∧ kq σ j ≤ 4 := by unfold kq; split <;> omega
/-- the first half of an asking -/
theorem st_ok (hg : OG σ) (ho : OI σ f h p) (hv : v = 0 ∨ v = 1) (hk : 0 ≤ k ∧ k < 3) (hf : 0 < f k) {a : (Int → Int) × (Int → Int) × Int × Int × Int × Int} (ha : a = o_st σ f h p v k) : OI σ a.1 a.2.1 a.2.2.1 ∧ (0 ≤ a.2.2.2.1 ∧ a.2.2.2.1 ≤ 2) ∧ (a.2.2.2.2.2 = 0 ∨ a.2.2.2.2.2 = 1) ∧ (0 ≤ a.2.2.2.2.1 ∧ a.2.2.2.2.1 ≤ 1) ∧ oN σ a.1 a.2.1 a.2.2.1 + 4 * a.2.2.2.2.1 = oN σ f h p ∧ p ≤ a.2.2.1 ∧ (a.2.2.2.1 = 2 → a.2.2.2.2.1 = 0) ∧ (p < a.2.2.1 ∨ omu σ a.1 a.2.1 a.2.2.1 a.2.2.2.1 < omu σ f h p v) := by
  subst ha
  obtain ⟨h1, h2, h3, h4⟩ := ho
  have hfk := h1 k hk.1 hk.2
  have hhk := h2 k hk.1 hk.2
  unfold o_st
  by_cases c : 0 < h k
  · rw [if_pos c]
    dsimp only
    have h4k := h4 k hk.1 hk.2
    have kr := kq_r (σ := σ) (j := k)
    have cr := ocn_r (σ := σ) (p := p) (k := k)
    obtain ⟨l1, l2, l3, l4⟩ := ly_ok h1 hk.1 hk.2 (x := f k + h k) (by omega)
    have eh : f3 (us h k 0) := fun j a b => by
      by_cases e : j = k
      · subst e; rw [us_s]; omega
      · rw [us_n e]; exact h2 j a b
    have sh : s3 (us h k 0) = s3 h - h k + 0 := us_sum hk.1 hk.2
    refine ⟨⟨l1, eh, h3, fun j a b => ?_⟩, by omega, Or.inr rfl, l3, ?_, Int.le_refl _, fun q => absurd q (by decide), Or.inr ?_⟩
    · have := l4 j a b; have := h4 j a b
      by_cases e : j = k
      · subst e; rw [us_s] at *; omega
      · rw [us_n e] at *; omega
    · unfold oN; omega
    · have pl : prs (ly (us f k (f k + h k)) k) ≤ prs f := prs_le (fun j a b q => by
        have := l4 j a b
        by_cases e : j = k
        · subst e; exact hf
        · rw [us_n e] at this; omega)
      have ph := prs_0 hk.1 hk.2 c
      unfold omu
      omega
  · rw [if_neg c]
    by_cases d : p < σ 7
    · rw [if_pos d]
      have hc := hg.2.1 p h3.1 d
      have es : ∀ j, ocn σ p j = bz (σ (8 + p) = j) + ocn σ (p + 1) j := fun j => ocn_s h3.1 d
      generalize σ (8 + p) = x at *
      have hx := h1 x hc.1 hc.2
      obtain ⟨l1, l2, l3, l4⟩ := ly_ok h1 hc.1 hc.2 (x := f x + 1) (by omega)
      dsimp only
      refine ⟨⟨l1, h2, by omega, fun j a b => ?_⟩, by omega, by have := bz_r (p := σ 2 = 1 ∧ x = k); omega, l3, ?_, by omega, fun q => absurd q (by decide), Or.inl (by omega)⟩
      · have i1 := l4 j a b; have i2 := h4 j a b
        rw [es j] at i2
        by_cases e : j = x
        · subst e; rw [us_s] at i1; rw [bz_t rfl] at i2; omega
        · rw [us_n e] at i1
          have := bz_r (p := x = j); omega
      · unfold oN; omega
    · rw [if_neg d]
      dsimp only
      refine ⟨⟨h1, h2, h3, h4⟩, by omega, Or.inl rfl, by omega, by omega, Int.le_refl _, fun _ => rfl, Or.inr ?_⟩
      unfold omu
      omega
/-- what an asking leads to -/
theorem go_ok (hg : OG σ) (ho : OI σ f h p) (hv : v = 0 ∨ v = 1) (hk : 0 ≤ k ∧ k < 3) (hf : 0 < f k) {r : OR} (hr : r = o_go σ f h p v k) : (r.2.1 = 1 ∨ r.2.1 = -1) ∧ (r.2.2.1 = 0 ∨ r.2.2.1 = 1) ∧ (-5 ≤ r.1 ∧ r.1 ≤ 5) ∧ (4 * r.1 ≤ oN σ f h p ∧ -(oN σ f h p) ≤ 4 * r.1) ∧ (r.2.2.1 = 1 → OI σ r.2.2.2.1 r.2.2.2.2.1 r.2.2.2.2.2.1 ∧ (r.2.2.2.2.2.2 = 0 ∨ r.2.2.2.2.2.2 = 1) ∧ 0 < s3 r.2.2.2.1 ∧ (4 * r.1 ≤ oN σ f h p - oN σ r.2.2.2.1 r.2.2.2.2.1 r.2.2.2.2.2.1 ∧ -(oN σ f h p - oN σ r.2.2.2.1 r.2.2.2.2.1 r.2.2.2.2.2.1) ≤ 4 * r.1) ∧ omu σ r.2.2.2.1 r.2.2.2.2.1 r.2.2.2.2.2.1 r.2.2.2.2.2.2 < omu σ f h p v) := by
  subst hr
  obtain ⟨a1, a2, a3, a4, a5, a6, a7, a8⟩ := st_ok hg ho hv hk hf (a := o_st σ f h p v k) rfl
  have h7 := hg.1
  have n0 : ∀ {f h : Int → Int} {p : Int}, OI σ f h p → 0 ≤ oN σ f h p := fun {f h p} q => by
    obtain ⟨q1, q2, q3, -⟩ := q
    have b0 := q1 0 (by omega) (by omega); have b1 := q1 1 (by omega) (by omega); have b2 := q1 2 (by omega) (by omega)
    have c0 := q2 0 (by omega) (by omega); have c1 := q2 1 (by omega) (by omega); have c2 := q2 2 (by omega) (by omega)
    show 0 ≤ f 0 + f 1 + f 2 + (h 0 + h 1 + h 2) + (σ 7 - p)
    omega
  have N0 := n0 ho
  have mu : ∀ {f1 h1 : Int → Int} {p1 v1 : Int} {f2 h2 : Int → Int} {p2 : Int}, p ≤ p1 → (0 ≤ v1 ∧ v1 ≤ 1) → (p < p1 ∨ omu σ f1 h1 p1 v1 < omu σ f h p v) → p1 ≤ p2 → (p1 < p2 ∨ prs f2 + prs h2 = prs f1 + prs h1) → omu σ f2 h2 p2 v1 < omu σ f h p v := fun {f1 h1 p1 v1 f2 h2 p2} b1 b2 b3 b4 b5 => by
    have x1 := prs_r (f := f); have x2 := prs_r (f := h); have x3 := prs_r (f := f2); have x4 := prs_r (f := h2); have x5 := prs_r (f := f1); have x6 := prs_r (f := h1)
    unfold omu at *
    omega
  unfold o_go
  generalize o_st σ f h p v k = a at *
  dsimp only
  have A0 := n0 a1
  by_cases c : a.2.2.2.1 = 2
  · rw [if_pos c]
    have := a7 c
    exact ⟨Or.inl rfl, Or.inl rfl, by dsimp only; omega, by dsimp only; omega, fun q => absurd (show (0 : Int) = 1 from q) (by decide)⟩
  · rw [if_neg c]
    have hv1 : 0 ≤ a.2.2.2.1 ∧ a.2.2.2.1 ≤ 1 := by omega
    by_cases d : a.2.2.2.2.2 ≠ 0
    · rw [if_pos d]
      obtain ⟨s1, s2, s4, s5, s6, s7, s8, s9⟩ := set_ok hg a1 (r := o_set σ a.1 a.2.1 a.2.2.1) rfl
      generalize o_set σ a.1 a.2.1 a.2.2.1 = r at *
      have R0 := n0 s4
      unfold oN at *
      refine ⟨s1, s2, by dsimp only; omega, by dsimp only; omega, fun q => ⟨s4, by dsimp only; omega, s6 q, by dsimp only; omega, mu (f1 := a.1) (h1 := a.2.1) (p1 := a.2.2.1) (v1 := a.2.2.2.1) (f2 := r.2.2.2.1) (h2 := r.2.2.2.2.1) (p2 := r.2.2.2.2.2) a6 hv1 a8 s5 s9⟩⟩
    · rw [if_neg d]
      have a1' : OI σ a.2.1 a.1 a.2.2.1 := ⟨a1.2.1, a1.1, a1.2.2.1, fun j u w => by have := a1.2.2.2 j u w; omega⟩
      obtain ⟨s1, s2, s4, s5, s6, s7, s8, s9⟩ := set_ok hg a1' (r := o_set σ a.2.1 a.1 a.2.2.1) rfl
      generalize o_set σ a.2.1 a.1 a.2.2.1 = r at *
      have R0 := n0 s4
      have s9' : a.2.2.1 < r.2.2.2.2.2 ∨ prs r.2.2.2.1 + prs r.2.2.2.2.1 = prs a.1 + prs a.2.1 := by omega
      unfold oN at *
      refine ⟨by dsimp only; omega, s2, by dsimp only; omega, by dsimp only; omega, fun q => ⟨s4, by dsimp only; omega, s6 q, by dsimp only; omega, mu (f1 := a.1) (h1 := a.2.1) (p1 := a.2.2.1) (v1 := a.2.2.2.1) (f2 := r.2.2.2.1) (h2 := r.2.2.2.2.1) (p2 := r.2.2.2.2.2) a6 hv1 a8 s5 s9'⟩⟩
end PU27
