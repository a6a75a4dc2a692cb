/-! ===== plain: a sentence is read, by descent ===== -/
abbrev CD := Int × Int × Int
/-- well or not; where; how many; its code, operands first -/
abbrev SR := Int × TS × Int × List CD
def lf (s : TS) : Int := if isW 1651470187 s then 0 else if isW 461414299502 s then 1 else if isW 1751477348 s then 2 else if isW 448311223411 s then 3 else if isW 114784635741540 s then 4 else if isW 1836020596 s then 5 else if isW 482854658917 s then 6 else -1
abbrev opn (s : TS) : Prop := isW 7237492 s ∨ isG 40 s ∨ 0 ≤ lf s
def s_than (τ : Int → Int) (l : Int) (s : TS) (o : Int) : SR :=
  if ¬ (s.1 11 = 3 ∧ 60 ≤ s.1 14 ∧ s.1 14 ≤ 62) then (0, g_bad 1 s, o, [])
  else if (g_nx τ s).1 11 ≠ 2 then (0, g_bad 1 (g_nx τ s), o, [])
  else (1, g_nx τ (g_nx τ s), o, [(l, s.1 14, (g_nx τ s).1 14)])
def s_who (τ ρ : Int → Int) (n : Nat) (l : Int) (s : TS) (o : Int) : SR :=
  if ¬ isN ρ s then (0, g_bad 1 s, o, [])
  else if t_find s.2.2.2 s.2.1 0 0 n < 0 then (0, g_bad 3 s, o, [])
  else (1, g_nx τ s, o, [(l, 0, t_find s.2.2.2 s.2.1 0 0 n)])
def s_leaf (τ ρ : Int → Int) (n : Nat) (l : Int) (s : TS) (o : Int) : SR :=
  if l = 0 then (1, s, o, [(0, 0, 0)]) else if l < 3 then s_who τ ρ n l s o else s_than τ l s o
def s_al (τ : Int → Int) (w c : Int) (f : TS → Int → SR) : Nat → TS → Int → List CD → SR
  | 0, s, o, L => (0, s, o, L)
  | n + 1, s, o, L =>
    if isW w s then
      (if (f (g_nx τ s) o).1 = 0 then f (g_nx τ s) o else s_al τ w c f n (f (g_nx τ s) o).2.1 (f (g_nx τ s) o).2.2.1 (L ++ (f (g_nx τ s) o).2.2.2 ++ [(c, 0, 0)]))
    else (1, s, o, L)
def s_ch (τ : Int → Int) (w c : Int) (f : TS → Int → SR) (s : TS) (o : Int) : SR :=
  if (f s o).1 = 0 then f s o else s_al τ w c f 21 (f s o).2.1 (f s o).2.2.1 (f s o).2.2.2
def s_and (τ : Int → Int) (f : TS → Int → SR) : TS → Int → SR := s_ch τ 6385252 11 f
def s_or (τ : Int → Int) (f : TS → Int → SR) : TS → Int → SR := s_ch τ 28530 12 (s_and τ f)
def s_op (τ ρ : Int → Int) (n : Nat) (f : TS → Int → SR) (s : TS) (o : Int) : SR :=
  if isG 40 s then
    (if (s_or τ f (g_nx τ s) (o + 1)).1 = 0 then s_or τ f (g_nx τ s) (o + 1)
     else if ¬ isG 41 (s_or τ f (g_nx τ s) (o + 1)).2.1 then (0, g_bad 1 (s_or τ f (g_nx τ s) (o + 1)).2.1, (s_or τ f (g_nx τ s) (o + 1)).2.2.1, [])
     else (1, g_nx τ (s_or τ f (g_nx τ s) (o + 1)).2.1, (s_or τ f (g_nx τ s) (o + 1)).2.2.1, (s_or τ f (g_nx τ s) (o + 1)).2.2.2))
  else if isW 7237492 s then
    (if (f (g_nx τ s) (o + 1)).1 = 0 then f (g_nx τ s) (o + 1) else (1, (f (g_nx τ s) (o + 1)).2.1, (f (g_nx τ s) (o + 1)).2.2.1, (f (g_nx τ s) (o + 1)).2.2.2 ++ [(10, 0, 0)]))
  else s_leaf τ ρ n (lf s) (g_nx τ s) (o + 1)
def s_one (τ ρ : Int → Int) (n : Nat) : Nat → TS → Int → SR
  | 0, s, o => if ¬ opn s then (0, g_bad 1 s, o, []) else (0, g_bad 4 s, o, [])
  | k + 1, s, o => if ¬ opn s then (0, g_bad 1 s, o, []) else if 20 ≤ o then (0, g_bad 4 s, o, []) else s_op τ ρ n (s_one τ ρ n k) s o
def s_all (τ ρ : Int → Int) (n : Nat) (s : TS) : SR :=
  if (s_or τ (s_one τ ρ n 8) (g_nx τ s) 0).1 = 0 then s_or τ (s_one τ ρ n 8) (g_nx τ s) 0
  else if (s_or τ (s_one τ ρ n 8) (g_nx τ s) 0).2.1.1 11 ≠ 0 then (0, g_bad 1 (s_or τ (s_one τ ρ n 8) (g_nx τ s) 0).2.1, (s_or τ (s_one τ ρ n 8) (g_nx τ s) 0).2.2.1, [])
  else s_or τ (s_one τ ρ n 8) (g_nx τ s) 0
section PU23
variable {τ ρ : Int → Int} {n : Nat} {s : TS} {o : Int}
/-- one code as it may be -/
def okC (n : Nat) (c : CD) : Prop := (c.1 = 0 ∧ c.2.1 = 0 ∧ c.2.2 = 0) ∨ ((c.1 = 1 ∨ c.1 = 2) ∧ c.2.1 = 0 ∧ 0 ≤ c.2.2 ∧ c.2.2 < n) ∨ ((3 ≤ c.1 ∧ c.1 ≤ 6) ∧ 60 ≤ c.2.1 ∧ c.2.1 ≤ 62 ∧ 0 ≤ c.2.2 ∧ c.2.2 ≤ 999) ∨ ((c.1 = 10 ∨ c.1 = 11 ∨ c.1 = 12) ∧ c.2.1 = 0 ∧ c.2.2 = 0)
/-- what a reading comes to: rank 1, 2 by what it may end in -/
def SOk (n : Nat) (s : TS) (o : Int) (r : SR) : Prop := (r.1 = 0 ∨ r.1 = 1) ∧ (o ≤ r.2.2.1 ∧ r.2.2.1 ≤ 20) ∧ (∀ j : Int, 19 ≤ j ∨ j = 2 ∨ j = 3 ∨ j = 5 → r.2.1.1 j = s.1 j) ∧ r.2.1.2.2 = s.2.2 ∧ (r.1 = 0 → (0 ≤ r.2.1.1 16 ∧ r.2.1.1 16 ≤ 940) ∧ 0 ≤ r.2.1.1 15 ∧ r.2.1.1 15 ≤ 5) ∧ (r.1 = 1 → TI r.2.1.1 ∧ o + 1 ≤ r.2.2.1 ∧ (0 < r.2.2.2.length ∧ (r.2.2.2.length : Int) + 1 ≤ 2 * (r.2.2.1 - o)) ∧ ∀ c ∈ r.2.2.2, okC n c)
theorem nx_f {j : Int} (h : 15 ≤ j ∨ j = 2 ∨ j = 3 ∨ j = 5) : (g_nx τ s).1 j = s.1 j := t_next_f (by omega)
theorem bd_f {k j : Int} (h : j ≠ 15 ∧ j ≠ 16) : (g_bad k s).1 j = s.1 j := by show us (us s.1 15 k) 16 (s.1 12) j = _; rw [us_n h.2, us_n h.1]
theorem bd_15 {k : Int} : (g_bad k s).1 15 = k := by show us (us s.1 15 k) 16 (s.1 12) 15 = _; rw [us_n (by omega), us_s]
theorem SOk.bad {k : Int} (h : TI s.1) (ho : 0 ≤ o ∧ o ≤ 20) (hk : 0 ≤ k ∧ k ≤ 5) {o' : Int} (h' : o ≤ o' ∧ o' ≤ 20) {s0 : TS} (hj : ∀ j : Int, 19 ≤ j ∨ j = 2 ∨ j = 3 ∨ j = 5 → s.1 j = s0.1 j) (hn : s.2.2 = s0.2.2) : SOk n s0 o (0, g_bad k s, o', []) := by
  refine ⟨Or.inl rfl, h', fun j q => ?_, hn, fun _ => ⟨bad16 h, ?_⟩, fun q => absurd (show (0 : Int) = 1 from q) (by decide)⟩
  · show (g_bad k s).1 j = _; rw [bd_f (by omega)]; exact hj j q
  · show 0 ≤ (g_bad k s).1 15 ∧ (g_bad k s).1 15 ≤ 5
    rw [bd_15]; exact hk
theorem lf_r : -1 ≤ lf s ∧ lf s ≤ 6 := by unfold lf; repeat (first | split | omega)
theorem SOk.leaf (h : TI s.1) (ho : 0 ≤ o ∧ o < 20) {l : Int} (hl : 0 ≤ l ∧ l ≤ 6) : SOk n s o (s_leaf τ ρ n l s (o + 1)) := by
  have nj : ∀ j : Int, 19 ≤ j ∨ j = 2 ∨ j = 3 ∨ j = 5 → (g_nx τ s).1 j = s.1 j := fun j q => nx_f (by omega)
  have w1 : TI (g_nx τ s).1 := h.nx
  have len1 : ∀ c : CD, (0 : Nat) < ([c] : List CD).length ∧ ((([c] : List CD).length : Nat) : Int) + 1 ≤ 2 * (o + 1 - o) := fun c => ⟨Nat.succ_pos 0, by show ((1 : Nat) : Int) + 1 ≤ _; omega⟩
  unfold s_leaf
  split
  · exact ⟨Or.inr rfl, ⟨by show o ≤ o + 1; omega, by show o + 1 ≤ 20; omega⟩, fun _ _ => rfl, rfl, fun q => absurd (show (1 : Int) = 0 from q) (by decide), fun _ => ⟨h, Int.le_refl _, len1 _, fun c hc => by rw [List.mem_singleton.mp hc]; exact Or.inl ⟨rfl, rfl, rfl⟩⟩⟩
  · split
    · unfold s_who
      split
      · exact SOk.bad h (by omega) (by omega) (by omega) (fun _ _ => rfl) rfl
      · split
        · exact SOk.bad h (by omega) (by omega) (by omega) (fun _ _ => rfl) rfl
        · have fr := t_find_r (ν := s.2.2.2) (w := s.2.1) (f := 0) n 0 (by omega)
          refine ⟨Or.inr rfl, ⟨by show o ≤ o + 1; omega, by show o + 1 ≤ 20; omega⟩, nj, rfl, fun q => absurd (show (1 : Int) = 0 from q) (by decide), fun _ => ⟨w1, Int.le_refl _, len1 _, fun c hc => ?_⟩⟩
          rw [List.mem_singleton.mp hc]
          refine Or.inr (Or.inl ⟨?_, rfl, ?_, ?_⟩)
          · show l = 1 ∨ l = 2; omega
          · show 0 ≤ t_find _ _ _ _ _; omega
          · show t_find _ _ _ _ _ < (n : Int); omega
    · unfold s_than
      split
      · exact SOk.bad h (by omega) (by omega) (by omega) (fun _ _ => rfl) rfl
      · rename_i c
        split
        · exact SOk.bad w1 (by omega) (by omega) (by omega) nj rfl
        · rename_i c2
          have hn := w1.2.2.2.2.2.2.2.2 (by omega)
          refine ⟨Or.inr rfl, ⟨by show o ≤ o + 1; omega, by show o + 1 ≤ 20; omega⟩, fun j q => ?_, rfl, fun q => absurd (show (1 : Int) = 0 from q) (by decide), fun _ => ⟨w1.nx, Int.le_refl _, len1 _, fun c hc => ?_⟩⟩
          · show (g_nx τ (g_nx τ s)).1 j = _; rw [nx_f (by omega)]; exact nj j q
          · rw [List.mem_singleton.mp hc]
            refine Or.inr (Or.inr (Or.inl ⟨⟨?_, ?_⟩, ?_, ?_, hn.1, hn.2⟩))
            · show 3 ≤ l; omega
            · show l ≤ 6; omega
            · show 60 ≤ s.1 14; omega
            · show s.1 14 ≤ 62; omega
/-- a function that reads well -/
def SFn (n : Nat) (f : TS → Int → SR) : Prop := ∀ s o, TI s.1 → 0 ≤ o → o ≤ 20 → SOk n s o (f s o)
theorem SOk.cn {s' : TS} {o' : Int} {r : SR} (h : SOk n s' o' r) (hj : ∀ j : Int, 19 ≤ j ∨ j = 2 ∨ j = 3 ∨ j = 5 → s'.1 j = s.1 j) (hn : s'.2.2 = s.2.2) (ho : o ≤ o') (h0 : r.1 = 0) : SOk n s o r := by
  obtain ⟨a1, a2, a3, a4, a5, a6⟩ := h
  exact ⟨a1, by omega, fun j q => (a3 j q).trans (hj j q), a4.trans hn, a5, fun q => by omega⟩
theorem SOk.al {w c : Int} {f : TS → Int → SR} (hf : SFn n f) (hc : c = 11 ∨ c = 12) : ∀ (k : Nat) (s1 : TS) (o1 : Int) (L : List CD), SOk n s o (1, s1, o1, L) → 0 ≤ o → 21 ≤ o1 + k → SOk n s o (s_al τ w c f k s1 o1 L) ∧ ((s_al τ w c f k s1 o1 L).1 = 1 → ¬ isW w (s_al τ w c f k s1 o1 L).2.1) := by
  intro k
  induction k with
  | zero =>
    intro s1 o1 L h h0 hk
    have a2 : o1 ≤ 20 := h.2.1.2
    omega
  | succ k ih =>
    intro s1 o1 L h h0 hk
    obtain ⟨a1, a2, a3, a4, a5, a6⟩ := h
    obtain ⟨b1, b2, b3, b4⟩ := a6 rfl
    have b1 : TI s1.1 := b1
    have b2 : o + 1 ≤ o1 := b2
    have a2' : o1 ≤ 20 := a2.2
    have b3' : (L.length : Int) + 1 ≤ 2 * (o1 - o) := b3.2
    unfold s_al
    split
    · have ok := hf (g_nx τ s1) o1 b1.nx (by omega) (by omega)
      generalize f (g_nx τ s1) o1 = r at *
      have nj : ∀ j : Int, 19 ≤ j ∨ j = 2 ∨ j = 3 ∨ j = 5 → (g_nx τ s1).1 j = s.1 j := fun j q => by rw [nx_f (by omega)]; exact a3 j q
      split
      · rename_i c0
        exact ⟨ok.cn nj a4 (by omega) c0, fun q => by omega⟩
      · rename_i c0
        have r1 : r.1 = 1 := by have := ok.1; omega
        obtain ⟨d1, d2, d3, d4⟩ := ok.2.2.2.2.2 r1
        have d5 := ok.2.1
        refine ih r.2.1 r.2.2.1 (L ++ r.2.2.2 ++ [(c, 0, 0)]) ⟨Or.inr rfl, by show o ≤ r.2.2.1 ∧ r.2.2.1 ≤ 20; omega, fun j q => (ok.2.2.1 j q).trans (nj j q), ok.2.2.2.1.trans a4, fun q => absurd (show (1 : Int) = 0 from q) (by decide), fun _ => ⟨d1, by show o + 1 ≤ r.2.2.1; omega, ⟨?_, ?_⟩, fun x hx => ?_⟩⟩ h0 (by omega)
        · simp only [List.length_append, List.length_singleton]; omega
        · simp only [List.length_append, List.length_singleton]
          omega
        · simp only [List.mem_append, List.mem_singleton] at hx
          rcases hx with (hx | hx) | hx
          · exact b4 x hx
          · exact d4 x hx
          · rw [hx]
            refine Or.inr (Or.inr (Or.inr ⟨?_, rfl, rfl⟩))
            show c = 10 ∨ c = 11 ∨ c = 12
            omega
    · rename_i c0
      exact ⟨⟨a1, a2, a3, a4, a5, a6⟩, fun _ => c0⟩
theorem al_o {w c : Int} {f : TS → Int → SR} (hf : SFn n f) : ∀ (k : Nat) (s1 : TS) (o1 : Int) (L : List CD), TI s1.1 → 0 ≤ o1 → o1 ≤ 20 → o1 ≤ (s_al τ w c f k s1 o1 L).2.2.1 ∧ (s_al τ w c f k s1 o1 L).2.2.1 ≤ 20 := by
  intro k
  induction k with
  | zero => intro s1 o1 L _ h0 h1; exact ⟨Int.le_refl _, h1⟩
  | succ k ih =>
    intro s1 o1 L ht h0 h1
    unfold s_al
    split
    · have ok := hf (g_nx τ s1) o1 ht.nx h0 h1
      generalize f (g_nx τ s1) o1 = r at *
      have d5 := ok.2.1
      split
      · exact d5
      · rename_i c0
        have r1 : r.1 = 1 := by have := ok.1; omega
        have := ih r.2.1 r.2.2.1 (L ++ r.2.2.2 ++ [(c, 0, 0)]) (ok.2.2.2.2.2 r1).1 (by omega) (by omega)
        omega
    · exact ⟨Int.le_refl _, h1⟩
theorem SOk.ch {w c : Int} {f : TS → Int → SR} (hf : SFn n f) (hc : c = 11 ∨ c = 12) (h : TI s.1) (h0 : 0 ≤ o) (h1 : o ≤ 20) : SOk n s o (s_ch τ w c f s o) ∧ ((s_ch τ w c f s o).1 = 1 → ¬ isW w (s_ch τ w c f s o).2.1) := by
  have ok := hf s o h h0 h1
  unfold s_ch
  generalize f s o = r at *
  split
  · exact ⟨ok, fun q => by omega⟩
  · rename_i c0
    have r1 : r.1 = 1 := by have := ok.1; omega
    have d2 := (ok.2.2.2.2.2 r1).2.1
    refine SOk.al hf hc 21 r.2.1 r.2.2.1 r.2.2.2 ?_ h0 (by omega)
    have e : r = (1, r.2.1, r.2.2.1, r.2.2.2) := by rw [← r1]
    rw [← e]; exact ok
theorem SFn.and {f : TS → Int → SR} (hf : SFn n f) : SFn n (s_and τ f) := fun _ _ h h0 h1 => (SOk.ch hf (Or.inl rfl) h h0 h1).1
theorem SFn.or {f : TS → Int → SR} (hf : SFn n f) : SFn n (s_or τ f) := fun _ _ h h0 h1 => (SOk.ch hf.and (Or.inr rfl) h h0 h1).1
/-- behind an or-chain no and is left either: the last and-chain took them -/
theorem al_w {w c w2 : Int} {f : TS → Int → SR} (hf : ∀ s o, (f s o).1 ≠ 0 → ¬ isW w2 (f s o).2.1) : ∀ (k : Nat) (s1 : TS) (o1 : Int) (L : List CD), ¬ isW w2 s1 → (s_al τ w c f k s1 o1 L).1 ≠ 0 → ¬ isW w2 (s_al τ w c f k s1 o1 L).2.1 := by
  intro k
  induction k with
  | zero => intro s1 o1 L _ q; exact absurd rfl q
  | succ k ih =>
    intro s1 o1 L h
    unfold s_al
    split
    · split
      · rename_i c0; intro q; exact absurd c0 q
      · rename_i c0
        exact ih _ _ _ (hf _ _ c0)
    · intro _; exact h
theorem SOk.op {f : TS → Int → SR} (hf : SFn n f) (h : TI s.1) (h0 : 0 ≤ o) (h1 : o < 20) (hop : opn s) : SOk n s o (s_op τ ρ n f s o) := by
  have nj : ∀ j : Int, 19 ≤ j ∨ j = 2 ∨ j = 3 ∨ j = 5 → (g_nx τ s).1 j = s.1 j := fun j q => nx_f (by omega)
  have w1 : TI (g_nx τ s).1 := h.nx
  unfold s_op
  split
  · have ok := hf.or (τ := τ) (g_nx τ s) (o + 1) w1 (by omega) (by omega)
    generalize s_or τ f (g_nx τ s) (o + 1) = r at *
    split
    · rename_i c0
      exact ok.cn nj rfl (by omega) c0
    · rename_i c0
      have r1 : r.1 = 1 := by have := ok.1; omega
      obtain ⟨d1, d2, d3, d4⟩ := ok.2.2.2.2.2 r1
      have d5 := ok.2.1
      have nr : ∀ j : Int, 19 ≤ j ∨ j = 2 ∨ j = 3 ∨ j = 5 → r.2.1.1 j = s.1 j := fun j q => (ok.2.2.1 j q).trans (nj j q)
      split
      · exact SOk.bad d1 (by omega) (by omega) (by omega) nr ok.2.2.2.1
      · exact ⟨Or.inr rfl, by show o ≤ r.2.2.1 ∧ r.2.2.1 ≤ 20; omega, fun j q => by show (g_nx τ r.2.1).1 j = _; rw [nx_f (by omega)]; exact nr j q, ok.2.2.2.1, fun q => absurd (show (1 : Int) = 0 from q) (by decide), fun _ => ⟨d1.nx, by show o + 1 ≤ r.2.2.1; omega, ⟨d3.1, by show (r.2.2.2.length : Int) + 1 ≤ 2 * (r.2.2.1 - o); omega⟩, d4⟩⟩
  · split
    · have ok := hf (g_nx τ s) (o + 1) w1 (by omega) (by omega)
      generalize f (g_nx τ s) (o + 1) = r at *
      split
      · rename_i c0
        exact ok.cn nj rfl (by omega) c0
      · rename_i c0
        have r1 : r.1 = 1 := by have := ok.1; omega
        obtain ⟨d1, d2, d3, d4⟩ := ok.2.2.2.2.2 r1
        have d5 := ok.2.1
        refine ⟨Or.inr rfl, by show o ≤ r.2.2.1 ∧ r.2.2.1 ≤ 20; omega, fun j q => (ok.2.2.1 j q).trans (nj j q), ok.2.2.2.1, fun q => absurd (show (1 : Int) = 0 from q) (by decide), fun _ => ⟨d1, by show o + 1 ≤ r.2.2.1; omega, ⟨?_, ?_⟩, fun x hx => ?_⟩⟩
        · simp only [List.length_append, List.length_singleton]; omega
        · simp only [List.length_append, List.length_singleton]; omega
        · simp only [List.mem_append, List.mem_singleton] at hx
          rcases hx with hx | hx
          · exact d4 x hx
          · rw [hx]
            exact Or.inr (Or.inr (Or.inr ⟨Or.inl rfl, rfl, rfl⟩))
    · rename_i c1 c2
      have hl : 0 ≤ lf s := by
        rcases hop with q | q | q
        · exact absurd q c2
        · exact absurd q c1
        · exact q
      have ok := SOk.leaf (τ := τ) (ρ := ρ) (n := n) (o := o) w1 ⟨h0, h1⟩ ⟨hl, lf_r.2⟩
      obtain ⟨a1, a2, a3, a4, a5, a6⟩ := ok
      exact ⟨a1, a2, fun j q => (a3 j q).trans (nj j q), a4, a5, a6⟩
theorem SFn.one : ∀ k : Nat, SFn n (s_one τ ρ n k) := by
  intro k
  induction k with
  | zero =>
    intro s o h h0 h1
    unfold s_one
    split
    · exact SOk.bad h (by omega) (by omega) (by omega) (fun _ _ => rfl) rfl
    · exact SOk.bad h (by omega) (by omega) (by omega) (fun _ _ => rfl) rfl
  | succ k ih =>
    intro s o h h0 h1
    unfold s_one
    split
    · exact SOk.bad h (by omega) (by omega) (by omega) (fun _ _ => rfl) rfl
    · rename_i c
      split
      · exact SOk.bad h (by omega) (by omega) (by omega) (fun _ _ => rfl) rfl
      · exact SOk.op ih h h0 (by omega) (Decidable.not_not.mp c)
end PU23
