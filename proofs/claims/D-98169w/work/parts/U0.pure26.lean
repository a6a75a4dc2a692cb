/-! ===== plain: open hands of two ===== -/
/-- a game that may be opened: few kinds, few cards in the heap -/
def OG (σ : Int → Int) : Prop := (0 ≤ σ 7 ∧ σ 7 ≤ 4) ∧ (∀ i, 0 ≤ i → i < σ 7 → 0 ≤ σ (8 + i) ∧ σ (8 + i) < 3) ∧ (0 ≤ σ 3 ∧ σ 3 ≤ 9) ∧ (0 ≤ σ 0 ∧ σ 0 ≤ 3) ∧ (σ 2 = 0 ∨ σ 2 = 1)
abbrev s3 (f : Int → Int) : Int := f 0 + f 1 + f 2
abbrev n3 (f : Int → Int) : Int := f 0 + 5 * f 1 + 25 * f 2
def eq3 (f g : Int → Int) : Prop := f 0 = g 0 ∧ f 1 = g 1 ∧ f 2 = g 2
/-- the row of a number -/
def rw3 (a : Int) : Int → Int := fun k => if k = 0 then a % 5 else if k = 1 then a / 5 % 5 else if k = 2 then a / 25 else 0
/-- cards of a kind from p on in the heap -/
def ocn (σ : Int → Int) (p k : Int) : Int := sm (fun i => bz (σ (8 + p + i) = k)) (σ 7 - p).toNat
section PU26
variable {σ f g h f' h' : Int → Int} {p v k n : Int}
theorem eq3.rf : eq3 f f := ⟨rfl, rfl, rfl⟩
theorem eq3.sy (h : eq3 f g) : eq3 g f := ⟨h.1.symm, h.2.1.symm, h.2.2.symm⟩
theorem eq3.at (h : eq3 f g) {j : Int} (h0 : 0 ≤ j) (h1 : j < 3) : f j = g j := by
  rcases (show j = 0 ∨ j = 1 ∨ j = 2 by omega) with rfl | rfl | rfl
  · exact h.1
  · exact h.2.1
  · exact h.2.2
theorem eq3.up3 (h : eq3 f g) {c x y : Int} (hx : x = y) : eq3 (us f c x) (us g c y) := by
  subst hx
  unfold eq3 us
  refine ⟨?_, ?_, ?_⟩ <;> split
  · rfl
  · exact h.1
  · rfl
  · exact h.2.1
  · rfl
  · exact h.2.2
theorem rw3_n3 (h0 : 0 ≤ f 0 ∧ f 0 ≤ 4) (h1 : 0 ≤ f 1 ∧ f 1 ≤ 4) : eq3 (rw3 (n3 f)) f := by
  unfold eq3 rw3
  rw [if_pos rfl, if_neg (by decide), if_pos rfl, if_neg (by decide), if_neg (by decide), if_pos rfl]
  unfold n3
  omega
theorem n3_eq (h : eq3 f g) : n3 f = n3 g := by
  obtain ⟨a, b, c⟩ := h
  show f 0 + 5 * f 1 + 25 * f 2 = g 0 + 5 * g 1 + 25 * g 2
  rw [a, b, c]
theorem s3_eq (h : eq3 f g) : s3 f = s3 g := by
  obtain ⟨a, b, c⟩ := h
  show f 0 + f 1 + f 2 = g 0 + g 1 + g 2
  rw [a, b, c]
theorem f3.eq (h : f3 f) (e : eq3 f g) : f3 g := fun k a b => by rw [← e.at a b]; exact h k a b
theorem ocn_s (h0 : 0 ≤ p) (h1 : p < σ 7) : ocn σ p k = bz (σ (8 + p) = k) + ocn σ (p + 1) k := by
  unfold ocn
  have e : (σ 7 - p).toNat = (σ 7 - (p + 1)).toNat + 1 := by omega
  rw [e]
  have key : ∀ n : Nat, sm (fun i => bz (σ (8 + p + i) = k)) (n + 1) = bz (σ (8 + p) = k) + sm (fun i => bz (σ (8 + (p + 1) + i) = k)) n := by
    intro n
    induction n with
    | zero => show 0 + bz (σ (8 + p + ((0 : Nat) : Int)) = k) = bz (σ (8 + p) = k) + 0; rw [show 8 + p + ((0 : Nat) : Int) = 8 + p by omega]; omega
    | succ n ih =>
      show sm (fun i => bz (σ (8 + p + i) = k)) (n + 1) + bz (σ (8 + p + ((n + 1 : Nat) : Int)) = k) = bz (σ (8 + p) = k) + (sm (fun i => bz (σ (8 + (p + 1) + i) = k)) n + bz (σ (8 + (p + 1) + (n : Int)) = k))
      rw [ih, show 8 + p + ((n + 1 : Nat) : Int) = 8 + (p + 1) + (n : Int) by omega]
      omega
  exact key _
theorem ocn_r : 0 ≤ ocn σ p k := (sm_bz (f := fun i => σ (8 + p + i) = k) _).1
theorem us_sum {c x : Int} (h0 : 0 ≤ c) (h1 : c < 3) : s3 (us f c x) = s3 f - f c + x := by
  show us f c x 0 + us f c x 1 + us f c x 2 = f 0 + f 1 + f 2 - f c + x
  rcases (show c = 0 ∨ c = 1 ∨ c = 2 by omega) with rfl | rfl | rfl
  · rw [us_s, us_n (by decide), us_n (by decide)]; omega
  · rw [us_s, us_n (by decide), us_n (by decide)]; omega
  · rw [us_s, us_n (by decide), us_n (by decide)]; omega
/-- cards come: what holds -/
theorem fil1_ok (hg : OG σ) : ∀ (m : Nat) (x : (Int → Int) × Int × Int), f3 x.1 → 0 ≤ x.2.1 → x.2.1 + m ≤ σ 7 → f3 (f_fil1 σ m x).1 ∧ s3 (f_fil1 σ m x).1 + 4 * (f_fil1 σ m x).2.2 = s3 x.1 + 4 * x.2.2 + m ∧ ∀ j, 0 ≤ j → j < 3 → (f_fil1 σ m x).1 j + ocn σ (x.2.1 + m) j ≤ x.1 j + ocn σ x.2.1 j := by
  intro m
  induction m with
  | zero =>
    intro x h0 _ _
    refine ⟨h0, ?_, fun j _ _ => ?_⟩
    · show s3 x.1 + 4 * x.2.2 = s3 x.1 + 4 * x.2.2 + ((0 : Nat) : Int); omega
    · show x.1 j + ocn σ (x.2.1 + ((0 : Nat) : Int)) j ≤ _
      rw [show x.2.1 + ((0 : Nat) : Int) = x.2.1 by omega]
      exact Int.le_refl _
  | succ m ih =>
    intro x h0 h1 h2
    have hc := hg.2.1 x.2.1 h1 (by omega)
    have hd := h0 _ hc.1 hc.2
    have es : ∀ j, ocn σ x.2.1 j = bz (σ (8 + x.2.1) = j) + ocn σ (x.2.1 + 1) j := fun j => ocn_s h1 (by omega)
    have e1 : x.2.1 + ((m + 1 : Nat) : Int) = x.2.1 + 1 + (m : Nat) := by omega
    unfold f_fil1
    generalize σ (8 + x.2.1) = c at *
    rw [us_s]
    split
    · rename_i q
      have f1 : f3 (us x.1 c (x.1 c + 1)) := fun j a b => by
        by_cases e : j = c
        · subst e; rw [us_s]; omega
        · rw [us_n e]; exact h0 j a b
      obtain ⟨i1, i2, i3⟩ := ih (us x.1 c (x.1 c + 1), x.2.1 + 1, x.2.2 + 0) f1 (by dsimp only; omega) (by dsimp only; omega)
      dsimp only at i2 i3
      rw [us_sum hc.1 hc.2] at i2
      refine ⟨i1, by omega, fun j a b => ?_⟩
      rw [e1, es j]
      have := i3 j a b
      by_cases e : j = c
      · subst e
        rw [us_s] at this
        rw [bz_t rfl]; omega
      · rw [us_n e] at this
        have := bz_r (p := c = j)
        omega
    · rename_i q
      have f1 : f3 (us (us x.1 c (x.1 c + 1)) c 0) := fun j a b => by
        by_cases e : j = c
        · subst e; rw [us_s]; omega
        · rw [us_n e, us_n e]; exact h0 j a b
      obtain ⟨i1, i2, i3⟩ := ih (us (us x.1 c (x.1 c + 1)) c 0, x.2.1 + 1, x.2.2 + 1) f1 (by dsimp only; omega) (by dsimp only; omega)
      dsimp only at i2 i3
      rw [us_us, us_sum hc.1 hc.2] at i2
      rw [us_us] at i3
      refine ⟨by rw [us_us] at i1 ⊢; exact i1, by rw [us_us]; omega, fun j a b => ?_⟩
      rw [e1, es j, us_us]
      have := i3 j a b
      by_cases e : j = c
      · subst e
        rw [us_s] at this
        rw [bz_t rfl]; omega
      · rw [us_n e] at this
        have := bz_r (p := c = j)
        omega
theorem fil1_cg (hg : OG σ) : ∀ (m : Nat) (x y : (Int → Int) × Int × Int), eq3 x.1 y.1 → x.2 = y.2 → 0 ≤ x.2.1 → x.2.1 + m ≤ σ 7 → eq3 (f_fil1 σ m x).1 (f_fil1 σ m y).1 ∧ (f_fil1 σ m x).2 = (f_fil1 σ m y).2 := by
  intro m
  induction m with
  | zero => intro x y h e _ _; exact ⟨h, e⟩
  | succ m ih =>
    intro x y h e h1 h2
    have hc := hg.2.1 x.2.1 h1 (by omega)
    have ep : y.2.1 = x.2.1 := by rw [e]
    have en : y.2.2 = x.2.2 := by rw [e]
    unfold f_fil1
    rw [ep, en]
    generalize σ (8 + x.2.1) = c at *
    rw [us_s, us_s, h.at hc.1 hc.2]
    split
    · exact ih (us x.1 c (y.1 c + 1), x.2.1 + 1, x.2.2 + 0) (us y.1 c (y.1 c + 1), x.2.1 + 1, x.2.2 + 0) (h.up3 rfl) rfl (by dsimp only; omega) (by dsimp only; omega)
    · exact ih (us (us x.1 c (y.1 c + 1)) c 0, x.2.1 + 1, x.2.2 + 1) (us (us y.1 c (y.1 c + 1)) c 0, x.2.1 + 1, x.2.2 + 1) ((h.up3 rfl).up3 rfl) rfl (by dsimp only; omega) (by dsimp only; omega)
/-- a hand is filled: what holds -/
theorem fil_ok (hg : OG σ) : ∀ (m : Nat) (x : (Int → Int) × Int × Int), f3 x.1 → 0 ≤ x.2.1 → x.2.1 ≤ σ 7 → f3 (f_fil σ m x).1 ∧ (x.2.1 ≤ (f_fil σ m x).2.1 ∧ (f_fil σ m x).2.1 ≤ σ 7) ∧ s3 (f_fil σ m x).1 + 4 * (f_fil σ m x).2.2 - (f_fil σ m x).2.1 = s3 x.1 + 4 * x.2.2 - x.2.1 ∧ x.2.2 ≤ (f_fil σ m x).2.2 ∧ (∀ j, 0 ≤ j → j < 3 → (f_fil σ m x).1 j + ocn σ (f_fil σ m x).2.1 j ≤ x.1 j + ocn σ x.2.1 j) ∧ (f_fil σ m x = x ∨ (x.2.1 < (f_fil σ m x).2.1 ∧ s3 x.1 = 0)) := by
  intro m
  induction m with
  | zero => intro x h0 h1 h2; exact ⟨h0, ⟨Int.le_refl _, h2⟩, rfl, Int.le_refl _, fun _ _ _ => Int.le_refl _, Or.inl rfl⟩
  | succ m ih =>
    intro x h0 h1 h2
    unfold f_fil
    split
    · rename_i c
      have hm : 0 < (if σ 3 < σ 7 - x.2.1 then σ 3 else σ 7 - x.2.1) ∧ x.2.1 + (if σ 3 < σ 7 - x.2.1 then σ 3 else σ 7 - x.2.1) ≤ σ 7 := by split <;> omega
      generalize (if σ 3 < σ 7 - x.2.1 then σ 3 else σ 7 - x.2.1) = q at *
      obtain ⟨a1, a2, a3⟩ := fil1_ok hg q.toNat x h0 h1 (by omega)
      have a4 := f_fil1_p (σ := σ) q.toNat x
      generalize f_fil1 σ q.toNat x = y at *
      obtain ⟨b1, b2, b3, b4, b5, b6⟩ := ih y a1 (by omega) (by omega)
      refine ⟨b1, ⟨by omega, b2.2⟩, by omega, by omega, fun j u w => ?_, Or.inr ⟨by omega, c.1⟩⟩
      have i1 := a3 j u w
      have i2 := b5 j u w
      rw [← a4.1] at i1
      omega
    · exact ⟨h0, ⟨Int.le_refl _, h2⟩, rfl, Int.le_refl _, fun _ _ _ => Int.le_refl _, Or.inl rfl⟩
theorem fil_cg (hg : OG σ) : ∀ (m : Nat) (x y : (Int → Int) × Int × Int), eq3 x.1 y.1 → x.2 = y.2 → 0 ≤ x.2.1 → x.2.1 ≤ σ 7 → eq3 (f_fil σ m x).1 (f_fil σ m y).1 ∧ (f_fil σ m x).2 = (f_fil σ m y).2 := by
  intro m
  induction m with
  | zero => intro x y h e _ _; exact ⟨h, e⟩
  | succ m ih =>
    intro x y h e h1 h2
    have es : x.1 0 + x.1 1 + x.1 2 = y.1 0 + y.1 1 + y.1 2 := s3_eq h
    unfold f_fil
    rw [← e, es]
    split
    · rename_i c
      have hm : 0 < (if σ 3 < σ 7 - x.2.1 then σ 3 else σ 7 - x.2.1) ∧ x.2.1 + (if σ 3 < σ 7 - x.2.1 then σ 3 else σ 7 - x.2.1) ≤ σ 7 := by split <;> omega
      generalize (if σ 3 < σ 7 - x.2.1 then σ 3 else σ 7 - x.2.1) = q at *
      obtain ⟨a1, a2⟩ := fil1_cg hg q.toNat x y h e h1 (by omega)
      have a4 := f_fil1_p (σ := σ) q.toNat x
      exact ih _ _ a1 a2 (by omega) (by omega)
    · exact ⟨h, e⟩
/-- it is to be somebody's turn: gain, sign, whether it goes on, who asks, the other, place -/
def o_set (σ f h : Int → Int) (p : Int) : Int × Int × Int × (Int → Int) × (Int → Int) × Int :=
  let x := f_fil σ 5 (f, p, 0)
  if s3 x.1 ≠ 0 then (x.2.2, 1, 1, x.1, h, x.2.1)
  else
    let y := f_fil σ 5 (h, x.2.1, 0)
    (x.2.2 - y.2.2, -1, if s3 y.1 ≠ 0 then 1 else 0, y.1, x.1, y.2.1)
theorem s3_0 (h : f3 f) (hz : s3 f = 0) : f 0 = 0 ∧ f 1 = 0 ∧ f 2 = 0 := by
  have a := h 0 (by omega) (by omega); have b := h 1 (by omega) (by omega); have c := h 2 (by omega) (by omega)
  have hz : f 0 + f 1 + f 2 = 0 := hz
  omega
/-- pairs of who has some of a kind -/
def prs (f : Int → Int) : Int := bz (0 < f 0) + bz (0 < f 1) + bz (0 < f 2)
theorem prs_r : 0 ≤ prs f ∧ prs f ≤ 3 := by
  have a := bz_r (p := 0 < f 0); have b := bz_r (p := 0 < f 1); have c := bz_r (p := 0 < f 2)
  unfold prs; omega
/-- how many cards of a kind there are at most -/
def kq (σ : Int → Int) (j : Int) : Int := if j < σ 0 then 4 else 0
/-- what holds of two hands and a place -/
def OI (σ f h : Int → Int) (p : Int) : Prop := f3 f ∧ f3 h ∧ (0 ≤ p ∧ p ≤ σ 7) ∧ ∀ j, 0 ≤ j → j < 3 → f j + h j + ocn σ p j ≤ kq σ j
/-- measure of a state -/
def omu (σ f h : Int → Int) (p v : Int) : Int := 14 * (σ 7 - p) + 2 * (prs f + prs h) + (1 - v)
theorem set_ok (hg : OG σ) (ho : OI σ f h p) {r : Int × Int × Int × (Int → Int) × (Int → Int) × Int} (hr : r = o_set σ f h p) : (r.2.1 = 1 ∨ r.2.1 = -1) ∧ (r.2.2.1 = 0 ∨ r.2.2.1 = 1) ∧ OI σ r.2.2.2.1 r.2.2.2.2.1 r.2.2.2.2.2 ∧ p ≤ r.2.2.2.2.2 ∧ (r.2.2.1 = 1 → 0 < s3 r.2.2.2.1) ∧ (-4 ≤ r.1 ∧ r.1 ≤ 4) ∧ (4 * r.1 ≤ (s3 f + s3 h + (σ 7 - p)) - (s3 r.2.2.2.1 + s3 r.2.2.2.2.1 + (σ 7 - r.2.2.2.2.2)) ∧ -((s3 f + s3 h + (σ 7 - p)) - (s3 r.2.2.2.1 + s3 r.2.2.2.2.1 + (σ 7 - r.2.2.2.2.2))) ≤ 4 * r.1) ∧ (p < r.2.2.2.2.2 ∨ prs r.2.2.2.1 + prs r.2.2.2.2.1 = prs f + prs h) := by
  subst hr
  obtain ⟨h1, h2, h3, h4⟩ := ho
  obtain ⟨x1, x2, x3, x4, x5, x6⟩ := fil_ok hg 5 (f, p, 0) h1 h3.1 h3.2
  dsimp only at x2 x3 x4 x5 x6
  have h7 := hg.1
  unfold o_set
  dsimp only
  generalize f_fil σ 5 (f, p, 0) = x at *
  have p0 : ∀ g : Int → Int, f3 g → 0 ≤ s3 g := fun g q => by
    have a := q 0 (by omega) (by omega); have b := q 1 (by omega) (by omega); have c := q 2 (by omega) (by omega)
    show 0 ≤ g 0 + g 1 + g 2
    omega
  have u12 : ∀ g : Int → Int, f3 g → s3 g ≤ 9 := fun g q => by
    have a := q 0 (by omega) (by omega); have b := q 1 (by omega) (by omega); have c := q 2 (by omega) (by omega)
    show g 0 + g 1 + g 2 ≤ 9
    omega
  have sx := p0 _ x1
  have sf := p0 _ h1
  have sh := p0 _ h2
  have uf := u12 _ h1
  have uh := u12 _ h2
  by_cases c : s3 x.1 ≠ 0
  · rw [if_pos c]
    dsimp only
    refine ⟨Or.inl rfl, Or.inr rfl, ⟨x1, h2, by omega, fun j a b => ?_⟩, x2.1, fun _ => by omega, by omega, by omega, ?_⟩
    · have := x5 j a b; have := h4 j a b; omega
    · rcases x6 with q | q
      · right; rw [q]
      · left; exact q.1
  · rw [if_neg c]
    obtain ⟨y1, y2, y3, y4, y5, y6⟩ := fil_ok hg 5 (h, x.2.1, 0) h2 (by dsimp only; omega) (by dsimp only; omega)
    dsimp only at y2 y3 y4 y5 y6
    dsimp only
    generalize f_fil σ 5 (h, x.2.1, 0) = y at *
    have sy := p0 _ y1
    refine ⟨Or.inr rfl, ?_, ⟨y1, x1, by omega, fun j a b => ?_⟩, by omega, fun q => ?_, by omega, by omega, ?_⟩
    · split
      · exact Or.inr rfl
      · exact Or.inl rfl
    · have := x5 j a b; have := y5 j a b; have := h4 j a b; omega
    · by_cases d : s3 y.1 ≠ 0
      · omega
      · rw [if_neg d] at q; omega
    · rcases x6 with q | q
      · rcases y6 with w | w
        · right
          have e1 : x.1 = f := by rw [q]
          have e2 : y.1 = h := by rw [w]
          rw [e1, e2]; omega
        · left; omega
      · left; omega
end PU26
