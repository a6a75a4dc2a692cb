/-! ===== plain: settling, askings ===== -/
section K4
variable {σ : Int → Int} {p k v : Int}
theorem k4_adds (hp : 0 ≤ p) (hn : 0 ≤ σ (229 + p)) {m : Int} : f_adds (us σ 4 v) p m = us (f_adds σ p m) 4 v := by
  unfold f_adds
  rw [us_n (show 229 + p ≠ 4 by omega), us_comm (show (4 : Int) ≠ 235 + 52 * p + σ (229 + p) by omega), us_comm (show (4 : Int) ≠ 229 + p by omega)]
theorem k4_can (hp : 0 ≤ p) : f_can (us σ 4 v) p k = f_can σ p k := by
  unfold f_can
  rw [us_n (show 229 + p ≠ 4 by omega)]
  have : ∀ (n : Nat) (i : Int), 0 ≤ i → ff (fun j => tb (us σ 4 v (235 + 52 * p + j)) k) i n = ff (fun j => tb (σ (235 + 52 * p + j)) k) i n := by
    intro n
    induction n with
    | zero => intro i _; rfl
    | succ n ih =>
      intro i hi
      simp only [ff]
      simp only [us_n (show 235 + 52 * p + i ≠ 4 by omega)]
      rw [ih (i + 1) (by omega)]
  exact this _ 0 (Int.le_refl _)
theorem k4_learns (hp : 0 ≤ p) (hk : 0 ≤ k) : f_learns (us σ 4 v) p k = us (f_learns σ p k) 4 v := by
  have hc := f_can_r (σ := σ) (k := p) (kind := k)
  unfold f_learns
  rw [us_n (show 229 + p ≠ 4 by omega), us_n (show 547 + p ≠ 4 by omega), us_n (show 151 + 13 * p + k ≠ 4 by omega), k4_can hp]
  by_cases c : σ (229 + p) = 0
  · rw [if_pos c, if_pos c]
  · rw [if_neg c, if_neg c]
    have fz : 0 ≤ (if f_can σ p k = σ (229 + p) then (0 : Int) else f_can σ p k) := by
      split
      · omega
      · unfold f_can; exact ff_r.1
    by_cases d : f_can σ p k = σ (229 + p)
    · simp only [if_pos d]
      rw [us_comm (show (4 : Int) ≠ 547 + p by omega), us_comm (show (4 : Int) ≠ 229 + p by omega), dl_us (by omega), us_comm (show (4 : Int) ≠ 151 + 13 * p + k by omega)]
    · simp only [if_neg d] at fz ⊢
      rw [us_comm (show (4 : Int) ≠ 229 + p by omega), dl_us (by omega), us_comm (show (4 : Int) ≠ 151 + 13 * p + k by omega)]
theorem k4_lr (hp : 0 ≤ p) (hk : 0 ≤ k) : ∀ (n : Nat) {σ : Int → Int}, f_lr (us σ 4 v) p k n = us (f_lr σ p k n) 4 v := by
  intro n
  induction n with
  | zero => intro σ; rfl
  | succ n ih => intro σ; simp only [f_lr]; rw [k4_learns hp hk, ih]
theorem k4_books (hp : 0 ≤ p) (hk : 0 ≤ k) : f_books (us σ 4 v) p k = us (f_books σ p k) 4 v := by
  unfold f_books f_hand
  rw [us_n (show 60 + 13 * p + k ≠ 4 by omega), us_n (show 151 + 13 * p + k ≠ 4 by omega), k4_lr hp hk]
  by_cases c : σ (60 + 13 * p + k) < 4
  · rw [if_pos c, if_pos c]
  · rw [if_neg c, if_neg c, us_comm (show (4 : Int) ≠ 151 + 13 * p + k by omega), us_n (show 60 + 13 * p + k ≠ 4 by omega), us_comm (show (4 : Int) ≠ 60 + 13 * p + k by omega), us_comm (show (4 : Int) ≠ 138 + k by omega)]
theorem k4_draws (hp : 0 ≤ p) (h8 : 0 ≤ σ 8) : f_draws (us σ 4 v) p = us (f_draws σ p) 4 v := by
  unfold f_draws f_hand
  rw [us_n (show (7 : Int) ≠ 4 by omega), us_n (show (8 : Int) ≠ 4 by omega), us_comm (show (4 : Int) ≠ 7 by omega), dl_us (by omega), us_n (show 60 + 13 * p + σ 8 ≠ 4 by omega), us_comm (show (4 : Int) ≠ 60 + 13 * p + σ 8 by omega), us_comm (show (4 : Int) ≠ 565 + p by omega)]
theorem k4_drawn : ∀ (n : Nat) {σ : Int → Int}, RG σ → (0 ≤ p ∧ p < 6) → (n : Int) ≤ σ 7 → f_drawn (us σ 4 v) p n = us (f_drawn σ p n) 4 v := by
  intro n
  induction n with
  | zero => intro σ _ _ _; rfl
  | succ n ih =>
    intro σ hg hp hn
    have h8 := hg.2.1 0 (by omega) (by omega)
    rw [show (8 : Int) + 0 = 8 by omega] at h8
    have h7 := hg.h7
    have g1 := f_draw1_g hg hp (by omega)
    have ho := hg.o hp
    have eo : f_draws σ p (229 + p) = σ (229 + p) := f_draws_n (by omega) h8 (by omega) (by omega) (by omega) (by omega)
    simp only [f_drawn]
    have e : f_draw1 (us σ 4 v) p = us (f_draw1 σ p) 4 v := by
      unfold f_draw1
      rw [k4_draws hp.1 h8.1, k4_adds hp.1 (by rw [eo]; omega), us_n (show (8 : Int) ≠ 4 by omega), k4_books hp.1 h8.1]
    rw [e, ih g1.1 hp (by rw [g1.2.1]; omega)]
theorem k4_cards (hp : 0 ≤ p) : f_cards (us σ 4 v) p = f_cards σ p := f_cards_c (fun j a b => us_n (by omega))
theorem k4_refills : ∀ (n : Nat) {σ : Int → Int}, RG σ → (0 ≤ p ∧ p < 6) → f_refills (us σ 4 v) p n = us (f_refills σ p n) 4 v := by
  intro n
  induction n with
  | zero => intro σ _ _; rfl
  | succ n ih =>
    intro σ hg hp
    simp only [f_refills]
    rw [k4_cards hp.1, us_n (show (7 : Int) ≠ 4 by omega), us_n (show (3 : Int) ≠ 4 by omega)]
    by_cases c : f_cards σ p = 0 ∧ 0 < σ 7 ∧ 0 < σ 3
    · rw [if_pos c, if_pos c]
      have hm : (((if σ 3 < σ 7 then σ 3 else σ 7).toNat : Nat) : Int) ≤ σ 7 := by split <;> omega
      rw [k4_drawn _ hg hp hm, ih (f_drawn_g hp _ hg hm).1 hp]
    · rw [if_neg c, if_neg c]
end K4
section ST
variable {σ : Int → Int} {p k v : Int}
/-- no hand holds four -/
def R3 (σ : Int → Int) : Prop := ∀ p k, 0 ≤ p → p < 6 → 0 ≤ k → k < 13 → σ (60 + 13 * p + k) ≤ 3
theorem CV.drn (h : CV σ) (h3 : R3 σ) (hp : 0 ≤ p ∧ p < σ 1) (hc : f_cards σ p = 0) (m : Nat) (hm : (m : Int) ≤ σ 7) : CV (f_drawn σ p m) ∧ R3 (f_drawn σ p m) ∧ EQ (f_bks (f_dn σ p m) p 0 13) (f_drawn σ p m) ∧ (∀ j, 0 ≤ j → j < 7 → f_drawn σ p m j = σ j) ∧ f_drawn σ p m 7 = σ 7 - m ∧ CV (f_dn σ p m) := by
  have hD : DRB σ p := ⟨h, hp, hc⟩
  have h1 := h.ta
  have hp6 : 0 ≤ p ∧ p < 6 := by omega
  obtain ⟨a, b, c⟩ := hD.same m hm
  have z := DR.zero hp6 h hc
  obtain ⟨-, d⟩ := hD.drawn m z h (by omega) (by omega) (fun k _ _ => by rw [bz_f (by unfold cn; simp [sm])])
  rw [Int.zero_add] at d
  refine ⟨b, fun q i x y u w => ?_, c, fun j x y => d.1 j (by omega), d.2.1.1, a⟩
  by_cases e : q = p
  · subst e
    rw [d.2.2.1 i u w]
    have := hD.c4 (n := m) (by omega) hm (k := i) ⟨u, w⟩
    by_cases c9 : cn σ m i = 4
    · rw [if_pos (bz_t c9)]; omega
    · rw [if_neg (by dsimp only; rw [bz_f c9]; decide)]; omega
  · rw [d.1 _ (by omega)]; exact h3 q i x y u w
theorem CV.refl : ∀ (n : Nat) {σ : Int → Int}, CV σ → R3 σ → (0 ≤ p ∧ p < σ 1) → CV (f_refills σ p n) ∧ R3 (f_refills σ p n) ∧ (∀ j, 0 ≤ j → j < 7 → f_refills σ p n j = σ j) ∧ (σ 7 = 0 → f_refills σ p n = σ) := by
  intro n
  induction n with
  | zero => intro σ h h3 _; exact ⟨h, h3, fun _ _ _ => rfl, fun _ => rfl⟩
  | succ n ih =>
    intro σ h h3 hp
    simp only [f_refills]
    by_cases c : f_cards σ p = 0 ∧ 0 < σ 7 ∧ 0 < σ 3
    · rw [if_pos c]
      have hm : (((if σ 3 < σ 7 then σ 3 else σ 7).toNat : Nat) : Int) ≤ σ 7 := by split <;> omega
      obtain ⟨a1, a2, -, a4, -⟩ := h.drn h3 hp c.1 _ hm
      obtain ⟨b1, b2, b3, b4⟩ := ih a1 a2 (by rw [a4 1 (by omega) (by omega)]; exact hp)
      exact ⟨b1, b2, fun j x y => by rw [b3 j x y, a4 j x y], fun q => by omega⟩
    · rw [if_neg c]; exact ⟨h, h3, fun _ _ _ => rfl, fun _ => rfl⟩
/-- the turn is somebody's with cards, or nobody's -/
def TU (σ : Int → Int) : Prop := σ 4 = -1 ∨ (0 ≤ σ 4 ∧ σ 4 < σ 1 ∧ 0 < f_cards σ (σ 4))
theorem R3.usc (h : R3 σ) {j : Int} (hj : j < 60 ∨ 138 ≤ j) : R3 (us σ j v) := fun p k a b c d => by rw [us_n (by omega)]; exact h p k a b c d
theorem CV.settle {fr : Int} : ∀ (n : Nat) (i : Int) {σ : Int → Int}, CV σ → R3 σ → 0 < σ 1 → σ 4 = -1 → CV (f_settle σ fr i n) ∧ R3 (f_settle σ fr i n) ∧ TU (f_settle σ fr i n) ∧ (∀ j, 0 ≤ j → j < 7 → j ≠ 4 → f_settle σ fr i n j = σ j) ∧ (σ 7 = 0 → ∀ j, j ≠ 4 → f_settle σ fr i n j = σ j) := by
  intro n
  induction n with
  | zero => intro i σ h h3 _ h4; exact ⟨h, h3, Or.inl h4, fun _ _ _ _ => rfl, fun _ _ _ => rfl⟩
  | succ n ih =>
    intro i σ h h3 h1 h4
    have hk : 0 ≤ (fr + i) % σ 1 ∧ (fr + i) % σ 1 < σ 1 := ⟨Int.emod_nonneg _ (by omega), Int.emod_lt_of_pos _ h1⟩
    simp only [f_settle]
    generalize (fr + i) % σ 1 = q at hk
    obtain ⟨b1, b2, b3, b4⟩ := CV.refl (σ 7).toNat h h3 hk
    generalize f_refills σ q (σ 7).toNat = ρ at b1 b2 b3 b4
    have e1 := b3 1 (by omega) (by omega)
    by_cases c : f_cards ρ q = 0
    · rw [if_pos c]
      obtain ⟨c1, c2, c3, c4, c5⟩ := ih (i + 1) b1 b2 (by rw [e1]; exact h1) (by rw [b3 4 (by omega) (by omega)]; exact h4)
      exact ⟨c1, c2, c3, fun j x y w => by rw [c4 j x y w, b3 j x y], fun z j w => by rw [c5 (by rw [b4 z]; exact z) j w, b4 z]⟩
    · rw [if_neg c]
      have hu := b1.ta
      have hcd := b1.cd hk.1 (by omega)
      refine ⟨b1.usc (by omega), b2.usc (by omega), Or.inr ?_, fun j x y w => by rw [us_n w, b3 j x y], fun z j w => by rw [us_n w, b4 z]⟩
      rw [us_s, us_n (by omega), e1, k4_cards hk.1]
      omega
theorem CV.settles {fr : Int} (h : CV σ) (h3 : R3 σ) (h1 : 0 < σ 1) : CV (f_settles σ fr) ∧ R3 (f_settles σ fr) ∧ TU (f_settles σ fr) ∧ (∀ j, 0 ≤ j → j < 7 → j ≠ 4 → f_settles σ fr j = σ j) ∧ (σ 7 = 0 → ∀ j, j ≠ 4 → f_settles σ fr j = σ j) := by
  have q := CV.settle (fr := fr) (σ 1).toNat 0 (σ := us σ 4 (-1)) (h.usc (by omega)) (h3.usc (by omega)) (by rw [us_n (by omega)]; exact h1) us_s
  obtain ⟨a, b, c, d, e⟩ := q
  exact ⟨a, b, c, fun j x y w => by unfold f_settles; rw [d j x y w, us_n w], fun z j w => by unfold f_settles; rw [e (by rw [us_n (by omega)]; exact z) j w, us_n w]⟩
/-- only one kind can be laid down -/
theorem bks_one {c : Int} (hp : 0 ≤ p ∧ p < 6) (hc : 0 ≤ c ∧ c < 13) : ∀ (n : Nat) (k : Int) {σ : Int → Int}, CV σ → 0 ≤ k → k + n ≤ 13 → (∀ i, 0 ≤ i → i < 13 → i ≠ c → σ (60 + 13 * p + i) < 4) → f_bks σ p k n = if k ≤ c ∧ c < k + n then f_books σ p c else σ := by
  intro n
  induction n with
  | zero => intro k σ h h0 hn hl; rw [if_neg (by omega)]; rfl
  | succ n ih =>
    intro k σ h h0 hn hl
    show f_bks (f_books σ p k) p (k + 1) n = _
    by_cases e : k = c
    · subst e
      have hb := h.books hp hc
      rw [ih (k + 1) hb.1 (by omega) (by omega) (fun i x y w => by rw [hb.2.2.2 p i hp.1 hp.2 x y, if_neg (by omega)]; exact hl i x y w), if_neg (by omega), if_pos (by omega)]
    · rw [f_books_lt (hl k h0 (by omega) e), ih (k + 1) h (by omega) (by omega) hl]
      by_cases q : k ≤ c ∧ c < k + ((n + 1 : Nat) : Int)
      · rw [if_pos q, if_pos (by omega)]
      · rw [if_neg q, if_neg (by omega)]
/-- the least kind that is laid down, told in the row of the latest asking -/
def f_l5 (σ μ : Int → Int) (p k : Int) : Nat → Int → Int
  | 0 => μ
  | n + 1 => f_l5 (f_books σ p k) (if σ (60 + 13 * p + k) < 4 then μ else if μ 5 = -1 ∨ k < μ 5 then us μ 5 k else μ) p (k + 1) n
theorem f_l5_n {j : Int} (hj : j ≠ 5) : ∀ (n : Nat) (k : Int) {σ μ : Int → Int}, f_l5 σ μ p k n j = μ j := by
  intro n
  induction n with
  | zero => intro k σ μ; rfl
  | succ n ih =>
    intro k σ μ
    simp only [f_l5]
    rw [ih]
    split
    · rfl
    · split
      · exact us_n hj
      · rfl
theorem l5_one {c : Int} (hp : 0 ≤ p ∧ p < 6) (hc : 0 ≤ c ∧ c < 13) : ∀ (n : Nat) (k : Int) {σ μ : Int → Int}, CV σ → 0 ≤ k → k + n ≤ 13 → (∀ i, 0 ≤ i → i < 13 → i ≠ c → σ (60 + 13 * p + i) < 4) → μ 5 = -1 → f_l5 σ μ p k n 5 = if k ≤ c ∧ c < k + n ∧ 4 ≤ σ (60 + 13 * p + c) then c else -1 := by
  intro n
  induction n with
  | zero => intro k σ μ h h0 hn hl hm; rw [if_neg (by omega)]; exact hm
  | succ n ih =>
    intro k σ μ h h0 hn hl hm
    simp only [f_l5]
    by_cases e : k = c
    · subst e
      have hb := h.books hp hc
      have hh := hb.2.2.2 p k hp.1 hp.2 hc.1 hc.2
      have h4 := h.h4 hp.1 hp.2 hc.1 hc.2
      have z : ∀ (m : Nat) (i : Int) {σ μ : Int → Int}, 0 ≤ i → i + m ≤ 13 → (∀ i, 0 ≤ i → i < 13 → σ (60 + 13 * p + i) < 4) → f_l5 σ μ p i m = μ := by
        intro m
        induction m with
        | zero => intro i σ μ _ _ _; rfl
        | succ m im =>
          intro i σ μ i0 im9 hl9
          simp only [f_l5]
          rw [if_pos (hl9 i i0 (by omega)), f_books_lt (hl9 i i0 (by omega)), im (i + 1) (by omega) (by omega) hl9]
      rw [z n (k + 1) (by omega) (by omega) (fun i x y => by
        rw [hb.2.2.2 p i hp.1 hp.2 x y]
        by_cases q : i = k
        · subst q
          split
          · omega
          · rename_i w; by_cases r : σ (60 + 13 * p + i) = 4
            · exact absurd ⟨rfl, rfl, r⟩ w
            · omega
        · rw [if_neg (by omega)]; exact hl i x y q)]
      by_cases q : σ (60 + 13 * p + k) < 4
      · rw [if_pos q, if_neg (by omega)]; exact hm
      · rw [if_neg q, if_pos (Or.inl hm), us_s, if_pos (by omega)]
    · rw [if_pos (hl k h0 (by omega) e), f_books_lt (hl k h0 (by omega) e), ih (k + 1) h (by omega) (by omega) hl hm]
      by_cases q : k ≤ c ∧ c < k + ((n + 1 : Nat) : Int) ∧ 4 ≤ σ (60 + 13 * p + c)
      · rw [if_pos q, if_pos (by omega)]
      · rw [if_neg q, if_neg (by omega)]
/-- what holds of a row at rest -/
def WF (σ : Int → Int) : Prop := CV σ ∧ R3 σ ∧ TU σ ∧ 0 ≤ σ 6 ∧ σ 6 ≤ σ 1 ∧ (0 < σ 6 → σ 7 = 0) ∧ (σ 4 ≠ -1 → σ 6 < σ 1)
theorem WF.cv (h : WF σ) : CV σ := h.1
theorem WF.r3 (h : WF σ) : R3 σ := h.2.1
theorem WF.tu (h : WF σ) : TU σ := h.2.2.1
/-- an asking ends -/
theorem f_end_ok {fr : Int} (h : CV σ) (h3 : R3 σ) (h1 : 0 < σ 1) (h6 : 0 ≤ σ 6 ∧ σ 6 ≤ σ 1) (h67 : 0 < σ 6 → σ 7 = 0) : WF (f_end σ fr) := by
  unfold f_end
  by_cases c : σ 6 = σ 1
  · rw [if_pos c]
    have n : ∀ j, j ≠ 4 → us σ 4 (-1) j = σ j := fun j q => us_n q
    exact ⟨h.usc (by omega), h3.usc (by omega), Or.inl us_s, by rw [n 6 (by omega)]; omega, by rw [n 6 (by omega), n 1 (by omega)]; omega, by rw [n 6 (by omega), n 7 (by omega)]; exact h67, fun q => absurd us_s q⟩
  · rw [if_neg c]
    obtain ⟨a1, a2, a3, a4, a5⟩ := h.settles (fr := fr) h3 h1
    have e6 := a4 6 (by omega) (by omega) (by omega)
    have e1 := a4 1 (by omega) (by omega) (by omega)
    exact ⟨a1, a2, a3, by omega, by omega, fun q => by rw [e6] at q; rw [a5 (h67 q) 7 (by omega)]; exact h67 q, fun _ => by omega⟩
end ST
section AK
variable {σ : Int → Int} {a b k l : Int}
/-- who asks, whom, for what: as the rules have it -/
def AO (σ : Int → Int) (a b k : Int) : Prop := σ 4 = a ∧ (0 ≤ a ∧ a < σ 1) ∧ (0 ≤ b ∧ b < σ 1) ∧ a ≠ b ∧ (0 ≤ k ∧ k < σ 0) ∧ 0 < σ (60 + 13 * a + k)
theorem ask0_ok (h : WF σ) (ho : AO σ a b k) : CV (f_ask0 σ a k) ∧ R3 (f_ask0 σ a k) ∧ (∀ j, (0 ≤ j ∧ j < 5) ∨ (6 ≤ j ∧ j < 151) ∨ (565 ≤ j) → f_ask0 σ a k j = σ j) ∧ f_ask0 σ a k (151 + 13 * b + k) = σ (151 + 13 * b + k) ∧ f_ask0 σ a k (229 + b) = σ (229 + b) := by
  obtain ⟨h4, ha, hb, hab, hk, hh⟩ := ho
  have ht := h.cv.ta
  have ha6 : 0 ≤ a ∧ a < 6 := by omega
  have hk13 : 0 ≤ k ∧ k < 13 := by omega
  have kn := h.cv.kn ha6.1 ha6.2 hk13.1 hk13.2
  have c1 : CV (f_ask1 σ a) := (h.cv.usc (by omega)).usc (by omega)
  have n1 : ∀ j, j ≠ 5 → j ≠ 553 + a → f_ask1 σ a j = σ j := fun j p q => by unfold f_ask1; rw [us_n q, us_n p]
  have n0 : ∀ j, j ≠ 5 → j ≠ 553 + a → j ≠ 229 + a → j ≠ 547 + a → j ≠ 151 + 13 * a + k → ¬ (235 + 52 * a ≤ j ∧ j < 235 + 52 * a + 52) → f_ask0 σ a k j = σ j := fun j p q r s t u => f_ask0_n h.cv.rg ha6 p q r s t u
  have c0 : CV (f_ask0 σ a k) := by
    unfold f_ask0
    split
    · rename_i z
      exact (c1.learns ha6 hk13 (by rw [z, n1 _ (by omega) (by omega)]; exact hh)).1
    · exact c1
  exact ⟨c0, fun q i x y u w => by rw [n0 _ (by omega) (by omega) (by omega) (by omega) (by omega) (by omega)]; exact h.r3 q i x y u w, fun j q => n0 j (by omega) (by omega) (by omega) (by omega) (by omega) (by omega), n0 _ (by omega) (by omega) (by omega) (by omega) (by omega) (by omega), n0 _ (by omega) (by omega) (by omega) (by omega) (by omega) (by omega)⟩
theorem gives_pos (hg : 0 < f_gives σ b k l) : f_gives σ b k l = σ (60 + 13 * b + k) ∧ f_lie σ b k l = 0 := by
  have r := bz_r (p := 0 < σ (60 + 13 * b + k) ∧ l = 1)
  unfold f_gives at hg ⊢
  have e : f_lie σ b k l = bz (0 < σ (60 + 13 * b + k) ∧ l = 1) := rfl
  rw [e] at hg ⊢
  by_cases c : bz (0 < σ (60 + 13 * b + k) ∧ l = 1) = 1
  · rw [if_pos c] at hg; omega
  · rw [if_neg c]; exact ⟨rfl, by omega⟩
/-- given -/
theorem ask_g (h : WF σ) (ho : AO σ a b k) (hg : 0 < f_gives σ b k l) : let ρ := f_giv2 (f_giv1 (f_ask0 σ a k) b k (f_gives σ b k l)) a k (f_gives σ b k l); CV ρ ∧ (∀ q i, 0 ≤ q → q < 6 → 0 ≤ i → i < 13 → ¬ (q = a ∧ i = k) → ρ (60 + 13 * q + i) ≤ 3) ∧ (∀ j, 0 ≤ j → j < 5 → ρ j = σ j) ∧ ρ 6 = 0 ∧ ρ 7 = σ 7 := by
  obtain ⟨c0, r0, n0, -⟩ := ask0_ok h ho
  obtain ⟨h4, ha, hb, hab, hk, hh⟩ := ho
  have ht := h.cv.ta
  obtain ⟨eg, -⟩ := gives_pos hg
  intro ρ
  have hρ : ρ = f_giv2 (f_giv1 (f_ask0 σ a k) b k (f_gives σ b k l)) a k (f_gives σ b k l) := rfl
  clear_value ρ
  subst hρ
  have q := c0.give (a := a) (b := b) (k := k) (g := f_gives σ b k l) (by rw [n0 1 (by omega)]; exact ha) (by omega) hab (by omega) (by rw [eg, n0 _ (by omega)])
  refine ⟨q.1, fun p i x y u w z => ?_, fun j x y => by rw [q.2.2 j (by omega), n0 j (by omega)], us_s, by rw [q.2.2 7 (by omega), n0 7 (by omega)]⟩
  rw [q.2.1 p i x y u w, if_neg (fun r => z ⟨r.2, r.1⟩)]
  split
  · omega
  · exact r0 p i x y u w
/-- laid down after an asking -/
theorem lay_ok {c : Int} (h : CV σ) (ha : 0 ≤ a ∧ a < 6) (hc : 0 ≤ c ∧ c < 13) (h3 : ∀ q i, 0 ≤ q → q < 6 → 0 ≤ i → i < 13 → ¬ (q = a ∧ i = c) → σ (60 + 13 * q + i) ≤ 3) : CV (f_books σ a c) ∧ R3 (f_books σ a c) := by
  have hb := h.books ha hc
  refine ⟨hb.1, fun q i x y u w => ?_⟩
  rw [hb.2.2.2 q i x y u w]
  have := h.h4 x y u w
  by_cases e : q = a ∧ i = c
  · obtain ⟨rfl, rfl⟩ := e
    by_cases z : σ (60 + 13 * q + i) = 4
    · rw [if_pos ⟨rfl, rfl, z⟩]; omega
    · rw [if_neg (fun r => z r.2.2)]; omega
  · rw [if_neg (fun r => e ⟨r.1, r.2.1⟩)]; exact h3 q i x y u w e
/-- no -/
theorem ask_n (h : WF σ) (ho : AO σ a b k) : let ρ := f_no1 (f_ask0 σ a k) b k; CV ρ ∧ R3 ρ ∧ (∀ j, 0 ≤ j → j < 5 → ρ j = σ j) ∧ ρ 6 = σ 6 + 1 ∧ (∀ j, 7 ≤ j → j < 60 → ρ j = σ j) := by
  obtain ⟨c0, r0, n0, ek, eo⟩ := ask0_ok h ho
  obtain ⟨h4, ha, hb, hab, hk, hh⟩ := ho
  have ht := h.cv.ta
  have hb6 : 0 ≤ b ∧ b < 6 := by omega
  have hk13 : 0 ≤ k ∧ k < 13 := by omega
  have kn := c0.kn hb6.1 hb6.2 hk13.1 hk13.2
  have h6 := h.2.2.2
  intro ρ
  have z0 : ∀ j, j ≠ 547 + b → f_no0 (f_ask0 σ a k) b k j = f_ask0 σ a k j := fun j q => by
    unfold f_no0
    split
    · exact us_n q
    · rfl
  have c1 : CV (f_no0 (f_ask0 σ a k) b k) := by
    unfold f_no0
    split
    · exact c0.usc (by omega)
    · exact c0
  have hn : (((f_ask0 σ a k (151 + 13 * b + k)).toNat : Nat) : Int) ≤ f_no0 (f_ask0 σ a k) b k (151 + 13 * b + k) := by rw [z0 _ (by omega)]; omega
  have c2 := CV.unk hb6 hk13 _ c1 hn
  have o1 := c1.cd hb6.1 hb6.2
  have kn4 := c0.h4 hb6.1 hb6.2 hk13.1 hk13.2
  have hg2 : f_no0 (f_ask0 σ a k) b k (229 + b) + (f_ask0 σ a k (151 + 13 * b + k)).toNat + f_no0 (f_ask0 σ a k) b k 7 ≤ 52 := by
    have s := c1.ot hb6.1 hb6.2
    have u := sm_upd (f := fun i => f_no0 (f_ask0 σ a k) b k (60 + 13 * b + i) - f_no0 (f_ask0 σ a k) b k (151 + 13 * b + i)) (g := fun i => if i = k then f_no0 (f_ask0 σ a k) b k (60 + 13 * b + k) else f_no0 (f_ask0 σ a k) b k (60 + 13 * b + i) - f_no0 (f_ask0 σ a k) b k (151 + 13 * b + i)) (a := k) (n := 13) hk13.1 (by omega) (fun i _ _ q => if_neg q)
    have m := sm_mono (f := fun i => if i = k then f_no0 (f_ask0 σ a k) b k (60 + 13 * b + k) else f_no0 (f_ask0 σ a k) b k (60 + 13 * b + i) - f_no0 (f_ask0 σ a k) b k (151 + 13 * b + i)) (g := fun i => f_no0 (f_ask0 σ a k) b k (60 + 13 * b + i)) (n := 13) (fun i x y => by
      try dsimp only
      split
      · rename_i e; subst e; exact Int.le_refl _
      · have := c1.kn hb6.1 hb6.2 x (show i < 13 by omega); omega)
    simp only [if_true] at u
    rw [z0 (151 + 13 * b + k) (by omega)] at u
    omega
  have g2 := f_unk_g hb6 hk13 _ c1.rg hg2
  have z2 : ∀ j, j ≠ 229 + b → j ≠ 151 + 13 * b + k → ¬ (235 + 52 * b ≤ j ∧ j < 235 + 52 * b + 52) → f_unk (f_no0 (f_ask0 σ a k) b k) b k (f_ask0 σ a k (151 + 13 * b + k)).toNat j = f_no0 (f_ask0 σ a k) b k j := g2.2
  have o2 := c2.cd hb6.1 hb6.2
  have z3 : ∀ j, j < 235 ∨ 547 ≤ j → f_cannot (f_unk (f_no0 (f_ask0 σ a k) b k) b k (f_ask0 σ a k (151 + 13 * b + k)).toNat) b k j = f_unk (f_no0 (f_ask0 σ a k) b k) b k (f_ask0 σ a k (151 + 13 * b + k)).toNat j := fun j q => f_cannot_n (by omega)
  have z4 : ∀ j, (0 ≤ j ∧ j < 5) ∨ (7 ≤ j ∧ j < 151) → ρ j = f_ask0 σ a k j := fun j q => by
    show f_no1 (f_ask0 σ a k) b k j = _
    unfold f_no1
    rw [us_n (by omega), z3 j (by omega), z2 j (by omega) (by omega) (by omega), z0 j (by omega)]
  have e6 : ρ 6 = σ 6 + 1 := by
    show f_no1 (f_ask0 σ a k) b k 6 = _
    unfold f_no1
    rw [us_s, z3 6 (by omega), z2 6 (by omega) (by omega) (by omega), z0 6 (by omega), n0 6 (by omega), wr_id (by omega)]
  exact ⟨(c2.cannot hb6 hk13).usc (by omega), fun q i x y u w => by rw [z4 _ (by omega)]; exact r0 q i x y u w, fun j x y => by rw [z4 j (by omega), n0 j (by omega)], e6, fun j x y => by rw [z4 j (by omega), n0 j (by omega)]⟩
/-- a card is drawn after a no -/
theorem ask_d (h : CV σ) (h3 : R3 σ) (ha : 0 ≤ a ∧ a < σ 1) (h7 : 0 < σ 7) : CV (f_no2 σ a k) ∧ (∀ q i, 0 ≤ q → q < 6 → 0 ≤ i → i < 13 → ¬ (q = a ∧ i = σ 8) → f_no2 σ a k (60 + 13 * q + i) ≤ 3) ∧ (∀ j, 0 ≤ j → j < 7 → f_no2 σ a k j = σ j) ∧ (0 ≤ σ 8 ∧ σ 8 < 13) := by
  have ht := h.ta
  have ha6 : 0 ≤ a ∧ a < 6 := by omega
  have h8 := h.hp.2 0 (by omega) h7
  rw [show (8 : Int) + 0 = 8 by omega] at h8
  have h77 := h.rg.h7
  have o := h.cd ha6.1 ha6.2
  have nd : ∀ j, j ≠ 7 → ¬ (8 ≤ j ∧ j < 8 + (σ 7 - 1)) → j ≠ 60 + 13 * a + σ 8 → j ≠ 565 + a → f_draws σ a j = σ j := fun j p q r s => f_draws_n (by omega) (by omega) p q r s
  have eo : f_draws σ a (229 + a) = σ (229 + a) := nd _ (by omega) (by omega) (by omega) (by omega)
  have n : ∀ j, (0 ≤ j ∧ j < 7) ∨ (60 ≤ j ∧ j < 138) → f_no2 σ a k j = f_draws σ a j := fun j q => by
    unfold f_no2
    split
    · rename_i z; exact us_n (by omega)
    · unfold f_adds; rw [eo, us_n (by omega), us_n (by omega)]
  refine ⟨?_, fun q i x y u w z => ?_, fun j x y => by rw [n j (by omega), nd j (by omega) (by omega) (by omega) (by omega)], by omega⟩
  · unfold f_no2
    split
    · rename_i z
      have := h.drawK ha h7
      rw [z.2] at this
      exact this
    · exact h.drawA ha h7
  · rw [n _ (by omega), nd _ (by omega) (by omega) (by omega) (by omega)]; exact h3 q i x y u w
theorem WF.asks (h : WF σ) (ho : AO σ a b k) : WF (f_asks σ a b k l).1 := by
  have ho2 := ho
  obtain ⟨h4, ha, hb, hab, hk, hh⟩ := ho2
  have ht := h.cv.ta
  have h6 := h.2.2.2
  have hvn := h6.2.2.2 (by omega)
  unfold f_asks
  by_cases c : 0 < f_gives σ b k l
  · rw [if_pos c]
    obtain ⟨c1, r1, n1, e6, e7⟩ := ask_g h ho c
    obtain ⟨c2, r2⟩ := lay_ok (a := a) (c := k) c1 (by omega) (by omega) r1
    have hb2 := c1.books (p := a) (k := k) (by omega) (by omega)
    have x1 := hb2.2.1 1 (by omega) (by omega)
    have x6 := hb2.2.1 6 (by omega) (by omega)
    have y1 := n1 1 (by omega) (by omega)
    exact f_end_ok c2 r2 (by omega) (by omega) (by omega)
  · rw [if_neg c]
    obtain ⟨c1, r1, n1, e6, e7⟩ := ask_n h ho
    have y1 := n1 1 (by omega) (by omega)
    have y7 := e7 7 (by omega) (by omega)
    try dsimp only
    by_cases d : 0 < f_no1 (f_ask0 σ a k) b k 7
    · rw [if_pos d]
      have c3 : CV (us (f_no1 (f_ask0 σ a k) b k) 6 0) := c1.usc (by omega)
      have r3 : R3 (us (f_no1 (f_ask0 σ a k) b k) 6 0) := r1.usc (by omega)
      obtain ⟨c4, r4, n4, e8⟩ := ask_d (k := k) c3 r3 (a := a) (by rw [us_n (by omega)]; omega) (by rw [us_n (by omega)]; exact d)
      obtain ⟨c5, r5⟩ := lay_ok (a := a) c4 (by omega) e8 r4
      have hb2 := c4.books (p := a) (k := us (f_no1 (f_ask0 σ a k) b k) 6 0 8) (by omega) e8
      have x1 := hb2.2.1 1 (by omega) (by omega)
      have x6 := hb2.2.1 6 (by omega) (by omega)
      have x11 := n4 1 (by omega) (by omega)
      have x66 := n4 6 (by omega) (by omega)
      have z11 : us (f_no1 (f_ask0 σ a k) b k) 6 0 1 = f_no1 (f_ask0 σ a k) b k 1 := us_n (by omega)
      have z66 : us (f_no1 (f_ask0 σ a k) b k) 6 0 6 = 0 := us_s
      exact f_end_ok c5 r5 (by omega) (by omega) (by omega)
    · rw [if_neg d]
      have z7 := c1.hp.1
      exact f_end_ok c1 r1 (by omega) (by omega) (by omega)
end AK
section TL
/-- what is told of an asking -/
def f_tell (a b k g c l lie sure : Int) : Int → Int := fun i => if i = 0 then a else if i = 1 then b else if i = 2 then k else if i = 3 then g else if i = 4 then c else if i = 5 then l else if i = 6 then lie else sure
theorem i8 {i : Int} (h0 : 0 ≤ i) (h1 : i < 8) : i = 0 ∨ i = 1 ∨ i = 2 ∨ i = 3 ∨ i = 4 ∨ i = 5 ∨ i = 6 ∨ i = 7 := by omega
theorem tell_0 {μ : Int → Int} {a b k g c l lie sure : Int} {i : Int} (h0 : 0 ≤ i) (h1 : i < 8) : f_tell a b k g c l lie sure i = us (us (us (us (us (us (us (us μ 0 a) 1 b) 2 k) 3 g) 4 c) 5 l) 6 lie) 7 sure i := by
  rcases i8 h0 h1 with rfl | rfl | rfl | rfl | rfl | rfl | rfl | rfl <;> simp [f_tell, us]
theorem tell_4 {a b k g c c' l lie sure : Int} {i : Int} : f_tell a b k g c' l lie sure i = us (f_tell a b k g c l lie sure) 4 c' i := by
  unfold us f_tell
  by_cases e : i = 4
  · subst e; simp
  · rw [if_neg e]; simp [e]
theorem tell_5 {a b k g c l l' lie sure : Int} {i : Int} (h : i ≠ 5) : f_tell a b k g c l' lie sure i = f_tell a b k g c l lie sure i := by
  unfold f_tell
  simp [h]
theorem giv_eq {Y : Int → Int} {a b k n : Int} (ha : 0 ≤ a ∧ a < 6) (hb : 0 ≤ b ∧ b < 6) (hab : a ≠ b) (hk : 0 ≤ k ∧ k < 13) (e : Y (60 + 13 * b + k) = n) :
    us (us (us (us (us Y (151 + 13 * a + k) (wr (Y (151 + 13 * a + k) + n))) (60 + 13 * b + k) 0) (60 + 13 * a + k) (wr (Y (60 + 13 * a + k) + n))) (559 + a) (wr (Y (559 + a) + n))) 6 0 = f_giv2 (f_hand Y b k (-n)) a k n := by
  unfold f_giv2 f_hand
  have y1 : wr (Y (60 + 13 * b + k) + -n) = 0 := by rw [e, Int.add_right_neg]; rfl
  rw [y1]
  have r1 : us Y (60 + 13 * b + k) 0 (60 + 13 * a + k) = Y (60 + 13 * a + k) := us_n (by omega)
  rw [r1]
  have r2 : ∀ v, us (us Y (60 + 13 * b + k) 0) (60 + 13 * a + k) v (151 + 13 * a + k) = Y (151 + 13 * a + k) := fun v => by rw [us_n (by omega), us_n (by omega)]
  simp only [r2]
  have r3 : ∀ v w, us (us (us Y (60 + 13 * b + k) 0) (60 + 13 * a + k) v) (151 + 13 * a + k) w (559 + a) = Y (559 + a) := fun v w => by rw [us_n (by omega), us_n (by omega), us_n (by omega)]
  simp only [r3]
  rw [us_comm (f := Y) (show 151 + 13 * a + k ≠ 60 + 13 * b + k by omega), us_comm (f := us Y (60 + 13 * b + k) 0) (show 151 + 13 * a + k ≠ 60 + 13 * a + k by omega)]
/-- some of the others can be it, or none -/
theorem can_pos {σ : Int → Int} {p k : Int} (h : 0 ≤ σ (229 + p)) : 0 < sm (fun j => bz (¬ tb (σ (235 + 52 * p + j)) k)) (σ (229 + p)).toNat ↔ f_can σ p k ≠ σ (229 + p) := by
  have key : ∀ (n : Nat) (i : Int), 0 ≤ i → (ff (fun j => tb (σ (235 + 52 * p + j)) k) i n = i + n ↔ ∀ j, i ≤ j → j < i + n → tb (σ (235 + 52 * p + j)) k) := by
    intro n
    induction n with
    | zero => intro i h0; simp only [ff]; constructor; intro _ j a b; omega; intro _; omega
    | succ n ih =>
      intro i h0
      simp only [ff]
      by_cases c : tb (σ (235 + 52 * p + i)) k
      · rw [if_pos c]
        have := ih (i + 1) (by omega)
        rw [show i + ((n + 1 : Nat) : Int) = i + 1 + n by omega, this]
        constructor
        · intro q j a b
          by_cases e : j = i
          · subst e; exact c
          · exact q j (by omega) (by omega)
        · intro q j a b; exact q j (by omega) (by omega)
      · rw [if_neg c]
        constructor
        · intro q; omega
        · intro q; exact absurd (q i (by omega) (by omega)) c
  have k0 := key (σ (229 + p)).toNat 0 (by omega)
  rw [Int.zero_add, Int.toNat_of_nonneg h] at k0
  have s : ∀ n : Nat, (∀ j : Int, 0 ≤ j → j < n → tb (σ (235 + 52 * p + j)) k) ∨ 0 < sm (fun j => bz (¬ tb (σ (235 + 52 * p + j)) k)) n := by
    intro n
    induction n with
    | zero => left; intro j a b; omega
    | succ n ih =>
      have r := bz_r (p := ¬ tb (σ (235 + 52 * p + (n : Int))) k)
      have m := sm_bd (f := fun j => bz (¬ tb (σ (235 + 52 * p + j)) k)) (a := 0) (b := 1) (n := n) (fun i _ _ => bz_r)
      have e : sm (fun j => bz (¬ tb (σ (235 + 52 * p + j)) k)) (n + 1) = sm (fun j => bz (¬ tb (σ (235 + 52 * p + j)) k)) n + bz (¬ tb (σ (235 + 52 * p + (n : Int))) k) := rfl
      by_cases c : tb (σ (235 + 52 * p + (n : Int))) k
      · rcases ih with q | q
        · left
          intro j a b
          by_cases e9 : j = n
          · subst e9; exact c
          · exact q j a (by omega)
        · right; omega
      · right; rw [e, bz_t c]; omega
  have s0 := s (σ (229 + p)).toNat
  have z : (∀ j : Int, 0 ≤ j → j < (σ (229 + p)).toNat → tb (σ (235 + 52 * p + j)) k) → sm (fun j => bz (¬ tb (σ (235 + 52 * p + j)) k)) (σ (229 + p)).toNat = 0 := fun q => by
    rw [sm_congr (f := fun j => bz (¬ tb (σ (235 + 52 * p + j)) k)) (g := fun _ => 0) (fun i a b => bz_f (fun w => w (q i a b)))]
    exact sm_0 _
  have ef : f_can σ p k = ff (fun j => tb (σ (235 + 52 * p + j)) k) 0 (σ (229 + p)).toNat := rfl
  rw [ef]
  constructor
  · intro q w
    have := z (fun j a b => (k0.mp w) j a (by omega))
    omega
  · intro q
    rcases s0 with w | w
    · exact absurd (k0.mpr (fun j a b => w j a (by omega))) q
    · exact w
end TL
