/-! ===== plain: games begin ===== -/
section BG1
variable {σ η : Int → Int} {p k : Int}
theorem addn_z (hp : 0 ≤ p ∧ p < 6) : ∀ (n : Nat) {σ : Int → Int}, 0 ≤ σ (229 + p) → σ (229 + p) + n ≤ 52 → (∀ i, 0 ≤ i → i < σ (229 + p) → σ (235 + 52 * p + i) = 0) → f_addn σ p n (229 + p) = σ (229 + p) + n ∧ (∀ i, 0 ≤ i → i < σ (229 + p) + n → f_addn σ p n (235 + 52 * p + i) = 0) ∧ (∀ j, j ≠ 229 + p → ¬ (235 + 52 * p ≤ j ∧ j < 235 + 52 * p + 52) → f_addn σ p n j = σ j) ∧ (∀ i, σ (229 + p) + n ≤ i → f_addn σ p n (235 + 52 * p + i) = σ (235 + 52 * p + i)) := by
  intro n
  induction n with
  | zero => intro σ h0 h1 z; exact ⟨by simp [f_addn], fun i a b => z i a (by omega), fun _ _ _ => rfl, fun _ _ => rfl⟩
  | succ n ih =>
    intro σ h0 h1 z
    have e0 : f_adds σ p 0 (229 + p) = σ (229 + p) + 1 := us_s
    have e1 : ∀ j, j ≠ 229 + p → j ≠ 235 + 52 * p + σ (229 + p) → f_adds σ p 0 j = σ j := fun j a b => by unfold f_adds; rw [us_n a, us_n b]
    have e2 : f_adds σ p 0 (235 + 52 * p + σ (229 + p)) = 0 := by unfold f_adds; rw [us_n (by omega), us_s]
    obtain ⟨a1, a2, a3, a4⟩ := ih (σ := f_adds σ p 0) (by omega) (by omega) (fun i a b => by
      by_cases q : i = σ (229 + p)
      · rw [q]; exact e2
      · rw [e1 _ (by omega) (by omega)]; exact z i a (by omega))
    refine ⟨by show f_addn (f_adds σ p 0) p n _ = _; rw [a1, e0]; omega, fun i a b => a2 i a (by omega), fun j a b => by show f_addn (f_adds σ p 0) p n _ = _; rw [a3 j a b, e1 j a (by omega)], fun i a => by show f_addn (f_adds σ p 0) p n _ = _; rw [a4 i (by omega), e1 _ (by omega) (by omega)]⟩
/-- the others of the first m are there -/
def B1 (η τ : Int → Int) (m : Int) : Prop := (∀ j, j < 229 ∨ 547 ≤ j → τ j = η j) ∧ (∀ p, 0 ≤ p → p < 6 → τ (229 + p) = if p < m then f_cards η p else 0) ∧ (∀ p i, 0 ≤ p → p < 6 → 0 ≤ i → i < 52 → τ (235 + 52 * p + i) = 0)
theorem beg1_v (h : HW η) : ∀ (n : Nat) (m : Int) {τ : Int → Int}, B1 η τ m → 0 ≤ m → m + n ≤ 6 → B1 η (f_beg1 τ m n) (m + n) := by
  intro n
  induction n with
  | zero => intro m τ b _ _; rw [show m + ((0 : Nat) : Int) = m by omega]; exact b
  | succ n ih =>
    intro m τ b h0 hm
    obtain ⟨b1, b2, b3⟩ := b
    have hc : f_cards τ m = f_cards η m := f_cards_c (fun j _ _ => b1 _ (by omega))
    have c := h.cards (p := m) (by omega)
    have h7 := h.h7
    have t0 : τ (229 + m) = 0 := by rw [b2 m h0 (by omega), if_neg (by omega)]
    obtain ⟨a1, a2, a3, a4⟩ := addn_z (p := m) (by omega) (f_cards τ m).toNat (σ := τ) (by omega) (by rw [hc]; omega) (fun i x y => by omega)
    have := ih (m + 1) (τ := f_addn τ m (f_cards τ m).toNat) ⟨fun j q => by rw [a3 j (by omega) (by omega)]; exact b1 j q, fun q x y => ?_, fun q i x y u w => ?_⟩ (by omega) (by omega)
    · rw [show m + 1 + (n : Int) = m + ((n + 1 : Nat) : Int) by omega] at this
      exact this
    · by_cases e : q = m
      · subst e; rw [a1, t0, hc, if_pos (by omega)]; omega
      · rw [a3 _ (by omega) (by omega), b2 q x y]
        by_cases l : q < m
        · rw [if_pos l, if_pos (by omega)]
        · rw [if_neg l, if_neg (by omega)]
    · by_cases e : q = m
      · subst e
        by_cases l : i < τ (229 + q) + ((f_cards τ q).toNat : Nat)
        · exact a2 i u l
        · rw [a4 i (by omega)]; exact b3 q i x y u w
      · rw [a3 _ (by omega) (by omega)]; exact b3 q i x y u w
theorem HW.B1 (h : HW η) : B1 η (f_beg1 η 0 (η 1).toNat) (η 1) := by
  have h1 := h.2.1
  have hz := h.2.2.2.2.1
  have := beg1_v h (η 1).toNat 0 (τ := η) ⟨fun _ _ => rfl, fun p x y => by rw [if_neg (by omega)]; exact hz _ (by omega), fun p i x y u w => hz _ (by omega)⟩ (by omega) (by omega)
  rw [Int.zero_add, Int.toNat_of_nonneg h1.1] at this
  exact this
theorem sm_z {f : Int → Int} {n : Nat} (h : ∀ i : Int, 0 ≤ i → i < n → f i = 0) : sm f n = 0 := by
  rw [sm_congr (f := f) (g := fun _ => 0) h]; exact sm_0 n
theorem B1.cv {τ : Int → Int} (h : HW η) (b : B1 η τ (η 1)) : CV τ := by
  obtain ⟨b1, b2, b3⟩ := b
  have h7 := h.h7
  obtain ⟨g0, g1, g2, g3, g4, g5, g6, g7, g8, g9⟩ := id h
  have kz : ∀ p k, 0 ≤ p → p < 6 → 0 ≤ k → k < 13 → τ (151 + 13 * p + k) = 0 := fun p k a b c d => by rw [b1 _ (by omega)]; exact g4 _ (by omega)
  have bz0 : ∀ k, 0 ≤ k → k < 13 → τ (138 + k) = 0 := fun k a b => by rw [b1 _ (by omega)]; exact g4 _ (by omega)
  refine ⟨?_, ⟨?_, fun i a b => ?_⟩, fun p i a b c d => ?_, fun p k a b c d => ?_, fun p a b => ?_, fun k a b => ?_, fun k a b => ?_, fun p k a b c d q => ?_, fun k a b => ?_, fun p a b => ?_⟩
  · rw [b1 0 (by omega), b1 1 (by omega), b1 2 (by omega), b1 3 (by omega)]; exact ⟨g0, g1, g2, g3⟩
  · rw [b1 7 (by omega)]; exact g5
  · rw [b1 7 (by omega)] at b
    rw [b1 _ (by omega), b1 0 (by omega)]; exact g6 i a b
  · rw [b3 p i a b c d]; omega
  · rw [kz p k a b c d, b1 _ (by omega)]; have := g9 p k a b c d; omega
  · have e : sm (fun k => τ (60 + 13 * p + k) - τ (151 + 13 * p + k)) 13 = sm (fun k => η (60 + 13 * p + k)) 13 := sm_congr (fun k x y => by rw [kz p k a b x (by omega), b1 _ (by omega)]; omega)
    rw [e, b2 p a b]
    have c := h.cards ⟨a, b⟩
    have s := sm_bd (f := fun k => η (60 + 13 * p + k)) (a := 0) (b := 4) (n := 13) (fun k x y => by have := h.one (p := p) (k := k) ⟨a, b⟩ ⟨x, by omega⟩; have := ct_r (η := η) (k := k); omega)
    by_cases l : p < η 1
    · rw [if_pos l]; unfold f_cards; rw [wr_id (by omega)]
    · rw [if_neg l]; exact (sm_z (fun k x y => (g9 p k a b x (by omega)).2 (by omega))).symm
  · rw [bz0 k a b, bz_f (by decide), ct_eq (σ := η) (b1 7 (by omega)) (fun i x y => b1 _ (by omega)), sm_congr (f := fun p => τ (60 + 13 * p + k)) (g := fun p => η (60 + 13 * p + k)) (fun i x y => b1 _ (by omega)), b1 (571 + k) (by omega)]
    have := g7 k a b
    omega
  · rw [b1 (571 + k) (by omega), b1 0 (by omega)]; exact g8 k a b
  · rw [b1 1 (by omega)] at q
    rw [b1 _ (by omega)]; exact (g9 p k a b c d).2 q
  · rw [bz0 k a b, b1 1 (by omega)]; omega
  · rw [b1 _ (by omega), g4 _ (by omega)]; omega
/-- kinds that are not told are never laid down -/
theorem bks_id : ∀ (n : Nat) (k : Int) {σ : Int → Int}, (∀ i, k ≤ i → i < k + n → σ (60 + 13 * p + i) < 4) → f_bks σ p k n = σ := by
  intro n
  induction n with
  | zero => intro k σ _; rfl
  | succ n ih =>
    intro k σ h
    show f_bks (f_books σ p k) p (k + 1) n = σ
    rw [f_books_lt (h k (by omega) (by omega))]
    exact ih (k + 1) (fun i a b => h i (by omega) (by omega))
theorem bks_app : ∀ (n m : Nat) (k : Int) {σ : Int → Int}, f_bks σ p k (n + m) = f_bks (f_bks σ p k n) p (k + n) m := by
  intro n
  induction n with
  | zero => intro m k σ; rw [Nat.zero_add, show k + ((0 : Nat) : Int) = k by omega]; rfl
  | succ n ih =>
    intro m k σ
    rw [show n + 1 + m = (n + m) + 1 by omega]
    show f_bks (f_books σ p k) p (k + 1) (n + m) = f_bks (f_bks (f_books σ p k) p (k + 1) n) p (k + ((n + 1 : Nat) : Int)) m
    rw [ih m (k + 1), show k + 1 + (n : Int) = k + ((n + 1 : Nat) : Int) by omega]
theorem CV.bks (hp : 0 ≤ p ∧ p < 6) : ∀ (n : Nat) (k : Int) {σ : Int → Int}, CV σ → 0 ≤ k → k + n ≤ 13 → CV (f_bks σ p k n) ∧ (∀ j, 0 ≤ j → j < 7 → f_bks σ p k n j = σ j) ∧ f_bks σ p k n 7 = σ 7 ∧ (∀ q i, 0 ≤ q → q < 6 → 0 ≤ i → i < 13 → f_bks σ p k n (60 + 13 * q + i) = if q = p ∧ (k ≤ i ∧ i < k + n) ∧ σ (60 + 13 * p + i) = 4 then 0 else σ (60 + 13 * q + i)) := by
  intro n
  induction n with
  | zero => intro k σ h _ _; exact ⟨h, fun _ _ _ => rfl, rfl, fun q i _ _ _ _ => by rw [if_neg (by omega)]; rfl⟩
  | succ n ih =>
    intro k σ h h0 hn
    have b := h.books hp (k := k) ⟨h0, by omega⟩
    obtain ⟨a1, a2, a3, a4⟩ := ih (k + 1) b.1 (by omega) (by omega)
    refine ⟨a1, fun j x y => by show f_bks (f_books σ p k) p (k + 1) n j = _; rw [a2 j x y, b.2.1 j x y], by show f_bks (f_books σ p k) p (k + 1) n 7 = _; rw [a3, b.2.2.1], fun q i x y u w => ?_⟩
    show f_bks (f_books σ p k) p (k + 1) n (60 + 13 * q + i) = _
    rw [a4 q i x y u w, b.2.2.2 p i hp.1 hp.2 u w, b.2.2.2 q i x y u w]
    by_cases e : q = p
    · subst e
      by_cases f : i = k
      · subst f
        rw [if_neg (by omega)]
        by_cases g : σ (60 + 13 * q + i) = 4
        · rw [if_pos ⟨rfl, rfl, g⟩, if_pos ⟨rfl, by omega, g⟩]
        · rw [if_neg (fun r => g r.2.2), if_neg (fun r => g r.2.2)]
      · rw [if_neg (show ¬ (q = q ∧ i = k ∧ σ (60 + 13 * q + k) = 4) from fun r => f r.2.1)]
        by_cases g : (k + 1 ≤ i ∧ i < k + 1 + n) ∧ σ (60 + 13 * q + i) = 4
        · rw [if_pos ⟨rfl, g⟩, if_pos ⟨rfl, by omega, g.2⟩]
        · rw [if_neg (fun r => g r.2), if_neg (fun r => g ⟨by omega, r.2.2⟩)]
    · rw [if_neg (fun r => e r.1), if_neg (fun r => e r.1), if_neg (fun r => e r.1)]
theorem CV.bks13 (h : CV σ) (hp : 0 ≤ p ∧ p < 6) : f_bks σ p 0 13 = f_bks σ p 0 (σ 0).toNat := by
  have h0 := h.ta.1
  have e := bks_app (p := p) (σ 0).toNat (13 - (σ 0).toNat) 0 (σ := σ)
  rw [show (σ 0).toNat + (13 - (σ 0).toNat) = 13 by omega] at e
  rw [e]
  have b := CV.bks hp (σ 0).toNat 0 h (by omega) (by omega)
  refine bks_id _ _ (fun i x y => ?_)
  rw [b.2.2.2 p i hp.1 hp.2 (by omega) (by omega), if_neg (by omega)]
  have o := h.one hp.1 hp.2 (k := i) (by omega) (by omega)
  have c := h.ca (k := i) (by omega) (by omega)
  have := ct_r (η := σ) (k := i)
  have := bz_r (p := 0 < σ (138 + i))
  omega
/-- all that make a book are laid down, person by person -/
theorem CV.beg2 : ∀ (n : Nat) (m : Int) {σ : Int → Int}, CV σ → 0 ≤ m → m + n = σ 1 → (∀ q i, 0 ≤ q → q < m → 0 ≤ i → i < 13 → σ (60 + 13 * q + i) ≤ 3) → CV (f_beg2 σ m n) ∧ R3 (f_beg2 σ m n) ∧ (∀ j, 0 ≤ j → j < 8 → f_beg2 σ m n j = σ j) := by
  intro n
  induction n with
  | zero =>
    intro m σ h h0 hm hl
    refine ⟨h, fun q i x y u w => ?_, fun _ _ _ => rfl⟩
    show σ (60 + 13 * q + i) ≤ 3
    by_cases l : q < m
    · exact hl q i x l u w
    · rw [h.nz x y u w (by omega)]; omega
  | succ n ih =>
    intro m σ h h0 hm hl
    have ht := h.ta
    have b := CV.bks (p := m) (by omega) 13 0 h (by omega) (by omega)
    rw [h.bks13 (by omega)] at b
    have e0 := b.2.1 0 (by omega) (by omega)
    have e1 := b.2.1 1 (by omega) (by omega)
    obtain ⟨a1, a2, a3⟩ := ih (m + 1) b.1 (by omega) (by omega) (fun q i x y u w => by
      rw [b.2.2.2 q i x (by omega) u w]
      by_cases e : q = m
      · subst e
        have := h.h4 x (show q < 6 by omega) u w
        by_cases g : σ (60 + 13 * q + i) = 4
        · rw [if_pos ⟨rfl, by omega, g⟩]; omega
        · rw [if_neg (fun r => g r.2.2)]; omega
      · rw [if_neg (fun r => e r.1)]; exact hl q i x (by omega) u w)
    refine ⟨a1, a2, fun j x y => ?_⟩
    show f_beg2 (f_bks σ m 0 (σ 0).toNat) (m + 1) n j = _
    rw [a3 j x y]
    by_cases e : j = 7
    · subst e; exact b.2.2.1
    · exact b.2.1 j x (by omega)
theorem f_settles_0 (h1 : σ 1 = 0) : f_settles σ 0 = us σ 4 (-1) := by
  unfold f_settles
  rw [h1]
  rfl
theorem WF.begins (h : HW η) : WF (f_begins η) ∧ (∀ j, 0 ≤ j → j < 4 → f_begins η j = η j) := by
  have b := h.B1
  have c := b.cv h
  have h1 := h.2.1
  have e1 : f_beg1 η 0 (η 1).toNat 1 = η 1 := b.1 1 (by omega)
  have e6 : f_beg1 η 0 (η 1).toNat 6 = 0 := by rw [b.1 6 (by omega)]; exact h.2.2.2.2.1 6 (by omega)
  have eb : ∀ j, j < 229 → f_beg1 η 0 (η 1).toNat j = η j := fun j q => b.1 j (by omega)
  unfold f_begins
  simp only
  obtain ⟨a1, a2, a3⟩ := CV.beg2 (η 1).toNat 0 c (by omega) (by rw [e1]; omega) (fun q i x y => by omega)
  generalize f_beg2 (f_beg1 η 0 (η 1).toNat) 0 (η 1).toNat = ρ at a1 a2 a3
  have r1 : ρ 1 = η 1 := by rw [a3 1 (by omega) (by omega)]; exact e1
  have r6 : ρ 6 = 0 := by rw [a3 6 (by omega) (by omega)]; exact e6
  by_cases z : η 1 = 0
  · rw [f_settles_0 (by omega)]
    have n : ∀ j, j ≠ 4 → us ρ 4 (-1) j = ρ j := fun j q => us_n q
    exact ⟨⟨a1.usc (by omega), a2.usc (by omega), Or.inl us_s, by rw [n 6 (by omega)]; omega, by rw [n 6 (by omega), n 1 (by omega)]; omega, by rw [n 6 (by omega)]; omega, fun q => absurd us_s q⟩, fun j x y => by rw [n j (by omega), a3 j x (by omega), eb j (by omega)]⟩
  · obtain ⟨s1, s2, s3, s4, s5⟩ := a1.settles (fr := 0) a2 (by omega)
    have e61 := s4 6 (by omega) (by omega) (by omega)
    have e11 := s4 1 (by omega) (by omega) (by omega)
    exact ⟨⟨s1, s2, s3, by omega, by omega, by omega, by omega⟩, fun j x y => by rw [s4 j x (by omega) (by omega), a3 j x (by omega), eb j (by omega)]⟩
end BG1
