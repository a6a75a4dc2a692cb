/-! ===== plain: what holds of a row while it is played ===== -/
theorem sm_upd {f g : Int → Int} {a : Int} : ∀ {n : Nat}, 0 ≤ a → a < n → (∀ i : Int, 0 ≤ i → i < n → i ≠ a → g i = f i) → sm g n = sm f n + (g a - f a) := by
  intro n
  induction n with
  | zero => intro h0 h1; omega
  | succ n ih =>
    intro h0 h1 h
    simp only [sm]
    by_cases e : a = n
    · subst e
      rw [sm_congr (f := g) (g := f) (fun i p q => h i p (by omega) (by omega))]
      omega
    · rw [ih h0 (by omega) (fun i p q r => h i p (by omega) r), h n (by omega) (by omega) (fun q => e q.symm)]
      omega
theorem sm_sh {f : Int → Int} : ∀ n : Nat, sm (fun i => f (i + 1)) n = sm f (n + 1) - f 0 := by
  intro n
  induction n with
  | zero => simp [sm]
  | succ n ih =>
    have e : sm (fun i => f (i + 1)) (n + 1) = sm (fun i => f (i + 1)) n + f ((n : Int) + 1) := rfl
    have e2 : sm f (n + 1 + 1) = sm f (n + 1) + f ((n + 1 : Nat) : Int) := rfl
    rw [e, ih, e2, show ((n + 1 : Nat) : Int) = (n : Int) + 1 by omega]
    omega
theorem sm_mono {f g : Int → Int} {n : Nat} (h : ∀ i : Int, 0 ≤ i → i < n → f i ≤ g i) : sm f n ≤ sm g n := by
  induction n with
  | zero => exact Int.le_refl _
  | succ n ih =>
    simp only [sm]
    have := ih (fun i p q => h i p (by omega))
    have := h n (by omega) (by omega)
    omega
/-- tables, cards and what is known fit together -/
def CV (σ : Int → Int) : Prop :=
  ((0 ≤ σ 0 ∧ σ 0 ≤ 13) ∧ (0 ≤ σ 1 ∧ σ 1 ≤ 6) ∧ (σ 2 = 0 ∨ σ 2 = 1) ∧ (0 ≤ σ 3 ∧ σ 3 ≤ 9)) ∧
  (0 ≤ σ 7 ∧ ∀ i, 0 ≤ i → i < σ 7 → 0 ≤ σ (8 + i) ∧ σ (8 + i) < σ 0) ∧
  (∀ p i, 0 ≤ p → p < 6 → 0 ≤ i → i < 52 → 0 ≤ σ (235 + 52 * p + i) ∧ σ (235 + 52 * p + i) < 8192) ∧
  (∀ p k, 0 ≤ p → p < 6 → 0 ≤ k → k < 13 → 0 ≤ σ (151 + 13 * p + k) ∧ σ (151 + 13 * p + k) ≤ σ (60 + 13 * p + k)) ∧
  (∀ p, 0 ≤ p → p < 6 → σ (229 + p) = sm (fun k => σ (60 + 13 * p + k) - σ (151 + 13 * p + k)) 13) ∧
  (∀ k, 0 ≤ k → k < 13 → sm (fun p => σ (60 + 13 * p + k)) 6 + ct σ k + 4 * bz (0 < σ (138 + k)) = σ (571 + k)) ∧
  (∀ k, 0 ≤ k → k < 13 → σ (571 + k) ≤ 4 ∧ (σ 0 ≤ k → σ (571 + k) = 0)) ∧
  (∀ p k, 0 ≤ p → p < 6 → 0 ≤ k → k < 13 → σ 1 ≤ p → σ (60 + 13 * p + k) = 0) ∧
  (∀ k, 0 ≤ k → k < 13 → 0 ≤ σ (138 + k) ∧ σ (138 + k) ≤ σ 1) ∧
  (∀ p, 0 ≤ p → p < 6 → 0 ≤ σ (565 + p) ∧ σ (565 + p) ≤ 13)
section CVS
variable {σ σ' : Int → Int}
theorem CV.ta (h : CV σ) : (0 ≤ σ 0 ∧ σ 0 ≤ 13) ∧ (0 ≤ σ 1 ∧ σ 1 ≤ 6) ∧ (σ 2 = 0 ∨ σ 2 = 1) ∧ (0 ≤ σ 3 ∧ σ 3 ≤ 9) := h.1
theorem CV.hp (h : CV σ) : 0 ≤ σ 7 ∧ ∀ i, 0 ≤ i → i < σ 7 → 0 ≤ σ (8 + i) ∧ σ (8 + i) < σ 0 := h.2.1
theorem CV.ms (h : CV σ) : ∀ p i, 0 ≤ p → p < 6 → 0 ≤ i → i < 52 → 0 ≤ σ (235 + 52 * p + i) ∧ σ (235 + 52 * p + i) < 8192 := h.2.2.1
theorem CV.kn (h : CV σ) {p k : Int} (h0 : 0 ≤ p) (h1 : p < 6) (h2 : 0 ≤ k) (h3 : k < 13) : 0 ≤ σ (151 + 13 * p + k) ∧ σ (151 + 13 * p + k) ≤ σ (60 + 13 * p + k) := h.2.2.2.1 p k h0 h1 h2 h3
theorem CV.ot (h : CV σ) {p : Int} (h0 : 0 ≤ p) (h1 : p < 6) : σ (229 + p) = sm (fun k => σ (60 + 13 * p + k) - σ (151 + 13 * p + k)) 13 := h.2.2.2.2.1 p h0 h1
theorem CV.co (h : CV σ) {k : Int} (h2 : 0 ≤ k) (h3 : k < 13) : sm (fun p => σ (60 + 13 * p + k)) 6 + ct σ k + 4 * bz (0 < σ (138 + k)) = σ (571 + k) := h.2.2.2.2.2.1 k h2 h3
theorem CV.ca (h : CV σ) {k : Int} (h2 : 0 ≤ k) (h3 : k < 13) : σ (571 + k) ≤ 4 ∧ (σ 0 ≤ k → σ (571 + k) = 0) := h.2.2.2.2.2.2.1 k h2 h3
theorem CV.nz (h : CV σ) {p k : Int} (h0 : 0 ≤ p) (h1 : p < 6) (h2 : 0 ≤ k) (h3 : k < 13) (h4 : σ 1 ≤ p) : σ (60 + 13 * p + k) = 0 := h.2.2.2.2.2.2.2.1 p k h0 h1 h2 h3 h4
theorem CV.bk (h : CV σ) {k : Int} (h2 : 0 ≤ k) (h3 : k < 13) : 0 ≤ σ (138 + k) ∧ σ (138 + k) ≤ σ 1 := h.2.2.2.2.2.2.2.2.1 k h2 h3
theorem CV.dr (h : CV σ) {p : Int} (h0 : 0 ≤ p) (h1 : p < 6) : 0 ≤ σ (565 + p) ∧ σ (565 + p) ≤ 13 := h.2.2.2.2.2.2.2.2.2 p h0 h1
/-- of one kind: a hand, two hands, the heap, a book -/
theorem CV.one (h : CV σ) {p k : Int} (h0 : 0 ≤ p) (h1 : p < 6) (h2 : 0 ≤ k) (h3 : k < 13) : 0 ≤ σ (60 + 13 * p + k) ∧ σ (60 + 13 * p + k) + ct σ k + 4 * bz (0 < σ (138 + k)) ≤ σ (571 + k) ∧ σ (571 + k) ≤ 4 := by
  have e := h.co h2 h3
  rw [sm6] at e
  have := h.ca h2 h3
  have a0 := h.kn (p := 0) (by omega) (by omega) h2 h3
  have a1 := h.kn (p := 1) (by omega) (by omega) h2 h3
  have a2 := h.kn (p := 2) (by omega) (by omega) h2 h3
  have a3 := h.kn (p := 3) (by omega) (by omega) h2 h3
  have a4 := h.kn (p := 4) (by omega) (by omega) h2 h3
  have a5 := h.kn (p := 5) (by omega) (by omega) h2 h3
  rcases p6 ⟨h0, h1⟩ with rfl | rfl | rfl | rfl | rfl | rfl <;> omega
theorem CV.two (h : CV σ) {p q k : Int} (h0 : 0 ≤ p) (h1 : p < 6) (g0 : 0 ≤ q) (g1 : q < 6) (hn : p ≠ q) (h2 : 0 ≤ k) (h3 : k < 13) : σ (60 + 13 * p + k) + σ (60 + 13 * q + k) + ct σ k + 4 * bz (0 < σ (138 + k)) ≤ 4 := by
  have e := h.co h2 h3
  rw [sm6] at e
  have := h.ca h2 h3
  have a0 := h.kn (p := 0) (by omega) (by omega) h2 h3
  have a1 := h.kn (p := 1) (by omega) (by omega) h2 h3
  have a2 := h.kn (p := 2) (by omega) (by omega) h2 h3
  have a3 := h.kn (p := 3) (by omega) (by omega) h2 h3
  have a4 := h.kn (p := 4) (by omega) (by omega) h2 h3
  have a5 := h.kn (p := 5) (by omega) (by omega) h2 h3
  rcases p6 ⟨h0, h1⟩ with rfl | rfl | rfl | rfl | rfl | rfl <;> rcases p6 ⟨g0, g1⟩ with rfl | rfl | rfl | rfl | rfl | rfl <;> omega
theorem CV.h4 (h : CV σ) {p k : Int} (h0 : 0 ≤ p) (h1 : p < 6) (h2 : 0 ≤ k) (h3 : k < 13) : 0 ≤ σ (60 + 13 * p + k) ∧ σ (60 + 13 * p + k) ≤ 4 := by
  have := h.one h0 h1 h2 h3
  have c := ct_r (η := σ) (k := k)
  have b := bz_r (p := 0 < σ (138 + k))
  omega
/-- the cards of a hand -/
theorem CV.cd (h : CV σ) {p : Int} (h0 : 0 ≤ p) (h1 : p < 6) : f_cards σ p = sm (fun k => σ (60 + 13 * p + k)) 13 ∧ 0 ≤ f_cards σ p ∧ f_cards σ p + σ 7 ≤ 52 ∧ 0 ≤ σ (229 + p) ∧ σ (229 + p) ≤ f_cards σ p ∧ σ (229 + p) ≤ 52 := by
  have h7 := h.hp
  have h00 := h.ta.1
  have e := sm_ct (f := fun i => σ (8 + i)) (σ 7).toNat (fun i a b => by have := h7.2 i a (by omega); omega)
  have s1 := sm_bd (f := fun k => σ (60 + 13 * p + k) + ct σ k) (a := 0) (b := 4) (n := 13) (fun k a b => by
    have := h.one h0 h1 a (show k < 13 by omega)
    have := ct_r (η := σ) (k := k)
    have := bz_r (p := 0 < σ (138 + k))
    omega)
  have s2 := sm_bd (f := fun k => σ (60 + 13 * p + k)) (a := 0) (b := 4) (n := 13) (fun k a b => h.h4 h0 h1 a (by omega))
  rw [sm_add (f := fun k => σ (60 + 13 * p + k)) (g := fun k => ct σ k)] at s1
  have e2 : sm (fun k => ct σ k) 13 = ((σ 7).toNat : Int) := e
  have o := h.ot h0 h1
  have o1 := sm_bd (f := fun k => σ (60 + 13 * p + k) - σ (151 + 13 * p + k)) (a := 0) (b := 4) (n := 13) (fun k a b => by
    have := h.kn h0 h1 a (show k < 13 by omega); have := h.h4 h0 h1 a (show k < 13 by omega); omega)
  have o2 := sm_mono (f := fun k => σ (60 + 13 * p + k) - σ (151 + 13 * p + k)) (g := fun k => σ (60 + 13 * p + k)) (n := 13) (fun k a b => by
    have := h.kn h0 h1 a (show k < 13 by omega); omega)
  unfold f_cards
  rw [wr_id (by omega)]
  omega
theorem CV.rg (h : CV σ) : RG σ := ⟨h.hp.1, fun i a b => by have := h.hp.2 i a b; have := h.ta.1; omega, fun p a b => by have := h.cd a b; omega, h.ms⟩
/-- an empty hand -/
theorem CV.em (h : CV σ) {p : Int} (h0 : 0 ≤ p) (h1 : p < 6) (hc : f_cards σ p = 0) : σ (229 + p) = 0 ∧ ∀ k, 0 ≤ k → k < 13 → σ (60 + 13 * p + k) = 0 ∧ σ (151 + 13 * p + k) = 0 := by
  have c := h.cd h0 h1
  have hz : ∀ k, 0 ≤ k → k < 13 → σ (60 + 13 * p + k) = 0 := by
    intro k a b
    have u := sm_upd (f := fun k => σ (60 + 13 * p + k)) (g := fun i => if i = k then 0 else σ (60 + 13 * p + i)) (a := k) (n := 13) a (by omega) (fun i _ _ q => if_neg q)
    have m := sm_bd (f := fun i => if i = k then 0 else σ (60 + 13 * p + i)) (a := 0) (b := 4) (n := 13) (fun i x y => by
      try dsimp only
      split
      · omega
      · exact h.h4 h0 h1 x (by omega))
    have := h.h4 h0 h1 a b
    simp only [if_true] at u
    omega
  refine ⟨by omega, fun k a b => ⟨hz k a b, ?_⟩⟩
  have := h.kn h0 h1 a b
  have := hz k a b
  omega
/-- hands, heap, books stay; what is known of them may change -/
theorem CV.kno (h : CV σ) (e1 : ∀ j, (0 ≤ j ∧ j < 4) ∨ (7 ≤ j ∧ j < 151) ∨ (565 ≤ j ∧ j < 584) → σ' j = σ j)
    (hm : ∀ p i, 0 ≤ p → p < 6 → 0 ≤ i → i < 52 → 0 ≤ σ' (235 + 52 * p + i) ∧ σ' (235 + 52 * p + i) < 8192)
    (hk : ∀ p k, 0 ≤ p → p < 6 → 0 ≤ k → k < 13 → 0 ≤ σ' (151 + 13 * p + k) ∧ σ' (151 + 13 * p + k) ≤ σ (60 + 13 * p + k))
    (ho : ∀ p, 0 ≤ p → p < 6 → σ' (229 + p) = sm (fun k => σ (60 + 13 * p + k) - σ' (151 + 13 * p + k)) 13) : CV σ' := by
  have ha := h.rg.h7
  have hct : ∀ k, ct σ' k = ct σ k := fun k => by
    unfold ct
    rw [e1 7 (by omega)]
    exact sm_congr (fun i a b => by rw [e1 (8 + i) (by omega)])
  refine ⟨?_, ⟨?_, fun i a b => ?_⟩, hm, fun p k a b c d => ?_, fun p a b => ?_, fun k a b => ?_, fun k a b => ?_, fun p k a b c d q => ?_, fun k a b => ?_, fun p a b => ?_⟩
  · rw [e1 0 (by omega), e1 1 (by omega), e1 2 (by omega), e1 3 (by omega)]; exact h.ta
  · rw [e1 7 (by omega)]; exact h.hp.1
  · rw [e1 7 (by omega)] at b
    rw [e1 (8 + i) (by omega), e1 0 (by omega)]; exact h.hp.2 i a b
  · rw [e1 (60 + 13 * p + k) (by omega)]; exact hk p k a b c d
  · rw [ho p a b]; exact sm_congr (fun i x y => by rw [e1 (60 + 13 * p + i) (by omega)])
  · rw [hct, e1 (138 + k) (by omega), e1 (571 + k) (by omega), ← h.co a b]
    rw [sm_congr (f := fun p => σ' (60 + 13 * p + k)) (g := fun p => σ (60 + 13 * p + k)) (fun i x y => by rw [e1 (60 + 13 * i + k) (by omega)])]
  · rw [e1 0 (by omega), e1 (571 + k) (by omega)]; exact h.ca a b
  · rw [e1 1 (by omega)] at q
    rw [e1 (60 + 13 * p + k) (by omega)]; exact h.nz a b c d q
  · rw [e1 (138 + k) (by omega), e1 1 (by omega)]; exact h.bk a b
  · rw [e1 (565 + p) (by omega)]; exact h.dr a b
/-- only counts change -/
theorem CV.usc (h : CV σ) {j v : Int} (hj : (4 ≤ j ∧ j < 7) ∨ (547 ≤ j ∧ j < 565) ∨ 584 ≤ j) : CV (us σ j v) := by
  refine h.kno (fun i q => us_n (by omega)) (fun p i a b c d => ?_) (fun p k a b c d => ?_) (fun p a b => ?_)
  · rw [us_n (by omega)]; exact h.ms p i a b c d
  · rw [us_n (by omega)]; exact h.kn a b c d
  · rw [us_n (by omega), h.ot a b]; exact sm_congr (fun i x y => by rw [us_n (by omega)])
theorem CV.cannot (h : CV σ) {p k : Int} (hp : 0 ≤ p ∧ p < 6) (hk : 0 ≤ k ∧ k < 13) : CV (f_cannot σ p k) := by
  have o := h.cd hp.1 hp.2
  have n : ∀ j, j < 235 ∨ 547 ≤ j → f_cannot σ p k j = σ j := fun j q => f_cannot_n (by omega)
  refine h.kno (fun i q => n i (by omega)) (RG_cannot h.rg hp hk).2.2.2 (fun p k a b c d => ?_) (fun p a b => ?_)
  · rw [n _ (by omega)]; exact h.kn a b c d
  · rw [n _ (by omega), h.ot a b]; exact sm_congr (fun i x y => by rw [n _ (by omega)])
theorem CV.learns (h : CV σ) {p k : Int} (hp : 0 ≤ p ∧ p < 6) (hk : 0 ≤ k ∧ k < 13) (hl : σ (151 + 13 * p + k) < σ (60 + 13 * p + k)) : CV (f_learns σ p k) ∧ f_learns σ p k (151 + 13 * p + k) = σ (151 + 13 * p + k) + 1 := by
  have o := h.cd hp.1 hp.2
  have k4 := h.h4 hp.1 hp.2 hk.1 hk.2
  have kk := h.kn hp.1 hp.2 hk.1 hk.2
  have op : 0 < σ (229 + p) := by
    rw [h.ot hp.1 hp.2]
    have u := sm_upd (f := fun k => σ (60 + 13 * p + k) - σ (151 + 13 * p + k)) (g := fun i => if i = k then 0 else σ (60 + 13 * p + i) - σ (151 + 13 * p + i)) (a := k) (n := 13) hk.1 (by omega) (fun i _ _ q => if_neg q)
    have m := sm_bd (f := fun i => if i = k then 0 else σ (60 + 13 * p + i) - σ (151 + 13 * p + i)) (a := 0) (b := 4) (n := 13) (fun i x y => by
      try dsimp only
      split
      · omega
      · have := h.h4 hp.1 hp.2 x (show i < 13 by omega); have := h.kn hp.1 hp.2 x (show i < 13 by omega); omega)
    simp only [if_true] at u
    omega
  have ek : f_learns σ p k (151 + 13 * p + k) = σ (151 + 13 * p + k) + 1 := by rw [f_learns_k (by omega), wr_id (by omega)]
  have eo : f_learns σ p k (229 + p) = σ (229 + p) - 1 := f_learns_o (by omega) hp hk (by omega)
  have en : ∀ j, j ≠ 229 + p → j ≠ 547 + p → j ≠ 151 + 13 * p + k → ¬ (235 + 52 * p ≤ j ∧ j < 235 + 52 * p + 52) → f_learns σ p k j = σ j := fun j a b c d => f_learns_n (by omega) a b c (by omega)
  refine ⟨h.kno (fun i q => en i (by omega) (by omega) (by omega) (by omega)) (RG_learns h.rg hp hk).2.2.2 (fun q i a b c d => ?_) (fun q a b => ?_), ek⟩
  · by_cases e : q = p ∧ i = k
    · obtain ⟨rfl, rfl⟩ := e; rw [ek]; omega
    · rw [en _ (by omega) (by omega) (by omega) (by omega)]; exact h.kn a b c d
  · by_cases e : q = p
    · subst e
      have u := sm_upd (f := fun i => σ (60 + 13 * q + i) - σ (151 + 13 * q + i)) (g := fun i => σ (60 + 13 * q + i) - f_learns σ q k (151 + 13 * q + i)) (a := k) (n := 13) hk.1 (by omega) (fun i x y r => by rw [en _ (by omega) (by omega) (by omega) (by omega)])
      rw [eo, u, h.ot a b, ek]
      omega
    · rw [en _ (by omega) (by omega) (by omega) (by omega), h.ot a b]
      exact sm_congr (fun i x y => by rw [en _ (by omega) (by omega) (by omega) (by omega)])
theorem CV.lr {p k : Int} (hp : 0 ≤ p ∧ p < 6) (hk : 0 ≤ k ∧ k < 13) : ∀ (n : Nat) {σ : Int → Int}, CV σ → σ (151 + 13 * p + k) + n ≤ σ (60 + 13 * p + k) → CV (f_lr σ p k n) ∧ f_lr σ p k n (151 + 13 * p + k) = σ (151 + 13 * p + k) + n := by
  intro n
  induction n with
  | zero => intro σ h _; exact ⟨h, by simp [f_lr]⟩
  | succ n ih =>
    intro σ h hl
    obtain ⟨a, b⟩ := h.learns hp hk (by omega)
    have e : f_learns σ p k (60 + 13 * p + k) = σ (60 + 13 * p + k) := f_learns_n (by have := h.cd hp.1 hp.2; omega) (by omega) (by omega) (by omega) (by have := h.cd hp.1 hp.2; omega)
    obtain ⟨c, d⟩ := ih a (by rw [b, e]; omega)
    exact ⟨c, by show f_lr (f_learns σ p k) p k n _ = _; rw [d, b]; omega⟩
end CVS
section CVT
variable {σ σ' : Int → Int}
theorem CV.gen (h : CV σ) (e0 : ∀ j, 0 ≤ j → j < 4 → σ' j = σ j) (eC : ∀ k, 0 ≤ k → k < 13 → σ' (571 + k) = σ (571 + k))
    (hh : 0 ≤ σ' 7 ∧ ∀ i, 0 ≤ i → i < σ' 7 → 0 ≤ σ' (8 + i) ∧ σ' (8 + i) < σ 0)
    (hm : ∀ p i, 0 ≤ p → p < 6 → 0 ≤ i → i < 52 → 0 ≤ σ' (235 + 52 * p + i) ∧ σ' (235 + 52 * p + i) < 8192)
    (hk : ∀ p k, 0 ≤ p → p < 6 → 0 ≤ k → k < 13 → 0 ≤ σ' (151 + 13 * p + k) ∧ σ' (151 + 13 * p + k) ≤ σ' (60 + 13 * p + k))
    (ho : ∀ p, 0 ≤ p → p < 6 → σ' (229 + p) = sm (fun k => σ' (60 + 13 * p + k) - σ' (151 + 13 * p + k)) 13)
    (hc : ∀ k, 0 ≤ k → k < 13 → sm (fun p => σ' (60 + 13 * p + k)) 6 + ct σ' k + 4 * bz (0 < σ' (138 + k)) = σ (571 + k))
    (hz : ∀ p k, 0 ≤ p → p < 6 → 0 ≤ k → k < 13 → σ 1 ≤ p → σ' (60 + 13 * p + k) = 0)
    (hb : ∀ k, 0 ≤ k → k < 13 → 0 ≤ σ' (138 + k) ∧ σ' (138 + k) ≤ σ 1)
    (hd : ∀ p, 0 ≤ p → p < 6 → 0 ≤ σ' (565 + p) ∧ σ' (565 + p) ≤ 13) : CV σ' := by
  have z0 := e0 0 (by omega) (by omega)
  have z1 := e0 1 (by omega) (by omega)
  have z2 := e0 2 (by omega) (by omega)
  have z3 := e0 3 (by omega) (by omega)
  refine ⟨by rw [z0, z1, z2, z3]; exact h.ta, by rw [z0]; exact hh, hm, hk, ho, fun k a b => by rw [eC k a b]; exact hc k a b, fun k a b => by rw [eC k a b, z0]; exact h.ca a b, fun p k a b c d q => hz p k a b c d (by rw [z1] at q; exact q), fun k a b => by rw [z1]; exact hb k a b, hd⟩
theorem ct_eq (h7 : σ' 7 = σ 7) (h : ∀ i, 0 ≤ i → i < σ 7 → σ' (8 + i) = σ (8 + i)) (k : Int) : ct σ' k = ct σ k := by
  unfold ct
  rw [h7]
  exact sm_congr (fun i a b => by rw [h i a (by omega)])
theorem f_books_lt {p k : Int} (h : σ (60 + 13 * p + k) < 4) : f_books σ p k = σ := if_pos h
/-- four are laid down -/
theorem CV.books (h : CV σ) {p k : Int} (hp : 0 ≤ p ∧ p < 6) (hk : 0 ≤ k ∧ k < 13) : CV (f_books σ p k) ∧ (∀ j, 0 ≤ j → j < 7 → f_books σ p k j = σ j) ∧ f_books σ p k 7 = σ 7 ∧ (∀ q i, 0 ≤ q → q < 6 → 0 ≤ i → i < 13 → f_books σ p k (60 + 13 * q + i) = if q = p ∧ i = k ∧ σ (60 + 13 * p + k) = 4 then 0 else σ (60 + 13 * q + i)) := by
  have k4 := h.h4 hp.1 hp.2 hk.1 hk.2
  by_cases c : σ (60 + 13 * p + k) < 4
  · rw [f_books_lt c]
    exact ⟨h, fun _ _ _ => rfl, rfl, fun q i _ _ _ _ => by rw [if_neg (by omega)]⟩
  have c4 : σ (60 + 13 * p + k) = 4 := by omega
  have kk := h.kn hp.1 hp.2 hk.1 hk.2
  obtain ⟨hτ, eτ⟩ := CV.lr hp hk (4 - σ (151 + 13 * p + k)).toNat h (by omega)
  have nτ : ∀ j, j ≠ 229 + p → j ≠ 547 + p → j ≠ 151 + 13 * p + k → ¬ (235 + 52 * p ≤ j ∧ j < 235 + 52 * p + 52) → f_lr σ p k (4 - σ (151 + 13 * p + k)).toNat j = σ j := fun j a b c d => f_lr_n hp hk a b c d _ h.rg
  have eb : f_books σ p k = us (us (us (f_lr σ p k (4 - σ (151 + 13 * p + k)).toNat) (151 + 13 * p + k) 0) (60 + 13 * p + k) 0) (138 + k) (p + 1) := by
    unfold f_books f_hand
    rw [if_neg c]
    rw [us_n (show 60 + 13 * p + k ≠ 151 + 13 * p + k by omega), nτ _ (by omega) (by omega) (by omega) (by omega), c4]
    rfl
  rw [eb]
  generalize hg : f_lr σ p k (4 - σ (151 + 13 * p + k)).toNat = τ at hτ eτ nτ
  have e4 : τ (60 + 13 * p + k) = 4 := by rw [nτ _ (by omega) (by omega) (by omega) (by omega)]; exact c4
  have ek : τ (151 + 13 * p + k) = 4 := by rw [eτ]; omega
  have n : ∀ j, j ≠ 151 + 13 * p + k → j ≠ 60 + 13 * p + k → j ≠ 138 + k → us (us (us τ (151 + 13 * p + k) 0) (60 + 13 * p + k) 0) (138 + k) (p + 1) j = τ j := fun j a b c => by rw [us_n c, us_n b, us_n a]
  have nk : us (us (us τ (151 + 13 * p + k) 0) (60 + 13 * p + k) 0) (138 + k) (p + 1) (151 + 13 * p + k) = 0 := by rw [us_n (by omega), us_n (by omega), us_s]
  have nh : us (us (us τ (151 + 13 * p + k) 0) (60 + 13 * p + k) 0) (138 + k) (p + 1) (60 + 13 * p + k) = 0 := by rw [us_n (by omega), us_s]
  have nb : us (us (us τ (151 + 13 * p + k) 0) (60 + 13 * p + k) 0) (138 + k) (p + 1) (138 + k) = p + 1 := us_s
  have h7 := hτ.rg.h7
  have hp1 : p < σ 1 := by
    by_cases q : σ 1 ≤ p
    · have := h.nz hp.1 hp.2 hk.1 hk.2 q; omega
    · omega
  have e1 : τ 1 = σ 1 := nτ _ (by omega) (by omega) (by omega) (by omega)
  have hone := hτ.one hp.1 hp.2 hk.1 hk.2
  have hct := ct_r (η := τ) (k := k)
  have hbz := bz_r (p := 0 < τ (138 + k))
  have hbk := hτ.bk hk.1 hk.2
  have hb0 : ¬ 0 < τ (138 + k) := fun q => by rw [bz_t q] at hone; omega
  generalize us (us (us τ (151 + 13 * p + k) 0) (60 + 13 * p + k) 0) (138 + k) (p + 1) = ρ at n nk nh nb
  refine ⟨hτ.gen (fun j a b => n j (by omega) (by omega) (by omega)) (fun i a b => n _ (by omega) (by omega) (by omega)) ⟨?_, fun i a b => ?_⟩ (fun q i a b c d => ?_) (fun q i a b c d => ?_) (fun q a b => ?_) (fun i a b => ?_) (fun q i a b c d r => ?_) (fun i a b => ?_) (fun q a b => ?_), fun j a b => ?_, ?_, fun q i a b c d => ?_⟩
  · rw [n 7 (by omega) (by omega) (by omega)]; exact h7.1
  · rw [n 7 (by omega) (by omega) (by omega)] at b
    rw [n (8 + i) (by omega) (by omega) (by omega)]; exact hτ.hp.2 i a b
  · rw [n _ (by omega) (by omega) (by omega)]; exact hτ.ms q i a b c d
  · by_cases e : q = p ∧ i = k
    · obtain ⟨rfl, rfl⟩ := e; rw [nk, nh]; omega
    · rw [n _ (by omega) (by omega) (by omega), n _ (by omega) (by omega) (by omega)]; exact hτ.kn a b c d
  · rw [n _ (by omega) (by omega) (by omega), hτ.ot a b]
    refine sm_congr (fun i x y => ?_)
    by_cases e : q = p ∧ i = k
    · obtain ⟨rfl, rfl⟩ := e; rw [nk, nh, e4, ek]; omega
    · rw [n _ (by omega) (by omega) (by omega), n _ (by omega) (by omega) (by omega)]
  · have ec : ct ρ i = ct τ i := ct_eq (n 7 (by omega) (by omega) (by omega)) (fun j x y => n _ (by omega) (by omega) (by omega)) i
    have co := hτ.co a b
    rw [ec]
    by_cases e : i = k
    · subst e
      have u := sm_upd (f := fun q => τ (60 + 13 * q + i)) (g := fun q => ρ (60 + 13 * q + i)) (a := p) (n := 6) hp.1 (by omega) (fun q x y r => n _ (by omega) (by omega) (by omega))
      rw [u, nb, nh, e4, bz_t (by omega)]
      rw [bz_f hb0] at co
      omega
    · rw [n (138 + i) (by omega) (by omega) (by omega), ← co]
      rw [sm_congr (f := fun q => ρ (60 + 13 * q + i)) (g := fun q => τ (60 + 13 * q + i)) (fun q x y => n _ (by omega) (by omega) (by omega))]
  · by_cases e : q = p ∧ i = k
    · obtain ⟨rfl, rfl⟩ := e; exact nh
    · rw [n _ (by omega) (by omega) (by omega)]; exact hτ.nz a b c d r
  · by_cases e : i = k
    · subst e; rw [nb, e1]; omega
    · rw [n _ (by omega) (by omega) (by omega)]; exact hτ.bk a b
  · rw [n _ (by omega) (by omega) (by omega)]; exact hτ.dr a b
  · rw [n _ (by omega) (by omega) (by omega)]; exact nτ _ (by omega) (by omega) (by omega) (by omega)
  · rw [n _ (by omega) (by omega) (by omega)]; exact nτ _ (by omega) (by omega) (by omega) (by omega)
  · by_cases e : q = p ∧ i = k
    · obtain ⟨rfl, rfl⟩ := e; rw [nh, if_pos ⟨rfl, rfl, c4⟩]
    · rw [n _ (by omega) (by omega) (by omega), if_neg (fun r => e ⟨r.1, r.2.1⟩)]; exact nτ _ (by omega) (by omega) (by omega) (by omega)
/-- one more of the others, one less known -/
theorem CV.unk1 (h : CV σ) {p k : Int} (hp : 0 ≤ p ∧ p < 6) (hk : 0 ≤ k ∧ k < 13) (hl : 0 < σ (151 + 13 * p + k)) : CV (us (f_adds σ p 0) (151 + 13 * p + k) (σ (151 + 13 * p + k) - 1)) := by
  have kk := h.kn hp.1 hp.2 hk.1 hk.2
  have o := h.cd hp.1 hp.2
  have o52 : σ (229 + p) < 52 := by
    have u := sm_upd (f := fun i => σ (60 + 13 * p + i) - σ (151 + 13 * p + i)) (g := fun i => if i = k then σ (60 + 13 * p + k) else σ (60 + 13 * p + i) - σ (151 + 13 * p + i)) (a := k) (n := 13) hk.1 (by omega) (fun i _ _ q => if_neg q)
    have m := sm_bd (f := fun i => if i = k then σ (60 + 13 * p + k) else σ (60 + 13 * p + i) - σ (151 + 13 * p + i)) (a := 0) (b := 4) (n := 13) (fun i x y => by
      try dsimp only
      have := h.h4 hp.1 hp.2 x (show i < 13 by omega); have := h.kn hp.1 hp.2 x (show i < 13 by omega)
      split
      · rename_i e; subst e; omega
      · omega)
    rw [h.ot hp.1 hp.2]
    simp only [if_true] at u
    omega
  have n : ∀ j, j ≠ 229 + p → j ≠ 235 + 52 * p + σ (229 + p) → j ≠ 151 + 13 * p + k → us (f_adds σ p 0) (151 + 13 * p + k) (σ (151 + 13 * p + k) - 1) j = σ j := fun j a b c => by
    unfold f_adds
    rw [us_n c, us_n a, us_n b]
  have no : us (f_adds σ p 0) (151 + 13 * p + k) (σ (151 + 13 * p + k) - 1) (229 + p) = σ (229 + p) + 1 := by
    unfold f_adds
    rw [us_n (by omega), us_s]
  have nm : us (f_adds σ p 0) (151 + 13 * p + k) (σ (151 + 13 * p + k) - 1) (235 + 52 * p + σ (229 + p)) = 0 := by
    unfold f_adds
    rw [us_n (by omega), us_n (by omega), us_s]
  have nk : us (f_adds σ p 0) (151 + 13 * p + k) (σ (151 + 13 * p + k) - 1) (151 + 13 * p + k) = σ (151 + 13 * p + k) - 1 := us_s
  generalize us (f_adds σ p 0) (151 + 13 * p + k) (σ (151 + 13 * p + k) - 1) = ρ at n no nm nk
  refine h.kno (fun j q => n j (by omega) (by omega) (by omega)) (fun q i a b c d => ?_) (fun q i a b c d => ?_) (fun q a b => ?_)
  · by_cases e : q = p ∧ i = σ (229 + p)
    · obtain ⟨rfl, rfl⟩ := e; rw [nm]; omega
    · rw [n _ (by omega) (by omega) (by omega)]; exact h.ms q i a b c d
  · by_cases e : q = p ∧ i = k
    · obtain ⟨rfl, rfl⟩ := e; rw [nk]; omega
    · rw [n _ (by omega) (by omega) (by omega)]; exact h.kn a b c d
  · by_cases e : q = p
    · subst e
      have u := sm_upd (f := fun i => σ (60 + 13 * q + i) - σ (151 + 13 * q + i)) (g := fun i => σ (60 + 13 * q + i) - ρ (151 + 13 * q + i)) (a := k) (n := 13) hk.1 (by omega) (fun i x y r => by rw [n _ (by omega) (by omega) (by omega)])
      rw [no, u, h.ot a b, nk]
      omega
    · rw [n _ (by omega) (by omega) (by omega), h.ot a b]
      exact sm_congr (fun i x y => by rw [n _ (by omega) (by omega) (by omega)])
theorem CV.unk {p k : Int} (hp : 0 ≤ p ∧ p < 6) (hk : 0 ≤ k ∧ k < 13) : ∀ (n : Nat) {σ : Int → Int}, CV σ → (n : Int) ≤ σ (151 + 13 * p + k) → CV (f_unk σ p k n) := by
  intro n
  induction n with
  | zero => intro σ h _; exact h
  | succ n ih =>
    intro σ h hl
    exact ih (h.unk1 hp hk (by omega)) (by rw [us_s]; omega)
/-- a card is drawn: hers are one more, the heap one less -/
theorem f_draws_c {p : Int} (h7 : 0 < σ 7 ∧ σ 7 ≤ 52) (h8 : 0 ≤ σ 8 ∧ σ 8 < 13) (hp : 0 ≤ p ∧ p < 6) : f_draws σ p (60 + 13 * p + σ 8) = wr (σ (60 + 13 * p + σ 8) + 1) := by
  unfold f_draws f_hand dl
  rw [us_n (by omega), us_s, if_neg (by omega), us_n (by omega)]
theorem f_draws_d {p : Int} : f_draws σ p (565 + p) = σ 8 + 1 := us_s
theorem ct_draw {ρ : Int → Int} (h7 : 0 < σ 7) (e7 : ρ 7 = σ 7 - 1) (e8 : ∀ i, 0 ≤ i → i < σ 7 - 1 → ρ (8 + i) = σ (8 + (i + 1))) (k : Int) : ct ρ k = ct σ k - bz (σ 8 = k) := by
  unfold ct
  have s := sm_sh (f := fun i => bz (σ (8 + i) = k)) (σ 7 - 1).toNat
  rw [show (σ 7 - 1).toNat + 1 = (σ 7).toNat by omega] at s
  rw [e7, sm_congr (f := fun i => bz (ρ (8 + i) = k)) (g := fun i => bz (σ (8 + (i + 1)) = k)) (fun i a b => by rw [e8 i a (by omega)]), s]
  simp
/-- .. and it is known, or one of the others -/
theorem CV.draw (h : CV σ) {ρ : Int → Int} {p x : Int} (hp : 0 ≤ p ∧ p < σ 1) (h7 : 0 < σ 7) (hx : x = 0 ∨ x = 1)
    (n : ∀ j, j ≠ 7 → ¬ (8 ≤ j ∧ j < 8 + (σ 7 - 1)) → j ≠ 60 + 13 * p + σ 8 → j ≠ 151 + 13 * p + σ 8 → j ≠ 229 + p → ¬ (235 + 52 * p ≤ j ∧ j < 235 + 52 * p + 52) → j ≠ 565 + p → ρ j = σ j)
    (e7 : ρ 7 = σ 7 - 1) (e8 : ∀ i, 0 ≤ i → i < σ 7 - 1 → ρ (8 + i) = σ (8 + (i + 1))) (eh : ρ (60 + 13 * p + σ 8) = σ (60 + 13 * p + σ 8) + 1) (ek : ρ (151 + 13 * p + σ 8) = σ (151 + 13 * p + σ 8) + x) (eo : ρ (229 + p) = σ (229 + p) + (1 - x)) (ed : ρ (565 + p) = σ 8 + 1)
    (hm : ∀ i, 0 ≤ i → i < 52 → 0 ≤ ρ (235 + 52 * p + i) ∧ ρ (235 + 52 * p + i) < 8192) : CV ρ := by
  have ha := h.rg.h7
  have h1 := h.ta
  have h8 := h.hp.2 0 (by omega) h7
  rw [show (8 : Int) + 0 = 8 by omega] at h8
  have hp6 : p < 6 := by omega
  refine h.gen (fun j a b => n j (by omega) (by omega) (by omega) (by omega) (by omega) (by omega) (by omega)) (fun i a b => n _ (by omega) (by omega) (by omega) (by omega) (by omega) (by omega) (by omega)) ⟨by omega, fun i a b => ?_⟩ (fun q i a b c d => ?_) (fun q i a b c d => ?_) (fun q a b => ?_) (fun i a b => ?_) (fun q i a b c d r => ?_) (fun i a b => ?_) (fun q a b => ?_)
  · rw [e8 i a (by omega)]; exact h.hp.2 (i + 1) (by omega) (by omega)
  · by_cases e : q = p
    · subst e; exact hm i c d
    · rw [n _ (by omega) (by omega) (by omega) (by omega) (by omega) (by omega) (by omega)]; exact h.ms q i a b c d
  · by_cases e : q = p ∧ i = σ 8
    · obtain ⟨rfl, rfl⟩ := e
      have := h.kn a b c d
      rw [eh, ek]; omega
    · rw [n _ (by omega) (by omega) (by omega) (by omega) (by omega) (by omega) (by omega), n _ (by omega) (by omega) (by omega) (by omega) (by omega) (by omega) (by omega)]; exact h.kn a b c d
  · by_cases e : q = p
    · subst e
      have u := sm_upd (f := fun i => σ (60 + 13 * q + i) - σ (151 + 13 * q + i)) (g := fun i => ρ (60 + 13 * q + i) - ρ (151 + 13 * q + i)) (a := σ 8) (n := 13) h8.1 (by omega) (fun i x y r => by
        rw [n _ (by omega) (by omega) (by omega) (by omega) (by omega) (by omega) (by omega), n _ (by omega) (by omega) (by omega) (by omega) (by omega) (by omega) (by omega)])
      rw [eo, u, h.ot a b, eh, ek]
      omega
    · rw [n _ (by omega) (by omega) (by omega) (by omega) (by omega) (by omega) (by omega), h.ot a b]
      exact sm_congr (fun i x y => by rw [n _ (by omega) (by omega) (by omega) (by omega) (by omega) (by omega) (by omega), n _ (by omega) (by omega) (by omega) (by omega) (by omega) (by omega) (by omega)])
  · have co := h.co a b
    rw [ct_draw h7 e7 e8 i, n (138 + i) (by omega) (by omega) (by omega) (by omega) (by omega) (by omega) (by omega), ← co]
    by_cases e : σ 8 = i
    · have u := sm_upd (f := fun q => σ (60 + 13 * q + i)) (g := fun q => ρ (60 + 13 * q + i)) (a := p) (n := 6) hp.1 (by omega) (fun q x y r => n _ (by omega) (by omega) (by omega) (by omega) (by omega) (by omega) (by omega))
      rw [e] at eh
      rw [u, eh, bz_t e]
      omega
    · rw [bz_f e, sm_congr (f := fun q => ρ (60 + 13 * q + i)) (g := fun q => σ (60 + 13 * q + i)) (fun q x y => n _ (by omega) (by omega) (by omega) (by omega) (by omega) (by omega) (by omega))]
      omega
  · rw [n _ (by omega) (by omega) (by omega) (by omega) (by omega) (by omega) (by omega)]; exact h.nz a b c d r
  · rw [n _ (by omega) (by omega) (by omega) (by omega) (by omega) (by omega) (by omega)]; exact h.bk a b
  · by_cases e : q = p
    · subst e; rw [ed]; omega
    · rw [n _ (by omega) (by omega) (by omega) (by omega) (by omega) (by omega) (by omega)]; exact h.dr a b
theorem CV.drawA (h : CV σ) {p : Int} (hp : 0 ≤ p ∧ p < σ 1) (h7 : 0 < σ 7) : CV (f_adds (f_draws σ p) p 0) := by
  have ha := h.rg.h7
  have h1 := h.ta
  have h8 := h.hp.2 0 (by omega) h7
  rw [show (8 : Int) + 0 = 8 by omega] at h8
  have hp6 : 0 ≤ p ∧ p < 6 := by omega
  have o := h.cd hp6.1 hp6.2
  have nd : ∀ j, j ≠ 7 → ¬ (8 ≤ j ∧ j < 8 + (σ 7 - 1)) → j ≠ 60 + 13 * p + σ 8 → j ≠ 565 + p → f_draws σ p j = σ j := fun j a b c d => f_draws_n (by omega) (by omega) a b c d
  have eo : f_draws σ p (229 + p) = σ (229 + p) := nd _ (by omega) (by omega) (by omega) (by omega)
  have na : ∀ j, j ≠ 229 + p → j ≠ 235 + 52 * p + σ (229 + p) → f_adds (f_draws σ p) p 0 j = f_draws σ p j := fun j a b => by
    unfold f_adds
    rw [us_n a, eo, us_n b]
  have h4 := h.h4 hp6.1 hp6.2 h8.1 (show σ 8 < 13 by omega)
  refine h.draw hp h7 (x := 0) (Or.inl rfl) (fun j a b c d e f g => ?_) ?_ (fun i a b => ?_) ?_ ?_ ?_ ?_ (fun i a b => ?_)
  · rw [na j e (by omega)]; exact nd j a b c g
  · rw [na _ (by omega) (by omega)]; exact f_draws_7 hp6 (by omega)
  · rw [na _ (by omega) (by omega)]; exact f_draws_h hp6 (by omega) (by omega) ⟨a, b⟩
  · rw [na _ (by omega) (by omega), f_draws_c (by omega) (by omega) hp6, wr_id (by omega)]
  · rw [na _ (by omega) (by omega), nd _ (by omega) (by omega) (by omega) (by omega)]; omega
  · unfold f_adds; rw [us_s, eo]; omega
  · rw [na _ (by omega) (by omega)]; exact f_draws_d
  · by_cases e : i = σ (229 + p)
    · unfold f_adds; rw [us_n (by omega), eo, us_e (by omega)]; omega
    · rw [na _ (by omega) (by omega), nd _ (by omega) (by omega) (by omega) (by omega)]; exact h.ms p i hp6.1 hp6.2 a b
theorem CV.drawK (h : CV σ) {p : Int} (hp : 0 ≤ p ∧ p < σ 1) (h7 : 0 < σ 7) : CV (us (f_draws σ p) (151 + 13 * p + σ 8) (wr (f_draws σ p (151 + 13 * p + σ 8) + 1))) := by
  have ha := h.rg.h7
  have h1 := h.ta
  have h8 := h.hp.2 0 (by omega) h7
  rw [show (8 : Int) + 0 = 8 by omega] at h8
  have hp6 : 0 ≤ p ∧ p < 6 := by omega
  have nd : ∀ j, j ≠ 7 → ¬ (8 ≤ j ∧ j < 8 + (σ 7 - 1)) → j ≠ 60 + 13 * p + σ 8 → j ≠ 565 + p → f_draws σ p j = σ j := fun j a b c d => f_draws_n (by omega) (by omega) a b c d
  have h4 := h.h4 hp6.1 hp6.2 h8.1 (show σ 8 < 13 by omega)
  have kk := h.kn hp6.1 hp6.2 h8.1 (show σ 8 < 13 by omega)
  have ek : f_draws σ p (151 + 13 * p + σ 8) = σ (151 + 13 * p + σ 8) := nd _ (by omega) (by omega) (by omega) (by omega)
  rw [ek, wr_id (by omega)]
  refine h.draw hp h7 (x := 1) (Or.inr rfl) (fun j a b c d e f g => ?_) ?_ (fun i a b => ?_) ?_ ?_ ?_ ?_ (fun i a b => ?_)
  · rw [us_n d]; exact nd j a b c g
  · rw [us_n (by omega)]; exact f_draws_7 hp6 (by omega)
  · rw [us_n (by omega)]; exact f_draws_h hp6 (by omega) (by omega) ⟨a, b⟩
  · rw [us_n (by omega), f_draws_c (by omega) (by omega) hp6, wr_id (by omega)]
  · rw [us_s]
  · rw [us_n (by omega), nd _ (by omega) (by omega) (by omega) (by omega)]; omega
  · rw [us_n (by omega)]; exact f_draws_d
  · rw [us_n (by omega), nd _ (by omega) (by omega) (by omega) (by omega)]; exact h.ms p i hp6.1 hp6.2 a b
end CVT
section CVU
variable {σ : Int → Int}
/-- the whole of a kind goes from one to another -/
theorem CV.give (h : CV σ) {a b k g : Int} (ha : 0 ≤ a ∧ a < σ 1) (hb : 0 ≤ b ∧ b < 6) (hab : a ≠ b) (hk : 0 ≤ k ∧ k < 13) (hg : g = σ (60 + 13 * b + k)) : CV (f_giv2 (f_giv1 σ b k g) a k g) ∧ (∀ q i, 0 ≤ q → q < 6 → 0 ≤ i → i < 13 → f_giv2 (f_giv1 σ b k g) a k g (60 + 13 * q + i) = if i = k ∧ q = a then σ (60 + 13 * a + k) + g else if i = k ∧ q = b then 0 else σ (60 + 13 * q + i)) ∧ (∀ j, (0 ≤ j ∧ j < 6) ∨ (7 ≤ j ∧ j < 60) ∨ (138 ≤ j ∧ j < 151) → f_giv2 (f_giv1 σ b k g) a k g j = σ j) := by
  have h1 := h.ta
  have ha6 : 0 ≤ a ∧ a < 6 := by omega
  have kk := h.kn hb.1 hb.2 hk.1 hk.2
  have ka := h.kn ha6.1 ha6.2 hk.1 hk.2
  have k4 := h.h4 hb.1 hb.2 hk.1 hk.2
  have a4 := h.h4 ha6.1 ha6.2 hk.1 hk.2
  have t4 := h.two ha6.1 ha6.2 hb.1 hb.2 hab hk.1 hk.2
  have c0 := ct_r (η := σ) (k := k)
  have b0 := bz_r (p := 0 < σ (138 + k))
  obtain ⟨hτ, eτ⟩ := CV.lr hb hk (g - σ (151 + 13 * b + k)).toNat h (by omega)
  have nτ : ∀ j, j ≠ 229 + b → j ≠ 547 + b → j ≠ 151 + 13 * b + k → ¬ (235 + 52 * b ≤ j ∧ j < 235 + 52 * b + 52) → f_lr σ b k (g - σ (151 + 13 * b + k)).toNat j = σ j := fun j a b c d => f_lr_n hb hk a b c d _ h.rg
  have hM := (RG_giv2 (g := g) (RG_giv1 (g := g) h.rg hb hk) ha6 hk).2.2.2
  have oτ := hτ.cd hb.1 hb.2
  have nY : ∀ j, j < 235 ∨ 547 ≤ j → j ≠ 151 + 13 * b + k → f_cannot (us (f_lr σ b k (g - σ (151 + 13 * b + k)).toNat) (151 + 13 * b + k) 0) b k j = f_lr σ b k (g - σ (151 + 13 * b + k)).toNat j := fun j q r => by
    rw [f_cannot_n (by rw [us_n (by omega)]; omega), us_n r]
  have eYk : f_cannot (us (f_lr σ b k (g - σ (151 + 13 * b + k)).toNat) (151 + 13 * b + k) 0) b k (151 + 13 * b + k) = 0 := by
    rw [f_cannot_n (by rw [us_n (by omega)]; omega), us_s]
  unfold f_giv2 f_giv1 f_hand at hM ⊢
  generalize hgt : f_lr σ b k (g - σ (151 + 13 * b + k)).toNat = τ at hτ eτ nτ oτ nY eYk hM ⊢
  have eτh : τ (60 + 13 * b + k) = g := by rw [nτ _ (by omega) (by omega) (by omega) (by omega)]; exact hg.symm
  have eτk : τ (151 + 13 * b + k) = g := by rw [eτ]; omega
  generalize f_cannot (us τ (151 + 13 * b + k) 0) b k = Y at nY eYk hM ⊢
  have y1 : wr (Y (60 + 13 * b + k) + -g) = 0 := by
    rw [nY _ (by omega) (by omega), eτh, Int.add_right_neg]; rfl
  have y2 : us Y (60 + 13 * b + k) (wr (Y (60 + 13 * b + k) + -g)) (60 + 13 * a + k) = σ (60 + 13 * a + k) := by
    rw [us_n (by omega), nY _ (by omega) (by omega), nτ _ (by omega) (by omega) (by omega) (by omega)]
  rw [y2] at hM ⊢
  rw [y1] at hM ⊢
  have y3 : us (us Y (60 + 13 * b + k) 0) (60 + 13 * a + k) (wr (σ (60 + 13 * a + k) + g)) (151 + 13 * a + k) = σ (151 + 13 * a + k) := by
    rw [us_n (by omega), us_n (by omega), nY _ (by omega) (by omega), nτ _ (by omega) (by omega) (by omega) (by omega)]
  simp only [y3] at hM ⊢
  rw [wr_id (x := σ (60 + 13 * a + k) + g) (by omega), wr_id (x := σ (151 + 13 * a + k) + g) (by omega)] at hM ⊢
  generalize wr (us (us (us Y (60 + 13 * b + k) 0) (60 + 13 * a + k) (σ (60 + 13 * a + k) + g)) (151 + 13 * a + k) (σ (151 + 13 * a + k) + g) (559 + a) + g) = gv at hM ⊢
  have n : ∀ j, (j < 235 ∨ 547 ≤ j) → j ≠ 151 + 13 * b + k → j ≠ 60 + 13 * b + k → j ≠ 60 + 13 * a + k → j ≠ 151 + 13 * a + k → j ≠ 559 + a → j ≠ 6 → us (us (us (us (us Y (60 + 13 * b + k) 0) (60 + 13 * a + k) (σ (60 + 13 * a + k) + g)) (151 + 13 * a + k) (σ (151 + 13 * a + k) + g)) (559 + a) gv) 6 0 j = τ j := fun j q0 q1 q2 q3 q4 q5 q6 => by
    rw [us_n q6, us_n q5, us_n q4, us_n q3, us_n q2]; exact nY j q0 q1
  have n1 : us (us (us (us (us Y (60 + 13 * b + k) 0) (60 + 13 * a + k) (σ (60 + 13 * a + k) + g)) (151 + 13 * a + k) (σ (151 + 13 * a + k) + g)) (559 + a) gv) 6 0 (151 + 13 * b + k) = 0 := by
    rw [us_n (by omega), us_n (by omega), us_n (by omega), us_n (by omega), us_n (by omega)]; exact eYk
  have n2 : us (us (us (us (us Y (60 + 13 * b + k) 0) (60 + 13 * a + k) (σ (60 + 13 * a + k) + g)) (151 + 13 * a + k) (σ (151 + 13 * a + k) + g)) (559 + a) gv) 6 0 (60 + 13 * b + k) = 0 := by
    rw [us_n (by omega), us_n (by omega), us_n (by omega), us_n (by omega), us_s]
  have n3 : us (us (us (us (us Y (60 + 13 * b + k) 0) (60 + 13 * a + k) (σ (60 + 13 * a + k) + g)) (151 + 13 * a + k) (σ (151 + 13 * a + k) + g)) (559 + a) gv) 6 0 (60 + 13 * a + k) = σ (60 + 13 * a + k) + g := by
    rw [us_n (by omega), us_n (by omega), us_n (by omega), us_s]
  have n4 : us (us (us (us (us Y (60 + 13 * b + k) 0) (60 + 13 * a + k) (σ (60 + 13 * a + k) + g)) (151 + 13 * a + k) (σ (151 + 13 * a + k) + g)) (559 + a) gv) 6 0 (151 + 13 * a + k) = σ (151 + 13 * a + k) + g := by
    rw [us_n (by omega), us_n (by omega), us_s]
  generalize us (us (us (us (us Y (60 + 13 * b + k) 0) (60 + 13 * a + k) (σ (60 + 13 * a + k) + g)) (151 + 13 * a + k) (σ (151 + 13 * a + k) + g)) (559 + a) gv) 6 0 = ρ at n n1 n2 n3 n4 hM ⊢
  have h7 := hτ.rg.h7
  have eτ1 : τ 1 = σ 1 := nτ _ (by omega) (by omega) (by omega) (by omega)
  have ea1 : τ (60 + 13 * a + k) = σ (60 + 13 * a + k) := nτ _ (by omega) (by omega) (by omega) (by omega)
  have ea2 : τ (151 + 13 * a + k) = σ (151 + 13 * a + k) := nτ _ (by omega) (by omega) (by omega) (by omega)
  refine ⟨hτ.gen (fun j x y => n j (by omega) (by omega) (by omega) (by omega) (by omega) (by omega) (by omega)) (fun i x y => n _ (by omega) (by omega) (by omega) (by omega) (by omega) (by omega) (by omega)) ⟨?_, fun i x y => ?_⟩ hM (fun q i x y u v => ?_) (fun q x y => ?_) (fun i x y => ?_) (fun q i x y u v r => ?_) (fun i x y => ?_) (fun q x y => ?_), fun q i x y u v => ?_, fun j q => ?_⟩
  · rw [n 7 (by omega) (by omega) (by omega) (by omega) (by omega) (by omega) (by omega)]; exact h7.1
  · rw [n 7 (by omega) (by omega) (by omega) (by omega) (by omega) (by omega) (by omega)] at y
    rw [n (8 + i) (by omega) (by omega) (by omega) (by omega) (by omega) (by omega) (by omega)]; exact hτ.hp.2 i x y
  · by_cases e : q = b ∧ i = k
    · obtain ⟨rfl, rfl⟩ := e; rw [n1, n2]; omega
    · by_cases e2 : q = a ∧ i = k
      · obtain ⟨rfl, rfl⟩ := e2; rw [n3, n4]; omega
      · rw [n _ (by omega) (by omega) (by omega) (by omega) (by omega) (by omega) (by omega), n _ (by omega) (by omega) (by omega) (by omega) (by omega) (by omega) (by omega)]; exact hτ.kn x y u v
  · rw [n _ (by omega) (by omega) (by omega) (by omega) (by omega) (by omega) (by omega), hτ.ot x y]
    refine sm_congr (fun i u v => ?_)
    by_cases e : q = b ∧ i = k
    · obtain ⟨rfl, rfl⟩ := e; rw [n1, n2, eτh, eτk]; omega
    · by_cases e2 : q = a ∧ i = k
      · obtain ⟨rfl, rfl⟩ := e2; rw [n3, n4, ea1, ea2]; omega
      · rw [n _ (by omega) (by omega) (by omega) (by omega) (by omega) (by omega) (by omega), n _ (by omega) (by omega) (by omega) (by omega) (by omega) (by omega) (by omega)]
  · have ec : ct ρ i = ct τ i := ct_eq (n 7 (by omega) (by omega) (by omega) (by omega) (by omega) (by omega) (by omega)) (fun j u v => n _ (by omega) (by omega) (by omega) (by omega) (by omega) (by omega) (by omega)) i
    have co := hτ.co x y
    rw [ec, n (138 + i) (by omega) (by omega) (by omega) (by omega) (by omega) (by omega) (by omega), ← co]
    by_cases e : i = k
    · subst e
      have u1 := sm_upd (f := fun q => τ (60 + 13 * q + i)) (g := fun q => if q = a then τ (60 + 13 * a + i) + g else τ (60 + 13 * q + i)) (a := a) (n := 6) ha6.1 (by omega) (fun q _ _ r => if_neg r)
      have u2 := sm_upd (f := fun q => if q = a then τ (60 + 13 * a + i) + g else τ (60 + 13 * q + i)) (g := fun q => ρ (60 + 13 * q + i)) (a := b) (n := 6) hb.1 (by omega) (fun q x y r => by
        by_cases e : q = a
        · subst e; rw [n3, if_pos rfl, ea1]
        · rw [n _ (by omega) (by omega) (by omega) (by omega) (by omega) (by omega) (by omega), if_neg e])
      simp only [if_true] at u1
      rw [u2, u1, n2, if_neg (fun q => hab q.symm), eτh]
      omega
    · rw [sm_congr (f := fun q => ρ (60 + 13 * q + i)) (g := fun q => τ (60 + 13 * q + i)) (fun q u v => n _ (by omega) (by omega) (by omega) (by omega) (by omega) (by omega) (by omega))]
  · by_cases e : q = b ∧ i = k
    · obtain ⟨rfl, rfl⟩ := e; exact n2
    · rw [n _ (by omega) (by omega) (by omega) (by omega) (by omega) (by omega) (by omega)]; exact hτ.nz x y u v r
  · rw [n _ (by omega) (by omega) (by omega) (by omega) (by omega) (by omega) (by omega)]; exact hτ.bk x y
  · rw [n _ (by omega) (by omega) (by omega) (by omega) (by omega) (by omega) (by omega)]; exact hτ.dr x y
  · by_cases e : q = b ∧ i = k
    · obtain ⟨rfl, rfl⟩ := e; rw [n2, if_neg (fun r => hab r.2.symm), if_pos ⟨rfl, rfl⟩]
    · by_cases e2 : q = a ∧ i = k
      · obtain ⟨rfl, rfl⟩ := e2; rw [n3, if_pos ⟨rfl, rfl⟩]
      · rw [n _ (by omega) (by omega) (by omega) (by omega) (by omega) (by omega) (by omega), if_neg (by omega), if_neg (by omega)]; exact nτ _ (by omega) (by omega) (by omega) (by omega)
  · rw [n _ (by omega) (by omega) (by omega) (by omega) (by omega) (by omega) (by omega)]; exact nτ _ (by omega) (by omega) (by omega) (by omega)
end CVU
