/-! ===== plain: a refill, laid down at once or at its end ===== -/
/-- the same but for what lies behind the others -/
def EQ (σ τ : Int → Int) : Prop := (∀ j, (0 ≤ j ∧ j < 8) ∨ (60 ≤ j ∧ j < 235) ∨ (547 ≤ j ∧ j < 584) → σ j = τ j) ∧ (∀ i, 0 ≤ i → i < σ 7 → σ (8 + i) = τ (8 + i)) ∧ ∀ p i, 0 ≤ p → p < 6 → 0 ≤ i → i < 52 → i < σ (229 + p) → σ (235 + 52 * p + i) = τ (235 + 52 * p + i)
theorem EQ.rf {σ : Int → Int} : EQ σ σ := ⟨fun _ _ => rfl, fun _ _ _ => rfl, fun _ _ _ _ _ _ _ => rfl⟩
theorem GR.eq {I : HI} {g t : Nat} {σ τ μ : Int → Int} (h : GR I g t σ μ) (e : EQ σ τ) : GR I g t τ μ := by
  obtain ⟨e1, e2, e3⟩ := e
  refine ⟨fun p k a b c d => ?_, fun p k a b c d => ?_, fun p i a b c d q => ?_, fun p a b => ?_, fun p a b => ?_, fun p a b => ?_, fun p a b => ?_, fun p a b => ?_, fun k a b => ?_, fun k a b => ?_, ?_, fun i a b => ?_, ?_, ?_, ?_, fun i a b => h.latest a b, ?_, h.tt⟩
  · rw [← e1 _ (by omega)]; exact h.hand a b c d
  · rw [← e1 _ (by omega)]; exact h.known a b c d
  · rw [← e1 _ (by omega)] at q; rw [← e3 p i a b c d q]; exact h.other a b c d q
  · rw [← e1 _ (by omega)]; exact h.others a b
  · rw [← e1 _ (by omega)]; exact h.caught a b
  · rw [← e1 _ (by omega)]; exact h.asks a b
  · rw [← e1 _ (by omega)]; exact h.given a b
  · rw [← e1 _ (by omega)]; exact h.drew a b
  · rw [← e1 _ (by omega)]; exact h.book a b
  · rw [← e1 _ (by omega)]; exact h.cards a b
  · rw [← e1 7 (by omega)]; exact h.hp
  · rw [← e1 7 (by omega)] at b; rw [← e2 i a b]; exact h.heap a b
  · rw [← e1 4 (by omega)]; exact h.turn
  · rw [← e1 5 (by omega)]; exact h.askings
  · rw [← e1 6 (by omega)]; exact h.vain
  · rw [← e1 0 (by omega), ← e1 1 (by omega), ← e1 2 (by omega), ← e1 3 (by omega)]; exact h.ta
/-- drawn, nothing laid down yet -/
def f_dn (σ : Int → Int) (p : Int) : Nat → Int → Int
  | 0 => σ
  | n + 1 => f_dn (f_adds (f_draws σ p) p 0) p n
def cn (σ : Int → Int) (n k : Int) : Int := sm (fun i => bz (σ (8 + i) = k)) n.toNat
section RF
variable {σ τ : Int → Int} {p n k : Int} {b : Int → Int}
theorem cn_s (h : 0 ≤ n) : cn σ (n + 1) k = cn σ n k + bz (σ (8 + n) = k) := (sm_succ (f := fun i => bz (σ (8 + i) = k)) h).symm
theorem cn_le (h0 : 0 ≤ n) (h : n ≤ σ 7) : 0 ≤ cn σ n k ∧ cn σ n k ≤ ct σ k := by
  have r := sm_bd (f := fun i => bz (σ (8 + i) = k)) (a := 0) (b := 1) (n := n.toNat) (fun i _ _ => bz_r)
  refine ⟨by unfold cn; omega, ?_⟩
  unfold cn ct
  have m : ∀ (d : Nat), sm (fun i => bz (σ (8 + i) = k)) n.toNat ≤ sm (fun i => bz (σ (8 + i) = k)) (n.toNat + d) := by
    intro d
    induction d with
    | zero => exact Int.le_refl _
    | succ d ih =>
      have : sm (fun i => bz (σ (8 + i) = k)) (n.toNat + (d + 1)) = sm (fun i => bz (σ (8 + i) = k)) (n.toNat + d) + bz (σ (8 + ((n.toNat + d : Nat) : Int)) = k) := rfl
      have := bz_r (p := σ (8 + ((n.toNat + d : Nat) : Int)) = k)
      omega
  have := m ((σ 7).toNat - n.toNat)
  rw [show n.toNat + ((σ 7).toNat - n.toNat) = (σ 7).toNat by omega] at this
  exact this
/-- n cards drawn by p; b: the kinds that are laid down -/
def DR (σ τ : Int → Int) (p n : Int) (b : Int → Int) : Prop :=
  (∀ j, (0 ≤ j ∧ j < 7) ∨ (60 ≤ j ∧ j < 138 ∧ ¬ (60 + 13 * p ≤ j ∧ j < 60 + 13 * p + 13)) ∨ (151 ≤ j ∧ j < 235 ∧ j ≠ 229 + p) ∨ (235 ≤ j ∧ j < 547 ∧ ¬ (235 + 52 * p ≤ j ∧ j < 235 + 52 * p + 52)) ∨ (547 ≤ j ∧ j ≠ 565 + p) → τ j = σ j) ∧
  (τ 7 = σ 7 - n ∧ ∀ i, 0 ≤ i → i < σ 7 - n → τ (8 + i) = σ (8 + (n + i))) ∧
  (∀ k, 0 ≤ k → k < 13 → τ (60 + 13 * p + k) = if b k = 1 then 0 else cn σ n k) ∧
  (∀ k, 0 ≤ k → k < 13 → τ (138 + k) = if b k = 1 then p + 1 else σ (138 + k)) ∧
  (τ (229 + p) = n - 4 * sm b 13 ∧ ∀ i, 0 ≤ i → i < τ (229 + p) → τ (235 + 52 * p + i) = 0) ∧
  τ (565 + p) = if n = 0 then σ (565 + p) else σ (8 + (n - 1)) + 1
theorem DR.eq {τ' : Int → Int} {b' : Int → Int} (h : DR σ τ p n b) (h' : DR σ τ' p n b') (hp : 0 ≤ p ∧ p < 6) (hb : ∀ k, 0 ≤ k → k < 13 → b k = b' k) (hu : τ' (229 + p) ≤ 52) : EQ τ τ' := by
  obtain ⟨a1, ⟨a2, a3⟩, a4, a5, ⟨a6, a7⟩, a8⟩ := h
  obtain ⟨c1, ⟨c2, c3⟩, c4, c5, ⟨c6, c7⟩, c8⟩ := h'
  have eb : sm b 13 = sm b' 13 := sm_congr (fun i x y => hb i x (by omega))
  refine ⟨fun j q => ?_, fun i x y => ?_, fun q i x y u v w => ?_⟩
  · by_cases e1 : j = 7
    · subst e1; rw [a2, c2]
    by_cases e2 : 60 + 13 * p ≤ j ∧ j < 60 + 13 * p + 13
    · have a := a4 (j - (60 + 13 * p)) (by omega) (by omega)
      have c := c4 (j - (60 + 13 * p)) (by omega) (by omega)
      rw [show 60 + 13 * p + (j - (60 + 13 * p)) = j by omega] at a c
      rw [a, c, hb _ (by omega) (by omega)]
    by_cases e3 : 138 ≤ j ∧ j < 151
    · have a := a5 (j - 138) (by omega) (by omega)
      have c := c5 (j - 138) (by omega) (by omega)
      rw [show 138 + (j - 138) = j by omega] at a c
      rw [a, c, hb _ (by omega) (by omega)]
    by_cases e4 : j = 229 + p
    · subst e4; rw [a6, c6, eb]
    by_cases e5 : j = 565 + p
    · subst e5; rw [a8, c8]
    rw [a1 j (by omega), c1 j (by omega)]
  · rw [a3 i x (by omega), c3 i x (by omega)]
  · by_cases e : q = p
    · subst e; rw [a7 i u w, c7 i u (by rw [c6, ← eb, ← a6]; exact w)]
    · rw [a1 _ (by omega), c1 _ (by omega)]
theorem DR.zero (hp : 0 ≤ p ∧ p < 6) (h : CV σ) (hc : f_cards σ p = 0) : DR σ σ p 0 (fun _ => 0) := by
  have e := h.em hp.1 hp.2 hc
  refine ⟨fun _ _ => rfl, ⟨by omega, fun i _ _ => by rw [Int.zero_add]⟩, fun k a b => ?_, fun k a b => by rw [if_neg (by simp)], ⟨by rw [sm_0]; omega, fun i a b => by omega⟩, by rw [if_pos rfl]⟩
  rw [if_neg (by simp), (e.2 k a b).1]
  rfl
theorem DR.draw (h : DR σ τ p n b) (hp : 0 ≤ p ∧ p < 6) (hτ : CV τ) (h0 : 0 ≤ n) (hn : n < σ 7) (hu : τ (229 + p) < 52) (hc : b (σ (8 + n)) ≠ 1) : DR σ (f_adds (f_draws τ p) p 0) p (n + 1) b := by
  obtain ⟨a1, ⟨a2, a3⟩, a4, a5, ⟨a6, a7⟩, a8⟩ := h
  have h7 := hτ.rg.h7
  have e8 : τ 8 = σ (8 + n) := by have := a3 0 (by omega) (by omega); rw [show (8 : Int) + 0 = 8 by omega, Int.add_zero] at this; exact this
  have h8 := hτ.hp.2 0 (by omega) (by omega)
  rw [show (8 : Int) + 0 = 8 by omega] at h8
  have ht := hτ.ta
  have o := hτ.cd hp.1 hp.2
  have nd : ∀ j, j ≠ 7 → ¬ (8 ≤ j ∧ j < 8 + (τ 7 - 1)) → j ≠ 60 + 13 * p + τ 8 → j ≠ 565 + p → f_draws τ p j = τ j := fun j a b c d => f_draws_n (by omega) (by omega) a b c d
  have eo : f_draws τ p (229 + p) = τ (229 + p) := nd _ (by omega) (by omega) (by omega) (by omega)
  have na : ∀ j, j ≠ 229 + p → j ≠ 235 + 52 * p + τ (229 + p) → f_adds (f_draws τ p) p 0 j = f_draws τ p j := fun j a b => by
    unfold f_adds
    rw [us_n a, eo, us_n b]
  have hh := hτ.h4 hp.1 hp.2 h8.1 (show τ 8 < 13 by omega)
  refine ⟨fun j q => ?_, ⟨?_, fun i x y => ?_⟩, fun k x y => ?_, fun k x y => ?_, ⟨?_, fun i x y => ?_⟩, ?_⟩
  · rw [na j (by omega) (by omega), nd j (by omega) (by omega) (by omega) (by omega)]; exact a1 j q
  · rw [na 7 (by omega) (by omega), f_draws_7 hp (by omega), a2]; omega
  · rw [na _ (by omega) (by omega), f_draws_h hp (by omega) (by omega) ⟨x, by omega⟩, a3 (i + 1) (by omega) (by omega)]; congr 1; omega
  · rw [na _ (by omega) (by omega), cn_s h0]
    by_cases e : k = τ 8
    · subst e
      rw [f_draws_c (by omega) (by omega) hp, wr_id (by omega), a4 _ x y, e8, if_neg hc, if_neg hc, bz_t rfl]
    · rw [nd _ (by omega) (by omega) (by omega) (by omega), a4 k x y, bz_f (by omega), Int.add_zero]
  · rw [na _ (by omega) (by omega), nd _ (by omega) (by omega) (by omega) (by omega)]; exact a5 k x y
  · unfold f_adds; rw [us_s, eo, a6]; omega
  · have eo2 : f_adds (f_draws τ p) p 0 (229 + p) = τ (229 + p) + 1 := by unfold f_adds; rw [us_s, eo]
    rw [eo2] at y
    by_cases e : i = τ (229 + p)
    · unfold f_adds; rw [us_n (by omega), eo, us_e (by omega)]
    · rw [na _ (by omega) (by omega), nd _ (by omega) (by omega) (by omega) (by omega)]; exact a7 i x (by omega)
  · rw [na _ (by omega) (by omega), f_draws_d, if_neg (by omega), e8]; congr 2; omega
theorem tb_0 {k : Int} : ¬ tb 0 k := by unfold tb; rw [Int.zero_ediv]; decide
theorem learns_z (hp : 0 ≤ p ∧ p < 6) (hk : 0 ≤ k ∧ k < 13) (h0 : 0 < τ (229 + p)) (hu : τ (229 + p) ≤ 52) (z : ∀ i, 0 ≤ i → i < τ (229 + p) → τ (235 + 52 * p + i) = 0) : f_learns τ p k (229 + p) = τ (229 + p) - 1 ∧ f_learns τ p k (547 + p) = τ (547 + p) ∧ ∀ i, 0 ≤ i → i < τ (229 + p) - 1 → f_learns τ p k (235 + 52 * p + i) = 0 := by
  have hc : f_can τ p k = 0 := ff_f (b := fun j => tb (τ (235 + 52 * p + j)) k) (by rw [z 0 (by omega) h0]; exact tb_0)
  refine ⟨f_learns_o (by omega) hp hk (by omega), ?_, fun i x y => ?_⟩
  · unfold f_learns dl
    rw [if_neg (by omega), hc]
    simp only [if_neg (show ¬ (0 : Int) = τ (229 + p) by omega)]
    rw [us_n (by omega), if_neg (by omega), us_n (by omega)]
  · rcases f_learns_m (σ := τ) (k := p) (kind := k) (i := i) hp hk ⟨x, by omega⟩ with e | ⟨-, e⟩
    · rw [e]; exact z i x (by omega)
    · rw [e, show 235 + 52 * p + i + 1 = 235 + 52 * p + (i + 1) by omega]; exact z (i + 1) (by omega) (by omega)
theorem lr_z (hp : 0 ≤ p ∧ p < 6) (hk : 0 ≤ k ∧ k < 13) : ∀ (m : Nat) {τ : Int → Int}, (m : Int) ≤ τ (229 + p) → τ (229 + p) ≤ 52 → (∀ i, 0 ≤ i → i < τ (229 + p) → τ (235 + 52 * p + i) = 0) → f_lr τ p k m (229 + p) = τ (229 + p) - m ∧ f_lr τ p k m (547 + p) = τ (547 + p) ∧ ∀ i, 0 ≤ i → i < τ (229 + p) - m → f_lr τ p k m (235 + 52 * p + i) = 0 := by
  intro m
  induction m with
  | zero => intro τ h hu z; exact ⟨by simp [f_lr], rfl, fun i x y => z i x (by omega)⟩
  | succ m ih =>
    intro τ h hu z
    obtain ⟨e1, e2, e3⟩ := learns_z hp hk (by omega) hu z
    obtain ⟨g1, g2, g3⟩ := ih (τ := f_learns τ p k) (by omega) (by omega) (fun i x y => e3 i x (by omega))
    exact ⟨by show f_lr (f_learns τ p k) p k m _ = _; rw [g1, e1]; omega, by show f_lr (f_learns τ p k) p k m _ = _; rw [g2, e2], fun i x y => g3 i x (by omega)⟩
theorem books_z (hp : 0 ≤ p ∧ p < 6) (hk : 0 ≤ k ∧ k < 13) (h : CV τ) (h4 : τ (60 + 13 * p + k) = 4) (k0 : τ (151 + 13 * p + k) = 0) (z : ∀ i, 0 ≤ i → i < τ (229 + p) → τ (235 + 52 * p + i) = 0) :
    (∀ j, (0 ≤ j ∧ j < 235 ∨ 547 ≤ j) → j ≠ 229 + p → j ≠ 60 + 13 * p + k → j ≠ 138 + k → f_books τ p k j = τ j) ∧ (∀ j, ¬ (235 + 52 * p ≤ j ∧ j < 235 + 52 * p + 52) → 235 ≤ j → j < 547 → f_books τ p k j = τ j) ∧ f_books τ p k (60 + 13 * p + k) = 0 ∧ f_books τ p k (138 + k) = p + 1 ∧ f_books τ p k (229 + p) = τ (229 + p) - 4 ∧ 4 ≤ τ (229 + p) ∧ ∀ i, 0 ≤ i → i < τ (229 + p) - 4 → f_books τ p k (235 + 52 * p + i) = 0 := by
  have o := h.cd hp.1 hp.2
  have h7 := h.rg.h7
  have o4 : 4 ≤ τ (229 + p) := by
    rw [h.ot hp.1 hp.2]
    have u := sm_upd (f := fun i => τ (60 + 13 * p + i) - τ (151 + 13 * p + i)) (g := fun i => if i = k then 0 else τ (60 + 13 * p + i) - τ (151 + 13 * p + i)) (a := k) (n := 13) hk.1 (by omega) (fun i _ _ q => if_neg q)
    have m := sm_bd (f := fun i => if i = k then 0 else τ (60 + 13 * p + i) - τ (151 + 13 * p + i)) (a := 0) (b := 4) (n := 13) (fun i x y => by
      try dsimp only
      split
      · omega
      · have := h.h4 hp.1 hp.2 x (show i < 13 by omega); have := h.kn hp.1 hp.2 x (show i < 13 by omega); omega)
    simp only [if_true] at u
    omega
  obtain ⟨g1, g2, g3⟩ := lr_z hp hk 4 (τ := τ) (by omega) (by omega) z
  have eb : f_books τ p k = us (us (us (f_lr τ p k 4) (151 + 13 * p + k) 0) (60 + 13 * p + k) 0) (138 + k) (p + 1) := by
    unfold f_books f_hand
    rw [if_neg (by omega), k0]
    show us (us (us (f_lr τ p k 4) (151 + 13 * p + k) 0) (60 + 13 * p + k) (wr (us (f_lr τ p k 4) (151 + 13 * p + k) 0 (60 + 13 * p + k) + -4))) (138 + k) (p + 1) = _
    rw [us_n (show 60 + 13 * p + k ≠ 151 + 13 * p + k by omega), f_lr_n hp hk (by omega) (by omega) (by omega) (by omega) 4 h.rg, h4]
    rfl
  have nl : ∀ j, j ≠ 229 + p → j ≠ 547 + p → j ≠ 151 + 13 * p + k → ¬ (235 + 52 * p ≤ j ∧ j < 235 + 52 * p + 52) → f_lr τ p k 4 j = τ j := fun j a b c d => f_lr_n hp hk a b c d 4 h.rg
  rw [eb]
  refine ⟨fun j q1 q2 q3 q4 => ?_, fun j q1 q2 q3 => ?_, ?_, us_s, ?_, o4, fun i x y => ?_⟩
  · rw [us_n q4, us_n q3]
    by_cases e : j = 151 + 13 * p + k
    · subst e; rw [us_s, k0]
    · rw [us_n e]
      by_cases e2 : j = 547 + p
      · subst e2; exact g2
      · exact nl j q2 e2 e (by omega)
  · rw [us_n (by omega), us_n (by omega), us_n (by omega)]; exact nl j (by omega) (by omega) (by omega) q1
  · rw [us_n (by omega), us_s]
  · rw [us_n (by omega), us_n (by omega), us_n (by omega), g1]; rfl
  · rw [us_n (by omega), us_n (by omega), us_n (by omega)]; exact g3 i x (by omega)
theorem DR.books (h : DR σ τ p n b) (hp : 0 ≤ p ∧ p < 6) (hk : 0 ≤ k ∧ k < 13) (hτ : CV τ) (h4 : τ (60 + 13 * p + k) = 4) (k0 : τ (151 + 13 * p + k) = 0) (hb : b k = 0) : DR σ (f_books τ p k) p n (us b k 1) := by
  obtain ⟨a1, ⟨a2, a3⟩, a4, a5, ⟨a6, a7⟩, a8⟩ := h
  obtain ⟨c1, c2, c3, c4, c5, c6, c7⟩ := books_z hp hk hτ h4 k0 a7
  have h7 := hτ.rg.h7
  refine ⟨fun j q => ?_, ⟨?_, fun i x y => ?_⟩, fun i x y => ?_, fun i x y => ?_, ⟨?_, fun i x y => ?_⟩, ?_⟩
  · by_cases e : 235 ≤ j ∧ j < 547
    · rw [c2 j (by omega) e.1 e.2]; exact a1 j q
    · rw [c1 j (by omega) (by omega) (by omega) (by omega)]; exact a1 j q
  · rw [c1 7 (by omega) (by omega) (by omega) (by omega)]; exact a2
  · rw [c1 _ (by omega) (by omega) (by omega) (by omega)]; exact a3 i x y
  · by_cases e : i = k
    · subst e; rw [c3, us_s, if_pos rfl]
    · rw [c1 _ (by omega) (by omega) (by omega) (by omega), us_n e]; exact a4 i x y
  · by_cases e : i = k
    · subst e; rw [c4, us_s, if_pos rfl]
    · rw [c1 _ (by omega) (by omega) (by omega) (by omega), us_n e]; exact a5 i x y
  · have u := sm_upd (f := b) (g := us b k 1) (a := k) (n := 13) hk.1 (by omega) (fun i _ _ q => us_n q)
    rw [us_s] at u
    rw [c5, a6]
    omega
  · rw [c5] at y; exact c7 i x y
  · rw [c1 _ (by omega) (by omega) (by omega) (by omega)]; exact a8
theorem DR.cg {b' : Int → Int} (h : DR σ τ p n b) (hb : ∀ k, 0 ≤ k → k < 13 → b' k = b k) : DR σ τ p n b' := by
  obtain ⟨a1, a2, a4, a5, ⟨a6, a7⟩, a8⟩ := h
  refine ⟨a1, a2, fun k x y => by rw [hb k x y]; exact a4 k x y, fun k x y => by rw [hb k x y]; exact a5 k x y, ⟨?_, a7⟩, a8⟩
  rw [sm_congr (f := b') (g := b) (fun i x y => hb i x (by omega))]
  exact a6
/-- what is known of the state that is drawn into -/
def DRB (σ : Int → Int) (p : Int) : Prop := CV σ ∧ (0 ≤ p ∧ p < σ 1) ∧ f_cards σ p = 0
theorem DRB.k0 (h : DRB σ p) (hd : DR σ τ p n b) (hk : 0 ≤ k ∧ k < 13) : τ (151 + 13 * p + k) = 0 := by
  have h1 := h.1.ta
  rw [hd.1 _ (by have := h.2.1; omega)]
  exact ((h.1.em h.2.1.1 (by have := h.2.1; omega) h.2.2).2 k hk.1 hk.2).2
theorem DRB.c4 (h : DRB σ p) (h0 : 0 ≤ n) (hn : n ≤ σ 7) (hk : 0 ≤ k ∧ k < 13) : 0 ≤ cn σ n k ∧ cn σ n k ≤ 4 := by
  have a := cn_le (σ := σ) (k := k) h0 hn
  have b := h.1.one (p := 0) (by omega) (by omega) hk.1 hk.2
  have c := bz_r (p := 0 < σ (138 + k))
  omega
theorem DRB.u (h : DRB σ p) (hd : DR σ τ p n b) (hτ : CV τ) (h0 : 0 ≤ n) (hn : n < σ 7) : τ (229 + p) < 52 := by
  have h1 := h.1.ta
  have hp := h.2.1
  have c := hτ.cd hp.1 (by omega)
  have := hd.2.1.1
  omega
/-- laid down at once -/
theorem DRB.drawn (h : DRB σ p) : ∀ (m : Nat) {τ : Int → Int} {n : Int} {b : Int → Int}, DR σ τ p n b → CV τ → 0 ≤ n → n + m ≤ σ 7 → (∀ k, 0 ≤ k → k < 13 → b k = bz (cn σ n k = 4)) → CV (f_drawn τ p m) ∧ DR σ (f_drawn τ p m) p (n + m) (fun k => bz (cn σ (n + m) k = 4)) := by
  have h1 := h.1.ta
  have hp := h.2.1
  have hp6 : 0 ≤ p ∧ p < 6 := by omega
  intro m
  induction m with
  | zero =>
    intro τ n b hd hτ h0 hm hb
    have e : n + ((0 : Nat) : Int) = n := by omega
    rw [e]
    exact ⟨hτ, hd.cg (fun k x y => (hb k x y).symm)⟩
  | succ m ih =>
    intro τ n b hd hτ h0 hm hb
    have eh := h.1.hp.2 n h0 (by omega)
    have hc13 : 0 ≤ σ (8 + n) ∧ σ (8 + n) < 13 := by omega
    have q1 := h.c4 (n := n + 1) (by omega) (by omega) hc13
    have q0 := h.c4 (n := n) h0 (by omega) hc13
    rw [cn_s h0, bz_t rfl] at q1
    have hbc : b (σ (8 + n)) = 0 := by rw [hb _ hc13.1 hc13.2]; exact bz_f (by omega)
    have d1 := hd.draw hp6 hτ h0 (by omega) (h.u hd hτ h0 (by omega)) (by rw [hbc]; decide)
    have h71 : τ 7 = σ 7 - n := hd.2.1.1
    have t1 : τ 1 = σ 1 := hd.1 1 (by omega)
    have v1 := hτ.drawA (p := p) (by omega) (by omega)
    have e8 : τ 8 = σ (8 + n) := by have := hd.2.1.2 0 (by omega) (by omega); rw [show (8 : Int) + 0 = 8 by omega, Int.add_zero] at this; exact this
    have hh : f_adds (f_draws τ p) p 0 (60 + 13 * p + τ 8) = cn σ (n + 1) (τ 8) := by
      rw [d1.2.2.1 (τ 8) (by omega) (by omega), e8, if_neg (by rw [hbc]; decide)]
    have q2 : cn σ (n + 1) (τ 8) = cn σ n (τ 8) + 1 := by rw [cn_s h0, bz_t e8.symm]
    rw [show f_drawn τ p (m + 1) = f_drawn (f_books (f_adds (f_draws τ p) p 0) p (τ 8)) p m from rfl]
    have fin : ∀ {ρ : Int → Int} {b' : Int → Int}, DR σ ρ p (n + 1) b' → CV ρ → (∀ k, 0 ≤ k → k < 13 → b' k = bz (cn σ (n + 1) k = 4)) → CV (f_drawn ρ p m) ∧ DR σ (f_drawn ρ p m) p (n + ((m + 1 : Nat) : Int)) (fun k => bz (cn σ (n + ((m + 1 : Nat) : Int)) k = 4)) := by
      intro ρ b' x y w
      have := ih x y (by omega) (by omega) w
      rw [show n + 1 + (m : Int) = n + ((m + 1 : Nat) : Int) by omega] at this
      exact this
    by_cases c : f_adds (f_draws τ p) p 0 (60 + 13 * p + τ 8) < 4
    · rw [f_books_lt c]
      refine fin d1 v1 (fun k x y => ?_)
      rw [hb k x y]
      by_cases e : k = τ 8
      · subst e; rw [bz_f (by omega), bz_f (by omega)]
      · rw [cn_s h0, bz_f (show ¬ σ (8 + n) = k by omega), Int.add_zero]
    · have c4 := v1.h4 hp6.1 hp6.2 (show 0 ≤ τ 8 by omega) (show τ 8 < 13 by omega)
      have d2 := d1.books hp6 (k := τ 8) (by omega) v1 (by omega) (h.k0 d1 (by omega)) (by rw [e8]; exact hbc)
      refine fin d2 (v1.books hp6 (by omega)).1 (fun k x y => ?_)
      by_cases e : k = τ 8
      · subst e; rw [us_s, bz_t (by omega)]
      · rw [us_n e, hb k x y, cn_s h0, bz_f (show ¬ σ (8 + n) = k by omega), Int.add_zero]
/-- first drawn .. -/
theorem DRB.dn (h : DRB σ p) : ∀ (m : Nat) {τ : Int → Int} {n : Int}, DR σ τ p n (fun _ => 0) → CV τ → 0 ≤ n → n + m ≤ σ 7 → CV (f_dn τ p m) ∧ DR σ (f_dn τ p m) p (n + m) (fun _ => 0) := by
  have h1 := h.1.ta
  have hp := h.2.1
  intro m
  induction m with
  | zero => intro τ n hd hτ h0 hm; exact ⟨hτ, by rw [show n + ((0 : Nat) : Int) = n by omega]; exact hd⟩
  | succ m ih =>
    intro τ n hd hτ h0 hm
    have h71 : τ 7 = σ 7 - n := hd.2.1.1
    have t1 : τ 1 = σ 1 := hd.1 1 (by omega)
    have := ih (hd.draw (by omega) hτ h0 (by omega) (h.u hd hτ h0 (by omega)) (by decide)) (hτ.drawA (by omega) (by omega)) (by omega) (by omega)
    rw [show n + 1 + (m : Int) = n + ((m + 1 : Nat) : Int) by omega] at this
    exact this
/-- .. then laid down -/
theorem DRB.bks (h : DRB σ p) (h0 : 0 ≤ n) (hn : n ≤ σ 7) : ∀ (m : Nat) {τ : Int → Int} {k : Int} {b : Int → Int}, DR σ τ p n b → CV τ → 0 ≤ k → k + m = 13 → (∀ i, 0 ≤ i → i < 13 → b i = bz (i < k ∧ cn σ n i = 4)) → CV (f_bks τ p k m) ∧ DR σ (f_bks τ p k m) p n (fun k => bz (cn σ n k = 4)) := by
  have h1 := h.1.ta
  have hp := h.2.1
  have hp6 : 0 ≤ p ∧ p < 6 := by omega
  intro m
  induction m with
  | zero =>
    intro τ k b hd hτ hk hm hb
    refine ⟨hτ, hd.cg (fun i x y => ?_)⟩
    rw [hb i x y]
    by_cases c : cn σ n i = 4
    · rw [bz_t c, bz_t ⟨by omega, c⟩]
    · rw [bz_f c, bz_f (fun q => c q.2)]
  | succ m ih =>
    intro τ k b hd hτ hk hm hb
    have hbk : b k = 0 := by rw [hb k hk (by omega)]; exact bz_f (fun q => by omega)
    have hh : τ (60 + 13 * p + k) = cn σ n k := by rw [hd.2.2.1 k hk (by omega), if_neg (by rw [hbk]; decide)]
    have c4 := h.c4 (n := n) h0 hn (k := k) ⟨hk, by omega⟩
    rw [show f_bks τ p k (m + 1) = f_bks (f_books τ p k) p (k + 1) m from rfl]
    by_cases c : τ (60 + 13 * p + k) < 4
    · rw [f_books_lt c]
      refine ih hd hτ (by omega) (by omega) (fun i x y => ?_)
      rw [hb i x y]
      by_cases e : i = k
      · subst e; rw [bz_f (fun q => by omega), bz_f (fun q => by omega)]
      · by_cases c9 : i < k ∧ cn σ n i = 4
        · rw [bz_t c9, bz_t ⟨by omega, c9.2⟩]
        · rw [bz_f c9, bz_f (fun q => c9 ⟨by omega, q.2⟩)]
    · refine ih (hd.books hp6 ⟨hk, by omega⟩ hτ (by omega) (h.k0 hd ⟨hk, by omega⟩) hbk) (hτ.books hp6 ⟨hk, by omega⟩).1 (by omega) (by omega) (fun i x y => ?_)
      by_cases e : i = k
      · subst e; rw [us_s, bz_t ⟨by omega, by omega⟩]
      · rw [us_n e, hb i x y]
        by_cases c9 : i < k ∧ cn σ n i = 4
        · rw [bz_t c9, bz_t ⟨by omega, c9.2⟩]
        · rw [bz_f c9, bz_f (fun q => c9 ⟨by omega, q.2⟩)]
/-- a refill comes to the same -/
theorem DRB.same (h : DRB σ p) (m : Nat) (hm : (m : Int) ≤ σ 7) : CV (f_dn σ p m) ∧ CV (f_drawn σ p m) ∧ EQ (f_bks (f_dn σ p m) p 0 13) (f_drawn σ p m) := by
  have h1 := h.1.ta
  have hp := h.2.1
  have hp6 : 0 ≤ p ∧ p < 6 := by omega
  have z := DR.zero hp6 h.1 h.2.2
  have c0 : ∀ k, 0 ≤ k → k < 13 → (0 : Int) = bz (cn σ 0 k = 4) := fun k _ _ => by rw [bz_f (by unfold cn; simp [sm])]
  obtain ⟨a1, a2⟩ := h.drawn m z h.1 (by omega) (by omega) c0
  obtain ⟨b1, b2⟩ := h.dn m z h.1 (by omega) (by omega)
  rw [Int.zero_add] at a2 b2
  obtain ⟨c1, c2⟩ := h.bks (n := m) (by omega) hm 13 (k := 0) b2 b1 (by omega) (by omega) (fun i x y => by rw [bz_f (fun q => by omega)])
  exact ⟨b1, a1, c2.eq a2 hp6 (fun _ _ _ => rfl) (by have := a1.cd hp6.1 hp6.2; omega)⟩
end RF
