/-! ===== plain: rows of numbers ===== -/
/-- the k-th bit -/
abbrev tb (x k : Int) : Prop := x / ((2 ^ k.toNat : Nat) : Int) % 2 = 1
/-- a sum of the first n -/
def sm (f : Int → Int) : Nat → Int
  | 0 => 0
  | n + 1 => sm f n + f n
theorem sm_succ {f : Int → Int} {i : Int} (h : 0 ≤ i) : sm f i.toNat + f i = sm f (i + 1).toNat := by
  obtain ⟨n, rfl⟩ := i_nat h
  rw [show ((n : Int) + 1).toNat = n + 1 by omega, Int.toNat_natCast]
  rfl
theorem sm_congr {f g : Int → Int} {n : Nat} (h : ∀ i : Int, 0 ≤ i → i < n → f i = g i) : sm f n = sm g n := by
  induction n with
  | zero => rfl
  | succ n ih => simp only [sm]; rw [ih (fun i h0 h1 => h i h0 (by omega)), h n (by omega) (by omega)]
/-- the first place from i on, within n steps, where b fails -/
def ff (b : Int → Prop) [DecidablePred b] (i : Int) : Nat → Int
  | 0 => i
  | n + 1 => if b i then ff b (i + 1) n else i
theorem ff_t {b : Int → Prop} [DecidablePred b] {i : Int} {n : Nat} (h : b i) : ff b i (n + 1) = ff b (i + 1) n := if_pos h
theorem ff_f {b : Int → Prop} [DecidablePred b] {i : Int} {n : Nat} (h : ¬ b i) : ff b i n = i := by
  cases n with
  | zero => rfl
  | succ n => exact if_neg h
theorem ff_r {b : Int → Prop} [DecidablePred b] {n : Nat} : ∀ {i : Int}, i ≤ ff b i n ∧ ff b i n ≤ i + n := by
  induction n with
  | zero => intro i; simp [ff]
  | succ n ih =>
    intro i
    simp only [ff]
    split
    · have := ih (i := i + 1); omega
    · omega
/-- one of a row is dropped at i: n are left -/
def dl (f : Int → Int) (row n i : Int) : Int → Int := fun j => if row + i ≤ j ∧ j < row + n then f (j + 1) else f j
theorem dl_step {f : Int → Int} {row n i : Int} (h : i < n) : dl (us f (row + i) (f (row + i + 1))) row n (i + 1) = dl f row n i := by
  funext j
  unfold dl us
  by_cases e : j = row + i
  · subst e; rw [if_neg (by omega), if_pos rfl, if_pos (by omega)]
  · by_cases e2 : row + (i + 1) ≤ j ∧ j < row + n
    · rw [if_pos e2, if_neg (by omega), if_pos (by omega)]
    · rw [if_neg e2, if_neg e, if_neg (by omega)]
theorem dl_end {f : Int → Int} {row n i : Int} (h : n ≤ i) : dl f row n i = f := by
  funext j
  unfold dl
  rw [if_neg (by omega)]
/-! what the model does to its row s -/
def f_cards (σ : Int → Int) (k : Int) : Int := wr (sm (fun j => σ (60 + 13 * k + j)) 13)
theorem f_cards_r {σ : Int → Int} {k : Int} : rg (f_cards σ k) := wr_r
def f_adds (σ : Int → Int) (k mask : Int) : Int → Int := us (us σ (235 + 52 * k + σ (229 + k)) mask) (229 + k) (σ (229 + k) + 1)
/-- where the first of the others is that can be of a kind; their number: none -/
def f_can (σ : Int → Int) (k kind : Int) : Int := ff (fun j => tb (σ (235 + 52 * k + j)) kind) 0 (σ (229 + k)).toNat
def f_learns (σ : Int → Int) (k kind : Int) : Int → Int :=
  if σ (229 + k) = 0 then σ else
    let σ1 := if f_can σ k kind = σ (229 + k) then us σ (547 + k) (wr (σ (547 + k) + 1)) else σ
    let σ3 := dl (us σ1 (229 + k) (σ (229 + k) - 1)) (235 + 52 * k) (σ (229 + k) - 1) (if f_can σ k kind = σ (229 + k) then 0 else f_can σ k kind)
    us σ3 (151 + 13 * k + kind) (wr (σ (151 + 13 * k + kind) + 1))
def f_cannot (σ : Int → Int) (k kind : Int) : Int → Int := fun j => if 235 + 52 * k ≤ j ∧ j < 235 + 52 * k + σ (229 + k) then (((σ j).toNat ||| (2 ^ kind.toNat : Nat) : Nat) : Int) else σ j
def f_hand (σ : Int → Int) (k kind more : Int) : Int → Int := us σ (60 + 13 * k + kind) (wr (σ (60 + 13 * k + kind) + more))
/-- learnt n times -/
def f_lr (σ : Int → Int) (k kind : Int) : Nat → Int → Int
  | 0 => σ
  | n + 1 => f_lr (f_learns σ k kind) k kind n
def f_books (σ : Int → Int) (k kind : Int) : Int → Int :=
  if σ (60 + 13 * k + kind) < 4 then σ else
    us (f_hand (us (f_lr σ k kind (4 - σ (151 + 13 * k + kind)).toNat) (151 + 13 * k + kind) 0) k kind (-4)) (138 + kind) (k + 1)
/-- ranges: the heap, the others, what they can't be -/
def RG (σ : Int → Int) : Prop := (0 ≤ σ 7) ∧ (∀ i, 0 ≤ i → i < σ 7 → 0 ≤ σ (8 + i) ∧ σ (8 + i) < 13) ∧ (∀ p, 0 ≤ p → p < 6 → 0 ≤ σ (229 + p) ∧ σ (229 + p) + σ 7 ≤ 52) ∧ ∀ p i, 0 ≤ p → p < 6 → 0 ≤ i → i < 52 → 0 ≤ σ (235 + 52 * p + i) ∧ σ (235 + 52 * p + i) < 8192
theorem RG_us {σ : Int → Int} {j v : Int} (h : RG σ) (hj : j < 7 ∨ (60 ≤ j ∧ j < 229) ∨ 547 ≤ j) : RG (us σ j v) := by
  obtain ⟨h1, h2, h3, h4⟩ := h
  have e7 : us σ j v 7 = σ 7 := us_n (by omega)
  have h5 := h3 0 (by omega) (by omega)
  refine ⟨by rw [e7]; exact h1, fun i a b => ?_, fun p a b => ?_, fun p i a b c d => ?_⟩
  · rw [e7] at b; rw [us_n (by omega)]; exact h2 i a b
  · rw [e7, us_n (by omega)]; exact h3 p a b
  · rw [us_n (by omega)]; exact h4 p i a b c d
theorem RG.o {σ : Int → Int} (h : RG σ) {k : Int} (hk : 0 ≤ k ∧ k < 6) : 0 ≤ σ (229 + k) ∧ σ (229 + k) ≤ 52 := by
  have := h.2.2.1 k hk.1 hk.2
  have := h.1
  omega
theorem RG.h7 {σ : Int → Int} (h : RG σ) : 0 ≤ σ 7 ∧ σ 7 ≤ 52 := by
  have := h.2.2.1 0 (by omega) (by omega)
  have := h.1
  omega
theorem f_can_r {σ : Int → Int} {k kind : Int} (h : 0 ≤ σ (229 + k)) : 0 ≤ f_can σ k kind ∧ f_can σ k kind ≤ σ (229 + k) := by
  have := ff_r (b := fun j => tb (σ (235 + 52 * k + j)) kind) (i := 0) (n := (σ (229 + k)).toNat)
  unfold f_can
  omega
theorem f_learns_0 {σ : Int → Int} {k kind : Int} (h : σ (229 + k) = 0) : f_learns σ k kind = σ := by unfold f_learns; rw [if_pos h]
/-- learning touches but others, what they can't be, caught, known -/
theorem f_learns_n {σ : Int → Int} {k kind j : Int} (h0 : 0 ≤ σ (229 + k)) (h1 : j ≠ 229 + k) (h2 : j ≠ 547 + k) (h3 : j ≠ 151 + 13 * k + kind) (h4 : ¬ (235 + 52 * k ≤ j ∧ j < 235 + 52 * k + σ (229 + k))) : f_learns σ k kind j = σ j := by
  unfold f_learns
  split
  · rfl
  · dsimp only
    rw [us_n h3]
    unfold dl
    have hc := f_can_r (kind := kind) h0
    rw [if_neg (by split <;> omega), us_n h1]
    split
    · rw [us_n h2]
    · rfl
theorem f_learns_o {σ : Int → Int} {k kind : Int} (h0 : 0 ≤ σ (229 + k)) (hk : 0 ≤ k ∧ k < 6) (hkd : 0 ≤ kind ∧ kind < 13) (h : σ (229 + k) ≠ 0) : f_learns σ k kind (229 + k) = σ (229 + k) - 1 := by
  unfold f_learns
  rw [if_neg h]
  have hc := f_can_r (kind := kind) h0
  rw [us_n (by omega)]
  unfold dl
  rw [if_neg (by split <;> omega), us_s]
theorem f_learns_k {σ : Int → Int} {k kind : Int} (h : σ (229 + k) ≠ 0) : f_learns σ k kind (151 + 13 * k + kind) = wr (σ (151 + 13 * k + kind) + 1) := by
  unfold f_learns
  rw [if_neg h]
  exact us_s
/-- what they can't be: a place of before, or the next -/
theorem f_learns_m {σ : Int → Int} {k kind i : Int} (hk : 0 ≤ k ∧ k < 6) (hkd : 0 ≤ kind ∧ kind < 13) (hi : 0 ≤ i ∧ i < 52) : f_learns σ k kind (235 + 52 * k + i) = σ (235 + 52 * k + i) ∨ (i < σ (229 + k) - 1 ∧ f_learns σ k kind (235 + 52 * k + i) = σ (235 + 52 * k + i + 1)) := by
  unfold f_learns
  split
  · left; rfl
  · rw [us_n (by omega)]
    have e1 : ∀ j, 235 + 52 * k ≤ j → j ≤ 235 + 52 * k + 52 → us (if f_can σ k kind = σ (229 + k) then us σ (547 + k) (wr (σ (547 + k) + 1)) else σ) (229 + k) (σ (229 + k) - 1) j = σ j := by
      intro j h1 h2
      rw [us_n (by omega)]
      split
      · rw [us_n (by omega)]
      · rfl
    generalize us (if f_can σ k kind = σ (229 + k) then us σ (547 + k) (wr (σ (547 + k) + 1)) else σ) (229 + k) (σ (229 + k) - 1) = σ2 at e1 ⊢
    generalize (if f_can σ k kind = σ (229 + k) then (0 : Int) else f_can σ k kind) = i1
    unfold dl
    by_cases h : 235 + 52 * k + i1 ≤ 235 + 52 * k + i ∧ 235 + 52 * k + i < 235 + 52 * k + (σ (229 + k) - 1)
    · rw [if_pos h]
      right
      exact ⟨by omega, e1 _ (by omega) (by omega)⟩
    · rw [if_neg h]
      left
      exact e1 _ (by omega) (by omega)
theorem RG_learns {σ : Int → Int} {k kind : Int} (h : RG σ) (hk : 0 ≤ k ∧ k < 6) (hkd : 0 ≤ kind ∧ kind < 13) : RG (f_learns σ k kind) := by
  by_cases e0 : σ (229 + k) = 0
  · rw [f_learns_0 e0]; exact h
  obtain ⟨h1, h2, h3, h4⟩ := h
  have hk3 := h3 k hk.1 hk.2
  have e7 : f_learns σ k kind 7 = σ 7 := f_learns_n hk3.1 (by omega) (by omega) (by omega) (by omega)
  refine ⟨by rw [e7]; exact h1, fun i a b => ?_, fun p a b => ?_, fun p i a b c d => ?_⟩
  · rw [e7] at b
    rw [f_learns_n hk3.1 (by omega) (by omega) (by omega) (by omega)]; exact h2 i a b
  · rw [e7]
    have := h3 p a b
    by_cases e : p = k
    · subst e; rw [f_learns_o hk3.1 hk hkd e0]; omega
    · rw [f_learns_n hk3.1 (by omega) (by omega) (by omega) (by omega)]; exact this
  · by_cases e : p = k
    · subst e
      rcases f_learns_m (σ := σ) hk hkd ⟨c, d⟩ with q | ⟨q1, q⟩
      · rw [q]; exact h4 p i a b c d
      · rw [q, show 235 + 52 * p + i + 1 = 235 + 52 * p + (i + 1) by omega]; exact h4 p (i + 1) a b (by omega) (by omega)
    · rw [f_learns_n hk3.1 (by omega) (by omega) (by omega) (by omega)]; exact h4 p i a b c d
theorem RG_lr {k kind : Int} (hk : 0 ≤ k ∧ k < 6) (hkd : 0 ≤ kind ∧ kind < 13) : ∀ (n : Nat) {σ : Int → Int}, RG σ → RG (f_lr σ k kind n) := by
  intro n
  induction n with
  | zero => intro σ h; exact h
  | succ n ih => intro σ h; exact ih (RG_learns h hk hkd)
theorem RG_books {σ : Int → Int} {k kind : Int} (h : RG σ) (hk : 0 ≤ k ∧ k < 6) (hkd : 0 ≤ kind ∧ kind < 13) : RG (f_books σ k kind) := by
  unfold f_books
  split
  · exact h
  · exact RG_us (RG_us (RG_us (RG_lr hk hkd _ h) (by omega)) (by omega)) (by omega)
theorem RG_adds {σ : Int → Int} {k mask : Int} (h : RG σ) (hk : 0 ≤ k ∧ k < 6) (hm : 0 ≤ mask ∧ mask < 8192) (hn : σ (229 + k) + σ 7 < 52) : RG (f_adds σ k mask) := by
  obtain ⟨h1, h2, h3, h4⟩ := h
  have hk3 := h3 k hk.1 hk.2
  have eo : ∀ j, j ≠ 229 + k → j ≠ 235 + 52 * k + σ (229 + k) → f_adds σ k mask j = σ j := fun j a b => by unfold f_adds; rw [us_n a, us_n b]
  have e7 : f_adds σ k mask 7 = σ 7 := eo 7 (by omega) (by omega)
  refine ⟨by rw [e7]; exact h1, fun i a b => ?_, fun p a b => ?_, fun p i a b c d => ?_⟩
  · rw [e7] at b
    rw [eo _ (by omega) (by omega)]; exact h2 i a b
  · rw [e7]
    have := h3 p a b
    by_cases e : p = k
    · subst e; unfold f_adds; rw [us_s]; omega
    · rw [eo _ (by omega) (by omega)]; exact this
  · by_cases e : 235 + 52 * p + i = 235 + 52 * k + σ (229 + k)
    · unfold f_adds; rw [us_n (by omega), e, us_s]; exact hm
    · rw [eo _ (by omega) e]; exact h4 p i a b c d
def f_draws (σ : Int → Int) (k : Int) : Int → Int := us (f_hand (dl (us σ 7 (σ 7 - 1)) 8 (σ 7 - 1) 0) k (σ 8) 1) (565 + k) (σ 8 + 1)
theorem f_draws_n {σ : Int → Int} {k j : Int} (h7 : 0 < σ 7 ∧ σ 7 ≤ 52) (h8 : 0 ≤ σ 8 ∧ σ 8 < 13) (h1 : j ≠ 7) (h2 : ¬ (8 ≤ j ∧ j < 8 + (σ 7 - 1))) (h3 : j ≠ 60 + 13 * k + σ 8) (h4 : j ≠ 565 + k) : f_draws σ k j = σ j := by
  unfold f_draws f_hand
  rw [us_n h4, us_n h3]
  unfold dl
  rw [if_neg (by omega), us_n h1]
theorem f_draws_7 {σ : Int → Int} {k : Int} (hk : 0 ≤ k ∧ k < 6) (h8 : 0 ≤ σ 8 ∧ σ 8 < 13) : f_draws σ k 7 = σ 7 - 1 := by
  unfold f_draws f_hand
  rw [us_n (by omega), us_n (by omega)]
  unfold dl
  rw [if_neg (by omega), us_s]
theorem f_draws_h {σ : Int → Int} {k i : Int} (hk : 0 ≤ k ∧ k < 6) (h7 : 0 < σ 7 ∧ σ 7 ≤ 52) (h8 : 0 ≤ σ 8 ∧ σ 8 < 13) (hi : 0 ≤ i ∧ i < σ 7 - 1) : f_draws σ k (8 + i) = σ (8 + (i + 1)) := by
  unfold f_draws f_hand
  rw [us_n (by omega), us_n (by omega)]
  unfold dl
  rw [if_pos (by omega), us_n (by omega)]
  congr 1
  omega
theorem RG_draws {σ : Int → Int} {k : Int} (h : RG σ) (hk : 0 ≤ k ∧ k < 6) (h7 : 0 < σ 7) : RG (f_draws σ k) := by
  have h72 := h.h7
  obtain ⟨h1, h2, h3, h4⟩ := h
  have h8 : 0 ≤ σ 8 ∧ σ 8 < 13 := h2 0 (by omega) h7
  have e7 := f_draws_7 (σ := σ) hk h8
  refine ⟨by rw [e7]; omega, fun i a b => ?_, fun p a b => ?_, fun p i a b c d => ?_⟩
  · rw [e7] at b
    rw [f_draws_h hk ⟨h7, h72.2⟩ h8 ⟨a, b⟩]; exact h2 (i + 1) (by omega) (by omega)
  · rw [e7, f_draws_n ⟨h7, h72.2⟩ h8 (by omega) (by omega) (by omega) (by omega)]
    have := h3 p a b
    omega
  · rw [f_draws_n ⟨h7, h72.2⟩ h8 (by omega) (by omega) (by omega) (by omega)]; exact h4 p i a b c d
/-- a card of a refill -/
def f_draw1 (σ : Int → Int) (k : Int) : Int → Int := f_books (f_adds (f_draws σ k) k 0) k (σ 8)
def f_drawn (σ : Int → Int) (k : Int) : Nat → Int → Int
  | 0 => σ
  | n + 1 => f_drawn (f_draw1 σ k) k n
def f_refills (σ : Int → Int) (k : Int) : Nat → Int → Int
  | 0 => σ
  | n + 1 => if f_cards σ k = 0 ∧ 0 < σ 7 ∧ 0 < σ 3 then f_refills (f_drawn σ k (if σ 3 < σ 7 then σ 3 else σ 7).toNat) k n else σ
theorem f_lr_n {k kind j : Int} (hk : 0 ≤ k ∧ k < 6) (hkd : 0 ≤ kind ∧ kind < 13) (h1 : j ≠ 229 + k) (h2 : j ≠ 547 + k) (h3 : j ≠ 151 + 13 * k + kind) (h4 : ¬ (235 + 52 * k ≤ j ∧ j < 235 + 52 * k + 52)) : ∀ (n : Nat) {σ : Int → Int}, RG σ → f_lr σ k kind n j = σ j := by
  intro n
  induction n with
  | zero => intro σ _; rfl
  | succ n ih =>
    intro σ h
    have := h.o hk
    show f_lr (f_learns σ k kind) k kind n j = σ j
    rw [ih (RG_learns h hk hkd), f_learns_n this.1 h1 h2 h3 (by omega)]
theorem f_books_n {σ : Int → Int} {k kind j : Int} (h : RG σ) (hk : 0 ≤ k ∧ k < 6) (hkd : 0 ≤ kind ∧ kind < 13) (h1 : j ≠ 229 + k) (h2 : j ≠ 547 + k) (h3 : j ≠ 151 + 13 * k + kind) (h4 : ¬ (235 + 52 * k ≤ j ∧ j < 235 + 52 * k + 52)) (h5 : j ≠ 60 + 13 * k + kind) (h6 : j ≠ 138 + kind) : f_books σ k kind j = σ j := by
  unfold f_books
  split
  · rfl
  · rw [us_n h6]
    unfold f_hand
    rw [us_n h5, us_n h3, f_lr_n hk hkd h1 h2 h3 h4 _ h]
/-- a card of a refill: the ranges, the heap, the table -/
theorem f_draw1_g {σ : Int → Int} {k : Int} (h : RG σ) (hk : 0 ≤ k ∧ k < 6) (h7 : 0 < σ 7) : RG (f_draw1 σ k) ∧ f_draw1 σ k 7 = σ 7 - 1 ∧ (∀ j, 0 ≤ j → j < 7 → f_draw1 σ k j = σ j) := by
  have h72 := h.h7
  have h8 : 0 ≤ σ 8 ∧ σ 8 < 13 := h.2.1 0 (by omega) h7
  have hd := RG_draws h hk h7
  have h3 := h.2.2.1 k hk.1 hk.2
  have e7 := f_draws_7 (σ := σ) hk h8
  have eo : f_draws σ k (229 + k) = σ (229 + k) := f_draws_n ⟨h7, h72.2⟩ h8 (by omega) (by omega) (by omega) (by omega)
  have ha : RG (f_adds (f_draws σ k) k 0) := RG_adds hd hk (by omega) (by rw [e7, eo]; omega)
  have en : ∀ j, 0 ≤ j → j < 8 → f_adds (f_draws σ k) k 0 j = f_draws σ k j := fun j a b => by
    unfold f_adds
    rw [eo, us_n (by omega), us_n (by omega)]
  refine ⟨RG_books ha hk h8, ?_, fun j a b => ?_⟩
  · unfold f_draw1
    rw [f_books_n ha hk h8 (by omega) (by omega) (by omega) (by omega) (by omega) (by omega), en 7 (by omega) (by omega), e7]
  · unfold f_draw1
    rw [f_books_n ha hk h8 (by omega) (by omega) (by omega) (by omega) (by omega) (by omega), en j a (by omega), f_draws_n ⟨h7, h72.2⟩ h8 (by omega) (by omega) (by omega) (by omega)]
theorem f_drawn_g {k : Int} (hk : 0 ≤ k ∧ k < 6) : ∀ (n : Nat) {σ : Int → Int}, RG σ → (n : Int) ≤ σ 7 → RG (f_drawn σ k n) ∧ f_drawn σ k n 7 = σ 7 - n ∧ (∀ j, 0 ≤ j → j < 7 → f_drawn σ k n j = σ j) := by
  intro n
  induction n with
  | zero => intro σ h hn; exact ⟨h, by simp [f_drawn], fun _ _ _ => rfl⟩
  | succ n ih =>
    intro σ h hn
    obtain ⟨a1, a2, a3⟩ := f_draw1_g h hk (by omega)
    obtain ⟨b1, b2, b3⟩ := ih a1 (by omega)
    exact ⟨b1, by show f_drawn (f_draw1 σ k) k n 7 = _; rw [b2, a2]; omega, fun j c d => by show f_drawn (f_draw1 σ k) k n j = _; rw [b3 j c d, a3 j c d]⟩
theorem f_refills_g {k : Int} (hk : 0 ≤ k ∧ k < 6) : ∀ (n : Nat) {σ : Int → Int}, RG σ → RG (f_refills σ k n) ∧ f_refills σ k n 7 ≤ σ 7 ∧ (∀ j, 0 ≤ j → j < 7 → f_refills σ k n j = σ j) := by
  intro n
  induction n with
  | zero => intro σ h; exact ⟨h, Int.le_refl _, fun _ _ _ => rfl⟩
  | succ n ih =>
    intro σ h
    unfold f_refills
    split
    · rename_i hc
      have hn : (((if σ 3 < σ 7 then σ 3 else σ 7).toNat : Nat) : Int) ≤ σ 7 := by split <;> omega
      obtain ⟨a1, a2, a3⟩ := f_drawn_g hk _ h hn
      obtain ⟨b1, b2, b3⟩ := ih a1
      exact ⟨b1, by omega, fun j c d => by rw [b3 j c d, a3 j c d]⟩
    · exact ⟨h, Int.le_refl _, fun _ _ _ => rfl⟩
/-- from a place on: the first with cards; i of n are passed -/
def f_settle (σ : Int → Int) (from_ i : Int) : Nat → Int → Int
  | 0 => σ
  | n + 1 =>
    let k := (from_ + i) % σ 1
    let σ1 := f_refills σ k (σ 7).toNat
    if f_cards σ1 k = 0 then f_settle σ1 from_ (i + 1) n else us σ1 4 k
def f_settles (σ : Int → Int) (from_ : Int) : Int → Int := f_settle (us σ 4 (-1)) from_ 0 (σ 1).toNat
def f_addn (σ : Int → Int) (k : Int) : Nat → Int → Int
  | 0 => σ
  | n + 1 => f_addn (f_adds σ k 0) k n
def f_beg1 (σ : Int → Int) (k : Int) : Nat → Int → Int
  | 0 => σ
  | n + 1 => f_beg1 (f_addn σ k (f_cards σ k).toNat) (k + 1) n
def f_bks (σ : Int → Int) (k kind : Int) : Nat → Int → Int
  | 0 => σ
  | n + 1 => f_bks (f_books σ k kind) k (kind + 1) n
def f_beg2 (σ : Int → Int) (k : Int) : Nat → Int → Int
  | 0 => σ
  | n + 1 => f_beg2 (f_bks σ k 0 (σ 0).toNat) (k + 1) n
def f_begins (σ : Int → Int) : Int → Int := let σ1 := f_beg1 σ 0 (σ 1).toNat; let σ2 := f_beg2 σ1 0 (σ 1).toNat; f_settles σ2 0
def f_booksOf (σ : Int → Int) (k : Int) : Int := sm (fun j => bz (σ (138 + j) = k + 1)) 13
def f_allBooks (σ : Int → Int) : Int := sm (fun j => bz (0 < σ (138 + j))) 13
