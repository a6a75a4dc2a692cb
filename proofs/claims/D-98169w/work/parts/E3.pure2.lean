/-! ===== plain: the beginning of a game ===== -/
theorem bz_g {p : Prop} [Decidable p] : rg (bz p) := by have := bz_r (p := p); omega
theorem bz_ne {p : Prop} [Decidable p] : bz p ≠ 0 ↔ p := by unfold bz; split <;> simp_all
theorem f_cards_c {σ τ : Int → Int} {k : Int} (h : ∀ j, 0 ≤ j → j < 13 → σ (60 + 13 * k + j) = τ (60 + 13 * k + j)) : f_cards σ k = f_cards τ k := by
  unfold f_cards
  rw [sm_congr (g := fun j => τ (60 + 13 * k + j)) (fun i a b => h i a (by omega))]
theorem f_addn_g {k : Int} (hk : 0 ≤ k ∧ k < 6) : ∀ (n : Nat) {σ : Int → Int}, RG σ → σ (229 + k) + n + σ 7 ≤ 52 → RG (f_addn σ k n) ∧ f_addn σ k n (229 + k) = σ (229 + k) + n ∧ (∀ j, j ≠ 229 + k → ¬ (235 + 52 * k ≤ j ∧ j < 235 + 52 * k + 52) → f_addn σ k n j = σ j) := by
  intro n
  induction n with
  | zero => intro σ h hn; exact ⟨h, by simp [f_addn], fun _ _ _ => rfl⟩
  | succ n ih =>
    intro σ h hn
    have ho := h.o hk
    have h7 := h.1
    have eo : ∀ j, j ≠ 229 + k → j ≠ 235 + 52 * k + σ (229 + k) → f_adds σ k 0 j = σ j := fun j a b => by unfold f_adds; rw [us_n a, us_n b]
    have e1 : f_adds σ k 0 (229 + k) = σ (229 + k) + 1 := us_s
    have e7 : f_adds σ k 0 7 = σ 7 := eo 7 (by omega) (by omega)
    obtain ⟨a1, a2, a3⟩ := ih (RG_adds h hk (show (0 : Int) ≤ 0 ∧ (0 : Int) < 8192 by omega) (by omega)) (by rw [e1, e7]; omega)
    exact ⟨a1, by show f_addn (f_adds σ k 0) k n _ = _; rw [a2, e1]; omega, fun j b c => by show f_addn (f_adds σ k 0) k n j = _; rw [a3 j b c, eo j b (by omega)]⟩
theorem f_bks_g {k : Int} (hk : 0 ≤ k ∧ k < 6) : ∀ (n : Nat) (kind : Int) {σ : Int → Int}, RG σ → 0 ≤ kind → kind + n ≤ 13 → RG (f_bks σ k kind n) ∧ (∀ j, 0 ≤ j → j < 60 → f_bks σ k kind n j = σ j) := by
  intro n
  induction n with
  | zero => intro kind σ h h0 hn; exact ⟨h, fun _ _ _ => rfl⟩
  | succ n ih =>
    intro kind σ h h0 hn
    have hkd : 0 ≤ kind ∧ kind < 13 := by omega
    obtain ⟨a1, a2⟩ := ih (kind + 1) (RG_books h hk hkd) (by omega) (by omega)
    exact ⟨a1, fun j b c => by show f_bks (f_books σ k kind) k (kind + 1) n j = _; rw [a2 j b c, f_books_n h hk hkd (by omega) (by omega) (by omega) (by omega) (by omega) (by omega)]⟩
theorem sm_bd {f : Int → Int} {a b : Int} {n : Nat} (h : ∀ i : Int, 0 ≤ i → i < n → a ≤ f i ∧ f i ≤ b) : a * n ≤ sm f n ∧ sm f n ≤ b * n := by
  induction n with
  | zero => simp [sm]
  | succ n ih =>
    have h1 := ih (fun i p q => h i p (by omega))
    have h2 := h n (by omega) (by omega)
    simp only [sm]
    have e1 : a * ((n + 1 : Nat) : Int) = a * n + a := by rw [Int.natCast_add, Int.mul_add]; simp
    have e2 : b * ((n + 1 : Nat) : Int) = b * n + b := by rw [Int.natCast_add, Int.mul_add]; simp
    omega
theorem f_booksOf_r {σ : Int → Int} {k : Int} : 0 ≤ f_booksOf σ k ∧ f_booksOf σ k ≤ 13 := by
  have := sm_bd (f := fun j => bz (σ (138 + j) = k + 1)) (a := 0) (b := 1) (n := 13) (fun i _ _ => bz_r)
  unfold f_booksOf
  omega
theorem f_allBooks_r {σ : Int → Int} : 0 ≤ f_allBooks σ ∧ f_allBooks σ ≤ 13 := by
  have := sm_bd (f := fun j => bz (0 < σ (138 + j))) (a := 0) (b := 1) (n := 13) (fun i _ _ => bz_r)
  unfold f_allBooks
  omega
abbrev isP (σ : Int → Int) (k : Int) : Prop := 0 ≤ k ∧ k ≤ σ 1 - 1
abbrev isK (σ : Int → Int) (k : Int) : Prop := 0 ≤ k ∧ k ≤ σ 0 - 1
def f_why (σ : Int → Int) (a b kind : Int) : Int := if σ 4 = -1 then 1 else if σ 4 ≠ a then 2 else if σ (60 + 13 * a + kind) = 0 then 3 else if a = b then 4 else 0
def f_sure (σ : Int → Int) (b kind : Int) : Int := if 0 < σ (151 + 13 * b + kind) then 2 else if f_can σ b kind = σ (229 + b) then 0 else 1
