/-! ===== plain: bents ===== -/
/-- the first of those behind a, from the i-th on, who has cards; else the next one -/
def f_nwc (σ : Int → Int) (a i : Int) : Nat → Int
  | 0 => (a + 1) % σ 1
  | n + 1 => if 0 < f_cards σ ((a + i) % σ 1) then (a + i) % σ 1 else f_nwc σ a (i + 1) n
/-- the first kind from i on that a hand has -/
def f_least (σ : Int → Int) (a i : Int) : Nat → Int
  | 0 => i
  | n + 1 => if σ (60 + 13 * a + i) = 0 then f_least σ a (i + 1) n else i
/-- the first known kind from k on that a has too; -1 -/
def f_kn1 (σ : Int → Int) (a q k : Int) : Nat → Int
  | 0 => -1
  | n + 1 => if q ≠ a ∧ 0 < σ (151 + 13 * q + k) ∧ 0 < σ (60 + 13 * a + k) then 100 * q + k else f_kn1 σ a q (k + 1) n
def f_kn (σ : Int → Int) (a q : Int) : Nat → Int
  | 0 => -1
  | n + 1 => if f_kn1 σ a q 0 13 = -1 then f_kn σ a (q + 1) n else f_kn1 σ a q 0 13
/-- who has the most cards -/
def f_who (σ : Int → Int) (a who q : Int) : Nat → Int
  | 0 => who
  | n + 1 => f_who σ a (if q ≠ a ∧ (who < 0 ∨ f_cards σ who < f_cards σ q) then q else who) (q + 1) n
def f_most (σ : Int → Int) (a most k : Int) : Nat → Int
  | 0 => most
  | n + 1 => f_most σ a (if σ (60 + 13 * a + most) < σ (60 + 13 * a + k) then k else most) (k + 1) n
def f_bent0 (σ : Int → Int) (a rule : Int) : Int :=
  let least := f_least σ a 0 13
  if rule = 1 ∧ f_kn σ a 0 (σ 1).toNat ≠ -1 then f_kn σ a 0 (σ 1).toNat
  else if rule = 2 then 100 * f_who σ a (-1) 0 (σ 1).toNat + f_most σ a least least (13 - least).toNat
  else 100 * f_nwc σ a 1 (σ 1 - 1).toNat + (if rule = 3 ∧ 0 ≤ σ (565 + a) - 1 ∧ 0 < σ (60 + 13 * a + (σ (565 + a) - 1)) then σ (565 + a) - 1 else least)
def f_bent (σ : Int → Int) (a rule : Int) : Int := if f_cards σ a = 0 ∨ σ 1 < 2 then -1 else f_bent0 σ a rule
def f_gain (σ : Int → Int) (k : Int) : Int := f_booksOf σ k + sm (fun j => bz (0 < σ (60 + 13 * k + j) ∧ wr (f_inHands σ j) = 4)) 13
theorem f_nwc_r {σ : Int → Int} {a : Int} (h : 0 < σ 1 ∧ σ 1 ≤ 6) : ∀ (n : Nat) (i : Int), 0 ≤ f_nwc σ a i n ∧ f_nwc σ a i n < σ 1 := by
  intro n
  induction n with
  | zero => intro i; exact ⟨Int.emod_nonneg _ (by omega), Int.emod_lt_of_pos _ h.1⟩
  | succ n ih =>
    intro i
    unfold f_nwc
    split
    · exact ⟨Int.emod_nonneg _ (by omega), Int.emod_lt_of_pos _ h.1⟩
    · exact ih (i + 1)
theorem f_who_r {σ : Int → Int} {a : Int} : ∀ (n : Nat) (who q : Int), -1 ≤ who → 0 ≤ q → who < q → -1 ≤ f_who σ a who q n ∧ f_who σ a who q n < q + n := by
  intro n
  induction n with
  | zero => intro who q h0 h1 h2; simp only [f_who]; omega
  | succ n ih =>
    intro who q h0 h1 h2
    unfold f_who
    split
    · have := ih q (q + 1) (by omega) (by omega) (by omega); omega
    · have := ih who (q + 1) h0 (by omega) (by omega); omega
theorem f_lead_r {σ : Int → Int} : ∀ (n : Nat) (best k : Int), -1 ≤ best → 0 ≤ k → best < k → -1 ≤ f_lead σ best k n ∧ f_lead σ best k n < k + n := by
  intro n
  induction n with
  | zero => intro who q h0 h1 h2; simp only [f_lead]; omega
  | succ n ih =>
    intro who q h0 h1 h2
    unfold f_lead
    split
    · have := ih q (q + 1) (by omega) (by omega) (by omega); omega
    · have := ih who (q + 1) h0 (by omega) (by omega); omega
