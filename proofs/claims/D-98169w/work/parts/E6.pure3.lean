/-! ===== plain: an asking ===== -/
def f_lie (σ : Int → Int) (b kind lies : Int) : Int := bz (0 < σ (60 + 13 * b + kind) ∧ lies = 1)
def f_gives (σ : Int → Int) (b kind lies : Int) : Int := if f_lie σ b kind lies = 1 then 0 else σ (60 + 13 * b + kind)
def f_ask1 (σ : Int → Int) (a : Int) : Int → Int := us (us σ 5 (wr (σ 5 + 1))) (553 + a) (wr (σ (553 + a) + 1))
def f_ask0 (σ : Int → Int) (a kind : Int) : Int → Int := if f_ask1 σ a (151 + 13 * a + kind) = 0 then f_learns (f_ask1 σ a) a kind else f_ask1 σ a
def f_giv1 (σ : Int → Int) (b kind g : Int) : Int → Int := f_hand (f_cannot (us (f_lr σ b kind (g - σ (151 + 13 * b + kind)).toNat) (151 + 13 * b + kind) 0) b kind) b kind (-g)
def f_giv2 (σ : Int → Int) (a kind g : Int) : Int → Int :=
  let σ7 := f_hand σ a kind g
  let σ8 := us σ7 (151 + 13 * a + kind) (wr (σ7 (151 + 13 * a + kind) + g))
  us (us σ8 (559 + a) (wr (σ8 (559 + a) + g))) 6 0
def f_unk (σ : Int → Int) (b kind : Int) : Nat → Int → Int
  | 0 => σ
  | n + 1 => f_unk (us (f_adds σ b 0) (151 + 13 * b + kind) (σ (151 + 13 * b + kind) - 1)) b kind n
def f_no0 (σ : Int → Int) (b kind : Int) : Int → Int := if 0 < σ (151 + 13 * b + kind) then us σ (547 + b) (wr (σ (547 + b) + 1)) else σ
def f_no1 (σ : Int → Int) (b kind : Int) : Int → Int :=
  let σ5 := f_cannot (f_unk (f_no0 σ b kind) b kind (σ (151 + 13 * b + kind)).toNat) b kind
  us σ5 6 (wr (σ5 6 + 1))
def f_no2 (σ : Int → Int) (a kind : Int) : Int → Int := if σ 2 = 1 ∧ σ 8 = kind then us (f_draws σ a) (151 + 13 * a + kind) (wr (f_draws σ a (151 + 13 * a + kind) + 1)) else f_adds (f_draws σ a) a 0
def f_end (σ : Int → Int) (from_ : Int) : Int → Int := if σ 6 = σ 1 then us σ 4 (-1) else f_settles σ from_
/-- an asking: what is so then, what was drawn, what was laid down -/
def f_asks (σ : Int → Int) (a b kind lies : Int) : (Int → Int) × Int × Int :=
  if 0 < f_gives σ b kind lies then
    let σ10 := f_giv2 (f_giv1 (f_ask0 σ a kind) b kind (f_gives σ b kind lies)) a kind (f_gives σ b kind lies)
    (f_end (f_books σ10 a kind) a, -1, if 4 ≤ σ10 (60 + 13 * a + kind) then kind else -1)
  else
    let σ6 := f_no1 (f_ask0 σ a kind) b kind
    if 0 < σ6 7 then
      let σ7 := us σ6 6 0
      let σ9 := f_no2 σ7 a kind
      (f_end (f_books σ9 a (σ7 8)) (if σ7 2 = 1 ∧ σ7 8 = kind then a else (a + 1) % σ 1), σ7 8, if 4 ≤ σ9 (60 + 13 * a + σ7 8) then σ7 8 else -1)
    else (f_end σ6 ((a + 1) % σ 1), -1, -1)
/-- what is told of it -/
def tA (I : HI) (m : Nat) (a b kind g c l lie sure : Int) : HI := ui (ui (ui (ui (ui (ui (ui (ui (ui I m 24 1) (m + 7) 0 a) (m + 7) 1 b) (m + 7) 2 kind) (m + 7) 3 g) (m + 7) 4 c) (m + 7) 5 l) (m + 7) 6 lie) (m + 7) 7 sure
theorem f_cannot_n {σ : Int → Int} {k kind j : Int} (h : ¬ (235 + 52 * k ≤ j ∧ j < 235 + 52 * k + σ (229 + k))) : f_cannot σ k kind j = σ j := if_neg h
theorem RG_cannot {σ : Int → Int} {k kind : Int} (h : RG σ) (hk : 0 ≤ k ∧ k < 6) (hkd : 0 ≤ kind ∧ kind < 13) : RG (f_cannot σ k kind) := by
  obtain ⟨h1, h2, h3, h4⟩ := h
  have hk3 := h3 k hk.1 hk.2
  have e7 : f_cannot σ k kind 7 = σ 7 := f_cannot_n (by omega)
  refine ⟨by rw [e7]; exact h1, fun i a b => ?_, fun p a b => ?_, fun p i a b c d => ?_⟩
  · rw [e7] at b
    rw [f_cannot_n (by omega)]; exact h2 i a b
  · rw [e7, f_cannot_n (by omega)]; exact h3 p a b
  · have hm := h4 p i a b c d
    unfold f_cannot
    split
    · have hp : 2 ^ kind.toNat ≤ 2 ^ 12 := Nat.pow_le_pow_right (by decide) (by omega)
      have hor : (σ (235 + 52 * p + i)).toNat ||| 2 ^ kind.toNat < 2 ^ 13 := Nat.or_lt_two_pow (by omega) (by omega)
      exact ⟨Int.natCast_nonneg _, by omega⟩
    · exact hm
theorem RG_hand {σ : Int → Int} {k kind more : Int} (h : RG σ) (hk : 0 ≤ k ∧ k < 6) (hkd : 0 ≤ kind ∧ kind < 13) : RG (f_hand σ k kind more) := RG_us h (by omega)
theorem RG_ask1 {σ : Int → Int} {a : Int} (h : RG σ) (ha : 0 ≤ a ∧ a < 6) : RG (f_ask1 σ a) := RG_us (RG_us h (by omega)) (by omega)
theorem RG_ask0 {σ : Int → Int} {a kind : Int} (h : RG σ) (ha : 0 ≤ a ∧ a < 6) (hkd : 0 ≤ kind ∧ kind < 13) : RG (f_ask0 σ a kind) := by
  unfold f_ask0
  split
  · exact RG_learns (RG_ask1 h ha) ha hkd
  · exact RG_ask1 h ha
/-- the asker's part touches nobody else's -/
theorem f_ask0_n {σ : Int → Int} {a kind j : Int} (h : RG σ) (ha : 0 ≤ a ∧ a < 6) (h0 : j ≠ 5) (h9 : j ≠ 553 + a) (h1 : j ≠ 229 + a) (h2 : j ≠ 547 + a) (h3 : j ≠ 151 + 13 * a + kind) (h4 : ¬ (235 + 52 * a ≤ j ∧ j < 235 + 52 * a + 52)) : f_ask0 σ a kind j = σ j := by
  have e : f_ask1 σ a j = σ j := by unfold f_ask1; rw [us_n h9, us_n h0]
  have ho := (RG_ask1 h ha).o ha
  unfold f_ask0
  split
  · rw [f_learns_n ho.1 h1 h2 h3 (by omega), e]
  · exact e
theorem RG_giv1 {σ : Int → Int} {b kind g : Int} (h : RG σ) (hb : 0 ≤ b ∧ b < 6) (hkd : 0 ≤ kind ∧ kind < 13) : RG (f_giv1 σ b kind g) := RG_hand (RG_cannot (RG_us (RG_lr hb hkd _ h) (by omega)) hb hkd) hb hkd
theorem RG_giv2 {σ : Int → Int} {a kind g : Int} (h : RG σ) (ha : 0 ≤ a ∧ a < 6) (hkd : 0 ≤ kind ∧ kind < 13) : RG (f_giv2 σ a kind g) := RG_us (RG_us (RG_us (RG_hand h ha hkd) (by omega)) (by omega)) (by omega)
theorem f_unk_g {b kind : Int} (hb : 0 ≤ b ∧ b < 6) (hkd : 0 ≤ kind ∧ kind < 13) : ∀ (n : Nat) {σ : Int → Int}, RG σ → σ (229 + b) + n + σ 7 ≤ 52 → RG (f_unk σ b kind n) ∧ (∀ j, j ≠ 229 + b → j ≠ 151 + 13 * b + kind → ¬ (235 + 52 * b ≤ j ∧ j < 235 + 52 * b + 52) → f_unk σ b kind n j = σ j) := by
  intro n
  induction n with
  | zero => intro σ h hn; exact ⟨h, fun _ _ _ _ => rfl⟩
  | succ n ih =>
    intro σ h hn
    have ho := h.o hb
    have h7 := h.1
    have eo : ∀ j, j ≠ 229 + b → j ≠ 235 + 52 * b + σ (229 + b) → f_adds σ b 0 j = σ j := fun j p q => by unfold f_adds; rw [us_n p, us_n q]
    have e1 : us (f_adds σ b 0) (151 + 13 * b + kind) (σ (151 + 13 * b + kind) - 1) (229 + b) = σ (229 + b) + 1 := by rw [us_n (by omega)]; exact us_s
    have e7 : us (f_adds σ b 0) (151 + 13 * b + kind) (σ (151 + 13 * b + kind) - 1) 7 = σ 7 := by rw [us_n (by omega)]; exact eo 7 (by omega) (by omega)
    obtain ⟨a1, a2⟩ := ih (RG_us (RG_adds h hb (show (0 : Int) ≤ 0 ∧ (0 : Int) < 8192 by omega) (by omega)) (j := 151 + 13 * b + kind) (v := σ (151 + 13 * b + kind) - 1) (by omega)) (by rw [e1, e7]; omega)
    refine ⟨a1, fun j p q r => ?_⟩
    show f_unk _ b kind n j = _
    rw [a2 j p q r, us_n q, eo j p (by omega)]
