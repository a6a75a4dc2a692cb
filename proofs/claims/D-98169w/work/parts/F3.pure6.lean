/-! ===== a normal form of heaps; tokens ===== -/
theorem ur_sv {I : HI} {a : Nat} {f : Int → Int} {j : Int} : ur I a f a j = f j := by simp [ur]
theorem ur_nv {I : HI} {a b : Nat} {f : Int → Int} {j : Int} (h : b ≠ a) : ur I a f b j = I b j := by simp [ur, h]
theorem ui_sv {I : HI} {a : Nat} {j v : Int} : ui I a j v a j = v := by simp [ui]
theorem ui_nv {I : HI} {a b : Nat} {i j v : Int} (h : b ≠ a) : ui I a j v b i = I b i := by simp [ui, h]
theorem ui_nj {I : HI} {a b : Nat} {i j v : Int} (h : i ≠ j) : ui I a j v b i = I b i := by simp [ui, h]
theorem ui_uis {I : HI} {a : Nat} {j v w : Int} : ui (ui I a j v) a j w = ui I a j w := by
  funext b i; simp only [ui]; split <;> rfl
theorem ui_uin {I : HI} {a b : Nat} {i j v w : Int} (h : b ≠ a) : ui (ui I a j v) b i w = ui (ui I b i w) a j v := by
  funext c k; simp only [ui]
  by_cases e : c = a
  · subst e; simp [Ne.symm h]
  · simp [e]
/-- the byte at p; beyond the end -1 -/
def pk (τ : Int → Int) (n p : Int) : Int := if p < n then τ p % 256 else -1
theorem pk_r {τ : Int → Int} {n p : Int} : -1 ≤ pk τ n p ∧ pk τ n p < 256 := by unfold pk; split <;> omega
abbrev isS (c : Int) : Prop := 97 ≤ c ∧ c ≤ 122
abbrev isD (c : Int) : Prop := 48 ≤ c ∧ c ≤ 57
def t_skip (τ : Int → Int) (n : Int) : Nat → Int → Int
  | 0, p => p
  | k + 1, p => if pk τ n p = 32 ∨ pk τ n p = 10 then t_skip τ n k (p + 1) else p
/-- letters and digits from p on: whether all are alike, the word's code, the number, how many, the place behind -/
def t_wd (τ : Int → Int) (n small : Int) : Nat → Int × Int × Int × Int × Int → Int × Int × Int × Int × Int
  | 0, x => x
  | k + 1, (al, w, nu, sp, p) =>
    if isS (pk τ n p) ∨ isD (pk τ n p) then
      t_wd τ n small k (bz (al ≠ 0 ∧ bz (isS (pk τ n p)) = small), (if sp < 7 then w * 256 + pk τ n p else w), (if sp < 3 then 10 * nu + pk τ n p - 48 else nu), sp + 1, p + 1)
    else (al, w, nu, sp, p)
def t_kind (small : Int) (x : Int × Int × Int × Int × Int) : Int := if x.1 = 0 ∨ (if small = 0 then 3 else 7) < x.2.2.2.1 then 4 else if small = 0 then 2 else 1
def t_sign (c : Int) : Int := if c = 59 ∨ c = 40 ∨ c = 41 ∨ (60 ≤ c ∧ c ≤ 62) then 3 else 4
def t_run (τ ω : Int → Int) (p : Int) : Int × Int × Int × Int × Int := t_wd τ (ω 3) (bz (isS (pk τ (ω 3) p))) (ω 3 - p).toNat (1, 0, 0, 0, p)
/-- the next token: the object's numbers, the word -/
def t_next1 (τ ω : Int → Int) (w p : Int) : (Int → Int) × Int :=
  let ω1 := us (us (us ω 4 p) 12 p) 13 0
  if ω 5 < ω 3 ∧ ω 5 ≤ p then (us (us ω1 12 (ω 5)) 11 4, w)
  else if pk τ (ω 3) p < 0 then (us ω1 11 0, w)
  else if ¬ isS (pk τ (ω 3) p) ∧ ¬ isD (pk τ (ω 3) p) then (us (us (us ω1 11 (t_sign (pk τ (ω 3) p))) 14 (pk τ (ω 3) p)) 4 (p + 1), w)
  else (us (us (us (us ω1 14 (t_run τ ω p).2.2.1) 13 (t_run τ ω p).2.2.2.1) 4 (t_run τ ω p).2.2.2.2) 11 (t_kind (bz (isS (pk τ (ω 3) p))) (t_run τ ω p)), (t_run τ ω p).2.1)
def t_next (τ ω : Int → Int) (w : Int) : (Int → Int) × Int := t_next1 τ ω w (t_skip τ (ω 3) (ω 3 - ω 4).toNat (ω 4))
theorem us_3 {f : Int → Int} {i j k a b c a' b' c' : Int} (h1 : i ≠ j) (h2 : i ≠ k) (h3 : j ≠ k) : us (us (us (us (us (us f i a) j b) k c) i a') j b') k c' = us (us (us f i a') j b') k c' := by
  funext x
  simp only [us]
  by_cases e1 : x = k
  · simp [e1]
  · by_cases e2 : x = j
    · simp [e1, e2, h3]
    · by_cases e3 : x = i <;> simp [e1, e2, e3, h1, h2]
theorem lor8 {w c : Int} (hw : 0 ≤ w) (hc : 0 ≤ c ∧ c < 256) : (((w * ((2 ^ (8 : Int).toNat : Nat) : Int)).toNat ||| c.toNat : Nat) : Int) = w * 256 + c := by
  obtain ⟨n, rfl⟩ := Int.eq_ofNat_of_zero_le hw
  obtain ⟨k, rfl⟩ := Int.eq_ofNat_of_zero_le hc.1
  have hk : k < 2 ^ 8 := by omega
  have e : ((n : Int) * ((2 ^ (8 : Int).toNat : Nat) : Int)).toNat = n <<< 8 := by
    rw [Nat.shiftLeft_eq]
    have : ((2 ^ (8 : Int).toNat : Nat) : Int) = 256 := rfl
    rw [this]; omega
  rw [e, Int.toNat_natCast, ← Nat.shiftLeft_add_eq_or_of_lt hk, Nat.shiftLeft_eq]
  omega
def b8 (x : Int) : Int := (x + 128) % 256 - 128
/-- four bytes of a number at the tape's end -/
def f_four (τ : Int → Int) (l v : Int) : Int → Int := us (us (us (us τ l (b8 (v / 16777216))) (l + 1) (b8 (v / 65536))) (l + 2) (b8 (v / 256))) (l + 3) (b8 v)
/-- none of the first n words is w -/
def t_nmb (ρ : Int → Int) (w : Int) : Nat → Bool
  | 0 => true
  | n + 1 => t_nmb ρ w n && decide (w ≠ ρ n)
abbrev t_nm (ρ : Int → Int) (w : Int) (n : Nat) : Prop := t_nmb ρ w n = true
/-- the first place of a word, from i on -/
def t_find (ν : Int → Int) (w f i : Int) : Nat → Int
  | 0 => -1
  | n + 1 => if ν (f + i) = w then i else t_find ν w f (i + 1) n
theorem t_find_r {ν : Int → Int} {w f : Int} : ∀ (n : Nat) (i : Int), 0 ≤ i → -1 ≤ t_find ν w f i n ∧ t_find ν w f i n < i + n := by
  intro n
  induction n with
  | zero => intro i h; simp only [t_find]; omega
  | succ n ih =>
    intro i h
    unfold t_find
    split
    · omega
    · have := ih (i + 1) (by omega); omega
theorem t_skip_r {τ : Int → Int} {n : Int} : ∀ (k : Nat) (p : Int), p ≤ t_skip τ n k p ∧ t_skip τ n k p ≤ p + k := by
  intro k
  induction k with
  | zero => intro p; simp only [t_skip]; omega
  | succ k ih =>
    intro p
    unfold t_skip
    split
    · have := ih (p + 1); omega
    · omega
theorem p256 {s : Nat} (h : s ≤ 6) : (256 : Int) ^ s ≤ 281474976710656 := by
  have h : s = 0 ∨ s = 1 ∨ s = 2 ∨ s = 3 ∨ s = 4 ∨ s = 5 ∨ s = 6 := by omega
  rcases h with rfl | rfl | rfl | rfl | rfl | rfl | rfl <;> decide
