/-! ===== plain: rows kept ===== -/
theorem ui_ui {I : HI} {a : Nat} {j v w : Int} : ui (ui I a j v) a j w = ui I a j w := by
  funext b i; simp only [ui]; split <;> rfl
/-- 580 numbers of σ from 4 on come to the row u, place by place up to i -/
def kr (u : Int → Int) (at_ : Int) (σ : Int → Int) (i : Int) : Int → Int := fun j => if at_ ≤ j ∧ j < at_ + i then σ (4 + (j - at_)) else u j
theorem kr_0 {u σ : Int → Int} {at_ : Int} : kr u at_ σ 0 = u := by funext j; unfold kr; rw [if_neg (by omega)]
theorem kr_s {u σ : Int → Int} {at_ i : Int} (h : 0 ≤ i) : us (kr u at_ σ i) (at_ + i) (σ (4 + i)) = kr u at_ σ (i + 1) := by
  funext j
  unfold us kr
  by_cases e : j = at_ + i
  · subst e; rw [if_pos rfl, if_pos (by omega)]; congr 1; omega
  · rw [if_neg e]
    by_cases e2 : at_ ≤ j ∧ j < at_ + i
    · rw [if_pos e2, if_pos (by omega)]
    · rw [if_neg e2, if_neg (by omega)]
/-- 580 numbers of a row come back -/
def br (σ : Int → Int) (u : Int → Int) (at_ : Int) (i : Int) : Int → Int := fun j => if 4 ≤ j ∧ j < 4 + i then u (at_ + (j - 4)) else σ j
theorem br_0 {u σ : Int → Int} {at_ : Int} : br σ u at_ 0 = σ := by funext j; unfold br; rw [if_neg (by omega)]
theorem br_s {u σ : Int → Int} {at_ i : Int} (h : 0 ≤ i) : us (br σ u at_ i) (4 + i) (u (at_ + i)) = br σ u at_ (i + 1) := by
  funext j
  unfold us br
  by_cases e : j = 4 + i
  · subst e; rw [if_pos rfl, if_pos (by omega)]; congr 1; omega
  · rw [if_neg e]
    by_cases e2 : 4 ≤ j ∧ j < 4 + i
    · rw [if_pos e2, if_pos (by omega)]
    · rw [if_neg e2, if_neg (by omega)]
def ksh (u : Int → Int) (i : Int) : Int → Int := fun j => if 0 ≤ j ∧ j < i then u (j + 580) else u j
theorem ksh_0 {u : Int → Int} : ksh u 0 = u := by funext j; unfold ksh; rw [if_neg (by omega)]
theorem ksh_s {u : Int → Int} {i : Int} (h : 0 ≤ i) : us (ksh u i) i (ksh u i (i + 580)) = ksh u (i + 1) := by
  funext j
  unfold us ksh
  by_cases e : j = i
  · subst e; rw [if_pos rfl, if_neg (by omega), if_pos (by omega)]
  · rw [if_neg e]
    by_cases e2 : 0 ≤ j ∧ j < i
    · rw [if_pos e2, if_pos (by omega)]
    · rw [if_neg e2, if_neg (by omega)]
def kn (n : Int) : Int := if n = 8 then 7 else n
def ku (u : Int → Int) (n : Int) (σ : Int → Int) : Int → Int := kr (if n = 8 then ksh u 4060 else u) (580 * kn n) σ 580
def f_inHands (σ : Int → Int) (kind : Int) : Int := sm (fun q => σ (60 + 13 * q + kind)) (σ 1).toNat
/-- who has the most books, of the first n -/
def f_lead (σ : Int → Int) (best k : Int) : Nat → Int
  | 0 => best
  | n + 1 => f_lead σ (if best < 0 ∨ f_booksOf σ best < f_booksOf σ k then k else best) (k + 1) n
