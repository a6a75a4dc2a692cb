/-! ===== plain: what may be said of a kind ===== -/
def mx (σ : Int → Int) (k : Int) : Nat → Int
  | 0 => 0
  | n + 1 => if mx σ k n < σ (60 + 13 * (n : Int) + k) then σ (60 + 13 * (n : Int) + k) else mx σ k n
def vl (σ : Int → Int) (k w : Int) : Int := if w = 3 then sm (fun q => σ (60 + 13 * q + k)) 6 else if w = 4 then ct σ k else if w = 5 then mx σ k 6 else k
def cmv (sg v n : Int) : Int := if sg = 60 then bz (v < n) else if sg = 61 then bz (v = n) else bz (n < v)
def lfv (σ : Int → Int) (k : Int) (c : CD) : Int := if c.1 = 0 then bz (0 < σ (138 + k)) else if c.1 = 1 then bz (0 < σ (151 + 13 * c.2.2 + k)) else if c.1 = 2 then bz (0 < σ (60 + 13 * c.2.2 + k)) else cmv c.2.1 (vl σ k c.1) c.2.2
def rc1 (σ : Int → Int) (k : Int) (c : CD) (st : List Int) : List Int :=
  if c.1 = 10 then (match st with | v :: st => bz (v = 0) :: st | [] => [])
  else if c.1 = 11 then (match st with | b :: a :: st => bz (a ≠ 0 ∧ b ≠ 0) :: st | x => x)
  else if c.1 = 12 then (match st with | b :: a :: st => bz (a ≠ 0 ∨ b ≠ 0) :: st | x => x)
  else lfv σ k c :: st
def rcs (σ : Int → Int) (k : Int) : List CD → List Int → List Int
  | [], st => st
  | c :: L, st => rcs σ k L (rc1 σ k c st)
/-- the tree at c is this code -/
def CT (I : HI) (P : HP) (T : HT) (lo hi : Nat) : Nat → Nat → List CD → Prop
  | 0, _, _ => False
  | n + 1, c, L => (lo ≤ c ∧ c < hi) ∧ ((T c = (39, 0) ∧ L = [(0, 0, 0)]) ∨ (T c = (40, 0) ∧ ∃ p a, (0 ≤ p ∧ p < 6) ∧ (a = 0 ∨ a = 1) ∧ I c 0 = p ∧ I c 1 = a ∧ L = [(2 - a, 0, p)]) ∨
    (T c = (41, 0) ∧ ∃ w sg m, (0 ≤ w ∧ w ≤ 3) ∧ (60 ≤ sg ∧ sg ≤ 62) ∧ (0 ≤ m ∧ m ≤ 999) ∧ I c 0 = w ∧ I c 1 = sg ∧ I c 2 = m ∧ L = [(3 + w, sg, m)]) ∨
    (T c = (38, 0) ∧ ∃ c' L', P c 0 = some c' ∧ CT I P T lo hi n c' L' ∧ L = L' ++ [(10, 0, 0)]) ∨
    (T c = (42, 0) ∧ ∃ a b La Lb e, P c 0 = some a ∧ P c 1 = some b ∧ I c 2 = e ∧ (e = 0 ∨ e = 1) ∧ CT I P T lo hi n a La ∧ CT I P T lo hi n b Lb ∧ L = La ++ Lb ++ [(12 - e, 0, 0)]))
section PU25
variable {σ σ' : Int → Int} {k : Int} {I I' : HI} {P P' : HP} {T T' : HT} {lo hi lo' hi' : Nat}
theorem rcs_app : ∀ (L M : List CD) (st : List Int), rcs σ k (L ++ M) st = rcs σ k M (rcs σ k L st)
  | [], _, _ => rfl
  | c :: L, M, st => rcs_app L M (rc1 σ k c st)
theorem cmv_r {sg v n : Int} : cmv sg v n = 0 ∨ cmv sg v n = 1 := by
  have h1 := bz_r (p := v < n); have h2 := bz_r (p := v = n); have h3 := bz_r (p := n < v)
  unfold cmv; split
  · omega
  · split <;> omega
theorem lfv_r {c : CD} : lfv σ k c = 0 ∨ lfv σ k c = 1 := by
  unfold lfv
  split
  · have := bz_r (p := 0 < σ (138 + k)); omega
  · split
    · have := bz_r (p := 0 < σ (151 + 13 * c.2.2 + k)); omega
    · split
      · have := bz_r (p := 0 < σ (60 + 13 * c.2.2 + k)); omega
      · exact cmv_r
theorem rc_lf {c : CD} (h : c.1 < 10) (st : List Int) : rcs σ k [c] st = lfv σ k c :: st := by
  show rc1 σ k c st = _
  unfold rc1
  rw [if_neg (by omega), if_neg (by omega), if_neg (by omega)]
/-- a tree has a value -/
theorem CT.v : ∀ (n : Nat) {c : Nat} {L : List CD}, CT I P T lo hi n c L → ∃ v, (v = 0 ∨ v = 1) ∧ ∀ st, rcs σ k L st = v :: st := by
  intro n
  induction n with
  | zero => intro c L h; exact h.elim
  | succ n ih =>
    intro c L h
    rcases h.2 with ⟨-, rfl⟩ | ⟨-, p, a, -, ha, -, -, rfl⟩ | ⟨-, w, sg, m, hw, -, -, -, -, -, rfl⟩ | ⟨-, c', L', -, hu, rfl⟩ | ⟨-, a, b, La, Lb, e, -, -, -, he, h1, h2, rfl⟩
    · exact ⟨_, lfv_r, rc_lf (by decide)⟩
    · exact ⟨_, lfv_r, rc_lf (by show 2 - a < 10; omega)⟩
    · exact ⟨_, lfv_r, rc_lf (by show 3 + w < 10; omega)⟩
    · obtain ⟨v, hv, hr⟩ := ih hu
      refine ⟨bz (v = 0), by have := bz_r (p := v = 0); omega, fun st => ?_⟩
      rw [rcs_app, hr]
      rfl
    · obtain ⟨v, hv, hr⟩ := ih h1
      obtain ⟨u, hu, hs⟩ := ih h2
      rcases he with rfl | rfl
      · refine ⟨bz (v ≠ 0 ∨ u ≠ 0), by have := bz_r (p := v ≠ 0 ∨ u ≠ 0); omega, fun st => ?_⟩
        rw [rcs_app, rcs_app, hr, hs]
        rfl
      · refine ⟨bz (v ≠ 0 ∧ u ≠ 0), by have := bz_r (p := v ≠ 0 ∧ u ≠ 0); omega, fun st => ?_⟩
        rw [rcs_app, rcs_app, hr, hs]
        rfl
theorem CT.s : ∀ (n : Nat) {c : Nat} {L : List CD}, CT I P T lo hi n c L → CT I P T lo hi (n + 1) c L := by
  intro n
  induction n with
  | zero => intro c L h; exact h.elim
  | succ n ih =>
    intro c L h
    refine ⟨h.1, ?_⟩
    rcases h.2 with h | h | h | ⟨h0, c', L', h1, h2, h3⟩ | ⟨h0, a, b, La, Lb, e, h1, h2, h3, h4, h5, h6, h7⟩
    · exact Or.inl h
    · exact Or.inr (Or.inl h)
    · exact Or.inr (Or.inr (Or.inl h))
    · exact Or.inr (Or.inr (Or.inr (Or.inl ⟨h0, c', L', h1, ih h2, h3⟩)))
    · exact Or.inr (Or.inr (Or.inr (Or.inr ⟨h0, a, b, La, Lb, e, h1, h2, h3, h4, ih h5, ih h6, h7⟩)))
theorem CT.le {n m : Nat} (h : n ≤ m) {c : Nat} {L : List CD} (hc : CT I P T lo hi n c L) : CT I P T lo hi m c L := by
  induction h with
  | refl => exact hc
  | step _ ih => exact CT.s _ ih
/-- trees stay where their cells stay -/
theorem CT.cg : ∀ (n : Nat) {c : Nat} {L : List CD}, CT I P T lo hi n c L → (∀ a, lo ≤ a → a < hi → I' a = I a ∧ P' a = P a ∧ T' a = T a) → CT I' P' T' lo hi n c L := by
  intro n
  induction n with
  | zero => intro c L h _; exact h.elim
  | succ n ih =>
    intro c L h e
    refine ⟨h.1, ?_⟩
    obtain ⟨e1, e2, e3⟩ := e c h.1.1 h.1.2
    rw [e1, e2, e3]
    rcases h.2 with h | h | h | ⟨h0, c', L', h1, h2, h3⟩ | ⟨h0, a, b, La, Lb, e9, h1, h2, h3, h4, h5, h6, h7⟩
    · exact Or.inl h
    · exact Or.inr (Or.inl h)
    · exact Or.inr (Or.inr (Or.inl h))
    · exact Or.inr (Or.inr (Or.inr (Or.inl ⟨h0, c', L', h1, ih h2 e, h3⟩)))
    · exact Or.inr (Or.inr (Or.inr (Or.inr ⟨h0, a, b, La, Lb, e9, h1, h2, h3, h4, ih h5 e, ih h6 e, h7⟩)))
theorem CT.rg (h1 : lo' ≤ lo) (h2 : hi ≤ hi') : ∀ (n : Nat) {c : Nat} {L : List CD}, CT I P T lo hi n c L → CT I P T lo' hi' n c L := by
  intro n
  induction n with
  | zero => intro c L h; exact h.elim
  | succ n ih =>
    intro c L h
    refine ⟨by have := h.1; omega, ?_⟩
    rcases h.2 with h | h | h | ⟨h0, c', L', h1, h2, h3⟩ | ⟨h0, a, b, La, Lb, e, h1, h2, h3, h4, h5, h6, h7⟩
    · exact Or.inl h
    · exact Or.inr (Or.inl h)
    · exact Or.inr (Or.inr (Or.inl h))
    · exact Or.inr (Or.inr (Or.inr (Or.inl ⟨h0, c', L', h1, ih h2, h3⟩)))
    · exact Or.inr (Or.inr (Or.inr (Or.inr ⟨h0, a, b, La, Lb, e, h1, h2, h3, h4, ih h5, ih h6, h7⟩)))
/-- of two rows that are alike below 584 the same may be said -/
theorem rcs_cg (h : ∀ j, 0 ≤ j → j < 584 → σ' j = σ j) (hk : 0 ≤ k ∧ k < 13) : ∀ (L : List CD) (st : List Int), (∀ c ∈ L, okC 6 c) → (0 ≤ σ 7 ∧ σ 7 ≤ 52) → rcs σ' k L st = rcs σ k L st := by
  have hm : ∀ n : Nat, n ≤ 6 → mx σ' k n = mx σ k n := by
    intro n
    induction n with
    | zero => intro _; rfl
    | succ n ih =>
      intro hn
      unfold mx
      rw [ih (by omega), h _ (by omega) (by omega)]
  intro L
  induction L with
  | nil => intro st _ _; rfl
  | cons c L ih =>
    intro st hc h7
    show rcs σ' k L (rc1 σ' k c st) = rcs σ k L (rc1 σ k c st)
    have e : rc1 σ' k c st = rc1 σ k c st := by
      unfold rc1
      split
      · rfl
      · split
        · rfl
        · split
          · rfl
          · congr 1
            have ok := hc c List.mem_cons_self
            unfold lfv
            split
            · rw [h _ (by omega) (by omega)]
            · split
              · rename_i q
                have : 0 ≤ c.2.2 ∧ c.2.2 < 6 := by
                  rcases ok with o | o | o | o <;> omega
                rw [h _ (by omega) (by omega)]
              · split
                · rename_i q
                  have : 0 ≤ c.2.2 ∧ c.2.2 < 6 := by
                    rcases ok with o | o | o | o <;> omega
                  rw [h _ (by omega) (by omega)]
                · congr 1
                  unfold vl
                  rw [hm 6 (by omega)]
                  have e3 : sm (fun q => σ' (60 + 13 * q + k)) 6 = sm (fun q => σ (60 + 13 * q + k)) 6 := sm_congr fun i p q => h _ (by omega) (by omega)
                  have e4 : ct σ' k = ct σ k := by
                    unfold ct
                    rw [h 7 (by omega) (by omega)]
                    exact sm_congr fun i p q => by show bz (σ' (8 + i) = k) = bz (σ (8 + i) = k); rw [h _ (by omega) (by omega)]
                  rw [e3, e4]
    rw [e]
    exact ih _ (fun c q => hc c (List.mem_cons_of_mem _ q)) h7
theorem sm_bz {f : Int → Prop} [∀ i, Decidable (f i)] : ∀ n : Nat, 0 ≤ sm (fun i => bz (f i)) n ∧ sm (fun i => bz (f i)) n ≤ n := by
  intro n
  induction n with
  | zero => exact ⟨Int.le_refl _, Int.le_refl _⟩
  | succ n ih =>
    have := bz_r (p := f n)
    show 0 ≤ sm (fun i => bz (f i)) n + bz (f n) ∧ sm (fun i => bz (f i)) n + bz (f n) ≤ _
    omega
theorem mx_r (h : ∀ q : Int, 0 ≤ q → q < 6 → 0 ≤ σ (60 + 13 * q + k) ∧ σ (60 + 13 * q + k) ≤ 4) : ∀ n : Nat, n ≤ 6 → 0 ≤ mx σ k n ∧ mx σ k n ≤ 4 := by
  intro n
  induction n with
  | zero => intro _; exact ⟨Int.le_refl 0, by show (0 : Int) ≤ 4; omega⟩
  | succ n ih =>
    intro hn
    have a := ih (by omega)
    have b := h n (by omega) (by omega)
    unfold mx
    split <;> omega
theorem vl_r {w : Int} (hw : WF σ) (hk : 0 ≤ k ∧ k < 13) : 0 ≤ vl σ k w ∧ vl σ k w ≤ 52 := by
  have h4 : ∀ q : Int, 0 ≤ q → q < 6 → 0 ≤ σ (60 + 13 * q + k) ∧ σ (60 + 13 * q + k) ≤ 4 := fun q a b => hw.cv.h4 a b hk.1 hk.2
  have h7 := hw.cv.rg.h7
  unfold vl
  split
  · have : ∀ n : Nat, n ≤ 6 → 0 ≤ sm (fun q => σ (60 + 13 * q + k)) n ∧ sm (fun q => σ (60 + 13 * q + k)) n ≤ 4 * n := by
      intro n
      induction n with
      | zero => intro _; exact ⟨Int.le_refl 0, Int.le_refl 0⟩
      | succ n ih =>
        intro hn
        have a := ih (by omega)
        have b := h4 n (by omega) (by omega)
        show 0 ≤ sm (fun q => σ (60 + 13 * q + k)) n + σ (60 + 13 * (n : Int) + k) ∧ sm (fun q => σ (60 + 13 * q + k)) n + σ (60 + 13 * (n : Int) + k) ≤ _
        omega
    have := this 6 (by omega)
    omega
  · split
    · have := sm_bz (f := fun i => σ (8 + i) = k) (σ 7).toNat
      unfold ct
      omega
    · split
      · have := mx_r h4 6 (by omega)
        omega
      · omega
end PU25
