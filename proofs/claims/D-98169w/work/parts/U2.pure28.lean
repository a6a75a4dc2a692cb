/-! ===== plain: open hands: values ===== -/
/-- what an asking is worth, by what states are worth -/
def oW (V : Int → Int → Int → Int → Int) (r : OR) : Int := r.1 + if r.2.2.1 = 0 then 0 else r.2.1 * V (n3 r.2.2.2.1) (n3 r.2.2.2.2.1) r.2.2.2.2.2.1 r.2.2.2.2.2.2
/-- the best of the first kinds, and which -/
def o_mx (w f : Int → Int) : Nat → Int × Int
  | 0 => (-1000, -1)
  | m + 1 => if f (m : Int) = 0 ∨ w (m : Int) ≤ (o_mx w f m).1 then o_mx w f m else (w (m : Int), (m : Int))
def oV (σ : Int → Int) : Nat → Int → Int → Int → Int → Int × Int
  | 0, _, _, _, _ => (0, -1)
  | n + 1, a, b, p, v => o_mx (fun k => oW (fun a b p v => (oV σ n a b p v).1) (o_go σ (rw3 a) (rw3 b) p v k)) (rw3 a) (σ 0).toNat
section PU28
variable {σ f g h f' h' w w' : Int → Int} {p v k a b : Int}
/-- a state in which somebody asks -/
def OS (σ : Int → Int) (a b p v : Int) : Prop := OI σ (rw3 a) (rw3 b) p ∧ (v = 0 ∨ v = 1) ∧ 0 < s3 (rw3 a) ∧ (0 ≤ a ∧ a < 125) ∧ (0 ≤ b ∧ b < 125)
abbrev omV (σ : Int → Int) (a b p v : Int) : Int := omu σ (rw3 a) (rw3 b) p v
theorem OI.cg (ho : OI σ f h p) (e1 : eq3 f f') (e2 : eq3 h h') : OI σ f' h' p := ⟨ho.1.eq e1, ho.2.1.eq e2, ho.2.2.1, fun j x y => by rw [← e1.at x y, ← e2.at x y]; exact ho.2.2.2 j x y⟩
theorem prs_eq (e : eq3 f g) : prs f = prs g := by
  obtain ⟨x, y, z⟩ := e
  unfold prs; rw [x, y, z]
theorem n3_r (hf : f3 f) : 0 ≤ n3 f ∧ n3 f < 125 := by
  have a := hf 0 (by omega) (by omega); have b := hf 1 (by omega) (by omega); have c := hf 2 (by omega) (by omega)
  unfold n3; omega
theorem rw3_f (hf : f3 f) : eq3 (rw3 (n3 f)) f := by
  have a := hf 0 (by omega) (by omega); have b := hf 1 (by omega) (by omega)
  exact rw3_n3 (by omega) (by omega)
/-- what comes is such a state again -/
theorem go_OS (hg : OG σ) (ho : OI σ f h p) (hv : v = 0 ∨ v = 1) (hk : 0 ≤ k ∧ k < 3) (hf : 0 < f k) {r : OR} (hr : r = o_go σ f h p v k) (h1 : r.2.2.1 = 1) : OS σ (n3 r.2.2.2.1) (n3 r.2.2.2.2.1) r.2.2.2.2.2.1 r.2.2.2.2.2.2 ∧ omV σ (n3 r.2.2.2.1) (n3 r.2.2.2.2.1) r.2.2.2.2.2.1 r.2.2.2.2.2.2 < omu σ f h p v ∧ oN σ (rw3 (n3 r.2.2.2.1)) (rw3 (n3 r.2.2.2.2.1)) r.2.2.2.2.2.1 = oN σ r.2.2.2.1 r.2.2.2.2.1 r.2.2.2.2.2.1 := by
  obtain ⟨-, -, -, -, q⟩ := go_ok hg ho hv hk hf hr
  obtain ⟨q1, q2, q3, q4, q5⟩ := q h1
  have e1 := rw3_f q1.1
  have e2 := rw3_f q1.2.1
  refine ⟨⟨q1.cg e1.sy e2.sy, q2, by rw [s3_eq e1]; exact q3, n3_r q1.1, n3_r q1.2.1⟩, ?_, ?_⟩
  · unfold omV omu
    rw [prs_eq e1, prs_eq e2]
    exact q5
  · unfold oN
    rw [s3_eq e1, s3_eq e2]
theorem mx_cg : ∀ m : Nat, (∀ k : Int, 0 ≤ k → k < m → f k ≠ 0 → w' k = w k) → (∀ k : Int, 0 ≤ k → k < m → g k = f k) → o_mx w' g m = o_mx w f m := by
  intro m
  induction m with
  | zero => intro _ _; rfl
  | succ m ih =>
    intro h1 h2
    have i := ih (fun k x y => h1 k x (by omega)) (fun k x y => h2 k x (by omega))
    unfold o_mx
    rw [i, h2 m (by omega) (by omega)]
    by_cases c : f (m : Int) = 0
    · rw [if_pos (Or.inl c), if_pos (Or.inl c)]
    · rw [h1 m (by omega) (by omega) c]
/-- the best lies within bounds, if there is any -/
theorem mx_b {B : Int} : ∀ m : Nat, (∀ k : Int, 0 ≤ k → k < m → f k ≠ 0 → -B ≤ w k ∧ w k ≤ B) → B < 1000 → ((∀ k : Int, 0 ≤ k → k < m → f k = 0) ∧ o_mx w f m = (-1000, -1)) ∨ ((-B ≤ (o_mx w f m).1 ∧ (o_mx w f m).1 ≤ B) ∧ 0 ≤ (o_mx w f m).2 ∧ (o_mx w f m).2 < m) := by
  intro m
  induction m with
  | zero => intro _ _; exact Or.inl ⟨fun k x y => by omega, rfl⟩
  | succ m ih =>
    intro h1 hB
    have i := ih (fun k x y => h1 k x (by omega)) hB
    unfold o_mx
    by_cases c : f (m : Int) = 0
    · rw [if_pos (Or.inl c)]
      rcases i with ⟨i1, i2⟩ | i
      · exact Or.inl ⟨fun k x y => by
          by_cases e : k = (m : Int)
          · rw [e]; exact c
          · exact i1 k x (by omega), i2⟩
      · exact Or.inr ⟨i.1, i.2.1, by omega⟩
    · have b := h1 m (by omega) (by omega) c
      by_cases d : w (m : Int) ≤ (o_mx w f m).1
      · rw [if_pos (Or.inr d)]
        rcases i with ⟨i1, i2⟩ | i
        · rw [i2] at d
          have d : w (m : Int) ≤ -1000 := d
          omega
        · exact Or.inr ⟨i.1, i.2.1, by omega⟩
      · rw [if_neg (by omega)]
        exact Or.inr ⟨b, by show 0 ≤ (m : Int); omega, by show (m : Int) < ((m + 1 : Nat) : Int); omega⟩
theorem oN_b (ho : OI σ f h p) (h7 : 0 ≤ σ 7 ∧ σ 7 ≤ 4) : 0 ≤ oN σ f h p ∧ oN σ f h p ≤ 22 := by
  obtain ⟨q1, q2, q3, -⟩ := ho
  have b0 := q1 0 (by omega) (by omega); have b1 := q1 1 (by omega) (by omega); have b2 := q1 2 (by omega) (by omega)
  have c0 := q2 0 (by omega) (by omega); have c1 := q2 1 (by omega) (by omega); have c2 := q2 2 (by omega) (by omega)
  show 0 ≤ f 0 + f 1 + f 2 + (h 0 + h 1 + h 2) + (σ 7 - p) ∧ f 0 + f 1 + f 2 + (h 0 + h 1 + h 2) + (σ 7 - p) ≤ 22
  omega
/-- somebody who has a card has one of a kind that is in the game -/
theorem OS.has (hs : OS σ a b p v) : ∃ k : Int, 0 ≤ k ∧ k < σ 0 ∧ k < 3 ∧ 0 < rw3 a k := by
  obtain ⟨⟨q1, q2, q3, q4⟩, -, q5, -⟩ := hs
  refine Classical.byContradiction fun c => ?_
  have z : ∀ k : Int, 0 ≤ k → k < 3 → rw3 a k = 0 := fun k x y => by
    refine Classical.byContradiction fun d => ?_
    have r := q1 k x y
    by_cases e : k < σ 0
    · exact c ⟨k, x, e, y, by omega⟩
    · have := q4 k x y
      have r2 := q2 k x y
      have r3 := ocn_r (σ := σ) (p := p) (k := k)
      unfold kq at this
      rw [if_neg e] at this
      omega
  have a0 := z 0 (by omega) (by omega); have a1 := z 1 (by omega) (by omega); have a2 := z 2 (by omega) (by omega)
  have q5 : 0 < rw3 a 0 + rw3 a 1 + rw3 a 2 := q5
  omega
/-- values are small -/
theorem oV_b (hg : OG σ) : ∀ (n : Nat) (a b p v : Int), OS σ a b p v → omV σ a b p v < n → (4 * (oV σ n a b p v).1 ≤ oN σ (rw3 a) (rw3 b) p ∧ -(oN σ (rw3 a) (rw3 b) p) ≤ 4 * (oV σ n a b p v).1) ∧ 0 ≤ (oV σ n a b p v).2 ∧ (oV σ n a b p v).2 < σ 0 := by
  intro n
  induction n with
  | zero =>
    intro a b p v hs hm
    have x1 := prs_r (f := rw3 a); have x2 := prs_r (f := rw3 b)
    have h3 := hs.1.2.2.1
    have hv := hs.2.1
    unfold omV omu at hm
    omega
  | succ n ih =>
    intro a b p v hs hm
    obtain ⟨k0, k1, k2, k3, k4⟩ := hs.has
    have h7 := hg.1
    have h00 := hg.2.2.2.1
    have N := oN_b hs.1 h7
    have hm' : omu σ (rw3 a) (rw3 b) p v < ((n + 1 : Nat) : Int) := hm
    have wb : ∀ k : Int, 0 ≤ k → k < (σ 0).toNat → rw3 a k ≠ 0 → -(oN σ (rw3 a) (rw3 b) p) ≤ 4 * oW (fun a b p v => (oV σ n a b p v).1) (o_go σ (rw3 a) (rw3 b) p v k) ∧ 4 * oW (fun a b p v => (oV σ n a b p v).1) (o_go σ (rw3 a) (rw3 b) p v k) ≤ oN σ (rw3 a) (rw3 b) p := by
      intro k x y z
      have fk := hs.1.1 k x (by omega)
      obtain ⟨g1, g2, g3, g4, g5⟩ := go_ok hg hs.1 hs.2.1 (k := k) ⟨x, by omega⟩ (by omega) (r := o_go σ (rw3 a) (rw3 b) p v k) rfl
      have g6 := go_OS hg hs.1 hs.2.1 (k := k) ⟨x, by omega⟩ (by omega) (r := o_go σ (rw3 a) (rw3 b) p v k) rfl
      generalize o_go σ (rw3 a) (rw3 b) p v k = r at *
      unfold oW
      by_cases c : r.2.2.1 = 0
      · rw [if_pos c]; omega
      · rw [if_neg c]
        have c1 : r.2.2.1 = 1 := by omega
        obtain ⟨o1, o2, o3⟩ := g6 c1
        obtain ⟨-, -, -, u4, -⟩ := g5 c1
        have i := (ih _ _ _ _ o1 (by omega)).1
        rw [o3] at i
        dsimp only
        generalize (oV σ n (n3 r.2.2.2.1) (n3 r.2.2.2.2.1) r.2.2.2.2.2.1 r.2.2.2.2.2.2).1 = V at *
        rcases g1 with q | q
        · rw [q]; omega
        · rw [q]; omega
    have key := mx_b (f := rw3 a) (w := fun k => oW (fun a b p v => (oV σ n a b p v).1) (o_go σ (rw3 a) (rw3 b) p v k)) (B := oN σ (rw3 a) (rw3 b) p / 4) (σ 0).toNat (fun k x y z => by have := wb k x y z; omega) (by omega)
    have e9 : oV σ (n + 1) a b p v = o_mx (fun k => oW (fun a b p v => (oV σ n a b p v).1) (o_go σ (rw3 a) (rw3 b) p v k)) (rw3 a) (σ 0).toNat := rfl
    rw [e9]
    rcases key with ⟨i1, -⟩ | ⟨i1, i2, i3⟩
    · have := i1 k0 k1 (by omega)
      omega
    · exact ⟨by omega, i2, by omega⟩
/-- more steps change nothing -/
theorem oV_s (hg : OG σ) : ∀ (n : Nat) (a b p v : Int), OS σ a b p v → omV σ a b p v < n → oV σ (n + 1) a b p v = oV σ n a b p v := by
  intro n
  induction n with
  | zero =>
    intro a b p v hs hm
    have x1 := prs_r (f := rw3 a); have x2 := prs_r (f := rw3 b)
    have h3 := hs.1.2.2.1
    have hv := hs.2.1
    unfold omV omu at hm
    omega
  | succ n ih =>
    intro a b p v hs hm
    have h00 := hg.2.2.2.1
    have hm' : omu σ (rw3 a) (rw3 b) p v < ((n + 1 : Nat) : Int) := hm
    show o_mx (fun k => oW (fun a b p v => (oV σ (n + 1) a b p v).1) (o_go σ (rw3 a) (rw3 b) p v k)) (rw3 a) (σ 0).toNat = o_mx (fun k => oW (fun a b p v => (oV σ n a b p v).1) (o_go σ (rw3 a) (rw3 b) p v k)) (rw3 a) (σ 0).toNat
    refine mx_cg _ (fun k x y z => ?_) (fun _ _ _ => rfl)
    have fk := hs.1.1 k x (by omega)
    have g2 := (go_ok hg hs.1 hs.2.1 (k := k) ⟨x, by omega⟩ (by omega) (r := o_go σ (rw3 a) (rw3 b) p v k) rfl).2.1
    have g6 := go_OS hg hs.1 hs.2.1 (k := k) ⟨x, by omega⟩ (by omega) (r := o_go σ (rw3 a) (rw3 b) p v k) rfl
    try dsimp only
    generalize o_go σ (rw3 a) (rw3 b) p v k = r at *
    unfold oW
    by_cases c : r.2.2.1 = 0
    · rw [if_pos c, if_pos c]
    · rw [if_neg c, if_neg c]
      obtain ⟨o1, o2, -⟩ := g6 (by omega)
      dsimp only
      rw [ih _ _ _ _ o1 (by omega)]
/-- what a state is worth, and the first kind -/
def ov (σ : Int → Int) (a b p v : Int) : Int × Int := oV σ 80 a b p v
theorem omV_r (hg : OG σ) (hs : OS σ a b p v) : 0 ≤ omV σ a b p v ∧ omV σ a b p v < 72 := by
  have x1 := prs_r (f := rw3 a); have x2 := prs_r (f := rw3 b)
  have h3 := hs.1.2.2.1
  have hv := hs.2.1
  have h7 := hg.1
  unfold omV omu
  omega
theorem oV_ov (hg : OG σ) (hs : OS σ a b p v) : ∀ n : Nat, omV σ a b p v < n → n ≤ 80 → oV σ n a b p v = ov σ a b p v := by
  intro n hn h80
  have key : ∀ k : Nat, oV σ (n + k) a b p v = oV σ n a b p v := by
    intro k
    induction k with
    | zero => rfl
    | succ k ih => show oV σ (n + k + 1) a b p v = _; rw [oV_s hg (n + k) a b p v hs (by omega), ih]
  have := key (80 - n)
  rw [show n + (80 - n) = 80 by omega] at this
  exact this.symm
/-- a state is worth what its best asking is -/
theorem ov_eq (hg : OG σ) (hs : OS σ a b p v) : ov σ a b p v = o_mx (fun k => oW (fun a b p v => (ov σ a b p v).1) (o_go σ (rw3 a) (rw3 b) p v k)) (rw3 a) (σ 0).toNat := by
  have h00 := hg.2.2.2.1
  have hm := omV_r hg hs
  have hm' : omu σ (rw3 a) (rw3 b) p v < 72 := hm.2
  show oV σ (79 + 1) a b p v = _
  show o_mx (fun k => oW (fun a b p v => (oV σ 79 a b p v).1) (o_go σ (rw3 a) (rw3 b) p v k)) (rw3 a) (σ 0).toNat = _
  refine mx_cg _ (fun k x y z => ?_) (fun _ _ _ => rfl)
  have fk := hs.1.1 k x (by omega)
  have g2 := (go_ok hg hs.1 hs.2.1 (k := k) ⟨x, by omega⟩ (by omega) (r := o_go σ (rw3 a) (rw3 b) p v k) rfl).2.1
  have g6 := go_OS hg hs.1 hs.2.1 (k := k) ⟨x, by omega⟩ (by omega) (r := o_go σ (rw3 a) (rw3 b) p v k) rfl
  try dsimp only
  generalize o_go σ (rw3 a) (rw3 b) p v k = r at *
  unfold oW
  by_cases c : r.2.2.1 = 0
  · rw [if_pos c, if_pos c]
  · rw [if_neg c, if_neg c]
    obtain ⟨o1, o2, -⟩ := g6 (by omega)
    dsimp only
    rw [oV_ov hg o1 79 (by omega) (by omega)]
theorem ov_b (hg : OG σ) (hs : OS σ a b p v) : (-5 ≤ (ov σ a b p v).1 ∧ (ov σ a b p v).1 ≤ 5) ∧ 0 ≤ (ov σ a b p v).2 ∧ (ov σ a b p v).2 < σ 0 := by
  have hm := omV_r hg hs
  have b9 := oV_b hg 80 a b p v hs (by omega)
  have N := oN_b hs.1 hg.1
  change (4 * (ov σ a b p v).1 ≤ _ ∧ _ ≤ 4 * (ov σ a b p v).1) ∧ 0 ≤ (ov σ a b p v).2 ∧ (ov σ a b p v).2 < σ 0 at b9
  omega
end PU28
