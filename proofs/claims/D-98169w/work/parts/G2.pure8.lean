/-! ===== plain: what holds while a table is read ===== -/
def TI (ω : Int → Int) : Prop := 0 ≤ ω 4 ∧ ω 4 ≤ ω 3 ∧ ω 3 ≤ 940 ∧ 0 ≤ ω 5 ∧ 0 ≤ ω 11 ∧ ω 11 ≤ 4 ∧ 0 ≤ ω 12 ∧ ω 12 ≤ ω 3 ∧ (ω 11 = 2 → 0 ≤ ω 14 ∧ ω 14 ≤ 999)
theorem TI_nx {τ ω : Int → Int} {w : Int} (h1 : 0 ≤ ω 4) (h2 : ω 4 ≤ ω 3) (h3 : ω 3 ≤ 940) (h5 : 0 ≤ ω 5) : TI (t_next τ ω w).1 := by
  have q := t_next_p (τ := τ) (w := w) ⟨h1, h2⟩ h5
  have e3 : (t_next τ ω w).1 3 = ω 3 := t_next_f (by omega)
  have e5 : (t_next τ ω w).1 5 = ω 5 := t_next_f (by omega)
  refine ⟨by omega, by omega, by omega, by omega, by omega, by omega, by omega, by omega, q.2.2.2.2.2.2.2⟩
theorem TI.nx {τ ω : Int → Int} {w : Int} (h : TI ω) : TI (t_next τ ω w).1 := TI_nx h.1 h.2.1 h.2.2.1 h.2.2.2.1
theorem TI.us {ω : Int → Int} {j v : Int} (h : TI ω) (hj : 15 ≤ j) : TI (us ω j v) := by
  unfold TI at *
  simp (disch := omega) only [us_n]
  exact h
theorem TI.go {τ ω : Int → Int} {w : Int} (h : TI ω) : ω 4 ≤ (t_next τ ω w).1 4 ∧ ((t_next τ ω w).1 11 ≠ 0 → (t_next τ ω w).1 11 ≠ 4 → ω 4 < (t_next τ ω w).1 4) ∧ (t_next τ ω w).1 3 = ω 3 := by
  have q := t_next_p (τ := τ) (w := w) ⟨h.1, h.2.1⟩ h.2.2.2.1
  exact ⟨q.1, q.2.2.2.2.2.2.1, t_next_f (by omega)⟩
/-- how many of a kind lie in the heap -/
def ct (η : Int → Int) (k : Int) : Int := sm (fun i => bz (η (8 + i) = k)) (η 7).toNat
theorem sm_add {f g : Int → Int} : ∀ n : Nat, sm (fun i => f i + g i) n = sm f n + sm g n := by
  intro n
  induction n with
  | zero => rfl
  | succ n ih => simp only [sm]; rw [ih]; omega
theorem sm_one {x : Int} (h : 0 ≤ x ∧ x < 13) : sm (fun k => bz (x = k)) 13 = 1 := by
  have h : x = 0 ∨ x = 1 ∨ x = 2 ∨ x = 3 ∨ x = 4 ∨ x = 5 ∨ x = 6 ∨ x = 7 ∨ x = 8 ∨ x = 9 ∨ x = 10 ∨ x = 11 ∨ x = 12 := by omega
  rcases h with rfl | rfl | rfl | rfl | rfl | rfl | rfl | rfl | rfl | rfl | rfl | rfl | rfl <;> decide
theorem sm_0 : ∀ n : Nat, sm (fun _ => 0) n = 0 := by
  intro n
  induction n with
  | zero => rfl
  | succ n ih => simp only [sm]; rw [ih]; rfl
theorem sm_ct {f : Int → Int} : ∀ n : Nat, (∀ i : Int, 0 ≤ i → i < n → 0 ≤ f i ∧ f i < 13) → sm (fun k => sm (fun i => bz (f i = k)) n) 13 = n := by
  intro n
  induction n with
  | zero => intro _; exact sm_0 13
  | succ n ih =>
    intro h
    simp only [sm]
    have e := sm_add (f := fun k => sm (fun i => bz (f i = k)) n) (g := fun k => bz (f n = k)) 13
    rw [ih (fun i a b => h i a (by omega)), sm_one (h n (by omega) (by omega))] at e
    simp only [sm] at e ⊢
    omega
def HW (η : Int → Int) : Prop :=
  (0 ≤ η 0 ∧ η 0 ≤ 13) ∧ (0 ≤ η 1 ∧ η 1 ≤ 6) ∧ (η 2 = 0 ∨ η 2 = 1) ∧ (0 ≤ η 3 ∧ η 3 ≤ 9) ∧
  (∀ j, (4 ≤ j ∧ j < 7) ∨ (138 ≤ j ∧ j < 571) → η j = 0) ∧ 0 ≤ η 7 ∧
  (∀ i, 0 ≤ i → i < η 7 → 0 ≤ η (8 + i) ∧ η (8 + i) < η 0) ∧
  (∀ k, 0 ≤ k → k < 13 → sm (fun p => η (60 + 13 * p + k)) 6 + ct η k = η (571 + k)) ∧
  (∀ k, 0 ≤ k → k < 13 → η (571 + k) ≤ 4 ∧ (η 0 ≤ k → η (571 + k) = 0)) ∧
  (∀ p k, 0 ≤ p → p < 6 → 0 ≤ k → k < 13 → 0 ≤ η (60 + 13 * p + k) ∧ (η 1 ≤ p → η (60 + 13 * p + k) = 0))
theorem ct_r {η : Int → Int} {k : Int} : 0 ≤ ct η k := by
  have := sm_bd (f := fun i => bz (η (8 + i) = k)) (a := 0) (b := 1) (n := (η 7).toNat) (fun i _ _ => bz_r)
  unfold ct
  omega
theorem sm6 {f : Int → Int} : sm f 6 = f 0 + f 1 + f 2 + f 3 + f 4 + f 5 := by simp [sm]
theorem p6 {p : Int} (h : 0 ≤ p ∧ p < 6) : p = 0 ∨ p = 1 ∨ p = 2 ∨ p = 3 ∨ p = 4 ∨ p = 5 := by omega
theorem HW.one {η : Int → Int} (h : HW η) {p k : Int} (hp : 0 ≤ p ∧ p < 6) (hk : 0 ≤ k ∧ k < 13) : 0 ≤ η (60 + 13 * p + k) ∧ η (60 + 13 * p + k) + ct η k ≤ 4 ∧ 0 ≤ η (571 + k) := by
  obtain ⟨h0, h1, h2, h3, h4, h5, h6, h7, h8, h9⟩ := h
  have e := h7 k hk.1 hk.2
  rw [sm6] at e
  have := h8 k hk.1 hk.2
  have c := ct_r (η := η) (k := k)
  have a0 := h9 0 k (by omega) (by omega) hk.1 hk.2
  have a1 := h9 1 k (by omega) (by omega) hk.1 hk.2
  have a2 := h9 2 k (by omega) (by omega) hk.1 hk.2
  have a3 := h9 3 k (by omega) (by omega) hk.1 hk.2
  have a4 := h9 4 k (by omega) (by omega) hk.1 hk.2
  have a5 := h9 5 k (by omega) (by omega) hk.1 hk.2
  rcases p6 hp with rfl | rfl | rfl | rfl | rfl | rfl <;> omega
theorem HW.cards {η : Int → Int} (h : HW η) {p : Int} (hp : 0 ≤ p ∧ p < 6) : 0 ≤ f_cards η p ∧ f_cards η p + η 7 ≤ 52 := by
  have e := sm_ct (f := fun i => η (8 + i)) (η 7).toNat (fun i a b => by have := h.2.2.2.2.2.2.1 i a (by omega); have := h.1; omega)
  have s1 := sm_bd (f := fun k => η (60 + 13 * p + k) + ct η k) (a := 0) (b := 4) (n := 13) (fun k a b => by have := h.one hp (k := k) (by omega); have := ct_r (η := η) (k := k); omega)
  have s2 := sm_bd (f := fun k => η (60 + 13 * p + k)) (a := 0) (b := 4) (n := 13) (fun k a b => by have := h.one hp (k := k) (by omega); have := ct_r (η := η) (k := k); omega)
  rw [sm_add (f := fun k => η (60 + 13 * p + k)) (g := fun k => ct η k)] at s1
  unfold f_cards
  have e2 : sm (fun k => ct η k) 13 = ((η 7).toNat : Int) := e
  have := h.2.2.2.2.2.1
  rw [wr_id (by omega)]
  omega
theorem HW.h7 {η : Int → Int} (h : HW η) : 0 ≤ η 7 ∧ η 7 ≤ 52 := by
  have := h.cards (p := 0) (by omega)
  have := h.2.2.2.2.2.1
  omega
theorem HW.h7s {η : Int → Int} (h : HW η) {k : Int} (hk : 0 ≤ k ∧ k < 13) (h4 : η (571 + k) ≠ 4) : η 7 ≤ 51 := by
  have e := sm_ct (f := fun i => η (8 + i)) (η 7).toNat (fun i a b => by have := h.2.2.2.2.2.2.1 i a (by omega); have := h.1; omega)
  have e2 : sm (fun k => ct η k) 13 = ((η 7).toNat : Int) := e
  have s1 := sm_bd (f := fun j => ct η j + bz (k = j)) (a := 0) (b := 4) (n := 13) (fun j a b => by
    have a1 := h.one (p := 0) (k := j) (by omega) (by omega)
    have a2 := h.2.2.2.2.2.2.2.1 j a (by omega)
    have a3 := h.2.2.2.2.2.2.2.2.1 j a (by omega)
    rw [sm6] at a2
    have b0 := h.one (p := 0) (k := j) (by omega) (by omega)
    have b1 := h.one (p := 1) (k := j) (by omega) (by omega)
    have b2 := h.one (p := 2) (k := j) (by omega) (by omega)
    have b3 := h.one (p := 3) (k := j) (by omega) (by omega)
    have b4 := h.one (p := 4) (k := j) (by omega) (by omega)
    have b5 := h.one (p := 5) (k := j) (by omega) (by omega)
    have c := ct_r (η := η) (k := j)
    by_cases q : k = j
    · subst q; rw [bz_t rfl]; omega
    · rw [bz_f q]; omega)
  rw [sm_add (f := fun j => ct η j) (g := fun j => bz (k = j)), e2, sm_one hk] at s1
  have := h.2.2.2.2.2.1
  omega
theorem HW_0 {η : Int → Int} (h : ∀ j, 0 ≤ j → j < 584 → η j = 0) : HW η := by
  refine ⟨by rw [h 0 (by omega) (by omega)]; omega, by rw [h 1 (by omega) (by omega)]; omega, Or.inl (h 2 (by omega) (by omega)), by rw [h 3 (by omega) (by omega)]; omega, fun j q => h j (by omega) (by omega), by rw [h 7 (by omega) (by omega)]; omega, fun i a b => ?_, fun k a b => ?_, fun k a b => ?_, fun p k a b c d => ?_⟩
  · rw [h 7 (by omega) (by omega)] at b; omega
  · rw [sm6, ct, h 7 (by omega) (by omega), h (571 + k) (by omega) (by omega)]
    rw [h (60 + 13 * 0 + k) (by omega) (by omega), h (60 + 13 * 1 + k) (by omega) (by omega), h (60 + 13 * 2 + k) (by omega) (by omega), h (60 + 13 * 3 + k) (by omega) (by omega), h (60 + 13 * 4 + k) (by omega) (by omega), h (60 + 13 * 5 + k) (by omega) (by omega)]
    rfl
  · rw [h (571 + k) (by omega) (by omega)]; omega
  · rw [h (60 + 13 * p + k) (by omega) (by omega)]; omega
theorem ct_us {η : Int → Int} {j v k : Int} (h : j < 7 ∨ 60 ≤ j) (h7 : 0 ≤ η 7 ∧ η 7 ≤ 52) : ct (us η j v) k = ct η k := by
  unfold ct
  rw [us_n (by omega)]
  refine sm_congr fun i a b => ?_
  rw [us_n (by omega)]
theorem HW.kinds {η : Int → Int} (h : HW η) {v : Int} (hv : 2 ≤ v ∧ v ≤ 13) (h00 : η 0 = 0) : HW (us η 0 v) := by
  have g7 := h.h7
  have hc := fun k => ct_us (η := η) (j := 0) (v := v) (k := k) (by omega) g7
  obtain ⟨h0, h1, h2, h3, h4, h5, h6, h7, h8, h9⟩ := h
  refine ⟨by rw [us_s]; omega, by rw [us_n (by omega)]; exact h1, by rw [us_n (by omega)]; exact h2, by rw [us_n (by omega)]; exact h3, fun j q => by rw [us_n (by omega)]; exact h4 j q, by rw [us_n (by omega)]; exact h5, fun i a b => ?_, fun k a b => ?_, fun k a b => ?_, fun p k a b c d => ?_⟩
  · rw [us_n (by omega)] at b
    have := h6 i a b
    omega
  · rw [hc, us_n (by omega), ← h7 k a b]
    congr 1
    exact sm_congr fun i _ _ => us_n (by omega)
  · have := h8 k a b
    rw [us_n (by omega)]; omega
  · have := h9 p k a b c d
    rw [us_n (by omega), us_n (by omega)]; exact this
theorem HW.small {η : Int → Int} (h : HW η) {j v : Int} (hv : j = 1 ∧ η 1 ≤ v ∧ v ≤ 6 ∨ j = 2 ∧ v = 1 ∨ j = 3 ∧ 0 ≤ v ∧ v ≤ 9) : HW (us η j v) := by
  have g7 := h.h7
  have hc := fun k => ct_us (η := η) (j := j) (v := v) (k := k) (by omega) g7
  obtain ⟨h0, h1, h2, h3, h4, h5, h6, h7, h8, h9⟩ := h
  refine ⟨by rw [us_n (by omega)]; exact h0, ?_, ?_, ?_, fun j q => by rw [us_n (by omega)]; exact h4 j q, by rw [us_n (by omega)]; exact h5, fun i a b => ?_, fun k a b => ?_, fun k a b => ?_, fun p k a b c d => ?_⟩
  · unfold us; split <;> omega
  · unfold us; split <;> omega
  · unfold us; split <;> omega
  · rw [us_n (by omega)] at b
    rw [us_n (by omega), us_n (by omega)]
    exact h6 i a b
  · rw [hc, us_n (by omega), ← h7 k a b]
    congr 1
    exact sm_congr fun i _ _ => us_n (by omega)
  · have := h8 k a b
    rw [us_n (by omega), us_n (by omega)]; exact this
  · have := h9 p k a b c d
    rw [us_n (by omega)]
    refine ⟨this.1, fun q => this.2 ?_⟩
    unfold us at q
    split at q <;> omega
theorem HW.heap {η : Int → Int} (h : HW η) {k : Int} (hk : 0 ≤ k ∧ k < η 0) (h4 : η (571 + k) ≠ 4) : HW (us (us (us η (571 + k) (η (571 + k) + 1)) (8 + η 7) k) 7 (η 7 + 1)) := by
  have g7 := h.h7
  have g8 := h.h7s ⟨hk.1, by have := h.1; omega⟩ h4
  obtain ⟨h0, h1, h2, h3, h4', h5, h6, h7, h8, h9⟩ := h
  have hc : ∀ j, ct (us (us (us η (571 + k) (η (571 + k) + 1)) (8 + η 7) k) 7 (η 7 + 1)) j = ct η j + bz (k = j) := by
    intro j
    unfold ct
    rw [us_s, show (η 7 + 1).toNat = (η 7).toNat + 1 by omega]
    simp only [sm]
    congr 1
    · refine sm_congr fun i a b => ?_
      rw [us_n (by omega), us_n (by omega), us_n (by omega)]
    · rw [show (((η 7).toNat : Nat) : Int) = η 7 by omega, us_n (by omega), us_s]
  have hb := h8 k hk.1 (by omega)
  refine ⟨?_, ?_, ?_, ?_, fun j q => ?_, by rw [us_s]; omega, fun i a b => ?_, fun j a b => ?_, fun j a b => ?_, fun p j a b c d => ?_⟩
  · simp (disch := omega) only [us_n]; exact h0
  · simp (disch := omega) only [us_n]; exact h1
  · simp (disch := omega) only [us_n]; exact h2
  · simp (disch := omega) only [us_n]; exact h3
  · simp (disch := omega) only [us_n]; exact h4' j q
  · rw [us_s] at b
    rw [us_n (show (8 + i : Int) ≠ 7 by omega), us_n (show (0 : Int) ≠ 7 by omega), us_n (show (0 : Int) ≠ 8 + η 7 by omega), us_n (show (0 : Int) ≠ 571 + k by omega)]
    by_cases e : i = η 7
    · rw [e, us_s]; exact hk
    · rw [us_n (by omega), us_n (by omega)]
      exact h6 i a (by omega)
  · rw [hc, us_n (show (571 + j : Int) ≠ 7 by omega), us_n (show (571 + j : Int) ≠ 8 + η 7 by omega)]
    have e1 : sm (fun p => us (us (us η (571 + k) (η (571 + k) + 1)) (8 + η 7) k) 7 (η 7 + 1) (60 + 13 * p + j)) 6 = sm (fun p => η (60 + 13 * p + j)) 6 := sm_congr fun i _ _ => by simp (disch := omega) only [us_n]
    rw [e1]
    have := h7 j a b
    by_cases e : k = j
    · rw [bz_t e, e, us_s]; omega
    · rw [bz_f e, us_n (by omega)]; omega
  · have := h8 j a b
    rw [us_n (show (571 + j : Int) ≠ 7 by omega), us_n (show (571 + j : Int) ≠ 8 + η 7 by omega), us_n (show (0 : Int) ≠ 7 by omega), us_n (show (0 : Int) ≠ 8 + η 7 by omega), us_n (show (0 : Int) ≠ 571 + k by omega)]
    by_cases e : j = k
    · rw [e, us_s]; omega
    · rw [us_n (by omega)]; exact this
  · have := h9 p j a b c d
    simp (disch := omega) only [us_n]; exact this
theorem HW.hand {η : Int → Int} (h : HW η) {p k n : Int} (hp : 0 ≤ p ∧ p < η 1) (hk : 0 ≤ k ∧ k < η 0) (hz : ¬ 0 < η (60 + 13 * p + k)) (hn : 1 ≤ n ∧ η (571 + k) + n ≤ 4) : HW (us (us η (571 + k) (η (571 + k) + n)) (60 + 13 * p + k) n) := by
  have g7 := h.h7
  obtain ⟨h0, h1, h2, h3, h4', h5, h6, h7, h8, h9⟩ := h
  have hc : ∀ j, ct (us (us η (571 + k) (η (571 + k) + n)) (60 + 13 * p + k) n) j = ct η j := fun j => by
    rw [ct_us (by omega) (by rw [us_n (by omega)]; exact g7), ct_us (by omega) g7]
  have hb := h8 k hk.1 (by omega)
  have hz0 := h9 p k hp.1 (by omega) hk.1 (by omega)
  refine ⟨?_, ?_, ?_, ?_, fun j q => ?_, ?_, fun i a b => ?_, fun j a b => ?_, fun j a b => ?_, fun q j a b c d => ?_⟩
  · simp (disch := omega) only [us_n]; exact h0
  · simp (disch := omega) only [us_n]; exact h1
  · simp (disch := omega) only [us_n]; exact h2
  · simp (disch := omega) only [us_n]; exact h3
  · simp (disch := omega) only [us_n]; exact h4' j q
  · simp (disch := omega) only [us_n]; exact h5
  · simp (disch := omega) only [us_n] at b
    simp (disch := omega) only [us_n]; exact h6 i a b
  · rw [hc, us_n (show (571 + j : Int) ≠ 60 + 13 * p + k by omega)]
    have := h7 j a b
    by_cases e : j = k
    · subst e
      rw [us_s]
      rw [sm6] at this ⊢
      have hz1 : η (60 + 13 * p + j) = 0 := by omega
      rcases p6 ⟨hp.1, by omega⟩ with rfl | rfl | rfl | rfl | rfl | rfl <;> simp (disch := omega) only [us_n, us_s] <;> omega
    · rw [us_n (by omega), ← this]
      congr 1
      refine sm_congr fun i _ _ => ?_
      rw [us_n (by omega), us_n (by omega)]
  · have := h8 j a b
    rw [us_n (show (571 + j : Int) ≠ 60 + 13 * p + k by omega), us_n (show (0 : Int) ≠ 60 + 13 * p + k by omega), us_n (show (0 : Int) ≠ 571 + k by omega)]
    by_cases e : j = k
    · subst e; rw [us_s]; omega
    · rw [us_n (by omega)]; exact this
  · have := h9 q j a b c d
    rw [us_n (show (1 : Int) ≠ 60 + 13 * p + k by omega), us_n (show (1 : Int) ≠ 571 + k by omega)]
    by_cases e : 60 + 13 * q + j = 60 + 13 * p + k
    · rw [us_e e]; omega
    · rw [us_n e, us_n (by omega)]; exact this
def TSW (s : TS) : Prop := TI s.1 ∧ HW s.2.2.1 ∧ (s.1 20 = 0 → s.2.2.1 0 = 0)
/-- the place has gone on -/
def GO (s s' : TS) : Prop := s.1 4 ≤ s'.1 4 ∧ (s'.1 11 = 1 ∨ s'.1 11 = 2 ∨ s'.1 11 = 3 → s.1 4 < s'.1 4) ∧ s'.1 3 = s.1 3
theorem TSW.nx {τ : Int → Int} {s : TS} (h : TSW s) : TSW (g_nx τ s) := ⟨h.1.nx, h.2.1, by
  intro q
  refine h.2.2 ?_
  rw [← q]
  exact (t_next_f (by omega)).symm⟩
theorem GO.nx {τ : Int → Int} {s : TS} (h : TSW s) : GO s (g_nx τ s) := by
  have q := h.1.go (τ := τ) (w := s.2.1)
  exact ⟨q.1, fun a => q.2.1 (by show (g_nx τ s).1 11 ≠ 0; omega) (by show (g_nx τ s).1 11 ≠ 4; omega), q.2.2⟩
theorem GO.le {a b c : TS} (h : a.1 4 ≤ b.1 4 ∧ b.1 3 = a.1 3) (k : GO b c) : GO a c := ⟨by have := k.1; omega, fun q => by have := k.2.1 q; omega, by rw [k.2.2]; exact h.2⟩
theorem GO.w {a b : TS} (h : GO a b) : a.1 4 ≤ b.1 4 ∧ b.1 3 = a.1 3 := ⟨h.1, h.2.2⟩
theorem TSW.w {s : TS} {j v : Int} (h : TSW s) (hj : 15 ≤ j) (h20 : j = 20 → v = 0 → s.2.2.1 0 = 0) : TSW (g_w j v s) := ⟨h.1.us hj, h.2.1, by
  intro q
  by_cases e : j = 20
  · subst e
    have q : us s.1 20 v 20 = 0 := q
    rw [us_s] at q
    exact h20 rfl q
  · have q : us s.1 j v 20 = 0 := q
    rw [us_n (by omega)] at q
    exact h.2.2 q⟩
theorem g_w_le {s : TS} {j v : Int} (hj : 15 ≤ j) : s.1 4 ≤ (g_w j v s).1 4 ∧ (g_w j v s).1 3 = s.1 3 := by
  show s.1 4 ≤ us s.1 j v 4 ∧ us s.1 j v 3 = s.1 3
  rw [us_n (by omega), us_n (by omega)]
  omega
theorem g_w_s {s : TS} {j v : Int} : (g_w j v s).1 j = v := us_s
theorem g_w_n {s : TS} {i j v : Int} (h : i ≠ j) : (g_w j v s).1 i = s.1 i := us_n h
/-- an answer of a reading method -/
def OKR (s : TS) (r : Int × TS) : Prop := (r.1 = 0 ∨ r.1 = 1) ∧ (r.1 = 1 → TSW r.2 ∧ GO s r.2) ∧ (r.1 = 0 → 0 ≤ r.2.1 16 ∧ r.2.1 16 ≤ 940)
theorem OKR_bad {s s' : TS} {k : Int} (h : TSW s') : OKR s (0, g_bad k s') := ⟨Or.inl rfl, fun q => absurd (show (0 : Int) = 1 from q) (by decide), by
  intro _
  show 0 ≤ us (us s'.1 15 k) 16 (s'.1 12) 16 ∧ us (us s'.1 15 k) 16 (s'.1 12) 16 ≤ 940
  rw [us_s]
  have := h.1
  unfold TI at this
  omega⟩
theorem OKR_nx {τ : Int → Int} {s s' : TS} (h : TSW s') (hl : s.1 4 ≤ s'.1 4 ∧ s'.1 3 = s.1 3) : OKR s (1, g_nx τ s') := ⟨Or.inr rfl, fun _ => ⟨h.nx, GO.le hl (GO.nx h)⟩, fun q => absurd (show (1 : Int) = 0 from q) (by decide)⟩
theorem OKR.le {a b : TS} {r : Int × TS} (h : OKR b r) (hl : a.1 4 ≤ b.1 4 ∧ b.1 3 = a.1 3) : OKR a r := ⟨h.1, fun q => ⟨(h.2.1 q).1, GO.le hl (h.2.1 q).2⟩, h.2.2⟩
theorem le_rfl' {s : TS} : s.1 4 ≤ s.1 4 ∧ s.1 3 = s.1 3 := ⟨by omega, rfl⟩
theorem g_takes_ok {τ : Int → Int} {lo hi : Int} {s : TS} (h : TSW s) : OKR s (g_takes τ lo hi s) := by
  unfold g_takes
  split
  · exact OKR_bad h
  · split
    · exact OKR_bad h
    · exact OKR_nx (h.w (by omega) (by omega)) (g_w_le (by omega))
theorem g_takes_v {τ : Int → Int} {lo hi : Int} {s : TS} (h : (g_takes τ lo hi s).1 ≠ 0) : lo ≤ (g_takes τ lo hi s).2.1 18 ∧ (g_takes τ lo hi s).2.1 18 ≤ hi ∧ (g_takes τ lo hi s).2.2.2.1 = s.2.2.1 ∧ (g_takes τ lo hi s).2.1 20 = s.1 20 := by
  unfold g_takes at h ⊢
  split
  · rename_i q; rw [if_pos q] at h; exact absurd rfl h
  · rename_i q; rw [if_neg q] at h
    split
    · rename_i q; rw [if_pos q] at h; exact absurd rfl h
    · rename_i q2
      have e : (g_nx τ (g_w 18 (s.1 14) s)).1 18 = s.1 14 := (t_next_f (by omega)).trans g_w_s
      have e2 : (g_nx τ (g_w 18 (s.1 14) s)).1 20 = s.1 20 := (t_next_f (by omega)).trans (g_w_n (by omega))
      simp only [e, e2]
      exact ⟨by omega, by omega, rfl, trivial⟩
theorem g_kinds_ok {τ : Int → Int} {s : TS} (h : TSW s) : OKR s (g_kinds τ s) := by
  unfold g_kinds
  split
  · exact OKR_bad h
  · rename_i q
    have w1 : TSW (g_w 20 1 s) := h.w (by omega) (by omega)
    have ok := g_takes_ok (τ := τ) (lo := 2) (hi := 13) (w1.nx (τ := τ))
    have ok := ok.le (GO.w (GO.le (g_w_le (s := s) (j := 20) (v := 1) (by omega)) (GO.nx w1)))
    simp only
    split
    · exact ok
    · rename_i h1
      have tv := g_takes_v h1
      have e1 : (g_takes τ 2 13 (g_nx τ (g_w 20 1 s))).1 = 1 := by have := ok.1; omega
      obtain ⟨⟨o1, o2, o3⟩, o4⟩ := ok.2.1 e1
      generalize g_takes τ 2 13 (g_nx τ (g_w 20 1 s)) = r at *
      have z0 : r.2.2.2.1 0 = 0 := by rw [tv.2.2.1]; exact h.2.2 (by omega)
      refine ⟨Or.inr rfl, fun _ => ⟨⟨o1, o2.kinds ⟨tv.1, tv.2.1⟩ z0, ?_⟩, o4⟩, fun q => absurd (show (1 : Int) = 0 from q) (by decide)⟩
      intro q20
      exfalso
      have q20 : r.2.1 20 = 0 := q20
      have e3 : (g_nx τ (g_w 20 1 s)).1 20 = 1 := (t_next_f (by omega)).trans g_w_s
      rw [tv.2.2.2, e3] at q20
      omega
theorem g_person_ok {τ ρ : Int → Int} {s : TS} (h : TSW s) : OKR s (g_person τ ρ s) := by
  unfold g_person
  split
  · exact OKR_bad h
  · rename_i h6
    have w1 := h.nx (τ := τ)
    have g1 := (GO.nx (τ := τ) h).w
    have e1 : (g_nx τ s).2.2.1 = s.2.2.1 := rfl
    generalize g_nx τ s = t at *
    unfold g_person1
    split
    · exact OKR_bad w1
    · split
      · exact OKR_bad w1
      · refine OKR_nx ⟨w1.1, w1.2.1.small (Or.inl ⟨rfl, by omega, ?_⟩), ?_⟩ g1
        · have := w1.2.1.2.1
          rw [e1]; rw [e1] at this
          omega
        · intro q
          show us t.2.2.1 1 (t.2.2.1 1 + 1) 0 = 0
          rw [us_n (by omega)]
          exact w1.2.2 q
theorem g_hand1_ok {τ ρ : Int → Int} {s : TS} (h : TSW s) : OKR s (g_hand1 τ ρ s) := by
  unfold g_hand1
  split
  · exact OKR_bad h
  · split
    · exact OKR_bad h
    · rename_i hk
      have kr := t_find_r (ν := s.2.2.2) (w := s.2.1) (f := 6) (s.2.2.1 1).toNat 0 (by omega)
      generalize t_find s.2.2.2 s.2.1 6 0 (s.2.2.1 1).toNat = k at *
      have hk1 : 0 ≤ k ∧ k < s.2.2.1 1 := by have := h.2.1.2.1; omega
      have w1 := h.nx (τ := τ)
      have g1 := (GO.nx (τ := τ) h).w
      have e1 : (g_nx τ s).2.2.1 = s.2.2.1 := rfl
      rw [← e1] at hk1
      generalize g_nx τ s = t at *
      unfold g_hand2
      split
      · exact OKR_bad w1
      · rename_i t2
        split
        · exact OKR_bad w1
        · rename_i t3
          split
          · exact OKR_bad w1
          · rename_i t4
            have hn : 0 ≤ t.1 14 ∧ t.1 14 < t.2.2.1 0 := by have := w1.1.2.2.2.2.2.2.2.2 (by omega); omega
            have w2 := w1.nx (τ := τ)
            have g2 := (GO.nx (τ := τ) w1).w
            have e2 : (g_nx τ t).2.2.1 = t.2.2.1 := rfl
            rw [← e2] at hk1 hn t4
            generalize t.1 14 = kind at *
            generalize g_nx τ t = v at *
            unfold g_hand3
            split
            · exact OKR_bad w2
            · split
              · exact OKR_bad w2
              · split
                · exact OKR_bad w2
                · rename_i v2 v3 v4
                  refine OKR_nx ⟨w2.1, w2.2.1.hand hk1 hn t4 (by omega), ?_⟩ ⟨Int.le_trans g1.1 g2.1, g2.2.trans g1.2⟩
                  intro q
                  show us (us v.2.2.1 (571 + kind) (v.2.2.1 (571 + kind) + v.1 14)) (60 + 13 * k + kind) (v.1 14) 0 = 0
                  rw [us_n (by omega), us_n (by omega)]
                  exact w2.2.2 q
theorem g_heap_ok {τ : Int → Int} : ∀ (n : Nat) {s : TS}, TSW s → (s.1 3 - s.1 4 + 2 ≤ n ∨ s.1 11 ≠ 2 ∧ 1 ≤ n) → OKR s (g_heap τ n s) := by
  intro n
  induction n with
  | zero => intro s h q; have := h.1.2.1; omega
  | succ n ih =>
    intro s h q
    unfold g_heap
    split
    · exact OKR_bad h
    · rename_i t2
      split
      · exact OKR_bad h
      · split
        · exact OKR_bad h
        · rename_i t3 t4
          have hn := h.1.2.2.2.2.2.2.2.2 (by omega)
          have h0 := h.2.1.1
          have g7 := h.2.1.h7s (k := s.1 14) (by omega) t4
          have w1 : TSW (g_h 7 (s.2.2.1 7 + 1) (g_h (8 + s.2.2.1 7) (s.1 14) (g_h (571 + s.1 14) (s.2.2.1 (571 + s.1 14) + 1) s))) := ⟨h.1, h.2.1.heap (by omega) t4, fun q => by
            show us (us (us s.2.2.1 (571 + s.1 14) (s.2.2.1 (571 + s.1 14) + 1)) (8 + s.2.2.1 7) (s.1 14)) 7 (s.2.2.1 7 + 1) 0 = 0
            have := h.2.1.h7
            rw [us_n (by omega), us_n (by omega), us_n (by omega)]
            exact h.2.2 q⟩
          have w2 := w1.nx (τ := τ)
          have g1 : GO s (g_nx τ (g_h 7 (s.2.2.1 7 + 1) (g_h (8 + s.2.2.1 7) (s.1 14) (g_h (571 + s.1 14) (s.2.2.1 (571 + s.1 14) + 1) s)))) := ⟨(GO.nx (τ := τ) w1).1, (GO.nx (τ := τ) w1).2.1, (GO.nx (τ := τ) w1).2.2⟩
          simp only
          generalize g_nx τ (g_h 7 (s.2.2.1 7 + 1) (g_h (8 + s.2.2.1 7) (s.1 14) (g_h (571 + s.1 14) (s.2.2.1 (571 + s.1 14) + 1) s))) = t at *
          split
          · exact ⟨Or.inr rfl, fun _ => ⟨w2, g1⟩, fun q => absurd (show (1 : Int) = 0 from q) (by decide)⟩
          · refine (ih w2 ?_).le g1.w
            have a1 := g1.1
            have a2 := g1.2.1
            have a3 := g1.2.2
            have a4 := h.1.2.1
            by_cases e : t.1 11 = 2
            · have := a2 (Or.inr (Or.inl e)); omega
            · omega
theorem g_again_ok {τ : Int → Int} {s : TS} (h : TSW s) : OKR s (g_again τ s) := by
  unfold g_again
  split
  · exact OKR_bad h
  · refine OKR_nx ⟨(h.w (j := 21) (v := 1) (by omega) (by omega)).1, h.2.1.small (Or.inr (Or.inl ⟨rfl, rfl⟩)), ?_⟩ (g_w_le (s := s) (j := 21) (v := 1) (by omega))
    intro q
    show us s.2.2.1 2 1 0 = 0
    rw [us_n (by omega)]
    have q : us s.1 21 1 20 = 0 := q
    rw [us_n (by omega)] at q
    exact h.2.2 q
theorem g_refill_ok {τ : Int → Int} {s : TS} (h : TSW s) : OKR s (g_refill τ s) := by
  unfold g_refill
  split
  · exact OKR_bad h
  · rename_i q
    have w1 : TSW (g_w 22 1 s) := h.w (by omega) (by omega)
    have ok := g_takes_ok (τ := τ) (lo := 0) (hi := 9) (w1.nx (τ := τ))
    have ok := ok.le (GO.w (GO.le (g_w_le (s := s) (j := 22) (v := 1) (by omega)) (GO.nx w1)))
    simp only
    split
    · exact ok
    · rename_i h1
      have tv := g_takes_v h1
      have e1 : (g_takes τ 0 9 (g_nx τ (g_w 22 1 s))).1 = 1 := by have := ok.1; omega
      obtain ⟨⟨o1, o2, o3⟩, o4⟩ := ok.2.1 e1
      generalize g_takes τ 0 9 (g_nx τ (g_w 22 1 s)) = r at *
      refine ⟨Or.inr rfl, fun _ => ⟨⟨o1, o2.small (Or.inr (Or.inr ⟨rfl, tv.1, tv.2.1⟩)), ?_⟩, o4⟩, fun q => absurd (show (1 : Int) = 0 from q) (by decide)⟩
      intro q20
      show us r.2.2.2.1 3 (r.2.1 18) 0 = 0
      rw [us_n (by omega)]
      exact o3 q20
theorem g_line_ok {τ ρ : Int → Int} {s : TS} (h : TSW s) : OKR s (g_line τ ρ s) := by
  have g := (GO.nx (τ := τ) h).w
  unfold g_line
  split
  · exact g_kinds_ok h
  · split
    · exact g_person_ok h
    · split
      · exact (g_hand1_ok h.nx).le g
      · split
        · refine (g_heap_ok _ h.nx ?_).le g
          have := (h.nx (τ := τ)).1
          unfold TI at this
          omega
        · split
          · exact g_again_ok h
          · split
            · exact OKR_bad h
            · exact g_refill_ok h
/-! the count of lines stays while a line is read -/
def K19 (s : TS) (r : Int × TS) : Prop := r.1 ≠ 0 → r.2.1 19 = s.1 19
theorem nx19 {τ : Int → Int} {s : TS} : (g_nx τ s).1 19 = s.1 19 := t_next_f (by omega)
theorem K19_bad {s t : TS} : K19 s (0, t) := fun q => absurd rfl q
theorem K19_nx {τ : Int → Int} {s t : TS} (h : t.1 19 = s.1 19) : K19 s (1, g_nx τ t) := fun _ => nx19.trans h
theorem K19.tr {s t : TS} {r : Int × TS} (h : K19 t r) (e : t.1 19 = s.1 19) : K19 s r := fun q => (h q).trans e
theorem g_takes_19 {τ : Int → Int} {lo hi : Int} {s : TS} : K19 s (g_takes τ lo hi s) := by
  unfold g_takes
  split
  · exact K19_bad
  · split
    · exact K19_bad
    · exact K19_nx (g_w_n (by omega))
theorem g_kinds_19 {τ : Int → Int} {s : TS} : K19 s (g_kinds τ s) := by
  unfold g_kinds
  split
  · exact K19_bad
  · simp only
    have k := g_takes_19 (τ := τ) (lo := 2) (hi := 13) (s := g_nx τ (g_w 20 1 s))
    have k := k.tr (nx19.trans (g_w_n (by omega)))
    split
    · exact k
    · rename_i q
      exact fun _ => k q
theorem g_refill_19 {τ : Int → Int} {s : TS} : K19 s (g_refill τ s) := by
  unfold g_refill
  split
  · exact K19_bad
  · simp only
    have k := g_takes_19 (τ := τ) (lo := 0) (hi := 9) (s := g_nx τ (g_w 22 1 s))
    have k := k.tr (nx19.trans (g_w_n (by omega)))
    split
    · exact k
    · rename_i q
      exact fun _ => k q
theorem g_person_19 {τ ρ : Int → Int} {s : TS} : K19 s (g_person τ ρ s) := by
  unfold g_person
  split
  · exact K19_bad
  · unfold g_person1
    split
    · exact K19_bad
    · split
      · exact K19_bad
      · exact K19_nx (nx19 (τ := τ) (s := s))
theorem g_hand1_19 {τ ρ : Int → Int} {s : TS} : K19 s (g_hand1 τ ρ s) := by
  unfold g_hand1
  split
  · exact K19_bad
  · split
    · exact K19_bad
    · unfold g_hand2
      split
      · exact K19_bad
      · split
        · exact K19_bad
        · split
          · exact K19_bad
          · unfold g_hand3
            split
            · exact K19_bad
            · split
              · exact K19_bad
              · split
                · exact K19_bad
                · exact K19_nx ((nx19 (τ := τ) (s := g_nx τ s)).trans nx19)
theorem g_heap_19 {τ : Int → Int} : ∀ (n : Nat) {s : TS}, K19 s (g_heap τ n s) := by
  intro n
  induction n with
  | zero => intro s; exact K19_bad
  | succ n ih =>
    intro s
    unfold g_heap
    split
    · exact K19_bad
    · split
      · exact K19_bad
      · split
        · exact K19_bad
        · simp only
          split
          · exact K19_nx rfl
          · exact ih.tr nx19
theorem g_line_19 {τ ρ : Int → Int} {s : TS} : K19 s (g_line τ ρ s) := by
  unfold g_line
  split
  · exact g_kinds_19
  · split
    · exact g_person_19
    · split
      · exact g_hand1_19.tr nx19
      · split
        · exact (g_heap_19 _).tr nx19
        · split
          · unfold g_again
            split
            · exact K19_bad
            · exact K19_nx (show (g_w 21 1 s).1 19 = s.1 19 from g_w_n (by omega))
          · split
            · exact K19_bad
            · exact g_refill_19
