/-! ===== plain: deals ===== -/
section DE
theorem cnt_swap {χ : Int → Int} {i j k : Int} {n : Nat} (hi : 0 ≤ i ∧ i < n) (hj : 0 ≤ j ∧ j < n) : sm (fun x => bz (us (us χ i (χ j)) j (χ i) x = k)) n = sm (fun x => bz (χ x = k)) n := by
  have a := sm_upd (f := fun x => bz (χ x = k)) (g := fun x => bz (us χ i (χ j) x = k)) (a := i) (n := n) hi.1 hi.2 (fun x _ _ q => by rw [us_n q])
  have b := sm_upd (f := fun x => bz (us χ i (χ j) x = k)) (g := fun x => bz (us (us χ i (χ j)) j (χ i) x = k)) (a := j) (n := n) hj.1 hj.2 (fun x _ _ q => by rw [us_n q])
  rw [b, a]
  try dsimp only
  rw [us_s, us_s]
  have e : us χ i (χ j) j = χ j := by
    by_cases q : j = i
    · rw [q, us_s]
    · rw [us_n q]
  rw [e]
  omega
theorem shuf_cnt {k : Int} {n : Nat} : ∀ (i : Nat) (x : (Int → Int) × Int), i < n → sm (fun j => bz ((f_shuf i x).1 j = k)) n = sm (fun j => bz (x.1 j = k)) n := by
  intro i
  induction i with
  | zero => intro x _; rfl
  | succ i ih =>
    intro x hi
    unfold f_shuf
    have r := f_dr_r (x := x.2) (n := ((i + 2 : Nat) : Int)) (by omega)
    rw [ih _ (by omega)]
    exact cnt_swap (by omega) (by omega)
theorem shuf_cg {n : Int} : ∀ (i : Nat) (x y : (Int → Int) × Int), (i : Int) < n → x.2 = y.2 → (∀ j, 0 ≤ j → j < n → x.1 j = y.1 j) → (f_shuf i x).2 = (f_shuf i y).2 ∧ ∀ j, 0 ≤ j → j < n → (f_shuf i x).1 j = (f_shuf i y).1 j := by
  intro i
  induction i with
  | zero => intro x y _ h1 h2; exact ⟨h1, h2⟩
  | succ i ih =>
    intro x y hi h1 h2
    unfold f_shuf
    have r := f_dr_r (x := x.2) (n := ((i + 2 : Nat) : Int)) (by omega)
    refine ih _ _ (by omega) (by show f_seed x.2 = f_seed y.2; rw [h1]) (fun j a b => ?_)
    show us (us x.1 ((i + 1 : Nat) : Int) (x.1 (f_dr x.2 ((i + 2 : Nat) : Int)))) (f_dr x.2 ((i + 2 : Nat) : Int)) (x.1 ((i + 1 : Nat) : Int)) j = us (us y.1 ((i + 1 : Nat) : Int) (y.1 (f_dr y.2 ((i + 2 : Nat) : Int)))) (f_dr y.2 ((i + 2 : Nat) : Int)) (y.1 ((i + 1 : Nat) : Int)) j
    rw [← h1]
    unfold us
    rw [h2 (f_dr x.2 ((i + 2 : Nat) : Int)) (by omega) (by omega), h2 ((i + 1 : Nat) : Int) (by omega) (by omega), h2 j a b]
theorem pk_cnt {π : Int → Int} {k : Int} (hk : 0 ≤ k) : ∀ (s : Nat) {m : Int}, 4 * (s : Int) ≤ m → sm (fun j => bz (f_pk0 π m j = k)) (4 * s) = if k < s then 4 else 0 := by
  intro s
  induction s with
  | zero => intro m _; rw [if_neg (by omega)]; rfl
  | succ s ih =>
    intro m hm
    have e : ∀ j : Int, 0 ≤ j → j < 4 * (s : Int) + 4 → f_pk0 π m j = j / 4 := fun j a b => if_pos ⟨a, by omega⟩
    rw [show 4 * (s + 1) = 4 * s + 1 + 1 + 1 + 1 by omega]
    simp only [sm]
    rw [ih (m := m) (by omega), e _ (by omega) (by omega), e _ (by omega) (by omega), e _ (by omega) (by omega), e _ (by omega) (by omega)]
    rw [show ((4 * s + 1 + 1 + 1 : Nat) : Int) / 4 = s by omega, show ((4 * s + 1 + 1 : Nat) : Int) / 4 = s by omega, show ((4 * s + 1 : Nat) : Int) / 4 = s by omega, show ((4 * s : Nat) : Int) / 4 = s by omega]
    by_cases q : (s : Int) = k
    · rw [bz_t q, if_neg (by omega), if_pos (by omega)]; rfl
    · rw [bz_f q]
      by_cases r : k < s
      · rw [if_pos r, if_pos (by omega)]; rfl
      · rw [if_neg r, if_neg (by omega)]; rfl
/-- how many of a kind are among somebody's cards -/
def hcn (χ : Int → Int) (n i q c : Int) : Int := sm (fun j => bz (j / n = q ∧ χ j = c)) i.toNat
theorem hcn_r {χ : Int → Int} {n i q c : Int} : 0 ≤ hcn χ n i q c ∧ hcn χ n i q c ≤ i.toNat := by
  have := sm_bd (f := fun j => bz (j / n = q ∧ χ j = c)) (a := 0) (b := 1) (n := i.toNat) (fun _ _ _ => bz_r)
  unfold hcn
  omega
theorem hcn_s {χ : Int → Int} {n i q c : Int} (h : 0 ≤ i) : hcn χ n (i + 1) q c = hcn χ n i q c + bz (i / n = q ∧ χ i = c) := (sm_succ (f := fun j => bz (j / n = q ∧ χ j = c)) h).symm
theorem hcn_cg {χ χ' : Int → Int} {n i q c : Int} (h : ∀ j, 0 ≤ j → j < i → χ j = χ' j) : hcn χ n i q c = hcn χ' n i q c := sm_congr (fun j a b => by rw [h j a (by omega)])
/-- the first i cards are dealt: n each to σ 1 persons, the others lie in the heap -/
def DT (χ b τ : Int → Int) (n N i : Int) : Prop := (∀ j, j < 7 ∨ 138 ≤ j → τ j = b j) ∧ (∀ q c, 0 ≤ q → q < 6 → 0 ≤ c → c < 13 → τ (60 + 13 * q + c) = hcn χ n (if i < N then i else N) q c) ∧ τ 7 = (if i < N then 0 else i - N) ∧ (∀ j, 0 ≤ j → j < i - N → τ (8 + j) = χ (N + j))
theorem ediv_pn {p k n : Int} (hk : 0 ≤ k) (hn : k < n) : (p * n + k) / n = p := by
  rw [Int.add_comm, Int.add_mul_ediv_right _ _ (by omega), Int.ediv_eq_zero_of_lt hk hn]
  omega
theorem DT.step {χ b τ : Int → Int} {n N i : Int} (h : DT χ b τ n N i) (hi : 0 ≤ i ∧ i < 52) (hn : 0 < n) (h1 : τ 1 * n = N) (hN : 0 ≤ N ∧ N ≤ 52) (hs : 0 ≤ τ 1 ∧ τ 1 ≤ 6) (hc : 0 ≤ χ i ∧ χ i < 13) : DT χ b (f_dl1 χ n τ i) n N (i + 1) := by
  obtain ⟨a1, a2, a3, a4⟩ := h
  unfold f_dl1
  rw [show n * τ 1 = N by rw [Int.mul_comm]; exact h1]
  by_cases c : i < N
  · rw [if_pos c]
    have q0 : 0 ≤ i / n := Int.ediv_nonneg hi.1 (by omega)
    have q1 : i / n < τ 1 := by
      have : i < n * τ 1 := by rw [Int.mul_comm, h1]; exact c
      exact Int.ediv_lt_of_lt_mul hn (by rw [Int.mul_comm]; exact this)
    unfold f_hand
    refine ⟨fun j q => by rw [us_n (by omega)]; exact a1 j q, fun q e x y u w => ?_, by rw [us_n (by omega), a3, if_pos c]; split <;> omega, fun j x y => by omega⟩
    have er := hcn_r (χ := χ) (n := n) (i := i) (q := i / n) (c := χ i)
    have e9 : (if i + 1 < N then i + 1 else N) = i + 1 := by split <;> omega
    rw [e9, hcn_s hi.1]
    by_cases g : q = i / n ∧ e = χ i
    · obtain ⟨rfl, rfl⟩ := g
      rw [us_s, a2 _ _ x y u w, if_pos c, bz_t ⟨rfl, rfl⟩, wr_id (by omega)]
    · rw [us_n (by omega), a2 q e x y u w, if_pos c, bz_f (fun r => g ⟨r.1.symm, r.2.symm⟩)]; omega
  · rw [if_neg c]
    rw [if_neg c] at a3
    refine ⟨fun j q => by rw [us_n (by omega), us_n (by omega)]; exact a1 j q, fun q e x y u w => ?_, by rw [us_s, if_neg (by omega)]; omega, fun j x y => ?_⟩
    · rw [us_n (by omega), us_n (by omega), a2 q e x y u w, if_neg c, if_neg (by omega)]
    · rw [us_n (by omega)]
      by_cases g : j = τ 7
      · rw [g, us_s]; congr 1; omega
      · rw [us_n (by omega)]; exact a4 j x (by omega)
theorem DT.dl {χ b : Int → Int} {n N : Int} (hn : 0 < n) (hN : 0 ≤ N ∧ N ≤ 52) (h1 : b 1 * n = N) (hs : 0 ≤ b 1 ∧ b 1 ≤ 6) : ∀ (m : Nat) (i : Int) {τ : Int → Int}, DT χ b τ n N i → 0 ≤ i → i + m ≤ 52 → (∀ j, 0 ≤ j → j < i + m → 0 ≤ χ j ∧ χ j < 13) → DT χ b (f_dl χ n m i τ) n N (i + m) := by
  intro m
  induction m with
  | zero => intro i τ h _ _ _; rw [show i + ((0 : Nat) : Int) = i by omega]; exact h
  | succ m ih =>
    intro i τ h h0 hm hc
    have e1 := h.1 1 (by omega)
    have := ih (i + 1) (h.step ⟨h0, by omega⟩ hn (by rw [e1]; exact h1) hN (by rw [e1]; exact hs) (hc i h0 (by omega))) (by omega) (by omega) (fun j x y => hc j x (by omega))
    rw [show i + 1 + (m : Int) = i + ((m + 1 : Nat) : Int) by omega] at this
    exact this
theorem hcn_sum {χ : Int → Int} {n q : Int} : ∀ (m : Nat), (∀ j : Int, 0 ≤ j → j < m → 0 ≤ χ j ∧ χ j < 13) → sm (fun c => sm (fun j => bz (j / n = q ∧ χ j = c)) m) 13 = sm (fun j => bz (j / n = q)) m := by
  intro m
  induction m with
  | zero => intro _; exact sm_0 13
  | succ m ih =>
    intro h
    simp only [sm]
    have e := sm_add (f := fun c => sm (fun j => bz (j / n = q ∧ χ j = c)) m) (g := fun c => bz ((m : Int) / n = q ∧ χ (m : Int) = c)) 13
    have e2 : sm (fun c => bz ((m : Int) / n = q ∧ χ (m : Int) = c)) 13 = bz ((m : Int) / n = q) := by
      by_cases c : (m : Int) / n = q
      · rw [bz_t c, ← sm_one (h m (by omega) (by omega))]
        exact sm_congr (fun i _ _ => by
          by_cases r : χ (m : Int) = i
          · rw [bz_t r, bz_t ⟨c, r⟩]
          · rw [bz_f r, bz_f (fun w => r w.2)])
      · rw [bz_f c, sm_congr (f := fun c => bz ((m : Int) / n = q ∧ χ (m : Int) = c)) (g := fun _ => 0) (fun i _ _ => bz_f (fun w => c w.1))]
        exact sm_0 13
    rw [ih (fun j a b => h j a (by omega)), e2] at e
    simp only [sm] at e ⊢
    omega
theorem div_cnt {n q : Int} (hn : 0 < n) (hq : 0 ≤ q) : ∀ (s : Nat), sm (fun j => bz (j / n = q)) ((s : Int) * n).toNat = if q < s then n else 0 := by
  intro s
  induction s with
  | zero => rw [if_neg (by omega)]; simp [sm]
  | succ s ih =>
    have key : ∀ (k : Nat), (k : Int) ≤ n → sm (fun j => bz (j / n = q)) ((s : Int) * n + k).toNat = sm (fun j => bz (j / n = q)) ((s : Int) * n).toNat + k * bz ((s : Int) = q) := by
      intro k
      induction k with
      | zero => intro _; simp
      | succ k ik =>
        intro hk
        have h0 : 0 ≤ (s : Int) * n := Int.mul_nonneg (by omega) (by omega)
        have e := sm_succ (f := fun j => bz (j / n = q)) (i := (s : Int) * n + k) (by omega)
        rw [show (s : Int) * n + ((k + 1 : Nat) : Int) = (s : Int) * n + k + 1 by omega, ← e, ik (by omega)]
        try dsimp only
        rw [ediv_pn (by omega) (by omega)]
        rw [show ((k + 1 : Nat) : Int) = (k : Int) + 1 by omega, Int.add_mul]
        omega
    have k9 := key n.toNat (by omega)
    rw [Int.toNat_of_nonneg (by omega)] at k9
    rw [show ((s + 1 : Nat) : Int) * n = (s : Int) * n + n by rw [show ((s + 1 : Nat) : Int) = (s : Int) + 1 by omega, Int.add_mul]; omega, k9, ih]
    by_cases c : (s : Int) = q
    · rw [bz_t c, if_neg (by omega), if_pos (by omega)]; omega
    · rw [bz_f c]
      by_cases r : q < s
      · rw [if_pos r, if_pos (by omega)]; omega
      · rw [if_neg r, if_neg (by omega)]; omega
/-- hands and heap together are the pack -/
theorem hand_sum {χ : Int → Int} {n : Int} {c : Int} : ∀ (m : Nat), (∀ j : Int, 0 ≤ j → j < m → 0 ≤ j / n ∧ j / n < 6) → sm (fun q => sm (fun j => bz (j / n = q ∧ χ j = c)) m) 6 = sm (fun j => bz (χ j = c)) m := by
  intro m
  induction m with
  | zero => intro _; exact sm_0 6
  | succ m ih =>
    intro h
    simp only [sm]
    have e := sm_add (f := fun q => sm (fun j => bz (j / n = q ∧ χ j = c)) m) (g := fun q => bz ((m : Int) / n = q ∧ χ (m : Int) = c)) 6
    have hm := h m (by omega) (by omega)
    have e2 : sm (fun q => bz ((m : Int) / n = q ∧ χ (m : Int) = c)) 6 = bz (χ (m : Int) = c) := by
      by_cases r : χ (m : Int) = c
      · rw [bz_t r, sm_congr (f := fun q => bz ((m : Int) / n = q ∧ χ (m : Int) = c)) (g := fun q => bz ((m : Int) / n = q)) (fun i _ _ => by
          by_cases w : (m : Int) / n = i
          · rw [bz_t w, bz_t ⟨w, r⟩]
          · rw [bz_f w, bz_f (fun v => w v.1)])]
        generalize (m : Int) / n = d at hm
        rcases p6 hm with rfl | rfl | rfl | rfl | rfl | rfl <;> decide
      · rw [bz_f r, sm_congr (f := fun q => bz ((m : Int) / n = q ∧ χ (m : Int) = c)) (g := fun _ => 0) (fun i _ _ => bz_f (fun w => r w.2))]
        exact sm_0 6
    rw [ih (fun j a b => h j a (by omega)), e2] at e
    simp only [sm] at e ⊢
    omega
theorem sm_app {f : Int → Int} : ∀ (n m : Nat), sm f (n + m) = sm f n + sm (fun j => f ((n : Int) + j)) m := by
  intro n m
  induction m with
  | zero => simp [sm]
  | succ m ih =>
    have e : sm f (n + (m + 1)) = sm f (n + m) + f ((n + m : Nat) : Int) := rfl
    rw [e, ih]
    simp only [sm]
    rw [show ((n + m : Nat) : Int) = (n : Int) + m by omega]
    omega
theorem deal0_v {σ : Int → Int} {j : Int} : f_deal0 σ j = if 571 ≤ j ∧ j < 571 + σ 0 then 4 else if 4 ≤ j ∧ j < 584 then 0 else σ j := rfl
theorem shuffled_r {π σ : Int → Int} {sd : Int} (h0 : 1 ≤ σ 0 ∧ σ 0 ≤ 13) : ∀ j, 0 ≤ j → j < 4 * σ 0 → 0 ≤ (f_shuffled π σ sd).1 j ∧ (f_shuffled π σ sd).1 j < σ 0 := by
  unfold f_shuffled
  exact f_shuf_r _ _ (by omega) (fun j a b => by show 0 ≤ f_pk0 π (4 * σ 0) j ∧ f_pk0 π (4 * σ 0) j < σ 0; unfold f_pk0; rw [if_pos ⟨a, b⟩]; omega)
theorem dealt_DT {π σ : Int → Int} {n sd : Int} (h0 : 1 ≤ σ 0 ∧ σ 0 ≤ 13) (h1 : 1 ≤ σ 1 ∧ σ 1 ≤ 6) (hn : 1 ≤ n) (hm : n * σ 1 ≤ 4 * σ 0) : DT (f_shuffled π σ sd).1 (f_deal0 σ) (f_dealt π σ n sd) n (σ 1 * n) (4 * σ 0) := by
  have hN : 0 ≤ σ 1 * n := Int.mul_nonneg (by omega) (by omega)
  have hN2 : σ 1 * n ≤ 4 * σ 0 := by rw [Int.mul_comm]; exact hm
  have e1 : f_deal0 σ 1 = σ 1 := by rw [deal0_v, if_neg (by omega), if_neg (by omega)]
  have z : ∀ j, 7 ≤ j → j < 571 → f_deal0 σ j = 0 := fun j a b => by rw [deal0_v, if_neg (by omega), if_pos (by omega)]
  have r := DT.dl (χ := (f_shuffled π σ sd).1) (b := f_deal0 σ) (n := n) (N := σ 1 * n) (by omega) (by omega) (by rw [e1]) (by omega) (4 * σ 0).toNat 0 (τ := f_deal0 σ) ⟨fun _ _ => rfl, fun q c x y u w => ?_, ?_, fun j x y => by omega⟩ (by omega) (by omega) (fun j a b => by have := shuffled_r (π := π) (sd := sd) h0 j a (by omega); omega)
  · rw [show (0 : Int) + ((4 * σ 0).toNat : Nat) = 4 * σ 0 by omega] at r
    exact r
  · rw [z _ (by omega) (by omega)]
    by_cases g : 0 < σ 1 * n
    · rw [if_pos g]; rfl
    · rw [if_neg g, show σ 1 * n = 0 by omega]; rfl
  · rw [z 7 (by omega) (by omega)]; split <;> omega
theorem DT.hw {π σ τ : Int → Int} {n sd : Int} (hcv : (0 ≤ σ 1 ∧ σ 1 ≤ 6) ∧ (σ 2 = 0 ∨ σ 2 = 1) ∧ 0 ≤ σ 3 ∧ σ 3 ≤ 9) (h0 : 1 ≤ σ 0 ∧ σ 0 ≤ 13) (h1 : 1 ≤ σ 1 ∧ σ 1 ≤ 6) (hn : 1 ≤ n) (hm : n * σ 1 ≤ 4 * σ 0) (h : DT (f_shuffled π σ sd).1 (f_deal0 σ) τ n (σ 1 * n) (4 * σ 0)) : HW τ := by
  obtain ⟨a1, a2, a3, a4⟩ := h
  have hN : 0 ≤ σ 1 * n := Int.mul_nonneg (by omega) (by omega)
  have hN2 : σ 1 * n ≤ 4 * σ 0 := by rw [Int.mul_comm]; exact hm
  have sr := shuffled_r (π := π) (σ := σ) (sd := sd) h0
  have b : ∀ j, (0 ≤ j ∧ j < 4) → τ j = σ j := fun j q => by rw [a1 j (by omega), deal0_v, if_neg (by omega), if_neg (by omega)]
  have e9 : (if 4 * σ 0 < σ 1 * n then 4 * σ 0 else σ 1 * n) = σ 1 * n := by split <;> omega
  rw [if_neg (by omega)] at a3
  have cards : ∀ k, 0 ≤ k → k < 13 → τ (571 + k) = if k < σ 0 then 4 else 0 := fun k x y => by
    rw [a1 _ (by omega), deal0_v]
    by_cases g : k < σ 0
    · rw [if_pos (by omega), if_pos g]
    · rw [if_neg (by omega), if_pos (by omega), if_neg g]
  have dv : ∀ j, 0 ≤ j → j < σ 1 * n → 0 ≤ j / n ∧ j / n < σ 1 := fun j x y => ⟨Int.ediv_nonneg x (by omega), Int.ediv_lt_of_lt_mul (by omega) y⟩
  refine ⟨by rw [b 0 (by omega)]; omega, by rw [b 1 (by omega)]; exact hcv.1, by rw [b 2 (by omega)]; exact hcv.2.1, by rw [b 3 (by omega)]; exact hcv.2.2, fun j q => ?_, by rw [a3]; omega, fun i x y => ?_, fun k x y => ?_, fun k x y => ?_, fun p k x y u w => ?_⟩
  · rw [a1 j (by omega), deal0_v, if_neg (by omega), if_pos (by omega)]
  · rw [a4 i x (by omega), b 0 (by omega)]; exact sr _ (by omega) (by omega)
  · have hs : sm (fun p => τ (60 + 13 * p + k)) 6 = sm (fun j => bz ((f_shuffled π σ sd).1 j = k)) (σ 1 * n).toNat := by
      rw [← hand_sum (χ := (f_shuffled π σ sd).1) (n := n) (c := k) (σ 1 * n).toNat (fun j p q => by have := dv j p (by omega); omega)]
      exact sm_congr (fun q p r => by rw [a2 q k p (by omega) x y, e9]; rfl)
    have hct : ct τ k = sm (fun j => bz ((f_shuffled π σ sd).1 ((((σ 1 * n).toNat : Nat) : Int) + j) = k)) (4 * σ 0 - σ 1 * n).toNat := by
      unfold ct
      rw [a3]
      exact sm_congr (fun j p q => by rw [a4 j p (by omega), Int.toNat_of_nonneg hN])
    rw [hs, hct, ← sm_app (f := fun j => bz ((f_shuffled π σ sd).1 j = k)), show (σ 1 * n).toNat + (4 * σ 0 - σ 1 * n).toNat = 4 * (σ 0).toNat by omega, cards k x y]
    unfold f_shuffled
    rw [shuf_cnt _ _ (by omega)]
    show sm (fun j => bz (f_pk0 π (4 * σ 0) j = k)) (4 * (σ 0).toNat) = _
    rw [pk_cnt x (σ 0).toNat (by omega)]
    by_cases g : k < σ 0
    · rw [if_pos (by omega), if_pos g]
    · rw [if_neg (by omega), if_neg g]
  · rw [cards k x y, b 0 (by omega)]; split <;> omega
  · rw [a2 p k x y u w, e9]
    refine ⟨hcn_r.1, fun q => ?_⟩
    rw [b 1 (by omega)] at q
    unfold hcn
    exact sm_z (fun j r s => bz_f (fun v => by have := dv j r (by omega); omega))
/-- everybody has as many -/
theorem DT.cards {π σ τ : Int → Int} {n sd : Int} (h0 : 1 ≤ σ 0 ∧ σ 0 ≤ 13) (h1 : 1 ≤ σ 1 ∧ σ 1 ≤ 6) (hn : 1 ≤ n) (hm : n * σ 1 ≤ 4 * σ 0) (h : DT (f_shuffled π σ sd).1 (f_deal0 σ) τ n (σ 1 * n) (4 * σ 0)) {p : Int} (hp : 0 ≤ p ∧ p < 6) : f_cards τ p = if p < σ 1 then n else 0 := by
  obtain ⟨a1, a2, a3, a4⟩ := h
  have hN : 0 ≤ σ 1 * n := Int.mul_nonneg (by omega) (by omega)
  have hN2 : σ 1 * n ≤ 4 * σ 0 := by rw [Int.mul_comm]; exact hm
  have sr := shuffled_r (π := π) (σ := σ) (sd := sd) h0
  have e9 : (if 4 * σ 0 < σ 1 * n then 4 * σ 0 else σ 1 * n) = σ 1 * n := by split <;> omega
  have e : sm (fun k => τ (60 + 13 * p + k)) 13 = sm (fun c => sm (fun j => bz (j / n = p ∧ (f_shuffled π σ sd).1 j = c)) (σ 1 * n).toNat) 13 := sm_congr (fun k x y => by rw [a2 p k hp.1 hp.2 x (by omega), e9]; rfl)
  have d := div_cnt (n := n) (q := p) (by omega) hp.1 (σ 1).toNat
  rw [show (((σ 1).toNat : Nat) : Int) = σ 1 by omega] at d
  have hnn : n ≤ 52 := by
    have : 1 * n ≤ σ 1 * n := Int.mul_le_mul_of_nonneg_right h1.1 (by omega)
    omega
  unfold f_cards
  rw [e, hcn_sum _ (fun j x y => by have := sr j x (by omega); omega), d]
  split
  · exact wr_id (by omega)
  · exact wr_id (by omega)
end DE
