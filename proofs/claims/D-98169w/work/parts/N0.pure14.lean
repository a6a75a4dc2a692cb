/-! ===== ways: in how many ways others can be cards ===== -/
section WY
variable {κ sc r u v w : Int → Int} {n : Nat} {m : Int}
/-- of what is summed up, only n places count -/
def HC (n : Nat) (h : (Int → Int) → Int) : Prop := ∀ v w : Int → Int, (∀ i : Int, 0 ≤ i → i < n → v i = w i) → h v = h w
/-- one card more -/
def hcd (κ : Int → Int) (n : Nat) (m : Int) (h : (Int → Int) → Int) : (Int → Int) → Int := fun v => sm (fun i => if 0 < v i ∧ ¬ tb m (κ i) then v i * h (us v i (v i - 1)) else 0) n
/-- all of them, by what they can't be -/
def TW (κ : Int → Int) (n : Nat) : List Int → ((Int → Int) → Int) → (Int → Int) → Int
  | [], h => h
  | m :: L, h => hcd κ n m (TW κ n L h)
theorem TW_app {h : (Int → Int) → Int} : ∀ L : List Int, TW κ n (L ++ [m]) h = TW κ n L (hcd κ n m h) := by
  intro L
  induction L with
  | nil => rfl
  | cons a L ih => show hcd κ n a (TW κ n (L ++ [m]) h) = _; rw [ih]; rfl
theorem HC.up1 {h : (Int → Int) → Int} (hh : HC n h) : HC n (hcd κ n m h) := fun v w e => by
  unfold hcd
  refine sm_congr (fun i a b => ?_)
  rw [e i a b]
  have : h (us v i (w i - 1)) = h (us w i (w i - 1)) := hh _ _ (fun j x y => by
    unfold us
    split
    · rfl
    · exact e j x y)
  rw [this]
theorem hcd_r {h : (Int → Int) → Int} {B : Int} (hb : ∀ v, (∀ i : Int, 0 ≤ i → i < n → v i ≤ 4) → 0 ≤ h v ∧ h v ≤ B) (hn : n ≤ 6) (hv : ∀ i : Int, 0 ≤ i → i < n → v i ≤ 4) : 0 ≤ hcd κ n m h v ∧ hcd κ n m h v ≤ 24 * B := by
  have b0 := hb v hv
  have s := sm_bd (f := fun i => if 0 < v i ∧ ¬ tb m (κ i) then v i * h (us v i (v i - 1)) else 0) (a := 0) (b := 4 * B) (n := n) (fun i x y => by
    split
    · rename_i c
      have e := hv i x y
      have g := hb (us v i (v i - 1)) (fun j a b => by
        unfold us
        split
        · omega
        · exact hv j a b)
      refine ⟨Int.mul_nonneg (by omega) g.1, ?_⟩
      exact Int.le_trans (Int.mul_le_mul_of_nonneg_right e g.1) (Int.mul_le_mul_of_nonneg_left g.2 (by omega))
    · omega)
  unfold hcd
  refine ⟨by have := s.1; omega, Int.le_trans s.2 ?_⟩
  have hn' : (n : Int) ≤ 6 := by omega
  have h9 : 4 * B * (n : Int) ≤ 4 * B * 6 := Int.mul_le_mul_of_nonneg_left hn' (by omega)
  omega
theorem TW_r (hn : n ≤ 6) : ∀ (L : List Int) {h : (Int → Int) → Int} {B : Int}, (∀ v, (∀ i : Int, 0 ≤ i → i < n → v i ≤ 4) → 0 ≤ h v ∧ h v ≤ B) → ∀ v, (∀ i : Int, 0 ≤ i → i < n → v i ≤ 4) → 0 ≤ TW κ n L h v ∧ TW κ n L h v ≤ 24 ^ L.length * B := by
  intro L
  induction L with
  | nil =>
    intro h B hb v hv
    have := hb v hv
    show 0 ≤ h v ∧ h v ≤ 24 ^ 0 * B
    omega
  | cons a L ih =>
    intro h B hb v hv
    have := hcd_r (κ := κ) (m := a) (h := TW κ n L h) (B := 24 ^ L.length * B) (ih hb) hn hv
    show 0 ≤ hcd κ n a (TW κ n L h) v ∧ hcd κ n a (TW κ n L h) v ≤ 24 ^ (L.length + 1) * B
    rw [Int.pow_succ, Int.mul_comm (24 ^ L.length) 24, Int.mul_assoc]
    exact this
/-- digits -/
def dg (sc r : Int → Int) (s i : Int) : Int := s / sc i % r i
def vs (sc r u : Int → Int) (s : Int) : Int → Int := fun i => u i - dg sc r s i
/-- steps by radices -/
def RX (sc r u : Int → Int) (n : Nat) : Prop := sc 0 = 1 ∧ (∀ i : Int, 0 ≤ i → i < n → sc (i + 1) = sc i * r i ∧ 0 < r i ∧ 0 ≤ u i ∧ u i < r i)
theorem RX.pos (h : RX sc r u n) : ∀ k : Nat, k ≤ n → 0 < sc k := by
  intro k
  induction k with
  | zero => intro _; have := h.1; show 0 < sc 0; omega
  | succ k ih =>
    intro hk
    obtain ⟨a, b, _, _⟩ := h.2 k (by omega) (by omega)
    have : sc ((k + 1 : Nat) : Int) = sc k * r k := a
    rw [this]
    exact Int.mul_pos (ih (by omega)) b
theorem RX.dvd (h : RX sc r u n) {i : Nat} : ∀ d : Nat, i + 1 + d ≤ n → ∃ M, sc ((i + 1 + d : Nat) : Int) = sc i * r i * M := by
  intro d
  induction d with
  | zero => intro hd; exact ⟨1, by rw [Int.mul_one]; exact (h.2 i (by omega) (by omega)).1⟩
  | succ d ih =>
    intro hd
    obtain ⟨M, e⟩ := ih (by omega)
    obtain ⟨a, _⟩ := h.2 ((i + 1 + d : Nat) : Int) (by omega) (by omega)
    refine ⟨M * r ((i + 1 + d : Nat) : Int), ?_⟩
    have : ((i + 1 + (d + 1) : Nat) : Int) = ((i + 1 + d : Nat) : Int) + 1 := by omega
    rw [this, a, e, Int.mul_assoc]
theorem dg_z (h : RX sc r u n) {i : Int} : dg sc r 0 i = 0 := by unfold dg; rw [Int.zero_ediv]; exact Int.zero_emod _
/-- one more of a kind -/
theorem dg_s (h : RX sc r u n) {s : Int} (s0 : 0 ≤ s) {i j : Nat} (hi : i < n) (hj : j < n) (hd : dg sc r s i + 1 < r i) : dg sc r (s + sc i) j = if j = i then dg sc r s i + 1 else dg sc r s j := by
  have pi := h.pos i (by omega)
  have pj := h.pos j (by omega)
  obtain ⟨ei, ri, _, _⟩ := h.2 i (by omega) (by omega)
  obtain ⟨ej, rj, _, _⟩ := h.2 j (by omega) (by omega)
  unfold dg at hd ⊢
  by_cases e : j = i
  · subst e
    rw [if_pos rfl]
    have a1 : (s + sc j) / sc j = s / sc j + 1 := by
      have := Int.add_mul_ediv_right s 1 (show sc j ≠ 0 by omega)
      rw [Int.one_mul] at this
      exact this
    rw [a1]
    have m0 := Int.emod_nonneg (s / sc j) (show r j ≠ 0 by omega)
    rw [Int.add_emod, show (1 : Int) % r j = 1 from Int.emod_eq_of_lt (by omega) (by omega)]
    exact Int.emod_eq_of_lt (by omega) hd
  · rw [if_neg e]
    by_cases lt : j < i
    · obtain ⟨M, eM⟩ := h.dvd (i := j) (i - j - 1) (by omega)
      rw [show j + 1 + (i - j - 1) = i by omega] at eM
      rw [eM, show s + sc j * r j * M = s + r j * M * sc j by rw [Int.mul_comm (r j * M), Int.mul_assoc], Int.add_mul_ediv_right _ _ (by omega)]
      rw [Int.add_mul_emod_self_left]
    · obtain ⟨M, eM⟩ : ∃ M, sc j = sc i * r i * M := by
        obtain ⟨M, eM⟩ := h.dvd (i := i) (j - i - 1) (by omega)
        rw [show i + 1 + (j - i - 1) = j by omega] at eM
        exact ⟨M, eM⟩
      have pr : 0 < sc i * r i := Int.mul_pos pi ri
      have key : (s + sc i) / (sc i * r i) = s / (sc i * r i) := by
        rw [← Int.ediv_ediv_of_nonneg (by omega), ← Int.ediv_ediv_of_nonneg (by omega)]
        have a1 : (s + sc i) / sc i = s / sc i + 1 := by
          have := Int.add_mul_ediv_right s 1 (show sc i ≠ 0 by omega)
          rw [Int.one_mul] at this
          exact this
        rw [a1]
        generalize s / sc i = y at hd
        have m0 := Int.emod_nonneg y (show r i ≠ 0 by omega)
        have e1 := Int.emod_def y (r i)
        have : y + 1 = (y % r i + 1) + y / r i * r i := by rw [Int.mul_comm (y / r i)]; omega
        rw [this, Int.add_mul_ediv_right _ _ (by omega), Int.ediv_eq_zero_of_lt (by omega) hd]
        omega
      have d1 : ∀ x : Int, x / (sc i * r i * M) = x / (sc i * r i) / M := fun x => (Int.ediv_ediv_of_nonneg (Int.le_of_lt pr)).symm
      rw [eM, d1, d1, key]
theorem st_lt (h : RX sc r u n) {s : Int} (s0 : 0 ≤ s) {i : Nat} (hi : i < n) (hs : s < sc n) (hd : dg sc r s i + 1 < r i) : s + sc i < sc n := by
  have pi := h.pos i (by omega)
  obtain ⟨ei, ri, _, _⟩ := h.2 i (by omega) (by omega)
  obtain ⟨M, eM⟩ := h.dvd (i := i) (n - i - 1) (by omega)
  rw [show i + 1 + (n - i - 1) = n by omega] at eM
  unfold dg at hd
  have pr : 0 < sc i * r i := Int.mul_pos pi ri
  have key : (s + sc i) / (sc i * r i) = s / (sc i * r i) := by
    rw [← Int.ediv_ediv_of_nonneg (by omega), ← Int.ediv_ediv_of_nonneg (by omega)]
    have a1 : (s + sc i) / sc i = s / sc i + 1 := by
      have := Int.add_mul_ediv_right s 1 (show sc i ≠ 0 by omega)
      rw [Int.one_mul] at this
      exact this
    rw [a1]
    generalize s / sc i = y at hd
    have m0 := Int.emod_nonneg y (show r i ≠ 0 by omega)
    have e1 := Int.emod_def y (r i)
    have : y + 1 = (y % r i + 1) + y / r i * r i := by rw [Int.mul_comm (y / r i)]; omega
    rw [this, Int.add_mul_ediv_right _ _ (by omega), Int.ediv_eq_zero_of_lt (by omega) hd]
    omega
  rw [eM] at hs ⊢
  have l1 : s / (sc i * r i) < M := Int.ediv_lt_of_lt_mul pr (by rw [Int.mul_comm]; exact hs)
  rw [← key] at l1
  have := Int.lt_mul_of_ediv_lt pr l1
  rw [Int.mul_comm] at this
  exact this
theorem vs_s (h : RX sc r u n) {s : Int} (s0 : 0 ≤ s) {i : Int} (i0 : 0 ≤ i) (hi : i < n) (hv : 0 < vs sc r u s i) : ∀ j : Int, 0 ≤ j → j < n → vs sc r u (s + sc i) j = us (vs sc r u s) i (vs sc r u s i - 1) j := fun j j0 j1 => by
  obtain ⟨_, _, u0, u1⟩ := h.2 i i0 hi
  unfold vs at hv ⊢
  have := dg_s h s0 (i := i.toNat) (j := j.toNat) (by omega) (by omega) (by rw [show ((i.toNat : Nat) : Int) = i by omega]; omega)
  rw [show ((i.toNat : Nat) : Int) = i by omega, show ((j.toNat : Nat) : Int) = j by omega] at this
  rw [this]
  unfold us
  by_cases e : j = i
  · subst e
    rw [if_pos rfl, if_pos rfl]
    omega
  · rw [if_neg (by omega), if_neg e]
/-- the row says in how many ways they come to each -/
def WY (κ sc r u : Int → Int) (n : Nat) (S : Nat) (f : Int → Int) (L : List Int) : Prop := (∀ s : Int, 0 ≤ s → s < S → 0 ≤ f s) ∧ ∀ h, HC n h → sm (fun s => f s * h (vs sc r u s)) S = TW κ n L h u
/-- a row made of another one by one card more -/
def NX (κ sc r u : Int → Int) (n : Nat) (S : Nat) (m : Int) (f f' : Int → Int) : Prop := (∀ s : Int, 0 ≤ s → s < S → 0 ≤ f' s) ∧ ∀ g : Int → Int, sm (fun s => f' s * g s) S = sm (fun s => f s * sm (fun i => if 0 < vs sc r u s i ∧ ¬ tb m (κ i) then vs sc r u s i * g (s + sc i) else 0) n) S
theorem WY.step {S : Nat} {f f' : Int → Int} {L : List Int} (h : RX sc r u n) (hw : WY κ sc r u n S f L) (hx : NX κ sc r u n S m f f') : WY κ sc r u n S f' (L ++ [m]) := by
  refine ⟨hx.1, fun g hg => ?_⟩
  rw [hx.2 (fun s => g (vs sc r u s)), TW_app, ← hw.2 _ hg.up1]
  refine sm_congr (fun s a b => ?_)
  congr 1
  unfold hcd
  refine sm_congr (fun i c d => ?_)
  by_cases e : 0 < vs sc r u s i ∧ ¬ tb m (κ i)
  · rw [if_pos e, if_pos e]
    congr 1
    exact hg _ _ (vs_s h a c d e.1)
  · rw [if_neg e, if_neg e]
theorem WY.start {S : Nat} (h : RX sc r u n) (hS : 0 < S) {f : Int → Int} (h0 : f 0 = 1) (hf : ∀ s : Int, 0 < s → s < S → f s = 0) : WY κ sc r u n S f [] := by
  refine ⟨fun s a b => ?_, fun g hg => ?_⟩
  · by_cases e : s = 0
    · subst e; omega
    · rw [hf s (by omega) b]
      omega
  · have e := sm_upd (f := fun _ => 0) (g := fun s => f s * g (vs sc r u s)) (a := 0) (n := S) (by omega) (by omega) (fun s a b c => by rw [hf s (by omega) b, Int.zero_mul])
    rw [e, sm_0, h0]
    show 0 + (1 * g (vs sc r u 0) - 0) = g u
    rw [hg (vs sc r u 0) u (fun i _ _ => by unfold vs; rw [dg_z h]; omega)]
    omega
end WY
