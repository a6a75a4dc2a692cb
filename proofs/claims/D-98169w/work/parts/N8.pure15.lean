/-! ===== odds: kinds that are not in the game; what is left ===== -/
section P15
variable {σ : Int → Int} {o k : Int}
theorem un_hi (h : CV σ) (ho : 0 ≤ o ∧ o < 6) (hk : σ 0 ≤ k ∧ k < 13) : un σ o k ≤ 0 := by
  have ht := h.ta
  have a := h.one ho.1 ho.2 (k := k) (by omega) hk.2
  have c := h.ca (k := k) (by omega) hk.2
  have c2 := ct_r (η := σ) (k := k)
  have c3 := bz_r (p := 0 < σ (138 + k))
  have s := un_s h (o := o) (k := k) (by omega) (m := (σ 1).toNat) (by omega)
  have := c.2 hk.1
  unfold un
  omega
theorem kd_hi {w : Int → Int} : ∀ (m : Nat) (k : Int) (y : Int × (Int → Int)), (∀ j, k ≤ j → j < k + m → w j ≤ 0) → f_kd w m k y = (1, y) := by
  intro m
  induction m with
  | zero => intro k y _; rfl
  | succ m ih =>
    intro k y h
    unfold f_kd
    rw [if_pos (h k (by omega) (by omega))]
    exact ih (k + 1) y (fun j a b => h j (by omega) (by omega))
theorem kd_app {w : Int → Int} {c : Nat} : ∀ (m : Nat) (k : Int) (y : Int × (Int → Int)), (∀ j, k + m ≤ j → j < k + m + c → w j ≤ 0) → f_kd w (m + c) k y = f_kd w m k y := by
  intro m
  induction m with
  | zero => intro k y h; rw [Nat.zero_add]; exact kd_hi c k y (fun j a b => h j (by omega) (by omega))
  | succ m ih =>
    intro k y h
    rw [show m + 1 + c = m + c + 1 by omega]
    unfold f_kd
    split
    · exact ih (k + 1) y (fun j a b => h j (by omega) (by omega))
    · split
      · rfl
      · exact ih (k + 1) _ (fun j a b => h j (by omega) (by omega))
theorem kd_13 (h : CV σ) (ho : 0 ≤ o ∧ o < 6) : f_kd (un σ o) 13 0 (0, fun _ => 0) = f_kd (un σ o) (σ 0).toNat 0 (0, fun _ => 0) := by
  have ht := h.ta
  have e := kd_app (w := un σ o) (c := 13 - (σ 0).toNat) (σ 0).toNat 0 (0, fun _ => 0) (fun j a b => un_hi h ho (by omega))
  rw [show (σ 0).toNat + (13 - (σ 0).toNat) = 13 by omega] at e
  exact e
end P15
