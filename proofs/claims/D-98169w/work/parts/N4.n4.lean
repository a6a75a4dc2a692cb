/-! ===== odds: parts in least terms ===== -/
section N4
variable {G : GE} {I I0 I' J : HI} {P P' P1 : HP} {T : HT} {z : Nat} {x t d g : Nat} {Q : QT} {σ μ κ sc u : Int → Int}
theorem C_common0 {a : Int} (ha : 0 ≤ a ∧ a < 9223372036854775808) (hQ : Q (some (jv a)) I J P T z) : MC G yX1_common (ws_ yX1_common cX1_common 4 (some FieldType.long)) (d) 0 0 [jv a, jv 0] I J P T z Q nX := by
  refine MC.of (by decide) (Nat.le_of_ble_eq_true rfl) ?_
  show PW G mX1_common (rmD (d) 0 0) (MZ G Q nX 0 0) 0 0 I J P T z 0 [some (jv a), none, some (jv 0), none] []
  have lr := lc_r (x := 0) (y := 0)
  have le := lc_eq (x := 0) (y := 0)
  refine r_lload_n (pc := 0) dX1_common_0 rfl rfl ?_
  refine r_lconst (pc := 1) (x := 0) dX1_common_1 (by decide +kernel) ?_
  refine r_lcmp (pc := 2) dX1_common_2 (by omega) (by omega) ?_
  refine r_if_ne (pc := 3) 10 dX1_common_3 rfl (by omega) (fun h3 => ?_) (fun h3 => ?_)
  · exact absurd (le.mpr rfl) h3
  refine r_lload_n (pc := 6) dX1_common_6 rfl rfl ?_
  refine r_goto (pc := 7) 17 dX1_common_7 rfl ?_
  refine r_lreturn (pc := 17) rfl dX1_common_17 (Nat.le_of_ble_eq_true rfl) (Nat.le_of_ble_eq_true rfl) ?_
  exact hQ
theorem C_common1 {a b : Int} (ha : 0 ≤ a ∧ a < 9223372036854775808) (hb : 0 < b ∧ b < 9223372036854775808) (ih : ∀ {Q : QT}, Q (some (jv ((Nat.gcd b.toNat (a % b).toNat : Nat) : Int))) I J P T z → MC G yX1_common (ws_ yX1_common cX1_common 4 (some FieldType.long)) (d) 0 0 [jv b, jv (a % b)] I J P T z Q nX) (hQ : Q (some (jv ((Nat.gcd a.toNat b.toNat : Nat) : Int))) I J P T z) : MC G yX1_common (ws_ yX1_common cX1_common 4 (some FieldType.long)) (d + 1) 0 0 [jv a, jv b] I J P T z Q nX := by
  refine MC.of (by decide) (Nat.le_of_ble_eq_true rfl) ?_
  show PW G mX1_common (rmD (d + 1) 0 0) (MZ G Q nX 0 0) 0 0 I J P T z 0 [some (jv a), none, some (jv b), none] []
  have lr := lc_r (x := b) (y := 0)
  have le := lc_eq (x := b) (y := 0)
  refine r_lload_n (pc := 0) dX1_common_0 rfl rfl ?_
  refine r_lconst (pc := 1) (x := 0) dX1_common_1 (by decide +kernel) ?_
  refine r_lcmp (pc := 2) dX1_common_2 (by omega) (by omega) ?_
  refine r_if_ne (pc := 3) 10 dX1_common_3 rfl (by omega) (fun h3 => ?_) (fun h3 => ?_)
  · refine r_lload_n (pc := 10) dX1_common_10 rfl rfl ?_
    refine r_lload_n (pc := 11) dX1_common_11 rfl rfl ?_
    refine r_lload_n (pc := 12) dX1_common_12 rfl rfl ?_
    refine r_lrem (pc := 13) dX1_common_13 (by omega) (by omega) ?_
    refine r_callS2 (pc := 14) (ih fe_i) im_X1_common q1808 dX1_common_14 (Nat.le_of_ble_eq_true rfl) (Nat.le_of_ble_eq_true rfl) rfl (k_fj ?_) (fun _ _ _ _ _ _ _ hx => no_x hx)
    refine r_lreturn (pc := 17) rfl dX1_common_17 (Nat.le_of_ble_eq_true rfl) (Nat.le_of_ble_eq_true rfl) ?_
    rw [Int.toNat_emod ha.1 (by omega), ← Nat.gcd_comm, ← Nat.gcd_rec, Nat.gcd_comm]
    exact hQ
  have := le.mp h3
  omega
theorem C_common : ∀ (k : Nat) {a b : Int} {d : Nat} {Q : QT}, (0 ≤ a ∧ a < 9223372036854775808) → (0 ≤ b ∧ b < 9223372036854775808) → b < ((2 ^ k : Nat) : Int) → Q (some (jv ((Nat.gcd a.toNat b.toNat : Nat) : Int))) I J P T z → MC G yX1_common (ws_ yX1_common cX1_common 4 (some FieldType.long)) (d + 2 * k) 0 0 [jv a, jv b] I J P T z Q nX := by
  intro k
  induction k with
  | zero =>
    intro a b d Q ha hb hk hQ
    obtain rfl : b = 0 := by
      have : ((2 ^ 0 : Nat) : Int) = 1 := rfl
      omega
    rw [show (0 : Int).toNat = 0 from rfl, Nat.gcd_zero_right, Int.toNat_of_nonneg ha.1] at hQ
    exact C_common0 ha hQ
  | succ k ih =>
    intro a b d Q ha hb hk hQ
    have e2 : ((2 ^ (k + 1) : Nat) : Int) = 2 * ((2 ^ k : Nat) : Int) := by rw [Nat.pow_succ, Nat.mul_comm]; rfl
    by_cases b0 : b = 0
    · subst b0
      rw [show (0 : Int).toNat = 0 from rfl, Nat.gcd_zero_right, Int.toNat_of_nonneg ha.1] at hQ
      exact C_common0 ha hQ
    have r0 := Int.emod_nonneg a b0
    have r1 := Int.emod_lt_of_pos a (show 0 < b by omega)
    rw [show d + 2 * (k + 1) = d + 2 * k + 1 + 1 by omega]
    refine C_common1 ha (by omega) (fun {Q} hQ => ?_) hQ
    by_cases c0 : a % b = 0
    · rw [c0] at hQ ⊢
      rw [show (0 : Int).toNat = 0 from rfl, Nat.gcd_zero_right, Int.toNat_of_nonneg hb.1] at hQ
      exact C_common0 hb hQ
    generalize a % b = r at r0 r1 c0 hQ
    have s0 := Int.emod_nonneg b c0
    have s1 := Int.emod_lt_of_pos b (show 0 < r by omega)
    refine C_common1 hb (by omega) (fun {Q} hQ => ih (by omega) (by omega) ?_ hQ) hQ
    have e1 := Int.emod_def b r
    have q1 : 1 ≤ b / r := by
      have := Int.ediv_le_ediv (show 0 < r by omega) (show r ≤ b by omega)
      rw [Int.ediv_self c0] at this
      exact this
    have q2 : r * 1 ≤ r * (b / r) := Int.mul_le_mul_of_nonneg_left q1 r0
    omega
theorem C_part {a b w : Int} (ha : 0 ≤ a ∧ a < 9223372036854775808) (hb : 0 < b ∧ b < 9223372036854775808) (hw : rg w) (hQ : Q (some (jv ((if w = 0 then a else b) / ((Nat.gcd a.toNat b.toNat : Nat) : Int)))) I J P T z) : MC G yX1_part (ws_ yX1_part cX1_part 5 (some FieldType.long)) (d + 127) 0 0 [jv a, jv b, iv w] I J P T z Q nX := by
  refine MC.of (by decide) (Nat.le_of_ble_eq_true rfl) ?_
  show PW G mX1_part (rmD (d + 127) 0 0) (MZ G Q nX 0 0) 0 0 I J P T z 0 [some (jv a), none, some (jv b), none, some (iv w)] []
  have g0 : 0 < Nat.gcd a.toNat b.toNat := Nat.gcd_pos_of_pos_right _ (by omega)
  have g1 : Nat.gcd a.toNat b.toNat ≤ b.toNat := Nat.le_of_dvd (by omega) (Nat.gcd_dvd_right _ _)
  have p63 : ((2 ^ 63 : Nat) : Int) = 9223372036854775808 := by decide +kernel
  have fin : ∀ x : Int, 0 ≤ x → x < 9223372036854775808 → x = (if w = 0 then a else b) → PW G mX1_part (rmD (d + 127) 0 0) (MZ G Q nX 0 0) 0 0 I J P T z 10 [some (jv a), none, some (jv b), none, some (iv w)] [jv x] := by
    intro x x0 x1 ex
    rw [← ex] at hQ
    refine r_lload_n (pc := 10) dX1_part_10 rfl rfl ?_
    refine r_lload_n (pc := 11) dX1_part_11 rfl rfl ?_
    refine r_callS2 (pc := 12) (C_common (d := d) 63 ha (by omega) (by omega) fe_i) im_X1_common q1808 dX1_part_12 (Nat.le_of_ble_eq_true rfl) (Nat.le_of_ble_eq_true rfl) rfl (k_fj ?_) (fun _ _ _ _ _ _ _ hx => no_x hx)
    refine r_ldiv (pc := 15) dX1_part_15 (by omega) (by omega) ?_
    refine r_lreturn (pc := 16) rfl dX1_part_16 (Nat.le_of_ble_eq_true rfl) (Nat.le_of_ble_eq_true rfl) ?_
    exact hQ
  refine r_iload (pc := 0) dX1_part_0 rfl ?_
  refine r_if_ne (pc := 2) 9 dX1_part_2 rfl (by omega) (fun h2 => ?_) (fun h2 => ?_)
  · refine r_lload_n (pc := 9) dX1_part_9 rfl rfl ?_
    exact fin b (by omega) (by omega) (if_neg h2).symm
  refine r_lload_n (pc := 5) dX1_part_5 rfl rfl ?_
  refine r_goto (pc := 6) 10 dX1_part_6 rfl ?_
  exact fin a (by omega) (by omega) (if_pos h2).symm
end N4
