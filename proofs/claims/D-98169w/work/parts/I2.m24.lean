/-! ===== the model: small functions of numbers ===== -/
section M24
variable {G : GE} {I J : HI} {P : HP} {T : HT} {z : Nat} {m d : Nat} {Q : QT} {σ π ω bf rl : Int → Int}
theorem M_digit {c b : Int} (hc : 0 ≤ c ∧ c < 2147483648) (hb : 0 < b ∧ b < 2147483648) (hQ : Q (some (iv (c / b % 5))) I J P T z) : MC G yX11_digit (ws_ yX11_digit cX11_digit 2 (some FieldType.int)) (d) 0 0 [iv c, iv b] I J P T z Q nX := by
  refine MC.of (by decide) (Nat.le_of_ble_eq_true rfl) ?_
  show PW G mX11_digit (rmD (d) 0 0) (MZ G Q nX 0 0) 0 0 I J P T z 0 [some (iv c), some (iv b)] []
  have q0 : 0 ≤ c / b := Int.ediv_nonneg hc.1 (by omega)
  have q1 : c / b ≤ c := Int.ediv_le_self b hc.1
  refine r_iload_n (pc := 0) dX11_digit_0 rfl rfl ?_
  refine r_iload_n (pc := 1) dX11_digit_1 rfl rfl ?_
  refine r_idiv (pc := 2) dX11_digit_2 (by omega) (by omega) ?_
  refine r_iconst (pc := 3) dX11_digit_3 ?_
  refine r_irem (pc := 4) dX11_digit_4 (by omega) (by omega) ?_
  refine r_ireturn (pc := 5) rfl rfl dX11_digit_5 (Nat.le_of_ble_eq_true rfl) (Nat.le_of_ble_eq_true rfl) ?_
  exact hQ
theorem M_common {a b : Int} (ha : 0 ≤ a ∧ a < 9223372036854775808) (hb : 0 ≤ b ∧ b < 9223372036854775808) (hQ : Q (some (jv ((Nat.gcd a.toNat b.toNat : Nat) : Int))) I J P T z) : MC G yX11_common (ws_ yX11_common cX11_common 10 (some FieldType.long)) (d) 0 0 [jv a, jv b] I J P T z Q nX := by
  refine MC.of (by decide) (Nat.le_of_ble_eq_true rfl) ?_
  show PW G mX11_common (rmD (d) 0 0) (MZ G Q nX 0 0) 0 0 I J P T z 0 [some (jv a), none, some (jv b), none, none, none, none, none, none, none] []
  have loop : ∀ (n : Nat) (x y : Int) (l8 : Option Value), 0 ≤ x → x < 9223372036854775808 → 0 ≤ y → y < 9223372036854775808 → y < n → Q (some (jv ((Nat.gcd x.toNat y.toNat : Nat) : Int))) I J P T z → PW G mX11_common (rmD (d) 0 0) (MZ G Q nX 0 0) 0 0 I J P T z 6 [some (jv a), none, some (jv b), none, some (jv x), none, some (jv y), none, l8, none] [] := by
    intro n
    induction n with
    | zero => intro x y l8 a b c d e; omega
    | succ n ih =>
      intro x y l8 x0 x1 y0 y1 yn hQ
      have lr := lc_r (x := y) (y := 0)
      have le := lc_eq (x := y) (y := 0)
      refine r_lload (pc := 6) dX11_common_6 rfl ?_
      refine r_lconst (pc := 8) (x := 0) dX11_common_8 (by decide +kernel) ?_
      refine r_lcmp (pc := 9) dX11_common_9 (by omega) (by omega) ?_
      refine r_if_eq (pc := 10) 31 dX11_common_10 rfl (by omega) (fun h10 => ?_) (fun h10 => ?_)
      · have e : y = 0 := le.mp h10
        subst e
        rw [show (0 : Int).toNat = 0 from rfl, Nat.gcd_zero_right, Int.toNat_of_nonneg x0] at hQ
        refine r_lload (pc := 31) dX11_common_31 rfl ?_
        refine r_lreturn (pc := 33) rfl dX11_common_33 (Nat.le_of_ble_eq_true rfl) (Nat.le_of_ble_eq_true rfl) ?_
        exact hQ
      have y2 : 0 < y := by have : y ≠ 0 := fun q => h10 (le.mpr q); omega
      have r0 := Int.emod_nonneg x (show y ≠ 0 by omega)
      have r1 := Int.emod_lt_of_pos x y2
      refine r_lload (pc := 13) dX11_common_13 rfl ?_
      refine r_lload (pc := 15) dX11_common_15 rfl ?_
      refine r_lrem (pc := 17) dX11_common_17 (by omega) (by omega) ?_
      refine r_lstore8 (pc := 18) (Nat.le_of_ble_eq_true rfl) dX11_common_18 rfl ?_
      refine r_lload (pc := 20) dX11_common_20 rfl ?_
      refine r_lstore4 (pc := 22) (Nat.le_of_ble_eq_true rfl) dX11_common_22 rfl ?_
      refine r_lload (pc := 24) dX11_common_24 rfl ?_
      refine r_lstore6 (pc := 26) (Nat.le_of_ble_eq_true rfl) dX11_common_26 rfl ?_
      refine r_goto (pc := 28) 6 dX11_common_28 rfl ?_
      refine ih y (x % y) _ y0 y1 r0 (by omega) (by omega) ?_
      rw [Int.toNat_emod x0 y0, ← Nat.gcd_comm, ← Nat.gcd_rec, Nat.gcd_comm]
      exact hQ
  refine r_lload_n (pc := 0) dX11_common_0 rfl rfl ?_
  refine r_lstore4 (pc := 1) (Nat.le_of_ble_eq_true rfl) dX11_common_1 rfl ?_
  refine r_lload_n (pc := 3) dX11_common_3 rfl rfl ?_
  refine r_lstore6 (pc := 4) (Nat.le_of_ble_eq_true rfl) dX11_common_4 rfl ?_
  exact loop (b.toNat + 1) a b none ha.1 ha.2 hb.1 hb.2 (by omega) hQ
theorem M_sumOf {a : Nat} (hT : T a = (1, 3)) (hQ : Q (some (iv (I a 0 + I a 1 + I a 2))) I J P T z) : MC G yX11_sumOf (ws_ yX11_sumOf cX11_sumOf 1 (some FieldType.int)) (d) 0 0 [.ref a] I J P T z Q nX := by
  refine MC.of (by decide) (Nat.le_of_ble_eq_true rfl) ?_
  show PW G mX11_sumOf (rmD (d) 0 0) (MZ G Q nX 0 0) 0 0 I J P T z 0 [some (.ref a)] []
  refine r_aload_n (pc := 0) dX11_sumOf_0 rfl rfl ?_
  refine r_iconst (pc := 1) dX11_sumOf_1 ?_
  refine r_iald (pc := 2) hT (by omega) (by omega) dX11_sumOf_2 (fun hr2 => ?_)
  try simp (disch := omega) only [ui_ur, ui_ur_n, ur_sv, ur_nv, ui_sv, ui_nv, ui_uis, us_s, us_n] at hr2 ⊢
  refine r_aload_n (pc := 3) dX11_sumOf_3 rfl rfl ?_
  refine r_iconst (pc := 4) dX11_sumOf_4 ?_
  refine r_iald (pc := 5) hT (by omega) (by omega) dX11_sumOf_5 (fun hr5 => ?_)
  try simp (disch := omega) only [ui_ur, ui_ur_n, ur_sv, ur_nv, ui_sv, ui_nv, ui_uis, us_s, us_n] at hr5 ⊢
  refine r_iadd (pc := 6) dX11_sumOf_6 ?_
  refine r_aload_n (pc := 7) dX11_sumOf_7 rfl rfl ?_
  refine r_iconst (pc := 8) dX11_sumOf_8 ?_
  refine r_iald (pc := 9) hT (by omega) (by omega) dX11_sumOf_9 (fun hr9 => ?_)
  try simp (disch := omega) only [ui_ur, ui_ur_n, ur_sv, ur_nv, ui_sv, ui_nv, ui_uis, us_s, us_n] at hr9 ⊢
  refine r_iadd (pc := 10) dX11_sumOf_10 ?_
  refine r_ireturn (pc := 11) rfl rfl dX11_sumOf_11 (Nat.le_of_ble_eq_true rfl) (Nat.le_of_ble_eq_true rfl) ?_
  exact hQ
theorem M_laid {a : Nat} (hT : T a = (1, 3)) (hb : G.2.2.2.1 ≤ a) {k : Int} (hk : 0 ≤ k ∧ k < 3) (hQ : if I a k < 4 then Q (some (iv 0)) I J P T z else Q (some (iv 1)) (ui I a k 0) J P T z) : MC G yX11_laid (ws_ yX11_laid cX11_laid 2 (some FieldType.int)) (d) 0 0 [.ref a, iv k] I J P T z Q nX := by
  refine MC.of (by decide) (Nat.le_of_ble_eq_true rfl) ?_
  show PW G mX11_laid (rmD (d) 0 0) (MZ G Q nX 0 0) 0 0 I J P T z 0 [some (.ref a), some (iv k)] []
  refine r_aload_n (pc := 0) dX11_laid_0 rfl rfl ?_
  refine r_iload_n (pc := 1) dX11_laid_1 rfl rfl ?_
  refine r_iald (pc := 2) hT (by omega) (by omega) dX11_laid_2 (fun hr2 => ?_)
  try simp (disch := omega) only [ui_ur, ui_ur_n, ur_sv, ur_nv, ui_sv, ui_nv, ui_uis, us_s, us_n] at hr2 ⊢
  refine r_iconst (pc := 3) dX11_laid_3 ?_
  refine r_icmp_ge (pc := 4) 9 dX11_laid_4 rfl (by omega) (by omega) (fun h4 => ?_) (fun h4 => ?_)
  · rw [if_neg (by omega)] at hQ
    refine r_aload_n (pc := 9) dX11_laid_9 rfl rfl ?_
    refine r_iload_n (pc := 10) dX11_laid_10 rfl rfl ?_
    refine r_iconst (pc := 11) dX11_laid_11 ?_
    refine r_iast (pc := 12) hT (by omega) (by omega) (by omega) (by omega) dX11_laid_12 ?_
    try simp (disch := omega) only [ui_ur, ui_ur_n, ur_sv, ur_nv, ui_sv, ui_nv, ui_uis, us_s, us_n]
    refine r_iconst (pc := 13) dX11_laid_13 ?_
    refine r_ireturn (pc := 14) rfl rfl dX11_laid_14 (Nat.le_of_ble_eq_true rfl) (Nat.le_of_ble_eq_true rfl) ?_
    exact hQ
  rw [if_pos (by omega)] at hQ
  refine r_iconst (pc := 7) dX11_laid_7 ?_
  refine r_ireturn (pc := 8) rfl rfl dX11_laid_8 (Nat.le_of_ble_eq_true rfl) (Nat.le_of_ble_eq_true rfl) ?_
  exact hQ
end M24
