/-! ===== the component: bents ===== -/
theorem tb_nat {x k : Int} (h : 0 ≤ x) : tb x k ↔ x.toNat.testBit k.toNat = true := by
  obtain ⟨a, rfl⟩ := i_nat h
  rw [Int.toNat_natCast, Nat.testBit_eq_decide_div_mod_eq, decide_eq_true_eq]
  unfold tb
  rw [← Int.natCast_ediv]
  generalize a / 2 ^ k.toNat = q
  omega
theorem f_set_tb {σ : Int → Int} {p : Int} : ∀ (n : Nat) {j : Int}, 0 ≤ j → (tb (f_set σ p n) j ↔ j < n ∧ 0 < σ (60 + 13 * p + j)) := by
  intro n
  induction n with
  | zero => intro j hj; constructor; intro h; exact absurd h tb_0; intro h; omega
  | succ n ih =>
    intro j hj
    have r := f_set_r (σ := σ) (k := p) n
    have r1 := f_set_r (σ := σ) (k := p) (n + 1)
    rw [tb_nat r1.1]
    have e : (f_set σ p (n + 1)).toNat = (f_set σ p n).toNat ||| (if 0 < σ (60 + 13 * p + n) then 2 ^ n else 0) := Int.toNat_natCast _
    rw [e, Nat.testBit_or, Bool.or_eq_true, ← tb_nat r.1, ih hj]
    by_cases c : 0 < σ (60 + 13 * p + (n : Int))
    · rw [if_pos c, Nat.testBit_two_pow, decide_eq_true_eq]
      constructor
      · rintro (h | h)
        · exact ⟨by omega, h.2⟩
        · have : j = n := by omega
          subst this; exact ⟨by omega, c⟩
      · rintro ⟨h1, h2⟩
        by_cases q : j = n
        · right; omega
        · left; exact ⟨by omega, h2⟩
    · rw [if_neg c, Nat.zero_testBit]
      constructor
      · rintro (h | h)
        · exact ⟨by omega, h.2⟩
        · cases h
      · rintro ⟨h1, h2⟩
        left
        by_cases q : j = n
        · subst q; exact absurd h2 c
        · exact ⟨by omega, h2⟩
/-- the least kind -/
theorem f_least_v {σ : Int → Int} {p : Int} (hz : ∀ k, 0 ≤ k → k < 13 → 0 ≤ σ (60 + 13 * p + k)) : ∀ (n : Nat) (i : Int), 0 ≤ i → i + n = 13 → (∃ j, i ≤ j ∧ j < 13 ∧ σ (60 + 13 * p + j) ≠ 0) → (∀ j, 0 ≤ j → j < i → σ (60 + 13 * p + j) = 0) → 0 ≤ f_least σ p i n ∧ f_least σ p i n < 13 ∧ 0 < σ (60 + 13 * p + f_least σ p i n) ∧ ∀ j, 0 ≤ j → j < f_least σ p i n → σ (60 + 13 * p + j) = 0 := by
  intro n
  induction n with
  | zero => intro i h0 h1 ⟨j, a, b, c⟩ _; omega
  | succ n ih =>
    intro i h0 h1 ⟨j, a, b, c⟩ hl
    simp only [f_least]
    by_cases q : σ (60 + 13 * p + i) = 0
    · rw [if_pos q]
      refine ih (i + 1) (by omega) (by omega) ⟨j, ?_, b, c⟩ (fun k x y => ?_)
      · by_cases e : j = i
        · subst e; exact absurd q c
        · omega
      · by_cases e : k = i
        · rw [e]; exact q
        · exact hl k x (by omega)
    · rw [if_neg q]
      have := hz i h0 (by omega)
      exact ⟨h0, by omega, by omega, hl⟩
theorem bit_mod {x : Nat} : ∀ (k : Nat), x / 2 ^ k % 2 = 1 → (∀ j, j < k → x / 2 ^ j % 2 = 0) → x % 2 ^ (k + 1) = 2 ^ k := by
  intro k h1 h2
  have z : ∀ m, m ≤ k → x % 2 ^ m = 0 := by
    intro m
    induction m with
    | zero => intro _; simp [Nat.mod_one]
    | succ m ih =>
      intro hm
      have a := ih (by omega)
      have b := h2 m (by omega)
      have c := Nat.mod_pow_succ (b := 2) (k := m) (x := x)
      rw [c, a, b]; simp
  have c := Nat.mod_pow_succ (b := 2) (k := k) (x := x)
  rw [c, z k (by omega), h1]; simp
theorem ntz_dec : ∀ a : Fin 64, ∀ b : Fin 128, ∀ k : Fin 13, (128 * a.val + b.val) % 2 ^ (k.val + 1) = 2 ^ k.val → (Int32.ofInt ((Int32.ofInt ((128 * a.val + b.val : Nat) : Int) ^^^ Int32.ofInt (-1)).toInt) &&& Int32.ofInt (((128 * a.val + b.val : Nat) : Int) - 1)).toInt = ((2 ^ k.val - 1 : Nat) : Int) := by decide +kernel
section K9
variable {G : GE} {I I0 J : HI} {P : HP} {T : HT} {z : Nat} {g g2 t d : Nat} {Q : QT} {σ μ η π : Int → Int}
section RX
variable {M : MI} {R : Room} {Z : ZP} {cu su pc : Nat} {ls : List (Option Value)} {st : List Value}
theorem iv_t {v : Int32} : iv v.toInt = .int v := by unfold iv; rw [Int32.ofInt_toInt]
theorem r_ixor {x y : Int} (d : decode M.2.1 pc = .ok (.ixor, 1)) (k : PW G M R Z cu su I J P T z (pc + 1) ls (iv ((Int32.ofInt x ^^^ Int32.ofInt y).toInt) :: st)) : PW G M R Z cu su I J P T z pc ls (iv y :: iv x :: st) := by
  rw [iv_t] at k
  intro p e s m args below meth c0 H locs la hC hR hS hL
  exact lv_ixor hC.x hC.b d (k p e s m args below meth c0 H locs la hC hR hS hL)
theorem r_iandG {x y : Int} (d : decode M.2.1 pc = .ok (.iand, 1)) (k : PW G M R Z cu su I J P T z (pc + 1) ls (iv ((Int32.ofInt x &&& Int32.ofInt y).toInt) :: st)) : PW G M R Z cu su I J P T z pc ls (iv y :: iv x :: st) := by
  rw [iv_t] at k
  intro p e s m args below meth c0 H locs la hC hR hS hL
  exact lv_iand hC.x hC.b d (k p e s m args below meth c0 H locs la hC hR hS hL)
end RX
set_option maxHeartbeats 2000000 in
theorem C_ntz {x k : Int} (hx : 0 ≤ x ∧ x < 8192) (hk : 0 ≤ k ∧ k < 13) (h1 : tb x k) (h2 : ∀ j, 0 ≤ j → j < k → ¬ tb x j) (hQ : Q (some (iv k)) I J P T z) : MC G yJ16_numberOfTrailingZeros (ws_ yJ16_numberOfTrailingZeros cJ16_numberOfTrailingZeros 2 (some FieldType.int)) (d) 0 0 [iv x] I J P T z Q nX := by
  refine MC.of (by decide) (Nat.le_of_ble_eq_true rfl) ?_
  show PW G mJ16_numberOfTrailingZeros (rmD (d) 0 0) (MZ G Q nX 0 0) 0 0 I J P T z 0 [some (iv x), none] []
  have hd : (Int32.ofInt ((Int32.ofInt x ^^^ Int32.ofInt (-1)).toInt) &&& Int32.ofInt (x - 1)).toInt = ((2 ^ k.toNat - 1 : Nat) : Int) := by
    obtain ⟨a, rfl⟩ := i_nat hx.1
    obtain ⟨b, rfl⟩ := i_nat hk.1
    rw [Int.toNat_natCast]
    have cv : ∀ m : Nat, tb (a : Int) (m : Int) ↔ a / 2 ^ m % 2 = 1 := fun m => by
      unfold tb
      rw [Int.toNat_natCast, ← Int.natCast_ediv]
      generalize a / 2 ^ m = q
      omega
    have hm := bit_mod b ((cv b).mp h1) (fun j hj => by
      have := mt (cv j).mpr (h2 j (by omega) (by omega))
      generalize a / 2 ^ j = q at this ⊢
      omega)
    have e := ntz_dec ⟨a / 128, by omega⟩ ⟨a % 128, by omega⟩ ⟨b, by omega⟩
    simp only [show 128 * (a / 128) + a % 128 = a by omega] at e
    exact e hm
  refine r_iload_n (pc := 0) dJ16_numberOfTrailingZeros_0 rfl rfl ?_
  refine r_iconst (pc := 1) dJ16_numberOfTrailingZeros_1 ?_
  refine r_ixor (pc := 2) dJ16_numberOfTrailingZeros_2 ?_
  refine r_iload_n (pc := 3) dJ16_numberOfTrailingZeros_3 rfl rfl ?_
  refine r_iconst (pc := 4) dJ16_numberOfTrailingZeros_4 ?_
  refine r_isub (pc := 5) dJ16_numberOfTrailingZeros_5 ?_
  refine r_iandG (pc := 6) dJ16_numberOfTrailingZeros_6 ?_
  rw [hd]
  have kc : k = 0 ∨ k = 1 ∨ k = 2 ∨ k = 3 ∨ k = 4 ∨ k = 5 ∨ k = 6 ∨ k = 7 ∨ k = 8 ∨ k = 9 ∨ k = 10 ∨ k = 11 ∨ k = 12 := by omega
  clear hd h1 h2
  rcases kc with rfl | rfl | rfl | rfl | rfl | rfl | rfl | rfl | rfl | rfl | rfl | rfl | rfl
  · rw [show ((2 ^ (0 : Int).toNat - 1 : Nat) : Int) = 0 from by decide]
    refine r_istore_n0 (pc := 7) (Nat.le_of_ble_eq_true rfl) dJ16_numberOfTrailingZeros_7 rfl ?_
    refine r_iload_n (pc := 8) dJ16_numberOfTrailingZeros_8 rfl rfl ?_
    refine r_if_gt (pc := 9) 17 dJ16_numberOfTrailingZeros_9 rfl (by omega) (fun h9 => ?_) (fun h9 => ?_)
    · omega
    refine r_iload_n (pc := 12) dJ16_numberOfTrailingZeros_12 rfl rfl ?_
    refine r_bipush (pc := 13) dJ16_numberOfTrailingZeros_13 (by decide +kernel) ?_
    refine r_iandG (pc := 15) dJ16_numberOfTrailingZeros_15 ?_
    rw [show (Int32.ofInt 0 &&& Int32.ofInt 32).toInt = 0 from by decide]
    refine r_ireturn (pc := 16) rfl rfl dJ16_numberOfTrailingZeros_16 (Nat.le_of_ble_eq_true rfl) (Nat.le_of_ble_eq_true rfl) ?_
    exact hQ
  · rw [show ((2 ^ (1 : Int).toNat - 1 : Nat) : Int) = 1 from by decide]
    refine r_istore_n0 (pc := 7) (Nat.le_of_ble_eq_true rfl) dJ16_numberOfTrailingZeros_7 rfl ?_
    refine r_iload_n (pc := 8) dJ16_numberOfTrailingZeros_8 rfl rfl ?_
    refine r_if_gt (pc := 9) 17 dJ16_numberOfTrailingZeros_9 rfl (by omega) (fun h9 => ?_) (fun h9 => ?_)
    rotate_left
    · omega
    refine r_iconst (pc := 17) dJ16_numberOfTrailingZeros_17 ?_
    refine r_istore_n1 (pc := 18) (Nat.le_of_ble_eq_true rfl) dJ16_numberOfTrailingZeros_18 rfl ?_
    refine r_iload_n (pc := 19) dJ16_numberOfTrailingZeros_19 rfl rfl ?_
    refine r_ldcw (pc := 20) (x := 65536) q1425 dJ16_numberOfTrailingZeros_20 (by decide +kernel) ?_
    refine r_icmp_le (pc := 23) 34 dJ16_numberOfTrailingZeros_23 rfl (by omega) (by omega) (fun h23 => ?_) (fun h23 => ?_)
    rotate_left
    · omega
    refine r_iload_n (pc := 34) dJ16_numberOfTrailingZeros_34 rfl rfl ?_
    refine r_sipush (pc := 35) dJ16_numberOfTrailingZeros_35 (by decide +kernel) ?_
    refine r_icmp_le (pc := 38) 49 dJ16_numberOfTrailingZeros_38 rfl (by omega) (by omega) (fun h38 => ?_) (fun h38 => ?_)
    rotate_left
    · omega
    refine r_iload_n (pc := 49) dJ16_numberOfTrailingZeros_49 rfl rfl ?_
    refine r_bipush (pc := 50) dJ16_numberOfTrailingZeros_50 (by decide +kernel) ?_
    refine r_icmp_le (pc := 52) 62 dJ16_numberOfTrailingZeros_52 rfl (by omega) (by omega) (fun h52 => ?_) (fun h52 => ?_)
    rotate_left
    · omega
    refine r_iload_n (pc := 62) dJ16_numberOfTrailingZeros_62 rfl rfl ?_
    refine r_iconst (pc := 63) dJ16_numberOfTrailingZeros_63 ?_
    refine r_icmp_le (pc := 64) 74 dJ16_numberOfTrailingZeros_64 rfl (by omega) (by omega) (fun h64 => ?_) (fun h64 => ?_)
    rotate_left
    · omega
    refine r_iload_n (pc := 74) dJ16_numberOfTrailingZeros_74 rfl rfl ?_
    refine r_iload_n (pc := 75) dJ16_numberOfTrailingZeros_75 rfl rfl ?_
    refine r_iconst (pc := 76) dJ16_numberOfTrailingZeros_76 ?_
    refine r_iushr (pc := 77) dJ16_numberOfTrailingZeros_77 (by omega) ?_
    rw [show (1 : Int) % 4294967296 / ((2 ^ (1 : Int).toNat : Nat) : Int) = 0 from by decide]
    refine r_iadd (pc := 78) dJ16_numberOfTrailingZeros_78 ?_
    refine r_ireturn (pc := 79) rfl rfl dJ16_numberOfTrailingZeros_79 (Nat.le_of_ble_eq_true rfl) (Nat.le_of_ble_eq_true rfl) ?_
    exact hQ
  · rw [show ((2 ^ (2 : Int).toNat - 1 : Nat) : Int) = 3 from by decide]
    refine r_istore_n0 (pc := 7) (Nat.le_of_ble_eq_true rfl) dJ16_numberOfTrailingZeros_7 rfl ?_
    refine r_iload_n (pc := 8) dJ16_numberOfTrailingZeros_8 rfl rfl ?_
    refine r_if_gt (pc := 9) 17 dJ16_numberOfTrailingZeros_9 rfl (by omega) (fun h9 => ?_) (fun h9 => ?_)
    rotate_left
    · omega
    refine r_iconst (pc := 17) dJ16_numberOfTrailingZeros_17 ?_
    refine r_istore_n1 (pc := 18) (Nat.le_of_ble_eq_true rfl) dJ16_numberOfTrailingZeros_18 rfl ?_
    refine r_iload_n (pc := 19) dJ16_numberOfTrailingZeros_19 rfl rfl ?_
    refine r_ldcw (pc := 20) (x := 65536) q1425 dJ16_numberOfTrailingZeros_20 (by decide +kernel) ?_
    refine r_icmp_le (pc := 23) 34 dJ16_numberOfTrailingZeros_23 rfl (by omega) (by omega) (fun h23 => ?_) (fun h23 => ?_)
    rotate_left
    · omega
    refine r_iload_n (pc := 34) dJ16_numberOfTrailingZeros_34 rfl rfl ?_
    refine r_sipush (pc := 35) dJ16_numberOfTrailingZeros_35 (by decide +kernel) ?_
    refine r_icmp_le (pc := 38) 49 dJ16_numberOfTrailingZeros_38 rfl (by omega) (by omega) (fun h38 => ?_) (fun h38 => ?_)
    rotate_left
    · omega
    refine r_iload_n (pc := 49) dJ16_numberOfTrailingZeros_49 rfl rfl ?_
    refine r_bipush (pc := 50) dJ16_numberOfTrailingZeros_50 (by decide +kernel) ?_
    refine r_icmp_le (pc := 52) 62 dJ16_numberOfTrailingZeros_52 rfl (by omega) (by omega) (fun h52 => ?_) (fun h52 => ?_)
    rotate_left
    · omega
    refine r_iload_n (pc := 62) dJ16_numberOfTrailingZeros_62 rfl rfl ?_
    refine r_iconst (pc := 63) dJ16_numberOfTrailingZeros_63 ?_
    refine r_icmp_le (pc := 64) 74 dJ16_numberOfTrailingZeros_64 rfl (by omega) (by omega) (fun h64 => ?_) (fun h64 => ?_)
    rotate_left
    · omega
    refine r_iload_n (pc := 74) dJ16_numberOfTrailingZeros_74 rfl rfl ?_
    refine r_iload_n (pc := 75) dJ16_numberOfTrailingZeros_75 rfl rfl ?_
    refine r_iconst (pc := 76) dJ16_numberOfTrailingZeros_76 ?_
    refine r_iushr (pc := 77) dJ16_numberOfTrailingZeros_77 (by omega) ?_
    rw [show (3 : Int) % 4294967296 / ((2 ^ (1 : Int).toNat : Nat) : Int) = 1 from by decide]
    refine r_iadd (pc := 78) dJ16_numberOfTrailingZeros_78 ?_
    refine r_ireturn (pc := 79) rfl rfl dJ16_numberOfTrailingZeros_79 (Nat.le_of_ble_eq_true rfl) (Nat.le_of_ble_eq_true rfl) ?_
    exact hQ
  · rw [show ((2 ^ (3 : Int).toNat - 1 : Nat) : Int) = 7 from by decide]
    refine r_istore_n0 (pc := 7) (Nat.le_of_ble_eq_true rfl) dJ16_numberOfTrailingZeros_7 rfl ?_
    refine r_iload_n (pc := 8) dJ16_numberOfTrailingZeros_8 rfl rfl ?_
    refine r_if_gt (pc := 9) 17 dJ16_numberOfTrailingZeros_9 rfl (by omega) (fun h9 => ?_) (fun h9 => ?_)
    rotate_left
    · omega
    refine r_iconst (pc := 17) dJ16_numberOfTrailingZeros_17 ?_
    refine r_istore_n1 (pc := 18) (Nat.le_of_ble_eq_true rfl) dJ16_numberOfTrailingZeros_18 rfl ?_
    refine r_iload_n (pc := 19) dJ16_numberOfTrailingZeros_19 rfl rfl ?_
    refine r_ldcw (pc := 20) (x := 65536) q1425 dJ16_numberOfTrailingZeros_20 (by decide +kernel) ?_
    refine r_icmp_le (pc := 23) 34 dJ16_numberOfTrailingZeros_23 rfl (by omega) (by omega) (fun h23 => ?_) (fun h23 => ?_)
    rotate_left
    · omega
    refine r_iload_n (pc := 34) dJ16_numberOfTrailingZeros_34 rfl rfl ?_
    refine r_sipush (pc := 35) dJ16_numberOfTrailingZeros_35 (by decide +kernel) ?_
    refine r_icmp_le (pc := 38) 49 dJ16_numberOfTrailingZeros_38 rfl (by omega) (by omega) (fun h38 => ?_) (fun h38 => ?_)
    rotate_left
    · omega
    refine r_iload_n (pc := 49) dJ16_numberOfTrailingZeros_49 rfl rfl ?_
    refine r_bipush (pc := 50) dJ16_numberOfTrailingZeros_50 (by decide +kernel) ?_
    refine r_icmp_le (pc := 52) 62 dJ16_numberOfTrailingZeros_52 rfl (by omega) (by omega) (fun h52 => ?_) (fun h52 => ?_)
    rotate_left
    · omega
    refine r_iload_n (pc := 62) dJ16_numberOfTrailingZeros_62 rfl rfl ?_
    refine r_iconst (pc := 63) dJ16_numberOfTrailingZeros_63 ?_
    refine r_icmp_le (pc := 64) 74 dJ16_numberOfTrailingZeros_64 rfl (by omega) (by omega) (fun h64 => ?_) (fun h64 => ?_)
    · omega
    refine r_iinc1 (pc := 67) (Nat.le_of_ble_eq_true rfl) dJ16_numberOfTrailingZeros_67 rfl ?_
    refine r_iload_n (pc := 70) dJ16_numberOfTrailingZeros_70 rfl rfl ?_
    refine r_iconst (pc := 71) dJ16_numberOfTrailingZeros_71 ?_
    refine r_iushr (pc := 72) dJ16_numberOfTrailingZeros_72 (by omega) ?_
    rw [show (7 : Int) % 4294967296 / ((2 ^ (2 : Int).toNat : Nat) : Int) = 1 from by decide]
    refine r_istore_n0 (pc := 73) (Nat.le_of_ble_eq_true rfl) dJ16_numberOfTrailingZeros_73 rfl ?_
    refine r_iload_n (pc := 74) dJ16_numberOfTrailingZeros_74 rfl rfl ?_
    refine r_iload_n (pc := 75) dJ16_numberOfTrailingZeros_75 rfl rfl ?_
    refine r_iconst (pc := 76) dJ16_numberOfTrailingZeros_76 ?_
    refine r_iushr (pc := 77) dJ16_numberOfTrailingZeros_77 (by omega) ?_
    rw [show (1 : Int) % 4294967296 / ((2 ^ (1 : Int).toNat : Nat) : Int) = 0 from by decide]
    refine r_iadd (pc := 78) dJ16_numberOfTrailingZeros_78 ?_
    refine r_ireturn (pc := 79) rfl rfl dJ16_numberOfTrailingZeros_79 (Nat.le_of_ble_eq_true rfl) (Nat.le_of_ble_eq_true rfl) ?_
    exact hQ
  · rw [show ((2 ^ (4 : Int).toNat - 1 : Nat) : Int) = 15 from by decide]
    refine r_istore_n0 (pc := 7) (Nat.le_of_ble_eq_true rfl) dJ16_numberOfTrailingZeros_7 rfl ?_
    refine r_iload_n (pc := 8) dJ16_numberOfTrailingZeros_8 rfl rfl ?_
    refine r_if_gt (pc := 9) 17 dJ16_numberOfTrailingZeros_9 rfl (by omega) (fun h9 => ?_) (fun h9 => ?_)
    rotate_left
    · omega
    refine r_iconst (pc := 17) dJ16_numberOfTrailingZeros_17 ?_
    refine r_istore_n1 (pc := 18) (Nat.le_of_ble_eq_true rfl) dJ16_numberOfTrailingZeros_18 rfl ?_
    refine r_iload_n (pc := 19) dJ16_numberOfTrailingZeros_19 rfl rfl ?_
    refine r_ldcw (pc := 20) (x := 65536) q1425 dJ16_numberOfTrailingZeros_20 (by decide +kernel) ?_
    refine r_icmp_le (pc := 23) 34 dJ16_numberOfTrailingZeros_23 rfl (by omega) (by omega) (fun h23 => ?_) (fun h23 => ?_)
    rotate_left
    · omega
    refine r_iload_n (pc := 34) dJ16_numberOfTrailingZeros_34 rfl rfl ?_
    refine r_sipush (pc := 35) dJ16_numberOfTrailingZeros_35 (by decide +kernel) ?_
    refine r_icmp_le (pc := 38) 49 dJ16_numberOfTrailingZeros_38 rfl (by omega) (by omega) (fun h38 => ?_) (fun h38 => ?_)
    rotate_left
    · omega
    refine r_iload_n (pc := 49) dJ16_numberOfTrailingZeros_49 rfl rfl ?_
    refine r_bipush (pc := 50) dJ16_numberOfTrailingZeros_50 (by decide +kernel) ?_
    refine r_icmp_le (pc := 52) 62 dJ16_numberOfTrailingZeros_52 rfl (by omega) (by omega) (fun h52 => ?_) (fun h52 => ?_)
    rotate_left
    · omega
    refine r_iload_n (pc := 62) dJ16_numberOfTrailingZeros_62 rfl rfl ?_
    refine r_iconst (pc := 63) dJ16_numberOfTrailingZeros_63 ?_
    refine r_icmp_le (pc := 64) 74 dJ16_numberOfTrailingZeros_64 rfl (by omega) (by omega) (fun h64 => ?_) (fun h64 => ?_)
    · omega
    refine r_iinc1 (pc := 67) (Nat.le_of_ble_eq_true rfl) dJ16_numberOfTrailingZeros_67 rfl ?_
    refine r_iload_n (pc := 70) dJ16_numberOfTrailingZeros_70 rfl rfl ?_
    refine r_iconst (pc := 71) dJ16_numberOfTrailingZeros_71 ?_
    refine r_iushr (pc := 72) dJ16_numberOfTrailingZeros_72 (by omega) ?_
    rw [show (15 : Int) % 4294967296 / ((2 ^ (2 : Int).toNat : Nat) : Int) = 3 from by decide]
    refine r_istore_n0 (pc := 73) (Nat.le_of_ble_eq_true rfl) dJ16_numberOfTrailingZeros_73 rfl ?_
    refine r_iload_n (pc := 74) dJ16_numberOfTrailingZeros_74 rfl rfl ?_
    refine r_iload_n (pc := 75) dJ16_numberOfTrailingZeros_75 rfl rfl ?_
    refine r_iconst (pc := 76) dJ16_numberOfTrailingZeros_76 ?_
    refine r_iushr (pc := 77) dJ16_numberOfTrailingZeros_77 (by omega) ?_
    rw [show (3 : Int) % 4294967296 / ((2 ^ (1 : Int).toNat : Nat) : Int) = 1 from by decide]
    refine r_iadd (pc := 78) dJ16_numberOfTrailingZeros_78 ?_
    refine r_ireturn (pc := 79) rfl rfl dJ16_numberOfTrailingZeros_79 (Nat.le_of_ble_eq_true rfl) (Nat.le_of_ble_eq_true rfl) ?_
    exact hQ
  · rw [show ((2 ^ (5 : Int).toNat - 1 : Nat) : Int) = 31 from by decide]
    refine r_istore_n0 (pc := 7) (Nat.le_of_ble_eq_true rfl) dJ16_numberOfTrailingZeros_7 rfl ?_
    refine r_iload_n (pc := 8) dJ16_numberOfTrailingZeros_8 rfl rfl ?_
    refine r_if_gt (pc := 9) 17 dJ16_numberOfTrailingZeros_9 rfl (by omega) (fun h9 => ?_) (fun h9 => ?_)
    rotate_left
    · omega
    refine r_iconst (pc := 17) dJ16_numberOfTrailingZeros_17 ?_
    refine r_istore_n1 (pc := 18) (Nat.le_of_ble_eq_true rfl) dJ16_numberOfTrailingZeros_18 rfl ?_
    refine r_iload_n (pc := 19) dJ16_numberOfTrailingZeros_19 rfl rfl ?_
    refine r_ldcw (pc := 20) (x := 65536) q1425 dJ16_numberOfTrailingZeros_20 (by decide +kernel) ?_
    refine r_icmp_le (pc := 23) 34 dJ16_numberOfTrailingZeros_23 rfl (by omega) (by omega) (fun h23 => ?_) (fun h23 => ?_)
    rotate_left
    · omega
    refine r_iload_n (pc := 34) dJ16_numberOfTrailingZeros_34 rfl rfl ?_
    refine r_sipush (pc := 35) dJ16_numberOfTrailingZeros_35 (by decide +kernel) ?_
    refine r_icmp_le (pc := 38) 49 dJ16_numberOfTrailingZeros_38 rfl (by omega) (by omega) (fun h38 => ?_) (fun h38 => ?_)
    rotate_left
    · omega
    refine r_iload_n (pc := 49) dJ16_numberOfTrailingZeros_49 rfl rfl ?_
    refine r_bipush (pc := 50) dJ16_numberOfTrailingZeros_50 (by decide +kernel) ?_
    refine r_icmp_le (pc := 52) 62 dJ16_numberOfTrailingZeros_52 rfl (by omega) (by omega) (fun h52 => ?_) (fun h52 => ?_)
    · omega
    refine r_iinc1 (pc := 55) (Nat.le_of_ble_eq_true rfl) dJ16_numberOfTrailingZeros_55 rfl ?_
    refine r_iload_n (pc := 58) dJ16_numberOfTrailingZeros_58 rfl rfl ?_
    refine r_iconst (pc := 59) dJ16_numberOfTrailingZeros_59 ?_
    refine r_iushr (pc := 60) dJ16_numberOfTrailingZeros_60 (by omega) ?_
    rw [show (31 : Int) % 4294967296 / ((2 ^ (4 : Int).toNat : Nat) : Int) = 1 from by decide]
    refine r_istore_n0 (pc := 61) (Nat.le_of_ble_eq_true rfl) dJ16_numberOfTrailingZeros_61 rfl ?_
    refine r_iload_n (pc := 62) dJ16_numberOfTrailingZeros_62 rfl rfl ?_
    refine r_iconst (pc := 63) dJ16_numberOfTrailingZeros_63 ?_
    refine r_icmp_le (pc := 64) 74 dJ16_numberOfTrailingZeros_64 rfl (by omega) (by omega) (fun h64 => ?_) (fun h64 => ?_)
    rotate_left
    · omega
    refine r_iload_n (pc := 74) dJ16_numberOfTrailingZeros_74 rfl rfl ?_
    refine r_iload_n (pc := 75) dJ16_numberOfTrailingZeros_75 rfl rfl ?_
    refine r_iconst (pc := 76) dJ16_numberOfTrailingZeros_76 ?_
    refine r_iushr (pc := 77) dJ16_numberOfTrailingZeros_77 (by omega) ?_
    rw [show (1 : Int) % 4294967296 / ((2 ^ (1 : Int).toNat : Nat) : Int) = 0 from by decide]
    refine r_iadd (pc := 78) dJ16_numberOfTrailingZeros_78 ?_
    refine r_ireturn (pc := 79) rfl rfl dJ16_numberOfTrailingZeros_79 (Nat.le_of_ble_eq_true rfl) (Nat.le_of_ble_eq_true rfl) ?_
    exact hQ
  · rw [show ((2 ^ (6 : Int).toNat - 1 : Nat) : Int) = 63 from by decide]
    refine r_istore_n0 (pc := 7) (Nat.le_of_ble_eq_true rfl) dJ16_numberOfTrailingZeros_7 rfl ?_
    refine r_iload_n (pc := 8) dJ16_numberOfTrailingZeros_8 rfl rfl ?_
    refine r_if_gt (pc := 9) 17 dJ16_numberOfTrailingZeros_9 rfl (by omega) (fun h9 => ?_) (fun h9 => ?_)
    rotate_left
    · omega
    refine r_iconst (pc := 17) dJ16_numberOfTrailingZeros_17 ?_
    refine r_istore_n1 (pc := 18) (Nat.le_of_ble_eq_true rfl) dJ16_numberOfTrailingZeros_18 rfl ?_
    refine r_iload_n (pc := 19) dJ16_numberOfTrailingZeros_19 rfl rfl ?_
    refine r_ldcw (pc := 20) (x := 65536) q1425 dJ16_numberOfTrailingZeros_20 (by decide +kernel) ?_
    refine r_icmp_le (pc := 23) 34 dJ16_numberOfTrailingZeros_23 rfl (by omega) (by omega) (fun h23 => ?_) (fun h23 => ?_)
    rotate_left
    · omega
    refine r_iload_n (pc := 34) dJ16_numberOfTrailingZeros_34 rfl rfl ?_
    refine r_sipush (pc := 35) dJ16_numberOfTrailingZeros_35 (by decide +kernel) ?_
    refine r_icmp_le (pc := 38) 49 dJ16_numberOfTrailingZeros_38 rfl (by omega) (by omega) (fun h38 => ?_) (fun h38 => ?_)
    rotate_left
    · omega
    refine r_iload_n (pc := 49) dJ16_numberOfTrailingZeros_49 rfl rfl ?_
    refine r_bipush (pc := 50) dJ16_numberOfTrailingZeros_50 (by decide +kernel) ?_
    refine r_icmp_le (pc := 52) 62 dJ16_numberOfTrailingZeros_52 rfl (by omega) (by omega) (fun h52 => ?_) (fun h52 => ?_)
    · omega
    refine r_iinc1 (pc := 55) (Nat.le_of_ble_eq_true rfl) dJ16_numberOfTrailingZeros_55 rfl ?_
    refine r_iload_n (pc := 58) dJ16_numberOfTrailingZeros_58 rfl rfl ?_
    refine r_iconst (pc := 59) dJ16_numberOfTrailingZeros_59 ?_
    refine r_iushr (pc := 60) dJ16_numberOfTrailingZeros_60 (by omega) ?_
    rw [show (63 : Int) % 4294967296 / ((2 ^ (4 : Int).toNat : Nat) : Int) = 3 from by decide]
    refine r_istore_n0 (pc := 61) (Nat.le_of_ble_eq_true rfl) dJ16_numberOfTrailingZeros_61 rfl ?_
    refine r_iload_n (pc := 62) dJ16_numberOfTrailingZeros_62 rfl rfl ?_
    refine r_iconst (pc := 63) dJ16_numberOfTrailingZeros_63 ?_
    refine r_icmp_le (pc := 64) 74 dJ16_numberOfTrailingZeros_64 rfl (by omega) (by omega) (fun h64 => ?_) (fun h64 => ?_)
    rotate_left
    · omega
    refine r_iload_n (pc := 74) dJ16_numberOfTrailingZeros_74 rfl rfl ?_
    refine r_iload_n (pc := 75) dJ16_numberOfTrailingZeros_75 rfl rfl ?_
    refine r_iconst (pc := 76) dJ16_numberOfTrailingZeros_76 ?_
    refine r_iushr (pc := 77) dJ16_numberOfTrailingZeros_77 (by omega) ?_
    rw [show (3 : Int) % 4294967296 / ((2 ^ (1 : Int).toNat : Nat) : Int) = 1 from by decide]
    refine r_iadd (pc := 78) dJ16_numberOfTrailingZeros_78 ?_
    refine r_ireturn (pc := 79) rfl rfl dJ16_numberOfTrailingZeros_79 (Nat.le_of_ble_eq_true rfl) (Nat.le_of_ble_eq_true rfl) ?_
    exact hQ
  · rw [show ((2 ^ (7 : Int).toNat - 1 : Nat) : Int) = 127 from by decide]
    refine r_istore_n0 (pc := 7) (Nat.le_of_ble_eq_true rfl) dJ16_numberOfTrailingZeros_7 rfl ?_
    refine r_iload_n (pc := 8) dJ16_numberOfTrailingZeros_8 rfl rfl ?_
    refine r_if_gt (pc := 9) 17 dJ16_numberOfTrailingZeros_9 rfl (by omega) (fun h9 => ?_) (fun h9 => ?_)
    rotate_left
    · omega
    refine r_iconst (pc := 17) dJ16_numberOfTrailingZeros_17 ?_
    refine r_istore_n1 (pc := 18) (Nat.le_of_ble_eq_true rfl) dJ16_numberOfTrailingZeros_18 rfl ?_
    refine r_iload_n (pc := 19) dJ16_numberOfTrailingZeros_19 rfl rfl ?_
    refine r_ldcw (pc := 20) (x := 65536) q1425 dJ16_numberOfTrailingZeros_20 (by decide +kernel) ?_
    refine r_icmp_le (pc := 23) 34 dJ16_numberOfTrailingZeros_23 rfl (by omega) (by omega) (fun h23 => ?_) (fun h23 => ?_)
    rotate_left
    · omega
    refine r_iload_n (pc := 34) dJ16_numberOfTrailingZeros_34 rfl rfl ?_
    refine r_sipush (pc := 35) dJ16_numberOfTrailingZeros_35 (by decide +kernel) ?_
    refine r_icmp_le (pc := 38) 49 dJ16_numberOfTrailingZeros_38 rfl (by omega) (by omega) (fun h38 => ?_) (fun h38 => ?_)
    rotate_left
    · omega
    refine r_iload_n (pc := 49) dJ16_numberOfTrailingZeros_49 rfl rfl ?_
    refine r_bipush (pc := 50) dJ16_numberOfTrailingZeros_50 (by decide +kernel) ?_
    refine r_icmp_le (pc := 52) 62 dJ16_numberOfTrailingZeros_52 rfl (by omega) (by omega) (fun h52 => ?_) (fun h52 => ?_)
    · omega
    refine r_iinc1 (pc := 55) (Nat.le_of_ble_eq_true rfl) dJ16_numberOfTrailingZeros_55 rfl ?_
    refine r_iload_n (pc := 58) dJ16_numberOfTrailingZeros_58 rfl rfl ?_
    refine r_iconst (pc := 59) dJ16_numberOfTrailingZeros_59 ?_
    refine r_iushr (pc := 60) dJ16_numberOfTrailingZeros_60 (by omega) ?_
    rw [show (127 : Int) % 4294967296 / ((2 ^ (4 : Int).toNat : Nat) : Int) = 7 from by decide]
    refine r_istore_n0 (pc := 61) (Nat.le_of_ble_eq_true rfl) dJ16_numberOfTrailingZeros_61 rfl ?_
    refine r_iload_n (pc := 62) dJ16_numberOfTrailingZeros_62 rfl rfl ?_
    refine r_iconst (pc := 63) dJ16_numberOfTrailingZeros_63 ?_
    refine r_icmp_le (pc := 64) 74 dJ16_numberOfTrailingZeros_64 rfl (by omega) (by omega) (fun h64 => ?_) (fun h64 => ?_)
    · omega
    refine r_iinc1 (pc := 67) (Nat.le_of_ble_eq_true rfl) dJ16_numberOfTrailingZeros_67 rfl ?_
    refine r_iload_n (pc := 70) dJ16_numberOfTrailingZeros_70 rfl rfl ?_
    refine r_iconst (pc := 71) dJ16_numberOfTrailingZeros_71 ?_
    refine r_iushr (pc := 72) dJ16_numberOfTrailingZeros_72 (by omega) ?_
    rw [show (7 : Int) % 4294967296 / ((2 ^ (2 : Int).toNat : Nat) : Int) = 1 from by decide]
    refine r_istore_n0 (pc := 73) (Nat.le_of_ble_eq_true rfl) dJ16_numberOfTrailingZeros_73 rfl ?_
    refine r_iload_n (pc := 74) dJ16_numberOfTrailingZeros_74 rfl rfl ?_
    refine r_iload_n (pc := 75) dJ16_numberOfTrailingZeros_75 rfl rfl ?_
    refine r_iconst (pc := 76) dJ16_numberOfTrailingZeros_76 ?_
    refine r_iushr (pc := 77) dJ16_numberOfTrailingZeros_77 (by omega) ?_
    rw [show (1 : Int) % 4294967296 / ((2 ^ (1 : Int).toNat : Nat) : Int) = 0 from by decide]
    refine r_iadd (pc := 78) dJ16_numberOfTrailingZeros_78 ?_
    refine r_ireturn (pc := 79) rfl rfl dJ16_numberOfTrailingZeros_79 (Nat.le_of_ble_eq_true rfl) (Nat.le_of_ble_eq_true rfl) ?_
    exact hQ
  · rw [show ((2 ^ (8 : Int).toNat - 1 : Nat) : Int) = 255 from by decide]
    refine r_istore_n0 (pc := 7) (Nat.le_of_ble_eq_true rfl) dJ16_numberOfTrailingZeros_7 rfl ?_
    refine r_iload_n (pc := 8) dJ16_numberOfTrailingZeros_8 rfl rfl ?_
    refine r_if_gt (pc := 9) 17 dJ16_numberOfTrailingZeros_9 rfl (by omega) (fun h9 => ?_) (fun h9 => ?_)
    rotate_left
    · omega
    refine r_iconst (pc := 17) dJ16_numberOfTrailingZeros_17 ?_
    refine r_istore_n1 (pc := 18) (Nat.le_of_ble_eq_true rfl) dJ16_numberOfTrailingZeros_18 rfl ?_
    refine r_iload_n (pc := 19) dJ16_numberOfTrailingZeros_19 rfl rfl ?_
    refine r_ldcw (pc := 20) (x := 65536) q1425 dJ16_numberOfTrailingZeros_20 (by decide +kernel) ?_
    refine r_icmp_le (pc := 23) 34 dJ16_numberOfTrailingZeros_23 rfl (by omega) (by omega) (fun h23 => ?_) (fun h23 => ?_)
    rotate_left
    · omega
    refine r_iload_n (pc := 34) dJ16_numberOfTrailingZeros_34 rfl rfl ?_
    refine r_sipush (pc := 35) dJ16_numberOfTrailingZeros_35 (by decide +kernel) ?_
    refine r_icmp_le (pc := 38) 49 dJ16_numberOfTrailingZeros_38 rfl (by omega) (by omega) (fun h38 => ?_) (fun h38 => ?_)
    rotate_left
    · omega
    refine r_iload_n (pc := 49) dJ16_numberOfTrailingZeros_49 rfl rfl ?_
    refine r_bipush (pc := 50) dJ16_numberOfTrailingZeros_50 (by decide +kernel) ?_
    refine r_icmp_le (pc := 52) 62 dJ16_numberOfTrailingZeros_52 rfl (by omega) (by omega) (fun h52 => ?_) (fun h52 => ?_)
    · omega
    refine r_iinc1 (pc := 55) (Nat.le_of_ble_eq_true rfl) dJ16_numberOfTrailingZeros_55 rfl ?_
    refine r_iload_n (pc := 58) dJ16_numberOfTrailingZeros_58 rfl rfl ?_
    refine r_iconst (pc := 59) dJ16_numberOfTrailingZeros_59 ?_
    refine r_iushr (pc := 60) dJ16_numberOfTrailingZeros_60 (by omega) ?_
    rw [show (255 : Int) % 4294967296 / ((2 ^ (4 : Int).toNat : Nat) : Int) = 15 from by decide]
    refine r_istore_n0 (pc := 61) (Nat.le_of_ble_eq_true rfl) dJ16_numberOfTrailingZeros_61 rfl ?_
    refine r_iload_n (pc := 62) dJ16_numberOfTrailingZeros_62 rfl rfl ?_
    refine r_iconst (pc := 63) dJ16_numberOfTrailingZeros_63 ?_
    refine r_icmp_le (pc := 64) 74 dJ16_numberOfTrailingZeros_64 rfl (by omega) (by omega) (fun h64 => ?_) (fun h64 => ?_)
    · omega
    refine r_iinc1 (pc := 67) (Nat.le_of_ble_eq_true rfl) dJ16_numberOfTrailingZeros_67 rfl ?_
    refine r_iload_n (pc := 70) dJ16_numberOfTrailingZeros_70 rfl rfl ?_
    refine r_iconst (pc := 71) dJ16_numberOfTrailingZeros_71 ?_
    refine r_iushr (pc := 72) dJ16_numberOfTrailingZeros_72 (by omega) ?_
    rw [show (15 : Int) % 4294967296 / ((2 ^ (2 : Int).toNat : Nat) : Int) = 3 from by decide]
    refine r_istore_n0 (pc := 73) (Nat.le_of_ble_eq_true rfl) dJ16_numberOfTrailingZeros_73 rfl ?_
    refine r_iload_n (pc := 74) dJ16_numberOfTrailingZeros_74 rfl rfl ?_
    refine r_iload_n (pc := 75) dJ16_numberOfTrailingZeros_75 rfl rfl ?_
    refine r_iconst (pc := 76) dJ16_numberOfTrailingZeros_76 ?_
    refine r_iushr (pc := 77) dJ16_numberOfTrailingZeros_77 (by omega) ?_
    rw [show (3 : Int) % 4294967296 / ((2 ^ (1 : Int).toNat : Nat) : Int) = 1 from by decide]
    refine r_iadd (pc := 78) dJ16_numberOfTrailingZeros_78 ?_
    refine r_ireturn (pc := 79) rfl rfl dJ16_numberOfTrailingZeros_79 (Nat.le_of_ble_eq_true rfl) (Nat.le_of_ble_eq_true rfl) ?_
    exact hQ
  · rw [show ((2 ^ (9 : Int).toNat - 1 : Nat) : Int) = 511 from by decide]
    refine r_istore_n0 (pc := 7) (Nat.le_of_ble_eq_true rfl) dJ16_numberOfTrailingZeros_7 rfl ?_
    refine r_iload_n (pc := 8) dJ16_numberOfTrailingZeros_8 rfl rfl ?_
    refine r_if_gt (pc := 9) 17 dJ16_numberOfTrailingZeros_9 rfl (by omega) (fun h9 => ?_) (fun h9 => ?_)
    rotate_left
    · omega
    refine r_iconst (pc := 17) dJ16_numberOfTrailingZeros_17 ?_
    refine r_istore_n1 (pc := 18) (Nat.le_of_ble_eq_true rfl) dJ16_numberOfTrailingZeros_18 rfl ?_
    refine r_iload_n (pc := 19) dJ16_numberOfTrailingZeros_19 rfl rfl ?_
    refine r_ldcw (pc := 20) (x := 65536) q1425 dJ16_numberOfTrailingZeros_20 (by decide +kernel) ?_
    refine r_icmp_le (pc := 23) 34 dJ16_numberOfTrailingZeros_23 rfl (by omega) (by omega) (fun h23 => ?_) (fun h23 => ?_)
    rotate_left
    · omega
    refine r_iload_n (pc := 34) dJ16_numberOfTrailingZeros_34 rfl rfl ?_
    refine r_sipush (pc := 35) dJ16_numberOfTrailingZeros_35 (by decide +kernel) ?_
    refine r_icmp_le (pc := 38) 49 dJ16_numberOfTrailingZeros_38 rfl (by omega) (by omega) (fun h38 => ?_) (fun h38 => ?_)
    · omega
    refine r_iinc1 (pc := 41) (Nat.le_of_ble_eq_true rfl) dJ16_numberOfTrailingZeros_41 rfl ?_
    refine r_iload_n (pc := 44) dJ16_numberOfTrailingZeros_44 rfl rfl ?_
    refine r_bipush (pc := 45) dJ16_numberOfTrailingZeros_45 (by decide +kernel) ?_
    refine r_iushr (pc := 47) dJ16_numberOfTrailingZeros_47 (by omega) ?_
    rw [show (511 : Int) % 4294967296 / ((2 ^ (8 : Int).toNat : Nat) : Int) = 1 from by decide]
    refine r_istore_n0 (pc := 48) (Nat.le_of_ble_eq_true rfl) dJ16_numberOfTrailingZeros_48 rfl ?_
    refine r_iload_n (pc := 49) dJ16_numberOfTrailingZeros_49 rfl rfl ?_
    refine r_bipush (pc := 50) dJ16_numberOfTrailingZeros_50 (by decide +kernel) ?_
    refine r_icmp_le (pc := 52) 62 dJ16_numberOfTrailingZeros_52 rfl (by omega) (by omega) (fun h52 => ?_) (fun h52 => ?_)
    rotate_left
    · omega
    refine r_iload_n (pc := 62) dJ16_numberOfTrailingZeros_62 rfl rfl ?_
    refine r_iconst (pc := 63) dJ16_numberOfTrailingZeros_63 ?_
    refine r_icmp_le (pc := 64) 74 dJ16_numberOfTrailingZeros_64 rfl (by omega) (by omega) (fun h64 => ?_) (fun h64 => ?_)
    rotate_left
    · omega
    refine r_iload_n (pc := 74) dJ16_numberOfTrailingZeros_74 rfl rfl ?_
    refine r_iload_n (pc := 75) dJ16_numberOfTrailingZeros_75 rfl rfl ?_
    refine r_iconst (pc := 76) dJ16_numberOfTrailingZeros_76 ?_
    refine r_iushr (pc := 77) dJ16_numberOfTrailingZeros_77 (by omega) ?_
    rw [show (1 : Int) % 4294967296 / ((2 ^ (1 : Int).toNat : Nat) : Int) = 0 from by decide]
    refine r_iadd (pc := 78) dJ16_numberOfTrailingZeros_78 ?_
    refine r_ireturn (pc := 79) rfl rfl dJ16_numberOfTrailingZeros_79 (Nat.le_of_ble_eq_true rfl) (Nat.le_of_ble_eq_true rfl) ?_
    exact hQ
  · rw [show ((2 ^ (10 : Int).toNat - 1 : Nat) : Int) = 1023 from by decide]
    refine r_istore_n0 (pc := 7) (Nat.le_of_ble_eq_true rfl) dJ16_numberOfTrailingZeros_7 rfl ?_
    refine r_iload_n (pc := 8) dJ16_numberOfTrailingZeros_8 rfl rfl ?_
    refine r_if_gt (pc := 9) 17 dJ16_numberOfTrailingZeros_9 rfl (by omega) (fun h9 => ?_) (fun h9 => ?_)
    rotate_left
    · omega
    refine r_iconst (pc := 17) dJ16_numberOfTrailingZeros_17 ?_
    refine r_istore_n1 (pc := 18) (Nat.le_of_ble_eq_true rfl) dJ16_numberOfTrailingZeros_18 rfl ?_
    refine r_iload_n (pc := 19) dJ16_numberOfTrailingZeros_19 rfl rfl ?_
    refine r_ldcw (pc := 20) (x := 65536) q1425 dJ16_numberOfTrailingZeros_20 (by decide +kernel) ?_
    refine r_icmp_le (pc := 23) 34 dJ16_numberOfTrailingZeros_23 rfl (by omega) (by omega) (fun h23 => ?_) (fun h23 => ?_)
    rotate_left
    · omega
    refine r_iload_n (pc := 34) dJ16_numberOfTrailingZeros_34 rfl rfl ?_
    refine r_sipush (pc := 35) dJ16_numberOfTrailingZeros_35 (by decide +kernel) ?_
    refine r_icmp_le (pc := 38) 49 dJ16_numberOfTrailingZeros_38 rfl (by omega) (by omega) (fun h38 => ?_) (fun h38 => ?_)
    · omega
    refine r_iinc1 (pc := 41) (Nat.le_of_ble_eq_true rfl) dJ16_numberOfTrailingZeros_41 rfl ?_
    refine r_iload_n (pc := 44) dJ16_numberOfTrailingZeros_44 rfl rfl ?_
    refine r_bipush (pc := 45) dJ16_numberOfTrailingZeros_45 (by decide +kernel) ?_
    refine r_iushr (pc := 47) dJ16_numberOfTrailingZeros_47 (by omega) ?_
    rw [show (1023 : Int) % 4294967296 / ((2 ^ (8 : Int).toNat : Nat) : Int) = 3 from by decide]
    refine r_istore_n0 (pc := 48) (Nat.le_of_ble_eq_true rfl) dJ16_numberOfTrailingZeros_48 rfl ?_
    refine r_iload_n (pc := 49) dJ16_numberOfTrailingZeros_49 rfl rfl ?_
    refine r_bipush (pc := 50) dJ16_numberOfTrailingZeros_50 (by decide +kernel) ?_
    refine r_icmp_le (pc := 52) 62 dJ16_numberOfTrailingZeros_52 rfl (by omega) (by omega) (fun h52 => ?_) (fun h52 => ?_)
    rotate_left
    · omega
    refine r_iload_n (pc := 62) dJ16_numberOfTrailingZeros_62 rfl rfl ?_
    refine r_iconst (pc := 63) dJ16_numberOfTrailingZeros_63 ?_
    refine r_icmp_le (pc := 64) 74 dJ16_numberOfTrailingZeros_64 rfl (by omega) (by omega) (fun h64 => ?_) (fun h64 => ?_)
    rotate_left
    · omega
    refine r_iload_n (pc := 74) dJ16_numberOfTrailingZeros_74 rfl rfl ?_
    refine r_iload_n (pc := 75) dJ16_numberOfTrailingZeros_75 rfl rfl ?_
    refine r_iconst (pc := 76) dJ16_numberOfTrailingZeros_76 ?_
    refine r_iushr (pc := 77) dJ16_numberOfTrailingZeros_77 (by omega) ?_
    rw [show (3 : Int) % 4294967296 / ((2 ^ (1 : Int).toNat : Nat) : Int) = 1 from by decide]
    refine r_iadd (pc := 78) dJ16_numberOfTrailingZeros_78 ?_
    refine r_ireturn (pc := 79) rfl rfl dJ16_numberOfTrailingZeros_79 (Nat.le_of_ble_eq_true rfl) (Nat.le_of_ble_eq_true rfl) ?_
    exact hQ
  · rw [show ((2 ^ (11 : Int).toNat - 1 : Nat) : Int) = 2047 from by decide]
    refine r_istore_n0 (pc := 7) (Nat.le_of_ble_eq_true rfl) dJ16_numberOfTrailingZeros_7 rfl ?_
    refine r_iload_n (pc := 8) dJ16_numberOfTrailingZeros_8 rfl rfl ?_
    refine r_if_gt (pc := 9) 17 dJ16_numberOfTrailingZeros_9 rfl (by omega) (fun h9 => ?_) (fun h9 => ?_)
    rotate_left
    · omega
    refine r_iconst (pc := 17) dJ16_numberOfTrailingZeros_17 ?_
    refine r_istore_n1 (pc := 18) (Nat.le_of_ble_eq_true rfl) dJ16_numberOfTrailingZeros_18 rfl ?_
    refine r_iload_n (pc := 19) dJ16_numberOfTrailingZeros_19 rfl rfl ?_
    refine r_ldcw (pc := 20) (x := 65536) q1425 dJ16_numberOfTrailingZeros_20 (by decide +kernel) ?_
    refine r_icmp_le (pc := 23) 34 dJ16_numberOfTrailingZeros_23 rfl (by omega) (by omega) (fun h23 => ?_) (fun h23 => ?_)
    rotate_left
    · omega
    refine r_iload_n (pc := 34) dJ16_numberOfTrailingZeros_34 rfl rfl ?_
    refine r_sipush (pc := 35) dJ16_numberOfTrailingZeros_35 (by decide +kernel) ?_
    refine r_icmp_le (pc := 38) 49 dJ16_numberOfTrailingZeros_38 rfl (by omega) (by omega) (fun h38 => ?_) (fun h38 => ?_)
    · omega
    refine r_iinc1 (pc := 41) (Nat.le_of_ble_eq_true rfl) dJ16_numberOfTrailingZeros_41 rfl ?_
    refine r_iload_n (pc := 44) dJ16_numberOfTrailingZeros_44 rfl rfl ?_
    refine r_bipush (pc := 45) dJ16_numberOfTrailingZeros_45 (by decide +kernel) ?_
    refine r_iushr (pc := 47) dJ16_numberOfTrailingZeros_47 (by omega) ?_
    rw [show (2047 : Int) % 4294967296 / ((2 ^ (8 : Int).toNat : Nat) : Int) = 7 from by decide]
    refine r_istore_n0 (pc := 48) (Nat.le_of_ble_eq_true rfl) dJ16_numberOfTrailingZeros_48 rfl ?_
    refine r_iload_n (pc := 49) dJ16_numberOfTrailingZeros_49 rfl rfl ?_
    refine r_bipush (pc := 50) dJ16_numberOfTrailingZeros_50 (by decide +kernel) ?_
    refine r_icmp_le (pc := 52) 62 dJ16_numberOfTrailingZeros_52 rfl (by omega) (by omega) (fun h52 => ?_) (fun h52 => ?_)
    rotate_left
    · omega
    refine r_iload_n (pc := 62) dJ16_numberOfTrailingZeros_62 rfl rfl ?_
    refine r_iconst (pc := 63) dJ16_numberOfTrailingZeros_63 ?_
    refine r_icmp_le (pc := 64) 74 dJ16_numberOfTrailingZeros_64 rfl (by omega) (by omega) (fun h64 => ?_) (fun h64 => ?_)
    · omega
    refine r_iinc1 (pc := 67) (Nat.le_of_ble_eq_true rfl) dJ16_numberOfTrailingZeros_67 rfl ?_
    refine r_iload_n (pc := 70) dJ16_numberOfTrailingZeros_70 rfl rfl ?_
    refine r_iconst (pc := 71) dJ16_numberOfTrailingZeros_71 ?_
    refine r_iushr (pc := 72) dJ16_numberOfTrailingZeros_72 (by omega) ?_
    rw [show (7 : Int) % 4294967296 / ((2 ^ (2 : Int).toNat : Nat) : Int) = 1 from by decide]
    refine r_istore_n0 (pc := 73) (Nat.le_of_ble_eq_true rfl) dJ16_numberOfTrailingZeros_73 rfl ?_
    refine r_iload_n (pc := 74) dJ16_numberOfTrailingZeros_74 rfl rfl ?_
    refine r_iload_n (pc := 75) dJ16_numberOfTrailingZeros_75 rfl rfl ?_
    refine r_iconst (pc := 76) dJ16_numberOfTrailingZeros_76 ?_
    refine r_iushr (pc := 77) dJ16_numberOfTrailingZeros_77 (by omega) ?_
    rw [show (1 : Int) % 4294967296 / ((2 ^ (1 : Int).toNat : Nat) : Int) = 0 from by decide]
    refine r_iadd (pc := 78) dJ16_numberOfTrailingZeros_78 ?_
    refine r_ireturn (pc := 79) rfl rfl dJ16_numberOfTrailingZeros_79 (Nat.le_of_ble_eq_true rfl) (Nat.le_of_ble_eq_true rfl) ?_
    exact hQ
  · rw [show ((2 ^ (12 : Int).toNat - 1 : Nat) : Int) = 4095 from by decide]
    refine r_istore_n0 (pc := 7) (Nat.le_of_ble_eq_true rfl) dJ16_numberOfTrailingZeros_7 rfl ?_
    refine r_iload_n (pc := 8) dJ16_numberOfTrailingZeros_8 rfl rfl ?_
    refine r_if_gt (pc := 9) 17 dJ16_numberOfTrailingZeros_9 rfl (by omega) (fun h9 => ?_) (fun h9 => ?_)
    rotate_left
    · omega
    refine r_iconst (pc := 17) dJ16_numberOfTrailingZeros_17 ?_
    refine r_istore_n1 (pc := 18) (Nat.le_of_ble_eq_true rfl) dJ16_numberOfTrailingZeros_18 rfl ?_
    refine r_iload_n (pc := 19) dJ16_numberOfTrailingZeros_19 rfl rfl ?_
    refine r_ldcw (pc := 20) (x := 65536) q1425 dJ16_numberOfTrailingZeros_20 (by decide +kernel) ?_
    refine r_icmp_le (pc := 23) 34 dJ16_numberOfTrailingZeros_23 rfl (by omega) (by omega) (fun h23 => ?_) (fun h23 => ?_)
    rotate_left
    · omega
    refine r_iload_n (pc := 34) dJ16_numberOfTrailingZeros_34 rfl rfl ?_
    refine r_sipush (pc := 35) dJ16_numberOfTrailingZeros_35 (by decide +kernel) ?_
    refine r_icmp_le (pc := 38) 49 dJ16_numberOfTrailingZeros_38 rfl (by omega) (by omega) (fun h38 => ?_) (fun h38 => ?_)
    · omega
    refine r_iinc1 (pc := 41) (Nat.le_of_ble_eq_true rfl) dJ16_numberOfTrailingZeros_41 rfl ?_
    refine r_iload_n (pc := 44) dJ16_numberOfTrailingZeros_44 rfl rfl ?_
    refine r_bipush (pc := 45) dJ16_numberOfTrailingZeros_45 (by decide +kernel) ?_
    refine r_iushr (pc := 47) dJ16_numberOfTrailingZeros_47 (by omega) ?_
    rw [show (4095 : Int) % 4294967296 / ((2 ^ (8 : Int).toNat : Nat) : Int) = 15 from by decide]
    refine r_istore_n0 (pc := 48) (Nat.le_of_ble_eq_true rfl) dJ16_numberOfTrailingZeros_48 rfl ?_
    refine r_iload_n (pc := 49) dJ16_numberOfTrailingZeros_49 rfl rfl ?_
    refine r_bipush (pc := 50) dJ16_numberOfTrailingZeros_50 (by decide +kernel) ?_
    refine r_icmp_le (pc := 52) 62 dJ16_numberOfTrailingZeros_52 rfl (by omega) (by omega) (fun h52 => ?_) (fun h52 => ?_)
    rotate_left
    · omega
    refine r_iload_n (pc := 62) dJ16_numberOfTrailingZeros_62 rfl rfl ?_
    refine r_iconst (pc := 63) dJ16_numberOfTrailingZeros_63 ?_
    refine r_icmp_le (pc := 64) 74 dJ16_numberOfTrailingZeros_64 rfl (by omega) (by omega) (fun h64 => ?_) (fun h64 => ?_)
    · omega
    refine r_iinc1 (pc := 67) (Nat.le_of_ble_eq_true rfl) dJ16_numberOfTrailingZeros_67 rfl ?_
    refine r_iload_n (pc := 70) dJ16_numberOfTrailingZeros_70 rfl rfl ?_
    refine r_iconst (pc := 71) dJ16_numberOfTrailingZeros_71 ?_
    refine r_iushr (pc := 72) dJ16_numberOfTrailingZeros_72 (by omega) ?_
    rw [show (15 : Int) % 4294967296 / ((2 ^ (2 : Int).toNat : Nat) : Int) = 3 from by decide]
    refine r_istore_n0 (pc := 73) (Nat.le_of_ble_eq_true rfl) dJ16_numberOfTrailingZeros_73 rfl ?_
    refine r_iload_n (pc := 74) dJ16_numberOfTrailingZeros_74 rfl rfl ?_
    refine r_iload_n (pc := 75) dJ16_numberOfTrailingZeros_75 rfl rfl ?_
    refine r_iconst (pc := 76) dJ16_numberOfTrailingZeros_76 ?_
    refine r_iushr (pc := 77) dJ16_numberOfTrailingZeros_77 (by omega) ?_
    rw [show (3 : Int) % 4294967296 / ((2 ^ (1 : Int).toNat : Nat) : Int) = 1 from by decide]
    refine r_iadd (pc := 78) dJ16_numberOfTrailingZeros_78 ?_
    refine r_ireturn (pc := 79) rfl rfl dJ16_numberOfTrailingZeros_79 (Nat.le_of_ble_eq_true rfl) (Nat.le_of_ble_eq_true rfl) ?_
    exact hQ
theorem C_kinds (hs : shG G P T g t) (hr : GR I g t σ μ) {p : Int} (hp : 0 ≤ p ∧ p < 6) (hQ : Q (some (iv (f_set σ p 13))) I J P T z) : MC G yX5_kinds (ws_ yX5_kinds cX5_kinds 4 (some FieldType.int)) (d) 0 0 [.ref g, iv p] I J P T z Q nX := by
  have hb := hs.b
  refine MC.of (by decide) (Nat.le_of_ble_eq_true rfl) ?_
  show PW G mX5_kinds (rmD (d) 0 0) (MZ G Q nX 0 0) 0 0 I J P T z 0 [some (.ref g), some (iv p), none, none] []
  refine r_iconst (pc := 0) dX5_kinds_0 ?_
  refine r_istore_n2 (pc := 1) (Nat.le_of_ble_eq_true rfl) dX5_kinds_1 rfl ?_
  refine r_iconst (pc := 2) dX5_kinds_2 ?_
  refine r_istore_n3 (pc := 3) (Nat.le_of_ble_eq_true rfl) dX5_kinds_3 rfl ?_
  have loop : ∀ (n : Nat) (i : Nat), i + n = 13 → PW G mX5_kinds (rmD (d) 0 0) (MZ G Q nX 0 0) 0 0 I J P T z 4 [some (.ref g), some (iv p), some (iv (f_set σ p i)), some (iv (i : Int))] [] := by
    intro n
    induction n with
    | zero =>
      intro i h1
      obtain rfl : i = 13 := by omega
      refine r_iload_n (pc := 4) dX5_kinds_4 rfl rfl ?_
      refine r_bipush (pc := 5) dX5_kinds_5 (by decide +kernel) ?_
      refine r_icmp_ge (pc := 7) 33 dX5_kinds_7 rfl (by omega) (by omega) (fun h7 => ?_) (fun h7 => ?_)
      · refine r_iload_n (pc := 33) dX5_kinds_33 rfl rfl ?_
        refine r_ireturn (pc := 34) rfl rfl dX5_kinds_34 (Nat.le_of_ble_eq_true rfl) (Nat.le_of_ble_eq_true rfl) ?_
        exact hQ
      omega
    | succ n ih =>
      intro i h1
      have fr := f_set_r (σ := σ) (k := p) i
      have p0 : 2 ^ i ≤ 2 ^ 12 := Nat.pow_le_pow_right (by decide) (by omega)
      refine r_iload_n (pc := 4) dX5_kinds_4 rfl rfl ?_
      refine r_bipush (pc := 5) dX5_kinds_5 (by decide +kernel) ?_
      refine r_icmp_ge (pc := 7) 33 dX5_kinds_7 rfl (by omega) (by omega) (fun h7 => ?_) (fun h7 => ?_)
      · omega
      have es : f_set σ p (i + 1) = (((f_set σ p i).toNat ||| (if 0 < σ (60 + 13 * p + i) then 2 ^ i else 0) : Nat) : Int) := rfl
      refine r_aload_n (pc := 10) dX5_kinds_10 rfl rfl ?_
      refine r_getrN (pc := 11) (c := 3) (k := 1) (kz := 1) hs.o cok_3 (Nat.le_of_ble_eq_true rfl) q271 ⟨rfl, rfl⟩ (Or.inl rfl) rfl (fun _ _ _ => rfl) hs.p_hand dX5_kinds_11 ?_
      refine r_iload_n (pc := 14) dX5_kinds_14 rfl rfl ?_
      refine r_aald (pc := 15) hs.t_hand ⟨by decide, by decide⟩ rfl (fun _ _ _ => rfl) (by omega) (by omega) (hs.q_hand (by omega) (by omega)) dX5_kinds_15 ?_
      refine r_iload_n (pc := 16) dX5_kinds_16 rfl rfl ?_
      refine r_iald (pc := 17) (hs.u_hand (by omega) (by omega)) (by omega) (by omega) dX5_kinds_17 (fun hr17 => ?_)
      rw [hr.hand (by omega) (by omega) (by omega) (by omega)] at hr17 ⊢
      refine r_if_le (pc := 18) 27 dX5_kinds_18 rfl (by omega) (fun h18 => ?_) (fun h18 => ?_)
      · refine r_iinc3 (pc := 27) (Nat.le_of_ble_eq_true rfl) dX5_kinds_27 rfl ?_
        refine r_goto (pc := 30) 4 dX5_kinds_30 rfl ?_
        rw [if_neg (by omega), Nat.or_zero, Int.toNat_of_nonneg fr.1] at es
        have := ih (i + 1) (by omega)
        rw [es, show ((i + 1 : Nat) : Int) = (i : Int) + 1 by omega] at this
        exact this
      rw [if_pos h18] at es
      refine r_iload_n (pc := 21) dX5_kinds_21 rfl rfl ?_
      refine r_iconst (pc := 22) dX5_kinds_22 ?_
      refine r_iload_n (pc := 23) dX5_kinds_23 rfl rfl ?_
      refine r_ishl (pc := 24) dX5_kinds_24 (by omega) ?_
      rw [Int.one_mul, Int.toNat_natCast]
      refine r_ior (pc := 25) dX5_kinds_25 (by omega) (by omega) ?_
      rw [Int.toNat_natCast, ← es]
      refine r_istore_n2 (pc := 26) (Nat.le_of_ble_eq_true rfl) dX5_kinds_26 rfl ?_
      refine r_iinc3 (pc := 27) (Nat.le_of_ble_eq_true rfl) dX5_kinds_27 rfl ?_
      refine r_goto (pc := 30) 4 dX5_kinds_30 rfl ?_
      have := ih (i + 1) (by omega)
      rw [show ((i + 1 : Nat) : Int) = (i : Int) + 1 by omega] at this
      exact this
  exact loop 13 0 (by omega)
theorem C_askb (hs : shG G P T g t) (hr : GR I g t σ μ) {p k : Int} (h1 : 2 ≤ σ 1 ∧ σ 1 ≤ 6) (hp : 0 ≤ p ∧ p < σ 1) (hk : 0 ≤ k ∧ k < 13) (hQ : Q (some (iv (100 * f_nwc σ p 1 (σ 1 - 1).toNat + k))) I J P T z) : MC G yX5_ask (ws_ yX5_ask cX5_ask 4 (some FieldType.int)) (d + 3) 0 0 [.ref g, iv p, iv k] I J P T z Q nX := by
  have hb := hs.b
  refine MC.of (by decide) (Nat.le_of_ble_eq_true rfl) ?_
  show PW G mX5_ask (rmD (d + 3) 0 0) (MZ G Q nX 0 0) 0 0 I J P T z 0 [some (.ref g), some (iv p), some (iv k), none] []
  have em : ∀ i : Int, 0 ≤ (p + i) % σ 1 ∧ (p + i) % σ 1 < σ 1 := fun i => ⟨Int.emod_nonneg _ (by omega), Int.emod_lt_of_pos _ (by omega)⟩
  refine r_aload_n (pc := 0) dX5_ask_0 rfl rfl ?_
  refine r_iload_n (pc := 1) dX5_ask_1 rfl rfl ?_
  refine r_callV1 (pc := 2) (C_next hs hr (by omega) (by omega) fe_i) im_X3_next q1431 q1429 hs.o rfl dX5_ask_2 (Nat.le_of_ble_eq_true rfl) (Nat.le_of_ble_eq_true rfl) rfl (k_fi ?_) (fun _ _ _ _ _ _ _ hx => no_x hx)
  refine r_istore_n3 (pc := 5) (Nat.le_of_ble_eq_true rfl) dX5_ask_5 rfl ?_
  have loop : ∀ (n : Nat) (i : Int), 1 ≤ i → i + n = σ 1 → f_nwc σ p i n = f_nwc σ p 1 (σ 1 - 1).toNat → PW G mX5_ask (rmD (d + 3) 0 0) (MZ G Q nX 0 0) 0 0 I J P T z 6 [some (.ref g), some (iv p), some (iv k), some (iv ((p + i) % σ 1))] [] := by
    intro n
    induction n with
    | zero =>
      intro i h0 hn he
      have hi := em i
      obtain rfl : i = σ 1 := by omega
      have e0 : (p + σ 1) % σ 1 = p := by rw [Int.add_emod_right, Int.emod_eq_of_lt hp.1 hp.2]
      refine r_iload_n (pc := 6) dX5_ask_6 rfl rfl ?_
      refine r_iload_n (pc := 7) dX5_ask_7 rfl rfl ?_
      refine r_icmp_eq (pc := 8) 35 dX5_ask_8 rfl (by omega) (by omega) (fun h8 => ?_) (fun h8 => ?_)
      · refine r_bipush (pc := 35) dX5_ask_35 (by decide +kernel) ?_
        refine r_aload_n (pc := 37) dX5_ask_37 rfl rfl ?_
        refine r_iload_n (pc := 38) dX5_ask_38 rfl rfl ?_
        refine r_callV1 (pc := 39) (C_next hs hr (by omega) (by omega) fe_i) im_X3_next q1431 q1429 hs.o rfl dX5_ask_39 (Nat.le_of_ble_eq_true rfl) (Nat.le_of_ble_eq_true rfl) rfl (k_fi ?_) (fun _ _ _ _ _ _ _ hx => no_x hx)
        have he : (p + 1) % σ 1 = f_nwc σ p 1 (σ 1 - 1).toNat := he
        have hi1 := em 1
        refine r_imul (pc := 42) dX5_ask_42 ?_
        refine r_iload_n (pc := 43) dX5_ask_43 rfl rfl ?_
        refine r_iadd (pc := 44) dX5_ask_44 ?_
        refine r_ireturn (pc := 45) rfl rfl dX5_ask_45 (Nat.le_of_ble_eq_true rfl) (Nat.le_of_ble_eq_true rfl) ?_
        rw [← he] at hQ
        exact hQ
      exact absurd e0 h8
    | succ n ih =>
      intro i h0 hn he
      have hi := em i
      have hc : (p + i) % σ 1 ≠ p := by
        by_cases c : p + i < σ 1
        · rw [Int.emod_eq_of_lt (by omega) c]; omega
        · have : (p + i) % σ 1 = p + i - σ 1 := by
            rw [← Int.sub_emod_right, Int.emod_eq_of_lt (by omega) (by omega)]
          omega
      simp only [f_nwc] at he
      refine r_iload_n (pc := 6) dX5_ask_6 rfl rfl ?_
      refine r_iload_n (pc := 7) dX5_ask_7 rfl rfl ?_
      refine r_icmp_eq (pc := 8) 35 dX5_ask_8 rfl (by omega) (by omega) (fun h8 => ?_) (fun h8 => ?_)
      · exact absurd h8 hc
      refine r_aload_n (pc := 11) dX5_ask_11 rfl rfl ?_
      refine r_iload_n (pc := 12) dX5_ask_12 rfl rfl ?_
      refine r_callV1 (pc := 13) (C_size hs hr (by omega) fe_i) im_X3_size q383 q1433 hs.o rfl dX5_ask_13 (Nat.le_of_ble_eq_true rfl) (Nat.le_of_ble_eq_true rfl) rfl (k_fi ?_) (fun _ _ _ _ _ _ _ hx => no_x hx)
      refine r_if_le (pc := 16) 26 dX5_ask_16 rfl f_cards_r (fun h16 => ?_) (fun h16 => ?_)
      · rw [if_neg (by omega)] at he
        refine r_aload_n (pc := 26) dX5_ask_26 rfl rfl ?_
        refine r_iload_n (pc := 27) dX5_ask_27 rfl rfl ?_
        refine r_callV1 (pc := 28) (C_next hs hr (by omega) (by omega) fe_i) im_X3_next q1431 q1429 hs.o rfl dX5_ask_28 (Nat.le_of_ble_eq_true rfl) (Nat.le_of_ble_eq_true rfl) rfl (k_fi ?_) (fun _ _ _ _ _ _ _ hx => no_x hx)
        refine r_istore_n3 (pc := 31) (Nat.le_of_ble_eq_true rfl) dX5_ask_31 rfl ?_
        refine r_goto (pc := 32) 6 dX5_ask_32 rfl ?_
        rw [show ((p + i) % σ 1 + 1) % σ 1 = (p + (i + 1)) % σ 1 by rw [Int.emod_add_emod]; congr 1; omega]
        exact ih (i + 1) (by omega) (by omega) he
      rw [if_pos h16] at he
      refine r_bipush (pc := 19) dX5_ask_19 (by decide +kernel) ?_
      refine r_iload_n (pc := 21) dX5_ask_21 rfl rfl ?_
      refine r_imul (pc := 22) dX5_ask_22 ?_
      refine r_iload_n (pc := 23) dX5_ask_23 rfl rfl ?_
      refine r_iadd (pc := 24) dX5_ask_24 ?_
      refine r_ireturn (pc := 25) rfl rfl dX5_ask_25 (Nat.le_of_ble_eq_true rfl) (Nat.le_of_ble_eq_true rfl) ?_
      rw [← he] at hQ
      exact hQ
  exact loop (σ 1 - 1).toNat 1 (by omega) (by omega) rfl
/-- what is known of a hand that asks -/
def HN (σ : Int → Int) (p : Int) : Prop := (2 ≤ σ 1 ∧ σ 1 ≤ 6) ∧ (0 ≤ p ∧ p < σ 1) ∧ (∀ k, 0 ≤ k → k < 13 → 0 ≤ σ (60 + 13 * p + k)) ∧ (∃ j, 0 ≤ j ∧ j < 13 ∧ σ (60 + 13 * p + j) ≠ 0) ∧ (0 ≤ σ (565 + p) ∧ σ (565 + p) ≤ 13)
theorem HN.lv {p : Int} (h : HN σ p) : 0 ≤ f_least σ p 0 13 ∧ f_least σ p 0 13 < 13 ∧ 0 < σ (60 + 13 * p + f_least σ p 0 13) ∧ ∀ j, 0 ≤ j → j < f_least σ p 0 13 → σ (60 + 13 * p + j) = 0 := f_least_v h.2.2.1 13 0 (by omega) (by omega) h.2.2.2.1 (fun j a b => by omega)
theorem C_least (hs : shG G P T g t) (hr : GR I g t σ μ) {p : Int} (h : HN σ p) (hQ : Q (some (iv (100 * f_nwc σ p 1 (σ 1 - 1).toNat + f_least σ p 0 13))) I J P T z) : MC G yX5_least (ws_ yX5_least cX5_least 2 (some FieldType.int)) (d + 4) 0 0 [.ref g, iv p] I J P T z Q nX := by
  have hb := hs.b
  obtain ⟨h1, hp, hz, hx, hdr⟩ := id h
  obtain ⟨l0, l1, l2, l3⟩ := h.lv
  have fr := f_set_r (σ := σ) (k := p) 13
  refine MC.of (by decide) (Nat.le_of_ble_eq_true rfl) ?_
  show PW G mX5_least (rmD (d + 4) 0 0) (MZ G Q nX 0 0) 0 0 I J P T z 0 [some (.ref g), some (iv p)] []
  refine r_aload_n (pc := 0) dX5_least_0 rfl rfl ?_
  refine r_iload_n (pc := 1) dX5_least_1 rfl rfl ?_
  refine r_aload_n (pc := 2) dX5_least_2 rfl rfl ?_
  refine r_iload_n (pc := 3) dX5_least_3 rfl rfl ?_
  refine r_callS2 (pc := 4) (C_kinds hs hr (by omega) fe_i) im_X5_kinds q1421 dX5_least_4 (Nat.le_of_ble_eq_true rfl) (Nat.le_of_ble_eq_true rfl) rfl (k_fi ?_) (fun _ _ _ _ _ _ _ hx => no_x hx)
  refine r_callS1 (pc := 7) (C_ntz (k := f_least σ p 0 13) ⟨fr.1, by have := fr.2; omega⟩ (by omega) ((f_set_tb 13 l0).mpr ⟨by omega, l2⟩) (fun j a b q => by have := (f_set_tb 13 a).mp q; have := l3 j a b; omega) fe_i) im_J16_numberOfTrailingZeros q1422 dX5_least_7 (Nat.le_of_ble_eq_true rfl) (Nat.le_of_ble_eq_true rfl) rfl (k_fi ?_) (fun _ _ _ _ _ _ _ hx => no_x hx)
  refine r_callS3 (pc := 10) (C_askb hs hr h1 hp (by omega) fe_i) im_X5_ask q1426 dX5_least_10 (Nat.le_of_ble_eq_true rfl) (Nat.le_of_ble_eq_true rfl) rfl (k_fi ?_) (fun _ _ _ _ _ _ _ hx => no_x hx)
  refine r_ireturn (pc := 13) rfl rfl dX5_least_13 (Nat.le_of_ble_eq_true rfl) (Nat.le_of_ble_eq_true rfl) ?_
  exact hQ
end K9
