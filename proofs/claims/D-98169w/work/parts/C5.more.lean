/-! ===== more rows ===== -/
theorem n_i (a : Nat) : Int32.ofInt (a : Int) = nI a := Int32.ofInt_eq_ofNat
theorem n_j (a : Nat) : Int64.ofInt (a : Int) = lN a := Int64.ofInt_eq_ofNat
theorem i_nat {x : Int} (h : 0 ≤ x) : ∃ a : Nat, x = (a : Int) := ⟨x.toNat, (Int.toNat_of_nonneg h).symm⟩
theorem i_div {x y : Int} (hx : 0 ≤ x ∧ x < 2147483648) (hy : 0 < y ∧ y < 2147483648) : Int32.ofInt x / Int32.ofInt y = Int32.ofInt (x / y) := by
  obtain ⟨a, rfl⟩ := i_nat hx.1
  obtain ⟨b, rfl⟩ := i_nat (Int.le_of_lt hy.1)
  rw [n_i, n_i, pk_div (by omega) (by omega) (by omega), ← n_i]
  rfl
theorem i_rem {x y : Int} (hx : 0 ≤ x ∧ x < 2147483648) (hy : 0 < y ∧ y < 2147483648) : Int32.ofInt x - Int32.ofInt x / Int32.ofInt y * Int32.ofInt y = Int32.ofInt (x % y) := by
  obtain ⟨a, rfl⟩ := i_nat hx.1
  obtain ⟨b, rfl⟩ := i_nat (Int.le_of_lt hy.1)
  rw [n_i, n_i, pk_rem (by omega) (by omega) (by omega), ← n_i]
  rfl
theorem j_div {x y : Int} (hx : 0 ≤ x ∧ x < 9223372036854775808) (hy : 0 < y ∧ y < 9223372036854775808) : Int64.ofInt x / Int64.ofInt y = Int64.ofInt (x / y) := by
  obtain ⟨a, rfl⟩ := i_nat hx.1
  obtain ⟨b, rfl⟩ := i_nat (Int.le_of_lt hy.1)
  rw [n_j, n_j, pk_lDiv (by omega) (by omega) (by omega), ← n_j]
  rfl
theorem j_rem {x y : Int} (hx : 0 ≤ x ∧ x < 9223372036854775808) (hy : 0 < y ∧ y < 9223372036854775808) : Int64.ofInt x - Int64.ofInt x / Int64.ofInt y * Int64.ofInt y = Int64.ofInt (x % y) := by
  obtain ⟨a, rfl⟩ := i_nat hx.1
  obtain ⟨b, rfl⟩ := i_nat (Int.le_of_lt hy.1)
  rw [n_j, n_j, pk_lRem (by omega) (by omega) (by omega), ← n_j]
  rfl
theorem i_ne0 {y : Int} (hy : 0 < y ∧ y < 2147483648) : ¬ Int32.ofInt y = 0 := by
  rw [i_0, i_eq (by omega) (by omega)]; omega
theorem j_ne0 {y : Int} (hy : 0 < y ∧ y < 9223372036854775808) : ¬ Int64.ofInt y = 0 := by
  rw [show (0 : Int64) = Int64.ofInt 0 from rfl, ← Int64.toInt_inj, j_t (by omega), j_t (by omega)]; omega
theorem i_tn (x : Int) : (Int32.ofInt x).toBitVec.toNat = (x % 4294967296).toNat := by
  show (BitVec.ofInt 32 x).toNat = _
  rw [BitVec.toNat_ofInt]
  rfl
theorem i_inj {a b : Int32} (h : a.toBitVec.toNat = b.toBitVec.toNat) : a = b := Int32.toBitVec_inj.mp (BitVec.eq_of_toNat_eq h)
theorem s_l : ∀ n, n < 32 → ((nI n &&& 31).toBitVec.smod 32).toNat = n := by decide +kernel
theorem s_u : ∀ n, n < 32 → (((nI n).toUInt32 &&& Int32.toUInt32 31).toBitVec % 32).toNat = n := by decide +kernel
theorem i_and {x : Int} (k : Nat) {m : Int32} (hm : m.toBitVec.toNat = 2 ^ k - 1) (hk : k ≤ 31) : Int32.ofInt x &&& m = Int32.ofInt (x % (2 ^ k : Nat)) := by
  rw [pk_and _ k hm, i_tn, ← n_i]
  congr 1
  have h1 : (((x % 4294967296).toNat : Nat) : Int) = x % 4294967296 := Int.toNat_of_nonneg (Int.emod_nonneg _ (by decide))
  rw [Int.natCast_emod, h1, Int.emod_emod_of_dvd]
  exact ⟨((2 ^ (32 - k) : Nat) : Int), by rw [← Int.natCast_mul, ← Nat.pow_add, show k + (32 - k) = 32 by omega]; rfl⟩
theorem i_shl {x y : Int} (hy : 0 ≤ y ∧ y < 32) : Int32.ofInt x <<< (Int32.ofInt y &&& 31) = Int32.ofInt (x * (2 ^ y.toNat : Nat)) := by
  obtain ⟨k, rfl⟩ := i_nat hy.1
  rw [n_i]
  apply i_inj
  rw [pk_shl _ _ k (s_l k (by omega)), i_tn, i_tn, Int.toNat_natCast]
  have h1 : (((x % 4294967296).toNat : Nat) : Int) = x % 4294967296 := Int.toNat_of_nonneg (Int.emod_nonneg _ (by decide))
  have h2 : (((x * (2 ^ k : Nat)) % 4294967296).toNat : Int) = (x * (2 ^ k : Nat)) % 4294967296 := Int.toNat_of_nonneg (Int.emod_nonneg _ (by decide))
  have h3 : (((x % 4294967296).toNat * 2 ^ k % 2 ^ 32 : Nat) : Int) = (((x * (2 ^ k : Nat)) % 4294967296).toNat : Int) := by
    rw [h2, Int.natCast_emod, Int.natCast_mul, h1]
    show (x % 4294967296 * ((2 ^ k : Nat) : Int)) % 4294967296 = _
    rw [Int.mul_emod, Int.emod_emod_of_dvd _ (Int.dvd_refl _), ← Int.mul_emod]
  omega
theorem i_shr {x y : Int} (hx : rg x) (hy : 0 ≤ y ∧ y < 32) : Int32.ofInt x >>> (Int32.ofInt y &&& 31) = Int32.ofInt (x / (2 ^ y.toNat : Nat)) := by
  obtain ⟨k, rfl⟩ := i_nat hy.1
  rw [n_i, ← Int32.toInt_inj, pk_shr _ _ k (s_l k (by omega)), i_t hx, Int.shiftRight_eq_div_pow, Int.toNat_natCast, i_t]
  have hp : (0 : Int) < ((2 ^ k : Nat) : Int) := by have := Nat.pow_pos (n := k) (show 0 < 2 by decide); omega
  have h1 : (1 : Int) ≤ ((2 ^ k : Nat) : Int) := by omega
  constructor
  · rw [Int.le_ediv_iff_mul_le hp]
    have := Int.mul_le_mul_of_nonneg_left h1 (show (0 : Int) ≤ 2147483648 by decide)
    omega
  · rcases Int.lt_or_le x 0 with q | q
    · have := Int.ediv_neg_of_neg_of_pos q hp
      omega
    · have := Int.ediv_le_self ((2 ^ k : Nat) : Int) q
      omega
theorem i_ushr {x y : Int} (hy : 0 ≤ y ∧ y < 32) : ((Int32.ofInt x).toUInt32 >>> ((Int32.ofInt y).toUInt32 &&& Int32.toUInt32 31)).toInt32 = Int32.ofInt (x % 4294967296 / (2 ^ y.toNat : Nat)) := by
  obtain ⟨k, rfl⟩ := i_nat hy.1
  rw [n_i]
  apply i_inj
  rw [pk_ushr _ _ k (s_u k (by omega)), i_tn, i_tn, Int.toNat_natCast]
  obtain ⟨a, ha⟩ := i_nat (Int.emod_nonneg x (show (4294967296 : Int) ≠ 0 by decide))
  have hlt := Int.emod_lt_of_pos x (show (0 : Int) < 4294967296 by decide)
  rw [ha] at hlt ⊢
  rw [← Int.natCast_ediv, Int.toNat_natCast]
  have h1 : a / 2 ^ k ≤ a := Nat.div_le_self _ _
  generalize a / 2 ^ k = b at h1 ⊢
  omega
theorem i_or {x y : Int} (hx : 0 ≤ x ∧ x < 2147483648) (hy : 0 ≤ y ∧ y < 2147483648) : Int32.ofInt x ||| Int32.ofInt y = Int32.ofInt ((x.toNat ||| y.toNat : Nat) : Int) := by
  obtain ⟨a, rfl⟩ := i_nat hx.1
  obtain ⟨b, rfl⟩ := i_nat hy.1
  simp only [Int.toNat_natCast]
  rw [n_i, n_i, n_i]
  apply i_inj
  rw [Int32.toBitVec_or, BitVec.toNat_or, pk_tn (by omega), pk_tn (by omega), pk_tn (Nat.or_lt_two_pow (n := 32) (by omega) (by omega))]
theorem wb_tb (n : Nat) : (lN n).toBitVec = BitVec.ofNat 64 n := rfl
theorem wb_inj {a b : Int64} (h : a.toBitVec = b.toBitVec) : a = b := Int64.toBitVec_inj.mp h
theorem wb_c : ∀ k, k < 64 → ((nI k).toInt64 &&& 63) = lN k := by decide +kernel
theorem wb_sm : ∀ k, k < 64 → (BitVec.ofNat 64 k).smod 64 = BitVec.ofNat 64 k := by decide +kernel
theorem wb_shl (n : Nat) {k : Nat} (hk : k < 64) : lN n <<< ((nI k).toInt64 &&& 63) = lN (n * 2 ^ k) := by
  rw [wb_c k hk]
  apply wb_inj
  rw [Int64.toBitVec_shiftLeft, wb_tb, wb_tb, wb_tb, wb_sm k hk]
  apply BitVec.eq_of_toNat_eq
  rw [BitVec.shiftLeft_eq', BitVec.toNat_shiftLeft, BitVec.toNat_ofNat, BitVec.toNat_ofNat, BitVec.toNat_ofNat, Nat.mod_eq_of_lt (show k < 2 ^ 64 by omega), Nat.shiftLeft_eq, Nat.mul_mod, Nat.mod_mod, ← Nat.mul_mod]
theorem wb_or {a b : Nat} (ha : a < 2 ^ 64) (hb : b < 2 ^ 64) : lN a ||| lN b = lN (a ||| b) := by
  apply wb_inj
  rw [Int64.toBitVec_or, wb_tb, wb_tb, wb_tb]
  apply BitVec.eq_of_toNat_eq
  rw [BitVec.toNat_or, BitVec.toNat_ofNat, BitVec.toNat_ofNat, BitVec.toNat_ofNat, Nat.mod_eq_of_lt ha, Nat.mod_eq_of_lt hb, Nat.mod_eq_of_lt (Nat.or_lt_two_pow ha hb)]
theorem j_shl {x y : Int} (hx : 0 ≤ x) (hy : 0 ≤ y ∧ y < 64) : Int64.ofInt x <<< ((Int32.ofInt y).toInt64 &&& 63) = Int64.ofInt (x * (2 ^ y.toNat : Nat)) := by
  obtain ⟨a, rfl⟩ := i_nat hx
  obtain ⟨k, rfl⟩ := i_nat hy.1
  rw [n_i, n_j, wb_shl a (by omega), Int.toNat_natCast, ← Int.natCast_mul, n_j]
theorem j_or {x y : Int} (hx : 0 ≤ x ∧ x < 9223372036854775808) (hy : 0 ≤ y ∧ y < 9223372036854775808) : Int64.ofInt x ||| Int64.ofInt y = Int64.ofInt ((x.toNat ||| y.toNat : Nat) : Int) := by
  obtain ⟨a, rfl⟩ := i_nat hx.1
  obtain ⟨b, rfl⟩ := i_nat hy.1
  simp only [Int.toNat_natCast]
  rw [n_j, n_j, n_j, wb_or (by omega) (by omega)]
theorem i_2l {x : Int} (hx : rg x) : (Int32.ofInt x).toInt64 = Int64.ofInt x := by
  rw [← Int64.toInt_inj, Int32.toInt_toInt64, i_t hx, j_t (by omega)]
theorem i_2b {x : Int} : (Int32.ofInt x).toInt8.toInt32 = Int32.ofInt ((x + 128) % 256 - 128) := by
  rw [← Int32.toInt_inj, i_t (by omega), Int8.toInt_toInt32, Int32.toInt_toInt8, Int32.toInt_ofInt]
  simp only [Int.bmod, Int32.size]
  split <;> split <;> omega
theorem i_2c {x : Int} : ((Int32.ofInt x).toUInt32 % 65536).toInt32 = Int32.ofInt (x % 65536) := by
  rw [pk_char, i_tn, ← n_i]
  congr 1
  have h1 : (((x % 4294967296).toNat : Nat) : Int) = x % 4294967296 := Int.toNat_of_nonneg (Int.emod_nonneg _ (by decide))
  rw [Int.natCast_emod, h1]
  omega
/-- two longs compared -/
def lc (x y : Int) : Int := if y < x then 1 else if x = y then 0 else -1
theorem lc_r {x y : Int} : -1 ≤ lc x y ∧ lc x y ≤ 1 := by unfold lc; split; omega; split <;> omega
theorem lc_eq {x y : Int} : lc x y = 0 ↔ x = y := by unfold lc; split; omega; split <;> omega
theorem lc_gt {x y : Int} : 0 < lc x y ↔ y < x := by unfold lc; split; omega; split <;> omega
theorem lc_lt {x y : Int} : lc x y < 0 ↔ x < y := by unfold lc; split; omega; split <;> omega
theorem j_cmp {x y : Int} (hx : rgj x) (hy : rgj y) : lg_cmp (Int64.ofInt x) (Int64.ofInt y) = Int32.ofInt (lc x y) := by
  unfold lg_cmp lc
  simp only [gt_iff_lt, Int64.lt_iff_toInt_lt, ← Int64.toInt_inj, j_t hx, j_t hy]
  split
  · rfl
  · split <;> rfl
section R5
variable {G : GE} {M : MI} {R : Room} {Z : ZP} {cu su : Nat} {I J : HI} {P : HP} {T : HT} {z pc : Nat} {ls : List (Option Value)} {st : List Value}
theorem r_idiv {x y : Int} (d : decode M.2.1 pc = .ok (.idiv, 1)) (hx : 0 ≤ x ∧ x < 2147483648) (hy : 0 < y ∧ y < 2147483648) (k : PW G M R Z cu su I J P T z (pc + 1) ls (iv (x / y) :: st)) : PW G M R Z cu su I J P T z pc ls (iv y :: iv x :: st) := by
  intro p e s m args below meth c0 H locs la hC hR hS hL
  have k := k p e s m args below meth c0 H locs la hC hR hS hL
  unfold iv at k ⊢
  rw [← i_div hx hy] at k
  exact lv_idiv hC.x hC.b d (i_ne0 hy) k
theorem r_irem {x y : Int} (d : decode M.2.1 pc = .ok (.irem, 1)) (hx : 0 ≤ x ∧ x < 2147483648) (hy : 0 < y ∧ y < 2147483648) (k : PW G M R Z cu su I J P T z (pc + 1) ls (iv (x % y) :: st)) : PW G M R Z cu su I J P T z pc ls (iv y :: iv x :: st) := by
  intro p e s m args below meth c0 H locs la hC hR hS hL
  have k := k p e s m args below meth c0 H locs la hC hR hS hL
  unfold iv at k ⊢
  rw [← i_rem hx hy] at k
  exact lv_irem hC.x hC.b d (i_ne0 hy) k
theorem r_ldiv {x y : Int} (d : decode M.2.1 pc = .ok (.ldiv, 1)) (hx : 0 ≤ x ∧ x < 9223372036854775808) (hy : 0 < y ∧ y < 9223372036854775808) (k : PW G M R Z cu su I J P T z (pc + 1) ls (jv (x / y) :: st)) : PW G M R Z cu su I J P T z pc ls (jv y :: jv x :: st) := by
  intro p e s m args below meth c0 H locs la hC hR hS hL
  have k := k p e s m args below meth c0 H locs la hC hR hS hL
  unfold jv at k ⊢
  rw [← j_div hx hy] at k
  exact lv_ldiv hC.x hC.b d (j_ne0 hy) k
theorem r_lrem {x y : Int} (d : decode M.2.1 pc = .ok (.lrem, 1)) (hx : 0 ≤ x ∧ x < 9223372036854775808) (hy : 0 < y ∧ y < 9223372036854775808) (k : PW G M R Z cu su I J P T z (pc + 1) ls (jv (x % y) :: st)) : PW G M R Z cu su I J P T z pc ls (jv y :: jv x :: st) := by
  intro p e s m args below meth c0 H locs la hC hR hS hL
  have k := k p e s m args below meth c0 H locs la hC hR hS hL
  unfold jv at k ⊢
  rw [← j_rem hx hy] at k
  exact lv_lrem hC.x hC.b d (j_ne0 hy) k
theorem r_ishl {x y : Int} (d : decode M.2.1 pc = .ok (.ishl, 1)) (hy : 0 ≤ y ∧ y < 32) (k : PW G M R Z cu su I J P T z (pc + 1) ls (iv (x * (2 ^ y.toNat : Nat)) :: st)) : PW G M R Z cu su I J P T z pc ls (iv y :: iv x :: st) := by
  intro p e s m args below meth c0 H locs la hC hR hS hL
  have k := k p e s m args below meth c0 H locs la hC hR hS hL
  unfold iv at k ⊢
  rw [← i_shl hy] at k
  exact lv_ishl hC.x hC.b d k
theorem r_ishr {x y : Int} (d : decode M.2.1 pc = .ok (.ishr, 1)) (hx : rg x) (hy : 0 ≤ y ∧ y < 32) (k : PW G M R Z cu su I J P T z (pc + 1) ls (iv (x / (2 ^ y.toNat : Nat)) :: st)) : PW G M R Z cu su I J P T z pc ls (iv y :: iv x :: st) := by
  intro p e s m args below meth c0 H locs la hC hR hS hL
  have k := k p e s m args below meth c0 H locs la hC hR hS hL
  unfold iv at k ⊢
  rw [← i_shr hx hy] at k
  exact lv_ishr hC.x hC.b d k
theorem r_ior {x y : Int} (d : decode M.2.1 pc = .ok (.ior, 1)) (hx : 0 ≤ x ∧ x < 2147483648) (hy : 0 ≤ y ∧ y < 2147483648) (k : PW G M R Z cu su I J P T z (pc + 1) ls (iv (((x.toNat ||| y.toNat : Nat) : Int)) :: st)) : PW G M R Z cu su I J P T z pc ls (iv y :: iv x :: st) := by
  intro p e s m args below meth c0 H locs la hC hR hS hL
  have k := k p e s m args below meth c0 H locs la hC hR hS hL
  unfold iv at k ⊢
  rw [← i_or hx hy] at k
  exact lv_ior hC.x hC.b d k
theorem r_lor {x y : Int} (d : decode M.2.1 pc = .ok (.lor, 1)) (hx : 0 ≤ x ∧ x < 9223372036854775808) (hy : 0 ≤ y ∧ y < 9223372036854775808) (k : PW G M R Z cu su I J P T z (pc + 1) ls (jv (((x.toNat ||| y.toNat : Nat) : Int)) :: st)) : PW G M R Z cu su I J P T z pc ls (jv y :: jv x :: st) := by
  intro p e s m args below meth c0 H locs la hC hR hS hL
  have k := k p e s m args below meth c0 H locs la hC hR hS hL
  unfold jv at k ⊢
  rw [← j_or hx hy] at k
  exact lv_lor hC.x hC.b d k
theorem r_iushr {x y : Int} (d : decode M.2.1 pc = .ok (.iushr, 1)) (hy : 0 ≤ y ∧ y < 32) (k : PW G M R Z cu su I J P T z (pc + 1) ls (iv (x % 4294967296 / (2 ^ y.toNat : Nat)) :: st)) : PW G M R Z cu su I J P T z pc ls (iv y :: iv x :: st) := by
  intro p e s m args below meth c0 H locs la hC hR hS hL
  exact lv_iushr hC.x hC.b d (i_ushr hy) (k p e s m args below meth c0 H locs la hC hR hS hL)
theorem r_lshl {x y : Int} (d : decode M.2.1 pc = .ok (.lshl, 1)) (hx : 0 ≤ x) (hy : 0 ≤ y ∧ y < 64) (k : PW G M R Z cu su I J P T z (pc + 1) ls (jv (x * (2 ^ y.toNat : Nat)) :: st)) : PW G M R Z cu su I J P T z pc ls (iv y :: jv x :: st) := by
  intro p e s m args below meth c0 H locs la hC hR hS hL
  exact lv_lshl hC.x hC.b d (j_shl hx hy) (k p e s m args below meth c0 H locs la hC hR hS hL)
theorem r_iand {x y : Int} (n : Nat) (r : Int) (d : decode M.2.1 pc = .ok (.iand, 1)) (hm : (Int32.ofInt y).toBitVec.toNat = 2 ^ n - 1) (hn : n ≤ 31) (hr : ((2 ^ n : Nat) : Int) = r) (k : PW G M R Z cu su I J P T z (pc + 1) ls (iv (x % r) :: st)) : PW G M R Z cu su I J P T z pc ls (iv y :: iv x :: st) := by
  intro p e s m args below meth c0 H locs la hC hR hS hL
  have k := k p e s m args below meth c0 H locs la hC hR hS hL
  unfold iv at k ⊢
  rw [← hr, ← i_and n hm hn] at k
  exact lv_iand hC.x hC.b d k
theorem r_i2l {x : Int} (d : decode M.2.1 pc = .ok (.i2l, 1)) (hx : rg x) (k : PW G M R Z cu su I J P T z (pc + 1) ls (jv x :: st)) : PW G M R Z cu su I J P T z pc ls (iv x :: st) := by
  intro p e s m args below meth c0 H locs la hC hR hS hL
  exact lv_i2l hC.x hC.b d (i_2l hx) (k p e s m args below meth c0 H locs la hC hR hS hL)
theorem r_i2b {x : Int} (d : decode M.2.1 pc = .ok (.i2b, 1)) (k : PW G M R Z cu su I J P T z (pc + 1) ls (iv ((x + 128) % 256 - 128) :: st)) : PW G M R Z cu su I J P T z pc ls (iv x :: st) := by
  intro p e s m args below meth c0 H locs la hC hR hS hL
  exact lv_i2b hC.x hC.b d i_2b (k p e s m args below meth c0 H locs la hC hR hS hL)
theorem r_i2c {x : Int} (d : decode M.2.1 pc = .ok (.i2c, 1)) (k : PW G M R Z cu su I J P T z (pc + 1) ls (iv (x % 65536) :: st)) : PW G M R Z cu su I J P T z pc ls (iv x :: st) := by
  intro p e s m args below meth c0 H locs la hC hR hS hL
  exact lv_i2c hC.x hC.b d i_2c (k p e s m args below meth c0 H locs la hC hR hS hL)
theorem r_lcmp {x y : Int} (d : decode M.2.1 pc = .ok (.lcmp, 1)) (hx : rgj x) (hy : rgj y) (k : PW G M R Z cu su I J P T z (pc + 1) ls (iv (lc x y) :: st)) : PW G M R Z cu su I J P T z pc ls (jv y :: jv x :: st) := by
  intro p e s m args below meth c0 H locs la hC hR hS hL
  have k := k p e s m args below meth c0 H locs la hC hR hS hL
  unfold iv at k
  unfold jv
  rw [← j_cmp hx hy] at k
  exact W.lcmp hC.x hC.b d k
theorem r_tswIn {x dflt lo hi off : Int} {offs : Array Int} {len : Nat} (tgt : Nat) (d : decode M.2.1 pc = .ok (.tableswitch dflt lo hi offs, len)) (hx : rg x) (h1 : lo ≤ x) (h2 : x ≤ hi) (ho : offs[(x - lo).toNat]? = some off) (ht : (pc : Int) + off = (tgt : Int)) (k : PW G M R Z cu su I J P T z tgt ls st) : PW G M R Z cu su I J P T z pc ls (iv x :: st) := by
  intro p e s m args below meth c0 H locs la hC hR hS hL
  exact lv_tableIn hC.x hC.b d (by rw [i_t hx]; omega) (by rw [i_t hx]; omega) (by rw [i_t hx]; exact ho) ht (k p e s m args below meth c0 H locs la hC hR hS hL)
theorem r_tswOut {x dflt lo hi : Int} {offs : Array Int} {len : Nat} (tgt : Nat) (d : decode M.2.1 pc = .ok (.tableswitch dflt lo hi offs, len)) (hx : rg x) (h : x < lo ∨ hi < x) (ht : (pc : Int) + dflt = (tgt : Int)) (k : PW G M R Z cu su I J P T z tgt ls st) : PW G M R Z cu su I J P T z pc ls (iv x :: st) := by
  intro p e s m args below meth c0 H locs la hC hR hS hL
  exact lv_tableOut hC.x hC.b d (by rw [i_t hx]; exact h) ht (k p e s m args below meth c0 H locs la hC hR hS hL)
/-! new cells -/
theorem Rep.push {G : GE} {I J I' J' : HI} {P P' : HP} {T T' : HT} {z : Nat} {H H' : Heap} (h : Rep G I J P T z H) (hz : H'.size = z + 1) (ho : ∀ q, q < z → H'[q]? = H[q]?) (hI : ∀ b j, b ≠ z → I' b j = I b j) (hJ : ∀ b j, b ≠ z → J' b j = J b j) (hP : ∀ b j, b ≠ z → P' b j = P b j) (hT : ∀ b, b ≠ z → T' b = T b)
    (hrI : ∀ j, rg (I' z j)) (hrJ : ∀ j, rgj (J' z j)) (hA : ∀ t n, T' z = (t, n) → 0 < t → t < 20 → 0 ≤ n ∧ n < 2147483648 ∧ H'[z]? = some (arrV (G.2.2.1 t) n.toNat (fun j => fvT (aty t) (I' z j) (J' z j) (P' z j))))
    (hO : ∀ c n, T' z = (c + 20, n) → cmade c = true ∧ t_OB z (G.2.1.1 c) (ctab c).2.2.1 (G.2.1.2 c) H' (fun k => fvT ((ctab c).2.2.2 k) (I' z k) (J' z k) (P' z k))) : Rep G I' J' P' T' (z + 1) H' := by
  obtain ⟨h1, h2, h3, h4, h5, h6⟩ := h
  have hlt : ∀ b, b ≠ z → (T b).1 ≠ 0 → b < z := fun b hb ht => Nat.not_le.mp fun q => ht (h2 b q)
  refine ⟨hz, fun a ha => ?_, fun b j => ?_, fun b j => ?_, fun b t n hTb h0 ht => ?_, fun b c n hTb => ?_⟩
  · rw [hT a (by omega)]; exact h2 a (by omega)
  · by_cases e : b = z
    · subst e; exact hrI j
    · rw [hI b j e]; exact h3 b j
  · by_cases e : b = z
    · subst e; exact hrJ j
    · rw [hJ b j e]; exact h4 b j
  · by_cases e : b = z
    · subst e; exact hA t n hTb h0 ht
    · rw [hT b e] at hTb
      have q := h5 b t n hTb h0 ht
      refine ⟨q.1, q.2.1, ?_⟩
      rw [ho b (hlt b e (by rw [hTb]; simp; omega)), q.2.2]
      congr 2
      funext j
      rw [hI b j e, hJ b j e, hP b j e]
  · by_cases e : b = z
    · subst e; exact hO c n hTb
    · rw [hT b e] at hTb
      have q := h6 b c n hTb
      refine ⟨q.1, (q.2.kept (ho b (hlt b e (by rw [hTb]; simp)))).to fun k _ => ?_⟩
      rw [hI b k e, hJ b k e, hP b k e]
theorem va_S.push {A : Nat → Prop} {H0 H H1 : Heap} {locs : List Loc} (h : va_S A H0 H locs) (hz : H1.size = H.size + 1) (ho : ∀ q, q < H.size → H1[q]? = H[q]?) : va_S A H0 H1 locs :=
  ⟨by have := h.1; omega, fun q h1 h2 => (ho q (Nat.lt_of_lt_of_le h1 h.1)).trans (h.2.1 q h1 h2), h.2.2⟩
theorem dv_ok {t : FieldType} (h : t ≠ .float ∧ t ≠ .double) : defaultValue t = fvT t 0 0 none := by
  cases t <;> first | rfl | exact absurd rfl h.1 | exact absurd rfl h.2
theorem r_new {c n index : Nat} (hc : COk c) (hm : cmade c = true) (hty : ∀ k, k < (ctab c).2.2.1 → (ctab c).2.2.2 k ≠ .float ∧ (ctab c).2.2.2 k ≠ .double) (q1 : Cond.classLink M.1 index (ctab c).1 ∈ lw_all) (q2 : Cond.instantiable (ctab c).1 n ∈ lw_all) (q3 : Cond.initialized (ctab c).1 ∈ lw_all) (h1 : cu + 1 ≤ R.cells) (h2 : su + n ≤ R.slots) (d : decode M.2.1 pc = .ok (.new index, 3))
    (k : PW G M R Z (cu + 1) (su + n) (ur I z fun _ => 0) (ur J z fun _ => 0) (urp P z fun _ => none) (ut T z (c + 20, 0)) (z + 1) (pc + 3) ls (.ref z :: st)) : PW G M R Z cu su I J P T z pc ls st := by
  intro p e s m args below meth c0 H locs la hC hR hS hL
  have hKn := hC.K.1 c hm
  refine W.newcK hC.x hC.b hC.o (hC.w _ q1) (hC.w _ q2) (hC.w _ q3) rfl d h1 h2 hKn.2.1 hR.1 fun H1 kC hkC e1 z1 o1 => ?_
  refine k p e s m args below meth c0 H1 locs la hC (hR.push z1 o1 (fun b j hb => by simp [ur, hb]) (fun b j hb => by simp [ur, hb]) (fun b j hb => by simp [urp, hb]) (fun b hb => by simp [ut, hb]) (fun j => by unfold ur; rw [if_pos rfl]; show _ ≤ (0 : Int) ∧ (0 : Int) < _; constructor <;> decide) (fun j => by unfold ur; rw [if_pos rfl]; show _ ≤ (0 : Int) ∧ (0 : Int) < _; constructor <;> decide) (fun t n' ht h0 h20 => ?_) (fun c' n' ht => ?_)) (hS.push (by rw [hR.1]; exact z1) (by rw [hR.1]; exact o1)) hL
  · simp [ut] at ht; omega
  · have e9 : c = c' := by simp [ut] at ht; omega
    subst e9
    refine ⟨hm, (u_born ((ctab c).2.2.2) hC.w hc.1 hKn hkC e1 hc.2.1).to fun k' hk' => ?_⟩
    rw [dv_ok (hty k' hk')]
    simp [ur, urp]
theorem r_newa {t : Nat} {n : Int} {atype : ArrayType} (ht : 0 < t ∧ t < 5) (hty : newarray.typeOf atype = aty t) (q : Cond.arrayClass (aty t) ∈ lw_all) (hn : 0 ≤ n) (hn2 : n * 8 ≤ 536870912) (hb8 : componentBytes (aty t) ≤ 8) (hfd : aty t ≠ .float ∧ aty t ≠ .double) (h1 : cu + 1 ≤ R.cells) (h2 : su + n.toNat ≤ R.slots) (d : decode M.2.1 pc = .ok (.newarray atype, 2))
    (k : PW G M R Z (cu + 1) (su + n.toNat) (ur I z fun _ => 0) (ur J z fun _ => 0) (urp P z fun _ => none) (ut T z (t, n)) (z + 1) (pc + 2) ls (.ref z :: st)) : PW G M R Z cu su I J P T z pc ls (iv n :: st) := by
  intro p e s m args below meth c0 H locs la hC hR hS hL
  have hrn : rg n := by omega
  refine va_newaK hC.x hC.b (by rw [hty]; exact hC.w _ q) rfl d (n := Int32.ofInt n) (N := n.toNat) rfl (by rw [i_0, i_lt hrn (by omega)]; omega) (i_n hrn) (by rw [hty]; exact Nat.le_trans (Nat.mul_le_mul_left _ hb8) (by omega)) h1 h2 hR.1 fun H1 cA e1 z1 o1 hAr hNm => ?_
  have hcA : cA = G.2.2.1 t := by
    have h9 := (hC.K.2 t ht.1 (by omega)).2
    rw [hty] at hNm
    have h8 : s.vm.findClass ("[" ++ (aty t).toString) = some (G.2.2.1 t) := by
      have : t = 1 ∨ t = 2 ∨ t = 3 ∨ t = 4 := by omega
      rcases this with rfl | rfl | rfl | rfl <;> exact h9
    exact Option.some.inj (hNm.symm.trans h8)
  subst hcA
  refine k p e s m args below meth c0 H1 locs la hC (hR.push z1 o1 (fun b j hb => by simp [ur, hb]) (fun b j hb => by simp [ur, hb]) (fun b j hb => by simp [urp, hb]) (fun b hb => by simp [ut, hb]) (fun j => by unfold ur; rw [if_pos rfl]; show _ ≤ (0 : Int) ∧ (0 : Int) < _; constructor <;> decide) (fun j => by unfold ur; rw [if_pos rfl]; show _ ≤ (0 : Int) ∧ (0 : Int) < _; constructor <;> decide) (fun t' n' ht' h0 h20 => ?_) (fun c' n' ht' => ?_)) (hS.push (by rw [hR.1]; exact z1) (by rw [hR.1]; exact o1)) hL
  · have e9 : (t, n) = (t', n') := by simpa [ut] using ht'
    obtain ⟨rfl, rfl⟩ := Prod.mk.inj e9
    refine ⟨hn, by omega, ?_⟩
    rw [e1, hty, dv_ok hfd]
    simp [ur, urp]
  · simp [ut] at ht'; omega
theorem r_anew {t index : Nat} {n : Int} {C : String} (ht : 5 < t ∧ t < 10) (hty : aty t = .object C) (q1 : Cond.classLink M.1 index C ∈ lw_all) (q2 : Cond.arrayOver (.object C) ∈ lw_tbl) (hn : 0 ≤ n) (hn2 : n * 4 ≤ 536870912) (h1 : cu + 1 ≤ R.cells) (h2 : su + n.toNat ≤ R.slots) (d : decode M.2.1 pc = .ok (.anewarray index, 3))
    (k : PW G M R Z (cu + 1) (su + n.toNat) (ur I z fun _ => 0) (ur J z fun _ => 0) (urp P z fun _ => none) (ut T z (t, n)) (z + 1) (pc + 3) ls (.ref z :: st)) : PW G M R Z cu su I J P T z pc ls (iv n :: st) := by
  intro p e s m args below meth c0 H locs la hC hR hS hL
  have hrn : rg n := by omega
  refine W.anew hC.x hC.b hC.o (hC.w _ q1) (show (Cond.arrayOver (.object C)).before args s = true from hC.E.2.2.2.2.1 _ q2) rfl d (n := Int32.ofInt n) (rest := st) rfl (by rw [i_0, i_lt hrn (by omega)]; omega) (by rw [i_n hrn]; omega) h1 (by rw [i_n hrn]; exact h2) fun cA kA comp f1 f2 f3 f4 => ?_
  rw [i_n hrn]
  have h9 := (hC.K.2 t (by omega) ht.2).2
  rw [hty] at h9
  obtain ⟨kA', comp', -, -, -, k4⟩ := h9
  cases Option.some.inj (f1.symm.trans k4)
  have hz := hR.1
  have e1 : (H.push ({ cls := G.2.2.1 t, slots := Array.replicate n.toNat .null, vm := .none } : Cell))[z]? = some (arrV (G.2.2.1 t) n.toNat (fun _ => .null)) := by
    rw [← hz, Array.getElem?_push_size]
    congr 1
    unfold arrV
    congr 1
    apply Array.ext
    · simp
    · intro i h1 h2; simp
  have z1 : (H.push ({ cls := G.2.2.1 t, slots := Array.replicate n.toNat .null, vm := .none } : Cell)).size = z + 1 := by rw [Array.size_push, hz]
  have o1 : ∀ q, q < z → (H.push ({ cls := G.2.2.1 t, slots := Array.replicate n.toNat .null, vm := .none } : Cell))[q]? = H[q]? := by
    intro q hq
    rw [Array.getElem?_push, if_neg (by omega)]
  rw [hz]
  refine k p e s m args below meth c0 _ locs la hC (hR.push z1 o1 (fun b j hb => by simp [ur, hb]) (fun b j hb => by simp [ur, hb]) (fun b j hb => by simp [urp, hb]) (fun b hb => by simp [ut, hb]) (fun j => by unfold ur; rw [if_pos rfl]; show _ ≤ (0 : Int) ∧ (0 : Int) < _; constructor <;> decide) (fun j => by unfold ur; rw [if_pos rfl]; show _ ≤ (0 : Int) ∧ (0 : Int) < _; constructor <;> decide) (fun t' n' ht' h0 h20 => ?_) (fun c' n' ht' => ?_)) (hS.push (by rw [hz]; exact z1) (by rw [hz]; exact o1)) hL
  · have e9 : (t, n) = (t', n') := by simpa [ut] using ht'
    obtain ⟨rfl, rfl⟩ := Prod.mk.inj e9
    refine ⟨hn, by omega, ?_⟩
    rw [e1, hty]
    simp [ur, urp, fvT, va_rf]
  · simp [ut] at ht'; omega
end R5
