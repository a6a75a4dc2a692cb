/-! ===== the component: open hands: small ones ===== -/
def on3 (k : Int) : Int := if k = 0 then 1 else if k = 1 then 5 else 25
def bk3 (a : Int) : Int := bz (rw3 a 0 = 4) + bz (rw3 a 1 = 4) + bz (rw3 a 2 = 4)
def wo3 (a : Int) : Int := a - (if rw3 a 0 = 4 then 4 else 0) - (if rw3 a 1 = 4 then 20 else 0) - (if rw3 a 2 = 4 then 100 else 0)
/-- cards are drawn, nothing is laid down -/
def ac (σ : Int → Int) : Nat → (Int → Int) → Int → (Int → Int)
  | 0, f, _ => f
  | m + 1, f, p => ac σ m (us f (σ (8 + p)) (f (σ (8 + p)) + 1)) (p + 1)
section P31p
variable {σ f : Int → Int} {p n a : Int}
theorem on3_n {c : Int} (h0 : 0 ≤ c) (h1 : c < 3) {x : Int} : n3 (us f c x) = n3 f + on3 c * (x - f c) := by
  show us f c x 0 + 5 * us f c x 1 + 25 * us f c x 2 = f 0 + 5 * f 1 + 25 * f 2 + on3 c * (x - f c)
  unfold on3
  rcases (show c = 0 ∨ c = 1 ∨ c = 2 by omega) with rfl | rfl | rfl
  · rw [us_s, us_n (by decide), us_n (by decide), if_pos rfl]; omega
  · rw [us_s, us_n (by decide), us_n (by decide), if_neg (by decide), if_pos rfl]; omega
  · rw [us_s, us_n (by decide), us_n (by decide), if_neg (by decide), if_neg (by decide)]; omega
theorem rw3_at (h : ∀ k, 0 ≤ k → k < 3 → 0 ≤ f k ∧ f k ≤ 4) {k : Int} (h0 : 0 ≤ k) (h1 : k < 3) : rw3 (n3 f) k = f k := (rw3_n3 (h 0 (by omega) (by omega)) (h 1 (by omega) (by omega))).at h0 h1
theorem bk3_3 (h : f3 f) : bk3 (n3 f) = 0 ∧ wo3 (n3 f) = n3 f := by
  have h4 : ∀ k, 0 ≤ k → k < 3 → 0 ≤ f k ∧ f k ≤ 4 := fun k a b => by have := h k a b; omega
  have a := h 0 (by omega) (by omega); have b := h 1 (by omega) (by omega); have c := h 2 (by omega) (by omega)
  unfold bk3 wo3
  rw [rw3_at h4 (by omega) (by omega), rw3_at h4 (by omega) (by omega), rw3_at h4 (by omega) (by omega)]
  rw [bz_f (by omega), bz_f (by omega), bz_f (by omega), if_neg (by omega), if_neg (by omega), if_neg (by omega)]
  omega
/-- one kind may be four: it is laid down -/
theorem bk3_ly (h : f3 f) {c x : Int} (h0 : 0 ≤ c) (h1 : c < 3) (hx : 0 ≤ x ∧ x ≤ 4) : bk3 (n3 (us f c x)) = lyn (us f c x) c ∧ wo3 (n3 (us f c x)) = n3 (ly (us f c x) c) := by
  have h4 : ∀ k, 0 ≤ k → k < 3 → 0 ≤ us f c x k ∧ us f c x k ≤ 4 := fun k a b => by
    by_cases e : k = c
    · subst e; rw [us_s]; exact hx
    · rw [us_n e]; have := h k a b; omega
  by_cases q : x < 4
  · have f1 : f3 (us f c x) := fun k a b => by
      by_cases e : k = c
      · subst e; rw [us_s]; omega
      · rw [us_n e]; exact h k a b
    unfold ly lyn
    rw [us_s, if_pos q, if_pos q]
    exact bk3_3 f1
  · have e4 : x = 4 := by omega
    subst e4
    unfold ly lyn
    rw [us_s, if_neg (by decide), if_neg (by decide), us_us]
    have a := h 0 (by omega) (by omega); have b := h 1 (by omega) (by omega); have d := h 2 (by omega) (by omega)
    unfold bk3 wo3
    rw [rw3_at h4 (by omega) (by omega), rw3_at h4 (by omega) (by omega), rw3_at h4 (by omega) (by omega), on3_n h0 h1, on3_n h0 h1]
    unfold on3
    rcases (show c = 0 ∨ c = 1 ∨ c = 2 by omega) with rfl | rfl | rfl
    · have x1 : ¬ f 1 = 4 := by omega
      have x2 : ¬ f 2 = 4 := by omega
      rw [us_s, us_n (by decide), us_n (by decide), bz_t rfl, bz_f x1, bz_f x2, if_neg x1, if_neg x2]
      simp <;> omega
    · have x1 : ¬ f 0 = 4 := by omega
      have x2 : ¬ f 2 = 4 := by omega
      rw [us_s, us_n (by decide), us_n (by decide), bz_t rfl, bz_f x1, bz_f x2, if_neg x1, if_neg x2]
      simp <;> omega
    · have x1 : ¬ f 0 = 4 := by omega
      have x2 : ¬ f 1 = 4 := by omega
      rw [us_s, us_n (by decide), us_n (by decide), bz_t rfl, bz_f x1, bz_f x2, if_neg x1, if_neg x2]
      simp <;> omega
theorem ac_ok (hg : OG σ) : ∀ (m : Nat) (f : Int → Int) (p n : Int), f3 f → s3 f + m ≤ 4 → 0 ≤ p → p + m ≤ σ 7 → n3 (f_fil1 σ m (f, p, n)).1 = wo3 (n3 (ac σ m f p)) ∧ (f_fil1 σ m (f, p, n)).2.2 = n + bk3 (n3 (ac σ m f p)) ∧ 0 ≤ n3 (ac σ m f p) ∧ n3 (ac σ m f p) < 125 := by
  intro m
  induction m with
  | zero =>
    intro f p n hf hs _ _
    have b := bk3_3 hf
    have r := n3_r hf
    refine ⟨b.2.symm, ?_, r⟩
    show n = n + bk3 (n3 f)
    omega
  | succ m ih =>
    intro f p n hf hs hp hm
    have hc := hg.2.1 p hp (by omega)
    have hd := hf _ hc.1 hc.2
    have a0 := hf 0 (by omega) (by omega); have a1 := hf 1 (by omega) (by omega); have a2 := hf 2 (by omega) (by omega)
    unfold f_fil1 ac
    dsimp only
    generalize σ (8 + p) = c at *
    rw [us_s]
    have su := us_sum (f := f) (x := f c + 1) hc.1 hc.2
    by_cases q : f c + 1 < 4
    · rw [if_pos q]
      have f1 : f3 (us f c (f c + 1)) := fun j a b => by
        by_cases e : j = c
        · subst e; rw [us_s]; omega
        · rw [us_n e]; exact hf j a b
      have := ih (us f c (f c + 1)) (p + 1) (n + 0) f1 (by omega) (by omega) (by omega)
      rw [Int.add_zero] at this ⊢
      exact this
    · rw [if_neg q]
      have hs' : f 0 + f 1 + f 2 + ((m + 1 : Nat) : Int) ≤ 4 := hs
      have m0 : m = 0 := by
        rcases (show c = 0 ∨ c = 1 ∨ c = 2 by omega) with rfl | rfl | rfl <;> omega
      subst m0
      have b := bk3_ly hf hc.1 hc.2 (x := f c + 1) (by omega)
      have el : lyn (us f c (f c + 1)) c = 1 := by unfold lyn; rw [us_s, if_neg q]
      have e2 : ly (us f c (f c + 1)) c = us (us f c (f c + 1)) c 0 := by unfold ly; rw [us_s, if_neg q]
      rw [el, e2] at b
      have r4 : 0 ≤ n3 (us f c (f c + 1)) ∧ n3 (us f c (f c + 1)) < 125 := by
        rw [on3_n hc.1 hc.2]
        have e : f c + 1 - f c = 1 := by omega
        rw [e]
        unfold on3 n3
        rcases (show c = 0 ∨ c = 1 ∨ c = 2 by omega) with rfl | rfl | rfl
        · rw [if_pos rfl]; omega
        · rw [if_neg (by decide), if_pos rfl]; omega
        · rw [if_neg (by decide), if_neg (by decide)]; omega
      exact ⟨b.2.symm, by show n + 1 = n + bk3 (n3 (us f c (f c + 1))); rw [b.1], r4⟩
end P31p
section P31
variable {G : GE} {I J : HI} {P : HP} {T : HT} {z g t o d : Nat} {Q : QT} {σ μ M F f : Int → Int} {a k p : Int}
theorem C_of (ha : 0 ≤ a ∧ a < 125) (hk : 0 ≤ k ∧ k < 3) (hQ : Q (some (iv (rw3 a k))) I J P T z) : MC G yX4_of (ws_ yX4_of cX4_of 2 (some FieldType.int)) (d) 0 0 [iv a, iv k] I J P T z Q nX := by
  unfold rw3 at hQ
  refine MC.of (by decide) (Nat.le_of_ble_eq_true rfl) ?_
  show PW G mX4_of (rmD (d) 0 0) (MZ G Q nX 0 0) 0 0 I J P T z 0 [some (iv a), some (iv k)] []
  refine r_iload_n (pc := 0) dX4_of_0 rfl rfl ?_
  refine r_if_ne (pc := 1) 10 dX4_of_1 rfl (by omega) (fun h1 => ?_) (fun h1 => ?_)
  · rw [if_neg h1] at hQ
    refine r_iload_n (pc := 10) dX4_of_10 rfl rfl ?_
    refine r_iconst (pc := 11) dX4_of_11 ?_
    refine r_icmp_ne (pc := 12) 23 dX4_of_12 rfl (by omega) (by omega) (fun h12 => ?_) (fun h12 => ?_)
    · rw [if_neg h12, if_pos (by omega)] at hQ
      refine r_iload_n (pc := 23) dX4_of_23 rfl rfl ?_
      refine r_bipush (pc := 24) dX4_of_24 (by decide +kernel) ?_
      refine r_idiv (pc := 26) dX4_of_26 (by omega) (by omega) ?_
      refine r_ireturn (pc := 27) rfl rfl dX4_of_27 (Nat.le_of_ble_eq_true rfl) (Nat.le_of_ble_eq_true rfl) ?_
      exact hQ
    rw [if_pos h12] at hQ
    refine r_iload_n (pc := 15) dX4_of_15 rfl rfl ?_
    refine r_iconst (pc := 16) dX4_of_16 ?_
    refine r_idiv (pc := 17) dX4_of_17 (by omega) (by omega) ?_
    refine r_iconst (pc := 18) dX4_of_18 ?_
    refine r_irem (pc := 19) dX4_of_19 (by omega) (by omega) ?_
    refine r_goto (pc := 20) 27 dX4_of_20 rfl ?_
    refine r_ireturn (pc := 27) rfl rfl dX4_of_27 (Nat.le_of_ble_eq_true rfl) (Nat.le_of_ble_eq_true rfl) ?_
    exact hQ
  rw [if_pos h1] at hQ
  refine r_iload_n (pc := 4) dX4_of_4 rfl rfl ?_
  refine r_iconst (pc := 5) dX4_of_5 ?_
  refine r_irem (pc := 6) dX4_of_6 (by omega) (by omega) ?_
  refine r_goto (pc := 7) 27 dX4_of_7 rfl ?_
  refine r_ireturn (pc := 27) rfl rfl dX4_of_27 (Nat.le_of_ble_eq_true rfl) (Nat.le_of_ble_eq_true rfl) ?_
  exact hQ
theorem C_on (hk : 0 ≤ k ∧ k < 3) (hQ : Q (some (iv (on3 k))) I J P T z) : MC G yX4_one (ws_ yX4_one cX4_one 1 (some FieldType.int)) (d) 0 0 [iv k] I J P T z Q nX := by
  unfold on3 at hQ
  refine MC.of (by decide) (Nat.le_of_ble_eq_true rfl) ?_
  show PW G mX4_one (rmD (d) 0 0) (MZ G Q nX 0 0) 0 0 I J P T z 0 [some (iv k)] []
  refine r_iload_n (pc := 0) dX4_one_0 rfl rfl ?_
  refine r_if_ne (pc := 1) 8 dX4_one_1 rfl (by omega) (fun h1 => ?_) (fun h1 => ?_)
  · rw [if_neg h1] at hQ
    refine r_iload_n (pc := 8) dX4_one_8 rfl rfl ?_
    refine r_iconst (pc := 9) dX4_one_9 ?_
    refine r_icmp_ne (pc := 10) 17 dX4_one_10 rfl (by omega) (by omega) (fun h10 => ?_) (fun h10 => ?_)
    · rw [if_neg h10] at hQ
      refine r_bipush (pc := 17) dX4_one_17 (by decide +kernel) ?_
      refine r_ireturn (pc := 19) rfl rfl dX4_one_19 (Nat.le_of_ble_eq_true rfl) (Nat.le_of_ble_eq_true rfl) ?_
      exact hQ
    rw [if_pos h10] at hQ
    refine r_iconst (pc := 13) dX4_one_13 ?_
    refine r_goto (pc := 14) 19 dX4_one_14 rfl ?_
    refine r_ireturn (pc := 19) rfl rfl dX4_one_19 (Nat.le_of_ble_eq_true rfl) (Nat.le_of_ble_eq_true rfl) ?_
    exact hQ
  rw [if_pos h1] at hQ
  refine r_iconst (pc := 4) dX4_one_4 ?_
  refine r_goto (pc := 5) 19 dX4_one_5 rfl ?_
  refine r_ireturn (pc := 19) rfl rfl dX4_one_19 (Nat.le_of_ble_eq_true rfl) (Nat.le_of_ble_eq_true rfl) ?_
  exact hQ
theorem C_booksO (ha : 0 ≤ a ∧ a < 125) (hQ : Q (some (iv (bk3 a))) I J P T z) : MC G yX4_books (ws_ yX4_books cX4_books 4 (some FieldType.int)) (d + 1) 0 0 [.ref o, iv a] I J P T z Q nX := by
  refine MC.of (by decide) (Nat.le_of_ble_eq_true rfl) ?_
  show PW G mX4_books (rmD (d + 1) 0 0) (MZ G Q nX 0 0) 0 0 I J P T z 0 [some (.ref o), some (iv a), none, none] []
  have loop : ∀ (m : Nat) (k : Int), 0 ≤ k → k + m = 3 → PW G mX4_books (rmD (d + 1) 0 0) (MZ G Q nX 0 0) 0 0 I J P T z 4 [some (.ref o), some (iv a), some (iv (sm (fun k => bz (rw3 a k = 4)) k.toNat)), some (iv k)] [] := by
    intro m
    induction m with
    | zero =>
      intro k h0 h1
      obtain rfl : k = 3 := by omega
      refine r_iload_n (pc := 4) dX4_books_4 rfl rfl ?_
      refine r_iconst (pc := 5) dX4_books_5 ?_
      refine r_icmp_ge (pc := 6) 27 dX4_books_6 rfl (by omega) (by omega) (fun h6 => ?_) (fun h6 => ?_)
      · refine r_iload_n (pc := 27) dX4_books_27 rfl rfl ?_
        refine r_ireturn (pc := 28) rfl rfl dX4_books_28 (Nat.le_of_ble_eq_true rfl) (Nat.le_of_ble_eq_true rfl) ?_
        have e : sm (fun k => bz (rw3 a k = 4)) (3 : Int).toNat = bk3 a := by
          show 0 + bz (rw3 a ((0 : Nat) : Int) = 4) + bz (rw3 a ((1 : Nat) : Int) = 4) + bz (rw3 a ((2 : Nat) : Int) = 4) = _
          unfold bk3
          rw [Int.zero_add]
          rfl
        rw [e]
        exact hQ
      omega
    | succ m ih =>
      intro k h0 h1
      have sx := sm_succ (f := fun k => bz (rw3 a k = 4)) h0
      have sr := sm_bz (f := fun k => rw3 a k = 4) k.toNat
      have nx := ih (k + 1) (by omega) (by omega)
      rw [← sx] at nx
      have rr : rg (rw3 a k) := by unfold rw3; repeat (first | split | omega)
      refine r_iload_n (pc := 4) dX4_books_4 rfl rfl ?_
      refine r_iconst (pc := 5) dX4_books_5 ?_
      refine r_icmp_ge (pc := 6) 27 dX4_books_6 rfl (by omega) (by omega) (fun h6 => ?_) (fun h6 => ?_)
      · omega
      refine r_iload_n (pc := 9) dX4_books_9 rfl rfl ?_
      refine r_iload_n (pc := 10) dX4_books_10 rfl rfl ?_
      refine r_callS2 (pc := 11) (C_of ha ⟨h0, by omega⟩ fe_i) im_X4_of q1378 dX4_books_11 (Nat.le_of_ble_eq_true rfl) (Nat.le_of_ble_eq_true rfl) rfl (k_fi ?_) (fun _ _ _ _ _ _ _ hx => no_x hx)
      refine r_iconst (pc := 14) dX4_books_14 ?_
      refine r_icmp_ne (pc := 15) 21 dX4_books_15 rfl (by omega) (by omega) (fun h15 => ?_) (fun h15 => ?_)
      · rw [bz_f h15, Int.add_zero] at nx
        refine r_iinc3 (pc := 21) (Nat.le_of_ble_eq_true rfl) dX4_books_21 rfl ?_
        refine r_goto (pc := 24) 4 dX4_books_24 rfl ?_
        exact nx
      rw [bz_t h15] at nx
      refine r_iinc2 (pc := 18) (Nat.le_of_ble_eq_true rfl) dX4_books_18 rfl ?_
      refine r_iinc3 (pc := 21) (Nat.le_of_ble_eq_true rfl) dX4_books_21 rfl ?_
      refine r_goto (pc := 24) 4 dX4_books_24 rfl ?_
      exact nx
  refine r_iconst (pc := 0) dX4_books_0 ?_
  refine r_istore_n2 (pc := 1) (Nat.le_of_ble_eq_true rfl) dX4_books_1 rfl ?_
  refine r_iconst (pc := 2) dX4_books_2 ?_
  refine r_istore_n3 (pc := 3) (Nat.le_of_ble_eq_true rfl) dX4_books_3 rfl ?_
  exact loop 3 0 (by omega) (by omega)
theorem C_without (ha : 0 ≤ a ∧ a < 125) (hQ : Q (some (iv (wo3 a))) I J P T z) : MC G yX4_without (ws_ yX4_without cX4_without 4 (some FieldType.int)) (d + 1) 0 0 [.ref o, iv a] I J P T z Q nX := by
  refine MC.of (by decide) (Nat.le_of_ble_eq_true rfl) ?_
  show PW G mX4_without (rmD (d + 1) 0 0) (MZ G Q nX 0 0) 0 0 I J P T z 0 [some (.ref o), some (iv a), none, none] []
  have rr : ∀ k, rg (rw3 a k) := fun k => by unfold rw3; repeat (first | split | omega)
  have step : ∀ (k v : Int), 0 ≤ k → k < 3 → -2000 ≤ v → v ≤ 2000 → (∀ u : Int, u = v - (if rw3 a k = 4 then 4 * on3 k else 0) → PW G mX4_without (rmD (d + 1) 0 0) (MZ G Q nX 0 0) 0 0 I J P T z 4 [some (.ref o), some (iv a), some (iv u), some (iv (k + 1))] []) → PW G mX4_without (rmD (d + 1) 0 0) (MZ G Q nX 0 0) 0 0 I J P T z 4 [some (.ref o), some (iv a), some (iv v), some (iv k)] [] := by
    intro k v h0 h1 v0 v1 kk
    have rk := rr k
    refine r_iload_n (pc := 4) dX4_without_4 rfl rfl ?_
    refine r_iconst (pc := 5) dX4_without_5 ?_
    refine r_icmp_ge (pc := 6) 33 dX4_without_6 rfl (by omega) (by omega) (fun h6 => ?_) (fun h6 => ?_)
    · omega
    refine r_iload_n (pc := 9) dX4_without_9 rfl rfl ?_
    refine r_iload_n (pc := 10) dX4_without_10 rfl rfl ?_
    refine r_callS2 (pc := 11) (C_of ha ⟨h0, h1⟩ fe_i) im_X4_of q1378 dX4_without_11 (Nat.le_of_ble_eq_true rfl) (Nat.le_of_ble_eq_true rfl) rfl (k_fi ?_) (fun _ _ _ _ _ _ _ hx => no_x hx)
    refine r_iconst (pc := 14) dX4_without_14 ?_
    refine r_icmp_ne (pc := 15) 27 dX4_without_15 rfl (by omega) (by omega) (fun h15 => ?_) (fun h15 => ?_)
    · rw [if_neg h15, Int.sub_zero] at kk
      refine r_iinc3 (pc := 27) (Nat.le_of_ble_eq_true rfl) dX4_without_27 rfl ?_
      refine r_goto (pc := 30) 4 dX4_without_30 rfl ?_
      exact kk v rfl
    rw [if_pos h15] at kk
    refine r_iload_n (pc := 18) dX4_without_18 rfl rfl ?_
    refine r_iconst (pc := 19) dX4_without_19 ?_
    refine r_iload_n (pc := 20) dX4_without_20 rfl rfl ?_
    refine r_callS1 (pc := 21) (C_on ⟨h0, h1⟩ fe_i) im_X4_one q1370 dX4_without_21 (Nat.le_of_ble_eq_true rfl) (Nat.le_of_ble_eq_true rfl) rfl (k_fi ?_) (fun _ _ _ _ _ _ _ hx => no_x hx)
    refine r_imul (pc := 24) dX4_without_24 ?_
    refine r_isub (pc := 25) dX4_without_25 ?_
    refine r_istore_n2 (pc := 26) (Nat.le_of_ble_eq_true rfl) dX4_without_26 rfl ?_
    refine r_iinc3 (pc := 27) (Nat.le_of_ble_eq_true rfl) dX4_without_27 rfl ?_
    refine r_goto (pc := 30) 4 dX4_without_30 rfl ?_
    exact kk _ rfl
  refine r_iload_n (pc := 0) dX4_without_0 rfl rfl ?_
  refine r_istore_n2 (pc := 1) (Nat.le_of_ble_eq_true rfl) dX4_without_1 rfl ?_
  refine r_iconst (pc := 2) dX4_without_2 ?_
  refine r_istore_n3 (pc := 3) (Nat.le_of_ble_eq_true rfl) dX4_without_3 rfl ?_
  refine step 0 a (by omega) (by omega) (by omega) (by omega) (fun u0 e0 => step (0 + 1) u0 (by omega) (by omega) ?_ ?_ (fun u1 e1 => step (0 + 1 + 1) u1 (by omega) (by omega) ?_ ?_ (fun u2 e2 => ?_)))
  · have : on3 0 = 1 := rfl
    rw [this] at e0; split at e0 <;> omega
  · have : on3 0 = 1 := rfl
    rw [this] at e0; split at e0 <;> omega
  · have : on3 0 = 1 := rfl
    have h5 : on3 (0 + 1) = 5 := rfl
    rw [this] at e0; rw [h5] at e1; split at e0 <;> split at e1 <;> omega
  · have : on3 0 = 1 := rfl
    have h5 : on3 (0 + 1) = 5 := rfl
    rw [this] at e0; rw [h5] at e1; split at e0 <;> split at e1 <;> omega
  have e : u2 = wo3 a := by
    have x0 : on3 0 = 1 := rfl
    have x1 : on3 (0 + 1) = 5 := rfl
    have x2 : on3 (0 + 1 + 1) = 25 := rfl
    rw [x0] at e0; rw [x1] at e1; rw [x2] at e2
    have y1 : (0 : Int) + 1 = 1 := rfl
    have y2 : (0 : Int) + 1 + 1 = 2 := rfl
    rw [y1] at e1; rw [y2] at e2
    unfold wo3
    split <;> split <;> split <;> simp_all <;> omega
  subst e
  refine r_iload_n (pc := 4) dX4_without_4 rfl rfl ?_
  refine r_iconst (pc := 5) dX4_without_5 ?_
  refine r_icmp_ge (pc := 6) 33 dX4_without_6 rfl (by omega) (by omega) (fun h6 => ?_) (fun h6 => ?_)
  · refine r_iload_n (pc := 33) dX4_without_33 rfl rfl ?_
    refine r_ireturn (pc := 34) rfl rfl dX4_without_34 (Nat.le_of_ble_eq_true rfl) (Nat.le_of_ble_eq_true rfl) ?_
    exact hQ
  exact absurd h6 (by decide)
/-- the opened game's place -/
def shO (G : GE) (P : HP) (T : HT) (o g t : Nat) : Prop := G.2.2.2.1 ≤ o ∧ T o = (24, 0) ∧ P o 0 = some t ∧ P o 1 = some g ∧ P o 2 = some (o + 1) ∧ T (o + 1) = (1, 156250) ∧ shG G P T g t ∧ (o + 1 < g ∨ g + 31 ≤ o) ∧ (o + 1 < t ∨ t + 11 ≤ o)
abbrev oH (I : HI) (o : Nat) (M F : Int → Int) : HI := ur (ur I (o + 1) M) o F
theorem oH_gr (hs : shO G P T o g t) (hr : GR I g t σ μ) : GR (oH I o M F) g t σ μ := hr.fr (fun b q => by
  have h1 := hs.2.2.2.2.2.2.2.1
  have h2 := hs.2.2.2.2.2.2.2.2
  show ur (ur I (o + 1) M) o F b = I b
  rw [ur_n (by omega), ur_n (by omega)])
theorem C_card (hs : shO G P T o g t) (hr : GR I g t σ μ) {l : Int} (hl : 0 < l ∧ l ≤ σ 7) (hQ : Q (some (iv (σ (8 + (σ 7 - l))))) I J P T z) : MC G yX4_card (ws_ yX4_card cX4_card 2 (some FieldType.int)) (d) 0 0 [.ref o, iv l] I J P T z Q nX := by
  obtain ⟨s1, s2, s3, s4, s5, s6, s7, -, -⟩ := hs
  have hp := hr.hp
  refine MC.of (by decide) (Nat.le_of_ble_eq_true rfl) ?_
  show PW G mX4_card (rmD (d) 0 0) (MZ G Q nX 0 0) 0 0 I J P T z 0 [some (.ref o), some (iv l)] []
  refine r_aload_n (pc := 0) dX4_card_0 rfl rfl ?_
  refine r_getr (pc := 1) (c := 4) (k := 1) (kz := 1) s2 cok_4 (Nat.le_of_ble_eq_true rfl) q443 ⟨rfl, rfl⟩ (Or.inl rfl) rfl (fun _ _ _ => rfl) s4 dX4_card_1 ?_
  refine r_getrN (pc := 4) (c := 3) (k := 10) (kz := 10) s7.o cok_3 (Nat.le_of_ble_eq_true rfl) q296 ⟨rfl, rfl⟩ (Or.inl rfl) rfl (fun _ _ _ => rfl) s7.p_heap dX4_card_4 ?_
  refine r_aload_n (pc := 7) dX4_card_7 rfl rfl ?_
  refine r_getr (pc := 8) (c := 4) (k := 1) (kz := 1) s2 cok_4 (Nat.le_of_ble_eq_true rfl) q443 ⟨rfl, rfl⟩ (Or.inl rfl) rfl (fun _ _ _ => rfl) s4 dX4_card_8 ?_
  refine r_getiN (pc := 11) (c := 3) (k := 13) (kz := 13) s7.o cok_3 (Nat.le_of_ble_eq_true rfl) q305 ⟨rfl, rfl⟩ (Or.inl rfl) rfl (fun _ _ _ => rfl) dX4_card_11 (fun hr11 => ?_)
  refine r_iload_n (pc := 14) dX4_card_14 rfl rfl ?_
  refine r_isub (pc := 15) dX4_card_15 ?_
  have e : I g 13 - l = I g 12 + (σ 7 - l) := by omega
  rw [e]
  refine r_iald (pc := 16) s7.t_heap (by omega) (by omega) dX4_card_16 (fun hr16 => ?_)
  rw [hr.heap (by omega) (by omega)] at hr16 ⊢
  refine r_ireturn (pc := 17) rfl rfl dX4_card_17 (Nat.le_of_ble_eq_true rfl) (Nat.le_of_ble_eq_true rfl) ?_
  exact hQ
theorem C_handO (hs : shO G P T o g t) (hr : GR I g t σ μ) (hw : WF σ) (h3 : σ 0 ≤ 3) {q : Int} (hq : 0 ≤ q ∧ q < 6) (hQ : Q (some (iv (n3 (fun k => σ (60 + 13 * q + k))))) I J P T z) : MC G yX4_handOf (ws_ yX4_handOf cX4_handOf 4 (some FieldType.int)) (d + 1) 0 0 [.ref o, iv q] I J P T z Q nX := by
  obtain ⟨s1, s2, s3, s4, s5, s6, s7, -, -⟩ := hs
  have ht := hw.cv.ta
  have h4 : ∀ k : Int, 0 ≤ k → k < 13 → 0 ≤ σ (60 + 13 * q + k) ∧ σ (60 + 13 * q + k) ≤ 4 := fun k x y => hw.cv.h4 hq.1 hq.2 x y
  refine MC.of (by decide) (Nat.le_of_ble_eq_true rfl) ?_
  show PW G mX4_handOf (rmD (d + 1) 0 0) (MZ G Q nX 0 0) 0 0 I J P T z 0 [some (.ref o), some (iv q), none, none] []
  have zr : ∀ k : Int, 0 ≤ k → k < 3 → σ 0 ≤ k → σ (60 + 13 * q + k) = 0 := fun k x y w => by
    have c1 := hw.cv.ca (k := k) x (by omega)
    have c2 := hw.cv.one (p := q) (k := k) hq.1 hq.2 x (by omega)
    have c3 := hw.cv.2.2.2.2.2.2.1 k x (by omega)
    have c4 := ct_r (η := σ) (k := k)
    have c5 := bz_r (p := 0 < σ (138 + k))
    have c6 := h4 k x (by omega)
    have := c3.2 w
    omega
  have loop : ∀ (m : Nat) (k : Int), 0 ≤ k → k + m = σ 0 → PW G mX4_handOf (rmD (d + 1) 0 0) (MZ G Q nX 0 0) 0 0 I J P T z 4 [some (.ref o), some (iv q), some (iv (sm (fun k => on3 k * σ (60 + 13 * q + k)) k.toNat)), some (iv k)] [] := by
    intro m
    induction m with
    | zero =>
      intro k h0 h1
      obtain rfl : k = σ 0 := by omega
      refine r_iload_n (pc := 4) dX4_handOf_4 rfl rfl ?_
      refine r_aload_n (pc := 5) dX4_handOf_5 rfl rfl ?_
      refine r_getr (pc := 6) (c := 4) (k := 0) (kz := 0) s2 cok_4 (Nat.le_of_ble_eq_true rfl) q442 ⟨rfl, rfl⟩ (Or.inl rfl) rfl (fun _ _ _ => rfl) s3 dX4_handOf_6 ?_
      refine r_getiN (pc := 9) (c := 2) (k := 0) (kz := 0) s7.tb.o cok_2 (Nat.le_of_ble_eq_true rfl) q203 ⟨rfl, rfl⟩ (Or.inl rfl) rfl (fun _ _ _ => rfl) dX4_handOf_9 (fun hr9 => ?_)
      rw [hr.ta.1] at hr9 ⊢
      refine r_icmp_ge (pc := 12) 40 dX4_handOf_12 rfl (by omega) (by omega) (fun h12 => ?_) (fun h12 => ?_)
      · refine r_iload_n (pc := 40) dX4_handOf_40 rfl rfl ?_
        refine r_ireturn (pc := 41) rfl rfl dX4_handOf_41 (Nat.le_of_ble_eq_true rfl) (Nat.le_of_ble_eq_true rfl) ?_
        have e : sm (fun k => on3 k * σ (60 + 13 * q + k)) (σ 0).toNat = n3 (fun k => σ (60 + 13 * q + k)) := by
          have a0 := zr 0 (by omega) (by omega); have a1 := zr 1 (by omega) (by omega); have a2 := zr 2 (by omega) (by omega)
          have b0 : on3 0 = 1 := rfl
          have b1 : on3 1 = 5 := rfl
          have b2 : on3 2 = 25 := rfl
          show _ = σ (60 + 13 * q + 0) + 5 * σ (60 + 13 * q + 1) + 25 * σ (60 + 13 * q + 2)
          rcases (show σ 0 = 0 ∨ σ 0 = 1 ∨ σ 0 = 2 ∨ σ 0 = 3 by omega) with c | c | c | c
          · rw [a0 (by omega), a1 (by omega), a2 (by omega), c]; rfl
          · rw [a1 (by omega), a2 (by omega), c]
            show 0 + on3 ((0 : Nat) : Int) * σ (60 + 13 * q + ((0 : Nat) : Int)) = _
            rw [show ((0 : Nat) : Int) = 0 from rfl, b0]; omega
          · rw [a2 (by omega), c]
            show 0 + on3 ((0 : Nat) : Int) * σ (60 + 13 * q + ((0 : Nat) : Int)) + on3 ((1 : Nat) : Int) * σ (60 + 13 * q + ((1 : Nat) : Int)) = _
            rw [show ((0 : Nat) : Int) = 0 from rfl, show ((1 : Nat) : Int) = 1 from rfl, b0, b1]; omega
          · rw [c]
            show 0 + on3 ((0 : Nat) : Int) * σ (60 + 13 * q + ((0 : Nat) : Int)) + on3 ((1 : Nat) : Int) * σ (60 + 13 * q + ((1 : Nat) : Int)) + on3 ((2 : Nat) : Int) * σ (60 + 13 * q + ((2 : Nat) : Int)) = _
            rw [show ((0 : Nat) : Int) = 0 from rfl, show ((1 : Nat) : Int) = 1 from rfl, show ((2 : Nat) : Int) = 2 from rfl, b0, b1, b2]; omega
        rw [e]
        exact hQ
      omega
    | succ m ih =>
      intro k h0 h1
      have sx := sm_succ (f := fun k => on3 k * σ (60 + 13 * q + k)) h0
      have nx := ih (k + 1) (by omega) (by omega)
      rw [← sx] at nx
      refine r_iload_n (pc := 4) dX4_handOf_4 rfl rfl ?_
      refine r_aload_n (pc := 5) dX4_handOf_5 rfl rfl ?_
      refine r_getr (pc := 6) (c := 4) (k := 0) (kz := 0) s2 cok_4 (Nat.le_of_ble_eq_true rfl) q442 ⟨rfl, rfl⟩ (Or.inl rfl) rfl (fun _ _ _ => rfl) s3 dX4_handOf_6 ?_
      refine r_getiN (pc := 9) (c := 2) (k := 0) (kz := 0) s7.tb.o cok_2 (Nat.le_of_ble_eq_true rfl) q203 ⟨rfl, rfl⟩ (Or.inl rfl) rfl (fun _ _ _ => rfl) dX4_handOf_9 (fun hr9 => ?_)
      rw [hr.ta.1] at hr9 ⊢
      refine r_icmp_ge (pc := 12) 40 dX4_handOf_12 rfl (by omega) (by omega) (fun h12 => ?_) (fun h12 => ?_)
      · omega
      refine r_iload_n (pc := 15) dX4_handOf_15 rfl rfl ?_
      refine r_iload_n (pc := 16) dX4_handOf_16 rfl rfl ?_
      refine r_callS1 (pc := 17) (C_on ⟨h0, by omega⟩ fe_i) im_X4_one q1370 dX4_handOf_17 (Nat.le_of_ble_eq_true rfl) (Nat.le_of_ble_eq_true rfl) rfl (k_fi ?_) (fun _ _ _ _ _ _ _ hx => no_x hx)
      refine r_aload_n (pc := 20) dX4_handOf_20 rfl rfl ?_
      refine r_getr (pc := 21) (c := 4) (k := 1) (kz := 1) s2 cok_4 (Nat.le_of_ble_eq_true rfl) q443 ⟨rfl, rfl⟩ (Or.inl rfl) rfl (fun _ _ _ => rfl) s4 dX4_handOf_21 ?_
      refine r_getrN (pc := 24) (c := 3) (k := 1) (kz := 1) s7.o cok_3 (Nat.le_of_ble_eq_true rfl) q272 ⟨rfl, rfl⟩ (Or.inl rfl) rfl (fun _ _ _ => rfl) s7.p_hand dX4_handOf_24 ?_
      refine r_iload_n (pc := 27) dX4_handOf_27 rfl rfl ?_
      refine r_aald (pc := 28) s7.t_hand ⟨by decide, by decide⟩ rfl (fun _ _ _ => rfl) (by omega) (by omega) (s7.q_hand (by omega) (by omega)) dX4_handOf_28 ?_
      refine r_iload_n (pc := 29) dX4_handOf_29 rfl rfl ?_
      refine r_iald (pc := 30) (s7.u_hand (by omega) (by omega)) (by omega) (by omega) dX4_handOf_30 (fun hr30 => ?_)
      rw [hr.hand hq.1 hq.2 h0 (by omega)] at hr30 ⊢
      refine r_imul (pc := 31) dX4_handOf_31 ?_
      refine r_iadd (pc := 32) dX4_handOf_32 ?_
      refine r_istore_n2 (pc := 33) (Nat.le_of_ble_eq_true rfl) dX4_handOf_33 rfl ?_
      refine r_iinc3 (pc := 34) (Nat.le_of_ble_eq_true rfl) dX4_handOf_34 rfl ?_
      refine r_goto (pc := 37) 4 dX4_handOf_37 rfl ?_
      exact nx
  refine r_iconst (pc := 0) dX4_handOf_0 ?_
  refine r_istore_n2 (pc := 1) (Nat.le_of_ble_eq_true rfl) dX4_handOf_1 rfl ?_
  refine r_iconst (pc := 2) dX4_handOf_2 ?_
  refine r_istore_n3 (pc := 3) (Nat.le_of_ble_eq_true rfl) dX4_handOf_3 rfl ?_
  exact loop (σ 0).toNat 0 (by omega) (by omega)
end P31
