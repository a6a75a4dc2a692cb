/-! ===== odds: one card more ===== -/
section N1
variable {G : GE} {I I0 I' J : HI} {P P' P1 : HP} {T : HT} {z : Nat} {x t d g : Nat} {Q : QT} {σ μ κ sc u : Int → Int}
theorem C_rangeCheck {n a b : Int} (h0 : 0 ≤ a) (h1 : a ≤ b) (h2 : b ≤ n) (hn : rg n) (hQ : Q none I J P T z) : MC G yJ3_rangeCheck (ws_ yJ3_rangeCheck cJ3_rangeCheck 3 (none : Option FieldType)) (d) 0 0 [iv n, iv a, iv b] I J P T z Q nX := by
  refine MC.of (by decide) (Nat.le_of_ble_eq_true rfl) ?_
  show PW G mJ3_rangeCheck (rmD (d) 0 0) (MZ G Q nX 0 0) 0 0 I J P T z 0 [some (iv n), some (iv a), some (iv b)] []
  refine r_iload_n (pc := 0) dJ3_rangeCheck_0 rfl rfl ?_
  refine r_iload_n (pc := 1) dJ3_rangeCheck_1 rfl rfl ?_
  refine r_icmp_le (pc := 2) 46 dJ3_rangeCheck_2 rfl (by omega) (by omega) (fun h2 => ?_) (fun h2 => ?_)
  · refine r_iload_n (pc := 46) dJ3_rangeCheck_46 rfl rfl ?_
    refine r_if_ge (pc := 47) 59 dJ3_rangeCheck_47 rfl (by omega) (fun h47 => ?_) (fun h47 => ?_)
    · refine r_iload_n (pc := 59) dJ3_rangeCheck_59 rfl rfl ?_
      refine r_iload_n (pc := 60) dJ3_rangeCheck_60 rfl rfl ?_
      refine r_icmp_le (pc := 61) 73 dJ3_rangeCheck_61 rfl (by omega) (by omega) (fun h61 => ?_) (fun h61 => ?_)
      · refine r_return (pc := 73) rfl dJ3_rangeCheck_73 (Nat.le_of_ble_eq_true rfl) (Nat.le_of_ble_eq_true rfl) ?_
        exact hQ
      omega
    omega
  omega
theorem C_fillJ {a : Nat} {n k v : Int} (hT : T a = (3, n)) (hb : G.2.2.2.1 ≤ a) (hk : 0 ≤ k ∧ k ≤ n) (hv : rgj v) (hQ : Q none I (ur J a (fillr (J a) k v)) P T z) : MC G yJ3_fill_2 (ws_ yJ3_fill_2 cJ3_fill_2 6 (none : Option FieldType)) (d + 1) 0 0 [.ref a, iv 0, iv k, jv v] I J P T z Q nX := by
  refine MC.of (by decide) (Nat.le_of_ble_eq_true rfl) ?_
  show PW G mJ3_fill_2 (rmD (d + 1) 0 0) (MZ G Q nX 0 0) 0 0 I J P T z 0 [some (.ref a), some (iv 0), some (iv k), some (jv v), none, none] []
  refine r_aload_n (pc := 0) dJ3_fill_2_0 rfl rfl ?_
  refine r_alen (pc := 1) hT ⟨by decide, by decide⟩ dJ3_fill_2_1 (fun hn1 hm1 => ?_)
  refine r_iload_n (pc := 2) dJ3_fill_2_2 rfl rfl ?_
  refine r_iload_n (pc := 3) dJ3_fill_2_3 rfl rfl ?_
  refine r_callS3 (pc := 4) (C_rangeCheck (by omega) (by omega) (by omega) (by omega) fe_i) im_J3_rangeCheck q1327 dJ3_fill_2_4 (Nat.le_of_ble_eq_true rfl) (Nat.le_of_ble_eq_true rfl) rfl (k_fv ?_) (fun _ _ _ _ _ _ _ hx => no_x hx)
  refine r_iload_n (pc := 7) dJ3_fill_2_7 rfl rfl ?_
  refine r_istore5 (pc := 8) (Nat.le_of_ble_eq_true rfl) dJ3_fill_2_8 rfl ?_
  have loop : ∀ (m : Nat) (i : Int), 0 ≤ i → i ≤ k → k - i = m → PW G mJ3_fill_2 (rmD (d + 1) 0 0) (MZ G Q nX 0 0) 0 0 I (ur J a (fillr (J a) i v)) P T z 10 [some (.ref a), some (iv 0), some (iv k), some (jv v), none, some (iv i)] [] := by
    intro m
    induction m with
    | zero =>
      intro i h0 h1 h2
      refine r_iload (pc := 10) dJ3_fill_2_10 rfl ?_
      refine r_iload_n (pc := 12) dJ3_fill_2_12 rfl rfl ?_
      refine r_icmp_ge (pc := 13) 27 dJ3_fill_2_13 rfl (by omega) (by omega) (fun h13 => ?_) (fun h13 => ?_)
      · obtain rfl : i = k := by omega
        refine r_return (pc := 27) rfl dJ3_fill_2_27 (Nat.le_of_ble_eq_true rfl) (Nat.le_of_ble_eq_true rfl) ?_
        exact hQ
      omega
    | succ m ih =>
      intro i h0 h1 h2
      refine r_iload (pc := 10) dJ3_fill_2_10 rfl ?_
      refine r_iload_n (pc := 12) dJ3_fill_2_12 rfl rfl ?_
      refine r_icmp_ge (pc := 13) 27 dJ3_fill_2_13 rfl (by omega) (by omega) (fun h13 => ?_) (fun h13 => ?_)
      · omega
      refine r_aload_n (pc := 16) dJ3_fill_2_16 rfl rfl ?_
      refine r_iload (pc := 17) dJ3_fill_2_17 rfl ?_
      refine r_lload_n (pc := 19) dJ3_fill_2_19 rfl rfl ?_
      refine r_last (pc := 20) hT (by omega) (by omega) (by omega) hv dJ3_fill_2_20 ?_
      rw [ui_ur]
      refine r_iinc5 (pc := 21) (Nat.le_of_ble_eq_true rfl) dJ3_fill_2_21 rfl ?_
      refine r_goto (pc := 24) 10 dJ3_fill_2_24 rfl ?_
      have e : us (fillr (J a) i v) i v = fillr (J a) (i + 1) v := by
        funext j
        simp only [us, fillr]
        by_cases q : j = i
        · rw [if_pos q, if_pos (by omega)]
        · rw [if_neg q]
          by_cases r : 0 ≤ j ∧ j < i
          · rw [if_pos r, if_pos (by omega)]
          · rw [if_neg r, if_neg (by omega)]
      rw [e]
      exact ih (i + 1) (by omega) (by omega) (by omega)
  have e0 : ur J a (fillr (J a) 0 v) = J := by
    have : fillr (J a) 0 v = J a := by funext j; simp only [fillr]; rw [if_neg (by omega)]
    rw [this, ur_id]
  have := loop k.toNat 0 (by omega) (by omega) (by omega)
  rw [e0] at this
  exact this
/-- what is laid out ahead of counting -/
def UL (I : HI) (x : Nat) (n : Nat) (u κ sc : Int → Int) (S : Nat) : Prop := n ≤ 6 ∧ I x 13 = n ∧ I x 14 = S ∧ sc n = S ∧ (0 < S ∧ S ≤ 15625) ∧ RX sc (fun i => u i + 1) u n ∧ ∀ i : Int, 0 ≤ i → i < n → I (x + 78) i = κ i ∧ (0 ≤ κ i ∧ κ i < 13) ∧ I (x + 79) i = sc i ∧ I (x + 77) (κ i) = u i ∧ 0 ≤ u i ∧ u i ≤ 4
/-- one card more, of the first k kinds -/
def inr (κ sc u : Int → Int) (m s : Int) (g : Int → Int) (k : Nat) : Int := sm (fun i => if 0 < vs sc (fun i => u i + 1) u s i ∧ ¬ tb m (κ i) then vs sc (fun i => u i + 1) u s i * g (s + sc i) else 0) k
theorem inr_r {n : Nat} {m s : Int} (hu : ∀ i : Int, 0 ≤ i → i < n → 0 ≤ u i ∧ u i ≤ 4) {k : Nat} (hk : k ≤ n) (hn : n ≤ 6) : 0 ≤ inr κ sc u m s (fun _ => 1) k ∧ inr κ sc u m s (fun _ => 1) k ≤ 24 := by
  have h := sm_bd (f := fun i => if 0 < vs sc (fun i => u i + 1) u s i ∧ ¬ tb m (κ i) then vs sc (fun i => u i + 1) u s i * 1 else 0) (a := 0) (b := 4) (n := k) (fun i a b => by
    have e := hu i a (by omega)
    have r := Int.emod_nonneg (s / sc i) (show u i + 1 ≠ 0 by omega)
    split
    · rename_i c
      have : vs sc (fun i => u i + 1) u s i ≤ 4 := by show u i - s / sc i % (u i + 1) ≤ 4; omega
      omega
    · omega)
  have h' : 0 * (k : Int) ≤ inr κ sc u m s (fun _ => 1) k ∧ inr κ sc u m s (fun _ => 1) k ≤ 4 * (k : Int) := h
  omega
theorem C_wsz {S : Nat} {n : Nat} (hU : UL I x n u κ sc S) {s : Int} (h0 : 0 ≤ s) (h1 : s < S) {i : Int} (i0 : 0 ≤ i) (i1 : i < n) : 0 < sc i ∧ sc i ≤ 15625 := by
  obtain ⟨a1, a2, a3, a4, a5, a6, a7⟩ := hU
  have p := a6.pos i.toNat (by omega)
  rw [show ((i.toNat : Nat) : Int) = i by omega] at p
  refine ⟨p, ?_⟩
  obtain ⟨M, eM⟩ := a6.dvd (i := i.toNat) (n - i.toNat - 1) (by omega)
  rw [show i.toNat + 1 + (n - i.toNat - 1) = n by omega, show ((i.toNat : Nat) : Int) = i by omega, a4] at eM
  have hr : 0 < u i + 1 := by have := (a7 i i0 i1).2.2.2.2; omega
  have hM : 0 < M := by
    refine Classical.byContradiction fun c => ?_
    have : sc i * (u i + 1) * M ≤ 0 := Int.mul_nonpos_of_nonneg_of_nonpos (Int.le_of_lt (Int.mul_pos p hr)) (by omega)
    omega
  have e1 : sc i * 1 ≤ sc i * ((u i + 1) * M) := Int.mul_le_mul_of_nonneg_left (by have := Int.mul_pos hr hM; omega) (by omega)
  rw [← Int.mul_assoc] at e1
  omega
/-- while one card more is laid: states below s are done, of s the first k kinds -/
def PR (κ sc u : Int → Int) (n S : Nat) (m : Int) (f f' : Int → Int) (s : Int) (k : Nat) : Prop := (∀ a : Int, 0 ≤ a → a < S → 0 ≤ f' a) ∧ ∀ g : Int → Int, sm (fun a => f' a * g a) S = sm (fun a => f a * inr κ sc u m a g n) s.toNat + f s * inr κ sc u m s g k
theorem sm_mul1 {f : Int → Int} {n : Nat} : sm (fun a => f a * (fun _ => (1 : Int)) a) n = sm f n := sm_congr (fun i _ _ => Int.mul_one _)
theorem PR.le {n S : Nat} {m s : Int} {f f' : Int → Int} {k : Nat} (h : PR κ sc u n S m f f' s k) (hu : ∀ i : Int, 0 ≤ i → i < n → 0 ≤ u i ∧ u i ≤ 4) (hn : n ≤ 6) (hk : k ≤ n) (hf : ∀ a : Int, 0 ≤ a → a < S → 0 ≤ f a) (s0 : 0 ≤ s) (s1 : s < S) {a : Int} (a0 : 0 ≤ a) (a1 : a < S) : f' a ≤ 24 * sm f S := by
  have e := h.2 (fun _ => 1)
  rw [sm_mul1] at e
  have l1 := sm_le1 (f := f') (n := S) h.1 a0 (by omega)
  have m1 : sm (fun a => f a * inr κ sc u m a (fun _ => 1) n) s.toNat ≤ sm (fun a => 24 * f a) s.toNat := sm_mono (fun i x y => by
    have r := inr_r (κ := κ) (sc := sc) (m := m) (s := i) hu (Nat.le_refl n) hn
    have := Int.mul_le_mul_of_nonneg_left r.2 (hf i x (by omega))
    rw [Int.mul_comm 24]
    exact this)
  have m2 : f s * inr κ sc u m s (fun _ => 1) k ≤ 24 * f s := by
    have r := inr_r (κ := κ) (sc := sc) (m := m) (s := s) hu hk hn
    have := Int.mul_le_mul_of_nonneg_left r.2 (hf s s0 s1)
    rw [Int.mul_comm 24]
    exact this
  have m3 : sm (fun a => 24 * f a) s.toNat + 24 * f s = sm (fun a => 24 * f a) (s + 1).toNat := sm_succ s0
  have m4 : ∀ k : Nat, sm (fun a => 24 * f a) k = 24 * sm f k := by
    intro k
    induction k with
    | zero => rfl
    | succ k ih =>
      have a1 := sm_succ (f := fun a => 24 * f a) (i := (k : Int)) (by omega)
      have a2 := sm_succ (f := f) (i := (k : Int)) (by omega)
      rw [show ((k : Int)).toNat = k by omega, show ((k : Int) + 1).toNat = k + 1 by omega] at a1 a2
      omega
  have m5 : sm f (s + 1).toNat ≤ sm f S := by
    obtain ⟨d, ed⟩ : ∃ d, S = (s + 1).toNat + d := ⟨S - (s + 1).toNat, by omega⟩
    rw [ed, sm_app]
    have := sm_bd (f := fun j => f (((s + 1).toNat : Int) + j)) (a := 0) (b := sm f S) (n := d) (fun i x y => ⟨hf _ (by omega) (by omega), sm_le1 (f := f) (n := S) hf (by omega) (by omega)⟩)
    omega
  rw [m4, m4] at m3
  rw [m4] at m1
  omega
theorem C_one (hs : shX G P T x) {n S : Nat} (hU : UL I x n u κ sc S) {a b : Nat} (ha : P x 15 = some a) (hbn : P x 16 = some b) (hab : (a = x + 80 ∧ b = x + 81) ∨ (a = x + 81 ∧ b = x + 80)) {m : Int} (hm : 0 ≤ m ∧ m < 8192) (hf : ∀ s : Int, 0 ≤ s → s < S → 0 ≤ J a s) (hB : sm (J a) S ≤ 100000000000000000)
    (hQ : ∀ f', NX κ sc (fun i => u i + 1) u n S m (J a) f' → Q none I (ur J b f') (up (up P x 15 (some b)) x 16 (some a)) T z) : MC G yX1_one (ws_ yX1_one cX1_one 5 (none : Option FieldType)) (d + 2) 0 0 [.ref x, iv m] I J P T z Q nX := by
  have hb := hs.b
  obtain ⟨hn6, e13, e14, eS, hS, hRX, hL⟩ := id hU
  have hu : ∀ i : Int, 0 ≤ i → i < n → 0 ≤ u i ∧ u i ≤ 4 := fun i p q => (hL i p q).2.2.2.2
  have hTa : T a = (3, 15625) := by rcases hab with q | q <;> rw [q.1]; exact hs.2.2.2.1.1; exact hs.2.2.2.1.2
  have hTb : T b = (3, 15625) := by rcases hab with q | q <;> rw [q.2]; exact hs.2.2.2.1.2; exact hs.2.2.2.1.1
  have hne : a ≠ b := by omega
  have hga : G.2.2.2.1 ≤ a := by omega
  have hgb : G.2.2.2.1 ≤ b := by omega
  refine MC.of (by decide) (Nat.le_of_ble_eq_true rfl) ?_
  show PW G mX1_one (rmD (d + 2) 0 0) (MZ G Q nX 0 0) 0 0 I J P T z 0 [some (.ref x), some (iv m), none, none, none] []
  refine r_aload_n (pc := 0) dX1_one_0 rfl rfl ?_
  refine r_getr (pc := 1) (c := 1) (k := 16) (kz := 16) hs.o cok_1 (Nat.le_of_ble_eq_true rfl) q526 ⟨rfl, rfl⟩ (Or.inl rfl) rfl (fun _ _ _ => rfl) hbn dX1_one_1 ?_
  refine r_iconst (pc := 4) dX1_one_4 ?_
  refine r_aload_n (pc := 5) dX1_one_5 rfl rfl ?_
  refine r_geti (pc := 6) (c := 1) (k := 14) (kz := 14) hs.o cok_1 (Nat.le_of_ble_eq_true rfl) q524 ⟨rfl, rfl⟩ (Or.inl rfl) rfl (fun _ _ _ => rfl) dX1_one_6 (fun hr6 => ?_)
  rw [e14] at hr6 ⊢
  refine r_lconst (pc := 9) (x := 0) dX1_one_9 (by decide +kernel) ?_
  refine r_callS4 (pc := 10) (C_fillJ hTb hgb (by omega) (by omega) fe_i) im_J3_fill_2 q1324 dX1_one_10 (Nat.le_of_ble_eq_true rfl) (Nat.le_of_ble_eq_true rfl) rfl (k_fv ?_) (fun _ _ _ _ _ _ _ hx => no_x hx)
  refine r_iconst (pc := 13) dX1_one_13 ?_
  refine r_istore_n2 (pc := 14) (Nat.le_of_ble_eq_true rfl) dX1_one_14 rfl ?_
  have outer : ∀ (q : Nat) (s : Int) (f' : Int → Int) (l3 l4 : Option Value), 0 ≤ s → s + q = S → PR κ sc u n S m (J a) f' s 0 → PW G mX1_one (rmD (d + 2) 0 0) (MZ G Q nX 0 0) 0 0 I (ur J b f') P T z 15 [some (.ref x), some (iv m), some (iv s), l3, l4] [] := by
    intro q
    induction q with
    | zero =>
      intro s f' l3 l4 s0 sq hp
      obtain rfl : s = S := by omega
      refine r_iload_n (pc := 15) dX1_one_15 rfl rfl ?_
      refine r_aload_n (pc := 16) dX1_one_16 rfl rfl ?_
      refine r_geti (pc := 17) (c := 1) (k := 14) (kz := 14) hs.o cok_1 (Nat.le_of_ble_eq_true rfl) q524 ⟨rfl, rfl⟩ (Or.inl rfl) rfl (fun _ _ _ => rfl) dX1_one_17 (fun hr17 => ?_)
      rw [e14] at hr17 ⊢
      refine r_icmp_ge (pc := 20) 139 dX1_one_20 rfl (by omega) (by omega) (fun h20 => ?_) (fun h20 => ?_)
      · refine r_aload_n (pc := 139) dX1_one_139 rfl rfl ?_
        refine r_getr (pc := 140) (c := 1) (k := 15) (kz := 15) hs.o cok_1 (Nat.le_of_ble_eq_true rfl) q525 ⟨rfl, rfl⟩ (Or.inl rfl) rfl (fun _ _ _ => rfl) ha dX1_one_140 ?_
        refine r_astore_n2 (pc := 143) (Nat.le_of_ble_eq_true rfl) dX1_one_143 rfl ?_
        refine r_aload_n (pc := 144) dX1_one_144 rfl rfl ?_
        refine r_aload_n (pc := 145) dX1_one_145 rfl rfl ?_
        refine r_getr (pc := 146) (c := 1) (k := 16) (kz := 16) hs.o cok_1 (Nat.le_of_ble_eq_true rfl) q526 ⟨rfl, rfl⟩ (Or.inl rfl) rfl (fun _ _ _ => rfl) hbn dX1_one_146 ?_
        refine r_putr (pc := 149) (r := some b) (c := 1) (k := 15) (kz := 15) hs.o cok_1 (Nat.le_of_ble_eq_true rfl) q525 ⟨rfl, rfl⟩ (Or.inl rfl) rfl (by omega) rfl rfl rfl (fun _ _ _ => rfl) ⟨rfl, rfl⟩ dX1_one_149 ?_
        have hs2 := hs.pf (PF.rf.upd (v := some b) (show okP x x 15 by unfold okP; omega))
        refine r_aload_n (pc := 152) dX1_one_152 rfl rfl ?_
        refine r_aload_n (pc := 153) dX1_one_153 rfl rfl ?_
        refine r_putr (pc := 154) (r := some a) (c := 1) (k := 16) (kz := 16) hs2.o cok_1 (Nat.le_of_ble_eq_true rfl) q526 ⟨rfl, rfl⟩ (Or.inl rfl) rfl (by omega) rfl rfl rfl (fun _ _ _ => rfl) ⟨rfl, rfl⟩ dX1_one_154 ?_
        refine r_return (pc := 157) rfl dX1_one_157 (Nat.le_of_ble_eq_true rfl) (Nat.le_of_ble_eq_true rfl) ?_
        refine hQ f' ⟨hp.1, fun g => ?_⟩
        rw [hp.2 g]
        show _ + J a S * 0 = _
        rw [Int.mul_zero, Int.add_zero]
        rfl
      omega
    | succ q ih =>
      intro s f' l3 l4 s0 sq hp
      have hfs := hf s s0 (by omega)
      have hfB := sm_le1 (f := J a) (n := S) hf s0 (by omega)
      have nxt : ∀ (f' : Int → Int) (l3 l4 : Option Value), PR κ sc u n S m (J a) f' s n → PW G mX1_one (rmD (d + 2) 0 0) (MZ G Q nX 0 0) 0 0 I (ur J b f') P T z 133 [some (.ref x), some (iv m), some (iv s), l3, l4] [] := by
        intro f' l3 l4 hp
        refine r_iinc2 (pc := 133) (Nat.le_of_ble_eq_true rfl) dX1_one_133 rfl ?_
        refine r_goto (pc := 136) 15 dX1_one_136 rfl ?_
        refine ih (s + 1) f' l3 l4 (by omega) (by omega) ⟨hp.1, fun g => ?_⟩
        rw [hp.2 g]
        have := sm_succ (f := fun a' => J a a' * inr κ sc u m a' g n) s0
        rw [this]
        show _ = _ + J a (s + 1) * 0
        rw [Int.mul_zero, Int.add_zero]
      refine r_iload_n (pc := 15) dX1_one_15 rfl rfl ?_
      refine r_aload_n (pc := 16) dX1_one_16 rfl rfl ?_
      refine r_geti (pc := 17) (c := 1) (k := 14) (kz := 14) hs.o cok_1 (Nat.le_of_ble_eq_true rfl) q524 ⟨rfl, rfl⟩ (Or.inl rfl) rfl (fun _ _ _ => rfl) dX1_one_17 (fun hr17 => ?_)
      rw [e14] at hr17 ⊢
      refine r_icmp_ge (pc := 20) 139 dX1_one_20 rfl (by omega) (by omega) (fun h20 => ?_) (fun h20 => ?_)
      · omega
      refine r_aload_n (pc := 23) dX1_one_23 rfl rfl ?_
      refine r_getr (pc := 24) (c := 1) (k := 15) (kz := 15) hs.o cok_1 (Nat.le_of_ble_eq_true rfl) q525 ⟨rfl, rfl⟩ (Or.inl rfl) rfl (fun _ _ _ => rfl) ha dX1_one_24 ?_
      refine r_iload_n (pc := 27) dX1_one_27 rfl rfl ?_
      refine r_lald (pc := 28) hTa (by omega) (by omega) dX1_one_28 (fun hr28 => ?_)
      rw [ur_n hne] at hr28 ⊢
      refine r_lconst (pc := 29) (x := 0) dX1_one_29 (by decide +kernel) ?_
      refine r_lcmp (pc := 30) dX1_one_30 (by omega) (by omega) ?_
      have lr := lc_r (x := J a s) (y := 0)
      refine r_if_ne (pc := 31) 37 dX1_one_31 rfl (by omega) (fun h31 => ?_) (fun h31 => ?_)
      · refine r_iconst (pc := 37) dX1_one_37 ?_
        refine r_istore_n3 (pc := 38) (Nat.le_of_ble_eq_true rfl) dX1_one_38 rfl ?_
        have inner : ∀ (w : Nat) (i : Int) (f' : Int → Int) (l4 : Option Value), 0 ≤ i → i + w = n → PR κ sc u n S m (J a) f' s i.toNat → PW G mX1_one (rmD (d + 2) 0 0) (MZ G Q nX 0 0) 0 0 I (ur J b f') P T z 39 [some (.ref x), some (iv m), some (iv s), some (iv i), l4] [] := by
          intro w
          induction w with
          | zero =>
            intro i f' l4 i0 iw hp
            obtain rfl : i = n := by omega
            refine r_iload_n (pc := 39) dX1_one_39 rfl rfl ?_
            refine r_aload_n (pc := 40) dX1_one_40 rfl rfl ?_
            refine r_geti (pc := 41) (c := 1) (k := 13) (kz := 13) hs.o cok_1 (Nat.le_of_ble_eq_true rfl) q523 ⟨rfl, rfl⟩ (Or.inl rfl) rfl (fun _ _ _ => rfl) dX1_one_41 (fun hr41 => ?_)
            rw [e13] at hr41 ⊢
            refine r_icmp_ge (pc := 44) 133 dX1_one_44 rfl (by omega) (by omega) (fun h44 => ?_) (fun h44 => ?_)
            · exact nxt f' _ _ (by rw [show ((n : Int)).toNat = n by omega] at hp; exact hp)
            omega
          | succ w ihw =>
            intro i f' l4 i0 iw hp
            obtain ⟨eκ, hκ, esc, eu, u0, u4⟩ := hL i i0 (by omega)
            have hsz := C_wsz hU s0 (by omega) i0 (by omega : i < n)
            have hd0 := Int.emod_nonneg (s / sc i) (show u i + 1 ≠ 0 by omega)
            have hd1 := Int.emod_lt_of_pos (s / sc i) (show 0 < u i + 1 by omega)
            have q0 : 0 ≤ s / sc i := Int.ediv_nonneg s0 (by omega)
            have q1 : s / sc i ≤ s := Int.ediv_le_self _ s0
            have evs : vs sc (fun i => u i + 1) u s i = u i - s / sc i % (u i + 1) := rfl
            have hin : ∀ g, inr κ sc u m s g (i + 1).toNat = inr κ sc u m s g i.toNat + if 0 < vs sc (fun i => u i + 1) u s i ∧ ¬ tb m (κ i) then vs sc (fun i => u i + 1) u s i * g (s + sc i) else 0 := fun g => (sm_succ (f := fun i => if 0 < vs sc (fun i => u i + 1) u s i ∧ ¬ tb m (κ i) then vs sc (fun i => u i + 1) u s i * g (s + sc i) else 0) i0).symm
            have skip : ¬ (0 < vs sc (fun i => u i + 1) u s i ∧ ¬ tb m (κ i)) → ∀ l4 : Option Value, PW G mX1_one (rmD (d + 2) 0 0) (MZ G Q nX 0 0) 0 0 I (ur J b f') P T z 127 [some (.ref x), some (iv m), some (iv s), some (iv i), l4] [] := by
              intro c l4
              refine r_iinc3 (pc := 127) (Nat.le_of_ble_eq_true rfl) dX1_one_127 rfl ?_
              refine r_goto (pc := 130) 39 dX1_one_130 rfl ?_
              refine ihw (i + 1) f' l4 (by omega) (by omega) ⟨hp.1, fun g => ?_⟩
              rw [hp.2 g, hin g, if_neg c, Int.add_zero]
            refine r_iload_n (pc := 39) dX1_one_39 rfl rfl ?_
            refine r_aload_n (pc := 40) dX1_one_40 rfl rfl ?_
            refine r_geti (pc := 41) (c := 1) (k := 13) (kz := 13) hs.o cok_1 (Nat.le_of_ble_eq_true rfl) q523 ⟨rfl, rfl⟩ (Or.inl rfl) rfl (fun _ _ _ => rfl) dX1_one_41 (fun hr41 => ?_)
            rw [e13] at hr41 ⊢
            refine r_icmp_ge (pc := 44) 133 dX1_one_44 rfl (by omega) (by omega) (fun h44 => ?_) (fun h44 => ?_)
            · omega
            refine r_aload_n (pc := 47) dX1_one_47 rfl rfl ?_
            refine r_getr (pc := 48) (c := 1) (k := 10) (kz := 10) hs.o cok_1 (Nat.le_of_ble_eq_true rfl) q520 ⟨rfl, rfl⟩ (Or.inl rfl) rfl (fun _ _ _ => rfl) hs.p_unseen dX1_one_48 ?_
            refine r_aload_n (pc := 51) dX1_one_51 rfl rfl ?_
            refine r_getr (pc := 52) (c := 1) (k := 11) (kz := 11) hs.o cok_1 (Nat.le_of_ble_eq_true rfl) q521 ⟨rfl, rfl⟩ (Or.inl rfl) rfl (fun _ _ _ => rfl) hs.p_kindAt dX1_one_52 ?_
            refine r_iload_n (pc := 55) dX1_one_55 rfl rfl ?_
            refine r_iald (pc := 56) hs.t_kindAt (by omega) (by omega) dX1_one_56 (fun hr56 => ?_)
            rw [eκ] at hr56 ⊢
            refine r_iald (pc := 57) hs.t_unseen (by omega) (by omega) dX1_one_57 (fun hr57 => ?_)
            rw [eu] at hr57 ⊢
            refine r_iload_n (pc := 58) dX1_one_58 rfl rfl ?_
            refine r_aload_n (pc := 59) dX1_one_59 rfl rfl ?_
            refine r_getr (pc := 60) (c := 1) (k := 12) (kz := 12) hs.o cok_1 (Nat.le_of_ble_eq_true rfl) q522 ⟨rfl, rfl⟩ (Or.inl rfl) rfl (fun _ _ _ => rfl) hs.p_scale dX1_one_60 ?_
            refine r_iload_n (pc := 63) dX1_one_63 rfl rfl ?_
            refine r_iald (pc := 64) hs.t_scale (by omega) (by omega) dX1_one_64 (fun hr64 => ?_)
            rw [esc] at hr64 ⊢
            refine r_idiv (pc := 65) dX1_one_65 (by omega) (by omega) ?_
            refine r_aload_n (pc := 66) dX1_one_66 rfl rfl ?_
            refine r_getr (pc := 67) (c := 1) (k := 10) (kz := 10) hs.o cok_1 (Nat.le_of_ble_eq_true rfl) q520 ⟨rfl, rfl⟩ (Or.inl rfl) rfl (fun _ _ _ => rfl) hs.p_unseen dX1_one_67 ?_
            refine r_aload_n (pc := 70) dX1_one_70 rfl rfl ?_
            refine r_getr (pc := 71) (c := 1) (k := 11) (kz := 11) hs.o cok_1 (Nat.le_of_ble_eq_true rfl) q521 ⟨rfl, rfl⟩ (Or.inl rfl) rfl (fun _ _ _ => rfl) hs.p_kindAt dX1_one_71 ?_
            refine r_iload_n (pc := 74) dX1_one_74 rfl rfl ?_
            refine r_iald (pc := 75) hs.t_kindAt (by omega) (by omega) dX1_one_75 (fun hr75 => ?_)
            rw [eκ] at hr75 ⊢
            refine r_iald (pc := 76) hs.t_unseen (by omega) (by omega) dX1_one_76 (fun hr76 => ?_)
            rw [eu] at hr76 ⊢
            refine r_iconst (pc := 77) dX1_one_77 ?_
            refine r_iadd (pc := 78) dX1_one_78 ?_
            refine r_irem (pc := 79) dX1_one_79 (by omega) (by omega) ?_
            refine r_isub (pc := 80) dX1_one_80 ?_
            refine r_istore4 (pc := 81) (Nat.le_of_ble_eq_true rfl) dX1_one_81 rfl ?_
            refine r_iload (pc := 83) dX1_one_83 rfl ?_
            refine r_if_le (pc := 85) 127 dX1_one_85 rfl (by omega) (fun h85 => ?_) (fun h85 => ?_)
            · exact skip (fun c => by rw [evs] at c; omega) _
            refine r_iload_n (pc := 88) dX1_one_88 rfl rfl ?_
            refine r_aload_n (pc := 89) dX1_one_89 rfl rfl ?_
            refine r_getr (pc := 90) (c := 1) (k := 11) (kz := 11) hs.o cok_1 (Nat.le_of_ble_eq_true rfl) q521 ⟨rfl, rfl⟩ (Or.inl rfl) rfl (fun _ _ _ => rfl) hs.p_kindAt dX1_one_90 ?_
            refine r_iload_n (pc := 93) dX1_one_93 rfl rfl ?_
            refine r_iald (pc := 94) hs.t_kindAt (by omega) (by omega) dX1_one_94 (fun hr94 => ?_)
            rw [eκ] at hr94 ⊢
            refine r_callS2 (pc := 95) (C_isOf (by omega) (by omega) fe_i) im_X1_isOf q1334 dX1_one_95 (Nat.le_of_ble_eq_true rfl) (Nat.le_of_ble_eq_true rfl) rfl (k_fi ?_) (fun _ _ _ _ _ _ _ hx => no_x hx)
            refine r_if_ne (pc := 98) 127 dX1_one_98 rfl bz_g (fun h98 => ?_) (fun h98 => ?_)
            · exact skip (fun c => c.2 (bz_ne.mp h98)) _
            have ctb := bz_0.mp h98
            have hcond : 0 < vs sc (fun i => u i + 1) u s i ∧ ¬ tb m (κ i) := ⟨by rw [evs]; omega, ctb⟩
            have hlt : s + sc i < S := by
              have := st_lt hRX s0 (i := i.toNat) (by omega) (by omega) (by rw [show ((i.toNat : Nat) : Int) = i by omega]; show s / sc i % (u i + 1) + 1 < u i + 1; omega)
              rw [show ((i.toNat : Nat) : Int) = i by omega] at this
              omega
            have hnx : PR κ sc u n S m (J a) (us f' (s + sc i) (f' (s + sc i) + J a s * vs sc (fun i => u i + 1) u s i)) s (i + 1).toNat := by
              refine ⟨fun a' p p2 => ?_, fun g => ?_⟩
              · have m0 : 0 ≤ J a s * vs sc (fun i => u i + 1) u s i := Int.mul_nonneg hfs (by omega)
                have m1 := hp.1 a' p p2
                unfold us
                split
                · rename_i e; rw [← e]; omega
                · exact m1
              · have e := sm_upd (f := fun a' => f' a' * g a') (g := fun a' => us f' (s + sc i) (f' (s + sc i) + J a s * vs sc (fun i => u i + 1) u s i) a' * g a') (a := s + sc i) (n := S) (by omega) hlt (fun a' _ _ c => by rw [us_n c])
                rw [e, hp.2 g, hin g, if_pos hcond]
                simp only [us_s]
                rw [Int.add_mul, Int.mul_add, Int.mul_assoc]
                omega
            have hle := hnx.le hu hn6 (by omega) hf s0 (by omega) (a := s + sc i) (by omega) hlt
            have hge := hnx.1 (s + sc i) (by omega) hlt
            rw [us_s] at hle hge
            refine r_aload_n (pc := 101) dX1_one_101 rfl rfl ?_
            refine r_getr (pc := 102) (c := 1) (k := 16) (kz := 16) hs.o cok_1 (Nat.le_of_ble_eq_true rfl) q526 ⟨rfl, rfl⟩ (Or.inl rfl) rfl (fun _ _ _ => rfl) hbn dX1_one_102 ?_
            refine r_iload_n (pc := 105) dX1_one_105 rfl rfl ?_
            refine r_aload_n (pc := 106) dX1_one_106 rfl rfl ?_
            refine r_getr (pc := 107) (c := 1) (k := 12) (kz := 12) hs.o cok_1 (Nat.le_of_ble_eq_true rfl) q522 ⟨rfl, rfl⟩ (Or.inl rfl) rfl (fun _ _ _ => rfl) hs.p_scale dX1_one_107 ?_
            refine r_iload_n (pc := 110) dX1_one_110 rfl rfl ?_
            refine r_iald (pc := 111) hs.t_scale (by omega) (by omega) dX1_one_111 (fun hr111 => ?_)
            rw [esc] at hr111 ⊢
            refine r_iadd (pc := 112) dX1_one_112 ?_
            refine r_dup2 (pc := 113) dX1_one_113 rfl rfl ?_
            refine r_lald (pc := 114) hTb (by omega) (by omega) dX1_one_114 (fun hr114 => ?_)
            rw [ur_s] at hr114 ⊢
            refine r_aload_n (pc := 115) dX1_one_115 rfl rfl ?_
            refine r_getr (pc := 116) (c := 1) (k := 15) (kz := 15) hs.o cok_1 (Nat.le_of_ble_eq_true rfl) q525 ⟨rfl, rfl⟩ (Or.inl rfl) rfl (fun _ _ _ => rfl) ha dX1_one_116 ?_
            refine r_iload_n (pc := 119) dX1_one_119 rfl rfl ?_
            refine r_lald (pc := 120) hTa (by omega) (by omega) dX1_one_120 (fun hr120 => ?_)
            rw [ur_n hne] at hr120 ⊢
            refine r_iload (pc := 121) dX1_one_121 rfl ?_
            refine r_i2l (pc := 123) dX1_one_123 (by omega) ?_
            refine r_lmul (pc := 124) dX1_one_124 ?_
            refine r_ladd (pc := 125) dX1_one_125 ?_
            refine r_last (pc := 126) hTb (by omega) (by omega) (by omega) (by rw [← evs]; omega) dX1_one_126 ?_
            rw [ui_ur, ← evs]
            refine r_iinc3 (pc := 127) (Nat.le_of_ble_eq_true rfl) dX1_one_127 rfl ?_
            refine r_goto (pc := 130) 39 dX1_one_130 rfl ?_
            exact ihw (i + 1) _ _ (by omega) (by omega) hnx
        exact inner n 0 f' l4 (by omega) (by omega) hp
      have z0 : J a s = 0 := lc_eq.mp (by omega)
      refine r_goto (pc := 34) 133 dX1_one_34 rfl ?_
      refine nxt f' _ _ ⟨hp.1, fun g => ?_⟩
      rw [hp.2 g, z0, Int.zero_mul, Int.zero_mul]
  have e0 : ∀ s : Int, 0 ≤ s → s < S → fillr (J b) S 0 s = 0 := fun s p q => fillr_i p q
  refine outer S 0 (fillr (J b) S 0) none none (by omega) (by omega) ⟨fun s p q => by rw [e0 s p q]; omega, fun g => ?_⟩
  rw [sm_z (fun s p q => by rw [e0 s p q, Int.zero_mul])]
  show 0 = 0 + J a 0 * 0
  omega
end N1
