/-! ===== odds: all ways are counted ===== -/
/-- what one of the others can't be; of one person none being of a kind -/
def mk1 (σ : Int → Int) (q0 nt q i : Int) : Int := if q = q0 then (((σ (235 + 52 * q + i)).toNat ||| (2 ^ nt.toNat : Nat) : Nat) : Int) else σ (235 + 52 * q + i)
def Lq (σ : Int → Int) (q0 nt q : Int) : Nat → Int → List Int
  | 0, _ => []
  | k + 1, i => mk1 σ q0 nt q i :: Lq σ q0 nt q k (i + 1)
def LM (σ : Int → Int) (o q0 nt : Int) : Nat → Int → List Int
  | 0, _ => []
  | k + 1, q => (if q = o then [] else Lq σ q0 nt q (σ (229 + q)).toNat 0) ++ LM σ o q0 nt k (q + 1)
theorem pw24 {k : Nat} (h : k ≤ 12) : (24 : Int) ^ k ≤ 36520347436056576 := by
  rcases (show k = 0 ∨ k = 1 ∨ k = 2 ∨ k = 3 ∨ k = 4 ∨ k = 5 ∨ k = 6 ∨ k = 7 ∨ k = 8 ∨ k = 9 ∨ k = 10 ∨ k = 11 ∨ k = 12 by omega) with rfl | rfl | rfl | rfl | rfl | rfl | rfl | rfl | rfl | rfl | rfl | rfl | rfl <;> decide +kernel
theorem HC_1 {n : Nat} : HC n (fun _ => 1) := fun _ _ _ => rfl
theorem WY.sum {κ sc r u f : Int → Int} {n S : Nat} {L : List Int} (h : WY κ sc r u n S f L) : sm f S = TW κ n L (fun _ => 1) u := by
  rw [← h.2 _ HC_1]
  exact sm_congr (fun i _ _ => (Int.mul_one _).symm)
theorem TW_le {κ u : Int → Int} {n : Nat} {L : List Int} (hn : n ≤ 6) (hu : ∀ i : Int, 0 ≤ i → i < n → u i ≤ 4) (hL : L.length ≤ 12) : 0 ≤ TW κ n L (fun _ => 1) u ∧ TW κ n L (fun _ => 1) u ≤ 36520347436056576 := by
  have := TW_r (κ := κ) hn L (h := fun _ => 1) (B := 1) (fun v _ => by omega) u hu
  have := pw24 hL
  omega
section N2
variable {G : GE} {I I0 I' J : HI} {P P' P1 : HP} {T : HT} {z : Nat} {x t d g : Nat} {Q : QT} {σ μ κ sc u : Int → Int}
abbrev Pab (P : HP) (x a b : Nat) : HP := up (up P x 15 (some a)) x 16 (some b)
theorem Pab_15 {a b : Nat} : Pab P x a b x 15 = some a := by unfold Pab up; simp
theorem Pab_16 {a b : Nat} : Pab P x a b x 16 = some b := by unfold Pab up; simp
theorem Pab_Pab {a b c e : Nat} : Pab (Pab P x a b) x c e = Pab P x c e := by
  funext p i
  unfold Pab up
  by_cases h1 : i = 16 <;> by_cases h2 : i = 15 <;> by_cases h3 : p = x <;> simp [h1, h2, h3]
theorem Pab_pf {a b : Nat} : PF x P (Pab P x a b) := (PF.rf.upd (by unfold okP; omega)).upd (by unfold okP; omega)
theorem XS.pab {a b : Nat} (hx : XS G I P T x t σ μ) : XS G I (Pab P x a b) T x t σ μ := hx.pf Pab_pf (fun _ _ => rfl) (by unfold Pab up; simp) (by unfold Pab; rw [up_n (by omega), up_n (by omega)])
theorem C_ways (hx : XS G I P T x t σ μ) {n S : Nat} (hU : UL I x n u κ sc S) {a0 b0 : Nat} (ha : P x 15 = some a0) (hbn : P x 16 = some b0) (hab : (a0 = x + 80 ∧ b0 = x + 81) ∨ (a0 = x + 81 ∧ b0 = x + 80)) {o q0 nt : Int} (ho : 0 ≤ o ∧ o < 6) (hq : (q0 = -1 ∧ nt = -1) ∨ ((0 ≤ q0 ∧ q0 < 6) ∧ 0 ≤ nt ∧ nt < 13)) (hlen : (LM σ o q0 nt (σ 1).toNat 0).length ≤ 12)
    (hQ : ∀ a b J', ((a = x + 80 ∧ b = x + 81) ∨ (a = x + 81 ∧ b = x + 80)) → (∀ c : Nat, c ≠ x + 80 → c ≠ x + 81 → J' c = J c) → WY κ sc (fun i => u i + 1) u n S (J' a) (LM σ o q0 nt (σ 1).toNat 0) → Q (some (jv (TW κ n (LM σ o q0 nt (σ 1).toNat 0) (fun _ => 1) u))) I J' (Pab P x a b) T z) : MC G yX1_count (ws_ yX1_count cX1_count 7 (some FieldType.long)) (d + 3) 0 0 [.ref x, iv o, iv q0, iv nt] I J P T z Q nX := by
  have hb := hx.b
  have ht := hx.ta
  have hcv := hx.w.cv
  obtain ⟨hn6, e13, e14, eS, hS, hRX, hL⟩ := id hU
  have hu : ∀ i : Int, 0 ≤ i → i < n → u i ≤ 4 := fun i p q => (hL i p q).2.2.2.2.2
  have hTT : ∀ c : Nat, c = x + 80 ∨ c = x + 81 → T c = (3, 15625) := fun c q => by
    rcases q with rfl | rfl
    · exact hx.x.2.2.2.1.1
    · exact hx.x.2.2.2.1.2
  generalize hLL : LM σ o q0 nt (σ 1).toNat 0 = L at hlen hQ
  refine MC.of (by decide) (Nat.le_of_ble_eq_true rfl) ?_
  show PW G mX1_count (rmD (d + 3) 0 0) (MZ G Q nX 0 0) 0 0 I J P T z 0 [some (.ref x), some (iv o), some (iv q0), some (iv nt), none, none, none] []
  have hTa := hTT a0 (by omega)
  refine r_aload_n (pc := 0) dX1_count_0 rfl rfl ?_
  refine r_getr (pc := 1) (c := 1) (k := 15) (kz := 15) hx.o cok_1 (Nat.le_of_ble_eq_true rfl) q525 ⟨rfl, rfl⟩ (Or.inl rfl) rfl (fun _ _ _ => rfl) ha dX1_count_1 ?_
  refine r_iconst (pc := 4) dX1_count_4 ?_
  refine r_aload_n (pc := 5) dX1_count_5 rfl rfl ?_
  refine r_geti (pc := 6) (c := 1) (k := 14) (kz := 14) hx.o cok_1 (Nat.le_of_ble_eq_true rfl) q524 ⟨rfl, rfl⟩ (Or.inl rfl) rfl (fun _ _ _ => rfl) dX1_count_6 (fun hr6 => ?_)
  rw [e14] at hr6 ⊢
  refine r_lconst (pc := 9) (x := 0) dX1_count_9 (by decide +kernel) ?_
  refine r_callS4 (pc := 10) (C_fillJ hTa (by omega) (by omega) (by omega) fe_i) im_J3_fill_2 q1324 dX1_count_10 (Nat.le_of_ble_eq_true rfl) (Nat.le_of_ble_eq_true rfl) rfl (k_fv ?_) (fun _ _ _ _ _ _ _ hx => no_x hx)
  refine r_aload_n (pc := 13) dX1_count_13 rfl rfl ?_
  refine r_getr (pc := 14) (c := 1) (k := 15) (kz := 15) hx.o cok_1 (Nat.le_of_ble_eq_true rfl) q525 ⟨rfl, rfl⟩ (Or.inl rfl) rfl (fun _ _ _ => rfl) ha dX1_count_14 ?_
  refine r_iconst (pc := 17) dX1_count_17 ?_
  refine r_lconst (pc := 18) (x := 1) dX1_count_18 (by decide +kernel) ?_
  refine r_last (pc := 19) hTa (by omega) (by omega) (by omega) (by omega) dX1_count_19 ?_
  rw [ui_ur]
  refine r_iconst (pc := 20) dX1_count_20 ?_
  refine r_istore4 (pc := 21) (Nat.le_of_ble_eq_true rfl) dX1_count_21 rfl ?_
  have hst : WY κ sc (fun i => u i + 1) u n S (us (fillr (J a0) S 0) 0 1) [] := WY.start hRX (by omega) us_s (fun s p q => by rw [us_n (by omega)]; exact fillr_i (by omega) q)
  have fin : ∀ (a b : Nat) (J1 : HI) (l4 l5 l6 : Option Value), ((a = x + 80 ∧ b = x + 81) ∨ (a = x + 81 ∧ b = x + 80)) → (∀ c : Nat, c ≠ x + 80 → c ≠ x + 81 → J1 c = J c) → WY κ sc (fun i => u i + 1) u n S (J1 a) L → PW G mX1_count (rmD (d + 3) 0 0) (MZ G Q nX 0 0) 0 0 I J1 (Pab P x a b) T z 107 [some (.ref x), some (iv o), some (iv q0), some (iv nt), l4, l5, l6] [] := by
    intro a b J1 l4 l5 l6 hab hJ hW
    have hx1 := hx.pab (a := a) (b := b)
    have hTa := hTT a (by omega)
    have ht9 := TW_le (κ := κ) hn6 hu hlen
    have hsum := hW.sum
    refine r_lconst (pc := 107) (x := 0) dX1_count_107 (by decide +kernel) ?_
    refine r_lstore4 (pc := 108) (Nat.le_of_ble_eq_true rfl) dX1_count_108 rfl ?_
    refine r_iconst (pc := 110) dX1_count_110 ?_
    refine r_istore6 (pc := 111) (Nat.le_of_ble_eq_true rfl) dX1_count_111 rfl ?_
    have loop : ∀ (k : Nat) (s : Int), 0 ≤ s → s + k = S → PW G mX1_count (rmD (d + 3) 0 0) (MZ G Q nX 0 0) 0 0 I J1 (Pab P x a b) T z 113 [some (.ref x), some (iv o), some (iv q0), some (iv nt), some (jv (sm (J1 a) s.toNat)), none, some (iv s)] [] := by
      intro k
      induction k with
      | zero =>
        intro s s0 sk
        obtain rfl : s = S := by omega
        refine r_iload (pc := 113) dX1_count_113 rfl ?_
        refine r_aload_n (pc := 115) dX1_count_115 rfl rfl ?_
        refine r_geti (pc := 116) (c := 1) (k := 14) (kz := 14) hx1.o cok_1 (Nat.le_of_ble_eq_true rfl) q524 ⟨rfl, rfl⟩ (Or.inl rfl) rfl (fun _ _ _ => rfl) dX1_count_116 (fun hr116 => ?_)
        rw [e14] at hr116 ⊢
        refine r_icmp_ge (pc := 119) 140 dX1_count_119 rfl (by omega) (by omega) (fun h119 => ?_) (fun h119 => ?_)
        · refine r_lload (pc := 140) dX1_count_140 rfl ?_
          refine r_lreturn (pc := 142) rfl dX1_count_142 (Nat.le_of_ble_eq_true rfl) (Nat.le_of_ble_eq_true rfl) ?_
          rw [show ((S : Int)).toNat = S by omega, hsum]
          exact hQ a b J1 hab hJ hW
        omega
      | succ k ih =>
        intro s s0 sk
        have e9 := sm_succ (f := J1 a) s0
        refine r_iload (pc := 113) dX1_count_113 rfl ?_
        refine r_aload_n (pc := 115) dX1_count_115 rfl rfl ?_
        refine r_geti (pc := 116) (c := 1) (k := 14) (kz := 14) hx1.o cok_1 (Nat.le_of_ble_eq_true rfl) q524 ⟨rfl, rfl⟩ (Or.inl rfl) rfl (fun _ _ _ => rfl) dX1_count_116 (fun hr116 => ?_)
        rw [e14] at hr116 ⊢
        refine r_icmp_ge (pc := 119) 140 dX1_count_119 rfl (by omega) (by omega) (fun h119 => ?_) (fun h119 => ?_)
        · omega
        refine r_lload (pc := 122) dX1_count_122 rfl ?_
        refine r_aload_n (pc := 124) dX1_count_124 rfl rfl ?_
        refine r_getr (pc := 125) (c := 1) (k := 15) (kz := 15) hx1.o cok_1 (Nat.le_of_ble_eq_true rfl) q525 ⟨rfl, rfl⟩ (Or.inl rfl) rfl (fun _ _ _ => rfl) Pab_15 dX1_count_125 ?_
        refine r_iload (pc := 128) dX1_count_128 rfl ?_
        refine r_lald (pc := 130) hTa (by omega) (by omega) dX1_count_130 (fun hr130 => ?_)
        refine r_ladd (pc := 131) dX1_count_131 ?_
        rw [e9]
        refine r_lstore4 (pc := 132) (Nat.le_of_ble_eq_true rfl) dX1_count_132 rfl ?_
        refine r_iinc6 (pc := 134) (Nat.le_of_ble_eq_true rfl) dX1_count_134 rfl ?_
        refine r_goto (pc := 137) 113 dX1_count_137 rfl ?_
        exact ih (s + 1) (by omega) (by omega)
    exact loop S 0 (by omega) (by omega)
  have outer : ∀ (k : Nat) (q : Int) (a b : Nat) (J1 : HI) (Ld : List Int) (l5 l6 : Option Value), 0 ≤ q → q + k = σ 1 → ((a = x + 80 ∧ b = x + 81) ∨ (a = x + 81 ∧ b = x + 80)) → (∀ c : Nat, c ≠ x + 80 → c ≠ x + 81 → J1 c = J c) → WY κ sc (fun i => u i + 1) u n S (J1 a) Ld → Ld ++ LM σ o q0 nt k q = L → PW G mX1_count (rmD (d + 3) 0 0) (MZ G Q nX 0 0) 0 0 I J1 (Pab P x a b) T z 23 [some (.ref x), some (iv o), some (iv q0), some (iv nt), some (iv q), l5, l6] [] := by
    intro k
    induction k with
    | zero =>
      intro q a b J1 Ld l5 l6 h0 hk hab hJ hW he
      have hx1 := hx.pab (a := a) (b := b)
      refine r_iload (pc := 23) dX1_count_23 rfl ?_
      refine r_aload_n (pc := 25) dX1_count_25 rfl rfl ?_
      refine r_getr (pc := 26) (c := 1) (k := 3) (kz := 3) hx1.o cok_1 (Nat.le_of_ble_eq_true rfl) q513 ⟨rfl, rfl⟩ (Or.inl rfl) rfl (fun _ _ _ => rfl) hx1.p_table dX1_count_26 ?_
      refine r_callV0 (pc := 29) (C_many hx1.tb fe_i) im_X2_many q369 q1241 hx1.tb.o rfl dX1_count_29 (Nat.le_of_ble_eq_true rfl) (Nat.le_of_ble_eq_true rfl) rfl (k_fi ?_) (fun _ _ _ _ _ _ _ hx => no_x hx)
      rw [hx1.r.ta.2.1]
      refine r_icmp_ge (pc := 32) 107 dX1_count_32 rfl (by omega) (by omega) (fun h32 => ?_) (fun h32 => ?_)
      · refine fin a b J1 _ _ _ hab hJ ?_
        rw [← he]
        show WY κ sc (fun i => u i + 1) u n S (J1 a) (Ld ++ [])
        rw [List.append_nil]
        exact hW
      omega
    | succ k ih =>
      intro q a b J1 Ld l5 l6 h0 hk hab hJ hW he
      have hx1 := hx.pab (a := a) (b := b)
      have hoq := hcv.cd (p := q) (by omega) (by omega)
      have next : ∀ (a b : Nat) (J1 : HI) (Ld : List Int) (l5 : Option Value), ((a = x + 80 ∧ b = x + 81) ∨ (a = x + 81 ∧ b = x + 80)) → (∀ c : Nat, c ≠ x + 80 → c ≠ x + 81 → J1 c = J c) → WY κ sc (fun i => u i + 1) u n S (J1 a) Ld → Ld ++ LM σ o q0 nt k (q + 1) = L → PW G mX1_count (rmD (d + 3) 0 0) (MZ G Q nX 0 0) 0 0 I J1 (Pab P x a b) T z 101 [some (.ref x), some (iv o), some (iv q0), some (iv nt), some (iv q), l5, l6] [] := by
        intro a b J1 Ld l5 hab hJ hW he
        refine r_iinc4 (pc := 101) (Nat.le_of_ble_eq_true rfl) dX1_count_101 rfl ?_
        refine r_goto (pc := 104) 23 dX1_count_104 rfl ?_
        exact ih (q + 1) a b J1 Ld l5 l6 (by omega) (by omega) hab hJ hW he
      refine r_iload (pc := 23) dX1_count_23 rfl ?_
      refine r_aload_n (pc := 25) dX1_count_25 rfl rfl ?_
      refine r_getr (pc := 26) (c := 1) (k := 3) (kz := 3) hx1.o cok_1 (Nat.le_of_ble_eq_true rfl) q513 ⟨rfl, rfl⟩ (Or.inl rfl) rfl (fun _ _ _ => rfl) hx1.p_table dX1_count_26 ?_
      refine r_callV0 (pc := 29) (C_many hx1.tb fe_i) im_X2_many q369 q1241 hx1.tb.o rfl dX1_count_29 (Nat.le_of_ble_eq_true rfl) (Nat.le_of_ble_eq_true rfl) rfl (k_fi ?_) (fun _ _ _ _ _ _ _ hx => no_x hx)
      rw [hx1.r.ta.2.1]
      refine r_icmp_ge (pc := 32) 107 dX1_count_32 rfl (by omega) (by omega) (fun h32 => ?_) (fun h32 => ?_)
      · omega
      refine r_iconst (pc := 35) dX1_count_35 ?_
      refine r_istore5 (pc := 36) (Nat.le_of_ble_eq_true rfl) dX1_count_36 rfl ?_
      by_cases hqo : q = o
      · subst hqo
        have he2 : Ld ++ LM σ q q0 nt k (q + 1) = L := by
          rw [← he]
          show _ = Ld ++ ((if q = q then [] else _) ++ _)
          rw [if_pos rfl, List.nil_append]
        refine r_iload (pc := 38) dX1_count_38 rfl ?_
        refine r_aload_n (pc := 40) dX1_count_40 rfl rfl ?_
        refine r_getr (pc := 41) (c := 1) (k := 4) (kz := 4) hx1.o cok_1 (Nat.le_of_ble_eq_true rfl) q514 ⟨rfl, rfl⟩ (Or.inl rfl) rfl (fun _ _ _ => rfl) hx1.p_now dX1_count_41 ?_
        refine r_getrN (pc := 44) (c := 3) (k := 4) (kz := 4) hx1.g.o cok_3 (Nat.le_of_ble_eq_true rfl) q281 ⟨rfl, rfl⟩ (Or.inl rfl) rfl (fun _ _ _ => rfl) hx1.g.p_others dX1_count_44 ?_
        refine r_iload (pc := 47) dX1_count_47 rfl ?_
        refine r_iald (pc := 49) hx1.g.t_others (by omega) (by omega) dX1_count_49 (fun hr49 => ?_)
        rw [hx1.r.others (by omega) (by omega)] at hr49 ⊢
        refine r_icmp_ge (pc := 50) 101 dX1_count_50 rfl (by omega) (by omega) (fun h50 => ?_) (fun h50 => ?_)
        · exact next a b J1 Ld _ hab hJ hW he2
        refine r_iload (pc := 53) dX1_count_53 rfl ?_
        refine r_iload_n (pc := 55) dX1_count_55 rfl rfl ?_
        refine r_icmp_eq (pc := 56) 101 dX1_count_56 rfl (by omega) (by omega) (fun h56 => ?_) (fun h56 => ?_)
        · exact next a b J1 Ld _ hab hJ hW he2
        omega
      have he2 : Ld ++ (Lq σ q0 nt q (σ (229 + q)).toNat 0 ++ LM σ o q0 nt k (q + 1)) = L := by
        rw [← he]
        show _ = Ld ++ ((if q = o then [] else _) ++ _)
        rw [if_neg hqo]
      have inner : ∀ (w : Nat) (i : Int) (a b : Nat) (J1 : HI) (Ld : List Int), 0 ≤ i → i + w = σ (229 + q) → ((a = x + 80 ∧ b = x + 81) ∨ (a = x + 81 ∧ b = x + 80)) → (∀ c : Nat, c ≠ x + 80 → c ≠ x + 81 → J1 c = J c) → WY κ sc (fun i => u i + 1) u n S (J1 a) Ld → Ld ++ (Lq σ q0 nt q w i ++ LM σ o q0 nt k (q + 1)) = L → PW G mX1_count (rmD (d + 3) 0 0) (MZ G Q nX 0 0) 0 0 I J1 (Pab P x a b) T z 38 [some (.ref x), some (iv o), some (iv q0), some (iv nt), some (iv q), some (iv i), l6] [] := by
        intro w
        induction w with
        | zero =>
          intro i a b J1 Ld i0 iw hab hJ hW he
          have hx1 := hx.pab (a := a) (b := b)
          refine r_iload (pc := 38) dX1_count_38 rfl ?_
          refine r_aload_n (pc := 40) dX1_count_40 rfl rfl ?_
          refine r_getr (pc := 41) (c := 1) (k := 4) (kz := 4) hx1.o cok_1 (Nat.le_of_ble_eq_true rfl) q514 ⟨rfl, rfl⟩ (Or.inl rfl) rfl (fun _ _ _ => rfl) hx1.p_now dX1_count_41 ?_
          refine r_getrN (pc := 44) (c := 3) (k := 4) (kz := 4) hx1.g.o cok_3 (Nat.le_of_ble_eq_true rfl) q281 ⟨rfl, rfl⟩ (Or.inl rfl) rfl (fun _ _ _ => rfl) hx1.g.p_others dX1_count_44 ?_
          refine r_iload (pc := 47) dX1_count_47 rfl ?_
          refine r_iald (pc := 49) hx1.g.t_others (by omega) (by omega) dX1_count_49 (fun hr49 => ?_)
          rw [hx1.r.others (by omega) (by omega)] at hr49 ⊢
          refine r_icmp_ge (pc := 50) 101 dX1_count_50 rfl (by omega) (by omega) (fun h50 => ?_) (fun h50 => ?_)
          · exact next a b J1 Ld _ hab hJ hW he
          omega
        | succ w ihw =>
          intro i a b J1 Ld i0 iw hab hJ hW he
          have hx1 := hx.pab (a := a) (b := b)
          have hms := hcv.ms q i (by omega) (by omega) i0 (by omega)
          have hll : Ld.length ≤ 12 := by
            have := congrArg List.length he
            rw [List.length_append] at this
            omega
          have ht9 := TW_le (κ := κ) hn6 hu hll
          have hsum := hW.sum
          have step : mk1 σ q0 nt q i < 8192 → 0 ≤ mk1 σ q0 nt q i → PW G mX1_count (rmD (d + 3) 0 0) (MZ G Q nX 0 0) 0 0 I J1 (Pab P x a b) T z 92 [some (.ref x), some (iv o), some (iv q0), some (iv nt), some (iv q), some (iv i), l6] [iv (mk1 σ q0 nt q i), .ref x] := by
            intro m1 m0
            refine r_callV1 (pc := 92) (C_one (Q := fun v I' J' P' T' z' => v = none ∧ I' = I ∧ T' = T ∧ z' = z ∧ P' = Pab P x b a ∧ ∃ f', J' = ur J1 b f' ∧ NX κ sc (fun i => u i + 1) u n S (mk1 σ q0 nt q i) (J1 a) f') hx1.x hU Pab_15 Pab_16 hab ⟨m0, m1⟩ hW.1 (by rw [hsum]; omega) (fun f' h => ⟨rfl, rfl, rfl, rfl, Pab_Pab, f', rfl, h⟩)) im_X1_one qs33 q1330 hx1.o rfl dX1_count_92 (Nat.le_of_ble_eq_true rfl) (Nat.le_of_ble_eq_true rfl) rfl (?_) (fun _ _ _ _ _ _ _ hx => no_x hx)
            intro v I' J' P' T' z' h
            obtain ⟨rfl, rfl, rfl, rfl, rfl, f', rfl, hN⟩ := h
            show PW G mX1_count (rmD (d + 3) 0 0) (MZ G Q nX 0 0) 0 0 I' (ur J1 b f') (Pab P x b a) T' z' 95 [some (.ref x), some (iv o), some (iv q0), some (iv nt), some (iv q), some (iv i), l6] []
            refine r_iinc5 (pc := 95) (Nat.le_of_ble_eq_true rfl) dX1_count_95 rfl ?_
            refine r_goto (pc := 98) 38 dX1_count_98 rfl ?_
            refine ihw (i + 1) b a (ur J1 b f') (Ld ++ [mk1 σ q0 nt q i]) (by omega) (by omega) (by omega) (fun c p p2 => by rw [ur_n (by omega)]; exact hJ c p p2) (by rw [ur_s]; exact hW.step hRX hN) ?_
            rw [← he, List.append_assoc]
            rfl
          refine r_iload (pc := 38) dX1_count_38 rfl ?_
          refine r_aload_n (pc := 40) dX1_count_40 rfl rfl ?_
          refine r_getr (pc := 41) (c := 1) (k := 4) (kz := 4) hx1.o cok_1 (Nat.le_of_ble_eq_true rfl) q514 ⟨rfl, rfl⟩ (Or.inl rfl) rfl (fun _ _ _ => rfl) hx1.p_now dX1_count_41 ?_
          refine r_getrN (pc := 44) (c := 3) (k := 4) (kz := 4) hx1.g.o cok_3 (Nat.le_of_ble_eq_true rfl) q281 ⟨rfl, rfl⟩ (Or.inl rfl) rfl (fun _ _ _ => rfl) hx1.g.p_others dX1_count_44 ?_
          refine r_iload (pc := 47) dX1_count_47 rfl ?_
          refine r_iald (pc := 49) hx1.g.t_others (by omega) (by omega) dX1_count_49 (fun hr49 => ?_)
          rw [hx1.r.others (by omega) (by omega)] at hr49 ⊢
          refine r_icmp_ge (pc := 50) 101 dX1_count_50 rfl (by omega) (by omega) (fun h50 => ?_) (fun h50 => ?_)
          · omega
          refine r_iload (pc := 53) dX1_count_53 rfl ?_
          refine r_iload_n (pc := 55) dX1_count_55 rfl rfl ?_
          refine r_icmp_eq (pc := 56) 101 dX1_count_56 rfl (by omega) (by omega) (fun h56 => ?_) (fun h56 => ?_)
          · exact absurd h56 hqo
          refine r_aload_n (pc := 59) dX1_count_59 rfl rfl ?_
          refine r_aload_n (pc := 60) dX1_count_60 rfl rfl ?_
          refine r_getr (pc := 61) (c := 1) (k := 4) (kz := 4) hx1.o cok_1 (Nat.le_of_ble_eq_true rfl) q514 ⟨rfl, rfl⟩ (Or.inl rfl) rfl (fun _ _ _ => rfl) hx1.p_now dX1_count_61 ?_
          refine r_getrN (pc := 64) (c := 3) (k := 3) (kz := 3) hx1.g.o cok_3 (Nat.le_of_ble_eq_true rfl) q279 ⟨rfl, rfl⟩ (Or.inl rfl) rfl (fun _ _ _ => rfl) hx1.g.p_other dX1_count_64 ?_
          refine r_iload (pc := 67) dX1_count_67 rfl ?_
          refine r_aald (pc := 69) hx1.g.t_other ⟨by decide, by decide⟩ rfl (fun _ _ _ => rfl) (by omega) (by omega) (hx1.g.q_other (by omega) (by omega)) dX1_count_69 ?_
          refine r_iload (pc := 70) dX1_count_70 rfl ?_
          refine r_iald (pc := 72) (hx1.g.u_other (by omega) (by omega)) (by omega) (by omega) dX1_count_72 (fun hr72 => ?_)
          rw [hx1.r.other (by omega) (by omega) i0 (by omega) (by omega)] at hr72 ⊢
          refine r_iload (pc := 73) dX1_count_73 rfl ?_
          refine r_iload_n (pc := 75) dX1_count_75 rfl rfl ?_
          refine r_icmp_ne (pc := 76) 90 dX1_count_76 rfl (by omega) (by omega) (fun h76 => ?_) (fun h76 => ?_)
          · refine r_iconst (pc := 90) dX1_count_90 ?_
            refine r_ior (pc := 91) dX1_count_91 (by omega) (by omega) ?_
            have em : mk1 σ q0 nt q i = σ (235 + 52 * q + i) := if_neg h76
            rw [show (((σ (235 + 52 * q + i)).toNat ||| (0 : Int).toNat : Nat) : Int) = mk1 σ q0 nt q i by rw [em]; show (((σ (235 + 52 * q + i)).toNat ||| 0 : Nat) : Int) = _; rw [Nat.or_zero]; omega]
            exact step (by omega) (by omega)
          refine r_iload_n (pc := 79) dX1_count_79 rfl rfl ?_
          refine r_iconst (pc := 80) dX1_count_80 ?_
          refine r_icmp_eq (pc := 81) 90 dX1_count_81 rfl (by omega) (by omega) (fun h81 => ?_) (fun h81 => ?_)
          · omega
          have em : mk1 σ q0 nt q i = (((σ (235 + 52 * q + i)).toNat ||| (2 ^ nt.toNat : Nat) : Nat) : Int) := if_pos h76
          have hp0 : 2 ^ nt.toNat ≤ 2 ^ 12 := Nat.pow_le_pow_right (by decide) (by omega)
          have hp2 : 0 ≤ ((2 ^ nt.toNat : Nat) : Int) ∧ ((2 ^ nt.toNat : Nat) : Int) < 2147483648 := ⟨Int.natCast_nonneg _, by omega⟩
          have hor : (σ (235 + 52 * q + i)).toNat ||| 2 ^ nt.toNat < 2 ^ 13 := Nat.or_lt_two_pow (by omega) (by omega)
          refine r_iconst (pc := 84) dX1_count_84 ?_
          refine r_iload_n (pc := 85) dX1_count_85 rfl rfl ?_
          refine r_ishl (pc := 86) dX1_count_86 (by omega) ?_
          rw [Int.one_mul]
          refine r_goto (pc := 87) 91 dX1_count_87 rfl ?_
          refine r_ior (pc := 91) dX1_count_91 (by omega) hp2 ?_
          rw [Int.toNat_natCast, ← em]
          exact step (by omega) (by omega)
      exact inner (σ (229 + q)).toNat 0 a b J1 Ld (by omega) (by omega) hab hJ hW he2
  have eP : Pab P x a0 b0 = P := by unfold Pab; rw [up_id ha, up_id hbn]
  have := outer (σ 1).toNat 0 a0 b0 (ur J a0 (us (fillr (J a0) S 0) 0 1)) [] none none (by omega) (by omega) hab (fun c p p2 => ur_n (by omega)) (by rw [ur_s]; exact hst) (by rw [List.nil_append]; exact hLL)
  rw [eP] at this
  exact this
end N2
