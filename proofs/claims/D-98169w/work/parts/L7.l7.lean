/-! ===== the face: games, length, reply, images ===== -/
/-- the best of some -/
def f_bm (V : Int → Int) : Nat → Int → Int → Int → Int
  | 0, _, best, _ => best
  | n + 1, i, best, most => if V i ≤ most then f_bm V n (i + 1) best most else f_bm V n (i + 1) i (V i)
section L7
variable {G : GE} {I I0 I' J : HI} {P P' P1 : HP} {T : HT} {z : Nat} {x t d g : Nat} {Q : QT} {σ μ τ ω r π rl σ0 : Int → Int}
theorem C_games (hx : XS G I P T x t σ μ) (h13 : 0 ≤ I (x + 44) 13 ∧ I (x + 44) 13 ≤ 52) {i j n fr s9 : Int} (hi : rg i) (hj : rg j) (hn : rg n) (hfr : rg fr) (hσ0 : gmC σ i j n → WF σ0 ∧ ∀ j, 0 ≤ j → j < 4 → σ0 j = σ j)
    (hQ : ∀ v I' P', WNS x t (gmC σ i j n) (f_gm i j fr n.toNat 0 (rl, π, s9, σ0, 0, 0)) I P v I' P' → Q (some (iv v)) I' J P' T z) : MC G yX1_games (ws_ yX1_games cX1_games 5 (some FieldType.int)) (d + 10) 0 0 [.ref x, iv i, iv j, iv n, iv fr] I J P T z Q nX := by
  have hb := hx.b
  refine MC.of (by decide) (Nat.le_of_ble_eq_true rfl) ?_
  show PW G mX1_games (rmD (d + 10) 0 0) (MZ G Q nX 0 0) 0 0 I J P T z 0 [some (.ref x), some (iv i), some (iv j), some (iv n), some (iv fr)] []
  refine r_aload_n (pc := 0) dX1_games_0 rfl rfl ?_
  refine r_iload_n (pc := 1) dX1_games_1 rfl rfl ?_
  refine r_iload_n (pc := 2) dX1_games_2 rfl rfl ?_
  refine r_iload_n (pc := 3) dX1_games_3 rfl rfl ?_
  refine r_iload (pc := 4) dX1_games_4 rfl ?_
  refine r_callV4 (pc := 6) (C_wins (Q := ew J T z (WNS x t (gmC σ i j n) (f_gm i j fr n.toNat 0 (rl, π, s9, σ0, 0, 0)) I P)) hx h13 hi hj hn hfr hσ0 (fun v I' P' h => ew_i h)) im_X1_wins qs45 q1483 hx.o rfl dX1_games_6 (Nat.le_of_ble_eq_true rfl) (Nat.le_of_ble_eq_true rfl) rfl (k_w fun w I' P' h => ?_) (fun _ _ _ _ _ _ _ hx => no_x hx)
  refine r_ireturn (pc := 9) rfl rfl dX1_games_9 (Nat.le_of_ble_eq_true rfl) (Nat.le_of_ble_eq_true rfl) ?_
  exact hQ w I' P' h
theorem C_length (hx : XS G I P T x t σ μ) (h13 : 0 ≤ I (x + 44) 13 ∧ I (x + 44) 13 ≤ 52) {i j n fr s9 : Int} (hi : rg i) (hj : rg j) (hn : rg n) (hfr : rg fr) (hσ0 : gmC σ i j n → WF σ0 ∧ ∀ j, 0 ≤ j → j < 4 → σ0 j = σ j)
    (hQ : ∀ v I' P', WNS x t (gmC σ i j n) (f_gm i j fr n.toNat 0 (rl, π, s9, σ0, 0, 0)) I P v I' P' → Q (some (iv (if gmC σ i j n then (f_gm i j fr n.toNat 0 (rl, π, s9, σ0, 0, 0)).2.2.2.2.1 else -1))) I' J P' T z) : MC G yX1_length (ws_ yX1_length cX1_length 5 (some FieldType.int)) (d + 10) 0 0 [.ref x, iv i, iv j, iv n, iv fr] I J P T z Q nX := by
  have hb := hx.b
  refine MC.of (by decide) (Nat.le_of_ble_eq_true rfl) ?_
  show PW G mX1_length (rmD (d + 10) 0 0) (MZ G Q nX 0 0) 0 0 I J P T z 0 [some (.ref x), some (iv i), some (iv j), some (iv n), some (iv fr)] []
  refine r_aload_n (pc := 0) dX1_length_0 rfl rfl ?_
  refine r_iload_n (pc := 1) dX1_length_1 rfl rfl ?_
  refine r_iload_n (pc := 2) dX1_length_2 rfl rfl ?_
  refine r_iload_n (pc := 3) dX1_length_3 rfl rfl ?_
  refine r_iload (pc := 4) dX1_length_4 rfl ?_
  refine r_callV4 (pc := 6) (C_wins (Q := ew J T z (WNS x t (gmC σ i j n) (f_gm i j fr n.toNat 0 (rl, π, s9, σ0, 0, 0)) I P)) hx h13 hi hj hn hfr hσ0 (fun v I' P' h => ew_i h)) im_X1_wins qs45 q1483 hx.o rfl dX1_length_6 (Nat.le_of_ble_eq_true rfl) (Nat.le_of_ble_eq_true rfl) rfl (k_w fun w I' P' h => ?_) (fun _ _ _ _ _ _ _ hx => no_x hx)
  have hQ2 := hQ w I' P' h
  rcases h with ⟨c, rfl, rfl, rfl⟩ | ⟨c, ⟨h1, h2, h3⟩, h4, h5, h6, h7⟩
  · rw [if_neg c] at hQ2
    refine r_iconst (pc := 9) dX1_length_9 ?_
    refine r_icmp_ne (pc := 10) 17 dX1_length_10 rfl (by omega) (by omega) (fun h10 => ?_) (fun h10 => ?_)
    · exact absurd rfl h10
    refine r_iconst (pc := 13) dX1_length_13 ?_
    refine r_goto (pc := 14) 21 dX1_length_14 rfl ?_
    refine r_ireturn (pc := 21) rfl rfl dX1_length_21 (Nat.le_of_ble_eq_true rfl) (Nat.le_of_ble_eq_true rfl) ?_
    exact hQ2
  rw [if_pos c] at hQ2
  refine r_iconst (pc := 9) dX1_length_9 ?_
  refine r_icmp_ne (pc := 10) 17 dX1_length_10 rfl (by omega) (by omega) (fun h10 => ?_) (fun h10 => ?_)
  · refine r_aload_n (pc := 17) dX1_length_17 rfl rfl ?_
    refine r_geti (pc := 18) (c := 1) (k := 21) (kz := 21) hx.o cok_1 (Nat.le_of_ble_eq_true rfl) q531 ⟨rfl, rfl⟩ (Or.inl rfl) rfl (fun _ _ _ => rfl) dX1_length_18 (fun hr18 => ?_)
    rw [h5, us_s] at hr18 ⊢
    refine r_ireturn (pc := 21) rfl rfl dX1_length_21 (Nat.le_of_ble_eq_true rfl) (Nat.le_of_ble_eq_true rfl) ?_
    exact hQ2
  omega
theorem C_reply (hx : XS G I P T x t σ μ) (h13 : 0 ≤ I (x + 44) 13 ∧ I (x + 44) 13 ≤ 52) {j n fr : Int} (hj : rg j) (hn : rg n) (hfr : rg fr) {V : Int → Int} (hV : ∀ i, 0 ≤ i → i ≤ 3 → if gmC σ i j n then ∃ rl π s9 σ0, (WF σ0 ∧ ∀ j, 0 ≤ j → j < 4 → σ0 j = σ j) ∧ V i = (f_gm i j fr n.toNat 0 (rl, π, s9, σ0, 0, 0)).2.2.2.2.2 else V i = -1)
    (hQ : ∀ I' P', (∀ b : Nat, b ≠ x → (b < x + 44 ∨ x + 75 ≤ b) → I' b = I b) → (∀ j : Int, j ≠ 21 → I' x j = I x j) → (P' = P ∨ P' = up P (x + 44) 0 (some t)) → (0 ≤ I' (x + 44) 13 ∧ I' (x + 44) 13 ≤ 52) → Q (some (iv (f_bm V 4 0 (-1) (-1)))) I' J P' T z) : MC G yX1_reply (ws_ yX1_reply cX1_reply 8 (some FieldType.int)) (d + 10) 0 0 [.ref x, iv j, iv n, iv fr] I J P T z Q nX := by
  have hb := hx.b
  have htx := hx.tx
  refine MC.of (by decide) (Nat.le_of_ble_eq_true rfl) ?_
  show PW G mX1_reply (rmD (d + 10) 0 0) (MZ G Q nX 0 0) 0 0 I J P T z 0 [some (.ref x), some (iv j), some (iv n), some (iv fr), none, none, none, none] []
  refine r_iconst (pc := 0) dX1_reply_0 ?_
  refine r_istore4 (pc := 1) (Nat.le_of_ble_eq_true rfl) dX1_reply_1 rfl ?_
  refine r_iconst (pc := 3) dX1_reply_3 ?_
  refine r_istore5 (pc := 4) (Nat.le_of_ble_eq_true rfl) dX1_reply_4 rfl ?_
  refine r_iconst (pc := 6) dX1_reply_6 ?_
  refine r_istore6 (pc := 7) (Nat.le_of_ble_eq_true rfl) dX1_reply_7 rfl ?_
  have loop : ∀ (m : Nat) (i best most : Int) (I1 : HI) (P1 : HP) (l7 : Option Value), 0 ≤ i → i + m = 4 → (-1 ≤ best ∧ best ≤ 3) → (-1 ≤ most ∧ most ≤ 30) → (∀ b : Nat, b ≠ x → (b < x + 44 ∨ x + 75 ≤ b) → I1 b = I b) → (∀ j : Int, j ≠ 21 → I1 x j = I x j) → (P1 = P ∨ P1 = up P (x + 44) 0 (some t)) → (0 ≤ I1 (x + 44) 13 ∧ I1 (x + 44) 13 ≤ 52) → f_bm V 4 0 (-1) (-1) = f_bm V m i best most → PW G mX1_reply (rmD (d + 10) 0 0) (MZ G Q nX 0 0) 0 0 I1 J P1 T z 9 [some (.ref x), some (iv j), some (iv n), some (iv fr), some (iv best), some (iv most), some (iv i), l7] [] := by
    intro m
    induction m with
    | zero =>
      intro i best most I1 P1 l7 h0 hm hbe hmo f1 f2 f3 f4 he
      refine r_iload (pc := 9) dX1_reply_9 rfl ?_
      refine r_iconst (pc := 11) dX1_reply_11 ?_
      refine r_icmp_ge (pc := 12) 50 dX1_reply_12 rfl (by omega) (by omega) (fun h12 => ?_) (fun h12 => ?_)
      · refine r_iload (pc := 50) dX1_reply_50 rfl ?_
        refine r_ireturn (pc := 52) rfl rfl dX1_reply_52 (Nat.le_of_ble_eq_true rfl) (Nat.le_of_ble_eq_true rfl) ?_
        have := hQ I1 P1 f1 f2 f3 f4
        rw [he] at this
        exact this
      omega
    | succ m ih =>
      intro i best most I1 P1 l7 h0 hm hbe hmo f1 f2 f3 f4 he
      have hpf : PF x P P1 := by
        rcases f3 with q | q
        · rw [q]; exact PF.rf
        · rw [q]; exact PF.rf.upd (by unfold okP; omega)
      have hPn : ∀ b : Nat, b ≠ x + 44 → P1 b = P b := by
        intro b q9
        rcases f3 with q | q
        · rw [q]
        · rw [q]; exact funext (fun i => up_n q9)
      have hx1 : XS G I1 P1 T x t σ μ := hx.pf hpf (fun b q => f1 b (by omega) (by omega)) (by rw [hPn x (by omega)]) (by rw [hPn (x + 13) (by omega)])
      obtain ⟨rl, π, s9, σ0, g1, g2⟩ : ∃ (rl π : Int → Int) (s9 : Int) (σ0 : Int → Int), (gmC σ i j n → WF σ0 ∧ ∀ j, 0 ≤ j → j < 4 → σ0 j = σ j) ∧ V i = if gmC σ i j n then (f_gm i j fr n.toNat 0 (rl, π, s9, σ0, 0, 0)).2.2.2.2.2 else -1 := by
        have h := hV i h0 (by omega)
        by_cases c : gmC σ i j n
        · rw [if_pos c] at h
          obtain ⟨rl, π, s9, σ0, a, b⟩ := h
          exact ⟨rl, π, s9, σ0, fun _ => a, by rw [if_pos c]; exact b⟩
        · rw [if_neg c] at h
          exact ⟨σ, σ, 0, σ, fun q => absurd q c, by rw [if_neg c]; exact h⟩
      refine r_iload (pc := 9) dX1_reply_9 rfl ?_
      refine r_iconst (pc := 11) dX1_reply_11 ?_
      refine r_icmp_ge (pc := 12) 50 dX1_reply_12 rfl (by omega) (by omega) (fun h12 => ?_) (fun h12 => ?_)
      · omega
      refine r_aload_n (pc := 15) dX1_reply_15 rfl rfl ?_
      refine r_iload (pc := 16) dX1_reply_16 rfl ?_
      refine r_iload_n (pc := 18) dX1_reply_18 rfl rfl ?_
      refine r_iload_n (pc := 19) dX1_reply_19 rfl rfl ?_
      refine r_iload_n (pc := 20) dX1_reply_20 rfl rfl ?_
      refine r_callV4 (pc := 21) (C_wins (Q := ew J T z (WNS x t (gmC σ i j n) (f_gm i j fr n.toNat 0 (rl, π, s9, σ0, 0, 0)) I1 P1)) hx1 f4 (by omega) hj hn hfr g1 (fun v I' P' h => ew_i h)) im_X1_wins qs45 q1483 hx1.o rfl dX1_reply_21 (Nat.le_of_ble_eq_true rfl) (Nat.le_of_ble_eq_true rfl) rfl (k_w fun w I2 P2 h => ?_) (fun _ _ _ _ _ _ _ hx => no_x hx)
      obtain ⟨ev, f5, f6, f7, f8, wr9⟩ : w = V i ∧ (∀ b : Nat, b ≠ x → (b < x + 44 ∨ x + 75 ≤ b) → I2 b = I b) ∧ (∀ j : Int, j ≠ 21 → I2 x j = I x j) ∧ (P2 = P ∨ P2 = up P (x + 44) 0 (some t)) ∧ (0 ≤ I2 (x + 44) 13 ∧ I2 (x + 44) 13 ≤ 52) ∧ -1 ≤ w ∧ w ≤ 30 := by
        rcases h with ⟨c, rfl, rfl, rfl⟩ | ⟨c, ⟨h1, h2, h3⟩, h4, h5, h6, h7⟩
        · rw [if_neg c] at g2
          exact ⟨g2.symm, f1, f2, f3, f4, by omega, by omega⟩
        · rw [if_pos c] at g2
          refine ⟨by rw [h1, g2], fun b u v => by rw [h4 b u v]; exact f1 b u v, fun j q => by rw [h5, us_n q]; exact f2 j q, Or.inr ?_, h7, by omega, h3⟩
          rw [h6]
          rcases f3 with q | q
          · rw [q]
          · rw [q]; exact up_id (by simp [up])
      refine r_istore7 (pc := 24) (Nat.le_of_ble_eq_true rfl) dX1_reply_24 rfl ?_
      refine r_iload (pc := 26) dX1_reply_26 rfl ?_
      refine r_iload (pc := 28) dX1_reply_28 rfl ?_
      refine r_icmp_gt (pc := 30) 36 dX1_reply_30 rfl (by omega) (by omega) (fun h30 => ?_) (fun h30 => ?_)
      · refine r_iload (pc := 36) dX1_reply_36 rfl ?_
        refine r_istore5 (pc := 38) (Nat.le_of_ble_eq_true rfl) dX1_reply_38 rfl ?_
        refine r_iload (pc := 40) dX1_reply_40 rfl ?_
        refine r_istore4 (pc := 42) (Nat.le_of_ble_eq_true rfl) dX1_reply_42 rfl ?_
        refine r_iinc6 (pc := 44) (Nat.le_of_ble_eq_true rfl) dX1_reply_44 rfl ?_
        refine r_goto (pc := 47) 9 dX1_reply_47 rfl ?_
        refine ih (i + 1) i w I2 P2 _ (by omega) (by omega) (by omega) (by omega) f5 f6 f7 f8 ?_
        rw [he]
        conv => lhs; unfold f_bm
        rw [if_neg (by omega), ev]
      refine r_goto (pc := 33) 44 dX1_reply_33 rfl ?_
      refine r_iinc6 (pc := 44) (Nat.le_of_ble_eq_true rfl) dX1_reply_44 rfl ?_
      refine r_goto (pc := 47) 9 dX1_reply_47 rfl ?_
      refine ih (i + 1) best most I2 P2 _ (by omega) (by omega) hbe hmo f5 f6 f7 f8 ?_
      rw [he]
      conv => lhs; unfold f_bm
      rw [if_pos (by omega)]
  exact loop 4 0 (-1) (-1) I P none (by omega) (by omega) (by omega) (by omega) (fun _ _ _ => rfl) (fun _ _ => rfl) (Or.inl rfl) h13 rfl
theorem C_image (hx : XS G I P T x t σ μ) {k : Int} (hk : rg k) {sn : Option Nat} (hsn : P x 6 = sn)
    (hQ : if 0 ≤ k ∧ k ≤ 1 then ∀ I', GF (x + 93 + 32 * k.toNat) I I' → GR I' (x + 93 + 32 * k.toNat) t σ μ → Q (some (iv 1)) I' J (up (up (up P (x + 92 + 32 * k.toNat) 0 (some t)) (x + 92 + 32 * k.toNat) 1 sn) (x + 93 + 32 * k.toNat) 0 (some t)) T z else Q (some (iv 0)) I J P T z) : MC G yX1_image (ws_ yX1_image cX1_image 2 (some FieldType.boolean)) (d + 3) 0 0 [.ref x, iv k] I J P T z Q nX := by
  have hb := hx.b
  have htx := hx.tx
  refine MC.of (by decide) (Nat.le_of_ble_eq_true rfl) ?_
  show PW G mX1_image (rmD (d + 3) 0 0) (MZ G Q nX 0 0) 0 0 I J P T z 0 [some (.ref x), some (iv k)] []
  refine r_iload_n (pc := 0) dX1_image_0 rfl rfl ?_
  refine r_iconst (pc := 1) dX1_image_1 ?_
  refine r_iconst (pc := 2) dX1_image_2 ?_
  refine r_callS3 (pc := 3) (C_isIn (by omega) (by omega) (by omega) fe_i) im_X1_isIn q1228 dX1_image_3 (Nat.le_of_ble_eq_true rfl) (Nat.le_of_ble_eq_true rfl) rfl (k_fi ?_) (fun _ _ _ _ _ _ _ hx => no_x hx)
  refine r_if_ne (pc := 6) 11 dX1_image_6 rfl bz_g (fun h6 => ?_) (fun h6 => ?_)
  · have q1 := bz_ne.mp h6
    rw [if_pos q1] at hQ
    have hk2 : k.toNat < 2 := by omega
    have hP1 : PF x P (up P (x + 92 + 32 * k.toNat) 0 (some t)) := PF.rf.upd (by unfold okP; omega)
    have hx1 : XS G I (up P (x + 92 + 32 * k.toNat) 0 (some t)) T x t σ μ := hx.pf hP1 (fun _ _ => rfl) (up_n (by omega)) (up_n (by omega))
    have hsn1 : up P (x + 92 + 32 * k.toNat) 0 (some t) x 6 = sn := by rw [up_n (by omega)]; exact hsn
    refine r_aload_n (pc := 11) dX1_image_11 rfl rfl ?_
    refine r_getr (pc := 12) (c := 1) (k := 23) (kz := 23) hx.o cok_1 (Nat.le_of_ble_eq_true rfl) q533 ⟨rfl, rfl⟩ (Or.inl rfl) rfl (fun _ _ _ => rfl) hx.p_kept dX1_image_12 ?_
    refine r_iload_n (pc := 15) dX1_image_15 rfl rfl ?_
    refine r_aald (pc := 16) hx.t_kept ⟨by decide, by decide⟩ rfl (fun _ _ _ => rfl) (by omega) (by omega) (hx.x.q_kept (by omega) (by omega)) dX1_image_16 ?_
    refine r_aload_n (pc := 17) dX1_image_17 rfl rfl ?_
    refine r_getr (pc := 18) (c := 1) (k := 3) (kz := 3) hx.o cok_1 (Nat.le_of_ble_eq_true rfl) q513 ⟨rfl, rfl⟩ (Or.inl rfl) rfl (fun _ _ _ => rfl) hx.p_table dX1_image_18 ?_
    refine r_putrN (pc := 21) (r := some t) (c := 10) (k := 0) (kz := 0) (hx.x.u_kept (by omega) (by omega)) cok_10 (Nat.le_of_ble_eq_true rfl) q499 ⟨rfl, rfl⟩ (Or.inl rfl) rfl (by omega) rfl rfl rfl (fun _ _ _ => rfl) ⟨rfl, rfl⟩ dX1_image_21 ?_
    refine r_aload_n (pc := 24) dX1_image_24 rfl rfl ?_
    refine r_getr (pc := 25) (c := 1) (k := 23) (kz := 23) hx1.o cok_1 (Nat.le_of_ble_eq_true rfl) q533 ⟨rfl, rfl⟩ (Or.inl rfl) rfl (fun _ _ _ => rfl) hx1.p_kept dX1_image_25 ?_
    refine r_iload_n (pc := 28) dX1_image_28 rfl rfl ?_
    refine r_aald (pc := 29) hx1.t_kept ⟨by decide, by decide⟩ rfl (fun _ _ _ => rfl) (by omega) (by omega) (hx1.x.q_kept (by omega) (by omega)) dX1_image_29 ?_
    have hP2 : PF x P (up (up P (x + 92 + 32 * k.toNat) 0 (some t)) (x + 92 + 32 * k.toNat) 1 sn) := hP1.upd (by unfold okP; omega)
    have hx2 : XS G I (up (up P (x + 92 + 32 * k.toNat) 0 (some t)) (x + 92 + 32 * k.toNat) 1 sn) T x t σ μ := hx.pf hP2 (fun _ _ => rfl) (by rw [up_n (by omega), up_n (by omega)]) (by rw [up_n (by omega), up_n (by omega)])
    have fin : PW G mX1_image (rmD (d + 3) 0 0) (MZ G Q nX 0 0) 0 0 I J (up (up P (x + 92 + 32 * k.toNat) 0 (some t)) (x + 92 + 32 * k.toNat) 1 sn) T z 37 [some (.ref x), some (iv k)] [] := by
      have hg0 : shG0 G (up (up P (x + 92 + 32 * k.toNat) 0 (some t)) (x + 92 + 32 * k.toNat) 1 sn) T (x + 93 + 32 * k.toNat) := by
        have := hx2.x.g (o := 93 + 32 * k.toNat) (by
          rcases (show k = 0 ∨ k = 1 by omega) with rfl | rfl <;> decide)
        rw [show x + (93 + 32 * k.toNat) = x + 93 + 32 * k.toNat by omega] at this
        exact this
      generalize up (up P (x + 92 + 32 * k.toNat) 0 (some t)) (x + 92 + 32 * k.toNat) 1 sn = P2 at hP2 hx2 hg0 hQ
      refine r_aload_n (pc := 37) dX1_image_37 rfl rfl ?_
      refine r_getr (pc := 38) (c := 1) (k := 23) (kz := 23) hx2.o cok_1 (Nat.le_of_ble_eq_true rfl) q533 ⟨rfl, rfl⟩ (Or.inl rfl) rfl (fun _ _ _ => rfl) hx2.p_kept dX1_image_38 ?_
      refine r_iload_n (pc := 41) dX1_image_41 rfl rfl ?_
      refine r_aald (pc := 42) hx2.t_kept ⟨by decide, by decide⟩ rfl (fun _ _ _ => rfl) (by omega) (by omega) (hx2.x.q_kept (by omega) (by omega)) dX1_image_42 ?_
      refine r_getrN (pc := 43) (c := 10) (k := 2) (kz := 2) (hx2.x.u_kept (by omega) (by omega)) cok_10 (Nat.le_of_ble_eq_true rfl) q502 ⟨rfl, rfl⟩ (Or.inl rfl) rfl (fun _ _ _ => rfl) (hx2.x.p_game (by omega) (by omega)) dX1_image_43 ?_
      refine r_aload_n (pc := 46) dX1_image_46 rfl rfl ?_
      refine r_getr (pc := 47) (c := 1) (k := 4) (kz := 4) hx2.o cok_1 (Nat.le_of_ble_eq_true rfl) q514 ⟨rfl, rfl⟩ (Or.inl rfl) rfl (fun _ _ _ => rfl) hx2.p_now dX1_image_47 ?_
      refine r_callV1 (pc := 50) (C_as (Q := ee J T z (some (.ref (x + 93 + 32 * k.toNat))) (fun I' P' => P' = up P2 (x + 93 + 32 * k.toNat) 0 (some t) ∧ GF (x + 93 + 32 * k.toNat) I I' ∧ GR I' (x + 93 + 32 * k.toNat) t σ μ)) hg0 hx2.g (by omega) (by omega) hx2.r (fun I' a b => ee_i ⟨rfl, a, b⟩)) im_X3_as q1268 q1266 hg0.o rfl dX1_image_50 (Nat.le_of_ble_eq_true rfl) (Nat.le_of_ble_eq_true rfl) rfl (k_e fun I3 P3 h3 => ?_) (fun _ _ _ _ _ _ _ hx => no_x hx)
      obtain ⟨rfl, hf, hr⟩ := h3
      show PW G mX1_image (rmD (d + 3) 0 0) (MZ G Q nX 0 0) 0 0 I3 J _ T z 53 [some (.ref x), some (iv k)] [.ref (x + 93 + 32 * k.toNat)]
      refine r_pop (pc := 53) dX1_image_53 rfl ?_
      refine r_iconst (pc := 54) dX1_image_54 ?_
      refine r_ireturn (pc := 55) rfl (nb_z (by omega)) dX1_image_55 (Nat.le_of_ble_eq_true rfl) (Nat.le_of_ble_eq_true rfl) ?_
      exact hQ I3 hf hr
    refine r_aload_n (pc := 30) dX1_image_30 rfl rfl ?_
    cases sn with
    | none =>
      refine r_getz (pc := 31) (c := 1) (k := 6) (kz := 6) hx2.o cok_1 (Nat.le_of_ble_eq_true rfl) q516 ⟨rfl, rfl⟩ (Or.inl rfl) rfl (fun _ _ _ => rfl) hsn1 dX1_image_31 ?_
      refine r_putrN (pc := 34) (r := none) (c := 10) (k := 1) (kz := 1) (hx1.x.u_kept (by omega) (by omega)) cok_10 (Nat.le_of_ble_eq_true rfl) q500 ⟨rfl, rfl⟩ (Or.inl rfl) rfl (by omega) rfl rfl rfl (fun _ _ _ => rfl) ⟨rfl, rfl⟩ dX1_image_34 ?_
      exact fin
    | some sa =>
      refine r_getr (pc := 31) (c := 1) (k := 6) (kz := 6) hx1.o cok_1 (Nat.le_of_ble_eq_true rfl) q516 ⟨rfl, rfl⟩ (Or.inl rfl) rfl (fun _ _ _ => rfl) hsn1 dX1_image_31 ?_
      refine r_putrN (pc := 34) (r := some sa) (c := 10) (k := 1) (kz := 1) (hx1.x.u_kept (by omega) (by omega)) cok_10 (Nat.le_of_ble_eq_true rfl) q500 ⟨rfl, rfl⟩ (Or.inl rfl) rfl (by omega) rfl rfl rfl (fun _ _ _ => rfl) ⟨rfl, rfl⟩ dX1_image_34 ?_
      exact fin
  rw [if_neg (bz_0.mp h6)] at hQ
  refine r_iconst (pc := 9) dX1_image_9 ?_
  refine r_ireturn (pc := 10) rfl (nb_z (by omega)) dX1_image_10 (Nat.le_of_ble_eq_true rfl) (Nat.le_of_ble_eq_true rfl) ?_
  exact hQ
/-- what an image keeps -/
def KP (G : GE) (I : HI) (P : HP) (T : HT) (x : Nat) (k : Int) (κ : Option (Int → Int)) : Prop := (κ = none ∧ P (x + 92 + 32 * k.toNat) 0 = none) ∨ ∃ κ' t', κ = some κ' ∧ P (x + 92 + 32 * k.toNat) 0 = some t' ∧ shT G P T t' ∧ (t' = x + 2 ∨ x + 404 ≤ t') ∧ P (x + 93 + 32 * k.toNat) 0 = some t' ∧ (∃ ν, GR I (x + 93 + 32 * k.toNat) t' κ' ν) ∧ WF κ'
theorem C_restore (hx : XS G I P T x t σ μ) {N : Int} {β : Int → Nat} {υ : Int → Int → Int} (hB : XB I P x t N β υ) {k : Int} (hk : rg k) {κ : Option (Int → Int)} (hK : 0 ≤ k → k ≤ 1 → KP G I P T x k κ)
    (hQ : if (0 ≤ k ∧ k ≤ 1) ∧ κ ≠ none then ∀ κ' t' ν I', κ = some κ' → P (x + 92 + 32 * k.toNat) 0 = some t' → (∀ b : Nat, b ≠ x → (b < x + 13 ∨ x + 44 ≤ b) → I' b = I b) → I' x = us (I x) 8 0 → XS G I' (up (up (up P x 3 (some t')) x 6 (P (x + 92 + 32 * k.toNat) 1)) (x + 13) 0 (some t')) T x t' κ' ν → XB I' (up (up (up P x 3 (some t')) x 6 (P (x + 92 + 32 * k.toNat) 1)) (x + 13) 0 (some t')) x t' 0 β υ → Q (some (iv 1)) I' J (up (up (up P x 3 (some t')) x 6 (P (x + 92 + 32 * k.toNat) 1)) (x + 13) 0 (some t')) T z else Q (some (iv 0)) I J P T z) : MC G yX1_restore (ws_ yX1_restore cX1_restore 2 (some FieldType.boolean)) (d + 3) 0 0 [.ref x, iv k] I J P T z Q nX := by
  have hb := hx.b
  have htx := hx.tx
  refine MC.of (by decide) (Nat.le_of_ble_eq_true rfl) ?_
  show PW G mX1_restore (rmD (d + 3) 0 0) (MZ G Q nX 0 0) 0 0 I J P T z 0 [some (.ref x), some (iv k)] []
  have bad : ¬ ((0 ≤ k ∧ k ≤ 1) ∧ κ ≠ none) → PW G mX1_restore (rmD (d + 3) 0 0) (MZ G Q nX 0 0) 0 0 I J P T z 21 [some (.ref x), some (iv k)] [] := by
    intro q
    rw [if_neg q] at hQ
    refine r_iconst (pc := 21) dX1_restore_21 ?_
    refine r_ireturn (pc := 22) rfl (nb_z (by omega)) dX1_restore_22 (Nat.le_of_ble_eq_true rfl) (Nat.le_of_ble_eq_true rfl) ?_
    exact hQ
  refine r_iload_n (pc := 0) dX1_restore_0 rfl rfl ?_
  refine r_iconst (pc := 1) dX1_restore_1 ?_
  refine r_iconst (pc := 2) dX1_restore_2 ?_
  refine r_callS3 (pc := 3) (C_isIn (by omega) (by omega) (by omega) fe_i) im_X1_isIn q1228 dX1_restore_3 (Nat.le_of_ble_eq_true rfl) (Nat.le_of_ble_eq_true rfl) rfl (k_fi ?_) (fun _ _ _ _ _ _ _ hx => no_x hx)
  refine r_if_eq (pc := 6) 21 dX1_restore_6 rfl bz_g (fun h6 => ?_) (fun h6 => ?_)
  · exact bad (fun q => bz_0.mp h6 q.1)
  have q1 := bz_ne.mp h6
  refine r_aload_n (pc := 9) dX1_restore_9 rfl rfl ?_
  refine r_getr (pc := 10) (c := 1) (k := 23) (kz := 23) hx.o cok_1 (Nat.le_of_ble_eq_true rfl) q533 ⟨rfl, rfl⟩ (Or.inl rfl) rfl (fun _ _ _ => rfl) hx.p_kept dX1_restore_10 ?_
  refine r_iload_n (pc := 13) dX1_restore_13 rfl rfl ?_
  refine r_aald (pc := 14) hx.t_kept ⟨by decide, by decide⟩ rfl (fun _ _ _ => rfl) (by omega) (by omega) (hx.x.q_kept (by omega) (by omega)) dX1_restore_14 ?_
  rcases hK q1.1 q1.2 with ⟨e1, e2⟩ | ⟨κ', t', e1, e2, e3, e4, e5, ⟨ν, e6⟩, e7⟩
  · refine r_getzN (pc := 15) (c := 10) (k := 0) (kz := 0) (hx.x.u_kept (by omega) (by omega)) cok_10 (Nat.le_of_ble_eq_true rfl) q499 ⟨rfl, rfl⟩ (Or.inl rfl) rfl (fun _ _ _ => rfl) e2 dX1_restore_15 ?_
    refine r_ifnonnullN (pc := 18) dX1_restore_18 ?_
    exact bad (fun q => q.2 e1)
  refine r_getrN (pc := 15) (c := 10) (k := 0) (kz := 0) (hx.x.u_kept (by omega) (by omega)) cok_10 (Nat.le_of_ble_eq_true rfl) q499 ⟨rfl, rfl⟩ (Or.inl rfl) rfl (fun _ _ _ => rfl) e2 dX1_restore_15 ?_
  refine r_ifnonnull (pc := 18) 23 dX1_restore_18 rfl ?_
  rw [if_pos ⟨q1, by rw [e1]; exact fun h => by cases h⟩] at hQ
  replace hQ := fun ν I' => hQ κ' t' ν I' e1 e2
  have hk2 : k.toNat < 2 := by omega
  have hP1 : PF x P (up P x 3 (some t')) := PF.rf.upd (by unfold okP; omega)
  have hX1 := hx.x.pf hP1
  refine r_aload_n (pc := 23) dX1_restore_23 rfl rfl ?_
  refine r_aload_n (pc := 24) dX1_restore_24 rfl rfl ?_
  refine r_getr (pc := 25) (c := 1) (k := 23) (kz := 23) hx.o cok_1 (Nat.le_of_ble_eq_true rfl) q533 ⟨rfl, rfl⟩ (Or.inl rfl) rfl (fun _ _ _ => rfl) hx.p_kept dX1_restore_25 ?_
  refine r_iload_n (pc := 28) dX1_restore_28 rfl rfl ?_
  refine r_aald (pc := 29) hx.t_kept ⟨by decide, by decide⟩ rfl (fun _ _ _ => rfl) (by omega) (by omega) (hx.x.q_kept (by omega) (by omega)) dX1_restore_29 ?_
  refine r_getrN (pc := 30) (c := 10) (k := 0) (kz := 0) (hx.x.u_kept (by omega) (by omega)) cok_10 (Nat.le_of_ble_eq_true rfl) q499 ⟨rfl, rfl⟩ (Or.inl rfl) rfl (fun _ _ _ => rfl) e2 dX1_restore_30 ?_
  refine r_putr (pc := 33) (r := some t') (c := 1) (k := 3) (kz := 3) hx.o cok_1 (Nat.le_of_ble_eq_true rfl) q513 ⟨rfl, rfl⟩ (Or.inl rfl) rfl (by omega) rfl rfl rfl (fun _ _ _ => rfl) ⟨rfl, rfl⟩ dX1_restore_33 ?_
  refine r_aload_n (pc := 36) dX1_restore_36 rfl rfl ?_
  refine r_aload_n (pc := 37) dX1_restore_37 rfl rfl ?_
  refine r_getr (pc := 38) (c := 1) (k := 23) (kz := 23) hX1.o cok_1 (Nat.le_of_ble_eq_true rfl) q533 ⟨rfl, rfl⟩ (Or.inl rfl) rfl (fun _ _ _ => rfl) hX1.p_kept dX1_restore_38 ?_
  refine r_iload_n (pc := 41) dX1_restore_41 rfl rfl ?_
  refine r_aald (pc := 42) hX1.t_kept ⟨by decide, by decide⟩ rfl (fun _ _ _ => rfl) (by omega) (by omega) (hX1.q_kept (by omega) (by omega)) dX1_restore_42 ?_
  have fin : ∀ sn, P (x + 92 + 32 * k.toNat) 1 = sn → PW G mX1_restore (rmD (d + 3) 0 0) (MZ G Q nX 0 0) 0 0 I J (up (up P x 3 (some t')) x 6 sn) T z 49 [some (.ref x), some (iv k)] [] := by
    intro sn esn
    rw [esn] at hQ
    have hP2 : PF x P (up (up P x 3 (some t')) x 6 sn) := hP1.upd (by unfold okP; omega)
    have hX2 := hx.x.pf hP2
    have hT2 := e3.pf hP2 e4
    have p13 : up (up P x 3 (some t')) x 6 sn (x + 13) 0 = some t := by rw [up_n (by omega), up_n (by omega)]; exact hx.g.2.2
    have ptb : up (up P x 3 (some t')) x 6 sn x 3 = some t' := by unfold up; simp
    have p93 : up (up P x 3 (some t')) x 6 sn (x + 93 + 32 * k.toNat) 0 = some t' := by rw [up_n (by omega), up_n (by omega)]; exact e5
    have e75 : up (up P x 3 (some t')) x 6 sn (x + 75) = P (x + 75) := funext (fun i => by rw [up_n (by omega), up_n (by omega)])
    have hP3 : PF x P (up (up (up P x 3 (some t')) x 6 sn) (x + 13) 0 (some t')) := hP2.upd (by unfold okP; omega)
    generalize up (up P x 3 (some t')) x 6 sn = P2 at hP2 hX2 hT2 p13 ptb p93 e75 hP3 hQ
    have hg0 : shG0 G P2 T (x + 93 + 32 * k.toNat) := by
      have := hX2.g (o := 93 + 32 * k.toNat) (by
        rcases (show k = 0 ∨ k = 1 by omega) with rfl | rfl <;> decide)
      rw [show x + (93 + 32 * k.toNat) = x + 93 + 32 * k.toNat by omega] at this
      exact this
    have hn0 : shG0 G P2 T (x + 13) := hX2.g (o := 13) (by decide)
    have hgk : shG G P2 T (x + 93 + 32 * k.toNat) t' := ⟨hg0, hT2, p93⟩
    refine r_aload_n (pc := 49) dX1_restore_49 rfl rfl ?_
    refine r_getr (pc := 50) (c := 1) (k := 4) (kz := 4) hX2.o cok_1 (Nat.le_of_ble_eq_true rfl) q514 ⟨rfl, rfl⟩ (Or.inl rfl) rfl (fun _ _ _ => rfl) hX2.p_now dX1_restore_50 ?_
    refine r_aload_n (pc := 53) dX1_restore_53 rfl rfl ?_
    refine r_getr (pc := 54) (c := 1) (k := 23) (kz := 23) hX2.o cok_1 (Nat.le_of_ble_eq_true rfl) q533 ⟨rfl, rfl⟩ (Or.inl rfl) rfl (fun _ _ _ => rfl) hX2.p_kept dX1_restore_54 ?_
    refine r_iload_n (pc := 57) dX1_restore_57 rfl rfl ?_
    refine r_aald (pc := 58) hX2.t_kept ⟨by decide, by decide⟩ rfl (fun _ _ _ => rfl) (by omega) (by omega) (hX2.q_kept (by omega) (by omega)) dX1_restore_58 ?_
    refine r_getrN (pc := 59) (c := 10) (k := 2) (kz := 2) (hX2.u_kept (by omega) (by omega)) cok_10 (Nat.le_of_ble_eq_true rfl) q502 ⟨rfl, rfl⟩ (Or.inl rfl) rfl (fun _ _ _ => rfl) (hX2.p_game (by omega) (by omega)) dX1_restore_59 ?_
    refine r_callV1 (pc := 62) (C_as (Q := ee J T z (some (.ref (x + 13))) (fun I' P' => P' = up P2 (x + 13) 0 (some t') ∧ GF (x + 13) I I' ∧ GR I' (x + 13) t' κ' ν)) hn0 hgk (by omega) (by omega) e6 (fun I' a b => ee_i ⟨rfl, a, b⟩)) im_X3_as q1268 q1266 hn0.o rfl dX1_restore_62 (Nat.le_of_ble_eq_true rfl) (Nat.le_of_ble_eq_true rfl) rfl (k_e fun I3 P3 h3 => ?_) (fun _ _ _ _ _ _ _ hx => no_x hx)
    obtain ⟨eP3, hf, hr⟩ := h3
    rw [← eP3] at hP3 hQ
    have hX3 := hx.x.pf hP3
    show PW G mX1_restore (rmD (d + 3) 0 0) (MZ G Q nX 0 0) 0 0 I3 J P3 T z 65 [some (.ref x), some (iv k)] [.ref (x + 13)]
    refine r_pop (pc := 65) dX1_restore_65 rfl ?_
    refine r_aload_n (pc := 66) dX1_restore_66 rfl rfl ?_
    refine r_iconst (pc := 67) dX1_restore_67 ?_
    refine r_puti (pc := 68) (c := 1) (k := 8) (kz := 8) hX3.o cok_1 (Nat.le_of_ble_eq_true rfl) q518 ⟨rfl, rfl⟩ (Or.inl rfl) rfl (by omega) rfl rfl (by omega) (fun _ _ _ => rfl) ⟨rfl, rfl⟩ dX1_restore_68 ?_
    refine r_iconst (pc := 71) dX1_restore_71 ?_
    refine r_ireturn (pc := 72) rfl (nb_z (by omega)) dX1_restore_72 (Nat.le_of_ble_eq_true rfl) (Nat.le_of_ble_eq_true rfl) ?_
    have f8 : ∀ b : Nat, b ≠ x → ui I3 x 8 0 b = I3 b := fun b q => funext (fun i => ui_n q)
    have e8 : ui I3 x 8 0 x = us (I x) 8 0 := by
      funext i
      unfold ui us
      rw [hf x (by omega)]
      simp
    refine hQ ν _ (fun b u v => by rw [f8 b u]; exact hf b (by omega)) e8 ⟨hX3, ?_, ⟨hX3.g (o := 13) (by decide), e3.pf hP3 e4, ?_⟩, hr.fr (fun b q => f8 b (by omega)), e7, e4⟩ ⟨fun j u v => ?_, hB.2.1, by omega, by rw [e8]; exact us_s, fun j u v => by omega⟩
    · rw [eP3, up_n (by omega)]; exact ptb
    · rw [eP3]; simp [up]
    · rw [eP3, up_n (by omega), e75]; exact hB.1 j u v
  cases hsn : P (x + 92 + 32 * k.toNat) 1 with
  | none =>
    refine r_getzN (pc := 43) (c := 10) (k := 1) (kz := 1) (hX1.u_kept (by omega) (by omega)) cok_10 (Nat.le_of_ble_eq_true rfl) q500 ⟨rfl, rfl⟩ (Or.inl rfl) rfl (fun _ _ _ => rfl) ((up_n (by omega)).trans hsn) dX1_restore_43 ?_
    refine r_putr (pc := 46) (r := none) (c := 1) (k := 6) (kz := 6) hX1.o cok_1 (Nat.le_of_ble_eq_true rfl) q516 ⟨rfl, rfl⟩ (Or.inl rfl) rfl (by omega) rfl rfl rfl (fun _ _ _ => rfl) ⟨rfl, rfl⟩ dX1_restore_46 ?_
    exact fin none hsn
  | some sa =>
    refine r_getrN (pc := 43) (c := 10) (k := 1) (kz := 1) (hX1.u_kept (by omega) (by omega)) cok_10 (Nat.le_of_ble_eq_true rfl) q500 ⟨rfl, rfl⟩ (Or.inl rfl) rfl (fun _ _ _ => rfl) ((up_n (by omega)).trans hsn) dX1_restore_43 ?_
    refine r_putr (pc := 46) (r := some sa) (c := 1) (k := 6) (kz := 6) hX1.o cok_1 (Nat.le_of_ble_eq_true rfl) q516 ⟨rfl, rfl⟩ (Or.inl rfl) rfl (by omega) rfl rfl rfl (fun _ _ _ => rfl) ⟨rfl, rfl⟩ dX1_restore_46 ?_
    exact fin (some sa) hsn
end L7
