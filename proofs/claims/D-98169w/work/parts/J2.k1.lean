/-! ===== the component: small methods of games ===== -/
section K1
variable {G : GE} {I I0 J : HI} {P : HP} {T : HT} {z : Nat} {g t d : Nat} {Q : QT} {σ μ : Int → Int}
theorem C_isIn {v lo hi : Int} (hv : rg v) (h1 : rg lo) (h2 : rg hi) (hQ : Q (some (iv (bz (lo ≤ v ∧ v ≤ hi)))) I J P T z) : MC G yX1_isIn (ws_ yX1_isIn cX1_isIn 3 (some FieldType.boolean)) (d) 0 0 [iv v, iv lo, iv hi] I J P T z Q nX := by
  refine MC.of (by decide) (Nat.le_of_ble_eq_true rfl) ?_
  show PW G mX1_isIn (rmD (d) 0 0) (MZ G Q nX 0 0) 0 0 I J P T z 0 [some (iv v), some (iv lo), some (iv hi)] []
  refine r_iload_n (pc := 0) dX1_isIn_0 rfl rfl ?_
  refine r_iload_n (pc := 1) dX1_isIn_1 rfl rfl ?_
  refine r_icmp_lt (pc := 2) 14 dX1_isIn_2 rfl (by omega) (by omega) (fun h2 => ?_) (fun h2 => ?_)
  · refine r_iconst (pc := 14) dX1_isIn_14 ?_
    refine r_ireturn (pc := 15) rfl (by decide +kernel) dX1_isIn_15 (Nat.le_of_ble_eq_true rfl) (Nat.le_of_ble_eq_true rfl) ?_
    rw [bz_f (by omega)] at hQ
    exact hQ
  refine r_iload_n (pc := 5) dX1_isIn_5 rfl rfl ?_
  refine r_iload_n (pc := 6) dX1_isIn_6 rfl rfl ?_
  refine r_icmp_gt (pc := 7) 14 dX1_isIn_7 rfl (by omega) (by omega) (fun h7 => ?_) (fun h7 => ?_)
  · refine r_iconst (pc := 14) dX1_isIn_14 ?_
    refine r_ireturn (pc := 15) rfl (by decide +kernel) dX1_isIn_15 (Nat.le_of_ble_eq_true rfl) (Nat.le_of_ble_eq_true rfl) ?_
    rw [bz_f (by omega)] at hQ
    exact hQ
  refine r_iconst (pc := 10) dX1_isIn_10 ?_
  refine r_goto (pc := 11) 15 dX1_isIn_11 rfl ?_
  refine r_ireturn (pc := 15) rfl (by decide +kernel) dX1_isIn_15 (Nat.le_of_ble_eq_true rfl) (Nat.le_of_ble_eq_true rfl) ?_
  rw [bz_t (by omega)] at hQ
  exact hQ
theorem C_isOf {x k : Int} (hx : rg x) (hk : 0 ≤ k ∧ k < 32) (hQ : Q (some (iv (bz (tb x k)))) I J P T z) : MC G yX1_isOf (ws_ yX1_isOf cX1_isOf 2 (some FieldType.boolean)) (d) 0 0 [iv x, iv k] I J P T z Q nX := by
  refine MC.of (by decide) (Nat.le_of_ble_eq_true rfl) ?_
  show PW G mX1_isOf (rmD (d) 0 0) (MZ G Q nX 0 0) 0 0 I J P T z 0 [some (iv x), some (iv k)] []
  refine r_iload_n (pc := 0) dX1_isOf_0 rfl rfl ?_
  refine r_iload_n (pc := 1) dX1_isOf_1 rfl rfl ?_
  refine r_ishr (pc := 2) dX1_isOf_2 hx hk ?_
  refine r_iconst (pc := 3) dX1_isOf_3 ?_
  refine r_iand 1 2 dX1_isOf_4 rfl (by decide) rfl ?_
  refine r_iconst (pc := 5) dX1_isOf_5 ?_
  refine r_icmp_ne (pc := 6) 13 dX1_isOf_6 rfl (by omega) (by omega) (fun h6 => ?_) (fun h6 => ?_)
  · refine r_iconst (pc := 13) dX1_isOf_13 ?_
    refine r_ireturn (pc := 14) rfl (by decide +kernel) dX1_isOf_14 (Nat.le_of_ble_eq_true rfl) (Nat.le_of_ble_eq_true rfl) ?_
    rw [bz_f h6] at hQ
    exact hQ
  refine r_iconst (pc := 9) dX1_isOf_9 ?_
  refine r_goto (pc := 10) 14 dX1_isOf_10 rfl ?_
  refine r_ireturn (pc := 14) rfl (by decide +kernel) dX1_isOf_14 (Nat.le_of_ble_eq_true rfl) (Nat.le_of_ble_eq_true rfl) ?_
  rw [bz_t h6] at hQ
  exact hQ
theorem C_lsize {a : Nat} (hT : T a = (52, 0)) (hQ : Q (some (iv (I a 2))) I J P T z) : MC G yJ2_size (ws_ yJ2_size cJ2_size 1 (some FieldType.int)) (d) 0 0 [.ref a] I J P T z Q nX := by
  refine MC.of (by decide) (Nat.le_of_ble_eq_true rfl) ?_
  show PW G mJ2_size (rmD (d) 0 0) (MZ G Q nX 0 0) 0 0 I J P T z 0 [some (.ref a)] []
  refine r_aload_n (pc := 0) dJ2_size_0 rfl rfl ?_
  refine r_geti (pc := 1) (c := 32) (k := 2) (kz := 2) hT cok_32 (Nat.le_of_ble_eq_true rfl) q187 ⟨rfl, rfl⟩ (Or.inl rfl) rfl (fun _ _ _ => rfl) dJ2_size_1 (fun hr1 => ?_)
  refine r_ireturn (pc := 4) rfl rfl dJ2_size_4 (Nat.le_of_ble_eq_true rfl) (Nat.le_of_ble_eq_true rfl) ?_
  exact hQ
theorem C_many (hs : shT G P T t) (hQ : Q (some (iv (I (t + 1) 2))) I J P T z) : MC G yX2_many (ws_ yX2_many cX2_many 1 (some FieldType.int)) (d + 1) 0 0 [.ref t] I J P T z Q nX := by
  refine MC.of (by decide) (Nat.le_of_ble_eq_true rfl) ?_
  show PW G mX2_many (rmD (d + 1) 0 0) (MZ G Q nX 0 0) 0 0 I J P T z 0 [some (.ref t)] []
  refine r_aload_n (pc := 0) dX2_many_0 rfl rfl ?_
  refine r_getr (pc := 1) (c := 2) (k := 5) (kz := 5) hs.o cok_2 (Nat.le_of_ble_eq_true rfl) q219 ⟨rfl, rfl⟩ (Or.inl rfl) rfl (fun _ _ _ => rfl) hs.p_names dX2_many_1 ?_
  refine r_callV0 (pc := 4) (C_lsize hs.t_names fe_i) im_J2_size q373 q371 hs.t_names rfl dX2_many_4 (Nat.le_of_ble_eq_true rfl) (Nat.le_of_ble_eq_true rfl) rfl (k_fi ?_) (fun _ _ _ _ _ _ _ hx => no_x hx)
  refine r_ireturn (pc := 7) rfl rfl dX2_many_7 (Nat.le_of_ble_eq_true rfl) (Nat.le_of_ble_eq_true rfl) ?_
  exact hQ
theorem C_isPerson (hs : shT G P T t) {p : Int} (hp : rg p) (hn : 0 ≤ I (t + 1) 2 ∧ I (t + 1) 2 ≤ 6) (hQ : Q (some (iv (bz (0 ≤ p ∧ p ≤ I (t + 1) 2 - 1)))) I J P T z) : MC G yX2_isPerson (ws_ yX2_isPerson cX2_isPerson 2 (some FieldType.boolean)) (d + 2) 0 0 [.ref t, iv p] I J P T z Q nX := by
  refine MC.of (by decide) (Nat.le_of_ble_eq_true rfl) ?_
  show PW G mX2_isPerson (rmD (d + 2) 0 0) (MZ G Q nX 0 0) 0 0 I J P T z 0 [some (.ref t), some (iv p)] []
  refine r_iload_n (pc := 0) dX2_isPerson_0 rfl rfl ?_
  refine r_iconst (pc := 1) dX2_isPerson_1 ?_
  refine r_aload_n (pc := 2) dX2_isPerson_2 rfl rfl ?_
  refine r_callV0 (pc := 3) (C_many hs fe_i) im_X2_many q369 q1205 hs.o rfl dX2_isPerson_3 (Nat.le_of_ble_eq_true rfl) (Nat.le_of_ble_eq_true rfl) rfl (k_fi ?_) (fun _ _ _ _ _ _ _ hx => no_x hx)
  refine r_iconst (pc := 6) dX2_isPerson_6 ?_
  refine r_isub (pc := 7) dX2_isPerson_7 ?_
  refine r_callSN3 (pc := 8) (C_isIn hp (by omega) (by omega) fe_i) im_X1_isIn q1206 dX2_isPerson_8 (Nat.le_of_ble_eq_true rfl) (Nat.le_of_ble_eq_true rfl) rfl (k_fi ?_) (fun _ _ _ _ _ _ _ hx => no_x hx)
  refine r_ireturn (pc := 11) rfl bz_n dX2_isPerson_11 (Nat.le_of_ble_eq_true rfl) (Nat.le_of_ble_eq_true rfl) ?_
  exact hQ
theorem C_isKind (hs : shT G P T t) {k : Int} (hk : rg k) (hn : 0 ≤ I t 0 ∧ I t 0 ≤ 13) (hQ : Q (some (iv (bz (0 ≤ k ∧ k ≤ I t 0 - 1)))) I J P T z) : MC G yX2_isKind (ws_ yX2_isKind cX2_isKind 2 (some FieldType.boolean)) (d + 2) 0 0 [.ref t, iv k] I J P T z Q nX := by
  refine MC.of (by decide) (Nat.le_of_ble_eq_true rfl) ?_
  show PW G mX2_isKind (rmD (d + 2) 0 0) (MZ G Q nX 0 0) 0 0 I J P T z 0 [some (.ref t), some (iv k)] []
  refine r_iload_n (pc := 0) dX2_isKind_0 rfl rfl ?_
  refine r_iconst (pc := 1) dX2_isKind_1 ?_
  refine r_aload_n (pc := 2) dX2_isKind_2 rfl rfl ?_
  refine r_geti (pc := 3) (c := 2) (k := 0) (kz := 0) hs.o cok_2 (Nat.le_of_ble_eq_true rfl) q202 ⟨rfl, rfl⟩ (Or.inl rfl) rfl (fun _ _ _ => rfl) dX2_isKind_3 (fun hr3 => ?_)
  refine r_iconst (pc := 6) dX2_isKind_6 ?_
  refine r_isub (pc := 7) dX2_isKind_7 ?_
  refine r_callSN3 (pc := 8) (C_isIn hk (by omega) (by omega) fe_i) im_X1_isIn q1206 dX2_isKind_8 (Nat.le_of_ble_eq_true rfl) (Nat.le_of_ble_eq_true rfl) rfl (k_fi ?_) (fun _ _ _ _ _ _ _ hx => no_x hx)
  refine r_ireturn (pc := 11) rfl bz_n dX2_isKind_11 (Nat.le_of_ble_eq_true rfl) (Nat.le_of_ble_eq_true rfl) ?_
  exact hQ
theorem C_size (hs : shG G P T g t) (hr : GR I g t σ μ) {p : Int} (hp : 0 ≤ p ∧ p < 6) (hQ : Q (some (iv (f_cards σ p))) I J P T z) : MC G yX3_size (ws_ yX3_size cX3_size 4 (some FieldType.int)) (d) 0 0 [.ref g, iv p] I J P T z Q nX := by
  have hb := hs.b
  refine MC.of (by decide) (Nat.le_of_ble_eq_true rfl) ?_
  show PW G mX3_size (rmD (d) 0 0) (MZ G Q nX 0 0) 0 0 I J P T z 0 [some (.ref g), some (iv p), none, none] []
  refine r_iconst (pc := 0) dX3_size_0 ?_
  refine r_istore_n2 (pc := 1) (Nat.le_of_ble_eq_true rfl) dX3_size_1 rfl ?_
  refine r_iconst (pc := 2) dX3_size_2 ?_
  refine r_istore_n3 (pc := 3) (Nat.le_of_ble_eq_true rfl) dX3_size_3 rfl ?_
  have loop : ∀ (n : Nat) (i : Int), 0 ≤ i → i ≤ 13 → 13 - i < n → PW G mX3_size (rmD (d) 0 0) (MZ G Q nX 0 0) 0 0 I J P T z 4 [some (.ref g), some (iv p), some (iv (sm (fun j => σ (60 + 13 * p + j)) i.toNat)), some (iv i)] [] := by
    intro n
    induction n with
    | zero => intro i h0 h1 h2; omega
    | succ n ih =>
      intro i h0 h1 h2
      refine r_iload_n (pc := 4) dX3_size_4 rfl rfl ?_
      refine r_bipush (pc := 5) dX3_size_5 (by decide +kernel) ?_
      refine r_icmp_ge (pc := 7) 27 dX3_size_7 rfl (by omega) (by omega) (fun h7 => ?_) (fun h7 => ?_)
      · obtain rfl : i = 13 := by omega
        refine r_iload_n (pc := 27) dX3_size_27 rfl rfl ?_
        refine r_ireturn (pc := 28) rfl rfl dX3_size_28 (Nat.le_of_ble_eq_true rfl) (Nat.le_of_ble_eq_true rfl) ?_
        unfold f_cards at hQ
        rw [iv_wr] at hQ
        exact hQ
      refine r_iload_n (pc := 10) dX3_size_10 rfl rfl ?_
      refine r_aload_n (pc := 11) dX3_size_11 rfl rfl ?_
      refine r_getr (pc := 12) (c := 3) (k := 1) (kz := 1) hs.o cok_3 (Nat.le_of_ble_eq_true rfl) q264 ⟨rfl, rfl⟩ (Or.inl rfl) rfl (fun _ _ _ => rfl) hs.p_hand dX3_size_12 ?_
      refine r_iload_n (pc := 15) dX3_size_15 rfl rfl ?_
      refine r_aald (pc := 16) hs.t_hand ⟨by decide, by decide⟩ rfl (fun _ _ _ => rfl) (by omega) (by omega) (hs.q_hand (by omega) (by omega)) dX3_size_16 ?_
      refine r_iload_n (pc := 17) dX3_size_17 rfl rfl ?_
      refine r_iald (pc := 18) (hs.u_hand (by omega) (by omega)) (by omega) (by omega) dX3_size_18 (fun hr18 => ?_)
      rw [hr.hand (by omega) (by omega) (by omega) (by omega)] at hr18 ⊢
      refine r_iadd (pc := 19) dX3_size_19 ?_
      refine r_istore_n2 (pc := 20) (Nat.le_of_ble_eq_true rfl) dX3_size_20 rfl ?_
      refine r_iinc3 (pc := 21) (Nat.le_of_ble_eq_true rfl) dX3_size_21 rfl ?_
      refine r_goto (pc := 24) 4 dX3_size_24 rfl ?_
      rw [sm_succ (f := fun j => σ (60 + 13 * p + j)) h0]
      exact ih (i + 1) (by omega) (by omega) (by omega)
  exact loop 14 0 (by omega) (by omega) (by omega)
theorem C_left (hs : shG G P T g t) (hr : GR I g t σ μ) (hQ : Q (some (iv (σ 7))) I J P T z) : MC G yX3_left (ws_ yX3_left cX3_left 1 (some FieldType.int)) (d) 0 0 [.ref g] I J P T z Q nX := by
  have hb := hs.b
  refine MC.of (by decide) (Nat.le_of_ble_eq_true rfl) ?_
  show PW G mX3_left (rmD (d) 0 0) (MZ G Q nX 0 0) 0 0 I J P T z 0 [some (.ref g)] []
  have hh := hr.hp
  refine r_aload_n (pc := 0) dX3_left_0 rfl rfl ?_
  refine r_geti (pc := 1) (c := 3) (k := 13) (kz := 13) hs.o cok_3 (Nat.le_of_ble_eq_true rfl) q304 ⟨rfl, rfl⟩ (Or.inl rfl) rfl (fun _ _ _ => rfl) dX3_left_1 (fun hr1 => ?_)
  refine r_aload_n (pc := 4) dX3_left_4 rfl rfl ?_
  refine r_geti (pc := 5) (c := 3) (k := 12) (kz := 12) hs.o cok_3 (Nat.le_of_ble_eq_true rfl) q301 ⟨rfl, rfl⟩ (Or.inl rfl) rfl (fun _ _ _ => rfl) dX3_left_5 (fun hr5 => ?_)
  refine r_isub (pc := 8) dX3_left_8 ?_
  rw [show I g 13 - I g 12 = σ 7 by omega]
  refine r_ireturn (pc := 9) rfl rfl dX3_left_9 (Nat.le_of_ble_eq_true rfl) (Nat.le_of_ble_eq_true rfl) ?_
  exact hQ
theorem C_isOver (hs : shG G P T g t) (hr : GR I g t σ μ) (hQ : Q (some (iv (bz (σ 4 = -1)))) I J P T z) : MC G yX3_isOver (ws_ yX3_isOver cX3_isOver 1 (some FieldType.boolean)) (d) 0 0 [.ref g] I J P T z Q nX := by
  have hb := hs.b
  refine MC.of (by decide) (Nat.le_of_ble_eq_true rfl) ?_
  show PW G mX3_isOver (rmD (d) 0 0) (MZ G Q nX 0 0) 0 0 I J P T z 0 [some (.ref g)] []
  refine r_aload_n (pc := 0) dX3_isOver_0 rfl rfl ?_
  refine r_geti (pc := 1) (c := 3) (k := 14) (kz := 14) hs.o cok_3 (Nat.le_of_ble_eq_true rfl) q307 ⟨rfl, rfl⟩ (Or.inl rfl) rfl (fun _ _ _ => rfl) dX3_isOver_1 (fun hr1 => ?_)
  rw [hr.turn] at hr1 ⊢
  refine r_iconst (pc := 4) dX3_isOver_4 ?_
  refine r_icmp_ne (pc := 5) 12 dX3_isOver_5 rfl (by omega) (by omega) (fun h5 => ?_) (fun h5 => ?_)
  · refine r_iconst (pc := 12) dX3_isOver_12 ?_
    refine r_ireturn (pc := 13) rfl (by decide +kernel) dX3_isOver_13 (Nat.le_of_ble_eq_true rfl) (Nat.le_of_ble_eq_true rfl) ?_
    rw [bz_f h5] at hQ
    exact hQ
  refine r_iconst (pc := 8) dX3_isOver_8 ?_
  refine r_goto (pc := 9) 13 dX3_isOver_9 rfl ?_
  refine r_ireturn (pc := 13) rfl (by decide +kernel) dX3_isOver_13 (Nat.le_of_ble_eq_true rfl) (Nat.le_of_ble_eq_true rfl) ?_
  rw [bz_t h5] at hQ
  exact hQ
theorem C_booksOf (hs : shG G P T g t) (hr : GR I g t σ μ) {p : Int} (hp : 0 ≤ p ∧ p < 6) (hQ : Q (some (iv (f_booksOf σ p))) I J P T z) : MC G yX3_booksOf (ws_ yX3_booksOf cX3_booksOf 4 (some FieldType.int)) (d) 0 0 [.ref g, iv p] I J P T z Q nX := by
  have hb := hs.b
  refine MC.of (by decide) (Nat.le_of_ble_eq_true rfl) ?_
  show PW G mX3_booksOf (rmD (d) 0 0) (MZ G Q nX 0 0) 0 0 I J P T z 0 [some (.ref g), some (iv p), none, none] []
  refine r_iconst (pc := 0) dX3_booksOf_0 ?_
  refine r_istore_n2 (pc := 1) (Nat.le_of_ble_eq_true rfl) dX3_booksOf_1 rfl ?_
  refine r_iconst (pc := 2) dX3_booksOf_2 ?_
  refine r_istore_n3 (pc := 3) (Nat.le_of_ble_eq_true rfl) dX3_booksOf_3 rfl ?_
  have loop : ∀ (n : Nat) (i : Int), 0 ≤ i → i ≤ 13 → 13 - i < n → PW G mX3_booksOf (rmD (d) 0 0) (MZ G Q nX 0 0) 0 0 I J P T z 4 [some (.ref g), some (iv p), some (iv (sm (fun j => bz (σ (138 + j) = p + 1)) i.toNat)), some (iv i)] [] := by
    intro n
    induction n with
    | zero => intro i h0 h1 h2; omega
    | succ n ih =>
      intro i h0 h1 h2
      refine r_iload_n (pc := 4) dX3_booksOf_4 rfl rfl ?_
      refine r_bipush (pc := 5) dX3_booksOf_5 (by decide +kernel) ?_
      refine r_icmp_ge (pc := 7) 29 dX3_booksOf_7 rfl (by omega) (by omega) (fun h7 => ?_) (fun h7 => ?_)
      · obtain rfl : i = 13 := by omega
        refine r_iload_n (pc := 29) dX3_booksOf_29 rfl rfl ?_
        refine r_ireturn (pc := 30) rfl rfl dX3_booksOf_30 (Nat.le_of_ble_eq_true rfl) (Nat.le_of_ble_eq_true rfl) ?_
        exact hQ
      have hs9 := sm_succ (f := fun j => bz (σ (138 + j) = p + 1)) h0
      refine r_aload_n (pc := 10) dX3_booksOf_10 rfl rfl ?_
      refine r_getr (pc := 11) (c := 3) (k := 9) (kz := 9) hs.o cok_3 (Nat.le_of_ble_eq_true rfl) q291 ⟨rfl, rfl⟩ (Or.inl rfl) rfl (fun _ _ _ => rfl) hs.p_book dX3_booksOf_11 ?_
      refine r_iload_n (pc := 14) dX3_booksOf_14 rfl rfl ?_
      refine r_iald (pc := 15) hs.t_book (by omega) (by omega) dX3_booksOf_15 (fun hr15 => ?_)
      rw [hr.book (by omega) (by omega)] at hr15 ⊢
      refine r_iload_n (pc := 16) dX3_booksOf_16 rfl rfl ?_
      refine r_icmp_ne (pc := 17) 23 dX3_booksOf_17 rfl (by omega) (by omega) (fun h17 => ?_) (fun h17 => ?_)
      · rw [bz_f (show ¬ σ (138 + i) = p + 1 by omega), Int.add_zero] at hs9
        refine r_iinc3 (pc := 23) (Nat.le_of_ble_eq_true rfl) dX3_booksOf_23 rfl ?_
        refine r_goto (pc := 26) 4 dX3_booksOf_26 rfl ?_
        rw [hs9]
        exact ih (i + 1) (by omega) (by omega) (by omega)
      rw [bz_t (show σ (138 + i) = p + 1 by omega)] at hs9
      refine r_iinc2 (pc := 20) (Nat.le_of_ble_eq_true rfl) dX3_booksOf_20 rfl ?_
      refine r_iinc3 (pc := 23) (Nat.le_of_ble_eq_true rfl) dX3_booksOf_23 rfl ?_
      refine r_goto (pc := 26) 4 dX3_booksOf_26 rfl ?_
      rw [hs9]
      exact ih (i + 1) (by omega) (by omega) (by omega)
  exact loop 14 0 (by omega) (by omega) (by omega)
theorem C_allBooks (hs : shG G P T g t) (hr : GR I g t σ μ) (hbk : ∀ k : Int, 0 ≤ k → k < 13 → 0 ≤ σ (138 + k)) (hQ : Q (some (iv (f_allBooks σ))) I J P T z) : MC G yX3_books_2 (ws_ yX3_books_2 cX3_books_2 3 (some FieldType.int)) (d) 0 0 [.ref g] I J P T z Q nX := by
  have hb := hs.b
  refine MC.of (by decide) (Nat.le_of_ble_eq_true rfl) ?_
  show PW G mX3_books_2 (rmD (d) 0 0) (MZ G Q nX 0 0) 0 0 I J P T z 0 [some (.ref g), none, none] []
  refine r_iconst (pc := 0) dX3_books_2_0 ?_
  refine r_istore_n1 (pc := 1) (Nat.le_of_ble_eq_true rfl) dX3_books_2_1 rfl ?_
  refine r_iconst (pc := 2) dX3_books_2_2 ?_
  refine r_istore_n2 (pc := 3) (Nat.le_of_ble_eq_true rfl) dX3_books_2_3 rfl ?_
  have loop : ∀ (n : Nat) (i : Int), 0 ≤ i → i ≤ 13 → 13 - i < n → PW G mX3_books_2 (rmD (d) 0 0) (MZ G Q nX 0 0) 0 0 I J P T z 4 [some (.ref g), some (iv (sm (fun j => bz (0 < σ (138 + j))) i.toNat)), some (iv i)] [] := by
    intro n
    induction n with
    | zero => intro i h0 h1 h2; omega
    | succ n ih =>
      intro i h0 h1 h2
      refine r_iload_n (pc := 4) dX3_books_2_4 rfl rfl ?_
      refine r_bipush (pc := 5) dX3_books_2_5 (by decide +kernel) ?_
      refine r_icmp_ge (pc := 7) 29 dX3_books_2_7 rfl (by omega) (by omega) (fun h7 => ?_) (fun h7 => ?_)
      · obtain rfl : i = 13 := by omega
        refine r_iload_n (pc := 29) dX3_books_2_29 rfl rfl ?_
        refine r_ireturn (pc := 30) rfl rfl dX3_books_2_30 (Nat.le_of_ble_eq_true rfl) (Nat.le_of_ble_eq_true rfl) ?_
        exact hQ
      have hs9 := sm_succ (f := fun j => bz (0 < σ (138 + j))) h0
      have hb9 := hbk i h0 (by omega)
      refine r_aload_n (pc := 10) dX3_books_2_10 rfl rfl ?_
      refine r_getr (pc := 11) (c := 3) (k := 9) (kz := 9) hs.o cok_3 (Nat.le_of_ble_eq_true rfl) q291 ⟨rfl, rfl⟩ (Or.inl rfl) rfl (fun _ _ _ => rfl) hs.p_book dX3_books_2_11 ?_
      refine r_iload_n (pc := 14) dX3_books_2_14 rfl rfl ?_
      refine r_iald (pc := 15) hs.t_book (by omega) (by omega) dX3_books_2_15 (fun hr15 => ?_)
      rw [hr.book (by omega) (by omega)] at hr15 ⊢
      refine r_iconst (pc := 16) dX3_books_2_16 ?_
      refine r_icmp_eq (pc := 17) 23 dX3_books_2_17 rfl (by omega) (by omega) (fun h17 => ?_) (fun h17 => ?_)
      · rw [bz_f (show ¬ 0 < σ (138 + i) by omega), Int.add_zero] at hs9
        refine r_iinc2 (pc := 23) (Nat.le_of_ble_eq_true rfl) dX3_books_2_23 rfl ?_
        refine r_goto (pc := 26) 4 dX3_books_2_26 rfl ?_
        rw [hs9]
        exact ih (i + 1) (by omega) (by omega) (by omega)
      rw [bz_t (show 0 < σ (138 + i) by omega)] at hs9
      refine r_iinc1 (pc := 20) (Nat.le_of_ble_eq_true rfl) dX3_books_2_20 rfl ?_
      refine r_iinc2 (pc := 23) (Nat.le_of_ble_eq_true rfl) dX3_books_2_23 rfl ?_
      refine r_goto (pc := 26) 4 dX3_books_2_26 rfl ?_
      rw [hs9]
      exact ih (i + 1) (by omega) (by omega) (by omega)
  exact loop 14 0 (by omega) (by omega) (by omega)
theorem C_next (hs : shG G P T g t) (hr : GR I g t σ μ) {p : Int} (hp : 0 ≤ p ∧ p < 6) (h1 : 0 < σ 1 ∧ σ 1 ≤ 6) (hQ : Q (some (iv ((p + 1) % σ 1))) I J P T z) : MC G yX3_next (ws_ yX3_next cX3_next 2 (some FieldType.int)) (d + 2) 0 0 [.ref g, iv p] I J P T z Q nX := by
  have hb := hs.b
  refine MC.of (by decide) (Nat.le_of_ble_eq_true rfl) ?_
  show PW G mX3_next (rmD (d + 2) 0 0) (MZ G Q nX 0 0) 0 0 I J P T z 0 [some (.ref g), some (iv p)] []
  refine r_iload_n (pc := 0) dX3_next_0 rfl rfl ?_
  refine r_iconst (pc := 1) dX3_next_1 ?_
  refine r_iadd (pc := 2) dX3_next_2 ?_
  refine r_aload_n (pc := 3) dX3_next_3 rfl rfl ?_
  refine r_getr (pc := 4) (c := 3) (k := 0) (kz := 0) hs.o cok_3 (Nat.le_of_ble_eq_true rfl) q259 ⟨rfl, rfl⟩ (Or.inl rfl) rfl (fun _ _ _ => rfl) hs.p_t dX3_next_4 ?_
  refine r_callV0 (pc := 7) (C_many hs.tb fe_i) im_X2_many q369 q367 hs.tb.o rfl dX3_next_7 (Nat.le_of_ble_eq_true rfl) (Nat.le_of_ble_eq_true rfl) rfl (k_fi ?_) (fun _ _ _ _ _ _ _ hx => no_x hx)
  rw [hr.ta.2.1]
  refine r_irem (pc := 10) dX3_next_10 (by omega) (by omega) ?_
  refine r_ireturn (pc := 11) rfl rfl dX3_next_11 (Nat.le_of_ble_eq_true rfl) (Nat.le_of_ble_eq_true rfl) ?_
  exact hQ
theorem C_others (hs : shG G P T g t) (hf : GF g I0 I) (hr : GR I g t σ μ) {p mask : Int} (hp : 0 ≤ p ∧ p < 6) (hm : rg mask) (hn : 0 ≤ σ (229 + p) ∧ σ (229 + p) < 52) (hQ : ∀ I', GF g I0 I' → GR I' g t (f_adds σ p mask) μ → Q none I' J P T z) : MC G yX3_others (ws_ yX3_others cX3_others 3 (none : Option FieldType)) (d) 0 0 [.ref g, iv p, iv mask] I J P T z Q nX := by
  have hb := hs.b
  refine MC.of (by decide) (Nat.le_of_ble_eq_true rfl) ?_
  show PW G mX3_others (rmD (d) 0 0) (MZ G Q nX 0 0) 0 0 I J P T z 0 [some (.ref g), some (iv p), some (iv mask)] []
  refine r_aload_n (pc := 0) dX3_others_0 rfl rfl ?_
  refine r_getr (pc := 1) (c := 3) (k := 3) (kz := 3) hs.o cok_3 (Nat.le_of_ble_eq_true rfl) q278 ⟨rfl, rfl⟩ (Or.inl rfl) rfl (fun _ _ _ => rfl) hs.p_other dX3_others_1 ?_
  refine r_iload_n (pc := 4) dX3_others_4 rfl rfl ?_
  refine r_aald (pc := 5) hs.t_other ⟨by decide, by decide⟩ rfl (fun _ _ _ => rfl) (by omega) (by omega) (hs.q_other (by omega) (by omega)) dX3_others_5 ?_
  refine r_aload_n (pc := 6) dX3_others_6 rfl rfl ?_
  refine r_getr (pc := 7) (c := 3) (k := 4) (kz := 4) hs.o cok_3 (Nat.le_of_ble_eq_true rfl) q280 ⟨rfl, rfl⟩ (Or.inl rfl) rfl (fun _ _ _ => rfl) hs.p_others dX3_others_7 ?_
  refine r_iload_n (pc := 10) dX3_others_10 rfl rfl ?_
  refine r_iald (pc := 11) hs.t_others (by omega) (by omega) dX3_others_11 (fun hr11 => ?_)
  rw [hr.others (by omega) (by omega)] at hr11 ⊢
  refine r_iload_n (pc := 12) dX3_others_12 rfl rfl ?_
  refine r_iast (pc := 13) (hs.u_other (by omega) (by omega)) (by omega) (by omega) (by omega) (by omega) dX3_others_13 ?_
  refine r_aload_n (pc := 14) dX3_others_14 rfl rfl ?_
  refine r_getr (pc := 15) (c := 3) (k := 4) (kz := 4) hs.o cok_3 (Nat.le_of_ble_eq_true rfl) q280 ⟨rfl, rfl⟩ (Or.inl rfl) rfl (fun _ _ _ => rfl) hs.p_others dX3_others_15 ?_
  refine r_iload_n (pc := 18) dX3_others_18 rfl rfl ?_
  refine r_dup2 (pc := 19) dX3_others_19 rfl rfl ?_
  refine r_iald (pc := 20) hs.t_others (by omega) (by omega) dX3_others_20 (fun hr20 => ?_)
  rw [ui_o (by omega), hr.others (by omega) (by omega)] at hr20 ⊢
  refine r_iconst (pc := 21) dX3_others_21 ?_
  refine r_iadd (pc := 22) dX3_others_22 ?_
  refine r_iast (pc := 23) hs.t_others (by omega) (by omega) (by omega) (by omega) dX3_others_23 ?_
  refine r_return (pc := 24) rfl dX3_others_24 (Nat.le_of_ble_eq_true rfl) (Nat.le_of_ble_eq_true rfl) ?_
  exact hQ _ ((hf.w (by omega) (by omega)).w (by omega) (by omega)) (hr.adds_w (by omega) (by omega) (by omega) (by omega))
theorem C_dropOther (hs : shG G P T g t) (hf : GF g I0 I) (hr : GR I g t σ μ) {p i : Int} (hp : 0 ≤ p ∧ p < 6) (hi : 0 ≤ i ∧ i < σ (229 + p)) (hn : σ (229 + p) ≤ 52) (hQ : ∀ I', GF g I0 I' → GR I' g t (dl (us σ (229 + p) (σ (229 + p) - 1)) (235 + 52 * p) (σ (229 + p) - 1) i) μ → Q none I' J P T z) : MC G yX3_dropOther (ws_ yX3_dropOther cX3_dropOther 4 (none : Option FieldType)) (d) 0 0 [.ref g, iv p, iv i] I J P T z Q nX := by
  have hb := hs.b
  refine MC.of (by decide) (Nat.le_of_ble_eq_true rfl) ?_
  show PW G mX3_dropOther (rmD (d) 0 0) (MZ G Q nX 0 0) 0 0 I J P T z 0 [some (.ref g), some (iv p), some (iv i), none] []
  refine r_aload_n (pc := 0) dX3_dropOther_0 rfl rfl ?_
  refine r_getr (pc := 1) (c := 3) (k := 4) (kz := 4) hs.o cok_3 (Nat.le_of_ble_eq_true rfl) q280 ⟨rfl, rfl⟩ (Or.inl rfl) rfl (fun _ _ _ => rfl) hs.p_others dX3_dropOther_1 ?_
  refine r_iload_n (pc := 4) dX3_dropOther_4 rfl rfl ?_
  refine r_dup2 (pc := 5) dX3_dropOther_5 rfl rfl ?_
  refine r_iald (pc := 6) hs.t_others (by omega) (by omega) dX3_dropOther_6 (fun hr6 => ?_)
  rw [hr.others (by omega) (by omega)] at hr6 ⊢
  refine r_iconst (pc := 7) dX3_dropOther_7 ?_
  refine r_isub (pc := 8) dX3_dropOther_8 ?_
  refine r_iast (pc := 9) hs.t_others (by omega) (by omega) (by omega) (by omega) dX3_dropOther_9 ?_
  refine r_iload_n (pc := 10) dX3_dropOther_10 rfl rfl ?_
  refine r_istore_n3 (pc := 11) (Nat.le_of_ble_eq_true rfl) dX3_dropOther_11 rfl ?_
  generalize hc : σ (229 + p) = c at hi hn hQ ⊢
  rw [dl_us (by omega)] at hQ
  generalize hD : dl σ (235 + 52 * p) (c - 1) i = D at hQ
  have loop : ∀ (n : Nat) (k : Int) (I1 : HI) (σ1 : Int → Int), 0 ≤ k → k < c → c - k ≤ n → GF g I0 I1 → GR I1 g t σ1 μ → σ1 (229 + p) = c → dl σ1 (235 + 52 * p) (c - 1) k = D → PW G mX3_dropOther (rmD (d) 0 0) (MZ G Q nX 0 0) 0 0 (ui I1 (g + 22) p (c - 1)) J P T z 12 [some (.ref g), some (iv p), some (iv i), some (iv k)] [] := by
    intro n
    induction n with
    | zero => intro k I1 σ1 h0 h1 h2; omega
    | succ n ih =>
      intro k I1 σ1 h0 h1 h2 hf1 hr1 hc1 hD1
      refine r_iload_n (pc := 12) dX3_dropOther_12 rfl rfl ?_
      refine r_aload_n (pc := 13) dX3_dropOther_13 rfl rfl ?_
      refine r_getr (pc := 14) (c := 3) (k := 4) (kz := 4) hs.o cok_3 (Nat.le_of_ble_eq_true rfl) q280 ⟨rfl, rfl⟩ (Or.inl rfl) rfl (fun _ _ _ => rfl) hs.p_others dX3_dropOther_14 ?_
      refine r_iload_n (pc := 17) dX3_dropOther_17 rfl rfl ?_
      refine r_iald (pc := 18) hs.t_others (by omega) (by omega) dX3_dropOther_18 (fun hr18 => ?_)
      rw [ui_e ⟨rfl, rfl⟩] at hr18 ⊢
      refine r_icmp_ge (pc := 19) 46 dX3_dropOther_19 rfl (by omega) (by omega) (fun h19 => ?_) (fun h19 => ?_)
      · rw [dl_end (by omega)] at hD1
        subst hD1
        refine r_return (pc := 46) rfl dX3_dropOther_46 (Nat.le_of_ble_eq_true rfl) (Nat.le_of_ble_eq_true rfl) ?_
        refine hQ _ (hf1.w (by omega) (by omega)) ?_
        exact hr1.others_d (by omega) (by omega) (by omega)
      refine r_aload_n (pc := 22) dX3_dropOther_22 rfl rfl ?_
      refine r_getr (pc := 23) (c := 3) (k := 3) (kz := 3) hs.o cok_3 (Nat.le_of_ble_eq_true rfl) q278 ⟨rfl, rfl⟩ (Or.inl rfl) rfl (fun _ _ _ => rfl) hs.p_other dX3_dropOther_23 ?_
      refine r_iload_n (pc := 26) dX3_dropOther_26 rfl rfl ?_
      refine r_aald (pc := 27) hs.t_other ⟨by decide, by decide⟩ rfl (fun _ _ _ => rfl) (by omega) (by omega) (hs.q_other (by omega) (by omega)) dX3_dropOther_27 ?_
      refine r_iload_n (pc := 28) dX3_dropOther_28 rfl rfl ?_
      refine r_aload_n (pc := 29) dX3_dropOther_29 rfl rfl ?_
      refine r_getr (pc := 30) (c := 3) (k := 3) (kz := 3) hs.o cok_3 (Nat.le_of_ble_eq_true rfl) q278 ⟨rfl, rfl⟩ (Or.inl rfl) rfl (fun _ _ _ => rfl) hs.p_other dX3_dropOther_30 ?_
      refine r_iload_n (pc := 33) dX3_dropOther_33 rfl rfl ?_
      refine r_aald (pc := 34) hs.t_other ⟨by decide, by decide⟩ rfl (fun _ _ _ => rfl) (by omega) (by omega) (hs.q_other (by omega) (by omega)) dX3_dropOther_34 ?_
      refine r_iload_n (pc := 35) dX3_dropOther_35 rfl rfl ?_
      refine r_iconst (pc := 36) dX3_dropOther_36 ?_
      refine r_iadd (pc := 37) dX3_dropOther_37 ?_
      refine r_iald (pc := 38) (hs.u_other (by omega) (by omega)) (by omega) (by omega) dX3_dropOther_38 (fun hr38 => ?_)
      rw [ui_o (by omega), hr1.other (by omega) (by omega) (by omega) (by omega) (by omega)] at hr38 ⊢
      refine r_iast (pc := 39) (hs.u_other (by omega) (by omega)) (by omega) (by omega) (by omega) (by omega) dX3_dropOther_39 ?_
      rw [ui_uin (by omega)]
      refine r_iinc3 (pc := 40) (Nat.le_of_ble_eq_true rfl) dX3_dropOther_40 rfl ?_
      refine r_goto (pc := 43) 12 dX3_dropOther_43 rfl ?_
      refine ih (k + 1) _ (us σ1 (235 + 52 * p + k) (σ1 (235 + 52 * p + (k + 1)))) (by omega) (by omega) (by omega) (hf1.w (by omega) (by omega)) (hr1.other_w (by omega) (by omega) (by omega) (by omega)) ?_ ?_
      · rw [us_n (by omega)]; exact hc1
      · rw [← hD1, ← Int.add_assoc]; exact dl_step (by omega)
  exact loop _ i I σ hi.1 hi.2 (Int.le_of_eq (Int.toNat_of_nonneg (by omega)).symm) hf hr hc hD
theorem C_firstThatCan (hs : shG G P T g t) (hr : GR I g t σ μ) {p k : Int} (hp : 0 ≤ p ∧ p < 6) (hk : 0 ≤ k ∧ k < 13) (hn : 0 ≤ σ (229 + p) ∧ σ (229 + p) ≤ 52) (hQ : Q (some (iv (if f_can σ p k = σ (229 + p) then -1 else f_can σ p k))) I J P T z) : MC G yX3_firstThatCan (ws_ yX3_firstThatCan cX3_firstThatCan 4 (some FieldType.int)) (d + 1) 0 0 [.ref g, iv p, iv k] I J P T z Q nX := by
  have hb := hs.b
  refine MC.of (by decide) (Nat.le_of_ble_eq_true rfl) ?_
  show PW G mX3_firstThatCan (rmD (d + 1) 0 0) (MZ G Q nX 0 0) 0 0 I J P T z 0 [some (.ref g), some (iv p), some (iv k), none] []
  refine r_iconst (pc := 0) dX3_firstThatCan_0 ?_
  refine r_istore_n3 (pc := 1) (Nat.le_of_ble_eq_true rfl) dX3_firstThatCan_1 rfl ?_
  have loop : ∀ (n : Nat) (i : Int), 0 ≤ i → i ≤ σ (229 + p) → σ (229 + p) - i < n → ff (fun j => tb (σ (235 + 52 * p + j)) k) i (σ (229 + p) - i).toNat = f_can σ p k → PW G mX3_firstThatCan (rmD (d + 1) 0 0) (MZ G Q nX 0 0) 0 0 I J P T z 2 [some (.ref g), some (iv p), some (iv k), some (iv i)] [] := by
    intro n
    induction n with
    | zero => intro i h0 h1 h2 h3; omega
    | succ n ih =>
      intro i h0 h1 h2 h3
      refine r_iload_n (pc := 2) dX3_firstThatCan_2 rfl rfl ?_
      refine r_aload_n (pc := 3) dX3_firstThatCan_3 rfl rfl ?_
      refine r_getr (pc := 4) (c := 3) (k := 4) (kz := 4) hs.o cok_3 (Nat.le_of_ble_eq_true rfl) q280 ⟨rfl, rfl⟩ (Or.inl rfl) rfl (fun _ _ _ => rfl) hs.p_others dX3_firstThatCan_4 ?_
      refine r_iload_n (pc := 7) dX3_firstThatCan_7 rfl rfl ?_
      refine r_iald (pc := 8) hs.t_others (by omega) (by omega) dX3_firstThatCan_8 (fun hr8 => ?_)
      rw [hr.others (by omega) (by omega)] at hr8 ⊢
      refine r_icmp_ge (pc := 9) 35 dX3_firstThatCan_9 rfl (by omega) (by omega) (fun h9 => ?_) (fun h9 => ?_)
      · obtain rfl : i = σ (229 + p) := by omega
        have hc : f_can σ p k = σ (229 + p) := by rw [← h3, Int.sub_self]; rfl
        rw [if_pos hc] at hQ
        refine r_iconst (pc := 35) dX3_firstThatCan_35 ?_
        refine r_ireturn (pc := 36) rfl rfl dX3_firstThatCan_36 (Nat.le_of_ble_eq_true rfl) (Nat.le_of_ble_eq_true rfl) ?_
        exact hQ
      refine r_aload_n (pc := 12) dX3_firstThatCan_12 rfl rfl ?_
      refine r_getr (pc := 13) (c := 3) (k := 3) (kz := 3) hs.o cok_3 (Nat.le_of_ble_eq_true rfl) q278 ⟨rfl, rfl⟩ (Or.inl rfl) rfl (fun _ _ _ => rfl) hs.p_other dX3_firstThatCan_13 ?_
      refine r_iload_n (pc := 16) dX3_firstThatCan_16 rfl rfl ?_
      refine r_aald (pc := 17) hs.t_other ⟨by decide, by decide⟩ rfl (fun _ _ _ => rfl) (by omega) (by omega) (hs.q_other (by omega) (by omega)) dX3_firstThatCan_17 ?_
      refine r_iload_n (pc := 18) dX3_firstThatCan_18 rfl rfl ?_
      refine r_iald (pc := 19) (hs.u_other (by omega) (by omega)) (by omega) (by omega) dX3_firstThatCan_19 (fun hr19 => ?_)
      rw [hr.other (by omega) (by omega) (by omega) (by omega) (by omega)] at hr19 ⊢
      refine r_iload_n (pc := 20) dX3_firstThatCan_20 rfl rfl ?_
      refine r_callSN2 (pc := 21) (C_isOf hr19 (by omega) fe_i) im_X1_isOf q409 dX3_firstThatCan_21 (Nat.le_of_ble_eq_true rfl) (Nat.le_of_ble_eq_true rfl) rfl (k_fi ?_) (fun _ _ _ _ _ _ _ hx => no_x hx)
      refine r_if_ne (pc := 24) 29 dX3_firstThatCan_24 rfl bz_g (fun h24 => ?_) (fun h24 => ?_)
      · refine r_iinc3 (pc := 29) (Nat.le_of_ble_eq_true rfl) dX3_firstThatCan_29 rfl ?_
        refine r_goto (pc := 32) 2 dX3_firstThatCan_32 rfl ?_
        refine ih (i + 1) (by omega) (by omega) (by omega) ?_
        rw [← h3]
        have ht : tb (σ (235 + 52 * p + i)) k := bz_ne.mp h24
        obtain ⟨w, hw⟩ : ∃ w : Nat, (σ (229 + p) - i).toNat = w + 1 := ⟨(σ (229 + p) - i).toNat - 1, by omega⟩
        rw [hw, ff_t (b := fun j => tb (σ (235 + 52 * p + j)) k) ht]
        congr 1
        omega
      rw [bz_0] at h24
      have hc : f_can σ p k = i := by rw [← h3]; exact ff_f (b := fun j => tb (σ (235 + 52 * p + j)) k) h24
      rw [if_neg (by omega), hc] at hQ
      refine r_iload_n (pc := 27) dX3_firstThatCan_27 rfl rfl ?_
      refine r_ireturn (pc := 28) rfl rfl dX3_firstThatCan_28 (Nat.le_of_ble_eq_true rfl) (Nat.le_of_ble_eq_true rfl) ?_
      exact hQ
  exact loop 53 0 (by omega) (by omega) (by omega) (by rw [Int.sub_zero]; rfl)
theorem C_learn (hs : shG G P T g t) (hf : GF g I0 I) (hr : GR I g t σ μ) {p k : Int} (hp : 0 ≤ p ∧ p < 6) (hk : 0 ≤ k ∧ k < 13) (hn : 0 ≤ σ (229 + p) ∧ σ (229 + p) ≤ 52) (hQ : ∀ I', GF g I0 I' → GR I' g t (f_learns σ p k) μ → Q none I' J P T z) : MC G yX3_learn (ws_ yX3_learn cX3_learn 4 (none : Option FieldType)) (d + 2) 0 0 [.ref g, iv p, iv k] I J P T z Q nX := by
  have hb := hs.b
  refine MC.of (by decide) (Nat.le_of_ble_eq_true rfl) ?_
  show PW G mX3_learn (rmD (d + 2) 0 0) (MZ G Q nX 0 0) 0 0 I J P T z 0 [some (.ref g), some (iv p), some (iv k), none] []
  refine r_aload_n (pc := 0) dX3_learn_0 rfl rfl ?_
  refine r_getr (pc := 1) (c := 3) (k := 4) (kz := 4) hs.o cok_3 (Nat.le_of_ble_eq_true rfl) q280 ⟨rfl, rfl⟩ (Or.inl rfl) rfl (fun _ _ _ => rfl) hs.p_others dX3_learn_1 ?_
  refine r_iload_n (pc := 4) dX3_learn_4 rfl rfl ?_
  refine r_iald (pc := 5) hs.t_others (by omega) (by omega) dX3_learn_5 (fun hr5 => ?_)
  rw [hr.others (by omega) (by omega)] at hr5 ⊢
  refine r_if_ne (pc := 6) 10 dX3_learn_6 rfl (by omega) (fun h6 => ?_) (fun h6 => ?_)
  · unfold f_learns at hQ
    rw [if_neg h6] at hQ
    have hcr := f_can_r (σ := σ) (k := p) (kind := k) hn.1
    refine r_aload_n (pc := 10) dX3_learn_10 rfl rfl ?_
    refine r_iload_n (pc := 11) dX3_learn_11 rfl rfl ?_
    refine r_iload_n (pc := 12) dX3_learn_12 rfl rfl ?_
    refine r_callV2 (pc := 13) (C_firstThatCan hs hr hp hk hn fe_i) im_X3_firstThatCan qs6 q405 hs.o rfl dX3_learn_13 (Nat.le_of_ble_eq_true rfl) (Nat.le_of_ble_eq_true rfl) rfl (k_fi ?_) (fun _ _ _ _ _ _ _ hx => no_x hx)
    refine r_istore_n3 (pc := 16) (Nat.le_of_ble_eq_true rfl) dX3_learn_16 rfl ?_
    have tail : ∀ (i1 : Int) (I1 : HI) (σ1 : Int → Int), 0 ≤ i1 → i1 < σ (229 + p) → GF g I0 I1 → GR I1 g t σ1 μ → σ1 (229 + p) = σ (229 + p) → σ1 (151 + 13 * p + k) = σ (151 + 13 * p + k) → (∀ I', GF g I0 I' → GR I' g t (us (dl (us σ1 (229 + p) (σ (229 + p) - 1)) (235 + 52 * p) (σ (229 + p) - 1) i1) (151 + 13 * p + k) (wr (σ (151 + 13 * p + k) + 1))) μ → Q none I' J P T z) → ∀ l3, PW G mX3_learn (rmD (d + 2) 0 0) (MZ G Q nX 0 0) 0 0 I1 J P T z 39 [some (.ref g), some (iv p), some (iv k), l3] [iv i1, iv p, .ref g] := by
      intro i1 I1 σ1 h0 h01 hf1 hr1 e1 e2 hQ l3
      refine r_callV2 (pc := 39) (C_dropOther hs hf1 hr1 hp (i := i1) (by omega) (by omega) qg_i) im_X3_dropOther qs7 q415 hs.o rfl dX3_learn_39 (Nat.le_of_ble_eq_true rfl) (Nat.le_of_ble_eq_true rfl) rfl (k_gv fun I2 hf2 hr2 => ?_) (fun _ _ _ _ _ _ _ hx => no_x hx)
      rw [e1] at hr2
      have hD : dl (us σ1 (229 + p) (σ (229 + p) - 1)) (235 + 52 * p) (σ (229 + p) - 1) i1 (151 + 13 * p + k) = σ (151 + 13 * p + k) := by
        unfold dl
        rw [if_neg (by omega), us_n (by omega), e2]
      refine r_aload_n (pc := 42) dX3_learn_42 rfl rfl ?_
      refine r_getr (pc := 43) (c := 3) (k := 2) (kz := 2) hs.o cok_3 (Nat.le_of_ble_eq_true rfl) q274 ⟨rfl, rfl⟩ (Or.inl rfl) rfl (fun _ _ _ => rfl) hs.p_known dX3_learn_43 ?_
      refine r_iload_n (pc := 46) dX3_learn_46 rfl rfl ?_
      refine r_aald (pc := 47) hs.t_known ⟨by decide, by decide⟩ rfl (fun _ _ _ => rfl) (by omega) (by omega) (hs.q_known (by omega) (by omega)) dX3_learn_47 ?_
      refine r_iload_n (pc := 48) dX3_learn_48 rfl rfl ?_
      refine r_dup2 (pc := 49) dX3_learn_49 rfl rfl ?_
      refine r_iald (pc := 50) (hs.u_known (by omega) (by omega)) (by omega) (by omega) dX3_learn_50 (fun hr50 => ?_)
      rw [hr2.known (by omega) (by omega) (by omega) (by omega)] at hr50 ⊢
      rw [hD]
      refine r_iconst (pc := 51) dX3_learn_51 ?_
      refine r_iadd (pc := 52) dX3_learn_52 ?_
      refine r_iastW (pc := 53) (hs.u_known (by omega) (by omega)) (by omega) (by omega) (by omega) dX3_learn_53 ?_
      refine g_known_w hf2 hr2 (by omega) (by omega) (by omega) (by omega) fun Ig1 hfg1 hrg1 => ?_
      refine r_return (pc := 54) rfl dX3_learn_54 (Nat.le_of_ble_eq_true rfl) (Nat.le_of_ble_eq_true rfl) ?_
      exact hQ _ hfg1 hrg1
    by_cases hc : f_can σ p k = σ (229 + p)
    · simp only [if_pos hc] at hQ ⊢
      refine r_iload_n (pc := 17) dX3_learn_17 rfl rfl ?_
      refine r_iconst (pc := 18) dX3_learn_18 ?_
      refine r_icmp_ne (pc := 19) 32 dX3_learn_19 rfl (by omega) (by omega) (fun h19 => ?_) (fun h19 => ?_)
      · exact absurd rfl h19
      refine r_aload_n (pc := 22) dX3_learn_22 rfl rfl ?_
      refine r_getr (pc := 23) (c := 3) (k := 5) (kz := 5) hs.o cok_3 (Nat.le_of_ble_eq_true rfl) q282 ⟨rfl, rfl⟩ (Or.inl rfl) rfl (fun _ _ _ => rfl) hs.p_caught dX3_learn_23 ?_
      refine r_iload_n (pc := 26) dX3_learn_26 rfl rfl ?_
      refine r_dup2 (pc := 27) dX3_learn_27 rfl rfl ?_
      refine r_iald (pc := 28) hs.t_caught (by omega) (by omega) dX3_learn_28 (fun hr28 => ?_)
      rw [hr.caught (by omega) (by omega)] at hr28 ⊢
      refine r_iconst (pc := 29) dX3_learn_29 ?_
      refine r_iadd (pc := 30) dX3_learn_30 ?_
      refine r_iastW (pc := 31) hs.t_caught (by omega) (by omega) (by omega) dX3_learn_31 ?_
      refine g_caught_w hf hr (by omega) (by omega) fun Ig2 hfg2 hrg2 => ?_
      refine r_aload_n (pc := 32) dX3_learn_32 rfl rfl ?_
      refine r_iload_n (pc := 33) dX3_learn_33 rfl rfl ?_
      refine r_iconst (pc := 34) dX3_learn_34 ?_
      refine r_iload_n (pc := 35) dX3_learn_35 rfl rfl ?_
      refine r_mmax (pc := 36) q412 dX3_learn_36 (by omega) (by omega) (Nat.le_of_ble_eq_true rfl) (Nat.le_of_ble_eq_true rfl) rfl ?_
      rw [if_neg (by omega)]
      exact tail 0 _ _ (by omega) (by omega) hfg2 hrg2 (us_n (by omega)) (us_n (by omega)) hQ _
    · simp only [if_neg hc] at hQ ⊢
      refine r_iload_n (pc := 17) dX3_learn_17 rfl rfl ?_
      refine r_iconst (pc := 18) dX3_learn_18 ?_
      refine r_icmp_ne (pc := 19) 32 dX3_learn_19 rfl (by omega) (by omega) (fun h19 => ?_) (fun h19 => ?_)
      · refine r_aload_n (pc := 32) dX3_learn_32 rfl rfl ?_
        refine r_iload_n (pc := 33) dX3_learn_33 rfl rfl ?_
        refine r_iconst (pc := 34) dX3_learn_34 ?_
        refine r_iload_n (pc := 35) dX3_learn_35 rfl rfl ?_
        refine r_mmax (pc := 36) q412 dX3_learn_36 (by omega) (by omega) (Nat.le_of_ble_eq_true rfl) (Nat.le_of_ble_eq_true rfl) rfl ?_
        by_cases h00 : 0 < f_can σ p k
        · rw [if_pos h00]
          exact tail _ _ _ (by omega) (by omega) hf hr rfl rfl hQ _
        · rw [if_neg h00]
          rw [show f_can σ p k = 0 by omega] at hQ
          exact tail 0 _ _ (by omega) (by omega) hf hr rfl rfl hQ _
      omega
  refine r_return (pc := 9) rfl dX3_learn_9 (Nat.le_of_ble_eq_true rfl) (Nat.le_of_ble_eq_true rfl) ?_
  refine hQ _ hf ?_
  unfold f_learns
  rw [if_pos h6]
  exact hr
theorem C_learnUpTo (hs : shG G P T g t) (hf : GF g I0 I) (hr : GR I g t σ μ) {p k n : Int} (hp : 0 ≤ p ∧ p < 6) (hk : 0 ≤ k ∧ k < 13) (hn : rg n) (hg : RG σ) (hQ : ∀ I', GF g I0 I' → GR I' g t (f_lr σ p k (n - σ (151 + 13 * p + k)).toNat) μ → Q none I' J P T z) : MC G yX3_learnUpTo (ws_ yX3_learnUpTo cX3_learnUpTo 4 (none : Option FieldType)) (d + 3) 0 0 [.ref g, iv p, iv k, iv n] I J P T z Q nX := by
  have hb := hs.b
  refine MC.of (by decide) (Nat.le_of_ble_eq_true rfl) ?_
  show PW G mX3_learnUpTo (rmD (d + 3) 0 0) (MZ G Q nX 0 0) 0 0 I J P T z 0 [some (.ref g), some (iv p), some (iv k), some (iv n)] []
  generalize hD : f_lr σ p k (n - σ (151 + 13 * p + k)).toNat = D at hQ
  have loop : ∀ (m : Nat) (I1 : HI) (σ1 : Int → Int), GF g I0 I1 → GR I1 g t σ1 μ → RG σ1 → (n - σ1 (151 + 13 * p + k)).toNat = m → f_lr σ1 p k m = D → PW G mX3_learnUpTo (rmD (d + 3) 0 0) (MZ G Q nX 0 0) 0 0 I1 J P T z 0 [some (.ref g), some (iv p), some (iv k), some (iv n)] [] := by
    intro m
    induction m with
    | zero =>
      intro I1 σ1 hf1 hr1 hg1 hm hD1
      refine r_aload_n (pc := 0) dX3_learnUpTo_0 rfl rfl ?_
      refine r_getr (pc := 1) (c := 3) (k := 2) (kz := 2) hs.o cok_3 (Nat.le_of_ble_eq_true rfl) q274 ⟨rfl, rfl⟩ (Or.inl rfl) rfl (fun _ _ _ => rfl) hs.p_known dX3_learnUpTo_1 ?_
      refine r_iload_n (pc := 4) dX3_learnUpTo_4 rfl rfl ?_
      refine r_aald (pc := 5) hs.t_known ⟨by decide, by decide⟩ rfl (fun _ _ _ => rfl) (by omega) (by omega) (hs.q_known (by omega) (by omega)) dX3_learnUpTo_5 ?_
      refine r_iload_n (pc := 6) dX3_learnUpTo_6 rfl rfl ?_
      refine r_iald (pc := 7) (hs.u_known (by omega) (by omega)) (by omega) (by omega) dX3_learnUpTo_7 (fun hr7 => ?_)
      rw [hr1.known (by omega) (by omega) (by omega) (by omega)] at hr7 ⊢
      refine r_iload_n (pc := 8) dX3_learnUpTo_8 rfl rfl ?_
      refine r_icmp_ge (pc := 9) 30 dX3_learnUpTo_9 rfl (by omega) (by omega) (fun h9 => ?_) (fun h9 => ?_)
      · refine r_return (pc := 30) rfl dX3_learnUpTo_30 (Nat.le_of_ble_eq_true rfl) (Nat.le_of_ble_eq_true rfl) ?_
        have hD1 : σ1 = D := hD1
        rw [← hD1] at hQ
        exact hQ _ hf1 hr1
      omega
    | succ m ih =>
      intro I1 σ1 hf1 hr1 hg1 hm hD1
      have ho := hg1.o hp
      refine r_aload_n (pc := 0) dX3_learnUpTo_0 rfl rfl ?_
      refine r_getr (pc := 1) (c := 3) (k := 2) (kz := 2) hs.o cok_3 (Nat.le_of_ble_eq_true rfl) q274 ⟨rfl, rfl⟩ (Or.inl rfl) rfl (fun _ _ _ => rfl) hs.p_known dX3_learnUpTo_1 ?_
      refine r_iload_n (pc := 4) dX3_learnUpTo_4 rfl rfl ?_
      refine r_aald (pc := 5) hs.t_known ⟨by decide, by decide⟩ rfl (fun _ _ _ => rfl) (by omega) (by omega) (hs.q_known (by omega) (by omega)) dX3_learnUpTo_5 ?_
      refine r_iload_n (pc := 6) dX3_learnUpTo_6 rfl rfl ?_
      refine r_iald (pc := 7) (hs.u_known (by omega) (by omega)) (by omega) (by omega) dX3_learnUpTo_7 (fun hr7 => ?_)
      rw [hr1.known (by omega) (by omega) (by omega) (by omega)] at hr7 ⊢
      refine r_iload_n (pc := 8) dX3_learnUpTo_8 rfl rfl ?_
      refine r_icmp_ge (pc := 9) 30 dX3_learnUpTo_9 rfl (by omega) (by omega) (fun h9 => ?_) (fun h9 => ?_)
      · omega
      refine r_aload_n (pc := 12) dX3_learnUpTo_12 rfl rfl ?_
      refine r_getr (pc := 13) (c := 3) (k := 4) (kz := 4) hs.o cok_3 (Nat.le_of_ble_eq_true rfl) q280 ⟨rfl, rfl⟩ (Or.inl rfl) rfl (fun _ _ _ => rfl) hs.p_others dX3_learnUpTo_13 ?_
      refine r_iload_n (pc := 16) dX3_learnUpTo_16 rfl rfl ?_
      refine r_iald (pc := 17) hs.t_others (by omega) (by omega) dX3_learnUpTo_17 (fun hr17 => ?_)
      rw [hr1.others (by omega) (by omega)] at hr17 ⊢
      refine r_if_le (pc := 18) 30 dX3_learnUpTo_18 rfl (by omega) (fun h18 => ?_) (fun h18 => ?_)
      · refine r_return (pc := 30) rfl dX3_learnUpTo_30 (Nat.le_of_ble_eq_true rfl) (Nat.le_of_ble_eq_true rfl) ?_
        rw [f_lr_0 _ (by omega)] at hD1
        rw [← hD1] at hQ
        exact hQ _ hf1 hr1
      refine r_aload_n (pc := 21) dX3_learnUpTo_21 rfl rfl ?_
      refine r_iload_n (pc := 22) dX3_learnUpTo_22 rfl rfl ?_
      refine r_iload_n (pc := 23) dX3_learnUpTo_23 rfl rfl ?_
      refine r_callV2 (pc := 24) (C_learn hs hf1 hr1 hp hk ho qg_i) im_X3_learn qs5 q401 hs.o rfl dX3_learnUpTo_24 (Nat.le_of_ble_eq_true rfl) (Nat.le_of_ble_eq_true rfl) rfl (k_gv fun I2 hf2 hr2 => ?_) (fun _ _ _ _ _ _ _ hx => no_x hx)
      refine r_goto (pc := 27) 0 dX3_learnUpTo_27 rfl ?_
      refine ih I2 _ hf2 hr2 (RG_learns hg1 hp hk) ?_ hD1
      rw [f_learns_k (by omega), wr_id (by omega)]
      omega
  exact loop _ I σ hf hr hg rfl hD
theorem C_cannot (hs : shG G P T g t) (hf : GF g I0 I) (hr : GR I g t σ μ) {p k : Int} (hp : 0 ≤ p ∧ p < 6) (hk : 0 ≤ k ∧ k < 13) (hg : RG σ) (hQ : ∀ I', GF g I0 I' → GR I' g t (f_cannot σ p k) μ → Q none I' J P T z) : MC G yX3_cannot (ws_ yX3_cannot cX3_cannot 4 (none : Option FieldType)) (d) 0 0 [.ref g, iv p, iv k] I J P T z Q nX := by
  have hb := hs.b
  have hn := hg.o hp
  refine MC.of (by decide) (Nat.le_of_ble_eq_true rfl) ?_
  show PW G mX3_cannot (rmD (d) 0 0) (MZ G Q nX 0 0) 0 0 I J P T z 0 [some (.ref g), some (iv p), some (iv k), none] []
  refine r_iconst (pc := 0) dX3_cannot_0 ?_
  refine r_istore_n3 (pc := 1) (Nat.le_of_ble_eq_true rfl) dX3_cannot_1 rfl ?_
  have loop : ∀ (n : Nat) (i : Int) (I1 : HI) (σ2 : Int → Int), 0 ≤ i → i ≤ σ (229 + p) → σ2 (229 + p) = σ (229 + p) → σ (229 + p) - i < n → GF g I0 I1 → GR I1 g t σ2 μ → (∀ j, σ2 j = if 235 + 52 * p ≤ j ∧ j < 235 + 52 * p + i then (((σ j).toNat ||| (2 ^ k.toNat : Nat) : Nat) : Int) else σ j) → PW G mX3_cannot (rmD (d) 0 0) (MZ G Q nX 0 0) 0 0 I1 J P T z 2 [some (.ref g), some (iv p), some (iv k), some (iv i)] [] := by
    intro n
    induction n with
    | zero => intro i I1 σ2 h0 h1 h2 h3; omega
    | succ n ih =>
      intro i I1 σ2 h0 h1 h2 h3 hf1 hr1 h4
      refine r_iload_n (pc := 2) dX3_cannot_2 rfl rfl ?_
      refine r_aload_n (pc := 3) dX3_cannot_3 rfl rfl ?_
      refine r_getr (pc := 4) (c := 3) (k := 4) (kz := 4) hs.o cok_3 (Nat.le_of_ble_eq_true rfl) q280 ⟨rfl, rfl⟩ (Or.inl rfl) rfl (fun _ _ _ => rfl) hs.p_others dX3_cannot_4 ?_
      refine r_iload_n (pc := 7) dX3_cannot_7 rfl rfl ?_
      refine r_iald (pc := 8) hs.t_others (by omega) (by omega) dX3_cannot_8 (fun hr8 => ?_)
      rw [hr1.others (by omega) (by omega)] at hr8 ⊢
      rw [h2]
      refine r_icmp_ge (pc := 9) 32 dX3_cannot_9 rfl (by omega) (by omega) (fun h9 => ?_) (fun h9 => ?_)
      · obtain rfl : i = σ (229 + p) := by omega
        have e : σ2 = f_cannot σ p k := funext h4
        subst e
        refine r_return (pc := 32) rfl dX3_cannot_32 (Nat.le_of_ble_eq_true rfl) (Nat.le_of_ble_eq_true rfl) ?_
        exact hQ _ hf1 hr1
      refine r_aload_n (pc := 12) dX3_cannot_12 rfl rfl ?_
      refine r_getr (pc := 13) (c := 3) (k := 3) (kz := 3) hs.o cok_3 (Nat.le_of_ble_eq_true rfl) q278 ⟨rfl, rfl⟩ (Or.inl rfl) rfl (fun _ _ _ => rfl) hs.p_other dX3_cannot_13 ?_
      refine r_iload_n (pc := 16) dX3_cannot_16 rfl rfl ?_
      refine r_aald (pc := 17) hs.t_other ⟨by decide, by decide⟩ rfl (fun _ _ _ => rfl) (by omega) (by omega) (hs.q_other (by omega) (by omega)) dX3_cannot_17 ?_
      refine r_iload_n (pc := 18) dX3_cannot_18 rfl rfl ?_
      refine r_dup2 (pc := 19) dX3_cannot_19 rfl rfl ?_
      refine r_iald (pc := 20) (hs.u_other (by omega) (by omega)) (by omega) (by omega) dX3_cannot_20 (fun hr20 => ?_)
      rw [hr1.other (by omega) (by omega) (by omega) (by omega) (by omega)] at hr20 ⊢
      have hv : σ2 (235 + 52 * p + i) = σ (235 + 52 * p + i) := by rw [h4, if_neg (by omega)]
      have hm9 := hg.2.2.2 p i hp.1 hp.2 h0 (by omega)
      rw [hv]
      refine r_iconst (pc := 21) dX3_cannot_21 ?_
      refine r_iload_n (pc := 22) dX3_cannot_22 rfl rfl ?_
      refine r_ishl (pc := 23) dX3_cannot_23 (by omega) ?_
      rw [Int.one_mul]
      have hp0 : 2 ^ k.toNat ≤ 2 ^ 12 := Nat.pow_le_pow_right (by decide) (by omega)
      have hp2 : 0 ≤ ((2 ^ k.toNat : Nat) : Int) ∧ ((2 ^ k.toNat : Nat) : Int) < 2147483648 := ⟨Int.natCast_nonneg _, by omega⟩
      refine r_ior (pc := 24) dX3_cannot_24 (by omega) hp2 ?_
      rw [Int.toNat_natCast]
      have hor : (σ (235 + 52 * p + i)).toNat ||| 2 ^ k.toNat < 2 ^ 13 := Nat.or_lt_two_pow (by omega) (by omega)
      refine r_iast (pc := 25) (hs.u_other (by omega) (by omega)) (by omega) (by omega) (by omega) (by omega) dX3_cannot_25 ?_
      refine g_other_w hf1 hr1 (by omega) (by omega) (by omega) (by omega) fun Ig3 hfg3 hrg3 => ?_
      refine r_iinc3 (pc := 26) (Nat.le_of_ble_eq_true rfl) dX3_cannot_26 rfl ?_
      refine r_goto (pc := 29) 2 dX3_cannot_29 rfl ?_
      refine ih (i + 1) _ _ (by omega) (by omega) ?_ (by omega) hfg3 hrg3 (fun j => ?_)
      · rw [us_n (by omega)]; exact h2
      · unfold us
        by_cases e : j = 235 + 52 * p + i
        · subst e; rw [if_pos rfl, if_pos (by omega)]
        · rw [if_neg e, h4 j]
          by_cases e2 : 235 + 52 * p ≤ j ∧ j < 235 + 52 * p + i
          · rw [if_pos e2, if_pos (by omega)]
          · rw [if_neg e2, if_neg (by omega)]
  exact loop 53 0 I σ (by omega) (by omega) rfl (by omega) hf hr (fun j => by rw [if_neg (by omega)])
theorem C_can (hs : shG G P T g t) (hr : GR I g t σ μ) {p k : Int} (hp : 0 ≤ p ∧ p < 6) (hk : 0 ≤ k ∧ k < 13) (hn : 0 ≤ σ (229 + p) ∧ σ (229 + p) ≤ 52) (hQ : Q (some (iv (sm (fun j => bz (¬ tb (σ (235 + 52 * p + j)) k)) (σ (229 + p)).toNat))) I J P T z) : MC G yX3_can (ws_ yX3_can cX3_can 5 (some FieldType.int)) (d + 1) 0 0 [.ref g, iv p, iv k] I J P T z Q nX := by
  have hb := hs.b
  refine MC.of (by decide) (Nat.le_of_ble_eq_true rfl) ?_
  show PW G mX3_can (rmD (d + 1) 0 0) (MZ G Q nX 0 0) 0 0 I J P T z 0 [some (.ref g), some (iv p), some (iv k), none, none] []
  refine r_iconst (pc := 0) dX3_can_0 ?_
  refine r_istore_n3 (pc := 1) (Nat.le_of_ble_eq_true rfl) dX3_can_1 rfl ?_
  refine r_iconst (pc := 2) dX3_can_2 ?_
  refine r_istore4 (pc := 3) (Nat.le_of_ble_eq_true rfl) dX3_can_3 rfl ?_
  have loop : ∀ (n : Nat) (i : Int), 0 ≤ i → i ≤ σ (229 + p) → σ (229 + p) - i < n → PW G mX3_can (rmD (d + 1) 0 0) (MZ G Q nX 0 0) 0 0 I J P T z 5 [some (.ref g), some (iv p), some (iv k), some (iv (sm (fun j => bz (¬ tb (σ (235 + 52 * p + j)) k)) i.toNat)), some (iv i)] [] := by
    intro n
    induction n with
    | zero => intro i h0 h1 h2; omega
    | succ n ih =>
      intro i h0 h1 h2
      have hs9 := sm_succ (f := fun j => bz (¬ tb (σ (235 + 52 * p + j)) k)) h0
      refine r_iload (pc := 5) dX3_can_5 rfl ?_
      refine r_aload_n (pc := 7) dX3_can_7 rfl rfl ?_
      refine r_getr (pc := 8) (c := 3) (k := 4) (kz := 4) hs.o cok_3 (Nat.le_of_ble_eq_true rfl) q280 ⟨rfl, rfl⟩ (Or.inl rfl) rfl (fun _ _ _ => rfl) hs.p_others dX3_can_8 ?_
      refine r_iload_n (pc := 11) dX3_can_11 rfl rfl ?_
      refine r_iald (pc := 12) hs.t_others (by omega) (by omega) dX3_can_12 (fun hr12 => ?_)
      rw [hr.others (by omega) (by omega)] at hr12 ⊢
      refine r_icmp_ge (pc := 13) 41 dX3_can_13 rfl (by omega) (by omega) (fun h13 => ?_) (fun h13 => ?_)
      · obtain rfl : i = σ (229 + p) := by omega
        refine r_iload_n (pc := 41) dX3_can_41 rfl rfl ?_
        refine r_ireturn (pc := 42) rfl rfl dX3_can_42 (Nat.le_of_ble_eq_true rfl) (Nat.le_of_ble_eq_true rfl) ?_
        exact hQ
      refine r_aload_n (pc := 16) dX3_can_16 rfl rfl ?_
      refine r_getr (pc := 17) (c := 3) (k := 3) (kz := 3) hs.o cok_3 (Nat.le_of_ble_eq_true rfl) q278 ⟨rfl, rfl⟩ (Or.inl rfl) rfl (fun _ _ _ => rfl) hs.p_other dX3_can_17 ?_
      refine r_iload_n (pc := 20) dX3_can_20 rfl rfl ?_
      refine r_aald (pc := 21) hs.t_other ⟨by decide, by decide⟩ rfl (fun _ _ _ => rfl) (by omega) (by omega) (hs.q_other (by omega) (by omega)) dX3_can_21 ?_
      refine r_iload (pc := 22) dX3_can_22 rfl ?_
      refine r_iald (pc := 24) (hs.u_other (by omega) (by omega)) (by omega) (by omega) dX3_can_24 (fun hr24 => ?_)
      rw [hr.other (by omega) (by omega) (by omega) (by omega) (by omega)] at hr24 ⊢
      refine r_iload_n (pc := 25) dX3_can_25 rfl rfl ?_
      refine r_callSN2 (pc := 26) (C_isOf hr24 (by omega) fe_i) im_X1_isOf q409 dX3_can_26 (Nat.le_of_ble_eq_true rfl) (Nat.le_of_ble_eq_true rfl) rfl (k_fi ?_) (fun _ _ _ _ _ _ _ hx => no_x hx)
      refine r_if_ne (pc := 29) 35 dX3_can_29 rfl bz_g (fun h29 => ?_) (fun h29 => ?_)
      · rw [bz_f (fun q => q (bz_ne.mp h29)), Int.add_zero] at hs9
        refine r_iinc4 (pc := 35) (Nat.le_of_ble_eq_true rfl) dX3_can_35 rfl ?_
        refine r_goto (pc := 38) 5 dX3_can_38 rfl ?_
        rw [hs9]
        exact ih (i + 1) (by omega) (by omega) (by omega)
      rw [bz_t (bz_0.mp h29)] at hs9
      refine r_iinc3 (pc := 32) (Nat.le_of_ble_eq_true rfl) dX3_can_32 rfl ?_
      refine r_iinc4 (pc := 35) (Nat.le_of_ble_eq_true rfl) dX3_can_35 rfl ?_
      refine r_goto (pc := 38) 5 dX3_can_38 rfl ?_
      rw [hs9]
      exact ih (i + 1) (by omega) (by omega) (by omega)
  exact loop 53 0 (by omega) (by omega) (by omega)
end K1
