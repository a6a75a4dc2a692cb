/-! ===== the model: its leaves ===== -/
section M1
variable {G : GE} {I J : HI} {P : HP} {T : HT} {z : Nat} {m d : Nat} {Q : QT} {σ : Int → Int}
theorem M_isIn {v lo hi : Int} (hv : rg v) (h1 : rg lo) (h2 : rg hi) (hQ : Q (some (iv (bz (lo ≤ v ∧ v ≤ hi)))) I J P T z) : MC G yX11_isIn (ws_ yX11_isIn cX11_isIn 3 (some FieldType.boolean)) (d) 0 0 [iv v, iv lo, iv hi] I J P T z Q nX := by
  refine MC.of (by decide) (Nat.le_of_ble_eq_true rfl) ?_
  show PW G mX11_isIn (rmD (d) 0 0) (MZ G Q nX 0 0) 0 0 I J P T z 0 [some (iv v), some (iv lo), some (iv hi)] []
  refine r_iload_n (pc := 0) dX11_isIn_0 rfl rfl ?_
  refine r_iload_n (pc := 1) dX11_isIn_1 rfl rfl ?_
  refine r_icmp_lt (pc := 2) 14 dX11_isIn_2 rfl (by omega) (by omega) (fun h2 => ?_) (fun h2 => ?_)
  · refine r_iconst (pc := 14) dX11_isIn_14 ?_
    refine r_ireturn (pc := 15) rfl (by decide +kernel) dX11_isIn_15 (Nat.le_of_ble_eq_true rfl) (Nat.le_of_ble_eq_true rfl) ?_
    rw [bz_f (by omega)] at hQ
    exact hQ
  refine r_iload_n (pc := 5) dX11_isIn_5 rfl rfl ?_
  refine r_iload_n (pc := 6) dX11_isIn_6 rfl rfl ?_
  refine r_icmp_gt (pc := 7) 14 dX11_isIn_7 rfl (by omega) (by omega) (fun h7 => ?_) (fun h7 => ?_)
  · refine r_iconst (pc := 14) dX11_isIn_14 ?_
    refine r_ireturn (pc := 15) rfl (by decide +kernel) dX11_isIn_15 (Nat.le_of_ble_eq_true rfl) (Nat.le_of_ble_eq_true rfl) ?_
    rw [bz_f (by omega)] at hQ
    exact hQ
  refine r_iconst (pc := 10) dX11_isIn_10 ?_
  refine r_goto (pc := 11) 15 dX11_isIn_11 rfl ?_
  refine r_ireturn (pc := 15) rfl (by decide +kernel) dX11_isIn_15 (Nat.le_of_ble_eq_true rfl) (Nat.le_of_ble_eq_true rfl) ?_
  rw [bz_t (by omega)] at hQ
  exact hQ
theorem M_bitOf {x k : Int} (hx : rg x) (hk : 0 ≤ k ∧ k < 32) (hQ : Q (some (iv (bz (tb x k)))) I J P T z) : MC G yX11_bitOf (ws_ yX11_bitOf cX11_bitOf 2 (some FieldType.boolean)) (d) 0 0 [iv x, iv k] I J P T z Q nX := by
  refine MC.of (by decide) (Nat.le_of_ble_eq_true rfl) ?_
  show PW G mX11_bitOf (rmD (d) 0 0) (MZ G Q nX 0 0) 0 0 I J P T z 0 [some (iv x), some (iv k)] []
  refine r_iload_n (pc := 0) dX11_bitOf_0 rfl rfl ?_
  refine r_iload_n (pc := 1) dX11_bitOf_1 rfl rfl ?_
  refine r_ishr (pc := 2) dX11_bitOf_2 hx hk ?_
  refine r_iconst (pc := 3) dX11_bitOf_3 ?_
  refine r_iand 1 2 dX11_bitOf_4 rfl (by decide) rfl ?_
  refine r_iconst (pc := 5) dX11_bitOf_5 ?_
  refine r_icmp_ne (pc := 6) 13 dX11_bitOf_6 rfl (by omega) (by omega) (fun h6 => ?_) (fun h6 => ?_)
  · refine r_iconst (pc := 13) dX11_bitOf_13 ?_
    refine r_ireturn (pc := 14) rfl (by decide +kernel) dX11_bitOf_14 (Nat.le_of_ble_eq_true rfl) (Nat.le_of_ble_eq_true rfl) ?_
    rw [bz_f h6] at hQ
    exact hQ
  refine r_iconst (pc := 9) dX11_bitOf_9 ?_
  refine r_goto (pc := 10) 14 dX11_bitOf_10 rfl ?_
  refine r_ireturn (pc := 14) rfl (by decide +kernel) dX11_bitOf_14 (Nat.le_of_ble_eq_true rfl) (Nat.le_of_ble_eq_true rfl) ?_
  rw [bz_t h6] at hQ
  exact hQ
theorem M_handOf (hs : shM G P T m) {k kind more : Int} (hk : 0 ≤ k ∧ k < 6) (hkd : 0 ≤ kind ∧ kind < 13) (hQ : Q (some (iv (wr (σ (60 + 13 * k + kind) + more)))) (ur I (m + 2) (us σ (60 + 13 * k + kind) (wr (σ (60 + 13 * k + kind) + more)))) J P T z) : MC G yX11_handOf (ws_ yX11_handOf cX11_handOf 4 (some FieldType.int)) (d) 0 0 [.ref m, iv k, iv kind, iv more] (ur I (m + 2) σ) J P T z Q nX := by
  have hb := hs.b
  refine MC.of (by decide) (Nat.le_of_ble_eq_true rfl) ?_
  show PW G mX11_handOf (rmD (d) 0 0) (MZ G Q nX 0 0) 0 0 (ur I (m + 2) σ) J P T z 0 [some (.ref m), some (iv k), some (iv kind), some (iv more)] []
  refine r_aload_n (pc := 0) dX11_handOf_0 rfl rfl ?_
  refine r_getr (pc := 1) (c := 11) (k := 6) (kz := 6) hs.o cok_11 (Nat.le_of_ble_eq_true rfl) q1866 ⟨rfl, rfl⟩ (Or.inl rfl) rfl (fun _ _ _ => rfl) hs.p_s dX11_handOf_1 ?_
  refine r_bipush (pc := 4) dX11_handOf_4 (by decide +kernel) ?_
  refine r_bipush (pc := 6) dX11_handOf_6 (by decide +kernel) ?_
  refine r_iload_n (pc := 8) dX11_handOf_8 rfl rfl ?_
  refine r_imul (pc := 9) dX11_handOf_9 ?_
  refine r_iadd (pc := 10) dX11_handOf_10 ?_
  refine r_iload_n (pc := 11) dX11_handOf_11 rfl rfl ?_
  refine r_iadd (pc := 12) dX11_handOf_12 ?_
  refine r_dup2 (pc := 13) dX11_handOf_13 rfl rfl ?_
  refine r_ialdU (pc := 14) hs.t_s (by omega) (by omega) dX11_handOf_14 (fun hr14 => ?_)
  refine r_iload_n (pc := 15) dX11_handOf_15 rfl rfl ?_
  refine r_iadd (pc := 16) dX11_handOf_16 ?_
  refine r_iastUW (pc := 17) hs.t_s (by omega) (by omega) (by omega) dX11_handOf_17 ?_
  refine r_aload_n (pc := 18) dX11_handOf_18 rfl rfl ?_
  refine r_getr (pc := 19) (c := 11) (k := 6) (kz := 6) hs.o cok_11 (Nat.le_of_ble_eq_true rfl) q1866 ⟨rfl, rfl⟩ (Or.inl rfl) rfl (fun _ _ _ => rfl) hs.p_s dX11_handOf_19 ?_
  refine r_bipush (pc := 22) dX11_handOf_22 (by decide +kernel) ?_
  refine r_bipush (pc := 24) dX11_handOf_24 (by decide +kernel) ?_
  refine r_iload_n (pc := 26) dX11_handOf_26 rfl rfl ?_
  refine r_imul (pc := 27) dX11_handOf_27 ?_
  refine r_iadd (pc := 28) dX11_handOf_28 ?_
  refine r_iload_n (pc := 29) dX11_handOf_29 rfl rfl ?_
  refine r_iadd (pc := 30) dX11_handOf_30 ?_
  refine r_ialdU (pc := 31) hs.t_s (by omega) (by omega) dX11_handOf_31 (fun hr31 => ?_)
  refine r_ireturn (pc := 32) rfl rfl dX11_handOf_32 (Nat.le_of_ble_eq_true rfl) (Nat.le_of_ble_eq_true rfl) ?_
  rw [us_s]
  exact hQ
theorem M_hand0 (hs : shM G P T m) {k kind : Int} (hk : 0 ≤ k ∧ k < 6) (hkd : 0 ≤ kind ∧ kind < 13) (hQ : Q (some (iv (σ (60 + 13 * k + kind)))) (ur I (m + 2) σ) J P T z) : MC G yX11_handOf (ws_ yX11_handOf cX11_handOf 4 (some FieldType.int)) (d) 0 0 [.ref m, iv k, iv kind, iv 0] (ur I (m + 2) σ) J P T z Q nX := by
  have hb := hs.b
  refine MC.of (by decide) (Nat.le_of_ble_eq_true rfl) ?_
  show PW G mX11_handOf (rmD (d) 0 0) (MZ G Q nX 0 0) 0 0 (ur I (m + 2) σ) J P T z 0 [some (.ref m), some (iv k), some (iv kind), some (iv 0)] []
  refine r_rgU fun hg => ?_
  refine r_aload_n (pc := 0) dX11_handOf_0 rfl rfl ?_
  refine r_getr (pc := 1) (c := 11) (k := 6) (kz := 6) hs.o cok_11 (Nat.le_of_ble_eq_true rfl) q1866 ⟨rfl, rfl⟩ (Or.inl rfl) rfl (fun _ _ _ => rfl) hs.p_s dX11_handOf_1 ?_
  refine r_bipush (pc := 4) dX11_handOf_4 (by decide +kernel) ?_
  refine r_bipush (pc := 6) dX11_handOf_6 (by decide +kernel) ?_
  refine r_iload_n (pc := 8) dX11_handOf_8 rfl rfl ?_
  refine r_imul (pc := 9) dX11_handOf_9 ?_
  refine r_iadd (pc := 10) dX11_handOf_10 ?_
  refine r_iload_n (pc := 11) dX11_handOf_11 rfl rfl ?_
  refine r_iadd (pc := 12) dX11_handOf_12 ?_
  refine r_dup2 (pc := 13) dX11_handOf_13 rfl rfl ?_
  refine r_ialdU (pc := 14) hs.t_s (by omega) (by omega) dX11_handOf_14 (fun hr14 => ?_)
  refine r_iload_n (pc := 15) dX11_handOf_15 rfl rfl ?_
  refine r_iadd (pc := 16) dX11_handOf_16 ?_
  refine r_iastUW (pc := 17) hs.t_s (by omega) (by omega) (by omega) dX11_handOf_17 ?_
  rw [Int.add_zero, wr_id (hg _), us_id rfl]
  refine r_aload_n (pc := 18) dX11_handOf_18 rfl rfl ?_
  refine r_getr (pc := 19) (c := 11) (k := 6) (kz := 6) hs.o cok_11 (Nat.le_of_ble_eq_true rfl) q1866 ⟨rfl, rfl⟩ (Or.inl rfl) rfl (fun _ _ _ => rfl) hs.p_s dX11_handOf_19 ?_
  refine r_bipush (pc := 22) dX11_handOf_22 (by decide +kernel) ?_
  refine r_bipush (pc := 24) dX11_handOf_24 (by decide +kernel) ?_
  refine r_iload_n (pc := 26) dX11_handOf_26 rfl rfl ?_
  refine r_imul (pc := 27) dX11_handOf_27 ?_
  refine r_iadd (pc := 28) dX11_handOf_28 ?_
  refine r_iload_n (pc := 29) dX11_handOf_29 rfl rfl ?_
  refine r_iadd (pc := 30) dX11_handOf_30 ?_
  refine r_ialdU (pc := 31) hs.t_s (by omega) (by omega) dX11_handOf_31 (fun hr31 => ?_)
  refine r_ireturn (pc := 32) rfl rfl dX11_handOf_32 (Nat.le_of_ble_eq_true rfl) (Nat.le_of_ble_eq_true rfl) ?_
  exact hQ
theorem M_cards (hs : shM G P T m) {k : Int} (hk : 0 ≤ k ∧ k < 6) (hQ : Q (some (iv (f_cards σ k))) (ur I (m + 2) σ) J P T z) : MC G yX11_cards (ws_ yX11_cards cX11_cards 4 (some FieldType.int)) (d) 0 0 [.ref m, iv k] (ur I (m + 2) σ) J P T z Q nX := by
  have hb := hs.b
  refine MC.of (by decide) (Nat.le_of_ble_eq_true rfl) ?_
  show PW G mX11_cards (rmD (d) 0 0) (MZ G Q nX 0 0) 0 0 (ur I (m + 2) σ) J P T z 0 [some (.ref m), some (iv k), none, none] []
  refine r_iconst (pc := 0) dX11_cards_0 ?_
  refine r_istore_n2 (pc := 1) (Nat.le_of_ble_eq_true rfl) dX11_cards_1 rfl ?_
  refine r_iconst (pc := 2) dX11_cards_2 ?_
  refine r_istore_n3 (pc := 3) (Nat.le_of_ble_eq_true rfl) dX11_cards_3 rfl ?_
  have loop : ∀ (n : Nat) (i : Int), 0 ≤ i → i ≤ 13 → 13 - i < n → PW G mX11_cards (rmD (d) 0 0) (MZ G Q nX 0 0) 0 0 (ur I (m + 2) σ) J P T z 4 [some (.ref m), some (iv k), some (iv (sm (fun j => σ (60 + 13 * k + j)) i.toNat)), some (iv i)] [] := by
    intro n
    induction n with
    | zero => intro i h0 h1 h2; omega
    | succ n ih =>
      intro i h0 h1 h2
      refine r_iload_n (pc := 4) dX11_cards_4 rfl rfl ?_
      refine r_bipush (pc := 5) dX11_cards_5 (by decide +kernel) ?_
      refine r_icmp_ge (pc := 7) 33 dX11_cards_7 rfl (by omega) (by omega) (fun h7 => ?_) (fun h7 => ?_)
      · obtain rfl : i = 13 := by omega
        refine r_iload_n (pc := 33) dX11_cards_33 rfl rfl ?_
        refine r_ireturn (pc := 34) rfl rfl dX11_cards_34 (Nat.le_of_ble_eq_true rfl) (Nat.le_of_ble_eq_true rfl) ?_
        unfold f_cards at hQ
        rw [iv_wr] at hQ
        exact hQ
      refine r_iload_n (pc := 10) dX11_cards_10 rfl rfl ?_
      refine r_aload_n (pc := 11) dX11_cards_11 rfl rfl ?_
      refine r_getr (pc := 12) (c := 11) (k := 6) (kz := 6) hs.o cok_11 (Nat.le_of_ble_eq_true rfl) q1866 ⟨rfl, rfl⟩ (Or.inl rfl) rfl (fun _ _ _ => rfl) hs.p_s dX11_cards_12 ?_
      refine r_bipush (pc := 15) dX11_cards_15 (by decide +kernel) ?_
      refine r_bipush (pc := 17) dX11_cards_17 (by decide +kernel) ?_
      refine r_iload_n (pc := 19) dX11_cards_19 rfl rfl ?_
      refine r_imul (pc := 20) dX11_cards_20 ?_
      refine r_iadd (pc := 21) dX11_cards_21 ?_
      refine r_iload_n (pc := 22) dX11_cards_22 rfl rfl ?_
      refine r_iadd (pc := 23) dX11_cards_23 ?_
      refine r_ialdU (pc := 24) hs.t_s (by omega) (by omega) dX11_cards_24 (fun hr24 => ?_)
      refine r_iadd (pc := 25) dX11_cards_25 ?_
      refine r_istore_n2 (pc := 26) (Nat.le_of_ble_eq_true rfl) dX11_cards_26 rfl ?_
      refine r_iinc3 (pc := 27) (Nat.le_of_ble_eq_true rfl) dX11_cards_27 rfl ?_
      refine r_goto (pc := 30) 4 dX11_cards_30 rfl ?_
      rw [sm_succ (f := fun j => σ (60 + 13 * k + j)) h0]
      exact ih (i + 1) (by omega) (by omega) (by omega)
  exact loop 14 0 (by omega) (by omega) (by omega)
theorem M_adds (hs : shM G P T m) {k mask : Int} (hk : 0 ≤ k ∧ k < 6) (hm : rg mask) (hn : 0 ≤ σ (229 + k) ∧ σ (229 + k) < 52) (hQ : Q none (ur I (m + 2) (f_adds σ k mask)) J P T z) : MC G yX11_adds (ws_ yX11_adds cX11_adds 3 (none : Option FieldType)) (d) 0 0 [.ref m, iv k, iv mask] (ur I (m + 2) σ) J P T z Q nX := by
  have hb := hs.b
  refine MC.of (by decide) (Nat.le_of_ble_eq_true rfl) ?_
  show PW G mX11_adds (rmD (d) 0 0) (MZ G Q nX 0 0) 0 0 (ur I (m + 2) σ) J P T z 0 [some (.ref m), some (iv k), some (iv mask)] []
  refine r_aload_n (pc := 0) dX11_adds_0 rfl rfl ?_
  refine r_getr (pc := 1) (c := 11) (k := 6) (kz := 6) hs.o cok_11 (Nat.le_of_ble_eq_true rfl) q1866 ⟨rfl, rfl⟩ (Or.inl rfl) rfl (fun _ _ _ => rfl) hs.p_s dX11_adds_1 ?_
  refine r_sipush (pc := 4) dX11_adds_4 (by decide +kernel) ?_
  refine r_bipush (pc := 7) dX11_adds_7 (by decide +kernel) ?_
  refine r_iload_n (pc := 9) dX11_adds_9 rfl rfl ?_
  refine r_imul (pc := 10) dX11_adds_10 ?_
  refine r_iadd (pc := 11) dX11_adds_11 ?_
  refine r_aload_n (pc := 12) dX11_adds_12 rfl rfl ?_
  refine r_getr (pc := 13) (c := 11) (k := 6) (kz := 6) hs.o cok_11 (Nat.le_of_ble_eq_true rfl) q1866 ⟨rfl, rfl⟩ (Or.inl rfl) rfl (fun _ _ _ => rfl) hs.p_s dX11_adds_13 ?_
  refine r_sipush (pc := 16) dX11_adds_16 (by decide +kernel) ?_
  refine r_iload_n (pc := 19) dX11_adds_19 rfl rfl ?_
  refine r_iadd (pc := 20) dX11_adds_20 ?_
  refine r_ialdU (pc := 21) hs.t_s (by omega) (by omega) dX11_adds_21 (fun hr21 => ?_)
  refine r_iadd (pc := 22) dX11_adds_22 ?_
  refine r_iload_n (pc := 23) dX11_adds_23 rfl rfl ?_
  refine r_iastU (pc := 24) hs.t_s (by omega) (by omega) (by omega) (by omega) dX11_adds_24 ?_
  refine r_aload_n (pc := 25) dX11_adds_25 rfl rfl ?_
  refine r_getr (pc := 26) (c := 11) (k := 6) (kz := 6) hs.o cok_11 (Nat.le_of_ble_eq_true rfl) q1866 ⟨rfl, rfl⟩ (Or.inl rfl) rfl (fun _ _ _ => rfl) hs.p_s dX11_adds_26 ?_
  refine r_sipush (pc := 29) dX11_adds_29 (by decide +kernel) ?_
  refine r_iload_n (pc := 32) dX11_adds_32 rfl rfl ?_
  refine r_iadd (pc := 33) dX11_adds_33 ?_
  refine r_dup2 (pc := 34) dX11_adds_34 rfl rfl ?_
  refine r_ialdU (pc := 35) hs.t_s (by omega) (by omega) dX11_adds_35 (fun hr35 => ?_)
  rw [us_n (show 229 + k ≠ 235 + 52 * k + σ (229 + k) by omega)]
  refine r_iconst (pc := 36) dX11_adds_36 ?_
  refine r_iadd (pc := 37) dX11_adds_37 ?_
  refine r_iastU (pc := 38) hs.t_s (by omega) (by omega) (by omega) (by omega) dX11_adds_38 ?_
  refine r_return (pc := 39) rfl dX11_adds_39 (Nat.le_of_ble_eq_true rfl) (Nat.le_of_ble_eq_true rfl) ?_
  exact hQ
theorem M_learns (hs : shM G P T m) {k kind : Int} (hk : 0 ≤ k ∧ k < 6) (hkd : 0 ≤ kind ∧ kind < 13) (hn : 0 ≤ σ (229 + k) ∧ σ (229 + k) ≤ 52) (hQ : Q none (ur I (m + 2) (f_learns σ k kind)) J P T z) : MC G yX11_learns (ws_ yX11_learns cX11_learns 5 (none : Option FieldType)) (d + 1) 0 0 [.ref m, iv k, iv kind] (ur I (m + 2) σ) J P T z Q nX := by
  have hb := hs.b
  refine MC.of (by decide) (Nat.le_of_ble_eq_true rfl) ?_
  show PW G mX11_learns (rmD (d + 1) 0 0) (MZ G Q nX 0 0) 0 0 (ur I (m + 2) σ) J P T z 0 [some (.ref m), some (iv k), some (iv kind), none, none] []
  refine r_aload_n (pc := 0) dX11_learns_0 rfl rfl ?_
  refine r_getr (pc := 1) (c := 11) (k := 6) (kz := 6) hs.o cok_11 (Nat.le_of_ble_eq_true rfl) q1866 ⟨rfl, rfl⟩ (Or.inl rfl) rfl (fun _ _ _ => rfl) hs.p_s dX11_learns_1 ?_
  refine r_sipush (pc := 4) dX11_learns_4 (by decide +kernel) ?_
  refine r_iload_n (pc := 7) dX11_learns_7 rfl rfl ?_
  refine r_iadd (pc := 8) dX11_learns_8 ?_
  refine r_ialdU (pc := 9) hs.t_s (by omega) (by omega) dX11_learns_9 (fun hr9 => ?_)
  refine r_if_ne (pc := 10) 14 dX11_learns_10 rfl (by omega) (fun h10 => ?_) (fun h10 => ?_)
  · unfold f_learns at hQ
    rw [if_neg h10] at hQ
    refine r_sipush (pc := 14) dX11_learns_14 (by decide +kernel) ?_
    refine r_bipush (pc := 17) dX11_learns_17 (by decide +kernel) ?_
    refine r_iload_n (pc := 19) dX11_learns_19 rfl rfl ?_
    refine r_imul (pc := 20) dX11_learns_20 ?_
    refine r_iadd (pc := 21) dX11_learns_21 ?_
    refine r_istore_n3 (pc := 22) (Nat.le_of_ble_eq_true rfl) dX11_learns_22 rfl ?_
    refine r_iconst (pc := 23) dX11_learns_23 ?_
    refine r_istore4 (pc := 24) (Nat.le_of_ble_eq_true rfl) dX11_learns_24 rfl ?_
    have tail : ∀ (i1 : Int) (σ1 : Int → Int), 0 ≤ i1 → i1 ≤ σ (229 + k) → σ1 (229 + k) = σ (229 + k) → σ1 (151 + 13 * k + kind) = σ (151 + 13 * k + kind) → Q none (ur I (m + 2) (us (dl (us σ1 (229 + k) (σ (229 + k) - 1)) (235 + 52 * k) (σ (229 + k) - 1) i1) (151 + 13 * k + kind) (wr (σ (151 + 13 * k + kind) + 1)))) J P T z → PW G mX11_learns (rmD (d + 1) 0 0) (MZ G Q nX 0 0) 0 0 (ur I (m + 2) σ1) J P T z 95 [some (.ref m), some (iv k), some (iv kind), some (iv (235 + 52 * k)), some (iv i1)] [] := by
      intro i1 σ1 h0 h01 e1 e2 hQ
      refine r_aload_n (pc := 95) dX11_learns_95 rfl rfl ?_
      refine r_getr (pc := 96) (c := 11) (k := 6) (kz := 6) hs.o cok_11 (Nat.le_of_ble_eq_true rfl) q1866 ⟨rfl, rfl⟩ (Or.inl rfl) rfl (fun _ _ _ => rfl) hs.p_s dX11_learns_96 ?_
      refine r_sipush (pc := 99) dX11_learns_99 (by decide +kernel) ?_
      refine r_iload_n (pc := 102) dX11_learns_102 rfl rfl ?_
      refine r_iadd (pc := 103) dX11_learns_103 ?_
      refine r_dup2 (pc := 104) dX11_learns_104 rfl rfl ?_
      refine r_ialdU (pc := 105) hs.t_s (by omega) (by omega) dX11_learns_105 (fun hr105 => ?_)
      rw [e1]
      refine r_iconst (pc := 106) dX11_learns_106 ?_
      refine r_isub (pc := 107) dX11_learns_107 ?_
      refine r_iastU (pc := 108) hs.t_s (by omega) (by omega) (by omega) (by omega) dX11_learns_108 ?_
      have hD : dl (us σ1 (229 + k) (σ (229 + k) - 1)) (235 + 52 * k) (σ (229 + k) - 1) i1 (151 + 13 * k + kind) = σ (151 + 13 * k + kind) := by
        unfold dl
        rw [if_neg (by omega), us_n (by omega), e2]
      generalize hDe : dl (us σ1 (229 + k) (σ (229 + k) - 1)) (235 + 52 * k) (σ (229 + k) - 1) i1 = D at hQ hD
      have loop2 : ∀ (n : Nat) (i : Int) (σ2 : Int → Int), 0 ≤ i → i ≤ σ (229 + k) → σ2 (229 + k) = σ (229 + k) - 1 → σ (229 + k) - i < n → dl σ2 (235 + 52 * k) (σ (229 + k) - 1) i = D → PW G mX11_learns (rmD (d + 1) 0 0) (MZ G Q nX 0 0) 0 0 (ur I (m + 2) σ2) J P T z 109 [some (.ref m), some (iv k), some (iv kind), some (iv (235 + 52 * k)), some (iv i)] [] := by
        intro n
        induction n with
        | zero =>
          intro i σ2 h0 h01 h1 h2 h3
          refine r_iload (pc := 109) dX11_learns_109 rfl ?_
          refine r_aload_n (pc := 111) dX11_learns_111 rfl rfl ?_
          refine r_getr (pc := 112) (c := 11) (k := 6) (kz := 6) hs.o cok_11 (Nat.le_of_ble_eq_true rfl) q1866 ⟨rfl, rfl⟩ (Or.inl rfl) rfl (fun _ _ _ => rfl) hs.p_s dX11_learns_112 ?_
          refine r_sipush (pc := 115) dX11_learns_115 (by decide +kernel) ?_
          refine r_iload_n (pc := 118) dX11_learns_118 rfl rfl ?_
          refine r_iadd (pc := 119) dX11_learns_119 ?_
          refine r_ialdU (pc := 120) hs.t_s (by omega) (by omega) dX11_learns_120 (fun hr120 => ?_)
          rw [h1]
          refine r_icmp_ge (pc := 121) 150 dX11_learns_121 rfl (by omega) (by omega) (fun h121 => ?_) (fun h121 => ?_)
          · rw [dl_end (by omega)] at h3
            subst h3
            refine r_aload_n (pc := 150) dX11_learns_150 rfl rfl ?_
            refine r_getr (pc := 151) (c := 11) (k := 6) (kz := 6) hs.o cok_11 (Nat.le_of_ble_eq_true rfl) q1866 ⟨rfl, rfl⟩ (Or.inl rfl) rfl (fun _ _ _ => rfl) hs.p_s dX11_learns_151 ?_
            refine r_sipush (pc := 154) dX11_learns_154 (by decide +kernel) ?_
            refine r_bipush (pc := 157) dX11_learns_157 (by decide +kernel) ?_
            refine r_iload_n (pc := 159) dX11_learns_159 rfl rfl ?_
            refine r_imul (pc := 160) dX11_learns_160 ?_
            refine r_iadd (pc := 161) dX11_learns_161 ?_
            refine r_iload_n (pc := 162) dX11_learns_162 rfl rfl ?_
            refine r_iadd (pc := 163) dX11_learns_163 ?_
            refine r_dup2 (pc := 164) dX11_learns_164 rfl rfl ?_
            refine r_ialdU (pc := 165) hs.t_s (by omega) (by omega) dX11_learns_165 (fun hr165 => ?_)
            rw [hD]
            refine r_iconst (pc := 166) dX11_learns_166 ?_
            refine r_iadd (pc := 167) dX11_learns_167 ?_
            refine r_iastUW (pc := 168) hs.t_s (by omega) (by omega) (by omega) dX11_learns_168 ?_
            refine r_return (pc := 169) rfl dX11_learns_169 (Nat.le_of_ble_eq_true rfl) (Nat.le_of_ble_eq_true rfl) ?_
            exact hQ
          omega
        | succ n ih =>
          intro i σ2 h0 h01 h1 h2 h3
          refine r_iload (pc := 109) dX11_learns_109 rfl ?_
          refine r_aload_n (pc := 111) dX11_learns_111 rfl rfl ?_
          refine r_getr (pc := 112) (c := 11) (k := 6) (kz := 6) hs.o cok_11 (Nat.le_of_ble_eq_true rfl) q1866 ⟨rfl, rfl⟩ (Or.inl rfl) rfl (fun _ _ _ => rfl) hs.p_s dX11_learns_112 ?_
          refine r_sipush (pc := 115) dX11_learns_115 (by decide +kernel) ?_
          refine r_iload_n (pc := 118) dX11_learns_118 rfl rfl ?_
          refine r_iadd (pc := 119) dX11_learns_119 ?_
          refine r_ialdU (pc := 120) hs.t_s (by omega) (by omega) dX11_learns_120 (fun hr120 => ?_)
          rw [h1]
          refine r_icmp_ge (pc := 121) 150 dX11_learns_121 rfl (by omega) (by omega) (fun h121 => ?_) (fun h121 => ?_)
          · rw [dl_end (by omega)] at h3
            subst h3
            refine r_aload_n (pc := 150) dX11_learns_150 rfl rfl ?_
            refine r_getr (pc := 151) (c := 11) (k := 6) (kz := 6) hs.o cok_11 (Nat.le_of_ble_eq_true rfl) q1866 ⟨rfl, rfl⟩ (Or.inl rfl) rfl (fun _ _ _ => rfl) hs.p_s dX11_learns_151 ?_
            refine r_sipush (pc := 154) dX11_learns_154 (by decide +kernel) ?_
            refine r_bipush (pc := 157) dX11_learns_157 (by decide +kernel) ?_
            refine r_iload_n (pc := 159) dX11_learns_159 rfl rfl ?_
            refine r_imul (pc := 160) dX11_learns_160 ?_
            refine r_iadd (pc := 161) dX11_learns_161 ?_
            refine r_iload_n (pc := 162) dX11_learns_162 rfl rfl ?_
            refine r_iadd (pc := 163) dX11_learns_163 ?_
            refine r_dup2 (pc := 164) dX11_learns_164 rfl rfl ?_
            refine r_ialdU (pc := 165) hs.t_s (by omega) (by omega) dX11_learns_165 (fun hr165 => ?_)
            rw [hD]
            refine r_iconst (pc := 166) dX11_learns_166 ?_
            refine r_iadd (pc := 167) dX11_learns_167 ?_
            refine r_iastUW (pc := 168) hs.t_s (by omega) (by omega) (by omega) dX11_learns_168 ?_
            refine r_return (pc := 169) rfl dX11_learns_169 (Nat.le_of_ble_eq_true rfl) (Nat.le_of_ble_eq_true rfl) ?_
            exact hQ
          refine r_aload_n (pc := 124) dX11_learns_124 rfl rfl ?_
          refine r_getr (pc := 125) (c := 11) (k := 6) (kz := 6) hs.o cok_11 (Nat.le_of_ble_eq_true rfl) q1866 ⟨rfl, rfl⟩ (Or.inl rfl) rfl (fun _ _ _ => rfl) hs.p_s dX11_learns_125 ?_
          refine r_iload_n (pc := 128) dX11_learns_128 rfl rfl ?_
          refine r_iload (pc := 129) dX11_learns_129 rfl ?_
          refine r_iadd (pc := 131) dX11_learns_131 ?_
          refine r_aload_n (pc := 132) dX11_learns_132 rfl rfl ?_
          refine r_getr (pc := 133) (c := 11) (k := 6) (kz := 6) hs.o cok_11 (Nat.le_of_ble_eq_true rfl) q1866 ⟨rfl, rfl⟩ (Or.inl rfl) rfl (fun _ _ _ => rfl) hs.p_s dX11_learns_133 ?_
          refine r_iload_n (pc := 136) dX11_learns_136 rfl rfl ?_
          refine r_iload (pc := 137) dX11_learns_137 rfl ?_
          refine r_iadd (pc := 139) dX11_learns_139 ?_
          refine r_iconst (pc := 140) dX11_learns_140 ?_
          refine r_iadd (pc := 141) dX11_learns_141 ?_
          refine r_ialdU (pc := 142) hs.t_s (by omega) (by omega) dX11_learns_142 (fun hr142 => ?_)
          refine r_iastU (pc := 143) hs.t_s (by omega) (by omega) (by omega) (by omega) dX11_learns_143 ?_
          refine r_iinc4 (pc := 144) (Nat.le_of_ble_eq_true rfl) dX11_learns_144 rfl ?_
          refine r_goto (pc := 147) 109 dX11_learns_147 rfl ?_
          refine ih (i + 1) _ (by omega) (by omega) ?_ (by omega) ?_
          · rw [us_n (by omega)]; exact h1
          · rw [← h3]; exact dl_step (by omega)
      exact loop2 (σ (229 + k) - i1).toNat.succ i1 _ h0 h01 us_s (by omega) hDe
    have loop : ∀ (n : Nat) (i : Int), 0 ≤ i → i ≤ σ (229 + k) → σ (229 + k) - i < n → ff (fun j => tb (σ (235 + 52 * k + j)) kind) i (σ (229 + k) - i).toNat = f_can σ k kind → PW G mX11_learns (rmD (d + 1) 0 0) (MZ G Q nX 0 0) 0 0 (ur I (m + 2) σ) J P T z 26 [some (.ref m), some (iv k), some (iv kind), some (iv (235 + 52 * k)), some (iv i)] [] := by
      intro n
      induction n with
      | zero => intro i h0 h1 h2 h3; omega
      | succ n ih =>
        intro i h0 h1 h2 h3
        refine r_iload (pc := 26) dX11_learns_26 rfl ?_
        refine r_aload_n (pc := 28) dX11_learns_28 rfl rfl ?_
        refine r_getr (pc := 29) (c := 11) (k := 6) (kz := 6) hs.o cok_11 (Nat.le_of_ble_eq_true rfl) q1866 ⟨rfl, rfl⟩ (Or.inl rfl) rfl (fun _ _ _ => rfl) hs.p_s dX11_learns_29 ?_
        refine r_sipush (pc := 32) dX11_learns_32 (by decide +kernel) ?_
        refine r_iload_n (pc := 35) dX11_learns_35 rfl rfl ?_
        refine r_iadd (pc := 36) dX11_learns_36 ?_
        refine r_ialdU (pc := 37) hs.t_s (by omega) (by omega) dX11_learns_37 (fun hr37 => ?_)
        refine r_icmp_ge (pc := 38) 63 dX11_learns_38 rfl (by omega) (by omega) (fun h38 => ?_) (fun h38 => ?_)
        · -- none of them can be
          obtain rfl : i = σ (229 + k) := by omega
          have hc : f_can σ k kind = σ (229 + k) := by rw [← h3, Int.sub_self]; rfl
          simp only [hc, if_true] at hQ
          refine r_iload (pc := 63) dX11_learns_63 rfl ?_
          refine r_aload_n (pc := 65) dX11_learns_65 rfl rfl ?_
          refine r_getr (pc := 66) (c := 11) (k := 6) (kz := 6) hs.o cok_11 (Nat.le_of_ble_eq_true rfl) q1866 ⟨rfl, rfl⟩ (Or.inl rfl) rfl (fun _ _ _ => rfl) hs.p_s dX11_learns_66 ?_
          refine r_sipush (pc := 69) dX11_learns_69 (by decide +kernel) ?_
          refine r_iload_n (pc := 72) dX11_learns_72 rfl rfl ?_
          refine r_iadd (pc := 73) dX11_learns_73 ?_
          refine r_ialdU (pc := 74) hs.t_s (by omega) (by omega) dX11_learns_74 (fun hr74 => ?_)
          refine r_icmp_ne (pc := 75) 95 dX11_learns_75 rfl (by omega) (by omega) (fun h75 => ?_) (fun h75 => ?_)
          · exact absurd rfl h75
          refine r_iconst (pc := 78) dX11_learns_78 ?_
          refine r_istore4 (pc := 79) (Nat.le_of_ble_eq_true rfl) dX11_learns_79 rfl ?_
          refine r_aload_n (pc := 81) dX11_learns_81 rfl rfl ?_
          refine r_getr (pc := 82) (c := 11) (k := 6) (kz := 6) hs.o cok_11 (Nat.le_of_ble_eq_true rfl) q1866 ⟨rfl, rfl⟩ (Or.inl rfl) rfl (fun _ _ _ => rfl) hs.p_s dX11_learns_82 ?_
          refine r_sipush (pc := 85) dX11_learns_85 (by decide +kernel) ?_
          refine r_iload_n (pc := 88) dX11_learns_88 rfl rfl ?_
          refine r_iadd (pc := 89) dX11_learns_89 ?_
          refine r_dup2 (pc := 90) dX11_learns_90 rfl rfl ?_
          refine r_ialdU (pc := 91) hs.t_s (by omega) (by omega) dX11_learns_91 (fun hr91 => ?_)
          refine r_iconst (pc := 92) dX11_learns_92 ?_
          refine r_iadd (pc := 93) dX11_learns_93 ?_
          refine r_iastUW (pc := 94) hs.t_s (by omega) (by omega) (by omega) dX11_learns_94 ?_
          exact tail 0 _ (by omega) (by omega) (us_n (by omega)) (us_n (by omega)) hQ
        refine r_aload_n (pc := 41) dX11_learns_41 rfl rfl ?_
        refine r_getr (pc := 42) (c := 11) (k := 6) (kz := 6) hs.o cok_11 (Nat.le_of_ble_eq_true rfl) q1866 ⟨rfl, rfl⟩ (Or.inl rfl) rfl (fun _ _ _ => rfl) hs.p_s dX11_learns_42 ?_
        refine r_iload_n (pc := 45) dX11_learns_45 rfl rfl ?_
        refine r_iload (pc := 46) dX11_learns_46 rfl ?_
        refine r_iadd (pc := 48) dX11_learns_48 ?_
        refine r_ialdU (pc := 49) hs.t_s (by omega) (by omega) dX11_learns_49 (fun hr49 => ?_)
        refine r_iload_n (pc := 50) dX11_learns_50 rfl rfl ?_
        refine r_callS2 (pc := 51) (M_bitOf hr49 (by omega) fe_i) im_X11_bitOf q2146 dX11_learns_51 (Nat.le_of_ble_eq_true rfl) (Nat.le_of_ble_eq_true rfl) rfl (k_fi ?_) (fun _ _ _ _ _ _ _ hx => no_x hx)
        refine r_if_eq (pc := 54) 63 dX11_learns_54 rfl (by have := bz_r (p := tb (σ (235 + 52 * k + i)) kind); omega) (fun h54 => ?_) (fun h54 => ?_)
        · rw [bz_0] at h54
          have hc : f_can σ k kind = i := by rw [← h3]; exact ff_f (b := fun j => tb (σ (235 + 52 * k + j)) kind) h54
          simp only [hc, if_neg (show ¬ i = σ (229 + k) by omega)] at hQ
          refine r_iload (pc := 63) dX11_learns_63 rfl ?_
          refine r_aload_n (pc := 65) dX11_learns_65 rfl rfl ?_
          refine r_getr (pc := 66) (c := 11) (k := 6) (kz := 6) hs.o cok_11 (Nat.le_of_ble_eq_true rfl) q1866 ⟨rfl, rfl⟩ (Or.inl rfl) rfl (fun _ _ _ => rfl) hs.p_s dX11_learns_66 ?_
          refine r_sipush (pc := 69) dX11_learns_69 (by decide +kernel) ?_
          refine r_iload_n (pc := 72) dX11_learns_72 rfl rfl ?_
          refine r_iadd (pc := 73) dX11_learns_73 ?_
          refine r_ialdU (pc := 74) hs.t_s (by omega) (by omega) dX11_learns_74 (fun hr74 => ?_)
          refine r_icmp_ne (pc := 75) 95 dX11_learns_75 rfl (by omega) (by omega) (fun h75 => ?_) (fun h75 => ?_)
          · exact tail i _ h0 h1 rfl rfl hQ
          omega
        refine r_iinc4 (pc := 57) (Nat.le_of_ble_eq_true rfl) dX11_learns_57 rfl ?_
        refine r_goto (pc := 60) 26 dX11_learns_60 rfl ?_
        refine ih (i + 1) (by omega) (by omega) (by omega) ?_
        rw [← h3]
        have ht : tb (σ (235 + 52 * k + i)) kind := Decidable.of_not_not (fun q => h54 (bz_0.mpr q))
        obtain ⟨w, hw⟩ : ∃ w : Nat, (σ (229 + k) - i).toNat = w + 1 := ⟨(σ (229 + k) - i).toNat - 1, by omega⟩
        rw [hw, ff_t (b := fun j => tb (σ (235 + 52 * k + j)) kind) ht]
        congr 1
        omega
    exact loop 53 0 (by omega) (by omega) (by omega) (by rw [Int.sub_zero]; rfl)
  refine r_return (pc := 13) rfl dX11_learns_13 (Nat.le_of_ble_eq_true rfl) (Nat.le_of_ble_eq_true rfl) ?_
  unfold f_learns at hQ
  rw [if_pos h10] at hQ
  exact hQ
theorem M_cannot (hs : shM G P T m) {k kind : Int} (hk : 0 ≤ k ∧ k < 6) (hkd : 0 ≤ kind ∧ kind < 13) (hn : 0 ≤ σ (229 + k) ∧ σ (229 + k) ≤ 52) (hms : ∀ i, 0 ≤ i → i < σ (229 + k) → 0 ≤ σ (235 + 52 * k + i) ∧ σ (235 + 52 * k + i) < 8192) (hQ : Q none (ur I (m + 2) (f_cannot σ k kind)) J P T z) : MC G yX11_cannot (ws_ yX11_cannot cX11_cannot 4 (none : Option FieldType)) (d) 0 0 [.ref m, iv k, iv kind] (ur I (m + 2) σ) J P T z Q nX := by
  have hb := hs.b
  refine MC.of (by decide) (Nat.le_of_ble_eq_true rfl) ?_
  show PW G mX11_cannot (rmD (d) 0 0) (MZ G Q nX 0 0) 0 0 (ur I (m + 2) σ) J P T z 0 [some (.ref m), some (iv k), some (iv kind), none] []
  refine r_iconst (pc := 0) dX11_cannot_0 ?_
  refine r_istore_n3 (pc := 1) (Nat.le_of_ble_eq_true rfl) dX11_cannot_1 rfl ?_
  have loop : ∀ (n : Nat) (i : Int) (σ2 : Int → Int), 0 ≤ i → i ≤ σ (229 + k) → σ2 (229 + k) = σ (229 + k) → σ (229 + k) - i < n → (∀ j, σ2 j = if 235 + 52 * k ≤ j ∧ j < 235 + 52 * k + i then (((σ j).toNat ||| (2 ^ kind.toNat : Nat) : Nat) : Int) else σ j) → PW G mX11_cannot (rmD (d) 0 0) (MZ G Q nX 0 0) 0 0 (ur I (m + 2) σ2) J P T z 2 [some (.ref m), some (iv k), some (iv kind), some (iv i)] [] := by
    intro n
    induction n with
    | zero => intro i σ2 h0 h1 h2 h3 h4; omega
    | succ n ih =>
      intro i σ2 h0 h1 h2 h3 h4
      refine r_iload_n (pc := 2) dX11_cannot_2 rfl rfl ?_
      refine r_aload_n (pc := 3) dX11_cannot_3 rfl rfl ?_
      refine r_getr (pc := 4) (c := 11) (k := 6) (kz := 6) hs.o cok_11 (Nat.le_of_ble_eq_true rfl) q1866 ⟨rfl, rfl⟩ (Or.inl rfl) rfl (fun _ _ _ => rfl) hs.p_s dX11_cannot_4 ?_
      refine r_sipush (pc := 7) dX11_cannot_7 (by decide +kernel) ?_
      refine r_iload_n (pc := 10) dX11_cannot_10 rfl rfl ?_
      refine r_iadd (pc := 11) dX11_cannot_11 ?_
      refine r_ialdU (pc := 12) hs.t_s (by omega) (by omega) dX11_cannot_12 (fun hr12 => ?_)
      rw [h2]
      refine r_icmp_ge (pc := 13) 43 dX11_cannot_13 rfl (by omega) (by omega) (fun h13 => ?_) (fun h13 => ?_)
      · obtain rfl : i = σ (229 + k) := by omega
        have e : σ2 = f_cannot σ k kind := funext h4
        subst e
        refine r_return (pc := 43) rfl dX11_cannot_43 (Nat.le_of_ble_eq_true rfl) (Nat.le_of_ble_eq_true rfl) ?_
        exact hQ
      refine r_aload_n (pc := 16) dX11_cannot_16 rfl rfl ?_
      refine r_getr (pc := 17) (c := 11) (k := 6) (kz := 6) hs.o cok_11 (Nat.le_of_ble_eq_true rfl) q1866 ⟨rfl, rfl⟩ (Or.inl rfl) rfl (fun _ _ _ => rfl) hs.p_s dX11_cannot_17 ?_
      refine r_sipush (pc := 20) dX11_cannot_20 (by decide +kernel) ?_
      refine r_bipush (pc := 23) dX11_cannot_23 (by decide +kernel) ?_
      refine r_iload_n (pc := 25) dX11_cannot_25 rfl rfl ?_
      refine r_imul (pc := 26) dX11_cannot_26 ?_
      refine r_iadd (pc := 27) dX11_cannot_27 ?_
      refine r_iload_n (pc := 28) dX11_cannot_28 rfl rfl ?_
      refine r_iadd (pc := 29) dX11_cannot_29 ?_
      refine r_dup2 (pc := 30) dX11_cannot_30 rfl rfl ?_
      refine r_ialdU (pc := 31) hs.t_s (by omega) (by omega) dX11_cannot_31 (fun hr31 => ?_)
      have hv : σ2 (235 + 52 * k + i) = σ (235 + 52 * k + i) := by rw [h4, if_neg (by omega)]
      have hm9 := hms i h0 (by omega)
      rw [hv]
      refine r_iconst (pc := 32) dX11_cannot_32 ?_
      refine r_iload_n (pc := 33) dX11_cannot_33 rfl rfl ?_
      refine r_ishl (pc := 34) dX11_cannot_34 (by omega) ?_
      rw [Int.one_mul]
      have hp0 : 2 ^ kind.toNat ≤ 2 ^ 12 := Nat.pow_le_pow_right (by decide) (by omega)
      have hp : 0 ≤ ((2 ^ kind.toNat : Nat) : Int) ∧ ((2 ^ kind.toNat : Nat) : Int) < 2147483648 := ⟨Int.natCast_nonneg _, by omega⟩
      refine r_ior (pc := 35) dX11_cannot_35 (by omega) hp ?_
      rw [Int.toNat_natCast]
      have hor : (σ (235 + 52 * k + i)).toNat ||| 2 ^ kind.toNat < 2 ^ 13 := Nat.or_lt_two_pow (by omega) (by omega)
      refine r_iastU (pc := 36) hs.t_s (by omega) (by omega) (by omega) (by omega) dX11_cannot_36 ?_
      refine r_iinc3 (pc := 37) (Nat.le_of_ble_eq_true rfl) dX11_cannot_37 rfl ?_
      refine r_goto (pc := 40) 2 dX11_cannot_40 rfl ?_
      refine ih (i + 1) _ (by omega) (by omega) ?_ (by omega) (fun j => ?_)
      · rw [us_n (by omega)]; exact h2
      · unfold us
        by_cases e : j = 235 + 52 * k + i
        · subst e; rw [if_pos rfl, if_pos (by omega)]
        · rw [if_neg e, h4 j]
          by_cases e2 : 235 + 52 * k ≤ j ∧ j < 235 + 52 * k + i
          · rw [if_pos e2, if_pos (by omega)]
          · rw [if_neg e2, if_neg (by omega)]
  exact loop 53 0 σ (by omega) (by omega) rfl (by omega) (fun j => by rw [if_neg (by omega)])
end M1
