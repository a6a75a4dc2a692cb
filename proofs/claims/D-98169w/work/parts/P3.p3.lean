/-! ===== builders of texts ===== -/
theorem ut_n {T : HT} {a b : Nat} {t : Nat × Int} (h : b ≠ a) : ut T a t b = T b := by simp [ut, h]
theorem ut_s {T : HT} {a : Nat} {t : Nat × Int} : ut T a t a = t := by simp [ut]
theorem urp_n {P : HP} {a b : Nat} {f : Int → Option Nat} (h : b ≠ a) : urp P a f b = P b := by funext i; simp [urp, h]
theorem up_nr {P : HP} {a b : Nat} {j : Int} {v : Option Nat} (h : b ≠ a) : up P a j v b = P b := by funext i; simp [up, h]
theorem up_s {P : HP} {a : Nat} {j : Int} {v : Option Nat} : up P a j v a j = v := by simp [up]
theorem ui_nr {I : HI} {a b : Nat} {j v : Int} (h : b ≠ a) : ui I a j v b = I b := by funext i; simp [ui, h]
/-- small bytes -/
def AS (L : List Int) : Prop := ∀ j : Nat, 0 ≤ L.getD j 0 ∧ L.getD j 0 < 128
theorem AS.nil : AS [] := fun j => by simp
theorem AS.app {L M : List Int} (h : AS L) (k : AS M) : AS (L ++ M) := fun j => by
  rw [List.getD_eq_getElem?_getD, List.getElem?_append]
  split
  · rw [← List.getD_eq_getElem?_getD]; exact h j
  · rw [← List.getD_eq_getElem?_getD]; exact k _
theorem AS.one {c : Int} (h : 0 ≤ c ∧ c < 128) : AS [c] := fun j => by
  cases j with
  | zero => exact h
  | succ j => simp
theorem fit_b {x : Int} (h : -128 ≤ x ∧ x < 128) : fits .byte (iv x) = true := by
  show (decide (Int32.ofInt (-128) ≤ Int32.ofInt x) && decide (Int32.ofInt x ≤ Int32.ofInt 127)) = true
  rw [Bool.and_eq_true, decide_eq_true_eq, decide_eq_true_eq]
  exact ⟨(i_le (by omega) (by omega)).mpr (by omega), (i_le (by omega) (by omega)).mpr (by omega)⟩
/-- the builder at sb with its row b of 16 bytes holds the text L -/
def SB (I : HI) (P : HP) (T : HT) (sb b : Nat) (L : List Int) : Prop := T sb = (56, 0) ∧ P sb 0 = some b ∧ T b = (2, 16) ∧ I sb 1 = 0 ∧ I sb 3 = L.length ∧ L.length ≤ 16 ∧ ∀ j : Int, 0 ≤ j → j < L.length → I b j = L.getD j.toNat 0
/-- below z nothing has changed -/
def FZ (z : Nat) (I J : HI) (P : HP) (T : HT) (I' J' : HI) (P' : HP) (T' : HT) : Prop := ∀ a, a < z → I' a = I a ∧ J' a = J a ∧ P' a = P a ∧ T' a = T a
section P3
variable {G : GE} {I J : HI} {P : HP} {T : HT} {z w sb b d : Nat} {Q : QT} {L L2 : List Int}
theorem C_asbI (hT : T sb = (56, 0)) (hb : G.2.2.2.1 ≤ sb) (hz : sb < z) (hQ : Q none (ui (ur I z fun _ => 0) sb 1 0) (ur J z fun _ => 0) (up (urp P z fun _ => none) sb 0 (some z)) (ut T z (2, 16)) (z + 1)) : MC G yJ5_init (ws_ yJ5_init cJ5_init 2 (none : Option FieldType)) (d + 1) 1 16 [.ref sb, iv 16] I J P T z Q nX := by
  have hT1 : ut T z (2, 16) sb = (56, 0) := by rw [ut_n (by omega)]; exact hT
  refine MC.of (by decide) (Nat.le_of_ble_eq_true rfl) ?_
  show PW G mJ5_init (rmD (d + 1) 1 16) (MZ G Q nX 1 16) 0 0 I J P T z 0 [some (.ref sb), some (iv 16)] []
  refine r_aload_n (pc := 0) dJ5_init_0 rfl rfl ?_
  refine r_objI (pc := 1) q690 dJ5_init_1 rfl ?_
  refine r_getsC (pc := 4) q691 rfl dJ5_init_4 ?_
  refine r_if_eq (pc := 7) 25 dJ5_init_7 rfl (by omega) (fun h7 => ?_) (fun h7 => ?_)
  · omega
  refine r_aload_n (pc := 10) dJ5_init_10 rfl rfl ?_
  refine r_iload_n (pc := 11) dJ5_init_11 rfl rfl ?_
  refine r_newa (pc := 12) (t := 2) (atype := .byte) ⟨by decide, by decide⟩ rfl q198 (by omega) (by omega) (by decide) ⟨by decide, by decide⟩ (Nat.le_of_ble_eq_true rfl) (Nat.le_of_ble_eq_true rfl) dJ5_init_12 ?_
  refine r_putr (pc := 14) (r := (some z)) (c := 36) (k := 0) (kz := 0) hT1 cok_36 (Nat.le_of_ble_eq_true rfl) q700 ⟨rfl, rfl⟩ (Or.inl rfl) rfl (by omega) rfl rfl rfl (fun _ _ _ => rfl) ⟨rfl, rfl⟩ dJ5_init_14 ?_
  refine r_aload_n (pc := 17) dJ5_init_17 rfl rfl ?_
  refine r_iconst (pc := 18) dJ5_init_18 ?_
  refine r_puti (pc := 19) (c := 36) (k := 1) (kz := 1) hT1 cok_36 (Nat.le_of_ble_eq_true rfl) q701 ⟨rfl, rfl⟩ (Or.inl rfl) rfl (by omega) rfl rfl (by omega) (fun _ _ _ => rfl) ⟨rfl, rfl⟩ dJ5_init_19 ?_
  refine r_goto (pc := 22) 38 dJ5_init_22 rfl ?_
  refine r_return (pc := 38) rfl dJ5_init_38 (Nat.le_of_ble_eq_true rfl) (Nat.le_of_ble_eq_true rfl) ?_
  exact hQ
theorem C_sbI (hT : T sb = (56, 0)) (hb : G.2.2.2.1 ≤ sb) (hz : sb < z) (hQ : Q none (ui (ur I z fun _ => 0) sb 1 0) (ur J z fun _ => 0) (up (urp P z fun _ => none) sb 0 (some z)) (ut T z (2, 16)) (z + 1)) : MC G yJ6_init (ws_ yJ6_init cJ6_init 1 (none : Option FieldType)) (d + 2) 1 16 [.ref sb] I J P T z Q nX := by
  refine MC.of (by decide) (Nat.le_of_ble_eq_true rfl) ?_
  show PW G mJ6_init (rmD (d + 2) 1 16) (MZ G Q nX 1 16) 0 0 I J P T z 0 [some (.ref sb)] []
  refine r_aload_n (pc := 0) dJ6_init_0 rfl rfl ?_
  refine r_bipush (pc := 1) dJ6_init_1 (by decide +kernel) ?_
  refine r_callI1 (pc := 3) (C_asbI hT hb hz fe_i) im_J5_init rfl q687 dJ6_init_3 (Nat.le_of_ble_eq_true rfl) (Nat.le_of_ble_eq_true rfl) rfl (k_fv ?_) (fun _ _ _ _ _ _ _ hx => no_x hx)
  refine r_return (pc := 6) rfl dJ6_init_6 (Nat.le_of_ble_eq_true rfl) (Nat.le_of_ble_eq_true rfl) ?_
  exact hQ
theorem C_sbLat (hT : T sb = (56, 0)) (h0 : I sb 1 = 0) (hQ : Q (some (iv 1)) I J P T z) : MC G yJ5_isLatin1 (ws_ yJ5_isLatin1 cJ5_isLatin1 1 (some FieldType.boolean)) (d) 0 0 [.ref sb] I J P T z Q nX := by
  refine MC.of (by decide) (Nat.le_of_ble_eq_true rfl) ?_
  show PW G mJ5_isLatin1 (rmD (d) 0 0) (MZ G Q nX 0 0) 0 0 I J P T z 0 [some (.ref sb)] []
  refine r_getsC (pc := 0) q691 rfl dJ5_isLatin1_0 ?_
  refine r_if_eq (pc := 3) 17 dJ5_isLatin1_3 rfl (by omega) (fun h3 => ?_) (fun h3 => ?_)
  · omega
  refine r_aload_n (pc := 6) dJ5_isLatin1_6 rfl rfl ?_
  refine r_geti (pc := 7) (c := 36) (k := 1) (kz := 1) hT cok_36 (Nat.le_of_ble_eq_true rfl) q701 ⟨rfl, rfl⟩ (Or.inl rfl) rfl (fun _ _ _ => rfl) dJ5_isLatin1_7 (fun hr7 => ?_)
  rw [h0] at hr7 ⊢
  refine r_if_ne (pc := 10) 17 dJ5_isLatin1_10 rfl (by omega) (fun h10 => ?_) (fun h10 => ?_)
  · omega
  refine r_iconst (pc := 13) dJ5_isLatin1_13 ?_
  refine r_goto (pc := 14) 18 dJ5_isLatin1_14 rfl ?_
  refine r_ireturn (pc := 18) rfl (by decide +kernel) dJ5_isLatin1_18 (Nat.le_of_ble_eq_true rfl) (Nat.le_of_ble_eq_true rfl) ?_
  exact hQ
theorem C_canEncode {c : Int} (hc : 0 ≤ c ∧ c < 256) (hQ : Q (some (iv 1)) I J P T z) : MC G yJ10_canEncode (ws_ yJ10_canEncode cJ10_canEncode 1 (some FieldType.boolean)) (d) 0 0 [iv c] I J P T z Q nX := by
  refine MC.of (by decide) (Nat.le_of_ble_eq_true rfl) ?_
  show PW G mJ10_canEncode (rmD (d) 0 0) (MZ G Q nX 0 0) 0 0 I J P T z 0 [some (iv c)] []
  refine r_iload_n (pc := 0) dJ10_canEncode_0 rfl rfl ?_
  refine r_sipush (pc := 1) dJ10_canEncode_1 (by decide +kernel) ?_
  refine r_icmp_gt (pc := 4) 11 dJ10_canEncode_4 rfl (by omega) (by omega) (fun h4 => ?_) (fun h4 => ?_)
  · omega
  refine r_iconst (pc := 7) dJ10_canEncode_7 ?_
  refine r_goto (pc := 8) 12 dJ10_canEncode_8 rfl ?_
  refine r_ireturn (pc := 12) rfl (by decide +kernel) dJ10_canEncode_12 (Nat.le_of_ble_eq_true rfl) (Nat.le_of_ble_eq_true rfl) ?_
  exact hQ
theorem C_ensure {n : Int} (h : SB I P T sb b L) (hn : 0 ≤ n ∧ n ≤ 16) (hQ : Q none I J P T z) : MC G yJ5_ensureCapacityInternal (ws_ yJ5_ensureCapacityInternal cJ5_ensureCapacityInternal 3 (none : Option FieldType)) (d) 0 0 [.ref sb, iv n] I J P T z Q nX := by
  refine MC.of (by decide) (Nat.le_of_ble_eq_true rfl) ?_
  show PW G mJ5_ensureCapacityInternal (rmD (d) 0 0) (MZ G Q nX 0 0) 0 0 I J P T z 0 [some (.ref sb), some (iv n), none] []
  refine r_aload_n (pc := 0) dJ5_ensureCapacityInternal_0 rfl rfl ?_
  refine r_getr (pc := 1) (c := 36) (k := 0) (kz := 0) h.1 cok_36 (Nat.le_of_ble_eq_true rfl) q700 ⟨rfl, rfl⟩ (Or.inl rfl) rfl (fun _ _ _ => rfl) h.2.1 dJ5_ensureCapacityInternal_1 ?_
  refine r_alen (pc := 4) h.2.2.1 ⟨by decide, by decide⟩ dJ5_ensureCapacityInternal_4 (fun hn4 hm4 => ?_)
  refine r_aload_n (pc := 5) dJ5_ensureCapacityInternal_5 rfl rfl ?_
  refine r_geti (pc := 6) (c := 36) (k := 1) (kz := 1) h.1 cok_36 (Nat.le_of_ble_eq_true rfl) q701 ⟨rfl, rfl⟩ (Or.inl rfl) rfl (fun _ _ _ => rfl) dJ5_ensureCapacityInternal_6 (fun hr6 => ?_)
  rw [h.2.2.2.1] at hr6 ⊢
  refine r_ishr (pc := 9) dJ5_ensureCapacityInternal_9 (by omega) (by omega) ?_
  rw [sh0]
  refine r_istore_n2 (pc := 10) (Nat.le_of_ble_eq_true rfl) dJ5_ensureCapacityInternal_10 rfl ?_
  refine r_iload_n (pc := 11) dJ5_ensureCapacityInternal_11 rfl rfl ?_
  refine r_iload_n (pc := 12) dJ5_ensureCapacityInternal_12 rfl rfl ?_
  refine r_isub (pc := 13) dJ5_ensureCapacityInternal_13 ?_
  refine r_if_le (pc := 14) 38 dJ5_ensureCapacityInternal_14 rfl (by omega) (fun h14 => ?_) (fun h14 => ?_)
  · refine r_return (pc := 38) rfl dJ5_ensureCapacityInternal_38 (Nat.le_of_ble_eq_true rfl) (Nat.le_of_ble_eq_true rfl) ?_
    exact hQ
  omega
theorem C_asbC {c : Int} (h : SB I P T sb b L) (hb1 : G.2.2.2.1 ≤ sb) (hb2 : G.2.2.2.1 ≤ b) (hc : 0 ≤ c ∧ c < 128) (hl : L.length < 16) (hQ : Q (some (.ref sb)) (ui (ui I sb 3 (L.length + 1)) b L.length c) J P T z) : MC G yJ5_append (ws_ yJ5_append cJ5_append 2 (some (FieldType.object "java/lang/AbstractStringBuilder"))) (d + 1) 0 0 [.ref sb, iv c] I J P T z Q nX := by
  refine MC.of (by decide) (Nat.le_of_ble_eq_true rfl) ?_
  show PW G mJ5_append (rmD (d + 1) 0 0) (MZ G Q nX 0 0) 0 0 I J P T z 0 [some (.ref sb), some (iv c)] []
  refine r_aload_n (pc := 0) dJ5_append_0 rfl rfl ?_
  refine r_aload_n (pc := 1) dJ5_append_1 rfl rfl ?_
  refine r_geti (pc := 2) (c := 36) (k := 3) (kz := 3) h.1 cok_36 (Nat.le_of_ble_eq_true rfl) q703 ⟨rfl, rfl⟩ (Or.inl rfl) rfl (fun _ _ _ => rfl) dJ5_append_2 (fun hr2 => ?_)
  rw [h.2.2.2.2.1] at hr2 ⊢
  refine r_iconst (pc := 5) dJ5_append_5 ?_
  refine r_iadd (pc := 6) dJ5_append_6 ?_
  refine r_callP1 (pc := 7) (cb := 36) (C_ensure h (by omega) fe_i) im_J5_ensureCapacityInternal q721 q752 rfl q2472 q720 h.1 dJ5_append_7 (Nat.le_of_ble_eq_true rfl) (Nat.le_of_ble_eq_true rfl) rfl (k_fv ?_) (fun _ _ _ _ _ _ _ hx => no_x hx)
  refine r_aload_n (pc := 10) dJ5_append_10 rfl rfl ?_
  refine r_callU0 (pc := 11) (C_sbLat h.1 h.2.2.2.1 fe_i) im_J5_isLatin1 rfl q752 q751 q749 h.1 rfl dJ5_append_11 (Nat.le_of_ble_eq_true rfl) (Nat.le_of_ble_eq_true rfl) rfl (k_fi ?_) (fun _ _ _ _ _ _ _ hx => no_x hx)
  refine r_if_eq (pc := 14) 45 dJ5_append_14 rfl (by omega) (fun h14 => ?_) (fun h14 => ?_)
  · omega
  refine r_iload_n (pc := 17) dJ5_append_17 rfl rfl ?_
  refine r_callS1 (pc := 18) (C_canEncode (by omega) fe_i) im_J10_canEncode q754 dJ5_append_18 (Nat.le_of_ble_eq_true rfl) (Nat.le_of_ble_eq_true rfl) rfl (k_fi ?_) (fun _ _ _ _ _ _ _ hx => no_x hx)
  refine r_if_eq (pc := 21) 45 dJ5_append_21 rfl (by omega) (fun h21 => ?_) (fun h21 => ?_)
  · omega
  refine r_aload_n (pc := 24) dJ5_append_24 rfl rfl ?_
  refine r_getr (pc := 25) (c := 36) (k := 0) (kz := 0) h.1 cok_36 (Nat.le_of_ble_eq_true rfl) q700 ⟨rfl, rfl⟩ (Or.inl rfl) rfl (fun _ _ _ => rfl) h.2.1 dJ5_append_25 ?_
  refine r_aload_n (pc := 28) dJ5_append_28 rfl rfl ?_
  refine r_dup (pc := 29) dJ5_append_29 rfl ?_
  refine r_geti (pc := 30) (c := 36) (k := 3) (kz := 3) h.1 cok_36 (Nat.le_of_ble_eq_true rfl) q703 ⟨rfl, rfl⟩ (Or.inl rfl) rfl (fun _ _ _ => rfl) dJ5_append_30 (fun hr30 => ?_)
  rw [h.2.2.2.2.1] at hr30 ⊢
  refine r_dup_x1 (pc := 33) dJ5_append_33 rfl rfl ?_
  refine r_iconst (pc := 34) dJ5_append_34 ?_
  refine r_iadd (pc := 35) dJ5_append_35 ?_
  refine r_puti (pc := 36) (c := 36) (k := 3) (kz := 3) h.1 cok_36 (Nat.le_of_ble_eq_true rfl) q703 ⟨rfl, rfl⟩ (Or.inl rfl) rfl (by omega) rfl rfl (by omega) (fun _ _ _ => rfl) ⟨rfl, rfl⟩ dJ5_append_36 ?_
  refine r_iload_n (pc := 39) dJ5_append_39 rfl rfl ?_
  refine r_i2b (pc := 40) dJ5_append_40  ?_
  rw [show (c + 128) % 256 - 128 = c by omega]
  refine r_bast (pc := 41) h.2.2.1 (by omega) (by omega) (by omega) (by omega) dJ5_append_41 ?_
  refine r_goto (pc := 42) 75 dJ5_append_42 rfl ?_
  refine r_aload_n (pc := 75) dJ5_append_75 rfl rfl ?_
  refine r_areturn (pc := 76) rfl (by first | exact Or.inl ⟨_, rfl⟩ | exact Or.inr ⟨_, rfl⟩) dJ5_append_76 (Nat.le_of_ble_eq_true rfl) (Nat.le_of_ble_eq_true rfl) ?_
  exact hQ
theorem C_sbC {c : Int} (h : SB I P T sb b L) (hb1 : G.2.2.2.1 ≤ sb) (hb2 : G.2.2.2.1 ≤ b) (hc : 0 ≤ c ∧ c < 128) (hl : L.length < 16) (hQ : Q (some (.ref sb)) (ui (ui I sb 3 (L.length + 1)) b L.length c) J P T z) : MC G yJ6_append (ws_ yJ6_append cJ6_append 2 (some (FieldType.object "java/lang/StringBuilder"))) (d + 2) 0 0 [.ref sb, iv c] I J P T z Q nX := by
  refine MC.of (by decide) (Nat.le_of_ble_eq_true rfl) ?_
  show PW G mJ6_append (rmD (d + 2) 0 0) (MZ G Q nX 0 0) 0 0 I J P T z 0 [some (.ref sb), some (iv c)] []
  refine r_aload_n (pc := 0) dJ6_append_0 rfl rfl ?_
  refine r_iload_n (pc := 1) dJ6_append_1 rfl rfl ?_
  refine r_callSU1 (pc := 2) (cb := 36) (C_asbC h hb1 hb2 hc hl fe_i) im_J5_append (by decide) q2471 q712 q717 rfl h.1 dJ6_append_2 (Nat.le_of_ble_eq_true rfl) (Nat.le_of_ble_eq_true rfl) rfl (k_fr ?_) (fun _ _ _ _ _ _ _ hx => no_x hx)
  refine r_pop (pc := 5) dJ6_append_5 rfl ?_
  refine r_aload_n (pc := 6) dJ6_append_6 rfl rfl ?_
  refine r_areturn (pc := 7) rfl (by first | exact Or.inl ⟨_, rfl⟩ | exact Or.inr ⟨_, rfl⟩) dJ6_append_7 (Nat.le_of_ble_eq_true rfl) (Nat.le_of_ble_eq_true rfl) ?_
  exact hQ
theorem SB.app {c : Int} (h : SB I P T sb b L) (hl : L.length < 16) : SB (ui (ui I sb 3 (L.length + 1)) b L.length c) P T sb b (L ++ [c]) := by
  obtain ⟨h1, h2, h3, h4, h5, h6, h7⟩ := h
  have hne : sb ≠ b := fun e => by rw [← e, h1] at h3; exact absurd (congrArg Prod.fst h3) (by decide)
  refine ⟨h1, h2, h3, ?_, ?_, by simp; omega, fun j j0 j1 => ?_⟩
  · rw [ui_nv hne, ui_nj (by omega)]; exact h4
  · rw [ui_nv hne, ui_sv]; simp
  · rw [List.length_append] at j1
    simp only [List.length_cons, List.length_nil] at j1
    by_cases e : j = L.length
    · subst e
      rw [ui_sv, List.getD_eq_getElem?_getD, List.getElem?_append_right (by omega)]
      simp
    · rw [ui_nj e, ui_nv hne.symm, h7 j j0 (by omega), List.getD_eq_getElem?_getD, List.getD_eq_getElem?_getD, List.getElem?_append_left (by omega)]
theorem C_getBytes {i : Int} (hh : ST I P T w L2) (hA : AS L2) (hTb : T b = (2, 16)) (hb2 : G.2.2.2.1 ≤ b) (hi : 0 ≤ i ∧ i + L2.length ≤ 16) (hQ : ∀ bs, SA I T bs L2 → Q none (cpI I bs b 0 i L2.length) J P T z) : MC G yJ7_getBytes (ws_ yJ7_getBytes cJ7_getBytes 4 (none : Option FieldType)) (d + 1) 0 0 [.ref w, .ref b, iv i, iv 0] I J P T z Q nX := by
  obtain ⟨hT, h0, bs, hp, hs⟩ := hh
  refine MC.of (by decide) (Nat.le_of_ble_eq_true rfl) ?_
  show PW G mJ7_getBytes (rmD (d + 1) 0 0) (MZ G Q nX 0 0) 0 0 I J P T z 0 [some (.ref w), some (.ref b), some (iv i), some (iv 0)] []
  refine r_aload_n (pc := 0) dJ7_getBytes_0 rfl rfl ?_
  refine r_callV0 (pc := 1) (C_coder hT h0 fe_i) im_J7_coder q1023 q1021 hT rfl dJ7_getBytes_1 (Nat.le_of_ble_eq_true rfl) (Nat.le_of_ble_eq_true rfl) rfl (k_fi ?_) (fun _ _ _ _ _ _ _ hx => no_x hx)
  refine r_iload_n (pc := 4) dJ7_getBytes_4 rfl rfl ?_
  refine r_icmp_ne (pc := 5) 28 dJ7_getBytes_5 rfl (by omega) (by omega) (fun h5 => ?_) (fun h5 => ?_)
  · exact absurd rfl h5
  refine r_aload_n (pc := 8) dJ7_getBytes_8 rfl rfl ?_
  refine r_getr (pc := 9) (c := 37) (k := 0) (kz := 0) hT cok_37 (Nat.le_of_ble_eq_true rfl) q852 ⟨rfl, rfl⟩ (Or.inl rfl) rfl (fun _ _ _ => rfl) hp dJ7_getBytes_9 ?_
  refine r_iconst (pc := 12) dJ7_getBytes_12 ?_
  refine r_aload_n (pc := 13) dJ7_getBytes_13 rfl rfl ?_
  refine r_iload_n (pc := 14) dJ7_getBytes_14 rfl rfl ?_
  refine r_iload_n (pc := 15) dJ7_getBytes_15 rfl rfl ?_
  refine r_ishl (pc := 16) dJ7_getBytes_16 (by omega) ?_
  rw [sl0]
  refine r_aload_n (pc := 17) dJ7_getBytes_17 rfl rfl ?_
  refine r_getr (pc := 18) (c := 37) (k := 0) (kz := 0) hT cok_37 (Nat.le_of_ble_eq_true rfl) q852 ⟨rfl, rfl⟩ (Or.inl rfl) rfl (fun _ _ _ => rfl) hp dJ7_getBytes_18 ?_
  refine r_alen (pc := 21) hs.1 ⟨by decide, by decide⟩ dJ7_getBytes_21 (fun hn21 hm21 => ?_)
  refine r_copy (d9 := 0) (pc := 22) (Or.inr rfl) hs.1 hTb (by omega) q1038 q380 q379 q125 (by omega) (by omega) (by omega) (by omega) (by omega) (fun j p q => by rw [hs.2 j p (by omega)]; exact fit_b (by have := hA j.toNat; omega)) (Nat.le_add_left _ _) (by show 64 ≤ 64 * (_ + 1); omega) rfl dJ7_getBytes_22 ?_
  refine r_goto (pc := 25) 43 dJ7_getBytes_25 rfl ?_
  refine r_return (pc := 43) rfl dJ7_getBytes_43 (Nat.le_of_ble_eq_true rfl) (Nat.le_of_ble_eq_true rfl) ?_
  exact hQ bs hs
theorem C_inflate (h : SB I P T sb b L) (hh : ST I P T w L2) (hQ : Q none I J P T z) : MC G yJ5_inflateIfNeededFor (ws_ yJ5_inflateIfNeededFor cJ5_inflateIfNeededFor 2 (none : Option FieldType)) (d + 1) 0 0 [.ref sb, .ref w] I J P T z Q nX := by
  refine MC.of (by decide) (Nat.le_of_ble_eq_true rfl) ?_
  show PW G mJ5_inflateIfNeededFor (rmD (d + 1) 0 0) (MZ G Q nX 0 0) 0 0 I J P T z 0 [some (.ref sb), some (.ref w)] []
  refine r_getsC (pc := 0) q691 rfl dJ5_inflateIfNeededFor_0 ?_
  refine r_if_eq (pc := 3) 21 dJ5_inflateIfNeededFor_3 rfl (by omega) (fun h3 => ?_) (fun h3 => ?_)
  · omega
  refine r_aload_n (pc := 6) dJ5_inflateIfNeededFor_6 rfl rfl ?_
  refine r_geti (pc := 7) (c := 36) (k := 1) (kz := 1) h.1 cok_36 (Nat.le_of_ble_eq_true rfl) q701 ⟨rfl, rfl⟩ (Or.inl rfl) rfl (fun _ _ _ => rfl) dJ5_inflateIfNeededFor_7 (fun hr7 => ?_)
  rw [h.2.2.2.1] at hr7 ⊢
  refine r_aload_n (pc := 10) dJ5_inflateIfNeededFor_10 rfl rfl ?_
  refine r_callV0 (pc := 11) (C_coder hh.1 hh.2.1 fe_i) im_J7_coder q1023 q1033 hh.1 rfl dJ5_inflateIfNeededFor_11 (Nat.le_of_ble_eq_true rfl) (Nat.le_of_ble_eq_true rfl) rfl (k_fi ?_) (fun _ _ _ _ _ _ _ hx => no_x hx)
  refine r_icmp_eq (pc := 14) 21 dJ5_inflateIfNeededFor_14 rfl (by omega) (by omega) (fun h14 => ?_) (fun h14 => ?_)
  · refine r_return (pc := 21) rfl dJ5_inflateIfNeededFor_21 (Nat.le_of_ble_eq_true rfl) (Nat.le_of_ble_eq_true rfl) ?_
    exact hQ
  exact absurd rfl h14
theorem C_putStringAt {i : Int} (h : SB I P T sb b L) (hh : ST I P T w L2) (hA : AS L2) (hb2 : G.2.2.2.1 ≤ b) (hi : 0 ≤ i ∧ i + L2.length ≤ 16) (hQ : ∀ bs, SA I T bs L2 → Q none (cpI I bs b 0 i L2.length) J P T z) : MC G yJ5_putStringAt (ws_ yJ5_putStringAt cJ5_putStringAt 3 (none : Option FieldType)) (d + 2) 0 0 [.ref sb, iv i, .ref w] I J P T z Q nX := by
  refine MC.of (by decide) (Nat.le_of_ble_eq_true rfl) ?_
  show PW G mJ5_putStringAt (rmD (d + 2) 0 0) (MZ G Q nX 0 0) 0 0 I J P T z 0 [some (.ref sb), some (iv i), some (.ref w)] []
  refine r_aload_n (pc := 0) dJ5_putStringAt_0 rfl rfl ?_
  refine r_aload_n (pc := 1) dJ5_putStringAt_1 rfl rfl ?_
  refine r_callP1 (pc := 2) (cb := 36) (C_inflate h hh fe_i) im_J5_inflateIfNeededFor q1030 q752 rfl q2487 q1029 h.1 dJ5_putStringAt_2 (Nat.le_of_ble_eq_true rfl) (Nat.le_of_ble_eq_true rfl) rfl (k_fv ?_) (fun _ _ _ _ _ _ _ hx => no_x hx)
  refine r_aload_n (pc := 5) dJ5_putStringAt_5 rfl rfl ?_
  refine r_aload_n (pc := 6) dJ5_putStringAt_6 rfl rfl ?_
  refine r_getr (pc := 7) (c := 36) (k := 0) (kz := 0) h.1 cok_36 (Nat.le_of_ble_eq_true rfl) q700 ⟨rfl, rfl⟩ (Or.inl rfl) rfl (fun _ _ _ => rfl) h.2.1 dJ5_putStringAt_7 ?_
  refine r_iload_n (pc := 10) dJ5_putStringAt_10 rfl rfl ?_
  refine r_aload_n (pc := 11) dJ5_putStringAt_11 rfl rfl ?_
  refine r_geti (pc := 12) (c := 36) (k := 1) (kz := 1) h.1 cok_36 (Nat.le_of_ble_eq_true rfl) q701 ⟨rfl, rfl⟩ (Or.inl rfl) rfl (fun _ _ _ => rfl) dJ5_putStringAt_12 (fun hr12 => ?_)
  rw [h.2.2.2.1] at hr12 ⊢
  refine r_callV3 (pc := 15) (C_getBytes (Q := fun v I' J' P' T' z' => ∃ bs, SA I T bs L2 ∧ fe (cpI I bs b 0 i L2.length) J P T z none v I' J' P' T' z') hh hA h.2.2.1 hb2 hi (fun bs hs => ⟨bs, hs, fe_i⟩)) im_J7_getBytes q1036 q1034 hh.1 rfl dJ5_putStringAt_15 (Nat.le_of_ble_eq_true rfl) (Nat.le_of_ble_eq_true rfl) rfl (fun v I' J' P' T' z' ⟨bs, hs, hf⟩ => k_fv ?_ v I' J' P' T' z' hf) (fun _ _ _ _ _ _ _ hx => no_x hx)
  refine r_return (pc := 18) rfl dJ5_putStringAt_18 (Nat.le_of_ble_eq_true rfl) (Nat.le_of_ble_eq_true rfl) ?_
  exact hQ bs hs
theorem C_asbS (h : SB I P T sb b L) (hne : sb ≠ b) (hh : ST I P T w L2) (hA : AS L2) (hb1 : G.2.2.2.1 ≤ sb) (hb2 : G.2.2.2.1 ≤ b) (hi : L.length + L2.length ≤ 16) (hQ : ∀ bs, SA I T bs L2 → Q (some (.ref sb)) (ui (cpI I bs b 0 L.length L2.length) sb 3 (L.length + L2.length)) J P T z) : MC G yJ5_append_2 (ws_ yJ5_append_2 cJ5_append_2 3 (some (FieldType.object "java/lang/AbstractStringBuilder"))) (d + 3) 0 0 [.ref sb, .ref w] I J P T z Q nX := by
  refine MC.of (by decide) (Nat.le_of_ble_eq_true rfl) ?_
  show PW G mJ5_append_2 (rmD (d + 3) 0 0) (MZ G Q nX 0 0) 0 0 I J P T z 0 [some (.ref sb), some (.ref w), none] []
  refine r_aload_n (pc := 0) dJ5_append_2_0 rfl rfl ?_
  refine r_ifnonnull (pc := 1) 9 dJ5_append_2_1 rfl ?_
  refine r_aload_n (pc := 9) dJ5_append_2_9 rfl rfl ?_
  refine r_callV0 (pc := 10) (C_slen hh fe_i) im_J7_length q1019 q1017 hh.1 rfl dJ5_append_2_10 (Nat.le_of_ble_eq_true rfl) (Nat.le_of_ble_eq_true rfl) rfl (k_fi ?_) (fun _ _ _ _ _ _ _ hx => no_x hx)
  refine r_istore_n2 (pc := 13) (Nat.le_of_ble_eq_true rfl) dJ5_append_2_13 rfl ?_
  refine r_aload_n (pc := 14) dJ5_append_2_14 rfl rfl ?_
  refine r_aload_n (pc := 15) dJ5_append_2_15 rfl rfl ?_
  refine r_geti (pc := 16) (c := 36) (k := 3) (kz := 3) h.1 cok_36 (Nat.le_of_ble_eq_true rfl) q703 ⟨rfl, rfl⟩ (Or.inl rfl) rfl (fun _ _ _ => rfl) dJ5_append_2_16 (fun hr16 => ?_)
  rw [h.2.2.2.2.1] at hr16 ⊢
  refine r_iload_n (pc := 19) dJ5_append_2_19 rfl rfl ?_
  refine r_iadd (pc := 20) dJ5_append_2_20 ?_
  refine r_callP1 (pc := 21) (cb := 36) (C_ensure h (by omega) fe_i) im_J5_ensureCapacityInternal q721 q752 rfl q2472 q720 h.1 dJ5_append_2_21 (Nat.le_of_ble_eq_true rfl) (Nat.le_of_ble_eq_true rfl) rfl (k_fv ?_) (fun _ _ _ _ _ _ _ hx => no_x hx)
  refine r_aload_n (pc := 24) dJ5_append_2_24 rfl rfl ?_
  refine r_aload_n (pc := 25) dJ5_append_2_25 rfl rfl ?_
  refine r_geti (pc := 26) (c := 36) (k := 3) (kz := 3) h.1 cok_36 (Nat.le_of_ble_eq_true rfl) q703 ⟨rfl, rfl⟩ (Or.inl rfl) rfl (fun _ _ _ => rfl) dJ5_append_2_26 (fun hr26 => ?_)
  rw [h.2.2.2.2.1] at hr26 ⊢
  refine r_aload_n (pc := 29) dJ5_append_2_29 rfl rfl ?_
  refine r_callP2 (pc := 30) (cb := 36) (C_putStringAt (Q := fun v I' J' P' T' z' => ∃ bs, SA I T bs L2 ∧ fe (cpI I bs b 0 L.length L2.length) J P T z none v I' J' P' T' z') h hh hA hb2 (by omega) (fun bs hs => ⟨bs, hs, fe_i⟩)) im_J5_putStringAt q1026 q752 rfl q2486 q1025 h.1 dJ5_append_2_30 (Nat.le_of_ble_eq_true rfl) (Nat.le_of_ble_eq_true rfl) rfl (fun v I' J' P' T' z' ⟨bs, hs, hf⟩ => k_fv ?_ v I' J' P' T' z' hf) (fun _ _ _ _ _ _ _ hx => no_x hx)
  refine r_aload_n (pc := 33) dJ5_append_2_33 rfl rfl ?_
  refine r_dup (pc := 34) dJ5_append_2_34 rfl ?_
  refine r_geti (pc := 35) (c := 36) (k := 3) (kz := 3) h.1 cok_36 (Nat.le_of_ble_eq_true rfl) q703 ⟨rfl, rfl⟩ (Or.inl rfl) rfl (fun _ _ _ => rfl) dJ5_append_2_35 (fun hr35 => ?_)
  have e9 : cpI I bs b 0 L.length L2.length sb 3 = L.length := by
    unfold cpI
    rw [ur_nv hne]
    exact h.2.2.2.2.1
  rw [e9] at hr35 ⊢
  refine r_iload_n (pc := 38) dJ5_append_2_38 rfl rfl ?_
  refine r_iadd (pc := 39) dJ5_append_2_39 ?_
  refine r_puti (pc := 40) (c := 36) (k := 3) (kz := 3) h.1 cok_36 (Nat.le_of_ble_eq_true rfl) q703 ⟨rfl, rfl⟩ (Or.inl rfl) rfl (by omega) rfl rfl (by omega) (fun _ _ _ => rfl) ⟨rfl, rfl⟩ dJ5_append_2_40 ?_
  refine r_aload_n (pc := 43) dJ5_append_2_43 rfl rfl ?_
  refine r_areturn (pc := 44) rfl (by first | exact Or.inl ⟨_, rfl⟩ | exact Or.inr ⟨_, rfl⟩) dJ5_append_2_44 (Nat.le_of_ble_eq_true rfl) (Nat.le_of_ble_eq_true rfl) ?_
  exact hQ bs hs
theorem C_sbS (h : SB I P T sb b L) (hne : sb ≠ b) (hh : ST I P T w L2) (hA : AS L2) (hb1 : G.2.2.2.1 ≤ sb) (hb2 : G.2.2.2.1 ≤ b) (hi : L.length + L2.length ≤ 16) (hQ : ∀ bs, SA I T bs L2 → Q (some (.ref sb)) (ui (cpI I bs b 0 L.length L2.length) sb 3 (L.length + L2.length)) J P T z) : MC G yJ6_append_2 (ws_ yJ6_append_2 cJ6_append_2 2 (some (FieldType.object "java/lang/StringBuilder"))) (d + 4) 0 0 [.ref sb, .ref w] I J P T z Q nX := by
  refine MC.of (by decide) (Nat.le_of_ble_eq_true rfl) ?_
  show PW G mJ6_append_2 (rmD (d + 4) 0 0) (MZ G Q nX 0 0) 0 0 I J P T z 0 [some (.ref sb), some (.ref w)] []
  refine r_aload_n (pc := 0) dJ6_append_2_0 rfl rfl ?_
  refine r_aload_n (pc := 1) dJ6_append_2_1 rfl rfl ?_
  refine r_callSU1 (pc := 2) (cb := 36) (C_asbS (Q := fun v I' J' P' T' z' => ∃ bs, SA I T bs L2 ∧ fe (ui (cpI I bs b 0 L.length L2.length) sb 3 (L.length + L2.length)) J P T z (some (.ref sb)) v I' J' P' T' z') h hne hh hA hb1 hb2 hi (fun bs hs => ⟨bs, hs, fe_i⟩)) im_J5_append_2 (by decide) q2484 q712 q998 rfl h.1 dJ6_append_2_2 (Nat.le_of_ble_eq_true rfl) (Nat.le_of_ble_eq_true rfl) rfl (fun v I' J' P' T' z' ⟨bs, hs, hf⟩ => k_fr ?_ v I' J' P' T' z' hf) (fun _ _ _ _ _ _ _ hx => no_x hx)
  refine r_pop (pc := 5) dJ6_append_2_5 rfl ?_
  refine r_aload_n (pc := 6) dJ6_append_2_6 rfl rfl ?_
  refine r_areturn (pc := 7) rfl (by first | exact Or.inl ⟨_, rfl⟩ | exact Or.inr ⟨_, rfl⟩) dJ6_append_2_7 (Nat.le_of_ble_eq_true rfl) (Nat.le_of_ble_eq_true rfl) ?_
  exact hQ bs hs
theorem SB.apps {bs : Nat} (h : SB I P T sb b L) (hne : sb ≠ b) (hs : SA I T bs L2) (hi : L.length + L2.length ≤ 16) : SB (ui (cpI I bs b 0 L.length L2.length) sb 3 (L.length + L2.length)) P T sb b (L ++ L2) := by
  obtain ⟨h1, h2, h3, h4, h5, h6, h7⟩ := h
  refine ⟨h1, h2, h3, ?_, ?_, by simp; omega, fun j j0 j1 => ?_⟩
  · rw [ui_nj (by omega)]; unfold cpI; rw [ur_nv hne]; exact h4
  · rw [ui_sv]; simp
  · rw [List.length_append] at j1
    rw [ui_nv hne.symm]
    unfold cpI
    rw [ur_sv]
    by_cases e : (L.length : Int) ≤ j
    · rw [if_pos (by omega), hs.2 _ (by omega) (by omega), List.getD_eq_getElem?_getD, List.getD_eq_getElem?_getD, List.getElem?_append_right (by omega)]
      congr 2; omega
    · rw [if_neg (by omega), h7 j j0 (by omega), List.getD_eq_getElem?_getD, List.getD_eq_getElem?_getD, List.getElem?_append_left (by omega)]
theorem C_checkLength {a c : Int} (h : a ≤ c) (h1 : rg a) (h2 : rg c) (hQ : Q none I J P T z) : MC G yJ3_checkLength (ws_ yJ3_checkLength cJ3_checkLength 2 (none : Option FieldType)) (d) 0 0 [iv a, iv c] I J P T z Q nX := by
  refine MC.of (by decide) (Nat.le_of_ble_eq_true rfl) ?_
  show PW G mJ3_checkLength (rmD (d) 0 0) (MZ G Q nX 0 0) 0 0 I J P T z 0 [some (iv a), some (iv c)] []
  refine r_iload_n (pc := 0) dJ3_checkLength_0 rfl rfl ?_
  refine r_iload_n (pc := 1) dJ3_checkLength_1 rfl rfl ?_
  refine r_icmp_ge (pc := 2) 37 dJ3_checkLength_2 rfl (by omega) (by omega) (fun h2 => ?_) (fun h2 => ?_)
  · refine r_return (pc := 37) rfl dJ3_checkLength_37 (Nat.le_of_ble_eq_true rfl) (Nat.le_of_ble_eq_true rfl) ?_
    exact hQ
  omega
theorem C_copyRB {n : Int} (hT : T b = (2, 16)) (hbz : b < z) (hgz : G.2.2.2.1 ≤ z) (hn : 0 ≤ n ∧ n < 16) (hA : ∀ j : Int, 0 ≤ j → j < n → -128 ≤ I b j ∧ I b j < 128) (hQ : Q (some (.ref z)) (cpI (ur I z fun _ => 0) b z 0 0 n) (ur J z fun _ => 0) (urp P z fun _ => none) (ut T z (2, n)) (z + 1)) : MC G yJ3_copyOfRangeByte (ws_ yJ3_copyOfRangeByte cJ3_copyOfRangeByte 5 (some (FieldType.array FieldType.byte))) (d + 1) 1 16 [.ref b, iv 0, iv n] I J P T z Q nX := by
  have hT1 : ut T z (2, n) b = (2, 16) := by rw [ut_n (by omega)]; exact hT
  have hT2 : ut T z (2, n) z = (2, n) := ut_s
  refine MC.of (by decide) (Nat.le_of_ble_eq_true rfl) ?_
  show PW G mJ3_copyOfRangeByte (rmD (d + 1) 1 16) (MZ G Q nX 1 16) 0 0 I J P T z 0 [some (.ref b), some (iv 0), some (iv n), none, none] []
  refine r_iload_n (pc := 0) dJ3_copyOfRangeByte_0 rfl rfl ?_
  refine r_iload_n (pc := 1) dJ3_copyOfRangeByte_1 rfl rfl ?_
  refine r_callS2 (pc := 2) (C_checkLength (by omega) (by omega) (by omega) fe_i) im_J3_checkLength q835 dJ3_copyOfRangeByte_2 (Nat.le_of_ble_eq_true rfl) (Nat.le_of_ble_eq_true rfl) rfl (k_fv ?_) (fun _ _ _ _ _ _ _ hx => no_x hx)
  refine r_iload_n (pc := 5) dJ3_copyOfRangeByte_5 rfl rfl ?_
  refine r_iload_n (pc := 6) dJ3_copyOfRangeByte_6 rfl rfl ?_
  refine r_isub (pc := 7) dJ3_copyOfRangeByte_7 ?_
  rw [Int.sub_zero]
  refine r_istore_n3 (pc := 8) (Nat.le_of_ble_eq_true rfl) dJ3_copyOfRangeByte_8 rfl ?_
  refine r_iload_n (pc := 9) dJ3_copyOfRangeByte_9 rfl rfl ?_
  refine r_newa (pc := 10) (t := 2) (atype := .byte) ⟨by decide, by decide⟩ rfl q198 (by omega) (by omega) (by decide) ⟨by decide, by decide⟩ (Nat.le_refl _) (by show _ ≤ 16; omega) dJ3_copyOfRangeByte_10 ?_
  refine r_widen (cu' := 1) (su' := 16) (Nat.le_refl _) (by omega) ?_
  refine r_astore4 (pc := 12) (Nat.le_of_ble_eq_true rfl) dJ3_copyOfRangeByte_12 rfl ?_
  refine r_aload_n (pc := 14) dJ3_copyOfRangeByte_14 rfl rfl ?_
  refine r_iload_n (pc := 15) dJ3_copyOfRangeByte_15 rfl rfl ?_
  refine r_aload (pc := 16) dJ3_copyOfRangeByte_16 rfl ?_
  refine r_iconst (pc := 18) dJ3_copyOfRangeByte_18 ?_
  refine r_aload_n (pc := 19) dJ3_copyOfRangeByte_19 rfl rfl ?_
  refine r_alen (pc := 20) hT1 ⟨by decide, by decide⟩ dJ3_copyOfRangeByte_20 (fun hn20 hm20 => ?_)
  refine r_iload_n (pc := 21) dJ3_copyOfRangeByte_21 rfl rfl ?_
  refine r_isub (pc := 22) dJ3_copyOfRangeByte_22 ?_
  rw [Int.sub_zero]
  refine r_iload_n (pc := 23) dJ3_copyOfRangeByte_23 rfl rfl ?_
  refine r_mmin (pc := 24) q747 dJ3_copyOfRangeByte_24 (by omega) (by omega) (Nat.le_of_ble_eq_true rfl) (Nat.le_of_ble_eq_true rfl) rfl ?_
  rw [show (if n < 16 then n else (16 : Int)) = n by rw [if_pos (by omega)]]
  refine r_copy (d9 := 0) (pc := 27) (Or.inr rfl) hT1 hT2 (by omega) q748 q380 q379 q125 (by omega) (by omega) (by omega) (by omega) (by omega) (fun j p q => by rw [ur_nv (by omega)]; exact fit_b (hA j p (by omega))) (Nat.le_add_left _ _) (by show 64 ≤ 64 * (_ + 1); omega) rfl dJ3_copyOfRangeByte_27 ?_
  refine r_aload (pc := 30) dJ3_copyOfRangeByte_30 rfl ?_
  refine r_areturn (pc := 32) rfl (by first | exact Or.inl ⟨_, rfl⟩ | exact Or.inr ⟨_, rfl⟩) dJ3_copyOfRangeByte_32 (Nat.le_of_ble_eq_true rfl) (Nat.le_of_ble_eq_true rfl) ?_
  exact hQ
theorem C_copyR {n : Int} (hT : T b = (2, 16)) (hbz : b < z) (hgz : G.2.2.2.1 ≤ z) (hn : 0 ≤ n ∧ n < 16) (hA : ∀ j : Int, 0 ≤ j → j < n → -128 ≤ I b j ∧ I b j < 128) (hQ : Q (some (.ref z)) (cpI (ur I z fun _ => 0) b z 0 0 n) (ur J z fun _ => 0) (urp P z fun _ => none) (ut T z (2, n)) (z + 1)) : MC G yJ3_copyOfRange (ws_ yJ3_copyOfRange cJ3_copyOfRange 3 (some (FieldType.array FieldType.byte))) (d + 2) 1 16 [.ref b, iv 0, iv n] I J P T z Q nX := by
  refine MC.of (by decide) (Nat.le_of_ble_eq_true rfl) ?_
  show PW G mJ3_copyOfRange (rmD (d + 2) 1 16) (MZ G Q nX 1 16) 0 0 I J P T z 0 [some (.ref b), some (iv 0), some (iv n)] []
  refine r_iload_n (pc := 0) dJ3_copyOfRange_0 rfl rfl ?_
  refine r_if_ne (pc := 1) 10 dJ3_copyOfRange_1 rfl (by omega) (fun h1 => ?_) (fun h1 => ?_)
  · omega
  refine r_iload_n (pc := 4) dJ3_copyOfRange_4 rfl rfl ?_
  refine r_aload_n (pc := 5) dJ3_copyOfRange_5 rfl rfl ?_
  refine r_alen (pc := 6) hT ⟨by decide, by decide⟩ dJ3_copyOfRange_6 (fun hn6 hm6 => ?_)
  refine r_icmp_eq (pc := 7) 17 dJ3_copyOfRange_7 rfl (by omega) (by omega) (fun h7 => ?_) (fun h7 => ?_)
  · omega
  refine r_aload_n (pc := 10) dJ3_copyOfRange_10 rfl rfl ?_
  refine r_iload_n (pc := 11) dJ3_copyOfRange_11 rfl rfl ?_
  refine r_iload_n (pc := 12) dJ3_copyOfRange_12 rfl rfl ?_
  refine r_callS3 (pc := 13) (C_copyRB hT hbz hgz hn hA fe_i) im_J3_copyOfRangeByte q832 dJ3_copyOfRange_13 (Nat.le_of_ble_eq_true rfl) (Nat.le_of_ble_eq_true rfl) rfl (k_fr ?_) (fun _ _ _ _ _ _ _ hx => no_x hx)
  refine r_areturn (pc := 16) rfl (by first | exact Or.inl ⟨_, rfl⟩ | exact Or.inr ⟨_, rfl⟩) dJ3_copyOfRange_16 (Nat.le_of_ble_eq_true rfl) (Nat.le_of_ble_eq_true rfl) ?_
  exact hQ
theorem C_getValue (h : SB I P T sb b L) (hQ : Q (some (.ref b)) I J P T z) : MC G yJ5_getValue (ws_ yJ5_getValue cJ5_getValue 1 (some (FieldType.array FieldType.byte))) (d) 0 0 [.ref sb] I J P T z Q nX := by
  refine MC.of (by decide) (Nat.le_of_ble_eq_true rfl) ?_
  show PW G mJ5_getValue (rmD (d) 0 0) (MZ G Q nX 0 0) 0 0 I J P T z 0 [some (.ref sb)] []
  refine r_aload_n (pc := 0) dJ5_getValue_0 rfl rfl ?_
  refine r_getr (pc := 1) (c := 36) (k := 0) (kz := 0) h.1 cok_36 (Nat.le_of_ble_eq_true rfl) q700 ⟨rfl, rfl⟩ (Or.inl rfl) rfl (fun _ _ _ => rfl) h.2.1 dJ5_getValue_1 ?_
  refine r_areturn (pc := 4) rfl (by first | exact Or.inl ⟨_, rfl⟩ | exact Or.inr ⟨_, rfl⟩) dJ5_getValue_4 (Nat.le_of_ble_eq_true rfl) (Nat.le_of_ble_eq_true rfl) ?_
  exact hQ
theorem C_asbLen (h : SB I P T sb b L) (hQ : Q (some (iv L.length)) I J P T z) : MC G yJ5_length (ws_ yJ5_length cJ5_length 1 (some FieldType.int)) (d) 0 0 [.ref sb] I J P T z Q nX := by
  refine MC.of (by decide) (Nat.le_of_ble_eq_true rfl) ?_
  show PW G mJ5_length (rmD (d) 0 0) (MZ G Q nX 0 0) 0 0 I J P T z 0 [some (.ref sb)] []
  refine r_aload_n (pc := 0) dJ5_length_0 rfl rfl ?_
  refine r_geti (pc := 1) (c := 36) (k := 3) (kz := 3) h.1 cok_36 (Nat.le_of_ble_eq_true rfl) q703 ⟨rfl, rfl⟩ (Or.inl rfl) rfl (fun _ _ _ => rfl) dJ5_length_1 (fun hr1 => ?_)
  rw [h.2.2.2.2.1] at hr1 ⊢
  refine r_ireturn (pc := 4) rfl rfl dJ5_length_4 (Nat.le_of_ble_eq_true rfl) (Nat.le_of_ble_eq_true rfl) ?_
  exact hQ
theorem C_sbLen (h : SB I P T sb b L) (hQ : Q (some (iv L.length)) I J P T z) : MC G yJ6_length (ws_ yJ6_length cJ6_length 1 (some FieldType.int)) (d + 1) 0 0 [.ref sb] I J P T z Q nX := by
  refine MC.of (by decide) (Nat.le_of_ble_eq_true rfl) ?_
  show PW G mJ6_length (rmD (d + 1) 0 0) (MZ G Q nX 0 0) 0 0 I J P T z 0 [some (.ref sb)] []
  refine r_aload_n (pc := 0) dJ6_length_0 rfl rfl ?_
  refine r_callSU0 (pc := 1) (cb := 36) (C_asbLen h fe_i) im_J5_length (by decide) q822 q712 q826 rfl h.1 dJ6_length_1 (Nat.le_of_ble_eq_true rfl) (Nat.le_of_ble_eq_true rfl) rfl (k_fi ?_) (fun _ _ _ _ _ _ _ hx => no_x hx)
  refine r_ireturn (pc := 4) rfl rfl dJ6_length_4 (Nat.le_of_ble_eq_true rfl) (Nat.le_of_ble_eq_true rfl) ?_
  exact hQ
theorem C_strI2 (hT : T w = (57, 0)) (hb : G.2.2.2.1 ≤ w) (hwz : w < z) (hbz : b < z) (hne : w ≠ b) (h : SB I P T sb b L) (hws : w ≠ sb) (hl : L.length < 16) (hA : AS L) (hQ : Q none (cpI (ur (ui I w 1 0) z fun _ => 0) b z 0 0 L.length) (ur J z fun _ => 0) (up (urp P z fun _ => none) w 0 (some z)) (ut T z (2, (L.length : Int))) (z + 1)) : MC G yJ7_init_2 (ws_ yJ7_init_2 cJ7_init_2 5 (none : Option FieldType)) (d + 3) 1 16 [.ref w, .ref sb, .null] I J P T z Q nX := by
  have hT1 : ut T z (2, (L.length : Int)) w = (57, 0) := by rw [ut_n (by omega)]; exact hT
  refine MC.of (by decide) (Nat.le_of_ble_eq_true rfl) ?_
  show PW G mJ7_init_2 (rmD (d + 3) 1 16) (MZ G Q nX 1 16) 0 0 I J P T z 0 [some (.ref w), some (.ref sb), some .null, none, none] []
  refine r_aload_n (pc := 0) dJ7_init_2_0 rfl rfl ?_
  refine r_objI (pc := 1) q814 dJ7_init_2_1 rfl ?_
  refine r_aload_n (pc := 4) dJ7_init_2_4 rfl rfl ?_
  refine r_callU0 (pc := 5) (C_getValue h fe_i) im_J5_getValue rfl q818 q817 q815 h.1 rfl dJ7_init_2_5 (Nat.le_of_ble_eq_true rfl) (Nat.le_of_ble_eq_true rfl) rfl (k_fr ?_) (fun _ _ _ _ _ _ _ hx => no_x hx)
  refine r_astore_n3 (pc := 8) (Nat.le_of_ble_eq_true rfl) dJ7_init_2_8 rfl ?_
  refine r_aload_n (pc := 9) dJ7_init_2_9 rfl rfl ?_
  refine r_callO0 (pc := 10) (cb := 36) (x := ⟨"java/lang/AbstractStringBuilder", "length", "()I"⟩) (C_sbLen h fe_i) im_J6_length rfl ⟨by decide, by decide⟩ q821 q827 q823 q822 q820 h.1 dJ7_init_2_10 (Nat.le_of_ble_eq_true rfl) (Nat.le_of_ble_eq_true rfl) rfl (k_fi ?_) (fun _ _ _ _ _ _ _ hx => no_x hx)
  refine r_istore4 (pc := 13) (Nat.le_of_ble_eq_true rfl) dJ7_init_2_13 rfl ?_
  refine r_aload_n (pc := 15) dJ7_init_2_15 rfl rfl ?_
  refine r_callU0 (pc := 16) (C_sbLat h.1 h.2.2.2.1 fe_i) im_J5_isLatin1 rfl q752 q751 q828 h.1 rfl dJ7_init_2_16 (Nat.le_of_ble_eq_true rfl) (Nat.le_of_ble_eq_true rfl) rfl (k_fi ?_) (fun _ _ _ _ _ _ _ hx => no_x hx)
  refine r_if_eq (pc := 19) 41 dJ7_init_2_19 rfl (by omega) (fun h19 => ?_) (fun h19 => ?_)
  · omega
  refine r_aload_n (pc := 22) dJ7_init_2_22 rfl rfl ?_
  refine r_iconst (pc := 23) dJ7_init_2_23 ?_
  refine r_putiF (pc := 24) (c := 37) (k := 1) (kz := 1) hT cok_37 (Nat.le_of_ble_eq_true rfl) q853 ⟨rfl, rfl⟩ (Or.inl rfl) rfl (by omega) rfl rfl rfl rfl (by omega) (fun _ _ _ => rfl) ⟨rfl, rfl⟩ dJ7_init_2_24 ?_
  refine r_aload_n (pc := 27) dJ7_init_2_27 rfl rfl ?_
  refine r_aload_n (pc := 28) dJ7_init_2_28 rfl rfl ?_
  refine r_iconst (pc := 29) dJ7_init_2_29 ?_
  refine r_iload (pc := 30) dJ7_init_2_30 rfl ?_
  refine r_callS3 (pc := 32) (C_copyR h.2.2.1 hbz (by omega) (by omega) (fun j p q => by rw [ui_nv hne.symm, h.2.2.2.2.2.2 j p q]; have := hA j.toNat; omega) fe_i) im_J3_copyOfRange q829 dJ7_init_2_32 (Nat.le_of_ble_eq_true rfl) (Nat.le_of_ble_eq_true rfl) rfl (k_fr ?_) (fun _ _ _ _ _ _ _ hx => no_x hx)
  refine r_putrF (pc := 35) (r := (some z)) (c := 37) (k := 0) (kz := 0) hT1 cok_37 (Nat.le_of_ble_eq_true rfl) q852 ⟨rfl, rfl⟩ (Or.inl rfl) rfl (by omega) rfl rfl rfl rfl rfl (fun _ _ _ => rfl) ⟨rfl, rfl⟩ dJ7_init_2_35 ?_
  refine r_goto (pc := 38) 97 dJ7_init_2_38 rfl ?_
  refine r_return (pc := 97) rfl dJ7_init_2_97 (Nat.le_of_ble_eq_true rfl) (Nat.le_of_ble_eq_true rfl) ?_
  exact hQ
theorem C_strI (hT : T w = (57, 0)) (hb : G.2.2.2.1 ≤ w) (hwz : w < z) (hbz : b < z) (hne : w ≠ b) (h : SB I P T sb b L) (hws : w ≠ sb) (hl : L.length < 16) (hA : AS L) (hQ : Q none (cpI (ur (ui I w 1 0) z fun _ => 0) b z 0 0 L.length) (ur J z fun _ => 0) (up (urp P z fun _ => none) w 0 (some z)) (ut T z (2, (L.length : Int))) (z + 1)) : MC G yJ7_init (ws_ yJ7_init cJ7_init 2 (none : Option FieldType)) (d + 4) 1 16 [.ref w, .ref sb] I J P T z Q nX := by
  refine MC.of (by decide) (Nat.le_of_ble_eq_true rfl) ?_
  show PW G mJ7_init (rmD (d + 4) 1 16) (MZ G Q nX 1 16) 0 0 I J P T z 0 [some (.ref w), some (.ref sb)] []
  refine r_aload_n (pc := 0) dJ7_init_0 rfl rfl ?_
  refine r_aload_n (pc := 1) dJ7_init_1 rfl rfl ?_
  refine r_null (pc := 2) dJ7_init_2 ?_
  refine r_callI2 (pc := 3) (C_strI2 hT hb hwz hbz hne h hws hl hA fe_i) im_J7_init_2 rfl q811 dJ7_init_3 (Nat.le_of_ble_eq_true rfl) (Nat.le_of_ble_eq_true rfl) rfl (k_fv ?_) (fun _ _ _ _ _ _ _ hx => no_x hx)
  refine r_return (pc := 6) rfl dJ7_init_6 (Nat.le_of_ble_eq_true rfl) (Nat.le_of_ble_eq_true rfl) ?_
  exact hQ
theorem C_toString (hgz : G.2.2.2.1 ≤ z) (h : SB I P T sb b L) (hsz : sb < z) (hbz : b < z) (hl : L.length < 16) (hA : AS L) (hQ : ∀ I' J' P' T', FZ z I J P T I' J' P' T' → ST I' P' T' z L → Q (some (.ref z)) I' J' P' T' (z + 2)) : MC G yJ6_toString (ws_ yJ6_toString cJ6_toString 1 (some (FieldType.object "java/lang/String"))) (d + 5) 2 20 [.ref sb] I J P T z Q nX := by
  have hs' : SB (ur I z fun _ => 0) (urp P z fun _ => none) (ut T z (57, 0)) sb b L := by
    obtain ⟨h1, h2, h3, h4, h5, h6, h7⟩ := h
    refine ⟨by rw [ut_n (by omega)]; exact h1, by rw [urp_n (by omega)]; exact h2, by rw [ut_n (by omega)]; exact h3, by rw [ur_nv (by omega)]; exact h4, by rw [ur_nv (by omega)]; exact h5, h6, fun j p q => by rw [ur_nv (by omega)]; exact h7 j p q⟩
  refine MC.of (by decide) (Nat.le_of_ble_eq_true rfl) ?_
  show PW G mJ6_toString (rmD (d + 5) 2 20) (MZ G Q nX 2 20) 0 0 I J P T z 0 [some (.ref sb)] []
  refine r_new (pc := 0) (c := 37) cok_37 rfl (by decide +kernel) q806 q807 q139 (Nat.le_of_ble_eq_true rfl) (Nat.le_of_ble_eq_true rfl) dJ6_toString_0 ?_
  refine r_dup (pc := 3) dJ6_toString_3 rfl ?_
  refine r_aload_n (pc := 4) dJ6_toString_4 rfl rfl ?_
  refine r_callI1 (pc := 5) (C_strI (w := z) ut_s hgz (by omega) (by omega) (by omega) hs' (by omega) hl hA fe_i) im_J7_init rfl q808 dJ6_toString_5 (Nat.le_of_ble_eq_true rfl) (Nat.le_of_ble_eq_true rfl) rfl (k_fv ?_) (fun _ _ _ _ _ _ _ hx => no_x hx)
  refine r_areturn (pc := 8) rfl (by first | exact Or.inl ⟨_, rfl⟩ | exact Or.inr ⟨_, rfl⟩) dJ6_toString_8 (Nat.le_of_ble_eq_true rfl) (Nat.le_of_ble_eq_true rfl) ?_
  refine hQ _ _ _ _ (fun a ha => ⟨?_, ?_, ?_, ?_⟩) ⟨?_, ?_, z + 1, ?_, ?_, fun j j0 j1 => ?_⟩
  · unfold cpI
    rw [ur_n (by omega), ur_n (by omega), ui_nr (by omega), ur_n (by omega)]
  · rw [ur_n (by omega), ur_n (by omega)]
  · rw [up_nr (by omega), urp_n (by omega), urp_n (by omega)]
  · rw [ut_n (by omega), ut_n (by omega)]
  · rw [ut_n (by omega), ut_s]
  · unfold cpI
    rw [ur_nv (by omega), ur_nv (by omega), ui_sv]
  · exact up_s
  · exact ut_s
  · unfold cpI
    rw [ur_sv, if_pos (by omega), ur_nv (by omega), ui_nv (by omega), ur_nv (by omega), show (0 : Int) + (j - 0) = j by omega]
    exact h.2.2.2.2.2.2 j j0 j1
end P3
