/-! ===== the face: what is asked of it ===== -/
section L1
variable {G : GE} {I I0 J : HI} {P : HP} {T : HT} {z : Nat} {x t d : Nat} {Q : QT} {σ μ : Int → Int}
theorem C_isP (hx : XS G I P T x t σ μ) {p : Int} (hp : rg p) (hQ : Q (some (iv (bz (isP σ p)))) I J P T z) : MC G yX2_isPerson (ws_ yX2_isPerson cX2_isPerson 2 (some FieldType.boolean)) (d + 2) 0 0 [.ref t, iv p] I J P T z Q nX := by
  have e : bz (0 ≤ p ∧ p ≤ I (t + 1) 2 - 1) = bz (isP σ p) := by simp only [bz, hx.r.ta.2.1]
  refine C_isPerson hx.tb hp (by rw [hx.r.ta.2.1]; exact hx.ta.2.1) ?_
  rw [e]; exact hQ
theorem C_isK (hx : XS G I P T x t σ μ) {k : Int} (hk : rg k) (hQ : Q (some (iv (bz (isK σ k)))) I J P T z) : MC G yX2_isKind (ws_ yX2_isKind cX2_isKind 2 (some FieldType.boolean)) (d + 2) 0 0 [.ref t, iv k] I J P T z Q nX := by
  have e : bz (0 ≤ k ∧ k ≤ I t 0 - 1) = bz (isK σ k) := by simp only [bz, hx.r.ta.1]
  refine C_isKind hx.tb hk (by rw [hx.r.ta.1]; exact hx.ta.1) ?_
  rw [e]; exact hQ
theorem C_person (hx : XS G I P T x t σ μ) {k what : Int} (hk : rg k) (hw : rg what) (hQ : Q (some (iv (if isP σ k then f_person σ k what else -1))) I J P T z) : MC G yX1_person (ws_ yX1_person cX1_person 3 (some FieldType.int)) (d + 3) 0 0 [.ref x, iv k, iv what] I J P T z Q nX := by
  have hb := hx.b
  have ht := hx.ta
  refine MC.of (by decide) (Nat.le_of_ble_eq_true rfl) ?_
  show PW G mX1_person (rmD (d + 3) 0 0) (MZ G Q nX 0 0) 0 0 I J P T z 0 [some (.ref x), some (iv k), some (iv what)] []
  refine r_aload_n (pc := 0) dX1_person_0 rfl rfl ?_
  refine r_getr (pc := 1) (c := 1) (k := 3) (kz := 3) hx.o cok_1 (Nat.le_of_ble_eq_true rfl) q513 ⟨rfl, rfl⟩ (Or.inl rfl) rfl (fun _ _ _ => rfl) hx.p_table dX1_person_1 ?_
  refine r_iload_n (pc := 4) dX1_person_4 rfl rfl ?_
  refine r_callV1 (pc := 5) (C_isP hx hk fe_i) im_X2_isPerson q1203 q1201 hx.tb.o rfl dX1_person_5 (Nat.le_of_ble_eq_true rfl) (Nat.le_of_ble_eq_true rfl) rfl (k_fi ?_) (fun _ _ _ _ _ _ _ hx => no_x hx)
  refine r_if_ne (pc := 8) 13 dX1_person_8 rfl bz_g (fun h8 => ?_) (fun h8 => ?_)
  · have hp := bz_ne.mp h8
    rw [if_pos hp] at hQ
    have h6 : 0 ≤ k ∧ k < 6 := by omega
    unfold f_person at hQ
    refine r_iload_n (pc := 13) dX1_person_13 rfl rfl ?_
    by_cases w0 : what = 0
    · subst w0
      refine r_tswIn (pc := 14) 60 dX1_person_14 (by omega) (by omega) (by omega) rfl rfl ?_
      refine r_aload_n (pc := 60) dX1_person_60 rfl rfl ?_
      refine r_getr (pc := 61) (c := 1) (k := 4) (kz := 4) hx.o cok_1 (Nat.le_of_ble_eq_true rfl) q514 ⟨rfl, rfl⟩ (Or.inl rfl) rfl (fun _ _ _ => rfl) hx.p_now dX1_person_61 ?_
      refine r_iload_n (pc := 64) dX1_person_64 rfl rfl ?_
      refine r_callV1 (pc := 65) (C_size hx.g hx.r h6 fe_i) im_X3_size q383 q1207 hx.g.o rfl dX1_person_65 (Nat.le_of_ble_eq_true rfl) (Nat.le_of_ble_eq_true rfl) rfl (k_fi ?_) (fun _ _ _ _ _ _ _ hx => no_x hx)
      refine r_ireturn (pc := 68) rfl rfl dX1_person_68 (Nat.le_of_ble_eq_true rfl) (Nat.le_of_ble_eq_true rfl) ?_
      exact hQ
    rw [if_neg w0] at hQ
    by_cases w1 : what = 1
    · subst w1
      refine r_tswIn (pc := 14) 69 dX1_person_14 (by omega) (by omega) (by omega) rfl rfl ?_
      refine r_aload_n (pc := 69) dX1_person_69 rfl rfl ?_
      refine r_getr (pc := 70) (c := 1) (k := 4) (kz := 4) hx.o cok_1 (Nat.le_of_ble_eq_true rfl) q514 ⟨rfl, rfl⟩ (Or.inl rfl) rfl (fun _ _ _ => rfl) hx.p_now dX1_person_70 ?_
      refine r_iload_n (pc := 73) dX1_person_73 rfl rfl ?_
      refine r_callV1 (pc := 74) (C_booksOf hx.g hx.r h6 fe_i) im_X3_booksOf q1210 q1208 hx.g.o rfl dX1_person_74 (Nat.le_of_ble_eq_true rfl) (Nat.le_of_ble_eq_true rfl) rfl (k_fi ?_) (fun _ _ _ _ _ _ _ hx => no_x hx)
      refine r_ireturn (pc := 77) rfl rfl dX1_person_77 (Nat.le_of_ble_eq_true rfl) (Nat.le_of_ble_eq_true rfl) ?_
      exact hQ
    rw [if_neg w1] at hQ
    by_cases w2 : what = 2
    · subst w2
      refine r_tswIn (pc := 14) 78 dX1_person_14 (by omega) (by omega) (by omega) rfl rfl ?_
      refine r_aload_n (pc := 78) dX1_person_78 rfl rfl ?_
      refine r_getr (pc := 79) (c := 1) (k := 4) (kz := 4) hx.o cok_1 (Nat.le_of_ble_eq_true rfl) q514 ⟨rfl, rfl⟩ (Or.inl rfl) rfl (fun _ _ _ => rfl) hx.p_now dX1_person_79 ?_
      refine r_iload_n (pc := 82) dX1_person_82 rfl rfl ?_
      refine r_callS2 (pc := 83) (C_kinds hx.g hx.r h6 fe_i) im_X5_kinds q1212 dX1_person_83 (Nat.le_of_ble_eq_true rfl) (Nat.le_of_ble_eq_true rfl) rfl (k_fi ?_) (fun _ _ _ _ _ _ _ hx => no_x hx)
      refine r_ireturn (pc := 86) rfl rfl dX1_person_86 (Nat.le_of_ble_eq_true rfl) (Nat.le_of_ble_eq_true rfl) ?_
      exact hQ
    rw [if_neg w2] at hQ
    by_cases w3 : what = 3
    · subst w3
      refine r_tswIn (pc := 14) 87 dX1_person_14 (by omega) (by omega) (by omega) rfl rfl ?_
      refine r_aload_n (pc := 87) dX1_person_87 rfl rfl ?_
      refine r_getr (pc := 88) (c := 1) (k := 4) (kz := 4) hx.o cok_1 (Nat.le_of_ble_eq_true rfl) q514 ⟨rfl, rfl⟩ (Or.inl rfl) rfl (fun _ _ _ => rfl) hx.p_now dX1_person_88 ?_
      refine r_getrN (pc := 91) (c := 3) (k := 4) (kz := 4) hx.g.o cok_3 (Nat.le_of_ble_eq_true rfl) q281 ⟨rfl, rfl⟩ (Or.inl rfl) rfl (fun _ _ _ => rfl) hx.g.p_others dX1_person_91 ?_
      refine r_iload_n (pc := 94) dX1_person_94 rfl rfl ?_
      refine r_iald (pc := 95) hx.g.t_others (by omega) (by omega) dX1_person_95 (fun hr95 => ?_)
      rw [hx.r.others (by omega) (by omega)] at hr95 ⊢
      refine r_ireturn (pc := 96) rfl rfl dX1_person_96 (Nat.le_of_ble_eq_true rfl) (Nat.le_of_ble_eq_true rfl) ?_
      exact hQ
    rw [if_neg w3] at hQ
    by_cases w4 : what = 4
    · subst w4
      refine r_tswIn (pc := 14) 97 dX1_person_14 (by omega) (by omega) (by omega) rfl rfl ?_
      refine r_aload_n (pc := 97) dX1_person_97 rfl rfl ?_
      refine r_getr (pc := 98) (c := 1) (k := 4) (kz := 4) hx.o cok_1 (Nat.le_of_ble_eq_true rfl) q514 ⟨rfl, rfl⟩ (Or.inl rfl) rfl (fun _ _ _ => rfl) hx.p_now dX1_person_98 ?_
      refine r_getrN (pc := 101) (c := 3) (k := 5) (kz := 5) hx.g.o cok_3 (Nat.le_of_ble_eq_true rfl) q283 ⟨rfl, rfl⟩ (Or.inl rfl) rfl (fun _ _ _ => rfl) hx.g.p_caught dX1_person_101 ?_
      refine r_iload_n (pc := 104) dX1_person_104 rfl rfl ?_
      refine r_iald (pc := 105) hx.g.t_caught (by omega) (by omega) dX1_person_105 (fun hr105 => ?_)
      rw [hx.r.caught (by omega) (by omega)] at hr105 ⊢
      refine r_ireturn (pc := 106) rfl rfl dX1_person_106 (Nat.le_of_ble_eq_true rfl) (Nat.le_of_ble_eq_true rfl) ?_
      exact hQ
    rw [if_neg w4] at hQ
    by_cases w5 : what = 5
    · subst w5
      refine r_tswIn (pc := 14) 107 dX1_person_14 (by omega) (by omega) (by omega) rfl rfl ?_
      refine r_aload_n (pc := 107) dX1_person_107 rfl rfl ?_
      refine r_getr (pc := 108) (c := 1) (k := 4) (kz := 4) hx.o cok_1 (Nat.le_of_ble_eq_true rfl) q514 ⟨rfl, rfl⟩ (Or.inl rfl) rfl (fun _ _ _ => rfl) hx.p_now dX1_person_108 ?_
      refine r_getrN (pc := 111) (c := 3) (k := 6) (kz := 6) hx.g.o cok_3 (Nat.le_of_ble_eq_true rfl) q285 ⟨rfl, rfl⟩ (Or.inl rfl) rfl (fun _ _ _ => rfl) hx.g.p_asks dX1_person_111 ?_
      refine r_iload_n (pc := 114) dX1_person_114 rfl rfl ?_
      refine r_iald (pc := 115) hx.g.t_asks (by omega) (by omega) dX1_person_115 (fun hr115 => ?_)
      rw [hx.r.asks (by omega) (by omega)] at hr115 ⊢
      refine r_ireturn (pc := 116) rfl rfl dX1_person_116 (Nat.le_of_ble_eq_true rfl) (Nat.le_of_ble_eq_true rfl) ?_
      exact hQ
    rw [if_neg w5] at hQ
    by_cases w6 : what = 6
    · subst w6
      refine r_tswIn (pc := 14) 117 dX1_person_14 (by omega) (by omega) (by omega) rfl rfl ?_
      refine r_aload_n (pc := 117) dX1_person_117 rfl rfl ?_
      refine r_getr (pc := 118) (c := 1) (k := 4) (kz := 4) hx.o cok_1 (Nat.le_of_ble_eq_true rfl) q514 ⟨rfl, rfl⟩ (Or.inl rfl) rfl (fun _ _ _ => rfl) hx.p_now dX1_person_118 ?_
      refine r_getrN (pc := 121) (c := 3) (k := 7) (kz := 7) hx.g.o cok_3 (Nat.le_of_ble_eq_true rfl) q287 ⟨rfl, rfl⟩ (Or.inl rfl) rfl (fun _ _ _ => rfl) hx.g.p_given dX1_person_121 ?_
      refine r_iload_n (pc := 124) dX1_person_124 rfl rfl ?_
      refine r_iald (pc := 125) hx.g.t_given (by omega) (by omega) dX1_person_125 (fun hr125 => ?_)
      rw [hx.r.given (by omega) (by omega)] at hr125 ⊢
      refine r_ireturn (pc := 126) rfl rfl dX1_person_126 (Nat.le_of_ble_eq_true rfl) (Nat.le_of_ble_eq_true rfl) ?_
      exact hQ
    rw [if_neg w6] at hQ
    by_cases w7 : what = 7
    · subst w7
      refine r_tswIn (pc := 14) 127 dX1_person_14 (by omega) (by omega) (by omega) rfl rfl ?_
      refine r_aload_n (pc := 127) dX1_person_127 rfl rfl ?_
      refine r_getr (pc := 128) (c := 1) (k := 4) (kz := 4) hx.o cok_1 (Nat.le_of_ble_eq_true rfl) q514 ⟨rfl, rfl⟩ (Or.inl rfl) rfl (fun _ _ _ => rfl) hx.p_now dX1_person_128 ?_
      refine r_getrN (pc := 131) (c := 3) (k := 8) (kz := 8) hx.g.o cok_3 (Nat.le_of_ble_eq_true rfl) q290 ⟨rfl, rfl⟩ (Or.inl rfl) rfl (fun _ _ _ => rfl) hx.g.p_drew dX1_person_131 ?_
      refine r_iload_n (pc := 134) dX1_person_134 rfl rfl ?_
      refine r_iald (pc := 135) hx.g.t_drew (by omega) (by omega) dX1_person_135 (fun hr135 => ?_)
      rw [hx.r.drew (by omega) (by omega)] at hr135 ⊢
      refine r_ireturn (pc := 136) rfl rfl dX1_person_136 (Nat.le_of_ble_eq_true rfl) (Nat.le_of_ble_eq_true rfl) ?_
      exact hQ
    rw [if_neg w7] at hQ
    refine r_tswOut (pc := 14) 137 dX1_person_14 (by omega) (by omega) rfl ?_
    refine r_iconst (pc := 137) dX1_person_137 ?_
    refine r_ireturn (pc := 138) rfl rfl dX1_person_138 (Nat.le_of_ble_eq_true rfl) (Nat.le_of_ble_eq_true rfl) ?_
    exact hQ
  rw [if_neg (bz_0.mp h8)] at hQ
  refine r_iconst (pc := 11) dX1_person_11 ?_
  refine r_ireturn (pc := 12) rfl rfl dX1_person_12 (Nat.le_of_ble_eq_true rfl) (Nat.le_of_ble_eq_true rfl) ?_
  exact hQ
theorem C_book (hx : XS G I P T x t σ μ) {k : Int} (hk : rg k) (hQ : Q (some (iv (if isK σ k then σ (138 + k) - 1 else -1))) I J P T z) : MC G yX1_book (ws_ yX1_book cX1_book 2 (some FieldType.int)) (d + 3) 0 0 [.ref x, iv k] I J P T z Q nX := by
  have hb := hx.b
  have ht := hx.ta
  refine MC.of (by decide) (Nat.le_of_ble_eq_true rfl) ?_
  show PW G mX1_book (rmD (d + 3) 0 0) (MZ G Q nX 0 0) 0 0 I J P T z 0 [some (.ref x), some (iv k)] []
  refine r_aload_n (pc := 0) dX1_book_0 rfl rfl ?_
  refine r_getr (pc := 1) (c := 1) (k := 3) (kz := 3) hx.o cok_1 (Nat.le_of_ble_eq_true rfl) q513 ⟨rfl, rfl⟩ (Or.inl rfl) rfl (fun _ _ _ => rfl) hx.p_table dX1_book_1 ?_
  refine r_iload_n (pc := 4) dX1_book_4 rfl rfl ?_
  refine r_callV1 (pc := 5) (C_isK hx hk fe_i) im_X2_isKind q1221 q1219 hx.tb.o rfl dX1_book_5 (Nat.le_of_ble_eq_true rfl) (Nat.le_of_ble_eq_true rfl) rfl (k_fi ?_) (fun _ _ _ _ _ _ _ hx => no_x hx)
  refine r_if_eq (pc := 8) 23 dX1_book_8 rfl bz_g (fun h8 => ?_) (fun h8 => ?_)
  · rw [if_neg (bz_0.mp h8)] at hQ
    refine r_iconst (pc := 23) dX1_book_23 ?_
    refine r_ireturn (pc := 24) rfl rfl dX1_book_24 (Nat.le_of_ble_eq_true rfl) (Nat.le_of_ble_eq_true rfl) ?_
    exact hQ
  have hp := bz_ne.mp h8
  rw [if_pos hp] at hQ
  refine r_aload_n (pc := 11) dX1_book_11 rfl rfl ?_
  refine r_getr (pc := 12) (c := 1) (k := 4) (kz := 4) hx.o cok_1 (Nat.le_of_ble_eq_true rfl) q514 ⟨rfl, rfl⟩ (Or.inl rfl) rfl (fun _ _ _ => rfl) hx.p_now dX1_book_12 ?_
  refine r_getrN (pc := 15) (c := 3) (k := 9) (kz := 9) hx.g.o cok_3 (Nat.le_of_ble_eq_true rfl) q293 ⟨rfl, rfl⟩ (Or.inl rfl) rfl (fun _ _ _ => rfl) hx.g.p_book dX1_book_15 ?_
  refine r_iload_n (pc := 18) dX1_book_18 rfl rfl ?_
  refine r_iald (pc := 19) hx.g.t_book (by omega) (by omega) dX1_book_19 (fun hr19 => ?_)
  rw [hx.r.book (by omega) (by omega)] at hr19 ⊢
  refine r_goto (pc := 20) 24 dX1_book_20 rfl ?_
  refine r_ireturn (pc := 24) rfl rfl dX1_book_24 (Nat.le_of_ble_eq_true rfl) (Nat.le_of_ble_eq_true rfl) ?_
  exact hQ
theorem C_heapAt (hx : XS G I P T x t σ μ) {i : Int} (hi : rg i) (hQ : Q (some (iv (if 0 ≤ i ∧ i ≤ σ 7 - 1 then σ (8 + i) else -1))) I J P T z) : MC G yX1_heap (ws_ yX1_heap cX1_heap 2 (some FieldType.int)) (d + 1) 0 0 [.ref x, iv i] I J P T z Q nX := by
  have hb := hx.b
  have hh := hx.r.hp
  refine MC.of (by decide) (Nat.le_of_ble_eq_true rfl) ?_
  show PW G mX1_heap (rmD (d + 1) 0 0) (MZ G Q nX 0 0) 0 0 I J P T z 0 [some (.ref x), some (iv i)] []
  refine r_iload_n (pc := 0) dX1_heap_0 rfl rfl ?_
  refine r_iconst (pc := 1) dX1_heap_1 ?_
  refine r_aload_n (pc := 2) dX1_heap_2 rfl rfl ?_
  refine r_getr (pc := 3) (c := 1) (k := 4) (kz := 4) hx.o cok_1 (Nat.le_of_ble_eq_true rfl) q514 ⟨rfl, rfl⟩ (Or.inl rfl) rfl (fun _ _ _ => rfl) hx.p_now dX1_heap_3 ?_
  refine r_callV0 (pc := 6) (C_left hx.g hx.r fe_i) im_X3_left q425 q1227 hx.g.o rfl dX1_heap_6 (Nat.le_of_ble_eq_true rfl) (Nat.le_of_ble_eq_true rfl) rfl (k_fi ?_) (fun _ _ _ _ _ _ _ hx => no_x hx)
  refine r_iconst (pc := 9) dX1_heap_9 ?_
  refine r_isub (pc := 10) dX1_heap_10 ?_
  refine r_callS3 (pc := 11) (C_isIn hi (by omega) (by omega) fe_i) im_X1_isIn q1228 dX1_heap_11 (Nat.le_of_ble_eq_true rfl) (Nat.le_of_ble_eq_true rfl) rfl (k_fi ?_) (fun _ _ _ _ _ _ _ hx => no_x hx)
  refine r_if_eq (pc := 14) 37 dX1_heap_14 rfl bz_g (fun h14 => ?_) (fun h14 => ?_)
  · rw [if_neg (bz_0.mp h14)] at hQ
    refine r_iconst (pc := 37) dX1_heap_37 ?_
    refine r_ireturn (pc := 38) rfl rfl dX1_heap_38 (Nat.le_of_ble_eq_true rfl) (Nat.le_of_ble_eq_true rfl) ?_
    exact hQ
  have hp := bz_ne.mp h14
  rw [if_pos hp] at hQ
  refine r_aload_n (pc := 17) dX1_heap_17 rfl rfl ?_
  refine r_getr (pc := 18) (c := 1) (k := 4) (kz := 4) hx.o cok_1 (Nat.le_of_ble_eq_true rfl) q514 ⟨rfl, rfl⟩ (Or.inl rfl) rfl (fun _ _ _ => rfl) hx.p_now dX1_heap_18 ?_
  refine r_getrN (pc := 21) (c := 3) (k := 10) (kz := 10) hx.g.o cok_3 (Nat.le_of_ble_eq_true rfl) q297 ⟨rfl, rfl⟩ (Or.inl rfl) rfl (fun _ _ _ => rfl) hx.g.p_heap dX1_heap_21 ?_
  refine r_aload_n (pc := 24) dX1_heap_24 rfl rfl ?_
  refine r_getr (pc := 25) (c := 1) (k := 4) (kz := 4) hx.o cok_1 (Nat.le_of_ble_eq_true rfl) q514 ⟨rfl, rfl⟩ (Or.inl rfl) rfl (fun _ _ _ => rfl) hx.p_now dX1_heap_25 ?_
  refine r_getiN (pc := 28) (c := 3) (k := 12) (kz := 12) hx.g.o cok_3 (Nat.le_of_ble_eq_true rfl) q302 ⟨rfl, rfl⟩ (Or.inl rfl) rfl (fun _ _ _ => rfl) dX1_heap_28 (fun hr28 => ?_)
  refine r_iload_n (pc := 31) dX1_heap_31 rfl rfl ?_
  refine r_iadd (pc := 32) dX1_heap_32 ?_
  refine r_iald (pc := 33) hx.g.t_heap (by omega) (by omega) dX1_heap_33 (fun hr33 => ?_)
  rw [hx.r.heap (by omega) (by omega)] at hr33 ⊢
  refine r_goto (pc := 34) 38 dX1_heap_34 rfl ?_
  refine r_ireturn (pc := 38) rfl rfl dX1_heap_38 (Nat.le_of_ble_eq_true rfl) (Nat.le_of_ble_eq_true rfl) ?_
  exact hQ
theorem C_inPlay (hx : XS G I P T x t σ μ) (hQ : Q (some (iv (σ 7 + sm (fun k => f_cards σ k) (σ 1).toNat))) I J P T z) : MC G yX1_inPlay (ws_ yX1_inPlay cX1_inPlay 3 (some FieldType.int)) (d + 2) 0 0 [.ref x] I J P T z Q nX := by
  have hb := hx.b
  have ht := hx.ta
  refine MC.of (by decide) (Nat.le_of_ble_eq_true rfl) ?_
  show PW G mX1_inPlay (rmD (d + 2) 0 0) (MZ G Q nX 0 0) 0 0 I J P T z 0 [some (.ref x), none, none] []
  refine r_aload_n (pc := 0) dX1_inPlay_0 rfl rfl ?_
  refine r_getr (pc := 1) (c := 1) (k := 4) (kz := 4) hx.o cok_1 (Nat.le_of_ble_eq_true rfl) q514 ⟨rfl, rfl⟩ (Or.inl rfl) rfl (fun _ _ _ => rfl) hx.p_now dX1_inPlay_1 ?_
  refine r_callV0 (pc := 4) (C_left hx.g hx.r fe_i) im_X3_left q425 q1227 hx.g.o rfl dX1_inPlay_4 (Nat.le_of_ble_eq_true rfl) (Nat.le_of_ble_eq_true rfl) rfl (k_fi ?_) (fun _ _ _ _ _ _ _ hx => no_x hx)
  refine r_istore_n1 (pc := 7) (Nat.le_of_ble_eq_true rfl) dX1_inPlay_7 rfl ?_
  refine r_iconst (pc := 8) dX1_inPlay_8 ?_
  refine r_istore_n2 (pc := 9) (Nat.le_of_ble_eq_true rfl) dX1_inPlay_9 rfl ?_
  have loop : ∀ (n : Nat) (i : Int), 0 ≤ i → i + n = σ 1 → PW G mX1_inPlay (rmD (d + 2) 0 0) (MZ G Q nX 0 0) 0 0 I J P T z 10 [some (.ref x), some (iv (σ 7 + sm (fun k => f_cards σ k) i.toNat)), some (iv i)] [] := by
    intro n
    induction n with
    | zero =>
      intro i h0 h1
      obtain rfl : i = σ 1 := by omega
      refine r_iload_n (pc := 10) dX1_inPlay_10 rfl rfl ?_
      refine r_aload_n (pc := 11) dX1_inPlay_11 rfl rfl ?_
      refine r_getr (pc := 12) (c := 1) (k := 3) (kz := 3) hx.o cok_1 (Nat.le_of_ble_eq_true rfl) q513 ⟨rfl, rfl⟩ (Or.inl rfl) rfl (fun _ _ _ => rfl) hx.p_table dX1_inPlay_12 ?_
      refine r_callV0 (pc := 15) (C_many hx.tb fe_i) im_X2_many q369 q1241 hx.tb.o rfl dX1_inPlay_15 (Nat.le_of_ble_eq_true rfl) (Nat.le_of_ble_eq_true rfl) rfl (k_fi ?_) (fun _ _ _ _ _ _ _ hx => no_x hx)
      rw [hx.r.ta.2.1]
      refine r_icmp_ge (pc := 18) 38 dX1_inPlay_18 rfl (by omega) (by omega) (fun h18 => ?_) (fun h18 => ?_)
      · refine r_iload_n (pc := 38) dX1_inPlay_38 rfl rfl ?_
        refine r_ireturn (pc := 39) rfl rfl dX1_inPlay_39 (Nat.le_of_ble_eq_true rfl) (Nat.le_of_ble_eq_true rfl) ?_
        exact hQ
      omega
    | succ n ih =>
      intro i h0 h1
      refine r_iload_n (pc := 10) dX1_inPlay_10 rfl rfl ?_
      refine r_aload_n (pc := 11) dX1_inPlay_11 rfl rfl ?_
      refine r_getr (pc := 12) (c := 1) (k := 3) (kz := 3) hx.o cok_1 (Nat.le_of_ble_eq_true rfl) q513 ⟨rfl, rfl⟩ (Or.inl rfl) rfl (fun _ _ _ => rfl) hx.p_table dX1_inPlay_12 ?_
      refine r_callV0 (pc := 15) (C_many hx.tb fe_i) im_X2_many q369 q1241 hx.tb.o rfl dX1_inPlay_15 (Nat.le_of_ble_eq_true rfl) (Nat.le_of_ble_eq_true rfl) rfl (k_fi ?_) (fun _ _ _ _ _ _ _ hx => no_x hx)
      rw [hx.r.ta.2.1]
      refine r_icmp_ge (pc := 18) 38 dX1_inPlay_18 rfl (by omega) (by omega) (fun h18 => ?_) (fun h18 => ?_)
      · omega
      refine r_iload_n (pc := 21) dX1_inPlay_21 rfl rfl ?_
      refine r_aload_n (pc := 22) dX1_inPlay_22 rfl rfl ?_
      refine r_getr (pc := 23) (c := 1) (k := 4) (kz := 4) hx.o cok_1 (Nat.le_of_ble_eq_true rfl) q514 ⟨rfl, rfl⟩ (Or.inl rfl) rfl (fun _ _ _ => rfl) hx.p_now dX1_inPlay_23 ?_
      refine r_iload_n (pc := 26) dX1_inPlay_26 rfl rfl ?_
      refine r_callV1 (pc := 27) (C_size hx.g hx.r (by omega) fe_i) im_X3_size q383 q1207 hx.g.o rfl dX1_inPlay_27 (Nat.le_of_ble_eq_true rfl) (Nat.le_of_ble_eq_true rfl) rfl (k_fi ?_) (fun _ _ _ _ _ _ _ hx => no_x hx)
      refine r_iadd (pc := 30) dX1_inPlay_30 ?_
      refine r_istore_n1 (pc := 31) (Nat.le_of_ble_eq_true rfl) dX1_inPlay_31 rfl ?_
      refine r_iinc2 (pc := 32) (Nat.le_of_ble_eq_true rfl) dX1_inPlay_32 rfl ?_
      refine r_goto (pc := 35) 10 dX1_inPlay_35 rfl ?_
      have := ih (i + 1) (by omega) (by omega)
      rw [← sm_succ (f := fun k => f_cards σ k) h0, ← Int.add_assoc] at this
      exact this
  have := loop (σ 1).toNat 0 (by omega) (by omega)
  simp only [Int.toNat_zero, sm, Int.add_zero] at this
  exact this
theorem C_now (hx : XS G I P T x t σ μ) {what : Int} (hw : rg what) (hQ : Q (some (iv (f_now σ what))) I J P T z) : MC G yX1_now (ws_ yX1_now cX1_now 2 (some FieldType.int)) (d + 3) 0 0 [.ref x, iv what] I J P T z Q nX := by
  have hb := hx.b
  have ht := hx.ta
  refine MC.of (by decide) (Nat.le_of_ble_eq_true rfl) ?_
  show PW G mX1_now (rmD (d + 3) 0 0) (MZ G Q nX 0 0) 0 0 I J P T z 0 [some (.ref x), some (iv what)] []
  unfold f_now at hQ
  refine r_iload_n (pc := 0) dX1_now_0 rfl rfl ?_
  by_cases w0 : what = 0
  · subst w0
    refine r_tswIn (pc := 1) 40 dX1_now_1 (by omega) (by omega) (by omega) rfl rfl ?_
    refine r_aload_n (pc := 40) dX1_now_40 rfl rfl ?_
    refine r_getr (pc := 41) (c := 1) (k := 4) (kz := 4) hx.o cok_1 (Nat.le_of_ble_eq_true rfl) q514 ⟨rfl, rfl⟩ (Or.inl rfl) rfl (fun _ _ _ => rfl) hx.p_now dX1_now_41 ?_
    refine r_getiN (pc := 44) (c := 3) (k := 14) (kz := 14) hx.g.o cok_3 (Nat.le_of_ble_eq_true rfl) q308 ⟨rfl, rfl⟩ (Or.inl rfl) rfl (fun _ _ _ => rfl) dX1_now_44 (fun hr44 => ?_)
    rw [hx.r.turn] at hr44 ⊢
    refine r_ireturn (pc := 47) rfl rfl dX1_now_47 (Nat.le_of_ble_eq_true rfl) (Nat.le_of_ble_eq_true rfl) ?_
    exact hQ
  rw [if_neg w0] at hQ
  by_cases w1 : what = 1
  · subst w1
    refine r_tswIn (pc := 1) 48 dX1_now_1 (by omega) (by omega) (by omega) rfl rfl ?_
    refine r_aload_n (pc := 48) dX1_now_48 rfl rfl ?_
    refine r_getr (pc := 49) (c := 1) (k := 4) (kz := 4) hx.o cok_1 (Nat.le_of_ble_eq_true rfl) q514 ⟨rfl, rfl⟩ (Or.inl rfl) rfl (fun _ _ _ => rfl) hx.p_now dX1_now_49 ?_
    refine r_callV0 (pc := 52) (C_left hx.g hx.r fe_i) im_X3_left q425 q1227 hx.g.o rfl dX1_now_52 (Nat.le_of_ble_eq_true rfl) (Nat.le_of_ble_eq_true rfl) rfl (k_fi ?_) (fun _ _ _ _ _ _ _ hx => no_x hx)
    refine r_ireturn (pc := 55) rfl rfl dX1_now_55 (Nat.le_of_ble_eq_true rfl) (Nat.le_of_ble_eq_true rfl) ?_
    exact hQ
  rw [if_neg w1] at hQ
  by_cases w2 : what = 2
  · subst w2
    refine r_tswIn (pc := 1) 56 dX1_now_1 (by omega) (by omega) (by omega) rfl rfl ?_
    refine r_aload_n (pc := 56) dX1_now_56 rfl rfl ?_
    refine r_getr (pc := 57) (c := 1) (k := 4) (kz := 4) hx.o cok_1 (Nat.le_of_ble_eq_true rfl) q514 ⟨rfl, rfl⟩ (Or.inl rfl) rfl (fun _ _ _ => rfl) hx.p_now dX1_now_57 ?_
    refine r_getiN (pc := 60) (c := 3) (k := 15) (kz := 15) hx.g.o cok_3 (Nat.le_of_ble_eq_true rfl) q310 ⟨rfl, rfl⟩ (Or.inl rfl) rfl (fun _ _ _ => rfl) dX1_now_60 (fun hr60 => ?_)
    rw [hx.r.askings] at hr60 ⊢
    refine r_ireturn (pc := 63) rfl rfl dX1_now_63 (Nat.le_of_ble_eq_true rfl) (Nat.le_of_ble_eq_true rfl) ?_
    exact hQ
  rw [if_neg w2] at hQ
  by_cases w3 : what = 3
  · subst w3
    refine r_tswIn (pc := 1) 64 dX1_now_1 (by omega) (by omega) (by omega) rfl rfl ?_
    refine r_aload_n (pc := 64) dX1_now_64 rfl rfl ?_
    refine r_getr (pc := 65) (c := 1) (k := 4) (kz := 4) hx.o cok_1 (Nat.le_of_ble_eq_true rfl) q514 ⟨rfl, rfl⟩ (Or.inl rfl) rfl (fun _ _ _ => rfl) hx.p_now dX1_now_65 ?_
    refine r_callV0 (pc := 68) (C_allBooks hx.g hx.r (fun k a b => (hx.w.cv.bk a b).1) fe_i) im_X3_books_2 q1235 q1233 hx.g.o rfl dX1_now_68 (Nat.le_of_ble_eq_true rfl) (Nat.le_of_ble_eq_true rfl) rfl (k_fi ?_) (fun _ _ _ _ _ _ _ hx => no_x hx)
    refine r_ireturn (pc := 71) rfl rfl dX1_now_71 (Nat.le_of_ble_eq_true rfl) (Nat.le_of_ble_eq_true rfl) ?_
    exact hQ
  rw [if_neg w3] at hQ
  by_cases w4 : what = 4
  · subst w4
    refine r_tswIn (pc := 1) 72 dX1_now_1 (by omega) (by omega) (by omega) rfl rfl ?_
    refine r_aload_n (pc := 72) dX1_now_72 rfl rfl ?_
    refine r_getr (pc := 73) (c := 1) (k := 4) (kz := 4) hx.o cok_1 (Nat.le_of_ble_eq_true rfl) q514 ⟨rfl, rfl⟩ (Or.inl rfl) rfl (fun _ _ _ => rfl) hx.p_now dX1_now_73 ?_
    refine r_getiN (pc := 76) (c := 3) (k := 16) (kz := 16) hx.g.o cok_3 (Nat.le_of_ble_eq_true rfl) q313 ⟨rfl, rfl⟩ (Or.inl rfl) rfl (fun _ _ _ => rfl) dX1_now_76 (fun hr76 => ?_)
    rw [hx.r.vain] at hr76 ⊢
    refine r_ireturn (pc := 79) rfl rfl dX1_now_79 (Nat.le_of_ble_eq_true rfl) (Nat.le_of_ble_eq_true rfl) ?_
    exact hQ
  rw [if_neg w4] at hQ
  by_cases w5 : what = 5
  · subst w5
    refine r_tswIn (pc := 1) 80 dX1_now_1 (by omega) (by omega) (by omega) rfl rfl ?_
    refine r_aload_n (pc := 80) dX1_now_80 rfl rfl ?_
    refine r_callV0 (pc := 81) (C_inPlay hx fe_i) im_X1_inPlay qs24 q1237 hx.o rfl dX1_now_81 (Nat.le_of_ble_eq_true rfl) (Nat.le_of_ble_eq_true rfl) rfl (k_fi ?_) (fun _ _ _ _ _ _ _ hx => no_x hx)
    refine r_ireturn (pc := 84) rfl rfl dX1_now_84 (Nat.le_of_ble_eq_true rfl) (Nat.le_of_ble_eq_true rfl) ?_
    exact hQ
  rw [if_neg w5] at hQ
  refine r_tswOut (pc := 1) 85 dX1_now_1 (by omega) (by omega) rfl ?_
  refine r_iconst (pc := 85) dX1_now_85 ?_
  refine r_ireturn (pc := 86) rfl rfl dX1_now_86 (Nat.le_of_ble_eq_true rfl) (Nat.le_of_ble_eq_true rfl) ?_
  exact hQ
theorem C_areTold (hx : XS G I P T x t σ μ) {a b k : Int} (ha : rg a) (hb2 : rg b) (hk : rg k) (hQ : Q (some (iv (bz (isP σ a ∧ isP σ b ∧ isK σ k)))) I J P T z) : MC G yX1_areTold (ws_ yX1_areTold cX1_areTold 4 (some FieldType.boolean)) (d + 3) 0 0 [.ref x, iv a, iv b, iv k] I J P T z Q nX := by
  have hb := hx.b
  refine MC.of (by decide) (Nat.le_of_ble_eq_true rfl) ?_
  show PW G mX1_areTold (rmD (d + 3) 0 0) (MZ G Q nX 0 0) 0 0 I J P T z 0 [some (.ref x), some (iv a), some (iv b), some (iv k)] []
  refine r_aload_n (pc := 0) dX1_areTold_0 rfl rfl ?_
  refine r_getr (pc := 1) (c := 1) (k := 3) (kz := 3) hx.o cok_1 (Nat.le_of_ble_eq_true rfl) q513 ⟨rfl, rfl⟩ (Or.inl rfl) rfl (fun _ _ _ => rfl) hx.p_table dX1_areTold_1 ?_
  refine r_iload_n (pc := 4) dX1_areTold_4 rfl rfl ?_
  refine r_callV1 (pc := 5) (C_isP hx ha fe_i) im_X2_isPerson q1203 q1201 hx.tb.o rfl dX1_areTold_5 (Nat.le_of_ble_eq_true rfl) (Nat.le_of_ble_eq_true rfl) rfl (k_fi ?_) (fun _ _ _ _ _ _ _ hx => no_x hx)
  refine r_if_eq (pc := 8) 37 dX1_areTold_8 rfl bz_g (fun h8 => ?_) (fun h8 => ?_)
  · rw [bz_f (fun q => bz_0.mp h8 q.1)] at hQ
    refine r_iconst (pc := 37) dX1_areTold_37 ?_
    refine r_ireturn (pc := 38) rfl (by decide +kernel) dX1_areTold_38 (Nat.le_of_ble_eq_true rfl) (Nat.le_of_ble_eq_true rfl) ?_
    exact hQ
  refine r_aload_n (pc := 11) dX1_areTold_11 rfl rfl ?_
  refine r_getr (pc := 12) (c := 1) (k := 3) (kz := 3) hx.o cok_1 (Nat.le_of_ble_eq_true rfl) q513 ⟨rfl, rfl⟩ (Or.inl rfl) rfl (fun _ _ _ => rfl) hx.p_table dX1_areTold_12 ?_
  refine r_iload_n (pc := 15) dX1_areTold_15 rfl rfl ?_
  refine r_callV1 (pc := 16) (C_isP hx hb2 fe_i) im_X2_isPerson q1203 q1201 hx.tb.o rfl dX1_areTold_16 (Nat.le_of_ble_eq_true rfl) (Nat.le_of_ble_eq_true rfl) rfl (k_fi ?_) (fun _ _ _ _ _ _ _ hx => no_x hx)
  refine r_if_eq (pc := 19) 37 dX1_areTold_19 rfl bz_g (fun h19 => ?_) (fun h19 => ?_)
  · rw [bz_f (fun q => bz_0.mp h19 q.2.1)] at hQ
    refine r_iconst (pc := 37) dX1_areTold_37 ?_
    refine r_ireturn (pc := 38) rfl (by decide +kernel) dX1_areTold_38 (Nat.le_of_ble_eq_true rfl) (Nat.le_of_ble_eq_true rfl) ?_
    exact hQ
  refine r_aload_n (pc := 22) dX1_areTold_22 rfl rfl ?_
  refine r_getr (pc := 23) (c := 1) (k := 3) (kz := 3) hx.o cok_1 (Nat.le_of_ble_eq_true rfl) q513 ⟨rfl, rfl⟩ (Or.inl rfl) rfl (fun _ _ _ => rfl) hx.p_table dX1_areTold_23 ?_
  refine r_iload_n (pc := 26) dX1_areTold_26 rfl rfl ?_
  refine r_callV1 (pc := 27) (C_isK hx hk fe_i) im_X2_isKind q1221 q1219 hx.tb.o rfl dX1_areTold_27 (Nat.le_of_ble_eq_true rfl) (Nat.le_of_ble_eq_true rfl) rfl (k_fi ?_) (fun _ _ _ _ _ _ _ hx => no_x hx)
  refine r_if_eq (pc := 30) 37 dX1_areTold_30 rfl bz_g (fun h30 => ?_) (fun h30 => ?_)
  · rw [bz_f (fun q => bz_0.mp h30 q.2.2)] at hQ
    refine r_iconst (pc := 37) dX1_areTold_37 ?_
    refine r_ireturn (pc := 38) rfl (by decide +kernel) dX1_areTold_38 (Nat.le_of_ble_eq_true rfl) (Nat.le_of_ble_eq_true rfl) ?_
    exact hQ
  rw [bz_t ⟨bz_ne.mp h8, bz_ne.mp h19, bz_ne.mp h30⟩] at hQ
  refine r_iconst (pc := 33) dX1_areTold_33 ?_
  refine r_goto (pc := 34) 38 dX1_areTold_34 rfl ?_
  refine r_ireturn (pc := 38) rfl (by decide +kernel) dX1_areTold_38 (Nat.le_of_ble_eq_true rfl) (Nat.le_of_ble_eq_true rfl) ?_
  exact hQ
theorem C_why (hx : XS G I P T x t σ μ) {a b k : Int} (ha : rg a) (hb2 : rg b) (hk : rg k) (hQ : Q (some (iv (if isP σ a ∧ isP σ b ∧ isK σ k then f_why σ a b k else -1))) I J P T z) : MC G yX1_why (ws_ yX1_why cX1_why 4 (some FieldType.int)) (d + 4) 0 0 [.ref x, iv a, iv b, iv k] I J P T z Q nX := by
  have hb := hx.b
  have ht := hx.ta
  refine MC.of (by decide) (Nat.le_of_ble_eq_true rfl) ?_
  show PW G mX1_why (rmD (d + 4) 0 0) (MZ G Q nX 0 0) 0 0 I J P T z 0 [some (.ref x), some (iv a), some (iv b), some (iv k)] []
  refine r_aload_n (pc := 0) dX1_why_0 rfl rfl ?_
  refine r_iload_n (pc := 1) dX1_why_1 rfl rfl ?_
  refine r_iload_n (pc := 2) dX1_why_2 rfl rfl ?_
  refine r_iload_n (pc := 3) dX1_why_3 rfl rfl ?_
  refine r_callV3 (pc := 4) (C_areTold hx ha hb2 hk fe_i) im_X1_areTold qs25 q1246 hx.o rfl dX1_why_4 (Nat.le_of_ble_eq_true rfl) (Nat.le_of_ble_eq_true rfl) rfl (k_fi ?_) (fun _ _ _ _ _ _ _ hx => no_x hx)
  refine r_if_eq (pc := 7) 23 dX1_why_7 rfl bz_g (fun h7 => ?_) (fun h7 => ?_)
  · rw [if_neg (bz_0.mp h7)] at hQ
    refine r_iconst (pc := 23) dX1_why_23 ?_
    refine r_ireturn (pc := 24) rfl rfl dX1_why_24 (Nat.le_of_ble_eq_true rfl) (Nat.le_of_ble_eq_true rfl) ?_
    exact hQ
  have hp := bz_ne.mp h7
  rw [if_pos hp] at hQ
  refine r_aload_n (pc := 10) dX1_why_10 rfl rfl ?_
  refine r_getr (pc := 11) (c := 1) (k := 4) (kz := 4) hx.o cok_1 (Nat.le_of_ble_eq_true rfl) q514 ⟨rfl, rfl⟩ (Or.inl rfl) rfl (fun _ _ _ => rfl) hx.p_now dX1_why_11 ?_
  refine r_iload_n (pc := 14) dX1_why_14 rfl rfl ?_
  refine r_iload_n (pc := 15) dX1_why_15 rfl rfl ?_
  refine r_iload_n (pc := 16) dX1_why_16 rfl rfl ?_
  refine r_callV3 (pc := 17) (C_whyNot hx.g hx.r (by omega) (by omega) (by omega) fe_i) im_X3_whyNot q1252 q1250 hx.g.o rfl dX1_why_17 (Nat.le_of_ble_eq_true rfl) (Nat.le_of_ble_eq_true rfl) rfl (k_fi ?_) (fun _ _ _ _ _ _ _ hx => no_x hx)
  refine r_goto (pc := 20) 24 dX1_why_20 rfl ?_
  refine r_ireturn (pc := 24) rfl rfl dX1_why_24 (Nat.le_of_ble_eq_true rfl) (Nat.le_of_ble_eq_true rfl) ?_
  exact hQ
theorem C_known (hx : XS G I P T x t σ μ) {p k : Int} (hp2 : rg p) (hk : rg k) (hQ : Q (some (iv (if isP σ p ∧ isK σ k then σ (151 + 13 * p + k) else -1))) I J P T z) : MC G yX1_known (ws_ yX1_known cX1_known 3 (some FieldType.int)) (d + 3) 0 0 [.ref x, iv p, iv k] I J P T z Q nX := by
  have hb := hx.b
  have ht := hx.ta
  refine MC.of (by decide) (Nat.le_of_ble_eq_true rfl) ?_
  show PW G mX1_known (rmD (d + 3) 0 0) (MZ G Q nX 0 0) 0 0 I J P T z 0 [some (.ref x), some (iv p), some (iv k)] []
  refine r_aload_n (pc := 0) dX1_known_0 rfl rfl ?_
  refine r_getr (pc := 1) (c := 1) (k := 3) (kz := 3) hx.o cok_1 (Nat.le_of_ble_eq_true rfl) q513 ⟨rfl, rfl⟩ (Or.inl rfl) rfl (fun _ _ _ => rfl) hx.p_table dX1_known_1 ?_
  refine r_iload_n (pc := 4) dX1_known_4 rfl rfl ?_
  refine r_callV1 (pc := 5) (C_isP hx hp2 fe_i) im_X2_isPerson q1203 q1201 hx.tb.o rfl dX1_known_5 (Nat.le_of_ble_eq_true rfl) (Nat.le_of_ble_eq_true rfl) rfl (k_fi ?_) (fun _ _ _ _ _ _ _ hx => no_x hx)
  refine r_if_eq (pc := 8) 36 dX1_known_8 rfl bz_g (fun h8 => ?_) (fun h8 => ?_)
  · rw [if_neg (fun q => bz_0.mp h8 q.1)] at hQ
    refine r_iconst (pc := 36) dX1_known_36 ?_
    refine r_ireturn (pc := 37) rfl rfl dX1_known_37 (Nat.le_of_ble_eq_true rfl) (Nat.le_of_ble_eq_true rfl) ?_
    exact hQ
  refine r_aload_n (pc := 11) dX1_known_11 rfl rfl ?_
  refine r_getr (pc := 12) (c := 1) (k := 3) (kz := 3) hx.o cok_1 (Nat.le_of_ble_eq_true rfl) q513 ⟨rfl, rfl⟩ (Or.inl rfl) rfl (fun _ _ _ => rfl) hx.p_table dX1_known_12 ?_
  refine r_iload_n (pc := 15) dX1_known_15 rfl rfl ?_
  refine r_callV1 (pc := 16) (C_isK hx hk fe_i) im_X2_isKind q1221 q1219 hx.tb.o rfl dX1_known_16 (Nat.le_of_ble_eq_true rfl) (Nat.le_of_ble_eq_true rfl) rfl (k_fi ?_) (fun _ _ _ _ _ _ _ hx => no_x hx)
  refine r_if_eq (pc := 19) 36 dX1_known_19 rfl bz_g (fun h19 => ?_) (fun h19 => ?_)
  · rw [if_neg (fun q => bz_0.mp h19 q.2)] at hQ
    refine r_iconst (pc := 36) dX1_known_36 ?_
    refine r_ireturn (pc := 37) rfl rfl dX1_known_37 (Nat.le_of_ble_eq_true rfl) (Nat.le_of_ble_eq_true rfl) ?_
    exact hQ
  have q1 := bz_ne.mp h8
  have q2 := bz_ne.mp h19
  rw [if_pos ⟨q1, q2⟩] at hQ
  refine r_aload_n (pc := 22) dX1_known_22 rfl rfl ?_
  refine r_getr (pc := 23) (c := 1) (k := 4) (kz := 4) hx.o cok_1 (Nat.le_of_ble_eq_true rfl) q514 ⟨rfl, rfl⟩ (Or.inl rfl) rfl (fun _ _ _ => rfl) hx.p_now dX1_known_23 ?_
  refine r_getrN (pc := 26) (c := 3) (k := 2) (kz := 2) hx.g.o cok_3 (Nat.le_of_ble_eq_true rfl) q277 ⟨rfl, rfl⟩ (Or.inl rfl) rfl (fun _ _ _ => rfl) hx.g.p_known dX1_known_26 ?_
  refine r_iload_n (pc := 29) dX1_known_29 rfl rfl ?_
  refine r_aald (pc := 30) hx.g.t_known ⟨by decide, by decide⟩ rfl (fun _ _ _ => rfl) (by omega) (by omega) (hx.g.q_known (by omega) (by omega)) dX1_known_30 ?_
  refine r_iload_n (pc := 31) dX1_known_31 rfl rfl ?_
  refine r_iald (pc := 32) (hx.g.u_known (by omega) (by omega)) (by omega) (by omega) dX1_known_32 (fun hr32 => ?_)
  rw [hx.r.known (by omega) (by omega) (by omega) (by omega)] at hr32 ⊢
  refine r_goto (pc := 33) 37 dX1_known_33 rfl ?_
  refine r_ireturn (pc := 37) rfl rfl dX1_known_37 (Nat.le_of_ble_eq_true rfl) (Nat.le_of_ble_eq_true rfl) ?_
  exact hQ
theorem C_canF (hx : XS G I P T x t σ μ) {p k : Int} (hp2 : rg p) (hk : rg k) (hQ : Q (some (iv (if isP σ p ∧ isK σ k then sm (fun j => bz (¬ tb (σ (235 + 52 * p + j)) k)) (σ (229 + p)).toNat else -1))) I J P T z) : MC G yX1_can (ws_ yX1_can cX1_can 3 (some FieldType.int)) (d + 3) 0 0 [.ref x, iv p, iv k] I J P T z Q nX := by
  have hb := hx.b
  have ht := hx.ta
  refine MC.of (by decide) (Nat.le_of_ble_eq_true rfl) ?_
  show PW G mX1_can (rmD (d + 3) 0 0) (MZ G Q nX 0 0) 0 0 I J P T z 0 [some (.ref x), some (iv p), some (iv k)] []
  refine r_aload_n (pc := 0) dX1_can_0 rfl rfl ?_
  refine r_getr (pc := 1) (c := 1) (k := 3) (kz := 3) hx.o cok_1 (Nat.le_of_ble_eq_true rfl) q513 ⟨rfl, rfl⟩ (Or.inl rfl) rfl (fun _ _ _ => rfl) hx.p_table dX1_can_1 ?_
  refine r_iload_n (pc := 4) dX1_can_4 rfl rfl ?_
  refine r_callV1 (pc := 5) (C_isP hx hp2 fe_i) im_X2_isPerson q1203 q1201 hx.tb.o rfl dX1_can_5 (Nat.le_of_ble_eq_true rfl) (Nat.le_of_ble_eq_true rfl) rfl (k_fi ?_) (fun _ _ _ _ _ _ _ hx => no_x hx)
  refine r_if_eq (pc := 8) 34 dX1_can_8 rfl bz_g (fun h8 => ?_) (fun h8 => ?_)
  · rw [if_neg (fun q => bz_0.mp h8 q.1)] at hQ
    refine r_iconst (pc := 34) dX1_can_34 ?_
    refine r_ireturn (pc := 35) rfl rfl dX1_can_35 (Nat.le_of_ble_eq_true rfl) (Nat.le_of_ble_eq_true rfl) ?_
    exact hQ
  refine r_aload_n (pc := 11) dX1_can_11 rfl rfl ?_
  refine r_getr (pc := 12) (c := 1) (k := 3) (kz := 3) hx.o cok_1 (Nat.le_of_ble_eq_true rfl) q513 ⟨rfl, rfl⟩ (Or.inl rfl) rfl (fun _ _ _ => rfl) hx.p_table dX1_can_12 ?_
  refine r_iload_n (pc := 15) dX1_can_15 rfl rfl ?_
  refine r_callV1 (pc := 16) (C_isK hx hk fe_i) im_X2_isKind q1221 q1219 hx.tb.o rfl dX1_can_16 (Nat.le_of_ble_eq_true rfl) (Nat.le_of_ble_eq_true rfl) rfl (k_fi ?_) (fun _ _ _ _ _ _ _ hx => no_x hx)
  refine r_if_eq (pc := 19) 34 dX1_can_19 rfl bz_g (fun h19 => ?_) (fun h19 => ?_)
  · rw [if_neg (fun q => bz_0.mp h19 q.2)] at hQ
    refine r_iconst (pc := 34) dX1_can_34 ?_
    refine r_ireturn (pc := 35) rfl rfl dX1_can_35 (Nat.le_of_ble_eq_true rfl) (Nat.le_of_ble_eq_true rfl) ?_
    exact hQ
  have q1 := bz_ne.mp h8
  have q2 := bz_ne.mp h19
  have hcd := hx.w.cv.cd (p := p) (by omega) (by omega)
  rw [if_pos ⟨q1, q2⟩] at hQ
  refine r_aload_n (pc := 22) dX1_can_22 rfl rfl ?_
  refine r_getr (pc := 23) (c := 1) (k := 4) (kz := 4) hx.o cok_1 (Nat.le_of_ble_eq_true rfl) q514 ⟨rfl, rfl⟩ (Or.inl rfl) rfl (fun _ _ _ => rfl) hx.p_now dX1_can_23 ?_
  refine r_iload_n (pc := 26) dX1_can_26 rfl rfl ?_
  refine r_iload_n (pc := 27) dX1_can_27 rfl rfl ?_
  refine r_callV2 (pc := 28) (C_can hx.g hx.r (by omega) (by omega) (by omega) fe_i) im_X3_can q1276 q1311 hx.g.o rfl dX1_can_28 (Nat.le_of_ble_eq_true rfl) (Nat.le_of_ble_eq_true rfl) rfl (k_fi ?_) (fun _ _ _ _ _ _ _ hx => no_x hx)
  refine r_goto (pc := 31) 35 dX1_can_31 rfl ?_
  refine r_ireturn (pc := 35) rfl rfl dX1_can_35 (Nat.le_of_ble_eq_true rfl) (Nat.le_of_ble_eq_true rfl) ?_
  exact hQ
theorem C_leader (hx : XS G I P T x t σ μ) (hQ : Q (some (iv (f_lead σ (-1) 0 (σ 1).toNat))) I J P T z) : MC G yX1_leader (ws_ yX1_leader cX1_leader 3 (some FieldType.int)) (d + 2) 0 0 [.ref x] I J P T z Q nX := by
  have hb := hx.b
  have ht := hx.ta
  refine MC.of (by decide) (Nat.le_of_ble_eq_true rfl) ?_
  show PW G mX1_leader (rmD (d + 2) 0 0) (MZ G Q nX 0 0) 0 0 I J P T z 0 [some (.ref x), none, none] []
  refine r_iconst (pc := 0) dX1_leader_0 ?_
  refine r_istore_n1 (pc := 1) (Nat.le_of_ble_eq_true rfl) dX1_leader_1 rfl ?_
  refine r_iconst (pc := 2) dX1_leader_2 ?_
  refine r_istore_n2 (pc := 3) (Nat.le_of_ble_eq_true rfl) dX1_leader_3 rfl ?_
  have loop : ∀ (n : Nat) (best i : Int), 0 ≤ i → i + n = σ 1 → (best = -1 ∨ 0 ≤ best ∧ best < i) → Q (some (iv (f_lead σ best i n))) I J P T z → PW G mX1_leader (rmD (d + 2) 0 0) (MZ G Q nX 0 0) 0 0 I J P T z 4 [some (.ref x), some (iv best), some (iv i)] [] := by
    intro n
    induction n with
    | zero =>
      intro best i h0 h1 hbst hQ
      refine r_iload_n (pc := 4) dX1_leader_4 rfl rfl ?_
      refine r_aload_n (pc := 5) dX1_leader_5 rfl rfl ?_
      refine r_getr (pc := 6) (c := 1) (k := 3) (kz := 3) hx.o cok_1 (Nat.le_of_ble_eq_true rfl) q513 ⟨rfl, rfl⟩ (Or.inl rfl) rfl (fun _ _ _ => rfl) hx.p_table dX1_leader_6 ?_
      refine r_callV0 (pc := 9) (C_many hx.tb fe_i) im_X2_many q369 q1241 hx.tb.o rfl dX1_leader_9 (Nat.le_of_ble_eq_true rfl) (Nat.le_of_ble_eq_true rfl) rfl (k_fi ?_) (fun _ _ _ _ _ _ _ hx => no_x hx)
      rw [hx.r.ta.2.1]
      refine r_icmp_ge (pc := 12) 47 dX1_leader_12 rfl (by omega) (by omega) (fun h12 => ?_) (fun h12 => ?_)
      · refine r_iload_n (pc := 47) dX1_leader_47 rfl rfl ?_
        refine r_ireturn (pc := 48) rfl rfl dX1_leader_48 (Nat.le_of_ble_eq_true rfl) (Nat.le_of_ble_eq_true rfl) ?_
        exact hQ
      omega
    | succ n ih =>
      intro best i h0 h1 hbst hQ
      simp only [f_lead] at hQ
      refine r_iload_n (pc := 4) dX1_leader_4 rfl rfl ?_
      refine r_aload_n (pc := 5) dX1_leader_5 rfl rfl ?_
      refine r_getr (pc := 6) (c := 1) (k := 3) (kz := 3) hx.o cok_1 (Nat.le_of_ble_eq_true rfl) q513 ⟨rfl, rfl⟩ (Or.inl rfl) rfl (fun _ _ _ => rfl) hx.p_table dX1_leader_6 ?_
      refine r_callV0 (pc := 9) (C_many hx.tb fe_i) im_X2_many q369 q1241 hx.tb.o rfl dX1_leader_9 (Nat.le_of_ble_eq_true rfl) (Nat.le_of_ble_eq_true rfl) rfl (k_fi ?_) (fun _ _ _ _ _ _ _ hx => no_x hx)
      rw [hx.r.ta.2.1]
      refine r_icmp_ge (pc := 12) 47 dX1_leader_12 rfl (by omega) (by omega) (fun h12 => ?_) (fun h12 => ?_)
      · omega
      have b1 := f_booksOf_r (σ := σ) (k := i)
      have b2 := f_booksOf_r (σ := σ) (k := best)
      refine r_iload_n (pc := 15) dX1_leader_15 rfl rfl ?_
      refine r_iconst (pc := 16) dX1_leader_16 ?_
      refine r_icmp_eq (pc := 17) 39 dX1_leader_17 rfl (by omega) (by omega) (fun h17 => ?_) (fun h17 => ?_)
      · rw [if_pos (by omega)] at hQ
        refine r_iload_n (pc := 39) dX1_leader_39 rfl rfl ?_
        refine r_istore_n1 (pc := 40) (Nat.le_of_ble_eq_true rfl) dX1_leader_40 rfl ?_
        refine r_iinc2 (pc := 41) (Nat.le_of_ble_eq_true rfl) dX1_leader_41 rfl ?_
        refine r_goto (pc := 44) 4 dX1_leader_44 rfl ?_
        exact ih i (i + 1) (by omega) (by omega) (by omega) hQ
      refine r_aload_n (pc := 20) dX1_leader_20 rfl rfl ?_
      refine r_getr (pc := 21) (c := 1) (k := 4) (kz := 4) hx.o cok_1 (Nat.le_of_ble_eq_true rfl) q514 ⟨rfl, rfl⟩ (Or.inl rfl) rfl (fun _ _ _ => rfl) hx.p_now dX1_leader_21 ?_
      refine r_iload_n (pc := 24) dX1_leader_24 rfl rfl ?_
      refine r_callV1 (pc := 25) (C_booksOf hx.g hx.r (by omega) fe_i) im_X3_booksOf q1210 q1208 hx.g.o rfl dX1_leader_25 (Nat.le_of_ble_eq_true rfl) (Nat.le_of_ble_eq_true rfl) rfl (k_fi ?_) (fun _ _ _ _ _ _ _ hx => no_x hx)
      refine r_aload_n (pc := 28) dX1_leader_28 rfl rfl ?_
      refine r_getr (pc := 29) (c := 1) (k := 4) (kz := 4) hx.o cok_1 (Nat.le_of_ble_eq_true rfl) q514 ⟨rfl, rfl⟩ (Or.inl rfl) rfl (fun _ _ _ => rfl) hx.p_now dX1_leader_29 ?_
      refine r_iload_n (pc := 32) dX1_leader_32 rfl rfl ?_
      refine r_callV1 (pc := 33) (C_booksOf hx.g hx.r (by omega) fe_i) im_X3_booksOf q1210 q1208 hx.g.o rfl dX1_leader_33 (Nat.le_of_ble_eq_true rfl) (Nat.le_of_ble_eq_true rfl) rfl (k_fi ?_) (fun _ _ _ _ _ _ _ hx => no_x hx)
      refine r_icmp_le (pc := 36) 41 dX1_leader_36 rfl (by omega) (by omega) (fun h36 => ?_) (fun h36 => ?_)
      · rw [if_neg (by omega)] at hQ
        refine r_iinc2 (pc := 41) (Nat.le_of_ble_eq_true rfl) dX1_leader_41 rfl ?_
        refine r_goto (pc := 44) 4 dX1_leader_44 rfl ?_
        exact ih best (i + 1) (by omega) (by omega) (by omega) hQ
      rw [if_pos (by omega)] at hQ
      refine r_iload_n (pc := 39) dX1_leader_39 rfl rfl ?_
      refine r_istore_n1 (pc := 40) (Nat.le_of_ble_eq_true rfl) dX1_leader_40 rfl ?_
      refine r_iinc2 (pc := 41) (Nat.le_of_ble_eq_true rfl) dX1_leader_41 rfl ?_
      refine r_goto (pc := 44) 4 dX1_leader_44 rfl ?_
      exact ih i (i + 1) (by omega) (by omega) (by omega) hQ
  exact loop (σ 1).toNat (-1) 0 (by omega) (by omega) (Or.inl rfl) hQ
theorem C_asked (hx : XS G I P T x t σ μ) {i : Int} (hi : rg i) (hQ : Q (some (iv (if 0 ≤ i ∧ i ≤ 7 then I (x + 76) i else -1))) I J P T z) : MC G yX1_asked (ws_ yX1_asked cX1_asked 2 (some FieldType.int)) (d + 1) 0 0 [.ref x, iv i] I J P T z Q nX := by
  have hb := hx.b
  refine MC.of (by decide) (Nat.le_of_ble_eq_true rfl) ?_
  show PW G mX1_asked (rmD (d + 1) 0 0) (MZ G Q nX 0 0) 0 0 I J P T z 0 [some (.ref x), some (iv i)] []
  refine r_iload_n (pc := 0) dX1_asked_0 rfl rfl ?_
  refine r_iconst (pc := 1) dX1_asked_1 ?_
  refine r_bipush (pc := 2) dX1_asked_2 (by decide +kernel) ?_
  refine r_callS3 (pc := 4) (C_isIn hi (by omega) (by omega) fe_i) im_X1_isIn q1228 dX1_asked_4 (Nat.le_of_ble_eq_true rfl) (Nat.le_of_ble_eq_true rfl) rfl (k_fi ?_) (fun _ _ _ _ _ _ _ hx => no_x hx)
  refine r_if_eq (pc := 7) 19 dX1_asked_7 rfl bz_g (fun h7 => ?_) (fun h7 => ?_)
  · rw [if_neg (bz_0.mp h7)] at hQ
    refine r_iconst (pc := 19) dX1_asked_19 ?_
    refine r_ireturn (pc := 20) rfl rfl dX1_asked_20 (Nat.le_of_ble_eq_true rfl) (Nat.le_of_ble_eq_true rfl) ?_
    exact hQ
  have q1 := bz_ne.mp h7
  rw [if_pos q1] at hQ
  refine r_aload_n (pc := 10) dX1_asked_10 rfl rfl ?_
  refine r_getr (pc := 11) (c := 1) (k := 9) (kz := 9) hx.o cok_1 (Nat.le_of_ble_eq_true rfl) q519 ⟨rfl, rfl⟩ (Or.inl rfl) rfl (fun _ _ _ => rfl) hx.p_asked dX1_asked_11 ?_
  refine r_iload_n (pc := 14) dX1_asked_14 rfl rfl ?_
  refine r_iald (pc := 15) hx.t_asked (by omega) (by omega) dX1_asked_15 (fun hr15 => ?_)
  refine r_goto (pc := 16) 20 dX1_asked_16 rfl ?_
  refine r_ireturn (pc := 20) rfl rfl dX1_asked_20 (Nat.le_of_ble_eq_true rfl) (Nat.le_of_ble_eq_true rfl) ?_
  exact hQ
theorem C_heard (hx : XS G I P T x t σ μ) {i : Int} (hi : rg i) (hQ : Q (some (iv (if 0 ≤ i ∧ i ≤ 3 then I (x + 90) i else -1))) I J P T z) : MC G yX1_heard (ws_ yX1_heard cX1_heard 2 (some FieldType.int)) (d + 1) 0 0 [.ref x, iv i] I J P T z Q nX := by
  have hb := hx.b
  refine MC.of (by decide) (Nat.le_of_ble_eq_true rfl) ?_
  show PW G mX1_heard (rmD (d + 1) 0 0) (MZ G Q nX 0 0) 0 0 I J P T z 0 [some (.ref x), some (iv i)] []
  refine r_iload_n (pc := 0) dX1_heard_0 rfl rfl ?_
  refine r_iconst (pc := 1) dX1_heard_1 ?_
  refine r_iconst (pc := 2) dX1_heard_2 ?_
  refine r_callS3 (pc := 3) (C_isIn hi (by omega) (by omega) fe_i) im_X1_isIn q1228 dX1_heard_3 (Nat.le_of_ble_eq_true rfl) (Nat.le_of_ble_eq_true rfl) rfl (k_fi ?_) (fun _ _ _ _ _ _ _ hx => no_x hx)
  refine r_if_eq (pc := 6) 18 dX1_heard_6 rfl bz_g (fun h6 => ?_) (fun h6 => ?_)
  · rw [if_neg (bz_0.mp h6)] at hQ
    refine r_iconst (pc := 18) dX1_heard_18 ?_
    refine r_ireturn (pc := 19) rfl rfl dX1_heard_19 (Nat.le_of_ble_eq_true rfl) (Nat.le_of_ble_eq_true rfl) ?_
    exact hQ
  have q1 := bz_ne.mp h6
  rw [if_pos q1] at hQ
  refine r_aload_n (pc := 9) dX1_heard_9 rfl rfl ?_
  refine r_getr (pc := 10) (c := 1) (k := 22) (kz := 22) hx.o cok_1 (Nat.le_of_ble_eq_true rfl) q532 ⟨rfl, rfl⟩ (Or.inl rfl) rfl (fun _ _ _ => rfl) hx.p_heard dX1_heard_10 ?_
  refine r_iload_n (pc := 13) dX1_heard_13 rfl rfl ?_
  refine r_iald (pc := 14) hx.t_heard (by omega) (by omega) dX1_heard_14 (fun hr14 => ?_)
  refine r_goto (pc := 15) 19 dX1_heard_15 rfl ?_
  refine r_ireturn (pc := 19) rfl rfl dX1_heard_19 (Nat.le_of_ble_eq_true rfl) (Nat.le_of_ble_eq_true rfl) ?_
  exact hQ
theorem C_swept (hx : XS G I P T x t σ μ) {i : Int} (hi : rg i) (h18 : 0 ≤ I x 18 ∧ I x 18 ≤ 78) (hQ : Q (some (iv (if 0 ≤ i ∧ i ≤ I x 18 - 1 then I (x + 82) i else -1))) I J P T z) : MC G yX1_swept (ws_ yX1_swept cX1_swept 2 (some FieldType.int)) (d + 1) 0 0 [.ref x, iv i] I J P T z Q nX := by
  have hb := hx.b
  refine MC.of (by decide) (Nat.le_of_ble_eq_true rfl) ?_
  show PW G mX1_swept (rmD (d + 1) 0 0) (MZ G Q nX 0 0) 0 0 I J P T z 0 [some (.ref x), some (iv i)] []
  refine r_iload_n (pc := 0) dX1_swept_0 rfl rfl ?_
  refine r_iconst (pc := 1) dX1_swept_1 ?_
  refine r_aload_n (pc := 2) dX1_swept_2 rfl rfl ?_
  refine r_geti (pc := 3) (c := 1) (k := 18) (kz := 18) hx.o cok_1 (Nat.le_of_ble_eq_true rfl) q528 ⟨rfl, rfl⟩ (Or.inl rfl) rfl (fun _ _ _ => rfl) dX1_swept_3 (fun hr3 => ?_)
  refine r_iconst (pc := 6) dX1_swept_6 ?_
  refine r_isub (pc := 7) dX1_swept_7 ?_
  refine r_callS3 (pc := 8) (C_isIn hi (by omega) (by omega) fe_i) im_X1_isIn q1228 dX1_swept_8 (Nat.le_of_ble_eq_true rfl) (Nat.le_of_ble_eq_true rfl) rfl (k_fi ?_) (fun _ _ _ _ _ _ _ hx => no_x hx)
  refine r_if_eq (pc := 11) 23 dX1_swept_11 rfl bz_g (fun h11 => ?_) (fun h11 => ?_)
  · rw [if_neg (bz_0.mp h11)] at hQ
    refine r_iconst (pc := 23) dX1_swept_23 ?_
    refine r_ireturn (pc := 24) rfl rfl dX1_swept_24 (Nat.le_of_ble_eq_true rfl) (Nat.le_of_ble_eq_true rfl) ?_
    exact hQ
  have q1 := bz_ne.mp h11
  rw [if_pos q1] at hQ
  refine r_aload_n (pc := 14) dX1_swept_14 rfl rfl ?_
  refine r_getr (pc := 15) (c := 1) (k := 17) (kz := 17) hx.o cok_1 (Nat.le_of_ble_eq_true rfl) q527 ⟨rfl, rfl⟩ (Or.inl rfl) rfl (fun _ _ _ => rfl) hx.p_swept dX1_swept_15 ?_
  refine r_iload_n (pc := 18) dX1_swept_18 rfl rfl ?_
  refine r_iald (pc := 19) hx.t_swept (by omega) (by omega) dX1_swept_19 (fun hr19 => ?_)
  refine r_goto (pc := 20) 24 dX1_swept_20 rfl ?_
  refine r_ireturn (pc := 24) rfl rfl dX1_swept_24 (Nat.le_of_ble_eq_true rfl) (Nat.le_of_ble_eq_true rfl) ?_
  exact hQ
theorem C_fault (hx : XS G I P T x t σ μ) (hQ : Q (some (iv (I x 2))) I J P T z) : MC G yX1_fault (ws_ yX1_fault cX1_fault 1 (some FieldType.int)) (d) 0 0 [.ref x] I J P T z Q nX := by
  have hb := hx.b
  refine MC.of (by decide) (Nat.le_of_ble_eq_true rfl) ?_
  show PW G mX1_fault (rmD (d) 0 0) (MZ G Q nX 0 0) 0 0 I J P T z 0 [some (.ref x)] []
  refine r_aload_n (pc := 0) dX1_fault_0 rfl rfl ?_
  refine r_geti (pc := 1) (c := 1) (k := 2) (kz := 2) hx.o cok_1 (Nat.le_of_ble_eq_true rfl) q512 ⟨rfl, rfl⟩ (Or.inl rfl) rfl (fun _ _ _ => rfl) dX1_fault_1 (fun hr1 => ?_)
  refine r_ireturn (pc := 4) rfl rfl dX1_fault_4 (Nat.le_of_ble_eq_true rfl) (Nat.le_of_ble_eq_true rfl) ?_
  exact hQ
theorem C_count (hx : XS G I P T x t σ μ) {what : Int} (hw : rg what) (hQ : Q (some (iv (if what = 4 then I x 1 else if 0 ≤ what ∧ what ≤ 3 then σ what else -1))) I J P T z) : MC G yX1_count_2 (ws_ yX1_count_2 cX1_count_2 2 (some FieldType.int)) (d + 2) 0 0 [.ref x, iv what] I J P T z Q nX := by
  have hb := hx.b
  have ht := hx.ta
  refine MC.of (by decide) (Nat.le_of_ble_eq_true rfl) ?_
  show PW G mX1_count_2 (rmD (d + 2) 0 0) (MZ G Q nX 0 0) 0 0 I J P T z 0 [some (.ref x), some (iv what)] []
  refine r_iload_n (pc := 0) dX1_count_2_0 rfl rfl ?_
  by_cases w0 : what = 0
  · subst w0
    refine r_tswIn (pc := 1) 36 dX1_count_2_1 (by omega) (by omega) (by omega) rfl rfl ?_
    refine r_aload_n (pc := 36) dX1_count_2_36 rfl rfl ?_
    refine r_getr (pc := 37) (c := 1) (k := 3) (kz := 3) hx.o cok_1 (Nat.le_of_ble_eq_true rfl) q513 ⟨rfl, rfl⟩ (Or.inl rfl) rfl (fun _ _ _ => rfl) hx.p_table dX1_count_2_37 ?_
    refine r_getiN (pc := 40) (c := 2) (k := 0) (kz := 0) hx.tb.o cok_2 (Nat.le_of_ble_eq_true rfl) q205 ⟨rfl, rfl⟩ (Or.inl rfl) rfl (fun _ _ _ => rfl) dX1_count_2_40 (fun hr40 => ?_)
    rw [hx.r.ta.1] at hr40 ⊢
    refine r_ireturn (pc := 43) rfl rfl dX1_count_2_43 (Nat.le_of_ble_eq_true rfl) (Nat.le_of_ble_eq_true rfl) ?_
    exact hQ
  by_cases w1 : what = 1
  · subst w1
    refine r_tswIn (pc := 1) 44 dX1_count_2_1 (by omega) (by omega) (by omega) rfl rfl ?_
    refine r_aload_n (pc := 44) dX1_count_2_44 rfl rfl ?_
    refine r_getr (pc := 45) (c := 1) (k := 3) (kz := 3) hx.o cok_1 (Nat.le_of_ble_eq_true rfl) q513 ⟨rfl, rfl⟩ (Or.inl rfl) rfl (fun _ _ _ => rfl) hx.p_table dX1_count_2_45 ?_
    refine r_callV0 (pc := 48) (C_many hx.tb fe_i) im_X2_many q369 q1241 hx.tb.o rfl dX1_count_2_48 (Nat.le_of_ble_eq_true rfl) (Nat.le_of_ble_eq_true rfl) rfl (k_fi ?_) (fun _ _ _ _ _ _ _ hx => no_x hx)
    rw [hx.r.ta.2.1]
    refine r_ireturn (pc := 51) rfl rfl dX1_count_2_51 (Nat.le_of_ble_eq_true rfl) (Nat.le_of_ble_eq_true rfl) ?_
    exact hQ
  by_cases w2 : what = 2
  · subst w2
    have hQ : Q (some (iv (σ 2))) I J P T z := hQ
    refine r_tswIn (pc := 1) 52 dX1_count_2_1 (by omega) (by omega) (by omega) rfl rfl ?_
    refine r_aload_n (pc := 52) dX1_count_2_52 rfl rfl ?_
    refine r_getr (pc := 53) (c := 1) (k := 3) (kz := 3) hx.o cok_1 (Nat.le_of_ble_eq_true rfl) q513 ⟨rfl, rfl⟩ (Or.inl rfl) rfl (fun _ _ _ => rfl) hx.p_table dX1_count_2_53 ?_
    refine r_getiN (pc := 56) (c := 2) (k := 4) (kz := 4) hx.tb.o cok_2 (Nat.le_of_ble_eq_true rfl) q218 ⟨rfl, rfl⟩ (Or.inl rfl) rfl (fun _ _ _ => rfl) dX1_count_2_56 (fun hr56 => ?_)
    rw [hx.r.ta.2.2.1] at hr56 ⊢
    refine r_if_eq (pc := 59) 66 dX1_count_2_59 rfl (by omega) (fun h59 => ?_) (fun h59 => ?_)
    · rw [h59] at hQ
      refine r_iconst (pc := 66) dX1_count_2_66 ?_
      refine r_ireturn (pc := 67) rfl rfl dX1_count_2_67 (Nat.le_of_ble_eq_true rfl) (Nat.le_of_ble_eq_true rfl) ?_
      exact hQ
    rw [show σ 2 = 1 by omega] at hQ
    refine r_iconst (pc := 62) dX1_count_2_62 ?_
    refine r_goto (pc := 63) 67 dX1_count_2_63 rfl ?_
    refine r_ireturn (pc := 67) rfl rfl dX1_count_2_67 (Nat.le_of_ble_eq_true rfl) (Nat.le_of_ble_eq_true rfl) ?_
    exact hQ
  by_cases w3 : what = 3
  · subst w3
    refine r_tswIn (pc := 1) 68 dX1_count_2_1 (by omega) (by omega) (by omega) rfl rfl ?_
    refine r_aload_n (pc := 68) dX1_count_2_68 rfl rfl ?_
    refine r_getr (pc := 69) (c := 1) (k := 3) (kz := 3) hx.o cok_1 (Nat.le_of_ble_eq_true rfl) q513 ⟨rfl, rfl⟩ (Or.inl rfl) rfl (fun _ _ _ => rfl) hx.p_table dX1_count_2_69 ?_
    refine r_getiN (pc := 72) (c := 2) (k := 1) (kz := 1) hx.tb.o cok_2 (Nat.le_of_ble_eq_true rfl) q210 ⟨rfl, rfl⟩ (Or.inl rfl) rfl (fun _ _ _ => rfl) dX1_count_2_72 (fun hr72 => ?_)
    rw [hx.r.ta.2.2.2] at hr72 ⊢
    refine r_ireturn (pc := 75) rfl rfl dX1_count_2_75 (Nat.le_of_ble_eq_true rfl) (Nat.le_of_ble_eq_true rfl) ?_
    exact hQ
  by_cases w4 : what = 4
  · subst w4
    refine r_tswIn (pc := 1) 76 dX1_count_2_1 (by omega) (by omega) (by omega) rfl rfl ?_
    refine r_aload_n (pc := 76) dX1_count_2_76 rfl rfl ?_
    refine r_geti (pc := 77) (c := 1) (k := 1) (kz := 1) hx.o cok_1 (Nat.le_of_ble_eq_true rfl) q511 ⟨rfl, rfl⟩ (Or.inl rfl) rfl (fun _ _ _ => rfl) dX1_count_2_77 (fun hr77 => ?_)
    refine r_ireturn (pc := 80) rfl rfl dX1_count_2_80 (Nat.le_of_ble_eq_true rfl) (Nat.le_of_ble_eq_true rfl) ?_
    exact hQ
  rw [if_neg w4, if_neg (by omega)] at hQ
  refine r_tswOut (pc := 1) 81 dX1_count_2_1 (by omega) (by omega) rfl ?_
  refine r_iconst (pc := 81) dX1_count_2_81 ?_
  refine r_ireturn (pc := 82) rfl rfl dX1_count_2_82 (Nat.le_of_ble_eq_true rfl) (Nat.le_of_ble_eq_true rfl) ?_
  exact hQ
end L1
