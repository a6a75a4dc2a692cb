/-! ===== the component: games begun, copied ===== -/
section K6
variable {G : GE} {I I0 J : HI} {P : HP} {T : HT} {z : Nat} {g g2 t d : Nat} {Q : QT} {σ μ η : Int → Int}
theorem k4_bks {p v : Int} (hp : 0 ≤ p) : ∀ (n : Nat) (k : Int) {σ : Int → Int}, 0 ≤ k → f_bks (us σ 4 v) p k n = us (f_bks σ p k n) 4 v := by
  intro n
  induction n with
  | zero => intro k σ _; rfl
  | succ n ih =>
    intro k σ hk
    show f_bks (f_books (us σ 4 v) p k) p (k + 1) n = us (f_bks (f_books σ p k) p (k + 1) n) 4 v
    rw [k4_books hp hk, ih (k + 1) (by omega)]
theorem k4_beg2 {v : Int} : ∀ (n : Nat) (m : Int) {σ : Int → Int}, 0 ≤ m → f_beg2 (us σ 4 v) m n = us (f_beg2 σ m n) 4 v := by
  intro n
  induction n with
  | zero => intro m σ _; rfl
  | succ n ih =>
    intro m σ hm
    show f_beg2 (f_bks (us σ 4 v) m 0 (us σ 4 v 0).toNat) (m + 1) n = us (f_beg2 (f_bks σ m 0 (σ 0).toNat) (m + 1) n) 4 v
    rw [us_n (show (0 : Int) ≠ 4 by omega), k4_bks hm _ _ (by omega), ih (m + 1) (by omega)]
theorem k4_settles {v fr : Int} : f_settles (us σ 4 v) fr = f_settles σ fr := by
  unfold f_settles
  rw [us_us, us_n (show (1 : Int) ≠ 4 by omega)]
theorem C_othersX (hs : shG G P T g t) (hr : GR I g t σ μ) {p mask : Int} (hp : 0 ≤ p ∧ p < 6) (hm : rg mask) (hn : 0 ≤ σ (229 + p) ∧ σ (229 + p) < 52) (hQ : Q none (ui (ui I (g + 16 + p.toNat) (σ (229 + p)) mask) (g + 22) p (σ (229 + p) + 1)) J P T z) : MC G yX3_others (ws_ yX3_others cX3_others 3 (none : Option FieldType)) (d) 0 0 [.ref g, iv p, iv mask] I J P T z Q nX := by
  have hb := hs.b
  refine MC.of (by decide) (Nat.le_of_ble_eq_true rfl) ?_
  show PW G mX3_others (rmD (d) 0 0) (MZ G Q nX 0 0) 0 0 I J P T z 0 [some (.ref g), some (iv p), some (iv mask)] []
  refine r_aload_n (pc := 0) dX3_others_0 rfl rfl ?_
  refine r_getr (pc := 1) (c := 3) (k := 3) (kz := 3) hs.o cok_3 (Nat.le_of_ble_eq_true rfl) q278 ⟨rfl, rfl⟩ (Or.inl rfl) rfl (fun _ _ _ => rfl) hs.p_other dX3_others_1 ?_
  refine r_iload_n (pc := 4) dX3_others_4 rfl rfl ?_
  refine r_aald (pc := 5) hs.t_other ⟨by decide, by decide⟩ rfl (fun _ _ _ => rfl) (by omega) (by omega) (hs.q_other (by omega) (by omega)) dX3_others_5 ?_
  refine r_aload_n (pc := 6) dX3_others_6 rfl rfl ?_
  refine r_getr (pc := 7) (c := 3) (k := 4) (kz := 4) hs.o cok_3 (Nat.le_of_ble_eq_true rfl) q280 ⟨rfl, rfl⟩ (Or.inl rfl) rfl (fun _ _ _ => rfl) hs.p_others dX3_others_7 ?_
  refine r_iload_n (pc := 10) dX3_others_10 rfl rfl ?_
  refine r_iald (pc := 11) hs.t_others (by omega) (by omega) dX3_others_11 (fun hr11 => ?_)
  rw [hr.others (by omega) (by omega)] at hr11 ⊢
  refine r_iload_n (pc := 12) dX3_others_12 rfl rfl ?_
  refine r_iast (pc := 13) (hs.u_other (by omega) (by omega)) (by omega) (by omega) (by omega) (by omega) dX3_others_13 ?_
  refine r_aload_n (pc := 14) dX3_others_14 rfl rfl ?_
  refine r_getr (pc := 15) (c := 3) (k := 4) (kz := 4) hs.o cok_3 (Nat.le_of_ble_eq_true rfl) q280 ⟨rfl, rfl⟩ (Or.inl rfl) rfl (fun _ _ _ => rfl) hs.p_others dX3_others_15 ?_
  refine r_iload_n (pc := 18) dX3_others_18 rfl rfl ?_
  refine r_dup2 (pc := 19) dX3_others_19 rfl rfl ?_
  refine r_iald (pc := 20) hs.t_others (by omega) (by omega) dX3_others_20 (fun hr20 => ?_)
  rw [ui_o (by omega), hr.others (by omega) (by omega)] at hr20 ⊢
  refine r_iconst (pc := 21) dX3_others_21 ?_
  refine r_iadd (pc := 22) dX3_others_22 ?_
  refine r_iast (pc := 23) hs.t_others (by omega) (by omega) (by omega) (by omega) dX3_others_23 ?_
  refine r_return (pc := 24) rfl dX3_others_24 (Nat.le_of_ble_eq_true rfl) (Nat.le_of_ble_eq_true rfl) ?_
  exact hQ
theorem C_first (hs : shG G P T g t) (hf : GF g I0 I) (hr : GR I g t σ μ) (hc : CV σ) (hQ : ∀ I' μ', GF g I0 I' → GR I' g t (f_settles (f_beg2 σ 0 (σ 1).toNat) 0) μ' → Q (some (.ref g)) I' J P T z) : MC G yX3_first (ws_ yX3_first cX3_first 2 (some (FieldType.object "SevenTable$Game"))) (d + 6) 0 0 [.ref g] I J P T z Q nX := by
  have hb := hs.b
  have ht := hc.ta
  refine MC.of (by decide) (Nat.le_of_ble_eq_true rfl) ?_
  show PW G mX3_first (rmD (d + 6) 0 0) (MZ G Q nX 0 0) 0 0 I J P T z 0 [some (.ref g), none] []
  generalize hD : f_beg2 σ 0 (σ 1).toNat = D at hQ
  refine r_iconst (pc := 0) dX3_first_0 ?_
  refine r_istore_n1 (pc := 1) (Nat.le_of_ble_eq_true rfl) dX3_first_1 rfl ?_
  have loop : ∀ (n : Nat) (p : Int) (I1 : HI) (σ1 μ1 : Int → Int), 0 ≤ p → p + n = σ 1 → GF g I0 I1 → GR I1 g t σ1 μ1 → CV σ1 → σ1 1 = σ 1 → (∀ q i, 0 ≤ q → q < p → 0 ≤ i → i < 13 → σ1 (60 + 13 * q + i) ≤ 3) → f_beg2 σ1 p n = D → PW G mX3_first (rmD (d + 6) 0 0) (MZ G Q nX 0 0) 0 0 I1 J P T z 2 [some (.ref g), some (iv p)] [] := by
    intro n
    induction n with
    | zero =>
      intro p I1 σ1 μ1 h0 hn hf1 hr1 hc1 e1 hl hD1
      have hD1 : σ1 = D := hD1
      subst hD1
      refine r_iload_n (pc := 2) dX3_first_2 rfl rfl ?_
      refine r_aload_n (pc := 3) dX3_first_3 rfl rfl ?_
      refine r_getr (pc := 4) (c := 3) (k := 0) (kz := 0) hs.o cok_3 (Nat.le_of_ble_eq_true rfl) q259 ⟨rfl, rfl⟩ (Or.inl rfl) rfl (fun _ _ _ => rfl) hs.p_t dX3_first_4 ?_
      refine r_callV0 (pc := 7) (C_many hs.tb fe_i) im_X2_many q369 q367 hs.tb.o rfl dX3_first_7 (Nat.le_of_ble_eq_true rfl) (Nat.le_of_ble_eq_true rfl) rfl (k_fi ?_) (fun _ _ _ _ _ _ _ hx => no_x hx)
      rw [hr1.ta.2.1, e1]
      refine r_icmp_ge (pc := 10) 24 dX3_first_10 rfl (by omega) (by omega) (fun h10 => ?_) (fun h10 => ?_)
      · refine r_aload_n (pc := 24) dX3_first_24 rfl rfl ?_
        refine r_iconst (pc := 25) dX3_first_25 ?_
        have r3 : R3 σ1 := fun q i x y u w => by
          by_cases l : q < p
          · exact hl q i x l u w
          · rw [hc1.nz x y u w (by omega)]; omega
        refine r_callV1 (pc := 26) (C_settle hs hf1 hr1 hc1 r3 (Or.inl rfl) (Q := fun v0 I' J' P' T' z' => v0 = none ∧ J' = J ∧ P' = P ∧ T' = T ∧ z' = z ∧ ∃ μ', GF g I0 I' ∧ GR I' g t (f_settles σ1 0) μ') (fun I' μ' x y w => ⟨rfl, rfl, rfl, rfl, rfl, μ', x, y⟩)) im_X3_settle qs8 q419 hs.o rfl dX3_first_26 (Nat.le_of_ble_eq_true rfl) (Nat.le_of_ble_eq_true rfl) rfl (?_) (fun _ _ _ _ _ _ _ hx => no_x hx)
        rintro v0 I7 J7 P7 T7 z7 ⟨rfl, rfl, rfl, rfl, rfl, μ7, hf7, hr7⟩
        refine r_aload_n (pc := 29) dX3_first_29 rfl rfl ?_
        refine r_areturn (pc := 30) rfl (by first | exact Or.inl ⟨_, rfl⟩ | exact Or.inr ⟨_, rfl⟩) dX3_first_30 (Nat.le_of_ble_eq_true rfl) (Nat.le_of_ble_eq_true rfl) ?_
        exact hQ _ _ hf7 hr7
      omega
    | succ n ih =>
      intro p I1 σ1 μ1 h0 hn hf1 hr1 hc1 e1 hl hD1
      have hD1 : f_beg2 (f_bks σ1 p 0 (σ1 0).toNat) (p + 1) n = D := hD1
      refine r_iload_n (pc := 2) dX3_first_2 rfl rfl ?_
      refine r_aload_n (pc := 3) dX3_first_3 rfl rfl ?_
      refine r_getr (pc := 4) (c := 3) (k := 0) (kz := 0) hs.o cok_3 (Nat.le_of_ble_eq_true rfl) q259 ⟨rfl, rfl⟩ (Or.inl rfl) rfl (fun _ _ _ => rfl) hs.p_t dX3_first_4 ?_
      refine r_callV0 (pc := 7) (C_many hs.tb fe_i) im_X2_many q369 q367 hs.tb.o rfl dX3_first_7 (Nat.le_of_ble_eq_true rfl) (Nat.le_of_ble_eq_true rfl) rfl (k_fi ?_) (fun _ _ _ _ _ _ _ hx => no_x hx)
      rw [hr1.ta.2.1, e1]
      refine r_icmp_ge (pc := 10) 24 dX3_first_10 rfl (by omega) (by omega) (fun h10 => ?_) (fun h10 => ?_)
      · omega
      refine r_aload_n (pc := 13) dX3_first_13 rfl rfl ?_
      refine r_iload_n (pc := 14) dX3_first_14 rfl rfl ?_
      refine r_callV1 (pc := 15) (C_books hs hf1 hr1 (by omega) hc1 qg_i) im_X3_books qs3 q393 hs.o rfl dX3_first_15 (Nat.le_of_ble_eq_true rfl) (Nat.le_of_ble_eq_true rfl) rfl (k_gv fun I2 hf2 hr2 => ?_) (fun _ _ _ _ _ _ _ hx => no_x hx)
      have b := CV.bks (p := p) (by omega) 13 0 hc1 (by omega) (by omega)
      rw [hc1.bks13 (by omega)] at hr2 b
      refine r_iinc1 (pc := 18) (Nat.le_of_ble_eq_true rfl) dX3_first_18 rfl ?_
      refine r_goto (pc := 21) 2 dX3_first_21 rfl ?_
      refine ih (p + 1) I2 _ _ (by omega) (by omega) hf2 hr2 b.1 (by rw [b.2.1 1 (by omega) (by omega)]; exact e1) (fun q i x y u w => ?_) hD1
      rw [b.2.2.2 q i x (by omega) u w]
      by_cases e : q = p
      · subst e
        have := hc1.h4 x (show q < 6 by omega) u w
        by_cases g9 : σ1 (60 + 13 * q + i) = 4
        · rw [if_pos ⟨rfl, by omega, g9⟩]; omega
        · rw [if_neg (fun r => g9 r.2.2)]; omega
      · rw [if_neg (fun r => e r.1)]; exact hl q i x (by omega) u w
  exact loop (σ 1).toNat 0 I σ μ (by omega) (by omega) hf hr hc rfl (fun q i x y => by omega) hD
/-- a table's own numbers -/
def TR (I : HI) (t : Nat) (η : Int → Int) : Prop := (I t 0 = η 0 ∧ I (t + 1) 2 = η 1 ∧ I t 4 = η 2 ∧ I t 1 = η 3) ∧ I t 3 = η 7 ∧ (∀ p k : Int, 0 ≤ p → p < 6 → 0 ≤ k → k < 13 → I (t + 3 + p.toNat) k = η (60 + 13 * p + k)) ∧ (∀ i : Int, 0 ≤ i → i < η 7 → I (t + 9) i = η (8 + i)) ∧ (∀ k : Int, 0 ≤ k → k < 13 → I (t + 10) k = η (571 + k))
theorem TR.fr {I' : HI} (h : TR I t η) (hf : GF g I I') (htt : t + 11 ≤ g ∨ g + 31 ≤ t) : TR I' t η := by
  obtain ⟨a, b, c, e, f⟩ := h
  have z : ∀ o : Nat, o < 11 → I' (t + o) = I (t + o) := fun o ho => hf _ (by omega)
  refine ⟨?_, ?_, fun p k x y u w => ?_, fun i x y => ?_, fun k x y => ?_⟩
  · rw [show t = t + 0 from rfl, z 0 (by omega), z 1 (by omega)]; exact a
  · rw [show t = t + 0 from rfl, z 0 (by omega)]; exact b
  · rw [show t + 3 + p.toNat = t + (3 + p.toNat) by omega, z _ (by omega), show t + (3 + p.toNat) = t + 3 + p.toNat by omega]; exact c p k x y u w
  · rw [z 9 (by omega)]; exact e i x y
  · rw [z 10 (by omega)]; exact f k x y
/-- a row of hands is written -/
def rwf (σ : Int → Int) (b n : Int) (f : Int → Int) : Int → Int := fun j => if b ≤ j ∧ j < b + n then f (j - b) else σ j
theorem rwf_n {b n j : Int} {f : Int → Int} (h : ¬ (b ≤ j ∧ j < b + n)) : rwf σ b n f j = σ j := if_neg h
theorem rwf_i {b n i : Int} {f : Int → Int} (h : 0 ≤ i) (h1 : i < n) : rwf σ b n f (b + i) = f i := by
  unfold rwf
  rw [if_pos (by omega)]; congr 1; omega
theorem GR.hand_r (h : GR I g t σ μ) {p : Int} {f : Int → Int} (h0 : 0 ≤ p) (h1 : p < 6) : GR (ur I (g + 2 + p.toNat) f) g t (rwf σ (60 + 13 * p) 13 f) μ := by
  have htt := h.tt
  have hhp := h.hp
  unfold GR at h ⊢
  obtain ⟨a1, a2, a3, a4, a5, a6, a7, a8, a9, a10, a11, a12, a13, a14, a15, a16, a17, a18⟩ := h
  have n : ∀ j, j < 60 ∨ 138 ≤ j → rwf σ (60 + 13 * p) 13 f j = σ j := fun j q => rwf_n (by omega)
  have u : ∀ b : Nat, b ≠ g + 2 + p.toNat → ur I (g + 2 + p.toNat) f b = I b := fun b q => ur_n q
  refine ⟨fun q k x y w v => ?_, fun q k x y w v => ?_, fun q i x y w v r => ?_, fun q x y => ?_, fun q x y => ?_, fun q x y => ?_, fun q x y => ?_, fun q x y => ?_, fun k x y => ?_, fun k x y => ?_, ?_, fun i x y => ?_, ?_, ?_, ?_, fun i x y => ?_, ?_, a18⟩
  · by_cases e : q = p
    · subst e; rw [ur_s, rwf_i w v]
    · rw [u _ (by omega), rwf_n (by omega)]; exact a1 q k x y w v
  · rw [u _ (by omega), n _ (by omega)]; exact a2 q k x y w v
  · rw [n _ (by omega)] at r; rw [u _ (by omega), n _ (by omega)]; exact a3 q i x y w v r
  · rw [u _ (by omega), n _ (by omega)]; exact a4 q x y
  · rw [u _ (by omega), n _ (by omega)]; exact a5 q x y
  · rw [u _ (by omega), n _ (by omega)]; exact a6 q x y
  · rw [u _ (by omega), n _ (by omega)]; exact a7 q x y
  · rw [u _ (by omega), n _ (by omega)]; exact a8 q x y
  · rw [u _ (by omega), n _ (by omega)]; exact a9 k x y
  · rw [u _ (by omega), n _ (by omega)]; exact a10 k x y
  · rw [u g (by omega), n 7 (by omega)]; exact a11
  · rw [n 7 (by omega)] at y; rw [u _ (by omega), u g (by omega), n _ (by omega)]; exact a12 i x y
  · rw [u g (by omega), n 4 (by omega)]; exact a13
  · rw [u g (by omega), n 5 (by omega)]; exact a14
  · rw [u g (by omega), n 6 (by omega)]; exact a15
  · rw [u _ (by omega)]; exact a16 i x y
  · rw [u t (by omega), u (t + 1) (by omega), n 0 (by omega), n 1 (by omega), n 2 (by omega), n 3 (by omega)]; exact a17
/-- heap and cards are written -/
def hpn (σ : Int → Int) (n : Int) (f h : Int → Int) : Int → Int := fun j => if j = 7 then n else if 8 ≤ j ∧ j < 60 then f (j - 8) else if 571 ≤ j ∧ j < 584 then h (j - 571) else σ j
theorem hpn_n {n j : Int} {f h : Int → Int} (h1 : j < 7 ∨ (60 ≤ j ∧ j < 571) ∨ 584 ≤ j) : hpn σ n f h j = σ j := by
  unfold hpn
  rw [if_neg (by omega), if_neg (by omega), if_neg (by omega)]
theorem GR.heapn {n : Int} {f h : Int → Int} {I' : HI} (hr : GR I g t σ μ) (e : ∀ b : Nat, b ≠ g → b ≠ g + 28 → b ≠ g + 29 → I' b = I b) (e12 : I' g 12 = 0) (e13 : I' g 13 = n) (e14 : I' g 14 = I g 14 ∧ I' g 15 = I g 15 ∧ I' g 16 = I g 16) (e28 : ∀ i, 0 ≤ i → i < n → I' (g + 28) i = f i) (e29 : ∀ k, 0 ≤ k → k < 13 → I' (g + 29) k = h k) (hn : 0 ≤ n ∧ n ≤ 52) : GR I' g t (hpn σ n f h) μ := by
  have htt := hr.tt
  unfold GR at hr ⊢
  obtain ⟨a1, a2, a3, a4, a5, a6, a7, a8, a9, a10, a11, a12, a13, a14, a15, a16, a17, a18⟩ := hr
  have m : ∀ j, j < 7 ∨ (60 ≤ j ∧ j < 571) ∨ 584 ≤ j → hpn σ n f h j = σ j := fun j q => hpn_n q
  have m7 : hpn σ n f h 7 = n := rfl
  refine ⟨fun q k x y w v => ?_, fun q k x y w v => ?_, fun q i x y w v r => ?_, fun q x y => ?_, fun q x y => ?_, fun q x y => ?_, fun q x y => ?_, fun q x y => ?_, fun k x y => ?_, fun k x y => ?_, ?_, fun i x y => ?_, ?_, ?_, ?_, fun i x y => ?_, ?_, a18⟩
  · rw [e _ (by omega) (by omega) (by omega), m _ (by omega)]; exact a1 q k x y w v
  · rw [e _ (by omega) (by omega) (by omega), m _ (by omega)]; exact a2 q k x y w v
  · rw [m _ (by omega)] at r; rw [e _ (by omega) (by omega) (by omega), m _ (by omega)]; exact a3 q i x y w v r
  · rw [e _ (by omega) (by omega) (by omega), m _ (by omega)]; exact a4 q x y
  · rw [e _ (by omega) (by omega) (by omega), m _ (by omega)]; exact a5 q x y
  · rw [e _ (by omega) (by omega) (by omega), m _ (by omega)]; exact a6 q x y
  · rw [e _ (by omega) (by omega) (by omega), m _ (by omega)]; exact a7 q x y
  · rw [e _ (by omega) (by omega) (by omega), m _ (by omega)]; exact a8 q x y
  · rw [e _ (by omega) (by omega) (by omega), m _ (by omega)]; exact a9 k x y
  · rw [e29 k x y]
    show h k = _
    unfold hpn
    rw [if_neg (by omega), if_neg (by omega), if_pos (by omega)]; congr 1; omega
  · rw [e12, e13, m7]; omega
  · rw [m7] at y
    rw [e12, Int.zero_add, e28 i x y]
    unfold hpn
    rw [if_neg (by omega), if_pos (by omega)]; congr 1; omega
  · rw [e14.1, m 4 (by omega)]; exact a13
  · rw [e14.2.1, m 5 (by omega)]; exact a14
  · rw [e14.2.2, m 6 (by omega)]; exact a15
  · rw [e _ (by omega) (by omega) (by omega)]; exact a16 i x y
  · rw [e t (by omega) (by omega) (by omega), e (t + 1) (by omega) (by omega) (by omega), m 0 (by omega), m 1 (by omega), m 2 (by omega), m 3 (by omega)]; exact a17
/-- a cleared game's row -/
def clrow (I : HI) (g : Nat) (η : Int → Int) : Int → Int := fun j => if 0 ≤ j ∧ j < 4 then η j else if j = 4 then I g 14 else if j = 7 then I g 13 else if 8 ≤ j ∧ j < 60 then I (g + 28) (j - 8) else if 571 ≤ j ∧ j < 584 then I (g + 29) (j - 571) else 0
theorem clrow_z {j : Int} (h : j = 5 ∨ j = 6 ∨ (60 ≤ j ∧ j < 571)) : clrow I g η j = 0 := by
  unfold clrow
  rw [if_neg (by omega), if_neg (by omega), if_neg (by omega), if_neg (by omega), if_neg (by omega)]
theorem CL.gr {I' : HI} (h : CL I I' g) (ta : I t 0 = η 0 ∧ I (t + 1) 2 = η 1 ∧ I t 4 = η 2 ∧ I t 1 = η 3) (htt : t + 11 ≤ g ∨ g + 31 ≤ t) (h13 : 0 ≤ I g 13 ∧ I g 13 ≤ 52) : GR I' g t (clrow I g η) (I (g + 30)) := by
  obtain ⟨b1, b2, b3, b4, b5, b6, b7, b8, b9, b10⟩ := h
  have c7 : clrow I g η 7 = I g 13 := rfl
  refine ⟨fun q k x y w v => ?_, fun q k x y w v => ?_, fun q i x y w v r => ?_, fun q x y => ?_, fun q x y => ?_, fun q x y => ?_, fun q x y => ?_, fun q x y => ?_, fun k x y => ?_, fun k x y => ?_, ?_, fun i x y => ?_, ?_, ?_, ?_, fun i x y => ?_, ?_, htt⟩
  · rw [clrow_z (by omega)]; exact (b2 q k x y w v).1
  · rw [clrow_z (by omega)]; exact (b2 q k x y w v).2
  · rw [clrow_z (by omega)] at r; omega
  · rw [clrow_z (by omega)]; exact (b3 q x y).1
  · rw [clrow_z (by omega)]; exact (b3 q x y).2.1
  · rw [clrow_z (by omega)]; exact (b3 q x y).2.2.1
  · rw [clrow_z (by omega)]; exact (b3 q x y).2.2.2.1
  · rw [clrow_z (by omega)]; exact (b3 q x y).2.2.2.2
  · rw [clrow_z (by omega)]; exact b4 k x y
  · rw [(b5 k).2.1]
    unfold clrow
    rw [if_neg (by omega), if_neg (by omega), if_neg (by omega), if_neg (by omega), if_pos (by omega)]; congr 1; omega
  · rw [b6, b7, c7]; omega
  · rw [c7] at y
    rw [b6, Int.zero_add, (b5 i).1]
    unfold clrow
    rw [if_neg (by omega), if_neg (by omega), if_neg (by omega), if_pos (by omega)]; congr 1; omega
  · rw [b8]; rfl
  · rw [b9, clrow_z (by omega)]
  · rw [b10, clrow_z (by omega)]
  · exact (b5 i).2.2
  · rw [b1 t (by omega), b1 (t + 1) (by omega)]
    exact ta
theorem GF.of_CL {I' : HI} (h : CL I I' g) : GF g I I' := h.1
set_option maxHeartbeats 1000000 in
theorem C_begin (hs0 : shG0 G P T g) (htb : shT G P T t) (htt : t + 11 ≤ g ∨ g + 31 ≤ t) (hT : TR I t η) (hη : HW η) (h13 : 0 ≤ I g 13 ∧ I g 13 ≤ 52) (hQ : ∀ I' μ', GF g I I' → GR I' g t (f_begins η) μ' → Q (some (.ref g)) I' J (up P g 0 (some t)) T z) : MC G yX3_begin (ws_ yX3_begin cX3_begin 4 (some (FieldType.object "SevenTable$Game"))) (d + 7) 0 0 [.ref g, .ref t] I J P T z Q nX := by
  have hb := hs0.b
  have h1 := hη.2.1
  have h77 := hη.h7
  refine MC.of (by decide) (Nat.le_of_ble_eq_true rfl) ?_
  show PW G mX3_begin (rmD (d + 7) 0 0) (MZ G Q nX 0 0) 0 0 I J P T z 0 [some (.ref g), some (.ref t), none, none] []
  refine r_aload_n (pc := 0) dX3_begin_0 rfl rfl ?_
  refine r_aload_n (pc := 1) dX3_begin_1 rfl rfl ?_
  refine r_callV1 (pc := 2) (C_clear hs0 htb htt (Q := fun v0 I' J' P' T' z' => v0 = none ∧ J' = J ∧ P' = up P g 0 (some t) ∧ T' = T ∧ z' = z ∧ CL I I' g) (fun I' x => ⟨rfl, rfl, rfl, rfl, rfl, x⟩)) im_X3_clear qs0 q360 hs0.o rfl dX3_begin_2 (Nat.le_of_ble_eq_true rfl) (Nat.le_of_ble_eq_true rfl) rfl (?_) (fun _ _ _ _ _ _ _ hx => no_x hx)
  rintro v0 I1 J1 P1 T1 z1 ⟨rfl, rfl, rfl, rfl, rfl, hcl⟩
  have hs : shG G (up P g 0 (some t)) T1 g t := ⟨hs0.upd (Or.inr rfl) (by omega), htb.upd (by omega), by simp [up]⟩
  have hr1 := hcl.gr hT.1 htt h13
  have hf1 := hcl.1
  generalize up P g 0 (some t) = P1 at hs hQ
  have e14 : I1 g 14 = I g 14 := hcl.2.2.2.2.2.2.2.1
  have hs6 : ∀ p i, 0 ≤ p → p < 6 → 0 ≤ i → i < 52 → clrow I g η (235 + 52 * p + i) = 0 := fun p i a b c d => clrow_z (by omega)
  refine r_iconst (pc := 5) dX3_begin_5 ?_
  refine r_istore_n2 (pc := 6) (Nat.le_of_ble_eq_true rfl) dX3_begin_6 rfl ?_
  -- the state of the loop
  have loop : ∀ (n : Nat) (p : Int) (I2 : HI) (σ2 : Int → Int) (l3 : Option Value), 0 ≤ p → p + n = η 1 → GF g I I2 → GR I2 g t σ2 (I (g + 30)) → (I2 g 12 = 0 ∧ I2 g 14 = I g 14) → (∀ j, (0 ≤ j ∧ j < 4) ∨ j = 5 ∨ j = 6 ∨ (138 ≤ j ∧ j < 229) ∨ (547 ≤ j ∧ j < 571) → σ2 j = clrow I g η j) → (∀ q k, 0 ≤ q → q < 6 → 0 ≤ k → k < 13 → σ2 (60 + 13 * q + k) = if q < p then η (60 + 13 * q + k) else 0) → (∀ q, 0 ≤ q → q < 6 → σ2 (229 + q) = if q < p then f_cards η q else 0) → (∀ q i, 0 ≤ q → q < 6 → 0 ≤ i → i < σ2 (229 + q) → σ2 (235 + 52 * q + i) = 0) → PW G mX3_begin (rmD (d + 7) 0 0) (MZ G Q nX 0 0) 0 0 I2 J1 P1 T1 z1 7 [some (.ref g), some (.ref t), some (iv p), l3] [] := by
    intro n
    induction n with
    | zero =>
      intro p I2 σ2 l3 h0 hn hf2 hr2 h12 v1 v2 v3 v4
      have hT2 := hT.fr hf2 htt
      refine r_iload_n (pc := 7) dX3_begin_7 rfl rfl ?_
      refine r_aload_n (pc := 8) dX3_begin_8 rfl rfl ?_
      refine r_getr (pc := 9) (c := 3) (k := 0) (kz := 0) hs.o cok_3 (Nat.le_of_ble_eq_true rfl) q259 ⟨rfl, rfl⟩ (Or.inl rfl) rfl (fun _ _ _ => rfl) hs.p_t dX3_begin_9 ?_
      refine r_callV0 (pc := 12) (C_many hs.tb fe_i) im_X2_many q369 q367 hs.tb.o rfl dX3_begin_12 (Nat.le_of_ble_eq_true rfl) (Nat.le_of_ble_eq_true rfl) rfl (k_fi ?_) (fun _ _ _ _ _ _ _ hx => no_x hx)
      rw [hT2.1.2.1]
      refine r_icmp_ge (pc := 15) 64 dX3_begin_15 rfl (by omega) (by omega) (fun h15 => ?_) (fun h15 => ?_)
      · refine r_aload_n (pc := 64) dX3_begin_64 rfl rfl ?_
        refine r_getr (pc := 65) (c := 3) (k := 0) (kz := 0) hs.o cok_3 (Nat.le_of_ble_eq_true rfl) q259 ⟨rfl, rfl⟩ (Or.inl rfl) rfl (fun _ _ _ => rfl) hs.p_t dX3_begin_65 ?_
        refine r_getrN (pc := 68) (c := 2) (k := 7) (kz := 7) hs.tb.o cok_2 (Nat.le_of_ble_eq_true rfl) q227 ⟨rfl, rfl⟩ (Or.inl rfl) rfl (fun _ _ _ => rfl) hs.tb.p_heap dX3_begin_68 ?_
        refine r_aload_n (pc := 71) dX3_begin_71 rfl rfl ?_
        refine r_getr (pc := 72) (c := 3) (k := 10) (kz := 10) hs.o cok_3 (Nat.le_of_ble_eq_true rfl) q294 ⟨rfl, rfl⟩ (Or.inl rfl) rfl (fun _ _ _ => rfl) hs.p_heap dX3_begin_72 ?_
        refine r_callS2 (pc := 75) (C_copy hs.tb.t_heap hs.t_heap (by omega) (by omega) fe_i) im_X3_copy q375 dX3_begin_75 (Nat.le_of_ble_eq_true rfl) (Nat.le_of_ble_eq_true rfl) rfl (k_fv ?_) (fun _ _ _ _ _ _ _ hx => no_x hx)
        refine r_aload_n (pc := 78) dX3_begin_78 rfl rfl ?_
        refine r_getr (pc := 79) (c := 3) (k := 0) (kz := 0) hs.o cok_3 (Nat.le_of_ble_eq_true rfl) q259 ⟨rfl, rfl⟩ (Or.inl rfl) rfl (fun _ _ _ => rfl) hs.p_t dX3_begin_79 ?_
        refine r_getrN (pc := 82) (c := 2) (k := 8) (kz := 8) hs.tb.o cok_2 (Nat.le_of_ble_eq_true rfl) q230 ⟨rfl, rfl⟩ (Or.inl rfl) rfl (fun _ _ _ => rfl) hs.tb.p_cards dX3_begin_82 ?_
        refine r_aload_n (pc := 85) dX3_begin_85 rfl rfl ?_
        refine r_getr (pc := 86) (c := 3) (k := 11) (kz := 11) hs.o cok_3 (Nat.le_of_ble_eq_true rfl) q298 ⟨rfl, rfl⟩ (Or.inl rfl) rfl (fun _ _ _ => rfl) hs.p_cards dX3_begin_86 ?_
        refine r_callS2 (pc := 89) (C_copy hs.tb.t_cards hs.t_cards (by omega) (by omega) fe_i) im_X3_copy q375 dX3_begin_89 (Nat.le_of_ble_eq_true rfl) (Nat.le_of_ble_eq_true rfl) rfl (k_fv ?_) (fun _ _ _ _ _ _ _ hx => no_x hx)
        refine r_aload_n (pc := 92) dX3_begin_92 rfl rfl ?_
        refine r_aload_n (pc := 93) dX3_begin_93 rfl rfl ?_
        refine r_getr (pc := 94) (c := 3) (k := 0) (kz := 0) hs.o cok_3 (Nat.le_of_ble_eq_true rfl) q259 ⟨rfl, rfl⟩ (Or.inl rfl) rfl (fun _ _ _ => rfl) hs.p_t dX3_begin_94 ?_
        refine r_getiN (pc := 97) (c := 2) (k := 3) (kz := 3) hs.tb.o cok_2 (Nat.le_of_ble_eq_true rfl) q213 ⟨rfl, rfl⟩ (Or.inl rfl) rfl (fun _ _ _ => rfl) dX3_begin_97 (fun hr97 => ?_)
        have et3 : ur (ur I2 (g + 28) (cpyr (I2 (g + 28)) (I2 (t + 9)) 52)) (g + 29) (cpyr (ur I2 (g + 28) (cpyr (I2 (g + 28)) (I2 (t + 9)) 52) (g + 29)) (ur I2 (g + 28) (cpyr (I2 (g + 28)) (I2 (t + 9)) 52) (t + 10)) 13) t 3 = η 7 := by
          rw [ur_n (by omega), ur_n (by omega)]; exact hT2.2.1
        rw [et3]
        refine r_puti (pc := 100) (c := 3) (k := 13) (kz := 13) hs.o cok_3 (Nat.le_of_ble_eq_true rfl) q304 ⟨rfl, rfl⟩ (Or.inl rfl) rfl (by omega) rfl rfl (by omega) (fun _ _ _ => rfl) ⟨rfl, rfl⟩ dX3_begin_100 ?_
        have hr3 := hr2.heapn (I' := ui (ur (ur I2 (g + 28) (cpyr (I2 (g + 28)) (I2 (t + 9)) 52)) (g + 29) (cpyr (ur I2 (g + 28) (cpyr (I2 (g + 28)) (I2 (t + 9)) 52) (g + 29)) (ur I2 (g + 28) (cpyr (I2 (g + 28)) (I2 (t + 9)) 52) (t + 10)) 13)) g 13 (η 7)) (n := η 7) (f := fun i => η (8 + i)) (h := fun k => η (571 + k)) (fun b q r s => by
            funext j; rw [ui_n q, ur_n s, ur_n r]) (by rw [ui_nj (by omega), ur_n (by omega), ur_n (by omega)]; exact h12.1) ui_s (by rw [ui_nj (by omega), ui_nj (by omega), ui_nj (by omega), ur_n (by omega), ur_n (by omega)]; exact ⟨rfl, rfl, rfl⟩)
            (fun i x y => by rw [ui_n (by omega), ur_n (by omega), ur_s]; unfold cpyr; rw [if_pos (by omega)]; exact hT2.2.2.2.1 i x y)
            (fun k x y => by rw [ui_n (by omega), ur_s]; unfold cpyr; rw [if_pos (by omega), ur_n (by omega)]; exact hT2.2.2.2.2 k x y) h77
        have hf3 : GF g I (ui (ur (ur I2 (g + 28) (cpyr (I2 (g + 28)) (I2 (t + 9)) 52)) (g + 29) (cpyr (ur I2 (g + 28) (cpyr (I2 (g + 28)) (I2 (t + 9)) 52) (g + 29)) (ur I2 (g + 28) (cpyr (I2 (g + 28)) (I2 (t + 9)) 52) (t + 10)) 13)) g 13 (η 7)) := ((hf2.wr (by omega) (by omega)).wr (by omega) (by omega)).w (by omega) (by omega)
        generalize ui (ur (ur I2 (g + 28) (cpyr (I2 (g + 28)) (I2 (t + 9)) 52)) (g + 29) (cpyr (ur I2 (g + 28) (cpyr (I2 (g + 28)) (I2 (t + 9)) 52) (g + 29)) (ur I2 (g + 28) (cpyr (I2 (g + 28)) (I2 (t + 9)) 52) (t + 10)) 13)) g 13 (η 7) = I3 at hr3 hf3
        have hB := hη.B1
        have hcv := hB.cv hη
        have t4 := hr2.turn
        have hz := hη.2.2.2.2.1
        have heq : EQ (hpn σ2 (η 7) (fun i => η (8 + i)) (fun k => η (571 + k))) (us (f_beg1 η 0 (η 1).toNat) 4 (σ2 4)) := by
          have cc : ∀ j, 229 ≤ j ∧ j < 235 → hpn σ2 (η 7) (fun i => η (8 + i)) (fun k => η (571 + k)) j = us (f_beg1 η 0 (η 1).toNat) 4 (σ2 4) j := fun j q => by
            have a := v3 (j - 229) (by omega) (by omega)
            have b := hB.2.1 (j - 229) (by omega) (by omega)
            rw [show 229 + (j - 229) = j by omega] at a b
            rw [hpn_n (by omega), us_n (by omega), a, b, show p = η 1 by omega]
          refine ⟨fun j q => ?_, fun i x y => ?_, fun q i x y u w r => ?_⟩
          · by_cases j4 : j = 4
            · subst j4; rw [us_s]; exact hpn_n (by omega)
            rw [us_n j4]
            by_cases jo : 229 ≤ j ∧ j < 235
            · rw [cc j jo, us_n j4]
            rw [hB.1 j (by omega)]
            by_cases j7 : j = 7
            · subst j7; rfl
            by_cases jc : 571 ≤ j ∧ j < 584
            · unfold hpn
              rw [if_neg j7, if_neg (by omega), if_pos jc]
              show η (571 + (j - 571)) = _
              congr 1; omega
            by_cases jh : 60 ≤ j ∧ j < 138
            · rw [hpn_n (by omega)]
              have a := v2 ((j - 60) / 13) ((j - 60) % 13) (by omega) (by omega) (by omega) (by omega)
              rw [show 60 + 13 * ((j - 60) / 13) + (j - 60) % 13 = j by omega] at a
              rw [a]
              by_cases l : (j - 60) / 13 < p
              · rw [if_pos l]
              · rw [if_neg l]
                have := (hη.2.2.2.2.2.2.2.2.2 ((j - 60) / 13) ((j - 60) % 13) (by omega) (by omega) (by omega) (by omega)).2 (by omega)
                rw [show 60 + 13 * ((j - 60) / 13) + (j - 60) % 13 = j by omega] at this
                exact this.symm
            by_cases jt : 0 ≤ j ∧ j < 4
            · rw [hpn_n (by omega), v1 j (by omega)]; unfold clrow; rw [if_pos jt]
            rw [hpn_n (by omega), v1 j (by omega), clrow_z (by omega), hz j (by omega)]
          · have e7 : hpn σ2 (η 7) (fun i => η (8 + i)) (fun k => η (571 + k)) 7 = η 7 := rfl
            rw [e7] at y
            rw [us_n (by omega), hB.1 _ (by omega)]
            unfold hpn
            rw [if_neg (by omega), if_pos (by omega)]
            show η (8 + (8 + i - 8)) = _
            congr 1; omega
          · rw [hpn_n (by omega)] at r
            rw [hpn_n (by omega), us_n (by omega), hB.2.2 q i x y u w]; exact v4 q i x y u r
        have hr4 := hr3.eq heq
        refine r_aload_n (pc := 103) dX3_begin_103 rfl rfl ?_
        have ee : us (f_beg1 η 0 (η 1).toNat) 4 (σ2 4) 1 = η 1 := by rw [us_n (by omega)]; exact hB.1 1 (by omega)
        refine r_callV0 (pc := 104) (C_first hs hf3 hr4 (hcv.usc (by omega)) (Q := fun v0 I' J' P' T' z' => v0 = some (.ref g) ∧ J' = J1 ∧ P' = P1 ∧ T' = T1 ∧ z' = z1 ∧ ∃ μ', GF g I I' ∧ GR I' g t (f_begins η) μ') (fun I' μ' x y => ⟨rfl, rfl, rfl, rfl, rfl, μ', x, by rw [ee, k4_beg2 _ _ (by omega), k4_settles] at y; exact y⟩)) im_X3_first qs2 q389 hs.o rfl dX3_begin_104 (Nat.le_of_ble_eq_true rfl) (Nat.le_of_ble_eq_true rfl) rfl (?_) (fun _ _ _ _ _ _ _ hx => no_x hx)
        rintro v0 I7 J7 P7 T7 z7 ⟨rfl, rfl, rfl, rfl, rfl, μ7, hf7, hr7⟩
        refine r_areturn (pc := 107) rfl (by first | exact Or.inl ⟨_, rfl⟩ | exact Or.inr ⟨_, rfl⟩) dX3_begin_107 (Nat.le_of_ble_eq_true rfl) (Nat.le_of_ble_eq_true rfl) ?_
        exact hQ _ _ hf7 hr7
      omega
    | succ n ih =>
      intro p I2 σ2 l3 h0 hn hf2 hr2 h12 v1 v2 v3 v4
      have hT2 := hT.fr hf2 htt
      have hc := hη.cards (p := p) (by omega)
      have p6 : 0 ≤ p ∧ p < 6 := by omega
      refine r_iload_n (pc := 7) dX3_begin_7 rfl rfl ?_
      refine r_aload_n (pc := 8) dX3_begin_8 rfl rfl ?_
      refine r_getr (pc := 9) (c := 3) (k := 0) (kz := 0) hs.o cok_3 (Nat.le_of_ble_eq_true rfl) q259 ⟨rfl, rfl⟩ (Or.inl rfl) rfl (fun _ _ _ => rfl) hs.p_t dX3_begin_9 ?_
      refine r_callV0 (pc := 12) (C_many hs.tb fe_i) im_X2_many q369 q367 hs.tb.o rfl dX3_begin_12 (Nat.le_of_ble_eq_true rfl) (Nat.le_of_ble_eq_true rfl) rfl (k_fi ?_) (fun _ _ _ _ _ _ _ hx => no_x hx)
      rw [hT2.1.2.1]
      refine r_icmp_ge (pc := 15) 64 dX3_begin_15 rfl (by omega) (by omega) (fun h15 => ?_) (fun h15 => ?_)
      · omega
      refine r_aload_n (pc := 18) dX3_begin_18 rfl rfl ?_
      refine r_getr (pc := 19) (c := 3) (k := 0) (kz := 0) hs.o cok_3 (Nat.le_of_ble_eq_true rfl) q259 ⟨rfl, rfl⟩ (Or.inl rfl) rfl (fun _ _ _ => rfl) hs.p_t dX3_begin_19 ?_
      refine r_getrN (pc := 22) (c := 2) (k := 6) (kz := 6) hs.tb.o cok_2 (Nat.le_of_ble_eq_true rfl) q224 ⟨rfl, rfl⟩ (Or.inl rfl) rfl (fun _ _ _ => rfl) hs.tb.p_hand dX3_begin_22 ?_
      refine r_iload_n (pc := 25) dX3_begin_25 rfl rfl ?_
      refine r_aald (pc := 26) hs.tb.t_hand ⟨by decide, by decide⟩ rfl (fun _ _ _ => rfl) (by omega) (by omega) (hs.tb.q_hand (by omega) (by omega)) dX3_begin_26 ?_
      refine r_aload_n (pc := 27) dX3_begin_27 rfl rfl ?_
      refine r_getr (pc := 28) (c := 3) (k := 1) (kz := 1) hs.o cok_3 (Nat.le_of_ble_eq_true rfl) q264 ⟨rfl, rfl⟩ (Or.inl rfl) rfl (fun _ _ _ => rfl) hs.p_hand dX3_begin_28 ?_
      refine r_iload_n (pc := 31) dX3_begin_31 rfl rfl ?_
      refine r_aald (pc := 32) hs.t_hand ⟨by decide, by decide⟩ rfl (fun _ _ _ => rfl) (by omega) (by omega) (hs.q_hand (by omega) (by omega)) dX3_begin_32 ?_
      refine r_callS2 (pc := 33) (C_copy (hs.tb.u_hand (by omega) (by omega)) (hs.u_hand (by omega) (by omega)) (by omega) (by omega) fe_i) im_X3_copy q375 dX3_begin_33 (Nat.le_of_ble_eq_true rfl) (Nat.le_of_ble_eq_true rfl) rfl (k_fv ?_) (fun _ _ _ _ _ _ _ hx => no_x hx)
      have hr3 := hr2.hand_r (p := p) (f := cpyr (I2 (g + 2 + p.toNat)) (I2 (t + 3 + p.toNat)) 13) (by omega) (by omega)
      have hf3 : GF g I (ur I2 (g + 2 + p.toNat) (cpyr (I2 (g + 2 + p.toNat)) (I2 (t + 3 + p.toNat)) 13)) := hf2.wr (by omega) (by omega)
      have eh : ∀ k, 0 ≤ k → k < 13 → rwf σ2 (60 + 13 * p) 13 (cpyr (I2 (g + 2 + p.toNat)) (I2 (t + 3 + p.toNat)) 13) (60 + 13 * p + k) = η (60 + 13 * p + k) := fun k x y => by
        rw [rwf_i x y]; unfold cpyr; rw [if_pos ⟨x, y⟩]; exact hT2.2.2.1 p k h0 (by omega) x y
      have en : ∀ j, ¬ (60 + 13 * p ≤ j ∧ j < 60 + 13 * p + 13) → rwf σ2 (60 + 13 * p) 13 (cpyr (I2 (g + 2 + p.toNat)) (I2 (t + 3 + p.toNat)) 13) j = σ2 j := fun j q => rwf_n q
      have g12 : ur I2 (g + 2 + p.toNat) (cpyr (I2 (g + 2 + p.toNat)) (I2 (t + 3 + p.toNat)) 13) g = I2 g := ur_n (by omega)
      generalize ur I2 (g + 2 + p.toNat) (cpyr (I2 (g + 2 + p.toNat)) (I2 (t + 3 + p.toNat)) 13) = I3 at hr3 hf3 g12
      generalize rwf σ2 (60 + 13 * p) 13 (cpyr (I2 (g + 2 + p.toNat)) (I2 (t + 3 + p.toNat)) 13) = σ3 at hr3 eh en
      have ec : f_cards σ3 p = f_cards η p := f_cards_c (fun j x y => eh j x y)
      refine r_aload_n (pc := 36) dX3_begin_36 rfl rfl ?_
      refine r_iload_n (pc := 37) dX3_begin_37 rfl rfl ?_
      refine r_callV1 (pc := 38) (C_size hs hr3 p6 fe_i) im_X3_size q383 q381 hs.o rfl dX3_begin_38 (Nat.le_of_ble_eq_true rfl) (Nat.le_of_ble_eq_true rfl) rfl (k_fi ?_) (fun _ _ _ _ _ _ _ hx => no_x hx)
      rw [ec]
      refine r_istore_n3 (pc := 41) (Nat.le_of_ble_eq_true rfl) dX3_begin_41 rfl ?_
      have o0 : σ3 (229 + p) = 0 := by rw [en _ (by omega), v3 p p6.1 p6.2, if_neg (by omega)]
      have inner : ∀ (m : Nat) (k : Int) (I4 : HI) (σ4 : Int → Int), k = m → GF g I I4 → GR I4 g t σ4 (I (g + 30)) → (I4 g 12 = 0 ∧ I4 g 14 = I g 14) → (∀ j, j ≠ 229 + p → ¬ (235 + 52 * p ≤ j ∧ j < 235 + 52 * p + 52) → σ4 j = σ3 j) → σ4 (229 + p) + k = f_cards η p → 0 ≤ σ4 (229 + p) → (∀ i, 0 ≤ i → i < σ4 (229 + p) → σ4 (235 + 52 * p + i) = 0) → PW G mX3_begin (rmD (d + 7) 0 0) (MZ G Q nX 0 0) 0 0 I4 J1 P1 T1 z1 42 [some (.ref g), some (.ref t), some (iv p), some (iv k)] [] := by
        intro m
        induction m with
        | zero =>
          intro k I4 σ4 hk hf4 hr4 h124 w1 w2 w3 w4
          refine r_iload_n (pc := 42) dX3_begin_42 rfl rfl ?_
          refine r_if_le (pc := 43) 58 dX3_begin_43 rfl (by omega) (fun h43 => ?_) (fun h43 => ?_)
          · refine r_iinc2 (pc := 58) (Nat.le_of_ble_eq_true rfl) dX3_begin_58 rfl ?_
            refine r_goto (pc := 61) 7 dX3_begin_61 rfl ?_
            refine ih (p + 1) I4 σ4 _ (by omega) (by omega) hf4 hr4 h124 (fun j q => ?_) (fun q k x y u w => ?_) (fun q x y => ?_) (fun q i x y u w => ?_)
            · rw [w1 j (by omega) (by omega), en j (by omega)]; exact v1 j q
            · rw [w1 _ (by omega) (by omega)]
              by_cases e : q = p
              · subst e; rw [eh k u w, if_pos (by omega)]
              · rw [en _ (by omega), v2 q k x y u w]
                by_cases l : q < p
                · rw [if_pos l, if_pos (by omega)]
                · rw [if_neg l, if_neg (by omega)]
            · by_cases e : q = p
              · subst e; rw [if_pos (by omega)]; omega
              · rw [w1 _ (by omega) (by omega), en _ (by omega), v3 q x y]
                by_cases l : q < p
                · rw [if_pos l, if_pos (by omega)]
                · rw [if_neg l, if_neg (by omega)]
            · by_cases e : q = p
              · subst e; exact w4 i u w
              · rw [w1 _ (by omega) (by omega), en _ (by omega)] at w
                have ho := v3 q x y
                have hcq := hη.cards (p := q) (by omega)
                have : σ2 (229 + q) ≤ 52 := by rw [ho]; split <;> omega
                rw [w1 _ (by omega) (by omega), en _ (by omega)]; exact v4 q i x y u w
          omega
        | succ m im =>
          intro k I4 σ4 hk hf4 hr4 h124 w1 w2 w3 w4
          refine r_iload_n (pc := 42) dX3_begin_42 rfl rfl ?_
          refine r_if_le (pc := 43) 58 dX3_begin_43 rfl (by omega) (fun h43 => ?_) (fun h43 => ?_)
          · omega
          refine r_aload_n (pc := 46) dX3_begin_46 rfl rfl ?_
          refine r_iload_n (pc := 47) dX3_begin_47 rfl rfl ?_
          refine r_iconst (pc := 48) dX3_begin_48 ?_
          refine r_callV2 (pc := 49) (C_othersX hs hr4 p6 (by omega) (by omega) fe_i) im_X3_others qs1 q385 hs.o rfl dX3_begin_49 (Nat.le_of_ble_eq_true rfl) (Nat.le_of_ble_eq_true rfl) rfl (k_fv ?_) (fun _ _ _ _ _ _ _ hx => no_x hx)
          have hr5 := hr4.adds_w (p := p) (m := 0) (by omega) (by omega) (by omega) (by omega)
          have hf5 : GF g I (ui (ui I4 (g + 16 + p.toNat) (σ4 (229 + p)) 0) (g + 22) p (σ4 (229 + p) + 1)) := (hf4.w (by omega) (by omega)).w (by omega) (by omega)
          have i12 : ui (ui I4 (g + 16 + p.toNat) (σ4 (229 + p)) 0) (g + 22) p (σ4 (229 + p) + 1) g 12 = 0 ∧ ui (ui I4 (g + 16 + p.toNat) (σ4 (229 + p)) 0) (g + 22) p (σ4 (229 + p) + 1) g 14 = I g 14 := by
            rw [ui_n (by omega), ui_n (by omega), ui_n (by omega), ui_n (by omega)]; exact h124
          refine r_iinc3 (pc := 52) (Nat.le_of_ble_eq_true rfl) dX3_begin_52 rfl ?_
          refine r_goto (pc := 55) 42 dX3_begin_55 rfl ?_
          have q1 : f_adds σ4 p 0 (229 + p) = σ4 (229 + p) + 1 := us_s
          have q2 : ∀ j, j ≠ 229 + p → j ≠ 235 + 52 * p + σ4 (229 + p) → f_adds σ4 p 0 j = σ4 j := fun j a b => by unfold f_adds; rw [us_n a, us_n b]
          have q3 : f_adds σ4 p 0 (235 + 52 * p + σ4 (229 + p)) = 0 := by unfold f_adds; rw [us_n (by omega), us_s]
          refine im (k + -1) _ _ (by omega) hf5 hr5 i12 (fun j a b => by rw [q2 j a (by omega)]; exact w1 j a b) (by omega) (by omega) (fun i x y => ?_)
          by_cases e : i = σ4 (229 + p)
          · rw [e]; exact q3
          · rw [q2 _ (by omega) (by omega)]; exact w4 i x (by omega)
      refine inner (f_cards η p).toNat (f_cards η p) I3 σ3 (by omega) hf3 hr3 (by rw [g12]; exact h12) (fun _ _ _ => rfl) (by omega) (by omega) (fun i x y => by omega)
  refine loop (η 1).toNat 0 I1 (clrow I g η) _ (by omega) (by omega) hf1 hr1 ⟨hcl.2.2.2.2.2.1, e14⟩ (fun j q => rfl) (fun q k x y u w => ?_) (fun q x y => ?_) (fun q i x y u w => ?_)
  · rw [if_neg (by omega)]; exact clrow_z (by omega)
  · rw [if_neg (by omega)]; exact clrow_z (by omega)
  · rw [clrow_z (by omega)] at w; omega
end K6
