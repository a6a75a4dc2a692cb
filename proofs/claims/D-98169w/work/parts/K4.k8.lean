/-! ===== the component: deals ===== -/
section K8
variable {G : GE} {I I0 J : HI} {P : HP} {T : HT} {z : Nat} {g g2 t d : Nat} {Q : QT} {σ μ η π : Int → Int}
theorem C_drawn (hs : shG0 G P T g) {n : Int} (hn : 0 < n ∧ n ≤ 52) (hQ : Q (some (iv (f_dr (I g 18) n))) (ui I g 18 (f_seed (I g 18))) J P T z) : MC G yX3_drawn (ws_ yX3_drawn cX3_drawn 2 (some FieldType.int)) (d) 0 0 [.ref g, iv n] I J P T z Q nX := by
  have hb := hs.b
  refine MC.of (by decide) (Nat.le_of_ble_eq_true rfl) ?_
  show PW G mX3_drawn (rmD (d) 0 0) (MZ G Q nX 0 0) 0 0 I J P T z 0 [some (.ref g), some (iv n)] []
  refine r_aload_n (pc := 0) dX3_drawn_0 rfl rfl ?_
  refine r_aload_n (pc := 1) dX3_drawn_1 rfl rfl ?_
  refine r_geti (pc := 2) (c := 3) (k := 18) (kz := 18) hs.o cok_3 (Nat.le_of_ble_eq_true rfl) q316 ⟨rfl, rfl⟩ (Or.inl rfl) rfl (fun _ _ _ => rfl) dX3_drawn_2 (fun hr2 => ?_)
  refine r_ldc (pc := 5) (x := 1103515245) q1478 dX3_drawn_5 (by decide +kernel) ?_
  refine r_imul (pc := 7) dX3_drawn_7 ?_
  refine r_sipush (pc := 8) dX3_drawn_8 (by decide +kernel) ?_
  refine r_iadd (pc := 11) dX3_drawn_11 ?_
  rw [← iv_wr (x := I g 18 * 1103515245 + 12345)]
  have r0 : rg (wr (I g 18 * 1103515245 + 12345)) := wr_r
  refine r_puti (pc := 12) (c := 3) (k := 18) (kz := 18) hs.o cok_3 (Nat.le_of_ble_eq_true rfl) q316 ⟨rfl, rfl⟩ (Or.inl rfl) rfl (by omega) rfl rfl (by omega) (fun _ _ _ => rfl) ⟨rfl, rfl⟩ dX3_drawn_12 ?_
  refine r_aload_n (pc := 15) dX3_drawn_15 rfl rfl ?_
  refine r_geti (pc := 16) (c := 3) (k := 18) (kz := 18) hs.o cok_3 (Nat.le_of_ble_eq_true rfl) q316 ⟨rfl, rfl⟩ (Or.inl rfl) rfl (fun _ _ _ => rfl) dX3_drawn_16 (fun hr16 => ?_)
  rw [ui_s] at hr16 ⊢
  refine r_bipush (pc := 19) dX3_drawn_19 (by decide +kernel) ?_
  refine r_iushr (pc := 21) dX3_drawn_21 (by omega) ?_
  have e8 : ((2 ^ (8 : Int).toNat : Nat) : Int) = 256 := rfl
  rw [e8]
  refine r_iload_n (pc := 22) dX3_drawn_22 rfl rfl ?_
  refine r_irem (pc := 23) dX3_drawn_23 (by omega) (by omega) ?_
  refine r_ireturn (pc := 24) rfl rfl dX3_drawn_24 (Nat.le_of_ble_eq_true rfl) (Nat.le_of_ble_eq_true rfl) ?_
  exact hQ
theorem fillr_us {f : Int → Int} {i v : Int} (h : 0 ≤ i) : us (fillr f i v) i v = fillr f (i + 1) v := by
  funext j
  simp only [us, fillr]
  by_cases q : j = i
  · rw [if_pos q, if_pos (by omega)]
  · rw [if_neg q]
    by_cases r : 0 ≤ j ∧ j < i
    · rw [if_pos r, if_pos (by omega)]
    · rw [if_neg r, if_neg (by omega)]
theorem fillr_0 {f : Int → Int} {v : Int} : fillr f 0 v = f := by funext j; simp only [fillr]; rw [if_neg (by omega)]
/-- what is so while cards are dealt -/
def DS (X b σ : Int → Int) (n s p k : Int) : Prop := (∀ j, (0 ≤ j ∧ j < 7) ∨ (138 ≤ j ∧ j < 229) ∨ (547 ≤ j ∧ j < 584) → σ j = b j) ∧ (∀ q c, 0 ≤ q → q < 6 → 0 ≤ c → c < 13 → σ (60 + 13 * q + c) = hcn X n (p * n + k) q c) ∧ (σ 7 = s - (p * n + k) ∧ ∀ j, 0 ≤ j → j < s - (p * n + k) → σ (8 + j) = X (p * n + k + j)) ∧ (∀ q, 0 ≤ q → q < 6 → σ (229 + q) = if q < p then n else if q = p then k else 0) ∧ (∀ q i, 0 ≤ q → q < 6 → 0 ≤ i → i < σ (229 + q) → σ (235 + 52 * q + i) = 0)
theorem DS.next {X b : Int → Int} {n s p : Int} (h : DS X b σ n s p n) : DS X b σ n s (p + 1) 0 := by
  obtain ⟨a1, a2, a3, a4, a5⟩ := h
  have e : (p + 1) * n + 0 = p * n + n := by rw [Int.add_mul]; omega
  unfold DS
  rw [e]
  refine ⟨a1, a2, a3, fun q x y => ?_, a5⟩
  rw [a4 q x y]
  by_cases l : q < p
  · rw [if_pos l, if_pos (by omega)]
  · rw [if_neg l]
    by_cases l2 : q = p
    · rw [if_pos l2, if_pos (by omega)]
    · rw [if_neg l2, if_neg (by omega)]; split <;> rfl
theorem DS.step {X b : Int → Int} {n s p k : Int} (h : DS X b σ n s p k) (hp : 0 ≤ p ∧ p < 6) (hk : 0 ≤ k ∧ k < n) (hn : n ≤ 9) (hs : p * n + k < s ∧ s ≤ 52) (hpn : 0 ≤ p * n) (hX : 0 ≤ X (p * n + k) ∧ X (p * n + k) < 13) (e8 : σ 8 = X (p * n + k)) : DS X b (f_adds (dl (us (us σ (60 + 13 * p + σ 8) (σ (60 + 13 * p + σ 8) + 1)) 7 (σ 7 - 1)) 8 (σ 7 - 1) 0) p 0) n s p (k + 1) := by
  obtain ⟨a1, a2, ⟨a3, a6⟩, a4, a5⟩ := h
  have o : σ (229 + p) = k := by rw [a4 p hp.1 hp.2, if_neg (by omega), if_pos rfl]
  have ee : p * n + (k + 1) = p * n + k + 1 := by omega
  have nn : ∀ j, j < 7 ∨ 60 ≤ j → j ≠ 60 + 13 * p + σ 8 → dl (us (us σ (60 + 13 * p + σ 8) (σ (60 + 13 * p + σ 8) + 1)) 7 (σ 7 - 1)) 8 (σ 7 - 1) 0 j = σ j := fun j q r => by
    unfold dl
    rw [if_neg (by omega), us_n (by omega), us_n r]
  have oo : dl (us (us σ (60 + 13 * p + σ 8) (σ (60 + 13 * p + σ 8) + 1)) 7 (σ 7 - 1)) 8 (σ 7 - 1) 0 (229 + p) = k := by rw [nn _ (by omega) (by omega)]; exact o
  have na : ∀ j, j ≠ 229 + p → j ≠ 235 + 52 * p + k → f_adds (dl (us (us σ (60 + 13 * p + σ 8) (σ (60 + 13 * p + σ 8) + 1)) 7 (σ 7 - 1)) 8 (σ 7 - 1) 0) p 0 j = dl (us (us σ (60 + 13 * p + σ 8) (σ (60 + 13 * p + σ 8) + 1)) 7 (σ 7 - 1)) 8 (σ 7 - 1) 0 j := fun j q r => by
    unfold f_adds
    rw [us_n q, oo, us_n r]
  have e7 : dl (us (us σ (60 + 13 * p + σ 8) (σ (60 + 13 * p + σ 8) + 1)) 7 (σ 7 - 1)) 8 (σ 7 - 1) 0 7 = σ 7 - 1 := by
    unfold dl
    rw [if_neg (by omega), us_s]
  have dv : (p * n + k) / n = p := ediv_pn hk.1 hk.2
  refine ⟨fun j q => ?_, fun q c x y u w => ?_, ⟨?_, fun j x y => ?_⟩, fun q x y => ?_, fun q i x y u w => ?_⟩
  · rw [na j (by omega) (by omega), nn j (by omega) (by omega)]; exact a1 j q
  · rw [na _ (by omega) (by omega), ee, hcn_s (by omega), dv]
    by_cases g : q = p ∧ c = σ 8
    · obtain ⟨rfl, rfl⟩ := g
      unfold dl
      rw [if_neg (by omega), us_n (by omega), us_s, a2 _ _ x y u w, bz_t ⟨rfl, e8.symm⟩]
    · rw [nn _ (by omega) (by omega), a2 q c x y u w, bz_f (fun r => g ⟨r.1.symm, by omega⟩)]; omega
  · rw [na 7 (by omega) (by omega), e7]; omega
  · rw [na _ (by omega) (by omega)]
    unfold dl
    rw [if_pos (by omega), us_n (by omega), us_n (by omega), show 8 + j + 1 = 8 + (j + 1) by omega, a6 (j + 1) (by omega) (by omega)]; congr 1; omega
  · by_cases g : q = p
    · subst g
      rw [if_neg (by omega), if_pos rfl]
      unfold f_adds; rw [us_s, oo]
    · rw [na _ (by omega) (by omega), nn _ (by omega) (by omega), a4 q x y]
      by_cases l : q < p
      · rw [if_pos l, if_pos l]
      · rw [if_neg l, if_neg l, if_neg g, if_neg g]
  · by_cases g : q = p
    · subst g
      have eo : f_adds (dl (us (us σ (60 + 13 * q + σ 8) (σ (60 + 13 * q + σ 8) + 1)) 7 (σ 7 - 1)) 8 (σ 7 - 1) 0) q 0 (229 + q) = k + 1 := by unfold f_adds; rw [us_s, oo]
      rw [eo] at w
      by_cases l : i = k
      · unfold f_adds; rw [us_n (by omega), oo, us_e (by omega)]
      · rw [na _ (by omega) (by omega), nn _ (by omega) (by omega)]; exact a5 q i x y u (by omega)
    · have eo : f_adds (dl (us (us σ (60 + 13 * p + σ 8) (σ (60 + 13 * p + σ 8) + 1)) 7 (σ 7 - 1)) 8 (σ 7 - 1) 0) p 0 (229 + q) = σ (229 + q) := by rw [na _ (by omega) (by omega), nn _ (by omega) (by omega)]
      rw [eo] at w
      have hq := a4 q x y
      have : σ (229 + q) ≤ 9 := by
        by_cases l : q < p
        · rw [hq, if_pos l]; omega
        · rw [hq, if_neg l, if_neg g]; omega
      rw [na _ (by omega) (by omega), nn _ (by omega) (by omega)]; exact a5 q i x y u w
set_option maxHeartbeats 2000000 in
theorem C_deal (hs0 : shG0 G P T g) (htb : shT G P T t) (htt : t + 11 ≤ g ∨ g + 31 ≤ t) (ta : I t 0 = σ 0 ∧ I (t + 1) 2 = σ 1 ∧ I t 4 = σ 2 ∧ I t 1 = σ 3) (h13 : 0 ≤ I g 13 ∧ I g 13 ≤ 52) (h0 : 1 ≤ σ 0 ∧ σ 0 ≤ 13) (h1 : 1 ≤ σ 1 ∧ σ 1 ≤ 6) (h23 : (σ 2 = 0 ∨ σ 2 = 1) ∧ 0 ≤ σ 3 ∧ σ 3 ≤ 9) {n x : Int} (hn : 1 ≤ n ∧ n ≤ 9) (hx : rg x) (hm : n * σ 1 ≤ 4 * σ 0)
    (hQ : ∀ I' μ', GF g I I' → GR I' g t (f_begins (f_dealt π σ n x)) μ' → Q (some (.ref g)) I' J (up P g 0 (some t)) T z) : MC G yX3_deal (ws_ yX3_deal cX3_deal 7 (some (FieldType.object "SevenTable$Game"))) (d + 7) 0 0 [.ref g, .ref t, iv n, iv x] I J P T z Q nX := by
  have hb := hs0.b
  have hpn0 : ∀ p : Int, 0 ≤ p → 0 ≤ p * n := fun p hp => Int.mul_nonneg hp (by omega)
  have hle : ∀ p : Int, 0 ≤ p → p ≤ σ 1 → p * n ≤ 4 * σ 0 := fun p hp hq => by
    have := Int.mul_le_mul_of_nonneg_right hq (show 0 ≤ n by omega)
    rw [Int.mul_comm (σ 1)] at this
    omega
  refine MC.of (by decide) (Nat.le_of_ble_eq_true rfl) ?_
  show PW G mX3_deal (rmD (d + 7) 0 0) (MZ G Q nX 0 0) 0 0 I J P T z 0 [some (.ref g), some (.ref t), some (iv n), some (iv x), none, none, none] []
  refine r_aload_n (pc := 0) dX3_deal_0 rfl rfl ?_
  refine r_aload_n (pc := 1) dX3_deal_1 rfl rfl ?_
  refine r_callV1 (pc := 2) (C_clear hs0 htb htt (Q := fun v0 I' J' P' T' z' => v0 = none ∧ J' = J ∧ P' = up P g 0 (some t) ∧ T' = T ∧ z' = z ∧ CL I I' g) (fun I' x => ⟨rfl, rfl, rfl, rfl, rfl, x⟩)) im_X3_clear qs0 q360 hs0.o rfl dX3_deal_2 (Nat.le_of_ble_eq_true rfl) (Nat.le_of_ble_eq_true rfl) rfl (?_) (fun _ _ _ _ _ _ _ hx => no_x hx)
  rintro v0 I1 J1 P1 T1 z1 ⟨rfl, rfl, rfl, rfl, rfl, hcl⟩
  have hs : shG G (up P g 0 (some t)) T1 g t := ⟨hs0.upd (Or.inr rfl) (by omega), htb.upd (by omega), by simp [up]⟩
  have hr1 := hcl.gr ta htt h13
  have hf1 := hcl.1
  have i12 : I1 g 12 = 0 := hcl.2.2.2.2.2.1
  have it0 : I1 t 0 = σ 0 := by rw [hf1 t (by omega)]; exact ta.1
  have it1 : I1 (t + 1) 2 = σ 1 := by rw [hf1 (t + 1) (by omega)]; exact ta.2.1
  generalize up P g 0 (some t) = P1 at hs hQ
  refine r_aload_n (pc := 5) dX3_deal_5 rfl rfl ?_
  refine r_iload_n (pc := 6) dX3_deal_6 rfl rfl ?_
  refine r_puti (pc := 7) (c := 3) (k := 18) (kz := 18) hs.o cok_3 (Nat.le_of_ble_eq_true rfl) q316 ⟨rfl, rfl⟩ (Or.inl rfl) rfl (by omega) rfl rfl (by omega) (fun _ _ _ => rfl) ⟨rfl, rfl⟩ dX3_deal_7 ?_
  try simp (disch := omega) only [ui_ur, ui_ur_n, ur_sv, ur_nv, ui_sv, ui_nv, ui_uis, us_s, us_n]
  refine r_aload_n (pc := 10) dX3_deal_10 rfl rfl ?_
  refine r_iconst (pc := 11) dX3_deal_11 ?_
  refine r_aload_n (pc := 12) dX3_deal_12 rfl rfl ?_
  refine r_getr (pc := 13) (c := 3) (k := 0) (kz := 0) hs.o cok_3 (Nat.le_of_ble_eq_true rfl) q259 ⟨rfl, rfl⟩ (Or.inl rfl) rfl (fun _ _ _ => rfl) hs.p_t dX3_deal_13 ?_
  refine r_getiN (pc := 16) (c := 2) (k := 0) (kz := 0) hs.tb.o cok_2 (Nat.le_of_ble_eq_true rfl) q206 ⟨rfl, rfl⟩ (Or.inl rfl) rfl (fun _ _ _ => rfl) dX3_deal_16 (fun hr16 => ?_)
  try simp (disch := omega) only [ui_ur, ui_ur_n, ur_sv, ur_nv, ui_sv, ui_nv, ui_uis, us_s, us_n] at hr16 ⊢
  rw [it0] at hr16 ⊢
  refine r_imul (pc := 19) dX3_deal_19 ?_
  refine r_puti (pc := 20) (c := 3) (k := 13) (kz := 13) hs.o cok_3 (Nat.le_of_ble_eq_true rfl) q304 ⟨rfl, rfl⟩ (Or.inl rfl) rfl (by omega) rfl rfl (by omega) (fun _ _ _ => rfl) ⟨rfl, rfl⟩ dX3_deal_20 ?_
  try simp (disch := omega) only [ui_ur, ui_ur_n, ur_sv, ur_nv, ui_sv, ui_nv, ui_uis, us_s, us_n]
  refine r_iconst (pc := 23) dX3_deal_23 ?_
  refine r_istore4 (pc := 24) (Nat.le_of_ble_eq_true rfl) dX3_deal_24 rfl ?_
  refine r_rg fun hrg2 => ?_
  have hI2 : ∀ b : Nat, b ≠ g → ui (ui I1 g 18 x) g 13 (4 * σ 0) b = I1 b := fun b q => by funext j; rw [ui_n q, ui_n q]
  have i13 : ui (ui I1 g 18 x) g 13 (4 * σ 0) g 13 = 4 * σ 0 := ui_s
  have i18 : ui (ui I1 g 18 x) g 13 (4 * σ 0) g 18 = x := by rw [ui_nj (by omega), ui_s]
  have i12b : ui (ui I1 g 18 x) g 13 (4 * σ 0) g 12 = 0 := by rw [ui_nj (by omega), ui_nj (by omega)]; exact i12
  have i1456 : ui (ui I1 g 18 x) g 13 (4 * σ 0) g 14 = I1 g 14 ∧ ui (ui I1 g 18 x) g 13 (4 * σ 0) g 15 = I1 g 15 ∧ ui (ui I1 g 18 x) g 13 (4 * σ 0) g 16 = I1 g 16 := by
    rw [ui_nj (by omega), ui_nj (by omega), ui_nj (by omega), ui_nj (by omega), ui_nj (by omega), ui_nj (by omega)]; exact ⟨rfl, rfl, rfl⟩
  have hf2 : GF g I (ui (ui I1 g 18 x) g 13 (4 * σ 0)) := (hf1.w (by omega) (by omega)).w (by omega) (by omega)
  generalize ui (ui I1 g 18 x) g 13 (4 * σ 0) = I2 at hI2 i13 i18 i12b i1456 hf2 hrg2
  have t02 : I2 t 0 = σ 0 := by rw [hI2 t (by omega)]; exact it0
  have t12 : I2 (t + 1) 2 = σ 1 := by rw [hI2 (t + 1) (by omega)]; exact it1
  -- dealing and the end
  have endD : ∀ (I6 : HI) (σ6 : Int → Int) (X : Int → Int) (l4 l5 l6 : Option Value), GF g I I6 → GR I6 g t σ6 (I (g + 30)) → DS X (hpn (clrow I g σ) (4 * σ 0) X (fun k => if k < σ 0 then 4 else 0)) σ6 n (4 * σ 0) (σ 1) 0 → (∀ j, 0 ≤ j → j < 4 * σ 0 → X j = (f_shuffled π σ x).1 j) → PW G mX3_deal (rmD (d + 7) 0 0) (MZ G Q nX 0 0) 0 0 I6 J1 P1 T1 z1 224 [some (.ref g), some (.ref t), some (iv n), some (iv x), l4, l5, l6] [] := by
    intro I6 σ6 X l4 l5 l6 hf6 hr6 hD hX
    obtain ⟨a1, a2, ⟨a3, a6⟩, a4, a5⟩ := hD
    rw [show σ 1 * n + 0 = σ 1 * n by omega] at a2 a3 a6
    have hDT := dealt_DT (π := π) (sd := x) h0 h1 hn.1 hm
    have hη := hDT.hw ⟨by omega, h23⟩ h0 h1 hn.1 hm
    have hcards := fun p (hp : 0 ≤ p ∧ p < 6) => hDT.cards h0 h1 hn.1 hm (p := p) hp
    obtain ⟨d1, d2, d3, d4⟩ := hDT
    have hN := hpn0 (σ 1) (by omega)
    have hN2 := hle (σ 1) (by omega) (by omega)
    have e9 : (if 4 * σ 0 < σ 1 * n then 4 * σ 0 else σ 1 * n) = σ 1 * n := by split <;> omega
    rw [if_neg (by omega)] at d3
    have dz : ∀ j, (0 ≤ j ∧ j < 4) → f_dealt π σ n x j = σ j := fun j q => by rw [d1 j (by omega), deal0_v, if_neg (by omega), if_neg (by omega)]
    generalize f_dealt π σ n x = ρ at hη hcards d1 d2 d3 d4 hQ dz
    have hB := hη.B1
    have hcv := hB.cv hη
    have heq : EQ σ6 (us (f_beg1 ρ 0 (ρ 1).toNat) 4 (σ6 4)) := by
      refine ⟨fun j q => ?_, fun i x y => ?_, fun q i x y u w r => ?_⟩
      · by_cases j4 : j = 4
        · subst j4; rw [us_s]
        rw [us_n j4]
        by_cases jo : 229 ≤ j ∧ j < 235
        · have a := a4 (j - 229) (by omega) (by omega)
          have b := hB.2.1 (j - 229) (by omega) (by omega)
          rw [show 229 + (j - 229) = j by omega] at a b
          rw [a, b, hcards _ (by omega), dz 1 (by omega)]
          split
          · rfl
          · split <;> rfl
        rw [hB.1 j (by omega)]
        by_cases j7 : j = 7
        · subst j7; rw [a3, d3]
        by_cases jh : 60 ≤ j ∧ j < 138
        · have a := a2 ((j - 60) / 13) ((j - 60) % 13) (by omega) (by omega) (by omega) (by omega)
          have b := d2 ((j - 60) / 13) ((j - 60) % 13) (by omega) (by omega) (by omega) (by omega)
          rw [show 60 + 13 * ((j - 60) / 13) + (j - 60) % 13 = j by omega] at a b
          rw [a, b, e9]
          exact hcn_cg (fun i u w => hX i u (by omega))
        rw [a1 j (by omega)]
        by_cases jt : 0 ≤ j ∧ j < 4
        · rw [hpn_n (by omega), dz j jt]; unfold clrow; rw [if_pos jt]
        by_cases jc : 571 ≤ j ∧ j < 584
        · rw [d1 j (by omega), deal0_v]
          unfold hpn
          rw [if_neg j7, if_neg (by omega), if_pos jc]
          show (if j - 571 < σ 0 then (4 : Int) else 0) = _
          by_cases g9 : j < 571 + σ 0
          · rw [if_pos (by omega), if_pos (by omega)]
          · rw [if_neg (by omega), if_neg (by omega), if_pos (by omega)]
        rw [hpn_n (by omega), clrow_z (by omega), d1 j (by omega), deal0_v, if_neg (by omega), if_pos (by omega)]
      · rw [a3] at y
        rw [us_n (by omega), hB.1 _ (by omega), a6 i x y, d4 i x (by omega)]; exact hX _ (by omega) (by omega)
      · rw [us_n (by omega), hB.2.2 q i x y u w]; exact a5 q i x y u r
    have hr7 := hr6.eq heq
    refine r_aload_n (pc := 224) dX3_deal_224 rfl rfl ?_
    have ee : us (f_beg1 ρ 0 (ρ 1).toNat) 4 (σ6 4) 1 = ρ 1 := by rw [us_n (by omega)]; exact hB.1 1 (by omega)
    refine r_callV0 (pc := 225) (C_first hs hf6 hr7 (hcv.usc (by omega)) (Q := fun v0 I' J' P' T' z' => v0 = some (.ref g) ∧ J' = J1 ∧ P' = P1 ∧ T' = T1 ∧ z' = z1 ∧ ∃ μ', GF g I I' ∧ GR I' g t (f_begins ρ) μ') (fun I' μ' x y => ⟨rfl, rfl, rfl, rfl, rfl, μ', x, by rw [ee, k4_beg2 _ _ (by omega), k4_settles] at y; exact y⟩)) im_X3_first qs2 q389 hs.o rfl dX3_deal_225 (Nat.le_of_ble_eq_true rfl) (Nat.le_of_ble_eq_true rfl) rfl (?_) (fun _ _ _ _ _ _ _ hx => no_x hx)
    rintro v0 I7 J7 P7 T7 z7 ⟨rfl, rfl, rfl, rfl, rfl, μ7, hf7, hr7⟩
    refine r_areturn (pc := 228) rfl (by first | exact Or.inl ⟨_, rfl⟩ | exact Or.inr ⟨_, rfl⟩) dX3_deal_228 (Nat.le_of_ble_eq_true rfl) (Nat.le_of_ble_eq_true rfl) ?_
    exact hQ _ _ hf7 hr7
  have loop4 : ∀ (m : Nat) (p : Int) (I6 : HI) (σ6 : Int → Int) (X : Int → Int) (l5 l6 : Option Value), 0 ≤ p → p + m = σ 1 → GF g I I6 → GR I6 g t σ6 (I (g + 30)) → DS X (hpn (clrow I g σ) (4 * σ 0) X (fun k => if k < σ 0 then 4 else 0)) σ6 n (4 * σ 0) p 0 → (∀ j, 0 ≤ j → j < 4 * σ 0 → X j = (f_shuffled π σ x).1 j) → PW G mX3_deal (rmD (d + 7) 0 0) (MZ G Q nX 0 0) 0 0 I6 J1 P1 T1 z1 153 [some (.ref g), some (.ref t), some (iv n), some (iv x), some (iv p), l5, l6] [] := by
    intro m
    induction m with
    | zero =>
      intro p I6 σ6 X l5 l6 p0 pm hf6 hr6 hD hX
      obtain rfl : p = σ 1 := by omega
      refine r_iload (pc := 153) dX3_deal_153 rfl ?_
      refine r_aload_n (pc := 155) dX3_deal_155 rfl rfl ?_
      refine r_getr (pc := 156) (c := 3) (k := 0) (kz := 0) hs.o cok_3 (Nat.le_of_ble_eq_true rfl) q259 ⟨rfl, rfl⟩ (Or.inl rfl) rfl (fun _ _ _ => rfl) hs.p_t dX3_deal_156 ?_
      refine r_callV0 (pc := 159) (C_many hs.tb fe_i) im_X2_many q369 q367 hs.tb.o rfl dX3_deal_159 (Nat.le_of_ble_eq_true rfl) (Nat.le_of_ble_eq_true rfl) rfl (k_fi ?_) (fun _ _ _ _ _ _ _ hx => no_x hx)
      rw [hf6 (t + 1) (by omega), ta.2.1]
      refine r_icmp_ge (pc := 162) 224 dX3_deal_162 rfl (by omega) (by omega) (fun h162 => ?_) (fun h162 => ?_)
      · exact endD _ _ X _ _ _ hf6 hr6 hD hX
      omega
    | succ m ih =>
      intro p I6 σ6 X l5 l6 p0 pm hf6 hr6 hD hX
      have p6 : 0 ≤ p ∧ p < 6 := by omega
      refine r_iload (pc := 153) dX3_deal_153 rfl ?_
      refine r_aload_n (pc := 155) dX3_deal_155 rfl rfl ?_
      refine r_getr (pc := 156) (c := 3) (k := 0) (kz := 0) hs.o cok_3 (Nat.le_of_ble_eq_true rfl) q259 ⟨rfl, rfl⟩ (Or.inl rfl) rfl (fun _ _ _ => rfl) hs.p_t dX3_deal_156 ?_
      refine r_callV0 (pc := 159) (C_many hs.tb fe_i) im_X2_many q369 q367 hs.tb.o rfl dX3_deal_159 (Nat.le_of_ble_eq_true rfl) (Nat.le_of_ble_eq_true rfl) rfl (k_fi ?_) (fun _ _ _ _ _ _ _ hx => no_x hx)
      rw [hf6 (t + 1) (by omega), ta.2.1]
      refine r_icmp_ge (pc := 162) 224 dX3_deal_162 rfl (by omega) (by omega) (fun h162 => ?_) (fun h162 => ?_)
      · omega
      refine r_iconst (pc := 165) dX3_deal_165 ?_
      refine r_istore5 (pc := 166) (Nat.le_of_ble_eq_true rfl) dX3_deal_166 rfl ?_
      have loop5 : ∀ (m5 : Nat) (k : Int) (I7 : HI) (σ7 : Int → Int) (l6 : Option Value), 0 ≤ k → k + m5 = n → GF g I I7 → GR I7 g t σ7 (I (g + 30)) → DS X (hpn (clrow I g σ) (4 * σ 0) X (fun k => if k < σ 0 then 4 else 0)) σ7 n (4 * σ 0) p k → PW G mX3_deal (rmD (d + 7) 0 0) (MZ G Q nX 0 0) 0 0 I7 J1 P1 T1 z1 168 [some (.ref g), some (.ref t), some (iv n), some (iv x), some (iv p), some (iv k), l6] [] := by
        intro m5
        induction m5 with
        | zero =>
          intro k I7 σ7 l6 k0 km hf7 hr7 hD7
          obtain rfl : k = n := by omega
          refine r_iload (pc := 168) dX3_deal_168 rfl ?_
          refine r_iload_n (pc := 170) dX3_deal_170 rfl rfl ?_
          refine r_icmp_ge (pc := 171) 218 dX3_deal_171 rfl (by omega) (by omega) (fun h171 => ?_) (fun h171 => ?_)
          · refine r_iinc4 (pc := 218) (Nat.le_of_ble_eq_true rfl) dX3_deal_218 rfl ?_
            refine r_goto (pc := 221) 153 dX3_deal_221 rfl ?_
            exact ih (p + 1) I7 σ7 X _ _ (by omega) (by omega) hf7 hr7 hD7.next hX
          omega
        | succ m5 i5 =>
          intro k I7 σ7 l6 k0 km hf7 hr7 hD7
          have hpnp := hpn0 p p0
          have hpp : p * n + n ≤ 4 * σ 0 := by
            have := hle (p + 1) (by omega) (by omega)
            rw [Int.add_mul] at this
            omega
          have e7 := hD7.2.2.1.1
          have e8 := hD7.2.2.1.2 0 (by omega) (by omega)
          rw [show (8 : Int) + 0 = 8 by omega, Int.add_zero] at e8
          have hXr := shuffled_r (π := π) (σ := σ) (sd := x) h0 (p * n + k) (by omega) (by omega)
          rw [← hX _ (by omega) (by omega)] at hXr
          have hh := hr7.hp
          have eh := hr7.heap (i := 0) (by omega) (by omega)
          rw [show (8 : Int) + 0 = 8 by omega, Int.add_zero] at eh
          have o7 : σ7 (229 + p) = k := by rw [hD7.2.2.2.1 p p6.1 p6.2, if_neg (by omega), if_pos rfl]
          have hc0 := hD7.2.1 p (σ7 8) p6.1 p6.2 (by omega) (by omega)
          have hcr := hcn_r (χ := X) (n := n) (i := p * n + k) (q := p) (c := σ7 8)
          refine r_iload (pc := 168) dX3_deal_168 rfl ?_
          refine r_iload_n (pc := 170) dX3_deal_170 rfl rfl ?_
          refine r_icmp_ge (pc := 171) 218 dX3_deal_171 rfl (by omega) (by omega) (fun h171 => ?_) (fun h171 => ?_)
          · omega
          refine r_aload_n (pc := 174) dX3_deal_174 rfl rfl ?_
          refine r_getr (pc := 175) (c := 3) (k := 1) (kz := 1) hs.o cok_3 (Nat.le_of_ble_eq_true rfl) q264 ⟨rfl, rfl⟩ (Or.inl rfl) rfl (fun _ _ _ => rfl) hs.p_hand dX3_deal_175 ?_
          refine r_iload (pc := 178) dX3_deal_178 rfl ?_
          refine r_aald (pc := 180) hs.t_hand ⟨by decide, by decide⟩ rfl (fun _ _ _ => rfl) (by omega) (by omega) (hs.q_hand (by omega) (by omega)) dX3_deal_180 ?_
          refine r_aload_n (pc := 181) dX3_deal_181 rfl rfl ?_
          refine r_getr (pc := 182) (c := 3) (k := 10) (kz := 10) hs.o cok_3 (Nat.le_of_ble_eq_true rfl) q294 ⟨rfl, rfl⟩ (Or.inl rfl) rfl (fun _ _ _ => rfl) hs.p_heap dX3_deal_182 ?_
          refine r_aload_n (pc := 185) dX3_deal_185 rfl rfl ?_
          refine r_geti (pc := 186) (c := 3) (k := 12) (kz := 12) hs.o cok_3 (Nat.le_of_ble_eq_true rfl) q301 ⟨rfl, rfl⟩ (Or.inl rfl) rfl (fun _ _ _ => rfl) dX3_deal_186 (fun hr186 => ?_)
          refine r_iald (pc := 189) hs.t_heap (by omega) (by omega) dX3_deal_189 (fun hr189 => ?_)
          rw [eh] at hr189 ⊢
          refine r_dup2 (pc := 190) dX3_deal_190 rfl rfl ?_
          refine r_iald (pc := 191) (hs.u_hand (by omega) (by omega)) (by omega) (by omega) dX3_deal_191 (fun hr191 => ?_)
          rw [hr7.hand (by omega) (by omega) (by omega) (by omega)] at hr191 ⊢
          refine r_iconst (pc := 192) dX3_deal_192 ?_
          refine r_iadd (pc := 193) dX3_deal_193 ?_
          refine r_iast (pc := 194) (hs.u_hand (by omega) (by omega)) (by omega) (by omega) (by omega) (by omega) dX3_deal_194 ?_
          refine g_hand_w hf7 hr7 (by omega) (by omega) (by omega) (by omega) fun Ig1 hfg1 hrg1 => ?_
          refine r_aload_n (pc := 195) dX3_deal_195 rfl rfl ?_
          refine r_dup (pc := 196) dX3_deal_196 rfl ?_
          refine r_geti (pc := 197) (c := 3) (k := 12) (kz := 12) hs.o cok_3 (Nat.le_of_ble_eq_true rfl) q301 ⟨rfl, rfl⟩ (Or.inl rfl) rfl (fun _ _ _ => rfl) dX3_deal_197 (fun hr197 => ?_)
          refine r_iconst (pc := 200) dX3_deal_200 ?_
          refine r_iadd (pc := 201) dX3_deal_201 ?_
          have q7 : us σ7 (60 + 13 * p + σ7 8) (σ7 (60 + 13 * p + σ7 8) + 1) 7 = σ7 7 := us_n (by omega)
          have hh2 := hrg1.hp
          rw [q7] at hh2
          refine r_puti (pc := 202) (c := 3) (k := 12) (kz := 12) hs.o cok_3 (Nat.le_of_ble_eq_true rfl) q301 ⟨rfl, rfl⟩ (Or.inl rfl) rfl (by omega) rfl rfl (by omega) (fun _ _ _ => rfl) ⟨rfl, rfl⟩ dX3_deal_202 ?_
          refine g_draw_w hfg1 hrg1 (by rw [q7]; omega) (by rw [q7]; omega) fun I8 hf8 hr8 => ?_
          rw [q7] at hr8
          have q9 : dl (us (us σ7 (60 + 13 * p + σ7 8) (σ7 (60 + 13 * p + σ7 8) + 1)) 7 (σ7 7 - 1)) 8 (σ7 7 - 1) 0 (229 + p) = k := by
            unfold dl
            rw [if_neg (by omega), us_n (by omega), us_n (by omega)]; exact o7
          refine r_aload_n (pc := 205) dX3_deal_205 rfl rfl ?_
          refine r_iload (pc := 206) dX3_deal_206 rfl ?_
          refine r_iconst (pc := 208) dX3_deal_208 ?_
          refine r_callV2 (pc := 209) (C_others hs hf8 hr8 p6 (by omega) (by omega) qg_i) im_X3_others qs1 q385 hs.o rfl dX3_deal_209 (Nat.le_of_ble_eq_true rfl) (Nat.le_of_ble_eq_true rfl) rfl (k_gv fun I9 hf9 hr9 => ?_) (fun _ _ _ _ _ _ _ hx => no_x hx)
          refine r_iinc5 (pc := 212) (Nat.le_of_ble_eq_true rfl) dX3_deal_212 rfl ?_
          refine r_goto (pc := 215) 168 dX3_deal_215 rfl ?_
          exact i5 (k + 1) I9 _ _ (by omega) (by omega) hf9 hr9 (hD7.step p6 ⟨k0, by omega⟩ hn.2 (by omega) hpnp (by omega) e8)
      exact loop5 n.toNat 0 I6 σ6 _ (by omega) (by omega) hf6 hr6 hD
  -- shuffling
  have c0f : ∀ k, 0 ≤ k → k < 13 → fillr (fillr (I2 (g + 29)) 13 0) (σ 0) 4 k = if k < σ 0 then 4 else 0 := fun k a b => by
    unfold fillr
    by_cases q : k < σ 0
    · rw [if_pos ⟨a, q⟩, if_pos q]
    · rw [if_neg (by omega), if_pos ⟨a, b⟩, if_neg q]
  have loop3 : ∀ (m : Nat) (χ : Int → Int) (s : Int) (l5 l6 : Option Value), (m : Int) < 4 * σ 0 → (∀ j, 0 ≤ j → j < 4 * σ 0 → (f_shuf m (χ, s)).1 j = (f_shuffled π σ x).1 j) → (∀ j, rg (χ j)) → PW G mX3_deal (rmD (d + 7) 0 0) (MZ G Q nX 0 0) 0 0 (ur (ur (ui I2 g 18 s) (g + 28) χ) (g + 29) (fillr (fillr (I2 (g + 29)) 13 0) (σ 0) 4)) J1 P1 T1 z1 97 [some (.ref g), some (.ref t), some (iv n), some (iv x), some (iv (m : Int)), l5, l6] [] := by
    intro m
    induction m with
    | zero =>
      intro χ s l5 l6 hm2 hX hχ
      refine r_iload (pc := 97) dX3_deal_97 rfl ?_
      refine r_if_le (pc := 99) 150 dX3_deal_99 rfl (by omega) (fun h99 => ?_) (fun h99 => ?_)
      · refine r_iconst (pc := 150) dX3_deal_150 ?_
        refine r_istore4 (pc := 151) (Nat.le_of_ble_eq_true rfl) dX3_deal_151 rfl ?_
        have hr5 := hr1.heapn (I' := ur (ur (ui I2 g 18 s) (g + 28) χ) (g + 29) (fillr (fillr (I2 (g + 29)) 13 0) (σ 0) 4)) (n := 4 * σ 0) (f := χ) (h := fun k => if k < σ 0 then 4 else 0) (fun b p q r => by
          rw [ur_n r, ur_n q]; funext j; rw [ui_n p, hI2 b p]) (by rw [ur_n (by omega), ur_n (by omega), ui_nj (by omega)]; exact i12b) (by rw [ur_n (by omega), ur_n (by omega), ui_nj (by omega)]; exact i13) (by rw [ur_n (by omega), ur_n (by omega), ui_nj (by omega), ui_nj (by omega), ui_nj (by omega)]; exact i1456) (fun i _ _ => by rw [ur_n (by omega), ur_s]) (fun k a b => by rw [ur_s]; exact c0f k a b) (by omega)
        have hf5 : GF g I (ur (ur (ui I2 g 18 s) (g + 28) χ) (g + 29) (fillr (fillr (I2 (g + 29)) 13 0) (σ 0) 4)) := ((hf2.w (by omega) (by omega)).wr (by omega) (by omega)).wr (by omega) (by omega)
        refine loop4 (σ 1).toNat 0 _ _ χ _ _ (by omega) (by omega) hf5 hr5 ⟨fun _ _ => rfl, fun q c p0 p1 c0 c1 => ?_, ⟨?_, fun j a b => ?_⟩, fun q a b => ?_, fun q i a b c w => ?_⟩ hX
        · rw [hpn_n (by omega), clrow_z (by omega), show (0 : Int) * n + 0 = 0 by omega]; rfl
        · show 4 * σ 0 = _; omega
        · unfold hpn
          rw [if_neg (by omega), if_pos (by omega)]; congr 1; omega
        · rw [hpn_n (by omega), clrow_z (by omega), if_neg (by omega)]; split <;> rfl
        · rw [hpn_n (by omega), clrow_z (by omega)] at w; omega
      omega
    | succ m ih =>
      intro χ s l5 l6 hm2 hX hχ
      have hd := f_dr_r (x := s) (n := ((m + 2 : Nat) : Int)) (by omega)
      have eX : ∀ j, 0 ≤ j → j < 4 * σ 0 → (f_shuf m (us (us χ ((m + 1 : Nat) : Int) (χ (f_dr s ((m + 2 : Nat) : Int)))) (f_dr s ((m + 2 : Nat) : Int)) (χ ((m + 1 : Nat) : Int)), f_seed s)).1 j = (f_shuffled π σ x).1 j := hX
      refine r_iload (pc := 97) dX3_deal_97 rfl ?_
      refine r_if_le (pc := 99) 150 dX3_deal_99 rfl (by omega) (fun h99 => ?_) (fun h99 => ?_)
      · omega
      refine r_aload_n (pc := 102) dX3_deal_102 rfl rfl ?_
      refine r_iload (pc := 103) dX3_deal_103 rfl ?_
      refine r_iconst (pc := 105) dX3_deal_105 ?_
      refine r_iadd (pc := 106) dX3_deal_106 ?_
      rw [show ((m + 1 : Nat) : Int) + 1 = ((m + 2 : Nat) : Int) by omega]
      refine r_callV1 (pc := 107) (C_drawn hs.1 (by omega) fe_i) im_X3_drawn qs44 q1474 hs.o rfl dX3_deal_107 (Nat.le_of_ble_eq_true rfl) (Nat.le_of_ble_eq_true rfl) rfl (k_fi ?_) (fun _ _ _ _ _ _ _ hx => no_x hx)
      rw [show ur (ur (ui I2 g 18 s) (g + 28) χ) (g + 29) (fillr (fillr (I2 (g + 29)) 13 0) (σ 0) 4) g 18 = s by rw [ur_n (by omega), ur_n (by omega), ui_s]]
      try simp (disch := omega) only [ui_ur, ui_ur_n, ur_sv, ur_nv, ui_sv, ui_nv, ui_uis, us_s, us_n]
      generalize f_dr s ((m + 2 : Nat) : Int) = r at hd eX
      refine r_istore5 (pc := 110) (Nat.le_of_ble_eq_true rfl) dX3_deal_110 rfl ?_
      refine r_aload_n (pc := 112) dX3_deal_112 rfl rfl ?_
      refine r_getr (pc := 113) (c := 3) (k := 10) (kz := 10) hs.o cok_3 (Nat.le_of_ble_eq_true rfl) q294 ⟨rfl, rfl⟩ (Or.inl rfl) rfl (fun _ _ _ => rfl) hs.p_heap dX3_deal_113 ?_
      refine r_iload (pc := 116) dX3_deal_116 rfl ?_
      refine r_iald (pc := 118) hs.t_heap (by omega) (by omega) dX3_deal_118 (fun hr118 => ?_)
      try simp (disch := omega) only [ui_ur, ui_ur_n, ur_sv, ur_nv, ui_sv, ui_nv, ui_uis, us_s, us_n] at hr118 ⊢
      refine r_istore6 (pc := 119) (Nat.le_of_ble_eq_true rfl) dX3_deal_119 rfl ?_
      refine r_aload_n (pc := 121) dX3_deal_121 rfl rfl ?_
      refine r_getr (pc := 122) (c := 3) (k := 10) (kz := 10) hs.o cok_3 (Nat.le_of_ble_eq_true rfl) q294 ⟨rfl, rfl⟩ (Or.inl rfl) rfl (fun _ _ _ => rfl) hs.p_heap dX3_deal_122 ?_
      refine r_iload (pc := 125) dX3_deal_125 rfl ?_
      refine r_aload_n (pc := 127) dX3_deal_127 rfl rfl ?_
      refine r_getr (pc := 128) (c := 3) (k := 10) (kz := 10) hs.o cok_3 (Nat.le_of_ble_eq_true rfl) q294 ⟨rfl, rfl⟩ (Or.inl rfl) rfl (fun _ _ _ => rfl) hs.p_heap dX3_deal_128 ?_
      refine r_iload (pc := 131) dX3_deal_131 rfl ?_
      refine r_iald (pc := 133) hs.t_heap (by omega) (by omega) dX3_deal_133 (fun hr133 => ?_)
      try simp (disch := omega) only [ui_ur, ui_ur_n, ur_sv, ur_nv, ui_sv, ui_nv, ui_uis, us_s, us_n] at hr133 ⊢
      refine r_iast (pc := 134) hs.t_heap (by omega) (by omega) (by omega) (by omega) dX3_deal_134 ?_
      try simp (disch := omega) only [ui_ur, ui_ur_n, ur_sv, ur_nv, ui_sv, ui_nv, ui_uis, us_s, us_n]
      refine r_aload_n (pc := 135) dX3_deal_135 rfl rfl ?_
      refine r_getr (pc := 136) (c := 3) (k := 10) (kz := 10) hs.o cok_3 (Nat.le_of_ble_eq_true rfl) q294 ⟨rfl, rfl⟩ (Or.inl rfl) rfl (fun _ _ _ => rfl) hs.p_heap dX3_deal_136 ?_
      refine r_iload (pc := 139) dX3_deal_139 rfl ?_
      refine r_iload (pc := 141) dX3_deal_141 rfl ?_
      refine r_iast (pc := 143) hs.t_heap (by omega) (by omega) (by omega) (by omega) dX3_deal_143 ?_
      try simp (disch := omega) only [ui_ur, ui_ur_n, ur_sv, ur_nv, ui_sv, ui_nv, ui_uis, us_s, us_n]
      refine r_iinc4 (pc := 144) (Nat.le_of_ble_eq_true rfl) dX3_deal_144 rfl ?_
      refine r_goto (pc := 147) 97 dX3_deal_147 rfl ?_
      rw [show ((m + 1 : Nat) : Int) + -1 = (m : Int) by omega]
      refine ih _ _ _ _ (by omega) eX (fun j => ?_)
      unfold us
      split
      · exact hχ _
      · split <;> exact hχ _
  -- four cards of each kind
  have loop2 : ∀ (m : Nat) (k : Int) (χ : Int → Int), 0 ≤ k → k + m = σ 0 → (∀ j, 0 ≤ j → j < 4 * σ 0 → χ j = j / 4) → (∀ j, rg (χ j)) → PW G mX3_deal (rmD (d + 7) 0 0) (MZ G Q nX 0 0) 0 0 (ur (ur I2 (g + 28) χ) (g + 29) (fillr (fillr (I2 (g + 29)) 13 0) k 4)) J1 P1 T1 z1 63 [some (.ref g), some (.ref t), some (iv n), some (iv x), some (iv k), none, none] [] := by
    intro m
    induction m with
    | zero =>
      intro k χ k0 km hχ hχr
      obtain rfl : k = σ 0 := by omega
      refine r_iload (pc := 63) dX3_deal_63 rfl ?_
      refine r_aload_n (pc := 65) dX3_deal_65 rfl rfl ?_
      refine r_getr (pc := 66) (c := 3) (k := 0) (kz := 0) hs.o cok_3 (Nat.le_of_ble_eq_true rfl) q259 ⟨rfl, rfl⟩ (Or.inl rfl) rfl (fun _ _ _ => rfl) hs.p_t dX3_deal_66 ?_
      refine r_getiN (pc := 69) (c := 2) (k := 0) (kz := 0) hs.tb.o cok_2 (Nat.le_of_ble_eq_true rfl) q206 ⟨rfl, rfl⟩ (Or.inl rfl) rfl (fun _ _ _ => rfl) dX3_deal_69 (fun hr69 => ?_)
      try simp (disch := omega) only [ui_ur, ui_ur_n, ur_sv, ur_nv, ui_sv, ui_nv, ui_uis, us_s, us_n] at hr69 ⊢
      rw [t02] at hr69 ⊢
      refine r_icmp_ge (pc := 72) 89 dX3_deal_72 rfl (by omega) (by omega) (fun h72 => ?_) (fun h72 => ?_)
      · refine r_aload_n (pc := 89) dX3_deal_89 rfl rfl ?_
        refine r_geti (pc := 90) (c := 3) (k := 13) (kz := 13) hs.o cok_3 (Nat.le_of_ble_eq_true rfl) q304 ⟨rfl, rfl⟩ (Or.inl rfl) rfl (fun _ _ _ => rfl) dX3_deal_90 (fun hr90 => ?_)
        try simp (disch := omega) only [ui_ur, ui_ur_n, ur_sv, ur_nv, ui_sv, ui_nv, ui_uis, us_s, us_n] at hr90 ⊢
        rw [i13] at hr90 ⊢
        refine r_iconst (pc := 93) dX3_deal_93 ?_
        refine r_isub (pc := 94) dX3_deal_94 ?_
        refine r_istore4 (pc := 95) (Nat.le_of_ble_eq_true rfl) dX3_deal_95 rfl ?_
        have e18 : I2 = ui I2 g 18 x := by
          funext b i
          unfold ui
          split
          · rename_i q; rw [q.1, q.2]; exact i18
          · rfl
        rw [show 4 * σ 0 - 1 = (((4 * σ 0 - 1).toNat : Nat) : Int) by omega]
        have := loop3 (4 * σ 0 - 1).toNat χ x none none (by omega) (fun j a b => by
          unfold f_shuffled
          exact (shuf_cg (n := 4 * σ 0) (4 * σ 0 - 1).toNat (χ, x) (f_pk0 π (4 * σ 0), x) (by omega) rfl (fun i u w => by show χ i = f_pk0 π (4 * σ 0) i; unfold f_pk0; rw [if_pos ⟨u, w⟩]; exact hχ i u w)).2 j a b) hχr
        rw [← e18] at this
        exact this
      omega
    | succ m ih =>
      intro k χ k0 km hχ hχr
      refine r_iload (pc := 63) dX3_deal_63 rfl ?_
      refine r_aload_n (pc := 65) dX3_deal_65 rfl rfl ?_
      refine r_getr (pc := 66) (c := 3) (k := 0) (kz := 0) hs.o cok_3 (Nat.le_of_ble_eq_true rfl) q259 ⟨rfl, rfl⟩ (Or.inl rfl) rfl (fun _ _ _ => rfl) hs.p_t dX3_deal_66 ?_
      refine r_getiN (pc := 69) (c := 2) (k := 0) (kz := 0) hs.tb.o cok_2 (Nat.le_of_ble_eq_true rfl) q206 ⟨rfl, rfl⟩ (Or.inl rfl) rfl (fun _ _ _ => rfl) dX3_deal_69 (fun hr69 => ?_)
      try simp (disch := omega) only [ui_ur, ui_ur_n, ur_sv, ur_nv, ui_sv, ui_nv, ui_uis, us_s, us_n] at hr69 ⊢
      rw [t02] at hr69 ⊢
      refine r_icmp_ge (pc := 72) 89 dX3_deal_72 rfl (by omega) (by omega) (fun h72 => ?_) (fun h72 => ?_)
      · omega
      refine r_aload_n (pc := 75) dX3_deal_75 rfl rfl ?_
      refine r_getr (pc := 76) (c := 3) (k := 11) (kz := 11) hs.o cok_3 (Nat.le_of_ble_eq_true rfl) q298 ⟨rfl, rfl⟩ (Or.inl rfl) rfl (fun _ _ _ => rfl) hs.p_cards dX3_deal_76 ?_
      refine r_iload (pc := 79) dX3_deal_79 rfl ?_
      refine r_iconst (pc := 81) dX3_deal_81 ?_
      refine r_iast (pc := 82) hs.t_cards (by omega) (by omega) (by omega) (by omega) dX3_deal_82 ?_
      try simp (disch := omega) only [ui_ur, ui_ur_n, ur_sv, ur_nv, ui_sv, ui_nv, ui_uis, us_s, us_n]
      refine r_iinc4 (pc := 83) (Nat.le_of_ble_eq_true rfl) dX3_deal_83 rfl ?_
      refine r_goto (pc := 86) 63 dX3_deal_86 rfl ?_
      rw [fillr_us k0]
      exact ih (k + 1) χ (by omega) (by omega) hχ hχr
  have loop1 : ∀ (m : Nat) (k : Int), 0 ≤ k → k + m = 4 * σ 0 → PW G mX3_deal (rmD (d + 7) 0 0) (MZ G Q nX 0 0) 0 0 (ur I2 (g + 28) (f_pk0 (I2 (g + 28)) k)) J1 P1 T1 z1 26 [some (.ref g), some (.ref t), some (iv n), some (iv x), some (iv k), none, none] [] := by
    intro m
    induction m with
    | zero =>
      intro k k0 km
      obtain rfl : k = 4 * σ 0 := by omega
      refine r_iload (pc := 26) dX3_deal_26 rfl ?_
      refine r_aload_n (pc := 28) dX3_deal_28 rfl rfl ?_
      refine r_geti (pc := 29) (c := 3) (k := 13) (kz := 13) hs.o cok_3 (Nat.le_of_ble_eq_true rfl) q304 ⟨rfl, rfl⟩ (Or.inl rfl) rfl (fun _ _ _ => rfl) dX3_deal_29 (fun hr29 => ?_)
      try simp (disch := omega) only [ui_ur, ui_ur_n, ur_sv, ur_nv, ui_sv, ui_nv, ui_uis, us_s, us_n] at hr29 ⊢
      rw [i13] at hr29 ⊢
      refine r_icmp_ge (pc := 32) 52 dX3_deal_32 rfl (by omega) (by omega) (fun h32 => ?_) (fun h32 => ?_)
      · refine r_aload_n (pc := 52) dX3_deal_52 rfl rfl ?_
        refine r_getr (pc := 53) (c := 3) (k := 11) (kz := 11) hs.o cok_3 (Nat.le_of_ble_eq_true rfl) q298 ⟨rfl, rfl⟩ (Or.inl rfl) rfl (fun _ _ _ => rfl) hs.p_cards dX3_deal_53 ?_
        refine r_iconst (pc := 56) dX3_deal_56 ?_
        refine r_callS2 (pc := 57) (C_fill hs.t_cards (by omega) (by omega) fe_i) im_J3_fill q364 dX3_deal_57 (Nat.le_of_ble_eq_true rfl) (Nat.le_of_ble_eq_true rfl) rfl (k_fv ?_) (fun _ _ _ _ _ _ _ hx => no_x hx)
        rw [ur_n (show g + 29 ≠ g + 28 by omega)]
        refine r_iconst (pc := 60) dX3_deal_60 ?_
        refine r_istore4 (pc := 61) (Nat.le_of_ble_eq_true rfl) dX3_deal_61 rfl ?_
        have := loop2 (σ 0).toNat 0 (f_pk0 (I2 (g + 28)) (4 * σ 0)) (by omega) (by omega) (fun j a b => if_pos ⟨a, b⟩) (fun j => by
          unfold f_pk0
          split
          · omega
          · exact hrg2 _ _)
        rw [fillr_0] at this
        exact this
      omega
    | succ m ih =>
      intro k k0 km
      refine r_iload (pc := 26) dX3_deal_26 rfl ?_
      refine r_aload_n (pc := 28) dX3_deal_28 rfl rfl ?_
      refine r_geti (pc := 29) (c := 3) (k := 13) (kz := 13) hs.o cok_3 (Nat.le_of_ble_eq_true rfl) q304 ⟨rfl, rfl⟩ (Or.inl rfl) rfl (fun _ _ _ => rfl) dX3_deal_29 (fun hr29 => ?_)
      try simp (disch := omega) only [ui_ur, ui_ur_n, ur_sv, ur_nv, ui_sv, ui_nv, ui_uis, us_s, us_n] at hr29 ⊢
      rw [i13] at hr29 ⊢
      refine r_icmp_ge (pc := 32) 52 dX3_deal_32 rfl (by omega) (by omega) (fun h32 => ?_) (fun h32 => ?_)
      · omega
      refine r_aload_n (pc := 35) dX3_deal_35 rfl rfl ?_
      refine r_getr (pc := 36) (c := 3) (k := 10) (kz := 10) hs.o cok_3 (Nat.le_of_ble_eq_true rfl) q294 ⟨rfl, rfl⟩ (Or.inl rfl) rfl (fun _ _ _ => rfl) hs.p_heap dX3_deal_36 ?_
      refine r_iload (pc := 39) dX3_deal_39 rfl ?_
      refine r_iload (pc := 41) dX3_deal_41 rfl ?_
      refine r_iconst (pc := 43) dX3_deal_43 ?_
      refine r_idiv (pc := 44) dX3_deal_44 (by omega) (by omega) ?_
      refine r_iast (pc := 45) hs.t_heap (by omega) (by omega) (by omega) (by omega) dX3_deal_45 ?_
      try simp (disch := omega) only [ui_ur, ui_ur_n, ur_sv, ur_nv, ui_sv, ui_nv, ui_uis, us_s, us_n]
      refine r_iinc4 (pc := 46) (Nat.le_of_ble_eq_true rfl) dX3_deal_46 rfl ?_
      refine r_goto (pc := 49) 26 dX3_deal_49 rfl ?_
      rw [f_pk0_us k0]
      exact ih (k + 1) (by omega) (by omega)
  have := loop1 (4 * σ 0).toNat 0 (by omega) (by omega)
  rw [f_pk0_0, ur_id] at this
  exact this
end K8
