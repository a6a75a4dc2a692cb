/-! ===== the face: bents, played and dealt games ===== -/
def f_tl (σ : Int → Int) (to : Int) : Int → Int := f_tell (σ 4) (to / 100) (to % 100) (f_gives σ (to / 100) (to % 100) 0) (f_asks σ (σ 4) (to / 100) (to % 100) 0).2.1 (f_asks σ (σ 4) (to / 100) (to % 100) 0).2.2 (f_lie σ (to / 100) (to % 100) 0) (f_sure σ (to / 100) (to % 100))
/-- played by rules: the row, what is told of the latest, how many -/
def f_cp (rl : Int → Int) : Nat → (Int → Int) → (Int → Int) → (Int → Int) × (Int → Int) × Int
  | 0, σ, μ => (σ, μ, 0)
  | n + 1, σ, μ =>
    if σ 4 = -1 then (σ, μ, 0)
    else
      let to := f_bent σ (σ 4) (rl (σ 4))
      let r := f_cp rl n (f_asks σ (σ 4) (to / 100) (to % 100) 0).1 (f_tl σ to)
      (r.1, r.2.1, r.2.2 + 1)
theorem f_rl_v {τ : Int → Int} : ∀ (n : Nat) (k : Int) (rl : Int → Int), (f_rl τ n k rl).1 ≠ 0 → (∀ a, a < k → (f_rl τ n k rl).2 a = rl a) ∧ ∀ a, k ≤ a → a < k + n → (f_rl τ n k rl).2 a = τ a % 256 ∧ τ a % 256 ≤ 3 := by
  intro n
  induction n with
  | zero => intro k rl _; exact ⟨fun _ _ => rfl, fun a h0 h1 => by omega⟩
  | succ n ih =>
    intro k rl h
    unfold f_rl at h ⊢
    by_cases c : 3 < τ k % 256
    · rw [if_pos c] at h; exact absurd rfl h
    · rw [if_neg c] at h ⊢
      obtain ⟨a1, a2⟩ := ih (k + 1) (us rl k (τ k % 256)) h
      refine ⟨fun a q => ?_, fun a h0 h1 => ?_⟩
      · rw [a1 a (by omega), us_n (by omega)]
      · by_cases e : a = k
        · subst e
          rw [a1 a (by omega), us_s]
          exact ⟨rfl, by omega⟩
        · exact a2 a (by omega) (by omega)
section L5
variable {G : GE} {I I0 I' J : HI} {P P' P1 : HP} {T : HT} {z : Nat} {x t d g : Nat} {Q : QT} {σ μ τ ω r π rl : Int → Int}
theorem C_takeF (hs : shX G P T x) (hQ : Q (some (iv (I x 1))) (ur I x (us (I x) 1 0)) J P T z) : MC G yX1_take (ws_ yX1_take cX1_take 2 (some FieldType.int)) d 0 0 [.ref x] I J P T z Q nX := by
  have h := C_take (I := I) (J := J) (z := z) (d := d) (ω := I x) hs hQ
  have e : ur I x (I x) = I := by
    funext b i
    unfold ur
    split
    · rename_i e; rw [e]
    · rfl
  rw [e] at h
  exact h
theorem C_asksS (hX : shX G P T x) (hs : shG G P T g t) (hf : GF g I0 I) (hr : GR I g t σ μ) (hw : W2 σ) (h4 : σ 4 ≠ -1) {rule : Int} (hrl : 0 ≤ rule ∧ rule ≤ 3)
    (hQ : ∀ I', GF g I0 I' → GR I' g t (f_asks σ (σ 4) (f_bent σ (σ 4) rule / 100) (f_bent σ (σ 4) rule % 100) 0).1 (f_tl σ (f_bent σ (σ 4) rule)) → Q none I' J P T z) : MC G yX1_asks (ws_ yX1_asks cX1_asks 3 (none : Option FieldType)) (d + 7) 0 0 [.ref g, .ref (x + 86 + rule.toNat)] I J P T z Q nX := by
  have hb := hs.b
  obtain ⟨hn, e0, r0, r1, ho⟩ := hw.1.ao hw.2 h4 hrl
  refine MC.of (by decide) (Nat.le_of_ble_eq_true rfl) ?_
  show PW G mX1_asks (rmD (d + 7) 0 0) (MZ G Q nX 0 0) 0 0 I J P T z 0 [some (.ref g), some (.ref (x + 86 + rule.toNat)), none] []
  have fin : PW G mX1_asks (rmD (d + 7) 0 0) (MZ G Q nX 0 0) 0 0 I J P T z 9 [some (.ref g), some (.ref (x + 86 + rule.toNat)), none] [iv (f_bent σ (σ 4) rule)] := by
    generalize hto : f_bent σ (σ 4) rule = to at r0 r1 ho hQ
    refine r_istore_n2 (pc := 9) (Nat.le_of_ble_eq_true rfl) dX1_asks_9 rfl ?_
    refine r_aload_n (pc := 10) dX1_asks_10 rfl rfl ?_
    refine r_aload_n (pc := 11) dX1_asks_11 rfl rfl ?_
    refine r_getiN (pc := 12) (c := 3) (k := 14) (kz := 14) hs.o cok_3 (Nat.le_of_ble_eq_true rfl) q308 ⟨rfl, rfl⟩ (Or.inl rfl) rfl (fun _ _ _ => rfl) dX1_asks_12 (fun hr12 => ?_)
    rw [hr.turn] at hr12 ⊢
    refine r_iload_n (pc := 15) dX1_asks_15 rfl rfl ?_
    refine r_bipush (pc := 16) dX1_asks_16 (by decide +kernel) ?_
    refine r_idiv (pc := 18) dX1_asks_18 (by omega) (by omega) ?_
    refine r_iload_n (pc := 19) dX1_asks_19 rfl rfl ?_
    refine r_bipush (pc := 20) dX1_asks_20 (by decide +kernel) ?_
    refine r_irem (pc := 22) dX1_asks_22 (by omega) (by omega) ?_
    refine r_iconst (pc := 23) dX1_asks_23 ?_
    refine r_callV4 (pc := 24) (C_asks hs hf hr hw.1 ho (Or.inl rfl) (Q := ee J T z (some (iv (f_gives σ (to / 100) (to % 100) 0))) (fun I' P' => P' = P ∧ GF g I0 I' ∧ GR I' g t (f_asks σ (σ 4) (to / 100) (to % 100) 0).1 (f_tl σ to))) (fun I' a b => ee_i ⟨rfl, a, b⟩)) im_X3_asks q1272 q1270 hs.o rfl dX1_asks_24 (Nat.le_of_ble_eq_true rfl) (Nat.le_of_ble_eq_true rfl) rfl (k_e fun I3 P3 h3 => ?_) (fun _ _ _ _ _ _ _ hx => no_x hx)
    obtain ⟨rfl, hf3, hr3⟩ := h3
    show PW G mX1_asks (rmD (d + 7) 0 0) (MZ G Q nX 0 0) 0 0 I3 J P3 T z 27 [some (.ref g), some (.ref (x + 86 + rule.toNat)), some (iv to)] [iv (f_gives σ (to / 100) (to % 100) 0)]
    refine r_pop (pc := 27) dX1_asks_27 rfl ?_
    refine r_return (pc := 28) rfl dX1_asks_28 (Nat.le_of_ble_eq_true rfl) (Nat.le_of_ble_eq_true rfl) ?_
    exact hQ I3 hf3 hr3
  rw [e0] at fin
  refine r_aload_n (pc := 0) dX1_asks_0 rfl rfl ?_
  refine r_aload_n (pc := 1) dX1_asks_1 rfl rfl ?_
  refine r_aload_n (pc := 2) dX1_asks_2 rfl rfl ?_
  refine r_getiN (pc := 3) (c := 3) (k := 14) (kz := 14) hs.o cok_3 (Nat.le_of_ble_eq_true rfl) q308 ⟨rfl, rfl⟩ (Or.inl rfl) rfl (fun _ _ _ => rfl) dX1_asks_3 (fun hr3 => ?_)
  rw [hr.turn] at hr3 ⊢
  rcases (show rule = 0 ∨ rule = 1 ∨ rule = 2 ∨ rule = 3 by omega) with rfl | rfl | rfl | rfl
  · refine r_callA2 (pc := 6) (cb := 6) (x := ⟨"SevenTable$Bent", "asks", "(LSevenTable$Game;I)I"⟩) (C_bent0 hs hr hn fe_i) im_X6_asks rfl (by decide) q1411 q1441 q1412 q1410 (show T (x + 86 + (0 : Int).toNat) = (6 + 20, 0) from hX.u_bents (by decide) (by decide)) dX1_asks_6 (Nat.le_of_ble_eq_true rfl) (Nat.le_of_ble_eq_true rfl) rfl (k_fi ?_) (fun _ _ _ _ _ _ _ hx => no_x hx)
    exact fin
  · refine r_callA2 (pc := 6) (cb := 7) (x := ⟨"SevenTable$Bent", "asks", "(LSevenTable$Game;I)I"⟩) (C_bent1 hs hr hn fe_i) im_X7_asks rfl (by decide) q1411 q1413 q1412 q1410 (show T (x + 86 + (1 : Int).toNat) = (7 + 20, 0) from hX.u_bents (by decide) (by decide)) dX1_asks_6 (Nat.le_of_ble_eq_true rfl) (Nat.le_of_ble_eq_true rfl) rfl (k_fi ?_) (fun _ _ _ _ _ _ _ hx => no_x hx)
    exact fin
  · refine r_callA2 (pc := 6) (cb := 8) (x := ⟨"SevenTable$Bent", "asks", "(LSevenTable$Game;I)I"⟩) (C_bent2 hs hr hn fe_i) im_X8_asks rfl (by decide) q1411 q1446 q1412 q1410 (show T (x + 86 + (2 : Int).toNat) = (8 + 20, 0) from hX.u_bents (by decide) (by decide)) dX1_asks_6 (Nat.le_of_ble_eq_true rfl) (Nat.le_of_ble_eq_true rfl) rfl (k_fi ?_) (fun _ _ _ _ _ _ _ hx => no_x hx)
    exact fin
  · refine r_callA2 (pc := 6) (cb := 9) (x := ⟨"SevenTable$Bent", "asks", "(LSevenTable$Game;I)I"⟩) (C_bent3 hs hr hn fe_i) im_X9_asks rfl (by decide) q1411 q1434 q1412 q1410 (show T (x + 86 + (3 : Int).toNat) = (9 + 20, 0) from hX.u_bents (by decide) (by decide)) dX1_asks_6 (Nat.le_of_ble_eq_true rfl) (Nat.le_of_ble_eq_true rfl) rfl (k_fi ?_) (fun _ _ _ _ _ _ _ hx => no_x hx)
    exact fin
theorem C_bent (hx : XS G I P T x t σ μ) {p rule : Int} (hp : rg p) (hrl : rg rule) (hQ : Q (some (iv (if isP σ p ∧ 0 ≤ rule ∧ rule ≤ 3 then f_bent σ p rule else -1))) I J P T z) : MC G yX1_bent (ws_ yX1_bent cX1_bent 3 (some FieldType.int)) (d + 6) 0 0 [.ref x, iv p, iv rule] I J P T z Q nX := by
  have hb := hx.b
  have ht := hx.ta
  refine MC.of (by decide) (Nat.le_of_ble_eq_true rfl) ?_
  show PW G mX1_bent (rmD (d + 6) 0 0) (MZ G Q nX 0 0) 0 0 I J P T z 0 [some (.ref x), some (iv p), some (iv rule)] []
  have bad : (isP σ p ∧ 0 ≤ rule ∧ rule ≤ 3 → f_bent σ p rule = -1) → PW G mX1_bent (rmD (d + 6) 0 0) (MZ G Q nX 0 0) 0 0 I J P T z 59 [some (.ref x), some (iv p), some (iv rule)] [] := by
    intro q
    have e : (if isP σ p ∧ 0 ≤ rule ∧ rule ≤ 3 then f_bent σ p rule else -1) = -1 := by
      split
      · exact q ‹_›
      · rfl
    rw [e] at hQ
    refine r_iconst (pc := 59) dX1_bent_59 ?_
    refine r_ireturn (pc := 60) rfl rfl dX1_bent_60 (Nat.le_of_ble_eq_true rfl) (Nat.le_of_ble_eq_true rfl) ?_
    exact hQ
  refine r_aload_n (pc := 0) dX1_bent_0 rfl rfl ?_
  refine r_getr (pc := 1) (c := 1) (k := 3) (kz := 3) hx.o cok_1 (Nat.le_of_ble_eq_true rfl) q513 ⟨rfl, rfl⟩ (Or.inl rfl) rfl (fun _ _ _ => rfl) hx.p_table dX1_bent_1 ?_
  refine r_iload_n (pc := 4) dX1_bent_4 rfl rfl ?_
  refine r_callV1 (pc := 5) (C_isP hx hp fe_i) im_X2_isPerson q1203 q1201 hx.tb.o rfl dX1_bent_5 (Nat.le_of_ble_eq_true rfl) (Nat.le_of_ble_eq_true rfl) rfl (k_fi ?_) (fun _ _ _ _ _ _ _ hx => no_x hx)
  refine r_if_eq (pc := 8) 59 dX1_bent_8 rfl bz_g (fun h8 => ?_) (fun h8 => ?_)
  · exact bad (fun q => absurd q.1 (bz_0.mp h8))
  have q1 := bz_ne.mp h8
  have p6 : 0 ≤ p ∧ p < 6 := by omega
  refine r_iload_n (pc := 11) dX1_bent_11 rfl rfl ?_
  refine r_iconst (pc := 12) dX1_bent_12 ?_
  refine r_iconst (pc := 13) dX1_bent_13 ?_
  refine r_callS3 (pc := 14) (C_isIn (by omega) (by omega) (by omega) fe_i) im_X1_isIn q1228 dX1_bent_14 (Nat.le_of_ble_eq_true rfl) (Nat.le_of_ble_eq_true rfl) rfl (k_fi ?_) (fun _ _ _ _ _ _ _ hx => no_x hx)
  refine r_if_eq (pc := 17) 59 dX1_bent_17 rfl bz_g (fun h17 => ?_) (fun h17 => ?_)
  · exact bad (fun q => absurd q.2 (bz_0.mp h17))
  have q2 := bz_ne.mp h17
  rw [if_pos ⟨q1, q2⟩] at hQ
  refine r_aload_n (pc := 20) dX1_bent_20 rfl rfl ?_
  refine r_getr (pc := 21) (c := 1) (k := 3) (kz := 3) hx.o cok_1 (Nat.le_of_ble_eq_true rfl) q513 ⟨rfl, rfl⟩ (Or.inl rfl) rfl (fun _ _ _ => rfl) hx.p_table dX1_bent_21 ?_
  refine r_callV0 (pc := 24) (C_many hx.tb fe_i) im_X2_many q369 q1241 hx.tb.o rfl dX1_bent_24 (Nat.le_of_ble_eq_true rfl) (Nat.le_of_ble_eq_true rfl) rfl (k_fi ?_) (fun _ _ _ _ _ _ _ hx => no_x hx)
  rw [hx.r.ta.2.1]
  refine r_iconst (pc := 27) dX1_bent_27 ?_
  refine r_icmp_le (pc := 28) 59 dX1_bent_28 rfl (by omega) (by omega) (fun h28 => ?_) (fun h28 => ?_)
  · exact bad (fun q => if_pos (Or.inr (by omega)))
  refine r_aload_n (pc := 31) dX1_bent_31 rfl rfl ?_
  refine r_getr (pc := 32) (c := 1) (k := 4) (kz := 4) hx.o cok_1 (Nat.le_of_ble_eq_true rfl) q514 ⟨rfl, rfl⟩ (Or.inl rfl) rfl (fun _ _ _ => rfl) hx.p_now dX1_bent_32 ?_
  refine r_iload_n (pc := 35) dX1_bent_35 rfl rfl ?_
  have c9 := hx.w.cv.cd p6.1 p6.2
  have c7 := hx.w.cv.hp.1
  refine r_callV1 (pc := 36) (C_size hx.g hx.r p6 fe_i) im_X3_size q383 q1207 hx.g.o rfl dX1_bent_36 (Nat.le_of_ble_eq_true rfl) (Nat.le_of_ble_eq_true rfl) rfl (k_fi ?_) (fun _ _ _ _ _ _ _ hx => no_x hx)
  refine r_if_le (pc := 39) 59 dX1_bent_39 rfl (by omega) (fun h39 => ?_) (fun h39 => ?_)
  · exact bad (fun q => if_pos (Or.inl (by omega)))
  have hn := hx.w.hn (p := p) (by omega) (by omega) (by omega)
  rw [bent_eq (by omega) (by omega)] at hQ
  have fin : PW G mX1_bent (rmD (d + 6) 0 0) (MZ G Q nX 0 0) 0 0 I J P T z 56 [some (.ref x), some (iv p), some (iv rule)] [iv (f_bent0 σ p rule)] := by
    refine r_goto (pc := 56) 60 dX1_bent_56 rfl ?_
    refine r_ireturn (pc := 60) rfl rfl dX1_bent_60 (Nat.le_of_ble_eq_true rfl) (Nat.le_of_ble_eq_true rfl) ?_
    exact hQ
  refine r_aload_n (pc := 42) dX1_bent_42 rfl rfl ?_
  refine r_getr (pc := 43) (c := 1) (k := 20) (kz := 20) hx.o cok_1 (Nat.le_of_ble_eq_true rfl) q530 ⟨rfl, rfl⟩ (Or.inl rfl) rfl (fun _ _ _ => rfl) hx.p_bents dX1_bent_43 ?_
  refine r_iload_n (pc := 46) dX1_bent_46 rfl rfl ?_
  refine r_aald (pc := 47) hx.t_bents ⟨by decide, by decide⟩ rfl (fun _ _ _ => rfl) (by omega) (by omega) (hx.x.q_bents (by omega) (by omega)) dX1_bent_47 ?_
  refine r_aload_n (pc := 48) dX1_bent_48 rfl rfl ?_
  refine r_getr (pc := 49) (c := 1) (k := 4) (kz := 4) hx.o cok_1 (Nat.le_of_ble_eq_true rfl) q514 ⟨rfl, rfl⟩ (Or.inl rfl) rfl (fun _ _ _ => rfl) hx.p_now dX1_bent_49 ?_
  refine r_iload_n (pc := 52) dX1_bent_52 rfl rfl ?_
  rcases (show rule = 0 ∨ rule = 1 ∨ rule = 2 ∨ rule = 3 by omega) with rfl | rfl | rfl | rfl
  · refine r_callA2 (pc := 53) (cb := 6) (x := ⟨"SevenTable$Bent", "asks", "(LSevenTable$Game;I)I"⟩) (C_bent0 hx.g hx.r hn fe_i) im_X6_asks rfl (by decide) q1411 q1441 q1412 q1410 (show T (x + 86 + (0 : Int).toNat) = (6 + 20, 0) from hx.x.u_bents (by decide) (by decide)) dX1_bent_53 (Nat.le_of_ble_eq_true rfl) (Nat.le_of_ble_eq_true rfl) rfl (k_fi ?_) (fun _ _ _ _ _ _ _ hx => no_x hx)
    exact fin
  · refine r_callA2 (pc := 53) (cb := 7) (x := ⟨"SevenTable$Bent", "asks", "(LSevenTable$Game;I)I"⟩) (C_bent1 hx.g hx.r hn fe_i) im_X7_asks rfl (by decide) q1411 q1413 q1412 q1410 (show T (x + 86 + (1 : Int).toNat) = (7 + 20, 0) from hx.x.u_bents (by decide) (by decide)) dX1_bent_53 (Nat.le_of_ble_eq_true rfl) (Nat.le_of_ble_eq_true rfl) rfl (k_fi ?_) (fun _ _ _ _ _ _ _ hx => no_x hx)
    exact fin
  · refine r_callA2 (pc := 53) (cb := 8) (x := ⟨"SevenTable$Bent", "asks", "(LSevenTable$Game;I)I"⟩) (C_bent2 hx.g hx.r hn fe_i) im_X8_asks rfl (by decide) q1411 q1446 q1412 q1410 (show T (x + 86 + (2 : Int).toNat) = (8 + 20, 0) from hx.x.u_bents (by decide) (by decide)) dX1_bent_53 (Nat.le_of_ble_eq_true rfl) (Nat.le_of_ble_eq_true rfl) rfl (k_fi ?_) (fun _ _ _ _ _ _ _ hx => no_x hx)
    exact fin
  · refine r_callA2 (pc := 53) (cb := 9) (x := ⟨"SevenTable$Bent", "asks", "(LSevenTable$Game;I)I"⟩) (C_bent3 hx.g hx.r hn fe_i) im_X9_asks rfl (by decide) q1411 q1434 q1412 q1410 (show T (x + 86 + (3 : Int).toNat) = (9 + 20, 0) from hx.x.u_bents (by decide) (by decide)) dX1_bent_53 (Nat.le_of_ble_eq_true rfl) (Nat.le_of_ble_eq_true rfl) rfl (k_fi ?_) (fun _ _ _ _ _ _ _ hx => no_x hx)
    exact fin
theorem C_canDeal (hx : XS G I P T x t σ μ) {n : Int} (hn : 1 ≤ n ∧ n ≤ 9) (hQ : Q (some (iv (bz (σ 1 ≠ 0 ∧ σ 0 ≠ 0 ∧ n * σ 1 ≤ 4 * σ 0)))) I J P T z) : MC G yX1_canDeal (ws_ yX1_canDeal cX1_canDeal 2 (some FieldType.boolean)) (d + 2) 0 0 [.ref x, iv n] I J P T z Q nX := by
  have hb := hx.b
  have ht := hx.ta
  have m0 : 0 ≤ n * σ 1 := Int.mul_nonneg (by omega) (by omega)
  have m1 : n * σ 1 ≤ 9 * 6 := Int.mul_le_mul (by omega) (by omega) (by omega) (by omega)
  refine MC.of (by decide) (Nat.le_of_ble_eq_true rfl) ?_
  show PW G mX1_canDeal (rmD (d + 2) 0 0) (MZ G Q nX 0 0) 0 0 I J P T z 0 [some (.ref x), some (iv n)] []
  have bad : ¬ (σ 1 ≠ 0 ∧ σ 0 ≠ 0 ∧ n * σ 1 ≤ 4 * σ 0) → PW G mX1_canDeal (rmD (d + 2) 0 0) (MZ G Q nX 0 0) 0 0 I J P T z 45 [some (.ref x), some (iv n)] [] := by
    intro q
    rw [bz_f q] at hQ
    refine r_iconst (pc := 45) dX1_canDeal_45 ?_
    refine r_ireturn (pc := 46) rfl (nb_z (by omega)) dX1_canDeal_46 (Nat.le_of_ble_eq_true rfl) (Nat.le_of_ble_eq_true rfl) ?_
    exact hQ
  refine r_aload_n (pc := 0) dX1_canDeal_0 rfl rfl ?_
  refine r_getr (pc := 1) (c := 1) (k := 3) (kz := 3) hx.o cok_1 (Nat.le_of_ble_eq_true rfl) q513 ⟨rfl, rfl⟩ (Or.inl rfl) rfl (fun _ _ _ => rfl) hx.p_table dX1_canDeal_1 ?_
  refine r_callV0 (pc := 4) (C_many hx.tb fe_i) im_X2_many q369 q1241 hx.tb.o rfl dX1_canDeal_4 (Nat.le_of_ble_eq_true rfl) (Nat.le_of_ble_eq_true rfl) rfl (k_fi ?_) (fun _ _ _ _ _ _ _ hx => no_x hx)
  rw [hx.r.ta.2.1]
  refine r_if_le (pc := 7) 45 dX1_canDeal_7 rfl (by omega) (fun h7 => ?_) (fun h7 => ?_)
  · exact bad (fun q => by omega)
  refine r_aload_n (pc := 10) dX1_canDeal_10 rfl rfl ?_
  refine r_getr (pc := 11) (c := 1) (k := 3) (kz := 3) hx.o cok_1 (Nat.le_of_ble_eq_true rfl) q513 ⟨rfl, rfl⟩ (Or.inl rfl) rfl (fun _ _ _ => rfl) hx.p_table dX1_canDeal_11 ?_
  refine r_getiN (pc := 14) (c := 2) (k := 0) (kz := 0) hx.tb.o cok_2 (Nat.le_of_ble_eq_true rfl) q205 ⟨rfl, rfl⟩ (Or.inl rfl) rfl (fun _ _ _ => rfl) dX1_canDeal_14 (fun hr14 => ?_)
  rw [hx.r.ta.1] at hr14 ⊢
  refine r_if_le (pc := 17) 45 dX1_canDeal_17 rfl (by omega) (fun h17 => ?_) (fun h17 => ?_)
  · exact bad (fun q => by omega)
  refine r_iload_n (pc := 20) dX1_canDeal_20 rfl rfl ?_
  refine r_aload_n (pc := 21) dX1_canDeal_21 rfl rfl ?_
  refine r_getr (pc := 22) (c := 1) (k := 3) (kz := 3) hx.o cok_1 (Nat.le_of_ble_eq_true rfl) q513 ⟨rfl, rfl⟩ (Or.inl rfl) rfl (fun _ _ _ => rfl) hx.p_table dX1_canDeal_22 ?_
  refine r_callV0 (pc := 25) (C_many hx.tb fe_i) im_X2_many q369 q1241 hx.tb.o rfl dX1_canDeal_25 (Nat.le_of_ble_eq_true rfl) (Nat.le_of_ble_eq_true rfl) rfl (k_fi ?_) (fun _ _ _ _ _ _ _ hx => no_x hx)
  rw [hx.r.ta.2.1]
  refine r_imul (pc := 28) dX1_canDeal_28 ?_
  refine r_iconst (pc := 29) dX1_canDeal_29 ?_
  refine r_aload_n (pc := 30) dX1_canDeal_30 rfl rfl ?_
  refine r_getr (pc := 31) (c := 1) (k := 3) (kz := 3) hx.o cok_1 (Nat.le_of_ble_eq_true rfl) q513 ⟨rfl, rfl⟩ (Or.inl rfl) rfl (fun _ _ _ => rfl) hx.p_table dX1_canDeal_31 ?_
  refine r_getiN (pc := 34) (c := 2) (k := 0) (kz := 0) hx.tb.o cok_2 (Nat.le_of_ble_eq_true rfl) q205 ⟨rfl, rfl⟩ (Or.inl rfl) rfl (fun _ _ _ => rfl) dX1_canDeal_34 (fun hr34 => ?_)
  rw [hx.r.ta.1] at hr34 ⊢
  refine r_imul (pc := 37) dX1_canDeal_37 ?_
  refine r_icmp_gt (pc := 38) 45 dX1_canDeal_38 rfl (by omega) (by omega) (fun h38 => ?_) (fun h38 => ?_)
  · exact bad (fun q => by omega)
  rw [bz_t ⟨by omega, by omega, by omega⟩] at hQ
  refine r_iconst (pc := 41) dX1_canDeal_41 ?_
  refine r_goto (pc := 42) 46 dX1_canDeal_42 rfl ?_
  refine r_ireturn (pc := 46) rfl (nb_z (by omega)) dX1_canDeal_46 (Nat.le_of_ble_eq_true rfl) (Nat.le_of_ble_eq_true rfl) ?_
  exact hQ
theorem C_dealF (hx : XS G I P T x t σ μ) {N : Int} {β : Int → Nat} {υ : Int → Int → Int} (hB : XB I P x t N β υ) {n sd : Int} (hn : rg n) (hsd : rg sd)
    (hQ : if (1 ≤ n ∧ n ≤ 9) ∧ σ 1 ≠ 0 ∧ σ 0 ≠ 0 ∧ n * σ 1 ≤ 4 * σ 0 then ∀ I' P' β' ν, AFr x N I I' P P' → XS G I' P' T x t (f_begins (f_dealt π σ n sd)) ν → XB I' P' x t (kn N + 1) β' (kb υ N σ) → I' (x + 76) = I (x + 76) → Q (some (iv 1)) I' J P' T z else Q (some (iv 0)) I J P T z) : MC G yX1_deal (ws_ yX1_deal cX1_deal 3 (some FieldType.boolean)) (d + 8) 0 0 [.ref x, iv n, iv sd] I J P T z Q nX := by
  have hb := hx.b
  have ht := hx.ta
  have htx := hx.tx
  refine MC.of (by decide) (Nat.le_of_ble_eq_true rfl) ?_
  show PW G mX1_deal (rmD (d + 8) 0 0) (MZ G Q nX 0 0) 0 0 I J P T z 0 [some (.ref x), some (iv n), some (iv sd)] []
  have bad : ¬ ((1 ≤ n ∧ n ≤ 9) ∧ σ 1 ≠ 0 ∧ σ 0 ≠ 0 ∧ n * σ 1 ≤ 4 * σ 0) → PW G mX1_deal (rmD (d + 8) 0 0) (MZ G Q nX 0 0) 0 0 I J P T z 18 [some (.ref x), some (iv n), some (iv sd)] [] := by
    intro q
    rw [if_neg q] at hQ
    refine r_iconst (pc := 18) dX1_deal_18 ?_
    refine r_ireturn (pc := 19) rfl (nb_z (by omega)) dX1_deal_19 (Nat.le_of_ble_eq_true rfl) (Nat.le_of_ble_eq_true rfl) ?_
    exact hQ
  refine r_iload_n (pc := 0) dX1_deal_0 rfl rfl ?_
  refine r_iconst (pc := 1) dX1_deal_1 ?_
  refine r_bipush (pc := 2) dX1_deal_2 (by decide +kernel) ?_
  refine r_callS3 (pc := 4) (C_isIn (by omega) (by omega) (by omega) fe_i) im_X1_isIn q1228 dX1_deal_4 (Nat.le_of_ble_eq_true rfl) (Nat.le_of_ble_eq_true rfl) rfl (k_fi ?_) (fun _ _ _ _ _ _ _ hx => no_x hx)
  refine r_if_eq (pc := 7) 18 dX1_deal_7 rfl bz_g (fun h7 => ?_) (fun h7 => ?_)
  · exact bad (fun q => bz_0.mp h7 q.1)
  have q1 := bz_ne.mp h7
  refine r_aload_n (pc := 10) dX1_deal_10 rfl rfl ?_
  refine r_iload_n (pc := 11) dX1_deal_11 rfl rfl ?_
  refine r_callV1 (pc := 12) (C_canDeal hx q1 fe_i) im_X1_canDeal qs43 q1466 hx.o rfl dX1_deal_12 (Nat.le_of_ble_eq_true rfl) (Nat.le_of_ble_eq_true rfl) rfl (k_fi ?_) (fun _ _ _ _ _ _ _ hx => no_x hx)
  refine r_if_ne (pc := 15) 20 dX1_deal_15 rfl bz_g (fun h15 => ?_) (fun h15 => ?_)
  · have q2 := bz_ne.mp h15
    rw [if_pos ⟨q1, q2⟩] at hQ
    refine r_aload_n (pc := 20) dX1_deal_20 rfl rfl ?_
    refine r_callV0 (pc := 21) (C_snap (Q := ee J T z none (fun I' P' => ∃ β', SNF x N I I' P P' ∧ XS G I' P' T x t σ μ ∧ XB I' P' x t (kn N + 1) β' (kb υ N σ))) hx hB (fun I' P' β' a1 a2 a3 => ee_i ⟨β', a1, a2, a3⟩)) im_X1_snap qs26 q1262 hx.o rfl dX1_deal_21 (Nat.le_of_ble_eq_true rfl) (Nat.le_of_ble_eq_true rfl) rfl (k_e fun I2 P2 h2 => ?_) (fun _ _ _ _ _ _ _ hx => no_x hx)
    obtain ⟨β', hsn, hx2, hB2⟩ := h2
    show PW G mX1_deal (rmD (d + 8) 0 0) (MZ G Q nX 0 0) 0 0 I2 J P2 T z 24 [some (.ref x), some (iv n), some (iv sd)] []
    have hhp := hx2.r.hp
    refine r_aload_n (pc := 24) dX1_deal_24 rfl rfl ?_
    refine r_getr (pc := 25) (c := 1) (k := 4) (kz := 4) hx2.o cok_1 (Nat.le_of_ble_eq_true rfl) q514 ⟨rfl, rfl⟩ (Or.inl rfl) rfl (fun _ _ _ => rfl) hx2.p_now dX1_deal_25 ?_
    refine r_aload_n (pc := 28) dX1_deal_28 rfl rfl ?_
    refine r_getr (pc := 29) (c := 1) (k := 3) (kz := 3) hx2.o cok_1 (Nat.le_of_ble_eq_true rfl) q513 ⟨rfl, rfl⟩ (Or.inl rfl) rfl (fun _ _ _ => rfl) hx2.p_table dX1_deal_29 ?_
    refine r_iload_n (pc := 32) dX1_deal_32 rfl rfl ?_
    refine r_iload_n (pc := 33) dX1_deal_33 rfl rfl ?_
    refine r_callV3 (pc := 34) (C_deal (π := π) (Q := ee J T z (some (.ref (x + 13))) (fun I' P' => ∃ ν, P' = P2 ∧ GF (x + 13) I2 I' ∧ GR I' (x + 13) t (f_begins (f_dealt π σ n sd)) ν)) hx2.g.1 hx2.tb hx2.r.tt hx2.r.ta (by omega) (by omega) (by omega) (by omega) q1 hsd q2.2.2 (fun I' ν a b => by rw [up_id hx2.g.2.2]; exact ee_i ⟨ν, rfl, a, b⟩)) im_X3_deal q1472 q1470 hx2.g.o rfl dX1_deal_34 (Nat.le_of_ble_eq_true rfl) (Nat.le_of_ble_eq_true rfl) rfl (k_e fun I3 P3 h3 => ?_) (fun _ _ _ _ _ _ _ hx => no_x hx)
    obtain ⟨ν, rfl, hf, hr⟩ := h3
    show PW G mX1_deal (rmD (d + 8) 0 0) (MZ G Q nX 0 0) 0 0 I3 J P3 T z 37 [some (.ref x), some (iv n), some (iv sd)] [.ref (x + 13)]
    refine r_pop (pc := 37) dX1_deal_37 rfl ?_
    refine r_iconst (pc := 38) dX1_deal_38 ?_
    refine r_ireturn (pc := 39) rfl (nb_z (by omega)) dX1_deal_39 (Nat.le_of_ble_eq_true rfl) (Nat.le_of_ble_eq_true rfl) ?_
    have hD := (dealt_DT (π := π) (σ := σ) (n := n) (sd := sd) (by omega) (by omega) (by omega) q2.2.2).hw (by omega) (by omega) (by omega) (by omega) q2.2.2
    obtain ⟨s1, s2, s3, s4⟩ := hsn
    refine hQ I3 P3 β' ν ⟨fun b q => ?_, ?_, s3, s4⟩ ⟨hx2.x, hx2.p_table, hx2.g, hr, (WF.begins hD).1, hx2.tx⟩ (hB2.fr (by have := hB2.2.2.1; omega) ?_ (fun b q => hf b (by omega)) rfl (fun _ _ => rfl)) ?_
    · rw [hf b (by omega)]; exact s1 b (by omega) (by omega)
    · rw [hf x (by omega)]; exact s2
    · rw [hf x (by omega)]; exact hB2.2.2.2.1
    · rw [hf _ (by omega)]; exact s1 _ (by omega) (by omega)
  exact bad (fun q => bz_0.mp h15 q.2)
theorem C_play (hx : XS G I P T x t σ μ) {N : Int} {β : Int → Nat} {υ : Int → Int → Int} (hB : XB I P x t N β υ) {n : Int} (hn : rg n) (h1 : 0 ≤ I x 1 ∧ I x 1 ≤ 940)
    (hQ : if ¬ ((1 ≤ n ∧ n ≤ 400) ∧ 2 ≤ σ 1 ∧ I x 1 = σ 1) then Q (some (iv (-1))) (ur I x (us (I x) 1 0)) J P T z
      else if (f_rl (I (x + 1)) (I x 1).toNat 0 rl).1 = 0 then Q (some (iv (-1))) (ur I x (us (I x) 1 0)) J P T z
      else if σ 4 = -1 then Q (some (iv 0)) (ur I x (us (I x) 1 0)) J P T z
      else ∀ r, r = f_cp (f_rl (I (x + 1)) (I x 1).toNat 0 rl).2 n.toNat σ μ → ∀ I' P' β', AFr x N (ur I x (us (I x) 1 0)) I' P P' → XS G I' P' T x t r.1 r.2.1 → XB I' P' x t (kn N + 1) β' (kb υ N σ) → I' (x + 76) = told r.2.1 (I (x + 76)) → Q (some (iv r.2.2)) I' J P' T z) : MC G yX1_play (ws_ yX1_play cX1_play 4 (some FieldType.int)) (d + 8) 0 0 [.ref x, iv n] I J P T z Q nX := by
  have hb := hx.b
  have ht := hx.ta
  have htx := hx.tx
  refine MC.of (by decide) (Nat.le_of_ble_eq_true rfl) ?_
  show PW G mX1_play (rmD (d + 8) 0 0) (MZ G Q nX 0 0) 0 0 I J P T z 0 [some (.ref x), some (iv n), none, none] []
  have f1 : ∀ b : Nat, b ≠ x → ur I x (us (I x) 1 0) b = I b := fun b q => ur_n q
  have e1 : ur I x (us (I x) 1 0) x = us (I x) 1 0 := ur_s
  have hx1 : XS G (ur I x (us (I x) 1 0)) P T x t σ μ := hx.fr (fun b q => f1 b (by omega))
  have hB1 : XB (ur I x (us (I x) 1 0)) P x t N β υ := hB.fr (by have := hB.2.2.1; omega) (by rw [e1, us_n (by omega)]; exact hB.2.2.2.1) (fun b q => f1 b (by omega)) rfl (fun _ _ => rfl)
  have hτ : ur I x (us (I x) 1 0) (x + 1) = I (x + 1) := f1 _ (by omega)
  have h76 : ur I x (us (I x) 1 0) (x + 76) = I (x + 76) := f1 _ (by omega)
  generalize hsz : I x 1 = size at h1 hQ
  generalize hta : I (x + 1) = τ at hτ hQ
  refine r_aload_n (pc := 0) dX1_play_0 rfl rfl ?_
  refine r_callV0 (pc := 1) (C_takeF hx.x fe_i) im_X1_take qs11 q600 hx.o rfl dX1_play_1 (Nat.le_of_ble_eq_true rfl) (Nat.le_of_ble_eq_true rfl) rfl (k_fi ?_) (fun _ _ _ _ _ _ _ hx => no_x hx)
  rw [hsz]
  generalize ur I x (us (I x) 1 0) = I1 at f1 e1 hx1 hB1 hτ h76 hQ
  rw [← h76] at hQ
  have bad : ¬ ((1 ≤ n ∧ n ≤ 400) ∧ 2 ≤ σ 1 ∧ size = σ 1) → PW G mX1_play (rmD (d + 8) 0 0) (MZ G Q nX 0 0) 0 0 I1 J P T z 32 [some (.ref x), some (iv n), some (iv size), none] [] := by
    intro q
    rw [if_pos q] at hQ
    refine r_iconst (pc := 32) dX1_play_32 ?_
    refine r_ireturn (pc := 33) rfl rfl dX1_play_33 (Nat.le_of_ble_eq_true rfl) (Nat.le_of_ble_eq_true rfl) ?_
    exact hQ
  refine r_istore_n2 (pc := 4) (Nat.le_of_ble_eq_true rfl) dX1_play_4 rfl ?_
  refine r_iload_n (pc := 5) dX1_play_5 rfl rfl ?_
  refine r_iconst (pc := 6) dX1_play_6 ?_
  refine r_sipush (pc := 7) dX1_play_7 (by decide +kernel) ?_
  refine r_callS3 (pc := 10) (C_isIn (by omega) (by omega) (by omega) fe_i) im_X1_isIn q1228 dX1_play_10 (Nat.le_of_ble_eq_true rfl) (Nat.le_of_ble_eq_true rfl) rfl (k_fi ?_) (fun _ _ _ _ _ _ _ hx => no_x hx)
  refine r_if_eq (pc := 13) 32 dX1_play_13 rfl bz_g (fun h13 => ?_) (fun h13 => ?_)
  · exact bad (fun q => bz_0.mp h13 q.1)
  have q1 := bz_ne.mp h13
  refine r_iload_n (pc := 16) dX1_play_16 rfl rfl ?_
  refine r_aload_n (pc := 17) dX1_play_17 rfl rfl ?_
  refine r_getr (pc := 18) (c := 1) (k := 3) (kz := 3) hx1.o cok_1 (Nat.le_of_ble_eq_true rfl) q513 ⟨rfl, rfl⟩ (Or.inl rfl) rfl (fun _ _ _ => rfl) hx1.p_table dX1_play_18 ?_
  refine r_callV0 (pc := 21) (C_many hx1.tb fe_i) im_X2_many q369 q1241 hx1.tb.o rfl dX1_play_21 (Nat.le_of_ble_eq_true rfl) (Nat.le_of_ble_eq_true rfl) rfl (k_fi ?_) (fun _ _ _ _ _ _ _ hx => no_x hx)
  rw [hx1.r.ta.2.1]
  refine r_icmp_ne (pc := 24) 32 dX1_play_24 rfl (by omega) (by omega) (fun h24 => ?_) (fun h24 => ?_)
  · exact bad (fun q => by omega)
  refine r_iload_n (pc := 27) dX1_play_27 rfl rfl ?_
  refine r_iconst (pc := 28) dX1_play_28 ?_
  refine r_icmp_ge (pc := 29) 34 dX1_play_29 rfl (by omega) (by omega) (fun h29 => ?_) (fun h29 => ?_)
  · rw [if_neg (by omega)] at hQ
    refine r_iconst (pc := 34) dX1_play_34 ?_
    refine r_istore_n3 (pc := 35) (Nat.le_of_ble_eq_true rfl) dX1_play_35 rfl ?_
    have rest : ∀ (rl' : Int → Int) (l3 : Option Value), (∀ a, 0 ≤ a → a < σ 1 → rl' a = τ a % 256 ∧ τ a % 256 ≤ 3) → (if σ 4 = -1 then Q (some (iv 0)) I1 J P T z else ∀ r, r = f_cp rl' n.toNat σ μ → ∀ I' P' β', AFr x N I1 I' P P' → XS G I' P' T x t r.1 r.2.1 → XB I' P' x t (kn N + 1) β' (kb υ N σ) → I' (x + 76) = told r.2.1 (I1 (x + 76)) → Q (some (iv r.2.2)) I' J P' T z) → PW G mX1_play (rmD (d + 8) 0 0) (MZ G Q nX 0 0) 0 0 I1 J P T z 58 [some (.ref x), some (iv n), some (iv size), l3] [] := by
      intro rl' l3 hrl hQ
      refine r_aload_n (pc := 58) dX1_play_58 rfl rfl ?_
      refine r_getr (pc := 59) (c := 1) (k := 4) (kz := 4) hx1.o cok_1 (Nat.le_of_ble_eq_true rfl) q514 ⟨rfl, rfl⟩ (Or.inl rfl) rfl (fun _ _ _ => rfl) hx1.p_now dX1_play_59 ?_
      refine r_callV0 (pc := 62) (C_isOver hx1.g hx1.r fe_i) im_X3_isOver q1256 q1360 hx1.g.o rfl dX1_play_62 (Nat.le_of_ble_eq_true rfl) (Nat.le_of_ble_eq_true rfl) rfl (k_fi ?_) (fun _ _ _ _ _ _ _ hx => no_x hx)
      refine r_if_eq (pc := 65) 70 dX1_play_65 rfl bz_g (fun h65 => ?_) (fun h65 => ?_)
      · have q4 : ¬ σ 4 = -1 := bz_0.mp h65
        rw [if_neg q4] at hQ
        refine r_aload_n (pc := 70) dX1_play_70 rfl rfl ?_
        refine r_callV0 (pc := 71) (C_snap (Q := ee J T z none (fun I' P' => ∃ β', SNF x N I1 I' P P' ∧ XS G I' P' T x t σ μ ∧ XB I' P' x t (kn N + 1) β' (kb υ N σ))) hx1 hB1 (fun I' P' β' a1 a2 a3 => ee_i ⟨β', a1, a2, a3⟩)) im_X1_snap qs26 q1262 hx1.o rfl dX1_play_71 (Nat.le_of_ble_eq_true rfl) (Nat.le_of_ble_eq_true rfl) rfl (k_e fun I2 P2 h2 => ?_) (fun _ _ _ _ _ _ _ hx => no_x hx)
        obtain ⟨β', hsn, hx2, hB2⟩ := h2
        show PW G mX1_play (rmD (d + 8) 0 0) (MZ G Q nX 0 0) 0 0 I2 J P2 T z 74 [some (.ref x), some (iv n), some (iv size), l3] []
        obtain ⟨s1, s2, s3, s4⟩ := hsn
        have hτ2 : I2 (x + 1) = τ := by rw [s1 _ (by omega) (by omega)]; exact hτ
        refine r_iconst (pc := 74) dX1_play_74 ?_
        refine r_istore_n3 (pc := 75) (Nat.le_of_ble_eq_true rfl) dX1_play_75 rfl ?_
        have fin : ∀ (I3 : HI) (σ3 μ3 : Int → Int) (k : Int), (0 ≤ k ∧ k ≤ 400) → GF (x + 13) I2 I3 → XS G I3 P2 T x t σ3 μ3 → f_cp rl' n.toNat σ μ = (σ3, μ3, k) → PW G mX1_play (rmD (d + 8) 0 0) (MZ G Q nX 0 0) 0 0 I3 J P2 T z 120 [some (.ref x), some (iv n), some (iv size), some (iv k)] [] := by
          intro I3 σ3 μ3 k hk hf hx3 he
          refine r_aload_n (pc := 120) dX1_play_120 rfl rfl ?_
          refine r_callV0 (pc := 121) (C_tellAsked hx3 fe_i) im_X1_tellAsked qs30 q1290 hx3.o rfl dX1_play_121 (Nat.le_of_ble_eq_true rfl) (Nat.le_of_ble_eq_true rfl) rfl (k_fv ?_) (fun _ _ _ _ _ _ _ hx => no_x hx)
          refine r_iload_n (pc := 124) dX1_play_124 rfl rfl ?_
          refine r_ireturn (pc := 125) rfl rfl dX1_play_125 (Nat.le_of_ble_eq_true rfl) (Nat.le_of_ble_eq_true rfl) ?_
          have f9 : ∀ b : Nat, b ≠ x + 76 → ur I3 (x + 76) (told μ3 (I3 (x + 76))) b = I3 b := fun b q => ur_n q
          have e76 : I3 (x + 76) = I1 (x + 76) := by rw [hf _ (by omega)]; exact s1 _ (by omega) (by omega)
          refine hQ (σ3, μ3, k) he.symm _ P2 β' ⟨fun b q => ?_, ?_, s3, s4⟩ (hx3.fr (fun b q => f9 b (by omega))) (hB2.fr (by have := hB2.2.2.1; omega) ?_ (fun b q => ?_) rfl (fun _ _ => rfl)) (by rw [ur_s, e76])
          · rw [f9 b (by omega), hf b (by omega)]; exact s1 b (by omega) (by omega)
          · rw [f9 x (by omega), hf x (by omega)]; exact s2
          · rw [f9 x (by omega), hf x (by omega)]; exact hB2.2.2.2.1
          · rw [f9 b (by omega)]; exact hf b (by omega)
        have loop : ∀ (m : Nat) (k : Int) (I3 : HI) (σ3 μ3 : Int → Int), 0 ≤ k → k + m = n → GF (x + 13) I2 I3 → XS G I3 P2 T x t σ3 μ3 → W2 σ3 → σ3 1 = σ 1 → f_cp rl' n.toNat σ μ = ((f_cp rl' m σ3 μ3).1, (f_cp rl' m σ3 μ3).2.1, (f_cp rl' m σ3 μ3).2.2 + k) → PW G mX1_play (rmD (d + 8) 0 0) (MZ G Q nX 0 0) 0 0 I3 J P2 T z 76 [some (.ref x), some (iv n), some (iv size), some (iv k)] [] := by
          intro m
          induction m with
          | zero =>
            intro k I3 σ3 μ3 h0 hm hf hx3 hw e11 he
            refine r_iload_n (pc := 76) dX1_play_76 rfl rfl ?_
            refine r_iload_n (pc := 77) dX1_play_77 rfl rfl ?_
            refine r_icmp_ge (pc := 78) 120 dX1_play_78 rfl (by omega) (by omega) (fun h78 => ?_) (fun h78 => ?_)
            · refine fin I3 σ3 μ3 k (by omega) hf hx3 ?_
              rw [he]
              show (σ3, μ3, 0 + k) = _
              rw [Int.zero_add]
            omega
          | succ m ih =>
            intro k I3 σ3 μ3 h0 hm hf hx3 hw e11 he
            have hxr := hx3.r
            refine r_iload_n (pc := 76) dX1_play_76 rfl rfl ?_
            refine r_iload_n (pc := 77) dX1_play_77 rfl rfl ?_
            refine r_icmp_ge (pc := 78) 120 dX1_play_78 rfl (by omega) (by omega) (fun h78 => ?_) (fun h78 => ?_)
            · omega
            refine r_aload_n (pc := 81) dX1_play_81 rfl rfl ?_
            refine r_getr (pc := 82) (c := 1) (k := 4) (kz := 4) hx3.o cok_1 (Nat.le_of_ble_eq_true rfl) q514 ⟨rfl, rfl⟩ (Or.inl rfl) rfl (fun _ _ _ => rfl) hx3.p_now dX1_play_82 ?_
            refine r_callV0 (pc := 85) (C_isOver hx3.g hx3.r fe_i) im_X3_isOver q1256 q1360 hx3.g.o rfl dX1_play_85 (Nat.le_of_ble_eq_true rfl) (Nat.le_of_ble_eq_true rfl) rfl (k_fi ?_) (fun _ _ _ _ _ _ _ hx => no_x hx)
            refine r_if_ne (pc := 88) 120 dX1_play_88 rfl bz_g (fun h88 => ?_) (fun h88 => ?_)
            · have q5 := bz_ne.mp h88
              refine fin I3 σ3 μ3 k (by omega) hf hx3 ?_
              rw [he]
              unfold f_cp
              rw [if_pos q5, Int.zero_add]
            have q5 : ¬ σ3 4 = -1 := bz_0.mp h88
            have tu := hw.1.tu
            have t4 : 0 ≤ σ3 4 ∧ σ3 4 < σ3 1 := by
              rcases tu with q | q
              · exact absurd q q5
              · exact ⟨q.1, q.2.1⟩
            have hr4 := hrl (σ3 4) (by omega) (by omega)
            have hτ3 : I3 (x + 1) = τ := by rw [hf _ (by omega)]; exact hτ2
            refine r_aload_n (pc := 91) dX1_play_91 rfl rfl ?_
            refine r_getr (pc := 92) (c := 1) (k := 4) (kz := 4) hx3.o cok_1 (Nat.le_of_ble_eq_true rfl) q514 ⟨rfl, rfl⟩ (Or.inl rfl) rfl (fun _ _ _ => rfl) hx3.p_now dX1_play_92 ?_
            refine r_aload_n (pc := 95) dX1_play_95 rfl rfl ?_
            refine r_getr (pc := 96) (c := 1) (k := 20) (kz := 20) hx3.o cok_1 (Nat.le_of_ble_eq_true rfl) q530 ⟨rfl, rfl⟩ (Or.inl rfl) rfl (fun _ _ _ => rfl) hx3.p_bents dX1_play_96 ?_
            refine r_aload_n (pc := 99) dX1_play_99 rfl rfl ?_
            refine r_aload_n (pc := 100) dX1_play_100 rfl rfl ?_
            refine r_getr (pc := 101) (c := 1) (k := 4) (kz := 4) hx3.o cok_1 (Nat.le_of_ble_eq_true rfl) q514 ⟨rfl, rfl⟩ (Or.inl rfl) rfl (fun _ _ _ => rfl) hx3.p_now dX1_play_101 ?_
            refine r_getiN (pc := 104) (c := 3) (k := 14) (kz := 14) hx3.g.o cok_3 (Nat.le_of_ble_eq_true rfl) q308 ⟨rfl, rfl⟩ (Or.inl rfl) rfl (fun _ _ _ => rfl) dX1_play_104 (fun hr104 => ?_)
            rw [hxr.turn] at hr104 ⊢
            refine r_callV1 (pc := 107) (C_onTape hx3.x (by omega) fe_i) im_X1_onTape qs42 q1455 hx3.o rfl dX1_play_107 (Nat.le_of_ble_eq_true rfl) (Nat.le_of_ble_eq_true rfl) rfl (k_fi ?_) (fun _ _ _ _ _ _ _ hx => no_x hx)
            rw [hτ3, ← hr4.1]
            refine r_aald (pc := 110) hx3.t_bents ⟨by decide, by decide⟩ rfl (fun _ _ _ => rfl) (by omega) (by omega) (hx3.x.q_bents (by omega) (by omega)) dX1_play_110 ?_
            have hao := hw.1.ao hw.2 q5 (rule := rl' (σ3 4)) (by omega)
            refine r_callS2 (pc := 111) (C_asksS (Q := ee J T z none (fun I' P' => P' = P2 ∧ GF (x + 13) I2 I' ∧ GR I' (x + 13) t (f_asks σ3 (σ3 4) (f_bent σ3 (σ3 4) (rl' (σ3 4)) / 100) (f_bent σ3 (σ3 4) (rl' (σ3 4)) % 100) 0).1 (f_tl σ3 (f_bent σ3 (σ3 4) (rl' (σ3 4)))))) hx3.x hx3.g hf hx3.r hw q5 (by omega) (fun I' a b => ee_i ⟨rfl, a, b⟩)) im_X1_asks q1459 dX1_play_111 (Nat.le_of_ble_eq_true rfl) (Nat.le_of_ble_eq_true rfl) rfl (k_e fun I4 P4 h4 => ?_) (fun _ _ _ _ _ _ _ hx => no_x hx)
            obtain ⟨rfl, hf4, hr4'⟩ := h4
            show PW G mX1_play (rmD (d + 8) 0 0) (MZ G Q nX 0 0) 0 0 I4 J P4 T z 114 [some (.ref x), some (iv n), some (iv size), some (iv k)] []
            refine r_iinc3 (pc := 114) (Nat.le_of_ble_eq_true rfl) dX1_play_114 rfl ?_
            refine r_goto (pc := 117) 76 dX1_play_117 rfl ?_
            have hw4 := hw.asks (l := 0) hao.2.2.2.2
            refine ih (k + 1) I4 _ _ (by omega) (by omega) hf4 ⟨hx3.x, hx3.p_table, hx3.g, hr4', hw4.1, hx3.tx⟩ hw4 (by rw [asks_tb hw.1 hao.2.2.2.2 (by omega) (by omega)]; exact e11) ?_
            rw [he]
            conv => lhs; unfold f_cp
            rw [if_neg q5]
            simp only
            refine Prod.ext rfl (Prod.ext rfl ?_)
            simp only
            omega
        refine loop n.toNat 0 I2 σ μ (by omega) (by omega) GF.rf hx2 ⟨hx2.w, by omega⟩ rfl ?_
        exact Prod.ext rfl (Prod.ext rfl (Int.add_zero _).symm)
      have q4 := bz_ne.mp h65
      rw [if_pos q4] at hQ
      refine r_iconst (pc := 68) dX1_play_68 ?_
      refine r_ireturn (pc := 69) rfl rfl dX1_play_69 (Nat.le_of_ble_eq_true rfl) (Nat.le_of_ble_eq_true rfl) ?_
      exact hQ
    have loop0 : ∀ (m : Nat) (k : Int) (rl1 : Int → Int), 0 ≤ k → k + m = size → (∀ a, 0 ≤ a → a < k → τ a % 256 ≤ 3) → (f_rl τ size.toNat 0 rl = f_rl τ m k rl1) → PW G mX1_play (rmD (d + 8) 0 0) (MZ G Q nX 0 0) 0 0 I1 J P T z 36 [some (.ref x), some (iv n), some (iv size), some (iv k)] [] := by
      intro m
      induction m with
      | zero =>
        intro k rl1 h0 hm ha he
        refine r_iload_n (pc := 36) dX1_play_36 rfl rfl ?_
        refine r_iload_n (pc := 37) dX1_play_37 rfl rfl ?_
        refine r_icmp_ge (pc := 38) 58 dX1_play_38 rfl (by omega) (by omega) (fun h38 => ?_) (fun h38 => ?_)
        · have e9 : (f_rl τ size.toNat 0 rl).1 ≠ 0 := by rw [he]; show (1 : Int) ≠ 0; decide
          rw [if_neg e9] at hQ
          have v9 := (f_rl_v _ _ _ e9).2
          exact rest _ _ (fun a h0 h1 => v9 a h0 (by omega)) hQ
        omega
      | succ m ih =>
        intro k rl1 h0 hm ha he
        refine r_iload_n (pc := 36) dX1_play_36 rfl rfl ?_
        refine r_iload_n (pc := 37) dX1_play_37 rfl rfl ?_
        refine r_icmp_ge (pc := 38) 58 dX1_play_38 rfl (by omega) (by omega) (fun h38 => ?_) (fun h38 => ?_)
        · omega
        refine r_aload_n (pc := 41) dX1_play_41 rfl rfl ?_
        refine r_iload_n (pc := 42) dX1_play_42 rfl rfl ?_
        refine r_callV1 (pc := 43) (C_onTape hx1.x (by omega) fe_i) im_X1_onTape qs42 q1455 hx1.o rfl dX1_play_43 (Nat.le_of_ble_eq_true rfl) (Nat.le_of_ble_eq_true rfl) rfl (k_fi ?_) (fun _ _ _ _ _ _ _ hx => no_x hx)
        rw [hτ]
        refine r_iconst (pc := 46) dX1_play_46 ?_
        refine r_icmp_lt (pc := 47) 52 dX1_play_47 rfl (by omega) (by omega) (fun h47 => ?_) (fun h47 => ?_)
        · refine r_iinc3 (pc := 52) (Nat.le_of_ble_eq_true rfl) dX1_play_52 rfl ?_
          refine r_goto (pc := 55) 36 dX1_play_55 rfl ?_
          refine ih (k + 1) (us rl1 k (τ k % 256)) (by omega) (by omega) (fun a u v => ?_) ?_
          · by_cases e : a = k
            · subst e; omega
            · exact ha a u (by omega)
          · rw [he]
            conv => lhs; unfold f_rl
            rw [if_neg (by omega)]
        have e9 : (f_rl τ size.toNat 0 rl).1 = 0 := by
          rw [he]
          unfold f_rl
          rw [if_pos (by omega)]
        rw [if_pos e9] at hQ
        refine r_iconst (pc := 50) dX1_play_50 ?_
        refine r_ireturn (pc := 51) rfl rfl dX1_play_51 (Nat.le_of_ble_eq_true rfl) (Nat.le_of_ble_eq_true rfl) ?_
        exact hQ
    exact loop0 size.toNat 0 rl (by omega) (by omega) (fun a u v => by omega) rfl
  exact bad (fun q => by omega)
end L5
