/-! ===== the component: evenings; a line is judged ===== -/
/-- row of the game, its latest row, lines, why, wrong -/
abbrev EV := (Int → Int) × (Int → Int) × Int × Int × Int
def ev_w (σ : Int → Int) (a b k n : Int) : Int := if f_why σ a b k = 0 ∧ σ (60 + 13 * b + k) ≠ n then 5 else f_why σ a b k
def ev1 (a b k n : Int) (e : EV) : EV :=
  if ev_w e.1 a b k n ≠ 0 then (e.1, e.2.1, e.2.2.1, ev_w e.1 a b k n, e.2.2.1)
  else ((f_asks e.1 a b k 0).1, f_tell a b k (f_gives e.1 b k 0) (f_asks e.1 a b k 0).2.1 (f_asks e.1 a b k 0).2.2 (f_lie e.1 b k 0) (f_sure e.1 b k), e.2.2.1 + 1, 0, e.2.2.2.2)
section P17
variable {G : GE} {I J I' : HI} {P P' : HP} {T T' : HT} {z r g t tp d : Nat} {Q : QT} {ω : Int → Int} {e : EV}
/-- an evening's reader says how far it is -/
def EJ (G : GE) (I : HI) (P : HP) (T : HT) (r g t : Nat) (e : EV) : Prop := (T r = (35, 0) ∧ G.2.2.2.1 ≤ r ∧ (r < g ∨ g + 31 ≤ r) ∧ r ≠ t ∧ r ≠ t + 1) ∧ P r 9 = some g ∧ shG G P T g t ∧ GR I g t e.1 e.2.1 ∧ WF e.1 ∧ I r 10 = e.2.2.1 ∧ I r 11 = e.2.2.2.1 ∧ I r 12 = e.2.2.2.2 ∧ (t < g ∨ g + 31 ≤ t) ∧ (t + 1 < g ∨ g + 31 ≤ t + 1)
/-- what judging may change -/
def JF (r g : Nat) (I I' : HI) : Prop := (∀ a, a ≠ r → (a < g ∨ g + 31 ≤ a) → I' a = I a) ∧ ∀ j, j < 10 ∨ 12 < j → I' r j = I r j
theorem C_judge (h : EJ G I P T r g t e) {a b k n : Int} (ha : isP e.1 a) (hb : isP e.1 b) (hk : isK e.1 k) (hn : rg n) (hl : 0 ≤ e.2.2.1 ∧ e.2.2.1 < 1000)
    (hQ : ∀ I', JF r g I I' → EJ G I' P T r g t (ev1 a b k n e) → Q none I' J P T z) : MC G yX15_judge (ws_ yX15_judge cX15_judge 5 (none : Option FieldType)) (d + 7) 0 0 [.ref r, iv a, iv b, iv k, iv n] I J P T z Q nX := by
  obtain ⟨⟨hTr, hbr, hrg, hrt, hrt1⟩, hP9, hs, hr, hw, h10, h11, h12, htg, htg1⟩ := h
  have ht := hw.cv.ta
  have a6 : 0 ≤ a ∧ a < 6 := by omega
  have b6 : 0 ≤ b ∧ b < 6 := by omega
  have k13 : 0 ≤ k ∧ k < 13 := by omega
  have wr9 := why_r (σ := e.1) (a := a) (b := b) (k := k)
  have frg : ∀ {I1 : HI} {σ1 μ1 : Int → Int} (f : Int → Int), GR I1 g t σ1 μ1 → GR (ur I1 r f) g t σ1 μ1 := fun f h => h.fr (fun b q => ur_n (by omega))
  have hgo : T g = (23, 0) := hs.o
  obtain ⟨ω, hω⟩ : ∃ ω, ω = I r := ⟨_, rfl⟩
  rw [← hω] at h10 h11 h12
  have ewy : ∀ {w : Int}, w ≠ 0 → ev_w e.1 a b k n = w → ev1 a b k n e = (e.1, e.2.1, e.2.2.1, w, e.2.2.1) := fun {w} p q => by
    unfold ev1
    rw [if_pos (by rw [q]; exact p), q]
  refine MC.of (by decide) (Nat.le_of_ble_eq_true rfl) ?_
  refine pw_ur (a := r) ?_
  rw [← hω]
  show PW G mX15_judge (rmD (d + 7) 0 0) (MZ G Q nX 0 0) 0 0 (ur I r ω) J P T z 0 [some (.ref r), some (iv a), some (iv b), some (iv k), some (iv n)] []
  have fin1 : ∀ w, w ≠ 0 → ev_w e.1 a b k n = w → PW G mX15_judge (rmD (d + 7) 0 0) (MZ G Q nX 0 0) 0 0 (ur I r (us ω 11 w)) J P T z 49 [some (.ref r), some (iv a), some (iv b), some (iv k), some (iv n)] [] := by
    intro w hw0 hw1
    refine r_aload_n (pc := 49) dX15_judge_49 rfl rfl ?_
    refine r_aload_n (pc := 50) dX15_judge_50 rfl rfl ?_
    refine r_geti (pc := 51) (c := 15) (k := 10) (kz := 10) hTr cok_15 (Nat.le_of_ble_eq_true rfl) q1511 ⟨rfl, rfl⟩ (Or.inl rfl) rfl (fun _ _ _ => rfl) dX15_judge_51 (fun hr51 => ?_)
    rw [ur_sv, us_n (by omega), h10] at hr51 ⊢
    refine r_puti (pc := 54) (c := 15) (k := 12) (kz := 12) hTr cok_15 (Nat.le_of_ble_eq_true rfl) q1515 ⟨rfl, rfl⟩ (Or.inl rfl) rfl (by omega) rfl rfl (by omega) (fun _ _ _ => rfl) ⟨rfl, rfl⟩ dX15_judge_54 ?_
    refine r_return (pc := 57) rfl dX15_judge_57 (Nat.le_of_ble_eq_true rfl) (Nat.le_of_ble_eq_true rfl) ?_
    rw [ui_ur]
    refine hQ _ ⟨fun a p q => ur_n p, fun j p => ?_⟩ ?_
    · rw [ur_sv, us_n (by omega), us_n (by omega), hω]
    · rw [ewy hw0 hw1]
      refine ⟨⟨hTr, hbr, hrg, hrt, hrt1⟩, hP9, hs, frg _ hr, hw, ?_, ?_, ?_, htg, htg1⟩
      · rw [ur_sv, us_n (by omega), us_n (by omega)]; exact h10
      · rw [ur_sv, us_n (by omega), us_s]
      · rw [ur_sv, us_s]
  refine r_aload_n (pc := 0) dX15_judge_0 rfl rfl ?_
  refine r_aload_n (pc := 1) dX15_judge_1 rfl rfl ?_
  refine r_getr (pc := 2) (c := 15) (k := 9) (kz := 9) hTr cok_15 (Nat.le_of_ble_eq_true rfl) q1510 ⟨rfl, rfl⟩ (Or.inl rfl) rfl (fun _ _ _ => rfl) hP9 dX15_judge_2 ?_
  refine r_iload_n (pc := 5) dX15_judge_5 rfl rfl ?_
  refine r_iload_n (pc := 6) dX15_judge_6 rfl rfl ?_
  refine r_iload_n (pc := 7) dX15_judge_7 rfl rfl ?_
  refine r_callV3 (pc := 8) (C_whyNot hs (frg ω hr) a6 b6 k13 fe_i) im_X3_whyNot q1252 q1572 hgo rfl dX15_judge_8 (Nat.le_of_ble_eq_true rfl) (Nat.le_of_ble_eq_true rfl) rfl (k_fi ?_) (fun _ _ _ _ _ _ _ hx => no_x hx)
  refine r_puti (pc := 11) (c := 15) (k := 11) (kz := 11) hTr cok_15 (Nat.le_of_ble_eq_true rfl) q1513 ⟨rfl, rfl⟩ (Or.inl rfl) rfl (by omega) rfl rfl (by omega) (fun _ _ _ => rfl) ⟨rfl, rfl⟩ dX15_judge_11 ?_
  rw [ui_ur]
  refine r_aload_n (pc := 14) dX15_judge_14 rfl rfl ?_
  refine r_geti (pc := 15) (c := 15) (k := 11) (kz := 11) hTr cok_15 (Nat.le_of_ble_eq_true rfl) q1513 ⟨rfl, rfl⟩ (Or.inl rfl) rfl (fun _ _ _ => rfl) dX15_judge_15 (fun hr15 => ?_)
  rw [ur_sv, us_s] at hr15 ⊢
  refine r_if_ne (pc := 18) 42 dX15_judge_18 rfl (by omega) (fun h18 => ?_) (fun h18 => ?_)
  · refine r_aload_n (pc := 42) dX15_judge_42 rfl rfl ?_
    refine r_geti (pc := 43) (c := 15) (k := 11) (kz := 11) hTr cok_15 (Nat.le_of_ble_eq_true rfl) q1513 ⟨rfl, rfl⟩ (Or.inl rfl) rfl (fun _ _ _ => rfl) dX15_judge_43 (fun hr43 => ?_)
    rw [ur_sv, us_s] at hr43 ⊢
    refine r_if_eq (pc := 46) 58 dX15_judge_46 rfl (by omega) (fun h46 => ?_) (fun h46 => ?_)
    · exact absurd h46 h18
    refine fin1 _ h18 ?_
    unfold ev_w
    rw [if_neg (fun c => h18 c.1)]
  have hgr := frg (us ω 11 (f_why e.1 a b k)) hr
  refine r_aload_n (pc := 21) dX15_judge_21 rfl rfl ?_
  refine r_getr (pc := 22) (c := 15) (k := 9) (kz := 9) hTr cok_15 (Nat.le_of_ble_eq_true rfl) q1510 ⟨rfl, rfl⟩ (Or.inl rfl) rfl (fun _ _ _ => rfl) hP9 dX15_judge_22 ?_
  refine r_getrN (pc := 25) (c := 3) (k := 1) (kz := 1) hgo cok_3 (Nat.le_of_ble_eq_true rfl) q270 ⟨rfl, rfl⟩ (Or.inl rfl) rfl (fun _ _ _ => rfl) hs.p_hand dX15_judge_25 ?_
  refine r_iload_n (pc := 28) dX15_judge_28 rfl rfl ?_
  refine r_aald (pc := 29) hs.t_hand ⟨by decide, by decide⟩ rfl (fun _ _ _ => rfl) (by omega) (by omega) (hs.q_hand (by omega) (by omega)) dX15_judge_29 ?_
  refine r_iload_n (pc := 30) dX15_judge_30 rfl rfl ?_
  refine r_iald (pc := 31) (hs.u_hand (by omega) (by omega)) (by omega) (by omega) dX15_judge_31 (fun hr31 => ?_)
  rw [hgr.hand b6.1 b6.2 k13.1 k13.2] at hr31 ⊢
  refine r_iload (pc := 32) dX15_judge_32 rfl ?_
  have hag : e.1 (60 + 13 * b + k) = n → PW G mX15_judge (rmD (d + 7) 0 0) (MZ G Q nX 0 0) 0 0 (ur I r (us ω 11 (f_why e.1 a b k))) J P T z 42 [some (.ref r), some (iv a), some (iv b), some (iv k), some (iv n)] [] := by
    intro c34
    have ew0 : ev_w e.1 a b k n = 0 := by
      unfold ev_w
      rw [if_neg (fun c => c.2 c34)]; exact h18
    have ho := why_ao hw ha hb hk h18
    refine r_aload_n (pc := 42) dX15_judge_42 rfl rfl ?_
    refine r_geti (pc := 43) (c := 15) (k := 11) (kz := 11) hTr cok_15 (Nat.le_of_ble_eq_true rfl) q1513 ⟨rfl, rfl⟩ (Or.inl rfl) rfl (fun _ _ _ => rfl) dX15_judge_43 (fun hr43 => ?_)
    rw [ur_sv, us_s] at hr43 ⊢
    refine r_if_eq (pc := 46) 58 dX15_judge_46 rfl (by omega) (fun h46 => ?_) (fun h46 => ?_)
    · refine r_aload_n (pc := 58) dX15_judge_58 rfl rfl ?_
      refine r_getr (pc := 59) (c := 15) (k := 9) (kz := 9) hTr cok_15 (Nat.le_of_ble_eq_true rfl) q1510 ⟨rfl, rfl⟩ (Or.inl rfl) rfl (fun _ _ _ => rfl) hP9 dX15_judge_59 ?_
      refine r_iload_n (pc := 62) dX15_judge_62 rfl rfl ?_
      refine r_iload_n (pc := 63) dX15_judge_63 rfl rfl ?_
      refine r_iload_n (pc := 64) dX15_judge_64 rfl rfl ?_
      refine r_iconst (pc := 65) dX15_judge_65 ?_
      refine r_callV4 (pc := 66) (C_asks (Q := ee J T z (some (iv (f_gives e.1 b k 0))) (fun I' P' => P' = P ∧ GF g (ur I r (us ω 11 (f_why e.1 a b k))) I' ∧ GR I' g t (f_asks e.1 a b k 0).1 (f_tell a b k (f_gives e.1 b k 0) (f_asks e.1 a b k 0).2.1 (f_asks e.1 a b k 0).2.2 (f_lie e.1 b k 0) (f_sure e.1 b k)))) hs GF.rf hgr hw ho (by omega) (fun I' a b => ee_i ⟨rfl, a, b⟩)) im_X3_asks q1272 q1573 hgo rfl dX15_judge_66 (Nat.le_of_ble_eq_true rfl) (Nat.le_of_ble_eq_true rfl) rfl (k_e fun I3 P3 h3 => ?_) (fun _ _ _ _ _ _ _ hx => no_x hx)
      obtain ⟨rfl, hf, hr3⟩ := h3
      have hwf := hw.asks (l := 0) ho
      have hI3 : I3 r = us ω 11 (f_why e.1 a b k) := by rw [hf r (by omega), ur_s]
      show PW G mX15_judge (rmD (d + 7) 0 0) (MZ G Q nX 0 0) 0 0 I3 J P3 T z 69 [some (.ref r), some (iv a), some (iv b), some (iv k), some (iv n)] [iv (f_gives e.1 b k 0)]
      refine r_pop (pc := 69) dX15_judge_69 rfl ?_
      refine r_aload_n (pc := 70) dX15_judge_70 rfl rfl ?_
      refine r_dup (pc := 71) dX15_judge_71 rfl ?_
      refine r_geti (pc := 72) (c := 15) (k := 10) (kz := 10) hTr cok_15 (Nat.le_of_ble_eq_true rfl) q1511 ⟨rfl, rfl⟩ (Or.inl rfl) rfl (fun _ _ _ => rfl) dX15_judge_72 (fun hr72 => ?_)
      rw [hI3, us_n (by omega), h10] at hr72 ⊢
      refine r_iconst (pc := 75) dX15_judge_75 ?_
      refine r_iadd (pc := 76) dX15_judge_76 ?_
      refine r_puti (pc := 77) (c := 15) (k := 10) (kz := 10) hTr cok_15 (Nat.le_of_ble_eq_true rfl) q1511 ⟨rfl, rfl⟩ (Or.inl rfl) rfl (by omega) rfl rfl (by omega) (fun _ _ _ => rfl) ⟨rfl, rfl⟩ dX15_judge_77 ?_
      refine r_return (pc := 80) rfl dX15_judge_80 (Nat.le_of_ble_eq_true rfl) (Nat.le_of_ble_eq_true rfl) ?_
      refine hQ _ ⟨fun a p q => by rw [ui_nr p, hf a q, ur_n p], fun j p => by rw [ui_nj (by omega), hI3, us_n (by omega), hω]⟩ ?_
      unfold ev1
      rw [if_neg (fun c => c ew0)]
      refine ⟨⟨hTr, hbr, hrg, hrt, hrt1⟩, hP9, hs, hr3.fr (fun b q => ui_nr (by omega)), hwf, ui_sv, ?_, ?_, htg, htg1⟩
      · rw [ui_nj (by omega), hI3, us_s]; exact h18
      · rw [ui_nj (by omega), hI3, us_n (by omega)]; exact h12
    exact absurd h18 h46
  refine r_icmp_eq (pc := 34) 42 dX15_judge_34 rfl (by omega) (by omega) (fun h34 => ?_) (fun h34 => ?_)
  · exact hag h34
  refine r_aload_n (pc := 37) dX15_judge_37 rfl rfl ?_
  refine r_iconst (pc := 38) dX15_judge_38 ?_
  refine r_puti (pc := 39) (c := 15) (k := 11) (kz := 11) hTr cok_15 (Nat.le_of_ble_eq_true rfl) q1513 ⟨rfl, rfl⟩ (Or.inl rfl) rfl (by omega) rfl rfl (by omega) (fun _ _ _ => rfl) ⟨rfl, rfl⟩ dX15_judge_39 ?_
  rw [ui_ur, us_us]
  refine r_aload_n (pc := 42) dX15_judge_42 rfl rfl ?_
  refine r_geti (pc := 43) (c := 15) (k := 11) (kz := 11) hTr cok_15 (Nat.le_of_ble_eq_true rfl) q1513 ⟨rfl, rfl⟩ (Or.inl rfl) rfl (fun _ _ _ => rfl) dX15_judge_43 (fun hr43 => ?_)
  rw [ur_sv, us_s] at hr43 ⊢
  refine r_if_eq (pc := 46) 58 dX15_judge_46 rfl (by omega) (fun h46 => ?_) (fun h46 => ?_)
  · exact absurd h46 (by decide)
  refine fin1 5 (by decide) ?_
  unfold ev_w
  rw [if_pos ⟨h18, h34⟩]
end P17
