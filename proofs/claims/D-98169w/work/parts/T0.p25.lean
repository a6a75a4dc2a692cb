/-! ===== the component: what may be said of a kind ===== -/
section P25
variable {G : GE} {I J : HI} {P : HP} {T : HT} {z g t c d lo hi : Nat} {Q : QT} {σ μ : Int → Int} {k : Int} {L : List CD}
abbrev hw18 : List Cond := ws_ yX18_holds cX18_holds 3 (some FieldType.boolean)
abbrev hw19 : List Cond := ws_ yX19_holds cX19_holds 3 (some FieldType.boolean)
abbrev hw20 : List Cond := ws_ yX20_holds cX20_holds 3 (some FieldType.boolean)
abbrev hw21 : List Cond := ws_ yX21_holds cX21_holds 4 (some FieldType.boolean)
abbrev hw22 : List Cond := ws_ yX22_holds cX22_holds 3 (some FieldType.boolean)
/-- what trees of depth n answer -/
def HB (G : GE) (I J : HI) (P : HP) (T : HT) (z g lo hi : Nat) (σ : Int → Int) (k : Int) (d n : Nat) : Prop := ∀ (c : Nat) (L : List CD) (v : Int), CT I P T lo hi n c L → (v = 0 ∨ v = 1) → (∀ st, rcs σ k L st = v :: st) → ∀ Q : QT, Q (some (iv v)) I J P T z →
  (T c = (38, 0) → MC G yX18_holds hw18 d 0 0 [.ref c, .ref g, iv k] I J P T z Q nX) ∧ (T c = (39, 0) → MC G yX19_holds hw19 d 0 0 [.ref c, .ref g, iv k] I J P T z Q nX) ∧ (T c = (40, 0) → MC G yX20_holds hw20 d 0 0 [.ref c, .ref g, iv k] I J P T z Q nX) ∧ (T c = (41, 0) → MC G yX21_holds hw21 d 0 0 [.ref c, .ref g, iv k] I J P T z Q nX) ∧ (T c = (42, 0) → MC G yX22_holds hw22 d 0 0 [.ref c, .ref g, iv k] I J P T z Q nX)
theorem CT.tag {n : Nat} (h : CT I P T lo hi n c L) : T c = (38, 0) ∨ T c = (39, 0) ∨ T c = (40, 0) ∨ T c = (41, 0) ∨ T c = (42, 0) := by
  cases n with
  | zero => exact h.elim
  | succ n =>
    rcases h.2 with h | h | h | h | h
    · exact Or.inr (Or.inl h.1)
    · exact Or.inr (Or.inr (Or.inl h.1))
    · exact Or.inr (Or.inr (Or.inr (Or.inl h.1)))
    · exact Or.inl h.1
    · exact Or.inr (Or.inr (Or.inr (Or.inr h.1)))
/-- a tree is asked, whatever it is -/
theorem r_cond {M : MI} {Z : ZP} {cu su mc ms pc idx dd n : Nat} {ls : List (Option Value)} {st : List Value} (H : HB G I J P T z g lo hi σ k dd n) (hc : CT I P T lo hi n c L) (ql : Cond.methodLink M.1 idx ⟨"SevenTable$Cond", "holds", "(LSevenTable$Game;I)Z"⟩ ∈ lw_all) (d : decode M.2.1 pc = .ok (.invokevirtual idx, 3)) (h1 : cu ≤ mc) (h2 : su ≤ ms) (hw : Nat.ble ((st.map fun v => v.category).sum) 8 = true)
    (kk : ∀ v, (v = 0 ∨ v = 1) → (∀ st, rcs σ k L st = v :: st) → PW G M (rmD (dd + 1) mc ms) Z cu su I J P T z (pc + 3) ls (iv v :: st)) : PW G M (rmD (dd + 1) mc ms) Z cu su I J P T z pc ls (iv k :: .ref g :: .ref c :: st) := by
  obtain ⟨v, hv, hr⟩ := CT.v (σ := σ) (k := k) _ hc
  obtain ⟨m1, m2, m3, m4, m5⟩ := H c L v hc hv hr (fe I J P T z (some (iv v))) fe_i
  have kk := kk v hv hr
  rcases hc.tag with hT | hT | hT | hT | hT
  · exact r_callA2 (cb := 18) (x := ⟨"SevenTable$Cond", "holds", "(LSevenTable$Game;I)Z"⟩) (m1 hT) im_X18_holds rfl (by decide) q1731 q1739 q1732 ql hT d h1 h2 hw (k_fi kk) (fun _ _ _ _ _ _ _ hx => no_x hx)
  · exact r_callA2 (cb := 19) (x := ⟨"SevenTable$Cond", "holds", "(LSevenTable$Game;I)Z"⟩) (m2 hT) im_X19_holds rfl (by decide) q1731 q1736 q1732 ql hT d h1 h2 hw (k_fi kk) (fun _ _ _ _ _ _ _ hx => no_x hx)
  · exact r_callA2 (cb := 20) (x := ⟨"SevenTable$Cond", "holds", "(LSevenTable$Game;I)Z"⟩) (m3 hT) im_X20_holds rfl (by decide) q1731 q1733 q1732 ql hT d h1 h2 hw (k_fi kk) (fun _ _ _ _ _ _ _ hx => no_x hx)
  · exact r_callA2 (cb := 21) (x := ⟨"SevenTable$Cond", "holds", "(LSevenTable$Game;I)Z"⟩) (m4 hT) im_X21_holds rfl (by decide) q1731 q1753 q1732 ql hT d h1 h2 hw (k_fi kk) (fun _ _ _ _ _ _ _ hx => no_x hx)
  · exact r_callA2 (cb := 22) (x := ⟨"SevenTable$Cond", "holds", "(LSevenTable$Game;I)Z"⟩) (m5 hT) im_X22_holds rfl (by decide) q1731 q1754 q1732 ql hT d h1 h2 hw (k_fi kk) (fun _ _ _ _ _ _ _ hx => no_x hx)
theorem C_hold19 (hs : shG G P T g t) (hr : GR I g t σ μ) (hw : WF σ) (hk : 0 ≤ k ∧ k < 13) (hQ : Q (some (iv (lfv σ k (0, 0, 0)))) I J P T z) : MC G yX19_holds (ws_ yX19_holds cX19_holds 3 (some FieldType.boolean)) (d) 0 0 [.ref c, .ref g, iv k] I J P T z Q nX := by
  have hb := hs.b
  have h9 := hw.cv.bk hk.1 hk.2
  have ht := hw.cv.ta
  have e : lfv σ k (0, 0, 0) = bz (0 < σ (138 + k)) := if_pos rfl
  rw [e] at hQ
  refine MC.of (by decide) (Nat.le_of_ble_eq_true rfl) ?_
  show PW G mX19_holds (rmD (d) 0 0) (MZ G Q nX 0 0) 0 0 I J P T z 0 [some (.ref c), some (.ref g), some (iv k)] []
  refine r_aload_n (pc := 0) dX19_holds_0 rfl rfl ?_
  refine r_getrN (pc := 1) (c := 3) (k := 9) (kz := 9) hs.o cok_3 (Nat.le_of_ble_eq_true rfl) q292 ⟨rfl, rfl⟩ (Or.inl rfl) rfl (fun _ _ _ => rfl) hs.p_book dX19_holds_1 ?_
  refine r_iload_n (pc := 4) dX19_holds_4 rfl rfl ?_
  refine r_iald (pc := 5) hs.t_book (by omega) (by omega) dX19_holds_5 (fun hr5 => ?_)
  rw [hr.book hk.1 hk.2] at hr5 ⊢
  refine r_iconst (pc := 6) dX19_holds_6 ?_
  refine r_icmp_eq (pc := 7) 14 dX19_holds_7 rfl (by omega) (by omega) (fun h7 => ?_) (fun h7 => ?_)
  · rw [bz_f (by omega)] at hQ
    refine r_iconst (pc := 14) dX19_holds_14 ?_
    refine r_ireturn (pc := 15) rfl (nb_z (by omega)) dX19_holds_15 (Nat.le_of_ble_eq_true rfl) (Nat.le_of_ble_eq_true rfl) ?_
    exact hQ
  rw [bz_t (by omega)] at hQ
  refine r_iconst (pc := 10) dX19_holds_10 ?_
  refine r_goto (pc := 11) 15 dX19_holds_11 rfl ?_
  refine r_ireturn (pc := 15) rfl (nb_z (by omega)) dX19_holds_15 (Nat.le_of_ble_eq_true rfl) (Nat.le_of_ble_eq_true rfl) ?_
  exact hQ
theorem C_hold20 (hs : shG G P T g t) (hr : GR I g t σ μ) (hw : WF σ) (hk : 0 ≤ k ∧ k < 13) (hT : T c = (40, 0)) {p a : Int} (hp : 0 ≤ p ∧ p < 6) (ha : a = 0 ∨ a = 1) (h0 : I c 0 = p) (h1 : I c 1 = a) (hQ : Q (some (iv (lfv σ k (2 - a, 0, p)))) I J P T z) : MC G yX20_holds (ws_ yX20_holds cX20_holds 3 (some FieldType.boolean)) (d) 0 0 [.ref c, .ref g, iv k] I J P T z Q nX := by
  have hb := hs.b
  have h4 := hw.cv.h4 hp.1 hp.2 hk.1 hk.2
  have hkn := hw.cv.kn hp.1 hp.2 hk.1 hk.2
  refine MC.of (by decide) (Nat.le_of_ble_eq_true rfl) ?_
  show PW G mX20_holds (rmD (d) 0 0) (MZ G Q nX 0 0) 0 0 I J P T z 0 [some (.ref c), some (.ref g), some (iv k)] []
  refine r_aload_n (pc := 0) dX20_holds_0 rfl rfl ?_
  refine r_geti (pc := 1) (c := 20) (k := 1) (kz := 1) hT cok_20 (Nat.le_of_ble_eq_true rfl) q1679 ⟨rfl, rfl⟩ (Or.inl rfl) rfl (fun _ _ _ => rfl) dX20_holds_1 (fun hr1 => ?_)
  rw [h1] at hr1 ⊢
  refine r_if_eq (pc := 4) 14 dX20_holds_4 rfl (by omega) (fun h4 => ?_) (fun h4 => ?_)
  · have e : lfv σ k (2 - a, 0, p) = bz (0 < σ (60 + 13 * p + k)) := by
      unfold lfv
      dsimp only
      rw [if_neg (by omega), if_neg (by omega), if_pos (by omega)]
    rw [e] at hQ
    refine r_aload_n (pc := 14) dX20_holds_14 rfl rfl ?_
    refine r_getrN (pc := 15) (c := 3) (k := 1) (kz := 1) hs.o cok_3 (Nat.le_of_ble_eq_true rfl) q267 ⟨rfl, rfl⟩ (Or.inl rfl) rfl (fun _ _ _ => rfl) hs.p_hand dX20_holds_15 ?_
    refine r_aload_n (pc := 18) dX20_holds_18 rfl rfl ?_
    refine r_geti (pc := 19) (c := 20) (k := 0) (kz := 0) hT cok_20 (Nat.le_of_ble_eq_true rfl) q1678 ⟨rfl, rfl⟩ (Or.inl rfl) rfl (fun _ _ _ => rfl) dX20_holds_19 (fun hr19 => ?_)
    rw [h0] at hr19 ⊢
    refine r_aald (pc := 22) hs.t_hand ⟨by decide, by decide⟩ rfl (fun _ _ _ => rfl) (by omega) (by omega) (hs.q_hand (by omega) (by omega)) dX20_holds_22 ?_
    refine r_iload_n (pc := 23) dX20_holds_23 rfl rfl ?_
    refine r_iald (pc := 24) (hs.u_hand (by omega) (by omega)) (by omega) (by omega) dX20_holds_24 (fun hr24 => ?_)
    rw [hr.hand hp.1 hp.2 hk.1 hk.2] at hr24 ⊢
    refine r_if_le (pc := 25) 32 dX20_holds_25 rfl (by omega) (fun h25 => ?_) (fun h25 => ?_)
    · rw [bz_f (by omega)] at hQ
      refine r_iconst (pc := 32) dX20_holds_32 ?_
      refine r_ireturn (pc := 33) rfl (nb_z (by omega)) dX20_holds_33 (Nat.le_of_ble_eq_true rfl) (Nat.le_of_ble_eq_true rfl) ?_
      exact hQ
    rw [bz_t (by omega)] at hQ
    refine r_iconst (pc := 28) dX20_holds_28 ?_
    refine r_goto (pc := 29) 33 dX20_holds_29 rfl ?_
    refine r_ireturn (pc := 33) rfl (nb_z (by omega)) dX20_holds_33 (Nat.le_of_ble_eq_true rfl) (Nat.le_of_ble_eq_true rfl) ?_
    exact hQ
  have e : lfv σ k (2 - a, 0, p) = bz (0 < σ (151 + 13 * p + k)) := by
    unfold lfv
    dsimp only
    rw [if_neg (by omega), if_pos (by omega)]
  rw [e] at hQ
  refine r_aload_n (pc := 7) dX20_holds_7 rfl rfl ?_
  refine r_getrN (pc := 8) (c := 3) (k := 2) (kz := 2) hs.o cok_3 (Nat.le_of_ble_eq_true rfl) q275 ⟨rfl, rfl⟩ (Or.inl rfl) rfl (fun _ _ _ => rfl) hs.p_known dX20_holds_8 ?_
  refine r_goto (pc := 11) 18 dX20_holds_11 rfl ?_
  refine r_aload_n (pc := 18) dX20_holds_18 rfl rfl ?_
  refine r_geti (pc := 19) (c := 20) (k := 0) (kz := 0) hT cok_20 (Nat.le_of_ble_eq_true rfl) q1678 ⟨rfl, rfl⟩ (Or.inl rfl) rfl (fun _ _ _ => rfl) dX20_holds_19 (fun hr19 => ?_)
  rw [h0] at hr19 ⊢
  refine r_aald (pc := 22) hs.t_known ⟨by decide, by decide⟩ rfl (fun _ _ _ => rfl) (by omega) (by omega) (hs.q_known (by omega) (by omega)) dX20_holds_22 ?_
  refine r_iload_n (pc := 23) dX20_holds_23 rfl rfl ?_
  refine r_iald (pc := 24) (hs.u_known (by omega) (by omega)) (by omega) (by omega) dX20_holds_24 (fun hr24 => ?_)
  rw [hr.known hp.1 hp.2 hk.1 hk.2] at hr24 ⊢
  refine r_if_le (pc := 25) 32 dX20_holds_25 rfl (by omega) (fun h25 => ?_) (fun h25 => ?_)
  · rw [bz_f (by omega)] at hQ
    refine r_iconst (pc := 32) dX20_holds_32 ?_
    refine r_ireturn (pc := 33) rfl (nb_z (by omega)) dX20_holds_33 (Nat.le_of_ble_eq_true rfl) (Nat.le_of_ble_eq_true rfl) ?_
    exact hQ
  rw [bz_t (by omega)] at hQ
  refine r_iconst (pc := 28) dX20_holds_28 ?_
  refine r_goto (pc := 29) 33 dX20_holds_29 rfl ?_
  refine r_ireturn (pc := 33) rfl (nb_z (by omega)) dX20_holds_33 (Nat.le_of_ble_eq_true rfl) (Nat.le_of_ble_eq_true rfl) ?_
  exact hQ
theorem C_value (hs : shG G P T g t) (hr : GR I g t σ μ) (hw : WF σ) (hk : 0 ≤ k ∧ k < 13) (hT : T c = (41, 0)) {w : Int} (hw3 : 0 ≤ w ∧ w ≤ 3) (h0 : I c 0 = w) (hQ : Q (some (iv (vl σ k (3 + w)))) I J P T z) : MC G yX21_value (ws_ yX21_value cX21_value 5 (some FieldType.int)) (d + 1) 0 0 [.ref c, .ref g, iv k] I J P T z Q nX := by
  have hb := hs.b
  have hp := hr.hp
  have h7 := hw.cv.hp.1
  have h4 : ∀ q : Int, 0 ≤ q → q < 6 → 0 ≤ σ (60 + 13 * q + k) ∧ σ (60 + 13 * q + k) ≤ 4 := fun q a b => hw.cv.h4 a b hk.1 hk.2
  refine MC.of (by decide) (Nat.le_of_ble_eq_true rfl) ?_
  show PW G mX21_value (rmD (d + 1) 0 0) (MZ G Q nX 0 0) 0 0 I J P T z 0 [some (.ref c), some (.ref g), some (iv k), none, none] []
  -- behind the heap
  have tail : ∀ (v : Int) (l4 : Option Value), (w = 1 → v = ct σ k) → (w ≠ 1 → v = 0) → 0 ≤ v → v ≤ 52 → PW G mX21_value (rmD (d + 1) 0 0) (MZ G Q nX 0 0) 0 0 I J P T z 45 [some (.ref c), some (.ref g), some (iv k), some (iv v), l4] [] := by
    intro v l4 hv1 hv0 v0 v1
    have loop : ∀ (m : Nat) (q v : Int), 0 ≤ q → q + m = 6 → (w = 0 → v = sm (fun q => σ (60 + 13 * q + k)) q.toNat) → (w = 2 → v = mx σ k q.toNat) → (w = 1 → v = ct σ k) → 0 ≤ v → v ≤ 52 + 4 * q → PW G mX21_value (rmD (d + 1) 0 0) (MZ G Q nX 0 0) 0 0 I J P T z 48 [some (.ref c), some (.ref g), some (iv k), some (iv v), some (iv q)] [] := by
      intro m
      induction m with
      | zero =>
        intro q v q0 q1 e0 e2 e1 v0 v1
        obtain rfl : q = 6 := by omega
        refine r_iload (pc := 48) dX21_value_48 rfl ?_
        refine r_bipush (pc := 50) dX21_value_50 (by decide +kernel) ?_
        refine r_icmp_ge (pc := 52) 108 dX21_value_52 rfl (by omega) (by omega) (fun h52 => ?_) (fun h52 => ?_)
        · refine r_aload_n (pc := 108) dX21_value_108 rfl rfl ?_
          refine r_geti (pc := 109) (c := 21) (k := 0) (kz := 0) hT cok_21 (Nat.le_of_ble_eq_true rfl) q1698 ⟨rfl, rfl⟩ (Or.inl rfl) rfl (fun _ _ _ => rfl) dX21_value_109 (fun hr109 => ?_)
          rw [h0] at hr109 ⊢
          refine r_iconst (pc := 112) dX21_value_112 ?_
          refine r_icmp_ne (pc := 113) 120 dX21_value_113 rfl (by omega) (by omega) (fun h113 => ?_) (fun h113 => ?_)
          · have e : vl σ k (3 + w) = v := by
              unfold vl
              rcases (show w = 0 ∨ w = 1 ∨ w = 2 by omega) with rfl | rfl | rfl
              · rw [if_pos (by decide)]; exact (e0 rfl).symm
              · rw [if_neg (by decide), if_pos (by decide)]; exact (e1 rfl).symm
              · rw [if_neg (by decide), if_neg (by decide), if_pos (by decide)]; exact (e2 rfl).symm
            rw [e] at hQ
            refine r_iload_n (pc := 120) dX21_value_120 rfl rfl ?_
            refine r_ireturn (pc := 121) rfl rfl dX21_value_121 (Nat.le_of_ble_eq_true rfl) (Nat.le_of_ble_eq_true rfl) ?_
            exact hQ
          have e : vl σ k (3 + w) = k := by
            unfold vl
            rw [if_neg (by omega), if_neg (by omega), if_neg (by omega)]
          rw [e] at hQ
          refine r_iload_n (pc := 116) dX21_value_116 rfl rfl ?_
          refine r_goto (pc := 117) 121 dX21_value_117 rfl ?_
          refine r_ireturn (pc := 121) rfl rfl dX21_value_121 (Nat.le_of_ble_eq_true rfl) (Nat.le_of_ble_eq_true rfl) ?_
          exact hQ
        omega
      | succ m ih =>
        intro q v q0 q1 e0 e2 e1 v0 v1
        have hq := h4 q q0 (by omega)
        obtain ⟨n, rfl⟩ : ∃ n : Nat, q = n := ⟨q.toNat, by omega⟩
        have tn : ((n : Int) + 1).toNat = n + 1 := by omega
        have t0 : ((n : Nat) : Int).toNat = n := by omega
        rw [t0] at e0 e2
        refine r_iload (pc := 48) dX21_value_48 rfl ?_
        refine r_bipush (pc := 50) dX21_value_50 (by decide +kernel) ?_
        refine r_icmp_ge (pc := 52) 108 dX21_value_52 rfl (by omega) (by omega) (fun h52 => ?_) (fun h52 => ?_)
        · omega
        refine r_aload_n (pc := 55) dX21_value_55 rfl rfl ?_
        refine r_geti (pc := 56) (c := 21) (k := 0) (kz := 0) hT cok_21 (Nat.le_of_ble_eq_true rfl) q1698 ⟨rfl, rfl⟩ (Or.inl rfl) rfl (fun _ _ _ => rfl) dX21_value_56 (fun hr56 => ?_)
        rw [h0] at hr56 ⊢
        refine r_if_ne (pc := 59) 76 dX21_value_59 rfl (by omega) (fun h59 => ?_) (fun h59 => ?_)
        · refine r_aload_n (pc := 76) dX21_value_76 rfl rfl ?_
          refine r_geti (pc := 77) (c := 21) (k := 0) (kz := 0) hT cok_21 (Nat.le_of_ble_eq_true rfl) q1698 ⟨rfl, rfl⟩ (Or.inl rfl) rfl (fun _ _ _ => rfl) dX21_value_77 (fun hr77 => ?_)
          rw [h0] at hr77 ⊢
          refine r_iconst (pc := 80) dX21_value_80 ?_
          refine r_icmp_ne (pc := 81) 100 dX21_value_81 rfl (by omega) (by omega) (fun h81 => ?_) (fun h81 => ?_)
          · refine r_iload_n (pc := 100) dX21_value_100 rfl rfl ?_
            refine r_istore_n3 (pc := 101) (Nat.le_of_ble_eq_true rfl) dX21_value_101 rfl ?_
            refine r_iinc4 (pc := 102) (Nat.le_of_ble_eq_true rfl) dX21_value_102 rfl ?_
            refine r_goto (pc := 105) 48 dX21_value_105 rfl ?_
            exact ih ((n : Int) + 1) v (by omega) (by omega) (fun c => by omega) (fun c => by omega) e1 v0 (by omega)
          refine r_iload_n (pc := 84) dX21_value_84 rfl rfl ?_
          refine r_aload_n (pc := 85) dX21_value_85 rfl rfl ?_
          refine r_getrN (pc := 86) (c := 3) (k := 1) (kz := 1) hs.o cok_3 (Nat.le_of_ble_eq_true rfl) q269 ⟨rfl, rfl⟩ (Or.inl rfl) rfl (fun _ _ _ => rfl) hs.p_hand dX21_value_86 ?_
          refine r_iload (pc := 89) dX21_value_89 rfl ?_
          refine r_aald (pc := 91) hs.t_hand ⟨by decide, by decide⟩ rfl (fun _ _ _ => rfl) (by omega) (by omega) (hs.q_hand (by omega) (by omega)) dX21_value_91 ?_
          refine r_iload_n (pc := 92) dX21_value_92 rfl rfl ?_
          refine r_iald (pc := 93) (hs.u_hand (by omega) (by omega)) (by omega) (by omega) dX21_value_93 (fun hr93 => ?_)
          rw [hr.hand q0 (by omega) hk.1 hk.2] at hr93 ⊢
          refine r_mmax (pc := 94) q1749 dX21_value_94 (by omega) (by omega) (Nat.le_of_ble_eq_true rfl) (Nat.le_of_ble_eq_true rfl) rfl ?_
          refine r_goto (pc := 97) 101 dX21_value_97 rfl ?_
          refine r_istore_n3 (pc := 101) (Nat.le_of_ble_eq_true rfl) dX21_value_101 rfl ?_
          refine r_iinc4 (pc := 102) (Nat.le_of_ble_eq_true rfl) dX21_value_102 rfl ?_
          refine r_goto (pc := 105) 48 dX21_value_105 rfl ?_
          have em : (if v < σ (60 + 13 * (n : Int) + k) then σ (60 + 13 * (n : Int) + k) else v) = mx σ k (n + 1) := by
            rw [e2 h81]
            rfl
          refine ih ((n : Int) + 1) (if v < σ (60 + 13 * (n : Int) + k) then σ (60 + 13 * (n : Int) + k) else v) (by omega) (by omega) (fun c => by omega) (fun _ => ?_) (fun c => by omega) (by split <;> omega) (by split <;> omega)
          rw [tn, ← em]
        refine r_iload_n (pc := 62) dX21_value_62 rfl rfl ?_
        refine r_aload_n (pc := 63) dX21_value_63 rfl rfl ?_
        refine r_getrN (pc := 64) (c := 3) (k := 1) (kz := 1) hs.o cok_3 (Nat.le_of_ble_eq_true rfl) q269 ⟨rfl, rfl⟩ (Or.inl rfl) rfl (fun _ _ _ => rfl) hs.p_hand dX21_value_64 ?_
        refine r_iload (pc := 67) dX21_value_67 rfl ?_
        refine r_aald (pc := 69) hs.t_hand ⟨by decide, by decide⟩ rfl (fun _ _ _ => rfl) (by omega) (by omega) (hs.q_hand (by omega) (by omega)) dX21_value_69 ?_
        refine r_iload_n (pc := 70) dX21_value_70 rfl rfl ?_
        refine r_iald (pc := 71) (hs.u_hand (by omega) (by omega)) (by omega) (by omega) dX21_value_71 (fun hr71 => ?_)
        rw [hr.hand q0 (by omega) hk.1 hk.2] at hr71 ⊢
        refine r_iadd (pc := 72) dX21_value_72 ?_
        refine r_goto (pc := 73) 101 dX21_value_73 rfl ?_
        refine r_istore_n3 (pc := 101) (Nat.le_of_ble_eq_true rfl) dX21_value_101 rfl ?_
        refine r_iinc4 (pc := 102) (Nat.le_of_ble_eq_true rfl) dX21_value_102 rfl ?_
        refine r_goto (pc := 105) 48 dX21_value_105 rfl ?_
        refine ih ((n : Int) + 1) (v + σ (60 + 13 * (n : Int) + k)) (by omega) (by omega) (fun _ => ?_) (fun c => by omega) (fun c => by omega) (by omega) (by omega)
        rw [tn, e0 h59]
        rfl
    refine r_iconst (pc := 45) dX21_value_45 ?_
    refine r_istore4 (pc := 46) (Nat.le_of_ble_eq_true rfl) dX21_value_46 rfl ?_
    exact loop 6 0 v (by omega) (by omega) (fun c => hv0 (by omega)) (fun c => hv0 (by omega)) hv1 v0 (by omega)
  refine r_iconst (pc := 0) dX21_value_0 ?_
  refine r_istore_n3 (pc := 1) (Nat.le_of_ble_eq_true rfl) dX21_value_1 rfl ?_
  refine r_aload_n (pc := 2) dX21_value_2 rfl rfl ?_
  refine r_geti (pc := 3) (c := 21) (k := 0) (kz := 0) hT cok_21 (Nat.le_of_ble_eq_true rfl) q1698 ⟨rfl, rfl⟩ (Or.inl rfl) rfl (fun _ _ _ => rfl) dX21_value_3 (fun hr3 => ?_)
  rw [h0] at hr3 ⊢
  refine r_iconst (pc := 6) dX21_value_6 ?_
  refine r_icmp_ne (pc := 7) 45 dX21_value_7 rfl (by omega) (by omega) (fun h7 => ?_) (fun h7 => ?_)
  · exact tail 0 _ (fun c => absurd c h7) (fun _ => rfl) (by omega) (by omega)
  have loop : ∀ (m : Nat) (i : Int), 0 ≤ i → i + m = σ 7 → PW G mX21_value (rmD (d + 1) 0 0) (MZ G Q nX 0 0) 0 0 I J P T z 16 [some (.ref c), some (.ref g), some (iv k), some (iv (sm (fun i => bz (σ (8 + i) = k)) i.toNat)), some (iv (I g 12 + i))] [] := by
    intro m
    induction m with
    | zero =>
      intro i i0 i1
      have sr := sm_bz (f := fun i => σ (8 + i) = k) i.toNat
      refine r_iload (pc := 16) dX21_value_16 rfl ?_
      refine r_aload_n (pc := 18) dX21_value_18 rfl rfl ?_
      refine r_getiN (pc := 19) (c := 3) (k := 13) (kz := 13) hs.o cok_3 (Nat.le_of_ble_eq_true rfl) q303 ⟨rfl, rfl⟩ (Or.inl rfl) rfl (fun _ _ _ => rfl) dX21_value_19 (fun hr19 => ?_)
      refine r_icmp_ge (pc := 22) 45 dX21_value_22 rfl (by omega) (by omega) (fun h22 => ?_) (fun h22 => ?_)
      · exact tail _ _ (fun _ => by unfold ct; congr 1; omega) (fun c => absurd (by omega) c) sr.1 (by omega)
      omega
    | succ m ih =>
      intro i i0 i1
      have sr := sm_bz (f := fun i => σ (8 + i) = k) i.toNat
      have sx := sm_succ (f := fun i => bz (σ (8 + i) = k)) i0
      have hv := hw.cv.hp.2 i i0 (by omega)
      refine r_iload (pc := 16) dX21_value_16 rfl ?_
      refine r_aload_n (pc := 18) dX21_value_18 rfl rfl ?_
      refine r_getiN (pc := 19) (c := 3) (k := 13) (kz := 13) hs.o cok_3 (Nat.le_of_ble_eq_true rfl) q303 ⟨rfl, rfl⟩ (Or.inl rfl) rfl (fun _ _ _ => rfl) dX21_value_19 (fun hr19 => ?_)
      refine r_icmp_ge (pc := 22) 45 dX21_value_22 rfl (by omega) (by omega) (fun h22 => ?_) (fun h22 => ?_)
      · omega
      refine r_aload_n (pc := 25) dX21_value_25 rfl rfl ?_
      refine r_getrN (pc := 26) (c := 3) (k := 10) (kz := 10) hs.o cok_3 (Nat.le_of_ble_eq_true rfl) q295 ⟨rfl, rfl⟩ (Or.inl rfl) rfl (fun _ _ _ => rfl) hs.p_heap dX21_value_26 ?_
      refine r_iload (pc := 29) dX21_value_29 rfl ?_
      refine r_iald (pc := 31) hs.t_heap (by omega) (by omega) dX21_value_31 (fun hr31 => ?_)
      rw [hr.heap i0 (by omega)] at hr31 ⊢
      refine r_iload_n (pc := 32) dX21_value_32 rfl rfl ?_
      have nx := ih (i + 1) (by omega) (by omega)
      rw [← sx, show I g 12 + (i + 1) = I g 12 + i + 1 by omega] at nx
      refine r_icmp_ne (pc := 33) 39 dX21_value_33 rfl (by omega) (by omega) (fun h33 => ?_) (fun h33 => ?_)
      · rw [bz_f h33, Int.add_zero] at nx
        refine r_iinc4 (pc := 39) (Nat.le_of_ble_eq_true rfl) dX21_value_39 rfl ?_
        refine r_goto (pc := 42) 16 dX21_value_42 rfl ?_
        exact nx
      rw [bz_t h33] at nx
      refine r_iinc3 (pc := 36) (Nat.le_of_ble_eq_true rfl) dX21_value_36 rfl ?_
      refine r_iinc4 (pc := 39) (Nat.le_of_ble_eq_true rfl) dX21_value_39 rfl ?_
      refine r_goto (pc := 42) 16 dX21_value_42 rfl ?_
      exact nx
  refine r_aload_n (pc := 10) dX21_value_10 rfl rfl ?_
  refine r_getiN (pc := 11) (c := 3) (k := 12) (kz := 12) hs.o cok_3 (Nat.le_of_ble_eq_true rfl) q300 ⟨rfl, rfl⟩ (Or.inl rfl) rfl (fun _ _ _ => rfl) dX21_value_11 (fun hr11 => ?_)
  refine r_istore4 (pc := 14) (Nat.le_of_ble_eq_true rfl) dX21_value_14 rfl ?_
  have l9 := loop (σ 7).toNat 0 (by omega) (by omega)
  rw [Int.add_zero] at l9
  exact l9
theorem C_hold21 (hs : shG G P T g t) (hr : GR I g t σ μ) (hw : WF σ) (hk : 0 ≤ k ∧ k < 13) (hT : T c = (41, 0)) {w sg m : Int} (hw3 : 0 ≤ w ∧ w ≤ 3) (hsg : 60 ≤ sg ∧ sg ≤ 62) (hm : 0 ≤ m ∧ m ≤ 999) (h0 : I c 0 = w) (h1 : I c 1 = sg) (h2 : I c 2 = m) (hQ : Q (some (iv (lfv σ k (3 + w, sg, m)))) I J P T z) : MC G yX21_holds (ws_ yX21_holds cX21_holds 4 (some FieldType.boolean)) (d + 2) 0 0 [.ref c, .ref g, iv k] I J P T z Q nX := by
  have hb := hs.b
  have e : lfv σ k (3 + w, sg, m) = cmv sg (vl σ k (3 + w)) m := by
    unfold lfv
    dsimp only
    rw [if_neg (by omega), if_neg (by omega), if_neg (by omega)]
  rw [e] at hQ
  refine MC.of (by decide) (Nat.le_of_ble_eq_true rfl) ?_
  show PW G mX21_holds (rmD (d + 2) 0 0) (MZ G Q nX 0 0) 0 0 I J P T z 0 [some (.ref c), some (.ref g), some (iv k), none] []
  refine r_aload_n (pc := 0) dX21_holds_0 rfl rfl ?_
  refine r_aload_n (pc := 1) dX21_holds_1 rfl rfl ?_
  refine r_iload_n (pc := 2) dX21_holds_2 rfl rfl ?_
  refine r_callV2 (pc := 3) (C_value hs hr hw hk hT hw3 h0 fe_i) im_X21_value qs54 q1745 hT rfl dX21_holds_3 (Nat.le_of_ble_eq_true rfl) (Nat.le_of_ble_eq_true rfl) rfl (k_fi ?_) (fun _ _ _ _ _ _ _ hx => no_x hx)
  have vr := vl_r (w := 3 + w) hw hk
  generalize vl σ k (3 + w) = v at *
  refine r_istore_n3 (pc := 6) (Nat.le_of_ble_eq_true rfl) dX21_holds_6 rfl ?_
  refine r_aload_n (pc := 7) dX21_holds_7 rfl rfl ?_
  refine r_geti (pc := 8) (c := 21) (k := 1) (kz := 1) hT cok_21 (Nat.le_of_ble_eq_true rfl) q1699 ⟨rfl, rfl⟩ (Or.inl rfl) rfl (fun _ _ _ => rfl) dX21_holds_8 (fun hr8 => ?_)
  rw [h1] at hr8 ⊢
  refine r_bipush (pc := 11) dX21_holds_11 (by decide +kernel) ?_
  refine r_icmp_ne (pc := 13) 32 dX21_holds_13 rfl (by omega) (by omega) (fun h13 => ?_) (fun h13 => ?_)
  · refine r_aload_n (pc := 32) dX21_holds_32 rfl rfl ?_
    refine r_geti (pc := 33) (c := 21) (k := 1) (kz := 1) hT cok_21 (Nat.le_of_ble_eq_true rfl) q1699 ⟨rfl, rfl⟩ (Or.inl rfl) rfl (fun _ _ _ => rfl) dX21_holds_33 (fun hr33 => ?_)
    rw [h1] at hr33 ⊢
    refine r_bipush (pc := 36) dX21_holds_36 (by decide +kernel) ?_
    refine r_icmp_ne (pc := 38) 57 dX21_holds_38 rfl (by omega) (by omega) (fun h38 => ?_) (fun h38 => ?_)
    · have ec : cmv sg v m = bz (m < v) := by unfold cmv; rw [if_neg h13, if_neg h38]
      rw [ec] at hQ
      refine r_iload_n (pc := 57) dX21_holds_57 rfl rfl ?_
      refine r_aload_n (pc := 58) dX21_holds_58 rfl rfl ?_
      refine r_geti (pc := 59) (c := 21) (k := 2) (kz := 2) hT cok_21 (Nat.le_of_ble_eq_true rfl) q1700 ⟨rfl, rfl⟩ (Or.inl rfl) rfl (fun _ _ _ => rfl) dX21_holds_59 (fun hr59 => ?_)
      rw [h2] at hr59 ⊢
      refine r_icmp_le (pc := 62) 69 dX21_holds_62 rfl (by omega) (by omega) (fun h62 => ?_) (fun h62 => ?_)
      · rw [bz_f (by omega)] at hQ
        refine r_iconst (pc := 69) dX21_holds_69 ?_
        refine r_ireturn (pc := 70) rfl (nb_z (by omega)) dX21_holds_70 (Nat.le_of_ble_eq_true rfl) (Nat.le_of_ble_eq_true rfl) ?_
        exact hQ
      rw [bz_t (by omega)] at hQ
      refine r_iconst (pc := 65) dX21_holds_65 ?_
      refine r_goto (pc := 66) 70 dX21_holds_66 rfl ?_
      refine r_ireturn (pc := 70) rfl (nb_z (by omega)) dX21_holds_70 (Nat.le_of_ble_eq_true rfl) (Nat.le_of_ble_eq_true rfl) ?_
      exact hQ
    have ec : cmv sg v m = bz (v = m) := by unfold cmv; rw [if_neg h13, if_pos h38]
    rw [ec] at hQ
    refine r_iload_n (pc := 41) dX21_holds_41 rfl rfl ?_
    refine r_aload_n (pc := 42) dX21_holds_42 rfl rfl ?_
    refine r_geti (pc := 43) (c := 21) (k := 2) (kz := 2) hT cok_21 (Nat.le_of_ble_eq_true rfl) q1700 ⟨rfl, rfl⟩ (Or.inl rfl) rfl (fun _ _ _ => rfl) dX21_holds_43 (fun hr43 => ?_)
    rw [h2] at hr43 ⊢
    refine r_icmp_ne (pc := 46) 53 dX21_holds_46 rfl (by omega) (by omega) (fun h46 => ?_) (fun h46 => ?_)
    · rw [bz_f (by omega)] at hQ
      refine r_iconst (pc := 53) dX21_holds_53 ?_
      refine r_goto (pc := 54) 70 dX21_holds_54 rfl ?_
      refine r_ireturn (pc := 70) rfl (nb_z (by omega)) dX21_holds_70 (Nat.le_of_ble_eq_true rfl) (Nat.le_of_ble_eq_true rfl) ?_
      exact hQ
    rw [bz_t (by omega)] at hQ
    refine r_iconst (pc := 49) dX21_holds_49 ?_
    refine r_goto (pc := 50) 70 dX21_holds_50 rfl ?_
    refine r_ireturn (pc := 70) rfl (nb_z (by omega)) dX21_holds_70 (Nat.le_of_ble_eq_true rfl) (Nat.le_of_ble_eq_true rfl) ?_
    exact hQ
  have ec : cmv sg v m = bz (v < m) := by unfold cmv; rw [if_pos h13]
  rw [ec] at hQ
  refine r_iload_n (pc := 16) dX21_holds_16 rfl rfl ?_
  refine r_aload_n (pc := 17) dX21_holds_17 rfl rfl ?_
  refine r_geti (pc := 18) (c := 21) (k := 2) (kz := 2) hT cok_21 (Nat.le_of_ble_eq_true rfl) q1700 ⟨rfl, rfl⟩ (Or.inl rfl) rfl (fun _ _ _ => rfl) dX21_holds_18 (fun hr18 => ?_)
  rw [h2] at hr18 ⊢
  refine r_icmp_ge (pc := 21) 28 dX21_holds_21 rfl (by omega) (by omega) (fun h21 => ?_) (fun h21 => ?_)
  · rw [bz_f (by omega)] at hQ
    refine r_iconst (pc := 28) dX21_holds_28 ?_
    refine r_goto (pc := 29) 70 dX21_holds_29 rfl ?_
    refine r_ireturn (pc := 70) rfl (nb_z (by omega)) dX21_holds_70 (Nat.le_of_ble_eq_true rfl) (Nat.le_of_ble_eq_true rfl) ?_
    exact hQ
  rw [bz_t (by omega)] at hQ
  refine r_iconst (pc := 24) dX21_holds_24 ?_
  refine r_goto (pc := 25) 70 dX21_holds_25 rfl ?_
  refine r_ireturn (pc := 70) rfl (nb_z (by omega)) dX21_holds_70 (Nat.le_of_ble_eq_true rfl) (Nat.le_of_ble_eq_true rfl) ?_
  exact hQ
theorem C_hold18 {n dd : Nat} {c' : Nat} {L' : List CD} (H : HB G I J P T z g lo hi σ k dd n) (hT : T c = (38, 0)) (hP : P c 0 = some c') (hc : CT I P T lo hi n c' L') (hQ : ∀ v, (v = 0 ∨ v = 1) → (∀ st, rcs σ k (L' ++ [(10, 0, 0)]) st = v :: st) → Q (some (iv v)) I J P T z) : MC G yX18_holds (ws_ yX18_holds cX18_holds 3 (some FieldType.boolean)) (dd + 1) 0 0 [.ref c, .ref g, iv k] I J P T z Q nX := by
  refine MC.of (by decide) (Nat.le_of_ble_eq_true rfl) ?_
  show PW G mX18_holds (rmD (dd + 1) 0 0) (MZ G Q nX 0 0) 0 0 I J P T z 0 [some (.ref c), some (.ref g), some (iv k)] []
  refine r_aload_n (pc := 0) dX18_holds_0 rfl rfl ?_
  refine r_getr (pc := 1) (c := 18) (k := 0) (kz := 0) hT cok_18 (Nat.le_of_ble_eq_true rfl) q1658 ⟨rfl, rfl⟩ (Or.inl rfl) rfl (fun _ _ _ => rfl) hP dX18_holds_1 ?_
  refine r_aload_n (pc := 4) dX18_holds_4 rfl rfl ?_
  refine r_iload_n (pc := 5) dX18_holds_5 rfl rfl ?_
  refine r_cond H hc q1742 dX18_holds_6 (Nat.le_refl _) (Nat.le_refl _) rfl fun v hv hr => ?_
  have hr' : ∀ st, rcs σ k (L' ++ [(10, 0, 0)]) st = bz (v = 0) :: st := fun st => by rw [rcs_app, hr]; rfl
  refine r_if_ne (pc := 9) 16 dX18_holds_9 rfl (by omega) (fun h9 => ?_) (fun h9 => ?_)
  · rw [bz_f h9] at hr'
    refine r_iconst (pc := 16) dX18_holds_16 ?_
    refine r_ireturn (pc := 17) rfl (nb_z (by omega)) dX18_holds_17 (Nat.le_of_ble_eq_true rfl) (Nat.le_of_ble_eq_true rfl) ?_
    exact hQ 0 (Or.inl rfl) hr'
  rw [bz_t h9] at hr'
  refine r_iconst (pc := 12) dX18_holds_12 ?_
  refine r_goto (pc := 13) 17 dX18_holds_13 rfl ?_
  refine r_ireturn (pc := 17) rfl (nb_z (by omega)) dX18_holds_17 (Nat.le_of_ble_eq_true rfl) (Nat.le_of_ble_eq_true rfl) ?_
  exact hQ 1 (Or.inr rfl) hr'
theorem C_hold22 {n dd : Nat} {a b : Nat} {La Lb : List CD} {e : Int} (H : HB G I J P T z g lo hi σ k dd n) (hT : T c = (42, 0)) (hPa : P c 0 = some a) (hPb : P c 1 = some b) (he : I c 2 = e) (he1 : e = 0 ∨ e = 1) (ha : CT I P T lo hi n a La) (hb9 : CT I P T lo hi n b Lb) (hQ : ∀ v, (v = 0 ∨ v = 1) → (∀ st, rcs σ k (La ++ Lb ++ [(12 - e, 0, 0)]) st = v :: st) → Q (some (iv v)) I J P T z) : MC G yX22_holds (ws_ yX22_holds cX22_holds 3 (some FieldType.boolean)) (dd + 1) 0 0 [.ref c, .ref g, iv k] I J P T z Q nX := by
  refine MC.of (by decide) (Nat.le_of_ble_eq_true rfl) ?_
  show PW G mX22_holds (rmD (dd + 1) 0 0) (MZ G Q nX 0 0) 0 0 I J P T z 0 [some (.ref c), some (.ref g), some (iv k)] []
  obtain ⟨u, hu, hs⟩ := CT.v (σ := σ) (k := k) _ hb9
  refine r_aload_n (pc := 0) dX22_holds_0 rfl rfl ?_
  refine r_geti (pc := 1) (c := 22) (k := 2) (kz := 2) hT cok_22 (Nat.le_of_ble_eq_true rfl) q1717 ⟨rfl, rfl⟩ (Or.inl rfl) rfl (fun _ _ _ => rfl) dX22_holds_1 (fun hr1 => ?_)
  rw [he] at hr1 ⊢
  refine r_if_eq (pc := 4) 39 dX22_holds_4 rfl (by omega) (fun h4 => ?_) (fun h4 => ?_)
  · obtain rfl : e = 0 := h4
    have r0 : ∀ v, (∀ st, rcs σ k La st = v :: st) → ∀ st, rcs σ k (La ++ Lb ++ [(12 - 0, 0, 0)]) st = bz (v ≠ 0 ∨ u ≠ 0) :: st := fun v h st => by rw [rcs_app, rcs_app, h, hs]; rfl
    refine r_aload_n (pc := 39) dX22_holds_39 rfl rfl ?_
    refine r_getr (pc := 40) (c := 22) (k := 0) (kz := 0) hT cok_22 (Nat.le_of_ble_eq_true rfl) q1715 ⟨rfl, rfl⟩ (Or.inl rfl) rfl (fun _ _ _ => rfl) hPa dX22_holds_40 ?_
    refine r_aload_n (pc := 43) dX22_holds_43 rfl rfl ?_
    refine r_iload_n (pc := 44) dX22_holds_44 rfl rfl ?_
    refine r_cond H ha q1752 dX22_holds_45 (Nat.le_refl _) (Nat.le_refl _) rfl fun v hv hr => ?_
    refine r_if_ne (pc := 48) 63 dX22_holds_48 rfl (by omega) (fun h48 => ?_) (fun h48 => ?_)
    · have := r0 v hr
      rw [bz_t (Or.inl h48)] at this
      refine r_iconst (pc := 63) dX22_holds_63 ?_
      refine r_goto (pc := 64) 68 dX22_holds_64 rfl ?_
      refine r_ireturn (pc := 68) rfl (nb_z (by omega)) dX22_holds_68 (Nat.le_of_ble_eq_true rfl) (Nat.le_of_ble_eq_true rfl) ?_
      exact hQ 1 (Or.inr rfl) this
    refine r_aload_n (pc := 51) dX22_holds_51 rfl rfl ?_
    refine r_getr (pc := 52) (c := 22) (k := 1) (kz := 1) hT cok_22 (Nat.le_of_ble_eq_true rfl) q1716 ⟨rfl, rfl⟩ (Or.inl rfl) rfl (fun _ _ _ => rfl) hPb dX22_holds_52 ?_
    refine r_aload_n (pc := 55) dX22_holds_55 rfl rfl ?_
    refine r_iload_n (pc := 56) dX22_holds_56 rfl rfl ?_
    refine r_cond H hb9 q1752 dX22_holds_57 (Nat.le_refl _) (Nat.le_refl _) rfl fun u' hu' hs' => ?_
    have eu : u' = u := by have := (hs' []).symm.trans (hs []); exact (List.cons.inj this).1
    refine r_if_eq (pc := 60) 67 dX22_holds_60 rfl (by omega) (fun h60 => ?_) (fun h60 => ?_)
    · have := r0 v hr
      rw [bz_f (fun c => by omega)] at this
      refine r_iconst (pc := 67) dX22_holds_67 ?_
      refine r_ireturn (pc := 68) rfl (nb_z (by omega)) dX22_holds_68 (Nat.le_of_ble_eq_true rfl) (Nat.le_of_ble_eq_true rfl) ?_
      exact hQ 0 (Or.inl rfl) this
    have := r0 v hr
    rw [bz_t (Or.inr (by omega))] at this
    refine r_iconst (pc := 63) dX22_holds_63 ?_
    refine r_goto (pc := 64) 68 dX22_holds_64 rfl ?_
    refine r_ireturn (pc := 68) rfl (nb_z (by omega)) dX22_holds_68 (Nat.le_of_ble_eq_true rfl) (Nat.le_of_ble_eq_true rfl) ?_
    exact hQ 1 (Or.inr rfl) this
  obtain rfl : e = 1 := by omega
  have r0 : ∀ v, (∀ st, rcs σ k La st = v :: st) → ∀ st, rcs σ k (La ++ Lb ++ [(12 - 1, 0, 0)]) st = bz (v ≠ 0 ∧ u ≠ 0) :: st := fun v h st => by rw [rcs_app, rcs_app, h, hs]; rfl
  have no : ∀ v, (∀ st, rcs σ k La st = v :: st) → ¬ (v ≠ 0 ∧ u ≠ 0) → PW G mX22_holds (rmD (dd + 1) 0 0) (MZ G Q nX 0 0) 0 0 I J P T z 35 [some (.ref c), some (.ref g), some (iv k)] [] := by
    intro v h q
    have := r0 v h
    rw [bz_f q] at this
    refine r_iconst (pc := 35) dX22_holds_35 ?_
    refine r_goto (pc := 36) 68 dX22_holds_36 rfl ?_
    refine r_ireturn (pc := 68) rfl (nb_z (by omega)) dX22_holds_68 (Nat.le_of_ble_eq_true rfl) (Nat.le_of_ble_eq_true rfl) ?_
    exact hQ 0 (Or.inl rfl) this
  refine r_aload_n (pc := 7) dX22_holds_7 rfl rfl ?_
  refine r_getr (pc := 8) (c := 22) (k := 0) (kz := 0) hT cok_22 (Nat.le_of_ble_eq_true rfl) q1715 ⟨rfl, rfl⟩ (Or.inl rfl) rfl (fun _ _ _ => rfl) hPa dX22_holds_8 ?_
  refine r_aload_n (pc := 11) dX22_holds_11 rfl rfl ?_
  refine r_iload_n (pc := 12) dX22_holds_12 rfl rfl ?_
  refine r_cond H ha q1752 dX22_holds_13 (Nat.le_refl _) (Nat.le_refl _) rfl fun v hv hr => ?_
  refine r_if_eq (pc := 16) 35 dX22_holds_16 rfl (by omega) (fun h16 => ?_) (fun h16 => ?_)
  · exact no v hr (fun c => c.1 h16)
  refine r_aload_n (pc := 19) dX22_holds_19 rfl rfl ?_
  refine r_getr (pc := 20) (c := 22) (k := 1) (kz := 1) hT cok_22 (Nat.le_of_ble_eq_true rfl) q1716 ⟨rfl, rfl⟩ (Or.inl rfl) rfl (fun _ _ _ => rfl) hPb dX22_holds_20 ?_
  refine r_aload_n (pc := 23) dX22_holds_23 rfl rfl ?_
  refine r_iload_n (pc := 24) dX22_holds_24 rfl rfl ?_
  refine r_cond H hb9 q1752 dX22_holds_25 (Nat.le_refl _) (Nat.le_refl _) rfl fun u' hu' hs' => ?_
  have eu : u' = u := by have := (hs' []).symm.trans (hs []); exact (List.cons.inj this).1
  refine r_if_eq (pc := 28) 35 dX22_holds_28 rfl (by omega) (fun h28 => ?_) (fun h28 => ?_)
  · exact no v hr (fun c => c.2 (by omega))
  have := r0 v hr
  rw [bz_t ⟨h16, by omega⟩] at this
  refine r_iconst (pc := 31) dX22_holds_31 ?_
  refine r_goto (pc := 32) 68 dX22_holds_32 rfl ?_
  refine r_ireturn (pc := 68) rfl (nb_z (by omega)) dX22_holds_68 (Nat.le_of_ble_eq_true rfl) (Nat.le_of_ble_eq_true rfl) ?_
  exact hQ 1 (Or.inr rfl) this
/-- any tree answers -/
theorem C_holds (hs : shG G P T g t) (hr : GR I g t σ μ) (hw : WF σ) (hk : 0 ≤ k ∧ k < 13) : ∀ n : Nat, HB G I J P T z g lo hi σ k (d + 2 + n) n := by
  intro n
  induction n with
  | zero => intro c L v hc; exact hc.elim
  | succ n ih =>
    intro c L v hc hv hrc Q hQ
    have nn : ∀ {a b : Nat}, T c = (a, 0) → T c = (b, 0) → a = b := fun h1 h2 => by rw [h1] at h2; exact congrArg Prod.fst h2
    have one : ∀ u, (∀ st, rcs σ k L st = u :: st) → Q (some (iv u)) I J P T z := fun u h => by
      have e : u = v := by have := (h []).symm.trans (hrc []); exact (List.cons.inj this).1
      rw [e]; exact hQ
    refine ⟨fun hT => ?_, fun hT => ?_, fun hT => ?_, fun hT => ?_, fun hT => ?_⟩
    · rcases hc.2 with h | h | h | ⟨-, c', L', h1, h2, h3⟩ | h
      · exact absurd (nn hT h.1) (by decide)
      · exact absurd (nn hT h.1) (by decide)
      · exact absurd (nn hT h.1) (by decide)
      · subst h3
        exact C_hold18 ih hT h1 h2 (fun u _ h => one u h)
      · exact absurd (nn hT h.1) (by decide)
    · rcases hc.2 with h | h | h | h | h
      · rw [h.2] at one
        exact C_hold19 hs hr hw hk (one _ (rc_lf (by decide)))
      · exact absurd (nn hT h.1) (by decide)
      · exact absurd (nn hT h.1) (by decide)
      · exact absurd (nn hT h.1) (by decide)
      · exact absurd (nn hT h.1) (by decide)
    · rcases hc.2 with h | ⟨-, p, a, h1, h2, h3, h4, h5⟩ | h | h | h
      · exact absurd (nn hT h.1) (by decide)
      · rw [h5] at one
        exact C_hold20 hs hr hw hk hT h1 h2 h3 h4 (one _ (rc_lf (by show 2 - a < 10; omega)))
      · exact absurd (nn hT h.1) (by decide)
      · exact absurd (nn hT h.1) (by decide)
      · exact absurd (nn hT h.1) (by decide)
    · rcases hc.2 with h | h | ⟨-, w, sg, m, h1, h2, h3, h4, h5, h6, h7⟩ | h | h
      · exact absurd (nn hT h.1) (by decide)
      · exact absurd (nn hT h.1) (by decide)
      · rw [h7] at one
        have : d + 2 + (n + 1) = (d + n + 1) + 2 := by omega
        rw [this]
        exact C_hold21 hs hr hw hk hT h1 h2 h3 h4 h5 h6 (one _ (rc_lf (by show 3 + w < 10; omega)))
      · exact absurd (nn hT h.1) (by decide)
      · exact absurd (nn hT h.1) (by decide)
    · rcases hc.2 with h | h | h | h | ⟨-, a, b, La, Lb, e, h1, h2, h3, h4, h5, h6, h7⟩
      · exact absurd (nn hT h.1) (by decide)
      · exact absurd (nn hT h.1) (by decide)
      · exact absurd (nn hT h.1) (by decide)
      · exact absurd (nn hT h.1) (by decide)
      · subst h7
        exact C_hold22 ih hT h1 h2 h3 h4 h5 h6 (fun u _ h => one u h)
/-- kinds of which it may be said: the k-th, or how many -/
def f_sd (σ : Int → Int) (L : List CD) (q : Int) : Nat → Int → Int → Int
  | 0, _, n => if q = -1 then n else -1
  | m + 1, c, n => if rcs σ c L [] = [0] then f_sd σ L q m (c + 1) n else if n = q then c else f_sd σ L q m (c + 1) (n + 1)
theorem C_said {x : Nat} (hx : XS G I P T x t σ μ) {q : Int} (hq : rg q) (hN : P x 6 = none → Q (some (iv (-1))) I J P T z) (hS : ∀ sn, P x 6 = some sn → ∃ L, CT I P T lo hi 40 sn L ∧ Q (some (iv (f_sd σ L q (σ 0).toNat 0 0))) I J P T z) : MC G yX1_said (ws_ yX1_said cX1_said 4 (some FieldType.int)) (d + 43) 0 0 [.ref x, iv q] I J P T z Q nX := by
  have hb := hx.b
  have ht := hx.ta
  refine MC.of (by decide) (Nat.le_of_ble_eq_true rfl) ?_
  show PW G mX1_said (rmD (d + 43) 0 0) (MZ G Q nX 0 0) 0 0 I J P T z 0 [some (.ref x), some (iv q), none, none] []
  cases hsn : P x 6 with
  | none =>
    refine r_aload_n (pc := 0) dX1_said_0 rfl rfl ?_
    refine r_getz (pc := 1) (c := 1) (k := 6) (kz := 6) hx.o cok_1 (Nat.le_of_ble_eq_true rfl) q516 ⟨rfl, rfl⟩ (Or.inl rfl) rfl (fun _ _ _ => rfl) hsn dX1_said_1 ?_
    refine r_ifnonnullN (pc := 4) dX1_said_4 ?_
    refine r_iconst (pc := 7) dX1_said_7 ?_
    refine r_ireturn (pc := 8) rfl rfl dX1_said_8 (Nat.le_of_ble_eq_true rfl) (Nat.le_of_ble_eq_true rfl) ?_
    exact hN hsn
  | some sn =>
    obtain ⟨L, hL, hQ⟩ := hS sn hsn
    refine r_aload_n (pc := 0) dX1_said_0 rfl rfl ?_
    refine r_getr (pc := 1) (c := 1) (k := 6) (kz := 6) hx.o cok_1 (Nat.le_of_ble_eq_true rfl) q516 ⟨rfl, rfl⟩ (Or.inl rfl) rfl (fun _ _ _ => rfl) hsn dX1_said_1 ?_
    refine r_ifnonnull (pc := 4) 9 dX1_said_4 rfl ?_
    obtain ⟨V, hV⟩ : ∃ V, V = f_sd σ L q (σ 0).toNat 0 0 := ⟨_, rfl⟩
    rw [← hV] at hQ
    have loop : ∀ (m : Nat) (c n : Int), 0 ≤ c → c + m = σ 0 → 0 ≤ n → n ≤ c → V = f_sd σ L q m c n → PW G mX1_said (rmD (d + 43) 0 0) (MZ G Q nX 0 0) 0 0 I J P T z 13 [some (.ref x), some (iv q), some (iv n), some (iv c)] [] := by
      intro m
      induction m with
      | zero =>
        intro c n c0 c1 n0 n1 he
        refine r_iload_n (pc := 13) dX1_said_13 rfl rfl ?_
        refine r_aload_n (pc := 14) dX1_said_14 rfl rfl ?_
        refine r_getr (pc := 15) (c := 1) (k := 3) (kz := 3) hx.o cok_1 (Nat.le_of_ble_eq_true rfl) q513 ⟨rfl, rfl⟩ (Or.inl rfl) rfl (fun _ _ _ => rfl) hx.p_table dX1_said_15 ?_
        refine r_getiN (pc := 18) (c := 2) (k := 0) (kz := 0) hx.tb.o cok_2 (Nat.le_of_ble_eq_true rfl) q205 ⟨rfl, rfl⟩ (Or.inl rfl) rfl (fun _ _ _ => rfl) dX1_said_18 (fun hr18 => ?_)
        rw [hx.r.ta.1] at hr18 ⊢
        refine r_icmp_ge (pc := 21) 58 dX1_said_21 rfl (by omega) (by omega) (fun h21 => ?_) (fun h21 => ?_)
        · refine r_iload_n (pc := 58) dX1_said_58 rfl rfl ?_
          refine r_iconst (pc := 59) dX1_said_59 ?_
          refine r_icmp_ne (pc := 60) 67 dX1_said_60 rfl (by omega) (by omega) (fun h60 => ?_) (fun h60 => ?_)
          · have : f_sd σ L q 0 c n = -1 := if_neg h60
            rw [he, this] at hQ
            refine r_iconst (pc := 67) dX1_said_67 ?_
            refine r_ireturn (pc := 68) rfl rfl dX1_said_68 (Nat.le_of_ble_eq_true rfl) (Nat.le_of_ble_eq_true rfl) ?_
            exact hQ
          have : f_sd σ L q 0 c n = n := if_pos h60
          rw [he, this] at hQ
          refine r_iload_n (pc := 63) dX1_said_63 rfl rfl ?_
          refine r_goto (pc := 64) 68 dX1_said_64 rfl ?_
          refine r_ireturn (pc := 68) rfl rfl dX1_said_68 (Nat.le_of_ble_eq_true rfl) (Nat.le_of_ble_eq_true rfl) ?_
          exact hQ
        omega
      | succ m ih =>
        intro c n c0 c1 n0 n1 he
        refine r_iload_n (pc := 13) dX1_said_13 rfl rfl ?_
        refine r_aload_n (pc := 14) dX1_said_14 rfl rfl ?_
        refine r_getr (pc := 15) (c := 1) (k := 3) (kz := 3) hx.o cok_1 (Nat.le_of_ble_eq_true rfl) q513 ⟨rfl, rfl⟩ (Or.inl rfl) rfl (fun _ _ _ => rfl) hx.p_table dX1_said_15 ?_
        refine r_getiN (pc := 18) (c := 2) (k := 0) (kz := 0) hx.tb.o cok_2 (Nat.le_of_ble_eq_true rfl) q205 ⟨rfl, rfl⟩ (Or.inl rfl) rfl (fun _ _ _ => rfl) dX1_said_18 (fun hr18 => ?_)
        rw [hx.r.ta.1] at hr18 ⊢
        refine r_icmp_ge (pc := 21) 58 dX1_said_21 rfl (by omega) (by omega) (fun h21 => ?_) (fun h21 => ?_)
        · omega
        refine r_aload_n (pc := 24) dX1_said_24 rfl rfl ?_
        refine r_getr (pc := 25) (c := 1) (k := 6) (kz := 6) hx.o cok_1 (Nat.le_of_ble_eq_true rfl) q516 ⟨rfl, rfl⟩ (Or.inl rfl) rfl (fun _ _ _ => rfl) hsn dX1_said_25 ?_
        refine r_aload_n (pc := 28) dX1_said_28 rfl rfl ?_
        refine r_getr (pc := 29) (c := 1) (k := 4) (kz := 4) hx.o cok_1 (Nat.le_of_ble_eq_true rfl) q514 ⟨rfl, rfl⟩ (Or.inl rfl) rfl (fun _ _ _ => rfl) hx.p_now dX1_said_29 ?_
        refine r_iload_n (pc := 32) dX1_said_32 rfl rfl ?_
        refine r_cond (C_holds (d := d) hx.g hx.r hx.w ⟨c0, by omega⟩ 40) hL q1730 dX1_said_33 (Nat.le_refl _) (Nat.le_refl _) rfl fun v hv hr => ?_
        unfold f_sd at he
        rw [hr []] at he
        refine r_if_ne (pc := 36) 42 dX1_said_36 rfl (by omega) (fun h36 => ?_) (fun h36 => ?_)
        · rw [if_neg (fun e => h36 (List.cons.inj e).1)] at he
          refine r_iload_n (pc := 42) dX1_said_42 rfl rfl ?_
          refine r_iload_n (pc := 43) dX1_said_43 rfl rfl ?_
          refine r_icmp_ne (pc := 44) 49 dX1_said_44 rfl (by omega) (by omega) (fun h44 => ?_) (fun h44 => ?_)
          · rw [if_neg h44] at he
            refine r_iinc2 (pc := 49) (Nat.le_of_ble_eq_true rfl) dX1_said_49 rfl ?_
            refine r_iinc3 (pc := 52) (Nat.le_of_ble_eq_true rfl) dX1_said_52 rfl ?_
            refine r_goto (pc := 55) 13 dX1_said_55 rfl ?_
            exact ih (c + 1) (n + 1) (by omega) (by omega) (by omega) (by omega) he
          rw [if_pos h44] at he
          rw [he] at hQ
          refine r_iload_n (pc := 47) dX1_said_47 rfl rfl ?_
          refine r_ireturn (pc := 48) rfl rfl dX1_said_48 (Nat.le_of_ble_eq_true rfl) (Nat.le_of_ble_eq_true rfl) ?_
          exact hQ
        rw [if_pos (by rw [h36])] at he
        refine r_goto (pc := 39) 52 dX1_said_39 rfl ?_
        refine r_iinc3 (pc := 52) (Nat.le_of_ble_eq_true rfl) dX1_said_52 rfl ?_
        refine r_goto (pc := 55) 13 dX1_said_55 rfl ?_
        exact ih (c + 1) n (by omega) (by omega) (by omega) (by omega) he
    refine r_iconst (pc := 9) dX1_said_9 ?_
    refine r_istore_n2 (pc := 10) (Nat.le_of_ble_eq_true rfl) dX1_said_10 rfl ?_
    refine r_iconst (pc := 11) dX1_said_11 ?_
    refine r_istore_n3 (pc := 12) (Nat.le_of_ble_eq_true rfl) dX1_said_12 rfl ?_
    exact loop (σ 0).toNat 0 0 (by omega) (by omega) (by omega) (by omega) hV
end P25
