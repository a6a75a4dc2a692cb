/-! ===== the model: play ===== -/
/-- askings by rules, at most n -/
def f_pl (rl : Int → Int) (told : Int) (m : Nat) : Nat → HI → (Int → Int) → HI × (Int → Int) × Int
  | 0, I, σ => (I, σ, 0)
  | n + 1, I, σ =>
    if σ 4 = -1 then (I, σ, 0)
    else
      let to := f_bent σ (σ 4) (rl (σ 4))
      let I1 := if told = 1 then tA I m (σ 4) (to / 100) (to % 100) (f_gives σ (to / 100) (to % 100) 0) (f_asks σ (σ 4) (to / 100) (to % 100) 0).2.1 (f_asks σ (σ 4) (to / 100) (to % 100) 0).2.2 (f_lie σ (to / 100) (to % 100) 0) (f_sure σ (to / 100) (to % 100)) else I
      ((f_pl rl told m n I1 (f_asks σ (σ 4) (to / 100) (to % 100) 0).1).1, (f_pl rl told m n I1 (f_asks σ (σ 4) (to / 100) (to % 100) 0).1).2.1, (f_pl rl told m n I1 (f_asks σ (σ 4) (to / 100) (to % 100) 0).1).2.2 + 1)
/-- what a state must keep to be played on -/
def PlOK (W : (Int → Int) → Prop) : Prop := ∀ σ, W σ → RG σ ∧ (0 < σ 1 ∧ σ 1 ≤ 6) ∧ (∀ p, 0 ≤ p → p < 6 → 0 ≤ σ (565 + p) ∧ σ (565 + p) ≤ 13) ∧ (∀ a, 0 ≤ a → a < 6 → f_cards σ a ≠ 0 → ∃ j, 0 ≤ j ∧ j < 13 ∧ σ (60 + 13 * a + j) ≠ 0) ∧
  (σ 4 ≠ -1 → 0 ≤ σ 4 ∧ σ 4 < 6 ∧ ∀ rule, 0 ≤ rule → rule ≤ 3 → 0 ≤ f_bent σ (σ 4) rule ∧ f_bent σ (σ 4) rule < 600 ∧ σ 4 ≠ f_bent σ (σ 4) rule / 100 ∧ f_bent σ (σ 4) rule % 100 < 13 ∧ σ (229 + f_bent σ (σ 4) rule / 100) + σ (151 + 13 * (f_bent σ (σ 4) rule / 100) + f_bent σ (σ 4) rule % 100) + σ 7 ≤ 52 ∧ W (f_asks σ (σ 4) (f_bent σ (σ 4) rule / 100) (f_bent σ (σ 4) rule % 100) 0).1)
theorem f_pl_r {rl : Int → Int} {told : Int} {m : Nat} : ∀ (n : Nat) (I : HI) (σ : Int → Int), 0 ≤ (f_pl rl told m n I σ).2.2 ∧ (f_pl rl told m n I σ).2.2 ≤ n := by
  intro n
  induction n with
  | zero => intro I σ; exact ⟨show (0 : Int) ≤ 0 by decide, show (0 : Int) ≤ 0 by decide⟩
  | succ n ih =>
    intro I σ
    unfold f_pl
    split
    · exact ⟨show (0 : Int) ≤ 0 by decide, by show (0 : Int) ≤ ((n + 1 : Nat) : Int); omega⟩
    · simp only
      have := ih (if told = 1 then tA I m (σ 4) (f_bent σ (σ 4) (rl (σ 4)) / 100) (f_bent σ (σ 4) (rl (σ 4)) % 100) (f_gives σ (f_bent σ (σ 4) (rl (σ 4)) / 100) (f_bent σ (σ 4) (rl (σ 4)) % 100) 0) (f_asks σ (σ 4) (f_bent σ (σ 4) (rl (σ 4)) / 100) (f_bent σ (σ 4) (rl (σ 4)) % 100) 0).2.1 (f_asks σ (σ 4) (f_bent σ (σ 4) (rl (σ 4)) / 100) (f_bent σ (σ 4) (rl (σ 4)) % 100) 0).2.2 (f_lie σ (f_bent σ (σ 4) (rl (σ 4)) / 100) (f_bent σ (σ 4) (rl (σ 4)) % 100) 0) (f_sure σ (f_bent σ (σ 4) (rl (σ 4)) / 100) (f_bent σ (σ 4) (rl (σ 4)) % 100)) else I) (f_asks σ (σ 4) (f_bent σ (σ 4) (rl (σ 4)) / 100) (f_bent σ (σ 4) (rl (σ 4)) % 100) 0).1
      omega
theorem tA_n {I : HI} {m x : Nat} {a b c d e f g h j : Int} (h1 : x ≠ m) (h2 : x ≠ m + 7) : tA I m a b c d e f g h x j = I x j := by
  unfold tA
  simp (disch := omega) only [ui_nv]
section M16
variable {G : GE} {I J : HI} {P : HP} {T : HT} {z : Nat} {m d : Nat} {Q : QT} {σ u : Int → Int}
theorem M_plays (hs : shM G P T m) {W : (Int → Int) → Prop} (hW : PlOK W) (hw : W σ) {k told : Int} (hk : 0 ≤ k ∧ k ≤ 1000) (ht : told = 0 ∨ told = 1) {rl : Int → Int} (hr : ∀ a, 0 ≤ a → a < 6 → 0 ≤ rl a ∧ rl a ≤ 3) (hI : ∀ a, 0 ≤ a → a < 6 → I (m + 20) a = rl a)
    (hQ : Q (some (iv (f_pl rl told m k.toNat I σ).2.2)) (ur (f_pl rl told m k.toNat I σ).1 (m + 2) (f_pl rl told m k.toNat I σ).2.1) J P T z) : MC G yX11_plays (ws_ yX11_plays cX11_plays 6 (some FieldType.int)) (d + 6) 0 0 [.ref m, iv k, iv told] (ur I (m + 2) σ) J P T z Q nX := by
  have hb := hs.b
  refine MC.of (by decide) (Nat.le_of_ble_eq_true rfl) ?_
  show PW G mX11_plays (rmD (d + 6) 0 0) (MZ G Q nX 0 0) 0 0 (ur I (m + 2) σ) J P T z 0 [some (.ref m), some (iv k), some (iv told), none, none, none] []
  have loop : ∀ (n : Nat) (i : Int) (I : HI) (σ : Int → Int) (l4 l5 : Option Value), W σ → (∀ a, 0 ≤ a → a < 6 → I (m + 20) a = rl a) → 0 ≤ i → i ≤ k → k - i = n → Q (some (iv (i + (f_pl rl told m n I σ).2.2))) (ur (f_pl rl told m n I σ).1 (m + 2) (f_pl rl told m n I σ).2.1) J P T z → PW G mX11_plays (rmD (d + 6) 0 0) (MZ G Q nX 0 0) 0 0 (ur I (m + 2) σ) J P T z 2 [some (.ref m), some (iv k), some (iv told), some (iv i), l4, l5] [] := by
    intro n
    induction n with
    | zero =>
      intro i I σ l4 l5 hw hI g0 g1 gn hQ
      refine r_iload_n (pc := 2) dX11_plays_2 rfl rfl ?_
      refine r_iload_n (pc := 3) dX11_plays_3 rfl rfl ?_
      refine r_icmp_ge (pc := 4) 65 dX11_plays_4 rfl (by omega) (by omega) (fun h4 => ?_) (fun h4 => ?_)
      · refine r_iload_n (pc := 65) dX11_plays_65 rfl rfl ?_
        refine r_ireturn (pc := 66) rfl rfl dX11_plays_66 (Nat.le_of_ble_eq_true rfl) (Nat.le_of_ble_eq_true rfl) ?_
        have hQ : Q (some (iv (i + 0))) (ur I (m + 2) σ) J P T z := hQ
        rw [Int.add_zero] at hQ
        exact hQ
      omega
    | succ n ih =>
      intro i I σ l4 l5 hw hI g0 g1 gn hQ
      obtain ⟨w1, w2, w3, w4, w5⟩ := hW σ hw
      unfold f_pl at hQ
      refine r_iload_n (pc := 2) dX11_plays_2 rfl rfl ?_
      refine r_iload_n (pc := 3) dX11_plays_3 rfl rfl ?_
      refine r_icmp_ge (pc := 4) 65 dX11_plays_4 rfl (by omega) (by omega) (fun h4 => ?_) (fun h4 => ?_)
      · omega
      refine r_aload_n (pc := 7) dX11_plays_7 rfl rfl ?_
      refine r_getr (pc := 8) (c := 11) (k := 6) (kz := 6) hs.o cok_11 (Nat.le_of_ble_eq_true rfl) q1866 ⟨rfl, rfl⟩ (Or.inl rfl) rfl (fun _ _ _ => rfl) hs.p_s dX11_plays_8 ?_
      refine r_iconst (pc := 11) dX11_plays_11 ?_
      refine r_ialdU (pc := 12) hs.t_s (by omega) (by omega) dX11_plays_12 (fun hr12 => ?_)
      refine r_iconst (pc := 13) dX11_plays_13 ?_
      refine r_icmp_eq (pc := 14) 65 dX11_plays_14 rfl (by omega) (by omega) (fun h14 => ?_) (fun h14 => ?_)
      · rw [if_pos h14] at hQ
        refine r_iload_n (pc := 65) dX11_plays_65 rfl rfl ?_
        refine r_ireturn (pc := 66) rfl rfl dX11_plays_66 (Nat.le_of_ble_eq_true rfl) (Nat.le_of_ble_eq_true rfl) ?_
        have hQ : Q (some (iv (i + 0))) (ur I (m + 2) σ) J P T z := hQ
        rw [Int.add_zero] at hQ
        exact hQ
      rw [if_neg h14] at hQ
      simp only at hQ
      obtain ⟨a0, a1, w6⟩ := w5 h14
      have r0 := hr (σ 4) a0 a1
      obtain ⟨b0, b1, b2, b3, b4, b5⟩ := w6 (rl (σ 4)) r0.1 r0.2
      have eI := hI (σ 4) a0 a1
      refine r_aload_n (pc := 17) dX11_plays_17 rfl rfl ?_
      refine r_getr (pc := 18) (c := 11) (k := 6) (kz := 6) hs.o cok_11 (Nat.le_of_ble_eq_true rfl) q1866 ⟨rfl, rfl⟩ (Or.inl rfl) rfl (fun _ _ _ => rfl) hs.p_s dX11_plays_18 ?_
      refine r_iconst (pc := 21) dX11_plays_21 ?_
      refine r_ialdU (pc := 22) hs.t_s (by omega) (by omega) dX11_plays_22 (fun hr22 => ?_)
      refine r_istore4 (pc := 23) (Nat.le_of_ble_eq_true rfl) dX11_plays_23 rfl ?_
      refine r_aload_n (pc := 25) dX11_plays_25 rfl rfl ?_
      refine r_iload (pc := 26) dX11_plays_26 rfl ?_
      refine r_aload_n (pc := 28) dX11_plays_28 rfl rfl ?_
      refine r_getr (pc := 29) (c := 11) (k := 48) (kz := 48) hs.o cok_11 (Nat.le_of_ble_eq_true rfl) q1908 ⟨rfl, rfl⟩ (Or.inl rfl) rfl (fun _ _ _ => rfl) hs.p_rules dX11_plays_29 ?_
      refine r_iload (pc := 32) dX11_plays_32 rfl ?_
      refine r_ialdV (pc := 34) hs.t_rules (by omega) (by omega) (by omega) dX11_plays_34 (fun hr34 => ?_)
      rw [eI]
      refine r_callV2 (pc := 35) (M_bentOf hs (by omega) (by omega) (by omega) w3 (w4 _ a0 a1) fe_i) im_X11_bentOf qs98 q2341 hs.o rfl dX11_plays_35 (Nat.le_of_ble_eq_true rfl) (Nat.le_of_ble_eq_true rfl) rfl (k_fi ?_) (fun _ _ _ _ _ _ _ hx => no_x hx)
      generalize f_bent σ (σ 4) (rl (σ 4)) = to at *
      refine r_istore5 (pc := 38) (Nat.le_of_ble_eq_true rfl) dX11_plays_38 rfl ?_
      refine r_aload_n (pc := 40) dX11_plays_40 rfl rfl ?_
      refine r_iload (pc := 41) dX11_plays_41 rfl ?_
      refine r_iload (pc := 43) dX11_plays_43 rfl ?_
      refine r_bipush (pc := 45) dX11_plays_45 (by decide +kernel) ?_
      refine r_idiv (pc := 47) dX11_plays_47 (by omega) (by omega) ?_
      refine r_iload (pc := 48) dX11_plays_48 rfl ?_
      refine r_bipush (pc := 50) dX11_plays_50 (by decide +kernel) ?_
      refine r_irem (pc := 52) dX11_plays_52 (by omega) (by omega) ?_
      refine r_iconst (pc := 53) dX11_plays_53 ?_
      refine r_iload_n (pc := 54) dX11_plays_54 rfl rfl ?_
      refine r_callV5 (pc := 55) (M_asks (lies := 0) hs (by omega) (by omega) (by omega) (by omega) (by omega) ht w1 w2 b4 fe_i) im_X11_asks qs86 q2225 hs.o rfl dX11_plays_55 (Nat.le_of_ble_eq_true rfl) (Nat.le_of_ble_eq_true rfl) rfl (k_fi ?_) (fun _ _ _ _ _ _ _ hx => no_x hx)
      refine r_pop (pc := 58) dX11_plays_58 rfl ?_
      refine r_iinc3 (pc := 59) (Nat.le_of_ble_eq_true rfl) dX11_plays_59 rfl ?_
      refine r_goto (pc := 62) 2 dX11_plays_62 rfl ?_
      refine ih (i + 1) _ _ _ _ b5 ?_ (by omega) (by omega) (by omega) ?_
      · intro a c0 c1
        split
        · rw [tA_n (by omega) (by omega)]; exact hI a c0 c1
        · exact hI a c0 c1
      · rw [Int.add_assoc, Int.add_comm 1]
        exact hQ
  refine r_iconst (pc := 0) dX11_plays_0 ?_
  refine r_istore_n3 (pc := 1) (Nat.le_of_ble_eq_true rfl) dX11_plays_1 rfl ?_
  have l := loop k.toNat 0 I σ none none hw hI (by omega) (by omega) (by omega)
  rw [Int.zero_add] at l
  exact l hQ
end M16
