/-! ===== odds: whom to ask ===== -/
theorem Lq_len {σ : Int → Int} {q0 nt q : Int} : ∀ (k : Nat) (i : Int), (Lq σ q0 nt q k i).length = k := by
  intro k
  induction k with
  | zero => intro i; rfl
  | succ k ih => intro i; show (Lq σ q0 nt q k (i + 1)).length + 1 = k + 1; rw [ih]
theorem LM_len {σ : Int → Int} (h : ∀ q, 0 ≤ q → q < σ 1 → 0 ≤ σ (229 + q)) {o q0 nt : Int} : ∀ (k : Nat) (q : Int), 0 ≤ q → q + k ≤ σ 1 → ((LM σ o q0 nt k q).length : Int) + sm (fun q => if q = o then 0 else σ (229 + q)) q.toNat = sm (fun q => if q = o then 0 else σ (229 + q)) (q + k).toNat := by
  intro k
  induction k with
  | zero => intro q h0 h1; show ((0 : Nat) : Int) + _ = _; rw [show q + ((0 : Nat) : Int) = q by omega]; omega
  | succ k ih =>
    intro q h0 h1
    have i1 := ih (q + 1) (by omega) (by omega)
    have s := sm_succ (f := fun q => if q = o then 0 else σ (229 + q)) h0
    have hq := h q h0 (by omega)
    show (((if q = o then [] else Lq σ q0 nt q (σ (229 + q)).toNat 0) ++ LM σ o q0 nt k (q + 1)).length : Int) + _ = _
    rw [List.length_append, show q + ((k + 1 : Nat) : Int) = q + 1 + k by omega]
    by_cases e : q = o
    · rw [if_pos e] at s ⊢
      rw [show ([] : List Int).length = 0 from rfl]
      omega
    · rw [if_neg e] at s ⊢
      rw [Lq_len]
      omega
theorem LM_12 {σ : Int → Int} (h : CV σ) {o q0 nt : Int} (hs : f_sl σ o ≤ 12) : (LM σ o q0 nt (σ 1).toNat 0).length ≤ 12 := by
  have ht := h.ta
  have e := LM_len (σ := σ) (o := o) (q0 := q0) (nt := nt) (fun q a b => (h.cd a (by omega)).2.2.2.1) (σ 1).toNat 0 (by omega) (by omega)
  rw [show (0 : Int) + ((σ 1).toNat : Nat) = σ 1 by omega, show sm (fun q => if q = o then 0 else σ (229 + q)) (0 : Int).toNat = 0 from rfl] at e
  unfold f_sl at hs
  omega
/-- ways in which somebody has some of a kind -/
def f_wt (σ κ u : Int → Int) (n : Nat) (o q k all : Int) : Int := if 0 < σ (151 + 13 * q + k) then all else all - TW κ n (LM σ o q k (σ 1).toNat 0) (fun _ => 1) u
section N5
variable {G : GE} {I I0 I' J : HI} {P P' P1 : HP} {T : HT} {z : Nat} {x t d g : Nat} {Q : QT} {σ μ κ sc u : Int → Int}
theorem C_with (hx : XS G I P T x t σ μ) {n S : Nat} (hU : UL I x n u κ sc S) {a0 b0 : Nat} (ha : P x 15 = some a0) (hbn : P x 16 = some b0) (hab : (a0 = x + 80 ∧ b0 = x + 81) ∨ (a0 = x + 81 ∧ b0 = x + 80)) {o q k all : Int} (ho : 0 ≤ o ∧ o < 6) (hq : 0 ≤ q ∧ q < 6) (hk : 0 ≤ k ∧ k < 13) (hs : f_sl σ o ≤ 12)
    (hQ : ∀ a b J', ((a = x + 80 ∧ b = x + 81) ∨ (a = x + 81 ∧ b = x + 80)) → (∀ c : Nat, c ≠ x + 80 → c ≠ x + 81 → J' c = J c) → Q (some (jv (f_wt σ κ u n o q k all))) I J' (Pab P x a b) T z) : MC G yX1_with (ws_ yX1_with cX1_with 6 (some FieldType.long)) (d + 4) 0 0 [.ref x, iv o, iv q, iv k, jv all] I J P T z Q nX := by
  have hb := hx.b
  have hr := hx.r
  have eP : Pab P x a0 b0 = P := by unfold Pab; rw [up_id ha, up_id hbn]
  refine MC.of (by decide) (Nat.le_of_ble_eq_true rfl) ?_
  show PW G mX1_with (rmD (d + 4) 0 0) (MZ G Q nX 0 0) 0 0 I J P T z 0 [some (.ref x), some (iv o), some (iv q), some (iv k), some (jv all), none] []
  refine r_aload_n (pc := 0) dX1_with_0 rfl rfl ?_
  refine r_getr (pc := 1) (c := 1) (k := 4) (kz := 4) hx.o cok_1 (Nat.le_of_ble_eq_true rfl) q514 ⟨rfl, rfl⟩ (Or.inl rfl) rfl (fun _ _ _ => rfl) hx.p_now dX1_with_1 ?_
  refine r_getrN (pc := 4) (c := 3) (k := 2) (kz := 2) hx.g.o cok_3 (Nat.le_of_ble_eq_true rfl) q277 ⟨rfl, rfl⟩ (Or.inl rfl) rfl (fun _ _ _ => rfl) hx.g.p_known dX1_with_4 ?_
  refine r_iload_n (pc := 7) dX1_with_7 rfl rfl ?_
  refine r_aald (pc := 8) hx.g.t_known ⟨by decide, by decide⟩ rfl (fun _ _ _ => rfl) (by omega) (by omega) (hx.g.q_known (by omega) (by omega)) dX1_with_8 ?_
  refine r_iload_n (pc := 9) dX1_with_9 rfl rfl ?_
  refine r_iald (pc := 10) (hx.g.u_known (by omega) (by omega)) (by omega) (by omega) dX1_with_10 (fun hr10 => ?_)
  rw [hr.known hq.1 hq.2 hk.1 hk.2] at hr10 ⊢
  refine r_if_le (pc := 11) 19 dX1_with_11 rfl (by omega) (fun h11 => ?_) (fun h11 => ?_)
  · have e : f_wt σ κ u n o q k all = all - TW κ n (LM σ o q k (σ 1).toNat 0) (fun _ => 1) u := if_neg (by omega)
    refine r_lload (pc := 19) dX1_with_19 rfl ?_
    refine r_aload_n (pc := 21) dX1_with_21 rfl rfl ?_
    refine r_iload_n (pc := 22) dX1_with_22 rfl rfl ?_
    refine r_iload_n (pc := 23) dX1_with_23 rfl rfl ?_
    refine r_iload_n (pc := 24) dX1_with_24 rfl rfl ?_
    refine r_callV3 (pc := 25) (C_ways (Q := fun v I' J' P' T' z' => I' = I ∧ T' = T ∧ z' = z ∧ v = some (jv (TW κ n (LM σ o q k (σ 1).toNat 0) (fun _ => 1) u)) ∧ ∃ a b, P' = Pab P x a b ∧ ((a = x + 80 ∧ b = x + 81) ∨ (a = x + 81 ∧ b = x + 80)) ∧ (∀ c : Nat, c ≠ x + 80 → c ≠ x + 81 → J' c = J c)) hx hU ha hbn hab ho (Or.inr ⟨hq, hk⟩) (LM_12 hx.w.cv hs) (fun a b J' h1 h2 _ => ⟨rfl, rfl, rfl, rfl, a, b, rfl, h1, h2⟩)) im_X1_count qs32 q1320 hx.o rfl dX1_with_25 (Nat.le_of_ble_eq_true rfl) (Nat.le_of_ble_eq_true rfl) rfl (?_) (fun _ _ _ _ _ _ _ hx => no_x hx)
    intro v I' J' P' T' z' h
    obtain ⟨rfl, rfl, rfl, rfl, a, b, rfl, h1, h2⟩ := h
    show PW G mX1_with (rmD (d + 4) 0 0) (MZ G Q nX 0 0) 0 0 I' J' (Pab P x a b) T' z' 28 [some (.ref x), some (iv o), some (iv q), some (iv k), some (jv all), none] [jv (TW κ n (LM σ o q k (σ 1).toNat 0) (fun _ => 1) u), jv all]
    refine r_lsub (pc := 28) dX1_with_28 ?_
    refine r_lreturn (pc := 29) rfl dX1_with_29 (Nat.le_of_ble_eq_true rfl) (Nat.le_of_ble_eq_true rfl) ?_
    rw [← e]
    exact hQ a b J' h1 h2
  have e : f_wt σ κ u n o q k all = all := if_pos (by omega)
  refine r_lload (pc := 14) dX1_with_14 rfl ?_
  refine r_goto (pc := 16) 29 dX1_with_16 rfl ?_
  refine r_lreturn (pc := 29) rfl dX1_with_29 (Nat.le_of_ble_eq_true rfl) (Nat.le_of_ble_eq_true rfl) ?_
  have := hQ a0 b0 J hab (fun _ _ _ => rfl)
  rw [eP, e] at this
  exact this
end N5
