/-! ===== the face: what is kept to be undone; askings ===== -/
section L3
variable {G : GE} {I I0 I' J : HI} {P P' P1 : HP} {T : HT} {z : Nat} {x t d : Nat} {Q : QT} {σ μ τ ω r : Int → Int}
/-- places of links that may change -/
def okP (x b : Nat) (j : Int) : Prop := (b = x ∧ (j = 3 ∨ j = 6 ∨ j = 15 ∨ j = 16)) ∨ b = x + 75 ∨ (b = x + 83 ∧ j ≠ 2) ∨ ((b = x + 92 ∨ b = x + 124) ∧ j ≠ 2) ∨ (j = 0 ∧ (b = x + 13 ∨ b = x + 44 ∨ b = x + 93 ∨ b = x + 125 ∨ (x + 156 ≤ b ∧ b < x + 404 ∧ (b - x - 156) % 31 = 0)))
def PF (x : Nat) (P P' : HP) : Prop := ∀ b j, ¬ okP x b j → P' b j = P b j
theorem PF.rf : PF x P P := fun _ _ _ => rfl
theorem PF.tr (h : PF x P P1) (k : PF x P1 P') : PF x P P' := fun b j q => (k b j q).trans (h b j q)
theorem PF.upd (h : PF x P P1) {b : Nat} {j : Int} {v : Option Nat} (ok : okP x b j) : PF x P (up P1 b j v) := fun c i q => by
  rw [← h c i q]
  unfold up
  exact if_neg (fun e => q (by rw [e.1, e.2]; exact ok))
theorem shG0.pf {g : Nat} (h : shG0 G P T g) (h1 : ∀ j : Int, j ≠ 0 → P' g j = P g j) (h2 : P' (g + 1) = P (g + 1) ∧ P' (g + 8) = P (g + 8) ∧ P' (g + 15) = P (g + 15)) : shG0 G P' T g := by
  obtain ⟨a1, a2, a3, a4⟩ := h
  refine ⟨a1, a2, fun q hq => ⟨?_, (a3 q hq).2⟩, fun p p0 p1 => ?_⟩
  · rw [h1 q.1 (by
      unfold gArr at hq
      simp only [List.mem_cons, List.not_mem_nil, or_false] at hq
      rcases hq with q9 | q9 | q9 | q9 | q9 | q9 | q9 | q9 | q9 | q9 | q9 | q9 <;> (rw [q9]; decide))]
    exact (a3 q hq).1
  · rw [h2.1, h2.2.1, h2.2.2]
    exact a4 p p0 p1
theorem PF.g0 (f : PF x P P') {o : Nat} (ho : o ∈ xGam) (h : shG0 G P T (x + o)) : shG0 G P' T (x + o) := by
  have hn : ∀ (b : Nat) (j : Int), ¬ okP x (x + b) j → P' (x + b) j = P (x + b) j := fun b j q => f _ j q
  unfold xGam at ho
  simp only [List.mem_cons, List.not_mem_nil, or_false] at ho
  rcases ho with q | q | q | q | q | q | q | q | q | q | q | q <;> subst q <;> exact h.pf (fun j hj => f _ j (by unfold okP; omega)) ⟨funext (fun j => f _ j (by unfold okP; omega)), funext (fun j => f _ j (by unfold okP; omega)), funext (fun j => f _ j (by unfold okP; omega))⟩
theorem shX.pf (h : shX G P T x) (f : PF x P P') : shX G P' T x := by
  obtain ⟨a1, a2, a3, a4, a5, a6, a7, a8⟩ := h
  refine ⟨a1, a2, fun q hq => ⟨?_, (a3 q hq).2⟩, a4, ⟨?_, a5.2⟩, fun i h0 h1 => ⟨?_, (a6 i h0 h1).2⟩, fun k h0 h1 => ⟨?_, (a7 k h0 h1).2.1, ?_⟩, fun g hg => f.g0 hg (a8 g hg)⟩
  · rw [← (a3 q hq).1]
    refine f _ _ ?_
    unfold xArr at hq
    simp only [List.mem_cons, List.not_mem_nil, or_false] at hq
    unfold okP
    rcases hq with q9 | q9 | q9 | q9 | q9 | q9 | q9 | q9 | q9 | q9 | q9 | q9 | q9 <;> subst q9 <;> simp <;> omega
  · rw [f _ _ (by unfold okP; omega)]; exact a5.1
  · rw [f _ _ (by unfold okP; omega)]; exact (a6 i h0 h1).1
  · rw [f _ _ (by unfold okP; omega)]; exact (a7 k h0 h1).1
  · rw [f _ _ (by unfold okP; omega)]; exact (a7 k h0 h1).2.2
theorem shT.pf (h : shT G P T t) (f : PF x P P') (tx : t = x + 2 ∨ x + 404 ≤ t) : shT G P' T t := by
  have e : ∀ b : Nat, (t ≤ b ∧ b < t + 11) → P' b = P b := fun b q => funext (fun j => f b j (by unfold okP; omega))
  unfold shT at h ⊢
  rw [e t (by omega), e (t + 2) (by omega)]
  exact h
theorem XS.pf (h : XS G I P T x t σ μ) (f : PF x P P') (e : ∀ b : Nat, (x + 13 ≤ b ∧ b < x + 44) ∨ b = t ∨ b = t + 1 → I' b = I b) (e3 : P' x 3 = P x 3) (e0 : P' (x + 13) 0 = P (x + 13) 0) : XS G I' P' T x t σ μ := by
  have h' := h.fr e
  exact ⟨h.x.pf f, e3.trans h.p_table, ⟨f.g0 (by decide) h.g.1, h.tb.pf f h.tx, e0.trans h.g.2.2⟩, h'.r, h.w, h.tx⟩
/-- what is kept to be undone -/
def XB (I : HI) (P : HP) (x t : Nat) (n : Int) (β : Int → Nat) (υ : Int → Int → Int) : Prop :=
  (∀ j : Int, 0 ≤ j → j < 8 → P (x + 75) j = some (β j) ∧ x + 156 ≤ β j ∧ β j < x + 404 ∧ (β j - x - 156) % 31 = 0) ∧ (∀ i j : Int, 0 ≤ i → i < 8 → 0 ≤ j → j < 8 → β i = β j → i = j) ∧ (0 ≤ n ∧ n ≤ 8) ∧ I x 8 = n ∧
  ∀ j : Int, 0 ≤ j → j < n → P (β j) 0 = some t ∧ (∃ ν, GR I (β j) t (υ j) ν) ∧ WF (υ j)
theorem XB.q {n : Int} {β : Int → Nat} {υ : Int → Int → Int} (h : XB I P x t n β υ) {j : Int} (h0 : 0 ≤ j) (h1 : j < 8) : P (x + 75) j = some (β j) := (h.1 j h0 h1).1
theorem g0_of (hs : shX G P T x) {b : Nat} (h : x + 156 ≤ b ∧ b < x + 404 ∧ (b - x - 156) % 31 = 0) : shG0 G P T b := by
  obtain ⟨o, rfl⟩ : ∃ o, b = x + o := ⟨b - x, by omega⟩
  refine hs.g ?_
  unfold xGam
  simp only [List.mem_cons, List.not_mem_nil, or_false]
  omega
theorem XB.g0 {n : Int} {β : Int → Nat} {υ : Int → Int → Int} (h : XB I P x t n β υ) (hs : shX G P T x) {j : Int} (h0 : 0 ≤ j) (h1 : j < 8) : shG0 G P T (β j) := g0_of hs (h.1 j h0 h1).2
theorem XB.fr {n m : Int} {β : Int → Nat} {υ : Int → Int → Int} (h : XB I P x t n β υ) (hm : 0 ≤ m ∧ m ≤ n) (em : I' x 8 = m) (e : ∀ b : Nat, (x + 156 ≤ b ∧ b < x + 404) ∨ b = t ∨ b = t + 1 → I' b = I b) (e1 : P' (x + 75) = P (x + 75)) (e2 : ∀ b : Nat, x + 156 ≤ b ∧ b < x + 404 → P' b = P b) : XB I' P' x t m β υ := by
  obtain ⟨a1, a2, a3, a4, a5⟩ := h
  refine ⟨fun j h0 h1 => by rw [e1]; exact a1 j h0 h1, a2, by omega, em, fun j h0 h1 => ?_⟩
  have b1 := a1 j h0 (by omega)
  obtain ⟨c1, ⟨ν, c2⟩, c3⟩ := a5 j h0 (by omega)
  exact ⟨by rw [e2 _ (by omega)]; exact c1, ⟨ν, c2.fr (fun b q => e b (by omega))⟩, c3⟩
def ee (J : HI) (T : HT) (z : Nat) (v0 : Option Value) (Φ : HI → HP → Prop) : QT := fun v I' J' P' T' z' => v = v0 ∧ J' = J ∧ T' = T ∧ z' = z ∧ Φ I' P'
theorem ee_i {v0 : Option Value} {Φ : HI → HP → Prop} (h : Φ I P) : ee J T z v0 Φ v0 I J P T z := ⟨rfl, rfl, rfl, rfl, h⟩
theorem k_e {M : MI} {R : Room} {Z : ZP} {cu su pc : Nat} {ls : List (Option Value)} {st : List Value} {v0 : Option Value} {Φ : HI → HP → Prop} (k : ∀ I' P', Φ I' P' → PW G M R Z cu su I' J P' T z pc ls (v0.toList ++ st)) : ∀ v I' J' P' T' z', ee J T z v0 Φ v I' J' P' T' z' → PW G M R Z cu su I' J' P' T' z' pc ls (v.toList ++ st) := by
  intro v I' J' P' T' z' h
  obtain ⟨rfl, rfl, rfl, rfl, h⟩ := h
  exact k I' P' h
def kb (υ : Int → Int → Int) (n : Int) (σ : Int → Int) : Int → Int → Int := if n = 8 then fun j => if j = 7 then σ else υ (j + 1) else fun j => if j = n then σ else υ j
/-- only what is kept has changed -/
def SNF (x : Nat) (n : Int) (I I' : HI) (P P' : HP) : Prop := (∀ b : Nat, (b < x + 156 ∨ x + 404 ≤ b) → b ≠ x → I' b = I b) ∧ I' x = us (I x) 8 (kn n + 1) ∧ PF x P P' ∧ ∀ b : Nat, (b < x + 156 ∨ x + 404 ≤ b) → b ≠ x + 75 → P' b = P b
theorem C_snap (hx : XS G I P T x t σ μ) {n : Int} {β : Int → Nat} {υ : Int → Int → Int} (hB : XB I P x t n β υ)
    (hQ : ∀ I' P' β', SNF x n I I' P P' → XS G I' P' T x t σ μ → XB I' P' x t (kn n + 1) β' (kb υ n σ) → Q none I' J P' T z) : MC G yX1_snap (ws_ yX1_snap cX1_snap 3 (none : Option FieldType)) (d + 3) 0 0 [.ref x] I J P T z Q nX := by
  have hb := hx.b
  have htx := hx.tx
  have hn := hB.2.2.1
  refine MC.of (by decide) (Nat.le_of_ble_eq_true rfl) ?_
  show PW G mX1_snap (rmD (d + 3) 0 0) (MZ G Q nX 0 0) 0 0 I J P T z 0 [some (.ref x), none, none] []
  have body : ∀ (I1 : HI) (P1 : HP) (β : Int → Nat) (υ : Int → Int → Int) (n : Int) (l1 l2 : Option Value), XS G I1 P1 T x t σ μ → XB I1 P1 x t n β υ → n ≤ 7 → (∀ I' P', (∀ b : Nat, (b < x + 156 ∨ x + 404 ≤ b) → b ≠ x → I' b = I1 b) → I' x = us (I1 x) 8 (n + 1) → PF x P1 P' → (∀ b : Nat, (b < x + 156 ∨ x + 404 ≤ b) → P' b = P1 b) → XS G I' P' T x t σ μ → XB I' P' x t (n + 1) β (fun j => if j = n then σ else υ j) → Q none I' J P' T z) → PW G mX1_snap (rmD (d + 3) 0 0) (MZ G Q nX 0 0) 0 0 I1 J P1 T z 62 [some (.ref x), l1, l2] [] := by
    intro I1 P1 β υ n l1 l2 hx hB hn hQ
    have hn0 := hB.2.2.1
    have en : I1 x 8 = n := hB.2.2.2.1
    have ha := hB.1 n (by omega) (by omega)
    have hg0 := hB.g0 hx.x (j := n) (by omega) (by omega)
    refine r_aload_n (pc := 62) dX1_snap_62 rfl rfl ?_
    refine r_getr (pc := 63) (c := 1) (k := 7) (kz := 7) hx.o cok_1 (Nat.le_of_ble_eq_true rfl) q517 ⟨rfl, rfl⟩ (Or.inl rfl) rfl (fun _ _ _ => rfl) hx.p_before dX1_snap_63 ?_
    refine r_aload_n (pc := 66) dX1_snap_66 rfl rfl ?_
    refine r_geti (pc := 67) (c := 1) (k := 8) (kz := 8) hx.o cok_1 (Nat.le_of_ble_eq_true rfl) q518 ⟨rfl, rfl⟩ (Or.inl rfl) rfl (fun _ _ _ => rfl) dX1_snap_67 (fun hr67 => ?_)
    rw [en] at hr67 ⊢
    refine r_aald (pc := 70) hx.t_before ⟨by decide, by decide⟩ rfl (fun _ _ _ => rfl) (by omega) (by omega) (hB.q (by omega) (by omega)) dX1_snap_70 ?_
    refine r_aload_n (pc := 71) dX1_snap_71 rfl rfl ?_
    refine r_getr (pc := 72) (c := 1) (k := 4) (kz := 4) hx.o cok_1 (Nat.le_of_ble_eq_true rfl) q514 ⟨rfl, rfl⟩ (Or.inl rfl) rfl (fun _ _ _ => rfl) hx.p_now dX1_snap_72 ?_
    refine r_callV1 (pc := 75) (C_as (Q := ee J T z (some (.ref (β n))) (fun I' P' => P' = up P1 (β n) 0 (some t) ∧ GF (β n) I1 I' ∧ GR I' (β n) t σ μ)) hg0 hx.g (by omega) (by omega) hx.r (fun I' a b => ee_i ⟨rfl, a, b⟩)) im_X3_as q1268 q1266 hg0.o rfl dX1_snap_75 (Nat.le_of_ble_eq_true rfl) (Nat.le_of_ble_eq_true rfl) rfl (k_e fun I2 P2 h2 => ?_) (fun _ _ _ _ _ _ _ hx => no_x hx)
    obtain ⟨rfl, hf, hr⟩ := h2
    have hpf : PF x P1 (up P1 (β n) 0 (some t)) := PF.rf.upd (by unfold okP; omega)
    have hx2 : XS G I2 (up P1 (β n) 0 (some t)) T x t σ μ := hx.pf hpf (fun b q => hf b (by omega)) (up_n (by omega)) (up_n (by omega))
    have e2 : I2 x = I1 x := hf x (by omega)
    show PW G mX1_snap (rmD (d + 3) 0 0) (MZ G Q nX 0 0) 0 0 I2 J (up P1 (β n) 0 (some t)) T z 78 [some (.ref x), l1, l2] [.ref (β n)]
    refine r_pop (pc := 78) dX1_snap_78 rfl ?_
    refine r_aload_n (pc := 79) dX1_snap_79 rfl rfl ?_
    refine r_dup (pc := 80) dX1_snap_80 rfl ?_
    refine r_geti (pc := 81) (c := 1) (k := 8) (kz := 8) hx2.o cok_1 (Nat.le_of_ble_eq_true rfl) q518 ⟨rfl, rfl⟩ (Or.inl rfl) rfl (fun _ _ _ => rfl) dX1_snap_81 (fun hr81 => ?_)
    rw [e2, en] at hr81 ⊢
    refine r_iconst (pc := 84) dX1_snap_84 ?_
    refine r_iadd (pc := 85) dX1_snap_85 ?_
    refine r_puti (pc := 86) (c := 1) (k := 8) (kz := 8) hx2.o cok_1 (Nat.le_of_ble_eq_true rfl) q518 ⟨rfl, rfl⟩ (Or.inl rfl) rfl (by omega) rfl rfl (by omega) (fun _ _ _ => rfl) ⟨rfl, rfl⟩ dX1_snap_86 ?_
    refine r_return (pc := 89) rfl dX1_snap_89 (Nat.le_of_ble_eq_true rfl) (Nat.le_of_ble_eq_true rfl) ?_
    have f8 : ∀ b : Nat, b ≠ x → ui I2 x 8 (n + 1) b = I2 b := fun b q => funext (fun i => ui_n q)
    have e8 : ui I2 x 8 (n + 1) x = us (I1 x) 8 (n + 1) := by funext i; unfold ui us; rw [e2]; simp
    refine hQ _ _ (fun b q r => by rw [f8 b r]; exact hf b (by omega)) e8 hpf (fun b q => funext (fun i => up_n (by omega))) (hx2.fr (fun b q => f8 b (by omega))) ?_
    obtain ⟨a1, a2, a3, a4, a5⟩ := hB
    refine ⟨fun j h0 h1 => ?_, a2, by omega, by rw [e8]; exact us_s, fun j h0 h1 => ?_⟩
    · rw [up_n (by omega)]; exact a1 j h0 h1
    · by_cases q : j = n
      · subst q
        simp only [if_true]
        refine ⟨by simp [up], ⟨μ, hr.fr (fun b q => f8 b (by omega))⟩, hx.w⟩
      · simp only [if_neg q]
        obtain ⟨c1, ⟨ν, c2⟩, c3⟩ := a5 j h0 (by omega)
        have b1 := a1 j h0 (by omega)
        have b2 : β j ≠ β n := fun e => q (a2 j n h0 (by omega) (by omega) (by omega) e)
        refine ⟨by rw [up_n b2]; exact c1, ⟨ν, c2.fr (fun b q => by rw [f8 b (by omega)]; exact hf b (by omega))⟩, c3⟩
  have en : I x 8 = n := hB.2.2.2.1
  refine r_aload_n (pc := 0) dX1_snap_0 rfl rfl ?_
  refine r_geti (pc := 1) (c := 1) (k := 8) (kz := 8) hx.o cok_1 (Nat.le_of_ble_eq_true rfl) q518 ⟨rfl, rfl⟩ (Or.inl rfl) rfl (fun _ _ _ => rfl) dX1_snap_1 (fun hr1 => ?_)
  rw [en] at hr1 ⊢
  refine r_bipush (pc := 4) dX1_snap_4 (by decide +kernel) ?_
  refine r_icmp_ne (pc := 6) 62 dX1_snap_6 rfl (by omega) (by omega) (fun h6 => ?_) (fun h6 => ?_)
  · refine body I P β υ n _ _ hx hB (by omega) (fun I' P' c1 c2 c3 c4 c5 c6 => ?_)
    have e1 : kn n = n := if_neg h6
    have e2 : kb υ n σ = fun j => if j = n then σ else υ j := if_neg h6
    refine hQ I' P' β ⟨c1, by rw [e1]; exact c2, c3, fun b q _ => c4 b q⟩ c5 (by rw [e1, e2]; exact c6)
  obtain rfl : n = 8 := h6
  have hg0 := hB.g0 hx.x (j := 0) (by omega) (by omega)
  refine r_aload_n (pc := 9) dX1_snap_9 rfl rfl ?_
  refine r_getr (pc := 10) (c := 1) (k := 7) (kz := 7) hx.o cok_1 (Nat.le_of_ble_eq_true rfl) q517 ⟨rfl, rfl⟩ (Or.inl rfl) rfl (fun _ _ _ => rfl) hx.p_before dX1_snap_10 ?_
  refine r_iconst (pc := 13) dX1_snap_13 ?_
  refine r_aald (pc := 14) hx.t_before ⟨by decide, by decide⟩ rfl (fun _ _ _ => rfl) (by omega) (by omega) (hB.q (by omega) (by omega)) dX1_snap_14 ?_
  refine r_astore_n1 (pc := 15) (Nat.le_of_ble_eq_true rfl) dX1_snap_15 rfl ?_
  refine r_iconst (pc := 16) dX1_snap_16 ?_
  refine r_istore_n2 (pc := 17) (Nat.le_of_ble_eq_true rfl) dX1_snap_17 rfl ?_
  have loop : ∀ (m : Nat) (k : Int) (P1 : HP), 1 ≤ k → k + m = 8 → PF x P P1 → (∀ b : Nat, b ≠ x + 75 → P1 b = P b) → (∀ j : Int, 0 ≤ j → j < 8 → P1 (x + 75) j = some (if j < k - 1 then β (j + 1) else β j)) → PW G mX1_snap (rmD (d + 3) 0 0) (MZ G Q nX 0 0) 0 0 I J P1 T z 18 [some (.ref x), some (.ref (β 0)), some (iv k)] [] := by
    intro m
    induction m with
    | zero =>
      intro k P1 h0 h1 hp he hj
      obtain rfl : k = 8 := by omega
      have hx1 : XS G I P1 T x t σ μ := hx.pf hp (fun _ _ => rfl) (by rw [he x (by omega)]) (by rw [he (x + 13) (by omega)])
      refine r_iload_n (pc := 18) dX1_snap_18 rfl rfl ?_
      refine r_bipush (pc := 19) dX1_snap_19 (by decide +kernel) ?_
      refine r_icmp_ge (pc := 21) 44 dX1_snap_21 rfl (by omega) (by omega) (fun h21 => ?_) (fun h21 => ?_)
      · refine r_aload_n (pc := 44) dX1_snap_44 rfl rfl ?_
        refine r_getr (pc := 45) (c := 1) (k := 7) (kz := 7) hx1.o cok_1 (Nat.le_of_ble_eq_true rfl) q517 ⟨rfl, rfl⟩ (Or.inl rfl) rfl (fun _ _ _ => rfl) hx1.p_before dX1_snap_45 ?_
        refine r_bipush (pc := 48) dX1_snap_48 (by decide +kernel) ?_
        refine r_aload_n (pc := 50) dX1_snap_50 rfl rfl ?_
        refine r_aast (pc := 51) hx1.t_before ⟨by decide, by decide⟩ rfl (by omega) (by omega) (by omega) hg0.o (Or.inl rfl) dX1_snap_51 ?_
        have hp2 : PF x P (up P1 (x + 75) 7 (some (β 0))) := hp.upd (by unfold okP; omega)
        have hx2 : XS G I (up P1 (x + 75) 7 (some (β 0))) T x t σ μ := hx.pf hp2 (fun _ _ => rfl) (by rw [up_n (by omega), he x (by omega)]) (by rw [up_n (by omega), he (x + 13) (by omega)])
        refine r_aload_n (pc := 52) dX1_snap_52 rfl rfl ?_
        refine r_dup (pc := 53) dX1_snap_53 rfl ?_
        refine r_geti (pc := 54) (c := 1) (k := 8) (kz := 8) hx2.o cok_1 (Nat.le_of_ble_eq_true rfl) q518 ⟨rfl, rfl⟩ (Or.inl rfl) rfl (fun _ _ _ => rfl) dX1_snap_54 (fun hr54 => ?_)
        rw [en] at hr54 ⊢
        refine r_iconst (pc := 57) dX1_snap_57 ?_
        refine r_isub (pc := 58) dX1_snap_58 ?_
        refine r_puti (pc := 59) (c := 1) (k := 8) (kz := 8) hx2.o cok_1 (Nat.le_of_ble_eq_true rfl) q518 ⟨rfl, rfl⟩ (Or.inl rfl) rfl (by omega) rfl rfl (by omega) (fun _ _ _ => rfl) ⟨rfl, rfl⟩ dX1_snap_59 ?_
        have f8 : ∀ b : Nat, b ≠ x → ui I x 8 (8 - 1) b = I b := fun b q => funext (fun i => ui_n q)
        have eP : ∀ b : Nat, b ≠ x + 75 → up P1 (x + 75) 7 (some (β 0)) b = P b := fun b q => by rw [← he b q]; exact funext (fun i => up_n q)
        obtain ⟨a1, a2, a3, a4, a5⟩ := hB
        refine body (ui I x 8 (8 - 1)) (up P1 (x + 75) 7 (some (β 0))) (fun j => if j = 7 then β 0 else β (j + 1)) (fun j => υ (j + 1)) 7 _ _ (hx2.fr (fun b q => f8 b (by omega))) ⟨fun j h0 h1 => ?_, fun i j h0 h1 h2 h3 e => ?_, by omega, ui_s, fun j h0 h1 => ?_⟩ (by omega) (fun I' P' c1 c2 c3 c4 c5 c6 => ?_)
        · have := a1 0 (by omega) (by omega)
          by_cases q : j = 7
          · subst q
            simp only [if_true]
            exact ⟨by simp [up], this.2⟩
          · simp only [if_neg q]
            have b1 := a1 (j + 1) (by omega) (by omega)
            refine ⟨?_, b1.2⟩
            rw [show up P1 (x + 75) 7 (some (β 0)) (x + 75) j = P1 (x + 75) j by simp [up, q], hj j h0 h1, if_pos (by omega)]
        · simp only at e
          by_cases q1 : i = 7 <;> by_cases q2 : j = 7
          · omega
          · rw [if_pos q1, if_neg q2] at e
            have := a2 0 (j + 1) (by omega) (by omega) (by omega) (by omega) e
            omega
          · rw [if_neg q1, if_pos q2] at e
            have := a2 (i + 1) 0 (by omega) (by omega) (by omega) (by omega) e
            omega
          · rw [if_neg q1, if_neg q2] at e
            have := a2 (i + 1) (j + 1) (by omega) (by omega) (by omega) (by omega) e
            omega
        · simp only [if_neg (show ¬ j = 7 by omega)]
          have b1 := a1 (j + 1) (by omega) (by omega)
          obtain ⟨c1, ⟨ν, c2⟩, c3⟩ := a5 (j + 1) (by omega) (by omega)
          exact ⟨by rw [eP _ (by omega)]; exact c1, ⟨ν, c2.fr (fun b q => f8 b (by omega))⟩, c3⟩
        · have e1 : kn 8 = 7 := rfl
          have e2 : kb υ 8 σ = fun j => if j = 7 then σ else υ (j + 1) := rfl
          refine hQ I' P' _ ⟨fun b q r => by rw [c1 b q r]; exact f8 b r, ?_, hp2.tr c3, fun b q r => by rw [c4 b q]; exact eP b r⟩ c5 (by rw [e1, e2]; exact c6)
          rw [c2, e1]
          funext i
          unfold ui us
          by_cases q : i = 8 <;> simp [q]
      omega
    | succ m ih =>
      intro k P1 h0 h1 hp he hj
      have hx1 : XS G I P1 T x t σ μ := hx.pf hp (fun _ _ => rfl) (by rw [he x (by omega)]) (by rw [he (x + 13) (by omega)])
      have hgk := hB.g0 hx.x (j := k) (by omega) (by omega)
      have hpk : P1 (x + 75) k = some (β k) := by rw [hj k (by omega) (by omega), if_neg (by omega)]
      refine r_iload_n (pc := 18) dX1_snap_18 rfl rfl ?_
      refine r_bipush (pc := 19) dX1_snap_19 (by decide +kernel) ?_
      refine r_icmp_ge (pc := 21) 44 dX1_snap_21 rfl (by omega) (by omega) (fun h21 => ?_) (fun h21 => ?_)
      · omega
      refine r_aload_n (pc := 24) dX1_snap_24 rfl rfl ?_
      refine r_getr (pc := 25) (c := 1) (k := 7) (kz := 7) hx1.o cok_1 (Nat.le_of_ble_eq_true rfl) q517 ⟨rfl, rfl⟩ (Or.inl rfl) rfl (fun _ _ _ => rfl) hx1.p_before dX1_snap_25 ?_
      refine r_iload_n (pc := 28) dX1_snap_28 rfl rfl ?_
      refine r_iconst (pc := 29) dX1_snap_29 ?_
      refine r_isub (pc := 30) dX1_snap_30 ?_
      refine r_aload_n (pc := 31) dX1_snap_31 rfl rfl ?_
      refine r_getr (pc := 32) (c := 1) (k := 7) (kz := 7) hx1.o cok_1 (Nat.le_of_ble_eq_true rfl) q517 ⟨rfl, rfl⟩ (Or.inl rfl) rfl (fun _ _ _ => rfl) hx1.p_before dX1_snap_32 ?_
      refine r_iload_n (pc := 35) dX1_snap_35 rfl rfl ?_
      refine r_aald (pc := 36) hx1.t_before ⟨by decide, by decide⟩ rfl (fun _ _ _ => rfl) (by omega) (by omega) hpk dX1_snap_36 ?_
      refine r_aast (pc := 37) hx1.t_before ⟨by decide, by decide⟩ rfl (by omega) (by omega) (by omega) hgk.o (Or.inl rfl) dX1_snap_37 ?_
      refine r_iinc2 (pc := 38) (Nat.le_of_ble_eq_true rfl) dX1_snap_38 rfl ?_
      refine r_goto (pc := 41) 18 dX1_snap_41 rfl ?_
      refine ih (k + 1) _ (by omega) (by omega) (hp.upd (by unfold okP; omega)) (fun b q => by rw [← he b q]; exact funext (fun i => up_n q)) (fun j g0 g1 => ?_)
      by_cases q : j = k - 1
      · subst q
        rw [if_pos (by omega), show k - 1 + 1 = k by omega]
        simp [up]
      · rw [show up P1 (x + 75) (k - 1) (some (β k)) (x + 75) j = P1 (x + 75) j by simp [up, q], hj j g0 g1]
        by_cases q2 : j < k - 1
        · rw [if_pos q2, if_pos (by omega)]
        · rw [if_neg q2, if_neg (by omega)]
  exact loop 7 1 P (by omega) (by omega) PF.rf (fun _ _ => rfl) (fun j h0 h1 => by rw [if_neg (by omega)]; exact hB.q h0 h1)
end L3
