/-! ===== the component: an evening is read and lived ===== -/
def e_tab (τ ρ σ : Int → Int) : Nat → TS → (Int → Int) → ER
  | 0, s, rd => (0, s, rd)
  | n + 1, s, rd =>
    if s.1 11 = 0 then (1, s, rd)
    else if (e_line τ ρ σ s rd).1 = 0 then (0, (e_line τ ρ σ s rd).2.1, (e_line τ ρ σ s rd).2.2)
    else if ¬ isG 59 (e_line τ ρ σ s rd).2.1 then (0, g_bad 1 (e_line τ ρ σ s rd).2.1, (e_line τ ρ σ s rd).2.2)
    else e_tab τ ρ σ n (g_w 52 ((g_nx τ (e_line τ ρ σ s rd).2.1).1 52 + 1) (g_nx τ (e_line τ ρ σ s rd).2.1)) (e_line τ ρ σ s rd).2.2
def evs (rd : Int → Int) : Nat → EV → EV
  | 0, e => e
  | n + 1, e => ev2 rd (4 * (n : Int)) (evs rd n e)
theorem evs_cg {rd rd' : Int → Int} {e : EV} : ∀ n : Nat, (∀ j : Int, 0 ≤ j → j < 4 * (n : Int) → rd' j = rd j) → evs rd' n e = evs rd n e
  | 0, _ => rfl
  | n + 1, h => by
    show ev2 rd' (4 * (n : Int)) (evs rd' n e) = ev2 rd (4 * (n : Int)) (evs rd n e)
    rw [evs_cg n (fun j p q => h j p (by omega))]
    unfold ev2
    rw [h _ (by omega) (by omega), h _ (by omega) (by omega), h _ (by omega) (by omega), h _ (by omega) (by omega)]
theorem e_1_rd {τ ρ σ rd : Int → Int} {to a : Int} {s : TS} {j : Int} (hj : j < to) : (e_1 τ ρ σ to a s rd).2.2 j = rd j := by
  unfold e_1 e_2 e_3 e_tail
  dsimp only
  split
  · rfl
  · split
    · rfl
    · split
      · rfl
      · split
        · rfl
        · split
          · dsimp only; rw [us_n (by omega), us_n (by omega), us_n (by omega), us_n (by omega)]
          · split
            · dsimp only; rw [us_n (by omega), us_n (by omega), us_n (by omega), us_n (by omega)]
            · split
              · dsimp only; rw [us_n (by omega), us_n (by omega), us_n (by omega), us_n (by omega)]
              · dsimp only; rw [us_n (by omega), us_n (by omega), us_n (by omega), us_n (by omega), us_n (by omega)]
theorem g_takes_52 {τ : Int → Int} {lo hi : Int} {s : TS} {j : Int} (hj : 19 ≤ j) : (g_takes τ lo hi s).2.1 j = s.1 j := by
  unfold g_takes
  split
  · show us (us s.1 15 1) 16 (s.1 12) j = _; rw [us_n (by omega), us_n (by omega)]
  · split
    · show us (us s.1 15 2) 16 (s.1 12) j = _; rw [us_n (by omega), us_n (by omega)]
    · have : (g_nx τ (g_w 18 (s.1 14) s)).1 j = (g_w 18 (s.1 14) s).1 j := t_next_f (by omega)
      show (g_nx τ (g_w 18 (s.1 14) s)).1 j = _
      rw [this]
      exact us_n (by omega)
theorem e_1_52 {τ ρ σ rd : Int → Int} {to a : Int} {s : TS} {j : Int} (hj : 19 ≤ j) : (e_1 τ ρ σ to a s rd).2.1.1 j = s.1 j := by
  have nx : ∀ s : TS, (g_nx τ s).1 j = s.1 j := fun s => t_next_f (by omega)
  have bd : ∀ (k : Int) (s : TS), (g_bad k s).1 j = s.1 j := fun k s => by show us (us s.1 15 k) 16 (s.1 12) j = _; rw [us_n (by omega), us_n (by omega)]
  unfold e_1 e_2 e_3 e_tail
  dsimp only
  split
  · exact bd _ _
  · split
    · rw [bd, nx]
    · split
      · rw [bd, nx]
      · split
        · rw [g_takes_52 hj, nx, nx]
        · split
          · rw [nx, g_takes_52 hj, nx, nx]
          · split
            · rw [bd, g_takes_52 hj, nx, nx]
            · split
              · rw [g_takes_52 hj, nx, g_takes_52 hj, nx, nx]
              · dsimp only; rw [g_takes_52 hj, nx, g_takes_52 hj, nx, nx]
section P21
variable {G : GE} {I J I' J' : HI} {P P' : HP} {T T' : HT} {z z' z0 r tp g t en d : Nat} {Q : QT} {X : XT} {τ ρ σ rd : Int → Int} {Ls : List (List Int)} {s s' : TS} {e e' : EV}
/-- before the first token -/
def EW0 (G : GE) (I : HI) (P : HP) (T : HT) (z0 z r tp g t en : Nat) (τ : Int → Int) (Ls : List (List Int)) (s : TS) (e : EV) : Prop :=
  (G.2.2.2.1 ≤ z0 ∧ z0 ≤ r ∧ tp < z0 ∧ r < z ∧ g + 31 ≤ z0 ∧ t + 11 ≤ z0 ∧ (tp < g ∨ g + 31 ≤ tp) ∧ G.2.2.2.1 ≤ g) ∧ CS G I P T ∧ RB I P T 15 r tp τ s ∧ EJ G I P T r g t e ∧ NL G I P T (t + 1) en Ls ∧ (∀ i : Int, 0 ≤ i → i < Ls.length → WD (Ls.getD i.toNat []) ∧ cod (Ls.getD i.toNat []) = s.2.2.2 (0 + i)) ∧ (Ls.length : Int) = e.1 1 ∧ (0 ≤ s.1 4 ∧ s.1 4 ≤ s.1 3 ∧ s.1 3 ≤ 940 ∧ 0 ≤ s.1 5 ∧ s.1 5 ≤ 940)
theorem EW0.go (h : EW0 G I P T z0 z r tp g t en τ Ls s e) (hz : z ≤ z') (hf : RF z r I J P T I' J' P' T') (hR : RD I' P' T' 15 r tp τ (g_nx τ s)) (hzz : ∀ a, z ≤ a → (T a).1 = 0) : EQv G z0 z r tp g t en τ Ls I J P T (g_nx τ s) e I' J' P' T' z' := by
  obtain ⟨a1, a2, a3, a4, a5, a6, a7, a8⟩ := h
  have hlt : ∀ a, (T a).1 ≠ 0 → a < z := fun a q => Nat.not_le.mp fun c => q (hzz a c)
  have hr35 : (T r).1 = 35 := by rw [a3.1]
  have hh : ∀ a, (T a).1 ≠ 0 → (T a).1 ≠ 35 → I' a = I a ∧ P' a = P a ∧ T' a = T a := fun a p q => by
    have := hf.1 a (hlt a p) (fun c => q (by rw [c]; exact hr35))
    exact ⟨this.1, this.2.2, hf.2.1 a (hlt a p)⟩
  obtain ⟨b1, b2, b3, b4, b5, b6, b7, b8, b9, b10⟩ := a4
  have hP : ∀ a, a < z0 → P' a = P a := fun a q => (hf.1 a (by omega) (by omega)).2.2
  have hT : ∀ a, a < z0 → T' a = T a := fun a q => hf.2.1 a (by omega)
  have hI : ∀ a, a < z0 → I' a = I a := fun a q => (hf.1 a (by omega) (by omega)).1
  have h5 : (g_nx τ s).1 5 = s.1 5 := t_next_f (by omega)
  refine ⟨hz, hf.fs (fun a q => by have q1 : a < z0 := q.1; omega), fun a q => ⟨(hf.1 a (by omega) (by omega)).2.1, hP a q, hT a q⟩, ⟨a1.1, a1.2.1, a1.2.2.1, by omega, a1.2.2.2.2⟩, a2.fz (z := 0) (J := I) (J1 := I) (fun a q => ⟨hI a (by omega), hP a (by omega), hT a (by omega)⟩), hR, ⟨⟨hR.1.1, b1.2⟩, ?_, ⟨?_, ?_, ?_⟩, ?_, b5, ?_, ?_, ?_, b9, b10⟩, a5.cg (fun a q => hh a (by omega) (by omega)), a6, a7, TI_nx a8.1 a8.2.1 a8.2.2.1 a8.2.2.2.1, by rw [h5]; exact a8.2.2.2.2⟩
  · rw [hf.2.2.2.1 9 (by omega)]; exact b2
  · exact (b3.1.ct (fun a p q => hT a (by omega))).pf (fun j _ => by rw [hP g (by omega)]) ⟨hP _ (by omega), hP _ (by omega), hP _ (by omega)⟩
  · exact b3.2.1.cg (hP _ (by omega)) (hP _ (by omega)) (fun a p q => hT a (by omega))
  · rw [hP g (by omega)]; exact b3.2.2
  · exact b4.fr (fun b q => hI b (by omega))
  · rw [hf.2.2.2.2 10 (by omega)]; exact b6
  · rw [hf.2.2.2.2 11 (by omega)]; exact b7
  · rw [hf.2.2.2.2 12 (by omega)]; exact b8
/-- a number of the model's alone is written -/
theorem EWd.w {j v : Int} (hj : 15 ≤ j) (h : EWd G I P T z0 z r tp g t en τ Ls s e) : EWd G I P T z0 z r tp g t en τ Ls (g_w j v s) e := by
  obtain ⟨a1, a2, a3, a4, a5, a6, a7, a8, a9⟩ := h
  have ew : ∀ i : Int, i ≠ j → (g_w j v s).1 i = s.1 i := fun i q => us_n q
  refine ⟨a1, a2, ⟨?_, ?_⟩, a4, a5, a6, a7, TI.us a8 hj, by rw [ew 5 (by omega)]; exact a9⟩
  · obtain ⟨b1, b2, b3, b4, b5, b6, b7, b8⟩ := a3.1
    exact ⟨b1, b2, b3, b4, by rw [ew 3 (by omega)]; exact b5, by rw [ew 5 (by omega)]; exact b6, by rw [ew 4 (by omega)]; exact b7, b8⟩
  · have := a3.2
    unfold TK at this ⊢
    rw [ew 12 (by omega), ew 11 (by omega), ew 14 (by omega)]
    exact this
/-- how many lines, of an evening so far -/
theorem ev2_l {to : Int} : e.2.2.1 ≤ (ev2 rd to e).2.2.1 ∧ (ev2 rd to e).2.2.1 ≤ e.2.2.1 + 1 := by
  unfold ev2
  split
  · unfold ev1
    split <;> dsimp only <;> omega
  · omega
theorem evs_l : ∀ n : Nat, e.2.2.1 ≤ (evs rd n e).2.2.1 ∧ (evs rd n e).2.2.1 ≤ e.2.2.1 + n
  | 0 => by show e.2.2.1 ≤ e.2.2.1 ∧ e.2.2.1 ≤ e.2.2.1 + (0 : Nat); omega
  | n + 1 => by
    have a := evs_l n
    have b := ev2_l (rd := rd) (to := 4 * (n : Int)) (e := evs rd n e)
    show e.2.2.1 ≤ (ev2 rd (4 * (n : Int)) (evs rd n e)).2.2.1 ∧ (ev2 rd (4 * (n : Int)) (evs rd n e)).2.2.1 ≤ e.2.2.1 + (n + 1 : Nat)
    omega
end P21
