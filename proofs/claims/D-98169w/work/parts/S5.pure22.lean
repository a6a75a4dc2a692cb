/-! ===== plain: an evening that is read, then lived ===== -/
section PU22
variable {τ ρ σ rd : Int → Int} {s : TS} {e : EV}
/-- the first n lines that were read are as told -/
def RDk (σ rd : Int → Int) (n : Int) : Prop := ∀ i, 0 ≤ i → i < n → isP σ (rd (4 * i)) ∧ isP σ (rd (4 * i + 1)) ∧ isK σ (rd (4 * i + 2)) ∧ 0 ≤ rd (4 * i + 3) ∧ rd (4 * i + 3) ≤ 4
theorem bad16 {k : Int} (h : TI s.1) : 0 ≤ (g_bad k s).1 16 ∧ (g_bad k s).1 16 ≤ 940 := by
  have e : (g_bad k s).1 16 = s.1 12 := by show us (us s.1 15 k) 16 (s.1 12) 16 = _; exact us_s
  have a1 := h.2.2.2.2.2.2.1; have a2 := h.2.2.2.2.2.2.2.1; have a3 := h.2.2.1
  omega
theorem takes16 {lo hi : Int} (h : TI s.1) (h0 : (g_takes τ lo hi s).1 = 0) : 0 ≤ (g_takes τ lo hi s).2.1 16 ∧ (g_takes τ lo hi s).2.1 16 ≤ 940 := by
  unfold g_takes at h0 ⊢
  split
  · exact bad16 h
  · split
    · exact bad16 h
    · rename_i a b
      rw [if_neg a, if_neg b] at h0
      exact absurd (show (1 : Int) = 0 from h0) (by decide)
def EOk (σ : Int → Int) (to a : Int) (r : ER) : Prop := (r.1 = 0 ∨ r.1 = 1) ∧ (r.1 = 0 → 0 ≤ r.2.1.1 16 ∧ r.2.1.1 16 ≤ 940) ∧ (r.1 = 1 → TI r.2.1.1 ∧ r.2.2 to = a ∧ isP σ (r.2.2 (to + 1)) ∧ isK σ (r.2.2 (to + 2)) ∧ 0 ≤ r.2.2 (to + 3) ∧ r.2.2 (to + 3) ≤ 4)
theorem EOk.bad {to a : Int} {k : Int} (h : TI s.1) : EOk σ to a (0, g_bad k s, rd) := ⟨Or.inl rfl, fun _ => bad16 h, fun q => absurd (show (0 : Int) = 1 from q) (by decide)⟩
theorem e_tail_ok {to a b k : Int} (h : TI s.1) (h1 : rd to = a) (h2 : rd (to + 1) = b) (h3 : rd (to + 2) = k) (h4 : rd (to + 3) = 0) (hb : isP σ b) (hk : isK σ k) : EOk σ to a (e_tail τ to s rd) := by
  unfold e_tail
  split
  · exact ⟨Or.inr rfl, fun q => absurd (show (1 : Int) = 0 from q) (by decide), fun _ => ⟨h.nx, h1, by show isP σ (rd (to + 1)); rw [h2]; exact hb, by show isK σ (rd (to + 2)); rw [h3]; exact hk, by show 0 ≤ rd (to + 3); omega, by show rd (to + 3) ≤ 4; omega⟩⟩
  · split
    · exact EOk.bad h
    · simp only
      have w : TI (g_nx τ s).1 := h.nx
      have gt := g_takes_T (τ := τ) (lo := 1) (hi := 4) w
      have gv := g_takes_v (τ := τ) (lo := 1) (hi := 4) (s := g_nx τ s)
      have g6 := takes16 (τ := τ) (lo := 1) (hi := 4) w
      generalize g_takes τ 1 4 (g_nx τ s) = r at *
      split
      · rename_i c
        exact ⟨Or.inl rfl, fun _ => g6 c, fun q => absurd (show (0 : Int) = 1 from q) (by decide)⟩
      · rename_i c
        have v := gv c
        refine ⟨Or.inr rfl, fun q => absurd (show (1 : Int) = 0 from q) (by decide), fun _ => ⟨gt.2 c, ?_, ?_, ?_, ?_⟩⟩
        · show us rd (to + 3) _ to = a; rw [us_n (by omega)]; exact h1
        · show isP σ (us rd (to + 3) _ (to + 1)); rw [us_n (by omega), h2]; exact hb
        · show isK σ (us rd (to + 3) _ (to + 2)); rw [us_n (by omega), h3]; exact hk
        · show 0 ≤ us rd (to + 3) _ (to + 3) ∧ us rd (to + 3) _ (to + 3) ≤ 4; rw [us_s]; omega
theorem e_1_ok {to a : Int} (h : TI s.1) : EOk σ to a (e_1 τ ρ σ to a s rd) := by
  unfold e_1
  split
  · exact EOk.bad h
  · have w1 : TI (g_nx τ s).1 := h.nx
    generalize g_nx τ s = s1 at *
    unfold e_2
    split
    · exact EOk.bad w1
    · split
      · exact EOk.bad w1
      · rename_i c
        have w2 : TI (g_nx τ s1).1 := w1.nx
        have fr := t_find_r (ν := s1.2.2.2) (w := s1.2.1) (f := 0) (σ 1).toNat 0 (by omega)
        generalize t_find s1.2.2.2 s1.2.1 0 0 (σ 1).toNat = b at *
        generalize g_nx τ s1 = s2 at *
        unfold e_3
        simp only
        have gt := g_takes_T (τ := τ) (lo := 0) (hi := σ 0 - 1) w2
        have gv := g_takes_v (τ := τ) (lo := 0) (hi := σ 0 - 1) (s := s2)
        have g6 := takes16 (τ := τ) (lo := 0) (hi := σ 0 - 1) w2
        generalize g_takes τ 0 (σ 0 - 1) s2 = r at *
        split
        · rename_i c
          exact ⟨Or.inl rfl, fun _ => g6 c, fun q => absurd (show (0 : Int) = 1 from q) (by decide)⟩
        · rename_i c2
          have v := gv c2
          refine e_tail_ok (b := b) (k := r.2.1 18) (gt.2 c2) ?_ ?_ ?_ us_s (by omega) (by omega)
          · rw [us_n (by omega), us_n (by omega), us_n (by omega), us_s]
          · rw [us_n (by omega), us_n (by omega), us_s]
          · rw [us_n (by omega), us_s]
theorem e_line_ok (h : TI s.1) : ((e_line τ ρ σ s rd).1 = 0 ∨ (e_line τ ρ σ s rd).1 = 1) ∧ ((e_line τ ρ σ s rd).1 ≠ 0 → TI (e_line τ ρ σ s rd).2.1.1 ∧ (e_line τ ρ σ s rd).2.1.1 52 = s.1 52 ∧ s.1 52 ≠ 30) := by
  unfold e_line
  split
  · exact ⟨Or.inl rfl, fun q => absurd rfl q⟩
  · split
    · exact ⟨Or.inl rfl, fun q => absurd rfl q⟩
    · split
      · exact ⟨Or.inl rfl, fun q => absurd rfl q⟩
      · rename_i c
        have w1 : TI (g_nx τ s).1 := h.nx
        have n52 : (g_nx τ s).1 52 = s.1 52 := t_next_f (by omega)
        have ok := e_1_ok (τ := τ) (ρ := ρ) (σ := σ) (rd := rd) (to := 4 * s.1 52) (a := t_find s.2.2.2 s.2.1 0 0 (σ 1).toNat) w1
        refine ⟨ok.1, fun q => ⟨(ok.2.2 (by have := ok.1; omega)).1, ?_, c⟩⟩
        rw [e_1_52 (by omega)]; exact n52
def EOt (σ : Int → Int) (r : ER) : Prop := (r.1 = 0 ∨ r.1 = 1) ∧ (r.1 = 0 → 0 ≤ r.2.1.1 16 ∧ r.2.1.1 16 ≤ 940) ∧ (r.1 = 1 → TI r.2.1.1 ∧ (0 ≤ r.2.1.1 52 ∧ r.2.1.1 52 ≤ 30) ∧ RDk σ r.2.2 (r.2.1.1 52))
theorem e_tab_ok : ∀ (n : Nat) {s : TS} {rd : Int → Int}, TI s.1 → s.1 52 + n = 31 → 0 ≤ s.1 52 → 0 < n → RDk σ rd (s.1 52) → EOt σ (e_tab τ ρ σ n s rd) := by
  intro n
  induction n with
  | zero => intro s rd _ _ _ h; omega
  | succ n ih =>
    intro s rd h hn h0 _ hr
    unfold e_tab
    split
    · exact ⟨Or.inr rfl, fun q => absurd (show (1 : Int) = 0 from q) (by decide), fun _ => ⟨h, by show 0 ≤ s.1 52 ∧ s.1 52 ≤ 30; omega, hr⟩⟩
    · have eo : EOt σ (0, g_bad 1 s, rd) ∧ EOt σ (0, g_bad 3 s, rd) ∧ EOt σ (0, g_bad 4 s, rd) := ⟨⟨Or.inl rfl, fun _ => bad16 h, fun q => absurd (show (0 : Int) = 1 from q) (by decide)⟩, ⟨Or.inl rfl, fun _ => bad16 h, fun q => absurd (show (0 : Int) = 1 from q) (by decide)⟩, ⟨Or.inl rfl, fun _ => bad16 h, fun q => absurd (show (0 : Int) = 1 from q) (by decide)⟩⟩
      by_cases c1 : isN ρ s
      · by_cases c2 : t_find s.2.2.2 s.2.1 0 0 (σ 1).toNat < 0
        · have e : e_line τ ρ σ s rd = (0, g_bad 3 s, rd) := by unfold e_line; rw [if_neg (fun q => q c1), if_pos c2]
          rw [e, if_pos rfl]; exact eo.2.1
        · by_cases c3 : s.1 52 = 30
          · have e : e_line τ ρ σ s rd = (0, g_bad 4 s, rd) := by unfold e_line; rw [if_neg (fun q => q c1), if_neg c2, if_pos c3]
            rw [e, if_pos rfl]; exact eo.2.2
          · have e : e_line τ ρ σ s rd = e_1 τ ρ σ (4 * s.1 52) (t_find s.2.2.2 s.2.1 0 0 (σ 1).toNat) (g_nx τ s) rd := by unfold e_line; rw [if_neg (fun q => q c1), if_neg c2, if_neg c3]
            rw [e]
            have fr := t_find_r (ν := s.2.2.2) (w := s.2.1) (f := 0) (σ 1).toNat 0 (by omega)
            generalize t_find s.2.2.2 s.2.1 0 0 (σ 1).toNat = a at *
            have w1 : TI (g_nx τ s).1 := h.nx
            have n52 : (g_nx τ s).1 52 = s.1 52 := t_next_f (by omega)
            have ok := e_1_ok (τ := τ) (ρ := ρ) (σ := σ) (rd := rd) (to := 4 * s.1 52) (a := a) w1
            have r52 := e_1_52 (τ := τ) (ρ := ρ) (σ := σ) (rd := rd) (to := 4 * s.1 52) (a := a) (s := g_nx τ s) (j := 52) (by omega)
            have rrd := fun j (hj : j < 4 * s.1 52) => e_1_rd (τ := τ) (ρ := ρ) (σ := σ) (rd := rd) (to := 4 * s.1 52) (a := a) (s := g_nx τ s) hj
            clear e
            generalize e_1 τ ρ σ (4 * s.1 52) a (g_nx τ s) rd = r at *
            by_cases c4 : r.1 = 0
            · rw [if_pos c4]
              exact ⟨Or.inl rfl, fun _ => ok.2.1 c4, fun q => absurd (show (0 : Int) = 1 from q) (by decide)⟩
            · rw [if_neg c4]
              obtain ⟨o1, o2, o3, o4, o5, o6⟩ := ok.2.2 (by have := ok.1; omega)
              by_cases c5 : isG 59 r.2.1
              · rw [if_neg (fun q => q c5)]
                have w2 : TI (g_nx τ r.2.1).1 := o1.nx
                have m52 : (g_nx τ r.2.1).1 52 = r.2.1.1 52 := t_next_f (by omega)
                have f52 : (g_w 52 ((g_nx τ r.2.1).1 52 + 1) (g_nx τ r.2.1)).1 52 = s.1 52 + 1 := by
                  show us (g_nx τ r.2.1).1 52 ((g_nx τ r.2.1).1 52 + 1) 52 = _
                  rw [us_s]; omega
                refine ih (TI.us w2 (by omega)) (by omega) (by omega) (by omega) ?_
                rw [f52]
                intro i i0 i1
                by_cases q : i = s.1 52
                · subst q
                  exact ⟨by rw [o2]; omega, o3, o4, o5, o6⟩
                · rw [rrd _ (by omega), rrd _ (by omega), rrd _ (by omega), rrd _ (by omega)]
                  exact hr i i0 (by omega)
              · rw [if_pos c5]
                exact ⟨Or.inl rfl, fun _ => bad16 o1, fun q => absurd (show (0 : Int) = 1 from q) (by decide)⟩
      · have e : e_line τ ρ σ s rd = (0, g_bad 1 s, rd) := by unfold e_line; rw [if_pos c1]
        rw [e, if_pos rfl]; exact eo.1
/-- what holds while an evening is lived -/
theorem ev1_w {a b k n : Int} (hw : WF e.1) (ha : isP e.1 a) (hb : isP e.1 b) (hk : isK e.1 k) : WF (ev1 a b k n e).1 := by
  unfold ev1
  split
  · exact hw
  · rename_i c
    have c : ev_w e.1 a b k n = 0 := Decidable.byContradiction c
    have c2 : f_why e.1 a b k = 0 := by
      unfold ev_w at c
      split at c
      · omega
      · exact c
    exact hw.asks (why_ao hw ha hb hk c2)
theorem ev1_hi {a b k n : Int} (hw : WF e.1) (ha : isP e.1 a) (hb : isP e.1 b) (hk : isK e.1 k) {j : Int} (hj : 584 ≤ j) : (ev1 a b k n e).1 j = e.1 j := by
  unfold ev1
  split
  · rfl
  · rename_i c
    have c : ev_w e.1 a b k n = 0 := Decidable.byContradiction c
    have c2 : f_why e.1 a b k = 0 := by
      unfold ev_w at c
      split at c
      · omega
      · exact c
    exact asks_hi hw (why_ao hw ha hb hk c2) j hj
/-- lived so far: i lines; what holds -/
def EvI (rd σ : Int → Int) (i : Nat) (e : EV) : Prop := WF e.1 ∧ (∀ j, 0 ≤ j → j < 4 → e.1 j = σ j) ∧ (∀ j, 584 ≤ j → e.1 j = σ j) ∧ (0 ≤ e.2.2.2.1 ∧ e.2.2.2.1 ≤ 5) ∧ ((e.2.2.2.1 = 0 ∧ e.2.2.1 = i ∧ e.2.2.2.2 = -1) ∨ (e.2.2.2.1 ≠ 0 ∧ e.2.2.1 < i ∧ 0 ≤ e.2.2.1 ∧ e.2.2.2.2 = e.2.2.1))
theorem ev_w_r {a b k n : Int} : 0 ≤ ev_w σ a b k n ∧ ev_w σ a b k n ≤ 5 := by
  have := why_r (σ := σ) (a := a) (b := b) (k := k)
  unfold ev_w
  split <;> omega
theorem EvI.st {μ : Int → Int} {i : Nat} {n : Int} (h : EvI rd σ i e) (hr : RDk σ rd n) (hi : (i : Int) < n) : EvI rd σ (i + 1) (ev2 rd (4 * (i : Int)) e) := by
  obtain ⟨h1, h2, h2b, h3, h4⟩ := h
  obtain ⟨a, b, k, m1, m2⟩ := hr i (by omega) hi
  have e0 := h2 0 (by omega) (by omega)
  have e1 := h2 1 (by omega) (by omega)
  have pa : isP e.1 (rd (4 * (i : Int))) := by omega
  have pb : isP e.1 (rd (4 * (i : Int) + 1)) := by omega
  have pk : isK e.1 (rd (4 * (i : Int) + 2)) := by omega
  unfold ev2
  split
  · rename_i c
    refine ⟨ev1_w h1 pa pb pk, fun j p q => by rw [ev1_1 h1 pa pb pk p q]; exact h2 j p q, fun j p => by rw [ev1_hi h1 pa pb pk p]; exact h2b j p, ?_⟩
    have wr := ev_w_r (σ := e.1) (a := rd (4 * (i : Int))) (b := rd (4 * (i : Int) + 1)) (k := rd (4 * (i : Int) + 2)) (n := rd (4 * (i : Int) + 3))
    unfold ev1
    split
    · rename_i c2
      refine ⟨wr, Or.inr ⟨c2, ?_, ?_, rfl⟩⟩
      · show e.2.2.1 < ((i + 1 : Nat) : Int); omega
      · show 0 ≤ e.2.2.1; omega
    · refine ⟨⟨Int.le_refl 0, (by decide : (0 : Int) ≤ 5)⟩, Or.inl ⟨rfl, ?_, ?_⟩⟩
      · show e.2.2.1 + 1 = ((i + 1 : Nat) : Int); omega
      · show e.2.2.2.2 = -1; omega
  · rename_i c
    exact ⟨h1, h2, h2b, h3, Or.inr ⟨c, by omega, by omega, by omega⟩⟩
theorem EvI.i0 {μ : Int → Int} (h : WF σ) : EvI rd σ 0 (σ, μ, 0, 0, -1) := ⟨h, fun _ _ _ => rfl, fun _ _ => rfl, ⟨Int.le_refl 0, (by decide : (0 : Int) ≤ 5)⟩, Or.inl ⟨rfl, rfl, rfl⟩⟩
theorem EvI.all {μ : Int → Int} {n : Int} (h : WF σ) (hr : RDk σ rd n) : ∀ i : Nat, (i : Int) ≤ n → EvI rd σ i (evs rd i (σ, μ, 0, 0, -1))
  | 0, _ => EvI.i0 h
  | i + 1, q => (EvI.all h hr i (by omega)).st (μ := μ) hr (by omega)
/-- once it is wrong it stays so -/
theorem evs_stop {i : Nat} (h : (evs rd i e).2.2.2.1 ≠ 0) : ∀ k : Nat, evs rd (i + k) e = evs rd i e
  | 0 => rfl
  | k + 1 => by
    show ev2 rd (4 * ((i + k : Nat) : Int)) (evs rd (i + k) e) = _
    rw [evs_stop h k]
    unfold ev2
    rw [if_neg h]
end PU22
