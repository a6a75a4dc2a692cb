/-! ===== what lies behind the game stays ===== -/
section L9p
variable {σ τ η π : Int → Int} {a b k l : Int}
abbrev hi (σ τ : Int → Int) : Prop := ∀ j, 584 ≤ j → τ j = σ j
theorem hi_learns (hg : RG σ) (hk : 0 ≤ a ∧ a < 6) (hd : 0 ≤ k ∧ k < 13) : hi σ (f_learns σ a k) := fun j q => by
  have o := hg.o hk
  unfold f_learns
  split
  · rfl
  · simp only
    rw [us_n (by omega)]
    unfold dl
    rw [if_neg (by omega), us_n (by omega)]
    split
    · exact us_n (by omega)
    · rfl
theorem hi_lr (hk : 0 ≤ a ∧ a < 6) (hd : 0 ≤ k ∧ k < 13) : ∀ (n : Nat) {σ : Int → Int}, RG σ → hi σ (f_lr σ a k n) := by
  intro n
  induction n with
  | zero => intro σ _ j _; rfl
  | succ n ih =>
    intro σ hg j q
    unfold f_lr
    rw [ih (RG_learns hg hk hd) j q]
    exact hi_learns hg hk hd j q
theorem hi_books (hg : RG σ) (hk : 0 ≤ a ∧ a < 6) (hd : 0 ≤ k ∧ k < 13) : hi σ (f_books σ a k) := fun j q => by
  unfold f_books f_hand
  split
  · rfl
  · rw [us_n (by omega), us_n (by omega), us_n (by omega)]
    exact hi_lr hk hd _ hg j q
theorem hi_adds {mk : Int} (hg : RG σ) (hk : 0 ≤ a ∧ a < 6) : hi σ (f_adds σ a mk) := fun j q => by
  have o := hg.o hk
  unfold f_adds
  rw [us_n (by omega), us_n (by omega)]
theorem hi_draws (hg : RG σ) (hk : 0 ≤ a ∧ a < 6) (h7 : 0 < σ 7) : hi σ (f_draws σ a) := fun j q => by
  have e := hg.2.1 0 (by omega) h7
  rw [show (8 : Int) + 0 = 8 by omega] at e
  have := hg.h7
  unfold f_draws f_hand
  rw [us_n (by omega), us_n (by omega)]
  unfold dl
  rw [if_neg (by omega), us_n (by omega)]
theorem RG_drA (hg : RG σ) (hk : 0 ≤ a ∧ a < 6) (h7 : 0 < σ 7) : RG (f_adds (f_draws σ a) a 0) := by
  have e := hg.2.1 0 (by omega) h7
  rw [show (8 : Int) + 0 = 8 by omega] at e
  have h52 := hg.2.2.1 a hk.1 hk.2
  have h := hg.h7
  refine RG_adds (RG_draws hg hk h7) hk (by omega) ?_
  have e7 : f_draws σ a 7 = σ 7 - 1 := by
    unfold f_draws f_hand
    rw [us_n (by omega), us_n (by omega)]
    unfold dl
    rw [if_neg (by omega), us_s]
  have e2 : f_draws σ a (229 + a) = σ (229 + a) := by
    unfold f_draws f_hand
    rw [us_n (by omega), us_n (by omega)]
    unfold dl
    rw [if_neg (by omega), us_n (by omega)]
  omega
theorem hi_draw1 (hg : RG σ) (hk : 0 ≤ a ∧ a < 6) (h7 : 0 < σ 7) : hi σ (f_draw1 σ a) := fun j q => by
  have e := hg.2.1 0 (by omega) h7
  rw [show (8 : Int) + 0 = 8 by omega] at e
  unfold f_draw1
  rw [hi_books (RG_drA hg hk h7) hk e j q, hi_adds (RG_draws hg hk h7) hk j q, hi_draws hg hk h7 j q]
theorem hi_drawn (hk : 0 ≤ a ∧ a < 6) : ∀ (n : Nat) {σ : Int → Int}, RG σ → (n : Int) ≤ σ 7 → hi σ (f_drawn σ a n) := by
  intro n
  induction n with
  | zero => intro σ _ _ j _; rfl
  | succ n ih =>
    intro σ hg hn j q
    obtain ⟨g1, g2, g3⟩ := f_draw1_g hg hk (by omega)
    unfold f_drawn
    rw [ih g1 (by omega) j q]
    exact hi_draw1 hg hk (by omega) j q
theorem hi_refills (hk : 0 ≤ a ∧ a < 6) : ∀ (n : Nat) {σ : Int → Int}, RG σ → hi σ (f_refills σ a n) := by
  intro n
  induction n with
  | zero => intro σ _ j _; rfl
  | succ n ih =>
    intro σ hg j q
    unfold f_refills
    split
    · rename_i c
      have hm : (((if σ 3 < σ 7 then σ 3 else σ 7).toNat : Nat) : Int) ≤ σ 7 := by split <;> omega
      rw [ih (f_drawn_g hk _ hg hm).1 j q]
      exact hi_drawn hk _ hg hm j q
    · rfl
theorem hi_settle {fr : Int} : ∀ (n : Nat) (i : Int) {σ : Int → Int}, RG σ → (0 < σ 1 ∧ σ 1 ≤ 6) → hi σ (f_settle σ fr i n) := by
  intro n
  induction n with
  | zero => intro i σ _ _ j _; rfl
  | succ n ih =>
    intro i σ hg h1 j q
    have hm : 0 ≤ (fr + i) % σ 1 ∧ (fr + i) % σ 1 < 6 := ⟨Int.emod_nonneg _ (by omega), by have := Int.emod_lt_of_pos (fr + i) h1.1; omega⟩
    obtain ⟨g1, g2, g3⟩ := f_refills_g hm (σ 7).toNat hg
    have e1 := g3 1 (by omega) (by omega)
    unfold f_settle
    simp only
    split
    · rw [ih (i + 1) g1 (by omega) j q]
      exact hi_refills hm _ hg j q
    · rw [us_n (by omega)]
      exact hi_refills hm _ hg j q
theorem hi_settles {fr : Int} (hg : RG σ) (h1 : 0 ≤ σ 1 ∧ σ 1 ≤ 6) : hi σ (f_settles σ fr) := fun j q => by
  unfold f_settles
  by_cases c : σ 1 = 0
  · rw [c]
    show us σ 4 (-1) j = σ j
    exact us_n (by omega)
  · rw [hi_settle _ _ (RG_us hg (by omega)) (by rw [us_n (by omega)]; omega) j q, us_n (by omega)]
theorem hi_end {fr : Int} (hg : RG σ) (h1 : 0 ≤ σ 1 ∧ σ 1 ≤ 6) : hi σ (f_end σ fr) := fun j q => by
  unfold f_end
  split
  · exact us_n (by omega)
  · exact hi_settles hg h1 j q
theorem hi_ask0 (hg : RG σ) (ha : 0 ≤ a ∧ a < 6) (hk : 0 ≤ k ∧ k < 13) : hi σ (f_ask0 σ a k) := fun j q => by
  unfold f_ask0
  split
  · rw [hi_learns (RG_ask1 hg ha) ha hk j q]
    unfold f_ask1
    rw [us_n (by omega), us_n (by omega)]
  · unfold f_ask1
    rw [us_n (by omega), us_n (by omega)]
theorem hi_cannot (hg : RG σ) (hb : 0 ≤ b ∧ b < 6) : hi σ (f_cannot σ b k) := fun j q => by
  have := hg.o hb
  exact f_cannot_n (by omega)
theorem hi_giv1 {g : Int} (hg : RG σ) (hb : 0 ≤ b ∧ b < 6) (hk : 0 ≤ k ∧ k < 13) : hi σ (f_giv1 σ b k g) := fun j q => by
  unfold f_giv1 f_hand
  rw [us_n (by omega), hi_cannot (RG_us (RG_lr hb hk _ hg) (by omega)) hb j q, us_n (by omega)]
  exact hi_lr hb hk _ hg j q
theorem hi_giv2 {g : Int} (ha : 0 ≤ a ∧ a < 6) (hk : 0 ≤ k ∧ k < 13) : hi σ (f_giv2 σ a k g) := fun j q => by
  unfold f_giv2 f_hand
  try simp only
  rw [us_n (by omega), us_n (by omega), us_n (by omega), us_n (by omega)]
theorem hi_no2 (hg : RG σ) (ha : 0 ≤ a ∧ a < 6) (hk : 0 ≤ k ∧ k < 13) (h7 : 0 < σ 7) : hi σ (f_no2 σ a k) := fun j q => by
  unfold f_no2
  split
  · rw [us_n (by omega)]; exact hi_draws hg ha h7 j q
  · rw [hi_adds (RG_draws hg ha h7) ha j q]; exact hi_draws hg ha h7 j q
theorem CV.sp (h : CV σ) {p k : Int} (hp : 0 ≤ p ∧ p < 6) (hk : 0 ≤ k ∧ k < 13) : σ (229 + p) + σ (151 + 13 * p + k) + σ 7 ≤ 52 := by
  have c := h.cd hp.1 hp.2
  have ot := h.ot hp.1 hp.2
  have e : sm (fun k => σ (60 + 13 * p + k) - σ (151 + 13 * p + k)) 13 = sm (fun k => σ (60 + 13 * p + k)) 13 - sm (fun k => σ (151 + 13 * p + k)) 13 := by
    simp only [sm]; omega
  have l := sm_le1 (f := fun k => σ (151 + 13 * p + k)) (n := 13) (fun j x y => (h.kn hp.1 hp.2 x (by omega)).1) hk.1 (by omega)
  omega
theorem hi_no1 (h : CV σ) (hb : 0 ≤ b ∧ b < 6) (hk : 0 ≤ k ∧ k < 13) : hi σ (f_no1 σ b k) := fun j q => by
  have s := h.sp hb hk
  have kn := h.kn hb.1 hb.2 hk.1 hk.2
  have g0 : RG (f_no0 σ b k) := by
    unfold f_no0
    split
    · exact RG_us h.rg (by omega)
    · exact h.rg
  have n0 : ∀ j, j ≠ 547 + b → f_no0 σ b k j = σ j := fun j q => by
    unfold f_no0
    split
    · exact us_n q
    · rfl
  obtain ⟨u1, u2⟩ := f_unk_g hb hk (σ (151 + 13 * b + k)).toNat g0 (by rw [n0 _ (by omega), n0 7 (by omega)]; omega)
  unfold f_no1
  try simp only
  rw [us_n (by omega), hi_cannot u1 hb j q, u2 j (by omega) (by omega) (by omega), n0 j (by omega)]
theorem asks_hi (h : WF σ) (ho : AO σ a b k) : hi σ (f_asks σ a b k l).1 := fun j q => by
  have ho2 := ho
  obtain ⟨h4, ha, hb, hab, hk, hh⟩ := ho2
  have ht := h.cv.ta
  have a6 : 0 ≤ a ∧ a < 6 := by omega
  have b6 : 0 ≤ b ∧ b < 6 := by omega
  have k13 : 0 ≤ k ∧ k < 13 := by omega
  obtain ⟨c0, _, _, _, _⟩ := ask0_ok h ho
  unfold f_asks
  by_cases c : 0 < f_gives σ b k l
  · rw [if_pos c]
    obtain ⟨c1, r1, n1, e6, e7⟩ := ask_g h ho c
    obtain ⟨c2, r2⟩ := lay_ok (a := a) (c := k) c1 (by omega) (by omega) r1
    simp only
    rw [hi_end c2.rg c2.ta.2.1 j q, hi_books c1.rg a6 k13 j q, hi_giv2 a6 k13 j q, hi_giv1 c0.rg b6 k13 j q, hi_ask0 h.cv.rg a6 k13 j q]
  · rw [if_neg c]
    obtain ⟨c1, r1, n1, e6, e7⟩ := ask_n h ho
    have x1 := hi_no1 c0 b6 k13 j q
    have x0 := hi_ask0 h.cv.rg a6 k13 j q
    have y1 := n1 1 (by omega) (by omega)
    try dsimp only
    by_cases d : 0 < f_no1 (f_ask0 σ a k) b k 7
    · rw [if_pos d]
      have c3 : CV (us (f_no1 (f_ask0 σ a k) b k) 6 0) := c1.usc (by omega)
      have r3 : R3 (us (f_no1 (f_ask0 σ a k) b k) 6 0) := r1.usc (by omega)
      obtain ⟨c4, r4, n4, e8⟩ := ask_d (k := k) c3 r3 (a := a) (by rw [us_n (by omega)]; omega) (by rw [us_n (by omega)]; exact d)
      obtain ⟨c5, r5⟩ := lay_ok (a := a) c4 (by omega) e8 r4
      simp only
      rw [hi_end c5.rg c5.ta.2.1 j q, hi_books c4.rg a6 e8 j q, hi_no2 c3.rg a6 k13 (by rw [us_n (by omega)]; exact d) j q, us_n (by omega), x1, x0]
    · rw [if_neg d]
      simp only
      rw [hi_end c1.rg c1.ta.2.1 j q, x1, x0]
theorem hi_bks (hk : 0 ≤ a ∧ a < 6) : ∀ (n : Nat) (k : Int) {σ : Int → Int}, RG σ → 0 ≤ k → k + n ≤ 13 → hi σ (f_bks σ a k n) := by
  intro n
  induction n with
  | zero => intro k σ _ _ _ j _; rfl
  | succ n ih =>
    intro k σ hg h0 h1 j q
    unfold f_bks
    rw [ih (k + 1) (RG_books hg hk (by omega)) (by omega) (by omega) j q]
    exact hi_books hg hk (by omega) j q
theorem hi_beg2 : ∀ (n : Nat) (m : Int) {σ : Int → Int}, RG σ → 0 ≤ m → m + n ≤ 6 → (0 ≤ σ 0 ∧ σ 0 ≤ 13) → hi σ (f_beg2 σ m n) := by
  intro n
  induction n with
  | zero => intro m σ _ _ _ _ j _; rfl
  | succ n ih =>
    intro m σ hg h0 h1 h2 j q
    obtain ⟨g1, g2⟩ := f_bks_g (k := m) (by omega) (σ 0).toNat 0 hg (by omega) (by omega)
    unfold f_beg2
    rw [ih (m + 1) g1 (by omega) (by omega) (by rw [g2 0 (by omega) (by omega)]; exact h2) j q]
    exact hi_bks (by omega) _ _ hg (by omega) (by omega) j q
theorem begins_hi (h : HW η) : hi η (f_begins η) := fun j q => by
  have b := h.B1
  have c := b.cv h
  have h1 := h.2.1
  have e1 : f_beg1 η 0 (η 1).toNat 1 = η 1 := b.1 1 (by omega)
  obtain ⟨a1, a2, a3⟩ := CV.beg2 (η 1).toNat 0 c (by omega) (by rw [e1]; omega) (fun q i x y => by omega)
  unfold f_begins
  try simp only
  rw [hi_settles a1.rg a1.ta.2.1 j q, hi_beg2 _ _ c.rg (by omega) (by omega) c.ta.1 j q]
  exact b.1 j (by omega)
theorem dealt_hi {n sd : Int} (h0 : 1 ≤ σ 0 ∧ σ 0 ≤ 13) (h1 : 1 ≤ σ 1 ∧ σ 1 ≤ 6) (hn : 1 ≤ n) (hm : n * σ 1 ≤ 4 * σ 0) : hi σ (f_dealt π σ n sd) := fun j q => by
  rw [(dealt_DT (π := π) (σ := σ) (n := n) (sd := sd) h0 h1 hn hm).1 j (by omega), deal0_v, if_neg (by omega), if_neg (by omega)]
/-- the same row but for what lies behind the game -/
theorem CV.cg (h : CV σ) (e : ∀ j, 0 ≤ j → j < 584 → τ j = σ j) : CV τ :=
  h.kno (fun j q => e j (by omega) (by omega)) (fun p i x y u v => by rw [e _ (by omega) (by omega)]; exact h.ms p i x y u v) (fun p k x y u v => by rw [e _ (by omega) (by omega)]; exact h.kn x y u v)
    (fun p x y => by
      rw [e _ (by omega) (by omega), h.ot x y]
      exact sm_congr (fun i u v => by rw [e _ (by omega) (by omega)]))
theorem WF.cg (h : WF σ) (e : ∀ j, 0 ≤ j → j < 584 → τ j = σ j) : WF τ := by
  have c := h.cv.cg e
  obtain ⟨h1, h2, h3, h4, h5, h6, h7⟩ := h
  have ht := h1.ta
  have e1 := e 1 (by omega) (by omega)
  have e4 := e 4 (by omega) (by omega)
  have e6 := e 6 (by omega) (by omega)
  have e7 := e 7 (by omega) (by omega)
  refine ⟨c, fun p k x y u v => by rw [e _ (by omega) (by omega)]; exact h2 p k x y u v, ?_, by omega, by omega, by omega, by omega⟩
  unfold TU at h3 ⊢
  rw [e4, e1]
  rcases h3 with q | q
  · exact Or.inl q
  · refine Or.inr ⟨q.1, q.2.1, ?_⟩
    have hc : f_cards τ (σ 4) = f_cards σ (σ 4) := by
      unfold f_cards
      rw [sm_congr (fun i u v => e (60 + 13 * σ 4 + i) (by omega) (by omega))]
    rw [hc]; exact q.2.2
/-- what played games keep -/
theorem q_ok {rl : Int → Int} (hr : ∀ a, 0 ≤ a → a < 6 → 0 ≤ rl a ∧ rl a ≤ 3) : ∀ (n : Nat) {σ : Int → Int}, W5 σ → W5 (f_q rl n σ).1 ∧ (∀ j, 0 ≤ j → j < 4 → (f_q rl n σ).1 j = σ j) ∧ hi σ (f_q rl n σ).1 := by
  intro n
  induction n with
  | zero => intro σ h; exact ⟨h, fun _ _ _ => rfl, fun _ _ => rfl⟩
  | succ n ih =>
    intro σ h
    unfold f_q
    by_cases c : σ 4 = -1
    · rw [if_pos c]; exact ⟨h, fun _ _ _ => rfl, fun _ _ => rfl⟩
    · rw [if_neg c]
      have ht := h.1.1.cv.ta
      have t4 : 0 ≤ σ 4 ∧ σ 4 < 6 := by
        rcases h.1.1.tu with u | u
        · exact absurd u c
        · omega
      have ao := (h.1.1.ao h.1.2 c (hr (σ 4) t4.1 t4.2)).2.2.2.2
      obtain ⟨i1, i2, i3⟩ := ih (h.asks (l := 0) ao)
      exact ⟨i1, fun j x y => by rw [i2 j x y]; exact asks_tb h.1.1 ao x y, fun j q => by rw [i3 j q]; exact asks_hi h.1.1 ao j q⟩
theorem gm1_ok {i j sd : Int} (hi' : 0 ≤ i ∧ i ≤ 3) (hj : 0 ≤ j ∧ j ≤ 3) {y : GS} (hw : W5 y.2.2.2.1) (hr : ∀ a, 0 ≤ a → a < 6 → 0 ≤ y.1 a ∧ y.1 a ≤ 3) : W5 (f_gm1 i j sd y).2.2.2.1 ∧ (∀ k, 0 ≤ k → k < 4 → (f_gm1 i j sd y).2.2.2.1 k = y.2.2.2.1 k) ∧ hi y.2.2.2.1 (f_gm1 i j sd y).2.2.2.1 ∧ (∀ a, 0 ≤ a → a < 6 → 0 ≤ (f_gm1 i j sd y).1 a ∧ (f_gm1 i j sd y).1 a ≤ 3) := by
  obtain ⟨d1, d2, d3⟩ := hw.deal (π := y.2.1) (sd := sd)
  have ht := hw.1.1.cv.ta
  have h2 := hw.1.2
  have h5 := hw.2
  have hrl : ∀ a, 0 ≤ a → a < 6 → 0 ≤ f_rul i j y.1 (f_begins (f_dealt y.2.1 y.2.2.2.1 5 sd) 1) a ∧ f_rul i j y.1 (f_begins (f_dealt y.2.1 y.2.2.2.1 5 sd) 1) a ≤ 3 := fun a u v => by
    unfold f_rul
    split
    · split <;> omega
    · exact hr a u v
  obtain ⟨q1, q2, q3⟩ := q_ok hrl 300 d2
  refine ⟨q1, fun k u v => ?_, fun k u => ?_, hrl⟩
  · show (f_q _ 300 _).1 k = _
    rw [q2 k u v]; exact d3 k u v
  · show (f_q _ 300 _).1 k = _
    rw [q3 k u, begins_hi d1 k u]
    exact dealt_hi (by omega) (by omega) (by omega) (by omega) k u
theorem gm_ok {i j fr : Int} (hi' : 0 ≤ i ∧ i ≤ 3) (hj : 0 ≤ j ∧ j ≤ 3) : ∀ (n : Nat) (g : Int) {y : GS}, W5 y.2.2.2.1 → (∀ a, 0 ≤ a → a < 6 → 0 ≤ y.1 a ∧ y.1 a ≤ 3) → W5 (f_gm i j fr n g y).2.2.2.1 ∧ (∀ k, 0 ≤ k → k < 4 → (f_gm i j fr n g y).2.2.2.1 k = y.2.2.2.1 k) ∧ hi y.2.2.2.1 (f_gm i j fr n g y).2.2.2.1 ∧ (∀ a, 0 ≤ a → a < 6 → 0 ≤ (f_gm i j fr n g y).1 a ∧ (f_gm i j fr n g y).1 a ≤ 3) := by
  intro n
  induction n with
  | zero => intro g y hw hr; exact ⟨hw, fun _ _ _ => rfl, fun _ _ => rfl, hr⟩
  | succ n ih =>
    intro g y hw hr
    obtain ⟨a1, a2, a3, a4⟩ := gm1_ok (sd := wr (fr + g)) hi' hj hw hr
    obtain ⟨b1, b2, b3, b4⟩ := ih (g + 1) a1 a4
    unfold f_gm
    exact ⟨b1, fun k u v => by rw [b2 k u v]; exact a2 k u v, fun k u => by rw [b3 k u]; exact a3 k u, b4⟩
end L9p
