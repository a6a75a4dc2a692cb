/-! ===== the model: a table ===== -/
/-- the first i places cleared -/
def cl (η : Int → Int) (i : Int) : Int → Int := fun j => if 0 ≤ j ∧ j < i then 0 else η j
theorem cl_us {η : Int → Int} {i : Int} (h : 0 ≤ i) : us (cl η i) i 0 = cl η (i + 1) := by
  funext j
  simp only [us, cl]
  by_cases e : j = i
  · rw [if_pos e, if_pos (by omega)]
  · rw [if_neg e]
    by_cases q : 0 ≤ j ∧ j < i
    · rw [if_pos q, if_pos (by omega)]
    · rw [if_neg q, if_neg (by omega)]
theorem cl_0 {η : Int → Int} : cl η 0 = η := by
  funext j
  simp only [cl]
  rw [if_neg (by omega)]
/-- the first i places copied; zero from 584 on -/
def cpy (η σ : Int → Int) (i : Int) : Int → Int := fun j => if 0 ≤ j ∧ j < i then (if j < 584 then η j else 0) else σ j
theorem cpy_us {η σ : Int → Int} {i : Int} (h : 0 ≤ i) : us (cpy η σ i) i (if i < 584 then η i else 0) = cpy η σ (i + 1) := by
  funext j
  simp only [us, cpy]
  by_cases e : j = i
  · subst e
    rw [if_pos rfl, if_pos (show 0 ≤ j ∧ j < j + 1 by omega)]
  · rw [if_neg e]
    by_cases q : 0 ≤ j ∧ j < i
    · rw [if_pos q, if_pos (show 0 ≤ j ∧ j < i + 1 by omega)]
    · rw [if_neg q, if_neg (show ¬ (0 ≤ j ∧ j < i + 1) by omega)]
theorem cpy_0 {η σ : Int → Int} : cpy η σ 0 = σ := by
  funext j
  simp only [cpy]
  rw [if_neg (by omega)]
/-- the first i names are those 6 farther -/
def nmc (ν : Int → Int) (i : Int) : Int → Int := fun j => if 0 ≤ j ∧ j < i then ν (6 + j) else ν j
theorem nmc_us {ν : Int → Int} {i : Int} (h : 0 ≤ i) : us (nmc ν i) i (nmc ν i (6 + i)) = nmc ν (i + 1) := by
  funext j
  simp only [us, nmc]
  by_cases e : j = i
  · rw [if_pos e, if_neg (by omega), if_pos (by omega), e]
  · rw [if_neg e]
    by_cases q : 0 ≤ j ∧ j < i
    · rw [if_pos q, if_pos (by omega)]
    · rw [if_neg q, if_neg (by omega)]
theorem nmc_0 {ν : Int → Int} : nmc ν 0 = ν := by
  funext j
  simp only [nmc]
  rw [if_neg (by omega)]
/-- a table's start -/
def g_t0 (s : TS) : TS := (us (us (us (us (us (us (us (us (us (us s.1 0 0) 3 (s.1 2)) 2 0) 4 0) 5 900) 15 0) 19 0) 20 0) 21 0) 22 0, s.2.1, cl s.2.2.1 584, s.2.2.2)
def g_table (τ ρ : Int → Int) (s : TS) : Int × TS := g_tab τ ρ 950 (g_nx τ (g_t0 s))
theorem g_t0_w {τ : Int → Int} {s : TS} (h : 0 ≤ s.1 2 ∧ s.1 2 ≤ 940) : TSW (g_nx τ (g_t0 s)) := by
  have e4 : (g_t0 s).1 4 = 0 := by unfold g_t0; simp (disch := omega) only [us_n, us_s]
  have e3 : (g_t0 s).1 3 = s.1 2 := by unfold g_t0; simp (disch := omega) only [us_n, us_s]
  have e5 : (g_t0 s).1 5 = 900 := by unfold g_t0; simp (disch := omega) only [us_n, us_s]
  refine ⟨TI_nx (by omega) (by omega) (by omega) (by omega), HW_0 fun j a b => ?_, fun _ => ?_⟩
  · show cl s.2.2.1 584 j = 0
    unfold cl
    rw [if_pos (by omega)]
  · show cl s.2.2.1 584 0 = 0
    unfold cl
    rw [if_pos (by omega)]
/-- what a read table leaves in the row of all numbers -/
def g_st (s : TS) : Int → Int := cpy s.2.2.1 (fun _ => 0) 765
theorem cpy_RG {η σ : Int → Int} (h : HW η) : RG (cpy η σ 765) ∧ (0 ≤ cpy η σ 765 1 ∧ cpy η σ 765 1 ≤ 6) ∧ (0 ≤ cpy η σ 765 0 ∧ cpy η σ 765 0 ≤ 13) ∧ ∀ p, 0 ≤ p → p < 6 → cpy η σ 765 (229 + p) = 0 ∧ 0 ≤ f_cards (cpy η σ 765) p ∧ f_cards (cpy η σ 765) p + cpy η σ 765 7 ≤ 52 := by
  have e : ∀ j, 0 ≤ j → j < 584 → cpy η σ 765 j = η j := by
    intro j a b
    unfold cpy
    rw [if_pos (by omega), if_pos b]
  have ec : ∀ p, 0 ≤ p → p < 6 → f_cards (cpy η σ 765) p = f_cards η p := by
    intro p a b
    unfold f_cards
    congr 1
    exact sm_congr fun i c d => e _ (by omega) (by omega)
  have g7 := h.h7
  have hk := fun p a b => h.cards (p := p) ⟨a, b⟩
  obtain ⟨h0, h1, h2, h3, h4, h5, h6, h7, h8, h9⟩ := h
  refine ⟨⟨by rw [e 7 (by omega) (by omega)]; omega, fun i a b => ?_, fun p a b => ?_, fun p i a b c d => ?_⟩, by rw [e 1 (by omega) (by omega)]; exact h1, by rw [e 0 (by omega) (by omega)]; exact h0, fun p a b => ?_⟩
  · rw [e 7 (by omega) (by omega)] at b
    rw [e (8 + i) (by omega) (by omega)]
    have := h6 i a b
    omega
  · rw [e 7 (by omega) (by omega), e (229 + p) (by omega) (by omega), h4 (229 + p) (by omega)]
    omega
  · rw [e _ (by omega) (by omega), h4 _ (by omega)]
    omega
  · rw [e 7 (by omega) (by omega), e (229 + p) (by omega) (by omega), h4 (229 + p) (by omega), ec p a b]
    have := hk p a b
    omega
theorem g_tab_ok {τ ρ : Int → Int} : ∀ (n : Nat) {s : TS}, TSW s → s.1 3 - s.1 4 + 1 ≤ n → ((g_tab τ ρ n s).1 = 0 ∨ (g_tab τ ρ n s).1 = 1) ∧ ((g_tab τ ρ n s).1 = 1 → TSW (g_tab τ ρ n s).2) ∧ ((g_tab τ ρ n s).1 = 0 → 0 ≤ (g_tab τ ρ n s).2.1 16 ∧ (g_tab τ ρ n s).2.1 16 ≤ 940) := by
  intro n
  induction n with
  | zero => intro s h q; have := h.1.2.1; omega
  | succ n ih =>
    intro s h q
    have ok := g_line_ok (τ := τ) (ρ := ρ) h
    unfold g_tab
    split
    · exact ⟨Or.inr rfl, fun _ => h, fun q => absurd (show (1 : Int) = 0 from q) (by decide)⟩
    · simp only
      generalize g_line τ ρ s = r at *
      split
      · rename_i r0
        exact ⟨Or.inl rfl, fun q => absurd (show (0 : Int) = 1 from q) (by decide), fun _ => ok.2.2 r0⟩
      · rename_i r0
        have o2 := ok.2.1 (by have := ok.1; omega)
        split
        · have := OKR_bad (s := s) (k := 1) o2.1
          exact ⟨this.1, fun q => (this.2.1 q).1, this.2.2⟩
        · rename_i g
          have hg : isG 59 r.2 := Decidable.not_not.mp g
          have a1 := o2.2.2.1 (Or.inr (Or.inr hg.1))
          have a2 := o2.2.2.2
          have b1 := GO.nx (τ := τ) o2.1
          refine ih ((o2.1.nx (τ := τ)).w (by omega) (by omega)) ?_
          rw [g_w_n (by omega), g_w_n (by omega), b1.2.2]
          have := b1.1
          omega
section M13
variable {G : GE} {I J : HI} {P : HP} {T : HT} {z : Nat} {m d : Nat} {Q : QT} {σ u τ ρ : Int → Int} {s : TS}
set_option maxHeartbeats 2000000 in
theorem M_table (hs : shM G P T m) (hτ : I (m + 1) = τ) (hρ : J (m + 6) = ρ) (h2 : 0 ≤ s.1 2 ∧ s.1 2 ≤ 940)
    (hQ : if (g_table τ ρ s).1 = 0 then Q (some (iv (-1 - (g_table τ ρ s).2.1 16))) (hI (ur I (m + 2) σ) m (g_table τ ρ s).2) (hJ J m (g_table τ ρ s).2) P T z
      else Q (some (iv ((g_table τ ρ s).2.1 19))) (ur (hI I m (g_w 27 0 (g_table τ ρ s).2)) (m + 2) (f_begins (cpy (g_table τ ρ s).2.2.2.1 σ 765))) (ur (ui J m 17 (g_table τ ρ s).2.2.1) (m + 5) (nmc (g_table τ ρ s).2.2.2.2 6)) P T z) : MC G yX11_table (ws_ yX11_table cX11_table 2 (some FieldType.int)) (d + 6) 0 0 [.ref m] (hI (ur I (m + 2) σ) m s) (hJ J m s) P T z Q nX := by
  have hb := hs.b
  refine MC.of (by decide) (Nat.le_of_ble_eq_true rfl) ?_
  show PW G mX11_table (rmD (d + 6) 0 0) (MZ G Q nX 0 0) 0 0 (hI (ur I (m + 2) σ) m s) (hJ J m s) P T z 0 [some (.ref m), none] []
  have hτ2 : (ur I (m + 2) σ) (m + 1) = τ := by rw [ur_n (by omega)]; exact hτ
  have bg := g_t0_w (τ := τ) (s := s) h2
  have fin : ∀ (r : Int × TS) (l1 : Option Value), TSW r.2 → Q (some (iv (r.2.1 19))) (ur (hI I m (g_w 27 0 r.2)) (m + 2) (f_begins (cpy r.2.2.2.1 σ 765))) (ur (ui J m 17 r.2.2.1) (m + 5) (nmc r.2.2.2.2 6)) P T z → PW G mX11_table (rmD (d + 6) 0 0) (MZ G Q nX 0 0) 0 0 (hI (ur I (m + 2) σ) m r.2) (hJ J m r.2) P T z 106 [some (.ref m), l1] [] := by
    intro r l1 hw hQ
    have lp1 : ∀ (n : Nat) (i : Int), 0 ≤ i → i ≤ 765 → 765 - i < n → PW G mX11_table (rmD (d + 6) 0 0) (MZ G Q nX 0 0) 0 0 (hI (ur I (m + 2) (cpy r.2.2.2.1 σ 765)) m r.2) (hJ J m r.2) P T z 144 [some (.ref m), some (iv 765)] [] → PW G mX11_table (rmD (d + 6) 0 0) (MZ G Q nX 0 0) 0 0 (hI (ur I (m + 2) (cpy r.2.2.2.1 σ i)) m r.2) (hJ J m r.2) P T z 108 [some (.ref m), some (iv i)] [] := by
      intro n
      induction n with
      | zero => intro i h0 h1 h2; omega
      | succ n ih =>
        intro i g0 g1 g2 kk
        refine r_iload_n (pc := 108) dX11_table_108 rfl rfl ?_
        refine r_sipush (pc := 109) dX11_table_109 (by decide +kernel) ?_
        refine r_icmp_ge (pc := 112) 144 dX11_table_112 rfl (by omega) (by omega) (fun h112 => ?_) (fun h112 => ?_)
        · obtain rfl : i = 765 := by omega
          exact kk
        have nx := ih (i + 1) (by omega) (by omega) (by omega) kk
        rw [← cpy_us g0] at nx
        refine r_aload_n (pc := 115) dX11_table_115 rfl rfl ?_
        refine r_getr (pc := 116) (c := 11) (k := 6) (kz := 6) hs.o cok_11 (Nat.le_of_ble_eq_true rfl) q1866 ⟨rfl, rfl⟩ (Or.inl rfl) rfl (fun _ _ _ => rfl) hs.p_s dX11_table_116 ?_
        refine r_iload_n (pc := 119) dX11_table_119 rfl rfl ?_
        refine r_iload_n (pc := 120) dX11_table_120 rfl rfl ?_
        refine r_sipush (pc := 121) dX11_table_121 (by decide +kernel) ?_
        refine r_icmp_ge (pc := 124) 136 dX11_table_124 rfl (by omega) (by omega) (fun h124 => ?_) (fun h124 => ?_)
        · rw [if_neg (by omega)] at nx
          refine r_iconst (pc := 136) dX11_table_136 ?_
          refine r_iast (pc := 137) hs.t_s (by omega) (by omega) (by omega) (by omega) dX11_table_137 ?_
          try simp (disch := omega) only [ui_ur, ui_ur_n, ur_sv, ur_nv, ui_sv, ui_nv, ui_uis, us_s, us_n]
          refine r_iinc1 (pc := 138) (Nat.le_of_ble_eq_true rfl) dX11_table_138 rfl ?_
          refine r_goto (pc := 141) 108 dX11_table_141 rfl ?_
          exact nx
        rw [if_pos h124] at nx
        refine r_aload_n (pc := 127) dX11_table_127 rfl rfl ?_
        refine r_getr (pc := 128) (c := 11) (k := 7) (kz := 7) hs.o cok_11 (Nat.le_of_ble_eq_true rfl) q1867 ⟨rfl, rfl⟩ (Or.inl rfl) rfl (fun _ _ _ => rfl) hs.p_h dX11_table_128 ?_
        refine r_iload_n (pc := 131) dX11_table_131 rfl rfl ?_
        refine r_iald (pc := 132) hs.t_h (by omega) (by omega) dX11_table_132 (fun hr132 => ?_)
        try simp (disch := omega) only [ui_ur, ui_ur_n, ur_sv, ur_nv, ui_sv, ui_nv, ui_uis, us_s, us_n] at hr132 ⊢
        refine r_goto (pc := 133) 137 dX11_table_133 rfl ?_
        refine r_iast (pc := 137) hs.t_s (by omega) (by omega) (by omega) (by omega) dX11_table_137 ?_
        try simp (disch := omega) only [ui_ur, ui_ur_n, ur_sv, ur_nv, ui_sv, ui_nv, ui_uis, us_s, us_n]
        refine r_iinc1 (pc := 138) (Nat.le_of_ble_eq_true rfl) dX11_table_138 rfl ?_
        refine r_goto (pc := 141) 108 dX11_table_141 rfl ?_
        exact nx
    have lp2 : ∀ (n : Nat) (i : Int), 0 ≤ i → i ≤ 6 → 6 - i < n → PW G mX11_table (rmD (d + 6) 0 0) (MZ G Q nX 0 0) 0 0 (hI (ur I (m + 2) (cpy r.2.2.2.1 σ 765)) m r.2) (ur (ui J m 17 r.2.2.1) (m + 5) (nmc r.2.2.2.2 6)) P T z 173 [some (.ref m), some (iv 6)] [] → PW G mX11_table (rmD (d + 6) 0 0) (MZ G Q nX 0 0) 0 0 (hI (ur I (m + 2) (cpy r.2.2.2.1 σ 765)) m r.2) (ur (ui J m 17 r.2.2.1) (m + 5) (nmc r.2.2.2.2 i)) P T z 146 [some (.ref m), some (iv i)] [] := by
      intro n
      induction n with
      | zero => intro i h0 h1 h2; omega
      | succ n ih =>
        intro i g0 g1 g2 kk
        refine r_iload_n (pc := 146) dX11_table_146 rfl rfl ?_
        refine r_bipush (pc := 147) dX11_table_147 (by decide +kernel) ?_
        refine r_icmp_ge (pc := 149) 173 dX11_table_149 rfl (by omega) (by omega) (fun h149 => ?_) (fun h149 => ?_)
        · obtain rfl : i = 6 := by omega
          exact kk
        have nx := ih (i + 1) (by omega) (by omega) (by omega) kk
        rw [← nmc_us g0] at nx
        refine r_aload_n (pc := 152) dX11_table_152 rfl rfl ?_
        refine r_getr (pc := 153) (c := 11) (k := 9) (kz := 9) hs.o cok_11 (Nat.le_of_ble_eq_true rfl) q1869 ⟨rfl, rfl⟩ (Or.inl rfl) rfl (fun _ _ _ => rfl) hs.p_names dX11_table_153 ?_
        refine r_iload_n (pc := 156) dX11_table_156 rfl rfl ?_
        refine r_aload_n (pc := 157) dX11_table_157 rfl rfl ?_
        refine r_getr (pc := 158) (c := 11) (k := 9) (kz := 9) hs.o cok_11 (Nat.le_of_ble_eq_true rfl) q1869 ⟨rfl, rfl⟩ (Or.inl rfl) rfl (fun _ _ _ => rfl) hs.p_names dX11_table_158 ?_
        refine r_bipush (pc := 161) dX11_table_161 (by decide +kernel) ?_
        refine r_iload_n (pc := 163) dX11_table_163 rfl rfl ?_
        refine r_iadd (pc := 164) dX11_table_164 ?_
        refine r_lald (pc := 165) hs.t_names (by omega) (by omega) dX11_table_165 (fun hr165 => ?_)
        try simp (disch := omega) only [ui_ur, ui_ur_n, ur_sv, ur_nv, ui_sv, ui_nv, ui_uis, us_s, us_n] at hr165 ⊢
        refine r_last (pc := 166) hs.t_names (by omega) (by omega) (by omega) (by omega) dX11_table_166 ?_
        try simp (disch := omega) only [ui_ur, ui_ur_n, ur_sv, ur_nv, ui_sv, ui_nv, ui_uis, us_s, us_n]
        refine r_iinc1 (pc := 167) (Nat.le_of_ble_eq_true rfl) dX11_table_167 rfl ?_
        refine r_goto (pc := 170) 146 dX11_table_170 rfl ?_
        exact nx
    refine r_iconst (pc := 106) dX11_table_106 ?_
    refine r_istore_n1 (pc := 107) (Nat.le_of_ble_eq_true rfl) dX11_table_107 rfl ?_
    have l1 := lp1 766 0 (by omega) (by omega) (by omega)
    rw [cpy_0] at l1
    refine l1 ?_
    refine r_iconst (pc := 144) dX11_table_144 ?_
    refine r_istore_n1 (pc := 145) (Nat.le_of_ble_eq_true rfl) dX11_table_145 rfl ?_
    have l2 := lp2 7 0 (by omega) (by omega) (by omega)
    rw [nmc_0] at l2
    refine l2 ?_
    refine r_aload_n (pc := 173) dX11_table_173 rfl rfl ?_
    refine r_iconst (pc := 174) dX11_table_174 ?_
    refine r_puti (pc := 175) (c := 11) (k := 27) (kz := 27) hs.o cok_11 (Nat.le_of_ble_eq_true rfl) q1887 ⟨rfl, rfl⟩ (Or.inl rfl) rfl (by omega) rfl rfl (by omega) (fun _ _ _ => rfl) ⟨rfl, rfl⟩ dX11_table_175 ?_
    try simp (disch := omega) only [ui_ur, ui_ur_n, ur_sv, ur_nv, ui_sv, ui_nv, ui_uis, us_s, us_n]
    refine r_aload_n (pc := 178) dX11_table_178 rfl rfl ?_
    obtain ⟨c1, c2, c3, c4⟩ := cpy_RG (σ := σ) hw.2.1
    have e : ur (ur (ur I (m + 2) (cpy r.2.2.2.1 σ 765)) (m + 3) r.2.2.2.1) m (us r.2.1 27 0) = ur (hI I m (g_w 27 0 r.2)) (m + 2) (cpy r.2.2.2.1 σ 765) := by
      rw [ur_comm (a := m + 2) (b := m + 3) (by omega), ur_comm (a := m + 2) (b := m) (by omega)]
      rfl
    rw [e]
    refine r_callV0 (pc := 179) (M_begins hs c1 c2 c3 c4 fe_i) im_X11_begins qs69 q2122 hs.o rfl dX11_table_179 (Nat.le_of_ble_eq_true rfl) (Nat.le_of_ble_eq_true rfl) rfl (k_fv ?_) (fun _ _ _ _ _ _ _ hx => no_x hx)
    refine r_aload_n (pc := 182) dX11_table_182 rfl rfl ?_
    refine r_geti (pc := 183) (c := 11) (k := 19) (kz := 19) hs.o cok_11 (Nat.le_of_ble_eq_true rfl) q1879 ⟨rfl, rfl⟩ (Or.inl rfl) rfl (fun _ _ _ => rfl) dX11_table_183 (fun hr183 => ?_)
    try simp (disch := omega) only [ui_ur, ui_ur_n, ur_sv, ur_nv, ui_sv, ui_nv, ui_uis, us_s, us_n] at hr183 ⊢
    refine r_ireturn (pc := 186) rfl rfl dX11_table_186 (Nat.le_of_ble_eq_true rfl) (Nat.le_of_ble_eq_true rfl) ?_
    exact hQ
  have main : ∀ (n : Nat) (s : TS) (l1 : Option Value), TSW s → 0 ≤ s.1 19 → s.1 19 ≤ s.1 4 → s.1 3 - s.1 4 + 1 ≤ n → (if (g_tab τ ρ n s).1 = 0 then Q (some (iv (-1 - (g_tab τ ρ n s).2.1 16))) (hI (ur I (m + 2) σ) m (g_tab τ ρ n s).2) (hJ J m (g_tab τ ρ n s).2) P T z
      else Q (some (iv ((g_tab τ ρ n s).2.1 19))) (ur (hI I m (g_w 27 0 (g_tab τ ρ n s).2)) (m + 2) (f_begins (cpy (g_tab τ ρ n s).2.2.2.1 σ 765))) (ur (ui J m 17 (g_tab τ ρ n s).2.2.1) (m + 5) (nmc (g_tab τ ρ n s).2.2.2.2 6)) P T z) → PW G mX11_table (rmD (d + 6) 0 0) (MZ G Q nX 0 0) 0 0 (hI (ur I (m + 2) σ) m s) (hJ J m s) P T z 63 [some (.ref m), l1] [] := by
    intro n
    induction n with
    | zero => intro s l1 h _ _ q; have := h.1.2.1; omega
    | succ n ih =>
      intro s l1 hw l90 l91 q hQ
      have k19 := g_line_19 (τ := τ) (ρ := ρ) (s := s)
      have ok := g_line_ok (τ := τ) (ρ := ρ) hw
      unfold g_tab at hQ
      have out : ∀ r : TS, 0 ≤ r.1 16 ∧ r.1 16 ≤ 940 → Q (some (iv (-1 - r.1 16))) (hI (ur I (m + 2) σ) m r) (hJ J m r) P T z → PW G mX11_table (rmD (d + 6) 0 0) (MZ G Q nX 0 0) 0 0 (hI (ur I (m + 2) σ) m r) (hJ J m r) P T z 86 [some (.ref m), l1] [] := by
        intro r hr hQ
        refine r_iconst (pc := 86) dX11_table_86 ?_
        refine r_aload_n (pc := 87) dX11_table_87 rfl rfl ?_
        refine r_geti (pc := 88) (c := 11) (k := 16) (kz := 16) hs.o cok_11 (Nat.le_of_ble_eq_true rfl) q1876 ⟨rfl, rfl⟩ (Or.inl rfl) rfl (fun _ _ _ => rfl) dX11_table_88 (fun hr88 => ?_)
        try simp (disch := omega) only [ui_ur, ui_ur_n, ur_sv, ur_nv, ui_sv, ui_nv, ui_uis, us_s, us_n] at hr88 ⊢
        refine r_isub (pc := 91) dX11_table_91 ?_
        refine r_ireturn (pc := 92) rfl rfl dX11_table_92 (Nat.le_of_ble_eq_true rfl) (Nat.le_of_ble_eq_true rfl) ?_
        exact hQ
      refine r_aload_n (pc := 63) dX11_table_63 rfl rfl ?_
      refine r_geti (pc := 64) (c := 11) (k := 11) (kz := 11) hs.o cok_11 (Nat.le_of_ble_eq_true rfl) q1871 ⟨rfl, rfl⟩ (Or.inl rfl) rfl (fun _ _ _ => rfl) dX11_table_64 (fun hr64 => ?_)
      try simp (disch := omega) only [ui_ur, ui_ur_n, ur_sv, ur_nv, ui_sv, ui_nv, ui_uis, us_s, us_n] at hr64 ⊢
      refine r_if_eq (pc := 67) 106 dX11_table_67 rfl (by omega) (fun h67 => ?_) (fun h67 => ?_)
      · rw [if_pos h67, if_neg (fun q => absurd (show (1 : Int) = 0 from q) (by decide))] at hQ
        exact fin (1, s) l1 hw hQ
      rw [if_neg h67] at hQ
      simp only at hQ
      refine r_aload_n (pc := 70) dX11_table_70 rfl rfl ?_
      refine r_callV0 (pc := 71) (M_line (I := ur I (m + 2) σ) (J := J) (s := s) hs hτ2 hρ hw fe_i) im_X11_line qs59 q2079 hs.o rfl dX11_table_71 (Nat.le_of_ble_eq_true rfl) (Nat.le_of_ble_eq_true rfl) rfl (k_fi ?_) (fun _ _ _ _ _ _ _ hx => no_x hx)
      generalize g_line τ ρ s = r at *
      have ok1 := ok.1
      refine r_if_eq (pc := 74) 86 dX11_table_74 rfl (by omega) (fun h74 => ?_) (fun h74 => ?_)
      · rw [if_pos h74, if_pos rfl] at hQ
        exact out r.2 (ok.2.2 h74) hQ
      rw [if_neg h74] at hQ
      have o2 := ok.2.1 (by have := ok.1; omega)
      refine r_aload_n (pc := 77) dX11_table_77 rfl rfl ?_
      refine r_bipush (pc := 78) dX11_table_78 (by decide +kernel) ?_
      by_cases hg : isG 59 r.2
      · rw [if_neg (show ¬ ¬ isG 59 r.2 from fun q => q hg)] at hQ
        refine r_callV1 (pc := 80) (M_sign (I := ur I (m + 2) σ) (J := J) (s := r.2) (τ := τ) hs hτ2 o2.1.1 (by omega) (by rw [if_pos hg]; exact fe_i)) im_X11_sign qs68 q2118 hs.o rfl dX11_table_80 (Nat.le_of_ble_eq_true rfl) (Nat.le_of_ble_eq_true rfl) rfl (k_fi ?_) (fun _ _ _ _ _ _ _ hx => no_x hx)
        have b1 := GO.nx (τ := τ) o2.1
        have w2 := o2.1.nx (τ := τ)
        have a1 := o2.2.2.1 (Or.inr (Or.inr hg.1))
        have a2 := o2.2.2.2
        have ln : (g_nx τ r.2).1 19 = s.1 19 := nx19.trans (k19 h74)
        have b2 := b1.1
        have b3 := w2.1.2.1
        have b4 := w2.1.2.2.1
        generalize g_nx τ r.2 = t at *
        refine r_if_ne (pc := 83) 93 dX11_table_83 rfl (by omega) (fun h83 => ?_) (fun h83 => ?_)
        · refine r_aload_n (pc := 93) dX11_table_93 rfl rfl ?_
          refine r_dup (pc := 94) dX11_table_94 rfl ?_
          refine r_geti (pc := 95) (c := 11) (k := 19) (kz := 19) hs.o cok_11 (Nat.le_of_ble_eq_true rfl) q1879 ⟨rfl, rfl⟩ (Or.inl rfl) rfl (fun _ _ _ => rfl) dX11_table_95 (fun hr95 => ?_)
          try simp (disch := omega) only [ui_ur, ui_ur_n, ur_sv, ur_nv, ui_sv, ui_nv, ui_uis, us_s, us_n] at hr95 ⊢
          refine r_iconst (pc := 98) dX11_table_98 ?_
          refine r_iadd (pc := 99) dX11_table_99 ?_
          refine r_puti (pc := 100) (c := 11) (k := 19) (kz := 19) hs.o cok_11 (Nat.le_of_ble_eq_true rfl) q1879 ⟨rfl, rfl⟩ (Or.inl rfl) rfl (by omega) rfl rfl (by omega) (fun _ _ _ => rfl) ⟨rfl, rfl⟩ dX11_table_100 ?_
          try simp (disch := omega) only [ui_ur, ui_ur_n, ur_sv, ur_nv, ui_sv, ui_nv, ui_uis, us_s, us_n]
          refine r_goto (pc := 103) 63 dX11_table_103 rfl ?_
          refine ih (g_w 19 (t.1 19 + 1) t) l1 (w2.w (by omega) (by omega)) (by rw [g_w_s]; omega) (by rw [g_w_s, g_w_n (by omega)]; omega) ?_ hQ
          rw [g_w_n (by omega), g_w_n (by omega), b1.2.2]
          have := b1.1
          omega
        omega
      · rw [if_pos hg, if_pos rfl] at hQ
        refine r_callV1 (pc := 80) (M_sign (I := ur I (m + 2) σ) (J := J) (s := r.2) (τ := τ) hs hτ2 o2.1.1 (by omega) (by rw [if_neg hg]; exact fe_i)) im_X11_sign qs68 q2118 hs.o rfl dX11_table_80 (Nat.le_of_ble_eq_true rfl) (Nat.le_of_ble_eq_true rfl) rfl (k_fi ?_) (fun _ _ _ _ _ _ _ hx => no_x hx)
        refine r_if_ne (pc := 83) 93 dX11_table_83 rfl (by omega) (fun h83 => ?_) (fun h83 => ?_)
        · omega
        exact out (g_bad 1 r.2) ((OKR_bad (s := s) o2.1).2.2 rfl) hQ
  refine r_aload_n (pc := 0) dX11_table_0 rfl rfl ?_
  refine r_iconst (pc := 1) dX11_table_1 ?_
  refine r_puti (pc := 2) (c := 11) (k := 0) (kz := 0) hs.o cok_11 (Nat.le_of_ble_eq_true rfl) q1860 ⟨rfl, rfl⟩ (Or.inl rfl) rfl (by omega) rfl rfl (by omega) (fun _ _ _ => rfl) ⟨rfl, rfl⟩ dX11_table_2 ?_
  try simp (disch := omega) only [ui_ur, ui_ur_n, ur_sv, ur_nv, ui_sv, ui_nv, ui_uis, us_s, us_n]
  refine r_aload_n (pc := 5) dX11_table_5 rfl rfl ?_
  refine r_sipush (pc := 6) dX11_table_6 (by decide +kernel) ?_
  refine r_callV1 (pc := 9) (M_taken (I := ur (ur I (m + 2) σ) (m + 3) s.2.2.1) (ω := us s.1 0 0) hs (by omega) fe_i) im_X11_taken qs56 q2061 hs.o rfl dX11_table_9 (Nat.le_of_ble_eq_true rfl) (Nat.le_of_ble_eq_true rfl) rfl (k_fv ?_) (fun _ _ _ _ _ _ _ hx => no_x hx)
  try simp (disch := omega) only [ui_ur, ui_ur_n, ur_sv, ur_nv, ui_sv, ui_nv, ui_uis, us_s, us_n]
  refine r_aload_n (pc := 12) dX11_table_12 rfl rfl ?_
  refine r_iconst (pc := 13) dX11_table_13 ?_
  refine r_puti (pc := 14) (c := 11) (k := 15) (kz := 15) hs.o cok_11 (Nat.le_of_ble_eq_true rfl) q1875 ⟨rfl, rfl⟩ (Or.inl rfl) rfl (by omega) rfl rfl (by omega) (fun _ _ _ => rfl) ⟨rfl, rfl⟩ dX11_table_14 ?_
  try simp (disch := omega) only [ui_ur, ui_ur_n, ur_sv, ur_nv, ui_sv, ui_nv, ui_uis, us_s, us_n]
  refine r_aload_n (pc := 17) dX11_table_17 rfl rfl ?_
  refine r_iconst (pc := 18) dX11_table_18 ?_
  refine r_puti (pc := 19) (c := 11) (k := 19) (kz := 19) hs.o cok_11 (Nat.le_of_ble_eq_true rfl) q1879 ⟨rfl, rfl⟩ (Or.inl rfl) rfl (by omega) rfl rfl (by omega) (fun _ _ _ => rfl) ⟨rfl, rfl⟩ dX11_table_19 ?_
  try simp (disch := omega) only [ui_ur, ui_ur_n, ur_sv, ur_nv, ui_sv, ui_nv, ui_uis, us_s, us_n]
  refine r_aload_n (pc := 22) dX11_table_22 rfl rfl ?_
  refine r_iconst (pc := 23) dX11_table_23 ?_
  refine r_puti (pc := 24) (c := 11) (k := 20) (kz := 20) hs.o cok_11 (Nat.le_of_ble_eq_true rfl) q1880 ⟨rfl, rfl⟩ (Or.inl rfl) rfl (by omega) rfl rfl (by omega) (fun _ _ _ => rfl) ⟨rfl, rfl⟩ dX11_table_24 ?_
  try simp (disch := omega) only [ui_ur, ui_ur_n, ur_sv, ur_nv, ui_sv, ui_nv, ui_uis, us_s, us_n]
  refine r_aload_n (pc := 27) dX11_table_27 rfl rfl ?_
  refine r_iconst (pc := 28) dX11_table_28 ?_
  refine r_puti (pc := 29) (c := 11) (k := 21) (kz := 21) hs.o cok_11 (Nat.le_of_ble_eq_true rfl) q1881 ⟨rfl, rfl⟩ (Or.inl rfl) rfl (by omega) rfl rfl (by omega) (fun _ _ _ => rfl) ⟨rfl, rfl⟩ dX11_table_29 ?_
  try simp (disch := omega) only [ui_ur, ui_ur_n, ur_sv, ur_nv, ui_sv, ui_nv, ui_uis, us_s, us_n]
  refine r_aload_n (pc := 32) dX11_table_32 rfl rfl ?_
  refine r_iconst (pc := 33) dX11_table_33 ?_
  refine r_puti (pc := 34) (c := 11) (k := 22) (kz := 22) hs.o cok_11 (Nat.le_of_ble_eq_true rfl) q1882 ⟨rfl, rfl⟩ (Or.inl rfl) rfl (by omega) rfl rfl (by omega) (fun _ _ _ => rfl) ⟨rfl, rfl⟩ dX11_table_34 ?_
  try simp (disch := omega) only [ui_ur, ui_ur_n, ur_sv, ur_nv, ui_sv, ui_nv, ui_uis, us_s, us_n]
  refine r_iconst (pc := 37) dX11_table_37 ?_
  refine r_istore_n1 (pc := 38) (Nat.le_of_ble_eq_true rfl) dX11_table_38 rfl ?_
  have lp0 : ∀ (n : Nat) (i : Int), 0 ≤ i → i ≤ 584 → 584 - i < n → PW G mX11_table (rmD (d + 6) 0 0) (MZ G Q nX 0 0) 0 0 (hI (ur I (m + 2) σ) m (g_t0 s)) (hJ J m s) P T z 59 [some (.ref m), some (iv 584)] [] → PW G mX11_table (rmD (d + 6) 0 0) (MZ G Q nX 0 0) 0 0 (hI (ur I (m + 2) σ) m ((g_t0 s).1, s.2.1, cl s.2.2.1 i, s.2.2.2)) (hJ J m s) P T z 39 [some (.ref m), some (iv i)] [] := by
    intro n
    induction n with
    | zero => intro i h0 h1 h2; omega
    | succ n ih =>
      intro i g0 g1 g2 kk
      refine r_iload_n (pc := 39) dX11_table_39 rfl rfl ?_
      refine r_sipush (pc := 40) dX11_table_40 (by decide +kernel) ?_
      refine r_icmp_ge (pc := 43) 59 dX11_table_43 rfl (by omega) (by omega) (fun h43 => ?_) (fun h43 => ?_)
      · obtain rfl : i = 584 := by omega
        exact kk
      have nx := ih (i + 1) (by omega) (by omega) (by omega) kk
      rw [← cl_us g0] at nx
      refine r_aload_n (pc := 46) dX11_table_46 rfl rfl ?_
      refine r_getr (pc := 47) (c := 11) (k := 7) (kz := 7) hs.o cok_11 (Nat.le_of_ble_eq_true rfl) q1867 ⟨rfl, rfl⟩ (Or.inl rfl) rfl (fun _ _ _ => rfl) hs.p_h dX11_table_47 ?_
      refine r_iload_n (pc := 50) dX11_table_50 rfl rfl ?_
      refine r_iconst (pc := 51) dX11_table_51 ?_
      refine r_iast (pc := 52) hs.t_h (by omega) (by omega) (by omega) (by omega) dX11_table_52 ?_
      try simp (disch := omega) only [ui_ur, ui_ur_n, ur_sv, ur_nv, ui_sv, ui_nv, ui_uis, us_s, us_n]
      refine r_iinc1 (pc := 53) (Nat.le_of_ble_eq_true rfl) dX11_table_53 rfl ?_
      refine r_goto (pc := 56) 39 dX11_table_56 rfl ?_
      exact nx
  have l0 := lp0 585 0 (by omega) (by omega) (by omega)
  rw [cl_0] at l0
  refine l0 ?_
  have e4 : (g_t0 s).1 4 = 0 := by unfold g_t0; simp (disch := omega) only [us_n, us_s]
  have e3 : (g_t0 s).1 3 = s.1 2 := by unfold g_t0; simp (disch := omega) only [us_n, us_s]
  refine r_aload_n (pc := 59) dX11_table_59 rfl rfl ?_
  refine r_callV0 (pc := 60) (M_nx (I := ur I (m + 2) σ) (J := J) (s := g_t0 s) hs hτ2 (by omega) fe_i) im_X11_next qs57 q2065 hs.o rfl dX11_table_60 (Nat.le_of_ble_eq_true rfl) (Nat.le_of_ble_eq_true rfl) rfl (k_fv ?_) (fun _ _ _ _ _ _ _ hx => no_x hx)
  have e19 : (g_nx τ (g_t0 s)).1 19 = 0 := nx19.trans (by unfold g_t0; simp (disch := omega) only [us_n, us_s])
  exact main 950 _ _ bg (by omega) (by have := bg.1.1; omega) (by have := bg.1; unfold TI at this; omega) hQ
end M13
