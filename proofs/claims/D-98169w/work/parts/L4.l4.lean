/-! ===== the face: askings, undone askings, bents ===== -/
section L4p
variable {σ : Int → Int} {a b k l : Int}
theorem end_tb {fr : Int} (h : CV σ) (h3 : R3 σ) (h1 : 0 < σ 1) {j : Int} (h0 : 0 ≤ j) (h4 : j < 4) : f_end σ fr j = σ j := by
  unfold f_end
  by_cases c : σ 6 = σ 1
  · rw [if_pos c]; exact us_n (by omega)
  · rw [if_neg c]
    exact (h.settles (fr := fr) h3 h1).2.2.2.1 j h0 (by omega) (by omega)
theorem asks_tb (h : WF σ) (ho : AO σ a b k) {j : Int} (h0 : 0 ≤ j) (hj : j < 4) : (f_asks σ a b k l).1 j = σ j := by
  have ho2 := ho
  obtain ⟨h4, ha, hb, hab, hk, hh⟩ := ho2
  have ht := h.cv.ta
  unfold f_asks
  by_cases c : 0 < f_gives σ b k l
  · rw [if_pos c]
    obtain ⟨c1, r1, n1, e6, e7⟩ := ask_g h ho c
    obtain ⟨c2, r2⟩ := lay_ok (a := a) (c := k) c1 (by omega) (by omega) r1
    have hb2 := c1.books (p := a) (k := k) (by omega) (by omega)
    have x1 := hb2.2.1 1 (by omega) (by omega)
    have xj := hb2.2.1 j (by omega) (by omega)
    have y1 := n1 1 (by omega) (by omega)
    have yj := n1 j (by omega) (by omega)
    have := end_tb (fr := a) c2 r2 (by omega) h0 hj
    simp only
    omega
  · rw [if_neg c]
    obtain ⟨c1, r1, n1, e6, e7⟩ := ask_n h ho
    have y1 := n1 1 (by omega) (by omega)
    have yj := n1 j (by omega) (by omega)
    try dsimp only
    by_cases d : 0 < f_no1 (f_ask0 σ a k) b k 7
    · rw [if_pos d]
      have c3 : CV (us (f_no1 (f_ask0 σ a k) b k) 6 0) := c1.usc (by omega)
      have r3 : R3 (us (f_no1 (f_ask0 σ a k) b k) 6 0) := r1.usc (by omega)
      obtain ⟨c4, r4, n4, e8⟩ := ask_d (k := k) c3 r3 (a := a) (by rw [us_n (by omega)]; omega) (by rw [us_n (by omega)]; exact d)
      obtain ⟨c5, r5⟩ := lay_ok (a := a) c4 (by omega) e8 r4
      have hb2 := c4.books (p := a) (k := us (f_no1 (f_ask0 σ a k) b k) 6 0 8) (by omega) e8
      have x1 := hb2.2.1 1 (by omega) (by omega)
      have xj := hb2.2.1 j (by omega) (by omega)
      have x11 := n4 1 (by omega) (by omega)
      have x1j := n4 j (by omega) (by omega)
      have z11 : us (f_no1 (f_ask0 σ a k) b k) 6 0 1 = f_no1 (f_ask0 σ a k) b k 1 := us_n (by omega)
      have z1j : us (f_no1 (f_ask0 σ a k) b k) 6 0 j = f_no1 (f_ask0 σ a k) b k j := us_n (by omega)
      have := end_tb (fr := if us (f_no1 (f_ask0 σ a k) b k) 6 0 2 = 1 ∧ us (f_no1 (f_ask0 σ a k) b k) 6 0 8 = k then a else (a + 1) % σ 1) c5 r5 (by omega) h0 hj
      simp only
      omega
    · rw [if_neg d]
      have := end_tb (fr := (a + 1) % σ 1) c1 r1 (by omega) h0 hj
      simp only
      omega
theorem why_ao (h : WF σ) (ha : isP σ a) (hb : isP σ b) (hk : isK σ k) (hw : f_why σ a b k = 0) : AO σ a b k := by
  have ht := h.cv.ta
  have h4 := h.cv.h4 (p := a) (k := k) (by omega) (by omega) (by omega) (by omega)
  unfold f_why at hw
  split at hw
  · omega
  split at hw
  · omega
  split at hw
  · omega
  split at hw
  · omega
  exact ⟨by omega, by omega, by omega, by omega, by omega, by omega⟩
theorem why_r : 0 ≤ f_why σ a b k ∧ f_why σ a b k ≤ 4 := by
  unfold f_why
  split
  · omega
  split
  · omega
  split
  · omega
  split <;> omega
theorem WF.hn (h : WF σ) (h2 : 2 ≤ σ 1) {p : Int} (hp : 0 ≤ p ∧ p < σ 1) (hc : f_cards σ p ≠ 0) : HN σ p := by
  have ht := h.cv.ta
  refine ⟨by omega, hp, fun k x y => (h.cv.h4 (by omega) (by omega) x y).1, ?_, h.cv.dr (by omega) (by omega)⟩
  refine Classical.byContradiction fun c => hc ?_
  rw [(h.cv.cd (by omega) (by omega)).1]
  refine sm_z (fun j x y => ?_)
  refine Classical.byContradiction fun e => c ⟨j, x, by omega, e⟩
theorem bent_eq {p rule : Int} (h2 : 2 ≤ σ 1) (hc : f_cards σ p ≠ 0) : f_bent σ p rule = f_bent0 σ p rule := if_neg (by omega)
theorem WF.ao (h : WF σ) (h2 : 2 ≤ σ 1) (h4 : σ 4 ≠ -1) {rule : Int} (hr : 0 ≤ rule ∧ rule ≤ 3) : HN σ (σ 4) ∧ f_bent σ (σ 4) rule = f_bent0 σ (σ 4) rule ∧ 0 ≤ f_bent σ (σ 4) rule ∧ f_bent σ (σ 4) rule < 600 ∧ AO σ (σ 4) (f_bent σ (σ 4) rule / 100) (f_bent σ (σ 4) rule % 100) := by
  have ht := h.cv.ta
  have tu := h.tu
  obtain ⟨t0, t1, t2⟩ : 0 ≤ σ 4 ∧ σ 4 < σ 1 ∧ 0 < f_cards σ (σ 4) := by
    rcases tu with q | q
    · exact absurd q h4
    · exact q
  have hn := h.hn h2 (p := σ 4) ⟨t0, t1⟩ (by omega)
  have e := bent_eq (rule := rule) h2 (show f_cards σ (σ 4) ≠ 0 by omega)
  obtain ⟨b, k, e2, b0, b1, b2, k0, k1, k2⟩ := hn.ok hr
  rw [e, e2]
  have o := h.cv.one (p := σ 4) (k := k) t0 (by omega) k0 k1
  have c := h.cv.ca (k := k) k0 k1
  have cr := ct_r (η := σ) (k := k)
  have br := bz_r (p := 0 < σ (138 + k))
  refine ⟨hn, rfl, by omega, by omega, ?_⟩
  rw [show (100 * b + k) / 100 = b by omega, show (100 * b + k) % 100 = k by omega]
  refine ⟨rfl, ⟨t0, t1⟩, ⟨b0, b1⟩, fun q => b2 q.symm, ⟨k0, ?_⟩, k2⟩
  omega
def W2 (σ : Int → Int) : Prop := WF σ ∧ 2 ≤ σ 1
theorem W2.asks (h : W2 σ) (ho : AO σ a b k) : W2 (f_asks σ a b k l).1 := ⟨h.1.asks ho, by rw [asks_tb h.1 ho (by omega) (by omega)]; exact h.2⟩
theorem sm_le1 {f : Int → Int} {n : Nat} (h : ∀ i : Int, 0 ≤ i → i < n → 0 ≤ f i) {a : Int} (h0 : 0 ≤ a) (h1 : a < n) : f a ≤ sm f n := by
  have e := sm_upd (f := f) (g := us f a 0) (a := a) (n := n) h0 h1 (fun i _ _ q => us_n q)
  have m := sm_mono (f := fun _ => 0) (g := us f a 0) (n := n) (fun i x y => by
    unfold us
    split
    · omega
    · exact h i x y)
  rw [sm_0] at m
  rw [us_s] at e
  omega
theorem WF.sp (h : WF σ) {p k : Int} (hp : 0 ≤ p ∧ p < 6) (hk : 0 ≤ k ∧ k < 13) : σ (229 + p) + σ (151 + 13 * p + k) + σ 7 ≤ 52 := by
  have c := h.cv.cd hp.1 hp.2
  have ot := h.cv.ot hp.1 hp.2
  have kn := h.cv.kn hp.1 hp.2 hk.1 hk.2
  have e : sm (fun k => σ (60 + 13 * p + k) - σ (151 + 13 * p + k)) 13 = sm (fun k => σ (60 + 13 * p + k)) 13 - sm (fun k => σ (151 + 13 * p + k)) 13 := by
    simp only [sm]; omega
  have l := sm_le1 (f := fun k => σ (151 + 13 * p + k)) (n := 13) (fun j x y => (h.cv.kn hp.1 hp.2 x (by omega)).1) hk.1 (by omega)
  omega
theorem PlOK_W2 : PlOK W2 := by
  intro σ h
  have ht := h.1.cv.ta
  have h2 := h.2
  refine ⟨h.1.cv.rg, by omega, fun p x y => h.1.cv.dr x y, fun a x y c => ?_, fun h4 => ?_⟩
  · refine Classical.byContradiction fun q => c ?_
    rw [(h.1.cv.cd x y).1]
    refine sm_z (fun j u v => ?_)
    exact Classical.byContradiction fun e => q ⟨j, u, by omega, e⟩
  · have a0 := h.1.ao h2 h4 (rule := 0) (by omega)
    have ho := a0.2.2.2.2.2.1
    refine ⟨by omega, by omega, fun rule r0 r1 => ?_⟩
    obtain ⟨_, _, b0, b1, ao⟩ := h.1.ao h2 h4 (rule := rule) ⟨r0, r1⟩
    obtain ⟨_, o1, o2, o3, o4, o5⟩ := id ao
    exact ⟨b0, b1, o3, by omega, h.1.sp (by omega) (by omega), h.asks ao⟩
end L4p
section L4
variable {G : GE} {I I0 I' J : HI} {P P' P1 : HP} {T : HT} {z : Nat} {x t d g : Nat} {Q : QT} {σ μ τ ω r : Int → Int}
def told (μ f : Int → Int) : Int → Int := fun i => if 0 ≤ i ∧ i < 8 then μ i else f i
theorem C_tellAsked (hx : XS G I P T x t σ μ) (hQ : Q none (ur I (x + 76) (told μ (I (x + 76)))) J P T z) : MC G yX1_tellAsked (ws_ yX1_tellAsked cX1_tellAsked 1 (none : Option FieldType)) (d + 1) 0 0 [.ref x] I J P T z Q nX := by
  have hb := hx.b
  refine MC.of (by decide) (Nat.le_of_ble_eq_true rfl) ?_
  show PW G mX1_tellAsked (rmD (d + 1) 0 0) (MZ G Q nX 0 0) 0 0 I J P T z 0 [some (.ref x)] []
  refine r_aload_n (pc := 0) dX1_tellAsked_0 rfl rfl ?_
  refine r_getr (pc := 1) (c := 1) (k := 4) (kz := 4) hx.o cok_1 (Nat.le_of_ble_eq_true rfl) q514 ⟨rfl, rfl⟩ (Or.inl rfl) rfl (fun _ _ _ => rfl) hx.p_now dX1_tellAsked_1 ?_
  refine r_getrN (pc := 4) (c := 3) (k := 17) (kz := 17) hx.g.o cok_3 (Nat.le_of_ble_eq_true rfl) q315 ⟨rfl, rfl⟩ (Or.inl rfl) rfl (fun _ _ _ => rfl) hx.g.p_latest dX1_tellAsked_4 ?_
  refine r_iconst (pc := 7) dX1_tellAsked_7 ?_
  refine r_aload_n (pc := 8) dX1_tellAsked_8 rfl rfl ?_
  refine r_getr (pc := 9) (c := 1) (k := 9) (kz := 9) hx.o cok_1 (Nat.le_of_ble_eq_true rfl) q519 ⟨rfl, rfl⟩ (Or.inl rfl) rfl (fun _ _ _ => rfl) hx.p_asked dX1_tellAsked_9 ?_
  refine r_iconst (pc := 12) dX1_tellAsked_12 ?_
  refine r_aload_n (pc := 13) dX1_tellAsked_13 rfl rfl ?_
  refine r_getr (pc := 14) (c := 1) (k := 9) (kz := 9) hx.o cok_1 (Nat.le_of_ble_eq_true rfl) q519 ⟨rfl, rfl⟩ (Or.inl rfl) rfl (fun _ _ _ => rfl) hx.p_asked dX1_tellAsked_14 ?_
  refine r_alen (pc := 17) hx.t_asked ⟨by decide, by decide⟩ dX1_tellAsked_17 (fun hn17 hm17 => ?_)
  refine r_copy (d9 := 0) (pc := 18) (Or.inl rfl) hx.g.t_latest hx.t_asked (by omega) q1294 q380 q379 q125 (by omega) (by omega) (by omega) (by omega) (by omega) (fun _ _ _ => rfl) (Nat.le_add_left _ _) (by show 64 ≤ 64 * (_ + 1); omega) rfl dX1_tellAsked_18 ?_
  have e : cpI I (x + 13 + 30) (x + 76) 0 0 8 = ur I (x + 76) (told μ (I (x + 76))) := by
    unfold cpI told
    congr 1
    funext i
    by_cases q : 0 ≤ i ∧ i < 8
    · rw [if_pos (by omega), if_pos q, show 0 + (i - 0) = i by omega]; exact hx.r.latest q.1 q.2
    · rw [if_neg (by omega), if_neg q]
  rw [e]
  refine r_return (pc := 21) rfl dX1_tellAsked_21 (Nat.le_of_ble_eq_true rfl) (Nat.le_of_ble_eq_true rfl) ?_
  exact hQ
/-- an act: what was is kept, the game goes on -/
def AFr (x : Nat) (n : Int) (I I' : HI) (P P' : HP) : Prop := (∀ b : Nat, (b < x ∨ (x < b ∧ b < x + 13) ∨ (x + 44 ≤ b ∧ b < x + 156 ∧ b ≠ x + 76) ∨ x + 404 ≤ b) → I' b = I b) ∧ I' x = us (I x) 8 (kn n + 1) ∧ PF x P P' ∧ ∀ b : Nat, (b < x + 156 ∨ x + 404 ≤ b) → b ≠ x + 75 → P' b = P b
theorem up_id {b : Nat} {j : Int} {v : Option Nat} (h : P b j = v) : up P b j v = P := by
  funext c i
  unfold up
  split
  · rename_i e; rw [e.1, e.2, h]
  · rfl
theorem C_ask (hx : XS G I P T x t σ μ) {n : Int} {β : Int → Nat} {υ : Int → Int → Int} (hB : XB I P x t n β υ) {a b k l : Int} (ha : rg a) (hb2 : rg b) (hk : rg k) (hl : rg l)
    (hQ : if (isP σ a ∧ isP σ b ∧ isK σ k) ∧ 0 ≤ l ∧ l ≤ 1 then (if 0 < f_why σ a b k then Q (some (iv (-2 - f_why σ a b k))) I J P T z else
      ∀ I' P' β', AFr x n I I' P P' → XS G I' P' T x t (f_asks σ a b k l).1 (f_tell a b k (f_gives σ b k l) (f_asks σ a b k l).2.1 (f_asks σ a b k l).2.2 (f_lie σ b k l) (f_sure σ b k)) → XB I' P' x t (kn n + 1) β' (kb υ n σ) → I' (x + 76) = told (f_tell a b k (f_gives σ b k l) (f_asks σ a b k l).2.1 (f_asks σ a b k l).2.2 (f_lie σ b k l) (f_sure σ b k)) (I (x + 76)) → Q (some (iv (f_gives σ b k l))) I' J P' T z) else Q (some (iv (-1))) I J P T z) : MC G yX1_ask (ws_ yX1_ask cX1_ask 7 (some FieldType.int)) (d + 7) 0 0 [.ref x, iv a, iv b, iv k, iv l] I J P T z Q nX := by
  have hb := hx.b
  have ht := hx.ta
  have htx := hx.tx
  refine MC.of (by decide) (Nat.le_of_ble_eq_true rfl) ?_
  show PW G mX1_ask (rmD (d + 7) 0 0) (MZ G Q nX 0 0) 0 0 I J P T z 0 [some (.ref x), some (iv a), some (iv b), some (iv k), some (iv l), none, none] []
  have bad : ¬ ((isP σ a ∧ isP σ b ∧ isK σ k) ∧ 0 ≤ l ∧ l ≤ 1) → PW G mX1_ask (rmD (d + 7) 0 0) (MZ G Q nX 0 0) 0 0 I J P T z 20 [some (.ref x), some (iv a), some (iv b), some (iv k), some (iv l), none, none] [] := by
    intro q
    rw [if_neg q] at hQ
    refine r_iconst (pc := 20) dX1_ask_20 ?_
    refine r_ireturn (pc := 21) rfl rfl dX1_ask_21 (Nat.le_of_ble_eq_true rfl) (Nat.le_of_ble_eq_true rfl) ?_
    exact hQ
  refine r_aload_n (pc := 0) dX1_ask_0 rfl rfl ?_
  refine r_iload_n (pc := 1) dX1_ask_1 rfl rfl ?_
  refine r_iload_n (pc := 2) dX1_ask_2 rfl rfl ?_
  refine r_iload_n (pc := 3) dX1_ask_3 rfl rfl ?_
  refine r_callV3 (pc := 4) (C_areTold hx ha hb2 hk fe_i) im_X1_areTold qs25 q1246 hx.o rfl dX1_ask_4 (Nat.le_of_ble_eq_true rfl) (Nat.le_of_ble_eq_true rfl) rfl (k_fi ?_) (fun _ _ _ _ _ _ _ hx => no_x hx)
  refine r_if_eq (pc := 7) 20 dX1_ask_7 rfl bz_g (fun h7 => ?_) (fun h7 => ?_)
  · exact bad (fun q => bz_0.mp h7 q.1)
  have q1 := bz_ne.mp h7
  refine r_iload (pc := 10) dX1_ask_10 rfl ?_
  refine r_iconst (pc := 12) dX1_ask_12 ?_
  refine r_iconst (pc := 13) dX1_ask_13 ?_
  refine r_callS3 (pc := 14) (C_isIn (by omega) (by omega) (by omega) fe_i) im_X1_isIn q1228 dX1_ask_14 (Nat.le_of_ble_eq_true rfl) (Nat.le_of_ble_eq_true rfl) rfl (k_fi ?_) (fun _ _ _ _ _ _ _ hx => no_x hx)
  refine r_if_ne (pc := 17) 22 dX1_ask_17 rfl bz_g (fun h17 => ?_) (fun h17 => ?_)
  · have q2 := bz_ne.mp h17
    rw [if_pos ⟨q1, q2⟩] at hQ
    have a6 : 0 ≤ a ∧ a < 6 := by omega
    have b6 : 0 ≤ b ∧ b < 6 := by omega
    have k13 : 0 ≤ k ∧ k < 13 := by omega
    have wr9 := why_r (σ := σ) (a := a) (b := b) (k := k)
    refine r_aload_n (pc := 22) dX1_ask_22 rfl rfl ?_
    refine r_getr (pc := 23) (c := 1) (k := 4) (kz := 4) hx.o cok_1 (Nat.le_of_ble_eq_true rfl) q514 ⟨rfl, rfl⟩ (Or.inl rfl) rfl (fun _ _ _ => rfl) hx.p_now dX1_ask_23 ?_
    refine r_iload_n (pc := 26) dX1_ask_26 rfl rfl ?_
    refine r_iload_n (pc := 27) dX1_ask_27 rfl rfl ?_
    refine r_iload_n (pc := 28) dX1_ask_28 rfl rfl ?_
    refine r_callV3 (pc := 29) (C_whyNot hx.g hx.r a6 b6 k13 fe_i) im_X3_whyNot q1252 q1250 hx.g.o rfl dX1_ask_29 (Nat.le_of_ble_eq_true rfl) (Nat.le_of_ble_eq_true rfl) rfl (k_fi ?_) (fun _ _ _ _ _ _ _ hx => no_x hx)
    refine r_istore5 (pc := 32) (Nat.le_of_ble_eq_true rfl) dX1_ask_32 rfl ?_
    refine r_iload (pc := 34) dX1_ask_34 rfl ?_
    refine r_if_eq (pc := 36) 45 dX1_ask_36 rfl (by omega) (fun h36 => ?_) (fun h36 => ?_)
    · rw [if_neg (by omega)] at hQ
      have ho := why_ao hx.w q1.1 q1.2.1 q1.2.2 h36
      refine r_aload_n (pc := 45) dX1_ask_45 rfl rfl ?_
      refine r_callV0 (pc := 46) (C_snap (Q := ee J T z none (fun I' P' => ∃ β', SNF x n I I' P P' ∧ XS G I' P' T x t σ μ ∧ XB I' P' x t (kn n + 1) β' (kb υ n σ))) hx hB (fun I' P' β' a1 a2 a3 => ee_i ⟨β', a1, a2, a3⟩)) im_X1_snap qs26 q1262 hx.o rfl dX1_ask_46 (Nat.le_of_ble_eq_true rfl) (Nat.le_of_ble_eq_true rfl) rfl (k_e fun I2 P2 h2 => ?_) (fun _ _ _ _ _ _ _ hx => no_x hx)
      obtain ⟨β', hsn, hx2, hB2⟩ := h2
      show PW G mX1_ask (rmD (d + 7) 0 0) (MZ G Q nX 0 0) 0 0 I2 J P2 T z 49 [some (.ref x), some (iv a), some (iv b), some (iv k), some (iv l), some (iv (f_why σ a b k)), none] []
      refine r_aload_n (pc := 49) dX1_ask_49 rfl rfl ?_
      refine r_getr (pc := 50) (c := 1) (k := 4) (kz := 4) hx2.o cok_1 (Nat.le_of_ble_eq_true rfl) q514 ⟨rfl, rfl⟩ (Or.inl rfl) rfl (fun _ _ _ => rfl) hx2.p_now dX1_ask_50 ?_
      refine r_iload_n (pc := 53) dX1_ask_53 rfl rfl ?_
      refine r_iload_n (pc := 54) dX1_ask_54 rfl rfl ?_
      refine r_iload_n (pc := 55) dX1_ask_55 rfl rfl ?_
      refine r_iload (pc := 56) dX1_ask_56 rfl ?_
      refine r_iconst (pc := 58) dX1_ask_58 ?_
      have fin : PW G mX1_ask (rmD (d + 7) 0 0) (MZ G Q nX 0 0) 0 0 I2 J P2 T z 67 [some (.ref x), some (iv a), some (iv b), some (iv k), some (iv l), some (iv (f_why σ a b k)), none] [iv l, iv k, iv b, iv a, .ref (x + 13)] := by
        refine r_callV4 (pc := 67) (C_asks (Q := ee J T z (some (iv (f_gives σ b k l))) (fun I' P' => P' = P2 ∧ GF (x + 13) I2 I' ∧ GR I' (x + 13) t (f_asks σ a b k l).1 (f_tell a b k (f_gives σ b k l) (f_asks σ a b k l).2.1 (f_asks σ a b k l).2.2 (f_lie σ b k l) (f_sure σ b k)))) hx2.g GF.rf hx2.r hx2.w ho (by omega) (fun I' a b => ee_i ⟨rfl, a, b⟩)) im_X3_asks q1272 q1270 hx2.g.o rfl dX1_ask_67 (Nat.le_of_ble_eq_true rfl) (Nat.le_of_ble_eq_true rfl) rfl (k_e fun I3 P3 h3 => ?_) (fun _ _ _ _ _ _ _ hx => no_x hx)
        obtain ⟨rfl, hf, hr⟩ := h3
        have hx3 : XS G I3 P3 T x t (f_asks σ a b k l).1 (f_tell a b k (f_gives σ b k l) (f_asks σ a b k l).2.1 (f_asks σ a b k l).2.2 (f_lie σ b k l) (f_sure σ b k)) := ⟨hx2.x, hx2.p_table, hx2.g, hr, hx2.w.asks ho, hx2.tx⟩
        generalize (f_asks σ a b k l).1 = σ3 at hx3 hr hQ
        generalize f_tell a b k (f_gives σ b k l) (f_asks σ a b k l).2.1 (f_asks σ a b k l).2.2 (f_lie σ b k l) (f_sure σ b k) = μ3 at hx3 hr hQ
        show PW G mX1_ask (rmD (d + 7) 0 0) (MZ G Q nX 0 0) 0 0 I3 J P3 T z 70 [some (.ref x), some (iv a), some (iv b), some (iv k), some (iv l), some (iv (f_why σ a b k)), none] [iv (f_gives σ b k l)]
        refine r_istore6 (pc := 70) (Nat.le_of_ble_eq_true rfl) dX1_ask_70 rfl ?_
        refine r_aload_n (pc := 72) dX1_ask_72 rfl rfl ?_
        refine r_callV0 (pc := 73) (C_tellAsked hx3 fe_i) im_X1_tellAsked qs30 q1290 hx3.o rfl dX1_ask_73 (Nat.le_of_ble_eq_true rfl) (Nat.le_of_ble_eq_true rfl) rfl (k_fv ?_) (fun _ _ _ _ _ _ _ hx => no_x hx)
        refine r_iload (pc := 76) dX1_ask_76 rfl ?_
        refine r_ireturn (pc := 78) rfl rfl dX1_ask_78 (Nat.le_of_ble_eq_true rfl) (Nat.le_of_ble_eq_true rfl) ?_
        obtain ⟨s1, s2, s3, s4⟩ := hsn
        have f9 : ∀ b : Nat, b ≠ x + 76 → ur I3 (x + 76) (told μ3 (I3 (x + 76))) b = I3 b := fun b q => ur_n q
        have e76 : I3 (x + 76) = I (x + 76) := by rw [hf _ (by omega)]; exact s1 _ (by omega) (by omega)
        refine hQ _ P3 β' ⟨fun b q => ?_, ?_, s3, s4⟩ (hx3.fr (fun b q => f9 b (by omega))) (hB2.fr (by have := hB2.2.2.1; omega) ?_ (fun b q => ?_) rfl (fun _ _ => rfl)) (by rw [ur_s, e76])
        · rw [f9 b (by omega), hf b (by omega)]; exact s1 b (by omega) (by omega)
        · rw [f9 x (by omega), hf x (by omega)]; exact s2
        · rw [f9 x (by omega), hf x (by omega)]; exact hB2.2.2.2.1
        · rw [f9 b (by omega)]; exact hf b (by omega)
      refine r_icmp_ne (pc := 59) 66 dX1_ask_59 rfl (by omega) (by omega) (fun h59 => ?_) (fun h59 => ?_)
      · obtain rfl : l = 0 := by omega
        refine r_iconst (pc := 66) dX1_ask_66 ?_
        exact fin
      obtain rfl : l = 1 := by omega
      refine r_iconst (pc := 62) dX1_ask_62 ?_
      refine r_goto (pc := 63) 67 dX1_ask_63 rfl ?_
      exact fin
    rw [if_pos (by omega)] at hQ
    refine r_bipush (pc := 39) dX1_ask_39 (by decide +kernel) ?_
    refine r_iload (pc := 41) dX1_ask_41 rfl ?_
    refine r_isub (pc := 43) dX1_ask_43 ?_
    refine r_ireturn (pc := 44) rfl rfl dX1_ask_44 (Nat.le_of_ble_eq_true rfl) (Nat.le_of_ble_eq_true rfl) ?_
    exact hQ
  exact bad (fun q => bz_0.mp h17 (by omega))
theorem C_undo (hx : XS G I P T x t σ μ) {n : Int} {β : Int → Nat} {υ : Int → Int → Int} (hB : XB I P x t n β υ)
    (hQ : if n = 0 then Q (some (iv (-1))) I J P T z else ∀ I' ν, (∀ b : Nat, b ≠ x → (b < x + 13 ∨ x + 44 ≤ b) → I' b = I b) → I' x = us (I x) 8 (n - 1) → XS G I' P T x t (υ (n - 1)) ν → XB I' P x t (n - 1) β υ → Q (some (iv (n - 1))) I' J P T z) : MC G yX1_undo (ws_ yX1_undo cX1_undo 1 (some FieldType.int)) (d + 3) 0 0 [.ref x] I J P T z Q nX := by
  have hb := hx.b
  have htx := hx.tx
  have hn := hB.2.2.1
  have en : I x 8 = n := hB.2.2.2.1
  refine MC.of (by decide) (Nat.le_of_ble_eq_true rfl) ?_
  show PW G mX1_undo (rmD (d + 3) 0 0) (MZ G Q nX 0 0) 0 0 I J P T z 0 [some (.ref x)] []
  refine r_aload_n (pc := 0) dX1_undo_0 rfl rfl ?_
  refine r_geti (pc := 1) (c := 1) (k := 8) (kz := 8) hx.o cok_1 (Nat.le_of_ble_eq_true rfl) q518 ⟨rfl, rfl⟩ (Or.inl rfl) rfl (fun _ _ _ => rfl) dX1_undo_1 (fun hr1 => ?_)
  rw [en] at hr1 ⊢
  refine r_if_ne (pc := 4) 9 dX1_undo_4 rfl (by omega) (fun h4 => ?_) (fun h4 => ?_)
  · rw [if_neg h4] at hQ
    refine r_aload_n (pc := 9) dX1_undo_9 rfl rfl ?_
    refine r_dup (pc := 10) dX1_undo_10 rfl ?_
    refine r_geti (pc := 11) (c := 1) (k := 8) (kz := 8) hx.o cok_1 (Nat.le_of_ble_eq_true rfl) q518 ⟨rfl, rfl⟩ (Or.inl rfl) rfl (fun _ _ _ => rfl) dX1_undo_11 (fun hr11 => ?_)
    rw [en] at hr11 ⊢
    refine r_iconst (pc := 14) dX1_undo_14 ?_
    refine r_isub (pc := 15) dX1_undo_15 ?_
    refine r_puti (pc := 16) (c := 1) (k := 8) (kz := 8) hx.o cok_1 (Nat.le_of_ble_eq_true rfl) q518 ⟨rfl, rfl⟩ (Or.inl rfl) rfl (by omega) rfl rfl (by omega) (fun _ _ _ => rfl) ⟨rfl, rfl⟩ dX1_undo_16 ?_
    have f8 : ∀ b : Nat, b ≠ x → ui I x 8 (n - 1) b = I b := fun b q => funext (fun i => ui_n q)
    have e8 : ui I x 8 (n - 1) x = us (I x) 8 (n - 1) := by funext i; unfold ui us; simp
    have hx2 : XS G (ui I x 8 (n - 1)) P T x t σ μ := hx.fr (fun b q => f8 b (by omega))
    have hB2 : XB (ui I x 8 (n - 1)) P x t (n - 1) β υ := hB.fr (by omega) ui_s (fun b q => f8 b (by omega)) rfl (fun _ _ => rfl)
    obtain ⟨b1, ⟨ν, b2⟩, b3⟩ := hB.2.2.2.2 (n - 1) (by omega) (by omega)
    have b4 := hB.1 (n - 1) (by omega) (by omega)
    have b5 := hB.g0 hx.x (j := n - 1) (by omega) (by omega)
    have b6 : shG G P T (β (n - 1)) t := ⟨b5, hx.tb, b1⟩
    have b7 : GR (ui I x 8 (n - 1)) (β (n - 1)) t (υ (n - 1)) ν := b2.fr (fun b q => f8 b (by omega))
    generalize hI2 : ui I x 8 (n - 1) = I2 at f8 e8 hx2 hB2 b7
    have en2 : I2 x 8 = n - 1 := hB2.2.2.2.1
    refine r_aload_n (pc := 19) dX1_undo_19 rfl rfl ?_
    refine r_getr (pc := 20) (c := 1) (k := 4) (kz := 4) hx2.o cok_1 (Nat.le_of_ble_eq_true rfl) q514 ⟨rfl, rfl⟩ (Or.inl rfl) rfl (fun _ _ _ => rfl) hx2.p_now dX1_undo_20 ?_
    refine r_aload_n (pc := 23) dX1_undo_23 rfl rfl ?_
    refine r_getr (pc := 24) (c := 1) (k := 7) (kz := 7) hx2.o cok_1 (Nat.le_of_ble_eq_true rfl) q517 ⟨rfl, rfl⟩ (Or.inl rfl) rfl (fun _ _ _ => rfl) hx2.p_before dX1_undo_24 ?_
    refine r_aload_n (pc := 27) dX1_undo_27 rfl rfl ?_
    refine r_geti (pc := 28) (c := 1) (k := 8) (kz := 8) hx2.o cok_1 (Nat.le_of_ble_eq_true rfl) q518 ⟨rfl, rfl⟩ (Or.inl rfl) rfl (fun _ _ _ => rfl) dX1_undo_28 (fun hr28 => ?_)
    rw [en2] at hr28 ⊢
    refine r_aald (pc := 31) hx2.t_before ⟨by decide, by decide⟩ rfl (fun _ _ _ => rfl) (by omega) (by omega) (hB.q (by omega) (by omega)) dX1_undo_31 ?_
    refine r_callV1 (pc := 32) (C_as (Q := ee J T z (some (.ref (x + 13))) (fun I' P' => P' = P ∧ GF (x + 13) I2 I' ∧ GR I' (x + 13) t (υ (n - 1)) ν)) hx2.g.1 b6 (by omega) (by omega) b7 (fun I' a b => by rw [up_id hx.g.2.2]; exact ee_i ⟨rfl, a, b⟩)) im_X3_as q1268 q1266 hx2.g.o rfl dX1_undo_32 (Nat.le_of_ble_eq_true rfl) (Nat.le_of_ble_eq_true rfl) rfl (k_e fun I3 P3 h3 => ?_) (fun _ _ _ _ _ _ _ hx => no_x hx)
    obtain ⟨rfl, hf, hr⟩ := h3
    have en3 : I3 x 8 = n - 1 := by rw [hf x (by omega)]; exact en2
    show PW G mX1_undo (rmD (d + 3) 0 0) (MZ G Q nX 0 0) 0 0 I3 J P3 T z 35 [some (.ref x)] [.ref (x + 13)]
    refine r_pop (pc := 35) dX1_undo_35 rfl ?_
    refine r_aload_n (pc := 36) dX1_undo_36 rfl rfl ?_
    refine r_geti (pc := 37) (c := 1) (k := 8) (kz := 8) hx2.o cok_1 (Nat.le_of_ble_eq_true rfl) q518 ⟨rfl, rfl⟩ (Or.inl rfl) rfl (fun _ _ _ => rfl) dX1_undo_37 (fun hr37 => ?_)
    rw [en3] at hr37 ⊢
    refine r_ireturn (pc := 40) rfl rfl dX1_undo_40 (Nat.le_of_ble_eq_true rfl) (Nat.le_of_ble_eq_true rfl) ?_
    refine hQ I3 ν (fun b q r => by rw [hf b (by omega)]; exact f8 b q) (by rw [hf x (by omega)]; exact e8) ⟨hx.x, hx.p_table, hx.g, hr, b3, hx.tx⟩ (hB2.fr (by omega) en3 (fun b q => hf b (by omega)) rfl (fun _ _ => rfl))
  rw [if_pos h4] at hQ
  refine r_iconst (pc := 7) dX1_undo_7 ?_
  refine r_ireturn (pc := 8) rfl rfl dX1_undo_8 (Nat.le_of_ble_eq_true rfl) (Nat.le_of_ble_eq_true rfl) ?_
  exact hQ
end L4
