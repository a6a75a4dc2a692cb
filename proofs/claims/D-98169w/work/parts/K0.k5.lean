/-! ===== the component: games cleared, begun, copied ===== -/
/-- the first n of a row -/
def fillr (f : Int → Int) (n v : Int) : Int → Int := fun i => if 0 ≤ i ∧ i < n then v else f i
def cpyr (f h : Int → Int) (n : Int) : Int → Int := fun i => if 0 ≤ i ∧ i < n then h i else f i
section K5
variable {G : GE} {I I0 J : HI} {P : HP} {T : HT} {z : Nat} {g g2 t d : Nat} {Q : QT} {σ μ : Int → Int}
theorem C_fill {a : Nat} {n v : Int} (hT : T a = (1, n)) (hb : G.2.2.2.1 ≤ a) (hv : rg v) (hQ : Q none (ur I a (fillr (I a) n v)) J P T z) : MC G yJ3_fill (ws_ yJ3_fill cJ3_fill 4 (none : Option FieldType)) (d) 0 0 [.ref a, iv v] I J P T z Q nX := by
  refine MC.of (by decide) (Nat.le_of_ble_eq_true rfl) ?_
  show PW G mJ3_fill (rmD (d) 0 0) (MZ G Q nX 0 0) 0 0 I J P T z 0 [some (.ref a), some (iv v), none, none] []
  refine r_iconst (pc := 0) dJ3_fill_0 ?_
  refine r_istore_n2 (pc := 1) (Nat.le_of_ble_eq_true rfl) dJ3_fill_1 rfl ?_
  refine r_aload_n (pc := 2) dJ3_fill_2 rfl rfl ?_
  refine r_alen (pc := 3) hT ⟨by decide, by decide⟩ dJ3_fill_3 (fun hn3 hm3 => ?_)
  refine r_istore_n3 (pc := 4) (Nat.le_of_ble_eq_true rfl) dJ3_fill_4 rfl ?_
  have loop : ∀ (m : Nat) (i : Int), 0 ≤ i → i ≤ n → n - i = m → PW G mJ3_fill (rmD (d) 0 0) (MZ G Q nX 0 0) 0 0 (ur I a (fillr (I a) i v)) J P T z 5 [some (.ref a), some (iv v), some (iv i), some (iv n)] [] := by
    intro m
    induction m with
    | zero =>
      intro i h0 h1 h2
      refine r_iload_n (pc := 5) dJ3_fill_5 rfl rfl ?_
      refine r_iload_n (pc := 6) dJ3_fill_6 rfl rfl ?_
      refine r_icmp_ge (pc := 7) 20 dJ3_fill_7 rfl (by omega) (by omega) (fun h7 => ?_) (fun h7 => ?_)
      · obtain rfl : i = n := by omega
        refine r_return (pc := 20) rfl dJ3_fill_20 (Nat.le_of_ble_eq_true rfl) (Nat.le_of_ble_eq_true rfl) ?_
        exact hQ
      omega
    | succ m ih =>
      intro i h0 h1 h2
      refine r_iload_n (pc := 5) dJ3_fill_5 rfl rfl ?_
      refine r_iload_n (pc := 6) dJ3_fill_6 rfl rfl ?_
      refine r_icmp_ge (pc := 7) 20 dJ3_fill_7 rfl (by omega) (by omega) (fun h7 => ?_) (fun h7 => ?_)
      · omega
      refine r_aload_n (pc := 10) dJ3_fill_10 rfl rfl ?_
      refine r_iload_n (pc := 11) dJ3_fill_11 rfl rfl ?_
      refine r_iload_n (pc := 12) dJ3_fill_12 rfl rfl ?_
      refine r_iast (pc := 13) hT (by omega) (by omega) (by omega) (by omega) dJ3_fill_13 ?_
      rw [ui_ur]
      refine r_iinc2 (pc := 14) (Nat.le_of_ble_eq_true rfl) dJ3_fill_14 rfl ?_
      refine r_goto (pc := 17) 5 dJ3_fill_17 rfl ?_
      have e : us (fillr (I a) i v) i v = fillr (I a) (i + 1) v := by
        funext j
        simp only [us, fillr]
        by_cases q : j = i
        · rw [if_pos q, if_pos (by omega)]
        · rw [if_neg q]
          by_cases r : 0 ≤ j ∧ j < i
          · rw [if_pos r, if_pos (by omega)]
          · rw [if_neg r, if_neg (by omega)]
      rw [e]
      exact ih (i + 1) (by omega) (by omega) (by omega)
  have e0 : ur I a (fillr (I a) 0 v) = I := by
    have : fillr (I a) 0 v = I a := by funext j; simp only [fillr]; rw [if_neg (by omega)]
    rw [this, ur_id]
  have := loop n.toNat 0 (by omega) (by omega) (by omega)
  rw [e0] at this
  exact this
theorem C_copy {a0 a : Nat} {n0 n : Int} (hT0 : T a0 = (1, n0)) (hT : T a = (1, n)) (hb : G.2.2.2.1 ≤ a) (hn : n ≤ n0) (hQ : Q none (ur I a (cpyr (I a) (I a0) n)) J P T z) : MC G yX3_copy (ws_ yX3_copy cX3_copy 2 (none : Option FieldType)) (d + 1) 0 0 [.ref a0, .ref a] I J P T z Q nX := by
  refine MC.of (by decide) (Nat.le_of_ble_eq_true rfl) ?_
  show PW G mX3_copy (rmD (d + 1) 0 0) (MZ G Q nX 0 0) 0 0 I J P T z 0 [some (.ref a0), some (.ref a)] []
  refine r_aload_n (pc := 0) dX3_copy_0 rfl rfl ?_
  refine r_iconst (pc := 1) dX3_copy_1 ?_
  refine r_aload_n (pc := 2) dX3_copy_2 rfl rfl ?_
  refine r_iconst (pc := 3) dX3_copy_3 ?_
  refine r_aload_n (pc := 4) dX3_copy_4 rfl rfl ?_
  refine r_alen (pc := 5) hT ⟨by decide, by decide⟩ dX3_copy_5 (fun hn5 hm5 => ?_)
  refine r_copy (d9 := 0) (pc := 6) (Or.inl rfl) hT0 hT (by omega) q378 q380 q379 q125 (by omega) (by omega) (by omega) (by omega) (by omega) (fun _ _ _ => rfl) (Nat.le_add_left _ _) (by show 64 ≤ 64 * (_ + 1); omega) rfl dX3_copy_6 ?_
  have e : cpI I a0 a 0 0 n = ur I a (cpyr (I a) (I a0) n) := by
    unfold cpI cpyr
    congr 1
    funext i
    by_cases q : 0 ≤ i ∧ i < n
    · rw [if_pos (by omega), if_pos q]; congr 1; omega
    · rw [if_neg (by omega), if_neg q]
  rw [e]
  refine r_return (pc := 9) rfl dX3_copy_9 (Nat.le_of_ble_eq_true rfl) (Nat.le_of_ble_eq_true rfl) ?_
  exact hQ
/-- a game is cleared -/
def CL (I I' : HI) (g : Nat) : Prop := GF g I I' ∧ (∀ p k : Int, 0 ≤ p → p < 6 → 0 ≤ k → k < 13 → I' (g + 2 + p.toNat) k = 0 ∧ I' (g + 9 + p.toNat) k = 0) ∧ (∀ p : Int, 0 ≤ p → p < 6 → I' (g + 22) p = 0 ∧ I' (g + 23) p = 0 ∧ I' (g + 24) p = 0 ∧ I' (g + 25) p = 0 ∧ I' (g + 26) p = -1) ∧ (∀ k : Int, 0 ≤ k → k < 13 → I' (g + 27) k = -1) ∧ (∀ i, I' (g + 28) i = I (g + 28) i ∧ I' (g + 29) i = I (g + 29) i ∧ I' (g + 30) i = I (g + 30) i) ∧ I' g 12 = 0 ∧ I' g 13 = I g 13 ∧ I' g 14 = I g 14 ∧ I' g 15 = 0 ∧ I' g 16 = 0
theorem fillr_i {f : Int → Int} {n v i : Int} (h0 : 0 ≤ i) (h1 : i < n) : fillr f n v i = v := if_pos ⟨h0, h1⟩
theorem shG0.upd (h : shG0 G P T g) {b : Nat} {j : Int} {v : Option Nat} (hb : b ≠ g ∨ j = 0) (hn : b < g + 1 ∨ g + 16 ≤ b) : shG0 G (up P b j v) T g := by
  obtain ⟨h1, h2, h3, h4⟩ := h
  refine ⟨h1, h2, fun q hq => ⟨?_, (h3 q hq).2⟩, fun p p0 p1 => ?_⟩
  · have : up P b j v g q.1 = P g q.1 := by
      unfold up
      refine if_neg (fun e => ?_)
      rcases hb with r | r
      · exact r e.1.symm
      · have := e.2
        rw [r] at this
        unfold gArr at hq
        simp only [List.mem_cons, List.not_mem_nil, or_false] at hq
        rcases hq with q9 | q9 | q9 | q9 | q9 | q9 | q9 | q9 | q9 | q9 | q9 | q9 <;> (rw [q9] at this; simp at this)
    rw [this]; exact (h3 q hq).1
  · have a := h4 p p0 p1
    rw [up_n (by omega), up_n (by omega), up_n (by omega)]
    exact a
theorem shT.upd (h : shT G P T t) {b : Nat} {j : Int} {v : Option Nat} (hb : b < t ∨ t + 3 ≤ b) : shT G (up P b j v) T t := by
  unfold shT at h ⊢
  rw [up_n (by omega), up_n (by omega), up_n (by omega), up_n (by omega)]
  obtain ⟨a1, a2, a3, a4, a5, a6, a7, a8, a9, a10, a11⟩ := h
  exact ⟨a1, a2, a3, a4, a5, a6, a7, a8, a9, a10, fun p x y => by rw [up_n (by omega)]; exact a11 p x y⟩
theorem C_clear (hs : shG0 G P T g) (ht : shT G P T t) (htt : t + 11 ≤ g ∨ g + 31 ≤ t) (hQ : ∀ I', CL I I' g → Q none I' J (up P g 0 (some t)) T z) : MC G yX3_clear (ws_ yX3_clear cX3_clear 3 (none : Option FieldType)) (d + 1) 0 0 [.ref g, .ref t] I J P T z Q nX := by
  have hb := hs.b
  refine MC.of (by decide) (Nat.le_of_ble_eq_true rfl) ?_
  show PW G mX3_clear (rmD (d + 1) 0 0) (MZ G Q nX 0 0) 0 0 I J P T z 0 [some (.ref g), some (.ref t), none] []
  refine r_aload_n (pc := 0) dX3_clear_0 rfl rfl ?_
  refine r_aload_n (pc := 1) dX3_clear_1 rfl rfl ?_
  refine r_putr (pc := 2) (r := some t) (c := 3) (k := 0) (kz := 0) hs.o cok_3 (Nat.le_of_ble_eq_true rfl) q259 ⟨rfl, rfl⟩ (Or.inl rfl) rfl (by omega) rfl rfl rfl (fun _ _ _ => rfl) ⟨rfl, rfl⟩ dX3_clear_2 ?_
  have hs2 : shG0 G (up P g 0 (some t)) T g := hs.upd (Or.inr rfl) (by omega)
  refine r_iconst (pc := 5) dX3_clear_5 ?_
  refine r_istore_n2 (pc := 6) (Nat.le_of_ble_eq_true rfl) dX3_clear_6 rfl ?_
  generalize up P g 0 (some t) = P2 at hs2 hQ
  have loop : ∀ (m : Nat) (i : Int) (I1 : HI), 0 ≤ i → i + m = 6 → GF g I I1 → (∀ p k : Int, 0 ≤ p → p < i → 0 ≤ k → k < 13 → I1 (g + 2 + p.toNat) k = 0 ∧ I1 (g + 9 + p.toNat) k = 0 ∧ I1 (g + 22) p = 0) → (∀ b : Nat, b = g ∨ g + 23 ≤ b → I1 b = I b) → PW G mX3_clear (rmD (d + 1) 0 0) (MZ G Q nX 0 0) 0 0 I1 J P2 T z 7 [some (.ref g), some (.ref t), some (iv i)] [] := by
    intro m
    induction m with
    | zero =>
      intro i I1 h0 h1 hf hz hn
      obtain rfl : i = 6 := by omega
      refine r_iload_n (pc := 7) dX3_clear_7 rfl rfl ?_
      refine r_bipush (pc := 8) dX3_clear_8 (by decide +kernel) ?_
      refine r_icmp_ge (pc := 10) 46 dX3_clear_10 rfl (by omega) (by omega) (fun h10 => ?_) (fun h10 => ?_)
      · refine r_aload_n (pc := 46) dX3_clear_46 rfl rfl ?_
        refine r_getr (pc := 47) (c := 3) (k := 5) (kz := 5) hs2.o cok_3 (Nat.le_of_ble_eq_true rfl) q282 ⟨rfl, rfl⟩ (Or.inl rfl) rfl (fun _ _ _ => rfl) hs2.p_caught dX3_clear_47 ?_
        refine r_iconst (pc := 50) dX3_clear_50 ?_
        refine r_callS2 (pc := 51) (C_fill hs2.t_caught (by omega) (by omega) fe_i) im_J3_fill q364 dX3_clear_51 (Nat.le_of_ble_eq_true rfl) (Nat.le_of_ble_eq_true rfl) rfl (k_fv ?_) (fun _ _ _ _ _ _ _ hx => no_x hx)
        refine r_aload_n (pc := 54) dX3_clear_54 rfl rfl ?_
        refine r_getr (pc := 55) (c := 3) (k := 6) (kz := 6) hs2.o cok_3 (Nat.le_of_ble_eq_true rfl) q284 ⟨rfl, rfl⟩ (Or.inl rfl) rfl (fun _ _ _ => rfl) hs2.p_asks dX3_clear_55 ?_
        refine r_iconst (pc := 58) dX3_clear_58 ?_
        refine r_callS2 (pc := 59) (C_fill hs2.t_asks (by omega) (by omega) fe_i) im_J3_fill q364 dX3_clear_59 (Nat.le_of_ble_eq_true rfl) (Nat.le_of_ble_eq_true rfl) rfl (k_fv ?_) (fun _ _ _ _ _ _ _ hx => no_x hx)
        refine r_aload_n (pc := 62) dX3_clear_62 rfl rfl ?_
        refine r_getr (pc := 63) (c := 3) (k := 7) (kz := 7) hs2.o cok_3 (Nat.le_of_ble_eq_true rfl) q286 ⟨rfl, rfl⟩ (Or.inl rfl) rfl (fun _ _ _ => rfl) hs2.p_given dX3_clear_63 ?_
        refine r_iconst (pc := 66) dX3_clear_66 ?_
        refine r_callS2 (pc := 67) (C_fill hs2.t_given (by omega) (by omega) fe_i) im_J3_fill q364 dX3_clear_67 (Nat.le_of_ble_eq_true rfl) (Nat.le_of_ble_eq_true rfl) rfl (k_fv ?_) (fun _ _ _ _ _ _ _ hx => no_x hx)
        refine r_aload_n (pc := 70) dX3_clear_70 rfl rfl ?_
        refine r_getr (pc := 71) (c := 3) (k := 8) (kz := 8) hs2.o cok_3 (Nat.le_of_ble_eq_true rfl) q288 ⟨rfl, rfl⟩ (Or.inl rfl) rfl (fun _ _ _ => rfl) hs2.p_drew dX3_clear_71 ?_
        refine r_iconst (pc := 74) dX3_clear_74 ?_
        refine r_callS2 (pc := 75) (C_fill hs2.t_drew (by omega) (by omega) fe_i) im_J3_fill q364 dX3_clear_75 (Nat.le_of_ble_eq_true rfl) (Nat.le_of_ble_eq_true rfl) rfl (k_fv ?_) (fun _ _ _ _ _ _ _ hx => no_x hx)
        refine r_aload_n (pc := 78) dX3_clear_78 rfl rfl ?_
        refine r_getr (pc := 79) (c := 3) (k := 9) (kz := 9) hs2.o cok_3 (Nat.le_of_ble_eq_true rfl) q291 ⟨rfl, rfl⟩ (Or.inl rfl) rfl (fun _ _ _ => rfl) hs2.p_book dX3_clear_79 ?_
        refine r_iconst (pc := 82) dX3_clear_82 ?_
        refine r_callS2 (pc := 83) (C_fill hs2.t_book (by omega) (by omega) fe_i) im_J3_fill q364 dX3_clear_83 (Nat.le_of_ble_eq_true rfl) (Nat.le_of_ble_eq_true rfl) rfl (k_fv ?_) (fun _ _ _ _ _ _ _ hx => no_x hx)
        refine r_aload_n (pc := 86) dX3_clear_86 rfl rfl ?_
        refine r_iconst (pc := 87) dX3_clear_87 ?_
        refine r_puti (pc := 88) (c := 3) (k := 12) (kz := 12) hs2.o cok_3 (Nat.le_of_ble_eq_true rfl) q301 ⟨rfl, rfl⟩ (Or.inl rfl) rfl (by omega) rfl rfl (by omega) (fun _ _ _ => rfl) ⟨rfl, rfl⟩ dX3_clear_88 ?_
        refine r_aload_n (pc := 91) dX3_clear_91 rfl rfl ?_
        refine r_iconst (pc := 92) dX3_clear_92 ?_
        refine r_puti (pc := 93) (c := 3) (k := 15) (kz := 15) hs2.o cok_3 (Nat.le_of_ble_eq_true rfl) q309 ⟨rfl, rfl⟩ (Or.inl rfl) rfl (by omega) rfl rfl (by omega) (fun _ _ _ => rfl) ⟨rfl, rfl⟩ dX3_clear_93 ?_
        refine r_aload_n (pc := 96) dX3_clear_96 rfl rfl ?_
        refine r_iconst (pc := 97) dX3_clear_97 ?_
        refine r_puti (pc := 98) (c := 3) (k := 16) (kz := 16) hs2.o cok_3 (Nat.le_of_ble_eq_true rfl) q312 ⟨rfl, rfl⟩ (Or.inl rfl) rfl (by omega) rfl rfl (by omega) (fun _ _ _ => rfl) ⟨rfl, rfl⟩ dX3_clear_98 ?_
        refine r_return (pc := 101) rfl dX3_clear_101 (Nat.le_of_ble_eq_true rfl) (Nat.le_of_ble_eq_true rfl) ?_
        refine hQ _ ⟨?_, fun p k a b c d => ?_, fun p a b => ?_, fun k a b => ?_, fun i => ?_, ?_, ?_, ?_, ?_, ?_⟩
        · exact (((((((hf.wr (by omega) (by omega)).wr (by omega) (by omega)).wr (by omega) (by omega)).wr (by omega) (by omega)).wr (by omega) (by omega)).w (by omega) (by omega)).w (by omega) (by omega)).w (by omega) (by omega)
        · simp (disch := omega) only [ui_nv, ur_nv]
          have := hz p k a b c d
          exact ⟨this.1, this.2.1⟩
        · simp (disch := omega) only [ui_nv, ur_nv, ur_sv, fillr_i]
          refine ⟨(hz p 0 a b (by omega) (by omega)).2.2, ?_, ?_, ?_, ?_⟩ <;> trivial
        · simp (disch := omega) only [ui_nv, ur_nv, ur_sv, fillr_i]
        · simp (disch := omega) only [ui_nv, ur_nv]
          rw [hn (g + 28) (by omega), hn (g + 29) (by omega), hn (g + 30) (by omega)]
          exact ⟨rfl, rfl, rfl⟩
        · simp (disch := omega) only [ui_nj, ui_sv]
        · simp (disch := omega) only [ui_nj, ur_nv]
          rw [hn g (by omega)]
        · simp (disch := omega) only [ui_nj, ur_nv]
          rw [hn g (by omega)]
        · simp (disch := omega) only [ui_nj, ui_sv]
        · simp (disch := omega) only [ui_nj, ui_sv]
      omega
    | succ m ih =>
      intro i I1 h0 h1 hf hz hn
      refine r_iload_n (pc := 7) dX3_clear_7 rfl rfl ?_
      refine r_bipush (pc := 8) dX3_clear_8 (by decide +kernel) ?_
      refine r_icmp_ge (pc := 10) 46 dX3_clear_10 rfl (by omega) (by omega) (fun h10 => ?_) (fun h10 => ?_)
      · omega
      refine r_aload_n (pc := 13) dX3_clear_13 rfl rfl ?_
      refine r_getr (pc := 14) (c := 3) (k := 1) (kz := 1) hs2.o cok_3 (Nat.le_of_ble_eq_true rfl) q264 ⟨rfl, rfl⟩ (Or.inl rfl) rfl (fun _ _ _ => rfl) hs2.p_hand dX3_clear_14 ?_
      refine r_iload_n (pc := 17) dX3_clear_17 rfl rfl ?_
      refine r_aald (pc := 18) hs2.t_hand ⟨by decide, by decide⟩ rfl (fun _ _ _ => rfl) (by omega) (by omega) (hs2.q_hand (by omega) (by omega)) dX3_clear_18 ?_
      refine r_iconst (pc := 19) dX3_clear_19 ?_
      refine r_callS2 (pc := 20) (C_fill (hs2.u_hand (by omega) (by omega)) (by omega) (by omega) fe_i) im_J3_fill q364 dX3_clear_20 (Nat.le_of_ble_eq_true rfl) (Nat.le_of_ble_eq_true rfl) rfl (k_fv ?_) (fun _ _ _ _ _ _ _ hx => no_x hx)
      refine r_aload_n (pc := 23) dX3_clear_23 rfl rfl ?_
      refine r_getr (pc := 24) (c := 3) (k := 2) (kz := 2) hs2.o cok_3 (Nat.le_of_ble_eq_true rfl) q274 ⟨rfl, rfl⟩ (Or.inl rfl) rfl (fun _ _ _ => rfl) hs2.p_known dX3_clear_24 ?_
      refine r_iload_n (pc := 27) dX3_clear_27 rfl rfl ?_
      refine r_aald (pc := 28) hs2.t_known ⟨by decide, by decide⟩ rfl (fun _ _ _ => rfl) (by omega) (by omega) (hs2.q_known (by omega) (by omega)) dX3_clear_28 ?_
      refine r_iconst (pc := 29) dX3_clear_29 ?_
      refine r_callS2 (pc := 30) (C_fill (hs2.u_known (by omega) (by omega)) (by omega) (by omega) fe_i) im_J3_fill q364 dX3_clear_30 (Nat.le_of_ble_eq_true rfl) (Nat.le_of_ble_eq_true rfl) rfl (k_fv ?_) (fun _ _ _ _ _ _ _ hx => no_x hx)
      refine r_aload_n (pc := 33) dX3_clear_33 rfl rfl ?_
      refine r_getr (pc := 34) (c := 3) (k := 4) (kz := 4) hs2.o cok_3 (Nat.le_of_ble_eq_true rfl) q280 ⟨rfl, rfl⟩ (Or.inl rfl) rfl (fun _ _ _ => rfl) hs2.p_others dX3_clear_34 ?_
      refine r_iload_n (pc := 37) dX3_clear_37 rfl rfl ?_
      refine r_iconst (pc := 38) dX3_clear_38 ?_
      refine r_iast (pc := 39) hs2.t_others (by omega) (by omega) (by omega) (by omega) dX3_clear_39 ?_
      refine r_iinc2 (pc := 40) (Nat.le_of_ble_eq_true rfl) dX3_clear_40 rfl ?_
      refine r_goto (pc := 43) 7 dX3_clear_43 rfl ?_
      refine ih (i + 1) _ (by omega) (by omega) (((hf.wr (by omega) (by omega)).wr (by omega) (by omega)).w (by omega) (by omega)) (fun p k a b c d => ?_) (fun b q => ?_)
      · by_cases e : p = i
        · subst e
          simp (disch := omega) only [ui_nv, ur_nv, ur_sv, ui_sv, fillr_i]
          exact ⟨trivial, trivial, trivial⟩
        · have := hz p k a (by omega) c d
          simp (disch := omega) only [ui_nv, ur_nv, ui_nj]
          exact this
      · rw [← hn b q]
        funext j
        simp (disch := omega) only [ui_nv, ur_nv]
  exact loop 6 0 I (by omega) (by omega) GF.rf (fun p k a b => by omega) (fun _ _ => rfl)
end K5
