/-! ===== the component: a game as another ===== -/
section K7
variable {G : GE} {I I0 J : HI} {P : HP} {T : HT} {z : Nat} {g g2 t d : Nat} {Q : QT} {σ μ η : Int → Int}
theorem cpyr_i {f h : Int → Int} {n i : Int} (h0 : 0 ≤ i) (h1 : i < n) : cpyr f h n i = h i := if_pos ⟨h0, h1⟩
theorem GR.as {I' : HI} (h : GR I g2 t σ μ) (htt : t + 11 ≤ g ∨ g + 31 ≤ t) (hf : GF g I I')
    (e1 : ∀ p k : Int, 0 ≤ p → p < 6 → 0 ≤ k → k < 13 → I' (g + 2 + p.toNat) k = I (g2 + 2 + p.toNat) k ∧ I' (g + 9 + p.toNat) k = I (g2 + 9 + p.toNat) k)
    (e2 : ∀ p k : Int, 0 ≤ p → p < 6 → 0 ≤ k → k < 52 → I' (g + 16 + p.toNat) k = I (g2 + 16 + p.toNat) k)
    (e3 : ∀ p : Int, 0 ≤ p → p < 6 → I' (g + 22) p = I (g2 + 22) p ∧ I' (g + 23) p = I (g2 + 23) p ∧ I' (g + 24) p = I (g2 + 24) p ∧ I' (g + 25) p = I (g2 + 25) p ∧ I' (g + 26) p = I (g2 + 26) p)
    (e4 : ∀ k : Int, 0 ≤ k → k < 13 → I' (g + 27) k = I (g2 + 27) k ∧ I' (g + 29) k = I (g2 + 29) k) (e5 : ∀ k : Int, 0 ≤ k → k < 52 → I' (g + 28) k = I (g2 + 28) k) (e6 : ∀ k : Int, 0 ≤ k → k < 8 → I' (g + 30) k = I (g2 + 30) k)
    (e7 : I' g 12 = I g2 12 ∧ I' g 13 = I g2 13 ∧ I' g 14 = I g2 14 ∧ I' g 15 = I g2 15 ∧ I' g 16 = I g2 16) : GR I' g t σ μ := by
  have hp := h.hp
  refine ⟨fun q k x y w v => ?_, fun q k x y w v => ?_, fun q i x y w v r => ?_, fun q x y => ?_, fun q x y => ?_, fun q x y => ?_, fun q x y => ?_, fun q x y => ?_, fun k x y => ?_, fun k x y => ?_, ?_, fun i x y => ?_, ?_, ?_, ?_, fun i x y => ?_, ?_, htt⟩
  · rw [(e1 q k x y w v).1]; exact h.hand x y w v
  · rw [(e1 q k x y w v).2]; exact h.known x y w v
  · rw [e2 q i x y w v]; exact h.other x y w v r
  · rw [(e3 q x y).1]; exact h.others x y
  · rw [(e3 q x y).2.1]; exact h.caught x y
  · rw [(e3 q x y).2.2.1]; exact h.asks x y
  · rw [(e3 q x y).2.2.2.1]; exact h.given x y
  · rw [(e3 q x y).2.2.2.2]; exact h.drew x y
  · rw [(e4 k x y).1]; exact h.book x y
  · rw [(e4 k x y).2]; exact h.cards x y
  · rw [e7.1, e7.2.1]; exact hp
  · rw [e7.1, e5 _ (by omega) (by omega)]; exact h.heap x y
  · rw [e7.2.2.1]; exact h.turn
  · rw [e7.2.2.2.1]; exact h.askings
  · rw [e7.2.2.2.2]; exact h.vain
  · rw [e6 i x y]; exact h.latest x y
  · rw [hf t (by omega), hf (t + 1) (by omega)]; exact h.ta
set_option maxHeartbeats 1000000 in
theorem C_as (hs : shG0 G P T g) (hs2 : shG G P T g2 t) (hgg : g + 31 ≤ g2 ∨ g2 + 31 ≤ g) (htt : t + 11 ≤ g ∨ g + 31 ≤ t) (hr : GR I g2 t σ μ) (hQ : ∀ I', GF g I I' → GR I' g t σ μ → Q (some (.ref g)) I' J (up P g 0 (some t)) T z) : MC G yX3_as (ws_ yX3_as cX3_as 3 (some (FieldType.object "SevenTable$Game"))) (d + 2) 0 0 [.ref g, .ref g2] I J P T z Q nX := by
  have hb := hs.b
  refine MC.of (by decide) (Nat.le_of_ble_eq_true rfl) ?_
  show PW G mX3_as (rmD (d + 2) 0 0) (MZ G Q nX 0 0) 0 0 I J P T z 0 [some (.ref g), some (.ref g2), none] []
  refine r_aload_n (pc := 0) dX3_as_0 rfl rfl ?_
  refine r_aload_n (pc := 1) dX3_as_1 rfl rfl ?_
  refine r_getr (pc := 2) (c := 3) (k := 0) (kz := 0) hs2.o cok_3 (Nat.le_of_ble_eq_true rfl) q259 ⟨rfl, rfl⟩ (Or.inl rfl) rfl (fun _ _ _ => rfl) hs2.p_t dX3_as_2 ?_
  refine r_putr (pc := 5) (r := some t) (c := 3) (k := 0) (kz := 0) hs.o cok_3 (Nat.le_of_ble_eq_true rfl) q259 ⟨rfl, rfl⟩ (Or.inl rfl) rfl (by omega) rfl rfl rfl (fun _ _ _ => rfl) ⟨rfl, rfl⟩ dX3_as_5 ?_
  have hsA : shG0 G (up P g 0 (some t)) T g := hs.upd (Or.inr rfl) (by omega)
  have hsB : shG0 G (up P g 0 (some t)) T g2 := hs2.1.upd (Or.inl (by omega)) (by omega)
  generalize up P g 0 (some t) = P2 at hsA hsB hQ
  refine r_iconst (pc := 8) dX3_as_8 ?_
  refine r_istore_n2 (pc := 9) (Nat.le_of_ble_eq_true rfl) dX3_as_9 rfl ?_
  have loop : ∀ (m : Nat) (i : Int) (I1 : HI), 0 ≤ i → i + m = 6 → GF g I I1 → (∀ p k : Int, 0 ≤ p → p < i → 0 ≤ k → k < 13 → I1 (g + 2 + p.toNat) k = I (g2 + 2 + p.toNat) k ∧ I1 (g + 9 + p.toNat) k = I (g2 + 9 + p.toNat) k) → (∀ p k : Int, 0 ≤ p → p < i → 0 ≤ k → k < 52 → I1 (g + 16 + p.toNat) k = I (g2 + 16 + p.toNat) k) → PW G mX3_as (rmD (d + 2) 0 0) (MZ G Q nX 0 0) 0 0 I1 J P2 T z 10 [some (.ref g), some (.ref g2), some (iv i)] [] := by
    intro m
    induction m with
    | zero =>
      intro i I1 h0 h1 hf z1 z2
      obtain rfl : i = 6 := by omega
      have gz : ∀ o : Nat, o < 31 → I1 (g2 + o) = I (g2 + o) := fun o ho => hf _ (by omega)
      have gz0 : I1 g2 = I g2 := hf _ (by omega)
      refine r_iload_n (pc := 10) dX3_as_10 rfl rfl ?_
      refine r_bipush (pc := 11) dX3_as_11 (by decide +kernel) ?_
      refine r_icmp_ge (pc := 13) 67 dX3_as_13 rfl (by omega) (by omega) (fun h13 => ?_) (fun h13 => ?_)
      · refine r_aload_n (pc := 67) dX3_as_67 rfl rfl ?_
        refine r_getr (pc := 68) (c := 3) (k := 4) (kz := 4) hsB.o cok_3 (Nat.le_of_ble_eq_true rfl) q280 ⟨rfl, rfl⟩ (Or.inl rfl) rfl (fun _ _ _ => rfl) hsB.p_others dX3_as_68 ?_
        refine r_aload_n (pc := 71) dX3_as_71 rfl rfl ?_
        refine r_getr (pc := 72) (c := 3) (k := 4) (kz := 4) hsA.o cok_3 (Nat.le_of_ble_eq_true rfl) q280 ⟨rfl, rfl⟩ (Or.inl rfl) rfl (fun _ _ _ => rfl) hsA.p_others dX3_as_72 ?_
        refine r_callS2 (pc := 75) (C_copy hsB.t_others hsA.t_others (by omega) (by omega) fe_i) im_X3_copy q375 dX3_as_75 (Nat.le_of_ble_eq_true rfl) (Nat.le_of_ble_eq_true rfl) rfl (k_fv ?_) (fun _ _ _ _ _ _ _ hx => no_x hx)
        refine r_aload_n (pc := 78) dX3_as_78 rfl rfl ?_
        refine r_getr (pc := 79) (c := 3) (k := 5) (kz := 5) hsB.o cok_3 (Nat.le_of_ble_eq_true rfl) q282 ⟨rfl, rfl⟩ (Or.inl rfl) rfl (fun _ _ _ => rfl) hsB.p_caught dX3_as_79 ?_
        refine r_aload_n (pc := 82) dX3_as_82 rfl rfl ?_
        refine r_getr (pc := 83) (c := 3) (k := 5) (kz := 5) hsA.o cok_3 (Nat.le_of_ble_eq_true rfl) q282 ⟨rfl, rfl⟩ (Or.inl rfl) rfl (fun _ _ _ => rfl) hsA.p_caught dX3_as_83 ?_
        refine r_callS2 (pc := 86) (C_copy hsB.t_caught hsA.t_caught (by omega) (by omega) fe_i) im_X3_copy q375 dX3_as_86 (Nat.le_of_ble_eq_true rfl) (Nat.le_of_ble_eq_true rfl) rfl (k_fv ?_) (fun _ _ _ _ _ _ _ hx => no_x hx)
        refine r_aload_n (pc := 89) dX3_as_89 rfl rfl ?_
        refine r_getr (pc := 90) (c := 3) (k := 6) (kz := 6) hsB.o cok_3 (Nat.le_of_ble_eq_true rfl) q284 ⟨rfl, rfl⟩ (Or.inl rfl) rfl (fun _ _ _ => rfl) hsB.p_asks dX3_as_90 ?_
        refine r_aload_n (pc := 93) dX3_as_93 rfl rfl ?_
        refine r_getr (pc := 94) (c := 3) (k := 6) (kz := 6) hsA.o cok_3 (Nat.le_of_ble_eq_true rfl) q284 ⟨rfl, rfl⟩ (Or.inl rfl) rfl (fun _ _ _ => rfl) hsA.p_asks dX3_as_94 ?_
        refine r_callS2 (pc := 97) (C_copy hsB.t_asks hsA.t_asks (by omega) (by omega) fe_i) im_X3_copy q375 dX3_as_97 (Nat.le_of_ble_eq_true rfl) (Nat.le_of_ble_eq_true rfl) rfl (k_fv ?_) (fun _ _ _ _ _ _ _ hx => no_x hx)
        refine r_aload_n (pc := 100) dX3_as_100 rfl rfl ?_
        refine r_getr (pc := 101) (c := 3) (k := 7) (kz := 7) hsB.o cok_3 (Nat.le_of_ble_eq_true rfl) q286 ⟨rfl, rfl⟩ (Or.inl rfl) rfl (fun _ _ _ => rfl) hsB.p_given dX3_as_101 ?_
        refine r_aload_n (pc := 104) dX3_as_104 rfl rfl ?_
        refine r_getr (pc := 105) (c := 3) (k := 7) (kz := 7) hsA.o cok_3 (Nat.le_of_ble_eq_true rfl) q286 ⟨rfl, rfl⟩ (Or.inl rfl) rfl (fun _ _ _ => rfl) hsA.p_given dX3_as_105 ?_
        refine r_callS2 (pc := 108) (C_copy hsB.t_given hsA.t_given (by omega) (by omega) fe_i) im_X3_copy q375 dX3_as_108 (Nat.le_of_ble_eq_true rfl) (Nat.le_of_ble_eq_true rfl) rfl (k_fv ?_) (fun _ _ _ _ _ _ _ hx => no_x hx)
        refine r_aload_n (pc := 111) dX3_as_111 rfl rfl ?_
        refine r_getr (pc := 112) (c := 3) (k := 8) (kz := 8) hsB.o cok_3 (Nat.le_of_ble_eq_true rfl) q288 ⟨rfl, rfl⟩ (Or.inl rfl) rfl (fun _ _ _ => rfl) hsB.p_drew dX3_as_112 ?_
        refine r_aload_n (pc := 115) dX3_as_115 rfl rfl ?_
        refine r_getr (pc := 116) (c := 3) (k := 8) (kz := 8) hsA.o cok_3 (Nat.le_of_ble_eq_true rfl) q288 ⟨rfl, rfl⟩ (Or.inl rfl) rfl (fun _ _ _ => rfl) hsA.p_drew dX3_as_116 ?_
        refine r_callS2 (pc := 119) (C_copy hsB.t_drew hsA.t_drew (by omega) (by omega) fe_i) im_X3_copy q375 dX3_as_119 (Nat.le_of_ble_eq_true rfl) (Nat.le_of_ble_eq_true rfl) rfl (k_fv ?_) (fun _ _ _ _ _ _ _ hx => no_x hx)
        refine r_aload_n (pc := 122) dX3_as_122 rfl rfl ?_
        refine r_getr (pc := 123) (c := 3) (k := 9) (kz := 9) hsB.o cok_3 (Nat.le_of_ble_eq_true rfl) q291 ⟨rfl, rfl⟩ (Or.inl rfl) rfl (fun _ _ _ => rfl) hsB.p_book dX3_as_123 ?_
        refine r_aload_n (pc := 126) dX3_as_126 rfl rfl ?_
        refine r_getr (pc := 127) (c := 3) (k := 9) (kz := 9) hsA.o cok_3 (Nat.le_of_ble_eq_true rfl) q291 ⟨rfl, rfl⟩ (Or.inl rfl) rfl (fun _ _ _ => rfl) hsA.p_book dX3_as_127 ?_
        refine r_callS2 (pc := 130) (C_copy hsB.t_book hsA.t_book (by omega) (by omega) fe_i) im_X3_copy q375 dX3_as_130 (Nat.le_of_ble_eq_true rfl) (Nat.le_of_ble_eq_true rfl) rfl (k_fv ?_) (fun _ _ _ _ _ _ _ hx => no_x hx)
        refine r_aload_n (pc := 133) dX3_as_133 rfl rfl ?_
        refine r_getr (pc := 134) (c := 3) (k := 10) (kz := 10) hsB.o cok_3 (Nat.le_of_ble_eq_true rfl) q294 ⟨rfl, rfl⟩ (Or.inl rfl) rfl (fun _ _ _ => rfl) hsB.p_heap dX3_as_134 ?_
        refine r_aload_n (pc := 137) dX3_as_137 rfl rfl ?_
        refine r_getr (pc := 138) (c := 3) (k := 10) (kz := 10) hsA.o cok_3 (Nat.le_of_ble_eq_true rfl) q294 ⟨rfl, rfl⟩ (Or.inl rfl) rfl (fun _ _ _ => rfl) hsA.p_heap dX3_as_138 ?_
        refine r_callS2 (pc := 141) (C_copy hsB.t_heap hsA.t_heap (by omega) (by omega) fe_i) im_X3_copy q375 dX3_as_141 (Nat.le_of_ble_eq_true rfl) (Nat.le_of_ble_eq_true rfl) rfl (k_fv ?_) (fun _ _ _ _ _ _ _ hx => no_x hx)
        refine r_aload_n (pc := 144) dX3_as_144 rfl rfl ?_
        refine r_getr (pc := 145) (c := 3) (k := 11) (kz := 11) hsB.o cok_3 (Nat.le_of_ble_eq_true rfl) q298 ⟨rfl, rfl⟩ (Or.inl rfl) rfl (fun _ _ _ => rfl) hsB.p_cards dX3_as_145 ?_
        refine r_aload_n (pc := 148) dX3_as_148 rfl rfl ?_
        refine r_getr (pc := 149) (c := 3) (k := 11) (kz := 11) hsA.o cok_3 (Nat.le_of_ble_eq_true rfl) q298 ⟨rfl, rfl⟩ (Or.inl rfl) rfl (fun _ _ _ => rfl) hsA.p_cards dX3_as_149 ?_
        refine r_callS2 (pc := 152) (C_copy hsB.t_cards hsA.t_cards (by omega) (by omega) fe_i) im_X3_copy q375 dX3_as_152 (Nat.le_of_ble_eq_true rfl) (Nat.le_of_ble_eq_true rfl) rfl (k_fv ?_) (fun _ _ _ _ _ _ _ hx => no_x hx)
        refine r_aload_n (pc := 155) dX3_as_155 rfl rfl ?_
        refine r_getr (pc := 156) (c := 3) (k := 17) (kz := 17) hsB.o cok_3 (Nat.le_of_ble_eq_true rfl) q314 ⟨rfl, rfl⟩ (Or.inl rfl) rfl (fun _ _ _ => rfl) hsB.p_latest dX3_as_156 ?_
        refine r_aload_n (pc := 159) dX3_as_159 rfl rfl ?_
        refine r_getr (pc := 160) (c := 3) (k := 17) (kz := 17) hsA.o cok_3 (Nat.le_of_ble_eq_true rfl) q314 ⟨rfl, rfl⟩ (Or.inl rfl) rfl (fun _ _ _ => rfl) hsA.p_latest dX3_as_160 ?_
        refine r_callS2 (pc := 163) (C_copy hsB.t_latest hsA.t_latest (by omega) (by omega) fe_i) im_X3_copy q375 dX3_as_163 (Nat.le_of_ble_eq_true rfl) (Nat.le_of_ble_eq_true rfl) rfl (k_fv ?_) (fun _ _ _ _ _ _ _ hx => no_x hx)
        simp (disch := omega) only [ur_n]
        rw [gz 22 (by omega), gz 23 (by omega), gz 24 (by omega), gz 25 (by omega), gz 26 (by omega), gz 27 (by omega), gz 28 (by omega), gz 29 (by omega), gz 30 (by omega)]
        have hf9 := ((((((((hf.wr (a := g + 22) (f := cpyr (I1 (g + 22)) (I (g2 + 22)) 6) (by omega) (by omega)).wr (a := g + 23) (f := cpyr (I1 (g + 23)) (I (g2 + 23)) 6) (by omega) (by omega)).wr (a := g + 24) (f := cpyr (I1 (g + 24)) (I (g2 + 24)) 6) (by omega) (by omega)).wr (a := g + 25) (f := cpyr (I1 (g + 25)) (I (g2 + 25)) 6) (by omega) (by omega)).wr (a := g + 26) (f := cpyr (I1 (g + 26)) (I (g2 + 26)) 6) (by omega) (by omega)).wr (a := g + 27) (f := cpyr (I1 (g + 27)) (I (g2 + 27)) 13) (by omega) (by omega)).wr (a := g + 28) (f := cpyr (I1 (g + 28)) (I (g2 + 28)) 52) (by omega) (by omega)).wr (a := g + 29) (f := cpyr (I1 (g + 29)) (I (g2 + 29)) 13) (by omega) (by omega)).wr (a := g + 30) (f := cpyr (I1 (g + 30)) (I (g2 + 30)) 8) (by omega) (by omega)
        have y1 : ∀ p k : Int, 0 ≤ p → p < 6 → 0 ≤ k → k < 13 → ur (ur (ur (ur (ur (ur (ur (ur (ur I1 (g + 22) (cpyr (I1 (g + 22)) (I (g2 + 22)) 6)) (g + 23) (cpyr (I1 (g + 23)) (I (g2 + 23)) 6)) (g + 24) (cpyr (I1 (g + 24)) (I (g2 + 24)) 6)) (g + 25) (cpyr (I1 (g + 25)) (I (g2 + 25)) 6)) (g + 26) (cpyr (I1 (g + 26)) (I (g2 + 26)) 6)) (g + 27) (cpyr (I1 (g + 27)) (I (g2 + 27)) 13)) (g + 28) (cpyr (I1 (g + 28)) (I (g2 + 28)) 52)) (g + 29) (cpyr (I1 (g + 29)) (I (g2 + 29)) 13)) (g + 30) (cpyr (I1 (g + 30)) (I (g2 + 30)) 8) (g + 2 + p.toNat) k = I (g2 + 2 + p.toNat) k ∧ ur (ur (ur (ur (ur (ur (ur (ur (ur I1 (g + 22) (cpyr (I1 (g + 22)) (I (g2 + 22)) 6)) (g + 23) (cpyr (I1 (g + 23)) (I (g2 + 23)) 6)) (g + 24) (cpyr (I1 (g + 24)) (I (g2 + 24)) 6)) (g + 25) (cpyr (I1 (g + 25)) (I (g2 + 25)) 6)) (g + 26) (cpyr (I1 (g + 26)) (I (g2 + 26)) 6)) (g + 27) (cpyr (I1 (g + 27)) (I (g2 + 27)) 13)) (g + 28) (cpyr (I1 (g + 28)) (I (g2 + 28)) 52)) (g + 29) (cpyr (I1 (g + 29)) (I (g2 + 29)) 13)) (g + 30) (cpyr (I1 (g + 30)) (I (g2 + 30)) 8) (g + 9 + p.toNat) k = I (g2 + 9 + p.toNat) k := fun p k a b c e => by
          simp (disch := omega) only [ur_nv]; exact z1 p k a b c e
        have y2 : ∀ p k : Int, 0 ≤ p → p < 6 → 0 ≤ k → k < 52 → ur (ur (ur (ur (ur (ur (ur (ur (ur I1 (g + 22) (cpyr (I1 (g + 22)) (I (g2 + 22)) 6)) (g + 23) (cpyr (I1 (g + 23)) (I (g2 + 23)) 6)) (g + 24) (cpyr (I1 (g + 24)) (I (g2 + 24)) 6)) (g + 25) (cpyr (I1 (g + 25)) (I (g2 + 25)) 6)) (g + 26) (cpyr (I1 (g + 26)) (I (g2 + 26)) 6)) (g + 27) (cpyr (I1 (g + 27)) (I (g2 + 27)) 13)) (g + 28) (cpyr (I1 (g + 28)) (I (g2 + 28)) 52)) (g + 29) (cpyr (I1 (g + 29)) (I (g2 + 29)) 13)) (g + 30) (cpyr (I1 (g + 30)) (I (g2 + 30)) 8) (g + 16 + p.toNat) k = I (g2 + 16 + p.toNat) k := fun p k a b c e => by
          simp (disch := omega) only [ur_nv]; exact z2 p k a b c e
        generalize hI9 : ur (ur (ur (ur (ur (ur (ur (ur (ur I1 (g + 22) (cpyr (I1 (g + 22)) (I (g2 + 22)) 6)) (g + 23) (cpyr (I1 (g + 23)) (I (g2 + 23)) 6)) (g + 24) (cpyr (I1 (g + 24)) (I (g2 + 24)) 6)) (g + 25) (cpyr (I1 (g + 25)) (I (g2 + 25)) 6)) (g + 26) (cpyr (I1 (g + 26)) (I (g2 + 26)) 6)) (g + 27) (cpyr (I1 (g + 27)) (I (g2 + 27)) 13)) (g + 28) (cpyr (I1 (g + 28)) (I (g2 + 28)) 52)) (g + 29) (cpyr (I1 (g + 29)) (I (g2 + 29)) 13)) (g + 30) (cpyr (I1 (g + 30)) (I (g2 + 30)) 8) = I9 at hf9 y1 y2
        have x3 : ∀ p : Int, 0 ≤ p → p < 6 → I9 (g + 22) p = I (g2 + 22) p ∧ I9 (g + 23) p = I (g2 + 23) p ∧ I9 (g + 24) p = I (g2 + 24) p ∧ I9 (g + 25) p = I (g2 + 25) p ∧ I9 (g + 26) p = I (g2 + 26) p := fun p a b => by
          rw [← hI9]; simp (disch := omega) only [ur_nv, ur_sv, cpyr_i]; trivial
        have x4 : ∀ k : Int, 0 ≤ k → k < 13 → I9 (g + 27) k = I (g2 + 27) k ∧ I9 (g + 29) k = I (g2 + 29) k := fun p a b => by
          rw [← hI9]; simp (disch := omega) only [ur_nv, ur_sv, cpyr_i]; trivial
        have x5 : ∀ k : Int, 0 ≤ k → k < 52 → I9 (g + 28) k = I (g2 + 28) k := fun p a b => by
          rw [← hI9]; simp (disch := omega) only [ur_nv, ur_sv, cpyr_i]
        have x6 : ∀ k : Int, 0 ≤ k → k < 8 → I9 (g + 30) k = I (g2 + 30) k := fun p a b => by
          rw [← hI9]; simp (disch := omega) only [ur_nv, ur_sv, cpyr_i]
        have gz9 : I9 g2 = I g2 := hf9 _ (by omega)
        clear hI9
        refine r_aload_n (pc := 166) dX3_as_166 rfl rfl ?_
        refine r_aload_n (pc := 167) dX3_as_167 rfl rfl ?_
        refine r_geti (pc := 168) (c := 3) (k := 12) (kz := 12) hsB.o cok_3 (Nat.le_of_ble_eq_true rfl) q301 ⟨rfl, rfl⟩ (Or.inl rfl) rfl (fun _ _ _ => rfl) dX3_as_168 (fun hr168 => ?_)
        rw [gz9] at hr168 ⊢
        refine r_puti (pc := 171) (c := 3) (k := 12) (kz := 12) hsA.o cok_3 (Nat.le_of_ble_eq_true rfl) q301 ⟨rfl, rfl⟩ (Or.inl rfl) rfl (by omega) rfl rfl (by omega) (fun _ _ _ => rfl) ⟨rfl, rfl⟩ dX3_as_171 ?_
        refine r_aload_n (pc := 174) dX3_as_174 rfl rfl ?_
        refine r_aload_n (pc := 175) dX3_as_175 rfl rfl ?_
        refine r_geti (pc := 176) (c := 3) (k := 13) (kz := 13) hsB.o cok_3 (Nat.le_of_ble_eq_true rfl) q304 ⟨rfl, rfl⟩ (Or.inl rfl) rfl (fun _ _ _ => rfl) dX3_as_176 (fun hr176 => ?_)
        rw [ui_n (by omega), gz9] at hr176 ⊢
        refine r_puti (pc := 179) (c := 3) (k := 13) (kz := 13) hsA.o cok_3 (Nat.le_of_ble_eq_true rfl) q304 ⟨rfl, rfl⟩ (Or.inl rfl) rfl (by omega) rfl rfl (by omega) (fun _ _ _ => rfl) ⟨rfl, rfl⟩ dX3_as_179 ?_
        refine r_aload_n (pc := 182) dX3_as_182 rfl rfl ?_
        refine r_aload_n (pc := 183) dX3_as_183 rfl rfl ?_
        refine r_geti (pc := 184) (c := 3) (k := 14) (kz := 14) hsB.o cok_3 (Nat.le_of_ble_eq_true rfl) q307 ⟨rfl, rfl⟩ (Or.inl rfl) rfl (fun _ _ _ => rfl) dX3_as_184 (fun hr184 => ?_)
        rw [ui_n (by omega), ui_n (by omega), gz9] at hr184 ⊢
        refine r_puti (pc := 187) (c := 3) (k := 14) (kz := 14) hsA.o cok_3 (Nat.le_of_ble_eq_true rfl) q307 ⟨rfl, rfl⟩ (Or.inl rfl) rfl (by omega) rfl rfl (by omega) (fun _ _ _ => rfl) ⟨rfl, rfl⟩ dX3_as_187 ?_
        refine r_aload_n (pc := 190) dX3_as_190 rfl rfl ?_
        refine r_aload_n (pc := 191) dX3_as_191 rfl rfl ?_
        refine r_geti (pc := 192) (c := 3) (k := 15) (kz := 15) hsB.o cok_3 (Nat.le_of_ble_eq_true rfl) q309 ⟨rfl, rfl⟩ (Or.inl rfl) rfl (fun _ _ _ => rfl) dX3_as_192 (fun hr192 => ?_)
        rw [ui_n (by omega), ui_n (by omega), ui_n (by omega), gz9] at hr192 ⊢
        refine r_puti (pc := 195) (c := 3) (k := 15) (kz := 15) hsA.o cok_3 (Nat.le_of_ble_eq_true rfl) q309 ⟨rfl, rfl⟩ (Or.inl rfl) rfl (by omega) rfl rfl (by omega) (fun _ _ _ => rfl) ⟨rfl, rfl⟩ dX3_as_195 ?_
        refine r_aload_n (pc := 198) dX3_as_198 rfl rfl ?_
        refine r_aload_n (pc := 199) dX3_as_199 rfl rfl ?_
        refine r_geti (pc := 200) (c := 3) (k := 16) (kz := 16) hsB.o cok_3 (Nat.le_of_ble_eq_true rfl) q312 ⟨rfl, rfl⟩ (Or.inl rfl) rfl (fun _ _ _ => rfl) dX3_as_200 (fun hr200 => ?_)
        rw [ui_n (by omega), ui_n (by omega), ui_n (by omega), ui_n (by omega), gz9] at hr200 ⊢
        refine r_puti (pc := 203) (c := 3) (k := 16) (kz := 16) hsA.o cok_3 (Nat.le_of_ble_eq_true rfl) q312 ⟨rfl, rfl⟩ (Or.inl rfl) rfl (by omega) rfl rfl (by omega) (fun _ _ _ => rfl) ⟨rfl, rfl⟩ dX3_as_203 ?_
        refine r_aload_n (pc := 206) dX3_as_206 rfl rfl ?_
        refine r_areturn (pc := 207) rfl (by first | exact Or.inl ⟨_, rfl⟩ | exact Or.inr ⟨_, rfl⟩) dX3_as_207 (Nat.le_of_ble_eq_true rfl) (Nat.le_of_ble_eq_true rfl) ?_
        have hf8 : GF g I (ui (ui (ui (ui (ui I9 g 12 (I g2 12)) g 13 (I g2 13)) g 14 (I g2 14)) g 15 (I g2 15)) g 16 (I g2 16)) := ((((hf9.w (by omega) (by omega)).w (by omega) (by omega)).w (by omega) (by omega)).w (by omega) (by omega)).w (by omega) (by omega)
        have nn : ∀ b : Nat, b ≠ g → ui (ui (ui (ui (ui I9 g 12 (I g2 12)) g 13 (I g2 13)) g 14 (I g2 14)) g 15 (I g2 15)) g 16 (I g2 16) b = I9 b := fun b q => by funext j; simp (disch := omega) only [ui_nv]
        refine hQ _ hf8 (hr.as htt hf8 (fun p k a b c e => ?_) (fun p k a b c e => ?_) (fun p a b => ?_) (fun k a b => ?_) (fun k a b => ?_) (fun k a b => ?_) ?_)
        · rw [nn _ (by omega), nn _ (by omega)]; exact y1 p k a b c e
        · rw [nn _ (by omega)]; exact y2 p k a b c e
        · rw [nn _ (by omega), nn _ (by omega), nn _ (by omega), nn _ (by omega), nn _ (by omega)]; exact x3 p a b
        · rw [nn _ (by omega), nn _ (by omega)]; exact x4 k a b
        · rw [nn _ (by omega)]; exact x5 k a b
        · rw [nn _ (by omega)]; exact x6 k a b
        · simp (disch := omega) only [ui_nj, ui_sv]; trivial
      omega
    | succ m ih =>
      intro i I1 h0 h1 hf z1 z2
      refine r_iload_n (pc := 10) dX3_as_10 rfl rfl ?_
      refine r_bipush (pc := 11) dX3_as_11 (by decide +kernel) ?_
      refine r_icmp_ge (pc := 13) 67 dX3_as_13 rfl (by omega) (by omega) (fun h13 => ?_) (fun h13 => ?_)
      · omega
      refine r_aload_n (pc := 16) dX3_as_16 rfl rfl ?_
      refine r_getr (pc := 17) (c := 3) (k := 1) (kz := 1) hsB.o cok_3 (Nat.le_of_ble_eq_true rfl) q264 ⟨rfl, rfl⟩ (Or.inl rfl) rfl (fun _ _ _ => rfl) hsB.p_hand dX3_as_17 ?_
      refine r_iload_n (pc := 20) dX3_as_20 rfl rfl ?_
      refine r_aald (pc := 21) hsB.t_hand ⟨by decide, by decide⟩ rfl (fun _ _ _ => rfl) (by omega) (by omega) (hsB.q_hand (by omega) (by omega)) dX3_as_21 ?_
      refine r_aload_n (pc := 22) dX3_as_22 rfl rfl ?_
      refine r_getr (pc := 23) (c := 3) (k := 1) (kz := 1) hsA.o cok_3 (Nat.le_of_ble_eq_true rfl) q264 ⟨rfl, rfl⟩ (Or.inl rfl) rfl (fun _ _ _ => rfl) hsA.p_hand dX3_as_23 ?_
      refine r_iload_n (pc := 26) dX3_as_26 rfl rfl ?_
      refine r_aald (pc := 27) hsA.t_hand ⟨by decide, by decide⟩ rfl (fun _ _ _ => rfl) (by omega) (by omega) (hsA.q_hand (by omega) (by omega)) dX3_as_27 ?_
      refine r_callS2 (pc := 28) (C_copy (hsB.u_hand (by omega) (by omega)) (hsA.u_hand (by omega) (by omega)) (by omega) (by omega) fe_i) im_X3_copy q375 dX3_as_28 (Nat.le_of_ble_eq_true rfl) (Nat.le_of_ble_eq_true rfl) rfl (k_fv ?_) (fun _ _ _ _ _ _ _ hx => no_x hx)
      refine r_aload_n (pc := 31) dX3_as_31 rfl rfl ?_
      refine r_getr (pc := 32) (c := 3) (k := 2) (kz := 2) hsB.o cok_3 (Nat.le_of_ble_eq_true rfl) q274 ⟨rfl, rfl⟩ (Or.inl rfl) rfl (fun _ _ _ => rfl) hsB.p_known dX3_as_32 ?_
      refine r_iload_n (pc := 35) dX3_as_35 rfl rfl ?_
      refine r_aald (pc := 36) hsB.t_known ⟨by decide, by decide⟩ rfl (fun _ _ _ => rfl) (by omega) (by omega) (hsB.q_known (by omega) (by omega)) dX3_as_36 ?_
      refine r_aload_n (pc := 37) dX3_as_37 rfl rfl ?_
      refine r_getr (pc := 38) (c := 3) (k := 2) (kz := 2) hsA.o cok_3 (Nat.le_of_ble_eq_true rfl) q274 ⟨rfl, rfl⟩ (Or.inl rfl) rfl (fun _ _ _ => rfl) hsA.p_known dX3_as_38 ?_
      refine r_iload_n (pc := 41) dX3_as_41 rfl rfl ?_
      refine r_aald (pc := 42) hsA.t_known ⟨by decide, by decide⟩ rfl (fun _ _ _ => rfl) (by omega) (by omega) (hsA.q_known (by omega) (by omega)) dX3_as_42 ?_
      refine r_callS2 (pc := 43) (C_copy (hsB.u_known (by omega) (by omega)) (hsA.u_known (by omega) (by omega)) (by omega) (by omega) fe_i) im_X3_copy q375 dX3_as_43 (Nat.le_of_ble_eq_true rfl) (Nat.le_of_ble_eq_true rfl) rfl (k_fv ?_) (fun _ _ _ _ _ _ _ hx => no_x hx)
      refine r_aload_n (pc := 46) dX3_as_46 rfl rfl ?_
      refine r_getr (pc := 47) (c := 3) (k := 3) (kz := 3) hsB.o cok_3 (Nat.le_of_ble_eq_true rfl) q278 ⟨rfl, rfl⟩ (Or.inl rfl) rfl (fun _ _ _ => rfl) hsB.p_other dX3_as_47 ?_
      refine r_iload_n (pc := 50) dX3_as_50 rfl rfl ?_
      refine r_aald (pc := 51) hsB.t_other ⟨by decide, by decide⟩ rfl (fun _ _ _ => rfl) (by omega) (by omega) (hsB.q_other (by omega) (by omega)) dX3_as_51 ?_
      refine r_aload_n (pc := 52) dX3_as_52 rfl rfl ?_
      refine r_getr (pc := 53) (c := 3) (k := 3) (kz := 3) hsA.o cok_3 (Nat.le_of_ble_eq_true rfl) q278 ⟨rfl, rfl⟩ (Or.inl rfl) rfl (fun _ _ _ => rfl) hsA.p_other dX3_as_53 ?_
      refine r_iload_n (pc := 56) dX3_as_56 rfl rfl ?_
      refine r_aald (pc := 57) hsA.t_other ⟨by decide, by decide⟩ rfl (fun _ _ _ => rfl) (by omega) (by omega) (hsA.q_other (by omega) (by omega)) dX3_as_57 ?_
      refine r_callS2 (pc := 58) (C_copy (hsB.u_other (by omega) (by omega)) (hsA.u_other (by omega) (by omega)) (by omega) (by omega) fe_i) im_X3_copy q375 dX3_as_58 (Nat.le_of_ble_eq_true rfl) (Nat.le_of_ble_eq_true rfl) rfl (k_fv ?_) (fun _ _ _ _ _ _ _ hx => no_x hx)
      have gz : ∀ b : Nat, b < g ∨ g + 31 ≤ b → I1 b = I b := fun b q => hf b q
      simp (disch := omega) only [ur_n]
      rw [gz (g2 + 2 + i.toNat) (by omega), gz (g2 + 9 + i.toNat) (by omega), gz (g2 + 16 + i.toNat) (by omega)]
      refine r_iinc2 (pc := 61) (Nat.le_of_ble_eq_true rfl) dX3_as_61 rfl ?_
      refine r_goto (pc := 64) 10 dX3_as_64 rfl ?_
      refine ih (i + 1) _ (by omega) (by omega) (((hf.wr (by omega) (by omega)).wr (by omega) (by omega)).wr (by omega) (by omega)) (fun p k a b c e => ?_) (fun p k a b c e => ?_)
      · by_cases q : p = i
        · subst q; simp (disch := omega) only [ur_nv, ur_sv, cpyr_i]; trivial
        · simp (disch := omega) only [ur_nv]; exact z1 p k a (by omega) c e
      · by_cases q : p = i
        · subst q; simp (disch := omega) only [ur_nv, ur_sv, cpyr_i]
        · simp (disch := omega) only [ur_nv]; exact z2 p k a (by omega) c e
  exact loop 6 0 I (by omega) (by omega) GF.rf (fun p k a b => by omega) (fun p k a b => by omega)
end K7
