/-! ===== lists of names ===== -/
/-- the list at n with its row at e holds the texts Ls -/
def NL (G : GE) (I : HI) (P : HP) (T : HT) (n e : Nat) (Ls : List (List Int)) : Prop := T n = (52, 0) ∧ I n 0 = Ls.length ∧ I n 2 = Ls.length ∧ Ls.length ≤ 6 ∧ P n 1 = some e ∧ ((Ls = [] ∧ e = G.2.2.2.2 100 ∧ T e = (9, 0)) ∨ (G.2.2.2.1 ≤ e ∧ T e = (9, 10))) ∧ ∀ i : Int, 0 ≤ i → i < Ls.length → ∃ w, P e i = some w ∧ ST I P T w (Ls.getD i.toNat [])
/-- the first place of a text, from i on -/
def ixo (Ls : List (List Int)) (L : List Int) (i : Int) : Nat → Int
  | 0 => -1
  | n + 1 => if L = Ls.getD i.toNat [] then i else ixo Ls L (i + 1) n
section P4
variable {G : GE} {I J : HI} {P : HP} {T : HT} {z w n e d : Nat} {Q : QT} {L : List Int} {Ls : List (List Int)}
theorem C_ixr (h : NL G I P T n e Ls) (hw : ST I P T w L) (hQ : Q (some (iv (ixo Ls L 0 Ls.length))) I J P T z) : MC G yJ2_indexOfRange (ws_ yJ2_indexOfRange cJ2_indexOfRange 6 (some FieldType.int)) (d + 2) 0 0 [.ref n, .ref w, iv 0, iv Ls.length] I J P T z Q nX := by
  obtain ⟨h1, h2, h3, h4, h5, h6, h7⟩ := h
  have hTe : 0 < Ls.length → T e = (9, 10) := fun q => by
    rcases h6 with ⟨a, -, -⟩ | ⟨-, a⟩
    · rw [a] at q; exact absurd q (by decide)
    · exact a
  generalize hres : ixo Ls L 0 Ls.length = res at hQ
  refine MC.of (by decide) (Nat.le_of_ble_eq_true rfl) ?_
  show PW G mJ2_indexOfRange (rmD (d + 2) 0 0) (MZ G Q nX 0 0) 0 0 I J P T z 0 [some (.ref n), some (.ref w), some (iv 0), some (iv Ls.length), none, none] []
  refine r_aload_n (pc := 0) dJ2_indexOfRange_0 rfl rfl ?_
  refine r_getr (pc := 1) (c := 32) (k := 1) (kz := 1) h1 cok_32 (Nat.le_of_ble_eq_true rfl) q186 ⟨rfl, rfl⟩ (Or.inl rfl) rfl (fun _ _ _ => rfl) h5 dJ2_indexOfRange_1 ?_
  refine r_astore4 (pc := 4) (Nat.le_of_ble_eq_true rfl) dJ2_indexOfRange_4 rfl ?_
  refine r_aload_n (pc := 6) dJ2_indexOfRange_6 rfl rfl ?_
  refine r_ifnonnull (pc := 7) 39 dJ2_indexOfRange_7 rfl ?_
  refine r_iload_n (pc := 39) dJ2_indexOfRange_39 rfl rfl ?_
  refine r_istore5 (pc := 40) (Nat.le_of_ble_eq_true rfl) dJ2_indexOfRange_40 rfl ?_
  have loop : ∀ (k : Nat) (i : Int), 0 ≤ i → i + k = Ls.length → res = ixo Ls L i k → PW G mJ2_indexOfRange (rmD (d + 2) 0 0) (MZ G Q nX 0 0) 0 0 I J P T z 42 [some (.ref n), some (.ref w), some (iv 0), some (iv Ls.length), some (.ref e), some (iv i)] [] := by
    intro k
    induction k with
    | zero =>
      intro i i0 ik he
      refine r_iload (pc := 42) dJ2_indexOfRange_42 rfl ?_
      refine r_iload_n (pc := 44) dJ2_indexOfRange_44 rfl rfl ?_
      refine r_icmp_ge (pc := 45) 69 dJ2_indexOfRange_45 rfl (by omega) (by omega) (fun h45 => ?_) (fun h45 => ?_)
      · refine r_iconst (pc := 69) dJ2_indexOfRange_69 ?_
        refine r_ireturn (pc := 70) rfl rfl dJ2_indexOfRange_70 (Nat.le_of_ble_eq_true rfl) (Nat.le_of_ble_eq_true rfl) ?_
        rw [he] at hQ
        exact hQ
      omega
    | succ k ih =>
      intro i i0 ik he
      obtain ⟨w2, hp2, hs2⟩ := h7 i i0 (by omega)
      have hTe9 := hTe (by omega)
      unfold ixo at he
      refine r_iload (pc := 42) dJ2_indexOfRange_42 rfl ?_
      refine r_iload_n (pc := 44) dJ2_indexOfRange_44 rfl rfl ?_
      refine r_icmp_ge (pc := 45) 69 dJ2_indexOfRange_45 rfl (by omega) (by omega) (fun h45 => ?_) (fun h45 => ?_)
      · omega
      refine r_aload_n (pc := 48) dJ2_indexOfRange_48 rfl rfl ?_
      refine r_aload (pc := 49) dJ2_indexOfRange_49 rfl ?_
      refine r_iload (pc := 51) dJ2_indexOfRange_51 rfl ?_
      refine r_aald (pc := 53) hTe9 ⟨by decide, by decide⟩ rfl (fun _ _ _ => rfl) (by omega) (by omega) hp2 dJ2_indexOfRange_53 ?_
      refine r_callA1 (pc := 54) (cb := 37) (x := ⟨"java/lang/Object", "equals", "(Ljava/lang/Object;)Z"⟩) (C_equals hw hs2 fe_i) im_J7_equals rfl (by decide) q1074 q1097 q1077 q1075 hw.1 dJ2_indexOfRange_54 (Nat.le_of_ble_eq_true rfl) (Nat.le_of_ble_eq_true rfl) rfl (k_fi ?_) (fun _ _ _ _ _ _ _ hx => no_x hx)
      have br := bz_r (p := L = Ls.getD i.toNat [])
      refine r_if_eq (pc := 57) 63 dJ2_indexOfRange_57 rfl (by omega) (fun h57 => ?_) (fun h57 => ?_)
      · refine r_iinc5 (pc := 63) (Nat.le_of_ble_eq_true rfl) dJ2_indexOfRange_63 rfl ?_
        refine r_goto (pc := 66) 42 dJ2_indexOfRange_66 rfl ?_
        rw [if_neg (bz_0.mp h57)] at he
        exact ih (i + 1) (by omega) (by omega) he
      refine r_iload (pc := 60) dJ2_indexOfRange_60 rfl ?_
      refine r_ireturn (pc := 62) rfl rfl dJ2_indexOfRange_62 (Nat.le_of_ble_eq_true rfl) (Nat.le_of_ble_eq_true rfl) ?_
      rw [if_pos (bz_1.mp (by omega))] at he
      rw [he] at hQ
      exact hQ
  exact loop Ls.length 0 (by omega) (by omega) hres.symm
theorem C_ixof (h : NL G I P T n e Ls) (hw : ST I P T w L) (hQ : Q (some (iv (ixo Ls L 0 Ls.length))) I J P T z) : MC G yJ2_indexOf (ws_ yJ2_indexOf cJ2_indexOf 2 (some FieldType.int)) (d + 3) 0 0 [.ref n, .ref w] I J P T z Q nX := by
  refine MC.of (by decide) (Nat.le_of_ble_eq_true rfl) ?_
  show PW G mJ2_indexOf (rmD (d + 3) 0 0) (MZ G Q nX 0 0) 0 0 I J P T z 0 [some (.ref n), some (.ref w)] []
  refine r_aload_n (pc := 0) dJ2_indexOf_0 rfl rfl ?_
  refine r_aload_n (pc := 1) dJ2_indexOf_1 rfl rfl ?_
  refine r_iconst (pc := 2) dJ2_indexOf_2 ?_
  refine r_aload_n (pc := 3) dJ2_indexOf_3 rfl rfl ?_
  refine r_geti (pc := 4) (c := 32) (k := 2) (kz := 2) h.1 cok_32 (Nat.le_of_ble_eq_true rfl) q187 ⟨rfl, rfl⟩ (Or.inl rfl) rfl (fun _ _ _ => rfl) dJ2_indexOf_4 (fun hr4 => ?_)
  rw [h.2.2.1] at hr4 ⊢
  refine r_callV3 (pc := 7) (C_ixr h hw fe_i) im_J2_indexOfRange q1072 q1070 h.1 rfl dJ2_indexOf_7 (Nat.le_of_ble_eq_true rfl) (Nat.le_of_ble_eq_true rfl) rfl (k_fi ?_) (fun _ _ _ _ _ _ _ hx => no_x hx)
  refine r_ireturn (pc := 10) rfl rfl dJ2_indexOf_10 (Nat.le_of_ble_eq_true rfl) (Nat.le_of_ble_eq_true rfl) ?_
  exact hQ
theorem C_grow2 (hT : T n = (52, 0)) (hp : P n 1 = some (G.2.2.2.2 100)) (hTe : T (G.2.2.2.2 100) = (9, 0)) (hb : G.2.2.2.1 ≤ n) (hz : n < z) (hQ : Q (some (.ref z)) (ur I z fun _ => 0) (ur J z fun _ => 0) (up (urp P z fun _ => none) n 1 (some z)) (ut T z (9, 10)) (z + 1)) : MC G yJ2_grow_2 (ws_ yJ2_grow_2 cJ2_grow_2 4 (some (FieldType.array (FieldType.object "java/lang/Object")))) (d + 1) 1 10 [.ref n, iv 1] I J P T z Q nX := by
  have hT1 : ut T z (9, 10) n = (52, 0) := by rw [ut_n (by omega)]; exact hT
  refine MC.of (by decide) (Nat.le_of_ble_eq_true rfl) ?_
  show PW G mJ2_grow_2 (rmD (d + 1) 1 10) (MZ G Q nX 1 10) 0 0 I J P T z 0 [some (.ref n), some (iv 1), none, none] []
  refine r_aload_n (pc := 0) dJ2_grow_2_0 rfl rfl ?_
  refine r_getr (pc := 1) (c := 32) (k := 1) (kz := 1) hT cok_32 (Nat.le_of_ble_eq_true rfl) q186 ⟨rfl, rfl⟩ (Or.inl rfl) rfl (fun _ _ _ => rfl) hp dJ2_grow_2_1 ?_
  refine r_alen (pc := 4) hTe ⟨by decide, by decide⟩ dJ2_grow_2_4 (fun hn4 hm4 => ?_)
  refine r_istore_n2 (pc := 5) (Nat.le_of_ble_eq_true rfl) dJ2_grow_2_5 rfl ?_
  refine r_iload_n (pc := 6) dJ2_grow_2_6 rfl rfl ?_
  refine r_if_gt (pc := 7) 20 dJ2_grow_2_7 rfl (by omega) (fun h7 => ?_) (fun h7 => ?_)
  · omega
  refine r_aload_n (pc := 10) dJ2_grow_2_10 rfl rfl ?_
  refine r_getr (pc := 11) (c := 32) (k := 1) (kz := 1) hT cok_32 (Nat.le_of_ble_eq_true rfl) q186 ⟨rfl, rfl⟩ (Or.inl rfl) rfl (fun _ _ _ => rfl) hp dJ2_grow_2_11 ?_
  refine r_getsD (pc := 14) q184 rfl dJ2_grow_2_14 ?_
  refine r_acmp_eq (pc := 17) 45 dJ2_grow_2_17 rfl (fun h17 => ?_) (fun h17 => ?_)
  · refine r_aload_n (pc := 45) dJ2_grow_2_45 rfl rfl ?_
    refine r_bipush (pc := 46) dJ2_grow_2_46 (by decide +kernel) ?_
    refine r_iload_n (pc := 48) dJ2_grow_2_48 rfl rfl ?_
    refine r_mmax (pc := 49) q1153 dJ2_grow_2_49 (by omega) (by omega) (Nat.le_of_ble_eq_true rfl) (Nat.le_of_ble_eq_true rfl) rfl ?_
    rw [show (if (10 : Int) < 1 then 1 else (10 : Int)) = 10 by rw [if_neg (by omega)]]
    refine r_anew (pc := 52) (t := 9) ⟨by decide, by decide⟩ rfl q1154 q1151 (by omega) (by omega) (Nat.le_of_ble_eq_true rfl) (Nat.le_of_ble_eq_true rfl) dJ2_grow_2_52 ?_
    refine r_dup_x1 (pc := 55) dJ2_grow_2_55 rfl rfl ?_
    refine r_putr (pc := 56) (r := (some z)) (c := 32) (k := 1) (kz := 1) hT1 cok_32 (Nat.le_of_ble_eq_true rfl) q186 ⟨rfl, rfl⟩ (Or.inl rfl) rfl (by omega) rfl rfl rfl (fun _ _ _ => rfl) ⟨rfl, rfl⟩ dJ2_grow_2_56 ?_
    refine r_areturn (pc := 59) rfl (by first | exact Or.inl ⟨_, rfl⟩ | exact Or.inr ⟨_, rfl⟩) dJ2_grow_2_59 (Nat.le_of_ble_eq_true rfl) (Nat.le_of_ble_eq_true rfl) ?_
    exact hQ
  exact absurd rfl h17
theorem C_grow (hT : T n = (52, 0)) (hp : P n 1 = some (G.2.2.2.2 100)) (hTe : T (G.2.2.2.2 100) = (9, 0)) (hb : G.2.2.2.1 ≤ n) (hz : n < z) (h2 : I n 2 = 0) (hQ : Q (some (.ref z)) (ur I z fun _ => 0) (ur J z fun _ => 0) (up (urp P z fun _ => none) n 1 (some z)) (ut T z (9, 10)) (z + 1)) : MC G yJ2_grow (ws_ yJ2_grow cJ2_grow 1 (some (FieldType.array (FieldType.object "java/lang/Object")))) (d + 2) 1 10 [.ref n] I J P T z Q nX := by
  refine MC.of (by decide) (Nat.le_of_ble_eq_true rfl) ?_
  show PW G mJ2_grow (rmD (d + 2) 1 10) (MZ G Q nX 1 10) 0 0 I J P T z 0 [some (.ref n)] []
  refine r_aload_n (pc := 0) dJ2_grow_0 rfl rfl ?_
  refine r_aload_n (pc := 1) dJ2_grow_1 rfl rfl ?_
  refine r_geti (pc := 2) (c := 32) (k := 2) (kz := 2) hT cok_32 (Nat.le_of_ble_eq_true rfl) q187 ⟨rfl, rfl⟩ (Or.inl rfl) rfl (fun _ _ _ => rfl) dJ2_grow_2 (fun hr2 => ?_)
  rw [h2] at hr2 ⊢
  refine r_iconst (pc := 5) dJ2_grow_5 ?_
  refine r_iadd (pc := 6) dJ2_grow_6 ?_
  rw [show (0 : Int) + 1 = 1 by omega]
  refine r_callV1 (pc := 7) (C_grow2 hT hp hTe hb hz fe_i) im_J2_grow_2 qs19 q1112 hT rfl dJ2_grow_7 (Nat.le_of_ble_eq_true rfl) (Nat.le_of_ble_eq_true rfl) rfl (k_fr ?_) (fun _ _ _ _ _ _ _ hx => no_x hx)
  refine r_areturn (pc := 10) rfl (by first | exact Or.inl ⟨_, rfl⟩ | exact Or.inr ⟨_, rfl⟩) dJ2_grow_10 (Nat.le_of_ble_eq_true rfl) (Nat.le_of_ble_eq_true rfl) ?_
  exact hQ
theorem C_add2a {k : Int} (hT : T n = (52, 0)) (hTe : T e = (9, 10)) (hbe : G.2.2.2.1 ≤ e) (hb : G.2.2.2.1 ≤ n) (hw : T w = (57, 0)) (hk : 0 ≤ k ∧ k < 10) (hQ : Q none (ui I n 2 (k + 1)) J (up P e k (some w)) T z) : MC G yJ2_add_2 (ws_ yJ2_add_2 cJ2_add_2 4 (none : Option FieldType)) (d + 3) 1 10 [.ref n, .ref w, .ref e, iv k] I J P T z Q nX := by
  refine MC.of (by decide) (Nat.le_of_ble_eq_true rfl) ?_
  show PW G mJ2_add_2 (rmD (d + 3) 1 10) (MZ G Q nX 1 10) 0 0 I J P T z 0 [some (.ref n), some (.ref w), some (.ref e), some (iv k)] []
  refine r_iload_n (pc := 0) dJ2_add_2_0 rfl rfl ?_
  refine r_aload_n (pc := 1) dJ2_add_2_1 rfl rfl ?_
  refine r_alen (pc := 2) hTe ⟨by decide, by decide⟩ dJ2_add_2_2 (fun hn2 hm2 => ?_)
  refine r_icmp_ne (pc := 3) 11 dJ2_add_2_3 rfl (by omega) (by omega) (fun h3 => ?_) (fun h3 => ?_)
  · refine r_aload_n (pc := 11) dJ2_add_2_11 rfl rfl ?_
    refine r_iload_n (pc := 12) dJ2_add_2_12 rfl rfl ?_
    refine r_aload_n (pc := 13) dJ2_add_2_13 rfl rfl ?_
    refine r_aast (pc := 14) hTe ⟨by decide, by decide⟩ rfl (by omega) (by omega) (by omega) hw (Or.inr q2507) dJ2_add_2_14 ?_
    refine r_aload_n (pc := 15) dJ2_add_2_15 rfl rfl ?_
    refine r_iload_n (pc := 16) dJ2_add_2_16 rfl rfl ?_
    refine r_iconst (pc := 17) dJ2_add_2_17 ?_
    refine r_iadd (pc := 18) dJ2_add_2_18 ?_
    refine r_puti (pc := 19) (c := 32) (k := 2) (kz := 2) hT cok_32 (Nat.le_of_ble_eq_true rfl) q187 ⟨rfl, rfl⟩ (Or.inl rfl) rfl (by omega) rfl rfl (by omega) (fun _ _ _ => rfl) ⟨rfl, rfl⟩ dJ2_add_2_19 ?_
    refine r_return (pc := 22) rfl dJ2_add_2_22 (Nat.le_of_ble_eq_true rfl) (Nat.le_of_ble_eq_true rfl) ?_
    exact hQ
  omega
theorem C_add2b (hT : T n = (52, 0)) (hp : P n 1 = some (G.2.2.2.2 100)) (hTe : T (G.2.2.2.2 100) = (9, 0)) (h2 : I n 2 = 0) (hb : G.2.2.2.1 ≤ n) (hz : n < z) (hw : T w = (57, 0)) (hwz : w < z) (hQ : Q none (ui (ur I z fun _ => 0) n 2 1) (ur J z fun _ => 0) (up (up (urp P z fun _ => none) n 1 (some z)) z 0 (some w)) (ut T z (9, 10)) (z + 1)) : MC G yJ2_add_2 (ws_ yJ2_add_2 cJ2_add_2 4 (none : Option FieldType)) (d + 3) 1 10 [.ref n, .ref w, .ref (G.2.2.2.2 100), iv 0] I J P T z Q nX := by
  have hT1 : ut T z (9, 10) n = (52, 0) := by rw [ut_n (by omega)]; exact hT
  have hw1 : ut T z (9, 10) w = (57, 0) := by rw [ut_n (by omega)]; exact hw
  have hz1 : ut T z (9, 10) z = (9, 10) := ut_s
  refine MC.of (by decide) (Nat.le_of_ble_eq_true rfl) ?_
  show PW G mJ2_add_2 (rmD (d + 3) 1 10) (MZ G Q nX 1 10) 0 0 I J P T z 0 [some (.ref n), some (.ref w), some (.ref (G.2.2.2.2 100)), some (iv 0)] []
  refine r_iload_n (pc := 0) dJ2_add_2_0 rfl rfl ?_
  refine r_aload_n (pc := 1) dJ2_add_2_1 rfl rfl ?_
  refine r_alen (pc := 2) hTe ⟨by decide, by decide⟩ dJ2_add_2_2 (fun hn2 hm2 => ?_)
  refine r_icmp_ne (pc := 3) 11 dJ2_add_2_3 rfl (by omega) (by omega) (fun h3 => ?_) (fun h3 => ?_)
  · exact absurd rfl h3
  refine r_aload_n (pc := 6) dJ2_add_2_6 rfl rfl ?_
  refine r_callV0 (pc := 7) (C_grow hT hp hTe hb hz h2 fe_i) im_J2_grow qs18 q1108 hT rfl dJ2_add_2_7 (Nat.le_of_ble_eq_true rfl) (Nat.le_of_ble_eq_true rfl) rfl (k_fr ?_) (fun _ _ _ _ _ _ _ hx => no_x hx)
  refine r_astore_n2 (pc := 10) (Nat.le_of_ble_eq_true rfl) dJ2_add_2_10 rfl ?_
  refine r_aload_n (pc := 11) dJ2_add_2_11 rfl rfl ?_
  refine r_iload_n (pc := 12) dJ2_add_2_12 rfl rfl ?_
  refine r_aload_n (pc := 13) dJ2_add_2_13 rfl rfl ?_
  refine r_aast (pc := 14) hz1 ⟨by decide, by decide⟩ rfl (by omega) (by omega) (by omega) hw1 (Or.inr q2507) dJ2_add_2_14 ?_
  refine r_aload_n (pc := 15) dJ2_add_2_15 rfl rfl ?_
  refine r_iload_n (pc := 16) dJ2_add_2_16 rfl rfl ?_
  refine r_iconst (pc := 17) dJ2_add_2_17 ?_
  refine r_iadd (pc := 18) dJ2_add_2_18 ?_
  rw [show (0 : Int) + 1 = 1 by omega]
  refine r_puti (pc := 19) (c := 32) (k := 2) (kz := 2) hT1 cok_32 (Nat.le_of_ble_eq_true rfl) q187 ⟨rfl, rfl⟩ (Or.inl rfl) rfl (by omega) rfl rfl (by omega) (fun _ _ _ => rfl) ⟨rfl, rfl⟩ dJ2_add_2_19 ?_
  refine r_return (pc := 22) rfl dJ2_add_2_22 (Nat.le_of_ble_eq_true rfl) (Nat.le_of_ble_eq_true rfl) ?_
  exact hQ
theorem C_add (h : NL G I P T n e Ls) (hl : Ls.length < 6) (hb : G.2.2.2.1 ≤ n) (hz : n < z) (hw : ST I P T w L) (hzz : ∀ a, z ≤ a → (T a).1 = 0)
    (hQ : ∀ I' J' P' T' z' e', z ≤ z' → (e' = e ∨ e' = z) → (∀ a, a < z → a ≠ n → (a = e → T e = (9, 0)) → I' a = I a ∧ J' a = J a ∧ P' a = P a) → (∀ a, a < z → T' a = T a) → NL G I' P' T' n e' (Ls ++ [L]) → Q (some (iv 1)) I' J' P' T' z') : MC G yJ2_add (ws_ yJ2_add cJ2_add 2 (some FieldType.boolean)) (d + 4) 1 10 [.ref n, .ref w] I J P T z Q nX := by
  have hlt : ∀ {a : Nat} {t : Nat} {k : Int}, T a = (t, k) → t ≠ 0 → a < z := fun {a t k} p q => Nat.not_le.mp fun c => q (by have := hzz a c; rw [p] at this; exact this)
  have hwT := hw.1
  have hwz := hlt hwT (by decide)
  have hnw : n ≠ w := fun c => by have := h.1; rw [c, hwT] at this; exact absurd (congrArg Prod.fst this) (by decide)
  -- a text stays a text
  have keep : ∀ {I' : HI} {P' : HP} {T' : HT}, (∀ a, a < z → a ≠ n → (T a).1 ≠ 9 → I' a = I a ∧ P' a = P a) → (∀ a, a < z → T' a = T a) → ∀ {w2 : Nat} {M : List Int}, ST I P T w2 M → ST I' P' T' w2 M := by
    intro I' P' T' k1 k2 w2 M ⟨a1, a2, b2, a3, a4, a5⟩
    have l1 := hlt a1 (by decide)
    have l2 := hlt a4 (by decide)
    have n1 : w2 ≠ n := fun c => by have := h.1; rw [← c, a1] at this; exact absurd (congrArg Prod.fst this) (by decide)
    have n2 : b2 ≠ n := fun c => by have := h.1; rw [← c, a4] at this; exact absurd (congrArg Prod.fst this) (show ¬ (2 : Nat) = 52 by decide)
    have q1 := k1 w2 l1 n1 (by rw [a1]; decide)
    have q2 := k1 b2 l2 n2 (by rw [a4]; show (2 : Nat) ≠ 9; decide)
    exact ⟨by rw [k2 _ l1]; exact a1, by rw [q1.1]; exact a2, b2, by rw [q1.2]; exact a3, by rw [k2 _ l2]; exact a4, fun j p q => by rw [q2.1]; exact a5 j p q⟩
  obtain ⟨h1, h2, h3, h4, h5, h6, h7⟩ := h
  refine MC.of (by decide) (Nat.le_of_ble_eq_true rfl) ?_
  show PW G mJ2_add (rmD (d + 4) 1 10) (MZ G Q nX 1 10) 0 0 I J P T z 0 [some (.ref n), some (.ref w)] []
  refine r_aload_n (pc := 0) dJ2_add_0 rfl rfl ?_
  refine r_dup (pc := 1) dJ2_add_1 rfl ?_
  refine r_geti (pc := 2) (c := 32) (k := 0) (kz := 0) h1 cok_32 (Nat.le_of_ble_eq_true rfl) q189 ⟨rfl, rfl⟩ (Or.inr q190) rfl (fun _ _ _ => rfl) dJ2_add_2 (fun hr2 => ?_)
  rw [h2] at hr2 ⊢
  refine r_iconst (pc := 5) dJ2_add_5 ?_
  refine r_iadd (pc := 6) dJ2_add_6 ?_
  refine r_puti (pc := 7) (c := 32) (k := 0) (kz := 0) h1 cok_32 (Nat.le_of_ble_eq_true rfl) q189 ⟨rfl, rfl⟩ (Or.inr q190) rfl (by omega) rfl rfl (by omega) (fun _ _ _ => rfl) ⟨rfl, rfl⟩ dJ2_add_7 ?_
  have lapp : (Ls ++ [L]).length = Ls.length + 1 := by simp
  have gapp : ∀ i : Int, 0 ≤ i → i < Ls.length → (Ls ++ [L]).getD i.toNat [] = Ls.getD i.toNat [] := fun i p q => by
    rw [List.getD_eq_getElem?_getD, List.getElem?_append_left (by omega), ← List.getD_eq_getElem?_getD]
  have glast : (Ls ++ [L]).getD ((Ls.length : Int)).toNat [] = L := by
    rw [List.getD_eq_getElem?_getD, Int.toNat_natCast, List.getElem?_append_right (by omega)]; simp
  rcases h6 with ⟨hnil, he, hTe⟩ | ⟨hbe, hTe⟩
  · subst hnil
    subst he
    have h3' : I n 2 = 0 := h3
    rw [show (((([] : List (List Int)).length : Nat) : Int) + 1) = 1 from rfl]
    refine r_aload_n (pc := 10) dJ2_add_10 rfl rfl ?_
    refine r_aload_n (pc := 11) dJ2_add_11 rfl rfl ?_
    refine r_aload_n (pc := 12) dJ2_add_12 rfl rfl ?_
    refine r_getr (pc := 13) (c := 32) (k := 1) (kz := 1) h1 cok_32 (Nat.le_of_ble_eq_true rfl) q186 ⟨rfl, rfl⟩ (Or.inl rfl) rfl (fun _ _ _ => rfl) h5 dJ2_add_13 ?_
    refine r_aload_n (pc := 16) dJ2_add_16 rfl rfl ?_
    refine r_geti (pc := 17) (c := 32) (k := 2) (kz := 2) h1 cok_32 (Nat.le_of_ble_eq_true rfl) q187 ⟨rfl, rfl⟩ (Or.inl rfl) rfl (fun _ _ _ => rfl) dJ2_add_17 (fun hr17 => ?_)
    rw [ui_nj (by omega), h3'] at hr17 ⊢
    refine r_callV3 (pc := 20) (C_add2b (I := ui I n 0 1) h1 h5 hTe (by rw [ui_nj (by omega)]; exact h3) hb hz hwT hwz fe_i) im_J2_add_2 qs17 q1104 h1 rfl dJ2_add_20 (Nat.le_of_ble_eq_true rfl) (Nat.le_of_ble_eq_true rfl) rfl (k_fv ?_) (fun _ _ _ _ _ _ _ hx => no_x hx)
    refine r_iconst (pc := 23) dJ2_add_23 ?_
    refine r_ireturn (pc := 24) rfl (by decide +kernel) dJ2_add_24 (Nat.le_of_ble_eq_true rfl) (Nat.le_of_ble_eq_true rfl) ?_
    have nz : n ≠ z := by omega
    refine hQ _ _ _ _ (z + 1) z (by omega) (Or.inr rfl) (fun a p q1 q2 => ⟨?_, ?_, ?_⟩) (fun a p => ut_n (by omega)) ⟨by rw [ut_n (by omega)]; exact h1, ?_, ?_, by simp, ?_, Or.inr ⟨by omega, ut_s⟩, fun i p q => ?_⟩
    · rw [ui_nr q1, ur_n (by omega), ui_nr q1]
    · rw [ur_n (by omega)]
    · rw [up_nr (by omega), up_nr q1, urp_n (by omega)]
    · rw [ui_nj (by omega), ur_nv nz, ui_sv]; rfl
    · rw [ui_sv]; rfl
    · rw [up_n nz, up_s]
    · obtain rfl : i = 0 := by simp at q; omega
      refine ⟨w, up_s, keep (fun a l1 l2 l3 => ?_) (fun a l => ut_n (by omega)) hw⟩
      exact ⟨by rw [ui_nr l2, ur_n (by omega), ui_nr l2], by rw [up_nr (by omega), up_nr l2, urp_n (by omega)]⟩
  · refine r_aload_n (pc := 10) dJ2_add_10 rfl rfl ?_
    refine r_aload_n (pc := 11) dJ2_add_11 rfl rfl ?_
    refine r_aload_n (pc := 12) dJ2_add_12 rfl rfl ?_
    refine r_getr (pc := 13) (c := 32) (k := 1) (kz := 1) h1 cok_32 (Nat.le_of_ble_eq_true rfl) q186 ⟨rfl, rfl⟩ (Or.inl rfl) rfl (fun _ _ _ => rfl) h5 dJ2_add_13 ?_
    refine r_aload_n (pc := 16) dJ2_add_16 rfl rfl ?_
    refine r_geti (pc := 17) (c := 32) (k := 2) (kz := 2) h1 cok_32 (Nat.le_of_ble_eq_true rfl) q187 ⟨rfl, rfl⟩ (Or.inl rfl) rfl (fun _ _ _ => rfl) dJ2_add_17 (fun hr17 => ?_)
    rw [ui_nj (by omega), h3] at hr17 ⊢
    refine r_callV3 (pc := 20) (C_add2a (I := ui I n 0 (Ls.length + 1)) h1 hTe hbe hb hwT (by omega) fe_i) im_J2_add_2 qs17 q1104 h1 rfl dJ2_add_20 (Nat.le_of_ble_eq_true rfl) (Nat.le_of_ble_eq_true rfl) rfl (k_fv ?_) (fun _ _ _ _ _ _ _ hx => no_x hx)
    refine r_iconst (pc := 23) dJ2_add_23 ?_
    refine r_ireturn (pc := 24) rfl (by decide +kernel) dJ2_add_24 (Nat.le_of_ble_eq_true rfl) (Nat.le_of_ble_eq_true rfl) ?_
    have ne9 : e ≠ n := fun c => by rw [c, h1] at hTe; exact absurd (congrArg Prod.fst hTe) (by decide)
    have hez := hlt hTe (by decide)
    refine hQ _ _ _ _ z e (Nat.le_refl _) (Or.inl rfl) (fun a p q1 q2 => ⟨?_, rfl, ?_⟩) (fun a p => rfl) ⟨h1, ?_, ?_, by rw [lapp]; omega, ?_, Or.inr ⟨hbe, hTe⟩, fun i p q => ?_⟩
    · rw [ui_nr q1, ui_nr q1]
    · rw [up_nr (fun c => by have := q2 c; rw [hTe] at this; exact absurd (congrArg Prod.snd this) (by decide))]
    · rw [ui_nj (by omega), ui_sv, lapp]; omega
    · rw [ui_sv, lapp]; omega
    · rw [up_n ne9.symm]; exact h5
    · have kp : ∀ {w2 : Nat} {M : List Int}, ST I P T w2 M → ST (ui (ui I n 0 (Ls.length + 1)) n 2 (Ls.length + 1)) (up P e Ls.length (some w)) T w2 M := keep (fun a l1 l2 l3 => ⟨by rw [ui_nr l2, ui_nr l2], by rw [up_nr (fun c => l3 (by rw [c, hTe]))]⟩) (fun a l => rfl)
      rw [lapp] at q
      by_cases e9 : i = Ls.length
      · subst e9
        rw [glast]
        exact ⟨w, up_s, kp hw⟩
      · obtain ⟨w2, hp2, hs2⟩ := h7 i p (by omega)
        rw [gapp i p (by omega)]
        refine ⟨w2, ?_, kp hs2⟩
        have : up P e Ls.length (some w) e i = P e i := by simp [up]; omega
        rw [this]; exact hp2
theorem C_acI (hT : T n = (52, 0)) (hQ : Q none I J P T z) : MC G yJ0_init (ws_ yJ0_init cJ0_init 1 (none : Option FieldType)) (d + 1) 0 0 [.ref n] I J P T z Q nX := by
  refine MC.of (by decide) (Nat.le_of_ble_eq_true rfl) ?_
  show PW G mJ0_init (rmD (d + 1) 0 0) (MZ G Q nX 0 0) 0 0 I J P T z 0 [some (.ref n)] []
  refine r_aload_n (pc := 0) dJ0_init_0 rfl rfl ?_
  refine r_objI (pc := 1) q183 dJ0_init_1 rfl ?_
  refine r_return (pc := 4) rfl dJ0_init_4 (Nat.le_of_ble_eq_true rfl) (Nat.le_of_ble_eq_true rfl) ?_
  exact hQ
theorem C_alI0 (hT : T n = (52, 0)) (hb : G.2.2.2.1 ≤ n) (hQ : Q none (ui I n 0 0) J P T z) : MC G yJ1_init (ws_ yJ1_init cJ1_init 1 (none : Option FieldType)) (d + 2) 0 0 [.ref n] I J P T z Q nX := by
  refine MC.of (by decide) (Nat.le_of_ble_eq_true rfl) ?_
  show PW G mJ1_init (rmD (d + 2) 0 0) (MZ G Q nX 0 0) 0 0 I J P T z 0 [some (.ref n)] []
  refine r_aload_n (pc := 0) dJ1_init_0 rfl rfl ?_
  refine r_callI0 (pc := 1) (C_acI hT fe_i) im_J0_init rfl q180 dJ1_init_1 (Nat.le_of_ble_eq_true rfl) (Nat.le_of_ble_eq_true rfl) rfl (k_fv ?_) (fun _ _ _ _ _ _ _ hx => no_x hx)
  refine r_aload_n (pc := 4) dJ1_init_4 rfl rfl ?_
  refine r_iconst (pc := 5) dJ1_init_5 ?_
  refine r_puti (pc := 6) (c := 32) (k := 0) (kz := 0) hT cok_32 (Nat.le_of_ble_eq_true rfl) q188 ⟨rfl, rfl⟩ (Or.inl rfl) rfl (by omega) rfl rfl (by omega) (fun _ _ _ => rfl) ⟨rfl, rfl⟩ dJ1_init_6 ?_
  refine r_return (pc := 9) rfl dJ1_init_9 (Nat.le_of_ble_eq_true rfl) (Nat.le_of_ble_eq_true rfl) ?_
  exact hQ
theorem C_alI (hT : T n = (52, 0)) (hb : G.2.2.2.1 ≤ n) (hQ : Q none (ui I n 0 0) J (up P n 1 (some (G.2.2.2.2 100))) T z) : MC G yJ2_init (ws_ yJ2_init cJ2_init 1 (none : Option FieldType)) (d + 3) 0 0 [.ref n] I J P T z Q nX := by
  refine MC.of (by decide) (Nat.le_of_ble_eq_true rfl) ?_
  show PW G mJ2_init (rmD (d + 3) 0 0) (MZ G Q nX 0 0) 0 0 I J P T z 0 [some (.ref n)] []
  refine r_aload_n (pc := 0) dJ2_init_0 rfl rfl ?_
  refine r_callI0 (pc := 1) (C_alI0 hT hb fe_i) im_J1_init rfl q177 dJ2_init_1 (Nat.le_of_ble_eq_true rfl) (Nat.le_of_ble_eq_true rfl) rfl (k_fv ?_) (fun _ _ _ _ _ _ _ hx => no_x hx)
  refine r_aload_n (pc := 4) dJ2_init_4 rfl rfl ?_
  refine r_getsD (pc := 5) q184 rfl dJ2_init_5 ?_
  refine r_putr (pc := 8) (r := (some (G.2.2.2.2 100))) (c := 32) (k := 1) (kz := 1) hT cok_32 (Nat.le_of_ble_eq_true rfl) q186 ⟨rfl, rfl⟩ (Or.inl rfl) rfl (by omega) rfl rfl rfl (fun _ _ _ => rfl) ⟨rfl, rfl⟩ dJ2_init_8 ?_
  refine r_return (pc := 11) rfl dJ2_init_11 (Nat.le_of_ble_eq_true rfl) (Nat.le_of_ble_eq_true rfl) ?_
  exact hQ
end P4
