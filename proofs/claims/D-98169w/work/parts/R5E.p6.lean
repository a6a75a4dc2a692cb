/-! ===== a reader of class 15 ===== -/
section P6E
variable {G : GE} {I J : HI} {P : HP} {T : HT} {z r tp d : Nat} {Q : QT} {X : XT} {τ ω : Int → Int} {s : TS}
theorem C_byteAtE {p : Int} (hT : T r = (15 + 20, 0)) (hP : P r 0 = some tp) (ht : T tp = (2, 940)) (hn : I r 1 ≤ 940) (hp : 0 ≤ p ∧ p ≤ 940) (hQ : Q (some (iv (bt (I tp) (I r 1) p))) I J P T z) : MC G yX12_byteAt (ws_ yX12_byteAt cX12_byteAt 2 (some FieldType.int)) (d) 0 0 [.ref r, iv p] I J P T z Q nX := by
  refine MC.of (by decide) (Nat.le_of_ble_eq_true rfl) ?_
  show PW G mX12_byteAt (rmD (d) 0 0) (MZ G Q nX 0 0) 0 0 I J P T z 0 [some (.ref r), some (iv p)] []
  refine r_iload_n (pc := 0) dX12_byteAt_0 rfl rfl ?_
  refine r_aload_n (pc := 1) dX12_byteAt_1 rfl rfl ?_
  refine r_geti (pc := 2) (c := 15) (k := 1) (kz := 1) hT cok_15 (Nat.le_of_ble_eq_true rfl) q619 ⟨rfl, rfl⟩ (Or.inl rfl) rfl (fun _ _ _ => rfl) dX12_byteAt_2 (fun hr2 => ?_)
  refine r_icmp_ge (pc := 5) 21 dX12_byteAt_5 rfl (by omega) (by omega) (fun h5 => ?_) (fun h5 => ?_)
  · refine r_iconst (pc := 21) dX12_byteAt_21 ?_
    refine r_ireturn (pc := 22) rfl rfl dX12_byteAt_22 (Nat.le_of_ble_eq_true rfl) (Nat.le_of_ble_eq_true rfl) ?_
    unfold bt at hQ
    rw [if_neg (by omega)] at hQ
    exact hQ
  refine r_aload_n (pc := 8) dX12_byteAt_8 rfl rfl ?_
  refine r_getr (pc := 9) (c := 15) (k := 0) (kz := 0) hT cok_15 (Nat.le_of_ble_eq_true rfl) q618 ⟨rfl, rfl⟩ (Or.inl rfl) rfl (fun _ _ _ => rfl) hP dX12_byteAt_9 ?_
  refine r_iload_n (pc := 12) dX12_byteAt_12 rfl rfl ?_
  refine r_bald (pc := 13) ht (by omega) (by omega) dX12_byteAt_13 (fun hr13 => ?_)
  refine r_sipush (pc := 14) dX12_byteAt_14 (by decide +kernel) ?_
  refine r_iand 8 256 dX12_byteAt_17 rfl (by decide) rfl ?_
  refine r_goto (pc := 18) 22 dX12_byteAt_18 rfl ?_
  refine r_ireturn (pc := 22) rfl rfl dX12_byteAt_22 (Nat.le_of_ble_eq_true rfl) (Nat.le_of_ble_eq_true rfl) ?_
  unfold bt at hQ
  rw [if_pos h5] at hQ
  exact hQ
theorem C_goE (hR : RB I P T 15 r tp τ s) (hp : 0 ≤ s.1 4 ∧ s.1 4 ≤ s.1 3 ∧ s.1 3 ≤ 940 ∧ 0 ≤ s.1 5 ∧ s.1 5 ≤ 940) (hb : G.2.2.2.1 ≤ r) (hrz : r < z) (htz : tp < z) (hQ : ∀ I' J' P' T' z', z ≤ z' → RF z r I J P T I' J' P' T' → RD I' P' T' 15 r tp τ (g_nx τ s) → Q none I' J' P' T' z') : MC G yX12_go (ws_ yX12_go cX12_go 5 (none : Option FieldType)) (d + 7) 4 60 [.ref r] I J P T z Q nX := by
  obtain ⟨hT, hP, ht, hτ, h1, h2, h3, htr⟩ := hR
  refine MC.of (by decide) (Nat.le_of_ble_eq_true rfl) ?_
  show PW G mX12_go (rmD (d + 7) 4 60) (MZ G Q nX 4 60) 0 0 I J P T z 0 [some (.ref r), none, none, none, none] []
  refine r_gz fun hgz => ?_
  obtain ⟨ω, hω⟩ : ∃ ω, ω = I r := ⟨_, rfl⟩
  rw [← hω] at h1 h2 h3
  have e0 : I = ur I r (us ω 3 (s.1 4)) := by rw [us_id h3.symm, hω, ur_id]
  -- what is known of such a heap
  have base : ∀ (ω1 : Int → Int), ω1 1 = s.1 3 → ω1 2 = s.1 5 → ω1 3 = (g_nx τ s).1 4 → (∀ k, k < 3 ∨ 8 ≤ k → ω1 k = ω k) → RB (ur I r ω1) P T 15 r tp τ (g_nx τ s) ∧ RF z r I J P T (ur I r ω1) J P T := by
    intro ω1 a1 a2 a3 a4
    refine ⟨⟨hT, hP, ht, by rw [ur_n htr]; exact hτ, by rw [ur_sv, a1]; exact (t_next_f (by omega)).symm, by rw [ur_sv, a2]; exact (t_next_f (by omega)).symm, by rw [ur_sv, a3], htr⟩, fun a p q => ⟨ur_n q, rfl, rfl⟩, fun _ _ => rfl, rfl, fun _ _ => rfl, fun k q => by rw [ur_sv, a4 k q, hω]⟩
  have main : ∀ p : Int, p = t_skip τ (s.1 3) (s.1 3 - s.1 4).toNat (s.1 4) → PW G mX12_go (rmD (d + 7) 4 60) (MZ G Q nX 4 60) 0 0 (ur I r (us ω 3 p)) J P T z 50 [some (.ref r), none, none, none, none] [] := by
    intro p hpe
    have sk := t_skip_r (τ := τ) (n := s.1 3) (s.1 3 - s.1 4).toNat (s.1 4)
    rw [← hpe] at sk
    have gn : g_nx τ s = ((t_next1 τ s.1 s.2.1 p).1, (t_next1 τ s.1 s.2.1 p).2, s.2.2) := by
      unfold g_nx t_next
      rw [← hpe]
    refine r_aload_n (pc := 50) dX12_go_50 rfl rfl ?_
    refine r_aload_n (pc := 51) dX12_go_51 rfl rfl ?_
    refine r_geti (pc := 52) (c := 15) (k := 3) (kz := 3) hT cok_15 (Nat.le_of_ble_eq_true rfl) q621 ⟨rfl, rfl⟩ (Or.inl rfl) rfl (fun _ _ _ => rfl) dX12_go_52 (fun hr52 => ?_)
    try simp (disch := omega) only [ui_ur, ui_ur_n, ur_sv, ur_nv, ui_sv, ui_nv, ui_uis, us_s, us_n] at hr52 ⊢
    refine r_puti (pc := 55) (c := 15) (k := 5) (kz := 5) hT cok_15 (Nat.le_of_ble_eq_true rfl) q629 ⟨rfl, rfl⟩ (Or.inl rfl) rfl (by omega) rfl rfl (by omega) (fun _ _ _ => rfl) ⟨rfl, rfl⟩ dX12_go_55 ?_
    try simp (disch := omega) only [ui_ur, ui_ur_n, ur_sv, ur_nv, ui_sv, ui_nv, ui_uis, us_s, us_n]
    refine r_aload_n (pc := 58) dX12_go_58 rfl rfl ?_
    refine r_geti (pc := 59) (c := 15) (k := 1) (kz := 1) hT cok_15 (Nat.le_of_ble_eq_true rfl) q619 ⟨rfl, rfl⟩ (Or.inl rfl) rfl (fun _ _ _ => rfl) dX12_go_59 (fun hr59 => ?_)
    try simp (disch := omega) only [ui_ur, ui_ur_n, ur_sv, ur_nv, ui_sv, ui_nv, ui_uis, us_s, us_n] at hr59 ⊢
    rw [h1] at hr59 ⊢
    refine r_aload_n (pc := 62) dX12_go_62 rfl rfl ?_
    refine r_geti (pc := 63) (c := 15) (k := 2) (kz := 2) hT cok_15 (Nat.le_of_ble_eq_true rfl) q620 ⟨rfl, rfl⟩ (Or.inl rfl) rfl (fun _ _ _ => rfl) dX12_go_63 (fun hr63 => ?_)
    try simp (disch := omega) only [ui_ur, ui_ur_n, ur_sv, ur_nv, ui_sv, ui_nv, ui_uis, us_s, us_n] at hr63 ⊢
    rw [h2] at hr63 ⊢
    have stop : ¬ (s.1 5 < s.1 3 ∧ s.1 5 ≤ p) → PW G mX12_go (rmD (d + 7) 4 60) (MZ G Q nX 4 60) 0 0 (ur I r (us (us ω 3 p) 5 p)) J P T z 94 [some (.ref r), none, none, none, none] [] := by
      intro hnl
      refine r_aload_n (pc := 94) dX12_go_94 rfl rfl ?_
      refine r_geti (pc := 95) (c := 15) (k := 3) (kz := 3) hT cok_15 (Nat.le_of_ble_eq_true rfl) q621 ⟨rfl, rfl⟩ (Or.inl rfl) rfl (fun _ _ _ => rfl) dX12_go_95 (fun hr95 => ?_)
      try simp (disch := omega) only [ui_ur, ui_ur_n, ur_sv, ur_nv, ui_sv, ui_nv, ui_uis, us_s, us_n] at hr95 ⊢
      refine r_aload_n (pc := 98) dX12_go_98 rfl rfl ?_
      refine r_geti (pc := 99) (c := 15) (k := 1) (kz := 1) hT cok_15 (Nat.le_of_ble_eq_true rfl) q619 ⟨rfl, rfl⟩ (Or.inl rfl) rfl (fun _ _ _ => rfl) dX12_go_99 (fun hr99 => ?_)
      try simp (disch := omega) only [ui_ur, ui_ur_n, ur_sv, ur_nv, ui_sv, ui_nv, ui_uis, us_s, us_n] at hr99 ⊢
      rw [h1] at hr99 ⊢
      refine r_icmp_lt (pc := 102) 111 dX12_go_102 rfl (by omega) (by omega) (fun h102 => ?_) (fun h102 => ?_)
      · have hpk : pk τ (s.1 3) p = bt τ (s.1 3) p := (bt_in h102).symm
        have br := bt_r (τ := τ) (n := s.1 3) (p := p)
        refine r_aload_n (pc := 111) dX12_go_111 rfl rfl ?_
        refine r_aload_n (pc := 112) dX12_go_112 rfl rfl ?_
        refine r_geti (pc := 113) (c := 15) (k := 3) (kz := 3) hT cok_15 (Nat.le_of_ble_eq_true rfl) q621 ⟨rfl, rfl⟩ (Or.inl rfl) rfl (fun _ _ _ => rfl) dX12_go_113 (fun hr113 => ?_)
        try simp (disch := omega) only [ui_ur, ui_ur_n, ur_sv, ur_nv, ui_sv, ui_nv, ui_uis, us_s, us_n] at hr113 ⊢
        refine r_callP1 (pc := 116) (cb := 15) (C_byteAtE (tp := tp) hT hP ht (by rw [ur_sv, us_n (by omega), us_n (by omega), h1]; omega) (by omega) fe_i) im_X12_byteAt q673 q971 rfl q2470 q672 hT dX12_go_116 (Nat.le_of_ble_eq_true rfl) (Nat.le_of_ble_eq_true rfl) rfl (k_fi ?_) (fun _ _ _ _ _ _ _ hx => no_x hx)
        rw [ur_n htr, hτ, ur_sv, us_n (by omega), us_n (by omega), h1]
        refine r_istore_n1 (pc := 119) (Nat.le_of_ble_eq_true rfl) dX12_go_119 rfl ?_
        refine r_iload_n (pc := 120) dX12_go_120 rfl rfl ?_
        refine r_callS1 (pc := 121) (C_isLetter (by omega) fe_i) im_X12_isLetter q676 dX12_go_121 (Nat.le_of_ble_eq_true rfl) (Nat.le_of_ble_eq_true rfl) rfl (k_fi ?_) (fun _ _ _ _ _ _ _ hx => no_x hx)
        have word : isS (pk τ (s.1 3) p) ∨ isD (pk τ (s.1 3) p) → PW G mX12_go (rmD (d + 7) 4 60) (MZ G Q nX 4 60) 0 0 (ur I r (us (us ω 3 p) 5 p)) J P T z 200 [some (.ref r), some (iv (bt τ (s.1 3) p)), none, none, none] [] := by
          intro hw
          have gn2 : t_next1 τ s.1 s.2.1 p = (us (us (us (us (us (us (us s.1 4 p) 12 p) 13 0) 14 (t_run τ s.1 p).2.2.1) 13 (t_run τ s.1 p).2.2.2.1) 4 (t_run τ s.1 p).2.2.2.2) 11 (t_kind (bz (isS (pk τ (s.1 3) p))) (t_run τ s.1 p)), (t_run τ s.1 p).2.1) := by
            unfold t_next1
            dsimp only
            rw [if_neg hnl, if_neg (by omega), if_neg (fun c => by rcases hw with a | a; exact c.1 a; exact c.2 a)]
          have bs := bz_r (p := isS (bt τ (s.1 3) p))
          have es : bz (isS (bt τ (s.1 3) p)) = bz (isS (pk τ (s.1 3) p)) := by rw [hpk]
          refine r_iload_n (pc := 200) dX12_go_200 rfl rfl ?_
          refine r_callS1 (pc := 201) (C_isLetter (by omega) fe_i) im_X12_isLetter q676 dX12_go_201 (Nat.le_of_ble_eq_true rfl) (Nat.le_of_ble_eq_true rfl) rfl (k_fi ?_) (fun _ _ _ _ _ _ _ hx => no_x hx)
          refine r_istore_n2 (pc := 204) (Nat.le_of_ble_eq_true rfl) dX12_go_204 rfl ?_
          refine r_iconst (pc := 205) dX12_go_205 ?_
          refine r_istore_n3 (pc := 206) (Nat.le_of_ble_eq_true rfl) dX12_go_206 rfl ?_
          refine r_aload_n (pc := 207) dX12_go_207 rfl rfl ?_
          refine r_iconst (pc := 208) dX12_go_208 ?_
          refine r_puti (pc := 209) (c := 15) (k := 6) (kz := 6) hT cok_15 (Nat.le_of_ble_eq_true rfl) q630 ⟨rfl, rfl⟩ (Or.inl rfl) rfl (by omega) rfl rfl (by omega) (fun _ _ _ => rfl) ⟨rfl, rfl⟩ dX12_go_209 ?_
          try simp (disch := omega) only [ui_ur, ui_ur_n, ur_sv, ur_nv, ui_sv, ui_nv, ui_uis, us_s, us_n]
          rw [es] at bs ⊢
          generalize hsm : bz (isS (pk τ (s.1 3) p)) = small at bs gn2 ⊢
          obtain ⟨Rn, hRn⟩ : ∃ Rn, Rn = t_run τ s.1 p := ⟨_, rfl⟩
          have hRn2 : t_wd τ (s.1 3) small (s.1 3 - p).toNat (1, 0, 0, 0, p) = Rn := by rw [hRn]; unfold t_run; rw [hsm]
          rw [← hRn] at gn2
          refine r_new (pc := 212) (c := 36) cok_36 rfl (by decide +kernel) q682 q683 q138 (by show 0 + 1 ≤ 4; omega) (by show 0 + 4 ≤ 60; omega) dX12_go_212 ?_
          refine r_dup (pc := 215) dX12_go_215 rfl ?_
          have nzr : r ≠ z := by omega
          refine r_callI0 (pc := 216) (C_sbI (T := ut T z (56, 0)) ut_s hgz (by omega) fe_i) im_J6_init rfl q684 dX12_go_216 (by show 0 + 1 + 1 ≤ 4; omega) (by show 0 + 4 + 16 ≤ 60; omega) rfl (k_fv ?_) (fun _ _ _ _ _ _ _ hx => no_x hx)
          rw [ur_comm nzr, ur_comm (a := r) (b := z + 1) (by omega), ui_ur_n (by omega)]
          refine r_astore4 (pc := 219) (Nat.le_of_ble_eq_true rfl) dX12_go_219 rfl ?_
          have hsb : SB (ui (ur (ur I z fun _ => 0) (z + 1) fun _ => 0) z 1 0) (up (urp (urp P z fun _ => none) (z + 1) fun _ => none) z 0 (some (z + 1))) (ut (ut T z (56, 0)) (z + 1) (2, 16)) z (z + 1) [] := by
            refine ⟨by rw [ut_n (by omega), ut_s], up_s, ut_s, ui_sv, ?_, by simp, fun j a b => by simp at b; omega⟩
            rw [ui_nj (by omega), ur_nv (by omega), ur_sv]; rfl
          have hI0 : ∀ a, a < z → (ui (ur (ur I z fun _ => 0) (z + 1) fun _ => 0) z 1 0) a = I a := fun a q => by rw [ui_nr (by omega), ur_n (by omega), ur_n (by omega)]
          have hJ0 : ∀ a, a < z → (ur (ur J z fun _ => 0) (z + 1) fun _ => 0) a = J a := fun a q => by rw [ur_n (by omega), ur_n (by omega)]
          have hP0 : ∀ a, a < z → (up (urp (urp P z fun _ => none) (z + 1) fun _ => none) z 0 (some (z + 1))) a = P a := fun a q => by rw [up_nr (by omega), urp_n (by omega), urp_n (by omega)]
          have hT0 : ∀ a, a < z → (ut (ut T z (56, 0)) (z + 1) (2, 16)) a = T a := fun a q => by rw [ut_n (by omega), ut_n (by omega)]
          generalize (ui (ur (ur I z fun _ => 0) (z + 1) fun _ => 0) z 1 0) = Ia at hsb hI0 ⊢
          generalize (ur (ur J z fun _ => 0) (z + 1) fun _ => 0) = Ja at hJ0 ⊢
          generalize (up (urp (urp P z fun _ => none) (z + 1) fun _ => none) z 0 (some (z + 1))) = Pa at hsb hP0 ⊢
          generalize (ut (ut T z (56, 0)) (z + 1) (2, 16)) = Ta at hsb hT0 ⊢
          have hTr : Ta r = (15 + 20, 0) := by rw [hT0 r hrz]; exact hT
          have hTt : Ta tp = (2, 940) := by rw [hT0 tp htz]; exact ht
          have hPr : Pa r 0 = some tp := by rw [hP0 r hrz]; exact hP
          have loop : ∀ (k : Nat) (al w nu sp q : Int) (L : List Int) (I1 : HI), q + k = s.1 3 → p ≤ q → sp = q - p → (al = 0 ∨ al = 1) → 0 ≤ nu → (sp = 0 → nu = 0) → (sp = 1 → nu ≤ 200) → (sp = 2 → nu ≤ 2300) → nu ≤ 30000 → t_wd τ (s.1 3) small k (al, w, nu, sp, q) = Rn → SB I1 Pa Ta z (z + 1) L → (∀ a, a < z → I1 a = I a) → AS L → (sp ≤ 7 → L.length = sp) → (7 ≤ sp → L.length = 7) → cod L = w → (al = 1 → small = 1 → ∀ x ∈ L, 97 ≤ x ∧ x ≤ 122) → (small = 0 ∨ small = 1) → PW G mX12_go (rmD (d + 7) 4 60) (MZ G Q nX 4 60) 2 20 (ur I1 r (us (us (us (us ω 3 p) 5 p) 6 nu) 3 q)) Ja Pa Ta (z + 2) 221 [some (.ref r), some (iv (bt τ (s.1 3) p)), some (iv small), some (iv al), some (.ref z)] [] := by
            have nzr1 : r ≠ z + 1 := by omega
            have out : ∀ (al w nu sp q : Int) (L : List Int) (I1 : HI), q ≤ s.1 3 → p < q → sp = q - p → (al = 0 ∨ al = 1) → 0 ≤ nu → nu ≤ 30000 → (al, w, nu, sp, q) = Rn → SB I1 Pa Ta z (z + 1) L → (∀ a, a < z → I1 a = I a) → AS L → (sp ≤ 7 → L.length = sp) → (7 ≤ sp → L.length = 7) → cod L = w → (al = 1 → small = 1 → ∀ x ∈ L, 97 ≤ x ∧ x ≤ 122) → PW G mX12_go (rmD (d + 7) 4 60) (MZ G Q nX 4 60) 2 20 (ur I1 r (us (us (us (us ω 3 p) 5 p) 6 nu) 3 q)) Ja Pa Ta (z + 2) 352 [some (.ref r), some (iv (bt τ (s.1 3) p)), some (iv small), some (iv al), some (.ref z)] [] := by
              intro al w nu sp q L I1 qn pq hsp hal n0 n3 hR hsb hI1 hA hl1 hl2 hco hlet
              have hsb1 : SB (ur I1 r (us (us (us (us ω 3 p) 5 p) 6 nu) 3 q)) Pa Ta z (z + 1) L := by
                obtain ⟨y1, y2, y3, y4, y5, y6, y7⟩ := hsb
                exact ⟨y1, y2, y3, by rw [ur_nv (by omega)]; exact y4, by rw [ur_nv (by omega)]; exact y5, y6, fun j a b => by rw [ur_nv (by omega)]; exact y7 j a b⟩
              have hL16 : L.length < 16 := by
                by_cases c : sp ≤ 7
                · have := hl1 c; omega
                · have := hl2 (by omega); omega
              refine r_aload_n (pc := 352) dX12_go_352 rfl rfl ?_
              refine r_aload (pc := 353) dX12_go_353 rfl ?_
              refine r_callV0 (pc := 355) (C_toString (Q := er (some (.ref (z + 2))) (fun I' J' P' T' z' => z' = z + 4 ∧ FZ (z + 2) (ur I1 r (us (us (us (us ω 3 p) 5 p) 6 nu) 3 q)) Ja Pa Ta I' J' P' T' ∧ ST I' P' T' (z + 2) L)) (by omega) hsb1 (by omega) (by omega) hL16 hA (fun I' J' P' T' a b => er_i ⟨rfl, a, b⟩)) im_J6_toString q804 q802 hsb1.1 rfl dX12_go_355 (by show 2 + 2 ≤ 4; omega) (by show 20 + 20 ≤ 60; omega) rfl (k_er fun I3 J3 P3 T3 z3 ⟨hz3, hf3, hs3⟩ => ?_) (fun _ _ _ _ _ _ _ hx => no_x hx)
              subst hz3
              have f3 := hf3 r (by omega)
              rw [ur_s] at f3
              have hT3 : T3 r = (15 + 20, 0) := by rw [f3.2.2.2]; exact hTr
              show PW G mX12_go (rmD (d + 7) 4 60) (MZ G Q nX 4 60) (2+2) (20+20) I3 J3 P3 T3 (z + 4) 358 [some (.ref r), some (iv (bt τ (s.1 3) p)), some (iv small), some (iv al), some (.ref z)] [.ref (z + 2), .ref r]
              refine r_putr (pc := 358) (r := (some (z + 2))) (c := 15) (k := 8) (kz := 8) hT3 cok_15 (Nat.le_of_ble_eq_true rfl) q634 ⟨rfl, rfl⟩ (Or.inl rfl) rfl (by omega) rfl rfl rfl (fun _ _ _ => rfl) ⟨rfl, rfl⟩ dX12_go_358 ?_
              have g3 : I3 r 3 = q := by rw [f3.1, us_s]
              have g5 : I3 r 5 = p := by rw [f3.1]; simp (disch := omega) only [us_n, us_s]
              have kd : ∀ kv : Int, (0 ≤ kv ∧ kv ≤ 3) → ((al = 0 ∨ (if small = 0 then 3 else 7) < sp) ∧ kv = 1 ∨ (¬ (al = 0 ∨ (if small = 0 then 3 else 7) < sp) ∧ small ≠ 0 ∧ kv = 2) ∨ (¬ (al = 0 ∨ (if small = 0 then 3 else 7) < sp) ∧ small = 0 ∧ kv = 3)) → PW G mX12_go (rmD (d + 7) 4 60) (MZ G Q nX 4 60) (2+2) (20+20) I3 J3 (up P3 r 8 (some (z + 2))) T3 (z + 4) 401 [some (.ref r), some (iv (bt τ (s.1 3) p)), some (iv small), some (iv al), some (.ref z)] [iv kv, .ref r] := by
                intro kv hkr hkv
                refine r_puti (pc := 401) (c := 15) (k := 4) (kz := 4) hT3 cok_15 (Nat.le_of_ble_eq_true rfl) q628 ⟨rfl, rfl⟩ (Or.inl rfl) rfl (by omega) rfl rfl (by omega) (fun _ _ _ => rfl) ⟨rfl, rfl⟩ dX12_go_401 ?_
                refine r_return (pc := 404) rfl dX12_go_404 (Nat.le_of_ble_eq_true rfl) (Nat.le_of_ble_eq_true rfl) ?_
                have e4 : (g_nx τ s).1 4 = q := by rw [gn, gn2, ← hR]; simp (disch := omega) only [us_n, us_s]
                have lt2 : ∀ a, a < z → a < z + 2 := fun a q => by omega
                have s3 : ST (ui I3 r 4 kv) (up P3 r 8 (some (z + 2))) T3 (z + 2) L := by
                  obtain ⟨y1, y2, b3, y3, y4, y5⟩ := hs3
                  have nb : b3 ≠ r := fun c => by rw [c, hT3] at y4; exact absurd (congrArg Prod.fst y4) (show ¬ (15 + 20 : Nat) = 2 by decide)
                  exact ⟨y1, by rw [ui_nv (by omega)]; exact y2, b3, by rw [up_n (by omega)]; exact y3, y4, fun j a b => by rw [ui_nv nb]; exact y5 j a b⟩
                refine hQ _ _ _ _ (z + 4) (by omega) ⟨fun a qa qb => ⟨?_, ?_, ?_⟩, fun a qa => ?_, ?_, fun k qk => ?_, fun k qk => ?_⟩ ⟨⟨hT3, ?_, ?_, ?_, ?_, ?_, ?_, htr⟩, ?_⟩
                · rw [ui_nr qb, (hf3 a (by omega)).1, ur_n qb]; exact hI1 a qa
                · rw [(hf3 a (by omega)).2.1]; exact hJ0 a qa
                · rw [up_nr qb, (hf3 a (by omega)).2.2.1]; exact hP0 a qa
                · rw [(hf3 a (by omega)).2.2.2]; exact hT0 a qa
                · rw [f3.2.1]; exact hJ0 r hrz
                · have : up P3 r 8 (some (z + 2)) r k = P3 r k := by simp [up, qk]
                  rw [this, f3.2.2.1, hP0 r hrz]
                · rw [ui_nj (by omega), f3.1]
                  simp (disch := omega) only [us_n]
                  rw [hω]
                · have : up P3 r 8 (some (z + 2)) r 0 = P3 r 0 := by simp [up]
                  rw [this, f3.2.2.1]; exact hPr
                · rw [(hf3 tp (by omega)).2.2.2]; exact hTt
                · rw [ui_nr htr, (hf3 tp (by omega)).1, ur_n htr, hI1 tp htz]; exact hτ
                · rw [ui_nj (by omega), f3.1]; simp (disch := omega) only [us_n]; rw [h1]; exact (t_next_f (by omega)).symm
                · rw [ui_nj (by omega), f3.1]; simp (disch := omega) only [us_n]; rw [h2]; exact (t_next_f (by omega)).symm
                · rw [ui_nj (by omega), g3, e4]
                · unfold TK
                  rw [gn, gn2, ← hR]
                  simp (disch := omega) only [us_n, us_s]
                  have u4 : ui I3 r 4 kv r 4 = kv := ui_sv
                  have u5 : ui I3 r 4 kv r 5 = p := by rw [ui_nj (by omega)]; exact g5
                  have u6 : ui I3 r 4 kv r 6 = nu := by rw [ui_nj (by omega), f3.1]; simp (disch := omega) only [us_n, us_s]
                  rw [u4, u5, u6]
                  unfold t_kind
                  dsimp only
                  rcases hkv with ⟨a1, a2⟩ | ⟨a1, a2, a3⟩ | ⟨a1, a2, a3⟩
                  · rw [if_pos a1]
                    exact ⟨rfl, fun q => by omega, fun q => by omega, fun q => by omega, fun q => by omega, fun _ => Or.inl a2⟩
                  · rw [if_neg a1, if_neg a2]
                    rw [if_neg a2] at a1
                    have sp1 : L.length = sp := hl1 (by omega)
                    exact ⟨rfl, fun q => by omega, fun _ => ⟨a3, z + 2, L, up_s, s3, ⟨by omega, by omega, hlet (by omega) (by omega)⟩, hco⟩, fun q => by omega, fun q => by omega, fun q => by omega⟩
                  · rw [if_neg a1, if_pos a2]
                    exact ⟨rfl, fun q => by omega, fun q => by omega, fun _ => ⟨a3, rfl⟩, fun q => by omega, fun q => by omega⟩
              refine r_aload_n (pc := 361) dX12_go_361 rfl rfl ?_
              refine r_iload_n (pc := 362) dX12_go_362 rfl rfl ?_
              refine r_if_eq (pc := 363) 388 dX12_go_363 rfl (by omega) (fun h363 => ?_) (fun h363 => ?_)
              · refine r_iconst (pc := 388) dX12_go_388 ?_
                refine r_goto (pc := 389) 401 dX12_go_389 rfl ?_
                exact kd 1 (by omega) (Or.inl ⟨Or.inl h363, rfl⟩)
              refine r_aload_n (pc := 366) dX12_go_366 rfl rfl ?_
              refine r_geti (pc := 367) (c := 15) (k := 3) (kz := 3) hT3 cok_15 (Nat.le_of_ble_eq_true rfl) q621 ⟨rfl, rfl⟩ (Or.inl rfl) rfl (fun _ _ _ => rfl) dX12_go_367 (fun hr367 => ?_)
              rw [g3] at hr367 ⊢
              refine r_aload_n (pc := 370) dX12_go_370 rfl rfl ?_
              refine r_geti (pc := 371) (c := 15) (k := 5) (kz := 5) hT3 cok_15 (Nat.le_of_ble_eq_true rfl) q629 ⟨rfl, rfl⟩ (Or.inl rfl) rfl (fun _ _ _ => rfl) dX12_go_371 (fun hr371 => ?_)
              rw [g5] at hr371 ⊢
              refine r_isub (pc := 374) dX12_go_374 ?_
              refine r_iload_n (pc := 375) dX12_go_375 rfl rfl ?_
              have fin2 : ∀ lim : Int, lim = (if small = 0 then 3 else 7) → PW G mX12_go (rmD (d + 7) 4 60) (MZ G Q nX 4 60) (2+2) (20+20) I3 J3 (up P3 r 8 (some (z + 2))) T3 (z + 4) 385 [some (.ref r), some (iv (bt τ (s.1 3) p)), some (iv small), some (iv al), some (.ref z)] [iv lim, iv (q - p), .ref r] := by
                intro lim hlim
                have hl9 : lim = 3 ∨ lim = 7 := by by_cases c : small = 0; rw [if_pos c] at hlim; omega; rw [if_neg c] at hlim; omega
                refine r_icmp_le (pc := 385) 392 dX12_go_385 rfl (by omega) (by omega) (fun h385 => ?_) (fun h385 => ?_)
                · refine r_iload_n (pc := 392) dX12_go_392 rfl rfl ?_
                  refine r_if_eq (pc := 393) 400 dX12_go_393 rfl (by omega) (fun h393 => ?_) (fun h393 => ?_)
                  · refine r_iconst (pc := 400) dX12_go_400 ?_
                    exact kd 3 (by omega) (Or.inr (Or.inr ⟨fun c => by rcases c with c | c; exact h363 c; omega, h393, rfl⟩))
                  refine r_iconst (pc := 396) dX12_go_396 ?_
                  refine r_goto (pc := 397) 401 dX12_go_397 rfl ?_
                  exact kd 2 (by omega) (Or.inr (Or.inl ⟨fun c => by rcases c with c | c; exact h363 c; omega, h393, rfl⟩))
                refine r_iconst (pc := 388) dX12_go_388 ?_
                refine r_goto (pc := 389) 401 dX12_go_389 rfl ?_
                exact kd 1 (by omega) (Or.inl ⟨Or.inr (by omega), rfl⟩)
              refine r_if_eq (pc := 376) 384 dX12_go_376 rfl (by omega) (fun h376 => ?_) (fun h376 => ?_)
              · refine r_iconst (pc := 384) dX12_go_384 ?_
                exact fin2 3 (by rw [if_pos h376])
              refine r_bipush (pc := 379) dX12_go_379 (by decide +kernel) ?_
              refine r_goto (pc := 381) 385 dX12_go_381 rfl ?_
              exact fin2 7 (by rw [if_neg h376])
            intro k
            induction k with
            | zero =>
              intro al w nu sp q L I1 qk pq hsp hal n0 n1 n2 n3 n4 hR hsb hI1 hA hl1 hl2 hco hlet hsm2
              have hIt : I1 tp = τ := by rw [hI1 tp htz]; exact hτ
              have hb0 : bt τ (s.1 3) q = 0 := by unfold bt; rw [if_neg (by omega)]
              have nS : ¬ isS (bt τ (s.1 3) q) := by rw [hb0]; unfold isS; omega
              have nD : ¬ isD (bt τ (s.1 3) q) := by rw [hb0]; unfold isD; omega
              refine r_aload_n (pc := 221) dX12_go_221 rfl rfl ?_
              refine r_aload_n (pc := 222) dX12_go_222 rfl rfl ?_
              refine r_geti (pc := 223) (c := 15) (k := 3) (kz := 3) hTr cok_15 (Nat.le_of_ble_eq_true rfl) q621 ⟨rfl, rfl⟩ (Or.inl rfl) rfl (fun _ _ _ => rfl) dX12_go_223 (fun hr223 => ?_)
              try simp (disch := omega) only [ui_ur, ui_ur_n, ur_sv, ur_nv, ui_sv, ui_nv, ui_uis, us_s, us_n] at hr223 ⊢
              refine r_callP1 (pc := 226) (cb := 15) (C_byteAtE (tp := tp) hTr hPr hTt (by simp (disch := omega) only [ur_sv, us_n]; omega) (by omega) fe_i) im_X12_byteAt q673 q971 rfl q2470 q672 hTr dX12_go_226 (Nat.le_of_ble_eq_true rfl) (Nat.le_of_ble_eq_true rfl) rfl (k_fi ?_) (fun _ _ _ _ _ _ _ hx => no_x hx)
              simp (disch := omega) only [ur_n, ur_sv, us_n, hIt, h1]
              refine r_callS1 (pc := 229) (C_isLetter (by omega) fe_i) im_X12_isLetter q676 dX12_go_229 (Nat.le_of_ble_eq_true rfl) (Nat.le_of_ble_eq_true rfl) rfl (k_fi ?_) (fun _ _ _ _ _ _ _ hx => no_x hx)
              refine r_if_ne (pc := 232) 249 dX12_go_232 rfl bz_g (fun h232 => ?_) (fun h232 => ?_)
              · exact absurd (bz_ne.mp h232) nS
              refine r_aload_n (pc := 235) dX12_go_235 rfl rfl ?_
              refine r_aload_n (pc := 236) dX12_go_236 rfl rfl ?_
              refine r_geti (pc := 237) (c := 15) (k := 3) (kz := 3) hTr cok_15 (Nat.le_of_ble_eq_true rfl) q621 ⟨rfl, rfl⟩ (Or.inl rfl) rfl (fun _ _ _ => rfl) dX12_go_237 (fun hr237 => ?_)
              try simp (disch := omega) only [ui_ur, ui_ur_n, ur_sv, ur_nv, ui_sv, ui_nv, ui_uis, us_s, us_n] at hr237 ⊢
              refine r_callP1 (pc := 240) (cb := 15) (C_byteAtE (tp := tp) hTr hPr hTt (by simp (disch := omega) only [ur_sv, us_n]; omega) (by omega) fe_i) im_X12_byteAt q673 q971 rfl q2470 q672 hTr dX12_go_240 (Nat.le_of_ble_eq_true rfl) (Nat.le_of_ble_eq_true rfl) rfl (k_fi ?_) (fun _ _ _ _ _ _ _ hx => no_x hx)
              simp (disch := omega) only [ur_n, ur_sv, us_n, hIt, h1]
              refine r_callS1 (pc := 243) (C_isDigit (by omega) fe_i) im_X12_isDigit q679 dX12_go_243 (Nat.le_of_ble_eq_true rfl) (Nat.le_of_ble_eq_true rfl) rfl (k_fi ?_) (fun _ _ _ _ _ _ _ hx => no_x hx)
              refine r_if_eq (pc := 246) 352 dX12_go_246 rfl bz_g (fun h246 => ?_) (fun h246 => ?_)
              · refine out al w nu sp q L I1 (by omega) ?_ hsp hal n0 n4 hR hsb hI1 hA hl1 hl2 hco hlet
                by_cases c : p = q
                · subst c; omega
                · omega
              exact absurd (bz_ne.mp h246) nD
            | succ k ih =>
              intro al w nu sp q L I1 qk pq hsp hal n0 n1 n2 n3 n4 hR hsb hI1 hA hl1 hl2 hco hlet hsm2
              have hIt : I1 tp = τ := by rw [hI1 tp htz]; exact hτ
              have br2 := bt_r (τ := τ) (n := s.1 3) (p := q)
              have hpk2 : pk τ (s.1 3) q = bt τ (s.1 3) q := (bt_in (by omega)).symm
              unfold t_wd at hR
              rw [hpk2] at hR
              generalize hbb : bt τ (s.1 3) q = bb at br2 hR
              have hT4 : Ta z = (56, 0) := hsb.1
              have body : isS bb ∨ isD bb → PW G mX12_go (rmD (d + 7) 4 60) (MZ G Q nX 4 60) 2 20 (ur I1 r (us (us (us (us ω 3 p) 5 p) 6 nu) 3 q)) Ja Pa Ta (z + 2) 249 [some (.ref r), some (iv (bt τ (s.1 3) p)), some (iv small), some (iv al), some (.ref z)] [] := by
                intro hw2
                rw [if_pos hw2] at hR
                have bb48 : 48 ≤ bb ∧ bb ≤ 122 := by rcases hw2 with a | a <;> omega
                have tail : ∀ al2 : Int, al2 = bz (al ≠ 0 ∧ bz (isS bb) = small) → PW G mX12_go (rmD (d + 7) 4 60) (MZ G Q nX 4 60) 2 20 (ur I1 r (us (us (us (us ω 3 p) 5 p) 6 nu) 3 q)) Ja Pa Ta (z + 2) 273 [some (.ref r), some (iv (bt τ (s.1 3) p)), some (iv small), some (iv al), some (.ref z)] [iv al2] := by
                  intro al2 hal2
                  rw [← hal2] at hR
                  have hal3 : al2 = 0 ∨ al2 = 1 := by have := bz_r (p := al ≠ 0 ∧ bz (isS bb) = small); omega
                  have numb : ∀ (L2 : List Int) (I2 : HI), SB I2 Pa Ta z (z + 1) L2 → (∀ a, a < z → I2 a = I a) → AS L2 → (sp + 1 ≤ 7 → L2.length = sp + 1) → (7 ≤ sp + 1 → L2.length = 7) → cod L2 = (if sp < 7 then w * 256 + bb else w) → (al2 = 1 → small = 1 → ∀ x ∈ L2, 97 ≤ x ∧ x ≤ 122) → PW G mX12_go (rmD (d + 7) 4 60) (MZ G Q nX 4 60) 2 20 (ur I2 r (us (us (us (us ω 3 p) 5 p) 6 nu) 3 q)) Ja Pa Ta (z + 2) 303 [some (.ref r), some (iv (bt τ (s.1 3) p)), some (iv small), some (iv al2), some (.ref z)] [] := by
                    intro L2 I2 hsb2 hI2 hA2 hm1 hm2 hco2 hlet2
                    have hIt2 : I2 tp = τ := by rw [hI2 tp htz]; exact hτ
                    refine r_aload_n (pc := 303) dX12_go_303 rfl rfl ?_
                    refine r_geti (pc := 304) (c := 15) (k := 3) (kz := 3) hTr cok_15 (Nat.le_of_ble_eq_true rfl) q621 ⟨rfl, rfl⟩ (Or.inl rfl) rfl (fun _ _ _ => rfl) dX12_go_304 (fun hr304 => ?_)
                    try simp (disch := omega) only [ui_ur, ui_ur_n, ur_sv, ur_nv, ui_sv, ui_nv, ui_uis, us_s, us_n] at hr304 ⊢
                    refine r_aload_n (pc := 307) dX12_go_307 rfl rfl ?_
                    refine r_geti (pc := 308) (c := 15) (k := 5) (kz := 5) hTr cok_15 (Nat.le_of_ble_eq_true rfl) q629 ⟨rfl, rfl⟩ (Or.inl rfl) rfl (fun _ _ _ => rfl) dX12_go_308 (fun hr308 => ?_)
                    try simp (disch := omega) only [ui_ur, ui_ur_n, ur_sv, ur_nv, ui_sv, ui_nv, ui_uis, us_s, us_n] at hr308 ⊢
                    refine r_isub (pc := 311) dX12_go_311 ?_
                    refine r_iconst (pc := 312) dX12_go_312 ?_
                    refine r_icmp_ge (pc := 313) 339 dX12_go_313 rfl (by omega) (by omega) (fun h313 => ?_) (fun h313 => ?_)
                    · refine r_aload_n (pc := 339) dX12_go_339 rfl rfl ?_
                      refine r_dup (pc := 340) dX12_go_340 rfl ?_
                      refine r_geti (pc := 341) (c := 15) (k := 3) (kz := 3) hTr cok_15 (Nat.le_of_ble_eq_true rfl) q621 ⟨rfl, rfl⟩ (Or.inl rfl) rfl (fun _ _ _ => rfl) dX12_go_341 (fun hr341 => ?_)
                      try simp (disch := omega) only [ui_ur, ui_ur_n, ur_sv, ur_nv, ui_sv, ui_nv, ui_uis, us_s, us_n] at hr341 ⊢
                      refine r_iconst (pc := 344) dX12_go_344 ?_
                      refine r_iadd (pc := 345) dX12_go_345 ?_
                      refine r_puti (pc := 346) (c := 15) (k := 3) (kz := 3) hTr cok_15 (Nat.le_of_ble_eq_true rfl) q621 ⟨rfl, rfl⟩ (Or.inl rfl) rfl (by omega) rfl rfl (by omega) (fun _ _ _ => rfl) ⟨rfl, rfl⟩ dX12_go_346 ?_
                      try simp (disch := omega) only [ui_ur, ui_ur_n, ur_sv, ur_nv, ui_sv, ui_nv, ui_uis, us_s, us_n]
                      rw [us_us]
                      refine r_goto (pc := 349) 221 dX12_go_349 rfl ?_
                      refine ih al2 _ nu (sp + 1) (q + 1) L2 I2 (by omega) (by omega) (by omega) hal3 n0 (by omega) (by omega) (by omega) n4 ?_ hsb2 hI2 hA2 hm1 hm2 hco2 hlet2 hsm2
                      rw [if_neg (show ¬ sp < 3 by omega)] at hR
                      exact hR
                    refine r_aload_n (pc := 316) dX12_go_316 rfl rfl ?_
                    refine r_bipush (pc := 317) dX12_go_317 (by decide +kernel) ?_
                    refine r_aload_n (pc := 319) dX12_go_319 rfl rfl ?_
                    refine r_geti (pc := 320) (c := 15) (k := 6) (kz := 6) hTr cok_15 (Nat.le_of_ble_eq_true rfl) q630 ⟨rfl, rfl⟩ (Or.inl rfl) rfl (fun _ _ _ => rfl) dX12_go_320 (fun hr320 => ?_)
                    try simp (disch := omega) only [ui_ur, ui_ur_n, ur_sv, ur_nv, ui_sv, ui_nv, ui_uis, us_s, us_n] at hr320 ⊢
                    refine r_imul (pc := 323) dX12_go_323 ?_
                    refine r_aload_n (pc := 324) dX12_go_324 rfl rfl ?_
                    refine r_aload_n (pc := 325) dX12_go_325 rfl rfl ?_
                    refine r_geti (pc := 326) (c := 15) (k := 3) (kz := 3) hTr cok_15 (Nat.le_of_ble_eq_true rfl) q621 ⟨rfl, rfl⟩ (Or.inl rfl) rfl (fun _ _ _ => rfl) dX12_go_326 (fun hr326 => ?_)
                    try simp (disch := omega) only [ui_ur, ui_ur_n, ur_sv, ur_nv, ui_sv, ui_nv, ui_uis, us_s, us_n] at hr326 ⊢
                    refine r_callP1 (pc := 329) (cb := 15) (C_byteAtE (tp := tp) hTr hPr hTt (by simp (disch := omega) only [ur_sv, us_n]; omega) (by omega) fe_i) im_X12_byteAt q673 q971 rfl q2470 q672 hTr dX12_go_329 (Nat.le_of_ble_eq_true rfl) (Nat.le_of_ble_eq_true rfl) rfl (k_fi ?_) (fun _ _ _ _ _ _ _ hx => no_x hx)
                    simp (disch := omega) only [ur_n, ur_sv, us_n, hIt2, h1, hbb]
                    refine r_iadd (pc := 332) dX12_go_332 ?_
                    refine r_bipush (pc := 333) dX12_go_333 (by decide +kernel) ?_
                    refine r_isub (pc := 335) dX12_go_335 ?_
                    refine r_puti (pc := 336) (c := 15) (k := 6) (kz := 6) hTr cok_15 (Nat.le_of_ble_eq_true rfl) q630 ⟨rfl, rfl⟩ (Or.inl rfl) rfl (by omega) rfl rfl (by omega) (fun _ _ _ => rfl) ⟨rfl, rfl⟩ dX12_go_336 ?_
                    try simp (disch := omega) only [ui_ur, ui_ur_n, ur_sv, ur_nv, ui_sv, ui_nv, ui_uis, us_s, us_n]
                    refine r_aload_n (pc := 339) dX12_go_339 rfl rfl ?_
                    refine r_dup (pc := 340) dX12_go_340 rfl ?_
                    refine r_geti (pc := 341) (c := 15) (k := 3) (kz := 3) hTr cok_15 (Nat.le_of_ble_eq_true rfl) q621 ⟨rfl, rfl⟩ (Or.inl rfl) rfl (fun _ _ _ => rfl) dX12_go_341 (fun hr341 => ?_)
                    try simp (disch := omega) only [ui_ur, ui_ur_n, ur_sv, ur_nv, ui_sv, ui_nv, ui_uis, us_s, us_n] at hr341 ⊢
                    refine r_iconst (pc := 344) dX12_go_344 ?_
                    refine r_iadd (pc := 345) dX12_go_345 ?_
                    refine r_puti (pc := 346) (c := 15) (k := 3) (kz := 3) hTr cok_15 (Nat.le_of_ble_eq_true rfl) q621 ⟨rfl, rfl⟩ (Or.inl rfl) rfl (by omega) rfl rfl (by omega) (fun _ _ _ => rfl) ⟨rfl, rfl⟩ dX12_go_346 ?_
                    try simp (disch := omega) only [ui_ur, ui_ur_n, ur_sv, ur_nv, ui_sv, ui_nv, ui_uis, us_s, us_n]
                    refine r_goto (pc := 349) 221 dX12_go_349 rfl ?_
                    have eW : us (us (us (us (us (us ω 3 p) 5 p) 6 nu) 3 q) 6 (10 * nu + bb - 48)) 3 (q + 1) = us (us (us (us ω 3 p) 5 p) 6 (10 * nu + bb - 48)) 3 (q + 1) := by
                      funext x
                      simp only [us]
                      by_cases c1 : x = 3
                      · simp [c1]
                      · by_cases c2 : x = 6 <;> simp [c1, c2]
                    rw [eW]
                    refine ih al2 _ (10 * nu + bb - 48) (sp + 1) (q + 1) L2 I2 (by omega) (by omega) (by omega) hal3 (by omega) (by omega) (by omega) (by omega) (by omega) ?_ hsb2 hI2 hA2 hm1 hm2 hco2 hlet2 hsm2
                    rw [if_pos (show sp < 3 by omega)] at hR
                    exact hR
                  refine r_istore_n3 (pc := 273) (Nat.le_of_ble_eq_true rfl) dX12_go_273 rfl ?_
                  refine r_aload_n (pc := 274) dX12_go_274 rfl rfl ?_
                  refine r_geti (pc := 275) (c := 15) (k := 3) (kz := 3) hTr cok_15 (Nat.le_of_ble_eq_true rfl) q621 ⟨rfl, rfl⟩ (Or.inl rfl) rfl (fun _ _ _ => rfl) dX12_go_275 (fun hr275 => ?_)
                  try simp (disch := omega) only [ui_ur, ui_ur_n, ur_sv, ur_nv, ui_sv, ui_nv, ui_uis, us_s, us_n] at hr275 ⊢
                  refine r_aload_n (pc := 278) dX12_go_278 rfl rfl ?_
                  refine r_geti (pc := 279) (c := 15) (k := 5) (kz := 5) hTr cok_15 (Nat.le_of_ble_eq_true rfl) q629 ⟨rfl, rfl⟩ (Or.inl rfl) rfl (fun _ _ _ => rfl) dX12_go_279 (fun hr279 => ?_)
                  try simp (disch := omega) only [ui_ur, ui_ur_n, ur_sv, ur_nv, ui_sv, ui_nv, ui_uis, us_s, us_n] at hr279 ⊢
                  refine r_isub (pc := 282) dX12_go_282 ?_
                  refine r_bipush (pc := 283) dX12_go_283 (by decide +kernel) ?_
                  refine r_icmp_ge (pc := 285) 303 dX12_go_285 rfl (by omega) (by omega) (fun h285 => ?_) (fun h285 => ?_)
                  · refine numb L I1 hsb hI1 hA (fun c => by omega) (fun c => hl2 (by omega)) (by rw [if_neg (by omega)]; exact hco) (fun c1 c2 => hlet ?_ c2)
                    rcases hal with a | a
                    · rw [hal2, bz_f (fun c => c.1 a)] at c1; omega
                    · exact a
                  have hl7 := hl1 (by omega)
                  refine r_aload (pc := 288) dX12_go_288 rfl ?_
                  refine r_aload_n (pc := 290) dX12_go_290 rfl rfl ?_
                  refine r_aload_n (pc := 291) dX12_go_291 rfl rfl ?_
                  refine r_geti (pc := 292) (c := 15) (k := 3) (kz := 3) hTr cok_15 (Nat.le_of_ble_eq_true rfl) q621 ⟨rfl, rfl⟩ (Or.inl rfl) rfl (fun _ _ _ => rfl) dX12_go_292 (fun hr292 => ?_)
                  try simp (disch := omega) only [ui_ur, ui_ur_n, ur_sv, ur_nv, ui_sv, ui_nv, ui_uis, us_s, us_n] at hr292 ⊢
                  refine r_callP1 (pc := 295) (cb := 15) (C_byteAtE (tp := tp) hTr hPr hTt (by simp (disch := omega) only [ur_sv, us_n]; omega) (by omega) fe_i) im_X12_byteAt q673 q971 rfl q2470 q672 hTr dX12_go_295 (Nat.le_of_ble_eq_true rfl) (Nat.le_of_ble_eq_true rfl) rfl (k_fi ?_) (fun _ _ _ _ _ _ _ hx => no_x hx)
                  simp (disch := omega) only [ur_n, ur_sv, us_n, hIt, h1, hbb]
                  refine r_i2c (pc := 298) dX12_go_298  ?_
                  rw [show bb % 65536 = bb by omega]
                  have hsb1 : SB (ur I1 r (us (us (us (us ω 3 p) 5 p) 6 nu) 3 q)) Pa Ta z (z + 1) L := by
                    obtain ⟨y1, y2, y3, y4, y5, y6, y7⟩ := hsb
                    exact ⟨y1, y2, y3, by rw [ur_nv (by omega)]; exact y4, by rw [ur_nv (by omega)]; exact y5, y6, fun j a b => by rw [ur_nv (by omega)]; exact y7 j a b⟩
                  refine r_callV1 (pc := 299) (C_sbC hsb1 (by omega) (by omega) (by omega) (by omega) fe_i) im_J6_append q715 q713 hT4 rfl dX12_go_299 (Nat.le_of_ble_eq_true rfl) (Nat.le_of_ble_eq_true rfl) rfl (k_fr ?_) (fun _ _ _ _ _ _ _ hx => no_x hx)
                  rw [ui_ur_n (by omega), ui_ur_n (by omega)]
                  refine r_pop (pc := 302) dX12_go_302 rfl ?_
                  refine numb (L ++ [bb]) _ (hsb.app (by omega)) (fun a qa => by rw [ui_nr (by omega), ui_nr (by omega)]; exact hI1 a qa) (hA.app (AS.one (by omega))) (fun c => by rw [List.length_append]; simp; omega) (fun c => by rw [List.length_append]; simp; omega) (by rw [cod_app, if_pos (by omega), hco]) (fun c1 c2 x hx => ?_)
                  have hcc := bz_1.mp (hal2.symm.trans c1)
                  rcases List.mem_append.mp hx with hx | hx
                  · exact hlet (by omega) c2 x hx
                  · rw [List.mem_singleton.mp hx]
                    exact bz_1.mp (hcc.2.trans c2)
                refine r_iload_n (pc := 249) dX12_go_249 rfl rfl ?_
                refine r_if_eq (pc := 250) 272 dX12_go_250 rfl (by omega) (fun h250 => ?_) (fun h250 => ?_)
                · refine r_iconst (pc := 272) dX12_go_272 ?_
                  exact tail 0 (bz_f (fun c => c.1 h250)).symm
                refine r_aload_n (pc := 253) dX12_go_253 rfl rfl ?_
                refine r_aload_n (pc := 254) dX12_go_254 rfl rfl ?_
                refine r_geti (pc := 255) (c := 15) (k := 3) (kz := 3) hTr cok_15 (Nat.le_of_ble_eq_true rfl) q621 ⟨rfl, rfl⟩ (Or.inl rfl) rfl (fun _ _ _ => rfl) dX12_go_255 (fun hr255 => ?_)
                try simp (disch := omega) only [ui_ur, ui_ur_n, ur_sv, ur_nv, ui_sv, ui_nv, ui_uis, us_s, us_n] at hr255 ⊢
                refine r_callP1 (pc := 258) (cb := 15) (C_byteAtE (tp := tp) hTr hPr hTt (by simp (disch := omega) only [ur_sv, us_n]; omega) (by omega) fe_i) im_X12_byteAt q673 q971 rfl q2470 q672 hTr dX12_go_258 (Nat.le_of_ble_eq_true rfl) (Nat.le_of_ble_eq_true rfl) rfl (k_fi ?_) (fun _ _ _ _ _ _ _ hx => no_x hx)
                simp (disch := omega) only [ur_n, ur_sv, us_n, hIt, h1, hbb]
                refine r_callS1 (pc := 261) (C_isLetter (by omega) fe_i) im_X12_isLetter q676 dX12_go_261 (Nat.le_of_ble_eq_true rfl) (Nat.le_of_ble_eq_true rfl) rfl (k_fi ?_) (fun _ _ _ _ _ _ _ hx => no_x hx)
                refine r_iload_n (pc := 264) dX12_go_264 rfl rfl ?_
                refine r_icmp_ne (pc := 265) 272 dX12_go_265 rfl bz_g (by omega) (fun h265 => ?_) (fun h265 => ?_)
                · refine r_iconst (pc := 272) dX12_go_272 ?_
                  exact tail 0 (bz_f (fun c => h265 c.2)).symm
                refine r_iconst (pc := 268) dX12_go_268 ?_
                refine r_goto (pc := 269) 273 dX12_go_269 rfl ?_
                exact tail 1 (bz_t ⟨h250, h265⟩).symm
              refine r_aload_n (pc := 221) dX12_go_221 rfl rfl ?_
              refine r_aload_n (pc := 222) dX12_go_222 rfl rfl ?_
              refine r_geti (pc := 223) (c := 15) (k := 3) (kz := 3) hTr cok_15 (Nat.le_of_ble_eq_true rfl) q621 ⟨rfl, rfl⟩ (Or.inl rfl) rfl (fun _ _ _ => rfl) dX12_go_223 (fun hr223 => ?_)
              try simp (disch := omega) only [ui_ur, ui_ur_n, ur_sv, ur_nv, ui_sv, ui_nv, ui_uis, us_s, us_n] at hr223 ⊢
              refine r_callP1 (pc := 226) (cb := 15) (C_byteAtE (tp := tp) hTr hPr hTt (by simp (disch := omega) only [ur_sv, us_n]; omega) (by omega) fe_i) im_X12_byteAt q673 q971 rfl q2470 q672 hTr dX12_go_226 (Nat.le_of_ble_eq_true rfl) (Nat.le_of_ble_eq_true rfl) rfl (k_fi ?_) (fun _ _ _ _ _ _ _ hx => no_x hx)
              simp (disch := omega) only [ur_n, ur_sv, us_n, hIt, h1, hbb]
              refine r_callS1 (pc := 229) (C_isLetter (by omega) fe_i) im_X12_isLetter q676 dX12_go_229 (Nat.le_of_ble_eq_true rfl) (Nat.le_of_ble_eq_true rfl) rfl (k_fi ?_) (fun _ _ _ _ _ _ _ hx => no_x hx)
              refine r_if_ne (pc := 232) 249 dX12_go_232 rfl bz_g (fun h232 => ?_) (fun h232 => ?_)
              · exact body (Or.inl (bz_ne.mp h232))
              refine r_aload_n (pc := 235) dX12_go_235 rfl rfl ?_
              refine r_aload_n (pc := 236) dX12_go_236 rfl rfl ?_
              refine r_geti (pc := 237) (c := 15) (k := 3) (kz := 3) hTr cok_15 (Nat.le_of_ble_eq_true rfl) q621 ⟨rfl, rfl⟩ (Or.inl rfl) rfl (fun _ _ _ => rfl) dX12_go_237 (fun hr237 => ?_)
              try simp (disch := omega) only [ui_ur, ui_ur_n, ur_sv, ur_nv, ui_sv, ui_nv, ui_uis, us_s, us_n] at hr237 ⊢
              refine r_callP1 (pc := 240) (cb := 15) (C_byteAtE (tp := tp) hTr hPr hTt (by simp (disch := omega) only [ur_sv, us_n]; omega) (by omega) fe_i) im_X12_byteAt q673 q971 rfl q2470 q672 hTr dX12_go_240 (Nat.le_of_ble_eq_true rfl) (Nat.le_of_ble_eq_true rfl) rfl (k_fi ?_) (fun _ _ _ _ _ _ _ hx => no_x hx)
              simp (disch := omega) only [ur_n, ur_sv, us_n, hIt, h1, hbb]
              refine r_callS1 (pc := 243) (C_isDigit (by omega) fe_i) im_X12_isDigit q679 dX12_go_243 (Nat.le_of_ble_eq_true rfl) (Nat.le_of_ble_eq_true rfl) rfl (k_fi ?_) (fun _ _ _ _ _ _ _ hx => no_x hx)
              refine r_if_eq (pc := 246) 352 dX12_go_246 rfl bz_g (fun h246 => ?_) (fun h246 => ?_)
              · rw [if_neg (fun c => by rcases c with c | c; exact bz_0.mp h232 c; exact bz_0.mp h246 c)] at hR
                refine out al w nu sp q L I1 (by omega) ?_ hsp hal n0 n4 hR hsb hI1 hA hl1 hl2 hco hlet
                by_cases c : p = q
                · subst c
                  rcases hw with a | a
                  · rw [hpk, hbb] at a; exact absurd a (bz_0.mp h232)
                  · rw [hpk, hbb] at a; exact absurd a (bz_0.mp h246)
                · omega
              exact body (Or.inr (bz_ne.mp h246))
          have fin := loop (s.1 3 - p).toNat 1 0 0 0 p [] Ia (by omega) (by omega) (by omega) (Or.inr rfl) (by omega) (fun _ => rfl) (by omega) (by omega) (by omega) hRn2 hsb hI0 AS.nil (fun _ => rfl) (by omega) rfl (fun _ _ x hx => nomatch hx) (by omega)
          have e5 : us (us (us (us ω 3 p) 5 p) 6 0) 3 p = us (us (us ω 3 p) 5 p) 6 0 := us_id (by rw [us_n (by omega), us_n (by omega), us_s])
          rw [e5] at fin
          exact fin
        refine r_if_ne (pc := 124) 200 dX12_go_124 rfl bz_g (fun h124 => ?_) (fun h124 => ?_)
        · exact word (Or.inl (by rw [hpk]; exact bz_ne.mp h124))
        refine r_iload_n (pc := 127) dX12_go_127 rfl rfl ?_
        refine r_callS1 (pc := 128) (C_isDigit (by omega) fe_i) im_X12_isDigit q679 dX12_go_128 (Nat.le_of_ble_eq_true rfl) (Nat.le_of_ble_eq_true rfl) rfl (k_fi ?_) (fun _ _ _ _ _ _ _ hx => no_x hx)
        refine r_if_ne (pc := 131) 200 dX12_go_131 rfl bz_g (fun h131 => ?_) (fun h131 => ?_)
        · exact word (Or.inr (by rw [hpk]; exact bz_ne.mp h131))
        have nS := bz_0.mp h124
        have nD := bz_0.mp h131
        have gn2 : t_next1 τ s.1 s.2.1 p = (us (us (us (us (us (us s.1 4 p) 12 p) 13 0) 11 (t_sign (bt τ (s.1 3) p))) 14 (bt τ (s.1 3) p)) 4 (p + 1), s.2.1) := by
          unfold t_next1
          dsimp only
          rw [if_neg hnl, if_neg (by omega), if_pos (by rw [hpk]; exact ⟨nS, nD⟩), hpk]
        generalize bt τ (s.1 3) p = c at br gn2 nS nD ⊢
        have sgn : ∀ kd : Int, (0 ≤ kd ∧ kd ≤ 6) → (c = 59 ∧ kd = 4 ∨ (c ≠ 59 ∧ (c = 40 ∨ c = 41 ∨ (60 ≤ c ∧ c ≤ 62)) ∧ kd = 6) ∨ (c ≠ 59 ∧ c ≠ 40 ∧ c ≠ 41 ∧ ¬ (60 ≤ c ∧ c ≤ 62) ∧ kd = 1)) → PW G mX12_go (rmD (d + 7) 4 60) (MZ G Q nX 4 60) 0 0 (ur I r (us (us ω 3 p) 5 p)) J P T z 181 [some (.ref r), some (iv c), none, none, none] [iv kd, .ref r] := by
          intro kd hkr hkd
          refine r_puti (pc := 181) (c := 15) (k := 4) (kz := 4) hT cok_15 (Nat.le_of_ble_eq_true rfl) q628 ⟨rfl, rfl⟩ (Or.inl rfl) rfl (by omega) rfl rfl (by omega) (fun _ _ _ => rfl) ⟨rfl, rfl⟩ dX12_go_181 ?_
          try simp (disch := omega) only [ui_ur, ui_ur_n, ur_sv, ur_nv, ui_sv, ui_nv, ui_uis, us_s, us_n]
          refine r_aload_n (pc := 184) dX12_go_184 rfl rfl ?_
          refine r_iload_n (pc := 185) dX12_go_185 rfl rfl ?_
          refine r_puti (pc := 186) (c := 15) (k := 7) (kz := 7) hT cok_15 (Nat.le_of_ble_eq_true rfl) q631 ⟨rfl, rfl⟩ (Or.inl rfl) rfl (by omega) rfl rfl (by omega) (fun _ _ _ => rfl) ⟨rfl, rfl⟩ dX12_go_186 ?_
          try simp (disch := omega) only [ui_ur, ui_ur_n, ur_sv, ur_nv, ui_sv, ui_nv, ui_uis, us_s, us_n]
          refine r_aload_n (pc := 189) dX12_go_189 rfl rfl ?_
          refine r_dup (pc := 190) dX12_go_190 rfl ?_
          refine r_geti (pc := 191) (c := 15) (k := 3) (kz := 3) hT cok_15 (Nat.le_of_ble_eq_true rfl) q621 ⟨rfl, rfl⟩ (Or.inl rfl) rfl (fun _ _ _ => rfl) dX12_go_191 (fun hr191 => ?_)
          try simp (disch := omega) only [ui_ur, ui_ur_n, ur_sv, ur_nv, ui_sv, ui_nv, ui_uis, us_s, us_n] at hr191 ⊢
          refine r_iconst (pc := 194) dX12_go_194 ?_
          refine r_iadd (pc := 195) dX12_go_195 ?_
          refine r_puti (pc := 196) (c := 15) (k := 3) (kz := 3) hT cok_15 (Nat.le_of_ble_eq_true rfl) q621 ⟨rfl, rfl⟩ (Or.inl rfl) rfl (by omega) rfl rfl (by omega) (fun _ _ _ => rfl) ⟨rfl, rfl⟩ dX12_go_196 ?_
          try simp (disch := omega) only [ui_ur, ui_ur_n, ur_sv, ur_nv, ui_sv, ui_nv, ui_uis, us_s, us_n]
          refine r_return (pc := 199) rfl dX12_go_199 (Nat.le_of_ble_eq_true rfl) (Nat.le_of_ble_eq_true rfl) ?_
          obtain ⟨b1, b2⟩ := base (us (us (us (us (us ω 3 p) 5 p) 4 kd) 7 c) 3 (p + 1)) (by simp (disch := omega) only [us_n, us_s]; exact h1) (by simp (disch := omega) only [us_n, us_s]; exact h2) (by rw [gn, gn2]; simp (disch := omega) only [us_n, us_s]) (fun k q => by simp (disch := omega) only [us_n])
          refine hQ _ _ _ _ z (Nat.le_refl _) b2 ⟨b1, ?_⟩
          unfold TK
          rw [gn, gn2]
          simp (disch := omega) only [ur_sv, us_n, us_s]
          unfold t_sign
          refine ⟨trivial, ?_, ?_, ?_, ?_, ?_⟩
          · intro q; split at q <;> omega
          · intro q; split at q <;> omega
          · intro q; split at q <;> omega
          · intro q
            split at q
            · rcases hkd with a | a | a
              · exact Or.inl ⟨a.1, a.2⟩
              · exact Or.inr ⟨a.1, a.2.2, trivial⟩
              · omega
            · omega
          · intro q
            split at q
            · omega
            · rcases hkd with a | a | a
              · omega
              · omega
              · exact Or.inl a.2.2.2.2
        refine r_aload_n (pc := 134) dX12_go_134 rfl rfl ?_
        refine r_iload_n (pc := 135) dX12_go_135 rfl rfl ?_
        refine r_bipush (pc := 136) dX12_go_136 (by decide +kernel) ?_
        refine r_icmp_ne (pc := 138) 145 dX12_go_138 rfl (by omega) (by omega) (fun h138 => ?_) (fun h138 => ?_)
        · refine r_iload_n (pc := 145) dX12_go_145 rfl rfl ?_
          refine r_bipush (pc := 146) dX12_go_146 (by decide +kernel) ?_
          refine r_icmp_eq (pc := 148) 175 dX12_go_148 rfl (by omega) (by omega) (fun h148 => ?_) (fun h148 => ?_)
          · refine r_bipush (pc := 175) dX12_go_175 (by decide +kernel) ?_
            refine r_goto (pc := 177) 181 dX12_go_177 rfl ?_
            exact sgn 6 (by omega) (Or.inr (Or.inl ⟨h138, by omega, rfl⟩))
          refine r_iload_n (pc := 151) dX12_go_151 rfl rfl ?_
          refine r_bipush (pc := 152) dX12_go_152 (by decide +kernel) ?_
          refine r_icmp_eq (pc := 154) 175 dX12_go_154 rfl (by omega) (by omega) (fun h154 => ?_) (fun h154 => ?_)
          · refine r_bipush (pc := 175) dX12_go_175 (by decide +kernel) ?_
            refine r_goto (pc := 177) 181 dX12_go_177 rfl ?_
            exact sgn 6 (by omega) (Or.inr (Or.inl ⟨h138, by omega, rfl⟩))
          refine r_iload_n (pc := 157) dX12_go_157 rfl rfl ?_
          refine r_bipush (pc := 158) dX12_go_158 (by decide +kernel) ?_
          refine r_icmp_eq (pc := 160) 175 dX12_go_160 rfl (by omega) (by omega) (fun h160 => ?_) (fun h160 => ?_)
          · refine r_bipush (pc := 175) dX12_go_175 (by decide +kernel) ?_
            refine r_goto (pc := 177) 181 dX12_go_177 rfl ?_
            exact sgn 6 (by omega) (Or.inr (Or.inl ⟨h138, by omega, rfl⟩))
          refine r_iload_n (pc := 163) dX12_go_163 rfl rfl ?_
          refine r_bipush (pc := 164) dX12_go_164 (by decide +kernel) ?_
          refine r_icmp_eq (pc := 166) 175 dX12_go_166 rfl (by omega) (by omega) (fun h166 => ?_) (fun h166 => ?_)
          · refine r_bipush (pc := 175) dX12_go_175 (by decide +kernel) ?_
            refine r_goto (pc := 177) 181 dX12_go_177 rfl ?_
            exact sgn 6 (by omega) (Or.inr (Or.inl ⟨h138, by omega, rfl⟩))
          refine r_iload_n (pc := 169) dX12_go_169 rfl rfl ?_
          refine r_bipush (pc := 170) dX12_go_170 (by decide +kernel) ?_
          refine r_icmp_ne (pc := 172) 180 dX12_go_172 rfl (by omega) (by omega) (fun h172 => ?_) (fun h172 => ?_)
          · refine r_iconst (pc := 180) dX12_go_180 ?_
            exact sgn 1 (by omega) (Or.inr (Or.inr ⟨h138, by omega, by omega, by omega, rfl⟩))
          refine r_bipush (pc := 175) dX12_go_175 (by decide +kernel) ?_
          refine r_goto (pc := 177) 181 dX12_go_177 rfl ?_
          exact sgn 6 (by omega) (Or.inr (Or.inl ⟨h138, by omega, rfl⟩))
        refine r_iconst (pc := 141) dX12_go_141 ?_
        refine r_goto (pc := 142) 181 dX12_go_142 rfl ?_
        exact sgn 4 (by omega) (Or.inl ⟨h138, rfl⟩)
      refine r_aload_n (pc := 105) dX12_go_105 rfl rfl ?_
      refine r_iconst (pc := 106) dX12_go_106 ?_
      refine r_puti (pc := 107) (c := 15) (k := 4) (kz := 4) hT cok_15 (Nat.le_of_ble_eq_true rfl) q628 ⟨rfl, rfl⟩ (Or.inl rfl) rfl (by omega) rfl rfl (by omega) (fun _ _ _ => rfl) ⟨rfl, rfl⟩ dX12_go_107 ?_
      try simp (disch := omega) only [ui_ur, ui_ur_n, ur_sv, ur_nv, ui_sv, ui_nv, ui_uis, us_s, us_n]
      refine r_return (pc := 110) rfl dX12_go_110 (Nat.le_of_ble_eq_true rfl) (Nat.le_of_ble_eq_true rfl) ?_
      have gn2 : t_next1 τ s.1 s.2.1 p = (us (us (us (us s.1 4 p) 12 p) 13 0) 11 0, s.2.1) := by
        unfold t_next1
        dsimp only
        rw [if_neg hnl, if_pos (by unfold pk; rw [if_neg (by omega)]; omega)]
      obtain ⟨b1, b2⟩ := base (us (us (us ω 3 p) 5 p) 4 0) (by simp (disch := omega) only [us_n, us_s]; exact h1) (by simp (disch := omega) only [us_n, us_s]; exact h2) (by rw [gn, gn2]; simp (disch := omega) only [us_n, us_s]) (fun k q => by simp (disch := omega) only [us_n])
      refine hQ _ _ _ _ z (Nat.le_refl _) b2 ⟨b1, ?_⟩
      unfold TK
      rw [gn, gn2]
      simp (disch := omega) only [ur_sv, us_n, us_s]
      exact ⟨trivial, fun _ => trivial, fun q => by omega, fun q => by omega, fun q => by omega, fun q => by omega⟩
    refine r_icmp_le (pc := 66) 94 dX12_go_66 rfl (by omega) (by omega) (fun h66 => ?_) (fun h66 => ?_)
    · exact stop (by omega)
    refine r_aload_n (pc := 69) dX12_go_69 rfl rfl ?_
    refine r_geti (pc := 70) (c := 15) (k := 5) (kz := 5) hT cok_15 (Nat.le_of_ble_eq_true rfl) q629 ⟨rfl, rfl⟩ (Or.inl rfl) rfl (fun _ _ _ => rfl) dX12_go_70 (fun hr70 => ?_)
    try simp (disch := omega) only [ui_ur, ui_ur_n, ur_sv, ur_nv, ui_sv, ui_nv, ui_uis, us_s, us_n] at hr70 ⊢
    refine r_aload_n (pc := 73) dX12_go_73 rfl rfl ?_
    refine r_geti (pc := 74) (c := 15) (k := 2) (kz := 2) hT cok_15 (Nat.le_of_ble_eq_true rfl) q620 ⟨rfl, rfl⟩ (Or.inl rfl) rfl (fun _ _ _ => rfl) dX12_go_74 (fun hr74 => ?_)
    try simp (disch := omega) only [ui_ur, ui_ur_n, ur_sv, ur_nv, ui_sv, ui_nv, ui_uis, us_s, us_n] at hr74 ⊢
    rw [h2] at hr74 ⊢
    refine r_icmp_lt (pc := 77) 94 dX12_go_77 rfl (by omega) (by omega) (fun h77 => ?_) (fun h77 => ?_)
    · exact stop (by omega)
    refine r_aload_n (pc := 80) dX12_go_80 rfl rfl ?_
    refine r_aload_n (pc := 81) dX12_go_81 rfl rfl ?_
    refine r_geti (pc := 82) (c := 15) (k := 2) (kz := 2) hT cok_15 (Nat.le_of_ble_eq_true rfl) q620 ⟨rfl, rfl⟩ (Or.inl rfl) rfl (fun _ _ _ => rfl) dX12_go_82 (fun hr82 => ?_)
    try simp (disch := omega) only [ui_ur, ui_ur_n, ur_sv, ur_nv, ui_sv, ui_nv, ui_uis, us_s, us_n] at hr82 ⊢
    rw [h2] at hr82 ⊢
    refine r_puti (pc := 85) (c := 15) (k := 5) (kz := 5) hT cok_15 (Nat.le_of_ble_eq_true rfl) q629 ⟨rfl, rfl⟩ (Or.inl rfl) rfl (by omega) rfl rfl (by omega) (fun _ _ _ => rfl) ⟨rfl, rfl⟩ dX12_go_85 ?_
    try simp (disch := omega) only [ui_ur, ui_ur_n, ur_sv, ur_nv, ui_sv, ui_nv, ui_uis, us_s, us_n]
    refine r_aload_n (pc := 88) dX12_go_88 rfl rfl ?_
    refine r_iconst (pc := 89) dX12_go_89 ?_
    refine r_puti (pc := 90) (c := 15) (k := 4) (kz := 4) hT cok_15 (Nat.le_of_ble_eq_true rfl) q628 ⟨rfl, rfl⟩ (Or.inl rfl) rfl (by omega) rfl rfl (by omega) (fun _ _ _ => rfl) ⟨rfl, rfl⟩ dX12_go_90 ?_
    try simp (disch := omega) only [ui_ur, ui_ur_n, ur_sv, ur_nv, ui_sv, ui_nv, ui_uis, us_s, us_n]
    refine r_return (pc := 93) rfl dX12_go_93 (Nat.le_of_ble_eq_true rfl) (Nat.le_of_ble_eq_true rfl) ?_
    have gn2 : t_next1 τ s.1 s.2.1 p = (us (us (us (us (us s.1 4 p) 12 p) 13 0) 12 (s.1 5)) 11 4, s.2.1) := by
      unfold t_next1
      dsimp only
      rw [if_pos (by omega)]
    obtain ⟨b1, b2⟩ := base (us (us (us (us ω 3 p) 5 p) 5 (s.1 5)) 4 5) (by simp (disch := omega) only [us_n, us_s]; exact h1) (by simp (disch := omega) only [us_n, us_s]; exact h2) (by rw [gn, gn2]; simp (disch := omega) only [us_n, us_s]) (fun k q => by simp (disch := omega) only [us_n])
    refine hQ _ _ _ _ z (Nat.le_refl _) b2 ⟨b1, ?_⟩
    unfold TK
    rw [gn, gn2]
    simp (disch := omega) only [ur_sv, us_n, us_s]
    exact ⟨trivial, fun q => by omega, fun q => by omega, fun q => by omega, fun q => by omega, fun _ => Or.inr trivial⟩
  obtain ⟨ps, hps⟩ : ∃ ps, ps = t_skip τ (s.1 3) (s.1 3 - s.1 4).toNat (s.1 4) := ⟨_, rfl⟩
  have skip : ∀ (k : Nat) (p : Int), s.1 4 ≤ p → p + k = s.1 3 → t_skip τ (s.1 3) k p = ps → PW G mX12_go (rmD (d + 7) 4 60) (MZ G Q nX 4 60) 0 0 (ur I r (us ω 3 p)) J P T z 0 [some (.ref r), none, none, none, none] [] := by
    intro k
    induction k with
    | zero =>
      intro p p0 pk9 he
      refine r_aload_n (pc := 0) dX12_go_0 rfl rfl ?_
      refine r_geti (pc := 1) (c := 15) (k := 3) (kz := 3) hT cok_15 (Nat.le_of_ble_eq_true rfl) q621 ⟨rfl, rfl⟩ (Or.inl rfl) rfl (fun _ _ _ => rfl) dX12_go_1 (fun hr1 => ?_)
      try simp (disch := omega) only [ui_ur, ui_ur_n, ur_sv, ur_nv, ui_sv, ui_nv, ui_uis, us_s, us_n] at hr1 ⊢
      refine r_aload_n (pc := 4) dX12_go_4 rfl rfl ?_
      refine r_geti (pc := 5) (c := 15) (k := 1) (kz := 1) hT cok_15 (Nat.le_of_ble_eq_true rfl) q619 ⟨rfl, rfl⟩ (Or.inl rfl) rfl (fun _ _ _ => rfl) dX12_go_5 (fun hr5 => ?_)
      try simp (disch := omega) only [ui_ur, ui_ur_n, ur_sv, ur_nv, ui_sv, ui_nv, ui_uis, us_s, us_n] at hr5 ⊢
      rw [h1] at hr5 ⊢
      refine r_icmp_ge (pc := 8) 50 dX12_go_8 rfl (by omega) (by omega) (fun h8 => ?_) (fun h8 => ?_)
      · exact main p ((show p = ps from he).trans hps)
      omega
    | succ k ih =>
      intro p p0 pk9 he
      have hpk : pk τ (s.1 3) p = bt τ (s.1 3) p := (bt_in (by omega)).symm
      have br := bt_r (τ := τ) (n := s.1 3) (p := p)
      unfold t_skip at he
      refine r_aload_n (pc := 0) dX12_go_0 rfl rfl ?_
      refine r_geti (pc := 1) (c := 15) (k := 3) (kz := 3) hT cok_15 (Nat.le_of_ble_eq_true rfl) q621 ⟨rfl, rfl⟩ (Or.inl rfl) rfl (fun _ _ _ => rfl) dX12_go_1 (fun hr1 => ?_)
      try simp (disch := omega) only [ui_ur, ui_ur_n, ur_sv, ur_nv, ui_sv, ui_nv, ui_uis, us_s, us_n] at hr1 ⊢
      refine r_aload_n (pc := 4) dX12_go_4 rfl rfl ?_
      refine r_geti (pc := 5) (c := 15) (k := 1) (kz := 1) hT cok_15 (Nat.le_of_ble_eq_true rfl) q619 ⟨rfl, rfl⟩ (Or.inl rfl) rfl (fun _ _ _ => rfl) dX12_go_5 (fun hr5 => ?_)
      try simp (disch := omega) only [ui_ur, ui_ur_n, ur_sv, ur_nv, ui_sv, ui_nv, ui_uis, us_s, us_n] at hr5 ⊢
      rw [h1] at hr5 ⊢
      refine r_icmp_ge (pc := 8) 50 dX12_go_8 rfl (by omega) (by omega) (fun h8 => ?_) (fun h8 => ?_)
      · omega
      have inc : (pk τ (s.1 3) p = 32 ∨ pk τ (s.1 3) p = 10) → PW G mX12_go (rmD (d + 7) 4 60) (MZ G Q nX 4 60) 0 0 (ur I r (us ω 3 p)) J P T z 37 [some (.ref r), none, none, none, none] [] := by
        intro hc
        rw [if_pos hc] at he
        refine r_aload_n (pc := 37) dX12_go_37 rfl rfl ?_
        refine r_dup (pc := 38) dX12_go_38 rfl ?_
        refine r_geti (pc := 39) (c := 15) (k := 3) (kz := 3) hT cok_15 (Nat.le_of_ble_eq_true rfl) q621 ⟨rfl, rfl⟩ (Or.inl rfl) rfl (fun _ _ _ => rfl) dX12_go_39 (fun hr39 => ?_)
        try simp (disch := omega) only [ui_ur, ui_ur_n, ur_sv, ur_nv, ui_sv, ui_nv, ui_uis, us_s, us_n] at hr39 ⊢
        refine r_iconst (pc := 42) dX12_go_42 ?_
        refine r_iadd (pc := 43) dX12_go_43 ?_
        refine r_puti (pc := 44) (c := 15) (k := 3) (kz := 3) hT cok_15 (Nat.le_of_ble_eq_true rfl) q621 ⟨rfl, rfl⟩ (Or.inl rfl) rfl (by omega) rfl rfl (by omega) (fun _ _ _ => rfl) ⟨rfl, rfl⟩ dX12_go_44 ?_
        try simp (disch := omega) only [ui_ur, ui_ur_n, ur_sv, ur_nv, ui_sv, ui_nv, ui_uis, us_s, us_n]
        rw [us_us]
        refine r_goto (pc := 47) 0 dX12_go_47 rfl ?_
        exact ih (p + 1) (by omega) (by omega) he
      refine r_aload_n (pc := 11) dX12_go_11 rfl rfl ?_
      refine r_aload_n (pc := 12) dX12_go_12 rfl rfl ?_
      refine r_geti (pc := 13) (c := 15) (k := 3) (kz := 3) hT cok_15 (Nat.le_of_ble_eq_true rfl) q621 ⟨rfl, rfl⟩ (Or.inl rfl) rfl (fun _ _ _ => rfl) dX12_go_13 (fun hr13 => ?_)
      try simp (disch := omega) only [ui_ur, ui_ur_n, ur_sv, ur_nv, ui_sv, ui_nv, ui_uis, us_s, us_n] at hr13 ⊢
      refine r_callP1 (pc := 16) (cb := 15) (C_byteAtE (tp := tp) hT hP ht (by rw [ur_sv, us_n (by omega), h1]; omega) (by omega) fe_i) im_X12_byteAt q673 q971 rfl q2470 q672 hT dX12_go_16 (Nat.le_of_ble_eq_true rfl) (Nat.le_of_ble_eq_true rfl) rfl (k_fi ?_) (fun _ _ _ _ _ _ _ hx => no_x hx)
      rw [ur_n htr, hτ, ur_sv, us_n (by omega), h1]
      refine r_bipush (pc := 19) dX12_go_19 (by decide +kernel) ?_
      refine r_icmp_eq (pc := 21) 37 dX12_go_21 rfl (by omega) (by omega) (fun h21 => ?_) (fun h21 => ?_)
      · exact inc (Or.inl (by rw [hpk]; exact h21))
      refine r_aload_n (pc := 24) dX12_go_24 rfl rfl ?_
      refine r_aload_n (pc := 25) dX12_go_25 rfl rfl ?_
      refine r_geti (pc := 26) (c := 15) (k := 3) (kz := 3) hT cok_15 (Nat.le_of_ble_eq_true rfl) q621 ⟨rfl, rfl⟩ (Or.inl rfl) rfl (fun _ _ _ => rfl) dX12_go_26 (fun hr26 => ?_)
      try simp (disch := omega) only [ui_ur, ui_ur_n, ur_sv, ur_nv, ui_sv, ui_nv, ui_uis, us_s, us_n] at hr26 ⊢
      refine r_callP1 (pc := 29) (cb := 15) (C_byteAtE (tp := tp) hT hP ht (by rw [ur_sv, us_n (by omega), h1]; omega) (by omega) fe_i) im_X12_byteAt q673 q971 rfl q2470 q672 hT dX12_go_29 (Nat.le_of_ble_eq_true rfl) (Nat.le_of_ble_eq_true rfl) rfl (k_fi ?_) (fun _ _ _ _ _ _ _ hx => no_x hx)
      rw [ur_n htr, hτ, ur_sv, us_n (by omega), h1]
      refine r_bipush (pc := 32) dX12_go_32 (by decide +kernel) ?_
      refine r_icmp_ne (pc := 34) 50 dX12_go_34 rfl (by omega) (by omega) (fun h34 => ?_) (fun h34 => ?_)
      · refine main p ?_
        rw [if_neg (by rw [hpk]; omega)] at he
        exact he.trans hps
      exact inc (Or.inr (by rw [hpk]; exact h34))
  rw [e0]
  exact skip (s.1 3 - s.1 4).toNat (s.1 4) (by omega) (by omega) hps.symm
end P6E
