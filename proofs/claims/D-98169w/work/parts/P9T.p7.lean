/-! ===== a reader of class 13: questions, faults ===== -/
section P7T
variable {G : GE} {I J : HI} {P : HP} {T : HT} {z r tp d : Nat} {Q : QT} {X : XT} {τ ω : Int → Int} {s : TS}
theorem C_isT {w2 : Nat} {L2 : List Int} (hR : RD I P T 13 r tp τ s) (ht : 0 ≤ s.1 11 ∧ s.1 11 ≤ 4) (hw2 : ST I P T w2 L2) (hW : WD L2) (hQ : Q (some (iv (bz (isW (cod L2) s)))) I J P T z) : MC G yX12_is (ws_ yX12_is cX12_is 2 (some FieldType.boolean)) (d + 2) 0 0 [.ref r, .ref w2] I J P T z Q nX := by
  have hcs := hR.2.cs ht
  refine MC.of (by decide) (Nat.le_of_ble_eq_true rfl) ?_
  show PW G mX12_is (rmD (d + 2) 0 0) (MZ G Q nX 0 0) 0 0 I J P T z 0 [some (.ref r), some (.ref w2)] []
  refine r_aload_n (pc := 0) dX12_is_0 rfl rfl ?_
  refine r_geti (pc := 1) (c := 13) (k := 4) (kz := 4) hR.1.1 cok_13 (Nat.le_of_ble_eq_true rfl) q628 ⟨rfl, rfl⟩ (Or.inl rfl) rfl (fun _ _ _ => rfl) dX12_is_1 (fun hr1 => ?_)
  refine r_iconst (pc := 4) dX12_is_4 ?_
  refine r_icmp_ne (pc := 5) 23 dX12_is_5 rfl (by omega) (by omega) (fun h5 => ?_) (fun h5 => ?_)
  · refine r_iconst (pc := 23) dX12_is_23 ?_
    refine r_ireturn (pc := 24) rfl (by decide +kernel) dX12_is_24 (Nat.le_of_ble_eq_true rfl) (Nat.le_of_ble_eq_true rfl) ?_
    rw [bz_f (fun c => by have := c.1; omega)] at hQ
    exact hQ
  have h11 : s.1 11 = 1 := by omega
  obtain ⟨-, w, L, hPw, hsw, hWL, hco⟩ := hR.2.2.2.1 h11
  refine r_aload_n (pc := 8) dX12_is_8 rfl rfl ?_
  refine r_getr (pc := 9) (c := 13) (k := 8) (kz := 8) hR.1.1 cok_13 (Nat.le_of_ble_eq_true rfl) q634 ⟨rfl, rfl⟩ (Or.inl rfl) rfl (fun _ _ _ => rfl) hPw dX12_is_9 ?_
  refine r_aload_n (pc := 12) dX12_is_12 rfl rfl ?_
  refine r_callV1 (pc := 13) (C_equals hsw hw2 fe_i) im_J7_equals q876 q874 hsw.1 rfl dX12_is_13 (Nat.le_of_ble_eq_true rfl) (Nat.le_of_ble_eq_true rfl) rfl (k_fi ?_) (fun _ _ _ _ _ _ _ hx => no_x hx)
  have eb : bz (L = L2) = bz (isW (cod L2) s) := by
    by_cases c : L = L2
    · rw [bz_t c, bz_t ⟨h11, by rw [← hco, c]⟩]
    · rw [bz_f c, bz_f (fun q => c ((hWL.inj hW).mp (by rw [hco, q.2])))]
  rw [eb]
  have br := bz_r (p := isW (cod L2) s)
  refine r_if_eq (pc := 16) 23 dX12_is_16 rfl (by omega) (fun h16 => ?_) (fun h16 => ?_)
  · refine r_iconst (pc := 23) dX12_is_23 ?_
    refine r_ireturn (pc := 24) rfl (by decide +kernel) dX12_is_24 (Nat.le_of_ble_eq_true rfl) (Nat.le_of_ble_eq_true rfl) ?_
    rw [h16] at hQ
    exact hQ
  refine r_iconst (pc := 19) dX12_is_19 ?_
  refine r_goto (pc := 20) 24 dX12_is_20 rfl ?_
  refine r_ireturn (pc := 24) rfl (by decide +kernel) dX12_is_24 (Nat.le_of_ble_eq_true rfl) (Nat.le_of_ble_eq_true rfl) ?_
  rw [show bz (isW (cod L2) s) = 1 by omega] at hQ
  exact hQ
theorem C_isNameT {ρ : Int → Int} (hR : RD I P T 13 r tp τ s) (ht : 0 ≤ s.1 11 ∧ s.1 11 ≤ 4) (hrz : r < z) (hcs : CS G I P T) (hρ : RES ρ) (hQ : ∀ I' J' P' T' z', z ≤ z' → FZ z I J P T I' J' P' T' → Q (some (iv (bz (isN ρ s)))) I' J' P' T' z') : MC G yX12_isName (ws_ yX12_isName cX12_isName 1 (some FieldType.boolean)) (d + 6) 4 60 [.ref r] I J P T z Q nX := by
  have hk := hR.2.cs ht
  refine MC.of (by decide) (Nat.le_of_ble_eq_true rfl) ?_
  show PW G mX12_isName (rmD (d + 6) 4 60) (MZ G Q nX 4 60) 0 0 I J P T z 0 [some (.ref r)] []
  refine r_gz fun hgz => r_tz fun hzz => ?_
  refine r_aload_n (pc := 0) dX12_isName_0 rfl rfl ?_
  refine r_geti (pc := 1) (c := 13) (k := 4) (kz := 4) hR.1.1 cok_13 (Nat.le_of_ble_eq_true rfl) q628 ⟨rfl, rfl⟩ (Or.inl rfl) rfl (fun _ _ _ => rfl) dX12_isName_1 (fun hr1 => ?_)
  refine r_iconst (pc := 4) dX12_isName_4 ?_
  refine r_icmp_ne (pc := 5) 47 dX12_isName_5 rfl (by omega) (by omega) (fun h5 => ?_) (fun h5 => ?_)
  · refine r_iconst (pc := 47) dX12_isName_47 ?_
    refine r_ireturn (pc := 48) rfl (by decide +kernel) dX12_isName_48 (Nat.le_of_ble_eq_true rfl) (Nat.le_of_ble_eq_true rfl) ?_
    have := hQ I J P T z (Nat.le_refl _) FZ.rf
    rw [bz_f (fun c => by have := c.1; omega)] at this
    exact this
  have h11 : s.1 11 = 1 := by omega
  obtain ⟨-, w, L, hPw, hsw, hWL, hco⟩ := hR.2.2.2.1 h11
  have hlt : ∀ {a : Nat} {t : Nat} {k : Int}, T a = (t, k) → t ≠ 0 → a < z := fun {a t k} p q => Nat.not_le.mp fun c => q (by have := hzz a c; rw [p] at this; exact this)
  have hwz := hlt hsw.1 (by decide)
  refine r_ldcS (pc := 8) 1 rfl rfl dX12_isName_8 ?_
  refine r_new (pc := 10) (c := 36) cok_36 rfl (by decide +kernel) q682 q683 q138 (by show 0 + 1 ≤ 4; omega) (by show 0 + 4 ≤ 60; omega) dX12_isName_10 ?_
  refine r_dup (pc := 13) dX12_isName_13 rfl ?_
  refine r_callI0 (pc := 14) (C_sbI (T := ut T z (56, 0)) ut_s hgz (by omega) fe_i) im_J6_init rfl q684 dX12_isName_14 (by show 0 + 1 + 1 ≤ 4; omega) (by show 0 + 4 + 16 ≤ 60; omega) rfl (k_fv ?_) (fun _ _ _ _ _ _ _ hx => no_x hx)
  have hsb : SB (ui (ur (ur I z fun _ => 0) (z + 1) fun _ => 0) z 1 0) (up (urp (urp P z fun _ => none) (z + 1) fun _ => none) z 0 (some (z + 1))) (ut (ut T z (56, 0)) (z + 1) (2, 16)) z (z + 1) [] := by
    refine ⟨by rw [ut_n (by omega), ut_s], up_s, ut_s, ui_sv, ?_, by simp, fun j a b => by simp at b; omega⟩
    rw [ui_nj (by omega), ur_nv (by omega), ur_sv]; rfl
  have hf0 : FZ z I J P T (ui (ur (ur I z fun _ => 0) (z + 1) fun _ => 0) z 1 0) (ur (ur J z fun _ => 0) (z + 1) fun _ => 0) (up (urp (urp P z fun _ => none) (z + 1) fun _ => none) z 0 (some (z + 1))) (ut (ut T z (56, 0)) (z + 1) (2, 16)) := fun a q => ⟨by rw [ui_nr (by omega), ur_n (by omega), ur_n (by omega)], by rw [ur_n (by omega), ur_n (by omega)], by rw [up_nr (by omega), urp_n (by omega), urp_n (by omega)], by rw [ut_n (by omega), ut_n (by omega)]⟩
  generalize (ui (ur (ur I z fun _ => 0) (z + 1) fun _ => 0) z 1 0) = Ia at hsb hf0 ⊢
  generalize (ur (ur J z fun _ => 0) (z + 1) fun _ => 0) = Ja at hf0 ⊢
  generalize (up (urp (urp P z fun _ => none) (z + 1) fun _ => none) z 0 (some (z + 1))) = Pa at hsb hf0 ⊢
  generalize (ut (ut T z (56, 0)) (z + 1) (2, 16)) = Ta at hsb hf0 ⊢
  have keep : ∀ (I1 : HI), FZ z I J P T I1 Ja Pa Ta → ∀ {w2 : Nat} {M : List Int}, ST I P T w2 M → ST I1 Pa Ta w2 M := fun I1 hf w2 M hs => hs.cg (fun a ha => by
    have hl : a < z := Nat.not_le.mp fun c => by have := hzz a c; omega
    exact ⟨(hf a hl).1, (hf a hl).2.2.1, (hf a hl).2.2.2⟩)
  have hfs : ∀ {I1 : HI} {bs : Nat} {k m v : Int}, FZ z I J P T I1 Ja Pa Ta → FZ z I J P T (ui (cpI I1 bs (z + 1) 0 k m) z 3 v) Ja Pa Ta := fun {I1 bs k m v} hf a q => by
    obtain ⟨b1, b2, b3, b4⟩ := hf a q
    refine ⟨?_, b2, b3, b4⟩
    rw [ui_nr (by omega)]
    unfold cpI
    rw [ur_n (by omega)]
    exact b1
  have hsp : ST I P T (G.2.2.2.2 2) [32] := hcs.st (i := 2) rfl rfl
  have htk : ST I P T (G.2.2.2.2 1) taken := hcs.st (i := 1) rfl rfl
  have a32 : AS [32] := AS.one (by omega)
  refine r_ldcS (pc := 17) 2 rfl rfl dX12_isName_17 ?_
  refine r_callV1 (pc := 19) (C_sbS (Q := er (some (.ref z)) (fun I' J' P' T' z' => ∃ bs, SA Ia Ta bs [32] ∧ I' = ui (cpI Ia bs (z + 1) 0 0 1) z 3 (0 + 1) ∧ J' = Ja ∧ P' = Pa ∧ T' = Ta ∧ z' = z + 2)) hsb (by omega) (keep _ hf0 hsp) a32 hgz (by omega) (by simp) (fun bs hs => er_i ⟨bs, hs, rfl, rfl, rfl, rfl, rfl⟩)) im_J6_append_2 q996 q994 hsb.1 rfl dX12_isName_19 (Nat.le_of_ble_eq_true rfl) (Nat.le_of_ble_eq_true rfl) rfl (k_er fun I1 J1 P1 T1 z1 ⟨bs, hbs, e1, e2, e3, e4, e5⟩ => ?_) (fun _ _ _ _ _ _ _ hx => no_x hx)
  subst e2 e3 e4 e5
  have hsb1 := hsb.apps (by omega) hbs (by simp)
  have hf1 : FZ z I J P T I1 J1 P1 T1 := by rw [e1]; exact hfs hf0
  have hsb1 : SB I1 P1 T1 z (z + 1) [32] := by rw [e1]; exact hsb1
  clear e1
  have hTr1 : T1 r = (13 + 20, 0) := by rw [(hf1 r hrz).2.2.2]; exact hR.1.1
  have hPw1 : P1 r 8 = some w := by rw [(hf1 r hrz).2.2.1]; exact hPw
  show PW G mX12_isName (rmD (d + 6) 4 60) (MZ G Q nX 4 60) (0+1+1+0) (0+4+16+0) I1 J1 P1 T1 (z + 2) 22 [some (.ref r)] [.ref z, .ref (G.2.2.2.2 1)]
  refine r_aload_n (pc := 22) dX12_isName_22 rfl rfl ?_
  refine r_getr (pc := 23) (c := 13) (k := 8) (kz := 8) hTr1 cok_13 (Nat.le_of_ble_eq_true rfl) q634 ⟨rfl, rfl⟩ (Or.inl rfl) rfl (fun _ _ _ => rfl) hPw1 dX12_isName_23 ?_
  refine r_callV1 (pc := 26) (C_sbS (Q := er (some (.ref z)) (fun I' J' P' T' z' => ∃ bs, SA I1 T1 bs L ∧ I' = ui (cpI I1 bs (z + 1) 0 1 L.length) z 3 (1 + L.length) ∧ J' = J1 ∧ P' = P1 ∧ T' = T1 ∧ z' = z + 2)) hsb1 (by omega) (keep _ hf1 hsw) hWL.as hgz (by omega) (by have := hWL.2.1; simp; omega) (fun bs hs => er_i ⟨bs, hs, rfl, rfl, rfl, rfl, rfl⟩)) im_J6_append_2 q996 q994 hsb1.1 rfl dX12_isName_26 (Nat.le_of_ble_eq_true rfl) (Nat.le_of_ble_eq_true rfl) rfl (k_er fun I2 J2 P2 T2 z2 ⟨bs2, hbs2, e1, e2, e3, e4, e5⟩ => ?_) (fun _ _ _ _ _ _ _ hx => no_x hx)
  subst e2 e3 e4 e5
  have hsb2 := hsb1.apps (by omega) hbs2 (by have := hWL.2.1; simp; omega)
  have hf2 : FZ z I J P T I2 J2 P2 T2 := by rw [e1]; exact hfs hf1
  have hsb2 : SB I2 P2 T2 z (z + 1) ([32] ++ L) := by rw [e1]; exact hsb2
  clear e1
  show PW G mX12_isName (rmD (d + 6) 4 60) (MZ G Q nX 4 60) (0+1+1+0+0) (0+4+16+0+0) I2 J2 P2 T2 (z + 2) 29 [some (.ref r)] [.ref z, .ref (G.2.2.2.2 1)]
  refine r_ldcS (pc := 29) 2 rfl rfl dX12_isName_29 ?_
  refine r_callV1 (pc := 31) (C_sbS (Q := er (some (.ref z)) (fun I' J' P' T' z' => ∃ bs, SA I2 T2 bs [32] ∧ I' = ui (cpI I2 bs (z + 1) 0 ([32] ++ L).length 1) z 3 (([32] ++ L).length + 1) ∧ J' = J2 ∧ P' = P2 ∧ T' = T2 ∧ z' = z + 2)) hsb2 (by omega) (keep _ hf2 hsp) a32 hgz (by omega) (by have := hWL.2.1; simp; omega) (fun bs hs => er_i ⟨bs, hs, rfl, rfl, rfl, rfl, rfl⟩)) im_J6_append_2 q996 q994 hsb2.1 rfl dX12_isName_31 (Nat.le_of_ble_eq_true rfl) (Nat.le_of_ble_eq_true rfl) rfl (k_er fun I3 J3 P3 T3 z3 ⟨bs3, hbs3, e1, e2, e3, e4, e5⟩ => ?_) (fun _ _ _ _ _ _ _ hx => no_x hx)
  subst e2 e3 e4 e5
  have hsb3 := hsb2.apps (by omega) hbs3 (by have := hWL.2.1; simp; omega)
  have hf3 : FZ z I J P T I3 J3 P3 T3 := by rw [e1]; exact hfs hf2
  have hsb3 : SB I3 P3 T3 z (z + 1) (32 :: (L ++ [32])) := by rw [e1]; exact hsb3
  clear e1
  have hA3 : AS (32 :: (L ++ [32])) := a32.app (hWL.as.app a32)
  have hl3 : (32 :: (L ++ [32])).length = L.length + 2 := by simp
  show PW G mX12_isName (rmD (d + 6) 4 60) (MZ G Q nX 4 60) (0+1+1+0+0+0) (0+4+16+0+0+0) I3 J3 P3 T3 (z + 2) 34 [some (.ref r)] [.ref z, .ref (G.2.2.2.2 1)]
  refine r_callV0 (pc := 34) (C_toString (Q := er (some (.ref (z + 2))) (fun I' J' P' T' z' => z' = z + 4 ∧ FZ (z + 2) I3 J3 P3 T3 I' J' P' T' ∧ ST I' P' T' (z + 2) (32 :: (L ++ [32])))) (by omega) hsb3 (by omega) (by omega) (by rw [hl3]; have := hWL.2.1; omega) hA3 (fun I' J' P' T' a b => er_i ⟨rfl, a, b⟩)) im_J6_toString q804 q802 hsb3.1 rfl dX12_isName_34 (by show 2 + 2 ≤ 4; omega) (by show 20 + 20 ≤ 60; omega) rfl (k_er fun I4 J4 P4 T4 z4 ⟨hz4, hf4, hs4⟩ => ?_) (fun _ _ _ _ _ _ _ hx => no_x hx)
  subst hz4
  have hf5 : FZ z I J P T I4 J4 P4 T4 := hf3.tr (by omega) hf4
  have htk4 : ST I4 P4 T4 (G.2.2.2.2 1) taken := htk.cg (fun a ha => by
    have hl : a < z := Nat.not_le.mp fun c => by have := hzz a c; omega
    exact ⟨(hf5 a hl).1, (hf5 a hl).2.2.1, (hf5 a hl).2.2.2⟩)
  have tl := taken_len
  show PW G mX12_isName (rmD (d + 6) 4 60) (MZ G Q nX 4 60) (0+1+1+0+0+0+2) (0+4+16+0+0+0+20) I4 J4 P4 T4 (z + 4) 37 [some (.ref r)] [.ref (z + 2), .ref (G.2.2.2.2 1)]
  refine r_callV1 (pc := 37) (C_indexOf (Q := fun v I' J' P' T' z' => ∃ ri : Int, ((-1 ≤ ri ∧ ri < 1000000) ∧ (0 ≤ ri ↔ ∃ i, occ taken (32 :: (L ++ [32])) i)) ∧ fe I4 J4 P4 T4 (z + 4) (some (iv ri)) v I' J' P' T' z') htk4 hs4 (by simp) (by omega) (by rw [hl3]; have := hWL.2.1; omega) (fun ri p q => ⟨ri, ⟨p, q⟩, fe_i⟩)) im_J7_indexOf q1042 q1040 htk4.1 rfl dX12_isName_37 (Nat.le_of_ble_eq_true rfl) (Nat.le_of_ble_eq_true rfl) rfl (fun v I' J' P' T' z' ⟨ri, ⟨p, q⟩, hf⟩ => k_fi ?_ v I' J' P' T' z' hf) (fun _ _ _ _ _ _ _ hx => no_x hx)
  have hres := hQ I4 J4 P4 T4 (z + 4) (by omega) hf5
  have hiff : isN ρ s ↔ ¬ 0 ≤ ri := by
    rw [q, tk hWL, ← hρ.nm hWL, hco]
    exact ⟨fun c => c.2, fun c => ⟨h11, c⟩⟩
  refine r_if_ge (pc := 40) 47 dX12_isName_40 rfl (by omega) (fun h40 => ?_) (fun h40 => ?_)
  · refine r_iconst (pc := 47) dX12_isName_47 ?_
    refine r_ireturn (pc := 48) rfl (by decide +kernel) dX12_isName_48 (Nat.le_of_ble_eq_true rfl) (Nat.le_of_ble_eq_true rfl) ?_
    rw [bz_f (fun c => hiff.mp c h40)] at hres
    exact hres
  refine r_iconst (pc := 43) dX12_isName_43 ?_
  refine r_goto (pc := 44) 48 dX12_isName_44 rfl ?_
  refine r_ireturn (pc := 48) rfl (by decide +kernel) dX12_isName_48 (Nat.le_of_ble_eq_true rfl) (Nat.le_of_ble_eq_true rfl) ?_
  rw [bz_t (hiff.mpr (by omega))] at hres
  exact hres
theorem C_needT {S : Nat → Prop} {g k : Int} (hR : RD I P T 13 r tp τ s) (ht : 0 ≤ s.1 11 ∧ s.1 11 ≤ 4) (hr5 : rg (s.1 12)) (hg : g = 0 ∨ g = 1) (hk : rg k) (hrz : r < z) (hS : ∀ a, S a → a < z ∧ a ≠ r) (hQ : g = 1 → Q none I J P T z) (hX : g = 0 → XK X S I J P T (if s.1 11 = 4 then 1 else k) (s.1 12)) : MC G yX12_need (ws_ yX12_need cX12_need 3 (none : Option FieldType)) (d + 7) 1 8 [.ref r, iv g, iv k] I J P T z Q X := by
  have hcs := hR.2.cs ht
  have hT1 : ut T z (34, 0) r = (13 + 20, 0) := by rw [ut_n (by omega)]; exact hR.1.1
  have hT2 : ut T z (34, 0) z = (34, 0) := ut_s
  have e4 : (ur I z fun _ => 0) r 4 = I r 4 := ur_nv (by omega)
  have e5 : (ur I z fun _ => 0) r 5 = s.1 12 := by rw [ur_nv (by omega)]; exact hR.2.1
  refine MC.of (by decide) (Nat.le_of_ble_eq_true rfl) ?_
  show PW G mX12_need (rmD (d + 7) 1 8) (MZ G Q X 1 8) 0 0 I J P T z 0 [some (.ref r), some (iv g), some (iv k)] []
  refine r_gz fun hgz => ?_
  refine r_iload_n (pc := 0) dX12_need_0 rfl rfl ?_
  refine r_if_ne (pc := 1) 37 dX12_need_1 rfl (by omega) (fun h1 => ?_) (fun h1 => ?_)
  · refine r_return (pc := 37) rfl dX12_need_37 (Nat.le_of_ble_eq_true rfl) (Nat.le_of_ble_eq_true rfl) ?_
    exact hQ (by omega)
  have tail : ∀ k2 : Int, rg k2 → k2 = (if s.1 11 = 4 then 1 else k) → PWH G mX12_need (rmD (d + 7) 1 8) (MZ G Q X 1 8) (0 + 1) (0 + 8) (ur I z fun _ => 0) (ur J z fun _ => 0) (urp P z fun _ => none) (ut T z (34, 0)) (z + 1) 14 z 29 [some (.ref r), some (iv g), some (iv k)] [iv k2, .ref z, .ref z] := by
    intro k2 hk2 hke
    refine h_aload_n (pc := 29) dX12_need_29 rfl rfl ?_
    refine h_geti (pc := 30) (c := 13) (k := 5) (kz := 5) hT1 cok_13 (Nat.le_of_ble_eq_true rfl) q629 ⟨rfl, rfl⟩ (Or.inl rfl) rfl (fun _ _ _ => rfl) dX12_need_30 (fun hr30 => ?_)
    rw [e5]
    refine h_fault (pc := 33) (dd := d) hT2 hgz hk2 hr5 q935 dX12_need_33 (Nat.le_refl _) (Nat.le_refl _) rfl ?_
    refine r_athrow (pc := 36) hT2 rfl dX12_need_36 ?_
    refine x_out rfl (Nat.le_refl _) (Nat.le_refl _) ?_
    refine hX h1 z _ _ _ _ _ (fun a ha => ?_) hT2 ?_ ?_
    · have := hS a ha
      refine ⟨?_, ur_n (by omega), urp_n (by omega), ut_n (by omega)⟩
      rw [ui_nr (by omega), ui_nr (by omega), ur_n (by omega)]
    · rw [ui_nj (by omega), ui_sv, hke]
    · rw [ui_sv]
  refine h_new (pc := 4) (c := 14) (n := 8) cok_14 rfl (by decide +kernel) q897 q898 q146 (Nat.le_of_ble_eq_true rfl) (Nat.le_of_ble_eq_true rfl) dX12_need_4 ?_
  refine h_dup (pc := 7) dX12_need_7 rfl ?_
  refine h_aload_n (pc := 8) dX12_need_8 rfl rfl ?_
  refine h_geti (pc := 9) (c := 13) (k := 4) (kz := 4) hT1 cok_13 (Nat.le_of_ble_eq_true rfl) q628 ⟨rfl, rfl⟩ (Or.inl rfl) rfl (fun _ _ _ => rfl) dX12_need_9 (fun hr9 => ?_)
  rw [e4] at hr9 ⊢
  refine h_iconst (pc := 12) dX12_need_12 ?_
  have one : s.1 11 = 4 → PWH G mX12_need (rmD (d + 7) 1 8) (MZ G Q X 1 8) (0 + 1) (0 + 8) (ur I z fun _ => 0) (ur J z fun _ => 0) (urp P z fun _ => none) (ut T z (34, 0)) (z + 1) 14 z 24 [some (.ref r), some (iv g), some (iv k)] [.ref z, .ref z] := by
    intro h4
    refine h_iconst (pc := 24) dX12_need_24 ?_
    refine h_goto (pc := 25) 29 dX12_need_25 rfl ?_
    exact tail 1 (by omega) (by rw [if_pos h4])
  refine h_icmp_eq (pc := 13) 24 dX12_need_13 rfl hr9 (by omega) (fun h13 => one (by omega)) (fun h13 => ?_)
  refine h_aload_n (pc := 16) dX12_need_16 rfl rfl ?_
  refine h_geti (pc := 17) (c := 13) (k := 4) (kz := 4) hT1 cok_13 (Nat.le_of_ble_eq_true rfl) q628 ⟨rfl, rfl⟩ (Or.inl rfl) rfl (fun _ _ _ => rfl) dX12_need_17 (fun hr17 => ?_)
  rw [e4] at hr17 ⊢
  refine h_iconst (pc := 20) dX12_need_20 ?_
  refine h_icmp_ne (pc := 21) 28 dX12_need_21 rfl hr17 (by omega) (fun h21 => ?_) (fun h21 => one (by omega))
  refine h_iload_n (pc := 28) dX12_need_28 rfl rfl ?_
  exact tail k hk (by rw [if_neg (by omega)])
theorem C_holdT {S : Nat → Prop} {lo hi : Int} (hR : RD I P T 13 r tp τ s) (hti : TI s.1) (h1 : rg lo) (h2 : rg hi) (hrz : r < z) (hS : ∀ a, S a → a < z ∧ a ≠ r) (hQ : s.1 11 = 2 → lo ≤ s.1 14 → s.1 14 ≤ hi → Q (some (iv (s.1 14))) I J P T z) (hX1 : s.1 11 ≠ 2 → XK X S I J P T 1 (s.1 12)) (hX2 : s.1 11 = 2 → ¬ (lo ≤ s.1 14 ∧ s.1 14 ≤ hi) → XK X S I J P T 2 (s.1 12)) : MC G yX12_hold (ws_ yX12_hold cX12_hold 3 (some FieldType.int)) (d + 8) 2 16 [.ref r, iv lo, iv hi] I J P T z Q X := by
  have hcs := hR.2.cs hti.t
  refine MC.of (by decide) (Nat.le_of_ble_eq_true rfl) ?_
  show PW G mX12_hold (rmD (d + 8) 2 16) (MZ G Q X 2 16) 0 0 I J P T z 0 [some (.ref r), some (iv lo), some (iv hi)] []
  refine r_aload_n (pc := 0) dX12_hold_0 rfl rfl ?_
  refine r_aload_n (pc := 1) dX12_hold_1 rfl rfl ?_
  refine r_geti (pc := 2) (c := 13) (k := 4) (kz := 4) hR.1.1 cok_13 (Nat.le_of_ble_eq_true rfl) q628 ⟨rfl, rfl⟩ (Or.inl rfl) rfl (fun _ _ _ => rfl) dX12_hold_2 (fun hr2 => ?_)
  refine r_iconst (pc := 5) dX12_hold_5 ?_
  refine r_icmp_ne (pc := 6) 13 dX12_hold_6 rfl (by omega) (by omega) (fun h6 => ?_) (fun h6 => ?_)
  · refine r_iconst (pc := 13) dX12_hold_13 ?_
    refine r_iconst (pc := 14) dX12_hold_14 ?_
    refine r_callU2 (pc := 15) (C_needT (S := S) (X := X) (Q := fg ((0 : Int) = 1) I J P T z none) hR hti.t hti.p (by omega) (by omega) hrz hS fg_i (fun _ => by rw [show (if s.1 11 = 4 then (1 : Int) else 1) = 1 by split <;> rfl]; exact hX1 (by omega))) im_X12_need rfl q2479 q2476 q975 hR.1.1 rfl dX12_hold_15 (Nat.le_of_ble_eq_true rfl) (Nat.le_of_ble_eq_true rfl) rfl (k_gnv fun h => by omega) (fun _ _ _ _ _ _ _ hx => x_out rfl (Nat.le_of_ble_eq_true rfl) (Nat.le_of_ble_eq_true rfl) hx)
  have h11 : s.1 11 = 2 := by omega
  have hnr := hti.2.2.2.2.2.2.2.2 h11
  have e6 : I r 6 = s.1 14 := (hR.2.2.2.2.1 h11).2
  refine r_iconst (pc := 9) dX12_hold_9 ?_
  refine r_goto (pc := 10) 14 dX12_hold_10 rfl ?_
  refine r_iconst (pc := 14) dX12_hold_14 ?_
  refine r_callU2 (pc := 15) (C_needT (S := S) (X := X) (Q := fe I J P T z none) hR hti.t hti.p (by omega) (by omega) hrz hS (fun _ => fe_i) (fun c => by omega)) im_X12_need rfl q2479 q2476 q975 hR.1.1 rfl dX12_hold_15 (Nat.le_of_ble_eq_true rfl) (Nat.le_of_ble_eq_true rfl) rfl (k_fv ?_) (fun _ _ _ _ _ _ _ hx => x_out rfl (Nat.le_of_ble_eq_true rfl) (Nat.le_of_ble_eq_true rfl) hx)
  refine r_aload_n (pc := 18) dX12_hold_18 rfl rfl ?_
  refine r_aload_n (pc := 19) dX12_hold_19 rfl rfl ?_
  refine r_geti (pc := 20) (c := 13) (k := 6) (kz := 6) hR.1.1 cok_13 (Nat.le_of_ble_eq_true rfl) q630 ⟨rfl, rfl⟩ (Or.inl rfl) rfl (fun _ _ _ => rfl) dX12_hold_20 (fun hr20 => ?_)
  rw [e6] at hr20 ⊢
  refine r_iload_n (pc := 23) dX12_hold_23 rfl rfl ?_
  refine r_iload_n (pc := 24) dX12_hold_24 rfl rfl ?_
  refine r_callSN3 (pc := 25) (C_isIn (by omega) h1 h2 fe_i) im_X1_isIn q976 dX12_hold_25 (Nat.le_of_ble_eq_true rfl) (Nat.le_of_ble_eq_true rfl) rfl (k_fi ?_) (fun _ _ _ _ _ _ _ hx => no_x hx)
  refine r_iconst (pc := 28) dX12_hold_28 ?_
  refine r_callU2 (pc := 29) (C_needT (S := S) (X := X) (Q := fg (bz (lo ≤ s.1 14 ∧ s.1 14 ≤ hi) = 1) I J P T z none) hR hti.t hti.p (by have := bz_r (p := lo ≤ s.1 14 ∧ s.1 14 ≤ hi); omega) (by omega) hrz hS fg_i (fun c => by rw [if_neg (by omega)]; exact hX2 h11 (bz_0.mp c))) im_X12_need rfl q2479 q2476 q975 hR.1.1 rfl dX12_hold_29 (Nat.le_of_ble_eq_true rfl) (Nat.le_of_ble_eq_true rfl) rfl (k_gnv fun hb => ?_) (fun _ _ _ _ _ _ _ hx => x_out rfl (Nat.le_of_ble_eq_true rfl) (Nat.le_of_ble_eq_true rfl) hx)
  refine r_aload_n (pc := 32) dX12_hold_32 rfl rfl ?_
  refine r_geti (pc := 33) (c := 13) (k := 6) (kz := 6) hR.1.1 cok_13 (Nat.le_of_ble_eq_true rfl) q630 ⟨rfl, rfl⟩ (Or.inl rfl) rfl (fun _ _ _ => rfl) dX12_hold_33 (fun hr33 => ?_)
  rw [e6] at hr33 ⊢
  refine r_ireturn (pc := 36) rfl rfl dX12_hold_36 (Nat.le_of_ble_eq_true rfl) (Nat.le_of_ble_eq_true rfl) ?_
  exact hQ h11 (bz_1.mp hb).1 (bz_1.mp hb).2
theorem C_numberT {S : Nat → Prop} {lo hi : Int} (hR : RD I P T 13 r tp τ s) (hti : TI s.1) (h5 : s.1 5 ≤ 940) (hb : G.2.2.2.1 ≤ r) (h1 : rg lo) (h2 : rg hi) (hrz : r < z) (htz : tp < z) (hS : ∀ a, S a → a < z ∧ a ≠ r) (hQ : s.1 11 = 2 → lo ≤ s.1 14 → s.1 14 ≤ hi → ∀ I' J' P' T' z', z ≤ z' → RF z r I J P T I' J' P' T' → RD I' P' T' 13 r tp τ (g_nx τ s) → Q (some (iv (s.1 14))) I' J' P' T' z') (hX1 : s.1 11 ≠ 2 → XK X S I J P T 1 (s.1 12)) (hX2 : s.1 11 = 2 → ¬ (lo ≤ s.1 14 ∧ s.1 14 ≤ hi) → XK X S I J P T 2 (s.1 12)) : MC G yX12_number (ws_ yX12_number cX12_number 4 (some FieldType.int)) (d + 9) 6 76 [.ref r, iv lo, iv hi] I J P T z Q X := by
  refine MC.of (by decide) (Nat.le_of_ble_eq_true rfl) ?_
  show PW G mX12_number (rmD (d + 9) 6 76) (MZ G Q X 6 76) 0 0 I J P T z 0 [some (.ref r), some (iv lo), some (iv hi), none] []
  refine r_aload_n (pc := 0) dX12_number_0 rfl rfl ?_
  refine r_iload_n (pc := 1) dX12_number_1 rfl rfl ?_
  refine r_iload_n (pc := 2) dX12_number_2 rfl rfl ?_
  refine r_callU2 (pc := 3) (C_holdT (S := S) (X := X) (Q := fg (s.1 11 = 2 ∧ lo ≤ s.1 14 ∧ s.1 14 ≤ hi) I J P T z (some (iv (s.1 14)))) hR hti h1 h2 hrz hS (fun a b c => fg_i ⟨a, b, c⟩) hX1 hX2) im_X12_hold rfl q973 q970 q968 hR.1.1 rfl dX12_number_3 (Nat.le_of_ble_eq_true rfl) (Nat.le_of_ble_eq_true rfl) rfl (k_gni fun hc => ?_) (fun _ _ _ _ _ _ _ hx => x_out rfl (Nat.le_of_ble_eq_true rfl) (Nat.le_of_ble_eq_true rfl) hx)
  refine r_istore_n3 (pc := 6) (Nat.le_of_ble_eq_true rfl) dX12_number_6 rfl ?_
  refine r_aload_n (pc := 7) dX12_number_7 rfl rfl ?_
  refine r_callU0 (pc := 8) (C_goT (Q := er none (fun I' J' P' T' z' => z ≤ z' ∧ RF z r I J P T I' J' P' T' ∧ RD I' P' T' 13 r tp τ (g_nx τ s))) hR.1 (hti.g h5) hb hrz htz (fun I' J' P' T' z' a b c => er_i ⟨a, b, c⟩)) im_X12_go rfl q2483 q2480 q979 hR.1.1 rfl dX12_number_8 (Nat.le_of_ble_eq_true rfl) (Nat.le_of_ble_eq_true rfl) rfl (k_er fun I1 J1 P1 T1 z1 ⟨a1, a2, a3⟩ => ?_) (fun _ _ _ _ _ _ _ hx => no_x hx)
  show PW G mX12_number (rmD (d + 9) 6 76) (MZ G Q X 6 76) (0+2+4) (0+16+60) I1 J1 P1 T1 z1 11 [some (.ref r), some (iv lo), some (iv hi), some (iv (s.1 14))] []
  refine r_iload_n (pc := 11) dX12_number_11 rfl rfl ?_
  refine r_ireturn (pc := 12) rfl rfl dX12_number_12 (Nat.le_of_ble_eq_true rfl) (Nat.le_of_ble_eq_true rfl) ?_
  exact hQ hc.1 hc.2.1 hc.2.2 _ _ _ _ _ a1 a2 a3
theorem C_endRT {S : Nat → Prop} (hR : RD I P T 13 r tp τ s) (hti : TI s.1) (h5 : s.1 5 ≤ 940) (hb : G.2.2.2.1 ≤ r) (hrz : r < z) (htz : tp < z) (hS : ∀ a, S a → a < z ∧ a ≠ r) (hQ : isG 59 s → ∀ I' J' P' T' z', z ≤ z' → RF z r I J P T I' J' P' T' → RD I' P' T' 13 r tp τ (g_nx τ s) → Q none I' J' P' T' z') (hX : ¬ isG 59 s → XK X S I J P T 1 (s.1 12)) : MC G yX12_end (ws_ yX12_end cX12_end 1 (none : Option FieldType)) (d + 8) 5 68 [.ref r] I J P T z Q X := by
  have hcs := hR.2.cs hti.t
  refine MC.of (by decide) (Nat.le_of_ble_eq_true rfl) ?_
  show PW G mX12_end (rmD (d + 8) 5 68) (MZ G Q X 5 68) 0 0 I J P T z 0 [some (.ref r)] []
  refine r_aload_n (pc := 0) dX12_end_0 rfl rfl ?_
  refine r_aload_n (pc := 1) dX12_end_1 rfl rfl ?_
  refine r_geti (pc := 2) (c := 13) (k := 4) (kz := 4) hR.1.1 cok_13 (Nat.le_of_ble_eq_true rfl) q628 ⟨rfl, rfl⟩ (Or.inl rfl) rfl (fun _ _ _ => rfl) dX12_end_2 (fun hr2 => ?_)
  refine r_iconst (pc := 5) dX12_end_5 ?_
  refine r_icmp_ne (pc := 6) 13 dX12_end_6 rfl (by omega) (by omega) (fun h6 => ?_) (fun h6 => ?_)
  · refine r_iconst (pc := 13) dX12_end_13 ?_
    refine r_iconst (pc := 14) dX12_end_14 ?_
    refine r_callU2 (pc := 15) (C_needT (S := S) (X := X) (Q := fg ((0 : Int) = 1) I J P T z none) hR hti.t hti.p (by omega) (by omega) hrz hS fg_i (fun _ => by rw [show (if s.1 11 = 4 then (1 : Int) else 1) = 1 by split <;> rfl]; exact hX (fun c => by have := c.1; have := c.2; omega))) im_X12_need rfl q2479 q2476 q975 hR.1.1 rfl dX12_end_15 (Nat.le_of_ble_eq_true rfl) (Nat.le_of_ble_eq_true rfl) rfl (k_gnv fun h => by omega) (fun _ _ _ _ _ _ _ hx => x_out rfl (Nat.le_of_ble_eq_true rfl) (Nat.le_of_ble_eq_true rfl) hx)
  have h11 : isG 59 s := ⟨by omega, by omega⟩
  refine r_iconst (pc := 9) dX12_end_9 ?_
  refine r_goto (pc := 10) 14 dX12_end_10 rfl ?_
  refine r_iconst (pc := 14) dX12_end_14 ?_
  refine r_callU2 (pc := 15) (C_needT (S := S) (X := X) (Q := fe I J P T z none) hR hti.t hti.p (by omega) (by omega) hrz hS (fun _ => fe_i) (fun c => by omega)) im_X12_need rfl q2479 q2476 q975 hR.1.1 rfl dX12_end_15 (Nat.le_of_ble_eq_true rfl) (Nat.le_of_ble_eq_true rfl) rfl (k_fv ?_) (fun _ _ _ _ _ _ _ hx => x_out rfl (Nat.le_of_ble_eq_true rfl) (Nat.le_of_ble_eq_true rfl) hx)
  refine r_aload_n (pc := 18) dX12_end_18 rfl rfl ?_
  refine r_callU0 (pc := 19) (C_goT (Q := er none (fun I' J' P' T' z' => z ≤ z' ∧ RF z r I J P T I' J' P' T' ∧ RD I' P' T' 13 r tp τ (g_nx τ s))) hR.1 (hti.g h5) hb hrz htz (fun I' J' P' T' z' a b c => er_i ⟨a, b, c⟩)) im_X12_go rfl q2483 q2480 q979 hR.1.1 rfl dX12_end_19 (Nat.le_of_ble_eq_true rfl) (Nat.le_of_ble_eq_true rfl) rfl (k_er fun I1 J1 P1 T1 z1 ⟨a1, a2, a3⟩ => ?_) (fun _ _ _ _ _ _ _ hx => no_x hx)
  show PW G mX12_end (rmD (d + 8) 5 68) (MZ G Q X 5 68) (0+1+4) (0+8+60) I1 J1 P1 T1 z1 22 [some (.ref r)] []
  refine r_return (pc := 22) rfl dX12_end_22 (Nat.le_of_ble_eq_true rfl) (Nat.le_of_ble_eq_true rfl) ?_
  exact hQ h11 _ _ _ _ _ a1 a2 a3
theorem C_personRT {S : Nat → Prop} {ρ ν : Int → Int} {f : Int} {t e : Nat} {Ls : List (List Int)} (hR : RD I P T 13 r tp τ s) (hti : TI s.1) (h5 : s.1 5 ≤ 940) (hb : G.2.2.2.1 ≤ r) (hrz : r < z) (htz : tp < z) (hS : ∀ a, S a → a < z ∧ a ≠ r) (hcs : CS G I P T) (hρ : RES ρ) (hst : shT G P T t) (hnl : NL G I P T (t + 1) e Ls) (hN : ∀ i : Int, 0 ≤ i → i < Ls.length → WD (Ls.getD i.toNat []) ∧ cod (Ls.getD i.toNat []) = ν (f + i))
    (hQ : isN ρ s → 0 ≤ t_find ν s.2.1 f 0 Ls.length → ∀ I' J' P' T' z', z ≤ z' → RF z r I J P T I' J' P' T' → RD I' P' T' 13 r tp τ (g_nx τ s) → Q (some (iv (t_find ν s.2.1 f 0 Ls.length))) I' J' P' T' z') (hX1 : ¬ isN ρ s → XK X S I J P T 1 (s.1 12)) (hX3 : isN ρ s → t_find ν s.2.1 f 0 Ls.length < 0 → XK X S I J P T 3 (s.1 12)) : MC G yX12_person (ws_ yX12_person cX12_person 3 (some FieldType.int)) (d + 8) 10 136 [.ref r, .ref t] I J P T z Q X := by
  refine MC.of (by decide) (Nat.le_of_ble_eq_true rfl) ?_
  show PW G mX12_person (rmD (d + 8) 10 136) (MZ G Q X 10 136) 0 0 I J P T z 0 [some (.ref r), some (.ref t), none] []
  refine r_tz fun hzz => ?_
  have hlt : ∀ {a : Nat} {t : Nat} {k : Int}, T a = (t, k) → t ≠ 0 → a < z := fun {a t k} p q => Nat.not_le.mp fun c => q (by have := hzz a c; rw [p] at this; exact this)
  refine r_aload_n (pc := 0) dX12_person_0 rfl rfl ?_
  refine r_aload_n (pc := 1) dX12_person_1 rfl rfl ?_
  refine r_callU0 (pc := 2) (C_isNameT (Q := er (some (iv (bz (isN ρ s)))) (fun I' J' P' T' z' => z ≤ z' ∧ FZ z I J P T I' J' P' T')) hR hti.t hrz hcs hρ (fun I' J' P' T' z' a b => er_i ⟨a, b⟩)) im_X12_isName rfl q2491 q2488 q1166 hR.1.1 rfl dX12_person_2 (Nat.le_of_ble_eq_true rfl) (Nat.le_of_ble_eq_true rfl) rfl (k_er fun I1 J1 P1 T1 z1 ⟨hz1, hf1⟩ => ?_) (fun _ _ _ _ _ _ _ hx => no_x hx)
  have hR1 := hR.fz hf1 hrz htz hzz
  have hS1 : ∀ a, S a → a < z1 ∧ a ≠ r := fun a q => ⟨by have := hS a q; omega, (hS a q).2⟩
  have hfs1 : FS S I J P T I1 J1 P1 T1 := hf1.fs (fun a q => (hS a q).1)
  have br := bz_r (p := isN ρ s)
  show PW G mX12_person (rmD (d + 8) 10 136) (MZ G Q X 10 136) (0+4) (0+60) I1 J1 P1 T1 z1 5 [some (.ref r), some (.ref t), none] [iv (bz (isN ρ s)), .ref r]
  refine r_tz fun hzz1 => ?_
  refine r_iconst (pc := 5) dX12_person_5 ?_
  refine r_callU2 (pc := 6) (C_needT (S := S) (X := X) (Q := fg (bz (isN ρ s) = 1) I1 J1 P1 T1 z1 none) hR1 hti.t hti.p (by omega) (by omega) (by omega) hS1 fg_i (fun c => by rw [show (if s.1 11 = 4 then (1 : Int) else 1) = 1 by split <;> rfl]; exact (hX1 (bz_0.mp c)).fs hfs1)) im_X12_need rfl q2479 q2476 q975 hR1.1.1 rfl dX12_person_6 (Nat.le_of_ble_eq_true rfl) (Nat.le_of_ble_eq_true rfl) rfl (k_gnv fun hb1 => ?_) (fun _ _ _ _ _ _ _ hx => x_out rfl (Nat.le_of_ble_eq_true rfl) (Nat.le_of_ble_eq_true rfl) hx)
  have hn := bz_1.mp hb1
  obtain ⟨-, w, L, hPw, hsw, hWL, hco⟩ := hR1.2.2.2.1 hn.1
  have htz2 : t < z := hlt hst.o (by decide)
  have htn : t + 1 < z := hlt hst.t_names (by decide)
  have ht1 : T1 t = (22, 0) := by rw [(hf1 t htz2).2.2.2]; exact hst.o
  have htp : P1 t 5 = some (t + 1) := by rw [(hf1 t htz2).2.2.1]; exact hst.p_names
  have hnl1 : NL G I1 P1 T1 (t + 1) e Ls := by
    obtain ⟨y1, y2, y3, y4, y5, y6, y7⟩ := hnl
    obtain ⟨f1, -, f2, f3⟩ := hf1 (t + 1) htn
    have hez : (T e).1 ≠ 0 := by
      rcases y6 with ⟨-, -, y⟩ | ⟨-, y⟩ <;> rw [y] <;> decide
    have hez2 : e < z := Nat.not_le.mp fun c => hez (hzz e c)
    obtain ⟨g1, -, g2, g3⟩ := hf1 e hez2
    refine ⟨by rw [f3]; exact y1, by rw [f1]; exact y2, by rw [f1]; exact y3, y4, by rw [f2]; exact y5, by rw [g3]; exact y6, fun i p q => ?_⟩
    obtain ⟨w2, a1, a2⟩ := y7 i p q
    refine ⟨w2, by rw [g2]; exact a1, a2.cg (fun a ha => ?_)⟩
    have hl : a < z := Nat.not_le.mp fun c => by have := hzz a c; omega
    exact ⟨(hf1 a hl).1, (hf1 a hl).2.2.1, (hf1 a hl).2.2.2⟩
  have efi : ixo Ls L 0 Ls.length = t_find ν s.2.1 f 0 Ls.length := by rw [ixo_find hWL hN Ls.length 0 (by omega) (by omega), hco]
  have hfr := t_find_r (ν := ν) (w := s.2.1) (f := f) Ls.length 0 (by omega)
  have hl6 := hnl.2.2.2.1
  refine r_aload_n (pc := 9) dX12_person_9 rfl rfl ?_
  refine r_getrN (pc := 10) (c := 2) (k := 5) (kz := 5) ht1 cok_2 (Nat.le_of_ble_eq_true rfl) q222 ⟨rfl, rfl⟩ (Or.inl rfl) rfl (fun _ _ _ => rfl) htp dX12_person_10 ?_
  refine r_aload_n (pc := 13) dX12_person_13 rfl rfl ?_
  refine r_getr (pc := 14) (c := 13) (k := 8) (kz := 8) hR1.1.1 cok_13 (Nat.le_of_ble_eq_true rfl) q634 ⟨rfl, rfl⟩ (Or.inl rfl) rfl (fun _ _ _ => rfl) hPw dX12_person_14 ?_
  refine r_callV1 (pc := 17) (C_ixof hnl1 hsw fe_i) im_J2_indexOf q1068 q1167 hnl1.1 rfl dX12_person_17 (Nat.le_of_ble_eq_true rfl) (Nat.le_of_ble_eq_true rfl) rfl (k_fi ?_) (fun _ _ _ _ _ _ _ hx => no_x hx)
  rw [efi]
  generalize t_find ν s.2.1 f 0 Ls.length = p at hQ hX3 hfr
  refine r_istore_n2 (pc := 20) (Nat.le_of_ble_eq_true rfl) dX12_person_20 rfl ?_
  refine r_aload_n (pc := 21) dX12_person_21 rfl rfl ?_
  refine r_iload_n (pc := 22) dX12_person_22 rfl rfl ?_
  refine r_iconst (pc := 23) dX12_person_23 ?_
  refine r_icmp_eq (pc := 24) 31 dX12_person_24 rfl (by omega) (by omega) (fun h24 => ?_) (fun h24 => ?_)
  · refine r_iconst (pc := 31) dX12_person_31 ?_
    refine r_iconst (pc := 32) dX12_person_32 ?_
    refine r_callU2 (pc := 33) (C_needT (S := S) (X := X) (Q := fg ((0 : Int) = 1) I1 J1 P1 T1 z1 none) hR1 hti.t hti.p (by omega) (by omega) (by omega) hS1 fg_i (fun _ => by rw [if_neg (by have := hn.1; omega)]; exact (hX3 hn (by omega)).fs hfs1)) im_X12_need rfl q2479 q2476 q975 hR1.1.1 rfl dX12_person_33 (Nat.le_of_ble_eq_true rfl) (Nat.le_of_ble_eq_true rfl) rfl (k_gnv fun h => by omega) (fun _ _ _ _ _ _ _ hx => x_out rfl (Nat.le_of_ble_eq_true rfl) (Nat.le_of_ble_eq_true rfl) hx)
  refine r_iconst (pc := 27) dX12_person_27 ?_
  refine r_goto (pc := 28) 32 dX12_person_28 rfl ?_
  refine r_iconst (pc := 32) dX12_person_32 ?_
  refine r_callU2 (pc := 33) (C_needT (S := S) (X := X) (Q := fe I1 J1 P1 T1 z1 none) hR1 hti.t hti.p (by omega) (by omega) (by omega) hS1 (fun _ => fe_i) (fun c => by omega)) im_X12_need rfl q2479 q2476 q975 hR1.1.1 rfl dX12_person_33 (Nat.le_of_ble_eq_true rfl) (Nat.le_of_ble_eq_true rfl) rfl (k_fv ?_) (fun _ _ _ _ _ _ _ hx => x_out rfl (Nat.le_of_ble_eq_true rfl) (Nat.le_of_ble_eq_true rfl) hx)
  refine r_aload_n (pc := 36) dX12_person_36 rfl rfl ?_
  refine r_callU0 (pc := 37) (C_goT (Q := er none (fun I' J' P' T' z' => z1 ≤ z' ∧ RF z1 r I1 J1 P1 T1 I' J' P' T' ∧ RD I' P' T' 13 r tp τ (g_nx τ s))) hR1.1 (hti.g h5) hb (by omega) (by omega) (fun I' J' P' T' z' a b c => er_i ⟨a, b, c⟩)) im_X12_go rfl q2483 q2480 q979 hR1.1.1 rfl dX12_person_37 (Nat.le_of_ble_eq_true rfl) (Nat.le_of_ble_eq_true rfl) rfl (k_er fun I2 J2 P2 T2 z2 ⟨a1, a2, a3⟩ => ?_) (fun _ _ _ _ _ _ _ hx => no_x hx)
  show PW G mX12_person (rmD (d + 8) 10 136) (MZ G Q X 10 136) (0+4+1+0+1+4) (0+60+8+0+8+60) I2 J2 P2 T2 z2 40 [some (.ref r), some (.ref t), some (iv p)] []
  refine r_iload_n (pc := 40) dX12_person_40 rfl rfl ?_
  refine r_ireturn (pc := 41) rfl rfl dX12_person_41 (Nat.le_of_ble_eq_true rfl) (Nat.le_of_ble_eq_true rfl) ?_
  exact hQ hn (by omega) _ _ _ _ _ (by omega) ((hf1.toRF hrz).tr hz1 a2) a3
end P7T
