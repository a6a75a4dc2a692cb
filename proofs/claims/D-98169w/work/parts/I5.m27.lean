/-! ===== the model: a line of an evening ===== -/
abbrev ER := Int × TS × (Int → Int)
def e_tail (τ : Int → Int) (to : Int) (s : TS) (rd : Int → Int) : ER :=
  if isW 28271 s then (1, g_nx τ s, rd) else if ¬ isW 444150998387 s then (0, g_bad 1 s, rd)
  else
    let r := g_takes τ 1 4 (g_nx τ s)
    if r.1 = 0 then (0, r.2, rd) else (1, r.2, us rd (to + 3) (r.2.1 18))
def e_3 (τ σ : Int → Int) (to a b : Int) (s : TS) (rd : Int → Int) : ER :=
  let r := g_takes τ 0 (σ 0 - 1) s
  if r.1 = 0 then (0, r.2, rd) else e_tail τ to r.2 (us (us (us (us rd to a) (to + 1) b) (to + 2) (r.2.1 18)) (to + 3) 0)
def e_2 (τ ρ σ : Int → Int) (to a : Int) (s : TS) (rd : Int → Int) : ER :=
  if ¬ isN ρ s then (0, g_bad 1 s, rd) else if t_find s.2.2.2 s.2.1 0 0 (σ 1).toNat < 0 then (0, g_bad 3 s, rd)
  else e_3 τ σ to a (t_find s.2.2.2 s.2.1 0 0 (σ 1).toNat) (g_nx τ s) rd
def e_1 (τ ρ σ : Int → Int) (to a : Int) (s : TS) (rd : Int → Int) : ER :=
  if ¬ isW 1634954099 s then (0, g_bad 1 s, rd) else e_2 τ ρ σ to a (g_nx τ s) rd
def e_line (τ ρ σ : Int → Int) (s : TS) (rd : Int → Int) : ER :=
  if ¬ isN ρ s then (0, g_bad 1 s, rd) else if t_find s.2.2.2 s.2.1 0 0 (σ 1).toNat < 0 then (0, g_bad 3 s, rd)
  else if s.1 52 = 30 then (0, g_bad 4 s, rd)
  else e_1 τ ρ σ (4 * s.1 52) (t_find s.2.2.2 s.2.1 0 0 (σ 1).toNat) (g_nx τ s) rd
theorem g_takes_T {τ : Int → Int} {lo hi : Int} {s : TS} (h : TI s.1) : ((g_takes τ lo hi s).1 = 0 ∨ (g_takes τ lo hi s).1 = 1) ∧ ((g_takes τ lo hi s).1 ≠ 0 → TI (g_takes τ lo hi s).2.1) := by
  unfold g_takes
  split
  · exact ⟨Or.inl rfl, fun q => absurd rfl q⟩
  · split
    · exact ⟨Or.inl rfl, fun q => absurd rfl q⟩
    · exact ⟨Or.inr rfl, fun _ => TI.nx (TI.us h (by omega))⟩
section M27
variable {G : GE} {I J : HI} {P : HP} {T : HT} {z : Nat} {m d : Nat} {Q : QT} {σ τ ρ rd : Int → Int} {s : TS}
set_option maxHeartbeats 1000000 in
theorem M_eveningLine (hs : shM G P T m) (hτ : I (m + 1) = τ) (hρ : J (m + 6) = ρ) (hw : TI s.1) (h0 : 0 ≤ σ 0 ∧ σ 0 ≤ 13) (h1 : 0 ≤ σ 1 ∧ σ 1 ≤ 6) (h52 : 0 ≤ s.1 52 ∧ s.1 52 ≤ 30)
    (hQ : ∀ r, r = e_line τ ρ σ s rd → Q (some (iv r.1)) (hI (ur (ur I (m + 2) σ) (m + 4) r.2.2) m r.2.1) (hJ J m r.2.1) P T z) : MC G yX11_eveningLine (ws_ yX11_eveningLine cX11_eveningLine 4 (some FieldType.boolean)) (d + 3) 0 0 [.ref m] (hI (ur (ur I (m + 2) σ) (m + 4) rd) m s) (hJ J m s) P T z Q nX := by
  have hb := hs.b
  refine MC.of (by decide) (Nat.le_of_ble_eq_true rfl) ?_
  show PW G mX11_eveningLine (rmD (d + 3) 0 0) (MZ G Q nX 0 0) 0 0 (hI (ur (ur I (m + 2) σ) (m + 4) rd) m s) (hJ J m s) P T z 0 [some (.ref m), none, none, none] []
  have hτ2 : ∀ rd : Int → Int, (ur (ur I (m + 2) σ) (m + 4) rd) (m + 1) = τ := fun rd => by rw [ur_n (by omega), ur_n (by omega)]; exact hτ
  have hQ := hQ _ rfl
  unfold e_line at hQ
  refine r_iconst (pc := 0) dX11_eveningLine_0 ?_
  refine r_aload_n (pc := 1) dX11_eveningLine_1 rfl rfl ?_
  refine r_geti (pc := 2) (c := 11) (k := 52) (kz := 52) hs.o cok_11 (Nat.le_of_ble_eq_true rfl) q1912 ⟨rfl, rfl⟩ (Or.inl rfl) rfl (fun _ _ _ => rfl) dX11_eveningLine_2 (fun hr2 => ?_)
  try simp (disch := omega) only [ui_ur, ui_ur_n, ur_sv, ur_nv, ui_sv, ui_nv, ui_uis, us_s, us_n] at hr2 ⊢
  refine r_imul (pc := 5) dX11_eveningLine_5 ?_
  refine r_istore_n1 (pc := 6) (Nat.le_of_ble_eq_true rfl) dX11_eveningLine_6 rfl ?_
  refine r_aload_n (pc := 7) dX11_eveningLine_7 rfl rfl ?_
  refine r_callV0 (pc := 8) (M_isNameS (I := ur (ur I (m + 2) σ) (m + 4) rd) (J := J) (s := s) hs hρ fe_i) im_X11_isName qs63 q2098 hs.o rfl dX11_eveningLine_8 (Nat.le_of_ble_eq_true rfl) (Nat.le_of_ble_eq_true rfl) rfl (k_fi ?_) (fun _ _ _ _ _ _ _ hx => no_x hx)
  refine r_if_ne (pc := 11) 20 dX11_eveningLine_11 rfl bz_g (fun h11 => ?_) (fun h11 => ?_)
  · rw [if_neg (fun q => q (bz_ne.mp h11))] at hQ
    refine r_aload_n (pc := 20) dX11_eveningLine_20 rfl rfl ?_
    refine r_iconst (pc := 21) dX11_eveningLine_21 ?_
    refine r_aload_n (pc := 22) dX11_eveningLine_22 rfl rfl ?_
    refine r_getr (pc := 23) (c := 11) (k := 6) (kz := 6) hs.o cok_11 (Nat.le_of_ble_eq_true rfl) q1866 ⟨rfl, rfl⟩ (Or.inl rfl) rfl (fun _ _ _ => rfl) hs.p_s dX11_eveningLine_23 ?_
    refine r_iconst (pc := 26) dX11_eveningLine_26 ?_
    refine r_iald (pc := 27) hs.t_s (by omega) (by omega) dX11_eveningLine_27 (fun hr27 => ?_)
    try simp (disch := omega) only [ui_ur, ui_ur_n, ur_sv, ur_nv, ui_sv, ui_nv, ui_uis, us_s, us_n] at hr27 ⊢
    refine r_callV2 (pc := 28) (M_findS0 (I := ur (ur I (m + 2) σ) (m + 4) rd) (J := J) (s := s) hs h1 fe_i) im_X11_find qs64 q2102 hs.o rfl dX11_eveningLine_28 (Nat.le_of_ble_eq_true rfl) (Nat.le_of_ble_eq_true rfl) rfl (k_fi ?_) (fun _ _ _ _ _ _ _ hx => no_x hx)
    have kr := t_find_r (ν := s.2.2.2) (w := s.2.1) (f := 0) (σ 1).toNat 0 (by omega)
    generalize t_find s.2.2.2 s.2.1 0 0 (σ 1).toNat = a at *
    refine r_istore_n2 (pc := 31) (Nat.le_of_ble_eq_true rfl) dX11_eveningLine_31 rfl ?_
    refine r_iload_n (pc := 32) dX11_eveningLine_32 rfl rfl ?_
    refine r_if_ge (pc := 33) 42 dX11_eveningLine_33 rfl (by omega) (fun h33 => ?_) (fun h33 => ?_)
    · rw [if_neg (by omega)] at hQ
      refine r_aload_n (pc := 42) dX11_eveningLine_42 rfl rfl ?_
      refine r_geti (pc := 43) (c := 11) (k := 52) (kz := 52) hs.o cok_11 (Nat.le_of_ble_eq_true rfl) q1912 ⟨rfl, rfl⟩ (Or.inl rfl) rfl (fun _ _ _ => rfl) dX11_eveningLine_43 (fun hr43 => ?_)
      try simp (disch := omega) only [ui_ur, ui_ur_n, ur_sv, ur_nv, ui_sv, ui_nv, ui_uis, us_s, us_n] at hr43 ⊢
      refine r_bipush (pc := 46) dX11_eveningLine_46 (by decide +kernel) ?_
      refine r_icmp_ne (pc := 48) 57 dX11_eveningLine_48 rfl (by omega) (by omega) (fun h48 => ?_) (fun h48 => ?_)
      · rw [if_neg h48] at hQ
        have hto : 0 ≤ 4 * s.1 52 ∧ 4 * s.1 52 < 120 := by omega
        generalize 4 * s.1 52 = to at *
        refine r_aload_n (pc := 57) dX11_eveningLine_57 rfl rfl ?_
        refine r_callV0 (pc := 58) (M_nx (I := ur (ur I (m + 2) σ) (m + 4) rd) (J := J) (s := s) hs (hτ2 rd) ⟨hw.1, hw.2.1, hw.2.2.1⟩ fe_i) im_X11_next qs57 q2065 hs.o rfl dX11_eveningLine_58 (Nat.le_of_ble_eq_true rfl) (Nat.le_of_ble_eq_true rfl) rfl (k_fv ?_) (fun _ _ _ _ _ _ _ hx => no_x hx)
        have w1 : TI (g_nx τ s).1 := hw.nx
        generalize g_nx τ s = s1 at *
        unfold e_1 at hQ
        refine r_aload_n (pc := 61) dX11_eveningLine_61 rfl rfl ?_
        refine r_ldc2 (pc := 62) (x := 1634954099) q1847 dX11_eveningLine_62 (by decide +kernel) ?_
        refine r_callV1 (pc := 65) (M_isWordS (I := ur (ur I (m + 2) σ) (m + 4) rd) (J := J) (s := s1) hs (by omega) fe_i) im_X11_isWord qs60 q2083 hs.o rfl dX11_eveningLine_65 (Nat.le_of_ble_eq_true rfl) (Nat.le_of_ble_eq_true rfl) rfl (k_fi ?_) (fun _ _ _ _ _ _ _ hx => no_x hx)
        refine r_if_ne (pc := 68) 77 dX11_eveningLine_68 rfl bz_g (fun h68 => ?_) (fun h68 => ?_)
        · rw [if_neg (fun q => q (bz_ne.mp h68))] at hQ
          refine r_aload_n (pc := 77) dX11_eveningLine_77 rfl rfl ?_
          refine r_callV0 (pc := 78) (M_nx (I := ur (ur I (m + 2) σ) (m + 4) rd) (J := J) (s := s1) hs (hτ2 rd) ⟨w1.1, w1.2.1, w1.2.2.1⟩ fe_i) im_X11_next qs57 q2065 hs.o rfl dX11_eveningLine_78 (Nat.le_of_ble_eq_true rfl) (Nat.le_of_ble_eq_true rfl) rfl (k_fv ?_) (fun _ _ _ _ _ _ _ hx => no_x hx)
          have w2 : TI (g_nx τ s1).1 := w1.nx
          generalize g_nx τ s1 = s2 at *
          unfold e_2 at hQ
          refine r_aload_n (pc := 81) dX11_eveningLine_81 rfl rfl ?_
          refine r_callV0 (pc := 82) (M_isNameS (I := ur (ur I (m + 2) σ) (m + 4) rd) (J := J) (s := s2) hs hρ fe_i) im_X11_isName qs63 q2098 hs.o rfl dX11_eveningLine_82 (Nat.le_of_ble_eq_true rfl) (Nat.le_of_ble_eq_true rfl) rfl (k_fi ?_) (fun _ _ _ _ _ _ _ hx => no_x hx)
          refine r_if_ne (pc := 85) 94 dX11_eveningLine_85 rfl bz_g (fun h85 => ?_) (fun h85 => ?_)
          · rw [if_neg (fun q => q (bz_ne.mp h85))] at hQ
            refine r_aload_n (pc := 94) dX11_eveningLine_94 rfl rfl ?_
            refine r_iconst (pc := 95) dX11_eveningLine_95 ?_
            refine r_aload_n (pc := 96) dX11_eveningLine_96 rfl rfl ?_
            refine r_getr (pc := 97) (c := 11) (k := 6) (kz := 6) hs.o cok_11 (Nat.le_of_ble_eq_true rfl) q1866 ⟨rfl, rfl⟩ (Or.inl rfl) rfl (fun _ _ _ => rfl) hs.p_s dX11_eveningLine_97 ?_
            refine r_iconst (pc := 100) dX11_eveningLine_100 ?_
            refine r_iald (pc := 101) hs.t_s (by omega) (by omega) dX11_eveningLine_101 (fun hr101 => ?_)
            try simp (disch := omega) only [ui_ur, ui_ur_n, ur_sv, ur_nv, ui_sv, ui_nv, ui_uis, us_s, us_n] at hr101 ⊢
            refine r_callV2 (pc := 102) (M_findS0 (I := ur (ur I (m + 2) σ) (m + 4) rd) (J := J) (s := s2) hs h1 fe_i) im_X11_find qs64 q2102 hs.o rfl dX11_eveningLine_102 (Nat.le_of_ble_eq_true rfl) (Nat.le_of_ble_eq_true rfl) rfl (k_fi ?_) (fun _ _ _ _ _ _ _ hx => no_x hx)
            have kr2 := t_find_r (ν := s2.2.2.2) (w := s2.2.1) (f := 0) (σ 1).toNat 0 (by omega)
            generalize t_find s2.2.2.2 s2.2.1 0 0 (σ 1).toNat = b at *
            refine r_istore_n3 (pc := 105) (Nat.le_of_ble_eq_true rfl) dX11_eveningLine_105 rfl ?_
            refine r_iload_n (pc := 106) dX11_eveningLine_106 rfl rfl ?_
            refine r_if_ge (pc := 107) 116 dX11_eveningLine_107 rfl (by omega) (fun h107 => ?_) (fun h107 => ?_)
            · rw [if_neg (by omega)] at hQ
              refine r_aload_n (pc := 116) dX11_eveningLine_116 rfl rfl ?_
              refine r_callV0 (pc := 117) (M_nx (I := ur (ur I (m + 2) σ) (m + 4) rd) (J := J) (s := s2) hs (hτ2 rd) ⟨w2.1, w2.2.1, w2.2.2.1⟩ fe_i) im_X11_next qs57 q2065 hs.o rfl dX11_eveningLine_117 (Nat.le_of_ble_eq_true rfl) (Nat.le_of_ble_eq_true rfl) rfl (k_fv ?_) (fun _ _ _ _ _ _ _ hx => no_x hx)
              have w3 : TI (g_nx τ s2).1 := w2.nx
              generalize g_nx τ s2 = s3 at *
              unfold e_3 at hQ
              refine r_aload_n (pc := 120) dX11_eveningLine_120 rfl rfl ?_
              refine r_iconst (pc := 121) dX11_eveningLine_121 ?_
              refine r_aload_n (pc := 122) dX11_eveningLine_122 rfl rfl ?_
              refine r_getr (pc := 123) (c := 11) (k := 6) (kz := 6) hs.o cok_11 (Nat.le_of_ble_eq_true rfl) q1866 ⟨rfl, rfl⟩ (Or.inl rfl) rfl (fun _ _ _ => rfl) hs.p_s dX11_eveningLine_123 ?_
              refine r_iconst (pc := 126) dX11_eveningLine_126 ?_
              refine r_iald (pc := 127) hs.t_s (by omega) (by omega) dX11_eveningLine_127 (fun hr127 => ?_)
              try simp (disch := omega) only [ui_ur, ui_ur_n, ur_sv, ur_nv, ui_sv, ui_nv, ui_uis, us_s, us_n] at hr127 ⊢
              refine r_iconst (pc := 128) dX11_eveningLine_128 ?_
              refine r_isub (pc := 129) dX11_eveningLine_129 ?_
              refine r_callV2 (pc := 130) (M_takes (I := ur (ur I (m + 2) σ) (m + 4) rd) (J := J) (s := s3) hs (hτ2 rd) w3 (by omega) (by omega) fe_i) im_X11_takes qs62 q2091 hs.o rfl dX11_eveningLine_130 (Nat.le_of_ble_eq_true rfl) (Nat.le_of_ble_eq_true rfl) rfl (k_fi ?_) (fun _ _ _ _ _ _ _ hx => no_x hx)
              have gt := g_takes_T (τ := τ) (lo := 0) (hi := σ 0 - 1) w3
              have gv := g_takes_v (τ := τ) (lo := 0) (hi := σ 0 - 1) (s := s3)
              simp only at hQ
              generalize g_takes τ 0 (σ 0 - 1) s3 = r at *
              have gt1 := gt.1
              refine r_if_ne (pc := 133) 138 dX11_eveningLine_133 rfl (by omega) (fun h133 => ?_) (fun h133 => ?_)
              · rw [if_neg h133] at hQ
                have w4 := gt.2 h133
                have v4 := gv h133
                refine r_aload_n (pc := 138) dX11_eveningLine_138 rfl rfl ?_
                refine r_getr (pc := 139) (c := 11) (k := 8) (kz := 8) hs.o cok_11 (Nat.le_of_ble_eq_true rfl) q1868 ⟨rfl, rfl⟩ (Or.inl rfl) rfl (fun _ _ _ => rfl) hs.p_read dX11_eveningLine_139 ?_
                refine r_iload_n (pc := 142) dX11_eveningLine_142 rfl rfl ?_
                refine r_iload_n (pc := 143) dX11_eveningLine_143 rfl rfl ?_
                refine r_iast (pc := 144) hs.t_read (by omega) (by omega) (by omega) (by omega) dX11_eveningLine_144 ?_
                try simp (disch := omega) only [ui_ur, ui_ur_n, ur_sv, ur_nv, ui_sv, ui_nv, ui_uis, us_s, us_n]
                refine r_aload_n (pc := 145) dX11_eveningLine_145 rfl rfl ?_
                refine r_getr (pc := 146) (c := 11) (k := 8) (kz := 8) hs.o cok_11 (Nat.le_of_ble_eq_true rfl) q1868 ⟨rfl, rfl⟩ (Or.inl rfl) rfl (fun _ _ _ => rfl) hs.p_read dX11_eveningLine_146 ?_
                refine r_iload_n (pc := 149) dX11_eveningLine_149 rfl rfl ?_
                refine r_iconst (pc := 150) dX11_eveningLine_150 ?_
                refine r_iadd (pc := 151) dX11_eveningLine_151 ?_
                refine r_iload_n (pc := 152) dX11_eveningLine_152 rfl rfl ?_
                refine r_iast (pc := 153) hs.t_read (by omega) (by omega) (by omega) (by omega) dX11_eveningLine_153 ?_
                try simp (disch := omega) only [ui_ur, ui_ur_n, ur_sv, ur_nv, ui_sv, ui_nv, ui_uis, us_s, us_n]
                refine r_aload_n (pc := 154) dX11_eveningLine_154 rfl rfl ?_
                refine r_getr (pc := 155) (c := 11) (k := 8) (kz := 8) hs.o cok_11 (Nat.le_of_ble_eq_true rfl) q1868 ⟨rfl, rfl⟩ (Or.inl rfl) rfl (fun _ _ _ => rfl) hs.p_read dX11_eveningLine_155 ?_
                refine r_iload_n (pc := 158) dX11_eveningLine_158 rfl rfl ?_
                refine r_iconst (pc := 159) dX11_eveningLine_159 ?_
                refine r_iadd (pc := 160) dX11_eveningLine_160 ?_
                refine r_aload_n (pc := 161) dX11_eveningLine_161 rfl rfl ?_
                refine r_geti (pc := 162) (c := 11) (k := 18) (kz := 18) hs.o cok_11 (Nat.le_of_ble_eq_true rfl) q1878 ⟨rfl, rfl⟩ (Or.inl rfl) rfl (fun _ _ _ => rfl) dX11_eveningLine_162 (fun hr162 => ?_)
                try simp (disch := omega) only [ui_ur, ui_ur_n, ur_sv, ur_nv, ui_sv, ui_nv, ui_uis, us_s, us_n] at hr162 ⊢
                refine r_iast (pc := 165) hs.t_read (by omega) (by omega) (by omega) (by omega) dX11_eveningLine_165 ?_
                try simp (disch := omega) only [ui_ur, ui_ur_n, ur_sv, ur_nv, ui_sv, ui_nv, ui_uis, us_s, us_n]
                refine r_aload_n (pc := 166) dX11_eveningLine_166 rfl rfl ?_
                refine r_getr (pc := 167) (c := 11) (k := 8) (kz := 8) hs.o cok_11 (Nat.le_of_ble_eq_true rfl) q1868 ⟨rfl, rfl⟩ (Or.inl rfl) rfl (fun _ _ _ => rfl) hs.p_read dX11_eveningLine_167 ?_
                refine r_iload_n (pc := 170) dX11_eveningLine_170 rfl rfl ?_
                refine r_iconst (pc := 171) dX11_eveningLine_171 ?_
                refine r_iadd (pc := 172) dX11_eveningLine_172 ?_
                refine r_iconst (pc := 173) dX11_eveningLine_173 ?_
                refine r_iast (pc := 174) hs.t_read (by omega) (by omega) (by omega) (by omega) dX11_eveningLine_174 ?_
                try simp (disch := omega) only [ui_ur, ui_ur_n, ur_sv, ur_nv, ui_sv, ui_nv, ui_uis, us_s, us_n]
                generalize us (us (us (us rd to a) (to + 1) b) (to + 2) (r.2.1 18)) (to + 3) 0 = rd2 at *
                unfold e_tail at hQ
                refine r_aload_n (pc := 175) dX11_eveningLine_175 rfl rfl ?_
                refine r_ldc2 (pc := 176) (x := 28271) q1849 dX11_eveningLine_176 (by decide +kernel) ?_
                refine r_callV1 (pc := 179) (M_isWordS (I := ur (ur I (m + 2) σ) (m + 4) rd2) (J := J) (s := r.2) hs (by omega) fe_i) im_X11_isWord qs60 q2083 hs.o rfl dX11_eveningLine_179 (Nat.le_of_ble_eq_true rfl) (Nat.le_of_ble_eq_true rfl) rfl (k_fi ?_) (fun _ _ _ _ _ _ _ hx => no_x hx)
                refine r_if_eq (pc := 182) 191 dX11_eveningLine_182 rfl bz_g (fun h182 => ?_) (fun h182 => ?_)
                · rw [if_neg (bz_0.mp h182)] at hQ
                  refine r_aload_n (pc := 191) dX11_eveningLine_191 rfl rfl ?_
                  refine r_ldc2 (pc := 192) (x := 444150998387) q1848 dX11_eveningLine_192 (by decide +kernel) ?_
                  refine r_callV1 (pc := 195) (M_isWordS (I := ur (ur I (m + 2) σ) (m + 4) rd2) (J := J) (s := r.2) hs (by omega) fe_i) im_X11_isWord qs60 q2083 hs.o rfl dX11_eveningLine_195 (Nat.le_of_ble_eq_true rfl) (Nat.le_of_ble_eq_true rfl) rfl (k_fi ?_) (fun _ _ _ _ _ _ _ hx => no_x hx)
                  refine r_if_ne (pc := 198) 207 dX11_eveningLine_198 rfl bz_g (fun h198 => ?_) (fun h198 => ?_)
                  · rw [if_neg (fun q => q (bz_ne.mp h198))] at hQ
                    refine r_aload_n (pc := 207) dX11_eveningLine_207 rfl rfl ?_
                    refine r_callV0 (pc := 208) (M_nx (I := ur (ur I (m + 2) σ) (m + 4) rd2) (J := J) (s := r.2) hs (hτ2 rd2) ⟨w4.1, w4.2.1, w4.2.2.1⟩ fe_i) im_X11_next qs57 q2065 hs.o rfl dX11_eveningLine_208 (Nat.le_of_ble_eq_true rfl) (Nat.le_of_ble_eq_true rfl) rfl (k_fv ?_) (fun _ _ _ _ _ _ _ hx => no_x hx)
                    have w5 : TI (g_nx τ r.2).1 := w4.nx
                    generalize g_nx τ r.2 = s5 at *
                    refine r_aload_n (pc := 211) dX11_eveningLine_211 rfl rfl ?_
                    refine r_iconst (pc := 212) dX11_eveningLine_212 ?_
                    refine r_iconst (pc := 213) dX11_eveningLine_213 ?_
                    refine r_callV2 (pc := 214) (M_takes (I := ur (ur I (m + 2) σ) (m + 4) rd2) (J := J) (s := s5) hs (hτ2 rd2) w5 (by omega) (by omega) fe_i) im_X11_takes qs62 q2091 hs.o rfl dX11_eveningLine_214 (Nat.le_of_ble_eq_true rfl) (Nat.le_of_ble_eq_true rfl) rfl (k_fi ?_) (fun _ _ _ _ _ _ _ hx => no_x hx)
                    have gt := g_takes_T (τ := τ) (lo := 1) (hi := 4) w5
                    have gv := g_takes_v (τ := τ) (lo := 1) (hi := 4) (s := s5)
                    simp only at hQ
                    generalize g_takes τ 1 4 s5 = r5 at *
                    have gt1 := gt.1
                    refine r_if_ne (pc := 217) 222 dX11_eveningLine_217 rfl (by omega) (fun h217 => ?_) (fun h217 => ?_)
                    · rw [if_neg h217] at hQ
                      have v5 := gv h217
                      refine r_aload_n (pc := 222) dX11_eveningLine_222 rfl rfl ?_
                      refine r_getr (pc := 223) (c := 11) (k := 8) (kz := 8) hs.o cok_11 (Nat.le_of_ble_eq_true rfl) q1868 ⟨rfl, rfl⟩ (Or.inl rfl) rfl (fun _ _ _ => rfl) hs.p_read dX11_eveningLine_223 ?_
                      refine r_iload_n (pc := 226) dX11_eveningLine_226 rfl rfl ?_
                      refine r_iconst (pc := 227) dX11_eveningLine_227 ?_
                      refine r_iadd (pc := 228) dX11_eveningLine_228 ?_
                      refine r_aload_n (pc := 229) dX11_eveningLine_229 rfl rfl ?_
                      refine r_geti (pc := 230) (c := 11) (k := 18) (kz := 18) hs.o cok_11 (Nat.le_of_ble_eq_true rfl) q1878 ⟨rfl, rfl⟩ (Or.inl rfl) rfl (fun _ _ _ => rfl) dX11_eveningLine_230 (fun hr230 => ?_)
                      try simp (disch := omega) only [ui_ur, ui_ur_n, ur_sv, ur_nv, ui_sv, ui_nv, ui_uis, us_s, us_n] at hr230 ⊢
                      refine r_iast (pc := 233) hs.t_read (by omega) (by omega) (by omega) (by omega) dX11_eveningLine_233 ?_
                      try simp (disch := omega) only [ui_ur, ui_ur_n, ur_sv, ur_nv, ui_sv, ui_nv, ui_uis, us_s, us_n]
                      refine r_iconst (pc := 234) dX11_eveningLine_234 ?_
                      refine r_ireturn (pc := 235) rfl (nb_z (by omega)) dX11_eveningLine_235 (Nat.le_of_ble_eq_true rfl) (Nat.le_of_ble_eq_true rfl) ?_
                      exact hQ
                    rw [if_pos h217] at hQ
                    refine r_iconst (pc := 220) dX11_eveningLine_220 ?_
                    refine r_ireturn (pc := 221) rfl (nb_z (by omega)) dX11_eveningLine_221 (Nat.le_of_ble_eq_true rfl) (Nat.le_of_ble_eq_true rfl) ?_
                    exact hQ
                  rw [if_pos (bz_0.mp h198)] at hQ
                  refine r_aload_n (pc := 201) dX11_eveningLine_201 rfl rfl ?_
                  refine r_iconst (pc := 202) dX11_eveningLine_202 ?_
                  refine r_callV1 (pc := 203) (M_badS (I := ur (ur I (m + 2) σ) (m + 4) rd2) (J := J) (s := r.2) hs (by omega) fe_i) im_X11_bad qs61 q2087 hs.o rfl dX11_eveningLine_203 (Nat.le_of_ble_eq_true rfl) (Nat.le_of_ble_eq_true rfl) rfl (k_fi ?_) (fun _ _ _ _ _ _ _ hx => no_x hx)
                  refine r_ireturn (pc := 206) rfl (nb_z (by omega)) dX11_eveningLine_206 (Nat.le_of_ble_eq_true rfl) (Nat.le_of_ble_eq_true rfl) ?_
                  exact hQ
                rw [if_pos (bz_ne.mp h182)] at hQ
                refine r_aload_n (pc := 185) dX11_eveningLine_185 rfl rfl ?_
                refine r_callV0 (pc := 186) (M_nx (I := ur (ur I (m + 2) σ) (m + 4) rd2) (J := J) (s := r.2) hs (hτ2 rd2) ⟨w4.1, w4.2.1, w4.2.2.1⟩ fe_i) im_X11_next qs57 q2065 hs.o rfl dX11_eveningLine_186 (Nat.le_of_ble_eq_true rfl) (Nat.le_of_ble_eq_true rfl) rfl (k_fv ?_) (fun _ _ _ _ _ _ _ hx => no_x hx)
                refine r_iconst (pc := 189) dX11_eveningLine_189 ?_
                refine r_ireturn (pc := 190) rfl (nb_z (by omega)) dX11_eveningLine_190 (Nat.le_of_ble_eq_true rfl) (Nat.le_of_ble_eq_true rfl) ?_
                exact hQ
              rw [if_pos h133] at hQ
              refine r_iconst (pc := 136) dX11_eveningLine_136 ?_
              refine r_ireturn (pc := 137) rfl (nb_z (by omega)) dX11_eveningLine_137 (Nat.le_of_ble_eq_true rfl) (Nat.le_of_ble_eq_true rfl) ?_
              exact hQ
            rw [if_pos (by omega)] at hQ
            refine r_aload_n (pc := 110) dX11_eveningLine_110 rfl rfl ?_
            refine r_iconst (pc := 111) dX11_eveningLine_111 ?_
            refine r_callV1 (pc := 112) (M_badS (I := ur (ur I (m + 2) σ) (m + 4) rd) (J := J) (s := s2) hs (by omega) fe_i) im_X11_bad qs61 q2087 hs.o rfl dX11_eveningLine_112 (Nat.le_of_ble_eq_true rfl) (Nat.le_of_ble_eq_true rfl) rfl (k_fi ?_) (fun _ _ _ _ _ _ _ hx => no_x hx)
            refine r_ireturn (pc := 115) rfl (nb_z (by omega)) dX11_eveningLine_115 (Nat.le_of_ble_eq_true rfl) (Nat.le_of_ble_eq_true rfl) ?_
            exact hQ
          rw [if_pos (bz_0.mp h85)] at hQ
          refine r_aload_n (pc := 88) dX11_eveningLine_88 rfl rfl ?_
          refine r_iconst (pc := 89) dX11_eveningLine_89 ?_
          refine r_callV1 (pc := 90) (M_badS (I := ur (ur I (m + 2) σ) (m + 4) rd) (J := J) (s := s2) hs (by omega) fe_i) im_X11_bad qs61 q2087 hs.o rfl dX11_eveningLine_90 (Nat.le_of_ble_eq_true rfl) (Nat.le_of_ble_eq_true rfl) rfl (k_fi ?_) (fun _ _ _ _ _ _ _ hx => no_x hx)
          refine r_ireturn (pc := 93) rfl (nb_z (by omega)) dX11_eveningLine_93 (Nat.le_of_ble_eq_true rfl) (Nat.le_of_ble_eq_true rfl) ?_
          exact hQ
        rw [if_pos (bz_0.mp h68)] at hQ
        refine r_aload_n (pc := 71) dX11_eveningLine_71 rfl rfl ?_
        refine r_iconst (pc := 72) dX11_eveningLine_72 ?_
        refine r_callV1 (pc := 73) (M_badS (I := ur (ur I (m + 2) σ) (m + 4) rd) (J := J) (s := s1) hs (by omega) fe_i) im_X11_bad qs61 q2087 hs.o rfl dX11_eveningLine_73 (Nat.le_of_ble_eq_true rfl) (Nat.le_of_ble_eq_true rfl) rfl (k_fi ?_) (fun _ _ _ _ _ _ _ hx => no_x hx)
        refine r_ireturn (pc := 76) rfl (nb_z (by omega)) dX11_eveningLine_76 (Nat.le_of_ble_eq_true rfl) (Nat.le_of_ble_eq_true rfl) ?_
        exact hQ
      rw [if_pos h48] at hQ
      refine r_aload_n (pc := 51) dX11_eveningLine_51 rfl rfl ?_
      refine r_iconst (pc := 52) dX11_eveningLine_52 ?_
      refine r_callV1 (pc := 53) (M_badS (I := ur (ur I (m + 2) σ) (m + 4) rd) (J := J) (s := s) hs (by omega) fe_i) im_X11_bad qs61 q2087 hs.o rfl dX11_eveningLine_53 (Nat.le_of_ble_eq_true rfl) (Nat.le_of_ble_eq_true rfl) rfl (k_fi ?_) (fun _ _ _ _ _ _ _ hx => no_x hx)
      refine r_ireturn (pc := 56) rfl (nb_z (by omega)) dX11_eveningLine_56 (Nat.le_of_ble_eq_true rfl) (Nat.le_of_ble_eq_true rfl) ?_
      exact hQ
    rw [if_pos (by omega)] at hQ
    refine r_aload_n (pc := 36) dX11_eveningLine_36 rfl rfl ?_
    refine r_iconst (pc := 37) dX11_eveningLine_37 ?_
    refine r_callV1 (pc := 38) (M_badS (I := ur (ur I (m + 2) σ) (m + 4) rd) (J := J) (s := s) hs (by omega) fe_i) im_X11_bad qs61 q2087 hs.o rfl dX11_eveningLine_38 (Nat.le_of_ble_eq_true rfl) (Nat.le_of_ble_eq_true rfl) rfl (k_fi ?_) (fun _ _ _ _ _ _ _ hx => no_x hx)
    refine r_ireturn (pc := 41) rfl (nb_z (by omega)) dX11_eveningLine_41 (Nat.le_of_ble_eq_true rfl) (Nat.le_of_ble_eq_true rfl) ?_
    exact hQ
  rw [if_pos (bz_0.mp h11)] at hQ
  refine r_aload_n (pc := 14) dX11_eveningLine_14 rfl rfl ?_
  refine r_iconst (pc := 15) dX11_eveningLine_15 ?_
  refine r_callV1 (pc := 16) (M_badS (I := ur (ur I (m + 2) σ) (m + 4) rd) (J := J) (s := s) hs (by omega) fe_i) im_X11_bad qs61 q2087 hs.o rfl dX11_eveningLine_16 (Nat.le_of_ble_eq_true rfl) (Nat.le_of_ble_eq_true rfl) rfl (k_fi ?_) (fun _ _ _ _ _ _ _ hx => no_x hx)
  refine r_ireturn (pc := 19) rfl (nb_z (by omega)) dX11_eveningLine_19 (Nat.le_of_ble_eq_true rfl) (Nat.le_of_ble_eq_true rfl) ?_
  exact hQ
end M27
