/-! ===== the model: hands, the heap, a line ===== -/
section M11
variable {G : GE} {I J : HI} {P : HP} {T : HT} {z : Nat} {m d : Nat} {Q : QT} {σ u τ ρ : Int → Int} {s : TS}
theorem M_readHand (hs : shM G P T m) (hτ : I (m + 1) = τ) (hρ : J (m + 6) = ρ) (hw : TSW s) (hQ : Q (some (iv (g_hand1 τ ρ (g_nx τ s)).1)) (hI I m (g_hand1 τ ρ (g_nx τ s)).2) (hJ J m (g_hand1 τ ρ (g_nx τ s)).2) P T z) : MC G yX11_readHand (ws_ yX11_readHand cX11_readHand 3 (some FieldType.boolean)) (d + 2) 0 0 [.ref m] (hI I m s) (hJ J m s) P T z Q nX := by
  have hb := hs.b
  refine MC.of (by decide) (Nat.le_of_ble_eq_true rfl) ?_
  show PW G mX11_readHand (rmD (d + 2) 0 0) (MZ G Q nX 0 0) 0 0 (hI I m s) (hJ J m s) P T z 0 [some (.ref m), none, none] []
  refine r_aload_n (pc := 0) dX11_readHand_0 rfl rfl ?_
  refine r_callV0 (pc := 1) (M_nx (I := I) (J := J) (s := s) hs hτ ⟨hw.1.1, hw.1.2.1, hw.1.2.2.1⟩ fe_i) im_X11_next qs57 q2065 hs.o rfl dX11_readHand_1 (Nat.le_of_ble_eq_true rfl) (Nat.le_of_ble_eq_true rfl) rfl (k_fv ?_) (fun _ _ _ _ _ _ _ hx => no_x hx)
  have w1 := hw.nx (τ := τ)
  clear hw
  generalize g_nx τ s = t at *
  have p1 := w1.2.1.2.1
  unfold g_hand1 at hQ
  refine r_aload_n (pc := 4) dX11_readHand_4 rfl rfl ?_
  refine r_callV0 (pc := 5) (M_isNameS (I := I) (J := J) (s := t) hs hρ fe_i) im_X11_isName qs63 q2098 hs.o rfl dX11_readHand_5 (Nat.le_of_ble_eq_true rfl) (Nat.le_of_ble_eq_true rfl) rfl (k_fi ?_) (fun _ _ _ _ _ _ _ hx => no_x hx)
  refine r_if_ne (pc := 8) 17 dX11_readHand_8 rfl bz_g (fun h8 => ?_) (fun h8 => ?_)
  · rw [if_neg (fun q => q (bz_ne.mp h8))] at hQ
    refine r_aload_n (pc := 17) dX11_readHand_17 rfl rfl ?_
    refine r_bipush (pc := 18) dX11_readHand_18 (by decide +kernel) ?_
    refine r_aload_n (pc := 20) dX11_readHand_20 rfl rfl ?_
    refine r_getr (pc := 21) (c := 11) (k := 7) (kz := 7) hs.o cok_11 (Nat.le_of_ble_eq_true rfl) q1867 ⟨rfl, rfl⟩ (Or.inl rfl) rfl (fun _ _ _ => rfl) hs.p_h dX11_readHand_21 ?_
    refine r_iconst (pc := 24) dX11_readHand_24 ?_
    refine r_iald (pc := 25) hs.t_h (by omega) (by omega) dX11_readHand_25 (fun hr25 => ?_)
    try simp (disch := omega) only [ui_ur, ui_ur_n, ur_sv, ur_nv, ui_sv, ui_nv, ui_uis, us_s, us_n] at hr25 ⊢
    refine r_callV2 (pc := 26) (M_findS (I := I) (J := J) (s := t) hs p1 fe_i) im_X11_find qs64 q2102 hs.o rfl dX11_readHand_26 (Nat.le_of_ble_eq_true rfl) (Nat.le_of_ble_eq_true rfl) rfl (k_fi ?_) (fun _ _ _ _ _ _ _ hx => no_x hx)
    have kr := t_find_r (ν := t.2.2.2) (w := t.2.1) (f := 6) (t.2.2.1 1).toNat 0 (by omega)
    generalize t_find t.2.2.2 t.2.1 6 0 (t.2.2.1 1).toNat = k at *
    refine r_istore_n1 (pc := 29) (Nat.le_of_ble_eq_true rfl) dX11_readHand_29 rfl ?_
    refine r_iload_n (pc := 30) dX11_readHand_30 rfl rfl ?_
    refine r_if_ge (pc := 31) 40 dX11_readHand_31 rfl (by omega) (fun h31 => ?_) (fun h31 => ?_)
    · rw [if_neg (by omega)] at hQ
      refine r_aload_n (pc := 40) dX11_readHand_40 rfl rfl ?_
      refine r_callV0 (pc := 41) (M_nx (I := I) (J := J) (s := t) hs hτ ⟨w1.1.1, w1.1.2.1, w1.1.2.2.1⟩ fe_i) im_X11_next qs57 q2065 hs.o rfl dX11_readHand_41 (Nat.le_of_ble_eq_true rfl) (Nat.le_of_ble_eq_true rfl) rfl (k_fv ?_) (fun _ _ _ _ _ _ _ hx => no_x hx)
      have w2 := w1.nx (τ := τ)
      have e2 : (g_nx τ t).2.2.1 = t.2.2.1 := rfl
      rw [← e2] at kr p1
      clear w1 e2
      generalize g_nx τ t = v at *
      have p0 := w2.2.1.1
      unfold g_hand2 at hQ
      refine r_aload_n (pc := 44) dX11_readHand_44 rfl rfl ?_
      refine r_geti (pc := 45) (c := 11) (k := 11) (kz := 11) hs.o cok_11 (Nat.le_of_ble_eq_true rfl) q1871 ⟨rfl, rfl⟩ (Or.inl rfl) rfl (fun _ _ _ => rfl) dX11_readHand_45 (fun hr45 => ?_)
      try simp (disch := omega) only [ui_ur, ui_ur_n, ur_sv, ur_nv, ui_sv, ui_nv, ui_uis, us_s, us_n] at hr45 ⊢
      refine r_iconst (pc := 48) dX11_readHand_48 ?_
      refine r_icmp_eq (pc := 49) 58 dX11_readHand_49 rfl (by omega) (by omega) (fun h49 => ?_) (fun h49 => ?_)
      · rw [if_neg (by omega)] at hQ
        have hn := w2.1.2.2.2.2.2.2.2.2 h49
        refine r_aload_n (pc := 58) dX11_readHand_58 rfl rfl ?_
        refine r_geti (pc := 59) (c := 11) (k := 14) (kz := 14) hs.o cok_11 (Nat.le_of_ble_eq_true rfl) q1874 ⟨rfl, rfl⟩ (Or.inl rfl) rfl (fun _ _ _ => rfl) dX11_readHand_59 (fun hr59 => ?_)
        try simp (disch := omega) only [ui_ur, ui_ur_n, ur_sv, ur_nv, ui_sv, ui_nv, ui_uis, us_s, us_n] at hr59 ⊢
        refine r_aload_n (pc := 62) dX11_readHand_62 rfl rfl ?_
        refine r_getr (pc := 63) (c := 11) (k := 7) (kz := 7) hs.o cok_11 (Nat.le_of_ble_eq_true rfl) q1867 ⟨rfl, rfl⟩ (Or.inl rfl) rfl (fun _ _ _ => rfl) hs.p_h dX11_readHand_63 ?_
        refine r_iconst (pc := 66) dX11_readHand_66 ?_
        refine r_iald (pc := 67) hs.t_h (by omega) (by omega) dX11_readHand_67 (fun hr67 => ?_)
        try simp (disch := omega) only [ui_ur, ui_ur_n, ur_sv, ur_nv, ui_sv, ui_nv, ui_uis, us_s, us_n] at hr67 ⊢
        refine r_icmp_lt (pc := 68) 77 dX11_readHand_68 rfl (by omega) (by omega) (fun h68 => ?_) (fun h68 => ?_)
        · rw [if_neg (by omega)] at hQ
          refine r_aload_n (pc := 77) dX11_readHand_77 rfl rfl ?_
          refine r_geti (pc := 78) (c := 11) (k := 14) (kz := 14) hs.o cok_11 (Nat.le_of_ble_eq_true rfl) q1874 ⟨rfl, rfl⟩ (Or.inl rfl) rfl (fun _ _ _ => rfl) dX11_readHand_78 (fun hr78 => ?_)
          try simp (disch := omega) only [ui_ur, ui_ur_n, ur_sv, ur_nv, ui_sv, ui_nv, ui_uis, us_s, us_n] at hr78 ⊢
          refine r_istore_n2 (pc := 81) (Nat.le_of_ble_eq_true rfl) dX11_readHand_81 rfl ?_
          refine r_aload_n (pc := 82) dX11_readHand_82 rfl rfl ?_
          refine r_getr (pc := 83) (c := 11) (k := 7) (kz := 7) hs.o cok_11 (Nat.le_of_ble_eq_true rfl) q1867 ⟨rfl, rfl⟩ (Or.inl rfl) rfl (fun _ _ _ => rfl) hs.p_h dX11_readHand_83 ?_
          refine r_bipush (pc := 86) dX11_readHand_86 (by decide +kernel) ?_
          refine r_bipush (pc := 88) dX11_readHand_88 (by decide +kernel) ?_
          refine r_iload_n (pc := 90) dX11_readHand_90 rfl rfl ?_
          refine r_imul (pc := 91) dX11_readHand_91 ?_
          refine r_iadd (pc := 92) dX11_readHand_92 ?_
          refine r_iload_n (pc := 93) dX11_readHand_93 rfl rfl ?_
          refine r_iadd (pc := 94) dX11_readHand_94 ?_
          refine r_iald (pc := 95) hs.t_h (by omega) (by omega) dX11_readHand_95 (fun hr95 => ?_)
          try simp (disch := omega) only [ui_ur, ui_ur_n, ur_sv, ur_nv, ui_sv, ui_nv, ui_uis, us_s, us_n] at hr95 ⊢
          refine r_if_le (pc := 96) 105 dX11_readHand_96 rfl (by omega) (fun h96 => ?_) (fun h96 => ?_)
          · rw [if_neg (by omega)] at hQ
            refine r_aload_n (pc := 105) dX11_readHand_105 rfl rfl ?_
            refine r_callV0 (pc := 106) (M_nx (I := I) (J := J) (s := v) hs hτ ⟨w2.1.1, w2.1.2.1, w2.1.2.2.1⟩ fe_i) im_X11_next qs57 q2065 hs.o rfl dX11_readHand_106 (Nat.le_of_ble_eq_true rfl) (Nat.le_of_ble_eq_true rfl) rfl (k_fv ?_) (fun _ _ _ _ _ _ _ hx => no_x hx)
            have w3 := w2.nx (τ := τ)
            have e3 : (g_nx τ v).2.2.1 = v.2.2.1 := rfl
            rw [← e3] at kr p1 p0
            have hn2 : v.1 14 < (g_nx τ v).2.2.1 0 := h68
            clear w2
            generalize v.1 14 = kind at *
            generalize g_nx τ v = x at *
            unfold g_hand3 at hQ
            have c4 := w3.2.1.2.2.2.2.2.2.2.2.1 kind (by omega) (by omega)
            have c0 := w3.2.1.one (p := 0) (k := kind) (by omega) (by omega)
            refine r_aload_n (pc := 109) dX11_readHand_109 rfl rfl ?_
            refine r_geti (pc := 110) (c := 11) (k := 11) (kz := 11) hs.o cok_11 (Nat.le_of_ble_eq_true rfl) q1871 ⟨rfl, rfl⟩ (Or.inl rfl) rfl (fun _ _ _ => rfl) dX11_readHand_110 (fun hr110 => ?_)
            try simp (disch := omega) only [ui_ur, ui_ur_n, ur_sv, ur_nv, ui_sv, ui_nv, ui_uis, us_s, us_n] at hr110 ⊢
            refine r_iconst (pc := 113) dX11_readHand_113 ?_
            refine r_icmp_eq (pc := 114) 123 dX11_readHand_114 rfl (by omega) (by omega) (fun h114 => ?_) (fun h114 => ?_)
            · rw [if_neg (by omega)] at hQ
              have hn3 := w3.1.2.2.2.2.2.2.2.2 h114
              refine r_aload_n (pc := 123) dX11_readHand_123 rfl rfl ?_
              refine r_geti (pc := 124) (c := 11) (k := 14) (kz := 14) hs.o cok_11 (Nat.le_of_ble_eq_true rfl) q1874 ⟨rfl, rfl⟩ (Or.inl rfl) rfl (fun _ _ _ => rfl) dX11_readHand_124 (fun hr124 => ?_)
              try simp (disch := omega) only [ui_ur, ui_ur_n, ur_sv, ur_nv, ui_sv, ui_nv, ui_uis, us_s, us_n] at hr124 ⊢
              refine r_iconst (pc := 127) dX11_readHand_127 ?_
              refine r_iconst (pc := 128) dX11_readHand_128 ?_
              refine r_callS3 (pc := 129) (M_isIn (by omega) (by omega) (by omega) fe_i) im_X11_isIn q2095 dX11_readHand_129 (Nat.le_of_ble_eq_true rfl) (Nat.le_of_ble_eq_true rfl) rfl (k_fi ?_) (fun _ _ _ _ _ _ _ hx => no_x hx)
              refine r_if_ne (pc := 132) 141 dX11_readHand_132 rfl bz_g (fun h132 => ?_) (fun h132 => ?_)
              · have b1 := bz_ne.mp h132
                rw [if_neg (fun q => q b1)] at hQ
                refine r_aload_n (pc := 141) dX11_readHand_141 rfl rfl ?_
                refine r_getr (pc := 142) (c := 11) (k := 7) (kz := 7) hs.o cok_11 (Nat.le_of_ble_eq_true rfl) q1867 ⟨rfl, rfl⟩ (Or.inl rfl) rfl (fun _ _ _ => rfl) hs.p_h dX11_readHand_142 ?_
                refine r_sipush (pc := 145) dX11_readHand_145 (by decide +kernel) ?_
                refine r_iload_n (pc := 148) dX11_readHand_148 rfl rfl ?_
                refine r_iadd (pc := 149) dX11_readHand_149 ?_
                refine r_iald (pc := 150) hs.t_h (by omega) (by omega) dX11_readHand_150 (fun hr150 => ?_)
                try simp (disch := omega) only [ui_ur, ui_ur_n, ur_sv, ur_nv, ui_sv, ui_nv, ui_uis, us_s, us_n] at hr150 ⊢
                refine r_aload_n (pc := 151) dX11_readHand_151 rfl rfl ?_
                refine r_geti (pc := 152) (c := 11) (k := 14) (kz := 14) hs.o cok_11 (Nat.le_of_ble_eq_true rfl) q1874 ⟨rfl, rfl⟩ (Or.inl rfl) rfl (fun _ _ _ => rfl) dX11_readHand_152 (fun hr152 => ?_)
                try simp (disch := omega) only [ui_ur, ui_ur_n, ur_sv, ur_nv, ui_sv, ui_nv, ui_uis, us_s, us_n] at hr152 ⊢
                refine r_iadd (pc := 155) dX11_readHand_155 ?_
                refine r_iconst (pc := 156) dX11_readHand_156 ?_
                refine r_icmp_le (pc := 157) 166 dX11_readHand_157 rfl (by omega) (by omega) (fun h157 => ?_) (fun h157 => ?_)
                · rw [if_neg (by omega)] at hQ
                  refine r_aload_n (pc := 166) dX11_readHand_166 rfl rfl ?_
                  refine r_getr (pc := 167) (c := 11) (k := 7) (kz := 7) hs.o cok_11 (Nat.le_of_ble_eq_true rfl) q1867 ⟨rfl, rfl⟩ (Or.inl rfl) rfl (fun _ _ _ => rfl) hs.p_h dX11_readHand_167 ?_
                  refine r_sipush (pc := 170) dX11_readHand_170 (by decide +kernel) ?_
                  refine r_iload_n (pc := 173) dX11_readHand_173 rfl rfl ?_
                  refine r_iadd (pc := 174) dX11_readHand_174 ?_
                  refine r_dup2 (pc := 175) dX11_readHand_175 rfl rfl ?_
                  refine r_iald (pc := 176) hs.t_h (by omega) (by omega) dX11_readHand_176 (fun hr176 => ?_)
                  try simp (disch := omega) only [ui_ur, ui_ur_n, ur_sv, ur_nv, ui_sv, ui_nv, ui_uis, us_s, us_n] at hr176 ⊢
                  refine r_aload_n (pc := 177) dX11_readHand_177 rfl rfl ?_
                  refine r_geti (pc := 178) (c := 11) (k := 14) (kz := 14) hs.o cok_11 (Nat.le_of_ble_eq_true rfl) q1874 ⟨rfl, rfl⟩ (Or.inl rfl) rfl (fun _ _ _ => rfl) dX11_readHand_178 (fun hr178 => ?_)
                  try simp (disch := omega) only [ui_ur, ui_ur_n, ur_sv, ur_nv, ui_sv, ui_nv, ui_uis, us_s, us_n] at hr178 ⊢
                  refine r_iadd (pc := 181) dX11_readHand_181 ?_
                  refine r_iast (pc := 182) hs.t_h (by omega) (by omega) (by omega) (by omega) dX11_readHand_182 ?_
                  try simp (disch := omega) only [ui_ur, ui_ur_n, ur_sv, ur_nv, ui_sv, ui_nv, ui_uis, us_s, us_n]
                  refine r_aload_n (pc := 183) dX11_readHand_183 rfl rfl ?_
                  refine r_getr (pc := 184) (c := 11) (k := 7) (kz := 7) hs.o cok_11 (Nat.le_of_ble_eq_true rfl) q1867 ⟨rfl, rfl⟩ (Or.inl rfl) rfl (fun _ _ _ => rfl) hs.p_h dX11_readHand_184 ?_
                  refine r_bipush (pc := 187) dX11_readHand_187 (by decide +kernel) ?_
                  refine r_bipush (pc := 189) dX11_readHand_189 (by decide +kernel) ?_
                  refine r_iload_n (pc := 191) dX11_readHand_191 rfl rfl ?_
                  refine r_imul (pc := 192) dX11_readHand_192 ?_
                  refine r_iadd (pc := 193) dX11_readHand_193 ?_
                  refine r_iload_n (pc := 194) dX11_readHand_194 rfl rfl ?_
                  refine r_iadd (pc := 195) dX11_readHand_195 ?_
                  refine r_aload_n (pc := 196) dX11_readHand_196 rfl rfl ?_
                  refine r_geti (pc := 197) (c := 11) (k := 14) (kz := 14) hs.o cok_11 (Nat.le_of_ble_eq_true rfl) q1874 ⟨rfl, rfl⟩ (Or.inl rfl) rfl (fun _ _ _ => rfl) dX11_readHand_197 (fun hr197 => ?_)
                  try simp (disch := omega) only [ui_ur, ui_ur_n, ur_sv, ur_nv, ui_sv, ui_nv, ui_uis, us_s, us_n] at hr197 ⊢
                  refine r_iast (pc := 200) hs.t_h (by omega) (by omega) (by omega) (by omega) dX11_readHand_200 ?_
                  try simp (disch := omega) only [ui_ur, ui_ur_n, ur_sv, ur_nv, ui_sv, ui_nv, ui_uis, us_s, us_n]
                  refine r_aload_n (pc := 201) dX11_readHand_201 rfl rfl ?_
                  refine r_callV0 (pc := 202) (M_nx (I := I) (J := J) (s := g_h (60 + 13 * k + kind) (x.1 14) (g_h (571 + kind) (x.2.2.1 (571 + kind) + x.1 14) x)) hs hτ ⟨w3.1.1, w3.1.2.1, w3.1.2.2.1⟩ fe_i) im_X11_next qs57 q2065 hs.o rfl dX11_readHand_202 (Nat.le_of_ble_eq_true rfl) (Nat.le_of_ble_eq_true rfl) rfl (k_fv ?_) (fun _ _ _ _ _ _ _ hx => no_x hx)
                  refine r_iconst (pc := 205) dX11_readHand_205 ?_
                  refine r_ireturn (pc := 206) rfl (nb_z (by omega)) dX11_readHand_206 (Nat.le_of_ble_eq_true rfl) (Nat.le_of_ble_eq_true rfl) ?_
                  exact hQ
                rw [if_pos (by omega)] at hQ
                refine r_aload_n (pc := 160) dX11_readHand_160 rfl rfl ?_
                refine r_iconst (pc := 161) dX11_readHand_161 ?_
                refine r_callV1 (pc := 162) (M_badS (I := I) (J := J) (s := x) hs (by omega) fe_i) im_X11_bad qs61 q2087 hs.o rfl dX11_readHand_162 (Nat.le_of_ble_eq_true rfl) (Nat.le_of_ble_eq_true rfl) rfl (k_fi ?_) (fun _ _ _ _ _ _ _ hx => no_x hx)
                refine r_ireturn (pc := 165) rfl (nb_z (by omega)) dX11_readHand_165 (Nat.le_of_ble_eq_true rfl) (Nat.le_of_ble_eq_true rfl) ?_
                exact hQ
              rw [if_pos (bz_0.mp h132)] at hQ
              refine r_aload_n (pc := 135) dX11_readHand_135 rfl rfl ?_
              refine r_iconst (pc := 136) dX11_readHand_136 ?_
              refine r_callV1 (pc := 137) (M_badS (I := I) (J := J) (s := x) hs (by omega) fe_i) im_X11_bad qs61 q2087 hs.o rfl dX11_readHand_137 (Nat.le_of_ble_eq_true rfl) (Nat.le_of_ble_eq_true rfl) rfl (k_fi ?_) (fun _ _ _ _ _ _ _ hx => no_x hx)
              refine r_ireturn (pc := 140) rfl (nb_z (by omega)) dX11_readHand_140 (Nat.le_of_ble_eq_true rfl) (Nat.le_of_ble_eq_true rfl) ?_
              exact hQ
            rw [if_pos (by omega)] at hQ
            refine r_aload_n (pc := 117) dX11_readHand_117 rfl rfl ?_
            refine r_iconst (pc := 118) dX11_readHand_118 ?_
            refine r_callV1 (pc := 119) (M_badS (I := I) (J := J) (s := x) hs (by omega) fe_i) im_X11_bad qs61 q2087 hs.o rfl dX11_readHand_119 (Nat.le_of_ble_eq_true rfl) (Nat.le_of_ble_eq_true rfl) rfl (k_fi ?_) (fun _ _ _ _ _ _ _ hx => no_x hx)
            refine r_ireturn (pc := 122) rfl (nb_z (by omega)) dX11_readHand_122 (Nat.le_of_ble_eq_true rfl) (Nat.le_of_ble_eq_true rfl) ?_
            exact hQ
          rw [if_pos (by omega)] at hQ
          refine r_aload_n (pc := 99) dX11_readHand_99 rfl rfl ?_
          refine r_iconst (pc := 100) dX11_readHand_100 ?_
          refine r_callV1 (pc := 101) (M_badS (I := I) (J := J) (s := v) hs (by omega) fe_i) im_X11_bad qs61 q2087 hs.o rfl dX11_readHand_101 (Nat.le_of_ble_eq_true rfl) (Nat.le_of_ble_eq_true rfl) rfl (k_fi ?_) (fun _ _ _ _ _ _ _ hx => no_x hx)
          refine r_ireturn (pc := 104) rfl (nb_z (by omega)) dX11_readHand_104 (Nat.le_of_ble_eq_true rfl) (Nat.le_of_ble_eq_true rfl) ?_
          exact hQ
        rw [if_pos (by omega)] at hQ
        refine r_aload_n (pc := 71) dX11_readHand_71 rfl rfl ?_
        refine r_iconst (pc := 72) dX11_readHand_72 ?_
        refine r_callV1 (pc := 73) (M_badS (I := I) (J := J) (s := v) hs (by omega) fe_i) im_X11_bad qs61 q2087 hs.o rfl dX11_readHand_73 (Nat.le_of_ble_eq_true rfl) (Nat.le_of_ble_eq_true rfl) rfl (k_fi ?_) (fun _ _ _ _ _ _ _ hx => no_x hx)
        refine r_ireturn (pc := 76) rfl (nb_z (by omega)) dX11_readHand_76 (Nat.le_of_ble_eq_true rfl) (Nat.le_of_ble_eq_true rfl) ?_
        exact hQ
      rw [if_pos (by omega)] at hQ
      refine r_aload_n (pc := 52) dX11_readHand_52 rfl rfl ?_
      refine r_iconst (pc := 53) dX11_readHand_53 ?_
      refine r_callV1 (pc := 54) (M_badS (I := I) (J := J) (s := v) hs (by omega) fe_i) im_X11_bad qs61 q2087 hs.o rfl dX11_readHand_54 (Nat.le_of_ble_eq_true rfl) (Nat.le_of_ble_eq_true rfl) rfl (k_fi ?_) (fun _ _ _ _ _ _ _ hx => no_x hx)
      refine r_ireturn (pc := 57) rfl (nb_z (by omega)) dX11_readHand_57 (Nat.le_of_ble_eq_true rfl) (Nat.le_of_ble_eq_true rfl) ?_
      exact hQ
    rw [if_pos (by omega)] at hQ
    refine r_aload_n (pc := 34) dX11_readHand_34 rfl rfl ?_
    refine r_iconst (pc := 35) dX11_readHand_35 ?_
    refine r_callV1 (pc := 36) (M_badS (I := I) (J := J) (s := t) hs (by omega) fe_i) im_X11_bad qs61 q2087 hs.o rfl dX11_readHand_36 (Nat.le_of_ble_eq_true rfl) (Nat.le_of_ble_eq_true rfl) rfl (k_fi ?_) (fun _ _ _ _ _ _ _ hx => no_x hx)
    refine r_ireturn (pc := 39) rfl (nb_z (by omega)) dX11_readHand_39 (Nat.le_of_ble_eq_true rfl) (Nat.le_of_ble_eq_true rfl) ?_
    exact hQ
  rw [if_pos (bz_0.mp h8)] at hQ
  refine r_aload_n (pc := 11) dX11_readHand_11 rfl rfl ?_
  refine r_iconst (pc := 12) dX11_readHand_12 ?_
  refine r_callV1 (pc := 13) (M_badS (I := I) (J := J) (s := t) hs (by omega) fe_i) im_X11_bad qs61 q2087 hs.o rfl dX11_readHand_13 (Nat.le_of_ble_eq_true rfl) (Nat.le_of_ble_eq_true rfl) rfl (k_fi ?_) (fun _ _ _ _ _ _ _ hx => no_x hx)
  refine r_ireturn (pc := 16) rfl (nb_z (by omega)) dX11_readHand_16 (Nat.le_of_ble_eq_true rfl) (Nat.le_of_ble_eq_true rfl) ?_
  exact hQ
theorem M_readHeap (hs : shM G P T m) (hτ : I (m + 1) = τ) (hw : TSW s) (hQ : Q (some (iv (g_heap τ 950 (g_nx τ s)).1)) (hI I m (g_heap τ 950 (g_nx τ s)).2) (hJ J m (g_heap τ 950 (g_nx τ s)).2) P T z) : MC G yX11_readHeap (ws_ yX11_readHeap cX11_readHeap 2 (some FieldType.boolean)) (d + 2) 0 0 [.ref m] (hI I m s) (hJ J m s) P T z Q nX := by
  have hb := hs.b
  refine MC.of (by decide) (Nat.le_of_ble_eq_true rfl) ?_
  show PW G mX11_readHeap (rmD (d + 2) 0 0) (MZ G Q nX 0 0) 0 0 (hI I m s) (hJ J m s) P T z 0 [some (.ref m), none] []
  have loop : ∀ (n : Nat) (s : TS), TSW s → (s.1 3 - s.1 4 + 2 ≤ n ∨ s.1 11 ≠ 2 ∧ 1 ≤ n) → Q (some (iv (g_heap τ n s).1)) (hI I m (g_heap τ n s).2) (hJ J m (g_heap τ n s).2) P T z → PW G mX11_readHeap (rmD (d + 2) 0 0) (MZ G Q nX 0 0) 0 0 (hI I m s) (hJ J m s) P T z 6 [some (.ref m), some (iv 1)] [] := by
    intro n
    induction n with
    | zero => intro s h q; have := h.1.2.1; omega
    | succ n ih =>
      intro s w1 q hQ
      unfold g_heap at hQ
      have h0 := w1.2.1.1
      refine r_iload_n (pc := 6) dX11_readHeap_6 rfl rfl ?_
      refine r_if_eq (pc := 7) 135 dX11_readHeap_7 rfl (by omega) (fun h7 => ?_) (fun h7 => ?_)
      · omega
      refine r_aload_n (pc := 10) dX11_readHeap_10 rfl rfl ?_
      refine r_geti (pc := 11) (c := 11) (k := 11) (kz := 11) hs.o cok_11 (Nat.le_of_ble_eq_true rfl) q1871 ⟨rfl, rfl⟩ (Or.inl rfl) rfl (fun _ _ _ => rfl) dX11_readHeap_11 (fun hr11 => ?_)
      try simp (disch := omega) only [ui_ur, ui_ur_n, ur_sv, ur_nv, ui_sv, ui_nv, ui_uis, us_s, us_n] at hr11 ⊢
      refine r_iconst (pc := 14) dX11_readHeap_14 ?_
      refine r_icmp_eq (pc := 15) 24 dX11_readHeap_15 rfl (by omega) (by omega) (fun h15 => ?_) (fun h15 => ?_)
      · rw [if_neg (by omega)] at hQ
        have hn := w1.1.2.2.2.2.2.2.2.2 h15
        refine r_aload_n (pc := 24) dX11_readHeap_24 rfl rfl ?_
        refine r_geti (pc := 25) (c := 11) (k := 14) (kz := 14) hs.o cok_11 (Nat.le_of_ble_eq_true rfl) q1874 ⟨rfl, rfl⟩ (Or.inl rfl) rfl (fun _ _ _ => rfl) dX11_readHeap_25 (fun hr25 => ?_)
        try simp (disch := omega) only [ui_ur, ui_ur_n, ur_sv, ur_nv, ui_sv, ui_nv, ui_uis, us_s, us_n] at hr25 ⊢
        refine r_aload_n (pc := 28) dX11_readHeap_28 rfl rfl ?_
        refine r_getr (pc := 29) (c := 11) (k := 7) (kz := 7) hs.o cok_11 (Nat.le_of_ble_eq_true rfl) q1867 ⟨rfl, rfl⟩ (Or.inl rfl) rfl (fun _ _ _ => rfl) hs.p_h dX11_readHeap_29 ?_
        refine r_iconst (pc := 32) dX11_readHeap_32 ?_
        refine r_iald (pc := 33) hs.t_h (by omega) (by omega) dX11_readHeap_33 (fun hr33 => ?_)
        try simp (disch := omega) only [ui_ur, ui_ur_n, ur_sv, ur_nv, ui_sv, ui_nv, ui_uis, us_s, us_n] at hr33 ⊢
        refine r_icmp_lt (pc := 34) 43 dX11_readHeap_34 rfl (by omega) (by omega) (fun h34 => ?_) (fun h34 => ?_)
        · rw [if_neg (by omega)] at hQ
          have c4 := w1.2.1.2.2.2.2.2.2.2.2.1 (s.1 14) (by omega) (by omega)
          have c0 := w1.2.1.one (p := 0) (k := s.1 14) (by omega) (by omega)
          refine r_aload_n (pc := 43) dX11_readHeap_43 rfl rfl ?_
          refine r_getr (pc := 44) (c := 11) (k := 7) (kz := 7) hs.o cok_11 (Nat.le_of_ble_eq_true rfl) q1867 ⟨rfl, rfl⟩ (Or.inl rfl) rfl (fun _ _ _ => rfl) hs.p_h dX11_readHeap_44 ?_
          refine r_sipush (pc := 47) dX11_readHeap_47 (by decide +kernel) ?_
          refine r_aload_n (pc := 50) dX11_readHeap_50 rfl rfl ?_
          refine r_geti (pc := 51) (c := 11) (k := 14) (kz := 14) hs.o cok_11 (Nat.le_of_ble_eq_true rfl) q1874 ⟨rfl, rfl⟩ (Or.inl rfl) rfl (fun _ _ _ => rfl) dX11_readHeap_51 (fun hr51 => ?_)
          try simp (disch := omega) only [ui_ur, ui_ur_n, ur_sv, ur_nv, ui_sv, ui_nv, ui_uis, us_s, us_n] at hr51 ⊢
          refine r_iadd (pc := 54) dX11_readHeap_54 ?_
          refine r_iald (pc := 55) hs.t_h (by omega) (by omega) dX11_readHeap_55 (fun hr55 => ?_)
          try simp (disch := omega) only [ui_ur, ui_ur_n, ur_sv, ur_nv, ui_sv, ui_nv, ui_uis, us_s, us_n] at hr55 ⊢
          refine r_iconst (pc := 56) dX11_readHeap_56 ?_
          refine r_icmp_ne (pc := 57) 66 dX11_readHeap_57 rfl (by omega) (by omega) (fun h57 => ?_) (fun h57 => ?_)
          · rw [if_neg h57] at hQ
            have g7 := w1.2.1.h7s (k := s.1 14) (by omega) h57
            have g70 := w1.2.1.h7
            have ww : TSW (g_h 7 (s.2.2.1 7 + 1) (g_h (8 + s.2.2.1 7) (s.1 14) (g_h (571 + s.1 14) (s.2.2.1 (571 + s.1 14) + 1) s))) := ⟨w1.1, w1.2.1.heap (by omega) h57, fun q => by
              show us (us (us s.2.2.1 (571 + s.1 14) (s.2.2.1 (571 + s.1 14) + 1)) (8 + s.2.2.1 7) (s.1 14)) 7 (s.2.2.1 7 + 1) 0 = 0
              rw [us_n (by omega), us_n (by omega), us_n (by omega)]
              exact w1.2.2 q⟩
            have w2 := ww.nx (τ := τ)
            have g1 : GO s (g_nx τ (g_h 7 (s.2.2.1 7 + 1) (g_h (8 + s.2.2.1 7) (s.1 14) (g_h (571 + s.1 14) (s.2.2.1 (571 + s.1 14) + 1) s)))) := ⟨(GO.nx (τ := τ) ww).1, (GO.nx (τ := τ) ww).2.1, (GO.nx (τ := τ) ww).2.2⟩
            refine r_aload_n (pc := 66) dX11_readHeap_66 rfl rfl ?_
            refine r_getr (pc := 67) (c := 11) (k := 7) (kz := 7) hs.o cok_11 (Nat.le_of_ble_eq_true rfl) q1867 ⟨rfl, rfl⟩ (Or.inl rfl) rfl (fun _ _ _ => rfl) hs.p_h dX11_readHeap_67 ?_
            refine r_sipush (pc := 70) dX11_readHeap_70 (by decide +kernel) ?_
            refine r_aload_n (pc := 73) dX11_readHeap_73 rfl rfl ?_
            refine r_geti (pc := 74) (c := 11) (k := 14) (kz := 14) hs.o cok_11 (Nat.le_of_ble_eq_true rfl) q1874 ⟨rfl, rfl⟩ (Or.inl rfl) rfl (fun _ _ _ => rfl) dX11_readHeap_74 (fun hr74 => ?_)
            try simp (disch := omega) only [ui_ur, ui_ur_n, ur_sv, ur_nv, ui_sv, ui_nv, ui_uis, us_s, us_n] at hr74 ⊢
            refine r_iadd (pc := 77) dX11_readHeap_77 ?_
            refine r_dup2 (pc := 78) dX11_readHeap_78 rfl rfl ?_
            refine r_iald (pc := 79) hs.t_h (by omega) (by omega) dX11_readHeap_79 (fun hr79 => ?_)
            try simp (disch := omega) only [ui_ur, ui_ur_n, ur_sv, ur_nv, ui_sv, ui_nv, ui_uis, us_s, us_n] at hr79 ⊢
            refine r_iconst (pc := 80) dX11_readHeap_80 ?_
            refine r_iadd (pc := 81) dX11_readHeap_81 ?_
            refine r_iast (pc := 82) hs.t_h (by omega) (by omega) (by omega) (by omega) dX11_readHeap_82 ?_
            try simp (disch := omega) only [ui_ur, ui_ur_n, ur_sv, ur_nv, ui_sv, ui_nv, ui_uis, us_s, us_n]
            refine r_aload_n (pc := 83) dX11_readHeap_83 rfl rfl ?_
            refine r_getr (pc := 84) (c := 11) (k := 7) (kz := 7) hs.o cok_11 (Nat.le_of_ble_eq_true rfl) q1867 ⟨rfl, rfl⟩ (Or.inl rfl) rfl (fun _ _ _ => rfl) hs.p_h dX11_readHeap_84 ?_
            refine r_bipush (pc := 87) dX11_readHeap_87 (by decide +kernel) ?_
            refine r_aload_n (pc := 89) dX11_readHeap_89 rfl rfl ?_
            refine r_getr (pc := 90) (c := 11) (k := 7) (kz := 7) hs.o cok_11 (Nat.le_of_ble_eq_true rfl) q1867 ⟨rfl, rfl⟩ (Or.inl rfl) rfl (fun _ _ _ => rfl) hs.p_h dX11_readHeap_90 ?_
            refine r_bipush (pc := 93) dX11_readHeap_93 (by decide +kernel) ?_
            refine r_iald (pc := 95) hs.t_h (by omega) (by omega) dX11_readHeap_95 (fun hr95 => ?_)
            try simp (disch := omega) only [ui_ur, ui_ur_n, ur_sv, ur_nv, ui_sv, ui_nv, ui_uis, us_s, us_n] at hr95 ⊢
            refine r_iadd (pc := 96) dX11_readHeap_96 ?_
            refine r_aload_n (pc := 97) dX11_readHeap_97 rfl rfl ?_
            refine r_geti (pc := 98) (c := 11) (k := 14) (kz := 14) hs.o cok_11 (Nat.le_of_ble_eq_true rfl) q1874 ⟨rfl, rfl⟩ (Or.inl rfl) rfl (fun _ _ _ => rfl) dX11_readHeap_98 (fun hr98 => ?_)
            try simp (disch := omega) only [ui_ur, ui_ur_n, ur_sv, ur_nv, ui_sv, ui_nv, ui_uis, us_s, us_n] at hr98 ⊢
            refine r_iast (pc := 101) hs.t_h (by omega) (by omega) (by omega) (by omega) dX11_readHeap_101 ?_
            try simp (disch := omega) only [ui_ur, ui_ur_n, ur_sv, ur_nv, ui_sv, ui_nv, ui_uis, us_s, us_n]
            refine r_aload_n (pc := 102) dX11_readHeap_102 rfl rfl ?_
            refine r_getr (pc := 103) (c := 11) (k := 7) (kz := 7) hs.o cok_11 (Nat.le_of_ble_eq_true rfl) q1867 ⟨rfl, rfl⟩ (Or.inl rfl) rfl (fun _ _ _ => rfl) hs.p_h dX11_readHeap_103 ?_
            refine r_bipush (pc := 106) dX11_readHeap_106 (by decide +kernel) ?_
            refine r_dup2 (pc := 108) dX11_readHeap_108 rfl rfl ?_
            refine r_iald (pc := 109) hs.t_h (by omega) (by omega) dX11_readHeap_109 (fun hr109 => ?_)
            try simp (disch := omega) only [ui_ur, ui_ur_n, ur_sv, ur_nv, ui_sv, ui_nv, ui_uis, us_s, us_n] at hr109 ⊢
            refine r_iconst (pc := 110) dX11_readHeap_110 ?_
            refine r_iadd (pc := 111) dX11_readHeap_111 ?_
            refine r_iast (pc := 112) hs.t_h (by omega) (by omega) (by omega) (by omega) dX11_readHeap_112 ?_
            try simp (disch := omega) only [ui_ur, ui_ur_n, ur_sv, ur_nv, ui_sv, ui_nv, ui_uis, us_s, us_n]
            refine r_aload_n (pc := 113) dX11_readHeap_113 rfl rfl ?_
            refine r_callV0 (pc := 114) (M_nx (I := I) (J := J) (s := g_h 7 (s.2.2.1 7 + 1) (g_h (8 + s.2.2.1 7) (s.1 14) (g_h (571 + s.1 14) (s.2.2.1 (571 + s.1 14) + 1) s))) hs hτ ⟨ww.1.1, ww.1.2.1, ww.1.2.2.1⟩ fe_i) im_X11_next qs57 q2065 hs.o rfl dX11_readHeap_114 (Nat.le_of_ble_eq_true rfl) (Nat.le_of_ble_eq_true rfl) rfl (k_fv ?_) (fun _ _ _ _ _ _ _ hx => no_x hx)
            simp only at hQ
            generalize g_nx τ (g_h 7 (s.2.2.1 7 + 1) (g_h (8 + s.2.2.1 7) (s.1 14) (g_h (571 + s.1 14) (s.2.2.1 (571 + s.1 14) + 1) s))) = t at *
            refine r_aload_n (pc := 117) dX11_readHeap_117 rfl rfl ?_
            refine r_bipush (pc := 118) dX11_readHeap_118 (by decide +kernel) ?_
            refine r_callV1 (pc := 120) (M_isSignS (I := I) (J := J) (s := t) hs (by omega) fe_i) im_X11_isSign qs67 q2114 hs.o rfl dX11_readHeap_120 (Nat.le_of_ble_eq_true rfl) (Nat.le_of_ble_eq_true rfl) rfl (k_fi ?_) (fun _ _ _ _ _ _ _ hx => no_x hx)
            refine r_if_ne (pc := 123) 130 dX11_readHeap_123 rfl bz_g (fun h123 => ?_) (fun h123 => ?_)
            · rw [if_pos (bz_ne.mp h123)] at hQ
              refine r_iconst (pc := 130) dX11_readHeap_130 ?_
              refine r_istore_n1 (pc := 131) (Nat.le_of_ble_eq_true rfl) dX11_readHeap_131 rfl ?_
              refine r_goto (pc := 132) 6 dX11_readHeap_132 rfl ?_
              refine r_iload_n (pc := 6) dX11_readHeap_6 rfl rfl ?_
              refine r_if_eq (pc := 7) 135 dX11_readHeap_7 rfl (by omega) (fun h7b => ?_) (fun h7b => ?_)
              · refine r_iconst (pc := 135) dX11_readHeap_135 ?_
                refine r_ireturn (pc := 136) rfl (nb_z (by omega)) dX11_readHeap_136 (Nat.le_of_ble_eq_true rfl) (Nat.le_of_ble_eq_true rfl) ?_
                exact hQ
              omega
            rw [if_neg (bz_0.mp h123)] at hQ
            refine r_iconst (pc := 126) dX11_readHeap_126 ?_
            refine r_goto (pc := 127) 131 dX11_readHeap_127 rfl ?_
            refine r_istore_n1 (pc := 131) (Nat.le_of_ble_eq_true rfl) dX11_readHeap_131 rfl ?_
            refine r_goto (pc := 132) 6 dX11_readHeap_132 rfl ?_
            refine ih t w2 ?_ hQ
            have a1 := g1.1
            have a2 := g1.2.1
            have a3 := g1.2.2
            have a4 := w1.1.2.1
            by_cases e : t.1 11 = 2
            · have := a2 (Or.inr (Or.inl e)); omega
            · omega
          rw [if_pos h57] at hQ
          refine r_aload_n (pc := 60) dX11_readHeap_60 rfl rfl ?_
          refine r_iconst (pc := 61) dX11_readHeap_61 ?_
          refine r_callV1 (pc := 62) (M_badS (I := I) (J := J) (s := s) hs (by omega) fe_i) im_X11_bad qs61 q2087 hs.o rfl dX11_readHeap_62 (Nat.le_of_ble_eq_true rfl) (Nat.le_of_ble_eq_true rfl) rfl (k_fi ?_) (fun _ _ _ _ _ _ _ hx => no_x hx)
          refine r_ireturn (pc := 65) rfl (nb_z (by omega)) dX11_readHeap_65 (Nat.le_of_ble_eq_true rfl) (Nat.le_of_ble_eq_true rfl) ?_
          exact hQ
        rw [if_pos (by omega)] at hQ
        refine r_aload_n (pc := 37) dX11_readHeap_37 rfl rfl ?_
        refine r_iconst (pc := 38) dX11_readHeap_38 ?_
        refine r_callV1 (pc := 39) (M_badS (I := I) (J := J) (s := s) hs (by omega) fe_i) im_X11_bad qs61 q2087 hs.o rfl dX11_readHeap_39 (Nat.le_of_ble_eq_true rfl) (Nat.le_of_ble_eq_true rfl) rfl (k_fi ?_) (fun _ _ _ _ _ _ _ hx => no_x hx)
        refine r_ireturn (pc := 42) rfl (nb_z (by omega)) dX11_readHeap_42 (Nat.le_of_ble_eq_true rfl) (Nat.le_of_ble_eq_true rfl) ?_
        exact hQ
      rw [if_pos (by omega)] at hQ
      refine r_aload_n (pc := 18) dX11_readHeap_18 rfl rfl ?_
      refine r_iconst (pc := 19) dX11_readHeap_19 ?_
      refine r_callV1 (pc := 20) (M_badS (I := I) (J := J) (s := s) hs (by omega) fe_i) im_X11_bad qs61 q2087 hs.o rfl dX11_readHeap_20 (Nat.le_of_ble_eq_true rfl) (Nat.le_of_ble_eq_true rfl) rfl (k_fi ?_) (fun _ _ _ _ _ _ _ hx => no_x hx)
      refine r_ireturn (pc := 23) rfl (nb_z (by omega)) dX11_readHeap_23 (Nat.le_of_ble_eq_true rfl) (Nat.le_of_ble_eq_true rfl) ?_
      exact hQ
  refine r_aload_n (pc := 0) dX11_readHeap_0 rfl rfl ?_
  refine r_callV0 (pc := 1) (M_nx (I := I) (J := J) (s := s) hs hτ ⟨hw.1.1, hw.1.2.1, hw.1.2.2.1⟩ fe_i) im_X11_next qs57 q2065 hs.o rfl dX11_readHeap_1 (Nat.le_of_ble_eq_true rfl) (Nat.le_of_ble_eq_true rfl) rfl (k_fv ?_) (fun _ _ _ _ _ _ _ hx => no_x hx)
  refine r_iconst (pc := 4) dX11_readHeap_4 ?_
  refine r_istore_n1 (pc := 5) (Nat.le_of_ble_eq_true rfl) dX11_readHeap_5 rfl ?_
  refine loop 950 _ hw.nx ?_ hQ
  have := (hw.nx (τ := τ)).1
  unfold TI at this
  omega
end M11
