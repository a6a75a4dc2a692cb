/-! ===== the model: a line, a table ===== -/
section M12
variable {G : GE} {I J : HI} {P : HP} {T : HT} {z : Nat} {m d : Nat} {Q : QT} {σ u τ ρ : Int → Int} {s : TS}
set_option maxHeartbeats 2000000 in
theorem M_line (hs : shM G P T m) (hτ : I (m + 1) = τ) (hρ : J (m + 6) = ρ) (hw : TSW s) (hQ : Q (some (iv (g_line τ ρ s).1)) (hI I m (g_line τ ρ s).2) (hJ J m (g_line τ ρ s).2) P T z) : MC G yX11_line (ws_ yX11_line cX11_line 1 (some FieldType.boolean)) (d + 3) 0 0 [.ref m] (hI I m s) (hJ J m s) P T z Q nX := by
  have hb := hs.b
  refine MC.of (by decide) (Nat.le_of_ble_eq_true rfl) ?_
  show PW G mX11_line (rmD (d + 3) 0 0) (MZ G Q nX 0 0) 0 0 (hI I m s) (hJ J m s) P T z 0 [some (.ref m)] []
  have hp0 : 0 ≤ s.1 4 ∧ s.1 4 ≤ s.1 3 ∧ s.1 3 ≤ 940 := ⟨hw.1.1, hw.1.2.1, hw.1.2.2.1⟩
  unfold g_line at hQ
  refine r_aload_n (pc := 0) dX11_line_0 rfl rfl ?_
  refine r_ldc2 (pc := 1) (x := 461330343027) q1841 dX11_line_1 (by decide +kernel) ?_
  refine r_callV1 (pc := 4) (M_isWordS (I := I) (J := J) (s := s) hs (by omega) fe_i) im_X11_isWord qs60 q2083 hs.o rfl dX11_line_4 (Nat.le_of_ble_eq_true rfl) (Nat.le_of_ble_eq_true rfl) rfl (k_fi ?_) (fun _ _ _ _ _ _ _ hx => no_x hx)
  refine r_if_eq (pc := 7) 56 dX11_line_7 rfl bz_g (fun h7 => ?_) (fun h7 => ?_)
  · rw [if_neg (bz_0.mp h7)] at hQ
    refine r_aload_n (pc := 56) dX11_line_56 rfl rfl ?_
    refine r_ldc2 (pc := 57) (x := 123581014175598) q1842 dX11_line_57 (by decide +kernel) ?_
    refine r_callV1 (pc := 60) (M_isWordS (I := I) (J := J) (s := s) hs (by omega) fe_i) im_X11_isWord qs60 q2083 hs.o rfl dX11_line_60 (Nat.le_of_ble_eq_true rfl) (Nat.le_of_ble_eq_true rfl) rfl (k_fi ?_) (fun _ _ _ _ _ _ _ hx => no_x hx)
    refine r_if_eq (pc := 63) 155 dX11_line_63 rfl bz_g (fun h63 => ?_) (fun h63 => ?_)
    · rw [if_neg (bz_0.mp h63)] at hQ
      refine r_aload_n (pc := 155) dX11_line_155 rfl rfl ?_
      refine r_ldc2 (pc := 156) (x := 1751215716) q1843 dX11_line_156 (by decide +kernel) ?_
      refine r_callV1 (pc := 159) (M_isWordS (I := I) (J := J) (s := s) hs (by omega) fe_i) im_X11_isWord qs60 q2083 hs.o rfl dX11_line_159 (Nat.le_of_ble_eq_true rfl) (Nat.le_of_ble_eq_true rfl) rfl (k_fi ?_) (fun _ _ _ _ _ _ _ hx => no_x hx)
      refine r_if_eq (pc := 162) 170 dX11_line_162 rfl bz_g (fun h162 => ?_) (fun h162 => ?_)
      · rw [if_neg (bz_0.mp h162)] at hQ
        refine r_aload_n (pc := 170) dX11_line_170 rfl rfl ?_
        refine r_ldc2 (pc := 171) (x := 1751474544) q1844 dX11_line_171 (by decide +kernel) ?_
        refine r_callV1 (pc := 174) (M_isWordS (I := I) (J := J) (s := s) hs (by omega) fe_i) im_X11_isWord qs60 q2083 hs.o rfl dX11_line_174 (Nat.le_of_ble_eq_true rfl) (Nat.le_of_ble_eq_true rfl) rfl (k_fi ?_) (fun _ _ _ _ _ _ _ hx => no_x hx)
        refine r_if_eq (pc := 177) 185 dX11_line_177 rfl bz_g (fun h177 => ?_) (fun h177 => ?_)
        · rw [if_neg (bz_0.mp h177)] at hQ
          refine r_aload_n (pc := 185) dX11_line_185 rfl rfl ?_
          refine r_ldc2 (pc := 186) (x := 418346264942) q1845 dX11_line_186 (by decide +kernel) ?_
          refine r_callV1 (pc := 189) (M_isWordS (I := I) (J := J) (s := s) hs (by omega) fe_i) im_X11_isWord qs60 q2083 hs.o rfl dX11_line_189 (Nat.le_of_ble_eq_true rfl) (Nat.le_of_ble_eq_true rfl) rfl (k_fi ?_) (fun _ _ _ _ _ _ _ hx => no_x hx)
          refine r_if_eq (pc := 192) 226 dX11_line_192 rfl bz_g (fun h192 => ?_) (fun h192 => ?_)
          · rw [if_neg (bz_0.mp h192)] at hQ
            refine r_aload_n (pc := 226) dX11_line_226 rfl rfl ?_
            refine r_ldc2 (pc := 227) (x := 125779835448428) q1846 dX11_line_227 (by decide +kernel) ?_
            refine r_callV1 (pc := 230) (M_isWordS (I := I) (J := J) (s := s) hs (by omega) fe_i) im_X11_isWord qs60 q2083 hs.o rfl dX11_line_230 (Nat.le_of_ble_eq_true rfl) (Nat.le_of_ble_eq_true rfl) rfl (k_fi ?_) (fun _ _ _ _ _ _ _ hx => no_x hx)
            refine r_if_ne (pc := 233) 242 dX11_line_233 rfl bz_g (fun h233 => ?_) (fun h233 => ?_)
            · rw [if_neg (fun q => q (bz_ne.mp h233))] at hQ
              unfold g_refill at hQ
              refine r_aload_n (pc := 242) dX11_line_242 rfl rfl ?_
              refine r_geti (pc := 243) (c := 11) (k := 22) (kz := 22) hs.o cok_11 (Nat.le_of_ble_eq_true rfl) q1882 ⟨rfl, rfl⟩ (Or.inl rfl) rfl (fun _ _ _ => rfl) dX11_line_243 (fun hr243 => ?_)
              try simp (disch := omega) only [ui_ur, ui_ur_n, ur_sv, ur_nv, ui_sv, ui_nv, ui_uis, us_s, us_n] at hr243 ⊢
              refine r_if_eq (pc := 246) 255 dX11_line_246 rfl (by omega) (fun h246 => ?_) (fun h246 => ?_)
              · rw [if_neg (by omega)] at hQ
                refine r_aload_n (pc := 255) dX11_line_255 rfl rfl ?_
                refine r_iconst (pc := 256) dX11_line_256 ?_
                refine r_puti (pc := 257) (c := 11) (k := 22) (kz := 22) hs.o cok_11 (Nat.le_of_ble_eq_true rfl) q1882 ⟨rfl, rfl⟩ (Or.inl rfl) rfl (by omega) rfl rfl (by omega) (fun _ _ _ => rfl) ⟨rfl, rfl⟩ dX11_line_257 ?_
                try simp (disch := omega) only [ui_ur, ui_ur_n, ur_sv, ur_nv, ui_sv, ui_nv, ui_uis, us_s, us_n]
                refine r_aload_n (pc := 260) dX11_line_260 rfl rfl ?_
                have w1 : TSW (g_w 22 1 s) := hw.w (by omega) (by omega)
                refine r_callV0 (pc := 261) (M_nx (I := I) (J := J) (s := g_w 22 1 s) hs hτ ⟨w1.1.1, w1.1.2.1, w1.1.2.2.1⟩ fe_i) im_X11_next qs57 q2065 hs.o rfl dX11_line_261 (Nat.le_of_ble_eq_true rfl) (Nat.le_of_ble_eq_true rfl) rfl (k_fv ?_) (fun _ _ _ _ _ _ _ hx => no_x hx)
                have w2 := w1.nx (τ := τ)
                generalize g_nx τ (g_w 22 1 s) = t at *
                refine r_aload_n (pc := 264) dX11_line_264 rfl rfl ?_
                refine r_iconst (pc := 265) dX11_line_265 ?_
                refine r_bipush (pc := 266) dX11_line_266 (by decide +kernel) ?_
                refine r_callV2 (pc := 268) (M_takes (I := I) (J := J) (s := t) hs hτ w2.1 (by omega) (by omega) fe_i) im_X11_takes qs62 q2091 hs.o rfl dX11_line_268 (Nat.le_of_ble_eq_true rfl) (Nat.le_of_ble_eq_true rfl) rfl (k_fi ?_) (fun _ _ _ _ _ _ _ hx => no_x hx)
                have ok := (g_takes_ok (τ := τ) (lo := 0) (hi := 9) w2).1
                have tv := g_takes_v (τ := τ) (lo := 0) (hi := 9) (s := t)
                simp only at hQ
                generalize g_takes τ 0 9 t = r at *
                refine r_if_ne (pc := 271) 276 dX11_line_271 rfl (by omega) (fun h271 => ?_) (fun h271 => ?_)
                · rw [if_neg h271] at hQ
                  have tv := tv h271
                  refine r_aload_n (pc := 276) dX11_line_276 rfl rfl ?_
                  refine r_getr (pc := 277) (c := 11) (k := 7) (kz := 7) hs.o cok_11 (Nat.le_of_ble_eq_true rfl) q1867 ⟨rfl, rfl⟩ (Or.inl rfl) rfl (fun _ _ _ => rfl) hs.p_h dX11_line_277 ?_
                  refine r_iconst (pc := 280) dX11_line_280 ?_
                  refine r_aload_n (pc := 281) dX11_line_281 rfl rfl ?_
                  refine r_geti (pc := 282) (c := 11) (k := 18) (kz := 18) hs.o cok_11 (Nat.le_of_ble_eq_true rfl) q1878 ⟨rfl, rfl⟩ (Or.inl rfl) rfl (fun _ _ _ => rfl) dX11_line_282 (fun hr282 => ?_)
                  try simp (disch := omega) only [ui_ur, ui_ur_n, ur_sv, ur_nv, ui_sv, ui_nv, ui_uis, us_s, us_n] at hr282 ⊢
                  refine r_iast (pc := 285) hs.t_h (by omega) (by omega) (by omega) (by omega) dX11_line_285 ?_
                  try simp (disch := omega) only [ui_ur, ui_ur_n, ur_sv, ur_nv, ui_sv, ui_nv, ui_uis, us_s, us_n]
                  refine r_iconst (pc := 286) dX11_line_286 ?_
                  refine r_ireturn (pc := 287) rfl (nb_z (by omega)) dX11_line_287 (Nat.le_of_ble_eq_true rfl) (Nat.le_of_ble_eq_true rfl) ?_
                  exact hQ
                rw [if_pos h271, h271] at hQ
                refine r_iconst (pc := 274) dX11_line_274 ?_
                refine r_ireturn (pc := 275) rfl (nb_z (by omega)) dX11_line_275 (Nat.le_of_ble_eq_true rfl) (Nat.le_of_ble_eq_true rfl) ?_
                exact hQ
              rw [if_pos (by omega)] at hQ
              refine r_aload_n (pc := 249) dX11_line_249 rfl rfl ?_
              refine r_iconst (pc := 250) dX11_line_250 ?_
              refine r_callV1 (pc := 251) (M_badS (I := I) (J := J) (s := s) hs (by omega) fe_i) im_X11_bad qs61 q2087 hs.o rfl dX11_line_251 (Nat.le_of_ble_eq_true rfl) (Nat.le_of_ble_eq_true rfl) rfl (k_fi ?_) (fun _ _ _ _ _ _ _ hx => no_x hx)
              refine r_ireturn (pc := 254) rfl (nb_z (by omega)) dX11_line_254 (Nat.le_of_ble_eq_true rfl) (Nat.le_of_ble_eq_true rfl) ?_
              exact hQ
            rw [if_pos (bz_0.mp h233)] at hQ
            refine r_aload_n (pc := 236) dX11_line_236 rfl rfl ?_
            refine r_iconst (pc := 237) dX11_line_237 ?_
            refine r_callV1 (pc := 238) (M_badS (I := I) (J := J) (s := s) hs (by omega) fe_i) im_X11_bad qs61 q2087 hs.o rfl dX11_line_238 (Nat.le_of_ble_eq_true rfl) (Nat.le_of_ble_eq_true rfl) rfl (k_fi ?_) (fun _ _ _ _ _ _ _ hx => no_x hx)
            refine r_ireturn (pc := 241) rfl (nb_z (by omega)) dX11_line_241 (Nat.le_of_ble_eq_true rfl) (Nat.le_of_ble_eq_true rfl) ?_
            exact hQ
          rw [if_pos (bz_ne.mp h192)] at hQ
          unfold g_again at hQ
          refine r_aload_n (pc := 195) dX11_line_195 rfl rfl ?_
          refine r_geti (pc := 196) (c := 11) (k := 21) (kz := 21) hs.o cok_11 (Nat.le_of_ble_eq_true rfl) q1881 ⟨rfl, rfl⟩ (Or.inl rfl) rfl (fun _ _ _ => rfl) dX11_line_196 (fun hr196 => ?_)
          try simp (disch := omega) only [ui_ur, ui_ur_n, ur_sv, ur_nv, ui_sv, ui_nv, ui_uis, us_s, us_n] at hr196 ⊢
          refine r_if_eq (pc := 199) 208 dX11_line_199 rfl (by omega) (fun h199 => ?_) (fun h199 => ?_)
          · rw [if_neg (by omega)] at hQ
            refine r_aload_n (pc := 208) dX11_line_208 rfl rfl ?_
            refine r_iconst (pc := 209) dX11_line_209 ?_
            refine r_puti (pc := 210) (c := 11) (k := 21) (kz := 21) hs.o cok_11 (Nat.le_of_ble_eq_true rfl) q1881 ⟨rfl, rfl⟩ (Or.inl rfl) rfl (by omega) rfl rfl (by omega) (fun _ _ _ => rfl) ⟨rfl, rfl⟩ dX11_line_210 ?_
            try simp (disch := omega) only [ui_ur, ui_ur_n, ur_sv, ur_nv, ui_sv, ui_nv, ui_uis, us_s, us_n]
            refine r_aload_n (pc := 213) dX11_line_213 rfl rfl ?_
            refine r_getr (pc := 214) (c := 11) (k := 7) (kz := 7) hs.o cok_11 (Nat.le_of_ble_eq_true rfl) q1867 ⟨rfl, rfl⟩ (Or.inl rfl) rfl (fun _ _ _ => rfl) hs.p_h dX11_line_214 ?_
            refine r_iconst (pc := 217) dX11_line_217 ?_
            refine r_iconst (pc := 218) dX11_line_218 ?_
            refine r_iast (pc := 219) hs.t_h (by omega) (by omega) (by omega) (by omega) dX11_line_219 ?_
            try simp (disch := omega) only [ui_ur, ui_ur_n, ur_sv, ur_nv, ui_sv, ui_nv, ui_uis, us_s, us_n]
            refine r_aload_n (pc := 220) dX11_line_220 rfl rfl ?_
            have w1 : TSW (g_w 21 1 s) := hw.w (by omega) (by omega)
            refine r_callV0 (pc := 221) (M_nx (I := I) (J := J) (s := g_h 2 1 (g_w 21 1 s)) hs hτ ⟨w1.1.1, w1.1.2.1, w1.1.2.2.1⟩ fe_i) im_X11_next qs57 q2065 hs.o rfl dX11_line_221 (Nat.le_of_ble_eq_true rfl) (Nat.le_of_ble_eq_true rfl) rfl (k_fv ?_) (fun _ _ _ _ _ _ _ hx => no_x hx)
            refine r_iconst (pc := 224) dX11_line_224 ?_
            refine r_ireturn (pc := 225) rfl (nb_z (by omega)) dX11_line_225 (Nat.le_of_ble_eq_true rfl) (Nat.le_of_ble_eq_true rfl) ?_
            exact hQ
          rw [if_pos (by omega)] at hQ
          refine r_aload_n (pc := 202) dX11_line_202 rfl rfl ?_
          refine r_iconst (pc := 203) dX11_line_203 ?_
          refine r_callV1 (pc := 204) (M_badS (I := I) (J := J) (s := s) hs (by omega) fe_i) im_X11_bad qs61 q2087 hs.o rfl dX11_line_204 (Nat.le_of_ble_eq_true rfl) (Nat.le_of_ble_eq_true rfl) rfl (k_fi ?_) (fun _ _ _ _ _ _ _ hx => no_x hx)
          refine r_ireturn (pc := 207) rfl (nb_z (by omega)) dX11_line_207 (Nat.le_of_ble_eq_true rfl) (Nat.le_of_ble_eq_true rfl) ?_
          exact hQ
        rw [if_pos (bz_ne.mp h177)] at hQ
        refine r_aload_n (pc := 180) dX11_line_180 rfl rfl ?_
        have ok := (g_heap_ok (τ := τ) 950 (hw.nx (τ := τ)) (by have := (hw.nx (τ := τ)).1; unfold TI at this; omega)).1
        refine r_callV0 (pc := 181) (M_readHeap (I := I) (J := J) (s := s) hs hτ hw fe_i) im_X11_readHeap qs66 q2110 hs.o rfl dX11_line_181 (Nat.le_of_ble_eq_true rfl) (Nat.le_of_ble_eq_true rfl) rfl (k_fi ?_) (fun _ _ _ _ _ _ _ hx => no_x hx)
        refine r_ireturn (pc := 184) rfl (nb_z (by omega)) dX11_line_184 (Nat.le_of_ble_eq_true rfl) (Nat.le_of_ble_eq_true rfl) ?_
        exact hQ
      rw [if_pos (bz_ne.mp h162)] at hQ
      refine r_aload_n (pc := 165) dX11_line_165 rfl rfl ?_
      have ok := (g_hand1_ok (τ := τ) (ρ := ρ) (hw.nx (τ := τ))).1
      refine r_callV0 (pc := 166) (M_readHand (I := I) (J := J) (s := s) hs hτ hρ hw fe_i) im_X11_readHand qs65 q2106 hs.o rfl dX11_line_166 (Nat.le_of_ble_eq_true rfl) (Nat.le_of_ble_eq_true rfl) rfl (k_fi ?_) (fun _ _ _ _ _ _ _ hx => no_x hx)
      refine r_ireturn (pc := 169) rfl (nb_z (by omega)) dX11_line_169 (Nat.le_of_ble_eq_true rfl) (Nat.le_of_ble_eq_true rfl) ?_
      exact hQ
    rw [if_pos (bz_ne.mp h63)] at hQ
    unfold g_person at hQ
    refine r_aload_n (pc := 66) dX11_line_66 rfl rfl ?_
    refine r_getr (pc := 67) (c := 11) (k := 7) (kz := 7) hs.o cok_11 (Nat.le_of_ble_eq_true rfl) q1867 ⟨rfl, rfl⟩ (Or.inl rfl) rfl (fun _ _ _ => rfl) hs.p_h dX11_line_67 ?_
    refine r_iconst (pc := 70) dX11_line_70 ?_
    refine r_iald (pc := 71) hs.t_h (by omega) (by omega) dX11_line_71 (fun hr71 => ?_)
    try simp (disch := omega) only [ui_ur, ui_ur_n, ur_sv, ur_nv, ui_sv, ui_nv, ui_uis, us_s, us_n] at hr71 ⊢
    refine r_bipush (pc := 72) dX11_line_72 (by decide +kernel) ?_
    refine r_icmp_ne (pc := 74) 83 dX11_line_74 rfl (by omega) (by omega) (fun h74 => ?_) (fun h74 => ?_)
    · rw [if_neg (by omega)] at hQ
      refine r_aload_n (pc := 83) dX11_line_83 rfl rfl ?_
      refine r_callV0 (pc := 84) (M_nx (I := I) (J := J) (s := s) hs hτ hp0 fe_i) im_X11_next qs57 q2065 hs.o rfl dX11_line_84 (Nat.le_of_ble_eq_true rfl) (Nat.le_of_ble_eq_true rfl) rfl (k_fv ?_) (fun _ _ _ _ _ _ _ hx => no_x hx)
      have w2 := hw.nx (τ := τ)
      have e1 : (g_nx τ s).2.2.1 = s.2.2.1 := rfl
      rw [← e1] at h74
      generalize g_nx τ s = t at *
      have p1 := w2.2.1.2.1
      unfold g_person1 at hQ
      refine r_aload_n (pc := 87) dX11_line_87 rfl rfl ?_
      refine r_callV0 (pc := 88) (M_isNameS (I := I) (J := J) (s := t) hs hρ fe_i) im_X11_isName qs63 q2098 hs.o rfl dX11_line_88 (Nat.le_of_ble_eq_true rfl) (Nat.le_of_ble_eq_true rfl) rfl (k_fi ?_) (fun _ _ _ _ _ _ _ hx => no_x hx)
      refine r_if_ne (pc := 91) 100 dX11_line_91 rfl bz_g (fun h91 => ?_) (fun h91 => ?_)
      · rw [if_neg (fun q => q (bz_ne.mp h91))] at hQ
        refine r_aload_n (pc := 100) dX11_line_100 rfl rfl ?_
        refine r_bipush (pc := 101) dX11_line_101 (by decide +kernel) ?_
        refine r_aload_n (pc := 103) dX11_line_103 rfl rfl ?_
        refine r_getr (pc := 104) (c := 11) (k := 7) (kz := 7) hs.o cok_11 (Nat.le_of_ble_eq_true rfl) q1867 ⟨rfl, rfl⟩ (Or.inl rfl) rfl (fun _ _ _ => rfl) hs.p_h dX11_line_104 ?_
        refine r_iconst (pc := 107) dX11_line_107 ?_
        refine r_iald (pc := 108) hs.t_h (by omega) (by omega) dX11_line_108 (fun hr108 => ?_)
        try simp (disch := omega) only [ui_ur, ui_ur_n, ur_sv, ur_nv, ui_sv, ui_nv, ui_uis, us_s, us_n] at hr108 ⊢
        refine r_callV2 (pc := 109) (M_findS (I := I) (J := J) (s := t) hs p1 fe_i) im_X11_find qs64 q2102 hs.o rfl dX11_line_109 (Nat.le_of_ble_eq_true rfl) (Nat.le_of_ble_eq_true rfl) rfl (k_fi ?_) (fun _ _ _ _ _ _ _ hx => no_x hx)
        have kr := t_find_r (ν := t.2.2.2) (w := t.2.1) (f := 6) (t.2.2.1 1).toNat 0 (by omega)
        refine r_if_lt (pc := 112) 121 dX11_line_112 rfl (by omega) (fun h112 => ?_) (fun h112 => ?_)
        · rw [if_neg (by omega)] at hQ
          refine r_aload_n (pc := 121) dX11_line_121 rfl rfl ?_
          refine r_getr (pc := 122) (c := 11) (k := 9) (kz := 9) hs.o cok_11 (Nat.le_of_ble_eq_true rfl) q1869 ⟨rfl, rfl⟩ (Or.inl rfl) rfl (fun _ _ _ => rfl) hs.p_names dX11_line_122 ?_
          refine r_bipush (pc := 125) dX11_line_125 (by decide +kernel) ?_
          refine r_aload_n (pc := 127) dX11_line_127 rfl rfl ?_
          refine r_getr (pc := 128) (c := 11) (k := 7) (kz := 7) hs.o cok_11 (Nat.le_of_ble_eq_true rfl) q1867 ⟨rfl, rfl⟩ (Or.inl rfl) rfl (fun _ _ _ => rfl) hs.p_h dX11_line_128 ?_
          refine r_iconst (pc := 131) dX11_line_131 ?_
          refine r_iald (pc := 132) hs.t_h (by omega) (by omega) dX11_line_132 (fun hr132 => ?_)
          try simp (disch := omega) only [ui_ur, ui_ur_n, ur_sv, ur_nv, ui_sv, ui_nv, ui_uis, us_s, us_n] at hr132 ⊢
          refine r_iadd (pc := 133) dX11_line_133 ?_
          refine r_aload_n (pc := 134) dX11_line_134 rfl rfl ?_
          refine r_getj (pc := 135) (c := 11) (k := 17) (kz := 17) hs.o cok_11 (Nat.le_of_ble_eq_true rfl) q1877 ⟨rfl, rfl⟩ (Or.inl rfl) rfl (fun _ _ _ => rfl) dX11_line_135 (fun hr135 => ?_)
          try simp (disch := omega) only [ui_ur, ui_ur_n, ur_sv, ur_nv, ui_sv, ui_nv, ui_uis, us_s, us_n] at hr135 ⊢
          refine r_last (pc := 138) hs.t_names (by omega) (by omega) (by omega) (by omega) dX11_line_138 ?_
          try simp (disch := omega) only [ui_ur, ui_ur_n, ur_sv, ur_nv, ui_sv, ui_nv, ui_uis, us_s, us_n]
          refine r_aload_n (pc := 139) dX11_line_139 rfl rfl ?_
          refine r_getr (pc := 140) (c := 11) (k := 7) (kz := 7) hs.o cok_11 (Nat.le_of_ble_eq_true rfl) q1867 ⟨rfl, rfl⟩ (Or.inl rfl) rfl (fun _ _ _ => rfl) hs.p_h dX11_line_140 ?_
          refine r_iconst (pc := 143) dX11_line_143 ?_
          refine r_dup2 (pc := 144) dX11_line_144 rfl rfl ?_
          refine r_iald (pc := 145) hs.t_h (by omega) (by omega) dX11_line_145 (fun hr145 => ?_)
          try simp (disch := omega) only [ui_ur, ui_ur_n, ur_sv, ur_nv, ui_sv, ui_nv, ui_uis, us_s, us_n] at hr145 ⊢
          refine r_iconst (pc := 146) dX11_line_146 ?_
          refine r_iadd (pc := 147) dX11_line_147 ?_
          refine r_iast (pc := 148) hs.t_h (by omega) (by omega) (by omega) (by omega) dX11_line_148 ?_
          try simp (disch := omega) only [ui_ur, ui_ur_n, ur_sv, ur_nv, ui_sv, ui_nv, ui_uis, us_s, us_n]
          refine r_aload_n (pc := 149) dX11_line_149 rfl rfl ?_
          refine r_callV0 (pc := 150) (M_nx (I := I) (J := J) (s := g_h 1 (t.2.2.1 1 + 1) (g_n (6 + t.2.2.1 1) t.2.1 t)) hs hτ ⟨w2.1.1, w2.1.2.1, w2.1.2.2.1⟩ fe_i) im_X11_next qs57 q2065 hs.o rfl dX11_line_150 (Nat.le_of_ble_eq_true rfl) (Nat.le_of_ble_eq_true rfl) rfl (k_fv ?_) (fun _ _ _ _ _ _ _ hx => no_x hx)
          refine r_iconst (pc := 153) dX11_line_153 ?_
          refine r_ireturn (pc := 154) rfl (nb_z (by omega)) dX11_line_154 (Nat.le_of_ble_eq_true rfl) (Nat.le_of_ble_eq_true rfl) ?_
          exact hQ
        rw [if_pos (by omega)] at hQ
        refine r_aload_n (pc := 115) dX11_line_115 rfl rfl ?_
        refine r_iconst (pc := 116) dX11_line_116 ?_
        refine r_callV1 (pc := 117) (M_badS (I := I) (J := J) (s := t) hs (by omega) fe_i) im_X11_bad qs61 q2087 hs.o rfl dX11_line_117 (Nat.le_of_ble_eq_true rfl) (Nat.le_of_ble_eq_true rfl) rfl (k_fi ?_) (fun _ _ _ _ _ _ _ hx => no_x hx)
        refine r_ireturn (pc := 120) rfl (nb_z (by omega)) dX11_line_120 (Nat.le_of_ble_eq_true rfl) (Nat.le_of_ble_eq_true rfl) ?_
        exact hQ
      rw [if_pos (bz_0.mp h91)] at hQ
      refine r_aload_n (pc := 94) dX11_line_94 rfl rfl ?_
      refine r_iconst (pc := 95) dX11_line_95 ?_
      refine r_callV1 (pc := 96) (M_badS (I := I) (J := J) (s := t) hs (by omega) fe_i) im_X11_bad qs61 q2087 hs.o rfl dX11_line_96 (Nat.le_of_ble_eq_true rfl) (Nat.le_of_ble_eq_true rfl) rfl (k_fi ?_) (fun _ _ _ _ _ _ _ hx => no_x hx)
      refine r_ireturn (pc := 99) rfl (nb_z (by omega)) dX11_line_99 (Nat.le_of_ble_eq_true rfl) (Nat.le_of_ble_eq_true rfl) ?_
      exact hQ
    rw [if_pos (by omega)] at hQ
    refine r_aload_n (pc := 77) dX11_line_77 rfl rfl ?_
    refine r_iconst (pc := 78) dX11_line_78 ?_
    refine r_callV1 (pc := 79) (M_badS (I := I) (J := J) (s := s) hs (by omega) fe_i) im_X11_bad qs61 q2087 hs.o rfl dX11_line_79 (Nat.le_of_ble_eq_true rfl) (Nat.le_of_ble_eq_true rfl) rfl (k_fi ?_) (fun _ _ _ _ _ _ _ hx => no_x hx)
    refine r_ireturn (pc := 82) rfl (nb_z (by omega)) dX11_line_82 (Nat.le_of_ble_eq_true rfl) (Nat.le_of_ble_eq_true rfl) ?_
    exact hQ
  rw [if_pos (bz_ne.mp h7)] at hQ
  unfold g_kinds at hQ
  refine r_aload_n (pc := 10) dX11_line_10 rfl rfl ?_
  refine r_geti (pc := 11) (c := 11) (k := 20) (kz := 20) hs.o cok_11 (Nat.le_of_ble_eq_true rfl) q1880 ⟨rfl, rfl⟩ (Or.inl rfl) rfl (fun _ _ _ => rfl) dX11_line_11 (fun hr11 => ?_)
  try simp (disch := omega) only [ui_ur, ui_ur_n, ur_sv, ur_nv, ui_sv, ui_nv, ui_uis, us_s, us_n] at hr11 ⊢
  refine r_if_eq (pc := 14) 23 dX11_line_14 rfl (by omega) (fun h14 => ?_) (fun h14 => ?_)
  · rw [if_neg (by omega)] at hQ
    refine r_aload_n (pc := 23) dX11_line_23 rfl rfl ?_
    refine r_iconst (pc := 24) dX11_line_24 ?_
    refine r_puti (pc := 25) (c := 11) (k := 20) (kz := 20) hs.o cok_11 (Nat.le_of_ble_eq_true rfl) q1880 ⟨rfl, rfl⟩ (Or.inl rfl) rfl (by omega) rfl rfl (by omega) (fun _ _ _ => rfl) ⟨rfl, rfl⟩ dX11_line_25 ?_
    try simp (disch := omega) only [ui_ur, ui_ur_n, ur_sv, ur_nv, ui_sv, ui_nv, ui_uis, us_s, us_n]
    refine r_aload_n (pc := 28) dX11_line_28 rfl rfl ?_
    have w1 : TSW (g_w 20 1 s) := hw.w (by omega) (by omega)
    refine r_callV0 (pc := 29) (M_nx (I := I) (J := J) (s := g_w 20 1 s) hs hτ ⟨w1.1.1, w1.1.2.1, w1.1.2.2.1⟩ fe_i) im_X11_next qs57 q2065 hs.o rfl dX11_line_29 (Nat.le_of_ble_eq_true rfl) (Nat.le_of_ble_eq_true rfl) rfl (k_fv ?_) (fun _ _ _ _ _ _ _ hx => no_x hx)
    have w2 := w1.nx (τ := τ)
    generalize g_nx τ (g_w 20 1 s) = t at *
    refine r_aload_n (pc := 32) dX11_line_32 rfl rfl ?_
    refine r_iconst (pc := 33) dX11_line_33 ?_
    refine r_bipush (pc := 34) dX11_line_34 (by decide +kernel) ?_
    refine r_callV2 (pc := 36) (M_takes (I := I) (J := J) (s := t) hs hτ w2.1 (by omega) (by omega) fe_i) im_X11_takes qs62 q2091 hs.o rfl dX11_line_36 (Nat.le_of_ble_eq_true rfl) (Nat.le_of_ble_eq_true rfl) rfl (k_fi ?_) (fun _ _ _ _ _ _ _ hx => no_x hx)
    have ok := (g_takes_ok (τ := τ) (lo := 2) (hi := 13) w2).1
    have tv := g_takes_v (τ := τ) (lo := 2) (hi := 13) (s := t)
    simp only at hQ
    generalize g_takes τ 2 13 t = r at *
    refine r_if_ne (pc := 39) 44 dX11_line_39 rfl (by omega) (fun h39 => ?_) (fun h39 => ?_)
    · rw [if_neg h39] at hQ
      have tv := tv h39
      refine r_aload_n (pc := 44) dX11_line_44 rfl rfl ?_
      refine r_getr (pc := 45) (c := 11) (k := 7) (kz := 7) hs.o cok_11 (Nat.le_of_ble_eq_true rfl) q1867 ⟨rfl, rfl⟩ (Or.inl rfl) rfl (fun _ _ _ => rfl) hs.p_h dX11_line_45 ?_
      refine r_iconst (pc := 48) dX11_line_48 ?_
      refine r_aload_n (pc := 49) dX11_line_49 rfl rfl ?_
      refine r_geti (pc := 50) (c := 11) (k := 18) (kz := 18) hs.o cok_11 (Nat.le_of_ble_eq_true rfl) q1878 ⟨rfl, rfl⟩ (Or.inl rfl) rfl (fun _ _ _ => rfl) dX11_line_50 (fun hr50 => ?_)
      try simp (disch := omega) only [ui_ur, ui_ur_n, ur_sv, ur_nv, ui_sv, ui_nv, ui_uis, us_s, us_n] at hr50 ⊢
      refine r_iast (pc := 53) hs.t_h (by omega) (by omega) (by omega) (by omega) dX11_line_53 ?_
      try simp (disch := omega) only [ui_ur, ui_ur_n, ur_sv, ur_nv, ui_sv, ui_nv, ui_uis, us_s, us_n]
      refine r_iconst (pc := 54) dX11_line_54 ?_
      refine r_ireturn (pc := 55) rfl (nb_z (by omega)) dX11_line_55 (Nat.le_of_ble_eq_true rfl) (Nat.le_of_ble_eq_true rfl) ?_
      exact hQ
    rw [if_pos h39, h39] at hQ
    refine r_iconst (pc := 42) dX11_line_42 ?_
    refine r_ireturn (pc := 43) rfl (nb_z (by omega)) dX11_line_43 (Nat.le_of_ble_eq_true rfl) (Nat.le_of_ble_eq_true rfl) ?_
    exact hQ
  rw [if_pos (by omega)] at hQ
  refine r_aload_n (pc := 17) dX11_line_17 rfl rfl ?_
  refine r_iconst (pc := 18) dX11_line_18 ?_
  refine r_callV1 (pc := 19) (M_badS (I := I) (J := J) (s := s) hs (by omega) fe_i) im_X11_bad qs61 q2087 hs.o rfl dX11_line_19 (Nat.le_of_ble_eq_true rfl) (Nat.le_of_ble_eq_true rfl) rfl (k_fi ?_) (fun _ _ _ _ _ _ _ hx => no_x hx)
  refine r_ireturn (pc := 22) rfl (nb_z (by omega)) dX11_line_22 (Nat.le_of_ble_eq_true rfl) (Nat.le_of_ble_eq_true rfl) ?_
  exact hQ
end M12
