/-! ===== the model: the next token ===== -/
section M9
variable {G : GE} {I J : HI} {P : HP} {T : HT} {z : Nat} {m d : Nat} {Q : QT} {σ u τ ω : Int → Int} {w : Int}
theorem M_nextRun {ω1 : Int → Int} {c small : Int} (hs : shM G P T m) (hsm : 0 ≤ small ∧ small ≤ 1) (hn : ω1 3 ≤ 940) : ∀ (k : Nat) (al w nu sp p : Int), 0 ≤ al → al ≤ 1 → 0 ≤ sp → sp ≤ p → p ≤ ω1 3 → ω1 3 - p = k → 0 ≤ w → (sp < 7 → w < 256 ^ sp.toNat) → w < 72057594037927936 → 0 ≤ nu → (sp = 0 → nu = 0) → (sp = 1 → nu ≤ 200) → (sp = 2 → nu ≤ 2300) → nu ≤ 30000 →
    Q none (ur I m (us (us (us (us ω1 14 (t_wd (I (m + 1)) (ω1 3) small k (al, w, nu, sp, p)).2.2.1) 13 (t_wd (I (m + 1)) (ω1 3) small k (al, w, nu, sp, p)).2.2.2.1) 4 (t_wd (I (m + 1)) (ω1 3) small k (al, w, nu, sp, p)).2.2.2.2) 11 (t_kind small (t_wd (I (m + 1)) (ω1 3) small k (al, w, nu, sp, p))))) (ui J m 17 (t_wd (I (m + 1)) (ω1 3) small k (al, w, nu, sp, p)).2.1) P T z →
    PW G mX11_next (rmD (d + 1) 0 0) (MZ G Q nX 0 0) 0 0 (ur I m (us (us (us ω1 14 nu) 13 sp) 4 p)) (ui J m 17 w) P T z 181 [some (.ref m), some (iv c), some (iv small), some (iv al)] [] := by
  have hb := hs.b
  have stop : ∀ (al w nu sp p : Int), 0 ≤ al → al ≤ 1 → 0 ≤ sp → sp ≤ 940 → Q none (ur I m (us (us (us (us ω1 14 nu) 13 sp) 4 p) 11 (t_kind small (al, w, nu, sp, p)))) (ui J m 17 w) P T z → PW G mX11_next (rmD (d + 1) 0 0) (MZ G Q nX 0 0) 0 0 (ur I m (us (us (us ω1 14 nu) 13 sp) 4 p)) (ui J m 17 w) P T z 298 [some (.ref m), some (iv c), some (iv small), some (iv al)] [] := by
    intro al w nu sp p a0 a1 s0 s1 hQ
    unfold t_kind at hQ
    simp only at hQ
    have bad : (al = 0 ∨ (if small = 0 then 3 else 7) < sp) → PW G mX11_next (rmD (d + 1) 0 0) (MZ G Q nX 0 0) 0 0 (ur I m (us (us (us ω1 14 nu) 13 sp) 4 p)) (ui J m 17 w) P T z 320 [some (.ref m), some (iv c), some (iv small), some (iv al)] [.ref m] := by
      intro hc
      rw [if_pos hc] at hQ
      refine r_iconst (pc := 320) dX11_next_320 ?_
      refine r_goto (pc := 321) 333 dX11_next_321 rfl ?_
      refine r_puti (pc := 333) (c := 11) (k := 11) (kz := 11) hs.o cok_11 (Nat.le_of_ble_eq_true rfl) q1871 ⟨rfl, rfl⟩ (Or.inl rfl) rfl (by omega) rfl rfl (by omega) (fun _ _ _ => rfl) ⟨rfl, rfl⟩ dX11_next_333 ?_
      try simp (disch := omega) only [ui_ur, ui_ur_n, ur_sv, ur_nv, ui_sv, ui_nv, ui_uis, us_s, us_n]
      refine r_return (pc := 336) rfl dX11_next_336 (Nat.le_of_ble_eq_true rfl) (Nat.le_of_ble_eq_true rfl) ?_
      exact hQ
    have good : ¬ (al = 0 ∨ (if small = 0 then 3 else 7) < sp) → PW G mX11_next (rmD (d + 1) 0 0) (MZ G Q nX 0 0) 0 0 (ur I m (us (us (us ω1 14 nu) 13 sp) 4 p)) (ui J m 17 w) P T z 324 [some (.ref m), some (iv c), some (iv small), some (iv al)] [.ref m] := by
      intro hc
      rw [if_neg hc] at hQ
      refine r_iload_n (pc := 324) dX11_next_324 rfl rfl ?_
      refine r_if_eq (pc := 325) 332 dX11_next_325 rfl (by omega) (fun h325 => ?_) (fun h325 => ?_)
      · rw [if_pos h325] at hQ
        refine r_iconst (pc := 332) dX11_next_332 ?_
        refine r_puti (pc := 333) (c := 11) (k := 11) (kz := 11) hs.o cok_11 (Nat.le_of_ble_eq_true rfl) q1871 ⟨rfl, rfl⟩ (Or.inl rfl) rfl (by omega) rfl rfl (by omega) (fun _ _ _ => rfl) ⟨rfl, rfl⟩ dX11_next_333 ?_
        try simp (disch := omega) only [ui_ur, ui_ur_n, ur_sv, ur_nv, ui_sv, ui_nv, ui_uis, us_s, us_n]
        refine r_return (pc := 336) rfl dX11_next_336 (Nat.le_of_ble_eq_true rfl) (Nat.le_of_ble_eq_true rfl) ?_
        exact hQ
      rw [if_neg h325] at hQ
      refine r_iconst (pc := 328) dX11_next_328 ?_
      refine r_goto (pc := 329) 333 dX11_next_329 rfl ?_
      refine r_puti (pc := 333) (c := 11) (k := 11) (kz := 11) hs.o cok_11 (Nat.le_of_ble_eq_true rfl) q1871 ⟨rfl, rfl⟩ (Or.inl rfl) rfl (by omega) rfl rfl (by omega) (fun _ _ _ => rfl) ⟨rfl, rfl⟩ dX11_next_333 ?_
      try simp (disch := omega) only [ui_ur, ui_ur_n, ur_sv, ur_nv, ui_sv, ui_nv, ui_uis, us_s, us_n]
      refine r_return (pc := 336) rfl dX11_next_336 (Nat.le_of_ble_eq_true rfl) (Nat.le_of_ble_eq_true rfl) ?_
      exact hQ
    refine r_aload_n (pc := 298) dX11_next_298 rfl rfl ?_
    refine r_iload_n (pc := 299) dX11_next_299 rfl rfl ?_
    refine r_if_eq (pc := 300) 320 dX11_next_300 rfl (by omega) (fun h300 => ?_) (fun h300 => ?_)
    · exact bad (Or.inl h300)
    refine r_aload_n (pc := 303) dX11_next_303 rfl rfl ?_
    refine r_geti (pc := 304) (c := 11) (k := 13) (kz := 13) hs.o cok_11 (Nat.le_of_ble_eq_true rfl) q1873 ⟨rfl, rfl⟩ (Or.inl rfl) rfl (fun _ _ _ => rfl) dX11_next_304 (fun hr304 => ?_)
    try simp (disch := omega) only [ui_ur, ui_ur_n, ur_sv, ur_nv, ui_sv, ui_nv, ui_uis, us_s, us_n] at hr304 ⊢
    refine r_iload_n (pc := 307) dX11_next_307 rfl rfl ?_
    refine r_if_eq (pc := 308) 316 dX11_next_308 rfl (by omega) (fun h308 => ?_) (fun h308 => ?_)
    · rw [if_pos h308] at bad good
      refine r_iconst (pc := 316) dX11_next_316 ?_
      refine r_icmp_le (pc := 317) 324 dX11_next_317 rfl (by omega) (by omega) (fun h317 => ?_) (fun h317 => ?_)
      · exact good (by omega)
      exact bad (by omega)
    rw [if_neg h308] at bad good
    refine r_bipush (pc := 311) dX11_next_311 (by decide +kernel) ?_
    refine r_goto (pc := 313) 317 dX11_next_313 rfl ?_
    refine r_icmp_le (pc := 317) 324 dX11_next_317 rfl (by omega) (by omega) (fun h317 => ?_) (fun h317 => ?_)
    · exact good (by omega)
    exact bad (by omega)
  intro k
  induction k with
  | zero =>
    intro al w nu sp p a0 a1 s0 s1 p0 p1 w0 w1 w2 n0 n1 n2 n3 n4 hQ
    have e : pk (I (m + 1)) (ω1 3) p = -1 := by unfold pk; rw [if_neg (by omega)]
    refine r_aload_n (pc := 181) dX11_next_181 rfl rfl ?_
    refine r_callV0 (pc := 182) (M_peek (ω := us (us (us ω1 14 nu) 13 sp) 4 p) hs (by rw [us_s, us_n (by omega), us_n (by omega), us_n (by omega)]; omega) fe_i) im_X11_peek qs58 q2069 hs.o rfl dX11_next_182 (Nat.le_of_ble_eq_true rfl) (Nat.le_of_ble_eq_true rfl) rfl (k_fi ?_) (fun _ _ _ _ _ _ _ hx => no_x hx)
    try simp (disch := omega) only [ui_ur, ui_ur_n, ur_sv, ur_nv, ui_sv, ui_nv, ui_uis, us_s, us_n]
    rw [e]
    refine r_callS1 (pc := 185) (M_isSmall (by omega) fe_i) im_X11_isSmall q2073 dX11_next_185 (Nat.le_of_ble_eq_true rfl) (Nat.le_of_ble_eq_true rfl) rfl (k_fi ?_) (fun _ _ _ _ _ _ _ hx => no_x hx)
    refine r_if_ne (pc := 188) 201 dX11_next_188 rfl bz_g (fun h188 => ?_) (fun h188 => ?_)
    · exact absurd (bz_ne.mp h188) (by decide)
    refine r_aload_n (pc := 191) dX11_next_191 rfl rfl ?_
    refine r_callV0 (pc := 192) (M_peek (ω := us (us (us ω1 14 nu) 13 sp) 4 p) hs (by rw [us_s, us_n (by omega), us_n (by omega), us_n (by omega)]; omega) fe_i) im_X11_peek qs58 q2069 hs.o rfl dX11_next_192 (Nat.le_of_ble_eq_true rfl) (Nat.le_of_ble_eq_true rfl) rfl (k_fi ?_) (fun _ _ _ _ _ _ _ hx => no_x hx)
    try simp (disch := omega) only [ui_ur, ui_ur_n, ur_sv, ur_nv, ui_sv, ui_nv, ui_uis, us_s, us_n]
    rw [e]
    refine r_callS1 (pc := 195) (M_isDigit (by omega) fe_i) im_X11_isDigit q2076 dX11_next_195 (Nat.le_of_ble_eq_true rfl) (Nat.le_of_ble_eq_true rfl) rfl (k_fi ?_) (fun _ _ _ _ _ _ _ hx => no_x hx)
    refine r_if_eq (pc := 198) 298 dX11_next_198 rfl bz_g (fun h198 => ?_) (fun h198 => ?_)
    · exact stop al w nu sp p a0 a1 s0 (by omega) hQ
    exact absurd (bz_ne.mp h198) (by decide)
  | succ k ih =>
    intro al w nu sp p a0 a1 s0 s1 p0 p1 w0 w1 w2 n0 n1 n2 n3 n4 hQ
    have pr := pk_r (τ := I (m + 1)) (n := ω1 3) (p := p)
    unfold t_wd at hQ
    have body : (isS (pk (I (m + 1)) (ω1 3) p) ∨ isD (pk (I (m + 1)) (ω1 3) p)) → PW G mX11_next (rmD (d + 1) 0 0) (MZ G Q nX 0 0) 0 0 (ur I m (us (us (us ω1 14 nu) 13 sp) 4 p)) (ui J m 17 w) P T z 201 [some (.ref m), some (iv c), some (iv small), some (iv al)] [] := by
      intro hc
      rw [if_pos hc] at hQ
      have nx := ih _ _ _ _ _ bz_r.1 bz_r.2 (by omega) (by omega) (by omega) (by omega) ?_ ?_ ?_ ?_ ?_ ?_ ?_ ?_ hQ
      rotate_left
      · split <;> omega
      · intro h
        rw [if_pos (by omega), show (sp + 1).toNat = sp.toNat + 1 by omega, Int.pow_succ]
        have := w1 (by omega)
        omega
      · split
        · rename_i h7
          have := w1 h7
          have h6' := p256 (s := sp.toNat) (by omega)
          omega
        · exact w2
      · split <;> omega
      · omega
      · intro h; rw [if_pos (by omega)]; have := n1 (by omega); omega
      · intro h; rw [if_pos (by omega)]; have := n2 (by omega); omega
      · split
        · by_cases g0 : sp = 0
          · have := n1 g0; omega
          · by_cases g1 : sp = 1
            · have := n2 g1; omega
            · have := n3 (by omega); omega
        · exact n4
      have hc2 : 48 ≤ pk (I (m + 1)) (ω1 3) p := by omega
      have tail : ∀ (w' nu' : Int), w' = (if sp < 7 then w * 256 + pk (I (m + 1)) (ω1 3) p else w) → nu' = (if sp < 3 then 10 * nu + pk (I (m + 1)) (ω1 3) p - 48 else nu) → PW G mX11_next (rmD (d + 1) 0 0) (MZ G Q nX 0 0) 0 0 (ur I m (us (us (us (us ω1 14 nu) 13 sp) 4 p) 14 nu')) (ui J m 17 w') P T z 275 [some (.ref m), some (iv c), some (iv small), some (iv (bz (al ≠ 0 ∧ bz (isS (pk (I (m + 1)) (ω1 3) p)) = small)))] [] := by
        intro w' nu' e1 e2
        subst e1
        subst e2
        refine r_aload_n (pc := 275) dX11_next_275 rfl rfl ?_
        refine r_dup (pc := 276) dX11_next_276 rfl ?_
        refine r_geti (pc := 277) (c := 11) (k := 13) (kz := 13) hs.o cok_11 (Nat.le_of_ble_eq_true rfl) q1873 ⟨rfl, rfl⟩ (Or.inl rfl) rfl (fun _ _ _ => rfl) dX11_next_277 (fun hr277 => ?_)
        try simp (disch := omega) only [ui_ur, ui_ur_n, ur_sv, ur_nv, ui_sv, ui_nv, ui_uis, us_s, us_n] at hr277 ⊢
        refine r_iconst (pc := 280) dX11_next_280 ?_
        refine r_iadd (pc := 281) dX11_next_281 ?_
        refine r_puti (pc := 282) (c := 11) (k := 13) (kz := 13) hs.o cok_11 (Nat.le_of_ble_eq_true rfl) q1873 ⟨rfl, rfl⟩ (Or.inl rfl) rfl (by omega) rfl rfl (by omega) (fun _ _ _ => rfl) ⟨rfl, rfl⟩ dX11_next_282 ?_
        try simp (disch := omega) only [ui_ur, ui_ur_n, ur_sv, ur_nv, ui_sv, ui_nv, ui_uis, us_s, us_n]
        refine r_aload_n (pc := 285) dX11_next_285 rfl rfl ?_
        refine r_dup (pc := 286) dX11_next_286 rfl ?_
        refine r_geti (pc := 287) (c := 11) (k := 4) (kz := 4) hs.o cok_11 (Nat.le_of_ble_eq_true rfl) q1864 ⟨rfl, rfl⟩ (Or.inl rfl) rfl (fun _ _ _ => rfl) dX11_next_287 (fun hr287 => ?_)
        try simp (disch := omega) only [ui_ur, ui_ur_n, ur_sv, ur_nv, ui_sv, ui_nv, ui_uis, us_s, us_n] at hr287 ⊢
        refine r_iconst (pc := 290) dX11_next_290 ?_
        refine r_iadd (pc := 291) dX11_next_291 ?_
        refine r_puti (pc := 292) (c := 11) (k := 4) (kz := 4) hs.o cok_11 (Nat.le_of_ble_eq_true rfl) q1864 ⟨rfl, rfl⟩ (Or.inl rfl) rfl (by omega) rfl rfl (by omega) (fun _ _ _ => rfl) ⟨rfl, rfl⟩ dX11_next_292 ?_
        try simp (disch := omega) only [ui_ur, ui_ur_n, ur_sv, ur_nv, ui_sv, ui_nv, ui_uis, us_s, us_n]
        refine r_goto (pc := 295) 181 dX11_next_295 rfl ?_
        rw [us_3 (by omega) (by omega) (by omega)]
        exact nx
      have tail2 : ∀ (w' : Int), w' = (if sp < 7 then w * 256 + pk (I (m + 1)) (ω1 3) p else w) → PW G mX11_next (rmD (d + 1) 0 0) (MZ G Q nX 0 0) 0 0 (ur I m (us (us (us ω1 14 nu) 13 sp) 4 p)) (ui J m 17 w') P T z 248 [some (.ref m), some (iv c), some (iv small), some (iv (bz (al ≠ 0 ∧ bz (isS (pk (I (m + 1)) (ω1 3) p)) = small)))] [] := by
        intro w' e1
        refine r_aload_n (pc := 248) dX11_next_248 rfl rfl ?_
        refine r_geti (pc := 249) (c := 11) (k := 13) (kz := 13) hs.o cok_11 (Nat.le_of_ble_eq_true rfl) q1873 ⟨rfl, rfl⟩ (Or.inl rfl) rfl (fun _ _ _ => rfl) dX11_next_249 (fun hr249 => ?_)
        try simp (disch := omega) only [ui_ur, ui_ur_n, ur_sv, ur_nv, ui_sv, ui_nv, ui_uis, us_s, us_n] at hr249 ⊢
        refine r_iconst (pc := 252) dX11_next_252 ?_
        refine r_icmp_ge (pc := 253) 275 dX11_next_253 rfl (by omega) (by omega) (fun h253 => ?_) (fun h253 => ?_)
        · have := tail w' nu e1 (if_neg (by omega)).symm
          rw [us_id (f := us (us (us ω1 14 nu) 13 sp) 4 p) (j := 14) (by rw [us_n (by omega), us_n (by omega), us_s])] at this
          exact this
        refine r_aload_n (pc := 256) dX11_next_256 rfl rfl ?_
        refine r_bipush (pc := 257) dX11_next_257 (by decide +kernel) ?_
        refine r_aload_n (pc := 259) dX11_next_259 rfl rfl ?_
        refine r_geti (pc := 260) (c := 11) (k := 14) (kz := 14) hs.o cok_11 (Nat.le_of_ble_eq_true rfl) q1874 ⟨rfl, rfl⟩ (Or.inl rfl) rfl (fun _ _ _ => rfl) dX11_next_260 (fun hr260 => ?_)
        try simp (disch := omega) only [ui_ur, ui_ur_n, ur_sv, ur_nv, ui_sv, ui_nv, ui_uis, us_s, us_n] at hr260 ⊢
        refine r_imul (pc := 263) dX11_next_263 ?_
        refine r_aload_n (pc := 264) dX11_next_264 rfl rfl ?_
        refine r_callV0 (pc := 265) (M_peek (ω := us (us (us ω1 14 nu) 13 sp) 4 p) hs (by rw [us_s, us_n (by omega), us_n (by omega), us_n (by omega)]; omega) fe_i) im_X11_peek qs58 q2069 hs.o rfl dX11_next_265 (Nat.le_of_ble_eq_true rfl) (Nat.le_of_ble_eq_true rfl) rfl (k_fi ?_) (fun _ _ _ _ _ _ _ hx => no_x hx)
        try simp (disch := omega) only [ui_ur, ui_ur_n, ur_sv, ur_nv, ui_sv, ui_nv, ui_uis, us_s, us_n]
        have n5 : nu ≤ 2300 := by
          by_cases g0 : sp = 0
          · have := n1 g0; omega
          · by_cases g1 : sp = 1
            · have := n2 g1; omega
            · have := n3 (by omega); omega
        refine r_iadd (pc := 268) dX11_next_268 ?_
        refine r_bipush (pc := 269) dX11_next_269 (by decide +kernel) ?_
        refine r_isub (pc := 271) dX11_next_271 ?_
        refine r_puti (pc := 272) (c := 11) (k := 14) (kz := 14) hs.o cok_11 (Nat.le_of_ble_eq_true rfl) q1874 ⟨rfl, rfl⟩ (Or.inl rfl) rfl (by omega) rfl rfl (by omega) (fun _ _ _ => rfl) ⟨rfl, rfl⟩ dX11_next_272 ?_
        try simp (disch := omega) only [ui_ur, ui_ur_n, ur_sv, ur_nv, ui_sv, ui_nv, ui_uis, us_s, us_n]
        exact tail w' _ e1 (if_pos h253).symm
      have tail3 : PW G mX11_next (rmD (d + 1) 0 0) (MZ G Q nX 0 0) 0 0 (ur I m (us (us (us ω1 14 nu) 13 sp) 4 p)) (ui J m 17 w) P T z 221 [some (.ref m), some (iv c), some (iv small), some (iv al)] [iv (bz (al ≠ 0 ∧ bz (isS (pk (I (m + 1)) (ω1 3) p)) = small))] := by
        refine r_istore_n3 (pc := 221) (Nat.le_of_ble_eq_true rfl) dX11_next_221 rfl ?_
        refine r_aload_n (pc := 222) dX11_next_222 rfl rfl ?_
        refine r_geti (pc := 223) (c := 11) (k := 13) (kz := 13) hs.o cok_11 (Nat.le_of_ble_eq_true rfl) q1873 ⟨rfl, rfl⟩ (Or.inl rfl) rfl (fun _ _ _ => rfl) dX11_next_223 (fun hr223 => ?_)
        try simp (disch := omega) only [ui_ur, ui_ur_n, ur_sv, ur_nv, ui_sv, ui_nv, ui_uis, us_s, us_n] at hr223 ⊢
        refine r_bipush (pc := 226) dX11_next_226 (by decide +kernel) ?_
        refine r_icmp_ge (pc := 228) 248 dX11_next_228 rfl (by omega) (by omega) (fun h228 => ?_) (fun h228 => ?_)
        · exact tail2 w (if_neg (by omega)).symm
        refine r_aload_n (pc := 231) dX11_next_231 rfl rfl ?_
        refine r_aload_n (pc := 232) dX11_next_232 rfl rfl ?_
        refine r_getj (pc := 233) (c := 11) (k := 17) (kz := 17) hs.o cok_11 (Nat.le_of_ble_eq_true rfl) q1877 ⟨rfl, rfl⟩ (Or.inl rfl) rfl (fun _ _ _ => rfl) dX11_next_233 (fun hr233 => ?_)
        try simp (disch := omega) only [ui_ur, ui_ur_n, ur_sv, ur_nv, ui_sv, ui_nv, ui_uis, us_s, us_n] at hr233 ⊢
        refine r_bipush (pc := 236) dX11_next_236 (by decide +kernel) ?_
        refine r_lshl (pc := 238) dX11_next_238 w0 (by omega) ?_
        refine r_aload_n (pc := 239) dX11_next_239 rfl rfl ?_
        refine r_callV0 (pc := 240) (M_peek (ω := us (us (us ω1 14 nu) 13 sp) 4 p) hs (by rw [us_s, us_n (by omega), us_n (by omega), us_n (by omega)]; omega) fe_i) im_X11_peek qs58 q2069 hs.o rfl dX11_next_240 (Nat.le_of_ble_eq_true rfl) (Nat.le_of_ble_eq_true rfl) rfl (k_fi ?_) (fun _ _ _ _ _ _ _ hx => no_x hx)
        try simp (disch := omega) only [ui_ur, ui_ur_n, ur_sv, ur_nv, ui_sv, ui_nv, ui_uis, us_s, us_n]
        have h6' := p256 (s := sp.toNat) (by omega)
        have w3 := w1 h228
        refine r_i2l (pc := 243) dX11_next_243 (by omega) ?_
        refine r_lor (pc := 244) dX11_next_244 (by have : ((2 ^ (8 : Int).toNat : Nat) : Int) = 256 := rfl; rw [this]; omega) (by omega) ?_
        rw [lor8 w0 (by omega)]
        refine r_putj (pc := 245) (c := 11) (k := 17) (kz := 17) hs.o cok_11 (Nat.le_of_ble_eq_true rfl) q1877 ⟨rfl, rfl⟩ (Or.inl rfl) rfl (by omega) rfl rfl (by omega) (fun _ _ _ => rfl) ⟨rfl, rfl⟩ dX11_next_245 ?_
        try simp (disch := omega) only [ui_ur, ui_ur_n, ur_sv, ur_nv, ui_sv, ui_nv, ui_uis, us_s, us_n]
        exact tail2 _ (if_pos h228).symm
      refine r_iload_n (pc := 201) dX11_next_201 rfl rfl ?_
      refine r_if_eq (pc := 202) 220 dX11_next_202 rfl (by omega) (fun h202 => ?_) (fun h202 => ?_)
      · rw [bz_f (fun q => q.1 h202)] at tail3
        refine r_iconst (pc := 220) dX11_next_220 ?_
        exact tail3
      refine r_aload_n (pc := 205) dX11_next_205 rfl rfl ?_
      refine r_callV0 (pc := 206) (M_peek (ω := us (us (us ω1 14 nu) 13 sp) 4 p) hs (by rw [us_s, us_n (by omega), us_n (by omega), us_n (by omega)]; omega) fe_i) im_X11_peek qs58 q2069 hs.o rfl dX11_next_206 (Nat.le_of_ble_eq_true rfl) (Nat.le_of_ble_eq_true rfl) rfl (k_fi ?_) (fun _ _ _ _ _ _ _ hx => no_x hx)
      try simp (disch := omega) only [ui_ur, ui_ur_n, ur_sv, ur_nv, ui_sv, ui_nv, ui_uis, us_s, us_n]
      refine r_callS1 (pc := 209) (M_isSmall (by omega) fe_i) im_X11_isSmall q2073 dX11_next_209 (Nat.le_of_ble_eq_true rfl) (Nat.le_of_ble_eq_true rfl) rfl (k_fi ?_) (fun _ _ _ _ _ _ _ hx => no_x hx)
      refine r_iload_n (pc := 212) dX11_next_212 rfl rfl ?_
      refine r_icmp_ne (pc := 213) 220 dX11_next_213 rfl bz_g (by omega) (fun h213 => ?_) (fun h213 => ?_)
      · rw [bz_f (fun q => h213 q.2)] at tail3
        refine r_iconst (pc := 220) dX11_next_220 ?_
        exact tail3
      rw [bz_t ⟨h202, h213⟩] at tail3
      refine r_iconst (pc := 216) dX11_next_216 ?_
      refine r_goto (pc := 217) 221 dX11_next_217 rfl ?_
      exact tail3
    refine r_aload_n (pc := 181) dX11_next_181 rfl rfl ?_
    refine r_callV0 (pc := 182) (M_peek (ω := us (us (us ω1 14 nu) 13 sp) 4 p) hs (by rw [us_s, us_n (by omega), us_n (by omega), us_n (by omega)]; omega) fe_i) im_X11_peek qs58 q2069 hs.o rfl dX11_next_182 (Nat.le_of_ble_eq_true rfl) (Nat.le_of_ble_eq_true rfl) rfl (k_fi ?_) (fun _ _ _ _ _ _ _ hx => no_x hx)
    try simp (disch := omega) only [ui_ur, ui_ur_n, ur_sv, ur_nv, ui_sv, ui_nv, ui_uis, us_s, us_n]
    refine r_callS1 (pc := 185) (M_isSmall (by omega) fe_i) im_X11_isSmall q2073 dX11_next_185 (Nat.le_of_ble_eq_true rfl) (Nat.le_of_ble_eq_true rfl) rfl (k_fi ?_) (fun _ _ _ _ _ _ _ hx => no_x hx)
    refine r_if_ne (pc := 188) 201 dX11_next_188 rfl bz_g (fun h188 => ?_) (fun h188 => ?_)
    · exact body (Or.inl (bz_ne.mp h188))
    refine r_aload_n (pc := 191) dX11_next_191 rfl rfl ?_
    refine r_callV0 (pc := 192) (M_peek (ω := us (us (us ω1 14 nu) 13 sp) 4 p) hs (by rw [us_s, us_n (by omega), us_n (by omega), us_n (by omega)]; omega) fe_i) im_X11_peek qs58 q2069 hs.o rfl dX11_next_192 (Nat.le_of_ble_eq_true rfl) (Nat.le_of_ble_eq_true rfl) rfl (k_fi ?_) (fun _ _ _ _ _ _ _ hx => no_x hx)
    try simp (disch := omega) only [ui_ur, ui_ur_n, ur_sv, ur_nv, ui_sv, ui_nv, ui_uis, us_s, us_n]
    refine r_callS1 (pc := 195) (M_isDigit (by omega) fe_i) im_X11_isDigit q2076 dX11_next_195 (Nat.le_of_ble_eq_true rfl) (Nat.le_of_ble_eq_true rfl) rfl (k_fi ?_) (fun _ _ _ _ _ _ _ hx => no_x hx)
    refine r_if_eq (pc := 198) 298 dX11_next_198 rfl bz_g (fun h198 => ?_) (fun h198 => ?_)
    · rw [if_neg (fun q => q.elim (bz_0.mp h188) (bz_0.mp h198))] at hQ
      exact stop al w nu sp p a0 a1 s0 (by omega) hQ
    exact body (Or.inr (bz_ne.mp h198))
theorem M_next (hs : shM G P T m) (hp : 0 ≤ ω 4 ∧ ω 4 ≤ ω 3 ∧ ω 3 ≤ 940) (hQ : Q none (ur I m (t_next (I (m + 1)) ω w).1) (ui J m 17 (t_next (I (m + 1)) ω w).2) P T z) : MC G yX11_next (ws_ yX11_next cX11_next 4 (none : Option FieldType)) (d + 1) 0 0 [.ref m] (ur I m ω) (ui J m 17 w) P T z Q nX := by
  have hb := hs.b
  refine MC.of (by decide) (Nat.le_of_ble_eq_true rfl) ?_
  show PW G mX11_next (rmD (d + 1) 0 0) (MZ G Q nX 0 0) 0 0 (ur I m ω) (ui J m 17 w) P T z 0 [some (.ref m), none, none, none] []
  refine r_rg fun hrg0 => ?_
  have hrg : ∀ j, rg (ω j) := fun j => by have := hrg0 m j; rw [ur_sv] at this; exact this
  clear hrg0
  have hr3 := hrg 3
  have hr5 := hrg 5
  have main : ∀ p : Int, 0 ≤ p → p ≤ ω 3 → Q none (ur I m (t_next1 (I (m + 1)) ω w p).1) (ui J m 17 (t_next1 (I (m + 1)) ω w p).2) P T z → PW G mX11_next (rmD (d + 1) 0 0) (MZ G Q nX 0 0) 0 0 (ur I m (us ω 4 p)) (ui J m 17 w) P T z 31 [some (.ref m), none, none, none] [] := by
    intro p p0 p1 hQ
    unfold t_next1 at hQ
    simp only at hQ
    have pr := pk_r (τ := I (m + 1)) (n := ω 3) (p := p)
    have go : ¬ (ω 5 < ω 3 ∧ ω 5 ≤ p) → PW G mX11_next (rmD (d + 1) 0 0) (MZ G Q nX 0 0) 0 0 (ur I m (us (us (us ω 4 p) 12 p) 13 0)) (ui J m 17 w) P T z 80 [some (.ref m), none, none, none] [] := by
      intro hc
      rw [if_neg hc] at hQ
      refine r_aload_n (pc := 80) dX11_next_80 rfl rfl ?_
      refine r_callV0 (pc := 81) (M_peek (ω := us (us (us ω 4 p) 12 p) 13 0) hs (by rw [us_n (by omega), us_n (by omega), us_s, us_n (by omega), us_n (by omega), us_n (by omega)]; omega) fe_i) im_X11_peek qs58 q2069 hs.o rfl dX11_next_81 (Nat.le_of_ble_eq_true rfl) (Nat.le_of_ble_eq_true rfl) rfl (k_fi ?_) (fun _ _ _ _ _ _ _ hx => no_x hx)
      try simp (disch := omega) only [ui_ur, ui_ur_n, ur_sv, ur_nv, ui_sv, ui_nv, ui_uis, us_s, us_n]
      refine r_istore_n1 (pc := 84) (Nat.le_of_ble_eq_true rfl) dX11_next_84 rfl ?_
      refine r_iload_n (pc := 85) dX11_next_85 rfl rfl ?_
      refine r_if_ge (pc := 86) 95 dX11_next_86 rfl (by omega) (fun h86 => ?_) (fun h86 => ?_)
      · rw [if_neg (by omega)] at hQ
        have word : ¬ (¬ isS (pk (I (m + 1)) (ω 3) p) ∧ ¬ isD (pk (I (m + 1)) (ω 3) p)) → PW G mX11_next (rmD (d + 1) 0 0) (MZ G Q nX 0 0) 0 0 (ur I m (us (us (us ω 4 p) 12 p) 13 0)) (ui J m 17 w) P T z 164 [some (.ref m), some (iv (pk (I (m + 1)) (ω 3) p)), none, none] [] := by
          intro hc
          rw [if_neg hc] at hQ
          refine r_iload_n (pc := 164) dX11_next_164 rfl rfl ?_
          refine r_callS1 (pc := 165) (M_isSmall (by omega) fe_i) im_X11_isSmall q2073 dX11_next_165 (Nat.le_of_ble_eq_true rfl) (Nat.le_of_ble_eq_true rfl) rfl (k_fi ?_) (fun _ _ _ _ _ _ _ hx => no_x hx)
          refine r_istore_n2 (pc := 168) (Nat.le_of_ble_eq_true rfl) dX11_next_168 rfl ?_
          refine r_iconst (pc := 169) dX11_next_169 ?_
          refine r_istore_n3 (pc := 170) (Nat.le_of_ble_eq_true rfl) dX11_next_170 rfl ?_
          refine r_aload_n (pc := 171) dX11_next_171 rfl rfl ?_
          refine r_lconst (pc := 172) (x := 0) dX11_next_172 (by decide +kernel) ?_
          refine r_putj (pc := 173) (c := 11) (k := 17) (kz := 17) hs.o cok_11 (Nat.le_of_ble_eq_true rfl) q1877 ⟨rfl, rfl⟩ (Or.inl rfl) rfl (by omega) rfl rfl (by omega) (fun _ _ _ => rfl) ⟨rfl, rfl⟩ dX11_next_173 ?_
          try simp (disch := omega) only [ui_ur, ui_ur_n, ur_sv, ur_nv, ui_sv, ui_nv, ui_uis, us_s, us_n]
          refine r_aload_n (pc := 176) dX11_next_176 rfl rfl ?_
          refine r_iconst (pc := 177) dX11_next_177 ?_
          refine r_puti (pc := 178) (c := 11) (k := 14) (kz := 14) hs.o cok_11 (Nat.le_of_ble_eq_true rfl) q1874 ⟨rfl, rfl⟩ (Or.inl rfl) rfl (by omega) rfl rfl (by omega) (fun _ _ _ => rfl) ⟨rfl, rfl⟩ dX11_next_178 ?_
          try simp (disch := omega) only [ui_ur, ui_ur_n, ur_sv, ur_nv, ui_sv, ui_nv, ui_uis, us_s, us_n]
          have e0 : us (us (us ω 4 p) 12 p) 13 0 3 = ω 3 := by rw [us_n (by omega), us_n (by omega), us_n (by omega)]
          have fin := M_nextRun (Q := Q) (I := I) (J := J) (T := T) (z := z) (d := d) (ω1 := us (us (us ω 4 p) 12 p) 13 0) (c := pk (I (m + 1)) (ω 3) p) hs (bz_r (p := isS (pk (I (m + 1)) (ω 3) p))) (by rw [e0]; omega) (ω 3 - p).toNat 1 0 0 0 p (by omega) (by omega) (by omega) (by omega) (by rw [e0]; omega) (by rw [e0]; omega) (by omega) (by intro; decide) (by omega) (by omega) (by omega) (by omega) (by omega) (by omega)
          rw [e0] at fin
          have fin := fin hQ
          rw [us_id (f := us (us (us (us ω 4 p) 12 p) 13 0) 14 0) (j := 13) (by rw [us_n (by omega), us_s]), us_id (f := us (us (us (us ω 4 p) 12 p) 13 0) 14 0) (j := 4) (by rw [us_n (by omega), us_n (by omega), us_n (by omega), us_s])] at fin
          exact fin
        refine r_iload_n (pc := 95) dX11_next_95 rfl rfl ?_
        refine r_callS1 (pc := 96) (M_isSmall (by omega) fe_i) im_X11_isSmall q2073 dX11_next_96 (Nat.le_of_ble_eq_true rfl) (Nat.le_of_ble_eq_true rfl) rfl (k_fi ?_) (fun _ _ _ _ _ _ _ hx => no_x hx)
        refine r_if_ne (pc := 99) 164 dX11_next_99 rfl bz_g (fun h99 => ?_) (fun h99 => ?_)
        · exact word (fun q => q.1 (bz_ne.mp h99))
        refine r_iload_n (pc := 102) dX11_next_102 rfl rfl ?_
        refine r_callS1 (pc := 103) (M_isDigit (by omega) fe_i) im_X11_isDigit q2076 dX11_next_103 (Nat.le_of_ble_eq_true rfl) (Nat.le_of_ble_eq_true rfl) rfl (k_fi ?_) (fun _ _ _ _ _ _ _ hx => no_x hx)
        refine r_if_ne (pc := 106) 164 dX11_next_106 rfl bz_g (fun h106 => ?_) (fun h106 => ?_)
        · exact word (fun q => q.2 (bz_ne.mp h106))
        rw [if_pos ⟨bz_0.mp h99, bz_0.mp h106⟩] at hQ
        have put : ∀ t : Int, t = t_sign (pk (I (m + 1)) (ω 3) p) → 0 ≤ t → t < 5 → PW G mX11_next (rmD (d + 1) 0 0) (MZ G Q nX 0 0) 0 0 (ur I m (us (us (us ω 4 p) 12 p) 13 0)) (ui J m 17 w) P T z 145 [some (.ref m), some (iv (pk (I (m + 1)) (ω 3) p)), none, none] [iv t, .ref m] := by
          intro t et t0 t1
          subst et
          refine r_puti (pc := 145) (c := 11) (k := 11) (kz := 11) hs.o cok_11 (Nat.le_of_ble_eq_true rfl) q1871 ⟨rfl, rfl⟩ (Or.inl rfl) rfl (by omega) rfl rfl (by omega) (fun _ _ _ => rfl) ⟨rfl, rfl⟩ dX11_next_145 ?_
          try simp (disch := omega) only [ui_ur, ui_ur_n, ur_sv, ur_nv, ui_sv, ui_nv, ui_uis, us_s, us_n]
          refine r_aload_n (pc := 148) dX11_next_148 rfl rfl ?_
          refine r_iload_n (pc := 149) dX11_next_149 rfl rfl ?_
          refine r_puti (pc := 150) (c := 11) (k := 14) (kz := 14) hs.o cok_11 (Nat.le_of_ble_eq_true rfl) q1874 ⟨rfl, rfl⟩ (Or.inl rfl) rfl (by omega) rfl rfl (by omega) (fun _ _ _ => rfl) ⟨rfl, rfl⟩ dX11_next_150 ?_
          try simp (disch := omega) only [ui_ur, ui_ur_n, ur_sv, ur_nv, ui_sv, ui_nv, ui_uis, us_s, us_n]
          refine r_aload_n (pc := 153) dX11_next_153 rfl rfl ?_
          refine r_dup (pc := 154) dX11_next_154 rfl ?_
          refine r_geti (pc := 155) (c := 11) (k := 4) (kz := 4) hs.o cok_11 (Nat.le_of_ble_eq_true rfl) q1864 ⟨rfl, rfl⟩ (Or.inl rfl) rfl (fun _ _ _ => rfl) dX11_next_155 (fun hr155 => ?_)
          try simp (disch := omega) only [ui_ur, ui_ur_n, ur_sv, ur_nv, ui_sv, ui_nv, ui_uis, us_s, us_n] at hr155 ⊢
          refine r_iconst (pc := 158) dX11_next_158 ?_
          refine r_iadd (pc := 159) dX11_next_159 ?_
          refine r_puti (pc := 160) (c := 11) (k := 4) (kz := 4) hs.o cok_11 (Nat.le_of_ble_eq_true rfl) q1864 ⟨rfl, rfl⟩ (Or.inl rfl) rfl (by omega) rfl rfl (by omega) (fun _ _ _ => rfl) ⟨rfl, rfl⟩ dX11_next_160 ?_
          try simp (disch := omega) only [ui_ur, ui_ur_n, ur_sv, ur_nv, ui_sv, ui_nv, ui_uis, us_s, us_n]
          refine r_return (pc := 163) rfl dX11_next_163 (Nat.le_of_ble_eq_true rfl) (Nat.le_of_ble_eq_true rfl) ?_
          exact hQ
        have y3 : t_sign (pk (I (m + 1)) (ω 3) p) = 3 → PW G mX11_next (rmD (d + 1) 0 0) (MZ G Q nX 0 0) 0 0 (ur I m (us (us (us ω 4 p) 12 p) 13 0)) (ui J m 17 w) P T z 140 [some (.ref m), some (iv (pk (I (m + 1)) (ω 3) p)), none, none] [.ref m] := by
          intro h
          refine r_iconst (pc := 140) dX11_next_140 ?_
          refine r_goto (pc := 141) 145 dX11_next_141 rfl ?_
          exact put 3 h.symm (by omega) (by omega)
        have y4 : t_sign (pk (I (m + 1)) (ω 3) p) = 4 → PW G mX11_next (rmD (d + 1) 0 0) (MZ G Q nX 0 0) 0 0 (ur I m (us (us (us ω 4 p) 12 p) 13 0)) (ui J m 17 w) P T z 144 [some (.ref m), some (iv (pk (I (m + 1)) (ω 3) p)), none, none] [.ref m] := by
          intro h
          refine r_iconst (pc := 144) dX11_next_144 ?_
          exact put 4 h.symm (by omega) (by omega)
        unfold t_sign at y3 y4
        refine r_aload_n (pc := 109) dX11_next_109 rfl rfl ?_
        refine r_iload_n (pc := 110) dX11_next_110 rfl rfl ?_
        refine r_bipush (pc := 111) dX11_next_111 (by decide +kernel) ?_
        refine r_icmp_eq (pc := 113) 140 dX11_next_113 rfl (by omega) (by omega) (fun h113 => ?_) (fun h113 => ?_)
        · exact y3 (if_pos (by omega))
        refine r_iload_n (pc := 116) dX11_next_116 rfl rfl ?_
        refine r_bipush (pc := 117) dX11_next_117 (by decide +kernel) ?_
        refine r_icmp_eq (pc := 119) 140 dX11_next_119 rfl (by omega) (by omega) (fun h119 => ?_) (fun h119 => ?_)
        · exact y3 (if_pos (by omega))
        refine r_iload_n (pc := 122) dX11_next_122 rfl rfl ?_
        refine r_bipush (pc := 123) dX11_next_123 (by decide +kernel) ?_
        refine r_icmp_eq (pc := 125) 140 dX11_next_125 rfl (by omega) (by omega) (fun h125 => ?_) (fun h125 => ?_)
        · exact y3 (if_pos (by omega))
        refine r_iload_n (pc := 128) dX11_next_128 rfl rfl ?_
        refine r_bipush (pc := 129) dX11_next_129 (by decide +kernel) ?_
        refine r_icmp_lt (pc := 131) 144 dX11_next_131 rfl (by omega) (by omega) (fun h131 => ?_) (fun h131 => ?_)
        · exact y4 (if_neg (by omega))
        refine r_iload_n (pc := 134) dX11_next_134 rfl rfl ?_
        refine r_bipush (pc := 135) dX11_next_135 (by decide +kernel) ?_
        refine r_icmp_gt (pc := 137) 144 dX11_next_137 rfl (by omega) (by omega) (fun h137 => ?_) (fun h137 => ?_)
        · exact y4 (if_neg (by omega))
        exact y3 (if_pos (by omega))
      rw [if_pos (by omega)] at hQ
      refine r_aload_n (pc := 89) dX11_next_89 rfl rfl ?_
      refine r_iconst (pc := 90) dX11_next_90 ?_
      refine r_puti (pc := 91) (c := 11) (k := 11) (kz := 11) hs.o cok_11 (Nat.le_of_ble_eq_true rfl) q1871 ⟨rfl, rfl⟩ (Or.inl rfl) rfl (by omega) rfl rfl (by omega) (fun _ _ _ => rfl) ⟨rfl, rfl⟩ dX11_next_91 ?_
      try simp (disch := omega) only [ui_ur, ui_ur_n, ur_sv, ur_nv, ui_sv, ui_nv, ui_uis, us_s, us_n]
      refine r_return (pc := 94) rfl dX11_next_94 (Nat.le_of_ble_eq_true rfl) (Nat.le_of_ble_eq_true rfl) ?_
      exact hQ
    refine r_aload_n (pc := 31) dX11_next_31 rfl rfl ?_
    refine r_aload_n (pc := 32) dX11_next_32 rfl rfl ?_
    refine r_geti (pc := 33) (c := 11) (k := 4) (kz := 4) hs.o cok_11 (Nat.le_of_ble_eq_true rfl) q1864 ⟨rfl, rfl⟩ (Or.inl rfl) rfl (fun _ _ _ => rfl) dX11_next_33 (fun hr33 => ?_)
    try simp (disch := omega) only [ui_ur, ui_ur_n, ur_sv, ur_nv, ui_sv, ui_nv, ui_uis, us_s, us_n] at hr33 ⊢
    refine r_puti (pc := 36) (c := 11) (k := 12) (kz := 12) hs.o cok_11 (Nat.le_of_ble_eq_true rfl) q1872 ⟨rfl, rfl⟩ (Or.inl rfl) rfl (by omega) rfl rfl (by omega) (fun _ _ _ => rfl) ⟨rfl, rfl⟩ dX11_next_36 ?_
    try simp (disch := omega) only [ui_ur, ui_ur_n, ur_sv, ur_nv, ui_sv, ui_nv, ui_uis, us_s, us_n]
    refine r_aload_n (pc := 39) dX11_next_39 rfl rfl ?_
    refine r_iconst (pc := 40) dX11_next_40 ?_
    refine r_puti (pc := 41) (c := 11) (k := 13) (kz := 13) hs.o cok_11 (Nat.le_of_ble_eq_true rfl) q1873 ⟨rfl, rfl⟩ (Or.inl rfl) rfl (by omega) rfl rfl (by omega) (fun _ _ _ => rfl) ⟨rfl, rfl⟩ dX11_next_41 ?_
    try simp (disch := omega) only [ui_ur, ui_ur_n, ur_sv, ur_nv, ui_sv, ui_nv, ui_uis, us_s, us_n]
    refine r_aload_n (pc := 44) dX11_next_44 rfl rfl ?_
    refine r_geti (pc := 45) (c := 11) (k := 3) (kz := 3) hs.o cok_11 (Nat.le_of_ble_eq_true rfl) q1863 ⟨rfl, rfl⟩ (Or.inl rfl) rfl (fun _ _ _ => rfl) dX11_next_45 (fun hr45 => ?_)
    try simp (disch := omega) only [ui_ur, ui_ur_n, ur_sv, ur_nv, ui_sv, ui_nv, ui_uis, us_s, us_n] at hr45 ⊢
    refine r_aload_n (pc := 48) dX11_next_48 rfl rfl ?_
    refine r_geti (pc := 49) (c := 11) (k := 5) (kz := 5) hs.o cok_11 (Nat.le_of_ble_eq_true rfl) q1865 ⟨rfl, rfl⟩ (Or.inl rfl) rfl (fun _ _ _ => rfl) dX11_next_49 (fun hr49 => ?_)
    try simp (disch := omega) only [ui_ur, ui_ur_n, ur_sv, ur_nv, ui_sv, ui_nv, ui_uis, us_s, us_n] at hr49 ⊢
    refine r_icmp_le (pc := 52) 80 dX11_next_52 rfl (by omega) (by omega) (fun h52 => ?_) (fun h52 => ?_)
    · exact go (by omega)
    refine r_aload_n (pc := 55) dX11_next_55 rfl rfl ?_
    refine r_geti (pc := 56) (c := 11) (k := 4) (kz := 4) hs.o cok_11 (Nat.le_of_ble_eq_true rfl) q1864 ⟨rfl, rfl⟩ (Or.inl rfl) rfl (fun _ _ _ => rfl) dX11_next_56 (fun hr56 => ?_)
    try simp (disch := omega) only [ui_ur, ui_ur_n, ur_sv, ur_nv, ui_sv, ui_nv, ui_uis, us_s, us_n] at hr56 ⊢
    refine r_aload_n (pc := 59) dX11_next_59 rfl rfl ?_
    refine r_geti (pc := 60) (c := 11) (k := 5) (kz := 5) hs.o cok_11 (Nat.le_of_ble_eq_true rfl) q1865 ⟨rfl, rfl⟩ (Or.inl rfl) rfl (fun _ _ _ => rfl) dX11_next_60 (fun hr60 => ?_)
    try simp (disch := omega) only [ui_ur, ui_ur_n, ur_sv, ur_nv, ui_sv, ui_nv, ui_uis, us_s, us_n] at hr60 ⊢
    refine r_icmp_lt (pc := 63) 80 dX11_next_63 rfl (by omega) (by omega) (fun h63 => ?_) (fun h63 => ?_)
    · exact go (by omega)
    rw [if_pos (by omega)] at hQ
    refine r_aload_n (pc := 66) dX11_next_66 rfl rfl ?_
    refine r_aload_n (pc := 67) dX11_next_67 rfl rfl ?_
    refine r_geti (pc := 68) (c := 11) (k := 5) (kz := 5) hs.o cok_11 (Nat.le_of_ble_eq_true rfl) q1865 ⟨rfl, rfl⟩ (Or.inl rfl) rfl (fun _ _ _ => rfl) dX11_next_68 (fun hr68 => ?_)
    try simp (disch := omega) only [ui_ur, ui_ur_n, ur_sv, ur_nv, ui_sv, ui_nv, ui_uis, us_s, us_n] at hr68 ⊢
    refine r_puti (pc := 71) (c := 11) (k := 12) (kz := 12) hs.o cok_11 (Nat.le_of_ble_eq_true rfl) q1872 ⟨rfl, rfl⟩ (Or.inl rfl) rfl (by omega) rfl rfl (by omega) (fun _ _ _ => rfl) ⟨rfl, rfl⟩ dX11_next_71 ?_
    try simp (disch := omega) only [ui_ur, ui_ur_n, ur_sv, ur_nv, ui_sv, ui_nv, ui_uis, us_s, us_n]
    refine r_aload_n (pc := 74) dX11_next_74 rfl rfl ?_
    refine r_iconst (pc := 75) dX11_next_75 ?_
    refine r_puti (pc := 76) (c := 11) (k := 11) (kz := 11) hs.o cok_11 (Nat.le_of_ble_eq_true rfl) q1871 ⟨rfl, rfl⟩ (Or.inl rfl) rfl (by omega) rfl rfl (by omega) (fun _ _ _ => rfl) ⟨rfl, rfl⟩ dX11_next_76 ?_
    try simp (disch := omega) only [ui_ur, ui_ur_n, ur_sv, ur_nv, ui_sv, ui_nv, ui_uis, us_s, us_n]
    refine r_return (pc := 79) rfl dX11_next_79 (Nat.le_of_ble_eq_true rfl) (Nat.le_of_ble_eq_true rfl) ?_
    exact hQ
  have loop : ∀ (k : Nat) (p : Int), 0 ≤ p → p ≤ ω 3 → ω 3 - p = k → Q none (ur I m (t_next1 (I (m + 1)) ω w (t_skip (I (m + 1)) (ω 3) k p)).1) (ui J m 17 (t_next1 (I (m + 1)) ω w (t_skip (I (m + 1)) (ω 3) k p)).2) P T z → PW G mX11_next (rmD (d + 1) 0 0) (MZ G Q nX 0 0) 0 0 (ur I m (us ω 4 p)) (ui J m 17 w) P T z 0 [some (.ref m), none, none, none] [] := by
    intro k
    induction k with
    | zero =>
      intro p p0 p1 pn hQ
      have e : pk (I (m + 1)) (ω 3) p = -1 := by unfold pk; rw [if_neg (by omega)]
      refine r_aload_n (pc := 0) dX11_next_0 rfl rfl ?_
      refine r_callV0 (pc := 1) (M_peek (ω := us ω 4 p) hs (by rw [us_s, us_n (by omega)]; omega) fe_i) im_X11_peek qs58 q2069 hs.o rfl dX11_next_1 (Nat.le_of_ble_eq_true rfl) (Nat.le_of_ble_eq_true rfl) rfl (k_fi ?_) (fun _ _ _ _ _ _ _ hx => no_x hx)
      try simp (disch := omega) only [ui_ur, ui_ur_n, ur_sv, ur_nv, ui_sv, ui_nv, ui_uis, us_s, us_n]
      rw [e]
      refine r_bipush (pc := 4) dX11_next_4 (by decide +kernel) ?_
      refine r_icmp_eq (pc := 6) 18 dX11_next_6 rfl (by omega) (by omega) (fun h6 => ?_) (fun h6 => ?_)
      · omega
      refine r_aload_n (pc := 9) dX11_next_9 rfl rfl ?_
      refine r_callV0 (pc := 10) (M_peek (ω := us ω 4 p) hs (by rw [us_s, us_n (by omega)]; omega) fe_i) im_X11_peek qs58 q2069 hs.o rfl dX11_next_10 (Nat.le_of_ble_eq_true rfl) (Nat.le_of_ble_eq_true rfl) rfl (k_fi ?_) (fun _ _ _ _ _ _ _ hx => no_x hx)
      try simp (disch := omega) only [ui_ur, ui_ur_n, ur_sv, ur_nv, ui_sv, ui_nv, ui_uis, us_s, us_n]
      rw [e]
      refine r_bipush (pc := 13) dX11_next_13 (by decide +kernel) ?_
      refine r_icmp_ne (pc := 15) 31 dX11_next_15 rfl (by omega) (by omega) (fun h15 => ?_) (fun h15 => ?_)
      · exact main p p0 p1 hQ
      omega
    | succ k ih =>
      intro p p0 p1 pn hQ
      have pr := pk_r (τ := I (m + 1)) (n := ω 3) (p := p)
      unfold t_skip at hQ
      have on : (pk (I (m + 1)) (ω 3) p = 32 ∨ pk (I (m + 1)) (ω 3) p = 10) → PW G mX11_next (rmD (d + 1) 0 0) (MZ G Q nX 0 0) 0 0 (ur I m (us ω 4 p)) (ui J m 17 w) P T z 18 [some (.ref m), none, none, none] [] := by
        intro hc
        rw [if_pos hc] at hQ
        refine r_aload_n (pc := 18) dX11_next_18 rfl rfl ?_
        refine r_dup (pc := 19) dX11_next_19 rfl ?_
        refine r_geti (pc := 20) (c := 11) (k := 4) (kz := 4) hs.o cok_11 (Nat.le_of_ble_eq_true rfl) q1864 ⟨rfl, rfl⟩ (Or.inl rfl) rfl (fun _ _ _ => rfl) dX11_next_20 (fun hr20 => ?_)
        try simp (disch := omega) only [ui_ur, ui_ur_n, ur_sv, ur_nv, ui_sv, ui_nv, ui_uis, us_s, us_n] at hr20 ⊢
        refine r_iconst (pc := 23) dX11_next_23 ?_
        refine r_iadd (pc := 24) dX11_next_24 ?_
        refine r_puti (pc := 25) (c := 11) (k := 4) (kz := 4) hs.o cok_11 (Nat.le_of_ble_eq_true rfl) q1864 ⟨rfl, rfl⟩ (Or.inl rfl) rfl (by omega) rfl rfl (by omega) (fun _ _ _ => rfl) ⟨rfl, rfl⟩ dX11_next_25 ?_
        try simp (disch := omega) only [ui_ur, ui_ur_n, ur_sv, ur_nv, ui_sv, ui_nv, ui_uis, us_s, us_n]
        refine r_goto (pc := 28) 0 dX11_next_28 rfl ?_
        rw [us_us]
        exact ih (p + 1) (by omega) (by omega) (by omega) hQ
      refine r_aload_n (pc := 0) dX11_next_0 rfl rfl ?_
      refine r_callV0 (pc := 1) (M_peek (ω := us ω 4 p) hs (by rw [us_s, us_n (by omega)]; omega) fe_i) im_X11_peek qs58 q2069 hs.o rfl dX11_next_1 (Nat.le_of_ble_eq_true rfl) (Nat.le_of_ble_eq_true rfl) rfl (k_fi ?_) (fun _ _ _ _ _ _ _ hx => no_x hx)
      try simp (disch := omega) only [ui_ur, ui_ur_n, ur_sv, ur_nv, ui_sv, ui_nv, ui_uis, us_s, us_n]
      refine r_bipush (pc := 4) dX11_next_4 (by decide +kernel) ?_
      refine r_icmp_eq (pc := 6) 18 dX11_next_6 rfl (by omega) (by omega) (fun h6 => ?_) (fun h6 => ?_)
      · exact on (Or.inl h6)
      refine r_aload_n (pc := 9) dX11_next_9 rfl rfl ?_
      refine r_callV0 (pc := 10) (M_peek (ω := us ω 4 p) hs (by rw [us_s, us_n (by omega)]; omega) fe_i) im_X11_peek qs58 q2069 hs.o rfl dX11_next_10 (Nat.le_of_ble_eq_true rfl) (Nat.le_of_ble_eq_true rfl) rfl (k_fi ?_) (fun _ _ _ _ _ _ _ hx => no_x hx)
      try simp (disch := omega) only [ui_ur, ui_ur_n, ur_sv, ur_nv, ui_sv, ui_nv, ui_uis, us_s, us_n]
      refine r_bipush (pc := 13) dX11_next_13 (by decide +kernel) ?_
      refine r_icmp_ne (pc := 15) 31 dX11_next_15 rfl (by omega) (by omega) (fun h15 => ?_) (fun h15 => ?_)
      · rw [if_neg (by omega)] at hQ
        exact main p p0 p1 hQ
      exact on (Or.inr h15)
  rw [← us_id (f := ω) (j := 4) (v := ω 4) rfl]
  exact loop _ (ω 4) (by omega) (by omega) (by omega) hQ
end M9
