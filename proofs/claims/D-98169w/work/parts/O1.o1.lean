/-! ===== the model: all ways are counted ===== -/
def s5 : Int → Int := fun i => 5 ^ i.toNat
theorem s5_s {i : Int} (h : 0 ≤ i) : s5 (i + 1) = s5 i * 5 := by unfold s5; rw [show (i + 1).toNat = i.toNat + 1 by omega, Int.pow_succ]
theorem s5_RX {u : Int → Int} {n : Nat} (hu : ∀ i : Int, 0 ≤ i → i < n → 0 ≤ u i ∧ u i ≤ 4) : RX s5 (fun _ => 5) u n := ⟨rfl, fun i a b => ⟨s5_s a, show (0 : Int) < 5 by decide, (hu i a b).1, show u i < 5 by have := (hu i a b).2; omega⟩⟩
theorem s5_r {i : Int} (h0 : 0 ≤ i) (h1 : i ≤ 6) : 0 < s5 i ∧ s5 i ≤ 15625 := by
  rcases (show i = 0 ∨ i = 1 ∨ i = 2 ∨ i = 3 ∨ i = 4 ∨ i = 5 ∨ i = 6 by omega) with rfl | rfl | rfl | rfl | rfl | rfl | rfl <;> decide +kernel
theorem WY.cg {κ sc r u f f' : Int → Int} {n S : Nat} {L : List Int} (h : WY κ sc r u n S f L) (e : ∀ a : Int, 0 ≤ a → a < S → f' a = f a) : WY κ sc r u n S f' L := ⟨fun s a b => by rw [e s a b]; exact h.1 s a b, fun g hg => by rw [← h.2 g hg]; exact sm_congr (fun s a b => by rw [e s a b])⟩
section O1
variable {G : GE} {I J : HI} {P : HP} {T : HT} {z : Nat} {m d : Nat} {Q : QT} {σ ω lf κ κc u st on wy : Int → Int}
abbrev hW (I : HI) (m : Nat) (lf κ st ω σ : Int → Int) : HI := ur (ur (ur (ur (ur I (m + 10) lf) (m + 11) κ) (m + 12) st) m ω) (m + 2) σ
abbrev jW (J : HI) (m : Nat) (wy on : Int → Int) : HI := ur (ur J (m + 14) on) (m + 13) wy
theorem M_waysOf (hs : shM G P T m) (hcv : CV σ) {n : Nat} (hn6 : n ≤ 6) (e33 : ω 33 = n) (hL : ∀ i : Int, 0 ≤ i → i < n → κ i = κc i ∧ (0 ≤ κc i ∧ κc i < 13) ∧ lf (κc i) = u i ∧ 0 ≤ u i ∧ u i ≤ 4) {o q0 nt : Int} (ho : 0 ≤ o ∧ o < 6) (hq : (q0 = -1 ∧ nt = 0) ∨ ((0 ≤ q0 ∧ q0 < 6) ∧ 0 ≤ nt ∧ nt < 13)) (hlen : (LM σ o q0 nt (σ 1).toNat 0).length ≤ 12)
    (hQ : ∀ st' on' wy', WY κc s5 (fun _ => 5) u n (5 ^ n) wy' (LM σ o q0 nt (σ 1).toNat 0) → (∀ i : Int, 0 ≤ i → i < n → st' i = s5 i) → Q (some (jv (TW κc n (LM σ o q0 nt (σ 1).toNat 0) (fun _ => 1) u))) (hW I m lf κ st' ω σ) (jW J m wy' on') P T z) : MC G yX11_waysOf (ws_ yX11_waysOf cX11_waysOf 11 (some FieldType.long)) (d + 1) 0 0 [.ref m, iv o, iv q0, iv nt] (hW I m lf κ st ω σ) (jW J m wy on) P T z Q nX := by
  have hb := hs.b
  have ht := hcv.ta
  have hu : ∀ i : Int, 0 ≤ i → i < n → 0 ≤ u i ∧ u i ≤ 4 := fun i p q => (hL i p q).2.2.2
  have hRX := s5_RX hu
  have hS0 : s5 n = ((5 ^ n : Nat) : Int) := by unfold s5; rw [show ((n : Int)).toNat = n by omega]; exact (Int.natCast_pow 5 n).symm
  have hSr := s5_r (i := (n : Int)) (by omega) (by omega)
  rw [hS0] at hSr
  generalize hSS : (5 ^ n : Nat) = S at hS0 hSr hQ
  generalize hLL : LM σ o q0 nt (σ 1).toNat 0 = L at hlen hQ
  refine MC.of (by decide) (Nat.le_of_ble_eq_true rfl) ?_
  show PW G mX11_waysOf (rmD (d + 1) 0 0) (MZ G Q nX 0 0) 0 0 (hW I m lf κ st ω σ) (jW J m wy on) P T z 0 [some (.ref m), some (iv o), some (iv q0), some (iv nt), none, none, none, none, none, none, none] []
  refine r_iconst (pc := 0) dX11_waysOf_0 ?_
  refine r_istore4 (pc := 1) (Nat.le_of_ble_eq_true rfl) dX11_waysOf_1 rfl ?_
  refine r_iconst (pc := 3) dX11_waysOf_3 ?_
  refine r_istore5 (pc := 4) (Nat.le_of_ble_eq_true rfl) dX11_waysOf_4 rfl ?_
  have fin : ∀ (st1 on1 wy1 : Int → Int) (l5 l6 l7 l8 l9 l10 : Option Value), (∀ i : Int, 0 ≤ i → i < n → st1 i = s5 i) → WY κc s5 (fun _ => 5) u n S wy1 L → PW G mX11_waysOf (rmD (d + 1) 0 0) (MZ G Q nX 0 0) 0 0 (hW I m lf κ st1 ω σ) (jW J m wy1 on1) P T z 335 [some (.ref m), some (iv o), some (iv q0), some (iv nt), some (iv S), l5, l6, l7, l8, l9, l10] [] := by
    intro st1 on1 wy1 l5 l6 l7 l8 l9 l10 hst hwy
    have hsum := hwy.sum
    refine r_lconst (pc := 335) (x := 0) dX11_waysOf_335 (by decide +kernel) ?_
    refine r_lstore5 (pc := 336) (Nat.le_of_ble_eq_true rfl) dX11_waysOf_336 rfl ?_
    refine r_iconst (pc := 338) dX11_waysOf_338 ?_
    refine r_istore7 (pc := 339) (Nat.le_of_ble_eq_true rfl) dX11_waysOf_339 rfl ?_
    have loop : ∀ (k : Nat) (s : Int), 0 ≤ s → s + k = S → PW G mX11_waysOf (rmD (d + 1) 0 0) (MZ G Q nX 0 0) 0 0 (hW I m lf κ st1 ω σ) (jW J m wy1 on1) P T z 341 [some (.ref m), some (iv o), some (iv q0), some (iv nt), some (iv S), some (jv (sm wy1 s.toNat)), none, some (iv s), l8, l9, l10] [] := by
      intro k
      induction k with
      | zero =>
        intro s s0 sk
        obtain rfl : s = S := by omega
        refine r_iload (pc := 341) dX11_waysOf_341 rfl ?_
        refine r_iload (pc := 343) dX11_waysOf_343 rfl ?_
        refine r_icmp_ge (pc := 345) 366 dX11_waysOf_345 rfl (by omega) (by omega) (fun h345 => ?_) (fun h345 => ?_)
        · refine r_lload (pc := 366) dX11_waysOf_366 rfl ?_
          refine r_lreturn (pc := 368) rfl dX11_waysOf_368 (Nat.le_of_ble_eq_true rfl) (Nat.le_of_ble_eq_true rfl) ?_
          rw [show ((S : Int)).toNat = S by omega, hsum]
          exact hQ st1 on1 wy1 hwy hst
        omega
      | succ k ih =>
        intro s s0 sk
        have e9 := sm_succ (f := wy1) s0
        refine r_iload (pc := 341) dX11_waysOf_341 rfl ?_
        refine r_iload (pc := 343) dX11_waysOf_343 rfl ?_
        refine r_icmp_ge (pc := 345) 366 dX11_waysOf_345 rfl (by omega) (by omega) (fun h345 => ?_) (fun h345 => ?_)
        · omega
        refine r_lload (pc := 348) dX11_waysOf_348 rfl ?_
        refine r_aload_n (pc := 350) dX11_waysOf_350 rfl rfl ?_
        refine r_getr (pc := 351) (c := 11) (k := 31) (kz := 31) hs.o cok_11 (Nat.le_of_ble_eq_true rfl) q1891 ⟨rfl, rfl⟩ (Or.inl rfl) rfl (fun _ _ _ => rfl) hs.p_ways dX11_waysOf_351 ?_
        refine r_iload (pc := 354) dX11_waysOf_354 rfl ?_
        refine r_lald (pc := 356) hs.t_ways (by omega) (by omega) dX11_waysOf_356 (fun hr356 => ?_)
        try simp (disch := omega) only [ui_ur, ui_ur_n, ur_sv, ur_nv, ui_sv, ui_nv, ui_uis, us_s, us_n] at hr356 ⊢
        refine r_ladd (pc := 357) dX11_waysOf_357 ?_
        rw [e9]
        refine r_lstore5 (pc := 358) (Nat.le_of_ble_eq_true rfl) dX11_waysOf_358 rfl ?_
        refine r_iinc7 (pc := 360) (Nat.le_of_ble_eq_true rfl) dX11_waysOf_360 rfl ?_
        refine r_goto (pc := 363) 341 dX11_waysOf_363 rfl ?_
        exact ih (s + 1) (by omega) (by omega)
    exact loop S 0 (by omega) (by omega)
  have outer : ∀ (st1 : Int → Int), (∀ i : Int, 0 ≤ i → i < n → st1 i = s5 i) → ∀ (k : Nat) (q : Int) (on1 wy1 : Int → Int) (Ld : List Int) (l6 l7 l8 l9 l10 : Option Value), 0 ≤ q → q + k = σ 1 → WY κc s5 (fun _ => 5) u n S wy1 Ld → Ld ++ LM σ o q0 nt k q = L → PW G mX11_waysOf (rmD (d + 1) 0 0) (MZ G Q nX 0 0) 0 0 (hW I m lf κ st1 ω σ) (jW J m wy1 on1) P T z 72 [some (.ref m), some (iv o), some (iv q0), some (iv nt), some (iv S), some (iv q), l6, l7, l8, l9, l10] [] := by
    intro st1 hst k
    induction k with
    | zero =>
      intro q on1 wy1 Ld l6 l7 l8 l9 l10 q0' qk hwy he
      refine r_iload (pc := 72) dX11_waysOf_72 rfl ?_
      refine r_aload_n (pc := 74) dX11_waysOf_74 rfl rfl ?_
      refine r_getr (pc := 75) (c := 11) (k := 6) (kz := 6) hs.o cok_11 (Nat.le_of_ble_eq_true rfl) q1866 ⟨rfl, rfl⟩ (Or.inl rfl) rfl (fun _ _ _ => rfl) hs.p_s dX11_waysOf_75 ?_
      refine r_iconst (pc := 78) dX11_waysOf_78 ?_
      refine r_iald (pc := 79) hs.t_s (by omega) (by omega) dX11_waysOf_79 (fun hr79 => ?_)
      try simp (disch := omega) only [ui_ur, ui_ur_n, ur_sv, ur_nv, ui_sv, ui_nv, ui_uis, us_s, us_n] at hr79 ⊢
      refine r_icmp_ge (pc := 80) 335 dX11_waysOf_80 rfl (by omega) (by omega) (fun h80 => ?_) (fun h80 => ?_)
      · refine fin st1 on1 wy1 _ _ _ _ _ _ hst ?_
        rw [← he]
        show WY κc s5 (fun _ => 5) u n S wy1 (Ld ++ [])
        rw [List.append_nil]
        exact hwy
      omega
    | succ k ih =>
      intro q on1 wy1 Ld l6 l7 l8 l9 l10 q0' qk hwy he
      have hoq := hcv.cd (p := q) (by omega) (by omega)
      have next : ∀ (on1 wy1 : Int → Int) (Ld : List Int) (l6 l7 l8 l9 l10 : Option Value), WY κc s5 (fun _ => 5) u n S wy1 Ld → Ld ++ LM σ o q0 nt k (q + 1) = L → PW G mX11_waysOf (rmD (d + 1) 0 0) (MZ G Q nX 0 0) 0 0 (hW I m lf κ st1 ω σ) (jW J m wy1 on1) P T z 329 [some (.ref m), some (iv o), some (iv q0), some (iv nt), some (iv S), some (iv q), l6, l7, l8, l9, l10] [] := by
        intro on1 wy1 Ld l6 l7 l8 l9 l10 hwy he
        refine r_iinc5 (pc := 329) (Nat.le_of_ble_eq_true rfl) dX11_waysOf_329 rfl ?_
        refine r_goto (pc := 332) 72 dX11_waysOf_332 rfl ?_
        exact ih (q + 1) on1 wy1 Ld l6 l7 l8 l9 l10 (by omega) (by omega) hwy he
      refine r_iload (pc := 72) dX11_waysOf_72 rfl ?_
      refine r_aload_n (pc := 74) dX11_waysOf_74 rfl rfl ?_
      refine r_getr (pc := 75) (c := 11) (k := 6) (kz := 6) hs.o cok_11 (Nat.le_of_ble_eq_true rfl) q1866 ⟨rfl, rfl⟩ (Or.inl rfl) rfl (fun _ _ _ => rfl) hs.p_s dX11_waysOf_75 ?_
      refine r_iconst (pc := 78) dX11_waysOf_78 ?_
      refine r_iald (pc := 79) hs.t_s (by omega) (by omega) dX11_waysOf_79 (fun hr79 => ?_)
      try simp (disch := omega) only [ui_ur, ui_ur_n, ur_sv, ur_nv, ui_sv, ui_nv, ui_uis, us_s, us_n] at hr79 ⊢
      refine r_icmp_ge (pc := 80) 335 dX11_waysOf_80 rfl (by omega) (by omega) (fun h80 => ?_) (fun h80 => ?_)
      · omega
      refine r_iload (pc := 83) dX11_waysOf_83 rfl ?_
      refine r_iload_n (pc := 85) dX11_waysOf_85 rfl rfl ?_
      refine r_icmp_ne (pc := 86) 92 dX11_waysOf_86 rfl (by omega) (by omega) (fun h86 => ?_) (fun h86 => ?_)
      · have he2 : Ld ++ (Lq σ q0 nt q (σ (229 + q)).toNat 0 ++ LM σ o q0 nt k (q + 1)) = L := by
          rw [← he]
          show _ = Ld ++ ((if q = o then [] else _) ++ _)
          rw [if_neg h86]
        refine r_iconst (pc := 92) dX11_waysOf_92 ?_
        refine r_istore6 (pc := 93) (Nat.le_of_ble_eq_true rfl) dX11_waysOf_93 rfl ?_
        have inner : ∀ (w : Nat) (i : Int) (on1 wy1 : Int → Int) (Ld : List Int) (l7 l8 l9 l10 : Option Value), 0 ≤ i → i + w = σ (229 + q) → WY κc s5 (fun _ => 5) u n S wy1 Ld → Ld ++ (Lq σ q0 nt q w i ++ LM σ o q0 nt k (q + 1)) = L → PW G mX11_waysOf (rmD (d + 1) 0 0) (MZ G Q nX 0 0) 0 0 (hW I m lf κ st1 ω σ) (jW J m wy1 on1) P T z 95 [some (.ref m), some (iv o), some (iv q0), some (iv nt), some (iv S), some (iv q), some (iv i), l7, l8, l9, l10] [] := by
          intro w
          induction w with
          | zero =>
            intro i on1 wy1 Ld l7 l8 l9 l10 i0 iw hwy he
            refine r_iload (pc := 95) dX11_waysOf_95 rfl ?_
            refine r_aload_n (pc := 97) dX11_waysOf_97 rfl rfl ?_
            refine r_getr (pc := 98) (c := 11) (k := 6) (kz := 6) hs.o cok_11 (Nat.le_of_ble_eq_true rfl) q1866 ⟨rfl, rfl⟩ (Or.inl rfl) rfl (fun _ _ _ => rfl) hs.p_s dX11_waysOf_98 ?_
            refine r_sipush (pc := 101) dX11_waysOf_101 (by decide +kernel) ?_
            refine r_iload (pc := 104) dX11_waysOf_104 rfl ?_
            refine r_iadd (pc := 106) dX11_waysOf_106 ?_
            refine r_iald (pc := 107) hs.t_s (by omega) (by omega) dX11_waysOf_107 (fun hr107 => ?_)
            try simp (disch := omega) only [ui_ur, ui_ur_n, ur_sv, ur_nv, ui_sv, ui_nv, ui_uis, us_s, us_n] at hr107 ⊢
            refine r_icmp_ge (pc := 108) 329 dX11_waysOf_108 rfl (by omega) (by omega) (fun h108 => ?_) (fun h108 => ?_)
            · exact next on1 wy1 Ld _ _ _ _ _ hwy he
            omega
          | succ w ihw =>
            intro i on1 wy1 Ld l7 l8 l9 l10 i0 iw hwy he
            have hms := hcv.ms q i (by omega) (by omega) i0 (by omega)
            have hll : Ld.length ≤ 12 := by
              have := congrArg List.length he
              rw [List.length_append] at this
              omega
            have ht9 := TW_le (κ := κc) hn6 (fun i p q => (hu i p q).2) hll
            have hsum := hwy.sum
            have go : (0 ≤ mk1 σ q0 nt q i ∧ mk1 σ q0 nt q i < 8192) → ∀ l8 l9 l10 : Option Value, PW G mX11_waysOf (rmD (d + 1) 0 0) (MZ G Q nX 0 0) 0 0 (hW I m lf κ st1 ω σ) (jW J m wy1 on1) P T z 142 [some (.ref m), some (iv o), some (iv q0), some (iv nt), some (iv S), some (iv q), some (iv i), l7, l8, l9, l10] [iv (mk1 σ q0 nt q i)] := by
              intro hmk l8 l9 l10
              generalize hmm : mk1 σ q0 nt q i = mm at hmk
              have back : ∀ (v : Nat) (s : Int) (on2 wy2 : Int → Int) (l9 l10 : Option Value), 0 ≤ s → s + v = S → WY κc s5 (fun _ => 5) u n S on2 (Ld ++ [mm]) → (∀ a, 0 ≤ a → a < s → wy2 a = on2 a) → PW G mX11_waysOf (rmD (d + 1) 0 0) (MZ G Q nX 0 0) 0 0 (hW I m lf κ st1 ω σ) (jW J m wy2 on2) P T z 296 [some (.ref m), some (iv o), some (iv q0), some (iv nt), some (iv S), some (iv q), some (iv i), some (iv mm), some (iv s), l9, l10] [] := by
                intro v
                induction v with
                | zero =>
                  intro s on2 wy2 l9 l10 s0 sv hw2 h2
                  refine r_iload (pc := 296) dX11_waysOf_296 rfl ?_
                  refine r_iload (pc := 298) dX11_waysOf_298 rfl ?_
                  refine r_icmp_ge (pc := 300) 323 dX11_waysOf_300 rfl (by omega) (by omega) (fun h300 => ?_) (fun h300 => ?_)
                  · refine r_iinc6 (pc := 323) (Nat.le_of_ble_eq_true rfl) dX11_waysOf_323 rfl ?_
                    refine r_goto (pc := 326) 95 dX11_waysOf_326 rfl ?_
                    refine ihw (i + 1) on2 wy2 (Ld ++ [mm]) _ _ _ _ (by omega) (by omega) (hw2.cg (fun a p p2 => h2 a p (by omega))) ?_
                    rw [← he, List.append_assoc, ← hmm]
                    rfl
                  omega
                | succ v ihv =>
                  intro s on2 wy2 l9 l10 s0 sv hw2 h2
                  refine r_iload (pc := 296) dX11_waysOf_296 rfl ?_
                  refine r_iload (pc := 298) dX11_waysOf_298 rfl ?_
                  refine r_icmp_ge (pc := 300) 323 dX11_waysOf_300 rfl (by omega) (by omega) (fun h300 => ?_) (fun h300 => ?_)
                  · omega
                  refine r_aload_n (pc := 303) dX11_waysOf_303 rfl rfl ?_
                  refine r_getr (pc := 304) (c := 11) (k := 31) (kz := 31) hs.o cok_11 (Nat.le_of_ble_eq_true rfl) q1891 ⟨rfl, rfl⟩ (Or.inl rfl) rfl (fun _ _ _ => rfl) hs.p_ways dX11_waysOf_304 ?_
                  refine r_iload (pc := 307) dX11_waysOf_307 rfl ?_
                  refine r_aload_n (pc := 309) dX11_waysOf_309 rfl rfl ?_
                  refine r_getr (pc := 310) (c := 11) (k := 32) (kz := 32) hs.o cok_11 (Nat.le_of_ble_eq_true rfl) q1892 ⟨rfl, rfl⟩ (Or.inl rfl) rfl (fun _ _ _ => rfl) hs.p_waysOn dX11_waysOf_310 ?_
                  refine r_iload (pc := 313) dX11_waysOf_313 rfl ?_
                  refine r_lald (pc := 315) hs.t_waysOn (by omega) (by omega) dX11_waysOf_315 (fun hr315 => ?_)
                  try simp (disch := omega) only [ui_ur, ui_ur_n, ur_sv, ur_nv, ui_sv, ui_nv, ui_uis, us_s, us_n] at hr315 ⊢
                  refine r_last (pc := 316) hs.t_ways (by omega) (by omega) (by omega) hr315 dX11_waysOf_316 ?_
                  try simp (disch := omega) only [ui_ur, ui_ur_n, ur_sv, ur_nv, ui_sv, ui_nv, ui_uis, us_s, us_n]
                  refine r_iinc8 (pc := 317) (Nat.le_of_ble_eq_true rfl) dX11_waysOf_317 rfl ?_
                  refine r_goto (pc := 320) 296 dX11_waysOf_320 rfl ?_
                  refine ihv (s + 1) on2 _ l9 l10 (by omega) (by omega) hw2 (fun a p p2 => ?_)
                  by_cases e : a = s
                  · subst e; exact us_s
                  · rw [us_n e]; exact h2 a p (by omega)
              have scat : ∀ (v : Nat) (s : Int) (on2 : Int → Int) (l9 l10 : Option Value), 0 ≤ s → s + v = S → PG κc s5 (fun _ => 5) u n S mm wy1 on2 s 0 → PW G mX11_waysOf (rmD (d + 1) 0 0) (MZ G Q nX 0 0) 0 0 (hW I m lf κ st1 ω σ) (jW J m wy1 on2) P T z 171 [some (.ref m), some (iv o), some (iv q0), some (iv nt), some (iv S), some (iv q), some (iv i), some (iv mm), some (iv s), l9, l10] [] := by
                intro v
                induction v with
                | zero =>
                  intro s on2 l9 l10 s0 sv hp
                  obtain rfl : s = S := by omega
                  refine r_iload (pc := 171) dX11_waysOf_171 rfl ?_
                  refine r_iload (pc := 173) dX11_waysOf_173 rfl ?_
                  refine r_icmp_ge (pc := 175) 293 dX11_waysOf_175 rfl (by omega) (by omega) (fun h175 => ?_) (fun h175 => ?_)
                  · refine r_iconst (pc := 293) dX11_waysOf_293 ?_
                    refine r_istore8 (pc := 294) (Nat.le_of_ble_eq_true rfl) dX11_waysOf_294 rfl ?_
                    refine back S 0 on2 wy1 _ _ (by omega) (by omega) (hwy.step hRX ⟨hp.1, fun g => ?_⟩) (fun a p p2 => by omega)
                    rw [hp.2 g]
                    show _ + wy1 S * 0 = _
                    rw [Int.mul_zero, Int.add_zero]
                    rfl
                  omega
                | succ v ihv =>
                  intro s on2 l9 l10 s0 sv hp
                  have hfs := hwy.1 s s0 (by omega)
                  have hfB := sm_le1 (f := wy1) (n := S) hwy.1 s0 (by omega)
                  have nxt : ∀ (on2 : Int → Int) (l9 l10 : Option Value), PG κc s5 (fun _ => 5) u n S mm wy1 on2 s n → PW G mX11_waysOf (rmD (d + 1) 0 0) (MZ G Q nX 0 0) 0 0 (hW I m lf κ st1 ω σ) (jW J m wy1 on2) P T z 287 [some (.ref m), some (iv o), some (iv q0), some (iv nt), some (iv S), some (iv q), some (iv i), some (iv mm), some (iv s), l9, l10] [] := by
                    intro on2 l9 l10 hp
                    refine r_iinc8 (pc := 287) (Nat.le_of_ble_eq_true rfl) dX11_waysOf_287 rfl ?_
                    refine r_goto (pc := 290) 171 dX11_waysOf_290 rfl ?_
                    refine ihv (s + 1) on2 l9 l10 (by omega) (by omega) ⟨hp.1, fun g => ?_⟩
                    rw [hp.2 g]
                    have := sm_succ (f := fun a' => wy1 a' * inG κc s5 (fun _ => 5) u mm a' g n) s0
                    rw [this]
                    show _ = _ + wy1 (s + 1) * 0
                    rw [Int.mul_zero, Int.add_zero]
                  have lr := lc_r (x := wy1 s) (y := 0)
                  refine r_iload (pc := 171) dX11_waysOf_171 rfl ?_
                  refine r_iload (pc := 173) dX11_waysOf_173 rfl ?_
                  refine r_icmp_ge (pc := 175) 293 dX11_waysOf_175 rfl (by omega) (by omega) (fun h175 => ?_) (fun h175 => ?_)
                  · omega
                  refine r_aload_n (pc := 178) dX11_waysOf_178 rfl rfl ?_
                  refine r_getr (pc := 179) (c := 11) (k := 31) (kz := 31) hs.o cok_11 (Nat.le_of_ble_eq_true rfl) q1891 ⟨rfl, rfl⟩ (Or.inl rfl) rfl (fun _ _ _ => rfl) hs.p_ways dX11_waysOf_179 ?_
                  refine r_iload (pc := 182) dX11_waysOf_182 rfl ?_
                  refine r_lald (pc := 184) hs.t_ways (by omega) (by omega) dX11_waysOf_184 (fun hr184 => ?_)
                  try simp (disch := omega) only [ui_ur, ui_ur_n, ur_sv, ur_nv, ui_sv, ui_nv, ui_uis, us_s, us_n] at hr184 ⊢
                  refine r_lconst (pc := 185) (x := 0) dX11_waysOf_185 (by decide +kernel) ?_
                  refine r_lcmp (pc := 186) dX11_waysOf_186 (by omega) (by omega) ?_
                  refine r_if_ne (pc := 187) 193 dX11_waysOf_187 rfl (by omega) (fun h187 => ?_) (fun h187 => ?_)
                  · refine r_iconst (pc := 193) dX11_waysOf_193 ?_
                    refine r_istore9 (pc := 194) (Nat.le_of_ble_eq_true rfl) dX11_waysOf_194 rfl ?_
                    have inn : ∀ (y : Nat) (j : Int) (on2 : Int → Int) (l10 : Option Value), 0 ≤ j → j + y = n → PG κc s5 (fun _ => 5) u n S mm wy1 on2 s j.toNat → PW G mX11_waysOf (rmD (d + 1) 0 0) (MZ G Q nX 0 0) 0 0 (hW I m lf κ st1 ω σ) (jW J m wy1 on2) P T z 196 [some (.ref m), some (iv o), some (iv q0), some (iv nt), some (iv S), some (iv q), some (iv i), some (iv mm), some (iv s), some (iv j), l10] [] := by
                      intro y
                      induction y with
                      | zero =>
                        intro j on2 l10 j0 jy hp
                        obtain rfl : j = n := by omega
                        refine r_iload (pc := 196) dX11_waysOf_196 rfl ?_
                        refine r_aload_n (pc := 198) dX11_waysOf_198 rfl rfl ?_
                        refine r_geti (pc := 199) (c := 11) (k := 33) (kz := 33) hs.o cok_11 (Nat.le_of_ble_eq_true rfl) q1893 ⟨rfl, rfl⟩ (Or.inl rfl) rfl (fun _ _ _ => rfl) dX11_waysOf_199 (fun hr199 => ?_)
                        try simp (disch := omega) only [ui_ur, ui_ur_n, ur_sv, ur_nv, ui_sv, ui_nv, ui_uis, us_s, us_n] at hr199 ⊢
                        rw [e33] at hr199 ⊢
                        refine r_icmp_ge (pc := 202) 287 dX11_waysOf_202 rfl (by omega) (by omega) (fun h202 => ?_) (fun h202 => ?_)
                        · exact nxt on2 _ _ (by rw [show ((n : Int)).toNat = n by omega] at hp; exact hp)
                        omega
                      | succ y ihy =>
                        intro j on2 l10 j0 jy hp
                        obtain ⟨eκ, hκ, eu, u0, u4⟩ := hL j j0 (by omega)
                        have est := hst j j0 (by omega)
                        have r5 := s5_r (i := j) j0 (by omega)
                        have hd0 : 0 ≤ s / s5 j % 5 := Int.emod_nonneg _ (by omega)
                        have hd1 : s / s5 j % 5 < 5 := Int.emod_lt_of_pos _ (by omega)
                        have evs : vs s5 (fun _ => 5) u s j = u j - s / s5 j % 5 := rfl
                        have skip : ¬ (0 < vs s5 (fun _ => 5) u s j ∧ ¬ tb mm (κc j)) → ∀ l10 : Option Value, PW G mX11_waysOf (rmD (d + 1) 0 0) (MZ G Q nX 0 0) 0 0 (hW I m lf κ st1 ω σ) (jW J m wy1 on2) P T z 281 [some (.ref m), some (iv o), some (iv q0), some (iv nt), some (iv S), some (iv q), some (iv i), some (iv mm), some (iv s), some (iv j), l10] [] := by
                          intro c l10
                          refine r_iinc9 (pc := 281) (Nat.le_of_ble_eq_true rfl) dX11_waysOf_281 rfl ?_
                          refine r_goto (pc := 284) 196 dX11_waysOf_284 rfl ?_
                          exact ihy (j + 1) on2 l10 (by omega) (by omega) (hp.skip j0 c)
                        refine r_iload (pc := 196) dX11_waysOf_196 rfl ?_
                        refine r_aload_n (pc := 198) dX11_waysOf_198 rfl rfl ?_
                        refine r_geti (pc := 199) (c := 11) (k := 33) (kz := 33) hs.o cok_11 (Nat.le_of_ble_eq_true rfl) q1893 ⟨rfl, rfl⟩ (Or.inl rfl) rfl (fun _ _ _ => rfl) dX11_waysOf_199 (fun hr199 => ?_)
                        try simp (disch := omega) only [ui_ur, ui_ur_n, ur_sv, ur_nv, ui_sv, ui_nv, ui_uis, us_s, us_n] at hr199 ⊢
                        rw [e33] at hr199 ⊢
                        refine r_icmp_ge (pc := 202) 287 dX11_waysOf_202 rfl (by omega) (by omega) (fun h202 => ?_) (fun h202 => ?_)
                        · omega
                        refine r_aload_n (pc := 205) dX11_waysOf_205 rfl rfl ?_
                        refine r_getr (pc := 206) (c := 11) (k := 28) (kz := 28) hs.o cok_11 (Nat.le_of_ble_eq_true rfl) q1888 ⟨rfl, rfl⟩ (Or.inl rfl) rfl (fun _ _ _ => rfl) hs.p_left dX11_waysOf_206 ?_
                        refine r_aload_n (pc := 209) dX11_waysOf_209 rfl rfl ?_
                        refine r_getr (pc := 210) (c := 11) (k := 29) (kz := 29) hs.o cok_11 (Nat.le_of_ble_eq_true rfl) q1889 ⟨rfl, rfl⟩ (Or.inl rfl) rfl (fun _ _ _ => rfl) hs.p_kindAt dX11_waysOf_210 ?_
                        refine r_iload (pc := 213) dX11_waysOf_213 rfl ?_
                        refine r_iald (pc := 215) hs.t_kindAt (by omega) (by omega) dX11_waysOf_215 (fun hr215 => ?_)
                        try simp (disch := omega) only [ui_ur, ui_ur_n, ur_sv, ur_nv, ui_sv, ui_nv, ui_uis, us_s, us_n] at hr215 ⊢
                        rw [eκ] at hr215 ⊢
                        refine r_iald (pc := 216) hs.t_left (by omega) (by omega) dX11_waysOf_216 (fun hr216 => ?_)
                        try simp (disch := omega) only [ui_ur, ui_ur_n, ur_sv, ur_nv, ui_sv, ui_nv, ui_uis, us_s, us_n] at hr216 ⊢
                        rw [eu] at hr216 ⊢
                        refine r_iload (pc := 217) dX11_waysOf_217 rfl ?_
                        refine r_aload_n (pc := 219) dX11_waysOf_219 rfl rfl ?_
                        refine r_getr (pc := 220) (c := 11) (k := 30) (kz := 30) hs.o cok_11 (Nat.le_of_ble_eq_true rfl) q1890 ⟨rfl, rfl⟩ (Or.inl rfl) rfl (fun _ _ _ => rfl) hs.p_step dX11_waysOf_220 ?_
                        refine r_iload (pc := 223) dX11_waysOf_223 rfl ?_
                        refine r_iald (pc := 225) hs.t_step (by omega) (by omega) dX11_waysOf_225 (fun hr225 => ?_)
                        try simp (disch := omega) only [ui_ur, ui_ur_n, ur_sv, ur_nv, ui_sv, ui_nv, ui_uis, us_s, us_n] at hr225 ⊢
                        rw [est] at hr225 ⊢
                        refine r_callS2 (pc := 226) (M_digit (by omega) (by omega) fe_i) im_X11_digit q2265 dX11_waysOf_226 (Nat.le_of_ble_eq_true rfl) (Nat.le_of_ble_eq_true rfl) rfl (k_fi ?_) (fun _ _ _ _ _ _ _ hx => no_x hx)
                        refine r_isub (pc := 229) dX11_waysOf_229 ?_
                        refine r_istore10 (pc := 230) (Nat.le_of_ble_eq_true rfl) dX11_waysOf_230 rfl ?_
                        refine r_iload (pc := 232) dX11_waysOf_232 rfl ?_
                        refine r_if_le (pc := 234) 281 dX11_waysOf_234 rfl (by omega) (fun h234 => ?_) (fun h234 => ?_)
                        · exact skip (fun c => by rw [evs] at c; omega) _
                        refine r_iload (pc := 237) dX11_waysOf_237 rfl ?_
                        refine r_aload_n (pc := 239) dX11_waysOf_239 rfl rfl ?_
                        refine r_getr (pc := 240) (c := 11) (k := 29) (kz := 29) hs.o cok_11 (Nat.le_of_ble_eq_true rfl) q1889 ⟨rfl, rfl⟩ (Or.inl rfl) rfl (fun _ _ _ => rfl) hs.p_kindAt dX11_waysOf_240 ?_
                        refine r_iload (pc := 243) dX11_waysOf_243 rfl ?_
                        refine r_iald (pc := 245) hs.t_kindAt (by omega) (by omega) dX11_waysOf_245 (fun hr245 => ?_)
                        try simp (disch := omega) only [ui_ur, ui_ur_n, ur_sv, ur_nv, ui_sv, ui_nv, ui_uis, us_s, us_n] at hr245 ⊢
                        rw [eκ] at hr245 ⊢
                        refine r_callS2 (pc := 246) (M_bitOf (by omega) (by omega) fe_i) im_X11_bitOf q2146 dX11_waysOf_246 (Nat.le_of_ble_eq_true rfl) (Nat.le_of_ble_eq_true rfl) rfl (k_fi ?_) (fun _ _ _ _ _ _ _ hx => no_x hx)
                        refine r_if_ne (pc := 249) 281 dX11_waysOf_249 rfl bz_g (fun h249 => ?_) (fun h249 => ?_)
                        · exact skip (fun c => c.2 (bz_ne.mp h249)) _
                        have hcond : 0 < vs s5 (fun _ => 5) u s j ∧ ¬ tb mm (κc j) := ⟨by rw [evs]; omega, bz_0.mp h249⟩
                        have hlt : s + s5 j < S := by
                          have := st_lt hRX s0 (i := j.toNat) (by omega) (by omega) (by rw [show ((j.toNat : Nat) : Int) = j by omega]; show s / s5 j % 5 + 1 < 5; omega)
                          rw [show ((j.toNat : Nat) : Int) = j by omega] at this
                          omega
                        have hnx := hp.step j0 hcond hfs (by omega) hlt
                        have hle := hnx.le (fun i p q => ⟨(hu i p q).2, show (0 : Int) < 5 by decide⟩) hn6 (by omega) hwy.1 s0 (by omega) (a := s + s5 j) (by omega) hlt
                        have hge := hnx.1 (s + s5 j) (by omega) hlt
                        rw [us_s] at hle hge
                        refine r_aload_n (pc := 252) dX11_waysOf_252 rfl rfl ?_
                        refine r_getr (pc := 253) (c := 11) (k := 32) (kz := 32) hs.o cok_11 (Nat.le_of_ble_eq_true rfl) q1892 ⟨rfl, rfl⟩ (Or.inl rfl) rfl (fun _ _ _ => rfl) hs.p_waysOn dX11_waysOf_253 ?_
                        refine r_iload (pc := 256) dX11_waysOf_256 rfl ?_
                        refine r_aload_n (pc := 258) dX11_waysOf_258 rfl rfl ?_
                        refine r_getr (pc := 259) (c := 11) (k := 30) (kz := 30) hs.o cok_11 (Nat.le_of_ble_eq_true rfl) q1890 ⟨rfl, rfl⟩ (Or.inl rfl) rfl (fun _ _ _ => rfl) hs.p_step dX11_waysOf_259 ?_
                        refine r_iload (pc := 262) dX11_waysOf_262 rfl ?_
                        refine r_iald (pc := 264) hs.t_step (by omega) (by omega) dX11_waysOf_264 (fun hr264 => ?_)
                        try simp (disch := omega) only [ui_ur, ui_ur_n, ur_sv, ur_nv, ui_sv, ui_nv, ui_uis, us_s, us_n] at hr264 ⊢
                        rw [est] at hr264 ⊢
                        refine r_iadd (pc := 265) dX11_waysOf_265 ?_
                        refine r_dup2 (pc := 266) dX11_waysOf_266 rfl rfl ?_
                        refine r_lald (pc := 267) hs.t_waysOn (by omega) (by omega) dX11_waysOf_267 (fun hr267 => ?_)
                        try simp (disch := omega) only [ui_ur, ui_ur_n, ur_sv, ur_nv, ui_sv, ui_nv, ui_uis, us_s, us_n] at hr267 ⊢
                        refine r_aload_n (pc := 268) dX11_waysOf_268 rfl rfl ?_
                        refine r_getr (pc := 269) (c := 11) (k := 31) (kz := 31) hs.o cok_11 (Nat.le_of_ble_eq_true rfl) q1891 ⟨rfl, rfl⟩ (Or.inl rfl) rfl (fun _ _ _ => rfl) hs.p_ways dX11_waysOf_269 ?_
                        refine r_iload (pc := 272) dX11_waysOf_272 rfl ?_
                        refine r_lald (pc := 274) hs.t_ways (by omega) (by omega) dX11_waysOf_274 (fun hr274 => ?_)
                        try simp (disch := omega) only [ui_ur, ui_ur_n, ur_sv, ur_nv, ui_sv, ui_nv, ui_uis, us_s, us_n] at hr274 ⊢
                        refine r_iload (pc := 275) dX11_waysOf_275 rfl ?_
                        refine r_i2l (pc := 277) dX11_waysOf_277 (by omega) ?_
                        refine r_lmul (pc := 278) dX11_waysOf_278 ?_
                        refine r_ladd (pc := 279) dX11_waysOf_279 ?_
                        refine r_last (pc := 280) hs.t_waysOn (by omega) (by omega) (by omega) (by rw [← evs]; omega) dX11_waysOf_280 ?_
                        try simp (disch := omega) only [ui_ur, ui_ur_n, ur_sv, ur_nv, ui_sv, ui_nv, ui_uis, us_s, us_n]
                        rw [← evs]
                        refine r_iinc9 (pc := 281) (Nat.le_of_ble_eq_true rfl) dX11_waysOf_281 rfl ?_
                        refine r_goto (pc := 284) 196 dX11_waysOf_284 rfl ?_
                        exact ihy (j + 1) _ _ (by omega) (by omega) hnx
                    exact inn n 0 on2 l10 (by omega) (by omega) hp
                  have z0 : wy1 s = 0 := lc_eq.mp (by omega)
                  refine r_goto (pc := 190) 287 dX11_waysOf_190 rfl ?_
                  refine nxt on2 _ _ ⟨hp.1, fun g => ?_⟩
                  rw [hp.2 g, z0, Int.zero_mul, Int.zero_mul]
              have zer : ∀ (v : Nat) (s : Int) (on2 : Int → Int) (l9 l10 : Option Value), 0 ≤ s → s + v = S → (∀ a, 0 ≤ a → a < s → on2 a = 0) → PW G mX11_waysOf (rmD (d + 1) 0 0) (MZ G Q nX 0 0) 0 0 (hW I m lf κ st1 ω σ) (jW J m wy1 on2) P T z 147 [some (.ref m), some (iv o), some (iv q0), some (iv nt), some (iv S), some (iv q), some (iv i), some (iv mm), some (iv s), l9, l10] [] := by
                intro v
                induction v with
                | zero =>
                  intro s on2 l9 l10 s0 sv h2
                  refine r_iload (pc := 147) dX11_waysOf_147 rfl ?_
                  refine r_iload (pc := 149) dX11_waysOf_149 rfl ?_
                  refine r_icmp_ge (pc := 151) 168 dX11_waysOf_151 rfl (by omega) (by omega) (fun h151 => ?_) (fun h151 => ?_)
                  · refine r_iconst (pc := 168) dX11_waysOf_168 ?_
                    refine r_istore8 (pc := 169) (Nat.le_of_ble_eq_true rfl) dX11_waysOf_169 rfl ?_
                    refine scat S 0 on2 _ _ (by omega) (by omega) ⟨fun a p p2 => by rw [h2 a p (by omega)]; omega, fun g => ?_⟩
                    rw [sm_z (fun a p p2 => by rw [h2 a p (by omega), Int.zero_mul])]
                    show 0 = 0 + wy1 0 * 0
                    omega
                  omega
                | succ v ihv =>
                  intro s on2 l9 l10 s0 sv h2
                  refine r_iload (pc := 147) dX11_waysOf_147 rfl ?_
                  refine r_iload (pc := 149) dX11_waysOf_149 rfl ?_
                  refine r_icmp_ge (pc := 151) 168 dX11_waysOf_151 rfl (by omega) (by omega) (fun h151 => ?_) (fun h151 => ?_)
                  · omega
                  refine r_aload_n (pc := 154) dX11_waysOf_154 rfl rfl ?_
                  refine r_getr (pc := 155) (c := 11) (k := 32) (kz := 32) hs.o cok_11 (Nat.le_of_ble_eq_true rfl) q1892 ⟨rfl, rfl⟩ (Or.inl rfl) rfl (fun _ _ _ => rfl) hs.p_waysOn dX11_waysOf_155 ?_
                  refine r_iload (pc := 158) dX11_waysOf_158 rfl ?_
                  refine r_lconst (pc := 160) (x := 0) dX11_waysOf_160 (by decide +kernel) ?_
                  refine r_last (pc := 161) hs.t_waysOn (by omega) (by omega) (by omega) (by omega) dX11_waysOf_161 ?_
                  try simp (disch := omega) only [ui_ur, ui_ur_n, ur_sv, ur_nv, ui_sv, ui_nv, ui_uis, us_s, us_n]
                  refine r_iinc8 (pc := 162) (Nat.le_of_ble_eq_true rfl) dX11_waysOf_162 rfl ?_
                  refine r_goto (pc := 165) 147 dX11_waysOf_165 rfl ?_
                  refine ihv (s + 1) _ l9 l10 (by omega) (by omega) (fun a p p2 => ?_)
                  by_cases e : a = s
                  · subst e; exact us_s
                  · rw [us_n e]; exact h2 a p (by omega)
              refine r_istore7 (pc := 142) (Nat.le_of_ble_eq_true rfl) dX11_waysOf_142 rfl ?_
              refine r_iconst (pc := 144) dX11_waysOf_144 ?_
              refine r_istore8 (pc := 145) (Nat.le_of_ble_eq_true rfl) dX11_waysOf_145 rfl ?_
              exact zer S 0 on1 _ _ (by omega) (by omega) (fun a p p2 => by omega)
            refine r_iload (pc := 95) dX11_waysOf_95 rfl ?_
            refine r_aload_n (pc := 97) dX11_waysOf_97 rfl rfl ?_
            refine r_getr (pc := 98) (c := 11) (k := 6) (kz := 6) hs.o cok_11 (Nat.le_of_ble_eq_true rfl) q1866 ⟨rfl, rfl⟩ (Or.inl rfl) rfl (fun _ _ _ => rfl) hs.p_s dX11_waysOf_98 ?_
            refine r_sipush (pc := 101) dX11_waysOf_101 (by decide +kernel) ?_
            refine r_iload (pc := 104) dX11_waysOf_104 rfl ?_
            refine r_iadd (pc := 106) dX11_waysOf_106 ?_
            refine r_iald (pc := 107) hs.t_s (by omega) (by omega) dX11_waysOf_107 (fun hr107 => ?_)
            try simp (disch := omega) only [ui_ur, ui_ur_n, ur_sv, ur_nv, ui_sv, ui_nv, ui_uis, us_s, us_n] at hr107 ⊢
            refine r_icmp_ge (pc := 108) 329 dX11_waysOf_108 rfl (by omega) (by omega) (fun h108 => ?_) (fun h108 => ?_)
            · omega
            refine r_aload_n (pc := 111) dX11_waysOf_111 rfl rfl ?_
            refine r_getr (pc := 112) (c := 11) (k := 6) (kz := 6) hs.o cok_11 (Nat.le_of_ble_eq_true rfl) q1866 ⟨rfl, rfl⟩ (Or.inl rfl) rfl (fun _ _ _ => rfl) hs.p_s dX11_waysOf_112 ?_
            refine r_sipush (pc := 115) dX11_waysOf_115 (by decide +kernel) ?_
            refine r_bipush (pc := 118) dX11_waysOf_118 (by decide +kernel) ?_
            refine r_iload (pc := 120) dX11_waysOf_120 rfl ?_
            refine r_imul (pc := 122) dX11_waysOf_122 ?_
            refine r_iadd (pc := 123) dX11_waysOf_123 ?_
            refine r_iload (pc := 124) dX11_waysOf_124 rfl ?_
            refine r_iadd (pc := 126) dX11_waysOf_126 ?_
            refine r_iald (pc := 127) hs.t_s (by omega) (by omega) dX11_waysOf_127 (fun hr127 => ?_)
            try simp (disch := omega) only [ui_ur, ui_ur_n, ur_sv, ur_nv, ui_sv, ui_nv, ui_uis, us_s, us_n] at hr127 ⊢
            refine r_iload (pc := 128) dX11_waysOf_128 rfl ?_
            refine r_iload_n (pc := 130) dX11_waysOf_130 rfl rfl ?_
            refine r_icmp_ne (pc := 131) 140 dX11_waysOf_131 rfl (by omega) (by omega) (fun h131 => ?_) (fun h131 => ?_)
            · refine r_iconst (pc := 140) dX11_waysOf_140 ?_
              refine r_ior (pc := 141) dX11_waysOf_141 (by omega) (by omega) ?_
              have em : mk1 σ q0 nt q i = σ (235 + 52 * q + i) := if_neg h131
              rw [show (((σ (235 + 52 * q + i)).toNat ||| (0 : Int).toNat : Nat) : Int) = mk1 σ q0 nt q i by rw [em]; show (((σ (235 + 52 * q + i)).toNat ||| 0 : Nat) : Int) = _; rw [Nat.or_zero]; omega]
              exact go (by omega) _ _ _
            have em : mk1 σ q0 nt q i = (((σ (235 + 52 * q + i)).toNat ||| (2 ^ nt.toNat : Nat) : Nat) : Int) := if_pos (by omega)
            have hp0 : 2 ^ nt.toNat ≤ 2 ^ 12 := Nat.pow_le_pow_right (by decide) (by omega)
            have hp2 : 0 ≤ ((2 ^ nt.toNat : Nat) : Int) ∧ ((2 ^ nt.toNat : Nat) : Int) < 2147483648 := ⟨Int.natCast_nonneg _, by omega⟩
            have hor : (σ (235 + 52 * q + i)).toNat ||| 2 ^ nt.toNat < 2 ^ 13 := Nat.or_lt_two_pow (by omega) (by omega)
            refine r_iconst (pc := 134) dX11_waysOf_134 ?_
            refine r_iload_n (pc := 135) dX11_waysOf_135 rfl rfl ?_
            refine r_ishl (pc := 136) dX11_waysOf_136 (by omega) ?_
            rw [Int.one_mul]
            refine r_goto (pc := 137) 141 dX11_waysOf_137 rfl ?_
            refine r_ior (pc := 141) dX11_waysOf_141 (by omega) hp2 ?_
            rw [Int.toNat_natCast, ← em]
            exact go (by omega) _ _ _
        exact inner (σ (229 + q)).toNat 0 on1 wy1 Ld _ _ _ _ (by omega) (by omega) hwy he2
      have he2 : Ld ++ LM σ o q0 nt k (q + 1) = L := by
        rw [← he]
        show _ = Ld ++ ((if q = o then [] else _) ++ _)
        rw [if_pos (by omega), List.nil_append]
      refine r_goto (pc := 89) 329 dX11_waysOf_89 rfl ?_
      exact next on1 wy1 Ld _ _ _ _ _ hwy he2
  have ini : ∀ (st1 : Int → Int), (∀ i : Int, 0 ≤ i → i < n → st1 i = s5 i) → ∀ (k : Nat) (s : Int) (wy1 : Int → Int), 0 ≤ s → s + k = S → (∀ a, 0 ≤ a → a < s → wy1 a = if a = 0 then 1 else 0) → PW G mX11_waysOf (rmD (d + 1) 0 0) (MZ G Q nX 0 0) 0 0 (hW I m lf κ st1 ω σ) (jW J m wy1 on) P T z 39 [some (.ref m), some (iv o), some (iv q0), some (iv nt), some (iv S), some (iv s), none, none, none, none, none] [] := by
    intro st1 hst k
    induction k with
    | zero =>
      intro s wy1 s0 sk hw
      refine r_iload (pc := 39) dX11_waysOf_39 rfl ?_
      refine r_iload (pc := 41) dX11_waysOf_41 rfl ?_
      refine r_icmp_ge (pc := 43) 69 dX11_waysOf_43 rfl (by omega) (by omega) (fun h43 => ?_) (fun h43 => ?_)
      · refine r_iconst (pc := 69) dX11_waysOf_69 ?_
        refine r_istore5 (pc := 70) (Nat.le_of_ble_eq_true rfl) dX11_waysOf_70 rfl ?_
        refine outer st1 hst (σ 1).toNat 0 on wy1 [] _ _ _ _ _ (by omega) (by omega) (WY.start hRX (by omega) (by rw [hw 0 (by omega) (by omega)]; rfl) (fun a p q => by rw [hw a (by omega) (by omega), if_neg (by omega)])) (by rw [List.nil_append]; exact hLL)
      omega
    | succ k ih =>
      intro s wy1 s0 sk hw
      have nx : ∀ v : Int, v = (if s = 0 then 1 else 0) → PW G mX11_waysOf (rmD (d + 1) 0 0) (MZ G Q nX 0 0) 0 0 (hW I m lf κ st1 ω σ) (jW J m wy1 on) P T z 62 [some (.ref m), some (iv o), some (iv q0), some (iv nt), some (iv S), some (iv s), none, none, none, none, none] [jv v, iv s, .ref (m + 13)] := by
        intro v ev
        have v9 : 0 ≤ v ∧ v ≤ 1 := by rw [ev]; split <;> omega
        refine r_last (pc := 62) hs.t_ways (by omega) (by omega) (by omega) (by omega) dX11_waysOf_62 ?_
        try simp (disch := omega) only [ui_ur, ui_ur_n, ur_sv, ur_nv, ui_sv, ui_nv, ui_uis, us_s, us_n]
        refine r_iinc5 (pc := 63) (Nat.le_of_ble_eq_true rfl) dX11_waysOf_63 rfl ?_
        refine r_goto (pc := 66) 39 dX11_waysOf_66 rfl ?_
        refine ih (s + 1) _ (by omega) (by omega) (fun a p q => ?_)
        by_cases e : a = s
        · subst e; rw [us_s]; exact ev
        · rw [us_n e]; exact hw a p (by omega)
      refine r_iload (pc := 39) dX11_waysOf_39 rfl ?_
      refine r_iload (pc := 41) dX11_waysOf_41 rfl ?_
      refine r_icmp_ge (pc := 43) 69 dX11_waysOf_43 rfl (by omega) (by omega) (fun h43 => ?_) (fun h43 => ?_)
      · omega
      refine r_aload_n (pc := 46) dX11_waysOf_46 rfl rfl ?_
      refine r_getr (pc := 47) (c := 11) (k := 31) (kz := 31) hs.o cok_11 (Nat.le_of_ble_eq_true rfl) q1891 ⟨rfl, rfl⟩ (Or.inl rfl) rfl (fun _ _ _ => rfl) hs.p_ways dX11_waysOf_47 ?_
      refine r_iload (pc := 50) dX11_waysOf_50 rfl ?_
      refine r_iload (pc := 52) dX11_waysOf_52 rfl ?_
      refine r_if_ne (pc := 54) 61 dX11_waysOf_54 rfl (by omega) (fun h54 => ?_) (fun h54 => ?_)
      · refine r_lconst (pc := 61) (x := 0) dX11_waysOf_61 (by decide +kernel) ?_
        exact nx 0 (if_neg h54).symm
      refine r_lconst (pc := 57) (x := 1) dX11_waysOf_57 (by decide +kernel) ?_
      refine r_goto (pc := 58) 62 dX11_waysOf_58 rfl ?_
      exact nx 1 (if_pos (by omega)).symm
  have steps : ∀ (k : Nat) (i : Int) (st1 : Int → Int), 0 ≤ i → i + k = n → (∀ j : Int, 0 ≤ j → j < i → st1 j = s5 j) → PW G mX11_waysOf (rmD (d + 1) 0 0) (MZ G Q nX 0 0) 0 0 (hW I m lf κ st1 ω σ) (jW J m wy on) P T z 6 [some (.ref m), some (iv o), some (iv q0), some (iv nt), some (iv (s5 i)), some (iv i), none, none, none, none, none] [] := by
    intro k
    induction k with
    | zero =>
      intro i st1 i0 ik hst
      obtain rfl : i = n := by omega
      refine r_iload (pc := 6) dX11_waysOf_6 rfl ?_
      refine r_aload_n (pc := 8) dX11_waysOf_8 rfl rfl ?_
      refine r_geti (pc := 9) (c := 11) (k := 33) (kz := 33) hs.o cok_11 (Nat.le_of_ble_eq_true rfl) q1893 ⟨rfl, rfl⟩ (Or.inl rfl) rfl (fun _ _ _ => rfl) dX11_waysOf_9 (fun hr9 => ?_)
      try simp (disch := omega) only [ui_ur, ui_ur_n, ur_sv, ur_nv, ui_sv, ui_nv, ui_uis, us_s, us_n] at hr9 ⊢
      rw [e33] at hr9 ⊢
      refine r_icmp_ge (pc := 12) 36 dX11_waysOf_12 rfl (by omega) (by omega) (fun h12 => ?_) (fun h12 => ?_)
      · refine r_iconst (pc := 36) dX11_waysOf_36 ?_
        refine r_istore5 (pc := 37) (Nat.le_of_ble_eq_true rfl) dX11_waysOf_37 rfl ?_
        rw [hS0]
        exact ini st1 hst S 0 wy (by omega) (by omega) (fun a p q => by omega)
      omega
    | succ k ih =>
      intro i st1 i0 ik hst
      have r5 := s5_r (i := i) i0 (by omega)
      refine r_iload (pc := 6) dX11_waysOf_6 rfl ?_
      refine r_aload_n (pc := 8) dX11_waysOf_8 rfl rfl ?_
      refine r_geti (pc := 9) (c := 11) (k := 33) (kz := 33) hs.o cok_11 (Nat.le_of_ble_eq_true rfl) q1893 ⟨rfl, rfl⟩ (Or.inl rfl) rfl (fun _ _ _ => rfl) dX11_waysOf_9 (fun hr9 => ?_)
      try simp (disch := omega) only [ui_ur, ui_ur_n, ur_sv, ur_nv, ui_sv, ui_nv, ui_uis, us_s, us_n] at hr9 ⊢
      rw [e33] at hr9 ⊢
      refine r_icmp_ge (pc := 12) 36 dX11_waysOf_12 rfl (by omega) (by omega) (fun h12 => ?_) (fun h12 => ?_)
      · omega
      refine r_aload_n (pc := 15) dX11_waysOf_15 rfl rfl ?_
      refine r_getr (pc := 16) (c := 11) (k := 30) (kz := 30) hs.o cok_11 (Nat.le_of_ble_eq_true rfl) q1890 ⟨rfl, rfl⟩ (Or.inl rfl) rfl (fun _ _ _ => rfl) hs.p_step dX11_waysOf_16 ?_
      refine r_iload (pc := 19) dX11_waysOf_19 rfl ?_
      refine r_iload (pc := 21) dX11_waysOf_21 rfl ?_
      refine r_iast (pc := 23) hs.t_step (by omega) (by omega) (by omega) (by omega) dX11_waysOf_23 ?_
      try simp (disch := omega) only [ui_ur, ui_ur_n, ur_sv, ur_nv, ui_sv, ui_nv, ui_uis, us_s, us_n]
      refine r_iload (pc := 24) dX11_waysOf_24 rfl ?_
      refine r_iconst (pc := 26) dX11_waysOf_26 ?_
      refine r_imul (pc := 27) dX11_waysOf_27 ?_
      rw [← s5_s i0]
      refine r_istore4 (pc := 28) (Nat.le_of_ble_eq_true rfl) dX11_waysOf_28 rfl ?_
      refine r_iinc5 (pc := 30) (Nat.le_of_ble_eq_true rfl) dX11_waysOf_30 rfl ?_
      refine r_goto (pc := 33) 6 dX11_waysOf_33 rfl ?_
      refine ih (i + 1) _ (by omega) (by omega) (fun j p q => ?_)
      by_cases e : j = i
      · subst e; exact us_s
      · rw [us_n e]; exact hst j p (by omega)
  exact steps n 0 st (by omega) (by omega) (fun j p q => by omega)
end O1
