/-! ===== the model: an asking ===== -/
section M5
variable {G : GE} {I J : HI} {P : HP} {T : HT} {z : Nat} {m d : Nat} {Q : QT} {σ : Int → Int}
set_option maxHeartbeats 2000000 in
theorem M_asks (hs : shM G P T m) {a b kind lies told : Int} (ha : 0 ≤ a ∧ a < 6) (hb2 : 0 ≤ b ∧ b < 6) (hab : a ≠ b) (hkd : 0 ≤ kind ∧ kind < 13) (hl : rg lies) (ht : told = 0 ∨ told = 1) (hg : RG σ) (h1 : 0 < σ 1 ∧ σ 1 ≤ 6) (hkb : σ (229 + b) + σ (151 + 13 * b + kind) + σ 7 ≤ 52)
    (hQ : Q (some (iv (f_gives σ b kind lies))) (ur (if told = 1 then tA I m a b kind (f_gives σ b kind lies) (f_asks σ a b kind lies).2.1 (f_asks σ a b kind lies).2.2 (f_lie σ b kind lies) (f_sure σ b kind) else I) (m + 2) (f_asks σ a b kind lies).1) J P T z) : MC G yX11_asks (ws_ yX11_asks cX11_asks 14 (some FieldType.int)) (d + 5) 0 0 [.ref m, iv a, iv b, iv kind, iv lies, iv told] (ur I (m + 2) σ) J P T z Q nX := by
  have hb := hs.b
  refine MC.of (by decide) (Nat.le_of_ble_eq_true rfl) ?_
  show PW G mX11_asks (rmD (d + 5) 0 0) (MZ G Q nX 0 0) 0 0 (ur I (m + 2) σ) J P T z 0 [some (.ref m), some (iv a), some (iv b), some (iv kind), some (iv lies), some (iv told), none, none, none, none, none, none, none, none] []
  refine r_rgU fun hrg => ?_
  -- the end: what is told
  have fin2 : ∀ (g : Int) (σ9 : Int → Int) (c l fr : Int) (l13 : Option Value), rg g → rg c → rg l → Q (some (iv g)) (ur (if told = 1 then tA I m a b kind g c l (f_lie σ b kind lies) (f_sure σ b kind) else I) (m + 2) σ9) J P T z → PW G mX11_asks (rmD (d + 5) 0 0) (MZ G Q nX 0 0) 0 0 (ur I (m + 2) σ9) J P T z 471 [some (.ref m), some (iv a), some (iv b), some (iv kind), some (iv lies), some (iv told), some (iv (f_sure σ b kind)), some (iv (σ (60 + 13 * b + kind))), some (iv (f_lie σ b kind lies)), some (iv g), some (iv c), some (iv l), some (iv fr), l13] [] := by
    intro g σ9 c l fr l13 hgr hcr hlr hQ
    have hsr : rg (f_sure σ b kind) := by unfold f_sure; split; omega; split <;> omega
    have hlr2 : rg (f_lie σ b kind lies) := bz_g
    refine r_iload (pc := 471) dX11_asks_471 rfl ?_
    refine r_if_ne (pc := 473) 479 dX11_asks_473 rfl (by omega) (fun h473 => ?_) (fun h473 => ?_)
    · rw [if_pos (by omega)] at hQ
      refine r_aload_n (pc := 479) dX11_asks_479 rfl rfl ?_
      refine r_iconst (pc := 480) dX11_asks_480 ?_
      refine r_putiU (pc := 481) (c := 11) (k := 24) (kz := 24) hs.o cok_11 (Nat.le_of_ble_eq_true rfl) q1884 ⟨rfl, rfl⟩ (Or.inl rfl) rfl (by omega) (by omega) rfl rfl (by omega) (fun _ _ _ => rfl) ⟨rfl, rfl⟩ dX11_asks_481 ?_
      refine r_aload_n (pc := 484) dX11_asks_484 rfl rfl ?_
      refine r_getr (pc := 485) (c := 11) (k := 23) (kz := 23) hs.o cok_11 (Nat.le_of_ble_eq_true rfl) q1883 ⟨rfl, rfl⟩ (Or.inl rfl) rfl (fun _ _ _ => rfl) hs.p_askedAt dX11_asks_485 ?_
      refine r_iconst (pc := 488) dX11_asks_488 ?_
      refine r_iload_n (pc := 489) dX11_asks_489 rfl rfl ?_
      refine r_iastV (pc := 490) hs.t_askedAt (by omega) (by omega) (by omega) (by omega) (by omega) dX11_asks_490 ?_
      refine r_aload_n (pc := 491) dX11_asks_491 rfl rfl ?_
      refine r_getr (pc := 492) (c := 11) (k := 23) (kz := 23) hs.o cok_11 (Nat.le_of_ble_eq_true rfl) q1883 ⟨rfl, rfl⟩ (Or.inl rfl) rfl (fun _ _ _ => rfl) hs.p_askedAt dX11_asks_492 ?_
      refine r_iconst (pc := 495) dX11_asks_495 ?_
      refine r_iload_n (pc := 496) dX11_asks_496 rfl rfl ?_
      refine r_iastV (pc := 497) hs.t_askedAt (by omega) (by omega) (by omega) (by omega) (by omega) dX11_asks_497 ?_
      refine r_aload_n (pc := 498) dX11_asks_498 rfl rfl ?_
      refine r_getr (pc := 499) (c := 11) (k := 23) (kz := 23) hs.o cok_11 (Nat.le_of_ble_eq_true rfl) q1883 ⟨rfl, rfl⟩ (Or.inl rfl) rfl (fun _ _ _ => rfl) hs.p_askedAt dX11_asks_499 ?_
      refine r_iconst (pc := 502) dX11_asks_502 ?_
      refine r_iload_n (pc := 503) dX11_asks_503 rfl rfl ?_
      refine r_iastV (pc := 504) hs.t_askedAt (by omega) (by omega) (by omega) (by omega) (by omega) dX11_asks_504 ?_
      refine r_aload_n (pc := 505) dX11_asks_505 rfl rfl ?_
      refine r_getr (pc := 506) (c := 11) (k := 23) (kz := 23) hs.o cok_11 (Nat.le_of_ble_eq_true rfl) q1883 ⟨rfl, rfl⟩ (Or.inl rfl) rfl (fun _ _ _ => rfl) hs.p_askedAt dX11_asks_506 ?_
      refine r_iconst (pc := 509) dX11_asks_509 ?_
      refine r_iload (pc := 510) dX11_asks_510 rfl ?_
      refine r_iastV (pc := 512) hs.t_askedAt (by omega) (by omega) (by omega) (by omega) (by omega) dX11_asks_512 ?_
      refine r_aload_n (pc := 513) dX11_asks_513 rfl rfl ?_
      refine r_getr (pc := 514) (c := 11) (k := 23) (kz := 23) hs.o cok_11 (Nat.le_of_ble_eq_true rfl) q1883 ⟨rfl, rfl⟩ (Or.inl rfl) rfl (fun _ _ _ => rfl) hs.p_askedAt dX11_asks_514 ?_
      refine r_iconst (pc := 517) dX11_asks_517 ?_
      refine r_iload (pc := 518) dX11_asks_518 rfl ?_
      refine r_iastV (pc := 520) hs.t_askedAt (by omega) (by omega) (by omega) (by omega) (by omega) dX11_asks_520 ?_
      refine r_aload_n (pc := 521) dX11_asks_521 rfl rfl ?_
      refine r_getr (pc := 522) (c := 11) (k := 23) (kz := 23) hs.o cok_11 (Nat.le_of_ble_eq_true rfl) q1883 ⟨rfl, rfl⟩ (Or.inl rfl) rfl (fun _ _ _ => rfl) hs.p_askedAt dX11_asks_522 ?_
      refine r_iconst (pc := 525) dX11_asks_525 ?_
      refine r_iload (pc := 526) dX11_asks_526 rfl ?_
      refine r_iastV (pc := 528) hs.t_askedAt (by omega) (by omega) (by omega) (by omega) (by omega) dX11_asks_528 ?_
      refine r_aload_n (pc := 529) dX11_asks_529 rfl rfl ?_
      refine r_getr (pc := 530) (c := 11) (k := 23) (kz := 23) hs.o cok_11 (Nat.le_of_ble_eq_true rfl) q1883 ⟨rfl, rfl⟩ (Or.inl rfl) rfl (fun _ _ _ => rfl) hs.p_askedAt dX11_asks_530 ?_
      refine r_bipush (pc := 533) dX11_asks_533 (by decide +kernel) ?_
      refine r_iload (pc := 535) dX11_asks_535 rfl ?_
      refine r_iastV (pc := 537) hs.t_askedAt (by omega) (by omega) (by omega) (by omega) (by omega) dX11_asks_537 ?_
      refine r_aload_n (pc := 538) dX11_asks_538 rfl rfl ?_
      refine r_getr (pc := 539) (c := 11) (k := 23) (kz := 23) hs.o cok_11 (Nat.le_of_ble_eq_true rfl) q1883 ⟨rfl, rfl⟩ (Or.inl rfl) rfl (fun _ _ _ => rfl) hs.p_askedAt dX11_asks_539 ?_
      refine r_bipush (pc := 542) dX11_asks_542 (by decide +kernel) ?_
      refine r_iload (pc := 544) dX11_asks_544 rfl ?_
      refine r_iastV (pc := 546) hs.t_askedAt (by omega) (by omega) (by omega) (by omega) (by omega) dX11_asks_546 ?_
      refine r_iload (pc := 547) dX11_asks_547 rfl ?_
      refine r_ireturn (pc := 549) rfl rfl dX11_asks_549 (Nat.le_of_ble_eq_true rfl) (Nat.le_of_ble_eq_true rfl) ?_
      exact hQ
    rw [if_neg (by omega)] at hQ
    refine r_iload (pc := 476) dX11_asks_476 rfl ?_
    refine r_ireturn (pc := 478) rfl rfl dX11_asks_478 (Nat.le_of_ble_eq_true rfl) (Nat.le_of_ble_eq_true rfl) ?_
    exact hQ
  have fin : ∀ (g : Int) (σ9 : Int → Int) (c l fr : Int) (l13 : Option Value), rg g → rg c → rg l → 0 ≤ fr ∧ fr ≤ 6 → RG σ9 → σ9 1 = σ 1 → Q (some (iv g)) (ur (if told = 1 then tA I m a b kind g c l (f_lie σ b kind lies) (f_sure σ b kind) else I) (m + 2) (f_end σ9 fr)) J P T z → PW G mX11_asks (rmD (d + 5) 0 0) (MZ G Q nX 0 0) 0 0 (ur I (m + 2) σ9) J P T z 439 [some (.ref m), some (iv a), some (iv b), some (iv kind), some (iv lies), some (iv told), some (iv (f_sure σ b kind)), some (iv (σ (60 + 13 * b + kind))), some (iv (f_lie σ b kind lies)), some (iv g), some (iv c), some (iv l), some (iv fr), l13] [] := by
    intro g σ9 c l fr l13 hgr hcr hlr hfr h9 e1 hQ
    unfold f_end at hQ
    refine r_aload_n (pc := 439) dX11_asks_439 rfl rfl ?_
    refine r_getr (pc := 440) (c := 11) (k := 6) (kz := 6) hs.o cok_11 (Nat.le_of_ble_eq_true rfl) q1866 ⟨rfl, rfl⟩ (Or.inl rfl) rfl (fun _ _ _ => rfl) hs.p_s dX11_asks_440 ?_
    refine r_bipush (pc := 443) dX11_asks_443 (by decide +kernel) ?_
    refine r_ialdU (pc := 445) hs.t_s (by omega) (by omega) dX11_asks_445 (fun hr445 => ?_)
    refine r_aload_n (pc := 446) dX11_asks_446 rfl rfl ?_
    refine r_getr (pc := 447) (c := 11) (k := 6) (kz := 6) hs.o cok_11 (Nat.le_of_ble_eq_true rfl) q1866 ⟨rfl, rfl⟩ (Or.inl rfl) rfl (fun _ _ _ => rfl) hs.p_s dX11_asks_447 ?_
    refine r_iconst (pc := 450) dX11_asks_450 ?_
    refine r_ialdU (pc := 451) hs.t_s (by omega) (by omega) dX11_asks_451 (fun hr451 => ?_)
    refine r_icmp_ne (pc := 452) 465 dX11_asks_452 rfl (by omega) (by omega) (fun h452 => ?_) (fun h452 => ?_)
    · rw [if_neg h452] at hQ
      refine r_aload_n (pc := 465) dX11_asks_465 rfl rfl ?_
      refine r_iload (pc := 466) dX11_asks_466 rfl ?_
      refine r_callV1 (pc := 468) (M_settles hs h9 (by omega) hfr fe_i) im_X11_settles qs75 q2149 hs.o rfl dX11_asks_468 (Nat.le_of_ble_eq_true rfl) (Nat.le_of_ble_eq_true rfl) rfl (k_fv ?_) (fun _ _ _ _ _ _ _ hx => no_x hx)
      exact fin2 g _ c l fr l13 hgr hcr hlr hQ
    rw [if_pos h452] at hQ
    refine r_aload_n (pc := 455) dX11_asks_455 rfl rfl ?_
    refine r_getr (pc := 456) (c := 11) (k := 6) (kz := 6) hs.o cok_11 (Nat.le_of_ble_eq_true rfl) q1866 ⟨rfl, rfl⟩ (Or.inl rfl) rfl (fun _ _ _ => rfl) hs.p_s dX11_asks_456 ?_
    refine r_iconst (pc := 459) dX11_asks_459 ?_
    refine r_iconst (pc := 460) dX11_asks_460 ?_
    refine r_iastU (pc := 461) hs.t_s (by omega) (by omega) (by omega) (by omega) dX11_asks_461 ?_
    refine r_goto (pc := 462) 471 dX11_asks_462 rfl ?_
    exact fin2 g _ c l fr l13 hgr hcr hlr hQ
  have hrb := hrg (60 + 13 * b + kind)
  have hfr : 0 ≤ (a + 1) % σ 1 ∧ (a + 1) % σ 1 ≤ 6 := ⟨Int.emod_nonneg _ (by omega), by have := Int.emod_lt_of_pos (a + 1) (show 0 < σ 1 by omega); omega⟩
  have hg0 := RG_ask0 hg ha hkd
  -- behind the asker's own part
  have mid : PW G mX11_asks (rmD (d + 5) 0 0) (MZ G Q nX 0 0) 0 0 (ur I (m + 2) (f_ask0 σ a kind)) J P T z 115 [some (.ref m), some (iv a), some (iv b), some (iv kind), some (iv lies), some (iv told), some (iv (f_sure σ b kind)), some (iv (σ (60 + 13 * b + kind))), some (iv (f_lie σ b kind lies)), some (iv (f_gives σ b kind lies)), some (iv (-1)), some (iv (-1)), some (iv ((a + 1) % σ 1)), none] [] := by
    have hgr : rg (f_gives σ b kind lies) := by unfold f_gives; split; omega; exact hrb
    have e01 : f_ask0 σ a kind 1 = σ 1 := f_ask0_n hg ha (by omega) (by omega) (by omega) (by omega) (by omega) (by omega)
    have e0k : f_ask0 σ a kind (151 + 13 * b + kind) = σ (151 + 13 * b + kind) := f_ask0_n hg ha (by omega) (by omega) (by omega) (by omega) (by omega) (by omega)
    have e0o : f_ask0 σ a kind (229 + b) = σ (229 + b) := f_ask0_n hg ha (by omega) (by omega) (by omega) (by omega) (by omega) (by omega)
    have e07 : f_ask0 σ a kind 7 = σ 7 := f_ask0_n hg ha (by omega) (by omega) (by omega) (by omega) (by omega) (by omega)
    unfold f_asks at hQ
    generalize hgv : f_gives σ b kind lies = g at hQ hgr ⊢
    generalize f_ask0 σ a kind = σ2 at hQ hg0 e01 e0k e0o e07 ⊢
    refine r_iload (pc := 115) dX11_asks_115 rfl ?_
    refine r_if_le (pc := 117) 258 dX11_asks_117 rfl (by omega) (fun h117 => ?_) (fun h117 => ?_)
    · rw [if_neg (show ¬ 0 < g by omega)] at hQ
      have hrk := hrg (151 + 13 * b + kind)
      have hn0g : RG (f_no0 σ2 b kind) := by unfold f_no0; split; exact RG_us hg0 (by omega); exact hg0
      have hn0 : ∀ j, j ≠ 547 + b → f_no0 σ2 b kind j = σ2 j := fun j hj => by unfold f_no0; split; exact us_n hj; rfl
      have nob : PW G mX11_asks (rmD (d + 5) 0 0) (MZ G Q nX 0 0) 0 0 (ur I (m + 2) (f_no0 σ2 b kind)) J P T z 290 [some (.ref m), some (iv a), some (iv b), some (iv kind), some (iv lies), some (iv told), some (iv (f_sure σ b kind)), some (iv (σ (60 + 13 * b + kind))), some (iv (f_lie σ b kind lies)), some (iv g), some (iv (-1)), some (iv (-1)), some (iv ((a + 1) % σ 1)), none] [] := by
        have loop : ∀ (n : Nat) (σ4 : Int → Int), RG σ4 → rg (σ4 (151 + 13 * b + kind)) → (σ4 (151 + 13 * b + kind)).toNat = n → σ4 (229 + b) + n + σ4 7 ≤ 52 → σ4 1 = σ 1 → f_unk σ4 b kind n = f_unk (f_no0 σ2 b kind) b kind (σ2 (151 + 13 * b + kind)).toNat → PW G mX11_asks (rmD (d + 5) 0 0) (MZ G Q nX 0 0) 0 0 (ur I (m + 2) σ4) J P T z 290 [some (.ref m), some (iv a), some (iv b), some (iv kind), some (iv lies), some (iv told), some (iv (f_sure σ b kind)), some (iv (σ (60 + 13 * b + kind))), some (iv (f_lie σ b kind lies)), some (iv g), some (iv (-1)), some (iv (-1)), some (iv ((a + 1) % σ 1)), none] [] := by
          intro n
          induction n with
          | zero =>
            intro σ4 h4 hr4 hn h52 e1 he
            have he : σ4 = f_unk (f_no0 σ2 b kind) b kind (σ2 (151 + 13 * b + kind)).toNat := he
            refine r_aload_n (pc := 290) dX11_asks_290 rfl rfl ?_
            refine r_getr (pc := 291) (c := 11) (k := 6) (kz := 6) hs.o cok_11 (Nat.le_of_ble_eq_true rfl) q1866 ⟨rfl, rfl⟩ (Or.inl rfl) rfl (fun _ _ _ => rfl) hs.p_s dX11_asks_291 ?_
            refine r_sipush (pc := 294) dX11_asks_294 (by decide +kernel) ?_
            refine r_bipush (pc := 297) dX11_asks_297 (by decide +kernel) ?_
            refine r_iload_n (pc := 299) dX11_asks_299 rfl rfl ?_
            refine r_imul (pc := 300) dX11_asks_300 ?_
            refine r_iadd (pc := 301) dX11_asks_301 ?_
            refine r_iload_n (pc := 302) dX11_asks_302 rfl rfl ?_
            refine r_iadd (pc := 303) dX11_asks_303 ?_
            refine r_ialdU (pc := 304) hs.t_s (by omega) (by omega) dX11_asks_304 (fun hr304 => ?_)
            refine r_if_le (pc := 305) 336 dX11_asks_305 rfl (by omega) (fun h305 => ?_) (fun h305 => ?_)
            · refine r_aload_n (pc := 336) dX11_asks_336 rfl rfl ?_
              refine r_iload_n (pc := 337) dX11_asks_337 rfl rfl ?_
              refine r_iload_n (pc := 338) dX11_asks_338 rfl rfl ?_
              refine r_callV2 (pc := 339) (M_cannot hs hb2 hkd (h4.o hb2) (fun i p q => h4.2.2.2 b i hb2.1 hb2.2 p (by have := h4.o hb2; omega)) fe_i) im_X11_cannot qs88 q2233 hs.o rfl dX11_asks_339 (Nat.le_of_ble_eq_true rfl) (Nat.le_of_ble_eq_true rfl) rfl (k_fv ?_) (fun _ _ _ _ _ _ _ hx => no_x hx)
              refine r_aload_n (pc := 342) dX11_asks_342 rfl rfl ?_
              refine r_getr (pc := 343) (c := 11) (k := 6) (kz := 6) hs.o cok_11 (Nat.le_of_ble_eq_true rfl) q1866 ⟨rfl, rfl⟩ (Or.inl rfl) rfl (fun _ _ _ => rfl) hs.p_s dX11_asks_343 ?_
              refine r_bipush (pc := 346) dX11_asks_346 (by decide +kernel) ?_
              refine r_dup2 (pc := 348) dX11_asks_348 rfl rfl ?_
              refine r_ialdU (pc := 349) hs.t_s (by omega) (by omega) dX11_asks_349 (fun hr349 => ?_)
              refine r_iconst (pc := 350) dX11_asks_350 ?_
              refine r_iadd (pc := 351) dX11_asks_351 ?_
              refine r_iastUW (pc := 352) hs.t_s (by omega) (by omega) (by omega) dX11_asks_352 ?_
              have e6 : us (f_cannot σ4 b kind) 6 (wr (f_cannot σ4 b kind 6 + 1)) = f_no1 σ2 b kind := by rw [he]; rfl
              rw [e6]
              have h6 : RG (f_no1 σ2 b kind) := by rw [← e6]; exact RG_us (RG_cannot h4 hb2 hkd) (by omega)
              have e61 : f_no1 σ2 b kind 1 = σ 1 := by rw [← e6, us_n (by omega), f_cannot_n (by have := h4.o hb2; omega)]; exact e1
              generalize f_no1 σ2 b kind = σ6 at hQ h6 e61 ⊢
              refine r_aload_n (pc := 353) dX11_asks_353 rfl rfl ?_
              refine r_getr (pc := 354) (c := 11) (k := 6) (kz := 6) hs.o cok_11 (Nat.le_of_ble_eq_true rfl) q1866 ⟨rfl, rfl⟩ (Or.inl rfl) rfl (fun _ _ _ => rfl) hs.p_s dX11_asks_354 ?_
              refine r_bipush (pc := 357) dX11_asks_357 (by decide +kernel) ?_
              refine r_ialdU (pc := 359) hs.t_s (by omega) (by omega) dX11_asks_359 (fun hr359 => ?_)
              refine r_if_le (pc := 360) 439 dX11_asks_360 rfl (by omega) (fun h360 => ?_) (fun h360 => ?_)
              · simp only [if_neg (show ¬ 0 < σ6 7 by omega)] at hQ
                exact fin g _ _ _ _ _ hgr (by omega) (by omega) hfr h6 e61 hQ
              simp only [if_pos h360] at hQ
              have h7 : RG (us σ6 6 0) := RG_us h6 (by omega)
              have e71 : us σ6 6 0 1 = σ 1 := by rw [us_n (by omega)]; exact e61
              have e77 : 0 < us σ6 6 0 7 := by rw [us_n (by omega)]; exact h360
              refine r_aload_n (pc := 363) dX11_asks_363 rfl rfl ?_
              refine r_getr (pc := 364) (c := 11) (k := 6) (kz := 6) hs.o cok_11 (Nat.le_of_ble_eq_true rfl) q1866 ⟨rfl, rfl⟩ (Or.inl rfl) rfl (fun _ _ _ => rfl) hs.p_s dX11_asks_364 ?_
              refine r_bipush (pc := 367) dX11_asks_367 (by decide +kernel) ?_
              refine r_iconst (pc := 369) dX11_asks_369 ?_
              refine r_iastU (pc := 370) hs.t_s (by omega) (by omega) (by omega) (by omega) dX11_asks_370 ?_
              generalize us σ6 6 0 = σ7 at hQ h7 e71 e77 ⊢
              have h72 := h7.h7
              have h8 : 0 ≤ σ7 8 ∧ σ7 8 < 13 := h7.2.1 0 (by omega) e77
              have ho := h7.2.2.1 a ha.1 ha.2
              refine r_aload_n (pc := 371) dX11_asks_371 rfl rfl ?_
              refine r_iload_n (pc := 372) dX11_asks_372 rfl rfl ?_
              refine r_callV1 (pc := 373) (M_draws hs ha (by omega) h8 fe_i) im_X11_draws qs77 q2157 hs.o rfl dX11_asks_373 (Nat.le_of_ble_eq_true rfl) (Nat.le_of_ble_eq_true rfl) rfl (k_fi ?_) (fun _ _ _ _ _ _ _ hx => no_x hx)
              have hd := RG_draws h7 ha e77
              have ed7 := f_draws_7 (σ := σ7) ha h8
              have edo : f_draws σ7 a (229 + a) = σ7 (229 + a) := f_draws_n (by omega) h8 (by omega) (by omega) (by omega) (by omega)
              have ed1 : f_draws σ7 a 1 = σ7 1 := f_draws_n (by omega) h8 (by omega) (by omega) (by omega) (by omega)
              have ed2 : f_draws σ7 a 2 = σ7 2 := f_draws_n (by omega) h8 (by omega) (by omega) (by omega) (by omega)
              have tail : ∀ (σ9 : Int → Int) (fr : Int), 0 ≤ fr ∧ fr ≤ 6 → RG σ9 → σ9 1 = σ 1 → Q (some (iv g)) (ur (if told = 1 then tA I m a b kind g (σ7 8) (if 4 ≤ σ9 (60 + 13 * a + σ7 8) then σ7 8 else -1) (f_lie σ b kind lies) (f_sure σ b kind) else I) (m + 2) (f_end (f_books σ9 a (σ7 8)) fr)) J P T z → PW G mX11_asks (rmD (d + 5) 0 0) (MZ G Q nX 0 0) 0 0 (ur I (m + 2) σ9) J P T z 425 [some (.ref m), some (iv a), some (iv b), some (iv kind), some (iv lies), some (iv told), some (iv (f_sure σ b kind)), some (iv (σ (60 + 13 * b + kind))), some (iv (f_lie σ b kind lies)), some (iv g), some (iv (σ7 8)), some (iv (-1)), some (iv fr), none] [] := by
                intro σ9 fr hfr9 h9 e91 hQ
                refine r_aload_n (pc := 425) dX11_asks_425 rfl rfl ?_
                refine r_iload_n (pc := 426) dX11_asks_426 rfl rfl ?_
                refine r_iload (pc := 427) dX11_asks_427 rfl ?_
                refine r_callV2 (pc := 429) (M_books hs ha h8 h9 fe_i) im_X11_books qs72 q2134 hs.o rfl dX11_asks_429 (Nat.le_of_ble_eq_true rfl) (Nat.le_of_ble_eq_true rfl) rfl (k_fi ?_) (fun _ _ _ _ _ _ _ hx => no_x hx)
                have hb9 := RG_books h9 ha h8
                have eb9 : f_books σ9 a (σ7 8) 1 = σ 1 := by rw [f_books_n h9 ha h8 (by omega) (by omega) (by omega) (by omega) (by omega) (by omega)]; exact e91
                refine r_if_eq (pc := 432) 439 dX11_asks_432 rfl bz_g (fun h432 => ?_) (fun h432 => ?_)
                · simp only [if_neg (bz_0.mp h432)] at hQ
                  exact fin g _ _ _ _ _ hgr (by omega) (by omega) hfr9 hb9 eb9 hQ
                simp only [if_pos (bz_ne.mp h432)] at hQ
                refine r_iload (pc := 435) dX11_asks_435 rfl ?_
                refine r_istore11 (pc := 437) (Nat.le_of_ble_eq_true rfl) dX11_asks_437 rfl ?_
                exact fin g _ _ _ _ _ hgr (by omega) (by omega) hfr9 hb9 eb9 hQ
              have other : ¬ (σ7 2 = 1 ∧ σ7 8 = kind) → PW G mX11_asks (rmD (d + 5) 0 0) (MZ G Q nX 0 0) 0 0 (ur I (m + 2) (f_draws σ7 a)) J P T z 419 [some (.ref m), some (iv a), some (iv b), some (iv kind), some (iv lies), some (iv told), some (iv (f_sure σ b kind)), some (iv (σ (60 + 13 * b + kind))), some (iv (f_lie σ b kind lies)), some (iv g), some (iv (σ7 8)), some (iv (-1)), some (iv ((a + 1) % σ 1)), none] [] := by
                intro hn
                have e9 : f_no2 σ7 a kind = f_adds (f_draws σ7 a) a 0 := if_neg hn
                simp only [e9, if_neg hn] at hQ
                refine r_aload_n (pc := 419) dX11_asks_419 rfl rfl ?_
                refine r_iload_n (pc := 420) dX11_asks_420 rfl rfl ?_
                refine r_iconst (pc := 421) dX11_asks_421 ?_
                refine r_callV2 (pc := 422) (M_adds hs ha (by omega) (by rw [edo]; omega) fe_i) im_X11_adds qs71 q2130 hs.o rfl dX11_asks_422 (Nat.le_of_ble_eq_true rfl) (Nat.le_of_ble_eq_true rfl) rfl (k_fv ?_) (fun _ _ _ _ _ _ _ hx => no_x hx)
                refine tail _ _ hfr (RG_adds hd ha (by omega) (by rw [ed7, edo]; omega)) ?_ hQ
                unfold f_adds
                rw [us_n (by omega), us_n (by rw [edo]; omega), ed1]
                exact e71
              refine r_istore10 (pc := 376) (Nat.le_of_ble_eq_true rfl) dX11_asks_376 rfl ?_
              refine r_aload_n (pc := 378) dX11_asks_378 rfl rfl ?_
              refine r_getr (pc := 379) (c := 11) (k := 6) (kz := 6) hs.o cok_11 (Nat.le_of_ble_eq_true rfl) q1866 ⟨rfl, rfl⟩ (Or.inl rfl) rfl (fun _ _ _ => rfl) hs.p_s dX11_asks_379 ?_
              refine r_iconst (pc := 382) dX11_asks_382 ?_
              refine r_ialdU (pc := 383) hs.t_s (by omega) (by omega) dX11_asks_383 (fun hr383 => ?_)
              rw [ed2]
              refine r_iconst (pc := 384) dX11_asks_384 ?_
              refine r_icmp_ne (pc := 385) 419 dX11_asks_385 rfl (by rw [ed2] at hr383; exact hr383) (by omega) (fun h385 => ?_) (fun h385 => ?_)
              · exact other (by omega)
              refine r_iload (pc := 388) dX11_asks_388 rfl ?_
              refine r_iload_n (pc := 390) dX11_asks_390 rfl rfl ?_
              refine r_icmp_ne (pc := 391) 419 dX11_asks_391 rfl (by omega) (by omega) (fun h391 => ?_) (fun h391 => ?_)
              · exact other (by omega)
              have hn : σ7 2 = 1 ∧ σ7 8 = kind := ⟨h385, h391⟩
              have e9 : f_no2 σ7 a kind = us (f_draws σ7 a) (151 + 13 * a + kind) (wr (f_draws σ7 a (151 + 13 * a + kind) + 1)) := if_pos hn
              simp only [e9, if_pos hn] at hQ
              refine r_aload_n (pc := 394) dX11_asks_394 rfl rfl ?_
              refine r_getr (pc := 395) (c := 11) (k := 6) (kz := 6) hs.o cok_11 (Nat.le_of_ble_eq_true rfl) q1866 ⟨rfl, rfl⟩ (Or.inl rfl) rfl (fun _ _ _ => rfl) hs.p_s dX11_asks_395 ?_
              refine r_sipush (pc := 398) dX11_asks_398 (by decide +kernel) ?_
              refine r_bipush (pc := 401) dX11_asks_401 (by decide +kernel) ?_
              refine r_iload_n (pc := 403) dX11_asks_403 rfl rfl ?_
              refine r_imul (pc := 404) dX11_asks_404 ?_
              refine r_iadd (pc := 405) dX11_asks_405 ?_
              refine r_iload_n (pc := 406) dX11_asks_406 rfl rfl ?_
              refine r_iadd (pc := 407) dX11_asks_407 ?_
              refine r_dup2 (pc := 408) dX11_asks_408 rfl rfl ?_
              refine r_ialdU (pc := 409) hs.t_s (by omega) (by omega) dX11_asks_409 (fun hr409 => ?_)
              refine r_iconst (pc := 410) dX11_asks_410 ?_
              refine r_iadd (pc := 411) dX11_asks_411 ?_
              refine r_iastUW (pc := 412) hs.t_s (by omega) (by omega) (by omega) dX11_asks_412 ?_
              refine r_iload_n (pc := 413) dX11_asks_413 rfl rfl ?_
              refine r_istore12 (pc := 414) (Nat.le_of_ble_eq_true rfl) dX11_asks_414 rfl ?_
              refine r_goto (pc := 416) 425 dX11_asks_416 rfl ?_
              refine tail _ _ (by omega) (RG_us hd (by omega)) ?_ hQ
              rw [us_n (by omega), ed1]
              exact e71
            omega
          | succ n ih =>
            intro σ4 h4 hr4 hn h52 e1 he
            have ho := h4.o hb2
            have h47 := h4.1
            have eo : ∀ j, j ≠ 229 + b → j ≠ 235 + 52 * b + σ4 (229 + b) → f_adds σ4 b 0 j = σ4 j := fun j p q => by unfold f_adds; rw [us_n p, us_n q]
            refine r_aload_n (pc := 290) dX11_asks_290 rfl rfl ?_
            refine r_getr (pc := 291) (c := 11) (k := 6) (kz := 6) hs.o cok_11 (Nat.le_of_ble_eq_true rfl) q1866 ⟨rfl, rfl⟩ (Or.inl rfl) rfl (fun _ _ _ => rfl) hs.p_s dX11_asks_291 ?_
            refine r_sipush (pc := 294) dX11_asks_294 (by decide +kernel) ?_
            refine r_bipush (pc := 297) dX11_asks_297 (by decide +kernel) ?_
            refine r_iload_n (pc := 299) dX11_asks_299 rfl rfl ?_
            refine r_imul (pc := 300) dX11_asks_300 ?_
            refine r_iadd (pc := 301) dX11_asks_301 ?_
            refine r_iload_n (pc := 302) dX11_asks_302 rfl rfl ?_
            refine r_iadd (pc := 303) dX11_asks_303 ?_
            refine r_ialdU (pc := 304) hs.t_s (by omega) (by omega) dX11_asks_304 (fun hr304 => ?_)
            refine r_if_le (pc := 305) 336 dX11_asks_305 rfl (by omega) (fun h305 => ?_) (fun h305 => ?_)
            · omega
            refine r_aload_n (pc := 308) dX11_asks_308 rfl rfl ?_
            refine r_iload_n (pc := 309) dX11_asks_309 rfl rfl ?_
            refine r_iconst (pc := 310) dX11_asks_310 ?_
            refine r_callV2 (pc := 311) (M_adds hs hb2 (by omega) (by omega) fe_i) im_X11_adds qs71 q2130 hs.o rfl dX11_asks_311 (Nat.le_of_ble_eq_true rfl) (Nat.le_of_ble_eq_true rfl) rfl (k_fv ?_) (fun _ _ _ _ _ _ _ hx => no_x hx)
            refine r_aload_n (pc := 314) dX11_asks_314 rfl rfl ?_
            refine r_getr (pc := 315) (c := 11) (k := 6) (kz := 6) hs.o cok_11 (Nat.le_of_ble_eq_true rfl) q1866 ⟨rfl, rfl⟩ (Or.inl rfl) rfl (fun _ _ _ => rfl) hs.p_s dX11_asks_315 ?_
            refine r_sipush (pc := 318) dX11_asks_318 (by decide +kernel) ?_
            refine r_bipush (pc := 321) dX11_asks_321 (by decide +kernel) ?_
            refine r_iload_n (pc := 323) dX11_asks_323 rfl rfl ?_
            refine r_imul (pc := 324) dX11_asks_324 ?_
            refine r_iadd (pc := 325) dX11_asks_325 ?_
            refine r_iload_n (pc := 326) dX11_asks_326 rfl rfl ?_
            refine r_iadd (pc := 327) dX11_asks_327 ?_
            refine r_dup2 (pc := 328) dX11_asks_328 rfl rfl ?_
            refine r_ialdU (pc := 329) hs.t_s (by omega) (by omega) dX11_asks_329 (fun hr329 => ?_)
            rw [eo (151 + 13 * b + kind) (by omega) (by omega)]
            refine r_iconst (pc := 330) dX11_asks_330 ?_
            refine r_isub (pc := 331) dX11_asks_331 ?_
            refine r_iastU (pc := 332) hs.t_s (by omega) (by omega) (by omega) (by omega) dX11_asks_332 ?_
            refine r_goto (pc := 333) 290 dX11_asks_333 rfl ?_
            refine ih _ (RG_us (RG_adds h4 hb2 (by omega) (by omega)) (by omega)) ?_ ?_ ?_ ?_ he
            · rw [us_s]; omega
            · rw [us_s]; omega
            · rw [us_n (by omega), us_n (by omega), eo 7 (by omega) (by omega)]
              have e2 : f_adds σ4 b 0 (229 + b) = σ4 (229 + b) + 1 := us_s
              omega
            · rw [us_n (by omega), eo 1 (by omega) (by omega)]; exact e1
        refine loop _ (f_no0 σ2 b kind) hn0g ?_ rfl ?_ (by rw [hn0 1 (by omega)]; exact e01) ?_
        · rw [hn0 _ (by omega), e0k]; exact hrk
        · have h9 := hg.2.2.1 b hb2.1 hb2.2
          have := hg.1
          rw [hn0 _ (by omega), hn0 _ (by omega), hn0 _ (by omega), e0k, e0o, e07]; omega
        · rw [hn0 _ (by omega)]
      refine r_aload_n (pc := 258) dX11_asks_258 rfl rfl ?_
      refine r_getr (pc := 259) (c := 11) (k := 6) (kz := 6) hs.o cok_11 (Nat.le_of_ble_eq_true rfl) q1866 ⟨rfl, rfl⟩ (Or.inl rfl) rfl (fun _ _ _ => rfl) hs.p_s dX11_asks_259 ?_
      refine r_sipush (pc := 262) dX11_asks_262 (by decide +kernel) ?_
      refine r_bipush (pc := 265) dX11_asks_265 (by decide +kernel) ?_
      refine r_iload_n (pc := 267) dX11_asks_267 rfl rfl ?_
      refine r_imul (pc := 268) dX11_asks_268 ?_
      refine r_iadd (pc := 269) dX11_asks_269 ?_
      refine r_iload_n (pc := 270) dX11_asks_270 rfl rfl ?_
      refine r_iadd (pc := 271) dX11_asks_271 ?_
      refine r_ialdU (pc := 272) hs.t_s (by omega) (by omega) dX11_asks_272 (fun hr272 => ?_)
      refine r_if_le (pc := 273) 290 dX11_asks_273 rfl (by omega) (fun h273 => ?_) (fun h273 => ?_)
      · have e : f_no0 σ2 b kind = σ2 := if_neg (by omega)
        rw [e] at nob
        exact nob
      have e : f_no0 σ2 b kind = us σ2 (547 + b) (wr (σ2 (547 + b) + 1)) := if_pos h273
      refine r_aload_n (pc := 276) dX11_asks_276 rfl rfl ?_
      refine r_getr (pc := 277) (c := 11) (k := 6) (kz := 6) hs.o cok_11 (Nat.le_of_ble_eq_true rfl) q1866 ⟨rfl, rfl⟩ (Or.inl rfl) rfl (fun _ _ _ => rfl) hs.p_s dX11_asks_277 ?_
      refine r_sipush (pc := 280) dX11_asks_280 (by decide +kernel) ?_
      refine r_iload_n (pc := 283) dX11_asks_283 rfl rfl ?_
      refine r_iadd (pc := 284) dX11_asks_284 ?_
      refine r_dup2 (pc := 285) dX11_asks_285 rfl rfl ?_
      refine r_ialdU (pc := 286) hs.t_s (by omega) (by omega) dX11_asks_286 (fun hr286 => ?_)
      refine r_iconst (pc := 287) dX11_asks_287 ?_
      refine r_iadd (pc := 288) dX11_asks_288 ?_
      refine r_iastUW (pc := 289) hs.t_s (by omega) (by omega) (by omega) dX11_asks_289 ?_
      rw [e] at nob
      exact nob
    rw [if_pos (show 0 < g from h117)] at hQ
    have hrk := hrg (151 + 13 * b + kind)
    refine r_aload_n (pc := 120) dX11_asks_120 rfl rfl ?_
    refine r_getr (pc := 121) (c := 11) (k := 6) (kz := 6) hs.o cok_11 (Nat.le_of_ble_eq_true rfl) q1866 ⟨rfl, rfl⟩ (Or.inl rfl) rfl (fun _ _ _ => rfl) hs.p_s dX11_asks_121 ?_
    refine r_sipush (pc := 124) dX11_asks_124 (by decide +kernel) ?_
    refine r_bipush (pc := 127) dX11_asks_127 (by decide +kernel) ?_
    refine r_iload_n (pc := 129) dX11_asks_129 rfl rfl ?_
    refine r_imul (pc := 130) dX11_asks_130 ?_
    refine r_iadd (pc := 131) dX11_asks_131 ?_
    refine r_iload_n (pc := 132) dX11_asks_132 rfl rfl ?_
    refine r_iadd (pc := 133) dX11_asks_133 ?_
    refine r_ialdU (pc := 134) hs.t_s (by omega) (by omega) dX11_asks_134 (fun hr134 => ?_)
    refine r_istore13 (pc := 135) (Nat.le_of_ble_eq_true rfl) dX11_asks_135 rfl ?_
    have loop : ∀ (n : Nat) (i : Int) (σ3 : Int → Int), rg i → RG σ3 → σ3 1 = σ 1 → (g - i).toNat = n → f_lr σ3 b kind n = f_lr σ2 b kind (g - σ2 (151 + 13 * b + kind)).toNat → PW G mX11_asks (rmD (d + 5) 0 0) (MZ G Q nX 0 0) 0 0 (ur I (m + 2) σ3) J P T z 137 [some (.ref m), some (iv a), some (iv b), some (iv kind), some (iv lies), some (iv told), some (iv (f_sure σ b kind)), some (iv (σ (60 + 13 * b + kind))), some (iv (f_lie σ b kind lies)), some (iv g), some (iv (-1)), some (iv (-1)), some (iv ((a + 1) % σ 1)), some (iv i)] [] := by
      intro n
      induction n with
      | zero =>
        intro i σ3 hi h3 e1 hn he
        refine r_iload (pc := 137) dX11_asks_137 rfl ?_
        refine r_iload (pc := 139) dX11_asks_139 rfl ?_
        refine r_icmp_ge (pc := 141) 156 dX11_asks_141 rfl (by omega) (by omega) (fun h141 => ?_) (fun h141 => ?_)
        · have he : σ3 = f_lr σ2 b kind (g - σ2 (151 + 13 * b + kind)).toNat := he
          have h4 : RG (us σ3 (151 + 13 * b + kind) 0) := RG_us h3 (by omega)
          refine r_aload_n (pc := 156) dX11_asks_156 rfl rfl ?_
          refine r_getr (pc := 157) (c := 11) (k := 6) (kz := 6) hs.o cok_11 (Nat.le_of_ble_eq_true rfl) q1866 ⟨rfl, rfl⟩ (Or.inl rfl) rfl (fun _ _ _ => rfl) hs.p_s dX11_asks_157 ?_
          refine r_sipush (pc := 160) dX11_asks_160 (by decide +kernel) ?_
          refine r_bipush (pc := 163) dX11_asks_163 (by decide +kernel) ?_
          refine r_iload_n (pc := 165) dX11_asks_165 rfl rfl ?_
          refine r_imul (pc := 166) dX11_asks_166 ?_
          refine r_iadd (pc := 167) dX11_asks_167 ?_
          refine r_iload_n (pc := 168) dX11_asks_168 rfl rfl ?_
          refine r_iadd (pc := 169) dX11_asks_169 ?_
          refine r_iconst (pc := 170) dX11_asks_170 ?_
          refine r_iastU (pc := 171) hs.t_s (by omega) (by omega) (by omega) (by omega) dX11_asks_171 ?_
          refine r_aload_n (pc := 172) dX11_asks_172 rfl rfl ?_
          refine r_iload_n (pc := 173) dX11_asks_173 rfl rfl ?_
          refine r_iload_n (pc := 174) dX11_asks_174 rfl rfl ?_
          refine r_callV2 (pc := 175) (M_cannot hs hb2 hkd (h4.o hb2) (fun i p q => h4.2.2.2 b i hb2.1 hb2.2 p (by have := h4.o hb2; omega)) fe_i) im_X11_cannot qs88 q2233 hs.o rfl dX11_asks_175 (Nat.le_of_ble_eq_true rfl) (Nat.le_of_ble_eq_true rfl) rfl (k_fv ?_) (fun _ _ _ _ _ _ _ hx => no_x hx)
          refine r_aload_n (pc := 178) dX11_asks_178 rfl rfl ?_
          refine r_iload_n (pc := 179) dX11_asks_179 rfl rfl ?_
          refine r_iload_n (pc := 180) dX11_asks_180 rfl rfl ?_
          refine r_iload (pc := 181) dX11_asks_181 rfl ?_
          refine r_ineg (pc := 183) dX11_asks_183 ?_
          refine r_callV3 (pc := 184) (M_handOf hs hb2 hkd fe_i) im_X11_handOf qs73 q2138 hs.o rfl dX11_asks_184 (Nat.le_of_ble_eq_true rfl) (Nat.le_of_ble_eq_true rfl) rfl (k_fi ?_) (fun _ _ _ _ _ _ _ hx => no_x hx)
          have e6 : us (f_cannot (us σ3 (151 + 13 * b + kind) 0) b kind) (60 + 13 * b + kind) (wr (f_cannot (us σ3 (151 + 13 * b + kind) 0) b kind (60 + 13 * b + kind) + -g)) = f_giv1 σ2 b kind g := by rw [he]; rfl
          rw [e6]
          have hg1 : RG (f_giv1 σ2 b kind g) := RG_giv1 hg0 hb2 hkd
          have eg1 : f_giv1 σ2 b kind g 1 = σ 1 := by
            rw [← e6, us_n (by omega), f_cannot_n (by have := h4.o hb2; omega), us_n (by omega)]; exact e1
          generalize f_giv1 σ2 b kind g = σ6 at hQ hg1 eg1 ⊢
          refine r_pop (pc := 187) dX11_asks_187 rfl ?_
          refine r_aload_n (pc := 188) dX11_asks_188 rfl rfl ?_
          refine r_iload_n (pc := 189) dX11_asks_189 rfl rfl ?_
          refine r_iload_n (pc := 190) dX11_asks_190 rfl rfl ?_
          refine r_iload (pc := 191) dX11_asks_191 rfl ?_
          refine r_callV3 (pc := 193) (M_handOf hs ha hkd fe_i) im_X11_handOf qs73 q2138 hs.o rfl dX11_asks_193 (Nat.le_of_ble_eq_true rfl) (Nat.le_of_ble_eq_true rfl) rfl (k_fi ?_) (fun _ _ _ _ _ _ _ hx => no_x hx)
          refine r_pop (pc := 196) dX11_asks_196 rfl ?_
          refine r_aload_n (pc := 197) dX11_asks_197 rfl rfl ?_
          refine r_getr (pc := 198) (c := 11) (k := 6) (kz := 6) hs.o cok_11 (Nat.le_of_ble_eq_true rfl) q1866 ⟨rfl, rfl⟩ (Or.inl rfl) rfl (fun _ _ _ => rfl) hs.p_s dX11_asks_198 ?_
          refine r_sipush (pc := 201) dX11_asks_201 (by decide +kernel) ?_
          refine r_bipush (pc := 204) dX11_asks_204 (by decide +kernel) ?_
          refine r_iload_n (pc := 206) dX11_asks_206 rfl rfl ?_
          refine r_imul (pc := 207) dX11_asks_207 ?_
          refine r_iadd (pc := 208) dX11_asks_208 ?_
          refine r_iload_n (pc := 209) dX11_asks_209 rfl rfl ?_
          refine r_iadd (pc := 210) dX11_asks_210 ?_
          refine r_dup2 (pc := 211) dX11_asks_211 rfl rfl ?_
          refine r_ialdU (pc := 212) hs.t_s (by omega) (by omega) dX11_asks_212 (fun hr212 => ?_)
          refine r_iload (pc := 213) dX11_asks_213 rfl ?_
          refine r_iadd (pc := 215) dX11_asks_215 ?_
          refine r_iastUW (pc := 216) hs.t_s (by omega) (by omega) (by omega) dX11_asks_216 ?_
          refine r_aload_n (pc := 217) dX11_asks_217 rfl rfl ?_
          refine r_getr (pc := 218) (c := 11) (k := 6) (kz := 6) hs.o cok_11 (Nat.le_of_ble_eq_true rfl) q1866 ⟨rfl, rfl⟩ (Or.inl rfl) rfl (fun _ _ _ => rfl) hs.p_s dX11_asks_218 ?_
          refine r_sipush (pc := 221) dX11_asks_221 (by decide +kernel) ?_
          refine r_iload_n (pc := 224) dX11_asks_224 rfl rfl ?_
          refine r_iadd (pc := 225) dX11_asks_225 ?_
          refine r_dup2 (pc := 226) dX11_asks_226 rfl rfl ?_
          refine r_ialdU (pc := 227) hs.t_s (by omega) (by omega) dX11_asks_227 (fun hr227 => ?_)
          refine r_iload (pc := 228) dX11_asks_228 rfl ?_
          refine r_iadd (pc := 230) dX11_asks_230 ?_
          refine r_iastUW (pc := 231) hs.t_s (by omega) (by omega) (by omega) dX11_asks_231 ?_
          refine r_aload_n (pc := 232) dX11_asks_232 rfl rfl ?_
          refine r_getr (pc := 233) (c := 11) (k := 6) (kz := 6) hs.o cok_11 (Nat.le_of_ble_eq_true rfl) q1866 ⟨rfl, rfl⟩ (Or.inl rfl) rfl (fun _ _ _ => rfl) hs.p_s dX11_asks_233 ?_
          refine r_bipush (pc := 236) dX11_asks_236 (by decide +kernel) ?_
          refine r_iconst (pc := 238) dX11_asks_238 ?_
          refine r_iastU (pc := 239) hs.t_s (by omega) (by omega) (by omega) (by omega) dX11_asks_239 ?_
          refine r_iload_n (pc := 240) dX11_asks_240 rfl rfl ?_
          refine r_istore12 (pc := 241) (Nat.le_of_ble_eq_true rfl) dX11_asks_241 rfl ?_
          refine r_aload_n (pc := 243) dX11_asks_243 rfl rfl ?_
          refine r_iload_n (pc := 244) dX11_asks_244 rfl rfl ?_
          refine r_iload_n (pc := 245) dX11_asks_245 rfl rfl ?_
          have hg2 : RG (f_giv2 σ6 a kind g) := RG_giv2 hg1 ha hkd
          have eg2 : f_giv2 σ6 a kind g 1 = σ 1 := by unfold f_giv2 f_hand; rw [us_n (by omega), us_n (by omega), us_n (by omega), us_n (by omega)]; exact eg1
          show PW G mX11_asks (rmD (d + 5) 0 0) (MZ G Q nX 0 0) 0 0 (ur I (m + 2) (f_giv2 σ6 a kind g)) J P T z 246 _ _
          generalize f_giv2 σ6 a kind g = σ10 at hQ hg2 eg2 ⊢
          refine r_callV2 (pc := 246) (M_books hs ha hkd hg2 fe_i) im_X11_books qs72 q2134 hs.o rfl dX11_asks_246 (Nat.le_of_ble_eq_true rfl) (Nat.le_of_ble_eq_true rfl) rfl (k_fi ?_) (fun _ _ _ _ _ _ _ hx => no_x hx)
          have hg3 := RG_books hg2 ha hkd
          have eg3 : f_books σ10 a kind 1 = σ 1 := by rw [f_books_n hg2 ha hkd (by omega) (by omega) (by omega) (by omega) (by omega) (by omega)]; exact eg2
          refine r_if_eq (pc := 249) 439 dX11_asks_249 rfl bz_g (fun h249 => ?_) (fun h249 => ?_)
          · simp only [if_neg (bz_0.mp h249)] at hQ
            exact fin g _ _ _ _ _ hgr (by omega) (by omega) (by omega) hg3 eg3 hQ
          simp only [if_pos (bz_ne.mp h249)] at hQ
          refine r_iload_n (pc := 252) dX11_asks_252 rfl rfl ?_
          refine r_istore11 (pc := 253) (Nat.le_of_ble_eq_true rfl) dX11_asks_253 rfl ?_
          refine r_goto (pc := 255) 439 dX11_asks_255 rfl ?_
          exact fin g _ _ _ _ _ hgr (by omega) (by omega) (by omega) hg3 eg3 hQ
        omega
      | succ n ih =>
        intro i σ3 hi h3 e1 hn he
        refine r_iload (pc := 137) dX11_asks_137 rfl ?_
        refine r_iload (pc := 139) dX11_asks_139 rfl ?_
        refine r_icmp_ge (pc := 141) 156 dX11_asks_141 rfl (by omega) (by omega) (fun h141 => ?_) (fun h141 => ?_)
        · omega
        refine r_aload_n (pc := 144) dX11_asks_144 rfl rfl ?_
        refine r_iload_n (pc := 145) dX11_asks_145 rfl rfl ?_
        refine r_iload_n (pc := 146) dX11_asks_146 rfl rfl ?_
        refine r_callV2 (pc := 147) (M_learns hs hb2 hkd (h3.o hb2) fe_i) im_X11_learns qs74 q2142 hs.o rfl dX11_asks_147 (Nat.le_of_ble_eq_true rfl) (Nat.le_of_ble_eq_true rfl) rfl (k_fv ?_) (fun _ _ _ _ _ _ _ hx => no_x hx)
        refine r_iinc13 (pc := 150) (Nat.le_of_ble_eq_true rfl) dX11_asks_150 rfl ?_
        refine r_goto (pc := 153) 137 dX11_asks_153 rfl ?_
        have ho := h3.o hb2
        exact ih (i + 1) _ (by omega) (RG_learns h3 hb2 hkd) (by rw [f_learns_n ho.1 (by omega) (by omega) (by omega) (by omega)]; exact e1) (by omega) he
    exact loop _ _ σ2 (by rw [e0k]; exact hrk) hg0 e01 rfl rfl
  refine r_aload_n (pc := 0) dX11_asks_0 rfl rfl ?_
  refine r_iload_n (pc := 1) dX11_asks_1 rfl rfl ?_
  refine r_iload_n (pc := 2) dX11_asks_2 rfl rfl ?_
  refine r_callV2 (pc := 3) (M_sureOf hs hb2 hkd (hg.o hb2) fe_i) im_X11_sureOf qs87 q2229 hs.o rfl dX11_asks_3 (Nat.le_of_ble_eq_true rfl) (Nat.le_of_ble_eq_true rfl) rfl (k_fi ?_) (fun _ _ _ _ _ _ _ hx => no_x hx)
  refine r_istore6 (pc := 6) (Nat.le_of_ble_eq_true rfl) dX11_asks_6 rfl ?_
  refine r_aload_n (pc := 8) dX11_asks_8 rfl rfl ?_
  refine r_iload_n (pc := 9) dX11_asks_9 rfl rfl ?_
  refine r_iload_n (pc := 10) dX11_asks_10 rfl rfl ?_
  refine r_iconst (pc := 11) dX11_asks_11 ?_
  refine r_callV3 (pc := 12) (M_hand0 hs hb2 hkd fe_i) im_X11_handOf qs73 q2138 hs.o rfl dX11_asks_12 (Nat.le_of_ble_eq_true rfl) (Nat.le_of_ble_eq_true rfl) rfl (k_fi ?_) (fun _ _ _ _ _ _ _ hx => no_x hx)
  refine r_istore7 (pc := 15) (Nat.le_of_ble_eq_true rfl) dX11_asks_15 rfl ?_
  refine r_iload (pc := 17) dX11_asks_17 rfl ?_
  have go : PW G mX11_asks (rmD (d + 5) 0 0) (MZ G Q nX 0 0) 0 0 (ur I (m + 2) σ) J P T z 33 [some (.ref m), some (iv a), some (iv b), some (iv kind), some (iv lies), some (iv told), some (iv (f_sure σ b kind)), some (iv (σ (60 + 13 * b + kind))), none, none, none, none, none, none] [iv (f_lie σ b kind lies)] := by
    have hlr2 : rg (f_lie σ b kind lies) := bz_g
    have go2 : PW G mX11_asks (rmD (d + 5) 0 0) (MZ G Q nX 0 0) 0 0 (ur I (m + 2) σ) J P T z 47 [some (.ref m), some (iv a), some (iv b), some (iv kind), some (iv lies), some (iv told), some (iv (f_sure σ b kind)), some (iv (σ (60 + 13 * b + kind))), some (iv (f_lie σ b kind lies)), none, none, none, none, none] [iv (f_gives σ b kind lies)] := by
      refine r_istore9 (pc := 47) (Nat.le_of_ble_eq_true rfl) dX11_asks_47 rfl ?_
      refine r_iconst (pc := 49) dX11_asks_49 ?_
      refine r_istore10 (pc := 50) (Nat.le_of_ble_eq_true rfl) dX11_asks_50 rfl ?_
      refine r_iconst (pc := 52) dX11_asks_52 ?_
      refine r_istore11 (pc := 53) (Nat.le_of_ble_eq_true rfl) dX11_asks_53 rfl ?_
      refine r_iload_n (pc := 55) dX11_asks_55 rfl rfl ?_
      refine r_iconst (pc := 56) dX11_asks_56 ?_
      refine r_iadd (pc := 57) dX11_asks_57 ?_
      refine r_aload_n (pc := 58) dX11_asks_58 rfl rfl ?_
      refine r_getr (pc := 59) (c := 11) (k := 6) (kz := 6) hs.o cok_11 (Nat.le_of_ble_eq_true rfl) q1866 ⟨rfl, rfl⟩ (Or.inl rfl) rfl (fun _ _ _ => rfl) hs.p_s dX11_asks_59 ?_
      refine r_iconst (pc := 62) dX11_asks_62 ?_
      refine r_ialdU (pc := 63) hs.t_s (by omega) (by omega) dX11_asks_63 (fun hr63 => ?_)
      refine r_irem (pc := 64) dX11_asks_64 (by omega) (by omega) ?_
      refine r_istore12 (pc := 65) (Nat.le_of_ble_eq_true rfl) dX11_asks_65 rfl ?_
      refine r_aload_n (pc := 67) dX11_asks_67 rfl rfl ?_
      refine r_getr (pc := 68) (c := 11) (k := 6) (kz := 6) hs.o cok_11 (Nat.le_of_ble_eq_true rfl) q1866 ⟨rfl, rfl⟩ (Or.inl rfl) rfl (fun _ _ _ => rfl) hs.p_s dX11_asks_68 ?_
      refine r_iconst (pc := 71) dX11_asks_71 ?_
      refine r_dup2 (pc := 72) dX11_asks_72 rfl rfl ?_
      refine r_ialdU (pc := 73) hs.t_s (by omega) (by omega) dX11_asks_73 (fun hr73 => ?_)
      refine r_iconst (pc := 74) dX11_asks_74 ?_
      refine r_iadd (pc := 75) dX11_asks_75 ?_
      refine r_iastUW (pc := 76) hs.t_s (by omega) (by omega) (by omega) dX11_asks_76 ?_
      refine r_aload_n (pc := 77) dX11_asks_77 rfl rfl ?_
      refine r_getr (pc := 78) (c := 11) (k := 6) (kz := 6) hs.o cok_11 (Nat.le_of_ble_eq_true rfl) q1866 ⟨rfl, rfl⟩ (Or.inl rfl) rfl (fun _ _ _ => rfl) hs.p_s dX11_asks_78 ?_
      refine r_sipush (pc := 81) dX11_asks_81 (by decide +kernel) ?_
      refine r_iload_n (pc := 84) dX11_asks_84 rfl rfl ?_
      refine r_iadd (pc := 85) dX11_asks_85 ?_
      refine r_dup2 (pc := 86) dX11_asks_86 rfl rfl ?_
      refine r_ialdU (pc := 87) hs.t_s (by omega) (by omega) dX11_asks_87 (fun hr87 => ?_)
      rw [us_n (show 553 + a ≠ 5 by omega)]
      refine r_iconst (pc := 88) dX11_asks_88 ?_
      refine r_iadd (pc := 89) dX11_asks_89 ?_
      refine r_iastUW (pc := 90) hs.t_s (by omega) (by omega) (by omega) dX11_asks_90 ?_
      refine r_aload_n (pc := 91) dX11_asks_91 rfl rfl ?_
      refine r_getr (pc := 92) (c := 11) (k := 6) (kz := 6) hs.o cok_11 (Nat.le_of_ble_eq_true rfl) q1866 ⟨rfl, rfl⟩ (Or.inl rfl) rfl (fun _ _ _ => rfl) hs.p_s dX11_asks_92 ?_
      refine r_sipush (pc := 95) dX11_asks_95 (by decide +kernel) ?_
      refine r_bipush (pc := 98) dX11_asks_98 (by decide +kernel) ?_
      refine r_iload_n (pc := 100) dX11_asks_100 rfl rfl ?_
      refine r_imul (pc := 101) dX11_asks_101 ?_
      refine r_iadd (pc := 102) dX11_asks_102 ?_
      refine r_iload_n (pc := 103) dX11_asks_103 rfl rfl ?_
      refine r_iadd (pc := 104) dX11_asks_104 ?_
      refine r_ialdU (pc := 105) hs.t_s (by omega) (by omega) dX11_asks_105 (fun hr105 => ?_)
      refine r_if_ne (pc := 106) 115 dX11_asks_106 rfl (by omega) (fun h106 => ?_) (fun h106 => ?_)
      · have e : f_ask0 σ a kind = us (us σ 5 (wr (σ 5 + 1))) (553 + a) (wr (σ (553 + a) + 1)) := by unfold f_ask0; exact if_neg h106
        rw [← e]
        exact mid
      have e : f_ask0 σ a kind = f_learns (us (us σ 5 (wr (σ 5 + 1))) (553 + a) (wr (σ (553 + a) + 1))) a kind := by unfold f_ask0; exact if_pos h106
      refine r_aload_n (pc := 109) dX11_asks_109 rfl rfl ?_
      refine r_iload_n (pc := 110) dX11_asks_110 rfl rfl ?_
      refine r_iload_n (pc := 111) dX11_asks_111 rfl rfl ?_
      refine r_callV2 (pc := 112) (M_learns hs ha hkd ((RG_ask1 hg ha).o ha) fe_i) im_X11_learns qs74 q2142 hs.o rfl dX11_asks_112 (Nat.le_of_ble_eq_true rfl) (Nat.le_of_ble_eq_true rfl) rfl (k_fv ?_) (fun _ _ _ _ _ _ _ hx => no_x hx)
      rw [e] at mid
      exact mid
    refine r_istore8 (pc := 33) (Nat.le_of_ble_eq_true rfl) dX11_asks_33 rfl ?_
    refine r_iload (pc := 35) dX11_asks_35 rfl ?_
    refine r_iconst (pc := 37) dX11_asks_37 ?_
    refine r_icmp_ne (pc := 38) 45 dX11_asks_38 rfl (by omega) (by omega) (fun h38 => ?_) (fun h38 => ?_)
    · refine r_iload (pc := 45) dX11_asks_45 rfl ?_
      have e : f_gives σ b kind lies = σ (60 + 13 * b + kind) := by unfold f_gives; rw [if_neg h38]
      rw [e] at go2
      exact go2
    refine r_iconst (pc := 41) dX11_asks_41 ?_
    refine r_goto (pc := 42) 47 dX11_asks_42 rfl ?_
    have e : f_gives σ b kind lies = 0 := by unfold f_gives; rw [if_pos h38]
    rw [e] at go2
    exact go2
  refine r_if_le (pc := 19) 32 dX11_asks_19 rfl (by omega) (fun h19 => ?_) (fun h19 => ?_)
  · refine r_iconst (pc := 32) dX11_asks_32 ?_
    have e : f_lie σ b kind lies = 0 := bz_f (by omega)
    rw [e] at go
    exact go
  refine r_iload (pc := 22) dX11_asks_22 rfl ?_
  refine r_iconst (pc := 24) dX11_asks_24 ?_
  refine r_icmp_ne (pc := 25) 32 dX11_asks_25 rfl (by omega) (by omega) (fun h25 => ?_) (fun h25 => ?_)
  · refine r_iconst (pc := 32) dX11_asks_32 ?_
    have e : f_lie σ b kind lies = 0 := bz_f (by omega)
    rw [e] at go
    exact go
  refine r_iconst (pc := 28) dX11_asks_28 ?_
  refine r_goto (pc := 29) 33 dX11_asks_29 rfl ?_
  have e : f_lie σ b kind lies = 1 := bz_t (by omega)
  rw [e] at go
  exact go
end M5
