/-! ===== odds: what an onlooker does not see ===== -/
def un (σ : Int → Int) (o k : Int) : Int := σ (571 + k) - σ (60 + 13 * o + k) - 4 * bz (0 < σ (138 + k)) - sm (fun q => if q = o then 0 else σ (151 + 13 * q + k)) (σ 1).toNat
def f_sl (σ : Int → Int) (o : Int) : Int := sm (fun q => if q = o then 0 else σ (229 + q)) (σ 1).toNat
/-- the kinds of which there are some: whether they are few, how many, which -/
def f_kd (w : Int → Int) : Nat → Int → Int × (Int → Int) → Int × Int × (Int → Int)
  | 0, _, y => (1, y)
  | m + 1, k, y => if w k ≤ 0 then f_kd w m (k + 1) y else if y.1 = 6 then (0, y) else f_kd w m (k + 1) (y.1 + 1, us y.2 y.1 k)
theorem p5 {n : Nat} (h : n ≤ 6) : (5 : Int) ^ n ≤ 15625 := by
  rcases (show n = 0 ∨ n = 1 ∨ n = 2 ∨ n = 3 ∨ n = 4 ∨ n = 5 ∨ n = 6 by omega) with rfl | rfl | rfl | rfl | rfl | rfl | rfl <;> decide +kernel
theorem un_4 {σ : Int → Int} (h : CV σ) {o k : Int} (ho : 0 ≤ o ∧ o < 6) (hk : 0 ≤ k ∧ k < 13) : un σ o k ≤ 4 := by
  have a := h.one ho.1 ho.2 hk.1 hk.2
  have c := ct_r (η := σ) (k := k)
  have ht := h.ta
  have s := sm_bd (f := fun q => if q = o then 0 else σ (151 + 13 * q + k)) (a := 0) (b := 4) (n := (σ 1).toNat) (fun q x y => by
    have := h.kn (p := q) (k := k) x (by omega) hk.1 hk.2
    have := h.h4 (p := q) (k := k) x (by omega) hk.1 hk.2
    split <;> omega)
  have b := bz_r (p := 0 < σ (138 + k))
  unfold un
  omega
theorem un_s {σ : Int → Int} (h : CV σ) {o k : Int} (hk : 0 ≤ k ∧ k < 13) {m : Nat} (hm : (m : Int) ≤ σ 1) : 0 ≤ sm (fun q => if q = o then 0 else σ (151 + 13 * q + k)) m ∧ sm (fun q => if q = o then 0 else σ (151 + 13 * q + k)) m ≤ 24 := by
  have ht := h.ta
  have s := sm_bd (f := fun q => if q = o then 0 else σ (151 + 13 * q + k)) (a := 0) (b := 4) (n := m) (fun q x y => by
    have := h.kn (p := q) (k := k) x (by omega) hk.1 hk.2
    have := h.h4 (p := q) (k := k) x (by omega) hk.1 hk.2
    split <;> omega)
  omega
section N3
variable {G : GE} {I I0 I' J : HI} {P P' P1 : HP} {T : HT} {z : Nat} {x t d g : Nat} {Q : QT} {σ μ ω υ κ sc : Int → Int}
abbrev hU (I : HI) (x : Nat) (υ κ sc ω : Int → Int) : HI := ur (ur (ur (ur I (x + 77) υ) (x + 78) κ) (x + 79) sc) x ω
theorem XS.hu (hx : XS G I P T x t σ μ) : XS G (hU I x υ κ sc ω) P T x t σ μ := hx.fr (fun b q => by have := hx.tx; unfold hU; rw [ur_n (by omega), ur_n (by omega), ur_n (by omega), ur_n (by omega)])
theorem C_lay (hx : XS G I P T x t σ μ) {o : Int} (ho : 0 ≤ o ∧ o < σ 1)
    (hQ : ∀ υ' κ' sc' ω', (∀ j, j ≠ 13 → j ≠ 14 → ω' j = ω j) → ((f_kd (un σ o) (σ 0).toNat 0 (0, fun _ => 0)).1 ≠ 0 → ∃ S s2, UL (hU I x υ' κ' sc' ω') x (f_kd (un σ o) (σ 0).toNat 0 (0, fun _ => 0)).2.1.toNat (fun i => un σ o ((f_kd (un σ o) (σ 0).toNat 0 (0, fun _ => 0)).2.2 i)) (f_kd (un σ o) (σ 0).toNat 0 (0, fun _ => 0)).2.2 s2 S) → Q (some (iv (bz ((f_kd (un σ o) (σ 0).toNat 0 (0, fun _ => 0)).1 ≠ 0 ∧ f_sl σ o ≤ 12)))) (hU I x υ' κ' sc' ω') J P T z) : MC G yX1_layUnseen (ws_ yX1_layUnseen cX1_layUnseen 5 (some FieldType.boolean)) (d + 2) 0 0 [.ref x, iv o] (hU I x υ κ sc ω) J P T z Q nX := by
  have hb := hx.b
  have ht := hx.ta
  have htx := hx.tx
  have hcv := hx.w.cv
  have hr := hx.r
  generalize hkd : f_kd (un σ o) (σ 0).toNat 0 (0, fun _ => 0) = Y at hQ
  refine MC.of (by decide) (Nat.le_of_ble_eq_true rfl) ?_
  show PW G mX1_layUnseen (rmD (d + 2) 0 0) (MZ G Q nX 0 0) 0 0 (hU I x υ κ sc ω) J P T z 0 [some (.ref x), some (iv o), none, none, none] []
  have hx1 : ∀ υ κ sc ω, XS G (hU I x υ κ sc ω) P T x t σ μ := fun _ _ _ _ => hx.hu
  refine r_iconst (pc := 0) dX1_layUnseen_0 ?_
  refine r_istore_n2 (pc := 1) (Nat.le_of_ble_eq_true rfl) dX1_layUnseen_1 rfl ?_
  refine r_iconst (pc := 2) dX1_layUnseen_2 ?_
  refine r_istore_n3 (pc := 3) (Nat.le_of_ble_eq_true rfl) dX1_layUnseen_3 rfl ?_
  have l3 : ∀ (m : Nat) (k n S : Int) (υ1 κ1 sc1 κc ω1 : Int → Int) (l4 : Option Value), 0 ≤ k → k + m = σ 0 → (0 ≤ n ∧ n ≤ 6) → ω1 13 = n → ω1 14 = S → (∀ j, j ≠ 13 → j ≠ 14 → ω1 j = ω j) → (0 < S ∧ S ≤ 5 ^ n.toNat) → (∀ i, 0 ≤ i → i < n → κ1 i = κc i ∧ (0 ≤ κc i ∧ κc i < σ 0) ∧ 0 < un σ o (κc i)) → (us sc1 n S 0 = 1 ∧ ∀ i, 0 ≤ i → i < n → us sc1 n S (i + 1) = us sc1 n S i * (un σ o (κc i) + 1)) → Y = f_kd (un σ o) m k (n, κc) → (∀ k, 0 ≤ k → k < σ 0 → υ1 k = un σ o k) → PW G mX1_layUnseen (rmD (d + 2) 0 0) (MZ G Q nX 0 0) 0 0 (hU I x υ1 κ1 sc1 ω1) J P T z 167 [some (.ref x), some (iv o), some (iv (f_sl σ o)), some (iv k), l4] [] := by
    intro m
    induction m with
    | zero =>
      intro k n S υ1 κ1 sc1 κc ω1 l4 h0 hm hn e13 e14 hω hS hκ hsc hY hυ
      have hx1 := hx1 υ1 κ1 sc1 ω1
      have hY1 : Y = (1, n, κc) := hY
      have p5n := p5 (n := n.toNat) (by omega)
      have hsl : 0 ≤ f_sl σ o ∧ f_sl σ o ≤ 52 * 6 := by
        have := sm_bd (f := fun q => if q = o then 0 else σ (229 + q)) (a := 0) (b := 52) (n := (σ 1).toNat) (fun q x y => by
          have := hcv.cd (p := q) x (by omega)
          split <;> omega)
        unfold f_sl
        omega
      have hUL : ∃ S s2, UL (hU I x υ1 κ1 sc1 ω1) x Y.2.1.toNat (fun i => un σ o (Y.2.2 i)) Y.2.2 s2 S := by
        refine ⟨S.toNat, us sc1 n S, ?_⟩
        rw [hY1]
        show UL (hU I x υ1 κ1 sc1 ω1) x n.toNat (fun i => un σ o (κc i)) κc (us sc1 n S) S.toNat
        have en : ((n.toNat : Nat) : Int) = n := by omega
        have a77 : hU I x υ1 κ1 sc1 ω1 (x + 77) = υ1 := by unfold hU; rw [ur_n (by omega), ur_n (by omega), ur_n (by omega), ur_s]
        have a78 : hU I x υ1 κ1 sc1 ω1 (x + 78) = κ1 := by unfold hU; rw [ur_n (by omega), ur_n (by omega), ur_s]
        have a79 : hU I x υ1 κ1 sc1 ω1 (x + 79) = sc1 := by unfold hU; rw [ur_n (by omega), ur_s]
        have a00 : hU I x υ1 κ1 sc1 ω1 x = ω1 := by unfold hU; rw [ur_s]
        refine ⟨by omega, by rw [a00, e13]; omega, by rw [a00, e14]; omega, by rw [en, us_s]; omega, by omega, ⟨hsc.1, fun i i0 i1 => ?_⟩, fun i i0 i1 => ?_⟩
        · have := hκ i i0 (by omega)
          exact ⟨hsc.2 i i0 (by omega), show 0 < un σ o (κc i) + 1 by omega, show 0 ≤ un σ o (κc i) by omega, show un σ o (κc i) < un σ o (κc i) + 1 by omega⟩
        · have := hκ i i0 (by omega)
          have u4 := un_4 hcv (o := o) (k := κc i) (by omega) (by omega)
          rw [a77, a78, a79]
          exact ⟨this.1, by omega, (us_n (by omega)).symm, hυ _ this.2.1.1 this.2.1.2, show 0 ≤ un σ o (κc i) by omega, u4⟩
      have hQ := hQ υ1 κ1 sc1 ω1 hω (fun _ => hUL)
      have eY : Y.1 ≠ 0 := by rw [hY1]; show (1 : Int) ≠ 0; decide
      refine r_iload_n (pc := 167) dX1_layUnseen_167 rfl rfl ?_
      refine r_aload_n (pc := 168) dX1_layUnseen_168 rfl rfl ?_
      refine r_getr (pc := 169) (c := 1) (k := 3) (kz := 3) hx1.o cok_1 (Nat.le_of_ble_eq_true rfl) q513 ⟨rfl, rfl⟩ (Or.inl rfl) rfl (fun _ _ _ => rfl) hx1.p_table dX1_layUnseen_169 ?_
      refine r_getiN (pc := 172) (c := 2) (k := 0) (kz := 0) hx1.tb.o cok_2 (Nat.le_of_ble_eq_true rfl) q205 ⟨rfl, rfl⟩ (Or.inl rfl) rfl (fun _ _ _ => rfl) dX1_layUnseen_172 (fun hr172 => ?_)
      try simp (disch := omega) only [ui_ur, ui_ur_n, ur_sv, ur_nv, ui_sv, ui_nv, ui_uis, us_s, us_n] at hr172 ⊢
      rw [hr.ta.1] at hr172 ⊢
      refine r_icmp_ge (pc := 175) 257 dX1_layUnseen_175 rfl (by omega) (by omega) (fun h175 => ?_) (fun h175 => ?_)
      · refine r_iload_n (pc := 257) dX1_layUnseen_257 rfl rfl ?_
        refine r_bipush (pc := 258) dX1_layUnseen_258 (by decide +kernel) ?_
        refine r_icmp_gt (pc := 260) 267 dX1_layUnseen_260 rfl (by omega) (by omega) (fun h260 => ?_) (fun h260 => ?_)
        · rw [bz_f (fun c => by omega)] at hQ
          refine r_iconst (pc := 267) dX1_layUnseen_267 ?_
          refine r_ireturn (pc := 268) rfl (nb_z (by omega)) dX1_layUnseen_268 (Nat.le_of_ble_eq_true rfl) (Nat.le_of_ble_eq_true rfl) ?_
          exact hQ
        rw [bz_t ⟨eY, by omega⟩] at hQ
        refine r_iconst (pc := 263) dX1_layUnseen_263 ?_
        refine r_goto (pc := 264) 268 dX1_layUnseen_264 rfl ?_
        refine r_ireturn (pc := 268) rfl (nb_z (by omega)) dX1_layUnseen_268 (Nat.le_of_ble_eq_true rfl) (Nat.le_of_ble_eq_true rfl) ?_
        exact hQ
      omega
    | succ m ih =>
      intro k n S υ1 κ1 sc1 κc ω1 l4 h0 hm hn e13 e14 hω hS hκ hsc hY hυ
      have hx1 := hx1 υ1 κ1 sc1 ω1
      have ek := hυ k h0 (by omega)
      have u4 := un_4 hcv (o := o) (k := k) (by omega) (by omega)
      refine r_iload_n (pc := 167) dX1_layUnseen_167 rfl rfl ?_
      refine r_aload_n (pc := 168) dX1_layUnseen_168 rfl rfl ?_
      refine r_getr (pc := 169) (c := 1) (k := 3) (kz := 3) hx1.o cok_1 (Nat.le_of_ble_eq_true rfl) q513 ⟨rfl, rfl⟩ (Or.inl rfl) rfl (fun _ _ _ => rfl) hx1.p_table dX1_layUnseen_169 ?_
      refine r_getiN (pc := 172) (c := 2) (k := 0) (kz := 0) hx1.tb.o cok_2 (Nat.le_of_ble_eq_true rfl) q205 ⟨rfl, rfl⟩ (Or.inl rfl) rfl (fun _ _ _ => rfl) dX1_layUnseen_172 (fun hr172 => ?_)
      try simp (disch := omega) only [ui_ur, ui_ur_n, ur_sv, ur_nv, ui_sv, ui_nv, ui_uis, us_s, us_n] at hr172 ⊢
      rw [hr.ta.1] at hr172 ⊢
      refine r_icmp_ge (pc := 175) 257 dX1_layUnseen_175 rfl (by omega) (by omega) (fun h175 => ?_) (fun h175 => ?_)
      · omega
      refine r_aload_n (pc := 178) dX1_layUnseen_178 rfl rfl ?_
      refine r_getr (pc := 179) (c := 1) (k := 10) (kz := 10) hx1.o cok_1 (Nat.le_of_ble_eq_true rfl) q520 ⟨rfl, rfl⟩ (Or.inl rfl) rfl (fun _ _ _ => rfl) hx1.p_unseen dX1_layUnseen_179 ?_
      refine r_iload_n (pc := 182) dX1_layUnseen_182 rfl rfl ?_
      refine r_iald (pc := 183) hx1.t_unseen (by omega) (by omega) dX1_layUnseen_183 (fun hr183 => ?_)
      try simp (disch := omega) only [ui_ur, ui_ur_n, ur_sv, ur_nv, ui_sv, ui_nv, ui_uis, us_s, us_n] at hr183 ⊢
      rw [ek] at hr183 ⊢
      refine r_if_gt (pc := 184) 190 dX1_layUnseen_184 rfl (by omega) (fun h184 => ?_) (fun h184 => ?_)
      · refine r_aload_n (pc := 190) dX1_layUnseen_190 rfl rfl ?_
        refine r_geti (pc := 191) (c := 1) (k := 13) (kz := 13) hx1.o cok_1 (Nat.le_of_ble_eq_true rfl) q523 ⟨rfl, rfl⟩ (Or.inl rfl) rfl (fun _ _ _ => rfl) dX1_layUnseen_191 (fun hr191 => ?_)
        try simp (disch := omega) only [ui_ur, ui_ur_n, ur_sv, ur_nv, ui_sv, ui_nv, ui_uis, us_s, us_n] at hr191 ⊢
        rw [e13] at hr191 ⊢
        refine r_bipush (pc := 194) dX1_layUnseen_194 (by decide +kernel) ?_
        refine r_icmp_ne (pc := 196) 201 dX1_layUnseen_196 rfl (by omega) (by omega) (fun h196 => ?_) (fun h196 => ?_)
        · have hY2 : Y = f_kd (un σ o) m (k + 1) (n + 1, us κc n k) := by
            rw [hY]
            conv => lhs; unfold f_kd
            rw [if_neg (by omega), if_neg (by omega)]
          have p5n := p5 (n := n.toNat) (by omega)
          have s1 : 0 < S * (un σ o k + 1) := Int.mul_pos hS.1 (by omega)
          have s2 : S * (un σ o k + 1) ≤ S * 5 := Int.mul_le_mul_of_nonneg_left (by omega) (by omega)
          refine r_aload_n (pc := 201) dX1_layUnseen_201 rfl rfl ?_
          refine r_getr (pc := 202) (c := 1) (k := 11) (kz := 11) hx1.o cok_1 (Nat.le_of_ble_eq_true rfl) q521 ⟨rfl, rfl⟩ (Or.inl rfl) rfl (fun _ _ _ => rfl) hx1.p_kindAt dX1_layUnseen_202 ?_
          refine r_aload_n (pc := 205) dX1_layUnseen_205 rfl rfl ?_
          refine r_geti (pc := 206) (c := 1) (k := 13) (kz := 13) hx1.o cok_1 (Nat.le_of_ble_eq_true rfl) q523 ⟨rfl, rfl⟩ (Or.inl rfl) rfl (fun _ _ _ => rfl) dX1_layUnseen_206 (fun hr206 => ?_)
          try simp (disch := omega) only [ui_ur, ui_ur_n, ur_sv, ur_nv, ui_sv, ui_nv, ui_uis, us_s, us_n] at hr206 ⊢
          rw [e13] at hr206 ⊢
          refine r_iload_n (pc := 209) dX1_layUnseen_209 rfl rfl ?_
          refine r_iast (pc := 210) hx1.t_kindAt (by omega) (by omega) (by omega) (by omega) dX1_layUnseen_210 ?_
          try simp (disch := omega) only [ui_ur, ui_ur_n, ur_sv, ur_nv, ui_sv, ui_nv, ui_uis, us_s, us_n]
          refine r_aload_n (pc := 211) dX1_layUnseen_211 rfl rfl ?_
          refine r_getr (pc := 212) (c := 1) (k := 12) (kz := 12) hx1.o cok_1 (Nat.le_of_ble_eq_true rfl) q522 ⟨rfl, rfl⟩ (Or.inl rfl) rfl (fun _ _ _ => rfl) hx1.p_scale dX1_layUnseen_212 ?_
          refine r_aload_n (pc := 215) dX1_layUnseen_215 rfl rfl ?_
          refine r_geti (pc := 216) (c := 1) (k := 13) (kz := 13) hx1.o cok_1 (Nat.le_of_ble_eq_true rfl) q523 ⟨rfl, rfl⟩ (Or.inl rfl) rfl (fun _ _ _ => rfl) dX1_layUnseen_216 (fun hr216 => ?_)
          try simp (disch := omega) only [ui_ur, ui_ur_n, ur_sv, ur_nv, ui_sv, ui_nv, ui_uis, us_s, us_n] at hr216 ⊢
          rw [e13] at hr216 ⊢
          refine r_aload_n (pc := 219) dX1_layUnseen_219 rfl rfl ?_
          refine r_geti (pc := 220) (c := 1) (k := 14) (kz := 14) hx1.o cok_1 (Nat.le_of_ble_eq_true rfl) q524 ⟨rfl, rfl⟩ (Or.inl rfl) rfl (fun _ _ _ => rfl) dX1_layUnseen_220 (fun hr220 => ?_)
          try simp (disch := omega) only [ui_ur, ui_ur_n, ur_sv, ur_nv, ui_sv, ui_nv, ui_uis, us_s, us_n] at hr220 ⊢
          rw [e14] at hr220 ⊢
          refine r_iast (pc := 223) hx1.t_scale (by omega) (by omega) (by omega) (by omega) dX1_layUnseen_223 ?_
          try simp (disch := omega) only [ui_ur, ui_ur_n, ur_sv, ur_nv, ui_sv, ui_nv, ui_uis, us_s, us_n]
          refine r_aload_n (pc := 224) dX1_layUnseen_224 rfl rfl ?_
          refine r_dup (pc := 225) dX1_layUnseen_225 rfl ?_
          refine r_geti (pc := 226) (c := 1) (k := 14) (kz := 14) hx1.o cok_1 (Nat.le_of_ble_eq_true rfl) q524 ⟨rfl, rfl⟩ (Or.inl rfl) rfl (fun _ _ _ => rfl) dX1_layUnseen_226 (fun hr226 => ?_)
          try simp (disch := omega) only [ui_ur, ui_ur_n, ur_sv, ur_nv, ui_sv, ui_nv, ui_uis, us_s, us_n] at hr226 ⊢
          rw [e14] at hr226 ⊢
          refine r_aload_n (pc := 229) dX1_layUnseen_229 rfl rfl ?_
          refine r_getr (pc := 230) (c := 1) (k := 10) (kz := 10) hx1.o cok_1 (Nat.le_of_ble_eq_true rfl) q520 ⟨rfl, rfl⟩ (Or.inl rfl) rfl (fun _ _ _ => rfl) hx1.p_unseen dX1_layUnseen_230 ?_
          refine r_iload_n (pc := 233) dX1_layUnseen_233 rfl rfl ?_
          refine r_iald (pc := 234) hx1.t_unseen (by omega) (by omega) dX1_layUnseen_234 (fun hr234 => ?_)
          try simp (disch := omega) only [ui_ur, ui_ur_n, ur_sv, ur_nv, ui_sv, ui_nv, ui_uis, us_s, us_n] at hr234 ⊢
          rw [ek] at hr234 ⊢
          refine r_iconst (pc := 235) dX1_layUnseen_235 ?_
          refine r_iadd (pc := 236) dX1_layUnseen_236 ?_
          refine r_imul (pc := 237) dX1_layUnseen_237 ?_
          refine r_puti (pc := 238) (c := 1) (k := 14) (kz := 14) hx1.o cok_1 (Nat.le_of_ble_eq_true rfl) q524 ⟨rfl, rfl⟩ (Or.inl rfl) rfl (by omega) rfl rfl (by omega) (fun _ _ _ => rfl) ⟨rfl, rfl⟩ dX1_layUnseen_238 ?_
          try simp (disch := omega) only [ui_ur, ui_ur_n, ur_sv, ur_nv, ui_sv, ui_nv, ui_uis, us_s, us_n]
          refine r_aload_n (pc := 241) dX1_layUnseen_241 rfl rfl ?_
          refine r_dup (pc := 242) dX1_layUnseen_242 rfl ?_
          refine r_geti (pc := 243) (c := 1) (k := 13) (kz := 13) hx1.o cok_1 (Nat.le_of_ble_eq_true rfl) q523 ⟨rfl, rfl⟩ (Or.inl rfl) rfl (fun _ _ _ => rfl) dX1_layUnseen_243 (fun hr243 => ?_)
          try simp (disch := omega) only [ui_ur, ui_ur_n, ur_sv, ur_nv, ui_sv, ui_nv, ui_uis, us_s, us_n] at hr243 ⊢
          rw [e13] at hr243 ⊢
          refine r_iconst (pc := 246) dX1_layUnseen_246 ?_
          refine r_iadd (pc := 247) dX1_layUnseen_247 ?_
          refine r_puti (pc := 248) (c := 1) (k := 13) (kz := 13) hx1.o cok_1 (Nat.le_of_ble_eq_true rfl) q523 ⟨rfl, rfl⟩ (Or.inl rfl) rfl (by omega) rfl rfl (by omega) (fun _ _ _ => rfl) ⟨rfl, rfl⟩ dX1_layUnseen_248 ?_
          try simp (disch := omega) only [ui_ur, ui_ur_n, ur_sv, ur_nv, ui_sv, ui_nv, ui_uis, us_s, us_n]
          refine r_iinc3 (pc := 251) (Nat.le_of_ble_eq_true rfl) dX1_layUnseen_251 rfl ?_
          refine r_goto (pc := 254) 167 dX1_layUnseen_254 rfl ?_
          refine ih (k + 1) (n + 1) (S * (un σ o k + 1)) υ1 (us κ1 n k) (us sc1 n S) (us κc n k) (us (us ω1 14 (S * (un σ o k + 1))) 13 (n + 1)) l4 (by omega) (by omega) (by omega) us_s (by rw [us_n (by omega), us_s]) (fun j p q => by rw [us_n p, us_n q]; exact hω j p q) ⟨s1, ?_⟩ (fun i p q => ?_) ⟨?_, fun i p q => ?_⟩ hY2 hυ
          · rw [show (n + 1).toNat = n.toNat + 1 by omega, Int.pow_succ]
            omega
          · by_cases e : i = n
            · subst e
              rw [us_s, us_s]
              exact ⟨rfl, by omega, by omega⟩
            · rw [us_n e, us_n e]
              exact hκ i p (by omega)
          · rw [us_n (by omega)]; exact hsc.1
          · by_cases e : i = n
            · subst e
              rw [us_s, us_n (by omega), us_s, us_s]
            · have z1 : us (us sc1 n S) (n + 1) (S * (un σ o k + 1)) (i + 1) = us sc1 n S (i + 1) := us_n (by omega)
              have z2 : us (us sc1 n S) (n + 1) (S * (un σ o k + 1)) i = us sc1 n S i := us_n (by omega)
              rw [z1, z2, us_n (f := κc) e]
              exact hsc.2 i p (by omega)
        have hY2 : Y.1 = 0 := by
          rw [hY]
          unfold f_kd
          rw [if_neg (by omega), if_pos (by omega)]
        have hQ := hQ υ1 κ1 sc1 ω1 hω (fun c => absurd hY2 c)
        rw [bz_f (fun c => c.1 hY2)] at hQ
        refine r_iconst (pc := 199) dX1_layUnseen_199 ?_
        refine r_ireturn (pc := 200) rfl (nb_z (by omega)) dX1_layUnseen_200 (Nat.le_of_ble_eq_true rfl) (Nat.le_of_ble_eq_true rfl) ?_
        exact hQ
      refine r_goto (pc := 187) 251 dX1_layUnseen_187 rfl ?_
      refine r_iinc3 (pc := 251) (Nat.le_of_ble_eq_true rfl) dX1_layUnseen_251 rfl ?_
      refine r_goto (pc := 254) 167 dX1_layUnseen_254 rfl ?_
      refine ih (k + 1) n S υ1 κ1 sc1 κc ω1 l4 (by omega) (by omega) hn e13 e14 hω hS hκ hsc ?_ hυ
      rw [hY]
      conv => lhs; unfold f_kd
      rw [if_pos (by omega)]
  have l2 : ∀ (m : Nat) (q : Int) (υ1 : Int → Int) (l4 : Option Value), 0 ≤ q → q + m = σ 1 → (∀ k, 0 ≤ k → k < σ 0 → υ1 k = un σ o k) → PW G mX1_layUnseen (rmD (d + 2) 0 0) (MZ G Q nX 0 0) 0 0 (hU I x υ1 κ sc ω) J P T z 121 [some (.ref x), some (iv o), some (iv (sm (fun q => if q = o then 0 else σ (229 + q)) q.toNat)), some (iv q), l4] [] := by
    intro m
    induction m with
    | zero =>
      intro q υ1 l4 h0 hm hυ
      obtain rfl : q = σ 1 := by omega
      have hx1 := hx1 υ1 κ sc ω
      refine r_iload_n (pc := 121) dX1_layUnseen_121 rfl rfl ?_
      refine r_aload_n (pc := 122) dX1_layUnseen_122 rfl rfl ?_
      refine r_getr (pc := 123) (c := 1) (k := 3) (kz := 3) hx1.o cok_1 (Nat.le_of_ble_eq_true rfl) q513 ⟨rfl, rfl⟩ (Or.inl rfl) rfl (fun _ _ _ => rfl) hx1.p_table dX1_layUnseen_123 ?_
      refine r_callV0 (pc := 126) (C_many hx1.tb fe_i) im_X2_many q369 q1241 hx1.tb.o rfl dX1_layUnseen_126 (Nat.le_of_ble_eq_true rfl) (Nat.le_of_ble_eq_true rfl) rfl (k_fi ?_) (fun _ _ _ _ _ _ _ hx => no_x hx)
      rw [hx1.r.ta.2.1]
      refine r_icmp_ge (pc := 129) 155 dX1_layUnseen_129 rfl (by omega) (by omega) (fun h129 => ?_) (fun h129 => ?_)
      · refine r_aload_n (pc := 155) dX1_layUnseen_155 rfl rfl ?_
        refine r_iconst (pc := 156) dX1_layUnseen_156 ?_
        refine r_puti (pc := 157) (c := 1) (k := 13) (kz := 13) hx1.o cok_1 (Nat.le_of_ble_eq_true rfl) q523 ⟨rfl, rfl⟩ (Or.inl rfl) rfl (by omega) rfl rfl (by omega) (fun _ _ _ => rfl) ⟨rfl, rfl⟩ dX1_layUnseen_157 ?_
        try simp (disch := omega) only [ui_ur, ui_ur_n, ur_sv, ur_nv, ui_sv, ui_nv, ui_uis, us_s, us_n]
        refine r_aload_n (pc := 160) dX1_layUnseen_160 rfl rfl ?_
        refine r_iconst (pc := 161) dX1_layUnseen_161 ?_
        refine r_puti (pc := 162) (c := 1) (k := 14) (kz := 14) hx1.o cok_1 (Nat.le_of_ble_eq_true rfl) q524 ⟨rfl, rfl⟩ (Or.inl rfl) rfl (by omega) rfl rfl (by omega) (fun _ _ _ => rfl) ⟨rfl, rfl⟩ dX1_layUnseen_162 ?_
        try simp (disch := omega) only [ui_ur, ui_ur_n, ur_sv, ur_nv, ui_sv, ui_nv, ui_uis, us_s, us_n]
        refine r_iconst (pc := 165) dX1_layUnseen_165 ?_
        refine r_istore_n3 (pc := 166) (Nat.le_of_ble_eq_true rfl) dX1_layUnseen_166 rfl ?_
        refine l3 (σ 0).toNat 0 0 1 υ1 κ sc (fun _ => 0) (us (us ω 13 0) 14 1) l4 (by omega) (by omega) (by omega) (by rw [us_n (by omega), us_s]) us_s (fun j p q => by rw [us_n q, us_n p]) ⟨by omega, by decide⟩ (fun i p q => by omega) ⟨us_s, fun i p q => by omega⟩ hkd.symm hυ
      omega
    | succ m ih =>
      intro q υ1 l4 h0 hm hυ
      have hx1 := hx1 υ1 κ sc ω
      have hs9 := sm_succ (f := fun q => if q = o then 0 else σ (229 + q)) h0
      have hoq := hcv.cd (p := q) (by omega) (by omega)
      refine r_iload_n (pc := 121) dX1_layUnseen_121 rfl rfl ?_
      refine r_aload_n (pc := 122) dX1_layUnseen_122 rfl rfl ?_
      refine r_getr (pc := 123) (c := 1) (k := 3) (kz := 3) hx1.o cok_1 (Nat.le_of_ble_eq_true rfl) q513 ⟨rfl, rfl⟩ (Or.inl rfl) rfl (fun _ _ _ => rfl) hx1.p_table dX1_layUnseen_123 ?_
      refine r_callV0 (pc := 126) (C_many hx1.tb fe_i) im_X2_many q369 q1241 hx1.tb.o rfl dX1_layUnseen_126 (Nat.le_of_ble_eq_true rfl) (Nat.le_of_ble_eq_true rfl) rfl (k_fi ?_) (fun _ _ _ _ _ _ _ hx => no_x hx)
      rw [hx1.r.ta.2.1]
      refine r_icmp_ge (pc := 129) 155 dX1_layUnseen_129 rfl (by omega) (by omega) (fun h129 => ?_) (fun h129 => ?_)
      · omega
      refine r_iload_n (pc := 132) dX1_layUnseen_132 rfl rfl ?_
      refine r_iload_n (pc := 133) dX1_layUnseen_133 rfl rfl ?_
      refine r_icmp_eq (pc := 134) 149 dX1_layUnseen_134 rfl (by omega) (by omega) (fun h134 => ?_) (fun h134 => ?_)
      · rw [if_pos h134, Int.add_zero] at hs9
        refine r_iinc3 (pc := 149) (Nat.le_of_ble_eq_true rfl) dX1_layUnseen_149 rfl ?_
        refine r_goto (pc := 152) 121 dX1_layUnseen_152 rfl ?_
        rw [hs9]
        exact ih (q + 1) υ1 l4 (by omega) (by omega) hυ
      rw [if_neg h134] at hs9
      refine r_iload_n (pc := 137) dX1_layUnseen_137 rfl rfl ?_
      refine r_aload_n (pc := 138) dX1_layUnseen_138 rfl rfl ?_
      refine r_getr (pc := 139) (c := 1) (k := 4) (kz := 4) hx1.o cok_1 (Nat.le_of_ble_eq_true rfl) q514 ⟨rfl, rfl⟩ (Or.inl rfl) rfl (fun _ _ _ => rfl) hx1.p_now dX1_layUnseen_139 ?_
      refine r_getrN (pc := 142) (c := 3) (k := 4) (kz := 4) hx1.g.o cok_3 (Nat.le_of_ble_eq_true rfl) q281 ⟨rfl, rfl⟩ (Or.inl rfl) rfl (fun _ _ _ => rfl) hx1.g.p_others dX1_layUnseen_142 ?_
      refine r_iload_n (pc := 145) dX1_layUnseen_145 rfl rfl ?_
      refine r_iald (pc := 146) hx1.g.t_others (by omega) (by omega) dX1_layUnseen_146 (fun hr146 => ?_)
      try simp (disch := omega) only [ui_ur, ui_ur_n, ur_sv, ur_nv, ui_sv, ui_nv, ui_uis, us_s, us_n] at hr146 ⊢
      rw [hr.others (by omega) (by omega)] at hr146 ⊢
      refine r_iadd (pc := 147) dX1_layUnseen_147 ?_
      refine r_istore_n2 (pc := 148) (Nat.le_of_ble_eq_true rfl) dX1_layUnseen_148 rfl ?_
      refine r_iinc3 (pc := 149) (Nat.le_of_ble_eq_true rfl) dX1_layUnseen_149 rfl ?_
      refine r_goto (pc := 152) 121 dX1_layUnseen_152 rfl ?_
      rw [hs9]
      exact ih (q + 1) υ1 l4 (by omega) (by omega) hυ
  have l1 : ∀ (m : Nat) (k : Int) (υ1 : Int → Int) (l4 : Option Value), 0 ≤ k → k + m = σ 0 → (∀ k', 0 ≤ k' → k' < k → υ1 k' = un σ o k') → PW G mX1_layUnseen (rmD (d + 2) 0 0) (MZ G Q nX 0 0) 0 0 (hU I x υ1 κ sc ω) J P T z 4 [some (.ref x), some (iv o), some (iv 0), some (iv k), l4] [] := by
    intro m
    induction m with
    | zero =>
      intro k υ1 l4 h0 hm hυ
      have hx1 := hx1 υ1 κ sc ω
      refine r_iload_n (pc := 4) dX1_layUnseen_4 rfl rfl ?_
      refine r_aload_n (pc := 5) dX1_layUnseen_5 rfl rfl ?_
      refine r_getr (pc := 6) (c := 1) (k := 3) (kz := 3) hx1.o cok_1 (Nat.le_of_ble_eq_true rfl) q513 ⟨rfl, rfl⟩ (Or.inl rfl) rfl (fun _ _ _ => rfl) hx1.p_table dX1_layUnseen_6 ?_
      refine r_getiN (pc := 9) (c := 2) (k := 0) (kz := 0) hx1.tb.o cok_2 (Nat.le_of_ble_eq_true rfl) q205 ⟨rfl, rfl⟩ (Or.inl rfl) rfl (fun _ _ _ => rfl) dX1_layUnseen_9 (fun hr9 => ?_)
      try simp (disch := omega) only [ui_ur, ui_ur_n, ur_sv, ur_nv, ui_sv, ui_nv, ui_uis, us_s, us_n] at hr9 ⊢
      rw [hr.ta.1] at hr9 ⊢
      refine r_icmp_ge (pc := 12) 119 dX1_layUnseen_12 rfl (by omega) (by omega) (fun h12 => ?_) (fun h12 => ?_)
      · refine r_iconst (pc := 119) dX1_layUnseen_119 ?_
        refine r_istore_n3 (pc := 120) (Nat.le_of_ble_eq_true rfl) dX1_layUnseen_120 rfl ?_
        exact l2 (σ 1).toNat 0 υ1 l4 (by omega) (by omega) (fun k' p q => hυ k' p (by omega))
      omega
    | succ m ih =>
      intro k υ1 l4 h0 hm hυ
      have c1 := hcv.one (p := o) (k := k) (by omega) (by omega) h0 (by omega)
      have c2 := ct_r (η := σ) (k := k)
      have c3 := bz_r (p := 0 < σ (138 + k))
      have inner : ∀ (w : Nat) (q : Int), 0 ≤ q → q + w = σ 1 → PW G mX1_layUnseen (rmD (d + 2) 0 0) (MZ G Q nX 0 0) 0 0 (hU I x (us υ1 k (σ (571 + k) - σ (60 + 13 * o + k) - 4 * bz (0 < σ (138 + k)) - sm (fun q => if q = o then 0 else σ (151 + 13 * q + k)) q.toNat)) κ sc ω) J P T z 68 [some (.ref x), some (iv o), some (iv 0), some (iv k), some (iv q)] [] := by
        intro w
        induction w with
        | zero =>
          intro q q0 qw
          obtain rfl : q = σ 1 := by omega
          have hx1 := hx1 (us υ1 k (σ (571 + k) - σ (60 + 13 * o + k) - 4 * bz (0 < σ (138 + k)) - sm (fun q => if q = o then 0 else σ (151 + 13 * q + k)) (σ 1).toNat)) κ sc ω
          refine r_iload (pc := 68) dX1_layUnseen_68 rfl ?_
          refine r_aload_n (pc := 70) dX1_layUnseen_70 rfl rfl ?_
          refine r_getr (pc := 71) (c := 1) (k := 3) (kz := 3) hx1.o cok_1 (Nat.le_of_ble_eq_true rfl) q513 ⟨rfl, rfl⟩ (Or.inl rfl) rfl (fun _ _ _ => rfl) hx1.p_table dX1_layUnseen_71 ?_
          refine r_callV0 (pc := 74) (C_many hx1.tb fe_i) im_X2_many q369 q1241 hx1.tb.o rfl dX1_layUnseen_74 (Nat.le_of_ble_eq_true rfl) (Nat.le_of_ble_eq_true rfl) rfl (k_fi ?_) (fun _ _ _ _ _ _ _ hx => no_x hx)
          rw [hx1.r.ta.2.1]
          refine r_icmp_ge (pc := 77) 113 dX1_layUnseen_77 rfl (by omega) (by omega) (fun h77 => ?_) (fun h77 => ?_)
          · refine r_iinc3 (pc := 113) (Nat.le_of_ble_eq_true rfl) dX1_layUnseen_113 rfl ?_
            refine r_goto (pc := 116) 4 dX1_layUnseen_116 rfl ?_
            refine ih (k + 1) _ _ (by omega) (by omega) (fun k' p p2 => ?_)
            by_cases e : k' = k
            · subst e; rw [us_s]; rfl
            · rw [us_n e]; exact hυ k' p (by omega)
          omega
        | succ w ihw =>
          intro q q0 qw
          have hx1 := hx1 (us υ1 k (σ (571 + k) - σ (60 + 13 * o + k) - 4 * bz (0 < σ (138 + k)) - sm (fun q => if q = o then 0 else σ (151 + 13 * q + k)) q.toNat)) κ sc ω
          have hs9 := sm_succ (f := fun q => if q = o then 0 else σ (151 + 13 * q + k)) q0
          have s9 := un_s hcv (o := o) (k := k) (by omega) (m := q.toNat) (by omega)
          have kn9 := hcv.kn (p := q) (k := k) (by omega) (by omega) h0 (by omega)
          have h49 := hcv.h4 (p := q) (k := k) (by omega) (by omega) h0 (by omega)
          refine r_iload (pc := 68) dX1_layUnseen_68 rfl ?_
          refine r_aload_n (pc := 70) dX1_layUnseen_70 rfl rfl ?_
          refine r_getr (pc := 71) (c := 1) (k := 3) (kz := 3) hx1.o cok_1 (Nat.le_of_ble_eq_true rfl) q513 ⟨rfl, rfl⟩ (Or.inl rfl) rfl (fun _ _ _ => rfl) hx1.p_table dX1_layUnseen_71 ?_
          refine r_callV0 (pc := 74) (C_many hx1.tb fe_i) im_X2_many q369 q1241 hx1.tb.o rfl dX1_layUnseen_74 (Nat.le_of_ble_eq_true rfl) (Nat.le_of_ble_eq_true rfl) rfl (k_fi ?_) (fun _ _ _ _ _ _ _ hx => no_x hx)
          rw [hx1.r.ta.2.1]
          refine r_icmp_ge (pc := 77) 113 dX1_layUnseen_77 rfl (by omega) (by omega) (fun h77 => ?_) (fun h77 => ?_)
          · omega
          refine r_iload (pc := 80) dX1_layUnseen_80 rfl ?_
          refine r_iload_n (pc := 82) dX1_layUnseen_82 rfl rfl ?_
          refine r_icmp_eq (pc := 83) 107 dX1_layUnseen_83 rfl (by omega) (by omega) (fun h83 => ?_) (fun h83 => ?_)
          · rw [if_pos h83, Int.add_zero] at hs9
            refine r_iinc4 (pc := 107) (Nat.le_of_ble_eq_true rfl) dX1_layUnseen_107 rfl ?_
            refine r_goto (pc := 110) 68 dX1_layUnseen_110 rfl ?_
            have := ihw (q + 1) (by omega) (by omega)
            rw [← hs9] at this
            exact this
          rw [if_neg h83] at hs9
          refine r_aload_n (pc := 86) dX1_layUnseen_86 rfl rfl ?_
          refine r_getr (pc := 87) (c := 1) (k := 10) (kz := 10) hx1.o cok_1 (Nat.le_of_ble_eq_true rfl) q520 ⟨rfl, rfl⟩ (Or.inl rfl) rfl (fun _ _ _ => rfl) hx1.p_unseen dX1_layUnseen_87 ?_
          refine r_iload_n (pc := 90) dX1_layUnseen_90 rfl rfl ?_
          refine r_dup2 (pc := 91) dX1_layUnseen_91 rfl rfl ?_
          refine r_iald (pc := 92) hx1.t_unseen (by omega) (by omega) dX1_layUnseen_92 (fun hr92 => ?_)
          try simp (disch := omega) only [ui_ur, ui_ur_n, ur_sv, ur_nv, ui_sv, ui_nv, ui_uis, us_s, us_n] at hr92 ⊢
          refine r_aload_n (pc := 93) dX1_layUnseen_93 rfl rfl ?_
          refine r_getr (pc := 94) (c := 1) (k := 4) (kz := 4) hx1.o cok_1 (Nat.le_of_ble_eq_true rfl) q514 ⟨rfl, rfl⟩ (Or.inl rfl) rfl (fun _ _ _ => rfl) hx1.p_now dX1_layUnseen_94 ?_
          refine r_getrN (pc := 97) (c := 3) (k := 2) (kz := 2) hx1.g.o cok_3 (Nat.le_of_ble_eq_true rfl) q277 ⟨rfl, rfl⟩ (Or.inl rfl) rfl (fun _ _ _ => rfl) hx1.g.p_known dX1_layUnseen_97 ?_
          refine r_iload (pc := 100) dX1_layUnseen_100 rfl ?_
          refine r_aald (pc := 102) hx1.g.t_known ⟨by decide, by decide⟩ rfl (fun _ _ _ => rfl) (by omega) (by omega) (hx1.g.q_known (by omega) (by omega)) dX1_layUnseen_102 ?_
          refine r_iload_n (pc := 103) dX1_layUnseen_103 rfl rfl ?_
          refine r_iald (pc := 104) (hx1.g.u_known (by omega) (by omega)) (by omega) (by omega) dX1_layUnseen_104 (fun hr104 => ?_)
          try simp (disch := omega) only [ui_ur, ui_ur_n, ur_sv, ur_nv, ui_sv, ui_nv, ui_uis, us_s, us_n] at hr104 ⊢
          rw [hr.known (by omega) (by omega) h0 (by omega)] at hr104 ⊢
          refine r_isub (pc := 105) dX1_layUnseen_105 ?_
          refine r_iast (pc := 106) hx1.t_unseen (by omega) (by omega) (by omega) (by omega) dX1_layUnseen_106 ?_
          try simp (disch := omega) only [ui_ur, ui_ur_n, ur_sv, ur_nv, ui_sv, ui_nv, ui_uis, us_s, us_n]
          rw [us_us]
          refine r_iinc4 (pc := 107) (Nat.le_of_ble_eq_true rfl) dX1_layUnseen_107 rfl ?_
          refine r_goto (pc := 110) 68 dX1_layUnseen_110 rfl ?_
          have := ihw (q + 1) (by omega) (by omega)
          rw [← hs9, ← Int.sub_sub] at this
          exact this
      have join : PW G mX1_layUnseen (rmD (d + 2) 0 0) (MZ G Q nX 0 0) 0 0 (hU I x (us υ1 k (σ (571 + k) - σ (60 + 13 * o + k) - 4 * bz (0 < σ (138 + k)))) κ sc ω) J P T z 65 [some (.ref x), some (iv o), some (iv 0), some (iv k), l4] [] := by
        refine r_iconst (pc := 65) dX1_layUnseen_65 ?_
        refine r_istore4 (pc := 66) (Nat.le_of_ble_eq_true rfl) dX1_layUnseen_66 rfl ?_
        have := inner (σ 1).toNat 0 (by omega) (by omega)
        rw [show sm (fun q => if q = o then 0 else σ (151 + 13 * q + k)) (0 : Int).toNat = 0 from rfl, Int.sub_zero] at this
        exact this
      have hx1' := hx1
      have hx1 := hx1 υ1 κ sc ω
      refine r_iload_n (pc := 4) dX1_layUnseen_4 rfl rfl ?_
      refine r_aload_n (pc := 5) dX1_layUnseen_5 rfl rfl ?_
      refine r_getr (pc := 6) (c := 1) (k := 3) (kz := 3) hx1.o cok_1 (Nat.le_of_ble_eq_true rfl) q513 ⟨rfl, rfl⟩ (Or.inl rfl) rfl (fun _ _ _ => rfl) hx1.p_table dX1_layUnseen_6 ?_
      refine r_getiN (pc := 9) (c := 2) (k := 0) (kz := 0) hx1.tb.o cok_2 (Nat.le_of_ble_eq_true rfl) q205 ⟨rfl, rfl⟩ (Or.inl rfl) rfl (fun _ _ _ => rfl) dX1_layUnseen_9 (fun hr9 => ?_)
      try simp (disch := omega) only [ui_ur, ui_ur_n, ur_sv, ur_nv, ui_sv, ui_nv, ui_uis, us_s, us_n] at hr9 ⊢
      rw [hr.ta.1] at hr9 ⊢
      refine r_icmp_ge (pc := 12) 119 dX1_layUnseen_12 rfl (by omega) (by omega) (fun h12 => ?_) (fun h12 => ?_)
      · omega
      refine r_aload_n (pc := 15) dX1_layUnseen_15 rfl rfl ?_
      refine r_getr (pc := 16) (c := 1) (k := 10) (kz := 10) hx1.o cok_1 (Nat.le_of_ble_eq_true rfl) q520 ⟨rfl, rfl⟩ (Or.inl rfl) rfl (fun _ _ _ => rfl) hx1.p_unseen dX1_layUnseen_16 ?_
      refine r_iload_n (pc := 19) dX1_layUnseen_19 rfl rfl ?_
      refine r_aload_n (pc := 20) dX1_layUnseen_20 rfl rfl ?_
      refine r_getr (pc := 21) (c := 1) (k := 4) (kz := 4) hx1.o cok_1 (Nat.le_of_ble_eq_true rfl) q514 ⟨rfl, rfl⟩ (Or.inl rfl) rfl (fun _ _ _ => rfl) hx1.p_now dX1_layUnseen_21 ?_
      refine r_getrN (pc := 24) (c := 3) (k := 11) (kz := 11) hx1.g.o cok_3 (Nat.le_of_ble_eq_true rfl) q299 ⟨rfl, rfl⟩ (Or.inl rfl) rfl (fun _ _ _ => rfl) hx1.g.p_cards dX1_layUnseen_24 ?_
      refine r_iload_n (pc := 27) dX1_layUnseen_27 rfl rfl ?_
      refine r_iald (pc := 28) hx1.g.t_cards (by omega) (by omega) dX1_layUnseen_28 (fun hr28 => ?_)
      try simp (disch := omega) only [ui_ur, ui_ur_n, ur_sv, ur_nv, ui_sv, ui_nv, ui_uis, us_s, us_n] at hr28 ⊢
      rw [hr.cards h0 (by omega)] at hr28 ⊢
      refine r_aload_n (pc := 29) dX1_layUnseen_29 rfl rfl ?_
      refine r_getr (pc := 30) (c := 1) (k := 4) (kz := 4) hx1.o cok_1 (Nat.le_of_ble_eq_true rfl) q514 ⟨rfl, rfl⟩ (Or.inl rfl) rfl (fun _ _ _ => rfl) hx1.p_now dX1_layUnseen_30 ?_
      refine r_getrN (pc := 33) (c := 3) (k := 1) (kz := 1) hx1.g.o cok_3 (Nat.le_of_ble_eq_true rfl) q273 ⟨rfl, rfl⟩ (Or.inl rfl) rfl (fun _ _ _ => rfl) hx1.g.p_hand dX1_layUnseen_33 ?_
      refine r_iload_n (pc := 36) dX1_layUnseen_36 rfl rfl ?_
      refine r_aald (pc := 37) hx1.g.t_hand ⟨by decide, by decide⟩ rfl (fun _ _ _ => rfl) (by omega) (by omega) (hx1.g.q_hand (by omega) (by omega)) dX1_layUnseen_37 ?_
      refine r_iload_n (pc := 38) dX1_layUnseen_38 rfl rfl ?_
      refine r_iald (pc := 39) (hx1.g.u_hand (by omega) (by omega)) (by omega) (by omega) dX1_layUnseen_39 (fun hr39 => ?_)
      try simp (disch := omega) only [ui_ur, ui_ur_n, ur_sv, ur_nv, ui_sv, ui_nv, ui_uis, us_s, us_n] at hr39 ⊢
      rw [hr.hand (by omega) (by omega) h0 (by omega)] at hr39 ⊢
      refine r_isub (pc := 40) dX1_layUnseen_40 ?_
      refine r_iast (pc := 41) hx1.t_unseen (by omega) (by omega) (by omega) (by omega) dX1_layUnseen_41 ?_
      try simp (disch := omega) only [ui_ur, ui_ur_n, ur_sv, ur_nv, ui_sv, ui_nv, ui_uis, us_s, us_n]
      have hx1 := hx1' (us υ1 k (σ (571 + k) - σ (60 + 13 * o + k))) κ sc ω
      have hbk := hcv.bk (k := k) h0 (by omega)
      refine r_aload_n (pc := 42) dX1_layUnseen_42 rfl rfl ?_
      refine r_getr (pc := 43) (c := 1) (k := 4) (kz := 4) hx1.o cok_1 (Nat.le_of_ble_eq_true rfl) q514 ⟨rfl, rfl⟩ (Or.inl rfl) rfl (fun _ _ _ => rfl) hx1.p_now dX1_layUnseen_43 ?_
      refine r_getrN (pc := 46) (c := 3) (k := 9) (kz := 9) hx1.g.o cok_3 (Nat.le_of_ble_eq_true rfl) q293 ⟨rfl, rfl⟩ (Or.inl rfl) rfl (fun _ _ _ => rfl) hx1.g.p_book dX1_layUnseen_46 ?_
      refine r_iload_n (pc := 49) dX1_layUnseen_49 rfl rfl ?_
      refine r_iald (pc := 50) hx1.g.t_book (by omega) (by omega) dX1_layUnseen_50 (fun hr50 => ?_)
      try simp (disch := omega) only [ui_ur, ui_ur_n, ur_sv, ur_nv, ui_sv, ui_nv, ui_uis, us_s, us_n] at hr50 ⊢
      rw [hr.book h0 (by omega)] at hr50 ⊢
      refine r_iconst (pc := 51) dX1_layUnseen_51 ?_
      refine r_icmp_eq (pc := 52) 65 dX1_layUnseen_52 rfl (by omega) (by omega) (fun h52 => ?_) (fun h52 => ?_)
      · rw [bz_f (by omega), Int.mul_zero, Int.sub_zero] at join
        exact join
      rw [bz_t (by omega), Int.mul_one] at join
      refine r_aload_n (pc := 55) dX1_layUnseen_55 rfl rfl ?_
      refine r_getr (pc := 56) (c := 1) (k := 10) (kz := 10) hx1.o cok_1 (Nat.le_of_ble_eq_true rfl) q520 ⟨rfl, rfl⟩ (Or.inl rfl) rfl (fun _ _ _ => rfl) hx1.p_unseen dX1_layUnseen_56 ?_
      refine r_iload_n (pc := 59) dX1_layUnseen_59 rfl rfl ?_
      refine r_dup2 (pc := 60) dX1_layUnseen_60 rfl rfl ?_
      refine r_iald (pc := 61) hx1.t_unseen (by omega) (by omega) dX1_layUnseen_61 (fun hr61 => ?_)
      try simp (disch := omega) only [ui_ur, ui_ur_n, ur_sv, ur_nv, ui_sv, ui_nv, ui_uis, us_s, us_n] at hr61 ⊢
      refine r_iconst (pc := 62) dX1_layUnseen_62 ?_
      refine r_isub (pc := 63) dX1_layUnseen_63 ?_
      refine r_iast (pc := 64) hx1.t_unseen (by omega) (by omega) (by omega) (by omega) dX1_layUnseen_64 ?_
      try simp (disch := omega) only [ui_ur, ui_ur_n, ur_sv, ur_nv, ui_sv, ui_nv, ui_uis, us_s, us_n]
      rw [us_us]
      exact join
  exact l1 (σ 0).toNat 0 υ none (by omega) (by omega) (fun k' p q => by omega)
end N3
