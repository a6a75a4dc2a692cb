/-! ===== the component: an asking ===== -/
section K4
variable {G : GE} {I I0 J : HI} {P : HP} {T : HT} {z : Nat} {g t d : Nat} {Q : QT} {σ μ : Int → Int}
set_option maxHeartbeats 2000000 in
theorem C_asks (hs : shG G P T g t) (hf : GF g I0 I) (hr : GR I g t σ μ) {a b k l : Int} (hw : WF σ) (ho : AO σ a b k) (hl : l = 0 ∨ l = 1)
    (hQ : ∀ I', GF g I0 I' → GR I' g t (f_asks σ a b k l).1 (f_tell a b k (f_gives σ b k l) (f_asks σ a b k l).2.1 (f_asks σ a b k l).2.2 (f_lie σ b k l) (f_sure σ b k)) → Q (some (iv (f_gives σ b k l))) I' J P T z) : MC G yX3_asks (ws_ yX3_asks cX3_asks 9 (some FieldType.int)) (d + 6) 0 0 [.ref g, iv a, iv b, iv k, iv l] I J P T z Q nX := by
  have hb := hs.b
  obtain ⟨a4, ha, hb2, hab, hk, hh⟩ := id ho
  have ht := hw.cv.ta
  have ha6 : 0 ≤ a ∧ a < 6 := by omega
  have hb6 : 0 ≤ b ∧ b < 6 := by omega
  have hk13 : 0 ≤ k ∧ k < 13 := by omega
  have h4b := hw.cv.h4 hb6.1 hb6.2 hk13.1 hk13.2
  have hcb := hw.cv.cd hb6.1 hb6.2
  have hlr : f_lie σ b k l = 0 ∨ f_lie σ b k l = 1 := by have := bz_r (p := 0 < σ (60 + 13 * b + k) ∧ l = 1); have e : f_lie σ b k l = bz (0 < σ (60 + 13 * b + k) ∧ l = 1) := rfl; omega
  have hgr : rg (f_gives σ b k l) := by unfold f_gives; split <;> omega
  have hsr : rg (f_sure σ b k) := by unfold f_sure; split; omega; split <;> omega
  refine MC.of (by decide) (Nat.le_of_ble_eq_true rfl) ?_
  show PW G mX3_asks (rmD (d + 6) 0 0) (MZ G Q nX 0 0) 0 0 I J P T z 0 [some (.ref g), some (iv a), some (iv b), some (iv k), some (iv l), none, none, none, none] []
  -- the end: the turn
  have fin2 : ∀ (I9 : HI) (σ9 μ9 : Int → Int) (c la st : Int), GF g I0 I9 → GR I9 g t (if σ9 6 = σ9 1 then us σ9 4 (-1) else σ9) μ9 → True := fun _ _ _ _ _ _ _ _ => trivial
  -- what comes behind the asking itself: laid down, settled
  have fin : ∀ (I9 : HI) (σ9 : Int → Int) (c e st : Int), GF g I0 I9 → GR I9 g t σ9 (f_tell a b k (f_gives σ b k l) c (-1) (f_lie σ b k l) (f_sure σ b k)) → CV σ9 → (0 ≤ e ∧ e < 13) → (∀ q i, 0 ≤ q → q < 6 → 0 ≤ i → i < 13 → ¬ (q = a ∧ i = e) → σ9 (60 + 13 * q + i) ≤ 3) → (st = 0 ∨ st = 1) → σ9 1 = σ 1 → (0 ≤ σ9 6 ∧ (0 < σ9 6 → σ9 7 = 0)) →
      (∀ I', GF g I0 I' → GR I' g t (f_end (f_books σ9 a e) (if st = 0 then (a + 1) % σ 1 else a)) (f_tell a b k (f_gives σ b k l) c (if 4 ≤ σ9 (60 + 13 * a + e) then e else -1) (f_lie σ b k l) (f_sure σ b k)) → Q (some (iv (f_gives σ b k l))) I' J P T z) →
      PW G mX3_asks (rmD (d + 6) 0 0) (MZ G Q nX 0 0) 0 0 I9 J P T z 203 [some (.ref g), some (iv a), some (iv b), some (iv k), some (iv l), some (iv (f_lie σ b k l)), some (iv (f_gives σ b k l)), some (iv st), none] [] := by
    intro I9 σ9 c e st hf9 hr9 hc9 he h39 hst e19 h69 hQ
    have hlt : ∀ i, 0 ≤ i → i < 13 → i ≠ e → σ9 (60 + 13 * a + i) < 4 := fun i x y w => by have := h39 a i ha6.1 ha6.2 x y (fun q => w q.2); omega
    refine r_aload_n (pc := 203) dX3_asks_203 rfl rfl ?_
    refine r_iload_n (pc := 204) dX3_asks_204 rfl rfl ?_
    refine r_callV1 (pc := 205) (C_books hs hf9 hr9 ha6 hc9 qg_i) im_X3_books qs3 q393 hs.o rfl dX3_asks_205 (Nat.le_of_ble_eq_true rfl) (Nat.le_of_ble_eq_true rfl) rfl (k_gv fun I8 hf8 hr8 => ?_) (fun _ _ _ _ _ _ _ hx => no_x hx)
    have e5 := l5_one (μ := f_tell a b k (f_gives σ b k l) c (-1) (f_lie σ b k l) (f_sure σ b k)) ha6 he 13 0 hc9 (by omega) (by omega) hlt rfl
    rw [bks_one ha6 he 13 0 hc9 (by omega) (by omega) hlt, if_pos (by omega)] at hr8
    obtain ⟨cb, rb⟩ := lay_ok hc9 ha6 he h39
    have hbk := hc9.books ha6 he
    have b1 := hbk.2.1 1 (by omega) (by omega)
    have b6 := hbk.2.1 6 (by omega) (by omega)
    have b7 := hbk.2.2.1
    generalize f_books σ9 a e = σ8 at hr8 cb rb b1 b6 b7 hQ
    have e5b : f_l5 σ9 (f_tell a b k (f_gives σ b k l) c (-1) (f_lie σ b k l) (f_sure σ b k)) a 0 13 5 = if 4 ≤ σ9 (60 + 13 * a + e) then e else -1 := by
      rw [e5]
      by_cases q : 4 ≤ σ9 (60 + 13 * a + e)
      · rw [if_pos q, if_pos (by omega)]
      · rw [if_neg q, if_neg (by omega)]
    have n5 : ∀ j, j ≠ 5 → f_l5 σ9 (f_tell a b k (f_gives σ b k l) c (-1) (f_lie σ b k l) (f_sure σ b k)) a 0 13 j = f_tell a b k (f_gives σ b k l) c (-1) (f_lie σ b k l) (f_sure σ b k) j := fun j hj => f_l5_n hj 13 0
    generalize f_l5 σ9 (f_tell a b k (f_gives σ b k l) c (-1) (f_lie σ b k l) (f_sure σ b k)) a 0 13 = μ8 at hr8 e5b n5
    generalize hla : (if 4 ≤ σ9 (60 + 13 * a + e) then e else -1) = la at e5b hQ
    have hlar : rg la := by rw [← hla]; split <;> omega
    refine r_aload_n (pc := 208) dX3_asks_208 rfl rfl ?_
    refine r_getr (pc := 209) (c := 3) (k := 17) (kz := 17) hs.o cok_3 (Nat.le_of_ble_eq_true rfl) q314 ⟨rfl, rfl⟩ (Or.inl rfl) rfl (fun _ _ _ => rfl) hs.p_latest dX3_asks_209 ?_
    refine r_iconst (pc := 212) dX3_asks_212 ?_
    refine r_iald (pc := 213) hs.t_latest (by omega) (by omega) dX3_asks_213 (fun hr213 => ?_)
    rw [hr8.latest (by omega) (by omega)] at hr213 ⊢
    rw [e5b]
    refine r_istore8 (pc := 214) (Nat.le_of_ble_eq_true rfl) dX3_asks_214 rfl ?_
    refine r_aload_n (pc := 216) dX3_asks_216 rfl rfl ?_
    refine r_iload (pc := 217) dX3_asks_217 rfl ?_
    -- settled
    have fin3 : ∀ (fr : Int), 0 ≤ fr → fr < σ 1 → (∀ I', GF g I0 I' → GR I' g t (f_end σ8 fr) (f_tell a b k (f_gives σ b k l) c la (f_lie σ b k l) (f_sure σ b k)) → Q (some (iv (f_gives σ b k l))) I' J P T z) → PW G mX3_asks (rmD (d + 6) 0 0) (MZ G Q nX 0 0) 0 0 I8 J P T z 237 [some (.ref g), some (iv a), some (iv b), some (iv k), some (iv l), some (iv (f_lie σ b k l)), some (iv (f_gives σ b k l)), some (iv st), some (iv la)] [iv fr, .ref g] := by
      intro fr hf0 hf1 hQ
      refine r_callV1 (pc := 237) (C_settle hs hf8 hr8 cb rb (Or.inr ⟨hf0, by omega⟩) (Q := fun v0 I' J' P' T' z' => v0 = none ∧ J' = J ∧ P' = P ∧ T' = T ∧ z' = z ∧ ∃ μ', GF g I0 I' ∧ GR I' g t (f_settles σ8 fr) μ' ∧ ∀ j, j ≠ 5 → μ' j = μ8 j) (fun I' μ' x y w => ⟨rfl, rfl, rfl, rfl, rfl, μ', x, y, w⟩)) im_X3_settle qs8 q419 hs.o rfl dX3_asks_237 (Nat.le_of_ble_eq_true rfl) (Nat.le_of_ble_eq_true rfl) rfl (?_) (fun _ _ _ _ _ _ _ hx => no_x hx)
      rintro v0 I7 J7 P7 T7 z7 ⟨rfl, rfl, rfl, rfl, rfl, μ7, hf7, hr7, n7⟩
      obtain ⟨s1, s2, s3, s4, s5⟩ := cb.settles (fr := fr) rb (by omega)
      have x1 := s4 1 (by omega) (by omega) (by omega)
      have x6 := s4 6 (by omega) (by omega) (by omega)
      unfold f_end at hQ
      refine r_aload_n (pc := 240) dX3_asks_240 rfl rfl ?_
      refine r_getr (pc := 241) (c := 3) (k := 17) (kz := 17) hs.o cok_3 (Nat.le_of_ble_eq_true rfl) q314 ⟨rfl, rfl⟩ (Or.inl rfl) rfl (fun _ _ _ => rfl) hs.p_latest dX3_asks_241 ?_
      refine r_iconst (pc := 244) dX3_asks_244 ?_
      refine r_iload (pc := 245) dX3_asks_245 rfl ?_
      refine r_iast (pc := 247) hs.t_latest (by omega) (by omega) (by omega) (by omega) dX3_asks_247 ?_
      refine g_latest_w hf7 hr7 (by omega) (by omega) fun Ig1 hfg1 hrg1 => ?_
      have hm : ∀ i, 0 ≤ i → i < 8 → f_tell a b k (f_gives σ b k l) c la (f_lie σ b k l) (f_sure σ b k) i = us μ7 5 la i := by
        intro i x y
        by_cases q : i = 5
        · subst q; rw [us_s]; rfl
        · rw [us_n q, n7 i q, n5 i q]; exact tell_5 q
      have hr6 := hrg1.mu hm
      have hf6 := hfg1
      refine r_aload_n (pc := 248) dX3_asks_248 rfl rfl ?_
      refine r_geti (pc := 249) (c := 3) (k := 16) (kz := 16) hs.o cok_3 (Nat.le_of_ble_eq_true rfl) q312 ⟨rfl, rfl⟩ (Or.inl rfl) rfl (fun _ _ _ => rfl) dX3_asks_249 (fun hr249 => ?_)
      rw [hr6.vain] at hr249 ⊢
      refine r_aload_n (pc := 252) dX3_asks_252 rfl rfl ?_
      refine r_getr (pc := 253) (c := 3) (k := 0) (kz := 0) hs.o cok_3 (Nat.le_of_ble_eq_true rfl) q259 ⟨rfl, rfl⟩ (Or.inl rfl) rfl (fun _ _ _ => rfl) hs.p_t dX3_asks_253 ?_
      refine r_callV0 (pc := 256) (C_many hs.tb fe_i) im_X2_many q369 q367 hs.tb.o rfl dX3_asks_256 (Nat.le_of_ble_eq_true rfl) (Nat.le_of_ble_eq_true rfl) rfl (k_fi ?_) (fun _ _ _ _ _ _ _ hx => no_x hx)
      rw [hr6.ta.2.1]
      refine r_icmp_ne (pc := 259) 267 dX3_asks_259 rfl (by omega) (by omega) (fun h259 => ?_) (fun h259 => ?_)
      · rw [if_neg (by omega)] at hQ
        refine r_iload (pc := 267) dX3_asks_267 rfl ?_
        refine r_ireturn (pc := 269) rfl rfl dX3_asks_269 (Nat.le_of_ble_eq_true rfl) (Nat.le_of_ble_eq_true rfl) ?_
        exact hQ _ hf6 hr6
      rw [if_pos (by omega)] at hQ
      refine r_aload_n (pc := 262) dX3_asks_262 rfl rfl ?_
      refine r_iconst (pc := 263) dX3_asks_263 ?_
      refine r_puti (pc := 264) (c := 3) (k := 14) (kz := 14) hs.o cok_3 (Nat.le_of_ble_eq_true rfl) q307 ⟨rfl, rfl⟩ (Or.inl rfl) rfl (by omega) rfl rfl (by omega) (fun _ _ _ => rfl) ⟨rfl, rfl⟩ dX3_asks_264 ?_
      refine g_turn_w hf6 hr6 fun Ig2 hfg2 hrg2 => ?_
      have e9 : us (f_settles σ8 fr) 4 (-1) = us σ8 4 (-1) := by
        funext j
        by_cases q : j = 4
        · subst q; rw [us_s, us_s]
        · rw [us_n q, us_n q]; exact s5 (by omega) j q
      rw [e9] at hrg2
      refine r_iload (pc := 267) dX3_asks_267 rfl ?_
      refine r_ireturn (pc := 269) rfl rfl dX3_asks_269 (Nat.le_of_ble_eq_true rfl) (Nat.le_of_ble_eq_true rfl) ?_
      exact hQ _ hfg2 hrg2
    refine r_if_eq (pc := 219) 226 dX3_asks_219 rfl (by omega) (fun h219 => ?_) (fun h219 => ?_)
    · rw [if_pos h219] at hQ
      refine r_iload_n (pc := 226) dX3_asks_226 rfl rfl ?_
      refine r_iconst (pc := 227) dX3_asks_227 ?_
      refine r_iadd (pc := 228) dX3_asks_228 ?_
      refine r_aload_n (pc := 229) dX3_asks_229 rfl rfl ?_
      refine r_getr (pc := 230) (c := 3) (k := 0) (kz := 0) hs.o cok_3 (Nat.le_of_ble_eq_true rfl) q259 ⟨rfl, rfl⟩ (Or.inl rfl) rfl (fun _ _ _ => rfl) hs.p_t dX3_asks_230 ?_
      refine r_callV0 (pc := 233) (C_many hs.tb fe_i) im_X2_many q369 q367 hs.tb.o rfl dX3_asks_233 (Nat.le_of_ble_eq_true rfl) (Nat.le_of_ble_eq_true rfl) rfl (k_fi ?_) (fun _ _ _ _ _ _ _ hx => no_x hx)
      rw [hr8.ta.2.1, show σ8 1 = σ 1 by omega]
      refine r_irem (pc := 236) dX3_asks_236 (by omega) (by omega) ?_
      exact fin3 _ (Int.emod_nonneg _ (by omega)) (Int.emod_lt_of_pos _ (by omega)) hQ
    rw [if_neg h219] at hQ
    refine r_iload_n (pc := 222) dX3_asks_222 rfl rfl ?_
    refine r_goto (pc := 223) 237 dX3_asks_223 rfl ?_
    exact fin3 a ha.1 ha.2 hQ
  -- behind what is told at first
  have mid : ∀ I1, GF g I0 I1 → GR I1 g t σ (f_tell a b k (f_gives σ b k l) (-1) (-1) (f_lie σ b k l) (f_sure σ b k)) → PW G mX3_asks (rmD (d + 6) 0 0) (MZ G Q nX 0 0) 0 0 I1 J P T z 138 [some (.ref g), some (iv a), some (iv b), some (iv k), some (iv l), some (iv (f_lie σ b k l)), some (iv (f_gives σ b k l)), none, none] [] := by
    intro I1 hf1 hr1
    refine r_aload_n (pc := 138) dX3_asks_138 rfl rfl ?_
    refine r_dup (pc := 139) dX3_asks_139 rfl ?_
    refine r_geti (pc := 140) (c := 3) (k := 15) (kz := 15) hs.o cok_3 (Nat.le_of_ble_eq_true rfl) q309 ⟨rfl, rfl⟩ (Or.inl rfl) rfl (fun _ _ _ => rfl) dX3_asks_140 (fun hr140 => ?_)
    rw [hr1.askings] at hr140 ⊢
    refine r_iconst (pc := 143) dX3_asks_143 ?_
    refine r_iadd (pc := 144) dX3_asks_144 ?_
    refine r_putiW (pc := 145) (c := 3) (k := 15) (kz := 15) hs.o cok_3 (Nat.le_of_ble_eq_true rfl) q309 ⟨rfl, rfl⟩ (Or.inl rfl) rfl (by omega) rfl rfl (fun _ _ _ => rfl) dX3_asks_145 ?_
    refine g_askings_w hf1 hr1 fun I2 hf2 hr2 => ?_
    refine r_aload_n (pc := 148) dX3_asks_148 rfl rfl ?_
    refine r_getr (pc := 149) (c := 3) (k := 6) (kz := 6) hs.o cok_3 (Nat.le_of_ble_eq_true rfl) q284 ⟨rfl, rfl⟩ (Or.inl rfl) rfl (fun _ _ _ => rfl) hs.p_asks dX3_asks_149 ?_
    refine r_iload_n (pc := 152) dX3_asks_152 rfl rfl ?_
    refine r_dup2 (pc := 153) dX3_asks_153 rfl rfl ?_
    refine r_iald (pc := 154) hs.t_asks (by omega) (by omega) dX3_asks_154 (fun hr154 => ?_)
    rw [hr2.asks (by omega) (by omega)] at hr154 ⊢
    rw [us_n (by omega)] at hr154 ⊢
    refine r_iconst (pc := 155) dX3_asks_155 ?_
    refine r_iadd (pc := 156) dX3_asks_156 ?_
    refine r_iastW (pc := 157) hs.t_asks (by omega) (by omega) (by omega) dX3_asks_157 ?_
    refine g_asks_w hf2 hr2 (by omega) (by omega) fun Ig3 hfg3 hrg3 => ?_
    have e1 : us (us σ 5 (wr (σ 5 + 1))) (553 + a) (wr (σ (553 + a) + 1)) = f_ask1 σ a := rfl
    rw [e1] at hrg3
    have c1 : CV (f_ask1 σ a) := (hw.cv.usc (by omega)).usc (by omega)
    have n1 : ∀ j, j ≠ 5 → j ≠ 553 + a → f_ask1 σ a j = σ j := fun j p q => by unfold f_ask1; rw [us_n q, us_n p]
    have kn := c1.kn ha6.1 ha6.2 hk13.1 hk13.2
    refine r_aload_n (pc := 158) dX3_asks_158 rfl rfl ?_
    refine r_iload_n (pc := 159) dX3_asks_159 rfl rfl ?_
    refine r_iload_n (pc := 160) dX3_asks_160 rfl rfl ?_
    refine r_iconst (pc := 161) dX3_asks_161 ?_
    refine r_callV3 (pc := 162) (C_learnUpTo hs hfg3 hrg3 ha6 hk13 (by omega) c1.rg qg_i) im_X3_learnUpTo qs4 q397 hs.o rfl dX3_asks_162 (Nat.le_of_ble_eq_true rfl) (Nat.le_of_ble_eq_true rfl) rfl (k_gv fun I3 hf3 hr3 => ?_) (fun _ _ _ _ _ _ _ hx => no_x hx)
    have e2 : f_lr (f_ask1 σ a) a k (1 - f_ask1 σ a (151 + 13 * a + k)).toNat = f_ask0 σ a k := by
      unfold f_ask0
      by_cases q : f_ask1 σ a (151 + 13 * a + k) = 0
      · rw [if_pos q, q]; rfl
      · rw [if_neg q, show (1 - f_ask1 σ a (151 + 13 * a + k)).toNat = 0 by omega]; rfl
    rw [e2] at hr3
    obtain ⟨c0, r0, n0, -⟩ := ask0_ok hw ho
    have t1 := n0 1 (by omega)
    have t6 := n0 6 (by omega)
    refine r_iload (pc := 165) dX3_asks_165 rfl ?_
    unfold f_asks at hQ
    refine r_if_le (pc := 167) 174 dX3_asks_167 rfl (by omega) (fun h167 => ?_) (fun h167 => ?_)
    · refine r_iconst (pc := 174) dX3_asks_174 ?_
      refine r_istore7 (pc := 175) (Nat.le_of_ble_eq_true rfl) dX3_asks_175 rfl ?_
      refine r_iload (pc := 177) dX3_asks_177 rfl ?_
      rw [if_neg (show ¬ 0 < f_gives σ b k l by omega)] at hQ
      obtain ⟨d1, d2, d3, d4, d5⟩ := ask_n hw ho
      have v1 := d3 1 (by omega) (by omega)
      have v7 := d5 7 (by omega) (by omega)
      have h6w := hw.2.2.2
      refine r_if_le (pc := 179) 194 dX3_asks_179 rfl (by omega) (fun h179 => ?_) (fun h179 => ?_)
      · refine r_aload_n (pc := 194) dX3_asks_194 rfl rfl ?_
        refine r_iload_n (pc := 195) dX3_asks_195 rfl rfl ?_
        refine r_iload_n (pc := 196) dX3_asks_196 rfl rfl ?_
        refine r_iload_n (pc := 197) dX3_asks_197 rfl rfl ?_
        refine r_callV3 (pc := 198) (C_says hs hf3 hr3 (a := a) (b := b) (k := k) (by omega) hb6 hk13 c0 (Q := fun v0 I' J' P' T' z' => J' = J ∧ P' = P ∧ T' = T ∧ z' = z ∧ GF g I0 I' ∧ ((¬ 0 < f_no1 (f_ask0 σ a k) b k 7 ∧ v0 = some (iv 0) ∧ GR I' g t (f_no1 (f_ask0 σ a k) b k) (f_tell a b k (f_gives σ b k l) (-1) (-1) (f_lie σ b k l) (f_sure σ b k))) ∨ (0 < f_no1 (f_ask0 σ a k) b k 7 ∧ v0 = some (iv (bz (f_no1 (f_ask0 σ a k) b k 2 = 1 ∧ f_no1 (f_ask0 σ a k) b k 8 = k))) ∧ GR I' g t (f_no2 (us (f_no1 (f_ask0 σ a k) b k) 6 0) a k) (us (f_tell a b k (f_gives σ b k l) (-1) (-1) (f_lie σ b k l) (f_sure σ b k)) 4 (f_no1 (f_ask0 σ a k) b k 8))))) (fun q I' x y => ⟨rfl, rfl, rfl, rfl, x, Or.inl ⟨q, rfl, y⟩⟩) (fun q I' x y => ⟨rfl, rfl, rfl, rfl, x, Or.inr ⟨q, rfl, y⟩⟩)) im_X3_says qs29 q1286 hs.o rfl dX3_asks_198 (Nat.le_of_ble_eq_true rfl) (Nat.le_of_ble_eq_true rfl) rfl (?_) (fun _ _ _ _ _ _ _ hx => no_x hx)
        rintro v0 I4 J4 P4 T4 z4 ⟨rfl, rfl, rfl, rfl, hf4, (⟨q7, rfl, hr4⟩ | ⟨q7, rfl, hr4⟩)⟩
        · rw [if_neg q7] at hQ
          refine r_istore7 (pc := 201) (Nat.le_of_ble_eq_true rfl) dX3_asks_201 rfl ?_
          have z7 := d1.hp.1
          exact fin I4 _ (-1) k 0 hf4 hr4 d1 hk13 (fun p i x y u w _ => d2 p i x y u w) (Or.inl rfl) (by omega) (by omega) (fun I' x y => hQ I' x (by
            rw [f_books_lt (by have := d2 a k ha6.1 ha6.2 hk13.1 hk13.2; omega), if_neg (show ¬ 4 ≤ f_no1 (f_ask0 σ a k) b k (60 + 13 * a + k) by have := d2 a k ha6.1 ha6.2 hk13.1 hk13.2; omega), if_pos rfl] at y
            exact y))
        · rw [if_pos q7] at hQ
          refine r_istore7 (pc := 201) (Nat.le_of_ble_eq_true rfl) dX3_asks_201 rfl ?_
          have c3 : CV (us (f_no1 (f_ask0 σ a k) b k) 6 0) := d1.usc (by omega)
          have r3 : R3 (us (f_no1 (f_ask0 σ a k) b k) 6 0) := d2.usc (by omega)
          have z1 : us (f_no1 (f_ask0 σ a k) b k) 6 0 1 = f_no1 (f_ask0 σ a k) b k 1 := us_n (by omega)
          have z7 : us (f_no1 (f_ask0 σ a k) b k) 6 0 7 = f_no1 (f_ask0 σ a k) b k 7 := us_n (by omega)
          have z8 : us (f_no1 (f_ask0 σ a k) b k) 6 0 8 = f_no1 (f_ask0 σ a k) b k 8 := us_n (by omega)
          have z2 : us (f_no1 (f_ask0 σ a k) b k) 6 0 2 = f_no1 (f_ask0 σ a k) b k 2 := us_n (by omega)
          have z6 : us (f_no1 (f_ask0 σ a k) b k) 6 0 6 = 0 := us_s
          obtain ⟨g1, g2, g3, g4⟩ := ask_d (k := k) c3 r3 (a := a) (by omega) (by omega)
          have w1 := g3 1 (by omega) (by omega)
          have w6 := g3 6 (by omega) (by omega)
          rw [z8] at g2 g4
          simp only [z8, z2] at hQ
          have hbz := bz_r (p := f_no1 (f_ask0 σ a k) b k 2 = 1 ∧ f_no1 (f_ask0 σ a k) b k 8 = k)
          refine fin I4 _ (f_no1 (f_ask0 σ a k) b k 8) (f_no1 (f_ask0 σ a k) b k 8) _ hf4 (hr4.mu (fun i _ _ => tell_4)) g1 g4 g2 (by omega) (by omega) (by omega) (fun I' x y => hQ I' x ?_)
          have e8 : (if bz (f_no1 (f_ask0 σ a k) b k 2 = 1 ∧ f_no1 (f_ask0 σ a k) b k 8 = k) = 0 then (a + 1) % σ 1 else a) = (if f_no1 (f_ask0 σ a k) b k 2 = 1 ∧ f_no1 (f_ask0 σ a k) b k 8 = k then a else (a + 1) % σ 1) := by
            by_cases q : f_no1 (f_ask0 σ a k) b k 2 = 1 ∧ f_no1 (f_ask0 σ a k) b k 8 = k
            · rw [if_pos q, bz_t q]; rfl
            · rw [if_neg q, bz_f q]; rfl
          rw [e8] at y
          exact y
      omega
    rw [if_pos h167] at hQ
    obtain ⟨d1, d2, d3, d4, d5⟩ := ask_g hw ho h167
    have v1 := d3 1 (by omega) (by omega)
    obtain ⟨eg, -⟩ := gives_pos h167
    refine r_iconst (pc := 170) dX3_asks_170 ?_
    refine r_goto (pc := 171) 175 dX3_asks_171 rfl ?_
    refine r_istore7 (pc := 175) (Nat.le_of_ble_eq_true rfl) dX3_asks_175 rfl ?_
    refine r_iload (pc := 177) dX3_asks_177 rfl ?_
    refine r_if_le (pc := 179) 194 dX3_asks_179 rfl (by omega) (fun h179 => ?_) (fun h179 => ?_)
    · omega
    refine r_aload_n (pc := 182) dX3_asks_182 rfl rfl ?_
    refine r_iload_n (pc := 183) dX3_asks_183 rfl rfl ?_
    refine r_iload_n (pc := 184) dX3_asks_184 rfl rfl ?_
    refine r_iload_n (pc := 185) dX3_asks_185 rfl rfl ?_
    refine r_iload (pc := 186) dX3_asks_186 rfl ?_
    refine r_callV4 (pc := 188) (C_gives hs hf3 hr3 ha6 hb6 hab hk13 c0 (by rw [eg, n0 _ (by omega)]) qg_i) im_X3_gives qs27 q1278 hs.o rfl dX3_asks_188 (Nat.le_of_ble_eq_true rfl) (Nat.le_of_ble_eq_true rfl) rfl (k_gv fun I4 hf4 hr4 => ?_) (fun _ _ _ _ _ _ _ hx => no_x hx)
    refine r_goto (pc := 191) 203 dX3_asks_191 rfl ?_
    exact fin I4 _ (-1) k 1 hf4 hr4 d1 hk13 d2 (Or.inr rfl) (by omega) (by omega) (fun I' x y => hQ I' x (by rw [if_neg (by omega)] at y; exact y))
  -- what is told at first
  have tel : PW G mX3_asks (rmD (d + 6) 0 0) (MZ G Q nX 0 0) 0 0 I J P T z 42 [some (.ref g), some (iv a), some (iv b), some (iv k), some (iv l), some (iv (f_lie σ b k l)), some (iv (f_gives σ b k l)), none, none] [] := by
    refine r_aload_n (pc := 42) dX3_asks_42 rfl rfl ?_
    refine r_getr (pc := 43) (c := 3) (k := 17) (kz := 17) hs.o cok_3 (Nat.le_of_ble_eq_true rfl) q314 ⟨rfl, rfl⟩ (Or.inl rfl) rfl (fun _ _ _ => rfl) hs.p_latest dX3_asks_43 ?_
    refine r_iconst (pc := 46) dX3_asks_46 ?_
    refine r_iload_n (pc := 47) dX3_asks_47 rfl rfl ?_
    refine r_iast (pc := 48) hs.t_latest (by omega) (by omega) (by omega) (by omega) dX3_asks_48 ?_
    refine g_latest_w hf hr (by omega) (by omega) fun Ig4 hfg4 hrg4 => ?_
    refine r_aload_n (pc := 49) dX3_asks_49 rfl rfl ?_
    refine r_getr (pc := 50) (c := 3) (k := 17) (kz := 17) hs.o cok_3 (Nat.le_of_ble_eq_true rfl) q314 ⟨rfl, rfl⟩ (Or.inl rfl) rfl (fun _ _ _ => rfl) hs.p_latest dX3_asks_50 ?_
    refine r_iconst (pc := 53) dX3_asks_53 ?_
    refine r_iload_n (pc := 54) dX3_asks_54 rfl rfl ?_
    refine r_iast (pc := 55) hs.t_latest (by omega) (by omega) (by omega) (by omega) dX3_asks_55 ?_
    refine g_latest_w hfg4 hrg4 (by omega) (by omega) fun Ig5 hfg5 hrg5 => ?_
    refine r_aload_n (pc := 56) dX3_asks_56 rfl rfl ?_
    refine r_getr (pc := 57) (c := 3) (k := 17) (kz := 17) hs.o cok_3 (Nat.le_of_ble_eq_true rfl) q314 ⟨rfl, rfl⟩ (Or.inl rfl) rfl (fun _ _ _ => rfl) hs.p_latest dX3_asks_57 ?_
    refine r_iconst (pc := 60) dX3_asks_60 ?_
    refine r_iload_n (pc := 61) dX3_asks_61 rfl rfl ?_
    refine r_iast (pc := 62) hs.t_latest (by omega) (by omega) (by omega) (by omega) dX3_asks_62 ?_
    refine g_latest_w hfg5 hrg5 (by omega) (by omega) fun Ig6 hfg6 hrg6 => ?_
    refine r_aload_n (pc := 63) dX3_asks_63 rfl rfl ?_
    refine r_getr (pc := 64) (c := 3) (k := 17) (kz := 17) hs.o cok_3 (Nat.le_of_ble_eq_true rfl) q314 ⟨rfl, rfl⟩ (Or.inl rfl) rfl (fun _ _ _ => rfl) hs.p_latest dX3_asks_64 ?_
    refine r_iconst (pc := 67) dX3_asks_67 ?_
    refine r_iload (pc := 68) dX3_asks_68 rfl ?_
    refine r_iast (pc := 70) hs.t_latest (by omega) (by omega) (by omega) (by omega) dX3_asks_70 ?_
    refine g_latest_w hfg6 hrg6 (by omega) (by omega) fun Ig7 hfg7 hrg7 => ?_
    refine r_aload_n (pc := 71) dX3_asks_71 rfl rfl ?_
    refine r_getr (pc := 72) (c := 3) (k := 17) (kz := 17) hs.o cok_3 (Nat.le_of_ble_eq_true rfl) q314 ⟨rfl, rfl⟩ (Or.inl rfl) rfl (fun _ _ _ => rfl) hs.p_latest dX3_asks_72 ?_
    refine r_iconst (pc := 75) dX3_asks_75 ?_
    refine r_iconst (pc := 76) dX3_asks_76 ?_
    refine r_iast (pc := 77) hs.t_latest (by omega) (by omega) (by omega) (by omega) dX3_asks_77 ?_
    refine g_latest_w hfg7 hrg7 (by omega) (by omega) fun Ig8 hfg8 hrg8 => ?_
    refine r_aload_n (pc := 78) dX3_asks_78 rfl rfl ?_
    refine r_getr (pc := 79) (c := 3) (k := 17) (kz := 17) hs.o cok_3 (Nat.le_of_ble_eq_true rfl) q314 ⟨rfl, rfl⟩ (Or.inl rfl) rfl (fun _ _ _ => rfl) hs.p_latest dX3_asks_79 ?_
    refine r_iconst (pc := 82) dX3_asks_82 ?_
    refine r_iconst (pc := 83) dX3_asks_83 ?_
    refine r_iast (pc := 84) hs.t_latest (by omega) (by omega) (by omega) (by omega) dX3_asks_84 ?_
    refine g_latest_w hfg8 hrg8 (by omega) (by omega) fun Ig9 hfg9 hrg9 => ?_
    refine r_aload_n (pc := 85) dX3_asks_85 rfl rfl ?_
    refine r_getr (pc := 86) (c := 3) (k := 17) (kz := 17) hs.o cok_3 (Nat.le_of_ble_eq_true rfl) q314 ⟨rfl, rfl⟩ (Or.inl rfl) rfl (fun _ _ _ => rfl) hs.p_latest dX3_asks_86 ?_
    refine r_bipush (pc := 89) dX3_asks_89 (by decide +kernel) ?_
    refine r_iload (pc := 91) dX3_asks_91 rfl ?_
    have t7 : ∀ (I5 : HI) (μ5 : Int → Int), GF g I0 I5 → GR I5 g t σ μ5 → (∀ i, 0 ≤ i → i < 8 → f_tell a b k (f_gives σ b k l) (-1) (-1) (f_lie σ b k l) (f_sure σ b k) i = us μ5 7 (f_sure σ b k) i) → PW G mX3_asks (rmD (d + 6) 0 0) (MZ G Q nX 0 0) 0 0 I5 J P T z 102 [some (.ref g), some (iv a), some (iv b), some (iv k), some (iv l), some (iv (f_lie σ b k l)), some (iv (f_gives σ b k l)), none, none] [] := by
      intro I5 μ5 hf5 hr5 hm
      refine r_aload_n (pc := 102) dX3_asks_102 rfl rfl ?_
      refine r_getr (pc := 103) (c := 3) (k := 17) (kz := 17) hs.o cok_3 (Nat.le_of_ble_eq_true rfl) q314 ⟨rfl, rfl⟩ (Or.inl rfl) rfl (fun _ _ _ => rfl) hs.p_latest dX3_asks_103 ?_
      refine r_bipush (pc := 106) dX3_asks_106 (by decide +kernel) ?_
      refine r_aload_n (pc := 108) dX3_asks_108 rfl rfl ?_
      refine r_getr (pc := 109) (c := 3) (k := 2) (kz := 2) hs.o cok_3 (Nat.le_of_ble_eq_true rfl) q274 ⟨rfl, rfl⟩ (Or.inl rfl) rfl (fun _ _ _ => rfl) hs.p_known dX3_asks_109 ?_
      refine r_iload_n (pc := 112) dX3_asks_112 rfl rfl ?_
      refine r_aald (pc := 113) hs.t_known ⟨by decide, by decide⟩ rfl (fun _ _ _ => rfl) (by omega) (by omega) (hs.q_known (by omega) (by omega)) dX3_asks_113 ?_
      refine r_iload_n (pc := 114) dX3_asks_114 rfl rfl ?_
      refine r_iald (pc := 115) (hs.u_known (by omega) (by omega)) (by omega) (by omega) dX3_asks_115 (fun hr115 => ?_)
      rw [hr5.known (by omega) (by omega) (by omega) (by omega)] at hr115 ⊢
      refine r_if_le (pc := 116) 123 dX3_asks_116 rfl (by omega) (fun h116 => ?_) (fun h116 => ?_)
      · have es : f_sure σ b k = if f_can σ b k = σ (229 + b) then 0 else 1 := by unfold f_sure; rw [if_neg (by omega)]
        refine r_aload_n (pc := 123) dX3_asks_123 rfl rfl ?_
        refine r_iload_n (pc := 124) dX3_asks_124 rfl rfl ?_
        refine r_iload_n (pc := 125) dX3_asks_125 rfl rfl ?_
        refine r_callV2 (pc := 126) (C_can hs hr5 hb6 hk13 (by omega) fe_i) im_X3_can q1276 q1274 hs.o rfl dX3_asks_126 (Nat.le_of_ble_eq_true rfl) (Nat.le_of_ble_eq_true rfl) rfl (k_fi ?_) (fun _ _ _ _ _ _ _ hx => no_x hx)
        have hcp := can_pos (σ := σ) (p := b) (k := k) hcb.2.2.2.1
        have hcr := sm_bd (f := fun j => bz (¬ tb (σ (235 + 52 * b + j)) k)) (a := 0) (b := 1) (n := (σ (229 + b)).toNat) (fun i _ _ => bz_r)
        refine r_if_le (pc := 129) 136 dX3_asks_129 rfl (by omega) (fun h129 => ?_) (fun h129 => ?_)
        · rw [if_pos (Decidable.of_not_not (fun q => by have := hcp.mpr q; omega))] at es
          refine r_iconst (pc := 136) dX3_asks_136 ?_
          refine r_iast (pc := 137) hs.t_latest (by omega) (by omega) (by omega) (by omega) dX3_asks_137 ?_
          refine g_latest_w hf5 hr5 (by omega) (by omega) fun Ig10 hfg10 hrg10 => ?_
          rw [es] at hm
          exact mid _ hfg10 (hrg10.mu (fun i x y => by rw [es]; exact hm i x y))
        rw [if_neg (hcp.mp h129)] at es
        refine r_iconst (pc := 132) dX3_asks_132 ?_
        refine r_goto (pc := 133) 137 dX3_asks_133 rfl ?_
        refine r_iast (pc := 137) hs.t_latest (by omega) (by omega) (by omega) (by omega) dX3_asks_137 ?_
        refine g_latest_w hf5 hr5 (by omega) (by omega) fun Ig11 hfg11 hrg11 => ?_
        rw [es] at hm
        exact mid _ hfg11 (hrg11.mu (fun i x y => by rw [es]; exact hm i x y))
      have es : f_sure σ b k = 2 := by unfold f_sure; rw [if_pos h116]
      refine r_iconst (pc := 119) dX3_asks_119 ?_
      refine r_goto (pc := 120) 137 dX3_asks_120 rfl ?_
      refine r_iast (pc := 137) hs.t_latest (by omega) (by omega) (by omega) (by omega) dX3_asks_137 ?_
      refine g_latest_w hf5 hr5 (by omega) (by omega) fun Ig12 hfg12 hrg12 => ?_
      rw [es] at hm
      exact mid _ hfg12 (hrg12.mu (fun i x y => by rw [es]; exact hm i x y))
    refine r_if_eq (pc := 93) 100 dX3_asks_93 rfl (by omega) (fun h93 => ?_) (fun h93 => ?_)
    · refine r_iconst (pc := 100) dX3_asks_100 ?_
      refine r_iast (pc := 101) hs.t_latest (by omega) (by omega) (by omega) (by omega) dX3_asks_101 ?_
      refine g_latest_w hfg9 hrg9 (by omega) (by omega) fun Ig13 hfg13 hrg13 => ?_
      exact t7 _ _ hfg13 hrg13 (fun i x y => by rw [h93]; exact tell_0 x y)
    refine r_iconst (pc := 96) dX3_asks_96 ?_
    refine r_goto (pc := 97) 101 dX3_asks_97 rfl ?_
    refine r_iast (pc := 101) hs.t_latest (by omega) (by omega) (by omega) (by omega) dX3_asks_101 ?_
    refine g_latest_w hfg9 hrg9 (by omega) (by omega) fun Ig14 hfg14 hrg14 => ?_
    exact t7 _ _ hfg14 hrg14 (fun i x y => by rw [show f_lie σ b k l = 1 by omega]; exact tell_0 x y)
  refine r_iload (pc := 0) dX3_asks_0 rfl ?_
  have l5 : ∀ (li : Int), li = f_lie σ b k l → PW G mX3_asks (rmD (d + 6) 0 0) (MZ G Q nX 0 0) 0 0 I J P T z 21 [some (.ref g), some (iv a), some (iv b), some (iv k), some (iv l), none, none, none, none] [iv li] := by
    intro li hli
    subst hli
    refine r_istore5 (pc := 21) (Nat.le_of_ble_eq_true rfl) dX3_asks_21 rfl ?_
    refine r_iload (pc := 23) dX3_asks_23 rfl ?_
    refine r_if_eq (pc := 25) 32 dX3_asks_25 rfl (by omega) (fun h25 => ?_) (fun h25 => ?_)
    · have eg : f_gives σ b k l = σ (60 + 13 * b + k) := by unfold f_gives; rw [if_neg (by omega)]
      rw [eg] at tel
      refine r_aload_n (pc := 32) dX3_asks_32 rfl rfl ?_
      refine r_getr (pc := 33) (c := 3) (k := 1) (kz := 1) hs.o cok_3 (Nat.le_of_ble_eq_true rfl) q264 ⟨rfl, rfl⟩ (Or.inl rfl) rfl (fun _ _ _ => rfl) hs.p_hand dX3_asks_33 ?_
      refine r_iload_n (pc := 36) dX3_asks_36 rfl rfl ?_
      refine r_aald (pc := 37) hs.t_hand ⟨by decide, by decide⟩ rfl (fun _ _ _ => rfl) (by omega) (by omega) (hs.q_hand (by omega) (by omega)) dX3_asks_37 ?_
      refine r_iload_n (pc := 38) dX3_asks_38 rfl rfl ?_
      refine r_iald (pc := 39) (hs.u_hand (by omega) (by omega)) (by omega) (by omega) dX3_asks_39 (fun hr39 => ?_)
      rw [hr.hand (by omega) (by omega) (by omega) (by omega)] at hr39 ⊢
      refine r_istore6 (pc := 40) (Nat.le_of_ble_eq_true rfl) dX3_asks_40 rfl ?_
      exact tel
    have eg : f_gives σ b k l = 0 := by unfold f_gives; rw [if_pos (by omega)]
    rw [eg] at tel
    refine r_iconst (pc := 28) dX3_asks_28 ?_
    refine r_goto (pc := 29) 40 dX3_asks_29 rfl ?_
    refine r_istore6 (pc := 40) (Nat.le_of_ble_eq_true rfl) dX3_asks_40 rfl ?_
    exact tel
  have elie : f_lie σ b k l = bz (0 < σ (60 + 13 * b + k) ∧ l = 1) := rfl
  refine r_if_eq (pc := 2) 20 dX3_asks_2 rfl (by omega) (fun h2 => ?_) (fun h2 => ?_)
  · refine r_iconst (pc := 20) dX3_asks_20 ?_
    exact l5 0 (by rw [elie, bz_f (by omega)])
  refine r_aload_n (pc := 5) dX3_asks_5 rfl rfl ?_
  refine r_getr (pc := 6) (c := 3) (k := 1) (kz := 1) hs.o cok_3 (Nat.le_of_ble_eq_true rfl) q264 ⟨rfl, rfl⟩ (Or.inl rfl) rfl (fun _ _ _ => rfl) hs.p_hand dX3_asks_6 ?_
  refine r_iload_n (pc := 9) dX3_asks_9 rfl rfl ?_
  refine r_aald (pc := 10) hs.t_hand ⟨by decide, by decide⟩ rfl (fun _ _ _ => rfl) (by omega) (by omega) (hs.q_hand (by omega) (by omega)) dX3_asks_10 ?_
  refine r_iload_n (pc := 11) dX3_asks_11 rfl rfl ?_
  refine r_iald (pc := 12) (hs.u_hand (by omega) (by omega)) (by omega) (by omega) dX3_asks_12 (fun hr12 => ?_)
  rw [hr.hand (by omega) (by omega) (by omega) (by omega)] at hr12 ⊢
  refine r_if_le (pc := 13) 20 dX3_asks_13 rfl (by omega) (fun h13 => ?_) (fun h13 => ?_)
  · refine r_iconst (pc := 20) dX3_asks_20 ?_
    exact l5 0 (by rw [elie, bz_f (by omega)])
  refine r_iconst (pc := 16) dX3_asks_16 ?_
  refine r_goto (pc := 17) 21 dX3_asks_17 rfl ?_
  exact l5 1 (by rw [elie, bz_t (by omega)])
end K4
