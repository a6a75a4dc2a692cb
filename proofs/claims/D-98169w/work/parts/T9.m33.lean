/-! ===== the model: what is said of a kind ===== -/
/-- how many truths there are; none: too few -/
def dpt : List CD → Nat → Option Nat
  | [], n => some n
  | c :: L, n => if c.1 = 10 then (if 1 ≤ n then dpt L n else none) else if c.1 = 11 ∨ c.1 = 12 then (if 2 ≤ n then dpt L (n - 1) else none) else dpt L (n + 1)
section M33p
variable {σ : Int → Int} {k : Int} {I : HI} {P : HP} {T : HT} {lo hi : Nat}
theorem dpt_app : ∀ (L M : List CD) (n n' : Nat), dpt L n = some n' → dpt (L ++ M) n = dpt M n'
  | [], M, n, n', h => by cases h; rfl
  | c :: L, M, n, n', h => by
    have ih := fun n0 h0 => dpt_app L M n0 n' h0
    generalize dpt M n' = X at *
    show dpt (c :: (L ++ M)) n = X
    unfold dpt at h ⊢
    by_cases c1 : c.1 = 10
    · rw [if_pos c1] at h ⊢
      by_cases q : 1 ≤ n
      · rw [if_pos q] at h ⊢; exact ih _ h
      · rw [if_neg q] at h; cases h
    · rw [if_neg c1] at h ⊢
      by_cases c2 : c.1 = 11 ∨ c.1 = 12
      · rw [if_pos c2] at h ⊢
        by_cases q : 2 ≤ n
        · rw [if_pos q] at h ⊢; exact ih _ h
        · rw [if_neg q] at h; cases h
      · rw [if_neg c2] at h ⊢; exact ih _ h
theorem dpt_lf {c : CD} (h : c.1 < 10) (n : Nat) : dpt [c] n = some (n + 1) := by
  unfold dpt
  rw [if_neg (by omega), if_neg (by omega)]
  rfl
theorem CT.dp : ∀ (n : Nat) {c : Nat} {L : List CD}, CT I P T lo hi n c L → ∀ m, dpt L m = some (m + 1) := by
  intro n
  induction n with
  | zero => intro c L h; exact h.elim
  | succ n ih =>
    intro c L h m
    rcases h.2 with ⟨-, rfl⟩ | ⟨-, p, a, -, ha, -, -, rfl⟩ | ⟨-, w, sg, q, hw, -, -, -, -, -, rfl⟩ | ⟨-, c', L', -, hu, rfl⟩ | ⟨-, a, b, La, Lb, e, -, -, -, he, h1, h2, rfl⟩
    · exact dpt_lf (by decide) m
    · exact dpt_lf (by show 2 - a < 10; omega) m
    · exact dpt_lf (by show 3 + w < 10; omega) m
    · rw [dpt_app _ _ _ _ (ih hu m)]
      unfold dpt
      rw [if_pos rfl, if_pos (by omega)]
      rfl
    · rw [dpt_app _ _ _ (m + 1 + 1) (by rw [dpt_app _ _ _ _ (ih h1 m)]; exact ih h2 (m + 1))]
      unfold dpt
      rw [if_neg (by show ¬ 12 - e = 10; omega), if_pos (by show 12 - e = 11 ∨ 12 - e = 12; omega), if_pos (by omega)]
      rfl
theorem smz6 {f : Int → Int} {n : Nat} (hn : n ≤ 6) (h : ∀ i : Int, (n : Int) ≤ i → i < 6 → f i = 0) : sm f n = sm f 6 := by
  have key : ∀ k : Nat, n + k ≤ 6 → sm f (n + k) = sm f n := by
    intro k
    induction k with
    | zero => intro _; rfl
    | succ k ih =>
      intro hk
      show sm f (n + k) + f ((n + k : Nat) : Int) = _
      rw [ih (by omega), h _ (by omega) (by omega)]
      omega
  have := key (6 - n) (by omega)
  rw [show n + (6 - n) = 6 by omega] at this
  exact this.symm
theorem inH6 (hw : WF σ) (hk : 0 ≤ k ∧ k < 13) : f_inHands σ k = sm (fun q => σ (60 + 13 * q + k)) 6 := by
  have ht := hw.cv.ta
  exact smz6 (by omega) (fun i p q => hw.cv.2.2.2.2.2.2.2.1 i k (by omega) q hk.1 hk.2 (by omega))
theorem mx6 (hw : WF σ) (hk : 0 ≤ k ∧ k < 13) : mx σ k (σ 1).toNat = mx σ k 6 := by
  have ht := hw.cv.ta
  have h4 : ∀ q : Int, 0 ≤ q → q < 6 → 0 ≤ σ (60 + 13 * q + k) ∧ σ (60 + 13 * q + k) ≤ 4 := fun q a b => hw.cv.h4 a b hk.1 hk.2
  have key : ∀ j : Nat, (σ 1).toNat + j ≤ 6 → mx σ k ((σ 1).toNat + j) = mx σ k (σ 1).toNat := by
    intro j
    induction j with
    | zero => intro _; rfl
    | succ j ih =>
      intro hj
      have z := hw.cv.2.2.2.2.2.2.2.1 (((σ 1).toNat + j : Nat) : Int) k (by omega) (by omega) hk.1 hk.2 (by omega)
      have r := mx_r (σ := σ) (k := k) h4 ((σ 1).toNat + j) (by omega)
      show (if mx σ k ((σ 1).toNat + j) < σ (60 + 13 * (((σ 1).toNat + j : Nat) : Int) + k) then _ else _) = _
      rw [if_neg (by omega)]
      exact ih (by omega)
  have := key (6 - (σ 1).toNat) (by omega)
  rw [show (σ 1).toNat + (6 - (σ 1).toNat) = 6 by omega] at this
  exact this.symm
theorem f_sd_n {L : List CD} {q : Int} (h : q < -1) : ∀ (m : Nat) (c n : Int), 0 ≤ n → f_sd σ L q m c n = -1 := by
  intro m
  induction m with
  | zero => intro c n _; exact if_neg (by omega)
  | succ m ih =>
    intro c n hn
    unfold f_sd
    split
    · exact ih _ _ hn
    · rw [if_neg (by omega)]
      exact ih _ _ (by omega)
end M33p
section M33
variable {G : GE} {I J : HI} {P : HP} {T : HT} {z : Nat} {m d : Nat} {Q : QT} {σ u ω : Int → Int} {k : Int} {L : List CD}
theorem M_isLeaf (hs : shM G P T m) (hw : WF σ) (hk : 0 ≤ k ∧ k < 13) {c : CD} (hc : okC 6 c) (hc9 : c.1 < 10) (hQ : Q (some (iv (lfv σ k c))) (ur I (m + 2) σ) J P T z) : MC G yX11_isLeaf (ws_ yX11_isLeaf cX11_isLeaf 8 (some FieldType.boolean)) (d + 2) 0 0 [.ref m, iv k, iv c.1, iv c.2.1, iv c.2.2] (ur I (m + 2) σ) J P T z Q nX := by
  have hb := hs.b
  have ht := hw.cv.ta
  have h7 := hw.cv.rg.h7
  obtain ⟨wh, sg, nn⟩ := c
  dsimp only at hc9
  have hc' : (wh = 0 ∧ sg = 0 ∧ nn = 0) ∨ ((wh = 1 ∨ wh = 2) ∧ sg = 0 ∧ 0 ≤ nn ∧ nn < 6) ∨ ((3 ≤ wh ∧ wh ≤ 6) ∧ 60 ≤ sg ∧ sg ≤ 62 ∧ 0 ≤ nn ∧ nn ≤ 999) := by
    rcases hc with q | q | q | q
    · exact Or.inl q
    · exact Or.inr (Or.inl q)
    · exact Or.inr (Or.inr q)
    · have := q.1
      dsimp only at this
      omega
  have hbk := hw.cv.bk hk.1 hk.2
  have h4 : ∀ q : Int, 0 ≤ q → q < 6 → 0 ≤ σ (60 + 13 * q + k) ∧ σ (60 + 13 * q + k) ≤ 4 := fun q a b => hw.cv.h4 a b hk.1 hk.2
  unfold lfv at hQ
  dsimp only at hQ
  refine MC.of (by decide) (Nat.le_of_ble_eq_true rfl) ?_
  show PW G mX11_isLeaf (rmD (d + 2) 0 0) (MZ G Q nX 0 0) 0 0 (ur I (m + 2) σ) J P T z 0 [some (.ref m), some (iv k), some (iv wh), some (iv sg), some (iv nn), none, none, none] []
  refine r_iload_n (pc := 0) dX11_isLeaf_0 rfl rfl ?_
  refine r_if_ne (pc := 1) 23 dX11_isLeaf_1 rfl (by omega) (fun h1 => ?_) (fun h1 => ?_)
  · rw [if_neg h1] at hQ
    refine r_iload_n (pc := 23) dX11_isLeaf_23 rfl rfl ?_
    refine r_iconst (pc := 24) dX11_isLeaf_24 ?_
    refine r_icmp_ne (pc := 25) 53 dX11_isLeaf_25 rfl (by omega) (by omega) (fun h25 => ?_) (fun h25 => ?_)
    · rw [if_neg h25] at hQ
      refine r_iload_n (pc := 53) dX11_isLeaf_53 rfl rfl ?_
      refine r_iconst (pc := 54) dX11_isLeaf_54 ?_
      refine r_icmp_ne (pc := 55) 75 dX11_isLeaf_55 rfl (by omega) (by omega) (fun h55 => ?_) (fun h55 => ?_)
      · rw [if_neg h55] at hQ
        have g : (3 ≤ wh ∧ wh ≤ 6) ∧ 60 ≤ sg ∧ sg ≤ 62 ∧ 0 ≤ nn ∧ nn ≤ 999 := by omega
        have vr := vl_r (w := wh) hw hk
        have fin : ∀ (l5 : Option Value) (x6 : Int) (l7 : Option Value), PW G mX11_isLeaf (rmD (d + 2) 0 0) (MZ G Q nX 0 0) 0 0 (ur I (m + 2) σ) J P T z 208 [some (.ref m), some (iv k), some (iv wh), some (iv sg), some (iv nn), l5, some (iv x6), l7] [iv (vl σ k wh)] := by
          intro l5 x6 l7
          generalize vl σ k wh = v at *
          unfold cmv at hQ
          refine r_istore7 (pc := 208) (Nat.le_of_ble_eq_true rfl) dX11_isLeaf_208 rfl ?_
          refine r_iload_n (pc := 210) dX11_isLeaf_210 rfl rfl ?_
          refine r_bipush (pc := 211) dX11_isLeaf_211 (by decide +kernel) ?_
          refine r_icmp_ne (pc := 213) 231 dX11_isLeaf_213 rfl (by omega) (by omega) (fun h213 => ?_) (fun h213 => ?_)
          · rw [if_neg h213] at hQ
            refine r_iload_n (pc := 231) dX11_isLeaf_231 rfl rfl ?_
            refine r_bipush (pc := 232) dX11_isLeaf_232 (by decide +kernel) ?_
            refine r_icmp_ne (pc := 234) 252 dX11_isLeaf_234 rfl (by omega) (by omega) (fun h234 => ?_) (fun h234 => ?_)
            · rw [if_neg h234] at hQ
              refine r_iload (pc := 252) dX11_isLeaf_252 rfl ?_
              refine r_iload (pc := 254) dX11_isLeaf_254 rfl ?_
              refine r_icmp_le (pc := 256) 263 dX11_isLeaf_256 rfl (by omega) (by omega) (fun h256 => ?_) (fun h256 => ?_)
              · rw [bz_f (by omega)] at hQ
                refine r_iconst (pc := 263) dX11_isLeaf_263 ?_
                refine r_ireturn (pc := 264) rfl (nb_z (by omega)) dX11_isLeaf_264 (Nat.le_of_ble_eq_true rfl) (Nat.le_of_ble_eq_true rfl) ?_
                exact hQ
              rw [bz_t (by omega)] at hQ
              refine r_iconst (pc := 259) dX11_isLeaf_259 ?_
              refine r_goto (pc := 260) 264 dX11_isLeaf_260 rfl ?_
              refine r_ireturn (pc := 264) rfl (nb_z (by omega)) dX11_isLeaf_264 (Nat.le_of_ble_eq_true rfl) (Nat.le_of_ble_eq_true rfl) ?_
              exact hQ
            rw [if_pos h234] at hQ
            refine r_iload (pc := 237) dX11_isLeaf_237 rfl ?_
            refine r_iload (pc := 239) dX11_isLeaf_239 rfl ?_
            refine r_icmp_ne (pc := 241) 248 dX11_isLeaf_241 rfl (by omega) (by omega) (fun h241 => ?_) (fun h241 => ?_)
            · rw [bz_f (by omega)] at hQ
              refine r_iconst (pc := 248) dX11_isLeaf_248 ?_
              refine r_goto (pc := 249) 264 dX11_isLeaf_249 rfl ?_
              refine r_ireturn (pc := 264) rfl (nb_z (by omega)) dX11_isLeaf_264 (Nat.le_of_ble_eq_true rfl) (Nat.le_of_ble_eq_true rfl) ?_
              exact hQ
            rw [bz_t (by omega)] at hQ
            refine r_iconst (pc := 244) dX11_isLeaf_244 ?_
            refine r_goto (pc := 245) 264 dX11_isLeaf_245 rfl ?_
            refine r_ireturn (pc := 264) rfl (nb_z (by omega)) dX11_isLeaf_264 (Nat.le_of_ble_eq_true rfl) (Nat.le_of_ble_eq_true rfl) ?_
            exact hQ
          rw [if_pos h213] at hQ
          refine r_iload (pc := 216) dX11_isLeaf_216 rfl ?_
          refine r_iload (pc := 218) dX11_isLeaf_218 rfl ?_
          refine r_icmp_ge (pc := 220) 227 dX11_isLeaf_220 rfl (by omega) (by omega) (fun h220 => ?_) (fun h220 => ?_)
          · rw [bz_f (by omega)] at hQ
            refine r_iconst (pc := 227) dX11_isLeaf_227 ?_
            refine r_goto (pc := 228) 264 dX11_isLeaf_228 rfl ?_
            refine r_ireturn (pc := 264) rfl (nb_z (by omega)) dX11_isLeaf_264 (Nat.le_of_ble_eq_true rfl) (Nat.le_of_ble_eq_true rfl) ?_
            exact hQ
          rw [bz_t (by omega)] at hQ
          refine r_iconst (pc := 223) dX11_isLeaf_223 ?_
          refine r_goto (pc := 224) 264 dX11_isLeaf_224 rfl ?_
          refine r_ireturn (pc := 264) rfl (nb_z (by omega)) dX11_isLeaf_264 (Nat.le_of_ble_eq_true rfl) (Nat.le_of_ble_eq_true rfl) ?_
          exact hQ
        have two : ∀ (j : Nat) (q : Int), 0 ≤ q → q + j = σ 1 → PW G mX11_isLeaf (rmD (d + 2) 0 0) (MZ G Q nX 0 0) 0 0 (ur I (m + 2) σ) J P T z 129 [some (.ref m), some (iv k), some (iv wh), some (iv sg), some (iv nn), some (iv (ct σ k)), some (iv (mx σ k q.toNat)), some (iv q)] [] := by
          intro j
          induction j with
          | zero =>
            intro q q0 q1
            have mr := mx_r (σ := σ) (k := k) h4 q.toNat (by omega)
            have em : mx σ k q.toNat = mx σ k 6 := by
              rw [← mx6 hw hk]
              congr 1
              omega
            have cr := ct_r (η := σ) (k := k)
            refine r_iload (pc := 129) dX11_isLeaf_129 rfl ?_
            refine r_aload_n (pc := 131) dX11_isLeaf_131 rfl rfl ?_
            refine r_getr (pc := 132) (c := 11) (k := 6) (kz := 6) hs.o cok_11 (Nat.le_of_ble_eq_true rfl) q1866 ⟨rfl, rfl⟩ (Or.inl rfl) rfl (fun _ _ _ => rfl) hs.p_s dX11_isLeaf_132 ?_
            refine r_iconst (pc := 135) dX11_isLeaf_135 ?_
            refine r_ialdU (pc := 136) hs.t_s (by omega) (by omega) dX11_isLeaf_136 (fun hr136 => ?_)
            refine r_icmp_ge (pc := 137) 174 dX11_isLeaf_137 rfl (by omega) (by omega) (fun h137 => ?_) (fun h137 => ?_)
            · refine r_iload_n (pc := 174) dX11_isLeaf_174 rfl rfl ?_
              refine r_iconst (pc := 175) dX11_isLeaf_175 ?_
              refine r_icmp_ne (pc := 176) 187 dX11_isLeaf_176 rfl (by omega) (by omega) (fun h176 => ?_) (fun h176 => ?_)
              · refine r_iload_n (pc := 187) dX11_isLeaf_187 rfl rfl ?_
                refine r_iconst (pc := 188) dX11_isLeaf_188 ?_
                refine r_icmp_ne (pc := 189) 197 dX11_isLeaf_189 rfl (by omega) (by omega) (fun h189 => ?_) (fun h189 => ?_)
                · refine r_iload_n (pc := 197) dX11_isLeaf_197 rfl rfl ?_
                  refine r_iconst (pc := 198) dX11_isLeaf_198 ?_
                  refine r_icmp_ne (pc := 199) 207 dX11_isLeaf_199 rfl (by omega) (by omega) (fun h199 => ?_) (fun h199 => ?_)
                  · have e : vl σ k wh = k := by
                      unfold vl
                      rw [if_neg h176, if_neg h189, if_neg h199]
                    rw [e] at fin
                    refine r_iload_n (pc := 207) dX11_isLeaf_207 rfl rfl ?_
                    exact fin _ _ _
                  have e : vl σ k wh = mx σ k 6 := by
                    unfold vl
                    rw [if_neg h176, if_neg h189, if_pos h199]
                  rw [e, ← em] at fin
                  refine r_iload (pc := 202) dX11_isLeaf_202 rfl ?_
                  refine r_goto (pc := 204) 208 dX11_isLeaf_204 rfl ?_
                  exact fin _ _ _
                have e : vl σ k wh = ct σ k := by
                  unfold vl
                  rw [if_neg h176, if_pos h189]
                rw [e] at fin
                refine r_iload (pc := 192) dX11_isLeaf_192 rfl ?_
                refine r_goto (pc := 194) 208 dX11_isLeaf_194 rfl ?_
                exact fin _ _ _
              have e : vl σ k wh = f_inHands σ k := by
                unfold vl
                rw [if_pos h176, inH6 hw hk]
              rw [e] at fin
              refine r_aload_n (pc := 179) dX11_isLeaf_179 rfl rfl ?_
              refine r_iload_n (pc := 180) dX11_isLeaf_180 rfl rfl ?_
              refine r_callV1 (pc := 181) (M_inHands (d := d) hs hk (by omega) fe_i) im_X11_inHands qs91 q2295 hs.o rfl dX11_isLeaf_181 (Nat.le_of_ble_eq_true rfl) (Nat.le_of_ble_eq_true rfl) rfl (k_fi ?_) (fun _ _ _ _ _ _ _ hx => no_x hx)
              refine r_goto (pc := 184) 208 dX11_isLeaf_184 rfl ?_
              exact fin _ _ _
            omega
          | succ j ih =>
            intro q q0 q1
            obtain ⟨n, rfl⟩ : ∃ n : Nat, q = n := ⟨q.toNat, by omega⟩
            have hq := h4 n q0 (by omega)
            have t0 : ((n : Nat) : Int).toNat = n := by omega
            have tn : ((n : Int) + 1).toNat = n + 1 := by omega
            have mr := mx_r (σ := σ) (k := k) h4 n (by omega)
            have nx := ih ((n : Int) + 1) (by omega) (by omega)
            rw [tn] at nx
            rw [t0]
            refine r_iload (pc := 129) dX11_isLeaf_129 rfl ?_
            refine r_aload_n (pc := 131) dX11_isLeaf_131 rfl rfl ?_
            refine r_getr (pc := 132) (c := 11) (k := 6) (kz := 6) hs.o cok_11 (Nat.le_of_ble_eq_true rfl) q1866 ⟨rfl, rfl⟩ (Or.inl rfl) rfl (fun _ _ _ => rfl) hs.p_s dX11_isLeaf_132 ?_
            refine r_iconst (pc := 135) dX11_isLeaf_135 ?_
            refine r_ialdU (pc := 136) hs.t_s (by omega) (by omega) dX11_isLeaf_136 (fun hr136 => ?_)
            refine r_icmp_ge (pc := 137) 174 dX11_isLeaf_137 rfl (by omega) (by omega) (fun h137 => ?_) (fun h137 => ?_)
            · omega
            refine r_aload_n (pc := 140) dX11_isLeaf_140 rfl rfl ?_
            refine r_iload (pc := 141) dX11_isLeaf_141 rfl ?_
            refine r_iload_n (pc := 143) dX11_isLeaf_143 rfl rfl ?_
            refine r_iconst (pc := 144) dX11_isLeaf_144 ?_
            refine r_callV3 (pc := 145) (M_hand0 (d := d + 1) hs (by omega) hk fe_i) im_X11_handOf qs73 q2138 hs.o rfl dX11_isLeaf_145 (Nat.le_of_ble_eq_true rfl) (Nat.le_of_ble_eq_true rfl) rfl (k_fi ?_) (fun _ _ _ _ _ _ _ hx => no_x hx)
            refine r_iload (pc := 148) dX11_isLeaf_148 rfl ?_
            refine r_icmp_le (pc := 150) 164 dX11_isLeaf_150 rfl (by omega) (by omega) (fun h150 => ?_) (fun h150 => ?_)
            · have e : mx σ k (n + 1) = mx σ k n := if_neg (by omega)
              rw [e] at nx
              refine r_iload (pc := 164) dX11_isLeaf_164 rfl ?_
              refine r_istore6 (pc := 166) (Nat.le_of_ble_eq_true rfl) dX11_isLeaf_166 rfl ?_
              refine r_iinc7 (pc := 168) (Nat.le_of_ble_eq_true rfl) dX11_isLeaf_168 rfl ?_
              refine r_goto (pc := 171) 129 dX11_isLeaf_171 rfl ?_
              exact nx
            have e : mx σ k (n + 1) = σ (60 + 13 * (n : Int) + k) := if_pos (by omega)
            rw [e] at nx
            refine r_aload_n (pc := 153) dX11_isLeaf_153 rfl rfl ?_
            refine r_iload (pc := 154) dX11_isLeaf_154 rfl ?_
            refine r_iload_n (pc := 156) dX11_isLeaf_156 rfl rfl ?_
            refine r_iconst (pc := 157) dX11_isLeaf_157 ?_
            refine r_callV3 (pc := 158) (M_hand0 (d := d + 1) hs (by omega) hk fe_i) im_X11_handOf qs73 q2138 hs.o rfl dX11_isLeaf_158 (Nat.le_of_ble_eq_true rfl) (Nat.le_of_ble_eq_true rfl) rfl (k_fi ?_) (fun _ _ _ _ _ _ _ hx => no_x hx)
            refine r_goto (pc := 161) 166 dX11_isLeaf_161 rfl ?_
            refine r_istore6 (pc := 166) (Nat.le_of_ble_eq_true rfl) dX11_isLeaf_166 rfl ?_
            refine r_iinc7 (pc := 168) (Nat.le_of_ble_eq_true rfl) dX11_isLeaf_168 rfl ?_
            refine r_goto (pc := 171) 129 dX11_isLeaf_171 rfl ?_
            exact nx
        have one : ∀ (j : Nat) (i : Int), 0 ≤ i → i + j = σ 7 → PW G mX11_isLeaf (rmD (d + 2) 0 0) (MZ G Q nX 0 0) 0 0 (ur I (m + 2) σ) J P T z 81 [some (.ref m), some (iv k), some (iv wh), some (iv sg), some (iv nn), some (iv (sm (fun i => bz (σ (8 + i) = k)) i.toNat)), some (iv i), none] [] := by
          intro j
          induction j with
          | zero =>
            intro i i0 i1
            obtain rfl : i = σ 7 := by omega
            refine r_iload (pc := 81) dX11_isLeaf_81 rfl ?_
            refine r_aload_n (pc := 83) dX11_isLeaf_83 rfl rfl ?_
            refine r_getr (pc := 84) (c := 11) (k := 6) (kz := 6) hs.o cok_11 (Nat.le_of_ble_eq_true rfl) q1866 ⟨rfl, rfl⟩ (Or.inl rfl) rfl (fun _ _ _ => rfl) hs.p_s dX11_isLeaf_84 ?_
            refine r_bipush (pc := 87) dX11_isLeaf_87 (by decide +kernel) ?_
            refine r_ialdU (pc := 89) hs.t_s (by omega) (by omega) dX11_isLeaf_89 (fun hr89 => ?_)
            refine r_icmp_ge (pc := 90) 123 dX11_isLeaf_90 rfl (by omega) (by omega) (fun h90 => ?_) (fun h90 => ?_)
            · refine r_iconst (pc := 123) dX11_isLeaf_123 ?_
              refine r_istore6 (pc := 124) (Nat.le_of_ble_eq_true rfl) dX11_isLeaf_124 rfl ?_
              refine r_iconst (pc := 126) dX11_isLeaf_126 ?_
              refine r_istore7 (pc := 127) (Nat.le_of_ble_eq_true rfl) dX11_isLeaf_127 rfl ?_
              exact two (σ 1).toNat 0 (by omega) (by omega)
            omega
          | succ j ih =>
            intro i i0 i1
            have sx := sm_succ (f := fun i => bz (σ (8 + i) = k)) i0
            have sr := sm_bz (f := fun i => σ (8 + i) = k) i.toNat
            have nx := ih (i + 1) (by omega) (by omega)
            rw [← sx] at nx
            refine r_iload (pc := 81) dX11_isLeaf_81 rfl ?_
            refine r_aload_n (pc := 83) dX11_isLeaf_83 rfl rfl ?_
            refine r_getr (pc := 84) (c := 11) (k := 6) (kz := 6) hs.o cok_11 (Nat.le_of_ble_eq_true rfl) q1866 ⟨rfl, rfl⟩ (Or.inl rfl) rfl (fun _ _ _ => rfl) hs.p_s dX11_isLeaf_84 ?_
            refine r_bipush (pc := 87) dX11_isLeaf_87 (by decide +kernel) ?_
            refine r_ialdU (pc := 89) hs.t_s (by omega) (by omega) dX11_isLeaf_89 (fun hr89 => ?_)
            refine r_icmp_ge (pc := 90) 123 dX11_isLeaf_90 rfl (by omega) (by omega) (fun h90 => ?_) (fun h90 => ?_)
            · omega
            refine r_iload (pc := 93) dX11_isLeaf_93 rfl ?_
            refine r_aload_n (pc := 95) dX11_isLeaf_95 rfl rfl ?_
            refine r_getr (pc := 96) (c := 11) (k := 6) (kz := 6) hs.o cok_11 (Nat.le_of_ble_eq_true rfl) q1866 ⟨rfl, rfl⟩ (Or.inl rfl) rfl (fun _ _ _ => rfl) hs.p_s dX11_isLeaf_96 ?_
            refine r_bipush (pc := 99) dX11_isLeaf_99 (by decide +kernel) ?_
            refine r_iload (pc := 101) dX11_isLeaf_101 rfl ?_
            refine r_iadd (pc := 103) dX11_isLeaf_103 ?_
            refine r_ialdU (pc := 104) hs.t_s (by omega) (by omega) dX11_isLeaf_104 (fun hr104 => ?_)
            refine r_iload_n (pc := 105) dX11_isLeaf_105 rfl rfl ?_
            refine r_icmp_ne (pc := 106) 113 dX11_isLeaf_106 rfl (by omega) (by omega) (fun h106 => ?_) (fun h106 => ?_)
            · rw [bz_f h106] at nx
              refine r_iconst (pc := 113) dX11_isLeaf_113 ?_
              refine r_iadd (pc := 114) dX11_isLeaf_114 ?_
              refine r_istore5 (pc := 115) (Nat.le_of_ble_eq_true rfl) dX11_isLeaf_115 rfl ?_
              refine r_iinc6 (pc := 117) (Nat.le_of_ble_eq_true rfl) dX11_isLeaf_117 rfl ?_
              refine r_goto (pc := 120) 81 dX11_isLeaf_120 rfl ?_
              exact nx
            rw [bz_t h106] at nx
            refine r_iconst (pc := 109) dX11_isLeaf_109 ?_
            refine r_goto (pc := 110) 114 dX11_isLeaf_110 rfl ?_
            refine r_iadd (pc := 114) dX11_isLeaf_114 ?_
            refine r_istore5 (pc := 115) (Nat.le_of_ble_eq_true rfl) dX11_isLeaf_115 rfl ?_
            refine r_iinc6 (pc := 117) (Nat.le_of_ble_eq_true rfl) dX11_isLeaf_117 rfl ?_
            refine r_goto (pc := 120) 81 dX11_isLeaf_120 rfl ?_
            exact nx
        refine r_iconst (pc := 75) dX11_isLeaf_75 ?_
        refine r_istore5 (pc := 76) (Nat.le_of_ble_eq_true rfl) dX11_isLeaf_76 rfl ?_
        refine r_iconst (pc := 78) dX11_isLeaf_78 ?_
        refine r_istore6 (pc := 79) (Nat.le_of_ble_eq_true rfl) dX11_isLeaf_79 rfl ?_
        exact one (σ 7).toNat 0 (by omega) (by omega)
      rw [if_pos h55] at hQ
      refine r_aload_n (pc := 58) dX11_isLeaf_58 rfl rfl ?_
      refine r_iload (pc := 59) dX11_isLeaf_59 rfl ?_
      refine r_iload_n (pc := 61) dX11_isLeaf_61 rfl rfl ?_
      refine r_iconst (pc := 62) dX11_isLeaf_62 ?_
      refine r_callV3 (pc := 63) (M_hand0 (d := d + 1) hs (by omega) hk fe_i) im_X11_handOf qs73 q2138 hs.o rfl dX11_isLeaf_63 (Nat.le_of_ble_eq_true rfl) (Nat.le_of_ble_eq_true rfl) rfl (k_fi ?_) (fun _ _ _ _ _ _ _ hx => no_x hx)
      have hq := h4 nn (by omega) (by omega)
      refine r_if_le (pc := 66) 73 dX11_isLeaf_66 rfl (by omega) (fun h66 => ?_) (fun h66 => ?_)
      · rw [bz_f (by omega)] at hQ
        refine r_iconst (pc := 73) dX11_isLeaf_73 ?_
        refine r_ireturn (pc := 74) rfl (nb_z (by omega)) dX11_isLeaf_74 (Nat.le_of_ble_eq_true rfl) (Nat.le_of_ble_eq_true rfl) ?_
        exact hQ
      rw [bz_t (by omega)] at hQ
      refine r_iconst (pc := 69) dX11_isLeaf_69 ?_
      refine r_goto (pc := 70) 74 dX11_isLeaf_70 rfl ?_
      refine r_ireturn (pc := 74) rfl (nb_z (by omega)) dX11_isLeaf_74 (Nat.le_of_ble_eq_true rfl) (Nat.le_of_ble_eq_true rfl) ?_
      exact hQ
    rw [if_pos h25] at hQ
    have hkn := hw.cv.kn (p := nn) (k := k) (by omega) (by omega) hk.1 hk.2
    have hq := h4 nn (by omega) (by omega)
    refine r_aload_n (pc := 28) dX11_isLeaf_28 rfl rfl ?_
    refine r_getr (pc := 29) (c := 11) (k := 6) (kz := 6) hs.o cok_11 (Nat.le_of_ble_eq_true rfl) q1866 ⟨rfl, rfl⟩ (Or.inl rfl) rfl (fun _ _ _ => rfl) hs.p_s dX11_isLeaf_29 ?_
    refine r_sipush (pc := 32) dX11_isLeaf_32 (by decide +kernel) ?_
    refine r_bipush (pc := 35) dX11_isLeaf_35 (by decide +kernel) ?_
    refine r_iload (pc := 37) dX11_isLeaf_37 rfl ?_
    refine r_imul (pc := 39) dX11_isLeaf_39 ?_
    refine r_iadd (pc := 40) dX11_isLeaf_40 ?_
    refine r_iload_n (pc := 41) dX11_isLeaf_41 rfl rfl ?_
    refine r_iadd (pc := 42) dX11_isLeaf_42 ?_
    refine r_ialdU (pc := 43) hs.t_s (by omega) (by omega) dX11_isLeaf_43 (fun hr43 => ?_)
    refine r_if_le (pc := 44) 51 dX11_isLeaf_44 rfl (by omega) (fun h44 => ?_) (fun h44 => ?_)
    · rw [bz_f (by omega)] at hQ
      refine r_iconst (pc := 51) dX11_isLeaf_51 ?_
      refine r_ireturn (pc := 52) rfl (nb_z (by omega)) dX11_isLeaf_52 (Nat.le_of_ble_eq_true rfl) (Nat.le_of_ble_eq_true rfl) ?_
      exact hQ
    rw [bz_t (by omega)] at hQ
    refine r_iconst (pc := 47) dX11_isLeaf_47 ?_
    refine r_goto (pc := 48) 52 dX11_isLeaf_48 rfl ?_
    refine r_ireturn (pc := 52) rfl (nb_z (by omega)) dX11_isLeaf_52 (Nat.le_of_ble_eq_true rfl) (Nat.le_of_ble_eq_true rfl) ?_
    exact hQ
  rw [if_pos h1] at hQ
  refine r_aload_n (pc := 4) dX11_isLeaf_4 rfl rfl ?_
  refine r_getr (pc := 5) (c := 11) (k := 6) (kz := 6) hs.o cok_11 (Nat.le_of_ble_eq_true rfl) q1866 ⟨rfl, rfl⟩ (Or.inl rfl) rfl (fun _ _ _ => rfl) hs.p_s dX11_isLeaf_5 ?_
  refine r_sipush (pc := 8) dX11_isLeaf_8 (by decide +kernel) ?_
  refine r_iload_n (pc := 11) dX11_isLeaf_11 rfl rfl ?_
  refine r_iadd (pc := 12) dX11_isLeaf_12 ?_
  refine r_ialdU (pc := 13) hs.t_s (by omega) (by omega) dX11_isLeaf_13 (fun hr13 => ?_)
  refine r_if_le (pc := 14) 21 dX11_isLeaf_14 rfl (by omega) (fun h14 => ?_) (fun h14 => ?_)
  · rw [bz_f (by omega)] at hQ
    refine r_iconst (pc := 21) dX11_isLeaf_21 ?_
    refine r_ireturn (pc := 22) rfl (nb_z (by omega)) dX11_isLeaf_22 (Nat.le_of_ble_eq_true rfl) (Nat.le_of_ble_eq_true rfl) ?_
    exact hQ
  rw [bz_t (by omega)] at hQ
  refine r_iconst (pc := 17) dX11_isLeaf_17 ?_
  refine r_goto (pc := 18) 22 dX11_isLeaf_18 rfl ?_
  refine r_ireturn (pc := 22) rfl (nb_z (by omega)) dX11_isLeaf_22 (Nat.le_of_ble_eq_true rfl) (Nat.le_of_ble_eq_true rfl) ?_
  exact hQ
set_option maxHeartbeats 1000000 in
theorem M_isSaid (hs : shM G P T m) (hw : WF σ) (hk : 0 ≤ k ∧ k < 13) (hL : CDR σ L) (hc : ∀ c ∈ L, okC 6 c) (hd : dpt L 0 = some 1) (hl : L.length ≤ 44) {v : Int} (hv : rcs σ k L [] = [v]) (hv1 : v = 0 ∨ v = 1) (hQ : ∀ u', Q (some (iv v)) (ur (ur I (m + 24) u') (m + 2) σ) J P T z) : MC G yX11_isSaid (ws_ yX11_isSaid cX11_isSaid 5 (some FieldType.boolean)) (d + 3) 0 0 [.ref m, iv k] (ur (ur I (m + 24) u) (m + 2) σ) J P T z Q nX := by
  have hb := hs.b
  refine MC.of (by decide) (Nat.le_of_ble_eq_true rfl) ?_
  show PW G mX11_isSaid (rmD (d + 3) 0 0) (MZ G Q nX 0 0) 0 0 (ur (ur I (m + 24) u) (m + 2) σ) J P T z 0 [some (.ref m), some (iv k), none, none, none] []
  have loop : ∀ (M : List CD) (i : Nat) (V : List Int) (u : Int → Int) (l4 : Option Value), L.drop i = M → i ≤ L.length → dpt M V.length = some 1 → rcs σ k M V = [v] → KL u V → (∀ x ∈ V, x = 0 ∨ x = 1) → V.length ≤ i → PW G mX11_isSaid (rmD (d + 3) 0 0) (MZ G Q nX 0 0) 0 0 (ur (ur I (m + 24) u) (m + 2) σ) J P T z 4 [some (.ref m), some (iv k), some (iv (V.length : Int)), some (iv (i : Int)), l4] [] := by
    intro M
    induction M with
    | nil =>
      intro i V u l4 hM hi hdp hr hku hV hVl
      have : L.length ≤ i := List.drop_eq_nil_iff.mp hM
      have h584 := hL.1
      have hV1 : V = [v] := hr
      subst hV1
      have hu0 : u 0 = v := hku.1
      refine r_iload_n (pc := 4) dX11_isSaid_4 rfl rfl ?_
      refine r_aload_n (pc := 5) dX11_isSaid_5 rfl rfl ?_
      refine r_getr (pc := 6) (c := 11) (k := 6) (kz := 6) hs.o cok_11 (Nat.le_of_ble_eq_true rfl) q1866 ⟨rfl, rfl⟩ (Or.inl rfl) rfl (fun _ _ _ => rfl) hs.p_s dX11_isSaid_6 ?_
      refine r_sipush (pc := 9) dX11_isSaid_9 (by decide +kernel) ?_
      refine r_iald (pc := 12) hs.t_s (by omega) (by omega) dX11_isSaid_12 (fun hr12 => ?_)
      try simp (disch := omega) only [ui_ur, ui_ur_n, ur_sv, ur_nv, ui_sv, ui_nv, ui_uis, us_s, us_n] at hr12 ⊢
      rw [h584] at hr12 ⊢
      refine r_icmp_ge (pc := 13) 212 dX11_isSaid_13 rfl (by omega) (by omega) (fun h13 => ?_) (fun h13 => ?_)
      · refine r_aload_n (pc := 212) dX11_isSaid_212 rfl rfl ?_
        refine r_getr (pc := 213) (c := 11) (k := 61) (kz := 61) hs.o cok_11 (Nat.le_of_ble_eq_true rfl) q1921 ⟨rfl, rfl⟩ (Or.inl rfl) rfl (fun _ _ _ => rfl) hs.p_truths dX11_isSaid_213 ?_
        refine r_iconst (pc := 216) dX11_isSaid_216 ?_
        refine r_zald (pc := 217) hs.t_truths (by omega) (by omega) dX11_isSaid_217 (fun hr217 => ?_)
        try simp (disch := omega) only [ui_ur, ui_ur_n, ur_sv, ur_nv, ui_sv, ui_nv, ui_uis, us_s, us_n] at hr217 ⊢
        rw [hu0] at hr217 ⊢
        refine r_ireturn (pc := 218) rfl (nb_z (by omega)) dX11_isSaid_218 (Nat.le_of_ble_eq_true rfl) (Nat.le_of_ble_eq_true rfl) ?_
        exact hQ u
      omega
    | cons c M ih =>
      intro i V u l4 hM hi hdp hr hku hV hVl
      have hil : i < L.length := by
        refine Nat.not_le.mp fun q => ?_
        rw [List.drop_eq_nil_of_le q] at hM
        cases hM
      have hget : L[i]? = some c := by
        have := List.getElem?_drop (xs := L) (i := i) (j := 0)
        rw [hM] at this
        simpa using this.symm
      have hM' : L.drop (i + 1) = M := by
        have := congrArg List.tail hM
        rw [List.tail_drop] at this
        exact this
      have hcm : c ∈ L := List.mem_of_getElem? hget
      have hoc := hc c hcm
      obtain ⟨r0, r1, r2⟩ := hL.2 i c hget
      dsimp only at r0 r1 r2
      have r1 : σ (585 + 3 * (i : Int) + 1) = c.2.1 := by rw [← r1, show 585 + (3 * (i : Int) + 1) = 585 + 3 * (i : Int) + 1 by omega]
      have r2 : σ (585 + 3 * (i : Int) + 2) = c.2.2 := by rw [← r2, show 585 + (3 * (i : Int) + 2) = 585 + 3 * (i : Int) + 2 by omega]
      have h584 := hL.1
      have cr : rg c.1 := by rcases hoc with q | q | q | q <;> omega
      have ev : (((i + 1 : Nat) : Nat) : Int) = (i : Int) + 1 := by omega
      -- the end of a step
      have nxt : ∀ (V' : List Int) (u' : Int → Int), dpt M V'.length = some 1 → rcs σ k M V' = [v] → KL u' V' → (∀ x ∈ V', x = 0 ∨ x = 1) → V'.length ≤ i + 1 → PW G mX11_isSaid (rmD (d + 3) 0 0) (MZ G Q nX 0 0) 0 0 (ur (ur I (m + 24) u') (m + 2) σ) J P T z 206 [some (.ref m), some (iv k), some (iv (V'.length : Int)), some (iv (i : Int)), some (iv (585 + 3 * (i : Int)))] [] := by
        intro V' u' a1 a2 a3 a4 a5
        refine r_iinc3 (pc := 206) (Nat.le_of_ble_eq_true rfl) dX11_isSaid_206 rfl ?_
        refine r_goto (pc := 209) 4 dX11_isSaid_209 rfl ?_
        have := ih (i + 1) V' u' (some (iv (585 + 3 * (i : Int)))) hM' (by omega) a1 a2 a3 a4 a5
        rw [ev] at this
        exact this
      have hr2 : rcs σ k M (rc1 σ k c V) = [v] := hr
      unfold dpt at hdp
      unfold rc1 at hr2
      refine r_iload_n (pc := 4) dX11_isSaid_4 rfl rfl ?_
      refine r_aload_n (pc := 5) dX11_isSaid_5 rfl rfl ?_
      refine r_getr (pc := 6) (c := 11) (k := 6) (kz := 6) hs.o cok_11 (Nat.le_of_ble_eq_true rfl) q1866 ⟨rfl, rfl⟩ (Or.inl rfl) rfl (fun _ _ _ => rfl) hs.p_s dX11_isSaid_6 ?_
      refine r_sipush (pc := 9) dX11_isSaid_9 (by decide +kernel) ?_
      refine r_iald (pc := 12) hs.t_s (by omega) (by omega) dX11_isSaid_12 (fun hr12 => ?_)
      try simp (disch := omega) only [ui_ur, ui_ur_n, ur_sv, ur_nv, ui_sv, ui_nv, ui_uis, us_s, us_n] at hr12 ⊢
      rw [h584] at hr12 ⊢
      refine r_icmp_ge (pc := 13) 212 dX11_isSaid_13 rfl (by omega) (by omega) (fun h13 => ?_) (fun h13 => ?_)
      · omega
      refine r_sipush (pc := 16) dX11_isSaid_16 (by decide +kernel) ?_
      refine r_iconst (pc := 19) dX11_isSaid_19 ?_
      refine r_iload_n (pc := 20) dX11_isSaid_20 rfl rfl ?_
      refine r_imul (pc := 21) dX11_isSaid_21 ?_
      refine r_iadd (pc := 22) dX11_isSaid_22 ?_
      refine r_istore4 (pc := 23) (Nat.le_of_ble_eq_true rfl) dX11_isSaid_23 rfl ?_
      refine r_aload_n (pc := 25) dX11_isSaid_25 rfl rfl ?_
      refine r_getr (pc := 26) (c := 11) (k := 6) (kz := 6) hs.o cok_11 (Nat.le_of_ble_eq_true rfl) q1866 ⟨rfl, rfl⟩ (Or.inl rfl) rfl (fun _ _ _ => rfl) hs.p_s dX11_isSaid_26 ?_
      refine r_iload (pc := 29) dX11_isSaid_29 rfl ?_
      refine r_iald (pc := 31) hs.t_s (by omega) (by omega) dX11_isSaid_31 (fun hr31 => ?_)
      try simp (disch := omega) only [ui_ur, ui_ur_n, ur_sv, ur_nv, ui_sv, ui_nv, ui_uis, us_s, us_n] at hr31 ⊢
      rw [r0] at hr31 ⊢
      refine r_bipush (pc := 32) dX11_isSaid_32 (by decide +kernel) ?_
      refine r_icmp_ne (pc := 34) 64 dX11_isSaid_34 rfl (by omega) (by omega) (fun h34 => ?_) (fun h34 => ?_)
      · rw [if_neg h34] at hdp hr2
        have two : (c.1 = 11 ∨ c.1 = 12) → PW G mX11_isSaid (rmD (d + 3) 0 0) (MZ G Q nX 0 0) 0 0 (ur (ur I (m + 24) u) (m + 2) σ) J P T z 88 [some (.ref m), some (iv k), some (iv (V.length : Int)), some (iv (i : Int)), some (iv (585 + 3 * (i : Int)))] [] := by
          intro q
          rw [if_pos q] at hdp
          have V2 : 2 ≤ V.length := by
            refine Decidable.byContradiction fun c => ?_
            rw [if_neg c] at hdp
            cases hdp
          rw [if_pos V2] at hdp
          obtain ⟨b, V1, rfl⟩ : ∃ b V1, V = b :: V1 := by
            cases V with
            | nil => simp at V2
            | cons b V1 => exact ⟨b, V1, rfl⟩
          obtain ⟨a, V0, rfl⟩ : ∃ a V0, V1 = a :: V0 := by
            cases V1 with
            | nil => simp at V2
            | cons a V0 => exact ⟨a, V0, rfl⟩
          have hb9 : u ((V0.length : Int) + 1) = b := by
            have := hku.1
            rw [show (((a :: V0).length : Nat) : Int) = (V0.length : Int) + 1 by simp] at this
            exact this
          have ha9 : u (V0.length : Int) = a := hku.2.1
          have hb1 := hV b (by simp)
          have ha1 := hV a (by simp)
          have len2 : (((b :: a :: V0).length : Nat) : Int) = (V0.length : Int) + 2 := by simp; omega
          have hVl' : V0.length + 2 ≤ i := hVl
          rw [len2]
          have hA9 : u ((V0.length : Int) + 2 + -1 - 1) = a := by rw [show (V0.length : Int) + 2 + -1 - 1 = (V0.length : Int) by omega]; exact ha9
          have hB9 : u ((V0.length : Int) + 2 + -1) = b := by rw [show (V0.length : Int) + 2 + -1 = (V0.length : Int) + 1 by omega]; exact hb9
          have put : ∀ x : Int, (x = 0 ∨ x = 1) → rcs σ k M (x :: V0) = [v] → PW G mX11_isSaid (rmD (d + 3) 0 0) (MZ G Q nX 0 0) 0 0 (ur (ur I (m + 24) u) (m + 2) σ) J P T z 163 [some (.ref m), some (iv k), some (iv ((V0.length : Int) + 2 + -1)), some (iv (i : Int)), some (iv (585 + 3 * (i : Int)))] [iv x, iv ((V0.length : Int) + 2 + -1 - 1), .ref (m + 24)] := by
            intro x hx hrx
            refine r_zast (pc := 163) hs.t_truths (by omega) (by omega) (by omega) (by omega) dX11_isSaid_163 ?_
            try simp (disch := omega) only [ui_ur, ui_ur_n, ur_sv, ur_nv, ui_sv, ui_nv, ui_uis, us_s, us_n]
            refine r_goto (pc := 164) 206 dX11_isSaid_164 rfl ?_
            have := nxt (x :: V0) (us u (V0.length : Int) x) (by simpa using hdp) hrx ⟨us_s, hku.2.2.up (Int.le_refl _)⟩ (fun y hy => by rcases List.mem_cons.mp hy with e | e; rw [e]; exact hx; exact hV y (by simp [e])) (by simp; omega)
            rw [show (((x :: V0).length : Nat) : Int) = (V0.length : Int) + 2 + -1 by simp; omega] at this
            rw [show (V0.length : Int) + 2 + -1 - 1 = (V0.length : Int) by omega]
            exact this
          refine r_iinc2 (pc := 88) (Nat.le_of_ble_eq_true rfl) dX11_isSaid_88 rfl ?_
          refine r_aload_n (pc := 91) dX11_isSaid_91 rfl rfl ?_
          refine r_getr (pc := 92) (c := 11) (k := 61) (kz := 61) hs.o cok_11 (Nat.le_of_ble_eq_true rfl) q1921 ⟨rfl, rfl⟩ (Or.inl rfl) rfl (fun _ _ _ => rfl) hs.p_truths dX11_isSaid_92 ?_
          refine r_iload_n (pc := 95) dX11_isSaid_95 rfl rfl ?_
          refine r_iconst (pc := 96) dX11_isSaid_96 ?_
          refine r_isub (pc := 97) dX11_isSaid_97 ?_
          refine r_aload_n (pc := 98) dX11_isSaid_98 rfl rfl ?_
          refine r_getr (pc := 99) (c := 11) (k := 6) (kz := 6) hs.o cok_11 (Nat.le_of_ble_eq_true rfl) q1866 ⟨rfl, rfl⟩ (Or.inl rfl) rfl (fun _ _ _ => rfl) hs.p_s dX11_isSaid_99 ?_
          refine r_iload (pc := 102) dX11_isSaid_102 rfl ?_
          refine r_iald (pc := 104) hs.t_s (by omega) (by omega) dX11_isSaid_104 (fun hr104 => ?_)
          try simp (disch := omega) only [ui_ur, ui_ur_n, ur_sv, ur_nv, ui_sv, ui_nv, ui_uis, us_s, us_n] at hr104 ⊢
          rw [r0] at hr104 ⊢
          refine r_bipush (pc := 105) dX11_isSaid_105 (by decide +kernel) ?_
          refine r_icmp_ne (pc := 107) 138 dX11_isSaid_107 rfl (by omega) (by omega) (fun h107 => ?_) (fun h107 => ?_)
          · rw [if_neg (show ¬ c.1 = 11 from h107), if_pos (show c.1 = 12 by omega)] at hr2
            have hr2 : rcs σ k M (bz (a ≠ 0 ∨ b ≠ 0) :: V0) = [v] := hr2
            refine r_aload_n (pc := 138) dX11_isSaid_138 rfl rfl ?_
            refine r_getr (pc := 139) (c := 11) (k := 61) (kz := 61) hs.o cok_11 (Nat.le_of_ble_eq_true rfl) q1921 ⟨rfl, rfl⟩ (Or.inl rfl) rfl (fun _ _ _ => rfl) hs.p_truths dX11_isSaid_139 ?_
            refine r_iload_n (pc := 142) dX11_isSaid_142 rfl rfl ?_
            refine r_iconst (pc := 143) dX11_isSaid_143 ?_
            refine r_isub (pc := 144) dX11_isSaid_144 ?_
            refine r_zald (pc := 145) hs.t_truths (by omega) (by omega) dX11_isSaid_145 (fun hr145 => ?_)
            try simp (disch := omega) only [ui_ur, ui_ur_n, ur_sv, ur_nv, ui_sv, ui_nv, ui_uis, us_s, us_n] at hr145 ⊢
            rw [hA9] at hr145 ⊢
            refine r_if_ne (pc := 146) 158 dX11_isSaid_146 rfl (by omega) (fun h146 => ?_) (fun h146 => ?_)
            · rw [bz_t (Or.inl h146)] at hr2
              refine r_iconst (pc := 158) dX11_isSaid_158 ?_
              refine r_goto (pc := 159) 163 dX11_isSaid_159 rfl ?_
              exact put 1 (Or.inr rfl) hr2
            refine r_aload_n (pc := 149) dX11_isSaid_149 rfl rfl ?_
            refine r_getr (pc := 150) (c := 11) (k := 61) (kz := 61) hs.o cok_11 (Nat.le_of_ble_eq_true rfl) q1921 ⟨rfl, rfl⟩ (Or.inl rfl) rfl (fun _ _ _ => rfl) hs.p_truths dX11_isSaid_150 ?_
            refine r_iload_n (pc := 153) dX11_isSaid_153 rfl rfl ?_
            refine r_zald (pc := 154) hs.t_truths (by omega) (by omega) dX11_isSaid_154 (fun hr154 => ?_)
            try simp (disch := omega) only [ui_ur, ui_ur_n, ur_sv, ur_nv, ui_sv, ui_nv, ui_uis, us_s, us_n] at hr154 ⊢
            rw [hB9] at hr154 ⊢
            refine r_if_eq (pc := 155) 162 dX11_isSaid_155 rfl (by omega) (fun h155 => ?_) (fun h155 => ?_)
            · rw [bz_f (fun q => by omega)] at hr2
              refine r_iconst (pc := 162) dX11_isSaid_162 ?_
              exact put 0 (Or.inl rfl) hr2
            rw [bz_t (Or.inr h155)] at hr2
            refine r_iconst (pc := 158) dX11_isSaid_158 ?_
            refine r_goto (pc := 159) 163 dX11_isSaid_159 rfl ?_
            exact put 1 (Or.inr rfl) hr2
          rw [if_pos h107] at hr2
          have hr2 : rcs σ k M (bz (a ≠ 0 ∧ b ≠ 0) :: V0) = [v] := hr2
          have no : ¬ (a ≠ 0 ∧ b ≠ 0) → PW G mX11_isSaid (rmD (d + 3) 0 0) (MZ G Q nX 0 0) 0 0 (ur (ur I (m + 24) u) (m + 2) σ) J P T z 134 [some (.ref m), some (iv k), some (iv ((V0.length : Int) + 2 + -1)), some (iv (i : Int)), some (iv (585 + 3 * (i : Int)))] [iv ((V0.length : Int) + 2 + -1 - 1), .ref (m + 24)] := by
            intro q
            rw [bz_f q] at hr2
            refine r_iconst (pc := 134) dX11_isSaid_134 ?_
            refine r_goto (pc := 135) 163 dX11_isSaid_135 rfl ?_
            exact put 0 (Or.inl rfl) hr2
          refine r_aload_n (pc := 110) dX11_isSaid_110 rfl rfl ?_
          refine r_getr (pc := 111) (c := 11) (k := 61) (kz := 61) hs.o cok_11 (Nat.le_of_ble_eq_true rfl) q1921 ⟨rfl, rfl⟩ (Or.inl rfl) rfl (fun _ _ _ => rfl) hs.p_truths dX11_isSaid_111 ?_
          refine r_iload_n (pc := 114) dX11_isSaid_114 rfl rfl ?_
          refine r_iconst (pc := 115) dX11_isSaid_115 ?_
          refine r_isub (pc := 116) dX11_isSaid_116 ?_
          refine r_zald (pc := 117) hs.t_truths (by omega) (by omega) dX11_isSaid_117 (fun hr117 => ?_)
          try simp (disch := omega) only [ui_ur, ui_ur_n, ur_sv, ur_nv, ui_sv, ui_nv, ui_uis, us_s, us_n] at hr117 ⊢
          rw [hA9] at hr117 ⊢
          refine r_if_eq (pc := 118) 134 dX11_isSaid_118 rfl (by omega) (fun h118 => ?_) (fun h118 => ?_)
          · exact no (fun q => q.1 h118)
          refine r_aload_n (pc := 121) dX11_isSaid_121 rfl rfl ?_
          refine r_getr (pc := 122) (c := 11) (k := 61) (kz := 61) hs.o cok_11 (Nat.le_of_ble_eq_true rfl) q1921 ⟨rfl, rfl⟩ (Or.inl rfl) rfl (fun _ _ _ => rfl) hs.p_truths dX11_isSaid_122 ?_
          refine r_iload_n (pc := 125) dX11_isSaid_125 rfl rfl ?_
          refine r_zald (pc := 126) hs.t_truths (by omega) (by omega) dX11_isSaid_126 (fun hr126 => ?_)
          try simp (disch := omega) only [ui_ur, ui_ur_n, ur_sv, ur_nv, ui_sv, ui_nv, ui_uis, us_s, us_n] at hr126 ⊢
          rw [hB9] at hr126 ⊢
          refine r_if_eq (pc := 127) 134 dX11_isSaid_127 rfl (by omega) (fun h127 => ?_) (fun h127 => ?_)
          · exact no (fun q => q.2 h127)
          rw [bz_t ⟨h118, h127⟩] at hr2
          refine r_iconst (pc := 130) dX11_isSaid_130 ?_
          refine r_goto (pc := 131) 163 dX11_isSaid_131 rfl ?_
          exact put 1 (Or.inr rfl) hr2
        refine r_aload_n (pc := 64) dX11_isSaid_64 rfl rfl ?_
        refine r_getr (pc := 65) (c := 11) (k := 6) (kz := 6) hs.o cok_11 (Nat.le_of_ble_eq_true rfl) q1866 ⟨rfl, rfl⟩ (Or.inl rfl) rfl (fun _ _ _ => rfl) hs.p_s dX11_isSaid_65 ?_
        refine r_iload (pc := 68) dX11_isSaid_68 rfl ?_
        refine r_iald (pc := 70) hs.t_s (by omega) (by omega) dX11_isSaid_70 (fun hr70 => ?_)
        try simp (disch := omega) only [ui_ur, ui_ur_n, ur_sv, ur_nv, ui_sv, ui_nv, ui_uis, us_s, us_n] at hr70 ⊢
        rw [r0] at hr70 ⊢
        refine r_bipush (pc := 71) dX11_isSaid_71 (by decide +kernel) ?_
        refine r_icmp_eq (pc := 73) 88 dX11_isSaid_73 rfl (by omega) (by omega) (fun h73 => ?_) (fun h73 => ?_)
        · exact two (Or.inl h73)
        refine r_aload_n (pc := 76) dX11_isSaid_76 rfl rfl ?_
        refine r_getr (pc := 77) (c := 11) (k := 6) (kz := 6) hs.o cok_11 (Nat.le_of_ble_eq_true rfl) q1866 ⟨rfl, rfl⟩ (Or.inl rfl) rfl (fun _ _ _ => rfl) hs.p_s dX11_isSaid_77 ?_
        refine r_iload (pc := 80) dX11_isSaid_80 rfl ?_
        refine r_iald (pc := 82) hs.t_s (by omega) (by omega) dX11_isSaid_82 (fun hr82 => ?_)
        try simp (disch := omega) only [ui_ur, ui_ur_n, ur_sv, ur_nv, ui_sv, ui_nv, ui_uis, us_s, us_n] at hr82 ⊢
        rw [r0] at hr82 ⊢
        refine r_bipush (pc := 83) dX11_isSaid_83 (by decide +kernel) ?_
        refine r_icmp_ne (pc := 85) 167 dX11_isSaid_85 rfl (by omega) (by omega) (fun h85 => ?_) (fun h85 => ?_)
        · rw [if_neg (by omega)] at hdp
          rw [if_neg h73, if_neg h85] at hr2
          have c9 : c.1 < 10 := by rcases hoc with q | q | q | q <;> omega
          have lr := lfv_r (σ := σ) (k := k) (c := c)
          refine r_aload_n (pc := 167) dX11_isSaid_167 rfl rfl ?_
          refine r_getr (pc := 168) (c := 11) (k := 61) (kz := 61) hs.o cok_11 (Nat.le_of_ble_eq_true rfl) q1921 ⟨rfl, rfl⟩ (Or.inl rfl) rfl (fun _ _ _ => rfl) hs.p_truths dX11_isSaid_168 ?_
          refine r_iload_n (pc := 171) dX11_isSaid_171 rfl rfl ?_
          refine r_aload_n (pc := 172) dX11_isSaid_172 rfl rfl ?_
          refine r_iload_n (pc := 173) dX11_isSaid_173 rfl rfl ?_
          refine r_aload_n (pc := 174) dX11_isSaid_174 rfl rfl ?_
          refine r_getr (pc := 175) (c := 11) (k := 6) (kz := 6) hs.o cok_11 (Nat.le_of_ble_eq_true rfl) q1866 ⟨rfl, rfl⟩ (Or.inl rfl) rfl (fun _ _ _ => rfl) hs.p_s dX11_isSaid_175 ?_
          refine r_iload (pc := 178) dX11_isSaid_178 rfl ?_
          refine r_iald (pc := 180) hs.t_s (by omega) (by omega) dX11_isSaid_180 (fun hr180 => ?_)
          try simp (disch := omega) only [ui_ur, ui_ur_n, ur_sv, ur_nv, ui_sv, ui_nv, ui_uis, us_s, us_n] at hr180 ⊢
          rw [r0] at hr180 ⊢
          refine r_aload_n (pc := 181) dX11_isSaid_181 rfl rfl ?_
          refine r_getr (pc := 182) (c := 11) (k := 6) (kz := 6) hs.o cok_11 (Nat.le_of_ble_eq_true rfl) q1866 ⟨rfl, rfl⟩ (Or.inl rfl) rfl (fun _ _ _ => rfl) hs.p_s dX11_isSaid_182 ?_
          refine r_iload (pc := 185) dX11_isSaid_185 rfl ?_
          refine r_iconst (pc := 187) dX11_isSaid_187 ?_
          refine r_iadd (pc := 188) dX11_isSaid_188 ?_
          refine r_iald (pc := 189) hs.t_s (by omega) (by omega) dX11_isSaid_189 (fun hr189 => ?_)
          try simp (disch := omega) only [ui_ur, ui_ur_n, ur_sv, ur_nv, ui_sv, ui_nv, ui_uis, us_s, us_n] at hr189 ⊢
          rw [r1] at hr189 ⊢
          refine r_aload_n (pc := 190) dX11_isSaid_190 rfl rfl ?_
          refine r_getr (pc := 191) (c := 11) (k := 6) (kz := 6) hs.o cok_11 (Nat.le_of_ble_eq_true rfl) q1866 ⟨rfl, rfl⟩ (Or.inl rfl) rfl (fun _ _ _ => rfl) hs.p_s dX11_isSaid_191 ?_
          refine r_iload (pc := 194) dX11_isSaid_194 rfl ?_
          refine r_iconst (pc := 196) dX11_isSaid_196 ?_
          refine r_iadd (pc := 197) dX11_isSaid_197 ?_
          refine r_iald (pc := 198) hs.t_s (by omega) (by omega) dX11_isSaid_198 (fun hr198 => ?_)
          try simp (disch := omega) only [ui_ur, ui_ur_n, ur_sv, ur_nv, ui_sv, ui_nv, ui_uis, us_s, us_n] at hr198 ⊢
          rw [r2] at hr198 ⊢
          refine r_callV4 (pc := 199) (M_isLeaf (d := d) hs hw hk hoc c9 fe_i) im_X11_isLeaf qs116 q2454 hs.o rfl dX11_isSaid_199 (Nat.le_of_ble_eq_true rfl) (Nat.le_of_ble_eq_true rfl) rfl (k_fi ?_) (fun _ _ _ _ _ _ _ hx => no_x hx)
          refine r_zast (pc := 202) hs.t_truths (by omega) (by omega) (by omega) (by omega) dX11_isSaid_202 ?_
          try simp (disch := omega) only [ui_ur, ui_ur_n, ur_sv, ur_nv, ui_sv, ui_nv, ui_uis, us_s, us_n]
          refine r_iinc2 (pc := 203) (Nat.le_of_ble_eq_true rfl) dX11_isSaid_203 rfl ?_
          have := nxt (lfv σ k c :: V) (us u (V.length : Int) (lfv σ k c)) hdp hr2 (hku.push rfl) (fun y hy => by rcases List.mem_cons.mp hy with e | e; rw [e]; exact lr; exact hV y e) (by simp; omega)
          rw [show (((lfv σ k c :: V).length : Nat) : Int) = (V.length : Int) + 1 by simp] at this
          exact this
        exact two (Or.inr h85)
      rw [if_pos h34] at hdp hr2
      have V1 : 1 ≤ V.length := by
        refine Decidable.byContradiction fun c => ?_
        rw [if_neg c] at hdp
        cases hdp
      rw [if_pos V1] at hdp
      obtain ⟨a, V0, rfl⟩ : ∃ a V0, V = a :: V0 := by
        cases V with
        | nil => simp at V1
        | cons b Vr => exact ⟨b, Vr, rfl⟩
      have ha9 : u (V0.length : Int) = a := hku.1
      have ha1 := hV a (by simp)
      have hr2 : rcs σ k M (bz (a = 0) :: V0) = [v] := hr2
      have len1 : (((a :: V0).length : Nat) : Int) = (V0.length : Int) + 1 := by simp
      have hVl' : V0.length + 1 ≤ i := hVl
      rw [len1]
      have put : ∀ x : Int, (x = 0 ∨ x = 1) → rcs σ k M (x :: V0) = [v] → PW G mX11_isSaid (rmD (d + 3) 0 0) (MZ G Q nX 0 0) 0 0 (ur (ur I (m + 24) u) (m + 2) σ) J P T z 60 [some (.ref m), some (iv k), some (iv ((V0.length : Int) + 1)), some (iv (i : Int)), some (iv (585 + 3 * (i : Int)))] [iv x, iv ((V0.length : Int) + 1 - 1), .ref (m + 24)] := by
        intro x hx hrx
        refine r_zast (pc := 60) hs.t_truths (by omega) (by omega) (by omega) (by omega) dX11_isSaid_60 ?_
        try simp (disch := omega) only [ui_ur, ui_ur_n, ur_sv, ur_nv, ui_sv, ui_nv, ui_uis, us_s, us_n]
        refine r_goto (pc := 61) 206 dX11_isSaid_61 rfl ?_
        have := nxt (x :: V0) (us u (V0.length : Int) x) (by simpa using hdp) hrx ⟨us_s, hku.2.up (Int.le_refl _)⟩ (fun y hy => by rcases List.mem_cons.mp hy with e | e; rw [e]; exact hx; exact hV y (by simp [e])) (by simp; omega)
        rw [show (((x :: V0).length : Nat) : Int) = (V0.length : Int) + 1 by simp] at this
        rw [show (V0.length : Int) + 1 - 1 = (V0.length : Int) by omega]
        exact this
      have hA9 : u ((V0.length : Int) + 1 - 1) = a := by rw [show (V0.length : Int) + 1 - 1 = (V0.length : Int) by omega]; exact ha9
      refine r_aload_n (pc := 37) dX11_isSaid_37 rfl rfl ?_
      refine r_getr (pc := 38) (c := 11) (k := 61) (kz := 61) hs.o cok_11 (Nat.le_of_ble_eq_true rfl) q1921 ⟨rfl, rfl⟩ (Or.inl rfl) rfl (fun _ _ _ => rfl) hs.p_truths dX11_isSaid_38 ?_
      refine r_iload_n (pc := 41) dX11_isSaid_41 rfl rfl ?_
      refine r_iconst (pc := 42) dX11_isSaid_42 ?_
      refine r_isub (pc := 43) dX11_isSaid_43 ?_
      refine r_aload_n (pc := 44) dX11_isSaid_44 rfl rfl ?_
      refine r_getr (pc := 45) (c := 11) (k := 61) (kz := 61) hs.o cok_11 (Nat.le_of_ble_eq_true rfl) q1921 ⟨rfl, rfl⟩ (Or.inl rfl) rfl (fun _ _ _ => rfl) hs.p_truths dX11_isSaid_45 ?_
      refine r_iload_n (pc := 48) dX11_isSaid_48 rfl rfl ?_
      refine r_iconst (pc := 49) dX11_isSaid_49 ?_
      refine r_isub (pc := 50) dX11_isSaid_50 ?_
      refine r_zald (pc := 51) hs.t_truths (by omega) (by omega) dX11_isSaid_51 (fun hr51 => ?_)
      try simp (disch := omega) only [ui_ur, ui_ur_n, ur_sv, ur_nv, ui_sv, ui_nv, ui_uis, us_s, us_n] at hr51 ⊢
      rw [hA9] at hr51 ⊢
      refine r_if_ne (pc := 52) 59 dX11_isSaid_52 rfl (by omega) (fun h52 => ?_) (fun h52 => ?_)
      · rw [bz_f h52] at hr2
        refine r_iconst (pc := 59) dX11_isSaid_59 ?_
        exact put 0 (Or.inl rfl) hr2
      rw [bz_t h52] at hr2
      refine r_iconst (pc := 55) dX11_isSaid_55 ?_
      refine r_goto (pc := 56) 60 dX11_isSaid_56 rfl ?_
      exact put 1 (Or.inr rfl) hr2
  refine r_iconst (pc := 0) dX11_isSaid_0 ?_
  refine r_istore_n2 (pc := 1) (Nat.le_of_ble_eq_true rfl) dX11_isSaid_1 rfl ?_
  refine r_iconst (pc := 2) dX11_isSaid_2 ?_
  refine r_istore_n3 (pc := 3) (Nat.le_of_ble_eq_true rfl) dX11_isSaid_3 rfl ?_
  exact loop L 0 [] u none rfl (by omega) hd hv trivial (fun x q => by cases q) (Nat.le_refl _)
theorem M_said (hs : shM G P T m) (hw : WF σ) {q : Int} (hq : rg q) (hN : σ 584 = 0 → Q (some (iv (-1))) (ur (ur (ur I m (us ω 0 0)) (m + 24) u) (m + 2) σ) J P T z)
    (hS : σ 584 ≠ 0 → ∃ L, CDR σ L ∧ (∀ c ∈ L, okC 6 c) ∧ dpt L 0 = some 1 ∧ L.length ≤ 44 ∧ (∀ k : Int, ∃ v, (v = 0 ∨ v = 1) ∧ rcs σ k L [] = [v]) ∧ ∀ u', Q (some (iv (f_sd σ L q (σ 0).toNat 0 0))) (ur (ur (ur I m (us ω 0 0)) (m + 24) u') (m + 2) σ) J P T z) : MC G yX11_said (ws_ yX11_said cX11_said 4 (some FieldType.int)) (d + 4) 0 0 [.ref m, iv q] (ur (ur (ur I m ω) (m + 24) u) (m + 2) σ) J P T z Q nX := by
  have hb := hs.b
  have ht := hw.cv.ta
  refine MC.of (by decide) (Nat.le_of_ble_eq_true rfl) ?_
  show PW G mX11_said (rmD (d + 4) 0 0) (MZ G Q nX 0 0) 0 0 (ur (ur (ur I m ω) (m + 24) u) (m + 2) σ) J P T z 0 [some (.ref m), some (iv q), none, none] []
  refine r_aload_n (pc := 0) dX11_said_0 rfl rfl ?_
  refine r_iconst (pc := 1) dX11_said_1 ?_
  refine r_puti (pc := 2) (c := 11) (k := 0) (kz := 0) hs.o cok_11 (Nat.le_of_ble_eq_true rfl) q1860 ⟨rfl, rfl⟩ (Or.inl rfl) rfl (by omega) rfl rfl (by omega) (fun _ _ _ => rfl) ⟨rfl, rfl⟩ dX11_said_2 ?_
  try simp (disch := omega) only [ui_ur, ui_ur_n, ur_sv, ur_nv, ui_sv, ui_nv, ui_uis, us_s, us_n]
  refine r_aload_n (pc := 5) dX11_said_5 rfl rfl ?_
  refine r_getr (pc := 6) (c := 11) (k := 6) (kz := 6) hs.o cok_11 (Nat.le_of_ble_eq_true rfl) q1866 ⟨rfl, rfl⟩ (Or.inl rfl) rfl (fun _ _ _ => rfl) hs.p_s dX11_said_6 ?_
  refine r_sipush (pc := 9) dX11_said_9 (by decide +kernel) ?_
  refine r_iald (pc := 12) hs.t_s (by omega) (by omega) dX11_said_12 (fun hr12 => ?_)
  try simp (disch := omega) only [ui_ur, ui_ur_n, ur_sv, ur_nv, ui_sv, ui_nv, ui_uis, us_s, us_n] at hr12 ⊢
  by_cases c : σ 584 = 0
  · refine r_if_eq (pc := 13) 21 dX11_said_13 rfl (by omega) (fun h13 => ?_) (fun h13 => ?_)
    · refine r_iconst (pc := 21) dX11_said_21 ?_
      refine r_ireturn (pc := 22) rfl rfl dX11_said_22 (Nat.le_of_ble_eq_true rfl) (Nat.le_of_ble_eq_true rfl) ?_
      exact hN c
    exact absurd c h13
  obtain ⟨L, l1, l2, l3, l4, l5, l6⟩ := hS c
  clear hS hN
  refine r_if_eq (pc := 13) 21 dX11_said_13 rfl (by omega) (fun h13 => ?_) (fun h13 => ?_)
  · exact absurd h13 c
  refine r_iload_n (pc := 16) dX11_said_16 rfl rfl ?_
  refine r_iconst (pc := 17) dX11_said_17 ?_
  refine r_icmp_ge (pc := 18) 23 dX11_said_18 rfl (by omega) (by omega) (fun h18 => ?_) (fun h18 => ?_)
  · obtain ⟨V, hV⟩ : ∃ V, V = f_sd σ L q (σ 0).toNat 0 0 := ⟨_, rfl⟩
    rw [← hV] at l6
    have loop : ∀ (j : Nat) (c n : Int) (u : Int → Int), 0 ≤ c → c + j = σ 0 → 0 ≤ n → n ≤ c → V = f_sd σ L q j c n → PW G mX11_said (rmD (d + 4) 0 0) (MZ G Q nX 0 0) 0 0 (ur (ur (ur I m (us ω 0 0)) (m + 24) u) (m + 2) σ) J P T z 27 [some (.ref m), some (iv q), some (iv n), some (iv c)] [] := by
      intro j
      induction j with
      | zero =>
        intro c n u c0 c1 n0 n1 he
        refine r_iload_n (pc := 27) dX11_said_27 rfl rfl ?_
        refine r_aload_n (pc := 28) dX11_said_28 rfl rfl ?_
        refine r_getr (pc := 29) (c := 11) (k := 6) (kz := 6) hs.o cok_11 (Nat.le_of_ble_eq_true rfl) q1866 ⟨rfl, rfl⟩ (Or.inl rfl) rfl (fun _ _ _ => rfl) hs.p_s dX11_said_29 ?_
        refine r_iconst (pc := 32) dX11_said_32 ?_
        refine r_iald (pc := 33) hs.t_s (by omega) (by omega) dX11_said_33 (fun hr33 => ?_)
        try simp (disch := omega) only [ui_ur, ui_ur_n, ur_sv, ur_nv, ui_sv, ui_nv, ui_uis, us_s, us_n] at hr33 ⊢
        refine r_icmp_ge (pc := 34) 64 dX11_said_34 rfl (by omega) (by omega) (fun h34 => ?_) (fun h34 => ?_)
        · refine r_iload_n (pc := 64) dX11_said_64 rfl rfl ?_
          refine r_iconst (pc := 65) dX11_said_65 ?_
          refine r_icmp_ne (pc := 66) 73 dX11_said_66 rfl (by omega) (by omega) (fun h66 => ?_) (fun h66 => ?_)
          · have : f_sd σ L q 0 c n = -1 := if_neg h66
            rw [he, this] at l6
            refine r_iconst (pc := 73) dX11_said_73 ?_
            refine r_ireturn (pc := 74) rfl rfl dX11_said_74 (Nat.le_of_ble_eq_true rfl) (Nat.le_of_ble_eq_true rfl) ?_
            exact l6 u
          have : f_sd σ L q 0 c n = n := if_pos h66
          rw [he, this] at l6
          refine r_iload_n (pc := 69) dX11_said_69 rfl rfl ?_
          refine r_goto (pc := 70) 74 dX11_said_70 rfl ?_
          refine r_ireturn (pc := 74) rfl rfl dX11_said_74 (Nat.le_of_ble_eq_true rfl) (Nat.le_of_ble_eq_true rfl) ?_
          exact l6 u
        omega
      | succ j ih =>
        intro c n u c0 c1 n0 n1 he
        obtain ⟨v, v1, v2⟩ := l5 c
        unfold f_sd at he
        rw [v2] at he
        refine r_iload_n (pc := 27) dX11_said_27 rfl rfl ?_
        refine r_aload_n (pc := 28) dX11_said_28 rfl rfl ?_
        refine r_getr (pc := 29) (c := 11) (k := 6) (kz := 6) hs.o cok_11 (Nat.le_of_ble_eq_true rfl) q1866 ⟨rfl, rfl⟩ (Or.inl rfl) rfl (fun _ _ _ => rfl) hs.p_s dX11_said_29 ?_
        refine r_iconst (pc := 32) dX11_said_32 ?_
        refine r_iald (pc := 33) hs.t_s (by omega) (by omega) dX11_said_33 (fun hr33 => ?_)
        try simp (disch := omega) only [ui_ur, ui_ur_n, ur_sv, ur_nv, ui_sv, ui_nv, ui_uis, us_s, us_n] at hr33 ⊢
        refine r_icmp_ge (pc := 34) 64 dX11_said_34 rfl (by omega) (by omega) (fun h34 => ?_) (fun h34 => ?_)
        · omega
        refine r_aload_n (pc := 37) dX11_said_37 rfl rfl ?_
        refine r_iload_n (pc := 38) dX11_said_38 rfl rfl ?_
        refine r_callV1 (pc := 39) (M_isSaid (d := d) (Q := er (some (iv v)) (fun I' J' P' T' z' => J' = J ∧ P' = P ∧ T' = T ∧ z' = z ∧ ∃ u', I' = ur (ur (ur I m (us ω 0 0)) (m + 24) u') (m + 2) σ)) hs hw ⟨c0, by omega⟩ l1 l2 l3 l4 v2 v1 (fun u' => er_i ⟨rfl, rfl, rfl, rfl, u', rfl⟩)) im_X11_isSaid qs115 q2450 hs.o rfl dX11_said_39 (Nat.le_of_ble_eq_true rfl) (Nat.le_of_ble_eq_true rfl) rfl (k_er fun I' J' P' T' z' ⟨e1, e2, e3, e4, u', e5⟩ => ?_) (fun _ _ _ _ _ _ _ hx => no_x hx)
        subst e1 e2 e3 e4 e5
        show PW G mX11_said (rmD (d + 4) 0 0) (MZ G Q nX 0 0) 0 0 (ur (ur (ur I m (us ω 0 0)) (m + 24) u') (m + 2) σ) J' P' T' z' 42 [some (.ref m), some (iv q), some (iv n), some (iv c)] [iv v]
        refine r_if_ne (pc := 42) 48 dX11_said_42 rfl (by omega) (fun h42 => ?_) (fun h42 => ?_)
        · rw [if_neg (fun e => h42 (List.cons.inj e).1)] at he
          refine r_iload_n (pc := 48) dX11_said_48 rfl rfl ?_
          refine r_iload_n (pc := 49) dX11_said_49 rfl rfl ?_
          refine r_icmp_ne (pc := 50) 55 dX11_said_50 rfl (by omega) (by omega) (fun h50 => ?_) (fun h50 => ?_)
          · rw [if_neg h50] at he
            refine r_iinc2 (pc := 55) (Nat.le_of_ble_eq_true rfl) dX11_said_55 rfl ?_
            refine r_iinc3 (pc := 58) (Nat.le_of_ble_eq_true rfl) dX11_said_58 rfl ?_
            refine r_goto (pc := 61) 27 dX11_said_61 rfl ?_
            exact ih (c + 1) (n + 1) u' (by omega) (by omega) (by omega) (by omega) he
          rw [if_pos h50] at he
          rw [he] at l6
          refine r_iload_n (pc := 53) dX11_said_53 rfl rfl ?_
          refine r_ireturn (pc := 54) rfl rfl dX11_said_54 (Nat.le_of_ble_eq_true rfl) (Nat.le_of_ble_eq_true rfl) ?_
          exact l6 u'
        rw [if_pos (by rw [h42])] at he
        refine r_goto (pc := 45) 58 dX11_said_45 rfl ?_
        refine r_iinc3 (pc := 58) (Nat.le_of_ble_eq_true rfl) dX11_said_58 rfl ?_
        refine r_goto (pc := 61) 27 dX11_said_61 rfl ?_
        exact ih (c + 1) n u' (by omega) (by omega) (by omega) (by omega) he
    refine r_iconst (pc := 23) dX11_said_23 ?_
    refine r_istore_n2 (pc := 24) (Nat.le_of_ble_eq_true rfl) dX11_said_24 rfl ?_
    refine r_iconst (pc := 25) dX11_said_25 ?_
    refine r_istore_n3 (pc := 26) (Nat.le_of_ble_eq_true rfl) dX11_said_26 rfl ?_
    exact loop (σ 0).toNat 0 0 u (by omega) (by omega) (by omega) (by omega) hV
  have : f_sd σ L q (σ 0).toNat 0 0 = -1 := f_sd_n (by omega) _ _ _ (by omega)
  rw [this] at l6
  refine r_iconst (pc := 21) dX11_said_21 ?_
  refine r_ireturn (pc := 22) rfl rfl dX11_said_22 (Nat.le_of_ble_eq_true rfl) (Nat.le_of_ble_eq_true rfl) ?_
  exact l6 u
end M33
