/-! ===== the model: what one does not see ===== -/
section N7
variable {G : GE} {I J : HI} {P : HP} {T : HT} {z : Nat} {m d : Nat} {Q : QT} {σ ω lf κ : Int → Int}
abbrev hM (I : HI) (m : Nat) (lf κ ω σ : Int → Int) : HI := ur (ur (ur (ur I (m + 10) lf) (m + 11) κ) m ω) (m + 2) σ
abbrev un0 (σ : Int → Int) (o k : Int) : Int := if un σ o k ≤ 0 then 0 else un σ o k
theorem M_looks (hs : shM G P T m) (hcv : CV σ) {o : Int} (ho : 0 ≤ o ∧ o < σ 1)
    (hQ : ∀ Y, Y = f_kd (un σ o) 13 0 (0, fun _ => 0) → ∀ lf' κ' ω', (∀ j, j ≠ 33 → j ≠ 34 → j ≠ 35 → ω' j = ω j) → (Y.1 ≠ 0 → (ω' 33 = Y.2.1 ∧ 0 ≤ Y.2.1 ∧ Y.2.1 ≤ 6) ∧ (∀ i, 0 ≤ i → i < Y.2.1 → κ' i = Y.2.2 i ∧ (0 ≤ Y.2.2 i ∧ Y.2.2 i < 13) ∧ 0 < un σ o (Y.2.2 i)) ∧ (∀ k, 0 ≤ k → k < 13 → lf' k = un σ o k) ∧ ω' 35 = f_sl σ o ∧ ω' 34 = sm (un0 σ o) 13) → Q (some (iv (bz (Y.1 ≠ 0 ∧ f_sl σ o ≤ 12)))) (hM I m lf' κ' ω' σ) J P T z) : MC G yX11_looks (ws_ yX11_looks cX11_looks 4 (some FieldType.boolean)) (d + 1) 0 0 [.ref m, iv o] (hM I m lf κ ω σ) J P T z Q nX := by
  have hb := hs.b
  have ht := hcv.ta
  replace hQ := hQ _ rfl
  generalize hY : f_kd (un σ o) 13 0 (0, fun _ => 0) = Y at hQ
  refine MC.of (by decide) (Nat.le_of_ble_eq_true rfl) ?_
  show PW G mX11_looks (rmD (d + 1) 0 0) (MZ G Q nX 0 0) 0 0 (hM I m lf κ ω σ) J P T z 0 [some (.ref m), some (iv o), none, none] []
  refine r_aload_n (pc := 0) dX11_looks_0 rfl rfl ?_
  refine r_iconst (pc := 1) dX11_looks_1 ?_
  refine r_puti (pc := 2) (c := 11) (k := 33) (kz := 33) hs.o cok_11 (Nat.le_of_ble_eq_true rfl) q1893 ⟨rfl, rfl⟩ (Or.inl rfl) rfl (by omega) rfl rfl (by omega) (fun _ _ _ => rfl) ⟨rfl, rfl⟩ dX11_looks_2 ?_
  try simp (disch := omega) only [ui_ur, ui_ur_n, ur_sv, ur_nv, ui_sv, ui_nv, ui_uis, us_s, us_n]
  refine r_aload_n (pc := 5) dX11_looks_5 rfl rfl ?_
  refine r_iconst (pc := 6) dX11_looks_6 ?_
  refine r_puti (pc := 7) (c := 11) (k := 34) (kz := 34) hs.o cok_11 (Nat.le_of_ble_eq_true rfl) q1894 ⟨rfl, rfl⟩ (Or.inl rfl) rfl (by omega) rfl rfl (by omega) (fun _ _ _ => rfl) ⟨rfl, rfl⟩ dX11_looks_7 ?_
  try simp (disch := omega) only [ui_ur, ui_ur_n, ur_sv, ur_nv, ui_sv, ui_nv, ui_uis, us_s, us_n]
  refine r_aload_n (pc := 10) dX11_looks_10 rfl rfl ?_
  refine r_iconst (pc := 11) dX11_looks_11 ?_
  refine r_puti (pc := 12) (c := 11) (k := 35) (kz := 35) hs.o cok_11 (Nat.le_of_ble_eq_true rfl) q1895 ⟨rfl, rfl⟩ (Or.inl rfl) rfl (by omega) rfl rfl (by omega) (fun _ _ _ => rfl) ⟨rfl, rfl⟩ dX11_looks_12 ?_
  try simp (disch := omega) only [ui_ur, ui_ur_n, ur_sv, ur_nv, ui_sv, ui_nv, ui_uis, us_s, us_n]
  refine r_iconst (pc := 15) dX11_looks_15 ?_
  refine r_istore_n2 (pc := 16) (Nat.le_of_ble_eq_true rfl) dX11_looks_16 rfl ?_
  have l2 : ∀ (c : Nat) (k n : Int) (lf1 κ1 κc ω1 : Int → Int) (l3 : Option Value), 0 ≤ k → k + c = 13 → (0 ≤ n ∧ n ≤ 6) → ω1 33 = n → ω1 35 = f_sl σ o → ω1 34 = sm (un0 σ o) k.toNat → (∀ j, j ≠ 33 → j ≠ 34 → j ≠ 35 → ω1 j = ω j) → (∀ i, 0 ≤ i → i < n → κ1 i = κc i ∧ (0 ≤ κc i ∧ κc i < 13) ∧ 0 < un σ o (κc i)) → Y = f_kd (un σ o) c k (n, κc) → (∀ k', 0 ≤ k' → k' < k → lf1 k' = un σ o k') → PW G mX11_looks (rmD (d + 1) 0 0) (MZ G Q nX 0 0) 0 0 (hM I m lf1 κ1 ω1 σ) J P T z 63 [some (.ref m), some (iv o), some (iv k), l3] [] := by
    intro c
    induction c with
    | zero =>
      intro k n lf1 κ1 κc ω1 l3 h0 hm hn e33 e35 e34 hω hκ hY hlf
      obtain rfl : k = 13 := by omega
      have hY1 : Y = (1, n, κc) := hY
      have hsl : 0 ≤ f_sl σ o ∧ f_sl σ o ≤ 52 * 6 := by
        have := sm_bd (f := fun q => if q = o then 0 else σ (229 + q)) (a := 0) (b := 52) (n := (σ 1).toNat) (fun q x y => by
          have := hcv.cd (p := q) x (by omega)
          split <;> omega)
        unfold f_sl
        omega
      have hQ := hQ lf1 κ1 ω1 hω (fun _ => by rw [hY1]; exact ⟨⟨e33, hn⟩, hκ, hlf, e35, e34⟩)
      have eY : Y.1 ≠ 0 := by rw [hY1]; show (1 : Int) ≠ 0; decide
      refine r_iload_n (pc := 63) dX11_looks_63 rfl rfl ?_
      refine r_bipush (pc := 64) dX11_looks_64 (by decide +kernel) ?_
      refine r_icmp_ge (pc := 66) 227 dX11_looks_66 rfl (by omega) (by omega) (fun h66 => ?_) (fun h66 => ?_)
      · refine r_aload_n (pc := 227) dX11_looks_227 rfl rfl ?_
        refine r_geti (pc := 228) (c := 11) (k := 35) (kz := 35) hs.o cok_11 (Nat.le_of_ble_eq_true rfl) q1895 ⟨rfl, rfl⟩ (Or.inl rfl) rfl (fun _ _ _ => rfl) dX11_looks_228 (fun hr228 => ?_)
        try simp (disch := omega) only [ui_ur, ui_ur_n, ur_sv, ur_nv, ui_sv, ui_nv, ui_uis, us_s, us_n] at hr228 ⊢
        rw [e35] at hr228 ⊢
        refine r_bipush (pc := 231) dX11_looks_231 (by decide +kernel) ?_
        refine r_icmp_gt (pc := 233) 240 dX11_looks_233 rfl (by omega) (by omega) (fun h233 => ?_) (fun h233 => ?_)
        · rw [bz_f (fun c => by omega)] at hQ
          refine r_iconst (pc := 240) dX11_looks_240 ?_
          refine r_ireturn (pc := 241) rfl (nb_z (by omega)) dX11_looks_241 (Nat.le_of_ble_eq_true rfl) (Nat.le_of_ble_eq_true rfl) ?_
          exact hQ
        rw [bz_t ⟨eY, by omega⟩] at hQ
        refine r_iconst (pc := 236) dX11_looks_236 ?_
        refine r_goto (pc := 237) 241 dX11_looks_237 rfl ?_
        refine r_ireturn (pc := 241) rfl (nb_z (by omega)) dX11_looks_241 (Nat.le_of_ble_eq_true rfl) (Nat.le_of_ble_eq_true rfl) ?_
        exact hQ
      omega
    | succ c ih =>
      intro k n lf1 κ1 κc ω1 l3 h0 hm hn e33 e35 e34 hω hκ hY hlf
      have c1 := hcv.one (p := o) (k := k) (by omega) (by omega) h0 (by omega)
      have c2 := ct_r (η := σ) (k := k)
      have c3 := bz_r (p := 0 < σ (138 + k))
      have u4 := un_4 hcv (o := o) (k := k) (by omega) (by omega)
      have hs34 := sm_succ (f := un0 σ o) h0
      have sr34 := sm_bd (f := un0 σ o) (a := 0) (b := 4) (n := k.toNat) (fun i x y => by
        have := un_4 hcv (o := o) (k := i) (by omega) (by omega)
        show 0 ≤ (if un σ o i ≤ 0 then 0 else un σ o i) ∧ (if un σ o i ≤ 0 then 0 else un σ o i) ≤ 4
        split <;> omega)
      have tail : ∀ l3 : Option Value, PW G mX11_looks (rmD (d + 1) 0 0) (MZ G Q nX 0 0) 0 0 (hM I m (us lf1 k (un σ o k)) κ1 ω1 σ) J P T z 163 [some (.ref m), some (iv o), some (iv k), l3] [] := by
        intro l3
        have hlf2 : ∀ k', 0 ≤ k' → k' < k + 1 → us lf1 k (un σ o k) k' = un σ o k' := fun k' p p2 => by
          by_cases e : k' = k
          · subst e; exact us_s
          · rw [us_n e]; exact hlf k' p (by omega)
        have ug : -100 ≤ un σ o k := by
          have := un_s hcv (o := o) (k := k) (by omega) (m := (σ 1).toNat) (by omega)
          unfold un
          omega
        refine r_aload_n (pc := 163) dX11_looks_163 rfl rfl ?_
        refine r_getr (pc := 164) (c := 11) (k := 28) (kz := 28) hs.o cok_11 (Nat.le_of_ble_eq_true rfl) q1888 ⟨rfl, rfl⟩ (Or.inl rfl) rfl (fun _ _ _ => rfl) hs.p_left dX11_looks_164 ?_
        refine r_iload_n (pc := 167) dX11_looks_167 rfl rfl ?_
        refine r_iald (pc := 168) hs.t_left (by omega) (by omega) dX11_looks_168 (fun hr168 => ?_)
        try simp (disch := omega) only [ui_ur, ui_ur_n, ur_sv, ur_nv, ui_sv, ui_nv, ui_uis, us_s, us_n] at hr168 ⊢
        refine r_if_gt (pc := 169) 175 dX11_looks_169 rfl (by omega) (fun h169 => ?_) (fun h169 => ?_)
        · have eu : un0 σ o k = un σ o k := if_neg (by omega)
          rw [eu] at hs34
          refine r_aload_n (pc := 175) dX11_looks_175 rfl rfl ?_
          refine r_geti (pc := 176) (c := 11) (k := 33) (kz := 33) hs.o cok_11 (Nat.le_of_ble_eq_true rfl) q1893 ⟨rfl, rfl⟩ (Or.inl rfl) rfl (fun _ _ _ => rfl) dX11_looks_176 (fun hr176 => ?_)
          try simp (disch := omega) only [ui_ur, ui_ur_n, ur_sv, ur_nv, ui_sv, ui_nv, ui_uis, us_s, us_n] at hr176 ⊢
          rw [e33] at hr176 ⊢
          refine r_bipush (pc := 179) dX11_looks_179 (by decide +kernel) ?_
          refine r_icmp_ne (pc := 181) 186 dX11_looks_181 rfl (by omega) (by omega) (fun h181 => ?_) (fun h181 => ?_)
          · have hY2 : Y = f_kd (un σ o) c (k + 1) (n + 1, us κc n k) := by
              rw [hY]
              conv => lhs; unfold f_kd
              rw [if_neg (by omega), if_neg (by omega)]
            refine r_aload_n (pc := 186) dX11_looks_186 rfl rfl ?_
            refine r_getr (pc := 187) (c := 11) (k := 29) (kz := 29) hs.o cok_11 (Nat.le_of_ble_eq_true rfl) q1889 ⟨rfl, rfl⟩ (Or.inl rfl) rfl (fun _ _ _ => rfl) hs.p_kindAt dX11_looks_187 ?_
            refine r_aload_n (pc := 190) dX11_looks_190 rfl rfl ?_
            refine r_geti (pc := 191) (c := 11) (k := 33) (kz := 33) hs.o cok_11 (Nat.le_of_ble_eq_true rfl) q1893 ⟨rfl, rfl⟩ (Or.inl rfl) rfl (fun _ _ _ => rfl) dX11_looks_191 (fun hr191 => ?_)
            try simp (disch := omega) only [ui_ur, ui_ur_n, ur_sv, ur_nv, ui_sv, ui_nv, ui_uis, us_s, us_n] at hr191 ⊢
            rw [e33] at hr191 ⊢
            refine r_iload_n (pc := 194) dX11_looks_194 rfl rfl ?_
            refine r_iast (pc := 195) hs.t_kindAt (by omega) (by omega) (by omega) (by omega) dX11_looks_195 ?_
            try simp (disch := omega) only [ui_ur, ui_ur_n, ur_sv, ur_nv, ui_sv, ui_nv, ui_uis, us_s, us_n]
            refine r_aload_n (pc := 196) dX11_looks_196 rfl rfl ?_
            refine r_dup (pc := 197) dX11_looks_197 rfl ?_
            refine r_geti (pc := 198) (c := 11) (k := 33) (kz := 33) hs.o cok_11 (Nat.le_of_ble_eq_true rfl) q1893 ⟨rfl, rfl⟩ (Or.inl rfl) rfl (fun _ _ _ => rfl) dX11_looks_198 (fun hr198 => ?_)
            try simp (disch := omega) only [ui_ur, ui_ur_n, ur_sv, ur_nv, ui_sv, ui_nv, ui_uis, us_s, us_n] at hr198 ⊢
            rw [e33] at hr198 ⊢
            refine r_iconst (pc := 201) dX11_looks_201 ?_
            refine r_iadd (pc := 202) dX11_looks_202 ?_
            refine r_puti (pc := 203) (c := 11) (k := 33) (kz := 33) hs.o cok_11 (Nat.le_of_ble_eq_true rfl) q1893 ⟨rfl, rfl⟩ (Or.inl rfl) rfl (by omega) rfl rfl (by omega) (fun _ _ _ => rfl) ⟨rfl, rfl⟩ dX11_looks_203 ?_
            try simp (disch := omega) only [ui_ur, ui_ur_n, ur_sv, ur_nv, ui_sv, ui_nv, ui_uis, us_s, us_n]
            refine r_aload_n (pc := 206) dX11_looks_206 rfl rfl ?_
            refine r_dup (pc := 207) dX11_looks_207 rfl ?_
            refine r_geti (pc := 208) (c := 11) (k := 34) (kz := 34) hs.o cok_11 (Nat.le_of_ble_eq_true rfl) q1894 ⟨rfl, rfl⟩ (Or.inl rfl) rfl (fun _ _ _ => rfl) dX11_looks_208 (fun hr208 => ?_)
            try simp (disch := omega) only [ui_ur, ui_ur_n, ur_sv, ur_nv, ui_sv, ui_nv, ui_uis, us_s, us_n] at hr208 ⊢
            rw [e34] at hr208 ⊢
            refine r_aload_n (pc := 211) dX11_looks_211 rfl rfl ?_
            refine r_getr (pc := 212) (c := 11) (k := 28) (kz := 28) hs.o cok_11 (Nat.le_of_ble_eq_true rfl) q1888 ⟨rfl, rfl⟩ (Or.inl rfl) rfl (fun _ _ _ => rfl) hs.p_left dX11_looks_212 ?_
            refine r_iload_n (pc := 215) dX11_looks_215 rfl rfl ?_
            refine r_iald (pc := 216) hs.t_left (by omega) (by omega) dX11_looks_216 (fun hr216 => ?_)
            try simp (disch := omega) only [ui_ur, ui_ur_n, ur_sv, ur_nv, ui_sv, ui_nv, ui_uis, us_s, us_n] at hr216 ⊢
            refine r_iadd (pc := 217) dX11_looks_217 ?_
            refine r_puti (pc := 218) (c := 11) (k := 34) (kz := 34) hs.o cok_11 (Nat.le_of_ble_eq_true rfl) q1894 ⟨rfl, rfl⟩ (Or.inl rfl) rfl (by omega) rfl rfl (by omega) (fun _ _ _ => rfl) ⟨rfl, rfl⟩ dX11_looks_218 ?_
            try simp (disch := omega) only [ui_ur, ui_ur_n, ur_sv, ur_nv, ui_sv, ui_nv, ui_uis, us_s, us_n]
            refine r_iinc2 (pc := 221) (Nat.le_of_ble_eq_true rfl) dX11_looks_221 rfl ?_
            refine r_goto (pc := 224) 63 dX11_looks_224 rfl ?_
            refine ih (k + 1) (n + 1) (us lf1 k (un σ o k)) (us κ1 n k) (us κc n k) (us (us ω1 33 (n + 1)) 34 (sm (un0 σ o) k.toNat + un σ o k)) l3 (by omega) (by omega) (by omega) (by rw [us_n (by omega), us_s]) (by rw [us_n (by omega), us_n (by omega)]; exact e35) (by rw [us_s]; exact hs34) (fun j p p2 p3 => by rw [us_n p2, us_n p]; exact hω j p p2 p3) (fun i p p2 => ?_) hY2 hlf2
            by_cases e : i = n
            · subst e
              rw [us_s, us_s]
              exact ⟨rfl, by omega, by omega⟩
            · rw [us_n e, us_n e]
              exact hκ i p (by omega)
          have hY2 : Y.1 = 0 := by
            rw [hY]
            unfold f_kd
            rw [if_neg (by omega), if_pos (by omega)]
          have hQ := hQ (us lf1 k (un σ o k)) κ1 ω1 hω (fun c => absurd hY2 c)
          rw [bz_f (fun c => c.1 hY2)] at hQ
          refine r_iconst (pc := 184) dX11_looks_184 ?_
          refine r_ireturn (pc := 185) rfl (nb_z (by omega)) dX11_looks_185 (Nat.le_of_ble_eq_true rfl) (Nat.le_of_ble_eq_true rfl) ?_
          exact hQ
        have eu : un0 σ o k = 0 := if_pos (by omega)
        rw [eu, Int.add_zero] at hs34
        refine r_goto (pc := 172) 221 dX11_looks_172 rfl ?_
        refine r_iinc2 (pc := 221) (Nat.le_of_ble_eq_true rfl) dX11_looks_221 rfl ?_
        refine r_goto (pc := 224) 63 dX11_looks_224 rfl ?_
        refine ih (k + 1) n (us lf1 k (un σ o k)) κ1 κc ω1 l3 (by omega) (by omega) hn e33 e35 (by rw [e34]; exact hs34) hω hκ ?_ hlf2
        rw [hY]
        conv => lhs; unfold f_kd
        rw [if_pos (by omega)]
      have inner : ∀ (w : Nat) (q : Int), 0 ≤ q → q + w = σ 1 → PW G mX11_looks (rmD (d + 1) 0 0) (MZ G Q nX 0 0) 0 0 (hM I m (us lf1 k (σ (571 + k) - 4 * bz (0 < σ (138 + k)) - σ (60 + 13 * o + k) - sm (fun q => if q = o then 0 else σ (151 + 13 * q + k)) q.toNat)) κ1 ω1 σ) J P T z 114 [some (.ref m), some (iv o), some (iv k), some (iv q)] [] := by
        intro w
        induction w with
        | zero =>
          intro q q0 qw
          obtain rfl : q = σ 1 := by omega
          refine r_iload_n (pc := 114) dX11_looks_114 rfl rfl ?_
          refine r_aload_n (pc := 115) dX11_looks_115 rfl rfl ?_
          refine r_getr (pc := 116) (c := 11) (k := 6) (kz := 6) hs.o cok_11 (Nat.le_of_ble_eq_true rfl) q1866 ⟨rfl, rfl⟩ (Or.inl rfl) rfl (fun _ _ _ => rfl) hs.p_s dX11_looks_116 ?_
          refine r_iconst (pc := 119) dX11_looks_119 ?_
          refine r_iald (pc := 120) hs.t_s (by omega) (by omega) dX11_looks_120 (fun hr120 => ?_)
          try simp (disch := omega) only [ui_ur, ui_ur_n, ur_sv, ur_nv, ui_sv, ui_nv, ui_uis, us_s, us_n] at hr120 ⊢
          refine r_icmp_ge (pc := 121) 163 dX11_looks_121 rfl (by omega) (by omega) (fun h121 => ?_) (fun h121 => ?_)
          · have := tail (some (iv (σ 1)))
            rw [show un σ o k = σ (571 + k) - 4 * bz (0 < σ (138 + k)) - σ (60 + 13 * o + k) - sm (fun q => if q = o then 0 else σ (151 + 13 * q + k)) (σ 1).toNat by unfold un; omega] at this
            exact this
          omega
        | succ w ihw =>
          intro q q0 qw
          have hs9 := sm_succ (f := fun q => if q = o then 0 else σ (151 + 13 * q + k)) q0
          have s9 := un_s hcv (o := o) (k := k) (by omega) (m := q.toNat) (by omega)
          have kn9 := hcv.kn (p := q) (k := k) (by omega) (by omega) h0 (by omega)
          have h49 := hcv.h4 (p := q) (k := k) (by omega) (by omega) h0 (by omega)
          have step : ∀ v : Int, v = (if q = o then 0 else σ (151 + 13 * q + k)) → PW G mX11_looks (rmD (d + 1) 0 0) (MZ G Q nX 0 0) 0 0 (hM I m (us lf1 k (σ (571 + k) - 4 * bz (0 < σ (138 + k)) - σ (60 + 13 * o + k) - sm (fun q => if q = o then 0 else σ (151 + 13 * q + k)) q.toNat)) κ1 ω1 σ) J P T z 155 [some (.ref m), some (iv o), some (iv k), some (iv q)] [iv v, iv (σ (571 + k) - 4 * bz (0 < σ (138 + k)) - σ (60 + 13 * o + k) - sm (fun q => if q = o then 0 else σ (151 + 13 * q + k)) q.toNat), iv k, .ref (m + 10)] := by
            intro v ev
            have v9 : 0 ≤ v ∧ v ≤ 4 := by rw [ev]; split <;> omega
            refine r_isub (pc := 155) dX11_looks_155 ?_
            refine r_iast (pc := 156) hs.t_left (by omega) (by omega) (by omega) (by omega) dX11_looks_156 ?_
            try simp (disch := omega) only [ui_ur, ui_ur_n, ur_sv, ur_nv, ui_sv, ui_nv, ui_uis, us_s, us_n]
            rw [us_us]
            refine r_iinc3 (pc := 157) (Nat.le_of_ble_eq_true rfl) dX11_looks_157 rfl ?_
            refine r_goto (pc := 160) 114 dX11_looks_160 rfl ?_
            have := ihw (q + 1) (by omega) (by omega)
            rw [← hs9, ← ev, ← Int.sub_sub] at this
            exact this
          refine r_iload_n (pc := 114) dX11_looks_114 rfl rfl ?_
          refine r_aload_n (pc := 115) dX11_looks_115 rfl rfl ?_
          refine r_getr (pc := 116) (c := 11) (k := 6) (kz := 6) hs.o cok_11 (Nat.le_of_ble_eq_true rfl) q1866 ⟨rfl, rfl⟩ (Or.inl rfl) rfl (fun _ _ _ => rfl) hs.p_s dX11_looks_116 ?_
          refine r_iconst (pc := 119) dX11_looks_119 ?_
          refine r_iald (pc := 120) hs.t_s (by omega) (by omega) dX11_looks_120 (fun hr120 => ?_)
          try simp (disch := omega) only [ui_ur, ui_ur_n, ur_sv, ur_nv, ui_sv, ui_nv, ui_uis, us_s, us_n] at hr120 ⊢
          refine r_icmp_ge (pc := 121) 163 dX11_looks_121 rfl (by omega) (by omega) (fun h121 => ?_) (fun h121 => ?_)
          · omega
          refine r_aload_n (pc := 124) dX11_looks_124 rfl rfl ?_
          refine r_getr (pc := 125) (c := 11) (k := 28) (kz := 28) hs.o cok_11 (Nat.le_of_ble_eq_true rfl) q1888 ⟨rfl, rfl⟩ (Or.inl rfl) rfl (fun _ _ _ => rfl) hs.p_left dX11_looks_125 ?_
          refine r_iload_n (pc := 128) dX11_looks_128 rfl rfl ?_
          refine r_dup2 (pc := 129) dX11_looks_129 rfl rfl ?_
          refine r_iald (pc := 130) hs.t_left (by omega) (by omega) dX11_looks_130 (fun hr130 => ?_)
          try simp (disch := omega) only [ui_ur, ui_ur_n, ur_sv, ur_nv, ui_sv, ui_nv, ui_uis, us_s, us_n] at hr130 ⊢
          refine r_iload_n (pc := 131) dX11_looks_131 rfl rfl ?_
          refine r_iload_n (pc := 132) dX11_looks_132 rfl rfl ?_
          refine r_icmp_ne (pc := 133) 140 dX11_looks_133 rfl (by omega) (by omega) (fun h133 => ?_) (fun h133 => ?_)
          · refine r_aload_n (pc := 140) dX11_looks_140 rfl rfl ?_
            refine r_getr (pc := 141) (c := 11) (k := 6) (kz := 6) hs.o cok_11 (Nat.le_of_ble_eq_true rfl) q1866 ⟨rfl, rfl⟩ (Or.inl rfl) rfl (fun _ _ _ => rfl) hs.p_s dX11_looks_141 ?_
            refine r_sipush (pc := 144) dX11_looks_144 (by decide +kernel) ?_
            refine r_bipush (pc := 147) dX11_looks_147 (by decide +kernel) ?_
            refine r_iload_n (pc := 149) dX11_looks_149 rfl rfl ?_
            refine r_imul (pc := 150) dX11_looks_150 ?_
            refine r_iadd (pc := 151) dX11_looks_151 ?_
            refine r_iload_n (pc := 152) dX11_looks_152 rfl rfl ?_
            refine r_iadd (pc := 153) dX11_looks_153 ?_
            refine r_iald (pc := 154) hs.t_s (by omega) (by omega) dX11_looks_154 (fun hr154 => ?_)
            try simp (disch := omega) only [ui_ur, ui_ur_n, ur_sv, ur_nv, ui_sv, ui_nv, ui_uis, us_s, us_n] at hr154 ⊢
            exact step _ (if_neg h133).symm
          refine r_iconst (pc := 136) dX11_looks_136 ?_
          refine r_goto (pc := 137) 155 dX11_looks_137 rfl ?_
          exact step _ (if_pos (by omega)).symm
      have join : ∀ v : Int, v = 4 * bz (0 < σ (138 + k)) → PW G mX11_looks (rmD (d + 1) 0 0) (MZ G Q nX 0 0) 0 0 (hM I m lf1 κ1 ω1 σ) J P T z 102 [some (.ref m), some (iv o), some (iv k), l3] [iv v, iv (σ (571 + k)), iv k, .ref (m + 10)] := by
        intro v ev
        subst ev
        refine r_isub (pc := 102) dX11_looks_102 ?_
        refine r_aload_n (pc := 103) dX11_looks_103 rfl rfl ?_
        refine r_iload_n (pc := 104) dX11_looks_104 rfl rfl ?_
        refine r_iload_n (pc := 105) dX11_looks_105 rfl rfl ?_
        refine r_iconst (pc := 106) dX11_looks_106 ?_
        refine r_callV3 (pc := 107) (M_hand0 hs (by omega) (by omega) fe_i) im_X11_handOf qs73 q2138 hs.o rfl dX11_looks_107 (Nat.le_of_ble_eq_true rfl) (Nat.le_of_ble_eq_true rfl) rfl (k_fi ?_) (fun _ _ _ _ _ _ _ hx => no_x hx)
        refine r_isub (pc := 110) dX11_looks_110 ?_
        refine r_iast (pc := 111) hs.t_left (by omega) (by omega) (by omega) (by omega) dX11_looks_111 ?_
        try simp (disch := omega) only [ui_ur, ui_ur_n, ur_sv, ur_nv, ui_sv, ui_nv, ui_uis, us_s, us_n]
        refine r_iconst (pc := 112) dX11_looks_112 ?_
        refine r_istore_n3 (pc := 113) (Nat.le_of_ble_eq_true rfl) dX11_looks_113 rfl ?_
        have := inner (σ 1).toNat 0 (by omega) (by omega)
        rw [show sm (fun q => if q = o then 0 else σ (151 + 13 * q + k)) (0 : Int).toNat = 0 from rfl, Int.sub_zero] at this
        exact this
      have hbk := hcv.bk (k := k) h0 (by omega)
      refine r_iload_n (pc := 63) dX11_looks_63 rfl rfl ?_
      refine r_bipush (pc := 64) dX11_looks_64 (by decide +kernel) ?_
      refine r_icmp_ge (pc := 66) 227 dX11_looks_66 rfl (by omega) (by omega) (fun h66 => ?_) (fun h66 => ?_)
      · omega
      refine r_aload_n (pc := 69) dX11_looks_69 rfl rfl ?_
      refine r_getr (pc := 70) (c := 11) (k := 28) (kz := 28) hs.o cok_11 (Nat.le_of_ble_eq_true rfl) q1888 ⟨rfl, rfl⟩ (Or.inl rfl) rfl (fun _ _ _ => rfl) hs.p_left dX11_looks_70 ?_
      refine r_iload_n (pc := 73) dX11_looks_73 rfl rfl ?_
      refine r_aload_n (pc := 74) dX11_looks_74 rfl rfl ?_
      refine r_getr (pc := 75) (c := 11) (k := 6) (kz := 6) hs.o cok_11 (Nat.le_of_ble_eq_true rfl) q1866 ⟨rfl, rfl⟩ (Or.inl rfl) rfl (fun _ _ _ => rfl) hs.p_s dX11_looks_75 ?_
      refine r_sipush (pc := 78) dX11_looks_78 (by decide +kernel) ?_
      refine r_iload_n (pc := 81) dX11_looks_81 rfl rfl ?_
      refine r_iadd (pc := 82) dX11_looks_82 ?_
      refine r_iald (pc := 83) hs.t_s (by omega) (by omega) dX11_looks_83 (fun hr83 => ?_)
      try simp (disch := omega) only [ui_ur, ui_ur_n, ur_sv, ur_nv, ui_sv, ui_nv, ui_uis, us_s, us_n] at hr83 ⊢
      refine r_aload_n (pc := 84) dX11_looks_84 rfl rfl ?_
      refine r_getr (pc := 85) (c := 11) (k := 6) (kz := 6) hs.o cok_11 (Nat.le_of_ble_eq_true rfl) q1866 ⟨rfl, rfl⟩ (Or.inl rfl) rfl (fun _ _ _ => rfl) hs.p_s dX11_looks_85 ?_
      refine r_sipush (pc := 88) dX11_looks_88 (by decide +kernel) ?_
      refine r_iload_n (pc := 91) dX11_looks_91 rfl rfl ?_
      refine r_iadd (pc := 92) dX11_looks_92 ?_
      refine r_iald (pc := 93) hs.t_s (by omega) (by omega) dX11_looks_93 (fun hr93 => ?_)
      try simp (disch := omega) only [ui_ur, ui_ur_n, ur_sv, ur_nv, ui_sv, ui_nv, ui_uis, us_s, us_n] at hr93 ⊢
      refine r_if_le (pc := 94) 101 dX11_looks_94 rfl (by omega) (fun h94 => ?_) (fun h94 => ?_)
      · refine r_iconst (pc := 101) dX11_looks_101 ?_
        exact join 0 (by rw [bz_f (by omega)]; omega)
      refine r_iconst (pc := 97) dX11_looks_97 ?_
      refine r_goto (pc := 98) 102 dX11_looks_98 rfl ?_
      exact join 4 (by rw [bz_t (by omega)]; omega)
  have l1 : ∀ (w : Nat) (q : Int), 0 ≤ q → q + w = σ 1 → PW G mX11_looks (rmD (d + 1) 0 0) (MZ G Q nX 0 0) 0 0 (hM I m lf κ (us (us (us ω 33 0) 34 0) 35 (sm (fun q => if q = o then 0 else σ (229 + q)) q.toNat)) σ) J P T z 17 [some (.ref m), some (iv o), some (iv q), none] [] := by
    intro w
    induction w with
    | zero =>
      intro q q0 qw
      obtain rfl : q = σ 1 := by omega
      refine r_iload_n (pc := 17) dX11_looks_17 rfl rfl ?_
      refine r_aload_n (pc := 18) dX11_looks_18 rfl rfl ?_
      refine r_getr (pc := 19) (c := 11) (k := 6) (kz := 6) hs.o cok_11 (Nat.le_of_ble_eq_true rfl) q1866 ⟨rfl, rfl⟩ (Or.inl rfl) rfl (fun _ _ _ => rfl) hs.p_s dX11_looks_19 ?_
      refine r_iconst (pc := 22) dX11_looks_22 ?_
      refine r_iald (pc := 23) hs.t_s (by omega) (by omega) dX11_looks_23 (fun hr23 => ?_)
      try simp (disch := omega) only [ui_ur, ui_ur_n, ur_sv, ur_nv, ui_sv, ui_nv, ui_uis, us_s, us_n] at hr23 ⊢
      refine r_icmp_ge (pc := 24) 61 dX11_looks_24 rfl (by omega) (by omega) (fun h24 => ?_) (fun h24 => ?_)
      · refine r_iconst (pc := 61) dX11_looks_61 ?_
        refine r_istore_n2 (pc := 62) (Nat.le_of_ble_eq_true rfl) dX11_looks_62 rfl ?_
        exact l2 13 0 0 lf κ (fun _ => 0) _ none (by omega) (by omega) (by omega) (by rw [us_n (by omega), us_n (by omega), us_s]) us_s (by rw [us_n (by omega), us_s]; rfl) (fun j p p2 p3 => by rw [us_n p3, us_n p2, us_n p]) (fun i p p2 => by omega) hY.symm (fun k' p p2 => by omega)
      omega
    | succ w ihw =>
      intro q q0 qw
      have hs9 := sm_succ (f := fun q => if q = o then 0 else σ (229 + q)) q0
      have hoq := hcv.cd (p := q) (by omega) (by omega)
      have s9 := sm_bd (f := fun q => if q = o then 0 else σ (229 + q)) (a := 0) (b := 52) (n := q.toNat) (fun q x y => by
        have := hcv.cd (p := q) x (by omega)
        split <;> omega)
      have step : ∀ v : Int, v = (if q = o then 0 else σ (229 + q)) → PW G mX11_looks (rmD (d + 1) 0 0) (MZ G Q nX 0 0) 0 0 (hM I m lf κ (us (us (us ω 33 0) 34 0) 35 (sm (fun q => if q = o then 0 else σ (229 + q)) q.toNat)) σ) J P T z 51 [some (.ref m), some (iv o), some (iv q), none] [iv v, iv (sm (fun q => if q = o then 0 else σ (229 + q)) q.toNat), .ref m] := by
        intro v ev
        have v9 : 0 ≤ v ∧ v ≤ 52 := by rw [ev]; split <;> omega
        refine r_iadd (pc := 51) dX11_looks_51 ?_
        refine r_puti (pc := 52) (c := 11) (k := 35) (kz := 35) hs.o cok_11 (Nat.le_of_ble_eq_true rfl) q1895 ⟨rfl, rfl⟩ (Or.inl rfl) rfl (by omega) rfl rfl (by omega) (fun _ _ _ => rfl) ⟨rfl, rfl⟩ dX11_looks_52 ?_
        try simp (disch := omega) only [ui_ur, ui_ur_n, ur_sv, ur_nv, ui_sv, ui_nv, ui_uis, us_s, us_n]
        rw [us_us]
        refine r_iinc2 (pc := 55) (Nat.le_of_ble_eq_true rfl) dX11_looks_55 rfl ?_
        refine r_goto (pc := 58) 17 dX11_looks_58 rfl ?_
        have := ihw (q + 1) (by omega) (by omega)
        rw [← hs9, ← ev] at this
        exact this
      refine r_iload_n (pc := 17) dX11_looks_17 rfl rfl ?_
      refine r_aload_n (pc := 18) dX11_looks_18 rfl rfl ?_
      refine r_getr (pc := 19) (c := 11) (k := 6) (kz := 6) hs.o cok_11 (Nat.le_of_ble_eq_true rfl) q1866 ⟨rfl, rfl⟩ (Or.inl rfl) rfl (fun _ _ _ => rfl) hs.p_s dX11_looks_19 ?_
      refine r_iconst (pc := 22) dX11_looks_22 ?_
      refine r_iald (pc := 23) hs.t_s (by omega) (by omega) dX11_looks_23 (fun hr23 => ?_)
      try simp (disch := omega) only [ui_ur, ui_ur_n, ur_sv, ur_nv, ui_sv, ui_nv, ui_uis, us_s, us_n] at hr23 ⊢
      refine r_icmp_ge (pc := 24) 61 dX11_looks_24 rfl (by omega) (by omega) (fun h24 => ?_) (fun h24 => ?_)
      · omega
      refine r_aload_n (pc := 27) dX11_looks_27 rfl rfl ?_
      refine r_dup (pc := 28) dX11_looks_28 rfl ?_
      refine r_geti (pc := 29) (c := 11) (k := 35) (kz := 35) hs.o cok_11 (Nat.le_of_ble_eq_true rfl) q1895 ⟨rfl, rfl⟩ (Or.inl rfl) rfl (fun _ _ _ => rfl) dX11_looks_29 (fun hr29 => ?_)
      try simp (disch := omega) only [ui_ur, ui_ur_n, ur_sv, ur_nv, ui_sv, ui_nv, ui_uis, us_s, us_n] at hr29 ⊢
      refine r_iload_n (pc := 32) dX11_looks_32 rfl rfl ?_
      refine r_iload_n (pc := 33) dX11_looks_33 rfl rfl ?_
      refine r_icmp_ne (pc := 34) 41 dX11_looks_34 rfl (by omega) (by omega) (fun h34 => ?_) (fun h34 => ?_)
      · refine r_aload_n (pc := 41) dX11_looks_41 rfl rfl ?_
        refine r_getr (pc := 42) (c := 11) (k := 6) (kz := 6) hs.o cok_11 (Nat.le_of_ble_eq_true rfl) q1866 ⟨rfl, rfl⟩ (Or.inl rfl) rfl (fun _ _ _ => rfl) hs.p_s dX11_looks_42 ?_
        refine r_sipush (pc := 45) dX11_looks_45 (by decide +kernel) ?_
        refine r_iload_n (pc := 48) dX11_looks_48 rfl rfl ?_
        refine r_iadd (pc := 49) dX11_looks_49 ?_
        refine r_iald (pc := 50) hs.t_s (by omega) (by omega) dX11_looks_50 (fun hr50 => ?_)
        try simp (disch := omega) only [ui_ur, ui_ur_n, ur_sv, ur_nv, ui_sv, ui_nv, ui_uis, us_s, us_n] at hr50 ⊢
        exact step _ (if_neg h34).symm
      refine r_iconst (pc := 37) dX11_looks_37 ?_
      refine r_goto (pc := 38) 51 dX11_looks_38 rfl ?_
      exact step _ (if_pos (by omega)).symm
  exact l1 (σ 1).toNat 0 (by omega) (by omega)
end N7
