/-! ===== the model: a sentence is read ===== -/
section M30p
variable {τ ω f rd st : Int → Int} {O : List CD} {S : List Int} {c o t d w v j : Int} {s : TS}
/-- codes, how many, top, how deep, whether whole -/
abbrev y5 (f : Int → Int) (c o t d w : Int) : Int → Int := us (us (us (us (us f 56 c) 57 o) 58 t) 59 d) 60 w
theorem y5_56 : us (y5 f c o t d w) 56 v = y5 f v o t d w := by
  funext j
  simp only [us]
  by_cases h : j = 56 <;> simp [h]
theorem y5_57 : us (y5 f c o t d w) 57 v = y5 f c v t d w := by
  funext j
  simp only [us]
  by_cases h : j = 57 <;> simp [h]
theorem y5_58 : us (y5 f c o t d w) 58 v = y5 f c o v d w := by
  funext j
  simp only [us]
  by_cases h : j = 58 <;> simp [h]
theorem y5_59 : us (y5 f c o t d w) 59 v = y5 f c o t v w := by
  funext j
  simp only [us]
  by_cases h : j = 59 <;> simp [h]
theorem y5_60 : us (y5 f c o t d w) 60 v = y5 f c o t d v := us_us
theorem y5_n (h : j < 56) : y5 f c o t d w j = f j := by
  show us (us (us (us (us f 56 c) 57 o) 58 t) 59 d) 60 w j = _
  rw [us_n (by omega), us_n (by omega), us_n (by omega), us_n (by omega), us_n (by omega)]
/-- a place from 19 on has nothing to do with tokens -/
theorem t_next_us {x : Int} (hj : 19 ≤ j) : t_next τ (us ω j v) x = (us (t_next τ ω x).1 j v, (t_next τ ω x).2) := by
  have e3 : us ω j v 3 = ω 3 := us_n (by omega)
  have e4 : us ω j v 4 = ω 4 := us_n (by omega)
  have e5 : us ω j v 5 = ω 5 := us_n (by omega)
  have er : ∀ p, t_run τ (us ω j v) p = t_run τ ω p := fun p => by unfold t_run; rw [e3]
  have cm : ∀ (g : Int → Int) (i y : Int), i < 19 → us (us g j v) i y = us (us g i y) j v := fun g i y h => us_comm (by omega)
  unfold t_next
  rw [e3, e4]
  generalize t_skip τ (ω 3) (ω 3 - ω 4).toNat (ω 4) = p
  unfold t_next1
  dsimp only
  rw [e3, e5, er]
  split
  · rw [cm _ 4 _ (by omega), cm _ 12 _ (by omega), cm _ 13 _ (by omega), cm _ 12 _ (by omega), cm _ 11 _ (by omega)]
  · split
    · rw [cm _ 4 _ (by omega), cm _ 12 _ (by omega), cm _ 13 _ (by omega), cm _ 11 _ (by omega)]
    · split
      · rw [cm _ 4 _ (by omega), cm _ 12 _ (by omega), cm _ 13 _ (by omega), cm _ 11 _ (by omega), cm _ 14 _ (by omega), cm _ 4 _ (by omega)]
      · rw [cm _ 4 _ (by omega), cm _ 12 _ (by omega), cm _ 13 _ (by omega), cm _ 14 _ (by omega), cm _ 13 _ (by omega), cm _ 4 _ (by omega), cm _ 11 _ (by omega)]
theorem y5_nx : g_nx τ (y5 s.1 c o t d w, s.2) = (y5 (g_nx τ s).1 c o t d w, (g_nx τ s).2) := by
  unfold g_nx
  dsimp only
  rw [t_next_us (by omega), t_next_us (by omega), t_next_us (by omega), t_next_us (by omega), t_next_us (by omega)]
theorem y5_bad {k : Int} : g_bad k (y5 s.1 c o t d w, s.2) = (y5 (g_bad k s).1 c o t d w, (g_bad k s).2) := by
  unfold g_bad
  dsimp only
  rw [y5_n (by omega)]
  have cm : ∀ (g : Int → Int) (i y j v : Int), i < 19 → 19 ≤ j → us (us g j v) i y = us (us g i y) j v := fun g i y j v h h2 => us_comm (by omega)
  rw [cm _ 15 _ _ _ (by omega) (by omega), cm _ 15 _ _ _ (by omega) (by omega), cm _ 15 _ _ _ (by omega) (by omega), cm _ 15 _ _ _ (by omega) (by omega), cm _ 15 _ _ _ (by omega) (by omega)]
  rw [cm _ 16 _ _ _ (by omega) (by omega), cm _ 16 _ _ _ (by omega) (by omega), cm _ 16 _ _ _ (by omega) (by omega), cm _ 16 _ _ _ (by omega) (by omega), cm _ 16 _ _ _ (by omega) (by omega)]
/-- the row of codes, the row of the stack -/
def RL (rd : Int → Int) (O : List CD) : Prop := ∀ (i : Nat) (c : CD), O[i]? = some c → rd (3 * (i : Int)) = c.1 ∧ rd (3 * (i : Int) + 1) = c.2.1 ∧ rd (3 * (i : Int) + 2) = c.2.2
def KL (st : Int → Int) : List Int → Prop
  | [] => True
  | c :: S => st (S.length : Int) = c ∧ KL st S
theorem RL.app (h : RL rd O) {a b e : Int} {n : Int} (hn : n = 3 * (O.length : Int)) : RL (us (us (us rd n a) (n + 1) b) (n + 2) e) (O ++ [(a, b, e)]) := by
  intro i c hc
  subst hn
  by_cases q : i < O.length
  · rw [List.getElem?_append_left q] at hc
    rw [us_n (by omega), us_n (by omega), us_n (by omega), us_n (by omega), us_n (by omega), us_n (by omega), us_n (by omega), us_n (by omega), us_n (by omega)]
    exact h i c hc
  · rw [List.getElem?_append_right (by omega)] at hc
    have i0 : i - O.length = 0 := by
      cases e : i - O.length with
      | zero => rfl
      | succ m => rw [e] at hc; simp at hc
    have ei : i = O.length := by omega
    rw [i0] at hc
    have hc : (a, b, e) = c := Option.some.inj hc
    subst hc
    rw [ei]
    refine ⟨?_, ?_, ?_⟩
    · rw [us_n (by omega), us_n (by omega), us_s]
    · rw [us_n (by omega), us_s]
    · rw [us_s]
theorem KL.up {n v : Int} : ∀ {S : List Int}, KL st S → (S.length : Int) ≤ n → KL (us st n v) S
  | [], _, _ => trivial
  | c :: S, h, hn => by
    have hn : ((S.length + 1 : Nat) : Int) ≤ n := hn
    exact ⟨by rw [us_n (by omega)]; exact h.1, KL.up h.2 (by omega)⟩
theorem KL.push (h : KL st S) {n : Int} (hn : n = S.length) : KL (us st n v) (v :: S) := ⟨by rw [hn, us_s], h.up (by omega)⟩
theorem jn_len {t : Int} : ∀ {S : List Int} {O : List CD}, (y_jn t S O).1.length + (y_jn t S O).2.length = O.length + S.length ∧ (y_jn t S O).2.length ≤ S.length
  | [], O => by unfold y_jn; simp
  | c :: S, O => by
    unfold y_jn
    split
    · have := jn_len (t := t) (S := S) (O := O ++ [(c, 0, 0)])
      simp only [List.length_append, List.length_cons, List.length_nil] at this ⊢
      omega
    · simp
theorem jn_kl {t : Int} : ∀ {S : List Int} {O : List CD}, KL st S → KL st (y_jn t S O).2
  | [], O, _ => trivial
  | c :: S, O, h => by
    unfold y_jn
    split
    · exact jn_kl h.2
    · exact h
theorem nt_len : ∀ {S : List Int} {O : List CD} {d : Int}, (y_nt S O d).1.length + (y_nt S O d).2.1.length = O.length + S.length ∧ (y_nt S O d).2.1.length ≤ S.length ∧ (y_nt S O d).2.2 = d - (S.length : Int) + ((y_nt S O d).2.1.length : Int)
  | [], O, d => by unfold y_nt; simp
  | c :: S, O, d => by
    unfold y_nt
    split
    · have := nt_len (S := S) (O := O ++ [(10, 0, 0)]) (d := d - 1)
      simp only [List.length_append, List.length_cons, List.length_nil] at this ⊢
      omega
    · refine ⟨rfl, Nat.le_refl _, ?_⟩
      show d = d - ((c :: S).length : Int) + ((c :: S).length : Int)
      omega
theorem nt_kl : ∀ {S : List Int} {O : List CD} {d : Int}, KL st S → KL st (y_nt S O d).2.1
  | [], O, d, _ => trivial
  | c :: S, O, d, h => by
    unfold y_nt
    split
    · exact nt_kl h.2
    · exact h
/-- what holds of a state of the stack -/
def YI (Y : YS) : Prop := TI Y.1.1 ∧ (0 ≤ Y.2.2.2.2.1 ∧ Y.2.2.2.2.1 ≤ 20) ∧ (Y.2.2.2.2.2 = 0 ∨ Y.2.2.2.2.2 = 1) ∧ (Y.2.1.length : Int) + Y.2.2.1.length + Y.2.2.2.2.2 ≤ 2 * Y.2.2.2.2.1 ∧ Y.2.2.2.1 ≤ 1 + Y.2.2.2.2.1 ∧ 1 + (Y.2.2.1.length : Int) + Y.2.2.2.2.2 - 2 * Y.2.2.2.2.1 ≤ Y.2.2.2.1
end M30p
section M30
variable {G : GE} {I J : HI} {P : HP} {T : HT} {z : Nat} {m dd : Nat} {Q : QT} {σ τ ρ rd st : Int → Int} {s : TS} {c o t d w : Int} {O : List CD} {S : List Int}
abbrev yH (I : HI) (m : Nat) (st σ rd : Int → Int) (s : TS) (c o t d w : Int) : HI := ur (ur (ur (ur (ur I (m + 23) st) (m + 2) σ) (m + 4) rd) (m + 3) s.2.2.1) m (y5 s.1 c o t d w)
theorem Y_nx (hs : shM G P T m) (hτ : I (m + 1) = τ) (h : TI s.1) (hQ : Q none (yH I m st σ rd (g_nx τ s) c o t d w) (hJ J m (g_nx τ s)) P T z) : MC G yX11_next (ws_ yX11_next cX11_next 4 (none : Option FieldType)) (dd + 1) 0 0 [.ref m] (yH I m st σ rd s c o t d w) (hJ J m s) P T z Q nX :=
  M_nx (τ := τ) (I := ur (ur (ur I (m + 23) st) (m + 2) σ) (m + 4) rd) (J := J) (s := (y5 s.1 c o t d w, s.2)) hs (by rw [ur_n (by omega), ur_n (by omega), ur_n (by omega)]; exact hτ) (by
    have e3 : y5 s.1 c o t d w 3 = s.1 3 := y5_n (by omega)
    have e4 : y5 s.1 c o t d w 4 = s.1 4 := y5_n (by omega)
    show 0 ≤ y5 s.1 c o t d w 4 ∧ y5 s.1 c o t d w 4 ≤ y5 s.1 c o t d w 3 ∧ y5 s.1 c o t d w 3 ≤ 940
    rw [e3, e4]
    exact ⟨h.1, h.2.1, h.2.2.1⟩) (by rw [y5_nx]; exact hQ)
theorem Y_bad (hs : shM G P T m) {k : Int} (hk : rg k) (hQ : Q (some (iv 0)) (yH I m st σ rd (g_bad k s) c o t d w) (hJ J m (g_bad k s)) P T z) : MC G yX11_bad (ws_ yX11_bad cX11_bad 2 (some FieldType.boolean)) (dd) 0 0 [.ref m, iv k] (yH I m st σ rd s c o t d w) (hJ J m s) P T z Q nX :=
  M_badS (I := ur (ur (ur I (m + 23) st) (m + 2) σ) (m + 4) rd) (J := J) (s := (y5 s.1 c o t d w, s.2)) hs hk (by rw [y5_bad]; exact hQ)
theorem bz_cg {p q : Prop} [Decidable p] [Decidable q] (h : p ↔ q) : bz p = bz q := by
  unfold bz
  by_cases c : p
  · rw [if_pos c, if_pos (h.mp c)]
  · rw [if_neg c, if_neg (fun x => c (h.mpr x))]
theorem Y_isW (hs : shM G P T m) {k : Int} (hk : rgj k) (hQ : Q (some (iv (bz (isW k s)))) (yH I m st σ rd s c o t d w) (hJ J m s) P T z) : MC G yX11_isWord (ws_ yX11_isWord cX11_isWord 3 (some FieldType.boolean)) (dd) 0 0 [.ref m, jv k] (yH I m st σ rd s c o t d w) (hJ J m s) P T z Q nX :=
  M_isWordS (I := ur (ur (ur I (m + 23) st) (m + 2) σ) (m + 4) rd) (J := J) (s := (y5 s.1 c o t d w, s.2)) hs hk (by
    have e : y5 s.1 c o t d w 11 = s.1 11 := y5_n (by omega)
    have e2 : bz (isW k (y5 s.1 c o t d w, s.2)) = bz (isW k s) := bz_cg (by show (y5 s.1 c o t d w 11 = 1 ∧ s.2.1 = k) ↔ _; rw [e])
    rw [e2]; exact hQ)
theorem Y_isG (hs : shM G P T m) {k : Int} (hk : rg k) (hQ : Q (some (iv (bz (isG k s)))) (yH I m st σ rd s c o t d w) (hJ J m s) P T z) : MC G yX11_isSign (ws_ yX11_isSign cX11_isSign 2 (some FieldType.boolean)) (dd) 0 0 [.ref m, iv k] (yH I m st σ rd s c o t d w) (hJ J m s) P T z Q nX :=
  M_isSignS (I := ur (ur (ur I (m + 23) st) (m + 2) σ) (m + 4) rd) (J := J) (s := (y5 s.1 c o t d w, s.2)) hs hk (by
    have e : y5 s.1 c o t d w 11 = s.1 11 := y5_n (by omega)
    have e1 : y5 s.1 c o t d w 14 = s.1 14 := y5_n (by omega)
    have e2 : bz (isG k (y5 s.1 c o t d w, s.2)) = bz (isG k s) := bz_cg (by show (y5 s.1 c o t d w 11 = 3 ∧ y5 s.1 c o t d w 14 = k) ↔ _; rw [e, e1])
    rw [e2]; exact hQ)
theorem Y_isN (hs : shM G P T m) (hρ : J (m + 6) = ρ) (hQ : Q (some (iv (bz (isN ρ s)))) (yH I m st σ rd s c o t d w) (hJ J m s) P T z) : MC G yX11_isName (ws_ yX11_isName cX11_isName 3 (some FieldType.boolean)) (dd) 0 0 [.ref m] (yH I m st σ rd s c o t d w) (hJ J m s) P T z Q nX :=
  M_isNameS (I := ur (ur (ur I (m + 23) st) (m + 2) σ) (m + 4) rd) (J := J) (s := (y5 s.1 c o t d w, s.2)) hs hρ (by
    have e : y5 s.1 c o t d w 11 = s.1 11 := y5_n (by omega)
    have e2 : bz (isN ρ (y5 s.1 c o t d w, s.2)) = bz (isN ρ s) := bz_cg (by show (y5 s.1 c o t d w 11 = 1 ∧ t_nm ρ s.2.1 19) ↔ _; rw [e])
    rw [e2]; exact hQ)
theorem Y_find (hs : shM G P T m) {n : Int} (hn : 0 ≤ n ∧ n ≤ 6) (hQ : Q (some (iv (t_find s.2.2.2 s.2.1 0 0 n.toNat))) (yH I m st σ rd s c o t d w) (hJ J m s) P T z) : MC G yX11_find (ws_ yX11_find cX11_find 4 (some FieldType.int)) (dd) 0 0 [.ref m, iv 0, iv n] (yH I m st σ rd s c o t d w) (hJ J m s) P T z Q nX :=
  M_findS0 (I := ur (ur (ur I (m + 23) st) (m + 2) σ) (m + 4) rd) (J := J) (s := (y5 s.1 c o t d w, s.2)) hs hn hQ
theorem Y_code (hs : shM G P T m) {a b e : Int} (ha : rg a) (hb2 : rg b) (he : rg e) (hc : 0 ≤ c ∧ c ≤ 44) (hQ : Q none (yH I m st σ (us (us (us rd (3 * c) a) (3 * c + 1) b) (3 * c + 2) e) s (c + 1) o t d w) J P T z) : MC G yX11_code (ws_ yX11_code cX11_code 4 (none : Option FieldType)) (dd) 0 0 [.ref m, iv a, iv b, iv e] (yH I m st σ rd s c o t d w) J P T z Q nX := by
  have hb := hs.b
  refine MC.of (by decide) (Nat.le_of_ble_eq_true rfl) ?_
  show PW G mX11_code (rmD (dd) 0 0) (MZ G Q nX 0 0) 0 0 (yH I m st σ rd s c o t d w) J P T z 0 [some (.ref m), some (iv a), some (iv b), some (iv e)] []
  refine r_aload_n (pc := 0) dX11_code_0 rfl rfl ?_
  refine r_getr (pc := 1) (c := 11) (k := 8) (kz := 8) hs.o cok_11 (Nat.le_of_ble_eq_true rfl) q1868 ⟨rfl, rfl⟩ (Or.inl rfl) rfl (fun _ _ _ => rfl) hs.p_read dX11_code_1 ?_
  refine r_iconst (pc := 4) dX11_code_4 ?_
  refine r_aload_n (pc := 5) dX11_code_5 rfl rfl ?_
  refine r_geti (pc := 6) (c := 11) (k := 56) (kz := 56) hs.o cok_11 (Nat.le_of_ble_eq_true rfl) q1916 ⟨rfl, rfl⟩ (Or.inl rfl) rfl (fun _ _ _ => rfl) dX11_code_6 (fun hr6 => ?_)
  try simp (disch := omega) only [ui_ur, ui_ur_n, ur_sv, ur_nv, ui_sv, ui_nv, ui_uis, us_s, us_n] at hr6 ⊢
  refine r_imul (pc := 9) dX11_code_9 ?_
  refine r_iload_n (pc := 10) dX11_code_10 rfl rfl ?_
  refine r_iast (pc := 11) hs.t_read (by omega) (by omega) (by omega) (by omega) dX11_code_11 ?_
  try simp (disch := omega) only [ui_ur, ui_ur_n, ur_sv, ur_nv, ui_sv, ui_nv, ui_uis, us_s, us_n]
  refine r_aload_n (pc := 12) dX11_code_12 rfl rfl ?_
  refine r_getr (pc := 13) (c := 11) (k := 8) (kz := 8) hs.o cok_11 (Nat.le_of_ble_eq_true rfl) q1868 ⟨rfl, rfl⟩ (Or.inl rfl) rfl (fun _ _ _ => rfl) hs.p_read dX11_code_13 ?_
  refine r_iconst (pc := 16) dX11_code_16 ?_
  refine r_aload_n (pc := 17) dX11_code_17 rfl rfl ?_
  refine r_geti (pc := 18) (c := 11) (k := 56) (kz := 56) hs.o cok_11 (Nat.le_of_ble_eq_true rfl) q1916 ⟨rfl, rfl⟩ (Or.inl rfl) rfl (fun _ _ _ => rfl) dX11_code_18 (fun hr18 => ?_)
  try simp (disch := omega) only [ui_ur, ui_ur_n, ur_sv, ur_nv, ui_sv, ui_nv, ui_uis, us_s, us_n] at hr18 ⊢
  refine r_imul (pc := 21) dX11_code_21 ?_
  refine r_iconst (pc := 22) dX11_code_22 ?_
  refine r_iadd (pc := 23) dX11_code_23 ?_
  refine r_iload_n (pc := 24) dX11_code_24 rfl rfl ?_
  refine r_iast (pc := 25) hs.t_read (by omega) (by omega) (by omega) (by omega) dX11_code_25 ?_
  try simp (disch := omega) only [ui_ur, ui_ur_n, ur_sv, ur_nv, ui_sv, ui_nv, ui_uis, us_s, us_n]
  refine r_aload_n (pc := 26) dX11_code_26 rfl rfl ?_
  refine r_getr (pc := 27) (c := 11) (k := 8) (kz := 8) hs.o cok_11 (Nat.le_of_ble_eq_true rfl) q1868 ⟨rfl, rfl⟩ (Or.inl rfl) rfl (fun _ _ _ => rfl) hs.p_read dX11_code_27 ?_
  refine r_iconst (pc := 30) dX11_code_30 ?_
  refine r_aload_n (pc := 31) dX11_code_31 rfl rfl ?_
  refine r_geti (pc := 32) (c := 11) (k := 56) (kz := 56) hs.o cok_11 (Nat.le_of_ble_eq_true rfl) q1916 ⟨rfl, rfl⟩ (Or.inl rfl) rfl (fun _ _ _ => rfl) dX11_code_32 (fun hr32 => ?_)
  try simp (disch := omega) only [ui_ur, ui_ur_n, ur_sv, ur_nv, ui_sv, ui_nv, ui_uis, us_s, us_n] at hr32 ⊢
  refine r_imul (pc := 35) dX11_code_35 ?_
  refine r_iconst (pc := 36) dX11_code_36 ?_
  refine r_iadd (pc := 37) dX11_code_37 ?_
  refine r_iload_n (pc := 38) dX11_code_38 rfl rfl ?_
  refine r_iast (pc := 39) hs.t_read (by omega) (by omega) (by omega) (by omega) dX11_code_39 ?_
  try simp (disch := omega) only [ui_ur, ui_ur_n, ur_sv, ur_nv, ui_sv, ui_nv, ui_uis, us_s, us_n]
  refine r_aload_n (pc := 40) dX11_code_40 rfl rfl ?_
  refine r_dup (pc := 41) dX11_code_41 rfl ?_
  refine r_geti (pc := 42) (c := 11) (k := 56) (kz := 56) hs.o cok_11 (Nat.le_of_ble_eq_true rfl) q1916 ⟨rfl, rfl⟩ (Or.inl rfl) rfl (fun _ _ _ => rfl) dX11_code_42 (fun hr42 => ?_)
  try simp (disch := omega) only [ui_ur, ui_ur_n, ur_sv, ur_nv, ui_sv, ui_nv, ui_uis, us_s, us_n] at hr42 ⊢
  refine r_iconst (pc := 45) dX11_code_45 ?_
  refine r_iadd (pc := 46) dX11_code_46 ?_
  refine r_puti (pc := 47) (c := 11) (k := 56) (kz := 56) hs.o cok_11 (Nat.le_of_ble_eq_true rfl) q1916 ⟨rfl, rfl⟩ (Or.inl rfl) rfl (by omega) rfl rfl (by omega) (fun _ _ _ => rfl) ⟨rfl, rfl⟩ dX11_code_47 ?_
  try simp (disch := omega) only [ui_ur, ui_ur_n, ur_sv, ur_nv, ui_sv, ui_nv, ui_uis, us_s, us_n]
  rw [y5_56]
  refine r_return (pc := 50) rfl dX11_code_50 (Nat.le_of_ble_eq_true rfl) (Nat.le_of_ble_eq_true rfl) ?_
  exact hQ
theorem Y_joins (hs : shM G P T m) {tl : Int} (htl : tl = 11 ∨ tl = 12) (ho : rg o) (hd : rg d) : ∀ (S : List Int) (O : List CD) (rd : Int → Int) (Q : QT), KL st S → RL rd O → O.length + S.length ≤ 44 → (∀ x ∈ S, 10 ≤ x ∧ x ≤ 13) → (∀ rd', RL rd' (y_jn tl S O).1 → Q none (yH I m st σ rd' s ((y_jn tl S O).1.length : Int) o ((y_jn tl S O).2.length : Int) d w) J P T z) → MC G yX11_joins (ws_ yX11_joins cX11_joins 2 (none : Option FieldType)) (dd + 1) 0 0 [.ref m, iv tl] (yH I m st σ rd s (O.length : Int) o (S.length : Int) d w) J P T z Q nX := by
  have hb := hs.b
  intro S O rd Q hk hr hl hx hQ
  refine MC.of (by decide) (Nat.le_of_ble_eq_true rfl) ?_
  show PW G mX11_joins (rmD (dd + 1) 0 0) (MZ G Q nX 0 0) 0 0 (yH I m st σ rd s (O.length : Int) o (S.length : Int) d w) J P T z 0 [some (.ref m), some (iv tl)] []
  induction S generalizing O rd with
  | nil =>
    refine r_aload_n (pc := 0) dX11_joins_0 rfl rfl ?_
    refine r_geti (pc := 1) (c := 11) (k := 58) (kz := 58) hs.o cok_11 (Nat.le_of_ble_eq_true rfl) q1918 ⟨rfl, rfl⟩ (Or.inl rfl) rfl (fun _ _ _ => rfl) dX11_joins_1 (fun hr1 => ?_)
    try simp (disch := omega) only [ui_ur, ui_ur_n, ur_sv, ur_nv, ui_sv, ui_nv, ui_uis, us_s, us_n] at hr1 ⊢
    refine r_if_le (pc := 4) 73 dX11_joins_4 rfl (by omega) (fun h4 => ?_) (fun h4 => ?_)
    · refine r_return (pc := 73) rfl dX11_joins_73 (Nat.le_of_ble_eq_true rfl) (Nat.le_of_ble_eq_true rfl) ?_
      exact hQ rd hr
    exact absurd h4 (by simp)
  | cons x S ih =>
    have hx0 := hx x List.mem_cons_self
    have el : ((x :: S).length : Int) = (S.length : Int) + 1 := by simp
    have hl2 : O.length + (S.length + 1) ≤ 44 := hl
    have hk1 : st (S.length : Int) = x := hk.1
    rw [el]
    have out : ¬ (x = 11 ∨ (x = 12 ∧ tl = 12)) → PW G mX11_joins (rmD (dd + 1) 0 0) (MZ G Q nX 0 0) 0 0 (yH I m st σ rd s (O.length : Int) o ((S.length : Int) + 1) d w) J P T z 73 [some (.ref m), some (iv tl)] [] := by
      intro q
      unfold y_jn at hQ
      rw [if_neg q] at hQ
      refine r_return (pc := 73) rfl dX11_joins_73 (Nat.le_of_ble_eq_true rfl) (Nat.le_of_ble_eq_true rfl) ?_
      have := hQ rd hr
      rw [el] at this
      exact this
    have on : (x = 11 ∨ (x = 12 ∧ tl = 12)) → PW G mX11_joins (rmD (dd + 1) 0 0) (MZ G Q nX 0 0) 0 0 (yH I m st σ rd s (O.length : Int) o ((S.length : Int) + 1) d w) J P T z 45 [some (.ref m), some (iv tl)] [] := by
      intro q
      unfold y_jn at hQ
      rw [if_pos q] at hQ
      refine r_aload_n (pc := 45) dX11_joins_45 rfl rfl ?_
      refine r_dup (pc := 46) dX11_joins_46 rfl ?_
      refine r_geti (pc := 47) (c := 11) (k := 58) (kz := 58) hs.o cok_11 (Nat.le_of_ble_eq_true rfl) q1918 ⟨rfl, rfl⟩ (Or.inl rfl) rfl (fun _ _ _ => rfl) dX11_joins_47 (fun hr47 => ?_)
      try simp (disch := omega) only [ui_ur, ui_ur_n, ur_sv, ur_nv, ui_sv, ui_nv, ui_uis, us_s, us_n] at hr47 ⊢
      refine r_iconst (pc := 50) dX11_joins_50 ?_
      refine r_isub (pc := 51) dX11_joins_51 ?_
      refine r_puti (pc := 52) (c := 11) (k := 58) (kz := 58) hs.o cok_11 (Nat.le_of_ble_eq_true rfl) q1918 ⟨rfl, rfl⟩ (Or.inl rfl) rfl (by omega) rfl rfl (by omega) (fun _ _ _ => rfl) ⟨rfl, rfl⟩ dX11_joins_52 ?_
      try simp (disch := omega) only [ui_ur, ui_ur_n, ur_sv, ur_nv, ui_sv, ui_nv, ui_uis, us_s, us_n]
      rw [y5_58, show (S.length : Int) + 1 - 1 = (S.length : Int) by omega]
      refine r_aload_n (pc := 55) dX11_joins_55 rfl rfl ?_
      refine r_aload_n (pc := 56) dX11_joins_56 rfl rfl ?_
      refine r_getr (pc := 57) (c := 11) (k := 55) (kz := 55) hs.o cok_11 (Nat.le_of_ble_eq_true rfl) q1915 ⟨rfl, rfl⟩ (Or.inl rfl) rfl (fun _ _ _ => rfl) hs.p_stack dX11_joins_57 ?_
      refine r_aload_n (pc := 60) dX11_joins_60 rfl rfl ?_
      refine r_geti (pc := 61) (c := 11) (k := 58) (kz := 58) hs.o cok_11 (Nat.le_of_ble_eq_true rfl) q1918 ⟨rfl, rfl⟩ (Or.inl rfl) rfl (fun _ _ _ => rfl) dX11_joins_61 (fun hr61 => ?_)
      try simp (disch := omega) only [ui_ur, ui_ur_n, ur_sv, ur_nv, ui_sv, ui_nv, ui_uis, us_s, us_n] at hr61 ⊢
      refine r_iald (pc := 64) hs.t_stack (by omega) (by omega) dX11_joins_64 (fun hr64 => ?_)
      try simp (disch := omega) only [ui_ur, ui_ur_n, ur_sv, ur_nv, ui_sv, ui_nv, ui_uis, us_s, us_n] at hr64 ⊢
      rw [hk1] at hr64 ⊢
      refine r_iconst (pc := 65) dX11_joins_65 ?_
      refine r_iconst (pc := 66) dX11_joins_66 ?_
      refine r_callV3 (pc := 67) (Y_code hs (by omega) (by omega) (by omega) (by omega) fe_i) im_X11_code qs110 q2426 hs.o rfl dX11_joins_67 (Nat.le_of_ble_eq_true rfl) (Nat.le_of_ble_eq_true rfl) rfl (k_fv ?_) (fun _ _ _ _ _ _ _ hx => no_x hx)
      refine r_goto (pc := 70) 0 dX11_joins_70 rfl ?_
      have lenA : (((O ++ [(x, 0, 0)]).length : Nat) : Int) = (O.length : Int) + 1 := by simp
      have := ih (O ++ [(x, 0, 0)]) (us (us (us rd (3 * (O.length : Int)) x) (3 * (O.length : Int) + 1) 0) (3 * (O.length : Int) + 2) 0) hk.2 (hr.app rfl) (by simp only [List.length_append, List.length_cons, List.length_nil]; omega) (fun y hy => hx y (List.mem_cons_of_mem _ hy)) hQ
      rw [lenA] at this
      exact this
    refine r_aload_n (pc := 0) dX11_joins_0 rfl rfl ?_
    refine r_geti (pc := 1) (c := 11) (k := 58) (kz := 58) hs.o cok_11 (Nat.le_of_ble_eq_true rfl) q1918 ⟨rfl, rfl⟩ (Or.inl rfl) rfl (fun _ _ _ => rfl) dX11_joins_1 (fun hr1 => ?_)
    try simp (disch := omega) only [ui_ur, ui_ur_n, ur_sv, ur_nv, ui_sv, ui_nv, ui_uis, us_s, us_n] at hr1 ⊢
    refine r_if_le (pc := 4) 73 dX11_joins_4 rfl (by omega) (fun h4 => ?_) (fun h4 => ?_)
    · omega
    refine r_aload_n (pc := 7) dX11_joins_7 rfl rfl ?_
    refine r_getr (pc := 8) (c := 11) (k := 55) (kz := 55) hs.o cok_11 (Nat.le_of_ble_eq_true rfl) q1915 ⟨rfl, rfl⟩ (Or.inl rfl) rfl (fun _ _ _ => rfl) hs.p_stack dX11_joins_8 ?_
    refine r_aload_n (pc := 11) dX11_joins_11 rfl rfl ?_
    refine r_geti (pc := 12) (c := 11) (k := 58) (kz := 58) hs.o cok_11 (Nat.le_of_ble_eq_true rfl) q1918 ⟨rfl, rfl⟩ (Or.inl rfl) rfl (fun _ _ _ => rfl) dX11_joins_12 (fun hr12 => ?_)
    try simp (disch := omega) only [ui_ur, ui_ur_n, ur_sv, ur_nv, ui_sv, ui_nv, ui_uis, us_s, us_n] at hr12 ⊢
    refine r_iconst (pc := 15) dX11_joins_15 ?_
    refine r_isub (pc := 16) dX11_joins_16 ?_
    rw [show (S.length : Int) + 1 - 1 = (S.length : Int) by omega]
    refine r_iald (pc := 17) hs.t_stack (by omega) (by omega) dX11_joins_17 (fun hr17 => ?_)
    try simp (disch := omega) only [ui_ur, ui_ur_n, ur_sv, ur_nv, ui_sv, ui_nv, ui_uis, us_s, us_n] at hr17 ⊢
    rw [hk1] at hr17 ⊢
    refine r_bipush (pc := 18) dX11_joins_18 (by decide +kernel) ?_
    refine r_icmp_eq (pc := 20) 45 dX11_joins_20 rfl (by omega) (by omega) (fun h20 => ?_) (fun h20 => ?_)
    · exact on (Or.inl h20)
    refine r_aload_n (pc := 23) dX11_joins_23 rfl rfl ?_
    refine r_getr (pc := 24) (c := 11) (k := 55) (kz := 55) hs.o cok_11 (Nat.le_of_ble_eq_true rfl) q1915 ⟨rfl, rfl⟩ (Or.inl rfl) rfl (fun _ _ _ => rfl) hs.p_stack dX11_joins_24 ?_
    refine r_aload_n (pc := 27) dX11_joins_27 rfl rfl ?_
    refine r_geti (pc := 28) (c := 11) (k := 58) (kz := 58) hs.o cok_11 (Nat.le_of_ble_eq_true rfl) q1918 ⟨rfl, rfl⟩ (Or.inl rfl) rfl (fun _ _ _ => rfl) dX11_joins_28 (fun hr28 => ?_)
    try simp (disch := omega) only [ui_ur, ui_ur_n, ur_sv, ur_nv, ui_sv, ui_nv, ui_uis, us_s, us_n] at hr28 ⊢
    refine r_iconst (pc := 31) dX11_joins_31 ?_
    refine r_isub (pc := 32) dX11_joins_32 ?_
    rw [show (S.length : Int) + 1 - 1 = (S.length : Int) by omega]
    refine r_iald (pc := 33) hs.t_stack (by omega) (by omega) dX11_joins_33 (fun hr33 => ?_)
    try simp (disch := omega) only [ui_ur, ui_ur_n, ur_sv, ur_nv, ui_sv, ui_nv, ui_uis, us_s, us_n] at hr33 ⊢
    rw [hk1] at hr33 ⊢
    refine r_bipush (pc := 34) dX11_joins_34 (by decide +kernel) ?_
    refine r_icmp_ne (pc := 36) 73 dX11_joins_36 rfl (by omega) (by omega) (fun h36 => ?_) (fun h36 => ?_)
    · exact out (fun q => by omega)
    refine r_iload_n (pc := 39) dX11_joins_39 rfl rfl ?_
    refine r_bipush (pc := 40) dX11_joins_40 (by decide +kernel) ?_
    refine r_icmp_ne (pc := 42) 73 dX11_joins_42 rfl (by omega) (by omega) (fun h42 => ?_) (fun h42 => ?_)
    · exact out (fun q => by omega)
    exact on (Or.inr ⟨h36, h42⟩)
theorem Y_nots (hs : shM G P T m) (ho : rg o) : ∀ (S : List Int) (O : List CD) (d : Int) (rd : Int → Int) (Q : QT), KL st S → RL rd O → O.length + S.length ≤ 44 → (∀ x ∈ S, 10 ≤ x ∧ x ≤ 13) → (-100 + (S.length : Int) ≤ d ∧ d ≤ 100) → (∀ rd', RL rd' (y_nt S O d).1 → Q none (yH I m st σ rd' s ((y_nt S O d).1.length : Int) o ((y_nt S O d).2.1.length : Int) (y_nt S O d).2.2 w) J P T z) → MC G yX11_nots (ws_ yX11_nots cX11_nots 1 (none : Option FieldType)) (dd + 1) 0 0 [.ref m] (yH I m st σ rd s (O.length : Int) o (S.length : Int) d w) J P T z Q nX := by
  have hb := hs.b
  intro S O d rd Q hk hr hl hx hd hQ
  refine MC.of (by decide) (Nat.le_of_ble_eq_true rfl) ?_
  show PW G mX11_nots (rmD (dd + 1) 0 0) (MZ G Q nX 0 0) 0 0 (yH I m st σ rd s (O.length : Int) o (S.length : Int) d w) J P T z 0 [some (.ref m)] []
  induction S generalizing O rd d with
  | nil =>
    refine r_aload_n (pc := 0) dX11_nots_0 rfl rfl ?_
    refine r_geti (pc := 1) (c := 11) (k := 58) (kz := 58) hs.o cok_11 (Nat.le_of_ble_eq_true rfl) q1918 ⟨rfl, rfl⟩ (Or.inl rfl) rfl (fun _ _ _ => rfl) dX11_nots_1 (fun hr1 => ?_)
    try simp (disch := omega) only [ui_ur, ui_ur_n, ur_sv, ur_nv, ui_sv, ui_nv, ui_uis, us_s, us_n] at hr1 ⊢
    refine r_if_le (pc := 4) 54 dX11_nots_4 rfl (by omega) (fun h4 => ?_) (fun h4 => ?_)
    · refine r_return (pc := 54) rfl dX11_nots_54 (Nat.le_of_ble_eq_true rfl) (Nat.le_of_ble_eq_true rfl) ?_
      exact hQ rd hr
    exact absurd h4 (by simp)
  | cons x S ih =>
    have hx0 := hx x List.mem_cons_self
    have el : ((x :: S).length : Int) = (S.length : Int) + 1 := by simp
    have hl2 : O.length + (S.length + 1) ≤ 44 := hl
    have hk1 : st (S.length : Int) = x := hk.1
    rw [el] at hd ⊢
    unfold y_nt at hQ
    refine r_aload_n (pc := 0) dX11_nots_0 rfl rfl ?_
    refine r_geti (pc := 1) (c := 11) (k := 58) (kz := 58) hs.o cok_11 (Nat.le_of_ble_eq_true rfl) q1918 ⟨rfl, rfl⟩ (Or.inl rfl) rfl (fun _ _ _ => rfl) dX11_nots_1 (fun hr1 => ?_)
    try simp (disch := omega) only [ui_ur, ui_ur_n, ur_sv, ur_nv, ui_sv, ui_nv, ui_uis, us_s, us_n] at hr1 ⊢
    refine r_if_le (pc := 4) 54 dX11_nots_4 rfl (by omega) (fun h4 => ?_) (fun h4 => ?_)
    · omega
    refine r_aload_n (pc := 7) dX11_nots_7 rfl rfl ?_
    refine r_getr (pc := 8) (c := 11) (k := 55) (kz := 55) hs.o cok_11 (Nat.le_of_ble_eq_true rfl) q1915 ⟨rfl, rfl⟩ (Or.inl rfl) rfl (fun _ _ _ => rfl) hs.p_stack dX11_nots_8 ?_
    refine r_aload_n (pc := 11) dX11_nots_11 rfl rfl ?_
    refine r_geti (pc := 12) (c := 11) (k := 58) (kz := 58) hs.o cok_11 (Nat.le_of_ble_eq_true rfl) q1918 ⟨rfl, rfl⟩ (Or.inl rfl) rfl (fun _ _ _ => rfl) dX11_nots_12 (fun hr12 => ?_)
    try simp (disch := omega) only [ui_ur, ui_ur_n, ur_sv, ur_nv, ui_sv, ui_nv, ui_uis, us_s, us_n] at hr12 ⊢
    refine r_iconst (pc := 15) dX11_nots_15 ?_
    refine r_isub (pc := 16) dX11_nots_16 ?_
    rw [show (S.length : Int) + 1 - 1 = (S.length : Int) by omega]
    refine r_iald (pc := 17) hs.t_stack (by omega) (by omega) dX11_nots_17 (fun hr17 => ?_)
    try simp (disch := omega) only [ui_ur, ui_ur_n, ur_sv, ur_nv, ui_sv, ui_nv, ui_uis, us_s, us_n] at hr17 ⊢
    rw [hk1] at hr17 ⊢
    refine r_bipush (pc := 18) dX11_nots_18 (by decide +kernel) ?_
    refine r_icmp_ne (pc := 20) 54 dX11_nots_20 rfl (by omega) (by omega) (fun h20 => ?_) (fun h20 => ?_)
    · rw [if_neg h20] at hQ
      refine r_return (pc := 54) rfl dX11_nots_54 (Nat.le_of_ble_eq_true rfl) (Nat.le_of_ble_eq_true rfl) ?_
      have := hQ rd hr
      rw [el] at this
      exact this
    rw [if_pos h20] at hQ
    subst h20
    refine r_aload_n (pc := 23) dX11_nots_23 rfl rfl ?_
    refine r_dup (pc := 24) dX11_nots_24 rfl ?_
    refine r_geti (pc := 25) (c := 11) (k := 58) (kz := 58) hs.o cok_11 (Nat.le_of_ble_eq_true rfl) q1918 ⟨rfl, rfl⟩ (Or.inl rfl) rfl (fun _ _ _ => rfl) dX11_nots_25 (fun hr25 => ?_)
    try simp (disch := omega) only [ui_ur, ui_ur_n, ur_sv, ur_nv, ui_sv, ui_nv, ui_uis, us_s, us_n] at hr25 ⊢
    refine r_iconst (pc := 28) dX11_nots_28 ?_
    refine r_isub (pc := 29) dX11_nots_29 ?_
    refine r_puti (pc := 30) (c := 11) (k := 58) (kz := 58) hs.o cok_11 (Nat.le_of_ble_eq_true rfl) q1918 ⟨rfl, rfl⟩ (Or.inl rfl) rfl (by omega) rfl rfl (by omega) (fun _ _ _ => rfl) ⟨rfl, rfl⟩ dX11_nots_30 ?_
    try simp (disch := omega) only [ui_ur, ui_ur_n, ur_sv, ur_nv, ui_sv, ui_nv, ui_uis, us_s, us_n]
    rw [y5_58, show (S.length : Int) + 1 - 1 = (S.length : Int) by omega]
    refine r_aload_n (pc := 33) dX11_nots_33 rfl rfl ?_
    refine r_dup (pc := 34) dX11_nots_34 rfl ?_
    refine r_geti (pc := 35) (c := 11) (k := 59) (kz := 59) hs.o cok_11 (Nat.le_of_ble_eq_true rfl) q1919 ⟨rfl, rfl⟩ (Or.inl rfl) rfl (fun _ _ _ => rfl) dX11_nots_35 (fun hr35 => ?_)
    try simp (disch := omega) only [ui_ur, ui_ur_n, ur_sv, ur_nv, ui_sv, ui_nv, ui_uis, us_s, us_n] at hr35 ⊢
    refine r_iconst (pc := 38) dX11_nots_38 ?_
    refine r_isub (pc := 39) dX11_nots_39 ?_
    refine r_puti (pc := 40) (c := 11) (k := 59) (kz := 59) hs.o cok_11 (Nat.le_of_ble_eq_true rfl) q1919 ⟨rfl, rfl⟩ (Or.inl rfl) rfl (by omega) rfl rfl (by omega) (fun _ _ _ => rfl) ⟨rfl, rfl⟩ dX11_nots_40 ?_
    try simp (disch := omega) only [ui_ur, ui_ur_n, ur_sv, ur_nv, ui_sv, ui_nv, ui_uis, us_s, us_n]
    rw [y5_59]
    refine r_aload_n (pc := 43) dX11_nots_43 rfl rfl ?_
    refine r_bipush (pc := 44) dX11_nots_44 (by decide +kernel) ?_
    refine r_iconst (pc := 46) dX11_nots_46 ?_
    refine r_iconst (pc := 47) dX11_nots_47 ?_
    refine r_callV3 (pc := 48) (Y_code hs (by omega) (by omega) (by omega) (by omega) fe_i) im_X11_code qs110 q2426 hs.o rfl dX11_nots_48 (Nat.le_of_ble_eq_true rfl) (Nat.le_of_ble_eq_true rfl) rfl (k_fv ?_) (fun _ _ _ _ _ _ _ hx => no_x hx)
    refine r_goto (pc := 51) 0 dX11_nots_51 rfl ?_
    have lenA : (((O ++ [((10 : Int), (0 : Int), (0 : Int))]).length : Nat) : Int) = (O.length : Int) + 1 := by simp
    have := ih (O ++ [(10, 0, 0)]) (d - 1) (us (us (us rd (3 * (O.length : Int)) 10) (3 * (O.length : Int) + 1) 0) (3 * (O.length : Int) + 2) 0) hk.2 (hr.app rfl) (by simp only [List.length_append, List.length_cons, List.length_nil]; omega) (fun y hy => hx y (List.mem_cons_of_mem _ hy)) (by omega) hQ
    rw [lenA] at this
    exact this
theorem Y_leafOf (hs : shM G P T m) (hQ : Q (some (iv (lf s))) (yH I m st σ rd s c o t d w) (hJ J m s) P T z) : MC G yX11_leafOf (ws_ yX11_leafOf cX11_leafOf 1 (some FieldType.int)) (dd + 1) 0 0 [.ref m] (yH I m st σ rd s c o t d w) (hJ J m s) P T z Q nX := by
  have hb := hs.b
  refine MC.of (by decide) (Nat.le_of_ble_eq_true rfl) ?_
  show PW G mX11_leafOf (rmD (dd + 1) 0 0) (MZ G Q nX 0 0) 0 0 (yH I m st σ rd s c o t d w) (hJ J m s) P T z 0 [some (.ref m)] []
  unfold lf at hQ
  refine r_aload_n (pc := 0) dX11_leafOf_0 rfl rfl ?_
  refine r_ldc2 (pc := 1) (x := 1651470187) q1853 dX11_leafOf_1 (by decide +kernel) ?_
  refine r_callV1 (pc := 4) (Y_isW hs (by omega) fe_i) im_X11_isWord qs60 q2083 hs.o rfl dX11_leafOf_4 (Nat.le_of_ble_eq_true rfl) (Nat.le_of_ble_eq_true rfl) rfl (k_fi ?_) (fun _ _ _ _ _ _ _ hx => no_x hx)
  refine r_if_eq (pc := 7) 14 dX11_leafOf_7 rfl bz_g (fun h7 => ?_) (fun h7 => ?_)
  · rw [if_neg (bz_0.mp h7)] at hQ
    refine r_aload_n (pc := 14) dX11_leafOf_14 rfl rfl ?_
    refine r_ldc2 (pc := 15) (x := 461414299502) q1854 dX11_leafOf_15 (by decide +kernel) ?_
    refine r_callV1 (pc := 18) (Y_isW hs (by omega) fe_i) im_X11_isWord qs60 q2083 hs.o rfl dX11_leafOf_18 (Nat.le_of_ble_eq_true rfl) (Nat.le_of_ble_eq_true rfl) rfl (k_fi ?_) (fun _ _ _ _ _ _ _ hx => no_x hx)
    refine r_if_eq (pc := 21) 28 dX11_leafOf_21 rfl bz_g (fun h21 => ?_) (fun h21 => ?_)
    · rw [if_neg (bz_0.mp h21)] at hQ
      refine r_aload_n (pc := 28) dX11_leafOf_28 rfl rfl ?_
      refine r_ldc2 (pc := 29) (x := 1751477348) q1855 dX11_leafOf_29 (by decide +kernel) ?_
      refine r_callV1 (pc := 32) (Y_isW hs (by omega) fe_i) im_X11_isWord qs60 q2083 hs.o rfl dX11_leafOf_32 (Nat.le_of_ble_eq_true rfl) (Nat.le_of_ble_eq_true rfl) rfl (k_fi ?_) (fun _ _ _ _ _ _ _ hx => no_x hx)
      refine r_if_eq (pc := 35) 42 dX11_leafOf_35 rfl bz_g (fun h35 => ?_) (fun h35 => ?_)
      · rw [if_neg (bz_0.mp h35)] at hQ
        refine r_aload_n (pc := 42) dX11_leafOf_42 rfl rfl ?_
        refine r_ldc2 (pc := 43) (x := 448311223411) q1856 dX11_leafOf_43 (by decide +kernel) ?_
        refine r_callV1 (pc := 46) (Y_isW hs (by omega) fe_i) im_X11_isWord qs60 q2083 hs.o rfl dX11_leafOf_46 (Nat.le_of_ble_eq_true rfl) (Nat.le_of_ble_eq_true rfl) rfl (k_fi ?_) (fun _ _ _ _ _ _ _ hx => no_x hx)
        refine r_if_eq (pc := 49) 56 dX11_leafOf_49 rfl bz_g (fun h49 => ?_) (fun h49 => ?_)
        · rw [if_neg (bz_0.mp h49)] at hQ
          refine r_aload_n (pc := 56) dX11_leafOf_56 rfl rfl ?_
          refine r_ldc2 (pc := 57) (x := 114784635741540) q1857 dX11_leafOf_57 (by decide +kernel) ?_
          refine r_callV1 (pc := 60) (Y_isW hs (by omega) fe_i) im_X11_isWord qs60 q2083 hs.o rfl dX11_leafOf_60 (Nat.le_of_ble_eq_true rfl) (Nat.le_of_ble_eq_true rfl) rfl (k_fi ?_) (fun _ _ _ _ _ _ _ hx => no_x hx)
          refine r_if_eq (pc := 63) 70 dX11_leafOf_63 rfl bz_g (fun h63 => ?_) (fun h63 => ?_)
          · rw [if_neg (bz_0.mp h63)] at hQ
            refine r_aload_n (pc := 70) dX11_leafOf_70 rfl rfl ?_
            refine r_ldc2 (pc := 71) (x := 1836020596) q1858 dX11_leafOf_71 (by decide +kernel) ?_
            refine r_callV1 (pc := 74) (Y_isW hs (by omega) fe_i) im_X11_isWord qs60 q2083 hs.o rfl dX11_leafOf_74 (Nat.le_of_ble_eq_true rfl) (Nat.le_of_ble_eq_true rfl) rfl (k_fi ?_) (fun _ _ _ _ _ _ _ hx => no_x hx)
            refine r_if_eq (pc := 77) 84 dX11_leafOf_77 rfl bz_g (fun h77 => ?_) (fun h77 => ?_)
            · rw [if_neg (bz_0.mp h77)] at hQ
              refine r_aload_n (pc := 84) dX11_leafOf_84 rfl rfl ?_
              refine r_ldc2 (pc := 85) (x := 482854658917) q1859 dX11_leafOf_85 (by decide +kernel) ?_
              refine r_callV1 (pc := 88) (Y_isW hs (by omega) fe_i) im_X11_isWord qs60 q2083 hs.o rfl dX11_leafOf_88 (Nat.le_of_ble_eq_true rfl) (Nat.le_of_ble_eq_true rfl) rfl (k_fi ?_) (fun _ _ _ _ _ _ _ hx => no_x hx)
              refine r_if_eq (pc := 91) 99 dX11_leafOf_91 rfl bz_g (fun h91 => ?_) (fun h91 => ?_)
              · rw [if_neg (bz_0.mp h91)] at hQ
                refine r_iconst (pc := 99) dX11_leafOf_99 ?_
                refine r_ireturn (pc := 100) rfl rfl dX11_leafOf_100 (Nat.le_of_ble_eq_true rfl) (Nat.le_of_ble_eq_true rfl) ?_
                exact hQ
              rw [if_pos (bz_ne.mp h91)] at hQ
              refine r_bipush (pc := 94) dX11_leafOf_94 (by decide +kernel) ?_
              refine r_goto (pc := 96) 100 dX11_leafOf_96 rfl ?_
              refine r_ireturn (pc := 100) rfl rfl dX11_leafOf_100 (Nat.le_of_ble_eq_true rfl) (Nat.le_of_ble_eq_true rfl) ?_
              exact hQ
            rw [if_pos (bz_ne.mp h77)] at hQ
            refine r_iconst (pc := 80) dX11_leafOf_80 ?_
            refine r_goto (pc := 81) 100 dX11_leafOf_81 rfl ?_
            refine r_ireturn (pc := 100) rfl rfl dX11_leafOf_100 (Nat.le_of_ble_eq_true rfl) (Nat.le_of_ble_eq_true rfl) ?_
            exact hQ
          rw [if_pos (bz_ne.mp h63)] at hQ
          refine r_iconst (pc := 66) dX11_leafOf_66 ?_
          refine r_goto (pc := 67) 100 dX11_leafOf_67 rfl ?_
          refine r_ireturn (pc := 100) rfl rfl dX11_leafOf_100 (Nat.le_of_ble_eq_true rfl) (Nat.le_of_ble_eq_true rfl) ?_
          exact hQ
        rw [if_pos (bz_ne.mp h49)] at hQ
        refine r_iconst (pc := 52) dX11_leafOf_52 ?_
        refine r_goto (pc := 53) 100 dX11_leafOf_53 rfl ?_
        refine r_ireturn (pc := 100) rfl rfl dX11_leafOf_100 (Nat.le_of_ble_eq_true rfl) (Nat.le_of_ble_eq_true rfl) ?_
        exact hQ
      rw [if_pos (bz_ne.mp h35)] at hQ
      refine r_iconst (pc := 38) dX11_leafOf_38 ?_
      refine r_goto (pc := 39) 100 dX11_leafOf_39 rfl ?_
      refine r_ireturn (pc := 100) rfl rfl dX11_leafOf_100 (Nat.le_of_ble_eq_true rfl) (Nat.le_of_ble_eq_true rfl) ?_
      exact hQ
    rw [if_pos (bz_ne.mp h21)] at hQ
    refine r_iconst (pc := 24) dX11_leafOf_24 ?_
    refine r_goto (pc := 25) 100 dX11_leafOf_25 rfl ?_
    refine r_ireturn (pc := 100) rfl rfl dX11_leafOf_100 (Nat.le_of_ble_eq_true rfl) (Nat.le_of_ble_eq_true rfl) ?_
    exact hQ
  rw [if_pos (bz_ne.mp h7)] at hQ
  refine r_iconst (pc := 10) dX11_leafOf_10 ?_
  refine r_goto (pc := 11) 100 dX11_leafOf_11 rfl ?_
  refine r_ireturn (pc := 100) rfl rfl dX11_leafOf_100 (Nat.le_of_ble_eq_true rfl) (Nat.le_of_ble_eq_true rfl) ?_
  exact hQ
end M30
