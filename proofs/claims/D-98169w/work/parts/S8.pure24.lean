/-! ===== plain: a sentence is read, by a stack; the same comes out ===== -/
/-- where; code so far; stack, top first; how deep; how many; whether an operand is whole -/
abbrev YS := TS × List CD × List Int × Int × Int × Int
def y_nt : List Int → List CD → Int → List CD × List Int × Int
  | [], O, d => (O, [], d)
  | c :: S, O, d => if c = 10 then y_nt S (O ++ [(10, 0, 0)]) (d - 1) else (O, c :: S, d)
def y_jn (t : Int) : List Int → List CD → List CD × List Int
  | [], O => (O, [])
  | c :: S, O => if c = 11 ∨ (c = 12 ∧ t = 12) then y_jn t S (O ++ [(c, 0, 0)]) else (O, c :: S)
/-- a step: it goes on, or ends -/
def y_opd (τ ρ : Int → Int) (n : Nat) (Y : YS) : Option YS × SR :=
  if ¬ opn Y.1 then (none, (0, g_bad 1 Y.1, 0, []))
  else if Y.2.2.2.2.1 = 20 ∨ 8 < Y.2.2.2.1 then (none, (0, g_bad 4 Y.1, 0, []))
  else if isW 7237492 Y.1 then (some (g_nx τ Y.1, Y.2.1, 10 :: Y.2.2.1, Y.2.2.2.1 + 1, Y.2.2.2.2.1 + 1, 0), (0, Y.1, 0, []))
  else if isG 40 Y.1 then (some (g_nx τ Y.1, Y.2.1, 13 :: Y.2.2.1, Y.2.2.2.1 + 1, Y.2.2.2.2.1 + 1, 0), (0, Y.1, 0, []))
  else if (s_leaf τ ρ n (lf Y.1) (g_nx τ Y.1) 0).1 = 0 then (none, (0, (s_leaf τ ρ n (lf Y.1) (g_nx τ Y.1) 0).2.1, 0, []))
  else (some ((s_leaf τ ρ n (lf Y.1) (g_nx τ Y.1) 0).2.1, Y.2.1 ++ (s_leaf τ ρ n (lf Y.1) (g_nx τ Y.1) 0).2.2.2, Y.2.2.1, Y.2.2.2.1, Y.2.2.2.2.1 + 1, 1), (0, Y.1, 0, []))
/-- behind an operand; N: what is left when all nots are done -/
def y_bhd (τ : Int → Int) (s : TS) (o : Int) (N : List CD × List Int × Int) : Option YS × SR :=
  if isW 6385252 s then (some (g_nx τ s, (y_jn 11 N.2.1 N.1).1, 11 :: (y_jn 11 N.2.1 N.1).2, N.2.2, o, 0), (0, s, 0, []))
  else if isW 28530 s then (some (g_nx τ s, (y_jn 12 N.2.1 N.1).1, 12 :: (y_jn 12 N.2.1 N.1).2, N.2.2, o, 0), (0, s, 0, []))
  else if ¬ isG 41 s ∨ (y_jn 12 N.2.1 N.1).2 = [] then (none, (0, g_bad 1 s, 0, []))
  else (some (g_nx τ s, (y_jn 12 N.2.1 N.1).1, (y_jn 12 N.2.1 N.1).2.tail, N.2.2 - 1, o, 1), (0, s, 0, []))
def y_end (s : TS) (o : Int) (N : List CD × List Int × Int) : Option YS × SR :=
  if (y_jn 12 N.2.1 N.1).2 ≠ [] then (none, (0, g_bad 1 s, 0, [])) else (none, (1, s, o, (y_jn 12 N.2.1 N.1).1))
def y_stp (τ ρ : Int → Int) (n : Nat) (Y : YS) : Option YS × SR :=
  if Y.2.2.2.2.2 = 0 then y_opd τ ρ n Y
  else if Y.1.1 11 = 0 then y_end Y.1 Y.2.2.2.2.1 (y_nt Y.2.2.1 Y.2.1 Y.2.2.2.1)
  else y_bhd τ Y.1 Y.2.2.2.2.1 (y_nt Y.2.2.1 Y.2.1 Y.2.2.2.1)
def y_run (τ ρ : Int → Int) (n : Nat) : Nat → YS → Option SR
  | 0, _ => none
  | k + 1, Y => match (y_stp τ ρ n Y).1 with
    | some Y' => y_run τ ρ n k Y'
    | none => some (y_stp τ ρ n Y).2
def Ends (τ ρ : Int → Int) (n : Nat) (Y : YS) (r : SR) : Prop := ∃ k, y_run τ ρ n k Y = some r
section PU24
variable {τ ρ : Int → Int} {n : Nat} {s : TS} {o d : Int} {Y Y' : YS} {r r' R : SR} {O : List CD} {S : List Int}
theorem y_run_s : ∀ (k : Nat) {Y : YS}, y_run τ ρ n k Y = some r → y_run τ ρ n (k + 1) Y = some r := by
  intro k
  induction k with
  | zero => intro Y h; cases h
  | succ k ih =>
    intro Y h
    unfold y_run at h ⊢
    split at h
    · exact ih h
    · exact h
theorem y_run_le {k m : Nat} (h : k ≤ m) (hk : y_run τ ρ n k Y = some r) : y_run τ ρ n m Y = some r := by
  induction h with
  | refl => exact hk
  | step _ ih => exact y_run_s _ ih
theorem Ends.one (h : Ends τ ρ n Y r) (h' : Ends τ ρ n Y r') : r = r' := by
  obtain ⟨k, hk⟩ := h
  obtain ⟨m, hm⟩ := h'
  have a := y_run_le (Nat.le_max_left k m) hk
  have b := y_run_le (Nat.le_max_right k m) hm
  rw [a] at b
  exact Option.some.inj b
theorem Ends.st (h : (y_stp τ ρ n Y).1 = some Y') (k : Ends τ ρ n Y' r) : Ends τ ρ n Y r := by
  obtain ⟨m, hm⟩ := k
  refine ⟨m + 1, ?_⟩
  unfold y_run
  rw [h]
  exact hm
theorem Ends.fin (h : y_stp τ ρ n Y = (none, r)) : Ends τ ρ n Y r := by
  refine ⟨1, ?_⟩
  unfold y_run
  rw [h]
theorem Ends.eq (h : y_stp τ ρ n Y = y_stp τ ρ n Y') (k : Ends τ ρ n Y' r) : Ends τ ρ n Y r := by
  obtain ⟨m, hm⟩ := k
  cases m with
  | zero => cases hm
  | succ m =>
    refine ⟨m + 1, ?_⟩
    unfold y_run at hm ⊢
    rw [h]
    exact hm
abbrev Wh (s : TS) (O : List CD) (S : List Int) (d o : Int) : YS := (s, O, S, d, o, 1)
abbrev Op (s : TS) (O : List CD) (S : List Int) (d o : Int) : YS := (s, O, S, d, o, 0)
theorem stp_wh : y_stp τ ρ n (Wh s O S d o) = if s.1 11 = 0 then y_end s o (y_nt S O d) else y_bhd τ s o (y_nt S O d) := by
  unfold y_stp
  rw [if_neg (show ¬ (Wh s O S d o).2.2.2.2.2 = 0 from (by decide : ¬ (1 : Int) = 0))]
theorem stp_op : y_stp τ ρ n (Op s O S d o) = y_opd τ ρ n (Op s O S d o) := by
  unfold y_stp
  exact if_pos rfl
/-- no not, no and, (no or) on top -/
def hd2 (S : List Int) : Prop := ∀ c, S.head? = some c → c ≠ 10 ∧ c ≠ 11
def hd3 (S : List Int) : Prop := ∀ c, S.head? = some c → c ≠ 10 ∧ c ≠ 11 ∧ c ≠ 12
theorem hd3.to2 (h : hd3 S) : hd2 S := fun c q => ⟨(h c q).1, (h c q).2.1⟩
theorem nt_hd (h : hd2 S) : y_nt S O d = (O, S, d) := by
  cases S with
  | nil => rfl
  | cons c S => unfold y_nt; rw [if_neg (h c rfl).1]
theorem jn11_hd (h : hd2 S) : y_jn 11 S O = (O, S) := by
  cases S with
  | nil => rfl
  | cons c S => unfold y_jn; rw [if_neg (fun q => by have := (h c rfl).2; omega)]
theorem jn12_hd (h : hd3 S) : y_jn 12 S O = (O, S) := by
  cases S with
  | nil => rfl
  | cons c S => unfold y_jn; rw [if_neg (fun q => by have := (h c rfl).2; omega)]
/-- a not is due -/
theorem due_not (h : Ends τ ρ n (Wh s (O ++ [(10, 0, 0)]) S d o) R) : Ends τ ρ n (Wh s O (10 :: S) (d + 1) o) R := by
  refine Ends.eq ?_ h
  rw [stp_wh, stp_wh]
  have e : y_nt (10 :: S) O (d + 1) = y_nt S (O ++ [(10, 0, 0)]) d := by
    conv => lhs; unfold y_nt
    rw [if_pos rfl, show d + 1 - 1 = d by omega]
  rw [e]
/-- an and is due -/
theorem due_and (hS : hd2 S) (h : Ends τ ρ n (Wh s (O ++ [(11, 0, 0)]) S d o) R) : Ends τ ρ n (Wh s O (11 :: S) d o) R := by
  refine Ends.eq ?_ h
  rw [stp_wh, stp_wh, nt_hd hS]
  have e : y_nt (11 :: S) O d = (O, 11 :: S, d) := by unfold y_nt; rw [if_neg (by decide)]
  have j1 : y_jn 11 (11 :: S) O = y_jn 11 S (O ++ [(11, 0, 0)]) := by
    show (if (11 : Int) = 11 ∨ ((11 : Int) = 12 ∧ (11 : Int) = 12) then y_jn 11 S (O ++ [(11, 0, 0)]) else (O, 11 :: S)) = _
    exact if_pos (Or.inl rfl)
  have j2 : y_jn 12 (11 :: S) O = y_jn 12 S (O ++ [(11, 0, 0)]) := by
    show (if (11 : Int) = 11 ∨ ((11 : Int) = 12 ∧ (12 : Int) = 12) then y_jn 12 S (O ++ [(11, 0, 0)]) else (O, 11 :: S)) = _
    exact if_pos (Or.inl rfl)
  rw [e]
  unfold y_end y_bhd
  dsimp only
  rw [j1, j2]
/-- an or is due, and no and comes -/
theorem due_or (hS : hd3 S) (hw : ¬ isW 6385252 s) (h : Ends τ ρ n (Wh s (O ++ [(12, 0, 0)]) S d o) R) : Ends τ ρ n (Wh s O (12 :: S) d o) R := by
  refine Ends.eq ?_ h
  rw [stp_wh, stp_wh, nt_hd hS.to2]
  have e : y_nt (12 :: S) O d = (O, 12 :: S, d) := by unfold y_nt; rw [if_neg (by decide)]
  have j2 : y_jn 12 (12 :: S) O = y_jn 12 S (O ++ [(12, 0, 0)]) := by
    show (if (12 : Int) = 11 ∨ ((12 : Int) = 12 ∧ (12 : Int) = 12) then y_jn 12 S (O ++ [(12, 0, 0)]) else (O, 12 :: S)) = _
    exact if_pos (Or.inr ⟨rfl, rfl⟩)
  rw [e]
  unfold y_end y_bhd
  dsimp only
  rw [if_neg hw, if_neg hw, j2]
/-- f reads an operand (a chain) just as the stack does -/
def Sm (τ ρ : Int → Int) (n : Nat) (H : List Int → Prop) (f : TS → Int → SR) (d : Int) : Prop := ∀ s o O S, H S → TI s.1 → 0 ≤ o → o ≤ 20 → ((f s o).1 = 0 → Ends τ ρ n (Op s O S d o) (0, (f s o).2.1, 0, [])) ∧ ((f s o).1 = 1 → ∀ R, Ends τ ρ n (Wh (f s o).2.1 (O ++ (f s o).2.2.2) S d (f s o).2.2.1) R → Ends τ ρ n (Op s O S d o) R)
theorem Sm.and_al {f : TS → Int → SR} (hf : Sm τ ρ n (fun _ => True) f d) (ho : SFn n f) (hS : hd2 S) : ∀ (k : Nat) (s1 : TS) (o1 : Int) (L : List CD), TI s1.1 → 0 ≤ o1 → o1 ≤ 20 → 21 ≤ o1 + k → ((s_al τ 6385252 11 f k s1 o1 L).1 = 0 → Ends τ ρ n (Wh s1 (O ++ L) S d o1) (0, (s_al τ 6385252 11 f k s1 o1 L).2.1, 0, [])) ∧ ((s_al τ 6385252 11 f k s1 o1 L).1 = 1 → ∀ R, Ends τ ρ n (Wh (s_al τ 6385252 11 f k s1 o1 L).2.1 (O ++ (s_al τ 6385252 11 f k s1 o1 L).2.2.2) S d (s_al τ 6385252 11 f k s1 o1 L).2.2.1) R → Ends τ ρ n (Wh s1 (O ++ L) S d o1) R) := by
  intro k
  induction k with
  | zero => intro s1 o1 L _ _ h1 h2; omega
  | succ k ih =>
    intro s1 o1 L ht h0 h1 h2
    unfold s_al
    by_cases c : isW 6385252 s1
    · rw [if_pos c]
      have est : (y_stp τ ρ n (Wh s1 (O ++ L) S d o1)).1 = some (Op (g_nx τ s1) (O ++ L) (11 :: S) d o1) := by
        rw [stp_wh, if_neg (by have := c.1; omega), nt_hd hS]
        unfold y_bhd
        rw [if_pos c]
        dsimp only
        rw [jn11_hd hS]
      have ok := ho (g_nx τ s1) o1 ht.nx h0 h1
      have sm := hf (g_nx τ s1) o1 (O ++ L) (11 :: S) trivial ht.nx h0 h1
      generalize f (g_nx τ s1) o1 = r at *
      by_cases c0 : r.1 = 0
      · rw [if_pos c0]
        exact ⟨fun _ => Ends.st est (sm.1 c0), fun q => by omega⟩
      · rw [if_neg c0]
        have r1 : r.1 = 1 := by have := ok.1; omega
        obtain ⟨d1, d2, -, -⟩ := ok.2.2.2.2.2 r1
        have d5 := ok.2.1
        have key := ih r.2.1 r.2.2.1 (L ++ r.2.2.2 ++ [(11, 0, 0)]) d1 (by omega) (by omega) (by omega)
        have eL : O ++ (L ++ r.2.2.2 ++ [(11, 0, 0)]) = O ++ L ++ r.2.2.2 ++ [(11, 0, 0)] := by simp only [List.append_assoc]
        have go : ∀ R, Ends τ ρ n (Wh r.2.1 (O ++ (L ++ r.2.2.2 ++ [(11, 0, 0)])) S d r.2.2.1) R → Ends τ ρ n (Wh s1 (O ++ L) S d o1) R := fun R h => by
          rw [eL] at h
          exact Ends.st est (sm.2 r1 R (due_and hS h))
        exact ⟨fun q => go _ (key.1 q), fun q R h => go R (key.2 q R h)⟩
    · rw [if_neg c]
      exact ⟨fun q => absurd (show (1 : Int) = 0 from q) (by decide), fun _ R h => h⟩
theorem Sm.and {f : TS → Int → SR} (hf : Sm τ ρ n (fun _ => True) f d) (ho : SFn n f) : Sm τ ρ n hd2 (s_and τ f) d := by
  intro s o O S hS ht h0 h1
  have ok := ho s o ht h0 h1
  have sm := hf s o O S trivial ht h0 h1
  unfold s_and s_ch
  generalize f s o = r at *
  by_cases c0 : r.1 = 0
  · rw [if_pos c0]
    exact ⟨fun _ => sm.1 c0, fun q => by omega⟩
  · rw [if_neg c0]
    have r1 : r.1 = 1 := by have := ok.1; omega
    obtain ⟨d1, d2, -, -⟩ := ok.2.2.2.2.2 r1
    have d5 := ok.2.1
    have key := Sm.and_al (O := O) hf ho hS 21 r.2.1 r.2.2.1 r.2.2.2 d1 (by omega) (by omega) (by omega)
    exact ⟨fun q => sm.2 r1 _ (key.1 q), fun q R h => sm.2 r1 R (key.2 q R h)⟩
theorem Sm.or_al {f : TS → Int → SR} (hf : Sm τ ρ n hd2 f d) (ho : SFn n f) (hw : ∀ s o, TI s.1 → 0 ≤ o → o ≤ 20 → (f s o).1 = 1 → ¬ isW 6385252 (f s o).2.1) (hS : hd3 S) : ∀ (k : Nat) (s1 : TS) (o1 : Int) (L : List CD), ¬ isW 6385252 s1 → TI s1.1 → 0 ≤ o1 → o1 ≤ 20 → 21 ≤ o1 + k → ((s_al τ 28530 12 f k s1 o1 L).1 = 0 → Ends τ ρ n (Wh s1 (O ++ L) S d o1) (0, (s_al τ 28530 12 f k s1 o1 L).2.1, 0, [])) ∧ ((s_al τ 28530 12 f k s1 o1 L).1 = 1 → ¬ isW 6385252 (s_al τ 28530 12 f k s1 o1 L).2.1 ∧ ∀ R, Ends τ ρ n (Wh (s_al τ 28530 12 f k s1 o1 L).2.1 (O ++ (s_al τ 28530 12 f k s1 o1 L).2.2.2) S d (s_al τ 28530 12 f k s1 o1 L).2.2.1) R → Ends τ ρ n (Wh s1 (O ++ L) S d o1) R) := by
  intro k
  induction k with
  | zero => intro s1 o1 L _ _ _ h1 h2; omega
  | succ k ih =>
    intro s1 o1 L hna ht h0 h1 h2
    unfold s_al
    by_cases c : isW 28530 s1
    · rw [if_pos c]
      have est : (y_stp τ ρ n (Wh s1 (O ++ L) S d o1)).1 = some (Op (g_nx τ s1) (O ++ L) (12 :: S) d o1) := by
        rw [stp_wh, if_neg (by have := c.1; omega), nt_hd hS.to2]
        unfold y_bhd
        rw [if_neg hna, if_pos c]
        dsimp only
        rw [jn12_hd hS]
      have ok := ho (g_nx τ s1) o1 ht.nx h0 h1
      have hwr := hw (g_nx τ s1) o1 ht.nx h0 h1
      have sm := hf (g_nx τ s1) o1 (O ++ L) (12 :: S) (fun c q => by cases q; exact ⟨by decide, by decide⟩) ht.nx h0 h1
      generalize f (g_nx τ s1) o1 = r at *
      by_cases c0 : r.1 = 0
      · rw [if_pos c0]
        exact ⟨fun _ => Ends.st est (sm.1 c0), fun q => by omega⟩
      · rw [if_neg c0]
        have r1 : r.1 = 1 := by have := ok.1; omega
        obtain ⟨d1, d2, -, -⟩ := ok.2.2.2.2.2 r1
        have d5 := ok.2.1
        have key := ih r.2.1 r.2.2.1 (L ++ r.2.2.2 ++ [(12, 0, 0)]) (hwr r1) d1 (by omega) (by omega) (by omega)
        have eL : O ++ (L ++ r.2.2.2 ++ [(12, 0, 0)]) = O ++ L ++ r.2.2.2 ++ [(12, 0, 0)] := by simp only [List.append_assoc]
        have go : ∀ R, Ends τ ρ n (Wh r.2.1 (O ++ (L ++ r.2.2.2 ++ [(12, 0, 0)])) S d r.2.2.1) R → Ends τ ρ n (Wh s1 (O ++ L) S d o1) R := fun R h => by
          rw [eL] at h
          exact Ends.st est (sm.2 r1 R (due_or hS (hwr r1) h))
        exact ⟨fun q => go _ (key.1 q), fun q => ⟨(key.2 q).1, fun R h => go R ((key.2 q).2 R h)⟩⟩
    · rw [if_neg c]
      exact ⟨fun q => absurd (show (1 : Int) = 0 from q) (by decide), fun _ => ⟨hna, fun R h => h⟩⟩
/-- a whole or-chain: what comes is neither and nor or -/
theorem Sm.or {f : TS → Int → SR} (hf : Sm τ ρ n (fun _ => True) f d) (ho : SFn n f) : Sm τ ρ n hd3 (s_or τ f) d ∧ ∀ s o, TI s.1 → 0 ≤ o → o ≤ 20 → (s_or τ f s o).1 = 1 → ¬ isW 6385252 (s_or τ f s o).2.1 ∧ ¬ isW 28530 (s_or τ f s o).2.1 := by
  have hw : ∀ s o, TI s.1 → 0 ≤ o → o ≤ 20 → (s_and τ f s o).1 = 1 → ¬ isW 6385252 (s_and τ f s o).2.1 := fun s o ht h0 h1 => (SOk.ch (τ := τ) (w := 6385252) ho (Or.inl rfl) ht h0 h1).2
  have hA := hf.and ho
  have oA : SFn n (s_and τ f) := SFn.and ho
  have key : ∀ s o O S, hd3 S → TI s.1 → 0 ≤ o → o ≤ 20 → ((s_or τ f s o).1 = 0 → Ends τ ρ n (Op s O S d o) (0, (s_or τ f s o).2.1, 0, [])) ∧ ((s_or τ f s o).1 = 1 → ¬ isW 6385252 (s_or τ f s o).2.1 ∧ ∀ R, Ends τ ρ n (Wh (s_or τ f s o).2.1 (O ++ (s_or τ f s o).2.2.2) S d (s_or τ f s o).2.2.1) R → Ends τ ρ n (Op s O S d o) R) := by
    intro s o O S hS ht h0 h1
    have ok := oA s o ht h0 h1
    have hwr := hw s o ht h0 h1
    have sm := hA s o O S hS.to2 ht h0 h1
    unfold s_or s_ch
    generalize s_and τ f s o = r at *
    by_cases c0 : r.1 = 0
    · rw [if_pos c0]
      exact ⟨fun _ => sm.1 c0, fun q => by omega⟩
    · rw [if_neg c0]
      have r1 : r.1 = 1 := by have := ok.1; omega
      obtain ⟨d1, d2, -, -⟩ := ok.2.2.2.2.2 r1
      have d5 := ok.2.1
      have key := Sm.or_al (O := O) hA oA hw hS 21 r.2.1 r.2.2.1 r.2.2.2 (hwr r1) d1 (by omega) (by omega) (by omega)
      exact ⟨fun q => sm.2 r1 _ (key.1 q), fun q => ⟨(key.2 q).1, fun R h => sm.2 r1 R ((key.2 q).2 R h)⟩⟩
  refine ⟨fun s o O S hS ht h0 h1 => ⟨(key s o O S hS ht h0 h1).1, fun q => ((key s o O S hS ht h0 h1).2 q).2⟩, fun s o ht h0 h1 q => ⟨((key s o [] [] (fun c q => by cases q) ht h0 h1).2 q).1, (SOk.ch (τ := τ) (w := 28530) oA (Or.inr rfl) ht h0 h1).2 q⟩⟩
theorem lf_o {l o o' : Int} : (s_leaf τ ρ n l s o).1 = (s_leaf τ ρ n l s o').1 ∧ (s_leaf τ ρ n l s o).2.1 = (s_leaf τ ρ n l s o').2.1 ∧ (s_leaf τ ρ n l s o).2.2.1 = o ∧ (s_leaf τ ρ n l s o).2.2.2 = (s_leaf τ ρ n l s o').2.2.2 := by
  unfold s_leaf s_who s_than
  split
  · exact ⟨rfl, rfl, rfl, rfl⟩
  · split
    · split
      · exact ⟨rfl, rfl, rfl, rfl⟩
      · split <;> exact ⟨rfl, rfl, rfl, rfl⟩
    · split
      · exact ⟨rfl, rfl, rfl, rfl⟩
      · split <;> exact ⟨rfl, rfl, rfl, rfl⟩
theorem Sm.one : ∀ k : Nat, k ≤ 8 → Sm τ ρ n (fun _ => True) (s_one τ ρ n k) (9 - k) := by
  intro k
  induction k with
  | zero =>
    intro _ s o O S _ ht h0 h1
    have est := stp_op (τ := τ) (ρ := ρ) (n := n) (s := s) (O := O) (S := S) (d := 9 - ((0 : Nat) : Int)) (o := o)
    unfold y_opd at est
    dsimp only at est
    unfold s_one
    by_cases c : opn s
    · rw [if_neg (fun q => q c)] at est ⊢
      rw [if_pos (Or.inr (by omega))] at est
      exact ⟨fun _ => Ends.fin est, fun q => absurd (show (0 : Int) = 1 from q) (by decide)⟩
    · rw [if_pos c] at est ⊢
      exact ⟨fun _ => Ends.fin est, fun q => absurd (show (0 : Int) = 1 from q) (by decide)⟩
  | succ k ih =>
    intro hk s o O S _ ht h0 h1
    have hf := ih (by omega)
    have ed : (9 : Int) - (k : Nat) = 9 - ((k + 1 : Nat) : Int) + 1 := by omega
    rw [ed] at hf
    have hd8 : 9 - ((k + 1 : Nat) : Int) ≤ 8 := by omega
    generalize (9 : Int) - ((k + 1 : Nat) : Int) = d at *
    have est := stp_op (τ := τ) (ρ := ρ) (n := n) (s := s) (O := O) (S := S) (d := d) (o := o)
    unfold y_opd at est
    dsimp only at est
    unfold s_one
    by_cases c : opn s
    · rw [if_neg (fun q => q c)] at est ⊢
      by_cases c2 : 20 ≤ o
      · rw [if_pos (Or.inl (by omega))] at est
        rw [if_pos c2]
        exact ⟨fun _ => Ends.fin est, fun q => absurd (show (0 : Int) = 1 from q) (by decide)⟩
      · rw [if_neg (by omega)] at est
        rw [if_neg c2]
        have ho : SFn n (s_one τ ρ n k) := SFn.one k
        unfold s_op
        by_cases c3 : isG 40 s
        · rw [if_neg (fun q => by have := q.1; have := c3.1; omega), if_pos c3] at est
          rw [if_pos c3]
          have est' : (y_stp τ ρ n (Op s O S d o)).1 = some (Op (g_nx τ s) O (13 :: S) (d + 1) (o + 1)) := by rw [est]
          obtain ⟨so, sw⟩ := hf.or ho
          have ok := ho.or (τ := τ) (g_nx τ s) (o + 1) ht.nx (by omega) (by omega)
          have sm := so (g_nx τ s) (o + 1) O (13 :: S) (fun c q => by cases q; exact ⟨by decide, by decide, by decide⟩) ht.nx (by omega) (by omega)
          have swr := sw (g_nx τ s) (o + 1) ht.nx (by omega) (by omega)
          generalize s_or τ (s_one τ ρ n k) (g_nx τ s) (o + 1) = r at *
          by_cases c0 : r.1 = 0
          · rw [if_pos c0]
            exact ⟨fun _ => Ends.st est' (sm.1 c0), fun q => by omega⟩
          · rw [if_neg c0]
            have r1 : r.1 = 1 := by have := ok.1; omega
            have w9 := swr r1
            have e13 : y_nt (13 :: S) (O ++ r.2.2.2) (d + 1) = (O ++ r.2.2.2, 13 :: S, d + 1) := by unfold y_nt; rw [if_neg (by decide)]
            have j13 : y_jn 12 (13 :: S) (O ++ r.2.2.2) = (O ++ r.2.2.2, 13 :: S) := by unfold y_jn; rw [if_neg (by omega)]
            have fs : y_stp τ ρ n (Wh r.2.1 (O ++ r.2.2.2) (13 :: S) (d + 1) r.2.2.1) = if ¬ isG 41 r.2.1 then (none, (0, g_bad 1 r.2.1, 0, [])) else (some (Wh (g_nx τ r.2.1) (O ++ r.2.2.2) S d r.2.2.1), (0, r.2.1, 0, [])) := by
              rw [stp_wh, e13]
              unfold y_end y_bhd
              dsimp only
              rw [j13, if_neg w9.1, if_neg w9.2]
              by_cases q : isG 41 r.2.1
              · rw [if_neg (by have := q.1; omega), if_neg (fun c => by rcases c with c | c; exact c q; cases c), if_neg (fun c => c q), show d + 1 - 1 = d by omega]
                rfl
              · rw [if_pos (show (¬ isG 41 r.2.1 ∨ (13 :: S) = []) from Or.inl q), if_pos q, if_pos (show (13 :: S) ≠ [] from fun c => by cases c)]
                split <;> rfl
            by_cases q : isG 41 r.2.1
            · rw [if_neg (fun c => c q)] at fs ⊢
              exact ⟨fun q => absurd (show (1 : Int) = 0 from q) (by decide), fun _ R h => Ends.st est' (sm.2 r1 R (Ends.st (by rw [fs]) h))⟩
            · rw [if_pos q] at fs ⊢
              exact ⟨fun _ => Ends.st est' (sm.2 r1 _ (Ends.fin fs)), fun q => absurd (show (0 : Int) = 1 from q) (by decide)⟩
        · rw [if_neg c3]
          by_cases c4 : isW 7237492 s
          · rw [if_pos c4] at est ⊢
            have est' : (y_stp τ ρ n (Op s O S d o)).1 = some (Op (g_nx τ s) O (10 :: S) (d + 1) (o + 1)) := by rw [est]
            have ok := ho (g_nx τ s) (o + 1) ht.nx (by omega) (by omega)
            have sm := hf (g_nx τ s) (o + 1) O (10 :: S) trivial ht.nx (by omega) (by omega)
            generalize s_one τ ρ n k (g_nx τ s) (o + 1) = r at *
            by_cases c0 : r.1 = 0
            · rw [if_pos c0]
              exact ⟨fun _ => Ends.st est' (sm.1 c0), fun q => by omega⟩
            · rw [if_neg c0]
              have r1 : r.1 = 1 := by have := ok.1; omega
              refine ⟨fun q => absurd (show (1 : Int) = 0 from q) (by decide), fun _ R h => Ends.st est' (sm.2 r1 R (due_not ?_))⟩
              dsimp only at h
              rw [← List.append_assoc] at h
              exact h
          · rw [if_neg c4, if_neg c3] at est
            rw [if_neg c4]
            have q9 := lf_o (τ := τ) (ρ := ρ) (n := n) (s := g_nx τ s) (l := lf s) (o := o + 1) (o' := 0)
            by_cases c0 : (s_leaf τ ρ n (lf s) (g_nx τ s) 0).1 = 0
            · rw [if_pos c0] at est
              rw [q9.1, q9.2.1]
              exact ⟨fun _ => Ends.fin est, fun q => by omega⟩
            · rw [if_neg c0] at est
              rw [q9.1, q9.2.1, q9.2.2.1, q9.2.2.2]
              exact ⟨fun q => absurd q c0, fun _ R h => Ends.st (by rw [est]) h⟩
    · rw [if_pos c] at est ⊢
      exact ⟨fun _ => Ends.fin est, fun q => absurd (show (0 : Int) = 1 from q) (by decide)⟩
/-- the same comes out -/
theorem s_all_Ends (ht : TI (g_nx τ s).1) : ((s_all τ ρ n s).1 = 0 → Ends τ ρ n (Op (g_nx τ s) [] [] 1 0) (0, (s_all τ ρ n s).2.1, 0, [])) ∧ ((s_all τ ρ n s).1 ≠ 0 → (s_all τ ρ n s).1 = 1 ∧ Ends τ ρ n (Op (g_nx τ s) [] [] 1 0) (s_all τ ρ n s)) := by
  have hf := Sm.one (τ := τ) (ρ := ρ) (n := n) 8 (by omega)
  have ho : SFn n (s_one τ ρ n 8) := SFn.one 8
  obtain ⟨so, sw⟩ := hf.or ho
  have sm := so (g_nx τ s) 0 [] [] (fun c q => by cases q) ht (by omega) (by omega)
  have swr := sw (g_nx τ s) 0 ht (by omega) (by omega)
  have ok := ho.or (τ := τ) (g_nx τ s) 0 ht (by omega) (by omega)
  have e9 : (9 : Int) - ((8 : Nat) : Int) = 1 := rfl
  rw [e9] at sm
  unfold s_all
  generalize s_or τ (s_one τ ρ n 8) (g_nx τ s) 0 = r at *
  by_cases c0 : r.1 = 0
  · rw [if_pos c0]
    exact ⟨fun _ => sm.1 c0, fun q => absurd c0 q⟩
  · rw [if_neg c0]
    have r1 : r.1 = 1 := by have := ok.1; omega
    have w9 := swr r1
    have fs : y_stp τ ρ n (Wh r.2.1 ([] ++ r.2.2.2) [] 1 r.2.2.1) = if r.2.1.1 11 ≠ 0 then (none, (0, g_bad 1 r.2.1, 0, [])) else (none, (1, r.2.1, r.2.2.1, r.2.2.2)) := by
      rw [stp_wh]
      unfold y_end y_bhd y_nt y_jn
      dsimp only
      rw [if_neg w9.1, if_neg w9.2, if_pos (Or.inr rfl), List.nil_append]
      by_cases q : r.2.1.1 11 = 0
      · rw [if_pos q, if_neg (fun c => c rfl), if_neg (fun c => c q)]
      · rw [if_neg q, if_pos q]
    by_cases q : r.2.1.1 11 ≠ 0
    · rw [if_pos q] at fs ⊢
      exact ⟨fun _ => sm.2 r1 _ (Ends.fin fs), fun q => absurd rfl q⟩
    · rw [if_neg q] at fs ⊢
      refine ⟨fun q => by omega, fun _ => ⟨r1, ?_⟩⟩
      have e : r = (1, r.2.1, r.2.2.1, r.2.2.2) := by rw [← r1]
      rw [e]
      exact sm.2 r1 _ (Ends.fin fs)
end PU24
