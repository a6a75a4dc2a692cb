/-! ===== plain: words by their letters and by their codes ===== -/
def cod (L : List Int) : Int := L.foldl (fun w b => w * 256 + b) 0
theorem cod_app {L : List Int} {b : Int} : cod (L ++ [b]) = cod L * 256 + b := by simp [cod, List.foldl_append]
theorem nil_or_app (L : List Int) : L = [] ∨ ∃ M b, L = M ++ [b] := by
  rcases List.eq_nil_or_concat L with h | ⟨M, b, h⟩
  · exact Or.inl h
  · exact Or.inr ⟨M, b, by rw [h, List.concat_eq_append]⟩
theorem cod_nn {L : List Int} : ∀ n : Nat, L.length ≤ n → (∀ x ∈ L, 0 < x ∧ x < 256) → 0 ≤ cod L := by
  intro n
  induction n generalizing L with
  | zero => intro h _; rw [List.length_eq_zero_iff.mp (Nat.le_zero.mp h)]; exact Int.le_refl _
  | succ n ih =>
    intro h hx
    rcases nil_or_app L with rfl | ⟨M, b, rfl⟩
    · exact Int.le_refl _
    · rw [cod_app]
      have h1 := hx b (by simp)
      have h2 := ih (L := M) (by simp at h; omega) (fun x q => hx x (by simp [q]))
      omega
theorem cod_inj : ∀ (n : Nat) (L M : List Int), L.length ≤ n → (∀ x ∈ L, 0 < x ∧ x < 256) → (∀ x ∈ M, 0 < x ∧ x < 256) → cod L = cod M → L = M := by
  intro n
  induction n with
  | zero =>
    intro L M h _ hm he
    obtain rfl := List.length_eq_zero_iff.mp (Nat.le_zero.mp h)
    rcases nil_or_app M with rfl | ⟨M', b, rfl⟩
    · rfl
    · rw [cod_app] at he
      have h1 := hm b (by simp)
      have h2 := cod_nn (L := M') M'.length (Nat.le_refl _) (fun x q => hm x (by simp [q]))
      have h0 : cod ([] : List Int) = 0 := rfl
      omega
  | succ n ih =>
    intro L M h hl hm he
    rcases nil_or_app L with rfl | ⟨L', a, rfl⟩
    · rcases nil_or_app M with rfl | ⟨M', b, rfl⟩
      · rfl
      · rw [cod_app] at he
        have h1 := hm b (by simp)
        have h2 := cod_nn (L := M') M'.length (Nat.le_refl _) (fun x q => hm x (by simp [q]))
        have h0 : cod ([] : List Int) = 0 := rfl
        omega
    · have a1 := hl a (by simp)
      have a2 := cod_nn (L := L') L'.length (Nat.le_refl _) (fun x q => hl x (by simp [q]))
      rcases nil_or_app M with rfl | ⟨M', b, rfl⟩
      · rw [cod_app] at he
        have h0 : cod ([] : List Int) = 0 := rfl
        omega
      · rw [cod_app, cod_app] at he
        have b1 := hm b (by simp)
        have b2 := cod_nn (L := M') M'.length (Nat.le_refl _) (fun x q => hm x (by simp [q]))
        have e1 : a = b := by omega
        have e2 : cod L' = cod M' := by omega
        rw [ih L' M' (by simp at h; omega) (fun x q => hl x (by simp [q])) (fun x q => hm x (by simp [q])) e2, e1]
/-- a word: one to seven small letters -/
def WD (L : List Int) : Prop := 0 < L.length ∧ L.length ≤ 7 ∧ ∀ x ∈ L, 97 ≤ x ∧ x ≤ 122
theorem WD.inj {L M : List Int} (h : WD L) (k : WD M) : cod L = cod M ↔ L = M := ⟨fun e => cod_inj L.length L M (Nat.le_refl _) (fun x q => by have := h.2.2 x q; omega) (fun x q => by have := k.2.2 x q; omega) e, fun e => by rw [e]⟩
theorem WD.as {L : List Int} (h : WD L) : AS L := fun j => by
  rw [List.getD_eq_getElem?_getD]
  by_cases q : j < L.length
  · rw [List.getElem?_eq_getElem q]
    have := h.2.2 _ (List.getElem_mem q)
    show 0 ≤ L[j] ∧ L[j] < 128
    omega
  · rw [List.getElem?_eq_none (by omega)]
    exact ⟨Int.le_refl _, by decide⟩
/-- the bytes of a text -/
def sbs (t : String) : List Int := t.toList.map (fun c => (c.toNat : Int))
def wdsS : List String := ["kinds", "person", "hand", "heap", "again", "refill", "asks", "gives", "no", "or", "and", "not", "book", "known", "held", "hands", "heaped", "most", "place"]
def wds : List (List Int) := wdsS.map sbs
def taken : List Int := sbs " kinds person hand heap again refill asks gives no or and not book known held hands heaped most place "
theorem wds_WD : ∀ L ∈ wds, WD L := by
  have h : wds.all (fun L => decide (0 < L.length) && decide (L.length ≤ 7) && L.all (fun x => decide (97 ≤ x) && decide (x ≤ 122))) = true := by decide +kernel
  intro L hL
  have := List.all_eq_true.mp h L hL
  simp only [Bool.and_eq_true, decide_eq_true_eq, List.all_eq_true] at this
  exact ⟨this.1.1, this.1.2, fun x hx => this.2 x hx⟩
theorem occ_iff {L M : List Int} {i : Int} : occ L M i ↔ 0 ≤ i ∧ i + M.length ≤ L.length ∧ (L.drop i.toNat).take M.length = M := by
  unfold occ
  constructor
  · rintro ⟨h0, h1, h2⟩
    refine ⟨h0, h1, ?_⟩
    have hl : ((L.drop i.toNat).take M.length).length = M.length := by rw [List.length_take, List.length_drop]; omega
    refine getD_ext hl (fun j p q => ?_)
    rw [hl] at q
    rw [← h2 j p q, List.getD_eq_getElem?_getD, List.getElem?_take, if_pos (by omega), List.getElem?_drop, ← List.getD_eq_getElem?_getD]
    congr 1; omega
  · rintro ⟨h0, h1, h2⟩
    refine ⟨h0, h1, fun j p q => ?_⟩
    have : M.getD j.toNat 0 = ((L.drop i.toNat).take M.length).getD j.toNat 0 := by rw [h2]
    rw [this, List.getD_eq_getElem?_getD, List.getD_eq_getElem?_getD, List.getElem?_take, if_pos (by omega), List.getElem?_drop]
    congr 2; omega
def tk_chk (i n : Nat) : Bool := !(((taken.drop i).take (n + 2)).getD 0 0 == 32 && ((taken.drop i).take (n + 2)).getD (n + 1) 0 == 32 && decide (0 < n) && ((((taken.drop i).take (n + 2)).drop 1).take n).all (fun x => decide (97 ≤ x))) || wds.contains ((((taken.drop i).take (n + 2)).drop 1).take n)
theorem tk_all : (List.range 120).all (fun i => (List.range 8).all (fun n => tk_chk i n)) = true := by decide +kernel
theorem tk_back : wds.all (fun M => (List.range 120).any (fun i => decide (i + (M.length + 2) ≤ taken.length) && ((taken.drop i).take (M.length + 2) == 32 :: (M ++ [32])))) = true := by decide +kernel
theorem taken_len : taken.length ≤ 119 ∧ 9 ≤ taken.length := by decide +kernel
theorem tk {L : List Int} (h : WD L) : (∃ i, occ taken (32 :: (L ++ [32])) i) ↔ L ∈ wds := by
  have hlen : (32 :: (L ++ [32])).length = L.length + 2 := by simp
  constructor
  · rintro ⟨i, hi⟩
    obtain ⟨h0, h1, h2⟩ := occ_iff.mp hi
    rw [hlen] at h1 h2
    have ht := taken_len
    have hc := List.all_eq_true.mp (List.all_eq_true.mp tk_all i.toNat (List.mem_range.mpr (by omega))) L.length (List.mem_range.mpr (by have := h.2.1; omega))
    unfold tk_chk at hc
    rw [h2] at hc
    have e1 : (32 :: (L ++ [32])).getD 0 0 = 32 := rfl
    have e2 : (32 :: (L ++ [32])).getD (L.length + 1) 0 = 32 := by simp [List.getD_eq_getElem?_getD]
    have e3 : ((32 :: (L ++ [32])).drop 1).take L.length = L := by simp
    rw [e1, e2, e3] at hc
    have e4 : L.all (fun x => decide (97 ≤ x)) = true := List.all_eq_true.mpr fun x hx => by have := h.2.2 x hx; simp; omega
    rw [e4] at hc
    have e5 : decide (0 < L.length) = true := decide_eq_true h.1
    rw [e5] at hc
    simpa using hc
  · intro hm
    have hc := List.all_eq_true.mp tk_back L hm
    obtain ⟨i, -, hi⟩ := List.any_eq_true.mp hc
    simp only [Bool.and_eq_true, decide_eq_true_eq, beq_iff_eq] at hi
    refine ⟨i, occ_iff.mpr ⟨by omega, by rw [hlen]; omega, ?_⟩⟩
    rw [hlen, Int.toNat_natCast]
    exact hi.2
/-- the reserved words by their codes -/
def RES (ρ : Int → Int) : Prop := ∀ i : Nat, i < 19 → ρ i = cod (wds.getD i [])
theorem t_nmb_iff {ρ : Int → Int} {w : Int} : ∀ n : Nat, t_nmb ρ w n = true ↔ ∀ i : Nat, i < n → w ≠ ρ i := by
  intro n
  induction n with
  | zero => simp [t_nmb]
  | succ n ih =>
    unfold t_nmb
    rw [Bool.and_eq_true, ih, decide_eq_true_eq]
    constructor
    · rintro ⟨h1, h2⟩ i hi
      by_cases e : i = n
      · rw [e]; exact h2
      · exact h1 i (by omega)
    · intro h
      exact ⟨fun i hi => h i (by omega), h n (by omega)⟩
theorem RES.nm {ρ : Int → Int} (h : RES ρ) {L : List Int} (hL : WD L) : t_nm ρ (cod L) 19 ↔ ¬ L ∈ wds := by
  have hw : wds.length = 19 := by decide +kernel
  show t_nmb ρ (cod L) 19 = true ↔ _
  rw [t_nmb_iff]
  constructor
  · intro hk hm
    obtain ⟨i, hi, he⟩ := List.mem_iff_getElem.mp hm
    refine hk i (by omega) ?_
    rw [h i (by omega), List.getD_eq_getElem?_getD, List.getElem?_eq_getElem hi, ← he]
    rfl
  · intro hk i hi he
    rw [h i hi, List.getD_eq_getElem?_getD, List.getElem?_eq_getElem (by omega)] at he
    have hm : wds[i]'(by omega) ∈ wds := List.getElem_mem _
    have := (hL.inj (wds_WD _ hm)).mp he
    exact hk (by rw [this]; exact hm)
/-- texts by their codes: the same place -/
theorem ixo_find {Ls : List (List Int)} {L : List Int} {ν : Int → Int} {f : Int} (hL : WD L) (hN : ∀ i : Int, 0 ≤ i → i < Ls.length → WD (Ls.getD i.toNat []) ∧ cod (Ls.getD i.toNat []) = ν (f + i)) : ∀ (n : Nat) (i : Int), 0 ≤ i → i + n ≤ Ls.length → ixo Ls L i n = t_find ν (cod L) f i n := by
  intro n
  induction n with
  | zero => intro i _ _; rfl
  | succ n ih =>
    intro i h0 h1
    obtain ⟨hw, hc⟩ := hN i h0 (by omega)
    unfold ixo t_find
    by_cases e : L = Ls.getD i.toNat []
    · rw [if_pos e, if_pos (by rw [← hc, ← e])]
    · rw [if_neg e, if_neg (fun q => e ((hL.inj hw).mp (by rw [hc, q]))), ih (i + 1) (by omega) (by omega)]
