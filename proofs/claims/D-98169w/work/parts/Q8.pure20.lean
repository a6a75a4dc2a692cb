/-! ===== odds: fewer ways by more that can't be ===== -/
section PU20
variable {κ u σ : Int → Int} {n : Nat} {o q k w : Int}
def SbL (κ : Int → Int) (n : Nat) : List Int → List Int → Prop
  | [], [] => True
  | a :: L, b :: M => (∀ i : Int, 0 ≤ i → i < n → tb b (κ i) → tb a (κ i)) ∧ SbL κ n L M
  | _, _ => False
theorem SbL.app : ∀ {L L' M M' : List Int}, SbL κ n L L' → SbL κ n M M' → SbL κ n (L ++ M) (L' ++ M')
  | [], [], _, _, _, h => h
  | _ :: _, _ :: _, _, _, h, h2 => ⟨h.1, SbL.app h.2 h2⟩
  | [], _ :: _, _, _, h, _ => h.elim
  | _ :: _, [], _, _, h, _ => h.elim
theorem TW_mono (hn : n ≤ 6) {h : (Int → Int) → Int} {B : Int} (hb : ∀ v, (∀ i : Int, 0 ≤ i → i < n → v i ≤ 4) → 0 ≤ h v ∧ h v ≤ B) : ∀ {L M : List Int}, SbL κ n L M → ∀ v, (∀ i : Int, 0 ≤ i → i < n → v i ≤ 4) → TW κ n L h v ≤ TW κ n M h v
  | [], [], _, v, _ => Int.le_refl _
  | a :: L, b :: M, hs, v, hv => by
    show hcd κ n a (TW κ n L h) v ≤ hcd κ n b (TW κ n M h) v
    unfold hcd
    refine sm_mono (fun i x y => ?_)
    have hv' : ∀ j : Int, 0 ≤ j → j < n → us v i (v i - 1) j ≤ 4 := fun j p q => by
      unfold us
      split
      · have := hv i x y; omega
      · exact hv j p q
    have ih := TW_mono hn hb hs.2 (us v i (v i - 1)) hv'
    have g := (TW_r (κ := κ) hn M hb _ hv').1
    by_cases c : 0 < v i
    · by_cases c1 : tb a (κ i)
      · rw [if_neg (fun q => q.2 c1)]
        split
        · exact Int.mul_nonneg (by omega) g
        · exact Int.le_refl _
      · rw [if_pos ⟨c, c1⟩, if_pos ⟨c, fun q => c1 (hs.1 i x y q)⟩]
        exact Int.mul_le_mul_of_nonneg_left ih (by omega)
    · rw [if_neg (fun q => c q.1), if_neg (fun q => c q.1)]
      exact Int.le_refl _
  | [], _ :: _, hs, _, _ => hs.elim
  | _ :: _, [], hs, _, _ => hs.elim
theorem tb_bit {x k : Int} (hx : 0 ≤ x) : tb x k ↔ x.toNat.testBit k.toNat = true := by
  rw [Nat.testBit_eq_decide_div_mod_eq, decide_eq_true_iff]
  show x / ((2 ^ k.toNat : Nat) : Int) % 2 = 1 ↔ _
  obtain ⟨y, rfl⟩ : ∃ y : Nat, x = y := ⟨x.toNat, by omega⟩
  show (y : Int) / ((2 ^ k.toNat : Nat) : Int) % ((2 : Nat) : Int) = ((1 : Nat) : Int) ↔ _
  rw [← Int.natCast_ediv, ← Int.natCast_emod, Int.ofNat_inj, Int.toNat_natCast]
theorem tb_up {x k : Int} {m : Nat} (hx : 0 ≤ x) (h : tb x k) : tb ((x.toNat ||| m : Nat) : Int) k := by
  rw [tb_bit (by omega), Int.toNat_natCast, Nat.testBit_or, (tb_bit hx).mp h]
  rfl
theorem SbL.rf : ∀ L : List Int, SbL κ n L L
  | [] => trivial
  | _ :: L => ⟨fun _ _ _ h => h, SbL.rf L⟩
theorem SbL.lq {q0 nt q : Int} (hq : 0 ≤ q) (hm : ∀ i, 0 ≤ i → i < σ (229 + q) → 0 ≤ σ (235 + 52 * q + i)) : ∀ (k : Nat) (i : Int), 0 ≤ i → i + k ≤ σ (229 + q) → SbL κ n (Lq σ q0 nt q k i) (Lq σ (-1) (-1) q k i) := by
  intro k
  induction k with
  | zero => intro i _ _; exact trivial
  | succ k ih =>
    intro i i0 ik
    refine ⟨fun j _ _ h => ?_, ih (i + 1) (by omega) (by omega)⟩
    have e : mk1 σ (-1) (-1) q i = σ (235 + 52 * q + i) := if_neg (by omega)
    rw [e] at h
    by_cases c : q = q0
    · have e2 : mk1 σ q0 nt q i = (((σ (235 + 52 * q + i)).toNat ||| (2 ^ nt.toNat : Nat) : Nat) : Int) := if_pos c
      rw [e2]
      exact tb_up (hm i i0 (by omega)) h
    · have e2 : mk1 σ q0 nt q i = σ (235 + 52 * q + i) := if_neg c
      rw [e2]; exact h
theorem SbL.lm (hc : CV σ) {q0 nt : Int} : ∀ (k : Nat) (q : Int), 0 ≤ q → q + k ≤ σ 1 → SbL κ n (LM σ o q0 nt k q) (LM σ o (-1) (-1) k q) := by
  intro k
  induction k with
  | zero => intro q _ _; exact trivial
  | succ k ih =>
    intro q h0 hk
    refine SbL.app ?_ (ih (q + 1) (by omega) (by omega))
    have ht := hc.ta
    have hcd := hc.cd (p := q) h0 (by omega)
    split
    · exact trivial
    · refine SbL.lq h0 (fun i i0 i1 => ?_) _ 0 (by omega) (by omega)
      exact (hc.ms q i h0 (by omega) i0 (by omega)).1
/-- what odds speak of -/
def ky (σ : Int → Int) (o : Int) : Int × Int × (Int → Int) := f_kd (un σ o) (σ 0).toNat 0 (0, fun _ => 0)
abbrev okO (σ : Int → Int) (o : Int) : Prop := (ky σ o).1 ≠ 0 ∧ f_sl σ o ≤ 12
def tall (σ : Int → Int) (o : Int) : Int := TW (ky σ o).2.2 (ky σ o).2.1.toNat (LM σ o (-1) (-1) (σ 1).toNat 0) (fun _ => 1) (fun i => un σ o ((ky σ o).2.2 i))
def twt (σ : Int → Int) (o q k : Int) : Int := f_wt σ (ky σ o).2.2 (fun i => un σ o ((ky σ o).2.2 i)) (ky σ o).2.1.toNat o q k (tall σ o)
def tnx (σ : Int → Int) (o k : Int) : Int := sm (fun i => if (ky σ o).2.2 i = k then TW (ky σ o).2.2 (ky σ o).2.1.toNat (LM σ o (-1) (-1) (σ 1).toNat 0) (fun v => v i) (fun i => un σ o ((ky σ o).2.2 i)) else 0) (ky σ o).2.1.toNat
def pt (w a b : Int) : Int := (if w = 0 then a else b) / ((Nat.gcd a.toNat b.toNat : Nat) : Int)
abbrev gO (σ : Int → Int) (o q k w : Int) : Prop := isP σ o ∧ isP σ q ∧ isK σ k ∧ o ≠ q ∧ (0 ≤ w ∧ w ≤ 1) ∧ okO σ o ∧ 0 < tall σ o
abbrev gN (σ : Int → Int) (o k w : Int) : Prop := isP σ o ∧ isK σ k ∧ (0 ≤ w ∧ w ≤ 1) ∧ 0 < σ 7 ∧ okO σ o ∧ 0 < tall σ o
theorem f_wt_r (hc : CV σ) (hn : n ≤ 6) (hu : ∀ i : Int, 0 ≤ i → i < n → u i ≤ 4) (hs : f_sl σ o ≤ 12) : 0 ≤ f_wt σ κ u n o q k (TW κ n (LM σ o (-1) (-1) (σ 1).toNat 0) (fun _ => 1) u) ∧ f_wt σ κ u n o q k (TW κ n (LM σ o (-1) (-1) (σ 1).toNat 0) (fun _ => 1) u) ≤ TW κ n (LM σ o (-1) (-1) (σ 1).toNat 0) (fun _ => 1) u := by
  have ht := hc.ta
  have a := TW_mono (κ := κ) hn (h := fun _ => 1) (B := 1) (fun v _ => by omega) (SbL.lm (κ := κ) (n := n) (o := o) hc (q0 := q) (nt := k) (σ 1).toNat 0 (by omega) (by omega)) u hu
  have b := TW_le (κ := κ) hn hu (LM_12 (o := o) (q0 := q) (nt := k) hc hs)
  have c := TW_le (κ := κ) hn hu (LM_12 (o := o) (q0 := -1) (nt := -1) hc hs)
  unfold f_wt
  split <;> omega
end PU20
