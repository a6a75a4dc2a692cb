/-! ===== the model: one card more ===== -/
section O0p
variable {κ sc r u : Int → Int}
/-- one card more, of the first k kinds -/
def inG (κ sc r u : Int → Int) (m s : Int) (g : Int → Int) (k : Nat) : Int := sm (fun i => if 0 < vs sc r u s i ∧ ¬ tb m (κ i) then vs sc r u s i * g (s + sc i) else 0) k
theorem inG_r {n : Nat} {m s : Int} (hu : ∀ i : Int, 0 ≤ i → i < n → u i ≤ 4 ∧ 0 < r i) {k : Nat} (hk : k ≤ n) (hn : n ≤ 6) : 0 ≤ inG κ sc r u m s (fun _ => 1) k ∧ inG κ sc r u m s (fun _ => 1) k ≤ 24 := by
  have h := sm_bd (f := fun i => if 0 < vs sc r u s i ∧ ¬ tb m (κ i) then vs sc r u s i * 1 else 0) (a := 0) (b := 4) (n := k) (fun i a b => by
    have e := hu i a (by omega)
    have q := Int.emod_nonneg (s / sc i) (show r i ≠ 0 by omega)
    split
    · rename_i c
      have : vs sc r u s i ≤ 4 := by show u i - s / sc i % r i ≤ 4; omega
      omega
    · omega)
  have h' : 0 * (k : Int) ≤ inG κ sc r u m s (fun _ => 1) k ∧ inG κ sc r u m s (fun _ => 1) k ≤ 4 * (k : Int) := h
  omega
def PG (κ sc r u : Int → Int) (n S : Nat) (m : Int) (f f' : Int → Int) (s : Int) (k : Nat) : Prop := (∀ a : Int, 0 ≤ a → a < S → 0 ≤ f' a) ∧ ∀ g : Int → Int, sm (fun a => f' a * g a) S = sm (fun a => f a * inG κ sc r u m a g n) s.toNat + f s * inG κ sc r u m s g k
theorem sm_24 {f : Int → Int} : ∀ k : Nat, sm (fun a => 24 * f a) k = 24 * sm f k := by
  intro k
  induction k with
  | zero => rfl
  | succ k ih => rw [sm_sn, sm_sn, ih]; omega
theorem PG.le {n S : Nat} {m s : Int} {f f' : Int → Int} {k : Nat} (h : PG κ sc r u n S m f f' s k) (hu : ∀ i : Int, 0 ≤ i → i < n → u i ≤ 4 ∧ 0 < r i) (hn : n ≤ 6) (hk : k ≤ n) (hf : ∀ a : Int, 0 ≤ a → a < S → 0 ≤ f a) (s0 : 0 ≤ s) (s1 : s < S) {a : Int} (a0 : 0 ≤ a) (a1 : a < S) : f' a ≤ 24 * sm f S := by
  have e := h.2 (fun _ => 1)
  rw [sm_mul1] at e
  have l1 := sm_le1 (f := f') (n := S) h.1 a0 (by omega)
  have m1 : sm (fun a => f a * inG κ sc r u m a (fun _ => 1) n) s.toNat ≤ sm (fun a => 24 * f a) s.toNat := sm_mono (fun i x y => by
    have q := inG_r (κ := κ) (sc := sc) (m := m) (s := i) hu (Nat.le_refl n) hn
    have := Int.mul_le_mul_of_nonneg_left q.2 (hf i x (by omega))
    rw [Int.mul_comm 24]
    exact this)
  have m2 : f s * inG κ sc r u m s (fun _ => 1) k ≤ 24 * f s := by
    have q := inG_r (κ := κ) (sc := sc) (m := m) (s := s) hu hk hn
    have := Int.mul_le_mul_of_nonneg_left q.2 (hf s s0 s1)
    rw [Int.mul_comm 24]
    exact this
  have m3 : sm (fun a => 24 * f a) s.toNat + 24 * f s = sm (fun a => 24 * f a) (s + 1).toNat := sm_succ s0
  have m5 : sm f (s + 1).toNat ≤ sm f S := by
    obtain ⟨d, ed⟩ : ∃ d, S = (s + 1).toNat + d := ⟨S - (s + 1).toNat, by omega⟩
    rw [ed, sm_app]
    have := sm_bd (f := fun j => f (((s + 1).toNat : Int) + j)) (a := 0) (b := sm f S) (n := d) (fun i x y => ⟨hf _ (by omega) (by omega), sm_le1 (f := f) (n := S) hf (by omega) (by omega)⟩)
    omega
  rw [sm_24, sm_24] at m3
  rw [sm_24] at m1
  omega
/-- the step itself -/
theorem PG.step {n S : Nat} {m s i : Int} {f f' : Int → Int} (h : PG κ sc r u n S m f f' s i.toNat) (i0 : 0 ≤ i) (hc : 0 < vs sc r u s i ∧ ¬ tb m (κ i)) (hf : 0 ≤ f s) (h0 : 0 ≤ s + sc i) (h1 : s + sc i < S) : PG κ sc r u n S m f (us f' (s + sc i) (f' (s + sc i) + f s * vs sc r u s i)) s (i + 1).toNat := by
  have hin : ∀ g, inG κ sc r u m s g (i + 1).toNat = inG κ sc r u m s g i.toNat + if 0 < vs sc r u s i ∧ ¬ tb m (κ i) then vs sc r u s i * g (s + sc i) else 0 := fun g => (sm_succ (f := fun i => if 0 < vs sc r u s i ∧ ¬ tb m (κ i) then vs sc r u s i * g (s + sc i) else 0) i0).symm
  refine ⟨fun a' p p2 => ?_, fun g => ?_⟩
  · have m0 : 0 ≤ f s * vs sc r u s i := Int.mul_nonneg hf (by omega)
    have m1 := h.1 a' p p2
    unfold us
    split
    · rename_i e; rw [← e]; omega
    · exact m1
  · have e := sm_upd (f := fun a' => f' a' * g a') (g := fun a' => us f' (s + sc i) (f' (s + sc i) + f s * vs sc r u s i) a' * g a') (a := s + sc i) (n := S) h0 h1 (fun a' _ _ c => by rw [us_n c])
    rw [e, h.2 g, hin g, if_pos hc]
    simp only [us_s]
    rw [Int.add_mul, Int.mul_add, Int.mul_assoc]
    omega
theorem PG.skip {n S : Nat} {m s i : Int} {f f' : Int → Int} (h : PG κ sc r u n S m f f' s i.toNat) (i0 : 0 ≤ i) (hc : ¬ (0 < vs sc r u s i ∧ ¬ tb m (κ i))) : PG κ sc r u n S m f f' s (i + 1).toNat := by
  refine ⟨h.1, fun g => ?_⟩
  have hin : inG κ sc r u m s g (i + 1).toNat = inG κ sc r u m s g i.toNat + if 0 < vs sc r u s i ∧ ¬ tb m (κ i) then vs sc r u s i * g (s + sc i) else 0 := (sm_succ (f := fun i => if 0 < vs sc r u s i ∧ ¬ tb m (κ i) then vs sc r u s i * g (s + sc i) else 0) i0).symm
  rw [h.2 g, hin, if_neg hc, Int.add_zero]
end O0p
