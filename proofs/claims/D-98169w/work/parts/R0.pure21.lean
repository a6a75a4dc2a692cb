/-! ===== odds: the next card ===== -/
section PU21
variable {κ u σ : Int → Int} {n : Nat} {o q k w : Int}
theorem TW_nn {h h' : (Int → Int) → Int} (e : ∀ v, (∀ i : Int, 0 ≤ i → i < n → 0 ≤ v i) → h v = h' v) : ∀ (L : List Int) (v : Int → Int), (∀ i : Int, 0 ≤ i → i < n → 0 ≤ v i) → TW κ n L h v = TW κ n L h' v
  | [], v, hv => e v hv
  | a :: L, v, hv => by
    show hcd κ n a (TW κ n L h) v = hcd κ n a (TW κ n L h') v
    unfold hcd
    refine sm_congr (fun i x y => ?_)
    split
    · rename_i c
      rw [TW_nn e L (us v i (v i - 1)) (fun j p q => by
        unfold us
        split
        · omega
        · exact hv j p q)]
    · rfl
theorem HC_i {i : Int} (h0 : 0 ≤ i) (h1 : i < n) : HC n (fun v => v i) := fun _ _ e => e i h0 h1
theorem TWi_r (hn : n ≤ 6) (hu : ∀ i : Int, 0 ≤ i → i < n → 0 ≤ u i ∧ u i ≤ 4) {L : List Int} (hL : L.length ≤ 12) {i : Int} (h0 : 0 ≤ i) (h1 : i < n) : 0 ≤ TW κ n L (fun v => v i) u ∧ TW κ n L (fun v => v i) u ≤ 4 * 36520347436056576 := by
  rw [TW_nn (κ := κ) (h := fun v => v i) (h' := fun v => if 0 < v i then v i else 0) (fun v hv => by have := hv i h0 h1; split <;> omega) L u (fun j p q => (hu j p q).1)]
  have a := TW_r (κ := κ) hn L (h := fun v => if 0 < v i then v i else 0) (B := 4) (fun v hv => by have := hv i h0 h1; split <;> omega) u (fun j p q => (hu j p q).2)
  have b := pw24 hL
  refine ⟨a.1, Int.le_trans a.2 ?_⟩
  omega
theorem tnx_r (hn : (ky σ o).2.1.toNat ≤ 6) (hu : ∀ i : Int, 0 ≤ i → i < (ky σ o).2.1.toNat → 0 ≤ un σ o ((ky σ o).2.2 i) ∧ un σ o ((ky σ o).2.2 i) ≤ 4) (hL : (LM σ o (-1) (-1) (σ 1).toNat 0).length ≤ 12) : 0 ≤ tnx σ o k ∧ tnx σ o k ≤ 24 * 36520347436056576 := by
  have s := sm_bd (f := fun i => if (ky σ o).2.2 i = k then TW (ky σ o).2.2 (ky σ o).2.1.toNat (LM σ o (-1) (-1) (σ 1).toNat 0) (fun v => v i) (fun i => un σ o ((ky σ o).2.2 i)) else 0) (a := 0) (b := 4 * 36520347436056576) (n := (ky σ o).2.1.toNat) (fun i p q => by
    have := TWi_r (κ := (ky σ o).2.2) (u := fun i => un σ o ((ky σ o).2.2 i)) hn hu hL p q
    split <;> omega)
  unfold tnx
  omega
end PU21
