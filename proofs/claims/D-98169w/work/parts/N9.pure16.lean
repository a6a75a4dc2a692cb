/-! ===== odds: all that is not seen lies in hands or on the heap ===== -/
section P16
variable {σ : Int → Int} {o k : Int}
theorem sm_sn {f : Int → Int} {n : Nat} : sm f (n + 1) = sm f n + f n := by
  have := sm_succ (f := f) (i := (n : Int)) (by omega)
  rw [show ((n : Int)).toNat = n by omega, show ((n : Int) + 1).toNat = n + 1 by omega] at this
  exact this.symm
theorem sm_swap {f : Int → Int → Int} {m : Nat} : ∀ n : Nat, sm (fun i => sm (f i) m) n = sm (fun j => sm (fun i => f i j) n) m := by
  intro n
  induction n with
  | zero => show 0 = sm (fun _ => 0) m; rw [sm_0]
  | succ n ih =>
    rw [sm_sn, ih, ← sm_add]
    exact sm_congr (fun j _ _ => sm_sn.symm)
theorem un_eq (h : CV σ) (ho : 0 ≤ o ∧ o < σ 1) (hk : 0 ≤ k ∧ k < 13) : un σ o k = ct σ k + sm (fun q => if q = o then 0 else σ (60 + 13 * q + k) - σ (151 + 13 * q + k)) (σ 1).toNat := by
  have ht := h.ta
  have co := h.co hk.1 hk.2
  have e1 := sm_cut (f := fun p => σ (60 + 13 * p + k)) (n := (σ 1).toNat) (m := 6) (by omega) (fun i a b => h.nz (by omega) (by omega) hk.1 hk.2 (by omega))
  have e2 : sm (fun q => if q = o then 0 else σ (60 + 13 * q + k)) (σ 1).toNat = sm (fun p => σ (60 + 13 * p + k)) (σ 1).toNat + (0 - σ (60 + 13 * o + k)) := by
    rw [sm_upd (f := fun p => σ (60 + 13 * p + k)) (g := fun q => if q = o then 0 else σ (60 + 13 * q + k)) (a := o) (n := (σ 1).toNat) ho.1 (by omega) (fun i _ _ c => if_neg c)]
    show _ + ((if o = o then 0 else σ (60 + 13 * o + k)) - _) = _
    rw [if_pos rfl]
  have e3 : sm (fun q => if q = o then 0 else σ (60 + 13 * q + k)) (σ 1).toNat = sm (fun q => if q = o then 0 else σ (60 + 13 * q + k) - σ (151 + 13 * q + k)) (σ 1).toNat + sm (fun q => if q = o then 0 else σ (151 + 13 * q + k)) (σ 1).toNat := by
    rw [← sm_add]
    refine sm_congr (fun i _ _ => ?_)
    by_cases c : i = o
    · rw [if_pos c, if_pos c, if_pos c]; rfl
    · rw [if_neg c, if_neg c, if_neg c]; omega
  generalize sm (fun q => if q = o then 0 else σ (60 + 13 * q + k) - σ (151 + 13 * q + k)) (σ 1).toNat = A at e3 ⊢
  unfold un
  generalize sm (fun q => if q = o then 0 else σ (151 + 13 * q + k)) (σ 1).toNat = B at e3 ⊢
  rw [e1] at co
  omega
theorem un_nn (h : CV σ) (ho : 0 ≤ o ∧ o < σ 1) (hk : 0 ≤ k ∧ k < 13) : 0 ≤ un σ o k := by
  have ht := h.ta
  have c := ct_r (η := σ) (k := k)
  have s := sm_bd (f := fun q => if q = o then 0 else σ (60 + 13 * q + k) - σ (151 + 13 * q + k)) (a := 0) (b := 4) (n := (σ 1).toNat) (fun q x y => by
    have := h.kn (p := q) (k := k) x (by omega) hk.1 hk.2
    have := h.h4 (p := q) (k := k) x (by omega) hk.1 hk.2
    split <;> omega)
  rw [un_eq h ho hk]
  omega
theorem un_sum (h : CV σ) (ho : 0 ≤ o ∧ o < σ 1) : sm (un0 σ o) 13 = f_sl σ o + σ 7 := by
  have ht := h.ta
  have e1 : sm (un0 σ o) 13 = sm (fun k => ct σ k + sm (fun q => if q = o then 0 else σ (60 + 13 * q + k) - σ (151 + 13 * q + k)) (σ 1).toNat) 13 := sm_congr (fun k a b => by
    have := un_nn h ho (k := k) ⟨a, by omega⟩
    rw [← un_eq h ho ⟨a, by omega⟩]
    show (if un σ o k ≤ 0 then 0 else un σ o k) = un σ o k
    split <;> omega)
  have e2 : sm (fun k => ct σ k) 13 = σ 7 := by
    have := sm_ct (f := fun i => σ (8 + i)) (σ 7).toNat (fun i a b => by have := h.hp.2 i a (by omega); omega)
    have h7 := h.hp.1
    show sm (fun k => sm (fun i => bz (σ (8 + i) = k)) (σ 7).toNat) 13 = σ 7
    omega
  rw [e1, sm_add, e2, sm_swap (f := fun k q => if q = o then 0 else σ (60 + 13 * q + k) - σ (151 + 13 * q + k)) 13]
  have e3 : sm (fun q => sm (fun k => if q = o then 0 else σ (60 + 13 * q + k) - σ (151 + 13 * q + k)) 13) (σ 1).toNat = f_sl σ o := by
    unfold f_sl
    refine sm_congr (fun q a b => ?_)
    by_cases c : q = o
    · rw [if_pos c]
      exact sm_z (fun k _ _ => if_pos c)
    · rw [if_neg c, h.ot a (by omega)]
      exact sm_congr (fun k _ _ => if_neg c)
  rw [e3]
  omega
theorem Lq_nt {nt nt' q : Int} (hq : 0 ≤ q) : ∀ (k : Nat) (i : Int), Lq σ (-1) nt q k i = Lq σ (-1) nt' q k i := by
  intro k
  induction k with
  | zero => intro i; rfl
  | succ k ih =>
    intro i
    unfold Lq
    rw [ih (i + 1), show mk1 σ (-1) nt q i = mk1 σ (-1) nt' q i by unfold mk1; rw [if_neg (by omega), if_neg (by omega)]]
theorem LM_nt {nt nt' : Int} : ∀ (k : Nat) (q : Int), 0 ≤ q → LM σ o (-1) nt k q = LM σ o (-1) nt' k q := by
  intro k
  induction k with
  | zero => intro q _; rfl
  | succ k ih =>
    intro q hq
    unfold LM
    rw [ih (q + 1) (by omega), Lq_nt (nt' := nt') hq]
end P16
