/-! ===== more rows ===== -/
section J0
variable {G : GE} {M : MI} {R : Room} {Z : ZP} {cu su : Nat} {I J : HI} {P : HP} {T : HT} {z pc : Nat} {ls : List (Option Value)} {st : List Value}
/-- an int field written as it wraps -/
theorem r_putiW {c k a index : Nat} {n kz : Int} {ref nm ds : String} (hT : T a = (c + 20, n)) (hc : COk c) (hk : k < (ctab c).2.2.1) (q : Cond.fieldLink M.1 index ref nm ds ∈ lw_all) (hn : ((ctab c).2.1 k).2.1 = nm ∧ ((ctab c).2.1 k).2.2.1 = ds) (hs : SF ref ((ctab c).2.1 k).1 nm ds) (ez : ((k : Nat) : Int) = kz) (hb0 : G.2.2.2.1 ≤ a) (hfin : ((ctab c).2.1 k).2.2.2 = false) (hty : (ctab c).2.2.2 k = .int) {x : Int} (ht : ∀ x y r, fvT ((ctab c).2.2.2 k) x y r = iv x) (d : decode M.2.1 pc = .ok (.putfield index, 3)) (kk : PW G M R Z cu su (ui I a kz (wr x)) J P T z (pc + 3) ls st) : PW G M R Z cu su I J P T z pc ls (iv x :: .ref a :: st) := by
  rw [← iv_wr]
  exact r_puti hT hc hk q hn hs ez hb0 hfin hty wr_r ht ⟨rfl, rfl⟩ d kk
theorem i_ldc {a b : Nat} (h : a = b) : a = b := h
/-- two references compared -/
theorem r_acmp_eq {a b : Nat} {off : Int} (tgt : Nat) (d : decode M.2.1 pc = .ok (.if_acmp .eq off, 3)) (ht : (pc : Int) + off = (tgt : Int)) (kt : a = b → PW G M R Z cu su I J P T z tgt ls st) (kf : a ≠ b → PW G M R Z cu su I J P T z (pc + 3) ls st) : PW G M R Z cu su I J P T z pc ls (.ref b :: .ref a :: st) := by
  intro p e s m args below meth c0 H locs la hC hR hS hL
  exact lv_acmp_eq (rx := some a) (ry := some b) hC.x hC.b d ht (fun h => kt (Option.some.inj h) p e s m args below meth c0 H locs la hC hR hS hL) (fun h => kf (fun q => h (congrArg some q)) p e s m args below meth c0 H locs la hC hR hS hL)
theorem r_acmp_ne {a b : Nat} {off : Int} (tgt : Nat) (d : decode M.2.1 pc = .ok (.if_acmp .ne off, 3)) (ht : (pc : Int) + off = (tgt : Int)) (kt : a ≠ b → PW G M R Z cu su I J P T z tgt ls st) (kf : a = b → PW G M R Z cu su I J P T z (pc + 3) ls st) : PW G M R Z cu su I J P T z pc ls (.ref b :: .ref a :: st) := by
  intro p e s m args below meth c0 H locs la hC hR hS hL
  exact lv_acmp_ne (rx := some a) (ry := some b) hC.x hC.b d ht (fun h => kt (fun q => h (congrArg some q)) p e s m args below meth c0 H locs la hC hR hS hL) (fun h => kf (Option.some.inj h) p e s m args below meth c0 H locs la hC hR hS hL)
theorem r_ifnull {x : Nat} {off : Int} (d : decode M.2.1 pc = .ok (.ifnull off, 3)) (k : PW G M R Z cu su I J P T z (pc + 3) ls st) : PW G M R Z cu su I J P T z pc ls (.ref x :: st) := by
  intro p e s m args below meth c0 H locs la hC hR hS hL
  exact lv_ifnull hC.x hC.b d (k p e s m args below meth c0 H locs la hC hR hS hL)
theorem r_ifnullN {off : Int} (tgt : Nat) (d : decode M.2.1 pc = .ok (.ifnull off, 3)) (ht : (pc : Int) + off = (tgt : Int)) (k : PW G M R Z cu su I J P T z tgt ls st) : PW G M R Z cu su I J P T z pc ls (.null :: st) := by
  intro p e s m args below meth c0 H locs la hC hR hS hL
  exact lv_ifnullN hC.x hC.b d ht (k p e s m args below meth c0 H locs la hC hR hS hL)
/-- part of a row of ints is copied -/
def cpI (I : HI) (a0 a : Nat) (sp dp n : Int) : HI := ur I a (fun i => if dp ≤ i ∧ i < dp + n then I a0 (sp + (i - dp)) else I a i)
theorem r_copy {t a0 a index : Nat} {n0 n1 sp dp n : Int} {d9 : Nat} (ht : t = 1 ∨ t = 2) (hT0 : T a0 = (t, n0)) (hT1 : T a = (t, n1)) (hb0 : G.2.2.2.1 ≤ a) (ql : Cond.methodLink M.1 index arraycopyName ∈ lw_all) (q1 : Cond.native arraycopyName ∈ lw_all) (q2 : Cond.static arraycopyName ∈ lw_all) (q3 : Cond.initialized "java/lang/System" ∈ lw_all)
    (h1 : 0 ≤ sp) (h2 : 0 ≤ dp) (h3 : 0 ≤ n) (h4 : sp + n ≤ n0) (h5 : dp + n ≤ n1) (hfit : ∀ i : Int, sp ≤ i → i < sp + n → fits (aty t) (iv (I a0 i)) = true) (hR1 : 1 ≤ R.frames) (hR2 : 64 ≤ R.locals) (hw : Nat.ble ((st.map fun v => v.category).sum) 8 = true) (d : decode M.2.1 pc = .ok (.invokestatic index, 3))
    (k : PW G M R Z cu su (cpI I a0 a sp dp n) J P T z (pc + 3) ls st) : PW G M R Z cu su I J P T z pc ls (iv n :: iv dp :: .ref a :: iv sp :: .ref a0 :: st) := by
  intro p e s m args below meth c0 H locs la hC hR hS hL
  have t0 : 0 < t ∧ t < 10 := by omega
  obtain ⟨hn0, hn0', hc0⟩ := hR.2.2.2.2.1 a0 t n0 hT0 t0.1 (by omega)
  obtain ⟨hn1, hn1', hc1⟩ := hR.2.2.2.2.1 a t n1 hT1 t0.1 (by omega)
  have hf : ∀ (x y : Int) (r : Option Nat), fvT (aty t) x y r = iv x := by
    rcases ht with rfl | rfl <;> exact fun _ _ _ => rfl
  have hp : refKind (aty t) = false := by rcases ht with rfl | rfl <;> rfl
  simp only [hf] at hc0 hc1
  have hAr := (hC.K.2 t t0.1 t0.2).1
  obtain ⟨-, k0, hk0, cm0, hkk0⟩ := hAr n0.toNat (fun j => iv (I a0 j))
  obtain ⟨-, k1, hk1, cm1, hkk1⟩ := hAr n1.toNat (fun j => iv (I a j))
  have rsp : (Int32.ofInt sp).toNatClampNeg = sp.toNat := i_n (by omega)
  have rdp : (Int32.ofInt dp).toNatClampNeg = dp.toNat := i_n (by omega)
  have rn : (Int32.ofInt n).toNatClampNeg = n.toNat := i_n (by omega)
  have nn : ∀ x : Int, 0 ≤ x → x < 2147483648 → ¬ Int32.ofInt x < 0 := fun x p q => by rw [i_0, i_lt (by omega) (by omega)]; omega
  intro TT hT X
  obtain ⟨vm', X', step⟩ := X.arraycopy hC.x hC.o (hC.w _ ql) (hC.w _ q1) (hC.w _ q2) (hC.w _ q3) (src := a0) (dst := a) (cs := arrV (G.2.2.1 t) n0.toNat (fun j => iv (I a0 j))) (cd := arrV (G.2.2.1 t) n1.toNat (fun j => iv (I a j))) (srcPos := Int32.ofInt sp) (destPos := Int32.ofInt dp) (n := Int32.ofInt n) (by rw [hT]; exact hc0) (by rw [hT]; exact hc1)
    (fun _ h => by cases h) (fun _ h => by cases h) (fun h => by cases h) (fun h => by cases h) hk0 hk1 hkk0 hkk1 (by simp [hp]) (nn sp h1 (by omega)) (nn dp h2 (by omega)) (nn n h3 (by omega))
    (by rw [i_t (by omega), i_t (by omega), arrV_size]; omega)
    (by rw [i_t (by omega), i_t (by omega), arrV_size]; omega)
    (fun vm₁ _ i hi => by
      rw [rn] at hi
      have e : (arrV (G.2.2.1 t) n0.toNat (fun j => iv (I a0 j))).slots.getD ((Int32.ofInt sp).toNatClampNeg + i) .null = iv (I a0 ((sp.toNat + i : Nat) : Int)) := by
        rw [rsp, Array.getD_eq_getD_getElem?, arrV_read _ _ (by omega)]
        rfl
      refine ⟨?_, ?_⟩
      · rw [e]
        exact hfit _ (by omega) (by omega)
      · rw [e]
        exact trivial)
    (g := F0 m pc la (iv n :: iv dp :: .ref a :: iv sp :: .ref a0 :: st)) rfl (by rw [hC.l]; exact hL.1) (rest := st) rfl (by rw [hC.b]; exact d) hR1 (by
      have := Nat.le_of_ble_eq_true hw
      show 2 * 0 + _ + _ ≤ _
      have e9 : nativeFrameWords "java/lang/System" "arraycopy" 5 + 11 ≤ 50 := by decide +kernel
      omega)
  have e1 : copied (arrV (G.2.2.1 t) n0.toNat (fun j => iv (I a0 j))) (arrV (G.2.2.1 t) n1.toNat (fun j => iv (I a j))) (Int32.ofInt sp) (Int32.ofInt dp) (Int32.ofInt n) = arrV (G.2.2.1 t) n1.toNat (fun j => iv (va_cpy (fun j : Nat => I a0 j) (fun j : Nat => I a j) sp.toNat dp.toNat n.toNat j)) := by
    unfold copied
    rw [rsp, rdp, rn]
    exact va_copied iv (G.2.2.1 t) (G.2.2.1 t) (fun j : Nat => I a0 j) (fun j : Nat => I a j) (by omega)
  rw [e1] at X' step
  have hl : a < H.size := (Array.getElem?_eq_some_iff.mp hc1).1
  generalize hcell : arrV (G.2.2.1 t) n1.toNat (fun j => iv (va_cpy (fun j : Nat => I a0 j) (fun j : Nat => I a j) sp.toNat dp.toNat n.toNat j)) = cell at X' step
  have hheap : ((TT.setVm vm').setCell a cell).heap = H.setIfInBounds a cell := by rw [← hT]; rfl
  have oq : ∀ q : Nat, q ≠ a → (H.setIfInBounds a cell)[q]? = H[q]? := fun q hq => by simp [Array.getElem?_setIfInBounds, Ne.symm hq]
  have ea : (H.setIfInBounds a cell)[a]? = some cell := by simp [Array.getElem?_setIfInBounds, hl]
  have hR' : Rep G (cpI I a0 a sp dp n) J P T z (H.setIfInBounds a cell) := by
    refine hR.upd (a := a) (by simp) oq (fun b j hb => by unfold cpI; rw [ur_n hb]) (fun _ _ _ => rfl) (fun _ _ _ => rfl) (fun j => ?_) (fun j => hR.2.2.2.1 a j) (fun t' n' ht' _ _ => ?_) (fun c' n' ht' => ?_)
    · unfold cpI; rw [ur_s]; split
      · exact hR.2.2.1 a0 _
      · exact hR.2.2.1 a _
    · rw [hT1] at ht'
      obtain ⟨rfl, rfl⟩ := Prod.mk.inj ht'
      rw [ea, ← hcell]
      congr 2
      funext j
      rw [hf]
      congr 1
      unfold cpI va_cpy
      rw [ur_s]
      try dsimp only
      by_cases q : dp.toNat ≤ j ∧ j < dp.toNat + n.toNat
      · rw [if_pos q, if_pos (by omega)]; congr 1; omega
      · rw [if_neg q, if_neg (by omega)]
    · rw [hT1] at ht'
      have := congrArg Prod.fst ht'
      simp at this
      omega
  obtain ⟨t9, a1, b1⟩ := k p e s m args below meth c0 _ _ la hC hR' ⟨by simp; exact hS.1, fun q g1 g2 => by
      rw [oq q (fun e => g2 (by rw [e]; exact hb0))]
      exact hS.2.1 q g1 g2, fun q hq => by
      rcases List.mem_append.mp hq with h | h
      · exact hS.2.2 q h
      · obtain ⟨z, -, hz⟩ := List.mem_map.mp h
        rw [← hz]
        exact hb0⟩ hL _ hheap X'
  exact ⟨t9, step t9 a1, b1⟩
theorem outer_eq (c : ClassId) (N h0 : Nat) : ∀ i, Jvm.Free.Multi.outerC c N h0 i = { cls := c, slots := (Jvm.Free.Multi.outerC c N h0 i).slots, vm := .none }
  | 0 => rfl
  | i + 1 => by
    have ih := outer_eq c N h0 i
    show (Jvm.Free.Multi.outerC c N h0 i).setSlot i (.ref (h0 + 1 + i)) = { cls := c, slots := ((Jvm.Free.Multi.outerC c N h0 i).setSlot i (.ref (h0 + 1 + i))).slots, vm := .none }
    rw [ih]
    rfl
/-- an array of arrays of ints is made: the outer at z, the rows behind it -/
def mI (I : HI) (z : Nat) (n : Int) : HI := fun b i => if z ≤ b ∧ b < z + 1 + n.toNat then 0 else I b i
def mP (P : HP) (z : Nat) (n : Int) : HP := fun b i => if b = z then (if 0 ≤ i ∧ i < n then some (z + 1 + i.toNat) else none) else if z < b ∧ b < z + 1 + n.toNat then none else P b i
def mT (T : HT) (z : Nat) (n k : Int) : HT := fun b => if b = z then (5, n) else if z < b ∧ b < z + 1 + n.toNat then (1, k) else T b
theorem r_multi {n k : Int} {index : Nat} (q1 : Cond.classLink M.1 index "[[I" ∈ lw_all) (q2 : Cond.arrayOver (.array .int) ∈ lw_tbl) (q3 : Cond.arrayClass .int ∈ lw_all) (hn : 0 ≤ n ∧ n ≤ 1000) (hk : 0 ≤ k ∧ k ≤ 1000) (h1 : cu + (1 + n.toNat) ≤ R.cells) (h2 : su + (n.toNat + n.toNat * k.toNat) ≤ R.slots) (d : decode M.2.1 pc = .ok (.multianewarray index 2, 4))
    (kk : PW G M R Z (cu + 1 + n.toNat) (su + n.toNat + n.toNat * k.toNat) (mI I z n) (mI J z n) (mP P z n) (mT T z n k) (z + 1 + n.toNat) (pc + 4) ls (.ref z :: st)) : PW G M R Z cu su I J P T z pc ls (iv k :: iv n :: st) := by
  intro p e s m args below meth c0 H locs la hC hR hS hL TT hT X
  have rn : (Int32.ofInt n).toNatClampNeg = n.toNat := i_n (by omega)
  have rk : (Int32.ofInt k).toNatClampNeg = k.toNat := i_n (by omega)
  have nn : ∀ x : Int, 0 ≤ x → x < 2147483648 → ¬ Int32.ofInt x < 0 := fun x p q => by rw [i_0, i_lt (by omega) (by omega)]; omega
  have e0 : componentBytes .int = 4 := rfl
  obtain ⟨vm₁, cA, comp, hW, hfA, hfC, hO, hI, X1, st9⟩ := X.multianewarray2F hC.x hC.o (ty := .int) (hC.w _ q1) (hC.E.2.2.2.2.1 _ q2) (hC.w _ q3) (g := F0 m pc la (iv k :: iv n :: st)) rfl (by rw [hC.b]; exact d) (n := Int32.ofInt n) (k := Int32.ofInt k) (rest := st) rfl (nn n hn.1 (by omega)) (nn k hk.1 (by omega)) (by rw [rn]; omega) (by rw [rk, e0]; omega) (by rw [rk]; omega) rfl rfl (by rw [rn]; exact h1) (by rw [rn, rk]; exact h2)
  rw [rn, rk] at X1 st9
  have hz : TT.heap.size = z := by rw [hT]; exact hR.1
  obtain ⟨f1, f2, f3, f4⟩ := Jvm.Free.Multi.fill_facts (TT.setVm vm₁) cA comp n.toNat k.toNat (defaultValue .int) n.toNat
  have fo := fun (a : Addr) (ha : a < TT.heap.size) => Jvm.Free.Multi.fill_old (TT.setVm vm₁) cA comp n.toNat k.toNat (defaultValue .int) (a := a) ha n.toNat
  have fi := fun (j : Nat) (hj : j < n.toNat) => Jvm.Free.Multi.fill_inner (TT.setVm vm₁) cA comp n.toNat k.toNat (defaultValue .int) n.toNat j hj
  obtain ⟨o1, o2, o3⟩ := Jvm.Free.Multi.outerC_facts cA n.toNat TT.heap.size n.toNat
  have os := fun (j : Nat) (hj : j < n.toNat) => Jvm.Free.Multi.outerC_slot cA n.toNat TT.heap.size n.toNat j hj
  have kA := (hC.K.2 5 (by decide) (by decide)).2
  have kI := (hC.K.2 1 (by decide) (by decide)).2
  have eA : cA = G.2.2.1 5 := Option.some.inj (hfA.symm.trans kA)
  have eC : comp = G.2.2.1 1 := Option.some.inj (hfC.symm.trans kI)
  subst eA; subst eC
  have f1 : (Jvm.Free.Multi.fill (TT.setVm vm₁) (G.2.2.1 5) (G.2.2.1 1) n.toNat k.toNat (defaultValue .int) n.toNat).heap.size = z + 1 + n.toNat := by rw [f1]; show TT.heap.size + 1 + n.toNat = _; rw [hz]
  have f2 : (Jvm.Free.Multi.fill (TT.setVm vm₁) (G.2.2.1 5) (G.2.2.1 1) n.toNat k.toNat (defaultValue .int) n.toNat).heap[z]? = some (Jvm.Free.Multi.outerC (G.2.2.1 5) n.toNat z n.toNat) := by rw [← hz]; exact f2
  have fo : ∀ a, a < z → (Jvm.Free.Multi.fill (TT.setVm vm₁) (G.2.2.1 5) (G.2.2.1 1) n.toNat k.toNat (defaultValue .int) n.toNat).heap[a]? = H[a]? := fun a ha => by rw [fo a (by rw [hz]; exact ha), ← hT]; rfl
  have fi : ∀ j, j < n.toNat → (Jvm.Free.Multi.fill (TT.setVm vm₁) (G.2.2.1 5) (G.2.2.1 1) n.toNat k.toNat (defaultValue .int) n.toNat).heap[z + 1 + j]? = some (Jvm.Free.Multi.innerC (G.2.2.1 1) k.toNat (defaultValue .int)) := fun j hj => by rw [← hz]; exact fi j hj
  generalize hHH : (Jvm.Free.Multi.fill (TT.setVm vm₁) (G.2.2.1 5) (G.2.2.1 1) n.toNat k.toNat (defaultValue .int) n.toNat) = T9 at X1 st9 f1 f2 fo fi
  rw [hz] at o1 o2 o3 os st9
  have hR' : Rep G (mI I z n) (mI J z n) (mP P z n) (mT T z n k) (z + 1 + n.toNat) T9.heap := by
    obtain ⟨r1, r2, r3, r4, r5, r6⟩ := hR
    refine ⟨f1, fun a ha => ?_, fun a j => ?_, fun a j => ?_, fun a t' n' ht' h0 h20 => ?_, fun a c' n' ht' => ?_⟩
    · unfold mT; rw [if_neg (by omega), if_neg (by omega)]; exact r2 a (by omega)
    · unfold mI; split
      · constructor <;> decide
      · exact r3 a j
    · unfold mI; split
      · constructor <;> decide
      · exact r4 a j
    · unfold mT at ht'
      by_cases e1 : a = z
      · subst e1
        rw [if_pos rfl] at ht'
        obtain ⟨rfl, rfl⟩ := Prod.mk.inj ht'
        refine ⟨hn.1, by omega, ?_⟩
        rw [f2]
        congr 1
        have : (arrV (G.2.2.1 5) n.toNat (fun j => fvT (aty 5) (mI I a n a j) (mI J a n a j) (mP P a n a j))) = { cls := G.2.2.1 5, slots := (Jvm.Free.Multi.outerC (G.2.2.1 5) n.toNat a n.toNat).slots, vm := .none } := by
          unfold arrV
          congr 1
          apply Array.ext
          · rw [Array.size_ofFn, o3]
          · intro i h1 h2
            rw [o3] at h2
            have := os i h2
            rw [if_pos h2] at this
            rw [Array.getElem_ofFn]
            rw [Array.getElem?_eq_getElem (by rw [o3]; exact h2)] at this
            rw [Option.some.inj this]
            show va_rf (mP P a n a i) = _
            unfold mP
            rw [if_pos rfl, if_pos (by omega), Int.toNat_natCast]
            rfl
        rw [this]
        exact outer_eq _ _ _ _
      · rw [if_neg e1] at ht'
        by_cases e2 : z < a ∧ a < z + 1 + n.toNat
        · rw [if_pos e2] at ht'
          obtain ⟨rfl, rfl⟩ := Prod.mk.inj ht'
          refine ⟨hk.1, by omega, ?_⟩
          have := fi (a - (z + 1)) (by omega)
          rw [show z + 1 + (a - (z + 1)) = a by omega] at this
          rw [this]
          congr 1
          unfold Jvm.Free.Multi.innerC arrV
          congr 1
          apply Array.ext
          · simp
          · intro i h1 h2
            simp only [Array.getElem_replicate, Array.getElem_ofFn]
            unfold mI
            rw [if_pos (by omega)]
            rfl
        · rw [if_neg e2] at ht'
          have hlt : a < z := by
            by_cases q : z ≤ a
            · have := r2 a q
              rw [ht'] at this
              dsimp only at this
              omega
            · omega
          obtain ⟨y1, y2, y3⟩ := r5 a t' n' ht' h0 h20
          refine ⟨y1, y2, ?_⟩
          rw [fo a hlt, y3]
          congr 2
          funext j
          unfold mI mP
          rw [if_neg (by omega), if_neg (by omega), if_neg (by omega), if_neg (by omega)]
    · unfold mT at ht'
      by_cases e1 : a = z
      · rw [if_pos e1] at ht'
        have := congrArg Prod.fst ht'
        dsimp only at this
        omega
      · rw [if_neg e1] at ht'
        by_cases e2 : z < a ∧ a < z + 1 + n.toNat
        · rw [if_pos e2] at ht'
          have := congrArg Prod.fst ht'
          dsimp only at this
          omega
        · rw [if_neg e2] at ht'
          have hlt : a < z := by
            by_cases q : z ≤ a
            · have := r2 a q
              rw [ht'] at this
              dsimp only at this
              omega
            · omega
          have y := r6 a c' n' ht'
          refine ⟨y.1, (y.2.kept (fo a hlt)).to fun j _ => ?_⟩
          unfold mI mP
          rw [if_neg (by omega), if_neg (by omega), if_neg (by omega), if_neg (by omega)]
  have hS' : va_S (gA G) s.heap T9.heap locs := ⟨by have := hS.1; have := hR.1; omega, fun q g1 g2 => by
      have : q < z := by have := hS.1; have := hR.1; omega
      rw [fo q this]
      exact hS.2.1 q g1 g2, hS.2.2⟩
  obtain ⟨t9, a1, b1⟩ := kk p e s m args below meth c0 T9.heap locs la hC hR' hS' hL T9 rfl X1
  exact ⟨t9, st9 t9 a1, b1⟩
theorem r_mmax {dd mc ms : Nat} {x y : Int} {index : Nat} (ql : Cond.methodLink M.1 index Lib.Math.max.name ∈ lw_all) (d : decode M.2.1 pc = .ok (.invokestatic index, 3)) (hx : rg x) (hy : rg y) (h3 : cu ≤ mc) (h4 : su ≤ ms) (hw : Nat.ble ((st.map fun v => v.category).sum) 8 = true) (k : PW G M (rmD (dd + 1) mc ms) Z cu su I J P T z (pc + 3) ls (iv (if x < y then y else x) :: st)) : PW G M (rmD (dd + 1) mc ms) Z cu su I J P T z pc ls (iv y :: iv x :: st) := by
  intro p e s m args below meth c0 H locs la hC hR hS hL
  have k := k p e s m args below meth c0 H locs la hC hR hS hL
  have hcode : (Cond.code Lib.Math.max.name Lib.Math.max.code 2 (some .int)).before args s = true := hC.w _ q414
  have hw := Nat.le_of_ble_eq_true hw
  refine va_mmax hC.x hC.b (hC.l.trans hL.1.symm) hC.o (hC.w _ ql) (hC.w _ q413) (hC.w _ q126) hcode (Nat.le_add_left _ _) (by show _ ≤ 64 * (dd + 1); omega) h3 h4 d ?_
  have e9 : (if Int32.ofInt x < Int32.ofInt y then Int32.ofInt y else Int32.ofInt x) = Int32.ofInt (if x < y then y else x) := by
    by_cases c : x < y
    · rw [if_pos c, if_pos ((i_lt hx hy).mpr c)]
    · rw [if_neg c, if_neg (fun q => c ((i_lt hx hy).mp q))]
  rw [show (Value.int (if Int32.ofInt x < Int32.ofInt y then Int32.ofInt y else Int32.ofInt x)) = iv (if x < y then y else x) from congrArg Value.int e9]
  exact k
theorem r_mmin {dd mc ms : Nat} {x y : Int} {index : Nat} (ql : Cond.methodLink M.1 index Lib.Math.min.name ∈ lw_all) (d : decode M.2.1 pc = .ok (.invokestatic index, 3)) (hx : rg x) (hy : rg y) (h3 : cu ≤ mc) (h4 : su ≤ ms) (hw : Nat.ble ((st.map fun v => v.category).sum) 8 = true) (k : PW G M (rmD (dd + 1) mc ms) Z cu su I J P T z (pc + 3) ls (iv (if y < x then y else x) :: st)) : PW G M (rmD (dd + 1) mc ms) Z cu su I J P T z pc ls (iv y :: iv x :: st) := by
  intro p e s m args below meth c0 H locs la hC hR hS hL
  have k := k p e s m args below meth c0 H locs la hC hR hS hL
  have hcode : (Cond.code Lib.Math.min.name Lib.Math.min.code 2 (some .int)).before args s = true := hC.w _ q429
  have hw := Nat.le_of_ble_eq_true hw
  refine va_mmin hC.x hC.b (hC.l.trans hL.1.symm) hC.o (hC.w _ ql) (hC.w _ q428) (hC.w _ q126) hcode (Nat.le_add_left _ _) (by show _ ≤ 64 * (dd + 1); omega) h3 h4 d ?_
  have e9 : (if Int32.ofInt y < Int32.ofInt x then Int32.ofInt y else Int32.ofInt x) = Int32.ofInt (if y < x then y else x) := by
    by_cases c : y < x
    · rw [if_pos c, if_pos ((i_lt hy hx).mpr c)]
    · rw [if_neg c, if_neg (fun q => c ((i_lt hy hx).mp q))]
  rw [show (Value.int (if Int32.ofInt y < Int32.ofInt x then Int32.ofInt y else Int32.ofInt x)) = iv (if y < x then y else x) from congrArg Value.int e9]
  exact k
/-- Object's constructor -/
theorem r_objI {dd mc ms : Nat} {b index : Nat} (ql : Cond.methodLink M.1 index Lib.objectInit ∈ lw_all) (d : decode M.2.1 pc = .ok (.invokespecial index, 3)) (hw : Nat.ble ((st.map fun v => v.category).sum) 8 = true) (k : PW G M (rmD (dd + 1) mc ms) Z cu su I J P T z (pc + 3) ls st) : PW G M (rmD (dd + 1) mc ms) Z cu su I J P T z pc ls (.ref b :: st) := by
  intro p e s m args below meth c0 H locs la hC hR hS hL
  have hcode : (Cond.code Lib.objectInit ⟨#[0xb1]⟩ 1 none).before args s = true := hC.w _ q165
  have hw := Nat.le_of_ble_eq_true hw
  exact W.objInit hC.x hC.b hC.o (hC.w _ ql) (hC.w _ q164) hcode rfl (hL.1.trans hC.l.symm) rfl d (Nat.le_add_left _ _) (by show 2 * 0 + _ + 12 ≤ 64 * (dd + 1); omega) (k p e s m args below meth c0 H locs la hC hR hS hL)
end J0
