/-! ===== the component: what is not there is thrown; hand, odds, next ===== -/
section P14
variable {G : GE} {I J I' : HI} {P P' : HP} {T T' : HT} {z x t d : Nat} {Q : QT} {X : XT} {σ μ ω υ κ sc : Int → Int}
abbrev nse : String := "java/util/NoSuchElementException"
theorem C_need1 (hQ : Q none I J P T z) : MC G yX1_need (ws_ yX1_need cX1_need 1 (none : Option FieldType)) (d) 0 0 [iv 1] I J P T z Q X := by
  refine MC.of (by decide) (Nat.le_of_ble_eq_true rfl) ?_
  show PW G mX1_need (rmD (d) 0 0) (MZ G Q X 0 0) 0 0 I J P T z 0 [some (iv 1)] []
  refine r_iload_n (pc := 0) dX1_need_0 rfl rfl ?_
  refine r_if_ne (pc := 1) 12 dX1_need_1 rfl (by omega) (fun h1 => ?_) (fun h1 => ?_)
  · refine r_return (pc := 12) rfl dX1_need_12 (Nat.le_of_ble_eq_true rfl) (Nat.le_of_ble_eq_true rfl) ?_
    exact hQ
  exact absurd h1 (by decide)
theorem C_need0 (hX : X nse z I J P T (z + 1)) : MC G yX1_need (ws_ yX1_need cX1_need 1 none) (d + 6) 1 6 [iv 0] I J P T z Q X := by
  refine vx_ofW (cc := cX1_need) (maxL := 1) (ret := none) (by decide) rfl ?_
  intro p e s m args below meth c s₁ B hml hno hv
  obtain ⟨rfl, hR, hK, hE, hz⟩ := hv
  have hts := atoms_spec (ws := ws_ yX1_need cX1_need 1 none) B.pre
  have hts : ∀ w ∈ lw_all, w.before _ s = true := fun w h => hts w (List.mem_cons_of_mem _ h)
  have hl := lv_entry [iv 0] (n := 1) (Nat.le_of_ble_eq_true rfl)
  rw [lg_entry_eq]
  have hC : CX G mX1_need p s m ([iv 0] : List Value).toArray meth c := ⟨B.exec, B.bytes, B.returns, B.notSynchronized, hml, findClass_of_methodNamed B.named, hts, hK, hE, List.eq_nil_iff_forall_not_mem.mpr hno, (name_of_methodNamed B.named B.method).1, hz⟩
  suffices key : ∀ la : Array Slot, LV la 1 (lsOf 1 [iv 0]) → W p G.1 e (rmD (d + 6) 1 6) s m ([iv 0] : List Value).toArray below meth c s.heap [] 0 0 (MZ G Q X 1 6 below ([iv 0] : List Value).toArray s) (F0 m 0 la []) from key _ (LV.entry hl)
  intro la hL
  refine lv_iload_n (i := 0) hC.x hC.b dX1_need_0 rfl (hL.at (i := 0) rfl) ?_
  refine lv_if_ne (tgt := 12) hC.x hC.b dX1_need_1 rfl (fun h => absurd rfl h) (fun _ => ?_)
  obtain ⟨cX, kX0, hcX, -⟩ := Cond.instantiable_spec (hC.w _ q1779)
  refine W.newcK hC.x hC.b hC.o (hC.w _ q1778) (hC.w _ q1779) (hC.w _ q148) rfl dX1_need_4 (Nat.le_refl _) (Nat.le_refl _) hcX hR.1 fun H1 kX hkX e1 z1 o1 => ?_
  refine lv_dup hC.x hC.b dX1_need_7 rfl ?_
  intro TT hTT XX
  have htr : e.platform.stackTraces = false := (show e.platform.stackTraces = G.1.stackTraces by rw [XX.admits.platform]).trans hE.2.2.2.2.2.2.2.2.2.2.1
  obtain ⟨V, ce, L, hX9, hL9, hV, hcl, hvm, hsl, st⟩ := fx_ctor XX hC.x htr (own := RX1) (cls := nse) (C := nse) (names := ["java/lang/RuntimeException", "java/lang/Exception"]) (ic := 5) (nf := 6) hC.o (by decide +kernel) (by decide +kernel) (thr_atoms hC) (nse_atoms hC) (hC.w _ q1789) (hC.w _ q1779) (hC.w _ q1783) (hC.w _ q928) (hC.w _ q1784) (hC.w _ q1785) (hC.w _ q1786) (hC.w _ q1788) (vx_isRefq hE.2.2.2.2.2.2.2.2.1.1) (vx_isRefq hE.2.2.2.2.2.2.2.2.2.1.1) (hC.w _ q916) (hC.w _ q915) hcX hkX (by rw [hTT]; exact e1)
    (g := F0 m 8 la [.ref z, .ref z]) rfl (hL.1.trans hC.l.symm) (rest := [.ref z]) rfl (by rw [hC.b]; exact dX1_need_8) (by show 2 + 3 < d + 6; omega) (by show 2 * 0 + 1 + (13 * (2 + 1) + 41) ≤ 64 * (d + 6); omega)
  have halt : z < V.heap.size := by rw [hV, hTT, z1]; omega
  have f1 : (V.setCell z ce).heap[z]? = some ce := heapAt_setCell_self (s := V) ce halt
  have f2 : (V.setCell z ce).heap.size = z + 1 := by
    show (V.heap.set! z ce).size = _
    rw [hV, hTT]; simp [z1]
  have f3 : ∀ b, b < z → (V.setCell z ce).heap[b]? = s.heap[b]? := by
    intro b hb9
    show (V.heap.set! z ce)[b]? = _
    rw [hV, hTT, Array.set!_eq_setIfInBounds, Array.getElem?_setIfInBounds_ne (fun q => by omega)]
    exact o1 b hb9
  have hz0 : (T z).1 = 0 := hR.2.1 z (Nat.le_refl _)
  have hR' : Rep G I J P T (z + 1) (V.setCell z ce).heap := hR.push f2 f3 (fun _ _ _ => rfl) (fun _ _ _ => rfl) (fun _ _ _ => rfl) (fun _ _ => rfl) (fun j => hR.2.2.1 z j) (fun j => hR.2.2.2.1 z j) (fun t n ht h0 _ => by rw [ht] at hz0; have : t = 0 := hz0; omega) (fun c n ht => by rw [ht] at hz0; have : c + 20 = 0 := hz0; omega)
  have hbz : G.2.2.2.1 ≤ z := by rw [← hR.1]; exact hz
  have hS' : va_S (gA G) s.heap (V.setCell z ce).heap L := ⟨by rw [f2, hR.1]; omega, fun b h1 h2 => f3 b (by rw [← hR.1]; exact h1), fun y hy => by rw [hL9 y hy]; exact hbz⟩
  have k9 : W p G.1 e (rmD (d + 6) 1 6) s m ([iv 0] : List Value).toArray below meth c (V.setCell z ce).heap L 1 6 (MZ G Q X 1 6 below ([iv 0] : List Value).toArray s) (F0 m 11 la [.ref z]) := by
    refine vx_athrow hC.x hC.b dX1_need_11 ?_
    exact x_out (M := mX1_need) (pc := 11) (st := []) (ls := lsOf 1 [iv 0]) rfl (Nat.le_refl _) (Nat.le_refl _) hX p e s m _ below meth c _ L la ce hC hR' hS' hL f1 hvm (by rw [hcl]; exact hcX)
  obtain ⟨t, a1, b1⟩ := k9 (V.setCell z ce) rfl hX9
  exact ⟨t, st t a1, b1⟩
end P14
