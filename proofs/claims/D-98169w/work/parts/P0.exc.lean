/-! ===== exceptions: made, thrown, caught ===== -/
section P0a
variable {p : Program} {l : Launch} {e : Env} {R : Room} {s : State} {m₀ : MethodId} {args : Array Value} {below : List Frame} {meth : Method} {c : Code} {W0 : State} {cells slots : Nat}
set_option maxHeartbeats 1000000 in
/-- Throwable's part of the fresh object at a is made by a class above (began as laws' vx_ctorMade0) -/
theorem fx_ctor (X : Stand p l e R s m₀ args below meth c W0 [] cells slots) (hexec : p.tables.exec = Jvm.exec) (htr : e.platform.stackTraces = false) {own cls C : String} {names : List String} {ic nf : Nat}
    (hown : s.vm.findClass own = some m₀.cls) (hcls : Bundle.fit cls = true) (hnames : ∀ n ∈ names, Bundle.fit n = true)
    (ht : ∀ a ∈ Bundle.throwableAtoms, a.before args s = true) (hch : ∀ a ∈ Bundle.chain0Atoms cls names, a.before args s = true)
    (hml : (Cond.methodLink own ic (Bundle.init0 cls)).before args s = true) (hins : (Cond.instantiable C nf).before args s = true)
    (hs0 : (Cond.selects C Bundle.tFill0 Bundle.tFill0).before args s = true) (hsF : (Cond.selects C Bundle.tFill Bundle.tFill).before args s = true)
    (hlC : (Cond.lays C Bundle.tN "cause" "Ljava/lang/Throwable;").before args s = true) (hlS : (Cond.lays C Bundle.tN "stackTrace" Bundle.steD).before args s = true) (hlP : (Cond.lays C Bundle.tN "suppressedExceptions" Bundle.listD).before args s = true) (hlB : (Cond.lays C Bundle.tN "backtrace" "Ljava/lang/Object;").before args s = true)
    (hU : (Cond.isRef (.static Bundle.tN "UNASSIGNED_STACK" Bundle.steD)).before args s = true) (hN : (Cond.isRef (.static Bundle.tN "SUPPRESSED_SENTINEL" Bundle.listD)).before args s = true)
    (hfl : (Cond.fieldLink Bundle.tN 198 Bundle.tN "backtrace" "Ljava/lang/Object;").before args s = true) (hlB0 : (Cond.lays Bundle.tN Bundle.tN "backtrace" "Ljava/lang/Object;").before args s = true)
    {a : Addr} {cX : ClassId} {kX : Class} (hfoundX : s.vm.findClass C = some cX) (hkX : s.vm.classes[cX]? = some kX) (hcell : W0.heap[a]? = some (freshCell cX kX))
    {g : JFrame} (hg : g.method = m₀) (hsize : g.locals.size = c.maxLocals) {rest : List Value} (hstack : g.stack = .ref a :: rest)
    (hd6 : decode c.code g.pc = .ok (.invokespecial ic, 3))
    (hRframes : names.length + 3 < R.frames) (hRlocals : 2 * g.monitorRoom + (rest.map fun v => v.category).sum + (13 * (names.length + 1) + 41) ≤ R.locals) :
    ∃ (V : State) (ce : Cell) (L : List Loc), Stand p l e R s m₀ args below meth c (V.setCell a ce) L cells slots ∧ (∀ y ∈ L, y.base = a) ∧ V.heap = W0.heap ∧ ce.cls = cX ∧ ce.vm = .none ∧
      (∀ (O f d : String) (cf : ClassId) (kf : Class) (fi : Nat) (fd : Field), ((Cond.lays C O f d).before args s = true ∨ (Cond.laysFinal C O f d).before args s = true) → s.fieldFound? O f d = some (cf, kf, fi, fd) → fd.name ≠ "cause" → fd.name ≠ "stackTrace" → fd.name ≠ "suppressedExceptions" → ce.slots[fd.slot]? = (freshCell cX kX).slots[fd.slot]?) ∧
      ∀ target, Steps p.tables e below ((V.setCell a ce).setTop { g with stack := rest, pc := g.pc + 3 }) target → Steps p.tables e below (W0.setTop g) target := by
  have howns : e.platform.frameOwnsMonitors = true := by rw [X.admits.platform]
  have hfin : e.platform.finalization = false := by rw [X.admits.platform]
  have hpl : e.platform.magicAccessors = ({} : Platform).magicAccessors := by rw [X.admits.platform]
  obtain ⟨T, Z, L, LZ, Y⟩ := ThrowableC.of_atoms (args := args) howns hfin hpl ht
  obtain ⟨P1, Ps, hlen, L1, hL, hP1m, hlink1, hlink⟩ := Bundle.chain0 (args := args) hpl Y.init0 names cls hcls hnames hch
  have hord : kX.kind = .ordinary := by
    obtain ⟨c1, kX', hc1, hk, hord, -, -, -⟩ := Cond.instantiable_spec hins
    have e1 : c1 = cX := Option.some.inj (hc1.symm.trans hfoundX)
    rw [e1] at hk
    have e2 : kX' = kX := Option.some.inj (hk.symm.trans hkX)
    rw [← e2]; exact hord
  have hsel0 : selectMethod e.platform s.vm cX T.fill0 = .method T.fill0 := by
    obtain ⟨c2, r2, m2, q1, q2, q3, q4, -⟩ := Cond.selects_spec hs0
    have e1 : c2 = cX := Option.some.inj (q1.symm.trans hfoundX)
    have e2 : r2 = T.fill0 := Option.some.inj (q2.symm.trans (State.methodFound?_of_named Y.fill0 (by decide)))
    have e3 : m2 = T.fill0 := Option.some.inj (q3.symm.trans Y.fill0)
    rw [Launch.admits_selectMethod X.admits]
    rw [e1, e2, e3] at q4; exact q4
  have hselF : selectMethod e.platform s.vm cX T.fill = .method T.fill := by
    obtain ⟨c2, r2, m2, q1, q2, q3, q4, -⟩ := Cond.selects_spec hsF
    have e1 : c2 = cX := Option.some.inj (q1.symm.trans hfoundX)
    have e2 : r2 = T.fill := Option.some.inj (q2.symm.trans (State.methodFound?_of_named Y.fill (by decide)))
    have e3 : m2 = T.fill := Option.some.inj (q3.symm.trans Y.fill)
    rw [Launch.admits_selectMethod X.admits]
    rw [e1, e2, e3] at q4; exact q4
  obtain ⟨cellS0, hcS0, hiss⟩ := Y.statics
  obtain ⟨u0, hu0⟩ := Cond.staticRefV Y.unassigned L.unassignedStatic L.statics hcS0 hiss hU
  obtain ⟨sen, hsen⟩ := Cond.staticRefV Y.sentinel L.sentinelStatic L.statics hcS0 hiss hN
  obtain ⟨ci198, i198, fB, hk198, hg198, ha198, hsB, -, hnB, htB, hffB⟩ := Cond.ownField (t := .object "java/lang/Object") Y.found L.cls (by decide +kernel) hfl hlB0 e.platform hpl
  obtain ⟨cellS, hcS', heS, -, hkeep⟩ := X.same.2.2.2.2.2 T.aS cellS0 hcS0
  have hcellS : W0.heap[T.aS]? = some cellS := hcS'
  have hout' : ∀ i, (⟨T.aS, i⟩ : Loc) ∉ ([] : List Loc) := fun i hmem => nomatch hmem
  have hknownS : cellS.vm ≠ .unknown := by
    rw [heS]; intro hu
    rw [show cellS0.vm = .unknown from hu] at hiss
    cases hiss
  have hneS : T.aS ≠ a := by
    intro e9
    rw [e9] at hcellS
    have e8 : cellS = freshCell cX kX := Option.some.inj (hcellS.symm.trans hcell)
    have e7 : cellS.vm = cellS0.vm := by rw [heS]
    rw [← e7, e8] at hiss
    cases hiss
  obtain ⟨tyC, dC, hdC, hdnC⟩ := Cond.laysAt hfoundX hkX Y.cause hlC
  obtain ⟨tyS, dS, hdS, hdnS⟩ := Cond.laysAt hfoundX hkX Y.stack hlS
  obtain ⟨tyP, dP, hdP, hdnP⟩ := Cond.laysAt hfoundX hkX Y.supp hlP
  obtain ⟨tyB, dB, hdB, hdnB⟩ := Cond.laysAt hfoundX hkX hffB hlB
  have bC := Cond.laysApart hdB hdC hdnB hdnC (by rw [hnB, Y.causeName]; decide)
  have bS := Cond.laysApart hdB hdS hdnB hdnS (by rw [hnB, Y.stackName]; decide)
  have bP := Cond.laysApart hdB hdP hdnB hdnP (by rw [hnB, Y.suppName]; decide)
  have hskip : SkipFacts T e.platform s (fun u => u) u0 ((preparedCellV T.toThrowableT (freshCell cX kX) a u0 sen).withEntry W0.cur) :=
    ⟨{ ci198 := ci198, i198 := i198, fBack := fB }, ⟨hk198, hg198, ha198, hsB⟩, by
      have := fresh_default (c := cX) tyB
      rw [htB] at this
      simpa [preparedCellV, Cell.setSlot, Cell.withEntry, Array.getElem?_setIfInBounds, bC, bS, bP, bC.symm, bS.symm, bP.symm, defaultValue] using this, fun _ _ => rfl⟩
  obtain ⟨tm, methC, cdC, kC, vm₁, hnC, -, -, -, -, -, -, -, hW₁, st1⟩ := Steps.initCold (tb := p.tables) (e := e) (below := below) (s := s) (U := W0) X.here hexec X.warmed hpl hown (t := Bundle.init0 cls) rfl rfl (Bundle.fit_spec hcls).2
    hml (hch (.instanceMethod (Bundle.init0 cls)) (by cases names <;> simp [Bundle.chain0Atoms, Bundle.passAtoms])) (bytes := Bundle.five) (maxL := 1) (hch (.code (Bundle.init0 cls) Bundle.five 1 none) (by cases names <;> simp [Bundle.chain0Atoms, Bundle.passAtoms]))
    (f := g) hg (a := a) (rest := rest) hstack hd6
  cases Option.some.inj (hnC.symm.trans hP1m)
  have X₁ := X.noted hW₁
  obtain ⟨vm₂, X₂, st2⟩ := X₁.ctorPlainOffV hexec (g := { g with stack := rest }) hg hsize T L Z LZ (P1 :: Ps)
    (fun P hP => by rcases List.mem_cons.mp hP with rfl | hP; exact L1; exact hL P hP) ⟨hlink1, hlink⟩ (u0 := u0) (sen := sen) (self := a) (cell := freshCell cX kX) (cellS := cellS)
    hcell (fun _ => by simp) (by simp) rfl rfl hsel0 hselF hcellS hneS hknownS (by rw [hkeep _ (hout' _)]; exact hu0) (by rw [hkeep _ (hout' _)]; exact hsen)
    (Takes.of_laid hkX hord tyC (by rw [Y.causeType]; rfl)) (Takes.of_laid hkX hord tyS (by rw [Y.stackType]; exact fits_refV_array _ u0)) (Takes.of_laid hkX hord tyP (by rw [Y.suppType]; exact fits_refV_object _ sen)) Y.objLocals hskip htr [] hd6
    (by simp only [List.length_cons, hlen]; omega) (by simp only [List.length_cons, hlen]; exact hRlocals)
  refine ⟨(W0.setVm vm₁).setVm vm₂, _, _, X₂, fun y hy => ?_, rfl, rfl, rfl, fun O f d cf kf fi fd hl hi n1 n2 n3 => ?_, fun target hwalk => st1 _ (fun acts => ?_)⟩
  · simp only [List.nil_append, List.mem_cons, List.not_mem_nil, or_false] at hy
    rcases hy with rfl | rfl | rfl | rfl <;> rfl
  · have a1 := u_apart hl (Or.inl hlC) hi Y.cause (by rw [Y.causeName]; exact n1)
    have a2 := u_apart hl (Or.inl hlS) hi Y.stack (by rw [Y.stackName]; exact n2)
    have a3 := u_apart hl (Or.inl hlP) hi Y.supp (by rw [Y.suppName]; exact n3)
    simp [preparedCellV, Cell.setSlot, Array.getElem?_setIfInBounds, a1, a2, a3, a1.symm, a2.symm, a3.symm]
  · rw [doInvoke_state]
    exact st2 _ hwalk
end P0a
section P0b
variable {G : GE} {M : MI} {R : Room} {Z : ZP} {cu su mc ms : Nat} {I J : HI} {P : HP} {T : HT} {z pc : Nat} {ls : List (Option Value)} {st : List Value} {Q : QT} {X : XT}
/-- the words of Throwable -/
theorem thr_atoms {p : Program} {s : State} {m : MethodId} {args : Array Value} {meth : Method} {c : Code} (hC : CX G M p s m args meth c) : ∀ w ∈ Bundle.throwableAtoms, w.before args s = true := by
  have hU := hC.E.2.2.2.2.2.2.2.2.1
  have hN := hC.E.2.2.2.2.2.2.2.2.2.1
  intro w hw
  simp only [Bundle.throwableAtoms, List.mem_cons, List.not_mem_nil, or_false] at hw
  rcases hw with rfl | rfl | rfl | rfl | rfl | rfl | rfl | rfl | rfl | rfl | rfl | rfl | rfl | rfl | rfl | rfl | rfl | rfl | rfl | rfl | rfl | rfl | rfl | rfl
  · exact hC.w _ q144
  · exact hC.w _ q917
  · exact hC.w _ q926
  · exact hC.w _ q929
  · exact hC.w _ q932
  · exact hC.w _ q934
  · exact hC.w _ q918
  · exact hC.w _ q919
  · exact hC.w _ q164
  · exact hC.w _ q165
  · exact hC.w _ q920
  · exact hC.w _ q925
  · exact hC.w _ q930
  · exact hC.w _ q947
  · exact hC.w _ q907
  · exact hC.w _ q948
  · exact hC.w _ q909
  · exact hC.w _ q949
  · exact hC.w _ q911
  · exact hC.w _ q921
  · exact hU.2.word
  · exact hC.w _ q923
  · exact hN.2.word
  · exact hC.w _ q913
theorem exc_atoms {p : Program} {s : State} {m : MethodId} {args : Array Value} {meth : Method} {c : Code} (hC : CX G M p s m args meth c) : ∀ w ∈ Bundle.chain0Atoms "java/lang/Exception" [], w.before args s = true := by
  intro w hw
  simp only [Bundle.chain0Atoms, Bundle.passAtoms, List.mem_cons, List.not_mem_nil, or_false] at hw
  rcases hw with rfl | rfl | rfl | rfl | rfl
  · exact hC.w _ q939
  · exact hC.w _ q940
  · exact hC.w _ q941
  · exact hC.w _ q918
  · exact va_Nw.use rfl (hC.E.2.2.1 _ q902)
theorem nse_atoms {p : Program} {s : State} {m : MethodId} {args : Array Value} {meth : Method} {c : Code} (hC : CX G M p s m args meth c) : ∀ w ∈ Bundle.chain0Atoms "java/util/NoSuchElementException" ["java/lang/RuntimeException", "java/lang/Exception"], w.before args s = true := by
  intro w hw
  simp only [Bundle.chain0Atoms, Bundle.passAtoms, List.mem_append, List.mem_cons, List.not_mem_nil, or_false] at hw
  rcases hw with (rfl | rfl | rfl | rfl | rfl) | (rfl | rfl | rfl | rfl | rfl) | (rfl | rfl | rfl | rfl | rfl)
  · exact hC.w _ q1790
  · exact hC.w _ q1791
  · exact hC.w _ q1792
  · exact hC.w _ q1793
  · exact va_Nw.use rfl (hC.E.2.2.1 _ q1781)
  · exact hC.w _ q1793
  · exact hC.w _ q1794
  · exact hC.w _ q1795
  · exact hC.w _ q939
  · exact va_Nw.use rfl (hC.E.2.2.1 _ q900)
  · exact hC.w _ q939
  · exact hC.w _ q940
  · exact hC.w _ q941
  · exact hC.w _ q918
  · exact va_Nw.use rfl (hC.E.2.2.1 _ q902)
/-- the object at a is fresh, of the class by number c -/
def FC (G : GE) (c : Nat) (a : Nat) (s : State) (H : Heap) : Prop := ∃ kX, s.vm.classes[G.2.1.1 c]? = some kX ∧ H[a]? = some (freshCell (G.2.1.1 c) kX)
theorem FC.moved {c a : Nat} {s U : State} {H : Heap} (hvm : s.vm.Alike U.vm) (h : FC G c a s H) : FC G c a U H := by
  obtain ⟨kX, h1, h2⟩ := h
  obtain ⟨k', hk', he⟩ := hvm.2.2 _ _ h1
  refine ⟨k', hk', ?_⟩
  rw [h2, he]
/-- the constructor of Fault, on a fresh object -/
theorem F_init {d a : Nat} {k q : Int} (hT : T a = (34, 0)) (hb : G.2.2.2.1 ≤ a) (hk : rg k) (hq : rg q) (hQ : Q none (ui (ui I a 0 k) a 1 q) J P T z) :
    vx_Met G.1 yX14_init (ws_ yX14_init cX14_init 3 none) (rmD (d + 6) 0 0) (va_Pc [.ref a, iv k, iv q] (fun U => (Rep G I J P T z U.heap ∧ KK G U ∧ EN G U ∧ G.2.2.2.1 ≤ U.heap.size) ∧ FC G 14 a U U.heap)) (QC G Q) (XC G nX) 0 0 (gA G) := by
  refine vx_ofW (cc := cX14_init) (maxL := 3) (ret := none) (by decide) rfl ?_
  intro p e s m args below meth c s₁ B hml hno hv
  obtain ⟨rfl, ⟨hR, hK, hE, hz⟩, kX, hkX, hcell⟩ := hv
  have hts := atoms_spec (ws := ws_ yX14_init cX14_init 3 none) B.pre
  have hts : ∀ w ∈ lw_all, w.before _ s = true := fun w h => hts w (List.mem_cons_of_mem _ h)
  have hl := lv_entry [.ref a, iv k, iv q] (n := 3) (Nat.le_of_ble_eq_true rfl)
  rw [lg_entry_eq]
  have hC : CX G mX14_init p s m ([.ref a, iv k, iv q] : List Value).toArray meth c := ⟨B.exec, B.bytes, B.returns, B.notSynchronized, hml, findClass_of_methodNamed B.named, hts, hK, hE, List.eq_nil_iff_forall_not_mem.mpr hno, (name_of_methodNamed B.named B.method).1, hz⟩
  suffices key : ∀ la : Array Slot, LV la 3 (lsOf 3 [.ref a, iv k, iv q]) → W p G.1 e (rmD (d + 6) 0 0) s m ([.ref a, iv k, iv q] : List Value).toArray below meth c s.heap [] 0 0 (MZ G Q nX 0 0 below ([.ref a, iv k, iv q] : List Value).toArray s) (F0 m 0 la []) from key _ (LV.entry hl)
  intro la hL
  refine lv_aload_n (i := 0) hC.x hC.b dX14_init_0 rfl (hL.at (i := 0) rfl) ?_
  intro TT hTT X
  have htr : e.platform.stackTraces = false := (show e.platform.stackTraces = G.1.stackTraces by rw [X.admits.platform]).trans hE.2.2.2.2.2.2.2.2.2.2.1
  have hKn := hK.1 14 rfl
  obtain ⟨V, ce, L, hX, hL9, hV, hcl, hvm, hsl, st⟩ := fx_ctor X hC.x htr (own := RX14) (cls := "java/lang/Exception") (C := RX14) (names := []) (ic := 1) (nf := 8) hC.o (by decide +kernel) (fun _ h => nomatch h) (thr_atoms hC) (exc_atoms hC) (hC.w _ q938) (hC.w _ q898) (hC.w _ q904) (hC.w _ q905) (hC.w _ q906) (hC.w _ q908) (hC.w _ q910) (hC.w _ q914) (vx_isRefq hE.2.2.2.2.2.2.2.2.1.1) (vx_isRefq hE.2.2.2.2.2.2.2.2.2.1.1) (hC.w _ q916) (hC.w _ q915) hKn.2.1 hkX (by rw [hTT]; exact hcell)
    (g := F0 m 1 la [.ref a]) rfl (hL.1.trans hC.l.symm) (rest := []) rfl (by rw [hC.b]; exact dX14_init_1) (by show 0 + 3 < d + 6; omega) (by show 2 * 0 + 0 + (13 * (0 + 1) + 41) ≤ 64 * (d + 6); omega)
  have halt : a < V.heap.size := by rw [hV, hTT]; exact (Array.getElem?_eq_some_iff.mp hcell).1
  have e1 : (V.setCell a ce).heap[a]? = some ce := heapAt_setCell_self (s := V) ce halt
  have e2 : (V.setCell a ce).heap.size = s.heap.size := by
    show (V.heap.set! a ce).size = _
    rw [hV, hTT]; simp
  have e3 : ∀ b, b ≠ a → (V.setCell a ce).heap[b]? = s.heap[b]? := by
    intro b hb9
    show (V.heap.set! a ce)[b]? = _
    rw [hV, hTT, Array.set!_eq_setIfInBounds, Array.getElem?_setIfInBounds_ne (fun q => hb9 q.symm)]
  have k9 : PW G mX14_init (rmD (d + 6) 0 0) (MZ G Q nX 0 0) 0 0 I J P T z 4 [some (.ref a), some (iv k), some (iv q)] [] := by
    refine r_aload_n (pc := 4) dX14_init_4 rfl rfl ?_
    refine r_iload_n (pc := 5) dX14_init_5 rfl rfl ?_
    refine r_putiF (pc := 6) (c := 14) (k := 0) (kz := 0) hT cok_14 (Nat.le_of_ble_eq_true rfl) q942 ⟨rfl, rfl⟩ (Or.inl rfl) rfl hb rfl rfl rfl rfl hk (fun _ _ _ => rfl) ⟨rfl, rfl⟩ dX14_init_6 ?_
    refine r_aload_n (pc := 9) dX14_init_9 rfl rfl ?_
    refine r_iload_n (pc := 10) dX14_init_10 rfl rfl ?_
    refine r_putiF (pc := 11) (c := 14) (k := 1) (kz := 1) hT cok_14 (Nat.le_of_ble_eq_true rfl) q944 ⟨rfl, rfl⟩ (Or.inl rfl) rfl hb rfl rfl rfl rfl hq (fun _ _ _ => rfl) ⟨rfl, rfl⟩ dX14_init_11 ?_
    exact r_return (pc := 14) rfl dX14_init_14 (Nat.le_refl _) (Nat.le_refl _) hQ
  have hR' : Rep G I J P T z (V.setCell a ce).heap := by
    refine hR.upd e2 e3 (fun _ _ _ => rfl) (fun _ _ _ => rfl) (fun _ _ _ => rfl) (fun j => hR.2.2.1 a j) (fun j => hR.2.2.2.1 a j) (fun t n ht h0 h20 => ?_) (fun c' n ht => ?_)
    · rw [hT] at ht
      have := congrArg Prod.fst ht
      dsimp only at this
      omega
    · have hc' : c' = 14 := by
        rw [hT] at ht
        have := congrArg Prod.fst ht
        dsimp only at this
        omega
      subst hc'
      obtain ⟨cell0, y1, y2, y3, y4⟩ := (hR.2.2.2.2.2 a 14 n ht).2
      have ec : cell0 = freshCell (G.2.1.1 14) kX := Option.some.inj (y1.symm.trans hcell)
      refine ⟨ce, e1, hcl, hvm, fun k' hk' => ?_⟩
      have y := y4 k' hk'
      obtain ⟨cf, kf, fi, fd, hi, he⟩ := hKn.1 k' hk'
      have nm := (State.fieldFound?_type hi (cok_14.2.1 k' hk')).1
      have h2 : k' = 0 ∨ k' = 1 := by have : k' < 2 := hk'; omega
      have key := hsl _ _ _ cf kf fi fd (u_lays hC.w cok_14.1 hk') hi (by rw [nm]; rcases h2 with rfl | rfl <;> decide) (by rw [nm]; rcases h2 with rfl | rfl <;> decide) (by rw [nm]; rcases h2 with rfl | rfl <;> decide)
      rw [he] at key
      rw [key, ← ec]
      exact y
  have hS' : va_S (gA G) s.heap (V.setCell a ce).heap L := ⟨Nat.le_of_eq e2.symm, fun b h1 h2 => e3 b (fun e9 => h2 (by rw [e9]; exact hb)), fun y hy => by rw [hL9 y hy]; exact hb⟩
  obtain ⟨t, a1, b1⟩ := k9 p e s m _ below meth c (V.setCell a ce).heap L la hC hR' hS' hL (V.setCell a ce) rfl hX
  exact ⟨t, st t a1, b1⟩
/-! a walk while the object at a is still fresh -/
def PWH (G : GE) (M : MI) (R : Room) (Z : ZP) (cu su : Nat) (I J : HI) (P : HP) (T : HT) (z cn a pc : Nat) (ls : List (Option Value)) (st : List Value) : Prop :=
  ∀ (p : Program) (e : Env) (s : State) (m : MethodId) (args : Array Value) (below : List Frame) (meth : Method) (c : Code) (H : Heap) (locs : List Loc) (la : Array Slot),
    CX G M p s m args meth c → Rep G I J P T z H → va_S (gA G) s.heap H locs → LV la M.2.2.1 ls → FC G cn a s H → W p G.1 e R s m args below meth c H locs cu su (Z below args s) (F0 m pc la st)
variable {cn a : Nat}
theorem h_new {c n index : Nat} (hc : COk c) (hm : cmade c = true) (hty : ∀ k, k < (ctab c).2.2.1 → (ctab c).2.2.2 k ≠ .float ∧ (ctab c).2.2.2 k ≠ .double) (q1 : Cond.classLink M.1 index (ctab c).1 ∈ lw_all) (q2 : Cond.instantiable (ctab c).1 n ∈ lw_all) (q3 : Cond.initialized (ctab c).1 ∈ lw_all) (h1 : cu + 1 ≤ R.cells) (h2 : su + n ≤ R.slots) (d : decode M.2.1 pc = .ok (.new index, 3))
    (k : PWH G M R Z (cu + 1) (su + n) (ur I z fun _ => 0) (ur J z fun _ => 0) (urp P z fun _ => none) (ut T z (c + 20, 0)) (z + 1) c z (pc + 3) ls (.ref z :: st)) : PW G M R Z cu su I J P T z pc ls st := by
  intro p e s m args below meth c0 H locs la hC hR hS hL
  have hKn := hC.K.1 c hm
  refine W.newcK hC.x hC.b hC.o (hC.w _ q1) (hC.w _ q2) (hC.w _ q3) rfl d h1 h2 hKn.2.1 hR.1 fun H1 kC hkC e1 z1 o1 => ?_
  refine k p e s m args below meth c0 H1 locs la hC (hR.push z1 o1 (fun b j hb => by simp [ur, hb]) (fun b j hb => by simp [ur, hb]) (fun b j hb => by simp [urp, hb]) (fun b hb => by simp [ut, hb]) (fun j => by unfold ur; rw [if_pos rfl]; show _ ≤ (0 : Int) ∧ (0 : Int) < _; constructor <;> decide) (fun j => by unfold ur; rw [if_pos rfl]; show _ ≤ (0 : Int) ∧ (0 : Int) < _; constructor <;> decide) (fun t n' ht h0 h20 => ?_) (fun c' n' ht => ?_)) (hS.push (by rw [hR.1]; exact z1) (by rw [hR.1]; exact o1)) hL ⟨kC, hkC, e1⟩
  · simp [ut] at ht; omega
  · have e9 : c = c' := by simp [ut] at ht; omega
    subst e9
    refine ⟨hm, (u_born ((ctab c).2.2.2) hC.w hc.1 hKn hkC e1 hc.2.1).to fun k' hk' => ?_⟩
    rw [dv_ok (hty k' hk')]
    simp [ur, urp]
theorem h_dup {v : Value} (d : decode M.2.1 pc = .ok (.dup, 1)) (hv : v.category = 1) (k : PWH G M R Z cu su I J P T z cn a (pc + 1) ls (v :: v :: st)) : PWH G M R Z cu su I J P T z cn a pc ls (v :: st) := by
  intro p e s m args below meth c H locs la hC hR hS hL hF
  exact lv_dup hC.x hC.b d hv (k p e s m args below meth c H locs la hC hR hS hL hF)
theorem h_iconst {n : Int} (d : decode M.2.1 pc = .ok (.iconst n, 1)) (k : PWH G M R Z cu su I J P T z cn a (pc + 1) ls (iv n :: st)) : PWH G M R Z cu su I J P T z cn a pc ls st := by
  intro p e s m args below meth c H locs la hC hR hS hL hF
  exact lv_iconst hC.x hC.b d rfl (k p e s m args below meth c H locs la hC hR hS hL hF)
theorem h_iload_n {n : Fin 4} {i : Nat} {x : Int} (d : decode M.2.1 pc = .ok (.iload_n n, 1)) (hi : (n : Nat) = i) (h : ls[i]? = some (some (iv x))) (k : PWH G M R Z cu su I J P T z cn a (pc + 1) ls (iv x :: st)) : PWH G M R Z cu su I J P T z cn a pc ls st := by
  intro p e s m args below meth c H locs la hC hR hS hL hF
  exact lv_iload_n hC.x hC.b d hi (hL.at h) (k p e s m args below meth c H locs la hC hR hS hL hF)
theorem h_aload_n {n : Fin 4} {i x : Nat} (d : decode M.2.1 pc = .ok (.aload_n n, 1)) (hi : (n : Nat) = i) (h : ls[i]? = some (some (.ref x))) (k : PWH G M R Z cu su I J P T z cn a (pc + 1) ls (.ref x :: st)) : PWH G M R Z cu su I J P T z cn a pc ls st := by
  intro p e s m args below meth c H locs la hC hR hS hL hF
  exact lv_aload_n hC.x hC.b d hi (hL.at h) (k p e s m args below meth c H locs la hC hR hS hL hF)
theorem h_goto {off : Int} (tgt : Nat) (d : decode M.2.1 pc = .ok (.goto off, 3)) (ht : (pc : Int) + off = (tgt : Int)) (k : PWH G M R Z cu su I J P T z cn a tgt ls st) : PWH G M R Z cu su I J P T z cn a pc ls st := by
  intro p e s m args below meth c H locs la hC hR hS hL hF
  exact lv_goto hC.x hC.b d ht (k p e s m args below meth c H locs la hC hR hS hL hF)
theorem h_icmp_eq {x y : Int} {off : Int} (tgt : Nat) (d : decode M.2.1 pc = .ok (.if_icmp .eq off, 3)) (ht : (pc : Int) + off = (tgt : Int)) (hx : rg x) (hy : rg y) (kt : x = y → PWH G M R Z cu su I J P T z cn a tgt ls st) (kf : x ≠ y → PWH G M R Z cu su I J P T z cn a (pc + 3) ls st) : PWH G M R Z cu su I J P T z cn a pc ls (iv y :: iv x :: st) := by
  intro p e s m args below meth c H locs la hC hR hS hL hF
  exact lv_icmp_eq hC.x hC.b d ht (fun h => kt ((i_eq hx hy).mp h) p e s m args below meth c H locs la hC hR hS hL hF) (fun h => kf (fun q => h ((i_eq hx hy).mpr q)) p e s m args below meth c H locs la hC hR hS hL hF)
theorem h_icmp_ne {x y : Int} {off : Int} (tgt : Nat) (d : decode M.2.1 pc = .ok (.if_icmp .ne off, 3)) (ht : (pc : Int) + off = (tgt : Int)) (hx : rg x) (hy : rg y) (kt : x ≠ y → PWH G M R Z cu su I J P T z cn a tgt ls st) (kf : x = y → PWH G M R Z cu su I J P T z cn a (pc + 3) ls st) : PWH G M R Z cu su I J P T z cn a pc ls (iv y :: iv x :: st) := by
  intro p e s m args below meth c H locs la hC hR hS hL hF
  exact lv_icmp_ne hC.x hC.b d ht (fun h => kt (fun q => h ((i_eq hx hy).mpr q)) p e s m args below meth c H locs la hC hR hS hL hF) (fun h => kf ((i_eq hx hy).mp h) p e s m args below meth c H locs la hC hR hS hL hF)
theorem h_geti {c k b index : Nat} {n kz : Int} {ref nm ds : String} (hT : T b = (c + 20, n)) (hc : COk c) (hk : k < (ctab c).2.2.1) (q : Cond.fieldLink M.1 index ref nm ds ∈ lw_all) (hn : ((ctab c).2.1 k).2.1 = nm ∧ ((ctab c).2.1 k).2.2.1 = ds) (hs : SF ref ((ctab c).2.1 k).1 nm ds) (ez : ((k : Nat) : Int) = kz) (ht : ∀ x y r, fvT ((ctab c).2.2.2 k) x y r = iv x) (d : decode M.2.1 pc = .ok (.getfield index, 3)) (kk : rg (I b kz) → PWH G M R Z cu su I J P T z cn a (pc + 3) ls (iv (I b kz) :: st)) : PWH G M R Z cu su I J P T z cn a pc ls (.ref b :: st) := by
  intro p e s m args below meth c0 H locs la hC hR hS hL hF
  obtain ⟨rfl, rfl⟩ := hn
  subst ez
  obtain ⟨hm, cell, q1, q2, q3, q4⟩ := hR.2.2.2.2.2 b c n hT
  obtain ⟨hSl, hfc, kC, hkC, hkind⟩ := hC.K.1 c hm
  obtain ⟨cf, kf, fi, f, hi, hsl⟩ := hSl k hk
  refine W.getf hC.x hC.b hC.o (hC.w _ q) (hs.same hC.w _ hi) (u_facts hfc hkC (u_lays hC.w hc.1 hk) hi).1 q1 (by rw [q3]; exact fun h => by cases h) (v := iv (I b k)) ?_ rfl rfl d (kk (hR.2.2.1 b k) p e s m args below meth c0 H locs la hC hR hS hL hF)
  rw [hsl, q4 k hk]
  exact congrArg some (ht _ _ _)
theorem h_fault {dd idx b : Nat} {k q : Int} (hT : T b = (34, 0)) (hb : G.2.2.2.1 ≤ b) (hk : rg k) (hq : rg q) (ql : Cond.methodLink M.1 idx yX14_init ∈ lw_all) (d : decode M.2.1 pc = .ok (.invokespecial idx, 3)) (hc : cu ≤ mc) (hs : su ≤ ms) (hw : Nat.ble ((st.map fun v => v.category).sum) 8 = true)
    (kk : PW G M (rmD (dd + 7) mc ms) Z cu su (ui (ui I b 0 k) b 1 q) J P T z (pc + 3) ls st) : PWH G M (rmD (dd + 7) mc ms) Z cu su I J P T z 14 b pc ls (iv q :: iv k :: .ref b :: st) := by
  intro p e s m args below meth c0 H locs la hC hR hS hL hF
  have im := im_X14_init
  refine call_go (vx_runI (As := [iv k, iv q]) (rest := st) ⟨hC.x, hC.b, hC.l, hC.o, hC.w⟩ (F_init (d := dd) (Q := fe (ui (ui I b 0 k) b 1 q) J P T z none) (I := I) (J := J) (P := P) (z := z) hT hb hk hq fe_i) (cwI 2 hC.w (lw_meth im.1) rfl rfl rfl (hC.w _ im.2.2.1) (hC.w _ ql) (hC.w _ im.2.1) rfl im.2.2.2.1 ⟨Nat.le_refl _, by show 8 + (3 + 11) + 64 * (dd + 6) ≤ 64 * (dd + 7); omega⟩) ⟨?_, ?_⟩ rfl rfl (hL.1) rfl (lv_room (Nat.le_of_ble_eq_true hw)) d ⟨hc, hs⟩) hC hS hL ?_ ?_
  · intro a9 U g9 mk h
    obtain ⟨h1, ⟨h2, h3, h4, h5⟩, h6⟩ := h
    exact ⟨h1, ⟨h2, KK.moved (u := U) (U := U.calling g9 mk a9) (Vm.Alike.refl U.vm) h3, h4.calling, h5⟩, FC.moved (s := U) (U := U.calling g9 mk a9) (Vm.Alike.refl U.vm) h6⟩
  · intro U hU hW
    obtain ⟨h1, h2, h3, h4, h5⟩ := pc_at (as := [.ref b, iv k, iv q]) hC hR hS U hU hW
    exact ⟨h1, ⟨h2, h3, h4, h5⟩, by rw [hU]; exact FC.moved hW.alike hF⟩
  · exact k_fv kk
  · exact fun _ _ _ _ _ _ _ hx => no_x hx
/-- an object is thrown -/
theorem r_athrow {b : Nat} {E : String} {n : Int} {c : Nat} (hT : T b = (c + 20, n)) (hE : (ctab c).1 = E) (d : decode M.2.1 pc = .ok (.athrow, 1)) (k : PX G M R Z cu su I J P T z pc ls st E b) : PW G M R Z cu su I J P T z pc ls (.ref b :: st) := by
  intro p e s m args below meth c0 H locs la hC hR hS hL
  obtain ⟨hm, cell, q1, q2, q3, -⟩ := hR.2.2.2.2.2 b c n hT
  subst hE
  exact vx_athrow hC.x hC.b d (k p e s m args below meth c0 H locs la cell hC hR hS hL q1 q3 (by rw [q2]; exact (hC.K.1 c hm).2.1))
/-- caught here by the only row of the table -/
theorem x_catch {E nm : String} {q a0 a1 h0 ct : Nat} (hh : M.2.2.2.2.1 = [(a0, a1, h0, ct)]) (h1 : a0 ≤ pc ∧ pc < a1) (h2 : ct ≠ 0) (ql : Cond.classLink M.1 ct nm ∈ lw_all) (qc : Cond.castable E nm ∈ lw_tbl) (k : PW G M R Z cu su I J P T z h0 ls [.ref q]) : PX G M R Z cu su I J P T z pc ls st E q := by
  intro p e s m args below meth c0 H locs la ce hC hR hS hL hce hv hcl
  refine vx_catch (pc := pc) hC.o [] ⟨a0, a1, h0, ct⟩ [] (by rw [hC.t, hh]; rfl) (fun _ h => nomatch h) ?_ h2 (hC.w _ ql) (va_Nw.use rfl (hC.E.2.2.2.1 _ _ qc)) hce hv hcl (k p e s m args below meth c0 H locs la hC hR hS hL)
  simp [covers, h1.1, h1.2]
end P0b
