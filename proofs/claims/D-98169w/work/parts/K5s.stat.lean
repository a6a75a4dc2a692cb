/-! ===== inherited static methods, abstract methods ===== -/
section SU1
variable {Q : Unit → Pre} {E : CtlPost} {e : Env} {d : Bool} {acts : List Action} {s s₀ : State} {f : JFrame}
theorem st_coldUp {index ci n c : Nat} {m : MethodId} {dk ck : Class} {cf : ClassFile} {name desc : String} (hs : s.topJava?.isSome) (hp : e.platform.polymorphicOnlyByInvokevirtual = true)
    (hW : s₀.WarmedH s.vm) (hE : s₀.MethodEntryUp e s.vm f.method.cls index c m ci) (h1 : s₀.vm.classes[f.method.cls]? = some dk) (h2 : dk.cf = some cf)
    (h3 : cf.constantPool[index]? = some (.methodref ci n)) (h4 : cf.constantPool.nameAndType? n = some (name, desc))
    (hck : s₀.vm.classes[c]? = some ck) (hnone : (ck.methods.any fun x => x.name == name && !x.isStatic && signaturePolymorphic ck x) = false) :
    wp (invokestatic.sem index) Q E e d acts (s.setTop f) ↔ wp (invokestatic.sem index) Q E e d acts ((s.setVm (s.vm.calledUp f.method.cls ci index c m)).setTop f) := by
  obtain ⟨hgc, hrc, hW₁, hgm⟩ := hE.classFirst
  obtain ⟨k₀, hk₀, he₀⟩ := hW.alike.2.2 _ _ h1
  obtain ⟨k₂, hk₂, he₂⟩ := hE.warmed.alike.2.2 _ _ h1
  obtain ⟨c₁, hc₁, hec₁⟩ := hW₁.alike.2.2 _ _ hck
  obtain ⟨c₂, hc₂, hec₂⟩ := hE.warmed.alike.2.2 _ _ hck
  have hb₀ := memberRef_ask_via (e := e) (via := false) hk₀ (by rw [he₀]; exact h2) h3 h4
  have hb₂ := memberRef_ask_via (e := e) (via := false) hk₂ (by rw [he₂]; exact h2) h3 h4
  have hn₁ : (c₁.methods.any fun x => x.name == name && !x.isStatic && signaturePolymorphic c₁ x) = false := by rw [hec₁]; exact hnone
  have hn₂ : (c₂.methods.any fun x => x.name == name && !x.isStatic && signaturePolymorphic c₂ x) = false := by rw [hec₂]; exact hnone
  have hs₁ : (s.setVm (s.vm.noted f.method.cls ci (.cls c))).topJava?.isSome := hs
  have hs₂ : (s.setVm (s.vm.calledUp f.method.cls ci index c m)).topJava?.isSome := hs
  have hL : ∀ {Q' : ClassId → Pre} {d' : Bool} {acts' : List Action}, wp (Jvm.resolveClassAt ci) Q' E e d' acts' (s.setTop f) ↔ Q' c d' acts' ((s.setVm (s.vm.noted f.method.cls ci (.cls c))).setTop f) :=
    W.resolveClassAt_links (t := s.setTop f) (State.method?_setTop f hs) hgc
  have hM : ∀ {Q' : MethodId → Pre} {d' : Bool} {acts' : List Action}, wp (Jvm.resolveMethodAt index) Q' E e d' acts' ((s.setVm (s.vm.noted f.method.cls ci (.cls c))).setTop f) ↔ Q' m d' acts' ((s.setVm (s.vm.calledUp f.method.cls ci index c m)).setTop f) :=
    W.resolveMethodAt_links (t := (s.setVm (s.vm.noted f.method.cls ci (.cls c))).setTop f) (State.method?_setTop f hs₁) hgm
  simp [invokestatic.sem, hp, Seam.memberRefOf, State.method?_setTop f hs, State.method?_setTop f hs₂, hb₀, hb₂, hL, W.resolveClassAt_ready (s := (s.setVm (s.vm.calledUp f.method.cls ci index c m)).setTop f) (State.method?_setTop f hs₂) hE.classReady,
    hc₁, hc₂, hn₁, hn₂, hM, W.resolveMethodAt_ready (s := (s.setVm (s.vm.calledUp f.method.cls ci index c m)).setTop f) (State.method?_setTop f hs₂) hE.ready, -Array.any_eq_true]
end SU1
section SU2
variable {p : Program} {l : Launch} {e : Env} {R : Room} {s : State} {m : MethodId} {args : Array Value} {below : List Frame} {meth : Method} {c : Code} {T : State} {locs : List Loc} {cells slots : Nat}
theorem st_up (X : Stand p l e R s m args below meth c T locs cells slots) (hexec : p.tables.exec = Jvm.exec)
    {own owner : String} {index : Nat} {x : MethodName} (hown : s.vm.findClass own = some m.cls) (hlink : (Cond.methodLink own index x).before args s = true)
    (hsame : (Cond.sameMethod x.cls owner x.name x.desc).before args s = true) (howner : owner ≠ "java/lang/invoke/MethodHandle" ∧ owner ≠ "java/lang/invoke/VarHandle")
    {m' : MethodId} {meth' : Method} {k' : Class} (hn : s.methodNamed? ⟨owner, x.name, x.desc⟩ = some m') (hm' : s.vm.method? m' = some meth') (hstatic : meth'.isStatic = true)
    (hk' : s.vm.classes[m'.cls]? = some k') (hinit : k'.init = .initialized)
    {g : JFrame} (hg : g.method = m) {argsL rest : List Value} (hlen : argsL.length = meth'.sig.parameters.length) (hstack : g.stack = argsL.reverse ++ rest)
    (hdg : decode c.code g.pc = .ok (.invokestatic index, 3)) :
    ∃ vm', Stand p l e R s m args below meth c (T.setVm vm') locs cells slots ∧
      ∀ target, (∀ acts, Steps p.tables e below (doInvoke e ((T.setVm vm').setTop { g with stack := rest }) acts m' argsL.toArray).1 target) → Steps p.tables e below (T.setTop g) target := by
  have hpl : e.platform.magicAccessors = ({} : Platform).magicAccessors := by rw [X.admits.platform]
  have hpv : e.platform.polymorphicOnlyByInvokevirtual = true := by rw [X.admits.platform]
  obtain ⟨cn, ck, r1, hcn, hck, hni, hf, hn1⟩ := Cond.sameMethod_found hsame
  cases hn.symm.trans hn1
  obtain ⟨ci, hl, hright⟩ := Cond.methodLink_specUp hown hcn hck hni hf hlink e.platform hpl (by rw [X.admits.platform])
  have hE : s.MethodEntryUp e T.vm m.cls index cn m' ci := State.methodEntryUp X.warmed hl hright
  obtain ⟨kr, hkr, hnr⟩ := className_of_methodNamed hn
  cases hk'.symm.trans hkr
  obtain ⟨dk, cfile, nt, mname, mdesc, ck2, _, _, hd, hcf, hcp, hnt, -, -, hck2, -, hnopoly, -⟩ := hl.here
  cases hck.symm.trans hck2
  have alike := hE.warmed.alike
  obtain ⟨dk₂, hdk₂, hed₂⟩ := alike.2.2 _ _ hd
  obtain ⟨k₂, hk₂, he₂⟩ := alike.2.2 _ _ hk'
  obtain ⟨ck₂, hck₂, hec⟩ := alike.2.2 _ _ hck
  have hnone : (ck.methods.any fun y => y.name == mname && !y.isStatic && signaturePolymorphic ck y) = false := by simp [hnopoly]
  have hnone₂ : (ck₂.methods.any fun y => y.name == mname && !y.isStatic && signaturePolymorphic ck₂ y) = false := by rw [hec]; exact hnone
  refine ⟨T.vm.calledUp m.cls ci index cn m', X.noted hE.warmed, fun target hrest => ?_⟩
  subst hg
  jvm_step X.here [hexec, hdg, st_coldUp (e := e) (s := T) (s₀ := s) (f := g) X.here.top hpv X.warmed hE hd hcf hcp hnt hck hnone,
    invokestatic.wp_ready (e := e) (s := T.setVm (T.vm.calledUp g.method.cls ci index cn m')) (k := k₂) (meth := meth') (m := m') (args := argsL) (rest := rest) (f := g)
      X.here.top ⟨ci, mname, mdesc, false, cn, ck₂, memberRef_ask_via (e := e) (via := false) hdk₂ (by rw [hed₂]; exact hcf) hcp hnt, hE.classReady, hck₂, hnone₂⟩ hE.ready hk₂
      (by show (T.vm.calledUp g.method.cls ci index cn m').method? m' = some meth'; rw [alike.method?]; exact hm') (by rw [he₂]; show signaturePolymorphic k' meth' = false; simp [signaturePolymorphic, hnr, howner.1, howner.2]) hstatic (by rw [he₂]; exact hinit) hlen hstack]
  exact fun acts => hrest _
end SU2
section SU3
variable {p : Program} {l : Launch} {e : Env} {R : Room} {s : State} {m : MethodId} {args : Array Value} {below : List Frame} {meth : Method} {c : Code} {H : Heap} {locs : List Loc} {cells slots : Nat}
theorem vx_runSI {x y : MethodName} {bytes cc : ByteArray} {maxL nL mc ms n index : Nat} {ret : Option FieldType} {ws : List Cond} {rm : Room} {Pc : Array Value → State → Prop} {Qc : Array Value → State → Outcome → State → Prop} {XC : String → Addr → State → State → Prop} {free : Addr → Prop} {Ts : List Cond} {own : String} {As rest : List Value} {g : JFrame}
    (S : CallFix p m c cc nL s args Ts own) (hM : vx_Met l y ws rm Pc Qc XC mc ms free) (hyx : y = ⟨y.cls, x.name, x.desc⟩)
    (hrc : rm.cells = mc) (hrs : rm.slots = ms) (hfr : rm.frames + 1 ≤ R.frames) (hlo : 8 + (maxL + 11) + rm.locals ≤ R.locals) (hws : ∀ w ∈ ws, ∀ (a' : Array Value) (U : State), s.WarmedH U.vm → w.before a' U = true) (hcw : Cond.code y bytes maxL ret ∈ ws) (hcode : (Cond.code y bytes maxL ret).before args s = true)
    (hini : (Cond.initialized y.cls).before args s = true) (hlink : (Cond.methodLink own index x).before args s = true) (hsame : (Cond.sameMethod x.cls y.cls x.name x.desc).before args s = true) (hstt : (Cond.static y).before args s = true)
    (hy : y.cls ≠ "java/lang/invoke/MethodHandle" ∧ y.cls ≠ "java/lang/invoke/VarHandle") (hlen : ∀ sig, parseMethodDescriptor y.desc = some sig → n = sig.parameters.length) (hp : PreS s H Pc As)
    (hg : g.method = m) (hn : As.length = n) (hsize : g.locals.size = nL) (hstack : g.stack = As.reverse ++ rest) (hW : 2 * g.monitorRoom + (rest.map fun v => v.category).sum ≤ 8) (hdg : decode cc g.pc = .ok (.invokestatic index, 3)) (hf : cells + mc ≤ R.cells ∧ slots + ms ≤ R.slots) :
    vx_Run p l e R s m args below meth c H locs cells slots mc ms g rest (Qc As.toArray) XC free := by
  have hK : vx_Back l R p e below s args y 3 8 (PreOf R mc ms Pc) (PostOf Qc mc ms free) (vx_Post XC mc ms free) := vx_back (bytes := bytes) (maxL := maxL) (ret := ret) hM hp.1 hrc hrs hfr hlo hws hcw (fun a' U hW => word_at hW (Or.inl (by first | rfl | simp [Cond.onTables, Cond.keeps, Cond.steady])) hini)
  obtain ⟨hx, hb, hml, ho, -⟩ := S
  obtain ⟨mk, hnamed⟩ := Cond.code_named hcode
  obtain ⟨methM, cM, hmethM, -, -, -, -, -, -, hsigM⟩ := Cond.code_spec hnamed hcode
  have hstatic : methM.isStatic = true := Cond.static_spec hnamed hmethM hstt
  obtain ⟨kP, hkP, -⟩ := className_of_methodNamed hnamed
  have hinitP : kP.init = .initialized := Cond.initialized_spec (findClass_of_methodNamed hnamed) hkP hini
  intro T hT X
  obtain ⟨vm₁, X₁, hstep₁⟩ := st_up X hx ho hlink hsame hy (by rw [← hyx]; exact hnamed) hmethM hstatic hkP hinitP (g := g) hg (argsL := As) (rest := rest) (hn.trans (hlen _ hsigM)) hstack (by rw [hb]; exact hdg)
  rcases hK m meth c ⟨T.setVm vm₁, locs, cells, slots⟩ { g with stack := rest } (.invokestatic index) mk As.toArray X₁ hg (hsize.trans hml.symm) (by rw [hb]; exact hdg) hW (X₁.named hnamed) ⟨hf.1, hf.2, hp.2 (T.setVm vm₁) hT X₁.warmed⟩ with ⟨v, ⟨U', l2, c2, s2⟩, X', ⟨g', mk, t, L, e1, e2, hq, h1, hL, h2, h3⟩, hsteps⟩ | ⟨q, ⟨U', l2, c2, s2⟩, X', ⟨g', mk, t, L, E, ce, e1, e2, hq, hce, hcv, hcl, h1, hL, h2, h3⟩, hsteps⟩
  · dsimp only [Pt.U, Pt.locs, Pt.cells, Pt.slots] at X' e1 e2 h1 h2 h3 hsteps
    subst h1; subst h2; subst h3
    exact Or.inl ⟨v, (T.setVm vm₁).calling g' mk As.toArray, t, U', L, hT, X', hL, e1, e2, hq, fun target h => hstep₁ _ fun acts => by rw [doInvoke_state]; exact hsteps.trans h⟩
  · dsimp only [Pt.U, Pt.locs, Pt.cells, Pt.slots] at X' e1 e2 h1 h2 h3 hsteps hcl
    subst h1; subst h2; subst h3
    exact Or.inr ⟨q, (T.setVm vm₁).calling g' mk As.toArray, t, U', L, E, ce, hT, X', hL, e1, e2, hq, hce, hcv, vx_cls X₁.warmed hcl, hstep₁ _ fun acts => by rw [doInvoke_state]; exact hsteps⟩
end SU3
section SU4
variable {G : GE} {M : MI} {Z : ZP} {cu su mc ms mc' ms' dd : Nat} {I J : HI} {P : HP} {T : HT} {z pc : Nat} {ls : List (Option Value)} {st : List Value} {Q' : QT} {X' : XT} {y : MethodName} {bts : ByteArray} {L : Nat} {r : Option FieldType} {idx n b cb : Nat} {nb : Int}
theorem r_callSI2 {x : MethodName} {a1 a2 : Value} (hM : MC G y (ws_ y bts L r) dd mc' ms' [a1, a2] I J P T z Q' X') (im : SM y bts L r 2) (hyx : y = ⟨y.cls, x.name, x.desc⟩) (qm : Cond.sameMethod x.cls y.cls x.name x.desc ∈ lw_all) (ql : Cond.methodLink M.1 idx x ∈ lw_all) (d : decode M.2.1 pc = .ok (.invokestatic idx, 3)) (hc : cu + mc' ≤ mc) (hs : su + ms' ≤ ms) (hw : Nat.ble ((st.map fun v => v.category).sum) 8 = true) (kk : ∀ v I' J' P' T' z', Q' v I' J' P' T' z' → PW G M (rmD (dd + 1) mc ms) Z (cu + mc') (su + ms') I' J' P' T' z' (pc + 3) ls (v.toList ++ st)) (kx : ∀ E q I' J' P' T' z', X' E q I' J' P' T' z' → PX G M (rmD (dd + 1) mc ms) Z (cu + mc') (su + ms') I' J' P' T' z' pc ls st E q) : PW G M (rmD (dd + 1) mc ms) Z cu su I J P T z pc ls (a2 :: a1 :: st) := by
  intro p e s m args below meth c0 H locs la hC hR hS hL
  have hG : GoodIn lw_all (ws_ y bts L r) := lw_meth im.1
  refine call_go (vx_runSI (x := x) (bytes := bts) (maxL := L) (ret := r) (n := 2) (As := [a1, a2]) (rest := st) ⟨hC.x, hC.b, hC.l, hC.o, hC.w⟩ hM hyx rfl rfl (Nat.le_refl _) (by have := im.2.2.2.2; show 8 + (L + 11) + 64 * dd ≤ 64 * (dd + 1); omega) (pay_in hC.w hG) List.mem_cons_self (hC.w _ im.1) (hC.w _ im.2.2.1) (hC.w _ ql) (hC.w _ qm) (hC.w _ im.2.1) ⟨im.2.2.2.1.1, im.2.2.2.1.2.1⟩ (fun sig h => by have h2 := im.2.2.2.1.2.2; rw [h] at h2; exact (Option.some.inj h2).symm) ⟨pc_blind, pc_at hC hR hS⟩ rfl rfl (hL.1) rfl (lv_room (Nat.le_of_ble_eq_true hw)) d ⟨hc, hs⟩) hC hS hL kk kx
theorem r_callSI3 {x : MethodName} {a1 a2 a3 : Value} (hM : MC G y (ws_ y bts L r) dd mc' ms' [a1, a2, a3] I J P T z Q' X') (im : SM y bts L r 3) (hyx : y = ⟨y.cls, x.name, x.desc⟩) (qm : Cond.sameMethod x.cls y.cls x.name x.desc ∈ lw_all) (ql : Cond.methodLink M.1 idx x ∈ lw_all) (d : decode M.2.1 pc = .ok (.invokestatic idx, 3)) (hc : cu + mc' ≤ mc) (hs : su + ms' ≤ ms) (hw : Nat.ble ((st.map fun v => v.category).sum) 8 = true) (kk : ∀ v I' J' P' T' z', Q' v I' J' P' T' z' → PW G M (rmD (dd + 1) mc ms) Z (cu + mc') (su + ms') I' J' P' T' z' (pc + 3) ls (v.toList ++ st)) (kx : ∀ E q I' J' P' T' z', X' E q I' J' P' T' z' → PX G M (rmD (dd + 1) mc ms) Z (cu + mc') (su + ms') I' J' P' T' z' pc ls st E q) : PW G M (rmD (dd + 1) mc ms) Z cu su I J P T z pc ls (a3 :: a2 :: a1 :: st) := by
  intro p e s m args below meth c0 H locs la hC hR hS hL
  have hG : GoodIn lw_all (ws_ y bts L r) := lw_meth im.1
  refine call_go (vx_runSI (x := x) (bytes := bts) (maxL := L) (ret := r) (n := 3) (As := [a1, a2, a3]) (rest := st) ⟨hC.x, hC.b, hC.l, hC.o, hC.w⟩ hM hyx rfl rfl (Nat.le_refl _) (by have := im.2.2.2.2; show 8 + (L + 11) + 64 * dd ≤ 64 * (dd + 1); omega) (pay_in hC.w hG) List.mem_cons_self (hC.w _ im.1) (hC.w _ im.2.2.1) (hC.w _ ql) (hC.w _ qm) (hC.w _ im.2.1) ⟨im.2.2.2.1.1, im.2.2.2.1.2.1⟩ (fun sig h => by have h2 := im.2.2.2.1.2.2; rw [h] at h2; exact (Option.some.inj h2).symm) ⟨pc_blind, pc_at hC hR hS⟩ rfl rfl (hL.1) rfl (lv_room (Nat.le_of_ble_eq_true hw)) d ⟨hc, hs⟩) hC hS hL kk kx
/-- a method that the named class declares, not its own code: the object's class has it -/
theorem r_callA2 {x : MethodName} {a1 a2 : Value} (hM : MC G y (ws_ y bts L r) dd mc' ms' [.ref b, a1, a2] I J P T z Q' X') (im : IM y bts L r 2) (hyd : x.desc = y.desc) (hxm : x.cls ≠ "java/lang/invoke/MethodHandle" ∧ x.cls ≠ "java/lang/invoke/VarHandle") (qd : Cond.declares x ∈ lw_tbl) (qs : Cond.selects (ctab cb).1 x y ∈ lw_all) (qm : Cond.sameMethod x.cls x.cls x.name x.desc ∈ lw_all) (ql : Cond.methodLink M.1 idx x ∈ lw_all) (hT : T b = (cb + 20, nb)) (d : decode M.2.1 pc = .ok (.invokevirtual idx, 3)) (hc : cu + mc' ≤ mc) (hs : su + ms' ≤ ms) (hw : Nat.ble ((st.map fun v => v.category).sum) 8 = true) (kk : ∀ v I' J' P' T' z', Q' v I' J' P' T' z' → PW G M (rmD (dd + 1) mc ms) Z (cu + mc') (su + ms') I' J' P' T' z' (pc + 3) ls (v.toList ++ st)) (kx : ∀ E q I' J' P' T' z', X' E q I' J' P' T' z' → PX G M (rmD (dd + 1) mc ms) Z (cu + mc') (su + ms') I' J' P' T' z' pc ls st E q) : PW G M (rmD (dd + 1) mc ms) Z cu su I J P T z pc ls (a2 :: a1 :: .ref b :: st) := by
  intro p e s m args below meth c0 H locs la hC hR hS hL
  have hrv := recv hC hR hT
  have hG : GoodIn lw_all (ws_ y bts L r) := lw_meth im.1
  have hdec : va_Decl s ⟨x.cls, x.name, x.desc⟩ := by
    obtain ⟨r0, r9, h1, h2, h3, h4⟩ := Cond.declares_spec (va_Nw.use (A := args) rfl (hC.E.2.2.1 _ qd))
    exact ⟨r0, r9, h1, h2, h3, h4⟩
  have cw : va_CU (rmD (dd + 1) mc ms) s args M.1 (ctab cb).1 x.cls idx x y bts L r (ws_ y bts L r) (rmD dd mc' ms') mc' ms' 2 :=
    ⟨⟨rfl, rfl, Nat.le_refl _, by have := im.2.2.2.2; show 8 + (L + 11) + 64 * dd ≤ 64 * (dd + 1); omega, pay_in hC.w hG, List.mem_cons_self⟩, hC.w _ im.1, hC.w _ im.2.2.1, hxm, fun sig h => by have h2 := im.2.2.2.1.2.2; rw [hyd] at h; rw [h] at h2; exact (Option.some.inj h2).symm, hC.w _ ql, hC.w _ qm, hdec, hC.w _ qs, hC.w _ im.2.1⟩
  exact call_go (vx_runU (C := (ctab cb).1) (owner := x.cls) (x := x) (As := [a1, a2]) (rest := st) ⟨hC.x, hC.b, hC.l, hC.o, hC.w⟩ hM cw ⟨pc_blind, hrv, pc_at hC hR hS⟩ rfl rfl (hL.1) rfl (lv_room (Nat.le_of_ble_eq_true hw)) d ⟨hc, hs⟩) hC hS hL kk kx
end SU4
