/-! ===== heap rows ===== -/
theorem Rep.upd {G : GE} {I J I' J' : HI} {P P' : HP} {T : HT} {z a : Nat} {H H' : Heap} (h : Rep G I J P T z H) (hz : H'.size = H.size) (ho : ∀ q, q ≠ a → H'[q]? = H[q]?) (hI : ∀ b j, b ≠ a → I' b j = I b j) (hJ : ∀ b j, b ≠ a → J' b j = J b j) (hP : ∀ b j, b ≠ a → P' b j = P b j)
    (hrI : ∀ j, rg (I' a j)) (hrJ : ∀ j, rgj (J' a j)) (hA : ∀ t n, T a = (t, n) → 0 < t → t < 20 → H'[a]? = some (arrV (G.2.2.1 t) n.toNat (fun j => fvT (aty t) (I' a j) (J' a j) (P' a j))))
    (hO : ∀ c n, T a = (c + 20, n) → t_OB a (G.2.1.1 c) (ctab c).2.2.1 (G.2.1.2 c) H' (fun k => fvT ((ctab c).2.2.2 k) (I' a k) (J' a k) (P' a k))) : Rep G I' J' P' T z H' := by
  obtain ⟨h1, h2, h3, h4, h5, h6⟩ := h
  refine ⟨hz.trans h1, h2, fun b j => ?_, fun b j => ?_, fun b t n hT h0 ht => ?_, fun b c n hT => ?_⟩
  · by_cases e : b = a
    · subst e; exact hrI j
    · rw [hI b j e]; exact h3 b j
  · by_cases e : b = a
    · subst e; exact hrJ j
    · rw [hJ b j e]; exact h4 b j
  · by_cases e : b = a
    · subst e; exact ⟨(h5 b t n hT h0 ht).1, (h5 b t n hT h0 ht).2.1, hA t n hT h0 ht⟩
    · have q := h5 b t n hT h0 ht
      refine ⟨q.1, q.2.1, ?_⟩
      rw [ho b e, q.2.2]
      congr 2
      funext j
      rw [hI b j e, hJ b j e, hP b j e]
  · by_cases e : b = a
    · subst e; exact ⟨(h6 b c n hT).1, hO c n hT⟩
    · have q := h6 b c n hT
      refine ⟨q.1, (q.2.kept (ho b e)).to fun k _ => ?_⟩
      rw [hI b k e, hJ b k e, hP b k e]
theorem Rep.lt {G : GE} {I J : HI} {P : HP} {T : HT} {z a : Nat} {H : Heap} (h : Rep G I J P T z H) (ht : (T a).1 ≠ 0) : a < z := Nat.not_le.mp fun q => ht (h.2.1 a q)
theorem ui_s {I : HI} {a : Nat} {j v : Int} : ui I a j v a j = v := by simp [ui]
theorem ui_n {I : HI} {a b : Nat} {j i v : Int} (h : b ≠ a) : ui I a j v b i = I b i := by simp [ui, h]
theorem ui_j {I : HI} {a b : Nat} {j i v : Int} (h : i ≠ j) : ui I a j v b i = I b i := by simp [ui, h]
theorem up_n {P : HP} {a b : Nat} {j i : Int} {v : Option Nat} (h : b ≠ a) : up P a j v b i = P b i := by simp [up, h]
def SF (ref owner name desc : String) : Prop := ref = owner ∨ Cond.sameField ref owner name desc ∈ lw_all
theorem SF.same {ref owner name desc : String} (h : SF ref owner name desc) {args : Array Value} {s : State} (hw : ∀ w ∈ lw_all, w.before args s = true) : ∀ x, s.fieldFound? owner name desc = some x → s.fieldFound? ref name desc = some x := by
  rcases h with rfl | h
  · exact fun _ h => h
  · exact u_same (hw _ h)
section R3
variable {G : GE} {M : MI} {R : Room} {Z : ZP} {cu su : Nat} {I J : HI} {P : HP} {T : HT} {z pc : Nat} {ls : List (Option Value)} {st : List Value}
theorem r_get_g {c k a index : Nat} {n kz : Int} {ref nm ds : String} (hT : T a = (c + 20, n)) (hc : COk c) (hk : k < (ctab c).2.2.1) (q : Cond.fieldLink M.1 index ref nm ds ∈ lw_all) (hn : ((ctab c).2.1 k).2.1 = nm ∧ ((ctab c).2.1 k).2.2.1 = ds) (hs : SF ref ((ctab c).2.1 k).1 nm ds) (ez : ((k : Nat) : Int) = kz) {v : Value} (hv : fvT ((ctab c).2.2.2 k) (I a kz) (J a kz) (P a kz) = v) (d : decode M.2.1 pc = .ok (.getfield index, 3)) (kk : PW G M R Z cu su I J P T z (pc + 3) ls (v :: st)) : PW G M R Z cu su I J P T z pc ls (.ref a :: st) := by
  intro p e s m args below meth c0 H locs la hC hR hS hL
  obtain ⟨rfl, rfl⟩ := hn
  subst ez
  obtain ⟨hm, cell, q1, q2, q3, q4⟩ := hR.2.2.2.2.2 a c n hT
  obtain ⟨hSl, hfc, kC, hkC, hkind⟩ := hC.K.1 c hm
  obtain ⟨cf, kf, fi, f, hi, hsl⟩ := hSl k hk
  refine W.getf hC.x hC.b hC.o (hC.w _ q) (hs.same hC.w _ hi) (u_facts hfc hkC (u_lays hC.w hc.1 hk) hi).1 q1 (by rw [q3]; exact fun h => by cases h) (v := v) ?_ rfl rfl d (kk p e s m args below meth c0 H locs la hC hR hS hL)
  rw [hsl, q4 k hk, ← hv]
theorem r_geti {c k a index : Nat} {n kz : Int} {ref nm ds : String} (hT : T a = (c + 20, n)) (hc : COk c) (hk : k < (ctab c).2.2.1) (q : Cond.fieldLink M.1 index ref nm ds ∈ lw_all) (hn : ((ctab c).2.1 k).2.1 = nm ∧ ((ctab c).2.1 k).2.2.1 = ds) (hs : SF ref ((ctab c).2.1 k).1 nm ds) (ez : ((k : Nat) : Int) = kz) (ht : ∀ x y r, fvT ((ctab c).2.2.2 k) x y r = iv x) (d : decode M.2.1 pc = .ok (.getfield index, 3)) (kk : rg (I a kz) → PW G M R Z cu su I J P T z (pc + 3) ls (iv (I a kz) :: st)) : PW G M R Z cu su I J P T z pc ls (.ref a :: st) := by
  intro p e s m args below meth c0 H locs la hC hR hS hL
  exact r_get_g hT hc hk q hn hs ez (ht _ _ _) d (kk (hR.2.2.1 a kz)) p e s m args below meth c0 H locs la hC hR hS hL
theorem r_getj {c k a index : Nat} {n kz : Int} {ref nm ds : String} (hT : T a = (c + 20, n)) (hc : COk c) (hk : k < (ctab c).2.2.1) (q : Cond.fieldLink M.1 index ref nm ds ∈ lw_all) (hn : ((ctab c).2.1 k).2.1 = nm ∧ ((ctab c).2.1 k).2.2.1 = ds) (hs : SF ref ((ctab c).2.1 k).1 nm ds) (ez : ((k : Nat) : Int) = kz) (ht : ∀ x y r, fvT ((ctab c).2.2.2 k) x y r = jv y) (d : decode M.2.1 pc = .ok (.getfield index, 3)) (kk : rgj (J a kz) → PW G M R Z cu su I J P T z (pc + 3) ls (jv (J a kz) :: st)) : PW G M R Z cu su I J P T z pc ls (.ref a :: st) := by
  intro p e s m args below meth c0 H locs la hC hR hS hL
  exact r_get_g hT hc hk q hn hs ez (ht _ _ _) d (kk (hR.2.2.2.1 a kz)) p e s m args below meth c0 H locs la hC hR hS hL
theorem r_getr {c k a index : Nat} {n kz : Int} {ref nm ds : String} (hT : T a = (c + 20, n)) (hc : COk c) (hk : k < (ctab c).2.2.1) (q : Cond.fieldLink M.1 index ref nm ds ∈ lw_all) (hn : ((ctab c).2.1 k).2.1 = nm ∧ ((ctab c).2.1 k).2.2.1 = ds) (hs : SF ref ((ctab c).2.1 k).1 nm ds) (ez : ((k : Nat) : Int) = kz) (ht : ∀ x y r, fvT ((ctab c).2.2.2 k) x y r = va_rf r) {b : Nat} (hp : P a kz = some b) (d : decode M.2.1 pc = .ok (.getfield index, 3)) (kk : PW G M R Z cu su I J P T z (pc + 3) ls (.ref b :: st)) : PW G M R Z cu su I J P T z pc ls (.ref a :: st) := by
  intro p e s m args below meth c0 H locs la hC hR hS hL
  exact r_get_g hT hc hk q hn hs ez ((ht _ _ _).trans (by rw [hp]; rfl)) d kk p e s m args below meth c0 H locs la hC hR hS hL
theorem r_getz {c k a index : Nat} {n kz : Int} {ref nm ds : String} (hT : T a = (c + 20, n)) (hc : COk c) (hk : k < (ctab c).2.2.1) (q : Cond.fieldLink M.1 index ref nm ds ∈ lw_all) (hn : ((ctab c).2.1 k).2.1 = nm ∧ ((ctab c).2.1 k).2.2.1 = ds) (hs : SF ref ((ctab c).2.1 k).1 nm ds) (ez : ((k : Nat) : Int) = kz) (ht : ∀ x y r, fvT ((ctab c).2.2.2 k) x y r = va_rf r) (hp : P a kz = none) (d : decode M.2.1 pc = .ok (.getfield index, 3)) (kk : PW G M R Z cu su I J P T z (pc + 3) ls (.null :: st)) : PW G M R Z cu su I J P T z pc ls (.ref a :: st) := by
  intro p e s m args below meth c0 H locs la hC hR hS hL
  exact r_get_g hT hc hk q hn hs ez ((ht _ _ _).trans (by rw [hp]; rfl)) d kk p e s m args below meth c0 H locs la hC hR hS hL
theorem r_getN_g {c k a index : Nat} {n kz : Int} {ref nm ds : String} (hT : T a = (c + 20, n)) (hc : COk c) (hk : k < (ctab c).2.2.1) {host : String} (q : Cond.fieldLinkNest M.1 index ref nm ds host ∈ lw_tbl) (hn : ((ctab c).2.1 k).2.1 = nm ∧ ((ctab c).2.1 k).2.2.1 = ds) (hs : SF ref ((ctab c).2.1 k).1 nm ds) (ez : ((k : Nat) : Int) = kz) {v : Value} (hv : fvT ((ctab c).2.2.2 k) (I a kz) (J a kz) (P a kz) = v) (d : decode M.2.1 pc = .ok (.getfield index, 3)) (kk : PW G M R Z cu su I J P T z (pc + 3) ls (v :: st)) : PW G M R Z cu su I J P T z pc ls (.ref a :: st) := by
  intro p e s m args below meth c0 H locs la hC hR hS hL
  obtain ⟨rfl, rfl⟩ := hn
  subst ez
  obtain ⟨hm, cell, q1, q2, q3, q4⟩ := hR.2.2.2.2.2 a c n hT
  obtain ⟨hSl, hfc, kC, hkC, hkind⟩ := hC.K.1 c hm
  obtain ⟨cf, kf, fi, f, hi, hsl⟩ := hSl k hk
  refine va_Wgetf hC.x hC.b hC.o (va_Nw.use rfl (hC.E.1 _ _ _ _ _ _ q)) (hs.same hC.w _ hi) (u_facts hfc hkC (u_lays hC.w hc.1 hk) hi).1 q1 (by rw [q3]; exact fun h => by cases h) (v := v) ?_ rfl rfl d (kk p e s m args below meth c0 H locs la hC hR hS hL)
  rw [hsl, q4 k hk, ← hv]
theorem r_getiN {c k a index : Nat} {n kz : Int} {ref nm ds : String} (hT : T a = (c + 20, n)) (hc : COk c) (hk : k < (ctab c).2.2.1) {host : String} (q : Cond.fieldLinkNest M.1 index ref nm ds host ∈ lw_tbl) (hn : ((ctab c).2.1 k).2.1 = nm ∧ ((ctab c).2.1 k).2.2.1 = ds) (hs : SF ref ((ctab c).2.1 k).1 nm ds) (ez : ((k : Nat) : Int) = kz) (ht : ∀ x y r, fvT ((ctab c).2.2.2 k) x y r = iv x) (d : decode M.2.1 pc = .ok (.getfield index, 3)) (kk : rg (I a kz) → PW G M R Z cu su I J P T z (pc + 3) ls (iv (I a kz) :: st)) : PW G M R Z cu su I J P T z pc ls (.ref a :: st) := by
  intro p e s m args below meth c0 H locs la hC hR hS hL
  exact r_getN_g hT hc hk q hn hs ez (ht _ _ _) d (kk (hR.2.2.1 a kz)) p e s m args below meth c0 H locs la hC hR hS hL
theorem r_getjN {c k a index : Nat} {n kz : Int} {ref nm ds : String} (hT : T a = (c + 20, n)) (hc : COk c) (hk : k < (ctab c).2.2.1) {host : String} (q : Cond.fieldLinkNest M.1 index ref nm ds host ∈ lw_tbl) (hn : ((ctab c).2.1 k).2.1 = nm ∧ ((ctab c).2.1 k).2.2.1 = ds) (hs : SF ref ((ctab c).2.1 k).1 nm ds) (ez : ((k : Nat) : Int) = kz) (ht : ∀ x y r, fvT ((ctab c).2.2.2 k) x y r = jv y) (d : decode M.2.1 pc = .ok (.getfield index, 3)) (kk : rgj (J a kz) → PW G M R Z cu su I J P T z (pc + 3) ls (jv (J a kz) :: st)) : PW G M R Z cu su I J P T z pc ls (.ref a :: st) := by
  intro p e s m args below meth c0 H locs la hC hR hS hL
  exact r_getN_g hT hc hk q hn hs ez (ht _ _ _) d (kk (hR.2.2.2.1 a kz)) p e s m args below meth c0 H locs la hC hR hS hL
theorem r_getrN {c k a index : Nat} {n kz : Int} {ref nm ds : String} (hT : T a = (c + 20, n)) (hc : COk c) (hk : k < (ctab c).2.2.1) {host : String} (q : Cond.fieldLinkNest M.1 index ref nm ds host ∈ lw_tbl) (hn : ((ctab c).2.1 k).2.1 = nm ∧ ((ctab c).2.1 k).2.2.1 = ds) (hs : SF ref ((ctab c).2.1 k).1 nm ds) (ez : ((k : Nat) : Int) = kz) (ht : ∀ x y r, fvT ((ctab c).2.2.2 k) x y r = va_rf r) {b : Nat} (hp : P a kz = some b) (d : decode M.2.1 pc = .ok (.getfield index, 3)) (kk : PW G M R Z cu su I J P T z (pc + 3) ls (.ref b :: st)) : PW G M R Z cu su I J P T z pc ls (.ref a :: st) := by
  intro p e s m args below meth c0 H locs la hC hR hS hL
  exact r_getN_g hT hc hk q hn hs ez ((ht _ _ _).trans (by rw [hp]; rfl)) d kk p e s m args below meth c0 H locs la hC hR hS hL
theorem r_getzN {c k a index : Nat} {n kz : Int} {ref nm ds : String} (hT : T a = (c + 20, n)) (hc : COk c) (hk : k < (ctab c).2.2.1) {host : String} (q : Cond.fieldLinkNest M.1 index ref nm ds host ∈ lw_tbl) (hn : ((ctab c).2.1 k).2.1 = nm ∧ ((ctab c).2.1 k).2.2.1 = ds) (hs : SF ref ((ctab c).2.1 k).1 nm ds) (ez : ((k : Nat) : Int) = kz) (ht : ∀ x y r, fvT ((ctab c).2.2.2 k) x y r = va_rf r) (hp : P a kz = none) (d : decode M.2.1 pc = .ok (.getfield index, 3)) (kk : PW G M R Z cu su I J P T z (pc + 3) ls (.null :: st)) : PW G M R Z cu su I J P T z pc ls (.ref a :: st) := by
  intro p e s m args below meth c0 H locs la hC hR hS hL
  exact r_getN_g hT hc hk q hn hs ez ((ht _ _ _).trans (by rw [hp]; rfl)) d kk p e s m args below meth c0 H locs la hC hR hS hL
theorem r_put_g {c k a index : Nat} {n kz : Int} {ref nm ds : String} (hT : T a = (c + 20, n)) (hc : COk c) (hk : k < (ctab c).2.2.1) (q : Cond.fieldLink M.1 index ref nm ds ∈ lw_all) (hn : ((ctab c).2.1 k).2.1 = nm ∧ ((ctab c).2.1 k).2.2.1 = ds) (hs : SF ref ((ctab c).2.1 k).1 nm ds) (ez : ((k : Nat) : Int) = kz) (hb0 : G.2.2.2.1 ≤ a) (hfin : ((ctab c).2.1 k).2.2.2 = false) {ty : FieldType} {v : Value} (hty : (ctab c).2.2.2 k = ty) (hnf : narrow ty v = v ∧ fits ty v = true) (d : decode M.2.1 pc = .ok (.putfield index, 3)) {I' J' : HI} {P' : HP} (hI : ∀ b j, b ≠ a → I' b j = I b j) (hJ : ∀ b j, b ≠ a → J' b j = J b j) (hP : ∀ b j, b ≠ a → P' b j = P b j) (hrI : ∀ j, rg (I a j) → rg (I' a j)) (hrJ : ∀ j, rgj (J a j) → rgj (J' a j))
    (hv : ∀ j : Nat, j < (ctab c).2.2.1 → fvT ((ctab c).2.2.2 j) (I' a j) (J' a j) (P' a j) = if j = k then v else fvT ((ctab c).2.2.2 j) (I a j) (J a j) (P a j)) (kk : PW G M R Z cu su I' J' P' T z (pc + 3) ls st) : PW G M R Z cu su I J P T z pc ls (v :: .ref a :: st) := by
  intro p e s m args below meth c0 H locs la hC hR hS hL
  obtain ⟨rfl, rfl⟩ := hn
  subst ez
  obtain ⟨hm, cell, q1, q2, q3, q4⟩ := hR.2.2.2.2.2 a c n hT
  have hKc := hC.K.1 c hm
  obtain ⟨hSl, hfc, kC, hkC, hkind⟩ := hC.K.1 c hm
  have hap : ∀ x y, x < (ctab c).2.2.1 → y < (ctab c).2.2.1 → x ≠ y → G.2.1.2 c x ≠ G.2.1.2 c y := by
    intro x y hx hy hne
    obtain ⟨_, _, _, fa, hia, ea⟩ := hSl x hx
    obtain ⟨_, _, _, fb, hib, eb⟩ := hSl y hy
    rw [← ea, ← eb]
    have na := (State.fieldFound?_type hia (hc.2.1 x hx)).1
    have nb := (State.fieldFound?_type hib (hc.2.1 y hy)).1
    refine u_apart (u_lays hC.w hc.1 hx) (u_lays hC.w hc.1 hy) hia hib ?_
    rw [na, nb]
    exact hc.2.2 x hx y hy hne
  obtain ⟨cf, kf, fi, f, hi, hsl⟩ := hSl k hk
  have hd : parseFieldDescriptor ((ctab c).2.1 k).2.2.1 = some ty := by rw [hc.2.1 k hk, hty]
  have hlay := hC.w _ (hc.1 _ (u_in_lay hk))
  unfold u_lay at hlay
  rw [if_neg (by rw [hfin]; decide)] at hlay
  have hst := (u_facts hfc hkC (u_lays hC.w hc.1 hk) hi).1
  have h6 := u_store hfc hkC hkind hlay hi hd hnf.1 hnf.2
  refine W.putK hC.x hC.b (f := f) ⟨hC.o, (hC.w _ q), ⟨_, _, _, hs.same hC.w _ hi⟩, hst⟩ (by rw [q2]; exact h6) q1 q3 (by rw [hsl]; exact k2_hasslot (q4 k hk)) rfl rfl d fun H' e1 e2 e3 => ?_
  rw [hsl] at e1 ⊢
  refine kk p e s m args below meth c0 H' _ la hC (hR.upd e2 e3 hI hJ hP (fun j => hrI j (hR.2.2.1 a j)) (fun j => hrJ j (hR.2.2.2.1 a j)) (fun t n' ht h0 h20 => ?_) (fun c' n' ht => ?_)) (hS.put e2 e3 hb0) hL
  · rw [hT] at ht
    have := congrArg Prod.fst ht
    simp at this
    omega
  · rw [hT] at ht
    have h9 : c = c' := by have := congrArg Prod.fst ht; simp at this; omega
    subst h9
    refine t_OB.to ⟨_, e1, q2, q3, t_set q4 hap hk v⟩ (fun j hj => ?_)
    rw [hv j hj]
    rfl
theorem r_puti {c k a index : Nat} {n kz : Int} {ref nm ds : String} (hT : T a = (c + 20, n)) (hc : COk c) (hk : k < (ctab c).2.2.1) (q : Cond.fieldLink M.1 index ref nm ds ∈ lw_all) (hn : ((ctab c).2.1 k).2.1 = nm ∧ ((ctab c).2.1 k).2.2.1 = ds) (hs : SF ref ((ctab c).2.1 k).1 nm ds) (ez : ((k : Nat) : Int) = kz) (hb0 : G.2.2.2.1 ≤ a) (hfin : ((ctab c).2.1 k).2.2.2 = false) {ty : FieldType} (hty : (ctab c).2.2.2 k = ty) {x : Int} (hx : rg x) (ht : ∀ x y r, fvT ((ctab c).2.2.2 k) x y r = iv x) (hnf : narrow ty (iv x) = iv x ∧ fits ty (iv x) = true) (d : decode M.2.1 pc = .ok (.putfield index, 3)) (kk : PW G M R Z cu su (ui I a kz x) J P T z (pc + 3) ls st) : PW G M R Z cu su I J P T z pc ls (iv x :: .ref a :: st) := by
  refine r_put_g hT hc hk q hn hs ez hb0 hfin hty hnf d (fun b j h => ui_n h) (fun _ _ _ => rfl) (fun _ _ _ => rfl) (fun j h => ?_) (fun _ h => h) (fun j hj => ?_) kk
  · unfold ui; split; exact hx; exact h
  · subst ez
    by_cases e : j = k
    · subst e; rw [if_pos rfl, ht, ui_s]
    · rw [if_neg e, ui_j (by omega)]
theorem r_putj {c k a index : Nat} {n kz : Int} {ref nm ds : String} (hT : T a = (c + 20, n)) (hc : COk c) (hk : k < (ctab c).2.2.1) (q : Cond.fieldLink M.1 index ref nm ds ∈ lw_all) (hn : ((ctab c).2.1 k).2.1 = nm ∧ ((ctab c).2.1 k).2.2.1 = ds) (hs : SF ref ((ctab c).2.1 k).1 nm ds) (ez : ((k : Nat) : Int) = kz) (hb0 : G.2.2.2.1 ≤ a) (hfin : ((ctab c).2.1 k).2.2.2 = false) {ty : FieldType} (hty : (ctab c).2.2.2 k = ty) {x : Int} (hx : rgj x) (ht : ∀ x y r, fvT ((ctab c).2.2.2 k) x y r = jv y) (hnf : narrow ty (jv x) = jv x ∧ fits ty (jv x) = true) (d : decode M.2.1 pc = .ok (.putfield index, 3)) (kk : PW G M R Z cu su I (ui J a kz x) P T z (pc + 3) ls st) : PW G M R Z cu su I J P T z pc ls (jv x :: .ref a :: st) := by
  refine r_put_g hT hc hk q hn hs ez hb0 hfin hty hnf d (fun _ _ _ => rfl) (fun b j h => ui_n h) (fun _ _ _ => rfl) (fun _ h => h) (fun j h => ?_) (fun j hj => ?_) kk
  · unfold ui; split; exact hx; exact h
  · subst ez
    by_cases e : j = k
    · subst e; rw [if_pos rfl, ht, ui_s]
    · rw [if_neg e, ui_j (by omega)]
theorem r_putr {c k a index : Nat} {n kz : Int} {ref nm ds : String} (hT : T a = (c + 20, n)) (hc : COk c) (hk : k < (ctab c).2.2.1) (q : Cond.fieldLink M.1 index ref nm ds ∈ lw_all) (hn : ((ctab c).2.1 k).2.1 = nm ∧ ((ctab c).2.1 k).2.2.1 = ds) (hs : SF ref ((ctab c).2.1 k).1 nm ds) (ez : ((k : Nat) : Int) = kz) (hb0 : G.2.2.2.1 ≤ a) (hfin : ((ctab c).2.1 k).2.2.2 = false) {ty : FieldType} (hty : (ctab c).2.2.2 k = ty) {r : Option Nat} {v : Value} (hv : va_rf r = v) (ht : ∀ x y r, fvT ((ctab c).2.2.2 k) x y r = va_rf r) (hnf : narrow ty v = v ∧ fits ty v = true) (d : decode M.2.1 pc = .ok (.putfield index, 3)) (kk : PW G M R Z cu su I J (up P a kz r) T z (pc + 3) ls st) : PW G M R Z cu su I J P T z pc ls (v :: .ref a :: st) := by
  subst hv
  refine r_put_g hT hc hk q hn hs ez hb0 hfin hty hnf d (fun _ _ _ => rfl) (fun _ _ _ => rfl) (fun b j h => up_n h) (fun _ h => h) (fun _ h => h) (fun j hj => ?_) kk
  · subst ez
    by_cases e : j = k
    · subst e; rw [if_pos rfl, ht]; simp [up]
    · rw [if_neg e]
      have : up P a k r a j = P a j := by simp [up]; omega
      rw [this]
theorem r_putN_g {c k a index : Nat} {n kz : Int} {ref nm ds : String} (hT : T a = (c + 20, n)) (hc : COk c) (hk : k < (ctab c).2.2.1) {host : String} (q : Cond.fieldLinkNest M.1 index ref nm ds host ∈ lw_tbl) (hn : ((ctab c).2.1 k).2.1 = nm ∧ ((ctab c).2.1 k).2.2.1 = ds) (hs : SF ref ((ctab c).2.1 k).1 nm ds) (ez : ((k : Nat) : Int) = kz) (hb0 : G.2.2.2.1 ≤ a) (hfin : ((ctab c).2.1 k).2.2.2 = false) {ty : FieldType} {v : Value} (hty : (ctab c).2.2.2 k = ty) (hnf : narrow ty v = v ∧ fits ty v = true) (d : decode M.2.1 pc = .ok (.putfield index, 3)) {I' J' : HI} {P' : HP} (hI : ∀ b j, b ≠ a → I' b j = I b j) (hJ : ∀ b j, b ≠ a → J' b j = J b j) (hP : ∀ b j, b ≠ a → P' b j = P b j) (hrI : ∀ j, rg (I a j) → rg (I' a j)) (hrJ : ∀ j, rgj (J a j) → rgj (J' a j))
    (hv : ∀ j : Nat, j < (ctab c).2.2.1 → fvT ((ctab c).2.2.2 j) (I' a j) (J' a j) (P' a j) = if j = k then v else fvT ((ctab c).2.2.2 j) (I a j) (J a j) (P a j)) (kk : PW G M R Z cu su I' J' P' T z (pc + 3) ls st) : PW G M R Z cu su I J P T z pc ls (v :: .ref a :: st) := by
  intro p e s m args below meth c0 H locs la hC hR hS hL
  obtain ⟨rfl, rfl⟩ := hn
  subst ez
  obtain ⟨hm, cell, q1, q2, q3, q4⟩ := hR.2.2.2.2.2 a c n hT
  have hKc := hC.K.1 c hm
  obtain ⟨hSl, hfc, kC, hkC, hkind⟩ := hC.K.1 c hm
  have hap : ∀ x y, x < (ctab c).2.2.1 → y < (ctab c).2.2.1 → x ≠ y → G.2.1.2 c x ≠ G.2.1.2 c y := by
    intro x y hx hy hne
    obtain ⟨_, _, _, fa, hia, ea⟩ := hSl x hx
    obtain ⟨_, _, _, fb, hib, eb⟩ := hSl y hy
    rw [← ea, ← eb]
    have na := (State.fieldFound?_type hia (hc.2.1 x hx)).1
    have nb := (State.fieldFound?_type hib (hc.2.1 y hy)).1
    refine u_apart (u_lays hC.w hc.1 hx) (u_lays hC.w hc.1 hy) hia hib ?_
    rw [na, nb]
    exact hc.2.2 x hx y hy hne
  obtain ⟨cf, kf, fi, f, hi, hsl⟩ := hSl k hk
  have hd : parseFieldDescriptor ((ctab c).2.1 k).2.2.1 = some ty := by rw [hc.2.1 k hk, hty]
  have hlay := hC.w _ (hc.1 _ (u_in_lay hk))
  unfold u_lay at hlay
  rw [if_neg (by rw [hfin]; decide)] at hlay
  have hst := (u_facts hfc hkC (u_lays hC.w hc.1 hk) hi).1
  have h6 := u_store hfc hkC hkind hlay hi hd hnf.1 hnf.2
  refine va_WputK hC.x hC.b (f := f) hC.o (va_Nw.use rfl (hC.E.1 _ _ _ _ _ _ q)) (hs.same hC.w _ hi) hst (by rw [q2]; exact h6) q1 q3 (by rw [hsl]; exact k2_hasslot (q4 k hk)) rfl rfl d fun H' e1 e2 e3 => ?_
  rw [hsl] at e1 ⊢
  refine kk p e s m args below meth c0 H' _ la hC (hR.upd e2 e3 hI hJ hP (fun j => hrI j (hR.2.2.1 a j)) (fun j => hrJ j (hR.2.2.2.1 a j)) (fun t n' ht h0 h20 => ?_) (fun c' n' ht => ?_)) (hS.put e2 e3 hb0) hL
  · rw [hT] at ht
    have := congrArg Prod.fst ht
    simp at this
    omega
  · rw [hT] at ht
    have h9 : c = c' := by have := congrArg Prod.fst ht; simp at this; omega
    subst h9
    refine t_OB.to ⟨_, e1, q2, q3, t_set q4 hap hk v⟩ (fun j hj => ?_)
    rw [hv j hj]
    rfl
theorem r_putiN {c k a index : Nat} {n kz : Int} {ref nm ds : String} (hT : T a = (c + 20, n)) (hc : COk c) (hk : k < (ctab c).2.2.1) {host : String} (q : Cond.fieldLinkNest M.1 index ref nm ds host ∈ lw_tbl) (hn : ((ctab c).2.1 k).2.1 = nm ∧ ((ctab c).2.1 k).2.2.1 = ds) (hs : SF ref ((ctab c).2.1 k).1 nm ds) (ez : ((k : Nat) : Int) = kz) (hb0 : G.2.2.2.1 ≤ a) (hfin : ((ctab c).2.1 k).2.2.2 = false) {ty : FieldType} (hty : (ctab c).2.2.2 k = ty) {x : Int} (hx : rg x) (ht : ∀ x y r, fvT ((ctab c).2.2.2 k) x y r = iv x) (hnf : narrow ty (iv x) = iv x ∧ fits ty (iv x) = true) (d : decode M.2.1 pc = .ok (.putfield index, 3)) (kk : PW G M R Z cu su (ui I a kz x) J P T z (pc + 3) ls st) : PW G M R Z cu su I J P T z pc ls (iv x :: .ref a :: st) := by
  refine r_putN_g hT hc hk q hn hs ez hb0 hfin hty hnf d (fun b j h => ui_n h) (fun _ _ _ => rfl) (fun _ _ _ => rfl) (fun j h => ?_) (fun _ h => h) (fun j hj => ?_) kk
  · unfold ui; split; exact hx; exact h
  · subst ez
    by_cases e : j = k
    · subst e; rw [if_pos rfl, ht, ui_s]
    · rw [if_neg e, ui_j (by omega)]
theorem r_putjN {c k a index : Nat} {n kz : Int} {ref nm ds : String} (hT : T a = (c + 20, n)) (hc : COk c) (hk : k < (ctab c).2.2.1) {host : String} (q : Cond.fieldLinkNest M.1 index ref nm ds host ∈ lw_tbl) (hn : ((ctab c).2.1 k).2.1 = nm ∧ ((ctab c).2.1 k).2.2.1 = ds) (hs : SF ref ((ctab c).2.1 k).1 nm ds) (ez : ((k : Nat) : Int) = kz) (hb0 : G.2.2.2.1 ≤ a) (hfin : ((ctab c).2.1 k).2.2.2 = false) {ty : FieldType} (hty : (ctab c).2.2.2 k = ty) {x : Int} (hx : rgj x) (ht : ∀ x y r, fvT ((ctab c).2.2.2 k) x y r = jv y) (hnf : narrow ty (jv x) = jv x ∧ fits ty (jv x) = true) (d : decode M.2.1 pc = .ok (.putfield index, 3)) (kk : PW G M R Z cu su I (ui J a kz x) P T z (pc + 3) ls st) : PW G M R Z cu su I J P T z pc ls (jv x :: .ref a :: st) := by
  refine r_putN_g hT hc hk q hn hs ez hb0 hfin hty hnf d (fun _ _ _ => rfl) (fun b j h => ui_n h) (fun _ _ _ => rfl) (fun _ h => h) (fun j h => ?_) (fun j hj => ?_) kk
  · unfold ui; split; exact hx; exact h
  · subst ez
    by_cases e : j = k
    · subst e; rw [if_pos rfl, ht, ui_s]
    · rw [if_neg e, ui_j (by omega)]
theorem r_putrN {c k a index : Nat} {n kz : Int} {ref nm ds : String} (hT : T a = (c + 20, n)) (hc : COk c) (hk : k < (ctab c).2.2.1) {host : String} (q : Cond.fieldLinkNest M.1 index ref nm ds host ∈ lw_tbl) (hn : ((ctab c).2.1 k).2.1 = nm ∧ ((ctab c).2.1 k).2.2.1 = ds) (hs : SF ref ((ctab c).2.1 k).1 nm ds) (ez : ((k : Nat) : Int) = kz) (hb0 : G.2.2.2.1 ≤ a) (hfin : ((ctab c).2.1 k).2.2.2 = false) {ty : FieldType} (hty : (ctab c).2.2.2 k = ty) {r : Option Nat} {v : Value} (hv : va_rf r = v) (ht : ∀ x y r, fvT ((ctab c).2.2.2 k) x y r = va_rf r) (hnf : narrow ty v = v ∧ fits ty v = true) (d : decode M.2.1 pc = .ok (.putfield index, 3)) (kk : PW G M R Z cu su I J (up P a kz r) T z (pc + 3) ls st) : PW G M R Z cu su I J P T z pc ls (v :: .ref a :: st) := by
  subst hv
  refine r_putN_g hT hc hk q hn hs ez hb0 hfin hty hnf d (fun _ _ _ => rfl) (fun _ _ _ => rfl) (fun b j h => up_n h) (fun _ h => h) (fun _ h => h) (fun j hj => ?_) kk
  · subst ez
    by_cases e : j = k
    · subst e; rw [if_pos rfl, ht]; simp [up]
    · rw [if_neg e]
      have : up P a k r a j = P a j := by simp [up]; omega
      rw [this]
theorem r_putF_g {c k a index : Nat} {n kz : Int} {ref nm ds : String} (hT : T a = (c + 20, n)) (hc : COk c) (hk : k < (ctab c).2.2.1) (q : Cond.fieldLink M.1 index ref nm ds ∈ lw_all) (hn : ((ctab c).2.1 k).2.1 = nm ∧ ((ctab c).2.1 k).2.2.1 = ds) (hs : SF ref ((ctab c).2.1 k).1 nm ds) (ez : ((k : Nat) : Int) = kz) (hb0 : G.2.2.2.1 ≤ a) (hfin : ((ctab c).2.1 k).2.2.2 = true) (hin2 : M.2.2.2.2.2 = "<init>") (hdecl : ((ctab c).2.1 k).1 = M.1) {ty : FieldType} {v : Value} (hty : (ctab c).2.2.2 k = ty) (hnf : narrow ty v = v ∧ fits ty v = true) (d : decode M.2.1 pc = .ok (.putfield index, 3)) {I' J' : HI} {P' : HP} (hI : ∀ b j, b ≠ a → I' b j = I b j) (hJ : ∀ b j, b ≠ a → J' b j = J b j) (hP : ∀ b j, b ≠ a → P' b j = P b j) (hrI : ∀ j, rg (I a j) → rg (I' a j)) (hrJ : ∀ j, rgj (J a j) → rgj (J' a j))
    (hv : ∀ j : Nat, j < (ctab c).2.2.1 → fvT ((ctab c).2.2.2 j) (I' a j) (J' a j) (P' a j) = if j = k then v else fvT ((ctab c).2.2.2 j) (I a j) (J a j) (P a j)) (kk : PW G M R Z cu su I' J' P' T z (pc + 3) ls st) : PW G M R Z cu su I J P T z pc ls (v :: .ref a :: st) := by
  intro p e s m args below meth c0 H locs la hC hR hS hL
  obtain ⟨rfl, rfl⟩ := hn
  subst ez
  obtain ⟨hm, cell, q1, q2, q3, q4⟩ := hR.2.2.2.2.2 a c n hT
  have hKc := hC.K.1 c hm
  obtain ⟨hSl, hfc, kC, hkC, hkind⟩ := hC.K.1 c hm
  have hap : ∀ x y, x < (ctab c).2.2.1 → y < (ctab c).2.2.1 → x ≠ y → G.2.1.2 c x ≠ G.2.1.2 c y := by
    intro x y hx hy hne
    obtain ⟨_, _, _, fa, hia, ea⟩ := hSl x hx
    obtain ⟨_, _, _, fb, hib, eb⟩ := hSl y hy
    rw [← ea, ← eb]
    have na := (State.fieldFound?_type hia (hc.2.1 x hx)).1
    have nb := (State.fieldFound?_type hib (hc.2.1 y hy)).1
    refine u_apart (u_lays hC.w hc.1 hx) (u_lays hC.w hc.1 hy) hia hib ?_
    rw [na, nb]
    exact hc.2.2 x hx y hy hne
  obtain ⟨cf, kf, fi, f, hi, hsl⟩ := hSl k hk
  have hd : parseFieldDescriptor ((ctab c).2.1 k).2.2.1 = some ty := by rw [hc.2.1 k hk, hty]
  have hlay := hC.w _ (hc.1 _ (u_in_lay hk))
  unfold u_lay at hlay
  rw [if_pos hfin] at hlay
  have hst := (u_facts hfc hkC (u_lays hC.w hc.1 hk) hi).1
  have hcf : m.cls = cf := by
    obtain ⟨_, _, c', _, _, _, -, -, hf', -, -, -, hown2, -⟩ := Cond.laysFinal_spec hlay
    have e1 : c' = cf := by have := hi.symm.trans hf'; simp at this; exact this.1.symm
    rw [hdecl] at hown2
    rw [← e1]; exact Option.some.inj (hC.o.symm.trans hown2)
  have h6 := u_fits hfc hkC hkind (Or.inr hlay) hi hd hnf.1 hnf.2
  refine W.putFinK hC.x hC.b hC.o (hC.w _ q) (hs.same hC.w _ hi) hst hcf (hC.n.trans hin2) (by rw [q2]; exact h6) q1 q3 (by rw [hsl]; exact k2_hasslot (q4 k hk)) rfl rfl d fun H' e1 e2 e3 => ?_
  rw [hsl] at e1 ⊢
  refine kk p e s m args below meth c0 H' _ la hC (hR.upd e2 e3 hI hJ hP (fun j => hrI j (hR.2.2.1 a j)) (fun j => hrJ j (hR.2.2.2.1 a j)) (fun t n' ht h0 h20 => ?_) (fun c' n' ht => ?_)) (hS.put e2 e3 hb0) hL
  · rw [hT] at ht
    have := congrArg Prod.fst ht
    simp at this
    omega
  · rw [hT] at ht
    have h9 : c = c' := by have := congrArg Prod.fst ht; simp at this; omega
    subst h9
    refine t_OB.to ⟨_, e1, q2, q3, t_set q4 hap hk v⟩ (fun j hj => ?_)
    rw [hv j hj]
    rfl
theorem r_putiF {c k a index : Nat} {n kz : Int} {ref nm ds : String} (hT : T a = (c + 20, n)) (hc : COk c) (hk : k < (ctab c).2.2.1) (q : Cond.fieldLink M.1 index ref nm ds ∈ lw_all) (hn : ((ctab c).2.1 k).2.1 = nm ∧ ((ctab c).2.1 k).2.2.1 = ds) (hs : SF ref ((ctab c).2.1 k).1 nm ds) (ez : ((k : Nat) : Int) = kz) (hb0 : G.2.2.2.1 ≤ a) (hfin : ((ctab c).2.1 k).2.2.2 = true) (hin2 : M.2.2.2.2.2 = "<init>") (hdecl : ((ctab c).2.1 k).1 = M.1) {ty : FieldType} (hty : (ctab c).2.2.2 k = ty) {x : Int} (hx : rg x) (ht : ∀ x y r, fvT ((ctab c).2.2.2 k) x y r = iv x) (hnf : narrow ty (iv x) = iv x ∧ fits ty (iv x) = true) (d : decode M.2.1 pc = .ok (.putfield index, 3)) (kk : PW G M R Z cu su (ui I a kz x) J P T z (pc + 3) ls st) : PW G M R Z cu su I J P T z pc ls (iv x :: .ref a :: st) := by
  refine r_putF_g hT hc hk q hn hs ez hb0 hfin hin2 hdecl hty hnf d (fun b j h => ui_n h) (fun _ _ _ => rfl) (fun _ _ _ => rfl) (fun j h => ?_) (fun _ h => h) (fun j hj => ?_) kk
  · unfold ui; split; exact hx; exact h
  · subst ez
    by_cases e : j = k
    · subst e; rw [if_pos rfl, ht, ui_s]
    · rw [if_neg e, ui_j (by omega)]
theorem r_putjF {c k a index : Nat} {n kz : Int} {ref nm ds : String} (hT : T a = (c + 20, n)) (hc : COk c) (hk : k < (ctab c).2.2.1) (q : Cond.fieldLink M.1 index ref nm ds ∈ lw_all) (hn : ((ctab c).2.1 k).2.1 = nm ∧ ((ctab c).2.1 k).2.2.1 = ds) (hs : SF ref ((ctab c).2.1 k).1 nm ds) (ez : ((k : Nat) : Int) = kz) (hb0 : G.2.2.2.1 ≤ a) (hfin : ((ctab c).2.1 k).2.2.2 = true) (hin2 : M.2.2.2.2.2 = "<init>") (hdecl : ((ctab c).2.1 k).1 = M.1) {ty : FieldType} (hty : (ctab c).2.2.2 k = ty) {x : Int} (hx : rgj x) (ht : ∀ x y r, fvT ((ctab c).2.2.2 k) x y r = jv y) (hnf : narrow ty (jv x) = jv x ∧ fits ty (jv x) = true) (d : decode M.2.1 pc = .ok (.putfield index, 3)) (kk : PW G M R Z cu su I (ui J a kz x) P T z (pc + 3) ls st) : PW G M R Z cu su I J P T z pc ls (jv x :: .ref a :: st) := by
  refine r_putF_g hT hc hk q hn hs ez hb0 hfin hin2 hdecl hty hnf d (fun _ _ _ => rfl) (fun b j h => ui_n h) (fun _ _ _ => rfl) (fun _ h => h) (fun j h => ?_) (fun j hj => ?_) kk
  · unfold ui; split; exact hx; exact h
  · subst ez
    by_cases e : j = k
    · subst e; rw [if_pos rfl, ht, ui_s]
    · rw [if_neg e, ui_j (by omega)]
theorem r_putrF {c k a index : Nat} {n kz : Int} {ref nm ds : String} (hT : T a = (c + 20, n)) (hc : COk c) (hk : k < (ctab c).2.2.1) (q : Cond.fieldLink M.1 index ref nm ds ∈ lw_all) (hn : ((ctab c).2.1 k).2.1 = nm ∧ ((ctab c).2.1 k).2.2.1 = ds) (hs : SF ref ((ctab c).2.1 k).1 nm ds) (ez : ((k : Nat) : Int) = kz) (hb0 : G.2.2.2.1 ≤ a) (hfin : ((ctab c).2.1 k).2.2.2 = true) (hin2 : M.2.2.2.2.2 = "<init>") (hdecl : ((ctab c).2.1 k).1 = M.1) {ty : FieldType} (hty : (ctab c).2.2.2 k = ty) {r : Option Nat} {v : Value} (hv : va_rf r = v) (ht : ∀ x y r, fvT ((ctab c).2.2.2 k) x y r = va_rf r) (hnf : narrow ty v = v ∧ fits ty v = true) (d : decode M.2.1 pc = .ok (.putfield index, 3)) (kk : PW G M R Z cu su I J (up P a kz r) T z (pc + 3) ls st) : PW G M R Z cu su I J P T z pc ls (v :: .ref a :: st) := by
  subst hv
  refine r_putF_g hT hc hk q hn hs ez hb0 hfin hin2 hdecl hty hnf d (fun _ _ _ => rfl) (fun _ _ _ => rfl) (fun b j h => up_n h) (fun _ h => h) (fun _ h => h) (fun j hj => ?_) kk
  · subst ez
    by_cases e : j = k
    · subst e; rw [if_pos rfl, ht]; simp [up]
    · rw [if_neg e]
      have : up P a k r a j = P a j := by simp [up]; omega
      rw [this]
theorem arr_of {n j : Int} {t : Nat} {a : Nat} {H : Heap} (hR : Rep G I J P T z H) (hT : T a = (t, n)) (h0 : 0 < t) (h20 : t < 20) (hj : 0 ≤ j) (hj2 : j < n) :
    H[a]? = some (arrV (G.2.2.1 t) n.toNat (fun j => fvT (aty t) (I a j) (J a j) (P a j))) ∧ ¬ (Int32.ofInt j < 0 ∨ (arrV (G.2.2.1 t) n.toNat (fun j => fvT (aty t) (I a j) (J a j) (P a j))).slots.size ≤ (Int32.ofInt j).toNatClampNeg) ∧
    (arrV (G.2.2.1 t) n.toNat (fun j => fvT (aty t) (I a j) (J a j) (P a j))).slots[(Int32.ofInt j).toNatClampNeg]? = some (fvT (aty t) (I a j) (J a j) (P a j)) := by
  obtain ⟨h1, h2, h3⟩ := hR.2.2.2.2.1 a t n hT h0 h20
  refine ⟨h3, ?_, ?_⟩
  · rw [arrV_size]; exact i_in hj hj2 h2
  · rw [i_n (by omega), arrV_read _ _ (by omega), i_cast hj]
theorem r_iald {a : Nat} {n j : Int} (hT : T a = (1, n)) (h0 : 0 ≤ j) (h1 : j < n) (d : decode M.2.1 pc = .ok (.iaload, 1)) (kk : rg (I a j) → PW G M R Z cu su I J P T z (pc + 1) ls (iv (I a j) :: st)) : PW G M R Z cu su I J P T z pc ls (iv j :: .ref a :: st) := by
  intro p e s m args below meth c0 H locs la hC hR hS hL
  obtain ⟨e1, e2, e3⟩ := arr_of hR hT (by decide) (by decide) h0 h1
  exact W.iald (v := iv (I a j)) hC.x hC.b e1 ((hC.K.2 1 (by decide) (by decide)).1 n.toNat _) (fun q => by cases q) e2 e3 rfl rfl d (kk (hR.2.2.1 a j) p e s m args below meth c0 H locs la hC hR hS hL)
theorem r_bald {a : Nat} {n j : Int} (hT : T a = (2, n)) (h0 : 0 ≤ j) (h1 : j < n) (d : decode M.2.1 pc = .ok (.baload, 1)) (kk : rg (I a j) → PW G M R Z cu su I J P T z (pc + 1) ls (iv (I a j) :: st)) : PW G M R Z cu su I J P T z pc ls (iv j :: .ref a :: st) := by
  intro p e s m args below meth c0 H locs la hC hR hS hL
  obtain ⟨e1, e2, e3⟩ := arr_of hR hT (by decide) (by decide) h0 h1
  exact W.bald (v := iv (I a j)) hC.x hC.b e1 ((hC.K.2 2 (by decide) (by decide)).1 n.toNat _) (fun q => by cases q) e2 e3 rfl rfl d (kk (hR.2.2.1 a j) p e s m args below meth c0 H locs la hC hR hS hL)
theorem r_zald {a : Nat} {n j : Int} (hT : T a = (4, n)) (h0 : 0 ≤ j) (h1 : j < n) (d : decode M.2.1 pc = .ok (.baload, 1)) (kk : rg (I a j) → PW G M R Z cu su I J P T z (pc + 1) ls (iv (I a j) :: st)) : PW G M R Z cu su I J P T z pc ls (iv j :: .ref a :: st) := by
  intro p e s m args below meth c0 H locs la hC hR hS hL
  obtain ⟨e1, e2, e3⟩ := arr_of hR hT (by decide) (by decide) h0 h1
  exact W.zald (v := iv (I a j)) hC.x hC.b e1 ((hC.K.2 4 (by decide) (by decide)).1 n.toNat _) (fun q => by cases q) e2 e3 rfl rfl d (kk (hR.2.2.1 a j) p e s m args below meth c0 H locs la hC hR hS hL)
theorem r_lald {a : Nat} {n j : Int} (hT : T a = (3, n)) (h0 : 0 ≤ j) (h1 : j < n) (d : decode M.2.1 pc = .ok (.laload, 1)) (kk : rgj (J a j) → PW G M R Z cu su I J P T z (pc + 1) ls (jv (J a j) :: st)) : PW G M R Z cu su I J P T z pc ls (iv j :: .ref a :: st) := by
  intro p e s m args below meth c0 H locs la hC hR hS hL
  obtain ⟨e1, e2, e3⟩ := arr_of hR hT (by decide) (by decide) h0 h1
  exact W.lald (v := jv (J a j)) hC.x hC.b e1 ((hC.K.2 3 (by decide) (by decide)).1 n.toNat _) (fun q => by cases q) e2 e3 rfl rfl d (kk (hR.2.2.2.1 a j) p e s m args below meth c0 H locs la hC hR hS hL)
theorem r_aald {a t b : Nat} {n j : Int} (hT : T a = (t, n)) (ht : 0 < t ∧ t < 10) (hr : (aty t).isReference = true) (hf : ∀ x y r, fvT (aty t) x y r = va_rf r) (h0 : 0 ≤ j) (h1 : j < n) (hp : P a j = some b) (d : decode M.2.1 pc = .ok (.aaload, 1)) (kk : PW G M R Z cu su I J P T z (pc + 1) ls (.ref b :: st)) : PW G M R Z cu su I J P T z pc ls (iv j :: .ref a :: st) := by
  intro p e s m args below meth c0 H locs la hC hR hS hL
  obtain ⟨e1, e2, e3⟩ := arr_of hR hT ht.1 (by omega) h0 h1
  rw [hf, hp] at e3
  exact W.aald (v := .ref b) hC.x hC.b e1 ((hC.K.2 t ht.1 ht.2).1 n.toNat _) hr (fun q => by cases q) e2 e3 rfl rfl d (kk p e s m args below meth c0 H locs la hC hR hS hL)
theorem r_alen {a t : Nat} {n : Int} (hT : T a = (t, n)) (ht : 0 < t ∧ t < 10) (d : decode M.2.1 pc = .ok (.arraylength, 1)) (kk : 0 ≤ n → n < 2147483648 → PW G M R Z cu su I J P T z (pc + 1) ls (iv n :: st)) : PW G M R Z cu su I J P T z pc ls (.ref a :: st) := by
  intro p e s m args below meth c0 H locs la hC hR hS hL
  obtain ⟨h1, h2, h3⟩ := hR.2.2.2.2.1 a t n hT ht.1 (by omega)
  refine W.alen (n := Int32.ofInt n) hC.x hC.b h3 ((hC.K.2 t ht.1 ht.2).1 n.toNat _) ?_ rfl rfl d (kk h1 h2 p e s m args below meth c0 H locs la hC hR hS hL)
  rw [arrV_size, ← Int32.toInt_inj, i_t (by omega)]
  show (Int32.ofNat n.toNat).toInt = n
  rw [← Int32.ofInt_eq_ofNat, i_cast h1, i_t (by omega)]
theorem arr_put {n j : Int} {t : Nat} {a : Nat} {H H' : Heap} {v : Value} {I' J' : HI} {P' : HP} (hR : Rep G I J P T z H) (hT : T a = (t, n)) (h0 : 0 < t) (h20 : t < 20) (hj : 0 ≤ j) (hj2 : j < n)
    (e1 : H'[a]? = some ((arrV (G.2.2.1 t) n.toNat (fun j => fvT (aty t) (I a j) (J a j) (P a j))).setSlot (Int32.ofInt j).toNatClampNeg v)) (e2 : H'.size = H.size) (e3 : ∀ q, q ≠ a → H'[q]? = H[q]?)
    (hI : ∀ b j, b ≠ a → I' b j = I b j) (hJ : ∀ b j, b ≠ a → J' b j = J b j) (hP : ∀ b j, b ≠ a → P' b j = P b j) (hrI : ∀ j, rg (I a j) → rg (I' a j)) (hrJ : ∀ j, rgj (J a j) → rgj (J' a j))
    (hv : ∀ i : Int, fvT (aty t) (I' a i) (J' a i) (P' a i) = if i = j then v else fvT (aty t) (I a i) (J a i) (P a i)) : Rep G I' J' P' T z H' := by
  obtain ⟨h1, h2, h3⟩ := hR.2.2.2.2.1 a t n hT h0 h20
  refine hR.upd e2 e3 hI hJ hP (fun j => hrI j (hR.2.2.1 a j)) (fun j => hrJ j (hR.2.2.2.1 a j)) (fun t' n' ht _ _ => ?_) (fun c' n' ht => ?_)
  · rw [hT] at ht
    obtain ⟨rfl, rfl⟩ := Prod.mk.inj ht
    rw [e1, arrV_store, i_n (by omega)]
    congr 2
    funext i
    rw [hv i]
    unfold updV
    by_cases e : i = j.toNat
    · rw [if_pos e, if_pos (by omega)]
    · rw [if_neg e, if_neg (by omega)]
  · rw [hT] at ht
    have := congrArg Prod.fst ht
    simp at this
    omega
theorem r_iast {a : Nat} {n j x : Int} (hT : T a = (1, n)) (hb0 : G.2.2.2.1 ≤ a) (h0 : 0 ≤ j) (h1 : j < n) (hx : rg x) (d : decode M.2.1 pc = .ok (.iastore, 1)) (kk : PW G M R Z cu su (ui I a j x) J P T z (pc + 1) ls st) : PW G M R Z cu su I J P T z pc ls (iv x :: iv j :: .ref a :: st) := by
  intro p e s m args below meth c0 H locs la hC hR hS hL
  obtain ⟨e1, e2, e3⟩ := arr_of hR hT (by decide) (by decide) h0 h1
  refine W.iast hC.x hC.b e1 ((hC.K.2 1 (by decide) (by decide)).1 n.toNat _) (fun q => by cases q) e2 rfl rfl d fun H' e1 f2 f3 => ?_
  have hR' : Rep G (ui I a j x) J P T z H' := by
    exact arr_put (v := iv x) hR hT (by decide) (by decide) h0 h1 e1 f2 f3 (fun b j h => ui_n h) (fun _ _ _ => rfl) (fun _ _ _ => rfl) (fun j' h => by unfold ui; split; exact hx; exact h) (fun _ h => h) (fun i => by by_cases e : i = j; (subst e; rw [if_pos rfl, ui_s]; rfl); (rw [if_neg e, ui_j e]))
  exact kk p e s m args below meth c0 H' _ la hC hR' (hS.put f2 f3 hb0) hL
theorem nb_b {x : Int} (h : -128 ≤ x ∧ x < 128) : narrow .byte (.int (Int32.ofInt x)) = iv x := by
  obtain ⟨n, hn⟩ : ∃ n : Fin 256, x = (n.val : Int) - 128 := ⟨⟨(x + 128).toNat, by omega⟩, by simp; omega⟩
  subst hn
  revert n
  decide +kernel
theorem nb_z {x : Int} (h : x = 0 ∨ x = 1) : narrow .boolean (.int (Int32.ofInt x)) = iv x := by
  rcases h with rfl | rfl <;> decide +kernel
theorem r_bast {a : Nat} {n j x : Int} (hT : T a = (2, n)) (hb0 : G.2.2.2.1 ≤ a) (h0 : 0 ≤ j) (h1 : j < n) (hx : -128 ≤ x ∧ x < 128) (d : decode M.2.1 pc = .ok (.bastore, 1)) (kk : PW G M R Z cu su (ui I a j x) J P T z (pc + 1) ls st) : PW G M R Z cu su I J P T z pc ls (iv x :: iv j :: .ref a :: st) := by
  intro p e s m args below meth c0 H locs la hC hR hS hL
  obtain ⟨e1, e2, e3⟩ := arr_of hR hT (by decide) (by decide) h0 h1
  refine W.bast hC.x hC.b e1 ((hC.K.2 2 (by decide) (by decide)).1 n.toNat _) (fun q => by cases q) e2 rfl rfl d fun H' e1 f2 f3 => ?_
  have hR' : Rep G (ui I a j x) J P T z H' := by
    rw [show narrow .byte (.int (Int32.ofInt x)) = iv x from nb_b hx] at e1
    exact arr_put (v := iv x) hR hT (by decide) (by decide) h0 h1 e1 f2 f3 (fun b j h => ui_n h) (fun _ _ _ => rfl) (fun _ _ _ => rfl) (fun j' h => by unfold ui; split; exact (by omega); exact h) (fun _ h => h) (fun i => by by_cases e : i = j; (subst e; rw [if_pos rfl, ui_s]; rfl); (rw [if_neg e, ui_j e]))
  exact kk p e s m args below meth c0 H' _ la hC hR' (hS.put f2 f3 hb0) hL
theorem r_zast {a : Nat} {n j x : Int} (hT : T a = (4, n)) (hb0 : G.2.2.2.1 ≤ a) (h0 : 0 ≤ j) (h1 : j < n) (hx : x = 0 ∨ x = 1) (d : decode M.2.1 pc = .ok (.bastore, 1)) (kk : PW G M R Z cu su (ui I a j x) J P T z (pc + 1) ls st) : PW G M R Z cu su I J P T z pc ls (iv x :: iv j :: .ref a :: st) := by
  intro p e s m args below meth c0 H locs la hC hR hS hL
  obtain ⟨e1, e2, e3⟩ := arr_of hR hT (by decide) (by decide) h0 h1
  refine W.zast hC.x hC.b e1 ((hC.K.2 4 (by decide) (by decide)).1 n.toNat _) (fun q => by cases q) e2 rfl rfl d fun H' e1 f2 f3 => ?_
  have hR' : Rep G (ui I a j x) J P T z H' := by
    rw [show narrow .boolean (.int (Int32.ofInt x)) = iv x from nb_z hx] at e1
    exact arr_put (v := iv x) hR hT (by decide) (by decide) h0 h1 e1 f2 f3 (fun b j h => ui_n h) (fun _ _ _ => rfl) (fun _ _ _ => rfl) (fun j' h => by unfold ui; split; exact (by omega); exact h) (fun _ h => h) (fun i => by by_cases e : i = j; (subst e; rw [if_pos rfl, ui_s]; rfl); (rw [if_neg e, ui_j e]))
  exact kk p e s m args below meth c0 H' _ la hC hR' (hS.put f2 f3 hb0) hL
theorem r_last {a : Nat} {n j x : Int} (hT : T a = (3, n)) (hb0 : G.2.2.2.1 ≤ a) (h0 : 0 ≤ j) (h1 : j < n) (hx : rgj x) (d : decode M.2.1 pc = .ok (.lastore, 1)) (kk : PW G M R Z cu su I (ui J a j x) P T z (pc + 1) ls st) : PW G M R Z cu su I J P T z pc ls (jv x :: iv j :: .ref a :: st) := by
  intro p e s m args below meth c0 H locs la hC hR hS hL
  obtain ⟨e1, e2, e3⟩ := arr_of hR hT (by decide) (by decide) h0 h1
  refine W.last hC.x hC.b e1 ((hC.K.2 3 (by decide) (by decide)).1 n.toNat _) (fun q => by cases q) e2 rfl rfl d fun H' e1 f2 f3 => ?_
  have hR' : Rep G I (ui J a j x) P T z H' := by
    exact arr_put (v := jv x) hR hT (by decide) (by decide) h0 h1 e1 f2 f3 (fun _ _ _ => rfl) (fun b j h => ui_n h) (fun _ _ _ => rfl) (fun _ h => h) (fun j' h => by unfold ui; split; exact hx; exact h) (fun i => by by_cases e : i = j; (subst e; rw [if_pos rfl, ui_s]; rfl); (rw [if_neg e, ui_j e]))
  exact kk p e s m args below meth c0 H' _ la hC hR' (hS.put f2 f3 hb0) hL
theorem r_aast {a t v cv : Nat} {n j nv : Int} {C : String} (hT : T a = (t, n)) (ht : 0 < t ∧ t < 10) (hty : aty t = .object C) (hb0 : G.2.2.2.1 ≤ a) (h0 : 0 ≤ j) (h1 : j < n) (hv : T v = (cv + 20, nv)) (hca : (ctab cv).1 = C ∨ Cond.castable (ctab cv).1 C ∈ lw_tbl) (d : decode M.2.1 pc = .ok (.aastore, 1)) (kk : PW G M R Z cu su I J (up P a j (some v)) T z (pc + 1) ls st) : PW G M R Z cu su I J P T z pc ls (.ref v :: iv j :: .ref a :: st) := by
  intro p e s m args below meth c0 H locs la hC hR hS hL
  obtain ⟨e1, e2, e3⟩ := arr_of hR hT ht.1 (by omega) h0 h1
  have hRA := (hC.K.2 t ht.1 ht.2).2
  rw [hty] at hRA
  obtain ⟨kA, comp, k1, k2, k3, -⟩ := hRA
  obtain ⟨hm, cellV, g1, g2, g3, -⟩ := hR.2.2.2.2.2 v cv nv hv
  have hcls := (hC.K.1 cv hm).2
  obtain ⟨kC, hkC, -⟩ := hcls.2
  obtain ⟨kcomp, hkcomp, -⟩ := Vm.findClass_spec k3
  have hasg : s.vm.assignable cellV.cls comp = true := by
    rw [g2]
    rcases hca with rfl | hca
    · have : comp = G.2.1.1 cv := Option.some.inj (k3.symm.trans hcls.1)
      rw [this]; exact va_assign hcls
    · obtain ⟨c3, c4, hc3, hc4, hasg⟩ := Cond.castable_spec (va_Nw.use (A := args) rfl (hC.E.2.2.2.1 _ _ hca))
      cases Option.some.inj (hc3.symm.trans hcls.1)
      cases Option.some.inj (hc4.symm.trans k3)
      exact hasg
  refine W.aast hC.x hC.b e1 (fun q h => by cases h) (fun h => by cases h) k1 k2 rfl hkcomp ⟨fun q => e2 (Or.inl q), Nat.not_le.mp fun q => e2 (Or.inr q)⟩ g1 (fun q h => by rw [g3] at h; cases h) (by rw [g2]; exact hkC) hasg rfl rfl d fun H' e1 f2 f3 => ?_
  refine kk p e s m args below meth c0 H' _ la hC (arr_put (v := .ref v) hR hT ht.1 (by omega) h0 h1 e1 f2 f3 (fun _ _ _ => rfl) (fun _ _ _ => rfl) (fun b j h => up_n h) (fun _ h => h) (fun _ h => h) (fun i => ?_)) (hS.put f2 f3 hb0) hL
  rw [hty]
  by_cases e : i = j
  · subst e; rw [if_pos rfl]; simp [fvT, up, va_rf]
  · rw [if_neg e]; simp [fvT, up, e]
end R3
