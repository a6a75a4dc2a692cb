/-! ===== one row of ints kept apart ===== -/
def us (f : Int → Int) (j v : Int) : Int → Int := fun i => if i = j then v else f i
theorem us_s {f : Int → Int} {j v : Int} : us f j v j = v := by simp [us]
theorem us_n {f : Int → Int} {j i v : Int} (h : i ≠ j) : us f j v i = f i := by simp [us, h]
theorem us_e {f : Int → Int} {j i v : Int} (h : i = j) : us f j v i = v := by simp [us, h]
theorem us_id {f : Int → Int} {j v : Int} (h : v = f j) : us f j v = f := by
  funext i
  unfold us
  split
  · rename_i e; rw [e, h]
  · rfl
theorem us_us {f : Int → Int} {j v w : Int} : us (us f j v) j w = us f j w := by
  funext i; simp only [us]; split <;> rfl
theorem us_comm {f : Int → Int} {j k v w : Int} (h : j ≠ k) : us (us f j v) k w = us (us f k w) j v := by
  funext i; simp only [us]
  by_cases e : i = k
  · subst e; simp [Ne.symm h]
  · simp [e]
theorem ur_s {I : HI} {a : Nat} {f : Int → Int} : ur I a f a = f := by funext i; simp [ur]
theorem ur_n {I : HI} {a b : Nat} {f : Int → Int} (h : b ≠ a) : ur I a f b = I b := by funext i; simp [ur, h]
theorem ur_id {I : HI} {a : Nat} : ur I a (I a) = I := by
  funext b i
  unfold ur
  split
  · rename_i e; rw [e]
  · rfl
theorem ur_ur {I : HI} {a : Nat} {f g : Int → Int} : ur (ur I a f) a g = ur I a g := by
  funext b i; simp only [ur]; split <;> rfl
theorem ui_ur {I : HI} {a : Nat} {f : Int → Int} {j v : Int} : ui (ur I a f) a j v = ur I a (us f j v) := by
  funext b i
  simp only [ui, ur, us]
  by_cases e : b = a
  · subst e; simp
  · simp [e]
theorem ui_ur_n {I : HI} {a b : Nat} {f : Int → Int} {j v : Int} (h : b ≠ a) : ui (ur I a f) b j v = ur (ui I b j v) a f := by
  funext c i
  simp only [ui, ur]
  by_cases e : c = a
  · subst e; simp [Ne.symm h]
  · simp [e]
theorem ur_comm {I : HI} {a b : Nat} {f g : Int → Int} (h : a ≠ b) : ur (ur I a f) b g = ur (ur I b g) a f := by
  funext c i
  simp only [ur]
  by_cases e : c = a
  · subst e; simp [h]
  · simp [e]
/-- an int as it wraps -/
def wr (x : Int) : Int := (x + 2147483648) % 4294967296 - 2147483648
theorem wr_r {x : Int} : rg (wr x) := by unfold wr; omega
theorem wr_id {x : Int} (h : rg x) : wr x = x := by unfold wr; omega
theorem iv_wr {x : Int} : iv (wr x) = iv x := by
  unfold iv
  congr 1
  rw [← Int32.toInt_inj, i_t wr_r, Int32.toInt_ofInt]
  unfold wr
  simp only [Int.bmod, Int32.size]
  split <;> omega
section D2
variable {G : GE} {M : MI} {R : Room} {Z : ZP} {cu su : Nat} {I J : HI} {P : HP} {T : HT} {z pc : Nat} {ls : List (Option Value)} {st : List Value} {a : Nat} {f : Int → Int}
theorem r_ialdU {n j : Int} (hT : T a = (1, n)) (h0 : 0 ≤ j) (h1 : j < n) (d : decode M.2.1 pc = .ok (.iaload, 1)) (kk : rg (f j) → PW G M R Z cu su (ur I a f) J P T z (pc + 1) ls (iv (f j) :: st)) : PW G M R Z cu su (ur I a f) J P T z pc ls (iv j :: .ref a :: st) := by
  refine r_iald hT h0 h1 d ?_
  rw [ur_s]
  exact kk
theorem r_iastU {n j x : Int} (hT : T a = (1, n)) (hb0 : G.2.2.2.1 ≤ a) (h0 : 0 ≤ j) (h1 : j < n) (hx : rg x) (d : decode M.2.1 pc = .ok (.iastore, 1)) (kk : PW G M R Z cu su (ur I a (us f j x)) J P T z (pc + 1) ls st) : PW G M R Z cu su (ur I a f) J P T z pc ls (iv x :: iv j :: .ref a :: st) := by
  refine r_iast hT hb0 h0 h1 hx d ?_
  rw [ui_ur]
  exact kk
theorem r_ialdV {b : Nat} {n j : Int} (hT : T b = (1, n)) (hab : b ≠ a) (h0 : 0 ≤ j) (h1 : j < n) (d : decode M.2.1 pc = .ok (.iaload, 1)) (kk : rg (I b j) → PW G M R Z cu su (ur I a f) J P T z (pc + 1) ls (iv (I b j) :: st)) : PW G M R Z cu su (ur I a f) J P T z pc ls (iv j :: .ref b :: st) := by
  refine r_iald hT h0 h1 d ?_
  rw [ur_n hab]
  exact kk
theorem r_iastV {b : Nat} {n j x : Int} (hT : T b = (1, n)) (hab : b ≠ a) (hb0 : G.2.2.2.1 ≤ b) (h0 : 0 ≤ j) (h1 : j < n) (hx : rg x) (d : decode M.2.1 pc = .ok (.iastore, 1)) (kk : PW G M R Z cu su (ur (ui I b j x) a f) J P T z (pc + 1) ls st) : PW G M R Z cu su (ur I a f) J P T z pc ls (iv x :: iv j :: .ref b :: st) := by
  refine r_iast hT hb0 h0 h1 hx d ?_
  rw [ui_ur_n hab]
  exact kk
theorem pw_ur (k : PW G M R Z cu su (ur I a (I a)) J P T z pc ls st) : PW G M R Z cu su I J P T z pc ls st := by rw [ur_id] at k; exact k
/-- what lies in the heap is in range -/
theorem r_rg (k : (∀ b j, rg (I b j)) → PW G M R Z cu su I J P T z pc ls st) : PW G M R Z cu su I J P T z pc ls st := by
  intro p e s m args below meth c0 H locs la hC hR hS hL
  exact k hR.2.2.1 p e s m args below meth c0 H locs la hC hR hS hL
theorem r_rgU (k : (∀ j, rg (f j)) → PW G M R Z cu su (ur I a f) J P T z pc ls st) : PW G M R Z cu su (ur I a f) J P T z pc ls st := r_rg fun h => k fun j => by
  have := h a j
  rw [ur_s] at this
  exact this
theorem r_getiU {c k b index : Nat} {n kz : Int} {ref nm ds : String} (hT : T b = (c + 20, n)) (hc : COk c) (hk : k < (ctab c).2.2.1) (q : Cond.fieldLink M.1 index ref nm ds ∈ lw_all) (hn : ((ctab c).2.1 k).2.1 = nm ∧ ((ctab c).2.1 k).2.2.1 = ds) (hs : SF ref ((ctab c).2.1 k).1 nm ds) (ez : ((k : Nat) : Int) = kz) (hab : b ≠ a) (ht : ∀ x y r, fvT ((ctab c).2.2.2 k) x y r = iv x) (d : decode M.2.1 pc = .ok (.getfield index, 3)) (kk : rg (I b kz) → PW G M R Z cu su (ur I a f) J P T z (pc + 3) ls (iv (I b kz) :: st)) : PW G M R Z cu su (ur I a f) J P T z pc ls (.ref b :: st) := by
  refine r_geti hT hc hk q hn hs ez ht d ?_
  rw [ur_n hab]
  exact kk
theorem r_putiU {c k b index : Nat} {n kz : Int} {ref nm ds : String} (hT : T b = (c + 20, n)) (hc : COk c) (hk : k < (ctab c).2.2.1) (q : Cond.fieldLink M.1 index ref nm ds ∈ lw_all) (hn : ((ctab c).2.1 k).2.1 = nm ∧ ((ctab c).2.1 k).2.2.1 = ds) (hs : SF ref ((ctab c).2.1 k).1 nm ds) (ez : ((k : Nat) : Int) = kz) (hab : b ≠ a) (hb0 : G.2.2.2.1 ≤ b) (hfin : ((ctab c).2.1 k).2.2.2 = false) {ty : FieldType} (hty : (ctab c).2.2.2 k = ty) {x : Int} (hx : rg x) (ht : ∀ x y r, fvT ((ctab c).2.2.2 k) x y r = iv x) (hnf : narrow ty (iv x) = iv x ∧ fits ty (iv x) = true) (d : decode M.2.1 pc = .ok (.putfield index, 3)) (kk : PW G M R Z cu su (ur (ui I b kz x) a f) J P T z (pc + 3) ls st) : PW G M R Z cu su (ur I a f) J P T z pc ls (iv x :: .ref b :: st) := by
  refine r_puti hT hc hk q hn hs ez hb0 hfin hty hx ht hnf d ?_
  rw [ui_ur_n hab]
  exact kk
/-- stored as it wraps -/
theorem r_iastUW {n j x : Int} (hT : T a = (1, n)) (hb0 : G.2.2.2.1 ≤ a) (h0 : 0 ≤ j) (h1 : j < n) (d : decode M.2.1 pc = .ok (.iastore, 1)) (kk : PW G M R Z cu su (ur I a (us f j (wr x))) J P T z (pc + 1) ls st) : PW G M R Z cu su (ur I a f) J P T z pc ls (iv x :: iv j :: .ref a :: st) := by
  rw [← iv_wr]
  exact r_iastU hT hb0 h0 h1 wr_r d kk
theorem r_iastW {b : Nat} {n j x : Int} (hT : T b = (1, n)) (hb0 : G.2.2.2.1 ≤ b) (h0 : 0 ≤ j) (h1 : j < n) (d : decode M.2.1 pc = .ok (.iastore, 1)) (kk : PW G M R Z cu su (ui I b j (wr x)) J P T z (pc + 1) ls st) : PW G M R Z cu su I J P T z pc ls (iv x :: iv j :: .ref b :: st) := by
  rw [← iv_wr]
  exact r_iast hT hb0 h0 h1 wr_r d kk
end D2
