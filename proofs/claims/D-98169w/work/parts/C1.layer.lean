/-! ===== the layer: numbers by integers, heaps by functions ===== -/
/-- an int, a long by an integer -/
def iv (x : Int) : Value := .int (Int32.ofInt x)
def jv (x : Int) : Value := .long (Int64.ofInt x)
abbrev HI : Type := Nat → Int → Int
abbrev HP : Type := Nat → Int → Option Nat
abbrev HT : Type := Nat → Nat × Int
/-- one place written -/
def ui (I : HI) (a : Nat) (j v : Int) : HI := fun b i => if b = a ∧ i = j then v else I b i
def up (P : HP) (a : Nat) (j : Int) (v : Option Nat) : HP := fun b i => if b = a ∧ i = j then v else P b i
/-- a whole row written -/
def ur (I : HI) (a : Nat) (f : Int → Int) : HI := fun b i => if b = a then f i else I b i
def urp (P : HP) (a : Nat) (f : Int → Option Nat) : HP := fun b i => if b = a then f i else P b i
def ut (T : HT) (a : Nat) (t : Nat × Int) : HT := fun b => if b = a then t else T b
/-- what a place of a type holds -/
def fvT (t : FieldType) (x y : Int) (r : Option Nat) : Value := match t with
  | .long => jv y
  | .object _ => va_rf r
  | .array _ => va_rf r
  | _ => iv x
/-! tables of classes whose fields are told in part -/
def T_0 : u_T := fun _ => ("", "", "", false)
def ty_0 : Nat → FieldType := fun _ => .int
def T_14 : u_T := fun k => match k with
  | 0 => ("SevenTable$Fault", "kind", "I", true)
  | _ => ("SevenTable$Fault", "place", "I", true)
def ty_14 : Nat → FieldType := fun _ => .int
def T_37 : u_T := fun k => match k with
  | 0 => ("java/lang/String", "value", "[B", true)
  | _ => ("java/lang/String", "coder", "B", true)
def ty_37 : Nat → FieldType := fun k => match k with
  | 0 => .array .byte
  | _ => .byte
abbrev CTab : Type := String × u_T × Nat × (Nat → FieldType)
/-- the classes by number -/
def ctab (c : Nat) : CTab := match c with
  | 1 => (RX1, TX1, 24, tyX1)
  | 2 => (RX2, TX2, 9, tyX2)
  | 3 => (RX3, TX3, 19, tyX3)
  | 4 => (RX4, TX4, 4, tyX4)
  | 6 => (RX6, T_0, 0, ty_0)
  | 7 => (RX7, T_0, 0, ty_0)
  | 8 => (RX8, T_0, 0, ty_0)
  | 9 => (RX9, T_0, 0, ty_0)
  | 10 => (RX10, TX10, 3, tyX10)
  | 11 => (RX11, TX11, 65, tyX11)
  | 13 => (RX13, TX13, 11, tyX13)
  | 14 => (RX14, T_14, 2, ty_14)
  | 15 => (RX15, TX15, 13, tyX15)
  | 16 => (RX16, TX16, 12, tyX16)
  | 18 => (RX18, TX18, 1, tyX18)
  | 19 => (RX19, T_0, 0, ty_0)
  | 20 => (RX20, TX20, 2, tyX20)
  | 21 => (RX21, TX21, 3, tyX21)
  | 22 => (RX22, TX22, 3, tyX22)
  | 32 => (RJ2, TJ2, 3, tyJ2)
  | 36 => (RJ6, TJ6, 4, tyJ6)
  | 37 => (RJ7, T_37, 2, ty_37)
  | 45 => (RJ15, T_0, 0, ty_0)
  | _ => ("", T_0, 0, ty_0)
/-- the numbers of classes that are made -/
def cmade (c : Nat) : Bool := decide (c ∈ [1, 2, 3, 4, 6, 7, 8, 9, 10, 11, 13, 14, 15, 16, 18, 19, 20, 21, 22, 32, 36, 37, 45])
/-- the arrays' element types by number -/
def aty (t : Nat) : FieldType := match t with
  | 1 => .int
  | 2 => .byte
  | 3 => .long
  | 4 => .boolean
  | 5 => .array .int
  | 6 => .object "SevenTable$Game"
  | 7 => .object "SevenTable$Bent"
  | 8 => .object "SevenTable$Kept"
  | _ => .object "java/lang/Object"
/-- launch, class ids and slots, array class ids, where the run's own cells begin, addresses of the constants -/
abbrev GE : Type := Launch × va_G × (Nat → ClassId) × Nat × (Nat → Nat)
abbrev gA (G : GE) : Nat → Prop := fun q => G.2.2.2.1 ≤ q
/-- the machine's heap is the functions' -/
def Rep (G : GE) (I J : HI) (P : HP) (T : HT) (z : Nat) (H : Heap) : Prop :=
  H.size = z ∧ (∀ a, z ≤ a → (T a).1 = 0) ∧ (∀ a j, -2147483648 ≤ I a j ∧ I a j < 2147483648) ∧ (∀ a j, -9223372036854775808 ≤ J a j ∧ J a j < 9223372036854775808) ∧
  (∀ a t n, T a = (t, n) → 0 < t → t < 20 → 0 ≤ n ∧ n < 2147483648 ∧ H[a]? = some (arrV (G.2.2.1 t) n.toNat (fun j => fvT (aty t) (I a j) (J a j) (P a j)))) ∧
  (∀ a c n, T a = (c + 20, n) → cmade c = true ∧ t_OB a (G.2.1.1 c) (ctab c).2.2.1 (G.2.1.2 c) H (fun k => fvT ((ctab c).2.2.2 k) (I a k) (J a k) (P a k)))
/-- the classes as the tables have them -/
def KK (G : GE) (s : State) : Prop :=
  (∀ c, cmade c = true → u_Kn s (ctab c).1 (ctab c).2.1 (ctab c).2.2.1 (G.2.1.1 c) (G.2.1.2 c)) ∧ ∀ t, 0 < t → t < 10 → ArrOfT s (G.2.2.1 t) (aty t) ∧ va_RA s (G.2.2.1 t) (aty t)
theorem KK.moved {G : GE} {u U : State} (hvm : u.vm.Alike U.vm) (h : KK G u) : KK G U :=
  ⟨fun c hc => u_Kn_moved hvm (h.1 c hc), fun t h1 h2 => ⟨arrOfT_moved hvm (h.2 t h1 h2).1, (h.2 t h1 h2).2.moved hvm⟩⟩

theorem n_of {P : Nat → Prop} {c : Nat} (l : List Nat) (h : decide (c ∈ l) = true) (hp : ∀ x ∈ l, P x) : P c := hp c (of_decide_eq_true h)
/-- what is known of a made class: its words, its fields' types, names apart -/
def COk (c : Nat) : Prop := (∀ w ∈ u_ws (ctab c).1 (ctab c).2.1 (ctab c).2.2.1, w ∈ lw_all) ∧ (∀ k, k < (ctab c).2.2.1 → parseFieldDescriptor ((ctab c).2.1 k).2.2.1 = some ((ctab c).2.2.2 k)) ∧ (∀ a, a < (ctab c).2.2.1 → ∀ b, b < (ctab c).2.2.1 → a ≠ b → ((ctab c).2.1 a).2.1 ≠ ((ctab c).2.1 b).2.1)
theorem cok_1 : COk 1 := ⟨in_X1, tyX1_ok, nmX1⟩
theorem cok_2 : COk 2 := ⟨in_X2, tyX2_ok, nmX2⟩
theorem cok_3 : COk 3 := ⟨in_X3, tyX3_ok, nmX3⟩
theorem cok_4 : COk 4 := ⟨in_X4, tyX4_ok, nmX4⟩
theorem cok_10 : COk 10 := ⟨in_X10, tyX10_ok, nmX10⟩
theorem cok_11 : COk 11 := ⟨in_X11, tyX11_ok, nmX11⟩
theorem cok_13 : COk 13 := ⟨in_X13, tyX13_ok, nmX13⟩
theorem cok_15 : COk 15 := ⟨in_X15, tyX15_ok, nmX15⟩
theorem cok_16 : COk 16 := ⟨in_X16, tyX16_ok, nmX16⟩
theorem cok_18 : COk 18 := ⟨in_X18, tyX18_ok, nmX18⟩
theorem cok_20 : COk 20 := ⟨in_X20, tyX20_ok, nmX20⟩
theorem cok_21 : COk 21 := ⟨in_X21, tyX21_ok, nmX21⟩
theorem cok_22 : COk 22 := ⟨in_X22, tyX22_ok, nmX22⟩
theorem cok_32 : COk 32 := ⟨in_J2, tyJ2_ok, nmJ2⟩
theorem cok_36 : COk 36 := ⟨in_J6, tyJ6_ok, nmJ6⟩
theorem in_0 (C : String) : ∀ w ∈ u_ws C T_0 0, w ∈ lw_all := fun w h => by cases h
theorem cok_0 {c : Nat} (h : (ctab c).2.1 = T_0 ∧ (ctab c).2.2.1 = 0) : COk c := by
  obtain ⟨h1, h2⟩ := h
  unfold COk
  rw [h1, h2]
  exact ⟨in_0 _, fun k hk => absurd hk (Nat.not_lt_zero k), fun a ha => absurd ha (Nat.not_lt_zero a)⟩
theorem cok_6 : COk 6 := cok_0 ⟨rfl, rfl⟩
theorem cok_7 : COk 7 := cok_0 ⟨rfl, rfl⟩
theorem cok_8 : COk 8 := cok_0 ⟨rfl, rfl⟩
theorem cok_9 : COk 9 := cok_0 ⟨rfl, rfl⟩
theorem cok_19 : COk 19 := cok_0 ⟨rfl, rfl⟩
theorem cok_45 : COk 45 := cok_0 ⟨rfl, rfl⟩
theorem cok_14 : COk 14 := ⟨lw_in (u_ws RX14 T_14 2) [950, 952] (by decide +kernel) (by decide +kernel), by decide +kernel, by decide +kernel⟩
theorem cok_37 : COk 37 := ⟨lw_in (u_ws RJ7 T_37 2) [854, 856] (by decide +kernel) (by decide +kernel), by decide +kernel, by decide +kernel⟩
/-! what a run needs beside the words that ride: links of nest mates, casts, arrays over, constants, statics -/
def strT : List (String × Nat × String) := [("SevenTable$Reader", 9, ""), ("SevenTable$Reader", 76, " kinds person hand heap again refill asks gives no or and not book known held hands heaped most place "), ("SevenTable$Reader", 78, " "), ("SevenTable$TableReader", 36, "kinds"), ("SevenTable$TableReader", 44, "person"), ("SevenTable$TableReader", 48, "hand"), ("SevenTable$TableReader", 52, "heap"), ("SevenTable$TableReader", 56, "again"), ("SevenTable$TableReader", 87, "refill"), ("SevenTable$EveningReader", 64, "asks"), ("SevenTable$EveningReader", 77, "gives"), ("SevenTable$EveningReader", 79, "no"), ("SevenTable$SentenceReader", 59, "not"), ("SevenTable$SentenceReader", 61, "book"), ("SevenTable$SentenceReader", 63, "known"), ("SevenTable$SentenceReader", 65, "held"), ("SevenTable$SentenceReader", 48, "hands"), ("SevenTable$SentenceReader", 50, "heaped"), ("SevenTable$SentenceReader", 52, "most"), ("SevenTable$SentenceReader", 54, "place"), ("SevenTable$SentenceReader", 47, "and"), ("SevenTable$SentenceReader", 34, "or")]
def EN (G : GE) (s : State) : Prop :=
  (∀ a i b n d h, Cond.fieldLinkNest a i b n d h ∈ lw_tbl → va_Nw (.fieldLinkNest a i b n d h) s) ∧
  (∀ a i x h, Cond.methodLinkNest a i x h ∈ lw_tbl → va_Nw (.methodLinkNest a i x h) s) ∧
  (∀ x, Cond.declares x ∈ lw_tbl → va_Nw (.declares x) s) ∧
  (∀ C T, Cond.castable C T ∈ lw_tbl → va_Nw (.castable C T) s) ∧
  (∀ ty, Cond.arrayOver ty ∈ lw_tbl → va_Nw (.arrayOver ty) s) ∧
  (∀ (k : Nat) (q : String × Nat × String), strT[k]? = some q → vk_R q.1 q.2.1 q.2.2 (G.2.2.2.2 k) s) ∧
  va_Z "java/util/ArrayList" "DEFAULTCAPACITY_EMPTY_ELEMENTDATA" "[Ljava/lang/Object;" (.ref (G.2.2.2.2 100)) (gA G) s s.heap ∧
  va_Z "java/lang/String" "COMPACT_STRINGS" "Z" (.int 1) (gA G) s s.heap ∧
  vx_Zq Bundle.tN "UNASSIGNED_STACK" Bundle.steD (gA G) s s.heap ∧ vx_Zq Bundle.tN "SUPPRESSED_SENTINEL" Bundle.listD (gA G) s s.heap ∧
  G.1.stackTraces = false ∧ (∀ x, Cond.privateMethod x ∈ lw_tbl → va_Nw (.privateMethod x) s)
theorem ao_moved {ty : FieldType} {u U : State} (hvm : u.vm.Alike U.vm) (h : va_Nw (.arrayOver ty) u) : va_Nw (.arrayOver ty) U :=
  have h1 : (Cond.arrayOver ty).before #[] (u.setVm U.vm) = true := by rw [Cond.arrayOver_setVmC hvm]; exact h
  (show (Cond.arrayOver ty).before #[] U = (Cond.arrayOver ty).before #[] (u.setVm U.vm) from rfl).trans h1
theorem EN.kept {G : GE} {s U : State} (hW : s.WarmedH U.vm) (hq : ∀ a : Nat, a < s.heap.size → ¬ gA G a → U.heap[a]? = s.heap[a]?) (h : EN G s) : EN G U := by
  obtain ⟨h1, h2, h3, h4, h5, h7, h9, h10, h11, h12, h13, h14⟩ := h
  exact ⟨fun a i b n d hh hm => (h1 a i b n d hh hm).warmF hW, fun a i x hh hm => (h2 a i x hh hm).warmM hW, fun x hm => (h3 x hm).warmD hW, fun C T hm => (h4 C T hm).warmC hW, fun ty hm => ao_moved hW.alike (h5 ty hm), fun k q hk => (h7 k q hk).warm hW, (h9.moved hW.alike).kept hq, (h10.moved hW.alike).kept hq, (h11.moved hW.alike).kept hq, (h12.moved hW.alike).kept hq, h13, fun x hm => Cond.privateMethod_warm hW (h14 x hm)⟩
theorem EN.calling {G : GE} {U : State} {g : JFrame} {mk : MethodId} {a : Array Value} (h : EN G U) : EN G (U.calling g mk a) := by
  exact EN.kept (s := U) (U := U.calling g mk a) (State.WarmedH.refl U) (fun _ _ _ => rfl) h

/-! locals by a list: a place known or not -/
def LV (la : Array Slot) (nL : Nat) (ls : List (Option Value)) : Prop := la.size = nL ∧ lv_wf la ∧ ∀ (i : Nat) (v : Value), ls[i]? = some (some v) → la[i]? = some (.val v)
def lvl : Nat → List (Option Value) → List (Nat × Value)
  | _, [] => []
  | n, none :: l => lvl (n + 1) l
  | n, some v :: l => (n, v) :: lvl (n + 1) l
theorem lvl_mem {l : List (Option Value)} : ∀ {n i : Nat} {v : Value}, (i, v) ∈ lvl n l ↔ ∃ j, i = n + j ∧ l[j]? = some (some v) := by
  induction l with
  | nil => intro n i v; simp [lvl]
  | cons a l ih =>
    intro n i v
    have key : (∃ j, i = n + 1 + j ∧ l[j]? = some (some v)) ↔ ∃ j, 0 < j ∧ i = n + j ∧ (a :: l)[j]? = some (some v) := by
      constructor
      · rintro ⟨j, h1, h2⟩
        exact ⟨j + 1, by omega, by omega, by simpa using h2⟩
      · rintro ⟨j, h0, h1, h2⟩
        obtain ⟨k, rfl⟩ : ∃ k, j = k + 1 := ⟨j - 1, by omega⟩
        exact ⟨k, by omega, by simpa using h2⟩
    cases a with
    | none =>
      simp only [lvl]
      rw [ih, key]
      constructor
      · rintro ⟨j, -, h1, h2⟩
        exact ⟨j, h1, h2⟩
      · rintro ⟨j, h1, h2⟩
        cases j with
        | zero => simp at h2
        | succ k => exact ⟨k + 1, by omega, h1, h2⟩
    | some w =>
      simp only [lvl, List.mem_cons, Prod.mk.injEq]
      rw [ih, key]
      constructor
      · rintro (⟨h1, h2⟩ | ⟨j, -, h1, h2⟩)
        · exact ⟨0, by omega, by simp [h2]⟩
        · exact ⟨j, h1, h2⟩
      · rintro ⟨j, h1, h2⟩
        cases j with
        | zero => left; simp at h2; exact ⟨by omega, h2.symm⟩
        | succ k => right; exact ⟨k + 1, by omega, h1, h2⟩
theorem LV.has {la : Array Slot} {nL : Nat} {ls : List (Option Value)} (h : LV la nL ls) : lv_has la nL (lvl 0 ls) :=
  ⟨h.1, h.2.1, fun q hq => by
    obtain ⟨j, h1, h2⟩ := (lvl_mem (l := ls) (n := 0) (i := q.1) (v := q.2)).mp hq
    rw [h1, Nat.zero_add]
    exact h.2.2 j q.2 h2⟩
theorem LV.at {la : Array Slot} {nL : Nat} {ls : List (Option Value)} (h : LV la nL ls) {i : Nat} {v : Value} (hi : ls[i]? = some (some v)) : la[i]? = some (.val v) := h.2.2 i v hi
/-- the place before i holds no long -/
def pre1 : List (Option Value) → Nat → Bool
  | [], _ => true
  | _, 0 => true
  | some v :: _, 1 => v.category == 1
  | none :: _, 1 => true
  | _ :: l, i + 1 => pre1 l i
theorem pre1_spec : ∀ {ls : List (Option Value)} {i : Nat}, pre1 ls i = true → ∀ j v, j + 1 = i → ls[j]? = some (some v) → v.category = 1 := by
  intro ls
  induction ls with
  | nil => intro i _ j v _ h; simp at h
  | cons a l ih =>
    intro i h j v e hj
    cases i with
    | zero => omega
    | succ i =>
      cases i with
      | zero =>
        have : j = 0 := by omega
        subst this
        cases a with
        | none => simp at hj
        | some w => simp at hj; subst hj; simpa [pre1] using h
      | succ i =>
        have h' : pre1 l (i + 1) = true := by cases a <;> simpa [pre1] using h
        cases j with
        | zero => omega
        | succ j => exact ih h' j v (by omega) (by simpa using hj)
theorem LV.store {la' : Array Slot} {nL i : Nat} {ls : List (Option Value)} {v : Value} (h : pre1 ls i = true) (hl : lv_has la' nL ((i, v) :: (lvl 0 ls).filter (fun q => !(q.1 == i) && !(q.1 + 1 == i && q.2.category == 2)))) : LV la' nL (ls.set i (some v)) := by
  refine ⟨hl.1, hl.2.1, fun j w hj => ?_⟩
  by_cases e : j = i
  · subst e
    have hw : w = v := by
      rw [List.getElem?_set] at hj
      split at hj
      · split at hj
        · simpa using hj.symm
        · cases hj
      · rename_i hh
        exact absurd rfl hh
    subst hw
    exact hl.2.2 (j, w) List.mem_cons_self
  · rw [List.getElem?_set_ne (fun q => e q.symm)] at hj
    refine hl.2.2 (j, w) (List.mem_cons_of_mem _ (List.mem_filter.mpr ⟨lvl_mem.mpr ⟨j, by omega, hj⟩, ?_⟩))
    by_cases e2 : j + 1 = i
    · have := pre1_spec h j w e2 hj
      simp [e, this]
    · simp [e, e2]
theorem LV.store2 {la' : Array Slot} {nL i : Nat} {ls : List (Option Value)} {v : Value} (h : pre1 ls i = true) (hl : lv_has la' nL ((i, v) :: (lvl 0 ls).filter (fun q => !(q.1 == i) && (!(q.1 == i + 1) && !(q.1 + 1 == i && q.2.category == 2))))) : LV la' nL ((ls.set i (some v)).set (i + 1) none) := by
  refine ⟨hl.1, hl.2.1, fun j w hj => ?_⟩
  by_cases e1 : j = i + 1
  · subst e1
    rw [List.getElem?_set] at hj
    split at hj
    · split at hj <;> simp at hj
    · rename_i hh
      exact absurd rfl hh
  rw [List.getElem?_set_ne (fun q => e1 q.symm)] at hj
  by_cases e : j = i
  · subst e
    have hw : w = v := by
      rw [List.getElem?_set] at hj
      split at hj
      · split at hj
        · simpa using hj.symm
        · cases hj
      · rename_i hh
        exact absurd rfl hh
    subst hw
    exact hl.2.2 (j, w) List.mem_cons_self
  · rw [List.getElem?_set_ne (fun q => e q.symm)] at hj
    refine hl.2.2 (j, w) (List.mem_cons_of_mem _ (List.mem_filter.mpr ⟨lvl_mem.mpr ⟨j, by omega, hj⟩, ?_⟩))
    by_cases e2 : j + 1 = i
    · have := pre1_spec h j w e2 hj
      simp [e, e1, this]
    · simp [e, e1, e2]
/-- a method's locals at its entry -/
def lsOf : Nat → List Value → List (Option Value)
  | n, [] => List.replicate n none
  | 0, _ => []
  | n + 1, v :: l => if v.category == 2 then some v :: none :: lsOf (n - 1) l else some v :: lsOf n l
theorem lsOf_get : ∀ {l : List Value} {n k i : Nat} {v : Value}, (lsOf n l)[i]? = some (some v) → (k + i, v) ∈ lv_args k l := by
  intro l
  induction l with
  | nil =>
    intro n k i v h
    cases n with
    | zero => simp [lsOf] at h
    | succ n => simp [lsOf, List.getElem?_replicate] at h
  | cons a l ih =>
    intro n k i v h
    cases n with
    | zero => simp [lsOf] at h
    | succ n =>
      by_cases hc : a.category = 2
      · simp only [lsOf, hc, beq_self_eq_true, if_true] at h
        cases i with
        | zero => simp at h; subst h; simp [lv_args]
        | succ i =>
          cases i with
          | zero => simp at h
          | succ i =>
            have := ih (n := n - 1) (k := k + 2) (i := i) (v := v) (by simpa using h)
            simp only [lv_args, hc, List.mem_cons]
            right
            have e : k + (i + 1 + 1) = k + 2 + i := by omega
            rw [e]
            simpa using this
      · have hc' : a.category = 1 := by rcases lv_cat a with q | q; exact q; exact absurd q hc
        simp only [lsOf, hc'] at h
        cases i with
        | zero => simp at h; subst h; simp [lv_args]
        | succ i =>
          have := ih (n := n) (k := k + 1) (i := i) (v := v) (by simpa using h)
          simp only [lv_args, hc', List.mem_cons]
          right
          have e : k + (i + 1) = k + 1 + i := by omega
          rw [e]
          simpa using this
theorem LV.entry {la : Array Slot} {nL n : Nat} {vs : List Value} (h : lv_has la nL (lv_args 0 vs)) : LV la nL (lsOf n vs) :=
  ⟨h.1, h.2.1, fun i v hi => by
    have := h.2.2 (0 + i, v) (lsOf_get hi)
    simpa using this⟩
