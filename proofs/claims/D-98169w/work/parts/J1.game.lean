/-! ===== the component's tables and games ===== -/
theorem ui_o {I : HI} {a b : Nat} {i j v : Int} (h : ¬ (b = a ∧ i = j)) : ui I a j v b i = I b i := if_neg h
theorem ui_e {I : HI} {a b : Nat} {i j v : Int} (h : b = a ∧ i = j) : ui I a j v b i = v := if_pos h
/-- a table at t: t+1 names, t+2 hand (rows t+3 .. t+8), t+9 heap, t+10 cards -/
def shT (G : GE) (P : HP) (T : HT) (t : Nat) : Prop :=
  G.2.2.2.1 ≤ t ∧ T t = (22, 0) ∧ P t 5 = some (t + 1) ∧ T (t + 1) = (52, 0) ∧ P t 6 = some (t + 2) ∧ T (t + 2) = (5, 6) ∧ P t 7 = some (t + 9) ∧ T (t + 9) = (1, 52) ∧ P t 8 = some (t + 10) ∧ T (t + 10) = (1, 13) ∧
  ∀ p : Int, 0 ≤ p → p < 6 → P (t + 2) p = some (t + 3 + p.toNat) ∧ T (t + 3 + p.toNat) = (1, 13)
theorem shT.b {G : GE} {P : HP} {T : HT} {t : Nat} (h : shT G P T t) : G.2.2.2.1 ≤ t := h.1
theorem shT.o {G : GE} {P : HP} {T : HT} {t : Nat} (h : shT G P T t) : T t = (22, 0) := h.2.1
theorem shT.p_names {G : GE} {P : HP} {T : HT} {t : Nat} (h : shT G P T t) : P t 5 = some (t + 1) := h.2.2.1
theorem shT.t_names {G : GE} {P : HP} {T : HT} {t : Nat} (h : shT G P T t) : T (t + 1) = (52, 0) := h.2.2.2.1
theorem shT.p_hand {G : GE} {P : HP} {T : HT} {t : Nat} (h : shT G P T t) : P t 6 = some (t + 2) := h.2.2.2.2.1
theorem shT.t_hand {G : GE} {P : HP} {T : HT} {t : Nat} (h : shT G P T t) : T (t + 2) = (5, 6) := h.2.2.2.2.2.1
theorem shT.p_heap {G : GE} {P : HP} {T : HT} {t : Nat} (h : shT G P T t) : P t 7 = some (t + 9) := h.2.2.2.2.2.2.1
theorem shT.t_heap {G : GE} {P : HP} {T : HT} {t : Nat} (h : shT G P T t) : T (t + 9) = (1, 52) := h.2.2.2.2.2.2.2.1
theorem shT.p_cards {G : GE} {P : HP} {T : HT} {t : Nat} (h : shT G P T t) : P t 8 = some (t + 10) := h.2.2.2.2.2.2.2.2.1
theorem shT.t_cards {G : GE} {P : HP} {T : HT} {t : Nat} (h : shT G P T t) : T (t + 10) = (1, 13) := h.2.2.2.2.2.2.2.2.2.1
theorem shT.q_hand {G : GE} {P : HP} {T : HT} {t : Nat} (h : shT G P T t) {p : Int} (h0 : 0 ≤ p) (h1 : p < 6) : P (t + 2) p = some (t + 3 + p.toNat) := (h.2.2.2.2.2.2.2.2.2.2 p h0 h1).1
theorem shT.u_hand {G : GE} {P : HP} {T : HT} {t : Nat} (h : shT G P T t) {p : Int} (h0 : 0 ≤ p) (h1 : p < 6) : T (t + 3 + p.toNat) = (1, 13) := (h.2.2.2.2.2.2.2.2.2.2 p h0 h1).2
/-- a game's arrays: field, place behind the object, kind, length -/
def gArr : List (Int × Nat × Nat × Int) := [(1, 1, 5, 6), (2, 8, 5, 6), (3, 15, 5, 6), (4, 22, 1, 6), (5, 23, 1, 6), (6, 24, 1, 6), (7, 25, 1, 6), (8, 26, 1, 6), (9, 27, 1, 13), (10, 28, 1, 52), (11, 29, 1, 13), (17, 30, 1, 8)]
/-- a game at g, its table aside: g+1 hand (rows g+2 ..), g+8 known (g+9 ..), g+15 other (g+16 ..), g+22 .. -/
def shG0 (G : GE) (P : HP) (T : HT) (g : Nat) : Prop := G.2.2.2.1 ≤ g ∧ T g = (23, 0) ∧ (∀ q ∈ gArr, P g q.1 = some (g + q.2.1) ∧ T (g + q.2.1) = (q.2.2.1, q.2.2.2)) ∧
  ∀ p : Int, 0 ≤ p → p < 6 → (P (g + 1) p = some (g + 2 + p.toNat) ∧ T (g + 2 + p.toNat) = (1, 13)) ∧ (P (g + 8) p = some (g + 9 + p.toNat) ∧ T (g + 9 + p.toNat) = (1, 13)) ∧ (P (g + 15) p = some (g + 16 + p.toNat) ∧ T (g + 16 + p.toNat) = (1, 52))
def shG (G : GE) (P : HP) (T : HT) (g t : Nat) : Prop := shG0 G P T g ∧ shT G P T t ∧ P g 0 = some t
theorem shG0.b {G : GE} {P : HP} {T : HT} {g : Nat} (h : shG0 G P T g) : G.2.2.2.1 ≤ g := h.1
theorem shG0.o {G : GE} {P : HP} {T : HT} {g : Nat} (h : shG0 G P T g) : T g = (23, 0) := h.2.1
theorem shG0.p_hand {G : GE} {P : HP} {T : HT} {g : Nat} (h : shG0 G P T g) : P g 1 = some (g + 1) := (h.2.2.1 (1, 1, 5, 6) (by decide)).1
theorem shG0.t_hand {G : GE} {P : HP} {T : HT} {g : Nat} (h : shG0 G P T g) : T (g + 1) = (5, 6) := (h.2.2.1 (1, 1, 5, 6) (by decide)).2
theorem shG0.p_known {G : GE} {P : HP} {T : HT} {g : Nat} (h : shG0 G P T g) : P g 2 = some (g + 8) := (h.2.2.1 (2, 8, 5, 6) (by decide)).1
theorem shG0.t_known {G : GE} {P : HP} {T : HT} {g : Nat} (h : shG0 G P T g) : T (g + 8) = (5, 6) := (h.2.2.1 (2, 8, 5, 6) (by decide)).2
theorem shG0.p_other {G : GE} {P : HP} {T : HT} {g : Nat} (h : shG0 G P T g) : P g 3 = some (g + 15) := (h.2.2.1 (3, 15, 5, 6) (by decide)).1
theorem shG0.t_other {G : GE} {P : HP} {T : HT} {g : Nat} (h : shG0 G P T g) : T (g + 15) = (5, 6) := (h.2.2.1 (3, 15, 5, 6) (by decide)).2
theorem shG0.p_others {G : GE} {P : HP} {T : HT} {g : Nat} (h : shG0 G P T g) : P g 4 = some (g + 22) := (h.2.2.1 (4, 22, 1, 6) (by decide)).1
theorem shG0.t_others {G : GE} {P : HP} {T : HT} {g : Nat} (h : shG0 G P T g) : T (g + 22) = (1, 6) := (h.2.2.1 (4, 22, 1, 6) (by decide)).2
theorem shG0.p_caught {G : GE} {P : HP} {T : HT} {g : Nat} (h : shG0 G P T g) : P g 5 = some (g + 23) := (h.2.2.1 (5, 23, 1, 6) (by decide)).1
theorem shG0.t_caught {G : GE} {P : HP} {T : HT} {g : Nat} (h : shG0 G P T g) : T (g + 23) = (1, 6) := (h.2.2.1 (5, 23, 1, 6) (by decide)).2
theorem shG0.p_asks {G : GE} {P : HP} {T : HT} {g : Nat} (h : shG0 G P T g) : P g 6 = some (g + 24) := (h.2.2.1 (6, 24, 1, 6) (by decide)).1
theorem shG0.t_asks {G : GE} {P : HP} {T : HT} {g : Nat} (h : shG0 G P T g) : T (g + 24) = (1, 6) := (h.2.2.1 (6, 24, 1, 6) (by decide)).2
theorem shG0.p_given {G : GE} {P : HP} {T : HT} {g : Nat} (h : shG0 G P T g) : P g 7 = some (g + 25) := (h.2.2.1 (7, 25, 1, 6) (by decide)).1
theorem shG0.t_given {G : GE} {P : HP} {T : HT} {g : Nat} (h : shG0 G P T g) : T (g + 25) = (1, 6) := (h.2.2.1 (7, 25, 1, 6) (by decide)).2
theorem shG0.p_drew {G : GE} {P : HP} {T : HT} {g : Nat} (h : shG0 G P T g) : P g 8 = some (g + 26) := (h.2.2.1 (8, 26, 1, 6) (by decide)).1
theorem shG0.t_drew {G : GE} {P : HP} {T : HT} {g : Nat} (h : shG0 G P T g) : T (g + 26) = (1, 6) := (h.2.2.1 (8, 26, 1, 6) (by decide)).2
theorem shG0.p_book {G : GE} {P : HP} {T : HT} {g : Nat} (h : shG0 G P T g) : P g 9 = some (g + 27) := (h.2.2.1 (9, 27, 1, 13) (by decide)).1
theorem shG0.t_book {G : GE} {P : HP} {T : HT} {g : Nat} (h : shG0 G P T g) : T (g + 27) = (1, 13) := (h.2.2.1 (9, 27, 1, 13) (by decide)).2
theorem shG0.p_heap {G : GE} {P : HP} {T : HT} {g : Nat} (h : shG0 G P T g) : P g 10 = some (g + 28) := (h.2.2.1 (10, 28, 1, 52) (by decide)).1
theorem shG0.t_heap {G : GE} {P : HP} {T : HT} {g : Nat} (h : shG0 G P T g) : T (g + 28) = (1, 52) := (h.2.2.1 (10, 28, 1, 52) (by decide)).2
theorem shG0.p_cards {G : GE} {P : HP} {T : HT} {g : Nat} (h : shG0 G P T g) : P g 11 = some (g + 29) := (h.2.2.1 (11, 29, 1, 13) (by decide)).1
theorem shG0.t_cards {G : GE} {P : HP} {T : HT} {g : Nat} (h : shG0 G P T g) : T (g + 29) = (1, 13) := (h.2.2.1 (11, 29, 1, 13) (by decide)).2
theorem shG0.p_latest {G : GE} {P : HP} {T : HT} {g : Nat} (h : shG0 G P T g) : P g 17 = some (g + 30) := (h.2.2.1 (17, 30, 1, 8) (by decide)).1
theorem shG0.t_latest {G : GE} {P : HP} {T : HT} {g : Nat} (h : shG0 G P T g) : T (g + 30) = (1, 8) := (h.2.2.1 (17, 30, 1, 8) (by decide)).2
theorem shG0.q_hand {G : GE} {P : HP} {T : HT} {g : Nat} (h : shG0 G P T g) {p : Int} (h0 : 0 ≤ p) (h1 : p < 6) : P (g + 1) p = some (g + 2 + p.toNat) := (h.2.2.2 p h0 h1).1.1
theorem shG0.u_hand {G : GE} {P : HP} {T : HT} {g : Nat} (h : shG0 G P T g) {p : Int} (h0 : 0 ≤ p) (h1 : p < 6) : T (g + 2 + p.toNat) = (1, 13) := (h.2.2.2 p h0 h1).1.2
theorem shG0.q_known {G : GE} {P : HP} {T : HT} {g : Nat} (h : shG0 G P T g) {p : Int} (h0 : 0 ≤ p) (h1 : p < 6) : P (g + 8) p = some (g + 9 + p.toNat) := (h.2.2.2 p h0 h1).2.1.1
theorem shG0.u_known {G : GE} {P : HP} {T : HT} {g : Nat} (h : shG0 G P T g) {p : Int} (h0 : 0 ≤ p) (h1 : p < 6) : T (g + 9 + p.toNat) = (1, 13) := (h.2.2.2 p h0 h1).2.1.2
theorem shG0.q_other {G : GE} {P : HP} {T : HT} {g : Nat} (h : shG0 G P T g) {p : Int} (h0 : 0 ≤ p) (h1 : p < 6) : P (g + 15) p = some (g + 16 + p.toNat) := (h.2.2.2 p h0 h1).2.2.1
theorem shG0.u_other {G : GE} {P : HP} {T : HT} {g : Nat} (h : shG0 G P T g) {p : Int} (h0 : 0 ≤ p) (h1 : p < 6) : T (g + 16 + p.toNat) = (1, 52) := (h.2.2.2 p h0 h1).2.2.2
theorem shG.b {G : GE} {P : HP} {T : HT} {g t : Nat} (h : shG G P T g t) : G.2.2.2.1 ≤ g := h.1.1
theorem shG.o {G : GE} {P : HP} {T : HT} {g t : Nat} (h : shG G P T g t) : T g = (23, 0) := h.1.2.1
theorem shG.tb {G : GE} {P : HP} {T : HT} {g t : Nat} (h : shG G P T g t) : shT G P T t := h.2.1
theorem shG.p_t {G : GE} {P : HP} {T : HT} {g t : Nat} (h : shG G P T g t) : P g 0 = some t := h.2.2
theorem shG.p_hand {G : GE} {P : HP} {T : HT} {g t : Nat} (h : shG G P T g t) : P g 1 = some (g + 1) := h.1.p_hand
theorem shG.t_hand {G : GE} {P : HP} {T : HT} {g t : Nat} (h : shG G P T g t) : T (g + 1) = (5, 6) := h.1.t_hand
theorem shG.p_known {G : GE} {P : HP} {T : HT} {g t : Nat} (h : shG G P T g t) : P g 2 = some (g + 8) := h.1.p_known
theorem shG.t_known {G : GE} {P : HP} {T : HT} {g t : Nat} (h : shG G P T g t) : T (g + 8) = (5, 6) := h.1.t_known
theorem shG.p_other {G : GE} {P : HP} {T : HT} {g t : Nat} (h : shG G P T g t) : P g 3 = some (g + 15) := h.1.p_other
theorem shG.t_other {G : GE} {P : HP} {T : HT} {g t : Nat} (h : shG G P T g t) : T (g + 15) = (5, 6) := h.1.t_other
theorem shG.p_others {G : GE} {P : HP} {T : HT} {g t : Nat} (h : shG G P T g t) : P g 4 = some (g + 22) := h.1.p_others
theorem shG.t_others {G : GE} {P : HP} {T : HT} {g t : Nat} (h : shG G P T g t) : T (g + 22) = (1, 6) := h.1.t_others
theorem shG.p_caught {G : GE} {P : HP} {T : HT} {g t : Nat} (h : shG G P T g t) : P g 5 = some (g + 23) := h.1.p_caught
theorem shG.t_caught {G : GE} {P : HP} {T : HT} {g t : Nat} (h : shG G P T g t) : T (g + 23) = (1, 6) := h.1.t_caught
theorem shG.p_asks {G : GE} {P : HP} {T : HT} {g t : Nat} (h : shG G P T g t) : P g 6 = some (g + 24) := h.1.p_asks
theorem shG.t_asks {G : GE} {P : HP} {T : HT} {g t : Nat} (h : shG G P T g t) : T (g + 24) = (1, 6) := h.1.t_asks
theorem shG.p_given {G : GE} {P : HP} {T : HT} {g t : Nat} (h : shG G P T g t) : P g 7 = some (g + 25) := h.1.p_given
theorem shG.t_given {G : GE} {P : HP} {T : HT} {g t : Nat} (h : shG G P T g t) : T (g + 25) = (1, 6) := h.1.t_given
theorem shG.p_drew {G : GE} {P : HP} {T : HT} {g t : Nat} (h : shG G P T g t) : P g 8 = some (g + 26) := h.1.p_drew
theorem shG.t_drew {G : GE} {P : HP} {T : HT} {g t : Nat} (h : shG G P T g t) : T (g + 26) = (1, 6) := h.1.t_drew
theorem shG.p_book {G : GE} {P : HP} {T : HT} {g t : Nat} (h : shG G P T g t) : P g 9 = some (g + 27) := h.1.p_book
theorem shG.t_book {G : GE} {P : HP} {T : HT} {g t : Nat} (h : shG G P T g t) : T (g + 27) = (1, 13) := h.1.t_book
theorem shG.p_heap {G : GE} {P : HP} {T : HT} {g t : Nat} (h : shG G P T g t) : P g 10 = some (g + 28) := h.1.p_heap
theorem shG.t_heap {G : GE} {P : HP} {T : HT} {g t : Nat} (h : shG G P T g t) : T (g + 28) = (1, 52) := h.1.t_heap
theorem shG.p_cards {G : GE} {P : HP} {T : HT} {g t : Nat} (h : shG G P T g t) : P g 11 = some (g + 29) := h.1.p_cards
theorem shG.t_cards {G : GE} {P : HP} {T : HT} {g t : Nat} (h : shG G P T g t) : T (g + 29) = (1, 13) := h.1.t_cards
theorem shG.p_latest {G : GE} {P : HP} {T : HT} {g t : Nat} (h : shG G P T g t) : P g 17 = some (g + 30) := h.1.p_latest
theorem shG.t_latest {G : GE} {P : HP} {T : HT} {g t : Nat} (h : shG G P T g t) : T (g + 30) = (1, 8) := h.1.t_latest
theorem shG.q_hand {G : GE} {P : HP} {T : HT} {g t : Nat} (h : shG G P T g t) {p : Int} (h0 : 0 ≤ p) (h1 : p < 6) : P (g + 1) p = some (g + 2 + p.toNat) := h.1.q_hand h0 h1
theorem shG.u_hand {G : GE} {P : HP} {T : HT} {g t : Nat} (h : shG G P T g t) {p : Int} (h0 : 0 ≤ p) (h1 : p < 6) : T (g + 2 + p.toNat) = (1, 13) := h.1.u_hand h0 h1
theorem shG.q_known {G : GE} {P : HP} {T : HT} {g t : Nat} (h : shG G P T g t) {p : Int} (h0 : 0 ≤ p) (h1 : p < 6) : P (g + 8) p = some (g + 9 + p.toNat) := h.1.q_known h0 h1
theorem shG.u_known {G : GE} {P : HP} {T : HT} {g t : Nat} (h : shG G P T g t) {p : Int} (h0 : 0 ≤ p) (h1 : p < 6) : T (g + 9 + p.toNat) = (1, 13) := h.1.u_known h0 h1
theorem shG.q_other {G : GE} {P : HP} {T : HT} {g t : Nat} (h : shG G P T g t) {p : Int} (h0 : 0 ≤ p) (h1 : p < 6) : P (g + 15) p = some (g + 16 + p.toNat) := h.1.q_other h0 h1
theorem shG.u_other {G : GE} {P : HP} {T : HT} {g t : Nat} (h : shG G P T g t) {p : Int} (h0 : 0 ≤ p) (h1 : p < 6) : T (g + 16 + p.toNat) = (1, 52) := h.1.u_other h0 h1
/-- only the game's own cells have changed -/
def GF (g : Nat) (I I' : HI) : Prop := ∀ b, (b < g ∨ g + 31 ≤ b) → I' b = I b
theorem GF.rf {g : Nat} {I : HI} : GF g I I := fun _ _ => rfl
theorem GF.tr {g : Nat} {I I1 I2 : HI} (h : GF g I I1) (k : GF g I1 I2) : GF g I I2 := fun b q => (k b q).trans (h b q)
theorem GF.w {g a : Nat} {I I1 : HI} {j v : Int} (h : GF g I I1) (h0 : g ≤ a) (h1 : a < g + 31) : GF g I (ui I1 a j v) := fun b q => by
  rw [← h b q]; funext i; exact ui_n (by omega)
theorem GF.wr {g a : Nat} {I I1 : HI} {f : Int → Int} (h : GF g I I1) (h0 : g ≤ a) (h1 : a < g + 31) : GF g I (ur I1 a f) := fun b q => by
  rw [← h b q]; exact ur_n (by omega)
/-- the game at g with the table at t holds the row σ; μ: of the latest asking -/
def GR (I : HI) (g t : Nat) (σ μ : Int → Int) : Prop :=
  (∀ p k : Int, 0 ≤ p → p < 6 → 0 ≤ k → k < 13 → I (g + 2 + p.toNat) k = σ (60 + 13 * p + k)) ∧
  (∀ p k : Int, 0 ≤ p → p < 6 → 0 ≤ k → k < 13 → I (g + 9 + p.toNat) k = σ (151 + 13 * p + k)) ∧
  (∀ p i : Int, 0 ≤ p → p < 6 → 0 ≤ i → i < 52 → i < σ (229 + p) → I (g + 16 + p.toNat) i = σ (235 + 52 * p + i)) ∧
  (∀ p : Int, 0 ≤ p → p < 6 → I (g + 22) p = σ (229 + p)) ∧
  (∀ p : Int, 0 ≤ p → p < 6 → I (g + 23) p = σ (547 + p)) ∧
  (∀ p : Int, 0 ≤ p → p < 6 → I (g + 24) p = σ (553 + p)) ∧
  (∀ p : Int, 0 ≤ p → p < 6 → I (g + 25) p = σ (559 + p)) ∧
  (∀ p : Int, 0 ≤ p → p < 6 → I (g + 26) p = σ (565 + p) - 1) ∧
  (∀ k : Int, 0 ≤ k → k < 13 → I (g + 27) k = σ (138 + k) - 1) ∧
  (∀ k : Int, 0 ≤ k → k < 13 → I (g + 29) k = σ (571 + k)) ∧
  (0 ≤ I g 12 ∧ I g 12 + σ 7 = I g 13 ∧ I g 13 ≤ 52 ∧ 0 ≤ σ 7) ∧
  (∀ i : Int, 0 ≤ i → i < σ 7 → I (g + 28) (I g 12 + i) = σ (8 + i)) ∧
  (I g 14 = σ 4) ∧
  (I g 15 = σ 5) ∧
  (I g 16 = σ 6) ∧
  (∀ i : Int, 0 ≤ i → i < 8 → I (g + 30) i = μ i) ∧
  (I t 0 = σ 0 ∧ I (t + 1) 2 = σ 1 ∧ I t 4 = σ 2 ∧ I t 1 = σ 3) ∧
  (t + 11 ≤ g ∨ g + 31 ≤ t)
theorem GR.hand {I : HI} {g t : Nat} {σ μ : Int → Int} (h : GR I g t σ μ) {p k : Int} (h0 : 0 ≤ p) (h1 : p < 6) (h2 : 0 ≤ k) (h3 : k < 13) : I (g + 2 + p.toNat) k = σ (60 + 13 * p + k) := h.1 p k h0 h1 h2 h3
theorem GR.known {I : HI} {g t : Nat} {σ μ : Int → Int} (h : GR I g t σ μ) {p k : Int} (h0 : 0 ≤ p) (h1 : p < 6) (h2 : 0 ≤ k) (h3 : k < 13) : I (g + 9 + p.toNat) k = σ (151 + 13 * p + k) := h.2.1 p k h0 h1 h2 h3
theorem GR.other {I : HI} {g t : Nat} {σ μ : Int → Int} (h : GR I g t σ μ) {p i : Int} (h0 : 0 ≤ p) (h1 : p < 6) (h2 : 0 ≤ i) (h3 : i < 52) (h4 : i < σ (229 + p)) : I (g + 16 + p.toNat) i = σ (235 + 52 * p + i) := h.2.2.1 p i h0 h1 h2 h3 h4
theorem GR.others {I : HI} {g t : Nat} {σ μ : Int → Int} (h : GR I g t σ μ) {p : Int} (h0 : 0 ≤ p) (h1 : p < 6) : I (g + 22) p = σ (229 + p) := h.2.2.2.1 p h0 h1
theorem GR.caught {I : HI} {g t : Nat} {σ μ : Int → Int} (h : GR I g t σ μ) {p : Int} (h0 : 0 ≤ p) (h1 : p < 6) : I (g + 23) p = σ (547 + p) := h.2.2.2.2.1 p h0 h1
theorem GR.asks {I : HI} {g t : Nat} {σ μ : Int → Int} (h : GR I g t σ μ) {p : Int} (h0 : 0 ≤ p) (h1 : p < 6) : I (g + 24) p = σ (553 + p) := h.2.2.2.2.2.1 p h0 h1
theorem GR.given {I : HI} {g t : Nat} {σ μ : Int → Int} (h : GR I g t σ μ) {p : Int} (h0 : 0 ≤ p) (h1 : p < 6) : I (g + 25) p = σ (559 + p) := h.2.2.2.2.2.2.1 p h0 h1
theorem GR.drew {I : HI} {g t : Nat} {σ μ : Int → Int} (h : GR I g t σ μ) {p : Int} (h0 : 0 ≤ p) (h1 : p < 6) : I (g + 26) p = σ (565 + p) - 1 := h.2.2.2.2.2.2.2.1 p h0 h1
theorem GR.book {I : HI} {g t : Nat} {σ μ : Int → Int} (h : GR I g t σ μ) {k : Int} (h0 : 0 ≤ k) (h1 : k < 13) : I (g + 27) k = σ (138 + k) - 1 := h.2.2.2.2.2.2.2.2.1 k h0 h1
theorem GR.cards {I : HI} {g t : Nat} {σ μ : Int → Int} (h : GR I g t σ μ) {k : Int} (h0 : 0 ≤ k) (h1 : k < 13) : I (g + 29) k = σ (571 + k) := h.2.2.2.2.2.2.2.2.2.1 k h0 h1
theorem GR.hp {I : HI} {g t : Nat} {σ μ : Int → Int} (h : GR I g t σ μ) : 0 ≤ I g 12 ∧ I g 12 + σ 7 = I g 13 ∧ I g 13 ≤ 52 ∧ 0 ≤ σ 7 := h.2.2.2.2.2.2.2.2.2.2.1
theorem GR.heap {I : HI} {g t : Nat} {σ μ : Int → Int} (h : GR I g t σ μ) {i : Int} (h0 : 0 ≤ i) (h1 : i < σ 7) : I (g + 28) (I g 12 + i) = σ (8 + i) := h.2.2.2.2.2.2.2.2.2.2.2.1 i h0 h1
theorem GR.turn {I : HI} {g t : Nat} {σ μ : Int → Int} (h : GR I g t σ μ) : I g 14 = σ 4 := h.2.2.2.2.2.2.2.2.2.2.2.2.1
theorem GR.askings {I : HI} {g t : Nat} {σ μ : Int → Int} (h : GR I g t σ μ) : I g 15 = σ 5 := h.2.2.2.2.2.2.2.2.2.2.2.2.2.1
theorem GR.vain {I : HI} {g t : Nat} {σ μ : Int → Int} (h : GR I g t σ μ) : I g 16 = σ 6 := h.2.2.2.2.2.2.2.2.2.2.2.2.2.2.1
theorem GR.latest {I : HI} {g t : Nat} {σ μ : Int → Int} (h : GR I g t σ μ) {i : Int} (h0 : 0 ≤ i) (h1 : i < 8) : I (g + 30) i = μ i := h.2.2.2.2.2.2.2.2.2.2.2.2.2.2.2.1 i h0 h1
theorem GR.ta {I : HI} {g t : Nat} {σ μ : Int → Int} (h : GR I g t σ μ) : I t 0 = σ 0 ∧ I (t + 1) 2 = σ 1 ∧ I t 4 = σ 2 ∧ I t 1 = σ 3 := h.2.2.2.2.2.2.2.2.2.2.2.2.2.2.2.2.1
theorem GR.tt {I : HI} {g t : Nat} {σ μ : Int → Int} (h : GR I g t σ μ) : t + 11 ≤ g ∨ g + 31 ≤ t := h.2.2.2.2.2.2.2.2.2.2.2.2.2.2.2.2.2
theorem GR.hand_w {I : HI} {g t : Nat} {σ μ : Int → Int} (h : GR I g t σ μ) {p k v : Int} (h0 : 0 ≤ p) (h1 : p < 6) (h2 : 0 ≤ k) (h3 : k < 13) : GR (ui I (g + 2 + p.toNat) k v) g t (us σ (60 + 13 * p + k) v) μ := by
  have htt := h.tt
  have hhp := h.hp
  unfold GR at h ⊢
  obtain ⟨h_hand, h_known, h_other, h_others, h_caught, h_asks, h_given, h_drew, h_book, h_cards, h_hp, h_heap, h_turn, h_askings, h_vain, h_latest, h_ta, h_tt⟩ := h
  refine ⟨?_, ?_, ?_, ?_, ?_, ?_, ?_, ?_, ?_, ?_, ?_, ?_, ?_, ?_, ?_, ?_, ?_, ?_⟩
  · intro x0 x1 a0 a1 a2 a3
    by_cases e : x0 = p ∧ x1 = k
    · obtain ⟨rfl, rfl⟩ := e; rw [ui_e ⟨rfl, rfl⟩, us_s]
    · rw [ui_o (by omega), us_n (by omega)]; exact h_hand x0 x1 a0 a1 a2 a3
  · intro x0 x1 a0 a1 a2 a3; rw [ui_o (by omega)]; (repeat rw [us_n (by omega)]); exact h_known x0 x1 a0 a1 a2 a3
  · intro x0 x1 a0 a1 a2 a3 a4; (repeat rw [us_n (by omega)] at a4); rw [ui_o (by omega)]; (repeat rw [us_n (by omega)]); exact h_other x0 x1 a0 a1 a2 a3 a4
  · intro x0 a0 a1; rw [ui_o (by omega)]; (repeat rw [us_n (by omega)]); exact h_others x0 a0 a1
  · intro x0 a0 a1; rw [ui_o (by omega)]; (repeat rw [us_n (by omega)]); exact h_caught x0 a0 a1
  · intro x0 a0 a1; rw [ui_o (by omega)]; (repeat rw [us_n (by omega)]); exact h_asks x0 a0 a1
  · intro x0 a0 a1; rw [ui_o (by omega)]; (repeat rw [us_n (by omega)]); exact h_given x0 a0 a1
  · intro x0 a0 a1; rw [ui_o (by omega)]; (repeat rw [us_n (by omega)]); exact h_drew x0 a0 a1
  · intro x0 a0 a1; rw [ui_o (by omega)]; (repeat rw [us_n (by omega)]); exact h_book x0 a0 a1
  · intro x0 a0 a1; rw [ui_o (by omega)]; (repeat rw [us_n (by omega)]); exact h_cards x0 a0 a1
  · (repeat rw [ui_o (by omega)]); (repeat rw [us_n (by omega)]); exact h_hp
  · intro x0 a0 a1; (repeat rw [us_n (by omega)] at a1); (repeat rw [ui_o (by omega)]); (repeat rw [us_n (by omega)]); exact h_heap x0 a0 a1
  · rw [ui_o (by omega)]; (repeat rw [us_n (by omega)]); exact h_turn
  · rw [ui_o (by omega)]; (repeat rw [us_n (by omega)]); exact h_askings
  · rw [ui_o (by omega)]; (repeat rw [us_n (by omega)]); exact h_vain
  · intro x0 a0 a1; rw [ui_o (by omega)]; (repeat rw [us_n (by omega)]); exact h_latest x0 a0 a1
  · (repeat rw [ui_o (by omega)]); (repeat rw [us_n (by omega)]); exact h_ta
  · exact h_tt
theorem GR.known_w {I : HI} {g t : Nat} {σ μ : Int → Int} (h : GR I g t σ μ) {p k v : Int} (h0 : 0 ≤ p) (h1 : p < 6) (h2 : 0 ≤ k) (h3 : k < 13) : GR (ui I (g + 9 + p.toNat) k v) g t (us σ (151 + 13 * p + k) v) μ := by
  have htt := h.tt
  have hhp := h.hp
  unfold GR at h ⊢
  obtain ⟨h_hand, h_known, h_other, h_others, h_caught, h_asks, h_given, h_drew, h_book, h_cards, h_hp, h_heap, h_turn, h_askings, h_vain, h_latest, h_ta, h_tt⟩ := h
  refine ⟨?_, ?_, ?_, ?_, ?_, ?_, ?_, ?_, ?_, ?_, ?_, ?_, ?_, ?_, ?_, ?_, ?_, ?_⟩
  · intro x0 x1 a0 a1 a2 a3; rw [ui_o (by omega)]; (repeat rw [us_n (by omega)]); exact h_hand x0 x1 a0 a1 a2 a3
  · intro x0 x1 a0 a1 a2 a3
    by_cases e : x0 = p ∧ x1 = k
    · obtain ⟨rfl, rfl⟩ := e; rw [ui_e ⟨rfl, rfl⟩, us_s]
    · rw [ui_o (by omega), us_n (by omega)]; exact h_known x0 x1 a0 a1 a2 a3
  · intro x0 x1 a0 a1 a2 a3 a4; (repeat rw [us_n (by omega)] at a4); rw [ui_o (by omega)]; (repeat rw [us_n (by omega)]); exact h_other x0 x1 a0 a1 a2 a3 a4
  · intro x0 a0 a1; rw [ui_o (by omega)]; (repeat rw [us_n (by omega)]); exact h_others x0 a0 a1
  · intro x0 a0 a1; rw [ui_o (by omega)]; (repeat rw [us_n (by omega)]); exact h_caught x0 a0 a1
  · intro x0 a0 a1; rw [ui_o (by omega)]; (repeat rw [us_n (by omega)]); exact h_asks x0 a0 a1
  · intro x0 a0 a1; rw [ui_o (by omega)]; (repeat rw [us_n (by omega)]); exact h_given x0 a0 a1
  · intro x0 a0 a1; rw [ui_o (by omega)]; (repeat rw [us_n (by omega)]); exact h_drew x0 a0 a1
  · intro x0 a0 a1; rw [ui_o (by omega)]; (repeat rw [us_n (by omega)]); exact h_book x0 a0 a1
  · intro x0 a0 a1; rw [ui_o (by omega)]; (repeat rw [us_n (by omega)]); exact h_cards x0 a0 a1
  · (repeat rw [ui_o (by omega)]); (repeat rw [us_n (by omega)]); exact h_hp
  · intro x0 a0 a1; (repeat rw [us_n (by omega)] at a1); (repeat rw [ui_o (by omega)]); (repeat rw [us_n (by omega)]); exact h_heap x0 a0 a1
  · rw [ui_o (by omega)]; (repeat rw [us_n (by omega)]); exact h_turn
  · rw [ui_o (by omega)]; (repeat rw [us_n (by omega)]); exact h_askings
  · rw [ui_o (by omega)]; (repeat rw [us_n (by omega)]); exact h_vain
  · intro x0 a0 a1; rw [ui_o (by omega)]; (repeat rw [us_n (by omega)]); exact h_latest x0 a0 a1
  · (repeat rw [ui_o (by omega)]); (repeat rw [us_n (by omega)]); exact h_ta
  · exact h_tt
theorem GR.other_w {I : HI} {g t : Nat} {σ μ : Int → Int} (h : GR I g t σ μ) {p k v : Int} (h0 : 0 ≤ p) (h1 : p < 6) (h2 : 0 ≤ k) (h3 : k < 52) : GR (ui I (g + 16 + p.toNat) k v) g t (us σ (235 + 52 * p + k) v) μ := by
  have htt := h.tt
  have hhp := h.hp
  unfold GR at h ⊢
  obtain ⟨h_hand, h_known, h_other, h_others, h_caught, h_asks, h_given, h_drew, h_book, h_cards, h_hp, h_heap, h_turn, h_askings, h_vain, h_latest, h_ta, h_tt⟩ := h
  refine ⟨?_, ?_, ?_, ?_, ?_, ?_, ?_, ?_, ?_, ?_, ?_, ?_, ?_, ?_, ?_, ?_, ?_, ?_⟩
  · intro x0 x1 a0 a1 a2 a3; rw [ui_o (by omega)]; (repeat rw [us_n (by omega)]); exact h_hand x0 x1 a0 a1 a2 a3
  · intro x0 x1 a0 a1 a2 a3; rw [ui_o (by omega)]; (repeat rw [us_n (by omega)]); exact h_known x0 x1 a0 a1 a2 a3
  · intro x0 x1 a0 a1 a2 a3 a4
    rw [us_n (by omega)] at a4
    by_cases e : x0 = p ∧ x1 = k
    · obtain ⟨rfl, rfl⟩ := e; rw [ui_e ⟨rfl, rfl⟩, us_s]
    · rw [ui_o (by omega), us_n (by omega)]; exact h_other x0 x1 a0 a1 a2 a3 a4
  · intro x0 a0 a1; rw [ui_o (by omega)]; (repeat rw [us_n (by omega)]); exact h_others x0 a0 a1
  · intro x0 a0 a1; rw [ui_o (by omega)]; (repeat rw [us_n (by omega)]); exact h_caught x0 a0 a1
  · intro x0 a0 a1; rw [ui_o (by omega)]; (repeat rw [us_n (by omega)]); exact h_asks x0 a0 a1
  · intro x0 a0 a1; rw [ui_o (by omega)]; (repeat rw [us_n (by omega)]); exact h_given x0 a0 a1
  · intro x0 a0 a1; rw [ui_o (by omega)]; (repeat rw [us_n (by omega)]); exact h_drew x0 a0 a1
  · intro x0 a0 a1; rw [ui_o (by omega)]; (repeat rw [us_n (by omega)]); exact h_book x0 a0 a1
  · intro x0 a0 a1; rw [ui_o (by omega)]; (repeat rw [us_n (by omega)]); exact h_cards x0 a0 a1
  · (repeat rw [ui_o (by omega)]); (repeat rw [us_n (by omega)]); exact h_hp
  · intro x0 a0 a1; (repeat rw [us_n (by omega)] at a1); (repeat rw [ui_o (by omega)]); (repeat rw [us_n (by omega)]); exact h_heap x0 a0 a1
  · rw [ui_o (by omega)]; (repeat rw [us_n (by omega)]); exact h_turn
  · rw [ui_o (by omega)]; (repeat rw [us_n (by omega)]); exact h_askings
  · rw [ui_o (by omega)]; (repeat rw [us_n (by omega)]); exact h_vain
  · intro x0 a0 a1; rw [ui_o (by omega)]; (repeat rw [us_n (by omega)]); exact h_latest x0 a0 a1
  · (repeat rw [ui_o (by omega)]); (repeat rw [us_n (by omega)]); exact h_ta
  · exact h_tt
theorem GR.caught_w {I : HI} {g t : Nat} {σ μ : Int → Int} (h : GR I g t σ μ) {p v : Int} (h0 : 0 ≤ p) (h1 : p < 6) : GR (ui I (g + 23) p v) g t (us σ (547 + p) v) μ := by
  have htt := h.tt
  have hhp := h.hp
  unfold GR at h ⊢
  obtain ⟨h_hand, h_known, h_other, h_others, h_caught, h_asks, h_given, h_drew, h_book, h_cards, h_hp, h_heap, h_turn, h_askings, h_vain, h_latest, h_ta, h_tt⟩ := h
  refine ⟨?_, ?_, ?_, ?_, ?_, ?_, ?_, ?_, ?_, ?_, ?_, ?_, ?_, ?_, ?_, ?_, ?_, ?_⟩
  · intro x0 x1 a0 a1 a2 a3; rw [ui_o (by omega)]; (repeat rw [us_n (by omega)]); exact h_hand x0 x1 a0 a1 a2 a3
  · intro x0 x1 a0 a1 a2 a3; rw [ui_o (by omega)]; (repeat rw [us_n (by omega)]); exact h_known x0 x1 a0 a1 a2 a3
  · intro x0 x1 a0 a1 a2 a3 a4; (repeat rw [us_n (by omega)] at a4); rw [ui_o (by omega)]; (repeat rw [us_n (by omega)]); exact h_other x0 x1 a0 a1 a2 a3 a4
  · intro x0 a0 a1; rw [ui_o (by omega)]; (repeat rw [us_n (by omega)]); exact h_others x0 a0 a1
  · intro x0 a0 a1
    by_cases e : x0 = p
    · subst e; rw [ui_e ⟨rfl, rfl⟩, us_s]
    · rw [ui_o (by omega), us_n (by omega)]; exact h_caught x0 a0 a1
  · intro x0 a0 a1; rw [ui_o (by omega)]; (repeat rw [us_n (by omega)]); exact h_asks x0 a0 a1
  · intro x0 a0 a1; rw [ui_o (by omega)]; (repeat rw [us_n (by omega)]); exact h_given x0 a0 a1
  · intro x0 a0 a1; rw [ui_o (by omega)]; (repeat rw [us_n (by omega)]); exact h_drew x0 a0 a1
  · intro x0 a0 a1; rw [ui_o (by omega)]; (repeat rw [us_n (by omega)]); exact h_book x0 a0 a1
  · intro x0 a0 a1; rw [ui_o (by omega)]; (repeat rw [us_n (by omega)]); exact h_cards x0 a0 a1
  · (repeat rw [ui_o (by omega)]); (repeat rw [us_n (by omega)]); exact h_hp
  · intro x0 a0 a1; (repeat rw [us_n (by omega)] at a1); (repeat rw [ui_o (by omega)]); (repeat rw [us_n (by omega)]); exact h_heap x0 a0 a1
  · rw [ui_o (by omega)]; (repeat rw [us_n (by omega)]); exact h_turn
  · rw [ui_o (by omega)]; (repeat rw [us_n (by omega)]); exact h_askings
  · rw [ui_o (by omega)]; (repeat rw [us_n (by omega)]); exact h_vain
  · intro x0 a0 a1; rw [ui_o (by omega)]; (repeat rw [us_n (by omega)]); exact h_latest x0 a0 a1
  · (repeat rw [ui_o (by omega)]); (repeat rw [us_n (by omega)]); exact h_ta
  · exact h_tt
theorem GR.asks_w {I : HI} {g t : Nat} {σ μ : Int → Int} (h : GR I g t σ μ) {p v : Int} (h0 : 0 ≤ p) (h1 : p < 6) : GR (ui I (g + 24) p v) g t (us σ (553 + p) v) μ := by
  have htt := h.tt
  have hhp := h.hp
  unfold GR at h ⊢
  obtain ⟨h_hand, h_known, h_other, h_others, h_caught, h_asks, h_given, h_drew, h_book, h_cards, h_hp, h_heap, h_turn, h_askings, h_vain, h_latest, h_ta, h_tt⟩ := h
  refine ⟨?_, ?_, ?_, ?_, ?_, ?_, ?_, ?_, ?_, ?_, ?_, ?_, ?_, ?_, ?_, ?_, ?_, ?_⟩
  · intro x0 x1 a0 a1 a2 a3; rw [ui_o (by omega)]; (repeat rw [us_n (by omega)]); exact h_hand x0 x1 a0 a1 a2 a3
  · intro x0 x1 a0 a1 a2 a3; rw [ui_o (by omega)]; (repeat rw [us_n (by omega)]); exact h_known x0 x1 a0 a1 a2 a3
  · intro x0 x1 a0 a1 a2 a3 a4; (repeat rw [us_n (by omega)] at a4); rw [ui_o (by omega)]; (repeat rw [us_n (by omega)]); exact h_other x0 x1 a0 a1 a2 a3 a4
  · intro x0 a0 a1; rw [ui_o (by omega)]; (repeat rw [us_n (by omega)]); exact h_others x0 a0 a1
  · intro x0 a0 a1; rw [ui_o (by omega)]; (repeat rw [us_n (by omega)]); exact h_caught x0 a0 a1
  · intro x0 a0 a1
    by_cases e : x0 = p
    · subst e; rw [ui_e ⟨rfl, rfl⟩, us_s]
    · rw [ui_o (by omega), us_n (by omega)]; exact h_asks x0 a0 a1
  · intro x0 a0 a1; rw [ui_o (by omega)]; (repeat rw [us_n (by omega)]); exact h_given x0 a0 a1
  · intro x0 a0 a1; rw [ui_o (by omega)]; (repeat rw [us_n (by omega)]); exact h_drew x0 a0 a1
  · intro x0 a0 a1; rw [ui_o (by omega)]; (repeat rw [us_n (by omega)]); exact h_book x0 a0 a1
  · intro x0 a0 a1; rw [ui_o (by omega)]; (repeat rw [us_n (by omega)]); exact h_cards x0 a0 a1
  · (repeat rw [ui_o (by omega)]); (repeat rw [us_n (by omega)]); exact h_hp
  · intro x0 a0 a1; (repeat rw [us_n (by omega)] at a1); (repeat rw [ui_o (by omega)]); (repeat rw [us_n (by omega)]); exact h_heap x0 a0 a1
  · rw [ui_o (by omega)]; (repeat rw [us_n (by omega)]); exact h_turn
  · rw [ui_o (by omega)]; (repeat rw [us_n (by omega)]); exact h_askings
  · rw [ui_o (by omega)]; (repeat rw [us_n (by omega)]); exact h_vain
  · intro x0 a0 a1; rw [ui_o (by omega)]; (repeat rw [us_n (by omega)]); exact h_latest x0 a0 a1
  · (repeat rw [ui_o (by omega)]); (repeat rw [us_n (by omega)]); exact h_ta
  · exact h_tt
theorem GR.given_w {I : HI} {g t : Nat} {σ μ : Int → Int} (h : GR I g t σ μ) {p v : Int} (h0 : 0 ≤ p) (h1 : p < 6) : GR (ui I (g + 25) p v) g t (us σ (559 + p) v) μ := by
  have htt := h.tt
  have hhp := h.hp
  unfold GR at h ⊢
  obtain ⟨h_hand, h_known, h_other, h_others, h_caught, h_asks, h_given, h_drew, h_book, h_cards, h_hp, h_heap, h_turn, h_askings, h_vain, h_latest, h_ta, h_tt⟩ := h
  refine ⟨?_, ?_, ?_, ?_, ?_, ?_, ?_, ?_, ?_, ?_, ?_, ?_, ?_, ?_, ?_, ?_, ?_, ?_⟩
  · intro x0 x1 a0 a1 a2 a3; rw [ui_o (by omega)]; (repeat rw [us_n (by omega)]); exact h_hand x0 x1 a0 a1 a2 a3
  · intro x0 x1 a0 a1 a2 a3; rw [ui_o (by omega)]; (repeat rw [us_n (by omega)]); exact h_known x0 x1 a0 a1 a2 a3
  · intro x0 x1 a0 a1 a2 a3 a4; (repeat rw [us_n (by omega)] at a4); rw [ui_o (by omega)]; (repeat rw [us_n (by omega)]); exact h_other x0 x1 a0 a1 a2 a3 a4
  · intro x0 a0 a1; rw [ui_o (by omega)]; (repeat rw [us_n (by omega)]); exact h_others x0 a0 a1
  · intro x0 a0 a1; rw [ui_o (by omega)]; (repeat rw [us_n (by omega)]); exact h_caught x0 a0 a1
  · intro x0 a0 a1; rw [ui_o (by omega)]; (repeat rw [us_n (by omega)]); exact h_asks x0 a0 a1
  · intro x0 a0 a1
    by_cases e : x0 = p
    · subst e; rw [ui_e ⟨rfl, rfl⟩, us_s]
    · rw [ui_o (by omega), us_n (by omega)]; exact h_given x0 a0 a1
  · intro x0 a0 a1; rw [ui_o (by omega)]; (repeat rw [us_n (by omega)]); exact h_drew x0 a0 a1
  · intro x0 a0 a1; rw [ui_o (by omega)]; (repeat rw [us_n (by omega)]); exact h_book x0 a0 a1
  · intro x0 a0 a1; rw [ui_o (by omega)]; (repeat rw [us_n (by omega)]); exact h_cards x0 a0 a1
  · (repeat rw [ui_o (by omega)]); (repeat rw [us_n (by omega)]); exact h_hp
  · intro x0 a0 a1; (repeat rw [us_n (by omega)] at a1); (repeat rw [ui_o (by omega)]); (repeat rw [us_n (by omega)]); exact h_heap x0 a0 a1
  · rw [ui_o (by omega)]; (repeat rw [us_n (by omega)]); exact h_turn
  · rw [ui_o (by omega)]; (repeat rw [us_n (by omega)]); exact h_askings
  · rw [ui_o (by omega)]; (repeat rw [us_n (by omega)]); exact h_vain
  · intro x0 a0 a1; rw [ui_o (by omega)]; (repeat rw [us_n (by omega)]); exact h_latest x0 a0 a1
  · (repeat rw [ui_o (by omega)]); (repeat rw [us_n (by omega)]); exact h_ta
  · exact h_tt
theorem GR.drew_w {I : HI} {g t : Nat} {σ μ : Int → Int} (h : GR I g t σ μ) {p v : Int} (h0 : 0 ≤ p) (h1 : p < 6) : GR (ui I (g + 26) p v) g t (us σ (565 + p) (v + 1)) μ := by
  have htt := h.tt
  have hhp := h.hp
  unfold GR at h ⊢
  obtain ⟨h_hand, h_known, h_other, h_others, h_caught, h_asks, h_given, h_drew, h_book, h_cards, h_hp, h_heap, h_turn, h_askings, h_vain, h_latest, h_ta, h_tt⟩ := h
  refine ⟨?_, ?_, ?_, ?_, ?_, ?_, ?_, ?_, ?_, ?_, ?_, ?_, ?_, ?_, ?_, ?_, ?_, ?_⟩
  · intro x0 x1 a0 a1 a2 a3; rw [ui_o (by omega)]; (repeat rw [us_n (by omega)]); exact h_hand x0 x1 a0 a1 a2 a3
  · intro x0 x1 a0 a1 a2 a3; rw [ui_o (by omega)]; (repeat rw [us_n (by omega)]); exact h_known x0 x1 a0 a1 a2 a3
  · intro x0 x1 a0 a1 a2 a3 a4; (repeat rw [us_n (by omega)] at a4); rw [ui_o (by omega)]; (repeat rw [us_n (by omega)]); exact h_other x0 x1 a0 a1 a2 a3 a4
  · intro x0 a0 a1; rw [ui_o (by omega)]; (repeat rw [us_n (by omega)]); exact h_others x0 a0 a1
  · intro x0 a0 a1; rw [ui_o (by omega)]; (repeat rw [us_n (by omega)]); exact h_caught x0 a0 a1
  · intro x0 a0 a1; rw [ui_o (by omega)]; (repeat rw [us_n (by omega)]); exact h_asks x0 a0 a1
  · intro x0 a0 a1; rw [ui_o (by omega)]; (repeat rw [us_n (by omega)]); exact h_given x0 a0 a1
  · intro x0 a0 a1
    by_cases e : x0 = p
    · subst e; rw [ui_e ⟨rfl, rfl⟩, us_s]; omega
    · rw [ui_o (by omega), us_n (by omega)]; exact h_drew x0 a0 a1
  · intro x0 a0 a1; rw [ui_o (by omega)]; (repeat rw [us_n (by omega)]); exact h_book x0 a0 a1
  · intro x0 a0 a1; rw [ui_o (by omega)]; (repeat rw [us_n (by omega)]); exact h_cards x0 a0 a1
  · (repeat rw [ui_o (by omega)]); (repeat rw [us_n (by omega)]); exact h_hp
  · intro x0 a0 a1; (repeat rw [us_n (by omega)] at a1); (repeat rw [ui_o (by omega)]); (repeat rw [us_n (by omega)]); exact h_heap x0 a0 a1
  · rw [ui_o (by omega)]; (repeat rw [us_n (by omega)]); exact h_turn
  · rw [ui_o (by omega)]; (repeat rw [us_n (by omega)]); exact h_askings
  · rw [ui_o (by omega)]; (repeat rw [us_n (by omega)]); exact h_vain
  · intro x0 a0 a1; rw [ui_o (by omega)]; (repeat rw [us_n (by omega)]); exact h_latest x0 a0 a1
  · (repeat rw [ui_o (by omega)]); (repeat rw [us_n (by omega)]); exact h_ta
  · exact h_tt
theorem GR.book_w {I : HI} {g t : Nat} {σ μ : Int → Int} (h : GR I g t σ μ) {k v : Int} (h0 : 0 ≤ k) (h1 : k < 13) : GR (ui I (g + 27) k v) g t (us σ (138 + k) (v + 1)) μ := by
  have htt := h.tt
  have hhp := h.hp
  unfold GR at h ⊢
  obtain ⟨h_hand, h_known, h_other, h_others, h_caught, h_asks, h_given, h_drew, h_book, h_cards, h_hp, h_heap, h_turn, h_askings, h_vain, h_latest, h_ta, h_tt⟩ := h
  refine ⟨?_, ?_, ?_, ?_, ?_, ?_, ?_, ?_, ?_, ?_, ?_, ?_, ?_, ?_, ?_, ?_, ?_, ?_⟩
  · intro x0 x1 a0 a1 a2 a3; rw [ui_o (by omega)]; (repeat rw [us_n (by omega)]); exact h_hand x0 x1 a0 a1 a2 a3
  · intro x0 x1 a0 a1 a2 a3; rw [ui_o (by omega)]; (repeat rw [us_n (by omega)]); exact h_known x0 x1 a0 a1 a2 a3
  · intro x0 x1 a0 a1 a2 a3 a4; (repeat rw [us_n (by omega)] at a4); rw [ui_o (by omega)]; (repeat rw [us_n (by omega)]); exact h_other x0 x1 a0 a1 a2 a3 a4
  · intro x0 a0 a1; rw [ui_o (by omega)]; (repeat rw [us_n (by omega)]); exact h_others x0 a0 a1
  · intro x0 a0 a1; rw [ui_o (by omega)]; (repeat rw [us_n (by omega)]); exact h_caught x0 a0 a1
  · intro x0 a0 a1; rw [ui_o (by omega)]; (repeat rw [us_n (by omega)]); exact h_asks x0 a0 a1
  · intro x0 a0 a1; rw [ui_o (by omega)]; (repeat rw [us_n (by omega)]); exact h_given x0 a0 a1
  · intro x0 a0 a1; rw [ui_o (by omega)]; (repeat rw [us_n (by omega)]); exact h_drew x0 a0 a1
  · intro x0 a0 a1
    by_cases e : x0 = k
    · subst e; rw [ui_e ⟨rfl, rfl⟩, us_s]; omega
    · rw [ui_o (by omega), us_n (by omega)]; exact h_book x0 a0 a1
  · intro x0 a0 a1; rw [ui_o (by omega)]; (repeat rw [us_n (by omega)]); exact h_cards x0 a0 a1
  · (repeat rw [ui_o (by omega)]); (repeat rw [us_n (by omega)]); exact h_hp
  · intro x0 a0 a1; (repeat rw [us_n (by omega)] at a1); (repeat rw [ui_o (by omega)]); (repeat rw [us_n (by omega)]); exact h_heap x0 a0 a1
  · rw [ui_o (by omega)]; (repeat rw [us_n (by omega)]); exact h_turn
  · rw [ui_o (by omega)]; (repeat rw [us_n (by omega)]); exact h_askings
  · rw [ui_o (by omega)]; (repeat rw [us_n (by omega)]); exact h_vain
  · intro x0 a0 a1; rw [ui_o (by omega)]; (repeat rw [us_n (by omega)]); exact h_latest x0 a0 a1
  · (repeat rw [ui_o (by omega)]); (repeat rw [us_n (by omega)]); exact h_ta
  · exact h_tt
theorem GR.cards_w {I : HI} {g t : Nat} {σ μ : Int → Int} (h : GR I g t σ μ) {k v : Int} (h0 : 0 ≤ k) (h1 : k < 13) : GR (ui I (g + 29) k v) g t (us σ (571 + k) v) μ := by
  have htt := h.tt
  have hhp := h.hp
  unfold GR at h ⊢
  obtain ⟨h_hand, h_known, h_other, h_others, h_caught, h_asks, h_given, h_drew, h_book, h_cards, h_hp, h_heap, h_turn, h_askings, h_vain, h_latest, h_ta, h_tt⟩ := h
  refine ⟨?_, ?_, ?_, ?_, ?_, ?_, ?_, ?_, ?_, ?_, ?_, ?_, ?_, ?_, ?_, ?_, ?_, ?_⟩
  · intro x0 x1 a0 a1 a2 a3; rw [ui_o (by omega)]; (repeat rw [us_n (by omega)]); exact h_hand x0 x1 a0 a1 a2 a3
  · intro x0 x1 a0 a1 a2 a3; rw [ui_o (by omega)]; (repeat rw [us_n (by omega)]); exact h_known x0 x1 a0 a1 a2 a3
  · intro x0 x1 a0 a1 a2 a3 a4; (repeat rw [us_n (by omega)] at a4); rw [ui_o (by omega)]; (repeat rw [us_n (by omega)]); exact h_other x0 x1 a0 a1 a2 a3 a4
  · intro x0 a0 a1; rw [ui_o (by omega)]; (repeat rw [us_n (by omega)]); exact h_others x0 a0 a1
  · intro x0 a0 a1; rw [ui_o (by omega)]; (repeat rw [us_n (by omega)]); exact h_caught x0 a0 a1
  · intro x0 a0 a1; rw [ui_o (by omega)]; (repeat rw [us_n (by omega)]); exact h_asks x0 a0 a1
  · intro x0 a0 a1; rw [ui_o (by omega)]; (repeat rw [us_n (by omega)]); exact h_given x0 a0 a1
  · intro x0 a0 a1; rw [ui_o (by omega)]; (repeat rw [us_n (by omega)]); exact h_drew x0 a0 a1
  · intro x0 a0 a1; rw [ui_o (by omega)]; (repeat rw [us_n (by omega)]); exact h_book x0 a0 a1
  · intro x0 a0 a1
    by_cases e : x0 = k
    · subst e; rw [ui_e ⟨rfl, rfl⟩, us_s]
    · rw [ui_o (by omega), us_n (by omega)]; exact h_cards x0 a0 a1
  · (repeat rw [ui_o (by omega)]); (repeat rw [us_n (by omega)]); exact h_hp
  · intro x0 a0 a1; (repeat rw [us_n (by omega)] at a1); (repeat rw [ui_o (by omega)]); (repeat rw [us_n (by omega)]); exact h_heap x0 a0 a1
  · rw [ui_o (by omega)]; (repeat rw [us_n (by omega)]); exact h_turn
  · rw [ui_o (by omega)]; (repeat rw [us_n (by omega)]); exact h_askings
  · rw [ui_o (by omega)]; (repeat rw [us_n (by omega)]); exact h_vain
  · intro x0 a0 a1; rw [ui_o (by omega)]; (repeat rw [us_n (by omega)]); exact h_latest x0 a0 a1
  · (repeat rw [ui_o (by omega)]); (repeat rw [us_n (by omega)]); exact h_ta
  · exact h_tt
theorem GR.others_d {I : HI} {g t : Nat} {σ μ : Int → Int} (h : GR I g t σ μ) {p v : Int} (h0 : 0 ≤ p) (h1 : p < 6) (hv : v ≤ σ (229 + p)) : GR (ui I (g + 22) p v) g t (us σ (229 + p) v) μ := by
  have htt := h.tt
  have hhp := h.hp
  unfold GR at h ⊢
  obtain ⟨h_hand, h_known, h_other, h_others, h_caught, h_asks, h_given, h_drew, h_book, h_cards, h_hp, h_heap, h_turn, h_askings, h_vain, h_latest, h_ta, h_tt⟩ := h
  refine ⟨?_, ?_, ?_, ?_, ?_, ?_, ?_, ?_, ?_, ?_, ?_, ?_, ?_, ?_, ?_, ?_, ?_, ?_⟩
  · intro x0 x1 a0 a1 a2 a3; rw [ui_o (by omega)]; (repeat rw [us_n (by omega)]); exact h_hand x0 x1 a0 a1 a2 a3
  · intro x0 x1 a0 a1 a2 a3; rw [ui_o (by omega)]; (repeat rw [us_n (by omega)]); exact h_known x0 x1 a0 a1 a2 a3
  · intro x0 x1 a0 a1 a2 a3 a4
    rw [ui_o (by omega), us_n (by omega)]
    have a5 : x1 < σ (229 + x0) := by
      by_cases e : x0 = p
      · subst e; rw [us_s] at a4; omega
      · rw [us_n (by omega)] at a4; exact a4
    exact h_other x0 x1 a0 a1 a2 a3 a5
  · intro x0 a0 a1
    by_cases e : x0 = p
    · subst e; rw [ui_e ⟨rfl, rfl⟩, us_s]
    · rw [ui_o (by omega), us_n (by omega)]; exact h_others x0 a0 a1
  · intro x0 a0 a1; rw [ui_o (by omega)]; (repeat rw [us_n (by omega)]); exact h_caught x0 a0 a1
  · intro x0 a0 a1; rw [ui_o (by omega)]; (repeat rw [us_n (by omega)]); exact h_asks x0 a0 a1
  · intro x0 a0 a1; rw [ui_o (by omega)]; (repeat rw [us_n (by omega)]); exact h_given x0 a0 a1
  · intro x0 a0 a1; rw [ui_o (by omega)]; (repeat rw [us_n (by omega)]); exact h_drew x0 a0 a1
  · intro x0 a0 a1; rw [ui_o (by omega)]; (repeat rw [us_n (by omega)]); exact h_book x0 a0 a1
  · intro x0 a0 a1; rw [ui_o (by omega)]; (repeat rw [us_n (by omega)]); exact h_cards x0 a0 a1
  · (repeat rw [ui_o (by omega)]); (repeat rw [us_n (by omega)]); exact h_hp
  · intro x0 a0 a1; (repeat rw [us_n (by omega)] at a1); (repeat rw [ui_o (by omega)]); (repeat rw [us_n (by omega)]); exact h_heap x0 a0 a1
  · rw [ui_o (by omega)]; (repeat rw [us_n (by omega)]); exact h_turn
  · rw [ui_o (by omega)]; (repeat rw [us_n (by omega)]); exact h_askings
  · rw [ui_o (by omega)]; (repeat rw [us_n (by omega)]); exact h_vain
  · intro x0 a0 a1; rw [ui_o (by omega)]; (repeat rw [us_n (by omega)]); exact h_latest x0 a0 a1
  · (repeat rw [ui_o (by omega)]); (repeat rw [us_n (by omega)]); exact h_ta
  · exact h_tt
theorem GR.others_u {I : HI} {g t : Nat} {σ μ : Int → Int} (h : GR I g t σ μ) {p : Int} (h0 : 0 ≤ p) (h1 : p < 6) (hx : I (g + 16 + p.toNat) (σ (229 + p)) = σ (235 + 52 * p + σ (229 + p))) : GR (ui I (g + 22) p (σ (229 + p) + 1)) g t (us σ (229 + p) (σ (229 + p) + 1)) μ := by
  have htt := h.tt
  have hhp := h.hp
  unfold GR at h ⊢
  obtain ⟨h_hand, h_known, h_other, h_others, h_caught, h_asks, h_given, h_drew, h_book, h_cards, h_hp, h_heap, h_turn, h_askings, h_vain, h_latest, h_ta, h_tt⟩ := h
  refine ⟨?_, ?_, ?_, ?_, ?_, ?_, ?_, ?_, ?_, ?_, ?_, ?_, ?_, ?_, ?_, ?_, ?_, ?_⟩
  · intro x0 x1 a0 a1 a2 a3; rw [ui_o (by omega)]; (repeat rw [us_n (by omega)]); exact h_hand x0 x1 a0 a1 a2 a3
  · intro x0 x1 a0 a1 a2 a3; rw [ui_o (by omega)]; (repeat rw [us_n (by omega)]); exact h_known x0 x1 a0 a1 a2 a3
  · intro x0 x1 a0 a1 a2 a3 a4
    rw [ui_o (by omega), us_n (by omega)]
    by_cases e : x0 = p
    · subst e
      rw [us_s] at a4
      by_cases e2 : x1 = σ (229 + x0)
      · rw [e2]; exact hx
      · exact h_other x0 x1 a0 a1 a2 a3 (by omega)
    · rw [us_n (by omega)] at a4
      exact h_other x0 x1 a0 a1 a2 a3 a4
  · intro x0 a0 a1
    by_cases e : x0 = p
    · subst e; rw [ui_e ⟨rfl, rfl⟩, us_s]
    · rw [ui_o (by omega), us_n (by omega)]; exact h_others x0 a0 a1
  · intro x0 a0 a1; rw [ui_o (by omega)]; (repeat rw [us_n (by omega)]); exact h_caught x0 a0 a1
  · intro x0 a0 a1; rw [ui_o (by omega)]; (repeat rw [us_n (by omega)]); exact h_asks x0 a0 a1
  · intro x0 a0 a1; rw [ui_o (by omega)]; (repeat rw [us_n (by omega)]); exact h_given x0 a0 a1
  · intro x0 a0 a1; rw [ui_o (by omega)]; (repeat rw [us_n (by omega)]); exact h_drew x0 a0 a1
  · intro x0 a0 a1; rw [ui_o (by omega)]; (repeat rw [us_n (by omega)]); exact h_book x0 a0 a1
  · intro x0 a0 a1; rw [ui_o (by omega)]; (repeat rw [us_n (by omega)]); exact h_cards x0 a0 a1
  · (repeat rw [ui_o (by omega)]); (repeat rw [us_n (by omega)]); exact h_hp
  · intro x0 a0 a1; (repeat rw [us_n (by omega)] at a1); (repeat rw [ui_o (by omega)]); (repeat rw [us_n (by omega)]); exact h_heap x0 a0 a1
  · rw [ui_o (by omega)]; (repeat rw [us_n (by omega)]); exact h_turn
  · rw [ui_o (by omega)]; (repeat rw [us_n (by omega)]); exact h_askings
  · rw [ui_o (by omega)]; (repeat rw [us_n (by omega)]); exact h_vain
  · intro x0 a0 a1; rw [ui_o (by omega)]; (repeat rw [us_n (by omega)]); exact h_latest x0 a0 a1
  · (repeat rw [ui_o (by omega)]); (repeat rw [us_n (by omega)]); exact h_ta
  · exact h_tt
theorem GR.turn_w {I : HI} {g t : Nat} {σ μ : Int → Int} (h : GR I g t σ μ) {v : Int} : GR (ui I g 14 v) g t (us σ 4 v) μ := by
  have htt := h.tt
  have hhp := h.hp
  unfold GR at h ⊢
  obtain ⟨h_hand, h_known, h_other, h_others, h_caught, h_asks, h_given, h_drew, h_book, h_cards, h_hp, h_heap, h_turn, h_askings, h_vain, h_latest, h_ta, h_tt⟩ := h
  refine ⟨?_, ?_, ?_, ?_, ?_, ?_, ?_, ?_, ?_, ?_, ?_, ?_, ?_, ?_, ?_, ?_, ?_, ?_⟩
  · intro x0 x1 a0 a1 a2 a3; rw [ui_o (by omega)]; (repeat rw [us_n (by omega)]); exact h_hand x0 x1 a0 a1 a2 a3
  · intro x0 x1 a0 a1 a2 a3; rw [ui_o (by omega)]; (repeat rw [us_n (by omega)]); exact h_known x0 x1 a0 a1 a2 a3
  · intro x0 x1 a0 a1 a2 a3 a4; (repeat rw [us_n (by omega)] at a4); rw [ui_o (by omega)]; (repeat rw [us_n (by omega)]); exact h_other x0 x1 a0 a1 a2 a3 a4
  · intro x0 a0 a1; rw [ui_o (by omega)]; (repeat rw [us_n (by omega)]); exact h_others x0 a0 a1
  · intro x0 a0 a1; rw [ui_o (by omega)]; (repeat rw [us_n (by omega)]); exact h_caught x0 a0 a1
  · intro x0 a0 a1; rw [ui_o (by omega)]; (repeat rw [us_n (by omega)]); exact h_asks x0 a0 a1
  · intro x0 a0 a1; rw [ui_o (by omega)]; (repeat rw [us_n (by omega)]); exact h_given x0 a0 a1
  · intro x0 a0 a1; rw [ui_o (by omega)]; (repeat rw [us_n (by omega)]); exact h_drew x0 a0 a1
  · intro x0 a0 a1; rw [ui_o (by omega)]; (repeat rw [us_n (by omega)]); exact h_book x0 a0 a1
  · intro x0 a0 a1; rw [ui_o (by omega)]; (repeat rw [us_n (by omega)]); exact h_cards x0 a0 a1
  · (repeat rw [ui_o (by omega)]); (repeat rw [us_n (by omega)]); exact h_hp
  · intro x0 a0 a1; (repeat rw [us_n (by omega)] at a1); (repeat rw [ui_o (by omega)]); (repeat rw [us_n (by omega)]); exact h_heap x0 a0 a1
  · rw [ui_e ⟨rfl, rfl⟩, us_s]
  · rw [ui_o (by omega)]; (repeat rw [us_n (by omega)]); exact h_askings
  · rw [ui_o (by omega)]; (repeat rw [us_n (by omega)]); exact h_vain
  · intro x0 a0 a1; rw [ui_o (by omega)]; (repeat rw [us_n (by omega)]); exact h_latest x0 a0 a1
  · (repeat rw [ui_o (by omega)]); (repeat rw [us_n (by omega)]); exact h_ta
  · exact h_tt
theorem GR.askings_w {I : HI} {g t : Nat} {σ μ : Int → Int} (h : GR I g t σ μ) {v : Int} : GR (ui I g 15 v) g t (us σ 5 v) μ := by
  have htt := h.tt
  have hhp := h.hp
  unfold GR at h ⊢
  obtain ⟨h_hand, h_known, h_other, h_others, h_caught, h_asks, h_given, h_drew, h_book, h_cards, h_hp, h_heap, h_turn, h_askings, h_vain, h_latest, h_ta, h_tt⟩ := h
  refine ⟨?_, ?_, ?_, ?_, ?_, ?_, ?_, ?_, ?_, ?_, ?_, ?_, ?_, ?_, ?_, ?_, ?_, ?_⟩
  · intro x0 x1 a0 a1 a2 a3; rw [ui_o (by omega)]; (repeat rw [us_n (by omega)]); exact h_hand x0 x1 a0 a1 a2 a3
  · intro x0 x1 a0 a1 a2 a3; rw [ui_o (by omega)]; (repeat rw [us_n (by omega)]); exact h_known x0 x1 a0 a1 a2 a3
  · intro x0 x1 a0 a1 a2 a3 a4; (repeat rw [us_n (by omega)] at a4); rw [ui_o (by omega)]; (repeat rw [us_n (by omega)]); exact h_other x0 x1 a0 a1 a2 a3 a4
  · intro x0 a0 a1; rw [ui_o (by omega)]; (repeat rw [us_n (by omega)]); exact h_others x0 a0 a1
  · intro x0 a0 a1; rw [ui_o (by omega)]; (repeat rw [us_n (by omega)]); exact h_caught x0 a0 a1
  · intro x0 a0 a1; rw [ui_o (by omega)]; (repeat rw [us_n (by omega)]); exact h_asks x0 a0 a1
  · intro x0 a0 a1; rw [ui_o (by omega)]; (repeat rw [us_n (by omega)]); exact h_given x0 a0 a1
  · intro x0 a0 a1; rw [ui_o (by omega)]; (repeat rw [us_n (by omega)]); exact h_drew x0 a0 a1
  · intro x0 a0 a1; rw [ui_o (by omega)]; (repeat rw [us_n (by omega)]); exact h_book x0 a0 a1
  · intro x0 a0 a1; rw [ui_o (by omega)]; (repeat rw [us_n (by omega)]); exact h_cards x0 a0 a1
  · (repeat rw [ui_o (by omega)]); (repeat rw [us_n (by omega)]); exact h_hp
  · intro x0 a0 a1; (repeat rw [us_n (by omega)] at a1); (repeat rw [ui_o (by omega)]); (repeat rw [us_n (by omega)]); exact h_heap x0 a0 a1
  · rw [ui_o (by omega)]; (repeat rw [us_n (by omega)]); exact h_turn
  · rw [ui_e ⟨rfl, rfl⟩, us_s]
  · rw [ui_o (by omega)]; (repeat rw [us_n (by omega)]); exact h_vain
  · intro x0 a0 a1; rw [ui_o (by omega)]; (repeat rw [us_n (by omega)]); exact h_latest x0 a0 a1
  · (repeat rw [ui_o (by omega)]); (repeat rw [us_n (by omega)]); exact h_ta
  · exact h_tt
theorem GR.vain_w {I : HI} {g t : Nat} {σ μ : Int → Int} (h : GR I g t σ μ) {v : Int} : GR (ui I g 16 v) g t (us σ 6 v) μ := by
  have htt := h.tt
  have hhp := h.hp
  unfold GR at h ⊢
  obtain ⟨h_hand, h_known, h_other, h_others, h_caught, h_asks, h_given, h_drew, h_book, h_cards, h_hp, h_heap, h_turn, h_askings, h_vain, h_latest, h_ta, h_tt⟩ := h
  refine ⟨?_, ?_, ?_, ?_, ?_, ?_, ?_, ?_, ?_, ?_, ?_, ?_, ?_, ?_, ?_, ?_, ?_, ?_⟩
  · intro x0 x1 a0 a1 a2 a3; rw [ui_o (by omega)]; (repeat rw [us_n (by omega)]); exact h_hand x0 x1 a0 a1 a2 a3
  · intro x0 x1 a0 a1 a2 a3; rw [ui_o (by omega)]; (repeat rw [us_n (by omega)]); exact h_known x0 x1 a0 a1 a2 a3
  · intro x0 x1 a0 a1 a2 a3 a4; (repeat rw [us_n (by omega)] at a4); rw [ui_o (by omega)]; (repeat rw [us_n (by omega)]); exact h_other x0 x1 a0 a1 a2 a3 a4
  · intro x0 a0 a1; rw [ui_o (by omega)]; (repeat rw [us_n (by omega)]); exact h_others x0 a0 a1
  · intro x0 a0 a1; rw [ui_o (by omega)]; (repeat rw [us_n (by omega)]); exact h_caught x0 a0 a1
  · intro x0 a0 a1; rw [ui_o (by omega)]; (repeat rw [us_n (by omega)]); exact h_asks x0 a0 a1
  · intro x0 a0 a1; rw [ui_o (by omega)]; (repeat rw [us_n (by omega)]); exact h_given x0 a0 a1
  · intro x0 a0 a1; rw [ui_o (by omega)]; (repeat rw [us_n (by omega)]); exact h_drew x0 a0 a1
  · intro x0 a0 a1; rw [ui_o (by omega)]; (repeat rw [us_n (by omega)]); exact h_book x0 a0 a1
  · intro x0 a0 a1; rw [ui_o (by omega)]; (repeat rw [us_n (by omega)]); exact h_cards x0 a0 a1
  · (repeat rw [ui_o (by omega)]); (repeat rw [us_n (by omega)]); exact h_hp
  · intro x0 a0 a1; (repeat rw [us_n (by omega)] at a1); (repeat rw [ui_o (by omega)]); (repeat rw [us_n (by omega)]); exact h_heap x0 a0 a1
  · rw [ui_o (by omega)]; (repeat rw [us_n (by omega)]); exact h_turn
  · rw [ui_o (by omega)]; (repeat rw [us_n (by omega)]); exact h_askings
  · rw [ui_e ⟨rfl, rfl⟩, us_s]
  · intro x0 a0 a1; rw [ui_o (by omega)]; (repeat rw [us_n (by omega)]); exact h_latest x0 a0 a1
  · (repeat rw [ui_o (by omega)]); (repeat rw [us_n (by omega)]); exact h_ta
  · exact h_tt
theorem GR.latest_w {I : HI} {g t : Nat} {σ μ : Int → Int} (h : GR I g t σ μ) {k v : Int} (h0 : 0 ≤ k) (h1 : k < 8) : GR (ui I (g + 30) k v) g t σ (us μ k v) := by
  have htt := h.tt
  have hhp := h.hp
  unfold GR at h ⊢
  obtain ⟨h_hand, h_known, h_other, h_others, h_caught, h_asks, h_given, h_drew, h_book, h_cards, h_hp, h_heap, h_turn, h_askings, h_vain, h_latest, h_ta, h_tt⟩ := h
  refine ⟨?_, ?_, ?_, ?_, ?_, ?_, ?_, ?_, ?_, ?_, ?_, ?_, ?_, ?_, ?_, ?_, ?_, ?_⟩
  · intro x0 x1 a0 a1 a2 a3; rw [ui_o (by omega)]; (repeat rw [us_n (by omega)]); exact h_hand x0 x1 a0 a1 a2 a3
  · intro x0 x1 a0 a1 a2 a3; rw [ui_o (by omega)]; (repeat rw [us_n (by omega)]); exact h_known x0 x1 a0 a1 a2 a3
  · intro x0 x1 a0 a1 a2 a3 a4; (repeat rw [us_n (by omega)] at a4); rw [ui_o (by omega)]; (repeat rw [us_n (by omega)]); exact h_other x0 x1 a0 a1 a2 a3 a4
  · intro x0 a0 a1; rw [ui_o (by omega)]; (repeat rw [us_n (by omega)]); exact h_others x0 a0 a1
  · intro x0 a0 a1; rw [ui_o (by omega)]; (repeat rw [us_n (by omega)]); exact h_caught x0 a0 a1
  · intro x0 a0 a1; rw [ui_o (by omega)]; (repeat rw [us_n (by omega)]); exact h_asks x0 a0 a1
  · intro x0 a0 a1; rw [ui_o (by omega)]; (repeat rw [us_n (by omega)]); exact h_given x0 a0 a1
  · intro x0 a0 a1; rw [ui_o (by omega)]; (repeat rw [us_n (by omega)]); exact h_drew x0 a0 a1
  · intro x0 a0 a1; rw [ui_o (by omega)]; (repeat rw [us_n (by omega)]); exact h_book x0 a0 a1
  · intro x0 a0 a1; rw [ui_o (by omega)]; (repeat rw [us_n (by omega)]); exact h_cards x0 a0 a1
  · (repeat rw [ui_o (by omega)]); (repeat rw [us_n (by omega)]); exact h_hp
  · intro x0 a0 a1; (repeat rw [us_n (by omega)] at a1); (repeat rw [ui_o (by omega)]); (repeat rw [us_n (by omega)]); exact h_heap x0 a0 a1
  · rw [ui_o (by omega)]; (repeat rw [us_n (by omega)]); exact h_turn
  · rw [ui_o (by omega)]; (repeat rw [us_n (by omega)]); exact h_askings
  · rw [ui_o (by omega)]; (repeat rw [us_n (by omega)]); exact h_vain
  · intro x0 a0 a1
    by_cases e : x0 = k
    · subst e; rw [ui_e ⟨rfl, rfl⟩, us_s]
    · rw [ui_o (by omega), us_n e]; exact h_latest x0 a0 a1
  · (repeat rw [ui_o (by omega)]); (repeat rw [us_n (by omega)]); exact h_ta
  · exact h_tt
theorem GR.seed_w {I : HI} {g t : Nat} {σ μ : Int → Int} (h : GR I g t σ μ) {v : Int} : GR (ui I g 18 v) g t σ μ := by
  have htt := h.tt
  have hhp := h.hp
  unfold GR at h ⊢
  obtain ⟨h_hand, h_known, h_other, h_others, h_caught, h_asks, h_given, h_drew, h_book, h_cards, h_hp, h_heap, h_turn, h_askings, h_vain, h_latest, h_ta, h_tt⟩ := h
  refine ⟨?_, ?_, ?_, ?_, ?_, ?_, ?_, ?_, ?_, ?_, ?_, ?_, ?_, ?_, ?_, ?_, ?_, ?_⟩
  · intro x0 x1 a0 a1 a2 a3; rw [ui_o (by omega)]; (repeat rw [us_n (by omega)]); exact h_hand x0 x1 a0 a1 a2 a3
  · intro x0 x1 a0 a1 a2 a3; rw [ui_o (by omega)]; (repeat rw [us_n (by omega)]); exact h_known x0 x1 a0 a1 a2 a3
  · intro x0 x1 a0 a1 a2 a3 a4; (repeat rw [us_n (by omega)] at a4); rw [ui_o (by omega)]; (repeat rw [us_n (by omega)]); exact h_other x0 x1 a0 a1 a2 a3 a4
  · intro x0 a0 a1; rw [ui_o (by omega)]; (repeat rw [us_n (by omega)]); exact h_others x0 a0 a1
  · intro x0 a0 a1; rw [ui_o (by omega)]; (repeat rw [us_n (by omega)]); exact h_caught x0 a0 a1
  · intro x0 a0 a1; rw [ui_o (by omega)]; (repeat rw [us_n (by omega)]); exact h_asks x0 a0 a1
  · intro x0 a0 a1; rw [ui_o (by omega)]; (repeat rw [us_n (by omega)]); exact h_given x0 a0 a1
  · intro x0 a0 a1; rw [ui_o (by omega)]; (repeat rw [us_n (by omega)]); exact h_drew x0 a0 a1
  · intro x0 a0 a1; rw [ui_o (by omega)]; (repeat rw [us_n (by omega)]); exact h_book x0 a0 a1
  · intro x0 a0 a1; rw [ui_o (by omega)]; (repeat rw [us_n (by omega)]); exact h_cards x0 a0 a1
  · (repeat rw [ui_o (by omega)]); (repeat rw [us_n (by omega)]); exact h_hp
  · intro x0 a0 a1; (repeat rw [us_n (by omega)] at a1); (repeat rw [ui_o (by omega)]); (repeat rw [us_n (by omega)]); exact h_heap x0 a0 a1
  · rw [ui_o (by omega)]; (repeat rw [us_n (by omega)]); exact h_turn
  · rw [ui_o (by omega)]; (repeat rw [us_n (by omega)]); exact h_askings
  · rw [ui_o (by omega)]; (repeat rw [us_n (by omega)]); exact h_vain
  · intro x0 a0 a1; rw [ui_o (by omega)]; (repeat rw [us_n (by omega)]); exact h_latest x0 a0 a1
  · (repeat rw [ui_o (by omega)]); (repeat rw [us_n (by omega)]); exact h_ta
  · exact h_tt
theorem dl8 {σ : Int → Int} {j : Int} (h52 : σ 7 ≤ 52) (hj : j < 7 ∨ 60 ≤ j) : dl (us σ 7 (σ 7 - 1)) 8 (σ 7 - 1) 0 j = σ j := by
  unfold dl; rw [if_neg (by omega), us_n (by omega)]
theorem GR.draw_w {I : HI} {g t : Nat} {σ μ : Int → Int} (h : GR I g t σ μ) (h7 : 0 < σ 7) (h52 : σ 7 ≤ 52) : GR (ui I g 12 (I g 12 + 1)) g t (dl (us σ 7 (σ 7 - 1)) 8 (σ 7 - 1) 0) μ := by
  have htt := h.tt
  have e7 : dl (us σ 7 (σ 7 - 1)) 8 (σ 7 - 1) 0 7 = σ 7 - 1 := by unfold dl; rw [if_neg (by omega), us_s]
  unfold GR at h ⊢
  obtain ⟨h_hand, h_known, h_other, h_others, h_caught, h_asks, h_given, h_drew, h_book, h_cards, h_hp, h_heap, h_turn, h_askings, h_vain, h_latest, h_ta, h_tt⟩ := h
  refine ⟨?_, ?_, ?_, ?_, ?_, ?_, ?_, ?_, ?_, ?_, ?_, ?_, ?_, ?_, ?_, ?_, ?_, ?_⟩
  · intro x0 x1 a0 a1 a2 a3; rw [ui_o (by omega), dl8 h52 (by omega)]; exact h_hand x0 x1 a0 a1 a2 a3
  · intro x0 x1 a0 a1 a2 a3; rw [ui_o (by omega), dl8 h52 (by omega)]; exact h_known x0 x1 a0 a1 a2 a3
  · intro x0 x1 a0 a1 a2 a3 a4; rw [dl8 h52 (by omega)] at a4; rw [ui_o (by omega), dl8 h52 (by omega)]; exact h_other x0 x1 a0 a1 a2 a3 a4
  · intro x0 a0 a1; rw [ui_o (by omega), dl8 h52 (by omega)]; exact h_others x0 a0 a1
  · intro x0 a0 a1; rw [ui_o (by omega), dl8 h52 (by omega)]; exact h_caught x0 a0 a1
  · intro x0 a0 a1; rw [ui_o (by omega), dl8 h52 (by omega)]; exact h_asks x0 a0 a1
  · intro x0 a0 a1; rw [ui_o (by omega), dl8 h52 (by omega)]; exact h_given x0 a0 a1
  · intro x0 a0 a1; rw [ui_o (by omega), dl8 h52 (by omega)]; exact h_drew x0 a0 a1
  · intro x0 a0 a1; rw [ui_o (by omega), dl8 h52 (by omega)]; exact h_book x0 a0 a1
  · intro x0 a0 a1; rw [ui_o (by omega), dl8 h52 (by omega)]; exact h_cards x0 a0 a1
  · rw [ui_e ⟨rfl, rfl⟩, ui_o (by omega), e7]; omega
  · intro x0 a0 a1
    rw [e7] at a1
    rw [ui_e ⟨rfl, rfl⟩, ui_o (by omega)]
    have q := h_heap (x0 + 1) (by omega) (by omega)
    have e : dl (us σ 7 (σ 7 - 1)) 8 (σ 7 - 1) 0 (8 + x0) = σ (8 + (x0 + 1)) := by
      unfold dl; rw [if_pos (by omega), us_n (by omega)]; congr 1; omega
    rw [e, ← q]; congr 1; omega
  · rw [ui_o (by omega), dl8 h52 (by omega)]; exact h_turn
  · rw [ui_o (by omega), dl8 h52 (by omega)]; exact h_askings
  · rw [ui_o (by omega), dl8 h52 (by omega)]; exact h_vain
  · intro x0 a0 a1; rw [ui_o (by omega)]; exact h_latest x0 a0 a1
  · (repeat rw [ui_o (by omega)]); (repeat rw [dl8 h52 (by omega)]); exact h_ta
  · exact h_tt

theorem GR.adds_w {I : HI} {g t : Nat} {σ μ : Int → Int} (h : GR I g t σ μ) {p m : Int} (h0 : 0 ≤ p) (h1 : p < 6) (h2 : 0 ≤ σ (229 + p)) (h3 : σ (229 + p) < 52) : GR (ui (ui I (g + 16 + p.toNat) (σ (229 + p)) m) (g + 22) p (σ (229 + p) + 1)) g t (f_adds σ p m) μ := by
  have e1 : us σ (235 + 52 * p + σ (229 + p)) m (229 + p) = σ (229 + p) := us_n (by omega)
  have k := h.other_w (v := m) h0 h1 h2 h3
  have k2 := k.others_u h0 h1 (by rw [e1, ui_e ⟨rfl, rfl⟩, us_s])
  rw [e1] at k2
  exact k2
theorem dl_us {f : Int → Int} {row n i j v : Int} (h : j < row + i) : dl (us f j v) row n i = us (dl f row n i) j v := by
  funext q
  simp only [dl, us]
  by_cases e : row + i ≤ q ∧ q < row + n
  · rw [if_pos e, if_neg (by omega), if_neg (by omega), if_pos e]
  · rw [if_neg e]
    by_cases e2 : q = j
    · rw [if_pos e2, if_pos e2]
    · rw [if_neg e2, if_neg e2, if_neg e]
theorem f_lr_0 {k kind : Int} : ∀ (n : Nat) {σ : Int → Int}, σ (229 + k) = 0 → f_lr σ k kind n = σ
  | 0, _, _ => rfl
  | n + 1, _, h => by unfold f_lr; rw [f_learns_0 h]; exact f_lr_0 n h
section J1
variable {G : GE} {M : MI} {R : Room} {Z : ZP} {cu su : Nat} {I I0 J : HI} {P : HP} {T : HT} {z pc : Nat} {ls : List (Option Value)} {st : List Value} {g t : Nat} {σ μ : Int → Int}
theorem g_hand_w {p k v : Int} (hf : GF g I0 I) (h : GR I g t σ μ) (h0 : 0 ≤ p) (h1 : p < 6) (h2 : 0 ≤ k) (h3 : k < 13) (kk : ∀ I', GF g I0 I' → GR I' g t (us σ (60 + 13 * p + k) v) μ → PW G M R Z cu su I' J P T z pc ls st) : PW G M R Z cu su (ui I (g + 2 + p.toNat) k v) J P T z pc ls st := kk _ (hf.w (by omega) (by omega)) (h.hand_w h0 h1 h2 h3)
theorem g_known_w {p k v : Int} (hf : GF g I0 I) (h : GR I g t σ μ) (h0 : 0 ≤ p) (h1 : p < 6) (h2 : 0 ≤ k) (h3 : k < 13) (kk : ∀ I', GF g I0 I' → GR I' g t (us σ (151 + 13 * p + k) v) μ → PW G M R Z cu su I' J P T z pc ls st) : PW G M R Z cu su (ui I (g + 9 + p.toNat) k v) J P T z pc ls st := kk _ (hf.w (by omega) (by omega)) (h.known_w h0 h1 h2 h3)
theorem g_other_w {p k v : Int} (hf : GF g I0 I) (h : GR I g t σ μ) (h0 : 0 ≤ p) (h1 : p < 6) (h2 : 0 ≤ k) (h3 : k < 52) (kk : ∀ I', GF g I0 I' → GR I' g t (us σ (235 + 52 * p + k) v) μ → PW G M R Z cu su I' J P T z pc ls st) : PW G M R Z cu su (ui I (g + 16 + p.toNat) k v) J P T z pc ls st := kk _ (hf.w (by omega) (by omega)) (h.other_w h0 h1 h2 h3)
theorem g_caught_w {p v : Int} (hf : GF g I0 I) (h : GR I g t σ μ) (h0 : 0 ≤ p) (h1 : p < 6) (kk : ∀ I', GF g I0 I' → GR I' g t (us σ (547 + p) v) μ → PW G M R Z cu su I' J P T z pc ls st) : PW G M R Z cu su (ui I (g + 23) p v) J P T z pc ls st := kk _ (hf.w (by omega) (by omega)) (h.caught_w h0 h1)
theorem g_asks_w {p v : Int} (hf : GF g I0 I) (h : GR I g t σ μ) (h0 : 0 ≤ p) (h1 : p < 6) (kk : ∀ I', GF g I0 I' → GR I' g t (us σ (553 + p) v) μ → PW G M R Z cu su I' J P T z pc ls st) : PW G M R Z cu su (ui I (g + 24) p v) J P T z pc ls st := kk _ (hf.w (by omega) (by omega)) (h.asks_w h0 h1)
theorem g_given_w {p v : Int} (hf : GF g I0 I) (h : GR I g t σ μ) (h0 : 0 ≤ p) (h1 : p < 6) (kk : ∀ I', GF g I0 I' → GR I' g t (us σ (559 + p) v) μ → PW G M R Z cu su I' J P T z pc ls st) : PW G M R Z cu su (ui I (g + 25) p v) J P T z pc ls st := kk _ (hf.w (by omega) (by omega)) (h.given_w h0 h1)
theorem g_drew_w {p v : Int} (hf : GF g I0 I) (h : GR I g t σ μ) (h0 : 0 ≤ p) (h1 : p < 6) (kk : ∀ I', GF g I0 I' → GR I' g t (us σ (565 + p) (v + 1)) μ → PW G M R Z cu su I' J P T z pc ls st) : PW G M R Z cu su (ui I (g + 26) p v) J P T z pc ls st := kk _ (hf.w (by omega) (by omega)) (h.drew_w h0 h1)
theorem g_book_w {k v : Int} (hf : GF g I0 I) (h : GR I g t σ μ) (h0 : 0 ≤ k) (h1 : k < 13) (kk : ∀ I', GF g I0 I' → GR I' g t (us σ (138 + k) (v + 1)) μ → PW G M R Z cu su I' J P T z pc ls st) : PW G M R Z cu su (ui I (g + 27) k v) J P T z pc ls st := kk _ (hf.w (by omega) (by omega)) (h.book_w h0 h1)
theorem g_cards_w {k v : Int} (hf : GF g I0 I) (h : GR I g t σ μ) (h0 : 0 ≤ k) (h1 : k < 13) (kk : ∀ I', GF g I0 I' → GR I' g t (us σ (571 + k) v) μ → PW G M R Z cu su I' J P T z pc ls st) : PW G M R Z cu su (ui I (g + 29) k v) J P T z pc ls st := kk _ (hf.w (by omega) (by omega)) (h.cards_w h0 h1)
theorem g_others_d {p v : Int} (hf : GF g I0 I) (h : GR I g t σ μ) (h0 : 0 ≤ p) (h1 : p < 6) (hv : v ≤ σ (229 + p)) (kk : ∀ I', GF g I0 I' → GR I' g t (us σ (229 + p) v) μ → PW G M R Z cu su I' J P T z pc ls st) : PW G M R Z cu su (ui I (g + 22) p v) J P T z pc ls st := kk _ (hf.w (by omega) (by omega)) (h.others_d h0 h1 hv)
theorem g_others_u {p : Int} (hf : GF g I0 I) (h : GR I g t σ μ) (h0 : 0 ≤ p) (h1 : p < 6) (hx : I (g + 16 + p.toNat) (σ (229 + p)) = σ (235 + 52 * p + σ (229 + p))) (kk : ∀ I', GF g I0 I' → GR I' g t (us σ (229 + p) (σ (229 + p) + 1)) μ → PW G M R Z cu su I' J P T z pc ls st) : PW G M R Z cu su (ui I (g + 22) p (σ (229 + p) + 1)) J P T z pc ls st := kk _ (hf.w (by omega) (by omega)) (h.others_u h0 h1 hx)
theorem g_turn_w {v : Int} (hf : GF g I0 I) (h : GR I g t σ μ) (kk : ∀ I', GF g I0 I' → GR I' g t (us σ 4 v) μ → PW G M R Z cu su I' J P T z pc ls st) : PW G M R Z cu su (ui I g 14 v) J P T z pc ls st := kk _ (hf.w (by omega) (by omega)) (h.turn_w )
theorem g_askings_w {v : Int} (hf : GF g I0 I) (h : GR I g t σ μ) (kk : ∀ I', GF g I0 I' → GR I' g t (us σ 5 v) μ → PW G M R Z cu su I' J P T z pc ls st) : PW G M R Z cu su (ui I g 15 v) J P T z pc ls st := kk _ (hf.w (by omega) (by omega)) (h.askings_w )
theorem g_vain_w {v : Int} (hf : GF g I0 I) (h : GR I g t σ μ) (kk : ∀ I', GF g I0 I' → GR I' g t (us σ 6 v) μ → PW G M R Z cu su I' J P T z pc ls st) : PW G M R Z cu su (ui I g 16 v) J P T z pc ls st := kk _ (hf.w (by omega) (by omega)) (h.vain_w )
theorem g_latest_w {k v : Int} (hf : GF g I0 I) (h : GR I g t σ μ) (h0 : 0 ≤ k) (h1 : k < 8) (kk : ∀ I', GF g I0 I' → GR I' g t σ (us μ k v) → PW G M R Z cu su I' J P T z pc ls st) : PW G M R Z cu su (ui I (g + 30) k v) J P T z pc ls st := kk _ (hf.w (by omega) (by omega)) (h.latest_w h0 h1)
theorem g_seed_w {v : Int} (hf : GF g I0 I) (h : GR I g t σ μ) (kk : ∀ I', GF g I0 I' → GR I' g t σ μ → PW G M R Z cu su I' J P T z pc ls st) : PW G M R Z cu su (ui I g 18 v) J P T z pc ls st := kk _ (hf.w (by omega) (by omega)) (h.seed_w )
theorem g_draw_w (hf : GF g I0 I) (h : GR I g t σ μ) (h7 : 0 < σ 7) (h52 : σ 7 ≤ 52) (kk : ∀ I', GF g I0 I' → GR I' g t (dl (us σ 7 (σ 7 - 1)) 8 (σ 7 - 1) 0) μ → PW G M R Z cu su I' J P T z pc ls st) : PW G M R Z cu su (ui I g 12 (I g 12 + 1)) J P T z pc ls st := kk _ (hf.w (by omega) (by omega)) (h.draw_w h7 h52)
/-- ends of contracts that change a game -/
def qg (J : HI) (P : HP) (T : HT) (z g t : Nat) (I0 : HI) (σ μ : Int → Int) (v : Option Value) : QT := fun v0 I' J' P' T' z' => v0 = v ∧ J' = J ∧ P' = P ∧ T' = T ∧ z' = z ∧ GF g I0 I' ∧ GR I' g t σ μ
theorem qg_i {v : Option Value} : ∀ I', GF g I0 I' → GR I' g t σ μ → qg J P T z g t I0 σ μ v v I' J P T z := fun _ h k => ⟨rfl, rfl, rfl, rfl, rfl, h, k⟩
theorem k_gv (k : ∀ I', GF g I0 I' → GR I' g t σ μ → PW G M R Z cu su I' J P T z pc ls st) : ∀ v I' J' P' T' z', qg J P T z g t I0 σ μ none v I' J' P' T' z' → PW G M R Z cu su I' J' P' T' z' pc ls (v.toList ++ st) := by
  rintro v I' J' P' T' z' ⟨rfl, rfl, rfl, rfl, rfl, h1, h2⟩
  exact k I' h1 h2
theorem k_gi {e : Int} (k : ∀ I', GF g I0 I' → GR I' g t σ μ → PW G M R Z cu su I' J P T z pc ls (iv e :: st)) : ∀ v I' J' P' T' z', qg J P T z g t I0 σ μ (some (iv e)) v I' J' P' T' z' → PW G M R Z cu su I' J' P' T' z' pc ls (v.toList ++ st) := by
  rintro v I' J' P' T' z' ⟨rfl, rfl, rfl, rfl, rfl, h1, h2⟩
  exact k I' h1 h2
theorem k_gr {e : Nat} (k : ∀ I', GF g I0 I' → GR I' g t σ μ → PW G M R Z cu su I' J P T z pc ls (.ref e :: st)) : ∀ v I' J' P' T' z', qg J P T z g t I0 σ μ (some (.ref e)) v I' J' P' T' z' → PW G M R Z cu su I' J' P' T' z' pc ls (v.toList ++ st) := by
  rintro v I' J' P' T' z' ⟨rfl, rfl, rfl, rfl, rfl, h1, h2⟩
  exact k I' h1 h2
end J1
