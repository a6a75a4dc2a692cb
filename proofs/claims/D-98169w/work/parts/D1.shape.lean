/-! ===== exact ends; the model's shape ===== -/
def fe (I : HI) (J : HI) (P : HP) (T : HT) (z : Nat) (v : Option Value) : QT := fun v0 I0 J0 P0 T0 z0 => v0 = v ∧ I0 = I ∧ J0 = J ∧ P0 = P ∧ T0 = T ∧ z0 = z
theorem fe_i {I J : HI} {P : HP} {T : HT} {z : Nat} {v : Option Value} : fe I J P T z v v I J P T z := ⟨rfl, rfl, rfl, rfl, rfl, rfl⟩
section D1
variable {G : GE} {M : MI} {R : Room} {Z : ZP} {cu su : Nat} {I J : HI} {P : HP} {T : HT} {z pc : Nat} {ls : List (Option Value)} {st : List Value}
theorem k_fi {e : Int} (k : PW G M R Z cu su I J P T z pc ls (iv e :: st)) : ∀ v I' J' P' T' z', fe I J P T z (some (iv e)) v I' J' P' T' z' → PW G M R Z cu su I' J' P' T' z' pc ls (v.toList ++ st) := by
  rintro v I' J' P' T' z' ⟨rfl, rfl, rfl, rfl, rfl, rfl⟩
  exact k
theorem k_fj {e : Int} (k : PW G M R Z cu su I J P T z pc ls (jv e :: st)) : ∀ v I' J' P' T' z', fe I J P T z (some (jv e)) v I' J' P' T' z' → PW G M R Z cu su I' J' P' T' z' pc ls (v.toList ++ st) := by
  rintro v I' J' P' T' z' ⟨rfl, rfl, rfl, rfl, rfl, rfl⟩
  exact k
theorem k_fr {e : Nat} (k : PW G M R Z cu su I J P T z pc ls (.ref e :: st)) : ∀ v I' J' P' T' z', fe I J P T z (some (.ref e)) v I' J' P' T' z' → PW G M R Z cu su I' J' P' T' z' pc ls (v.toList ++ st) := by
  rintro v I' J' P' T' z' ⟨rfl, rfl, rfl, rfl, rfl, rfl⟩
  exact k
theorem k_fv (k : PW G M R Z cu su I J P T z pc ls st) : ∀ v I' J' P' T' z', fe I J P T z none v I' J' P' T' z' → PW G M R Z cu su I' J' P' T' z' pc ls (v.toList ++ st) := by
  rintro v I' J' P' T' z' ⟨rfl, rfl, rfl, rfl, rfl, rfl⟩
  exact k
end D1
/-- a truth value -/
def bz (p : Prop) [Decidable p] : Int := if p then 1 else 0
theorem bz_t {p : Prop} [Decidable p] (h : p) : bz p = 1 := if_pos h
theorem bz_f {p : Prop} [Decidable p] (h : ¬ p) : bz p = 0 := if_neg h
theorem bz_r {p : Prop} [Decidable p] : 0 ≤ bz p ∧ bz p ≤ 1 := by unfold bz; split <;> omega
theorem bz_1 {p : Prop} [Decidable p] : bz p = 1 ↔ p := by unfold bz; split <;> simp_all
theorem bz_0 {p : Prop} [Decidable p] : bz p = 0 ↔ ¬ p := by unfold bz; split <;> simp_all
theorem bz_n {p : Prop} [Decidable p] : narrow .boolean (iv (bz p)) = iv (bz p) := nb_z (by have := bz_r (p := p); omega)
/-- the model's arrays: field, place behind the object, kind, length -/
def mArr : List (Int × Nat × Nat × Int) := [(1, 1, 2, 940), (6, 2, 1, 765), (7, 3, 1, 584), (8, 4, 1, 135), (9, 5, 3, 12), (10, 6, 3, 19), (23, 7, 1, 8), (25, 8, 1, 4640), (26, 9, 1, 580), (28, 10, 1, 13), (29, 11, 1, 6), (30, 12, 1, 6), (31, 13, 3, 15625), (32, 14, 3, 15625), (36, 15, 1, 65), (38, 16, 1, 156250), (39, 17, 1, 400), (40, 18, 1, 3), (41, 19, 1, 3), (48, 20, 1, 6), (50, 21, 1, 52), (53, 22, 1, 4), (55, 23, 1, 45), (61, 24, 4, 45), (62, 25, 1, 1530), (63, 26, 3, 12), (64, 27, 4, 2)]
def shM (G : GE) (P : HP) (T : HT) (m : Nat) : Prop := G.2.2.2.1 ≤ m ∧ T m = (31, 0) ∧ ∀ q ∈ mArr, P m q.1 = some (m + q.2.1) ∧ T (m + q.2.1) = (q.2.2.1, q.2.2.2)
theorem shM.b {G : GE} {P : HP} {T : HT} {m : Nat} (h : shM G P T m) : G.2.2.2.1 ≤ m := h.1
theorem shM.o {G : GE} {P : HP} {T : HT} {m : Nat} (h : shM G P T m) : T m = (31, 0) := h.2.1
theorem shM.p_tape {G : GE} {P : HP} {T : HT} {m : Nat} (h : shM G P T m) : P m 1 = some (m + 1) := (h.2.2 (1, 1, 2, 940) (by decide)).1
theorem shM.t_tape {G : GE} {P : HP} {T : HT} {m : Nat} (h : shM G P T m) : T (m + 1) = (2, 940) := (h.2.2 (1, 1, 2, 940) (by decide)).2
theorem shM.p_s {G : GE} {P : HP} {T : HT} {m : Nat} (h : shM G P T m) : P m 6 = some (m + 2) := (h.2.2 (6, 2, 1, 765) (by decide)).1
theorem shM.t_s {G : GE} {P : HP} {T : HT} {m : Nat} (h : shM G P T m) : T (m + 2) = (1, 765) := (h.2.2 (6, 2, 1, 765) (by decide)).2
theorem shM.p_h {G : GE} {P : HP} {T : HT} {m : Nat} (h : shM G P T m) : P m 7 = some (m + 3) := (h.2.2 (7, 3, 1, 584) (by decide)).1
theorem shM.t_h {G : GE} {P : HP} {T : HT} {m : Nat} (h : shM G P T m) : T (m + 3) = (1, 584) := (h.2.2 (7, 3, 1, 584) (by decide)).2
theorem shM.p_read {G : GE} {P : HP} {T : HT} {m : Nat} (h : shM G P T m) : P m 8 = some (m + 4) := (h.2.2 (8, 4, 1, 135) (by decide)).1
theorem shM.t_read {G : GE} {P : HP} {T : HT} {m : Nat} (h : shM G P T m) : T (m + 4) = (1, 135) := (h.2.2 (8, 4, 1, 135) (by decide)).2
theorem shM.p_names {G : GE} {P : HP} {T : HT} {m : Nat} (h : shM G P T m) : P m 9 = some (m + 5) := (h.2.2 (9, 5, 3, 12) (by decide)).1
theorem shM.t_names {G : GE} {P : HP} {T : HT} {m : Nat} (h : shM G P T m) : T (m + 5) = (3, 12) := (h.2.2 (9, 5, 3, 12) (by decide)).2
theorem shM.p_reserved {G : GE} {P : HP} {T : HT} {m : Nat} (h : shM G P T m) : P m 10 = some (m + 6) := (h.2.2 (10, 6, 3, 19) (by decide)).1
theorem shM.t_reserved {G : GE} {P : HP} {T : HT} {m : Nat} (h : shM G P T m) : T (m + 6) = (3, 19) := (h.2.2 (10, 6, 3, 19) (by decide)).2
theorem shM.p_askedAt {G : GE} {P : HP} {T : HT} {m : Nat} (h : shM G P T m) : P m 23 = some (m + 7) := (h.2.2 (23, 7, 1, 8) (by decide)).1
theorem shM.t_askedAt {G : GE} {P : HP} {T : HT} {m : Nat} (h : shM G P T m) : T (m + 7) = (1, 8) := (h.2.2 (23, 7, 1, 8) (by decide)).2
theorem shM.p_undone {G : GE} {P : HP} {T : HT} {m : Nat} (h : shM G P T m) : P m 25 = some (m + 8) := (h.2.2 (25, 8, 1, 4640) (by decide)).1
theorem shM.t_undone {G : GE} {P : HP} {T : HT} {m : Nat} (h : shM G P T m) : T (m + 8) = (1, 4640) := (h.2.2 (25, 8, 1, 4640) (by decide)).2
theorem shM.p_before {G : GE} {P : HP} {T : HT} {m : Nat} (h : shM G P T m) : P m 26 = some (m + 9) := (h.2.2 (26, 9, 1, 580) (by decide)).1
theorem shM.t_before {G : GE} {P : HP} {T : HT} {m : Nat} (h : shM G P T m) : T (m + 9) = (1, 580) := (h.2.2 (26, 9, 1, 580) (by decide)).2
theorem shM.p_left {G : GE} {P : HP} {T : HT} {m : Nat} (h : shM G P T m) : P m 28 = some (m + 10) := (h.2.2 (28, 10, 1, 13) (by decide)).1
theorem shM.t_left {G : GE} {P : HP} {T : HT} {m : Nat} (h : shM G P T m) : T (m + 10) = (1, 13) := (h.2.2 (28, 10, 1, 13) (by decide)).2
theorem shM.p_kindAt {G : GE} {P : HP} {T : HT} {m : Nat} (h : shM G P T m) : P m 29 = some (m + 11) := (h.2.2 (29, 11, 1, 6) (by decide)).1
theorem shM.t_kindAt {G : GE} {P : HP} {T : HT} {m : Nat} (h : shM G P T m) : T (m + 11) = (1, 6) := (h.2.2 (29, 11, 1, 6) (by decide)).2
theorem shM.p_step {G : GE} {P : HP} {T : HT} {m : Nat} (h : shM G P T m) : P m 30 = some (m + 12) := (h.2.2 (30, 12, 1, 6) (by decide)).1
theorem shM.t_step {G : GE} {P : HP} {T : HT} {m : Nat} (h : shM G P T m) : T (m + 12) = (1, 6) := (h.2.2 (30, 12, 1, 6) (by decide)).2
theorem shM.p_ways {G : GE} {P : HP} {T : HT} {m : Nat} (h : shM G P T m) : P m 31 = some (m + 13) := (h.2.2 (31, 13, 3, 15625) (by decide)).1
theorem shM.t_ways {G : GE} {P : HP} {T : HT} {m : Nat} (h : shM G P T m) : T (m + 13) = (3, 15625) := (h.2.2 (31, 13, 3, 15625) (by decide)).2
theorem shM.p_waysOn {G : GE} {P : HP} {T : HT} {m : Nat} (h : shM G P T m) : P m 32 = some (m + 14) := (h.2.2 (32, 14, 3, 15625) (by decide)).1
theorem shM.t_waysOn {G : GE} {P : HP} {T : HT} {m : Nat} (h : shM G P T m) : T (m + 14) = (3, 15625) := (h.2.2 (32, 14, 3, 15625) (by decide)).2
theorem shM.p_sweepRow {G : GE} {P : HP} {T : HT} {m : Nat} (h : shM G P T m) : P m 36 = some (m + 15) := (h.2.2 (36, 15, 1, 65) (by decide)).1
theorem shM.t_sweepRow {G : GE} {P : HP} {T : HT} {m : Nat} (h : shM G P T m) : T (m + 15) = (1, 65) := (h.2.2 (36, 15, 1, 65) (by decide)).2
theorem shM.p_values {G : GE} {P : HP} {T : HT} {m : Nat} (h : shM G P T m) : P m 38 = some (m + 16) := (h.2.2 (38, 16, 1, 156250) (by decide)).1
theorem shM.t_values {G : GE} {P : HP} {T : HT} {m : Nat} (h : shM G P T m) : T (m + 16) = (1, 156250) := (h.2.2 (38, 16, 1, 156250) (by decide)).2
theorem shM.p_path {G : GE} {P : HP} {T : HT} {m : Nat} (h : shM G P T m) : P m 39 = some (m + 17) := (h.2.2 (39, 17, 1, 400) (by decide)).1
theorem shM.t_path {G : GE} {P : HP} {T : HT} {m : Nat} (h : shM G P T m) : T (m + 17) = (1, 400) := (h.2.2 (39, 17, 1, 400) (by decide)).2
theorem shM.p_mine {G : GE} {P : HP} {T : HT} {m : Nat} (h : shM G P T m) : P m 40 = some (m + 18) := (h.2.2 (40, 18, 1, 3) (by decide)).1
theorem shM.t_mine {G : GE} {P : HP} {T : HT} {m : Nat} (h : shM G P T m) : T (m + 18) = (1, 3) := (h.2.2 (40, 18, 1, 3) (by decide)).2
theorem shM.p_hers {G : GE} {P : HP} {T : HT} {m : Nat} (h : shM G P T m) : P m 41 = some (m + 19) := (h.2.2 (41, 19, 1, 3) (by decide)).1
theorem shM.t_hers {G : GE} {P : HP} {T : HT} {m : Nat} (h : shM G P T m) : T (m + 19) = (1, 3) := (h.2.2 (41, 19, 1, 3) (by decide)).2
theorem shM.p_rules {G : GE} {P : HP} {T : HT} {m : Nat} (h : shM G P T m) : P m 48 = some (m + 20) := (h.2.2 (48, 20, 1, 6) (by decide)).1
theorem shM.t_rules {G : GE} {P : HP} {T : HT} {m : Nat} (h : shM G P T m) : T (m + 20) = (1, 6) := (h.2.2 (48, 20, 1, 6) (by decide)).2
theorem shM.p_pack {G : GE} {P : HP} {T : HT} {m : Nat} (h : shM G P T m) : P m 50 = some (m + 21) := (h.2.2 (50, 21, 1, 52) (by decide)).1
theorem shM.t_pack {G : GE} {P : HP} {T : HT} {m : Nat} (h : shM G P T m) : T (m + 21) = (1, 52) := (h.2.2 (50, 21, 1, 52) (by decide)).2
theorem shM.p_heardAt {G : GE} {P : HP} {T : HT} {m : Nat} (h : shM G P T m) : P m 53 = some (m + 22) := (h.2.2 (53, 22, 1, 4) (by decide)).1
theorem shM.t_heardAt {G : GE} {P : HP} {T : HT} {m : Nat} (h : shM G P T m) : T (m + 22) = (1, 4) := (h.2.2 (53, 22, 1, 4) (by decide)).2
theorem shM.p_stack {G : GE} {P : HP} {T : HT} {m : Nat} (h : shM G P T m) : P m 55 = some (m + 23) := (h.2.2 (55, 23, 1, 45) (by decide)).1
theorem shM.t_stack {G : GE} {P : HP} {T : HT} {m : Nat} (h : shM G P T m) : T (m + 23) = (1, 45) := (h.2.2 (55, 23, 1, 45) (by decide)).2
theorem shM.p_truths {G : GE} {P : HP} {T : HT} {m : Nat} (h : shM G P T m) : P m 61 = some (m + 24) := (h.2.2 (61, 24, 4, 45) (by decide)).1
theorem shM.t_truths {G : GE} {P : HP} {T : HT} {m : Nat} (h : shM G P T m) : T (m + 24) = (4, 45) := (h.2.2 (61, 24, 4, 45) (by decide)).2
theorem shM.p_kept {G : GE} {P : HP} {T : HT} {m : Nat} (h : shM G P T m) : P m 62 = some (m + 25) := (h.2.2 (62, 25, 1, 1530) (by decide)).1
theorem shM.t_kept {G : GE} {P : HP} {T : HT} {m : Nat} (h : shM G P T m) : T (m + 25) = (1, 1530) := (h.2.2 (62, 25, 1, 1530) (by decide)).2
theorem shM.p_namesKept {G : GE} {P : HP} {T : HT} {m : Nat} (h : shM G P T m) : P m 63 = some (m + 26) := (h.2.2 (63, 26, 3, 12) (by decide)).1
theorem shM.t_namesKept {G : GE} {P : HP} {T : HT} {m : Nat} (h : shM G P T m) : T (m + 26) = (3, 12) := (h.2.2 (63, 26, 3, 12) (by decide)).2
theorem shM.p_isKept {G : GE} {P : HP} {T : HT} {m : Nat} (h : shM G P T m) : P m 64 = some (m + 27) := (h.2.2 (64, 27, 4, 2) (by decide)).1
theorem shM.t_isKept {G : GE} {P : HP} {T : HT} {m : Nat} (h : shM G P T m) : T (m + 27) = (4, 2) := (h.2.2 (64, 27, 4, 2) (by decide)).2
