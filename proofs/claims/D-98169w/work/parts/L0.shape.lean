/-! ===== the shape of a SevenTable at x ===== -/
def xArr : List (Int × Nat × Nat × Int) := [(0, 1, 2, 940), (4, 13, 23, 0), (5, 44, 23, 0), (7, 75, 6, 8), (9, 76, 1, 8), (10, 77, 1, 13), (11, 78, 1, 6), (12, 79, 1, 6), (17, 82, 1, 78), (19, 83, 24, 0), (20, 85, 7, 4), (22, 90, 1, 4), (23, 91, 8, 2)]
def xGam : List Nat := [13, 44, 93, 125, 156, 187, 218, 249, 280, 311, 342, 373]
def shX (G : GE) (P : HP) (T : HT) (x : Nat) : Prop := G.2.2.2.1 ≤ x ∧ T x = (21, 0) ∧ (∀ q ∈ xArr, P x q.1 = some (x + q.2.1) ∧ T (x + q.2.1) = (q.2.2.1, q.2.2.2)) ∧ (T (x + 80) = (3, 15625) ∧ T (x + 81) = (3, 15625)) ∧ (P (x + 83) 2 = some (x + 84) ∧ T (x + 84) = (1, 156250)) ∧
  (∀ i : Int, 0 ≤ i → i < 4 → P (x + 85) i = some (x + 86 + i.toNat) ∧ T (x + 86 + i.toNat) = (26 + i.toNat, 0)) ∧ (∀ k : Int, 0 ≤ k → k < 2 → P (x + 91) k = some (x + 92 + 32 * k.toNat) ∧ T (x + 92 + 32 * k.toNat) = (30, 0) ∧ P (x + 92 + 32 * k.toNat) 2 = some (x + 93 + 32 * k.toNat)) ∧ (∀ g ∈ xGam, shG0 G P T (x + g))
theorem shX.b {G : GE} {P : HP} {T : HT} {x : Nat} (h : shX G P T x) : G.2.2.2.1 ≤ x := h.1
theorem shX.o {G : GE} {P : HP} {T : HT} {x : Nat} (h : shX G P T x) : T x = (21, 0) := h.2.1
theorem shX.p_tape {G : GE} {P : HP} {T : HT} {x : Nat} (h : shX G P T x) : P x 0 = some (x + 1) := (h.2.2.1 (0, 1, 2, 940) (by decide)).1
theorem shX.t_tape {G : GE} {P : HP} {T : HT} {x : Nat} (h : shX G P T x) : T (x + 1) = (2, 940) := (h.2.2.1 (0, 1, 2, 940) (by decide)).2
theorem shX.p_now {G : GE} {P : HP} {T : HT} {x : Nat} (h : shX G P T x) : P x 4 = some (x + 13) := (h.2.2.1 (4, 13, 23, 0) (by decide)).1
theorem shX.t_now {G : GE} {P : HP} {T : HT} {x : Nat} (h : shX G P T x) : T (x + 13) = (23, 0) := (h.2.2.1 (4, 13, 23, 0) (by decide)).2
theorem shX.p_trial {G : GE} {P : HP} {T : HT} {x : Nat} (h : shX G P T x) : P x 5 = some (x + 44) := (h.2.2.1 (5, 44, 23, 0) (by decide)).1
theorem shX.t_trial {G : GE} {P : HP} {T : HT} {x : Nat} (h : shX G P T x) : T (x + 44) = (23, 0) := (h.2.2.1 (5, 44, 23, 0) (by decide)).2
theorem shX.p_before {G : GE} {P : HP} {T : HT} {x : Nat} (h : shX G P T x) : P x 7 = some (x + 75) := (h.2.2.1 (7, 75, 6, 8) (by decide)).1
theorem shX.t_before {G : GE} {P : HP} {T : HT} {x : Nat} (h : shX G P T x) : T (x + 75) = (6, 8) := (h.2.2.1 (7, 75, 6, 8) (by decide)).2
theorem shX.p_asked {G : GE} {P : HP} {T : HT} {x : Nat} (h : shX G P T x) : P x 9 = some (x + 76) := (h.2.2.1 (9, 76, 1, 8) (by decide)).1
theorem shX.t_asked {G : GE} {P : HP} {T : HT} {x : Nat} (h : shX G P T x) : T (x + 76) = (1, 8) := (h.2.2.1 (9, 76, 1, 8) (by decide)).2
theorem shX.p_unseen {G : GE} {P : HP} {T : HT} {x : Nat} (h : shX G P T x) : P x 10 = some (x + 77) := (h.2.2.1 (10, 77, 1, 13) (by decide)).1
theorem shX.t_unseen {G : GE} {P : HP} {T : HT} {x : Nat} (h : shX G P T x) : T (x + 77) = (1, 13) := (h.2.2.1 (10, 77, 1, 13) (by decide)).2
theorem shX.p_kindAt {G : GE} {P : HP} {T : HT} {x : Nat} (h : shX G P T x) : P x 11 = some (x + 78) := (h.2.2.1 (11, 78, 1, 6) (by decide)).1
theorem shX.t_kindAt {G : GE} {P : HP} {T : HT} {x : Nat} (h : shX G P T x) : T (x + 78) = (1, 6) := (h.2.2.1 (11, 78, 1, 6) (by decide)).2
theorem shX.p_scale {G : GE} {P : HP} {T : HT} {x : Nat} (h : shX G P T x) : P x 12 = some (x + 79) := (h.2.2.1 (12, 79, 1, 6) (by decide)).1
theorem shX.t_scale {G : GE} {P : HP} {T : HT} {x : Nat} (h : shX G P T x) : T (x + 79) = (1, 6) := (h.2.2.1 (12, 79, 1, 6) (by decide)).2
theorem shX.p_swept {G : GE} {P : HP} {T : HT} {x : Nat} (h : shX G P T x) : P x 17 = some (x + 82) := (h.2.2.1 (17, 82, 1, 78) (by decide)).1
theorem shX.t_swept {G : GE} {P : HP} {T : HT} {x : Nat} (h : shX G P T x) : T (x + 82) = (1, 78) := (h.2.2.1 (17, 82, 1, 78) (by decide)).2
theorem shX.p_opened {G : GE} {P : HP} {T : HT} {x : Nat} (h : shX G P T x) : P x 19 = some (x + 83) := (h.2.2.1 (19, 83, 24, 0) (by decide)).1
theorem shX.t_opened {G : GE} {P : HP} {T : HT} {x : Nat} (h : shX G P T x) : T (x + 83) = (24, 0) := (h.2.2.1 (19, 83, 24, 0) (by decide)).2
theorem shX.p_bents {G : GE} {P : HP} {T : HT} {x : Nat} (h : shX G P T x) : P x 20 = some (x + 85) := (h.2.2.1 (20, 85, 7, 4) (by decide)).1
theorem shX.t_bents {G : GE} {P : HP} {T : HT} {x : Nat} (h : shX G P T x) : T (x + 85) = (7, 4) := (h.2.2.1 (20, 85, 7, 4) (by decide)).2
theorem shX.p_heard {G : GE} {P : HP} {T : HT} {x : Nat} (h : shX G P T x) : P x 22 = some (x + 90) := (h.2.2.1 (22, 90, 1, 4) (by decide)).1
theorem shX.t_heard {G : GE} {P : HP} {T : HT} {x : Nat} (h : shX G P T x) : T (x + 90) = (1, 4) := (h.2.2.1 (22, 90, 1, 4) (by decide)).2
theorem shX.p_kept {G : GE} {P : HP} {T : HT} {x : Nat} (h : shX G P T x) : P x 23 = some (x + 91) := (h.2.2.1 (23, 91, 8, 2) (by decide)).1
theorem shX.t_kept {G : GE} {P : HP} {T : HT} {x : Nat} (h : shX G P T x) : T (x + 91) = (8, 2) := (h.2.2.1 (23, 91, 8, 2) (by decide)).2
theorem shX.g {G : GE} {P : HP} {T : HT} {x : Nat} (h : shX G P T x) {o : Nat} (ho : o ∈ xGam) : shG0 G P T (x + o) := h.2.2.2.2.2.2.2 o ho
theorem shX.q_bents {G : GE} {P : HP} {T : HT} {x : Nat} (h : shX G P T x) {i : Int} (h0 : 0 ≤ i) (h1 : i < 4) : P (x + 85) i = some (x + 86 + i.toNat) := (h.2.2.2.2.2.1 i h0 h1).1
theorem shX.u_bents {G : GE} {P : HP} {T : HT} {x : Nat} (h : shX G P T x) {i : Int} (h0 : 0 ≤ i) (h1 : i < 4) : T (x + 86 + i.toNat) = (26 + i.toNat, 0) := (h.2.2.2.2.2.1 i h0 h1).2
theorem shX.q_kept {G : GE} {P : HP} {T : HT} {x : Nat} (h : shX G P T x) {k : Int} (h0 : 0 ≤ k) (h1 : k < 2) : P (x + 91) k = some (x + 92 + 32 * k.toNat) := (h.2.2.2.2.2.2.1 k h0 h1).1
theorem shX.u_kept {G : GE} {P : HP} {T : HT} {x : Nat} (h : shX G P T x) {k : Int} (h0 : 0 ≤ k) (h1 : k < 2) : T (x + 92 + 32 * k.toNat) = (30, 0) := (h.2.2.2.2.2.2.1 k h0 h1).2.1
theorem shX.p_game {G : GE} {P : HP} {T : HT} {x : Nat} (h : shX G P T x) {k : Int} (h0 : 0 ≤ k) (h1 : k < 2) : P (x + 92 + 32 * k.toNat) 2 = some (x + 93 + 32 * k.toNat) := (h.2.2.2.2.2.2.1 k h0 h1).2.2
/-- the table and the game that is on; what is so -/
def XS (G : GE) (I : HI) (P : HP) (T : HT) (x t : Nat) (σ μ : Int → Int) : Prop := shX G P T x ∧ P x 3 = some t ∧ shG G P T (x + 13) t ∧ GR I (x + 13) t σ μ ∧ WF σ ∧ (t = x + 2 ∨ x + 404 ≤ t)
theorem XS.x {G : GE} {I : HI} {P : HP} {T : HT} {x t : Nat} {σ μ : Int → Int} (h : XS G I P T x t σ μ) : shX G P T x := h.1
theorem XS.b {G : GE} {I : HI} {P : HP} {T : HT} {x t : Nat} {σ μ : Int → Int} (h : XS G I P T x t σ μ) : G.2.2.2.1 ≤ x := h.1.1
theorem XS.o {G : GE} {I : HI} {P : HP} {T : HT} {x t : Nat} {σ μ : Int → Int} (h : XS G I P T x t σ μ) : T x = (21, 0) := h.1.2.1
theorem XS.p_table {G : GE} {I : HI} {P : HP} {T : HT} {x t : Nat} {σ μ : Int → Int} (h : XS G I P T x t σ μ) : P x 3 = some t := h.2.1
theorem XS.g {G : GE} {I : HI} {P : HP} {T : HT} {x t : Nat} {σ μ : Int → Int} (h : XS G I P T x t σ μ) : shG G P T (x + 13) t := h.2.2.1
theorem XS.tb {G : GE} {I : HI} {P : HP} {T : HT} {x t : Nat} {σ μ : Int → Int} (h : XS G I P T x t σ μ) : shT G P T t := h.2.2.1.2.1
theorem XS.r {G : GE} {I : HI} {P : HP} {T : HT} {x t : Nat} {σ μ : Int → Int} (h : XS G I P T x t σ μ) : GR I (x + 13) t σ μ := h.2.2.2.1
theorem XS.w {G : GE} {I : HI} {P : HP} {T : HT} {x t : Nat} {σ μ : Int → Int} (h : XS G I P T x t σ μ) : WF σ := h.2.2.2.2.1
theorem XS.tx {G : GE} {I : HI} {P : HP} {T : HT} {x t : Nat} {σ μ : Int → Int} (h : XS G I P T x t σ μ) : t = x + 2 ∨ x + 404 ≤ t := h.2.2.2.2.2
theorem XS.ta {G : GE} {I : HI} {P : HP} {T : HT} {x t : Nat} {σ μ : Int → Int} (h : XS G I P T x t σ μ) : (0 ≤ σ 0 ∧ σ 0 ≤ 13) ∧ (0 ≤ σ 1 ∧ σ 1 ≤ 6) ∧ (σ 2 = 0 ∨ σ 2 = 1) ∧ (0 ≤ σ 3 ∧ σ 3 ≤ 9) := h.w.cv.ta
theorem XS.p_tape {G : GE} {I : HI} {P : HP} {T : HT} {x t : Nat} {σ μ : Int → Int} (h : XS G I P T x t σ μ) : P x 0 = some (x + 1) := h.x.p_tape
theorem XS.t_tape {G : GE} {I : HI} {P : HP} {T : HT} {x t : Nat} {σ μ : Int → Int} (h : XS G I P T x t σ μ) : T (x + 1) = (2, 940) := h.x.t_tape
theorem XS.p_now {G : GE} {I : HI} {P : HP} {T : HT} {x t : Nat} {σ μ : Int → Int} (h : XS G I P T x t σ μ) : P x 4 = some (x + 13) := h.x.p_now
theorem XS.t_now {G : GE} {I : HI} {P : HP} {T : HT} {x t : Nat} {σ μ : Int → Int} (h : XS G I P T x t σ μ) : T (x + 13) = (23, 0) := h.x.t_now
theorem XS.p_trial {G : GE} {I : HI} {P : HP} {T : HT} {x t : Nat} {σ μ : Int → Int} (h : XS G I P T x t σ μ) : P x 5 = some (x + 44) := h.x.p_trial
theorem XS.t_trial {G : GE} {I : HI} {P : HP} {T : HT} {x t : Nat} {σ μ : Int → Int} (h : XS G I P T x t σ μ) : T (x + 44) = (23, 0) := h.x.t_trial
theorem XS.p_before {G : GE} {I : HI} {P : HP} {T : HT} {x t : Nat} {σ μ : Int → Int} (h : XS G I P T x t σ μ) : P x 7 = some (x + 75) := h.x.p_before
theorem XS.t_before {G : GE} {I : HI} {P : HP} {T : HT} {x t : Nat} {σ μ : Int → Int} (h : XS G I P T x t σ μ) : T (x + 75) = (6, 8) := h.x.t_before
theorem XS.p_asked {G : GE} {I : HI} {P : HP} {T : HT} {x t : Nat} {σ μ : Int → Int} (h : XS G I P T x t σ μ) : P x 9 = some (x + 76) := h.x.p_asked
theorem XS.t_asked {G : GE} {I : HI} {P : HP} {T : HT} {x t : Nat} {σ μ : Int → Int} (h : XS G I P T x t σ μ) : T (x + 76) = (1, 8) := h.x.t_asked
theorem XS.p_unseen {G : GE} {I : HI} {P : HP} {T : HT} {x t : Nat} {σ μ : Int → Int} (h : XS G I P T x t σ μ) : P x 10 = some (x + 77) := h.x.p_unseen
theorem XS.t_unseen {G : GE} {I : HI} {P : HP} {T : HT} {x t : Nat} {σ μ : Int → Int} (h : XS G I P T x t σ μ) : T (x + 77) = (1, 13) := h.x.t_unseen
theorem XS.p_kindAt {G : GE} {I : HI} {P : HP} {T : HT} {x t : Nat} {σ μ : Int → Int} (h : XS G I P T x t σ μ) : P x 11 = some (x + 78) := h.x.p_kindAt
theorem XS.t_kindAt {G : GE} {I : HI} {P : HP} {T : HT} {x t : Nat} {σ μ : Int → Int} (h : XS G I P T x t σ μ) : T (x + 78) = (1, 6) := h.x.t_kindAt
theorem XS.p_scale {G : GE} {I : HI} {P : HP} {T : HT} {x t : Nat} {σ μ : Int → Int} (h : XS G I P T x t σ μ) : P x 12 = some (x + 79) := h.x.p_scale
theorem XS.t_scale {G : GE} {I : HI} {P : HP} {T : HT} {x t : Nat} {σ μ : Int → Int} (h : XS G I P T x t σ μ) : T (x + 79) = (1, 6) := h.x.t_scale
theorem XS.p_swept {G : GE} {I : HI} {P : HP} {T : HT} {x t : Nat} {σ μ : Int → Int} (h : XS G I P T x t σ μ) : P x 17 = some (x + 82) := h.x.p_swept
theorem XS.t_swept {G : GE} {I : HI} {P : HP} {T : HT} {x t : Nat} {σ μ : Int → Int} (h : XS G I P T x t σ μ) : T (x + 82) = (1, 78) := h.x.t_swept
theorem XS.p_opened {G : GE} {I : HI} {P : HP} {T : HT} {x t : Nat} {σ μ : Int → Int} (h : XS G I P T x t σ μ) : P x 19 = some (x + 83) := h.x.p_opened
theorem XS.t_opened {G : GE} {I : HI} {P : HP} {T : HT} {x t : Nat} {σ μ : Int → Int} (h : XS G I P T x t σ μ) : T (x + 83) = (24, 0) := h.x.t_opened
theorem XS.p_bents {G : GE} {I : HI} {P : HP} {T : HT} {x t : Nat} {σ μ : Int → Int} (h : XS G I P T x t σ μ) : P x 20 = some (x + 85) := h.x.p_bents
theorem XS.t_bents {G : GE} {I : HI} {P : HP} {T : HT} {x t : Nat} {σ μ : Int → Int} (h : XS G I P T x t σ μ) : T (x + 85) = (7, 4) := h.x.t_bents
theorem XS.p_heard {G : GE} {I : HI} {P : HP} {T : HT} {x t : Nat} {σ μ : Int → Int} (h : XS G I P T x t σ μ) : P x 22 = some (x + 90) := h.x.p_heard
theorem XS.t_heard {G : GE} {I : HI} {P : HP} {T : HT} {x t : Nat} {σ μ : Int → Int} (h : XS G I P T x t σ μ) : T (x + 90) = (1, 4) := h.x.t_heard
theorem XS.p_kept {G : GE} {I : HI} {P : HP} {T : HT} {x t : Nat} {σ μ : Int → Int} (h : XS G I P T x t σ μ) : P x 23 = some (x + 91) := h.x.p_kept
theorem XS.t_kept {G : GE} {I : HI} {P : HP} {T : HT} {x t : Nat} {σ μ : Int → Int} (h : XS G I P T x t σ μ) : T (x + 91) = (8, 2) := h.x.t_kept
theorem GR.fr {I I' : HI} {g t : Nat} {σ μ : Int → Int} (h : GR I g t σ μ) (e : ∀ b : Nat, (g ≤ b ∧ b < g + 31) ∨ b = t ∨ b = t + 1 → I' b = I b) : GR I' g t σ μ := by
  unfold GR at h ⊢
  obtain ⟨a1, a2, a3, a4, a5, a6, a7, a8, a9, a10, a11, a12, a13, a14, a15, a16, a17, a18⟩ := h
  refine ⟨fun q k x y w v => ?_, fun q k x y w v => ?_, fun q i x y w v r => ?_, fun q x y => ?_, fun q x y => ?_, fun q x y => ?_, fun q x y => ?_, fun q x y => ?_, fun k x y => ?_, fun k x y => ?_, ?_, fun i x y => ?_, ?_, ?_, ?_, fun i x y => ?_, ?_, a18⟩
  · rw [e _ (by omega)]; exact a1 q k x y w v
  · rw [e _ (by omega)]; exact a2 q k x y w v
  · rw [e _ (by omega)]; exact a3 q i x y w v r
  · rw [e _ (by omega)]; exact a4 q x y
  · rw [e _ (by omega)]; exact a5 q x y
  · rw [e _ (by omega)]; exact a6 q x y
  · rw [e _ (by omega)]; exact a7 q x y
  · rw [e _ (by omega)]; exact a8 q x y
  · rw [e _ (by omega)]; exact a9 k x y
  · rw [e _ (by omega)]; exact a10 k x y
  · rw [e g (by omega)]; exact a11
  · rw [e (g + 28) (by omega), e g (by omega)]; exact a12 i x y
  · rw [e g (by omega)]; exact a13
  · rw [e g (by omega)]; exact a14
  · rw [e g (by omega)]; exact a15
  · rw [e _ (by omega)]; exact a16 i x y
  · rw [e t (by omega), e (t + 1) (by omega)]; exact a17
theorem XS.fr {G : GE} {I I' : HI} {P : HP} {T : HT} {x t : Nat} {σ μ : Int → Int} (h : XS G I P T x t σ μ) (e : ∀ b : Nat, (x + 13 ≤ b ∧ b < x + 44) ∨ b = t ∨ b = t + 1 → I' b = I b) : XS G I' P T x t σ μ := ⟨h.1, h.2.1, h.2.2.1, h.r.fr (fun b q => e b (by omega)), h.w, h.tx⟩
