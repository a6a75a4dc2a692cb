/-! ===== the component: a line of an evening is read ===== -/
section P19
variable {G : GE} {I J I' J' : HI} {P P' : HP} {T T' : HT} {z z' z0 r tp g t en d : Nat} {Q : QT} {X : XT} {τ ρ σ rd : Int → Int} {Ls : List (List Int)} {s s' : TS} {e e' : EV}
theorem XK.bd {S : Nat → Prop} {k : Int} (h : XK X S I J P T ((g_bad k s).1 15) ((g_bad k s).1 16)) : XK X S I J P T k (s.1 12) := by rw [(bad15 (s := s)).1, (bad15 (s := s) (k := k)).2] at h; exact h
theorem EWd.S0 (h : EWd G I P T z0 z r tp g t en τ Ls s e) : ∀ a, (fun a => a < z0) a → a < z ∧ a ≠ r := fun a q => by
  have := h.1
  have q : a < z0 := q
  omega
/-- a fault leaves all that was there but the numbers of the trial game -/
def XE (X : XT) (z0 g : Nat) (I J : HI) (P : HP) (T : HT) (k pl : Int) : Prop := ∀ q I' J' P' T' z', FS (SE z0 g) I J P T I' J' P' T' → (∀ a, a < z0 → J' a = J a ∧ P' a = P a ∧ T' a = T a) → T' q = (34, 0) → I' q 0 = k → I' q 1 = pl → X "SevenTable$Fault" q I' J' P' T' z'
theorem XE.bd {k : Int} (h : XE X z0 g I J P T ((g_bad k s).1 15) ((g_bad k s).1 16)) : XE X z0 g I J P T k (s.1 12) := by rw [(bad15 (s := s)).1, (bad15 (s := s) (k := k)).2] at h; exact h
theorem XE.tr {k pl : Int} {I1 J1 : HI} {P1 : HP} {T1 : HT} {z1 : Nat} (h : XE X z0 g I J P T k pl) (a : EQv G z0 z r tp g t en τ Ls I J P T s e I1 J1 P1 T1 z1) : XE X z0 g I1 J1 P1 T1 k pl := fun q I' J' P' T' z' b c => h q I' J' P' T' z' (a.2.1.tr b) (fun x q => by
  have a1 := a.2.2.1 x q
  have a2 := c x q
  exact ⟨a2.1.trans a1.1, a2.2.1.trans a1.2.1, a2.2.2.trans a1.2.2⟩)
theorem XE.xk {k pl : Int} {I1 J1 : HI} {P1 : HP} {T1 : HT} {z1 : Nat} (h : XE X z0 g I J P T k pl) (a : EQv G z0 z r tp g t en τ Ls I J P T s e I1 J1 P1 T1 z1) : XK X (fun a => a < z0) I1 J1 P1 T1 k pl := fun q I' J' P' T' z' b => h.tr a q I' J' P' T' z' (fun x q => b x q.1) (fun x q => ⟨(b x q).2.1, (b x q).2.2.1, (b x q).2.2.2⟩)
theorem we0 : WD (sbs "asks") ∧ cod (sbs "asks") = 1634954099 := ⟨wds_WD _ (by decide +kernel), by decide +kernel⟩
theorem we1 : WD (sbs "gives") ∧ cod (sbs "gives") = 444150998387 := ⟨wds_WD _ (by decide +kernel), by decide +kernel⟩
theorem we2 : WD (sbs "no") ∧ cod (sbs "no") = 28271 := ⟨wds_WD _ (by decide +kernel), by decide +kernel⟩
theorem E_go (h : EWd G I P T z0 z r tp g t en τ Ls s e) (hQ : ∀ I' J' P' T' z', EQv G z0 z r tp g t en τ Ls I J P T (g_nx τ s) e I' J' P' T' z' → Q none I' J' P' T' z') : MC G yX12_go (ws_ yX12_go cX12_go 5 (none : Option FieldType)) (d + 7) 4 60 [.ref r] I J P T z Q nX := MC.tz fun hzz => C_goE h.rd.1 (h.ti.g h.g5) h.b h.rz h.tz (fun I' J' P' T' z' a b c => hQ I' J' P' T' z' (h.go a b c hzz))
theorem E_end (h : EWd G I P T z0 z r tp g t en τ Ls s e) (hQ : isG 59 s → ∀ I' J' P' T' z', EQv G z0 z r tp g t en τ Ls I J P T (g_nx τ s) e I' J' P' T' z' → Q none I' J' P' T' z') (hX : ¬ isG 59 s → XK X (fun a => a < z0) I J P T 1 (s.1 12)) : MC G yX12_end (ws_ yX12_end cX12_end 1 (none : Option FieldType)) (d + 8) 5 68 [.ref r] I J P T z Q X := MC.tz fun hzz => C_endRE (S := fun a => a < z0) h.rd h.ti h.g5 h.b h.rz h.tz h.S0 (fun q I' J' P' T' z' a b c => hQ q I' J' P' T' z' (h.go a b c hzz)) hX
theorem E_person (h : EWd G I P T z0 z r tp g t en τ Ls s e) (hρ : RES ρ) {n : Nat} (hn : e.1 1 = n) (hQ : isN ρ s → 0 ≤ t_find s.2.2.2 s.2.1 0 0 n → ∀ I' J' P' T' z', EQv G z0 z r tp g t en τ Ls I J P T (g_nx τ s) e I' J' P' T' z' → Q (some (iv (t_find s.2.2.2 s.2.1 0 0 n))) I' J' P' T' z') (hX1 : ¬ isN ρ s → XK X (fun a => a < z0) I J P T 1 (s.1 12)) (hX3 : isN ρ s → t_find s.2.2.2 s.2.1 0 0 n < 0 → XK X (fun a => a < z0) I J P T 3 (s.1 12)) : MC G yX12_person (ws_ yX12_person cX12_person 3 (some FieldType.int)) (d + 8) 10 136 [.ref r, .ref t] I J P T z Q X := MC.tz fun hzz => by
  have hl : Ls.length = n := by have := h.ln; omega
  subst hl
  exact C_personRE (S := fun a => a < z0) (f := 0) (ν := s.2.2.2) h.rd h.ti h.g5 h.b h.rz h.tz h.S0 h.2.1 hρ h.sh.2.1 h.nl h.nm (fun q1 q2 I' J' P' T' z' a b c => hQ q1 q2 I' J' P' T' z' (h.go a b c hzz)) hX1 hX3
theorem E_takes {lo hi : Int} (h : EWd G I P T z0 z r tp g t en τ Ls s e) (h1 : rg lo) (h2 : rg hi) (hQ : (g_takes τ lo hi s).1 ≠ 0 → (g_takes τ lo hi s).2.1 18 = s.1 14 → lo ≤ s.1 14 → s.1 14 ≤ hi → ∀ I' J' P' T' z', EQv G z0 z r tp g t en τ Ls I J P T (g_takes τ lo hi s).2 e I' J' P' T' z' → Q (some (iv (s.1 14))) I' J' P' T' z') (hX : (g_takes τ lo hi s).1 = 0 → XK X (fun a => a < z0) I J P T ((g_takes τ lo hi s).2.1 15) ((g_takes τ lo hi s).2.1 16)) : MC G yX12_number (ws_ yX12_number cX12_number 4 (some FieldType.int)) (d + 9) 6 76 [.ref r, iv lo, iv hi] I J P T z Q X := MC.tz fun hzz => by
  have hw := h.w18 (v := s.1 14)
  have ew : ∀ j : Int, j ≠ 18 → (g_w 18 (s.1 14) s).1 j = s.1 j := fun j q => us_n q
  refine C_numberE (S := fun a => a < z0) (s := g_w 18 (s.1 14) s) (Q := Q) (X := X) hw.rd hw.ti hw.g5 hw.b h1 h2 hw.rz hw.tz hw.S0 (fun q1 q2 q3 I' J' P' T' z' a b c => ?_) (fun q1 => ?_) (fun q1 q2 => ?_)
  · rw [ew 11 (by omega)] at q1
    rw [ew 14 (by omega)] at q2 q3 ⊢
    have eg : g_takes τ lo hi s = (1, g_nx τ (g_w 18 (s.1 14) s)) := by
      unfold g_takes
      rw [if_neg (fun c => c q1), if_neg (fun c => c ⟨q2, q3⟩)]
    rw [eg] at hQ
    refine hQ (by simp) ?_ q2 q3 I' J' P' T' z' (hw.go a b c hzz)
    show (g_nx τ (g_w 18 (s.1 14) s)).1 18 = s.1 14
    have : (g_nx τ (g_w 18 (s.1 14) s)).1 18 = (g_w 18 (s.1 14) s).1 18 := t_next_f (by omega)
    rw [this]
    show us s.1 18 (s.1 14) 18 = _
    exact us_s
  · rw [ew 11 (by omega)] at q1
    rw [ew 12 (by omega)]
    have eg : g_takes τ lo hi s = (0, g_bad 1 s) := by
      unfold g_takes
      rw [if_pos q1]
    rw [eg] at hX
    exact (hX rfl).bd
  · rw [ew 11 (by omega)] at q1
    rw [ew 14 (by omega)] at q2
    rw [ew 12 (by omega)]
    have eg : g_takes τ lo hi s = (0, g_bad 2 s) := by
      unfold g_takes
      rw [if_neg (fun c => c q1), if_pos q2]
    rw [eg] at hX
    exact (hX rfl).bd
def ev2 (rd : Int → Int) (to : Int) (e : EV) : EV := if e.2.2.2.1 = 0 then ev1 (rd to) (rd (to + 1)) (rd (to + 2)) (rd (to + 3)) e else e
theorem ev1_1 {a b k n : Int} (hw : WF e.1) (ha : isP e.1 a) (hb : isP e.1 b) (hk : isK e.1 k) {j : Int} (h0 : 0 ≤ j) (h1 : j < 4) : (ev1 a b k n e).1 j = e.1 j := by
  unfold ev1
  split
  · rfl
  · rename_i c
    have c : ev_w e.1 a b k n = 0 := Decidable.byContradiction c
    have c2 : f_why e.1 a b k = 0 := by
      unfold ev_w at c
      split at c
      · omega
      · exact c
    exact asks_tb hw (why_ao hw ha hb hk c2) h0 h1
end P19
