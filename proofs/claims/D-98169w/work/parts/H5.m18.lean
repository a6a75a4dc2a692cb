/-! ===== the model: dealing ===== -/
def f_seed (x : Int) : Int := wr (x * 1103515245 + 12345)
def f_dr (x n : Int) : Int := f_seed x % 4294967296 / 256 % n
section M18
variable {G : GE} {I J : HI} {P : HP} {T : HT} {z : Nat} {m d : Nat} {Q : QT} {σ u τ ω rl : Int → Int}
theorem M_draw (hs : shM G P T m) {n : Int} (hn : 0 < n ∧ n ≤ 52) (hQ : Q (some (iv (f_dr (ω 49) n))) (ur I m (us ω 49 (f_seed (ω 49)))) J P T z) : MC G yX11_draw (ws_ yX11_draw cX11_draw 2 (some FieldType.int)) (d) 0 0 [.ref m, iv n] (ur I m ω) J P T z Q nX := by
  have hb := hs.b
  refine MC.of (by decide) (Nat.le_of_ble_eq_true rfl) ?_
  show PW G mX11_draw (rmD (d) 0 0) (MZ G Q nX 0 0) 0 0 (ur I m ω) J P T z 0 [some (.ref m), some (iv n)] []
  refine r_aload_n (pc := 0) dX11_draw_0 rfl rfl ?_
  refine r_aload_n (pc := 1) dX11_draw_1 rfl rfl ?_
  refine r_geti (pc := 2) (c := 11) (k := 49) (kz := 49) hs.o cok_11 (Nat.le_of_ble_eq_true rfl) q1909 ⟨rfl, rfl⟩ (Or.inl rfl) rfl (fun _ _ _ => rfl) dX11_draw_2 (fun hr2 => ?_)
  try simp (disch := omega) only [ui_ur, ui_ur_n, ur_sv, ur_nv, ui_sv, ui_nv, ui_uis, us_s, us_n] at hr2 ⊢
  refine r_ldcw (pc := 5) (x := 1103515245) q2373 dX11_draw_5 (by decide +kernel) ?_
  refine r_imul (pc := 8) dX11_draw_8 ?_
  refine r_sipush (pc := 9) dX11_draw_9 (by decide +kernel) ?_
  refine r_iadd (pc := 12) dX11_draw_12 ?_
  rw [← iv_wr (x := ω 49 * 1103515245 + 12345)]
  have r0 : rg (wr (ω 49 * 1103515245 + 12345)) := wr_r
  refine r_puti (pc := 13) (c := 11) (k := 49) (kz := 49) hs.o cok_11 (Nat.le_of_ble_eq_true rfl) q1909 ⟨rfl, rfl⟩ (Or.inl rfl) rfl (by omega) rfl rfl (by omega) (fun _ _ _ => rfl) ⟨rfl, rfl⟩ dX11_draw_13 ?_
  try simp (disch := omega) only [ui_ur, ui_ur_n, ur_sv, ur_nv, ui_sv, ui_nv, ui_uis, us_s, us_n]
  refine r_aload_n (pc := 16) dX11_draw_16 rfl rfl ?_
  refine r_geti (pc := 17) (c := 11) (k := 49) (kz := 49) hs.o cok_11 (Nat.le_of_ble_eq_true rfl) q1909 ⟨rfl, rfl⟩ (Or.inl rfl) rfl (fun _ _ _ => rfl) dX11_draw_17 (fun hr17 => ?_)
  try simp (disch := omega) only [ui_ur, ui_ur_n, ur_sv, ur_nv, ui_sv, ui_nv, ui_uis, us_s, us_n] at hr17 ⊢
  refine r_bipush (pc := 20) dX11_draw_20 (by decide +kernel) ?_
  refine r_iushr (pc := 22) dX11_draw_22 (by omega) ?_
  have e8 : ((2 ^ (8 : Int).toNat : Nat) : Int) = 256 := rfl
  rw [e8]
  refine r_iload_n (pc := 23) dX11_draw_23 rfl rfl ?_
  refine r_irem (pc := 24) dX11_draw_24 (by omega) (by omega) ?_
  refine r_ireturn (pc := 25) rfl rfl dX11_draw_25 (Nat.le_of_ble_eq_true rfl) (Nat.le_of_ble_eq_true rfl) ?_
  exact hQ
end M18
