/-! ===== the component: an evening's reader is made ===== -/
section P23
variable {G : GE} {I J I' J' : HI} {P P' : HP} {T T' : HT} {z r tp g t d : Nat} {Q : QT} {τ : Int → Int}
theorem C_erI {n : Int} (hT : T r = (35, 0)) (hb : G.2.2.2.1 ≤ r) (hn : rg n) (hQ : Q none (ui (ui (ui I r 1 n) r 2 500) r 12 (-1)) J (up (up (up P r 8 (some (G.2.2.2.2 0))) r 0 (some tp)) r 9 (some g)) T z) : MC G yX15_init (ws_ yX15_init cX15_init 4 (none : Option FieldType)) (d + 2) 0 0 [.ref r, .ref tp, iv n, .ref g] I J P T z Q nX := by
  refine MC.of (by decide) (Nat.le_of_ble_eq_true rfl) ?_
  show PW G mX15_init (rmD (d + 2) 0 0) (MZ G Q nX 0 0) 0 0 I J P T z 0 [some (.ref r), some (.ref tp), some (iv n), some (.ref g)] []
  refine r_aload_n (pc := 0) dX15_init_0 rfl rfl ?_
  refine r_aload_n (pc := 1) dX15_init_1 rfl rfl ?_
  refine r_iload_n (pc := 2) dX15_init_2 rfl rfl ?_
  refine r_sipush (pc := 3) dX15_init_3 (by decide +kernel) ?_
  refine r_callI3 (pc := 6) (C_rdIE (d := d) hT hb hn (by omega) fe_i) im_X12_init rfl q1509 dX15_init_6 (Nat.le_of_ble_eq_true rfl) (Nat.le_of_ble_eq_true rfl) rfl (k_fv ?_) (fun _ _ _ _ _ _ _ hx => no_x hx)
  refine r_aload_n (pc := 9) dX15_init_9 rfl rfl ?_
  refine r_iconst (pc := 10) dX15_init_10 ?_
  refine r_puti (pc := 11) (c := 15) (k := 12) (kz := 12) hT cok_15 (Nat.le_of_ble_eq_true rfl) q1515 ⟨rfl, rfl⟩ (Or.inl rfl) rfl (by omega) rfl rfl (by omega) (fun _ _ _ => rfl) ⟨rfl, rfl⟩ dX15_init_11 ?_
  refine r_aload_n (pc := 14) dX15_init_14 rfl rfl ?_
  refine r_aload_n (pc := 15) dX15_init_15 rfl rfl ?_
  refine r_putrF (pc := 16) (r := (some g)) (c := 15) (k := 9) (kz := 9) hT cok_15 (Nat.le_of_ble_eq_true rfl) q1510 ⟨rfl, rfl⟩ (Or.inl rfl) rfl (by omega) rfl rfl rfl rfl rfl (fun _ _ _ => rfl) ⟨rfl, rfl⟩ dX15_init_16 ?_
  refine r_return (pc := 19) rfl dX15_init_19 (Nat.le_of_ble_eq_true rfl) (Nat.le_of_ble_eq_true rfl) ?_
  exact hQ
end P23
