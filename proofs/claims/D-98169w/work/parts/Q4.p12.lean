/-! ===== readers are made ===== -/
section P12
variable {G : GE} {I J : HI} {P : HP} {T : HT} {z r tp d : Nat} {Q : QT} {X : XT} {τ ω : Int → Int} {s : TS}
theorem C_rdIT {n lim : Int} (hT : T r = (13 + 20, 0)) (hb : G.2.2.2.1 ≤ r) (hn : rg n) (hl : rg lim) (hQ : Q none (ui (ui I r 1 n) r 2 lim) J (up (up P r 8 (some (G.2.2.2.2 0))) r 0 (some tp)) T z) : MC G yX12_init (ws_ yX12_init cX12_init 4 (none : Option FieldType)) (d + 1) 0 0 [.ref r, .ref tp, iv n, iv lim] I J P T z Q nX := by
  refine MC.of (by decide) (Nat.le_of_ble_eq_true rfl) ?_
  show PW G mX12_init (rmD (d + 1) 0 0) (MZ G Q nX 0 0) 0 0 I J P T z 0 [some (.ref r), some (.ref tp), some (iv n), some (iv lim)] []
  refine r_aload_n (pc := 0) dX12_init_0 rfl rfl ?_
  refine r_objI (pc := 1) q612 dX12_init_1 rfl ?_
  refine r_aload_n (pc := 4) dX12_init_4 rfl rfl ?_
  refine r_ldcS (pc := 5) 0 rfl rfl dX12_init_5 ?_
  refine r_putr (pc := 7) (r := (some (G.2.2.2.2 0))) (c := 13) (k := 8) (kz := 8) hT cok_13 (Nat.le_of_ble_eq_true rfl) q634 ⟨rfl, rfl⟩ (Or.inl rfl) rfl (by omega) rfl rfl rfl (fun _ _ _ => rfl) ⟨rfl, rfl⟩ dX12_init_7 ?_
  refine r_aload_n (pc := 10) dX12_init_10 rfl rfl ?_
  refine r_aload_n (pc := 11) dX12_init_11 rfl rfl ?_
  refine r_putrF (pc := 12) (r := (some tp)) (c := 13) (k := 0) (kz := 0) hT cok_13 (Nat.le_of_ble_eq_true rfl) q618 ⟨rfl, rfl⟩ (Or.inl rfl) rfl (by omega) rfl rfl rfl rfl rfl (fun _ _ _ => rfl) ⟨rfl, rfl⟩ dX12_init_12 ?_
  refine r_aload_n (pc := 15) dX12_init_15 rfl rfl ?_
  refine r_iload_n (pc := 16) dX12_init_16 rfl rfl ?_
  refine r_putiF (pc := 17) (c := 13) (k := 1) (kz := 1) hT cok_13 (Nat.le_of_ble_eq_true rfl) q619 ⟨rfl, rfl⟩ (Or.inl rfl) rfl (by omega) rfl rfl rfl rfl (by omega) (fun _ _ _ => rfl) ⟨rfl, rfl⟩ dX12_init_17 ?_
  refine r_aload_n (pc := 20) dX12_init_20 rfl rfl ?_
  refine r_iload_n (pc := 21) dX12_init_21 rfl rfl ?_
  refine r_putiF (pc := 22) (c := 13) (k := 2) (kz := 2) hT cok_13 (Nat.le_of_ble_eq_true rfl) q620 ⟨rfl, rfl⟩ (Or.inl rfl) rfl (by omega) rfl rfl rfl rfl (by omega) (fun _ _ _ => rfl) ⟨rfl, rfl⟩ dX12_init_22 ?_
  refine r_return (pc := 25) rfl dX12_init_25 (Nat.le_of_ble_eq_true rfl) (Nat.le_of_ble_eq_true rfl) ?_
  exact hQ
theorem C_rdIE {n lim : Int} (hT : T r = (15 + 20, 0)) (hb : G.2.2.2.1 ≤ r) (hn : rg n) (hl : rg lim) (hQ : Q none (ui (ui I r 1 n) r 2 lim) J (up (up P r 8 (some (G.2.2.2.2 0))) r 0 (some tp)) T z) : MC G yX12_init (ws_ yX12_init cX12_init 4 (none : Option FieldType)) (d + 1) 0 0 [.ref r, .ref tp, iv n, iv lim] I J P T z Q nX := by
  refine MC.of (by decide) (Nat.le_of_ble_eq_true rfl) ?_
  show PW G mX12_init (rmD (d + 1) 0 0) (MZ G Q nX 0 0) 0 0 I J P T z 0 [some (.ref r), some (.ref tp), some (iv n), some (iv lim)] []
  refine r_aload_n (pc := 0) dX12_init_0 rfl rfl ?_
  refine r_objI (pc := 1) q612 dX12_init_1 rfl ?_
  refine r_aload_n (pc := 4) dX12_init_4 rfl rfl ?_
  refine r_ldcS (pc := 5) 0 rfl rfl dX12_init_5 ?_
  refine r_putr (pc := 7) (r := (some (G.2.2.2.2 0))) (c := 15) (k := 8) (kz := 8) hT cok_15 (Nat.le_of_ble_eq_true rfl) q634 ⟨rfl, rfl⟩ (Or.inl rfl) rfl (by omega) rfl rfl rfl (fun _ _ _ => rfl) ⟨rfl, rfl⟩ dX12_init_7 ?_
  refine r_aload_n (pc := 10) dX12_init_10 rfl rfl ?_
  refine r_aload_n (pc := 11) dX12_init_11 rfl rfl ?_
  refine r_putrF (pc := 12) (r := (some tp)) (c := 15) (k := 0) (kz := 0) hT cok_15 (Nat.le_of_ble_eq_true rfl) q618 ⟨rfl, rfl⟩ (Or.inl rfl) rfl (by omega) rfl rfl rfl rfl rfl (fun _ _ _ => rfl) ⟨rfl, rfl⟩ dX12_init_12 ?_
  refine r_aload_n (pc := 15) dX12_init_15 rfl rfl ?_
  refine r_iload_n (pc := 16) dX12_init_16 rfl rfl ?_
  refine r_putiF (pc := 17) (c := 15) (k := 1) (kz := 1) hT cok_15 (Nat.le_of_ble_eq_true rfl) q619 ⟨rfl, rfl⟩ (Or.inl rfl) rfl (by omega) rfl rfl rfl rfl (by omega) (fun _ _ _ => rfl) ⟨rfl, rfl⟩ dX12_init_17 ?_
  refine r_aload_n (pc := 20) dX12_init_20 rfl rfl ?_
  refine r_iload_n (pc := 21) dX12_init_21 rfl rfl ?_
  refine r_putiF (pc := 22) (c := 15) (k := 2) (kz := 2) hT cok_15 (Nat.le_of_ble_eq_true rfl) q620 ⟨rfl, rfl⟩ (Or.inl rfl) rfl (by omega) rfl rfl rfl rfl (by omega) (fun _ _ _ => rfl) ⟨rfl, rfl⟩ dX12_init_22 ?_
  refine r_return (pc := 25) rfl dX12_init_25 (Nat.le_of_ble_eq_true rfl) (Nat.le_of_ble_eq_true rfl) ?_
  exact hQ
theorem C_rdIS {n lim : Int} (hT : T r = (16 + 20, 0)) (hb : G.2.2.2.1 ≤ r) (hn : rg n) (hl : rg lim) (hQ : Q none (ui (ui I r 1 n) r 2 lim) J (up (up P r 8 (some (G.2.2.2.2 0))) r 0 (some tp)) T z) : MC G yX12_init (ws_ yX12_init cX12_init 4 (none : Option FieldType)) (d + 1) 0 0 [.ref r, .ref tp, iv n, iv lim] I J P T z Q nX := by
  refine MC.of (by decide) (Nat.le_of_ble_eq_true rfl) ?_
  show PW G mX12_init (rmD (d + 1) 0 0) (MZ G Q nX 0 0) 0 0 I J P T z 0 [some (.ref r), some (.ref tp), some (iv n), some (iv lim)] []
  refine r_aload_n (pc := 0) dX12_init_0 rfl rfl ?_
  refine r_objI (pc := 1) q612 dX12_init_1 rfl ?_
  refine r_aload_n (pc := 4) dX12_init_4 rfl rfl ?_
  refine r_ldcS (pc := 5) 0 rfl rfl dX12_init_5 ?_
  refine r_putr (pc := 7) (r := (some (G.2.2.2.2 0))) (c := 16) (k := 8) (kz := 8) hT cok_16 (Nat.le_of_ble_eq_true rfl) q634 ⟨rfl, rfl⟩ (Or.inl rfl) rfl (by omega) rfl rfl rfl (fun _ _ _ => rfl) ⟨rfl, rfl⟩ dX12_init_7 ?_
  refine r_aload_n (pc := 10) dX12_init_10 rfl rfl ?_
  refine r_aload_n (pc := 11) dX12_init_11 rfl rfl ?_
  refine r_putrF (pc := 12) (r := (some tp)) (c := 16) (k := 0) (kz := 0) hT cok_16 (Nat.le_of_ble_eq_true rfl) q618 ⟨rfl, rfl⟩ (Or.inl rfl) rfl (by omega) rfl rfl rfl rfl rfl (fun _ _ _ => rfl) ⟨rfl, rfl⟩ dX12_init_12 ?_
  refine r_aload_n (pc := 15) dX12_init_15 rfl rfl ?_
  refine r_iload_n (pc := 16) dX12_init_16 rfl rfl ?_
  refine r_putiF (pc := 17) (c := 16) (k := 1) (kz := 1) hT cok_16 (Nat.le_of_ble_eq_true rfl) q619 ⟨rfl, rfl⟩ (Or.inl rfl) rfl (by omega) rfl rfl rfl rfl (by omega) (fun _ _ _ => rfl) ⟨rfl, rfl⟩ dX12_init_17 ?_
  refine r_aload_n (pc := 20) dX12_init_20 rfl rfl ?_
  refine r_iload_n (pc := 21) dX12_init_21 rfl rfl ?_
  refine r_putiF (pc := 22) (c := 16) (k := 2) (kz := 2) hT cok_16 (Nat.le_of_ble_eq_true rfl) q620 ⟨rfl, rfl⟩ (Or.inl rfl) rfl (by omega) rfl rfl rfl rfl (by omega) (fun _ _ _ => rfl) ⟨rfl, rfl⟩ dX12_init_22 ?_
  refine r_return (pc := 25) rfl dX12_init_25 (Nat.le_of_ble_eq_true rfl) (Nat.le_of_ble_eq_true rfl) ?_
  exact hQ
end P12
