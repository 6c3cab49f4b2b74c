/-! POTTERY 3 (gen/mk_p3.py): covers -/
set_option maxRecDepth 100000
set_option maxHeartbeats 1000000 in
theorem t_X1_covers (l : Launch) (Ω : jO) {G : Mem} {sz : Nat} (a : Nat) {se9 dr9 sk9 ps9 os9 rw9 sh9 : Nat} {ck9 wh9 ne9 la9 re9 ea9 : Int32} (ha : G a = some (.inr (1, [.ref se9, .ref dr9, .ref sk9, .ref ps9, .ref os9, .ref rw9, .ref sh9, .int ck9, .int wh9, .int ne9, .int la9, .int re9, .int ea9]))) (p9 y9 : Nat) (b9 : Int32) {P9 : PotR} {mcp9 : Int32} {xs9 : List Nat} {edp9 cpp9 : Nat} (hps : jAL Ω G ps9 mcp9 xs9 edp9 cpp9) (hy9 : xs9[p9]? = some y9) (hpt : G y9 = some (potE P9)) (hb9 : b9 = 0 ∨ b9 = 1) (hby : Ω.2.2.2 ≤ y9) : vx_Met l yX1_covers (ws_ yX1_covers cX1_covers 5 (some .int)) ({ frames := 6, cells := 1, slots := 8, locals := 128 } : Room) (va_Pc [.ref a, .int (nI (p9)), .int b9] (jWd Ω G sz)) (jQ Ω (fun v G1 sz1 => P9.1 4 = nI (2) ∧ v = some (.int (r_bit (P9.1 6))) ∧ G1 = (gset G y9 (.inr (5, [.int (P9.1 0), .int (P9.1 1), .int (P9.1 2), .int (P9.1 3), .int (P9.1 4), .int (P9.1 5), .int b9, .float (P9.2.1), .ref (P9.2.2 0), .int (P9.1 7), .ref (P9.2.2 1), .int (nI (P9.2.2 2))]))) ∧ sz1 = sz)) (jXC Ω (fun ci q G1 sz1 => ¬ P9.1 4 = nI (2) ∧ xRef G sz (nI (13)) (P9.1 4) .null ci q G1 sz1)) 1 8 (jB Ω) := by
  refine jMetX (by decide) (Nat.le_of_ble_eq_true rfl) ?_
  intro p e s m args below meth c cx hr hnm hex
  refine J_loc [some (.ref a), some (.int (nI (p9))), some (.int b9), none, none] rfl ?_
  refine J_lt hpt (fun hlty => ?_)
  refine J_bs cx (fun hbs9 => ?_)
  refine J_lt ha (fun hlt0 => ?_)
  refine J_aload_n cx dX1_covers_0 rfl ?_
  refine J_iload_n cx dX1_covers_1 rfl ?_
  refine J_iconst (v := nI (2)) cx dX1_covers_2 (by decide) ?_
  refine J_callVX (n := 2) cx (ci := 1) [.int (nI (p9)), .int (nI (2))] (t_X1_inState l Ω a ha p9 y9 (nI (2)) hps hy9 hpt) dX1_covers_3 (lw_V q1650 q1652 qs16 q85 q1653) ⟨rfl, by decide, by decide, by decide +kernel⟩ rfl ha rfl rfl ⟨Nat.le_of_ble_eq_true rfl, Nat.le_of_ble_eq_true rfl⟩ rfl rfl (Nat.le_of_ble_eq_true rfl) ⟨Nat.le_of_ble_eq_true rfl, Nat.le_of_ble_eq_true rfl⟩ (fun v9 G9 z9 hp9 _ => ?_) (fun ci9 q9 r9 fs9 G9 z9 hc9 hq9 hp9 _ => JX_out cx (fun x9 h9 => (hex x9 h9).elim) hc9 hq9 hp9 (Nat.le_of_ble_eq_true rfl) (Nat.le_of_ble_eq_true rfl))
  obtain ⟨hst9, e1, e2, e3⟩ := hp9
  rw [e1, e2, e3]
  refine J_astore_n3 cx dX1_covers_6 (by decide) rfl ?_
  refine J_aload_n cx dX1_covers_7 rfl ?_
  refine J_getN cx in_X6 (ci := 5) rfl 6 (by decide) q468 (fun _ h => h) dX1_covers_8 hpt rfl ?_
  refine J_callSN (n := 1) cx [.int (P9.1 6)] (t_X0_bit l Ω (P9.1 6)) dX1_covers_11 q1332 q1654 q84 q1331 ⟨by decide, by decide, by decide +kernel⟩ rfl rfl ⟨Nat.le_of_ble_eq_true rfl, Nat.le_of_ble_eq_true rfl⟩ rfl rfl (Nat.le_of_ble_eq_true rfl) ⟨Nat.le_of_ble_eq_true rfl, Nat.le_of_ble_eq_true rfl⟩ (jdet ?_)
  refine J_istore4 cx dX1_covers_14 (by decide) rfl ?_
  refine J_aload_n cx dX1_covers_16 rfl ?_
  refine J_iload_n cx dX1_covers_17 rfl ?_
  refine J_putN cx in_X6 tyX6 tyX6_ok nmX6 (ci := 5) rfl 6 (by decide) q468 (fun _ h => h) rfl (ty := .boolean) (by decide +kernel) dX1_covers_18 (by rcases hb9 with h | h <;> rw [h] <;> rfl) (by rcases hb9 with h | h <;> rw [h] <;> rfl) hpt (Nat.le_of_ble_eq_true rfl) (by omega) ?_
  refine J_mem (gset G y9 (.inr (5, [.int (P9.1 0), .int (P9.1 1), .int (P9.1 2), .int (P9.1 3), .int (P9.1 4), .int (P9.1 5), .int b9, .float (P9.2.1), .ref (P9.2.2 0), .int (P9.1 7), .ref (P9.2.2 1), .int (nI (P9.2.2 2))]))) rfl ?_
  refine J_iload cx dX1_covers_21 rfl ?_
  refine J_xret ?_
  exact J_iret cx dX1_covers_23 hr ⟨hst9, rfl, rfl, rfl⟩ (Nat.le_of_ble_eq_true rfl) (Nat.le_of_ble_eq_true rfl)
