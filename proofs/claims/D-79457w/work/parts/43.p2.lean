/-! POTTERY 2 (gen/mk_p2.py): inState -/
set_option maxRecDepth 100000
/-- thrown: a fresh Refused at q, with its reason, its detail and its cause; else nothing has changed -/
abbrev xRef (G : Mem) (sz : Nat) (re de : Int32) (ca : Value) : Nat → Nat → Mem → Nat → Prop := fun ci q G1 sz1 => ci = 8 ∧ q = sz ∧ G1 = gset G sz (.inr (8, [ca, .null, .null, .null, .null, .int 0, .int re, .int de])) ∧ sz1 = sz + 1
set_option maxHeartbeats 1000000 in
theorem t_X1_inState (l : Launch) (Ω : jO) {G : Mem} {sz : Nat} (a : Nat) {se9 dr9 sk9 ps9 os9 rw9 sh9 : Nat} {ck9 wh9 ne9 la9 re9 ea9 : Int32} (ha : G a = some (.inr (1, [.ref se9, .ref dr9, .ref sk9, .ref ps9, .ref os9, .ref rw9, .ref sh9, .int ck9, .int wh9, .int ne9, .int la9, .int re9, .int ea9]))) (p9 y9 : Nat) (x9 : Int32) {P9 : PotR} {mcp9 : Int32} {xs9 : List Nat} {edp9 cpp9 : Nat} (hps : jAL Ω G ps9 mcp9 xs9 edp9 cpp9) (hy9 : xs9[p9]? = some y9) (hpt : G y9 = some (potE P9)) : vx_Met l yX1_inState (ws_ yX1_inState cX1_inState 4 (some (.object "TurningWheel$Pot"))) ({ frames := 5, cells := 1, slots := 8, locals := 105 } : Room) (va_Pc [.ref a, .int (nI (p9)), .int x9] (jWd Ω G sz)) (jQ Ω (fun v G1 sz1 => P9.1 4 = x9 ∧ v = some (.ref y9) ∧ G1 = G ∧ sz1 = sz)) (jXC Ω (fun ci q G1 sz1 => ¬ P9.1 4 = x9 ∧ xRef G sz (nI (13)) (P9.1 4) .null ci q G1 sz1)) 1 8 (jB Ω) := by
  refine jMetX (by decide) (Nat.le_of_ble_eq_true rfl) ?_
  intro p e s m args below meth c cx hr hnm hex
  refine J_loc [some (.ref a), some (.int (nI (p9))), some (.int x9), none] rfl ?_
  refine J_lt hpt (fun hlty => ?_)
  refine J_bs cx (fun hbs9 => ?_)
  refine J_lt ha (fun hlt0 => ?_)
  refine J_aload_n cx dX1_inState_0 rfl ?_
  refine J_get cx in_X1 (ci := 1) rfl 3 (by decide) q253 (fun _ h => h) dX1_inState_1 ha rfl ?_
  refine J_iload_n cx dX1_inState_4 rfl ?_
  refine J_al_get cx dX1_inState_5 q413 hps hy9 ⟨Nat.le_of_ble_eq_true rfl, Nat.le_of_ble_eq_true rfl⟩ (Nat.le_of_ble_eq_true rfl) ⟨Nat.le_of_ble_eq_true rfl, Nat.le_of_ble_eq_true rfl⟩ ?_
  refine J_castS (q := (RX6, TX6, 12)) cx dX1_inState_8 q411 (ci := 5) rfl hpt ?_
  refine J_astore_n3 cx dX1_inState_11 (by decide) rfl ?_
  refine J_aload_n cx dX1_inState_12 rfl ?_
  refine J_getN cx in_X6 (ci := 5) rfl 4 (by decide) q461 (fun _ h => h) dX1_inState_13 hpt rfl ?_
  refine J_iload_n cx dX1_inState_16 rfl ?_
  refine J_icmp_eq (tgt := 34) cx dX1_inState_17 (by decide) (fun c17 => ?_) (fun c17 => ?_)
  · refine J_aload_n cx dX1_inState_34 rfl ?_
    refine J_xret ?_
    exact J_aret cx dX1_inState_35 hr (Or.inl ⟨_, rfl⟩) (Or.inr ⟨_, rfl⟩) ⟨c17, rfl, rfl, rfl⟩ (Nat.le_of_ble_eq_true rfl) (Nat.le_of_ble_eq_true rfl)
  · refine J_new cx in_X10 tyX10 tyX10_ok q1283 q1284 q125 (ci := 8) rfl (fs := [.null, .null, .null, .null, .null, .int 0, .int 0, .int 0]) (by decide +kernel) dX1_inState_20 (Nat.le_of_ble_eq_true rfl) (Nat.le_of_ble_eq_true rfl) ?_
    refine J_dup cx dX1_inState_23 rfl ?_
    refine J_bipush (v := nI (13)) cx dX1_inState_24 (by decide) ?_
    refine J_aload_n cx dX1_inState_26 rfl ?_
    refine J_getN cx in_X6 (ci := 5) rfl 4 (by decide) q461 (fun _ h => h) dX1_inState_27 ((gset_ne (by omega)).trans hpt) rfl ?_
    refine J_callI (n := 2) cx [.int (nI (13)), .int (P9.1 4)] (t_X10_init l Ω sz (nI (13)) (P9.1 4) gset_eq (by omega)) dX1_inState_30 q1294 q125 q1292 q1293 rfl ⟨by decide, by decide, by decide +kernel⟩ rfl rfl ⟨Nat.le_of_ble_eq_true rfl, Nat.le_of_ble_eq_true rfl⟩ rfl rfl (Nat.le_of_ble_eq_true rfl) ⟨Nat.le_of_ble_eq_true rfl, Nat.le_of_ble_eq_true rfl⟩ (jdet ?_)
    refine J_mem (gset G sz (.inr (8, [.null, .null, .null, .null, .null, .int 0, .int (nI (13)), .int (P9.1 4)]))) gset_gset ?_
    refine J_athrow cx dX1_inState_33 ?_
    exact JX_out cx (fun x9 h9 => (hex x9 h9).elim) (ci := 8) rfl gset_eq ⟨c17, rfl, rfl, rfl, rfl⟩ (Nat.le_of_ble_eq_true rfl) (Nat.le_of_ble_eq_true rfl)
