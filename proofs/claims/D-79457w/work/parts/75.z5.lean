/-! THE SHELF AGAIN (gen/mk_z5.py): puts -/
set_option maxRecDepth 100000
set_option maxHeartbeats 1000000 in
theorem t_X2_puts_N (l : Launch) (Ω : jO) {G : Mem} {sz : Nat} (a : Nat) {ra9 : Nat} {f9 : Nat → Option Nat} (ha : G a = some (.inr (2, [.ref ra9]))) (hs : G ra9 = some (.inl (Ω.2.1 5, 8, jAq f9))) (k9 : Nat) (hk8 : k9 < 8) (hb : Ω.2.2.2 ≤ ra9) : vx_Met l yX2_puts (wsW_ yX2_puts cX2_puts 5 (some (.object "TurningWheel$Ware")) [(7, 14, 17, 17)]) ({ frames := 1, cells := 0, slots := 0, locals := 12 } : Room) (va_Pc [.ref a, .int (nI (k9)), .null] (jWd Ω G sz)) (jQ Ω (jD (some (va_rf (f9 k9))) (gset G ra9 (.inl (Ω.2.1 5, 8, jAq (va_up f9 k9 none)))) sz)) (jXC Ω (fun _ _ _ _ => False)) 0 0 (jB Ω) := by
  refine jMetXH (by decide) (Nat.le_of_ble_eq_true rfl) ?_
  intro p e s m args below meth c cx hr hnm hex
  refine J_loc [some (.ref a), some (.int (nI (k9))), some (.null), none, none] rfl ?_
  refine J_bs cx (fun hbs9 => ?_)
  refine J_lt ha (fun hlt0 => ?_)
  refine J_lt hs (fun hlt1 => ?_)
  refine J_aload_n cx dX2_puts_0 rfl ?_
  refine J_get cx in_X2 (ci := 2) rfl 0 (by decide) q241 (fun _ h => h) dX2_puts_1 ha rfl ?_
  refine J_iload_n cx dX2_puts_4 rfl ?_
  rcases hq5 : f9 k9 with _ | w9
  · refine J_aald cx 5 dX2_puts_5 rfl hs (by omega) (by omega) (v := .null) (by rw [hq5]; rfl) ?_
    refine J_astore_nN3 cx dX2_puts_6 (by decide) rfl ?_
    refine J_aload_n cx dX2_puts_7 rfl ?_
    refine J_get cx in_X2 (ci := 2) rfl 0 (by decide) q241 (fun _ h => h) dX2_puts_8 ha rfl ?_
    refine J_iload_n cx dX2_puts_11 rfl ?_
    refine J_aload_nN cx dX2_puts_12 rfl ?_
    refine J_aastN cx 5 dX2_puts_13 rfl hs (by omega) (by omega) (by omega) ?_
    refine J_mem (gset G ra9 (.inl (Ω.2.1 5, 8, jAq (va_up f9 k9 none)))) rfl ?_
    refine J_goto (tgt := 33) cx dX2_puts_14 (by decide) ?_
    refine J_aload_nN cx dX2_puts_33 rfl ?_
    refine J_xret ?_
    exact J_aret cx dX2_puts_34 hr (Or.inl ⟨_, rfl⟩) (Or.inl rfl) ⟨rfl, rfl, rfl⟩ (Nat.le_of_ble_eq_true rfl) (Nat.le_of_ble_eq_true rfl)
  · refine J_aald cx 5 dX2_puts_5 rfl hs (by omega) (by omega) (v := .ref w9) (by rw [hq5]; rfl) ?_
    refine J_astore_n3 cx dX2_puts_6 (by decide) rfl ?_
    refine J_aload_n cx dX2_puts_7 rfl ?_
    refine J_get cx in_X2 (ci := 2) rfl 0 (by decide) q241 (fun _ h => h) dX2_puts_8 ha rfl ?_
    refine J_iload_n cx dX2_puts_11 rfl ?_
    refine J_aload_nN cx dX2_puts_12 rfl ?_
    refine J_aastN cx 5 dX2_puts_13 rfl hs (by omega) (by omega) (by omega) ?_
    refine J_mem (gset G ra9 (.inl (Ω.2.1 5, 8, jAq (va_up f9 k9 none)))) rfl ?_
    refine J_goto (tgt := 33) cx dX2_puts_14 (by decide) ?_
    refine J_aload_n cx dX2_puts_33 rfl ?_
    refine J_xret ?_
    exact J_aret cx dX2_puts_34 hr (Or.inl ⟨_, rfl⟩) (Or.inr ⟨_, rfl⟩) ⟨rfl, rfl, rfl⟩ (Nat.le_of_ble_eq_true rfl) (Nat.le_of_ble_eq_true rfl)
set_option maxHeartbeats 1000000 in
theorem t_X2_puts_C (l : Launch) (Ω : jO) {G : Mem} {sz : Nat} (a : Nat) {ra9 : Nat} {f9 : Nat → Option Nat} (ha : G a = some (.inr (2, [.ref ra9]))) (hs : G ra9 = some (.inl (Ω.2.1 5, 8, jAq f9))) (k9 : Nat) (hk8 : k9 < 8) (hb : Ω.2.2.2 ≤ ra9) (wv9 : Nat) {wk9 : Int32} {wx9 : Int32 × Int32} (hw : G wv9 = some (wE wk9 (some wx9))) : vx_Met l yX2_puts (wsW_ yX2_puts cX2_puts 5 (some (.object "TurningWheel$Ware")) [(7, 14, 17, 17)]) ({ frames := 1, cells := 0, slots := 0, locals := 12 } : Room) (va_Pc [.ref a, .int (nI (k9)), .ref wv9] (jWd Ω G sz)) (jQ Ω (jD (some (va_rf (f9 k9))) (gset G ra9 (.inl (Ω.2.1 5, 8, jAq (va_up f9 k9 (some wv9))))) sz)) (jXC Ω (fun _ _ _ _ => False)) 0 0 (jB Ω) := by
  refine jMetXH (by decide) (Nat.le_of_ble_eq_true rfl) ?_
  intro p e s m args below meth c cx hr hnm hex
  refine J_loc [some (.ref a), some (.int (nI (k9))), some (.ref wv9), none, none] rfl ?_
  refine J_bs cx (fun hbs9 => ?_)
  refine J_lt ha (fun hlt0 => ?_)
  refine J_lt hs (fun hlt1 => ?_)
  refine J_lt hw (fun hlt2 => ?_)
  refine J_aload_n cx dX2_puts_0 rfl ?_
  refine J_get cx in_X2 (ci := 2) rfl 0 (by decide) q241 (fun _ h => h) dX2_puts_1 ha rfl ?_
  refine J_iload_n cx dX2_puts_4 rfl ?_
  rcases hq5 : f9 k9 with _ | w9
  · refine J_aald cx 5 dX2_puts_5 rfl hs (by omega) (by omega) (v := .null) (by rw [hq5]; rfl) ?_
    refine J_astore_nN3 cx dX2_puts_6 (by decide) rfl ?_
    refine J_aload_n cx dX2_puts_7 rfl ?_
    refine J_get cx in_X2 (ci := 2) rfl 0 (by decide) q241 (fun _ h => h) dX2_puts_8 ha rfl ?_
    refine J_iload_n cx dX2_puts_11 rfl ?_
    refine J_aload_n cx dX2_puts_12 rfl ?_
    refine J_aastS cx 5 dX2_puts_13 rfl hs (ci := 10) rfl hw  (by omega) (by omega) (by omega) ?_
    refine J_mem (gset G ra9 (.inl (Ω.2.1 5, 8, jAq (va_up f9 k9 (some wv9))))) rfl ?_
    refine J_goto (tgt := 33) cx dX2_puts_14 (by decide) ?_
    refine J_aload_nN cx dX2_puts_33 rfl ?_
    refine J_xret ?_
    exact J_aret cx dX2_puts_34 hr (Or.inl ⟨_, rfl⟩) (Or.inl rfl) ⟨rfl, rfl, rfl⟩ (Nat.le_of_ble_eq_true rfl) (Nat.le_of_ble_eq_true rfl)
  · refine J_aald cx 5 dX2_puts_5 rfl hs (by omega) (by omega) (v := .ref w9) (by rw [hq5]; rfl) ?_
    refine J_astore_n3 cx dX2_puts_6 (by decide) rfl ?_
    refine J_aload_n cx dX2_puts_7 rfl ?_
    refine J_get cx in_X2 (ci := 2) rfl 0 (by decide) q241 (fun _ h => h) dX2_puts_8 ha rfl ?_
    refine J_iload_n cx dX2_puts_11 rfl ?_
    refine J_aload_n cx dX2_puts_12 rfl ?_
    refine J_aastS cx 5 dX2_puts_13 rfl hs (ci := 10) rfl hw  (by omega) (by omega) (by omega) ?_
    refine J_mem (gset G ra9 (.inl (Ω.2.1 5, 8, jAq (va_up f9 k9 (some wv9))))) rfl ?_
    refine J_goto (tgt := 33) cx dX2_puts_14 (by decide) ?_
    refine J_aload_n cx dX2_puts_33 rfl ?_
    refine J_xret ?_
    exact J_aret cx dX2_puts_34 hr (Or.inl ⟨_, rfl⟩) (Or.inr ⟨_, rfl⟩) ⟨rfl, rfl, rfl⟩ (Nat.le_of_ble_eq_true rfl) (Nat.le_of_ble_eq_true rfl)
set_option maxHeartbeats 1000000 in
theorem t_X2_puts_X (l : Launch) (Ω : jO) {G : Mem} {sz : Nat} (hl : l.stackTraces = false) (a : Nat) {ra9 : Nat} {f9 : Nat → Option Nat} (ha : G a = some (.inr (2, [.ref ra9]))) (hs : G ra9 = some (.inl (Ω.2.1 5, 8, jAq f9))) (k9 : Nat) (hk8 : k9 < 8) (hb : Ω.2.2.2 ≤ ra9) (wv9 : Nat) {wk9 : Int32} (hw : G wv9 = some (wE wk9 none)) : vx_Met l yX2_puts (wsW_ yX2_puts cX2_puts 5 (some (.object "TurningWheel$Ware")) [(7, 14, 17, 17)]) ({ frames := 7, cells := 4, slots := 34, locals := 10252 } : Room) (va_Pc [.ref a, .int (nI (k9)), .ref wv9] (jWd Ω G sz)) (jQ Ω (fun _ _ _ => False)) (jXC Ω (fun ci q G1 sz1 => ∃ z, sz ≤ z ∧ xRef G z (nI (20)) wk9 .null ci q G1 sz1)) 4 34 (jB Ω) := by
  refine jMetXH (by decide) (Nat.le_of_ble_eq_true rfl) ?_
  intro p e s m args below meth c cx hr hnm hex
  refine J_loc [some (.ref a), some (.int (nI (k9))), some (.ref wv9), none, none] rfl ?_
  refine J_bs cx (fun hbs9 => ?_)
  refine J_lt ha (fun hlt0 => ?_)
  refine J_lt hs (fun hlt1 => ?_)
  refine J_lt hw (fun hlt2 => ?_)
  refine J_aload_n cx dX2_puts_0 rfl ?_
  refine J_get cx in_X2 (ci := 2) rfl 0 (by decide) q241 (fun _ h => h) dX2_puts_1 ha rfl ?_
  refine J_iload_n cx dX2_puts_4 rfl ?_
  rcases hq5 : f9 k9 with _ | w9
  · refine J_aald cx 5 dX2_puts_5 rfl hs (by omega) (by omega) (v := .null) (by rw [hq5]; rfl) ?_
    refine J_astore_nN3 cx dX2_puts_6 (by decide) rfl ?_
    refine J_aload_n cx dX2_puts_7 rfl ?_
    refine J_get cx in_X2 (ci := 2) rfl 0 (by decide) q241 (fun _ h => h) dX2_puts_8 ha rfl ?_
    refine J_iload_n cx dX2_puts_11 rfl ?_
    refine J_aload_n cx dX2_puts_12 rfl ?_
    refine J_aastX cx hl 5 dX2_puts_13 rfl hs (ci := 6) rfl rfl hw (by decide) (by omega) (by omega) _ [] hex (by decide) (by decide) q1714 (Nat.le_of_ble_eq_true rfl) (Nat.le_of_ble_eq_true rfl) (Nat.le_of_ble_eq_true rfl) (Nat.le_of_ble_eq_true rfl) (fun q9 sz9 hz9 => ?_)
    refine J_astore4 cx dX2_puts_17 (by decide) rfl ?_
    refine J_new cx in_X10 tyX10 tyX10_ok q1736 q1284 q125 (ci := 8) rfl (fs := [.null, .null, .null, .null, .null, .int 0, .int 0, .int 0]) (by decide +kernel) dX2_puts_19 (Nat.le_of_ble_eq_true rfl) (Nat.le_of_ble_eq_true rfl) ?_
    refine J_dup cx dX2_puts_22 rfl ?_
    refine J_bipush (v := nI (20)) cx dX2_puts_23 (by decide) ?_
    refine J_aload_n cx dX2_puts_25 rfl ?_
    refine J_w_pot cx dX2_puts_26 q1737 ((gset_ne (by omega)).trans hw) ⟨Nat.le_of_ble_eq_true rfl, Nat.le_of_ble_eq_true rfl⟩ (Nat.le_of_ble_eq_true rfl) ⟨Nat.le_of_ble_eq_true rfl, Nat.le_of_ble_eq_true rfl⟩ ?_
    refine J_callI (n := 2) cx [.int (nI (20)), .int wk9] (t_X10_init l Ω sz9 (nI (20)) wk9 gset_eq (by omega)) dX2_puts_29 q1294 q125 q1743 q1293 rfl ⟨by decide, by decide, by decide +kernel⟩ rfl rfl ⟨Nat.le_of_ble_eq_true rfl, Nat.le_of_ble_eq_true rfl⟩ rfl rfl (Nat.le_of_ble_eq_true rfl) ⟨Nat.le_of_ble_eq_true rfl, Nat.le_of_ble_eq_true rfl⟩ (jdet ?_)
    refine J_mem (gset G sz9 (.inr (8, [.null, .null, .null, .null, .null, .int 0, .int (nI (20)), .int wk9]))) gset_gset ?_
    refine J_athrow cx dX2_puts_32 ?_
    exact JX_out cx (jnocov hex (by decide)) (ci := 8) rfl gset_eq ⟨sz9, hz9, rfl, rfl, rfl, rfl⟩ (Nat.le_of_ble_eq_true rfl) (Nat.le_of_ble_eq_true rfl)
  · refine J_aald cx 5 dX2_puts_5 rfl hs (by omega) (by omega) (v := .ref w9) (by rw [hq5]; rfl) ?_
    refine J_astore_n3 cx dX2_puts_6 (by decide) rfl ?_
    refine J_aload_n cx dX2_puts_7 rfl ?_
    refine J_get cx in_X2 (ci := 2) rfl 0 (by decide) q241 (fun _ h => h) dX2_puts_8 ha rfl ?_
    refine J_iload_n cx dX2_puts_11 rfl ?_
    refine J_aload_n cx dX2_puts_12 rfl ?_
    refine J_aastX cx hl 5 dX2_puts_13 rfl hs (ci := 6) rfl rfl hw (by decide) (by omega) (by omega) _ [] hex (by decide) (by decide) q1714 (Nat.le_of_ble_eq_true rfl) (Nat.le_of_ble_eq_true rfl) (Nat.le_of_ble_eq_true rfl) (Nat.le_of_ble_eq_true rfl) (fun q9 sz9 hz9 => ?_)
    refine J_astore4 cx dX2_puts_17 (by decide) rfl ?_
    refine J_new cx in_X10 tyX10 tyX10_ok q1736 q1284 q125 (ci := 8) rfl (fs := [.null, .null, .null, .null, .null, .int 0, .int 0, .int 0]) (by decide +kernel) dX2_puts_19 (Nat.le_of_ble_eq_true rfl) (Nat.le_of_ble_eq_true rfl) ?_
    refine J_dup cx dX2_puts_22 rfl ?_
    refine J_bipush (v := nI (20)) cx dX2_puts_23 (by decide) ?_
    refine J_aload_n cx dX2_puts_25 rfl ?_
    refine J_w_pot cx dX2_puts_26 q1737 ((gset_ne (by omega)).trans hw) ⟨Nat.le_of_ble_eq_true rfl, Nat.le_of_ble_eq_true rfl⟩ (Nat.le_of_ble_eq_true rfl) ⟨Nat.le_of_ble_eq_true rfl, Nat.le_of_ble_eq_true rfl⟩ ?_
    refine J_callI (n := 2) cx [.int (nI (20)), .int wk9] (t_X10_init l Ω sz9 (nI (20)) wk9 gset_eq (by omega)) dX2_puts_29 q1294 q125 q1743 q1293 rfl ⟨by decide, by decide, by decide +kernel⟩ rfl rfl ⟨Nat.le_of_ble_eq_true rfl, Nat.le_of_ble_eq_true rfl⟩ rfl rfl (Nat.le_of_ble_eq_true rfl) ⟨Nat.le_of_ble_eq_true rfl, Nat.le_of_ble_eq_true rfl⟩ (jdet ?_)
    refine J_mem (gset G sz9 (.inr (8, [.null, .null, .null, .null, .null, .int 0, .int (nI (20)), .int wk9]))) gset_gset ?_
    refine J_athrow cx dX2_puts_32 ?_
    exact JX_out cx (jnocov hex (by decide)) (ci := 8) rfl gset_eq ⟨sz9, hz9, rfl, rfl, rfl, rfl⟩ (Nat.le_of_ble_eq_true rfl) (Nat.le_of_ble_eq_true rfl)
