/-! EXCEPTIONS 1 (gen/mk_ex.py): constructors -/
set_option maxRecDepth 100000
theorem jzq {C n d : String} {A : Nat → Prop} {U : State} {H : Heap} (h : va_Zq C n d A U H) : ∃ v : Value, va_Z C n d v A U H ∧ (v = .null ∨ ∃ t, v = .ref t) := by
  rcases h with h | ⟨t, h⟩
  · exact ⟨_, h, Or.inl rfl⟩
  · exact ⟨_, h, Or.inr ⟨t, rfl⟩⟩
set_option maxHeartbeats 1000000 in
theorem t_J15_init_3_X10_Z (l : Launch) (Ω : jO) {G : Mem} {sz : Nat} (a : Nat) (ha : G a = some (.inr (8, [.null, .null, .null, .null, .null, .int 0, .int 0, .int 0]))) (hb : Ω.2.2.2 ≤ a) : Met l yJ15_init_3 (ws_ yJ15_init_3 cJ15_init_3 5 none) ({ frames := 1, cells := 0, slots := 0, locals := 12 } : Room) (va_Pc [.ref a, .null, .null, .int (nI (0)), .int (nI (0))] (jWd Ω G sz)) (jQ Ω (jD none (gset G a (.inr (8, [.null, .null, .null, .null, .null, .int 0, .int 0, .int 0]))) (sz))) 0 0 (jB Ω) := by
  refine jMetF (by decide +kernel) (Nat.le_of_ble_eq_true rfl) ?_
  intro p e s m args below meth c cx hr hnm
  refine J_loc [some (.ref a), some (.null), some (.null), some (.int (nI (0))), some (.int (nI (0)))] rfl ?_
  obtain ⟨vU9, hU9, hUk⟩ := jzq cx.sta.2.2.2.2.2.2.2.2.1.1
  obtain ⟨vS9, hS9, hSk⟩ := jzq cx.sta.2.2.2.2.2.2.2.2.2.1.1
  refine J_bs cx (fun hbs9 => ?_)
  refine J_lt ha (fun hlt0 => ?_)
  refine J_aload_n cx dJ15_init_3_0 rfl ?_
  refine J_objInit cx dJ15_init_3_1 q839 q170 q171 (Nat.le_of_ble_eq_true rfl) (Nat.le_of_ble_eq_true rfl) ?_
  refine J_aload_n cx dJ15_init_3_4 rfl ?_
  refine J_aload_n cx dJ15_init_3_5 rfl ?_
  refine J_put cx in_X10 tyX10 tyX10_ok nmX10 (ci := 8) rfl 0 (by decide) q1099 (fun _ h => h) rfl (ty := (.object "java/lang/Throwable")) (by decide +kernel) dJ15_init_3_6 rfl rfl ha (Nat.le_of_ble_eq_true rfl) (by omega) ?_
  refine J_mem (gset G a (.inr (8, [.ref a, .null, .null, .null, .null, .int 0, .int 0, .int 0]))) rfl ?_
  refine J_aload_n cx dJ15_init_3_9 rfl ?_
  refine J_gets cx hU9 dJ15_init_3_10 q840 (fun _ h => h) ?_
  refine J_put cx in_X10 tyX10 tyX10_ok nmX10 (ci := 8) rfl 1 (by decide) q1100 (fun _ h => h) rfl (ty := (.array (.object "java/lang/StackTraceElement"))) (by decide +kernel) dJ15_init_3_13 (by rcases hUk with e9 | ⟨t9, e9⟩ <;> rw [e9] <;> rfl) (by rcases hUk with e9 | ⟨t9, e9⟩ <;> rw [e9] <;> rfl) gset_eq (Nat.le_of_ble_eq_true rfl) (by omega) ?_
  refine J_mem (gset G a (.inr (8, [.ref a, vU9, .null, .null, .null, .int 0, .int 0, .int 0]))) gset_gset ?_
  refine J_aload_n cx dJ15_init_3_16 rfl ?_
  refine J_gets cx hS9 dJ15_init_3_17 q842 (fun _ h => h) ?_
  refine J_put cx in_X10 tyX10 tyX10_ok nmX10 (ci := 8) rfl 2 (by decide) q1101 (fun _ h => h) rfl (ty := (.object "java/util/List")) (by decide +kernel) dJ15_init_3_20 (by rcases hSk with e9 | ⟨t9, e9⟩ <;> rw [e9] <;> rfl) (by rcases hSk with e9 | ⟨t9, e9⟩ <;> rw [e9] <;> rfl) gset_eq (Nat.le_of_ble_eq_true rfl) (by omega) ?_
  refine J_mem (gset G a (.inr (8, [.ref a, vU9, vS9, .null, .null, .int 0, .int 0, .int 0]))) gset_gset ?_
  refine J_iload cx dJ15_init_3_23 rfl ?_
  refine J_if_eq (tgt := 36) cx dJ15_init_3_25 (by decide) (fun c25 => ?_) (fun c25 => absurd c25 (by decide))
  refine J_aload_n cx dJ15_init_3_36 rfl ?_
  refine J_null cx dJ15_init_3_37 ?_
  refine J_put cx in_X10 tyX10 tyX10_ok nmX10 (ci := 8) rfl 1 (by decide) q1100 (fun _ h => h) rfl (ty := (.array (.object "java/lang/StackTraceElement"))) (by decide +kernel) dJ15_init_3_38 rfl rfl gset_eq (Nat.le_of_ble_eq_true rfl) (by omega) ?_
  refine J_mem (gset G a (.inr (8, [.ref a, .null, vS9, .null, .null, .int 0, .int 0, .int 0]))) gset_gset ?_
  refine J_aload_n cx dJ15_init_3_41 rfl ?_
  refine J_aload_nN cx dJ15_init_3_42 rfl ?_
  refine J_put cx in_X10 tyX10 tyX10_ok nmX10 (ci := 8) rfl 3 (by decide) q1098 (fun _ h => h) rfl (ty := (.object "java/lang/String")) (by decide +kernel) dJ15_init_3_43 rfl rfl gset_eq (Nat.le_of_ble_eq_true rfl) (by omega) ?_
  refine J_mem (gset G a (.inr (8, [.ref a, .null, vS9, .null, .null, .int 0, .int 0, .int 0]))) gset_gset ?_
  refine J_aload_n cx dJ15_init_3_46 rfl ?_
  refine J_aload_nN cx dJ15_init_3_47 rfl ?_
  refine J_put cx in_X10 tyX10 tyX10_ok nmX10 (ci := 8) rfl 0 (by decide) q1099 (fun _ h => h) rfl (ty := (.object "java/lang/Throwable")) (by decide +kernel) dJ15_init_3_48 rfl rfl gset_eq (Nat.le_of_ble_eq_true rfl) (by omega) ?_
  refine J_mem (gset G a (.inr (8, [.null, .null, vS9, .null, .null, .int 0, .int 0, .int 0]))) gset_gset ?_
  refine J_iload_n cx dJ15_init_3_51 rfl ?_
  refine J_if_ne (tgt := 60) cx dJ15_init_3_52 (by decide) (fun c52 => absurd c52 (by decide)) (fun c52 => ?_)
  refine J_aload_n cx dJ15_init_3_55 rfl ?_
  refine J_null cx dJ15_init_3_56 ?_
  refine J_put cx in_X10 tyX10 tyX10_ok nmX10 (ci := 8) rfl 2 (by decide) q1101 (fun _ h => h) rfl (ty := (.object "java/util/List")) (by decide +kernel) dJ15_init_3_57 rfl rfl gset_eq (Nat.le_of_ble_eq_true rfl) (by omega) ?_
  refine J_mem (gset G a (.inr (8, [.null, .null, .null, .null, .null, .int 0, .int 0, .int 0]))) gset_gset ?_
  exact J_vret cx dJ15_init_3_60 hr ⟨rfl, rfl, rfl⟩ (Nat.le_of_ble_eq_true rfl) (Nat.le_of_ble_eq_true rfl)
set_option maxHeartbeats 1000000 in
theorem t_J15_init_3_X10_R (l : Launch) (Ω : jO) {G : Mem} {sz : Nat} (a q9 : Nat) (ha : G a = some (.inr (8, [.null, .null, .null, .null, .null, .int 0, .int 0, .int 0]))) (hb : Ω.2.2.2 ≤ a) : Met l yJ15_init_3 (ws_ yJ15_init_3 cJ15_init_3 5 none) ({ frames := 1, cells := 0, slots := 0, locals := 12 } : Room) (va_Pc [.ref a, .null, .ref q9, .int (nI (0)), .int (nI (0))] (jWd Ω G sz)) (jQ Ω (jD none (gset G a (.inr (8, [.ref q9, .null, .null, .null, .null, .int 0, .int 0, .int 0]))) (sz))) 0 0 (jB Ω) := by
  refine jMetF (by decide +kernel) (Nat.le_of_ble_eq_true rfl) ?_
  intro p e s m args below meth c cx hr hnm
  refine J_loc [some (.ref a), some (.null), some (.ref q9), some (.int (nI (0))), some (.int (nI (0)))] rfl ?_
  obtain ⟨vU9, hU9, hUk⟩ := jzq cx.sta.2.2.2.2.2.2.2.2.1.1
  obtain ⟨vS9, hS9, hSk⟩ := jzq cx.sta.2.2.2.2.2.2.2.2.2.1.1
  refine J_bs cx (fun hbs9 => ?_)
  refine J_lt ha (fun hlt0 => ?_)
  refine J_aload_n cx dJ15_init_3_0 rfl ?_
  refine J_objInit cx dJ15_init_3_1 q839 q170 q171 (Nat.le_of_ble_eq_true rfl) (Nat.le_of_ble_eq_true rfl) ?_
  refine J_aload_n cx dJ15_init_3_4 rfl ?_
  refine J_aload_n cx dJ15_init_3_5 rfl ?_
  refine J_put cx in_X10 tyX10 tyX10_ok nmX10 (ci := 8) rfl 0 (by decide) q1099 (fun _ h => h) rfl (ty := (.object "java/lang/Throwable")) (by decide +kernel) dJ15_init_3_6 rfl rfl ha (Nat.le_of_ble_eq_true rfl) (by omega) ?_
  refine J_mem (gset G a (.inr (8, [.ref a, .null, .null, .null, .null, .int 0, .int 0, .int 0]))) rfl ?_
  refine J_aload_n cx dJ15_init_3_9 rfl ?_
  refine J_gets cx hU9 dJ15_init_3_10 q840 (fun _ h => h) ?_
  refine J_put cx in_X10 tyX10 tyX10_ok nmX10 (ci := 8) rfl 1 (by decide) q1100 (fun _ h => h) rfl (ty := (.array (.object "java/lang/StackTraceElement"))) (by decide +kernel) dJ15_init_3_13 (by rcases hUk with e9 | ⟨t9, e9⟩ <;> rw [e9] <;> rfl) (by rcases hUk with e9 | ⟨t9, e9⟩ <;> rw [e9] <;> rfl) gset_eq (Nat.le_of_ble_eq_true rfl) (by omega) ?_
  refine J_mem (gset G a (.inr (8, [.ref a, vU9, .null, .null, .null, .int 0, .int 0, .int 0]))) gset_gset ?_
  refine J_aload_n cx dJ15_init_3_16 rfl ?_
  refine J_gets cx hS9 dJ15_init_3_17 q842 (fun _ h => h) ?_
  refine J_put cx in_X10 tyX10 tyX10_ok nmX10 (ci := 8) rfl 2 (by decide) q1101 (fun _ h => h) rfl (ty := (.object "java/util/List")) (by decide +kernel) dJ15_init_3_20 (by rcases hSk with e9 | ⟨t9, e9⟩ <;> rw [e9] <;> rfl) (by rcases hSk with e9 | ⟨t9, e9⟩ <;> rw [e9] <;> rfl) gset_eq (Nat.le_of_ble_eq_true rfl) (by omega) ?_
  refine J_mem (gset G a (.inr (8, [.ref a, vU9, vS9, .null, .null, .int 0, .int 0, .int 0]))) gset_gset ?_
  refine J_iload cx dJ15_init_3_23 rfl ?_
  refine J_if_eq (tgt := 36) cx dJ15_init_3_25 (by decide) (fun c25 => ?_) (fun c25 => absurd c25 (by decide))
  refine J_aload_n cx dJ15_init_3_36 rfl ?_
  refine J_null cx dJ15_init_3_37 ?_
  refine J_put cx in_X10 tyX10 tyX10_ok nmX10 (ci := 8) rfl 1 (by decide) q1100 (fun _ h => h) rfl (ty := (.array (.object "java/lang/StackTraceElement"))) (by decide +kernel) dJ15_init_3_38 rfl rfl gset_eq (Nat.le_of_ble_eq_true rfl) (by omega) ?_
  refine J_mem (gset G a (.inr (8, [.ref a, .null, vS9, .null, .null, .int 0, .int 0, .int 0]))) gset_gset ?_
  refine J_aload_n cx dJ15_init_3_41 rfl ?_
  refine J_aload_nN cx dJ15_init_3_42 rfl ?_
  refine J_put cx in_X10 tyX10 tyX10_ok nmX10 (ci := 8) rfl 3 (by decide) q1098 (fun _ h => h) rfl (ty := (.object "java/lang/String")) (by decide +kernel) dJ15_init_3_43 rfl rfl gset_eq (Nat.le_of_ble_eq_true rfl) (by omega) ?_
  refine J_mem (gset G a (.inr (8, [.ref a, .null, vS9, .null, .null, .int 0, .int 0, .int 0]))) gset_gset ?_
  refine J_aload_n cx dJ15_init_3_46 rfl ?_
  refine J_aload_n cx dJ15_init_3_47 rfl ?_
  refine J_put cx in_X10 tyX10 tyX10_ok nmX10 (ci := 8) rfl 0 (by decide) q1099 (fun _ h => h) rfl (ty := (.object "java/lang/Throwable")) (by decide +kernel) dJ15_init_3_48 rfl rfl gset_eq (Nat.le_of_ble_eq_true rfl) (by omega) ?_
  refine J_mem (gset G a (.inr (8, [.ref q9, .null, vS9, .null, .null, .int 0, .int 0, .int 0]))) gset_gset ?_
  refine J_iload_n cx dJ15_init_3_51 rfl ?_
  refine J_if_ne (tgt := 60) cx dJ15_init_3_52 (by decide) (fun c52 => absurd c52 (by decide)) (fun c52 => ?_)
  refine J_aload_n cx dJ15_init_3_55 rfl ?_
  refine J_null cx dJ15_init_3_56 ?_
  refine J_put cx in_X10 tyX10 tyX10_ok nmX10 (ci := 8) rfl 2 (by decide) q1101 (fun _ h => h) rfl (ty := (.object "java/util/List")) (by decide +kernel) dJ15_init_3_57 rfl rfl gset_eq (Nat.le_of_ble_eq_true rfl) (by omega) ?_
  refine J_mem (gset G a (.inr (8, [.ref q9, .null, .null, .null, .null, .int 0, .int 0, .int 0]))) gset_gset ?_
  exact J_vret cx dJ15_init_3_60 hr ⟨rfl, rfl, rfl⟩ (Nat.le_of_ble_eq_true rfl) (Nat.le_of_ble_eq_true rfl)
set_option maxHeartbeats 1000000 in
theorem t_J15_init_3_X11_Z (l : Launch) (Ω : jO) {G : Mem} {sz : Nat} (a : Nat) (ha : G a = some (.inr (9, [.null, .null, .null, .null, .null, .int 0, .int 0]))) (hb : Ω.2.2.2 ≤ a) : Met l yJ15_init_3 (ws_ yJ15_init_3 cJ15_init_3 5 none) ({ frames := 1, cells := 0, slots := 0, locals := 12 } : Room) (va_Pc [.ref a, .null, .null, .int (nI (0)), .int (nI (0))] (jWd Ω G sz)) (jQ Ω (jD none (gset G a (.inr (9, [.null, .null, .null, .null, .null, .int 0, .int 0]))) (sz))) 0 0 (jB Ω) := by
  refine jMetF (by decide +kernel) (Nat.le_of_ble_eq_true rfl) ?_
  intro p e s m args below meth c cx hr hnm
  refine J_loc [some (.ref a), some (.null), some (.null), some (.int (nI (0))), some (.int (nI (0)))] rfl ?_
  obtain ⟨vU9, hU9, hUk⟩ := jzq cx.sta.2.2.2.2.2.2.2.2.1.1
  obtain ⟨vS9, hS9, hSk⟩ := jzq cx.sta.2.2.2.2.2.2.2.2.2.1.1
  refine J_bs cx (fun hbs9 => ?_)
  refine J_lt ha (fun hlt0 => ?_)
  refine J_aload_n cx dJ15_init_3_0 rfl ?_
  refine J_objInit cx dJ15_init_3_1 q839 q170 q171 (Nat.le_of_ble_eq_true rfl) (Nat.le_of_ble_eq_true rfl) ?_
  refine J_aload_n cx dJ15_init_3_4 rfl ?_
  refine J_aload_n cx dJ15_init_3_5 rfl ?_
  refine J_put cx in_X11 tyX11 tyX11_ok nmX11 (ci := 9) rfl 0 (by decide) q1099 (fun _ h => h) rfl (ty := (.object "java/lang/Throwable")) (by decide +kernel) dJ15_init_3_6 rfl rfl ha (Nat.le_of_ble_eq_true rfl) (by omega) ?_
  refine J_mem (gset G a (.inr (9, [.ref a, .null, .null, .null, .null, .int 0, .int 0]))) rfl ?_
  refine J_aload_n cx dJ15_init_3_9 rfl ?_
  refine J_gets cx hU9 dJ15_init_3_10 q840 (fun _ h => h) ?_
  refine J_put cx in_X11 tyX11 tyX11_ok nmX11 (ci := 9) rfl 1 (by decide) q1100 (fun _ h => h) rfl (ty := (.array (.object "java/lang/StackTraceElement"))) (by decide +kernel) dJ15_init_3_13 (by rcases hUk with e9 | ⟨t9, e9⟩ <;> rw [e9] <;> rfl) (by rcases hUk with e9 | ⟨t9, e9⟩ <;> rw [e9] <;> rfl) gset_eq (Nat.le_of_ble_eq_true rfl) (by omega) ?_
  refine J_mem (gset G a (.inr (9, [.ref a, vU9, .null, .null, .null, .int 0, .int 0]))) gset_gset ?_
  refine J_aload_n cx dJ15_init_3_16 rfl ?_
  refine J_gets cx hS9 dJ15_init_3_17 q842 (fun _ h => h) ?_
  refine J_put cx in_X11 tyX11 tyX11_ok nmX11 (ci := 9) rfl 2 (by decide) q1101 (fun _ h => h) rfl (ty := (.object "java/util/List")) (by decide +kernel) dJ15_init_3_20 (by rcases hSk with e9 | ⟨t9, e9⟩ <;> rw [e9] <;> rfl) (by rcases hSk with e9 | ⟨t9, e9⟩ <;> rw [e9] <;> rfl) gset_eq (Nat.le_of_ble_eq_true rfl) (by omega) ?_
  refine J_mem (gset G a (.inr (9, [.ref a, vU9, vS9, .null, .null, .int 0, .int 0]))) gset_gset ?_
  refine J_iload cx dJ15_init_3_23 rfl ?_
  refine J_if_eq (tgt := 36) cx dJ15_init_3_25 (by decide) (fun c25 => ?_) (fun c25 => absurd c25 (by decide))
  refine J_aload_n cx dJ15_init_3_36 rfl ?_
  refine J_null cx dJ15_init_3_37 ?_
  refine J_put cx in_X11 tyX11 tyX11_ok nmX11 (ci := 9) rfl 1 (by decide) q1100 (fun _ h => h) rfl (ty := (.array (.object "java/lang/StackTraceElement"))) (by decide +kernel) dJ15_init_3_38 rfl rfl gset_eq (Nat.le_of_ble_eq_true rfl) (by omega) ?_
  refine J_mem (gset G a (.inr (9, [.ref a, .null, vS9, .null, .null, .int 0, .int 0]))) gset_gset ?_
  refine J_aload_n cx dJ15_init_3_41 rfl ?_
  refine J_aload_nN cx dJ15_init_3_42 rfl ?_
  refine J_put cx in_X11 tyX11 tyX11_ok nmX11 (ci := 9) rfl 3 (by decide) q1098 (fun _ h => h) rfl (ty := (.object "java/lang/String")) (by decide +kernel) dJ15_init_3_43 rfl rfl gset_eq (Nat.le_of_ble_eq_true rfl) (by omega) ?_
  refine J_mem (gset G a (.inr (9, [.ref a, .null, vS9, .null, .null, .int 0, .int 0]))) gset_gset ?_
  refine J_aload_n cx dJ15_init_3_46 rfl ?_
  refine J_aload_nN cx dJ15_init_3_47 rfl ?_
  refine J_put cx in_X11 tyX11 tyX11_ok nmX11 (ci := 9) rfl 0 (by decide) q1099 (fun _ h => h) rfl (ty := (.object "java/lang/Throwable")) (by decide +kernel) dJ15_init_3_48 rfl rfl gset_eq (Nat.le_of_ble_eq_true rfl) (by omega) ?_
  refine J_mem (gset G a (.inr (9, [.null, .null, vS9, .null, .null, .int 0, .int 0]))) gset_gset ?_
  refine J_iload_n cx dJ15_init_3_51 rfl ?_
  refine J_if_ne (tgt := 60) cx dJ15_init_3_52 (by decide) (fun c52 => absurd c52 (by decide)) (fun c52 => ?_)
  refine J_aload_n cx dJ15_init_3_55 rfl ?_
  refine J_null cx dJ15_init_3_56 ?_
  refine J_put cx in_X11 tyX11 tyX11_ok nmX11 (ci := 9) rfl 2 (by decide) q1101 (fun _ h => h) rfl (ty := (.object "java/util/List")) (by decide +kernel) dJ15_init_3_57 rfl rfl gset_eq (Nat.le_of_ble_eq_true rfl) (by omega) ?_
  refine J_mem (gset G a (.inr (9, [.null, .null, .null, .null, .null, .int 0, .int 0]))) gset_gset ?_
  exact J_vret cx dJ15_init_3_60 hr ⟨rfl, rfl, rfl⟩ (Nat.le_of_ble_eq_true rfl) (Nat.le_of_ble_eq_true rfl)
set_option maxHeartbeats 1000000 in
theorem t_J15_init_3_X28_Z (l : Launch) (Ω : jO) {G : Mem} {sz : Nat} (a : Nat) (ha : G a = some (.inr (25, [.null, .null, .null, .null, .null, .int 0, .int 0]))) (hb : Ω.2.2.2 ≤ a) : Met l yJ15_init_3 (ws_ yJ15_init_3 cJ15_init_3 5 none) ({ frames := 1, cells := 0, slots := 0, locals := 12 } : Room) (va_Pc [.ref a, .null, .null, .int (nI (0)), .int (nI (0))] (jWd Ω G sz)) (jQ Ω (jD none (gset G a (.inr (25, [.null, .null, .null, .null, .null, .int 0, .int 0]))) (sz))) 0 0 (jB Ω) := by
  refine jMetF (by decide +kernel) (Nat.le_of_ble_eq_true rfl) ?_
  intro p e s m args below meth c cx hr hnm
  refine J_loc [some (.ref a), some (.null), some (.null), some (.int (nI (0))), some (.int (nI (0)))] rfl ?_
  obtain ⟨vU9, hU9, hUk⟩ := jzq cx.sta.2.2.2.2.2.2.2.2.1.1
  obtain ⟨vS9, hS9, hSk⟩ := jzq cx.sta.2.2.2.2.2.2.2.2.2.1.1
  refine J_bs cx (fun hbs9 => ?_)
  refine J_lt ha (fun hlt0 => ?_)
  refine J_aload_n cx dJ15_init_3_0 rfl ?_
  refine J_objInit cx dJ15_init_3_1 q839 q170 q171 (Nat.le_of_ble_eq_true rfl) (Nat.le_of_ble_eq_true rfl) ?_
  refine J_aload_n cx dJ15_init_3_4 rfl ?_
  refine J_aload_n cx dJ15_init_3_5 rfl ?_
  refine J_put cx in_X28 tyX28 tyX28_ok nmX28 (ci := 25) rfl 0 (by decide) q1099 (fun _ h => h) rfl (ty := (.object "java/lang/Throwable")) (by decide +kernel) dJ15_init_3_6 rfl rfl ha (Nat.le_of_ble_eq_true rfl) (by omega) ?_
  refine J_mem (gset G a (.inr (25, [.ref a, .null, .null, .null, .null, .int 0, .int 0]))) rfl ?_
  refine J_aload_n cx dJ15_init_3_9 rfl ?_
  refine J_gets cx hU9 dJ15_init_3_10 q840 (fun _ h => h) ?_
  refine J_put cx in_X28 tyX28 tyX28_ok nmX28 (ci := 25) rfl 1 (by decide) q1100 (fun _ h => h) rfl (ty := (.array (.object "java/lang/StackTraceElement"))) (by decide +kernel) dJ15_init_3_13 (by rcases hUk with e9 | ⟨t9, e9⟩ <;> rw [e9] <;> rfl) (by rcases hUk with e9 | ⟨t9, e9⟩ <;> rw [e9] <;> rfl) gset_eq (Nat.le_of_ble_eq_true rfl) (by omega) ?_
  refine J_mem (gset G a (.inr (25, [.ref a, vU9, .null, .null, .null, .int 0, .int 0]))) gset_gset ?_
  refine J_aload_n cx dJ15_init_3_16 rfl ?_
  refine J_gets cx hS9 dJ15_init_3_17 q842 (fun _ h => h) ?_
  refine J_put cx in_X28 tyX28 tyX28_ok nmX28 (ci := 25) rfl 2 (by decide) q1101 (fun _ h => h) rfl (ty := (.object "java/util/List")) (by decide +kernel) dJ15_init_3_20 (by rcases hSk with e9 | ⟨t9, e9⟩ <;> rw [e9] <;> rfl) (by rcases hSk with e9 | ⟨t9, e9⟩ <;> rw [e9] <;> rfl) gset_eq (Nat.le_of_ble_eq_true rfl) (by omega) ?_
  refine J_mem (gset G a (.inr (25, [.ref a, vU9, vS9, .null, .null, .int 0, .int 0]))) gset_gset ?_
  refine J_iload cx dJ15_init_3_23 rfl ?_
  refine J_if_eq (tgt := 36) cx dJ15_init_3_25 (by decide) (fun c25 => ?_) (fun c25 => absurd c25 (by decide))
  refine J_aload_n cx dJ15_init_3_36 rfl ?_
  refine J_null cx dJ15_init_3_37 ?_
  refine J_put cx in_X28 tyX28 tyX28_ok nmX28 (ci := 25) rfl 1 (by decide) q1100 (fun _ h => h) rfl (ty := (.array (.object "java/lang/StackTraceElement"))) (by decide +kernel) dJ15_init_3_38 rfl rfl gset_eq (Nat.le_of_ble_eq_true rfl) (by omega) ?_
  refine J_mem (gset G a (.inr (25, [.ref a, .null, vS9, .null, .null, .int 0, .int 0]))) gset_gset ?_
  refine J_aload_n cx dJ15_init_3_41 rfl ?_
  refine J_aload_nN cx dJ15_init_3_42 rfl ?_
  refine J_put cx in_X28 tyX28 tyX28_ok nmX28 (ci := 25) rfl 3 (by decide) q1098 (fun _ h => h) rfl (ty := (.object "java/lang/String")) (by decide +kernel) dJ15_init_3_43 rfl rfl gset_eq (Nat.le_of_ble_eq_true rfl) (by omega) ?_
  refine J_mem (gset G a (.inr (25, [.ref a, .null, vS9, .null, .null, .int 0, .int 0]))) gset_gset ?_
  refine J_aload_n cx dJ15_init_3_46 rfl ?_
  refine J_aload_nN cx dJ15_init_3_47 rfl ?_
  refine J_put cx in_X28 tyX28 tyX28_ok nmX28 (ci := 25) rfl 0 (by decide) q1099 (fun _ h => h) rfl (ty := (.object "java/lang/Throwable")) (by decide +kernel) dJ15_init_3_48 rfl rfl gset_eq (Nat.le_of_ble_eq_true rfl) (by omega) ?_
  refine J_mem (gset G a (.inr (25, [.null, .null, vS9, .null, .null, .int 0, .int 0]))) gset_gset ?_
  refine J_iload_n cx dJ15_init_3_51 rfl ?_
  refine J_if_ne (tgt := 60) cx dJ15_init_3_52 (by decide) (fun c52 => absurd c52 (by decide)) (fun c52 => ?_)
  refine J_aload_n cx dJ15_init_3_55 rfl ?_
  refine J_null cx dJ15_init_3_56 ?_
  refine J_put cx in_X28 tyX28 tyX28_ok nmX28 (ci := 25) rfl 2 (by decide) q1101 (fun _ h => h) rfl (ty := (.object "java/util/List")) (by decide +kernel) dJ15_init_3_57 rfl rfl gset_eq (Nat.le_of_ble_eq_true rfl) (by omega) ?_
  refine J_mem (gset G a (.inr (25, [.null, .null, .null, .null, .null, .int 0, .int 0]))) gset_gset ?_
  exact J_vret cx dJ15_init_3_60 hr ⟨rfl, rfl, rfl⟩ (Nat.le_of_ble_eq_true rfl) (Nat.le_of_ble_eq_true rfl)
set_option maxHeartbeats 1000000 in
theorem t_J16_init_3_X10_Z (l : Launch) (Ω : jO) {G : Mem} {sz : Nat} (a : Nat) (ha : G a = some (.inr (8, [.null, .null, .null, .null, .null, .int 0, .int 0, .int 0]))) (hb : Ω.2.2.2 ≤ a) : Met l yJ16_init_3 (ws_ yJ16_init_3 cJ16_init_3 5 none) ({ frames := 2, cells := 0, slots := 0, locals := 36 } : Room) (va_Pc [.ref a, .null, .null, .int (nI (0)), .int (nI (0))] (jWd Ω G sz)) (jQ Ω (jD none (gset G a (.inr (8, [.null, .null, .null, .null, .null, .int 0, .int 0, .int 0]))) (sz))) 0 0 (jB Ω) := by
  refine jMetF (by decide +kernel) (Nat.le_of_ble_eq_true rfl) ?_
  intro p e s m args below meth c cx hr hnm
  refine J_loc [some (.ref a), some (.null), some (.null), some (.int (nI (0))), some (.int (nI (0)))] rfl ?_
  refine J_bs cx (fun hbs9 => ?_)
  refine J_lt ha (fun hlt0 => ?_)
  refine J_aload_n cx dJ16_init_3_0 rfl ?_
  refine J_aload_nN cx dJ16_init_3_1 rfl ?_
  refine J_aload_nN cx dJ16_init_3_2 rfl ?_
  refine J_iload_n cx dJ16_init_3_3 rfl ?_
  refine J_iload cx dJ16_init_3_4 rfl ?_
  refine J_callI (n := 4) cx [.null, .null, .int (nI (0)), .int (nI (0))] (t_J15_init_3_X10_Z l Ω a ha (by omega)) dJ16_init_3_6 q1303 q111 q1301 q1302 rfl ⟨by decide, by decide, by decide +kernel⟩ rfl rfl ⟨Nat.le_of_ble_eq_true rfl, Nat.le_of_ble_eq_true rfl⟩ rfl rfl (Nat.le_of_ble_eq_true rfl) ⟨Nat.le_of_ble_eq_true rfl, Nat.le_of_ble_eq_true rfl⟩ (jdet ?_)
  refine J_mem (gset G a (.inr (8, [.null, .null, .null, .null, .null, .int 0, .int 0, .int 0]))) rfl ?_
  exact J_vret cx dJ16_init_3_9 hr ⟨rfl, rfl, rfl⟩ (Nat.le_of_ble_eq_true rfl) (Nat.le_of_ble_eq_true rfl)
set_option maxHeartbeats 1000000 in
theorem t_J16_init_3_X10_R (l : Launch) (Ω : jO) {G : Mem} {sz : Nat} (a q9 : Nat) (ha : G a = some (.inr (8, [.null, .null, .null, .null, .null, .int 0, .int 0, .int 0]))) (hb : Ω.2.2.2 ≤ a) : Met l yJ16_init_3 (ws_ yJ16_init_3 cJ16_init_3 5 none) ({ frames := 2, cells := 0, slots := 0, locals := 36 } : Room) (va_Pc [.ref a, .null, .ref q9, .int (nI (0)), .int (nI (0))] (jWd Ω G sz)) (jQ Ω (jD none (gset G a (.inr (8, [.ref q9, .null, .null, .null, .null, .int 0, .int 0, .int 0]))) (sz))) 0 0 (jB Ω) := by
  refine jMetF (by decide +kernel) (Nat.le_of_ble_eq_true rfl) ?_
  intro p e s m args below meth c cx hr hnm
  refine J_loc [some (.ref a), some (.null), some (.ref q9), some (.int (nI (0))), some (.int (nI (0)))] rfl ?_
  refine J_bs cx (fun hbs9 => ?_)
  refine J_lt ha (fun hlt0 => ?_)
  refine J_aload_n cx dJ16_init_3_0 rfl ?_
  refine J_aload_nN cx dJ16_init_3_1 rfl ?_
  refine J_aload_n cx dJ16_init_3_2 rfl ?_
  refine J_iload_n cx dJ16_init_3_3 rfl ?_
  refine J_iload cx dJ16_init_3_4 rfl ?_
  refine J_callI (n := 4) cx [.null, .ref q9, .int (nI (0)), .int (nI (0))] (t_J15_init_3_X10_R l Ω a q9 ha (by omega)) dJ16_init_3_6 q1303 q111 q1301 q1302 rfl ⟨by decide, by decide, by decide +kernel⟩ rfl rfl ⟨Nat.le_of_ble_eq_true rfl, Nat.le_of_ble_eq_true rfl⟩ rfl rfl (Nat.le_of_ble_eq_true rfl) ⟨Nat.le_of_ble_eq_true rfl, Nat.le_of_ble_eq_true rfl⟩ (jdet ?_)
  refine J_mem (gset G a (.inr (8, [.ref q9, .null, .null, .null, .null, .int 0, .int 0, .int 0]))) rfl ?_
  exact J_vret cx dJ16_init_3_9 hr ⟨rfl, rfl, rfl⟩ (Nat.le_of_ble_eq_true rfl) (Nat.le_of_ble_eq_true rfl)
set_option maxHeartbeats 1000000 in
theorem t_J16_init_3_X11_Z (l : Launch) (Ω : jO) {G : Mem} {sz : Nat} (a : Nat) (ha : G a = some (.inr (9, [.null, .null, .null, .null, .null, .int 0, .int 0]))) (hb : Ω.2.2.2 ≤ a) : Met l yJ16_init_3 (ws_ yJ16_init_3 cJ16_init_3 5 none) ({ frames := 2, cells := 0, slots := 0, locals := 36 } : Room) (va_Pc [.ref a, .null, .null, .int (nI (0)), .int (nI (0))] (jWd Ω G sz)) (jQ Ω (jD none (gset G a (.inr (9, [.null, .null, .null, .null, .null, .int 0, .int 0]))) (sz))) 0 0 (jB Ω) := by
  refine jMetF (by decide +kernel) (Nat.le_of_ble_eq_true rfl) ?_
  intro p e s m args below meth c cx hr hnm
  refine J_loc [some (.ref a), some (.null), some (.null), some (.int (nI (0))), some (.int (nI (0)))] rfl ?_
  refine J_bs cx (fun hbs9 => ?_)
  refine J_lt ha (fun hlt0 => ?_)
  refine J_aload_n cx dJ16_init_3_0 rfl ?_
  refine J_aload_nN cx dJ16_init_3_1 rfl ?_
  refine J_aload_nN cx dJ16_init_3_2 rfl ?_
  refine J_iload_n cx dJ16_init_3_3 rfl ?_
  refine J_iload cx dJ16_init_3_4 rfl ?_
  refine J_callI (n := 4) cx [.null, .null, .int (nI (0)), .int (nI (0))] (t_J15_init_3_X11_Z l Ω a ha (by omega)) dJ16_init_3_6 q1303 q111 q1301 q1302 rfl ⟨by decide, by decide, by decide +kernel⟩ rfl rfl ⟨Nat.le_of_ble_eq_true rfl, Nat.le_of_ble_eq_true rfl⟩ rfl rfl (Nat.le_of_ble_eq_true rfl) ⟨Nat.le_of_ble_eq_true rfl, Nat.le_of_ble_eq_true rfl⟩ (jdet ?_)
  refine J_mem (gset G a (.inr (9, [.null, .null, .null, .null, .null, .int 0, .int 0]))) rfl ?_
  exact J_vret cx dJ16_init_3_9 hr ⟨rfl, rfl, rfl⟩ (Nat.le_of_ble_eq_true rfl) (Nat.le_of_ble_eq_true rfl)
set_option maxHeartbeats 1000000 in
theorem t_J16_init_3_X28_Z (l : Launch) (Ω : jO) {G : Mem} {sz : Nat} (a : Nat) (ha : G a = some (.inr (25, [.null, .null, .null, .null, .null, .int 0, .int 0]))) (hb : Ω.2.2.2 ≤ a) : Met l yJ16_init_3 (ws_ yJ16_init_3 cJ16_init_3 5 none) ({ frames := 2, cells := 0, slots := 0, locals := 36 } : Room) (va_Pc [.ref a, .null, .null, .int (nI (0)), .int (nI (0))] (jWd Ω G sz)) (jQ Ω (jD none (gset G a (.inr (25, [.null, .null, .null, .null, .null, .int 0, .int 0]))) (sz))) 0 0 (jB Ω) := by
  refine jMetF (by decide +kernel) (Nat.le_of_ble_eq_true rfl) ?_
  intro p e s m args below meth c cx hr hnm
  refine J_loc [some (.ref a), some (.null), some (.null), some (.int (nI (0))), some (.int (nI (0)))] rfl ?_
  refine J_bs cx (fun hbs9 => ?_)
  refine J_lt ha (fun hlt0 => ?_)
  refine J_aload_n cx dJ16_init_3_0 rfl ?_
  refine J_aload_nN cx dJ16_init_3_1 rfl ?_
  refine J_aload_nN cx dJ16_init_3_2 rfl ?_
  refine J_iload_n cx dJ16_init_3_3 rfl ?_
  refine J_iload cx dJ16_init_3_4 rfl ?_
  refine J_callI (n := 4) cx [.null, .null, .int (nI (0)), .int (nI (0))] (t_J15_init_3_X28_Z l Ω a ha (by omega)) dJ16_init_3_6 q1303 q111 q1301 q1302 rfl ⟨by decide, by decide, by decide +kernel⟩ rfl rfl ⟨Nat.le_of_ble_eq_true rfl, Nat.le_of_ble_eq_true rfl⟩ rfl rfl (Nat.le_of_ble_eq_true rfl) ⟨Nat.le_of_ble_eq_true rfl, Nat.le_of_ble_eq_true rfl⟩ (jdet ?_)
  refine J_mem (gset G a (.inr (25, [.null, .null, .null, .null, .null, .int 0, .int 0]))) rfl ?_
  exact J_vret cx dJ16_init_3_9 hr ⟨rfl, rfl, rfl⟩ (Nat.le_of_ble_eq_true rfl) (Nat.le_of_ble_eq_true rfl)
set_option maxHeartbeats 1000000 in
theorem t_X10_init_2_Z (l : Launch) (Ω : jO) {G : Mem} {sz : Nat} (a : Nat) (re9 de9 : Int32) (ha : G a = some (.inr (8, [.null, .null, .null, .null, .null, .int 0, .int 0, .int 0]))) (hb : Ω.2.2.2 ≤ a) : Met l yX10_init_2 (ws_ yX10_init_2 cX10_init_2 4 none) ({ frames := 3, cells := 0, slots := 0, locals := 60 } : Room) (va_Pc [.ref a, .int re9, .int de9, .null] (jWd Ω G sz)) (jQ Ω (jD none (gset G a (.inr (8, [.null, .null, .null, .null, .null, .int 0, .int re9, .int de9]))) (sz))) 0 0 (jB Ω) := by
  refine jMet (by decide) (Nat.le_of_ble_eq_true rfl) ?_
  intro p e s m args below meth c cx hr hnm
  refine J_loc [some (.ref a), some (.int re9), some (.int de9), some (.null)] rfl ?_
  refine J_bs cx (fun hbs9 => ?_)
  refine J_lt ha (fun hlt0 => ?_)
  refine J_aload_n cx dX10_init_2_0 rfl ?_
  refine J_null cx dX10_init_2_1 ?_
  refine J_aload_nN cx dX10_init_2_2 rfl ?_
  refine J_iconst (v := nI (0)) cx dX10_init_2_3 (by decide) ?_
  refine J_iconst (v := nI (0)) cx dX10_init_2_4 (by decide) ?_
  refine J_callI (n := 4) cx [.null, .null, .int (nI (0)), .int (nI (0))] (t_J16_init_3_X10_Z l Ω a ha (by omega)) dX10_init_2_5 q1300 q112 q1298 q1299 rfl ⟨by decide, by decide, by decide +kernel⟩ rfl rfl ⟨Nat.le_of_ble_eq_true rfl, Nat.le_of_ble_eq_true rfl⟩ rfl rfl (Nat.le_of_ble_eq_true rfl) ⟨Nat.le_of_ble_eq_true rfl, Nat.le_of_ble_eq_true rfl⟩ (jdet ?_)
  refine J_mem (gset G a (.inr (8, [.null, .null, .null, .null, .null, .int 0, .int 0, .int 0]))) rfl ?_
  refine J_aload_n cx dX10_init_2_8 rfl ?_
  refine J_iload_n cx dX10_init_2_9 rfl ?_
  refine J_putF cx in_X10 tyX10 tyX10_ok nmX10 (ci := 8) rfl 6 (by decide) q1304 (fun _ h => h) rfl rfl hnm (ty := .int) (by decide +kernel) dX10_init_2_10 rfl rfl gset_eq (Nat.le_of_ble_eq_true rfl) (by omega) ?_
  refine J_mem (gset G a (.inr (8, [.null, .null, .null, .null, .null, .int 0, .int re9, .int 0]))) gset_gset ?_
  refine J_aload_n cx dX10_init_2_13 rfl ?_
  refine J_iload_n cx dX10_init_2_14 rfl ?_
  refine J_putF cx in_X10 tyX10 tyX10_ok nmX10 (ci := 8) rfl 7 (by decide) q1305 (fun _ h => h) rfl rfl hnm (ty := .int) (by decide +kernel) dX10_init_2_15 rfl rfl gset_eq (Nat.le_of_ble_eq_true rfl) (by omega) ?_
  refine J_mem (gset G a (.inr (8, [.null, .null, .null, .null, .null, .int 0, .int re9, .int de9]))) gset_gset ?_
  exact J_vret cx dX10_init_2_18 hr ⟨rfl, rfl, rfl⟩ (Nat.le_of_ble_eq_true rfl) (Nat.le_of_ble_eq_true rfl)
set_option maxHeartbeats 1000000 in
theorem t_X10_init_2_R (l : Launch) (Ω : jO) {G : Mem} {sz : Nat} (a q9 : Nat) (re9 de9 : Int32) (ha : G a = some (.inr (8, [.null, .null, .null, .null, .null, .int 0, .int 0, .int 0]))) (hb : Ω.2.2.2 ≤ a) : Met l yX10_init_2 (ws_ yX10_init_2 cX10_init_2 4 none) ({ frames := 3, cells := 0, slots := 0, locals := 60 } : Room) (va_Pc [.ref a, .int re9, .int de9, .ref q9] (jWd Ω G sz)) (jQ Ω (jD none (gset G a (.inr (8, [.ref q9, .null, .null, .null, .null, .int 0, .int re9, .int de9]))) (sz))) 0 0 (jB Ω) := by
  refine jMet (by decide) (Nat.le_of_ble_eq_true rfl) ?_
  intro p e s m args below meth c cx hr hnm
  refine J_loc [some (.ref a), some (.int re9), some (.int de9), some (.ref q9)] rfl ?_
  refine J_bs cx (fun hbs9 => ?_)
  refine J_lt ha (fun hlt0 => ?_)
  refine J_aload_n cx dX10_init_2_0 rfl ?_
  refine J_null cx dX10_init_2_1 ?_
  refine J_aload_n cx dX10_init_2_2 rfl ?_
  refine J_iconst (v := nI (0)) cx dX10_init_2_3 (by decide) ?_
  refine J_iconst (v := nI (0)) cx dX10_init_2_4 (by decide) ?_
  refine J_callI (n := 4) cx [.null, .ref q9, .int (nI (0)), .int (nI (0))] (t_J16_init_3_X10_R l Ω a q9 ha (by omega)) dX10_init_2_5 q1300 q112 q1298 q1299 rfl ⟨by decide, by decide, by decide +kernel⟩ rfl rfl ⟨Nat.le_of_ble_eq_true rfl, Nat.le_of_ble_eq_true rfl⟩ rfl rfl (Nat.le_of_ble_eq_true rfl) ⟨Nat.le_of_ble_eq_true rfl, Nat.le_of_ble_eq_true rfl⟩ (jdet ?_)
  refine J_mem (gset G a (.inr (8, [.ref q9, .null, .null, .null, .null, .int 0, .int 0, .int 0]))) rfl ?_
  refine J_aload_n cx dX10_init_2_8 rfl ?_
  refine J_iload_n cx dX10_init_2_9 rfl ?_
  refine J_putF cx in_X10 tyX10 tyX10_ok nmX10 (ci := 8) rfl 6 (by decide) q1304 (fun _ h => h) rfl rfl hnm (ty := .int) (by decide +kernel) dX10_init_2_10 rfl rfl gset_eq (Nat.le_of_ble_eq_true rfl) (by omega) ?_
  refine J_mem (gset G a (.inr (8, [.ref q9, .null, .null, .null, .null, .int 0, .int re9, .int 0]))) gset_gset ?_
  refine J_aload_n cx dX10_init_2_13 rfl ?_
  refine J_iload_n cx dX10_init_2_14 rfl ?_
  refine J_putF cx in_X10 tyX10 tyX10_ok nmX10 (ci := 8) rfl 7 (by decide) q1305 (fun _ h => h) rfl rfl hnm (ty := .int) (by decide +kernel) dX10_init_2_15 rfl rfl gset_eq (Nat.le_of_ble_eq_true rfl) (by omega) ?_
  refine J_mem (gset G a (.inr (8, [.ref q9, .null, .null, .null, .null, .int 0, .int re9, .int de9]))) gset_gset ?_
  exact J_vret cx dX10_init_2_18 hr ⟨rfl, rfl, rfl⟩ (Nat.le_of_ble_eq_true rfl) (Nat.le_of_ble_eq_true rfl)
set_option maxHeartbeats 1000000 in
theorem t_X10_init (l : Launch) (Ω : jO) {G : Mem} {sz : Nat} (a : Nat) (re9 de9 : Int32) (ha : G a = some (.inr (8, [.null, .null, .null, .null, .null, .int 0, .int 0, .int 0]))) (hb : Ω.2.2.2 ≤ a) : Met l yX10_init (ws_ yX10_init cX10_init 3 none) ({ frames := 4, cells := 0, slots := 0, locals := 83 } : Room) (va_Pc [.ref a, .int re9, .int de9] (jWd Ω G sz)) (jQ Ω (jD none (gset G a (.inr (8, [.null, .null, .null, .null, .null, .int 0, .int re9, .int de9]))) (sz))) 0 0 (jB Ω) := by
  refine jMet (by decide) (Nat.le_of_ble_eq_true rfl) ?_
  intro p e s m args below meth c cx hr hnm
  refine J_loc [some (.ref a), some (.int re9), some (.int de9)] rfl ?_
  refine J_bs cx (fun hbs9 => ?_)
  refine J_lt ha (fun hlt0 => ?_)
  refine J_aload_n cx dX10_init_0 rfl ?_
  refine J_iload_n cx dX10_init_1 rfl ?_
  refine J_iload_n cx dX10_init_2 rfl ?_
  refine J_null cx dX10_init_3 ?_
  refine J_callI (n := 3) cx [.int re9, .int de9, .null] (t_X10_init_2_Z l Ω a re9 de9 ha (by omega)) dX10_init_4 q1297 q125 q1295 q1296 rfl ⟨by decide, by decide, by decide +kernel⟩ rfl rfl ⟨Nat.le_of_ble_eq_true rfl, Nat.le_of_ble_eq_true rfl⟩ rfl rfl (Nat.le_of_ble_eq_true rfl) ⟨Nat.le_of_ble_eq_true rfl, Nat.le_of_ble_eq_true rfl⟩ (jdet ?_)
  refine J_mem (gset G a (.inr (8, [.null, .null, .null, .null, .null, .int 0, .int re9, .int de9]))) rfl ?_
  exact J_vret cx dX10_init_7 hr ⟨rfl, rfl, rfl⟩ (Nat.le_of_ble_eq_true rfl) (Nat.le_of_ble_eq_true rfl)
set_option maxHeartbeats 1000000 in
theorem t_X11_init (l : Launch) (Ω : jO) {G : Mem} {sz : Nat} (a : Nat) (pl9 : Int32) (ha : G a = some (.inr (9, [.null, .null, .null, .null, .null, .int 0, .int 0]))) (hb : Ω.2.2.2 ≤ a) : Met l yX11_init (ws_ yX11_init cX11_init 2 none) ({ frames := 3, cells := 0, slots := 0, locals := 60 } : Room) (va_Pc [.ref a, .int pl9] (jWd Ω G sz)) (jQ Ω (jD none (gset G a (.inr (9, [.null, .null, .null, .null, .null, .int 0, .int pl9]))) (sz))) 0 0 (jB Ω) := by
  refine jMet (by decide) (Nat.le_of_ble_eq_true rfl) ?_
  intro p e s m args below meth c cx hr hnm
  refine J_loc [some (.ref a), some (.int pl9)] rfl ?_
  refine J_bs cx (fun hbs9 => ?_)
  refine J_lt ha (fun hlt0 => ?_)
  refine J_aload_n cx dX11_init_0 rfl ?_
  refine J_null cx dX11_init_1 ?_
  refine J_null cx dX11_init_2 ?_
  refine J_iconst (v := nI (0)) cx dX11_init_3 (by decide) ?_
  refine J_iconst (v := nI (0)) cx dX11_init_4 (by decide) ?_
  refine J_callI (n := 4) cx [.null, .null, .int (nI (0)), .int (nI (0))] (t_J16_init_3_X11_Z l Ω a ha (by omega)) dX11_init_5 q1300 q112 q1629 q1299 rfl ⟨by decide, by decide, by decide +kernel⟩ rfl rfl ⟨Nat.le_of_ble_eq_true rfl, Nat.le_of_ble_eq_true rfl⟩ rfl rfl (Nat.le_of_ble_eq_true rfl) ⟨Nat.le_of_ble_eq_true rfl, Nat.le_of_ble_eq_true rfl⟩ (jdet ?_)
  refine J_mem (gset G a (.inr (9, [.null, .null, .null, .null, .null, .int 0, .int 0]))) rfl ?_
  refine J_aload_n cx dX11_init_8 rfl ?_
  refine J_iload_n cx dX11_init_9 rfl ?_
  refine J_putF cx in_X11 tyX11 tyX11_ok nmX11 (ci := 9) rfl 6 (by decide) q1630 (fun _ h => h) rfl rfl hnm (ty := .int) (by decide +kernel) dX11_init_10 rfl rfl gset_eq (Nat.le_of_ble_eq_true rfl) (by omega) ?_
  refine J_mem (gset G a (.inr (9, [.null, .null, .null, .null, .null, .int 0, .int pl9]))) gset_gset ?_
  exact J_vret cx dX11_init_13 hr ⟨rfl, rfl, rfl⟩ (Nat.le_of_ble_eq_true rfl) (Nat.le_of_ble_eq_true rfl)
set_option maxHeartbeats 1000000 in
theorem t_X28_init (l : Launch) (Ω : jO) {G : Mem} {sz : Nat} (a : Nat) (pl9 : Int32) (ha : G a = some (.inr (25, [.null, .null, .null, .null, .null, .int 0, .int 0]))) (hb : Ω.2.2.2 ≤ a) : Met l yX28_init (ws_ yX28_init cX28_init 2 none) ({ frames := 3, cells := 0, slots := 0, locals := 60 } : Room) (va_Pc [.ref a, .int pl9] (jWd Ω G sz)) (jQ Ω (jD none (gset G a (.inr (25, [.null, .null, .null, .null, .null, .int 0, .int pl9]))) (sz))) 0 0 (jB Ω) := by
  refine jMet (by decide) (Nat.le_of_ble_eq_true rfl) ?_
  intro p e s m args below meth c cx hr hnm
  refine J_loc [some (.ref a), some (.int pl9)] rfl ?_
  refine J_bs cx (fun hbs9 => ?_)
  refine J_lt ha (fun hlt0 => ?_)
  refine J_aload_n cx dX28_init_0 rfl ?_
  refine J_null cx dX28_init_1 ?_
  refine J_null cx dX28_init_2 ?_
  refine J_iconst (v := nI (0)) cx dX28_init_3 (by decide) ?_
  refine J_iconst (v := nI (0)) cx dX28_init_4 (by decide) ?_
  refine J_callI (n := 4) cx [.null, .null, .int (nI (0)), .int (nI (0))] (t_J16_init_3_X28_Z l Ω a ha (by omega)) dX28_init_5 q1300 q112 q2450 q1299 rfl ⟨by decide, by decide, by decide +kernel⟩ rfl rfl ⟨Nat.le_of_ble_eq_true rfl, Nat.le_of_ble_eq_true rfl⟩ rfl rfl (Nat.le_of_ble_eq_true rfl) ⟨Nat.le_of_ble_eq_true rfl, Nat.le_of_ble_eq_true rfl⟩ (jdet ?_)
  refine J_mem (gset G a (.inr (25, [.null, .null, .null, .null, .null, .int 0, .int 0]))) rfl ?_
  refine J_aload_n cx dX28_init_8 rfl ?_
  refine J_iload_n cx dX28_init_9 rfl ?_
  refine J_putF cx in_X28 tyX28 tyX28_ok nmX28 (ci := 25) rfl 6 (by decide) q2451 (fun _ h => h) rfl rfl hnm (ty := .int) (by decide +kernel) dX28_init_10 rfl rfl gset_eq (Nat.le_of_ble_eq_true rfl) (by omega) ?_
  refine J_mem (gset G a (.inr (25, [.null, .null, .null, .null, .null, .int 0, .int pl9]))) gset_gset ?_
  exact J_vret cx dX28_init_13 hr ⟨rfl, rfl, rfl⟩ (Nat.le_of_ble_eq_true rfl) (Nat.le_of_ble_eq_true rfl)
