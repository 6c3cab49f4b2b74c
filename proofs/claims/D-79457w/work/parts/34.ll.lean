/-! JDK 3 (gen/mk_ll.py): LinkedList, its iterator -/
set_option maxRecDepth 100000
theorem t_J27_init_Z (l : Launch) (Ω : jO) {G : Mem} {sz : Nat} (a v9 : Nat) (ha : G a = some (.inr (33, [.null, .null, .null]))) (hb : Ω.2.2.2 ≤ a) : Met l yJ27_init (ws_ yJ27_init cJ27_init 4 none) ({ frames := 1, cells := 0, slots := 0, locals := 12 } : Room) (va_Pc [.ref a, .null, .ref v9, .null] (jWd Ω G sz)) (jQ Ω (jD none (gset G a (.inr (33, [.ref v9, .null, .null]))) (sz))) 0 0 (jB Ω) := by
  refine jMet (by decide) (Nat.le_of_ble_eq_true rfl) ?_
  intro p e s m args below meth c cx hr hnm
  refine J_loc [some (.ref a), some (.null), some (.ref v9), some (.null)] rfl ?_
  refine J_bs cx (fun hbs9 => ?_)
  refine J_lt ha (fun hlt0 => ?_)
  refine J_aload_n cx dJ27_init_0 rfl ?_
  refine J_objInit cx dJ27_init_1 q1242 q170 q171 (Nat.le_of_ble_eq_true rfl) (Nat.le_of_ble_eq_true rfl) ?_
  refine J_aload_n cx dJ27_init_4 rfl ?_
  refine J_aload_n cx dJ27_init_5 rfl ?_
  refine J_put cx in_J27 tyJ27 tyJ27_ok nmJ27 (ci := 33) rfl 0 (by decide) q1243 (fun _ h => h) rfl (ty := (.object "java/lang/Object")) (by decide +kernel) dJ27_init_6 rfl rfl ha (Nat.le_of_ble_eq_true rfl) (by omega) ?_
  refine J_mem (gset G a (.inr (33, [.ref v9, .null, .null]))) rfl ?_
  refine J_aload_n cx dJ27_init_9 rfl ?_
  refine J_aload_nN cx dJ27_init_10 rfl ?_
  refine J_put cx in_J27 tyJ27 tyJ27_ok nmJ27 (ci := 33) rfl 1 (by decide) q1246 (fun _ h => h) rfl (ty := (.object "java/util/LinkedList$Node")) (by decide +kernel) dJ27_init_11 rfl rfl gset_eq (Nat.le_of_ble_eq_true rfl) (by omega) ?_
  refine J_mem (gset G a (.inr (33, [.ref v9, .null, .null]))) gset_gset ?_
  refine J_aload_n cx dJ27_init_14 rfl ?_
  refine J_aload_nN cx dJ27_init_15 rfl ?_
  refine J_put cx in_J27 tyJ27 tyJ27_ok nmJ27 (ci := 33) rfl 2 (by decide) q1249 (fun _ h => h) rfl (ty := (.object "java/util/LinkedList$Node")) (by decide +kernel) dJ27_init_16 rfl rfl gset_eq (Nat.le_of_ble_eq_true rfl) (by omega) ?_
  refine J_mem (gset G a (.inr (33, [.ref v9, .null, .null]))) gset_gset ?_
  exact J_vret cx dJ27_init_19 hr ⟨rfl, rfl, rfl⟩ (Nat.le_of_ble_eq_true rfl) (Nat.le_of_ble_eq_true rfl)
theorem t_J27_init_R (l : Launch) (Ω : jO) {G : Mem} {sz : Nat} (a v9 pv9 : Nat) (ha : G a = some (.inr (33, [.null, .null, .null]))) (hb : Ω.2.2.2 ≤ a) : Met l yJ27_init (ws_ yJ27_init cJ27_init 4 none) ({ frames := 1, cells := 0, slots := 0, locals := 12 } : Room) (va_Pc [.ref a, .ref pv9, .ref v9, .null] (jWd Ω G sz)) (jQ Ω (jD none (gset G a (.inr (33, [.ref v9, .null, .ref pv9]))) (sz))) 0 0 (jB Ω) := by
  refine jMet (by decide) (Nat.le_of_ble_eq_true rfl) ?_
  intro p e s m args below meth c cx hr hnm
  refine J_loc [some (.ref a), some (.ref pv9), some (.ref v9), some (.null)] rfl ?_
  refine J_bs cx (fun hbs9 => ?_)
  refine J_lt ha (fun hlt0 => ?_)
  refine J_aload_n cx dJ27_init_0 rfl ?_
  refine J_objInit cx dJ27_init_1 q1242 q170 q171 (Nat.le_of_ble_eq_true rfl) (Nat.le_of_ble_eq_true rfl) ?_
  refine J_aload_n cx dJ27_init_4 rfl ?_
  refine J_aload_n cx dJ27_init_5 rfl ?_
  refine J_put cx in_J27 tyJ27 tyJ27_ok nmJ27 (ci := 33) rfl 0 (by decide) q1243 (fun _ h => h) rfl (ty := (.object "java/lang/Object")) (by decide +kernel) dJ27_init_6 rfl rfl ha (Nat.le_of_ble_eq_true rfl) (by omega) ?_
  refine J_mem (gset G a (.inr (33, [.ref v9, .null, .null]))) rfl ?_
  refine J_aload_n cx dJ27_init_9 rfl ?_
  refine J_aload_nN cx dJ27_init_10 rfl ?_
  refine J_put cx in_J27 tyJ27 tyJ27_ok nmJ27 (ci := 33) rfl 1 (by decide) q1246 (fun _ h => h) rfl (ty := (.object "java/util/LinkedList$Node")) (by decide +kernel) dJ27_init_11 rfl rfl gset_eq (Nat.le_of_ble_eq_true rfl) (by omega) ?_
  refine J_mem (gset G a (.inr (33, [.ref v9, .null, .null]))) gset_gset ?_
  refine J_aload_n cx dJ27_init_14 rfl ?_
  refine J_aload_n cx dJ27_init_15 rfl ?_
  refine J_put cx in_J27 tyJ27 tyJ27_ok nmJ27 (ci := 33) rfl 2 (by decide) q1249 (fun _ h => h) rfl (ty := (.object "java/util/LinkedList$Node")) (by decide +kernel) dJ27_init_16 rfl rfl gset_eq (Nat.le_of_ble_eq_true rfl) (by omega) ?_
  refine J_mem (gset G a (.inr (33, [.ref v9, .null, .ref pv9]))) gset_gset ?_
  exact J_vret cx dJ27_init_19 hr ⟨rfl, rfl, rfl⟩ (Nat.le_of_ble_eq_true rfl) (Nat.le_of_ble_eq_true rfl)
theorem t_J3_init (l : Launch) (Ω : jO) {G : Mem} {sz : Nat} (a : Nat) (ha : G a = some (.inr (29, [.int 0, .int 0, .null, .null]))) (hb : Ω.2.2.2 ≤ a) : Met l yJ3_init (ws_ yJ3_init cJ3_init 1 none) ({ frames := 3, cells := 0, slots := 0, locals := 52 } : Room) (va_Pc [.ref a] (jWd Ω G sz)) (jQ Ω (jD none (gset G a (.inr (29, [.int (nI (0)), .int 0, .null, .null]))) (sz))) 0 0 (jB Ω) := by
  refine jMet (by decide) (Nat.le_of_ble_eq_true rfl) ?_
  intro p e s m args below meth c cx hr hnm
  refine J_loc [some (.ref a)] rfl ?_
  refine J_bs cx (fun hbs9 => ?_)
  refine J_lt ha (fun hlt0 => ?_)
  refine J_aload_n cx dJ3_init_0 rfl ?_
  refine J_callI (n := 0) cx [] (t_J1_init_ll l Ω a ha (by omega)) dJ3_init_1 q185 q87 q220 q184 rfl ⟨by decide, by decide, by decide +kernel⟩ rfl rfl ⟨Nat.le_of_ble_eq_true rfl, Nat.le_of_ble_eq_true rfl⟩ rfl rfl (Nat.le_of_ble_eq_true rfl) ⟨Nat.le_of_ble_eq_true rfl, Nat.le_of_ble_eq_true rfl⟩ (jdet ?_)
  refine J_mem (gset G a (.inr (29, [.int (nI (0)), .int 0, .null, .null]))) rfl ?_
  exact J_vret cx dJ3_init_4 hr ⟨rfl, rfl, rfl⟩ (Nat.le_of_ble_eq_true rfl) (Nat.le_of_ble_eq_true rfl)
theorem t_J4_init (l : Launch) (Ω : jO) {G : Mem} {sz : Nat} (a : Nat) (ha : G a = some (.inr (29, [.int 0, .int 0, .null, .null]))) (hb : Ω.2.2.2 ≤ a) : Met l yJ4_init (ws_ yJ4_init cJ4_init 1 none) ({ frames := 4, cells := 0, slots := 0, locals := 72 } : Room) (va_Pc [.ref a] (jWd Ω G sz)) (jQ Ω (jD none (gset G a (.inr (29, [.int (nI (0)), .int (nI (0)), .null, .null]))) (sz))) 0 0 (jB Ω) := by
  refine jMet (by decide) (Nat.le_of_ble_eq_true rfl) ?_
  intro p e s m args below meth c cx hr hnm
  refine J_loc [some (.ref a)] rfl ?_
  refine J_bs cx (fun hbs9 => ?_)
  refine J_lt ha (fun hlt0 => ?_)
  refine J_aload_n cx dJ4_init_0 rfl ?_
  refine J_callI (n := 0) cx [] (t_J3_init l Ω a ha (by omega)) dJ4_init_1 q219 q89 q217 q218 rfl ⟨by decide, by decide, by decide +kernel⟩ rfl rfl ⟨Nat.le_of_ble_eq_true rfl, Nat.le_of_ble_eq_true rfl⟩ rfl rfl (Nat.le_of_ble_eq_true rfl) ⟨Nat.le_of_ble_eq_true rfl, Nat.le_of_ble_eq_true rfl⟩ (jdet ?_)
  refine J_mem (gset G a (.inr (29, [.int (nI (0)), .int 0, .null, .null]))) rfl ?_
  refine J_aload_n cx dJ4_init_4 rfl ?_
  refine J_iconst (v := nI (0)) cx dJ4_init_5 (by decide) ?_
  refine J_put cx in_J4 tyJ4 tyJ4_ok nmJ4 (ci := 29) rfl 1 (by decide) q221 (fun _ h => h) rfl (ty := .int) (by decide +kernel) dJ4_init_6 rfl rfl gset_eq (Nat.le_of_ble_eq_true rfl) (by omega) ?_
  refine J_mem (gset G a (.inr (29, [.int (nI (0)), .int (nI (0)), .null, .null]))) gset_gset ?_
  exact J_vret cx dJ4_init_9 hr ⟨rfl, rfl, rfl⟩ (Nat.le_of_ble_eq_true rfl) (Nat.le_of_ble_eq_true rfl)
theorem t_J4_size_E (l : Launch) (Ω : jO) {G : Mem} {sz : Nat} (a : Nat) {mc9 : Int32} (ha : G a = some (.inr (29, [.int mc9, .int (nI (0)), .null, .null]))) : Met l yJ4_size (ws_ yJ4_size cJ4_size 1 (some .int)) ({ frames := 1, cells := 0, slots := 0, locals := 12 } : Room) (va_Pc [.ref a] (jWd Ω G sz)) (jQ Ω (jD (some (.int (nI (0)))) G sz)) 0 0 (jB Ω) := by
  refine jMet (by decide) (Nat.le_of_ble_eq_true rfl) ?_
  intro p e s m args below meth c cx hr hnm
  refine J_loc [some (.ref a)] rfl ?_
  refine J_aload_n cx dJ4_size_0 rfl ?_
  refine J_get cx in_J4 (ci := 29) rfl 1 (by decide) q221 (fun _ h => h) dJ4_size_1 ha rfl ?_
  exact J_iret cx dJ4_size_4 hr ⟨rfl, rfl, rfl⟩ (Nat.le_of_ble_eq_true rfl) (Nat.le_of_ble_eq_true rfl)
theorem t_J4_size_N (l : Launch) (Ω : jO) {G : Mem} {sz : Nat} (a : Nat) {mc9 : Int32} {n9 fi9 la9 : Nat} (ha : G a = some (.inr (29, [.int mc9, .int (nI (n9)), .ref fi9, .ref la9]))) : Met l yJ4_size (ws_ yJ4_size cJ4_size 1 (some .int)) ({ frames := 1, cells := 0, slots := 0, locals := 12 } : Room) (va_Pc [.ref a] (jWd Ω G sz)) (jQ Ω (jD (some (.int (nI (n9)))) G sz)) 0 0 (jB Ω) := by
  refine jMet (by decide) (Nat.le_of_ble_eq_true rfl) ?_
  intro p e s m args below meth c cx hr hnm
  refine J_loc [some (.ref a)] rfl ?_
  refine J_aload_n cx dJ4_size_0 rfl ?_
  refine J_get cx in_J4 (ci := 29) rfl 1 (by decide) q221 (fun _ h => h) dJ4_size_1 ha rfl ?_
  exact J_iret cx dJ4_size_4 hr ⟨rfl, rfl, rfl⟩ (Nat.le_of_ble_eq_true rfl) (Nat.le_of_ble_eq_true rfl)
set_option maxHeartbeats 1000000 in
theorem t_J4_linkLast_E (l : Launch) (Ω : jO) {G : Mem} {sz : Nat} (a : Nat) {mc9 : Int32} (v9 : Nat) (ha : G a = some (.inr (29, [.int mc9, .int (nI (0)), .null, .null]))) (hb : Ω.2.2.2 ≤ a) : Met l yJ4_linkLast (ws_ yJ4_linkLast cJ4_linkLast 4 none) ({ frames := 2, cells := 1, slots := 3, locals := 35 } : Room) (va_Pc [.ref a, .ref v9] (jWd Ω G sz)) (jQ Ω (jD none (gset (gset G sz (.inr (33, [.ref v9, .null, .null]))) a (.inr (29, [.int (mc9 + (nI (1))), .int (nI (0 + 1)), .ref sz, .ref sz]))) (sz + 1))) 1 3 (jB Ω) := by
  refine jMet (by decide) (Nat.le_of_ble_eq_true rfl) ?_
  intro p e s m args below meth c cx hr hnm
  refine J_loc [some (.ref a), some (.ref v9), none, none] rfl ?_
  refine J_bs cx (fun hbs9 => ?_)
  refine J_lt ha (fun hlt0 => ?_)
  refine J_aload_n cx dJ4_linkLast_0 rfl ?_
  refine J_get cx in_J4 (ci := 29) rfl 3 (by decide) q224 (fun _ h => h) dJ4_linkLast_1 ha rfl ?_
  refine J_astore_nN2 cx dJ4_linkLast_4 (by decide) rfl ?_
  refine J_new cx in_J27 tyJ27 tyJ27_ok q1237 q1238 q124 (ci := 33) rfl (fs := [.null, .null, .null]) (by decide +kernel) dJ4_linkLast_5 (Nat.le_of_ble_eq_true rfl) (Nat.le_of_ble_eq_true rfl) ?_
  refine J_dup cx dJ4_linkLast_8 rfl ?_
  refine J_aload_nN cx dJ4_linkLast_9 rfl ?_
  refine J_aload_n cx dJ4_linkLast_10 rfl ?_
  refine J_null cx dJ4_linkLast_11 ?_
  refine J_callI (n := 3) cx [.null, .ref v9, .null] (t_J27_init_Z l Ω sz v9 gset_eq (by omega)) dJ4_linkLast_12 q1241 q124 q1239 q1240 rfl ⟨by decide, by decide, by decide +kernel⟩ rfl rfl ⟨Nat.le_of_ble_eq_true rfl, Nat.le_of_ble_eq_true rfl⟩ rfl rfl (Nat.le_of_ble_eq_true rfl) ⟨Nat.le_of_ble_eq_true rfl, Nat.le_of_ble_eq_true rfl⟩ (jdet ?_)
  refine J_mem (gset G sz (.inr (33, [.ref v9, .null, .null]))) gset_gset ?_
  refine J_astore_n3 cx dJ4_linkLast_15 (by decide) rfl ?_
  refine J_aload_n cx dJ4_linkLast_16 rfl ?_
  refine J_aload_n cx dJ4_linkLast_17 rfl ?_
  refine J_put cx in_J4 tyJ4 tyJ4_ok nmJ4 (ci := 29) rfl 3 (by decide) q224 (fun _ h => h) rfl (ty := (.object "java/util/LinkedList$Node")) (by decide +kernel) dJ4_linkLast_18 rfl rfl ((gset_ne (by omega)).trans ha) (Nat.le_of_ble_eq_true rfl) (by omega) ?_
  refine J_mem (gset (gset G sz (.inr (33, [.ref v9, .null, .null]))) a (.inr (29, [.int mc9, .int (nI (0)), .null, .ref sz]))) rfl ?_
  refine J_aload_nN cx dJ4_linkLast_21 rfl ?_
  refine J_ifnonnullN cx dJ4_linkLast_22 ?_
  refine J_aload_n cx dJ4_linkLast_25 rfl ?_
  refine J_aload_n cx dJ4_linkLast_26 rfl ?_
  refine J_put cx in_J4 tyJ4 tyJ4_ok nmJ4 (ci := 29) rfl 2 (by decide) q223 (fun _ h => h) rfl (ty := (.object "java/util/LinkedList$Node")) (by decide +kernel) dJ4_linkLast_27 rfl rfl gset_eq (Nat.le_of_ble_eq_true rfl) (by omega) ?_
  refine J_mem (gset (gset G sz (.inr (33, [.ref v9, .null, .null]))) a (.inr (29, [.int mc9, .int (nI (0)), .ref sz, .ref sz]))) gset_gset ?_
  refine J_goto (tgt := 38) cx dJ4_linkLast_30 (by decide) ?_
  refine J_aload_n cx dJ4_linkLast_38 rfl ?_
  refine J_dup cx dJ4_linkLast_39 rfl ?_
  refine J_get cx in_J4 (ci := 29) rfl 1 (by decide) q221 (fun _ h => h) dJ4_linkLast_40 gset_eq rfl ?_
  refine J_iconst (v := nI (1)) cx dJ4_linkLast_43 (by decide) ?_
  refine J_iaddN cx dJ4_linkLast_44 ?_
  refine J_put cx in_J4 tyJ4 tyJ4_ok nmJ4 (ci := 29) rfl 1 (by decide) q221 (fun _ h => h) rfl (ty := .int) (by decide +kernel) dJ4_linkLast_45 rfl rfl gset_eq (Nat.le_of_ble_eq_true rfl) (by omega) ?_
  refine J_mem (gset (gset G sz (.inr (33, [.ref v9, .null, .null]))) a (.inr (29, [.int mc9, .int (nI (0 + 1)), .ref sz, .ref sz]))) gset_gset ?_
  refine J_aload_n cx dJ4_linkLast_48 rfl ?_
  refine J_dup cx dJ4_linkLast_49 rfl ?_
  refine J_get cx in_J4 (ci := 29) rfl 0 (by decide) q202 (fun _ h => u_same (cx.ts _ q198) _ h) dJ4_linkLast_50 gset_eq rfl ?_
  refine J_iconst (v := nI (1)) cx dJ4_linkLast_53 (by decide) ?_
  refine J_iadd cx dJ4_linkLast_54 ?_
  refine J_put cx in_J4 tyJ4 tyJ4_ok nmJ4 (ci := 29) rfl 0 (by decide) q202 (fun _ h => u_same (cx.ts _ q198) _ h) rfl (ty := .int) (by decide +kernel) dJ4_linkLast_55 rfl rfl gset_eq (Nat.le_of_ble_eq_true rfl) (by omega) ?_
  refine J_mem (gset (gset G sz (.inr (33, [.ref v9, .null, .null]))) a (.inr (29, [.int (mc9 + (nI (1))), .int (nI (0 + 1)), .ref sz, .ref sz]))) gset_gset ?_
  exact J_vret cx dJ4_linkLast_58 hr ⟨rfl, rfl, rfl⟩ (Nat.le_of_ble_eq_true rfl) (Nat.le_of_ble_eq_true rfl)
set_option maxHeartbeats 1000000 in
theorem t_J4_linkLast_N (l : Launch) (Ω : jO) {G : Mem} {sz : Nat} (a : Nat) {mc9 : Int32} {n9 fi9 la9 : Nat} {it9 pv9 : Value} (v9 : Nat) (ha : G a = some (.inr (29, [.int mc9, .int (nI (n9)), .ref fi9, .ref la9]))) (hl : G la9 = some (.inr (33, [it9, .null, pv9]))) (hb : Ω.2.2.2 ≤ a) (hbl : Ω.2.2.2 ≤ la9) : Met l yJ4_linkLast (ws_ yJ4_linkLast cJ4_linkLast 4 none) ({ frames := 2, cells := 1, slots := 3, locals := 35 } : Room) (va_Pc [.ref a, .ref v9] (jWd Ω G sz)) (jQ Ω (jD none (gset (gset (gset G sz (.inr (33, [.ref v9, .null, .ref la9]))) la9 (.inr (33, [it9, .ref sz, pv9]))) a (.inr (29, [.int (mc9 + (nI (1))), .int (nI (n9 + 1)), .ref fi9, .ref sz]))) (sz + 1))) 1 3 (jB Ω) := by
  refine jMet (by decide) (Nat.le_of_ble_eq_true rfl) ?_
  intro p e s m args below meth c cx hr hnm
  refine J_loc [some (.ref a), some (.ref v9), none, none] rfl ?_
  refine J_bs cx (fun hbs9 => ?_)
  refine J_lt ha (fun hlt0 => ?_)
  refine J_lt hl (fun hlt1 => ?_)
  have hne0 : a ≠ la9 := fun e => by have h1 := ha; rw [e, hl] at h1; simp at h1
  refine J_aload_n cx dJ4_linkLast_0 rfl ?_
  refine J_get cx in_J4 (ci := 29) rfl 3 (by decide) q224 (fun _ h => h) dJ4_linkLast_1 ha rfl ?_
  refine J_astore_n2 cx dJ4_linkLast_4 (by decide) rfl ?_
  refine J_new cx in_J27 tyJ27 tyJ27_ok q1237 q1238 q124 (ci := 33) rfl (fs := [.null, .null, .null]) (by decide +kernel) dJ4_linkLast_5 (Nat.le_of_ble_eq_true rfl) (Nat.le_of_ble_eq_true rfl) ?_
  refine J_dup cx dJ4_linkLast_8 rfl ?_
  refine J_aload_n cx dJ4_linkLast_9 rfl ?_
  refine J_aload_n cx dJ4_linkLast_10 rfl ?_
  refine J_null cx dJ4_linkLast_11 ?_
  refine J_callI (n := 3) cx [.ref la9, .ref v9, .null] (t_J27_init_R l Ω sz v9 la9 gset_eq (by omega)) dJ4_linkLast_12 q1241 q124 q1239 q1240 rfl ⟨by decide, by decide, by decide +kernel⟩ rfl rfl ⟨Nat.le_of_ble_eq_true rfl, Nat.le_of_ble_eq_true rfl⟩ rfl rfl (Nat.le_of_ble_eq_true rfl) ⟨Nat.le_of_ble_eq_true rfl, Nat.le_of_ble_eq_true rfl⟩ (jdet ?_)
  refine J_mem (gset G sz (.inr (33, [.ref v9, .null, .ref la9]))) gset_gset ?_
  refine J_astore_n3 cx dJ4_linkLast_15 (by decide) rfl ?_
  refine J_aload_n cx dJ4_linkLast_16 rfl ?_
  refine J_aload_n cx dJ4_linkLast_17 rfl ?_
  refine J_put cx in_J4 tyJ4 tyJ4_ok nmJ4 (ci := 29) rfl 3 (by decide) q224 (fun _ h => h) rfl (ty := (.object "java/util/LinkedList$Node")) (by decide +kernel) dJ4_linkLast_18 rfl rfl ((gset_ne (by omega)).trans ha) (Nat.le_of_ble_eq_true rfl) (by omega) ?_
  refine J_mem (gset (gset G sz (.inr (33, [.ref v9, .null, .ref la9]))) a (.inr (29, [.int mc9, .int (nI (n9)), .ref fi9, .ref sz]))) rfl ?_
  refine J_aload_n cx dJ4_linkLast_21 rfl ?_
  refine J_ifnonnull (tgt := 33) cx dJ4_linkLast_22 (by decide) ?_
  refine J_aload_n cx dJ4_linkLast_33 rfl ?_
  refine J_aload_n cx dJ4_linkLast_34 rfl ?_
  refine J_put cx in_J27 tyJ27 tyJ27_ok nmJ27 (ci := 33) rfl 1 (by decide) q1248 (fun _ h => h) rfl (ty := (.object "java/util/LinkedList$Node")) (by decide +kernel) dJ4_linkLast_35 rfl rfl ((gset_ne (by omega)).trans ((gset_ne (by omega)).trans hl)) (Nat.le_of_ble_eq_true rfl) (by omega) ?_
  refine J_mem (gset (gset (gset G sz (.inr (33, [.ref v9, .null, .ref la9]))) a (.inr (29, [.int mc9, .int (nI (n9)), .ref fi9, .ref sz]))) la9 (.inr (33, [it9, .ref sz, pv9]))) rfl ?_
  refine J_aload_n cx dJ4_linkLast_38 rfl ?_
  refine J_dup cx dJ4_linkLast_39 rfl ?_
  refine J_get cx in_J4 (ci := 29) rfl 1 (by decide) q221 (fun _ h => h) dJ4_linkLast_40 ((gset_ne (by omega)).trans gset_eq) rfl ?_
  refine J_iconst (v := nI (1)) cx dJ4_linkLast_43 (by decide) ?_
  refine J_iaddN cx dJ4_linkLast_44 ?_
  refine J_put cx in_J4 tyJ4 tyJ4_ok nmJ4 (ci := 29) rfl 1 (by decide) q221 (fun _ h => h) rfl (ty := .int) (by decide +kernel) dJ4_linkLast_45 rfl rfl ((gset_ne (by omega)).trans gset_eq) (Nat.le_of_ble_eq_true rfl) (by omega) ?_
  refine J_mem (gset (gset (gset G sz (.inr (33, [.ref v9, .null, .ref la9]))) la9 (.inr (33, [it9, .ref sz, pv9]))) a (.inr (29, [.int mc9, .int (nI (n9 + 1)), .ref fi9, .ref sz]))) (by funext q9; simp only [gset]; by_cases hq9 : q9 = a <;> simp [hq9]) ?_
  refine J_aload_n cx dJ4_linkLast_48 rfl ?_
  refine J_dup cx dJ4_linkLast_49 rfl ?_
  refine J_get cx in_J4 (ci := 29) rfl 0 (by decide) q202 (fun _ h => u_same (cx.ts _ q198) _ h) dJ4_linkLast_50 gset_eq rfl ?_
  refine J_iconst (v := nI (1)) cx dJ4_linkLast_53 (by decide) ?_
  refine J_iadd cx dJ4_linkLast_54 ?_
  refine J_put cx in_J4 tyJ4 tyJ4_ok nmJ4 (ci := 29) rfl 0 (by decide) q202 (fun _ h => u_same (cx.ts _ q198) _ h) rfl (ty := .int) (by decide +kernel) dJ4_linkLast_55 rfl rfl gset_eq (Nat.le_of_ble_eq_true rfl) (by omega) ?_
  refine J_mem (gset (gset (gset G sz (.inr (33, [.ref v9, .null, .ref la9]))) la9 (.inr (33, [it9, .ref sz, pv9]))) a (.inr (29, [.int (mc9 + (nI (1))), .int (nI (n9 + 1)), .ref fi9, .ref sz]))) gset_gset ?_
  exact J_vret cx dJ4_linkLast_58 hr ⟨rfl, rfl, rfl⟩ (Nat.le_of_ble_eq_true rfl) (Nat.le_of_ble_eq_true rfl)
set_option maxHeartbeats 1000000 in
theorem t_J4_addLast_E (l : Launch) (Ω : jO) {G : Mem} {sz : Nat} (a : Nat) {mc9 : Int32} (v9 : Nat) (ha : G a = some (.inr (29, [.int mc9, .int (nI (0)), .null, .null]))) (hb : Ω.2.2.2 ≤ a) : Met l yJ4_addLast (ws_ yJ4_addLast cJ4_addLast 2 none) ({ frames := 3, cells := 1, slots := 3, locals := 58 } : Room) (va_Pc [.ref a, .ref v9] (jWd Ω G sz)) (jQ Ω (jD none (gset (gset G sz (.inr (33, [.ref v9, .null, .null]))) a (.inr (29, [.int (mc9 + (nI (1))), .int (nI (0 + 1)), .ref sz, .ref sz]))) (sz + 1))) 1 3 (jB Ω) := by
  refine jMet (by decide) (Nat.le_of_ble_eq_true rfl) ?_
  intro p e s m args below meth c cx hr hnm
  refine J_loc [some (.ref a), some (.ref v9)] rfl ?_
  refine J_bs cx (fun hbs9 => ?_)
  refine J_lt ha (fun hlt0 => ?_)
  refine J_aload_n cx dJ4_addLast_0 rfl ?_
  refine J_aload_n cx dJ4_addLast_1 rfl ?_
  refine J_callV (n := 1) cx (ci := 29) [.ref v9] (t_J4_linkLast_E l Ω a v9 ha (by omega)) dJ4_addLast_2 (lw_V q1233 q1234 q1235 q90 q1236) ⟨rfl, by decide, by decide, by decide +kernel⟩ rfl ha rfl rfl ⟨Nat.le_of_ble_eq_true rfl, Nat.le_of_ble_eq_true rfl⟩ rfl rfl (Nat.le_of_ble_eq_true rfl) ⟨Nat.le_of_ble_eq_true rfl, Nat.le_of_ble_eq_true rfl⟩ (jdet ?_)
  refine J_mem (gset (gset G sz (.inr (33, [.ref v9, .null, .null]))) a (.inr (29, [.int (mc9 + (nI (1))), .int (nI (0 + 1)), .ref sz, .ref sz]))) rfl ?_
  exact J_vret cx dJ4_addLast_5 hr ⟨rfl, rfl, rfl⟩ (Nat.le_of_ble_eq_true rfl) (Nat.le_of_ble_eq_true rfl)
set_option maxHeartbeats 1000000 in
theorem t_J4_addLast_N (l : Launch) (Ω : jO) {G : Mem} {sz : Nat} (a : Nat) {mc9 : Int32} {n9 fi9 la9 : Nat} {it9 pv9 : Value} (v9 : Nat) (ha : G a = some (.inr (29, [.int mc9, .int (nI (n9)), .ref fi9, .ref la9]))) (hl : G la9 = some (.inr (33, [it9, .null, pv9]))) (hb : Ω.2.2.2 ≤ a) (hbl : Ω.2.2.2 ≤ la9) : Met l yJ4_addLast (ws_ yJ4_addLast cJ4_addLast 2 none) ({ frames := 3, cells := 1, slots := 3, locals := 58 } : Room) (va_Pc [.ref a, .ref v9] (jWd Ω G sz)) (jQ Ω (jD none (gset (gset (gset G sz (.inr (33, [.ref v9, .null, .ref la9]))) la9 (.inr (33, [it9, .ref sz, pv9]))) a (.inr (29, [.int (mc9 + (nI (1))), .int (nI (n9 + 1)), .ref fi9, .ref sz]))) (sz + 1))) 1 3 (jB Ω) := by
  refine jMet (by decide) (Nat.le_of_ble_eq_true rfl) ?_
  intro p e s m args below meth c cx hr hnm
  refine J_loc [some (.ref a), some (.ref v9)] rfl ?_
  refine J_bs cx (fun hbs9 => ?_)
  refine J_lt ha (fun hlt0 => ?_)
  refine J_lt hl (fun hlt1 => ?_)
  have hne0 : a ≠ la9 := fun e => by have h1 := ha; rw [e, hl] at h1; simp at h1
  refine J_aload_n cx dJ4_addLast_0 rfl ?_
  refine J_aload_n cx dJ4_addLast_1 rfl ?_
  refine J_callV (n := 1) cx (ci := 29) [.ref v9] (t_J4_linkLast_N l Ω a v9 ha hl (by omega) (by omega)) dJ4_addLast_2 (lw_V q1233 q1234 q1235 q90 q1236) ⟨rfl, by decide, by decide, by decide +kernel⟩ rfl ha rfl rfl ⟨Nat.le_of_ble_eq_true rfl, Nat.le_of_ble_eq_true rfl⟩ rfl rfl (Nat.le_of_ble_eq_true rfl) ⟨Nat.le_of_ble_eq_true rfl, Nat.le_of_ble_eq_true rfl⟩ (jdet ?_)
  refine J_mem (gset (gset (gset G sz (.inr (33, [.ref v9, .null, .ref la9]))) la9 (.inr (33, [it9, .ref sz, pv9]))) a (.inr (29, [.int (mc9 + (nI (1))), .int (nI (n9 + 1)), .ref fi9, .ref sz]))) rfl ?_
  exact J_vret cx dJ4_addLast_5 hr ⟨rfl, rfl, rfl⟩ (Nat.le_of_ble_eq_true rfl) (Nat.le_of_ble_eq_true rfl)
set_option maxHeartbeats 1000000 in
theorem t_J4_unlinkFirst_S (l : Launch) (Ω : jO) {G : Mem} {sz : Nat} (a : Nat) {mc9 : Int32} {n9 fi9 it9 : Nat} {la9 pv9 : Value} (ha : G a = some (.inr (29, [.int mc9, .int (nI (n9)), .ref fi9, la9]))) (hf : G fi9 = some (.inr (33, [.ref it9, .null, pv9]))) (hb : Ω.2.2.2 ≤ a) (hbf : Ω.2.2.2 ≤ fi9) (hn1 : 1 ≤ n9) : Met l yJ4_unlinkFirst (ws_ yJ4_unlinkFirst cJ4_unlinkFirst 4 (some (.object "java/lang/Object"))) ({ frames := 1, cells := 0, slots := 0, locals := 12 } : Room) (va_Pc [.ref a, .ref fi9] (jWd Ω G sz)) (jQ Ω (jD (some (.ref it9)) (gset (gset G fi9 (.inr (33, [.null, .null, pv9]))) a (.inr (29, [.int (mc9 + (nI (1))), .int (nI (n9 - 1)), .null, .null]))) (sz))) 0 0 (jB Ω) := by
  refine jMet (by decide) (Nat.le_of_ble_eq_true rfl) ?_
  intro p e s m args below meth c cx hr hnm
  refine J_loc [some (.ref a), some (.ref fi9), none, none] rfl ?_
  refine J_bs cx (fun hbs9 => ?_)
  refine J_lt ha (fun hlt0 => ?_)
  refine J_lt hf (fun hlt1 => ?_)
  have hne0 : a ≠ fi9 := fun e => by have h1 := ha; rw [e, hf] at h1; simp at h1
  refine J_aload_n cx dJ4_unlinkFirst_0 rfl ?_
  refine J_get cx in_J27 (ci := 33) rfl 0 (by decide) q1245 (fun _ h => h) dJ4_unlinkFirst_1 hf rfl ?_
  refine J_astore_n2 cx dJ4_unlinkFirst_4 (by decide) rfl ?_
  refine J_aload_n cx dJ4_unlinkFirst_5 rfl ?_
  refine J_get cx in_J27 (ci := 33) rfl 1 (by decide) q1248 (fun _ h => h) dJ4_unlinkFirst_6 hf rfl ?_
  refine J_astore_nN3 cx dJ4_unlinkFirst_9 (by decide) rfl ?_
  refine J_aload_n cx dJ4_unlinkFirst_10 rfl ?_
  refine J_null cx dJ4_unlinkFirst_11 ?_
  refine J_put cx in_J27 tyJ27 tyJ27_ok nmJ27 (ci := 33) rfl 0 (by decide) q1245 (fun _ h => h) rfl (ty := (.object "java/lang/Object")) (by decide +kernel) dJ4_unlinkFirst_12 rfl rfl hf (Nat.le_of_ble_eq_true rfl) (by omega) ?_
  refine J_mem (gset G fi9 (.inr (33, [.null, .null, pv9]))) rfl ?_
  refine J_aload_n cx dJ4_unlinkFirst_15 rfl ?_
  refine J_null cx dJ4_unlinkFirst_16 ?_
  refine J_put cx in_J27 tyJ27 tyJ27_ok nmJ27 (ci := 33) rfl 1 (by decide) q1248 (fun _ h => h) rfl (ty := (.object "java/util/LinkedList$Node")) (by decide +kernel) dJ4_unlinkFirst_17 rfl rfl gset_eq (Nat.le_of_ble_eq_true rfl) (by omega) ?_
  refine J_mem (gset G fi9 (.inr (33, [.null, .null, pv9]))) gset_gset ?_
  refine J_aload_n cx dJ4_unlinkFirst_20 rfl ?_
  refine J_aload_nN cx dJ4_unlinkFirst_21 rfl ?_
  refine J_put cx in_J4 tyJ4 tyJ4_ok nmJ4 (ci := 29) rfl 2 (by decide) q223 (fun _ h => h) rfl (ty := (.object "java/util/LinkedList$Node")) (by decide +kernel) dJ4_unlinkFirst_22 rfl rfl ((gset_ne (by omega)).trans ha) (Nat.le_of_ble_eq_true rfl) (by omega) ?_
  refine J_mem (gset (gset G fi9 (.inr (33, [.null, .null, pv9]))) a (.inr (29, [.int mc9, .int (nI (n9)), .null, la9]))) rfl ?_
  refine J_aload_nN cx dJ4_unlinkFirst_25 rfl ?_
  refine J_ifnonnullN cx dJ4_unlinkFirst_26 ?_
  refine J_aload_n cx dJ4_unlinkFirst_29 rfl ?_
  refine J_null cx dJ4_unlinkFirst_30 ?_
  refine J_put cx in_J4 tyJ4 tyJ4_ok nmJ4 (ci := 29) rfl 3 (by decide) q224 (fun _ h => h) rfl (ty := (.object "java/util/LinkedList$Node")) (by decide +kernel) dJ4_unlinkFirst_31 rfl rfl gset_eq (Nat.le_of_ble_eq_true rfl) (by omega) ?_
  refine J_mem (gset (gset G fi9 (.inr (33, [.null, .null, pv9]))) a (.inr (29, [.int mc9, .int (nI (n9)), .null, .null]))) gset_gset ?_
  refine J_goto (tgt := 42) cx dJ4_unlinkFirst_34 (by decide) ?_
  refine J_aload_n cx dJ4_unlinkFirst_42 rfl ?_
  refine J_dup cx dJ4_unlinkFirst_43 rfl ?_
  refine J_get cx in_J4 (ci := 29) rfl 1 (by decide) q221 (fun _ h => h) dJ4_unlinkFirst_44 gset_eq rfl ?_
  refine J_iconst (v := nI (1)) cx dJ4_unlinkFirst_47 (by decide) ?_
  refine J_isubN cx dJ4_unlinkFirst_48 (by omega) ?_
  refine J_put cx in_J4 tyJ4 tyJ4_ok nmJ4 (ci := 29) rfl 1 (by decide) q221 (fun _ h => h) rfl (ty := .int) (by decide +kernel) dJ4_unlinkFirst_49 rfl rfl gset_eq (Nat.le_of_ble_eq_true rfl) (by omega) ?_
  refine J_mem (gset (gset G fi9 (.inr (33, [.null, .null, pv9]))) a (.inr (29, [.int mc9, .int (nI (n9 - 1)), .null, .null]))) gset_gset ?_
  refine J_aload_n cx dJ4_unlinkFirst_52 rfl ?_
  refine J_dup cx dJ4_unlinkFirst_53 rfl ?_
  refine J_get cx in_J4 (ci := 29) rfl 0 (by decide) q202 (fun _ h => u_same (cx.ts _ q198) _ h) dJ4_unlinkFirst_54 gset_eq rfl ?_
  refine J_iconst (v := nI (1)) cx dJ4_unlinkFirst_57 (by decide) ?_
  refine J_iadd cx dJ4_unlinkFirst_58 ?_
  refine J_put cx in_J4 tyJ4 tyJ4_ok nmJ4 (ci := 29) rfl 0 (by decide) q202 (fun _ h => u_same (cx.ts _ q198) _ h) rfl (ty := .int) (by decide +kernel) dJ4_unlinkFirst_59 rfl rfl gset_eq (Nat.le_of_ble_eq_true rfl) (by omega) ?_
  refine J_mem (gset (gset G fi9 (.inr (33, [.null, .null, pv9]))) a (.inr (29, [.int (mc9 + (nI (1))), .int (nI (n9 - 1)), .null, .null]))) gset_gset ?_
  refine J_aload_n cx dJ4_unlinkFirst_62 rfl ?_
  exact J_aret cx dJ4_unlinkFirst_63 hr (Or.inl ⟨_, rfl⟩) (Or.inr ⟨_, rfl⟩) ⟨rfl, rfl, rfl⟩ (Nat.le_of_ble_eq_true rfl) (Nat.le_of_ble_eq_true rfl)
set_option maxHeartbeats 1000000 in
theorem t_J4_unlinkFirst_M (l : Launch) (Ω : jO) {G : Mem} {sz : Nat} (a : Nat) {mc9 : Int32} {n9 fi9 nx9 it9 : Nat} {la9 pv9 i29 x29 p29 : Value} (ha : G a = some (.inr (29, [.int mc9, .int (nI (n9)), .ref fi9, la9]))) (hf : G fi9 = some (.inr (33, [.ref it9, .ref nx9, pv9]))) (hx : G nx9 = some (.inr (33, [i29, x29, p29]))) (hfx : fi9 ≠ nx9) (hb : Ω.2.2.2 ≤ a) (hbf : Ω.2.2.2 ≤ fi9) (hbx : Ω.2.2.2 ≤ nx9) (hn1 : 1 ≤ n9) : Met l yJ4_unlinkFirst (ws_ yJ4_unlinkFirst cJ4_unlinkFirst 4 (some (.object "java/lang/Object"))) ({ frames := 1, cells := 0, slots := 0, locals := 12 } : Room) (va_Pc [.ref a, .ref fi9] (jWd Ω G sz)) (jQ Ω (jD (some (.ref it9)) (gset (gset (gset G fi9 (.inr (33, [.null, .null, pv9]))) nx9 (.inr (33, [i29, x29, .null]))) a (.inr (29, [.int (mc9 + (nI (1))), .int (nI (n9 - 1)), .ref nx9, la9]))) (sz))) 0 0 (jB Ω) := by
  refine jMet (by decide) (Nat.le_of_ble_eq_true rfl) ?_
  intro p e s m args below meth c cx hr hnm
  refine J_loc [some (.ref a), some (.ref fi9), none, none] rfl ?_
  refine J_bs cx (fun hbs9 => ?_)
  refine J_lt ha (fun hlt0 => ?_)
  refine J_lt hf (fun hlt1 => ?_)
  refine J_lt hx (fun hlt2 => ?_)
  have hne0 : a ≠ fi9 := fun e => by have h1 := ha; rw [e, hf] at h1; simp at h1
  have hne1 : a ≠ nx9 := fun e => by have h1 := ha; rw [e, hx] at h1; simp at h1
  refine J_aload_n cx dJ4_unlinkFirst_0 rfl ?_
  refine J_get cx in_J27 (ci := 33) rfl 0 (by decide) q1245 (fun _ h => h) dJ4_unlinkFirst_1 hf rfl ?_
  refine J_astore_n2 cx dJ4_unlinkFirst_4 (by decide) rfl ?_
  refine J_aload_n cx dJ4_unlinkFirst_5 rfl ?_
  refine J_get cx in_J27 (ci := 33) rfl 1 (by decide) q1248 (fun _ h => h) dJ4_unlinkFirst_6 hf rfl ?_
  refine J_astore_n3 cx dJ4_unlinkFirst_9 (by decide) rfl ?_
  refine J_aload_n cx dJ4_unlinkFirst_10 rfl ?_
  refine J_null cx dJ4_unlinkFirst_11 ?_
  refine J_put cx in_J27 tyJ27 tyJ27_ok nmJ27 (ci := 33) rfl 0 (by decide) q1245 (fun _ h => h) rfl (ty := (.object "java/lang/Object")) (by decide +kernel) dJ4_unlinkFirst_12 rfl rfl hf (Nat.le_of_ble_eq_true rfl) (by omega) ?_
  refine J_mem (gset G fi9 (.inr (33, [.null, .ref nx9, pv9]))) rfl ?_
  refine J_aload_n cx dJ4_unlinkFirst_15 rfl ?_
  refine J_null cx dJ4_unlinkFirst_16 ?_
  refine J_put cx in_J27 tyJ27 tyJ27_ok nmJ27 (ci := 33) rfl 1 (by decide) q1248 (fun _ h => h) rfl (ty := (.object "java/util/LinkedList$Node")) (by decide +kernel) dJ4_unlinkFirst_17 rfl rfl gset_eq (Nat.le_of_ble_eq_true rfl) (by omega) ?_
  refine J_mem (gset G fi9 (.inr (33, [.null, .null, pv9]))) gset_gset ?_
  refine J_aload_n cx dJ4_unlinkFirst_20 rfl ?_
  refine J_aload_n cx dJ4_unlinkFirst_21 rfl ?_
  refine J_put cx in_J4 tyJ4 tyJ4_ok nmJ4 (ci := 29) rfl 2 (by decide) q223 (fun _ h => h) rfl (ty := (.object "java/util/LinkedList$Node")) (by decide +kernel) dJ4_unlinkFirst_22 rfl rfl ((gset_ne (by omega)).trans ha) (Nat.le_of_ble_eq_true rfl) (by omega) ?_
  refine J_mem (gset (gset G fi9 (.inr (33, [.null, .null, pv9]))) a (.inr (29, [.int mc9, .int (nI (n9)), .ref nx9, la9]))) rfl ?_
  refine J_aload_n cx dJ4_unlinkFirst_25 rfl ?_
  refine J_ifnonnull (tgt := 37) cx dJ4_unlinkFirst_26 (by decide) ?_
  refine J_aload_n cx dJ4_unlinkFirst_37 rfl ?_
  refine J_null cx dJ4_unlinkFirst_38 ?_
  refine J_put cx in_J27 tyJ27 tyJ27_ok nmJ27 (ci := 33) rfl 2 (by decide) q1250 (fun _ h => h) rfl (ty := (.object "java/util/LinkedList$Node")) (by decide +kernel) dJ4_unlinkFirst_39 rfl rfl ((gset_ne (by omega)).trans ((gset_ne (by omega)).trans hx)) (Nat.le_of_ble_eq_true rfl) (by omega) ?_
  refine J_mem (gset (gset (gset G fi9 (.inr (33, [.null, .null, pv9]))) a (.inr (29, [.int mc9, .int (nI (n9)), .ref nx9, la9]))) nx9 (.inr (33, [i29, x29, .null]))) rfl ?_
  refine J_aload_n cx dJ4_unlinkFirst_42 rfl ?_
  refine J_dup cx dJ4_unlinkFirst_43 rfl ?_
  refine J_get cx in_J4 (ci := 29) rfl 1 (by decide) q221 (fun _ h => h) dJ4_unlinkFirst_44 ((gset_ne (by omega)).trans gset_eq) rfl ?_
  refine J_iconst (v := nI (1)) cx dJ4_unlinkFirst_47 (by decide) ?_
  refine J_isubN cx dJ4_unlinkFirst_48 (by omega) ?_
  refine J_put cx in_J4 tyJ4 tyJ4_ok nmJ4 (ci := 29) rfl 1 (by decide) q221 (fun _ h => h) rfl (ty := .int) (by decide +kernel) dJ4_unlinkFirst_49 rfl rfl ((gset_ne (by omega)).trans gset_eq) (Nat.le_of_ble_eq_true rfl) (by omega) ?_
  refine J_mem (gset (gset (gset G fi9 (.inr (33, [.null, .null, pv9]))) nx9 (.inr (33, [i29, x29, .null]))) a (.inr (29, [.int mc9, .int (nI (n9 - 1)), .ref nx9, la9]))) (by funext q9; simp only [gset]; by_cases hq9 : q9 = a <;> simp [hq9]) ?_
  refine J_aload_n cx dJ4_unlinkFirst_52 rfl ?_
  refine J_dup cx dJ4_unlinkFirst_53 rfl ?_
  refine J_get cx in_J4 (ci := 29) rfl 0 (by decide) q202 (fun _ h => u_same (cx.ts _ q198) _ h) dJ4_unlinkFirst_54 gset_eq rfl ?_
  refine J_iconst (v := nI (1)) cx dJ4_unlinkFirst_57 (by decide) ?_
  refine J_iadd cx dJ4_unlinkFirst_58 ?_
  refine J_put cx in_J4 tyJ4 tyJ4_ok nmJ4 (ci := 29) rfl 0 (by decide) q202 (fun _ h => u_same (cx.ts _ q198) _ h) rfl (ty := .int) (by decide +kernel) dJ4_unlinkFirst_59 rfl rfl gset_eq (Nat.le_of_ble_eq_true rfl) (by omega) ?_
  refine J_mem (gset (gset (gset G fi9 (.inr (33, [.null, .null, pv9]))) nx9 (.inr (33, [i29, x29, .null]))) a (.inr (29, [.int (mc9 + (nI (1))), .int (nI (n9 - 1)), .ref nx9, la9]))) gset_gset ?_
  refine J_aload_n cx dJ4_unlinkFirst_62 rfl ?_
  exact J_aret cx dJ4_unlinkFirst_63 hr (Or.inl ⟨_, rfl⟩) (Or.inr ⟨_, rfl⟩) ⟨rfl, rfl, rfl⟩ (Nat.le_of_ble_eq_true rfl) (Nat.le_of_ble_eq_true rfl)
set_option maxHeartbeats 1000000 in
theorem t_J4_removeFirst_S (l : Launch) (Ω : jO) {G : Mem} {sz : Nat} (a : Nat) {mc9 : Int32} {n9 fi9 it9 : Nat} {la9 pv9 : Value} (ha : G a = some (.inr (29, [.int mc9, .int (nI (n9)), .ref fi9, la9]))) (hf : G fi9 = some (.inr (33, [.ref it9, .null, pv9]))) (hb : Ω.2.2.2 ≤ a) (hbf : Ω.2.2.2 ≤ fi9) (hn1 : 1 ≤ n9) : Met l yJ4_removeFirst (ws_ yJ4_removeFirst cJ4_removeFirst 2 (some (.object "java/lang/Object"))) ({ frames := 2, cells := 0, slots := 0, locals := 35 } : Room) (va_Pc [.ref a] (jWd Ω G sz)) (jQ Ω (jD (some (.ref it9)) (gset (gset G fi9 (.inr (33, [.null, .null, pv9]))) a (.inr (29, [.int (mc9 + (nI (1))), .int (nI (n9 - 1)), .null, .null]))) (sz))) 0 0 (jB Ω) := by
  refine jMet (by decide) (Nat.le_of_ble_eq_true rfl) ?_
  intro p e s m args below meth c cx hr hnm
  refine J_loc [some (.ref a), none] rfl ?_
  refine J_bs cx (fun hbs9 => ?_)
  refine J_lt ha (fun hlt0 => ?_)
  refine J_lt hf (fun hlt1 => ?_)
  have hne0 : a ≠ fi9 := fun e => by have h1 := ha; rw [e, hf] at h1; simp at h1
  refine J_aload_n cx dJ4_removeFirst_0 rfl ?_
  refine J_get cx in_J4 (ci := 29) rfl 2 (by decide) q223 (fun _ h => h) dJ4_removeFirst_1 ha rfl ?_
  refine J_astore_n1 cx dJ4_removeFirst_4 (by decide) rfl ?_
  refine J_aload_n cx dJ4_removeFirst_5 rfl ?_
  refine J_ifnonnull (tgt := 17) cx dJ4_removeFirst_6 (by decide) ?_
  refine J_aload_n cx dJ4_removeFirst_17 rfl ?_
  refine J_aload_n cx dJ4_removeFirst_18 rfl ?_
  refine J_callV (n := 1) cx (ci := 29) [.ref fi9] (t_J4_unlinkFirst_S l Ω a ha hf (by omega) (by omega) (by omega)) dJ4_removeFirst_19 (lw_V q1475 q1477 qs15 q90 q1478) ⟨rfl, by decide, by decide, by decide +kernel⟩ rfl ha rfl rfl ⟨Nat.le_of_ble_eq_true rfl, Nat.le_of_ble_eq_true rfl⟩ rfl rfl (Nat.le_of_ble_eq_true rfl) ⟨Nat.le_of_ble_eq_true rfl, Nat.le_of_ble_eq_true rfl⟩ (jdet ?_)
  refine J_mem (gset (gset G fi9 (.inr (33, [.null, .null, pv9]))) a (.inr (29, [.int (mc9 + (nI (1))), .int (nI (n9 - 1)), .null, .null]))) rfl ?_
  exact J_aret cx dJ4_removeFirst_22 hr (Or.inl ⟨_, rfl⟩) (Or.inr ⟨_, rfl⟩) ⟨rfl, rfl, rfl⟩ (Nat.le_of_ble_eq_true rfl) (Nat.le_of_ble_eq_true rfl)
set_option maxHeartbeats 1000000 in
theorem t_J4_removeFirst_M (l : Launch) (Ω : jO) {G : Mem} {sz : Nat} (a : Nat) {mc9 : Int32} {n9 fi9 nx9 it9 : Nat} {la9 pv9 i29 x29 p29 : Value} (ha : G a = some (.inr (29, [.int mc9, .int (nI (n9)), .ref fi9, la9]))) (hf : G fi9 = some (.inr (33, [.ref it9, .ref nx9, pv9]))) (hx : G nx9 = some (.inr (33, [i29, x29, p29]))) (hfx : fi9 ≠ nx9) (hb : Ω.2.2.2 ≤ a) (hbf : Ω.2.2.2 ≤ fi9) (hbx : Ω.2.2.2 ≤ nx9) (hn1 : 1 ≤ n9) : Met l yJ4_removeFirst (ws_ yJ4_removeFirst cJ4_removeFirst 2 (some (.object "java/lang/Object"))) ({ frames := 2, cells := 0, slots := 0, locals := 35 } : Room) (va_Pc [.ref a] (jWd Ω G sz)) (jQ Ω (jD (some (.ref it9)) (gset (gset (gset G fi9 (.inr (33, [.null, .null, pv9]))) nx9 (.inr (33, [i29, x29, .null]))) a (.inr (29, [.int (mc9 + (nI (1))), .int (nI (n9 - 1)), .ref nx9, la9]))) (sz))) 0 0 (jB Ω) := by
  refine jMet (by decide) (Nat.le_of_ble_eq_true rfl) ?_
  intro p e s m args below meth c cx hr hnm
  refine J_loc [some (.ref a), none] rfl ?_
  refine J_bs cx (fun hbs9 => ?_)
  refine J_lt ha (fun hlt0 => ?_)
  refine J_lt hf (fun hlt1 => ?_)
  refine J_lt hx (fun hlt2 => ?_)
  have hne0 : a ≠ fi9 := fun e => by have h1 := ha; rw [e, hf] at h1; simp at h1
  have hne1 : a ≠ nx9 := fun e => by have h1 := ha; rw [e, hx] at h1; simp at h1
  refine J_aload_n cx dJ4_removeFirst_0 rfl ?_
  refine J_get cx in_J4 (ci := 29) rfl 2 (by decide) q223 (fun _ h => h) dJ4_removeFirst_1 ha rfl ?_
  refine J_astore_n1 cx dJ4_removeFirst_4 (by decide) rfl ?_
  refine J_aload_n cx dJ4_removeFirst_5 rfl ?_
  refine J_ifnonnull (tgt := 17) cx dJ4_removeFirst_6 (by decide) ?_
  refine J_aload_n cx dJ4_removeFirst_17 rfl ?_
  refine J_aload_n cx dJ4_removeFirst_18 rfl ?_
  refine J_callV (n := 1) cx (ci := 29) [.ref fi9] (t_J4_unlinkFirst_M l Ω a ha hf hx (by omega) (by omega) (by omega) (by omega) (by omega)) dJ4_removeFirst_19 (lw_V q1475 q1477 qs15 q90 q1478) ⟨rfl, by decide, by decide, by decide +kernel⟩ rfl ha rfl rfl ⟨Nat.le_of_ble_eq_true rfl, Nat.le_of_ble_eq_true rfl⟩ rfl rfl (Nat.le_of_ble_eq_true rfl) ⟨Nat.le_of_ble_eq_true rfl, Nat.le_of_ble_eq_true rfl⟩ (jdet ?_)
  refine J_mem (gset (gset (gset G fi9 (.inr (33, [.null, .null, pv9]))) nx9 (.inr (33, [i29, x29, .null]))) a (.inr (29, [.int (mc9 + (nI (1))), .int (nI (n9 - 1)), .ref nx9, la9]))) rfl ?_
  exact J_aret cx dJ4_removeFirst_22 hr (Or.inl ⟨_, rfl⟩) (Or.inr ⟨_, rfl⟩) ⟨rfl, rfl, rfl⟩ (Nat.le_of_ble_eq_true rfl) (Nat.le_of_ble_eq_true rfl)
set_option maxHeartbeats 2000000 in
theorem t_J4_unlink_ZZ (l : Launch) (Ω : jO) {G : Mem} {sz : Nat} (a : Nat) {mc9 : Int32} {n9 it9 : Nat} {fi9 la9 : Value} (x9 : Nat) (ha : G a = some (.inr (29, [.int mc9, .int (nI (n9)), fi9, la9]))) (hx : G x9 = some (.inr (33, [.ref it9, .null, .null]))) (hb : Ω.2.2.2 ≤ a) (hbx : Ω.2.2.2 ≤ x9) (hn1 : 1 ≤ n9) : Met l yJ4_unlink (ws_ yJ4_unlink cJ4_unlink 5 (some (.object "java/lang/Object"))) ({ frames := 1, cells := 0, slots := 0, locals := 12 } : Room) (va_Pc [.ref a, .ref x9] (jWd Ω G sz)) (jQ Ω (jD (some (.ref it9)) (gset (gset G x9 (.inr (33, [.null, .null, .null]))) a (.inr (29, [.int (mc9 + (nI (1))), .int (nI (n9 - 1)), .null, .null]))) (sz))) 0 0 (jB Ω) := by
  refine jMet (by decide) (Nat.le_of_ble_eq_true rfl) ?_
  intro p e s m args below meth c cx hr hnm
  refine J_loc [some (.ref a), some (.ref x9), none, none, none] rfl ?_
  refine J_bs cx (fun hbs9 => ?_)
  refine J_lt ha (fun hlt0 => ?_)
  refine J_lt hx (fun hlt1 => ?_)
  have hne0 : a ≠ x9 := fun e => by have h1 := ha; rw [e, hx] at h1; simp at h1
  refine J_aload_n cx dJ4_unlink_0 rfl ?_
  refine J_get cx in_J27 (ci := 33) rfl 0 (by decide) q1245 (fun _ h => h) dJ4_unlink_1 hx rfl ?_
  refine J_astore_n2 cx dJ4_unlink_4 (by decide) rfl ?_
  refine J_aload_n cx dJ4_unlink_5 rfl ?_
  refine J_get cx in_J27 (ci := 33) rfl 1 (by decide) q1248 (fun _ h => h) dJ4_unlink_6 hx rfl ?_
  refine J_astore_nN3 cx dJ4_unlink_9 (by decide) rfl ?_
  refine J_aload_n cx dJ4_unlink_10 rfl ?_
  refine J_get cx in_J27 (ci := 33) rfl 2 (by decide) q1250 (fun _ h => h) dJ4_unlink_11 hx rfl ?_
  refine J_astoreN4 cx dJ4_unlink_14 (by decide) rfl ?_
  refine J_aloadN cx dJ4_unlink_16 rfl ?_
  refine J_ifnonnullN cx dJ4_unlink_18 ?_
  refine J_aload_n cx dJ4_unlink_21 rfl ?_
  refine J_aload_nN cx dJ4_unlink_22 rfl ?_
  refine J_put cx in_J4 tyJ4 tyJ4_ok nmJ4 (ci := 29) rfl 2 (by decide) q223 (fun _ h => h) rfl (ty := (.object "java/util/LinkedList$Node")) (by decide +kernel) dJ4_unlink_23 rfl rfl ha (Nat.le_of_ble_eq_true rfl) (by omega) ?_
  refine J_mem (gset G a (.inr (29, [.int mc9, .int (nI (n9)), .null, la9]))) rfl ?_
  refine J_goto (tgt := 40) cx dJ4_unlink_26 (by decide) ?_
  refine J_aload_nN cx dJ4_unlink_40 rfl ?_
  refine J_ifnonnullN cx dJ4_unlink_41 ?_
  refine J_aload_n cx dJ4_unlink_44 rfl ?_
  refine J_aloadN cx dJ4_unlink_45 rfl ?_
  refine J_put cx in_J4 tyJ4 tyJ4_ok nmJ4 (ci := 29) rfl 3 (by decide) q224 (fun _ h => h) rfl (ty := (.object "java/util/LinkedList$Node")) (by decide +kernel) dJ4_unlink_47 rfl rfl gset_eq (Nat.le_of_ble_eq_true rfl) (by omega) ?_
  refine J_mem (gset G a (.inr (29, [.int mc9, .int (nI (n9)), .null, .null]))) gset_gset ?_
  refine J_goto (tgt := 64) cx dJ4_unlink_50 (by decide) ?_
  refine J_aload_n cx dJ4_unlink_64 rfl ?_
  refine J_null cx dJ4_unlink_65 ?_
  refine J_put cx in_J27 tyJ27 tyJ27_ok nmJ27 (ci := 33) rfl 0 (by decide) q1245 (fun _ h => h) rfl (ty := (.object "java/lang/Object")) (by decide +kernel) dJ4_unlink_66 rfl rfl ((gset_ne (by omega)).trans hx) (Nat.le_of_ble_eq_true rfl) (by omega) ?_
  refine J_mem (gset (gset G a (.inr (29, [.int mc9, .int (nI (n9)), .null, .null]))) x9 (.inr (33, [.null, .null, .null]))) rfl ?_
  refine J_aload_n cx dJ4_unlink_69 rfl ?_
  refine J_dup cx dJ4_unlink_70 rfl ?_
  refine J_get cx in_J4 (ci := 29) rfl 1 (by decide) q221 (fun _ h => h) dJ4_unlink_71 ((gset_ne (by omega)).trans gset_eq) rfl ?_
  refine J_iconst (v := nI (1)) cx dJ4_unlink_74 (by decide) ?_
  refine J_isubN cx dJ4_unlink_75 (by omega) ?_
  refine J_put cx in_J4 tyJ4 tyJ4_ok nmJ4 (ci := 29) rfl 1 (by decide) q221 (fun _ h => h) rfl (ty := .int) (by decide +kernel) dJ4_unlink_76 rfl rfl ((gset_ne (by omega)).trans gset_eq) (Nat.le_of_ble_eq_true rfl) (by omega) ?_
  refine J_mem (gset (gset G x9 (.inr (33, [.null, .null, .null]))) a (.inr (29, [.int mc9, .int (nI (n9 - 1)), .null, .null]))) (by funext q9; simp only [gset]; by_cases hq9 : q9 = a <;> simp [hq9]) ?_
  refine J_aload_n cx dJ4_unlink_79 rfl ?_
  refine J_dup cx dJ4_unlink_80 rfl ?_
  refine J_get cx in_J4 (ci := 29) rfl 0 (by decide) q202 (fun _ h => u_same (cx.ts _ q198) _ h) dJ4_unlink_81 gset_eq rfl ?_
  refine J_iconst (v := nI (1)) cx dJ4_unlink_84 (by decide) ?_
  refine J_iadd cx dJ4_unlink_85 ?_
  refine J_put cx in_J4 tyJ4 tyJ4_ok nmJ4 (ci := 29) rfl 0 (by decide) q202 (fun _ h => u_same (cx.ts _ q198) _ h) rfl (ty := .int) (by decide +kernel) dJ4_unlink_86 rfl rfl gset_eq (Nat.le_of_ble_eq_true rfl) (by omega) ?_
  refine J_mem (gset (gset G x9 (.inr (33, [.null, .null, .null]))) a (.inr (29, [.int (mc9 + (nI (1))), .int (nI (n9 - 1)), .null, .null]))) gset_gset ?_
  refine J_aload_n cx dJ4_unlink_89 rfl ?_
  exact J_aret cx dJ4_unlink_90 hr (Or.inl ⟨_, rfl⟩) (Or.inr ⟨_, rfl⟩) ⟨rfl, rfl, rfl⟩ (Nat.le_of_ble_eq_true rfl) (Nat.le_of_ble_eq_true rfl)
set_option maxHeartbeats 2000000 in
theorem t_J4_unlink_ZR (l : Launch) (Ω : jO) {G : Mem} {sz : Nat} (a : Nat) {mc9 : Int32} {n9 it9 : Nat} {fi9 la9 : Value} (x9 : Nat) {nx9 : Nat} {i29 x29 p29 : Value} (ha : G a = some (.inr (29, [.int mc9, .int (nI (n9)), fi9, la9]))) (hx : G x9 = some (.inr (33, [.ref it9, .ref nx9, .null]))) (hnx : G nx9 = some (.inr (33, [i29, x29, p29]))) (hb : Ω.2.2.2 ≤ a) (hbx : Ω.2.2.2 ≤ x9) (hn1 : 1 ≤ n9) (hbn : Ω.2.2.2 ≤ nx9) (hxn : x9 ≠ nx9) : Met l yJ4_unlink (ws_ yJ4_unlink cJ4_unlink 5 (some (.object "java/lang/Object"))) ({ frames := 1, cells := 0, slots := 0, locals := 12 } : Room) (va_Pc [.ref a, .ref x9] (jWd Ω G sz)) (jQ Ω (jD (some (.ref it9)) (gset (gset (gset G nx9 (.inr (33, [i29, x29, .null]))) x9 (.inr (33, [.null, .null, .null]))) a (.inr (29, [.int (mc9 + (nI (1))), .int (nI (n9 - 1)), .ref nx9, la9]))) (sz))) 0 0 (jB Ω) := by
  refine jMet (by decide) (Nat.le_of_ble_eq_true rfl) ?_
  intro p e s m args below meth c cx hr hnm
  refine J_loc [some (.ref a), some (.ref x9), none, none, none] rfl ?_
  refine J_bs cx (fun hbs9 => ?_)
  refine J_lt ha (fun hlt0 => ?_)
  refine J_lt hx (fun hlt1 => ?_)
  refine J_lt hnx (fun hlt2 => ?_)
  have hne0 : a ≠ x9 := fun e => by have h1 := ha; rw [e, hx] at h1; simp at h1
  have hne1 : a ≠ nx9 := fun e => by have h1 := ha; rw [e, hnx] at h1; simp at h1
  refine J_aload_n cx dJ4_unlink_0 rfl ?_
  refine J_get cx in_J27 (ci := 33) rfl 0 (by decide) q1245 (fun _ h => h) dJ4_unlink_1 hx rfl ?_
  refine J_astore_n2 cx dJ4_unlink_4 (by decide) rfl ?_
  refine J_aload_n cx dJ4_unlink_5 rfl ?_
  refine J_get cx in_J27 (ci := 33) rfl 1 (by decide) q1248 (fun _ h => h) dJ4_unlink_6 hx rfl ?_
  refine J_astore_n3 cx dJ4_unlink_9 (by decide) rfl ?_
  refine J_aload_n cx dJ4_unlink_10 rfl ?_
  refine J_get cx in_J27 (ci := 33) rfl 2 (by decide) q1250 (fun _ h => h) dJ4_unlink_11 hx rfl ?_
  refine J_astoreN4 cx dJ4_unlink_14 (by decide) rfl ?_
  refine J_aloadN cx dJ4_unlink_16 rfl ?_
  refine J_ifnonnullN cx dJ4_unlink_18 ?_
  refine J_aload_n cx dJ4_unlink_21 rfl ?_
  refine J_aload_n cx dJ4_unlink_22 rfl ?_
  refine J_put cx in_J4 tyJ4 tyJ4_ok nmJ4 (ci := 29) rfl 2 (by decide) q223 (fun _ h => h) rfl (ty := (.object "java/util/LinkedList$Node")) (by decide +kernel) dJ4_unlink_23 rfl rfl ha (Nat.le_of_ble_eq_true rfl) (by omega) ?_
  refine J_mem (gset G a (.inr (29, [.int mc9, .int (nI (n9)), .ref nx9, la9]))) rfl ?_
  refine J_goto (tgt := 40) cx dJ4_unlink_26 (by decide) ?_
  refine J_aload_n cx dJ4_unlink_40 rfl ?_
  refine J_ifnonnull (tgt := 53) cx dJ4_unlink_41 (by decide) ?_
  refine J_aload_n cx dJ4_unlink_53 rfl ?_
  refine J_aloadN cx dJ4_unlink_54 rfl ?_
  refine J_put cx in_J27 tyJ27 tyJ27_ok nmJ27 (ci := 33) rfl 2 (by decide) q1250 (fun _ h => h) rfl (ty := (.object "java/util/LinkedList$Node")) (by decide +kernel) dJ4_unlink_56 rfl rfl ((gset_ne (by omega)).trans hnx) (Nat.le_of_ble_eq_true rfl) (by omega) ?_
  refine J_mem (gset (gset G a (.inr (29, [.int mc9, .int (nI (n9)), .ref nx9, la9]))) nx9 (.inr (33, [i29, x29, .null]))) rfl ?_
  refine J_aload_n cx dJ4_unlink_59 rfl ?_
  refine J_null cx dJ4_unlink_60 ?_
  refine J_put cx in_J27 tyJ27 tyJ27_ok nmJ27 (ci := 33) rfl 1 (by decide) q1248 (fun _ h => h) rfl (ty := (.object "java/util/LinkedList$Node")) (by decide +kernel) dJ4_unlink_61 rfl rfl ((gset_ne (by omega)).trans ((gset_ne (by omega)).trans hx)) (Nat.le_of_ble_eq_true rfl) (by omega) ?_
  refine J_mem (gset (gset (gset G a (.inr (29, [.int mc9, .int (nI (n9)), .ref nx9, la9]))) nx9 (.inr (33, [i29, x29, .null]))) x9 (.inr (33, [.ref it9, .null, .null]))) rfl ?_
  refine J_aload_n cx dJ4_unlink_64 rfl ?_
  refine J_null cx dJ4_unlink_65 ?_
  refine J_put cx in_J27 tyJ27 tyJ27_ok nmJ27 (ci := 33) rfl 0 (by decide) q1245 (fun _ h => h) rfl (ty := (.object "java/lang/Object")) (by decide +kernel) dJ4_unlink_66 rfl rfl gset_eq (Nat.le_of_ble_eq_true rfl) (by omega) ?_
  refine J_mem (gset (gset (gset G a (.inr (29, [.int mc9, .int (nI (n9)), .ref nx9, la9]))) nx9 (.inr (33, [i29, x29, .null]))) x9 (.inr (33, [.null, .null, .null]))) gset_gset ?_
  refine J_aload_n cx dJ4_unlink_69 rfl ?_
  refine J_dup cx dJ4_unlink_70 rfl ?_
  refine J_get cx in_J4 (ci := 29) rfl 1 (by decide) q221 (fun _ h => h) dJ4_unlink_71 ((gset_ne (by omega)).trans ((gset_ne (by omega)).trans gset_eq)) rfl ?_
  refine J_iconst (v := nI (1)) cx dJ4_unlink_74 (by decide) ?_
  refine J_isubN cx dJ4_unlink_75 (by omega) ?_
  refine J_put cx in_J4 tyJ4 tyJ4_ok nmJ4 (ci := 29) rfl 1 (by decide) q221 (fun _ h => h) rfl (ty := .int) (by decide +kernel) dJ4_unlink_76 rfl rfl ((gset_ne (by omega)).trans ((gset_ne (by omega)).trans gset_eq)) (Nat.le_of_ble_eq_true rfl) (by omega) ?_
  refine J_mem (gset (gset (gset G nx9 (.inr (33, [i29, x29, .null]))) x9 (.inr (33, [.null, .null, .null]))) a (.inr (29, [.int mc9, .int (nI (n9 - 1)), .ref nx9, la9]))) (by funext q9; simp only [gset]; by_cases hq9 : q9 = a <;> simp [hq9]) ?_
  refine J_aload_n cx dJ4_unlink_79 rfl ?_
  refine J_dup cx dJ4_unlink_80 rfl ?_
  refine J_get cx in_J4 (ci := 29) rfl 0 (by decide) q202 (fun _ h => u_same (cx.ts _ q198) _ h) dJ4_unlink_81 gset_eq rfl ?_
  refine J_iconst (v := nI (1)) cx dJ4_unlink_84 (by decide) ?_
  refine J_iadd cx dJ4_unlink_85 ?_
  refine J_put cx in_J4 tyJ4 tyJ4_ok nmJ4 (ci := 29) rfl 0 (by decide) q202 (fun _ h => u_same (cx.ts _ q198) _ h) rfl (ty := .int) (by decide +kernel) dJ4_unlink_86 rfl rfl gset_eq (Nat.le_of_ble_eq_true rfl) (by omega) ?_
  refine J_mem (gset (gset (gset G nx9 (.inr (33, [i29, x29, .null]))) x9 (.inr (33, [.null, .null, .null]))) a (.inr (29, [.int (mc9 + (nI (1))), .int (nI (n9 - 1)), .ref nx9, la9]))) gset_gset ?_
  refine J_aload_n cx dJ4_unlink_89 rfl ?_
  exact J_aret cx dJ4_unlink_90 hr (Or.inl ⟨_, rfl⟩) (Or.inr ⟨_, rfl⟩) ⟨rfl, rfl, rfl⟩ (Nat.le_of_ble_eq_true rfl) (Nat.le_of_ble_eq_true rfl)
set_option maxHeartbeats 2000000 in
theorem t_J4_unlink_RZ (l : Launch) (Ω : jO) {G : Mem} {sz : Nat} (a : Nat) {mc9 : Int32} {n9 it9 : Nat} {fi9 la9 : Value} (x9 : Nat) {pv9 : Nat} {i39 x39 p39 : Value} (ha : G a = some (.inr (29, [.int mc9, .int (nI (n9)), fi9, la9]))) (hx : G x9 = some (.inr (33, [.ref it9, .null, .ref pv9]))) (hpv : G pv9 = some (.inr (33, [i39, x39, p39]))) (hb : Ω.2.2.2 ≤ a) (hbx : Ω.2.2.2 ≤ x9) (hn1 : 1 ≤ n9) (hbp : Ω.2.2.2 ≤ pv9) (hxp : x9 ≠ pv9) : Met l yJ4_unlink (ws_ yJ4_unlink cJ4_unlink 5 (some (.object "java/lang/Object"))) ({ frames := 1, cells := 0, slots := 0, locals := 12 } : Room) (va_Pc [.ref a, .ref x9] (jWd Ω G sz)) (jQ Ω (jD (some (.ref it9)) (gset (gset (gset G pv9 (.inr (33, [i39, .null, p39]))) x9 (.inr (33, [.null, .null, .null]))) a (.inr (29, [.int (mc9 + (nI (1))), .int (nI (n9 - 1)), fi9, .ref pv9]))) (sz))) 0 0 (jB Ω) := by
  refine jMet (by decide) (Nat.le_of_ble_eq_true rfl) ?_
  intro p e s m args below meth c cx hr hnm
  refine J_loc [some (.ref a), some (.ref x9), none, none, none] rfl ?_
  refine J_bs cx (fun hbs9 => ?_)
  refine J_lt ha (fun hlt0 => ?_)
  refine J_lt hx (fun hlt1 => ?_)
  refine J_lt hpv (fun hlt2 => ?_)
  have hne0 : a ≠ x9 := fun e => by have h1 := ha; rw [e, hx] at h1; simp at h1
  have hne1 : a ≠ pv9 := fun e => by have h1 := ha; rw [e, hpv] at h1; simp at h1
  refine J_aload_n cx dJ4_unlink_0 rfl ?_
  refine J_get cx in_J27 (ci := 33) rfl 0 (by decide) q1245 (fun _ h => h) dJ4_unlink_1 hx rfl ?_
  refine J_astore_n2 cx dJ4_unlink_4 (by decide) rfl ?_
  refine J_aload_n cx dJ4_unlink_5 rfl ?_
  refine J_get cx in_J27 (ci := 33) rfl 1 (by decide) q1248 (fun _ h => h) dJ4_unlink_6 hx rfl ?_
  refine J_astore_nN3 cx dJ4_unlink_9 (by decide) rfl ?_
  refine J_aload_n cx dJ4_unlink_10 rfl ?_
  refine J_get cx in_J27 (ci := 33) rfl 2 (by decide) q1250 (fun _ h => h) dJ4_unlink_11 hx rfl ?_
  refine J_astore4 cx dJ4_unlink_14 (by decide) rfl ?_
  refine J_aload cx dJ4_unlink_16 rfl ?_
  refine J_ifnonnull (tgt := 29) cx dJ4_unlink_18 (by decide) ?_
  refine J_aload cx dJ4_unlink_29 rfl ?_
  refine J_aload_nN cx dJ4_unlink_31 rfl ?_
  refine J_put cx in_J27 tyJ27 tyJ27_ok nmJ27 (ci := 33) rfl 1 (by decide) q1248 (fun _ h => h) rfl (ty := (.object "java/util/LinkedList$Node")) (by decide +kernel) dJ4_unlink_32 rfl rfl hpv (Nat.le_of_ble_eq_true rfl) (by omega) ?_
  refine J_mem (gset G pv9 (.inr (33, [i39, .null, p39]))) rfl ?_
  refine J_aload_n cx dJ4_unlink_35 rfl ?_
  refine J_null cx dJ4_unlink_36 ?_
  refine J_put cx in_J27 tyJ27 tyJ27_ok nmJ27 (ci := 33) rfl 2 (by decide) q1250 (fun _ h => h) rfl (ty := (.object "java/util/LinkedList$Node")) (by decide +kernel) dJ4_unlink_37 rfl rfl ((gset_ne (by omega)).trans hx) (Nat.le_of_ble_eq_true rfl) (by omega) ?_
  refine J_mem (gset (gset G pv9 (.inr (33, [i39, .null, p39]))) x9 (.inr (33, [.ref it9, .null, .null]))) rfl ?_
  refine J_aload_nN cx dJ4_unlink_40 rfl ?_
  refine J_ifnonnullN cx dJ4_unlink_41 ?_
  refine J_aload_n cx dJ4_unlink_44 rfl ?_
  refine J_aload cx dJ4_unlink_45 rfl ?_
  refine J_put cx in_J4 tyJ4 tyJ4_ok nmJ4 (ci := 29) rfl 3 (by decide) q224 (fun _ h => h) rfl (ty := (.object "java/util/LinkedList$Node")) (by decide +kernel) dJ4_unlink_47 rfl rfl ((gset_ne (by omega)).trans ((gset_ne (by omega)).trans ha)) (Nat.le_of_ble_eq_true rfl) (by omega) ?_
  refine J_mem (gset (gset (gset G pv9 (.inr (33, [i39, .null, p39]))) x9 (.inr (33, [.ref it9, .null, .null]))) a (.inr (29, [.int mc9, .int (nI (n9)), fi9, .ref pv9]))) rfl ?_
  refine J_goto (tgt := 64) cx dJ4_unlink_50 (by decide) ?_
  refine J_aload_n cx dJ4_unlink_64 rfl ?_
  refine J_null cx dJ4_unlink_65 ?_
  refine J_put cx in_J27 tyJ27 tyJ27_ok nmJ27 (ci := 33) rfl 0 (by decide) q1245 (fun _ h => h) rfl (ty := (.object "java/lang/Object")) (by decide +kernel) dJ4_unlink_66 rfl rfl ((gset_ne (by omega)).trans gset_eq) (Nat.le_of_ble_eq_true rfl) (by omega) ?_
  refine J_mem (gset (gset (gset G pv9 (.inr (33, [i39, .null, p39]))) a (.inr (29, [.int mc9, .int (nI (n9)), fi9, .ref pv9]))) x9 (.inr (33, [.null, .null, .null]))) (by funext q9; simp only [gset]; by_cases hq9 : q9 = x9 <;> simp [hq9]) ?_
  refine J_aload_n cx dJ4_unlink_69 rfl ?_
  refine J_dup cx dJ4_unlink_70 rfl ?_
  refine J_get cx in_J4 (ci := 29) rfl 1 (by decide) q221 (fun _ h => h) dJ4_unlink_71 ((gset_ne (by omega)).trans gset_eq) rfl ?_
  refine J_iconst (v := nI (1)) cx dJ4_unlink_74 (by decide) ?_
  refine J_isubN cx dJ4_unlink_75 (by omega) ?_
  refine J_put cx in_J4 tyJ4 tyJ4_ok nmJ4 (ci := 29) rfl 1 (by decide) q221 (fun _ h => h) rfl (ty := .int) (by decide +kernel) dJ4_unlink_76 rfl rfl ((gset_ne (by omega)).trans gset_eq) (Nat.le_of_ble_eq_true rfl) (by omega) ?_
  refine J_mem (gset (gset (gset G pv9 (.inr (33, [i39, .null, p39]))) x9 (.inr (33, [.null, .null, .null]))) a (.inr (29, [.int mc9, .int (nI (n9 - 1)), fi9, .ref pv9]))) (by funext q9; simp only [gset]; by_cases hq9 : q9 = a <;> simp [hq9]) ?_
  refine J_aload_n cx dJ4_unlink_79 rfl ?_
  refine J_dup cx dJ4_unlink_80 rfl ?_
  refine J_get cx in_J4 (ci := 29) rfl 0 (by decide) q202 (fun _ h => u_same (cx.ts _ q198) _ h) dJ4_unlink_81 gset_eq rfl ?_
  refine J_iconst (v := nI (1)) cx dJ4_unlink_84 (by decide) ?_
  refine J_iadd cx dJ4_unlink_85 ?_
  refine J_put cx in_J4 tyJ4 tyJ4_ok nmJ4 (ci := 29) rfl 0 (by decide) q202 (fun _ h => u_same (cx.ts _ q198) _ h) rfl (ty := .int) (by decide +kernel) dJ4_unlink_86 rfl rfl gset_eq (Nat.le_of_ble_eq_true rfl) (by omega) ?_
  refine J_mem (gset (gset (gset G pv9 (.inr (33, [i39, .null, p39]))) x9 (.inr (33, [.null, .null, .null]))) a (.inr (29, [.int (mc9 + (nI (1))), .int (nI (n9 - 1)), fi9, .ref pv9]))) gset_gset ?_
  refine J_aload_n cx dJ4_unlink_89 rfl ?_
  exact J_aret cx dJ4_unlink_90 hr (Or.inl ⟨_, rfl⟩) (Or.inr ⟨_, rfl⟩) ⟨rfl, rfl, rfl⟩ (Nat.le_of_ble_eq_true rfl) (Nat.le_of_ble_eq_true rfl)
set_option maxHeartbeats 2000000 in
theorem t_J4_unlink_RR (l : Launch) (Ω : jO) {G : Mem} {sz : Nat} (a : Nat) {mc9 : Int32} {n9 it9 : Nat} {fi9 la9 : Value} (x9 : Nat) {nx9 : Nat} {i29 x29 p29 : Value} {pv9 : Nat} {i39 x39 p39 : Value} (ha : G a = some (.inr (29, [.int mc9, .int (nI (n9)), fi9, la9]))) (hx : G x9 = some (.inr (33, [.ref it9, .ref nx9, .ref pv9]))) (hnx : G nx9 = some (.inr (33, [i29, x29, p29]))) (hpv : G pv9 = some (.inr (33, [i39, x39, p39]))) (hb : Ω.2.2.2 ≤ a) (hbx : Ω.2.2.2 ≤ x9) (hn1 : 1 ≤ n9) (hbn : Ω.2.2.2 ≤ nx9) (hxn : x9 ≠ nx9) (hbp : Ω.2.2.2 ≤ pv9) (hxp : x9 ≠ pv9) (hpn : pv9 ≠ nx9) : Met l yJ4_unlink (ws_ yJ4_unlink cJ4_unlink 5 (some (.object "java/lang/Object"))) ({ frames := 1, cells := 0, slots := 0, locals := 12 } : Room) (va_Pc [.ref a, .ref x9] (jWd Ω G sz)) (jQ Ω (jD (some (.ref it9)) (gset (gset (gset (gset G pv9 (.inr (33, [i39, .ref nx9, p39]))) nx9 (.inr (33, [i29, x29, .ref pv9]))) x9 (.inr (33, [.null, .null, .null]))) a (.inr (29, [.int (mc9 + (nI (1))), .int (nI (n9 - 1)), fi9, la9]))) (sz))) 0 0 (jB Ω) := by
  refine jMet (by decide) (Nat.le_of_ble_eq_true rfl) ?_
  intro p e s m args below meth c cx hr hnm
  refine J_loc [some (.ref a), some (.ref x9), none, none, none] rfl ?_
  refine J_bs cx (fun hbs9 => ?_)
  refine J_lt ha (fun hlt0 => ?_)
  refine J_lt hx (fun hlt1 => ?_)
  refine J_lt hnx (fun hlt2 => ?_)
  refine J_lt hpv (fun hlt3 => ?_)
  have hne0 : a ≠ x9 := fun e => by have h1 := ha; rw [e, hx] at h1; simp at h1
  have hne1 : a ≠ nx9 := fun e => by have h1 := ha; rw [e, hnx] at h1; simp at h1
  have hne2 : a ≠ pv9 := fun e => by have h1 := ha; rw [e, hpv] at h1; simp at h1
  refine J_aload_n cx dJ4_unlink_0 rfl ?_
  refine J_get cx in_J27 (ci := 33) rfl 0 (by decide) q1245 (fun _ h => h) dJ4_unlink_1 hx rfl ?_
  refine J_astore_n2 cx dJ4_unlink_4 (by decide) rfl ?_
  refine J_aload_n cx dJ4_unlink_5 rfl ?_
  refine J_get cx in_J27 (ci := 33) rfl 1 (by decide) q1248 (fun _ h => h) dJ4_unlink_6 hx rfl ?_
  refine J_astore_n3 cx dJ4_unlink_9 (by decide) rfl ?_
  refine J_aload_n cx dJ4_unlink_10 rfl ?_
  refine J_get cx in_J27 (ci := 33) rfl 2 (by decide) q1250 (fun _ h => h) dJ4_unlink_11 hx rfl ?_
  refine J_astore4 cx dJ4_unlink_14 (by decide) rfl ?_
  refine J_aload cx dJ4_unlink_16 rfl ?_
  refine J_ifnonnull (tgt := 29) cx dJ4_unlink_18 (by decide) ?_
  refine J_aload cx dJ4_unlink_29 rfl ?_
  refine J_aload_n cx dJ4_unlink_31 rfl ?_
  refine J_put cx in_J27 tyJ27 tyJ27_ok nmJ27 (ci := 33) rfl 1 (by decide) q1248 (fun _ h => h) rfl (ty := (.object "java/util/LinkedList$Node")) (by decide +kernel) dJ4_unlink_32 rfl rfl hpv (Nat.le_of_ble_eq_true rfl) (by omega) ?_
  refine J_mem (gset G pv9 (.inr (33, [i39, .ref nx9, p39]))) rfl ?_
  refine J_aload_n cx dJ4_unlink_35 rfl ?_
  refine J_null cx dJ4_unlink_36 ?_
  refine J_put cx in_J27 tyJ27 tyJ27_ok nmJ27 (ci := 33) rfl 2 (by decide) q1250 (fun _ h => h) rfl (ty := (.object "java/util/LinkedList$Node")) (by decide +kernel) dJ4_unlink_37 rfl rfl ((gset_ne (by omega)).trans hx) (Nat.le_of_ble_eq_true rfl) (by omega) ?_
  refine J_mem (gset (gset G pv9 (.inr (33, [i39, .ref nx9, p39]))) x9 (.inr (33, [.ref it9, .ref nx9, .null]))) rfl ?_
  refine J_aload_n cx dJ4_unlink_40 rfl ?_
  refine J_ifnonnull (tgt := 53) cx dJ4_unlink_41 (by decide) ?_
  refine J_aload_n cx dJ4_unlink_53 rfl ?_
  refine J_aload cx dJ4_unlink_54 rfl ?_
  refine J_put cx in_J27 tyJ27 tyJ27_ok nmJ27 (ci := 33) rfl 2 (by decide) q1250 (fun _ h => h) rfl (ty := (.object "java/util/LinkedList$Node")) (by decide +kernel) dJ4_unlink_56 rfl rfl ((gset_ne (by omega)).trans ((gset_ne (by omega)).trans hnx)) (Nat.le_of_ble_eq_true rfl) (by omega) ?_
  refine J_mem (gset (gset (gset G pv9 (.inr (33, [i39, .ref nx9, p39]))) x9 (.inr (33, [.ref it9, .ref nx9, .null]))) nx9 (.inr (33, [i29, x29, .ref pv9]))) rfl ?_
  refine J_aload_n cx dJ4_unlink_59 rfl ?_
  refine J_null cx dJ4_unlink_60 ?_
  refine J_put cx in_J27 tyJ27 tyJ27_ok nmJ27 (ci := 33) rfl 1 (by decide) q1248 (fun _ h => h) rfl (ty := (.object "java/util/LinkedList$Node")) (by decide +kernel) dJ4_unlink_61 rfl rfl ((gset_ne (by omega)).trans gset_eq) (Nat.le_of_ble_eq_true rfl) (by omega) ?_
  refine J_mem (gset (gset (gset G pv9 (.inr (33, [i39, .ref nx9, p39]))) nx9 (.inr (33, [i29, x29, .ref pv9]))) x9 (.inr (33, [.ref it9, .null, .null]))) (by funext q9; simp only [gset]; by_cases hq9 : q9 = x9 <;> simp [hq9]) ?_
  refine J_aload_n cx dJ4_unlink_64 rfl ?_
  refine J_null cx dJ4_unlink_65 ?_
  refine J_put cx in_J27 tyJ27 tyJ27_ok nmJ27 (ci := 33) rfl 0 (by decide) q1245 (fun _ h => h) rfl (ty := (.object "java/lang/Object")) (by decide +kernel) dJ4_unlink_66 rfl rfl gset_eq (Nat.le_of_ble_eq_true rfl) (by omega) ?_
  refine J_mem (gset (gset (gset G pv9 (.inr (33, [i39, .ref nx9, p39]))) nx9 (.inr (33, [i29, x29, .ref pv9]))) x9 (.inr (33, [.null, .null, .null]))) gset_gset ?_
  refine J_aload_n cx dJ4_unlink_69 rfl ?_
  refine J_dup cx dJ4_unlink_70 rfl ?_
  refine J_get cx in_J4 (ci := 29) rfl 1 (by decide) q221 (fun _ h => h) dJ4_unlink_71 ((gset_ne (by omega)).trans ((gset_ne (by omega)).trans ((gset_ne (by omega)).trans ha))) rfl ?_
  refine J_iconst (v := nI (1)) cx dJ4_unlink_74 (by decide) ?_
  refine J_isubN cx dJ4_unlink_75 (by omega) ?_
  refine J_put cx in_J4 tyJ4 tyJ4_ok nmJ4 (ci := 29) rfl 1 (by decide) q221 (fun _ h => h) rfl (ty := .int) (by decide +kernel) dJ4_unlink_76 rfl rfl ((gset_ne (by omega)).trans ((gset_ne (by omega)).trans ((gset_ne (by omega)).trans ha))) (Nat.le_of_ble_eq_true rfl) (by omega) ?_
  refine J_mem (gset (gset (gset (gset G pv9 (.inr (33, [i39, .ref nx9, p39]))) nx9 (.inr (33, [i29, x29, .ref pv9]))) x9 (.inr (33, [.null, .null, .null]))) a (.inr (29, [.int mc9, .int (nI (n9 - 1)), fi9, la9]))) rfl ?_
  refine J_aload_n cx dJ4_unlink_79 rfl ?_
  refine J_dup cx dJ4_unlink_80 rfl ?_
  refine J_get cx in_J4 (ci := 29) rfl 0 (by decide) q202 (fun _ h => u_same (cx.ts _ q198) _ h) dJ4_unlink_81 gset_eq rfl ?_
  refine J_iconst (v := nI (1)) cx dJ4_unlink_84 (by decide) ?_
  refine J_iadd cx dJ4_unlink_85 ?_
  refine J_put cx in_J4 tyJ4 tyJ4_ok nmJ4 (ci := 29) rfl 0 (by decide) q202 (fun _ h => u_same (cx.ts _ q198) _ h) rfl (ty := .int) (by decide +kernel) dJ4_unlink_86 rfl rfl gset_eq (Nat.le_of_ble_eq_true rfl) (by omega) ?_
  refine J_mem (gset (gset (gset (gset G pv9 (.inr (33, [i39, .ref nx9, p39]))) nx9 (.inr (33, [i29, x29, .ref pv9]))) x9 (.inr (33, [.null, .null, .null]))) a (.inr (29, [.int (mc9 + (nI (1))), .int (nI (n9 - 1)), fi9, la9]))) gset_gset ?_
  refine J_aload_n cx dJ4_unlink_89 rfl ?_
  exact J_aret cx dJ4_unlink_90 hr (Or.inl ⟨_, rfl⟩) (Or.inr ⟨_, rfl⟩) ⟨rfl, rfl, rfl⟩ (Nat.le_of_ble_eq_true rfl) (Nat.le_of_ble_eq_true rfl)
