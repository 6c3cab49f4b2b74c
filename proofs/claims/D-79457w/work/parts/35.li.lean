/-! JDK 4 (gen/mk_li.py): LinkedList.isEmpty, iterator(), ListItr -/
set_option maxRecDepth 100000
theorem t_J4_sizeV (l : Launch) (Ω : jO) {G : Mem} {sz : Nat} (a : Nat) {mc9 : Int32} {n9 : Nat} {fi9 la9 : Value} (ha : G a = some (.inr (29, [.int mc9, .int (nI (n9)), fi9, la9]))) : Met l yJ4_size (ws_ yJ4_size cJ4_size 1 (some .int)) ({ frames := 1, cells := 0, slots := 0, locals := 12 } : Room) (va_Pc [.ref a] (jWd Ω G sz)) (jQ Ω (jD (some (.int (nI n9))) G sz)) 0 0 (jB Ω) := by
  refine jMet (by decide) (Nat.le_of_ble_eq_true rfl) ?_
  intro p e s m args below meth c cx hr hnm
  refine J_loc [some (.ref a)] rfl ?_
  refine J_aload_n cx dJ4_size_0 rfl ?_
  refine J_get cx in_J4 (ci := 29) rfl 1 (by decide) q221 (fun _ h => h) dJ4_size_1 ha rfl ?_
  exact J_iret cx dJ4_size_4 hr ⟨rfl, rfl, rfl⟩ (Nat.le_of_ble_eq_true rfl) (Nat.le_of_ble_eq_true rfl)
def r_isEmpty (n9 : Nat) : Int32 := (if (nI (n9)) = 0 then (nI (1)) else (nI (0)))
theorem t_J0_isEmpty_ll (l : Launch) (Ω : jO) {G : Mem} {sz : Nat} (a : Nat) {mc9 : Int32} {n9 : Nat} {fi9 la9 : Value} (ha : G a = some (.inr (29, [.int mc9, .int (nI (n9)), fi9, la9]))) : Met l yJ0_isEmpty (ws_ yJ0_isEmpty cJ0_isEmpty 1 (some .boolean)) ({ frames := 2, cells := 0, slots := 0, locals := 32 } : Room) (va_Pc [.ref a] (jWd Ω G sz)) (jQ Ω (jD (some (.int (r_isEmpty n9))) G sz)) 0 0 (jB Ω) := by
  refine jMet (by decide) (Nat.le_of_ble_eq_true rfl) ?_
  intro p e s m args below meth c cx hr hnm
  refine J_loc [some (.ref a)] rfl ?_
  refine J_aload_n cx dJ0_isEmpty_0 rfl ?_
  refine J_callA (n := 0) (owner := "java/util/AbstractCollection") cx (ci := 29) [] (t_J4_sizeV l Ω a ha) dJ0_isEmpty_1 q748 q744 q1352 q3018 q3023 q747 q90 ⟨by decide, by decide, by decide +kernel⟩ rfl ha rfl rfl ⟨Nat.le_of_ble_eq_true rfl, Nat.le_of_ble_eq_true rfl⟩ rfl rfl (Nat.le_of_ble_eq_true rfl) ⟨Nat.le_of_ble_eq_true rfl, Nat.le_of_ble_eq_true rfl⟩ (jdet ?_)
  refine J_if_ne (tgt := 11) cx dJ0_isEmpty_4 (by decide) (fun c4 => ?_) (fun c4 => ?_)
  · refine J_iconst (v := nI (0)) cx dJ0_isEmpty_11 (by decide) ?_
    exact J_zret cx dJ0_isEmpty_12 hr rfl ⟨by simp only [r_isEmpty, if_neg c4], rfl, rfl⟩ (Nat.le_of_ble_eq_true rfl) (Nat.le_of_ble_eq_true rfl)
  · refine J_iconst (v := nI (1)) cx dJ0_isEmpty_7 (by decide) ?_
    refine J_goto (tgt := 12) cx dJ0_isEmpty_8 (by decide) ?_
    exact J_zret cx dJ0_isEmpty_12 hr rfl ⟨by simp only [r_isEmpty, if_pos c4], rfl, rfl⟩ (Nat.le_of_ble_eq_true rfl) (Nat.le_of_ble_eq_true rfl)
theorem t_J14_checkForComodification (l : Launch) (Ω : jO) {G : Mem} {sz : Nat} (a : Nat) {mc9 : Int32} {n9 : Nat} {fi9 la9 : Value} (ha : G a = some (.inr (29, [.int mc9, .int (nI (n9)), fi9, la9]))) (i9 : Nat) {lr9 nx9 : Value} {ni9 : Nat} (hi : G i9 = some (.inr (32, [lr9, nx9, .int (nI (ni9)), .int mc9, .ref a]))) : Met l yJ14_checkForComodification (ws_ yJ14_checkForComodification cJ14_checkForComodification 1 none) ({ frames := 1, cells := 0, slots := 0, locals := 12 } : Room) (va_Pc [.ref i9] (jWd Ω G sz)) (jQ Ω (jD none G sz)) 0 0 (jB Ω) := by
  refine jMet (by decide) (Nat.le_of_ble_eq_true rfl) ?_
  intro p e s m args below meth c cx hr hnm
  refine J_loc [some (.ref i9)] rfl ?_
  refine J_aload_n cx dJ14_checkForComodification_0 rfl ?_
  refine J_get cx in_J14 (ci := 32) rfl 4 (by decide) q719 (fun _ h => h) dJ14_checkForComodification_1 hi rfl ?_
  refine J_get cx in_J4 (ci := 29) rfl 0 (by decide) q197 (fun _ h => u_same (cx.ts _ q198) _ h) dJ14_checkForComodification_4 ha rfl ?_
  refine J_aload_n cx dJ14_checkForComodification_7 rfl ?_
  refine J_get cx in_J14 (ci := 32) rfl 3 (by decide) q718 (fun _ h => h) dJ14_checkForComodification_8 hi rfl ?_
  refine J_icmp_eq (tgt := 22) cx dJ14_checkForComodification_11 (by decide) (fun c11 => ?_) (fun c11 => absurd c11 ((fun q => q rfl)))
  exact J_vret cx dJ14_checkForComodification_22 hr ⟨rfl, rfl, rfl⟩ (Nat.le_of_ble_eq_true rfl) (Nat.le_of_ble_eq_true rfl)
def r_hasNext (ni9 n9 : Nat) : Int32 := (if ni9 < n9 then (nI (1)) else (nI (0)))
theorem t_J14_hasNext (l : Launch) (Ω : jO) {G : Mem} {sz : Nat} (a : Nat) {mc9 : Int32} {n9 : Nat} {fi9 la9 : Value} (ha : G a = some (.inr (29, [.int mc9, .int (nI (n9)), fi9, la9]))) (i9 : Nat) {lr9 nx9 : Value} {ni9 : Nat} (hi : G i9 = some (.inr (32, [lr9, nx9, .int (nI (ni9)), .int mc9, .ref a]))) (hni : ni9 < 100000) (hn : n9 < 100000) : Met l yJ14_hasNext (ws_ yJ14_hasNext cJ14_hasNext 1 (some .boolean)) ({ frames := 1, cells := 0, slots := 0, locals := 12 } : Room) (va_Pc [.ref i9] (jWd Ω G sz)) (jQ Ω (jD (some (.int (r_hasNext ni9 n9))) G sz)) 0 0 (jB Ω) := by
  refine jMet (by decide) (Nat.le_of_ble_eq_true rfl) ?_
  intro p e s m args below meth c cx hr hnm
  refine J_loc [some (.ref i9)] rfl ?_
  refine J_aload_n cx dJ14_hasNext_0 rfl ?_
  refine J_get cx in_J14 (ci := 32) rfl 2 (by decide) q717 (fun _ h => h) dJ14_hasNext_1 hi rfl ?_
  refine J_aload_n cx dJ14_hasNext_4 rfl ?_
  refine J_get cx in_J14 (ci := 32) rfl 4 (by decide) q719 (fun _ h => h) dJ14_hasNext_5 hi rfl ?_
  refine J_get cx in_J4 (ci := 29) rfl 1 (by decide) q222 (fun _ h => h) dJ14_hasNext_8 ha rfl ?_
  refine J_icmpN_ge (tgt := 18) cx dJ14_hasNext_11 (by decide) (by omega) (by omega) (fun c11 => ?_) (fun c11 => ?_)
  · refine J_iconst (v := nI (0)) cx dJ14_hasNext_18 (by decide) ?_
    exact J_zret cx dJ14_hasNext_19 hr rfl ⟨by simp only [r_hasNext, if_neg (Nat.not_lt.mpr c11)], rfl, rfl⟩ (Nat.le_of_ble_eq_true rfl) (Nat.le_of_ble_eq_true rfl)
  · refine J_iconst (v := nI (1)) cx dJ14_hasNext_14 (by decide) ?_
    refine J_goto (tgt := 19) cx dJ14_hasNext_15 (by decide) ?_
    exact J_zret cx dJ14_hasNext_19 hr rfl ⟨by simp only [r_hasNext, if_pos c11], rfl, rfl⟩ (Nat.le_of_ble_eq_true rfl) (Nat.le_of_ble_eq_true rfl)
set_option maxHeartbeats 1000000 in
theorem t_J14_next_Z (l : Launch) (Ω : jO) {G : Mem} {sz : Nat} (a : Nat) {mc9 : Int32} {n9 : Nat} {fi9 la9 : Value} (ha : G a = some (.inr (29, [.int mc9, .int (nI (n9)), fi9, la9]))) (i9 : Nat) {lr9 pv9 : Value} {ni9 x9 it9 : Nat} (hi : G i9 = some (.inr (32, [lr9, .ref x9, .int (nI (ni9)), .int mc9, .ref a]))) (hx : G x9 = some (.inr (33, [.ref it9, .null, pv9]))) (hb : Ω.2.2.2 ≤ i9) (hlt : ni9 < n9) (hn : n9 < 100000) : Met l yJ14_next (ws_ yJ14_next cJ14_next 1 (some (.object "java/lang/Object"))) ({ frames := 2, cells := 0, slots := 0, locals := 32 } : Room) (va_Pc [.ref i9] (jWd Ω G sz)) (jQ Ω (jD (some (.ref it9)) (gset G i9 (.inr (32, [.ref x9, .null, .int (nI (ni9 + 1)), .int mc9, .ref a]))) (sz))) 0 0 (jB Ω) := by
  refine jMet (by decide) (Nat.le_of_ble_eq_true rfl) ?_
  intro p e s m args below meth c cx hr hnm
  refine J_loc [some (.ref i9)] rfl ?_
  refine J_bs cx (fun hbs9 => ?_)
  refine J_lt ha (fun hlt0 => ?_)
  refine J_lt hi (fun hlt1 => ?_)
  refine J_lt hx (fun hlt2 => ?_)
  have hne0 : a ≠ i9 := fun e => by have h1 := ha; rw [e, hi] at h1; simp at h1
  have hne1 : x9 ≠ i9 := fun e => by have h1 := hx; rw [e, hi] at h1; simp at h1
  refine J_aload_n cx dJ14_next_0 rfl ?_
  refine J_callV (n := 0) cx (ci := 32) [] (t_J14_checkForComodification l Ω a ha i9 hi) dJ14_next_1 (lw_V q1199 q1200 q1201 q110 q1202) ⟨rfl, by decide, by decide, by decide +kernel⟩ rfl hi rfl rfl ⟨Nat.le_of_ble_eq_true rfl, Nat.le_of_ble_eq_true rfl⟩ rfl rfl (Nat.le_of_ble_eq_true rfl) ⟨Nat.le_of_ble_eq_true rfl, Nat.le_of_ble_eq_true rfl⟩ (jdet ?_)
  refine J_aload_n cx dJ14_next_4 rfl ?_
  refine J_callV (n := 0) cx (ci := 32) [] (t_J14_hasNext l Ω a ha i9 hi (by omega) (by omega)) dJ14_next_5 (lw_V q1203 q781 q3017 q110 q783) ⟨rfl, by decide, by decide, by decide +kernel⟩ rfl hi rfl rfl ⟨Nat.le_of_ble_eq_true rfl, Nat.le_of_ble_eq_true rfl⟩ rfl rfl (Nat.le_of_ble_eq_true rfl) ⟨Nat.le_of_ble_eq_true rfl, Nat.le_of_ble_eq_true rfl⟩ (jdet ?_)
  refine J_top (.int (nI (1))) (by simp only [r_hasNext, if_pos hlt]) ?_
  refine J_if_ne (tgt := 19) cx dJ14_next_8 (by decide) (fun c8 => ?_) (fun c8 => absurd c8 (by decide))
  refine J_aload_n cx dJ14_next_19 rfl ?_
  refine J_aload_n cx dJ14_next_20 rfl ?_
  refine J_get cx in_J14 (ci := 32) rfl 1 (by decide) q716 (fun _ h => h) dJ14_next_21 hi rfl ?_
  refine J_put cx in_J14 tyJ14 tyJ14_ok nmJ14 (ci := 32) rfl 0 (by decide) q715 (fun _ h => h) rfl (ty := (.object "java/util/LinkedList$Node")) (by decide +kernel) dJ14_next_24 rfl rfl hi (Nat.le_of_ble_eq_true rfl) (by omega) ?_
  refine J_mem (gset G i9 (.inr (32, [.ref x9, .ref x9, .int (nI (ni9)), .int mc9, .ref a]))) rfl ?_
  refine J_aload_n cx dJ14_next_27 rfl ?_
  refine J_aload_n cx dJ14_next_28 rfl ?_
  refine J_get cx in_J14 (ci := 32) rfl 1 (by decide) q716 (fun _ h => h) dJ14_next_29 gset_eq rfl ?_
  refine J_get cx in_J27 (ci := 33) rfl 1 (by decide) q1247 (fun _ h => h) dJ14_next_32 ((gset_ne (by omega)).trans hx) rfl ?_
  refine J_put cx in_J14 tyJ14 tyJ14_ok nmJ14 (ci := 32) rfl 1 (by decide) q716 (fun _ h => h) rfl (ty := (.object "java/util/LinkedList$Node")) (by decide +kernel) dJ14_next_35 rfl rfl gset_eq (Nat.le_of_ble_eq_true rfl) (by omega) ?_
  refine J_mem (gset G i9 (.inr (32, [.ref x9, .null, .int (nI (ni9)), .int mc9, .ref a]))) gset_gset ?_
  refine J_aload_n cx dJ14_next_38 rfl ?_
  refine J_dup cx dJ14_next_39 rfl ?_
  refine J_get cx in_J14 (ci := 32) rfl 2 (by decide) q717 (fun _ h => h) dJ14_next_40 gset_eq rfl ?_
  refine J_iconst (v := nI (1)) cx dJ14_next_43 (by decide) ?_
  refine J_iaddN cx dJ14_next_44 ?_
  refine J_put cx in_J14 tyJ14 tyJ14_ok nmJ14 (ci := 32) rfl 2 (by decide) q717 (fun _ h => h) rfl (ty := .int) (by decide +kernel) dJ14_next_45 rfl rfl gset_eq (Nat.le_of_ble_eq_true rfl) (by omega) ?_
  refine J_mem (gset G i9 (.inr (32, [.ref x9, .null, .int (nI (ni9 + 1)), .int mc9, .ref a]))) gset_gset ?_
  refine J_aload_n cx dJ14_next_48 rfl ?_
  refine J_get cx in_J14 (ci := 32) rfl 0 (by decide) q715 (fun _ h => h) dJ14_next_49 gset_eq rfl ?_
  refine J_get cx in_J27 (ci := 33) rfl 0 (by decide) q1244 (fun _ h => h) dJ14_next_52 ((gset_ne (by omega)).trans hx) rfl ?_
  exact J_aret cx dJ14_next_55 hr (Or.inl ⟨_, rfl⟩) (Or.inr ⟨_, rfl⟩) ⟨rfl, rfl, rfl⟩ (Nat.le_of_ble_eq_true rfl) (Nat.le_of_ble_eq_true rfl)
set_option maxHeartbeats 1000000 in
theorem t_J14_next_R (l : Launch) (Ω : jO) {G : Mem} {sz : Nat} (a : Nat) {mc9 : Int32} {n9 : Nat} {fi9 la9 : Value} (ha : G a = some (.inr (29, [.int mc9, .int (nI (n9)), fi9, la9]))) (i9 : Nat) {lr9 pv9 : Value} {ni9 x9 it9 y9 : Nat} (hi : G i9 = some (.inr (32, [lr9, .ref x9, .int (nI (ni9)), .int mc9, .ref a]))) (hx : G x9 = some (.inr (33, [.ref it9, .ref y9, pv9]))) (hb : Ω.2.2.2 ≤ i9) (hlt : ni9 < n9) (hn : n9 < 100000) : Met l yJ14_next (ws_ yJ14_next cJ14_next 1 (some (.object "java/lang/Object"))) ({ frames := 2, cells := 0, slots := 0, locals := 32 } : Room) (va_Pc [.ref i9] (jWd Ω G sz)) (jQ Ω (jD (some (.ref it9)) (gset G i9 (.inr (32, [.ref x9, .ref y9, .int (nI (ni9 + 1)), .int mc9, .ref a]))) (sz))) 0 0 (jB Ω) := by
  refine jMet (by decide) (Nat.le_of_ble_eq_true rfl) ?_
  intro p e s m args below meth c cx hr hnm
  refine J_loc [some (.ref i9)] rfl ?_
  refine J_bs cx (fun hbs9 => ?_)
  refine J_lt ha (fun hlt0 => ?_)
  refine J_lt hi (fun hlt1 => ?_)
  refine J_lt hx (fun hlt2 => ?_)
  have hne0 : a ≠ i9 := fun e => by have h1 := ha; rw [e, hi] at h1; simp at h1
  have hne1 : x9 ≠ i9 := fun e => by have h1 := hx; rw [e, hi] at h1; simp at h1
  refine J_aload_n cx dJ14_next_0 rfl ?_
  refine J_callV (n := 0) cx (ci := 32) [] (t_J14_checkForComodification l Ω a ha i9 hi) dJ14_next_1 (lw_V q1199 q1200 q1201 q110 q1202) ⟨rfl, by decide, by decide, by decide +kernel⟩ rfl hi rfl rfl ⟨Nat.le_of_ble_eq_true rfl, Nat.le_of_ble_eq_true rfl⟩ rfl rfl (Nat.le_of_ble_eq_true rfl) ⟨Nat.le_of_ble_eq_true rfl, Nat.le_of_ble_eq_true rfl⟩ (jdet ?_)
  refine J_aload_n cx dJ14_next_4 rfl ?_
  refine J_callV (n := 0) cx (ci := 32) [] (t_J14_hasNext l Ω a ha i9 hi (by omega) (by omega)) dJ14_next_5 (lw_V q1203 q781 q3017 q110 q783) ⟨rfl, by decide, by decide, by decide +kernel⟩ rfl hi rfl rfl ⟨Nat.le_of_ble_eq_true rfl, Nat.le_of_ble_eq_true rfl⟩ rfl rfl (Nat.le_of_ble_eq_true rfl) ⟨Nat.le_of_ble_eq_true rfl, Nat.le_of_ble_eq_true rfl⟩ (jdet ?_)
  refine J_top (.int (nI (1))) (by simp only [r_hasNext, if_pos hlt]) ?_
  refine J_if_ne (tgt := 19) cx dJ14_next_8 (by decide) (fun c8 => ?_) (fun c8 => absurd c8 (by decide))
  refine J_aload_n cx dJ14_next_19 rfl ?_
  refine J_aload_n cx dJ14_next_20 rfl ?_
  refine J_get cx in_J14 (ci := 32) rfl 1 (by decide) q716 (fun _ h => h) dJ14_next_21 hi rfl ?_
  refine J_put cx in_J14 tyJ14 tyJ14_ok nmJ14 (ci := 32) rfl 0 (by decide) q715 (fun _ h => h) rfl (ty := (.object "java/util/LinkedList$Node")) (by decide +kernel) dJ14_next_24 rfl rfl hi (Nat.le_of_ble_eq_true rfl) (by omega) ?_
  refine J_mem (gset G i9 (.inr (32, [.ref x9, .ref x9, .int (nI (ni9)), .int mc9, .ref a]))) rfl ?_
  refine J_aload_n cx dJ14_next_27 rfl ?_
  refine J_aload_n cx dJ14_next_28 rfl ?_
  refine J_get cx in_J14 (ci := 32) rfl 1 (by decide) q716 (fun _ h => h) dJ14_next_29 gset_eq rfl ?_
  refine J_get cx in_J27 (ci := 33) rfl 1 (by decide) q1247 (fun _ h => h) dJ14_next_32 ((gset_ne (by omega)).trans hx) rfl ?_
  refine J_put cx in_J14 tyJ14 tyJ14_ok nmJ14 (ci := 32) rfl 1 (by decide) q716 (fun _ h => h) rfl (ty := (.object "java/util/LinkedList$Node")) (by decide +kernel) dJ14_next_35 rfl rfl gset_eq (Nat.le_of_ble_eq_true rfl) (by omega) ?_
  refine J_mem (gset G i9 (.inr (32, [.ref x9, .ref y9, .int (nI (ni9)), .int mc9, .ref a]))) gset_gset ?_
  refine J_aload_n cx dJ14_next_38 rfl ?_
  refine J_dup cx dJ14_next_39 rfl ?_
  refine J_get cx in_J14 (ci := 32) rfl 2 (by decide) q717 (fun _ h => h) dJ14_next_40 gset_eq rfl ?_
  refine J_iconst (v := nI (1)) cx dJ14_next_43 (by decide) ?_
  refine J_iaddN cx dJ14_next_44 ?_
  refine J_put cx in_J14 tyJ14 tyJ14_ok nmJ14 (ci := 32) rfl 2 (by decide) q717 (fun _ h => h) rfl (ty := .int) (by decide +kernel) dJ14_next_45 rfl rfl gset_eq (Nat.le_of_ble_eq_true rfl) (by omega) ?_
  refine J_mem (gset G i9 (.inr (32, [.ref x9, .ref y9, .int (nI (ni9 + 1)), .int mc9, .ref a]))) gset_gset ?_
  refine J_aload_n cx dJ14_next_48 rfl ?_
  refine J_get cx in_J14 (ci := 32) rfl 0 (by decide) q715 (fun _ h => h) dJ14_next_49 gset_eq rfl ?_
  refine J_get cx in_J27 (ci := 33) rfl 0 (by decide) q1244 (fun _ h => h) dJ14_next_52 ((gset_ne (by omega)).trans hx) rfl ?_
  exact J_aret cx dJ14_next_55 hr (Or.inl ⟨_, rfl⟩) (Or.inr ⟨_, rfl⟩) ⟨rfl, rfl, rfl⟩ (Nat.le_of_ble_eq_true rfl) (Nat.le_of_ble_eq_true rfl)
theorem t_J4_node_M (l : Launch) (Ω : jO) {G : Mem} {sz : Nat} (a : Nat) {mc9 : Int32} {n9 fi9 la9 : Nat} (ha : G a = some (.inr (29, [.int mc9, .int (nI (n9)), .ref fi9, .ref la9]))) (hn : 2 ≤ n9) (hn6 : n9 < 64) : Met l yJ4_node (ws_ yJ4_node cJ4_node 4 (some (.object "java/util/LinkedList$Node"))) ({ frames := 1, cells := 0, slots := 0, locals := 12 } : Room) (va_Pc [.ref a, .int (nI (0))] (jWd Ω G sz)) (jQ Ω (jD (some (.ref fi9)) G sz)) 0 0 (jB Ω) := by
  refine jMet (by decide) (Nat.le_of_ble_eq_true rfl) ?_
  intro p e s m args below meth c cx hr hnm
  refine J_loc [some (.ref a), some (.int (nI (0))), none, none] rfl ?_
  refine J_iload_n cx dJ4_node_0 rfl ?_
  refine J_aload_n cx dJ4_node_1 rfl ?_
  refine J_get cx in_J4 (ci := 29) rfl 1 (by decide) q221 (fun _ h => h) dJ4_node_2 ha rfl ?_
  refine J_iconst (v := nI (1)) cx dJ4_node_5 (by decide) ?_
  refine J_ishr cx dJ4_node_6 ?_
  refine J_top (.int (nI (n9 / 2))) (congrArg Value.int (jshr1 n9 (by omega))) ?_
  refine J_icmpN_ge (tgt := 35) cx dJ4_node_7 (by decide) (by omega) (by omega) (fun c7 => absurd c7 (by omega)) (fun c7 => ?_)
  refine J_aload_n cx dJ4_node_10 rfl ?_
  refine J_get cx in_J4 (ci := 29) rfl 2 (by decide) q223 (fun _ h => h) dJ4_node_11 ha rfl ?_
  refine J_astore_n2 cx dJ4_node_14 (by decide) rfl ?_
  refine J_iconst (v := nI (0)) cx dJ4_node_15 (by decide) ?_
  refine J_istore_n3 cx dJ4_node_16 (by decide) rfl ?_
  refine J_iload_n cx dJ4_node_17 rfl ?_
  refine J_iload_n cx dJ4_node_18 rfl ?_
  refine J_icmpN_ge (tgt := 33) cx dJ4_node_19 (by decide) (by omega) (by omega) (fun c19 => ?_) (fun c19 => absurd c19 (by omega))
  refine J_aload_n cx dJ4_node_33 rfl ?_
  exact J_aret cx dJ4_node_34 hr (Or.inl ⟨_, rfl⟩) (Or.inr ⟨_, rfl⟩) ⟨rfl, rfl, rfl⟩ (Nat.le_of_ble_eq_true rfl) (Nat.le_of_ble_eq_true rfl)
theorem t_J4_node_S (l : Launch) (Ω : jO) {G : Mem} {sz : Nat} (a : Nat) {mc9 : Int32} {fi9 la9 : Nat} (ha : G a = some (.inr (29, [.int mc9, .int (nI (1)), .ref fi9, .ref la9]))) : Met l yJ4_node (ws_ yJ4_node cJ4_node 4 (some (.object "java/util/LinkedList$Node"))) ({ frames := 1, cells := 0, slots := 0, locals := 12 } : Room) (va_Pc [.ref a, .int (nI (0))] (jWd Ω G sz)) (jQ Ω (jD (some (.ref la9)) G sz)) 0 0 (jB Ω) := by
  refine jMet (by decide) (Nat.le_of_ble_eq_true rfl) ?_
  intro p e s m args below meth c cx hr hnm
  refine J_loc [some (.ref a), some (.int (nI (0))), none, none] rfl ?_
  refine J_iload_n cx dJ4_node_0 rfl ?_
  refine J_aload_n cx dJ4_node_1 rfl ?_
  refine J_get cx in_J4 (ci := 29) rfl 1 (by decide) q221 (fun _ h => h) dJ4_node_2 ha rfl ?_
  refine J_iconst (v := nI (1)) cx dJ4_node_5 (by decide) ?_
  refine J_ishr cx dJ4_node_6 ?_
  refine J_top (.int (nI (0))) rfl ?_
  refine J_icmpN_ge (tgt := 35) cx dJ4_node_7 (by decide) (by omega) (by omega) (fun c7 => ?_) (fun c7 => absurd c7 (by omega))
  refine J_aload_n cx dJ4_node_35 rfl ?_
  refine J_get cx in_J4 (ci := 29) rfl 3 (by decide) q224 (fun _ h => h) dJ4_node_36 ha rfl ?_
  refine J_astore_n2 cx dJ4_node_39 (by decide) rfl ?_
  refine J_aload_n cx dJ4_node_40 rfl ?_
  refine J_get cx in_J4 (ci := 29) rfl 1 (by decide) q221 (fun _ h => h) dJ4_node_41 ha rfl ?_
  refine J_iconst (v := nI (1)) cx dJ4_node_44 (by decide) ?_
  refine J_isubN cx dJ4_node_45 (by omega) ?_
  refine J_istore_n3 cx dJ4_node_46 (by decide) rfl ?_
  refine J_iload_n cx dJ4_node_47 rfl ?_
  refine J_iload_n cx dJ4_node_48 rfl ?_
  refine J_icmpN_le (tgt := 63) cx dJ4_node_49 (by decide) (by omega) (by omega) (fun c49 => ?_) (fun c49 => absurd c49 (by omega))
  refine J_aload_n cx dJ4_node_63 rfl ?_
  exact J_aret cx dJ4_node_64 hr (Or.inl ⟨_, rfl⟩) (Or.inr ⟨_, rfl⟩) ⟨rfl, rfl, rfl⟩ (Nat.le_of_ble_eq_true rfl) (Nat.le_of_ble_eq_true rfl)
theorem t_J4_isPositionIndex (l : Launch) (Ω : jO) {G : Mem} {sz : Nat} (a : Nat) {mc9 : Int32} {n9 : Nat} {fi9 la9 : Value} (ha : G a = some (.inr (29, [.int mc9, .int (nI (n9)), fi9, la9]))) (hn : n9 < 100000) : Met l yJ4_isPositionIndex (ws_ yJ4_isPositionIndex cJ4_isPositionIndex 2 (some .boolean)) ({ frames := 1, cells := 0, slots := 0, locals := 12 } : Room) (va_Pc [.ref a, .int (nI (0))] (jWd Ω G sz)) (jQ Ω (jD (some (.int (nI (1)))) G sz)) 0 0 (jB Ω) := by
  refine jMet (by decide) (Nat.le_of_ble_eq_true rfl) ?_
  intro p e s m args below meth c cx hr hnm
  refine J_loc [some (.ref a), some (.int (nI (0)))] rfl ?_
  refine J_iload_n cx dJ4_isPositionIndex_0 rfl ?_
  refine J_if_lt (tgt := 16) cx dJ4_isPositionIndex_1 (by decide) (fun c1 => absurd c1 ((nI_pos (by omega)))) (fun c1 => ?_)
  refine J_iload_n cx dJ4_isPositionIndex_4 rfl ?_
  refine J_aload_n cx dJ4_isPositionIndex_5 rfl ?_
  refine J_get cx in_J4 (ci := 29) rfl 1 (by decide) q221 (fun _ h => h) dJ4_isPositionIndex_6 ha rfl ?_
  refine J_icmpN_gt (tgt := 16) cx dJ4_isPositionIndex_9 (by decide) (by omega) (by omega) (fun c9 => absurd c9 (by omega)) (fun c9 => ?_)
  refine J_iconst (v := nI (1)) cx dJ4_isPositionIndex_12 (by decide) ?_
  refine J_goto (tgt := 17) cx dJ4_isPositionIndex_13 (by decide) ?_
  exact J_zret cx dJ4_isPositionIndex_17 hr rfl ⟨rfl, rfl, rfl⟩ (Nat.le_of_ble_eq_true rfl) (Nat.le_of_ble_eq_true rfl)
theorem t_J4_checkPositionIndex (l : Launch) (Ω : jO) {G : Mem} {sz : Nat} (a : Nat) {mc9 : Int32} {n9 : Nat} {fi9 la9 : Value} (ha : G a = some (.inr (29, [.int mc9, .int (nI (n9)), fi9, la9]))) (hn : n9 < 100000) : Met l yJ4_checkPositionIndex (ws_ yJ4_checkPositionIndex cJ4_checkPositionIndex 2 none) ({ frames := 2, cells := 0, slots := 0, locals := 33 } : Room) (va_Pc [.ref a, .int (nI (0))] (jWd Ω G sz)) (jQ Ω (jD none G sz)) 0 0 (jB Ω) := by
  refine jMet (by decide) (Nat.le_of_ble_eq_true rfl) ?_
  intro p e s m args below meth c cx hr hnm
  refine J_loc [some (.ref a), some (.int (nI (0)))] rfl ?_
  refine J_aload_n cx dJ4_checkPositionIndex_0 rfl ?_
  refine J_iload_n cx dJ4_checkPositionIndex_1 rfl ?_
  refine J_callV (n := 1) cx (ci := 29) [.int (nI (0))] (t_J4_isPositionIndex l Ω a ha (by omega)) dJ4_checkPositionIndex_2 (lw_V q701 q703 qs5 q90 q704) ⟨rfl, by decide, by decide, by decide +kernel⟩ rfl ha rfl rfl ⟨Nat.le_of_ble_eq_true rfl, Nat.le_of_ble_eq_true rfl⟩ rfl rfl (Nat.le_of_ble_eq_true rfl) ⟨Nat.le_of_ble_eq_true rfl, Nat.le_of_ble_eq_true rfl⟩ (jdet ?_)
  refine J_if_ne (tgt := 21) cx dJ4_checkPositionIndex_5 (by decide) (fun c5 => ?_) (fun c5 => absurd c5 (by decide))
  exact J_vret cx dJ4_checkPositionIndex_21 hr ⟨rfl, rfl, rfl⟩ (Nat.le_of_ble_eq_true rfl) (Nat.le_of_ble_eq_true rfl)
set_option maxHeartbeats 1000000 in
theorem t_J14_init_E (l : Launch) (Ω : jO) {G : Mem} {sz : Nat} (a : Nat) {mc9 : Int32} (ha : G a = some (.inr (29, [.int mc9, .int (nI (0)), .null, .null]))) (i9 : Nat) (hi : G i9 = some (.inr (32, [.null, .null, .int 0, .int 0, .null]))) (hb : Ω.2.2.2 ≤ i9) : Met l yJ14_init (ws_ yJ14_init cJ14_init 3 none) ({ frames := 1, cells := 0, slots := 0, locals := 12 } : Room) (va_Pc [.ref i9, .ref a, .int (nI (0))] (jWd Ω G sz)) (jQ Ω (jD none (gset G i9 (.inr (32, [.null, .null, .int (nI (0)), .int mc9, .ref a]))) (sz))) 0 0 (jB Ω) := by
  refine jMet (by decide) (Nat.le_of_ble_eq_true rfl) ?_
  intro p e s m args below meth c cx hr hnm
  refine J_loc [some (.ref i9), some (.ref a), some (.int (nI (0)))] rfl ?_
  refine J_bs cx (fun hbs9 => ?_)
  refine J_lt ha (fun hlt0 => ?_)
  refine J_lt hi (fun hlt1 => ?_)
  have hne0 : a ≠ i9 := fun e => by have h1 := ha; rw [e, hi] at h1; simp at h1
  refine J_aload_n cx dJ14_init_0 rfl ?_
  refine J_aload_n cx dJ14_init_1 rfl ?_
  refine J_putF cx in_J14 tyJ14 tyJ14_ok nmJ14 (ci := 32) rfl 4 (by decide) q719 (fun _ h => h) rfl rfl hnm (ty := (.object "java/util/LinkedList")) (by decide +kernel) dJ14_init_2 rfl rfl hi (Nat.le_of_ble_eq_true rfl) (by omega) ?_
  refine J_mem (gset G i9 (.inr (32, [.null, .null, .int 0, .int 0, .ref a]))) rfl ?_
  refine J_aload_n cx dJ14_init_5 rfl ?_
  refine J_objInit cx dJ14_init_6 q710 q170 q171 (Nat.le_of_ble_eq_true rfl) (Nat.le_of_ble_eq_true rfl) ?_
  refine J_aload_n cx dJ14_init_9 rfl ?_
  refine J_aload_n cx dJ14_init_10 rfl ?_
  refine J_get cx in_J14 (ci := 32) rfl 4 (by decide) q719 (fun _ h => h) dJ14_init_11 gset_eq rfl ?_
  refine J_get cx in_J4 (ci := 29) rfl 0 (by decide) q197 (fun _ h => u_same (cx.ts _ q198) _ h) dJ14_init_14 ((gset_ne (by omega)).trans ha) rfl ?_
  refine J_put cx in_J14 tyJ14 tyJ14_ok nmJ14 (ci := 32) rfl 3 (by decide) q718 (fun _ h => h) rfl (ty := .int) (by decide +kernel) dJ14_init_17 rfl rfl gset_eq (Nat.le_of_ble_eq_true rfl) (by omega) ?_
  refine J_mem (gset G i9 (.inr (32, [.null, .null, .int 0, .int mc9, .ref a]))) gset_gset ?_
  refine J_aload_n cx dJ14_init_20 rfl ?_
  refine J_iload_n cx dJ14_init_21 rfl ?_
  refine J_aload_n cx dJ14_init_22 rfl ?_
  refine J_get cx in_J4 (ci := 29) rfl 1 (by decide) q222 (fun _ h => h) dJ14_init_23 ((gset_ne (by omega)).trans ha) rfl ?_
  refine J_icmpN_ne (tgt := 33) cx dJ14_init_26 (by decide) (by omega) (by omega) (fun c26 => absurd c26 (by omega)) (fun c26 => ?_)
  refine J_null cx dJ14_init_29 ?_
  refine J_goto (tgt := 38) cx dJ14_init_30 (by decide) ?_
  refine J_put cx in_J14 tyJ14 tyJ14_ok nmJ14 (ci := 32) rfl 1 (by decide) q716 (fun _ h => h) rfl (ty := (.object "java/util/LinkedList$Node")) (by decide +kernel) dJ14_init_38 rfl rfl gset_eq (Nat.le_of_ble_eq_true rfl) (by omega) ?_
  refine J_mem (gset G i9 (.inr (32, [.null, .null, .int 0, .int mc9, .ref a]))) gset_gset ?_
  refine J_aload_n cx dJ14_init_41 rfl ?_
  refine J_iload_n cx dJ14_init_42 rfl ?_
  refine J_put cx in_J14 tyJ14 tyJ14_ok nmJ14 (ci := 32) rfl 2 (by decide) q717 (fun _ h => h) rfl (ty := .int) (by decide +kernel) dJ14_init_43 rfl rfl gset_eq (Nat.le_of_ble_eq_true rfl) (by omega) ?_
  refine J_mem (gset G i9 (.inr (32, [.null, .null, .int (nI (0)), .int mc9, .ref a]))) gset_gset ?_
  exact J_vret cx dJ14_init_46 hr ⟨rfl, rfl, rfl⟩ (Nat.le_of_ble_eq_true rfl) (Nat.le_of_ble_eq_true rfl)
set_option maxHeartbeats 1000000 in
theorem t_J14_init_S (l : Launch) (Ω : jO) {G : Mem} {sz : Nat} (a : Nat) {mc9 : Int32} {fi9 la9 : Nat} (ha : G a = some (.inr (29, [.int mc9, .int (nI (1)), .ref fi9, .ref la9]))) (i9 : Nat) (hi : G i9 = some (.inr (32, [.null, .null, .int 0, .int 0, .null]))) (hb : Ω.2.2.2 ≤ i9) : Met l yJ14_init (ws_ yJ14_init cJ14_init 3 none) ({ frames := 2, cells := 0, slots := 0, locals := 35 } : Room) (va_Pc [.ref i9, .ref a, .int (nI (0))] (jWd Ω G sz)) (jQ Ω (jD none (gset G i9 (.inr (32, [.null, .ref la9, .int (nI (0)), .int mc9, .ref a]))) (sz))) 0 0 (jB Ω) := by
  refine jMet (by decide) (Nat.le_of_ble_eq_true rfl) ?_
  intro p e s m args below meth c cx hr hnm
  refine J_loc [some (.ref i9), some (.ref a), some (.int (nI (0)))] rfl ?_
  refine J_bs cx (fun hbs9 => ?_)
  refine J_lt ha (fun hlt0 => ?_)
  refine J_lt hi (fun hlt1 => ?_)
  have hne0 : a ≠ i9 := fun e => by have h1 := ha; rw [e, hi] at h1; simp at h1
  refine J_aload_n cx dJ14_init_0 rfl ?_
  refine J_aload_n cx dJ14_init_1 rfl ?_
  refine J_putF cx in_J14 tyJ14 tyJ14_ok nmJ14 (ci := 32) rfl 4 (by decide) q719 (fun _ h => h) rfl rfl hnm (ty := (.object "java/util/LinkedList")) (by decide +kernel) dJ14_init_2 rfl rfl hi (Nat.le_of_ble_eq_true rfl) (by omega) ?_
  refine J_mem (gset G i9 (.inr (32, [.null, .null, .int 0, .int 0, .ref a]))) rfl ?_
  refine J_aload_n cx dJ14_init_5 rfl ?_
  refine J_objInit cx dJ14_init_6 q710 q170 q171 (Nat.le_of_ble_eq_true rfl) (Nat.le_of_ble_eq_true rfl) ?_
  refine J_aload_n cx dJ14_init_9 rfl ?_
  refine J_aload_n cx dJ14_init_10 rfl ?_
  refine J_get cx in_J14 (ci := 32) rfl 4 (by decide) q719 (fun _ h => h) dJ14_init_11 gset_eq rfl ?_
  refine J_get cx in_J4 (ci := 29) rfl 0 (by decide) q197 (fun _ h => u_same (cx.ts _ q198) _ h) dJ14_init_14 ((gset_ne (by omega)).trans ha) rfl ?_
  refine J_put cx in_J14 tyJ14 tyJ14_ok nmJ14 (ci := 32) rfl 3 (by decide) q718 (fun _ h => h) rfl (ty := .int) (by decide +kernel) dJ14_init_17 rfl rfl gset_eq (Nat.le_of_ble_eq_true rfl) (by omega) ?_
  refine J_mem (gset G i9 (.inr (32, [.null, .null, .int 0, .int mc9, .ref a]))) gset_gset ?_
  refine J_aload_n cx dJ14_init_20 rfl ?_
  refine J_iload_n cx dJ14_init_21 rfl ?_
  refine J_aload_n cx dJ14_init_22 rfl ?_
  refine J_get cx in_J4 (ci := 29) rfl 1 (by decide) q222 (fun _ h => h) dJ14_init_23 ((gset_ne (by omega)).trans ha) rfl ?_
  refine J_icmpN_ne (tgt := 33) cx dJ14_init_26 (by decide) (by omega) (by omega) (fun c26 => ?_) (fun c26 => absurd c26 (by omega))
  refine J_aload_n cx dJ14_init_33 rfl ?_
  refine J_iload_n cx dJ14_init_34 rfl ?_
  refine J_callV (n := 1) cx (ci := 29) [.int (nI (0))] (t_J4_node_S l Ω a ((gset_ne (by omega)).trans ha)) dJ14_init_35 (lw_V q711 q712 q713 q90 q714) ⟨rfl, by decide, by decide, by decide +kernel⟩ rfl ((gset_ne (by omega)).trans ha) rfl rfl ⟨Nat.le_of_ble_eq_true rfl, Nat.le_of_ble_eq_true rfl⟩ rfl rfl (Nat.le_of_ble_eq_true rfl) ⟨Nat.le_of_ble_eq_true rfl, Nat.le_of_ble_eq_true rfl⟩ (jdet ?_)
  refine J_put cx in_J14 tyJ14 tyJ14_ok nmJ14 (ci := 32) rfl 1 (by decide) q716 (fun _ h => h) rfl (ty := (.object "java/util/LinkedList$Node")) (by decide +kernel) dJ14_init_38 rfl rfl gset_eq (Nat.le_of_ble_eq_true rfl) (by omega) ?_
  refine J_mem (gset G i9 (.inr (32, [.null, .ref la9, .int 0, .int mc9, .ref a]))) gset_gset ?_
  refine J_aload_n cx dJ14_init_41 rfl ?_
  refine J_iload_n cx dJ14_init_42 rfl ?_
  refine J_put cx in_J14 tyJ14 tyJ14_ok nmJ14 (ci := 32) rfl 2 (by decide) q717 (fun _ h => h) rfl (ty := .int) (by decide +kernel) dJ14_init_43 rfl rfl gset_eq (Nat.le_of_ble_eq_true rfl) (by omega) ?_
  refine J_mem (gset G i9 (.inr (32, [.null, .ref la9, .int (nI (0)), .int mc9, .ref a]))) gset_gset ?_
  exact J_vret cx dJ14_init_46 hr ⟨rfl, rfl, rfl⟩ (Nat.le_of_ble_eq_true rfl) (Nat.le_of_ble_eq_true rfl)
set_option maxHeartbeats 1000000 in
theorem t_J14_init_M (l : Launch) (Ω : jO) {G : Mem} {sz : Nat} (a : Nat) {mc9 : Int32} {n9 fi9 la9 : Nat} (ha : G a = some (.inr (29, [.int mc9, .int (nI (n9)), .ref fi9, .ref la9]))) (i9 : Nat) (hi : G i9 = some (.inr (32, [.null, .null, .int 0, .int 0, .null]))) (hb : Ω.2.2.2 ≤ i9) (hn : 2 ≤ n9) (hn6 : n9 < 64) : Met l yJ14_init (ws_ yJ14_init cJ14_init 3 none) ({ frames := 2, cells := 0, slots := 0, locals := 35 } : Room) (va_Pc [.ref i9, .ref a, .int (nI (0))] (jWd Ω G sz)) (jQ Ω (jD none (gset G i9 (.inr (32, [.null, .ref fi9, .int (nI (0)), .int mc9, .ref a]))) (sz))) 0 0 (jB Ω) := by
  refine jMet (by decide) (Nat.le_of_ble_eq_true rfl) ?_
  intro p e s m args below meth c cx hr hnm
  refine J_loc [some (.ref i9), some (.ref a), some (.int (nI (0)))] rfl ?_
  refine J_bs cx (fun hbs9 => ?_)
  refine J_lt ha (fun hlt0 => ?_)
  refine J_lt hi (fun hlt1 => ?_)
  have hne0 : a ≠ i9 := fun e => by have h1 := ha; rw [e, hi] at h1; simp at h1
  refine J_aload_n cx dJ14_init_0 rfl ?_
  refine J_aload_n cx dJ14_init_1 rfl ?_
  refine J_putF cx in_J14 tyJ14 tyJ14_ok nmJ14 (ci := 32) rfl 4 (by decide) q719 (fun _ h => h) rfl rfl hnm (ty := (.object "java/util/LinkedList")) (by decide +kernel) dJ14_init_2 rfl rfl hi (Nat.le_of_ble_eq_true rfl) (by omega) ?_
  refine J_mem (gset G i9 (.inr (32, [.null, .null, .int 0, .int 0, .ref a]))) rfl ?_
  refine J_aload_n cx dJ14_init_5 rfl ?_
  refine J_objInit cx dJ14_init_6 q710 q170 q171 (Nat.le_of_ble_eq_true rfl) (Nat.le_of_ble_eq_true rfl) ?_
  refine J_aload_n cx dJ14_init_9 rfl ?_
  refine J_aload_n cx dJ14_init_10 rfl ?_
  refine J_get cx in_J14 (ci := 32) rfl 4 (by decide) q719 (fun _ h => h) dJ14_init_11 gset_eq rfl ?_
  refine J_get cx in_J4 (ci := 29) rfl 0 (by decide) q197 (fun _ h => u_same (cx.ts _ q198) _ h) dJ14_init_14 ((gset_ne (by omega)).trans ha) rfl ?_
  refine J_put cx in_J14 tyJ14 tyJ14_ok nmJ14 (ci := 32) rfl 3 (by decide) q718 (fun _ h => h) rfl (ty := .int) (by decide +kernel) dJ14_init_17 rfl rfl gset_eq (Nat.le_of_ble_eq_true rfl) (by omega) ?_
  refine J_mem (gset G i9 (.inr (32, [.null, .null, .int 0, .int mc9, .ref a]))) gset_gset ?_
  refine J_aload_n cx dJ14_init_20 rfl ?_
  refine J_iload_n cx dJ14_init_21 rfl ?_
  refine J_aload_n cx dJ14_init_22 rfl ?_
  refine J_get cx in_J4 (ci := 29) rfl 1 (by decide) q222 (fun _ h => h) dJ14_init_23 ((gset_ne (by omega)).trans ha) rfl ?_
  refine J_icmpN_ne (tgt := 33) cx dJ14_init_26 (by decide) (by omega) (by omega) (fun c26 => ?_) (fun c26 => absurd c26 (by omega))
  refine J_aload_n cx dJ14_init_33 rfl ?_
  refine J_iload_n cx dJ14_init_34 rfl ?_
  refine J_callV (n := 1) cx (ci := 29) [.int (nI (0))] (t_J4_node_M l Ω a ((gset_ne (by omega)).trans ha) (by omega) (by omega)) dJ14_init_35 (lw_V q711 q712 q713 q90 q714) ⟨rfl, by decide, by decide, by decide +kernel⟩ rfl ((gset_ne (by omega)).trans ha) rfl rfl ⟨Nat.le_of_ble_eq_true rfl, Nat.le_of_ble_eq_true rfl⟩ rfl rfl (Nat.le_of_ble_eq_true rfl) ⟨Nat.le_of_ble_eq_true rfl, Nat.le_of_ble_eq_true rfl⟩ (jdet ?_)
  refine J_put cx in_J14 tyJ14 tyJ14_ok nmJ14 (ci := 32) rfl 1 (by decide) q716 (fun _ h => h) rfl (ty := (.object "java/util/LinkedList$Node")) (by decide +kernel) dJ14_init_38 rfl rfl gset_eq (Nat.le_of_ble_eq_true rfl) (by omega) ?_
  refine J_mem (gset G i9 (.inr (32, [.null, .ref fi9, .int 0, .int mc9, .ref a]))) gset_gset ?_
  refine J_aload_n cx dJ14_init_41 rfl ?_
  refine J_iload_n cx dJ14_init_42 rfl ?_
  refine J_put cx in_J14 tyJ14 tyJ14_ok nmJ14 (ci := 32) rfl 2 (by decide) q717 (fun _ h => h) rfl (ty := .int) (by decide +kernel) dJ14_init_43 rfl rfl gset_eq (Nat.le_of_ble_eq_true rfl) (by omega) ?_
  refine J_mem (gset G i9 (.inr (32, [.null, .ref fi9, .int (nI (0)), .int mc9, .ref a]))) gset_gset ?_
  exact J_vret cx dJ14_init_46 hr ⟨rfl, rfl, rfl⟩ (Nat.le_of_ble_eq_true rfl) (Nat.le_of_ble_eq_true rfl)
set_option maxHeartbeats 1000000 in
theorem t_J4_listIterator_E (l : Launch) (Ω : jO) {G : Mem} {sz : Nat} (a : Nat) {mc9 : Int32} (ha : G a = some (.inr (29, [.int mc9, .int (nI (0)), .null, .null]))) : Met l yJ4_listIterator (ws_ yJ4_listIterator cJ4_listIterator 2 (some (.object "java/util/ListIterator"))) ({ frames := 3, cells := 1, slots := 5, locals := 54 } : Room) (va_Pc [.ref a, .int (nI (0))] (jWd Ω G sz)) (jQ Ω (jD (some (.ref sz)) (gset G sz (.inr (32, [.null, .null, .int (nI (0)), .int mc9, .ref a]))) (sz + 1))) 1 5 (jB Ω) := by
  refine jMet (by decide) (Nat.le_of_ble_eq_true rfl) ?_
  intro p e s m args below meth c cx hr hnm
  refine J_loc [some (.ref a), some (.int (nI (0)))] rfl ?_
  refine J_bs cx (fun hbs9 => ?_)
  refine J_lt ha (fun hlt0 => ?_)
  refine J_aload_n cx dJ4_listIterator_0 rfl ?_
  refine J_iload_n cx dJ4_listIterator_1 rfl ?_
  refine J_callV (n := 1) cx (ci := 29) [.int (nI (0))] (t_J4_checkPositionIndex l Ω a ha (by omega)) dJ4_listIterator_2 (lw_V q697 q699 qs4 q90 q700) ⟨rfl, by decide, by decide, by decide +kernel⟩ rfl ha rfl rfl ⟨Nat.le_of_ble_eq_true rfl, Nat.le_of_ble_eq_true rfl⟩ rfl rfl (Nat.le_of_ble_eq_true rfl) ⟨Nat.le_of_ble_eq_true rfl, Nat.le_of_ble_eq_true rfl⟩ (jdet ?_)
  refine J_new cx in_J14 tyJ14 tyJ14_ok q705 q706 q110 (ci := 32) rfl (fs := [.null, .null, .int 0, .int 0, .null]) (by decide +kernel) dJ4_listIterator_5 (Nat.le_of_ble_eq_true rfl) (Nat.le_of_ble_eq_true rfl) ?_
  refine J_dup cx dJ4_listIterator_8 rfl ?_
  refine J_aload_n cx dJ4_listIterator_9 rfl ?_
  refine J_iload_n cx dJ4_listIterator_10 rfl ?_
  refine J_callI (n := 2) cx [.ref a, .int (nI (0))] (t_J14_init_E l Ω a ((gset_ne (by omega)).trans ha) sz gset_eq (by omega)) dJ4_listIterator_11 q709 q110 q707 q708 rfl ⟨by decide, by decide, by decide +kernel⟩ rfl rfl ⟨Nat.le_of_ble_eq_true rfl, Nat.le_of_ble_eq_true rfl⟩ rfl rfl (Nat.le_of_ble_eq_true rfl) ⟨Nat.le_of_ble_eq_true rfl, Nat.le_of_ble_eq_true rfl⟩ (jdet ?_)
  refine J_mem (gset G sz (.inr (32, [.null, .null, .int (nI (0)), .int mc9, .ref a]))) gset_gset ?_
  exact J_aret cx dJ4_listIterator_14 hr (Or.inl ⟨_, rfl⟩) (Or.inr ⟨_, rfl⟩) ⟨rfl, rfl, rfl⟩ (Nat.le_of_ble_eq_true rfl) (Nat.le_of_ble_eq_true rfl)
set_option maxHeartbeats 1000000 in
theorem t_J4_listIterator_S (l : Launch) (Ω : jO) {G : Mem} {sz : Nat} (a : Nat) {mc9 : Int32} {fi9 la9 : Nat} (ha : G a = some (.inr (29, [.int mc9, .int (nI (1)), .ref fi9, .ref la9]))) : Met l yJ4_listIterator (ws_ yJ4_listIterator cJ4_listIterator 2 (some (.object "java/util/ListIterator"))) ({ frames := 3, cells := 1, slots := 5, locals := 57 } : Room) (va_Pc [.ref a, .int (nI (0))] (jWd Ω G sz)) (jQ Ω (jD (some (.ref sz)) (gset G sz (.inr (32, [.null, .ref la9, .int (nI (0)), .int mc9, .ref a]))) (sz + 1))) 1 5 (jB Ω) := by
  refine jMet (by decide) (Nat.le_of_ble_eq_true rfl) ?_
  intro p e s m args below meth c cx hr hnm
  refine J_loc [some (.ref a), some (.int (nI (0)))] rfl ?_
  refine J_bs cx (fun hbs9 => ?_)
  refine J_lt ha (fun hlt0 => ?_)
  refine J_aload_n cx dJ4_listIterator_0 rfl ?_
  refine J_iload_n cx dJ4_listIterator_1 rfl ?_
  refine J_callV (n := 1) cx (ci := 29) [.int (nI (0))] (t_J4_checkPositionIndex l Ω a ha (by omega)) dJ4_listIterator_2 (lw_V q697 q699 qs4 q90 q700) ⟨rfl, by decide, by decide, by decide +kernel⟩ rfl ha rfl rfl ⟨Nat.le_of_ble_eq_true rfl, Nat.le_of_ble_eq_true rfl⟩ rfl rfl (Nat.le_of_ble_eq_true rfl) ⟨Nat.le_of_ble_eq_true rfl, Nat.le_of_ble_eq_true rfl⟩ (jdet ?_)
  refine J_new cx in_J14 tyJ14 tyJ14_ok q705 q706 q110 (ci := 32) rfl (fs := [.null, .null, .int 0, .int 0, .null]) (by decide +kernel) dJ4_listIterator_5 (Nat.le_of_ble_eq_true rfl) (Nat.le_of_ble_eq_true rfl) ?_
  refine J_dup cx dJ4_listIterator_8 rfl ?_
  refine J_aload_n cx dJ4_listIterator_9 rfl ?_
  refine J_iload_n cx dJ4_listIterator_10 rfl ?_
  refine J_callI (n := 2) cx [.ref a, .int (nI (0))] (t_J14_init_S l Ω a ((gset_ne (by omega)).trans ha) sz gset_eq (by omega)) dJ4_listIterator_11 q709 q110 q707 q708 rfl ⟨by decide, by decide, by decide +kernel⟩ rfl rfl ⟨Nat.le_of_ble_eq_true rfl, Nat.le_of_ble_eq_true rfl⟩ rfl rfl (Nat.le_of_ble_eq_true rfl) ⟨Nat.le_of_ble_eq_true rfl, Nat.le_of_ble_eq_true rfl⟩ (jdet ?_)
  refine J_mem (gset G sz (.inr (32, [.null, .ref la9, .int (nI (0)), .int mc9, .ref a]))) gset_gset ?_
  exact J_aret cx dJ4_listIterator_14 hr (Or.inl ⟨_, rfl⟩) (Or.inr ⟨_, rfl⟩) ⟨rfl, rfl, rfl⟩ (Nat.le_of_ble_eq_true rfl) (Nat.le_of_ble_eq_true rfl)
set_option maxHeartbeats 1000000 in
theorem t_J4_listIterator_M (l : Launch) (Ω : jO) {G : Mem} {sz : Nat} (a : Nat) {mc9 : Int32} {n9 fi9 la9 : Nat} (ha : G a = some (.inr (29, [.int mc9, .int (nI (n9)), .ref fi9, .ref la9]))) (hn : 2 ≤ n9) (hn6 : n9 < 64) : Met l yJ4_listIterator (ws_ yJ4_listIterator cJ4_listIterator 2 (some (.object "java/util/ListIterator"))) ({ frames := 3, cells := 1, slots := 5, locals := 57 } : Room) (va_Pc [.ref a, .int (nI (0))] (jWd Ω G sz)) (jQ Ω (jD (some (.ref sz)) (gset G sz (.inr (32, [.null, .ref fi9, .int (nI (0)), .int mc9, .ref a]))) (sz + 1))) 1 5 (jB Ω) := by
  refine jMet (by decide) (Nat.le_of_ble_eq_true rfl) ?_
  intro p e s m args below meth c cx hr hnm
  refine J_loc [some (.ref a), some (.int (nI (0)))] rfl ?_
  refine J_bs cx (fun hbs9 => ?_)
  refine J_lt ha (fun hlt0 => ?_)
  refine J_aload_n cx dJ4_listIterator_0 rfl ?_
  refine J_iload_n cx dJ4_listIterator_1 rfl ?_
  refine J_callV (n := 1) cx (ci := 29) [.int (nI (0))] (t_J4_checkPositionIndex l Ω a ha (by omega)) dJ4_listIterator_2 (lw_V q697 q699 qs4 q90 q700) ⟨rfl, by decide, by decide, by decide +kernel⟩ rfl ha rfl rfl ⟨Nat.le_of_ble_eq_true rfl, Nat.le_of_ble_eq_true rfl⟩ rfl rfl (Nat.le_of_ble_eq_true rfl) ⟨Nat.le_of_ble_eq_true rfl, Nat.le_of_ble_eq_true rfl⟩ (jdet ?_)
  refine J_new cx in_J14 tyJ14 tyJ14_ok q705 q706 q110 (ci := 32) rfl (fs := [.null, .null, .int 0, .int 0, .null]) (by decide +kernel) dJ4_listIterator_5 (Nat.le_of_ble_eq_true rfl) (Nat.le_of_ble_eq_true rfl) ?_
  refine J_dup cx dJ4_listIterator_8 rfl ?_
  refine J_aload_n cx dJ4_listIterator_9 rfl ?_
  refine J_iload_n cx dJ4_listIterator_10 rfl ?_
  refine J_callI (n := 2) cx [.ref a, .int (nI (0))] (t_J14_init_M l Ω a ((gset_ne (by omega)).trans ha) sz gset_eq (by omega) (by omega) (by omega)) dJ4_listIterator_11 q709 q110 q707 q708 rfl ⟨by decide, by decide, by decide +kernel⟩ rfl rfl ⟨Nat.le_of_ble_eq_true rfl, Nat.le_of_ble_eq_true rfl⟩ rfl rfl (Nat.le_of_ble_eq_true rfl) ⟨Nat.le_of_ble_eq_true rfl, Nat.le_of_ble_eq_true rfl⟩ (jdet ?_)
  refine J_mem (gset G sz (.inr (32, [.null, .ref fi9, .int (nI (0)), .int mc9, .ref a]))) gset_gset ?_
  exact J_aret cx dJ4_listIterator_14 hr (Or.inl ⟨_, rfl⟩) (Or.inr ⟨_, rfl⟩) ⟨rfl, rfl, rfl⟩ (Nat.le_of_ble_eq_true rfl) (Nat.le_of_ble_eq_true rfl)
set_option maxHeartbeats 1000000 in
theorem t_J1_listIterator_E (l : Launch) (Ω : jO) {G : Mem} {sz : Nat} (a : Nat) {mc9 : Int32} (ha : G a = some (.inr (29, [.int mc9, .int (nI (0)), .null, .null]))) : Met l yJ1_listIterator (ws_ yJ1_listIterator cJ1_listIterator 1 (some (.object "java/util/ListIterator"))) ({ frames := 4, cells := 1, slots := 5, locals := 75 } : Room) (va_Pc [.ref a] (jWd Ω G sz)) (jQ Ω (jD (some (.ref sz)) (gset G sz (.inr (32, [.null, .null, .int (nI (0)), .int mc9, .ref a]))) (sz + 1))) 1 5 (jB Ω) := by
  refine jMet (by decide) (Nat.le_of_ble_eq_true rfl) ?_
  intro p e s m args below meth c cx hr hnm
  refine J_loc [some (.ref a)] rfl ?_
  refine J_bs cx (fun hbs9 => ?_)
  refine J_lt ha (fun hlt0 => ?_)
  refine J_aload_n cx dJ1_listIterator_0 rfl ?_
  refine J_iconst (v := nI (0)) cx dJ1_listIterator_1 (by decide) ?_
  refine J_callA (n := 1) (owner := "java/util/AbstractList") cx (ci := 29) [.int (nI (0))] (t_J4_listIterator_E l Ω a ha) dJ1_listIterator_2 q696 q731 q657 q659 q694 q695 q90 ⟨by decide, by decide, by decide +kernel⟩ rfl ha rfl rfl ⟨Nat.le_of_ble_eq_true rfl, Nat.le_of_ble_eq_true rfl⟩ rfl rfl (Nat.le_of_ble_eq_true rfl) ⟨Nat.le_of_ble_eq_true rfl, Nat.le_of_ble_eq_true rfl⟩ (jdet ?_)
  refine J_mem (gset G sz (.inr (32, [.null, .null, .int (nI (0)), .int mc9, .ref a]))) rfl ?_
  exact J_aret cx dJ1_listIterator_5 hr (Or.inl ⟨_, rfl⟩) (Or.inr ⟨_, rfl⟩) ⟨rfl, rfl, rfl⟩ (Nat.le_of_ble_eq_true rfl) (Nat.le_of_ble_eq_true rfl)
set_option maxHeartbeats 1000000 in
theorem t_J1_listIterator_S (l : Launch) (Ω : jO) {G : Mem} {sz : Nat} (a : Nat) {mc9 : Int32} {fi9 la9 : Nat} (ha : G a = some (.inr (29, [.int mc9, .int (nI (1)), .ref fi9, .ref la9]))) : Met l yJ1_listIterator (ws_ yJ1_listIterator cJ1_listIterator 1 (some (.object "java/util/ListIterator"))) ({ frames := 4, cells := 1, slots := 5, locals := 78 } : Room) (va_Pc [.ref a] (jWd Ω G sz)) (jQ Ω (jD (some (.ref sz)) (gset G sz (.inr (32, [.null, .ref la9, .int (nI (0)), .int mc9, .ref a]))) (sz + 1))) 1 5 (jB Ω) := by
  refine jMet (by decide) (Nat.le_of_ble_eq_true rfl) ?_
  intro p e s m args below meth c cx hr hnm
  refine J_loc [some (.ref a)] rfl ?_
  refine J_bs cx (fun hbs9 => ?_)
  refine J_lt ha (fun hlt0 => ?_)
  refine J_aload_n cx dJ1_listIterator_0 rfl ?_
  refine J_iconst (v := nI (0)) cx dJ1_listIterator_1 (by decide) ?_
  refine J_callA (n := 1) (owner := "java/util/AbstractList") cx (ci := 29) [.int (nI (0))] (t_J4_listIterator_S l Ω a ha) dJ1_listIterator_2 q696 q731 q657 q659 q694 q695 q90 ⟨by decide, by decide, by decide +kernel⟩ rfl ha rfl rfl ⟨Nat.le_of_ble_eq_true rfl, Nat.le_of_ble_eq_true rfl⟩ rfl rfl (Nat.le_of_ble_eq_true rfl) ⟨Nat.le_of_ble_eq_true rfl, Nat.le_of_ble_eq_true rfl⟩ (jdet ?_)
  refine J_mem (gset G sz (.inr (32, [.null, .ref la9, .int (nI (0)), .int mc9, .ref a]))) rfl ?_
  exact J_aret cx dJ1_listIterator_5 hr (Or.inl ⟨_, rfl⟩) (Or.inr ⟨_, rfl⟩) ⟨rfl, rfl, rfl⟩ (Nat.le_of_ble_eq_true rfl) (Nat.le_of_ble_eq_true rfl)
set_option maxHeartbeats 1000000 in
theorem t_J1_listIterator_M (l : Launch) (Ω : jO) {G : Mem} {sz : Nat} (a : Nat) {mc9 : Int32} {n9 fi9 la9 : Nat} (ha : G a = some (.inr (29, [.int mc9, .int (nI (n9)), .ref fi9, .ref la9]))) (hn : 2 ≤ n9) (hn6 : n9 < 64) : Met l yJ1_listIterator (ws_ yJ1_listIterator cJ1_listIterator 1 (some (.object "java/util/ListIterator"))) ({ frames := 4, cells := 1, slots := 5, locals := 78 } : Room) (va_Pc [.ref a] (jWd Ω G sz)) (jQ Ω (jD (some (.ref sz)) (gset G sz (.inr (32, [.null, .ref fi9, .int (nI (0)), .int mc9, .ref a]))) (sz + 1))) 1 5 (jB Ω) := by
  refine jMet (by decide) (Nat.le_of_ble_eq_true rfl) ?_
  intro p e s m args below meth c cx hr hnm
  refine J_loc [some (.ref a)] rfl ?_
  refine J_bs cx (fun hbs9 => ?_)
  refine J_lt ha (fun hlt0 => ?_)
  refine J_aload_n cx dJ1_listIterator_0 rfl ?_
  refine J_iconst (v := nI (0)) cx dJ1_listIterator_1 (by decide) ?_
  refine J_callA (n := 1) (owner := "java/util/AbstractList") cx (ci := 29) [.int (nI (0))] (t_J4_listIterator_M l Ω a ha (by omega) (by omega)) dJ1_listIterator_2 q696 q731 q657 q659 q694 q695 q90 ⟨by decide, by decide, by decide +kernel⟩ rfl ha rfl rfl ⟨Nat.le_of_ble_eq_true rfl, Nat.le_of_ble_eq_true rfl⟩ rfl rfl (Nat.le_of_ble_eq_true rfl) ⟨Nat.le_of_ble_eq_true rfl, Nat.le_of_ble_eq_true rfl⟩ (jdet ?_)
  refine J_mem (gset G sz (.inr (32, [.null, .ref fi9, .int (nI (0)), .int mc9, .ref a]))) rfl ?_
  exact J_aret cx dJ1_listIterator_5 hr (Or.inl ⟨_, rfl⟩) (Or.inr ⟨_, rfl⟩) ⟨rfl, rfl, rfl⟩ (Nat.le_of_ble_eq_true rfl) (Nat.le_of_ble_eq_true rfl)
set_option maxHeartbeats 1000000 in
theorem t_J3_iterator_E (l : Launch) (Ω : jO) {G : Mem} {sz : Nat} (a : Nat) {mc9 : Int32} (ha : G a = some (.inr (29, [.int mc9, .int (nI (0)), .null, .null]))) : Met l yJ3_iterator (ws_ yJ3_iterator cJ3_iterator 1 (some (.object "java/util/Iterator"))) ({ frames := 5, cells := 1, slots := 5, locals := 95 } : Room) (va_Pc [.ref a] (jWd Ω G sz)) (jQ Ω (jD (some (.ref sz)) (gset G sz (.inr (32, [.null, .null, .int (nI (0)), .int mc9, .ref a]))) (sz + 1))) 1 5 (jB Ω) := by
  refine jMet (by decide) (Nat.le_of_ble_eq_true rfl) ?_
  intro p e s m args below meth c cx hr hnm
  refine J_loc [some (.ref a)] rfl ?_
  refine J_bs cx (fun hbs9 => ?_)
  refine J_lt ha (fun hlt0 => ?_)
  refine J_aload_n cx dJ3_iterator_0 rfl ?_
  refine J_callU (n := 0) (owner := "java/util/AbstractList") cx (ci := 29) [] (t_J1_listIterator_E l Ω a ha) dJ3_iterator_1 q656 q651 q652 q654 q655 q87 rfl ⟨by decide, by decide, by decide +kernel⟩ rfl ha rfl rfl ⟨Nat.le_of_ble_eq_true rfl, Nat.le_of_ble_eq_true rfl⟩ rfl rfl (Nat.le_of_ble_eq_true rfl) ⟨Nat.le_of_ble_eq_true rfl, Nat.le_of_ble_eq_true rfl⟩ (jdet ?_)
  refine J_mem (gset G sz (.inr (32, [.null, .null, .int (nI (0)), .int mc9, .ref a]))) rfl ?_
  exact J_aret cx dJ3_iterator_4 hr (Or.inl ⟨_, rfl⟩) (Or.inr ⟨_, rfl⟩) ⟨rfl, rfl, rfl⟩ (Nat.le_of_ble_eq_true rfl) (Nat.le_of_ble_eq_true rfl)
set_option maxHeartbeats 1000000 in
theorem t_J3_iterator_S (l : Launch) (Ω : jO) {G : Mem} {sz : Nat} (a : Nat) {mc9 : Int32} {fi9 la9 : Nat} (ha : G a = some (.inr (29, [.int mc9, .int (nI (1)), .ref fi9, .ref la9]))) : Met l yJ3_iterator (ws_ yJ3_iterator cJ3_iterator 1 (some (.object "java/util/Iterator"))) ({ frames := 5, cells := 1, slots := 5, locals := 98 } : Room) (va_Pc [.ref a] (jWd Ω G sz)) (jQ Ω (jD (some (.ref sz)) (gset G sz (.inr (32, [.null, .ref la9, .int (nI (0)), .int mc9, .ref a]))) (sz + 1))) 1 5 (jB Ω) := by
  refine jMet (by decide) (Nat.le_of_ble_eq_true rfl) ?_
  intro p e s m args below meth c cx hr hnm
  refine J_loc [some (.ref a)] rfl ?_
  refine J_bs cx (fun hbs9 => ?_)
  refine J_lt ha (fun hlt0 => ?_)
  refine J_aload_n cx dJ3_iterator_0 rfl ?_
  refine J_callU (n := 0) (owner := "java/util/AbstractList") cx (ci := 29) [] (t_J1_listIterator_S l Ω a ha) dJ3_iterator_1 q656 q651 q652 q654 q655 q87 rfl ⟨by decide, by decide, by decide +kernel⟩ rfl ha rfl rfl ⟨Nat.le_of_ble_eq_true rfl, Nat.le_of_ble_eq_true rfl⟩ rfl rfl (Nat.le_of_ble_eq_true rfl) ⟨Nat.le_of_ble_eq_true rfl, Nat.le_of_ble_eq_true rfl⟩ (jdet ?_)
  refine J_mem (gset G sz (.inr (32, [.null, .ref la9, .int (nI (0)), .int mc9, .ref a]))) rfl ?_
  exact J_aret cx dJ3_iterator_4 hr (Or.inl ⟨_, rfl⟩) (Or.inr ⟨_, rfl⟩) ⟨rfl, rfl, rfl⟩ (Nat.le_of_ble_eq_true rfl) (Nat.le_of_ble_eq_true rfl)
set_option maxHeartbeats 1000000 in
theorem t_J3_iterator_M (l : Launch) (Ω : jO) {G : Mem} {sz : Nat} (a : Nat) {mc9 : Int32} {n9 fi9 la9 : Nat} (ha : G a = some (.inr (29, [.int mc9, .int (nI (n9)), .ref fi9, .ref la9]))) (hn : 2 ≤ n9) (hn6 : n9 < 64) : Met l yJ3_iterator (ws_ yJ3_iterator cJ3_iterator 1 (some (.object "java/util/Iterator"))) ({ frames := 5, cells := 1, slots := 5, locals := 98 } : Room) (va_Pc [.ref a] (jWd Ω G sz)) (jQ Ω (jD (some (.ref sz)) (gset G sz (.inr (32, [.null, .ref fi9, .int (nI (0)), .int mc9, .ref a]))) (sz + 1))) 1 5 (jB Ω) := by
  refine jMet (by decide) (Nat.le_of_ble_eq_true rfl) ?_
  intro p e s m args below meth c cx hr hnm
  refine J_loc [some (.ref a)] rfl ?_
  refine J_bs cx (fun hbs9 => ?_)
  refine J_lt ha (fun hlt0 => ?_)
  refine J_aload_n cx dJ3_iterator_0 rfl ?_
  refine J_callU (n := 0) (owner := "java/util/AbstractList") cx (ci := 29) [] (t_J1_listIterator_M l Ω a ha (by omega) (by omega)) dJ3_iterator_1 q656 q651 q652 q654 q655 q87 rfl ⟨by decide, by decide, by decide +kernel⟩ rfl ha rfl rfl ⟨Nat.le_of_ble_eq_true rfl, Nat.le_of_ble_eq_true rfl⟩ rfl rfl (Nat.le_of_ble_eq_true rfl) ⟨Nat.le_of_ble_eq_true rfl, Nat.le_of_ble_eq_true rfl⟩ (jdet ?_)
  refine J_mem (gset G sz (.inr (32, [.null, .ref fi9, .int (nI (0)), .int mc9, .ref a]))) rfl ?_
  exact J_aret cx dJ3_iterator_4 hr (Or.inl ⟨_, rfl⟩) (Or.inr ⟨_, rfl⟩) ⟨rfl, rfl, rfl⟩ (Nat.le_of_ble_eq_true rfl) (Nat.le_of_ble_eq_true rfl)
set_option maxHeartbeats 2000000 in
theorem t_J14_remove_ZZ (l : Launch) (Ω : jO) {G : Mem} {sz : Nat} (a : Nat) {mc9 : Int32} {n9 it9 ni9 : Nat} {fi9 la9 : Value} (x9 i9 : Nat) (ha : G a = some (.inr (29, [.int mc9, .int (nI (n9)), fi9, la9]))) (hx : G x9 = some (.inr (33, [.ref it9, .null, .null]))) (hi : G i9 = some (.inr (32, [.ref x9, .null, .int (nI (ni9)), .int mc9, .ref a]))) (hb : Ω.2.2.2 ≤ a) (hbx : Ω.2.2.2 ≤ x9) (hbi : Ω.2.2.2 ≤ i9) (hn1 : 1 ≤ n9) (hni : 1 ≤ ni9) : Met l yJ14_remove (ws_ yJ14_remove cJ14_remove 2 none) ({ frames := 2, cells := 0, slots := 0, locals := 36 } : Room) (va_Pc [.ref i9] (jWd Ω G sz)) (jQ Ω (jD none (gset (gset (gset G x9 (.inr (33, [.null, .null, .null]))) a (.inr (29, [.int (mc9 + (nI (1))), .int (nI (n9 - 1)), .null, .null]))) i9 (.inr (32, [.null, .null, .int (nI (ni9 - 1)), .int (mc9 + (nI (1))), .ref a]))) (sz))) 0 0 (jB Ω) := by
  refine jMet (by decide) (Nat.le_of_ble_eq_true rfl) ?_
  intro p e s m args below meth c cx hr hnm
  refine J_loc [some (.ref i9), none] rfl ?_
  refine J_bs cx (fun hbs9 => ?_)
  refine J_lt ha (fun hlt0 => ?_)
  refine J_lt hx (fun hlt1 => ?_)
  refine J_lt hi (fun hlt2 => ?_)
  have hne0 : a ≠ x9 := fun e => by have h1 := ha; rw [e, hx] at h1; simp at h1
  have hne1 : a ≠ i9 := fun e => by have h1 := ha; rw [e, hi] at h1; simp at h1
  have hne2 : x9 ≠ i9 := fun e => by have h1 := hx; rw [e, hi] at h1; simp at h1
  refine J_aload_n cx dJ14_remove_0 rfl ?_
  refine J_callV (n := 0) cx (ci := 32) [] (t_J14_checkForComodification l Ω a ha i9 hi) dJ14_remove_1 (lw_V q1199 q1200 q1201 q110 q1202) ⟨rfl, by decide, by decide, by decide +kernel⟩ rfl hi rfl rfl ⟨Nat.le_of_ble_eq_true rfl, Nat.le_of_ble_eq_true rfl⟩ rfl rfl (Nat.le_of_ble_eq_true rfl) ⟨Nat.le_of_ble_eq_true rfl, Nat.le_of_ble_eq_true rfl⟩ (jdet ?_)
  refine J_aload_n cx dJ14_remove_4 rfl ?_
  refine J_get cx in_J14 (ci := 32) rfl 0 (by decide) q715 (fun _ h => h) dJ14_remove_5 hi rfl ?_
  refine J_ifnonnull (tgt := 19) cx dJ14_remove_8 (by decide) ?_
  refine J_aload_n cx dJ14_remove_19 rfl ?_
  refine J_get cx in_J14 (ci := 32) rfl 0 (by decide) q715 (fun _ h => h) dJ14_remove_20 hi rfl ?_
  refine J_get cx in_J27 (ci := 33) rfl 1 (by decide) q1247 (fun _ h => h) dJ14_remove_23 hx rfl ?_
  refine J_astore_nN1 cx dJ14_remove_26 (by decide) rfl ?_
  refine J_aload_n cx dJ14_remove_27 rfl ?_
  refine J_get cx in_J14 (ci := 32) rfl 4 (by decide) q719 (fun _ h => h) dJ14_remove_28 hi rfl ?_
  refine J_aload_n cx dJ14_remove_31 rfl ?_
  refine J_get cx in_J14 (ci := 32) rfl 0 (by decide) q715 (fun _ h => h) dJ14_remove_32 hi rfl ?_
  refine J_callV (n := 1) cx (ci := 29) [.ref x9] (t_J4_unlink_ZZ l Ω a x9 ha hx (by omega) (by omega) (by omega)) dJ14_remove_35 (lw_V q1470 q1405 q1406 q90 q1407) ⟨rfl, by decide, by decide, by decide +kernel⟩ rfl ha rfl rfl ⟨Nat.le_of_ble_eq_true rfl, Nat.le_of_ble_eq_true rfl⟩ rfl rfl (Nat.le_of_ble_eq_true rfl) ⟨Nat.le_of_ble_eq_true rfl, Nat.le_of_ble_eq_true rfl⟩ (jdet ?_)
  refine J_mem (gset (gset G x9 (.inr (33, [.null, .null, .null]))) a (.inr (29, [.int (mc9 + (nI (1))), .int (nI (n9 - 1)), .null, .null]))) rfl ?_
  refine J_pop cx dJ14_remove_38 rfl ?_
  refine J_aload_n cx dJ14_remove_39 rfl ?_
  refine J_get cx in_J14 (ci := 32) rfl 1 (by decide) q716 (fun _ h => h) dJ14_remove_40 ((gset_ne (by omega)).trans ((gset_ne (by omega)).trans hi)) rfl ?_
  refine J_aload_n cx dJ14_remove_43 rfl ?_
  refine J_get cx in_J14 (ci := 32) rfl 0 (by decide) q715 (fun _ h => h) dJ14_remove_44 ((gset_ne (by omega)).trans ((gset_ne (by omega)).trans hi)) rfl ?_
  refine J_acmp_ne (rx := none) (ry := some x9) (tgt := 58) cx dJ14_remove_47 (by decide) rfl rfl (fun h47 => ?_) (fun h47 => absurd h47 (by simp))
  refine J_aload_n cx dJ14_remove_58 rfl ?_
  refine J_dup cx dJ14_remove_59 rfl ?_
  refine J_get cx in_J14 (ci := 32) rfl 2 (by decide) q717 (fun _ h => h) dJ14_remove_60 ((gset_ne (by omega)).trans ((gset_ne (by omega)).trans hi)) rfl ?_
  refine J_iconst (v := nI (1)) cx dJ14_remove_63 (by decide) ?_
  refine J_isubN cx dJ14_remove_64 (by omega) ?_
  refine J_put cx in_J14 tyJ14 tyJ14_ok nmJ14 (ci := 32) rfl 2 (by decide) q717 (fun _ h => h) rfl (ty := .int) (by decide +kernel) dJ14_remove_65 rfl rfl ((gset_ne (by omega)).trans ((gset_ne (by omega)).trans hi)) (Nat.le_of_ble_eq_true rfl) (by omega) ?_
  refine J_mem (gset (gset (gset G x9 (.inr (33, [.null, .null, .null]))) a (.inr (29, [.int (mc9 + (nI (1))), .int (nI (n9 - 1)), .null, .null]))) i9 (.inr (32, [.ref x9, .null, .int (nI (ni9 - 1)), .int mc9, .ref a]))) rfl ?_
  refine J_aload_n cx dJ14_remove_68 rfl ?_
  refine J_null cx dJ14_remove_69 ?_
  refine J_put cx in_J14 tyJ14 tyJ14_ok nmJ14 (ci := 32) rfl 0 (by decide) q715 (fun _ h => h) rfl (ty := (.object "java/util/LinkedList$Node")) (by decide +kernel) dJ14_remove_70 rfl rfl gset_eq (Nat.le_of_ble_eq_true rfl) (by omega) ?_
  refine J_mem (gset (gset (gset G x9 (.inr (33, [.null, .null, .null]))) a (.inr (29, [.int (mc9 + (nI (1))), .int (nI (n9 - 1)), .null, .null]))) i9 (.inr (32, [.null, .null, .int (nI (ni9 - 1)), .int mc9, .ref a]))) gset_gset ?_
  refine J_aload_n cx dJ14_remove_73 rfl ?_
  refine J_dup cx dJ14_remove_74 rfl ?_
  refine J_get cx in_J14 (ci := 32) rfl 3 (by decide) q718 (fun _ h => h) dJ14_remove_75 gset_eq rfl ?_
  refine J_iconst (v := nI (1)) cx dJ14_remove_78 (by decide) ?_
  refine J_iadd cx dJ14_remove_79 ?_
  refine J_put cx in_J14 tyJ14 tyJ14_ok nmJ14 (ci := 32) rfl 3 (by decide) q718 (fun _ h => h) rfl (ty := .int) (by decide +kernel) dJ14_remove_80 rfl rfl gset_eq (Nat.le_of_ble_eq_true rfl) (by omega) ?_
  refine J_mem (gset (gset (gset G x9 (.inr (33, [.null, .null, .null]))) a (.inr (29, [.int (mc9 + (nI (1))), .int (nI (n9 - 1)), .null, .null]))) i9 (.inr (32, [.null, .null, .int (nI (ni9 - 1)), .int (mc9 + (nI (1))), .ref a]))) gset_gset ?_
  exact J_vret cx dJ14_remove_83 hr ⟨rfl, rfl, rfl⟩ (Nat.le_of_ble_eq_true rfl) (Nat.le_of_ble_eq_true rfl)
set_option maxHeartbeats 2000000 in
theorem t_J14_remove_ZR (l : Launch) (Ω : jO) {G : Mem} {sz : Nat} (a : Nat) {mc9 : Int32} {n9 it9 ni9 : Nat} {fi9 la9 : Value} (x9 i9 : Nat) {nx9 : Nat} {i29 x29 p29 : Value} (ha : G a = some (.inr (29, [.int mc9, .int (nI (n9)), fi9, la9]))) (hx : G x9 = some (.inr (33, [.ref it9, .ref nx9, .null]))) (hi : G i9 = some (.inr (32, [.ref x9, .ref nx9, .int (nI (ni9)), .int mc9, .ref a]))) (hnx : G nx9 = some (.inr (33, [i29, x29, p29]))) (hb : Ω.2.2.2 ≤ a) (hbx : Ω.2.2.2 ≤ x9) (hbi : Ω.2.2.2 ≤ i9) (hn1 : 1 ≤ n9) (hni : 1 ≤ ni9) (hbn : Ω.2.2.2 ≤ nx9) (hxn : x9 ≠ nx9) : Met l yJ14_remove (ws_ yJ14_remove cJ14_remove 2 none) ({ frames := 2, cells := 0, slots := 0, locals := 36 } : Room) (va_Pc [.ref i9] (jWd Ω G sz)) (jQ Ω (jD none (gset (gset (gset (gset G nx9 (.inr (33, [i29, x29, .null]))) x9 (.inr (33, [.null, .null, .null]))) a (.inr (29, [.int (mc9 + (nI (1))), .int (nI (n9 - 1)), .ref nx9, la9]))) i9 (.inr (32, [.null, .ref nx9, .int (nI (ni9 - 1)), .int (mc9 + (nI (1))), .ref a]))) (sz))) 0 0 (jB Ω) := by
  refine jMet (by decide) (Nat.le_of_ble_eq_true rfl) ?_
  intro p e s m args below meth c cx hr hnm
  refine J_loc [some (.ref i9), none] rfl ?_
  refine J_bs cx (fun hbs9 => ?_)
  refine J_lt ha (fun hlt0 => ?_)
  refine J_lt hx (fun hlt1 => ?_)
  refine J_lt hi (fun hlt2 => ?_)
  refine J_lt hnx (fun hlt3 => ?_)
  have hne0 : a ≠ x9 := fun e => by have h1 := ha; rw [e, hx] at h1; simp at h1
  have hne1 : a ≠ i9 := fun e => by have h1 := ha; rw [e, hi] at h1; simp at h1
  have hne2 : x9 ≠ i9 := fun e => by have h1 := hx; rw [e, hi] at h1; simp at h1
  have hne3 : a ≠ nx9 := fun e => by have h1 := ha; rw [e, hnx] at h1; simp at h1
  have hne4 : nx9 ≠ i9 := fun e => by have h1 := hnx; rw [e, hi] at h1; simp at h1
  refine J_aload_n cx dJ14_remove_0 rfl ?_
  refine J_callV (n := 0) cx (ci := 32) [] (t_J14_checkForComodification l Ω a ha i9 hi) dJ14_remove_1 (lw_V q1199 q1200 q1201 q110 q1202) ⟨rfl, by decide, by decide, by decide +kernel⟩ rfl hi rfl rfl ⟨Nat.le_of_ble_eq_true rfl, Nat.le_of_ble_eq_true rfl⟩ rfl rfl (Nat.le_of_ble_eq_true rfl) ⟨Nat.le_of_ble_eq_true rfl, Nat.le_of_ble_eq_true rfl⟩ (jdet ?_)
  refine J_aload_n cx dJ14_remove_4 rfl ?_
  refine J_get cx in_J14 (ci := 32) rfl 0 (by decide) q715 (fun _ h => h) dJ14_remove_5 hi rfl ?_
  refine J_ifnonnull (tgt := 19) cx dJ14_remove_8 (by decide) ?_
  refine J_aload_n cx dJ14_remove_19 rfl ?_
  refine J_get cx in_J14 (ci := 32) rfl 0 (by decide) q715 (fun _ h => h) dJ14_remove_20 hi rfl ?_
  refine J_get cx in_J27 (ci := 33) rfl 1 (by decide) q1247 (fun _ h => h) dJ14_remove_23 hx rfl ?_
  refine J_astore_n1 cx dJ14_remove_26 (by decide) rfl ?_
  refine J_aload_n cx dJ14_remove_27 rfl ?_
  refine J_get cx in_J14 (ci := 32) rfl 4 (by decide) q719 (fun _ h => h) dJ14_remove_28 hi rfl ?_
  refine J_aload_n cx dJ14_remove_31 rfl ?_
  refine J_get cx in_J14 (ci := 32) rfl 0 (by decide) q715 (fun _ h => h) dJ14_remove_32 hi rfl ?_
  refine J_callV (n := 1) cx (ci := 29) [.ref x9] (t_J4_unlink_ZR l Ω a x9 ha hx hnx (by omega) (by omega) (by omega) (by omega) (by omega)) dJ14_remove_35 (lw_V q1470 q1405 q1406 q90 q1407) ⟨rfl, by decide, by decide, by decide +kernel⟩ rfl ha rfl rfl ⟨Nat.le_of_ble_eq_true rfl, Nat.le_of_ble_eq_true rfl⟩ rfl rfl (Nat.le_of_ble_eq_true rfl) ⟨Nat.le_of_ble_eq_true rfl, Nat.le_of_ble_eq_true rfl⟩ (jdet ?_)
  refine J_mem (gset (gset (gset G nx9 (.inr (33, [i29, x29, .null]))) x9 (.inr (33, [.null, .null, .null]))) a (.inr (29, [.int (mc9 + (nI (1))), .int (nI (n9 - 1)), .ref nx9, la9]))) rfl ?_
  refine J_pop cx dJ14_remove_38 rfl ?_
  refine J_aload_n cx dJ14_remove_39 rfl ?_
  refine J_get cx in_J14 (ci := 32) rfl 1 (by decide) q716 (fun _ h => h) dJ14_remove_40 ((gset_ne (by omega)).trans ((gset_ne (by omega)).trans ((gset_ne (by omega)).trans hi))) rfl ?_
  refine J_aload_n cx dJ14_remove_43 rfl ?_
  refine J_get cx in_J14 (ci := 32) rfl 0 (by decide) q715 (fun _ h => h) dJ14_remove_44 ((gset_ne (by omega)).trans ((gset_ne (by omega)).trans ((gset_ne (by omega)).trans hi))) rfl ?_
  refine J_acmp_ne (rx := some nx9) (ry := some x9) (tgt := 58) cx dJ14_remove_47 (by decide) rfl rfl (fun h47 => ?_) (fun h47 => absurd h47 (by simp; omega))
  refine J_aload_n cx dJ14_remove_58 rfl ?_
  refine J_dup cx dJ14_remove_59 rfl ?_
  refine J_get cx in_J14 (ci := 32) rfl 2 (by decide) q717 (fun _ h => h) dJ14_remove_60 ((gset_ne (by omega)).trans ((gset_ne (by omega)).trans ((gset_ne (by omega)).trans hi))) rfl ?_
  refine J_iconst (v := nI (1)) cx dJ14_remove_63 (by decide) ?_
  refine J_isubN cx dJ14_remove_64 (by omega) ?_
  refine J_put cx in_J14 tyJ14 tyJ14_ok nmJ14 (ci := 32) rfl 2 (by decide) q717 (fun _ h => h) rfl (ty := .int) (by decide +kernel) dJ14_remove_65 rfl rfl ((gset_ne (by omega)).trans ((gset_ne (by omega)).trans ((gset_ne (by omega)).trans hi))) (Nat.le_of_ble_eq_true rfl) (by omega) ?_
  refine J_mem (gset (gset (gset (gset G nx9 (.inr (33, [i29, x29, .null]))) x9 (.inr (33, [.null, .null, .null]))) a (.inr (29, [.int (mc9 + (nI (1))), .int (nI (n9 - 1)), .ref nx9, la9]))) i9 (.inr (32, [.ref x9, .ref nx9, .int (nI (ni9 - 1)), .int mc9, .ref a]))) rfl ?_
  refine J_aload_n cx dJ14_remove_68 rfl ?_
  refine J_null cx dJ14_remove_69 ?_
  refine J_put cx in_J14 tyJ14 tyJ14_ok nmJ14 (ci := 32) rfl 0 (by decide) q715 (fun _ h => h) rfl (ty := (.object "java/util/LinkedList$Node")) (by decide +kernel) dJ14_remove_70 rfl rfl gset_eq (Nat.le_of_ble_eq_true rfl) (by omega) ?_
  refine J_mem (gset (gset (gset (gset G nx9 (.inr (33, [i29, x29, .null]))) x9 (.inr (33, [.null, .null, .null]))) a (.inr (29, [.int (mc9 + (nI (1))), .int (nI (n9 - 1)), .ref nx9, la9]))) i9 (.inr (32, [.null, .ref nx9, .int (nI (ni9 - 1)), .int mc9, .ref a]))) gset_gset ?_
  refine J_aload_n cx dJ14_remove_73 rfl ?_
  refine J_dup cx dJ14_remove_74 rfl ?_
  refine J_get cx in_J14 (ci := 32) rfl 3 (by decide) q718 (fun _ h => h) dJ14_remove_75 gset_eq rfl ?_
  refine J_iconst (v := nI (1)) cx dJ14_remove_78 (by decide) ?_
  refine J_iadd cx dJ14_remove_79 ?_
  refine J_put cx in_J14 tyJ14 tyJ14_ok nmJ14 (ci := 32) rfl 3 (by decide) q718 (fun _ h => h) rfl (ty := .int) (by decide +kernel) dJ14_remove_80 rfl rfl gset_eq (Nat.le_of_ble_eq_true rfl) (by omega) ?_
  refine J_mem (gset (gset (gset (gset G nx9 (.inr (33, [i29, x29, .null]))) x9 (.inr (33, [.null, .null, .null]))) a (.inr (29, [.int (mc9 + (nI (1))), .int (nI (n9 - 1)), .ref nx9, la9]))) i9 (.inr (32, [.null, .ref nx9, .int (nI (ni9 - 1)), .int (mc9 + (nI (1))), .ref a]))) gset_gset ?_
  exact J_vret cx dJ14_remove_83 hr ⟨rfl, rfl, rfl⟩ (Nat.le_of_ble_eq_true rfl) (Nat.le_of_ble_eq_true rfl)
set_option maxHeartbeats 2000000 in
theorem t_J14_remove_RZ (l : Launch) (Ω : jO) {G : Mem} {sz : Nat} (a : Nat) {mc9 : Int32} {n9 it9 ni9 : Nat} {fi9 la9 : Value} (x9 i9 : Nat) {pv9 : Nat} {i39 x39 p39 : Value} (ha : G a = some (.inr (29, [.int mc9, .int (nI (n9)), fi9, la9]))) (hx : G x9 = some (.inr (33, [.ref it9, .null, .ref pv9]))) (hi : G i9 = some (.inr (32, [.ref x9, .null, .int (nI (ni9)), .int mc9, .ref a]))) (hpv : G pv9 = some (.inr (33, [i39, x39, p39]))) (hb : Ω.2.2.2 ≤ a) (hbx : Ω.2.2.2 ≤ x9) (hbi : Ω.2.2.2 ≤ i9) (hn1 : 1 ≤ n9) (hni : 1 ≤ ni9) (hbp : Ω.2.2.2 ≤ pv9) (hxp : x9 ≠ pv9) : Met l yJ14_remove (ws_ yJ14_remove cJ14_remove 2 none) ({ frames := 2, cells := 0, slots := 0, locals := 36 } : Room) (va_Pc [.ref i9] (jWd Ω G sz)) (jQ Ω (jD none (gset (gset (gset (gset G pv9 (.inr (33, [i39, .null, p39]))) x9 (.inr (33, [.null, .null, .null]))) a (.inr (29, [.int (mc9 + (nI (1))), .int (nI (n9 - 1)), fi9, .ref pv9]))) i9 (.inr (32, [.null, .null, .int (nI (ni9 - 1)), .int (mc9 + (nI (1))), .ref a]))) (sz))) 0 0 (jB Ω) := by
  refine jMet (by decide) (Nat.le_of_ble_eq_true rfl) ?_
  intro p e s m args below meth c cx hr hnm
  refine J_loc [some (.ref i9), none] rfl ?_
  refine J_bs cx (fun hbs9 => ?_)
  refine J_lt ha (fun hlt0 => ?_)
  refine J_lt hx (fun hlt1 => ?_)
  refine J_lt hi (fun hlt2 => ?_)
  refine J_lt hpv (fun hlt3 => ?_)
  have hne0 : a ≠ x9 := fun e => by have h1 := ha; rw [e, hx] at h1; simp at h1
  have hne1 : a ≠ i9 := fun e => by have h1 := ha; rw [e, hi] at h1; simp at h1
  have hne2 : x9 ≠ i9 := fun e => by have h1 := hx; rw [e, hi] at h1; simp at h1
  have hne3 : a ≠ pv9 := fun e => by have h1 := ha; rw [e, hpv] at h1; simp at h1
  have hne4 : pv9 ≠ i9 := fun e => by have h1 := hpv; rw [e, hi] at h1; simp at h1
  refine J_aload_n cx dJ14_remove_0 rfl ?_
  refine J_callV (n := 0) cx (ci := 32) [] (t_J14_checkForComodification l Ω a ha i9 hi) dJ14_remove_1 (lw_V q1199 q1200 q1201 q110 q1202) ⟨rfl, by decide, by decide, by decide +kernel⟩ rfl hi rfl rfl ⟨Nat.le_of_ble_eq_true rfl, Nat.le_of_ble_eq_true rfl⟩ rfl rfl (Nat.le_of_ble_eq_true rfl) ⟨Nat.le_of_ble_eq_true rfl, Nat.le_of_ble_eq_true rfl⟩ (jdet ?_)
  refine J_aload_n cx dJ14_remove_4 rfl ?_
  refine J_get cx in_J14 (ci := 32) rfl 0 (by decide) q715 (fun _ h => h) dJ14_remove_5 hi rfl ?_
  refine J_ifnonnull (tgt := 19) cx dJ14_remove_8 (by decide) ?_
  refine J_aload_n cx dJ14_remove_19 rfl ?_
  refine J_get cx in_J14 (ci := 32) rfl 0 (by decide) q715 (fun _ h => h) dJ14_remove_20 hi rfl ?_
  refine J_get cx in_J27 (ci := 33) rfl 1 (by decide) q1247 (fun _ h => h) dJ14_remove_23 hx rfl ?_
  refine J_astore_nN1 cx dJ14_remove_26 (by decide) rfl ?_
  refine J_aload_n cx dJ14_remove_27 rfl ?_
  refine J_get cx in_J14 (ci := 32) rfl 4 (by decide) q719 (fun _ h => h) dJ14_remove_28 hi rfl ?_
  refine J_aload_n cx dJ14_remove_31 rfl ?_
  refine J_get cx in_J14 (ci := 32) rfl 0 (by decide) q715 (fun _ h => h) dJ14_remove_32 hi rfl ?_
  refine J_callV (n := 1) cx (ci := 29) [.ref x9] (t_J4_unlink_RZ l Ω a x9 ha hx hpv (by omega) (by omega) (by omega) (by omega) (by omega)) dJ14_remove_35 (lw_V q1470 q1405 q1406 q90 q1407) ⟨rfl, by decide, by decide, by decide +kernel⟩ rfl ha rfl rfl ⟨Nat.le_of_ble_eq_true rfl, Nat.le_of_ble_eq_true rfl⟩ rfl rfl (Nat.le_of_ble_eq_true rfl) ⟨Nat.le_of_ble_eq_true rfl, Nat.le_of_ble_eq_true rfl⟩ (jdet ?_)
  refine J_mem (gset (gset (gset G pv9 (.inr (33, [i39, .null, p39]))) x9 (.inr (33, [.null, .null, .null]))) a (.inr (29, [.int (mc9 + (nI (1))), .int (nI (n9 - 1)), fi9, .ref pv9]))) rfl ?_
  refine J_pop cx dJ14_remove_38 rfl ?_
  refine J_aload_n cx dJ14_remove_39 rfl ?_
  refine J_get cx in_J14 (ci := 32) rfl 1 (by decide) q716 (fun _ h => h) dJ14_remove_40 ((gset_ne (by omega)).trans ((gset_ne (by omega)).trans ((gset_ne (by omega)).trans hi))) rfl ?_
  refine J_aload_n cx dJ14_remove_43 rfl ?_
  refine J_get cx in_J14 (ci := 32) rfl 0 (by decide) q715 (fun _ h => h) dJ14_remove_44 ((gset_ne (by omega)).trans ((gset_ne (by omega)).trans ((gset_ne (by omega)).trans hi))) rfl ?_
  refine J_acmp_ne (rx := none) (ry := some x9) (tgt := 58) cx dJ14_remove_47 (by decide) rfl rfl (fun h47 => ?_) (fun h47 => absurd h47 (by simp))
  refine J_aload_n cx dJ14_remove_58 rfl ?_
  refine J_dup cx dJ14_remove_59 rfl ?_
  refine J_get cx in_J14 (ci := 32) rfl 2 (by decide) q717 (fun _ h => h) dJ14_remove_60 ((gset_ne (by omega)).trans ((gset_ne (by omega)).trans ((gset_ne (by omega)).trans hi))) rfl ?_
  refine J_iconst (v := nI (1)) cx dJ14_remove_63 (by decide) ?_
  refine J_isubN cx dJ14_remove_64 (by omega) ?_
  refine J_put cx in_J14 tyJ14 tyJ14_ok nmJ14 (ci := 32) rfl 2 (by decide) q717 (fun _ h => h) rfl (ty := .int) (by decide +kernel) dJ14_remove_65 rfl rfl ((gset_ne (by omega)).trans ((gset_ne (by omega)).trans ((gset_ne (by omega)).trans hi))) (Nat.le_of_ble_eq_true rfl) (by omega) ?_
  refine J_mem (gset (gset (gset (gset G pv9 (.inr (33, [i39, .null, p39]))) x9 (.inr (33, [.null, .null, .null]))) a (.inr (29, [.int (mc9 + (nI (1))), .int (nI (n9 - 1)), fi9, .ref pv9]))) i9 (.inr (32, [.ref x9, .null, .int (nI (ni9 - 1)), .int mc9, .ref a]))) rfl ?_
  refine J_aload_n cx dJ14_remove_68 rfl ?_
  refine J_null cx dJ14_remove_69 ?_
  refine J_put cx in_J14 tyJ14 tyJ14_ok nmJ14 (ci := 32) rfl 0 (by decide) q715 (fun _ h => h) rfl (ty := (.object "java/util/LinkedList$Node")) (by decide +kernel) dJ14_remove_70 rfl rfl gset_eq (Nat.le_of_ble_eq_true rfl) (by omega) ?_
  refine J_mem (gset (gset (gset (gset G pv9 (.inr (33, [i39, .null, p39]))) x9 (.inr (33, [.null, .null, .null]))) a (.inr (29, [.int (mc9 + (nI (1))), .int (nI (n9 - 1)), fi9, .ref pv9]))) i9 (.inr (32, [.null, .null, .int (nI (ni9 - 1)), .int mc9, .ref a]))) gset_gset ?_
  refine J_aload_n cx dJ14_remove_73 rfl ?_
  refine J_dup cx dJ14_remove_74 rfl ?_
  refine J_get cx in_J14 (ci := 32) rfl 3 (by decide) q718 (fun _ h => h) dJ14_remove_75 gset_eq rfl ?_
  refine J_iconst (v := nI (1)) cx dJ14_remove_78 (by decide) ?_
  refine J_iadd cx dJ14_remove_79 ?_
  refine J_put cx in_J14 tyJ14 tyJ14_ok nmJ14 (ci := 32) rfl 3 (by decide) q718 (fun _ h => h) rfl (ty := .int) (by decide +kernel) dJ14_remove_80 rfl rfl gset_eq (Nat.le_of_ble_eq_true rfl) (by omega) ?_
  refine J_mem (gset (gset (gset (gset G pv9 (.inr (33, [i39, .null, p39]))) x9 (.inr (33, [.null, .null, .null]))) a (.inr (29, [.int (mc9 + (nI (1))), .int (nI (n9 - 1)), fi9, .ref pv9]))) i9 (.inr (32, [.null, .null, .int (nI (ni9 - 1)), .int (mc9 + (nI (1))), .ref a]))) gset_gset ?_
  exact J_vret cx dJ14_remove_83 hr ⟨rfl, rfl, rfl⟩ (Nat.le_of_ble_eq_true rfl) (Nat.le_of_ble_eq_true rfl)
set_option maxHeartbeats 2000000 in
theorem t_J14_remove_RR (l : Launch) (Ω : jO) {G : Mem} {sz : Nat} (a : Nat) {mc9 : Int32} {n9 it9 ni9 : Nat} {fi9 la9 : Value} (x9 i9 : Nat) {nx9 : Nat} {i29 x29 p29 : Value} {pv9 : Nat} {i39 x39 p39 : Value} (ha : G a = some (.inr (29, [.int mc9, .int (nI (n9)), fi9, la9]))) (hx : G x9 = some (.inr (33, [.ref it9, .ref nx9, .ref pv9]))) (hi : G i9 = some (.inr (32, [.ref x9, .ref nx9, .int (nI (ni9)), .int mc9, .ref a]))) (hnx : G nx9 = some (.inr (33, [i29, x29, p29]))) (hpv : G pv9 = some (.inr (33, [i39, x39, p39]))) (hb : Ω.2.2.2 ≤ a) (hbx : Ω.2.2.2 ≤ x9) (hbi : Ω.2.2.2 ≤ i9) (hn1 : 1 ≤ n9) (hni : 1 ≤ ni9) (hbn : Ω.2.2.2 ≤ nx9) (hxn : x9 ≠ nx9) (hbp : Ω.2.2.2 ≤ pv9) (hxp : x9 ≠ pv9) (hpn : pv9 ≠ nx9) : Met l yJ14_remove (ws_ yJ14_remove cJ14_remove 2 none) ({ frames := 2, cells := 0, slots := 0, locals := 36 } : Room) (va_Pc [.ref i9] (jWd Ω G sz)) (jQ Ω (jD none (gset (gset (gset (gset (gset G pv9 (.inr (33, [i39, .ref nx9, p39]))) nx9 (.inr (33, [i29, x29, .ref pv9]))) x9 (.inr (33, [.null, .null, .null]))) a (.inr (29, [.int (mc9 + (nI (1))), .int (nI (n9 - 1)), fi9, la9]))) i9 (.inr (32, [.null, .ref nx9, .int (nI (ni9 - 1)), .int (mc9 + (nI (1))), .ref a]))) (sz))) 0 0 (jB Ω) := by
  refine jMet (by decide) (Nat.le_of_ble_eq_true rfl) ?_
  intro p e s m args below meth c cx hr hnm
  refine J_loc [some (.ref i9), none] rfl ?_
  refine J_bs cx (fun hbs9 => ?_)
  refine J_lt ha (fun hlt0 => ?_)
  refine J_lt hx (fun hlt1 => ?_)
  refine J_lt hi (fun hlt2 => ?_)
  refine J_lt hnx (fun hlt3 => ?_)
  refine J_lt hpv (fun hlt4 => ?_)
  have hne0 : a ≠ x9 := fun e => by have h1 := ha; rw [e, hx] at h1; simp at h1
  have hne1 : a ≠ i9 := fun e => by have h1 := ha; rw [e, hi] at h1; simp at h1
  have hne2 : x9 ≠ i9 := fun e => by have h1 := hx; rw [e, hi] at h1; simp at h1
  have hne3 : a ≠ nx9 := fun e => by have h1 := ha; rw [e, hnx] at h1; simp at h1
  have hne4 : nx9 ≠ i9 := fun e => by have h1 := hnx; rw [e, hi] at h1; simp at h1
  have hne5 : a ≠ pv9 := fun e => by have h1 := ha; rw [e, hpv] at h1; simp at h1
  have hne6 : pv9 ≠ i9 := fun e => by have h1 := hpv; rw [e, hi] at h1; simp at h1
  refine J_aload_n cx dJ14_remove_0 rfl ?_
  refine J_callV (n := 0) cx (ci := 32) [] (t_J14_checkForComodification l Ω a ha i9 hi) dJ14_remove_1 (lw_V q1199 q1200 q1201 q110 q1202) ⟨rfl, by decide, by decide, by decide +kernel⟩ rfl hi rfl rfl ⟨Nat.le_of_ble_eq_true rfl, Nat.le_of_ble_eq_true rfl⟩ rfl rfl (Nat.le_of_ble_eq_true rfl) ⟨Nat.le_of_ble_eq_true rfl, Nat.le_of_ble_eq_true rfl⟩ (jdet ?_)
  refine J_aload_n cx dJ14_remove_4 rfl ?_
  refine J_get cx in_J14 (ci := 32) rfl 0 (by decide) q715 (fun _ h => h) dJ14_remove_5 hi rfl ?_
  refine J_ifnonnull (tgt := 19) cx dJ14_remove_8 (by decide) ?_
  refine J_aload_n cx dJ14_remove_19 rfl ?_
  refine J_get cx in_J14 (ci := 32) rfl 0 (by decide) q715 (fun _ h => h) dJ14_remove_20 hi rfl ?_
  refine J_get cx in_J27 (ci := 33) rfl 1 (by decide) q1247 (fun _ h => h) dJ14_remove_23 hx rfl ?_
  refine J_astore_n1 cx dJ14_remove_26 (by decide) rfl ?_
  refine J_aload_n cx dJ14_remove_27 rfl ?_
  refine J_get cx in_J14 (ci := 32) rfl 4 (by decide) q719 (fun _ h => h) dJ14_remove_28 hi rfl ?_
  refine J_aload_n cx dJ14_remove_31 rfl ?_
  refine J_get cx in_J14 (ci := 32) rfl 0 (by decide) q715 (fun _ h => h) dJ14_remove_32 hi rfl ?_
  refine J_callV (n := 1) cx (ci := 29) [.ref x9] (t_J4_unlink_RR l Ω a x9 ha hx hnx hpv (by omega) (by omega) (by omega) (by omega) (by omega) (by omega) (by omega) (by omega)) dJ14_remove_35 (lw_V q1470 q1405 q1406 q90 q1407) ⟨rfl, by decide, by decide, by decide +kernel⟩ rfl ha rfl rfl ⟨Nat.le_of_ble_eq_true rfl, Nat.le_of_ble_eq_true rfl⟩ rfl rfl (Nat.le_of_ble_eq_true rfl) ⟨Nat.le_of_ble_eq_true rfl, Nat.le_of_ble_eq_true rfl⟩ (jdet ?_)
  refine J_mem (gset (gset (gset (gset G pv9 (.inr (33, [i39, .ref nx9, p39]))) nx9 (.inr (33, [i29, x29, .ref pv9]))) x9 (.inr (33, [.null, .null, .null]))) a (.inr (29, [.int (mc9 + (nI (1))), .int (nI (n9 - 1)), fi9, la9]))) rfl ?_
  refine J_pop cx dJ14_remove_38 rfl ?_
  refine J_aload_n cx dJ14_remove_39 rfl ?_
  refine J_get cx in_J14 (ci := 32) rfl 1 (by decide) q716 (fun _ h => h) dJ14_remove_40 ((gset_ne (by omega)).trans ((gset_ne (by omega)).trans ((gset_ne (by omega)).trans ((gset_ne (by omega)).trans hi)))) rfl ?_
  refine J_aload_n cx dJ14_remove_43 rfl ?_
  refine J_get cx in_J14 (ci := 32) rfl 0 (by decide) q715 (fun _ h => h) dJ14_remove_44 ((gset_ne (by omega)).trans ((gset_ne (by omega)).trans ((gset_ne (by omega)).trans ((gset_ne (by omega)).trans hi)))) rfl ?_
  refine J_acmp_ne (rx := some nx9) (ry := some x9) (tgt := 58) cx dJ14_remove_47 (by decide) rfl rfl (fun h47 => ?_) (fun h47 => absurd h47 (by simp; omega))
  refine J_aload_n cx dJ14_remove_58 rfl ?_
  refine J_dup cx dJ14_remove_59 rfl ?_
  refine J_get cx in_J14 (ci := 32) rfl 2 (by decide) q717 (fun _ h => h) dJ14_remove_60 ((gset_ne (by omega)).trans ((gset_ne (by omega)).trans ((gset_ne (by omega)).trans ((gset_ne (by omega)).trans hi)))) rfl ?_
  refine J_iconst (v := nI (1)) cx dJ14_remove_63 (by decide) ?_
  refine J_isubN cx dJ14_remove_64 (by omega) ?_
  refine J_put cx in_J14 tyJ14 tyJ14_ok nmJ14 (ci := 32) rfl 2 (by decide) q717 (fun _ h => h) rfl (ty := .int) (by decide +kernel) dJ14_remove_65 rfl rfl ((gset_ne (by omega)).trans ((gset_ne (by omega)).trans ((gset_ne (by omega)).trans ((gset_ne (by omega)).trans hi)))) (Nat.le_of_ble_eq_true rfl) (by omega) ?_
  refine J_mem (gset (gset (gset (gset (gset G pv9 (.inr (33, [i39, .ref nx9, p39]))) nx9 (.inr (33, [i29, x29, .ref pv9]))) x9 (.inr (33, [.null, .null, .null]))) a (.inr (29, [.int (mc9 + (nI (1))), .int (nI (n9 - 1)), fi9, la9]))) i9 (.inr (32, [.ref x9, .ref nx9, .int (nI (ni9 - 1)), .int mc9, .ref a]))) rfl ?_
  refine J_aload_n cx dJ14_remove_68 rfl ?_
  refine J_null cx dJ14_remove_69 ?_
  refine J_put cx in_J14 tyJ14 tyJ14_ok nmJ14 (ci := 32) rfl 0 (by decide) q715 (fun _ h => h) rfl (ty := (.object "java/util/LinkedList$Node")) (by decide +kernel) dJ14_remove_70 rfl rfl gset_eq (Nat.le_of_ble_eq_true rfl) (by omega) ?_
  refine J_mem (gset (gset (gset (gset (gset G pv9 (.inr (33, [i39, .ref nx9, p39]))) nx9 (.inr (33, [i29, x29, .ref pv9]))) x9 (.inr (33, [.null, .null, .null]))) a (.inr (29, [.int (mc9 + (nI (1))), .int (nI (n9 - 1)), fi9, la9]))) i9 (.inr (32, [.null, .ref nx9, .int (nI (ni9 - 1)), .int mc9, .ref a]))) gset_gset ?_
  refine J_aload_n cx dJ14_remove_73 rfl ?_
  refine J_dup cx dJ14_remove_74 rfl ?_
  refine J_get cx in_J14 (ci := 32) rfl 3 (by decide) q718 (fun _ h => h) dJ14_remove_75 gset_eq rfl ?_
  refine J_iconst (v := nI (1)) cx dJ14_remove_78 (by decide) ?_
  refine J_iadd cx dJ14_remove_79 ?_
  refine J_put cx in_J14 tyJ14 tyJ14_ok nmJ14 (ci := 32) rfl 3 (by decide) q718 (fun _ h => h) rfl (ty := .int) (by decide +kernel) dJ14_remove_80 rfl rfl gset_eq (Nat.le_of_ble_eq_true rfl) (by omega) ?_
  refine J_mem (gset (gset (gset (gset (gset G pv9 (.inr (33, [i39, .ref nx9, p39]))) nx9 (.inr (33, [i29, x29, .ref pv9]))) x9 (.inr (33, [.null, .null, .null]))) a (.inr (29, [.int (mc9 + (nI (1))), .int (nI (n9 - 1)), fi9, la9]))) i9 (.inr (32, [.null, .ref nx9, .int (nI (ni9 - 1)), .int (mc9 + (nI (1))), .ref a]))) gset_gset ?_
  exact J_vret cx dJ14_remove_83 hr ⟨rfl, rfl, rfl⟩ (Nat.le_of_ble_eq_true rfl) (Nat.le_of_ble_eq_true rfl)
