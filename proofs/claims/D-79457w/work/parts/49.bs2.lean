/-! JDK 9 (gen/mk_x2.py): BitSet's rest -/
set_option maxRecDepth 100000
theorem lgc0 {x : Int64} (h : x = 0) : lg_cmp x 0 = 0 := by rw [h]; rfl
set_option maxHeartbeats 1000000 in
theorem t_J34_recalc_0 (l : Launch) (Ω : jO) {G : Mem} {sz : Nat} (a : Nat) {wa9 : Nat} (ha : G a = some (.inr (35, [.ref wa9, .int (nI (0)), .int 0]))) {f9 : Nat → Int64} (hw : G wa9 = some (.inl (Ω.2.1 3, 1, .inr (.inl f9)))) (hb : Ω.2.2.2 ≤ a) : Met l yJ34_recalculateWordsInUse (ws_ yJ34_recalculateWordsInUse cJ34_recalculateWordsInUse 2 none) ({ frames := 1, cells := 0, slots := 0, locals := 12 } : Room) (va_Pc [.ref a] (jWd Ω G sz)) (jQ Ω (jD none (gset G a (.inr (35, [.ref wa9, .int (nI (0)), .int 0]))) (sz))) 0 0 (jB Ω) := by
  refine jMet (by decide) (Nat.le_of_ble_eq_true rfl) ?_
  intro p e s m args below meth c cx hr hnm
  refine J_loc [some (.ref a), none] rfl ?_
  refine J_bs cx (fun hbs9 => ?_)
  refine J_lt ha (fun hlt0 => ?_)
  refine J_lt hw (fun hlt1 => ?_)
  have hne0 : a ≠ wa9 := fun e => by have h1 := ha; rw [e, hw] at h1; simp at h1
  refine J_aload_n cx dJ34_recalculateWordsInUse_0 rfl ?_
  refine J_get cx in_J34 (ci := 35) rfl 1 (by decide) q1786 (fun _ h => h) dJ34_recalculateWordsInUse_1 ha rfl ?_
  refine J_iconst (v := nI (1)) cx dJ34_recalculateWordsInUse_4 (by decide) ?_
  refine J_isub cx dJ34_recalculateWordsInUse_5 ?_
  refine J_top (.int (-1)) rfl ?_
  refine J_istore_n1 cx dJ34_recalculateWordsInUse_6 (by decide) rfl ?_
  refine J_iload_n cx dJ34_recalculateWordsInUse_7 rfl ?_
  refine J_if_lt (tgt := 31) cx dJ34_recalculateWordsInUse_8 (by decide) (fun c8 => ?_) (fun c8 => absurd c8 (by decide))
  refine J_aload_n cx dJ34_recalculateWordsInUse_31 rfl ?_
  refine J_iload_n cx dJ34_recalculateWordsInUse_32 rfl ?_
  refine J_iconst (v := nI (1)) cx dJ34_recalculateWordsInUse_33 (by decide) ?_
  refine J_iadd cx dJ34_recalculateWordsInUse_34 ?_
  refine J_top (.int (nI (0))) rfl ?_
  refine J_put cx in_J34 tyJ34 tyJ34_ok nmJ34 (ci := 35) rfl 1 (by decide) q1786 (fun _ h => h) rfl (ty := .int) (by decide +kernel) dJ34_recalculateWordsInUse_35 rfl rfl ha (Nat.le_of_ble_eq_true rfl) (by omega) ?_
  refine J_mem (gset G a (.inr (35, [.ref wa9, .int (nI (0)), .int 0]))) rfl ?_
  exact J_vret cx dJ34_recalculateWordsInUse_38 hr ⟨rfl, rfl, rfl⟩ (Nat.le_of_ble_eq_true rfl) (Nat.le_of_ble_eq_true rfl)
set_option maxHeartbeats 1000000 in
theorem t_J34_recalc_1z (l : Launch) (Ω : jO) {G : Mem} {sz : Nat} (a : Nat) {wa9 : Nat} (ha : G a = some (.inr (35, [.ref wa9, .int (nI (1)), .int 0]))) {f9 : Nat → Int64} (hw : G wa9 = some (.inl (Ω.2.1 3, 1, .inr (.inl f9)))) (hb : Ω.2.2.2 ≤ a) (hz : f9 0 = 0) : Met l yJ34_recalculateWordsInUse (ws_ yJ34_recalculateWordsInUse cJ34_recalculateWordsInUse 2 none) ({ frames := 1, cells := 0, slots := 0, locals := 12 } : Room) (va_Pc [.ref a] (jWd Ω G sz)) (jQ Ω (jD none (gset G a (.inr (35, [.ref wa9, .int (nI (0)), .int 0]))) (sz))) 0 0 (jB Ω) := by
  refine jMet (by decide) (Nat.le_of_ble_eq_true rfl) ?_
  intro p e s m args below meth c cx hr hnm
  refine J_loc [some (.ref a), none] rfl ?_
  refine J_bs cx (fun hbs9 => ?_)
  refine J_lt ha (fun hlt0 => ?_)
  refine J_lt hw (fun hlt1 => ?_)
  have hne0 : a ≠ wa9 := fun e => by have h1 := ha; rw [e, hw] at h1; simp at h1
  refine J_aload_n cx dJ34_recalculateWordsInUse_0 rfl ?_
  refine J_get cx in_J34 (ci := 35) rfl 1 (by decide) q1786 (fun _ h => h) dJ34_recalculateWordsInUse_1 ha rfl ?_
  refine J_iconst (v := nI (1)) cx dJ34_recalculateWordsInUse_4 (by decide) ?_
  refine J_isubN cx dJ34_recalculateWordsInUse_5 (by omega) ?_
  refine J_top (.int (nI (0))) rfl ?_
  refine J_istore_n1 cx dJ34_recalculateWordsInUse_6 (by decide) rfl ?_
  refine J_iload_n cx dJ34_recalculateWordsInUse_7 rfl ?_
  refine J_if_lt (tgt := 31) cx dJ34_recalculateWordsInUse_8 (by decide) (fun c8 => absurd c8 (by decide)) (fun c8 => ?_)
  refine J_aload_n cx dJ34_recalculateWordsInUse_11 rfl ?_
  refine J_get cx in_J34 (ci := 35) rfl 0 (by decide) q1785 (fun _ h => h) dJ34_recalculateWordsInUse_12 ha rfl ?_
  refine J_iload_n cx dJ34_recalculateWordsInUse_15 rfl ?_
  refine J_lald cx dJ34_recalculateWordsInUse_16 hw (by omega) (by omega) ?_
  refine J_lconst (v := 0) cx dJ34_recalculateWordsInUse_17 rfl ?_
  refine J_lcmp cx dJ34_recalculateWordsInUse_18 ?_
  refine J_if_eq (tgt := 25) cx dJ34_recalculateWordsInUse_19 (by decide) (fun c19 => ?_) (fun c19 => absurd c19 (by rw [lgc0 hz]; decide))
  refine J_iinc1 (v := (nI (0)) + -1) cx dJ34_recalculateWordsInUse_25 (by rfl) (by decide) rfl ?_
  refine J_loc [some (.ref a), some (.int (-1))] rfl ?_
  refine J_goto (tgt := 7) cx dJ34_recalculateWordsInUse_28 (by decide) ?_
  refine J_iload_n cx dJ34_recalculateWordsInUse_7 rfl ?_
  refine J_if_lt (tgt := 31) cx dJ34_recalculateWordsInUse_8 (by decide) (fun c8 => ?_) (fun c8 => absurd c8 (by decide))
  refine J_aload_n cx dJ34_recalculateWordsInUse_31 rfl ?_
  refine J_iload_n cx dJ34_recalculateWordsInUse_32 rfl ?_
  refine J_iconst (v := nI (1)) cx dJ34_recalculateWordsInUse_33 (by decide) ?_
  refine J_iadd cx dJ34_recalculateWordsInUse_34 ?_
  refine J_top (.int (nI (0))) rfl ?_
  refine J_put cx in_J34 tyJ34 tyJ34_ok nmJ34 (ci := 35) rfl 1 (by decide) q1786 (fun _ h => h) rfl (ty := .int) (by decide +kernel) dJ34_recalculateWordsInUse_35 rfl rfl ha (Nat.le_of_ble_eq_true rfl) (by omega) ?_
  refine J_mem (gset G a (.inr (35, [.ref wa9, .int (nI (0)), .int 0]))) rfl ?_
  exact J_vret cx dJ34_recalculateWordsInUse_38 hr ⟨rfl, rfl, rfl⟩ (Nat.le_of_ble_eq_true rfl) (Nat.le_of_ble_eq_true rfl)
set_option maxHeartbeats 1000000 in
theorem t_J34_recalc_1n (l : Launch) (Ω : jO) {G : Mem} {sz : Nat} (a : Nat) {wa9 : Nat} (ha : G a = some (.inr (35, [.ref wa9, .int (nI (1)), .int 0]))) {f9 : Nat → Int64} (hw : G wa9 = some (.inl (Ω.2.1 3, 1, .inr (.inl f9)))) (hb : Ω.2.2.2 ≤ a) (hz : ¬ lg_cmp (f9 0) 0 = 0) : Met l yJ34_recalculateWordsInUse (ws_ yJ34_recalculateWordsInUse cJ34_recalculateWordsInUse 2 none) ({ frames := 1, cells := 0, slots := 0, locals := 12 } : Room) (va_Pc [.ref a] (jWd Ω G sz)) (jQ Ω (jD none (gset G a (.inr (35, [.ref wa9, .int (nI (1)), .int 0]))) (sz))) 0 0 (jB Ω) := by
  refine jMet (by decide) (Nat.le_of_ble_eq_true rfl) ?_
  intro p e s m args below meth c cx hr hnm
  refine J_loc [some (.ref a), none] rfl ?_
  refine J_bs cx (fun hbs9 => ?_)
  refine J_lt ha (fun hlt0 => ?_)
  refine J_lt hw (fun hlt1 => ?_)
  have hne0 : a ≠ wa9 := fun e => by have h1 := ha; rw [e, hw] at h1; simp at h1
  refine J_aload_n cx dJ34_recalculateWordsInUse_0 rfl ?_
  refine J_get cx in_J34 (ci := 35) rfl 1 (by decide) q1786 (fun _ h => h) dJ34_recalculateWordsInUse_1 ha rfl ?_
  refine J_iconst (v := nI (1)) cx dJ34_recalculateWordsInUse_4 (by decide) ?_
  refine J_isubN cx dJ34_recalculateWordsInUse_5 (by omega) ?_
  refine J_top (.int (nI (0))) rfl ?_
  refine J_istore_n1 cx dJ34_recalculateWordsInUse_6 (by decide) rfl ?_
  refine J_iload_n cx dJ34_recalculateWordsInUse_7 rfl ?_
  refine J_if_lt (tgt := 31) cx dJ34_recalculateWordsInUse_8 (by decide) (fun c8 => absurd c8 (by decide)) (fun c8 => ?_)
  refine J_aload_n cx dJ34_recalculateWordsInUse_11 rfl ?_
  refine J_get cx in_J34 (ci := 35) rfl 0 (by decide) q1785 (fun _ h => h) dJ34_recalculateWordsInUse_12 ha rfl ?_
  refine J_iload_n cx dJ34_recalculateWordsInUse_15 rfl ?_
  refine J_lald cx dJ34_recalculateWordsInUse_16 hw (by omega) (by omega) ?_
  refine J_lconst (v := 0) cx dJ34_recalculateWordsInUse_17 rfl ?_
  refine J_lcmp cx dJ34_recalculateWordsInUse_18 ?_
  refine J_if_eq (tgt := 25) cx dJ34_recalculateWordsInUse_19 (by decide) (fun c19 => absurd c19 (hz)) (fun c19 => ?_)
  refine J_goto (tgt := 31) cx dJ34_recalculateWordsInUse_22 (by decide) ?_
  refine J_aload_n cx dJ34_recalculateWordsInUse_31 rfl ?_
  refine J_iload_n cx dJ34_recalculateWordsInUse_32 rfl ?_
  refine J_iconst (v := nI (1)) cx dJ34_recalculateWordsInUse_33 (by decide) ?_
  refine J_iaddN cx dJ34_recalculateWordsInUse_34 ?_
  refine J_top (.int (nI (1))) rfl ?_
  refine J_put cx in_J34 tyJ34 tyJ34_ok nmJ34 (ci := 35) rfl 1 (by decide) q1786 (fun _ h => h) rfl (ty := .int) (by decide +kernel) dJ34_recalculateWordsInUse_35 rfl rfl ha (Nat.le_of_ble_eq_true rfl) (by omega) ?_
  refine J_mem (gset G a (.inr (35, [.ref wa9, .int (nI (1)), .int 0]))) rfl ?_
  exact J_vret cx dJ34_recalculateWordsInUse_38 hr ⟨rfl, rfl, rfl⟩ (Nat.le_of_ble_eq_true rfl) (Nat.le_of_ble_eq_true rfl)
set_option maxHeartbeats 1000000 in
theorem t_J34_andNot_00 (l : Launch) (Ω : jO) {G : Mem} {sz : Nat} (a c9 : Nat) {wa9 wc9 : Nat} (ha : G a = some (.inr (35, [.ref wa9, .int (nI (0)), .int 0]))) {f9 : Nat → Int64} (hw : G wa9 = some (.inl (Ω.2.1 3, 1, .inr (.inl f9)))) (hc : G c9 = some (.inr (35, [.ref wc9, .int (nI (0)), .int 0]))) {g9 : Nat → Int64} (hv : G wc9 = some (.inl (Ω.2.1 3, 1, .inr (.inl g9)))) (hb : Ω.2.2.2 ≤ a) (hbw : Ω.2.2.2 ≤ wa9) : Met l yJ34_andNot (ws_ yJ34_andNot cJ34_andNot 3 none) ({ frames := 2, cells := 0, slots := 0, locals := 33 } : Room) (va_Pc [.ref a, .ref c9] (jWd Ω G sz)) (jQ Ω (jD none (gset G a (.inr (35, [.ref wa9, .int (nI (0)), .int 0]))) (sz))) 0 0 (jB Ω) := by
  refine jMet (by decide) (Nat.le_of_ble_eq_true rfl) ?_
  intro p e s m args below meth c cx hr hnm
  refine J_loc [some (.ref a), some (.ref c9), none] rfl ?_
  refine J_bs cx (fun hbs9 => ?_)
  refine J_lt ha (fun hlt0 => ?_)
  refine J_lt hw (fun hlt1 => ?_)
  refine J_lt hc (fun hlt2 => ?_)
  refine J_lt hv (fun hlt3 => ?_)
  have hne0 : a ≠ wa9 := fun e => by have h1 := ha; rw [e, hw] at h1; simp at h1
  refine J_aload_n cx dJ34_andNot_0 rfl ?_
  refine J_get cx in_J34 (ci := 35) rfl 1 (by decide) q1786 (fun _ h => h) dJ34_andNot_1 ha rfl ?_
  refine J_aload_n cx dJ34_andNot_4 rfl ?_
  refine J_get cx in_J34 (ci := 35) rfl 1 (by decide) q1786 (fun _ h => h) dJ34_andNot_5 hc rfl ?_
  refine J_mmin cx dJ34_andNot_8 q1842 q602 q102 q603 (Nat.le_of_ble_eq_true rfl) (Nat.le_of_ble_eq_true rfl) (Nat.le_of_ble_eq_true rfl) (Nat.le_of_ble_eq_true rfl) ?_
  refine J_top (.int (nI (min 0 0))) (congrArg Value.int (jmmin (by omega) (by omega))) ?_
  refine J_top (.int (nI (0))) rfl ?_
  refine J_iconst (v := nI (1)) cx dJ34_andNot_11 (by decide) ?_
  refine J_isub cx dJ34_andNot_12 ?_
  refine J_top (.int (-1)) rfl ?_
  refine J_istore_n2 cx dJ34_andNot_13 (by decide) rfl ?_
  refine J_iload_n cx dJ34_andNot_14 rfl ?_
  refine J_if_lt (tgt := 43) cx dJ34_andNot_15 (by decide) (fun c15 => ?_) (fun c15 => absurd c15 (by decide))
  refine J_aload_n cx dJ34_andNot_43 rfl ?_
  refine J_callV (n := 0) cx (ci := 35) [] (t_J34_recalc_0 l Ω a ha hw (by omega)) dJ34_andNot_44 (lw_V q1844 q1846 qs23 q134 q1847) ⟨rfl, by decide, by decide, by decide +kernel⟩ rfl ha rfl rfl ⟨Nat.le_of_ble_eq_true rfl, Nat.le_of_ble_eq_true rfl⟩ rfl rfl (Nat.le_of_ble_eq_true rfl) ⟨Nat.le_of_ble_eq_true rfl, Nat.le_of_ble_eq_true rfl⟩ (jdet ?_)
  refine J_mem (gset G a (.inr (35, [.ref wa9, .int (nI (0)), .int 0]))) rfl ?_
  refine J_aload_n cx dJ34_andNot_47 rfl ?_
  refine J_callV (n := 0) cx (ci := 35) [] (t_J34_checkInvariants l Ω a gset_eq) dJ34_andNot_48 (lw_V q1828 q1830 qs22 q134 q1831) ⟨rfl, by decide, by decide, by decide +kernel⟩ rfl gset_eq rfl rfl ⟨Nat.le_of_ble_eq_true rfl, Nat.le_of_ble_eq_true rfl⟩ rfl rfl (Nat.le_of_ble_eq_true rfl) ⟨Nat.le_of_ble_eq_true rfl, Nat.le_of_ble_eq_true rfl⟩ (jdet ?_)
  exact J_vret cx dJ34_andNot_51 hr ⟨rfl, rfl, rfl⟩ (Nat.le_of_ble_eq_true rfl) (Nat.le_of_ble_eq_true rfl)
set_option maxHeartbeats 1000000 in
theorem t_J34_andNot_01 (l : Launch) (Ω : jO) {G : Mem} {sz : Nat} (a c9 : Nat) {wa9 wc9 : Nat} (ha : G a = some (.inr (35, [.ref wa9, .int (nI (0)), .int 0]))) {f9 : Nat → Int64} (hw : G wa9 = some (.inl (Ω.2.1 3, 1, .inr (.inl f9)))) (hc : G c9 = some (.inr (35, [.ref wc9, .int (nI (1)), .int 0]))) {g9 : Nat → Int64} (hv : G wc9 = some (.inl (Ω.2.1 3, 1, .inr (.inl g9)))) (hb : Ω.2.2.2 ≤ a) (hbw : Ω.2.2.2 ≤ wa9) : Met l yJ34_andNot (ws_ yJ34_andNot cJ34_andNot 3 none) ({ frames := 2, cells := 0, slots := 0, locals := 33 } : Room) (va_Pc [.ref a, .ref c9] (jWd Ω G sz)) (jQ Ω (jD none (gset G a (.inr (35, [.ref wa9, .int (nI (0)), .int 0]))) (sz))) 0 0 (jB Ω) := by
  refine jMet (by decide) (Nat.le_of_ble_eq_true rfl) ?_
  intro p e s m args below meth c cx hr hnm
  refine J_loc [some (.ref a), some (.ref c9), none] rfl ?_
  refine J_bs cx (fun hbs9 => ?_)
  refine J_lt ha (fun hlt0 => ?_)
  refine J_lt hw (fun hlt1 => ?_)
  refine J_lt hc (fun hlt2 => ?_)
  refine J_lt hv (fun hlt3 => ?_)
  have hne0 : a ≠ wa9 := fun e => by have h1 := ha; rw [e, hw] at h1; simp at h1
  refine J_aload_n cx dJ34_andNot_0 rfl ?_
  refine J_get cx in_J34 (ci := 35) rfl 1 (by decide) q1786 (fun _ h => h) dJ34_andNot_1 ha rfl ?_
  refine J_aload_n cx dJ34_andNot_4 rfl ?_
  refine J_get cx in_J34 (ci := 35) rfl 1 (by decide) q1786 (fun _ h => h) dJ34_andNot_5 hc rfl ?_
  refine J_mmin cx dJ34_andNot_8 q1842 q602 q102 q603 (Nat.le_of_ble_eq_true rfl) (Nat.le_of_ble_eq_true rfl) (Nat.le_of_ble_eq_true rfl) (Nat.le_of_ble_eq_true rfl) ?_
  refine J_top (.int (nI (min 0 1))) (congrArg Value.int (jmmin (by omega) (by omega))) ?_
  refine J_top (.int (nI (0))) rfl ?_
  refine J_iconst (v := nI (1)) cx dJ34_andNot_11 (by decide) ?_
  refine J_isub cx dJ34_andNot_12 ?_
  refine J_top (.int (-1)) rfl ?_
  refine J_istore_n2 cx dJ34_andNot_13 (by decide) rfl ?_
  refine J_iload_n cx dJ34_andNot_14 rfl ?_
  refine J_if_lt (tgt := 43) cx dJ34_andNot_15 (by decide) (fun c15 => ?_) (fun c15 => absurd c15 (by decide))
  refine J_aload_n cx dJ34_andNot_43 rfl ?_
  refine J_callV (n := 0) cx (ci := 35) [] (t_J34_recalc_0 l Ω a ha hw (by omega)) dJ34_andNot_44 (lw_V q1844 q1846 qs23 q134 q1847) ⟨rfl, by decide, by decide, by decide +kernel⟩ rfl ha rfl rfl ⟨Nat.le_of_ble_eq_true rfl, Nat.le_of_ble_eq_true rfl⟩ rfl rfl (Nat.le_of_ble_eq_true rfl) ⟨Nat.le_of_ble_eq_true rfl, Nat.le_of_ble_eq_true rfl⟩ (jdet ?_)
  refine J_mem (gset G a (.inr (35, [.ref wa9, .int (nI (0)), .int 0]))) rfl ?_
  refine J_aload_n cx dJ34_andNot_47 rfl ?_
  refine J_callV (n := 0) cx (ci := 35) [] (t_J34_checkInvariants l Ω a gset_eq) dJ34_andNot_48 (lw_V q1828 q1830 qs22 q134 q1831) ⟨rfl, by decide, by decide, by decide +kernel⟩ rfl gset_eq rfl rfl ⟨Nat.le_of_ble_eq_true rfl, Nat.le_of_ble_eq_true rfl⟩ rfl rfl (Nat.le_of_ble_eq_true rfl) ⟨Nat.le_of_ble_eq_true rfl, Nat.le_of_ble_eq_true rfl⟩ (jdet ?_)
  exact J_vret cx dJ34_andNot_51 hr ⟨rfl, rfl, rfl⟩ (Nat.le_of_ble_eq_true rfl) (Nat.le_of_ble_eq_true rfl)
set_option maxHeartbeats 1000000 in
theorem t_J34_andNot_10 (l : Launch) (Ω : jO) {G : Mem} {sz : Nat} (a c9 : Nat) {wa9 wc9 : Nat} (ha : G a = some (.inr (35, [.ref wa9, .int (nI (1)), .int 0]))) {f9 : Nat → Int64} (hw : G wa9 = some (.inl (Ω.2.1 3, 1, .inr (.inl f9)))) (hc : G c9 = some (.inr (35, [.ref wc9, .int (nI (0)), .int 0]))) {g9 : Nat → Int64} (hv : G wc9 = some (.inl (Ω.2.1 3, 1, .inr (.inl g9)))) (hb : Ω.2.2.2 ≤ a) (hbw : Ω.2.2.2 ≤ wa9) (hz : ¬ lg_cmp (f9 0) 0 = 0) : Met l yJ34_andNot (ws_ yJ34_andNot cJ34_andNot 3 none) ({ frames := 2, cells := 0, slots := 0, locals := 33 } : Room) (va_Pc [.ref a, .ref c9] (jWd Ω G sz)) (jQ Ω (jD none (gset G a (.inr (35, [.ref wa9, .int (nI (1)), .int 0]))) (sz))) 0 0 (jB Ω) := by
  refine jMet (by decide) (Nat.le_of_ble_eq_true rfl) ?_
  intro p e s m args below meth c cx hr hnm
  refine J_loc [some (.ref a), some (.ref c9), none] rfl ?_
  refine J_bs cx (fun hbs9 => ?_)
  refine J_lt ha (fun hlt0 => ?_)
  refine J_lt hw (fun hlt1 => ?_)
  refine J_lt hc (fun hlt2 => ?_)
  refine J_lt hv (fun hlt3 => ?_)
  have hne0 : a ≠ wa9 := fun e => by have h1 := ha; rw [e, hw] at h1; simp at h1
  refine J_aload_n cx dJ34_andNot_0 rfl ?_
  refine J_get cx in_J34 (ci := 35) rfl 1 (by decide) q1786 (fun _ h => h) dJ34_andNot_1 ha rfl ?_
  refine J_aload_n cx dJ34_andNot_4 rfl ?_
  refine J_get cx in_J34 (ci := 35) rfl 1 (by decide) q1786 (fun _ h => h) dJ34_andNot_5 hc rfl ?_
  refine J_mmin cx dJ34_andNot_8 q1842 q602 q102 q603 (Nat.le_of_ble_eq_true rfl) (Nat.le_of_ble_eq_true rfl) (Nat.le_of_ble_eq_true rfl) (Nat.le_of_ble_eq_true rfl) ?_
  refine J_top (.int (nI (min 1 0))) (congrArg Value.int (jmmin (by omega) (by omega))) ?_
  refine J_top (.int (nI (0))) rfl ?_
  refine J_iconst (v := nI (1)) cx dJ34_andNot_11 (by decide) ?_
  refine J_isub cx dJ34_andNot_12 ?_
  refine J_top (.int (-1)) rfl ?_
  refine J_istore_n2 cx dJ34_andNot_13 (by decide) rfl ?_
  refine J_iload_n cx dJ34_andNot_14 rfl ?_
  refine J_if_lt (tgt := 43) cx dJ34_andNot_15 (by decide) (fun c15 => ?_) (fun c15 => absurd c15 (by decide))
  refine J_aload_n cx dJ34_andNot_43 rfl ?_
  refine J_callV (n := 0) cx (ci := 35) [] (t_J34_recalc_1n l Ω a ha hw (by omega) hz) dJ34_andNot_44 (lw_V q1844 q1846 qs23 q134 q1847) ⟨rfl, by decide, by decide, by decide +kernel⟩ rfl ha rfl rfl ⟨Nat.le_of_ble_eq_true rfl, Nat.le_of_ble_eq_true rfl⟩ rfl rfl (Nat.le_of_ble_eq_true rfl) ⟨Nat.le_of_ble_eq_true rfl, Nat.le_of_ble_eq_true rfl⟩ (jdet ?_)
  refine J_mem (gset G a (.inr (35, [.ref wa9, .int (nI (1)), .int 0]))) rfl ?_
  refine J_aload_n cx dJ34_andNot_47 rfl ?_
  refine J_callV (n := 0) cx (ci := 35) [] (t_J34_checkInvariants l Ω a gset_eq) dJ34_andNot_48 (lw_V q1828 q1830 qs22 q134 q1831) ⟨rfl, by decide, by decide, by decide +kernel⟩ rfl gset_eq rfl rfl ⟨Nat.le_of_ble_eq_true rfl, Nat.le_of_ble_eq_true rfl⟩ rfl rfl (Nat.le_of_ble_eq_true rfl) ⟨Nat.le_of_ble_eq_true rfl, Nat.le_of_ble_eq_true rfl⟩ (jdet ?_)
  exact J_vret cx dJ34_andNot_51 hr ⟨rfl, rfl, rfl⟩ (Nat.le_of_ble_eq_true rfl) (Nat.le_of_ble_eq_true rfl)
set_option maxHeartbeats 1000000 in
theorem t_J34_andNot_11z (l : Launch) (Ω : jO) {G : Mem} {sz : Nat} (a c9 : Nat) {wa9 wc9 : Nat} (ha : G a = some (.inr (35, [.ref wa9, .int (nI (1)), .int 0]))) {f9 : Nat → Int64} (hw : G wa9 = some (.inl (Ω.2.1 3, 1, .inr (.inl f9)))) (hc : G c9 = some (.inr (35, [.ref wc9, .int (nI (1)), .int 0]))) {g9 : Nat → Int64} (hv : G wc9 = some (.inl (Ω.2.1 3, 1, .inr (.inl g9)))) (hb : Ω.2.2.2 ≤ a) (hbw : Ω.2.2.2 ≤ wa9) (hz : (f9 0) &&& ((g9 0) ^^^ (-1)) = 0) : Met l yJ34_andNot (ws_ yJ34_andNot cJ34_andNot 3 none) ({ frames := 2, cells := 0, slots := 0, locals := 33 } : Room) (va_Pc [.ref a, .ref c9] (jWd Ω G sz)) (jQ Ω (jD none (gset (gset G wa9 (.inl (Ω.2.1 3, 1, .inr (.inl (vp_updL f9 0 ((f9 0) &&& ((g9 0) ^^^ (-1)))))))) a (.inr (35, [.ref wa9, .int (nI (0)), .int 0]))) (sz))) 0 0 (jB Ω) := by
  refine jMet (by decide) (Nat.le_of_ble_eq_true rfl) ?_
  intro p e s m args below meth c cx hr hnm
  refine J_loc [some (.ref a), some (.ref c9), none] rfl ?_
  refine J_bs cx (fun hbs9 => ?_)
  refine J_lt ha (fun hlt0 => ?_)
  refine J_lt hw (fun hlt1 => ?_)
  refine J_lt hc (fun hlt2 => ?_)
  refine J_lt hv (fun hlt3 => ?_)
  have hne0 : a ≠ wa9 := fun e => by have h1 := ha; rw [e, hw] at h1; simp at h1
  refine J_aload_n cx dJ34_andNot_0 rfl ?_
  refine J_get cx in_J34 (ci := 35) rfl 1 (by decide) q1786 (fun _ h => h) dJ34_andNot_1 ha rfl ?_
  refine J_aload_n cx dJ34_andNot_4 rfl ?_
  refine J_get cx in_J34 (ci := 35) rfl 1 (by decide) q1786 (fun _ h => h) dJ34_andNot_5 hc rfl ?_
  refine J_mmin cx dJ34_andNot_8 q1842 q602 q102 q603 (Nat.le_of_ble_eq_true rfl) (Nat.le_of_ble_eq_true rfl) (Nat.le_of_ble_eq_true rfl) (Nat.le_of_ble_eq_true rfl) ?_
  refine J_top (.int (nI (min 1 1))) (congrArg Value.int (jmmin (by omega) (by omega))) ?_
  refine J_top (.int (nI (1))) rfl ?_
  refine J_iconst (v := nI (1)) cx dJ34_andNot_11 (by decide) ?_
  refine J_isubN cx dJ34_andNot_12 (by omega) ?_
  refine J_top (.int (nI (0))) rfl ?_
  refine J_istore_n2 cx dJ34_andNot_13 (by decide) rfl ?_
  refine J_iload_n cx dJ34_andNot_14 rfl ?_
  refine J_if_lt (tgt := 43) cx dJ34_andNot_15 (by decide) (fun c15 => absurd c15 (by decide)) (fun c15 => ?_)
  refine J_aload_n cx dJ34_andNot_18 rfl ?_
  refine J_get cx in_J34 (ci := 35) rfl 0 (by decide) q1785 (fun _ h => h) dJ34_andNot_19 ha rfl ?_
  refine J_iload_n cx dJ34_andNot_22 rfl ?_
  refine J_dup2 cx dJ34_andNot_23 rfl rfl ?_
  refine J_lald cx dJ34_andNot_24 hw (by omega) (by omega) ?_
  refine J_aload_n cx dJ34_andNot_25 rfl ?_
  refine J_get cx in_J34 (ci := 35) rfl 0 (by decide) q1785 (fun _ h => h) dJ34_andNot_26 hc rfl ?_
  refine J_iload_n cx dJ34_andNot_29 rfl ?_
  refine J_lald cx dJ34_andNot_30 hv (by omega) (by omega) ?_
  refine J_ldc2 (v := -1) cx dJ34_andNot_31 q1843 ?_
  refine J_lxor cx dJ34_andNot_34 ?_
  refine J_land cx dJ34_andNot_35 ?_
  refine J_last cx dJ34_andNot_36 hw (by omega) (by omega) (by omega) ?_
  refine J_mem (gset G wa9 (.inl (Ω.2.1 3, 1, .inr (.inl (vp_updL f9 0 ((f9 0) &&& ((g9 0) ^^^ (-1)))))))) rfl ?_
  refine J_iinc2 (v := (nI (0)) + -1) cx dJ34_andNot_37 (by rfl) (by decide) rfl ?_
  refine J_loc [some (.ref a), some (.ref c9), some (.int (-1))] rfl ?_
  refine J_goto (tgt := 14) cx dJ34_andNot_40 (by decide) ?_
  refine J_iload_n cx dJ34_andNot_14 rfl ?_
  refine J_if_lt (tgt := 43) cx dJ34_andNot_15 (by decide) (fun c15 => ?_) (fun c15 => absurd c15 (by decide))
  refine J_aload_n cx dJ34_andNot_43 rfl ?_
  refine J_callV (n := 0) cx (ci := 35) [] (t_J34_recalc_1z l Ω a ((gset_ne (by omega)).trans ha) gset_eq (by omega) (by simp only [vp_updL]; exact hz)) dJ34_andNot_44 (lw_V q1844 q1846 qs23 q134 q1847) ⟨rfl, by decide, by decide, by decide +kernel⟩ rfl ((gset_ne (by omega)).trans ha) rfl rfl ⟨Nat.le_of_ble_eq_true rfl, Nat.le_of_ble_eq_true rfl⟩ rfl rfl (Nat.le_of_ble_eq_true rfl) ⟨Nat.le_of_ble_eq_true rfl, Nat.le_of_ble_eq_true rfl⟩ (jdet ?_)
  refine J_mem (gset (gset G wa9 (.inl (Ω.2.1 3, 1, .inr (.inl (vp_updL f9 0 ((f9 0) &&& ((g9 0) ^^^ (-1)))))))) a (.inr (35, [.ref wa9, .int (nI (0)), .int 0]))) rfl ?_
  refine J_aload_n cx dJ34_andNot_47 rfl ?_
  refine J_callV (n := 0) cx (ci := 35) [] (t_J34_checkInvariants l Ω a gset_eq) dJ34_andNot_48 (lw_V q1828 q1830 qs22 q134 q1831) ⟨rfl, by decide, by decide, by decide +kernel⟩ rfl gset_eq rfl rfl ⟨Nat.le_of_ble_eq_true rfl, Nat.le_of_ble_eq_true rfl⟩ rfl rfl (Nat.le_of_ble_eq_true rfl) ⟨Nat.le_of_ble_eq_true rfl, Nat.le_of_ble_eq_true rfl⟩ (jdet ?_)
  exact J_vret cx dJ34_andNot_51 hr ⟨rfl, rfl, rfl⟩ (Nat.le_of_ble_eq_true rfl) (Nat.le_of_ble_eq_true rfl)
set_option maxHeartbeats 1000000 in
theorem t_J34_andNot_11n (l : Launch) (Ω : jO) {G : Mem} {sz : Nat} (a c9 : Nat) {wa9 wc9 : Nat} (ha : G a = some (.inr (35, [.ref wa9, .int (nI (1)), .int 0]))) {f9 : Nat → Int64} (hw : G wa9 = some (.inl (Ω.2.1 3, 1, .inr (.inl f9)))) (hc : G c9 = some (.inr (35, [.ref wc9, .int (nI (1)), .int 0]))) {g9 : Nat → Int64} (hv : G wc9 = some (.inl (Ω.2.1 3, 1, .inr (.inl g9)))) (hb : Ω.2.2.2 ≤ a) (hbw : Ω.2.2.2 ≤ wa9) (hz : ¬ lg_cmp ((f9 0) &&& ((g9 0) ^^^ (-1))) 0 = 0) : Met l yJ34_andNot (ws_ yJ34_andNot cJ34_andNot 3 none) ({ frames := 2, cells := 0, slots := 0, locals := 33 } : Room) (va_Pc [.ref a, .ref c9] (jWd Ω G sz)) (jQ Ω (jD none (gset (gset G wa9 (.inl (Ω.2.1 3, 1, .inr (.inl (vp_updL f9 0 ((f9 0) &&& ((g9 0) ^^^ (-1)))))))) a (.inr (35, [.ref wa9, .int (nI (1)), .int 0]))) (sz))) 0 0 (jB Ω) := by
  refine jMet (by decide) (Nat.le_of_ble_eq_true rfl) ?_
  intro p e s m args below meth c cx hr hnm
  refine J_loc [some (.ref a), some (.ref c9), none] rfl ?_
  refine J_bs cx (fun hbs9 => ?_)
  refine J_lt ha (fun hlt0 => ?_)
  refine J_lt hw (fun hlt1 => ?_)
  refine J_lt hc (fun hlt2 => ?_)
  refine J_lt hv (fun hlt3 => ?_)
  have hne0 : a ≠ wa9 := fun e => by have h1 := ha; rw [e, hw] at h1; simp at h1
  refine J_aload_n cx dJ34_andNot_0 rfl ?_
  refine J_get cx in_J34 (ci := 35) rfl 1 (by decide) q1786 (fun _ h => h) dJ34_andNot_1 ha rfl ?_
  refine J_aload_n cx dJ34_andNot_4 rfl ?_
  refine J_get cx in_J34 (ci := 35) rfl 1 (by decide) q1786 (fun _ h => h) dJ34_andNot_5 hc rfl ?_
  refine J_mmin cx dJ34_andNot_8 q1842 q602 q102 q603 (Nat.le_of_ble_eq_true rfl) (Nat.le_of_ble_eq_true rfl) (Nat.le_of_ble_eq_true rfl) (Nat.le_of_ble_eq_true rfl) ?_
  refine J_top (.int (nI (min 1 1))) (congrArg Value.int (jmmin (by omega) (by omega))) ?_
  refine J_top (.int (nI (1))) rfl ?_
  refine J_iconst (v := nI (1)) cx dJ34_andNot_11 (by decide) ?_
  refine J_isubN cx dJ34_andNot_12 (by omega) ?_
  refine J_top (.int (nI (0))) rfl ?_
  refine J_istore_n2 cx dJ34_andNot_13 (by decide) rfl ?_
  refine J_iload_n cx dJ34_andNot_14 rfl ?_
  refine J_if_lt (tgt := 43) cx dJ34_andNot_15 (by decide) (fun c15 => absurd c15 (by decide)) (fun c15 => ?_)
  refine J_aload_n cx dJ34_andNot_18 rfl ?_
  refine J_get cx in_J34 (ci := 35) rfl 0 (by decide) q1785 (fun _ h => h) dJ34_andNot_19 ha rfl ?_
  refine J_iload_n cx dJ34_andNot_22 rfl ?_
  refine J_dup2 cx dJ34_andNot_23 rfl rfl ?_
  refine J_lald cx dJ34_andNot_24 hw (by omega) (by omega) ?_
  refine J_aload_n cx dJ34_andNot_25 rfl ?_
  refine J_get cx in_J34 (ci := 35) rfl 0 (by decide) q1785 (fun _ h => h) dJ34_andNot_26 hc rfl ?_
  refine J_iload_n cx dJ34_andNot_29 rfl ?_
  refine J_lald cx dJ34_andNot_30 hv (by omega) (by omega) ?_
  refine J_ldc2 (v := -1) cx dJ34_andNot_31 q1843 ?_
  refine J_lxor cx dJ34_andNot_34 ?_
  refine J_land cx dJ34_andNot_35 ?_
  refine J_last cx dJ34_andNot_36 hw (by omega) (by omega) (by omega) ?_
  refine J_mem (gset G wa9 (.inl (Ω.2.1 3, 1, .inr (.inl (vp_updL f9 0 ((f9 0) &&& ((g9 0) ^^^ (-1)))))))) rfl ?_
  refine J_iinc2 (v := (nI (0)) + -1) cx dJ34_andNot_37 (by rfl) (by decide) rfl ?_
  refine J_loc [some (.ref a), some (.ref c9), some (.int (-1))] rfl ?_
  refine J_goto (tgt := 14) cx dJ34_andNot_40 (by decide) ?_
  refine J_iload_n cx dJ34_andNot_14 rfl ?_
  refine J_if_lt (tgt := 43) cx dJ34_andNot_15 (by decide) (fun c15 => ?_) (fun c15 => absurd c15 (by decide))
  refine J_aload_n cx dJ34_andNot_43 rfl ?_
  refine J_callV (n := 0) cx (ci := 35) [] (t_J34_recalc_1n l Ω a ((gset_ne (by omega)).trans ha) gset_eq (by omega) (by simp only [vp_updL]; exact hz)) dJ34_andNot_44 (lw_V q1844 q1846 qs23 q134 q1847) ⟨rfl, by decide, by decide, by decide +kernel⟩ rfl ((gset_ne (by omega)).trans ha) rfl rfl ⟨Nat.le_of_ble_eq_true rfl, Nat.le_of_ble_eq_true rfl⟩ rfl rfl (Nat.le_of_ble_eq_true rfl) ⟨Nat.le_of_ble_eq_true rfl, Nat.le_of_ble_eq_true rfl⟩ (jdet ?_)
  refine J_mem (gset (gset G wa9 (.inl (Ω.2.1 3, 1, .inr (.inl (vp_updL f9 0 ((f9 0) &&& ((g9 0) ^^^ (-1)))))))) a (.inr (35, [.ref wa9, .int (nI (1)), .int 0]))) rfl ?_
  refine J_aload_n cx dJ34_andNot_47 rfl ?_
  refine J_callV (n := 0) cx (ci := 35) [] (t_J34_checkInvariants l Ω a gset_eq) dJ34_andNot_48 (lw_V q1828 q1830 qs22 q134 q1831) ⟨rfl, by decide, by decide, by decide +kernel⟩ rfl gset_eq rfl rfl ⟨Nat.le_of_ble_eq_true rfl, Nat.le_of_ble_eq_true rfl⟩ rfl rfl (Nat.le_of_ble_eq_true rfl) ⟨Nat.le_of_ble_eq_true rfl, Nat.le_of_ble_eq_true rfl⟩ (jdet ?_)
  exact J_vret cx dJ34_andNot_51 hr ⟨rfl, rfl, rfl⟩ (Nat.le_of_ble_eq_true rfl) (Nat.le_of_ble_eq_true rfl)
set_option maxHeartbeats 1000000 in
theorem t_J34_nextSetBit_0 (l : Launch) (Ω : jO) {G : Mem} {sz : Nat} (a : Nat) {wa9 : Nat} (ha : G a = some (.inr (35, [.ref wa9, .int (nI (0)), .int 0]))) {f9 : Nat → Int64} (hw : G wa9 = some (.inl (Ω.2.1 3, 1, .inr (.inl f9)))) (k9 : Nat) (hk : k9 < 64) : Met l yJ34_nextSetBit (ws_ yJ34_nextSetBit cJ34_nextSetBit 5 (some .int)) ({ frames := 2, cells := 0, slots := 0, locals := 32 } : Room) (va_Pc [.ref a, .int (nI (k9))] (jWd Ω G sz)) (jQ Ω (jD (some (.int (-1))) G sz)) 0 0 (jB Ω) := by
  refine jMet (by decide) (Nat.le_of_ble_eq_true rfl) ?_
  intro p e s m args below meth c cx hr hnm
  refine J_loc [some (.ref a), some (.int (nI (k9))), none, none, none] rfl ?_
  refine J_iload_n cx dJ34_nextSetBit_0 rfl ?_
  refine J_if_ge (tgt := 31) cx dJ34_nextSetBit_1 (by decide) (fun c1 => ?_) (fun c1 => absurd c1 ((fun q => q (nI_pos' (by omega)))))
  refine J_aload_n cx dJ34_nextSetBit_31 rfl ?_
  refine J_callV (n := 0) cx (ci := 35) [] (t_J34_checkInvariants l Ω a ha) dJ34_nextSetBit_32 (lw_V q1828 q1830 qs22 q134 q1831) ⟨rfl, by decide, by decide, by decide +kernel⟩ rfl ha rfl rfl ⟨Nat.le_of_ble_eq_true rfl, Nat.le_of_ble_eq_true rfl⟩ rfl rfl (Nat.le_of_ble_eq_true rfl) ⟨Nat.le_of_ble_eq_true rfl, Nat.le_of_ble_eq_true rfl⟩ (jdet ?_)
  refine J_iload_n cx dJ34_nextSetBit_35 rfl ?_
  refine J_callS (n := 1) cx [.int (nI (k9))] (t_J34_wordIndex l Ω k9 (by omega)) dJ34_nextSetBit_36 (lw_S q1782 q1783 q134 q1784) ⟨by decide, by decide, by decide +kernel⟩ rfl rfl ⟨Nat.le_of_ble_eq_true rfl, Nat.le_of_ble_eq_true rfl⟩ rfl rfl (Nat.le_of_ble_eq_true rfl) ⟨Nat.le_of_ble_eq_true rfl, Nat.le_of_ble_eq_true rfl⟩ (jdet ?_)
  refine J_istore_n2 cx dJ34_nextSetBit_39 (by decide) rfl ?_
  refine J_iload_n cx dJ34_nextSetBit_40 rfl ?_
  refine J_aload_n cx dJ34_nextSetBit_41 rfl ?_
  refine J_get cx in_J34 (ci := 35) rfl 1 (by decide) q1786 (fun _ h => h) dJ34_nextSetBit_42 ha rfl ?_
  refine J_icmpN_lt (tgt := 50) cx dJ34_nextSetBit_45 (by decide) (by omega) (by omega) (fun c45 => absurd c45 (by omega)) (fun c45 => ?_)
  refine J_iconst (v := -1) cx dJ34_nextSetBit_48 (by decide) ?_
  exact J_iret cx dJ34_nextSetBit_49 hr ⟨rfl, rfl, rfl⟩ (Nat.le_of_ble_eq_true rfl) (Nat.le_of_ble_eq_true rfl)
def r_nextB (f9 : Nat → Int64) (k9 : Nat) : Int32 := (if (lg_cmp ((f9 0) &&& ((-1) <<< ((nI (k9)).toInt64 &&& 63))) 0) = 0 then (-1) else ((nI (0 * 64)) + (r_ntzL ((f9 0) &&& ((-1) <<< ((nI (k9)).toInt64 &&& 63))))))
set_option maxHeartbeats 1000000 in
theorem t_J34_nextSetBit_1 (l : Launch) (Ω : jO) {G : Mem} {sz : Nat} (a : Nat) {wa9 : Nat} (ha : G a = some (.inr (35, [.ref wa9, .int (nI (1)), .int 0]))) {f9 : Nat → Int64} (hw : G wa9 = some (.inl (Ω.2.1 3, 1, .inr (.inl f9)))) (k9 : Nat) (hk : k9 < 64) : Met l yJ34_nextSetBit (ws_ yJ34_nextSetBit cJ34_nextSetBit 5 (some .int)) ({ frames := 3, cells := 0, slots := 0, locals := 55 } : Room) (va_Pc [.ref a, .int (nI (k9))] (jWd Ω G sz)) (jQ Ω (jD (some (.int (r_nextB f9 k9))) G sz)) 0 0 (jB Ω) := by
  refine jMet (by decide) (Nat.le_of_ble_eq_true rfl) ?_
  intro p e s m args below meth c cx hr hnm
  refine J_loc [some (.ref a), some (.int (nI (k9))), none, none, none] rfl ?_
  refine J_iload_n cx dJ34_nextSetBit_0 rfl ?_
  refine J_if_ge (tgt := 31) cx dJ34_nextSetBit_1 (by decide) (fun c1 => ?_) (fun c1 => absurd c1 ((fun q => q (nI_pos' (by omega)))))
  refine J_aload_n cx dJ34_nextSetBit_31 rfl ?_
  refine J_callV (n := 0) cx (ci := 35) [] (t_J34_checkInvariants l Ω a ha) dJ34_nextSetBit_32 (lw_V q1828 q1830 qs22 q134 q1831) ⟨rfl, by decide, by decide, by decide +kernel⟩ rfl ha rfl rfl ⟨Nat.le_of_ble_eq_true rfl, Nat.le_of_ble_eq_true rfl⟩ rfl rfl (Nat.le_of_ble_eq_true rfl) ⟨Nat.le_of_ble_eq_true rfl, Nat.le_of_ble_eq_true rfl⟩ (jdet ?_)
  refine J_iload_n cx dJ34_nextSetBit_35 rfl ?_
  refine J_callS (n := 1) cx [.int (nI (k9))] (t_J34_wordIndex l Ω k9 (by omega)) dJ34_nextSetBit_36 (lw_S q1782 q1783 q134 q1784) ⟨by decide, by decide, by decide +kernel⟩ rfl rfl ⟨Nat.le_of_ble_eq_true rfl, Nat.le_of_ble_eq_true rfl⟩ rfl rfl (Nat.le_of_ble_eq_true rfl) ⟨Nat.le_of_ble_eq_true rfl, Nat.le_of_ble_eq_true rfl⟩ (jdet ?_)
  refine J_istore_n2 cx dJ34_nextSetBit_39 (by decide) rfl ?_
  refine J_iload_n cx dJ34_nextSetBit_40 rfl ?_
  refine J_aload_n cx dJ34_nextSetBit_41 rfl ?_
  refine J_get cx in_J34 (ci := 35) rfl 1 (by decide) q1786 (fun _ h => h) dJ34_nextSetBit_42 ha rfl ?_
  refine J_icmpN_lt (tgt := 50) cx dJ34_nextSetBit_45 (by decide) (by omega) (by omega) (fun c45 => ?_) (fun c45 => absurd c45 (by omega))
  refine J_aload_n cx dJ34_nextSetBit_50 rfl ?_
  refine J_get cx in_J34 (ci := 35) rfl 0 (by decide) q1785 (fun _ h => h) dJ34_nextSetBit_51 ha rfl ?_
  refine J_iload_n cx dJ34_nextSetBit_54 rfl ?_
  refine J_lald cx dJ34_nextSetBit_55 hw (by omega) (by omega) ?_
  refine J_ldc2 (v := -1) cx dJ34_nextSetBit_56 q1843 ?_
  refine J_iload_n cx dJ34_nextSetBit_59 rfl ?_
  refine J_lshl (v := (-1) <<< ((nI (k9)).toInt64 &&& 63)) cx dJ34_nextSetBit_60 rfl ?_
  refine J_land cx dJ34_nextSetBit_61 ?_
  refine J_lstore_n3 cx dJ34_nextSetBit_62 (by decide) rfl ?_
  refine J_lload_n cx dJ34_nextSetBit_63 rfl ?_
  refine J_lconst (v := 0) cx dJ34_nextSetBit_64 rfl ?_
  refine J_lcmp cx dJ34_nextSetBit_65 ?_
  refine J_if_eq (tgt := 79) cx dJ34_nextSetBit_66 (by decide) (fun c66 => ?_) (fun c66 => ?_)
  · refine J_iinc2 (v := nI (0 + 1)) cx dJ34_nextSetBit_79 (nI_1 0) (by decide) rfl ?_
    refine J_iload_n cx dJ34_nextSetBit_82 rfl ?_
    refine J_aload_n cx dJ34_nextSetBit_83 rfl ?_
    refine J_get cx in_J34 (ci := 35) rfl 1 (by decide) q1786 (fun _ h => h) dJ34_nextSetBit_84 ha rfl ?_
    refine J_icmpN_ne (tgt := 92) cx dJ34_nextSetBit_87 (by decide) (by omega) (by omega) (fun c87 => absurd c87 (by omega)) (fun c87 => ?_)
    refine J_iconst (v := -1) cx dJ34_nextSetBit_90 (by decide) ?_
    exact J_iret cx dJ34_nextSetBit_91 hr ⟨by simp only [r_nextB, if_pos c1, if_pos c45, if_pos c66, if_pos c87], rfl, rfl⟩ (Nat.le_of_ble_eq_true rfl) (Nat.le_of_ble_eq_true rfl)
  · refine J_iload_n cx dJ34_nextSetBit_69 rfl ?_
    refine J_bipush (v := nI (64)) cx dJ34_nextSetBit_70 (by decide) ?_
    refine J_imulN cx dJ34_nextSetBit_72 ?_
    refine J_lload_n cx dJ34_nextSetBit_73 rfl ?_
    refine J_callS (n := 1) cx [.long ((f9 0) &&& ((-1) <<< ((nI (k9)).toInt64 &&& 63)))] (t_J35_numberOfTrailingZeros l Ω ((f9 0) &&& ((-1) <<< ((nI (k9)).toInt64 &&& 63)))) dJ34_nextSetBit_74 (lw_S q1852 q1853 q135 q1854) ⟨by decide, by decide, by decide +kernel⟩ rfl rfl ⟨Nat.le_of_ble_eq_true rfl, Nat.le_of_ble_eq_true rfl⟩ rfl rfl (Nat.le_of_ble_eq_true rfl) ⟨Nat.le_of_ble_eq_true rfl, Nat.le_of_ble_eq_true rfl⟩ (jdet ?_)
    refine J_iadd cx dJ34_nextSetBit_77 ?_
    exact J_iret cx dJ34_nextSetBit_78 hr ⟨by simp only [r_nextB, if_pos c1, if_pos c45, if_neg c66], rfl, rfl⟩ (Nat.le_of_ble_eq_true rfl) (Nat.le_of_ble_eq_true rfl)
theorem t_J34_card_0 (l : Launch) (Ω : jO) {G : Mem} {sz : Nat} (a : Nat) {wa9 : Nat} (ha : G a = some (.inr (35, [.ref wa9, .int (nI (0)), .int 0]))) {f9 : Nat → Int64} (hw : G wa9 = some (.inl (Ω.2.1 3, 1, .inr (.inl f9)))) : Met l yJ34_cardinality (ws_ yJ34_cardinality cJ34_cardinality 3 (some .int)) ({ frames := 1, cells := 0, slots := 0, locals := 12 } : Room) (va_Pc [.ref a] (jWd Ω G sz)) (jQ Ω (jD (some (.int (nI (0)))) G sz)) 0 0 (jB Ω) := by
  refine jMet (by decide) (Nat.le_of_ble_eq_true rfl) ?_
  intro p e s m args below meth c cx hr hnm
  refine J_loc [some (.ref a), none, none] rfl ?_
  refine J_iconst (v := nI (0)) cx dJ34_cardinality_0 (by decide) ?_
  refine J_istore_n1 cx dJ34_cardinality_1 (by decide) rfl ?_
  refine J_iconst (v := nI (0)) cx dJ34_cardinality_2 (by decide) ?_
  refine J_istore_n2 cx dJ34_cardinality_3 (by decide) rfl ?_
  refine J_iload_n cx dJ34_cardinality_4 rfl ?_
  refine J_aload_n cx dJ34_cardinality_5 rfl ?_
  refine J_get cx in_J34 (ci := 35) rfl 1 (by decide) q1786 (fun _ h => h) dJ34_cardinality_6 ha rfl ?_
  refine J_icmpN_ge (tgt := 30) cx dJ34_cardinality_9 (by decide) (by omega) (by omega) (fun c9 => ?_) (fun c9 => absurd c9 (by omega))
  refine J_iload_n cx dJ34_cardinality_30 rfl ?_
  exact J_iret cx dJ34_cardinality_31 hr ⟨rfl, rfl, rfl⟩ (Nat.le_of_ble_eq_true rfl) (Nat.le_of_ble_eq_true rfl)
theorem t_J34_card_1 (l : Launch) (Ω : jO) {G : Mem} {sz : Nat} (a : Nat) {wa9 : Nat} (ha : G a = some (.inr (35, [.ref wa9, .int (nI (1)), .int 0]))) {f9 : Nat → Int64} (hw : G wa9 = some (.inl (Ω.2.1 3, 1, .inr (.inl f9)))) : Met l yJ34_cardinality (ws_ yJ34_cardinality cJ34_cardinality 3 (some .int)) ({ frames := 2, cells := 0, slots := 0, locals := 33 } : Room) (va_Pc [.ref a] (jWd Ω G sz)) (jQ Ω (jD (some (.int (nI (0) + r_bitCount (f9 0)))) G sz)) 0 0 (jB Ω) := by
  refine jMet (by decide) (Nat.le_of_ble_eq_true rfl) ?_
  intro p e s m args below meth c cx hr hnm
  refine J_loc [some (.ref a), none, none] rfl ?_
  refine J_iconst (v := nI (0)) cx dJ34_cardinality_0 (by decide) ?_
  refine J_istore_n1 cx dJ34_cardinality_1 (by decide) rfl ?_
  refine J_iconst (v := nI (0)) cx dJ34_cardinality_2 (by decide) ?_
  refine J_istore_n2 cx dJ34_cardinality_3 (by decide) rfl ?_
  refine J_iload_n cx dJ34_cardinality_4 rfl ?_
  refine J_aload_n cx dJ34_cardinality_5 rfl ?_
  refine J_get cx in_J34 (ci := 35) rfl 1 (by decide) q1786 (fun _ h => h) dJ34_cardinality_6 ha rfl ?_
  refine J_icmpN_ge (tgt := 30) cx dJ34_cardinality_9 (by decide) (by omega) (by omega) (fun c9 => absurd c9 (by omega)) (fun c9 => ?_)
  refine J_iload_n cx dJ34_cardinality_12 rfl ?_
  refine J_aload_n cx dJ34_cardinality_13 rfl ?_
  refine J_get cx in_J34 (ci := 35) rfl 0 (by decide) q1785 (fun _ h => h) dJ34_cardinality_14 ha rfl ?_
  refine J_iload_n cx dJ34_cardinality_17 rfl ?_
  refine J_lald cx dJ34_cardinality_18 hw (by omega) (by omega) ?_
  refine J_callS (n := 1) cx [.long (f9 0)] (t_J35_bitCount l Ω (f9 0)) dJ34_cardinality_19 (lw_S q1884 q1885 q135 q1886) ⟨by decide, by decide, by decide +kernel⟩ rfl rfl ⟨Nat.le_of_ble_eq_true rfl, Nat.le_of_ble_eq_true rfl⟩ rfl rfl (Nat.le_of_ble_eq_true rfl) ⟨Nat.le_of_ble_eq_true rfl, Nat.le_of_ble_eq_true rfl⟩ (jdet ?_)
  refine J_iadd cx dJ34_cardinality_22 ?_
  refine J_istore_n1 cx dJ34_cardinality_23 (by decide) rfl ?_
  refine J_iinc2 (v := nI (0 + 1)) cx dJ34_cardinality_24 (nI_1 0) (by decide) rfl ?_
  refine J_loc [some (.ref a), some (.int ((nI (0)) + (r_bitCount (f9 0)))), some (.int (nI (1)))] rfl ?_
  refine J_goto (tgt := 4) cx dJ34_cardinality_27 (by decide) ?_
  refine J_iload_n cx dJ34_cardinality_4 rfl ?_
  refine J_aload_n cx dJ34_cardinality_5 rfl ?_
  refine J_get cx in_J34 (ci := 35) rfl 1 (by decide) q1786 (fun _ h => h) dJ34_cardinality_6 ha rfl ?_
  refine J_icmpN_ge (tgt := 30) cx dJ34_cardinality_9 (by decide) (by omega) (by omega) (fun c9 => ?_) (fun c9 => absurd c9 (by omega))
  refine J_iload_n cx dJ34_cardinality_30 rfl ?_
  exact J_iret cx dJ34_cardinality_31 hr ⟨rfl, rfl, rfl⟩ (Nat.le_of_ble_eq_true rfl) (Nat.le_of_ble_eq_true rfl)
