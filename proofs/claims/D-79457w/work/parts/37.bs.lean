/-! JDK 6 (gen/mk_bs.py): BitSet of one word -/
set_option maxRecDepth 100000
theorem jshr6 : ∀ k : Nat, k < 64 → nI k >>> (nI (6) &&& 31) = nI (0) := by decide +kernel
theorem t_J34_wordIndex (l : Launch) (Ω : jO) {G : Mem} {sz : Nat} (k9 : Nat) (hk : k9 < 64) : Met l yJ34_wordIndex (ws_ yJ34_wordIndex cJ34_wordIndex 1 (some .int)) ({ frames := 1, cells := 0, slots := 0, locals := 12 } : Room) (va_Pc [.int (nI (k9))] (jWd Ω G sz)) (jQ Ω (jD (some (.int (nI (0)))) G sz)) 0 0 (jB Ω) := by
  refine jMet (by decide) (Nat.le_of_ble_eq_true rfl) ?_
  intro p e s m args below meth c cx hr hnm
  refine J_loc [some (.int (nI (k9)))] rfl ?_
  refine J_iload_n cx dJ34_wordIndex_0 rfl ?_
  refine J_bipush (v := nI (6)) cx dJ34_wordIndex_1 (by decide) ?_
  refine J_ishr cx dJ34_wordIndex_3 ?_
  refine J_top (.int (nI (0))) (congrArg Value.int (jshr6 _ (by omega))) ?_
  exact J_iret cx dJ34_wordIndex_4 hr ⟨rfl, rfl, rfl⟩ (Nat.le_of_ble_eq_true rfl) (Nat.le_of_ble_eq_true rfl)
theorem t_J34_initWords (l : Launch) (Ω : jO) {G : Mem} {sz : Nat} (a : Nat) (ha : G a = some (.inr (35, [.null, .int (nI (0)), .int (nI (0))]))) (hb : Ω.2.2.2 ≤ a) : Met l yJ34_initWords (ws_ yJ34_initWords cJ34_initWords 2 none) ({ frames := 2, cells := 1, slots := 1, locals := 32 } : Room) (va_Pc [.ref a, .int (nI (64))] (jWd Ω G sz)) (jQ Ω (jD none (gset (gset G sz (.inl (Ω.2.1 3, 1, .inr (.inl (fun _ => 0))))) a (.inr (35, [.ref sz, .int (nI (0)), .int (nI (0))]))) (sz + 1))) 1 1 (jB Ω) := by
  refine jMet (by decide) (Nat.le_of_ble_eq_true rfl) ?_
  intro p e s m args below meth c cx hr hnm
  refine J_loc [some (.ref a), some (.int (nI (64)))] rfl ?_
  refine J_bs cx (fun hbs9 => ?_)
  refine J_lt ha (fun hlt0 => ?_)
  refine J_aload_n cx dJ34_initWords_0 rfl ?_
  refine J_iload_n cx dJ34_initWords_1 rfl ?_
  refine J_iconst (v := nI (1)) cx dJ34_initWords_2 (by decide) ?_
  refine J_isubN cx dJ34_initWords_3 (by omega) ?_
  refine J_callS (n := 1) cx [.int (nI (64 - 1))] (t_J34_wordIndex l Ω (64 - 1) (by omega)) dJ34_initWords_4 (lw_S q1782 q1783 q134 q1784) ⟨by decide, by decide, by decide +kernel⟩ rfl rfl ⟨Nat.le_of_ble_eq_true rfl, Nat.le_of_ble_eq_true rfl⟩ rfl rfl (Nat.le_of_ble_eq_true rfl) ⟨Nat.le_of_ble_eq_true rfl, Nat.le_of_ble_eq_true rfl⟩ (jdet ?_)
  refine J_iconst (v := nI (1)) cx dJ34_initWords_7 (by decide) ?_
  refine J_iaddN cx dJ34_initWords_8 ?_
  refine J_top (.int (nI (1))) rfl ?_
  refine J_newa cx .long rfl 3 q1795 rfl rfl (1, .inr (.inl (fun _ => 0))) dJ34_initWords_9 (fun cA => by rw [vp_cell_l]; rfl) (by omega) (by decide) (Nat.le_of_ble_eq_true rfl) (Nat.le_of_ble_eq_true rfl) ?_
  refine J_put cx in_J34 tyJ34 tyJ34_ok nmJ34 (ci := 35) rfl 0 (by decide) q1785 (fun _ h => h) rfl (ty := (.array .long)) (by decide +kernel) dJ34_initWords_11 rfl rfl ((gset_ne (by omega)).trans ha) (Nat.le_of_ble_eq_true rfl) (by omega) ?_
  refine J_mem (gset (gset G sz (.inl (Ω.2.1 3, 1, .inr (.inl (fun _ => 0))))) a (.inr (35, [.ref sz, .int (nI (0)), .int (nI (0))]))) rfl ?_
  exact J_vret cx dJ34_initWords_14 hr ⟨rfl, rfl, rfl⟩ (Nat.le_of_ble_eq_true rfl) (Nat.le_of_ble_eq_true rfl)
theorem t_J34_init (l : Launch) (Ω : jO) {G : Mem} {sz : Nat} (a : Nat) (ha : G a = some (.inr (35, [.null, .int 0, .int 0]))) (hb : Ω.2.2.2 ≤ a) : Met l yJ34_init (ws_ yJ34_init cJ34_init 1 none) ({ frames := 3, cells := 1, slots := 1, locals := 53 } : Room) (va_Pc [.ref a] (jWd Ω G sz)) (jQ Ω (jD none (gset (gset G sz (.inl (Ω.2.1 3, 1, .inr (.inl (fun _ => 0))))) a (.inr (35, [.ref sz, .int (nI (0)), .int (nI (0))]))) (sz + 1))) 1 1 (jB Ω) := by
  refine jMet (by decide) (Nat.le_of_ble_eq_true rfl) ?_
  intro p e s m args below meth c cx hr hnm
  refine J_loc [some (.ref a)] rfl ?_
  refine J_bs cx (fun hbs9 => ?_)
  refine J_lt ha (fun hlt0 => ?_)
  refine J_aload_n cx dJ34_init_0 rfl ?_
  refine J_objInit cx dJ34_init_1 q1777 q170 q171 (Nat.le_of_ble_eq_true rfl) (Nat.le_of_ble_eq_true rfl) ?_
  refine J_aload_n cx dJ34_init_4 rfl ?_
  refine J_iconst (v := nI (0)) cx dJ34_init_5 (by decide) ?_
  refine J_put cx in_J34 tyJ34 tyJ34_ok nmJ34 (ci := 35) rfl 1 (by decide) q1786 (fun _ h => h) rfl (ty := .int) (by decide +kernel) dJ34_init_6 rfl rfl ha (Nat.le_of_ble_eq_true rfl) (by omega) ?_
  refine J_mem (gset G a (.inr (35, [.null, .int (nI (0)), .int 0]))) rfl ?_
  refine J_aload_n cx dJ34_init_9 rfl ?_
  refine J_iconst (v := nI (0)) cx dJ34_init_10 (by decide) ?_
  refine J_put cx in_J34 tyJ34 tyJ34_ok nmJ34 (ci := 35) rfl 2 (by decide) q1787 (fun _ h => h) rfl (ty := .boolean) (by decide +kernel) dJ34_init_11 rfl rfl gset_eq (Nat.le_of_ble_eq_true rfl) (by omega) ?_
  refine J_mem (gset G a (.inr (35, [.null, .int (nI (0)), .int (nI (0))]))) gset_gset ?_
  refine J_aload_n cx dJ34_init_14 rfl ?_
  refine J_bipush (v := nI (64)) cx dJ34_init_15 (by decide) ?_
  refine J_callV (n := 1) cx (ci := 35) [.int (nI (64))] (t_J34_initWords l Ω a gset_eq (by omega)) dJ34_init_17 (lw_V q1778 q1780 qs18 q134 q1781) ⟨rfl, by decide, by decide, by decide +kernel⟩ rfl gset_eq rfl rfl ⟨Nat.le_of_ble_eq_true rfl, Nat.le_of_ble_eq_true rfl⟩ rfl rfl (Nat.le_of_ble_eq_true rfl) ⟨Nat.le_of_ble_eq_true rfl, Nat.le_of_ble_eq_true rfl⟩ (jdet ?_)
  refine J_mem (gset (gset G sz (.inl (Ω.2.1 3, 1, .inr (.inl (fun _ => 0))))) a (.inr (35, [.ref sz, .int (nI (0)), .int (nI (0))]))) (by funext q9; simp only [gset]; by_cases hq9 : q9 = a <;> simp [hq9]) ?_
  refine J_aload_n cx dJ34_init_20 rfl ?_
  refine J_iconst (v := nI (0)) cx dJ34_init_21 (by decide) ?_
  refine J_put cx in_J34 tyJ34 tyJ34_ok nmJ34 (ci := 35) rfl 2 (by decide) q1787 (fun _ h => h) rfl (ty := .boolean) (by decide +kernel) dJ34_init_22 rfl rfl gset_eq (Nat.le_of_ble_eq_true rfl) (by omega) ?_
  refine J_mem (gset (gset G sz (.inl (Ω.2.1 3, 1, .inr (.inl (fun _ => 0))))) a (.inr (35, [.ref sz, .int (nI (0)), .int (nI (0))]))) gset_gset ?_
  exact J_vret cx dJ34_init_25 hr ⟨rfl, rfl, rfl⟩ (Nat.le_of_ble_eq_true rfl) (Nat.le_of_ble_eq_true rfl)
theorem t_J34_checkInvariants (l : Launch) (Ω : jO) {G : Mem} {sz : Nat} (a : Nat) {wa9 n9 : Nat} (ha : G a = some (.inr (35, [.ref wa9, .int (nI (n9)), .int 0]))) : Met l yJ34_checkInvariants (ws_ yJ34_checkInvariants cJ34_checkInvariants 1 none) ({ frames := 1, cells := 0, slots := 0, locals := 12 } : Room) (va_Pc [.ref a] (jWd Ω G sz)) (jQ Ω (jD none G sz)) 0 0 (jB Ω) := by
  refine jMet (by decide) (Nat.le_of_ble_eq_true rfl) ?_
  intro p e s m args below meth c cx hr hnm
  refine J_loc [some (.ref a)] rfl ?_
  refine J_gets cx cx.sta.2.2.2.2.2.2.1 dJ34_checkInvariants_0 q1832 (fun _ h => h) ?_
  refine J_if_ne (tgt := 37) cx dJ34_checkInvariants_3 (by decide) (fun c3 => ?_) (fun c3 => absurd c3 (by decide))
  refine J_gets cx cx.sta.2.2.2.2.2.2.1 dJ34_checkInvariants_37 q1832 (fun _ h => h) ?_
  refine J_if_ne (tgt := 70) cx dJ34_checkInvariants_40 (by decide) (fun c40 => ?_) (fun c40 => absurd c40 (by decide))
  refine J_gets cx cx.sta.2.2.2.2.2.2.1 dJ34_checkInvariants_70 q1832 (fun _ h => h) ?_
  refine J_if_ne (tgt := 110) cx dJ34_checkInvariants_73 (by decide) (fun c73 => ?_) (fun c73 => absurd c73 (by decide))
  exact J_vret cx dJ34_checkInvariants_110 hr ⟨rfl, rfl, rfl⟩ (Nat.le_of_ble_eq_true rfl) (Nat.le_of_ble_eq_true rfl)
theorem t_J34_ensureCapacity (l : Launch) (Ω : jO) {G : Mem} {sz : Nat} (a : Nat) {wa9 n9 : Nat} (ha : G a = some (.inr (35, [.ref wa9, .int (nI (n9)), .int 0]))) {f9 : Nat → Int64} (hw : G wa9 = some (.inl (Ω.2.1 3, 1, .inr (.inl f9)))) : Met l yJ34_ensureCapacity (ws_ yJ34_ensureCapacity cJ34_ensureCapacity 3 none) ({ frames := 1, cells := 0, slots := 0, locals := 12 } : Room) (va_Pc [.ref a, .int (nI (1))] (jWd Ω G sz)) (jQ Ω (jD none G sz)) 0 0 (jB Ω) := by
  refine jMet (by decide) (Nat.le_of_ble_eq_true rfl) ?_
  intro p e s m args below meth c cx hr hnm
  refine J_loc [some (.ref a), some (.int (nI (1))), none] rfl ?_
  refine J_aload_n cx dJ34_ensureCapacity_0 rfl ?_
  refine J_get cx in_J34 (ci := 35) rfl 0 (by decide) q1785 (fun _ h => h) dJ34_ensureCapacity_1 ha rfl ?_
  refine J_alen cx 3 dJ34_ensureCapacity_4 rfl hw ?_
  refine J_iload_n cx dJ34_ensureCapacity_5 rfl ?_
  refine J_icmpN_ge (tgt := 38) cx dJ34_ensureCapacity_6 (by decide) (by omega) (by omega) (fun c6 => ?_) (fun c6 => absurd c6 (by omega))
  exact J_vret cx dJ34_ensureCapacity_38 hr ⟨rfl, rfl, rfl⟩ (Nat.le_of_ble_eq_true rfl) (Nat.le_of_ble_eq_true rfl)
theorem t_J34_expandTo_0 (l : Launch) (Ω : jO) {G : Mem} {sz : Nat} (a : Nat) {wa9 : Nat} (ha : G a = some (.inr (35, [.ref wa9, .int (nI (0)), .int 0]))) {f9 : Nat → Int64} (hw : G wa9 = some (.inl (Ω.2.1 3, 1, .inr (.inl f9)))) (hb : Ω.2.2.2 ≤ a) : Met l yJ34_expandTo (ws_ yJ34_expandTo cJ34_expandTo 3 none) ({ frames := 2, cells := 0, slots := 0, locals := 34 } : Room) (va_Pc [.ref a, .int (nI (0))] (jWd Ω G sz)) (jQ Ω (jD none (gset G a (.inr (35, [.ref wa9, .int (nI (1)), .int 0]))) (sz))) 0 0 (jB Ω) := by
  refine jMet (by decide) (Nat.le_of_ble_eq_true rfl) ?_
  intro p e s m args below meth c cx hr hnm
  refine J_loc [some (.ref a), some (.int (nI (0))), none] rfl ?_
  refine J_bs cx (fun hbs9 => ?_)
  refine J_lt ha (fun hlt0 => ?_)
  refine J_lt hw (fun hlt1 => ?_)
  have hne0 : a ≠ wa9 := fun e => by have h1 := ha; rw [e, hw] at h1; simp at h1
  refine J_iload_n cx dJ34_expandTo_0 rfl ?_
  refine J_iconst (v := nI (1)) cx dJ34_expandTo_1 (by decide) ?_
  refine J_iaddN cx dJ34_expandTo_2 ?_
  refine J_top (.int (nI (1))) rfl ?_
  refine J_istore_n2 cx dJ34_expandTo_3 (by decide) rfl ?_
  refine J_aload_n cx dJ34_expandTo_4 rfl ?_
  refine J_get cx in_J34 (ci := 35) rfl 1 (by decide) q1786 (fun _ h => h) dJ34_expandTo_5 ha rfl ?_
  refine J_iload_n cx dJ34_expandTo_8 rfl ?_
  refine J_icmpN_ge (tgt := 22) cx dJ34_expandTo_9 (by decide) (by omega) (by omega) (fun c9 => absurd c9 (by omega)) (fun c9 => ?_)
  refine J_aload_n cx dJ34_expandTo_12 rfl ?_
  refine J_iload_n cx dJ34_expandTo_13 rfl ?_
  refine J_callV (n := 1) cx (ci := 35) [.int (nI (1))] (t_J34_ensureCapacity l Ω a ha hw) dJ34_expandTo_14 (lw_V q1815 q1817 qs21 q134 q1818) ⟨rfl, by decide, by decide, by decide +kernel⟩ rfl ha rfl rfl ⟨Nat.le_of_ble_eq_true rfl, Nat.le_of_ble_eq_true rfl⟩ rfl rfl (Nat.le_of_ble_eq_true rfl) ⟨Nat.le_of_ble_eq_true rfl, Nat.le_of_ble_eq_true rfl⟩ (jdet ?_)
  refine J_aload_n cx dJ34_expandTo_17 rfl ?_
  refine J_iload_n cx dJ34_expandTo_18 rfl ?_
  refine J_put cx in_J34 tyJ34 tyJ34_ok nmJ34 (ci := 35) rfl 1 (by decide) q1786 (fun _ h => h) rfl (ty := .int) (by decide +kernel) dJ34_expandTo_19 rfl rfl ha (Nat.le_of_ble_eq_true rfl) (by omega) ?_
  refine J_mem (gset G a (.inr (35, [.ref wa9, .int (nI (1)), .int 0]))) rfl ?_
  exact J_vret cx dJ34_expandTo_22 hr ⟨rfl, rfl, rfl⟩ (Nat.le_of_ble_eq_true rfl) (Nat.le_of_ble_eq_true rfl)
theorem t_J34_expandTo_1 (l : Launch) (Ω : jO) {G : Mem} {sz : Nat} (a : Nat) {wa9 : Nat} (ha : G a = some (.inr (35, [.ref wa9, .int (nI (1)), .int 0]))) {f9 : Nat → Int64} (hw : G wa9 = some (.inl (Ω.2.1 3, 1, .inr (.inl f9)))) (hb : Ω.2.2.2 ≤ a) : Met l yJ34_expandTo (ws_ yJ34_expandTo cJ34_expandTo 3 none) ({ frames := 1, cells := 0, slots := 0, locals := 12 } : Room) (va_Pc [.ref a, .int (nI (0))] (jWd Ω G sz)) (jQ Ω (jD none G (sz))) 0 0 (jB Ω) := by
  refine jMet (by decide) (Nat.le_of_ble_eq_true rfl) ?_
  intro p e s m args below meth c cx hr hnm
  refine J_loc [some (.ref a), some (.int (nI (0))), none] rfl ?_
  refine J_bs cx (fun hbs9 => ?_)
  refine J_lt ha (fun hlt0 => ?_)
  refine J_lt hw (fun hlt1 => ?_)
  have hne0 : a ≠ wa9 := fun e => by have h1 := ha; rw [e, hw] at h1; simp at h1
  refine J_iload_n cx dJ34_expandTo_0 rfl ?_
  refine J_iconst (v := nI (1)) cx dJ34_expandTo_1 (by decide) ?_
  refine J_iaddN cx dJ34_expandTo_2 ?_
  refine J_top (.int (nI (1))) rfl ?_
  refine J_istore_n2 cx dJ34_expandTo_3 (by decide) rfl ?_
  refine J_aload_n cx dJ34_expandTo_4 rfl ?_
  refine J_get cx in_J34 (ci := 35) rfl 1 (by decide) q1786 (fun _ h => h) dJ34_expandTo_5 ha rfl ?_
  refine J_iload_n cx dJ34_expandTo_8 rfl ?_
  refine J_icmpN_ge (tgt := 22) cx dJ34_expandTo_9 (by decide) (by omega) (by omega) (fun c9 => ?_) (fun c9 => absurd c9 (by omega))
  exact J_vret cx dJ34_expandTo_22 hr ⟨rfl, rfl, rfl⟩ (Nat.le_of_ble_eq_true rfl) (Nat.le_of_ble_eq_true rfl)
set_option maxHeartbeats 1000000 in
theorem t_J34_set_0 (l : Launch) (Ω : jO) {G : Mem} {sz : Nat} (a : Nat) {wa9 : Nat} (ha : G a = some (.inr (35, [.ref wa9, .int (nI (0)), .int 0]))) {f9 : Nat → Int64} (hw : G wa9 = some (.inl (Ω.2.1 3, 1, .inr (.inl f9)))) (hb : Ω.2.2.2 ≤ a) (hbw : Ω.2.2.2 ≤ wa9) (k9 : Nat) (hk : k9 < 64) : Met l yJ34_set (ws_ yJ34_set cJ34_set 3 none) ({ frames := 3, cells := 0, slots := 0, locals := 56 } : Room) (va_Pc [.ref a, .int (nI (k9))] (jWd Ω G sz)) (jQ Ω (jD none (gset (gset G a (.inr (35, [.ref wa9, .int (nI (1)), .int 0]))) wa9 (.inl (Ω.2.1 3, 1, .inr (.inl (vp_updL f9 0 ((f9 0) ||| (1 <<< ((nI (k9)).toInt64 &&& 63)))))))) (sz))) 0 0 (jB Ω) := by
  refine jMet (by decide) (Nat.le_of_ble_eq_true rfl) ?_
  intro p e s m args below meth c cx hr hnm
  refine J_loc [some (.ref a), some (.int (nI (k9))), none] rfl ?_
  refine J_bs cx (fun hbs9 => ?_)
  refine J_lt ha (fun hlt0 => ?_)
  refine J_lt hw (fun hlt1 => ?_)
  have hne0 : a ≠ wa9 := fun e => by have h1 := ha; rw [e, hw] at h1; simp at h1
  refine J_iload_n cx dJ34_set_0 rfl ?_
  refine J_if_ge (tgt := 31) cx dJ34_set_1 (by decide) (fun c1 => ?_) (fun c1 => absurd c1 ((fun q => q (nI_pos' (by omega)))))
  refine J_iload_n cx dJ34_set_31 rfl ?_
  refine J_callS (n := 1) cx [.int (nI (k9))] (t_J34_wordIndex l Ω k9 (by omega)) dJ34_set_32 (lw_S q1782 q1783 q134 q1784) ⟨by decide, by decide, by decide +kernel⟩ rfl rfl ⟨Nat.le_of_ble_eq_true rfl, Nat.le_of_ble_eq_true rfl⟩ rfl rfl (Nat.le_of_ble_eq_true rfl) ⟨Nat.le_of_ble_eq_true rfl, Nat.le_of_ble_eq_true rfl⟩ (jdet ?_)
  refine J_istore_n2 cx dJ34_set_35 (by decide) rfl ?_
  refine J_aload_n cx dJ34_set_36 rfl ?_
  refine J_iload_n cx dJ34_set_37 rfl ?_
  refine J_callV (n := 1) cx (ci := 35) [.int (nI (0))] (t_J34_expandTo_0 l Ω a ha hw (by omega)) dJ34_set_38 (lw_V q1811 q1813 qs20 q134 q1814) ⟨rfl, by decide, by decide, by decide +kernel⟩ rfl ha rfl rfl ⟨Nat.le_of_ble_eq_true rfl, Nat.le_of_ble_eq_true rfl⟩ rfl rfl (Nat.le_of_ble_eq_true rfl) ⟨Nat.le_of_ble_eq_true rfl, Nat.le_of_ble_eq_true rfl⟩ (jdet ?_)
  refine J_mem (gset G a (.inr (35, [.ref wa9, .int (nI (1)), .int 0]))) rfl ?_
  refine J_aload_n cx dJ34_set_41 rfl ?_
  refine J_get cx in_J34 (ci := 35) rfl 0 (by decide) q1785 (fun _ h => h) dJ34_set_42 gset_eq rfl ?_
  refine J_iload_n cx dJ34_set_45 rfl ?_
  refine J_dup2 cx dJ34_set_46 rfl rfl ?_
  refine J_lald cx dJ34_set_47 ((gset_ne (by omega)).trans hw) (by omega) (by omega) ?_
  refine J_lconst (v := 1) cx dJ34_set_48 rfl ?_
  refine J_iload_n cx dJ34_set_49 rfl ?_
  refine J_lshl (v := 1 <<< ((nI (k9)).toInt64 &&& 63)) cx dJ34_set_50 rfl ?_
  refine J_lor cx dJ34_set_51 ?_
  refine J_last cx dJ34_set_52 ((gset_ne (by omega)).trans hw) (by omega) (by omega) (by omega) ?_
  refine J_mem (gset (gset G a (.inr (35, [.ref wa9, .int (nI (1)), .int 0]))) wa9 (.inl (Ω.2.1 3, 1, .inr (.inl (vp_updL f9 0 ((f9 0) ||| (1 <<< ((nI (k9)).toInt64 &&& 63)))))))) rfl ?_
  refine J_aload_n cx dJ34_set_53 rfl ?_
  refine J_callV (n := 0) cx (ci := 35) [] (t_J34_checkInvariants l Ω a ((gset_ne (by omega)).trans gset_eq)) dJ34_set_54 (lw_V q1828 q1830 qs22 q134 q1831) ⟨rfl, by decide, by decide, by decide +kernel⟩ rfl ((gset_ne (by omega)).trans gset_eq) rfl rfl ⟨Nat.le_of_ble_eq_true rfl, Nat.le_of_ble_eq_true rfl⟩ rfl rfl (Nat.le_of_ble_eq_true rfl) ⟨Nat.le_of_ble_eq_true rfl, Nat.le_of_ble_eq_true rfl⟩ (jdet ?_)
  exact J_vret cx dJ34_set_57 hr ⟨rfl, rfl, rfl⟩ (Nat.le_of_ble_eq_true rfl) (Nat.le_of_ble_eq_true rfl)
set_option maxHeartbeats 1000000 in
theorem t_J34_set_1 (l : Launch) (Ω : jO) {G : Mem} {sz : Nat} (a : Nat) {wa9 : Nat} (ha : G a = some (.inr (35, [.ref wa9, .int (nI (1)), .int 0]))) {f9 : Nat → Int64} (hw : G wa9 = some (.inl (Ω.2.1 3, 1, .inr (.inl f9)))) (hb : Ω.2.2.2 ≤ a) (hbw : Ω.2.2.2 ≤ wa9) (k9 : Nat) (hk : k9 < 64) : Met l yJ34_set (ws_ yJ34_set cJ34_set 3 none) ({ frames := 2, cells := 0, slots := 0, locals := 34 } : Room) (va_Pc [.ref a, .int (nI (k9))] (jWd Ω G sz)) (jQ Ω (jD none (gset G wa9 (.inl (Ω.2.1 3, 1, .inr (.inl (vp_updL f9 0 ((f9 0) ||| (1 <<< ((nI (k9)).toInt64 &&& 63)))))))) (sz))) 0 0 (jB Ω) := by
  refine jMet (by decide) (Nat.le_of_ble_eq_true rfl) ?_
  intro p e s m args below meth c cx hr hnm
  refine J_loc [some (.ref a), some (.int (nI (k9))), none] rfl ?_
  refine J_bs cx (fun hbs9 => ?_)
  refine J_lt ha (fun hlt0 => ?_)
  refine J_lt hw (fun hlt1 => ?_)
  have hne0 : a ≠ wa9 := fun e => by have h1 := ha; rw [e, hw] at h1; simp at h1
  refine J_iload_n cx dJ34_set_0 rfl ?_
  refine J_if_ge (tgt := 31) cx dJ34_set_1 (by decide) (fun c1 => ?_) (fun c1 => absurd c1 ((fun q => q (nI_pos' (by omega)))))
  refine J_iload_n cx dJ34_set_31 rfl ?_
  refine J_callS (n := 1) cx [.int (nI (k9))] (t_J34_wordIndex l Ω k9 (by omega)) dJ34_set_32 (lw_S q1782 q1783 q134 q1784) ⟨by decide, by decide, by decide +kernel⟩ rfl rfl ⟨Nat.le_of_ble_eq_true rfl, Nat.le_of_ble_eq_true rfl⟩ rfl rfl (Nat.le_of_ble_eq_true rfl) ⟨Nat.le_of_ble_eq_true rfl, Nat.le_of_ble_eq_true rfl⟩ (jdet ?_)
  refine J_istore_n2 cx dJ34_set_35 (by decide) rfl ?_
  refine J_aload_n cx dJ34_set_36 rfl ?_
  refine J_iload_n cx dJ34_set_37 rfl ?_
  refine J_callV (n := 1) cx (ci := 35) [.int (nI (0))] (t_J34_expandTo_1 l Ω a ha hw (by omega)) dJ34_set_38 (lw_V q1811 q1813 qs20 q134 q1814) ⟨rfl, by decide, by decide, by decide +kernel⟩ rfl ha rfl rfl ⟨Nat.le_of_ble_eq_true rfl, Nat.le_of_ble_eq_true rfl⟩ rfl rfl (Nat.le_of_ble_eq_true rfl) ⟨Nat.le_of_ble_eq_true rfl, Nat.le_of_ble_eq_true rfl⟩ (jdet ?_)
  refine J_aload_n cx dJ34_set_41 rfl ?_
  refine J_get cx in_J34 (ci := 35) rfl 0 (by decide) q1785 (fun _ h => h) dJ34_set_42 ha rfl ?_
  refine J_iload_n cx dJ34_set_45 rfl ?_
  refine J_dup2 cx dJ34_set_46 rfl rfl ?_
  refine J_lald cx dJ34_set_47 hw (by omega) (by omega) ?_
  refine J_lconst (v := 1) cx dJ34_set_48 rfl ?_
  refine J_iload_n cx dJ34_set_49 rfl ?_
  refine J_lshl (v := 1 <<< ((nI (k9)).toInt64 &&& 63)) cx dJ34_set_50 rfl ?_
  refine J_lor cx dJ34_set_51 ?_
  refine J_last cx dJ34_set_52 hw (by omega) (by omega) (by omega) ?_
  refine J_mem (gset G wa9 (.inl (Ω.2.1 3, 1, .inr (.inl (vp_updL f9 0 ((f9 0) ||| (1 <<< ((nI (k9)).toInt64 &&& 63)))))))) rfl ?_
  refine J_aload_n cx dJ34_set_53 rfl ?_
  refine J_callV (n := 0) cx (ci := 35) [] (t_J34_checkInvariants l Ω a ((gset_ne (by omega)).trans ha)) dJ34_set_54 (lw_V q1828 q1830 qs22 q134 q1831) ⟨rfl, by decide, by decide, by decide +kernel⟩ rfl ((gset_ne (by omega)).trans ha) rfl rfl ⟨Nat.le_of_ble_eq_true rfl, Nat.le_of_ble_eq_true rfl⟩ rfl rfl (Nat.le_of_ble_eq_true rfl) ⟨Nat.le_of_ble_eq_true rfl, Nat.le_of_ble_eq_true rfl⟩ (jdet ?_)
  exact J_vret cx dJ34_set_57 hr ⟨rfl, rfl, rfl⟩ (Nat.le_of_ble_eq_true rfl) (Nat.le_of_ble_eq_true rfl)
