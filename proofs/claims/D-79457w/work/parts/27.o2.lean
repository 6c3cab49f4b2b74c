/-! OBJECTS 2 (gen/mk_o2.py): Order, Turn, Pot -/
set_option maxRecDepth 100000
theorem t_X9_init_2 (l : Launch) (Ω : jO) {G : Mem} {sz : Nat} (a : Nat) (gl9 le9 ma9 un9 pr9 : Int32) (ha : G a = some (.inr (7, [.int 0, .int 0, .int 0, .int 0, .int 0, .int 0]))) (hb : Ω.2.2.2 ≤ a) : Met l yX9_init_2 (ws_ yX9_init_2 cX9_init_2 6 none) ({ frames := 1, cells := 0, slots := 0, locals := 12 } : Room) (va_Pc [.ref a, .int gl9, .int le9, .int ma9, .int un9, .int pr9] (jWd Ω G sz)) (jQ Ω (jD none (gset G a (.inr (7, [.int gl9, .int le9, .int ma9, .int un9, .int pr9, .int ma9]))) sz)) 0 0 (jB Ω) := by
  refine jMet (by decide) (Nat.le_of_ble_eq_true rfl) ?_
  intro p e s m args below meth c cx hr hnm
  refine J_loc [some (.ref a), some (.int gl9), some (.int le9), some (.int ma9), some (.int un9), some (.int pr9)] rfl ?_
  refine J_bs cx (fun hbs9 => ?_)
  refine J_lt ha (fun hlt0 => ?_)
  refine J_aload_n cx dX9_init_2_0 rfl ?_
  refine J_objInit cx dX9_init_2_1 q617 q170 q171 (Nat.le_of_ble_eq_true rfl) (Nat.le_of_ble_eq_true rfl) ?_
  refine J_aload_n cx dX9_init_2_4 rfl ?_
  refine J_iload_n cx dX9_init_2_5 rfl ?_
  refine J_putF cx in_X9 tyX9 tyX9_ok nmX9 (ci := 7) rfl 0 (by decide) q618 (fun _ h => h) rfl rfl hnm (ty := .int) (by decide +kernel) dX9_init_2_6 rfl rfl ha (Nat.le_of_ble_eq_true rfl) (by omega) ?_
  refine J_mem (gset G a (.inr (7, [.int gl9, .int 0, .int 0, .int 0, .int 0, .int 0]))) rfl ?_
  refine J_aload_n cx dX9_init_2_9 rfl ?_
  refine J_iload_n cx dX9_init_2_10 rfl ?_
  refine J_putF cx in_X9 tyX9 tyX9_ok nmX9 (ci := 7) rfl 1 (by decide) q620 (fun _ h => h) rfl rfl hnm (ty := .int) (by decide +kernel) dX9_init_2_11 rfl rfl gset_eq (Nat.le_of_ble_eq_true rfl) (by omega) ?_
  refine J_mem (gset G a (.inr (7, [.int gl9, .int le9, .int 0, .int 0, .int 0, .int 0]))) gset_gset ?_
  refine J_aload_n cx dX9_init_2_14 rfl ?_
  refine J_iload_n cx dX9_init_2_15 rfl ?_
  refine J_putF cx in_X9 tyX9 tyX9_ok nmX9 (ci := 7) rfl 2 (by decide) q622 (fun _ h => h) rfl rfl hnm (ty := .int) (by decide +kernel) dX9_init_2_16 rfl rfl gset_eq (Nat.le_of_ble_eq_true rfl) (by omega) ?_
  refine J_mem (gset G a (.inr (7, [.int gl9, .int le9, .int ma9, .int 0, .int 0, .int 0]))) gset_gset ?_
  refine J_aload_n cx dX9_init_2_19 rfl ?_
  refine J_iload cx dX9_init_2_20 rfl ?_
  refine J_putF cx in_X9 tyX9 tyX9_ok nmX9 (ci := 7) rfl 3 (by decide) q624 (fun _ h => h) rfl rfl hnm (ty := .int) (by decide +kernel) dX9_init_2_22 rfl rfl gset_eq (Nat.le_of_ble_eq_true rfl) (by omega) ?_
  refine J_mem (gset G a (.inr (7, [.int gl9, .int le9, .int ma9, .int un9, .int 0, .int 0]))) gset_gset ?_
  refine J_aload_n cx dX9_init_2_25 rfl ?_
  refine J_iload cx dX9_init_2_26 rfl ?_
  refine J_putF cx in_X9 tyX9 tyX9_ok nmX9 (ci := 7) rfl 4 (by decide) q626 (fun _ h => h) rfl rfl hnm (ty := .int) (by decide +kernel) dX9_init_2_28 rfl rfl gset_eq (Nat.le_of_ble_eq_true rfl) (by omega) ?_
  refine J_mem (gset G a (.inr (7, [.int gl9, .int le9, .int ma9, .int un9, .int pr9, .int 0]))) gset_gset ?_
  refine J_aload_n cx dX9_init_2_31 rfl ?_
  refine J_iload_n cx dX9_init_2_32 rfl ?_
  refine J_put cx in_X9 tyX9 tyX9_ok nmX9 (ci := 7) rfl 5 (by decide) q629 (fun _ h => h) rfl (ty := .int) (by decide +kernel) dX9_init_2_33 rfl rfl gset_eq (Nat.le_of_ble_eq_true rfl) (by omega) ?_
  refine J_mem (gset G a (.inr (7, [.int gl9, .int le9, .int ma9, .int un9, .int pr9, .int ma9]))) gset_gset ?_
  exact J_vret cx dX9_init_2_36 hr ⟨rfl, rfl, rfl⟩ (Nat.le_of_ble_eq_true rfl) (Nat.le_of_ble_eq_true rfl)
theorem t_X9_init (l : Launch) (Ω : jO) {G : Mem} {sz : Nat} (a q9 : Nat) {gl9 le9 ma9 un9 pr9 la9 : Int32} (ha : G a = some (.inr (7, [.int 0, .int 0, .int 0, .int 0, .int 0, .int 0]))) (hc : G q9 = some (.inr (7, [.int gl9, .int le9, .int ma9, .int un9, .int pr9, .int la9]))) (hne : a ≠ q9) (hb : Ω.2.2.2 ≤ a) : Met l yX9_init (ws_ yX9_init cX9_init 2 none) ({ frames := 2, cells := 0, slots := 0, locals := 37 } : Room) (va_Pc [.ref a, .ref q9] (jWd Ω G sz)) (jQ Ω (jD none (gset G a (.inr (7, [.int gl9, .int le9, .int ma9, .int un9, .int pr9, .int la9]))) sz)) 0 0 (jB Ω) := by
  refine jMet (by decide) (Nat.le_of_ble_eq_true rfl) ?_
  intro p e s m args below meth c cx hr hnm
  refine J_loc [some (.ref a), some (.ref q9)] rfl ?_
  refine J_bs cx (fun hbs9 => ?_)
  refine J_lt ha (fun hlt0 => ?_)
  refine J_lt hc (fun hlt1 => ?_)
  refine J_aload_n cx dX9_init_0 rfl ?_
  refine J_aload_n cx dX9_init_1 rfl ?_
  refine J_get cx in_X9 (ci := 7) rfl 0 (by decide) q618 (fun _ h => h) dX9_init_2 hc rfl ?_
  refine J_aload_n cx dX9_init_5 rfl ?_
  refine J_get cx in_X9 (ci := 7) rfl 1 (by decide) q620 (fun _ h => h) dX9_init_6 hc rfl ?_
  refine J_aload_n cx dX9_init_9 rfl ?_
  refine J_get cx in_X9 (ci := 7) rfl 2 (by decide) q622 (fun _ h => h) dX9_init_10 hc rfl ?_
  refine J_aload_n cx dX9_init_13 rfl ?_
  refine J_get cx in_X9 (ci := 7) rfl 3 (by decide) q624 (fun _ h => h) dX9_init_14 hc rfl ?_
  refine J_aload_n cx dX9_init_17 rfl ?_
  refine J_get cx in_X9 (ci := 7) rfl 4 (by decide) q626 (fun _ h => h) dX9_init_18 hc rfl ?_
  refine J_callI (n := 5) cx [.int gl9, .int le9, .int ma9, .int un9, .int pr9] (t_X9_init_2 l Ω a gl9 le9 ma9 un9 pr9 ha (by omega)) dX9_init_21 q616 q105 q614 q615 rfl ⟨by decide, by decide, by decide +kernel⟩ rfl rfl ⟨Nat.le_of_ble_eq_true rfl, Nat.le_of_ble_eq_true rfl⟩ rfl rfl (Nat.le_of_ble_eq_true rfl) ⟨Nat.le_of_ble_eq_true rfl, Nat.le_of_ble_eq_true rfl⟩ (jdet ?_)
  refine J_mem (gset G a (.inr (7, [.int gl9, .int le9, .int ma9, .int un9, .int pr9, .int ma9]))) rfl ?_
  refine J_aload_n cx dX9_init_24 rfl ?_
  refine J_aload_n cx dX9_init_25 rfl ?_
  refine J_get cx in_X9 (ci := 7) rfl 5 (by decide) q629 (fun _ h => h) dX9_init_26 ((gset_ne (by omega)).trans hc) rfl ?_
  refine J_put cx in_X9 tyX9 tyX9_ok nmX9 (ci := 7) rfl 5 (by decide) q629 (fun _ h => h) rfl (ty := .int) (by decide +kernel) dX9_init_29 rfl rfl gset_eq (Nat.le_of_ble_eq_true rfl) (by omega) ?_
  refine J_mem (gset G a (.inr (7, [.int gl9, .int le9, .int ma9, .int un9, .int pr9, .int la9]))) gset_gset ?_
  exact J_vret cx dX9_init_32 hr ⟨rfl, rfl, rfl⟩ (Nat.le_of_ble_eq_true rfl) (Nat.le_of_ble_eq_true rfl)
def r_open (la9 un9 ck9 : Int32) : Int32 := (if la9 ≤ 0 then (nI (0)) else (if un9 < ck9 then (nI (0)) else (nI (1))))
theorem t_X9_isOpen (l : Launch) (Ω : jO) {G : Mem} {sz : Nat} (a : Nat) {gl9 le9 ma9 un9 pr9 la9 : Int32} (ck9 : Int32) (ha : G a = some (.inr (7, [.int gl9, .int le9, .int ma9, .int un9, .int pr9, .int la9]))) : Met l yX9_isOpen (ws_ yX9_isOpen cX9_isOpen 2 (some .boolean)) ({ frames := 1, cells := 0, slots := 0, locals := 12 } : Room) (va_Pc [.ref a, .int ck9] (jWd Ω G sz)) (jQ Ω (jD (some (.int (r_open la9 un9 ck9))) G sz)) 0 0 (jB Ω) := by
  refine jMet (by decide) (Nat.le_of_ble_eq_true rfl) ?_
  intro p e s m args below meth c cx hr hnm
  refine J_loc [some (.ref a), some (.int ck9)] rfl ?_
  refine J_aload_n cx dX9_isOpen_0 rfl ?_
  refine J_get cx in_X9 (ci := 7) rfl 5 (by decide) q629 (fun _ h => h) dX9_isOpen_1 ha rfl ?_
  refine J_if_le (tgt := 19) cx dX9_isOpen_4 (by decide) (fun c4 => ?_) (fun c4 => ?_)
  · refine J_iconst (v := nI (0)) cx dX9_isOpen_19 (by decide) ?_
    exact J_zret cx dX9_isOpen_20 hr rfl ⟨by simp only [r_open, if_pos c4], rfl, rfl⟩ (Nat.le_of_ble_eq_true rfl) (Nat.le_of_ble_eq_true rfl)
  · refine J_iload_n cx dX9_isOpen_7 rfl ?_
    refine J_aload_n cx dX9_isOpen_8 rfl ?_
    refine J_get cx in_X9 (ci := 7) rfl 3 (by decide) q624 (fun _ h => h) dX9_isOpen_9 ha rfl ?_
    refine J_icmp_gt (tgt := 19) cx dX9_isOpen_12 (by decide) (fun c12 => ?_) (fun c12 => ?_)
    · refine J_iconst (v := nI (0)) cx dX9_isOpen_19 (by decide) ?_
      exact J_zret cx dX9_isOpen_20 hr rfl ⟨by simp only [r_open, if_neg c4, if_pos c12], rfl, rfl⟩ (Nat.le_of_ble_eq_true rfl) (Nat.le_of_ble_eq_true rfl)
    · refine J_iconst (v := nI (1)) cx dX9_isOpen_15 (by decide) ?_
      refine J_goto (tgt := 20) cx dX9_isOpen_16 (by decide) ?_
      exact J_zret cx dX9_isOpen_20 hr rfl ⟨by simp only [r_open, if_neg c4, if_neg c12], rfl, rfl⟩ (Nat.le_of_ble_eq_true rfl) (Nat.le_of_ble_eq_true rfl)
def r_came (st9 : Int32) : Int32 := (if st9 < (nI (2)) then (nI (0)) else (nI (1)))
theorem t_X6_cameOff (l : Launch) (Ω : jO) {G : Mem} {sz : Nat} (a : Nat) {pn9 pp9 pw9 pr9 st9 ck9 cv9 po9 : Int32} {mo9 : UInt32} {wa9 da9 ph9 : Nat} (ha : G a = some (.inr (5, [.int pn9, .int pp9, .int pw9, .int pr9, .int st9, .int ck9, .int cv9, .float mo9, .ref wa9, .int po9, .ref da9, .int (nI (ph9))]))) : Met l yX6_cameOff (ws_ yX6_cameOff cX6_cameOff 1 (some .boolean)) ({ frames := 1, cells := 0, slots := 0, locals := 12 } : Room) (va_Pc [.ref a] (jWd Ω G sz)) (jQ Ω (jD (some (.int (r_came st9))) G sz)) 0 0 (jB Ω) := by
  refine jMet (by decide) (Nat.le_of_ble_eq_true rfl) ?_
  intro p e s m args below meth c cx hr hnm
  refine J_loc [some (.ref a)] rfl ?_
  refine J_aload_n cx dX6_cameOff_0 rfl ?_
  refine J_get cx in_X6 (ci := 5) rfl 4 (by decide) q460 (fun _ h => h) dX6_cameOff_1 ha rfl ?_
  refine J_iconst (v := nI (2)) cx dX6_cameOff_4 (by decide) ?_
  refine J_icmp_lt (tgt := 12) cx dX6_cameOff_5 (by decide) (fun c5 => ?_) (fun c5 => ?_)
  · refine J_iconst (v := nI (0)) cx dX6_cameOff_12 (by decide) ?_
    exact J_zret cx dX6_cameOff_13 hr rfl ⟨by simp only [r_came, if_pos c5], rfl, rfl⟩ (Nat.le_of_ble_eq_true rfl) (Nat.le_of_ble_eq_true rfl)
  · refine J_iconst (v := nI (1)) cx dX6_cameOff_8 (by decide) ?_
    refine J_goto (tgt := 13) cx dX6_cameOff_9 (by decide) ?_
    exact J_zret cx dX6_cameOff_13 hr rfl ⟨by simp only [r_came, if_neg c5], rfl, rfl⟩ (Nat.le_of_ble_eq_true rfl) (Nat.le_of_ble_eq_true rfl)
def r_whole (st9 ck9 : Int32) : Int32 := (if (r_came st9) = 0 then (nI (0)) else (if ck9 = 0 then (if st9 = (nI (7)) then (nI (0)) else (nI (1))) else (nI (0))))
theorem t_X6_isWhole (l : Launch) (Ω : jO) {G : Mem} {sz : Nat} (a : Nat) {pn9 pp9 pw9 pr9 st9 ck9 cv9 po9 : Int32} {mo9 : UInt32} {wa9 da9 ph9 : Nat} (ha : G a = some (.inr (5, [.int pn9, .int pp9, .int pw9, .int pr9, .int st9, .int ck9, .int cv9, .float mo9, .ref wa9, .int po9, .ref da9, .int (nI (ph9))]))) : Met l yX6_isWhole (ws_ yX6_isWhole cX6_isWhole 1 (some .boolean)) ({ frames := 2, cells := 0, slots := 0, locals := 32 } : Room) (va_Pc [.ref a] (jWd Ω G sz)) (jQ Ω (jD (some (.int (r_whole st9 ck9))) G sz)) 0 0 (jB Ω) := by
  refine jMet (by decide) (Nat.le_of_ble_eq_true rfl) ?_
  intro p e s m args below meth c cx hr hnm
  refine J_loc [some (.ref a)] rfl ?_
  refine J_aload_n cx dX6_isWhole_0 rfl ?_
  refine J_callV (n := 0) cx (ci := 5) [] (t_X6_cameOff l Ω a ha) dX6_isWhole_1 (lw_V q2204 q2205 q2206 q96 q2207) ⟨rfl, by decide, by decide, by decide +kernel⟩ rfl ha rfl rfl ⟨Nat.le_of_ble_eq_true rfl, Nat.le_of_ble_eq_true rfl⟩ rfl rfl (Nat.le_of_ble_eq_true rfl) ⟨Nat.le_of_ble_eq_true rfl, Nat.le_of_ble_eq_true rfl⟩ (jdet ?_)
  refine J_if_eq (tgt := 27) cx dX6_isWhole_4 (by decide) (fun c4 => ?_) (fun c4 => ?_)
  · refine J_iconst (v := nI (0)) cx dX6_isWhole_27 (by decide) ?_
    exact J_zret cx dX6_isWhole_28 hr rfl ⟨by simp only [r_whole, if_pos c4], rfl, rfl⟩ (Nat.le_of_ble_eq_true rfl) (Nat.le_of_ble_eq_true rfl)
  · refine J_aload_n cx dX6_isWhole_7 rfl ?_
    refine J_get cx in_X6 (ci := 5) rfl 5 (by decide) q464 (fun _ h => h) dX6_isWhole_8 ha rfl ?_
    refine J_if_ne (tgt := 27) cx dX6_isWhole_11 (by decide) (fun c11 => ?_) (fun c11 => ?_)
    · refine J_iconst (v := nI (0)) cx dX6_isWhole_27 (by decide) ?_
      exact J_zret cx dX6_isWhole_28 hr rfl ⟨by simp only [r_whole, if_neg c4, if_neg c11], rfl, rfl⟩ (Nat.le_of_ble_eq_true rfl) (Nat.le_of_ble_eq_true rfl)
    · refine J_aload_n cx dX6_isWhole_14 rfl ?_
      refine J_get cx in_X6 (ci := 5) rfl 4 (by decide) q460 (fun _ h => h) dX6_isWhole_15 ha rfl ?_
      refine J_bipush (v := nI (7)) cx dX6_isWhole_18 (by decide) ?_
      refine J_icmp_eq (tgt := 27) cx dX6_isWhole_20 (by decide) (fun c20 => ?_) (fun c20 => ?_)
      · refine J_iconst (v := nI (0)) cx dX6_isWhole_27 (by decide) ?_
        exact J_zret cx dX6_isWhole_28 hr rfl ⟨by simp only [r_whole, if_neg c4, if_pos c11, if_pos c20], rfl, rfl⟩ (Nat.le_of_ble_eq_true rfl) (Nat.le_of_ble_eq_true rfl)
      · refine J_iconst (v := nI (1)) cx dX6_isWhole_23 (by decide) ?_
        refine J_goto (tgt := 28) cx dX6_isWhole_24 (by decide) ?_
        exact J_zret cx dX6_isWhole_28 hr rfl ⟨by simp only [r_whole, if_neg c4, if_pos c11, if_neg c20], rfl, rfl⟩ (Nat.le_of_ble_eq_true rfl) (Nat.le_of_ble_eq_true rfl)
theorem t_X6_comesOff (l : Launch) (Ω : jO) {G : Mem} {sz : Nat} (a : Nat) {pn9 pp9 pw9 pr9 st9 ck9 cv9 po9 : Int32} {mo9 : UInt32} {wa9 da9 ph9 : Nat} (ha : G a = some (.inr (5, [.int pn9, .int pp9, .int pw9, .int pr9, .int st9, .int ck9, .int cv9, .float mo9, .ref wa9, .int po9, .ref da9, .int (nI (ph9))]))) (hb : Ω.2.2.2 ≤ a) : Met l yX6_comesOff (ws_ yX6_comesOff cX6_comesOff 1 none) ({ frames := 1, cells := 0, slots := 0, locals := 12 } : Room) (va_Pc [.ref a] (jWd Ω G sz)) (jQ Ω (jD none (gset G a (.inr (5, [.int pn9, .int pp9, .int pw9, .int pr9, .int (nI (2)), .int ck9, .int (nI (0)), .float (FP.fconst1), .ref wa9, .int po9, .ref da9, .int (nI (ph9))]))) sz)) 0 0 (jB Ω) := by
  refine jMet (by decide) (Nat.le_of_ble_eq_true rfl) ?_
  intro p e s m args below meth c cx hr hnm
  refine J_loc [some (.ref a)] rfl ?_
  refine J_bs cx (fun hbs9 => ?_)
  refine J_lt ha (fun hlt0 => ?_)
  refine J_aload_n cx dX6_comesOff_0 rfl ?_
  refine J_iconst (v := nI (2)) cx dX6_comesOff_1 (by decide) ?_
  refine J_put cx in_X6 tyX6 tyX6_ok nmX6 (ci := 5) rfl 4 (by decide) q460 (fun _ h => h) rfl (ty := .int) (by decide +kernel) dX6_comesOff_2 rfl rfl ha (Nat.le_of_ble_eq_true rfl) (by omega) ?_
  refine J_mem (gset G a (.inr (5, [.int pn9, .int pp9, .int pw9, .int pr9, .int (nI (2)), .int ck9, .int cv9, .float mo9, .ref wa9, .int po9, .ref da9, .int (nI (ph9))]))) rfl ?_
  refine J_aload_n cx dX6_comesOff_5 rfl ?_
  refine J_fconst1 cx dX6_comesOff_6 ?_
  refine J_put cx in_X6 tyX6 tyX6_ok nmX6 (ci := 5) rfl 7 (by decide) q470 (fun _ h => h) rfl (ty := .float) (by decide +kernel) dX6_comesOff_7 rfl rfl gset_eq (Nat.le_of_ble_eq_true rfl) (by omega) ?_
  refine J_mem (gset G a (.inr (5, [.int pn9, .int pp9, .int pw9, .int pr9, .int (nI (2)), .int ck9, .int cv9, .float (FP.fconst1), .ref wa9, .int po9, .ref da9, .int (nI (ph9))]))) gset_gset ?_
  refine J_aload_n cx dX6_comesOff_10 rfl ?_
  refine J_iconst (v := nI (0)) cx dX6_comesOff_11 (by decide) ?_
  refine J_put cx in_X6 tyX6 tyX6_ok nmX6 (ci := 5) rfl 6 (by decide) q467 (fun _ h => h) rfl (ty := .boolean) (by decide +kernel) dX6_comesOff_12 rfl rfl gset_eq (Nat.le_of_ble_eq_true rfl) (by omega) ?_
  refine J_mem (gset G a (.inr (5, [.int pn9, .int pp9, .int pw9, .int pr9, .int (nI (2)), .int ck9, .int (nI (0)), .float (FP.fconst1), .ref wa9, .int po9, .ref da9, .int (nI (ph9))]))) gset_gset ?_
  exact J_vret cx dX6_comesOff_15 hr ⟨rfl, rfl, rfl⟩ (Nat.le_of_ble_eq_true rfl) (Nat.le_of_ble_eq_true rfl)
abbrev r_loss (mo9 : UInt32) (d9 pr9 : Int32) : UInt32 := FP.fdiv (FP.fmul mo9 (FP.i2f (d9 * (nI (11) - pr9)))) 1148846080
theorem t_X6_lossOf (l : Launch) (Ω : jO) {G : Mem} {sz : Nat} (a : Nat) {pn9 pp9 pw9 pr9 st9 ck9 cv9 po9 : Int32} {mo9 : UInt32} {wa9 da9 ph9 : Nat} (m9 : UInt32) (d9 : Int32) (ha : G a = some (.inr (5, [.int pn9, .int pp9, .int pw9, .int pr9, .int st9, .int ck9, .int cv9, .float mo9, .ref wa9, .int po9, .ref da9, .int (nI (ph9))]))) (h1 : vf_n32 (FP.fmul m9 (FP.i2f (d9 * (nI (11) - pr9))))) (h2 : vf_n32 (r_loss m9 d9 pr9)) : Met l yX6_lossOf (ws_ yX6_lossOf cX6_lossOf 3 (some .float)) ({ frames := 1, cells := 0, slots := 0, locals := 12 } : Room) (va_Pc [.ref a, .float m9, .int d9] (jWd Ω G sz)) (jQ Ω (jD (some (.float (r_loss m9 d9 pr9))) G sz)) 0 0 (jB Ω) := by
  refine jMet (by decide) (Nat.le_of_ble_eq_true rfl) ?_
  intro p e s m args below meth c cx hr hnm
  refine J_loc [some (.ref a), some (.float m9), some (.int d9)] rfl ?_
  refine J_fload_n cx dX6_lossOf_0 rfl ?_
  refine J_iload_n cx dX6_lossOf_1 rfl ?_
  refine J_bipush (v := nI (11)) cx dX6_lossOf_2 (by decide) ?_
  refine J_aload_n cx dX6_lossOf_4 rfl ?_
  refine J_get cx in_X6 (ci := 5) rfl 3 (by decide) q456 (fun _ h => h) dX6_lossOf_5 ha rfl ?_
  refine J_isub cx dX6_lossOf_8 ?_
  refine J_imul cx dX6_lossOf_9 ?_
  refine J_i2f cx dX6_lossOf_10 ?_
  refine J_fmul cx dX6_lossOf_11 h1 ?_
  refine J_ldcf cx dX6_lossOf_12 q1324 ?_
  refine J_fdiv cx dX6_lossOf_14 h2 ?_
  exact J_fret cx dX6_lossOf_15 hr ⟨rfl, rfl, rfl⟩ (Nat.le_of_ble_eq_true rfl) (Nat.le_of_ble_eq_true rfl)
def r_breaks (ck9 pr9 : Int32) : Int32 := (if ((nI (2)) * ck9) ≤ pr9 then (nI (0)) else (nI (1)))
theorem t_X6_breaks (l : Launch) (Ω : jO) {G : Mem} {sz : Nat} (a : Nat) {pn9 pp9 pw9 pr9 st9 ck9 cv9 po9 : Int32} {mo9 : UInt32} {wa9 da9 ph9 : Nat} (ha : G a = some (.inr (5, [.int pn9, .int pp9, .int pw9, .int pr9, .int st9, .int ck9, .int cv9, .float mo9, .ref wa9, .int po9, .ref da9, .int (nI (ph9))]))) : Met l yX6_breaks (ws_ yX6_breaks cX6_breaks 1 (some .boolean)) ({ frames := 1, cells := 0, slots := 0, locals := 12 } : Room) (va_Pc [.ref a] (jWd Ω G sz)) (jQ Ω (jD (some (.int (r_breaks ck9 pr9))) G sz)) 0 0 (jB Ω) := by
  refine jMet (by decide) (Nat.le_of_ble_eq_true rfl) ?_
  intro p e s m args below meth c cx hr hnm
  refine J_loc [some (.ref a)] rfl ?_
  refine J_iconst (v := nI (2)) cx dX6_breaks_0 (by decide) ?_
  refine J_aload_n cx dX6_breaks_1 rfl ?_
  refine J_get cx in_X6 (ci := 5) rfl 5 (by decide) q464 (fun _ h => h) dX6_breaks_2 ha rfl ?_
  refine J_imul cx dX6_breaks_5 ?_
  refine J_aload_n cx dX6_breaks_6 rfl ?_
  refine J_get cx in_X6 (ci := 5) rfl 3 (by decide) q456 (fun _ h => h) dX6_breaks_7 ha rfl ?_
  refine J_icmp_le (tgt := 17) cx dX6_breaks_10 (by decide) (fun c10 => ?_) (fun c10 => ?_)
  · refine J_iconst (v := nI (0)) cx dX6_breaks_17 (by decide) ?_
    exact J_zret cx dX6_breaks_18 hr rfl ⟨by simp only [r_breaks, if_pos c10], rfl, rfl⟩ (Nat.le_of_ble_eq_true rfl) (Nat.le_of_ble_eq_true rfl)
  · refine J_iconst (v := nI (1)) cx dX6_breaks_13 (by decide) ?_
    refine J_goto (tgt := 18) cx dX6_breaks_14 (by decide) ?_
    exact J_zret cx dX6_breaks_18 hr rfl ⟨by simp only [r_breaks, if_neg c10], rfl, rfl⟩ (Nat.le_of_ble_eq_true rfl) (Nat.le_of_ble_eq_true rfl)
theorem t_X6_init_2 (l : Launch) (Ω : jO) {G : Mem} {sz : Nat} (a : Nat) (pn9 pp9 pw9 pr9 : Int32) (ha : G a = some (.inr (5, [.int 0, .int 0, .int 0, .int 0, .int 0, .int 0, .int 0, .float 0, .null, .int 0, .null, .int 0]))) (hb : Ω.2.2.2 ≤ a) : Met l yX6_init_2 (ws_ yX6_init_2 cX6_init_2 5 none) ({ frames := 3, cells := 2, slots := 1, locals := 54 } : Room) (va_Pc [.ref a, .int pn9, .int pp9, .int pw9, .int pr9] (jWd Ω G sz)) (jQ Ω (jD none (gset (gset (gset G sz (.inl (Ω.2.1 1, 0, .inl (fun _ => 0)))) (sz + 1) (.inr (6, [.int pn9]))) a (.inr (5, [.int pn9, .int pp9, .int pw9, .int pr9, .int 0, .int 0, .int 0, .float 0, .ref (sz + 1), .int (-1), .ref sz, .int 0]))) (sz + 1 + 1))) 2 1 (jB Ω) := by
  refine jMet (by decide) (Nat.le_of_ble_eq_true rfl) ?_
  intro p e s m args below meth c cx hr hnm
  refine J_loc [some (.ref a), some (.int pn9), some (.int pp9), some (.int pw9), some (.int pr9)] rfl ?_
  refine J_bs cx (fun hbs9 => ?_)
  refine J_lt ha (fun hlt0 => ?_)
  refine J_aload_n cx dX6_init_2_0 rfl ?_
  refine J_objInit cx dX6_init_2_1 q433 q170 q171 (Nat.le_of_ble_eq_true rfl) (Nat.le_of_ble_eq_true rfl) ?_
  refine J_aload_n cx dX6_init_2_4 rfl ?_
  refine J_iconst (v := -1) cx dX6_init_2_5 (by decide) ?_
  refine J_put cx in_X6 tyX6 tyX6_ok nmX6 (ci := 5) rfl 9 (by decide) q476 (fun _ h => h) rfl (ty := .int) (by decide +kernel) dX6_init_2_6 rfl rfl ha (Nat.le_of_ble_eq_true rfl) (by omega) ?_
  refine J_mem (gset G a (.inr (5, [.int 0, .int 0, .int 0, .int 0, .int 0, .int 0, .int 0, .float 0, .null, .int (-1), .null, .int 0]))) rfl ?_
  refine J_aload_n cx dX6_init_2_9 rfl ?_
  refine J_iconst (v := nI (0)) cx dX6_init_2_10 (by decide) ?_
  refine J_newa cx .byte rfl 1 q447 rfl rfl (0, .inl (fun _ => 0)) dX6_init_2_11 (fun cA => by rw [vp_cell_i]; rfl) (by omega) (by decide) (Nat.le_of_ble_eq_true rfl) (Nat.le_of_ble_eq_true rfl) ?_
  refine J_put cx in_X6 tyX6 tyX6_ok nmX6 (ci := 5) rfl 10 (by decide) q479 (fun _ h => h) rfl (ty := (.array .byte)) (by decide +kernel) dX6_init_2_13 rfl rfl ((gset_ne (by omega)).trans gset_eq) (Nat.le_of_ble_eq_true rfl) (by omega) ?_
  refine J_mem (gset (gset G sz (.inl (Ω.2.1 1, 0, .inl (fun _ => 0)))) a (.inr (5, [.int 0, .int 0, .int 0, .int 0, .int 0, .int 0, .int 0, .float 0, .null, .int (-1), .ref sz, .int 0]))) (by funext q9; simp only [gset]; by_cases hq9 : q9 = a <;> simp [hq9]) ?_
  refine J_aload_n cx dX6_init_2_16 rfl ?_
  refine J_iload_n cx dX6_init_2_17 rfl ?_
  refine J_putF cx in_X6 tyX6 tyX6_ok nmX6 (ci := 5) rfl 0 (by decide) q448 (fun _ h => h) rfl rfl hnm (ty := .int) (by decide +kernel) dX6_init_2_18 rfl rfl gset_eq (Nat.le_of_ble_eq_true rfl) (by omega) ?_
  refine J_mem (gset (gset G sz (.inl (Ω.2.1 1, 0, .inl (fun _ => 0)))) a (.inr (5, [.int pn9, .int 0, .int 0, .int 0, .int 0, .int 0, .int 0, .float 0, .null, .int (-1), .ref sz, .int 0]))) gset_gset ?_
  refine J_aload_n cx dX6_init_2_21 rfl ?_
  refine J_iload_n cx dX6_init_2_22 rfl ?_
  refine J_putF cx in_X6 tyX6 tyX6_ok nmX6 (ci := 5) rfl 1 (by decide) q449 (fun _ h => h) rfl rfl hnm (ty := .int) (by decide +kernel) dX6_init_2_23 rfl rfl gset_eq (Nat.le_of_ble_eq_true rfl) (by omega) ?_
  refine J_mem (gset (gset G sz (.inl (Ω.2.1 1, 0, .inl (fun _ => 0)))) a (.inr (5, [.int pn9, .int pp9, .int 0, .int 0, .int 0, .int 0, .int 0, .float 0, .null, .int (-1), .ref sz, .int 0]))) gset_gset ?_
  refine J_aload_n cx dX6_init_2_26 rfl ?_
  refine J_iload_n cx dX6_init_2_27 rfl ?_
  refine J_putF cx in_X6 tyX6 tyX6_ok nmX6 (ci := 5) rfl 2 (by decide) q452 (fun _ h => h) rfl rfl hnm (ty := .int) (by decide +kernel) dX6_init_2_28 rfl rfl gset_eq (Nat.le_of_ble_eq_true rfl) (by omega) ?_
  refine J_mem (gset (gset G sz (.inl (Ω.2.1 1, 0, .inl (fun _ => 0)))) a (.inr (5, [.int pn9, .int pp9, .int pw9, .int 0, .int 0, .int 0, .int 0, .float 0, .null, .int (-1), .ref sz, .int 0]))) gset_gset ?_
  refine J_aload_n cx dX6_init_2_31 rfl ?_
  refine J_iload cx dX6_init_2_32 rfl ?_
  refine J_putF cx in_X6 tyX6 tyX6_ok nmX6 (ci := 5) rfl 3 (by decide) q456 (fun _ h => h) rfl rfl hnm (ty := .int) (by decide +kernel) dX6_init_2_34 rfl rfl gset_eq (Nat.le_of_ble_eq_true rfl) (by omega) ?_
  refine J_mem (gset (gset G sz (.inl (Ω.2.1 1, 0, .inl (fun _ => 0)))) a (.inr (5, [.int pn9, .int pp9, .int pw9, .int pr9, .int 0, .int 0, .int 0, .float 0, .null, .int (-1), .ref sz, .int 0]))) gset_gset ?_
  refine J_aload_n cx dX6_init_2_37 rfl ?_
  refine J_new cx in_X8 tyX8 tyX8_ok q434 q435 q100 (ci := 6) rfl (fs := [.int 0]) (by decide +kernel) dX6_init_2_38 (Nat.le_of_ble_eq_true rfl) (Nat.le_of_ble_eq_true rfl) ?_
  refine J_dup cx dX6_init_2_41 rfl ?_
  refine J_iload_n cx dX6_init_2_42 rfl ?_
  refine J_callI (n := 1) cx [.int pn9] (t_X8_init l Ω (sz + 1) pn9 gset_eq (by omega)) dX6_init_2_43 q438 q100 q436 q437 rfl ⟨by decide, by decide, by decide +kernel⟩ rfl rfl ⟨Nat.le_of_ble_eq_true rfl, Nat.le_of_ble_eq_true rfl⟩ rfl rfl (Nat.le_of_ble_eq_true rfl) ⟨Nat.le_of_ble_eq_true rfl, Nat.le_of_ble_eq_true rfl⟩ (jdet ?_)
  refine J_mem (gset (gset (gset G sz (.inl (Ω.2.1 1, 0, .inl (fun _ => 0)))) a (.inr (5, [.int pn9, .int pp9, .int pw9, .int pr9, .int 0, .int 0, .int 0, .float 0, .null, .int (-1), .ref sz, .int 0]))) (sz + 1) (.inr (6, [.int pn9]))) gset_gset ?_
  refine J_put cx in_X6 tyX6 tyX6_ok nmX6 (ci := 5) rfl 8 (by decide) q472 (fun _ h => h) rfl (ty := (.object "TurningWheel$Ware")) (by decide +kernel) dX6_init_2_46 rfl rfl ((gset_ne (by omega)).trans gset_eq) (Nat.le_of_ble_eq_true rfl) (by omega) ?_
  refine J_mem (gset (gset (gset G sz (.inl (Ω.2.1 1, 0, .inl (fun _ => 0)))) (sz + 1) (.inr (6, [.int pn9]))) a (.inr (5, [.int pn9, .int pp9, .int pw9, .int pr9, .int 0, .int 0, .int 0, .float 0, .ref (sz + 1), .int (-1), .ref sz, .int 0]))) (by funext q9; simp only [gset]; by_cases hq9 : q9 = a <;> simp [hq9]) ?_
  exact J_vret cx dX6_init_2_49 hr ⟨rfl, rfl, rfl⟩ (Nat.le_of_ble_eq_true rfl) (Nat.le_of_ble_eq_true rfl)
set_option maxHeartbeats 1000000 in
theorem t_X6_init (l : Launch) (Ω : jO) {G : Mem} {sz : Nat} (a q9 : Nat) {pn9 pp9 pw9 pr9 st9 ck9 cv9 po9 : Int32} {mo9 : UInt32} {da9 ph9 : Nat} {wv9 : Value} {dn9 : Nat} {df9 : Nat → Int32} (ha : G a = some (.inr (5, [.int 0, .int 0, .int 0, .int 0, .int 0, .int 0, .int 0, .float 0, .null, .int 0, .null, .int 0]))) (hc : G q9 = some (.inr (5, [.int pn9, .int pp9, .int pw9, .int pr9, .int st9, .int ck9, .int cv9, .float mo9, wv9, .int po9, .ref da9, .int (nI (ph9))]))) (hda : G da9 = some (.inl (Ω.2.1 1, dn9, .inl df9))) (hdb : ∀ k, k < dn9 → fits .byte (.int (df9 k)) = true) (hwv : fits (.object "TurningWheel$Ware") wv9 = true) (hcv : cv9 = 0 ∨ cv9 = 1) (hne : a ≠ q9) (hb : Ω.2.2.2 ≤ a) : Met l yX6_init (ws_ yX6_init cX6_init 2 none) ({ frames := 4, cells := 3, slots := 1 + dn9, locals := 78 } : Room) (va_Pc [.ref a, .ref q9] (jWd Ω G sz)) (jQ Ω (jD none (gset (gset (gset (gset G sz (.inl (Ω.2.1 1, 0, .inl (fun _ => 0)))) (sz + 1) (.inr (6, [.int pn9]))) (sz + 1 + 1) (.inl (Ω.2.1 1, dn9, .inl df9))) a (.inr (5, [.int pn9, .int pp9, .int pw9, .int pr9, .int st9, .int ck9, .int cv9, .float mo9, wv9, .int po9, .ref (sz + 1 + 1), .int (nI (ph9))]))) (sz + 1 + 1 + 1))) 3 (1 + dn9) (jB Ω) := by
  refine jMet (by decide) (Nat.le_of_ble_eq_true rfl) ?_
  intro p e s m args below meth c cx hr hnm
  refine J_loc [some (.ref a), some (.ref q9)] rfl ?_
  refine J_bs cx (fun hbs9 => ?_)
  refine J_lt ha (fun hlt0 => ?_)
  refine J_lt hc (fun hlt1 => ?_)
  refine J_lt hda (fun hlt2 => ?_)
  have hne0 : a ≠ da9 := fun e => by have h1 := ha; rw [e, hda] at h1; simp at h1
  have hne1 : q9 ≠ da9 := fun e => by have h1 := hc; rw [e, hda] at h1; simp at h1
  refine J_aload_n cx dX6_init_0 rfl ?_
  refine J_aload_n cx dX6_init_1 rfl ?_
  refine J_get cx in_X6 (ci := 5) rfl 0 (by decide) q448 (fun _ h => h) dX6_init_2 hc rfl ?_
  refine J_aload_n cx dX6_init_5 rfl ?_
  refine J_get cx in_X6 (ci := 5) rfl 1 (by decide) q449 (fun _ h => h) dX6_init_6 hc rfl ?_
  refine J_aload_n cx dX6_init_9 rfl ?_
  refine J_get cx in_X6 (ci := 5) rfl 2 (by decide) q452 (fun _ h => h) dX6_init_10 hc rfl ?_
  refine J_aload_n cx dX6_init_13 rfl ?_
  refine J_get cx in_X6 (ci := 5) rfl 3 (by decide) q456 (fun _ h => h) dX6_init_14 hc rfl ?_
  refine J_callI (n := 4) cx [.int pn9, .int pp9, .int pw9, .int pr9] (t_X6_init_2 l Ω a pn9 pp9 pw9 pr9 ha (by omega)) dX6_init_17 q432 q96 q430 q431 rfl ⟨by decide, by decide, by decide +kernel⟩ rfl rfl ⟨Nat.le_of_ble_eq_true rfl, Nat.le_of_ble_eq_true rfl⟩ rfl rfl (Nat.le_of_ble_eq_true rfl) ⟨Nat.le_of_ble_eq_true rfl, by show _ ≤ 1 + dn9; omega⟩ (jdet ?_)
  refine J_mem (gset (gset (gset G sz (.inl (Ω.2.1 1, 0, .inl (fun _ => 0)))) (sz + 1) (.inr (6, [.int pn9]))) a (.inr (5, [.int pn9, .int pp9, .int pw9, .int pr9, .int 0, .int 0, .int 0, .float 0, .ref (sz + 1), .int (-1), .ref sz, .int 0]))) rfl ?_
  refine J_aload_n cx dX6_init_20 rfl ?_
  refine J_aload_n cx dX6_init_21 rfl ?_
  refine J_get cx in_X6 (ci := 5) rfl 4 (by decide) q460 (fun _ h => h) dX6_init_22 ((gset_ne (by omega)).trans ((gset_ne (by omega)).trans ((gset_ne (by omega)).trans hc))) rfl ?_
  refine J_put cx in_X6 tyX6 tyX6_ok nmX6 (ci := 5) rfl 4 (by decide) q460 (fun _ h => h) rfl (ty := .int) (by decide +kernel) dX6_init_25 rfl rfl gset_eq (Nat.le_of_ble_eq_true rfl) (by omega) ?_
  refine J_mem (gset (gset (gset G sz (.inl (Ω.2.1 1, 0, .inl (fun _ => 0)))) (sz + 1) (.inr (6, [.int pn9]))) a (.inr (5, [.int pn9, .int pp9, .int pw9, .int pr9, .int st9, .int 0, .int 0, .float 0, .ref (sz + 1), .int (-1), .ref sz, .int 0]))) gset_gset ?_
  refine J_aload_n cx dX6_init_28 rfl ?_
  refine J_aload_n cx dX6_init_29 rfl ?_
  refine J_get cx in_X6 (ci := 5) rfl 5 (by decide) q464 (fun _ h => h) dX6_init_30 ((gset_ne (by omega)).trans ((gset_ne (by omega)).trans ((gset_ne (by omega)).trans hc))) rfl ?_
  refine J_put cx in_X6 tyX6 tyX6_ok nmX6 (ci := 5) rfl 5 (by decide) q464 (fun _ h => h) rfl (ty := .int) (by decide +kernel) dX6_init_33 rfl rfl gset_eq (Nat.le_of_ble_eq_true rfl) (by omega) ?_
  refine J_mem (gset (gset (gset G sz (.inl (Ω.2.1 1, 0, .inl (fun _ => 0)))) (sz + 1) (.inr (6, [.int pn9]))) a (.inr (5, [.int pn9, .int pp9, .int pw9, .int pr9, .int st9, .int ck9, .int 0, .float 0, .ref (sz + 1), .int (-1), .ref sz, .int 0]))) gset_gset ?_
  refine J_aload_n cx dX6_init_36 rfl ?_
  refine J_aload_n cx dX6_init_37 rfl ?_
  refine J_get cx in_X6 (ci := 5) rfl 6 (by decide) q467 (fun _ h => h) dX6_init_38 ((gset_ne (by omega)).trans ((gset_ne (by omega)).trans ((gset_ne (by omega)).trans hc))) rfl ?_
  refine J_put cx in_X6 tyX6 tyX6_ok nmX6 (ci := 5) rfl 6 (by decide) q467 (fun _ h => h) rfl (ty := .boolean) (by decide +kernel) dX6_init_41 (by rcases hcv with h | h <;> rw [h] <;> rfl) (by rcases hcv with h | h <;> rw [h] <;> rfl) gset_eq (Nat.le_of_ble_eq_true rfl) (by omega) ?_
  refine J_mem (gset (gset (gset G sz (.inl (Ω.2.1 1, 0, .inl (fun _ => 0)))) (sz + 1) (.inr (6, [.int pn9]))) a (.inr (5, [.int pn9, .int pp9, .int pw9, .int pr9, .int st9, .int ck9, .int cv9, .float 0, .ref (sz + 1), .int (-1), .ref sz, .int 0]))) gset_gset ?_
  refine J_aload_n cx dX6_init_44 rfl ?_
  refine J_aload_n cx dX6_init_45 rfl ?_
  refine J_get cx in_X6 (ci := 5) rfl 7 (by decide) q470 (fun _ h => h) dX6_init_46 ((gset_ne (by omega)).trans ((gset_ne (by omega)).trans ((gset_ne (by omega)).trans hc))) rfl ?_
  refine J_put cx in_X6 tyX6 tyX6_ok nmX6 (ci := 5) rfl 7 (by decide) q470 (fun _ h => h) rfl (ty := .float) (by decide +kernel) dX6_init_49 rfl rfl gset_eq (Nat.le_of_ble_eq_true rfl) (by omega) ?_
  refine J_mem (gset (gset (gset G sz (.inl (Ω.2.1 1, 0, .inl (fun _ => 0)))) (sz + 1) (.inr (6, [.int pn9]))) a (.inr (5, [.int pn9, .int pp9, .int pw9, .int pr9, .int st9, .int ck9, .int cv9, .float mo9, .ref (sz + 1), .int (-1), .ref sz, .int 0]))) gset_gset ?_
  refine J_aload_n cx dX6_init_52 rfl ?_
  refine J_aload_n cx dX6_init_53 rfl ?_
  refine J_get cx in_X6 (ci := 5) rfl 8 (by decide) q472 (fun _ h => h) dX6_init_54 ((gset_ne (by omega)).trans ((gset_ne (by omega)).trans ((gset_ne (by omega)).trans hc))) rfl ?_
  refine J_put cx in_X6 tyX6 tyX6_ok nmX6 (ci := 5) rfl 8 (by decide) q472 (fun _ h => h) rfl (ty := (.object "TurningWheel$Ware")) (by decide +kernel) dX6_init_57 (by cases wv9 <;> first | rfl | (simp [fits] at hwv)) hwv gset_eq (Nat.le_of_ble_eq_true rfl) (by omega) ?_
  refine J_mem (gset (gset (gset G sz (.inl (Ω.2.1 1, 0, .inl (fun _ => 0)))) (sz + 1) (.inr (6, [.int pn9]))) a (.inr (5, [.int pn9, .int pp9, .int pw9, .int pr9, .int st9, .int ck9, .int cv9, .float mo9, wv9, .int (-1), .ref sz, .int 0]))) gset_gset ?_
  refine J_aload_n cx dX6_init_60 rfl ?_
  refine J_aload_n cx dX6_init_61 rfl ?_
  refine J_get cx in_X6 (ci := 5) rfl 9 (by decide) q476 (fun _ h => h) dX6_init_62 ((gset_ne (by omega)).trans ((gset_ne (by omega)).trans ((gset_ne (by omega)).trans hc))) rfl ?_
  refine J_put cx in_X6 tyX6 tyX6_ok nmX6 (ci := 5) rfl 9 (by decide) q476 (fun _ h => h) rfl (ty := .int) (by decide +kernel) dX6_init_65 rfl rfl gset_eq (Nat.le_of_ble_eq_true rfl) (by omega) ?_
  refine J_mem (gset (gset (gset G sz (.inl (Ω.2.1 1, 0, .inl (fun _ => 0)))) (sz + 1) (.inr (6, [.int pn9]))) a (.inr (5, [.int pn9, .int pp9, .int pw9, .int pr9, .int st9, .int ck9, .int cv9, .float mo9, wv9, .int po9, .ref sz, .int 0]))) gset_gset ?_
  refine J_aload_n cx dX6_init_68 rfl ?_
  refine J_aload_n cx dX6_init_69 rfl ?_
  refine J_get cx in_X6 (ci := 5) rfl 10 (by decide) q479 (fun _ h => h) dX6_init_70 ((gset_ne (by omega)).trans ((gset_ne (by omega)).trans ((gset_ne (by omega)).trans hc))) rfl ?_
  refine J_clone cx 1 dX6_init_73 q507 q508 q405 q406 q509 q510 rfl ((gset_ne (by omega)).trans ((gset_ne (by omega)).trans ((gset_ne (by omega)).trans hda))) cx.nmB (jfit_b hdb) (Nat.le_of_ble_eq_true rfl) (Nat.le_of_ble_eq_true rfl) (Nat.le_of_ble_eq_true rfl) (by show _ + dn9 ≤ 1 + dn9; omega) ?_
  refine J_castA cx dX6_init_76 q511 gset_eq cx.nmB ?_
  refine J_put cx in_X6 tyX6 tyX6_ok nmX6 (ci := 5) rfl 10 (by decide) q479 (fun _ h => h) rfl (ty := (.array .byte)) (by decide +kernel) dX6_init_79 rfl rfl ((gset_ne (by omega)).trans gset_eq) (Nat.le_of_ble_eq_true rfl) (by omega) ?_
  refine J_mem (gset (gset (gset (gset G sz (.inl (Ω.2.1 1, 0, .inl (fun _ => 0)))) (sz + 1) (.inr (6, [.int pn9]))) (sz + 1 + 1) (.inl (Ω.2.1 1, dn9, .inl df9))) a (.inr (5, [.int pn9, .int pp9, .int pw9, .int pr9, .int st9, .int ck9, .int cv9, .float mo9, wv9, .int po9, .ref (sz + 1 + 1), .int 0]))) (by funext q9; simp only [gset]; by_cases hq9 : q9 = a <;> simp [hq9]) ?_
  refine J_aload_n cx dX6_init_82 rfl ?_
  refine J_aload_n cx dX6_init_83 rfl ?_
  refine J_get cx in_X6 (ci := 5) rfl 11 (by decide) q480 (fun _ h => h) dX6_init_84 ((gset_ne (by omega)).trans ((gset_ne (by omega)).trans ((gset_ne (by omega)).trans ((gset_ne (by omega)).trans hc)))) rfl ?_
  refine J_put cx in_X6 tyX6 tyX6_ok nmX6 (ci := 5) rfl 11 (by decide) q480 (fun _ h => h) rfl (ty := .int) (by decide +kernel) dX6_init_87 rfl rfl gset_eq (Nat.le_of_ble_eq_true rfl) (by omega) ?_
  refine J_mem (gset (gset (gset (gset G sz (.inl (Ω.2.1 1, 0, .inl (fun _ => 0)))) (sz + 1) (.inr (6, [.int pn9]))) (sz + 1 + 1) (.inl (Ω.2.1 1, dn9, .inl df9))) a (.inr (5, [.int pn9, .int pp9, .int pw9, .int pr9, .int st9, .int ck9, .int cv9, .float mo9, wv9, .int po9, .ref (sz + 1 + 1), .int (nI (ph9))]))) gset_gset ?_
  exact J_vret cx dX6_init_90 hr ⟨rfl, rfl, rfl⟩ (Nat.le_of_ble_eq_true rfl) (by show _ ≤ 1 + dn9; omega)
-- keeps
/-- the slots that a growth of the array takes: paid out of its length's doubling -/
def mKeeps (ph9 dn9 : Nat) : Nat := if ph9 = dn9 then 2 * ph9 + 8 else 0
set_option maxHeartbeats 1000000 in
theorem t_X6_keeps (l : Launch) (Ω : jO) {G : Mem} {sz : Nat} (a : Nat) {pn9 pp9 pw9 pr9 st9 ck9 cv9 po9 : Int32} {mo9 : UInt32} {da9 ph9 : Nat} {wv9 : Value} {dn9 : Nat} {df9 : Nat → Int32} (ha : G a = some (.inr (5, [.int pn9, .int pp9, .int pw9, .int pr9, .int st9, .int ck9, .int cv9, .float mo9, wv9, .int po9, .ref da9, .int (nI (ph9))]))) (hda : G da9 = some (.inl (Ω.2.1 1, dn9, .inl df9))) (hb : Ω.2.2.2 ≤ a) (hbd : Ω.2.2.2 ≤ da9) (hph : ph9 ≤ dn9) (hdn : dn9 ≤ 100000) (hdb : ∀ k, k < dn9 → fits .byte (.int (df9 k)) = true) (d9 : Int32) : Met l yX6_keeps (ws_ yX6_keeps cX6_keeps 3 none) ({ frames := 1, cells := 1, slots := mKeeps ph9 dn9, locals := 52 } : Room) (va_Pc [.ref a, .int d9] (jWd Ω G sz)) (jQ Ω (if ph9 = dn9 then jD none (gset (gset G sz (.inl (Ω.2.1 1, (2 * ph9) + 8, .inl (upd (va_cpy df9 (fun _ => 0) 0 0 ph9) ph9 (vp_nar .byte (d9.toInt8.toInt32)))))) a (.inr (5, [.int pn9, .int pp9, .int pw9, .int pr9, .int st9, .int ck9, .int cv9, .float mo9, wv9, .int po9, .ref sz, .int (nI (ph9 + 1))]))) (sz + 1) else jD none (gset (gset G da9 (.inl (Ω.2.1 1, dn9, .inl (upd df9 ph9 (vp_nar .byte (d9.toInt8.toInt32)))))) a (.inr (5, [.int pn9, .int pp9, .int pw9, .int pr9, .int st9, .int ck9, .int cv9, .float mo9, wv9, .int po9, .ref da9, .int (nI (ph9 + 1))]))) (sz))) 1 (mKeeps ph9 dn9) (jB Ω) := by
  refine jMet (by decide) (Nat.le_of_ble_eq_true rfl) ?_
  intro p e s m args below meth c cx hr hnm
  refine J_loc [some (.ref a), some (.int d9), none] rfl ?_
  refine J_bs cx (fun hbs9 => ?_)
  refine J_lt ha (fun hlt0 => ?_)
  refine J_lt hda (fun hlt1 => ?_)
  have hne0 : a ≠ da9 := fun e => by have h1 := ha; rw [e, hda] at h1; simp at h1
  refine J_aload_n cx dX6_keeps_0 rfl ?_
  refine J_get cx in_X6 (ci := 5) rfl 11 (by decide) q480 (fun _ h => h) dX6_keeps_1 ha rfl ?_
  refine J_aload_n cx dX6_keeps_4 rfl ?_
  refine J_get cx in_X6 (ci := 5) rfl 10 (by decide) q479 (fun _ h => h) dX6_keeps_5 ha rfl ?_
  refine J_alen cx 1 dX6_keeps_8 rfl hda ?_
  refine J_icmpN_ne (tgt := 43) cx dX6_keeps_9 (by decide) (by omega) (by omega) (fun c9 => ?_) (fun c9 => ?_)
  · refine J_aload_n cx dX6_keeps_43 rfl ?_
    refine J_get cx in_X6 (ci := 5) rfl 10 (by decide) q479 (fun _ h => h) dX6_keeps_44 ha rfl ?_
    refine J_aload_n cx dX6_keeps_47 rfl ?_
    refine J_get cx in_X6 (ci := 5) rfl 11 (by decide) q480 (fun _ h => h) dX6_keeps_48 ha rfl ?_
    refine J_iload_n cx dX6_keeps_51 rfl ?_
    refine J_i2b (v := d9.toInt8.toInt32) cx dX6_keeps_52 rfl ?_
    refine J_bast cx dX6_keeps_53 hda (by omega) (by omega) (by omega) ?_
    refine J_mem (gset G da9 (.inl (Ω.2.1 1, dn9, .inl (upd df9 ph9 (vp_nar .byte (d9.toInt8.toInt32)))))) rfl ?_
    refine J_aload_n cx dX6_keeps_54 rfl ?_
    refine J_dup cx dX6_keeps_55 rfl ?_
    refine J_get cx in_X6 (ci := 5) rfl 11 (by decide) q480 (fun _ h => h) dX6_keeps_56 ((gset_ne (by omega)).trans ha) rfl ?_
    refine J_iconst (v := nI (1)) cx dX6_keeps_59 (by decide) ?_
    refine J_iaddN cx dX6_keeps_60 ?_
    refine J_put cx in_X6 tyX6 tyX6_ok nmX6 (ci := 5) rfl 11 (by decide) q480 (fun _ h => h) rfl (ty := .int) (by decide +kernel) dX6_keeps_61 rfl rfl ((gset_ne (by omega)).trans ha) (Nat.le_of_ble_eq_true rfl) (by omega) ?_
    refine J_mem (gset (gset G da9 (.inl (Ω.2.1 1, dn9, .inl (upd df9 ph9 (vp_nar .byte (d9.toInt8.toInt32)))))) a (.inr (5, [.int pn9, .int pp9, .int pw9, .int pr9, .int st9, .int ck9, .int cv9, .float mo9, wv9, .int po9, .ref da9, .int (nI (ph9 + 1))]))) rfl ?_
    exact J_vret cx dX6_keeps_64 hr (by first | (rw [if_pos c9]; exact ⟨rfl, rfl, rfl⟩) | (rw [if_neg c9]; exact ⟨rfl, rfl, rfl⟩)) (Nat.le_of_ble_eq_true rfl) (by show _ ≤ mKeeps ph9 dn9; simp only [mKeeps]; split <;> omega)
  · refine J_iconst (v := nI (2)) cx dX6_keeps_12 (by decide) ?_
    refine J_aload_n cx dX6_keeps_13 rfl ?_
    refine J_get cx in_X6 (ci := 5) rfl 11 (by decide) q480 (fun _ h => h) dX6_keeps_14 ha rfl ?_
    refine J_imulN cx dX6_keeps_17 ?_
    refine J_bipush (v := nI (8)) cx dX6_keeps_18 (by decide) ?_
    refine J_iaddN cx dX6_keeps_20 ?_
    refine J_newa cx .byte rfl 1 q447 rfl rfl ((2 * ph9) + 8, .inl (fun _ => 0)) dX6_keeps_21 (fun cA => by rw [vp_cell_i]; rfl) (by omega) (by show _ * 1 ≤ _; omega) (Nat.le_of_ble_eq_true rfl) (by show _ ≤ mKeeps ph9 dn9; simp only [mKeeps]; rw [if_pos c9]; omega) ?_
    refine J_astore_n2 cx dX6_keeps_23 (by decide) rfl ?_
    refine J_aload_n cx dX6_keeps_24 rfl ?_
    refine J_get cx in_X6 (ci := 5) rfl 10 (by decide) q479 (fun _ h => h) dX6_keeps_25 ((gset_ne (by omega)).trans ha) rfl ?_
    refine J_iconst (v := nI (0)) cx dX6_keeps_28 (by decide) ?_
    refine J_aload_n cx dX6_keeps_29 rfl ?_
    refine J_iconst (v := nI (0)) cx dX6_keeps_30 (by decide) ?_
    refine J_aload_n cx dX6_keeps_31 rfl ?_
    refine J_get cx in_X6 (ci := 5) rfl 11 (by decide) q480 (fun _ h => h) dX6_keeps_32 ((gset_ne (by omega)).trans ha) rfl ?_
    refine J_copyi cx 1 dX6_keeps_35 q1329 q606 q605 q104 rfl (by decide) ((gset_ne (by omega)).trans hda) gset_eq (by omega) (by omega) (by omega) (by omega) (fun i hi => hdb _ (by omega)) (by omega) (Nat.le_of_ble_eq_true rfl) (by show _ ≤ (52 : Nat); decide +kernel) ?_
    refine J_mem (gset G sz (.inl (Ω.2.1 1, (2 * ph9) + 8, .inl (va_cpy df9 (fun _ => 0) 0 0 ph9)))) gset_gset ?_
    refine J_aload_n cx dX6_keeps_38 rfl ?_
    refine J_aload_n cx dX6_keeps_39 rfl ?_
    refine J_put cx in_X6 tyX6 tyX6_ok nmX6 (ci := 5) rfl 10 (by decide) q479 (fun _ h => h) rfl (ty := (.array .byte)) (by decide +kernel) dX6_keeps_40 rfl rfl ((gset_ne (by omega)).trans ha) (Nat.le_of_ble_eq_true rfl) (by omega) ?_
    refine J_mem (gset (gset G sz (.inl (Ω.2.1 1, (2 * ph9) + 8, .inl (va_cpy df9 (fun _ => 0) 0 0 ph9)))) a (.inr (5, [.int pn9, .int pp9, .int pw9, .int pr9, .int st9, .int ck9, .int cv9, .float mo9, wv9, .int po9, .ref sz, .int (nI (ph9))]))) rfl ?_
    refine J_aload_n cx dX6_keeps_43 rfl ?_
    refine J_get cx in_X6 (ci := 5) rfl 10 (by decide) q479 (fun _ h => h) dX6_keeps_44 gset_eq rfl ?_
    refine J_aload_n cx dX6_keeps_47 rfl ?_
    refine J_get cx in_X6 (ci := 5) rfl 11 (by decide) q480 (fun _ h => h) dX6_keeps_48 gset_eq rfl ?_
    refine J_iload_n cx dX6_keeps_51 rfl ?_
    refine J_i2b (v := d9.toInt8.toInt32) cx dX6_keeps_52 rfl ?_
    refine J_bast cx dX6_keeps_53 ((gset_ne (by omega)).trans gset_eq) (by omega) (by omega) (by omega) ?_
    refine J_mem (gset (gset G a (.inr (5, [.int pn9, .int pp9, .int pw9, .int pr9, .int st9, .int ck9, .int cv9, .float mo9, wv9, .int po9, .ref sz, .int (nI (ph9))]))) sz (.inl (Ω.2.1 1, (2 * ph9) + 8, .inl (upd (va_cpy df9 (fun _ => 0) 0 0 ph9) ph9 (vp_nar .byte (d9.toInt8.toInt32)))))) (by funext q9; simp only [gset]; by_cases hq9 : q9 = sz <;> simp [hq9]) ?_
    refine J_aload_n cx dX6_keeps_54 rfl ?_
    refine J_dup cx dX6_keeps_55 rfl ?_
    refine J_get cx in_X6 (ci := 5) rfl 11 (by decide) q480 (fun _ h => h) dX6_keeps_56 ((gset_ne (by omega)).trans gset_eq) rfl ?_
    refine J_iconst (v := nI (1)) cx dX6_keeps_59 (by decide) ?_
    refine J_iaddN cx dX6_keeps_60 ?_
    refine J_put cx in_X6 tyX6 tyX6_ok nmX6 (ci := 5) rfl 11 (by decide) q480 (fun _ h => h) rfl (ty := .int) (by decide +kernel) dX6_keeps_61 rfl rfl ((gset_ne (by omega)).trans gset_eq) (Nat.le_of_ble_eq_true rfl) (by omega) ?_
    refine J_mem (gset (gset G sz (.inl (Ω.2.1 1, (2 * ph9) + 8, .inl (upd (va_cpy df9 (fun _ => 0) 0 0 ph9) ph9 (vp_nar .byte (d9.toInt8.toInt32)))))) a (.inr (5, [.int pn9, .int pp9, .int pw9, .int pr9, .int st9, .int ck9, .int cv9, .float mo9, wv9, .int po9, .ref sz, .int (nI (ph9 + 1))]))) (by funext q9; simp only [gset]; by_cases hq9 : q9 = a <;> simp [hq9]) ?_
    exact J_vret cx dX6_keeps_64 hr (by first | (rw [if_pos c9]; exact ⟨rfl, rfl, rfl⟩) | (rw [if_neg c9]; exact ⟨rfl, rfl, rfl⟩)) (Nat.le_of_ble_eq_true rfl) (by show _ ≤ mKeeps ph9 dn9; simp only [mKeeps]; split <;> omega)
