/-! OBJECTS 3 (gen/mk_o3.py): Pot.dries, again, reach; Order.wants; Turn -/
set_option maxRecDepth 100000
theorem t_X6_keeps_g (l : Launch) (Ω : jO) {G : Mem} {sz : Nat} (a : Nat) {pn9 pp9 pw9 pr9 st9 ck9 cv9 po9 : Int32} {mo9 : UInt32} {da9 ph9 : Nat} {wv9 : Value} {dn9 : Nat} {df9 : Nat → Int32} (ha : G a = some (.inr (5, [.int pn9, .int pp9, .int pw9, .int pr9, .int st9, .int ck9, .int cv9, .float mo9, wv9, .int po9, .ref da9, .int (nI (ph9))]))) (hda : G da9 = some (.inl (Ω.2.1 1, dn9, .inl df9))) (hb : Ω.2.2.2 ≤ a) (hbd : Ω.2.2.2 ≤ da9) (hph : ph9 ≤ dn9) (hdn : dn9 ≤ 100000) (hdb : ∀ k, k < dn9 → fits .byte (.int (df9 k)) = true) (d9 : Int32) (hk : ph9 = dn9) : Met l yX6_keeps (ws_ yX6_keeps cX6_keeps 3 none) ({ frames := 1, cells := 1, slots := mKeeps ph9 dn9, locals := 52 } : Room) (va_Pc [.ref a, .int d9] (jWd Ω G sz)) (jQ Ω (jD none (gset (gset G sz (.inl (Ω.2.1 1, (2 * ph9) + 8, .inl (upd (va_cpy df9 (fun _ => 0) 0 0 ph9) ph9 (vp_nar .byte (d9.toInt8.toInt32)))))) a (.inr (5, [.int pn9, .int pp9, .int pw9, .int pr9, .int st9, .int ck9, .int cv9, .float mo9, wv9, .int po9, .ref sz, .int (nI (ph9 + 1))]))) (sz + 1))) 1 (mKeeps ph9 dn9) (jB Ω) := by
  have h9 := t_X6_keeps (sz := sz) l Ω a ha hda hb hbd hph hdn hdb d9
  rw [if_pos hk] at h9
  exact h9
theorem t_X6_keeps_s (l : Launch) (Ω : jO) {G : Mem} {sz : Nat} (a : Nat) {pn9 pp9 pw9 pr9 st9 ck9 cv9 po9 : Int32} {mo9 : UInt32} {da9 ph9 : Nat} {wv9 : Value} {dn9 : Nat} {df9 : Nat → Int32} (ha : G a = some (.inr (5, [.int pn9, .int pp9, .int pw9, .int pr9, .int st9, .int ck9, .int cv9, .float mo9, wv9, .int po9, .ref da9, .int (nI (ph9))]))) (hda : G da9 = some (.inl (Ω.2.1 1, dn9, .inl df9))) (hb : Ω.2.2.2 ≤ a) (hbd : Ω.2.2.2 ≤ da9) (hph : ph9 ≤ dn9) (hdn : dn9 ≤ 100000) (hdb : ∀ k, k < dn9 → fits .byte (.int (df9 k)) = true) (d9 : Int32) (hk : ¬ ph9 = dn9) : Met l yX6_keeps (ws_ yX6_keeps cX6_keeps 3 none) ({ frames := 1, cells := 1, slots := mKeeps ph9 dn9, locals := 52 } : Room) (va_Pc [.ref a, .int d9] (jWd Ω G sz)) (jQ Ω (jD none (gset (gset G da9 (.inl (Ω.2.1 1, dn9, .inl (upd df9 ph9 (vp_nar .byte (d9.toInt8.toInt32)))))) a (.inr (5, [.int pn9, .int pp9, .int pw9, .int pr9, .int st9, .int ck9, .int cv9, .float mo9, wv9, .int po9, .ref da9, .int (nI (ph9 + 1))]))) (sz))) 1 (mKeeps ph9 dn9) (jB Ω) := by
  have h9 := t_X6_keeps (sz := sz) l Ω a ha hda hb hbd hph hdn hdb d9
  rw [if_neg hk] at h9
  exact h9
def s_dries_st (mo9 : UInt32) (pr9 st9 ck9 cv9 d9 b9 : Int32) : Int32 := (if (ck9 + (r_bit (if (FP.f2i (FP.fmul (r_loss mo9 (if cv9 = 0 then d9 else d9 / (nI (2))) pr9) 1148846080)) ≤ (b9 + ((nI (10)) * pr9)) then nI (0) else nI (1)))) = (nI (3)) then (nI (7)) else (if 0 ≤ (Op.cmpValue (FP.fcmp (FP.fsub mo9 (r_loss mo9 (if cv9 = 0 then d9 else d9 / (nI (2))) pr9)) 1036831949) .g) then st9 else (nI (3))))
def s_dries_ck (mo9 : UInt32) (pr9 st9 ck9 cv9 d9 b9 : Int32) : Int32 := (ck9 + (r_bit (if (FP.f2i (FP.fmul (r_loss mo9 (if cv9 = 0 then d9 else d9 / (nI (2))) pr9) 1148846080)) ≤ (b9 + ((nI (10)) * pr9)) then nI (0) else nI (1))))
def s_dries_mo (mo9 : UInt32) (pr9 st9 ck9 cv9 d9 b9 : Int32) : UInt32 := (FP.fsub mo9 (r_loss mo9 (if cv9 = 0 then d9 else d9 / (nI (2))) pr9))
set_option maxHeartbeats 2000000 in
theorem t_X6_dries (l : Launch) (Ω : jO) {G : Mem} {sz : Nat} (a : Nat) {pn9 pp9 pw9 pr9 st9 ck9 cv9 po9 : Int32} {mo9 : UInt32} {wa9 da9 ph9 : Nat} {dn9 : Nat} {df9 : Nat → Int32} (ha : G a = some (.inr (5, [.int pn9, .int pp9, .int pw9, .int pr9, .int st9, .int ck9, .int cv9, .float mo9, .ref wa9, .int po9, .ref da9, .int (nI (ph9))]))) (hda : G da9 = some (.inl (Ω.2.1 1, dn9, .inl df9))) (hb : Ω.2.2.2 ≤ a) (hbd : Ω.2.2.2 ≤ da9) (hph : ph9 ≤ dn9) (hdn : dn9 ≤ 100000) (hdb : ∀ k, k < dn9 → fits .byte (.int (df9 k)) = true) (d9 b9 : Int32) (h1 : vf_n32 (FP.fmul mo9 (FP.i2f ((if cv9 = 0 then d9 else d9 / nI (2)) * (nI (11) - pr9))))) (h2 : vf_n32 (r_loss mo9 (if cv9 = 0 then d9 else d9 / nI (2)) pr9)) (h3 : vf_n32 (FP.fsub mo9 (r_loss mo9 (if cv9 = 0 then d9 else d9 / nI (2)) pr9))) (h4 : vf_n32 (FP.fmul (r_loss mo9 (if cv9 = 0 then d9 else d9 / nI (2)) pr9) 1148846080)) : Met l yX6_dries (ws_ yX6_dries cX6_dries 5 none) ({ frames := 2, cells := 1, slots := mKeeps ph9 dn9, locals := 74 } : Room) (va_Pc [.ref a, .int d9, .int b9] (jWd Ω G sz)) (jQ Ω (fun v9 G9 sz9 => v9 = none ∧ G9 a = some (.inr (5, [.int pn9, .int pp9, .int pw9, .int pr9, .int (s_dries_st mo9 pr9 st9 ck9 cv9 d9 b9), .int (s_dries_ck mo9 pr9 st9 ck9 cv9 d9 b9), .int cv9, .float (s_dries_mo mo9 pr9 st9 ck9 cv9 d9 b9), .ref wa9, .int po9, .ref (if ph9 = dn9 then sz else da9), .int (nI (ph9 + 1))])) ∧ G9 (if ph9 = dn9 then sz else da9) = some (.inl (Ω.2.1 1, (if ph9 = dn9 then (2 * ph9) + 8 else dn9), .inl (if ph9 = dn9 then upd (va_cpy df9 (fun _ => 0) 0 0 ph9) ph9 (vp_nar .byte ((if cv9 = 0 then d9 else d9 / nI (2)).toInt8.toInt32)) else upd df9 ph9 (vp_nar .byte ((if cv9 = 0 then d9 else d9 / nI (2)).toInt8.toInt32))))) ∧ sz9 = (if ph9 = dn9 then sz + 1 else sz) ∧ ∀ q9, q9 < sz → q9 ≠ a → q9 ≠ da9 → G9 q9 = G q9)) 1 (mKeeps ph9 dn9) (jB Ω) := by
  refine jMet (by decide) (Nat.le_of_ble_eq_true rfl) ?_
  intro p e s m args below meth c cx hr hnm
  refine J_loc [some (.ref a), some (.int d9), some (.int b9), none, none] rfl ?_
  refine J_bs cx (fun hbs9 => ?_)
  refine J_lt ha (fun hlt0 => ?_)
  refine J_lt hda (fun hlt1 => ?_)
  have hne0 : a ≠ da9 := fun e => by have h1 := ha; rw [e, hda] at h1; simp at h1
  refine J_aload_n cx dX6_dries_0 rfl ?_
  refine J_get cx in_X6 (ci := 5) rfl 6 (by decide) q467 (fun _ h => h) dX6_dries_1 ha rfl ?_
  have K14 : J p l e ({ frames := 2, cells := 1, slots := mKeeps ph9 dn9, locals := 74 } : Room) s m args below meth c Ω 5 (MQ below (jQ Ω (fun v9 G9 sz9 => v9 = none ∧ G9 a = some (.inr (5, [.int pn9, .int pp9, .int pw9, .int pr9, .int (s_dries_st mo9 pr9 st9 ck9 cv9 d9 b9), .int (s_dries_ck mo9 pr9 st9 ck9 cv9 d9 b9), .int cv9, .float (s_dries_mo mo9 pr9 st9 ck9 cv9 d9 b9), .ref wa9, .int po9, .ref (if ph9 = dn9 then sz else da9), .int (nI (ph9 + 1))])) ∧ G9 (if ph9 = dn9 then sz else da9) = some (.inl (Ω.2.1 1, (if ph9 = dn9 then (2 * ph9) + 8 else dn9), .inl (if ph9 = dn9 then upd (va_cpy df9 (fun _ => 0) 0 0 ph9) ph9 (vp_nar .byte ((if cv9 = 0 then d9 else d9 / nI (2)).toInt8.toInt32)) else upd df9 ph9 (vp_nar .byte ((if cv9 = 0 then d9 else d9 / nI (2)).toInt8.toInt32))))) ∧ sz9 = (if ph9 = dn9 then sz + 1 else sz) ∧ ∀ q9, q9 < sz → q9 ≠ a → q9 ≠ da9 → G9 q9 = G q9)) args s 1 (mKeeps ph9 dn9) (jB Ω)) 0 0 (sz) G 14 [some (.ref a), some (.int d9), some (.int b9), none, none] [.int (if cv9 = 0 then d9 else d9 / (nI (2)))] := by
    refine J_istore_n3 cx dX6_dries_14 (by decide) rfl ?_
    refine J_aload_n cx dX6_dries_15 rfl ?_
    refine J_aload_n cx dX6_dries_16 rfl ?_
    refine J_get cx in_X6 (ci := 5) rfl 7 (by decide) q470 (fun _ h => h) dX6_dries_17 ha rfl ?_
    refine J_iload_n cx dX6_dries_20 rfl ?_
    refine J_callV (n := 2) cx (ci := 5) [.float mo9, .int (if cv9 = 0 then d9 else d9 / (nI (2)))] (t_X6_lossOf l Ω a mo9 (if cv9 = 0 then d9 else d9 / (nI (2))) ha h1 h2) dX6_dries_21 (lw_V q1320 q1322 qs9 q96 q1323) ⟨rfl, by decide, by decide, by decide +kernel⟩ rfl ha rfl rfl ⟨Nat.le_of_ble_eq_true rfl, Nat.le_of_ble_eq_true rfl⟩ rfl rfl (Nat.le_of_ble_eq_true rfl) ⟨Nat.le_of_ble_eq_true rfl, by show _ ≤ mKeeps ph9 dn9; omega⟩ (jdet ?_)
    refine J_fstore4 cx dX6_dries_24 (by decide) rfl ?_
    refine J_aload_n cx dX6_dries_26 rfl ?_
    refine J_dup cx dX6_dries_27 rfl ?_
    refine J_get cx in_X6 (ci := 5) rfl 7 (by decide) q470 (fun _ h => h) dX6_dries_28 ha rfl ?_
    refine J_fload cx dX6_dries_31 rfl ?_
    refine J_fsub cx dX6_dries_33 h3 ?_
    refine J_put cx in_X6 tyX6 tyX6_ok nmX6 (ci := 5) rfl 7 (by decide) q470 (fun _ h => h) rfl (ty := .float) (by decide +kernel) dX6_dries_34 rfl rfl ha (Nat.le_of_ble_eq_true rfl) (by omega) ?_
    refine J_mem (gset G a (.inr (5, [.int pn9, .int pp9, .int pw9, .int pr9, .int st9, .int ck9, .int cv9, .float (FP.fsub mo9 (r_loss mo9 (if cv9 = 0 then d9 else d9 / (nI (2))) pr9)), .ref wa9, .int po9, .ref da9, .int (nI (ph9))]))) rfl ?_
    refine J_aload_n cx dX6_dries_37 rfl ?_
    refine J_iload_n cx dX6_dries_38 rfl ?_
    by_cases hk9 : ph9 = dn9
    · refine J_callV (n := 1) cx (ci := 5) [.int (if cv9 = 0 then d9 else d9 / (nI (2)))] (t_X6_keeps_g l Ω a gset_eq ((gset_ne (by omega)).trans hda) (by omega) (by omega) hph hdn hdb (if cv9 = 0 then d9 else d9 / (nI (2))) hk9) dX6_dries_39 (lw_V q1325 q1327 qs10 q96 q1328) ⟨rfl, by decide, by decide, by decide +kernel⟩ rfl gset_eq rfl rfl ⟨Nat.le_of_ble_eq_true rfl, Nat.le_of_ble_eq_true rfl⟩ rfl rfl (Nat.le_of_ble_eq_true rfl) ⟨Nat.le_of_ble_eq_true rfl, by show _ ≤ mKeeps ph9 dn9; omega⟩ (jdet ?_)
      refine J_mem (gset (gset G sz (.inl (Ω.2.1 1, (2 * ph9) + 8, .inl (upd (va_cpy df9 (fun _ => 0) 0 0 ph9) ph9 (vp_nar .byte ((if cv9 = 0 then d9 else d9 / (nI (2))).toInt8.toInt32)))))) a (.inr (5, [.int pn9, .int pp9, .int pw9, .int pr9, .int st9, .int ck9, .int cv9, .float (FP.fsub mo9 (r_loss mo9 (if cv9 = 0 then d9 else d9 / (nI (2))) pr9)), .ref wa9, .int po9, .ref sz, .int (nI (ph9 + 1))]))) (by funext q9; simp only [gset]; by_cases hq9 : q9 = a <;> simp [hq9]) ?_
      refine J_aload_n cx dX6_dries_42 rfl ?_
      refine J_dup cx dX6_dries_43 rfl ?_
      refine J_get cx in_X6 (ci := 5) rfl 5 (by decide) q464 (fun _ h => h) dX6_dries_44 gset_eq rfl ?_
      refine J_fload cx dX6_dries_47 rfl ?_
      refine J_ldcf cx dX6_dries_49 q1324 ?_
      refine J_fmul cx dX6_dries_51 h4 ?_
      refine J_f2i cx dX6_dries_52 ?_
      refine J_iload_n cx dX6_dries_53 rfl ?_
      refine J_bipush (v := nI (10)) cx dX6_dries_54 (by decide) ?_
      refine J_aload_n cx dX6_dries_56 rfl ?_
      refine J_get cx in_X6 (ci := 5) rfl 3 (by decide) q456 (fun _ h => h) dX6_dries_57 gset_eq rfl ?_
      refine J_imul cx dX6_dries_60 ?_
      refine J_iadd cx dX6_dries_61 ?_
      have K70 : J p l e ({ frames := 2, cells := 1, slots := mKeeps ph9 dn9, locals := 74 } : Room) s m args below meth c Ω 5 (MQ below (jQ Ω (fun v9 G9 sz9 => v9 = none ∧ G9 a = some (.inr (5, [.int pn9, .int pp9, .int pw9, .int pr9, .int (s_dries_st mo9 pr9 st9 ck9 cv9 d9 b9), .int (s_dries_ck mo9 pr9 st9 ck9 cv9 d9 b9), .int cv9, .float (s_dries_mo mo9 pr9 st9 ck9 cv9 d9 b9), .ref wa9, .int po9, .ref (if ph9 = dn9 then sz else da9), .int (nI (ph9 + 1))])) ∧ G9 (if ph9 = dn9 then sz else da9) = some (.inl (Ω.2.1 1, (if ph9 = dn9 then (2 * ph9) + 8 else dn9), .inl (if ph9 = dn9 then upd (va_cpy df9 (fun _ => 0) 0 0 ph9) ph9 (vp_nar .byte ((if cv9 = 0 then d9 else d9 / nI (2)).toInt8.toInt32)) else upd df9 ph9 (vp_nar .byte ((if cv9 = 0 then d9 else d9 / nI (2)).toInt8.toInt32))))) ∧ sz9 = (if ph9 = dn9 then sz + 1 else sz) ∧ ∀ q9, q9 < sz → q9 ≠ a → q9 ≠ da9 → G9 q9 = G q9)) args s 1 (mKeeps ph9 dn9) (jB Ω)) (0 + 1) (0 + mKeeps ph9 dn9) (sz + 1) (gset (gset G sz (.inl (Ω.2.1 1, (2 * ph9) + 8, .inl (upd (va_cpy df9 (fun _ => 0) 0 0 ph9) ph9 (vp_nar .byte ((if cv9 = 0 then d9 else d9 / (nI (2))).toInt8.toInt32)))))) a (.inr (5, [.int pn9, .int pp9, .int pw9, .int pr9, .int st9, .int ck9, .int cv9, .float (FP.fsub mo9 (r_loss mo9 (if cv9 = 0 then d9 else d9 / (nI (2))) pr9)), .ref wa9, .int po9, .ref sz, .int (nI (ph9 + 1))]))) 70 [some (.ref a), some (.int d9), some (.int b9), some (.int (if cv9 = 0 then d9 else d9 / (nI (2)))), some (.float (r_loss mo9 (if cv9 = 0 then d9 else d9 / (nI (2))) pr9))] [.int (if (FP.f2i (FP.fmul (r_loss mo9 (if cv9 = 0 then d9 else d9 / (nI (2))) pr9) 1148846080)) ≤ (b9 + ((nI (10)) * pr9)) then nI (0) else nI (1)), .int ck9, .ref a] := by
        refine J_callSN (n := 1) cx [.int (if (FP.f2i (FP.fmul (r_loss mo9 (if cv9 = 0 then d9 else d9 / (nI (2))) pr9) 1148846080)) ≤ (b9 + ((nI (10)) * pr9)) then nI (0) else nI (1))] (t_X0_bit l Ω (if (FP.f2i (FP.fmul (r_loss mo9 (if cv9 = 0 then d9 else d9 / (nI (2))) pr9) 1148846080)) ≤ (b9 + ((nI (10)) * pr9)) then nI (0) else nI (1))) dX6_dries_70 q1332 q1330 q84 q1331 ⟨by decide, by decide, by decide +kernel⟩ rfl rfl ⟨Nat.le_of_ble_eq_true rfl, Nat.le_of_ble_eq_true rfl⟩ rfl rfl (Nat.le_of_ble_eq_true rfl) ⟨Nat.le_of_ble_eq_true rfl, by show _ ≤ mKeeps ph9 dn9; omega⟩ (jdet ?_)
        refine J_iadd cx dX6_dries_73 ?_
        refine J_put cx in_X6 tyX6 tyX6_ok nmX6 (ci := 5) rfl 5 (by decide) q464 (fun _ h => h) rfl (ty := .int) (by decide +kernel) dX6_dries_74 rfl rfl gset_eq (Nat.le_of_ble_eq_true rfl) (by omega) ?_
        refine J_mem (gset (gset G sz (.inl (Ω.2.1 1, (2 * ph9) + 8, .inl (upd (va_cpy df9 (fun _ => 0) 0 0 ph9) ph9 (vp_nar .byte ((if cv9 = 0 then d9 else d9 / (nI (2))).toInt8.toInt32)))))) a (.inr (5, [.int pn9, .int pp9, .int pw9, .int pr9, .int st9, .int (ck9 + (r_bit (if (FP.f2i (FP.fmul (r_loss mo9 (if cv9 = 0 then d9 else d9 / (nI (2))) pr9) 1148846080)) ≤ (b9 + ((nI (10)) * pr9)) then nI (0) else nI (1)))), .int cv9, .float (FP.fsub mo9 (r_loss mo9 (if cv9 = 0 then d9 else d9 / (nI (2))) pr9)), .ref wa9, .int po9, .ref sz, .int (nI (ph9 + 1))]))) gset_gset ?_
        refine J_aload_n cx dX6_dries_77 rfl ?_
        refine J_get cx in_X6 (ci := 5) rfl 5 (by decide) q464 (fun _ h => h) dX6_dries_78 gset_eq rfl ?_
        refine J_iconst (v := nI (3)) cx dX6_dries_81 (by decide) ?_
        refine J_icmp_ne (tgt := 94) cx dX6_dries_82 (by decide) (fun c82 => ?_) (fun c82 => ?_)
        · refine J_aload_n cx dX6_dries_94 rfl ?_
          refine J_get cx in_X6 (ci := 5) rfl 7 (by decide) q470 (fun _ h => h) dX6_dries_95 gset_eq rfl ?_
          refine J_ldcf cx dX6_dries_98 q1333 ?_
          refine J_fcmp cx dX6_dries_100 ?_
          refine J_if_ge (tgt := 109) cx dX6_dries_101 (by decide) (fun c101 => ?_) (fun c101 => ?_)
          · exact J_vret cx dX6_dries_109 hr ⟨rfl, by simp only [s_dries_st, s_dries_ck, s_dries_mo, if_pos hk9, if_neg c82, if_pos c101]; exact gset_eq, by simp only [if_pos hk9, if_neg c82, if_pos c101]; exact ((gset_ne (by omega)).trans gset_eq), by simp only [if_pos hk9, if_neg c82, if_pos c101], fun q9 g1 g2 g3 => (gset_ne (by omega)).trans ((gset_ne (by omega)).trans (rfl))⟩ (Nat.le_of_ble_eq_true rfl) (by show _ ≤ mKeeps ph9 dn9; omega)
          · refine J_aload_n cx dX6_dries_104 rfl ?_
            refine J_iconst (v := nI (3)) cx dX6_dries_105 (by decide) ?_
            refine J_put cx in_X6 tyX6 tyX6_ok nmX6 (ci := 5) rfl 4 (by decide) q460 (fun _ h => h) rfl (ty := .int) (by decide +kernel) dX6_dries_106 rfl rfl gset_eq (Nat.le_of_ble_eq_true rfl) (by omega) ?_
            refine J_mem (gset (gset G sz (.inl (Ω.2.1 1, (2 * ph9) + 8, .inl (upd (va_cpy df9 (fun _ => 0) 0 0 ph9) ph9 (vp_nar .byte ((if cv9 = 0 then d9 else d9 / (nI (2))).toInt8.toInt32)))))) a (.inr (5, [.int pn9, .int pp9, .int pw9, .int pr9, .int (nI (3)), .int (ck9 + (r_bit (if (FP.f2i (FP.fmul (r_loss mo9 (if cv9 = 0 then d9 else d9 / (nI (2))) pr9) 1148846080)) ≤ (b9 + ((nI (10)) * pr9)) then nI (0) else nI (1)))), .int cv9, .float (FP.fsub mo9 (r_loss mo9 (if cv9 = 0 then d9 else d9 / (nI (2))) pr9)), .ref wa9, .int po9, .ref sz, .int (nI (ph9 + 1))]))) gset_gset ?_
            exact J_vret cx dX6_dries_109 hr ⟨rfl, by simp only [s_dries_st, s_dries_ck, s_dries_mo, if_pos hk9, if_neg c82, if_neg c101]; exact gset_eq, by simp only [if_pos hk9, if_neg c82, if_neg c101]; exact ((gset_ne (by omega)).trans gset_eq), by simp only [if_pos hk9, if_neg c82, if_neg c101], fun q9 g1 g2 g3 => (gset_ne (by omega)).trans ((gset_ne (by omega)).trans (rfl))⟩ (Nat.le_of_ble_eq_true rfl) (by show _ ≤ mKeeps ph9 dn9; omega)
        · refine J_aload_n cx dX6_dries_85 rfl ?_
          refine J_bipush (v := nI (7)) cx dX6_dries_86 (by decide) ?_
          refine J_put cx in_X6 tyX6 tyX6_ok nmX6 (ci := 5) rfl 4 (by decide) q460 (fun _ h => h) rfl (ty := .int) (by decide +kernel) dX6_dries_88 rfl rfl gset_eq (Nat.le_of_ble_eq_true rfl) (by omega) ?_
          refine J_mem (gset (gset G sz (.inl (Ω.2.1 1, (2 * ph9) + 8, .inl (upd (va_cpy df9 (fun _ => 0) 0 0 ph9) ph9 (vp_nar .byte ((if cv9 = 0 then d9 else d9 / (nI (2))).toInt8.toInt32)))))) a (.inr (5, [.int pn9, .int pp9, .int pw9, .int pr9, .int (nI (7)), .int (ck9 + (r_bit (if (FP.f2i (FP.fmul (r_loss mo9 (if cv9 = 0 then d9 else d9 / (nI (2))) pr9) 1148846080)) ≤ (b9 + ((nI (10)) * pr9)) then nI (0) else nI (1)))), .int cv9, .float (FP.fsub mo9 (r_loss mo9 (if cv9 = 0 then d9 else d9 / (nI (2))) pr9)), .ref wa9, .int po9, .ref sz, .int (nI (ph9 + 1))]))) gset_gset ?_
          refine J_goto (tgt := 109) cx dX6_dries_91 (by decide) ?_
          exact J_vret cx dX6_dries_109 hr ⟨rfl, by simp only [s_dries_st, s_dries_ck, s_dries_mo, if_pos hk9, if_pos c82]; exact gset_eq, by simp only [if_pos hk9, if_pos c82]; exact ((gset_ne (by omega)).trans gset_eq), by simp only [if_pos hk9, if_pos c82], fun q9 g1 g2 g3 => (gset_ne (by omega)).trans ((gset_ne (by omega)).trans (rfl))⟩ (Nat.le_of_ble_eq_true rfl) (by show _ ≤ mKeeps ph9 dn9; omega)
      refine J_icmp_le (tgt := 69) cx dX6_dries_62 (by decide) (fun c62 => ?_) (fun c62 => ?_)
      · refine J_iconst (v := nI (0)) cx dX6_dries_69 (by decide) ?_
        refine J_top (.int (if (FP.f2i (FP.fmul (r_loss mo9 (if cv9 = 0 then d9 else d9 / (nI (2))) pr9) 1148846080)) ≤ (b9 + ((nI (10)) * pr9)) then nI (0) else nI (1))) (congrArg Value.int (if_pos c62).symm) ?_
        exact K70
      · refine J_iconst (v := nI (1)) cx dX6_dries_65 (by decide) ?_
        refine J_goto (tgt := 70) cx dX6_dries_66 (by decide) ?_
        refine J_top (.int (if (FP.f2i (FP.fmul (r_loss mo9 (if cv9 = 0 then d9 else d9 / (nI (2))) pr9) 1148846080)) ≤ (b9 + ((nI (10)) * pr9)) then nI (0) else nI (1))) (congrArg Value.int (if_neg c62).symm) ?_
        exact K70
    · refine J_callV (n := 1) cx (ci := 5) [.int (if cv9 = 0 then d9 else d9 / (nI (2)))] (t_X6_keeps_s l Ω a gset_eq ((gset_ne (by omega)).trans hda) (by omega) (by omega) hph hdn hdb (if cv9 = 0 then d9 else d9 / (nI (2))) hk9) dX6_dries_39 (lw_V q1325 q1327 qs10 q96 q1328) ⟨rfl, by decide, by decide, by decide +kernel⟩ rfl gset_eq rfl rfl ⟨Nat.le_of_ble_eq_true rfl, Nat.le_of_ble_eq_true rfl⟩ rfl rfl (Nat.le_of_ble_eq_true rfl) ⟨Nat.le_of_ble_eq_true rfl, by show _ ≤ mKeeps ph9 dn9; omega⟩ (jdet ?_)
      refine J_mem (gset (gset G da9 (.inl (Ω.2.1 1, dn9, .inl (upd df9 ph9 (vp_nar .byte ((if cv9 = 0 then d9 else d9 / (nI (2))).toInt8.toInt32)))))) a (.inr (5, [.int pn9, .int pp9, .int pw9, .int pr9, .int st9, .int ck9, .int cv9, .float (FP.fsub mo9 (r_loss mo9 (if cv9 = 0 then d9 else d9 / (nI (2))) pr9)), .ref wa9, .int po9, .ref da9, .int (nI (ph9 + 1))]))) (by funext q9; simp only [gset]; by_cases hq9 : q9 = a <;> simp [hq9]) ?_
      refine J_aload_n cx dX6_dries_42 rfl ?_
      refine J_dup cx dX6_dries_43 rfl ?_
      refine J_get cx in_X6 (ci := 5) rfl 5 (by decide) q464 (fun _ h => h) dX6_dries_44 gset_eq rfl ?_
      refine J_fload cx dX6_dries_47 rfl ?_
      refine J_ldcf cx dX6_dries_49 q1324 ?_
      refine J_fmul cx dX6_dries_51 h4 ?_
      refine J_f2i cx dX6_dries_52 ?_
      refine J_iload_n cx dX6_dries_53 rfl ?_
      refine J_bipush (v := nI (10)) cx dX6_dries_54 (by decide) ?_
      refine J_aload_n cx dX6_dries_56 rfl ?_
      refine J_get cx in_X6 (ci := 5) rfl 3 (by decide) q456 (fun _ h => h) dX6_dries_57 gset_eq rfl ?_
      refine J_imul cx dX6_dries_60 ?_
      refine J_iadd cx dX6_dries_61 ?_
      have K70 : J p l e ({ frames := 2, cells := 1, slots := mKeeps ph9 dn9, locals := 74 } : Room) s m args below meth c Ω 5 (MQ below (jQ Ω (fun v9 G9 sz9 => v9 = none ∧ G9 a = some (.inr (5, [.int pn9, .int pp9, .int pw9, .int pr9, .int (s_dries_st mo9 pr9 st9 ck9 cv9 d9 b9), .int (s_dries_ck mo9 pr9 st9 ck9 cv9 d9 b9), .int cv9, .float (s_dries_mo mo9 pr9 st9 ck9 cv9 d9 b9), .ref wa9, .int po9, .ref (if ph9 = dn9 then sz else da9), .int (nI (ph9 + 1))])) ∧ G9 (if ph9 = dn9 then sz else da9) = some (.inl (Ω.2.1 1, (if ph9 = dn9 then (2 * ph9) + 8 else dn9), .inl (if ph9 = dn9 then upd (va_cpy df9 (fun _ => 0) 0 0 ph9) ph9 (vp_nar .byte ((if cv9 = 0 then d9 else d9 / nI (2)).toInt8.toInt32)) else upd df9 ph9 (vp_nar .byte ((if cv9 = 0 then d9 else d9 / nI (2)).toInt8.toInt32))))) ∧ sz9 = (if ph9 = dn9 then sz + 1 else sz) ∧ ∀ q9, q9 < sz → q9 ≠ a → q9 ≠ da9 → G9 q9 = G q9)) args s 1 (mKeeps ph9 dn9) (jB Ω)) (0 + 1) (0 + mKeeps ph9 dn9) (sz) (gset (gset G da9 (.inl (Ω.2.1 1, dn9, .inl (upd df9 ph9 (vp_nar .byte ((if cv9 = 0 then d9 else d9 / (nI (2))).toInt8.toInt32)))))) a (.inr (5, [.int pn9, .int pp9, .int pw9, .int pr9, .int st9, .int ck9, .int cv9, .float (FP.fsub mo9 (r_loss mo9 (if cv9 = 0 then d9 else d9 / (nI (2))) pr9)), .ref wa9, .int po9, .ref da9, .int (nI (ph9 + 1))]))) 70 [some (.ref a), some (.int d9), some (.int b9), some (.int (if cv9 = 0 then d9 else d9 / (nI (2)))), some (.float (r_loss mo9 (if cv9 = 0 then d9 else d9 / (nI (2))) pr9))] [.int (if (FP.f2i (FP.fmul (r_loss mo9 (if cv9 = 0 then d9 else d9 / (nI (2))) pr9) 1148846080)) ≤ (b9 + ((nI (10)) * pr9)) then nI (0) else nI (1)), .int ck9, .ref a] := by
        refine J_callSN (n := 1) cx [.int (if (FP.f2i (FP.fmul (r_loss mo9 (if cv9 = 0 then d9 else d9 / (nI (2))) pr9) 1148846080)) ≤ (b9 + ((nI (10)) * pr9)) then nI (0) else nI (1))] (t_X0_bit l Ω (if (FP.f2i (FP.fmul (r_loss mo9 (if cv9 = 0 then d9 else d9 / (nI (2))) pr9) 1148846080)) ≤ (b9 + ((nI (10)) * pr9)) then nI (0) else nI (1))) dX6_dries_70 q1332 q1330 q84 q1331 ⟨by decide, by decide, by decide +kernel⟩ rfl rfl ⟨Nat.le_of_ble_eq_true rfl, Nat.le_of_ble_eq_true rfl⟩ rfl rfl (Nat.le_of_ble_eq_true rfl) ⟨Nat.le_of_ble_eq_true rfl, by show _ ≤ mKeeps ph9 dn9; omega⟩ (jdet ?_)
        refine J_iadd cx dX6_dries_73 ?_
        refine J_put cx in_X6 tyX6 tyX6_ok nmX6 (ci := 5) rfl 5 (by decide) q464 (fun _ h => h) rfl (ty := .int) (by decide +kernel) dX6_dries_74 rfl rfl gset_eq (Nat.le_of_ble_eq_true rfl) (by omega) ?_
        refine J_mem (gset (gset G da9 (.inl (Ω.2.1 1, dn9, .inl (upd df9 ph9 (vp_nar .byte ((if cv9 = 0 then d9 else d9 / (nI (2))).toInt8.toInt32)))))) a (.inr (5, [.int pn9, .int pp9, .int pw9, .int pr9, .int st9, .int (ck9 + (r_bit (if (FP.f2i (FP.fmul (r_loss mo9 (if cv9 = 0 then d9 else d9 / (nI (2))) pr9) 1148846080)) ≤ (b9 + ((nI (10)) * pr9)) then nI (0) else nI (1)))), .int cv9, .float (FP.fsub mo9 (r_loss mo9 (if cv9 = 0 then d9 else d9 / (nI (2))) pr9)), .ref wa9, .int po9, .ref da9, .int (nI (ph9 + 1))]))) gset_gset ?_
        refine J_aload_n cx dX6_dries_77 rfl ?_
        refine J_get cx in_X6 (ci := 5) rfl 5 (by decide) q464 (fun _ h => h) dX6_dries_78 gset_eq rfl ?_
        refine J_iconst (v := nI (3)) cx dX6_dries_81 (by decide) ?_
        refine J_icmp_ne (tgt := 94) cx dX6_dries_82 (by decide) (fun c82 => ?_) (fun c82 => ?_)
        · refine J_aload_n cx dX6_dries_94 rfl ?_
          refine J_get cx in_X6 (ci := 5) rfl 7 (by decide) q470 (fun _ h => h) dX6_dries_95 gset_eq rfl ?_
          refine J_ldcf cx dX6_dries_98 q1333 ?_
          refine J_fcmp cx dX6_dries_100 ?_
          refine J_if_ge (tgt := 109) cx dX6_dries_101 (by decide) (fun c101 => ?_) (fun c101 => ?_)
          · exact J_vret cx dX6_dries_109 hr ⟨rfl, by simp only [s_dries_st, s_dries_ck, s_dries_mo, if_neg hk9, if_neg c82, if_pos c101]; exact gset_eq, by simp only [if_neg hk9, if_neg c82, if_pos c101]; exact ((gset_ne (by omega)).trans gset_eq), by simp only [if_neg hk9, if_neg c82, if_pos c101], fun q9 g1 g2 g3 => (gset_ne (by omega)).trans ((gset_ne (by omega)).trans (rfl))⟩ (Nat.le_of_ble_eq_true rfl) (by show _ ≤ mKeeps ph9 dn9; omega)
          · refine J_aload_n cx dX6_dries_104 rfl ?_
            refine J_iconst (v := nI (3)) cx dX6_dries_105 (by decide) ?_
            refine J_put cx in_X6 tyX6 tyX6_ok nmX6 (ci := 5) rfl 4 (by decide) q460 (fun _ h => h) rfl (ty := .int) (by decide +kernel) dX6_dries_106 rfl rfl gset_eq (Nat.le_of_ble_eq_true rfl) (by omega) ?_
            refine J_mem (gset (gset G da9 (.inl (Ω.2.1 1, dn9, .inl (upd df9 ph9 (vp_nar .byte ((if cv9 = 0 then d9 else d9 / (nI (2))).toInt8.toInt32)))))) a (.inr (5, [.int pn9, .int pp9, .int pw9, .int pr9, .int (nI (3)), .int (ck9 + (r_bit (if (FP.f2i (FP.fmul (r_loss mo9 (if cv9 = 0 then d9 else d9 / (nI (2))) pr9) 1148846080)) ≤ (b9 + ((nI (10)) * pr9)) then nI (0) else nI (1)))), .int cv9, .float (FP.fsub mo9 (r_loss mo9 (if cv9 = 0 then d9 else d9 / (nI (2))) pr9)), .ref wa9, .int po9, .ref da9, .int (nI (ph9 + 1))]))) gset_gset ?_
            exact J_vret cx dX6_dries_109 hr ⟨rfl, by simp only [s_dries_st, s_dries_ck, s_dries_mo, if_neg hk9, if_neg c82, if_neg c101]; exact gset_eq, by simp only [if_neg hk9, if_neg c82, if_neg c101]; exact ((gset_ne (by omega)).trans gset_eq), by simp only [if_neg hk9, if_neg c82, if_neg c101], fun q9 g1 g2 g3 => (gset_ne (by omega)).trans ((gset_ne (by omega)).trans (rfl))⟩ (Nat.le_of_ble_eq_true rfl) (by show _ ≤ mKeeps ph9 dn9; omega)
        · refine J_aload_n cx dX6_dries_85 rfl ?_
          refine J_bipush (v := nI (7)) cx dX6_dries_86 (by decide) ?_
          refine J_put cx in_X6 tyX6 tyX6_ok nmX6 (ci := 5) rfl 4 (by decide) q460 (fun _ h => h) rfl (ty := .int) (by decide +kernel) dX6_dries_88 rfl rfl gset_eq (Nat.le_of_ble_eq_true rfl) (by omega) ?_
          refine J_mem (gset (gset G da9 (.inl (Ω.2.1 1, dn9, .inl (upd df9 ph9 (vp_nar .byte ((if cv9 = 0 then d9 else d9 / (nI (2))).toInt8.toInt32)))))) a (.inr (5, [.int pn9, .int pp9, .int pw9, .int pr9, .int (nI (7)), .int (ck9 + (r_bit (if (FP.f2i (FP.fmul (r_loss mo9 (if cv9 = 0 then d9 else d9 / (nI (2))) pr9) 1148846080)) ≤ (b9 + ((nI (10)) * pr9)) then nI (0) else nI (1)))), .int cv9, .float (FP.fsub mo9 (r_loss mo9 (if cv9 = 0 then d9 else d9 / (nI (2))) pr9)), .ref wa9, .int po9, .ref da9, .int (nI (ph9 + 1))]))) gset_gset ?_
          refine J_goto (tgt := 109) cx dX6_dries_91 (by decide) ?_
          exact J_vret cx dX6_dries_109 hr ⟨rfl, by simp only [s_dries_st, s_dries_ck, s_dries_mo, if_neg hk9, if_pos c82]; exact gset_eq, by simp only [if_neg hk9, if_pos c82]; exact ((gset_ne (by omega)).trans gset_eq), by simp only [if_neg hk9, if_pos c82], fun q9 g1 g2 g3 => (gset_ne (by omega)).trans ((gset_ne (by omega)).trans (rfl))⟩ (Nat.le_of_ble_eq_true rfl) (by show _ ≤ mKeeps ph9 dn9; omega)
      refine J_icmp_le (tgt := 69) cx dX6_dries_62 (by decide) (fun c62 => ?_) (fun c62 => ?_)
      · refine J_iconst (v := nI (0)) cx dX6_dries_69 (by decide) ?_
        refine J_top (.int (if (FP.f2i (FP.fmul (r_loss mo9 (if cv9 = 0 then d9 else d9 / (nI (2))) pr9) 1148846080)) ≤ (b9 + ((nI (10)) * pr9)) then nI (0) else nI (1))) (congrArg Value.int (if_pos c62).symm) ?_
        exact K70
      · refine J_iconst (v := nI (1)) cx dX6_dries_65 (by decide) ?_
        refine J_goto (tgt := 70) cx dX6_dries_66 (by decide) ?_
        refine J_top (.int (if (FP.f2i (FP.fmul (r_loss mo9 (if cv9 = 0 then d9 else d9 / (nI (2))) pr9) 1148846080)) ≤ (b9 + ((nI (10)) * pr9)) then nI (0) else nI (1))) (congrArg Value.int (if_neg c62).symm) ?_
        exact K70
  refine J_if_eq (tgt := 13) cx dX6_dries_4 (by decide) (fun c4 => ?_) (fun c4 => ?_)
  · refine J_iload_n cx dX6_dries_13 rfl ?_
    refine J_top (.int (if cv9 = 0 then d9 else d9 / (nI (2)))) (congrArg Value.int (if_pos c4).symm) ?_
    exact K14
  · refine J_iload_n cx dX6_dries_7 rfl ?_
    refine J_iconst (v := nI (2)) cx dX6_dries_8 (by decide) ?_
    refine J_idiv cx dX6_dries_9 (by decide) ?_
    refine J_goto (tgt := 14) cx dX6_dries_10 (by decide) ?_
    refine J_top (.int (if cv9 = 0 then d9 else d9 / (nI (2)))) (congrArg Value.int (if_neg c4).symm) ?_
    exact K14
/-- the moisture that drying leaves, hour by hour -/
def S_again (df9 : Nat → Int32) (pr9 : Int32) : Nat → UInt32
  | 0 => FP.fconst1
  | k + 1 => FP.fsub (S_again df9 pr9 k) (r_loss (S_again df9 pr9 k) (df9 k) pr9)
set_option maxHeartbeats 1000000 in
theorem t_X6_again (l : Launch) (Ω : jO) {G : Mem} {sz : Nat} (a : Nat) {pn9 pp9 pw9 pr9 st9 ck9 cv9 po9 : Int32} {mo9 : UInt32} {wa9 da9 ph9 : Nat} {dn9 : Nat} {df9 : Nat → Int32} (ha : G a = some (.inr (5, [.int pn9, .int pp9, .int pw9, .int pr9, .int st9, .int ck9, .int cv9, .float mo9, .ref wa9, .int po9, .ref da9, .int (nI (ph9))]))) (hda : G da9 = some (.inl (Ω.2.1 1, dn9, .inl df9))) (hph : ph9 ≤ dn9) (hdn : dn9 ≤ 100000) (hA : ∀ k, k < ph9 → vf_n32 (FP.fmul (S_again df9 pr9 k) (FP.i2f (df9 k * (nI (11) - pr9)))) ∧ vf_n32 (r_loss (S_again df9 pr9 k) (df9 k) pr9) ∧ vf_n32 (FP.fsub (S_again df9 pr9 k) (r_loss (S_again df9 pr9 k) (df9 k) pr9))) : Met l yX6_again (ws_ yX6_again cX6_again 3 (some .float)) ({ frames := 2, cells := 0, slots := 0, locals := 34 } : Room) (va_Pc [.ref a] (jWd Ω G sz)) (jQ Ω (jD (some (.float (if r_came st9 = 0 then FP.fconst0 else S_again df9 pr9 ph9))) G sz)) 0 0 (jB Ω) := by
  refine jMet (by decide) (Nat.le_of_ble_eq_true rfl) ?_
  intro p e s m args below meth c cx hr hnm
  refine J_loc [some (.ref a), none, none] rfl ?_
  refine J_aload_n cx dX6_again_0 rfl ?_
  refine J_callV (n := 0) cx (ci := 5) [] (t_X6_cameOff l Ω a ha) dX6_again_1 (lw_V q2204 q2205 q2206 q96 q2207) ⟨rfl, by decide, by decide, by decide +kernel⟩ rfl ha rfl rfl ⟨Nat.le_of_ble_eq_true rfl, Nat.le_of_ble_eq_true rfl⟩ rfl rfl (Nat.le_of_ble_eq_true rfl) ⟨Nat.le_of_ble_eq_true rfl, Nat.le_of_ble_eq_true rfl⟩ (jdet ?_)
  refine J_if_ne (tgt := 9) cx dX6_again_4 (by decide) (fun c4 => ?_) (fun c4 => ?_)
  · refine J_fconst1 cx dX6_again_9 ?_
    refine J_fstore_n1 cx dX6_again_10 (by decide) rfl ?_
    refine J_iconst (v := nI (0)) cx dX6_again_11 (by decide) ?_
    refine J_istore_n2 cx dX6_again_12 (by decide) rfl ?_
    have K13 : ∀ nk9 k9 : Nat, nk9 + k9 = ph9 → J p l e ({ frames := 2, cells := 0, slots := 0, locals := 34 } : Room) s m args below meth c Ω 3 (MQ below (jQ Ω (jD (some (.float (if r_came st9 = 0 then FP.fconst0 else S_again df9 pr9 ph9))) G sz)) args s 0 0 (jB Ω)) 0 0 (sz) G 13 [some (.ref a), some (.float (S_again df9 pr9 k9)), some (.int (nI (k9)))] [] := by
      intro nk9
      induction nk9 with
      | zero =>
        intro k9 hk9
        refine J_iload_n cx dX6_again_13 rfl ?_
        refine J_aload_n cx dX6_again_14 rfl ?_
        refine J_get cx in_X6 (ci := 5) rfl 11 (by decide) q480 (fun _ h => h) dX6_again_15 ha rfl ?_
        refine J_icmpN_ge (tgt := 41) cx dX6_again_18 (by decide) (by omega) (by omega) (fun c18 => ?_) (fun c18 => absurd c18 (by omega))
        refine J_fload_n cx dX6_again_41 rfl ?_
        exact J_fret cx dX6_again_42 hr ⟨by simp only [if_neg c4, if_neg (Nat.not_lt.mpr c18)]; try rw [show k9 = ph9 by omega], rfl, rfl⟩ (Nat.le_of_ble_eq_true rfl) (Nat.le_of_ble_eq_true rfl)
      | succ nk9 ihk9 =>
        intro k9 hk9
        refine J_iload_n cx dX6_again_13 rfl ?_
        refine J_aload_n cx dX6_again_14 rfl ?_
        refine J_get cx in_X6 (ci := 5) rfl 11 (by decide) q480 (fun _ h => h) dX6_again_15 ha rfl ?_
        refine J_icmpN_ge (tgt := 41) cx dX6_again_18 (by decide) (by omega) (by omega) (fun c18 => absurd c18 (by omega)) (fun c18 => ?_)
        refine J_fload_n cx dX6_again_21 rfl ?_
        refine J_aload_n cx dX6_again_22 rfl ?_
        refine J_fload_n cx dX6_again_23 rfl ?_
        refine J_aload_n cx dX6_again_24 rfl ?_
        refine J_get cx in_X6 (ci := 5) rfl 10 (by decide) q479 (fun _ h => h) dX6_again_25 ha rfl ?_
        refine J_iload_n cx dX6_again_28 rfl ?_
        refine J_bald cx dX6_again_29 hda (by omega) (by omega) ?_
        refine J_callV (n := 2) cx (ci := 5) [.float (S_again df9 pr9 k9), .int (df9 k9)] (t_X6_lossOf l Ω a (S_again df9 pr9 k9) (df9 k9) ha (hA k9 (by omega)).1 (hA k9 (by omega)).2.1) dX6_again_30 (lw_V q1320 q1322 qs9 q96 q1323) ⟨rfl, by decide, by decide, by decide +kernel⟩ rfl ha rfl rfl ⟨Nat.le_of_ble_eq_true rfl, Nat.le_of_ble_eq_true rfl⟩ rfl rfl (Nat.le_of_ble_eq_true rfl) ⟨Nat.le_of_ble_eq_true rfl, Nat.le_of_ble_eq_true rfl⟩ (jdet ?_)
        refine J_fsub cx dX6_again_33 (hA k9 (by omega)).2.2 ?_
        refine J_fstore_n1 cx dX6_again_34 (by decide) rfl ?_
        refine J_iinc2 (v := nI (k9 + 1)) cx dX6_again_35 (nI_1 k9) (by decide) rfl ?_
        refine J_goto (tgt := 13) cx dX6_again_38 (by decide) ?_
        refine J_sub (L1 := [some (.ref a), some (.float (S_again df9 pr9 (k9 + 1))), some (.int (nI (k9 + 1)))]) (jsub_s (jsub_e (congrArg Value.float rfl) (jsub_s jsub_0))) ?_
        exact ihk9 (k9 + 1) (by omega)
    refine J_sub (L1 := [some (.ref a), some (.float (S_again df9 pr9 0)), some (.int (nI (0)))]) (jsub_s (jsub_e (congrArg Value.float rfl) (jsub_s jsub_0))) ?_
    exact K13 ph9 0 (by omega)
  · refine J_fconst0 cx dX6_again_7 ?_
    exact J_fret cx dX6_again_8 hr ⟨by simp only [if_pos c4], rfl, rfl⟩ (Nat.le_of_ble_eq_true rfl) (Nat.le_of_ble_eq_true rfl)
def r_reach (wx9 : Option (Int32 × Int32)) (pw9 : Int32) (sf9 : Nat → Int32) : Int32 := FP.f2i (FP.fdiv (FP.i2f (wCo wx9 * sf9 (tn (wGl wx9)))) (FP.i2f pw9))
theorem t_X6_reach (l : Launch) (Ω : jO) {G : Mem} {sz : Nat} (a sa9 : Nat) {pn9 pp9 pw9 pr9 st9 ck9 cv9 po9 : Int32} {mo9 : UInt32} {wa9 da9 ph9 : Nat} {wk9 : Int32} {wx9 : Option (Int32 × Int32)} {sf9 : Nat → Int32} (ha : G a = some (.inr (5, [.int pn9, .int pp9, .int pw9, .int pr9, .int st9, .int ck9, .int cv9, .float mo9, .ref wa9, .int po9, .ref da9, .int (nI (ph9))]))) (hw : G wa9 = some (wE wk9 wx9)) (hs : G sa9 = some (.inl (Ω.2.1 0, 6, .inl sf9))) (hgl : wGl wx9 = nI (tn (wGl wx9))) (hg6 : tn (wGl wx9) < 6) (hnn : vf_n32 (FP.fdiv (FP.i2f (wCo wx9 * sf9 (tn (wGl wx9)))) (FP.i2f pw9))) : Met l yX6_reach (ws_ yX6_reach cX6_reach 2 (some .int)) ({ frames := 2, cells := 0, slots := 0, locals := 32 } : Room) (va_Pc [.ref a, .ref sa9] (jWd Ω G sz)) (jQ Ω (jD (some (.int (r_reach wx9 pw9 sf9))) G sz)) 0 0 (jB Ω) := by
  refine jMet (by decide) (Nat.le_of_ble_eq_true rfl) ?_
  intro p e s m args below meth c cx hr hnm
  refine J_loc [some (.ref a), some (.ref sa9)] rfl ?_
  refine J_aload_n cx dX6_reach_0 rfl ?_
  refine J_get cx in_X6 (ci := 5) rfl 8 (by decide) q472 (fun _ h => h) dX6_reach_1 ha rfl ?_
  refine J_w_coats cx dX6_reach_4 q1680 hw ⟨Nat.le_of_ble_eq_true rfl, Nat.le_of_ble_eq_true rfl⟩ (Nat.le_of_ble_eq_true rfl) ⟨Nat.le_of_ble_eq_true rfl, Nat.le_of_ble_eq_true rfl⟩ ?_
  refine J_aload_n cx dX6_reach_7 rfl ?_
  refine J_aload_n cx dX6_reach_8 rfl ?_
  refine J_get cx in_X6 (ci := 5) rfl 8 (by decide) q472 (fun _ h => h) dX6_reach_9 ha rfl ?_
  refine J_w_glaze cx dX6_reach_12 q1689 hw ⟨Nat.le_of_ble_eq_true rfl, Nat.le_of_ble_eq_true rfl⟩ (Nat.le_of_ble_eq_true rfl) ⟨Nat.le_of_ble_eq_true rfl, Nat.le_of_ble_eq_true rfl⟩ ?_
  refine J_top (.int (nI (tn (wGl wx9)))) (congrArg Value.int hgl) ?_
  refine J_iald cx dX6_reach_15 hs (by omega) (by omega) ?_
  refine J_imul cx dX6_reach_16 ?_
  refine J_i2f cx dX6_reach_17 ?_
  refine J_aload_n cx dX6_reach_18 rfl ?_
  refine J_get cx in_X6 (ci := 5) rfl 2 (by decide) q452 (fun _ h => h) dX6_reach_19 ha rfl ?_
  refine J_i2f cx dX6_reach_22 ?_
  refine J_fdiv cx dX6_reach_23 hnn ?_
  refine J_f2i cx dX6_reach_24 ?_
  exact J_iret cx dX6_reach_25 hr ⟨rfl, rfl, rfl⟩ (Nat.le_of_ble_eq_true rfl) (Nat.le_of_ble_eq_true rfl)
def r_wants (gl9 le9 un9 la9 pw9 ckk9 : Int32) (wx9 : Option (Int32 × Int32)) : Int32 := (if (r_open la9 un9 ckk9) = 0 then (nI (0)) else (if (wGl wx9) = gl9 then (if pw9 < le9 then (nI (0)) else (nI (1))) else (nI (0))))
theorem t_X9_wants (l : Launch) (Ω : jO) {G : Mem} {sz : Nat} (a q9 : Nat) {gl9 le9 ma9 un9 pr9 la9 : Int32} {pn9 pp9 pw9 prm9 st9 ck9 cv9 po9 : Int32} {mo9 : UInt32} {wa9 da9 ph9 : Nat} {wk9 : Int32} {wx9 : Option (Int32 × Int32)} (ckk9 : Int32) (ha : G a = some (.inr (7, [.int gl9, .int le9, .int ma9, .int un9, .int pr9, .int la9]))) (hp : G q9 = some (.inr (5, [.int pn9, .int pp9, .int pw9, .int prm9, .int st9, .int ck9, .int cv9, .float mo9, .ref wa9, .int po9, .ref da9, .int (nI (ph9))]))) (hw : G wa9 = some (wE wk9 wx9)) : Met l yX9_wants (ws_ yX9_wants cX9_wants 3 (some .boolean)) ({ frames := 2, cells := 0, slots := 0, locals := 33 } : Room) (va_Pc [.ref a, .ref q9, .int ckk9] (jWd Ω G sz)) (jQ Ω (jD (some (.int (r_wants gl9 le9 un9 la9 pw9 ckk9 wx9))) G sz)) 0 0 (jB Ω) := by
  refine jMet (by decide) (Nat.le_of_ble_eq_true rfl) ?_
  intro p e s m args below meth c cx hr hnm
  refine J_loc [some (.ref a), some (.ref q9), some (.int ckk9)] rfl ?_
  refine J_aload_n cx dX9_wants_0 rfl ?_
  refine J_iload_n cx dX9_wants_1 rfl ?_
  refine J_callV (n := 1) cx (ci := 7) [.int ckk9] (t_X9_isOpen l Ω a ckk9 ha) dX9_wants_2 (lw_V q1875 q1876 q1877 q105 q1878) ⟨rfl, by decide, by decide, by decide +kernel⟩ rfl ha rfl rfl ⟨Nat.le_of_ble_eq_true rfl, Nat.le_of_ble_eq_true rfl⟩ rfl rfl (Nat.le_of_ble_eq_true rfl) ⟨Nat.le_of_ble_eq_true rfl, Nat.le_of_ble_eq_true rfl⟩ (jdet ?_)
  refine J_if_eq (tgt := 37) cx dX9_wants_5 (by decide) (fun c5 => ?_) (fun c5 => ?_)
  · refine J_iconst (v := nI (0)) cx dX9_wants_37 (by decide) ?_
    exact J_zret cx dX9_wants_38 hr rfl ⟨by simp only [r_wants, if_pos c5], rfl, rfl⟩ (Nat.le_of_ble_eq_true rfl) (Nat.le_of_ble_eq_true rfl)
  · refine J_aload_n cx dX9_wants_8 rfl ?_
    refine J_getN cx in_X6 (ci := 5) rfl 8 (by decide) q473 (fun _ h => h) dX9_wants_9 hp rfl ?_
    refine J_w_glaze cx dX9_wants_12 q1879 hw ⟨Nat.le_of_ble_eq_true rfl, Nat.le_of_ble_eq_true rfl⟩ (Nat.le_of_ble_eq_true rfl) ⟨Nat.le_of_ble_eq_true rfl, Nat.le_of_ble_eq_true rfl⟩ ?_
    refine J_aload_n cx dX9_wants_15 rfl ?_
    refine J_get cx in_X9 (ci := 7) rfl 0 (by decide) q618 (fun _ h => h) dX9_wants_16 ha rfl ?_
    refine J_icmp_ne (tgt := 37) cx dX9_wants_19 (by decide) (fun c19 => ?_) (fun c19 => ?_)
    · refine J_iconst (v := nI (0)) cx dX9_wants_37 (by decide) ?_
      exact J_zret cx dX9_wants_38 hr rfl ⟨by simp only [r_wants, if_neg c5, if_neg c19], rfl, rfl⟩ (Nat.le_of_ble_eq_true rfl) (Nat.le_of_ble_eq_true rfl)
    · refine J_aload_n cx dX9_wants_22 rfl ?_
      refine J_getN cx in_X6 (ci := 5) rfl 2 (by decide) q453 (fun _ h => h) dX9_wants_23 hp rfl ?_
      refine J_aload_n cx dX9_wants_26 rfl ?_
      refine J_get cx in_X9 (ci := 7) rfl 1 (by decide) q620 (fun _ h => h) dX9_wants_27 ha rfl ?_
      refine J_icmp_lt (tgt := 37) cx dX9_wants_30 (by decide) (fun c30 => ?_) (fun c30 => ?_)
      · refine J_iconst (v := nI (0)) cx dX9_wants_37 (by decide) ?_
        exact J_zret cx dX9_wants_38 hr rfl ⟨by simp only [r_wants, if_neg c5, if_pos c19, if_pos c30], rfl, rfl⟩ (Nat.le_of_ble_eq_true rfl) (Nat.le_of_ble_eq_true rfl)
      · refine J_iconst (v := nI (1)) cx dX9_wants_33 (by decide) ?_
        refine J_goto (tgt := 38) cx dX9_wants_34 (by decide) ?_
        exact J_zret cx dX9_wants_38 hr rfl ⟨by simp only [r_wants, if_neg c5, if_pos c19, if_neg c30], rfl, rfl⟩ (Nat.le_of_ble_eq_true rfl) (Nat.le_of_ble_eq_true rfl)
theorem t_X22_init_X23 (l : Launch) (Ω : jO) {G : Mem} {sz : Nat} (a : Nat) (k9 : Int32) (ha : G a = some (.inr (20, [.int 0]))) (hb : Ω.2.2.2 ≤ a) : Met l yX22_init (ws_ yX22_init cX22_init 2 none) ({ frames := 1, cells := 0, slots := 0, locals := 12 } : Room) (va_Pc [.ref a, .int k9] (jWd Ω G sz)) (jQ Ω (jD none (gset G a (.inr (20, [.int k9]))) sz)) 0 0 (jB Ω) := by
  refine jMet (by decide) (Nat.le_of_ble_eq_true rfl) ?_
  intro p e s m args below meth c cx hr hnm
  refine J_loc [some (.ref a), some (.int k9)] rfl ?_
  refine J_bs cx (fun hbs9 => ?_)
  refine J_lt ha (fun hlt0 => ?_)
  refine J_aload_n cx dX22_init_0 rfl ?_
  refine J_objInit cx dX22_init_1 q2272 q170 q171 (Nat.le_of_ble_eq_true rfl) (Nat.le_of_ble_eq_true rfl) ?_
  refine J_aload_n cx dX22_init_4 rfl ?_
  refine J_iload_n cx dX22_init_5 rfl ?_
  refine J_putF cx in_X23 tyX23 tyX23_ok nmX23 (ci := 20) rfl 0 (by decide) q2273 (fun _ h => h) rfl rfl hnm (ty := .int) (by decide +kernel) dX22_init_6 rfl rfl ha (Nat.le_of_ble_eq_true rfl) (by omega) ?_
  refine J_mem (gset G a (.inr (20, [.int k9]))) rfl ?_
  exact J_vret cx dX22_init_9 hr ⟨rfl, rfl, rfl⟩ (Nat.le_of_ble_eq_true rfl) (Nat.le_of_ble_eq_true rfl)
theorem t_X22_init_X24 (l : Launch) (Ω : jO) {G : Mem} {sz : Nat} (a : Nat) (k9 : Int32) (ha : G a = some (.inr (21, [.int 0]))) (hb : Ω.2.2.2 ≤ a) : Met l yX22_init (ws_ yX22_init cX22_init 2 none) ({ frames := 1, cells := 0, slots := 0, locals := 12 } : Room) (va_Pc [.ref a, .int k9] (jWd Ω G sz)) (jQ Ω (jD none (gset G a (.inr (21, [.int k9]))) sz)) 0 0 (jB Ω) := by
  refine jMet (by decide) (Nat.le_of_ble_eq_true rfl) ?_
  intro p e s m args below meth c cx hr hnm
  refine J_loc [some (.ref a), some (.int k9)] rfl ?_
  refine J_bs cx (fun hbs9 => ?_)
  refine J_lt ha (fun hlt0 => ?_)
  refine J_aload_n cx dX22_init_0 rfl ?_
  refine J_objInit cx dX22_init_1 q2272 q170 q171 (Nat.le_of_ble_eq_true rfl) (Nat.le_of_ble_eq_true rfl) ?_
  refine J_aload_n cx dX22_init_4 rfl ?_
  refine J_iload_n cx dX22_init_5 rfl ?_
  refine J_putF cx in_X24 tyX24 tyX24_ok nmX24 (ci := 21) rfl 0 (by decide) q2273 (fun _ h => h) rfl rfl hnm (ty := .int) (by decide +kernel) dX22_init_6 rfl rfl ha (Nat.le_of_ble_eq_true rfl) (by omega) ?_
  refine J_mem (gset G a (.inr (21, [.int k9]))) rfl ?_
  exact J_vret cx dX22_init_9 hr ⟨rfl, rfl, rfl⟩ (Nat.le_of_ble_eq_true rfl) (Nat.le_of_ble_eq_true rfl)
theorem t_X22_init_X25 (l : Launch) (Ω : jO) {G : Mem} {sz : Nat} (a : Nat) (k9 : Int32) (ha : G a = some (.inr (22, [.int 0, .int 0]))) (hb : Ω.2.2.2 ≤ a) : Met l yX22_init (ws_ yX22_init cX22_init 2 none) ({ frames := 1, cells := 0, slots := 0, locals := 12 } : Room) (va_Pc [.ref a, .int k9] (jWd Ω G sz)) (jQ Ω (jD none (gset G a (.inr (22, [.int k9, .int 0]))) sz)) 0 0 (jB Ω) := by
  refine jMet (by decide) (Nat.le_of_ble_eq_true rfl) ?_
  intro p e s m args below meth c cx hr hnm
  refine J_loc [some (.ref a), some (.int k9)] rfl ?_
  refine J_bs cx (fun hbs9 => ?_)
  refine J_lt ha (fun hlt0 => ?_)
  refine J_aload_n cx dX22_init_0 rfl ?_
  refine J_objInit cx dX22_init_1 q2272 q170 q171 (Nat.le_of_ble_eq_true rfl) (Nat.le_of_ble_eq_true rfl) ?_
  refine J_aload_n cx dX22_init_4 rfl ?_
  refine J_iload_n cx dX22_init_5 rfl ?_
  refine J_putF cx in_X25 tyX25 tyX25_ok nmX25 (ci := 22) rfl 0 (by decide) q2273 (fun _ h => h) rfl rfl hnm (ty := .int) (by decide +kernel) dX22_init_6 rfl rfl ha (Nat.le_of_ble_eq_true rfl) (by omega) ?_
  refine J_mem (gset G a (.inr (22, [.int k9, .int 0]))) rfl ?_
  exact J_vret cx dX22_init_9 hr ⟨rfl, rfl, rfl⟩ (Nat.le_of_ble_eq_true rfl) (Nat.le_of_ble_eq_true rfl)
theorem t_X22_init_X26 (l : Launch) (Ω : jO) {G : Mem} {sz : Nat} (a : Nat) (k9 : Int32) (ha : G a = some (.inr (23, [.int 0]))) (hb : Ω.2.2.2 ≤ a) : Met l yX22_init (ws_ yX22_init cX22_init 2 none) ({ frames := 1, cells := 0, slots := 0, locals := 12 } : Room) (va_Pc [.ref a, .int k9] (jWd Ω G sz)) (jQ Ω (jD none (gset G a (.inr (23, [.int k9]))) sz)) 0 0 (jB Ω) := by
  refine jMet (by decide) (Nat.le_of_ble_eq_true rfl) ?_
  intro p e s m args below meth c cx hr hnm
  refine J_loc [some (.ref a), some (.int k9)] rfl ?_
  refine J_bs cx (fun hbs9 => ?_)
  refine J_lt ha (fun hlt0 => ?_)
  refine J_aload_n cx dX22_init_0 rfl ?_
  refine J_objInit cx dX22_init_1 q2272 q170 q171 (Nat.le_of_ble_eq_true rfl) (Nat.le_of_ble_eq_true rfl) ?_
  refine J_aload_n cx dX22_init_4 rfl ?_
  refine J_iload_n cx dX22_init_5 rfl ?_
  refine J_putF cx in_X26 tyX26 tyX26_ok nmX26 (ci := 23) rfl 0 (by decide) q2273 (fun _ h => h) rfl rfl hnm (ty := .int) (by decide +kernel) dX22_init_6 rfl rfl ha (Nat.le_of_ble_eq_true rfl) (by omega) ?_
  refine J_mem (gset G a (.inr (23, [.int k9]))) rfl ?_
  exact J_vret cx dX22_init_9 hr ⟨rfl, rfl, rfl⟩ (Nat.le_of_ble_eq_true rfl) (Nat.le_of_ble_eq_true rfl)
theorem t_X23_init (l : Launch) (Ω : jO) {G : Mem} {sz : Nat} (a : Nat) (ha : G a = some (.inr (20, [.int 0]))) (hb : Ω.2.2.2 ≤ a) : Met l yX23_init (ws_ yX23_init cX23_init 1 none) ({ frames := 2, cells := 0, slots := 0, locals := 33 } : Room) (va_Pc [.ref a] (jWd Ω G sz)) (jQ Ω (jD none (gset G a (.inr (20, [.int (nI (1))]))) (sz))) 0 0 (jB Ω) := by
  refine jMet (by decide) (Nat.le_of_ble_eq_true rfl) ?_
  intro p e s m args below meth c cx hr hnm
  refine J_loc [some (.ref a)] rfl ?_
  refine J_bs cx (fun hbs9 => ?_)
  refine J_lt ha (fun hlt0 => ?_)
  refine J_aload_n cx dX23_init_0 rfl ?_
  refine J_iconst (v := nI (1)) cx dX23_init_1 (by decide) ?_
  refine J_callI (n := 1) cx [.int (nI (1))] (t_X22_init_X23 l Ω a (nI (1)) ha (by omega)) dX23_init_2 q2271 q146 q2269 q2270 rfl ⟨by decide, by decide, by decide +kernel⟩ rfl rfl ⟨Nat.le_of_ble_eq_true rfl, Nat.le_of_ble_eq_true rfl⟩ rfl rfl (Nat.le_of_ble_eq_true rfl) ⟨Nat.le_of_ble_eq_true rfl, Nat.le_of_ble_eq_true rfl⟩ (jdet ?_)
  refine J_mem (gset G a (.inr (20, [.int (nI (1))]))) rfl ?_
  exact J_vret cx dX23_init_5 hr ⟨rfl, rfl, rfl⟩ (Nat.le_of_ble_eq_true rfl) (Nat.le_of_ble_eq_true rfl)
theorem t_X24_init (l : Launch) (Ω : jO) {G : Mem} {sz : Nat} (a : Nat) (ha : G a = some (.inr (21, [.int 0]))) (hb : Ω.2.2.2 ≤ a) : Met l yX24_init (ws_ yX24_init cX24_init 1 none) ({ frames := 2, cells := 0, slots := 0, locals := 33 } : Room) (va_Pc [.ref a] (jWd Ω G sz)) (jQ Ω (jD none (gset G a (.inr (21, [.int (nI (2))]))) (sz))) 0 0 (jB Ω) := by
  refine jMet (by decide) (Nat.le_of_ble_eq_true rfl) ?_
  intro p e s m args below meth c cx hr hnm
  refine J_loc [some (.ref a)] rfl ?_
  refine J_bs cx (fun hbs9 => ?_)
  refine J_lt ha (fun hlt0 => ?_)
  refine J_aload_n cx dX24_init_0 rfl ?_
  refine J_iconst (v := nI (2)) cx dX24_init_1 (by decide) ?_
  refine J_callI (n := 1) cx [.int (nI (2))] (t_X22_init_X24 l Ω a (nI (2)) ha (by omega)) dX24_init_2 q2271 q146 q2282 q2270 rfl ⟨by decide, by decide, by decide +kernel⟩ rfl rfl ⟨Nat.le_of_ble_eq_true rfl, Nat.le_of_ble_eq_true rfl⟩ rfl rfl (Nat.le_of_ble_eq_true rfl) ⟨Nat.le_of_ble_eq_true rfl, Nat.le_of_ble_eq_true rfl⟩ (jdet ?_)
  refine J_mem (gset G a (.inr (21, [.int (nI (2))]))) rfl ?_
  exact J_vret cx dX24_init_5 hr ⟨rfl, rfl, rfl⟩ (Nat.le_of_ble_eq_true rfl) (Nat.le_of_ble_eq_true rfl)
theorem t_X26_init (l : Launch) (Ω : jO) {G : Mem} {sz : Nat} (a : Nat) (ha : G a = some (.inr (23, [.int 0]))) (hb : Ω.2.2.2 ≤ a) : Met l yX26_init (ws_ yX26_init cX26_init 1 none) ({ frames := 2, cells := 0, slots := 0, locals := 33 } : Room) (va_Pc [.ref a] (jWd Ω G sz)) (jQ Ω (jD none (gset G a (.inr (23, [.int (nI (3))]))) (sz))) 0 0 (jB Ω) := by
  refine jMet (by decide) (Nat.le_of_ble_eq_true rfl) ?_
  intro p e s m args below meth c cx hr hnm
  refine J_loc [some (.ref a)] rfl ?_
  refine J_bs cx (fun hbs9 => ?_)
  refine J_lt ha (fun hlt0 => ?_)
  refine J_aload_n cx dX26_init_0 rfl ?_
  refine J_iconst (v := nI (3)) cx dX26_init_1 (by decide) ?_
  refine J_callI (n := 1) cx [.int (nI (3))] (t_X22_init_X26 l Ω a (nI (3)) ha (by omega)) dX26_init_2 q2271 q146 q2301 q2270 rfl ⟨by decide, by decide, by decide +kernel⟩ rfl rfl ⟨Nat.le_of_ble_eq_true rfl, Nat.le_of_ble_eq_true rfl⟩ rfl rfl (Nat.le_of_ble_eq_true rfl) ⟨Nat.le_of_ble_eq_true rfl, Nat.le_of_ble_eq_true rfl⟩ (jdet ?_)
  refine J_mem (gset G a (.inr (23, [.int (nI (3))]))) rfl ?_
  exact J_vret cx dX26_init_5 hr ⟨rfl, rfl, rfl⟩ (Nat.le_of_ble_eq_true rfl) (Nat.le_of_ble_eq_true rfl)
theorem t_X25_init (l : Launch) (Ω : jO) {G : Mem} {sz : Nat} (a q9 : Nat) {pn9 pp9 pw9 pr9 st9 ck9 cv9 po9 : Int32} {mo9 : UInt32} {wa9 da9 ph9 : Nat} (ha : G a = some (.inr (22, [.int 0, .int 0]))) (hp : G q9 = some (.inr (5, [.int pn9, .int pp9, .int pw9, .int pr9, .int st9, .int ck9, .int cv9, .float mo9, .ref wa9, .int po9, .ref da9, .int (nI (ph9))]))) (hb : Ω.2.2.2 ≤ a) : Met l yX25_init (ws_ yX25_init cX25_init 2 none) ({ frames := 2, cells := 0, slots := 0, locals := 33 } : Room) (va_Pc [.ref a, .ref q9] (jWd Ω G sz)) (jQ Ω (jD none (gset G a (.inr (22, [.int (nI (3)), .int ck9]))) (sz))) 0 0 (jB Ω) := by
  refine jMet (by decide) (Nat.le_of_ble_eq_true rfl) ?_
  intro p e s m args below meth c cx hr hnm
  refine J_loc [some (.ref a), some (.ref q9)] rfl ?_
  refine J_bs cx (fun hbs9 => ?_)
  refine J_lt ha (fun hlt0 => ?_)
  refine J_lt hp (fun hlt1 => ?_)
  have hne0 : a ≠ q9 := fun e => by have h1 := ha; rw [e, hp] at h1; simp at h1
  refine J_aload_n cx dX25_init_0 rfl ?_
  refine J_iconst (v := nI (3)) cx dX25_init_1 (by decide) ?_
  refine J_callI (n := 1) cx [.int (nI (3))] (t_X22_init_X25 l Ω a (nI (3)) ha (by omega)) dX25_init_2 q2271 q146 q2290 q2270 rfl ⟨by decide, by decide, by decide +kernel⟩ rfl rfl ⟨Nat.le_of_ble_eq_true rfl, Nat.le_of_ble_eq_true rfl⟩ rfl rfl (Nat.le_of_ble_eq_true rfl) ⟨Nat.le_of_ble_eq_true rfl, Nat.le_of_ble_eq_true rfl⟩ (jdet ?_)
  refine J_mem (gset G a (.inr (22, [.int (nI (3)), .int 0]))) rfl ?_
  refine J_aload_n cx dX25_init_5 rfl ?_
  refine J_aload_n cx dX25_init_6 rfl ?_
  refine J_getN cx in_X6 (ci := 5) rfl 5 (by decide) q463 (fun _ h => h) dX25_init_7 ((gset_ne (by omega)).trans hp) rfl ?_
  refine J_putF cx in_X25 tyX25 tyX25_ok nmX25 (ci := 22) rfl 1 (by decide) q2291 (fun _ h => h) rfl rfl hnm (ty := .int) (by decide +kernel) dX25_init_10 rfl rfl gset_eq (Nat.le_of_ble_eq_true rfl) (by omega) ?_
  refine J_mem (gset G a (.inr (22, [.int (nI (3)), .int ck9]))) gset_gset ?_
  exact J_vret cx dX25_init_13 hr ⟨rfl, rfl, rfl⟩ (Nat.le_of_ble_eq_true rfl) (Nat.le_of_ble_eq_true rfl)
def r_can (k9 st9 : Int32) : Int32 := (if k9 ≤ st9 then (nI (0)) else (nI (1)))
theorem t_X22_can_X23 (l : Launch) (Ω : jO) {G : Mem} {sz : Nat} (a q9 : Nat) {k9 : Int32} {pn9 pp9 pw9 pr9 st9 ck9 cv9 po9 : Int32} {mo9 : UInt32} {wa9 da9 ph9 : Nat} (ha : G a = some (.inr (20, [.int k9]))) (hp : G q9 = some (.inr (5, [.int pn9, .int pp9, .int pw9, .int pr9, .int st9, .int ck9, .int cv9, .float mo9, .ref wa9, .int po9, .ref da9, .int (nI (ph9))]))) : Met l yX22_can (ws_ yX22_can cX22_can 2 (some .boolean)) ({ frames := 1, cells := 0, slots := 0, locals := 12 } : Room) (va_Pc [.ref a, .ref q9] (jWd Ω G sz)) (jQ Ω (jD (some (.int (r_can k9 st9))) G sz)) 0 0 (jB Ω) := by
  refine jMet (by decide) (Nat.le_of_ble_eq_true rfl) ?_
  intro p e s m args below meth c cx hr hnm
  refine J_loc [some (.ref a), some (.ref q9)] rfl ?_
  refine J_aload_n cx dX22_can_0 rfl ?_
  refine J_getN cx in_X6 (ci := 5) rfl 4 (by decide) q458 (fun _ h => h) dX22_can_1 hp rfl ?_
  refine J_aload_n cx dX22_can_4 rfl ?_
  refine J_get cx in_X23 (ci := 20) rfl 0 (by decide) q2273 (fun _ h => h) dX22_can_5 ha rfl ?_
  refine J_icmp_ge (tgt := 15) cx dX22_can_8 (by decide) (fun c8 => ?_) (fun c8 => ?_)
  · refine J_iconst (v := nI (0)) cx dX22_can_15 (by decide) ?_
    exact J_zret cx dX22_can_16 hr rfl ⟨by simp only [r_can, if_pos c8], rfl, rfl⟩ (Nat.le_of_ble_eq_true rfl) (Nat.le_of_ble_eq_true rfl)
  · refine J_iconst (v := nI (1)) cx dX22_can_11 (by decide) ?_
    refine J_goto (tgt := 16) cx dX22_can_12 (by decide) ?_
    exact J_zret cx dX22_can_16 hr rfl ⟨by simp only [r_can, if_neg c8], rfl, rfl⟩ (Nat.le_of_ble_eq_true rfl) (Nat.le_of_ble_eq_true rfl)
def r_isSo (k9 st9 : Int32) : Int32 := (if st9 < k9 then (nI (0)) else (nI (1)))
theorem t_X22_isSo_X23 (l : Launch) (Ω : jO) {G : Mem} {sz : Nat} (a q9 : Nat) {k9 : Int32} {pn9 pp9 pw9 pr9 st9 ck9 cv9 po9 : Int32} {mo9 : UInt32} {wa9 da9 ph9 : Nat} (ha : G a = some (.inr (20, [.int k9]))) (hp : G q9 = some (.inr (5, [.int pn9, .int pp9, .int pw9, .int pr9, .int st9, .int ck9, .int cv9, .float mo9, .ref wa9, .int po9, .ref da9, .int (nI (ph9))]))) : Met l yX22_isSo (ws_ yX22_isSo cX22_isSo 2 (some .boolean)) ({ frames := 1, cells := 0, slots := 0, locals := 12 } : Room) (va_Pc [.ref a, .ref q9] (jWd Ω G sz)) (jQ Ω (jD (some (.int (r_isSo k9 st9))) G sz)) 0 0 (jB Ω) := by
  refine jMet (by decide) (Nat.le_of_ble_eq_true rfl) ?_
  intro p e s m args below meth c cx hr hnm
  refine J_loc [some (.ref a), some (.ref q9)] rfl ?_
  refine J_aload_n cx dX22_isSo_0 rfl ?_
  refine J_getN cx in_X6 (ci := 5) rfl 4 (by decide) q458 (fun _ h => h) dX22_isSo_1 hp rfl ?_
  refine J_aload_n cx dX22_isSo_4 rfl ?_
  refine J_get cx in_X23 (ci := 20) rfl 0 (by decide) q2273 (fun _ h => h) dX22_isSo_5 ha rfl ?_
  refine J_icmp_lt (tgt := 15) cx dX22_isSo_8 (by decide) (fun c8 => ?_) (fun c8 => ?_)
  · refine J_iconst (v := nI (0)) cx dX22_isSo_15 (by decide) ?_
    exact J_zret cx dX22_isSo_16 hr rfl ⟨by simp only [r_isSo, if_pos c8], rfl, rfl⟩ (Nat.le_of_ble_eq_true rfl) (Nat.le_of_ble_eq_true rfl)
  · refine J_iconst (v := nI (1)) cx dX22_isSo_11 (by decide) ?_
    refine J_goto (tgt := 16) cx dX22_isSo_12 (by decide) ?_
    exact J_zret cx dX22_isSo_16 hr rfl ⟨by simp only [r_isSo, if_neg c8], rfl, rfl⟩ (Nat.le_of_ble_eq_true rfl) (Nat.le_of_ble_eq_true rfl)
theorem t_X22_can_X24 (l : Launch) (Ω : jO) {G : Mem} {sz : Nat} (a q9 : Nat) {k9 : Int32} {pn9 pp9 pw9 pr9 st9 ck9 cv9 po9 : Int32} {mo9 : UInt32} {wa9 da9 ph9 : Nat} (ha : G a = some (.inr (21, [.int k9]))) (hp : G q9 = some (.inr (5, [.int pn9, .int pp9, .int pw9, .int pr9, .int st9, .int ck9, .int cv9, .float mo9, .ref wa9, .int po9, .ref da9, .int (nI (ph9))]))) : Met l yX22_can (ws_ yX22_can cX22_can 2 (some .boolean)) ({ frames := 1, cells := 0, slots := 0, locals := 12 } : Room) (va_Pc [.ref a, .ref q9] (jWd Ω G sz)) (jQ Ω (jD (some (.int (r_can k9 st9))) G sz)) 0 0 (jB Ω) := by
  refine jMet (by decide) (Nat.le_of_ble_eq_true rfl) ?_
  intro p e s m args below meth c cx hr hnm
  refine J_loc [some (.ref a), some (.ref q9)] rfl ?_
  refine J_aload_n cx dX22_can_0 rfl ?_
  refine J_getN cx in_X6 (ci := 5) rfl 4 (by decide) q458 (fun _ h => h) dX22_can_1 hp rfl ?_
  refine J_aload_n cx dX22_can_4 rfl ?_
  refine J_get cx in_X24 (ci := 21) rfl 0 (by decide) q2273 (fun _ h => h) dX22_can_5 ha rfl ?_
  refine J_icmp_ge (tgt := 15) cx dX22_can_8 (by decide) (fun c8 => ?_) (fun c8 => ?_)
  · refine J_iconst (v := nI (0)) cx dX22_can_15 (by decide) ?_
    exact J_zret cx dX22_can_16 hr rfl ⟨by simp only [r_can, if_pos c8], rfl, rfl⟩ (Nat.le_of_ble_eq_true rfl) (Nat.le_of_ble_eq_true rfl)
  · refine J_iconst (v := nI (1)) cx dX22_can_11 (by decide) ?_
    refine J_goto (tgt := 16) cx dX22_can_12 (by decide) ?_
    exact J_zret cx dX22_can_16 hr rfl ⟨by simp only [r_can, if_neg c8], rfl, rfl⟩ (Nat.le_of_ble_eq_true rfl) (Nat.le_of_ble_eq_true rfl)
theorem t_X22_isSo_X24 (l : Launch) (Ω : jO) {G : Mem} {sz : Nat} (a q9 : Nat) {k9 : Int32} {pn9 pp9 pw9 pr9 st9 ck9 cv9 po9 : Int32} {mo9 : UInt32} {wa9 da9 ph9 : Nat} (ha : G a = some (.inr (21, [.int k9]))) (hp : G q9 = some (.inr (5, [.int pn9, .int pp9, .int pw9, .int pr9, .int st9, .int ck9, .int cv9, .float mo9, .ref wa9, .int po9, .ref da9, .int (nI (ph9))]))) : Met l yX22_isSo (ws_ yX22_isSo cX22_isSo 2 (some .boolean)) ({ frames := 1, cells := 0, slots := 0, locals := 12 } : Room) (va_Pc [.ref a, .ref q9] (jWd Ω G sz)) (jQ Ω (jD (some (.int (r_isSo k9 st9))) G sz)) 0 0 (jB Ω) := by
  refine jMet (by decide) (Nat.le_of_ble_eq_true rfl) ?_
  intro p e s m args below meth c cx hr hnm
  refine J_loc [some (.ref a), some (.ref q9)] rfl ?_
  refine J_aload_n cx dX22_isSo_0 rfl ?_
  refine J_getN cx in_X6 (ci := 5) rfl 4 (by decide) q458 (fun _ h => h) dX22_isSo_1 hp rfl ?_
  refine J_aload_n cx dX22_isSo_4 rfl ?_
  refine J_get cx in_X24 (ci := 21) rfl 0 (by decide) q2273 (fun _ h => h) dX22_isSo_5 ha rfl ?_
  refine J_icmp_lt (tgt := 15) cx dX22_isSo_8 (by decide) (fun c8 => ?_) (fun c8 => ?_)
  · refine J_iconst (v := nI (0)) cx dX22_isSo_15 (by decide) ?_
    exact J_zret cx dX22_isSo_16 hr rfl ⟨by simp only [r_isSo, if_pos c8], rfl, rfl⟩ (Nat.le_of_ble_eq_true rfl) (Nat.le_of_ble_eq_true rfl)
  · refine J_iconst (v := nI (1)) cx dX22_isSo_11 (by decide) ?_
    refine J_goto (tgt := 16) cx dX22_isSo_12 (by decide) ?_
    exact J_zret cx dX22_isSo_16 hr rfl ⟨by simp only [r_isSo, if_neg c8], rfl, rfl⟩ (Nat.le_of_ble_eq_true rfl) (Nat.le_of_ble_eq_true rfl)
theorem t_X22_can_X25 (l : Launch) (Ω : jO) {G : Mem} {sz : Nat} (a q9 : Nat) {k9 cr9 : Int32} {pn9 pp9 pw9 pr9 st9 ck9 cv9 po9 : Int32} {mo9 : UInt32} {wa9 da9 ph9 : Nat} (ha : G a = some (.inr (22, [.int k9, .int cr9]))) (hp : G q9 = some (.inr (5, [.int pn9, .int pp9, .int pw9, .int pr9, .int st9, .int ck9, .int cv9, .float mo9, .ref wa9, .int po9, .ref da9, .int (nI (ph9))]))) : Met l yX22_can (ws_ yX22_can cX22_can 2 (some .boolean)) ({ frames := 1, cells := 0, slots := 0, locals := 12 } : Room) (va_Pc [.ref a, .ref q9] (jWd Ω G sz)) (jQ Ω (jD (some (.int (r_can k9 st9))) G sz)) 0 0 (jB Ω) := by
  refine jMet (by decide) (Nat.le_of_ble_eq_true rfl) ?_
  intro p e s m args below meth c cx hr hnm
  refine J_loc [some (.ref a), some (.ref q9)] rfl ?_
  refine J_aload_n cx dX22_can_0 rfl ?_
  refine J_getN cx in_X6 (ci := 5) rfl 4 (by decide) q458 (fun _ h => h) dX22_can_1 hp rfl ?_
  refine J_aload_n cx dX22_can_4 rfl ?_
  refine J_get cx in_X25 (ci := 22) rfl 0 (by decide) q2273 (fun _ h => h) dX22_can_5 ha rfl ?_
  refine J_icmp_ge (tgt := 15) cx dX22_can_8 (by decide) (fun c8 => ?_) (fun c8 => ?_)
  · refine J_iconst (v := nI (0)) cx dX22_can_15 (by decide) ?_
    exact J_zret cx dX22_can_16 hr rfl ⟨by simp only [r_can, if_pos c8], rfl, rfl⟩ (Nat.le_of_ble_eq_true rfl) (Nat.le_of_ble_eq_true rfl)
  · refine J_iconst (v := nI (1)) cx dX22_can_11 (by decide) ?_
    refine J_goto (tgt := 16) cx dX22_can_12 (by decide) ?_
    exact J_zret cx dX22_can_16 hr rfl ⟨by simp only [r_can, if_neg c8], rfl, rfl⟩ (Nat.le_of_ble_eq_true rfl) (Nat.le_of_ble_eq_true rfl)
def r_isSoB (cr9 ck9 : Int32) : Int32 := (if ck9 ≤ cr9 then (nI (0)) else (nI (1)))
theorem t_X25_isSo (l : Launch) (Ω : jO) {G : Mem} {sz : Nat} (a q9 : Nat) {k9 cr9 : Int32} {pn9 pp9 pw9 pr9 st9 ck9 cv9 po9 : Int32} {mo9 : UInt32} {wa9 da9 ph9 : Nat} (ha : G a = some (.inr (22, [.int k9, .int cr9]))) (hp : G q9 = some (.inr (5, [.int pn9, .int pp9, .int pw9, .int pr9, .int st9, .int ck9, .int cv9, .float mo9, .ref wa9, .int po9, .ref da9, .int (nI (ph9))]))) : Met l yX25_isSo (ws_ yX25_isSo cX25_isSo 2 (some .boolean)) ({ frames := 1, cells := 0, slots := 0, locals := 12 } : Room) (va_Pc [.ref a, .ref q9] (jWd Ω G sz)) (jQ Ω (jD (some (.int (r_isSoB cr9 ck9))) G sz)) 0 0 (jB Ω) := by
  refine jMet (by decide) (Nat.le_of_ble_eq_true rfl) ?_
  intro p e s m args below meth c cx hr hnm
  refine J_loc [some (.ref a), some (.ref q9)] rfl ?_
  refine J_aload_n cx dX25_isSo_0 rfl ?_
  refine J_getN cx in_X6 (ci := 5) rfl 5 (by decide) q463 (fun _ h => h) dX25_isSo_1 hp rfl ?_
  refine J_aload_n cx dX25_isSo_4 rfl ?_
  refine J_get cx in_X25 (ci := 22) rfl 1 (by decide) q2291 (fun _ h => h) dX25_isSo_5 ha rfl ?_
  refine J_icmp_le (tgt := 15) cx dX25_isSo_8 (by decide) (fun c8 => ?_) (fun c8 => ?_)
  · refine J_iconst (v := nI (0)) cx dX25_isSo_15 (by decide) ?_
    exact J_zret cx dX25_isSo_16 hr rfl ⟨by simp only [r_isSoB, if_pos c8], rfl, rfl⟩ (Nat.le_of_ble_eq_true rfl) (Nat.le_of_ble_eq_true rfl)
  · refine J_iconst (v := nI (1)) cx dX25_isSo_11 (by decide) ?_
    refine J_goto (tgt := 16) cx dX25_isSo_12 (by decide) ?_
    exact J_zret cx dX25_isSo_16 hr rfl ⟨by simp only [r_isSoB, if_neg c8], rfl, rfl⟩ (Nat.le_of_ble_eq_true rfl) (Nat.le_of_ble_eq_true rfl)
theorem t_X22_can_X26 (l : Launch) (Ω : jO) {G : Mem} {sz : Nat} (a q9 : Nat) {k9 : Int32} {pn9 pp9 pw9 pr9 st9 ck9 cv9 po9 : Int32} {mo9 : UInt32} {wa9 da9 ph9 : Nat} (ha : G a = some (.inr (23, [.int k9]))) (hp : G q9 = some (.inr (5, [.int pn9, .int pp9, .int pw9, .int pr9, .int st9, .int ck9, .int cv9, .float mo9, .ref wa9, .int po9, .ref da9, .int (nI (ph9))]))) : Met l yX22_can (ws_ yX22_can cX22_can 2 (some .boolean)) ({ frames := 1, cells := 0, slots := 0, locals := 12 } : Room) (va_Pc [.ref a, .ref q9] (jWd Ω G sz)) (jQ Ω (jD (some (.int (r_can k9 st9))) G sz)) 0 0 (jB Ω) := by
  refine jMet (by decide) (Nat.le_of_ble_eq_true rfl) ?_
  intro p e s m args below meth c cx hr hnm
  refine J_loc [some (.ref a), some (.ref q9)] rfl ?_
  refine J_aload_n cx dX22_can_0 rfl ?_
  refine J_getN cx in_X6 (ci := 5) rfl 4 (by decide) q458 (fun _ h => h) dX22_can_1 hp rfl ?_
  refine J_aload_n cx dX22_can_4 rfl ?_
  refine J_get cx in_X26 (ci := 23) rfl 0 (by decide) q2273 (fun _ h => h) dX22_can_5 ha rfl ?_
  refine J_icmp_ge (tgt := 15) cx dX22_can_8 (by decide) (fun c8 => ?_) (fun c8 => ?_)
  · refine J_iconst (v := nI (0)) cx dX22_can_15 (by decide) ?_
    exact J_zret cx dX22_can_16 hr rfl ⟨by simp only [r_can, if_pos c8], rfl, rfl⟩ (Nat.le_of_ble_eq_true rfl) (Nat.le_of_ble_eq_true rfl)
  · refine J_iconst (v := nI (1)) cx dX22_can_11 (by decide) ?_
    refine J_goto (tgt := 16) cx dX22_can_12 (by decide) ?_
    exact J_zret cx dX22_can_16 hr rfl ⟨by simp only [r_can, if_neg c8], rfl, rfl⟩ (Nat.le_of_ble_eq_true rfl) (Nat.le_of_ble_eq_true rfl)
def r_isSoD (k9 st9 : Int32) : Int32 := (if st9 = (nI (3)) then (nI (1)) else (nI (0)))
theorem t_X26_isSo (l : Launch) (Ω : jO) {G : Mem} {sz : Nat} (a q9 : Nat) {k9 : Int32} {pn9 pp9 pw9 pr9 st9 ck9 cv9 po9 : Int32} {mo9 : UInt32} {wa9 da9 ph9 : Nat} (ha : G a = some (.inr (23, [.int k9]))) (hp : G q9 = some (.inr (5, [.int pn9, .int pp9, .int pw9, .int pr9, .int st9, .int ck9, .int cv9, .float mo9, .ref wa9, .int po9, .ref da9, .int (nI (ph9))]))) : Met l yX26_isSo (ws_ yX26_isSo cX26_isSo 2 (some .boolean)) ({ frames := 1, cells := 0, slots := 0, locals := 12 } : Room) (va_Pc [.ref a, .ref q9] (jWd Ω G sz)) (jQ Ω (jD (some (.int (r_isSoD k9 st9))) G sz)) 0 0 (jB Ω) := by
  refine jMet (by decide) (Nat.le_of_ble_eq_true rfl) ?_
  intro p e s m args below meth c cx hr hnm
  refine J_loc [some (.ref a), some (.ref q9)] rfl ?_
  refine J_aload_n cx dX26_isSo_0 rfl ?_
  refine J_getN cx in_X6 (ci := 5) rfl 4 (by decide) q459 (fun _ h => h) dX26_isSo_1 hp rfl ?_
  refine J_iconst (v := nI (3)) cx dX26_isSo_4 (by decide) ?_
  refine J_icmp_ne (tgt := 12) cx dX26_isSo_5 (by decide) (fun c5 => ?_) (fun c5 => ?_)
  · refine J_iconst (v := nI (0)) cx dX26_isSo_12 (by decide) ?_
    exact J_zret cx dX26_isSo_13 hr rfl ⟨by simp only [r_isSoD, if_neg c5], rfl, rfl⟩ (Nat.le_of_ble_eq_true rfl) (Nat.le_of_ble_eq_true rfl)
  · refine J_iconst (v := nI (1)) cx dX26_isSo_8 (by decide) ?_
    refine J_goto (tgt := 13) cx dX26_isSo_9 (by decide) ?_
    exact J_zret cx dX26_isSo_13 hr rfl ⟨by simp only [r_isSoD, if_pos c5], rfl, rfl⟩ (Nat.le_of_ble_eq_true rfl) (Nat.le_of_ble_eq_true rfl)
