/-! REFUSED 1 (gen/mk_r1.py): told -/
set_option maxRecDepth 100000
def r_told (b9 re9 de9 : Int32) : Int32 := (if b9 = 0 then re9 else de9)
theorem t_X10_told (l : Launch) (Ω : jO) {G : Mem} {sz : Nat} (a : Nat) {u09 : Value} {u19 : Value} {u29 : Value} {u39 : Value} {u49 : Value} {i59 : Int32} {re9 : Int32} {de9 : Int32} (b9 : Int32) (ha : G a = some (.inr (8, [u09, u19, u29, u39, u49, .int i59, .int re9, .int de9]))) : Met l yX10_told (ws_ yX10_told cX10_told 2 (some .int)) ({ frames := 1, cells := 0, slots := 0, locals := 12 } : Room) (va_Pc [.ref a, .int b9] (jWd Ω G sz)) (jQ Ω (jD (some (.int (r_told b9 re9 de9))) G sz)) 0 0 (jB Ω) := by
  refine jMet (by decide) (Nat.le_of_ble_eq_true rfl) ?_
  intro p e s m args below meth c cx hr hnm
  refine J_loc [some (.ref a), some (.int b9)] rfl ?_
  refine J_iload_n cx dX10_told_0 rfl ?_
  refine J_if_eq (tgt := 11) cx dX10_told_1 (by decide) (fun c1 => ?_) (fun c1 => ?_)
  · refine J_aload_n cx dX10_told_11 rfl ?_
    refine J_get cx in_X10 (ci := 8) rfl 6 (by decide) q1304 (fun _ h => h) dX10_told_12 ha rfl ?_
    exact J_iret cx dX10_told_15 hr ⟨by simp only [r_told, if_pos c1], rfl, rfl⟩ (Nat.le_of_ble_eq_true rfl) (Nat.le_of_ble_eq_true rfl)
  · refine J_aload_n cx dX10_told_4 rfl ?_
    refine J_get cx in_X10 (ci := 8) rfl 7 (by decide) q1305 (fun _ h => h) dX10_told_5 ha rfl ?_
    refine J_goto (tgt := 15) cx dX10_told_8 (by decide) ?_
    exact J_iret cx dX10_told_15 hr ⟨by simp only [r_told, if_neg c1], rfl, rfl⟩ (Nat.le_of_ble_eq_true rfl) (Nat.le_of_ble_eq_true rfl)
