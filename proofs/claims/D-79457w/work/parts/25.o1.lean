/-! OBJECTS 1 (gen/mk_o1.py): helpers; Ware, Raw, Coated, Order, Turn; in, bit -/
set_option maxRecDepth 100000
section JR3
variable {p : Program} {l : Launch} {e : Env} {R : Room} {s : State} {m : MethodId} {args : Array Value} {below : List Frame} {meth : Method} {c : Code} {Q : State → Prop} {Ω : jO} {nL : Nat}
variable {cells slots sz : Nat} {G : Mem} {L : List (Option Value)} {st : List Value} {cc : ByteArray} {own : String} {pc : Nat}
theorem J_lt {a : Nat} {x : va_E} (ha : G a = some x) (kk : a < sz → J p l e R s m args below meth c Ω nL Q cells slots sz G pc L st) : J p l e R s m args below meth c Ω nL Q cells slots sz G pc L st := fun H locs ls h1 h2 h3 h4 =>
  kk (by rw [← h1]; exact (h2 _ _ ha).1.lt) H locs ls h1 h2 h3 h4
theorem J_bs (cx : jCX p s m args meth c cc own Ω nL) (kk : Ω.2.2.2 ≤ sz → J p l e R s m args below meth c Ω nL Q cells slots sz G pc L st) : J p l e R s m args below meth c Ω nL Q cells slots sz G pc L st := fun H locs ls h1 h2 h3 h4 =>
  kk (by rw [← h1]; exact Nat.le_trans cx.bs h3.1) H locs ls h1 h2 h3 h4
end JR3
theorem t_X0_in (l : Launch) (Ω : jO) {G : Mem} {sz : Nat} (v9 lo9 hi9 : Int32) : Met l yX0_in (ws_ yX0_in cX0_in 3 (some .boolean)) ({ frames := 1, cells := 0, slots := 0, locals := 12 } : Room) (va_Pc [.int v9, .int lo9, .int hi9] (jWd Ω G sz)) (jQ Ω (jD (some (.int (r_X3_in v9 lo9 hi9))) G sz)) 0 0 (jB Ω) := by
  refine jMet (by decide) (Nat.le_of_ble_eq_true rfl) ?_
  intro p e s m args below meth c cx hr hnm
  refine J_loc [some (.int v9), some (.int lo9), some (.int hi9)] rfl ?_
  refine J_iload_n cx dX0_in_0 rfl ?_
  refine J_iload_n cx dX0_in_1 rfl ?_
  refine J_icmp_lt (tgt := 14) cx dX0_in_2 (by decide) (fun c2 => ?_) (fun c2 => ?_)
  · refine J_iconst (v := nI (0)) cx dX0_in_14 (by decide) ?_
    exact J_zret cx dX0_in_15 hr rfl ⟨by simp only [r_X3_in, if_pos c2], rfl, rfl⟩ (Nat.le_of_ble_eq_true rfl) (Nat.le_of_ble_eq_true rfl)
  · refine J_iload_n cx dX0_in_5 rfl ?_
    refine J_iload_n cx dX0_in_6 rfl ?_
    refine J_icmp_gt (tgt := 14) cx dX0_in_7 (by decide) (fun c7 => ?_) (fun c7 => ?_)
    · refine J_iconst (v := nI (0)) cx dX0_in_14 (by decide) ?_
      exact J_zret cx dX0_in_15 hr rfl ⟨by simp only [r_X3_in, if_neg c2, if_pos c7], rfl, rfl⟩ (Nat.le_of_ble_eq_true rfl) (Nat.le_of_ble_eq_true rfl)
    · refine J_iconst (v := nI (1)) cx dX0_in_10 (by decide) ?_
      refine J_goto (tgt := 15) cx dX0_in_11 (by decide) ?_
      exact J_zret cx dX0_in_15 hr rfl ⟨by simp only [r_X3_in, if_neg c2, if_neg c7], rfl, rfl⟩ (Nat.le_of_ble_eq_true rfl) (Nat.le_of_ble_eq_true rfl)
def r_bit (b : Int32) : Int32 := if b = 0 then 0 else 1
theorem t_X0_bit (l : Launch) (Ω : jO) {G : Mem} {sz : Nat} (b9 : Int32) : Met l yX0_bit (ws_ yX0_bit cX0_bit 1 (some .int)) ({ frames := 1, cells := 0, slots := 0, locals := 12 } : Room) (va_Pc [.int b9] (jWd Ω G sz)) (jQ Ω (jD (some (.int (r_bit b9))) G sz)) 0 0 (jB Ω) := by
  refine jMet (by decide) (Nat.le_of_ble_eq_true rfl) ?_
  intro p e s m args below meth c cx hr hnm
  refine J_loc [some (.int b9)] rfl ?_
  refine J_iload_n cx dX0_bit_0 rfl ?_
  refine J_if_eq (tgt := 8) cx dX0_bit_1 (by decide) (fun c1 => ?_) (fun c1 => ?_)
  · refine J_iconst (v := nI (0)) cx dX0_bit_8 (by decide) ?_
    exact J_iret cx dX0_bit_9 hr ⟨by simp only [r_bit, if_pos c1] <;> rfl, rfl, rfl⟩ (Nat.le_of_ble_eq_true rfl) (Nat.le_of_ble_eq_true rfl)
  · refine J_iconst (v := nI (1)) cx dX0_bit_4 (by decide) ?_
    refine J_goto (tgt := 9) cx dX0_bit_5 (by decide) ?_
    exact J_iret cx dX0_bit_9 hr ⟨by simp only [r_bit, if_neg c1] <;> rfl, rfl, rfl⟩ (Nat.le_of_ble_eq_true rfl) (Nat.le_of_ble_eq_true rfl)
theorem t_X7_init_raw (l : Launch) (Ω : jO) {G : Mem} {sz : Nat} (a : Nat) (k9 : Int32) (ha : G a = some (.inr (6, [.int 0]))) (hb : Ω.2.2.2 ≤ a) : Met l yX7_init (ws_ yX7_init cX7_init 2 none) ({ frames := 1, cells := 0, slots := 0, locals := 12 } : Room) (va_Pc [.ref a, .int k9] (jWd Ω G sz)) (jQ Ω (jD none (gset G a (.inr (6, [.int k9]))) sz)) 0 0 (jB Ω) := by
  refine jMet (by decide) (Nat.le_of_ble_eq_true rfl) ?_
  intro p e s m args below meth c cx hr hnm
  refine J_loc [some (.ref a), some (.int k9)] rfl ?_
  refine J_bs cx (fun hbs9 => ?_)
  refine J_lt ha (fun hlt0 => ?_)
  refine J_aload_n cx dX7_init_0 rfl ?_
  refine J_objInit cx dX7_init_1 q442 q170 q171 (Nat.le_of_ble_eq_true rfl) (Nat.le_of_ble_eq_true rfl) ?_
  refine J_aload_n cx dX7_init_4 rfl ?_
  refine J_iload_n cx dX7_init_5 rfl ?_
  refine J_putF cx in_X8 tyX8 tyX8_ok nmX8 (ci := 6) rfl 0 (by decide) q443 (fun _ h => h) rfl rfl hnm (ty := .int) (by decide +kernel) dX7_init_6 rfl rfl ha (Nat.le_of_ble_eq_true rfl) (by omega) ?_
  refine J_mem (gset G a (.inr (6, [.int k9]))) rfl ?_
  exact J_vret cx dX7_init_9 hr ⟨rfl, rfl, rfl⟩ (Nat.le_of_ble_eq_true rfl) (Nat.le_of_ble_eq_true rfl)
theorem t_X7_init_coat (l : Launch) (Ω : jO) {G : Mem} {sz : Nat} (a : Nat) (k9 : Int32) (ha : G a = some (.inr (10, [.int 0, .int 0, .int 0]))) (hb : Ω.2.2.2 ≤ a) : Met l yX7_init (ws_ yX7_init cX7_init 2 none) ({ frames := 1, cells := 0, slots := 0, locals := 12 } : Room) (va_Pc [.ref a, .int k9] (jWd Ω G sz)) (jQ Ω (jD none (gset G a (.inr (10, [.int k9, .int 0, .int 0]))) sz)) 0 0 (jB Ω) := by
  refine jMet (by decide) (Nat.le_of_ble_eq_true rfl) ?_
  intro p e s m args below meth c cx hr hnm
  refine J_loc [some (.ref a), some (.int k9)] rfl ?_
  refine J_bs cx (fun hbs9 => ?_)
  refine J_lt ha (fun hlt0 => ?_)
  refine J_aload_n cx dX7_init_0 rfl ?_
  refine J_objInit cx dX7_init_1 q442 q170 q171 (Nat.le_of_ble_eq_true rfl) (Nat.le_of_ble_eq_true rfl) ?_
  refine J_aload_n cx dX7_init_4 rfl ?_
  refine J_iload_n cx dX7_init_5 rfl ?_
  refine J_putF cx in_X12 tyX12 tyX12_ok nmX12 (ci := 10) rfl 0 (by decide) q443 (fun _ h => h) rfl rfl hnm (ty := .int) (by decide +kernel) dX7_init_6 rfl rfl ha (Nat.le_of_ble_eq_true rfl) (by omega) ?_
  refine J_mem (gset G a (.inr (10, [.int k9, .int 0, .int 0]))) rfl ?_
  exact J_vret cx dX7_init_9 hr ⟨rfl, rfl, rfl⟩ (Nat.le_of_ble_eq_true rfl) (Nat.le_of_ble_eq_true rfl)
theorem t_X8_init (l : Launch) (Ω : jO) {G : Mem} {sz : Nat} (a : Nat) (k9 : Int32) (ha : G a = some (.inr (6, [.int 0]))) (hb : Ω.2.2.2 ≤ a) : Met l yX8_init (ws_ yX8_init cX8_init 2 none) ({ frames := 2, cells := 0, slots := 0, locals := 33 } : Room) (va_Pc [.ref a, .int k9] (jWd Ω G sz)) (jQ Ω (jD none (gset G a (.inr (6, [.int k9]))) sz)) 0 0 (jB Ω) := by
  refine jMet (by decide) (Nat.le_of_ble_eq_true rfl) ?_
  intro p e s m args below meth c cx hr hnm
  refine J_loc [some (.ref a), some (.int k9)] rfl ?_
  refine J_bs cx (fun hbs9 => ?_)
  refine J_lt ha (fun hlt0 => ?_)
  refine J_aload_n cx dX8_init_0 rfl ?_
  refine J_iload_n cx dX8_init_1 rfl ?_
  refine J_callI (n := 1) cx [.int k9] (t_X7_init_raw l Ω a k9 ha (by omega)) dX8_init_2 q441 q99 q439 q440 rfl ⟨by decide, by decide, by decide +kernel⟩ rfl rfl ⟨Nat.le_of_ble_eq_true rfl, Nat.le_of_ble_eq_true rfl⟩ rfl rfl (Nat.le_of_ble_eq_true rfl) ⟨Nat.le_of_ble_eq_true rfl, Nat.le_of_ble_eq_true rfl⟩ (jdet ?_)
  refine J_mem (gset G a (.inr (6, [.int k9]))) rfl ?_
  exact J_vret cx dX8_init_5 hr ⟨rfl, rfl, rfl⟩ (Nat.le_of_ble_eq_true rfl) (Nat.le_of_ble_eq_true rfl)
theorem t_X12_init (l : Launch) (Ω : jO) {G : Mem} {sz : Nat} (a : Nat) (k9 gl9 co9 : Int32) (ha : G a = some (.inr (10, [.int 0, .int 0, .int 0]))) (hb : Ω.2.2.2 ≤ a) : Met l yX12_init (ws_ yX12_init cX12_init 4 none) ({ frames := 2, cells := 0, slots := 0, locals := 33 } : Room) (va_Pc [.ref a, .int k9, .int gl9, .int co9] (jWd Ω G sz)) (jQ Ω (jD none (gset G a (.inr (10, [.int k9, .int gl9, .int co9]))) sz)) 0 0 (jB Ω) := by
  refine jMet (by decide) (Nat.le_of_ble_eq_true rfl) ?_
  intro p e s m args below meth c cx hr hnm
  refine J_loc [some (.ref a), some (.int k9), some (.int gl9), some (.int co9)] rfl ?_
  refine J_bs cx (fun hbs9 => ?_)
  refine J_lt ha (fun hlt0 => ?_)
  refine J_aload_n cx dX12_init_0 rfl ?_
  refine J_iload_n cx dX12_init_1 rfl ?_
  refine J_callI (n := 1) cx [.int k9] (t_X7_init_coat l Ω a k9 ha (by omega)) dX12_init_2 q441 q99 q1667 q440 rfl ⟨by decide, by decide, by decide +kernel⟩ rfl rfl ⟨Nat.le_of_ble_eq_true rfl, Nat.le_of_ble_eq_true rfl⟩ rfl rfl (Nat.le_of_ble_eq_true rfl) ⟨Nat.le_of_ble_eq_true rfl, Nat.le_of_ble_eq_true rfl⟩ (jdet ?_)
  refine J_mem (gset G a (.inr (10, [.int k9, .int 0, .int 0]))) rfl ?_
  refine J_aload_n cx dX12_init_5 rfl ?_
  refine J_iload_n cx dX12_init_6 rfl ?_
  refine J_putF cx in_X12 tyX12 tyX12_ok nmX12 (ci := 10) rfl 1 (by decide) q1668 (fun _ h => h) rfl rfl hnm (ty := .int) (by decide +kernel) dX12_init_7 rfl rfl gset_eq (Nat.le_of_ble_eq_true rfl) (by omega) ?_
  refine J_mem (gset G a (.inr (10, [.int k9, .int gl9, .int 0]))) gset_gset ?_
  refine J_aload_n cx dX12_init_10 rfl ?_
  refine J_iload_n cx dX12_init_11 rfl ?_
  refine J_putF cx in_X12 tyX12 tyX12_ok nmX12 (ci := 10) rfl 2 (by decide) q1669 (fun _ h => h) rfl rfl hnm (ty := .int) (by decide +kernel) dX12_init_12 rfl rfl gset_eq (Nat.le_of_ble_eq_true rfl) (by omega) ?_
  refine J_mem (gset G a (.inr (10, [.int k9, .int gl9, .int co9]))) gset_gset ?_
  exact J_vret cx dX12_init_15 hr ⟨rfl, rfl, rfl⟩ (Nat.le_of_ble_eq_true rfl) (Nat.le_of_ble_eq_true rfl)
theorem t_X8_glaze (l : Launch) (Ω : jO) {G : Mem} {sz : Nat} (a : Nat) {k9 : Int32} (ha : G a = some (.inr (6, [.int k9]))) : Met l yX8_glaze (ws_ yX8_glaze cX8_glaze 1 (some .int)) ({ frames := 1, cells := 0, slots := 0, locals := 12 } : Room) (va_Pc [.ref a] (jWd Ω G sz)) (jQ Ω (jD (some (.int (-1))) G sz)) 0 0 (jB Ω) := by
  refine jMet (by decide) (Nat.le_of_ble_eq_true rfl) ?_
  intro p e s m args below meth c cx hr hnm
  refine J_loc [some (.ref a)] rfl ?_
  refine J_iconst (v := -1) cx dX8_glaze_0 (by decide) ?_
  exact J_iret cx dX8_glaze_1 hr ⟨rfl, rfl, rfl⟩ (Nat.le_of_ble_eq_true rfl) (Nat.le_of_ble_eq_true rfl)
theorem t_X8_coats (l : Launch) (Ω : jO) {G : Mem} {sz : Nat} (a : Nat) {k9 : Int32} (ha : G a = some (.inr (6, [.int k9]))) : Met l yX8_coats (ws_ yX8_coats cX8_coats 1 (some .int)) ({ frames := 1, cells := 0, slots := 0, locals := 12 } : Room) (va_Pc [.ref a] (jWd Ω G sz)) (jQ Ω (jD (some (.int (-1))) G sz)) 0 0 (jB Ω) := by
  refine jMet (by decide) (Nat.le_of_ble_eq_true rfl) ?_
  intro p e s m args below meth c cx hr hnm
  refine J_loc [some (.ref a)] rfl ?_
  refine J_iconst (v := -1) cx dX8_coats_0 (by decide) ?_
  exact J_iret cx dX8_coats_1 hr ⟨rfl, rfl, rfl⟩ (Nat.le_of_ble_eq_true rfl) (Nat.le_of_ble_eq_true rfl)
theorem t_X12_glaze (l : Launch) (Ω : jO) {G : Mem} {sz : Nat} (a : Nat) {k9 gl9 co9 : Int32} (ha : G a = some (.inr (10, [.int k9, .int gl9, .int co9]))) : Met l yX12_glaze (ws_ yX12_glaze cX12_glaze 1 (some .int)) ({ frames := 1, cells := 0, slots := 0, locals := 12 } : Room) (va_Pc [.ref a] (jWd Ω G sz)) (jQ Ω (jD (some (.int (gl9))) G sz)) 0 0 (jB Ω) := by
  refine jMet (by decide) (Nat.le_of_ble_eq_true rfl) ?_
  intro p e s m args below meth c cx hr hnm
  refine J_loc [some (.ref a)] rfl ?_
  refine J_aload_n cx dX12_glaze_0 rfl ?_
  refine J_get cx in_X12 (ci := 10) rfl 1 (by decide) q1668 (fun _ h => h) dX12_glaze_1 ha rfl ?_
  exact J_iret cx dX12_glaze_4 hr ⟨rfl, rfl, rfl⟩ (Nat.le_of_ble_eq_true rfl) (Nat.le_of_ble_eq_true rfl)
theorem t_X12_coats (l : Launch) (Ω : jO) {G : Mem} {sz : Nat} (a : Nat) {k9 gl9 co9 : Int32} (ha : G a = some (.inr (10, [.int k9, .int gl9, .int co9]))) : Met l yX12_coats (ws_ yX12_coats cX12_coats 1 (some .int)) ({ frames := 1, cells := 0, slots := 0, locals := 12 } : Room) (va_Pc [.ref a] (jWd Ω G sz)) (jQ Ω (jD (some (.int (co9))) G sz)) 0 0 (jB Ω) := by
  refine jMet (by decide) (Nat.le_of_ble_eq_true rfl) ?_
  intro p e s m args below meth c cx hr hnm
  refine J_loc [some (.ref a)] rfl ?_
  refine J_aload_n cx dX12_coats_0 rfl ?_
  refine J_get cx in_X12 (ci := 10) rfl 2 (by decide) q1669 (fun _ h => h) dX12_coats_1 ha rfl ?_
  exact J_iret cx dX12_coats_4 hr ⟨rfl, rfl, rfl⟩ (Nat.le_of_ble_eq_true rfl) (Nat.le_of_ble_eq_true rfl)
theorem t_X7_pot_raw (l : Launch) (Ω : jO) {G : Mem} {sz : Nat} (a : Nat) {k9 : Int32} (ha : G a = some (.inr (6, [.int k9]))) : Met l yX7_pot (ws_ yX7_pot cX7_pot 1 (some .int)) ({ frames := 1, cells := 0, slots := 0, locals := 12 } : Room) (va_Pc [.ref a] (jWd Ω G sz)) (jQ Ω (jD (some (.int (k9))) G sz)) 0 0 (jB Ω) := by
  refine jMet (by decide) (Nat.le_of_ble_eq_true rfl) ?_
  intro p e s m args below meth c cx hr hnm
  refine J_loc [some (.ref a)] rfl ?_
  refine J_aload_n cx dX7_pot_0 rfl ?_
  refine J_get cx in_X8 (ci := 6) rfl 0 (by decide) q443 (fun _ h => h) dX7_pot_1 ha rfl ?_
  exact J_iret cx dX7_pot_4 hr ⟨rfl, rfl, rfl⟩ (Nat.le_of_ble_eq_true rfl) (Nat.le_of_ble_eq_true rfl)
theorem t_X7_pot_coat (l : Launch) (Ω : jO) {G : Mem} {sz : Nat} (a : Nat) {k9 gl9 co9 : Int32} (ha : G a = some (.inr (10, [.int k9, .int gl9, .int co9]))) : Met l yX7_pot (ws_ yX7_pot cX7_pot 1 (some .int)) ({ frames := 1, cells := 0, slots := 0, locals := 12 } : Room) (va_Pc [.ref a] (jWd Ω G sz)) (jQ Ω (jD (some (.int (k9))) G sz)) 0 0 (jB Ω) := by
  refine jMet (by decide) (Nat.le_of_ble_eq_true rfl) ?_
  intro p e s m args below meth c cx hr hnm
  refine J_loc [some (.ref a)] rfl ?_
  refine J_aload_n cx dX7_pot_0 rfl ?_
  refine J_get cx in_X12 (ci := 10) rfl 0 (by decide) q443 (fun _ h => h) dX7_pot_1 ha rfl ?_
  exact J_iret cx dX7_pot_4 hr ⟨rfl, rfl, rfl⟩ (Nat.le_of_ble_eq_true rfl) (Nat.le_of_ble_eq_true rfl)
/-- a ware: its pot's number; none: raw; some: glaze and coats -/
def wE (k : Int32) : Option (Int32 × Int32) → va_E
  | none => .inr (6, [.int k])
  | some q => .inr (10, [.int k, .int q.1, .int q.2])
def wGl : Option (Int32 × Int32) → Int32
  | none => -1
  | some q => q.1
def wCo : Option (Int32 × Int32) → Int32
  | none => -1
  | some q => q.2
section JR4
variable {p : Program} {l : Launch} {e : Env} {R : Room} {s : State} {m : MethodId} {args : Array Value} {below : List Frame} {meth : Method} {c : Code} {Q : State → Prop} {Ω : jO} {nL : Nat}
variable {cells slots sz : Nat} {G : Mem} {L : List (Option Value)} {st : List Value} {cc : ByteArray} {own : String} {pc : Nat}
theorem J_w_pot (cx : jCX p s m args meth c cc own Ω nL) {index w9 : Nat} {k9 : Int32} {x9 : Option (Int32 × Int32)} (hdg : decode cc pc = .ok (.invokevirtual index, 3)) (hlk : Cond.methodLink own index ⟨"TurningWheel$Ware", "pot", "()I"⟩ ∈ lw_all) (hw : G w9 = some (wE k9 x9)) (hR : 2 ≤ R.frames ∧ 32 ≤ R.locals) (hW : (st.map fun v => v.category).sum ≤ 8) (hf : cells ≤ R.cells ∧ slots ≤ R.slots)
    (kk : J p l e R s m args below meth c Ω nL Q cells slots sz G (pc + 3) L (.int (k9) :: st)) : J p l e R s m args below meth c Ω nL Q cells slots sz G pc L (.ref w9 :: st) := by
  cases x9 with
  | none =>
    refine J_callU (n := 0) (owner := "TurningWheel$Ware") cx (ci := 6) [] (t_X7_pot_raw l Ω w9 hw) hdg q1742 hlk q1739 q1741 q1738 q99 rfl ⟨by decide, by decide, by decide +kernel⟩ rfl hw rfl rfl ⟨hR.1, hR.2⟩ rfl rfl hW ⟨hf.1, hf.2⟩ (jdet ?_)
    exact kk
  | some q9 =>
    refine J_callU (n := 0) (owner := "TurningWheel$Ware") cx (ci := 10) [] (t_X7_pot_coat l Ω w9 hw) hdg q1742 hlk q1739 q1740 q1738 q99 rfl ⟨by decide, by decide, by decide +kernel⟩ rfl hw rfl rfl ⟨hR.1, hR.2⟩ rfl rfl hW ⟨hf.1, hf.2⟩ (jdet ?_)
    exact kk
theorem J_w_glaze (cx : jCX p s m args meth c cc own Ω nL) {index w9 : Nat} {k9 : Int32} {x9 : Option (Int32 × Int32)} (hdg : decode cc pc = .ok (.invokevirtual index, 3)) (hlk : Cond.methodLink own index ⟨"TurningWheel$Ware", "glaze", "()I"⟩ ∈ lw_all) (hw : G w9 = some (wE k9 x9)) (hR : 2 ≤ R.frames ∧ 32 ≤ R.locals) (hW : (st.map fun v => v.category).sum ≤ 8) (hf : cells ≤ R.cells ∧ slots ≤ R.slots)
    (kk : J p l e R s m args below meth c Ω nL Q cells slots sz G (pc + 3) L (.int (wGl x9) :: st)) : J p l e R s m args below meth c Ω nL Q cells slots sz G pc L (.ref w9 :: st) := by
  cases x9 with
  | none =>
    refine J_callA (n := 0) (owner := "TurningWheel$Ware") cx (ci := 6) [] (t_X8_glaze l Ω w9 hw) hdg q1697 q1690 hlk q1691 q1695 q1696 q100 ⟨by decide, by decide, by decide +kernel⟩ rfl hw rfl rfl ⟨hR.1, hR.2⟩ rfl rfl hW ⟨hf.1, hf.2⟩ (jdet ?_)
    exact kk
  | some q9 =>
    refine J_callA (n := 0) (owner := "TurningWheel$Ware") cx (ci := 10) [] (t_X12_glaze l Ω w9 hw) hdg q1694 q1690 hlk q1691 q1692 q1693 q132 ⟨by decide, by decide, by decide +kernel⟩ rfl hw rfl rfl ⟨hR.1, hR.2⟩ rfl rfl hW ⟨hf.1, hf.2⟩ (jdet ?_)
    exact kk
theorem J_w_coats (cx : jCX p s m args meth c cc own Ω nL) {index w9 : Nat} {k9 : Int32} {x9 : Option (Int32 × Int32)} (hdg : decode cc pc = .ok (.invokevirtual index, 3)) (hlk : Cond.methodLink own index ⟨"TurningWheel$Ware", "coats", "()I"⟩ ∈ lw_all) (hw : G w9 = some (wE k9 x9)) (hR : 2 ≤ R.frames ∧ 32 ≤ R.locals) (hW : (st.map fun v => v.category).sum ≤ 8) (hf : cells ≤ R.cells ∧ slots ≤ R.slots)
    (kk : J p l e R s m args below meth c Ω nL Q cells slots sz G (pc + 3) L (.int (wCo x9) :: st)) : J p l e R s m args below meth c Ω nL Q cells slots sz G pc L (.ref w9 :: st) := by
  cases x9 with
  | none =>
    refine J_callA (n := 0) (owner := "TurningWheel$Ware") cx (ci := 6) [] (t_X8_coats l Ω w9 hw) hdg q1688 q1681 hlk q1682 q1686 q1687 q100 ⟨by decide, by decide, by decide +kernel⟩ rfl hw rfl rfl ⟨hR.1, hR.2⟩ rfl rfl hW ⟨hf.1, hf.2⟩ (jdet ?_)
    exact kk
  | some q9 =>
    refine J_callA (n := 0) (owner := "TurningWheel$Ware") cx (ci := 10) [] (t_X12_coats l Ω w9 hw) hdg q1685 q1681 hlk q1682 q1683 q1684 q132 ⟨by decide, by decide, by decide +kernel⟩ rfl hw rfl rfl ⟨hR.1, hR.2⟩ rfl rfl hW ⟨hf.1, hf.2⟩ (jdet ?_)
    exact kk
end JR4
