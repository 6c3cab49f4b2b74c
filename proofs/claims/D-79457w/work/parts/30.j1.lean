/-! JDK 1 (gen/mk_j1.py): ArrayList -/
set_option maxRecDepth 100000
section JR6
variable {p : Program} {l : Launch} {e : Env} {R : Room} {s : State} {m : MethodId} {args : Array Value} {below : List Frame} {meth : Method} {c : Code} {Q : State → Prop} {Ω : jO} {nL : Nat}
variable {cells slots sz : Nat} {G : Mem} {L : List (Option Value)} {st : List Value} {cc : ByteArray} {own : String} {pc : Nat}
theorem J_alenE (cx : jCX p s m args meth c cc own Ω nL) (hdg : decode cc pc = .ok (.arraylength, 1))
    (kk : J p l e R s m args below meth c Ω nL Q cells slots sz G (pc + 1) L (.int (nI (0)) :: st)) : J p l e R s m args below meth c Ω nL Q cells slots sz G pc L (.ref (Ω.2.2.1 0) :: st) := fun H locs ls h1 h2 h3 h4 =>
  va_tlen cx.1 cx.2.1 cx.sta.2.1 h3 rfl hdg (kk H locs ls h1 h2 h3 h4)
theorem jmmax {a b : Nat} (ha : a < 2147483648) (hb : b < 2147483648) : (if nI a < nI b then nI b else nI a) = nI (max a b) := by
  by_cases h : a < b
  · rw [if_pos ((nI_ltI ha hb).mpr h), Nat.max_eq_right (by omega)]
  · rw [if_neg (fun q => h ((nI_ltI ha hb).mp q)), Nat.max_eq_left (by omega)]
theorem jmmin {a b : Nat} (ha : a < 2147483648) (hb : b < 2147483648) : (if nI b < nI a then nI b else nI a) = nI (min a b) := by
  by_cases h : b < a
  · rw [if_pos ((nI_ltI hb ha).mpr h), Nat.min_eq_right (by omega)]
  · rw [if_neg (fun q => h ((nI_ltI hb ha).mp q)), Nat.min_eq_left (by omega)]
theorem J_mmin (cx : jCX p s m args meth c cc own Ω nL) {index : Nat} {x y : Int32} (hdg : decode cc pc = .ok (.invokestatic index, 3)) (hlink : Cond.methodLink own index Lib.Math.min.name ∈ lw_all) (hstat : Cond.static Lib.Math.min.name ∈ lw_all) (hini : Cond.initialized "java/lang/Math" ∈ lw_all) (hcode : Cond.code Lib.Math.min.name Lib.Math.min.code 2 (some .int) ∈ lw_all)
    (hframes : 1 ≤ R.frames) (hlocals : (st.map fun v => v.category).sum + 13 ≤ R.locals) (hc : cells ≤ R.cells) (hs : slots ≤ R.slots)
    (kk : J p l e R s m args below meth c Ω nL Q cells slots sz G (pc + 3) L (.int (if y < x then y else x) :: st)) : J p l e R s m args below meth c Ω nL Q cells slots sz G pc L (.int y :: .int x :: st) := fun H locs ls h1 h2 h3 h4 =>
  va_mmin cx.1 cx.2.1 (by rw [cx.2.2.1]; exact h4.1.symm) cx.ow (cx.ts _ hlink) (cx.ts _ hstat) (cx.ts _ hini) (cx.ts _ hcode) hframes hlocals hc hs hdg (kk H locs ls h1 h2 h3 h4)
end JR6
theorem t_J0_init_al (l : Launch) (Ω : jO) {G : Mem} {sz : Nat} (a : Nat) {mc9 : Int32} {v19 : Value} {v29 : Int32} (ha : G a = some (.inr (28, [.int mc9, v19, .int v29]))) : Met l yJ0_init (ws_ yJ0_init cJ0_init 1 none) ({ frames := 1, cells := 0, slots := 0, locals := 12 } : Room) (va_Pc [.ref a] (jWd Ω G sz)) (jQ Ω (jD none G sz)) 0 0 (jB Ω) := by
  refine jMet (by decide) (Nat.le_of_ble_eq_true rfl) ?_
  intro p e s m args below meth c cx hr hnm
  refine J_loc [some (.ref a)] rfl ?_
  refine J_aload_n cx dJ0_init_0 rfl ?_
  refine J_objInit cx dJ0_init_1 q189 q170 q171 (Nat.le_of_ble_eq_true rfl) (Nat.le_of_ble_eq_true rfl) ?_
  exact J_vret cx dJ0_init_4 hr ⟨rfl, rfl, rfl⟩ (Nat.le_of_ble_eq_true rfl) (Nat.le_of_ble_eq_true rfl)
theorem t_J1_init_al (l : Launch) (Ω : jO) {G : Mem} {sz : Nat} (a : Nat) {mc9 : Int32} {v19 : Value} {v29 : Int32} (ha : G a = some (.inr (28, [.int mc9, v19, .int v29]))) (hb : Ω.2.2.2 ≤ a) : Met l yJ1_init (ws_ yJ1_init cJ1_init 1 none) ({ frames := 2, cells := 0, slots := 0, locals := 32 } : Room) (va_Pc [.ref a] (jWd Ω G sz)) (jQ Ω (jD none (gset G a (.inr (28, [.int (nI (0)), v19, .int v29]))) (sz))) 0 0 (jB Ω) := by
  refine jMet (by decide) (Nat.le_of_ble_eq_true rfl) ?_
  intro p e s m args below meth c cx hr hnm
  refine J_loc [some (.ref a)] rfl ?_
  refine J_bs cx (fun hbs9 => ?_)
  refine J_lt ha (fun hlt0 => ?_)
  refine J_aload_n cx dJ1_init_0 rfl ?_
  refine J_callI (n := 0) cx [] (t_J0_init_al l Ω a ha) dJ1_init_1 q188 q86 q186 q187 rfl ⟨by decide, by decide, by decide +kernel⟩ rfl rfl ⟨Nat.le_of_ble_eq_true rfl, Nat.le_of_ble_eq_true rfl⟩ rfl rfl (Nat.le_of_ble_eq_true rfl) ⟨Nat.le_of_ble_eq_true rfl, Nat.le_of_ble_eq_true rfl⟩ (jdet ?_)
  refine J_aload_n cx dJ1_init_4 rfl ?_
  refine J_iconst (v := nI (0)) cx dJ1_init_5 (by decide) ?_
  refine J_put cx in_J2 tyJ2 tyJ2_ok nmJ2 (ci := 28) rfl 0 (by decide) q196 (fun _ h => h) rfl (ty := .int) (by decide +kernel) dJ1_init_6 rfl rfl ha (Nat.le_of_ble_eq_true rfl) (by omega) ?_
  refine J_mem (gset G a (.inr (28, [.int (nI (0)), v19, .int v29]))) rfl ?_
  exact J_vret cx dJ1_init_9 hr ⟨rfl, rfl, rfl⟩ (Nat.le_of_ble_eq_true rfl) (Nat.le_of_ble_eq_true rfl)
theorem t_J0_init_ll (l : Launch) (Ω : jO) {G : Mem} {sz : Nat} (a : Nat) {mc9 : Int32} {v19 : Int32} {v29 : Value} {v39 : Value} (ha : G a = some (.inr (29, [.int mc9, .int v19, v29, v39]))) : Met l yJ0_init (ws_ yJ0_init cJ0_init 1 none) ({ frames := 1, cells := 0, slots := 0, locals := 12 } : Room) (va_Pc [.ref a] (jWd Ω G sz)) (jQ Ω (jD none G sz)) 0 0 (jB Ω) := by
  refine jMet (by decide) (Nat.le_of_ble_eq_true rfl) ?_
  intro p e s m args below meth c cx hr hnm
  refine J_loc [some (.ref a)] rfl ?_
  refine J_aload_n cx dJ0_init_0 rfl ?_
  refine J_objInit cx dJ0_init_1 q189 q170 q171 (Nat.le_of_ble_eq_true rfl) (Nat.le_of_ble_eq_true rfl) ?_
  exact J_vret cx dJ0_init_4 hr ⟨rfl, rfl, rfl⟩ (Nat.le_of_ble_eq_true rfl) (Nat.le_of_ble_eq_true rfl)
theorem t_J1_init_ll (l : Launch) (Ω : jO) {G : Mem} {sz : Nat} (a : Nat) {mc9 : Int32} {v19 : Int32} {v29 : Value} {v39 : Value} (ha : G a = some (.inr (29, [.int mc9, .int v19, v29, v39]))) (hb : Ω.2.2.2 ≤ a) : Met l yJ1_init (ws_ yJ1_init cJ1_init 1 none) ({ frames := 2, cells := 0, slots := 0, locals := 32 } : Room) (va_Pc [.ref a] (jWd Ω G sz)) (jQ Ω (jD none (gset G a (.inr (29, [.int (nI (0)), .int v19, v29, v39]))) (sz))) 0 0 (jB Ω) := by
  refine jMet (by decide) (Nat.le_of_ble_eq_true rfl) ?_
  intro p e s m args below meth c cx hr hnm
  refine J_loc [some (.ref a)] rfl ?_
  refine J_bs cx (fun hbs9 => ?_)
  refine J_lt ha (fun hlt0 => ?_)
  refine J_aload_n cx dJ1_init_0 rfl ?_
  refine J_callI (n := 0) cx [] (t_J0_init_ll l Ω a ha) dJ1_init_1 q188 q86 q186 q187 rfl ⟨by decide, by decide, by decide +kernel⟩ rfl rfl ⟨Nat.le_of_ble_eq_true rfl, Nat.le_of_ble_eq_true rfl⟩ rfl rfl (Nat.le_of_ble_eq_true rfl) ⟨Nat.le_of_ble_eq_true rfl, Nat.le_of_ble_eq_true rfl⟩ (jdet ?_)
  refine J_aload_n cx dJ1_init_4 rfl ?_
  refine J_iconst (v := nI (0)) cx dJ1_init_5 (by decide) ?_
  refine J_put cx in_J4 tyJ4 tyJ4_ok nmJ4 (ci := 29) rfl 0 (by decide) q196 (fun _ h => h) rfl (ty := .int) (by decide +kernel) dJ1_init_6 rfl rfl ha (Nat.le_of_ble_eq_true rfl) (by omega) ?_
  refine J_mem (gset G a (.inr (29, [.int (nI (0)), .int v19, v29, v39]))) rfl ?_
  exact J_vret cx dJ1_init_9 hr ⟨rfl, rfl, rfl⟩ (Nat.le_of_ble_eq_true rfl) (Nat.le_of_ble_eq_true rfl)
theorem t_J0_init_ad (l : Launch) (Ω : jO) {G : Mem} {sz : Nat} (a : Nat) {v19 : Value} {v29 : Int32} {v39 : Int32} (ha : G a = some (.inr (30, [v19, .int v29, .int v39]))) : Met l yJ0_init (ws_ yJ0_init cJ0_init 1 none) ({ frames := 1, cells := 0, slots := 0, locals := 12 } : Room) (va_Pc [.ref a] (jWd Ω G sz)) (jQ Ω (jD none G sz)) 0 0 (jB Ω) := by
  refine jMet (by decide) (Nat.le_of_ble_eq_true rfl) ?_
  intro p e s m args below meth c cx hr hnm
  refine J_loc [some (.ref a)] rfl ?_
  refine J_aload_n cx dJ0_init_0 rfl ?_
  refine J_objInit cx dJ0_init_1 q189 q170 q171 (Nat.le_of_ble_eq_true rfl) (Nat.le_of_ble_eq_true rfl) ?_
  exact J_vret cx dJ0_init_4 hr ⟨rfl, rfl, rfl⟩ (Nat.le_of_ble_eq_true rfl) (Nat.le_of_ble_eq_true rfl)
theorem t_J2_init (l : Launch) (Ω : jO) {G : Mem} {sz : Nat} (a : Nat) (ha : G a = some (.inr (28, [.int 0, .null, .int 0]))) (hb : Ω.2.2.2 ≤ a) : Met l yJ2_init (ws_ yJ2_init cJ2_init 1 none) ({ frames := 3, cells := 0, slots := 0, locals := 52 } : Room) (va_Pc [.ref a] (jWd Ω G sz)) (jQ Ω (jD none (gset G a (.inr (28, [.int (nI (0)), .ref (Ω.2.2.1 0), .int 0]))) (sz))) 0 0 (jB Ω) := by
  refine jMet (by decide) (Nat.le_of_ble_eq_true rfl) ?_
  intro p e s m args below meth c cx hr hnm
  refine J_loc [some (.ref a)] rfl ?_
  refine J_bs cx (fun hbs9 => ?_)
  refine J_lt ha (fun hlt0 => ?_)
  refine J_aload_n cx dJ2_init_0 rfl ?_
  refine J_callI (n := 0) cx [] (t_J1_init_al l Ω a ha (by omega)) dJ2_init_1 q185 q87 q183 q184 rfl ⟨by decide, by decide, by decide +kernel⟩ rfl rfl ⟨Nat.le_of_ble_eq_true rfl, Nat.le_of_ble_eq_true rfl⟩ rfl rfl (Nat.le_of_ble_eq_true rfl) ⟨Nat.le_of_ble_eq_true rfl, Nat.le_of_ble_eq_true rfl⟩ (jdet ?_)
  refine J_mem (gset G a (.inr (28, [.int (nI (0)), .null, .int 0]))) rfl ?_
  refine J_aload_n cx dJ2_init_4 rfl ?_
  refine J_gets cx cx.sta.1 dJ2_init_5 q190 (fun _ h => h) ?_
  refine J_put cx in_J2 tyJ2 tyJ2_ok nmJ2 (ci := 28) rfl 1 (by decide) q192 (fun _ h => h) rfl (ty := (.array (.object "java/lang/Object"))) (by decide +kernel) dJ2_init_8 rfl rfl gset_eq (Nat.le_of_ble_eq_true rfl) (by omega) ?_
  refine J_mem (gset G a (.inr (28, [.int (nI (0)), .ref (Ω.2.2.1 0), .int 0]))) gset_gset ?_
  exact J_vret cx dJ2_init_11 hr ⟨rfl, rfl, rfl⟩ (Nat.le_of_ble_eq_true rfl) (Nat.le_of_ble_eq_true rfl)
theorem t_J2_size (l : Launch) (Ω : jO) {G : Mem} {sz : Nat} (a : Nat) {mc9 : Int32} {ed9 n9 : Nat} (ha : G a = some (.inr (28, [.int mc9, .ref ed9, .int (nI (n9))]))) : Met l yJ2_size (ws_ yJ2_size cJ2_size 1 (some .int)) ({ frames := 1, cells := 0, slots := 0, locals := 12 } : Room) (va_Pc [.ref a] (jWd Ω G sz)) (jQ Ω (jD (some (.int (nI n9))) G sz)) 0 0 (jB Ω) := by
  refine jMet (by decide) (Nat.le_of_ble_eq_true rfl) ?_
  intro p e s m args below meth c cx hr hnm
  refine J_loc [some (.ref a)] rfl ?_
  refine J_aload_n cx dJ2_size_0 rfl ?_
  refine J_get cx in_J2 (ci := 28) rfl 2 (by decide) q195 (fun _ h => h) dJ2_size_1 ha rfl ?_
  exact J_iret cx dJ2_size_4 hr ⟨rfl, rfl, rfl⟩ (Nat.le_of_ble_eq_true rfl) (Nat.le_of_ble_eq_true rfl)
theorem t_J7_checkIndex (l : Launch) (Ω : jO) {G : Mem} {sz : Nat} (i9 n9 : Nat) (hi : i9 < n9) (hn : n9 < 2147483648) : Met l yJ7_checkIndex (ws_ yJ7_checkIndex cJ7_checkIndex 3 (some .int)) ({ frames := 1, cells := 0, slots := 0, locals := 12 } : Room) (va_Pc [.int (nI (i9)), .int (nI (n9)), .null] (jWd Ω G sz)) (jQ Ω (jD (some (.int (nI i9))) G sz)) 0 0 (jB Ω) := by
  refine jMet (by decide) (Nat.le_of_ble_eq_true rfl) ?_
  intro p e s m args below meth c cx hr hnm
  refine J_loc [some (.int (nI (i9))), some (.int (nI (n9))), some (.null)] rfl ?_
  refine J_iload_n cx dJ7_checkIndex_0 rfl ?_
  refine J_if_lt (tgt := 9) cx dJ7_checkIndex_1 (by decide) (fun c1 => absurd c1 ((nI_pos (by omega)))) (fun c1 => ?_)
  refine J_iload_n cx dJ7_checkIndex_4 rfl ?_
  refine J_iload_n cx dJ7_checkIndex_5 rfl ?_
  refine J_icmpN_lt (tgt := 16) cx dJ7_checkIndex_6 (by decide) (by omega) (by omega) (fun c6 => ?_) (fun c6 => absurd c6 (by omega))
  refine J_iload_n cx dJ7_checkIndex_16 rfl ?_
  exact J_iret cx dJ7_checkIndex_17 hr ⟨rfl, rfl, rfl⟩ (Nat.le_of_ble_eq_true rfl) (Nat.le_of_ble_eq_true rfl)
theorem t_J6_checkIndex (l : Launch) (Ω : jO) {G : Mem} {sz : Nat} (i9 n9 : Nat) (hi : i9 < n9) (hn : n9 < 2147483648) : Met l yJ6_checkIndex (ws_ yJ6_checkIndex cJ6_checkIndex 2 (some .int)) ({ frames := 2, cells := 0, slots := 0, locals := 34 } : Room) (va_Pc [.int (nI (i9)), .int (nI (n9))] (jWd Ω G sz)) (jQ Ω (jD (some (.int (nI i9))) G sz)) 0 0 (jB Ω) := by
  refine jMet (by decide) (Nat.le_of_ble_eq_true rfl) ?_
  intro p e s m args below meth c cx hr hnm
  refine J_loc [some (.int (nI (i9))), some (.int (nI (n9)))] rfl ?_
  refine J_iload_n cx dJ6_checkIndex_0 rfl ?_
  refine J_iload_n cx dJ6_checkIndex_1 rfl ?_
  refine J_null cx dJ6_checkIndex_2 ?_
  refine J_callS (n := 3) cx [.int (nI (i9)), .int (nI (n9)), .null] (t_J7_checkIndex l Ω i9 n9 (by omega) (by omega)) dJ6_checkIndex_3 (lw_S q420 q421 q98 q422) ⟨by decide, by decide, by decide +kernel⟩ rfl rfl ⟨Nat.le_of_ble_eq_true rfl, Nat.le_of_ble_eq_true rfl⟩ rfl rfl (Nat.le_of_ble_eq_true rfl) ⟨Nat.le_of_ble_eq_true rfl, Nat.le_of_ble_eq_true rfl⟩ (jdet ?_)
  exact J_iret cx dJ6_checkIndex_6 hr ⟨rfl, rfl, rfl⟩ (Nat.le_of_ble_eq_true rfl) (Nat.le_of_ble_eq_true rfl)
theorem t_J2_elementData (l : Launch) (Ω : jO) {G : Mem} {sz : Nat} (a : Nat) {mc9 : Int32} {ed9 n9 : Nat} (ha : G a = some (.inr (28, [.int mc9, .ref ed9, .int (nI (n9))]))) {cap9 : Nat} {f9 : Nat → Option Nat} (he : G ed9 = some (.inl (Ω.2.1 4, cap9, jAq f9))) (hcap : cap9 < 1000000) (i9 : Nat) (hi : i9 < cap9) : Met l yJ2_elementData (ws_ yJ2_elementData cJ2_elementData 2 (some (.object "java/lang/Object"))) ({ frames := 1, cells := 0, slots := 0, locals := 12 } : Room) (va_Pc [.ref a, .int (nI (i9))] (jWd Ω G sz)) (jQ Ω (jD (some (va_rf (f9 i9))) G sz)) 0 0 (jB Ω) := by
  refine jMet (by decide) (Nat.le_of_ble_eq_true rfl) ?_
  intro p e s m args below meth c cx hr hnm
  refine J_loc [some (.ref a), some (.int (nI (i9)))] rfl ?_
  refine J_aload_n cx dJ2_elementData_0 rfl ?_
  refine J_get cx in_J2 (ci := 28) rfl 1 (by decide) q192 (fun _ h => h) dJ2_elementData_1 ha rfl ?_
  refine J_iload_n cx dJ2_elementData_4 rfl ?_
  refine J_aald cx 4 dJ2_elementData_5 rfl he (by omega) (by omega) rfl ?_
  exact J_aret cx dJ2_elementData_6 hr (Or.inl ⟨_, rfl⟩) (by cases f9 i9 with | none => exact Or.inl rfl | some w => exact Or.inr ⟨w, rfl⟩) ⟨rfl, rfl, rfl⟩ (Nat.le_of_ble_eq_true rfl) (Nat.le_of_ble_eq_true rfl)
theorem t_J2_get (l : Launch) (Ω : jO) {G : Mem} {sz : Nat} (a : Nat) {mc9 : Int32} {ed9 n9 : Nat} (ha : G a = some (.inr (28, [.int mc9, .ref ed9, .int (nI (n9))]))) {cap9 : Nat} {f9 : Nat → Option Nat} (he : G ed9 = some (.inl (Ω.2.1 4, cap9, jAq f9))) (hcap : cap9 < 1000000) (i9 : Nat) (hi : i9 < n9) (hnc : n9 ≤ cap9) : Met l yJ2_get (ws_ yJ2_get cJ2_get 2 (some (.object "java/lang/Object"))) ({ frames := 3, cells := 0, slots := 0, locals := 55 } : Room) (va_Pc [.ref a, .int (nI (i9))] (jWd Ω G sz)) (jQ Ω (jD (some (va_rf (f9 i9))) G sz)) 0 0 (jB Ω) := by
  refine jMet (by decide) (Nat.le_of_ble_eq_true rfl) ?_
  intro p e s m args below meth c cx hr hnm
  refine J_loc [some (.ref a), some (.int (nI (i9)))] rfl ?_
  refine J_iload_n cx dJ2_get_0 rfl ?_
  refine J_aload_n cx dJ2_get_1 rfl ?_
  refine J_get cx in_J2 (ci := 28) rfl 2 (by decide) q195 (fun _ h => h) dJ2_get_2 ha rfl ?_
  refine J_callS (n := 2) cx [.int (nI (i9)), .int (nI (n9))] (t_J6_checkIndex l Ω i9 n9 (by omega) (by omega)) dJ2_get_5 (lw_S q417 q418 q97 q419) ⟨by decide, by decide, by decide +kernel⟩ rfl rfl ⟨Nat.le_of_ble_eq_true rfl, Nat.le_of_ble_eq_true rfl⟩ rfl rfl (Nat.le_of_ble_eq_true rfl) ⟨Nat.le_of_ble_eq_true rfl, Nat.le_of_ble_eq_true rfl⟩ (jdet ?_)
  refine J_pop cx dJ2_get_8 rfl ?_
  refine J_aload_n cx dJ2_get_9 rfl ?_
  refine J_iload_n cx dJ2_get_10 rfl ?_
  refine J_callV (n := 1) cx (ci := 28) [.int (nI (i9))] (t_J2_elementData l Ω a ha he (by omega) i9 (by omega)) dJ2_get_11 (lw_V q423 q424 q425 q88 q426) ⟨rfl, by decide, by decide, by decide +kernel⟩ rfl ha rfl rfl ⟨Nat.le_of_ble_eq_true rfl, Nat.le_of_ble_eq_true rfl⟩ rfl rfl (Nat.le_of_ble_eq_true rfl) ⟨Nat.le_of_ble_eq_true rfl, Nat.le_of_ble_eq_true rfl⟩ (jdet ?_)
  exact J_aret cx dJ2_get_14 hr (Or.inl ⟨_, rfl⟩) (by cases f9 i9 with | none => exact Or.inl rfl | some w => exact Or.inr ⟨w, rfl⟩) ⟨rfl, rfl, rfl⟩ (Nat.le_of_ble_eq_true rfl) (Nat.le_of_ble_eq_true rfl)
