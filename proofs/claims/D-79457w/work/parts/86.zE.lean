/-! JDK 13 (gen/mk_zE.py): getClass() by an interface, ArrayList's iterator, unmodifiableList and its iterator -/
set_option maxRecDepth 100000
section JRGC
variable {p : Program} {l : Launch} {e : Env} {R : Room} {s : State} {m : MethodId} {args : Array Value} {below : List Frame} {meth : Method} {c : Code} {Q : State → Prop} {Ω : jO} {nL : Nat}
variable {cells slots sz : Nat} {G : Mem} {L : List (Option Value)} {st : List Value} {cc : ByteArray} {own : String} {pc : Nat}
theorem jGc.sel {args : Array Value} {s : State} (h : jGc s) (h0 : (Cond.selects "java/util/ArrayList" ⟨"java/lang/Object", "getClass", "()Ljava/lang/Class;"⟩ ⟨"java/lang/Object", "getClass", "()Ljava/lang/Class;"⟩).before args s = true) : (Cond.selects "java/util/ArrayList" ⟨"java/util/List", "getClass", "()Ljava/lang/Class;"⟩ ⟨"java/lang/Object", "getClass", "()Ljava/lang/Class;"⟩).before args s = true := by
  obtain ⟨c2, r2, m2, q1, q2, q3, q4, mk, hmk, hni⟩ := Cond.selects_spec h0
  obtain ⟨cL, kL, r1, hcL, hkL, hiL, hfL, hn1⟩ := Cond.interfaceMethod_spec h.2.1
  cases q3.symm.trans hn1
  cases (State.methodFound?_of_named q3 ⟨by decide, by decide⟩).symm.trans q2
  simp only [Cond.before, Cond.holds, Cond.value, q1, hfL, q3, q4]
  simp [hmk, hni]
theorem J_getCI (cx : jCX p s m args meth c cc own Ω nL) {index count a : Nat} {fs : List Value} (hdg : decode cc pc = .ok (.invokeinterface index count, 5)) (hlink : Cond.methodLink own index ⟨"java/util/List", "getClass", "()Ljava/lang/Class;"⟩ ∈ lw_all) (ha : G a = some (.inr (28, fs))) (hframes : 1 ≤ R.frames) (hlocals : (st.map fun v => v.category).sum + 14 ≤ R.locals)
    (kk : J p l e R s m args below meth c Ω nL Q cells slots sz G (pc + 5) L (.ref (Ω.2.2.1 3) :: st)) : J p l e R s m args below meth c Ω nL Q cells slots sz G pc L (.ref a :: st) := by
  intro H locs ls h1 h2 h3 h4 T hT X
  obtain ⟨cm, km, m1, m2, m3⟩ := cx.sta.2.2.2.2.2.2.2.2.2.2.2.1
  obtain ⟨cell, e1, e2, e3⟩ := jrecv cx h2 (ci := 28) rfl ha
  have gc : jGc s := cx.kw.2.2.2.2
  have e4 : cm = cell.cls := Option.some.inj (m1.symm.trans e3)
  obtain ⟨vm', X', st9⟩ := X.getClassOfI cx.1 (C := "java/util/ArrayList") cx.ow (cx.ts _ hlink) (va_any rfl gc.1) (va_any rfl gc.2.1) (gc.sel (cx.ts _ q580)) (cx.ts _ q542) (va_any rfl gc.2.2.1) (va_any rfl gc.2.2.2) (va_Nw.use rfl (cx.nest q1150 rfl)) (cx.ts _ q595) ⟨by decide, by decide⟩ (by decide) rfl rfl m1 m2 ⟨cell, by rw [hT]; exact e1, e4.symm, e2⟩ m3 (g := F0 m pc ls (.ref a :: st)) rfl (by rw [cx.2.2.1]; exact h4.1) rfl (by rw [cx.2.1]; exact hdg) hframes (by show 2 * 0 + _ + _ ≤ _; have hw : nativeFrameWords "java/lang/Object" "getClass" 1 = 3 := (by decide); omega)
  obtain ⟨t, a1, b1⟩ := kk H locs ls h1 h2 h3 h4 (T.setVm vm') hT X'
  exact ⟨t, st9 t a1, b1⟩
end JRGC
theorem t_J43_init (l : Launch) (Ω : jO) {G : Mem} {sz : Nat} (u9 al9 : Nat) {mc9 : Int32} {wv9 : Value} {n9 : Nat} (ha : G u9 = some (.inr (37, [.null, .null]))) (hal : G al9 = some (.inr (28, [.int mc9, wv9, .int (nI (n9))]))) (hb : Ω.2.2.2 ≤ u9) : Met l yJ43_init (ws_ yJ43_init cJ43_init 2 none) ({ frames := 1, cells := 0, slots := 0, locals := 12 } : Room) (va_Pc [.ref u9, .ref al9] (jWd Ω G sz)) (jQ Ω (jD none (gset G u9 (.inr (37, [.ref al9, .null]))) (sz))) 0 0 (jB Ω) := by
  refine jMet (by decide) (Nat.le_of_ble_eq_true rfl) ?_
  intro p e s m args below meth c cx hr hnm
  refine J_loc [some (.ref u9), some (.ref al9)] rfl ?_
  refine J_bs cx (fun hbs9 => ?_)
  refine J_lt ha (fun hlt0 => ?_)
  refine J_lt hal (fun hlt1 => ?_)
  have hne0 : u9 ≠ al9 := fun e => by have h1 := ha; rw [e, hal] at h1; simp at h1
  refine J_aload_n cx dJ43_init_0 rfl ?_
  refine J_objInit cx dJ43_init_1 q2528 q170 q171 (Nat.le_of_ble_eq_true rfl) (Nat.le_of_ble_eq_true rfl) ?_
  refine J_aload_n cx dJ43_init_4 rfl ?_
  refine J_ifnonnull (tgt := 16) cx dJ43_init_5 (by decide) ?_
  refine J_aload_n cx dJ43_init_16 rfl ?_
  refine J_aload_n cx dJ43_init_17 rfl ?_
  refine J_putF cx in_J45 tyJ45 tyJ45_ok nmJ45 (ci := 37) rfl 0 (by decide) q2531 (fun _ h => h) rfl rfl hnm (ty := (.object "java/util/Collection")) (by decide +kernel) dJ43_init_18 rfl rfl ha (Nat.le_of_ble_eq_true rfl) (by omega) ?_
  refine J_mem (gset G u9 (.inr (37, [.ref al9, .null]))) rfl ?_
  exact J_vret cx dJ43_init_21 hr ⟨rfl, rfl, rfl⟩ (Nat.le_of_ble_eq_true rfl) (Nat.le_of_ble_eq_true rfl)
theorem t_J44_init (l : Launch) (Ω : jO) {G : Mem} {sz : Nat} (u9 al9 : Nat) {mc9 : Int32} {wv9 : Value} {n9 : Nat} (ha : G u9 = some (.inr (37, [.null, .null]))) (hal : G al9 = some (.inr (28, [.int mc9, wv9, .int (nI (n9))]))) (hb : Ω.2.2.2 ≤ u9) : Met l yJ44_init (ws_ yJ44_init cJ44_init 2 none) ({ frames := 2, cells := 0, slots := 0, locals := 33 } : Room) (va_Pc [.ref u9, .ref al9] (jWd Ω G sz)) (jQ Ω (jD none (gset G u9 (.inr (37, [.ref al9, .ref al9]))) (sz))) 0 0 (jB Ω) := by
  refine jMet (by decide) (Nat.le_of_ble_eq_true rfl) ?_
  intro p e s m args below meth c cx hr hnm
  refine J_loc [some (.ref u9), some (.ref al9)] rfl ?_
  refine J_bs cx (fun hbs9 => ?_)
  refine J_lt ha (fun hlt0 => ?_)
  refine J_lt hal (fun hlt1 => ?_)
  have hne0 : u9 ≠ al9 := fun e => by have h1 := ha; rw [e, hal] at h1; simp at h1
  refine J_aload_n cx dJ44_init_0 rfl ?_
  refine J_aload_n cx dJ44_init_1 rfl ?_
  refine J_callI (n := 1) cx [.ref al9] (t_J43_init l Ω u9 al9 ha hal (by omega)) dJ44_init_2 q2527 q160 q2525 q2526 rfl ⟨by decide, by decide, by decide +kernel⟩ rfl rfl ⟨Nat.le_of_ble_eq_true rfl, Nat.le_of_ble_eq_true rfl⟩ rfl rfl (Nat.le_of_ble_eq_true rfl) ⟨Nat.le_of_ble_eq_true rfl, Nat.le_of_ble_eq_true rfl⟩ (jdet ?_)
  refine J_mem (gset G u9 (.inr (37, [.ref al9, .null]))) rfl ?_
  refine J_aload_n cx dJ44_init_5 rfl ?_
  refine J_aload_n cx dJ44_init_6 rfl ?_
  refine J_putF cx in_J45 tyJ45 tyJ45_ok nmJ45 (ci := 37) rfl 1 (by decide) q2529 (fun _ h => h) rfl rfl hnm (ty := (.object "java/util/List")) (by decide +kernel) dJ44_init_7 rfl rfl gset_eq (Nat.le_of_ble_eq_true rfl) (by omega) ?_
  refine J_mem (gset G u9 (.inr (37, [.ref al9, .ref al9]))) gset_gset ?_
  exact J_vret cx dJ44_init_10 hr ⟨rfl, rfl, rfl⟩ (Nat.le_of_ble_eq_true rfl) (Nat.le_of_ble_eq_true rfl)
theorem t_J45_init (l : Launch) (Ω : jO) {G : Mem} {sz : Nat} (u9 al9 : Nat) {mc9 : Int32} {wv9 : Value} {n9 : Nat} (ha : G u9 = some (.inr (37, [.null, .null]))) (hal : G al9 = some (.inr (28, [.int mc9, wv9, .int (nI (n9))]))) (hb : Ω.2.2.2 ≤ u9) : Met l yJ45_init (ws_ yJ45_init cJ45_init 2 none) ({ frames := 3, cells := 0, slots := 0, locals := 54 } : Room) (va_Pc [.ref u9, .ref al9] (jWd Ω G sz)) (jQ Ω (jD none (gset G u9 (.inr (37, [.ref al9, .ref al9]))) (sz))) 0 0 (jB Ω) := by
  refine jMet (by decide) (Nat.le_of_ble_eq_true rfl) ?_
  intro p e s m args below meth c cx hr hnm
  refine J_loc [some (.ref u9), some (.ref al9)] rfl ?_
  refine J_bs cx (fun hbs9 => ?_)
  refine J_lt ha (fun hlt0 => ?_)
  refine J_lt hal (fun hlt1 => ?_)
  have hne0 : u9 ≠ al9 := fun e => by have h1 := ha; rw [e, hal] at h1; simp at h1
  refine J_aload_n cx dJ45_init_0 rfl ?_
  refine J_aload_n cx dJ45_init_1 rfl ?_
  refine J_callI (n := 1) cx [.ref al9] (t_J44_init l Ω u9 al9 ha hal (by omega)) dJ45_init_2 q2524 q161 q2522 q2523 rfl ⟨by decide, by decide, by decide +kernel⟩ rfl rfl ⟨Nat.le_of_ble_eq_true rfl, Nat.le_of_ble_eq_true rfl⟩ rfl rfl (Nat.le_of_ble_eq_true rfl) ⟨Nat.le_of_ble_eq_true rfl, Nat.le_of_ble_eq_true rfl⟩ (jdet ?_)
  refine J_mem (gset G u9 (.inr (37, [.ref al9, .ref al9]))) rfl ?_
  exact J_vret cx dJ45_init_5 hr ⟨rfl, rfl, rfl⟩ (Nat.le_of_ble_eq_true rfl) (Nat.le_of_ble_eq_true rfl)
set_option maxHeartbeats 1000000 in
theorem t_J42_unmodifiableList (l : Launch) (Ω : jO) {G : Mem} {sz : Nat} (al9 : Nat) {mc9 : Int32} {wv9 : Value} {n9 : Nat} (hal : G al9 = some (.inr (28, [.int mc9, wv9, .int (nI (n9))]))) : Met l yJ42_unmodifiableList (ws_ yJ42_unmodifiableList cJ42_unmodifiableList 1 (some (.object "java/util/List"))) ({ frames := 4, cells := 1, slots := 2, locals := 75 } : Room) (va_Pc [.ref al9] (jWd Ω G sz)) (jQ Ω (jD (some (.ref sz)) (gset G sz (.inr (37, [.ref al9, .ref al9]))) (sz + 1))) 1 2 (jB Ω) := by
  refine jMet (by decide) (Nat.le_of_ble_eq_true rfl) ?_
  intro p e s m args below meth c cx hr hnm
  refine J_loc [some (.ref al9)] rfl ?_
  refine J_bs cx (fun hbs9 => ?_)
  refine J_lt hal (fun hlt0 => ?_)
  refine J_aload_n cx dJ42_unmodifiableList_0 rfl ?_
  refine J_getCI cx dJ42_unmodifiableList_1 q2503 hal (Nat.le_of_ble_eq_true rfl) (Nat.le_of_ble_eq_true rfl) ?_
  refine J_ldcM cx cx.sta.2.2.2.2.2.2.2.2.2.2.2.2.1 dJ42_unmodifiableList_6 q2513 ?_
  refine J_acmp_eq (rx := some (Ω.2.2.1 3)) (ry := some (Ω.2.2.1 4)) (tgt := 22) cx dJ42_unmodifiableList_8 (by decide) rfl rfl (fun h8 => absurd h8 (fun e => cx.sta.2.2.2.2.2.2.2.2.2.2.2.2.2.2.1 (Option.some.inj e))) (fun h8 => ?_)
  refine J_aload_n cx dJ42_unmodifiableList_11 rfl ?_
  refine J_getCI cx dJ42_unmodifiableList_12 q2515 hal (Nat.le_of_ble_eq_true rfl) (Nat.le_of_ble_eq_true rfl) ?_
  refine J_ldcM cx cx.sta.2.2.2.2.2.2.2.2.2.2.2.2.2.1 dJ42_unmodifiableList_17 q2516 ?_
  refine J_acmp_ne (rx := some (Ω.2.2.1 3)) (ry := some (Ω.2.2.1 5)) (tgt := 24) cx dJ42_unmodifiableList_19 (by decide) rfl rfl (fun h19 => ?_) (fun h19 => absurd h19 (fun e => cx.sta.2.2.2.2.2.2.2.2.2.2.2.2.2.2.2.1 (Option.some.inj e)))
  refine J_aload_n cx dJ42_unmodifiableList_24 rfl ?_
  refine J_instY cx dJ42_unmodifiableList_25 q2517 q3033 (ci := 28) rfl hal ?_
  refine J_top (.int (nI (1))) rfl ?_
  refine J_if_eq (tgt := 42) cx dJ42_unmodifiableList_28 (by decide) (fun c28 => absurd c28 (by decide)) (fun c28 => ?_)
  refine J_new cx in_J45 tyJ45 tyJ45_ok q2516 q2518 q162 (ci := 37) rfl (fs := [.null, .null]) (by decide +kernel) dJ42_unmodifiableList_31 (Nat.le_of_ble_eq_true rfl) (Nat.le_of_ble_eq_true rfl) ?_
  refine J_dup cx dJ42_unmodifiableList_34 rfl ?_
  refine J_aload_n cx dJ42_unmodifiableList_35 rfl ?_
  refine J_callI (n := 1) cx [.ref al9] (t_J45_init l Ω sz al9 gset_eq ((gset_ne (by omega)).trans hal) (by omega)) dJ42_unmodifiableList_36 q2521 q162 q2519 q2520 rfl ⟨by decide, by decide, by decide +kernel⟩ rfl rfl ⟨Nat.le_of_ble_eq_true rfl, Nat.le_of_ble_eq_true rfl⟩ rfl rfl (Nat.le_of_ble_eq_true rfl) ⟨Nat.le_of_ble_eq_true rfl, Nat.le_of_ble_eq_true rfl⟩ (jdet ?_)
  refine J_mem (gset G sz (.inr (37, [.ref al9, .ref al9]))) gset_gset ?_
  refine J_goto (tgt := 50) cx dJ42_unmodifiableList_39 (by decide) ?_
  exact J_aret cx dJ42_unmodifiableList_50 hr (Or.inl ⟨_, rfl⟩) (Or.inr ⟨_, rfl⟩) ⟨rfl, rfl, rfl⟩ (Nat.le_of_ble_eq_true rfl) (Nat.le_of_ble_eq_true rfl)
theorem t_J12_init (l : Launch) (Ω : jO) {G : Mem} {sz : Nat} (i9 al9 : Nat) {mc9 : Int32} {wv9 : Value} {n9 : Nat} (hi : G i9 = some (.inr (31, [.int 0, .int 0, .int 0, .null]))) (hal : G al9 = some (.inr (28, [.int mc9, wv9, .int (nI (n9))]))) (hb : Ω.2.2.2 ≤ i9) : Met l yJ12_init (ws_ yJ12_init cJ12_init 2 none) ({ frames := 1, cells := 0, slots := 0, locals := 12 } : Room) (va_Pc [.ref i9, .ref al9] (jWd Ω G sz)) (jQ Ω (jD none (gset G i9 (.inr (31, [.int 0, .int (-1), .int mc9, .ref al9]))) (sz))) 0 0 (jB Ω) := by
  refine jMet (by decide) (Nat.le_of_ble_eq_true rfl) ?_
  intro p e s m args below meth c cx hr hnm
  refine J_loc [some (.ref i9), some (.ref al9)] rfl ?_
  refine J_bs cx (fun hbs9 => ?_)
  refine J_lt hi (fun hlt0 => ?_)
  refine J_lt hal (fun hlt1 => ?_)
  have hne0 : i9 ≠ al9 := fun e => by have h1 := hi; rw [e, hal] at h1; simp at h1
  refine J_aload_n cx dJ12_init_0 rfl ?_
  refine J_aload_n cx dJ12_init_1 rfl ?_
  refine J_putF cx in_J12 tyJ12 tyJ12_ok nmJ12 (ci := 31) rfl 3 (by decide) q682 (fun _ h => h) rfl rfl hnm (ty := (.object "java/util/ArrayList")) (by decide +kernel) dJ12_init_2 rfl rfl hi (Nat.le_of_ble_eq_true rfl) (by omega) ?_
  refine J_mem (gset G i9 (.inr (31, [.int 0, .int 0, .int 0, .ref al9]))) rfl ?_
  refine J_aload_n cx dJ12_init_5 rfl ?_
  refine J_objInit cx dJ12_init_6 q675 q170 q171 (Nat.le_of_ble_eq_true rfl) (Nat.le_of_ble_eq_true rfl) ?_
  refine J_aload_n cx dJ12_init_9 rfl ?_
  refine J_iconst (v := -1) cx dJ12_init_10 (by decide) ?_
  refine J_put cx in_J12 tyJ12 tyJ12_ok nmJ12 (ci := 31) rfl 1 (by decide) q680 (fun _ h => h) rfl (ty := .int) (by decide +kernel) dJ12_init_11 rfl rfl gset_eq (Nat.le_of_ble_eq_true rfl) (by omega) ?_
  refine J_mem (gset G i9 (.inr (31, [.int 0, .int (-1), .int 0, .ref al9]))) gset_gset ?_
  refine J_aload_n cx dJ12_init_14 rfl ?_
  refine J_aload_n cx dJ12_init_15 rfl ?_
  refine J_get cx in_J12 (ci := 31) rfl 3 (by decide) q682 (fun _ h => h) dJ12_init_16 gset_eq rfl ?_
  refine J_get cx in_J2 (ci := 28) rfl 0 (by decide) q199 (fun _ h => u_same (cx.ts _ q200) _ h) dJ12_init_19 ((gset_ne (by omega)).trans hal) rfl ?_
  refine J_put cx in_J12 tyJ12 tyJ12_ok nmJ12 (ci := 31) rfl 2 (by decide) q681 (fun _ h => h) rfl (ty := .int) (by decide +kernel) dJ12_init_22 rfl rfl gset_eq (Nat.le_of_ble_eq_true rfl) (by omega) ?_
  refine J_mem (gset G i9 (.inr (31, [.int 0, .int (-1), .int mc9, .ref al9]))) gset_gset ?_
  exact J_vret cx dJ12_init_25 hr ⟨rfl, rfl, rfl⟩ (Nat.le_of_ble_eq_true rfl) (Nat.le_of_ble_eq_true rfl)
theorem t_J2_iterator (l : Launch) (Ω : jO) {G : Mem} {sz : Nat} (al9 : Nat) {mc9 : Int32} {wv9 : Value} {n9 : Nat} (hal : G al9 = some (.inr (28, [.int mc9, wv9, .int (nI (n9))]))) : Met l yJ2_iterator (ws_ yJ2_iterator cJ2_iterator 1 (some (.object "java/util/Iterator"))) ({ frames := 2, cells := 1, slots := 4, locals := 33 } : Room) (va_Pc [.ref al9] (jWd Ω G sz)) (jQ Ω (jD (some (.ref sz)) (gset G sz (.inr (31, [.int 0, .int (-1), .int mc9, .ref al9]))) (sz + 1))) 1 4 (jB Ω) := by
  refine jMet (by decide) (Nat.le_of_ble_eq_true rfl) ?_
  intro p e s m args below meth c cx hr hnm
  refine J_loc [some (.ref al9)] rfl ?_
  refine J_bs cx (fun hbs9 => ?_)
  refine J_lt hal (fun hlt0 => ?_)
  refine J_new cx in_J12 tyJ12 tyJ12_ok q1496 q1497 q108 (ci := 31) rfl (fs := [.int 0, .int 0, .int 0, .null]) (by decide +kernel) dJ2_iterator_0 (Nat.le_of_ble_eq_true rfl) (Nat.le_of_ble_eq_true rfl) ?_
  refine J_dup cx dJ2_iterator_3 rfl ?_
  refine J_aload_n cx dJ2_iterator_4 rfl ?_
  refine J_callI (n := 1) cx [.ref al9] (t_J12_init l Ω sz al9 gset_eq ((gset_ne (by omega)).trans hal) (by omega)) dJ2_iterator_5 q674 q108 q1498 q673 rfl ⟨by decide, by decide, by decide +kernel⟩ rfl rfl ⟨Nat.le_of_ble_eq_true rfl, Nat.le_of_ble_eq_true rfl⟩ rfl rfl (Nat.le_of_ble_eq_true rfl) ⟨Nat.le_of_ble_eq_true rfl, Nat.le_of_ble_eq_true rfl⟩ (jdet ?_)
  refine J_mem (gset G sz (.inr (31, [.int 0, .int (-1), .int mc9, .ref al9]))) gset_gset ?_
  exact J_aret cx dJ2_iterator_8 hr (Or.inl ⟨_, rfl⟩) (Or.inr ⟨_, rfl⟩) ⟨rfl, rfl, rfl⟩ (Nat.le_of_ble_eq_true rfl) (Nat.le_of_ble_eq_true rfl)
def r_itNext (c9 n9 : Nat) : Int32 := (if c9 = n9 then (nI (0)) else (nI (1)))
theorem t_J12_hasNext (l : Launch) (Ω : jO) {G : Mem} {sz : Nat} (i9 : Nat) {al9 c9 : Nat} {lr9 : Int32} {mc9 : Int32} {wv9 : Value} {n9 : Nat} (hi : G i9 = some (.inr (31, [.int (nI (c9)), .int lr9, .int mc9, .ref al9]))) (hal : G al9 = some (.inr (28, [.int mc9, wv9, .int (nI (n9))]))) (hc : c9 ≤ 100) (hn : n9 ≤ 100) : Met l yJ12_hasNext (ws_ yJ12_hasNext cJ12_hasNext 1 (some .boolean)) ({ frames := 1, cells := 0, slots := 0, locals := 12 } : Room) (va_Pc [.ref i9] (jWd Ω G sz)) (jQ Ω (jD (some (.int (r_itNext c9 n9))) G sz)) 0 0 (jB Ω) := by
  refine jMet (by decide) (Nat.le_of_ble_eq_true rfl) ?_
  intro p e s m args below meth c cx hr hnm
  refine J_loc [some (.ref i9)] rfl ?_
  refine J_aload_n cx dJ12_hasNext_0 rfl ?_
  refine J_get cx in_J12 (ci := 31) rfl 0 (by decide) q679 (fun _ h => h) dJ12_hasNext_1 hi rfl ?_
  refine J_aload_n cx dJ12_hasNext_4 rfl ?_
  refine J_get cx in_J12 (ci := 31) rfl 3 (by decide) q682 (fun _ h => h) dJ12_hasNext_5 hi rfl ?_
  refine J_getN cx in_J2 (ci := 28) rfl 2 (by decide) q194 (fun _ h => h) dJ12_hasNext_8 hal rfl ?_
  refine J_icmpN_eq (tgt := 18) cx dJ12_hasNext_11 (by decide) (by omega) (by omega) (fun c11 => ?_) (fun c11 => ?_)
  · refine J_iconst (v := nI (0)) cx dJ12_hasNext_18 (by decide) ?_
    exact J_zret cx dJ12_hasNext_19 hr rfl ⟨by simp only [r_itNext, if_pos c11], rfl, rfl⟩ (Nat.le_of_ble_eq_true rfl) (Nat.le_of_ble_eq_true rfl)
  · refine J_iconst (v := nI (1)) cx dJ12_hasNext_14 (by decide) ?_
    refine J_goto (tgt := 19) cx dJ12_hasNext_15 (by decide) ?_
    exact J_zret cx dJ12_hasNext_19 hr rfl ⟨by simp only [r_itNext, if_neg c11], rfl, rfl⟩ (Nat.le_of_ble_eq_true rfl) (Nat.le_of_ble_eq_true rfl)
theorem t_J12_checkForComodification (l : Launch) (Ω : jO) {G : Mem} {sz : Nat} (i9 : Nat) {al9 c9 : Nat} {lr9 : Int32} {mc9 : Int32} {wv9 : Value} {n9 : Nat} (hi : G i9 = some (.inr (31, [.int (nI (c9)), .int lr9, .int mc9, .ref al9]))) (hal : G al9 = some (.inr (28, [.int mc9, wv9, .int (nI (n9))]))) : Met l yJ12_checkForComodification (ws_ yJ12_checkForComodification cJ12_checkForComodification 1 none) ({ frames := 1, cells := 0, slots := 0, locals := 12 } : Room) (va_Pc [.ref i9] (jWd Ω G sz)) (jQ Ω (jD none G sz)) 0 0 (jB Ω) := by
  refine jMet (by decide) (Nat.le_of_ble_eq_true rfl) ?_
  intro p e s m args below meth c cx hr hnm
  refine J_loc [some (.ref i9)] rfl ?_
  refine J_aload_n cx dJ12_checkForComodification_0 rfl ?_
  refine J_get cx in_J12 (ci := 31) rfl 3 (by decide) q682 (fun _ h => h) dJ12_checkForComodification_1 hi rfl ?_
  refine J_get cx in_J2 (ci := 28) rfl 0 (by decide) q199 (fun _ h => u_same (cx.ts _ q200) _ h) dJ12_checkForComodification_4 hal rfl ?_
  refine J_aload_n cx dJ12_checkForComodification_7 rfl ?_
  refine J_get cx in_J12 (ci := 31) rfl 2 (by decide) q681 (fun _ h => h) dJ12_checkForComodification_8 hi rfl ?_
  refine J_icmp_eq (tgt := 22) cx dJ12_checkForComodification_11 (by decide) (fun c11 => ?_) (fun c11 => absurd c11 (fun q => q rfl))
  exact J_vret cx dJ12_checkForComodification_22 hr ⟨rfl, rfl, rfl⟩ (Nat.le_of_ble_eq_true rfl) (Nat.le_of_ble_eq_true rfl)
theorem t_J12_next (l : Launch) (Ω : jO) {G : Mem} {sz : Nat} (i9 : Nat) {al9 ed9 c9 n9 cap9 : Nat} {lr9 mc9 : Int32} {f9 : Nat → Option Nat} (hi : G i9 = some (.inr (31, [.int (nI (c9)), .int lr9, .int mc9, .ref al9]))) (hal : G al9 = some (.inr (28, [.int mc9, .ref ed9, .int (nI (n9))]))) (he : G ed9 = some (.inl (Ω.2.1 4, cap9, jAq f9))) (hc : c9 < n9) (hn : n9 ≤ cap9) (hcap : cap9 ≤ 100) (w9 : Nat) (hw : f9 c9 = some w9) (hb : Ω.2.2.2 ≤ i9) : Met l yJ12_next (ws_ yJ12_next cJ12_next 3 (some (.object "java/lang/Object"))) ({ frames := 2, cells := 0, slots := 0, locals := 32 } : Room) (va_Pc [.ref i9] (jWd Ω G sz)) (jQ Ω (jD (some (.ref w9)) (gset G i9 (.inr (31, [.int (nI (c9 + 1)), .int (nI (c9)), .int mc9, .ref al9]))) (sz))) 0 0 (jB Ω) := by
  refine jMet (by decide) (Nat.le_of_ble_eq_true rfl) ?_
  intro p e s m args below meth c cx hr hnm
  refine J_loc [some (.ref i9), none, none] rfl ?_
  refine J_bs cx (fun hbs9 => ?_)
  refine J_lt hi (fun hlt0 => ?_)
  refine J_lt hal (fun hlt1 => ?_)
  refine J_lt he (fun hlt2 => ?_)
  have hne0 : i9 ≠ al9 := fun e => by have h1 := hi; rw [e, hal] at h1; simp at h1
  have hne1 : i9 ≠ ed9 := fun e => by have h1 := hi; rw [e, he] at h1; simp at h1
  refine J_aload_n cx dJ12_next_0 rfl ?_
  refine J_callV (n := 0) cx (ci := 31) [] (t_J12_checkForComodification l Ω i9 hi hal) dJ12_next_1 (lw_V q1126 q1127 q1128 q108 q1131) ⟨rfl, by decide, by decide, by decide +kernel⟩ rfl hi rfl rfl ⟨Nat.le_of_ble_eq_true rfl, Nat.le_of_ble_eq_true rfl⟩ rfl rfl (Nat.le_of_ble_eq_true rfl) ⟨Nat.le_of_ble_eq_true rfl, Nat.le_of_ble_eq_true rfl⟩ (jdet ?_)
  refine J_aload_n cx dJ12_next_4 rfl ?_
  refine J_get cx in_J12 (ci := 31) rfl 0 (by decide) q679 (fun _ h => h) dJ12_next_5 hi rfl ?_
  refine J_istore_n1 cx dJ12_next_8 (by decide) rfl ?_
  refine J_iload_n cx dJ12_next_9 rfl ?_
  refine J_aload_n cx dJ12_next_10 rfl ?_
  refine J_get cx in_J12 (ci := 31) rfl 3 (by decide) q682 (fun _ h => h) dJ12_next_11 hi rfl ?_
  refine J_getN cx in_J2 (ci := 28) rfl 2 (by decide) q194 (fun _ h => h) dJ12_next_14 hal rfl ?_
  refine J_icmpN_lt (tgt := 28) cx dJ12_next_17 (by decide) (by omega) (by omega) (fun c17 => ?_) (fun c17 => absurd c17 (by omega))
  refine J_aload_n cx dJ12_next_28 rfl ?_
  refine J_get cx in_J12 (ci := 31) rfl 3 (by decide) q682 (fun _ h => h) dJ12_next_29 hi rfl ?_
  refine J_get cx in_J2 (ci := 28) rfl 1 (by decide) q193 (fun _ h => h) dJ12_next_32 hal rfl ?_
  refine J_astore_n2 cx dJ12_next_35 (by decide) rfl ?_
  refine J_iload_n cx dJ12_next_36 rfl ?_
  refine J_aload_n cx dJ12_next_37 rfl ?_
  refine J_alen cx 4 dJ12_next_38 rfl he ?_
  refine J_icmpN_lt (tgt := 50) cx dJ12_next_39 (by decide) (by omega) (by omega) (fun c39 => ?_) (fun c39 => absurd c39 (by omega))
  refine J_aload_n cx dJ12_next_50 rfl ?_
  refine J_iload_n cx dJ12_next_51 rfl ?_
  refine J_iconst (v := nI (1)) cx dJ12_next_52 (by decide) ?_
  refine J_iaddN cx dJ12_next_53 ?_
  refine J_put cx in_J12 tyJ12 tyJ12_ok nmJ12 (ci := 31) rfl 0 (by decide) q679 (fun _ h => h) rfl (ty := .int) (by decide +kernel) dJ12_next_54 rfl rfl hi (Nat.le_of_ble_eq_true rfl) (by omega) ?_
  refine J_mem (gset G i9 (.inr (31, [.int (nI (c9 + 1)), .int lr9, .int mc9, .ref al9]))) rfl ?_
  refine J_aload_n cx dJ12_next_57 rfl ?_
  refine J_aload_n cx dJ12_next_58 rfl ?_
  refine J_iload_n cx dJ12_next_59 rfl ?_
  refine J_dup_x1 cx dJ12_next_60 rfl rfl ?_
  refine J_put cx in_J12 tyJ12 tyJ12_ok nmJ12 (ci := 31) rfl 1 (by decide) q680 (fun _ h => h) rfl (ty := .int) (by decide +kernel) dJ12_next_61 rfl rfl gset_eq (Nat.le_of_ble_eq_true rfl) (by omega) ?_
  refine J_mem (gset G i9 (.inr (31, [.int (nI (c9 + 1)), .int (nI (c9)), .int mc9, .ref al9]))) gset_gset ?_
  refine J_aald cx 4 dJ12_next_64 rfl ((gset_ne (by omega)).trans he) (by omega) (by omega) (v := .ref w9) (by rw [hw]; rfl) ?_
  exact J_aret cx dJ12_next_65 hr (Or.inl ⟨_, rfl⟩) (Or.inr ⟨_, rfl⟩) ⟨rfl, rfl, rfl⟩ (Nat.le_of_ble_eq_true rfl) (Nat.le_of_ble_eq_true rfl)
theorem t_J30_init (l : Launch) (Ω : jO) {G : Mem} {sz : Nat} (t9 u9 : Nat) {al9 : Nat} {mc9 : Int32} {wv9 : Value} {n9 : Nat} (ht : G t9 = some (.inr (34, [.null, .null]))) (hu : G u9 = some (.inr (37, [.ref al9, .ref al9]))) (hal : G al9 = some (.inr (28, [.int mc9, wv9, .int (nI (n9))]))) (hb : Ω.2.2.2 ≤ t9) : Met l yJ30_init (ws_ yJ30_init cJ30_init 2 none) ({ frames := 3, cells := 1, slots := 4, locals := 53 } : Room) (va_Pc [.ref t9, .ref u9] (jWd Ω G sz)) (jQ Ω (jD none (gset (gset G sz (.inr (31, [.int 0, .int (-1), .int mc9, .ref al9]))) t9 (.inr (34, [.ref sz, .ref u9]))) (sz + 1))) 1 4 (jB Ω) := by
  refine jMet (by decide) (Nat.le_of_ble_eq_true rfl) ?_
  intro p e s m args below meth c cx hr hnm
  refine J_loc [some (.ref t9), some (.ref u9)] rfl ?_
  refine J_bs cx (fun hbs9 => ?_)
  refine J_lt ht (fun hlt0 => ?_)
  refine J_lt hu (fun hlt1 => ?_)
  refine J_lt hal (fun hlt2 => ?_)
  have hne0 : t9 ≠ u9 := fun e => by have h1 := ht; rw [e, hu] at h1; simp at h1
  have hne1 : t9 ≠ al9 := fun e => by have h1 := ht; rw [e, hal] at h1; simp at h1
  refine J_aload_n cx dJ30_init_0 rfl ?_
  refine J_aload_n cx dJ30_init_1 rfl ?_
  refine J_putF cx in_J30 tyJ30 tyJ30_ok nmJ30 (ci := 34) rfl 1 (by decide) q1589 (fun _ h => h) rfl rfl hnm (ty := (.object "java/util/Collections$UnmodifiableCollection")) (by decide +kernel) dJ30_init_2 rfl rfl ht (Nat.le_of_ble_eq_true rfl) (by omega) ?_
  refine J_mem (gset G t9 (.inr (34, [.null, .ref u9]))) rfl ?_
  refine J_aload_n cx dJ30_init_5 rfl ?_
  refine J_objInit cx dJ30_init_6 q1514 q170 q171 (Nat.le_of_ble_eq_true rfl) (Nat.le_of_ble_eq_true rfl) ?_
  refine J_aload_n cx dJ30_init_9 rfl ?_
  refine J_aload_n cx dJ30_init_10 rfl ?_
  refine J_get cx in_J30 (ci := 34) rfl 1 (by decide) q1589 (fun _ h => h) dJ30_init_11 gset_eq rfl ?_
  refine J_get cx in_J45 (ci := 37) rfl 0 (by decide) q2530 (fun _ h => h) dJ30_init_14 ((gset_ne (by omega)).trans hu) rfl ?_
  refine J_callF (n := 0) cx (ci := 28) [] (t_J2_iterator l Ω al9 ((gset_ne (by omega)).trans hal)) dJ30_init_17 q1495 q1516 q1546 q1493 q88 q1518 q1517 q1494 q1492 q1545 ⟨by decide, by decide, by decide +kernel⟩ rfl ((gset_ne (by omega)).trans hal) rfl rfl ⟨Nat.le_of_ble_eq_true rfl, Nat.le_of_ble_eq_true rfl⟩ rfl rfl (Nat.le_of_ble_eq_true rfl) ⟨Nat.le_of_ble_eq_true rfl, Nat.le_of_ble_eq_true rfl⟩ (jdet ?_)
  refine J_mem (gset (gset G t9 (.inr (34, [.null, .ref u9]))) sz (.inr (31, [.int 0, .int (-1), .int mc9, .ref al9]))) rfl ?_
  refine J_putF cx in_J30 tyJ30 tyJ30_ok nmJ30 (ci := 34) rfl 0 (by decide) q1588 (fun _ h => h) rfl rfl hnm (ty := (.object "java/util/Iterator")) (by decide +kernel) dJ30_init_22 rfl rfl ((gset_ne (by omega)).trans gset_eq) (Nat.le_of_ble_eq_true rfl) (by omega) ?_
  refine J_mem (gset (gset G sz (.inr (31, [.int 0, .int (-1), .int mc9, .ref al9]))) t9 (.inr (34, [.ref sz, .ref u9]))) (by funext q9; simp only [gset]; by_cases hq9 : q9 = t9 <;> simp [hq9]) ?_
  exact J_vret cx dJ30_init_25 hr ⟨rfl, rfl, rfl⟩ (Nat.le_of_ble_eq_true rfl) (Nat.le_of_ble_eq_true rfl)
theorem t_J43_iterator (l : Launch) (Ω : jO) {G : Mem} {sz : Nat} (u9 : Nat) {al9 : Nat} {mc9 : Int32} {wv9 : Value} {n9 : Nat} (hu : G u9 = some (.inr (37, [.ref al9, .ref al9]))) (hal : G al9 = some (.inr (28, [.int mc9, wv9, .int (nI (n9))]))) : Met l yJ43_iterator (ws_ yJ43_iterator cJ43_iterator 1 (some (.object "java/util/Iterator"))) ({ frames := 4, cells := 2, slots := 6, locals := 74 } : Room) (va_Pc [.ref u9] (jWd Ω G sz)) (jQ Ω (jD (some (.ref sz)) (gset (gset G (sz + 1) (.inr (31, [.int 0, .int (-1), .int mc9, .ref al9]))) sz (.inr (34, [.ref (sz + 1), .ref u9]))) (sz + 1 + 1))) 2 6 (jB Ω) := by
  refine jMet (by decide) (Nat.le_of_ble_eq_true rfl) ?_
  intro p e s m args below meth c cx hr hnm
  refine J_loc [some (.ref u9)] rfl ?_
  refine J_bs cx (fun hbs9 => ?_)
  refine J_lt hu (fun hlt0 => ?_)
  refine J_lt hal (fun hlt1 => ?_)
  refine J_new cx in_J30 tyJ30 tyJ30_ok q1509 q1510 q128 (ci := 34) rfl (fs := [.null, .null]) (by decide +kernel) dJ43_iterator_0 (Nat.le_of_ble_eq_true rfl) (Nat.le_of_ble_eq_true rfl) ?_
  refine J_dup cx dJ43_iterator_3 rfl ?_
  refine J_aload_n cx dJ43_iterator_4 rfl ?_
  refine J_callI (n := 1) cx [.ref u9] (t_J30_init l Ω sz u9 gset_eq ((gset_ne (by omega)).trans hu) ((gset_ne (by omega)).trans hal) (by omega)) dJ43_iterator_5 q1513 q128 q1511 q1512 rfl ⟨by decide, by decide, by decide +kernel⟩ rfl rfl ⟨Nat.le_of_ble_eq_true rfl, Nat.le_of_ble_eq_true rfl⟩ rfl rfl (Nat.le_of_ble_eq_true rfl) ⟨Nat.le_of_ble_eq_true rfl, Nat.le_of_ble_eq_true rfl⟩ (jdet ?_)
  refine J_mem (gset (gset G (sz + 1) (.inr (31, [.int 0, .int (-1), .int mc9, .ref al9]))) sz (.inr (34, [.ref (sz + 1), .ref u9]))) (by funext q9; simp only [gset]; by_cases hq9 : q9 = sz <;> simp [hq9]) ?_
  exact J_aret cx dJ43_iterator_8 hr (Or.inl ⟨_, rfl⟩) (Or.inr ⟨_, rfl⟩) ⟨rfl, rfl, rfl⟩ (Nat.le_of_ble_eq_true rfl) (Nat.le_of_ble_eq_true rfl)
theorem t_J30_hasNext (l : Launch) (Ω : jO) {G : Mem} {sz : Nat} (t9 : Nat) {i9 u9 al9 c9 : Nat} {lr9 : Int32} {mc9 : Int32} {wv9 : Value} {n9 : Nat} (ht : G t9 = some (.inr (34, [.ref i9, .ref u9]))) (hi : G i9 = some (.inr (31, [.int (nI (c9)), .int lr9, .int mc9, .ref al9]))) (hal : G al9 = some (.inr (28, [.int mc9, wv9, .int (nI (n9))]))) (hc : c9 ≤ 100) (hn : n9 ≤ 100) : Met l yJ30_hasNext (ws_ yJ30_hasNext cJ30_hasNext 1 (some .boolean)) ({ frames := 2, cells := 0, slots := 0, locals := 32 } : Room) (va_Pc [.ref t9] (jWd Ω G sz)) (jQ Ω (jD (some (.int (r_itNext c9 n9))) G sz)) 0 0 (jB Ω) := by
  refine jMet (by decide) (Nat.le_of_ble_eq_true rfl) ?_
  intro p e s m args below meth c cx hr hnm
  refine J_loc [some (.ref t9)] rfl ?_
  refine J_aload_n cx dJ30_hasNext_0 rfl ?_
  refine J_get cx in_J30 (ci := 34) rfl 0 (by decide) q1588 (fun _ h => h) dJ30_hasNext_1 ht rfl ?_
  refine J_callF (n := 0) cx (ci := 31) [] (t_J12_hasNext l Ω i9 hi hal hc hn) dJ30_hasNext_4 q760 q771 q756 q758 q108 q735 q734 q759 q757 q755 ⟨by decide, by decide, by decide +kernel⟩ rfl hi rfl rfl ⟨Nat.le_of_ble_eq_true rfl, Nat.le_of_ble_eq_true rfl⟩ rfl rfl (Nat.le_of_ble_eq_true rfl) ⟨Nat.le_of_ble_eq_true rfl, Nat.le_of_ble_eq_true rfl⟩ (jdet ?_)
  exact J_zret cx dJ30_hasNext_9 hr (by simp only [r_itNext]; split <;> rfl) ⟨rfl, rfl, rfl⟩ (Nat.le_of_ble_eq_true rfl) (Nat.le_of_ble_eq_true rfl)
theorem t_J30_next (l : Launch) (Ω : jO) {G : Mem} {sz : Nat} (t9 : Nat) {i9 u9 al9 ed9 c9 n9 cap9 : Nat} {lr9 mc9 : Int32} {f9 : Nat → Option Nat} (ht : G t9 = some (.inr (34, [.ref i9, .ref u9]))) (hi : G i9 = some (.inr (31, [.int (nI (c9)), .int lr9, .int mc9, .ref al9]))) (hal : G al9 = some (.inr (28, [.int mc9, .ref ed9, .int (nI (n9))]))) (he : G ed9 = some (.inl (Ω.2.1 4, cap9, jAq f9))) (hc : c9 < n9) (hn : n9 ≤ cap9) (hcap : cap9 ≤ 100) (w9 : Nat) (hw : f9 c9 = some w9) (hb : Ω.2.2.2 ≤ i9) : Met l yJ30_next (ws_ yJ30_next cJ30_next 1 (some (.object "java/lang/Object"))) ({ frames := 3, cells := 0, slots := 0, locals := 54 } : Room) (va_Pc [.ref t9] (jWd Ω G sz)) (jQ Ω (jD (some (.ref w9)) (gset G i9 (.inr (31, [.int (nI (c9 + 1)), .int (nI (c9)), .int mc9, .ref al9]))) (sz))) 0 0 (jB Ω) := by
  refine jMet (by decide) (Nat.le_of_ble_eq_true rfl) ?_
  intro p e s m args below meth c cx hr hnm
  refine J_loc [some (.ref t9)] rfl ?_
  refine J_aload_n cx dJ30_next_0 rfl ?_
  refine J_get cx in_J30 (ci := 34) rfl 0 (by decide) q1588 (fun _ h => h) dJ30_next_1 ht rfl ?_
  refine J_callF (n := 0) cx (ci := 31) [] (t_J12_next l Ω i9 hi hal he hc hn hcap w9 hw hb) dJ30_next_4 q1125 q1140 q1121 q1123 q108 q787 q786 q1124 q1122 q755 ⟨by decide, by decide, by decide +kernel⟩ rfl hi rfl rfl ⟨Nat.le_of_ble_eq_true rfl, Nat.le_of_ble_eq_true rfl⟩ rfl rfl (Nat.le_of_ble_eq_true rfl) ⟨Nat.le_of_ble_eq_true rfl, Nat.le_of_ble_eq_true rfl⟩ (jdet ?_)
  refine J_mem (gset G i9 (.inr (31, [.int (nI (c9 + 1)), .int (nI (c9)), .int mc9, .ref al9]))) rfl ?_
  exact J_aret cx dJ30_next_9 hr (Or.inl ⟨_, rfl⟩) (Or.inr ⟨_, rfl⟩) ⟨rfl, rfl, rfl⟩ (Nat.le_of_ble_eq_true rfl) (Nat.le_of_ble_eq_true rfl)
