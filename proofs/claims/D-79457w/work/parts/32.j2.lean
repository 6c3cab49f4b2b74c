/-! JDK 2 (gen/mk_j2.py): ArrayList.grow, add -/
set_option maxRecDepth 100000
section JR8
variable {p : Program} {l : Launch} {e : Env} {R : Room} {s : State} {m : MethodId} {args : Array Value} {below : List Frame} {meth : Method} {c : Code} {Q : State → Prop} {Ω : jO} {nL : Nat}
variable {cells slots sz : Nat} {G : Mem} {L : List (Option Value)} {st : List Value} {cc : ByteArray} {own : String} {pc : Nat}
theorem J_ltA (kk : (∀ q x, G q = some x → q < sz) → J p l e R s m args below meth c Ω nL Q cells slots sz G pc L st) : J p l e R s m args below meth c Ω nL Q cells slots sz G pc L st := fun H locs ls h1 h2 h3 h4 =>
  kk (fun q x h => by rw [← h1]; exact (h2 _ _ h).1.lt) H locs ls h1 h2 h3 h4
theorem jObj.set {G : Mem} {y b : Nat} {x : va_E} (h : jObj G y) (hne : y ≠ b) : jObj (gset G b x) y := by
  obtain ⟨ci, q, vs, h1, h2, h3⟩ := h
  exact ⟨ci, q, vs, h1, by rw [gset_ne hne]; exact h2, h3⟩
theorem jObj.setO {G : Mem} {y b ci : Nat} {q : vw_C} {vs : List Value} (h : jObj G y) (hc : vwCl[ci]? = some q) (hk : Cond.castable q.1 "java/lang/Object" ∈ lw_tbl) : jObj (gset G b (.inr (ci, vs))) y := by
  by_cases e : y = b
  · subst e
    exact ⟨ci, q, vs, hc, gset_eq, hk⟩
  · exact h.set e
theorem jObj.lt {G : Mem} {y sz : Nat} (h : jObj G y) (hl : ∀ q x, G q = some x → q < sz) : y < sz := by
  obtain ⟨ci, q, vs, h1, h2, h3⟩ := h
  exact hl _ _ h2
theorem jshr1 : ∀ c : Nat, c < 64 → nI c >>> (nI (1) &&& 31) = nI (c / 2) := by decide +kernel
end JR8
theorem t_J8_newLength (l : Launch) (Ω : jO) {G : Mem} {sz : Nat} (a9 b9 c9 : Nat) (ha : a9 < 100000) (hb : 0 < b9) (hb2 : b9 < 100000) (hc : c9 < 100000) : Met l yJ8_newLength (ws_ yJ8_newLength cJ8_newLength 4 (some .int)) ({ frames := 1, cells := 0, slots := 0, locals := 32 } : Room) (va_Pc [.int (nI (a9)), .int (nI (b9)), .int (nI (c9))] (jWd Ω G sz)) (jQ Ω (jD (some (.int (nI (a9 + (max b9 c9))))) G sz)) 0 0 (jB Ω) := by
  refine jMet (by decide) (Nat.le_of_ble_eq_true rfl) ?_
  intro p e s m args below meth c cx hr hnm
  refine J_loc [some (.int (nI (a9))), some (.int (nI (b9))), some (.int (nI (c9))), none] rfl ?_
  refine J_iload_n cx dJ8_newLength_0 rfl ?_
  refine J_iload_n cx dJ8_newLength_1 rfl ?_
  refine J_iload_n cx dJ8_newLength_2 rfl ?_
  refine J_mmax cx dJ8_newLength_3 q531 q532 q102 q533 (Nat.le_of_ble_eq_true rfl) (Nat.le_of_ble_eq_true rfl) (Nat.le_of_ble_eq_true rfl) (Nat.le_of_ble_eq_true rfl) ?_
  refine J_top (.int (nI (max b9 c9))) (congrArg Value.int (jmmax (by omega) (by omega))) ?_
  refine J_iaddN cx dJ8_newLength_6 ?_
  refine J_istore_n3 cx dJ8_newLength_7 (by decide) rfl ?_
  refine J_iconst (v := nI (0)) cx dJ8_newLength_8 (by decide) ?_
  refine J_iload_n cx dJ8_newLength_9 rfl ?_
  refine J_icmpN_ge (tgt := 21) cx dJ8_newLength_10 (by decide) (by omega) (by omega) (fun c10 => absurd c10 (by omega)) (fun c10 => ?_)
  refine J_iload_n cx dJ8_newLength_13 rfl ?_
  refine J_ldc cx dJ8_newLength_14 q534 ?_
  refine J_top (.int (nI (2147483639))) rfl ?_
  refine J_icmpN_gt (tgt := 21) cx dJ8_newLength_16 (by decide) (by omega) (by omega) (fun c16 => absurd c16 (by omega)) (fun c16 => ?_)
  refine J_iload_n cx dJ8_newLength_19 rfl ?_
  exact J_iret cx dJ8_newLength_20 hr ⟨rfl, rfl, rfl⟩ (Nat.le_of_ble_eq_true rfl) (Nat.le_of_ble_eq_true rfl)
set_option maxHeartbeats 1000000 in
theorem t_J10_copyOf_2 (l : Launch) (Ω : jO) {G : Mem} {sz : Nat} (a : Nat) {n0 : Nat} {f9 : Nat → Option Nat} (n1 : Nat) (hs : G a = some (.inl (Ω.2.1 4, n0, jAq f9))) (hn : n0 ≤ n1) (hn1 : n1 < 100000) (hel : ∀ i, i < n0 → ∀ y, f9 i = some y → jObj G y) : Met l yJ10_copyOf_2 (ws_ yJ10_copyOf_2 cJ10_copyOf_2 4 (some (.array (.object "java/lang/Object")))) ({ frames := 1, cells := 1, slots := n1, locals := 52 } : Room) (va_Pc [.ref a, .int (nI (n1)), .ref (Ω.2.2.1 2)] (jWd Ω G sz)) (jQ Ω (jD (some (.ref sz)) (gset G sz (.inl (Ω.2.1 4, n1, jAq (va_cpy f9 (fun _ => none) 0 0 n0)))) (sz + 1))) 1 n1 (jB Ω) := by
  refine jMet (by decide) (Nat.le_of_ble_eq_true rfl) ?_
  intro p e s m args below meth c cx hr hnm
  refine J_loc [some (.ref a), some (.int (nI (n1))), some (.ref (Ω.2.2.1 2)), none] rfl ?_
  refine J_ltA (fun hlA => ?_)
  refine J_bs cx (fun hbs9 => ?_)
  refine J_lt hs (fun hlt0 => ?_)
  refine J_aload_n cx dJ10_copyOf_2_0 rfl ?_
  refine J_ldcM cx cx.sta.2.2.2.2.2.2.2.2.2.2.1 dJ10_copyOf_2_1 q599 ?_
  refine J_acmp_ne (rx := some (Ω.2.2.1 2)) (ry := some (Ω.2.2.1 2)) (tgt := 13) cx dJ10_copyOf_2_3 (by decide) rfl rfl (fun h3 => absurd rfl h3) (fun h3 => ?_)
  refine J_iload_n cx dJ10_copyOf_2_6 rfl ?_
  refine J_newq cx 4 dJ10_copyOf_2_7 q600 q306 rfl (by omega) (by omega) (Nat.le_of_ble_eq_true rfl) (by show _ ≤ n1; omega) ?_
  refine J_goto (tgt := 24) cx dJ10_copyOf_2_10 (by decide) ?_
  refine J_astore_n3 cx dJ10_copyOf_2_24 (by decide) rfl ?_
  refine J_aload_n cx dJ10_copyOf_2_25 rfl ?_
  refine J_iconst (v := nI (0)) cx dJ10_copyOf_2_26 (by decide) ?_
  refine J_aload_n cx dJ10_copyOf_2_27 rfl ?_
  refine J_iconst (v := nI (0)) cx dJ10_copyOf_2_28 (by decide) ?_
  refine J_aload_n cx dJ10_copyOf_2_29 rfl ?_
  refine J_alen cx 4 dJ10_copyOf_2_30 rfl ((gset_ne (by omega)).trans hs) ?_
  refine J_iload_n cx dJ10_copyOf_2_31 rfl ?_
  refine J_mmin cx dJ10_copyOf_2_32 q601 q602 q102 q603 (Nat.le_of_ble_eq_true rfl) (Nat.le_of_ble_eq_true rfl) (Nat.le_of_ble_eq_true rfl) (by show _ ≤ n1; omega) ?_
  refine J_top (.int (nI (min n0 n1))) (congrArg Value.int (jmmin (by omega) (by omega))) ?_
  refine J_top (.int (nI (n0))) (by rw [Nat.min_eq_left (by omega)]) ?_
  refine J_copyq cx dJ10_copyOf_2_35 q604 q606 q605 q104 ((gset_ne (by omega)).trans hs) gset_eq (by omega) (by omega) (by omega) (by omega) (fun i hi y hy => (hel i hi y (by rw [Nat.zero_add] at hy; exact hy)).set (by have := (hel i hi y (by rw [Nat.zero_add] at hy; exact hy)).lt hlA; omega)) (by omega) (Nat.le_of_ble_eq_true rfl) (by show _ ≤ (52 : Nat); decide +kernel) ?_
  refine J_mem (gset G sz (.inl (Ω.2.1 4, n1, jAq (va_cpy f9 (fun _ => none) 0 0 n0)))) gset_gset ?_
  refine J_aload_n cx dJ10_copyOf_2_38 rfl ?_
  exact J_aret cx dJ10_copyOf_2_39 hr (Or.inr ⟨_, rfl⟩) (Or.inr ⟨_, rfl⟩) ⟨rfl, rfl, rfl⟩ (Nat.le_of_ble_eq_true rfl) (by show _ ≤ n1; omega)
theorem t_J10_copyOf (l : Launch) (Ω : jO) {G : Mem} {sz : Nat} (a : Nat) {n0 : Nat} {f9 : Nat → Option Nat} (n1 : Nat) (hs : G a = some (.inl (Ω.2.1 4, n0, jAq f9))) (hn : n0 ≤ n1) (hn1 : n1 < 100000) (hel : ∀ i, i < n0 → ∀ y, f9 i = some y → jObj G y) : Met l yJ10_copyOf (ws_ yJ10_copyOf cJ10_copyOf 2 (some (.array (.object "java/lang/Object")))) ({ frames := 2, cells := 1, slots := n1, locals := 75 } : Room) (va_Pc [.ref a, .int (nI (n1))] (jWd Ω G sz)) (jQ Ω (jD (some (.ref sz)) (gset G sz (.inl (Ω.2.1 4, n1, jAq (va_cpy f9 (fun _ => none) 0 0 n0)))) (sz + 1))) 1 n1 (jB Ω) := by
  refine jMet (by decide) (Nat.le_of_ble_eq_true rfl) ?_
  intro p e s m args below meth c cx hr hnm
  refine J_loc [some (.ref a), some (.int (nI (n1)))] rfl ?_
  refine J_bs cx (fun hbs9 => ?_)
  refine J_lt hs (fun hlt0 => ?_)
  refine J_aload_n cx dJ10_copyOf_0 rfl ?_
  refine J_iload_n cx dJ10_copyOf_1 rfl ?_
  refine J_aload_n cx dJ10_copyOf_2 rfl ?_
  refine J_getC cx dJ10_copyOf_3 q541 q2505 q3096 q542 q595 hs (Nat.le_of_ble_eq_true rfl) (Nat.le_of_ble_eq_true rfl) ?_
  refine J_callS (n := 3) cx [.ref a, .int (nI (n1)), .ref (Ω.2.2.1 2)] (t_J10_copyOf_2 l Ω a n1 hs (by omega) (by omega) hel) dJ10_copyOf_6 (lw_S q596 q597 q103 q598) ⟨by decide, by decide, by decide +kernel⟩ rfl rfl ⟨Nat.le_of_ble_eq_true rfl, Nat.le_of_ble_eq_true rfl⟩ rfl rfl (Nat.le_of_ble_eq_true rfl) ⟨Nat.le_of_ble_eq_true rfl, by show _ ≤ n1; omega⟩ (jdet ?_)
  refine J_mem (gset G sz (.inl (Ω.2.1 4, n1, jAq (va_cpy f9 (fun _ => none) 0 0 n0)))) rfl ?_
  exact J_aret cx dJ10_copyOf_9 hr (Or.inr ⟨_, rfl⟩) (Or.inr ⟨_, rfl⟩) ⟨rfl, rfl, rfl⟩ (Nat.le_of_ble_eq_true rfl) (by show _ ≤ n1; omega)
set_option maxHeartbeats 1000000 in
theorem t_J2_grow_2B (l : Launch) (Ω : jO) {G : Mem} {sz : Nat} (a : Nat) {mc9 : Int32} {ed9 n9 : Nat} (ha : G a = some (.inr (28, [.int mc9, .ref ed9, .int (nI (n9))]))) {cap9 : Nat} {f9 : Nat → Option Nat} (he : G ed9 = some (.inl (Ω.2.1 4, cap9, jAq f9))) (hb : Ω.2.2.2 ≤ a) (hc0 : 0 < cap9) (hc6 : cap9 < 64) (hel : ∀ i, i < cap9 → ∀ y, f9 i = some y → jObj G y) : Met l yJ2_grow_2 (ws_ yJ2_grow_2 cJ2_grow_2 4 (some (.array (.object "java/lang/Object")))) ({ frames := 3, cells := 1, slots := cap9 + (max 1 (cap9 / 2)), locals := 96 } : Room) (va_Pc [.ref a, .int (nI (cap9 + 1))] (jWd Ω G sz)) (jQ Ω (jD (some (.ref sz)) (gset (gset G sz (.inl (Ω.2.1 4, cap9 + (max 1 (cap9 / 2)), jAq (va_cpy f9 (fun _ => none) 0 0 cap9)))) a (.inr (28, [.int mc9, .ref sz, .int (nI (n9))]))) (sz + 1))) 1 (cap9 + (max 1 (cap9 / 2))) (jB Ω) := by
  refine jMet (by decide) (Nat.le_of_ble_eq_true rfl) ?_
  intro p e s m args below meth c cx hr hnm
  refine J_loc [some (.ref a), some (.int (nI (cap9 + 1))), none, none] rfl ?_
  refine J_bs cx (fun hbs9 => ?_)
  refine J_lt ha (fun hlt0 => ?_)
  refine J_lt he (fun hlt1 => ?_)
  refine J_aload_n cx dJ2_grow_2_0 rfl ?_
  refine J_get cx in_J2 (ci := 28) rfl 1 (by decide) q192 (fun _ h => h) dJ2_grow_2_1 ha rfl ?_
  refine J_alen cx 4 dJ2_grow_2_4 rfl he ?_
  refine J_istore_n2 cx dJ2_grow_2_5 (by decide) rfl ?_
  refine J_iload_n cx dJ2_grow_2_6 rfl ?_
  refine J_if_gt (tgt := 20) cx dJ2_grow_2_7 (by decide) (fun c7 => ?_) (fun c7 => absurd c7 ((fun q => q ((nI_ltI (a := 0) (by decide) (by omega)).mpr hc0))))
  refine J_iload_n cx dJ2_grow_2_20 rfl ?_
  refine J_iload_n cx dJ2_grow_2_21 rfl ?_
  refine J_iload_n cx dJ2_grow_2_22 rfl ?_
  refine J_isubN cx dJ2_grow_2_23 (by omega) ?_
  refine J_top (.int (nI (1))) (by rw [show cap9 + 1 - cap9 = 1 by omega]) ?_
  refine J_iload_n cx dJ2_grow_2_24 rfl ?_
  refine J_iconst (v := nI (1)) cx dJ2_grow_2_25 (by decide) ?_
  refine J_ishr cx dJ2_grow_2_26 ?_
  refine J_top (.int (nI (cap9 / 2))) (congrArg Value.int (jshr1 cap9 (by omega))) ?_
  refine J_callS (n := 3) cx [.int (nI (cap9)), .int (nI (1)), .int (nI (cap9 / 2))] (t_J8_newLength l Ω cap9 1 (cap9 / 2) (by omega) (by omega) (by omega) (by omega)) dJ2_grow_2_27 (lw_S q528 q529 q101 q530) ⟨by decide, by decide, by decide +kernel⟩ rfl rfl ⟨Nat.le_of_ble_eq_true rfl, Nat.le_of_ble_eq_true rfl⟩ rfl rfl (Nat.le_of_ble_eq_true rfl) ⟨Nat.le_of_ble_eq_true rfl, by show _ ≤ cap9 + (max 1 (cap9 / 2)); omega⟩ (jdet ?_)
  refine J_istore_n3 cx dJ2_grow_2_30 (by decide) rfl ?_
  refine J_aload_n cx dJ2_grow_2_31 rfl ?_
  refine J_aload_n cx dJ2_grow_2_32 rfl ?_
  refine J_get cx in_J2 (ci := 28) rfl 1 (by decide) q192 (fun _ h => h) dJ2_grow_2_33 ha rfl ?_
  refine J_iload_n cx dJ2_grow_2_36 rfl ?_
  refine J_callS (n := 2) cx [.ref ed9, .int (nI (cap9 + (max 1 (cap9 / 2))))] (t_J10_copyOf l Ω ed9 (cap9 + (max 1 (cap9 / 2))) he (by omega) (by omega) hel) dJ2_grow_2_37 (lw_S q538 q539 q103 q540) ⟨by decide, by decide, by decide +kernel⟩ rfl rfl ⟨Nat.le_of_ble_eq_true rfl, Nat.le_of_ble_eq_true rfl⟩ rfl rfl (Nat.le_of_ble_eq_true rfl) ⟨Nat.le_of_ble_eq_true rfl, by show _ ≤ cap9 + (max 1 (cap9 / 2)); omega⟩ (jdet ?_)
  refine J_mem (gset G sz (.inl (Ω.2.1 4, cap9 + (max 1 (cap9 / 2)), jAq (va_cpy f9 (fun _ => none) 0 0 cap9)))) rfl ?_
  refine J_dup_x1 cx dJ2_grow_2_40 rfl rfl ?_
  refine J_put cx in_J2 tyJ2 tyJ2_ok nmJ2 (ci := 28) rfl 1 (by decide) q192 (fun _ h => h) rfl (ty := (.array (.object "java/lang/Object"))) (by decide +kernel) dJ2_grow_2_41 rfl rfl ((gset_ne (by omega)).trans ha) (Nat.le_of_ble_eq_true rfl) (by omega) ?_
  refine J_mem (gset (gset G sz (.inl (Ω.2.1 4, cap9 + (max 1 (cap9 / 2)), jAq (va_cpy f9 (fun _ => none) 0 0 cap9)))) a (.inr (28, [.int mc9, .ref sz, .int (nI (n9))]))) rfl ?_
  exact J_aret cx dJ2_grow_2_44 hr (Or.inr ⟨_, rfl⟩) (Or.inr ⟨_, rfl⟩) ⟨rfl, rfl, rfl⟩ (Nat.le_of_ble_eq_true rfl) (by show _ ≤ cap9 + (max 1 (cap9 / 2)); omega)
set_option maxHeartbeats 1000000 in
theorem t_J2_grow_2A (l : Launch) (Ω : jO) {G : Mem} {sz : Nat} (a : Nat) {mc9 : Int32} (ha : G a = some (.inr (28, [.int mc9, .ref (Ω.2.2.1 0), .int (nI (0))]))) (hb : Ω.2.2.2 ≤ a) : Met l yJ2_grow_2 (ws_ yJ2_grow_2 cJ2_grow_2 4 (some (.array (.object "java/lang/Object")))) ({ frames := 1, cells := 1, slots := 10, locals := 32 } : Room) (va_Pc [.ref a, .int (nI (1))] (jWd Ω G sz)) (jQ Ω (jD (some (.ref sz)) (gset (gset G sz (.inl (Ω.2.1 4, 10, jAq (fun _ => none)))) a (.inr (28, [.int mc9, .ref sz, .int (nI (0))]))) (sz + 1))) 1 10 (jB Ω) := by
  refine jMet (by decide) (Nat.le_of_ble_eq_true rfl) ?_
  intro p e s m args below meth c cx hr hnm
  refine J_loc [some (.ref a), some (.int (nI (1))), none, none] rfl ?_
  refine J_bs cx (fun hbs9 => ?_)
  refine J_lt ha (fun hlt0 => ?_)
  refine J_aload_n cx dJ2_grow_2_0 rfl ?_
  refine J_get cx in_J2 (ci := 28) rfl 1 (by decide) q192 (fun _ h => h) dJ2_grow_2_1 ha rfl ?_
  refine J_alenE cx dJ2_grow_2_4 ?_
  refine J_istore_n2 cx dJ2_grow_2_5 (by decide) rfl ?_
  refine J_iload_n cx dJ2_grow_2_6 rfl ?_
  refine J_if_gt (tgt := 20) cx dJ2_grow_2_7 (by decide) (fun c7 => absurd c7 (by decide)) (fun c7 => ?_)
  refine J_aload_n cx dJ2_grow_2_10 rfl ?_
  refine J_get cx in_J2 (ci := 28) rfl 1 (by decide) q192 (fun _ h => h) dJ2_grow_2_11 ha rfl ?_
  refine J_gets cx cx.sta.1 dJ2_grow_2_14 q190 (fun _ h => h) ?_
  refine J_acmp_eq (rx := some (Ω.2.2.1 0)) (ry := some (Ω.2.2.1 0)) (tgt := 45) cx dJ2_grow_2_17 (by decide) rfl rfl (fun h17 => ?_) (fun h17 => absurd rfl h17)
  refine J_aload_n cx dJ2_grow_2_45 rfl ?_
  refine J_bipush (v := nI (10)) cx dJ2_grow_2_46 (by decide) ?_
  refine J_iload_n cx dJ2_grow_2_48 rfl ?_
  refine J_mmax cx dJ2_grow_2_49 q607 q532 q102 q533 (Nat.le_of_ble_eq_true rfl) (Nat.le_of_ble_eq_true rfl) (Nat.le_of_ble_eq_true rfl) (Nat.le_of_ble_eq_true rfl) ?_
  refine J_top (.int (nI (max 10 1))) (congrArg Value.int (jmmax (by omega) (by omega))) ?_
  refine J_top (.int (nI (10))) rfl ?_
  refine J_newq cx 4 dJ2_grow_2_52 q608 q306 rfl (by omega) (by decide) (Nat.le_of_ble_eq_true rfl) (Nat.le_of_ble_eq_true rfl) ?_
  refine J_dup_x1 cx dJ2_grow_2_55 rfl rfl ?_
  refine J_put cx in_J2 tyJ2 tyJ2_ok nmJ2 (ci := 28) rfl 1 (by decide) q192 (fun _ h => h) rfl (ty := (.array (.object "java/lang/Object"))) (by decide +kernel) dJ2_grow_2_56 rfl rfl ((gset_ne (by omega)).trans ha) (Nat.le_of_ble_eq_true rfl) (by omega) ?_
  refine J_mem (gset (gset G sz (.inl (Ω.2.1 4, 10, jAq (fun _ => none)))) a (.inr (28, [.int mc9, .ref sz, .int (nI (0))]))) rfl ?_
  exact J_aret cx dJ2_grow_2_59 hr (Or.inr ⟨_, rfl⟩) (Or.inr ⟨_, rfl⟩) ⟨rfl, rfl, rfl⟩ (Nat.le_of_ble_eq_true rfl) (Nat.le_of_ble_eq_true rfl)
set_option maxHeartbeats 1000000 in
theorem t_J2_growB (l : Launch) (Ω : jO) {G : Mem} {sz : Nat} (a : Nat) {mc9 : Int32} {ed9 n9 : Nat} (ha : G a = some (.inr (28, [.int mc9, .ref ed9, .int (nI (n9))]))) {cap9 : Nat} {f9 : Nat → Option Nat} (he : G ed9 = some (.inl (Ω.2.1 4, cap9, jAq f9))) (hb : Ω.2.2.2 ≤ a) (hc0 : 0 < cap9) (hc6 : cap9 < 64) (hel : ∀ i, i < cap9 → ∀ y, f9 i = some y → jObj G y) (hnc : n9 = cap9) : Met l yJ2_grow (ws_ yJ2_grow cJ2_grow 1 (some (.array (.object "java/lang/Object")))) ({ frames := 4, cells := 1, slots := cap9 + (max 1 (cap9 / 2)), locals := 119 } : Room) (va_Pc [.ref a] (jWd Ω G sz)) (jQ Ω (jD (some (.ref sz)) (gset (gset G sz (.inl (Ω.2.1 4, cap9 + (max 1 (cap9 / 2)), jAq (va_cpy f9 (fun _ => none) 0 0 cap9)))) a (.inr (28, [.int mc9, .ref sz, .int (nI (n9))]))) (sz + 1))) 1 (cap9 + (max 1 (cap9 / 2))) (jB Ω) := by
  refine jMet (by decide) (Nat.le_of_ble_eq_true rfl) ?_
  intro p e s m args below meth c cx hr hnm
  refine J_loc [some (.ref a)] rfl ?_
  refine J_bs cx (fun hbs9 => ?_)
  refine J_lt ha (fun hlt0 => ?_)
  refine J_lt he (fun hlt1 => ?_)
  refine J_aload_n cx dJ2_grow_0 rfl ?_
  refine J_aload_n cx dJ2_grow_1 rfl ?_
  refine J_get cx in_J2 (ci := 28) rfl 2 (by decide) q195 (fun _ h => h) dJ2_grow_2 ha rfl ?_
  refine J_iconst (v := nI (1)) cx dJ2_grow_5 (by decide) ?_
  refine J_iaddN cx dJ2_grow_6 ?_
  refine J_top (.int (nI (cap9 + 1))) (by rw [hnc]) ?_
  refine J_callV (n := 1) cx (ci := 28) [.int (nI (cap9 + 1))] (t_J2_grow_2B l Ω a ha he (by omega) (by omega) (by omega) hel) dJ2_grow_7 (lw_V q524 q526 qs2 q88 q527) ⟨rfl, by decide, by decide, by decide +kernel⟩ rfl ha rfl rfl ⟨Nat.le_of_ble_eq_true rfl, Nat.le_of_ble_eq_true rfl⟩ rfl rfl (Nat.le_of_ble_eq_true rfl) ⟨Nat.le_of_ble_eq_true rfl, by show _ ≤ cap9 + (max 1 (cap9 / 2)); omega⟩ (jdet ?_)
  refine J_mem (gset (gset G sz (.inl (Ω.2.1 4, cap9 + (max 1 (cap9 / 2)), jAq (va_cpy f9 (fun _ => none) 0 0 cap9)))) a (.inr (28, [.int mc9, .ref sz, .int (nI (n9))]))) rfl ?_
  exact J_aret cx dJ2_grow_10 hr (Or.inr ⟨_, rfl⟩) (Or.inr ⟨_, rfl⟩) ⟨rfl, rfl, rfl⟩ (Nat.le_of_ble_eq_true rfl) (by show _ ≤ cap9 + (max 1 (cap9 / 2)); omega)
set_option maxHeartbeats 1000000 in
theorem t_J2_growA (l : Launch) (Ω : jO) {G : Mem} {sz : Nat} (a : Nat) {mc9 : Int32} (ha : G a = some (.inr (28, [.int mc9, .ref (Ω.2.2.1 0), .int (nI (0))]))) (hb : Ω.2.2.2 ≤ a) : Met l yJ2_grow (ws_ yJ2_grow cJ2_grow 1 (some (.array (.object "java/lang/Object")))) ({ frames := 2, cells := 1, slots := 10, locals := 55 } : Room) (va_Pc [.ref a] (jWd Ω G sz)) (jQ Ω (jD (some (.ref sz)) (gset (gset G sz (.inl (Ω.2.1 4, 10, jAq (fun _ => none)))) a (.inr (28, [.int mc9, .ref sz, .int (nI (0))]))) (sz + 1))) 1 10 (jB Ω) := by
  refine jMet (by decide) (Nat.le_of_ble_eq_true rfl) ?_
  intro p e s m args below meth c cx hr hnm
  refine J_loc [some (.ref a)] rfl ?_
  refine J_bs cx (fun hbs9 => ?_)
  refine J_lt ha (fun hlt0 => ?_)
  refine J_aload_n cx dJ2_grow_0 rfl ?_
  refine J_aload_n cx dJ2_grow_1 rfl ?_
  refine J_get cx in_J2 (ci := 28) rfl 2 (by decide) q195 (fun _ h => h) dJ2_grow_2 ha rfl ?_
  refine J_iconst (v := nI (1)) cx dJ2_grow_5 (by decide) ?_
  refine J_iaddN cx dJ2_grow_6 ?_
  refine J_top (.int (nI (1))) rfl ?_
  refine J_callV (n := 1) cx (ci := 28) [.int (nI (1))] (t_J2_grow_2A l Ω a ha (by omega)) dJ2_grow_7 (lw_V q524 q526 qs2 q88 q527) ⟨rfl, by decide, by decide, by decide +kernel⟩ rfl ha rfl rfl ⟨Nat.le_of_ble_eq_true rfl, Nat.le_of_ble_eq_true rfl⟩ rfl rfl (Nat.le_of_ble_eq_true rfl) ⟨Nat.le_of_ble_eq_true rfl, Nat.le_of_ble_eq_true rfl⟩ (jdet ?_)
  refine J_mem (gset (gset G sz (.inl (Ω.2.1 4, 10, jAq (fun _ => none)))) a (.inr (28, [.int mc9, .ref sz, .int (nI (0))]))) rfl ?_
  exact J_aret cx dJ2_grow_10 hr (Or.inr ⟨_, rfl⟩) (Or.inr ⟨_, rfl⟩) ⟨rfl, rfl, rfl⟩ (Nat.le_of_ble_eq_true rfl) (Nat.le_of_ble_eq_true rfl)
set_option maxHeartbeats 1000000 in
theorem t_J2_add_2R (l : Launch) (Ω : jO) {G : Mem} {sz : Nat} (a : Nat) {mc9 : Int32} {ed9 n9 : Nat} (ha : G a = some (.inr (28, [.int mc9, .ref ed9, .int (nI (n9))]))) {cap9 : Nat} {f9 : Nat → Option Nat} (he : G ed9 = some (.inl (Ω.2.1 4, cap9, jAq f9))) (v9 : Nat) {ci9 : Nat} {q9 : vw_C} {vs9 : List Value} (hc9 : vwCl[ci9]? = some q9) (hv : G v9 = some (.inr (ci9, vs9))) (hcs9 : Cond.castable q9.1 "java/lang/Object" ∈ lw_tbl) (hva : v9 ≠ a) (hb : Ω.2.2.2 ≤ a) (hbe : Ω.2.2.2 ≤ ed9) (hnc : n9 < cap9) (hc6 : cap9 < 64) : Met l yJ2_add_2 (ws_ yJ2_add_2 cJ2_add_2 4 none) ({ frames := 1, cells := 0, slots := 0, locals := 12 } : Room) (va_Pc [.ref a, .ref v9, .ref ed9, .int (nI (n9))] (jWd Ω G sz)) (jQ Ω (jD none (gset (gset G ed9 (.inl (Ω.2.1 4, cap9, jAq (va_up f9 n9 (some v9))))) a (.inr (28, [.int mc9, .ref ed9, .int (nI (n9 + 1))]))) (sz))) 0 0 (jB Ω) := by
  refine jMet (by decide) (Nat.le_of_ble_eq_true rfl) ?_
  intro p e s m args below meth c cx hr hnm
  refine J_loc [some (.ref a), some (.ref v9), some (.ref ed9), some (.int (nI (n9)))] rfl ?_
  refine J_bs cx (fun hbs9 => ?_)
  refine J_lt ha (fun hlt0 => ?_)
  refine J_lt he (fun hlt1 => ?_)
  refine J_lt hv (fun hlt2 => ?_)
  have hne0 : a ≠ ed9 := fun e => by have h1 := ha; rw [e, he] at h1; simp at h1
  refine J_iload_n cx dJ2_add_2_0 rfl ?_
  refine J_aload_n cx dJ2_add_2_1 rfl ?_
  refine J_alen cx 4 dJ2_add_2_2 rfl he ?_
  refine J_icmpN_ne (tgt := 11) cx dJ2_add_2_3 (by decide) (by omega) (by omega) (fun c3 => ?_) (fun c3 => absurd c3 (by omega))
  refine J_aload_n cx dJ2_add_2_11 rfl ?_
  refine J_iload_n cx dJ2_add_2_12 rfl ?_
  refine J_aload_n cx dJ2_add_2_13 rfl ?_
  refine J_aast cx 4 dJ2_add_2_14 rfl he (ci := ci9) hc9 hv hcs9 (by omega) (by omega) (by omega) ?_
  refine J_mem (gset G ed9 (.inl (Ω.2.1 4, cap9, jAq (va_up f9 n9 (some v9))))) rfl ?_
  refine J_aload_n cx dJ2_add_2_15 rfl ?_
  refine J_iload_n cx dJ2_add_2_16 rfl ?_
  refine J_iconst (v := nI (1)) cx dJ2_add_2_17 (by decide) ?_
  refine J_iaddN cx dJ2_add_2_18 ?_
  refine J_put cx in_J2 tyJ2 tyJ2_ok nmJ2 (ci := 28) rfl 2 (by decide) q195 (fun _ h => h) rfl (ty := .int) (by decide +kernel) dJ2_add_2_19 rfl rfl ((gset_ne (by omega)).trans ha) (Nat.le_of_ble_eq_true rfl) (by omega) ?_
  refine J_mem (gset (gset G ed9 (.inl (Ω.2.1 4, cap9, jAq (va_up f9 n9 (some v9))))) a (.inr (28, [.int mc9, .ref ed9, .int (nI (n9 + 1))]))) rfl ?_
  exact J_vret cx dJ2_add_2_22 hr ⟨rfl, rfl, rfl⟩ (Nat.le_of_ble_eq_true rfl) (Nat.le_of_ble_eq_true rfl)
set_option maxHeartbeats 1000000 in
theorem t_J2_add_2B (l : Launch) (Ω : jO) {G : Mem} {sz : Nat} (a : Nat) {mc9 : Int32} {ed9 n9 : Nat} (ha : G a = some (.inr (28, [.int mc9, .ref ed9, .int (nI (n9))]))) {cap9 : Nat} {f9 : Nat → Option Nat} (he : G ed9 = some (.inl (Ω.2.1 4, cap9, jAq f9))) (v9 : Nat) {ci9 : Nat} {q9 : vw_C} {vs9 : List Value} (hc9 : vwCl[ci9]? = some q9) (hv : G v9 = some (.inr (ci9, vs9))) (hcs9 : Cond.castable q9.1 "java/lang/Object" ∈ lw_tbl) (hva : v9 ≠ a) (hb : Ω.2.2.2 ≤ a) (hc0 : 0 < cap9) (hc6 : cap9 < 64) (hel : ∀ i, i < cap9 → ∀ y, f9 i = some y → jObj G y) (hnc : n9 = cap9) : Met l yJ2_add_2 (ws_ yJ2_add_2 cJ2_add_2 4 none) ({ frames := 5, cells := 1, slots := cap9 + (max 1 (cap9 / 2)), locals := 139 } : Room) (va_Pc [.ref a, .ref v9, .ref ed9, .int (nI (n9))] (jWd Ω G sz)) (jQ Ω (jD none (gset (gset G sz (.inl (Ω.2.1 4, cap9 + (max 1 (cap9 / 2)), jAq (va_up (va_cpy f9 (fun _ => none) 0 0 cap9) n9 (some v9))))) a (.inr (28, [.int mc9, .ref sz, .int (nI (n9 + 1))]))) (sz + 1))) 1 (cap9 + (max 1 (cap9 / 2))) (jB Ω) := by
  refine jMet (by decide) (Nat.le_of_ble_eq_true rfl) ?_
  intro p e s m args below meth c cx hr hnm
  refine J_loc [some (.ref a), some (.ref v9), some (.ref ed9), some (.int (nI (n9)))] rfl ?_
  refine J_bs cx (fun hbs9 => ?_)
  refine J_lt ha (fun hlt0 => ?_)
  refine J_lt he (fun hlt1 => ?_)
  refine J_lt hv (fun hlt2 => ?_)
  have hne0 : a ≠ ed9 := fun e => by have h1 := ha; rw [e, he] at h1; simp at h1
  refine J_iload_n cx dJ2_add_2_0 rfl ?_
  refine J_aload_n cx dJ2_add_2_1 rfl ?_
  refine J_alen cx 4 dJ2_add_2_2 rfl he ?_
  refine J_icmpN_ne (tgt := 11) cx dJ2_add_2_3 (by decide) (by omega) (by omega) (fun c3 => absurd c3 (by omega)) (fun c3 => ?_)
  refine J_aload_n cx dJ2_add_2_6 rfl ?_
  refine J_callV (n := 0) cx (ci := 28) [] (t_J2_growB l Ω a ha he (by omega) (by omega) (by omega) hel (by omega)) dJ2_add_2_7 (lw_V q520 q522 qs1 q88 q523) ⟨rfl, by decide, by decide, by decide +kernel⟩ rfl ha rfl rfl ⟨Nat.le_of_ble_eq_true rfl, Nat.le_of_ble_eq_true rfl⟩ rfl rfl (Nat.le_of_ble_eq_true rfl) ⟨Nat.le_of_ble_eq_true rfl, by show _ ≤ cap9 + (max 1 (cap9 / 2)); omega⟩ (jdet ?_)
  refine J_mem (gset (gset G sz (.inl (Ω.2.1 4, cap9 + (max 1 (cap9 / 2)), jAq (va_cpy f9 (fun _ => none) 0 0 cap9)))) a (.inr (28, [.int mc9, .ref sz, .int (nI (n9))]))) rfl ?_
  refine J_astore_n2 cx dJ2_add_2_10 (by decide) rfl ?_
  refine J_aload_n cx dJ2_add_2_11 rfl ?_
  refine J_iload_n cx dJ2_add_2_12 rfl ?_
  refine J_aload_n cx dJ2_add_2_13 rfl ?_
  refine J_aast cx 4 dJ2_add_2_14 rfl ((gset_ne (by omega)).trans gset_eq) (ci := ci9) hc9 ((gset_ne (by omega)).trans ((gset_ne (by omega)).trans hv)) hcs9 (by omega) (by omega) (by omega) ?_
  refine J_mem (gset (gset G a (.inr (28, [.int mc9, .ref sz, .int (nI (n9))]))) sz (.inl (Ω.2.1 4, cap9 + (max 1 (cap9 / 2)), jAq (va_up (va_cpy f9 (fun _ => none) 0 0 cap9) n9 (some v9))))) (by funext q9; simp only [gset]; by_cases hq9 : q9 = sz <;> simp [hq9]) ?_
  refine J_aload_n cx dJ2_add_2_15 rfl ?_
  refine J_iload_n cx dJ2_add_2_16 rfl ?_
  refine J_iconst (v := nI (1)) cx dJ2_add_2_17 (by decide) ?_
  refine J_iaddN cx dJ2_add_2_18 ?_
  refine J_put cx in_J2 tyJ2 tyJ2_ok nmJ2 (ci := 28) rfl 2 (by decide) q195 (fun _ h => h) rfl (ty := .int) (by decide +kernel) dJ2_add_2_19 rfl rfl ((gset_ne (by omega)).trans gset_eq) (Nat.le_of_ble_eq_true rfl) (by omega) ?_
  refine J_mem (gset (gset G sz (.inl (Ω.2.1 4, cap9 + (max 1 (cap9 / 2)), jAq (va_up (va_cpy f9 (fun _ => none) 0 0 cap9) n9 (some v9))))) a (.inr (28, [.int mc9, .ref sz, .int (nI (n9 + 1))]))) (by funext q9; simp only [gset]; by_cases hq9 : q9 = a <;> simp [hq9]) ?_
  exact J_vret cx dJ2_add_2_22 hr ⟨rfl, rfl, rfl⟩ (Nat.le_of_ble_eq_true rfl) (by show _ ≤ cap9 + (max 1 (cap9 / 2)); omega)
set_option maxHeartbeats 1000000 in
theorem t_J2_add_2A (l : Launch) (Ω : jO) {G : Mem} {sz : Nat} (a : Nat) {mc9 : Int32} (ha : G a = some (.inr (28, [.int mc9, .ref (Ω.2.2.1 0), .int (nI (0))]))) (v9 : Nat) {ci9 : Nat} {q9 : vw_C} {vs9 : List Value} (hc9 : vwCl[ci9]? = some q9) (hv : G v9 = some (.inr (ci9, vs9))) (hcs9 : Cond.castable q9.1 "java/lang/Object" ∈ lw_tbl) (hva : v9 ≠ a) (hb : Ω.2.2.2 ≤ a) : Met l yJ2_add_2 (ws_ yJ2_add_2 cJ2_add_2 4 none) ({ frames := 3, cells := 1, slots := 10, locals := 75 } : Room) (va_Pc [.ref a, .ref v9, .ref (Ω.2.2.1 0), .int (nI (0))] (jWd Ω G sz)) (jQ Ω (jD none (gset (gset G sz (.inl (Ω.2.1 4, 10, jAq (va_up (fun _ => none) 0 (some v9))))) a (.inr (28, [.int mc9, .ref sz, .int (nI (0 + 1))]))) (sz + 1))) 1 10 (jB Ω) := by
  refine jMet (by decide) (Nat.le_of_ble_eq_true rfl) ?_
  intro p e s m args below meth c cx hr hnm
  refine J_loc [some (.ref a), some (.ref v9), some (.ref (Ω.2.2.1 0)), some (.int (nI (0)))] rfl ?_
  refine J_bs cx (fun hbs9 => ?_)
  refine J_lt ha (fun hlt0 => ?_)
  refine J_lt hv (fun hlt1 => ?_)
  refine J_iload_n cx dJ2_add_2_0 rfl ?_
  refine J_aload_n cx dJ2_add_2_1 rfl ?_
  refine J_alenE cx dJ2_add_2_2 ?_
  refine J_icmpN_ne (tgt := 11) cx dJ2_add_2_3 (by decide) (by omega) (by omega) (fun c3 => absurd c3 (by omega)) (fun c3 => ?_)
  refine J_aload_n cx dJ2_add_2_6 rfl ?_
  refine J_callV (n := 0) cx (ci := 28) [] (t_J2_growA l Ω a ha (by omega)) dJ2_add_2_7 (lw_V q520 q522 qs1 q88 q523) ⟨rfl, by decide, by decide, by decide +kernel⟩ rfl ha rfl rfl ⟨Nat.le_of_ble_eq_true rfl, Nat.le_of_ble_eq_true rfl⟩ rfl rfl (Nat.le_of_ble_eq_true rfl) ⟨Nat.le_of_ble_eq_true rfl, Nat.le_of_ble_eq_true rfl⟩ (jdet ?_)
  refine J_mem (gset (gset G sz (.inl (Ω.2.1 4, 10, jAq (fun _ => none)))) a (.inr (28, [.int mc9, .ref sz, .int (nI (0))]))) rfl ?_
  refine J_astore_n2 cx dJ2_add_2_10 (by decide) rfl ?_
  refine J_aload_n cx dJ2_add_2_11 rfl ?_
  refine J_iload_n cx dJ2_add_2_12 rfl ?_
  refine J_aload_n cx dJ2_add_2_13 rfl ?_
  refine J_aast cx 4 dJ2_add_2_14 rfl ((gset_ne (by omega)).trans gset_eq) (ci := ci9) hc9 ((gset_ne (by omega)).trans ((gset_ne (by omega)).trans hv)) hcs9 (by omega) (by omega) (by omega) ?_
  refine J_mem (gset (gset G a (.inr (28, [.int mc9, .ref sz, .int (nI (0))]))) sz (.inl (Ω.2.1 4, 10, jAq (va_up (fun _ => none) 0 (some v9))))) (by funext q9; simp only [gset]; by_cases hq9 : q9 = sz <;> simp [hq9]) ?_
  refine J_aload_n cx dJ2_add_2_15 rfl ?_
  refine J_iload_n cx dJ2_add_2_16 rfl ?_
  refine J_iconst (v := nI (1)) cx dJ2_add_2_17 (by decide) ?_
  refine J_iaddN cx dJ2_add_2_18 ?_
  refine J_put cx in_J2 tyJ2 tyJ2_ok nmJ2 (ci := 28) rfl 2 (by decide) q195 (fun _ h => h) rfl (ty := .int) (by decide +kernel) dJ2_add_2_19 rfl rfl ((gset_ne (by omega)).trans gset_eq) (Nat.le_of_ble_eq_true rfl) (by omega) ?_
  refine J_mem (gset (gset G sz (.inl (Ω.2.1 4, 10, jAq (va_up (fun _ => none) 0 (some v9))))) a (.inr (28, [.int mc9, .ref sz, .int (nI (0 + 1))]))) (by funext q9; simp only [gset]; by_cases hq9 : q9 = a <;> simp [hq9]) ?_
  exact J_vret cx dJ2_add_2_22 hr ⟨rfl, rfl, rfl⟩ (Nat.le_of_ble_eq_true rfl) (Nat.le_of_ble_eq_true rfl)
set_option maxHeartbeats 1000000 in
theorem t_J2_addR (l : Launch) (Ω : jO) {G : Mem} {sz : Nat} (a : Nat) {mc9 : Int32} {ed9 n9 : Nat} (ha : G a = some (.inr (28, [.int mc9, .ref ed9, .int (nI (n9))]))) {cap9 : Nat} {f9 : Nat → Option Nat} (he : G ed9 = some (.inl (Ω.2.1 4, cap9, jAq f9))) (v9 : Nat) {ci9 : Nat} {q9 : vw_C} {vs9 : List Value} (hc9 : vwCl[ci9]? = some q9) (hv : G v9 = some (.inr (ci9, vs9))) (hcs9 : Cond.castable q9.1 "java/lang/Object" ∈ lw_tbl) (hva : v9 ≠ a) (hb : Ω.2.2.2 ≤ a) (hbe : Ω.2.2.2 ≤ ed9) (hnc : n9 < cap9) (hc6 : cap9 < 64) : Met l yJ2_add (ws_ yJ2_add cJ2_add 2 (some .boolean)) ({ frames := 2, cells := 0, slots := 0, locals := 35 } : Room) (va_Pc [.ref a, .ref v9] (jWd Ω G sz)) (jQ Ω (jD (some (.int (nI (1)))) (gset (gset G ed9 (.inl (Ω.2.1 4, cap9, jAq (va_up f9 n9 (some v9))))) a (.inr (28, [.int (mc9 + (nI (1))), .ref ed9, .int (nI (n9 + 1))]))) (sz))) 0 0 (jB Ω) := by
  refine jMet (by decide) (Nat.le_of_ble_eq_true rfl) ?_
  intro p e s m args below meth c cx hr hnm
  refine J_loc [some (.ref a), some (.ref v9)] rfl ?_
  refine J_bs cx (fun hbs9 => ?_)
  refine J_lt ha (fun hlt0 => ?_)
  refine J_lt he (fun hlt1 => ?_)
  refine J_lt hv (fun hlt2 => ?_)
  have hne0 : a ≠ ed9 := fun e => by have h1 := ha; rw [e, he] at h1; simp at h1
  refine J_aload_n cx dJ2_add_0 rfl ?_
  refine J_dup cx dJ2_add_1 rfl ?_
  refine J_get cx in_J2 (ci := 28) rfl 0 (by decide) q203 (fun _ h => u_same (cx.ts _ q200) _ h) dJ2_add_2 ha rfl ?_
  refine J_iconst (v := nI (1)) cx dJ2_add_5 (by decide) ?_
  refine J_iadd cx dJ2_add_6 ?_
  refine J_put cx in_J2 tyJ2 tyJ2_ok nmJ2 (ci := 28) rfl 0 (by decide) q203 (fun _ h => u_same (cx.ts _ q200) _ h) rfl (ty := .int) (by decide +kernel) dJ2_add_7 rfl rfl ha (Nat.le_of_ble_eq_true rfl) (by omega) ?_
  refine J_mem (gset G a (.inr (28, [.int (mc9 + (nI (1))), .ref ed9, .int (nI (n9))]))) rfl ?_
  refine J_aload_n cx dJ2_add_10 rfl ?_
  refine J_aload_n cx dJ2_add_11 rfl ?_
  refine J_aload_n cx dJ2_add_12 rfl ?_
  refine J_get cx in_J2 (ci := 28) rfl 1 (by decide) q192 (fun _ h => h) dJ2_add_13 gset_eq rfl ?_
  refine J_aload_n cx dJ2_add_16 rfl ?_
  refine J_get cx in_J2 (ci := 28) rfl 2 (by decide) q195 (fun _ h => h) dJ2_add_17 gset_eq rfl ?_
  refine J_callV (n := 3) cx (ci := 28) [.ref v9, .ref ed9, .int (nI (n9))] (t_J2_add_2R l Ω a gset_eq ((gset_ne (by omega)).trans he) v9 hc9 ((gset_ne (by omega)).trans hv) hcs9 hva (by omega) (by omega) (by omega) (by omega)) dJ2_add_20 (lw_V q516 q518 qs0 q88 q519) ⟨rfl, by decide, by decide, by decide +kernel⟩ rfl gset_eq rfl rfl ⟨Nat.le_of_ble_eq_true rfl, Nat.le_of_ble_eq_true rfl⟩ rfl rfl (Nat.le_of_ble_eq_true rfl) ⟨Nat.le_of_ble_eq_true rfl, Nat.le_of_ble_eq_true rfl⟩ (jdet ?_)
  refine J_mem (gset (gset G ed9 (.inl (Ω.2.1 4, cap9, jAq (va_up f9 n9 (some v9))))) a (.inr (28, [.int (mc9 + (nI (1))), .ref ed9, .int (nI (n9 + 1))]))) (by funext q9; simp only [gset]; by_cases hq9 : q9 = a <;> simp [hq9]) ?_
  refine J_iconst (v := nI (1)) cx dJ2_add_23 (by decide) ?_
  exact J_zret cx dJ2_add_24 hr rfl ⟨rfl, rfl, rfl⟩ (Nat.le_of_ble_eq_true rfl) (Nat.le_of_ble_eq_true rfl)
set_option maxHeartbeats 1000000 in
theorem t_J2_addB (l : Launch) (Ω : jO) {G : Mem} {sz : Nat} (a : Nat) {mc9 : Int32} {ed9 n9 : Nat} (ha : G a = some (.inr (28, [.int mc9, .ref ed9, .int (nI (n9))]))) {cap9 : Nat} {f9 : Nat → Option Nat} (he : G ed9 = some (.inl (Ω.2.1 4, cap9, jAq f9))) (v9 : Nat) {ci9 : Nat} {q9 : vw_C} {vs9 : List Value} (hc9 : vwCl[ci9]? = some q9) (hv : G v9 = some (.inr (ci9, vs9))) (hcs9 : Cond.castable q9.1 "java/lang/Object" ∈ lw_tbl) (hva : v9 ≠ a) (hb : Ω.2.2.2 ≤ a) (hc0 : 0 < cap9) (hc6 : cap9 < 64) (hel : ∀ i, i < cap9 → ∀ y, f9 i = some y → jObj G y) (hnc : n9 = cap9) : Met l yJ2_add (ws_ yJ2_add cJ2_add 2 (some .boolean)) ({ frames := 6, cells := 1, slots := cap9 + (max 1 (cap9 / 2)), locals := 162 } : Room) (va_Pc [.ref a, .ref v9] (jWd Ω G sz)) (jQ Ω (jD (some (.int (nI (1)))) (gset (gset G sz (.inl (Ω.2.1 4, cap9 + (max 1 (cap9 / 2)), jAq (va_up (va_cpy f9 (fun _ => none) 0 0 cap9) n9 (some v9))))) a (.inr (28, [.int (mc9 + (nI (1))), .ref sz, .int (nI (n9 + 1))]))) (sz + 1))) 1 (cap9 + (max 1 (cap9 / 2))) (jB Ω) := by
  refine jMet (by decide) (Nat.le_of_ble_eq_true rfl) ?_
  intro p e s m args below meth c cx hr hnm
  refine J_loc [some (.ref a), some (.ref v9)] rfl ?_
  refine J_bs cx (fun hbs9 => ?_)
  refine J_lt ha (fun hlt0 => ?_)
  refine J_lt he (fun hlt1 => ?_)
  refine J_lt hv (fun hlt2 => ?_)
  have hne0 : a ≠ ed9 := fun e => by have h1 := ha; rw [e, he] at h1; simp at h1
  refine J_aload_n cx dJ2_add_0 rfl ?_
  refine J_dup cx dJ2_add_1 rfl ?_
  refine J_get cx in_J2 (ci := 28) rfl 0 (by decide) q203 (fun _ h => u_same (cx.ts _ q200) _ h) dJ2_add_2 ha rfl ?_
  refine J_iconst (v := nI (1)) cx dJ2_add_5 (by decide) ?_
  refine J_iadd cx dJ2_add_6 ?_
  refine J_put cx in_J2 tyJ2 tyJ2_ok nmJ2 (ci := 28) rfl 0 (by decide) q203 (fun _ h => u_same (cx.ts _ q200) _ h) rfl (ty := .int) (by decide +kernel) dJ2_add_7 rfl rfl ha (Nat.le_of_ble_eq_true rfl) (by omega) ?_
  refine J_mem (gset G a (.inr (28, [.int (mc9 + (nI (1))), .ref ed9, .int (nI (n9))]))) rfl ?_
  refine J_aload_n cx dJ2_add_10 rfl ?_
  refine J_aload_n cx dJ2_add_11 rfl ?_
  refine J_aload_n cx dJ2_add_12 rfl ?_
  refine J_get cx in_J2 (ci := 28) rfl 1 (by decide) q192 (fun _ h => h) dJ2_add_13 gset_eq rfl ?_
  refine J_aload_n cx dJ2_add_16 rfl ?_
  refine J_get cx in_J2 (ci := 28) rfl 2 (by decide) q195 (fun _ h => h) dJ2_add_17 gset_eq rfl ?_
  refine J_callV (n := 3) cx (ci := 28) [.ref v9, .ref ed9, .int (nI (n9))] (t_J2_add_2B l Ω a gset_eq ((gset_ne (by omega)).trans he) v9 hc9 ((gset_ne (by omega)).trans hv) hcs9 hva (by omega) (by omega) (by omega) (fun i hi y hy => (hel i hi y hy).setO (ci := 28) rfl q3045) (by omega)) dJ2_add_20 (lw_V q516 q518 qs0 q88 q519) ⟨rfl, by decide, by decide, by decide +kernel⟩ rfl gset_eq rfl rfl ⟨Nat.le_of_ble_eq_true rfl, Nat.le_of_ble_eq_true rfl⟩ rfl rfl (Nat.le_of_ble_eq_true rfl) ⟨Nat.le_of_ble_eq_true rfl, by show _ ≤ cap9 + (max 1 (cap9 / 2)); omega⟩ (jdet ?_)
  refine J_mem (gset (gset G sz (.inl (Ω.2.1 4, cap9 + (max 1 (cap9 / 2)), jAq (va_up (va_cpy f9 (fun _ => none) 0 0 cap9) n9 (some v9))))) a (.inr (28, [.int (mc9 + (nI (1))), .ref sz, .int (nI (n9 + 1))]))) (by funext q9; simp only [gset]; by_cases hq9 : q9 = a <;> simp [hq9]) ?_
  refine J_iconst (v := nI (1)) cx dJ2_add_23 (by decide) ?_
  exact J_zret cx dJ2_add_24 hr rfl ⟨rfl, rfl, rfl⟩ (Nat.le_of_ble_eq_true rfl) (by show _ ≤ cap9 + (max 1 (cap9 / 2)); omega)
set_option maxHeartbeats 1000000 in
theorem t_J2_addA (l : Launch) (Ω : jO) {G : Mem} {sz : Nat} (a : Nat) {mc9 : Int32} (ha : G a = some (.inr (28, [.int mc9, .ref (Ω.2.2.1 0), .int (nI (0))]))) (v9 : Nat) {ci9 : Nat} {q9 : vw_C} {vs9 : List Value} (hc9 : vwCl[ci9]? = some q9) (hv : G v9 = some (.inr (ci9, vs9))) (hcs9 : Cond.castable q9.1 "java/lang/Object" ∈ lw_tbl) (hva : v9 ≠ a) (hb : Ω.2.2.2 ≤ a) : Met l yJ2_add (ws_ yJ2_add cJ2_add 2 (some .boolean)) ({ frames := 4, cells := 1, slots := 10, locals := 98 } : Room) (va_Pc [.ref a, .ref v9] (jWd Ω G sz)) (jQ Ω (jD (some (.int (nI (1)))) (gset (gset G sz (.inl (Ω.2.1 4, 10, jAq (va_up (fun _ => none) 0 (some v9))))) a (.inr (28, [.int (mc9 + (nI (1))), .ref sz, .int (nI (0 + 1))]))) (sz + 1))) 1 10 (jB Ω) := by
  refine jMet (by decide) (Nat.le_of_ble_eq_true rfl) ?_
  intro p e s m args below meth c cx hr hnm
  refine J_loc [some (.ref a), some (.ref v9)] rfl ?_
  refine J_bs cx (fun hbs9 => ?_)
  refine J_lt ha (fun hlt0 => ?_)
  refine J_lt hv (fun hlt1 => ?_)
  refine J_aload_n cx dJ2_add_0 rfl ?_
  refine J_dup cx dJ2_add_1 rfl ?_
  refine J_get cx in_J2 (ci := 28) rfl 0 (by decide) q203 (fun _ h => u_same (cx.ts _ q200) _ h) dJ2_add_2 ha rfl ?_
  refine J_iconst (v := nI (1)) cx dJ2_add_5 (by decide) ?_
  refine J_iadd cx dJ2_add_6 ?_
  refine J_put cx in_J2 tyJ2 tyJ2_ok nmJ2 (ci := 28) rfl 0 (by decide) q203 (fun _ h => u_same (cx.ts _ q200) _ h) rfl (ty := .int) (by decide +kernel) dJ2_add_7 rfl rfl ha (Nat.le_of_ble_eq_true rfl) (by omega) ?_
  refine J_mem (gset G a (.inr (28, [.int (mc9 + (nI (1))), .ref (Ω.2.2.1 0), .int (nI (0))]))) rfl ?_
  refine J_aload_n cx dJ2_add_10 rfl ?_
  refine J_aload_n cx dJ2_add_11 rfl ?_
  refine J_aload_n cx dJ2_add_12 rfl ?_
  refine J_get cx in_J2 (ci := 28) rfl 1 (by decide) q192 (fun _ h => h) dJ2_add_13 gset_eq rfl ?_
  refine J_aload_n cx dJ2_add_16 rfl ?_
  refine J_get cx in_J2 (ci := 28) rfl 2 (by decide) q195 (fun _ h => h) dJ2_add_17 gset_eq rfl ?_
  refine J_callV (n := 3) cx (ci := 28) [.ref v9, .ref (Ω.2.2.1 0), .int (nI (0))] (t_J2_add_2A l Ω a gset_eq v9 hc9 ((gset_ne (by omega)).trans hv) hcs9 hva (by omega)) dJ2_add_20 (lw_V q516 q518 qs0 q88 q519) ⟨rfl, by decide, by decide, by decide +kernel⟩ rfl gset_eq rfl rfl ⟨Nat.le_of_ble_eq_true rfl, Nat.le_of_ble_eq_true rfl⟩ rfl rfl (Nat.le_of_ble_eq_true rfl) ⟨Nat.le_of_ble_eq_true rfl, Nat.le_of_ble_eq_true rfl⟩ (jdet ?_)
  refine J_mem (gset (gset G sz (.inl (Ω.2.1 4, 10, jAq (va_up (fun _ => none) 0 (some v9))))) a (.inr (28, [.int (mc9 + (nI (1))), .ref sz, .int (nI (0 + 1))]))) (by funext q9; simp only [gset]; by_cases hq9 : q9 = a <;> simp [hq9]) ?_
  refine J_iconst (v := nI (1)) cx dJ2_add_23 (by decide) ?_
  exact J_zret cx dJ2_add_24 hr rfl ⟨rfl, rfl, rfl⟩ (Nat.le_of_ble_eq_true rfl) (Nat.le_of_ble_eq_true rfl)
