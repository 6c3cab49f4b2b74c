/-! JDK 7 (gen/mk_dq.py): ArrayDeque of 17 places -/
set_option maxRecDepth 100000
def dinc (i m : Nat) : Nat := if i + 1 < m then i + 1 else 0
theorem dinc_lt {i m : Nat} (h : 0 < m) : dinc i m < m := by simp only [dinc]; split <;> omega
theorem dsub1 : ∀ i : Nat, i < 17 → ∀ j : Nat, j < 17 → i < j → ¬ 0 ≤ nI i - nI j := by decide +kernel
theorem dsub2 : ∀ i : Nat, i < 17 → ∀ j : Nat, j < 17 → i < j → nI i - nI j + nI (17) = nI (i + 17 - j) := by decide +kernel
def dsub (i j : Nat) : Nat := if j ≤ i then i - j else i + 17 - j
theorem t_J5_inc (l : Launch) (Ω : jO) {G : Mem} {sz : Nat} (i9 m9 : Nat) (hi : i9 < 100000) (hm : m9 < 100000) : Met l yJ5_inc (ws_ yJ5_inc cJ5_inc 2 (some .int)) ({ frames := 1, cells := 0, slots := 0, locals := 12 } : Room) (va_Pc [.int (nI (i9)), .int (nI (m9))] (jWd Ω G sz)) (jQ Ω (jD (some (.int (nI (dinc i9 m9)))) G sz)) 0 0 (jB Ω) := by
  refine jMet (by decide) (Nat.le_of_ble_eq_true rfl) ?_
  intro p e s m args below meth c cx hr hnm
  refine J_loc [some (.int (nI (i9))), some (.int (nI (m9)))] rfl ?_
  refine J_iinc0 (v := nI (i9 + 1)) cx dJ5_inc_0 (nI_1 i9) (by decide) ?_
  refine J_iload_n cx dJ5_inc_3 rfl ?_
  refine J_iload_n cx dJ5_inc_4 rfl ?_
  refine J_icmpN_lt (tgt := 10) cx dJ5_inc_5 (by decide) (by omega) (by omega) (fun c5 => ?_) (fun c5 => ?_)
  · refine J_iload_n cx dJ5_inc_10 rfl ?_
    exact J_iret cx dJ5_inc_11 hr ⟨by simp only [dinc, if_pos c5], rfl, rfl⟩ (Nat.le_of_ble_eq_true rfl) (Nat.le_of_ble_eq_true rfl)
  · refine J_iconst (v := nI (0)) cx dJ5_inc_8 (by decide) ?_
    refine J_istore_n0 cx dJ5_inc_9 (by decide) ?_
    refine J_iload_n cx dJ5_inc_10 rfl ?_
    exact J_iret cx dJ5_inc_11 hr ⟨by simp only [dinc, if_neg (Nat.not_lt.mpr c5)], rfl, rfl⟩ (Nat.le_of_ble_eq_true rfl) (Nat.le_of_ble_eq_true rfl)
theorem t_J5_init (l : Launch) (Ω : jO) {G : Mem} {sz : Nat} (a : Nat) (ha : G a = some (.inr (30, [.null, .int 0, .int 0]))) (hb : Ω.2.2.2 ≤ a) : Met l yJ5_init (ws_ yJ5_init cJ5_init 1 none) ({ frames := 2, cells := 1, slots := 17, locals := 32 } : Room) (va_Pc [.ref a] (jWd Ω G sz)) (jQ Ω (jD none (gset (gset G sz (.inl (Ω.2.1 4, 17, jAq (fun _ => none)))) a (.inr (30, [.ref sz, .int 0, .int 0]))) (sz + 1))) 1 17 (jB Ω) := by
  refine jMet (by decide) (Nat.le_of_ble_eq_true rfl) ?_
  intro p e s m args below meth c cx hr hnm
  refine J_loc [some (.ref a)] rfl ?_
  refine J_bs cx (fun hbs9 => ?_)
  refine J_lt ha (fun hlt0 => ?_)
  refine J_aload_n cx dJ5_init_0 rfl ?_
  refine J_callI (n := 0) cx [] (t_J0_init_ad l Ω a ha) dJ5_init_1 q188 q86 q304 q187 rfl ⟨by decide, by decide, by decide +kernel⟩ rfl rfl ⟨Nat.le_of_ble_eq_true rfl, Nat.le_of_ble_eq_true rfl⟩ rfl rfl (Nat.le_of_ble_eq_true rfl) ⟨Nat.le_of_ble_eq_true rfl, Nat.le_of_ble_eq_true rfl⟩ (jdet ?_)
  refine J_aload_n cx dJ5_init_4 rfl ?_
  refine J_bipush (v := nI (17)) cx dJ5_init_5 (by decide) ?_
  refine J_newq cx 4 dJ5_init_7 q305 q306 rfl (by omega) (by decide) (Nat.le_of_ble_eq_true rfl) (Nat.le_of_ble_eq_true rfl) ?_
  refine J_put cx in_J5 tyJ5 tyJ5_ok nmJ5 (ci := 30) rfl 0 (by decide) q307 (fun _ h => h) rfl (ty := (.array (.object "java/lang/Object"))) (by decide +kernel) dJ5_init_10 rfl rfl ((gset_ne (by omega)).trans ha) (Nat.le_of_ble_eq_true rfl) (by omega) ?_
  refine J_mem (gset (gset G sz (.inl (Ω.2.1 4, 17, jAq (fun _ => none)))) a (.inr (30, [.ref sz, .int 0, .int 0]))) rfl ?_
  exact J_vret cx dJ5_init_13 hr ⟨rfl, rfl, rfl⟩ (Nat.le_of_ble_eq_true rfl) (Nat.le_of_ble_eq_true rfl)
theorem t_J5_sub_A (l : Launch) (Ω : jO) {G : Mem} {sz : Nat} (i9 j9 : Nat) (hi : i9 < 17) (hj : j9 < 17) (hij : j9 ≤ i9) : Met l yJ5_sub (ws_ yJ5_sub cJ5_sub 3 (some .int)) ({ frames := 1, cells := 0, slots := 0, locals := 12 } : Room) (va_Pc [.int (nI (i9)), .int (nI (j9)), .int (nI (17))] (jWd Ω G sz)) (jQ Ω (jD (some (.int (nI (dsub i9 j9)))) G sz)) 0 0 (jB Ω) := by
  refine jMet (by decide) (Nat.le_of_ble_eq_true rfl) ?_
  intro p e s m args below meth c cx hr hnm
  refine J_loc [some (.int (nI (i9))), some (.int (nI (j9))), some (.int (nI (17)))] rfl ?_
  refine J_iload_n cx dJ5_sub_0 rfl ?_
  refine J_iload_n cx dJ5_sub_1 rfl ?_
  refine J_isubN cx dJ5_sub_2 (by omega) ?_
  refine J_dup cx dJ5_sub_3 rfl ?_
  refine J_istore_n0 cx dJ5_sub_4 (by decide) ?_
  refine J_if_ge (tgt := 12) cx dJ5_sub_5 (by decide) (fun c5 => ?_) (fun c5 => absurd c5 ((fun q => q (nI_pos' (by omega)))))
  refine J_iload_n cx dJ5_sub_12 rfl ?_
  exact J_iret cx dJ5_sub_13 hr ⟨by simp only [dsub, if_pos hij], rfl, rfl⟩ (Nat.le_of_ble_eq_true rfl) (Nat.le_of_ble_eq_true rfl)
theorem t_J5_sub_B (l : Launch) (Ω : jO) {G : Mem} {sz : Nat} (i9 j9 : Nat) (hi : i9 < 17) (hj : j9 < 17) (hij : ¬ j9 ≤ i9) : Met l yJ5_sub (ws_ yJ5_sub cJ5_sub 3 (some .int)) ({ frames := 1, cells := 0, slots := 0, locals := 12 } : Room) (va_Pc [.int (nI (i9)), .int (nI (j9)), .int (nI (17))] (jWd Ω G sz)) (jQ Ω (jD (some (.int (nI (dsub i9 j9)))) G sz)) 0 0 (jB Ω) := by
  refine jMet (by decide) (Nat.le_of_ble_eq_true rfl) ?_
  intro p e s m args below meth c cx hr hnm
  refine J_loc [some (.int (nI (i9))), some (.int (nI (j9))), some (.int (nI (17)))] rfl ?_
  refine J_iload_n cx dJ5_sub_0 rfl ?_
  refine J_iload_n cx dJ5_sub_1 rfl ?_
  refine J_isub cx dJ5_sub_2 ?_
  refine J_dup cx dJ5_sub_3 rfl ?_
  refine J_istore_n0 cx dJ5_sub_4 (by decide) ?_
  refine J_if_ge (tgt := 12) cx dJ5_sub_5 (by decide) (fun c5 => absurd c5 (dsub1 i9 hi j9 hj (by omega))) (fun c5 => ?_)
  refine J_iload_n cx dJ5_sub_8 rfl ?_
  refine J_iload_n cx dJ5_sub_9 rfl ?_
  refine J_iadd cx dJ5_sub_10 ?_
  refine J_istore_n0 cx dJ5_sub_11 (by decide) ?_
  refine J_iload_n cx dJ5_sub_12 rfl ?_
  exact J_iret cx dJ5_sub_13 hr ⟨by simp only [dsub, if_neg hij]; rw [← dsub2 i9 hi j9 hj (by omega)], rfl, rfl⟩ (Nat.le_of_ble_eq_true rfl) (Nat.le_of_ble_eq_true rfl)
theorem t_J5_sub (l : Launch) (Ω : jO) {G : Mem} {sz : Nat} (i9 j9 : Nat) (hi : i9 < 17) (hj : j9 < 17) : Met l yJ5_sub (ws_ yJ5_sub cJ5_sub 3 (some .int)) ({ frames := 1, cells := 0, slots := 0, locals := 12 } : Room) (va_Pc [.int (nI i9), .int (nI j9), .int (nI (17))] (jWd Ω G sz)) (jQ Ω (jD (some (.int (nI (dsub i9 j9)))) G sz)) 0 0 (jB Ω) := by
  by_cases h : j9 ≤ i9
  · exact t_J5_sub_A l Ω i9 j9 hi hj h
  · exact t_J5_sub_B l Ω i9 j9 hi hj h
theorem t_J5_size (l : Launch) (Ω : jO) {G : Mem} {sz : Nat} (a : Nat) {ea9 hd9 tl9 : Nat} {f9 : Nat → Option Nat} (ha : G a = some (.inr (30, [.ref ea9, .int (nI (hd9)), .int (nI (tl9))]))) (he : G ea9 = some (.inl (Ω.2.1 4, 17, jAq f9))) (hhd : hd9 < 17) (htl : tl9 < 17) : Met l yJ5_size (ws_ yJ5_size cJ5_size 1 (some .int)) ({ frames := 2, cells := 0, slots := 0, locals := 34 } : Room) (va_Pc [.ref a] (jWd Ω G sz)) (jQ Ω (jD (some (.int (nI (dsub tl9 hd9)))) G sz)) 0 0 (jB Ω) := by
  refine jMet (by decide) (Nat.le_of_ble_eq_true rfl) ?_
  intro p e s m args below meth c cx hr hnm
  refine J_loc [some (.ref a)] rfl ?_
  refine J_aload_n cx dJ5_size_0 rfl ?_
  refine J_get cx in_J5 (ci := 30) rfl 2 (by decide) q311 (fun _ h => h) dJ5_size_1 ha rfl ?_
  refine J_aload_n cx dJ5_size_4 rfl ?_
  refine J_get cx in_J5 (ci := 30) rfl 1 (by decide) q310 (fun _ h => h) dJ5_size_5 ha rfl ?_
  refine J_aload_n cx dJ5_size_8 rfl ?_
  refine J_get cx in_J5 (ci := 30) rfl 0 (by decide) q307 (fun _ h => h) dJ5_size_9 ha rfl ?_
  refine J_alen cx 4 dJ5_size_12 rfl he ?_
  refine J_callS (n := 3) cx [.int (nI (tl9)), .int (nI (hd9)), .int (nI (17))] (t_J5_sub l Ω tl9 hd9 (by omega) (by omega)) dJ5_size_13 (lw_S q1355 q1356 q92 q1357) ⟨by decide, by decide, by decide +kernel⟩ rfl rfl ⟨Nat.le_of_ble_eq_true rfl, Nat.le_of_ble_eq_true rfl⟩ rfl rfl (Nat.le_of_ble_eq_true rfl) ⟨Nat.le_of_ble_eq_true rfl, Nat.le_of_ble_eq_true rfl⟩ (jdet ?_)
  exact J_iret cx dJ5_size_16 hr ⟨rfl, rfl, rfl⟩ (Nat.le_of_ble_eq_true rfl) (Nat.le_of_ble_eq_true rfl)
set_option maxHeartbeats 1000000 in
theorem t_J5_addLast (l : Launch) (Ω : jO) {G : Mem} {sz : Nat} (a : Nat) {ea9 hd9 tl9 : Nat} {f9 : Nat → Option Nat} (ha : G a = some (.inr (30, [.ref ea9, .int (nI (hd9)), .int (nI (tl9))]))) (he : G ea9 = some (.inl (Ω.2.1 4, 17, jAq f9))) (hhd : hd9 < 17) (htl : tl9 < 17) (v9 : Nat) {ci9 : Nat} {q9 : vw_C} {vs9 : List Value} (hc9 : vwCl[ci9]? = some q9) (hv : G v9 = some (.inr (ci9, vs9))) (hcs9 : Cond.castable q9.1 "java/lang/Object" ∈ lw_tbl) (hva : v9 ≠ a) (hb : Ω.2.2.2 ≤ a) (hbe : Ω.2.2.2 ≤ ea9) (hfull : ¬ hd9 = dinc tl9 17) : Met l yJ5_addLast (ws_ yJ5_addLast cJ5_addLast 3 none) ({ frames := 2, cells := 0, slots := 0, locals := 33 } : Room) (va_Pc [.ref a, .ref v9] (jWd Ω G sz)) (jQ Ω (jD none (gset (gset G ea9 (.inl (Ω.2.1 4, 17, jAq (va_up f9 tl9 (some v9))))) a (.inr (30, [.ref ea9, .int (nI (hd9)), .int (nI (dinc tl9 17))]))) (sz))) 0 0 (jB Ω) := by
  refine jMet (by decide) (Nat.le_of_ble_eq_true rfl) ?_
  intro p e s m args below meth c cx hr hnm
  refine J_loc [some (.ref a), some (.ref v9), none] rfl ?_
  have hdi : dinc tl9 17 < 17 := dinc_lt (by omega)
  refine J_bs cx (fun hbs9 => ?_)
  refine J_lt ha (fun hlt0 => ?_)
  refine J_lt he (fun hlt1 => ?_)
  refine J_lt hv (fun hlt2 => ?_)
  have hne0 : a ≠ ea9 := fun e => by have h1 := ha; rw [e, he] at h1; simp at h1
  refine J_aload_n cx dJ5_addLast_0 rfl ?_
  refine J_ifnonnull (tgt := 12) cx dJ5_addLast_1 (by decide) ?_
  refine J_aload_n cx dJ5_addLast_12 rfl ?_
  refine J_get cx in_J5 (ci := 30) rfl 0 (by decide) q307 (fun _ h => h) dJ5_addLast_13 ha rfl ?_
  refine J_astore_n2 cx dJ5_addLast_16 (by decide) rfl ?_
  refine J_aload_n cx dJ5_addLast_17 rfl ?_
  refine J_aload_n cx dJ5_addLast_18 rfl ?_
  refine J_get cx in_J5 (ci := 30) rfl 2 (by decide) q311 (fun _ h => h) dJ5_addLast_19 ha rfl ?_
  refine J_aload_n cx dJ5_addLast_22 rfl ?_
  refine J_aast cx 4 dJ5_addLast_23 rfl he (ci := ci9) hc9 hv hcs9 (by omega) (by omega) (by omega) ?_
  refine J_mem (gset G ea9 (.inl (Ω.2.1 4, 17, jAq (va_up f9 tl9 (some v9))))) rfl ?_
  refine J_aload_n cx dJ5_addLast_24 rfl ?_
  refine J_get cx in_J5 (ci := 30) rfl 1 (by decide) q310 (fun _ h => h) dJ5_addLast_25 ((gset_ne (by omega)).trans ha) rfl ?_
  refine J_aload_n cx dJ5_addLast_28 rfl ?_
  refine J_aload_n cx dJ5_addLast_29 rfl ?_
  refine J_get cx in_J5 (ci := 30) rfl 2 (by decide) q311 (fun _ h => h) dJ5_addLast_30 ((gset_ne (by omega)).trans ha) rfl ?_
  refine J_aload_n cx dJ5_addLast_33 rfl ?_
  refine J_alen cx 4 dJ5_addLast_34 rfl gset_eq ?_
  refine J_callS (n := 2) cx [.int (nI (tl9)), .int (nI (17))] (t_J5_inc l Ω tl9 17 (by omega) (by omega)) dJ5_addLast_35 (lw_S q1434 q1119 q92 q1120) ⟨by decide, by decide, by decide +kernel⟩ rfl rfl ⟨Nat.le_of_ble_eq_true rfl, Nat.le_of_ble_eq_true rfl⟩ rfl rfl (Nat.le_of_ble_eq_true rfl) ⟨Nat.le_of_ble_eq_true rfl, Nat.le_of_ble_eq_true rfl⟩ (jdet ?_)
  refine J_dup_x1 cx dJ5_addLast_38 rfl rfl ?_
  refine J_put cx in_J5 tyJ5 tyJ5_ok nmJ5 (ci := 30) rfl 2 (by decide) q311 (fun _ h => h) rfl (ty := .int) (by decide +kernel) dJ5_addLast_39 rfl rfl ((gset_ne (by omega)).trans ha) (Nat.le_of_ble_eq_true rfl) (by omega) ?_
  refine J_mem (gset (gset G ea9 (.inl (Ω.2.1 4, 17, jAq (va_up f9 tl9 (some v9))))) a (.inr (30, [.ref ea9, .int (nI (hd9)), .int (nI (dinc tl9 17))]))) rfl ?_
  refine J_icmpN_ne (tgt := 50) cx dJ5_addLast_42 (by decide) (by omega) (by omega) (fun c42 => ?_) (fun c42 => absurd c42 (hfull))
  exact J_vret cx dJ5_addLast_50 hr ⟨rfl, rfl, rfl⟩ (Nat.le_of_ble_eq_true rfl) (Nat.le_of_ble_eq_true rfl)
theorem t_J5_elementAt (l : Launch) (Ω : jO) {G : Mem} {sz : Nat} {ea9 : Nat} {f9 : Nat → Option Nat} (k9 w9 : Nat) (he : G ea9 = some (.inl (Ω.2.1 4, 17, jAq f9))) (hk : k9 < 17) (hw : f9 k9 = some w9) : Met l yJ5_elementAt (ws_ yJ5_elementAt cJ5_elementAt 2 (some (.object "java/lang/Object"))) ({ frames := 1, cells := 0, slots := 0, locals := 12 } : Room) (va_Pc [.ref ea9, .int (nI (k9))] (jWd Ω G sz)) (jQ Ω (jD (some (.ref w9)) G sz)) 0 0 (jB Ω) := by
  refine jMet (by decide) (Nat.le_of_ble_eq_true rfl) ?_
  intro p e s m args below meth c cx hr hnm
  refine J_loc [some (.ref ea9), some (.int (nI (k9)))] rfl ?_
  refine J_aload_n cx dJ5_elementAt_0 rfl ?_
  refine J_iload_n cx dJ5_elementAt_1 rfl ?_
  refine J_aald cx 4 dJ5_elementAt_2 rfl he (by omega) (by omega) (v := .ref w9) (by rw [hw]; rfl) ?_
  exact J_aret cx dJ5_elementAt_3 hr (Or.inl ⟨_, rfl⟩) (Or.inr ⟨_, rfl⟩) ⟨rfl, rfl, rfl⟩ (Nat.le_of_ble_eq_true rfl) (Nat.le_of_ble_eq_true rfl)
set_option maxHeartbeats 1000000 in
theorem t_J5_pollFirst (l : Launch) (Ω : jO) {G : Mem} {sz : Nat} (a : Nat) {ea9 hd9 tl9 : Nat} {f9 : Nat → Option Nat} (ha : G a = some (.inr (30, [.ref ea9, .int (nI (hd9)), .int (nI (tl9))]))) (he : G ea9 = some (.inl (Ω.2.1 4, 17, jAq f9))) (hhd : hd9 < 17) (htl : tl9 < 17) (w9 : Nat) (hw : f9 hd9 = some w9) (hb : Ω.2.2.2 ≤ a) (hbe : Ω.2.2.2 ≤ ea9) : Met l yJ5_pollFirst (ws_ yJ5_pollFirst cJ5_pollFirst 4 (some (.object "java/lang/Object"))) ({ frames := 2, cells := 0, slots := 0, locals := 33 } : Room) (va_Pc [.ref a] (jWd Ω G sz)) (jQ Ω (jD (some (.ref w9)) (gset (gset G ea9 (.inl (Ω.2.1 4, 17, jAq (va_up f9 hd9 none)))) a (.inr (30, [.ref ea9, .int (nI (dinc hd9 17)), .int (nI (tl9))]))) (sz))) 0 0 (jB Ω) := by
  refine jMet (by decide) (Nat.le_of_ble_eq_true rfl) ?_
  intro p e s m args below meth c cx hr hnm
  refine J_loc [some (.ref a), none, none, none] rfl ?_
  refine J_bs cx (fun hbs9 => ?_)
  refine J_lt ha (fun hlt0 => ?_)
  refine J_lt he (fun hlt1 => ?_)
  have hne0 : a ≠ ea9 := fun e => by have h1 := ha; rw [e, he] at h1; simp at h1
  refine J_aload_n cx dJ5_pollFirst_0 rfl ?_
  refine J_get cx in_J5 (ci := 30) rfl 0 (by decide) q307 (fun _ h => h) dJ5_pollFirst_1 ha rfl ?_
  refine J_dup cx dJ5_pollFirst_4 rfl ?_
  refine J_astore_n1 cx dJ5_pollFirst_5 (by decide) rfl ?_
  refine J_aload_n cx dJ5_pollFirst_6 rfl ?_
  refine J_get cx in_J5 (ci := 30) rfl 1 (by decide) q310 (fun _ h => h) dJ5_pollFirst_7 ha rfl ?_
  refine J_dup cx dJ5_pollFirst_10 rfl ?_
  refine J_istore_n2 cx dJ5_pollFirst_11 (by decide) rfl ?_
  refine J_callS (n := 2) cx [.ref ea9, .int (nI (hd9))] (t_J5_elementAt l Ω hd9 w9 he (by omega) hw) dJ5_pollFirst_12 (lw_S q1960 q1961 q92 q1962) ⟨by decide, by decide, by decide +kernel⟩ rfl rfl ⟨Nat.le_of_ble_eq_true rfl, Nat.le_of_ble_eq_true rfl⟩ rfl rfl (Nat.le_of_ble_eq_true rfl) ⟨Nat.le_of_ble_eq_true rfl, Nat.le_of_ble_eq_true rfl⟩ (jdet ?_)
  refine J_astore_n3 cx dJ5_pollFirst_15 (by decide) rfl ?_
  refine J_aload_n cx dJ5_pollFirst_16 rfl ?_
  refine J_ifnull cx dJ5_pollFirst_17 ?_
  refine J_aload_n cx dJ5_pollFirst_20 rfl ?_
  refine J_iload_n cx dJ5_pollFirst_21 rfl ?_
  refine J_null cx dJ5_pollFirst_22 ?_
  refine J_aastN cx 4 dJ5_pollFirst_23 rfl he (by omega) (by omega) (by omega) ?_
  refine J_mem (gset G ea9 (.inl (Ω.2.1 4, 17, jAq (va_up f9 hd9 none)))) rfl ?_
  refine J_aload_n cx dJ5_pollFirst_24 rfl ?_
  refine J_iload_n cx dJ5_pollFirst_25 rfl ?_
  refine J_aload_n cx dJ5_pollFirst_26 rfl ?_
  refine J_alen cx 4 dJ5_pollFirst_27 rfl gset_eq ?_
  refine J_callS (n := 2) cx [.int (nI (hd9)), .int (nI (17))] (t_J5_inc l Ω hd9 17 (by omega) (by omega)) dJ5_pollFirst_28 (lw_S q1434 q1119 q92 q1120) ⟨by decide, by decide, by decide +kernel⟩ rfl rfl ⟨Nat.le_of_ble_eq_true rfl, Nat.le_of_ble_eq_true rfl⟩ rfl rfl (Nat.le_of_ble_eq_true rfl) ⟨Nat.le_of_ble_eq_true rfl, Nat.le_of_ble_eq_true rfl⟩ (jdet ?_)
  refine J_put cx in_J5 tyJ5 tyJ5_ok nmJ5 (ci := 30) rfl 1 (by decide) q310 (fun _ h => h) rfl (ty := .int) (by decide +kernel) dJ5_pollFirst_31 rfl rfl ((gset_ne (by omega)).trans ha) (Nat.le_of_ble_eq_true rfl) (by omega) ?_
  refine J_mem (gset (gset G ea9 (.inl (Ω.2.1 4, 17, jAq (va_up f9 hd9 none)))) a (.inr (30, [.ref ea9, .int (nI (dinc hd9 17)), .int (nI (tl9))]))) rfl ?_
  refine J_aload_n cx dJ5_pollFirst_34 rfl ?_
  exact J_aret cx dJ5_pollFirst_35 hr (Or.inl ⟨_, rfl⟩) (Or.inr ⟨_, rfl⟩) ⟨rfl, rfl, rfl⟩ (Nat.le_of_ble_eq_true rfl) (Nat.le_of_ble_eq_true rfl)
set_option maxHeartbeats 1000000 in
theorem t_J5_removeFirst (l : Launch) (Ω : jO) {G : Mem} {sz : Nat} (a : Nat) {ea9 hd9 tl9 : Nat} {f9 : Nat → Option Nat} (ha : G a = some (.inr (30, [.ref ea9, .int (nI (hd9)), .int (nI (tl9))]))) (he : G ea9 = some (.inl (Ω.2.1 4, 17, jAq f9))) (hhd : hd9 < 17) (htl : tl9 < 17) (w9 : Nat) (hw : f9 hd9 = some w9) (hb : Ω.2.2.2 ≤ a) (hbe : Ω.2.2.2 ≤ ea9) : Met l yJ5_removeFirst (ws_ yJ5_removeFirst cJ5_removeFirst 2 (some (.object "java/lang/Object"))) ({ frames := 3, cells := 0, slots := 0, locals := 56 } : Room) (va_Pc [.ref a] (jWd Ω G sz)) (jQ Ω (jD (some (.ref w9)) (gset (gset G ea9 (.inl (Ω.2.1 4, 17, jAq (va_up f9 hd9 none)))) a (.inr (30, [.ref ea9, .int (nI (dinc hd9 17)), .int (nI (tl9))]))) (sz))) 0 0 (jB Ω) := by
  refine jMet (by decide) (Nat.le_of_ble_eq_true rfl) ?_
  intro p e s m args below meth c cx hr hnm
  refine J_loc [some (.ref a), none] rfl ?_
  refine J_bs cx (fun hbs9 => ?_)
  refine J_lt ha (fun hlt0 => ?_)
  refine J_lt he (fun hlt1 => ?_)
  have hne0 : a ≠ ea9 := fun e => by have h1 := ha; rw [e, he] at h1; simp at h1
  refine J_aload_n cx dJ5_removeFirst_0 rfl ?_
  refine J_callV (n := 0) cx (ci := 30) [] (t_J5_pollFirst l Ω a ha he (by omega) (by omega) w9 hw (by omega) (by omega)) dJ5_removeFirst_1 (lw_V q1956 q1957 q1958 q92 q1959) ⟨rfl, by decide, by decide, by decide +kernel⟩ rfl ha rfl rfl ⟨Nat.le_of_ble_eq_true rfl, Nat.le_of_ble_eq_true rfl⟩ rfl rfl (Nat.le_of_ble_eq_true rfl) ⟨Nat.le_of_ble_eq_true rfl, Nat.le_of_ble_eq_true rfl⟩ (jdet ?_)
  refine J_mem (gset (gset G ea9 (.inl (Ω.2.1 4, 17, jAq (va_up f9 hd9 none)))) a (.inr (30, [.ref ea9, .int (nI (dinc hd9 17)), .int (nI (tl9))]))) rfl ?_
  refine J_astore_n1 cx dJ5_removeFirst_4 (by decide) rfl ?_
  refine J_aload_n cx dJ5_removeFirst_5 rfl ?_
  refine J_ifnonnull (tgt := 17) cx dJ5_removeFirst_6 (by decide) ?_
  refine J_aload_n cx dJ5_removeFirst_17 rfl ?_
  exact J_aret cx dJ5_removeFirst_18 hr (Or.inl ⟨_, rfl⟩) (Or.inr ⟨_, rfl⟩) ⟨rfl, rfl, rfl⟩ (Nat.le_of_ble_eq_true rfl) (Nat.le_of_ble_eq_true rfl)
