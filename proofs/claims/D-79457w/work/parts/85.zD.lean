/-! JDK 12 (gen/mk_zD.py): List.of of four, ListN.get; turnOf -/
set_option maxRecDepth 100000
theorem t_J6_requireNonNull (l : Launch) (Ω : jO) {G : Mem} {sz : Nat} (q9 : Nat) : Met l yJ6_requireNonNull (ws_ yJ6_requireNonNull cJ6_requireNonNull 1 (some (.object "java/lang/Object"))) ({ frames := 1, cells := 0, slots := 0, locals := 12 } : Room) (va_Pc [.ref q9] (jWd Ω G sz)) (jQ Ω (jD (some (.ref q9)) G sz)) 0 0 (jB Ω) := by
  refine jMet (by decide) (Nat.le_of_ble_eq_true rfl) ?_
  intro p e s m args below meth c cx hr hnm
  refine J_loc [some (.ref q9)] rfl ?_
  refine J_aload_n cx dJ6_requireNonNull_0 rfl ?_
  refine J_ifnonnull (tgt := 12) cx dJ6_requireNonNull_1 (by decide) ?_
  refine J_aload_n cx dJ6_requireNonNull_12 rfl ?_
  exact J_aret cx dJ6_requireNonNull_13 hr (Or.inl ⟨_, rfl⟩) (Or.inr ⟨_, rfl⟩) ⟨rfl, rfl, rfl⟩ (Nat.le_of_ble_eq_true rfl) (Nat.le_of_ble_eq_true rfl)
theorem t_J0_init_LN (l : Launch) (Ω : jO) {G : Mem} {sz : Nat} (a : Nat) (ha : G a = some (.inr (36, [.null, .int 0]))) : Met l yJ0_init (ws_ yJ0_init cJ0_init 1 none) ({ frames := 1, cells := 0, slots := 0, locals := 12 } : Room) (va_Pc [.ref a] (jWd Ω G sz)) (jQ Ω (jD none G sz)) 0 0 (jB Ω) := by
  refine jMet (by decide) (Nat.le_of_ble_eq_true rfl) ?_
  intro p e s m args below meth c cx hr hnm
  refine J_loc [some (.ref a)] rfl ?_
  refine J_aload_n cx dJ0_init_0 rfl ?_
  refine J_objInit cx dJ0_init_1 q189 q170 q171 (Nat.le_of_ble_eq_true rfl) (Nat.le_of_ble_eq_true rfl) ?_
  exact J_vret cx dJ0_init_4 hr ⟨rfl, rfl, rfl⟩ (Nat.le_of_ble_eq_true rfl) (Nat.le_of_ble_eq_true rfl)
theorem t_J38_init_LN (l : Launch) (Ω : jO) {G : Mem} {sz : Nat} (a : Nat) (ha : G a = some (.inr (36, [.null, .int 0]))) : Met l yJ38_init (ws_ yJ38_init cJ38_init 1 none) ({ frames := 2, cells := 0, slots := 0, locals := 32 } : Room) (va_Pc [.ref a] (jWd Ω G sz)) (jQ Ω (jD none G sz)) 0 0 (jB Ω) := by
  refine jMet (by decide) (Nat.le_of_ble_eq_true rfl) ?_
  intro p e s m args below meth c cx hr hnm
  refine J_loc [some (.ref a)] rfl ?_
  refine J_aload_n cx dJ38_init_0 rfl ?_
  refine J_callI (n := 0) cx [] (t_J0_init_LN l Ω a ha) dJ38_init_1 q188 q86 q2331 q187 rfl ⟨by decide, by decide, by decide +kernel⟩ rfl rfl ⟨Nat.le_of_ble_eq_true rfl, Nat.le_of_ble_eq_true rfl⟩ rfl rfl (Nat.le_of_ble_eq_true rfl) ⟨Nat.le_of_ble_eq_true rfl, Nat.le_of_ble_eq_true rfl⟩ (jdet ?_)
  exact J_vret cx dJ38_init_4 hr ⟨rfl, rfl, rfl⟩ (Nat.le_of_ble_eq_true rfl) (Nat.le_of_ble_eq_true rfl)
theorem t_J39_init_LN (l : Launch) (Ω : jO) {G : Mem} {sz : Nat} (a : Nat) (ha : G a = some (.inr (36, [.null, .int 0]))) : Met l yJ39_init (ws_ yJ39_init cJ39_init 1 none) ({ frames := 3, cells := 0, slots := 0, locals := 52 } : Room) (va_Pc [.ref a] (jWd Ω G sz)) (jQ Ω (jD none G sz)) 0 0 (jB Ω) := by
  refine jMet (by decide) (Nat.le_of_ble_eq_true rfl) ?_
  intro p e s m args below meth c cx hr hnm
  refine J_loc [some (.ref a)] rfl ?_
  refine J_aload_n cx dJ39_init_0 rfl ?_
  refine J_callI (n := 0) cx [] (t_J38_init_LN l Ω a ha) dJ39_init_1 q2330 q152 q2328 q2329 rfl ⟨by decide, by decide, by decide +kernel⟩ rfl rfl ⟨Nat.le_of_ble_eq_true rfl, Nat.le_of_ble_eq_true rfl⟩ rfl rfl (Nat.le_of_ble_eq_true rfl) ⟨Nat.le_of_ble_eq_true rfl, Nat.le_of_ble_eq_true rfl⟩ (jdet ?_)
  exact J_vret cx dJ39_init_4 hr ⟨rfl, rfl, rfl⟩ (Nat.le_of_ble_eq_true rfl) (Nat.le_of_ble_eq_true rfl)
theorem t_J41_init (l : Launch) (Ω : jO) {G : Mem} {sz : Nat} (a ea9 : Nat) {n9 : Nat} {f9 : Nat → Option Nat} (ha : G a = some (.inr (36, [.null, .int 0]))) (he : G ea9 = some (.inl (Ω.2.1 4, n9, jAq f9))) (hb : Ω.2.2.2 ≤ a) : Met l yJ41_init (ws_ yJ41_init cJ41_init 3 none) ({ frames := 4, cells := 0, slots := 0, locals := 72 } : Room) (va_Pc [.ref a, .ref ea9, .int (nI (0))] (jWd Ω G sz)) (jQ Ω (jD none (gset G a (.inr (36, [.ref ea9, .int (nI (0))]))) (sz))) 0 0 (jB Ω) := by
  refine jMet (by decide) (Nat.le_of_ble_eq_true rfl) ?_
  intro p e s m args below meth c cx hr hnm
  refine J_loc [some (.ref a), some (.ref ea9), some (.int (nI (0)))] rfl ?_
  refine J_bs cx (fun hbs9 => ?_)
  refine J_lt ha (fun hlt0 => ?_)
  refine J_lt he (fun hlt1 => ?_)
  refine J_aload_n cx dJ41_init_0 rfl ?_
  refine J_callI (n := 0) cx [] (t_J39_init_LN l Ω a ha) dJ41_init_1 q2327 q153 q2348 q2326 rfl ⟨by decide, by decide, by decide +kernel⟩ rfl rfl ⟨Nat.le_of_ble_eq_true rfl, Nat.le_of_ble_eq_true rfl⟩ rfl rfl (Nat.le_of_ble_eq_true rfl) ⟨Nat.le_of_ble_eq_true rfl, Nat.le_of_ble_eq_true rfl⟩ (jdet ?_)
  refine J_aload_n cx dJ41_init_4 rfl ?_
  refine J_aload_n cx dJ41_init_5 rfl ?_
  refine J_putF cx in_J41 tyJ41 tyJ41_ok nmJ41 (ci := 36) rfl 0 (by decide) q2349 (fun _ h => h) rfl rfl hnm (ty := (.array (.object "java/lang/Object"))) (by decide +kernel) dJ41_init_6 rfl rfl ha (Nat.le_of_ble_eq_true rfl) (by omega) ?_
  refine J_mem (gset G a (.inr (36, [.ref ea9, .int 0]))) rfl ?_
  refine J_aload_n cx dJ41_init_9 rfl ?_
  refine J_iload_n cx dJ41_init_10 rfl ?_
  refine J_putF cx in_J41 tyJ41 tyJ41_ok nmJ41 (ci := 36) rfl 1 (by decide) q2350 (fun _ h => h) rfl rfl hnm (ty := .boolean) (by decide +kernel) dJ41_init_11 rfl rfl gset_eq (Nat.le_of_ble_eq_true rfl) (by omega) ?_
  refine J_mem (gset G a (.inr (36, [.ref ea9, .int (nI (0))]))) gset_gset ?_
  exact J_vret cx dJ41_init_14 hr ⟨rfl, rfl, rfl⟩ (Nat.le_of_ble_eq_true rfl) (Nat.le_of_ble_eq_true rfl)
set_option maxHeartbeats 1000000 in
theorem t_J24_listFromTrustedArray (l : Launch) (Ω : jO) {G : Mem} {sz : Nat} (ea9 : Nat) {f9 : Nat → Option Nat} (he : G ea9 = some (.inl (Ω.2.1 4, 4, jAq f9))) (hf : ∀ k, k < 4 → ∃ q, f9 k = some q) : Met l yJ24_listFromTrustedArray (ws_ yJ24_listFromTrustedArray cJ24_listFromTrustedArray 5 (some (.object "java/util/List"))) ({ frames := 5, cells := 1, slots := 2, locals := 94 } : Room) (va_Pc [.ref ea9] (jWd Ω G sz)) (jQ Ω (jD (some (.ref sz)) (gset G sz (.inr (36, [.ref ea9, .int (nI (0))]))) (sz + 1))) 1 2 (jB Ω) := by
  refine jMet (by decide) (Nat.le_of_ble_eq_true rfl) ?_
  intro p e s m args below meth c cx hr hnm
  refine J_loc [some (.ref ea9), none, none, none, none] rfl ?_
  refine J_bs cx (fun hbs9 => ?_)
  refine J_lt he (fun hlt0 => ?_)
  refine J_gets cx cx.sta.2.2.2.2.2.2.2.1 dJ24_listFromTrustedArray_0 q2311 (fun _ h => h) ?_
  refine J_if_ne (tgt := 23) cx dJ24_listFromTrustedArray_3 (by decide) (fun c3 => ?_) (fun c3 => absurd c3 (by decide))
  refine J_aload_n cx dJ24_listFromTrustedArray_23 rfl ?_
  refine J_astore_n1 cx dJ24_listFromTrustedArray_24 (by decide) rfl ?_
  refine J_aload_n cx dJ24_listFromTrustedArray_25 rfl ?_
  refine J_alen cx 4 dJ24_listFromTrustedArray_26 rfl he ?_
  refine J_istore_n2 cx dJ24_listFromTrustedArray_27 (by decide) rfl ?_
  refine J_iconst (v := nI (0)) cx dJ24_listFromTrustedArray_28 (by decide) ?_
  refine J_istore_n3 cx dJ24_listFromTrustedArray_29 (by decide) rfl ?_
  have K30 : ∀ nk9 k9 : Nat, nk9 + k9 = 4 → J p l e ({ frames := 5, cells := 1, slots := 2, locals := 94 } : Room) s m args below meth c Ω 5 (MQ below (jQ Ω (jD (some (.ref sz)) (gset G sz (.inr (36, [.ref ea9, .int (nI (0))]))) (sz + 1))) args s 1 2 (jB Ω)) 0 0 (sz) G 30 [some (.ref ea9), some (.ref ea9), some (.int (nI (4))), some (.int (nI (k9))), none] [] := by
    intro nk9
    induction nk9 with
    | zero =>
      intro k9 hk9
      refine J_iload_n cx dJ24_listFromTrustedArray_30 rfl ?_
      refine J_iload_n cx dJ24_listFromTrustedArray_31 rfl ?_
      refine J_icmpN_ge (tgt := 52) cx dJ24_listFromTrustedArray_32 (by decide) (by omega) (by omega) (fun c32 => ?_) (fun c32 => absurd c32 (by omega))
      refine J_aload_n cx dJ24_listFromTrustedArray_52 rfl ?_
      refine J_alen cx 4 dJ24_listFromTrustedArray_53 rfl he ?_
      refine J_tableOut (tgt := 115) cx dJ24_listFromTrustedArray_54 (Or.inr (by show (2 : Int) < (nI 4).toInt; decide)) (by decide) ?_
      refine J_new cx in_J41 tyJ41 tyJ41_ok q2343 q2344 q155 (ci := 36) rfl (fs := [.null, .int 0]) (by decide +kernel) dJ24_listFromTrustedArray_115 (Nat.le_of_ble_eq_true rfl) (Nat.le_of_ble_eq_true rfl) ?_
      refine J_dup cx dJ24_listFromTrustedArray_118 rfl ?_
      refine J_aload_n cx dJ24_listFromTrustedArray_119 rfl ?_
      refine J_iconst (v := nI (0)) cx dJ24_listFromTrustedArray_120 (by decide) ?_
      refine J_callIN (n := 2) cx [.ref ea9, .int (nI (0))] (t_J41_init l Ω sz ea9 gset_eq ((gset_ne (by omega)).trans he) (by omega)) dJ24_listFromTrustedArray_121 q2347 q155 q2345 q2346 rfl ⟨by decide, by decide, by decide +kernel⟩ rfl rfl ⟨Nat.le_of_ble_eq_true rfl, Nat.le_of_ble_eq_true rfl⟩ rfl rfl (Nat.le_of_ble_eq_true rfl) ⟨Nat.le_of_ble_eq_true rfl, Nat.le_of_ble_eq_true rfl⟩ (jdet ?_)
      refine J_mem (gset G sz (.inr (36, [.ref ea9, .int (nI (0))]))) gset_gset ?_
      exact J_aret cx dJ24_listFromTrustedArray_124 hr (Or.inl ⟨_, rfl⟩) (Or.inr ⟨_, rfl⟩) ⟨rfl, rfl, rfl⟩ (Nat.le_of_ble_eq_true rfl) (Nat.le_of_ble_eq_true rfl)
    | succ nk9 ihk9 =>
      intro k9 hk9
      obtain ⟨w9, hw9⟩ := hf k9 (by omega)
      refine J_iload_n cx dJ24_listFromTrustedArray_30 rfl ?_
      refine J_iload_n cx dJ24_listFromTrustedArray_31 rfl ?_
      refine J_icmpN_ge (tgt := 52) cx dJ24_listFromTrustedArray_32 (by decide) (by omega) (by omega) (fun c32 => absurd c32 (by omega)) (fun c32 => ?_)
      refine J_aload_n cx dJ24_listFromTrustedArray_35 rfl ?_
      refine J_iload_n cx dJ24_listFromTrustedArray_36 rfl ?_
      refine J_aald cx 4 dJ24_listFromTrustedArray_37 rfl he (by omega) (by omega) (v := .ref w9) (by rw [hw9]; rfl) ?_
      refine J_astore4 cx dJ24_listFromTrustedArray_38 (by decide) rfl ?_
      refine J_aload cx dJ24_listFromTrustedArray_40 rfl ?_
      refine J_callS (n := 1) cx [.ref w9] (t_J6_requireNonNull l Ω w9) dJ24_listFromTrustedArray_42 (lw_S q2315 q2316 q97 q2317) ⟨by decide, by decide, by decide +kernel⟩ rfl rfl ⟨Nat.le_of_ble_eq_true rfl, Nat.le_of_ble_eq_true rfl⟩ rfl rfl (Nat.le_of_ble_eq_true rfl) ⟨Nat.le_of_ble_eq_true rfl, Nat.le_of_ble_eq_true rfl⟩ (jdet ?_)
      refine J_pop cx dJ24_listFromTrustedArray_45 rfl ?_
      refine J_iinc3 (v := nI (k9 + 1)) cx dJ24_listFromTrustedArray_46 (nI_1 k9) (by decide) rfl ?_
      refine J_goto (tgt := 30) cx dJ24_listFromTrustedArray_49 (by decide) ?_
      refine J_sub (L1 := [some (.ref ea9), some (.ref ea9), some (.int (nI (4))), some (.int (nI (k9 + 1))), none]) (jsub_s (jsub_s (jsub_s (jsub_s (jsub_n jsub_0))))) ?_
      exact ihk9 (k9 + 1) (by omega)
  refine J_sub (L1 := [some (.ref ea9), some (.ref ea9), some (.int (nI (4))), some (.int (nI (0))), none]) (jsub_s (jsub_s (jsub_s (jsub_s (jsub_n jsub_0))))) ?_
  exact K30 4 0 (by omega)
set_option maxHeartbeats 1000000 in
theorem t_J37_of (l : Launch) (Ω : jO) {G : Mem} {sz : Nat} (q0 q1 q2 q3 : Nat) {ci0 : Nat} {r0 : vw_C} {fs0 : List Value} (hc0 : vwCl[ci0]? = some r0) (ho0 : G q0 = some (.inr (ci0, fs0))) (hs0 : Cond.castable r0.1 "java/lang/Object" ∈ lw_tbl) {ci1 : Nat} {r1 : vw_C} {fs1 : List Value} (hc1 : vwCl[ci1]? = some r1) (ho1 : G q1 = some (.inr (ci1, fs1))) (hs1 : Cond.castable r1.1 "java/lang/Object" ∈ lw_tbl) {ci2 : Nat} {r2 : vw_C} {fs2 : List Value} (hc2 : vwCl[ci2]? = some r2) (ho2 : G q2 = some (.inr (ci2, fs2))) (hs2 : Cond.castable r2.1 "java/lang/Object" ∈ lw_tbl) {ci3 : Nat} {r3 : vw_C} {fs3 : List Value} (hc3 : vwCl[ci3]? = some r3) (ho3 : G q3 = some (.inr (ci3, fs3))) (hs3 : Cond.castable r3.1 "java/lang/Object" ∈ lw_tbl) : Met l yJ37_of (ws_ yJ37_of cJ37_of 4 (some (.object "java/util/List"))) ({ frames := 6, cells := 2, slots := 6, locals := 118 } : Room) (va_Pc [.ref q0, .ref q1, .ref q2, .ref q3] (jWd Ω G sz)) (jQ Ω (jD (some (.ref (sz + 1))) (gset (gset G sz (.inl (Ω.2.1 4, 4, jAq (va_up (va_up (va_up (va_up (fun _ => none) 0 (some q0)) 1 (some q1)) 2 (some q2)) 3 (some q3))))) (sz + 1) (.inr (36, [.ref sz, .int (nI (0))]))) (sz + 1 + 1))) 2 6 (jB Ω) := by
  refine jMet (by decide) (Nat.le_of_ble_eq_true rfl) ?_
  intro p e s m args below meth c cx hr hnm
  refine J_loc [some (.ref q0), some (.ref q1), some (.ref q2), some (.ref q3)] rfl ?_
  refine J_bs cx (fun hbs9 => ?_)
  refine J_lt ho0 (fun hlt0 => ?_)
  refine J_lt ho1 (fun hlt1 => ?_)
  refine J_lt ho2 (fun hlt2 => ?_)
  refine J_lt ho3 (fun hlt3 => ?_)
  refine J_iconst (v := nI (4)) cx dJ37_of_0 (by decide) ?_
  refine J_newq cx 4 dJ37_of_1 q2307 q306 rfl (by omega) (by decide) (Nat.le_of_ble_eq_true rfl) (Nat.le_of_ble_eq_true rfl) ?_
  refine J_dup cx dJ37_of_4 rfl ?_
  refine J_iconst (v := nI (0)) cx dJ37_of_5 (by decide) ?_
  refine J_aload_n cx dJ37_of_6 rfl ?_
  refine J_aast cx 4 dJ37_of_7 rfl gset_eq (ci := ci0) hc0 ((gset_ne (by omega)).trans ho0) hs0 (by omega) (by omega) (by omega) ?_
  refine J_mem (gset G sz (.inl (Ω.2.1 4, 4, jAq (va_up (fun _ => none) 0 (some q0))))) gset_gset ?_
  refine J_dup cx dJ37_of_8 rfl ?_
  refine J_iconst (v := nI (1)) cx dJ37_of_9 (by decide) ?_
  refine J_aload_n cx dJ37_of_10 rfl ?_
  refine J_aast cx 4 dJ37_of_11 rfl gset_eq (ci := ci1) hc1 ((gset_ne (by omega)).trans ho1) hs1 (by omega) (by omega) (by omega) ?_
  refine J_mem (gset G sz (.inl (Ω.2.1 4, 4, jAq (va_up (va_up (fun _ => none) 0 (some q0)) 1 (some q1))))) gset_gset ?_
  refine J_dup cx dJ37_of_12 rfl ?_
  refine J_iconst (v := nI (2)) cx dJ37_of_13 (by decide) ?_
  refine J_aload_n cx dJ37_of_14 rfl ?_
  refine J_aast cx 4 dJ37_of_15 rfl gset_eq (ci := ci2) hc2 ((gset_ne (by omega)).trans ho2) hs2 (by omega) (by omega) (by omega) ?_
  refine J_mem (gset G sz (.inl (Ω.2.1 4, 4, jAq (va_up (va_up (va_up (fun _ => none) 0 (some q0)) 1 (some q1)) 2 (some q2))))) gset_gset ?_
  refine J_dup cx dJ37_of_16 rfl ?_
  refine J_iconst (v := nI (3)) cx dJ37_of_17 (by decide) ?_
  refine J_aload_n cx dJ37_of_18 rfl ?_
  refine J_aast cx 4 dJ37_of_19 rfl gset_eq (ci := ci3) hc3 ((gset_ne (by omega)).trans ho3) hs3 (by omega) (by omega) (by omega) ?_
  refine J_mem (gset G sz (.inl (Ω.2.1 4, 4, jAq (va_up (va_up (va_up (va_up (fun _ => none) 0 (some q0)) 1 (some q1)) 2 (some q2)) 3 (some q3))))) gset_gset ?_
  refine J_callS (n := 1) cx [.ref sz] (t_J24_listFromTrustedArray l Ω sz gset_eq (fun k hk => by rcases (show k = 0 ∨ k = 1 ∨ k = 2 ∨ k = 3 by omega) with h | h | h | h <;> subst h <;> exact ⟨_, rfl⟩)) dJ37_of_20 (lw_S q2308 q2309 q120 q2310) ⟨by decide, by decide, by decide +kernel⟩ rfl rfl ⟨Nat.le_of_ble_eq_true rfl, Nat.le_of_ble_eq_true rfl⟩ rfl rfl (Nat.le_of_ble_eq_true rfl) ⟨Nat.le_of_ble_eq_true rfl, Nat.le_of_ble_eq_true rfl⟩ (jdet ?_)
  refine J_mem (gset (gset G sz (.inl (Ω.2.1 4, 4, jAq (va_up (va_up (va_up (va_up (fun _ => none) 0 (some q0)) 1 (some q1)) 2 (some q2)) 3 (some q3))))) (sz + 1) (.inr (36, [.ref sz, .int (nI (0))]))) rfl ?_
  exact J_aret cx dJ37_of_23 hr (Or.inl ⟨_, rfl⟩) (Or.inr ⟨_, rfl⟩) ⟨rfl, rfl, rfl⟩ (Nat.le_of_ble_eq_true rfl) (Nat.le_of_ble_eq_true rfl)
theorem t_J41_get (l : Launch) (Ω : jO) {G : Mem} {sz : Nat} (a ea9 : Nat) {f9 : Nat → Option Nat} (ha : G a = some (.inr (36, [.ref ea9, .int (nI (0))]))) (he : G ea9 = some (.inl (Ω.2.1 4, 4, jAq f9))) (i9 : Nat) (hi : i9 < 4) : Met l yJ41_get (ws_ yJ41_get cJ41_get 2 (some (.object "java/lang/Object"))) ({ frames := 1, cells := 0, slots := 0, locals := 12 } : Room) (va_Pc [.ref a, .int (nI (i9))] (jWd Ω G sz)) (jQ Ω (jD (some (va_rf (f9 i9))) G sz)) 0 0 (jB Ω) := by
  refine jMet (by decide) (Nat.le_of_ble_eq_true rfl) ?_
  intro p e s m args below meth c cx hr hnm
  refine J_loc [some (.ref a), some (.int (nI (i9)))] rfl ?_
  refine J_aload_n cx dJ41_get_0 rfl ?_
  refine J_get cx in_J41 (ci := 36) rfl 0 (by decide) q2349 (fun _ h => h) dJ41_get_1 ha rfl ?_
  refine J_iload_n cx dJ41_get_4 rfl ?_
  refine J_aald cx 4 dJ41_get_5 rfl he (by omega) (by omega) rfl ?_
  exact J_aret cx dJ41_get_6 hr (Or.inl ⟨_, rfl⟩) (by cases f9 i9 with | none => exact Or.inl rfl | some q => exact Or.inr ⟨q, rfl⟩) ⟨rfl, rfl, rfl⟩ (Nat.le_of_ble_eq_true rfl) (Nat.le_of_ble_eq_true rfl)
