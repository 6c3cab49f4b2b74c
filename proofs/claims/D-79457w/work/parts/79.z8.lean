/-! THE SHELF AGAIN 2 (gen/mk_z8.py): copy -/
set_option maxRecDepth 100000
set_option maxHeartbeats 1000000 in
theorem t_X2_copy (l : Launch) (Ω : jO) {G : Mem} {sz : Nat} (a : Nat) {ra9 : Nat} {f9 : Nat → Option Nat} (ha : G a = some (.inr (2, [.ref ra9]))) (hs : G ra9 = some (.inl (Ω.2.1 5, 8, jAq f9))) : Met l yX2_copy (ws_ yX2_copy cX2_copy 2 (some (.object "TurningWheel$Shelf"))) ({ frames := 2, cells := 3, slots := 17, locals := 32 } : Room) (va_Pc [.ref a] (jWd Ω G sz)) (jQ Ω (jD (some (.ref sz)) (gset (gset (gset G (sz + 1) (.inl (Ω.2.1 5, 8, jAq (fun _ => none)))) (sz + 1 + 1) (.inl (Ω.2.1 5, 8, jAq f9))) sz (.inr (2, [.ref (sz + 1 + 1)]))) (sz + 1 + 1 + 1))) 3 17 (jB Ω) := by
  refine jMet (by decide) (Nat.le_of_ble_eq_true rfl) ?_
  intro p e s m args below meth c cx hr hnm
  refine J_loc [some (.ref a), none] rfl ?_
  refine J_bs cx (fun hbs9 => ?_)
  refine J_lt ha (fun hlt0 => ?_)
  refine J_lt hs (fun hlt1 => ?_)
  refine J_new cx in_X2 tyX2 tyX2_ok q1262 q234 q91 (ci := 2) rfl (fs := [.null]) (by decide +kernel) dX2_copy_0 (Nat.le_of_ble_eq_true rfl) (Nat.le_of_ble_eq_true rfl) ?_
  refine J_dup cx dX2_copy_3 rfl ?_
  refine J_callI (n := 0) cx [] (t_X2_init l Ω sz gset_eq (by omega)) dX2_copy_4 q237 q91 q1263 q236 rfl ⟨by decide, by decide, by decide +kernel⟩ rfl rfl ⟨Nat.le_of_ble_eq_true rfl, Nat.le_of_ble_eq_true rfl⟩ rfl rfl (Nat.le_of_ble_eq_true rfl) ⟨Nat.le_of_ble_eq_true rfl, Nat.le_of_ble_eq_true rfl⟩ (jdet ?_)
  refine J_mem (gset (gset G (sz + 1) (.inl (Ω.2.1 5, 8, jAq (fun _ => none)))) sz (.inr (2, [.ref (sz + 1)]))) (by funext q9; simp only [gset]; by_cases hq9 : q9 = sz <;> simp [hq9]) ?_
  refine J_astore_n1 cx dX2_copy_7 (by decide) rfl ?_
  refine J_aload_n cx dX2_copy_8 rfl ?_
  refine J_aload_n cx dX2_copy_9 rfl ?_
  refine J_get cx in_X2 (ci := 2) rfl 0 (by decide) q241 (fun _ h => h) dX2_copy_10 ((gset_ne (by omega)).trans ((gset_ne (by omega)).trans ha)) rfl ?_
  refine J_cloneW cx dX2_copy_13 q1264 ((gset_ne (by omega)).trans ((gset_ne (by omega)).trans hs)) (Nat.le_of_ble_eq_true rfl) (Nat.le_of_ble_eq_true rfl) (Nat.le_of_ble_eq_true rfl) (Nat.le_of_ble_eq_true rfl) ?_
  refine J_castW cx dX2_copy_16 q1269 gset_eq ?_
  refine J_put cx in_X2 tyX2 tyX2_ok nmX2 (ci := 2) rfl 0 (by decide) q241 (fun _ h => h) rfl (ty := (.array (.object "TurningWheel$Ware"))) (by decide +kernel) dX2_copy_19 rfl rfl ((gset_ne (by omega)).trans gset_eq) (Nat.le_of_ble_eq_true rfl) (by omega) ?_
  refine J_mem (gset (gset (gset G (sz + 1) (.inl (Ω.2.1 5, 8, jAq (fun _ => none)))) (sz + 1 + 1) (.inl (Ω.2.1 5, 8, jAq f9))) sz (.inr (2, [.ref (sz + 1 + 1)]))) (by funext q9; simp only [gset]; by_cases hq9 : q9 = sz <;> simp [hq9]) ?_
  refine J_aload_n cx dX2_copy_22 rfl ?_
  exact J_aret cx dX2_copy_23 hr (Or.inl ⟨_, rfl⟩) (Or.inr ⟨_, rfl⟩) ⟨rfl, rfl, rfl⟩ (Nat.le_of_ble_eq_true rfl) (Nat.le_of_ble_eq_true rfl)
