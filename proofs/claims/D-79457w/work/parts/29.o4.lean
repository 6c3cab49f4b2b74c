/-! OBJECTS 4 (gen/mk_o4.py): Shelf -/
set_option maxRecDepth 100000
theorem t_X2_init (l : Launch) (Ω : jO) {G : Mem} {sz : Nat} (a : Nat) (ha : G a = some (.inr (2, [.null]))) (hb : Ω.2.2.2 ≤ a) : Met l yX2_init (ws_ yX2_init cX2_init 1 none) ({ frames := 1, cells := 1, slots := 8, locals := 12 } : Room) (va_Pc [.ref a] (jWd Ω G sz)) (jQ Ω (jD none (gset (gset G sz (.inl (Ω.2.1 5, 8, jAq (fun _ => none)))) a (.inr (2, [.ref sz]))) (sz + 1))) 1 8 (jB Ω) := by
  refine jMet (by decide) (Nat.le_of_ble_eq_true rfl) ?_
  intro p e s m args below meth c cx hr hnm
  refine J_loc [some (.ref a)] rfl ?_
  refine J_bs cx (fun hbs9 => ?_)
  refine J_lt ha (fun hlt0 => ?_)
  refine J_aload_n cx dX2_init_0 rfl ?_
  refine J_objInit cx dX2_init_1 q238 q170 q171 (Nat.le_of_ble_eq_true rfl) (Nat.le_of_ble_eq_true rfl) ?_
  refine J_aload_n cx dX2_init_4 rfl ?_
  refine J_bipush (v := nI (8)) cx dX2_init_5 (by decide) ?_
  refine J_newq cx 5 dX2_init_7 q239 q240 rfl (by omega) (by decide) (Nat.le_of_ble_eq_true rfl) (Nat.le_of_ble_eq_true rfl) ?_
  refine J_put cx in_X2 tyX2 tyX2_ok nmX2 (ci := 2) rfl 0 (by decide) q241 (fun _ h => h) rfl (ty := (.array (.object "TurningWheel$Ware"))) (by decide +kernel) dX2_init_10 rfl rfl ((gset_ne (by omega)).trans ha) (Nat.le_of_ble_eq_true rfl) (by omega) ?_
  refine J_mem (gset (gset G sz (.inl (Ω.2.1 5, 8, jAq (fun _ => none)))) a (.inr (2, [.ref sz]))) rfl ?_
  exact J_vret cx dX2_init_13 hr ⟨rfl, rfl, rfl⟩ (Nat.le_of_ble_eq_true rfl) (Nat.le_of_ble_eq_true rfl)
theorem t_X2_at (l : Launch) (Ω : jO) {G : Mem} {sz : Nat} (a : Nat) {ra9 : Nat} {f9 : Nat → Option Nat} (ha : G a = some (.inr (2, [.ref ra9]))) (hs : G ra9 = some (.inl (Ω.2.1 5, 8, jAq f9))) (k9 : Nat) (hk8 : k9 < 8) : Met l yX2_at (ws_ yX2_at cX2_at 2 (some (.object "TurningWheel$Ware"))) ({ frames := 1, cells := 0, slots := 0, locals := 12 } : Room) (va_Pc [.ref a, .int (nI (k9))] (jWd Ω G sz)) (jQ Ω (jD (some (va_rf (f9 k9))) G sz)) 0 0 (jB Ω) := by
  refine jMet (by decide) (Nat.le_of_ble_eq_true rfl) ?_
  intro p e s m args below meth c cx hr hnm
  refine J_loc [some (.ref a), some (.int (nI (k9)))] rfl ?_
  refine J_aload_n cx dX2_at_0 rfl ?_
  refine J_get cx in_X2 (ci := 2) rfl 0 (by decide) q241 (fun _ h => h) dX2_at_1 ha rfl ?_
  refine J_iload_n cx dX2_at_4 rfl ?_
  refine J_aald cx 5 dX2_at_5 rfl hs (by omega) (by omega) rfl ?_
  exact J_aret cx dX2_at_6 hr (Or.inl ⟨_, rfl⟩) (by cases f9 k9 with | none => exact Or.inl rfl | some w => exact Or.inr ⟨w, rfl⟩) ⟨rfl, rfl, rfl⟩ (Nat.le_of_ble_eq_true rfl) (Nat.le_of_ble_eq_true rfl)
def S_size (f9 : Nat → Option Nat) : Nat → Int32
  | 0 => nI (0)
  | k + 1 => S_size f9 k + r_bit (match f9 k with | none => nI (0) | some _ => nI (1))
set_option maxHeartbeats 1000000 in
theorem t_X2_size (l : Launch) (Ω : jO) {G : Mem} {sz : Nat} (a : Nat) {ra9 : Nat} {f9 : Nat → Option Nat} (ha : G a = some (.inr (2, [.ref ra9]))) (hs : G ra9 = some (.inl (Ω.2.1 5, 8, jAq f9))) : Met l yX2_size (ws_ yX2_size cX2_size 6 (some .int)) ({ frames := 2, cells := 0, slots := 0, locals := 32 } : Room) (va_Pc [.ref a] (jWd Ω G sz)) (jQ Ω (jD (some (.int (S_size f9 8))) G sz)) 0 0 (jB Ω) := by
  refine jMet (by decide) (Nat.le_of_ble_eq_true rfl) ?_
  intro p e s m args below meth c cx hr hnm
  refine J_loc [some (.ref a), none, none, none, none, none] rfl ?_
  refine J_iconst (v := nI (0)) cx dX2_size_0 (by decide) ?_
  refine J_istore_n1 cx dX2_size_1 (by decide) rfl ?_
  refine J_aload_n cx dX2_size_2 rfl ?_
  refine J_get cx in_X2 (ci := 2) rfl 0 (by decide) q241 (fun _ h => h) dX2_size_3 ha rfl ?_
  refine J_astore_n2 cx dX2_size_6 (by decide) rfl ?_
  refine J_aload_n cx dX2_size_7 rfl ?_
  refine J_alen cx 5 dX2_size_8 rfl hs ?_
  refine J_istore_n3 cx dX2_size_9 (by decide) rfl ?_
  refine J_iconst (v := nI (0)) cx dX2_size_10 (by decide) ?_
  refine J_istore4 cx dX2_size_11 (by decide) rfl ?_
  have K13 : ∀ nk9 k9 : Nat, nk9 + k9 = 8 → J p l e ({ frames := 2, cells := 0, slots := 0, locals := 32 } : Room) s m args below meth c Ω 6 (MQ below (jQ Ω (jD (some (.int (S_size f9 8))) G sz)) args s 0 0 (jB Ω)) 0 0 (sz) G 13 [some (.ref a), some (.int (S_size f9 k9)), some (.ref ra9), some (.int (nI (8))), some (.int (nI (k9))), none] [] := by
    intro nk9
    induction nk9 with
    | zero =>
      intro k9 hk9
      refine J_iload cx dX2_size_13 rfl ?_
      refine J_iload_n cx dX2_size_15 rfl ?_
      refine J_icmpN_ge (tgt := 47) cx dX2_size_16 (by decide) (by omega) (by omega) (fun c16 => ?_) (fun c16 => absurd c16 (by omega))
      refine J_iload_n cx dX2_size_47 rfl ?_
      exact J_iret cx dX2_size_48 hr ⟨by rw [show k9 = 8 by omega], rfl, rfl⟩ (Nat.le_of_ble_eq_true rfl) (Nat.le_of_ble_eq_true rfl)
    | succ nk9 ihk9 =>
      intro k9 hk9
      refine J_iload cx dX2_size_13 rfl ?_
      refine J_iload_n cx dX2_size_15 rfl ?_
      refine J_icmpN_ge (tgt := 47) cx dX2_size_16 (by decide) (by omega) (by omega) (fun c16 => absurd c16 (by omega)) (fun c16 => ?_)
      refine J_aload_n cx dX2_size_19 rfl ?_
      refine J_iload cx dX2_size_20 rfl ?_
      rcases hq22 : f9 k9 with _ | w9
      · refine J_aald cx 5 dX2_size_22 rfl hs (by omega) (by omega) (v := .null) (by rw [hq22]; rfl) ?_
        refine J_astoreN5 cx dX2_size_23 (by decide) rfl ?_
        refine J_iload_n cx dX2_size_25 rfl ?_
        refine J_aloadN cx dX2_size_26 rfl ?_
        refine J_ifnullN (tgt := 35) cx dX2_size_28 (by decide) ?_
        refine J_iconst (v := nI (0)) cx dX2_size_35 (by decide) ?_
        refine J_callSN (n := 1) cx [.int (nI (0))] (t_X0_bit l Ω (nI (0))) dX2_size_36 q1332 q1754 q84 q1331 ⟨by decide, by decide, by decide +kernel⟩ rfl rfl ⟨Nat.le_of_ble_eq_true rfl, Nat.le_of_ble_eq_true rfl⟩ rfl rfl (Nat.le_of_ble_eq_true rfl) ⟨Nat.le_of_ble_eq_true rfl, Nat.le_of_ble_eq_true rfl⟩ (jdet ?_)
        refine J_iadd cx dX2_size_39 ?_
        refine J_istore_n1 cx dX2_size_40 (by decide) rfl ?_
        refine J_iinc4 (v := nI (k9 + 1)) cx dX2_size_41 (nI_1 k9) (by decide) rfl ?_
        refine J_goto (tgt := 13) cx dX2_size_44 (by decide) ?_
        refine J_sub (L1 := [some (.ref a), some (.int (S_size f9 (k9 + 1))), some (.ref ra9), some (.int (nI (8))), some (.int (nI (k9 + 1))), none]) (jsub_s (jsub_e (congrArg Value.int (by simp only [S_size, hq22])) (jsub_s (jsub_s (jsub_s (jsub_n jsub_0)))))) ?_
        exact ihk9 (k9 + 1) (by omega)
      · refine J_aald cx 5 dX2_size_22 rfl hs (by omega) (by omega) (v := .ref w9) (by rw [hq22]; rfl) ?_
        refine J_astore5 cx dX2_size_23 (by decide) rfl ?_
        refine J_iload_n cx dX2_size_25 rfl ?_
        refine J_aload cx dX2_size_26 rfl ?_
        refine J_ifnull cx dX2_size_28 ?_
        refine J_iconst (v := nI (1)) cx dX2_size_31 (by decide) ?_
        refine J_goto (tgt := 36) cx dX2_size_32 (by decide) ?_
        refine J_callSN (n := 1) cx [.int (nI (1))] (t_X0_bit l Ω (nI (1))) dX2_size_36 q1332 q1754 q84 q1331 ⟨by decide, by decide, by decide +kernel⟩ rfl rfl ⟨Nat.le_of_ble_eq_true rfl, Nat.le_of_ble_eq_true rfl⟩ rfl rfl (Nat.le_of_ble_eq_true rfl) ⟨Nat.le_of_ble_eq_true rfl, Nat.le_of_ble_eq_true rfl⟩ (jdet ?_)
        refine J_iadd cx dX2_size_39 ?_
        refine J_istore_n1 cx dX2_size_40 (by decide) rfl ?_
        refine J_iinc4 (v := nI (k9 + 1)) cx dX2_size_41 (nI_1 k9) (by decide) rfl ?_
        refine J_goto (tgt := 13) cx dX2_size_44 (by decide) ?_
        refine J_sub (L1 := [some (.ref a), some (.int (S_size f9 (k9 + 1))), some (.ref ra9), some (.int (nI (8))), some (.int (nI (k9 + 1))), none]) (jsub_s (jsub_e (congrArg Value.int (by simp only [S_size, hq22])) (jsub_s (jsub_s (jsub_s (jsub_n jsub_0)))))) ?_
        exact ihk9 (k9 + 1) (by omega)
  refine J_sub (L1 := [some (.ref a), some (.int (S_size f9 0)), some (.ref ra9), some (.int (nI (8))), some (.int (nI (0))), none]) (jsub_s (jsub_e (congrArg Value.int rfl) (jsub_s (jsub_s (jsub_s (jsub_n jsub_0)))))) ?_
  exact K13 8 0 (by omega)
def S_placeOf (f9 : Nat → Option Nat) (cp9 : Nat → Int32) (p9 : Int32) : Nat → Nat → Int32
  | 0, _ => -1
  | n + 1, k => match f9 k with
    | none => S_placeOf f9 cp9 p9 n (k + 1)
    | some _ => if cp9 k = p9 then nI k else S_placeOf f9 cp9 p9 n (k + 1)
set_option maxHeartbeats 1000000 in
theorem t_X2_placeOf (l : Launch) (Ω : jO) {G : Mem} {sz : Nat} (a : Nat) {ra9 : Nat} {f9 : Nat → Option Nat} (ha : G a = some (.inr (2, [.ref ra9]))) (hs : G ra9 = some (.inl (Ω.2.1 5, 8, jAq f9))) (p9 : Int32) {cp9 : Nat → Int32} {cx9 : Nat → Int32 × Int32} (hws : ∀ k, k < 8 → ∀ w, f9 k = some w → G w = some (wE (cp9 k) (some (cx9 k)))) : Met l yX2_placeOf (ws_ yX2_placeOf cX2_placeOf 3 (some .int)) ({ frames := 2, cells := 0, slots := 0, locals := 32 } : Room) (va_Pc [.ref a, .int p9] (jWd Ω G sz)) (jQ Ω (jD (some (.int (S_placeOf f9 cp9 p9 8 0))) G sz)) 0 0 (jB Ω) := by
  refine jMet (by decide) (Nat.le_of_ble_eq_true rfl) ?_
  intro p e s m args below meth c cx hr hnm
  refine J_loc [some (.ref a), some (.int p9), none] rfl ?_
  refine J_iconst (v := nI (0)) cx dX2_placeOf_0 (by decide) ?_
  refine J_istore_n2 cx dX2_placeOf_1 (by decide) rfl ?_
  have K2 : ∀ nk9 k9 : Nat, nk9 + k9 = 8 → S_placeOf f9 cp9 p9 8 0 = S_placeOf f9 cp9 p9 nk9 k9 → J p l e ({ frames := 2, cells := 0, slots := 0, locals := 32 } : Room) s m args below meth c Ω 3 (MQ below (jQ Ω (jD (some (.int (S_placeOf f9 cp9 p9 8 0))) G sz)) args s 0 0 (jB Ω)) 0 0 (sz) G 2 [some (.ref a), some (.int p9), some (.int (nI (k9)))] [] := by
    intro nk9
    induction nk9 with
    | zero =>
      intro k9 hk9 hinv
      refine J_iload_n cx dX2_placeOf_2 rfl ?_
      refine J_bipush (v := nI (8)) cx dX2_placeOf_3 (by decide) ?_
      refine J_icmpN_ge (tgt := 38) cx dX2_placeOf_5 (by decide) (by omega) (by omega) (fun c5 => ?_) (fun c5 => absurd c5 (by omega))
      refine J_iconst (v := -1) cx dX2_placeOf_38 (by decide) ?_
      exact J_iret cx dX2_placeOf_39 hr ⟨congrArg (fun z => some (Value.int z)) (Eq.symm (hinv.trans (by simp only [S_placeOf, if_neg (Nat.not_lt.mpr c5)]))), rfl, rfl⟩ (Nat.le_of_ble_eq_true rfl) (Nat.le_of_ble_eq_true rfl)
    | succ nk9 ihk9 =>
      intro k9 hk9 hinv
      refine J_iload_n cx dX2_placeOf_2 rfl ?_
      refine J_bipush (v := nI (8)) cx dX2_placeOf_3 (by decide) ?_
      refine J_icmpN_ge (tgt := 38) cx dX2_placeOf_5 (by decide) (by omega) (by omega) (fun c5 => absurd c5 (by omega)) (fun c5 => ?_)
      refine J_aload_n cx dX2_placeOf_8 rfl ?_
      refine J_get cx in_X2 (ci := 2) rfl 0 (by decide) q241 (fun _ h => h) dX2_placeOf_9 ha rfl ?_
      refine J_iload_n cx dX2_placeOf_12 rfl ?_
      rcases hq13 : f9 k9 with _ | w9
      · refine J_aald cx 5 dX2_placeOf_13 rfl hs (by omega) (by omega) (v := .null) (by rw [hq13]; rfl) ?_
        refine J_ifnullN (tgt := 32) cx dX2_placeOf_14 (by decide) ?_
        refine J_iinc2 (v := nI (k9 + 1)) cx dX2_placeOf_32 (nI_1 k9) (by decide) rfl ?_
        refine J_goto (tgt := 2) cx dX2_placeOf_35 (by decide) ?_
        refine J_sub (L1 := [some (.ref a), some (.int p9), some (.int (nI (k9 + 1)))]) (jsub_s (jsub_s (jsub_s jsub_0))) ?_
        exact ihk9 (k9 + 1) (by omega) (hinv.trans (by simp only [S_placeOf, if_pos c5, hq13]))
      · refine J_aald cx 5 dX2_placeOf_13 rfl hs (by omega) (by omega) (v := .ref w9) (by rw [hq13]; rfl) ?_
        refine J_ifnull cx dX2_placeOf_14 ?_
        refine J_aload_n cx dX2_placeOf_17 rfl ?_
        refine J_get cx in_X2 (ci := 2) rfl 0 (by decide) q241 (fun _ h => h) dX2_placeOf_18 ha rfl ?_
        refine J_iload_n cx dX2_placeOf_21 rfl ?_
        refine J_aald cx 5 dX2_placeOf_22 rfl hs (by omega) (by omega) (v := .ref w9) (by rw [hq13]; rfl) ?_
        refine J_w_pot cx dX2_placeOf_23 q1737 (hws k9 (by omega) _ hq13) ⟨Nat.le_of_ble_eq_true rfl, Nat.le_of_ble_eq_true rfl⟩ (Nat.le_of_ble_eq_true rfl) ⟨Nat.le_of_ble_eq_true rfl, Nat.le_of_ble_eq_true rfl⟩ ?_
        refine J_iload_n cx dX2_placeOf_26 rfl ?_
        refine J_icmp_ne (tgt := 32) cx dX2_placeOf_27 (by decide) (fun c27 => ?_) (fun c27 => ?_)
        · refine J_iinc2 (v := nI (k9 + 1)) cx dX2_placeOf_32 (nI_1 k9) (by decide) rfl ?_
          refine J_goto (tgt := 2) cx dX2_placeOf_35 (by decide) ?_
          refine J_sub (L1 := [some (.ref a), some (.int p9), some (.int (nI (k9 + 1)))]) (jsub_s (jsub_s (jsub_s jsub_0))) ?_
          exact ihk9 (k9 + 1) (by omega) (hinv.trans (by simp only [S_placeOf, if_pos c5, hq13, if_neg c27]))
        · refine J_iload_n cx dX2_placeOf_30 rfl ?_
          exact J_iret cx dX2_placeOf_31 hr ⟨congrArg (fun z => some (Value.int z)) (Eq.symm (hinv.trans (by simp only [S_placeOf, if_pos c5, hq13, if_pos c27]))), rfl, rfl⟩ (Nat.le_of_ble_eq_true rfl) (Nat.le_of_ble_eq_true rfl)
  refine J_sub (L1 := [some (.ref a), some (.int p9), some (.int (nI (0)))]) (jsub_s (jsub_s (jsub_s jsub_0))) ?_
  exact K2 8 0 (by omega) rfl
def S_clr (f9 : Nat → Option Nat) (k : Nat) : Nat → Option Nat := fun j => if j < k then none else f9 j
theorem S_clr_0 (f9 : Nat → Option Nat) : S_clr f9 0 = f9 := by funext j; simp [S_clr]
theorem S_clr_1 (f9 : Nat → Option Nat) (k : Nat) : va_up (S_clr f9 k) k none = S_clr f9 (k + 1) := by
  funext j; simp only [S_clr, va_up]; by_cases h : j = k
  · rw [if_pos h, if_pos (by omega)]
  · rw [if_neg h]; by_cases h2 : j < k
    · rw [if_pos h2, if_pos (by omega)]
    · rw [if_neg h2, if_neg (by omega)]
set_option maxHeartbeats 1000000 in
theorem t_X2_clears (l : Launch) (Ω : jO) {G : Mem} {sz : Nat} (a : Nat) {ra9 : Nat} {f9 : Nat → Option Nat} (ha : G a = some (.inr (2, [.ref ra9]))) (hs : G ra9 = some (.inl (Ω.2.1 5, 8, jAq f9))) (hb : Ω.2.2.2 ≤ ra9) : Met l yX2_clears (ws_ yX2_clears cX2_clears 2 none) ({ frames := 1, cells := 0, slots := 0, locals := 12 } : Room) (va_Pc [.ref a] (jWd Ω G sz)) (jQ Ω (jD none (gset G ra9 (.inl (Ω.2.1 5, 8, jAq (S_clr f9 8)))) sz)) 0 0 (jB Ω) := by
  refine jMet (by decide) (Nat.le_of_ble_eq_true rfl) ?_
  intro p e s m args below meth c cx hr hnm
  refine J_loc [some (.ref a), none] rfl ?_
  refine J_bs cx (fun hbs9 => ?_)
  refine J_lt ha (fun hlt0 => ?_)
  refine J_lt hs (fun hlt1 => ?_)
  have hne0 : a ≠ ra9 := fun e => by have h1 := ha; rw [e, hs] at h1; simp at h1
  refine J_iconst (v := nI (0)) cx dX2_clears_0 (by decide) ?_
  refine J_istore_n1 cx dX2_clears_1 (by decide) rfl ?_
  have K2 : ∀ nk9 k9 : Nat, nk9 + k9 = 8 → J p l e ({ frames := 1, cells := 0, slots := 0, locals := 12 } : Room) s m args below meth c Ω 2 (MQ below (jQ Ω (jD none (gset G ra9 (.inl (Ω.2.1 5, 8, jAq (S_clr f9 8)))) sz)) args s 0 0 (jB Ω)) 0 0 (sz) (gset G ra9 (.inl (Ω.2.1 5, 8, jAq (S_clr f9 k9)))) 2 [some (.ref a), some (.int (nI (k9)))] [] := by
    intro nk9
    induction nk9 with
    | zero =>
      intro k9 hk9
      refine J_iload_n cx dX2_clears_2 rfl ?_
      refine J_bipush (v := nI (8)) cx dX2_clears_3 (by decide) ?_
      refine J_icmpN_ge (tgt := 21) cx dX2_clears_5 (by decide) (by omega) (by omega) (fun c5 => ?_) (fun c5 => absurd c5 (by omega))
      exact J_vret cx dX2_clears_21 hr ⟨rfl, by rw [show k9 = 8 by omega], rfl⟩ (Nat.le_of_ble_eq_true rfl) (Nat.le_of_ble_eq_true rfl)
    | succ nk9 ihk9 =>
      intro k9 hk9
      refine J_iload_n cx dX2_clears_2 rfl ?_
      refine J_bipush (v := nI (8)) cx dX2_clears_3 (by decide) ?_
      refine J_icmpN_ge (tgt := 21) cx dX2_clears_5 (by decide) (by omega) (by omega) (fun c5 => absurd c5 (by omega)) (fun c5 => ?_)
      refine J_aload_n cx dX2_clears_8 rfl ?_
      refine J_get cx in_X2 (ci := 2) rfl 0 (by decide) q241 (fun _ h => h) dX2_clears_9 ((gset_ne (by omega)).trans ha) rfl ?_
      refine J_iload_n cx dX2_clears_12 rfl ?_
      refine J_null cx dX2_clears_13 ?_
      refine J_aastN cx 5 dX2_clears_14 rfl gset_eq (by omega) (by omega) (by omega) ?_
      refine J_mem (gset G ra9 (.inl (Ω.2.1 5, 8, jAq (va_up (S_clr f9 k9) k9 none)))) gset_gset ?_
      refine J_iinc1 (v := nI (k9 + 1)) cx dX2_clears_15 (nI_1 k9) (by decide) rfl ?_
      refine J_goto (tgt := 2) cx dX2_clears_18 (by decide) ?_
      refine J_sub (L1 := [some (.ref a), some (.int (nI (k9 + 1)))]) (jsub_s (jsub_s jsub_0)) ?_
      refine J_mem (gset G ra9 (.inl (Ω.2.1 5, 8, jAq (S_clr f9 (k9 + 1))))) (by rw [S_clr_1]) ?_
      exact ihk9 (k9 + 1) (by omega)
  refine J_sub (L1 := [some (.ref a), some (.int (nI (0)))]) (jsub_s (jsub_s jsub_0)) ?_
  refine J_mem (gset G ra9 (.inl (Ω.2.1 5, 8, jAq (S_clr f9 0)))) (by rw [S_clr_0, gset_same hs]) ?_
  exact K2 8 0 (by omega)
