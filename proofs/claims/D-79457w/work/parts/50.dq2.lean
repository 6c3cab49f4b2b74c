/-! JDK 10 (gen/mk_x3.py): ArrayDeque's rest; the deque as one fact -/
set_option maxRecDepth 100000
def ddec (i : Nat) : Nat := if i = 0 then 16 else i - 1
theorem ddec1 : ∀ i : Nat, i < 17 → ¬ i = 0 → nI i + -1 = nI (i - 1) := by decide +kernel
theorem t_J5_dec_A (l : Launch) (Ω : jO) {G : Mem} {sz : Nat} (i9 : Nat) (hi : i9 < 17) (hi0 : ¬ i9 = 0) : Met l yJ5_dec (ws_ yJ5_dec cJ5_dec 2 (some .int)) ({ frames := 1, cells := 0, slots := 0, locals := 12 } : Room) (va_Pc [.int (nI (i9)), .int (nI (17))] (jWd Ω G sz)) (jQ Ω (jD (some (.int (nI (ddec i9)))) G sz)) 0 0 (jB Ω) := by
  refine jMet (by decide) (Nat.le_of_ble_eq_true rfl) ?_
  intro p e s m args below meth c cx hr hnm
  refine J_loc [some (.int (nI (i9))), some (.int (nI (17)))] rfl ?_
  refine J_iinc0 (v := (nI (i9)) + -1) cx dJ5_dec_0 (by rfl) (by decide) ?_
  refine J_loc [some (.int (nI (i9 - 1))), some (.int (nI (17)))] (by rw [← ddec1 i9 hi hi0]) ?_
  refine J_iload_n cx dJ5_dec_3 rfl ?_
  refine J_if_ge (tgt := 11) cx dJ5_dec_4 (by decide) (fun c4 => ?_) (fun c4 => absurd c4 ((fun q => q (nI_pos' (by omega)))))
  refine J_iload_n cx dJ5_dec_11 rfl ?_
  exact J_iret cx dJ5_dec_12 hr ⟨by simp only [ddec, if_neg hi0], rfl, rfl⟩ (Nat.le_of_ble_eq_true rfl) (Nat.le_of_ble_eq_true rfl)
theorem t_J5_dec_B (l : Launch) (Ω : jO) {G : Mem} {sz : Nat}  : Met l yJ5_dec (ws_ yJ5_dec cJ5_dec 2 (some .int)) ({ frames := 1, cells := 0, slots := 0, locals := 12 } : Room) (va_Pc [.int (nI (0)), .int (nI (17))] (jWd Ω G sz)) (jQ Ω (jD (some (.int (nI (ddec 0)))) G sz)) 0 0 (jB Ω) := by
  refine jMet (by decide) (Nat.le_of_ble_eq_true rfl) ?_
  intro p e s m args below meth c cx hr hnm
  refine J_loc [some (.int (nI (0))), some (.int (nI (17)))] rfl ?_
  refine J_iinc0 (v := (nI (0)) + -1) cx dJ5_dec_0 (by rfl) (by decide) ?_
  refine J_loc [some (.int (-1)), some (.int (nI (17)))] rfl ?_
  refine J_iload_n cx dJ5_dec_3 rfl ?_
  refine J_if_ge (tgt := 11) cx dJ5_dec_4 (by decide) (fun c4 => absurd c4 (by decide)) (fun c4 => ?_)
  refine J_iload_n cx dJ5_dec_7 rfl ?_
  refine J_iconst (v := nI (1)) cx dJ5_dec_8 (by decide) ?_
  refine J_isubN cx dJ5_dec_9 (by omega) ?_
  refine J_istore_n0 cx dJ5_dec_10 (by decide) ?_
  refine J_iload_n cx dJ5_dec_11 rfl ?_
  exact J_iret cx dJ5_dec_12 hr ⟨rfl, rfl, rfl⟩ (Nat.le_of_ble_eq_true rfl) (Nat.le_of_ble_eq_true rfl)
theorem t_J5_dec (l : Launch) (Ω : jO) {G : Mem} {sz : Nat} (i9 : Nat) (hi : i9 < 17) : Met l yJ5_dec (ws_ yJ5_dec cJ5_dec 2 (some .int)) ({ frames := 1, cells := 0, slots := 0, locals := 12 } : Room) (va_Pc [.int (nI i9), .int (nI (17))] (jWd Ω G sz)) (jQ Ω (jD (some (.int (nI (ddec i9)))) G sz)) 0 0 (jB Ω) := by
  by_cases h : i9 = 0
  · subst h; exact t_J5_dec_B l Ω
  · exact t_J5_dec_A l Ω i9 hi h
set_option maxHeartbeats 1000000 in
theorem t_J5_pollLast (l : Launch) (Ω : jO) {G : Mem} {sz : Nat} (a : Nat) {ea9 hd9 tl9 : Nat} {f9 : Nat → Option Nat} (ha : G a = some (.inr (30, [.ref ea9, .int (nI (hd9)), .int (nI (tl9))]))) (he : G ea9 = some (.inl (Ω.2.1 4, 17, jAq f9))) (hhd : hd9 < 17) (htl : tl9 < 17) (w9 : Nat) (hw : f9 (ddec tl9) = some w9) (hb : Ω.2.2.2 ≤ a) (hbe : Ω.2.2.2 ≤ ea9) : Met l yJ5_pollLast (ws_ yJ5_pollLast cJ5_pollLast 4 (some (.object "java/lang/Object"))) ({ frames := 2, cells := 0, slots := 0, locals := 33 } : Room) (va_Pc [.ref a] (jWd Ω G sz)) (jQ Ω (jD (some (.ref w9)) (gset (gset G a (.inr (30, [.ref ea9, .int (nI (hd9)), .int (nI (ddec tl9))]))) ea9 (.inl (Ω.2.1 4, 17, jAq (va_up f9 (ddec tl9) none)))) (sz))) 0 0 (jB Ω) := by
  refine jMet (by decide) (Nat.le_of_ble_eq_true rfl) ?_
  intro p e s m args below meth c cx hr hnm
  refine J_loc [some (.ref a), none, none, none] rfl ?_
  have hdd : ddec tl9 < 17 := by simp only [ddec]; split <;> omega
  refine J_bs cx (fun hbs9 => ?_)
  refine J_lt ha (fun hlt0 => ?_)
  refine J_lt he (fun hlt1 => ?_)
  have hne0 : a ≠ ea9 := fun e => by have h1 := ha; rw [e, he] at h1; simp at h1
  refine J_aload_n cx dJ5_pollLast_0 rfl ?_
  refine J_get cx in_J5 (ci := 30) rfl 0 (by decide) q307 (fun _ h => h) dJ5_pollLast_1 ha rfl ?_
  refine J_dup cx dJ5_pollLast_4 rfl ?_
  refine J_astore_n1 cx dJ5_pollLast_5 (by decide) rfl ?_
  refine J_aload_n cx dJ5_pollLast_6 rfl ?_
  refine J_get cx in_J5 (ci := 30) rfl 2 (by decide) q311 (fun _ h => h) dJ5_pollLast_7 ha rfl ?_
  refine J_aload_n cx dJ5_pollLast_10 rfl ?_
  refine J_alen cx 4 dJ5_pollLast_11 rfl he ?_
  refine J_callS (n := 2) cx [.int (nI (tl9)), .int (nI (17))] (t_J5_dec l Ω tl9 (by omega)) dJ5_pollLast_12 (lw_S q1435 q1436 q92 q1437) ⟨by decide, by decide, by decide +kernel⟩ rfl rfl ⟨Nat.le_of_ble_eq_true rfl, Nat.le_of_ble_eq_true rfl⟩ rfl rfl (Nat.le_of_ble_eq_true rfl) ⟨Nat.le_of_ble_eq_true rfl, Nat.le_of_ble_eq_true rfl⟩ (jdet ?_)
  refine J_dup cx dJ5_pollLast_15 rfl ?_
  refine J_istore_n2 cx dJ5_pollLast_16 (by decide) rfl ?_
  refine J_callS (n := 2) cx [.ref ea9, .int (nI (ddec tl9))] (t_J5_elementAt l Ω (ddec tl9) w9 he (by omega) hw) dJ5_pollLast_17 (lw_S q1960 q1961 q92 q1962) ⟨by decide, by decide, by decide +kernel⟩ rfl rfl ⟨Nat.le_of_ble_eq_true rfl, Nat.le_of_ble_eq_true rfl⟩ rfl rfl (Nat.le_of_ble_eq_true rfl) ⟨Nat.le_of_ble_eq_true rfl, Nat.le_of_ble_eq_true rfl⟩ (jdet ?_)
  refine J_astore_n3 cx dJ5_pollLast_20 (by decide) rfl ?_
  refine J_aload_n cx dJ5_pollLast_21 rfl ?_
  refine J_ifnull cx dJ5_pollLast_22 ?_
  refine J_aload_n cx dJ5_pollLast_25 rfl ?_
  refine J_aload_n cx dJ5_pollLast_26 rfl ?_
  refine J_iload_n cx dJ5_pollLast_27 rfl ?_
  refine J_dup_x1 cx dJ5_pollLast_28 rfl rfl ?_
  refine J_put cx in_J5 tyJ5 tyJ5_ok nmJ5 (ci := 30) rfl 2 (by decide) q311 (fun _ h => h) rfl (ty := .int) (by decide +kernel) dJ5_pollLast_29 rfl rfl ha (Nat.le_of_ble_eq_true rfl) (by omega) ?_
  refine J_mem (gset G a (.inr (30, [.ref ea9, .int (nI (hd9)), .int (nI (ddec tl9))]))) rfl ?_
  refine J_null cx dJ5_pollLast_32 ?_
  refine J_aastN cx 4 dJ5_pollLast_33 rfl ((gset_ne (by omega)).trans he) (by omega) (by omega) (by omega) ?_
  refine J_mem (gset (gset G a (.inr (30, [.ref ea9, .int (nI (hd9)), .int (nI (ddec tl9))]))) ea9 (.inl (Ω.2.1 4, 17, jAq (va_up f9 (ddec tl9) none)))) rfl ?_
  refine J_aload_n cx dJ5_pollLast_34 rfl ?_
  exact J_aret cx dJ5_pollLast_35 hr (Or.inl ⟨_, rfl⟩) (Or.inr ⟨_, rfl⟩) ⟨rfl, rfl, rfl⟩ (Nat.le_of_ble_eq_true rfl) (Nat.le_of_ble_eq_true rfl)
set_option maxHeartbeats 1000000 in
theorem t_J5_removeLast (l : Launch) (Ω : jO) {G : Mem} {sz : Nat} (a : Nat) {ea9 hd9 tl9 : Nat} {f9 : Nat → Option Nat} (ha : G a = some (.inr (30, [.ref ea9, .int (nI (hd9)), .int (nI (tl9))]))) (he : G ea9 = some (.inl (Ω.2.1 4, 17, jAq f9))) (hhd : hd9 < 17) (htl : tl9 < 17) (w9 : Nat) (hw : f9 (ddec tl9) = some w9) (hb : Ω.2.2.2 ≤ a) (hbe : Ω.2.2.2 ≤ ea9) : Met l yJ5_removeLast (ws_ yJ5_removeLast cJ5_removeLast 2 (some (.object "java/lang/Object"))) ({ frames := 3, cells := 0, slots := 0, locals := 56 } : Room) (va_Pc [.ref a] (jWd Ω G sz)) (jQ Ω (jD (some (.ref w9)) (gset (gset G a (.inr (30, [.ref ea9, .int (nI (hd9)), .int (nI (ddec tl9))]))) ea9 (.inl (Ω.2.1 4, 17, jAq (va_up f9 (ddec tl9) none)))) (sz))) 0 0 (jB Ω) := by
  refine jMet (by decide) (Nat.le_of_ble_eq_true rfl) ?_
  intro p e s m args below meth c cx hr hnm
  refine J_loc [some (.ref a), none] rfl ?_
  refine J_bs cx (fun hbs9 => ?_)
  refine J_lt ha (fun hlt0 => ?_)
  refine J_lt he (fun hlt1 => ?_)
  have hne0 : a ≠ ea9 := fun e => by have h1 := ha; rw [e, he] at h1; simp at h1
  refine J_aload_n cx dJ5_removeLast_0 rfl ?_
  refine J_callV (n := 0) cx (ci := 30) [] (t_J5_pollLast l Ω a ha he (by omega) (by omega) w9 hw (by omega) (by omega)) dJ5_removeLast_1 (lw_V q2599 q2600 q2601 q92 q2602) ⟨rfl, by decide, by decide, by decide +kernel⟩ rfl ha rfl rfl ⟨Nat.le_of_ble_eq_true rfl, Nat.le_of_ble_eq_true rfl⟩ rfl rfl (Nat.le_of_ble_eq_true rfl) ⟨Nat.le_of_ble_eq_true rfl, Nat.le_of_ble_eq_true rfl⟩ (jdet ?_)
  refine J_mem (gset (gset G a (.inr (30, [.ref ea9, .int (nI (hd9)), .int (nI (ddec tl9))]))) ea9 (.inl (Ω.2.1 4, 17, jAq (va_up f9 (ddec tl9) none)))) rfl ?_
  refine J_astore_n1 cx dJ5_removeLast_4 (by decide) rfl ?_
  refine J_aload_n cx dJ5_removeLast_5 rfl ?_
  refine J_ifnonnull (tgt := 17) cx dJ5_removeLast_6 (by decide) ?_
  refine J_aload_n cx dJ5_removeLast_17 rfl ?_
  exact J_aret cx dJ5_removeLast_18 hr (Or.inl ⟨_, rfl⟩) (Or.inr ⟨_, rfl⟩) ⟨rfl, rfl, rfl⟩ (Nat.le_of_ble_eq_true rfl) (Nat.le_of_ble_eq_true rfl)
def r_dqEmpty (hd9 tl9 : Nat) : Int32 := (if hd9 = tl9 then (nI (1)) else (nI (0)))
theorem t_J5_isEmpty (l : Launch) (Ω : jO) {G : Mem} {sz : Nat} (a : Nat) {ea9 hd9 tl9 : Nat} (ha : G a = some (.inr (30, [.ref ea9, .int (nI (hd9)), .int (nI (tl9))]))) (hhd : hd9 < 17) (htl : tl9 < 17) : Met l yJ5_isEmpty (ws_ yJ5_isEmpty cJ5_isEmpty 1 (some .boolean)) ({ frames := 1, cells := 0, slots := 0, locals := 12 } : Room) (va_Pc [.ref a] (jWd Ω G sz)) (jQ Ω (jD (some (.int (r_dqEmpty hd9 tl9))) G sz)) 0 0 (jB Ω) := by
  refine jMet (by decide) (Nat.le_of_ble_eq_true rfl) ?_
  intro p e s m args below meth c cx hr hnm
  refine J_loc [some (.ref a)] rfl ?_
  refine J_aload_n cx dJ5_isEmpty_0 rfl ?_
  refine J_get cx in_J5 (ci := 30) rfl 1 (by decide) q310 (fun _ h => h) dJ5_isEmpty_1 ha rfl ?_
  refine J_aload_n cx dJ5_isEmpty_4 rfl ?_
  refine J_get cx in_J5 (ci := 30) rfl 2 (by decide) q311 (fun _ h => h) dJ5_isEmpty_5 ha rfl ?_
  refine J_icmpN_ne (tgt := 15) cx dJ5_isEmpty_8 (by decide) (by omega) (by omega) (fun c8 => ?_) (fun c8 => ?_)
  · refine J_iconst (v := nI (0)) cx dJ5_isEmpty_15 (by decide) ?_
    exact J_zret cx dJ5_isEmpty_16 hr rfl ⟨by simp only [r_dqEmpty, if_neg c8], rfl, rfl⟩ (Nat.le_of_ble_eq_true rfl) (Nat.le_of_ble_eq_true rfl)
  · refine J_iconst (v := nI (1)) cx dJ5_isEmpty_11 (by decide) ?_
    refine J_goto (tgt := 16) cx dJ5_isEmpty_12 (by decide) ?_
    exact J_zret cx dJ5_isEmpty_16 hr rfl ⟨by simp only [r_dqEmpty, if_pos c8], rfl, rfl⟩ (Nat.le_of_ble_eq_true rfl) (Nat.le_of_ble_eq_true rfl)
/-- n places from i on are emptied -/
def S_cc (f : Nat → Option Nat) (i n : Nat) : Nat → Option Nat := fun j => if i ≤ j ∧ j < i + n then none else f j
theorem S_cc_0 (f : Nat → Option Nat) (i : Nat) : S_cc f i 0 = f := by funext j; simp only [S_cc]; rw [if_neg (by omega)]
theorem S_cc_1 (f : Nat → Option Nat) (i k : Nat) : va_up (S_cc f i k) (i + k) none = S_cc f i (k + 1) := by
  funext j; simp only [S_cc, va_up]; by_cases h : j = i + k
  · rw [if_pos h, if_pos (by omega)]
  · rw [if_neg h]; by_cases h2 : i ≤ j ∧ j < i + k
    · rw [if_pos h2, if_pos (by omega)]
    · rw [if_neg h2, if_neg (by omega)]
set_option maxHeartbeats 1000000 in
theorem t_J5_cc_A (l : Launch) (Ω : jO) {G : Mem} {sz : Nat} (ea9 : Nat) {f9 : Nat → Option Nat} (he : G ea9 = some (.inl (Ω.2.1 4, 17, jAq f9))) (i9 e9 : Nat) (hi : i9 < 17) (hj : e9 < 17) (hbe : Ω.2.2.2 ≤ ea9) (hij : i9 ≤ e9) : Met l yJ5_circularClear (ws_ yJ5_circularClear cJ5_circularClear 4 none) ({ frames := 1, cells := 0, slots := 0, locals := 12 } : Room) (va_Pc [.ref ea9, .int (nI (i9)), .int (nI (e9))] (jWd Ω G sz)) (jQ Ω (jD none (gset G ea9 (.inl (Ω.2.1 4, 17, jAq (S_cc f9 i9 (e9 - i9))))) sz)) 0 0 (jB Ω) := by
  refine jMet (by decide) (Nat.le_of_ble_eq_true rfl) ?_
  intro p e s m args below meth c cx hr hnm
  refine J_loc [some (.ref ea9), some (.int (nI (i9))), some (.int (nI (e9))), none] rfl ?_
  refine J_bs cx (fun hbs9 => ?_)
  refine J_lt he (fun hlt0 => ?_)
  refine J_iload_n cx dJ5_circularClear_0 rfl ?_
  refine J_iload_n cx dJ5_circularClear_1 rfl ?_
  refine J_icmpN_gt (tgt := 9) cx dJ5_circularClear_2 (by decide) (by omega) (by omega) (fun c2 => absurd c2 (by omega)) (fun c2 => ?_)
  refine J_iload_n cx dJ5_circularClear_5 rfl ?_
  refine J_goto (tgt := 11) cx dJ5_circularClear_6 (by decide) ?_
  refine J_istore_n3 cx dJ5_circularClear_11 (by decide) rfl ?_
  have K12 : ∀ nk9 k9 : Nat, nk9 + k9 = e9 - i9 → J p l e ({ frames := 1, cells := 0, slots := 0, locals := 12 } : Room) s m args below meth c Ω 4 (MQ below (jQ Ω (jD none (gset G ea9 (.inl (Ω.2.1 4, 17, jAq (S_cc f9 i9 (e9 - i9))))) sz)) args s 0 0 (jB Ω)) 0 0 (sz) (gset G ea9 (.inl (Ω.2.1 4, 17, jAq (S_cc f9 i9 k9)))) 12 [some (.ref ea9), some (.int (nI (i9 + k9))), some (.int (nI (e9))), some (.int (nI (e9)))] [] := by
    intro nk9
    induction nk9 with
    | zero =>
      intro k9 hk9
      refine J_iload_n cx dJ5_circularClear_12 rfl ?_
      refine J_iload_n cx dJ5_circularClear_13 rfl ?_
      refine J_icmpN_ge (tgt := 27) cx dJ5_circularClear_14 (by decide) (by omega) (by omega) (fun c14 => ?_) (fun c14 => absurd c14 (by omega))
      refine J_iload_n cx dJ5_circularClear_27 rfl ?_
      refine J_iload_n cx dJ5_circularClear_28 rfl ?_
      refine J_icmpN_ne (tgt := 35) cx dJ5_circularClear_29 (by decide) (by omega) (by omega) (fun c29 => absurd c29 (by omega)) (fun c29 => ?_)
      refine J_goto (tgt := 42) cx dJ5_circularClear_32 (by decide) ?_
      exact J_vret cx dJ5_circularClear_42 hr ⟨rfl, by rw [show k9 = e9 - i9 by omega], rfl⟩ (Nat.le_of_ble_eq_true rfl) (Nat.le_of_ble_eq_true rfl)
    | succ nk9 ihk9 =>
      intro k9 hk9
      refine J_iload_n cx dJ5_circularClear_12 rfl ?_
      refine J_iload_n cx dJ5_circularClear_13 rfl ?_
      refine J_icmpN_ge (tgt := 27) cx dJ5_circularClear_14 (by decide) (by omega) (by omega) (fun c14 => absurd c14 (by omega)) (fun c14 => ?_)
      refine J_aload_n cx dJ5_circularClear_17 rfl ?_
      refine J_iload_n cx dJ5_circularClear_18 rfl ?_
      refine J_null cx dJ5_circularClear_19 ?_
      refine J_aastN cx 4 dJ5_circularClear_20 rfl gset_eq (by omega) (by omega) (by omega) ?_
      refine J_mem (gset G ea9 (.inl (Ω.2.1 4, 17, jAq (va_up (S_cc f9 i9 k9) (i9 + k9) none)))) gset_gset ?_
      refine J_iinc1 (v := nI ((i9 + k9) + 1)) cx dJ5_circularClear_21 (nI_1 (i9 + k9)) (by decide) rfl ?_
      refine J_goto (tgt := 12) cx dJ5_circularClear_24 (by decide) ?_
      refine J_sub (L1 := [some (.ref ea9), some (.int (nI (i9 + (k9 + 1)))), some (.int (nI (e9))), some (.int (nI (e9)))]) (jsub_s (jsub_e (congrArg Value.int rfl) (jsub_s (jsub_s jsub_0)))) ?_
      refine J_mem (gset G ea9 (.inl (Ω.2.1 4, 17, jAq (S_cc f9 i9 (k9 + 1))))) (by rw [S_cc_1]) ?_
      exact ihk9 (k9 + 1) (by omega)
  refine J_sub (L1 := [some (.ref ea9), some (.int (nI (i9 + 0))), some (.int (nI (e9))), some (.int (nI (e9)))]) (jsub_s (jsub_e (congrArg Value.int rfl) (jsub_s (jsub_s jsub_0)))) ?_
  refine J_mem (gset G ea9 (.inl (Ω.2.1 4, 17, jAq (S_cc f9 i9 0)))) (by rw [S_cc_0, gset_same he]) ?_
  exact K12 (e9 - i9) 0 (by omega)
set_option maxHeartbeats 1000000 in
theorem t_J5_cc_B (l : Launch) (Ω : jO) {G : Mem} {sz : Nat} (ea9 : Nat) {f9 : Nat → Option Nat} (he : G ea9 = some (.inl (Ω.2.1 4, 17, jAq f9))) (i9 e9 : Nat) (hi : i9 < 17) (hj : e9 < 17) (hbe : Ω.2.2.2 ≤ ea9) (hij : ¬ i9 ≤ e9) : Met l yJ5_circularClear (ws_ yJ5_circularClear cJ5_circularClear 4 none) ({ frames := 1, cells := 0, slots := 0, locals := 12 } : Room) (va_Pc [.ref ea9, .int (nI (i9)), .int (nI (e9))] (jWd Ω G sz)) (jQ Ω (fun v G1 sz1 => v = none ∧ (∃ f1, G1 = gset G ea9 (.inl (Ω.2.1 4, 17, jAq f1))) ∧ sz1 = sz)) 0 0 (jB Ω) := by
  refine jMet (by decide) (Nat.le_of_ble_eq_true rfl) ?_
  intro p e s m args below meth c cx hr hnm
  refine J_loc [some (.ref ea9), some (.int (nI (i9))), some (.int (nI (e9))), none] rfl ?_
  refine J_bs cx (fun hbs9 => ?_)
  refine J_lt he (fun hlt0 => ?_)
  refine J_iload_n cx dJ5_circularClear_0 rfl ?_
  refine J_iload_n cx dJ5_circularClear_1 rfl ?_
  refine J_icmpN_gt (tgt := 9) cx dJ5_circularClear_2 (by decide) (by omega) (by omega) (fun c2 => ?_) (fun c2 => absurd c2 (by omega))
  refine J_aload_n cx dJ5_circularClear_9 rfl ?_
  refine J_alen cx 4 dJ5_circularClear_10 rfl he ?_
  refine J_istore_n3 cx dJ5_circularClear_11 (by decide) rfl ?_
  have K12 : ∀ nk9 k9 : Nat, nk9 + k9 = 17 - i9 → J p l e ({ frames := 1, cells := 0, slots := 0, locals := 12 } : Room) s m args below meth c Ω 4 (MQ below (jQ Ω (fun v G1 sz1 => v = none ∧ (∃ f1, G1 = gset G ea9 (.inl (Ω.2.1 4, 17, jAq f1))) ∧ sz1 = sz)) args s 0 0 (jB Ω)) 0 0 (sz) (gset G ea9 (.inl (Ω.2.1 4, 17, jAq (S_cc f9 i9 k9)))) 12 [some (.ref ea9), some (.int (nI (i9 + k9))), some (.int (nI (e9))), some (.int (nI (17)))] [] := by
    intro nk9
    induction nk9 with
    | zero =>
      intro k9 hk9
      refine J_iload_n cx dJ5_circularClear_12 rfl ?_
      refine J_iload_n cx dJ5_circularClear_13 rfl ?_
      refine J_icmpN_ge (tgt := 27) cx dJ5_circularClear_14 (by decide) (by omega) (by omega) (fun c14 => ?_) (fun c14 => absurd c14 (by omega))
      refine J_iload_n cx dJ5_circularClear_27 rfl ?_
      refine J_iload_n cx dJ5_circularClear_28 rfl ?_
      refine J_icmpN_ne (tgt := 35) cx dJ5_circularClear_29 (by decide) (by omega) (by omega) (fun c29 => ?_) (fun c29 => absurd c29 (by omega))
      refine J_iconst (v := nI (0)) cx dJ5_circularClear_35 (by decide) ?_
      refine J_istore_n1 cx dJ5_circularClear_36 (by decide) rfl ?_
      refine J_iload_n cx dJ5_circularClear_37 rfl ?_
      refine J_istore_n3 cx dJ5_circularClear_38 (by decide) rfl ?_
      refine J_goto (tgt := 12) cx dJ5_circularClear_39 (by decide) ?_
      have K12 : ∀ nj9 j9 : Nat, nj9 + j9 = e9 → J p l e ({ frames := 1, cells := 0, slots := 0, locals := 12 } : Room) s m args below meth c Ω 4 (MQ below (jQ Ω (fun v G1 sz1 => v = none ∧ (∃ f1, G1 = gset G ea9 (.inl (Ω.2.1 4, 17, jAq f1))) ∧ sz1 = sz)) args s 0 0 (jB Ω)) 0 0 (sz) (gset G ea9 (.inl (Ω.2.1 4, 17, jAq (S_cc (S_cc f9 i9 k9) 0 j9)))) 12 [some (.ref ea9), some (.int (nI (j9))), some (.int (nI (e9))), some (.int (nI (e9)))] [] := by
        intro nj9
        induction nj9 with
        | zero =>
          intro j9 hj9
          refine J_iload_n cx dJ5_circularClear_12 rfl ?_
          refine J_iload_n cx dJ5_circularClear_13 rfl ?_
          refine J_icmpN_ge (tgt := 27) cx dJ5_circularClear_14 (by decide) (by omega) (by omega) (fun c14 => ?_) (fun c14 => absurd c14 (by omega))
          refine J_iload_n cx dJ5_circularClear_27 rfl ?_
          refine J_iload_n cx dJ5_circularClear_28 rfl ?_
          refine J_icmpN_ne (tgt := 35) cx dJ5_circularClear_29 (by decide) (by omega) (by omega) (fun c29 => absurd c29 (by omega)) (fun c29 => ?_)
          refine J_goto (tgt := 42) cx dJ5_circularClear_32 (by decide) ?_
          exact J_vret cx dJ5_circularClear_42 hr ⟨rfl, ⟨_, rfl⟩, rfl⟩ (Nat.le_of_ble_eq_true rfl) (Nat.le_of_ble_eq_true rfl)
        | succ nj9 ihj9 =>
          intro j9 hj9
          refine J_iload_n cx dJ5_circularClear_12 rfl ?_
          refine J_iload_n cx dJ5_circularClear_13 rfl ?_
          refine J_icmpN_ge (tgt := 27) cx dJ5_circularClear_14 (by decide) (by omega) (by omega) (fun c14 => absurd c14 (by omega)) (fun c14 => ?_)
          refine J_aload_n cx dJ5_circularClear_17 rfl ?_
          refine J_iload_n cx dJ5_circularClear_18 rfl ?_
          refine J_null cx dJ5_circularClear_19 ?_
          refine J_aastN cx 4 dJ5_circularClear_20 rfl gset_eq (by omega) (by omega) (by omega) ?_
          refine J_mem (gset G ea9 (.inl (Ω.2.1 4, 17, jAq (va_up (S_cc (S_cc f9 i9 k9) 0 j9) j9 none)))) gset_gset ?_
          refine J_iinc1 (v := nI (j9 + 1)) cx dJ5_circularClear_21 (nI_1 j9) (by decide) rfl ?_
          refine J_goto (tgt := 12) cx dJ5_circularClear_24 (by decide) ?_
          refine J_sub (L1 := [some (.ref ea9), some (.int (nI (j9 + 1))), some (.int (nI (e9))), some (.int (nI (e9)))]) (jsub_s (jsub_s (jsub_s (jsub_s jsub_0)))) ?_
          refine J_mem (gset G ea9 (.inl (Ω.2.1 4, 17, jAq (S_cc (S_cc f9 i9 k9) 0 (j9 + 1))))) (by rw [← S_cc_1, Nat.zero_add]) ?_
          exact ihj9 (j9 + 1) (by omega)
      refine J_sub (L1 := [some (.ref ea9), some (.int (nI (0))), some (.int (nI (e9))), some (.int (nI (e9)))]) (jsub_s (jsub_s (jsub_s (jsub_s jsub_0)))) ?_
      refine J_mem (gset G ea9 (.inl (Ω.2.1 4, 17, jAq (S_cc (S_cc f9 i9 k9) 0 0)))) (by rw [S_cc_0]) ?_
      exact K12 e9 0 (by omega)
    | succ nk9 ihk9 =>
      intro k9 hk9
      refine J_iload_n cx dJ5_circularClear_12 rfl ?_
      refine J_iload_n cx dJ5_circularClear_13 rfl ?_
      refine J_icmpN_ge (tgt := 27) cx dJ5_circularClear_14 (by decide) (by omega) (by omega) (fun c14 => absurd c14 (by omega)) (fun c14 => ?_)
      refine J_aload_n cx dJ5_circularClear_17 rfl ?_
      refine J_iload_n cx dJ5_circularClear_18 rfl ?_
      refine J_null cx dJ5_circularClear_19 ?_
      refine J_aastN cx 4 dJ5_circularClear_20 rfl gset_eq (by omega) (by omega) (by omega) ?_
      refine J_mem (gset G ea9 (.inl (Ω.2.1 4, 17, jAq (va_up (S_cc f9 i9 k9) (i9 + k9) none)))) gset_gset ?_
      refine J_iinc1 (v := nI ((i9 + k9) + 1)) cx dJ5_circularClear_21 (nI_1 (i9 + k9)) (by decide) rfl ?_
      refine J_goto (tgt := 12) cx dJ5_circularClear_24 (by decide) ?_
      refine J_sub (L1 := [some (.ref ea9), some (.int (nI (i9 + (k9 + 1)))), some (.int (nI (e9))), some (.int (nI (17)))]) (jsub_s (jsub_e (congrArg Value.int rfl) (jsub_s (jsub_s jsub_0)))) ?_
      refine J_mem (gset G ea9 (.inl (Ω.2.1 4, 17, jAq (S_cc f9 i9 (k9 + 1))))) (by rw [S_cc_1]) ?_
      exact ihk9 (k9 + 1) (by omega)
  refine J_sub (L1 := [some (.ref ea9), some (.int (nI (i9 + 0))), some (.int (nI (e9))), some (.int (nI (17)))]) (jsub_s (jsub_e (congrArg Value.int rfl) (jsub_s (jsub_s jsub_0)))) ?_
  refine J_mem (gset G ea9 (.inl (Ω.2.1 4, 17, jAq (S_cc f9 i9 0)))) (by rw [S_cc_0, gset_same he]) ?_
  exact K12 (17 - i9) 0 (by omega)
theorem t_J5_cc (l : Launch) (Ω : jO) {G : Mem} {sz : Nat} (ea9 : Nat) {f9 : Nat → Option Nat} (he : G ea9 = some (.inl (Ω.2.1 4, 17, jAq f9))) (i9 e9 : Nat) (hi : i9 < 17) (hj : e9 < 17) (hbe : Ω.2.2.2 ≤ ea9) : Met l yJ5_circularClear (ws_ yJ5_circularClear cJ5_circularClear 4 none) ({ frames := 1, cells := 0, slots := 0, locals := 12 } : Room) (va_Pc [.ref ea9, .int (nI i9), .int (nI e9)] (jWd Ω G sz)) (jQ Ω (fun v G1 sz1 => v = none ∧ (∃ f1, G1 = gset G ea9 (.inl (Ω.2.1 4, 17, jAq f1))) ∧ sz1 = sz)) 0 0 (jB Ω) := by
  by_cases h : i9 ≤ e9
  · refine jCons (t_J5_cc_A l Ω ea9 he i9 e9 hi hj hbe h) ?_
    rintro v G1 sz1 ⟨rfl, rfl, rfl⟩
    exact ⟨rfl, ⟨_, rfl⟩, rfl⟩
  · exact t_J5_cc_B l Ω ea9 he i9 e9 hi hj hbe h
set_option maxHeartbeats 1000000 in
theorem t_J5_clear (l : Launch) (Ω : jO) {G : Mem} {sz : Nat} (a : Nat) {ea9 hd9 tl9 : Nat} {f9 : Nat → Option Nat} (ha : G a = some (.inr (30, [.ref ea9, .int (nI (hd9)), .int (nI (tl9))]))) (he : G ea9 = some (.inl (Ω.2.1 4, 17, jAq f9))) (hhd : hd9 < 17) (htl : tl9 < 17) (hb : Ω.2.2.2 ≤ a) (hbe : Ω.2.2.2 ≤ ea9) : Met l yJ5_clear (ws_ yJ5_clear cJ5_clear 1 none) ({ frames := 2, cells := 0, slots := 0, locals := 35 } : Room) (va_Pc [.ref a] (jWd Ω G sz)) (jQ Ω (fun v G1 sz1 => v = none ∧ (∃ f1, G1 = (gset (gset G ea9 (.inl (Ω.2.1 4, 17, jAq f1))) a (.inr (30, [.ref ea9, .int (nI (0)), .int (nI (0))])))) ∧ sz1 = sz)) 0 0 (jB Ω) := by
  refine jMet (by decide) (Nat.le_of_ble_eq_true rfl) ?_
  intro p e s m args below meth c cx hr hnm
  refine J_loc [some (.ref a)] rfl ?_
  refine J_bs cx (fun hbs9 => ?_)
  refine J_lt ha (fun hlt0 => ?_)
  refine J_lt he (fun hlt1 => ?_)
  have hne0 : a ≠ ea9 := fun e => by have h1 := ha; rw [e, he] at h1; simp at h1
  refine J_aload_n cx dJ5_clear_0 rfl ?_
  refine J_get cx in_J5 (ci := 30) rfl 0 (by decide) q307 (fun _ h => h) dJ5_clear_1 ha rfl ?_
  refine J_aload_n cx dJ5_clear_4 rfl ?_
  refine J_get cx in_J5 (ci := 30) rfl 1 (by decide) q310 (fun _ h => h) dJ5_clear_5 ha rfl ?_
  refine J_aload_n cx dJ5_clear_8 rfl ?_
  refine J_get cx in_J5 (ci := 30) rfl 2 (by decide) q311 (fun _ h => h) dJ5_clear_9 ha rfl ?_
  refine J_callS (n := 3) cx [.ref ea9, .int (nI (hd9)), .int (nI (tl9))] (t_J5_cc l Ω ea9 he hd9 tl9 (by omega) (by omega) (by omega)) dJ5_clear_12 (lw_S q357 q358 q92 q359) ⟨by decide, by decide, by decide +kernel⟩ rfl rfl ⟨Nat.le_of_ble_eq_true rfl, Nat.le_of_ble_eq_true rfl⟩ rfl rfl (Nat.le_of_ble_eq_true rfl) ⟨Nat.le_of_ble_eq_true rfl, Nat.le_of_ble_eq_true rfl⟩ (fun v9 G9 z9 hp9 _ => ?_)
  obtain ⟨e1, ⟨f1, e2⟩, e3⟩ := hp9
  subst e1; subst e2; subst e3
  refine J_mem (gset G ea9 (.inl (Ω.2.1 4, 17, jAq f1))) rfl ?_
  refine J_aload_n cx dJ5_clear_15 rfl ?_
  refine J_aload_n cx dJ5_clear_16 rfl ?_
  refine J_iconst (v := nI (0)) cx dJ5_clear_17 (by decide) ?_
  refine J_dup_x1 cx dJ5_clear_18 rfl rfl ?_
  refine J_put cx in_J5 tyJ5 tyJ5_ok nmJ5 (ci := 30) rfl 2 (by decide) q311 (fun _ h => h) rfl (ty := .int) (by decide +kernel) dJ5_clear_19 rfl rfl ((gset_ne (by omega)).trans ha) (Nat.le_of_ble_eq_true rfl) (by omega) ?_
  refine J_mem (gset (gset G ea9 (.inl (Ω.2.1 4, 17, jAq f1))) a (.inr (30, [.ref ea9, .int (nI (hd9)), .int (nI (0))]))) rfl ?_
  refine J_put cx in_J5 tyJ5 tyJ5_ok nmJ5 (ci := 30) rfl 1 (by decide) q310 (fun _ h => h) rfl (ty := .int) (by decide +kernel) dJ5_clear_22 rfl rfl gset_eq (Nat.le_of_ble_eq_true rfl) (by omega) ?_
  refine J_mem (gset (gset G ea9 (.inl (Ω.2.1 4, 17, jAq f1))) a (.inr (30, [.ref ea9, .int (nI (0)), .int (nI (0))]))) gset_gset ?_
  exact J_vret cx dJ5_clear_25 hr ⟨rfl, ⟨f1, rfl⟩, rfl⟩ (Nat.le_of_ble_eq_true rfl) (Nat.le_of_ble_eq_true rfl)
