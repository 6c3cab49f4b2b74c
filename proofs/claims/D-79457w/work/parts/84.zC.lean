/-! JDK 11 (gen/mk_zC.py): LinkedList.get, List.of, ListN -/
set_option maxRecDepth 100000
theorem nI_m1 {k : Nat} : nI (k + 1) + Int32.ofInt (-1) = nI k := pk_m1 k
set_option maxHeartbeats 2000000 in
theorem t_J4_node (l : Launch) (Ω : jO) {G : Mem} {sz : Nat} (a : Nat) {mc : Int32} {ns xs : List Nat} (h : jLL Ω G a mc ns xs) (i9 : Nat) (hi : i9 < ns.length) : Met l yJ4_node (ws_ yJ4_node cJ4_node 4 (some (.object "java/util/LinkedList$Node"))) ({ frames := 1, cells := 0, slots := 0, locals := 12 } : Room) (va_Pc [.ref a, .int (nI (i9))] (jWd Ω G sz)) (jQ Ω (jD (some (va_rf ns[i9]?)) G sz)) 0 0 (jB Ω) := by
  refine jMet (by decide) (Nat.le_of_ble_eq_true rfl) ?_
  intro p e s m args below meth c cx hr hnm
  refine J_loc [some (.ref a), some (.int (nI (i9))), none, none] rfl ?_
  obtain ⟨h1, h2, h3, h4, h5, h6, h7⟩ := h
  have hx : ∀ k, k < ns.length → ∃ x, xs[k]? = some x := fun k hk => jget (by omega)
  have hret : ∀ (pc k n : Nat) (w : Option Value), (pc = 33 ∨ pc = 63) → k = i9 → ns[k]? = some n → J p l e ({ frames := 1, cells := 0, slots := 0, locals := 12 } : Room) s m args below meth c Ω 4 (MQ below (jQ Ω (jD (some (va_rf ns[i9]?)) G sz)) args s 0 0 (jB Ω)) 0 0 sz G pc [some (.ref a), some (.int (nI (i9))), some (.ref n), w] [] := by
    intro pc k n w hpc hk hn
    subst hk
    rcases hpc with rfl | rfl
    · refine J_aload_n cx dJ4_node_33 rfl ?_
      exact J_aret cx dJ4_node_34 hr (Or.inl ⟨_, rfl⟩) (Or.inr ⟨_, rfl⟩) ⟨by rw [hn]; rfl, rfl, rfl⟩ (Nat.le_of_ble_eq_true rfl) (Nat.le_of_ble_eq_true rfl)
    · refine J_aload_n cx dJ4_node_63 rfl ?_
      exact J_aret cx dJ4_node_64 hr (Or.inl ⟨_, rfl⟩) (Or.inr ⟨_, rfl⟩) ⟨by rw [hn]; rfl, rfl, rfl⟩ (Nat.le_of_ble_eq_true rfl) (Nat.le_of_ble_eq_true rfl)
  have K17 : ∀ (j k n : Nat), j + k = i9 → ns[k]? = some n → J p l e ({ frames := 1, cells := 0, slots := 0, locals := 12 } : Room) s m args below meth c Ω 4 (MQ below (jQ Ω (jD (some (va_rf ns[i9]?)) G sz)) args s 0 0 (jB Ω)) 0 0 sz G 17 [some (.ref a), some (.int (nI (i9))), some (.ref n), some (.int (nI (k)))] [] := by
    intro j
    induction j with
    | zero =>
      intro k n hk hn
      refine J_iload_n cx dJ4_node_17 rfl ?_
      refine J_iload_n cx dJ4_node_18 rfl ?_
      refine J_icmpN_ge (tgt := 33) cx dJ4_node_19 (by decide) (by omega) (by omega) (fun c6 => ?_) (fun c6 => absurd c6 (by omega))
      exact hret 33 k n _ (Or.inl rfl) (by omega) hn
    | succ j ih =>
      intro k n hk hn
      refine J_iload_n cx dJ4_node_17 rfl ?_
      refine J_iload_n cx dJ4_node_18 rfl ?_
      refine J_icmpN_ge (tgt := 33) cx dJ4_node_19 (by decide) (by omega) (by omega) (fun c6 => absurd c6 (by omega)) (fun c6 => ?_)
      obtain ⟨x, hx9⟩ := hx k (by omega)
      obtain ⟨n2, hn2⟩ := jget (ns := ns) (i := k + 1) (by omega)
      have hc := h7 k n x hn hx9
      rw [lnx_some hn2] at hc
      refine J_aload_n cx dJ4_node_22 rfl ?_
      refine J_get cx in_J27 (ci := 33) rfl 1 (by decide) q1248 (fun _ h => h) dJ4_node_23 hc rfl ?_
      refine J_astore_n2 cx dJ4_node_26 (by decide) rfl ?_
      refine J_iinc3 (v := nI (k + 1)) cx dJ4_node_27 (nI_1 k) (by decide) rfl ?_
      refine J_goto (tgt := 17) cx dJ4_node_30 (by decide) ?_
      exact ih (k + 1) n2 (by omega) hn2
  have K47 : ∀ (j k n : Nat), k = i9 + j → k < ns.length → ns[k]? = some n → J p l e ({ frames := 1, cells := 0, slots := 0, locals := 12 } : Room) s m args below meth c Ω 4 (MQ below (jQ Ω (jD (some (va_rf ns[i9]?)) G sz)) args s 0 0 (jB Ω)) 0 0 sz G 47 [some (.ref a), some (.int (nI (i9))), some (.ref n), some (.int (nI (k)))] [] := by
    intro j
    induction j with
    | zero =>
      intro k n hk hkl hn
      refine J_iload_n cx dJ4_node_47 rfl ?_
      refine J_iload_n cx dJ4_node_48 rfl ?_
      refine J_icmpN_le (tgt := 63) cx dJ4_node_49 (by decide) (by omega) (by omega) (fun c6 => ?_) (fun c6 => absurd c6 (by omega))
      exact hret 63 k n _ (Or.inr rfl) (by omega) hn
    | succ j ih =>
      intro k n hk hkl hn
      obtain ⟨k, rfl⟩ : ∃ k2, k = k2 + 1 := ⟨k - 1, by omega⟩
      refine J_iload_n cx dJ4_node_47 rfl ?_
      refine J_iload_n cx dJ4_node_48 rfl ?_
      refine J_icmpN_le (tgt := 63) cx dJ4_node_49 (by decide) (by omega) (by omega) (fun c6 => absurd c6 (by omega)) (fun c6 => ?_)
      obtain ⟨x, hx9⟩ := hx (k + 1) (by omega)
      obtain ⟨n2, hn2⟩ := jget (ns := ns) (i := k) (by omega)
      have hc := h7 (k + 1) n x hn hx9
      rw [lpv_some hn2] at hc
      refine J_aload_n cx dJ4_node_52 rfl ?_
      refine J_get cx in_J27 (ci := 33) rfl 2 (by decide) q1250 (fun _ h => h) dJ4_node_53 hc rfl ?_
      refine J_astore_n2 cx dJ4_node_56 (by decide) rfl ?_
      refine J_iinc3 (v := nI (k)) cx dJ4_node_57 nI_m1 (by decide) rfl ?_
      refine J_goto (tgt := 47) cx dJ4_node_60 (by decide) ?_
      exact ih k n2 (by omega) (by omega) hn2
  obtain ⟨n0, hn0⟩ := jget (ns := ns) (i := 0) (by omega)
  obtain ⟨n1, hn1⟩ := jget (ns := ns) (i := ns.length - 1) (by omega)
  have hl1 : lpv ns ns.length = .ref n1 := by
    have h9 := lpv_some hn1
    rw [show ns.length - 1 + 1 = ns.length by omega] at h9
    exact h9
  rw [lnx_some hn0, hl1] at h1
  refine J_iload_n cx dJ4_node_0 rfl ?_
  refine J_aload_n cx dJ4_node_1 rfl ?_
  refine J_get cx in_J4 (ci := 29) rfl 1 (by decide) q221 (fun _ h => h) dJ4_node_2 h1 rfl ?_
  refine J_iconst (v := nI (1)) cx dJ4_node_5 (by decide) ?_
  refine J_ishr cx dJ4_node_6 ?_
  refine J_icmp_ge (tgt := 35) cx dJ4_node_7 (by decide) (fun c7 => ?_) (fun c7 => ?_)
  · refine J_aload_n cx dJ4_node_35 rfl ?_
    refine J_get cx in_J4 (ci := 29) rfl 3 (by decide) q224 (fun _ h => h) dJ4_node_36 h1 rfl ?_
    refine J_astore_n2 cx dJ4_node_39 (by decide) rfl ?_
    refine J_aload_n cx dJ4_node_40 rfl ?_
    refine J_get cx in_J4 (ci := 29) rfl 1 (by decide) q221 (fun _ h => h) dJ4_node_41 h1 rfl ?_
    refine J_iconst (v := nI (1)) cx dJ4_node_44 (by decide) ?_
    refine J_isubN cx dJ4_node_45 (by omega) ?_
    refine J_istore_n3 cx dJ4_node_46 (by decide) rfl ?_
    exact K47 (ns.length - 1 - i9) (ns.length - 1) n1 (by omega) (by omega) hn1
  · refine J_aload_n cx dJ4_node_10 rfl ?_
    refine J_get cx in_J4 (ci := 29) rfl 2 (by decide) q223 (fun _ h => h) dJ4_node_11 h1 rfl ?_
    refine J_astore_n2 cx dJ4_node_14 (by decide) rfl ?_
    refine J_iconst (v := nI (0)) cx dJ4_node_15 (by decide) ?_
    refine J_istore_n3 cx dJ4_node_16 (by decide) rfl ?_
    exact K17 i9 0 n0 (by omega) hn0
theorem t_J4_isElementIndex (l : Launch) (Ω : jO) {G : Mem} {sz : Nat} (a : Nat) {mc : Int32} {ns xs : List Nat} (h : jLL Ω G a mc ns xs) (i9 : Nat) (hi : i9 < ns.length) : Met l yJ4_isElementIndex (ws_ yJ4_isElementIndex cJ4_isElementIndex 2 (some .boolean)) ({ frames := 1, cells := 0, slots := 0, locals := 12 } : Room) (va_Pc [.ref a, .int (nI (i9))] (jWd Ω G sz)) (jQ Ω (jD (some (.int (nI (1)))) G sz)) 0 0 (jB Ω) := by
  refine jMet (by decide) (Nat.le_of_ble_eq_true rfl) ?_
  intro p e s m args below meth c cx hr hnm
  refine J_loc [some (.ref a), some (.int (nI (i9)))] rfl ?_
  have h40 := h.2.2.1
  refine J_iload_n cx dJ4_isElementIndex_0 rfl ?_
  refine J_if_lt (tgt := 16) cx dJ4_isElementIndex_1 (by decide) (fun c1 => absurd c1 (by first | exact nI_pos (by omega) | omega)) (fun c1 => ?_)
  refine J_iload_n cx dJ4_isElementIndex_4 rfl ?_
  refine J_aload_n cx dJ4_isElementIndex_5 rfl ?_
  refine J_get cx in_J4 (ci := 29) rfl 1 (by decide) q221 (fun _ h => h) dJ4_isElementIndex_6 h.1 rfl ?_
  refine J_icmpN_ge (tgt := 16) cx dJ4_isElementIndex_9 (by decide) (by omega) (by omega) (fun c9 => absurd c9 (by omega)) (fun c9 => ?_)
  refine J_iconst (v := nI (1)) cx dJ4_isElementIndex_12 (by decide) ?_
  refine J_goto (tgt := 17) cx dJ4_isElementIndex_13 (by decide) ?_
  exact J_zret cx dJ4_isElementIndex_17 hr rfl ⟨rfl, rfl, rfl⟩ (Nat.le_of_ble_eq_true rfl) (Nat.le_of_ble_eq_true rfl)
theorem t_J4_checkElementIndex (l : Launch) (Ω : jO) {G : Mem} {sz : Nat} (a : Nat) {mc : Int32} {ns xs : List Nat} (h : jLL Ω G a mc ns xs) (i9 : Nat) (hi : i9 < ns.length) : Met l yJ4_checkElementIndex (ws_ yJ4_checkElementIndex cJ4_checkElementIndex 2 none) ({ frames := 2, cells := 0, slots := 0, locals := 33 } : Room) (va_Pc [.ref a, .int (nI (i9))] (jWd Ω G sz)) (jQ Ω (jD none G sz)) 0 0 (jB Ω) := by
  refine jMet (by decide) (Nat.le_of_ble_eq_true rfl) ?_
  intro p e s m args below meth c cx hr hnm
  refine J_loc [some (.ref a), some (.int (nI (i9)))] rfl ?_
  refine J_aload_n cx dJ4_checkElementIndex_0 rfl ?_
  refine J_iload_n cx dJ4_checkElementIndex_1 rfl ?_
  refine J_callV (n := 1) cx (ci := 29) [.int (nI (i9))] (t_J4_isElementIndex l Ω a h i9 hi) dJ4_checkElementIndex_2 (lw_V q809 q811 qs7 q90 q812) ⟨rfl, by decide, by decide, by decide +kernel⟩ rfl h.1 rfl rfl ⟨Nat.le_of_ble_eq_true rfl, Nat.le_of_ble_eq_true rfl⟩ rfl rfl (Nat.le_of_ble_eq_true rfl) ⟨Nat.le_of_ble_eq_true rfl, Nat.le_of_ble_eq_true rfl⟩ (jdet ?_)
  refine J_if_ne (tgt := 21) cx dJ4_checkElementIndex_5 (by decide) (fun c5 => ?_) (fun c5 => absurd c5 (by decide))
  exact J_vret cx dJ4_checkElementIndex_21 hr ⟨rfl, rfl, rfl⟩ (Nat.le_of_ble_eq_true rfl) (Nat.le_of_ble_eq_true rfl)
theorem t_J4_get (l : Launch) (Ω : jO) {G : Mem} {sz : Nat} (a : Nat) {mc : Int32} {ns xs : List Nat} (h : jLL Ω G a mc ns xs) (i9 : Nat) (hi : i9 < ns.length) : Met l yJ4_get (ws_ yJ4_get cJ4_get 2 (some (.object "java/lang/Object"))) ({ frames := 3, cells := 0, slots := 0, locals := 54 } : Room) (va_Pc [.ref a, .int (nI (i9))] (jWd Ω G sz)) (jQ Ω (jD (some (va_rf xs[i9]?)) G sz)) 0 0 (jB Ω) := by
  refine jMet (by decide) (Nat.le_of_ble_eq_true rfl) ?_
  intro p e s m args below meth c cx hr hnm
  refine J_loc [some (.ref a), some (.int (nI (i9)))] rfl ?_
  refine J_aload_n cx dJ4_get_0 rfl ?_
  refine J_iload_n cx dJ4_get_1 rfl ?_
  refine J_callV (n := 1) cx (ci := 29) [.int (nI (i9))] (t_J4_checkElementIndex l Ω a h i9 hi) dJ4_get_2 (lw_V q805 q807 qs6 q90 q808) ⟨rfl, by decide, by decide, by decide +kernel⟩ rfl h.1 rfl rfl ⟨Nat.le_of_ble_eq_true rfl, Nat.le_of_ble_eq_true rfl⟩ rfl rfl (Nat.le_of_ble_eq_true rfl) ⟨Nat.le_of_ble_eq_true rfl, Nat.le_of_ble_eq_true rfl⟩ (jdet ?_)
  refine J_aload_n cx dJ4_get_5 rfl ?_
  refine J_iload_n cx dJ4_get_6 rfl ?_
  obtain ⟨n9, hn9⟩ := jget hi
  obtain ⟨x9, hx9⟩ := jget (ns := xs) (i := i9) (by rw [h.2.1]; exact hi)
  refine J_callV (n := 1) cx (ci := 29) [.int (nI (i9))] (t_J4_node l Ω a h i9 hi) dJ4_get_7 (lw_V q813 q712 q713 q90 q714) ⟨rfl, by decide, by decide, by decide +kernel⟩ rfl h.1 rfl rfl ⟨Nat.le_of_ble_eq_true rfl, Nat.le_of_ble_eq_true rfl⟩ rfl rfl (Nat.le_of_ble_eq_true rfl) ⟨Nat.le_of_ble_eq_true rfl, Nat.le_of_ble_eq_true rfl⟩ (jdet ?_)
  refine J_top (.ref n9) (by rw [hn9]; rfl) ?_
  refine J_get cx in_J27 (ci := 33) rfl 0 (by decide) q1245 (fun _ h => h) dJ4_get_10 (h.2.2.2.2.2.2 i9 n9 x9 hn9 hx9) rfl ?_
  exact J_aret cx dJ4_get_13 hr (Or.inl ⟨_, rfl⟩) (Or.inr ⟨_, rfl⟩) ⟨by rw [hx9]; rfl, rfl, rfl⟩ (Nat.le_of_ble_eq_true rfl) (Nat.le_of_ble_eq_true rfl)
