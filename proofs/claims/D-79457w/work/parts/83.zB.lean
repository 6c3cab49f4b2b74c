/-! REFUSED.behind (gen/mk_zB.py) -/
set_option maxRecDepth 100000
theorem isRf_len {G : Mem} : ∀ {l1 l2 : List (Int32 × Int32)} {q : Nat}, isRf G q l1 → isRf G q l2 → l1.length = l2.length
  | [], _, _, h, _ => h.elim
  | _ :: _, [], _, _, h => h.elim
  | [x], [y], _, _, _ => rfl
  | [x], y :: z :: t, q, h1, ⟨q2, h2, _⟩ => by
    have h3 : G q = some (rfE .null x) := h1
    rw [h3] at h2
    simp at h2
  | x :: y :: t, [z], q, ⟨q2, h1, _⟩, h2 => by
    have h3 : G q = some (rfE .null z) := h2
    rw [h3] at h1
    simp at h1
  | x :: y :: t, z :: u :: v, q, ⟨q2, h1, h3⟩, ⟨q4, h2, h4⟩ => by
    rw [h1] at h2
    have e : q2 = q4 := by
      simp only [Option.some.injEq, Sum.inr.injEq, Prod.mk.injEq, List.cons.injEq, Value.ref.injEq] at h2
      exact h2.2.1
    subst e
    have h5 := isRf_len h3 h4
    simpa using h5
/-- a refusal's own cell and its cause -/
theorem isRf_ca {G : Mem} : ∀ {l : List (Int32 × Int32)} {q : Nat}, isRf G q l → ∃ (ca : Option Nat) (x : Int32 × Int32) (t : List (Int32 × Int32)), l = x :: t ∧ G q = some (rfE (va_rf ca) x) ∧ ca ≠ some q ∧ ((ca = none ∧ t = []) ∨ ∃ q2, ca = some q2 ∧ 0 < t.length ∧ isRf G q2 t)
  | [], _, h => h.elim
  | [x], q, h => ⟨none, x, [], rfl, h, by simp, Or.inl ⟨rfl, rfl⟩⟩
  | x :: y :: t, q, ⟨q2, h1, h2⟩ => ⟨some q2, x, y :: t, rfl, h1, fun e => by
      have e1 : q2 = q := Option.some.inj e
      subst e1
      have h3 : isRf G q2 (x :: y :: t) := ⟨q2, h1, h2⟩
      have h4 := isRf_len h3 h2
      simp at h4, Or.inr ⟨q2, rfl, by simp, h2⟩⟩
set_option maxHeartbeats 2000000 in
theorem t_X10_behind (l : Launch) (Ω : jO) {G : Mem} {sz : Nat} (q9 : Nat) {ch : List (Int32 × Int32)} (hch : isRf G q9 ch) (n9 : Nat) (hn : n9 ≤ 100) : Met l yX10_behind (ws_ yX10_behind cX10_behind 4 (some (.object "TurningWheel$Refused"))) ({ frames := 3, cells := 0, slots := 0, locals := 60 } : Room) (va_Pc [.ref q9, .int (nI (n9))] (jWd Ω G sz)) (jQ Ω (fun v G1 sz1 => G1 = G ∧ sz1 = sz ∧ ((v = some .null ∧ ch.length ≤ n9) ∨ ∃ r, v = some (.ref r) ∧ n9 < ch.length ∧ isRf G r (ch.drop n9)))) 0 0 (jB Ω) := by
  refine jMet (by decide) (Nat.le_of_ble_eq_true rfl) ?_
  intro p e s m args below meth c cx hr hnm
  refine J_loc [some (.ref q9), some (.int (nI (n9))), none, none] rfl ?_
  have K24 : ∀ (k : Nat) (w : Option Nat), k ≤ n9 → ((w = none ∧ ch.length ≤ k) ∨ ∃ r, w = some r ∧ k = n9 ∧ k < ch.length ∧ isRf G r (ch.drop k)) → J p l e ({ frames := 3, cells := 0, slots := 0, locals := 60 } : Room) s m args below meth c Ω 4 (MQ below (jQ Ω (fun v G1 sz1 => G1 = G ∧ sz1 = sz ∧ ((v = some .null ∧ ch.length ≤ n9) ∨ ∃ r, v = some (.ref r) ∧ n9 < ch.length ∧ isRf G r (ch.drop n9)))) args s 0 0 (jB Ω)) 0 0 sz G 24 [some (.ref q9), some (.int (nI (n9))), some (va_rf w), some (.int (nI (k)))] [] := by
    intro k w hk hw
    rcases hw with ⟨rfl, h1⟩ | ⟨r, rfl, hkn, h1, h2⟩
    · refine J_aload_nN cx dX10_behind_24 rfl ?_
      refine J_castN cx dX10_behind_25 ?_
      exact J_aret cx dX10_behind_28 hr (Or.inl ⟨_, rfl⟩) (Or.inl rfl) ⟨rfl, rfl, Or.inl ⟨rfl, by omega⟩⟩ (Nat.le_of_ble_eq_true rfl) (Nat.le_of_ble_eq_true rfl)
    · subst hkn
      obtain ⟨ca, x, t, e1, e2, -⟩ := isRf_ca h2
      refine J_aload_n cx dX10_behind_24 rfl ?_
      refine J_castS (q := (RX10, TX10, 8)) cx dX10_behind_25 q2582 (ci := 8) rfl e2 ?_
      exact J_aret cx dX10_behind_28 hr (Or.inl ⟨_, rfl⟩) (Or.inr ⟨_, rfl⟩) ⟨rfl, rfl, Or.inr ⟨r, rfl, h1, h2⟩⟩ (Nat.le_of_ble_eq_true rfl) (Nat.le_of_ble_eq_true rfl)
  have K4 : ∀ (j k : Nat) (w : Option Nat), j + k = n9 → ((w = none ∧ ch.length ≤ k) ∨ ∃ r, w = some r ∧ k < ch.length ∧ isRf G r (ch.drop k)) → J p l e ({ frames := 3, cells := 0, slots := 0, locals := 60 } : Room) s m args below meth c Ω 4 (MQ below (jQ Ω (fun v G1 sz1 => G1 = G ∧ sz1 = sz ∧ ((v = some .null ∧ ch.length ≤ n9) ∨ ∃ r, v = some (.ref r) ∧ n9 < ch.length ∧ isRf G r (ch.drop n9)))) args s 0 0 (jB Ω)) 0 0 sz G 4 [some (.ref q9), some (.int (nI (n9))), some (va_rf w), some (.int (nI (k)))] [] := by
    intro j
    induction j with
    | zero =>
      intro k w hk hw
      refine J_iload_n cx dX10_behind_4 rfl ?_
      refine J_iload_n cx dX10_behind_5 rfl ?_
      refine J_icmpN_ge (tgt := 24) cx dX10_behind_6 (by decide) (by omega) (by omega) (fun c6 => ?_) (fun c6 => absurd c6 (by omega))
      refine K24 k w (by omega) ?_
      rcases hw with h | ⟨r, h1, h2, h3⟩
      · exact Or.inl h
      · exact Or.inr ⟨r, h1, by omega, h2, h3⟩
    | succ j ih =>
      intro k w hk hw
      refine J_iload_n cx dX10_behind_4 rfl ?_
      refine J_iload_n cx dX10_behind_5 rfl ?_
      refine J_icmpN_ge (tgt := 24) cx dX10_behind_6 (by decide) (by omega) (by omega) (fun c6 => absurd c6 (by omega)) (fun c6 => ?_)
      rcases hw with ⟨rfl, h1⟩ | ⟨r, rfl, h1, h2⟩
      · refine J_aload_nN cx dX10_behind_9 rfl ?_
        refine J_ifnullN (tgt := 24) cx dX10_behind_10 (by decide) ?_
        exact K24 k none (by omega) (Or.inl ⟨rfl, h1⟩)
      · obtain ⟨ca, x, t, e1, e2, e3, e4⟩ := isRf_ca h2
        refine J_aload_n cx dX10_behind_9 rfl ?_
        refine J_ifnull cx dX10_behind_10 ?_
        refine J_aload_n cx dX10_behind_13 rfl ?_
        refine J_callVS (n := 0) cx (ci := 8) [] (t_J15_getCause l Ω r e2 e3) dX10_behind_14 q2571 q2572 q2576 q111 q2581 ⟨by decide, by decide, by decide +kernel⟩ rfl e2 rfl rfl ⟨Nat.le_of_ble_eq_true rfl, Nat.le_of_ble_eq_true rfl⟩ rfl rfl (Nat.le_of_ble_eq_true rfl) ⟨Nat.le_of_ble_eq_true rfl, Nat.le_of_ble_eq_true rfl⟩ (fun v9 G9 z9 hp9 _ => ?_) (fun _ _ _ _ _ _ _ _ h9 _ => h9.elim)
        obtain ⟨d1, d2, d3⟩ := hp9
        subst d1; subst d2; subst d3
        have hdr : (ch.drop (k + 1)) = t := by rw [← List.drop_drop, e1]; rfl
        have hlen : ch.length = k + (1 + t.length) := by
          have h9 := congrArg List.length e1
          rw [List.length_drop] at h9
          simp at h9
          omega
        rcases e4 with ⟨rfl, ht⟩ | ⟨q2, rfl, ht, h3⟩
        · refine J_astore_nN2 cx dX10_behind_17 (by decide) rfl ?_
          refine J_iinc3 (v := nI (k + 1)) cx dX10_behind_18 (nI_1 k) (by decide) rfl ?_
          refine J_goto (tgt := 4) cx dX10_behind_21 (by decide) ?_
          exact ih (k + 1) none (by omega) (Or.inl ⟨rfl, by rw [ht] at hlen; simp at hlen; omega⟩)
        · refine J_astore_n2 cx dX10_behind_17 (by decide) rfl ?_
          refine J_iinc3 (v := nI (k + 1)) cx dX10_behind_18 (nI_1 k) (by decide) rfl ?_
          refine J_goto (tgt := 4) cx dX10_behind_21 (by decide) ?_
          exact ih (k + 1) (some q2) (by omega) (Or.inr ⟨q2, rfl, by omega, by rw [hdr]; exact h3⟩)
  have h0 : 0 < ch.length := by
    obtain ⟨ca, x, t, e1, -⟩ := isRf_ca hch
    rw [e1]
    simp
  refine J_aload_n cx dX10_behind_0 rfl ?_
  refine J_astore_n2 cx dX10_behind_1 (by decide) rfl ?_
  refine J_iconst (v := nI (0)) cx dX10_behind_2 (by decide) ?_
  refine J_istore_n3 cx dX10_behind_3 (by decide) rfl ?_
  exact K4 n9 0 (some q9) (by omega) (Or.inr ⟨q9, rfl, h0, by simpa using hch⟩)
