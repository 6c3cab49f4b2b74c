/-! POTTERY 10 (gen/mk_y7.py): passes -/
set_option maxRecDepth 100000
/-- a pottery's numbers, hours, rooms, row -/
abbrev H4 : Type := (Nat → Int32) × (Nat → List Int32) × (Nat → Nat) × List Nat
def c_hour (x : H4) : H4 := (c_turns (c_h1 x.1) x.2.2.2, hrD (c_clk x.1) x.2.1 (tn (x.1 2)), hrC (c_clk x.1) x.2.1 x.2.2.1 (tn (x.1 2)), c_trow (c_h1 x.1) x.2.2.2)
def c_hours (x : H4) : Nat → H4
  | 0 => x
  | k + 1 => c_hour (c_hours x k)
/-- what an hour asks -/
def hourC (x : H4) : Prop := (x.1 0 = nI (tn (x.1 0)) ∧ tn (x.1 0) ≤ 498) ∧ airOk x.1 ∧ (∀ p, p < tn (x.1 2) → gP x.1 p 0 = nI (2) → dryOk (c_clk x.1) p ∧ (x.2.1 p).length < 590) ∧ (c_h1 x.1 38 = -1 ∨ (c_h1 x.1 38 = nI (tn (c_h1 x.1 38)) ∧ tn (c_h1 x.1 38) < tn (c_h1 x.1 2))) ∧ rowOk (c_wh (c_h1 x.1)) x.2.2.2
def hourS (x : H4) : Nat := hrS (c_clk x.1) x.2.1 x.2.2.1 (tn (x.1 2)) + 5
def hoursS (x : H4) : Nat → Nat
  | 0 => 0
  | k + 1 => hoursS x k + hourS (c_hours x k)
theorem hoursS_mono (x : H4) {k n : Nat} (h : k ≤ n) : hoursS x k ≤ hoursS x n := by
  induction n with
  | zero => rw [Nat.le_zero.mp h]; exact Nat.le_refl _
  | succ n ih =>
    by_cases e : k = n + 1
    · rw [e]; exact Nat.le_refl _
    · simp only [hoursS]; have := ih (by omega); omega
/-- a pottery in memory, its four together -/
abbrev isP4 (Ω : jO) (A : Nat → Prop) (G : Mem) (a : Nat) (x : H4) (e : Int32) : Prop := isPy Ω A G a x.1 x.2.1 x.2.2.1 x.2.2.2 e
theorem t_P4_hour (l : Launch) (Ω : jO) {G : Mem} {sz : Nat} {A : Nat → Prop} (a : Nat) {x : H4} {e9 : Int32} (hpy : isP4 Ω A G a x e9) (hA : ∀ q, sz ≤ q → A q) (hok : hourC x) : Met l yX1_goesHour (ws_ yX1_goesHour cX1_goesHour 4 none) ({ frames := 9, cells := 17, slots := hourS x, locals := 181 } : Room) (va_Pc [.ref a] (jWd Ω G sz)) (jQ Ω (fun v G1 sz1 => v = none ∧ isP4 Ω A G1 a (c_hour x) e9 ∧ ∀ q, q < sz → ¬ A q → G1 q = G q)) 17 (hourS x) (jB Ω) :=
  t_Py_goesHour l Ω a hpy hA hok.1 hok.2.1 hok.2.2.1 hok.2.2.2.1 hok.2.2.2.2
set_option maxHeartbeats 1000000 in
theorem t_Py_passes (l : Launch) (Ω : jO) {G : Mem} {sz : Nat} {A : Nat → Prop} (a : Nat) {g : Nat → Int32} {D : Nat → List Int32} {cp : Nat → Nat} {row : List Nat} {e9 : Int32} (hpy : isPy Ω A G a g D cp row e9) (n9 : Nat) (hn1 : 1 ≤ n9) (hn48 : n9 ≤ 48) (hA : ∀ q, sz ≤ q → A q) (hok : g 0 + nI (n9) ≤ nI (400) → ∀ k, k < n9 → hourC (c_hours (g, D, cp, row) k)) : vx_Met l yX1_passes (ws_ yX1_passes cX1_passes 3 (some .int)) ({ frames := 10, cells := 17 * n9 + 1, slots := hoursS (g, D, cp, row) n9 + 8, locals := 204 } : Room) (va_Pc [.ref a, .int (nI (n9))] (jWd Ω G sz)) (jQ Ω (fun v G1 sz1 => g 0 + nI (n9) ≤ nI (400) ∧ v = some (.int ((c_hours (g, D, cp, row) n9).1 0)) ∧ isP4 Ω A G1 a (c_hours (g, D, cp, row) n9) e9 ∧ ∀ q, q < sz → ¬ A q → G1 q = G q)) (jXC Ω (fun ci q G1 sz1 => ¬ g 0 + nI (n9) ≤ nI (400) ∧ xPy A G sz [(nI (17), g 0 + nI (n9))] ci q G1 sz1)) (17 * n9 + 1) (hoursS (g, D, cp, row) n9 + 8) (jB Ω) := by
  refine jMetX (by decide) (Nat.le_of_ble_eq_true rfl) ?_
  intro p e s m args below meth c cx hr hnm hex
  refine J_loc [some (.ref a), some (.int (nI (n9))), none] rfl ?_
  obtain ⟨B, pl, ol, ns, dr, sh, hall⟩ := hpy.all
  obtain ⟨⟨hAa, hC⟩, hI, hP, hO, hR, hS, hX⟩ := id hall
  obtain ⟨mcp, hps, hA3, hA8, hg2, hp16, hPp, hdr⟩ := id hP
  obtain ⟨mco, hos, hA4, hA9, hg3, ho8, hond, hOo⟩ := id hO
  obtain ⟨sf, df, kf, nk, hIA, hse, hsf, hdry, hdf, hsk, hnk, hg1, hkf⟩ := id hI
  obtain ⟨mcr, hrw, hA5, hAns, hr16⟩ := id hR
  obtain ⟨hsh, hsa, hA6, hA7, hsk8⟩ := id hS
  have ebp := hX.2.2
  refine J_ltA (fun hlA9 => ?_)
  have hne9 : jNe Ω := cx.kw.ne
  have hal3 := hps.lt hlA9
  have hal4 := hos.lt hlA9
  have hbA := ebp _ hAa
  have hb0 := ebp _ hIA.1
  have hb1 := ebp _ hIA.2.1
  have hb2 := ebp _ hIA.2.2
  have hb3 := ebp _ hA3
  have hb4 := ebp _ hA4
  have hb5 := ebp _ hA5
  have hb6 := ebp _ hA6
  have hb7 := ebp _ hA7
  have hqa : jHide _ := hall.neO hC
  refine J_bs cx (fun hbs9 => ?_)
  refine J_lt hC (fun hlt0 => ?_)
  refine J_lt hse (fun hlt1 => ?_)
  refine J_lt hdry (fun hlt2 => ?_)
  refine J_lt hsk (fun hlt3 => ?_)
  refine J_lt hsh (fun hlt6 => ?_)
  refine J_lt hsa (fun hlt7 => ?_)
  refine J_aload_n cx dX1_passes_0 rfl ?_
  refine J_get cx in_X1 (ci := 1) rfl 7 (by decide) q261 (fun _ h => h) dX1_passes_1 hC rfl ?_
  refine J_iload_n cx dX1_passes_4 rfl ?_
  refine J_iadd cx dX1_passes_5 ?_
  refine J_sipush (v := nI (400)) cx dX1_passes_6 (by decide) ?_
  refine J_icmp_le (tgt := 28) cx dX1_passes_9 (by decide) (fun c9 => ?_) (fun c9 => ?_)
  · refine J_iconst (v := nI (0)) cx dX1_passes_28 (by decide) ?_
    refine J_istore_n2 cx dX1_passes_29 (by decide) rfl ?_
    have K30 : ∀ (nk9 k9 : Nat) (G8 : Mem) (z8 : Nat), nk9 + k9 = n9 → (isP4 Ω A G8 a (c_hours (g, D, cp, row) k9) e9 ∧ sz ≤ z8 ∧ ∀ q, q < sz → ¬ A q → G8 q = G q) → J p l e ({ frames := 10, cells := 17 * n9 + 1, slots := hoursS (g, D, cp, row) n9 + 8, locals := 204 } : Room) s m args below meth c Ω 3 (vx_MQ below (jQ Ω (fun v G1 sz1 => g 0 + nI (n9) ≤ nI (400) ∧ v = some (.int ((c_hours (g, D, cp, row) n9).1 0)) ∧ isP4 Ω A G1 a (c_hours (g, D, cp, row) n9) e9 ∧ ∀ q, q < sz → ¬ A q → G1 q = G q)) (jXC Ω (fun ci q G1 sz1 => ¬ g 0 + nI (n9) ≤ nI (400) ∧ xPy A G sz [(nI (17), g 0 + nI (n9))] ci q G1 sz1)) args s (17 * n9 + 1) (hoursS (g, D, cp, row) n9 + 8) (jB Ω)) (17 * k9) (hoursS (g, D, cp, row) k9) z8 G8 30 [some (.ref a), some (.int (nI (n9))), some (.int (nI (k9)))] [] := by
      intro nk9
      induction nk9 with
      | zero =>
        intro k9 G8 z8 hk9 hinv
        obtain ⟨hpy2, hz8, hfr2⟩ := hinv
        obtain ⟨B, pl, ol, ns, dr, sh, hall⟩ := hpy2.all
        obtain ⟨⟨hAa, hC⟩, hI, hP, hO, hR, hS, hX⟩ := id hall
        obtain ⟨mcp, hps, hA3, hA8, hg2, hp16, hPp, hdr⟩ := id hP
        obtain ⟨mco, hos, hA4, hA9, hg3, ho8, hond, hOo⟩ := id hO
        obtain ⟨sf, df, kf, nk, hIA, hse, hsf, hdry, hdf, hsk, hnk, hg1, hkf⟩ := id hI
        obtain ⟨mcr, hrw, hA5, hAns, hr16⟩ := id hR
        obtain ⟨hsh, hsa, hA6, hA7, hsk8⟩ := id hS
        have ebp := hX.2.2
        refine J_ltA (fun hlA9 => ?_)
        have hne9 : jNe Ω := cx.kw.ne
        have hal3 := hps.lt hlA9
        have hal4 := hos.lt hlA9
        have hbA := ebp _ hAa
        have hb0 := ebp _ hIA.1
        have hb1 := ebp _ hIA.2.1
        have hb2 := ebp _ hIA.2.2
        have hb3 := ebp _ hA3
        have hb4 := ebp _ hA4
        have hb5 := ebp _ hA5
        have hb6 := ebp _ hA6
        have hb7 := ebp _ hA7
        have hqa : jHide _ := hall.neO hC
        refine J_lt hC (fun hlt0 => ?_)
        refine J_lt hse (fun hlt1 => ?_)
        refine J_lt hdry (fun hlt2 => ?_)
        refine J_lt hsk (fun hlt3 => ?_)
        refine J_lt hsh (fun hlt6 => ?_)
        refine J_lt hsa (fun hlt7 => ?_)
        have hS0 := hoursS_mono (g, D, cp, row) (k := k9) (n := n9) (by omega)
        refine J_iload_n cx dX1_passes_30 rfl ?_
        refine J_iload_n cx dX1_passes_31 rfl ?_
        refine J_icmpN_ge (tgt := 45) cx dX1_passes_32 (by decide) (by omega) (by omega) (fun c32 => ?_) (fun c32 => absurd c32 (by omega))
        refine J_aload_n cx dX1_passes_45 rfl ?_
        refine J_get cx in_X1 (ci := 1) rfl 7 (by decide) q261 (fun _ h => h) dX1_passes_46 hC rfl ?_
        refine J_xret ?_
        exact J_iret cx dX1_passes_49 hr ⟨c9, by rw [show k9 = n9 by omega], by rw [show k9 = n9 by omega] at hpy2; exact hpy2, hfr2⟩ (by show _ ≤ 17 * n9 + 1; omega) (by show _ ≤ hoursS (g, D, cp, row) n9 + 8; omega)
      | succ nk9 ihk9 =>
        intro k9 G8 z8 hk9 hinv
        obtain ⟨hpy2, hz8, hfr2⟩ := hinv
        obtain ⟨B, pl, ol, ns, dr, sh, hall⟩ := hpy2.all
        obtain ⟨⟨hAa, hC⟩, hI, hP, hO, hR, hS, hX⟩ := id hall
        obtain ⟨mcp, hps, hA3, hA8, hg2, hp16, hPp, hdr⟩ := id hP
        obtain ⟨mco, hos, hA4, hA9, hg3, ho8, hond, hOo⟩ := id hO
        obtain ⟨sf, df, kf, nk, hIA, hse, hsf, hdry, hdf, hsk, hnk, hg1, hkf⟩ := id hI
        obtain ⟨mcr, hrw, hA5, hAns, hr16⟩ := id hR
        obtain ⟨hsh, hsa, hA6, hA7, hsk8⟩ := id hS
        have ebp := hX.2.2
        refine J_ltA (fun hlA9 => ?_)
        have hne9 : jNe Ω := cx.kw.ne
        have hal3 := hps.lt hlA9
        have hal4 := hos.lt hlA9
        have hbA := ebp _ hAa
        have hb0 := ebp _ hIA.1
        have hb1 := ebp _ hIA.2.1
        have hb2 := ebp _ hIA.2.2
        have hb3 := ebp _ hA3
        have hb4 := ebp _ hA4
        have hb5 := ebp _ hA5
        have hb6 := ebp _ hA6
        have hb7 := ebp _ hA7
        have hqa : jHide _ := hall.neO hC
        refine J_lt hC (fun hlt0 => ?_)
        refine J_lt hse (fun hlt1 => ?_)
        refine J_lt hdry (fun hlt2 => ?_)
        refine J_lt hsk (fun hlt3 => ?_)
        refine J_lt hsh (fun hlt6 => ?_)
        refine J_lt hsa (fun hlt7 => ?_)
        have hS0 := hoursS_mono (g, D, cp, row) (k := k9) (n := n9) (by omega)
        refine J_iload_n cx dX1_passes_30 rfl ?_
        refine J_iload_n cx dX1_passes_31 rfl ?_
        refine J_icmpN_ge (tgt := 45) cx dX1_passes_32 (by decide) (by omega) (by omega) (fun c32 => absurd c32 (by omega)) (fun c32 => ?_)
        refine J_aload_n cx dX1_passes_35 rfl ?_
        have hS1 : hoursS (g, D, cp, row) k9 + hourS (c_hours (g, D, cp, row) k9) ≤ hoursS (g, D, cp, row) n9 := hoursS_mono (g, D, cp, row) (k := k9 + 1) (n := n9) (by omega)
        refine J_callV (n := 0) cx (ci := 1) [] (t_P4_hour l Ω a hpy2 (fun q hq => hA q (by omega)) (hok c9 k9 (by omega))) dX1_passes_36 (lw_V q1312 q1313 q1314 q85 q1315) ⟨rfl, by decide, by decide, by decide +kernel⟩ rfl hC rfl rfl ⟨Nat.le_of_ble_eq_true rfl, Nat.le_of_ble_eq_true rfl⟩ rfl rfl (Nat.le_of_ble_eq_true rfl) ⟨by show _ ≤ 17 * n9 + 1; omega, by show _ ≤ hoursS (g, D, cp, row) n9 + 8; omega⟩ (fun v9 G9 z9 hp9 hle9 => ?_)
        obtain ⟨e1, hpy4, hfr4⟩ := hp9
        subst e1
        refine J_iinc2 (v := nI (k9 + 1)) cx dX1_passes_39 (nI_1 k9) (by decide) rfl ?_
        refine J_goto (tgt := 30) cx dX1_passes_42 (by decide) ?_
        refine J_sub (L1 := [some (.ref a), some (.int (nI (n9))), some (.int (nI (k9 + 1)))]) (jsub_s (jsub_s (jsub_s jsub_0))) ?_
        refine J_widen (cells' := 17 * (k9 + 1)) (slots' := hoursS (g, D, cp, row) (k9 + 1)) (by omega) (Nat.le_refl _) ?_
        exact ihk9 (k9 + 1) _ _ (by omega) ⟨hpy4, by omega, fun q h1 h2 => (hfr4 q (by omega) h2).trans (hfr2 q h1 h2)⟩
    refine J_sub (L1 := [some (.ref a), some (.int (nI (n9))), some (.int (nI (0)))]) (jsub_s (jsub_s (jsub_s jsub_0))) ?_
    exact K30 n9 0 _ _ (by omega) ⟨hpy, Nat.le_refl _, fun _ _ _ => rfl⟩
  · refine J_new cx in_X10 tyX10 tyX10_ok q1283 q1284 q125 (ci := 8) rfl (fs := [.null, .null, .null, .null, .null, .int 0, .int 0, .int 0]) (by decide +kernel) dX1_passes_12 (Nat.le_of_ble_eq_true rfl) (Nat.le_of_ble_eq_true rfl) ?_
    refine J_dup cx dX1_passes_15 rfl ?_
    refine J_bipush (v := nI (17)) cx dX1_passes_16 (by decide) ?_
    refine J_aload_n cx dX1_passes_18 rfl ?_
    refine J_get cx in_X1 (ci := 1) rfl 7 (by decide) q261 (fun _ h => h) dX1_passes_19 ((gset_ne (by omega)).trans hC) rfl ?_
    refine J_iload_n cx dX1_passes_22 rfl ?_
    refine J_iadd cx dX1_passes_23 ?_
    refine J_callI (n := 2) cx [.int (nI (17)), .int ((g 0) + (nI (n9)))] (t_X10_init l Ω sz (nI (17)) ((g 0) + (nI (n9))) gset_eq (by omega)) dX1_passes_24 q1294 q125 q1292 q1293 rfl ⟨by decide, by decide, by decide +kernel⟩ rfl rfl ⟨Nat.le_of_ble_eq_true rfl, Nat.le_of_ble_eq_true rfl⟩ rfl rfl (Nat.le_of_ble_eq_true rfl) ⟨by show _ ≤ 17 * n9 + 1; omega, by show _ ≤ hoursS (g, D, cp, row) n9 + 8; omega⟩ (jdet ?_)
    refine J_mem (gset G sz (.inr (8, [.null, .null, .null, .null, .null, .int 0, .int (nI (17)), .int ((g 0) + (nI (n9)))]))) gset_gset ?_
    refine J_athrow cx dX1_passes_27 ?_
    exact JX_out cx (fun x9 h9 => (hex x9 h9).elim) (ci := 8) rfl gset_eq ⟨c9, rfl, Nat.le_refl _, Nat.lt_succ_self _, gset_eq, fun z h1 _ => gset_ne (by omega)⟩ (Nat.le_of_ble_eq_true rfl) (Nat.le_of_ble_eq_true rfl)
