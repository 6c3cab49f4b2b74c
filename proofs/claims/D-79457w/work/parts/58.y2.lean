/-! POTTERY 5 (gen/mk_y2.py): over isPy: covers, glazes -/
set_option maxRecDepth 100000
set_option maxHeartbeats 1000000 in
theorem t_Py_covers (l : Launch) (Ω : jO) {G : Mem} {sz : Nat} {A : Nat → Prop} (a : Nat) {g : Nat → Int32} {D : Nat → List Int32} {cp : Nat → Nat} {row : List Nat} {e9 : Int32} (hpy : isPy Ω A G a g D cp row e9) (p9 : Nat) (b9 : Int32) (hpi : p9 < tn (g 2)) (hb9 : b9 = 0 ∨ b9 = 1) : vx_Met l yX1_covers (ws_ yX1_covers cX1_covers 5 (some .int)) ({ frames := 6, cells := 1, slots := 8, locals := 128 } : Room) (va_Pc [.ref a, .int (nI (p9)), .int b9] (jWd Ω G sz)) (jQ Ω (fun v G1 sz1 => gP g p9 0 = nI (2) ∧ v = some (.int (gP g p9 5)) ∧ sz1 = sz ∧ isPy Ω A G1 a (upd g (50 + 13 * p9 + 5) b9) D cp row e9 ∧ ∀ q, q < sz → ¬ A q → G1 q = G q)) (jXC Ω (fun ci q G1 sz1 => ¬ gP g p9 0 = nI (2) ∧ xPy A G sz [(nI (13), gP g p9 0)] ci q G1 sz1)) 1 8 (jB Ω) := by
  refine jMetX (by decide) (Nat.le_of_ble_eq_true rfl) ?_
  intro p e s m args below meth c cx hr hnm hex
  refine J_loc [some (.ref a), some (.int (nI (p9))), some (.int b9), none, none] rfl ?_
  obtain ⟨B, pl, ol, ns, dr, sh, hall⟩ := hpy.all
  obtain ⟨⟨hAa, hC⟩, hI, hP, hO, hR, hS, hX⟩ := id hall
  obtain ⟨mcp, hps, hA3, hA8, hg2, hp16, hPp, hdr⟩ := id hP
  obtain ⟨mco, hos, hA4, hA9, hg3, ho8, hond, hOo⟩ := id hO
  obtain ⟨sf, df, kf, nk, hIA, hse, hsf, hdry, hdf, hsk, hnk, hg1, hkf⟩ := id hI
  obtain ⟨mcr, hrw, hA5, hAns, hr16⟩ := id hR
  obtain ⟨hsh, hsa, hA6, hA7, hsk8⟩ := id hS
  have ebp := hX.2.2
  refine J_ltA (fun hlA9 => ?_)
  have hne9 : jNe Ω := cx.kw.ne
  have hal3 := hps.lt hlA9
  have hal4 := hos.lt hlA9
  have hbA := ebp _ hAa
  have hb0 := ebp _ hIA.1
  have hb1 := ebp _ hIA.2.1
  have hb2 := ebp _ hIA.2.2
  have hb3 := ebp _ hA3
  have hb4 := ebp _ hA4
  have hb5 := ebp _ hA5
  have hb6 := ebp _ hA6
  have hb7 := ebp _ hA7
  have hqa : jHide _ := hall.neO hC
  have hpl : p9 < pl.length := by rw [hg2, tn_nI (by omega)] at hpi; exact hpi
  refine J_bs cx (fun hbs9 => ?_)
  refine J_lt hC (fun hlt0 => ?_)
  refine J_lt hse (fun hlt1 => ?_)
  refine J_lt hdry (fun hlt2 => ?_)
  refine J_lt hsk (fun hlt3 => ?_)
  refine J_lt hsh (fun hlt6 => ?_)
  refine J_lt hsa (fun hlt7 => ?_)
  refine J_aload_n cx dX1_covers_0 rfl ?_
  refine J_iload_n cx dX1_covers_1 rfl ?_
  refine J_iconst (v := nI (2)) cx dX1_covers_2 (by decide) ?_
  obtain ⟨y2, hy2⟩ := jget (ns := pl) (i := p9) (by omega)
  obtain ⟨hAy2, hAd2, w2, f2, hc2, hn2, hw2, hwb2, hd2, hl2, hm2, hu2, he2, hf2, hv2⟩ := hPp _ _ hy2
  have hq2 : jHide _ := hall.neP hne9 hc2 hd2 hw2
  have hz2 : y2 < sz ∧ dr p9 < sz ∧ w2 < sz := ⟨hlA9 _ _ hc2, hlA9 _ _ hd2, hlA9 _ _ hw2⟩
  refine J_callVX (n := 2) cx (ci := 1) [.int (nI (p9)), .int (nI (2))] (t_X1_inState l Ω a hC p9 y2 (nI (2)) (P9 := potR p9 (gP g p9) w2 (dr p9) (D p9).length) hps hy2 hc2) dX1_covers_3 (lw_V q1650 q1652 qs16 q85 q1653) ⟨rfl, by decide, by decide, by decide +kernel⟩ rfl hC rfl rfl ⟨Nat.le_of_ble_eq_true rfl, Nat.le_of_ble_eq_true rfl⟩ rfl rfl (Nat.le_of_ble_eq_true rfl) ⟨Nat.le_of_ble_eq_true rfl, Nat.le_of_ble_eq_true rfl⟩ (fun v9 G9 z9 hp9 _ => ?_) (fun ci9 q9 r9 fs9 G9 z9 hc9 hq9 hp9 _ => JX_out cx (fun x9 h9 => (hex x9 h9).elim) hc9 hq9 ⟨hp9.1, hp9.2.py⟩ (Nat.le_of_ble_eq_true rfl) (Nat.le_of_ble_eq_true rfl))
  obtain ⟨hst9, e1, e2, e3⟩ := hp9
  rw [e1, e2, e3]
  refine J_astore_n3 cx dX1_covers_6 (by decide) rfl ?_
  refine J_aload_n cx dX1_covers_7 rfl ?_
  refine J_getN cx in_X6 (ci := 5) rfl 6 (by decide) q468 (fun _ h => h) dX1_covers_8 hc2 rfl ?_
  refine J_callSN (n := 1) cx [.int (gP g p9 5)] (t_X0_bit l Ω (gP g p9 5)) dX1_covers_11 q1332 q1654 q84 q1331 ⟨by decide, by decide, by decide +kernel⟩ rfl rfl ⟨Nat.le_of_ble_eq_true rfl, Nat.le_of_ble_eq_true rfl⟩ rfl rfl (Nat.le_of_ble_eq_true rfl) ⟨Nat.le_of_ble_eq_true rfl, Nat.le_of_ble_eq_true rfl⟩ (jdet ?_)
  refine J_istore4 cx dX1_covers_14 (by decide) rfl ?_
  refine J_aload_n cx dX1_covers_16 rfl ?_
  refine J_iload_n cx dX1_covers_17 rfl ?_
  refine J_putN cx in_X6 tyX6 tyX6_ok nmX6 (ci := 5) rfl 6 (by decide) q468 (fun _ h => h) rfl (ty := .boolean) (by decide +kernel) dX1_covers_18 (by rcases hb9 with h | h <;> rw [h] <;> rfl) (by rcases hb9 with h | h <;> rw [h] <;> rfl) hc2 (Nat.le_of_ble_eq_true rfl) (by have := ebp _ hAy2; omega) ?_
  refine J_mem (gset G y2 (.inr (5, [.int (nI (p9)), .int (gP g p9 1), .int (gP g p9 2), .int (gP g p9 3), .int (gP g p9 0), .int (gP g p9 4), .int b9, .float ((gP g p9 11).toUInt32), .ref w2, .int (gP g p9 10), .ref (dr p9), .int (nI ((D p9).length))]))) rfl ?_
  have hfin : isPy Ω A (gset G y2 (.inr (5, [.int (nI (p9)), .int (gP g p9 1), .int (gP g p9 2), .int (gP g p9 3), .int (gP g p9 0), .int (gP g p9 4), .int b9, .float ((gP g p9 11).toUInt32), .ref w2, .int (gP g p9 10), .ref (dr p9), .int (nI ((D p9).length))]))) a (upd g (50 + 13 * p9 + 5) b9) D cp row e9 := hall.pot cx.kw.ne hy2 (fun q c hq h1 h2 => (gset_ne h1).trans hq) ⟨w2, f2, gset_eq.trans (by simp [potC, gP, upd]), by simp [gP, upd, hn2], (gset_ne (Ne.symm hq2.get.2.2.2.1)).trans (by simpa [gP, upd] using hw2), hwb2, (gset_ne (jneC hd2 hc2 (by simp))).trans hd2, hl2, hm2, hu2, he2, hf2, by simpa [gP, upd] using hb9⟩ hAd2 (Or.inl rfl) (fun i h1 h2 => by simp only [upd]; rw [if_neg (by omega)]) (fun k _ => ⟨rfl, rfl⟩)
  have hfr : ∀ q, q < sz → ¬ A q → (gset G y2 (.inr (5, [.int (nI (p9)), .int (gP g p9 1), .int (gP g p9 2), .int (gP g p9 3), .int (gP g p9 0), .int (gP g p9 4), .int b9, .float ((gP g p9 11).toUInt32), .ref w2, .int (gP g p9 10), .ref (dr p9), .int (nI ((D p9).length))]))) q = G q := fun q _ h2 => gset_ne (fun e => h2 (by rw [e]; exact hAy2))
  have hva : r_bit (gP g p9 5) = gP g p9 5 := by rcases hv2 with h | h <;> rw [h] <;> rfl
  refine J_iload cx dX1_covers_21 rfl ?_
  refine J_xret ?_
  exact J_iret cx dX1_covers_23 hr ⟨hst9, by rw [hva], rfl, hfin, hfr⟩ (Nat.le_of_ble_eq_true rfl) (Nat.le_of_ble_eq_true rfl)
theorem gl_ne : ∀ k : Nat, k < 4 → ¬ nI k = -1 := by decide +kernel
set_option maxHeartbeats 1000000 in
theorem t_Py_glazes (l : Launch) (Ω : jO) {G : Mem} {sz : Nat} {A : Nat → Prop} (a : Nat) {g : Nat → Int32} {D : Nat → List Int32} {cp : Nat → Nat} {row : List Nat} {e9 : Int32} (hpy : isPy Ω A G a g D cp row e9) (p9 gl9 : Nat) (co9 : Int32) (hpi : p9 < tn (g 2)) (hgl : gl9 < 4) (hnn : vf_n32 (FP.fdiv (FP.i2f (co9 * g (4 + gl9))) (FP.i2f (gP g p9 2)))) (hA : ∀ q, sz ≤ q → A q) : vx_Met l yX1_glazes (ws_ yX1_glazes cX1_glazes 5 (some .int)) ({ frames := 6, cells := 2, slots := 11, locals := 128 } : Room) (va_Pc [.ref a, .int (nI (p9)), .int (nI (gl9)), .int co9] (jWd Ω G sz)) (jQ Ω (fun v G1 sz1 => gP g p9 0 = nI (3) ∧ v = some (.int (r_X3_reach (o_X3_glazes_g g p9 (nI gl9) co9) p9)) ∧ sz1 = sz + 1 ∧ isPy Ω A G1 a (o_X3_glazes_g g p9 (nI gl9) co9) D cp row e9 ∧ ∀ q, q < sz → ¬ A q → G1 q = G q)) (jXC Ω (fun ci q G1 sz1 => ¬ gP g p9 0 = nI (3) ∧ xPy A G sz [(nI (13), gP g p9 0)] ci q G1 sz1)) 2 11 (jB Ω) := by
  refine jMetX (by decide) (Nat.le_of_ble_eq_true rfl) ?_
  intro p e s m args below meth c cx hr hnm hex
  refine J_loc [some (.ref a), some (.int (nI (p9))), some (.int (nI (gl9))), some (.int co9), none] rfl ?_
  obtain ⟨B, pl, ol, ns, dr, sh, hall⟩ := hpy.all
  obtain ⟨⟨hAa, hC⟩, hI, hP, hO, hR, hS, hX⟩ := id hall
  obtain ⟨mcp, hps, hA3, hA8, hg2, hp16, hPp, hdr⟩ := id hP
  obtain ⟨mco, hos, hA4, hA9, hg3, ho8, hond, hOo⟩ := id hO
  obtain ⟨sf, df, kf, nk, hIA, hse, hsf, hdry, hdf, hsk, hnk, hg1, hkf⟩ := id hI
  obtain ⟨mcr, hrw, hA5, hAns, hr16⟩ := id hR
  obtain ⟨hsh, hsa, hA6, hA7, hsk8⟩ := id hS
  have ebp := hX.2.2
  refine J_ltA (fun hlA9 => ?_)
  have hne9 : jNe Ω := cx.kw.ne
  have hal3 := hps.lt hlA9
  have hal4 := hos.lt hlA9
  have hbA := ebp _ hAa
  have hb0 := ebp _ hIA.1
  have hb1 := ebp _ hIA.2.1
  have hb2 := ebp _ hIA.2.2
  have hb3 := ebp _ hA3
  have hb4 := ebp _ hA4
  have hb5 := ebp _ hA5
  have hb6 := ebp _ hA6
  have hb7 := ebp _ hA7
  have hqa : jHide _ := hall.neO hC
  have hpl : p9 < pl.length := by rw [hg2, tn_nI (by omega)] at hpi; exact hpi
  have hwg : wGl (some (nI gl9, co9)) = nI (tn (wGl (some (nI gl9, co9)))) := by simp only [wGl]; rw [tn_nI (by omega)]
  have hwt : tn (wGl (some (nI gl9, co9))) = gl9 := by simp only [wGl]; exact tn_nI (by omega)
  refine J_bs cx (fun hbs9 => ?_)
  refine J_lt hC (fun hlt0 => ?_)
  refine J_lt hse (fun hlt1 => ?_)
  refine J_lt hdry (fun hlt2 => ?_)
  refine J_lt hsk (fun hlt3 => ?_)
  refine J_lt hsh (fun hlt6 => ?_)
  refine J_lt hsa (fun hlt7 => ?_)
  refine J_aload_n cx dX1_glazes_0 rfl ?_
  refine J_iload_n cx dX1_glazes_1 rfl ?_
  refine J_iconst (v := nI (3)) cx dX1_glazes_2 (by decide) ?_
  obtain ⟨y3, hy3⟩ := jget (ns := pl) (i := p9) (by omega)
  obtain ⟨hAy3, hAd3, w3, f3, hc3, hn3, hw3, hwb3, hd3, hl3, hm3, hu3, he3, hf3, hv3⟩ := hPp _ _ hy3
  have hq3 : jHide _ := hall.neP hne9 hc3 hd3 hw3
  have hz3 : y3 < sz ∧ dr p9 < sz ∧ w3 < sz := ⟨hlA9 _ _ hc3, hlA9 _ _ hd3, hlA9 _ _ hw3⟩
  refine J_callVX (n := 2) cx (ci := 1) [.int (nI (p9)), .int (nI (3))] (t_X1_inState l Ω a hC p9 y3 (nI (3)) (P9 := potR p9 (gP g p9) w3 (dr p9) (D p9).length) hps hy3 hc3) dX1_glazes_3 (lw_V q1650 q1652 qs16 q85 q1653) ⟨rfl, by decide, by decide, by decide +kernel⟩ rfl hC rfl rfl ⟨Nat.le_of_ble_eq_true rfl, Nat.le_of_ble_eq_true rfl⟩ rfl rfl (Nat.le_of_ble_eq_true rfl) ⟨Nat.le_of_ble_eq_true rfl, Nat.le_of_ble_eq_true rfl⟩ (fun v9 G9 z9 hp9 _ => ?_) (fun ci9 q9 r9 fs9 G9 z9 hc9 hq9 hp9 _ => JX_out cx (fun x9 h9 => (hex x9 h9).elim) hc9 hq9 ⟨hp9.1, hp9.2.py⟩ (Nat.le_of_ble_eq_true rfl) (Nat.le_of_ble_eq_true rfl))
  obtain ⟨hst9, e1, e2, e3⟩ := hp9
  rw [e1, e2, e3]
  refine J_astore4 cx dX1_glazes_6 (by decide) rfl ?_
  refine J_aload cx dX1_glazes_8 rfl ?_
  refine J_new cx in_X12 tyX12 tyX12_ok q1662 q1663 q132 (ci := 10) rfl (fs := [.int 0, .int 0, .int 0]) (by decide +kernel) dX1_glazes_10 (Nat.le_of_ble_eq_true rfl) (Nat.le_of_ble_eq_true rfl) ?_
  refine J_dup cx dX1_glazes_13 rfl ?_
  refine J_iload_n cx dX1_glazes_14 rfl ?_
  refine J_iload_n cx dX1_glazes_15 rfl ?_
  refine J_iload_n cx dX1_glazes_16 rfl ?_
  refine J_callI (n := 3) cx [.int (nI (p9)), .int (nI (gl9)), .int co9] (t_X12_init l Ω sz (nI (p9)) (nI (gl9)) co9 gset_eq (by omega)) dX1_glazes_17 q1666 q132 q1664 q1665 rfl ⟨by decide, by decide, by decide +kernel⟩ rfl rfl ⟨Nat.le_of_ble_eq_true rfl, Nat.le_of_ble_eq_true rfl⟩ rfl rfl (Nat.le_of_ble_eq_true rfl) ⟨Nat.le_of_ble_eq_true rfl, Nat.le_of_ble_eq_true rfl⟩ (jdet ?_)
  refine J_mem (gset G sz (.inr (10, [.int (nI (p9)), .int (nI (gl9)), .int co9]))) gset_gset ?_
  refine J_putN cx in_X6 tyX6 tyX6_ok nmX6 (ci := 5) rfl 8 (by decide) q474 (fun _ h => h) rfl (ty := (.object "TurningWheel$Ware")) (by decide +kernel) dX1_glazes_20 rfl rfl ((gset_ne (by omega)).trans hc3) (Nat.le_of_ble_eq_true rfl) (by have := ebp _ hAy3; omega) ?_
  refine J_mem (gset (gset G sz (.inr (10, [.int (nI (p9)), .int (nI (gl9)), .int co9]))) y3 (.inr (5, [.int (nI (p9)), .int (gP g p9 1), .int (gP g p9 2), .int (gP g p9 3), .int (gP g p9 0), .int (gP g p9 4), .int (gP g p9 5), .float ((gP g p9 11).toUInt32), .ref sz, .int (gP g p9 10), .ref (dr p9), .int (nI ((D p9).length))]))) rfl ?_
  refine J_aload cx dX1_glazes_23 rfl ?_
  refine J_iconst (v := nI (4)) cx dX1_glazes_25 (by decide) ?_
  refine J_putN cx in_X6 tyX6 tyX6_ok nmX6 (ci := 5) rfl 4 (by decide) q461 (fun _ h => h) rfl (ty := .int) (by decide +kernel) dX1_glazes_26 rfl rfl gset_eq (Nat.le_of_ble_eq_true rfl) (by have := ebp _ hAy3; omega) ?_
  refine J_mem (gset (gset G sz (.inr (10, [.int (nI (p9)), .int (nI (gl9)), .int co9]))) y3 (.inr (5, [.int (nI (p9)), .int (gP g p9 1), .int (gP g p9 2), .int (gP g p9 3), .int (nI (4)), .int (gP g p9 4), .int (gP g p9 5), .float ((gP g p9 11).toUInt32), .ref sz, .int (gP g p9 10), .ref (dr p9), .int (nI ((D p9).length))]))) gset_gset ?_
  refine J_aload cx dX1_glazes_29 rfl ?_
  refine J_aload_n cx dX1_glazes_31 rfl ?_
  refine J_get cx in_X1 (ci := 1) rfl 0 (by decide) q245 (fun _ h => h) dX1_glazes_32 ((gset_ne hq3.get.1.1).trans ((gset_ne (by omega)).trans hC)) rfl ?_
  refine J_callV (n := 1) cx (ci := 5) [.ref (B 0)] (t_X6_reach l Ω y3 (B 0) gset_eq ((gset_ne (by omega)).trans gset_eq) ((gset_ne hq3.get.1.2.1).trans ((gset_ne (by omega)).trans hse)) hwg (by rw [hwt]; omega) (by rw [hwt, hsf gl9 (by omega)]; exact hnn)) dX1_glazes_35 (lw_V q1676 q1677 q1678 q96 q1679) ⟨rfl, by decide, by decide, by decide +kernel⟩ rfl gset_eq rfl rfl ⟨Nat.le_of_ble_eq_true rfl, Nat.le_of_ble_eq_true rfl⟩ rfl rfl (Nat.le_of_ble_eq_true rfl) ⟨Nat.le_of_ble_eq_true rfl, Nat.le_of_ble_eq_true rfl⟩ (jdet ?_)
  have hfin : isPy Ω A (gset (gset G sz (.inr (10, [.int (nI (p9)), .int (nI (gl9)), .int co9]))) y3 (.inr (5, [.int (nI (p9)), .int (gP g p9 1), .int (gP g p9 2), .int (gP g p9 3), .int (nI (4)), .int (gP g p9 4), .int (gP g p9 5), .float ((gP g p9 11).toUInt32), .ref sz, .int (gP g p9 10), .ref (dr p9), .int (nI ((D p9).length))]))) a (o_X3_glazes_g g p9 (nI gl9) co9) D cp row e9 := hall.pot cx.kw.ne hy3 (fun q c hq h1 h2 => (gset_ne h1).trans ((gset_ne (by have := hlA9 _ _ hq; omega)).trans hq)) ⟨sz, f3, gset_eq.trans (by simp [potC, gP, upd, o_X3_glazes_g]), by simp [gP, upd, o_X3_glazes_g, hn3], (by refine (gset_ne (by omega)).trans (gset_eq.trans ?_); simp [gP, upd, o_X3_glazes_g, gw, gl_ne gl9 hgl, wE]), hbs9, (gset_ne (jneC hd3 hc3 (by simp))).trans ((gset_ne (by omega)).trans hd3), hl3, hm3, hu3, he3, hf3, by simpa [gP, upd, o_X3_glazes_g] using hv3⟩ hAd3 (Or.inl rfl) (fun i h1 h2 => by simp only [o_X3_glazes_g, upd]; rw [if_neg (by omega), if_neg (by omega), if_neg (by omega)]) (fun k _ => ⟨rfl, rfl⟩)
  have hfr : ∀ q, q < sz → ¬ A q → (gset (gset G sz (.inr (10, [.int (nI (p9)), .int (nI (gl9)), .int co9]))) y3 (.inr (5, [.int (nI (p9)), .int (gP g p9 1), .int (gP g p9 2), .int (gP g p9 3), .int (nI (4)), .int (gP g p9 4), .int (gP g p9 5), .float ((gP g p9 11).toUInt32), .ref sz, .int (gP g p9 10), .ref (dr p9), .int (nI ((D p9).length))]))) q = G q := fun q h1 h2 => (gset_ne (fun e => h2 (by rw [e]; exact hAy3))).trans (gset_ne (by omega))
  have hva : r_reach (some (nI gl9, co9)) (gP g p9 2) sf = r_X3_reach (o_X3_glazes_g g p9 (nI gl9) co9) p9 := by simp only [r_reach, r_X3_reach, wCo, wGl]; rw [tn_nI (by omega), hsf gl9 (by omega)]; simp [o_X3_glazes_g, upd, gP, tn_nI (show gl9 < 2147483648 by omega)]; rw [if_neg (by omega), if_neg (by omega), if_neg (by omega)]
  refine J_xret ?_
  exact J_iret cx dX1_glazes_38 hr ⟨hst9, by rw [hva], rfl, hfin, hfr⟩ (Nat.le_of_ble_eq_true rfl) (Nat.le_of_ble_eq_true rfl)
