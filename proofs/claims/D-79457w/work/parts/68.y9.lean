/-! POTTERY 12 (gen/mk_y9.py): addsPotter, addsOrder -/
set_option maxRecDepth 100000
def c_potter (g : Nat → Int32) (s9 : Int32) : Nat → Int32 := upd (upd g (34 + (tn (g (1)))) (s9)) (1) (nI ((tn (g (1))) + 1))
theorem potter_ne (g : Nat → Int32) (s9 : Int32) {i : Nat} (h1 : i ≠ 1) (h2 : i ≠ 34 + tn (g 1)) : c_potter g s9 i = g i := by simp only [c_potter, upd]; rw [if_neg h1, if_neg h2]
set_option maxHeartbeats 1000000 in
theorem t_Py_addsPotter (l : Launch) (Ω : jO) {G : Mem} {sz : Nat} {A : Nat → Prop} (a : Nat) {g : Nat → Int32} {D : Nat → List Int32} {cp : Nat → Nat} {row : List Nat} {e9 : Int32} (hpy : isPy Ω A G a g D cp row e9) (s9 : Int32) (hA : ∀ q, sz ≤ q → A q) : vx_Met l yX1_addsPotter (ws_ yX1_addsPotter cX1_addsPotter 3 (some .int)) ({ frames := 5, cells := 1, slots := 8, locals := 105 } : Room) (va_Pc [.ref a, .int s9] (jWd Ω G sz)) (jQ Ω (fun v G1 sz1 => g 1 ≠ nI (4) ∧ v = some (.int (nI (tn (g 1)))) ∧ sz1 = sz + 1 ∧ isPy Ω A G1 a (c_potter g s9) D cp row e9 ∧ ∀ q, q < sz → ¬ A q → G1 q = G q)) (jXC Ω (fun ci q G1 sz1 => g 1 = nI (4) ∧ xPy A G sz [(nI (10), nI (4))] ci q G1 sz1)) 1 8 (jB Ω) := by
  refine jMetX (by decide) (Nat.le_of_ble_eq_true rfl) ?_
  intro p e s m args below meth c cx hr hnm hex
  refine J_loc [some (.ref a), some (.int s9), none] rfl ?_
  obtain ⟨B, pl, ol, ns, dr, sh, hall⟩ := hpy.all
  obtain ⟨⟨hAa, hC⟩, hI, hP, hO, hR, hS, hX⟩ := id hall
  obtain ⟨mcp, hps, hA3, hA8, hg2, hp16, hPp, hdr⟩ := id hP
  obtain ⟨mco, hos, hA4, hA9, hg3, ho8, hond, hOo⟩ := id hO
  obtain ⟨sf, df, kf, nk, hIA, hse, hsf, hdry, hdf, hsk, hnk, hg1, hkf⟩ := id hI
  obtain ⟨mcr, hrw, hA5, hAns, hr16⟩ := id hR
  obtain ⟨hsh, hsa, hA6, hA7, hsk8⟩ := id hS
  have ebp := hX.2.2
  refine J_ltA (fun hlA9 => ?_)
  have hne9 : jNe Ω := cx.kw.ne
  have hal3 := hps.lt hlA9
  have hal4 := hos.lt hlA9
  have hbA := ebp _ hAa
  have hb0 := ebp _ hIA.1
  have hb1 := ebp _ hIA.2.1
  have hb2 := ebp _ hIA.2.2
  have hb3 := ebp _ hA3
  have hb4 := ebp _ hA4
  have hb5 := ebp _ hA5
  have hb6 := ebp _ hA6
  have hb7 := ebp _ hA7
  have hqa : jHide _ := hall.neO hC
  refine J_bs cx (fun hbs9 => ?_)
  refine J_lt hC (fun hlt0 => ?_)
  refine J_lt hse (fun hlt1 => ?_)
  refine J_lt hdry (fun hlt2 => ?_)
  refine J_lt hsk (fun hlt3 => ?_)
  refine J_lt hsh (fun hlt6 => ?_)
  refine J_lt hsa (fun hlt7 => ?_)
  refine J_aload_n cx dX1_addsPotter_0 rfl ?_
  refine J_get cx in_X1 (ci := 1) rfl 2 (by decide) q251 (fun _ h => h) dX1_addsPotter_1 hC rfl ?_
  refine J_alen cx 0 dX1_addsPotter_4 rfl hsk ?_
  refine J_iconst (v := nI (4)) cx dX1_addsPotter_5 (by decide) ?_
  refine J_icmpN_ne (tgt := 20) cx dX1_addsPotter_6 (by decide) (by omega) (by omega) (fun c6 => ?_) (fun c6 => ?_)
  · refine J_aload_n cx dX1_addsPotter_20 rfl ?_
    refine J_get cx in_X1 (ci := 1) rfl 2 (by decide) q251 (fun _ h => h) dX1_addsPotter_21 hC rfl ?_
    refine J_alen cx 0 dX1_addsPotter_24 rfl hsk ?_
    refine J_iconst (v := nI (1)) cx dX1_addsPotter_25 (by decide) ?_
    refine J_iaddN cx dX1_addsPotter_26 ?_
    refine J_newa cx .int rfl 0 q211 rfl rfl (nk + 1, .inl (fun _ => 0)) dX1_addsPotter_27 (fun cA => by rw [vp_cell_i]; rfl) (by omega) (by show _ * 4 ≤ _; omega) (Nat.le_of_ble_eq_true rfl) (by show _ ≤ (8 : Nat); omega) ?_
    refine J_astore_n2 cx dX1_addsPotter_29 (by decide) rfl ?_
    refine J_aload_n cx dX1_addsPotter_30 rfl ?_
    refine J_get cx in_X1 (ci := 1) rfl 2 (by decide) q251 (fun _ h => h) dX1_addsPotter_31 ((gset_ne (by omega)).trans hC) rfl ?_
    refine J_iconst (v := nI (0)) cx dX1_addsPotter_34 (by decide) ?_
    refine J_aload_n cx dX1_addsPotter_35 rfl ?_
    refine J_iconst (v := nI (0)) cx dX1_addsPotter_36 (by decide) ?_
    refine J_aload_n cx dX1_addsPotter_37 rfl ?_
    refine J_get cx in_X1 (ci := 1) rfl 2 (by decide) q251 (fun _ h => h) dX1_addsPotter_38 ((gset_ne (by omega)).trans hC) rfl ?_
    refine J_alen cx 0 dX1_addsPotter_41 rfl ((gset_ne (by omega)).trans hsk) ?_
    refine J_copyi cx 0 dX1_addsPotter_42 q1902 q606 q605 q104 rfl (by decide) ((gset_ne (by omega)).trans hsk) gset_eq (by omega) (by omega) (by omega) (by omega) (fun _ _ => rfl) (by omega) (Nat.le_of_ble_eq_true rfl) (by show _ ≤ (105 : Nat); decide +kernel) ?_
    refine J_mem (gset G sz (.inl (Ω.2.1 0, nk + 1, .inl (va_cpy kf (fun _ => 0) 0 0 nk)))) gset_gset ?_
    refine J_aload_n cx dX1_addsPotter_45 rfl ?_
    refine J_aload_n cx dX1_addsPotter_46 rfl ?_
    refine J_get cx in_X1 (ci := 1) rfl 2 (by decide) q251 (fun _ h => h) dX1_addsPotter_47 ((gset_ne (by omega)).trans hC) rfl ?_
    refine J_alen cx 0 dX1_addsPotter_50 rfl ((gset_ne (by omega)).trans hsk) ?_
    refine J_iload_n cx dX1_addsPotter_51 rfl ?_
    refine J_iast cx dX1_addsPotter_52 gset_eq (by omega) (by omega) (by omega) ?_
    refine J_mem (gset G sz (.inl (Ω.2.1 0, nk + 1, .inl (upd (va_cpy kf (fun _ => 0) 0 0 nk) nk s9)))) gset_gset ?_
    refine J_aload_n cx dX1_addsPotter_53 rfl ?_
    refine J_aload_n cx dX1_addsPotter_54 rfl ?_
    refine J_put cx in_X1 tyX1 tyX1_ok nmX1 (ci := 1) rfl 2 (by decide) q251 (fun _ h => h) rfl (ty := (.array .int)) (by decide +kernel) dX1_addsPotter_55 rfl rfl ((gset_ne (by omega)).trans hC) (Nat.le_of_ble_eq_true rfl) (by omega) ?_
    refine J_mem (gset (gset G sz (.inl (Ω.2.1 0, nk + 1, .inl (upd (va_cpy kf (fun _ => 0) 0 0 nk) nk s9)))) a (.inr (1, [.ref (B 0), .ref (B 1), .ref sz, .ref (B 3), .ref (B 4), .ref (B 5), .ref (B 6), .int (g 0), .int (g 38), .int (g 39), .int (g 40), .int (g 49), .int e9]))) rfl ?_
    have hnk9 : tn (g 1) = nk := by rw [hg1, tn_nI (by omega)]
    have hsk2 : ∀ k, k < nk + 1 → (upd (va_cpy kf (fun _ => 0) 0 0 nk) nk s9) k = c_potter g s9 (34 + k) := fun k hk => by
        simp only [c_potter, upd, va_cpy]
        rw [hnk9, if_neg (show ¬ 34 + k = 1 by omega)]
        by_cases h : k = nk
        · rw [if_pos h, if_pos (by omega)]
        · rw [if_neg h, if_pos (by omega), if_neg (by omega), Nat.zero_add, Nat.sub_zero, hkf k (by omega)]
    have hfin := hall.ints (B' := fun i => if i = 2 then sz else B i) (G1 := (gset (gset G sz (.inl (Ω.2.1 0, nk + 1, .inl (upd (va_cpy kf (fun _ => 0) 0 0 nk) nk s9)))) a (.inr (1, [.ref (B 0), .ref (B 1), .ref sz, .ref (B 3), .ref (B 4), .ref (B 5), .ref (B 6), .int (g 0), .int (g 38), .int (g 39), .int (g 40), .int (g 49), .int e9])))) (g' := c_potter g s9) hne9 (fun q c hq h1 h2 h3 h4 => (gset_ne h1).trans ((gset_ne (by have := hlA9 _ _ hq; omega)).trans hq)) (gset_eq.trans (by rw [pyE_congr (potter_ne g s9 (by omega) (by omega)) (potter_ne g s9 (by omega) (by omega)) (potter_ne g s9 (by omega) (by omega)) (potter_ne g s9 (by omega) (by omega)) (potter_ne g s9 (by omega) (by omega))]; rfl)) ⟨sf, df, _, nk + 1, ⟨hIA.1, hIA.2.1, hA _ (Nat.le_refl _)⟩, (gset_ne hqa.get.2.1.1).trans ((gset_ne (by omega)).trans hse), fun k hk => (hsf k hk).trans (by simp only [c_potter, upd]; rw [if_neg (by omega), if_neg (by omega)]), (gset_ne hqa.get.2.1.2.1).trans ((gset_ne (by omega)).trans hdry), fun k hk => (hdf k hk).trans (by simp only [c_potter, upd]; rw [if_neg (by omega), if_neg (by omega)]), (gset_ne (show sz ≠ a by omega)).trans gset_eq, by omega, by simp only [c_potter, upd, if_true]; rw [hnk9], hsk2⟩ (fun i hi => if_neg (by omega)) (fun i h1 h2 h3 => by simp only [c_potter, upd]; rw [if_neg (by omega), if_neg (by omega)])
    have hfr : ∀ q, q < sz → ¬ A q → (gset (gset G sz (.inl (Ω.2.1 0, nk + 1, .inl (upd (va_cpy kf (fun _ => 0) 0 0 nk) nk s9)))) a (.inr (1, [.ref (B 0), .ref (B 1), .ref sz, .ref (B 3), .ref (B 4), .ref (B 5), .ref (B 6), .int (g 0), .int (g 38), .int (g 39), .int (g 40), .int (g 49), .int e9]))) q = G q := fun q h1 h2 => (gset_ne (fun e => h2 (by rw [e]; exact hAa))).trans (gset_ne (by omega))
    refine J_aload_n cx dX1_addsPotter_58 rfl ?_
    refine J_get cx in_X1 (ci := 1) rfl 2 (by decide) q251 (fun _ h => h) dX1_addsPotter_59 gset_eq rfl ?_
    refine J_alen cx 0 dX1_addsPotter_62 rfl ((gset_ne (by omega)).trans gset_eq) ?_
    refine J_iconst (v := nI (1)) cx dX1_addsPotter_63 (by decide) ?_
    refine J_isubN cx dX1_addsPotter_64 (by omega) ?_
    refine J_xret ?_
    exact J_iret cx dX1_addsPotter_65 hr ⟨fun e => c6 (by rw [hg1] at e; exact (nI_eq (by omega) (by omega)).mp e), by rw [hnk9]; simp, rfl, hfin.py, hfr⟩ (Nat.le_of_ble_eq_true rfl) (by show _ ≤ (8 : Nat); omega)
  · refine J_new cx in_X10 tyX10 tyX10_ok q1283 q1284 q125 (ci := 8) rfl (fs := [.null, .null, .null, .null, .null, .int 0, .int 0, .int 0]) (by decide +kernel) dX1_addsPotter_9 (Nat.le_of_ble_eq_true rfl) (Nat.le_of_ble_eq_true rfl) ?_
    refine J_dup cx dX1_addsPotter_12 rfl ?_
    refine J_bipush (v := nI (10)) cx dX1_addsPotter_13 (by decide) ?_
    refine J_iconst (v := nI (4)) cx dX1_addsPotter_15 (by decide) ?_
    refine J_callI (n := 2) cx [.int (nI (10)), .int (nI (4))] (t_X10_init l Ω sz (nI (10)) (nI (4)) gset_eq (by omega)) dX1_addsPotter_16 q1294 q125 q1292 q1293 rfl ⟨by decide, by decide, by decide +kernel⟩ rfl rfl ⟨Nat.le_of_ble_eq_true rfl, Nat.le_of_ble_eq_true rfl⟩ rfl rfl (Nat.le_of_ble_eq_true rfl) ⟨Nat.le_of_ble_eq_true rfl, by show _ ≤ (8 : Nat); omega⟩ (jdet ?_)
    refine J_mem (gset G sz (.inr (8, [.null, .null, .null, .null, .null, .int 0, .int (nI (10)), .int (nI (4))]))) gset_gset ?_
    refine J_athrow cx dX1_addsPotter_19 ?_
    exact JX_out cx (fun x9 h9 => (hex x9 h9).elim) (ci := 8) rfl gset_eq ⟨by rw [hg1]; exact congrArg nI c6, rfl, Nat.le_refl _, Nat.lt_succ_self _, gset_eq, fun z h1 _ => gset_ne (by omega)⟩ (Nat.le_of_ble_eq_true rfl) (Nat.le_of_ble_eq_true rfl)
def c_order (g : Nat → Int32) (of9 : Nat → Int32) : Nat → Int32 := fun i => if i = 3 then nI (tn (g 3) + 1) else if 258 + 6 * tn (g 3) ≤ i ∧ i ≤ 258 + 6 * tn (g 3) + 5 then of9 (i - (258 + 6 * tn (g 3))) else g i
theorem order_at (g of9 : Nat → Int32) (j : Nat) (h : j ≤ 5) : gO (c_order g of9) (tn (g 3)) j = of9 j := by
  simp only [gO, c_order]
  rw [if_neg (by omega), if_pos (by omega)]
  congr 1
  omega
set_option maxHeartbeats 1000000 in
theorem t_Py_addsOrder (l : Launch) (Ω : jO) {G : Mem} {sz : Nat} {A : Nat → Prop} (a : Nat) {g : Nat → Int32} {D : Nat → List Int32} {cp : Nat → Nat} {row : List Nat} {e9 : Int32} (o9 : Nat) {of9 : Nat → Int32} (hor : G o9 = some (ordE of9)) (hoA : A o9) (hon : ∃ B pl ol ns dr sh, pyAll Ω A G a g D cp row e9 B pl ol ns dr sh ∧ o9 ∉ ol) (hA : ∀ q, sz ≤ q → A q) : vx_Met l yX1_addsOrder (ws_ yX1_addsOrder cX1_addsOrder 2 (some .int)) ({ frames := 7, cells := 1, slots := 30, locals := 192 } : Room) (va_Pc [.ref a, .ref o9] (jWd Ω G sz)) (jQ Ω (fun v G1 sz1 => g 3 ≠ nI (8) ∧ v = some (.int (nI (tn (g 3)))) ∧ isPy Ω A G1 a (c_order g of9) D cp row e9 ∧ ∀ q, q < sz → ¬ A q → G1 q = G q)) (jXC Ω (fun ci q G1 sz1 => g 3 = nI (8) ∧ xPy A G sz [(nI (12), nI (8))] ci q G1 sz1)) 1 30 (jB Ω) := by
  refine jMetX (by decide) (Nat.le_of_ble_eq_true rfl) ?_
  intro p e s m args below meth c cx hr hnm hex
  refine J_loc [some (.ref a), some (.ref o9)] rfl ?_
  obtain ⟨B, pl, ol, ns, dr, sh, hall, hon⟩ := hon
  obtain ⟨⟨hAa, hC⟩, hI, hP, hO, hR, hS, hX⟩ := id hall
  obtain ⟨mcp, hps, hA3, hA8, hg2, hp16, hPp, hdr⟩ := id hP
  obtain ⟨mco, hos, hA4, hA9, hg3, ho8, hond, hOo⟩ := id hO
  obtain ⟨sf, df, kf, nk, hIA, hse, hsf, hdry, hdf, hsk, hnk, hg1, hkf⟩ := id hI
  obtain ⟨mcr, hrw, hA5, hAns, hr16⟩ := id hR
  obtain ⟨hsh, hsa, hA6, hA7, hsk8⟩ := id hS
  have ebp := hX.2.2
  refine J_ltA (fun hlA9 => ?_)
  have hne9 : jNe Ω := cx.kw.ne
  have hal3 := hps.lt hlA9
  have hal4 := hos.lt hlA9
  have hbA := ebp _ hAa
  have hb0 := ebp _ hIA.1
  have hb1 := ebp _ hIA.2.1
  have hb2 := ebp _ hIA.2.2
  have hb3 := ebp _ hA3
  have hb4 := ebp _ hA4
  have hb5 := ebp _ hA5
  have hb6 := ebp _ hA6
  have hb7 := ebp _ hA7
  have hqa : jHide _ := hall.neO hC
  have hold0 : Ω.2.2.1 0 < Ω.2.2.2 := Nat.not_le.mp cx.sta.2.1.choose_spec.2.2.2.2.2.2
  have hoB : o9 ≠ B 4 := by obtain ⟨⟨f8, hf8⟩, -⟩ := hos.cells; exact jneC hor hf8 (by simp)
  have hmAL : mAL ol.length (B 11) ≤ 22 ∨ ol.length = 8 := by by_cases h : ol.length = 8; exact Or.inr h; exact Or.inl (mAL_le (by omega) (by rcases hos.room with ⟨h3, h4⟩ | ⟨h3, h4⟩ <;> omega))
  refine J_bs cx (fun hbs9 => ?_)
  refine J_lt hC (fun hlt0 => ?_)
  refine J_lt hse (fun hlt1 => ?_)
  refine J_lt hdry (fun hlt2 => ?_)
  refine J_lt hsk (fun hlt3 => ?_)
  refine J_lt hsh (fun hlt6 => ?_)
  refine J_lt hsa (fun hlt7 => ?_)
  refine J_lt hor (fun hlt8 => ?_)
  refine J_aload_n cx dX1_addsOrder_0 rfl ?_
  refine J_get cx in_X1 (ci := 1) rfl 4 (by decide) q255 (fun _ h => h) dX1_addsOrder_1 hC rfl ?_
  refine J_al_size cx dX1_addsOrder_4 q410 hos ⟨Nat.le_of_ble_eq_true rfl, Nat.le_of_ble_eq_true rfl⟩ (Nat.le_of_ble_eq_true rfl) ⟨Nat.le_of_ble_eq_true rfl, by show _ ≤ (30 : Nat); omega⟩ ?_
  refine J_bipush (v := nI (8)) cx dX1_addsOrder_7 (by decide) ?_
  refine J_icmpN_ne (tgt := 24) cx dX1_addsOrder_9 (by decide) (by omega) (by omega) (fun c9 => ?_) (fun c9 => ?_)
  · refine J_aload_n cx dX1_addsOrder_24 rfl ?_
    refine J_get cx in_X1 (ci := 1) rfl 4 (by decide) q255 (fun _ h => h) dX1_addsOrder_25 hC rfl ?_
    refine J_aload_n cx dX1_addsOrder_28 rfl ?_
    refine J_al_add cx (ci9 := 7) dX1_addsOrder_29 q512 hos (by omega) rfl hor q3053 hoB (fun y hy => by obtain ⟨i, hi⟩ := List.getElem?_of_mem hy; exact ⟨7, _, _, rfl, (hOo i y hi).2, q3053⟩) (by omega) ⟨Nat.le_of_ble_eq_true rfl, Nat.le_of_ble_eq_true rfl⟩ (Nat.le_of_ble_eq_true rfl) ⟨Nat.le_of_ble_eq_true rfl, by show _ ≤ (30 : Nat); omega⟩ (fun G9 z9 ed9 cap9 hal9 hed9 hz8 hz9 hlt9 hfr9 => ?_)
    have hfrG : ∀ q c, G q = some c → q ≠ B 4 → (B 11 ≠ 0 → q ≠ B 9) → G9 q = some c := fun q c hq h2 h3 => (hfr9 q (hlA9 _ _ hq) h2 h3).trans hq
    have hq4 : jHide _ := hall.neO (hos.cells.1.choose_spec)
    have hC9 : G9 a = some (pyE B g e9) := hfrG _ _ hC (Ne.symm (hqa.get.2.2.1 (by decide)).2) (fun h11 => Ne.symm (hqa.get.2.2.2.2.1 h11))
    have hor9 : G9 o9 = some (ordE of9) := hfrG _ _ hor hoB (fun h11 e => by obtain ⟨f8, hf8⟩ := hos.cells.2 h11; rw [e, hf8] at hor; simp at hor)
    have hlen9 : (ol ++ [o9]).length = ol.length + 1 := by simp
    have hn3 : tn (g 3) = ol.length := by rw [hg3, tn_nI (by omega)]
    have hadd := hall.addOrder (g' := c_order g of9) hne9 (y := o9) (n := ol.length) rfl (by omega) hfrG hal9 (by
        rcases hed9 with e | e
        · by_cases h10 : B 11 = 0
          · exact absurd (hal9.based (by simp)) (by rcases hos.room with ⟨h3, h4⟩ | ⟨h3, h4⟩ <;> omega)
          · exact Or.inl ⟨e, h10⟩
        · exact Or.inr ⟨hA _ (by omega), fun q c hq => by have := hlA9 _ _ hq; omega⟩) hoA hon (by rw [hor9, ← hn3]; simp only [ordE]; rw [order_at g of9 0 (by omega), order_at g of9 1 (by omega), order_at g of9 2 (by omega), order_at g of9 3 (by omega), order_at g of9 4 (by omega), order_at g of9 5 (by omega)]) (fun i h1 h2 h3 => by simp only [c_order]; rw [if_neg h2, hn3, if_neg h3]) (by simp only [c_order, if_true]; rw [hn3])
    have hfr : ∀ q, q < sz → ¬ A q → G9 q = G q := fun q h1 h2 => hfr9 q h1 (fun e => h2 (by rw [e]; exact hA4)) (fun h10 e => h2 (by rw [e]; exact hA9 h10))
    refine J_pop cx dX1_addsOrder_32 rfl ?_
    refine J_aload_n cx dX1_addsOrder_33 rfl ?_
    refine J_get cx in_X1 (ci := 1) rfl 4 (by decide) q255 (fun _ h => h) dX1_addsOrder_34 hC9 rfl ?_
    refine J_al_size cx dX1_addsOrder_37 q410 hal9 ⟨Nat.le_of_ble_eq_true rfl, Nat.le_of_ble_eq_true rfl⟩ (Nat.le_of_ble_eq_true rfl) ⟨Nat.le_of_ble_eq_true rfl, by show _ ≤ (30 : Nat); omega⟩ ?_
    refine J_iconst (v := nI (1)) cx dX1_addsOrder_40 (by decide) ?_
    refine J_isubN cx dX1_addsOrder_41 (by omega) ?_
    refine J_xret ?_
    exact J_iret cx dX1_addsOrder_42 hr ⟨fun e => c9 (by rw [hg3] at e; exact (nI_eq (by omega) (by omega)).mp e), by rw [hn3]; simp, hadd.py, hfr⟩ (Nat.le_of_ble_eq_true rfl) (by show _ ≤ (30 : Nat); omega)
  · refine J_new cx in_X10 tyX10 tyX10_ok q1283 q1284 q125 (ci := 8) rfl (fs := [.null, .null, .null, .null, .null, .int 0, .int 0, .int 0]) (by decide +kernel) dX1_addsOrder_12 (Nat.le_of_ble_eq_true rfl) (Nat.le_of_ble_eq_true rfl) ?_
    refine J_dup cx dX1_addsOrder_15 rfl ?_
    refine J_bipush (v := nI (12)) cx dX1_addsOrder_16 (by decide) ?_
    refine J_bipush (v := nI (8)) cx dX1_addsOrder_18 (by decide) ?_
    refine J_callI (n := 2) cx [.int (nI (12)), .int (nI (8))] (t_X10_init l Ω sz (nI (12)) (nI (8)) gset_eq (by omega)) dX1_addsOrder_20 q1294 q125 q1292 q1293 rfl ⟨by decide, by decide, by decide +kernel⟩ rfl rfl ⟨Nat.le_of_ble_eq_true rfl, Nat.le_of_ble_eq_true rfl⟩ rfl rfl (Nat.le_of_ble_eq_true rfl) ⟨Nat.le_of_ble_eq_true rfl, by show _ ≤ (30 : Nat); omega⟩ (jdet ?_)
    refine J_mem (gset G sz (.inr (8, [.null, .null, .null, .null, .null, .int 0, .int (nI (12)), .int (nI (8))]))) gset_gset ?_
    refine J_athrow cx dX1_addsOrder_23 ?_
    exact JX_out cx (fun x9 h9 => (hex x9 h9).elim) (ci := 8) rfl gset_eq ⟨by rw [hg3, c9], rfl, Nat.le_refl _, Nat.lt_succ_self _, gset_eq, fun z h1 _ => gset_ne (by omega)⟩ (Nat.le_of_ble_eq_true rfl) (Nat.le_of_ble_eq_true rfl)
