/-! POTTERY 7 (gen/mk_y4.py): takesWheel, turns -/
set_option maxRecDepth 100000
theorem gset_comm {G : Mem} {a b : Nat} {x y : va_E} (h : a ≠ b) : gset (gset G a x) b y = gset (gset G b y) a x := by
  funext q
  simp only [gset]
  by_cases h1 : q = a
  · rw [if_pos h1, if_pos h1, if_neg (by omega)]
  · rw [if_neg h1, if_neg h1]
/-- the numbers behind takesWheel -/
def c_takes (g : Nat → Int32) (row : List Nat) : Nat → Int32 := match row[S_nx g row row.length 0]? with
  | none => g
  | some r => o_X3_takes_g g r
def c_row (g : Nat → Int32) (row : List Nat) : List Nat := row.eraseIdx (S_nx g row row.length 0)
/-- the pots of the row have potters -/
def rowOk (g : Nat → Int32) (row : List Nat) : Prop := ∀ r, r ∈ row → r < tn (g 2) ∧ gP g r 1 = nI (tn (gP g r 1)) ∧ tn (gP g r 1) < tn (g 1) ∧ ¬ g (34 + tn (gP g r 1)) + nI (2) = 0
set_option maxHeartbeats 1000000 in
theorem t_Py_takesWheel (l : Launch) (Ω : jO) {G : Mem} {sz : Nat} {A : Nat → Prop} (a : Nat) {g : Nat → Int32} {D : Nat → List Int32} {cp : Nat → Nat} {row : List Nat} {e9 : Int32} (hpy : isPy Ω A G a g D cp row e9) (hok : rowOk g row) : Met l yX1_takesWheel (ws_ yX1_takesWheel cX1_takesWheel 2 none) ({ frames := 7, cells := 1, slots := 5, locals := 140 } : Room) (va_Pc [.ref a] (jWd Ω G sz)) (jQ Ω (fun v G1 sz1 => v = none ∧ sz1 ≤ sz + 1 ∧ isPy Ω A G1 a (c_takes g row) D cp (c_row g row) e9 ∧ ∀ q, q < sz → ¬ A q → G1 q = G q)) 1 5 (jB Ω) := by
  refine jMet (by decide) (Nat.le_of_ble_eq_true rfl) ?_
  intro p e s m args below meth c cx hr hnm
  refine J_loc [some (.ref a), none] rfl ?_
  obtain ⟨B, pl, ol, ns, dr, sh, hall⟩ := hpy.all
  obtain ⟨⟨hAa, hC⟩, hI, hP, hO, hR, hS, hX⟩ := id hall
  obtain ⟨mcp, hps, hA3, hA8, hg2, hp16, hPp, hdr⟩ := id hP
  obtain ⟨mco, hos, hA4, hA9, hg3, ho8, hond, hOo⟩ := id hO
  obtain ⟨sf, df, kf, nk, hIA, hse, hsf, hdry, hdf, hsk, hnk, hg1, hkf⟩ := id hI
  obtain ⟨mcr, hrw, hA5, hAns, hr16⟩ := id hR
  obtain ⟨hsh, hsa, hA6, hA7, hsk8⟩ := id hS
  have ebp := hX.2.2
  refine J_ltA (fun hlA9 => ?_)
  have hne9 : jNe Ω := cx.kw.ne
  have hal3 := hps.lt hlA9
  have hal4 := hos.lt hlA9
  have hbA := ebp _ hAa
  have hb0 := ebp _ hIA.1
  have hb1 := ebp _ hIA.2.1
  have hb2 := ebp _ hIA.2.2
  have hb3 := ebp _ hA3
  have hb4 := ebp _ hA4
  have hb5 := ebp _ hA5
  have hb6 := ebp _ hA6
  have hb7 := ebp _ hA7
  have hqa : jHide _ := hall.neO hC
  have hrl : row.length = ns.length := by have h9 := hrw.2.1; rw [List.length_map] at h9; exact h9
  have hr40 : row.length < 40 := by have h9 := hrw.2.2.1; omega
  refine J_bs cx (fun hbs9 => ?_)
  refine J_lt hC (fun hlt0 => ?_)
  refine J_lt hse (fun hlt1 => ?_)
  refine J_lt hdry (fun hlt2 => ?_)
  refine J_lt hsk (fun hlt3 => ?_)
  refine J_lt hsh (fun hlt6 => ?_)
  refine J_lt hsa (fun hlt7 => ?_)
  refine J_aload_n cx dX1_takesWheel_0 rfl ?_
  refine J_get cx in_X1 (ci := 1) rfl 5 (by decide) q257 (fun _ h => h) dX1_takesWheel_1 hC rfl ?_
  refine J_callU (n := 0) (owner := "java/util/AbstractCollection") cx (ci := 29) [] (t_LL_isEmpty l Ω hrw) dX1_takesWheel_4 q1351 q1346 q1347 q1349 q1350 q86 rfl ⟨by decide, by decide, by decide +kernel⟩ rfl hrw.1 rfl rfl ⟨Nat.le_of_ble_eq_true rfl, Nat.le_of_ble_eq_true rfl⟩ rfl rfl (Nat.le_of_ble_eq_true rfl) ⟨Nat.le_of_ble_eq_true rfl, Nat.le_of_ble_eq_true rfl⟩ (jdet ?_)
  by_cases hne : row = []
  · refine J_top (.int (nI (1))) (by rw [hne]; rfl) ?_
    refine J_if_eq (tgt := 11) cx dX1_takesWheel_7 (by decide) (fun c7 => absurd c7 (by decide)) (fun c7 => ?_)
    exact J_vret cx dX1_takesWheel_10 hr ⟨rfl, Nat.le_succ _, by simp only [c_takes, c_row, hne]; simp only [hne] at hpy; exact hpy, fun _ _ _ => rfl⟩ (Nat.le_of_ble_eq_true rfl) (Nat.le_of_ble_eq_true rfl)
  · refine J_top (.int (nI (0))) (by simp only [r_isEmpty, List.length_map]; rw [if_neg (nI_ne0 (List.length_pos_iff.mpr hne) (by omega))]) ?_
    refine J_if_eq (tgt := 11) cx dX1_takesWheel_7 (by decide) (fun c7 => ?_) (fun c7 => absurd c7 (by decide))
    refine J_aload_n cx dX1_takesWheel_11 rfl ?_
    refine J_aload_n cx dX1_takesWheel_12 rfl ?_
    refine J_callV (n := 0) cx (ci := 1) [] (t_Py_nextOfRow l Ω a hpy hne (fun r hr => (hok r hr).1)) dX1_takesWheel_13 (lw_V q1362 q1364 qs13 q85 q1365) ⟨rfl, by decide, by decide, by decide +kernel⟩ rfl hC rfl rfl ⟨Nat.le_of_ble_eq_true rfl, Nat.le_of_ble_eq_true rfl⟩ rfl rfl (Nat.le_of_ble_eq_true rfl) ⟨Nat.le_of_ble_eq_true rfl, Nat.le_of_ble_eq_true rfl⟩ (fun v9 G9 z9 hp9 _ => ?_)
    obtain ⟨r9, hr9, e1, e2, hpy2, hfr2⟩ := hp9
    subst e1; subst e2
    have hr8 := hok r9 (List.mem_of_getElem? hr9)
    obtain ⟨B, pl, ol, ns, dr, sh, hall⟩ := hpy2.all
    obtain ⟨⟨hAa, hC⟩, hI, hP, hO, hR, hS, hX⟩ := id hall
    obtain ⟨mcp, hps, hA3, hA8, hg2, hp16, hPp, hdr⟩ := id hP
    obtain ⟨mco, hos, hA4, hA9, hg3, ho8, hond, hOo⟩ := id hO
    obtain ⟨sf, df, kf, nk, hIA, hse, hsf, hdry, hdf, hsk, hnk, hg1, hkf⟩ := id hI
    obtain ⟨mcr, hrw, hA5, hAns, hr16⟩ := id hR
    obtain ⟨hsh, hsa, hA6, hA7, hsk8⟩ := id hS
    have ebp := hX.2.2
    refine J_ltA (fun hlA9 => ?_)
    have hne9 : jNe Ω := cx.kw.ne
    have hal3 := hps.lt hlA9
    have hal4 := hos.lt hlA9
    have hbA := ebp _ hAa
    have hb0 := ebp _ hIA.1
    have hb1 := ebp _ hIA.2.1
    have hb2 := ebp _ hIA.2.2
    have hb3 := ebp _ hA3
    have hb4 := ebp _ hA4
    have hb5 := ebp _ hA5
    have hb6 := ebp _ hA6
    have hb7 := ebp _ hA7
    have hqa : jHide _ := hall.neO hC
    refine J_lt hC (fun hlt0 => ?_)
    refine J_lt hse (fun hlt1 => ?_)
    refine J_lt hdry (fun hlt2 => ?_)
    refine J_lt hsk (fun hlt3 => ?_)
    refine J_lt hsh (fun hlt6 => ?_)
    refine J_lt hsa (fun hlt7 => ?_)
    have hr7 : r9 < pl.length := by have h9 := hr8.1; rw [hg2, tn_nI (by omega)] at h9; exact h9
    have hr6 : tn (gP g r9 1) < nk := by have h9 := hr8.2.2.1; rw [hg1, tn_nI (by omega)] at h9; exact h9
    refine J_put cx in_X1 tyX1 tyX1_ok nmX1 (ci := 1) rfl 8 (by decide) q263 (fun _ h => h) rfl (ty := .int) (by decide +kernel) dX1_takesWheel_16 rfl rfl hC (Nat.le_of_ble_eq_true rfl) (by omega) ?_
    refine J_mem (gset G9 a (.inr (1, [.ref (B 0), .ref (B 1), .ref (B 2), .ref (B 3), .ref (B 4), .ref (B 5), .ref (B 6), .int (g 0), .int (nI (r9)), .int (g 39), .int (g 40), .int (g 49), .int e9]))) rfl ?_
    refine J_aload_n cx dX1_takesWheel_19 rfl ?_
    refine J_get cx in_X1 (ci := 1) rfl 3 (by decide) q253 (fun _ h => h) dX1_takesWheel_20 gset_eq rfl ?_
    refine J_aload_n cx dX1_takesWheel_23 rfl ?_
    refine J_get cx in_X1 (ci := 1) rfl 8 (by decide) q263 (fun _ h => h) dX1_takesWheel_24 gset_eq rfl ?_
    obtain ⟨y5, hy5⟩ := jget (ns := pl) (i := r9) (by omega)
    obtain ⟨hAy5, hAd5, w5, f5, hc5, hn5, hw5, hwb5, hd5, hl5, hm5, hu5, he5, hf5, hv5⟩ := hPp _ _ hy5
    have hq5 : jHide _ := hall.neP hne9 hc5 hd5 hw5
    have hz5 : y5 < (sz + 1) ∧ dr r9 < (sz + 1) ∧ w5 < (sz + 1) := ⟨hlA9 _ _ hc5, hlA9 _ _ hd5, hlA9 _ _ hw5⟩
    refine J_al_get cx dX1_takesWheel_27 q413 (hps.put2 (hqa.get.2.2.1 (by decide)).1 hqa.get.2.2.2.1) hy5 ⟨Nat.le_of_ble_eq_true rfl, Nat.le_of_ble_eq_true rfl⟩ (Nat.le_of_ble_eq_true rfl) ⟨Nat.le_of_ble_eq_true rfl, Nat.le_of_ble_eq_true rfl⟩ ?_
    refine J_castS (q := (RX6, TX6, 12)) cx dX1_takesWheel_30 q411 (ci := 5) rfl ((gset_ne (Ne.symm hq5.get.1.1)).trans hc5) ?_
    refine J_astore_n1 cx dX1_takesWheel_33 (by decide) rfl ?_
    refine J_aload_n cx dX1_takesWheel_34 rfl ?_
    refine J_iconst (v := nI (1)) cx dX1_takesWheel_35 (by decide) ?_
    refine J_putN cx in_X6 tyX6 tyX6_ok nmX6 (ci := 5) rfl 4 (by decide) q461 (fun _ h => h) rfl (ty := .int) (by decide +kernel) dX1_takesWheel_36 rfl rfl ((gset_ne (Ne.symm hq5.get.1.1)).trans hc5) (Nat.le_of_ble_eq_true rfl) (by have := ebp _ hAy5; omega) ?_
    refine J_mem (gset (gset G9 a (.inr (1, [.ref (B 0), .ref (B 1), .ref (B 2), .ref (B 3), .ref (B 4), .ref (B 5), .ref (B 6), .int (g 0), .int (nI (r9)), .int (g 39), .int (g 40), .int (g 49), .int e9]))) y5 (.inr (5, [.int (nI (r9)), .int (gP g r9 1), .int (gP g r9 2), .int (gP g r9 3), .int (nI (1)), .int (gP g r9 4), .int (gP g r9 5), .float ((gP g r9 11).toUInt32), .ref w5, .int (gP g r9 10), .ref (dr r9), .int (nI ((D r9).length))]))) rfl ?_
    refine J_aload_n cx dX1_takesWheel_39 rfl ?_
    refine J_aload_n cx dX1_takesWheel_40 rfl ?_
    refine J_getN cx in_X6 (ci := 5) rfl 1 (by decide) q450 (fun _ h => h) dX1_takesWheel_41 gset_eq rfl ?_
    refine J_put cx in_X1 tyX1 tyX1_ok nmX1 (ci := 1) rfl 10 (by decide) q267 (fun _ h => h) rfl (ty := .int) (by decide +kernel) dX1_takesWheel_44 rfl rfl ((gset_ne hq5.get.1.1).trans gset_eq) (Nat.le_of_ble_eq_true rfl) (by omega) ?_
    refine J_mem (gset (gset G9 y5 (.inr (5, [.int (nI (r9)), .int (gP g r9 1), .int (gP g r9 2), .int (gP g r9 3), .int (nI (1)), .int (gP g r9 4), .int (gP g r9 5), .float ((gP g r9 11).toUInt32), .ref w5, .int (gP g r9 10), .ref (dr r9), .int (nI ((D r9).length))]))) a (.inr (1, [.ref (B 0), .ref (B 1), .ref (B 2), .ref (B 3), .ref (B 4), .ref (B 5), .ref (B 6), .int (g 0), .int (nI (r9)), .int (g 39), .int (gP g r9 1), .int (g 49), .int e9]))) (by funext q9; simp only [gset]; by_cases hq9 : q9 = a <;> simp [hq9]) ?_
    refine J_aload_n cx dX1_takesWheel_47 rfl ?_
    refine J_iconst (v := nI (1)) cx dX1_takesWheel_48 (by decide) ?_
    refine J_aload_n cx dX1_takesWheel_49 rfl ?_
    refine J_getN cx in_X6 (ci := 5) rfl 2 (by decide) q454 (fun _ h => h) dX1_takesWheel_50 ((gset_ne (Ne.symm hq5.get.1.1)).trans gset_eq) rfl ?_
    refine J_bipush (v := nI (6)) cx dX1_takesWheel_53 (by decide) ?_
    refine J_imul cx dX1_takesWheel_55 ?_
    refine J_aload_n cx dX1_takesWheel_56 rfl ?_
    refine J_get cx in_X1 (ci := 1) rfl 2 (by decide) q251 (fun _ h => h) dX1_takesWheel_57 gset_eq rfl ?_
    refine J_aload_n cx dX1_takesWheel_60 rfl ?_
    refine J_getN cx in_X6 (ci := 5) rfl 1 (by decide) q450 (fun _ h => h) dX1_takesWheel_61 ((gset_ne (Ne.symm hq5.get.1.1)).trans gset_eq) rfl ?_
    refine J_top (.int (nI (tn (gP g r9 1)))) (congrArg Value.int hr8.2.1) ?_
    refine J_iald cx dX1_takesWheel_64 ((gset_ne hqa.get.2.1.2.2).trans ((gset_ne hq5.get.1.2.2.2.1).trans hsk)) (by omega) (by omega) ?_
    refine J_iconst (v := nI (2)) cx dX1_takesWheel_65 (by decide) ?_
    refine J_iadd cx dX1_takesWheel_66 ?_
    refine J_idiv cx dX1_takesWheel_67 (by rw [hkf _ hr6]; exact hr8.2.2.2) ?_
    refine J_iadd cx dX1_takesWheel_68 ?_
    refine J_put cx in_X1 tyX1 tyX1_ok nmX1 (ci := 1) rfl 9 (by decide) q265 (fun _ h => h) rfl (ty := .int) (by decide +kernel) dX1_takesWheel_69 rfl rfl gset_eq (Nat.le_of_ble_eq_true rfl) (by omega) ?_
    refine J_mem (gset (gset G9 y5 (.inr (5, [.int (nI (r9)), .int (gP g r9 1), .int (gP g r9 2), .int (gP g r9 3), .int (nI (1)), .int (gP g r9 4), .int (gP g r9 5), .float ((gP g r9 11).toUInt32), .ref w5, .int (gP g r9 10), .ref (dr r9), .int (nI ((D r9).length))]))) a (.inr (1, [.ref (B 0), .ref (B 1), .ref (B 2), .ref (B 3), .ref (B 4), .ref (B 5), .ref (B 6), .int (g 0), .int (nI (r9)), .int ((nI (1)) + (((gP g r9 2) * (nI (6))) / ((kf (tn (gP g r9 1))) + (nI (2))))), .int (gP g r9 1), .int (g 49), .int e9]))) gset_gset ?_
    have h1 : pyAll Ω A (gset G9 a (.inr (1, [.ref (B 0), .ref (B 1), .ref (B 2), .ref (B 3), .ref (B 4), .ref (B 5), .ref (B 6), .int (g 0), .int (nI (r9)), .int ((nI (1)) + (((gP g r9 2) * (nI (6))) / ((kf (tn (gP g r9 1))) + (nI (2))))), .int (gP g r9 1), .int (g 49), .int e9]))) a (upd (upd (upd g (38) (nI r9)) (39) ((nI (1)) + (((g ((50 + (13 * r9)) + 2)) * (nI (6))) / ((g (34 + (tn (g ((50 + (13 * r9)) + 1))))) + (nI (2)))))) (40) (nI (tn (g ((50 + (13 * r9)) + 1))))) D cp _ e9 B pl ol ns dr sh := hall.own (fun q c hq h1 => (gset_ne h1).trans hq) (gset_eq.trans (by rw [hkf _ hr6, hr8.2.1]; simp [pyE, upd, gP, tn_nI (show tn (gP g r9 1) < 2147483648 by omega)])) (fun i h1 h2 h3 h4 h5 h6 => by simp only [upd]; rw [if_neg h5, if_neg h4, if_neg h3])
    have hjp : jPot Ω (gset (gset G9 y5 (.inr (5, [.int (nI (r9)), .int (gP g r9 1), .int (gP g r9 2), .int (gP g r9 3), .int (nI (1)), .int (gP g r9 4), .int (gP g r9 5), .float ((gP g r9 11).toUInt32), .ref w5, .int (gP g r9 10), .ref (dr r9), .int (nI ((D r9).length))]))) a (.inr (1, [.ref (B 0), .ref (B 1), .ref (B 2), .ref (B 3), .ref (B 4), .ref (B 5), .ref (B 6), .int (g 0), .int (nI (r9)), .int ((nI (1)) + (((gP g r9 2) * (nI (6))) / ((kf (tn (gP g r9 1))) + (nI (2))))), .int (gP g r9 1), .int (g 49), .int e9]))) y5 r9 (upd (gP g r9) 0 (nI (1))) (D r9) (dr r9) (cp r9) := ⟨w5, f5, (gset_ne (Ne.symm hq5.get.1.1)).trans (gset_eq.trans (by simp [potC, upd])), by simp [upd, hn5], (gset_ne (Ne.symm hq5.get.2.2.2.2.2)).trans ((gset_ne (Ne.symm hq5.get.2.2.2.1)).trans (by simpa [upd] using hw5)), hwb5, (gset_ne (Ne.symm hq5.get.2.1.1)).trans ((gset_ne (Ne.symm hq5.get.2.2.1)).trans (hd5)), hl5, hm5, hu5, he5, hf5, by simpa [upd] using hv5⟩
    have hfin : isPy Ω A (gset (gset G9 y5 (.inr (5, [.int (nI (r9)), .int (gP g r9 1), .int (gP g r9 2), .int (gP g r9 3), .int (nI (1)), .int (gP g r9 4), .int (gP g r9 5), .float ((gP g r9 11).toUInt32), .ref w5, .int (gP g r9 10), .ref (dr r9), .int (nI ((D r9).length))]))) a (.inr (1, [.ref (B 0), .ref (B 1), .ref (B 2), .ref (B 3), .ref (B 4), .ref (B 5), .ref (B 6), .int (g 0), .int (nI (r9)), .int ((nI (1)) + (((gP g r9 2) * (nI (6))) / ((kf (tn (gP g r9 1))) + (nI (2))))), .int (gP g r9 1), .int (g 49), .int e9]))) a (o_X3_takes_g g r9) D cp (row.eraseIdx (S_nx g row row.length 0)) e9 := h1.pot hne9 hy5 (fun q c hq h1 h2 => by rw [gset_comm (Ne.symm hq5.get.1.1)]; exact (gset_ne h1).trans hq) (hjp.congr (fun i hi _ => by simp only [gP, o_X3_takes_g, upd]; rw [if_neg (by omega), if_neg (by omega), if_neg (by omega)]; by_cases h : i = 0 <;> simp [h])) hAd5 (Or.inl rfl) (fun i h1 h2 => by simp only [o_X3_takes_g, upd]; rw [if_neg (show ¬ i = 50 + 13 * r9 + 0 by omega)]) (fun k _ => ⟨rfl, rfl⟩)
    have hfr : ∀ q, q < sz → ¬ A q → (gset (gset G9 y5 (.inr (5, [.int (nI (r9)), .int (gP g r9 1), .int (gP g r9 2), .int (gP g r9 3), .int (nI (1)), .int (gP g r9 4), .int (gP g r9 5), .float ((gP g r9 11).toUInt32), .ref w5, .int (gP g r9 10), .ref (dr r9), .int (nI ((D r9).length))]))) a (.inr (1, [.ref (B 0), .ref (B 1), .ref (B 2), .ref (B 3), .ref (B 4), .ref (B 5), .ref (B 6), .int (g 0), .int (nI (r9)), .int ((nI (1)) + (((gP g r9 2) * (nI (6))) / ((kf (tn (gP g r9 1))) + (nI (2))))), .int (gP g r9 1), .int (g 49), .int e9]))) q = G q := fun q h1 h2 => (gset_ne (fun e => h2 (by rw [e]; exact hAa))).trans ((gset_ne (fun e => h2 (by rw [e]; exact hAy5))).trans (hfr2 q h1 h2))
    exact J_vret cx dX1_takesWheel_72 hr ⟨rfl, Nat.le_refl _, by simp only [c_takes, c_row, hr9]; exact hfin, hfr⟩ (Nat.le_of_ble_eq_true rfl) (Nat.le_of_ble_eq_true rfl)
