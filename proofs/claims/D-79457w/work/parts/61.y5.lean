/-! POTTERY 8 (gen/mk_y5.py): turns -/
set_option maxRecDepth 100000
/-- the wheel's hour -/
def c_off (g : Nat → Int32) : Nat → Int32 := upd (upd (upd (upd (upd (upd g (39) ((g (39)) - (nI (1)))) ((50 + (13 * (tn (g (38))))) + 0) (nI (2))) ((50 + (13 * (tn (g (38))))) + 11) (FP.fconst1.toInt32)) ((50 + (13 * (tn (g (38))))) + 12) (nI (1))) ((50 + (13 * (tn (g (38))))) + 5) (nI (0))) (38) (-1)
def c_wh (g : Nat → Int32) : Nat → Int32 := if g (38) = -1 then g else if (g (39)) - (nI (1)) = 0 then c_off g else upd g (39) ((g (39)) - (nI (1)))
def c_turns (g : Nat → Int32) (row : List Nat) : Nat → Int32 := if (c_wh g) (38) = -1 then c_takes (c_wh g) row else c_wh g
def c_trow (g : Nat → Int32) (row : List Nat) : List Nat := if (c_wh g) (38) = -1 then c_row (c_wh g) row else row
theorem c_off38 (g : Nat → Int32) : c_off g 38 = -1 := by simp only [c_off, upd, if_true]
theorem cof_pot (g : Nat → Int32) (i : Nat) (hi : i ≤ 11) (h8 : i ≠ 8) : gP (c_off g) (tn (g 38)) i = upd (upd (upd (gP g (tn (g 38))) 0 (nI (2))) 5 (nI (0))) 11 (FP.fconst1.toInt32) i := by
  simp only [gP, c_off, upd]
  rw [if_neg (by omega)]
  by_cases h0 : i = 0
  · subst h0; rw [if_neg (by omega), if_neg (by omega), if_neg (by omega), if_pos rfl, if_neg (by omega), if_neg (by omega), if_pos rfl]
  · by_cases h5 : i = 5
    · subst h5; rw [if_pos rfl, if_neg (by omega), if_pos rfl]
    · by_cases h11 : i = 11
      · subst h11; rw [if_neg (by omega), if_neg (by omega), if_pos rfl, if_pos rfl]
      · rw [if_neg (by omega), if_neg (by omega), if_neg (by omega), if_neg (by omega), if_neg (by omega), if_neg h11, if_neg h5, if_neg h0]
theorem cof_out (g : Nat → Int32) (i : Nat) (h : ¬ (50 + 13 * tn (g 38) ≤ i ∧ i ≤ 50 + 13 * tn (g 38) + 12)) : c_off g i = upd (upd g 39 (g 39 - nI 1)) 38 (-1) i := by
  simp only [c_off, upd]
  rw [if_neg (show ¬ i = 50 + 13 * tn (g 38) + 5 by omega), if_neg (show ¬ i = 50 + 13 * tn (g 38) + 12 by omega), if_neg (show ¬ i = 50 + 13 * tn (g 38) + 11 by omega), if_neg (show ¬ i = 50 + 13 * tn (g 38) + 0 by omega)]
set_option maxHeartbeats 1000000 in
theorem t_Py_turns (l : Launch) (Ω : jO) {G : Mem} {sz : Nat} {A : Nat → Prop} (a : Nat) {g : Nat → Int32} {D : Nat → List Int32} {cp : Nat → Nat} {row : List Nat} {e9 : Int32} (hpy : isPy Ω A G a g D cp row e9) (hwh : g 38 = -1 ∨ (g 38 = nI (tn (g 38)) ∧ tn (g 38) < tn (g 2))) (hok : rowOk (c_wh g) row) : Met l yX1_turns (ws_ yX1_turns cX1_turns 1 none) ({ frames := 8, cells := 1, slots := 5, locals := 161 } : Room) (va_Pc [.ref a] (jWd Ω G sz)) (jQ Ω (fun v G1 sz1 => v = none ∧ sz1 ≤ sz + 1 ∧ isPy Ω A G1 a (c_turns g row) D cp (c_trow g row) e9 ∧ ∀ q, q < sz → ¬ A q → G1 q = G q)) 1 5 (jB Ω) := by
  refine jMet (by decide) (Nat.le_of_ble_eq_true rfl) ?_
  intro p e s m args below meth c cx hr hnm
  refine J_loc [some (.ref a)] rfl ?_
  obtain ⟨B, pl, ol, ns, dr, sh, hall⟩ := hpy.all
  obtain ⟨⟨hAa, hC⟩, hI, hP, hO, hR, hS, hX⟩ := id hall
  obtain ⟨mcp, hps, hA3, hA8, hg2, hp16, hPp, hdr⟩ := id hP
  obtain ⟨mco, hos, hA4, hA9, hg3, ho8, hond, hOo⟩ := id hO
  obtain ⟨sf, df, kf, nk, hIA, hse, hsf, hdry, hdf, hsk, hnk, hg1, hkf⟩ := id hI
  obtain ⟨mcr, hrw, hA5, hAns, hr16⟩ := id hR
  obtain ⟨hsh, hsa, hA6, hA7, hsk8⟩ := id hS
  have ebp := hX.2.2
  refine J_ltA (fun hlA9 => ?_)
  have hne9 : jNe Ω := cx.kw.ne
  have hal3 := hps.lt hlA9
  have hal4 := hos.lt hlA9
  have hbA := ebp _ hAa
  have hb0 := ebp _ hIA.1
  have hb1 := ebp _ hIA.2.1
  have hb2 := ebp _ hIA.2.2
  have hb3 := ebp _ hA3
  have hb4 := ebp _ hA4
  have hb5 := ebp _ hA5
  have hb6 := ebp _ hA6
  have hb7 := ebp _ hA7
  have hqa : jHide _ := hall.neO hC
  refine J_bs cx (fun hbs9 => ?_)
  refine J_lt hC (fun hlt0 => ?_)
  refine J_lt hse (fun hlt1 => ?_)
  refine J_lt hdry (fun hlt2 => ?_)
  refine J_lt hsk (fun hlt3 => ?_)
  refine J_lt hsh (fun hlt6 => ?_)
  refine J_lt hsa (fun hlt7 => ?_)
  refine J_aload_n cx dX1_turns_0 rfl ?_
  refine J_get cx in_X1 (ci := 1) rfl 8 (by decide) q263 (fun _ h => h) dX1_turns_1 hC rfl ?_
  refine J_iconst (v := -1) cx dX1_turns_4 (by decide) ?_
  refine J_icmp_eq (tgt := 47) cx dX1_turns_5 (by decide) (fun c5 => ?_) (fun c5 => ?_)
  · refine J_aload_n cx dX1_turns_47 rfl ?_
    refine J_get cx in_X1 (ci := 1) rfl 8 (by decide) q263 (fun _ h => h) dX1_turns_48 hC rfl ?_
    refine J_iconst (v := -1) cx dX1_turns_51 (by decide) ?_
    refine J_icmp_ne (tgt := 59) cx dX1_turns_52 (by decide) (fun c52 => by first | exact absurd c5 c52 | exact absurd c52 c5 | omega) (fun c52 => ?_)
    refine J_aload_n cx dX1_turns_55 rfl ?_
    refine J_callV (n := 0) cx (ci := 1) [] (t_Py_takesWheel l Ω a hpy (by simp only [c_wh, if_pos c5] at hok; exact hok)) dX1_turns_56 (lw_V q1342 q1344 qs12 q85 q1345) ⟨rfl, by decide, by decide, by decide +kernel⟩ rfl hC rfl rfl ⟨Nat.le_of_ble_eq_true rfl, Nat.le_of_ble_eq_true rfl⟩ rfl rfl (Nat.le_of_ble_eq_true rfl) ⟨Nat.le_of_ble_eq_true rfl, Nat.le_of_ble_eq_true rfl⟩ (fun v9 G9 z9 hp9 _ => ?_)
    obtain ⟨e1, hz9, hpy4, hfr4⟩ := hp9
    subst e1
    exact J_vret cx dX1_turns_59 hr ⟨rfl, hz9, (show c_turns g row = c_takes g row ∧ c_trow g row = c_row g row from ⟨by simp only [c_turns, c_wh, if_pos c5], by simp only [c_trow, c_wh, if_pos c5]⟩).elim (fun e1 e2 => by rw [e1, e2]; exact hpy4), hfr4⟩ (Nat.le_of_ble_eq_true rfl) (Nat.le_of_ble_eq_true rfl)
  · refine J_aload_n cx dX1_turns_8 rfl ?_
    refine J_dup cx dX1_turns_9 rfl ?_
    refine J_get cx in_X1 (ci := 1) rfl 9 (by decide) q265 (fun _ h => h) dX1_turns_10 hC rfl ?_
    refine J_iconst (v := nI (1)) cx dX1_turns_13 (by decide) ?_
    refine J_isub cx dX1_turns_14 ?_
    refine J_put cx in_X1 tyX1 tyX1_ok nmX1 (ci := 1) rfl 9 (by decide) q265 (fun _ h => h) rfl (ty := .int) (by decide +kernel) dX1_turns_15 rfl rfl hC (Nat.le_of_ble_eq_true rfl) (by omega) ?_
    refine J_mem (gset G a (.inr (1, [.ref (B 0), .ref (B 1), .ref (B 2), .ref (B 3), .ref (B 4), .ref (B 5), .ref (B 6), .int (g 0), .int (g 38), .int ((g 39) - (nI (1))), .int (g 40), .int (g 49), .int e9]))) rfl ?_
    refine J_aload_n cx dX1_turns_18 rfl ?_
    refine J_get cx in_X1 (ci := 1) rfl 9 (by decide) q265 (fun _ h => h) dX1_turns_19 gset_eq rfl ?_
    refine J_if_ne (tgt := 47) cx dX1_turns_22 (by decide) (fun c22 => ?_) (fun c22 => ?_)
    · refine J_aload_n cx dX1_turns_47 rfl ?_
      refine J_get cx in_X1 (ci := 1) rfl 8 (by decide) q263 (fun _ h => h) dX1_turns_48 gset_eq rfl ?_
      refine J_iconst (v := -1) cx dX1_turns_51 (by decide) ?_
      refine J_icmp_ne (tgt := 59) cx dX1_turns_52 (by decide) (fun c52 => ?_) (fun c52 => by first | exact absurd c5 c52 | exact absurd c52 c5 | omega)
      have hwc : c_wh g = upd g 39 (g 39 - nI 1) := by simp only [c_wh, if_neg c5, if_neg c22]
      have h38 : ¬ (c_wh g) 38 = -1 := by rw [hwc]; simpa [upd] using c5
      have h1 : pyAll Ω A (gset G a (.inr (1, [.ref (B 0), .ref (B 1), .ref (B 2), .ref (B 3), .ref (B 4), .ref (B 5), .ref (B 6), .int (g 0), .int (g 38), .int ((g 39) - (nI (1))), .int (g 40), .int (g 49), .int e9]))) a (c_wh g) D cp row e9 B pl ol ns dr sh := by rw [hwc]; exact hall.own (fun q c hq h1 => (gset_ne h1).trans hq) (gset_eq.trans (by simp [pyE, upd])) (fun i h1 h2 h3 h4 h5 h6 => by simp only [upd]; rw [if_neg h4])
      exact J_vret cx dX1_turns_59 hr ⟨rfl, Nat.le_succ _, by simp only [c_turns, c_trow, if_neg h38]; exact h1.py, fun q h1 h2 => gset_ne (fun e => h2 (by rw [e]; exact hAa))⟩ (Nat.le_of_ble_eq_true rfl) (Nat.le_of_ble_eq_true rfl)
    · refine J_aload_n cx dX1_turns_25 rfl ?_
      refine J_get cx in_X1 (ci := 1) rfl 3 (by decide) q253 (fun _ h => h) dX1_turns_26 gset_eq rfl ?_
      refine J_aload_n cx dX1_turns_29 rfl ?_
      refine J_get cx in_X1 (ci := 1) rfl 8 (by decide) q263 (fun _ h => h) dX1_turns_30 gset_eq rfl ?_
      have hw9 := hwh.resolve_left c5
      have hw8 : tn (g 38) < pl.length := by have h9 := hw9.2; rw [hg2, tn_nI (by omega)] at h9; exact h9
      refine J_top (.int (nI (tn (g 38)))) (congrArg Value.int hw9.1) ?_
      obtain ⟨y6, hy6⟩ := jget (ns := pl) (i := tn (g 38)) (by omega)
      obtain ⟨hAy6, hAd6, w6, f6, hc6, hn6, hw6, hwb6, hd6, hl6, hm6, hu6, he6, hf6, hv6⟩ := hPp _ _ hy6
      have hq6 : jHide _ := hall.neP hne9 hc6 hd6 hw6
      have hz6 : y6 < sz ∧ dr (tn (g 38)) < sz ∧ w6 < sz := ⟨hlA9 _ _ hc6, hlA9 _ _ hd6, hlA9 _ _ hw6⟩
      refine J_al_get cx dX1_turns_33 q413 (hps.put2 (hqa.get.2.2.1 (by decide)).1 hqa.get.2.2.2.1) hy6 ⟨Nat.le_of_ble_eq_true rfl, Nat.le_of_ble_eq_true rfl⟩ (Nat.le_of_ble_eq_true rfl) ⟨Nat.le_of_ble_eq_true rfl, Nat.le_of_ble_eq_true rfl⟩ ?_
      refine J_castS (q := (RX6, TX6, 12)) cx dX1_turns_36 q411 (ci := 5) rfl ((gset_ne (Ne.symm hq6.get.1.1)).trans hc6) ?_
      refine J_callV (n := 0) cx (ci := 5) [] (t_X6_comesOff l Ω y6 ((gset_ne (Ne.symm hq6.get.1.1)).trans hc6) (by have := ebp _ hAy6; omega)) dX1_turns_39 (lw_V q1338 q1339 q1340 q96 q1341) ⟨rfl, by decide, by decide, by decide +kernel⟩ rfl ((gset_ne (Ne.symm hq6.get.1.1)).trans hc6) rfl rfl ⟨Nat.le_of_ble_eq_true rfl, Nat.le_of_ble_eq_true rfl⟩ rfl rfl (Nat.le_of_ble_eq_true rfl) ⟨Nat.le_of_ble_eq_true rfl, Nat.le_of_ble_eq_true rfl⟩ (jdet ?_)
      refine J_mem (gset (gset G a (.inr (1, [.ref (B 0), .ref (B 1), .ref (B 2), .ref (B 3), .ref (B 4), .ref (B 5), .ref (B 6), .int (g 0), .int (g 38), .int ((g 39) - (nI (1))), .int (g 40), .int (g 49), .int e9]))) y6 (.inr (5, [.int (nI (tn (g 38))), .int (gP g (tn (g 38)) 1), .int (gP g (tn (g 38)) 2), .int (gP g (tn (g 38)) 3), .int (nI (2)), .int (gP g (tn (g 38)) 4), .int (nI (0)), .float (FP.fconst1), .ref w6, .int (gP g (tn (g 38)) 10), .ref (dr (tn (g 38))), .int (nI ((D (tn (g 38))).length))]))) rfl ?_
      refine J_aload_n cx dX1_turns_42 rfl ?_
      refine J_iconst (v := -1) cx dX1_turns_43 (by decide) ?_
      refine J_put cx in_X1 tyX1 tyX1_ok nmX1 (ci := 1) rfl 8 (by decide) q263 (fun _ h => h) rfl (ty := .int) (by decide +kernel) dX1_turns_44 rfl rfl ((gset_ne hq6.get.1.1).trans gset_eq) (Nat.le_of_ble_eq_true rfl) (by omega) ?_
      refine J_mem (gset (gset G y6 (.inr (5, [.int (nI (tn (g 38))), .int (gP g (tn (g 38)) 1), .int (gP g (tn (g 38)) 2), .int (gP g (tn (g 38)) 3), .int (nI (2)), .int (gP g (tn (g 38)) 4), .int (nI (0)), .float (FP.fconst1), .ref w6, .int (gP g (tn (g 38)) 10), .ref (dr (tn (g 38))), .int (nI ((D (tn (g 38))).length))]))) a (.inr (1, [.ref (B 0), .ref (B 1), .ref (B 2), .ref (B 3), .ref (B 4), .ref (B 5), .ref (B 6), .int (g 0), .int (-1), .int ((g 39) - (nI (1))), .int (g 40), .int (g 49), .int e9]))) (by funext q9; simp only [gset]; by_cases hq9 : q9 = a <;> simp [hq9]) ?_
      refine J_aload_n cx dX1_turns_47 rfl ?_
      refine J_get cx in_X1 (ci := 1) rfl 8 (by decide) q263 (fun _ h => h) dX1_turns_48 gset_eq rfl ?_
      refine J_iconst (v := -1) cx dX1_turns_51 (by decide) ?_
      refine J_icmp_ne (tgt := 59) cx dX1_turns_52 (by decide) (fun c52 => absurd c52 (fun q => absurd rfl q)) (fun c52 => ?_)
      refine J_aload_n cx dX1_turns_55 rfl ?_
      have h1 : pyAll Ω A (gset G a (.inr (1, [.ref (B 0), .ref (B 1), .ref (B 2), .ref (B 3), .ref (B 4), .ref (B 5), .ref (B 6), .int (g 0), .int (-1), .int ((g 39) - (nI (1))), .int (g 40), .int (g 49), .int e9]))) a (upd (upd g 39 (g 39 - nI 1)) 38 (-1)) D cp row e9 B pl ol ns dr sh := hall.own (fun q c hq h1 => (gset_ne h1).trans hq) (gset_eq.trans (by simp [pyE, upd])) (fun i h1 h2 h3 h4 h5 h6 => by simp only [upd]; rw [if_neg h3, if_neg h4])
      have hjp : jPot Ω (gset (gset G y6 (.inr (5, [.int (nI (tn (g 38))), .int (gP g (tn (g 38)) 1), .int (gP g (tn (g 38)) 2), .int (gP g (tn (g 38)) 3), .int (nI (2)), .int (gP g (tn (g 38)) 4), .int (nI (0)), .float (FP.fconst1), .ref w6, .int (gP g (tn (g 38)) 10), .ref (dr (tn (g 38))), .int (nI ((D (tn (g 38))).length))]))) a (.inr (1, [.ref (B 0), .ref (B 1), .ref (B 2), .ref (B 3), .ref (B 4), .ref (B 5), .ref (B 6), .int (g 0), .int (-1), .int ((g 39) - (nI (1))), .int (g 40), .int (g 49), .int e9]))) y6 (tn (g 38)) (upd (upd (upd (gP g (tn (g 38))) 0 (nI (2))) 5 (nI (0))) 11 (FP.fconst1.toInt32)) (D (tn (g 38))) (dr (tn (g 38))) (cp (tn (g 38))) := ⟨w6, f6, (gset_ne (Ne.symm hq6.get.1.1)).trans (gset_eq.trans (by simp [potC, upd])), by simp [upd, hn6], (gset_ne (Ne.symm hq6.get.2.2.2.2.2)).trans ((gset_ne (Ne.symm hq6.get.2.2.2.1)).trans (by simpa [upd] using hw6)), hwb6, (gset_ne (Ne.symm hq6.get.2.1.1)).trans ((gset_ne (Ne.symm hq6.get.2.2.1)).trans (hd6)), hl6, hm6, hu6, he6, hf6, (Or.inl rfl)⟩
      have hpy3 : isPy Ω A (gset (gset G y6 (.inr (5, [.int (nI (tn (g 38))), .int (gP g (tn (g 38)) 1), .int (gP g (tn (g 38)) 2), .int (gP g (tn (g 38)) 3), .int (nI (2)), .int (gP g (tn (g 38)) 4), .int (nI (0)), .float (FP.fconst1), .ref w6, .int (gP g (tn (g 38)) 10), .ref (dr (tn (g 38))), .int (nI ((D (tn (g 38))).length))]))) a (.inr (1, [.ref (B 0), .ref (B 1), .ref (B 2), .ref (B 3), .ref (B 4), .ref (B 5), .ref (B 6), .int (g 0), .int (-1), .int ((g 39) - (nI (1))), .int (g 40), .int (g 49), .int e9]))) a (c_off g) D cp row e9 := h1.pot hne9 hy6 (fun q c hq h1 h2 => by rw [gset_comm (Ne.symm hq6.get.1.1)]; exact (gset_ne h1).trans hq) (hjp.congr (fun i hi h8 => cof_pot g i hi h8)) hAd6 (Or.inl rfl) (fun i h1 h2 => cof_out g i h2) (fun k _ => ⟨rfl, rfl⟩)
      have hfr3 : ∀ q, q < sz → ¬ A q → (gset (gset G y6 (.inr (5, [.int (nI (tn (g 38))), .int (gP g (tn (g 38)) 1), .int (gP g (tn (g 38)) 2), .int (gP g (tn (g 38)) 3), .int (nI (2)), .int (gP g (tn (g 38)) 4), .int (nI (0)), .float (FP.fconst1), .ref w6, .int (gP g (tn (g 38)) 10), .ref (dr (tn (g 38))), .int (nI ((D (tn (g 38))).length))]))) a (.inr (1, [.ref (B 0), .ref (B 1), .ref (B 2), .ref (B 3), .ref (B 4), .ref (B 5), .ref (B 6), .int (g 0), .int (-1), .int ((g 39) - (nI (1))), .int (g 40), .int (g 49), .int e9]))) q = G q := fun q h1 h2 => (gset_ne (fun e => h2 (by rw [e]; exact hAa))).trans (gset_ne (fun e => h2 (by rw [e]; exact hAy6)))
      have hwc : c_wh g = c_off g := by simp only [c_wh, if_neg c5, if_pos c22]
      refine J_callV (n := 0) cx (ci := 1) [] (t_Py_takesWheel l Ω a hpy3 (by rw [hwc] at hok; exact hok)) dX1_turns_56 (lw_V q1342 q1344 qs12 q85 q1345) ⟨rfl, by decide, by decide, by decide +kernel⟩ rfl gset_eq rfl rfl ⟨Nat.le_of_ble_eq_true rfl, Nat.le_of_ble_eq_true rfl⟩ rfl rfl (Nat.le_of_ble_eq_true rfl) ⟨Nat.le_of_ble_eq_true rfl, Nat.le_of_ble_eq_true rfl⟩ (fun v9 G9 z9 hp9 _ => ?_)
      obtain ⟨e1, hz9, hpy4, hfr4⟩ := hp9
      subst e1
      exact J_vret cx dX1_turns_59 hr ⟨rfl, hz9, (show c_turns g row = c_takes (c_off g) row ∧ c_trow g row = c_row (c_off g) row from ⟨by simp only [c_turns, hwc, if_pos (c_off38 g)], by simp only [c_trow, hwc, if_pos (c_off38 g)]⟩).elim (fun e1 e2 => by rw [e1, e2]; exact hpy4), fun q h1 h2 => (hfr4 q h1 h2).trans (hfr3 q h1 h2)⟩ (Nat.le_of_ble_eq_true rfl) (Nat.le_of_ble_eq_true rfl)
