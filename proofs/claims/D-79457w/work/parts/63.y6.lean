/-! POTTERY 9 (gen/mk_y6.py): goesHour -/
set_option maxRecDepth 100000
def c_clk (g : Nat → Int32) : Nat → Int32 := upd g 0 (nI (tn (g 0) + 1))
/-- the numbers when all pots have dried -/
def c_h1 (g : Nat → Int32) : Nat → Int32 := c_dry (c_clk g) (tn (g 2))
theorem cclk_ne (g : Nat → Int32) {i : Nat} (h : i ≠ 0) : c_clk g i = g i := by simp only [c_clk, upd]; rw [if_neg h]
theorem cclk_gP (g : Nat → Int32) (p i : Nat) : gP (c_clk g) p i = gP g p i := cclk_ne g (by omega)
theorem cclk_0 (g : Nat → Int32) (h : tn (g 0) ≤ 498) : tn (c_clk g 0) = tn (g 0) + 1 := by simp only [c_clk, upd, if_true]; exact tn_nI (by omega)
theorem airOk.clk {g : Nat → Int32} (h : airOk g) : airOk (c_clk g) := fun i hi => by rw [cclk_ne g (by omega)]; exact h i hi
set_option maxHeartbeats 2000000 in
theorem t_Py_goesHour (l : Launch) (Ω : jO) {G : Mem} {sz : Nat} {A : Nat → Prop} (a : Nat) {g : Nat → Int32} {D : Nat → List Int32} {cp : Nat → Nat} {row : List Nat} {e9 : Int32} (hpy : isPy Ω A G a g D cp row e9) (hA : ∀ q, sz ≤ q → A q) (hck : g 0 = nI (tn (g 0)) ∧ tn (g 0) ≤ 498) (hair : airOk g) (hdo : ∀ p, p < tn (g 2) → gP g p 0 = nI (2) → dryOk (c_clk g) p ∧ (D p).length < 590) (hwh : c_h1 g 38 = -1 ∨ (c_h1 g 38 = nI (tn (c_h1 g 38)) ∧ tn (c_h1 g 38) < tn (c_h1 g 2))) (hok : rowOk (c_wh (c_h1 g)) row) : Met l yX1_goesHour (ws_ yX1_goesHour cX1_goesHour 4 none) ({ frames := 9, cells := 17, slots := hrS (c_clk g) D cp (tn (g 2)) + 5, locals := 181 } : Room) (va_Pc [.ref a] (jWd Ω G sz)) (jQ Ω (fun v G1 sz1 => v = none ∧ isPy Ω A G1 a (c_turns (c_h1 g) row) (hrD (c_clk g) D (tn (g 2))) (hrC (c_clk g) D cp (tn (g 2))) (c_trow (c_h1 g) row) e9 ∧ ∀ q, q < sz → ¬ A q → G1 q = G q)) 17 (hrS (c_clk g) D cp (tn (g 2)) + 5) (jB Ω) := by
  refine jMet (by decide) (Nat.le_of_ble_eq_true rfl) ?_
  intro p e s m args below meth c cx hr hnm
  refine J_loc [some (.ref a), none, none, none] rfl ?_
  obtain ⟨B, pl, ol, ns, dr, sh, hall⟩ := hpy.all
  obtain ⟨⟨hAa, hC⟩, hI, hP, hO, hR, hS, hX⟩ := id hall
  obtain ⟨mcp, hps, hA3, hA8, hg2, hp16, hPp, hdr⟩ := id hP
  obtain ⟨mco, hos, hA4, hA9, hg3, ho8, hond, hOo⟩ := id hO
  obtain ⟨sf, df, kf, nk, hIA, hse, hsf, hdry, hdf, hsk, hnk, hg1, hkf⟩ := id hI
  obtain ⟨mcr, hrw, hA5, hAns, hr16⟩ := id hR
  obtain ⟨hsh, hsa, hA6, hA7, hsk8⟩ := id hS
  have ebp := hX.2.2
  refine J_ltA (fun hlA9 => ?_)
  have hne9 : jNe Ω := cx.kw.ne
  have hal3 := hps.lt hlA9
  have hal4 := hos.lt hlA9
  have hbA := ebp _ hAa
  have hb0 := ebp _ hIA.1
  have hb1 := ebp _ hIA.2.1
  have hb2 := ebp _ hIA.2.2
  have hb3 := ebp _ hA3
  have hb4 := ebp _ hA4
  have hb5 := ebp _ hA5
  have hb6 := ebp _ hA6
  have hb7 := ebp _ hA7
  have hqa : jHide _ := hall.neO hC
  have hnp9 : tn (g 2) ≤ 16 := by rw [hg2, tn_nI (by omega)]; exact hp16
  refine J_bs cx (fun hbs9 => ?_)
  refine J_lt hC (fun hlt0 => ?_)
  refine J_lt hse (fun hlt1 => ?_)
  refine J_lt hdry (fun hlt2 => ?_)
  refine J_lt hsk (fun hlt3 => ?_)
  refine J_lt hsh (fun hlt6 => ?_)
  refine J_lt hsa (fun hlt7 => ?_)
  refine J_aload_n cx dX1_goesHour_0 rfl ?_
  refine J_dup cx dX1_goesHour_1 rfl ?_
  refine J_get cx in_X1 (ci := 1) rfl 7 (by decide) q261 (fun _ h => h) dX1_goesHour_2 hC rfl ?_
  refine J_iconst (v := nI (1)) cx dX1_goesHour_5 (by decide) ?_
  refine J_iadd cx dX1_goesHour_6 ?_
  refine J_top (.int (nI (tn (g 0) + 1))) (by rw [← nI_add, ← hck.1]) ?_
  refine J_put cx in_X1 tyX1 tyX1_ok nmX1 (ci := 1) rfl 7 (by decide) q261 (fun _ h => h) rfl (ty := .int) (by decide +kernel) dX1_goesHour_7 rfl rfl hC (Nat.le_of_ble_eq_true rfl) (by omega) ?_
  refine J_mem (gset G a (.inr (1, [.ref (B 0), .ref (B 1), .ref (B 2), .ref (B 3), .ref (B 4), .ref (B 5), .ref (B 6), .int (nI (tn (g 0) + 1)), .int (g 38), .int (g 39), .int (g 40), .int (g 49), .int e9]))) rfl ?_
  refine J_aload_n cx dX1_goesHour_10 rfl ?_
  refine J_get cx in_X1 (ci := 1) rfl 1 (by decide) q248 (fun _ h => h) dX1_goesHour_11 gset_eq rfl ?_
  refine J_aload_n cx dX1_goesHour_14 rfl ?_
  refine J_get cx in_X1 (ci := 1) rfl 7 (by decide) q261 (fun _ h => h) dX1_goesHour_15 gset_eq rfl ?_
  refine J_bipush (v := nI (24)) cx dX1_goesHour_18 (by decide) ?_
  refine J_iremN cx dX1_goesHour_20 (by omega) (by omega) (by omega) ?_
  refine J_iald cx dX1_goesHour_21 ((gset_ne hqa.get.2.1.2.1).trans hdry) (by omega) (by omega) ?_
  refine J_top (.int ((c_clk g) (10 + tn ((c_clk g) 0) % 24))) (congrArg Value.int (by rw [hdf _ (by omega), cclk_0 g hck.2, cclk_ne g (by omega)])) ?_
  refine J_istore_n1 cx dX1_goesHour_22 (by decide) rfl ?_
  refine J_iconst (v := nI (0)) cx dX1_goesHour_23 (by decide) ?_
  refine J_istore_n2 cx dX1_goesHour_24 (by decide) rfl ?_
  have K25 : ∀ (nk9 k9 : Nat) (G8 : Mem) (z8 : Nat), nk9 + k9 = tn (g 2) → (isPy Ω A G8 a (c_dry (c_clk g) k9) (hrD (c_clk g) D k9) (hrC (c_clk g) D cp k9) row e9 ∧ sz ≤ z8 ∧ ∀ q, q < sz → ¬ A q → G8 q = G q) → J p l e ({ frames := 9, cells := 17, slots := hrS (c_clk g) D cp (tn (g 2)) + 5, locals := 181 } : Room) s m args below meth c Ω 4 (MQ below (jQ Ω (fun v G1 sz1 => v = none ∧ isPy Ω A G1 a (c_turns (c_h1 g) row) (hrD (c_clk g) D (tn (g 2))) (hrC (c_clk g) D cp (tn (g 2))) (c_trow (c_h1 g) row) e9 ∧ ∀ q, q < sz → ¬ A q → G1 q = G q)) args s 17 (hrS (c_clk g) D cp (tn (g 2)) + 5) (jB Ω)) k9 (hrS (c_clk g) D cp k9) z8 G8 25 [some (.ref a), some (.int ((c_clk g) (10 + tn ((c_clk g) 0) % 24))), some (.int (nI (k9))), none] [] := by
    intro nk9
    induction nk9 with
    | zero =>
      intro k9 G8 z8 hk9 hinv
      obtain ⟨hpy2, hz8, hfr2⟩ := hinv
      obtain ⟨B, pl, ol, ns, dr, sh, hall⟩ := hpy2.all
      obtain ⟨⟨hAa, hC⟩, hI, hP, hO, hR, hS, hX⟩ := id hall
      obtain ⟨mcp, hps, hA3, hA8, hg2, hp16, hPp, hdr⟩ := id hP
      obtain ⟨mco, hos, hA4, hA9, hg3, ho8, hond, hOo⟩ := id hO
      obtain ⟨sf, df, kf, nk, hIA, hse, hsf, hdry, hdf, hsk, hnk, hg1, hkf⟩ := id hI
      obtain ⟨mcr, hrw, hA5, hAns, hr16⟩ := id hR
      obtain ⟨hsh, hsa, hA6, hA7, hsk8⟩ := id hS
      have ebp := hX.2.2
      refine J_ltA (fun hlA9 => ?_)
      have hne9 : jNe Ω := cx.kw.ne
      have hal3 := hps.lt hlA9
      have hal4 := hos.lt hlA9
      have hbA := ebp _ hAa
      have hb0 := ebp _ hIA.1
      have hb1 := ebp _ hIA.2.1
      have hb2 := ebp _ hIA.2.2
      have hb3 := ebp _ hA3
      have hb4 := ebp _ hA4
      have hb5 := ebp _ hA5
      have hb6 := ebp _ hA6
      have hb7 := ebp _ hA7
      have hqa : jHide _ := hall.neO hC
      refine J_lt hC (fun hlt0 => ?_)
      refine J_lt hse (fun hlt1 => ?_)
      refine J_lt hdry (fun hlt2 => ?_)
      refine J_lt hsk (fun hlt3 => ?_)
      refine J_lt hsh (fun hlt6 => ?_)
      refine J_lt hsa (fun hlt7 => ?_)
      have hpl9 : pl.length = tn (g 2) := by rw [cdry_lo _ _ 2 (by omega), cclk_ne g (by omega)] at hg2; rw [hg2, tn_nI (by omega)]
      have hS0 := hrS_mono (c_clk g) D cp (k := k9) (n := tn (g 2)) (by omega)
      refine J_iload_n cx dX1_goesHour_25 rfl ?_
      refine J_aload_n cx dX1_goesHour_26 rfl ?_
      refine J_get cx in_X1 (ci := 1) rfl 3 (by decide) q253 (fun _ h => h) dX1_goesHour_27 hC rfl ?_
      refine J_al_size cx dX1_goesHour_30 q410 hps ⟨Nat.le_of_ble_eq_true rfl, Nat.le_of_ble_eq_true rfl⟩ (Nat.le_of_ble_eq_true rfl) ⟨by show _ ≤ (17 : Nat); omega, by show _ ≤ hrS (c_clk g) D cp (tn (g 2)) + 5; omega⟩ ?_
      refine J_icmpN_ge (tgt := 73) cx dX1_goesHour_33 (by decide) (by omega) (by omega) (fun c33 => ?_) (fun c33 => absurd c33 (by omega))
      refine J_aload_n cx dX1_goesHour_73 rfl ?_
      have hk8 : k9 = tn (g 2) := by omega
      subst hk8
      refine J_callV (n := 0) cx (ci := 1) [] (t_Py_turns l Ω a hpy2 hwh hok) dX1_goesHour_74 (lw_V q1334 q1336 qs11 q85 q1337) ⟨rfl, by decide, by decide, by decide +kernel⟩ rfl hC rfl rfl ⟨Nat.le_of_ble_eq_true rfl, Nat.le_of_ble_eq_true rfl⟩ rfl rfl (Nat.le_of_ble_eq_true rfl) ⟨by show _ ≤ (17 : Nat); omega, by show _ ≤ hrS (c_clk g) D cp (tn (g 2)) + 5; omega⟩ (fun v9 G9 z9 hp9 hle9 => ?_)
      obtain ⟨e1, hz7, hpy4, hfr4⟩ := hp9
      subst e1
      exact J_vret cx dX1_goesHour_77 hr ⟨rfl, hpy4, fun q h1 h2 => (hfr4 q (by omega) h2).trans (hfr2 q h1 h2)⟩ (by show _ ≤ (17 : Nat); omega) (by show _ ≤ hrS (c_clk g) D cp (tn (g 2)) + 5; omega)
    | succ nk9 ihk9 =>
      intro k9 G8 z8 hk9 hinv
      obtain ⟨hpy2, hz8, hfr2⟩ := hinv
      obtain ⟨B, pl, ol, ns, dr, sh, hall⟩ := hpy2.all
      obtain ⟨⟨hAa, hC⟩, hI, hP, hO, hR, hS, hX⟩ := id hall
      obtain ⟨mcp, hps, hA3, hA8, hg2, hp16, hPp, hdr⟩ := id hP
      obtain ⟨mco, hos, hA4, hA9, hg3, ho8, hond, hOo⟩ := id hO
      obtain ⟨sf, df, kf, nk, hIA, hse, hsf, hdry, hdf, hsk, hnk, hg1, hkf⟩ := id hI
      obtain ⟨mcr, hrw, hA5, hAns, hr16⟩ := id hR
      obtain ⟨hsh, hsa, hA6, hA7, hsk8⟩ := id hS
      have ebp := hX.2.2
      refine J_ltA (fun hlA9 => ?_)
      have hne9 : jNe Ω := cx.kw.ne
      have hal3 := hps.lt hlA9
      have hal4 := hos.lt hlA9
      have hbA := ebp _ hAa
      have hb0 := ebp _ hIA.1
      have hb1 := ebp _ hIA.2.1
      have hb2 := ebp _ hIA.2.2
      have hb3 := ebp _ hA3
      have hb4 := ebp _ hA4
      have hb5 := ebp _ hA5
      have hb6 := ebp _ hA6
      have hb7 := ebp _ hA7
      have hqa : jHide _ := hall.neO hC
      refine J_lt hC (fun hlt0 => ?_)
      refine J_lt hse (fun hlt1 => ?_)
      refine J_lt hdry (fun hlt2 => ?_)
      refine J_lt hsk (fun hlt3 => ?_)
      refine J_lt hsh (fun hlt6 => ?_)
      refine J_lt hsa (fun hlt7 => ?_)
      have hpl9 : pl.length = tn (g 2) := by rw [cdry_lo _ _ 2 (by omega), cclk_ne g (by omega)] at hg2; rw [hg2, tn_nI (by omega)]
      have hS0 := hrS_mono (c_clk g) D cp (k := k9) (n := tn (g 2)) (by omega)
      refine J_iload_n cx dX1_goesHour_25 rfl ?_
      refine J_aload_n cx dX1_goesHour_26 rfl ?_
      refine J_get cx in_X1 (ci := 1) rfl 3 (by decide) q253 (fun _ h => h) dX1_goesHour_27 hC rfl ?_
      refine J_al_size cx dX1_goesHour_30 q410 hps ⟨Nat.le_of_ble_eq_true rfl, Nat.le_of_ble_eq_true rfl⟩ (Nat.le_of_ble_eq_true rfl) ⟨by show _ ≤ (17 : Nat); omega, by show _ ≤ hrS (c_clk g) D cp (tn (g 2)) + 5; omega⟩ ?_
      refine J_icmpN_ge (tgt := 73) cx dX1_goesHour_33 (by decide) (by omega) (by omega) (fun c33 => absurd c33 (by omega)) (fun c33 => ?_)
      refine J_aload_n cx dX1_goesHour_36 rfl ?_
      refine J_get cx in_X1 (ci := 1) rfl 3 (by decide) q253 (fun _ h => h) dX1_goesHour_37 hC rfl ?_
      refine J_iload_n cx dX1_goesHour_40 rfl ?_
      obtain ⟨y7, hy7⟩ := jget (ns := pl) (i := k9) (by omega)
      obtain ⟨hAy7, hAd7, hjp7⟩ := hPp _ _ hy7
      obtain ⟨w7, f7, hc7, hn7, hw7, hwb7, hd7, hl7, hm7, hu7, he7, hf7, hv7⟩ := cdry_pot hjp7
      refine J_al_get cx dX1_goesHour_41 q413 hps hy7 ⟨Nat.le_of_ble_eq_true rfl, Nat.le_of_ble_eq_true rfl⟩ (Nat.le_of_ble_eq_true rfl) ⟨by show _ ≤ (17 : Nat); omega, by show _ ≤ hrS (c_clk g) D cp (tn (g 2)) + 5; omega⟩ ?_
      refine J_castS (q := (RX6, TX6, 12)) cx dX1_goesHour_44 q411 (ci := 5) rfl hc7 ?_
      refine J_astore_n3 cx dX1_goesHour_47 (by decide) rfl ?_
      refine J_aload_n cx dX1_goesHour_48 rfl ?_
      refine J_getN cx in_X6 (ci := 5) rfl 4 (by decide) q461 (fun _ h => h) dX1_goesHour_49 hc7 rfl ?_
      refine J_iconst (v := nI (2)) cx dX1_goesHour_52 (by decide) ?_
      refine J_icmp_ne (tgt := 67) cx dX1_goesHour_53 (by decide) (fun c53 => ?_) (fun c53 => ?_)
      · refine J_iinc2 (v := nI (k9 + 1)) cx dX1_goesHour_67 (nI_1 k9) (by decide) rfl ?_
        refine J_goto (tgt := 25) cx dX1_goesHour_70 (by decide) ?_
        refine J_sub (L1 := [some (.ref a), some (.int ((c_clk g) (10 + tn ((c_clk g) 0) % 24))), some (.int (nI (k9 + 1))), none]) (jsub_s (jsub_s (jsub_s (jsub_n jsub_0)))) ?_
        have hsk := dry_skip (g := c_clk g) (D := D) (cp := cp) c53
        refine J_widen (cells' := (k9 + 1)) (slots' := hrS (c_clk g) D cp (k9 + 1)) (by omega) (by simp only [hrS]; rw [if_neg c53]; exact Nat.le_refl _) ?_
        exact ihk9 (k9 + 1) _ _ (by omega) ⟨by rw [hsk.1, hsk.2.1, hsk.2.2]; exact hpy2, hz8, hfr2⟩
      · refine J_aload_n cx dX1_goesHour_56 rfl ?_
        refine J_iload_n cx dX1_goesHour_57 rfl ?_
        refine J_aload_n cx dX1_goesHour_58 rfl ?_
        refine J_get cx in_X1 (ci := 1) rfl 0 (by decide) q245 (fun _ h => h) dX1_goesHour_59 hC rfl ?_
        refine J_iconst (v := nI (4)) cx dX1_goesHour_62 (by decide) ?_
        refine J_iald cx dX1_goesHour_63 hse (by omega) (by omega) ?_
        refine J_top (.int ((c_clk g) 8)) (congrArg Value.int (by rw [hsf 4 (by omega), cdry_lo _ _ _ (by omega)])) ?_
        have hS1 : hrS (c_clk g) D cp k9 + mKeeps (D k9).length (cp k9) ≤ hrS (c_clk g) D cp (tn (g 2)) := by have h9 := hrS_mono (c_clk g) D cp (k := k9 + 1) (n := tn (g 2)) (by omega); simp only [hrS, if_pos c53] at h9; exact h9
        have hdo9 := hdo k9 (by omega) (by rw [← cclk_gP]; exact c53)
        refine J_callV (n := 2) cx (ci := 5) [.int ((c_clk g) (10 + tn ((c_clk g) 0) % 24)), .int ((c_clk g) 8)] (t_X6_dries l Ω y7 hc7 hd7 (ebp _ hAy7) (ebp _ hAd7) hl7 (by omega) hf7 ((c_clk g) (10 + tn ((c_clk g) 0) % 24)) ((c_clk g) 8) hdo9.1.1 hdo9.1.2.1 hdo9.1.2.2.1 hdo9.1.2.2.2) dX1_goesHour_64 (lw_V q1316 q1317 q1318 q96 q1319) ⟨rfl, by decide, by decide, by decide +kernel⟩ rfl hc7 rfl rfl ⟨Nat.le_of_ble_eq_true rfl, Nat.le_of_ble_eq_true rfl⟩ rfl rfl (Nat.le_of_ble_eq_true rfl) ⟨by show _ ≤ (17 : Nat); omega, by show _ ≤ hrS (c_clk g) D cp (tn (g 2)) + 5; omega⟩ (fun v9 G9 z9 hp9 hle9 => ?_)
        obtain ⟨e1, hE1, hE2, hE3, hE4⟩ := hp9
        subst e1
        refine J_iinc2 (v := nI (k9 + 1)) cx dX1_goesHour_67 (nI_1 k9) (by decide) rfl ?_
        refine J_goto (tgt := 25) cx dX1_goesHour_70 (by decide) ?_
        refine J_sub (L1 := [some (.ref a), some (.int ((c_clk g) (10 + tn ((c_clk g) 0) % 24))), some (.int (nI (k9 + 1))), none]) (jsub_s (jsub_s (jsub_s (jsub_n jsub_0)))) ?_
        have hst9 := dry_step hall hne9 hy7 c53 hair.clk (by omega) hlA9 (fun q hq => hA q (by omega)) hAd7 hc7 hn7 hw7 hwb7 hd7 hl7 hm7 he7 hf7 hv7 hE1 hE2 hE4
        refine J_widen (cells' := (k9 + 1)) (slots' := hrS (c_clk g) D cp (k9 + 1)) (Nat.le_refl _) (by simp only [hrS]; rw [if_pos c53]; exact Nat.le_refl _) ?_
        exact ihk9 (k9 + 1) _ _ (by omega) ⟨hst9, by omega, fun q h1 h2 => (hE4 q (by omega) (fun e => h2 (by rw [e]; exact hAy7)) (fun e => h2 (by rw [e]; exact hAd7))).trans (hfr2 q h1 h2)⟩
  refine J_sub (L1 := [some (.ref a), some (.int ((c_clk g) (10 + tn ((c_clk g) 0) % 24))), some (.int (nI (0))), none]) (jsub_s (jsub_s (jsub_s (jsub_n jsub_0)))) ?_
  have hpy0 : isPy Ω A (gset G a (.inr (1, [.ref (B 0), .ref (B 1), .ref (B 2), .ref (B 3), .ref (B 4), .ref (B 5), .ref (B 6), .int (nI (tn (g 0) + 1)), .int (g 38), .int (g 39), .int (g 40), .int (g 49), .int e9]))) a (c_clk g) D cp row e9 := (hall.own (fun q c hq h1 => (gset_ne h1).trans hq) (gset_eq.trans (by simp [pyE, c_clk, upd])) (fun i h1 h2 _ _ _ _ => cclk_ne g h2)).py
  exact K25 (tn (g 2)) 0 _ _ (by omega) ⟨by rw [cdry_0, hrD_0, hrC_0]; exact hpy0, Nat.le_refl _, fun q h1 h2 => gset_ne (fun e => h2 (by rw [e]; exact hAa))⟩
