/-! THE KILN 3 (gen/mk_z2.py): sells -/
set_option maxRecDepth 100000
set_option maxHeartbeats 2000000 in
theorem t_Py_sells (l : Launch) (Ω : jO) {G : Mem} {sz : Nat} {A : Nat → Prop} (a : Nat) {g : Nat → Int32} {D : Nat → List Int32} {cp : Nat → Nat} {row : List Nat} {e9 : Int32} (hpy : isPy Ω A G a g D cp row e9) (b9 : Nat) {wb9 m9 : Nat} (hbs : jBS Ω G b9 wb9 m9) (hmp : ∀ p, m9.testBit p = true → p < tn (g 2)) : Met l yX1_sells (ws_ yX1_sells cX1_sells 6 (some (.object "java/util/BitSet"))) ({ frames := 5, cells := 2, slots := 4, locals := 102 } : Room) (va_Pc [.ref a, .ref b9] (jWd Ω G sz)) (jQ Ω (fun v G1 sz1 => v = some (.ref sz) ∧ sz1 = sz + 1 + 1 ∧ (jBS Ω G1 sz (sz + 1) (slG m9 g e9 16).2.2 ∧ isPy Ω A G1 a (slG m9 g e9 16).1 D cp row (slG m9 g e9 16).2.1) ∧ ∀ q, q < sz → ¬ A q → G1 q = G q)) 2 4 (jB Ω) := by
  refine jMet (by decide) (Nat.le_of_ble_eq_true rfl) ?_
  intro p e s m args below meth c cx hr hnm
  refine J_loc [some (.ref a), some (.ref b9), none, none, none, none] rfl ?_
  obtain ⟨B, pl, ol, ns, dr, sh, hall⟩ := hpy.all
  obtain ⟨⟨hAa, hC⟩, hI, hP, hO, hR, hS, hX⟩ := id hall
  obtain ⟨mcp, hps, hA3, hA8, hg2, hp16, hPp, hdr⟩ := id hP
  obtain ⟨mco, hos, hA4, hA9, hg3, ho8, hond, hOo⟩ := id hO
  obtain ⟨sf, df, kf, nk, hIA, hse, hsf, hdry, hdf, hsk, hnk, hg1, hkf⟩ := id hI
  obtain ⟨mcr, hrw, hA5, hAns, hr16⟩ := id hR
  obtain ⟨hsh, hsa, hA6, hA7, hsk8⟩ := id hS
  have ebp := hX.2.2
  refine J_ltA (fun hlA9 => ?_)
  have hne9 : jNe Ω := cx.kw.ne
  have hal3 := hps.lt hlA9
  have hal4 := hos.lt hlA9
  have hbA := ebp _ hAa
  have hb0 := ebp _ hIA.1
  have hb1 := ebp _ hIA.2.1
  have hb2 := ebp _ hIA.2.2
  have hb3 := ebp _ hA3
  have hb4 := ebp _ hA4
  have hb5 := ebp _ hA5
  have hb6 := ebp _ hA6
  have hb7 := ebp _ hA7
  have hqa : jHide _ := hall.neO hC
  have hlA0 := hlA9
  have hbl : b9 < sz ∧ wb9 < sz := ⟨hlA9 _ _ hbs.1, by obtain ⟨f, h1, -⟩ := hbs.2.1; exact hlA9 _ _ h1⟩
  have ebp0 := ebp
  refine J_bs cx (fun hbs9 => ?_)
  refine J_lt hC (fun hlt0 => ?_)
  refine J_lt hse (fun hlt1 => ?_)
  refine J_lt hdry (fun hlt2 => ?_)
  refine J_lt hsk (fun hlt3 => ?_)
  refine J_lt hsh (fun hlt6 => ?_)
  refine J_lt hsa (fun hlt7 => ?_)
  refine J_new cx in_J34 tyJ34 tyJ34_ok q1772 q1773 q134 (ci := 35) rfl (fs := [.null, .int 0, .int 0]) (by decide +kernel) dX1_sells_0 (Nat.le_of_ble_eq_true rfl) (Nat.le_of_ble_eq_true rfl) ?_
  refine J_dup cx dX1_sells_3 rfl ?_
  refine J_callI (n := 0) cx [] (t_BS_init l Ω gset_eq (by omega)) dX1_sells_4 q1776 q134 q1774 q1775 rfl ⟨by decide, by decide, by decide +kernel⟩ rfl rfl ⟨Nat.le_of_ble_eq_true rfl, Nat.le_of_ble_eq_true rfl⟩ rfl rfl (Nat.le_of_ble_eq_true rfl) ⟨Nat.le_of_ble_eq_true rfl, Nat.le_of_ble_eq_true rfl⟩ (fun v9 G9 z9 hp9 _ => ?_)
  obtain ⟨e1, e2, hbS, hfr7⟩ := hp9
  subst e1; subst e2
  have hfr2 : ∀ q, q < sz → G9 q = G q := fun q hq => (hfr7 q (by omega) (by omega)).trans (gset_ne (by omega))
  have hbF : jBS Ω G9 b9 wb9 m9 := hbs.mono (fun q c hq _ => (hfr2 q (hlA0 q c hq)).trans hq)
  have hpyS : isPy Ω (fun q => A q ∧ q < sz) G9 a g D cp row e9 := (hpy.region (A' := (fun q => A q ∧ q < sz)) (fun q x hx h => ⟨h, hlA0 q x hx⟩) (fun q h => ebp q h.1)).mono (fun q c hq _ => (hfr2 q (hlA0 q c hq)).trans hq)
  refine J_astore_n2 cx dX1_sells_7 (by decide) rfl ?_
  refine J_aload_n cx dX1_sells_8 rfl ?_
  refine J_iconst (v := nI (0)) cx dX1_sells_9 (by decide) ?_
  refine J_callV (n := 1) cx (ci := 35) [.int (nI (0))] (t_BS_next l Ω hbF (k := 0) (by omega)) dX1_sells_10 (lw_V q1848 q1849 q1850 q134 q1851) ⟨rfl, by decide, by decide, by decide +kernel⟩ rfl hbF.1 rfl rfl ⟨Nat.le_of_ble_eq_true rfl, Nat.le_of_ble_eq_true rfl⟩ rfl rfl (Nat.le_of_ble_eq_true rfl) ⟨Nat.le_of_ble_eq_true rfl, Nat.le_of_ble_eq_true rfl⟩ (jdet ?_)
  refine J_istore_n3 cx dX1_sells_13 (by decide) rfl ?_
  have K14 : ∀ (nk9 k9 : Nat) (G8 : Mem) (z8 : Nat), nk9 + k9 = 16 → (isPy Ω (fun q => A q ∧ q < sz) G8 a (slG m9 g e9 k9).1 D cp row (slG m9 g e9 k9).2.1 ∧ jBS Ω G8 b9 wb9 m9 ∧ jBS Ω G8 sz (sz + 1) (slG m9 g e9 k9).2.2 ∧ z8 = sz + 1 + 1 ∧ ∀ q, q < sz → ¬ A q → G8 q = G q) → J p l e ({ frames := 5, cells := 2, slots := 4, locals := 102 } : Room) s m args below meth c Ω 6 (MQ below (jQ Ω (fun v G1 sz1 => v = some (.ref sz) ∧ sz1 = sz + 1 + 1 ∧ (jBS Ω G1 sz (sz + 1) (slG m9 g e9 16).2.2 ∧ isPy Ω A G1 a (slG m9 g e9 16).1 D cp row (slG m9 g e9 16).2.1) ∧ ∀ q, q < sz → ¬ A q → G1 q = G q)) args s 2 4 (jB Ω)) 2 4 z8 G8 14 [some (.ref a), some (.ref b9), some (.ref sz), some (.int (r_next m9 k9)), none, none] [] := by
    intro nk9
    induction nk9 using Nat.strongRecOn with
    | _ nk9 ihk9 =>
      intro k9 G8 z8 hk9 hinv
      obtain ⟨hpyS, hbF, hbS, rfl, hfr2⟩ := hinv
      obtain ⟨B, pl, ol, ns, dr, sh, hall⟩ := hpyS.all
      obtain ⟨⟨hAa, hC⟩, hI, hP, hO, hR, hS, hX⟩ := id hall
      obtain ⟨mcp, hps, hA3, hA8, hg2, hp16, hPp, hdr⟩ := id hP
      obtain ⟨mco, hos, hA4, hA9, hg3, ho8, hond, hOo⟩ := id hO
      obtain ⟨sf, df, kf, nk, hIA, hse, hsf, hdry, hdf, hsk, hnk, hg1, hkf⟩ := id hI
      obtain ⟨mcr, hrw, hA5, hAns, hr16⟩ := id hR
      obtain ⟨hsh, hsa, hA6, hA7, hsk8⟩ := id hS
      have ebp := hX.2.2
      refine J_ltA (fun hlA9 => ?_)
      have hne9 : jNe Ω := cx.kw.ne
      have hal3 := hps.lt hlA9
      have hal4 := hos.lt hlA9
      have hbA := ebp _ hAa
      have hb0 := ebp _ hIA.1
      have hb1 := ebp _ hIA.2.1
      have hb2 := ebp _ hIA.2.2
      have hb3 := ebp _ hA3
      have hb4 := ebp _ hA4
      have hb5 := ebp _ hA5
      have hb6 := ebp _ hA6
      have hb7 := ebp _ hA7
      have hqa : jHide _ := hall.neO hC
      refine J_lt hC (fun hlt0 => ?_)
      refine J_lt hse (fun hlt1 => ?_)
      refine J_lt hdry (fun hlt2 => ?_)
      refine J_lt hsk (fun hlt3 => ?_)
      refine J_lt hsh (fun hlt6 => ?_)
      refine J_lt hsa (fun hlt7 => ?_)
      have hpl9 : pl.length = tn (g 2) := by rw [slG_lo m9 g e9 (by omega)] at hg2; rw [hg2, tn_nI (by omega)]
      have hol9 : ol.length = tn (g 3) := by rw [slG_lo m9 g e9 (by omega)] at hg3; rw [hg3, tn_nI (by omega)]
      rcases nsb_spec m9 (16 - k9) k9 (by omega) with ⟨hb1, hb2, hb3, hb4⟩ | ⟨hb1, hb2⟩
      · obtain ⟨r9, hrr9⟩ : ∃ x, nsb m9 k9 (16 - k9) = x := ⟨_, rfl⟩
        rw [hrr9] at hb1 hb2 hb3 hb4
        have hrn : r_next m9 k9 = nI r9 := by simp only [r_next]; rw [hrr9, if_neg (by omega)]
        refine J_loc [some (.ref a), some (.ref b9), some (.ref sz), some (.int (nI (r9))), none, none] (by rw [hrn]) ?_
        have hrp : r9 < pl.length := by rw [hpl9]; exact hmp r9 hb3
        refine J_iload_n cx dX1_sells_14 rfl ?_
        refine J_if_lt (tgt := 135) cx dX1_sells_15 (by decide) (fun c15 => absurd c15 (fun q => absurd q (nI_pos (by omega)))) (fun c15 => ?_)
        refine J_aload_n cx dX1_sells_18 rfl ?_
        refine J_get cx in_X1 (ci := 1) rfl 3 (by decide) q253 (fun _ h => h) dX1_sells_19 hC rfl ?_
        refine J_iload_n cx dX1_sells_22 rfl ?_
        obtain ⟨y10, hy10⟩ := jget (ns := pl) (i := r9) (by omega)
        obtain ⟨hAy10, hAd10, w10, f10, hc10, hn10, hw10, hwb10, hd10, hl10, hm10, hu10, he10, hf10, hv10⟩ := hPp _ _ hy10
        have hq10 : jHide _ := hall.neP hne9 hc10 hd10 hw10
        have hz10 : y10 < (sz + 1 + 1) ∧ dr r9 < (sz + 1 + 1) ∧ w10 < (sz + 1 + 1) := ⟨hlA9 _ _ hc10, hlA9 _ _ hd10, hlA9 _ _ hw10⟩
        refine J_al_get cx dX1_sells_23 q413 hps hy10 ⟨Nat.le_of_ble_eq_true rfl, Nat.le_of_ble_eq_true rfl⟩ (Nat.le_of_ble_eq_true rfl) ⟨Nat.le_of_ble_eq_true rfl, Nat.le_of_ble_eq_true rfl⟩ ?_
        refine J_castS (q := (RX6, TX6, 12)) cx dX1_sells_26 q411 (ci := 5) rfl hc10 ?_
        refine J_astore4 cx dX1_sells_29 (by decide) rfl ?_
        refine J_aload cx dX1_sells_31 rfl ?_
        refine J_getN cx in_X6 (ci := 5) rfl 5 (by decide) q466 (fun _ h => h) dX1_sells_33 hc10 rfl ?_
        refine J_if_le (tgt := 43) cx dX1_sells_36 (by decide) (fun c36 => ?_) (fun c36 => ?_)
        · refine J_aload_n cx dX1_sells_43 rfl ?_
          refine J_aload cx dX1_sells_44 rfl ?_
          refine J_callV (n := 1) cx (ci := 1) [.ref y10] (t_X1_orderFor l Ω a hC y10 (P9 := potR r9 (gP (slG m9 g e9 k9).1 r9) w10 (dr r9) (D r9).length) hc10 hw10 hos (of9 := fun k => gO (slG m9 g e9 k9).1 k) (fun k y hy => (hOo k y hy).2) (by omega)) dX1_sells_46 (lw_V q1867 q1869 qs25 q85 q1870) ⟨rfl, by decide, by decide, by decide +kernel⟩ rfl hC rfl rfl ⟨Nat.le_of_ble_eq_true rfl, Nat.le_of_ble_eq_true rfl⟩ rfl rfl (Nat.le_of_ble_eq_true rfl) ⟨Nat.le_of_ble_eq_true rfl, Nat.le_of_ble_eq_true rfl⟩ (jdet ?_)
          refine J_top (.int (c_ordFor (slG m9 g e9 k9).1 r9)) (congrArg Value.int (by simp only [c_ordFor]; rw [slG_lo m9 g e9 (show 3 < 50 by omega), ← hol9])) ?_
          refine J_istore5 cx dX1_sells_49 (by decide) rfl ?_
          refine J_iload cx dX1_sells_51 rfl ?_
          refine J_iconst (v := -1) cx dX1_sells_53 (by decide) ?_
          refine J_icmp_ne (tgt := 60) cx dX1_sells_54 (by decide) (fun c54 => ?_) (fun c54 => ?_)
          · obtain ⟨o9, ho9, hoe⟩ : ∃ o9, o9 < ol.length ∧ c_ordFor (slG m9 g e9 k9).1 r9 = nI o9 := by
                rcases ordFor_spec (fun k => gO (slG m9 g e9 k9).1 k) (gP (slG m9 g e9 k9).1 r9 2) ((slG m9 g e9 k9).1 0) (gw (gP (slG m9 g e9 k9).1 r9 6) (gP (slG m9 g e9 k9).1 r9 7)) (tn ((slG m9 g e9 k9).1 3)) 0 with h | ⟨j, h1, h2, h3⟩
                · exact absurd h c54
                · rw [slG_lo m9 g e9 (show 3 < 50 by omega), ← hol9] at h2; exact ⟨j, by omega, h3⟩
            refine J_loc [some (.ref a), some (.ref b9), some (.ref sz), some (.int (nI (r9))), some (.ref y10), some (.int (nI (o9)))] (by rw [hoe]) ?_
            refine J_aload_n cx dX1_sells_60 rfl ?_
            refine J_get cx in_X1 (ci := 1) rfl 4 (by decide) q255 (fun _ h => h) dX1_sells_61 hC rfl ?_
            refine J_iload cx dX1_sells_64 rfl ?_
            obtain ⟨y11, hy11⟩ := jget (ns := ol) (i := o9) (by omega)
            obtain ⟨hAy11, hc11⟩ := hOo _ _ hy11
            have hq11 : jHide _ := hall.neO hc11
            refine J_al_get cx dX1_sells_66 q413 hos hy11 ⟨Nat.le_of_ble_eq_true rfl, Nat.le_of_ble_eq_true rfl⟩ (Nat.le_of_ble_eq_true rfl) ⟨Nat.le_of_ble_eq_true rfl, Nat.le_of_ble_eq_true rfl⟩ ?_
            refine J_castS (q := (RX9, TX9, 6)) cx dX1_sells_69 q609 (ci := 7) rfl hc11 ?_
            refine J_dup cx dX1_sells_72 rfl ?_
            refine J_getN cx in_X9 (ci := 7) rfl 5 (by decide) q630 (fun _ h => h) dX1_sells_73 hc11 rfl ?_
            refine J_iconst (v := nI (1)) cx dX1_sells_76 (by decide) ?_
            refine J_isub cx dX1_sells_77 ?_
            refine J_putN cx in_X9 tyX9 tyX9_ok nmX9 (ci := 7) rfl 5 (by decide) q630 (fun _ h => h) rfl (ty := .int) (by decide +kernel) dX1_sells_78 rfl rfl hc11 (Nat.le_of_ble_eq_true rfl) (by have := ebp _ hAy11; omega) ?_
            refine J_mem (gset G8 y11 (.inr (7, [.int (gO (slG m9 g e9 k9).1 o9 0), .int (gO (slG m9 g e9 k9).1 o9 1), .int (gO (slG m9 g e9 k9).1 o9 2), .int (gO (slG m9 g e9 k9).1 o9 3), .int (gO (slG m9 g e9 k9).1 o9 4), .int ((gO (slG m9 g e9 k9).1 o9 5) - (nI (1)))]))) rfl ?_
            refine J_aload_n cx dX1_sells_81 rfl ?_
            refine J_dup cx dX1_sells_82 rfl ?_
            refine J_get cx in_X1 (ci := 1) rfl 12 (by decide) q270 (fun _ h => h) dX1_sells_83 ((gset_ne (hq11.get.1 (by decide))).trans hC) rfl ?_
            refine J_aload_n cx dX1_sells_86 rfl ?_
            refine J_get cx in_X1 (ci := 1) rfl 4 (by decide) q255 (fun _ h => h) dX1_sells_87 ((gset_ne (hq11.get.1 (by decide))).trans hC) rfl ?_
            refine J_iload cx dX1_sells_90 rfl ?_
            refine J_al_get cx dX1_sells_92 q413 (hos.put2 (hq11.get.2.2.1 (by decide)).2 hq11.get.2.2.2.2.1) hy11 ⟨Nat.le_of_ble_eq_true rfl, Nat.le_of_ble_eq_true rfl⟩ (Nat.le_of_ble_eq_true rfl) ⟨Nat.le_of_ble_eq_true rfl, Nat.le_of_ble_eq_true rfl⟩ ?_
            refine J_castS (q := (RX9, TX9, 6)) cx dX1_sells_95 q609 (ci := 7) rfl gset_eq ?_
            refine J_getN cx in_X9 (ci := 7) rfl 4 (by decide) q627 (fun _ h => h) dX1_sells_98 gset_eq rfl ?_
            refine J_iadd cx dX1_sells_101 ?_
            refine J_put cx in_X1 tyX1 tyX1_ok nmX1 (ci := 1) rfl 12 (by decide) q270 (fun _ h => h) rfl (ty := .int) (by decide +kernel) dX1_sells_102 rfl rfl ((gset_ne (hq11.get.1 (by decide))).trans hC) (Nat.le_of_ble_eq_true rfl) (by omega) ?_
            refine J_mem (gset (gset G8 y11 (.inr (7, [.int (gO (slG m9 g e9 k9).1 o9 0), .int (gO (slG m9 g e9 k9).1 o9 1), .int (gO (slG m9 g e9 k9).1 o9 2), .int (gO (slG m9 g e9 k9).1 o9 3), .int (gO (slG m9 g e9 k9).1 o9 4), .int ((gO (slG m9 g e9 k9).1 o9 5) - (nI (1)))]))) a (.inr (1, [.ref (B 0), .ref (B 1), .ref (B 2), .ref (B 3), .ref (B 4), .ref (B 5), .ref (B 6), .int ((slG m9 g e9 k9).1 0), .int ((slG m9 g e9 k9).1 38), .int ((slG m9 g e9 k9).1 39), .int ((slG m9 g e9 k9).1 40), .int ((slG m9 g e9 k9).1 49), .int (((slG m9 g e9 k9).2.1) + (gO (slG m9 g e9 k9).1 o9 4))]))) rfl ?_
            refine J_aload cx dX1_sells_105 rfl ?_
            refine J_iload cx dX1_sells_107 rfl ?_
            refine J_putN cx in_X6 tyX6 tyX6_ok nmX6 (ci := 5) rfl 9 (by decide) q478 (fun _ h => h) rfl (ty := .int) (by decide +kernel) dX1_sells_109 rfl rfl ((gset_ne (Ne.symm hq10.get.1.1)).trans ((gset_ne (jneC hc10 hc11 (by simp))).trans hc10)) (Nat.le_of_ble_eq_true rfl) (by have := ebp _ hAy10; omega) ?_
            refine J_mem (gset (gset (gset G8 y11 (.inr (7, [.int (gO (slG m9 g e9 k9).1 o9 0), .int (gO (slG m9 g e9 k9).1 o9 1), .int (gO (slG m9 g e9 k9).1 o9 2), .int (gO (slG m9 g e9 k9).1 o9 3), .int (gO (slG m9 g e9 k9).1 o9 4), .int ((gO (slG m9 g e9 k9).1 o9 5) - (nI (1)))]))) a (.inr (1, [.ref (B 0), .ref (B 1), .ref (B 2), .ref (B 3), .ref (B 4), .ref (B 5), .ref (B 6), .int ((slG m9 g e9 k9).1 0), .int ((slG m9 g e9 k9).1 38), .int ((slG m9 g e9 k9).1 39), .int ((slG m9 g e9 k9).1 40), .int ((slG m9 g e9 k9).1 49), .int (((slG m9 g e9 k9).2.1) + (gO (slG m9 g e9 k9).1 o9 4))]))) y10 (.inr (5, [.int (nI (r9)), .int (gP (slG m9 g e9 k9).1 r9 1), .int (gP (slG m9 g e9 k9).1 r9 2), .int (gP (slG m9 g e9 k9).1 r9 3), .int (gP (slG m9 g e9 k9).1 r9 0), .int (gP (slG m9 g e9 k9).1 r9 4), .int (gP (slG m9 g e9 k9).1 r9 5), .float ((gP (slG m9 g e9 k9).1 r9 11).toUInt32), .ref w10, .int (nI (o9)), .ref (dr r9), .int (nI ((D r9).length))]))) rfl ?_
            refine J_aload cx dX1_sells_112 rfl ?_
            refine J_bipush (v := nI (6)) cx dX1_sells_114 (by decide) ?_
            refine J_putN cx in_X6 tyX6 tyX6_ok nmX6 (ci := 5) rfl 4 (by decide) q461 (fun _ h => h) rfl (ty := .int) (by decide +kernel) dX1_sells_116 rfl rfl gset_eq (Nat.le_of_ble_eq_true rfl) (by have := ebp _ hAy10; omega) ?_
            refine J_mem (gset (gset (gset G8 y11 (.inr (7, [.int (gO (slG m9 g e9 k9).1 o9 0), .int (gO (slG m9 g e9 k9).1 o9 1), .int (gO (slG m9 g e9 k9).1 o9 2), .int (gO (slG m9 g e9 k9).1 o9 3), .int (gO (slG m9 g e9 k9).1 o9 4), .int ((gO (slG m9 g e9 k9).1 o9 5) - (nI (1)))]))) a (.inr (1, [.ref (B 0), .ref (B 1), .ref (B 2), .ref (B 3), .ref (B 4), .ref (B 5), .ref (B 6), .int ((slG m9 g e9 k9).1 0), .int ((slG m9 g e9 k9).1 38), .int ((slG m9 g e9 k9).1 39), .int ((slG m9 g e9 k9).1 40), .int ((slG m9 g e9 k9).1 49), .int (((slG m9 g e9 k9).2.1) + (gO (slG m9 g e9 k9).1 o9 4))]))) y10 (.inr (5, [.int (nI (r9)), .int (gP (slG m9 g e9 k9).1 r9 1), .int (gP (slG m9 g e9 k9).1 r9 2), .int (gP (slG m9 g e9 k9).1 r9 3), .int (nI (6)), .int (gP (slG m9 g e9 k9).1 r9 4), .int (gP (slG m9 g e9 k9).1 r9 5), .float ((gP (slG m9 g e9 k9).1 r9 11).toUInt32), .ref w10, .int (nI (o9)), .ref (dr r9), .int (nI ((D r9).length))]))) gset_gset ?_
            refine J_aload_n cx dX1_sells_119 rfl ?_
            refine J_iload_n cx dX1_sells_120 rfl ?_
            refine J_callV (n := 1) cx (ci := 35) [.int (nI (r9))] (t_BS_set l Ω (((hbS.put (hc11) (by simp) (by simp)).put ((gset_ne (hq11.get.1 (by decide))).trans (hC)) (by simp) (by simp)).put ((gset_ne (Ne.symm hq10.get.1.1)).trans ((gset_ne (jneC hc10 hc11 (by simp))).trans (hc10))) (by simp) (by simp)) (k := r9) (by omega)) dX1_sells_121 (lw_V q1807 q1808 q1809 q134 q1810) ⟨rfl, by decide, by decide, by decide +kernel⟩ rfl (((hbS.put (hc11) (by simp) (by simp)).put ((gset_ne (hq11.get.1 (by decide))).trans (hC)) (by simp) (by simp)).put ((gset_ne (Ne.symm hq10.get.1.1)).trans ((gset_ne (jneC hc10 hc11 (by simp))).trans (hc10))) (by simp) (by simp)).1 rfl rfl ⟨Nat.le_of_ble_eq_true rfl, Nat.le_of_ble_eq_true rfl⟩ rfl rfl (Nat.le_of_ble_eq_true rfl) ⟨Nat.le_of_ble_eq_true rfl, Nat.le_of_ble_eq_true rfl⟩ (fun v9 G9 z9 hp9 _ => ?_)
            obtain ⟨e1, e2, hbS7, hfr7⟩ := hp9
            subst e1; subst e2
            have hso : slG m9 g e9 r9 = slG m9 g e9 k9 := slG_skip m9 g e9 hb2 hb4
            have hfu : tn (c_ordFor (slG m9 g e9 k9).1 r9) = o9 := by rw [hoe, tn_nI (by omega)]
            have hsl : slG m9 g e9 (r9 + 1) = (c_sell (slG m9 g e9 k9).1 r9 o9, (slG m9 g e9 k9).2.1 + gO (slG m9 g e9 k9).1 o9 4, (slG m9 g e9 k9).2.2 ||| 2 ^ r9) := by simp only [slG]; rw [hso, if_pos hb3, if_pos c36, if_neg c54, hfu]
            have h1 : pyAll Ω (fun q => A q ∧ q < sz) (gset G8 y11 (.inr (7, [.int (gO (slG m9 g e9 k9).1 o9 0), .int (gO (slG m9 g e9 k9).1 o9 1), .int (gO (slG m9 g e9 k9).1 o9 2), .int (gO (slG m9 g e9 k9).1 o9 3), .int (gO (slG m9 g e9 k9).1 o9 4), .int ((gO (slG m9 g e9 k9).1 o9 5) - (nI (1)))]))) a (upd (slG m9 g e9 k9).1 (258 + 6 * o9 + 5) ((slG m9 g e9 k9).1 (258 + 6 * o9 + 5) - nI (1))) D cp row (slG m9 g e9 k9).2.1 B pl ol ns dr sh := hall.order hy11 (fun q c hq h1 => (gset_ne h1).trans hq) (gset_eq.trans (by simp [ordE, gO, upd])) (fun i h1 h2 => by simp only [upd]; rw [if_neg (by omega)])
            have h2 : pyAll Ω (fun q => A q ∧ q < sz) (gset (gset G8 y11 (.inr (7, [.int (gO (slG m9 g e9 k9).1 o9 0), .int (gO (slG m9 g e9 k9).1 o9 1), .int (gO (slG m9 g e9 k9).1 o9 2), .int (gO (slG m9 g e9 k9).1 o9 3), .int (gO (slG m9 g e9 k9).1 o9 4), .int ((gO (slG m9 g e9 k9).1 o9 5) - (nI (1)))]))) a (.inr (1, [.ref (B 0), .ref (B 1), .ref (B 2), .ref (B 3), .ref (B 4), .ref (B 5), .ref (B 6), .int ((slG m9 g e9 k9).1 0), .int ((slG m9 g e9 k9).1 38), .int ((slG m9 g e9 k9).1 39), .int ((slG m9 g e9 k9).1 40), .int ((slG m9 g e9 k9).1 49), .int (((slG m9 g e9 k9).2.1) + (gO (slG m9 g e9 k9).1 o9 4))]))) a (upd (slG m9 g e9 k9).1 (258 + 6 * o9 + 5) ((slG m9 g e9 k9).1 (258 + 6 * o9 + 5) - nI (1))) D cp row ((slG m9 g e9 k9).2.1 + gO (slG m9 g e9 k9).1 o9 4) B pl ol ns dr sh := h1.own (fun q c hq h1 => (gset_ne h1).trans hq) (gset_eq.trans (by rw [pyE_congr (g := (slG m9 g e9 k9).1) (by simp only [upd]; rw [if_neg (by omega)]) (by simp only [upd]; rw [if_neg (by omega)]) (by simp only [upd]; rw [if_neg (by omega)]) (by simp only [upd]; rw [if_neg (by omega)]) (by simp only [upd]; rw [if_neg (by omega)])])) (fun i _ _ _ _ _ _ => rfl)
            have hjp : jPot Ω (gset (gset (gset G8 y11 (.inr (7, [.int (gO (slG m9 g e9 k9).1 o9 0), .int (gO (slG m9 g e9 k9).1 o9 1), .int (gO (slG m9 g e9 k9).1 o9 2), .int (gO (slG m9 g e9 k9).1 o9 3), .int (gO (slG m9 g e9 k9).1 o9 4), .int ((gO (slG m9 g e9 k9).1 o9 5) - (nI (1)))]))) a (.inr (1, [.ref (B 0), .ref (B 1), .ref (B 2), .ref (B 3), .ref (B 4), .ref (B 5), .ref (B 6), .int ((slG m9 g e9 k9).1 0), .int ((slG m9 g e9 k9).1 38), .int ((slG m9 g e9 k9).1 39), .int ((slG m9 g e9 k9).1 40), .int ((slG m9 g e9 k9).1 49), .int (((slG m9 g e9 k9).2.1) + (gO (slG m9 g e9 k9).1 o9 4))]))) y10 (.inr (5, [.int (nI (r9)), .int (gP (slG m9 g e9 k9).1 r9 1), .int (gP (slG m9 g e9 k9).1 r9 2), .int (gP (slG m9 g e9 k9).1 r9 3), .int (nI (6)), .int (gP (slG m9 g e9 k9).1 r9 4), .int (gP (slG m9 g e9 k9).1 r9 5), .float ((gP (slG m9 g e9 k9).1 r9 11).toUInt32), .ref w10, .int (nI (o9)), .ref (dr r9), .int (nI ((D r9).length))]))) y10 r9 (upd (upd (gP (slG m9 g e9 k9).1 r9) 10 (nI o9)) 0 (nI 6)) (D r9) (dr r9) (cp r9) := ⟨w10, f10, gset_eq.trans (by simp [potC, upd]), by simp [upd, hn10], (gset_ne (Ne.symm hq10.get.2.2.2.1)).trans ((gset_ne (Ne.symm hq10.get.2.2.2.2.2)).trans ((gset_ne (wE_neO hw10 hc11 (by decide) (by decide))).trans (by simpa [upd] using hw10))), hwb10, (gset_ne (Ne.symm hq10.get.2.2.1)).trans ((gset_ne (Ne.symm hq10.get.2.1.1)).trans ((gset_ne (jneC hd10 hc11 (by simp))).trans (hd10))), hl10, hm10, hu10, he10, hf10, by simpa [upd] using hv10⟩
            have h3 : isPy Ω (fun q => A q ∧ q < sz) (gset (gset (gset G8 y11 (.inr (7, [.int (gO (slG m9 g e9 k9).1 o9 0), .int (gO (slG m9 g e9 k9).1 o9 1), .int (gO (slG m9 g e9 k9).1 o9 2), .int (gO (slG m9 g e9 k9).1 o9 3), .int (gO (slG m9 g e9 k9).1 o9 4), .int ((gO (slG m9 g e9 k9).1 o9 5) - (nI (1)))]))) a (.inr (1, [.ref (B 0), .ref (B 1), .ref (B 2), .ref (B 3), .ref (B 4), .ref (B 5), .ref (B 6), .int ((slG m9 g e9 k9).1 0), .int ((slG m9 g e9 k9).1 38), .int ((slG m9 g e9 k9).1 39), .int ((slG m9 g e9 k9).1 40), .int ((slG m9 g e9 k9).1 49), .int (((slG m9 g e9 k9).2.1) + (gO (slG m9 g e9 k9).1 o9 4))]))) y10 (.inr (5, [.int (nI (r9)), .int (gP (slG m9 g e9 k9).1 r9 1), .int (gP (slG m9 g e9 k9).1 r9 2), .int (gP (slG m9 g e9 k9).1 r9 3), .int (nI (6)), .int (gP (slG m9 g e9 k9).1 r9 4), .int (gP (slG m9 g e9 k9).1 r9 5), .float ((gP (slG m9 g e9 k9).1 r9 11).toUInt32), .ref w10, .int (nI (o9)), .ref (dr r9), .int (nI ((D r9).length))]))) a (c_sell (slG m9 g e9 k9).1 r9 o9) D cp row ((slG m9 g e9 k9).2.1 + gO (slG m9 g e9 k9).1 o9 4) := h2.pot hne9 hy10 (fun q c hq h1 h2 => (gset_ne h1).trans hq) (hjp.congr (fun i hi _ => by simp only [gP, c_sell, upd]; by_cases h0 : i = 0 <;> by_cases h10 : i = 10 <;> simp [h0, h10] <;> omega)) hAd10 (Or.inl rfl) (fun i h1 h2 => by simp only [c_sell, upd]; rw [if_neg (by omega), if_neg (by omega)]) (fun k _ => ⟨rfl, rfl⟩)
            have hbS3 : jBS Ω (gset (gset (gset G8 y11 (.inr (7, [.int (gO (slG m9 g e9 k9).1 o9 0), .int (gO (slG m9 g e9 k9).1 o9 1), .int (gO (slG m9 g e9 k9).1 o9 2), .int (gO (slG m9 g e9 k9).1 o9 3), .int (gO (slG m9 g e9 k9).1 o9 4), .int ((gO (slG m9 g e9 k9).1 o9 5) - (nI (1)))]))) a (.inr (1, [.ref (B 0), .ref (B 1), .ref (B 2), .ref (B 3), .ref (B 4), .ref (B 5), .ref (B 6), .int ((slG m9 g e9 k9).1 0), .int ((slG m9 g e9 k9).1 38), .int ((slG m9 g e9 k9).1 39), .int ((slG m9 g e9 k9).1 40), .int ((slG m9 g e9 k9).1 49), .int (((slG m9 g e9 k9).2.1) + (gO (slG m9 g e9 k9).1 o9 4))]))) y10 (.inr (5, [.int (nI (r9)), .int (gP (slG m9 g e9 k9).1 r9 1), .int (gP (slG m9 g e9 k9).1 r9 2), .int (gP (slG m9 g e9 k9).1 r9 3), .int (nI (6)), .int (gP (slG m9 g e9 k9).1 r9 4), .int (gP (slG m9 g e9 k9).1 r9 5), .float ((gP (slG m9 g e9 k9).1 r9 11).toUInt32), .ref w10, .int (nI (o9)), .ref (dr r9), .int (nI ((D r9).length))]))) sz (sz + 1) (slG m9 g e9 k9).2.2 := (((hbS.put (hc11) (by simp) (by simp)).put ((gset_ne (hq11.get.1 (by decide))).trans (hC)) (by simp) (by simp)).put ((gset_ne (Ne.symm hq10.get.1.1)).trans ((gset_ne (jneC hc10 hc11 (by simp))).trans (hc10))) (by simp) (by simp))
            have hpy7 : isPy Ω (fun q => A q ∧ q < sz) G9 a (slG m9 g e9 (r9 + 1)).1 D cp row (slG m9 g e9 (r9 + 1)).2.1 := by rw [hsl]; exact h3.bs hbS3 (fun q hq => ⟨by have := hq.2; omega, by have := hq.2; omega⟩) hfr7
            have hbF6 : jBS Ω (gset (gset (gset G8 y11 (.inr (7, [.int (gO (slG m9 g e9 k9).1 o9 0), .int (gO (slG m9 g e9 k9).1 o9 1), .int (gO (slG m9 g e9 k9).1 o9 2), .int (gO (slG m9 g e9 k9).1 o9 3), .int (gO (slG m9 g e9 k9).1 o9 4), .int ((gO (slG m9 g e9 k9).1 o9 5) - (nI (1)))]))) a (.inr (1, [.ref (B 0), .ref (B 1), .ref (B 2), .ref (B 3), .ref (B 4), .ref (B 5), .ref (B 6), .int ((slG m9 g e9 k9).1 0), .int ((slG m9 g e9 k9).1 38), .int ((slG m9 g e9 k9).1 39), .int ((slG m9 g e9 k9).1 40), .int ((slG m9 g e9 k9).1 49), .int (((slG m9 g e9 k9).2.1) + (gO (slG m9 g e9 k9).1 o9 4))]))) y10 (.inr (5, [.int (nI (r9)), .int (gP (slG m9 g e9 k9).1 r9 1), .int (gP (slG m9 g e9 k9).1 r9 2), .int (gP (slG m9 g e9 k9).1 r9 3), .int (nI (6)), .int (gP (slG m9 g e9 k9).1 r9 4), .int (gP (slG m9 g e9 k9).1 r9 5), .float ((gP (slG m9 g e9 k9).1 r9 11).toUInt32), .ref w10, .int (nI (o9)), .ref (dr r9), .int (nI ((D r9).length))]))) b9 wb9 m9 := (((hbF.put (hc11) (by simp) (by simp)).put ((gset_ne (hq11.get.1 (by decide))).trans (hC)) (by simp) (by simp)).put ((gset_ne (Ne.symm hq10.get.1.1)).trans ((gset_ne (jneC hc10 hc11 (by simp))).trans (hc10))) (by simp) (by simp))
            have hbF7 : jBS Ω G9 b9 wb9 m9 := hbF6.bs (b := sz) (wb := sz + 1) ⟨by omega, by omega, by omega, by omega⟩ hfr7
            have hfr9 : ∀ q, q < sz → ¬ A q → G9 q = G q := fun q h1 h2 => (hfr7 q (by omega) (by omega)).trans ((gset_ne (fun e => h2 (by rw [e]; exact hAy10.1))).trans ((gset_ne (fun e => h2 (by rw [e]; exact hAa.1))).trans ((gset_ne (fun e => h2 (by rw [e]; exact hAy11.1))).trans (hfr2 q h1 h2))))
            refine J_aload_n cx dX1_sells_124 rfl ?_
            refine J_iload_n cx dX1_sells_125 rfl ?_
            refine J_iconst (v := nI (1)) cx dX1_sells_126 (by decide) ?_
            refine J_iaddN cx dX1_sells_127 ?_
            refine J_callV (n := 1) cx (ci := 35) [.int (nI (r9 + 1))] (t_BS_next l Ω hbF7 (k := r9 + 1) (by omega)) dX1_sells_128 (lw_V q1848 q1849 q1850 q134 q1851) ⟨rfl, by decide, by decide, by decide +kernel⟩ rfl hbF7.1 rfl rfl ⟨Nat.le_of_ble_eq_true rfl, Nat.le_of_ble_eq_true rfl⟩ rfl rfl (Nat.le_of_ble_eq_true rfl) ⟨Nat.le_of_ble_eq_true rfl, Nat.le_of_ble_eq_true rfl⟩ (jdet ?_)
            refine J_istore_n3 cx dX1_sells_131 (by decide) rfl ?_
            refine J_goto (tgt := 14) cx dX1_sells_132 (by decide) ?_
            refine J_sub (L1 := [some (.ref a), some (.ref b9), some (.ref sz), some (.int (r_next m9 (r9 + 1))), none, none]) (jsub_s (jsub_s (jsub_s (jsub_s (jsub_n (jsub_n jsub_0)))))) ?_
            exact ihk9 (16 - (r9 + 1)) (by omega) (r9 + 1) _ _ (by omega) ⟨hpy7, hbF7, by rw [hsl]; exact hbS7, rfl, hfr9⟩
          · refine J_goto (tgt := 124) cx dX1_sells_57 (by decide) ?_
            refine J_aload_n cx dX1_sells_124 rfl ?_
            refine J_iload_n cx dX1_sells_125 rfl ?_
            refine J_iconst (v := nI (1)) cx dX1_sells_126 (by decide) ?_
            refine J_iaddN cx dX1_sells_127 ?_
            refine J_callV (n := 1) cx (ci := 35) [.int (nI (r9 + 1))] (t_BS_next l Ω hbF (k := r9 + 1) (by omega)) dX1_sells_128 (lw_V q1848 q1849 q1850 q134 q1851) ⟨rfl, by decide, by decide, by decide +kernel⟩ rfl hbF.1 rfl rfl ⟨Nat.le_of_ble_eq_true rfl, Nat.le_of_ble_eq_true rfl⟩ rfl rfl (Nat.le_of_ble_eq_true rfl) ⟨Nat.le_of_ble_eq_true rfl, Nat.le_of_ble_eq_true rfl⟩ (jdet ?_)
            refine J_istore_n3 cx dX1_sells_131 (by decide) rfl ?_
            refine J_goto (tgt := 14) cx dX1_sells_132 (by decide) ?_
            refine J_sub (L1 := [some (.ref a), some (.ref b9), some (.ref sz), some (.int (r_next m9 (r9 + 1))), none, none]) (jsub_s (jsub_s (jsub_s (jsub_s (jsub_n (jsub_n jsub_0)))))) ?_
            have hso : slG m9 g e9 r9 = slG m9 g e9 k9 := slG_skip m9 g e9 hb2 hb4
            have hsl : slG m9 g e9 (r9 + 1) = slG m9 g e9 k9 := by simp only [slG]; rw [hso, if_pos hb3, if_pos c36, if_pos c54]
            exact ihk9 (16 - (r9 + 1)) (by omega) (r9 + 1) _ _ (by omega) ⟨by rw [hsl]; exact hpyS, hbF, by rw [hsl]; exact hbS, rfl, hfr2⟩
        · refine J_iconst (v := -1) cx dX1_sells_39 (by decide) ?_
          refine J_goto (tgt := 49) cx dX1_sells_40 (by decide) ?_
          refine J_istore5 cx dX1_sells_49 (by decide) rfl ?_
          refine J_iload cx dX1_sells_51 rfl ?_
          refine J_iconst (v := -1) cx dX1_sells_53 (by decide) ?_
          refine J_icmp_ne (tgt := 60) cx dX1_sells_54 (by decide) (fun c54 => absurd c54 (fun q => q rfl)) (fun c54 => ?_)
          refine J_goto (tgt := 124) cx dX1_sells_57 (by decide) ?_
          refine J_aload_n cx dX1_sells_124 rfl ?_
          refine J_iload_n cx dX1_sells_125 rfl ?_
          refine J_iconst (v := nI (1)) cx dX1_sells_126 (by decide) ?_
          refine J_iaddN cx dX1_sells_127 ?_
          refine J_callV (n := 1) cx (ci := 35) [.int (nI (r9 + 1))] (t_BS_next l Ω hbF (k := r9 + 1) (by omega)) dX1_sells_128 (lw_V q1848 q1849 q1850 q134 q1851) ⟨rfl, by decide, by decide, by decide +kernel⟩ rfl hbF.1 rfl rfl ⟨Nat.le_of_ble_eq_true rfl, Nat.le_of_ble_eq_true rfl⟩ rfl rfl (Nat.le_of_ble_eq_true rfl) ⟨Nat.le_of_ble_eq_true rfl, Nat.le_of_ble_eq_true rfl⟩ (jdet ?_)
          refine J_istore_n3 cx dX1_sells_131 (by decide) rfl ?_
          refine J_goto (tgt := 14) cx dX1_sells_132 (by decide) ?_
          refine J_sub (L1 := [some (.ref a), some (.ref b9), some (.ref sz), some (.int (r_next m9 (r9 + 1))), none, none]) (jsub_s (jsub_s (jsub_s (jsub_s (jsub_n (jsub_n jsub_0)))))) ?_
          have hso : slG m9 g e9 r9 = slG m9 g e9 k9 := slG_skip m9 g e9 hb2 hb4
          have hsl : slG m9 g e9 (r9 + 1) = slG m9 g e9 k9 := by simp only [slG]; rw [hso, if_pos hb3, if_neg c36]
          exact ihk9 (16 - (r9 + 1)) (by omega) (r9 + 1) _ _ (by omega) ⟨by rw [hsl]; exact hpyS, hbF, by rw [hsl]; exact hbS, rfl, hfr2⟩
      · have hrn : r_next m9 k9 = -1 := by simp only [r_next]; rw [if_pos hb1]
        refine J_loc [some (.ref a), some (.ref b9), some (.ref sz), some (.int (-1)), none, none] (by rw [hrn]) ?_
        refine J_iload_n cx dX1_sells_14 rfl ?_
        refine J_if_lt (tgt := 135) cx dX1_sells_15 (by decide) (fun c15 => ?_) (fun c15 => absurd c15 (by decide))
        refine J_aload_n cx dX1_sells_135 rfl ?_
        exact J_aret cx dX1_sells_136 hr (Or.inl ⟨_, rfl⟩) (Or.inr ⟨_, rfl⟩) ⟨rfl, rfl, by have h9 := (slG_skip m9 g e9 (k := k9) (r := 16) (by omega) (fun j h1 h2 => hb2 j h1 h2)); rw [h9]; exact ⟨hbS, hpyS.region (fun q x _ h => h.1) (fun q h => ebp0 q h)⟩, hfr2⟩ (Nat.le_of_ble_eq_true rfl) (Nat.le_of_ble_eq_true rfl)
  refine J_sub (L1 := [some (.ref a), some (.ref b9), some (.ref sz), some (.int (r_next m9 0)), none, none]) (jsub_s (jsub_s (jsub_s (jsub_s (jsub_n (jsub_n jsub_0)))))) ?_
  exact K14 16 0 _ _ (by omega) ⟨hpyS, hbF, hbS, rfl, fun q h1 _ => hfr2 q h1⟩
