/-! POTTERY 14 (gen/mk_z7.py): places -/
set_option maxRecDepth 100000
theorem gl_ne16 : ∀ k : Nat, k < 16 → ¬ nI k = -1 := by decide +kernel
theorem c_place_8 (g : Nat → Int32) (p k : Nat) (hk : k < 8) (i : Nat) (h1 : ¬ (41 ≤ i ∧ i ≤ 48)) (h2 : i ≠ 50 + 13 * p + 8) : c_place g p k i = g i := by
  simp only [c_place, upd]
  rw [if_neg (by omega), if_neg h2]
theorem c_place_s (g : Nat → Int32) (p k j : Nat) (hk : k < 8) (hj : j < 8) : c_place g p k (41 + j) = if j = k then nI p else g (41 + j) := by
  simp only [c_place, upd]
  by_cases h : j = k
  · rw [if_pos h, if_pos (by omega)]
  · rw [if_neg h, if_neg (by omega), if_neg (by omega)]
set_option maxHeartbeats 1000000 in
theorem t_Py_places (l : Launch) (Ω : jO) {G : Mem} {sz : Nat} {A : Nat → Prop} (a : Nat) {g : Nat → Int32} {D : Nat → List Int32} {cp : Nat → Nat} {row : List Nat} {e9 : Int32} (hpy : isPy Ω A G a g D cp row e9) (p9 k9 : Nat) (hpi : p9 < tn (g 2)) (hk8 : k9 < 8) (hl : l.stackTraces = false) : vx_Met l yX1_places (ws_ yX1_places cX1_places 5 (some .int)) ({ frames := 9, cells := 7, slots := 58, locals := 10300 } : Room) (va_Pc [.ref a, .int (nI (p9)), .int (nI (k9))] (jWd Ω G sz)) (jQ Ω (fun v G1 sz1 => ¬ gP g p9 6 = -1 ∧ gP g p9 0 = nI (4) ∧ c_placeOf g (nI p9) 8 0 = -1 ∧ g (41 + k9) = -1 ∧ v = some (.int (c_size (c_place g p9 k9) 8)) ∧ sz1 = sz ∧ isPy Ω A G1 a (c_place g p9 k9) D cp row e9 ∧ ∀ q, q < sz → ¬ A q → G1 q = G q)) (jXC Ω (fun ci q G1 sz1 => (gP g p9 6 = -1 ∧ xPy A G sz [(nI (13), gP g p9 0), (nI (20), nI p9)] ci q G1 sz1) ∨ (¬ gP g p9 6 = -1 ∧ ¬ gP g p9 0 = nI (4) ∧ xPy A G sz [(nI (13), gP g p9 0)] ci q G1 sz1) ∨ (¬ gP g p9 6 = -1 ∧ gP g p9 0 = nI (4) ∧ ¬ c_placeOf g (nI p9) 8 0 = -1 ∧ xPy A G sz [(nI (14), nI p9)] ci q G1 sz1) ∨ (¬ gP g p9 6 = -1 ∧ gP g p9 0 = nI (4) ∧ c_placeOf g (nI p9) 8 0 = -1 ∧ ¬ g (41 + k9) = -1 ∧ xPy A G sz [(nI (14), g (41 + k9))] ci q G1 sz1))) 7 58 (jB Ω) := by
  refine jMetX (by decide) (Nat.le_of_ble_eq_true rfl) ?_
  intro p e s m args below meth c cx hr hnm hex
  refine J_loc [some (.ref a), some (.int (nI (p9))), some (.int (nI (k9))), none, none] rfl ?_
  obtain ⟨B, pl, ol, ns, dr, sh, hall⟩ := hpy.all
  obtain ⟨⟨hAa, hC⟩, hI, hP, hO, hR, hS, hX⟩ := id hall
  obtain ⟨mcp, hps, hA3, hA8, hg2, hp16, hPp, hdr⟩ := id hP
  obtain ⟨mco, hos, hA4, hA9, hg3, ho8, hond, hOo⟩ := id hO
  obtain ⟨sf, df, kf, nk, hIA, hse, hsf, hdry, hdf, hsk, hnk, hg1, hkf⟩ := id hI
  obtain ⟨mcr, hrw, hA5, hAns, hr16⟩ := id hR
  obtain ⟨hsh, hsa, hA6, hA7, hsk8⟩ := id hS
  have ebp := hX.2.2
  refine J_ltA (fun hlA9 => ?_)
  have hne9 : jNe Ω := cx.kw.ne
  have hal3 := hps.lt hlA9
  have hal4 := hos.lt hlA9
  have hbA := ebp _ hAa
  have hb0 := ebp _ hIA.1
  have hb1 := ebp _ hIA.2.1
  have hb2 := ebp _ hIA.2.2
  have hb3 := ebp _ hA3
  have hb4 := ebp _ hA4
  have hb5 := ebp _ hA5
  have hb6 := ebp _ hA6
  have hb7 := ebp _ hA7
  have hqa : jHide _ := hall.neO hC
  have hpl : p9 < pl.length := by rw [hg2, tn_nI (by omega)] at hpi; exact hpi
  refine J_bs cx (fun hbs9 => ?_)
  refine J_lt hC (fun hlt0 => ?_)
  refine J_lt hse (fun hlt1 => ?_)
  refine J_lt hdry (fun hlt2 => ?_)
  refine J_lt hsk (fun hlt3 => ?_)
  refine J_lt hsh (fun hlt6 => ?_)
  refine J_lt hsa (fun hlt7 => ?_)
  refine J_aload_n cx dX1_places_0 rfl ?_
  refine J_aload_n cx dX1_places_1 rfl ?_
  refine J_get cx in_X1 (ci := 1) rfl 3 (by decide) q253 (fun _ h => h) dX1_places_2 hC rfl ?_
  refine J_iload_n cx dX1_places_5 rfl ?_
  obtain ⟨y14, hy14⟩ := jget (ns := pl) (i := p9) (by omega)
  obtain ⟨hAy14, hAd14, w14, f14, hc14, hn14, hw14, hwb14, hd14, hl14, hm14, hu14, he14, hf14, hv14⟩ := hPp _ _ hy14
  have hq14 : jHide _ := hall.neP hne9 hc14 hd14 hw14
  have hz14 : y14 < sz ∧ dr p9 < sz ∧ w14 < sz := ⟨hlA9 _ _ hc14, hlA9 _ _ hd14, hlA9 _ _ hw14⟩
  refine J_al_get cx dX1_places_6 q413 hps hy14 ⟨Nat.le_of_ble_eq_true rfl, Nat.le_of_ble_eq_true rfl⟩ (Nat.le_of_ble_eq_true rfl) ⟨Nat.le_of_ble_eq_true rfl, Nat.le_of_ble_eq_true rfl⟩ ?_
  refine J_castS (q := (RX6, TX6, 12)) cx dX1_places_9 q411 (ci := 5) rfl hc14 ?_
  refine J_iload_n cx dX1_places_12 rfl ?_
  refine J_callVXH (n := 2) cx (ci := 1) [.ref y14, .int (nI (k9))] (t_Py_tries l Ω hl a hall p9 y14 hy14 k9 (by omega)) dX1_places_13 (lw_VW q1702 q1704 qs17 q85 q1705) ⟨rfl, by decide, by decide, by decide +kernel⟩ rfl hC rfl rfl ⟨Nat.le_of_ble_eq_true rfl, Nat.le_of_ble_eq_true rfl⟩ rfl rfl (Nat.le_of_ble_eq_true rfl) ⟨Nat.le_of_ble_eq_true rfl, Nat.le_of_ble_eq_true rfl⟩ (fun v9 G9 z9 hp9 _ => ?_) (fun ci9 q9 r9 fs9 G9 z9 hc9 hq9 hp9 _ => JX_out cx (fun x9 h9 => (hex x9 h9).elim) hc9 hq9 (Or.inl hp9) (Nat.le_of_ble_eq_true rfl) (Nat.le_of_ble_eq_true rfl))
  obtain ⟨c6, e1, e2, e3⟩ := hp9
  rw [e1, e2, e3]
  refine J_aload_n cx dX1_places_16 rfl ?_
  refine J_iload_n cx dX1_places_17 rfl ?_
  refine J_iconst (v := nI (4)) cx dX1_places_18 (by decide) ?_
  refine J_callVX (n := 2) cx (ci := 1) [.int (nI (p9)), .int (nI (4))] (t_X1_inState l Ω a hC p9 y14 (nI (4)) (P9 := potR p9 (gP g p9) w14 (dr p9) (D p9).length) hps hy14 hc14) dX1_places_19 (lw_V q1650 q1652 qs16 q85 q1653) ⟨rfl, by decide, by decide, by decide +kernel⟩ rfl hC rfl rfl ⟨Nat.le_of_ble_eq_true rfl, Nat.le_of_ble_eq_true rfl⟩ rfl rfl (Nat.le_of_ble_eq_true rfl) ⟨Nat.le_of_ble_eq_true rfl, Nat.le_of_ble_eq_true rfl⟩ (fun v9 G9 z9 hp9 _ => ?_) (fun ci9 q9 r9 fs9 G9 z9 hc9 hq9 hp9 _ => JX_out cx (fun x9 h9 => (hex x9 h9).elim) hc9 hq9 (Or.inr (Or.inl ⟨c6, hp9.1, hp9.2.py⟩)) (Nat.le_of_ble_eq_true rfl) (Nat.le_of_ble_eq_true rfl))
  obtain ⟨hst9, e1, e2, e3⟩ := hp9
  rw [e1, e2, e3]
  refine J_astore_n3 cx dX1_places_22 (by decide) rfl ?_
  refine J_aload_n cx dX1_places_23 rfl ?_
  refine J_get cx in_X1 (ci := 1) rfl 6 (by decide) q259 (fun _ h => h) dX1_places_24 hC rfl ?_
  refine J_iload_n cx dX1_places_27 rfl ?_
  obtain ⟨cx9, hws⟩ := wares_of hS
  refine J_callV (n := 1) cx (ci := 2) [.int (nI (p9))] (t_X2_placeOf l Ω (B 6) hsh hsa (nI p9) (cp9 := fun k => g (41 + k)) (cx9 := cx9) hws) dX1_places_28 (lw_V q1745 q1746 q1747 q91 q1748) ⟨rfl, by decide, by decide, by decide +kernel⟩ rfl hsh rfl rfl ⟨Nat.le_of_ble_eq_true rfl, Nat.le_of_ble_eq_true rfl⟩ rfl rfl (Nat.le_of_ble_eq_true rfl) ⟨Nat.le_of_ble_eq_true rfl, Nat.le_of_ble_eq_true rfl⟩ (jdet ?_)
  refine J_top (.int (c_placeOf g (nI p9) 8 0)) (congrArg Value.int (placeOf_eq hS (nI p9) 8 0 (by omega))) ?_
  refine J_iconst (v := -1) cx dX1_places_31 (by decide) ?_
  refine J_icmp_eq (tgt := 46) cx dX1_places_32 (by decide) (fun c32 => ?_) (fun c32 => ?_)
  · refine J_aload_n cx dX1_places_46 rfl ?_
    refine J_get cx in_X1 (ci := 1) rfl 6 (by decide) q259 (fun _ h => h) dX1_places_47 hC rfl ?_
    refine J_iload_n cx dX1_places_50 rfl ?_
    refine J_callV (n := 1) cx (ci := 2) [.int (nI (k9))] (t_X2_at l Ω (B 6) hsh hsa k9 (by omega)) dX1_places_51 (lw_V q1706 q1707 q1708 q91 q1709) ⟨rfl, by decide, by decide, by decide +kernel⟩ rfl hsh rfl rfl ⟨Nat.le_of_ble_eq_true rfl, Nat.le_of_ble_eq_true rfl⟩ rfl rfl (Nat.le_of_ble_eq_true rfl) ⟨Nat.le_of_ble_eq_true rfl, Nat.le_of_ble_eq_true rfl⟩ (jdet ?_)
    rcases hsk8 k9 (by omega) with ⟨hsv, hgv⟩ | ⟨wv, xv, hsv, hgv, hwbv, hwv⟩
    · refine J_top .null (by rw [hsv]; rfl) ?_
      refine J_ifnullN (tgt := 78) cx dX1_places_54 (by decide) ?_
      refine J_aload_n cx dX1_places_78 rfl ?_
      refine J_get cx in_X1 (ci := 1) rfl 6 (by decide) q259 (fun _ h => h) dX1_places_79 hC rfl ?_
      refine J_iload_n cx dX1_places_82 rfl ?_
      refine J_aload_n cx dX1_places_83 rfl ?_
      refine J_getN cx in_X6 (ci := 5) rfl 8 (by decide) q474 (fun _ h => h) dX1_places_84 hc14 rfl ?_
      have hwc : G w14 = some (wE (nI p9) (some (gP g p9 6, gP g p9 7))) := by rw [hw14, gw, if_neg c6]
      refine J_callVXH (n := 2) cx (ci := 2) [.int (nI (k9)), .ref w14] (t_X2_puts_C l Ω (B 6) hsh hsa k9 (by omega) hb7 w14 hwc) dX1_places_87 (lw_VW q1710 q1711 q1712 q91 q1713) ⟨rfl, by decide, by decide, by decide +kernel⟩ rfl hsh rfl rfl ⟨Nat.le_of_ble_eq_true rfl, Nat.le_of_ble_eq_true rfl⟩ rfl rfl (Nat.le_of_ble_eq_true rfl) ⟨Nat.le_of_ble_eq_true rfl, Nat.le_of_ble_eq_true rfl⟩ (fun v9 G9 z9 hp9 _ => ?_) (fun _ _ _ _ _ _ _ _ hx _ => False.elim hx)
      obtain ⟨e1, e2, e3⟩ := hp9
      rw [e1, e2, e3]
      refine J_mem (gset G (B 7) (.inl (Ω.2.1 5, 8, jAq (va_up sh k9 (some w14))))) rfl ?_
      refine J_top (.null) (by rw [hsv]; rfl) ?_
      have hfin : pyAll Ω A (gset G (B 7) (.inl (Ω.2.1 5, 8, jAq (va_up sh k9 (some w14))))) a (c_place g p9 k9) D cp row e9 B pl ol ns dr (va_up sh k9 (some w14)) := hall.shelf hne9 (fun q c hq h1 => (gset_ne h1).trans hq) gset_eq (fun k hk => by
          rw [c_place_s g p9 k9 k hk8 hk]
          simp only [va_up]
          by_cases h : k = k9
          · rw [if_pos h, if_pos h]
            exact Or.inr ⟨w14, _, rfl, gl_ne16 _ (by omega), hwb14, hwc⟩
          · rw [if_neg h, if_neg h]
            exact hsk8 k hk) (fun i h1 h2 h3 => c_place_8 g p9 k9 hk8 i h2 (h3 p9 (by omega)))
      have hfr : ∀ q, q < sz → ¬ A q → (gset G (B 7) (.inl (Ω.2.1 5, 8, jAq (va_up sh k9 (some w14))))) q = G q := fun q h1 h2 => gset_ne (fun e => h2 (by rw [e]; exact hA7))
      refine J_astoreN4 cx dX1_places_90 (by decide) rfl ?_
      refine J_aload_n cx dX1_places_92 rfl ?_
      refine J_get cx in_X1 (ci := 1) rfl 6 (by decide) q259 (fun _ h => h) dX1_places_93 ((gset_ne (Ne.symm (hqa.get.2.2.2.2.2.2.2.2.2.2.2))).trans hC) rfl ?_
      refine J_callV (n := 0) cx (ci := 2) [] (t_X2_size l Ω (B 6) ((gset_ne (jneC hsh hsa (by simp))).trans hsh) gset_eq) dX1_places_96 (lw_V q1750 q1751 q1752 q91 q1753) ⟨rfl, by decide, by decide, by decide +kernel⟩ rfl ((gset_ne (jneC hsh hsa (by simp))).trans hsh) rfl rfl ⟨Nat.le_of_ble_eq_true rfl, Nat.le_of_ble_eq_true rfl⟩ rfl rfl (Nat.le_of_ble_eq_true rfl) ⟨Nat.le_of_ble_eq_true rfl, Nat.le_of_ble_eq_true rfl⟩ (jdet ?_)
      refine J_top (.int (c_size (c_place g p9 k9) 8)) (congrArg Value.int (size_eq hfin.2.2.2.2.2.1 8 (Nat.le_refl _))) ?_
      refine J_xret ?_
      exact J_iret cx dX1_places_99 hr ⟨c6, hst9, c32, hgv, rfl, rfl, hfin.py, hfr⟩ (Nat.le_of_ble_eq_true rfl) (Nat.le_of_ble_eq_true rfl)
    · refine J_top (.ref wv) (by rw [hsv]; rfl) ?_
      refine J_ifnull cx dX1_places_54 ?_
      have hlv : wv < sz := hlA9 _ _ hwv
      refine J_new cx in_X10 tyX10 tyX10_ok q1283 q1284 q125 (ci := 8) rfl (fs := [.null, .null, .null, .null, .null, .int 0, .int 0, .int 0]) (by decide +kernel) dX1_places_57 (Nat.le_of_ble_eq_true rfl) (Nat.le_of_ble_eq_true rfl) ?_
      refine J_dup cx dX1_places_60 rfl ?_
      refine J_bipush (v := nI (14)) cx dX1_places_61 (by decide) ?_
      refine J_aload_n cx dX1_places_63 rfl ?_
      refine J_get cx in_X1 (ci := 1) rfl 6 (by decide) q259 (fun _ h => h) dX1_places_64 ((gset_ne (by omega)).trans hC) rfl ?_
      refine J_iload_n cx dX1_places_67 rfl ?_
      refine J_callV (n := 1) cx (ci := 2) [.int (nI (k9))] (t_X2_at l Ω (B 6) ((gset_ne (by omega)).trans hsh) ((gset_ne (by omega)).trans hsa) k9 (by omega)) dX1_places_68 (lw_V q1706 q1707 q1708 q91 q1709) ⟨rfl, by decide, by decide, by decide +kernel⟩ rfl ((gset_ne (by omega)).trans hsh) rfl rfl ⟨Nat.le_of_ble_eq_true rfl, Nat.le_of_ble_eq_true rfl⟩ rfl rfl (Nat.le_of_ble_eq_true rfl) ⟨Nat.le_of_ble_eq_true rfl, Nat.le_of_ble_eq_true rfl⟩ (jdet ?_)
      refine J_top (.ref wv) (by rw [hsv]; rfl) ?_
      refine J_w_pot cx dX1_places_71 q1749 ((gset_ne (by omega)).trans hwv) ⟨Nat.le_of_ble_eq_true rfl, Nat.le_of_ble_eq_true rfl⟩ (Nat.le_of_ble_eq_true rfl) ⟨Nat.le_of_ble_eq_true rfl, Nat.le_of_ble_eq_true rfl⟩ ?_
      refine J_callI (n := 2) cx [.int (nI (14)), .int (g (41 + k9))] (t_X10_init l Ω sz (nI (14)) (g (41 + k9)) gset_eq (by omega)) dX1_places_74 q1294 q125 q1292 q1293 rfl ⟨by decide, by decide, by decide +kernel⟩ rfl rfl ⟨Nat.le_of_ble_eq_true rfl, Nat.le_of_ble_eq_true rfl⟩ rfl rfl (Nat.le_of_ble_eq_true rfl) ⟨Nat.le_of_ble_eq_true rfl, Nat.le_of_ble_eq_true rfl⟩ (jdet ?_)
      refine J_mem (gset G sz (.inr (8, [.null, .null, .null, .null, .null, .int 0, .int (nI (14)), .int (g (41 + k9))]))) gset_gset ?_
      refine J_athrow cx dX1_places_77 ?_
      exact JX_out cx (fun x9 h9 => (hex x9 h9).elim) (ci := 8) rfl gset_eq (Or.inr (Or.inr (Or.inr ⟨c6, hst9, c32, hgv, ⟨rfl, Nat.le_refl _, Nat.lt_succ_self _, gset_eq, fun z h1 _ => gset_ne (by omega)⟩⟩))) (Nat.le_of_ble_eq_true rfl) (Nat.le_of_ble_eq_true rfl)
  · refine J_new cx in_X10 tyX10 tyX10_ok q1283 q1284 q125 (ci := 8) rfl (fs := [.null, .null, .null, .null, .null, .int 0, .int 0, .int 0]) (by decide +kernel) dX1_places_35 (Nat.le_of_ble_eq_true rfl) (Nat.le_of_ble_eq_true rfl) ?_
    refine J_dup cx dX1_places_38 rfl ?_
    refine J_bipush (v := nI (14)) cx dX1_places_39 (by decide) ?_
    refine J_iload_n cx dX1_places_41 rfl ?_
    refine J_callI (n := 2) cx [.int (nI (14)), .int (nI (p9))] (t_X10_init l Ω sz (nI (14)) (nI (p9)) gset_eq (by omega)) dX1_places_42 q1294 q125 q1292 q1293 rfl ⟨by decide, by decide, by decide +kernel⟩ rfl rfl ⟨Nat.le_of_ble_eq_true rfl, Nat.le_of_ble_eq_true rfl⟩ rfl rfl (Nat.le_of_ble_eq_true rfl) ⟨Nat.le_of_ble_eq_true rfl, Nat.le_of_ble_eq_true rfl⟩ (jdet ?_)
    refine J_mem (gset G sz (.inr (8, [.null, .null, .null, .null, .null, .int 0, .int (nI (14)), .int (nI (p9))]))) gset_gset ?_
    refine J_athrow cx dX1_places_45 ?_
    exact JX_out cx (fun x9 h9 => (hex x9 h9).elim) (ci := 8) rfl gset_eq (Or.inr (Or.inr (Or.inl ⟨c6, hst9, c32, ⟨rfl, Nat.le_refl _, Nat.lt_succ_self _, gset_eq, fun z h1 _ => gset_ne (by omega)⟩⟩))) (Nat.le_of_ble_eq_true rfl) (Nat.le_of_ble_eq_true rfl)
