/-! THE KILN 5 (gen/mk_z4.py): fires -/
set_option maxRecDepth 100000
/-- how many places of the shelf are taken -/
def c_size (g : Nat → Int32) : Nat → Int32
  | 0 => nI (0)
  | k + 1 => c_size g k + r_bit (if g (41 + k) = -1 then nI (0) else nI (1))
theorem size_eq {Ω : jO} {A : Nat → Prop} {G : Mem} {B : Nat → Nat} {sh : Nat → Option Nat} {g : Nat → Int32} (h : pyS Ω A G B sh g) : ∀ n, n ≤ 8 → S_size sh n = c_size g n
  | 0, _ => rfl
  | n + 1, hn => by
    simp only [S_size, c_size]
    rw [size_eq h n (by omega)]
    rcases h.2.2.2.2 n (by omega) with ⟨h1, h2⟩ | ⟨w, x, h1, h2, -⟩
    · rw [h1, if_pos h2]
    · rw [h1, if_neg h2]
set_option maxHeartbeats 1000000 in
theorem t_Py_fires (l : Launch) (Ω : jO) {G : Mem} {sz : Nat} {A : Nat → Prop} (a : Nat) {g : Nat → Int32} {D : Nat → List Int32} {cp : Nat → Nat} {row : List Nat} {e9 : Int32} (hpy : isPy Ω A G a g D cp row e9) (hsN : shelfN g) : vx_Met l yX1_fires (ws_ yX1_fires cX1_fires 1 (some .int)) ({ frames := 7, cells := 6, slots := 12, locals := 150 } : Room) (va_Pc [.ref a] (jWd Ω G sz)) (jQ Ω (fun v G1 sz1 => c_size g 8 ≠ 0 ∧ c_rest g ≤ 0 ∧ v = some (.int (r_card (slG (mF g) (c_burn g) e9 16).2.2)) ∧ sz1 = sz + 1 + 1 + 1 + 1 + 1 + 1 ∧ isPy Ω A G1 a (slG (mF g) (c_burn g) e9 16).1 D cp row (slG (mF g) (c_burn g) e9 16).2.1 ∧ ∀ q, q < sz → ¬ A q → G1 q = G q)) (jXC Ω (fun ci q G1 sz1 => ((c_size g 8 = 0 ∧ xPy A G sz [(nI (15), nI (0))] ci q G1 sz1) ∨ (c_size g 8 ≠ 0 ∧ ¬ c_rest g ≤ 0 ∧ xPy A G sz [(nI (16), c_rest g)] ci q G1 sz1)))) 6 12 (jB Ω) := by
  refine jMetX (by decide) (Nat.le_of_ble_eq_true rfl) ?_
  intro p e s m args below meth c cx hr hnm hex
  refine J_loc [some (.ref a)] rfl ?_
  obtain ⟨B, pl, ol, ns, dr, sh, hall⟩ := hpy.all
  obtain ⟨⟨hAa, hC⟩, hI, hP, hO, hR, hS, hX⟩ := id hall
  obtain ⟨mcp, hps, hA3, hA8, hg2, hp16, hPp, hdr⟩ := id hP
  obtain ⟨mco, hos, hA4, hA9, hg3, ho8, hond, hOo⟩ := id hO
  obtain ⟨sf, df, kf, nk, hIA, hse, hsf, hdry, hdf, hsk, hnk, hg1, hkf⟩ := id hI
  obtain ⟨mcr, hrw, hA5, hAns, hr16⟩ := id hR
  obtain ⟨hsh, hsa, hA6, hA7, hsk8⟩ := id hS
  have ebp := hX.2.2
  refine J_ltA (fun hlA9 => ?_)
  have hne9 : jNe Ω := cx.kw.ne
  have hal3 := hps.lt hlA9
  have hal4 := hos.lt hlA9
  have hbA := ebp _ hAa
  have hb0 := ebp _ hIA.1
  have hb1 := ebp _ hIA.2.1
  have hb2 := ebp _ hIA.2.2
  have hb3 := ebp _ hA3
  have hb4 := ebp _ hA4
  have hb5 := ebp _ hA5
  have hb6 := ebp _ hA6
  have hb7 := ebp _ hA7
  have hqa : jHide _ := hall.neO hC
  refine J_bs cx (fun hbs9 => ?_)
  refine J_lt hC (fun hlt0 => ?_)
  refine J_lt hse (fun hlt1 => ?_)
  refine J_lt hdry (fun hlt2 => ?_)
  refine J_lt hsk (fun hlt3 => ?_)
  refine J_lt hsh (fun hlt6 => ?_)
  refine J_lt hsa (fun hlt7 => ?_)
  refine J_aload_n cx dX1_fires_0 rfl ?_
  refine J_get cx in_X1 (ci := 1) rfl 6 (by decide) q259 (fun _ h => h) dX1_fires_1 hC rfl ?_
  refine J_callV (n := 0) cx (ci := 2) [] (t_X2_size l Ω (B 6) hsh hsa) dX1_fires_4 (lw_V q1750 q1751 q1752 q91 q1753) ⟨rfl, by decide, by decide, by decide +kernel⟩ rfl hsh rfl rfl ⟨Nat.le_of_ble_eq_true rfl, Nat.le_of_ble_eq_true rfl⟩ rfl rfl (Nat.le_of_ble_eq_true rfl) ⟨Nat.le_of_ble_eq_true rfl, Nat.le_of_ble_eq_true rfl⟩ (jdet ?_)
  refine J_top (.int (c_size g 8)) (congrArg Value.int (size_eq hS 8 (Nat.le_refl _))) ?_
  refine J_if_ne (tgt := 21) cx dX1_fires_7 (by decide) (fun c7 => ?_) (fun c7 => ?_)
  · refine J_aload_n cx dX1_fires_21 rfl ?_
    refine J_callV (n := 0) cx (ci := 1) [] (t_Py_restLeft l Ω a hpy) dX1_fires_22 (lw_V q1759 q1760 q1761 q85 q1762) ⟨rfl, by decide, by decide, by decide +kernel⟩ rfl hC rfl rfl ⟨Nat.le_of_ble_eq_true rfl, Nat.le_of_ble_eq_true rfl⟩ rfl rfl (Nat.le_of_ble_eq_true rfl) ⟨Nat.le_of_ble_eq_true rfl, Nat.le_of_ble_eq_true rfl⟩ (jdet ?_)
    refine J_if_le (tgt := 42) cx dX1_fires_25 (by decide) (fun c25 => ?_) (fun c25 => ?_)
    · refine J_aload_n cx dX1_fires_42 rfl ?_
      refine J_callV (n := 0) cx (ci := 1) [] (t_Py_burns l Ω a hpy hsN) dX1_fires_43 (lw_V q1764 q1765 q1766 q85 q1767) ⟨rfl, by decide, by decide, by decide +kernel⟩ rfl hC rfl rfl ⟨Nat.le_of_ble_eq_true rfl, Nat.le_of_ble_eq_true rfl⟩ rfl rfl (Nat.le_of_ble_eq_true rfl) ⟨Nat.le_of_ble_eq_true rfl, Nat.le_of_ble_eq_true rfl⟩ (fun v9 G5 z9 hp9 _ => ?_)
      obtain ⟨e1, e2, ⟨hbS, hpyS⟩, hfrS⟩ := hp9
      subst e1; subst e2
      refine J_callV (n := 0) cx (ci := 35) [] (t_BS_card l Ω hbS) dX1_fires_46 (lw_V q1880 q1881 q1882 q134 q1883) ⟨rfl, by decide, by decide, by decide +kernel⟩ rfl hbS.1 rfl rfl ⟨Nat.le_of_ble_eq_true rfl, Nat.le_of_ble_eq_true rfl⟩ rfl rfl (Nat.le_of_ble_eq_true rfl) ⟨Nat.le_of_ble_eq_true rfl, Nat.le_of_ble_eq_true rfl⟩ (jdet ?_)
      refine J_xret ?_
      exact J_iret cx dX1_fires_49 hr ⟨c7, c25, rfl, rfl, hpyS, hfrS⟩ (Nat.le_of_ble_eq_true rfl) (Nat.le_of_ble_eq_true rfl)
    · refine J_new cx in_X10 tyX10 tyX10_ok q1283 q1284 q125 (ci := 8) rfl (fs := [.null, .null, .null, .null, .null, .int 0, .int 0, .int 0]) (by decide +kernel) dX1_fires_28 (Nat.le_of_ble_eq_true rfl) (Nat.le_of_ble_eq_true rfl) ?_
      refine J_dup cx dX1_fires_31 rfl ?_
      refine J_bipush (v := nI (16)) cx dX1_fires_32 (by decide) ?_
      refine J_aload_n cx dX1_fires_34 rfl ?_
      refine J_callV (n := 0) cx (ci := 1) [] (t_Py_restLeft l Ω a (hpy.mono (fun q c hq h => (gset_ne (by have := hlA9 _ _ hq; omega)).trans hq))) dX1_fires_35 (lw_V q1759 q1760 q1761 q85 q1762) ⟨rfl, by decide, by decide, by decide +kernel⟩ rfl ((gset_ne (by omega)).trans hC) rfl rfl ⟨Nat.le_of_ble_eq_true rfl, Nat.le_of_ble_eq_true rfl⟩ rfl rfl (Nat.le_of_ble_eq_true rfl) ⟨Nat.le_of_ble_eq_true rfl, Nat.le_of_ble_eq_true rfl⟩ (jdet ?_)
      refine J_callI (n := 2) cx [.int (nI (16)), .int (c_rest g)] (t_X10_init l Ω sz (nI (16)) (c_rest g) gset_eq (by omega)) dX1_fires_38 q1294 q125 q1292 q1293 rfl ⟨by decide, by decide, by decide +kernel⟩ rfl rfl ⟨Nat.le_of_ble_eq_true rfl, Nat.le_of_ble_eq_true rfl⟩ rfl rfl (Nat.le_of_ble_eq_true rfl) ⟨Nat.le_of_ble_eq_true rfl, Nat.le_of_ble_eq_true rfl⟩ (jdet ?_)
      refine J_mem (gset G sz (.inr (8, [.null, .null, .null, .null, .null, .int 0, .int (nI (16)), .int (c_rest g)]))) gset_gset ?_
      refine J_athrow cx dX1_fires_41 ?_
      exact JX_out cx (fun x9 h9 => (hex x9 h9).elim) (ci := 8) rfl gset_eq (Or.inr ⟨c7, c25, ⟨rfl, Nat.le_refl _, Nat.lt_succ_self _, gset_eq, fun z h1 _ => gset_ne (by omega)⟩⟩) (Nat.le_of_ble_eq_true rfl) (Nat.le_of_ble_eq_true rfl)
  · refine J_new cx in_X10 tyX10 tyX10_ok q1283 q1284 q125 (ci := 8) rfl (fs := [.null, .null, .null, .null, .null, .int 0, .int 0, .int 0]) (by decide +kernel) dX1_fires_10 (Nat.le_of_ble_eq_true rfl) (Nat.le_of_ble_eq_true rfl) ?_
    refine J_dup cx dX1_fires_13 rfl ?_
    refine J_bipush (v := nI (15)) cx dX1_fires_14 (by decide) ?_
    refine J_iconst (v := nI (0)) cx dX1_fires_16 (by decide) ?_
    refine J_callI (n := 2) cx [.int (nI (15)), .int (nI (0))] (t_X10_init l Ω sz (nI (15)) (nI (0)) gset_eq (by omega)) dX1_fires_17 q1294 q125 q1292 q1293 rfl ⟨by decide, by decide, by decide +kernel⟩ rfl rfl ⟨Nat.le_of_ble_eq_true rfl, Nat.le_of_ble_eq_true rfl⟩ rfl rfl (Nat.le_of_ble_eq_true rfl) ⟨Nat.le_of_ble_eq_true rfl, Nat.le_of_ble_eq_true rfl⟩ (jdet ?_)
    refine J_mem (gset G sz (.inr (8, [.null, .null, .null, .null, .null, .int 0, .int (nI (15)), .int (nI (0))]))) gset_gset ?_
    refine J_athrow cx dX1_fires_20 ?_
    exact JX_out cx (fun x9 h9 => (hex x9 h9).elim) (ci := 8) rfl gset_eq (Or.inl ⟨c7, ⟨rfl, Nat.le_refl _, Nat.lt_succ_self _, gset_eq, fun z h1 _ => gset_ne (by omega)⟩⟩) (Nat.le_of_ble_eq_true rfl) (Nat.le_of_ble_eq_true rfl)
