/-! POTTERY 11 (gen/mk_y8.py): addsPot -/
set_option maxRecDepth 100000
theorem S_comes_eq (g : Nat → Int32) (j : Nat) : ∀ k : Nat, S_comes g k j = if (50 + (13 * (tn (g (2))))) ≤ j ∧ j < (50 + (13 * (tn (g (2))))) + k then nI (0) else g j
  | 0 => by simp only [S_comes]; rw [if_neg (by omega)]
  | k + 1 => by
    simp only [S_comes, upd, S_comes_eq g j k]
    by_cases h : j = (50 + (13 * (tn (g (2))))) + k
    · rw [if_pos h, if_pos (by omega)]
    · rw [if_neg h]
      by_cases h2 : (50 + (13 * (tn (g (2))))) ≤ j ∧ j < (50 + (13 * (tn (g (2))))) + k
      · rw [if_pos h2, if_pos (by omega)]
      · rw [if_neg h2, if_neg (by omega)]
theorem comes_eq (g : Nat → Int32) (a9 b9 d9 : Int32) (j : Nat) : o_X3_comes_g g a9 b9 d9 j = if j = 2 then nI ((tn (g (2))) + 1) else if j = (50 + (13 * (tn (g (2))))) + 10 then -1 else if j = (50 + (13 * (tn (g (2))))) + 8 then -1 else if j = (50 + (13 * (tn (g (2))))) + 7 then -1 else if j = (50 + (13 * (tn (g (2))))) + 6 then -1 else if j = (50 + (13 * (tn (g (2))))) + 3 then d9 else if j = (50 + (13 * (tn (g (2))))) + 2 then b9 else if j = (50 + (13 * (tn (g (2))))) + 1 then a9 else if (50 + (13 * (tn (g (2))))) ≤ j ∧ j < (50 + (13 * (tn (g (2))))) + 13 then nI (0) else g j := by
  simp only [o_X3_comes_g, upd, S_comes_eq]
theorem comes_at (g : Nat → Int32) (a9 b9 d9 : Int32) : gP (o_X3_comes_g g a9 b9 d9) (tn (g 2)) 0 = nI (0) ∧ gP (o_X3_comes_g g a9 b9 d9) (tn (g 2)) 1 = a9 ∧ gP (o_X3_comes_g g a9 b9 d9) (tn (g 2)) 2 = b9 ∧ gP (o_X3_comes_g g a9 b9 d9) (tn (g 2)) 3 = d9 ∧ gP (o_X3_comes_g g a9 b9 d9) (tn (g 2)) 4 = nI (0) ∧ gP (o_X3_comes_g g a9 b9 d9) (tn (g 2)) 5 = nI (0) ∧ gP (o_X3_comes_g g a9 b9 d9) (tn (g 2)) 6 = -1 ∧ gP (o_X3_comes_g g a9 b9 d9) (tn (g 2)) 7 = -1 ∧ gP (o_X3_comes_g g a9 b9 d9) (tn (g 2)) 8 = -1 ∧ gP (o_X3_comes_g g a9 b9 d9) (tn (g 2)) 9 = nI (0) ∧ gP (o_X3_comes_g g a9 b9 d9) (tn (g 2)) 10 = -1 ∧ gP (o_X3_comes_g g a9 b9 d9) (tn (g 2)) 11 = nI (0) ∧ gP (o_X3_comes_g g a9 b9 d9) (tn (g 2)) 12 = nI (0) := by
  refine ⟨?_, ?_, ?_, ?_, ?_, ?_, ?_, ?_, ?_, ?_, ?_, ?_, ?_⟩
  · rw [gP, comes_eq, if_neg (by omega), if_neg (by omega), if_neg (by omega), if_neg (by omega), if_neg (by omega), if_neg (by omega), if_neg (by omega), if_neg (by omega), if_pos (by omega)]
  · rw [gP, comes_eq, if_neg (by omega), if_neg (by omega), if_neg (by omega), if_neg (by omega), if_neg (by omega), if_neg (by omega), if_neg (by omega), if_pos (by omega)]
  · rw [gP, comes_eq, if_neg (by omega), if_neg (by omega), if_neg (by omega), if_neg (by omega), if_neg (by omega), if_neg (by omega), if_pos (by omega)]
  · rw [gP, comes_eq, if_neg (by omega), if_neg (by omega), if_neg (by omega), if_neg (by omega), if_neg (by omega), if_pos (by omega)]
  · rw [gP, comes_eq, if_neg (by omega), if_neg (by omega), if_neg (by omega), if_neg (by omega), if_neg (by omega), if_neg (by omega), if_neg (by omega), if_neg (by omega), if_pos (by omega)]
  · rw [gP, comes_eq, if_neg (by omega), if_neg (by omega), if_neg (by omega), if_neg (by omega), if_neg (by omega), if_neg (by omega), if_neg (by omega), if_neg (by omega), if_pos (by omega)]
  · rw [gP, comes_eq, if_neg (by omega), if_neg (by omega), if_neg (by omega), if_neg (by omega), if_pos (by omega)]
  · rw [gP, comes_eq, if_neg (by omega), if_neg (by omega), if_neg (by omega), if_pos (by omega)]
  · rw [gP, comes_eq, if_neg (by omega), if_neg (by omega), if_pos (by omega)]
  · rw [gP, comes_eq, if_neg (by omega), if_neg (by omega), if_neg (by omega), if_neg (by omega), if_neg (by omega), if_neg (by omega), if_neg (by omega), if_neg (by omega), if_pos (by omega)]
  · rw [gP, comes_eq, if_neg (by omega), if_pos (by omega)]
  · rw [gP, comes_eq, if_neg (by omega), if_neg (by omega), if_neg (by omega), if_neg (by omega), if_neg (by omega), if_neg (by omega), if_neg (by omega), if_neg (by omega), if_pos (by omega)]
  · rw [gP, comes_eq, if_neg (by omega), if_neg (by omega), if_neg (by omega), if_neg (by omega), if_neg (by omega), if_neg (by omega), if_neg (by omega), if_neg (by omega), if_pos (by omega)]
theorem comes_out (g : Nat → Int32) (a9 b9 d9 : Int32) (i : Nat) (h2 : i ≠ 2) (h : ¬ (50 + 13 * tn (g 2) ≤ i ∧ i ≤ 50 + 13 * tn (g 2) + 12)) : o_X3_comes_g g a9 b9 d9 i = g i := by
  rw [comes_eq, if_neg (by omega), if_neg (by omega), if_neg (by omega), if_neg (by omega), if_neg (by omega), if_neg (by omega), if_neg (by omega), if_neg (by omega), if_neg (by omega)]
theorem comes_2 (g : Nat → Int32) (a9 b9 d9 : Int32) : o_X3_comes_g g a9 b9 d9 2 = nI (tn (g 2) + 1) := by rw [comes_eq, if_pos rfl]
theorem mAL_le {n c : Nat} (h : n ≤ 15) (hc : c = 0 ∨ n ≤ c) : mAL n c ≤ 22 := by
  simp only [mAL]
  split
  · omega
  · split
    · omega
    · rw [Nat.max_def]; split <;> omega
theorem jAL.room {Ω : jO} {G : Mem} {a : Nat} {mc : Int32} {xs : List Nat} {ed cap : Nat} (h : jAL Ω G a mc xs ed cap) : (cap = 0 ∧ ed = Ω.2.2.1 0) ∨ (xs.length ≤ cap ∧ cap ≠ 0) := by
  rcases h with ⟨h1, h2, h3, h4⟩ | ⟨f, h1, h2, h3, h4, h5, h6, h7⟩
  · exact Or.inl ⟨h3, h2⟩
  · exact Or.inr ⟨h3, by omega⟩
theorem jAL.based {Ω : jO} {G : Mem} {a : Nat} {mc : Int32} {xs : List Nat} {ed cap : Nat} (h : jAL Ω G a mc xs ed cap) (hx : xs ≠ []) : Ω.2.2.2 ≤ ed := by
  rcases h with ⟨h1, h2, h3, h4⟩ | ⟨f, h1, h2, h3, h4, h5, h6, h7⟩
  · exact absurd h1 hx
  · exact h4
set_option maxHeartbeats 2000000 in
theorem t_Py_addsPot (l : Launch) (Ω : jO) {G : Mem} {sz : Nat} {A : Nat → Prop} (a : Nat) {g : Nat → Int32} {D : Nat → List Int32} {cp : Nat → Nat} {row : List Nat} {e9 : Int32} (hpy : isPy Ω A G a g D cp row e9) (po9 we9 ri9 : Int32) (hA : ∀ q, sz ≤ q → A q) (hrl : row.length ≤ 16) : vx_Met l yX1_addsPot (ws_ yX1_addsPot cX1_addsPot 5 (some .int)) ({ frames := 7, cells := 5, slots := 42, locals := 192 } : Room) (va_Pc [.ref a, .int po9, .int we9, .int ri9] (jWd Ω G sz)) (jQ Ω (fun v G1 sz1 => g 2 ≠ nI (16) ∧ v = some (.int (nI (tn (g 2)))) ∧ isPy Ω A G1 a (o_X3_comes_g g po9 we9 ri9) (fun p => if p = tn (g 2) then [] else D p) (fun p => if p = tn (g 2) then 0 else cp p) (row ++ [tn (g 2)]) e9 ∧ ∀ q, q < sz → ¬ A q → G1 q = G q)) (jXC Ω (fun ci q G1 sz1 => g 2 = nI (16) ∧ xPy A G sz [(nI (11), nI (16))] ci q G1 sz1)) 5 42 (jB Ω) := by
  refine jMetX (by decide) (Nat.le_of_ble_eq_true rfl) ?_
  intro p e s m args below meth c cx hr hnm hex
  refine J_loc [some (.ref a), some (.int po9), some (.int we9), some (.int ri9), none] rfl ?_
  obtain ⟨B, pl, ol, ns, dr, sh, hall⟩ := hpy.all
  obtain ⟨⟨hAa, hC⟩, hI, hP, hO, hR, hS, hX⟩ := id hall
  obtain ⟨mcp, hps, hA3, hA8, hg2, hp16, hPp, hdr⟩ := id hP
  obtain ⟨mco, hos, hA4, hA9, hg3, ho8, hond, hOo⟩ := id hO
  obtain ⟨sf, df, kf, nk, hIA, hse, hsf, hdry, hdf, hsk, hnk, hg1, hkf⟩ := id hI
  obtain ⟨mcr, hrw, hA5, hAns, hr16⟩ := id hR
  obtain ⟨hsh, hsa, hA6, hA7, hsk8⟩ := id hS
  have ebp := hX.2.2
  refine J_ltA (fun hlA9 => ?_)
  have hne9 : jNe Ω := cx.kw.ne
  have hal3 := hps.lt hlA9
  have hal4 := hos.lt hlA9
  have hbA := ebp _ hAa
  have hb0 := ebp _ hIA.1
  have hb1 := ebp _ hIA.2.1
  have hb2 := ebp _ hIA.2.2
  have hb3 := ebp _ hA3
  have hb4 := ebp _ hA4
  have hb5 := ebp _ hA5
  have hb6 := ebp _ hA6
  have hb7 := ebp _ hA7
  have hqa : jHide _ := hall.neO hC
  have hold0 : Ω.2.2.1 0 < Ω.2.2.2 := Nat.not_le.mp cx.sta.2.1.choose_spec.2.2.2.2.2.2
  have hrns : row.length = ns.length := by have h9 := hrw.2.1; rw [List.length_map] at h9; exact h9
  refine J_bs cx (fun hbs9 => ?_)
  refine J_lt hC (fun hlt0 => ?_)
  refine J_lt hse (fun hlt1 => ?_)
  refine J_lt hdry (fun hlt2 => ?_)
  refine J_lt hsk (fun hlt3 => ?_)
  refine J_lt hsh (fun hlt6 => ?_)
  refine J_lt hsa (fun hlt7 => ?_)
  refine J_aload_n cx dX1_addsPot_0 rfl ?_
  refine J_get cx in_X1 (ci := 1) rfl 3 (by decide) q253 (fun _ h => h) dX1_addsPot_1 hC rfl ?_
  refine J_al_size cx dX1_addsPot_4 q410 hps ⟨Nat.le_of_ble_eq_true rfl, Nat.le_of_ble_eq_true rfl⟩ (Nat.le_of_ble_eq_true rfl) ⟨Nat.le_of_ble_eq_true rfl, by show _ ≤ (42 : Nat); omega⟩ ?_
  refine J_bipush (v := nI (16)) cx dX1_addsPot_7 (by decide) ?_
  refine J_icmpN_ne (tgt := 24) cx dX1_addsPot_9 (by decide) (by omega) (by omega) (fun c9 => ?_) (fun c9 => ?_)
  · refine J_aload_n cx dX1_addsPot_24 rfl ?_
    refine J_get cx in_X1 (ci := 1) rfl 3 (by decide) q253 (fun _ h => h) dX1_addsPot_25 hC rfl ?_
    refine J_al_size cx dX1_addsPot_28 q410 hps ⟨Nat.le_of_ble_eq_true rfl, Nat.le_of_ble_eq_true rfl⟩ (Nat.le_of_ble_eq_true rfl) ⟨Nat.le_of_ble_eq_true rfl, by show _ ≤ (42 : Nat); omega⟩ ?_
    refine J_istore4 cx dX1_addsPot_31 (by decide) rfl ?_
    have hmAL : mAL pl.length (B 10) ≤ 22 := mAL_le (by omega) (by rcases hps.room with ⟨h3, h4⟩ | ⟨h3, h4⟩ <;> omega)
    refine J_aload_n cx dX1_addsPot_33 rfl ?_
    refine J_get cx in_X1 (ci := 1) rfl 3 (by decide) q253 (fun _ h => h) dX1_addsPot_34 hC rfl ?_
    refine J_new cx in_X6 tyX6 tyX6_ok q411 q412 q96 (ci := 5) rfl (fs := [.int 0, .int 0, .int 0, .int 0, .int 0, .int 0, .int 0, .float 0, .null, .int 0, .null, .int 0]) (by decide +kernel) dX1_addsPot_37 (Nat.le_of_ble_eq_true rfl) (Nat.le_of_ble_eq_true rfl) ?_
    refine J_dup cx dX1_addsPot_40 rfl ?_
    refine J_iload cx dX1_addsPot_41 rfl ?_
    refine J_iload_n cx dX1_addsPot_43 rfl ?_
    refine J_iload_n cx dX1_addsPot_44 rfl ?_
    refine J_iload_n cx dX1_addsPot_45 rfl ?_
    refine J_callI (n := 4) cx [.int (nI (pl.length)), .int po9, .int we9, .int ri9] (t_X6_init_2 l Ω sz (nI (pl.length)) po9 we9 ri9 gset_eq (by omega)) dX1_addsPot_46 q432 q96 q1640 q431 rfl ⟨by decide, by decide, by decide +kernel⟩ rfl rfl ⟨Nat.le_of_ble_eq_true rfl, Nat.le_of_ble_eq_true rfl⟩ rfl rfl (Nat.le_of_ble_eq_true rfl) ⟨Nat.le_of_ble_eq_true rfl, by show _ ≤ (42 : Nat); omega⟩ (jdet ?_)
    refine J_mem (gset (gset (gset G (sz + 1) (.inl (Ω.2.1 1, 0, .inl (fun _ => 0)))) (sz + 1 + 1) (.inr (6, [.int (nI (pl.length))]))) sz (.inr (5, [.int (nI (pl.length)), .int po9, .int we9, .int ri9, .int 0, .int 0, .int 0, .float 0, .ref (sz + 1 + 1), .int (-1), .ref (sz + 1), .int 0]))) (by funext q9; simp only [gset]; by_cases hq9 : q9 = sz <;> simp [hq9]) ?_
    refine J_al_add cx (ci9 := 5) dX1_addsPot_49 q512 (((hps.put2 (by omega) (by omega)).put2 (by omega) (by omega)).put2 (by omega) (by omega)) (by omega) rfl gset_eq q3051 (by omega) (fun y hy => by obtain ⟨i, hi⟩ := List.getElem?_of_mem hy; obtain ⟨-, -, w8, d8, hc8, -⟩ := hPp i y hi; have hy8 := hlA9 _ _ hc8; exact ⟨5, _, _, rfl, (gset_ne (by omega)).trans ((gset_ne (by omega)).trans ((gset_ne (by omega)).trans (hc8))), q3051⟩) (by omega) ⟨Nat.le_of_ble_eq_true rfl, Nat.le_of_ble_eq_true rfl⟩ (Nat.le_of_ble_eq_true rfl) ⟨Nat.le_of_ble_eq_true rfl, by show _ ≤ (42 : Nat); omega⟩ (fun G9 z9 ed9 cap9 hal9 hed9 hz8 hz9 hlt9 hfr9 => ?_)
    have hfrG : ∀ q c, G q = some c → Ω.2.2.2 ≤ q → q ≠ B 3 → (B 10 ≠ 0 → q ≠ B 8) → G9 q = some c := fun q c hq h1 h2 h3 => (hfr9 q (by have := hlA9 _ _ hq; omega) h2 h3).trans ((gset_ne (by have := hlA9 _ _ hq; omega)).trans ((gset_ne (by have := hlA9 _ _ hq; omega)).trans ((gset_ne (by have := hlA9 _ _ hq; omega)).trans (hq))))
    have hq3 : jHide _ := hall.neO (hps.cells.1.choose_spec)
    have hnb : ∀ n, n ∈ ns → Ω.2.2.2 ≤ n := fun n hn => ebp _ (hAns n hn)
    have hn8 : B 10 ≠ 0 → ∀ n, n ∈ ns ∨ n = B 5 → n ≠ B 8 := fun h10 n hn e => by
        obtain ⟨f8, hf8⟩ := hps.cells.2 h10
        have h8 := hall.neQ hne9 hf8
        rcases hn with h | h
        · exact h8.2.2.2.2.2.2.2.1 (e ▸ h)
        · exact h8.2.2.2.2.2.2.1 (h ▸ e)
    have hrw9 : jLL Ω G9 (B 5) mcr ns (row.map fun p => Ω.2.2.1 (p + 128 + 10)) := hrw.mono (fun q c hq hc => by
        rcases hc with h | h
        · exact hfrG q c hq (by rw [h]; exact hb5) (fun e => hq3.get.2.2.2.2.2.2.2.2.1 (by decide) (by rw [← h, e])) (fun h10 => hn8 h10 q (Or.inr h))
        · exact hfrG q c hq (hnb q h) (fun e => hq3.get.2.2.2.2.2.2.2.2.2.1 (by decide) (by rw [← e]; exact h)) (fun h10 => hn8 h10 q (Or.inl h)))
    have hC9 : G9 a = some (pyE B g e9) := hfrG _ _ hC hbA (Ne.symm (hqa.get.2.2.1 (by decide)).1) (fun h10 => Ne.symm (hqa.get.2.2.2.1 h10))
    refine J_pop cx dX1_addsPot_52 rfl ?_
    refine J_ltA (fun hlG => ?_)
    refine J_aload_n cx dX1_addsPot_53 rfl ?_
    refine J_get cx in_X1 (ci := 1) rfl 5 (by decide) q257 (fun _ h => h) dX1_addsPot_54 hC9 rfl ?_
    refine J_iload cx dX1_addsPot_57 rfl ?_
    refine J_valueOf cx (n9 := pl.length) (by omega) dX1_addsPot_59 q1209 ⟨Nat.le_of_ble_eq_true rfl, Nat.le_of_ble_eq_true rfl⟩ (Nat.le_of_ble_eq_true rfl) ⟨Nat.le_of_ble_eq_true rfl, by show _ ≤ (42 : Nat); omega⟩ ?_
    refine J_callV (n := 1) cx (ci := 29) [.ref (Ω.2.2.1 (pl.length + 128 + 10))] (t_LL_add l Ω (v := Ω.2.2.1 (pl.length + 128 + 10)) hrw9 (by have := hrw.2.2.1; omega)) dX1_addsPot_62 (lw_V q1229 q1230 q1231 q90 q1232) ⟨rfl, by decide, by decide, by decide +kernel⟩ rfl hrw9.1 rfl rfl ⟨Nat.le_of_ble_eq_true rfl, Nat.le_of_ble_eq_true rfl⟩ rfl rfl (Nat.le_of_ble_eq_true rfl) ⟨Nat.le_of_ble_eq_true rfl, by show _ ≤ (42 : Nat); omega⟩ (fun v9 G8 z7 hp9 _ => ?_)
    obtain ⟨e1, e2, hrw2, hfr2⟩ := hp9
    subst e1; subst e2
    have hpl9 : tn (g 2) = pl.length := by rw [hg2, tn_nI (by omega)]
    have hcm := comes_at g po9 we9 ri9
    rw [hpl9] at hcm
    obtain ⟨m0, m1, m2, m3, m4, m5, m6, m7, m8, m9, m10, m11, m12⟩ := hcm
    have hB8s : ∀ q, sz ≤ q → B 10 ≠ 0 → q ≠ B 8 := fun q hq h10 => by have := hal3.2 h10; omega
    have hjp : jPot Ω G9 (sz) pl.length (gP (o_X3_comes_g g po9 we9 ri9) pl.length) [] (sz + 1) 0 := ⟨sz + 1 + 1, fun _ => 0, ((hfr9 (sz) (by omega) (by omega) (hB8s _ (by omega))).trans (gset_eq)).trans (by simp only [potC, m0, m1, m2, m3, m4, m5, m10, m11]; rfl), m9, ((hfr9 (sz + 1 + 1) (by omega) (by omega) (hB8s _ (by omega))).trans ((gset_ne (by omega)).trans (gset_eq))).trans (by rw [m6, m7]; rfl), by omega, ((hfr9 (sz + 1) (by omega) (by omega) (hB8s _ (by omega))).trans ((gset_ne (by omega)).trans ((gset_ne (by omega)).trans (gset_eq)))), Nat.le_refl _, by simp, by simp, fun i x h => by simp at h, fun k h => by omega, Or.inl m5⟩
    have hadd := hall.addPot hne9 (y := sz) (dr1 := sz + 1) (cp1 := 0) (n := pl.length) rfl (by omega) hfrG hal9 (by
        rcases hed9 with e | e
        · by_cases h10 : B 10 = 0
          · exact absurd (hal9.based (by simp)) (by rcases hps.room with ⟨h3, h4⟩ | ⟨h3, h4⟩ <;> omega)
          · exact Or.inl ⟨e, h10⟩
        · exact Or.inr ⟨hA _ (by omega), fun q c hq => by have := hlA9 _ _ hq; omega⟩) (hA _ (by omega)) (hA _ (by omega)) (fun q c hq => by have := hlA9 _ _ hq; omega) hjp (fun i h1 h2 h3 => comes_out g po9 we9 ri9 i h2 (by rw [hpl9]; exact h3)) (by rw [comes_2, hpl9])
    have hrow := hadd.rowed (ns' := ns ++ [z9]) (row' := row ++ [pl.length]) (fun q c hq h1 h2 => (hfr2 q (hlG q c hq) h1 h2).trans hq) ⟨_, by rw [List.map_append]; exact hrw2, hA5, fun n hn => by
        rcases List.mem_append.mp hn with h | h
        · exact hAns n h
        · simp at h; rw [h]; exact hA _ (by omega), fun p hp => by
        rcases List.mem_append.mp hp with h | h
        · exact hr16 p h
        · simp at h; omega⟩
    have hfr : ∀ q, q < sz → ¬ A q → G8 q = G q := fun q h1 h2 => (hfr2 q (by omega) (fun e => h2 (by rw [e]; exact hA5)) (fun e => h2 (hAns q e))).trans ((hfr9 q (by omega) (fun e => h2 (by rw [e]; exact hA3)) (fun h10 e => h2 (by rw [e]; exact hA8 h10))).trans ((gset_ne (by omega)).trans ((gset_ne (by omega)).trans ((gset_ne (by omega)).trans (rfl)))))
    refine J_iload cx dX1_addsPot_65 rfl ?_
    refine J_xret ?_
    exact J_iret cx dX1_addsPot_67 hr ⟨fun e => c9 (by rw [hg2] at e; exact (nI_eq (by omega) (by omega)).mp e), by rw [hpl9], by rw [hpl9]; exact hrow.py, hfr⟩ (Nat.le_of_ble_eq_true rfl) (by show _ ≤ (42 : Nat); omega)
  · refine J_new cx in_X10 tyX10 tyX10_ok q1283 q1284 q125 (ci := 8) rfl (fs := [.null, .null, .null, .null, .null, .int 0, .int 0, .int 0]) (by decide +kernel) dX1_addsPot_12 (Nat.le_of_ble_eq_true rfl) (Nat.le_of_ble_eq_true rfl) ?_
    refine J_dup cx dX1_addsPot_15 rfl ?_
    refine J_bipush (v := nI (11)) cx dX1_addsPot_16 (by decide) ?_
    refine J_bipush (v := nI (16)) cx dX1_addsPot_18 (by decide) ?_
    refine J_callI (n := 2) cx [.int (nI (11)), .int (nI (16))] (t_X10_init l Ω sz (nI (11)) (nI (16)) gset_eq (by omega)) dX1_addsPot_20 q1294 q125 q1292 q1293 rfl ⟨by decide, by decide, by decide +kernel⟩ rfl rfl ⟨Nat.le_of_ble_eq_true rfl, Nat.le_of_ble_eq_true rfl⟩ rfl rfl (Nat.le_of_ble_eq_true rfl) ⟨Nat.le_of_ble_eq_true rfl, by show _ ≤ (42 : Nat); omega⟩ (jdet ?_)
    refine J_mem (gset G sz (.inr (8, [.null, .null, .null, .null, .null, .int 0, .int (nI (11)), .int (nI (16))]))) gset_gset ?_
    refine J_athrow cx dX1_addsPot_23 ?_
    exact JX_out cx (fun x9 h9 => (hex x9 h9).elim) (ci := 8) rfl gset_eq ⟨by rw [hg2, c9], rfl, Nat.le_refl _, Nat.lt_succ_self _, gset_eq, fun z h1 _ => gset_ne (by omega)⟩ (Nat.le_of_ble_eq_true rfl) (Nat.le_of_ble_eq_true rfl)
