/-! POTTERY 16 (gen/mk_zA.py): the copy's constructor -/
set_option maxRecDepth 100000
/-- regions: the copy's, the copy's but for an iterator, the old one's -/
def rg2 (b sz : Nat) : Nat → Prop := fun q => q = b ∨ sz ≤ q
def rg3 (b sz z : Nat) : Nat → Prop := fun q => q = b ∨ (sz ≤ q ∧ q ≠ z)
def rgO (A : Nat → Prop) (sz b : Nat) : Nat → Prop := fun q => A q ∧ q < sz ∧ q ≠ b
/-- the slots that k pots' copies take -/
def cpS (cp : Nat → Nat) : Nat → Nat
  | 0 => 0
  | k + 1 => cpS cp k + (35 + cp k)
theorem cpS_mono (cp : Nat → Nat) {k n : Nat} (h : k ≤ n) : cpS cp k ≤ cpS cp n := by
  induction n with
  | zero => rw [Nat.le_zero.mp h]; exact Nat.le_refl _
  | succ n ih =>
    by_cases e : k = n + 1
    · rw [e]; exact Nat.le_refl _
    · simp only [cpS]; have := ih (by omega); omega
/-- the numbers when k pots are copied -/
def gK (g : Nat → Int32) (k : Nat) : Nat → Int32 := fun i => if i = 2 then nI k else if (1 ≤ i ∧ i < 38 ∧ i ≠ 3) ∨ (50 ≤ i ∧ i < 50 + 13 * k) then g i else gZ i
/-- the numbers when all pots and k orders are copied -/
def gL (g : Nat → Int32) (k : Nat) : Nat → Int32 := fun i => if i = 3 then nI k else if 258 ≤ i ∧ i < 258 + 6 * k then g i else gK g (tn (g 2)) i
theorem gK_pot (g : Nat → Int32) (k j : Nat) (hj : j ≤ 12) : gK g (k + 1) (50 + 13 * k + j) = g (50 + 13 * k + j) := by
  simp only [gK]; rw [if_neg (by omega), if_pos (by omega)]
theorem gK_step (g : Nat → Int32) (k i : Nat) (h2 : i ≠ 2) (h : ¬ (50 + 13 * k ≤ i ∧ i ≤ 50 + 13 * k + 12)) : gK g (k + 1) i = gK g k i := by
  simp only [gK]; rw [if_neg h2, if_neg h2]
  by_cases h1 : (1 ≤ i ∧ i < 38 ∧ i ≠ 3) ∨ (50 ≤ i ∧ i < 50 + 13 * k)
  · rw [if_pos h1, if_pos (by omega)]
  · rw [if_neg h1, if_neg (by omega)]
theorem gL_ord (g : Nat → Int32) (k j : Nat) (hj : j ≤ 5) : gL g (k + 1) (258 + 6 * k + j) = g (258 + 6 * k + j) := by
  simp only [gL]; rw [if_neg (by omega), if_pos (by omega)]
theorem gL_step (g : Nat → Int32) (k i : Nat) (h2 : i ≠ 3) (h : ¬ (258 + 6 * k ≤ i ∧ i ≤ 258 + 6 * k + 5)) : gL g (k + 1) i = gL g k i := by
  simp only [gL]; rw [if_neg h2, if_neg h2]
  by_cases h1 : 258 ≤ i ∧ i < 258 + 6 * k
  · rw [if_pos h1, if_pos (by omega)]
  · rw [if_neg h1, if_neg (by omega)]
theorem gL_0 (g : Nat → Int32) : gL g 0 = gK g (tn (g 2)) := by
  funext i
  simp only [gL]
  by_cases h : i = 3
  · rw [if_pos h, h]
    simp only [gK]
    rw [if_neg (by omega), if_neg (by omega)]
    rfl
  · rw [if_neg h, if_neg (by omega)]
def gdel (G : Mem) (z : Nat) : Mem := fun q => if q = z then none else G q
theorem gdel_some {G : Mem} {z q : Nat} {c : va_E} (h : gdel G z q = some c) : q ≠ z ∧ G q = some c := by
  simp only [gdel] at h
  by_cases e : q = z
  · rw [if_pos e] at h; cases h
  · rw [if_neg e] at h; exact ⟨e, h⟩
theorem gdel_ne {G : Mem} {z q : Nat} {c : va_E} (h : G q = some c) (e : q ≠ z) : gdel G z q = some c := by simp only [gdel]; rw [if_neg e]; exact h
section RSH
variable {Ω : jO} {A : Nat → Prop} {G G1 : Mem} {a : Nat} {g g' : Nat → Int32} {D : Nat → List Int32} {cp : Nat → Nat} {row : List Nat} {e e' : Int32} {B : Nat → Nat} {pl ol ns : List Nat} {dr : Nat → Nat} {sh sh' : Nat → Option Nat}
/-- another shelf, other numbers of its own -/
theorem pyAll.reshelf (h : pyAll Ω A G a g D cp row e B pl ol ns dr sh) {b6 b7 : Nat} (hm : ∀ q c, G q = some c → q ≠ a → G1 q = some c) (ha : G1 a = some (pyE (fun i => if i = 6 then b6 else if i = 7 then b7 else B i) g' e'))
    (hS : pyS Ω A G1 (fun i => if i = 6 then b6 else if i = 7 then b7 else B i) sh' g') (hgI : ∀ i, (i = 1 ∨ (4 ≤ i ∧ i ≤ 37)) → g' i = g i) (h2 : g' 2 = g 2) (hgP : ∀ p i, p < pl.length → i ≤ 11 → i ≠ 8 → g' (50 + 13 * p + i) = g (50 + 13 * p + i)) (h3 : g' 3 = g 3) (hgO : ∀ k i, k < ol.length → i ≤ 5 → g' (258 + 6 * k + i) = g (258 + 6 * k + i)) :
    pyAll Ω A G1 a g' D cp row e' (fun i => if i = 6 then b6 else if i = 7 then b7 else B i) pl ol ns dr sh' := by
  have hC := h.1
  obtain ⟨-, ⟨n2, n3, n4⟩, n5, n6, n7, n8, n9, n10, n11, n12, n13, n14⟩ := h.neO hC.2
  have n5 := n5 (by decide); have n8 := n8 (by decide); have n10 := n10 (by decide); have n11 := n11 (by decide); have n12 := n12 (by decide)
  obtain ⟨hC, hI, hP, hO, hR, -, hX⟩ := h
  have hI' := (hI.mono (G1 := G1) fun q c hq hc => hm q c hq (by rcases hc with rfl | rfl | rfl; exact n2; exact n3; exact n4)).congr hgI
  have hP' := (hP.mono (G1 := G1) fun q c hq hc => hm q c hq (by
    rcases hc with rfl | ⟨rfl, h8⟩ | hk | ⟨k, hk, rfl⟩ | ⟨k, x, rfl⟩
    · exact n5.1
    · exact n6 h8
    · exact fun e => n8 (e ▸ hk)
    · exact n9 k hk
    · intro e
      rw [e, hC.2] at hq
      exact wE_ne5 (by decide) (by decide) (Option.some.inj hq).symm)).congr h2 hgP
  have hO' := (hO.mono (G1 := G1) fun q c hq hc => hm q c hq (by
    rcases hc with rfl | ⟨rfl, h8⟩ | hk
    · exact n5.2
    · exact n7 h8
    · exact fun e => n10 (e ▸ hk))).congr h3 hgO
  have hR' := hR.mono (G1 := G1) (fun q c hq hc => hm q c hq (by
    rcases hc with rfl | hk
    · exact n11
    · exact fun e => n12 (e ▸ hk)))
  exact ⟨⟨hC.1, ha⟩, hI', hP', hO', hR', hS, hX⟩
end RSH
/-- the numbers of the copy -/
def gF (g : Nat → Int32) : Nat → Int32 := g
set_option maxHeartbeats 40000000 in
theorem t_Py_copy (l : Launch) (Ω : jO) {G : Mem} {sz : Nat} {A : Nat → Prop} (a : Nat) {g : Nat → Int32} {D : Nat → List Int32} {cp : Nat → Nat} {row : List Nat} {e9 : Int32} (hpy : isPy Ω A G a g D cp row e9) (b : Nat) (hbc : G b = some (.inr (1, [.null, .null, .null, .null, .null, .null, .null, .int 0, .int 0, .int 0, .int 0, .int 0, .int 0]))) (hbb : Ω.2.2.2 ≤ b) (hAb : ¬ A b) (hrl : row.length ≤ 16) : Met l yX1_init_2 (ws_ yX1_init_2 cX1_init_2 4 none) ({ frames := 7, cells := 150, slots := 420 + cpS cp (tn (g 2)), locals := 192 } : Room) (va_Pc [.ref b, .ref a] (jWd Ω G sz)) (jQ Ω (fun v G1 sz1 => v = none ∧ isPy Ω (rg2 b sz) G1 b g D cp row e9 ∧ ∀ q, q < sz → q ≠ b → G1 q = G q)) 150 (420 + cpS cp (tn (g 2))) (jB Ω) := by
  refine jMet (by decide) (Nat.le_of_ble_eq_true rfl) ?_
  intro p e s m args below meth c cx hr hnm
  refine J_loc [some (.ref b), some (.ref a), none, none] rfl ?_
  obtain ⟨B, pl, ol, ns, dr, sh, hall⟩ := hpy.all
  obtain ⟨⟨hAa, hC⟩, hI, hP, hO, hR, hS, hX⟩ := id hall
  obtain ⟨mcp, hps, hA3, hA8, hg2, hp16, hPp, hdr⟩ := id hP
  obtain ⟨mco, hos, hA4, hA9, hg3, ho8, hond, hOo⟩ := id hO
  obtain ⟨sf, df, kf, nk, hIA, hse, hsf, hdry, hdf, hsk, hnk, hg1, hkf⟩ := id hI
  obtain ⟨mcr, hrw, hA5, hAns, hr16⟩ := id hR
  obtain ⟨hsh, hsa, hA6, hA7, hsk8⟩ := id hS
  have ebp := hX.2.2
  refine J_ltA (fun hlA9 => ?_)
  have hne9 : jNe Ω := cx.kw.ne
  have hal3 := hps.lt hlA9
  have hal4 := hos.lt hlA9
  have hbA := ebp _ hAa
  have hb0 := ebp _ hIA.1
  have hb1 := ebp _ hIA.2.1
  have hb2 := ebp _ hIA.2.2
  have hb3 := ebp _ hA3
  have hb4 := ebp _ hA4
  have hb5 := ebp _ hA5
  have hb6 := ebp _ hA6
  have hb7 := ebp _ hA7
  have hqa : jHide _ := hall.neO hC
  have hlA0 := hlA9
  have ebp0 := ebp
  have hnb : ∀ q c, G q = some c → (A q ∨ ∃ k x, c = wE k x) → q ≠ b := fun q c hq h => by
    rcases h with h | ⟨k, x, h⟩
    · exact fun e => hAb (e ▸ h)
    · exact jneC hq hbc (by rw [h]; exact wE_ne5 (by decide) (by decide))
  have hold0 : Ω.2.2.1 0 < Ω.2.2.2 := Nat.not_le.mp cx.sta.2.1.choose_spec.2.2.2.2.2.2
  refine J_bs cx (fun hbs9 => ?_)
  refine J_lt hC (fun hlt0 => ?_)
  refine J_lt hse (fun hlt1 => ?_)
  refine J_lt hdry (fun hlt2 => ?_)
  refine J_lt hsk (fun hlt3 => ?_)
  refine J_lt hsh (fun hlt6 => ?_)
  refine J_lt hsa (fun hlt7 => ?_)
  refine J_lt hbc (fun hlt8 => ?_)
  refine J_aload_n cx dX1_init_2_0 rfl ?_
  refine J_objInit cx dX1_init_2_1 q177 q170 q171 (Nat.le_of_ble_eq_true rfl) (Nat.le_of_ble_eq_true rfl) ?_
  refine J_aload_n cx dX1_init_2_4 rfl ?_
  refine J_bipush (v := nI (6)) cx dX1_init_2_5 (by decide) ?_
  refine J_newa cx .int rfl 0 q211 rfl rfl (6, .inl (fun _ => 0)) dX1_init_2_7 (fun cA => by rw [vp_cell_i]; rfl) (by omega) (by decide) (Nat.le_of_ble_eq_true rfl) (by show _ ≤ 420 + cpS cp (tn (g 2)); omega) ?_
  refine J_dup cx dX1_init_2_9 rfl ?_
  refine J_iconst (v := nI (0)) cx dX1_init_2_10 (by decide) ?_
  refine J_iconst (v := nI (1)) cx dX1_init_2_11 (by decide) ?_
  refine J_iast cx dX1_init_2_12 gset_eq (by omega) (by omega) (by omega) ?_
  refine J_mem (gset G sz (.inl (Ω.2.1 0, 6, .inl (upd (fun _ => 0) 0 (nI (1)))))) gset_gset ?_
  refine J_dup cx dX1_init_2_13 rfl ?_
  refine J_iconst (v := nI (1)) cx dX1_init_2_14 (by decide) ?_
  refine J_iconst (v := nI (3)) cx dX1_init_2_15 (by decide) ?_
  refine J_iast cx dX1_init_2_16 gset_eq (by omega) (by omega) (by omega) ?_
  refine J_mem (gset G sz (.inl (Ω.2.1 0, 6, .inl (upd (upd (fun _ => 0) 0 (nI (1))) 1 (nI (3)))))) gset_gset ?_
  refine J_dup cx dX1_init_2_17 rfl ?_
  refine J_iconst (v := nI (2)) cx dX1_init_2_18 (by decide) ?_
  refine J_iconst (v := nI (5)) cx dX1_init_2_19 (by decide) ?_
  refine J_iast cx dX1_init_2_20 gset_eq (by omega) (by omega) (by omega) ?_
  refine J_mem (gset G sz (.inl (Ω.2.1 0, 6, .inl (upd (upd (upd (fun _ => 0) 0 (nI (1))) 1 (nI (3))) 2 (nI (5)))))) gset_gset ?_
  refine J_dup cx dX1_init_2_21 rfl ?_
  refine J_iconst (v := nI (3)) cx dX1_init_2_22 (by decide) ?_
  refine J_bipush (v := nI (8)) cx dX1_init_2_23 (by decide) ?_
  refine J_iast cx dX1_init_2_25 gset_eq (by omega) (by omega) (by omega) ?_
  refine J_mem (gset G sz (.inl (Ω.2.1 0, 6, .inl (upd (upd (upd (upd (fun _ => 0) 0 (nI (1))) 1 (nI (3))) 2 (nI (5))) 3 (nI (8)))))) gset_gset ?_
  refine J_dup cx dX1_init_2_26 rfl ?_
  refine J_iconst (v := nI (4)) cx dX1_init_2_27 (by decide) ?_
  refine J_sipush (v := nI (150)) cx dX1_init_2_28 (by decide) ?_
  refine J_iast cx dX1_init_2_31 gset_eq (by omega) (by omega) (by omega) ?_
  refine J_mem (gset G sz (.inl (Ω.2.1 0, 6, .inl (upd (upd (upd (upd (upd (fun _ => 0) 0 (nI (1))) 1 (nI (3))) 2 (nI (5))) 3 (nI (8))) 4 (nI (150)))))) gset_gset ?_
  refine J_dup cx dX1_init_2_32 rfl ?_
  refine J_iconst (v := nI (5)) cx dX1_init_2_33 (by decide) ?_
  refine J_bipush (v := nI (12)) cx dX1_init_2_34 (by decide) ?_
  refine J_iast cx dX1_init_2_36 gset_eq (by omega) (by omega) (by omega) ?_
  refine J_mem (gset G sz (.inl (Ω.2.1 0, 6, .inl (upd (upd (upd (upd (upd (upd (fun _ => 0) 0 (nI (1))) 1 (nI (3))) 2 (nI (5))) 3 (nI (8))) 4 (nI (150))) 5 (nI (12)))))) gset_gset ?_
  refine J_put cx in_X1 tyX1 tyX1_ok nmX1 (ci := 1) rfl 0 (by decide) q245 (fun _ h => h) rfl (ty := (.array .int)) (by decide +kernel) dX1_init_2_37 rfl rfl ((gset_ne (by omega)).trans hbc) (Nat.le_of_ble_eq_true rfl) (by omega) ?_
  refine J_mem (gset (gset G sz (.inl (Ω.2.1 0, 6, .inl (upd (upd (upd (upd (upd (upd (fun _ => 0) 0 (nI (1))) 1 (nI (3))) 2 (nI (5))) 3 (nI (8))) 4 (nI (150))) 5 (nI (12)))))) b (.inr (1, [.ref sz, .null, .null, .null, .null, .null, .null, .int 0, .int 0, .int 0, .int 0, .int 0, .int 0]))) rfl ?_
  refine J_aload_n cx dX1_init_2_40 rfl ?_
  refine J_bipush (v := nI (24)) cx dX1_init_2_41 (by decide) ?_
  refine J_newa cx .int rfl 0 q211 rfl rfl (24, .inl (fun _ => 0)) dX1_init_2_43 (fun cA => by rw [vp_cell_i]; rfl) (by omega) (by decide) (Nat.le_of_ble_eq_true rfl) (by show _ ≤ 420 + cpS cp (tn (g 2)); omega) ?_
  refine J_put cx in_X1 tyX1 tyX1_ok nmX1 (ci := 1) rfl 1 (by decide) q248 (fun _ h => h) rfl (ty := (.array .int)) (by decide +kernel) dX1_init_2_45 rfl rfl ((gset_ne (by omega)).trans gset_eq) (Nat.le_of_ble_eq_true rfl) (by omega) ?_
  refine J_mem (gset (gset (gset G sz (.inl (Ω.2.1 0, 6, .inl (upd (upd (upd (upd (upd (upd (fun _ => 0) 0 (nI (1))) 1 (nI (3))) 2 (nI (5))) 3 (nI (8))) 4 (nI (150))) 5 (nI (12)))))) (sz + 1) (.inl (Ω.2.1 0, 24, .inl (fun _ => 0)))) b (.inr (1, [.ref sz, .ref (sz + 1), .null, .null, .null, .null, .null, .int 0, .int 0, .int 0, .int 0, .int 0, .int 0]))) (by funext q9; simp only [gset]; by_cases hq9 : q9 = b <;> simp [hq9]) ?_
  refine J_aload_n cx dX1_init_2_48 rfl ?_
  refine J_iconst (v := nI (0)) cx dX1_init_2_49 (by decide) ?_
  refine J_newa cx .int rfl 0 q211 rfl rfl (0, .inl (fun _ => 0)) dX1_init_2_50 (fun cA => by rw [vp_cell_i]; rfl) (by omega) (by decide) (Nat.le_of_ble_eq_true rfl) (by show _ ≤ 420 + cpS cp (tn (g 2)); omega) ?_
  refine J_put cx in_X1 tyX1 tyX1_ok nmX1 (ci := 1) rfl 2 (by decide) q251 (fun _ h => h) rfl (ty := (.array .int)) (by decide +kernel) dX1_init_2_52 rfl rfl ((gset_ne (by omega)).trans gset_eq) (Nat.le_of_ble_eq_true rfl) (by omega) ?_
  refine J_mem (gset (gset (gset (gset G sz (.inl (Ω.2.1 0, 6, .inl (upd (upd (upd (upd (upd (upd (fun _ => 0) 0 (nI (1))) 1 (nI (3))) 2 (nI (5))) 3 (nI (8))) 4 (nI (150))) 5 (nI (12)))))) (sz + 1) (.inl (Ω.2.1 0, 24, .inl (fun _ => 0)))) (sz + 1 + 1) (.inl (Ω.2.1 0, 0, .inl (fun _ => 0)))) b (.inr (1, [.ref sz, .ref (sz + 1), .ref (sz + 1 + 1), .null, .null, .null, .null, .int 0, .int 0, .int 0, .int 0, .int 0, .int 0]))) (by funext q9; simp only [gset]; by_cases hq9 : q9 = b <;> simp [hq9]) ?_
  refine J_aload_n cx dX1_init_2_55 rfl ?_
  refine J_new cx in_J2 tyJ2 tyJ2_ok q178 q179 q88 (ci := 28) rfl (fs := [.int 0, .null, .int 0]) (by decide +kernel) dX1_init_2_56 (by show _ ≤ 150; omega) (by show _ ≤ 420 + cpS cp (tn (g 2)); omega) ?_
  refine J_dup cx dX1_init_2_59 rfl ?_
  refine J_callI (n := 0) cx [] (t_J2_init l Ω (sz + 1 + 1 + 1) gset_eq (by omega)) dX1_init_2_60 q182 q88 q180 q181 rfl ⟨by decide, by decide, by decide +kernel⟩ rfl rfl ⟨Nat.le_of_ble_eq_true rfl, Nat.le_of_ble_eq_true rfl⟩ rfl rfl (Nat.le_of_ble_eq_true rfl) ⟨by show _ ≤ 150; omega, by show _ ≤ 420 + cpS cp (tn (g 2)); omega⟩ (jdet ?_)
  refine J_mem (gset (gset (gset (gset (gset G sz (.inl (Ω.2.1 0, 6, .inl (upd (upd (upd (upd (upd (upd (fun _ => 0) 0 (nI (1))) 1 (nI (3))) 2 (nI (5))) 3 (nI (8))) 4 (nI (150))) 5 (nI (12)))))) (sz + 1) (.inl (Ω.2.1 0, 24, .inl (fun _ => 0)))) (sz + 1 + 1) (.inl (Ω.2.1 0, 0, .inl (fun _ => 0)))) b (.inr (1, [.ref sz, .ref (sz + 1), .ref (sz + 1 + 1), .null, .null, .null, .null, .int 0, .int 0, .int 0, .int 0, .int 0, .int 0]))) (sz + 1 + 1 + 1) (.inr (28, [.int (nI (0)), .ref (Ω.2.2.1 0), .int 0]))) gset_gset ?_
  refine J_putF cx in_X1 tyX1 tyX1_ok nmX1 (ci := 1) rfl 3 (by decide) q253 (fun _ h => h) rfl rfl hnm (ty := (.object "java/util/ArrayList")) (by decide +kernel) dX1_init_2_63 rfl rfl ((gset_ne (by omega)).trans gset_eq) (Nat.le_of_ble_eq_true rfl) (by omega) ?_
  refine J_mem (gset (gset (gset (gset (gset G sz (.inl (Ω.2.1 0, 6, .inl (upd (upd (upd (upd (upd (upd (fun _ => 0) 0 (nI (1))) 1 (nI (3))) 2 (nI (5))) 3 (nI (8))) 4 (nI (150))) 5 (nI (12)))))) (sz + 1) (.inl (Ω.2.1 0, 24, .inl (fun _ => 0)))) (sz + 1 + 1) (.inl (Ω.2.1 0, 0, .inl (fun _ => 0)))) (sz + 1 + 1 + 1) (.inr (28, [.int (nI (0)), .ref (Ω.2.2.1 0), .int 0]))) b (.inr (1, [.ref sz, .ref (sz + 1), .ref (sz + 1 + 1), .ref (sz + 1 + 1 + 1), .null, .null, .null, .int 0, .int 0, .int 0, .int 0, .int 0, .int 0]))) (by funext q9; simp only [gset]; by_cases hq9 : q9 = b <;> simp [hq9]) ?_
  refine J_aload_n cx dX1_init_2_66 rfl ?_
  refine J_new cx in_J2 tyJ2 tyJ2_ok q178 q179 q88 (ci := 28) rfl (fs := [.int 0, .null, .int 0]) (by decide +kernel) dX1_init_2_67 (by show _ ≤ 150; omega) (by show _ ≤ 420 + cpS cp (tn (g 2)); omega) ?_
  refine J_dup cx dX1_init_2_70 rfl ?_
  refine J_callI (n := 0) cx [] (t_J2_init l Ω (sz + 1 + 1 + 1 + 1) gset_eq (by omega)) dX1_init_2_71 q182 q88 q180 q181 rfl ⟨by decide, by decide, by decide +kernel⟩ rfl rfl ⟨Nat.le_of_ble_eq_true rfl, Nat.le_of_ble_eq_true rfl⟩ rfl rfl (Nat.le_of_ble_eq_true rfl) ⟨by show _ ≤ 150; omega, by show _ ≤ 420 + cpS cp (tn (g 2)); omega⟩ (jdet ?_)
  refine J_mem (gset (gset (gset (gset (gset (gset G sz (.inl (Ω.2.1 0, 6, .inl (upd (upd (upd (upd (upd (upd (fun _ => 0) 0 (nI (1))) 1 (nI (3))) 2 (nI (5))) 3 (nI (8))) 4 (nI (150))) 5 (nI (12)))))) (sz + 1) (.inl (Ω.2.1 0, 24, .inl (fun _ => 0)))) (sz + 1 + 1) (.inl (Ω.2.1 0, 0, .inl (fun _ => 0)))) (sz + 1 + 1 + 1) (.inr (28, [.int (nI (0)), .ref (Ω.2.2.1 0), .int 0]))) b (.inr (1, [.ref sz, .ref (sz + 1), .ref (sz + 1 + 1), .ref (sz + 1 + 1 + 1), .null, .null, .null, .int 0, .int 0, .int 0, .int 0, .int 0, .int 0]))) (sz + 1 + 1 + 1 + 1) (.inr (28, [.int (nI (0)), .ref (Ω.2.2.1 0), .int 0]))) gset_gset ?_
  refine J_putF cx in_X1 tyX1 tyX1_ok nmX1 (ci := 1) rfl 4 (by decide) q255 (fun _ h => h) rfl rfl hnm (ty := (.object "java/util/ArrayList")) (by decide +kernel) dX1_init_2_74 rfl rfl ((gset_ne (by omega)).trans gset_eq) (Nat.le_of_ble_eq_true rfl) (by omega) ?_
  refine J_mem (gset (gset (gset (gset (gset (gset G sz (.inl (Ω.2.1 0, 6, .inl (upd (upd (upd (upd (upd (upd (fun _ => 0) 0 (nI (1))) 1 (nI (3))) 2 (nI (5))) 3 (nI (8))) 4 (nI (150))) 5 (nI (12)))))) (sz + 1) (.inl (Ω.2.1 0, 24, .inl (fun _ => 0)))) (sz + 1 + 1) (.inl (Ω.2.1 0, 0, .inl (fun _ => 0)))) (sz + 1 + 1 + 1) (.inr (28, [.int (nI (0)), .ref (Ω.2.2.1 0), .int 0]))) (sz + 1 + 1 + 1 + 1) (.inr (28, [.int (nI (0)), .ref (Ω.2.2.1 0), .int 0]))) b (.inr (1, [.ref sz, .ref (sz + 1), .ref (sz + 1 + 1), .ref (sz + 1 + 1 + 1), .ref (sz + 1 + 1 + 1 + 1), .null, .null, .int 0, .int 0, .int 0, .int 0, .int 0, .int 0]))) (by funext q9; simp only [gset]; by_cases hq9 : q9 = b <;> simp [hq9]) ?_
  refine J_aload_n cx dX1_init_2_77 rfl ?_
  refine J_new cx in_J4 tyJ4 tyJ4_ok q212 q213 q90 (ci := 29) rfl (fs := [.int 0, .int 0, .null, .null]) (by decide +kernel) dX1_init_2_78 (by show _ ≤ 150; omega) (by show _ ≤ 420 + cpS cp (tn (g 2)); omega) ?_
  refine J_dup cx dX1_init_2_81 rfl ?_
  refine J_callI (n := 0) cx [] (t_J4_init l Ω (sz + 1 + 1 + 1 + 1 + 1) gset_eq (by omega)) dX1_init_2_82 q216 q90 q214 q215 rfl ⟨by decide, by decide, by decide +kernel⟩ rfl rfl ⟨Nat.le_of_ble_eq_true rfl, Nat.le_of_ble_eq_true rfl⟩ rfl rfl (Nat.le_of_ble_eq_true rfl) ⟨by show _ ≤ 150; omega, by show _ ≤ 420 + cpS cp (tn (g 2)); omega⟩ (jdet ?_)
  refine J_mem (gset (gset (gset (gset (gset (gset (gset G sz (.inl (Ω.2.1 0, 6, .inl (upd (upd (upd (upd (upd (upd (fun _ => 0) 0 (nI (1))) 1 (nI (3))) 2 (nI (5))) 3 (nI (8))) 4 (nI (150))) 5 (nI (12)))))) (sz + 1) (.inl (Ω.2.1 0, 24, .inl (fun _ => 0)))) (sz + 1 + 1) (.inl (Ω.2.1 0, 0, .inl (fun _ => 0)))) (sz + 1 + 1 + 1) (.inr (28, [.int (nI (0)), .ref (Ω.2.2.1 0), .int 0]))) (sz + 1 + 1 + 1 + 1) (.inr (28, [.int (nI (0)), .ref (Ω.2.2.1 0), .int 0]))) b (.inr (1, [.ref sz, .ref (sz + 1), .ref (sz + 1 + 1), .ref (sz + 1 + 1 + 1), .ref (sz + 1 + 1 + 1 + 1), .null, .null, .int 0, .int 0, .int 0, .int 0, .int 0, .int 0]))) (sz + 1 + 1 + 1 + 1 + 1) (.inr (29, [.int (nI (0)), .int (nI (0)), .null, .null]))) gset_gset ?_
  refine J_putF cx in_X1 tyX1 tyX1_ok nmX1 (ci := 1) rfl 5 (by decide) q257 (fun _ h => h) rfl rfl hnm (ty := (.object "java/util/LinkedList")) (by decide +kernel) dX1_init_2_85 rfl rfl ((gset_ne (by omega)).trans gset_eq) (Nat.le_of_ble_eq_true rfl) (by omega) ?_
  refine J_mem (gset (gset (gset (gset (gset (gset (gset G sz (.inl (Ω.2.1 0, 6, .inl (upd (upd (upd (upd (upd (upd (fun _ => 0) 0 (nI (1))) 1 (nI (3))) 2 (nI (5))) 3 (nI (8))) 4 (nI (150))) 5 (nI (12)))))) (sz + 1) (.inl (Ω.2.1 0, 24, .inl (fun _ => 0)))) (sz + 1 + 1) (.inl (Ω.2.1 0, 0, .inl (fun _ => 0)))) (sz + 1 + 1 + 1) (.inr (28, [.int (nI (0)), .ref (Ω.2.2.1 0), .int 0]))) (sz + 1 + 1 + 1 + 1) (.inr (28, [.int (nI (0)), .ref (Ω.2.2.1 0), .int 0]))) (sz + 1 + 1 + 1 + 1 + 1) (.inr (29, [.int (nI (0)), .int (nI (0)), .null, .null]))) b (.inr (1, [.ref sz, .ref (sz + 1), .ref (sz + 1 + 1), .ref (sz + 1 + 1 + 1), .ref (sz + 1 + 1 + 1 + 1), .ref (sz + 1 + 1 + 1 + 1 + 1), .null, .int 0, .int 0, .int 0, .int 0, .int 0, .int 0]))) (by funext q9; simp only [gset]; by_cases hq9 : q9 = b <;> simp [hq9]) ?_
  refine J_aload_n cx dX1_init_2_88 rfl ?_
  refine J_new cx in_X2 tyX2 tyX2_ok q233 q234 q91 (ci := 2) rfl (fs := [.null]) (by decide +kernel) dX1_init_2_89 (by show _ ≤ 150; omega) (by show _ ≤ 420 + cpS cp (tn (g 2)); omega) ?_
  refine J_dup cx dX1_init_2_92 rfl ?_
  refine J_callIN (n := 0) cx [] (t_X2_init l Ω (sz + 1 + 1 + 1 + 1 + 1 + 1) gset_eq (by omega)) dX1_init_2_93 q237 q91 q235 q236 rfl ⟨by decide, by decide, by decide +kernel⟩ rfl rfl ⟨Nat.le_of_ble_eq_true rfl, Nat.le_of_ble_eq_true rfl⟩ rfl rfl (Nat.le_of_ble_eq_true rfl) ⟨by show _ ≤ 150; omega, by show _ ≤ 420 + cpS cp (tn (g 2)); omega⟩ (jdet ?_)
  refine J_mem (gset (gset (gset (gset (gset (gset (gset (gset (gset G sz (.inl (Ω.2.1 0, 6, .inl (upd (upd (upd (upd (upd (upd (fun _ => 0) 0 (nI (1))) 1 (nI (3))) 2 (nI (5))) 3 (nI (8))) 4 (nI (150))) 5 (nI (12)))))) (sz + 1) (.inl (Ω.2.1 0, 24, .inl (fun _ => 0)))) (sz + 1 + 1) (.inl (Ω.2.1 0, 0, .inl (fun _ => 0)))) (sz + 1 + 1 + 1) (.inr (28, [.int (nI (0)), .ref (Ω.2.2.1 0), .int 0]))) (sz + 1 + 1 + 1 + 1) (.inr (28, [.int (nI (0)), .ref (Ω.2.2.1 0), .int 0]))) (sz + 1 + 1 + 1 + 1 + 1) (.inr (29, [.int (nI (0)), .int (nI (0)), .null, .null]))) b (.inr (1, [.ref sz, .ref (sz + 1), .ref (sz + 1 + 1), .ref (sz + 1 + 1 + 1), .ref (sz + 1 + 1 + 1 + 1), .ref (sz + 1 + 1 + 1 + 1 + 1), .null, .int 0, .int 0, .int 0, .int 0, .int 0, .int 0]))) (sz + 1 + 1 + 1 + 1 + 1 + 1 + 1) (.inl (Ω.2.1 5, 8, jAq (fun _ => none)))) (sz + 1 + 1 + 1 + 1 + 1 + 1) (.inr (2, [.ref (sz + 1 + 1 + 1 + 1 + 1 + 1 + 1)]))) (by funext q9; simp only [gset]; by_cases hq9 : q9 = sz + 1 + 1 + 1 + 1 + 1 + 1 <;> simp [hq9]) ?_
  refine J_put cx in_X1 tyX1 tyX1_ok nmX1 (ci := 1) rfl 6 (by decide) q259 (fun _ h => h) rfl (ty := (.object "TurningWheel$Shelf")) (by decide +kernel) dX1_init_2_96 rfl rfl ((gset_ne (by omega)).trans ((gset_ne (by omega)).trans gset_eq)) (Nat.le_of_ble_eq_true rfl) (by omega) ?_
  refine J_mem (gset (gset (gset (gset (gset (gset (gset (gset (gset G sz (.inl (Ω.2.1 0, 6, .inl (upd (upd (upd (upd (upd (upd (fun _ => 0) 0 (nI (1))) 1 (nI (3))) 2 (nI (5))) 3 (nI (8))) 4 (nI (150))) 5 (nI (12)))))) (sz + 1) (.inl (Ω.2.1 0, 24, .inl (fun _ => 0)))) (sz + 1 + 1) (.inl (Ω.2.1 0, 0, .inl (fun _ => 0)))) (sz + 1 + 1 + 1) (.inr (28, [.int (nI (0)), .ref (Ω.2.2.1 0), .int 0]))) (sz + 1 + 1 + 1 + 1) (.inr (28, [.int (nI (0)), .ref (Ω.2.2.1 0), .int 0]))) (sz + 1 + 1 + 1 + 1 + 1) (.inr (29, [.int (nI (0)), .int (nI (0)), .null, .null]))) (sz + 1 + 1 + 1 + 1 + 1 + 1 + 1) (.inl (Ω.2.1 5, 8, jAq (fun _ => none)))) (sz + 1 + 1 + 1 + 1 + 1 + 1) (.inr (2, [.ref (sz + 1 + 1 + 1 + 1 + 1 + 1 + 1)]))) b (.inr (1, [.ref sz, .ref (sz + 1), .ref (sz + 1 + 1), .ref (sz + 1 + 1 + 1), .ref (sz + 1 + 1 + 1 + 1), .ref (sz + 1 + 1 + 1 + 1 + 1), .ref (sz + 1 + 1 + 1 + 1 + 1 + 1), .int 0, .int 0, .int 0, .int 0, .int 0, .int 0]))) (by funext q9; simp only [gset]; by_cases hq9 : q9 = b <;> simp [hq9]) ?_
  refine J_aload_n cx dX1_init_2_99 rfl ?_
  refine J_iconst (v := -1) cx dX1_init_2_100 (by decide) ?_
  refine J_put cx in_X1 tyX1 tyX1_ok nmX1 (ci := 1) rfl 8 (by decide) q263 (fun _ h => h) rfl (ty := .int) (by decide +kernel) dX1_init_2_101 rfl rfl gset_eq (Nat.le_of_ble_eq_true rfl) (by omega) ?_
  refine J_mem (gset (gset (gset (gset (gset (gset (gset (gset (gset G sz (.inl (Ω.2.1 0, 6, .inl (upd (upd (upd (upd (upd (upd (fun _ => 0) 0 (nI (1))) 1 (nI (3))) 2 (nI (5))) 3 (nI (8))) 4 (nI (150))) 5 (nI (12)))))) (sz + 1) (.inl (Ω.2.1 0, 24, .inl (fun _ => 0)))) (sz + 1 + 1) (.inl (Ω.2.1 0, 0, .inl (fun _ => 0)))) (sz + 1 + 1 + 1) (.inr (28, [.int (nI (0)), .ref (Ω.2.2.1 0), .int 0]))) (sz + 1 + 1 + 1 + 1) (.inr (28, [.int (nI (0)), .ref (Ω.2.2.1 0), .int 0]))) (sz + 1 + 1 + 1 + 1 + 1) (.inr (29, [.int (nI (0)), .int (nI (0)), .null, .null]))) (sz + 1 + 1 + 1 + 1 + 1 + 1 + 1) (.inl (Ω.2.1 5, 8, jAq (fun _ => none)))) (sz + 1 + 1 + 1 + 1 + 1 + 1) (.inr (2, [.ref (sz + 1 + 1 + 1 + 1 + 1 + 1 + 1)]))) b (.inr (1, [.ref sz, .ref (sz + 1), .ref (sz + 1 + 1), .ref (sz + 1 + 1 + 1), .ref (sz + 1 + 1 + 1 + 1), .ref (sz + 1 + 1 + 1 + 1 + 1), .ref (sz + 1 + 1 + 1 + 1 + 1 + 1), .int 0, .int (-1), .int 0, .int 0, .int 0, .int 0]))) gset_gset ?_
  refine J_aload_n cx dX1_init_2_104 rfl ?_
  refine J_iconst (v := -1) cx dX1_init_2_105 (by decide) ?_
  refine J_put cx in_X1 tyX1 tyX1_ok nmX1 (ci := 1) rfl 10 (by decide) q267 (fun _ h => h) rfl (ty := .int) (by decide +kernel) dX1_init_2_106 rfl rfl gset_eq (Nat.le_of_ble_eq_true rfl) (by omega) ?_
  refine J_mem (gset (gset (gset (gset (gset (gset (gset (gset (gset G sz (.inl (Ω.2.1 0, 6, .inl (upd (upd (upd (upd (upd (upd (fun _ => 0) 0 (nI (1))) 1 (nI (3))) 2 (nI (5))) 3 (nI (8))) 4 (nI (150))) 5 (nI (12)))))) (sz + 1) (.inl (Ω.2.1 0, 24, .inl (fun _ => 0)))) (sz + 1 + 1) (.inl (Ω.2.1 0, 0, .inl (fun _ => 0)))) (sz + 1 + 1 + 1) (.inr (28, [.int (nI (0)), .ref (Ω.2.2.1 0), .int 0]))) (sz + 1 + 1 + 1 + 1) (.inr (28, [.int (nI (0)), .ref (Ω.2.2.1 0), .int 0]))) (sz + 1 + 1 + 1 + 1 + 1) (.inr (29, [.int (nI (0)), .int (nI (0)), .null, .null]))) (sz + 1 + 1 + 1 + 1 + 1 + 1 + 1) (.inl (Ω.2.1 5, 8, jAq (fun _ => none)))) (sz + 1 + 1 + 1 + 1 + 1 + 1) (.inr (2, [.ref (sz + 1 + 1 + 1 + 1 + 1 + 1 + 1)]))) b (.inr (1, [.ref sz, .ref (sz + 1), .ref (sz + 1 + 1), .ref (sz + 1 + 1 + 1), .ref (sz + 1 + 1 + 1 + 1), .ref (sz + 1 + 1 + 1 + 1 + 1), .ref (sz + 1 + 1 + 1 + 1 + 1 + 1), .int 0, .int (-1), .int 0, .int (-1), .int 0, .int 0]))) gset_gset ?_
  refine J_iconst (v := nI (0)) cx dX1_init_2_109 (by decide) ?_
  refine J_istore_n2 cx dX1_init_2_110 (by decide) rfl ?_
  have K111 : ∀ nk9 k9 : Nat, nk9 + k9 = 24 → J p l e ({ frames := 7, cells := 150, slots := 420 + cpS cp (tn (g 2)), locals := 192 } : Room) s m args below meth c Ω 4 (MQ below (jQ Ω (fun v G1 sz1 => v = none ∧ isPy Ω (rg2 b sz) G1 b g D cp row e9 ∧ ∀ q, q < sz → q ≠ b → G1 q = G q)) args s 150 (420 + cpS cp (tn (g 2))) (jB Ω)) 8 49 (sz + 1 + 1 + 1 + 1 + 1 + 1 + 1 + 1) (gset (gset (gset (gset (gset (gset (gset (gset (gset G sz (.inl (Ω.2.1 0, 6, .inl (upd (upd (upd (upd (upd (upd (fun _ => 0) 0 (nI (1))) 1 (nI (3))) 2 (nI (5))) 3 (nI (8))) 4 (nI (150))) 5 (nI (12)))))) (sz + 1 + 1) (.inl (Ω.2.1 0, 0, .inl (fun _ => 0)))) (sz + 1 + 1 + 1) (.inr (28, [.int (nI (0)), .ref (Ω.2.2.1 0), .int 0]))) (sz + 1 + 1 + 1 + 1) (.inr (28, [.int (nI (0)), .ref (Ω.2.2.1 0), .int 0]))) (sz + 1 + 1 + 1 + 1 + 1) (.inr (29, [.int (nI (0)), .int (nI (0)), .null, .null]))) (sz + 1 + 1 + 1 + 1 + 1 + 1 + 1) (.inl (Ω.2.1 5, 8, jAq (fun _ => none)))) (sz + 1 + 1 + 1 + 1 + 1 + 1) (.inr (2, [.ref (sz + 1 + 1 + 1 + 1 + 1 + 1 + 1)]))) b (.inr (1, [.ref sz, .ref (sz + 1), .ref (sz + 1 + 1), .ref (sz + 1 + 1 + 1), .ref (sz + 1 + 1 + 1 + 1), .ref (sz + 1 + 1 + 1 + 1 + 1), .ref (sz + 1 + 1 + 1 + 1 + 1 + 1), .int 0, .int (-1), .int 0, .int (-1), .int 0, .int 0]))) (sz + 1) (.inl (Ω.2.1 0, 24, .inl (S_dry20 k9)))) 111 [some (.ref b), some (.ref a), some (.int (nI (k9))), none] [] := by
    intro nk9
    induction nk9 with
    | zero =>
      intro k9 hk9
      refine J_iload_n cx dX1_init_2_111 rfl ?_
      refine J_bipush (v := nI (24)) cx dX1_init_2_112 (by decide) ?_
      refine J_icmpN_ge (tgt := 131) cx dX1_init_2_114 (by decide) (by omega) (by omega) (fun c114 => ?_) (fun c114 => absurd c114 (by omega))
      have hA2b : ∀ q, (q = b ∨ sz ≤ q) → Ω.2.2.2 ≤ q := fun q h => by omega
      refine J_aload_n cx dX1_init_2_131 rfl ?_
      refine J_aload_n cx dX1_init_2_132 rfl ?_
      refine J_get cx in_X1 (ci := 1) rfl 0 (by decide) q245 (fun _ h => h) dX1_init_2_133 ((gset_ne (by omega)).trans ((gset_ne (jneC hC hbc (by simp))).trans ((gset_ne (by omega)).trans ((gset_ne (by omega)).trans ((gset_ne (by omega)).trans ((gset_ne (by omega)).trans ((gset_ne (by omega)).trans ((gset_ne (by omega)).trans ((gset_ne (by omega)).trans hC))))))))) rfl ?_
      refine J_clone cx 0 dX1_init_2_136 q403 q404 q405 q406 q407 q408 rfl ((gset_ne (by omega)).trans ((gset_ne (jneC hse hbc (by simp))).trans ((gset_ne (by omega)).trans ((gset_ne (by omega)).trans ((gset_ne (by omega)).trans ((gset_ne (by omega)).trans ((gset_ne (by omega)).trans ((gset_ne (by omega)).trans ((gset_ne (by omega)).trans hse))))))))) cx.nmI jfit_i (Nat.le_of_ble_eq_true rfl) (Nat.le_of_ble_eq_true rfl) (Nat.le_of_ble_eq_true rfl) (by show _ ≤ 420 + cpS cp (tn (g 2)); omega) ?_
      refine J_castA cx dX1_init_2_139 q409 gset_eq cx.nmI ?_
      refine J_put cx in_X1 tyX1 tyX1_ok nmX1 (ci := 1) rfl 0 (by decide) q245 (fun _ h => h) rfl (ty := (.array .int)) (by decide +kernel) dX1_init_2_142 rfl rfl ((gset_ne (by omega)).trans ((gset_ne (by omega)).trans gset_eq)) (Nat.le_of_ble_eq_true rfl) (by omega) ?_
      refine J_mem (gset (gset (gset (gset (gset (gset (gset (gset (gset (gset G sz (.inl (Ω.2.1 0, 6, .inl (upd (upd (upd (upd (upd (upd (fun _ => 0) 0 (nI (1))) 1 (nI (3))) 2 (nI (5))) 3 (nI (8))) 4 (nI (150))) 5 (nI (12)))))) (sz + 1 + 1) (.inl (Ω.2.1 0, 0, .inl (fun _ => 0)))) (sz + 1 + 1 + 1) (.inr (28, [.int (nI (0)), .ref (Ω.2.2.1 0), .int 0]))) (sz + 1 + 1 + 1 + 1) (.inr (28, [.int (nI (0)), .ref (Ω.2.2.1 0), .int 0]))) (sz + 1 + 1 + 1 + 1 + 1) (.inr (29, [.int (nI (0)), .int (nI (0)), .null, .null]))) (sz + 1 + 1 + 1 + 1 + 1 + 1 + 1) (.inl (Ω.2.1 5, 8, jAq (fun _ => none)))) (sz + 1 + 1 + 1 + 1 + 1 + 1) (.inr (2, [.ref (sz + 1 + 1 + 1 + 1 + 1 + 1 + 1)]))) (sz + 1) (.inl (Ω.2.1 0, 24, .inl (S_dry20 k9)))) (sz + 1 + 1 + 1 + 1 + 1 + 1 + 1 + 1) (.inl (Ω.2.1 0, 6, .inl sf))) b (.inr (1, [.ref (sz + 1 + 1 + 1 + 1 + 1 + 1 + 1 + 1), .ref (sz + 1), .ref (sz + 1 + 1), .ref (sz + 1 + 1 + 1), .ref (sz + 1 + 1 + 1 + 1), .ref (sz + 1 + 1 + 1 + 1 + 1), .ref (sz + 1 + 1 + 1 + 1 + 1 + 1), .int 0, .int (-1), .int 0, .int (-1), .int 0, .int 0]))) (by funext q9; simp only [gset]; by_cases hq9 : q9 = b <;> simp [hq9]) ?_
      refine J_aload_n cx dX1_init_2_145 rfl ?_
      refine J_aload_n cx dX1_init_2_146 rfl ?_
      refine J_get cx in_X1 (ci := 1) rfl 1 (by decide) q248 (fun _ h => h) dX1_init_2_147 ((gset_ne (jneC hC hbc (by simp))).trans ((gset_ne (by omega)).trans ((gset_ne (by omega)).trans ((gset_ne (by omega)).trans ((gset_ne (by omega)).trans ((gset_ne (by omega)).trans ((gset_ne (by omega)).trans ((gset_ne (by omega)).trans ((gset_ne (by omega)).trans ((gset_ne (by omega)).trans hC)))))))))) rfl ?_
      refine J_clone cx 0 dX1_init_2_150 q403 q404 q405 q406 q407 q408 rfl ((gset_ne (jneC hdry hbc (by simp))).trans ((gset_ne (by omega)).trans ((gset_ne (by omega)).trans ((gset_ne (by omega)).trans ((gset_ne (by omega)).trans ((gset_ne (by omega)).trans ((gset_ne (by omega)).trans ((gset_ne (by omega)).trans ((gset_ne (by omega)).trans ((gset_ne (by omega)).trans hdry)))))))))) cx.nmI jfit_i (Nat.le_of_ble_eq_true rfl) (Nat.le_of_ble_eq_true rfl) (Nat.le_of_ble_eq_true rfl) (by show _ ≤ 420 + cpS cp (tn (g 2)); omega) ?_
      refine J_castA cx dX1_init_2_153 q409 gset_eq cx.nmI ?_
      refine J_put cx in_X1 tyX1 tyX1_ok nmX1 (ci := 1) rfl 1 (by decide) q248 (fun _ h => h) rfl (ty := (.array .int)) (by decide +kernel) dX1_init_2_156 rfl rfl ((gset_ne (by omega)).trans gset_eq) (Nat.le_of_ble_eq_true rfl) (by omega) ?_
      refine J_mem (gset (gset (gset (gset (gset (gset (gset (gset (gset (gset (gset G sz (.inl (Ω.2.1 0, 6, .inl (upd (upd (upd (upd (upd (upd (fun _ => 0) 0 (nI (1))) 1 (nI (3))) 2 (nI (5))) 3 (nI (8))) 4 (nI (150))) 5 (nI (12)))))) (sz + 1 + 1) (.inl (Ω.2.1 0, 0, .inl (fun _ => 0)))) (sz + 1 + 1 + 1) (.inr (28, [.int (nI (0)), .ref (Ω.2.2.1 0), .int 0]))) (sz + 1 + 1 + 1 + 1) (.inr (28, [.int (nI (0)), .ref (Ω.2.2.1 0), .int 0]))) (sz + 1 + 1 + 1 + 1 + 1) (.inr (29, [.int (nI (0)), .int (nI (0)), .null, .null]))) (sz + 1 + 1 + 1 + 1 + 1 + 1 + 1) (.inl (Ω.2.1 5, 8, jAq (fun _ => none)))) (sz + 1 + 1 + 1 + 1 + 1 + 1) (.inr (2, [.ref (sz + 1 + 1 + 1 + 1 + 1 + 1 + 1)]))) (sz + 1) (.inl (Ω.2.1 0, 24, .inl (S_dry20 k9)))) (sz + 1 + 1 + 1 + 1 + 1 + 1 + 1 + 1) (.inl (Ω.2.1 0, 6, .inl sf))) (sz + 1 + 1 + 1 + 1 + 1 + 1 + 1 + 1 + 1) (.inl (Ω.2.1 0, 24, .inl df))) b (.inr (1, [.ref (sz + 1 + 1 + 1 + 1 + 1 + 1 + 1 + 1), .ref (sz + 1 + 1 + 1 + 1 + 1 + 1 + 1 + 1 + 1), .ref (sz + 1 + 1), .ref (sz + 1 + 1 + 1), .ref (sz + 1 + 1 + 1 + 1), .ref (sz + 1 + 1 + 1 + 1 + 1), .ref (sz + 1 + 1 + 1 + 1 + 1 + 1), .int 0, .int (-1), .int 0, .int (-1), .int 0, .int 0]))) (by funext q9; simp only [gset]; by_cases hq9 : q9 = b <;> simp [hq9]) ?_
      refine J_aload_n cx dX1_init_2_159 rfl ?_
      refine J_aload_n cx dX1_init_2_160 rfl ?_
      refine J_get cx in_X1 (ci := 1) rfl 2 (by decide) q251 (fun _ h => h) dX1_init_2_161 ((gset_ne (jneC hC hbc (by simp))).trans ((gset_ne (by omega)).trans ((gset_ne (by omega)).trans ((gset_ne (by omega)).trans ((gset_ne (by omega)).trans ((gset_ne (by omega)).trans ((gset_ne (by omega)).trans ((gset_ne (by omega)).trans ((gset_ne (by omega)).trans ((gset_ne (by omega)).trans ((gset_ne (by omega)).trans hC))))))))))) rfl ?_
      refine J_clone cx 0 dX1_init_2_164 q403 q404 q405 q406 q407 q408 rfl ((gset_ne (jneC hsk hbc (by simp))).trans ((gset_ne (by omega)).trans ((gset_ne (by omega)).trans ((gset_ne (by omega)).trans ((gset_ne (by omega)).trans ((gset_ne (by omega)).trans ((gset_ne (by omega)).trans ((gset_ne (by omega)).trans ((gset_ne (by omega)).trans ((gset_ne (by omega)).trans ((gset_ne (by omega)).trans hsk))))))))))) cx.nmI jfit_i (Nat.le_of_ble_eq_true rfl) (Nat.le_of_ble_eq_true rfl) (Nat.le_of_ble_eq_true rfl) (by show _ ≤ 420 + cpS cp (tn (g 2)); omega) ?_
      refine J_castA cx dX1_init_2_167 q409 gset_eq cx.nmI ?_
      refine J_put cx in_X1 tyX1 tyX1_ok nmX1 (ci := 1) rfl 2 (by decide) q251 (fun _ h => h) rfl (ty := (.array .int)) (by decide +kernel) dX1_init_2_170 rfl rfl ((gset_ne (by omega)).trans gset_eq) (Nat.le_of_ble_eq_true rfl) (by omega) ?_
      refine J_mem (gset (gset (gset (gset (gset (gset (gset (gset (gset (gset (gset (gset G sz (.inl (Ω.2.1 0, 6, .inl (upd (upd (upd (upd (upd (upd (fun _ => 0) 0 (nI (1))) 1 (nI (3))) 2 (nI (5))) 3 (nI (8))) 4 (nI (150))) 5 (nI (12)))))) (sz + 1 + 1) (.inl (Ω.2.1 0, 0, .inl (fun _ => 0)))) (sz + 1 + 1 + 1) (.inr (28, [.int (nI (0)), .ref (Ω.2.2.1 0), .int 0]))) (sz + 1 + 1 + 1 + 1) (.inr (28, [.int (nI (0)), .ref (Ω.2.2.1 0), .int 0]))) (sz + 1 + 1 + 1 + 1 + 1) (.inr (29, [.int (nI (0)), .int (nI (0)), .null, .null]))) (sz + 1 + 1 + 1 + 1 + 1 + 1 + 1) (.inl (Ω.2.1 5, 8, jAq (fun _ => none)))) (sz + 1 + 1 + 1 + 1 + 1 + 1) (.inr (2, [.ref (sz + 1 + 1 + 1 + 1 + 1 + 1 + 1)]))) (sz + 1) (.inl (Ω.2.1 0, 24, .inl (S_dry20 k9)))) (sz + 1 + 1 + 1 + 1 + 1 + 1 + 1 + 1) (.inl (Ω.2.1 0, 6, .inl sf))) (sz + 1 + 1 + 1 + 1 + 1 + 1 + 1 + 1 + 1) (.inl (Ω.2.1 0, 24, .inl df))) (sz + 1 + 1 + 1 + 1 + 1 + 1 + 1 + 1 + 1 + 1) (.inl (Ω.2.1 0, nk, .inl kf))) b (.inr (1, [.ref (sz + 1 + 1 + 1 + 1 + 1 + 1 + 1 + 1), .ref (sz + 1 + 1 + 1 + 1 + 1 + 1 + 1 + 1 + 1), .ref (sz + 1 + 1 + 1 + 1 + 1 + 1 + 1 + 1 + 1 + 1), .ref (sz + 1 + 1 + 1), .ref (sz + 1 + 1 + 1 + 1), .ref (sz + 1 + 1 + 1 + 1 + 1), .ref (sz + 1 + 1 + 1 + 1 + 1 + 1), .int 0, .int (-1), .int 0, .int (-1), .int 0, .int 0]))) (by funext q9; simp only [gset]; by_cases hq9 : q9 = b <;> simp [hq9]) ?_
      refine J_iconst (v := nI (0)) cx dX1_init_2_173 (by decide) ?_
      refine J_istore_n2 cx dX1_init_2_174 (by decide) rfl ?_
      have K175 : ∀ (nk9 k9 : Nat) (G8 : Mem) (z8 : Nat), nk9 + k9 = tn (g 2) → (isPy Ω (rg2 b sz) G8 b (gK g k9) D cp [] 0 ∧ sz ≤ z8 ∧ ∀ q, q < sz → q ≠ b → G8 q = G q) → J p l e ({ frames := 7, cells := 150, slots := 420 + cpS cp (tn (g 2)), locals := 192 } : Room) s m args below meth c Ω 4 (MQ below (jQ Ω (fun v G1 sz1 => v = none ∧ isPy Ω (rg2 b sz) G1 b g D cp row e9 ∧ ∀ q, q < sz → q ≠ b → G1 q = G q)) args s 150 (420 + cpS cp (tn (g 2))) (jB Ω)) (20 + 5 * k9) (100 + cpS cp k9) z8 G8 175 [some (.ref b), some (.ref a), some (.int (nI (k9))), none] [] := by
        intro nk9
        induction nk9 with
        | zero =>
          intro k9 G8 z8 hk9 hinv
          obtain ⟨hpyN, hz8, hfr8⟩ := hinv
          have hpyO : isPy Ω (rgO A sz b) G8 a g D cp row e9 := (hpy.region (A' := rgO A sz b) (fun q c hq h => ⟨h, hlA0 q c hq, hnb q c hq (Or.inl h)⟩) (fun q h => ebp0 q h.1)).mono (fun q c hq h => (hfr8 q (hlA0 q c hq) (hnb q c hq (h.imp (fun x => x.1) id))).trans hq)
          obtain ⟨B, pl, ol, ns, dr, sh, hall⟩ := hpyO.all
          obtain ⟨⟨hAa, hC⟩, hI, hP, hO, hR, hS, hX⟩ := id hall
          obtain ⟨mcp, hps, hA3, hA8, hg2, hp16, hPp, hdr⟩ := id hP
          obtain ⟨mco, hos, hA4, hA9, hg3, ho8, hond, hOo⟩ := id hO
          obtain ⟨sf, df, kf, nk, hIA, hse, hsf, hdry, hdf, hsk, hnk, hg1, hkf⟩ := id hI
          obtain ⟨mcr, hrw, hA5, hAns, hr16⟩ := id hR
          obtain ⟨hsh, hsa, hA6, hA7, hsk8⟩ := id hS
          have ebp := hX.2.2
          refine J_ltA (fun hlA9 => ?_)
          have hne9 : jNe Ω := cx.kw.ne
          have hal3 := hps.lt hlA9
          have hal4 := hos.lt hlA9
          have hbA := ebp _ hAa
          have hb0 := ebp _ hIA.1
          have hb1 := ebp _ hIA.2.1
          have hb2 := ebp _ hIA.2.2
          have hb3 := ebp _ hA3
          have hb4 := ebp _ hA4
          have hb5 := ebp _ hA5
          have hb6 := ebp _ hA6
          have hb7 := ebp _ hA7
          have hqa : jHide _ := hall.neO hC
          refine J_lt hC (fun hlt0 => ?_)
          refine J_lt hse (fun hlt1 => ?_)
          refine J_lt hdry (fun hlt2 => ?_)
          refine J_lt hsk (fun hlt3 => ?_)
          refine J_lt hsh (fun hlt6 => ?_)
          refine J_lt hsa (fun hlt7 => ?_)
          have hpl9 : pl.length = tn (g 2) := by rw [hg2, tn_nI (by omega)]
          have hol9 : ol.length = tn (g 3) := by rw [hg3, tn_nI (by omega)]
          obtain ⟨BN, plN, olN, nsN, drN, shN, hallN⟩ := hpyN.all
          obtain ⟨⟨hAaN, hCN⟩, -, ⟨mcN, hpsN, hA3N, hA8N, hg2N, hp16N, hPpN, hdrN⟩, ⟨moN, hosN, hA4N, hA9N, hg3N, ho8N, hondN, hOoN⟩, -⟩ := id hallN
          have halN := hpsN.lt hlA9
          have haoN := hosN.lt hlA9
          have hA3M : jHide (BN 3 = b ∨ sz ≤ BN 3) := hA3N
          have hA4M : jHide (BN 4 = b ∨ sz ≤ BN 4) := hA4N
          have hA8M : jHide (BN 10 ≠ 0 → (BN 8 = b ∨ sz ≤ BN 8)) := hA8N
          have hA9M : jHide (BN 11 ≠ 0 → (BN 9 = b ∨ sz ≤ BN 9)) := hA9N
          refine J_lt hCN (fun hltN => ?_)
          have hplN : plN.length = k9 := by have h := hg2N; simp only [gK, if_true] at h; exact ((nI_eq (by omega) (by omega)).mp h).symm
          have hcpS : cpS cp k9 ≤ cpS cp (tn (g 2)) := cpS_mono cp (by omega)
          refine J_iload_n cx dX1_init_2_175 rfl ?_
          refine J_aload_n cx dX1_init_2_176 rfl ?_
          refine J_get cx in_X1 (ci := 1) rfl 3 (by decide) q253 (fun _ h => h) dX1_init_2_177 hC rfl ?_
          refine J_al_size cx dX1_init_2_180 q410 hps ⟨Nat.le_of_ble_eq_true rfl, Nat.le_of_ble_eq_true rfl⟩ (Nat.le_of_ble_eq_true rfl) ⟨by show _ ≤ 150; omega, by show _ ≤ 420 + cpS cp (tn (g 2)); omega⟩ ?_
          refine J_icmpN_ge (tgt := 218) cx dX1_init_2_183 (by decide) (by omega) (by omega) (fun c183 => ?_) (fun c183 => absurd c183 (by omega))
          refine J_iconst (v := nI (0)) cx dX1_init_2_218 (by decide) ?_
          refine J_istore_n2 cx dX1_init_2_219 (by decide) rfl ?_
          have K220 : ∀ (nj9 j9 : Nat) (G7 : Mem) (z7 : Nat), nj9 + j9 = tn (g 3) → (isPy Ω (rg2 b sz) G7 b (gL g j9) D cp [] 0 ∧ sz ≤ z7 ∧ ∀ q, q < sz → q ≠ b → G7 q = G q) → J p l e ({ frames := 7, cells := 150, slots := 420 + cpS cp (tn (g 2)), locals := 192 } : Room) s m args below meth c Ω 4 (MQ below (jQ Ω (fun v G1 sz1 => v = none ∧ isPy Ω (rg2 b sz) G1 b g D cp row e9 ∧ ∀ q, q < sz → q ≠ b → G1 q = G q)) args s 150 (420 + cpS cp (tn (g 2))) (jB Ω)) (100 + 2 * j9) (100 + cpS cp (tn (g 2)) + 28 * j9) z7 G7 220 [some (.ref b), some (.ref a), some (.int (nI (j9))), none] [] := by
            intro nj9
            induction nj9 with
            | zero =>
              intro j9 G7 z7 hj9 hinv
              obtain ⟨hpyN, hz8, hfr8⟩ := hinv
              have hpyO : isPy Ω (rgO A sz b) G7 a g D cp row e9 := (hpy.region (A' := rgO A sz b) (fun q c hq h => ⟨h, hlA0 q c hq, hnb q c hq (Or.inl h)⟩) (fun q h => ebp0 q h.1)).mono (fun q c hq h => (hfr8 q (hlA0 q c hq) (hnb q c hq (h.imp (fun x => x.1) id))).trans hq)
              obtain ⟨B, pl, ol, ns, dr, sh, hall⟩ := hpyO.all
              obtain ⟨⟨hAa, hC⟩, hI, hP, hO, hR, hS, hX⟩ := id hall
              obtain ⟨mcp, hps, hA3, hA8, hg2, hp16, hPp, hdr⟩ := id hP
              obtain ⟨mco, hos, hA4, hA9, hg3, ho8, hond, hOo⟩ := id hO
              obtain ⟨sf, df, kf, nk, hIA, hse, hsf, hdry, hdf, hsk, hnk, hg1, hkf⟩ := id hI
              obtain ⟨mcr, hrw, hA5, hAns, hr16⟩ := id hR
              obtain ⟨hsh, hsa, hA6, hA7, hsk8⟩ := id hS
              have ebp := hX.2.2
              refine J_ltA (fun hlA9 => ?_)
              have hne9 : jNe Ω := cx.kw.ne
              have hal3 := hps.lt hlA9
              have hal4 := hos.lt hlA9
              have hbA := ebp _ hAa
              have hb0 := ebp _ hIA.1
              have hb1 := ebp _ hIA.2.1
              have hb2 := ebp _ hIA.2.2
              have hb3 := ebp _ hA3
              have hb4 := ebp _ hA4
              have hb5 := ebp _ hA5
              have hb6 := ebp _ hA6
              have hb7 := ebp _ hA7
              have hqa : jHide _ := hall.neO hC
              refine J_lt hC (fun hlt0 => ?_)
              refine J_lt hse (fun hlt1 => ?_)
              refine J_lt hdry (fun hlt2 => ?_)
              refine J_lt hsk (fun hlt3 => ?_)
              refine J_lt hsh (fun hlt6 => ?_)
              refine J_lt hsa (fun hlt7 => ?_)
              have hpl9 : pl.length = tn (g 2) := by rw [hg2, tn_nI (by omega)]
              have hol9 : ol.length = tn (g 3) := by rw [hg3, tn_nI (by omega)]
              obtain ⟨BN, plN, olN, nsN, drN, shN, hallN⟩ := hpyN.all
              obtain ⟨⟨hAaN, hCN⟩, -, ⟨mcN, hpsN, hA3N, hA8N, hg2N, hp16N, hPpN, hdrN⟩, ⟨moN, hosN, hA4N, hA9N, hg3N, ho8N, hondN, hOoN⟩, -⟩ := id hallN
              have halN := hpsN.lt hlA9
              have haoN := hosN.lt hlA9
              have hA3M : jHide (BN 3 = b ∨ sz ≤ BN 3) := hA3N
              have hA4M : jHide (BN 4 = b ∨ sz ≤ BN 4) := hA4N
              have hA8M : jHide (BN 10 ≠ 0 → (BN 8 = b ∨ sz ≤ BN 8)) := hA8N
              have hA9M : jHide (BN 11 ≠ 0 → (BN 9 = b ∨ sz ≤ BN 9)) := hA9N
              refine J_lt hCN (fun hltN => ?_)
              have holN : olN.length = j9 := by have h := hg3N; simp only [gL, if_true] at h; exact ((nI_eq (by omega) (by omega)).mp h).symm
              refine J_iload_n cx dX1_init_2_220 rfl ?_
              refine J_aload_n cx dX1_init_2_221 rfl ?_
              refine J_get cx in_X1 (ci := 1) rfl 4 (by decide) q255 (fun _ h => h) dX1_init_2_222 hC rfl ?_
              refine J_al_size cx dX1_init_2_225 q410 hos ⟨Nat.le_of_ble_eq_true rfl, Nat.le_of_ble_eq_true rfl⟩ (Nat.le_of_ble_eq_true rfl) ⟨by show _ ≤ 150; omega, by show _ ≤ 420 + cpS cp (tn (g 2)); omega⟩ ?_
              refine J_icmpN_ge (tgt := 263) cx dX1_init_2_228 (by decide) (by omega) (by omega) (fun c228 => ?_) (fun c228 => absurd c228 (by omega))
              have hfrB := hfr8
              have hz7b := hz8
              have hpyM : isPy Ω (rg3 b sz z7) G7 b (gL g (tn (g 3))) D cp [] 0 := by
                  rw [show j9 = tn (g 3) by omega] at hpyN
                  exact hpyN.region (fun q c hq h => by
                    rcases h with h | h
                    · exact Or.inl h
                    · exact Or.inr ⟨h, by have := hlA9 q c hq; omega⟩) (fun q h => hA2b q (by rcases h with h | h; exact Or.inl h; exact Or.inr h.1))
              have hnlt : ∀ n, n ∈ ns → n < sz ∧ n ≠ b := fun n hn => ⟨(hAns n hn).2.1, (hAns n hn).2.2⟩
              have hB5 : B 5 < sz ∧ B 5 ≠ b := ⟨hA5.2.1, hA5.2.2⟩
              have hrl9 : row.length = ns.length := by have h9 := hrw.2.1; rw [List.length_map] at h9; exact h9
              refine J_aload_n cx dX1_init_2_263 rfl ?_
              refine J_get cx in_X1 (ci := 1) rfl 5 (by decide) q257 (fun _ h => h) dX1_init_2_264 hC rfl ?_
              refine J_callU (n := 0) (owner := "java/util/AbstractSequentialList") cx (ci := 29) [] (t_LL_iter l Ω hrw) dX1_init_2_267 q650 q645 q646 q648 q649 q89 rfl ⟨by decide, by decide, by decide +kernel⟩ rfl hrw.1 rfl rfl ⟨Nat.le_of_ble_eq_true rfl, Nat.le_of_ble_eq_true rfl⟩ rfl rfl (Nat.le_of_ble_eq_true rfl) ⟨by show _ ≤ 150; omega, by show _ ≤ 420 + cpS cp (tn (g 2)); omega⟩ (jdet ?_)
              refine J_mem (gset G7 z7 (itE ns (B 5) 0 mcr)) rfl ?_
              refine J_astore_n2 cx dX1_init_2_270 (by decide) rfl ?_
              have K271 : ∀ (ni9 i9 : Nat) (G6 : Mem) (z6 : Nat), ni9 + i9 = row.length → (isPy Ω (rg3 b sz z7) G6 b (gL g (tn (g 3))) D cp (row.take i9) 0 ∧ z7 + 1 ≤ z6 ∧ (∀ q, q < sz → q ≠ b → G6 q = G q) ∧ G6 z7 = some (itE ns (B 5) i9 mcr) ∧ ∀ w k x, G7 w = some (wE k x) → G6 w = some (wE k x)) → J p l e ({ frames := 7, cells := 150, slots := 420 + cpS cp (tn (g 2)), locals := 192 } : Room) s m args below meth c Ω 4 (MQ below (jQ Ω (fun v G1 sz1 => v = none ∧ isPy Ω (rg2 b sz) G1 b g D cp row e9 ∧ ∀ q, q < sz → q ≠ b → G1 q = G q)) args s 150 (420 + cpS cp (tn (g 2))) (jB Ω)) (130 + i9) (340 + cpS cp (tn (g 2)) + 3 * i9) z6 G6 271 [some (.ref b), some (.ref a), some (.ref z7), none] [] := by
                intro ni9
                induction ni9 with
                | zero =>
                  intro i9 G6 z6 hi9 hinv
                  obtain ⟨hpyN, hz8, hfr8, hit, hwk⟩ := hinv
                  have hmv : ∀ q c, G7 q = some c → q < sz → q ≠ b → G6 q = some c := fun q c hq h1 h2 => by rw [hfr8 q h1 h2, ← hfrB q h1 h2]; exact hq
                  have hrw6 : jLL Ω G6 (B 5) mcr ns (row.map fun p => Ω.2.2.1 (p + 128 + 10)) := hrw.mono (fun q c hq h => by
                      rcases h with h | h
                      · exact hmv q c hq (by rw [h]; exact hB5.1) (by rw [h]; exact hB5.2)
                      · exact hmv q c hq (hnlt q h).1 (hnlt q h).2)
                  refine J_ltA (fun hlA6 => ?_)
                  have hpyF : isPy Ω (rg3 b sz z7) (gdel G6 z7) b (gL g (tn (g 3))) D cp (row.take i9) 0 := hpyN.mono (fun q c hq h => gdel_ne hq (by
                      rcases h with h | ⟨k, x, h⟩
                      · rcases h with h | h
                        · omega
                        · exact h.2
                      · exact jneC hq hit (by rw [h]; exact wE_ne5 (by decide) (by decide))))
                  obtain ⟨BN, plN, olN, nsN, drN, shN, hallN⟩ := hpyF.all
                  obtain ⟨⟨hAaN, hCF⟩, -, ⟨mpF, -, -, -, hg2F, hp16F, -⟩, ⟨moF, -, -, -, hg3F, ho8F, -⟩, ⟨mrN, hrwF, hA5N, hAnsN, hr16N⟩, -⟩ := id hallN
                  have hCN := (gdel_some hCF).2
                  have hrwN : jLL Ω G6 (BN 5) mrN nsN ((row.take i9).map fun p => Ω.2.2.1 (p + 128 + 10)) := hrwF.mono (fun q c hq _ => (gdel_some hq).2)
                  have hnsz : ∀ n, n ∈ nsN → n ≠ z7 ∧ n < z6 := fun n hn => by obtain ⟨fs, h9⟩ := hrwF.nodes hn; exact ⟨(gdel_some h9).1, hlA6 _ _ (gdel_some h9).2⟩
                  have hB5N : BN 5 ≠ z7 ∧ BN 5 < z6 := ⟨(gdel_some hrwF.1).1, hlA6 _ _ (gdel_some hrwF.1).2⟩
                  have hbb5 : Ω.2.2.2 ≤ BN 5 := hrwN.2.2.2.2.1
                  have hnN : nsN.length ≤ 16 := by have h9 := hrwN.2.1; rw [List.length_map, List.length_take] at h9; omega
                  have hCa6 := hmv _ _ hC hAa.2.1 hAa.2.2
                  have hsh6 := hmv _ _ hsh hA6.2.1 hA6.2.2
                  have hsa6 := hmv _ _ hsa hA7.2.1 hA7.2.2
                  have hlb : a < sz ∧ B 6 < sz ∧ B 7 < sz := ⟨hAa.2.1, hA6.2.1, hA7.2.1⟩
                  refine J_aload_n cx dX1_init_2_271 rfl ?_
                  refine J_callF (n := 0) cx (ci := 32) [] (t_LL_hasNext l Ω hrw6 hit (by omega)) dX1_init_2_272 q783 q733 q779 q781 q110 q735 q734 q782 q780 q778 ⟨by decide, by decide, by decide +kernel⟩ rfl hit rfl rfl ⟨Nat.le_of_ble_eq_true rfl, Nat.le_of_ble_eq_true rfl⟩ rfl rfl (Nat.le_of_ble_eq_true rfl) ⟨by show _ ≤ 150; omega, by show _ ≤ 420 + cpS cp (tn (g 2)); omega⟩ (jdet ?_)
                  refine J_if_eq (tgt := 307) cx dX1_init_2_277 (by decide) (fun c277 => ?_) (fun c277 => absurd c277 ((fun q => q (by simp only [r_hasNext, List.length_map]; rw [if_neg (by omega)] <;> rfl))))
                  refine J_aload_n cx dX1_init_2_307 rfl ?_
                  refine J_aload_n cx dX1_init_2_308 rfl ?_
                  refine J_get cx in_X1 (ci := 1) rfl 6 (by decide) q259 (fun _ h => h) dX1_init_2_309 hCa6 rfl ?_
                  refine J_callV (n := 0) cx (ci := 2) [] (t_X2_copy l Ω (B 6) hsh6 hsa6) dX1_init_2_312 (lw_V q1258 q1259 q1260 q91 q1261) ⟨rfl, by decide, by decide, by decide +kernel⟩ rfl hsh6 rfl rfl ⟨Nat.le_of_ble_eq_true rfl, Nat.le_of_ble_eq_true rfl⟩ rfl rfl (Nat.le_of_ble_eq_true rfl) ⟨by show _ ≤ 150; omega, by show _ ≤ 420 + cpS cp (tn (g 2)); omega⟩ (jdet ?_)
                  refine J_mem (gset (gset (gset G6 (z6 + 1) (.inl (Ω.2.1 5, 8, jAq (fun _ => none)))) (z6 + 1 + 1) (.inl (Ω.2.1 5, 8, jAq sh))) z6 (.inr (2, [.ref (z6 + 1 + 1)]))) rfl ?_
                  refine J_put cx in_X1 tyX1 tyX1_ok nmX1 (ci := 1) rfl 6 (by decide) q259 (fun _ h => h) rfl (ty := (.object "TurningWheel$Shelf")) (by decide +kernel) dX1_init_2_315 rfl rfl ((gset_ne (by omega)).trans ((gset_ne (by omega)).trans ((gset_ne (by omega)).trans hCN))) (Nat.le_of_ble_eq_true rfl) (by omega) ?_
                  refine J_mem (gset (gset (gset (gset G6 (z6 + 1) (.inl (Ω.2.1 5, 8, jAq (fun _ => none)))) (z6 + 1 + 1) (.inl (Ω.2.1 5, 8, jAq sh))) z6 (.inr (2, [.ref (z6 + 1 + 1)]))) b (.inr (1, [.ref (BN 0), .ref (BN 1), .ref (BN 2), .ref (BN 3), .ref (BN 4), .ref (BN 5), .ref z6, .int (gL g (tn (g 3)) 0), .int (gL g (tn (g 3)) 38), .int (gL g (tn (g 3)) 39), .int (gL g (tn (g 3)) 40), .int (gL g (tn (g 3)) 49), .int 0]))) rfl ?_
                  refine J_aload_n cx dX1_init_2_318 rfl ?_
                  refine J_aload_n cx dX1_init_2_319 rfl ?_
                  refine J_get cx in_X1 (ci := 1) rfl 7 (by decide) q261 (fun _ h => h) dX1_init_2_320 ((gset_ne hAa.2.2).trans ((gset_ne (by omega)).trans ((gset_ne (by omega)).trans ((gset_ne (by omega)).trans hCa6)))) rfl ?_
                  refine J_put cx in_X1 tyX1 tyX1_ok nmX1 (ci := 1) rfl 7 (by decide) q261 (fun _ h => h) rfl (ty := .int) (by decide +kernel) dX1_init_2_323 rfl rfl gset_eq (Nat.le_of_ble_eq_true rfl) (by omega) ?_
                  refine J_mem (gset (gset (gset (gset G6 (z6 + 1) (.inl (Ω.2.1 5, 8, jAq (fun _ => none)))) (z6 + 1 + 1) (.inl (Ω.2.1 5, 8, jAq sh))) z6 (.inr (2, [.ref (z6 + 1 + 1)]))) b (.inr (1, [.ref (BN 0), .ref (BN 1), .ref (BN 2), .ref (BN 3), .ref (BN 4), .ref (BN 5), .ref z6, .int (g 0), .int (gL g (tn (g 3)) 38), .int (gL g (tn (g 3)) 39), .int (gL g (tn (g 3)) 40), .int (gL g (tn (g 3)) 49), .int 0]))) gset_gset ?_
                  refine J_aload_n cx dX1_init_2_326 rfl ?_
                  refine J_aload_n cx dX1_init_2_327 rfl ?_
                  refine J_get cx in_X1 (ci := 1) rfl 8 (by decide) q263 (fun _ h => h) dX1_init_2_328 ((gset_ne hAa.2.2).trans ((gset_ne (by omega)).trans ((gset_ne (by omega)).trans ((gset_ne (by omega)).trans hCa6)))) rfl ?_
                  refine J_put cx in_X1 tyX1 tyX1_ok nmX1 (ci := 1) rfl 8 (by decide) q263 (fun _ h => h) rfl (ty := .int) (by decide +kernel) dX1_init_2_331 rfl rfl gset_eq (Nat.le_of_ble_eq_true rfl) (by omega) ?_
                  refine J_mem (gset (gset (gset (gset G6 (z6 + 1) (.inl (Ω.2.1 5, 8, jAq (fun _ => none)))) (z6 + 1 + 1) (.inl (Ω.2.1 5, 8, jAq sh))) z6 (.inr (2, [.ref (z6 + 1 + 1)]))) b (.inr (1, [.ref (BN 0), .ref (BN 1), .ref (BN 2), .ref (BN 3), .ref (BN 4), .ref (BN 5), .ref z6, .int (g 0), .int (g 38), .int (gL g (tn (g 3)) 39), .int (gL g (tn (g 3)) 40), .int (gL g (tn (g 3)) 49), .int 0]))) gset_gset ?_
                  refine J_aload_n cx dX1_init_2_334 rfl ?_
                  refine J_aload_n cx dX1_init_2_335 rfl ?_
                  refine J_get cx in_X1 (ci := 1) rfl 9 (by decide) q265 (fun _ h => h) dX1_init_2_336 ((gset_ne hAa.2.2).trans ((gset_ne (by omega)).trans ((gset_ne (by omega)).trans ((gset_ne (by omega)).trans hCa6)))) rfl ?_
                  refine J_put cx in_X1 tyX1 tyX1_ok nmX1 (ci := 1) rfl 9 (by decide) q265 (fun _ h => h) rfl (ty := .int) (by decide +kernel) dX1_init_2_339 rfl rfl gset_eq (Nat.le_of_ble_eq_true rfl) (by omega) ?_
                  refine J_mem (gset (gset (gset (gset G6 (z6 + 1) (.inl (Ω.2.1 5, 8, jAq (fun _ => none)))) (z6 + 1 + 1) (.inl (Ω.2.1 5, 8, jAq sh))) z6 (.inr (2, [.ref (z6 + 1 + 1)]))) b (.inr (1, [.ref (BN 0), .ref (BN 1), .ref (BN 2), .ref (BN 3), .ref (BN 4), .ref (BN 5), .ref z6, .int (g 0), .int (g 38), .int (g 39), .int (gL g (tn (g 3)) 40), .int (gL g (tn (g 3)) 49), .int 0]))) gset_gset ?_
                  refine J_aload_n cx dX1_init_2_342 rfl ?_
                  refine J_aload_n cx dX1_init_2_343 rfl ?_
                  refine J_get cx in_X1 (ci := 1) rfl 10 (by decide) q267 (fun _ h => h) dX1_init_2_344 ((gset_ne hAa.2.2).trans ((gset_ne (by omega)).trans ((gset_ne (by omega)).trans ((gset_ne (by omega)).trans hCa6)))) rfl ?_
                  refine J_put cx in_X1 tyX1 tyX1_ok nmX1 (ci := 1) rfl 10 (by decide) q267 (fun _ h => h) rfl (ty := .int) (by decide +kernel) dX1_init_2_347 rfl rfl gset_eq (Nat.le_of_ble_eq_true rfl) (by omega) ?_
                  refine J_mem (gset (gset (gset (gset G6 (z6 + 1) (.inl (Ω.2.1 5, 8, jAq (fun _ => none)))) (z6 + 1 + 1) (.inl (Ω.2.1 5, 8, jAq sh))) z6 (.inr (2, [.ref (z6 + 1 + 1)]))) b (.inr (1, [.ref (BN 0), .ref (BN 1), .ref (BN 2), .ref (BN 3), .ref (BN 4), .ref (BN 5), .ref z6, .int (g 0), .int (g 38), .int (g 39), .int (g 40), .int (gL g (tn (g 3)) 49), .int 0]))) gset_gset ?_
                  refine J_aload_n cx dX1_init_2_350 rfl ?_
                  refine J_aload_n cx dX1_init_2_351 rfl ?_
                  refine J_get cx in_X1 (ci := 1) rfl 11 (by decide) q269 (fun _ h => h) dX1_init_2_352 ((gset_ne hAa.2.2).trans ((gset_ne (by omega)).trans ((gset_ne (by omega)).trans ((gset_ne (by omega)).trans hCa6)))) rfl ?_
                  refine J_put cx in_X1 tyX1 tyX1_ok nmX1 (ci := 1) rfl 11 (by decide) q269 (fun _ h => h) rfl (ty := .int) (by decide +kernel) dX1_init_2_355 rfl rfl gset_eq (Nat.le_of_ble_eq_true rfl) (by omega) ?_
                  refine J_mem (gset (gset (gset (gset G6 (z6 + 1) (.inl (Ω.2.1 5, 8, jAq (fun _ => none)))) (z6 + 1 + 1) (.inl (Ω.2.1 5, 8, jAq sh))) z6 (.inr (2, [.ref (z6 + 1 + 1)]))) b (.inr (1, [.ref (BN 0), .ref (BN 1), .ref (BN 2), .ref (BN 3), .ref (BN 4), .ref (BN 5), .ref z6, .int (g 0), .int (g 38), .int (g 39), .int (g 40), .int (g 49), .int 0]))) gset_gset ?_
                  refine J_aload_n cx dX1_init_2_358 rfl ?_
                  refine J_aload_n cx dX1_init_2_359 rfl ?_
                  refine J_get cx in_X1 (ci := 1) rfl 12 (by decide) q270 (fun _ h => h) dX1_init_2_360 ((gset_ne hAa.2.2).trans ((gset_ne (by omega)).trans ((gset_ne (by omega)).trans ((gset_ne (by omega)).trans hCa6)))) rfl ?_
                  refine J_put cx in_X1 tyX1 tyX1_ok nmX1 (ci := 1) rfl 12 (by decide) q270 (fun _ h => h) rfl (ty := .int) (by decide +kernel) dX1_init_2_363 rfl rfl gset_eq (Nat.le_of_ble_eq_true rfl) (by omega) ?_
                  refine J_mem (gset (gset (gset (gset G6 (z6 + 1) (.inl (Ω.2.1 5, 8, jAq (fun _ => none)))) (z6 + 1 + 1) (.inl (Ω.2.1 5, 8, jAq sh))) z6 (.inr (2, [.ref (z6 + 1 + 1)]))) b (.inr (1, [.ref (BN 0), .ref (BN 1), .ref (BN 2), .ref (BN 3), .ref (BN 4), .ref (BN 5), .ref z6, .int (g 0), .int (g 38), .int (g 39), .int (g 40), .int (g 49), .int e9]))) gset_gset ?_
                  have hrk : row.take i9 = row := List.take_of_length_le (by omega)
                  rw [hrk] at hallN
                  have hg2t : g 2 = nI (tn (g 2)) := by rw [← hpl9]; exact hg2
                  have hg3t : g 3 = nI (tn (g 3)) := by rw [← hol9]; exact hg3
                  have hplF : plN.length = tn (g 2) := by
                      have h : nI (tn (g 2)) = nI plN.length := by
                        rw [← hg2F]; simp only [gL, gK]; rw [if_neg (by omega), if_neg (by omega)]; rfl
                      exact ((nI_eq (by omega) (by omega)).mp h).symm
                  have holF : olN.length = tn (g 3) := by
                      have h : nI (tn (g 3)) = nI olN.length := by
                        rw [← hg3F]; simp only [gL]; rfl
                      exact ((nI_eq (by omega) (by omega)).mp h).symm
                  have hkeep : ∀ q c, gdel G6 z7 q = some c → q ≠ b → (gset (gset (gset (gset G6 (z6 + 1) (.inl (Ω.2.1 5, 8, jAq (fun _ => none)))) (z6 + 1 + 1) (.inl (Ω.2.1 5, 8, jAq sh))) z6 (.inr (2, [.ref (z6 + 1 + 1)]))) b (.inr (1, [.ref (BN 0), .ref (BN 1), .ref (BN 2), .ref (BN 3), .ref (BN 4), .ref (BN 5), .ref z6, .int (g 0), .int (g 38), .int (g 39), .int (g 40), .int (g 49), .int e9]))) q = some c := fun q c hq h1 => by
                      have h2 := (gdel_some hq).2
                      have h3 := hlA6 _ _ h2
                      exact (gset_ne h1).trans ((gset_ne (by omega)).trans ((gset_ne (by omega)).trans ((gset_ne (by omega)).trans h2)))
                  have p1 : (gset (gset (gset (gset G6 (z6 + 1) (.inl (Ω.2.1 5, 8, jAq (fun _ => none)))) (z6 + 1 + 1) (.inl (Ω.2.1 5, 8, jAq sh))) z6 (.inr (2, [.ref (z6 + 1 + 1)]))) b (.inr (1, [.ref (BN 0), .ref (BN 1), .ref (BN 2), .ref (BN 3), .ref (BN 4), .ref (BN 5), .ref z6, .int (g 0), .int (g 38), .int (g 39), .int (g 40), .int (g 49), .int e9]))) z6 = some (.inr (2, [.ref (z6 + 1 + 1)])) := (gset_ne (by omega)).trans gset_eq
                  have p2 : (gset (gset (gset (gset G6 (z6 + 1) (.inl (Ω.2.1 5, 8, jAq (fun _ => none)))) (z6 + 1 + 1) (.inl (Ω.2.1 5, 8, jAq sh))) z6 (.inr (2, [.ref (z6 + 1 + 1)]))) b (.inr (1, [.ref (BN 0), .ref (BN 1), .ref (BN 2), .ref (BN 3), .ref (BN 4), .ref (BN 5), .ref z6, .int (g 0), .int (g 38), .int (g 39), .int (g 40), .int (g 49), .int e9]))) (z6 + 1 + 1) = some (.inl (Ω.2.1 5, 8, jAq sh)) := (gset_ne (by omega)).trans ((gset_ne (by omega)).trans gset_eq)
                  have p3 : rg3 b sz z7 z6 := Or.inr ⟨by omega, by omega⟩
                  have p4 : rg3 b sz z7 (z6 + 1 + 1) := Or.inr ⟨by omega, by omega⟩
                  have p5 : ∀ k, k < 8 → (sh k = none ∧ g (41 + k) = -1) ∨ ∃ w x, sh k = some w ∧ g (41 + k) ≠ -1 ∧ Ω.2.2.2 ≤ w ∧ (gset (gset (gset (gset G6 (z6 + 1) (.inl (Ω.2.1 5, 8, jAq (fun _ => none)))) (z6 + 1 + 1) (.inl (Ω.2.1 5, 8, jAq sh))) z6 (.inr (2, [.ref (z6 + 1 + 1)]))) b (.inr (1, [.ref (BN 0), .ref (BN 1), .ref (BN 2), .ref (BN 3), .ref (BN 4), .ref (BN 5), .ref z6, .int (g 0), .int (g 38), .int (g 39), .int (g 40), .int (g 49), .int e9]))) w = some (wE (g (41 + k)) (some x)) := fun k hk => by
                      rcases hsk8 k hk with h | ⟨w, x, e1, e2, e3, e4⟩
                      · exact Or.inl h
                      · have e6 := hwk _ _ _ e4
                        have e7 := hlA6 _ _ e6
                        exact Or.inr ⟨w, x, e1, e2, e3, (gset_ne (jneC e6 hCN (wE_ne5 (by decide) (by decide)))).trans ((gset_ne (by omega)).trans ((gset_ne (by omega)).trans ((gset_ne (by omega)).trans e6)))⟩
                  have hfin := hallN.reshelf (G1 := (gset (gset (gset (gset G6 (z6 + 1) (.inl (Ω.2.1 5, 8, jAq (fun _ => none)))) (z6 + 1 + 1) (.inl (Ω.2.1 5, 8, jAq sh))) z6 (.inr (2, [.ref (z6 + 1 + 1)]))) b (.inr (1, [.ref (BN 0), .ref (BN 1), .ref (BN 2), .ref (BN 3), .ref (BN 4), .ref (BN 5), .ref z6, .int (g 0), .int (g 38), .int (g 39), .int (g 40), .int (g 49), .int e9])))) (b6 := z6) (b7 := z6 + 1 + 1) (g' := g) (e' := e9) (sh' := sh) hkeep gset_eq ⟨p1, p2, p3, p4, p5⟩ (fun i hi => by simp only [gL, gK]; rw [if_neg (by omega), if_neg (by omega), if_neg (by omega), if_pos (by omega)]) (by simp only [gL, gK]; rw [if_neg (by omega), if_neg (by omega)]; exact hg2t) (fun p i hp hi _ => by simp only [gL, gK]; rw [if_neg (by omega), if_neg (by omega), if_neg (by omega), if_pos (by omega)]) (by simp only [gL]; exact hg3t) (fun k i hk hi => by simp only [gL]; rw [if_neg (by omega), if_pos (by omega)])
                  have hfrZ : ∀ q, q < sz → q ≠ b → (gset (gset (gset (gset G6 (z6 + 1) (.inl (Ω.2.1 5, 8, jAq (fun _ => none)))) (z6 + 1 + 1) (.inl (Ω.2.1 5, 8, jAq sh))) z6 (.inr (2, [.ref (z6 + 1 + 1)]))) b (.inr (1, [.ref (BN 0), .ref (BN 1), .ref (BN 2), .ref (BN 3), .ref (BN 4), .ref (BN 5), .ref z6, .int (g 0), .int (g 38), .int (g 39), .int (g 40), .int (g 49), .int e9]))) q = G q := fun q h1 h2 => (gset_ne h2).trans ((gset_ne (by omega)).trans ((gset_ne (by omega)).trans ((gset_ne (by omega)).trans (hfr8 q h1 h2))))
                  exact J_vret cx dX1_init_2_366 hr ⟨rfl, hfin.py.region (fun q c _ h => by rcases h with h | h; exact Or.inl h; exact Or.inr h.1) hA2b, hfrZ⟩ (by show _ ≤ 150; omega) (by show _ ≤ 420 + cpS cp (tn (g 2)); omega)
                | succ ni9 ihi9 =>
                  intro i9 G6 z6 hi9 hinv
                  obtain ⟨hpyN, hz8, hfr8, hit, hwk⟩ := hinv
                  have hmv : ∀ q c, G7 q = some c → q < sz → q ≠ b → G6 q = some c := fun q c hq h1 h2 => by rw [hfr8 q h1 h2, ← hfrB q h1 h2]; exact hq
                  have hrw6 : jLL Ω G6 (B 5) mcr ns (row.map fun p => Ω.2.2.1 (p + 128 + 10)) := hrw.mono (fun q c hq h => by
                      rcases h with h | h
                      · exact hmv q c hq (by rw [h]; exact hB5.1) (by rw [h]; exact hB5.2)
                      · exact hmv q c hq (hnlt q h).1 (hnlt q h).2)
                  refine J_ltA (fun hlA6 => ?_)
                  have hpyF : isPy Ω (rg3 b sz z7) (gdel G6 z7) b (gL g (tn (g 3))) D cp (row.take i9) 0 := hpyN.mono (fun q c hq h => gdel_ne hq (by
                      rcases h with h | ⟨k, x, h⟩
                      · rcases h with h | h
                        · omega
                        · exact h.2
                      · exact jneC hq hit (by rw [h]; exact wE_ne5 (by decide) (by decide))))
                  obtain ⟨BN, plN, olN, nsN, drN, shN, hallN⟩ := hpyF.all
                  obtain ⟨⟨hAaN, hCF⟩, -, ⟨mpF, -, -, -, hg2F, hp16F, -⟩, ⟨moF, -, -, -, hg3F, ho8F, -⟩, ⟨mrN, hrwF, hA5N, hAnsN, hr16N⟩, -⟩ := id hallN
                  have hCN := (gdel_some hCF).2
                  have hrwN : jLL Ω G6 (BN 5) mrN nsN ((row.take i9).map fun p => Ω.2.2.1 (p + 128 + 10)) := hrwF.mono (fun q c hq _ => (gdel_some hq).2)
                  have hnsz : ∀ n, n ∈ nsN → n ≠ z7 ∧ n < z6 := fun n hn => by obtain ⟨fs, h9⟩ := hrwF.nodes hn; exact ⟨(gdel_some h9).1, hlA6 _ _ (gdel_some h9).2⟩
                  have hB5N : BN 5 ≠ z7 ∧ BN 5 < z6 := ⟨(gdel_some hrwF.1).1, hlA6 _ _ (gdel_some hrwF.1).2⟩
                  have hbb5 : Ω.2.2.2 ≤ BN 5 := hrwN.2.2.2.2.1
                  have hnN : nsN.length ≤ 16 := by have h9 := hrwN.2.1; rw [List.length_map, List.length_take] at h9; omega
                  have hCa6 := hmv _ _ hC hAa.2.1 hAa.2.2
                  have hsh6 := hmv _ _ hsh hA6.2.1 hA6.2.2
                  have hsa6 := hmv _ _ hsa hA7.2.1 hA7.2.2
                  have hlb : a < sz ∧ B 6 < sz ∧ B 7 < sz := ⟨hAa.2.1, hA6.2.1, hA7.2.1⟩
                  obtain ⟨r9, hr9⟩ := jget (ns := row) (i := i9) (by omega)
                  have hr8 : r9 < 16 := hr16 _ (List.mem_of_getElem? hr9)
                  have hrm : (row.map fun p => Ω.2.2.1 (p + 128 + 10))[i9]? = some (Ω.2.2.1 (r9 + 128 + 10)) := by rw [List.getElem?_map, hr9]; rfl
                  refine J_aload_n cx dX1_init_2_271 rfl ?_
                  refine J_callF (n := 0) cx (ci := 32) [] (t_LL_hasNext l Ω hrw6 hit (by omega)) dX1_init_2_272 q783 q733 q779 q781 q110 q735 q734 q782 q780 q778 ⟨by decide, by decide, by decide +kernel⟩ rfl hit rfl rfl ⟨Nat.le_of_ble_eq_true rfl, Nat.le_of_ble_eq_true rfl⟩ rfl rfl (Nat.le_of_ble_eq_true rfl) ⟨by show _ ≤ 150; omega, by show _ ≤ 420 + cpS cp (tn (g 2)); omega⟩ (jdet ?_)
                  refine J_if_eq (tgt := 307) cx dX1_init_2_277 (by decide) (fun c277 => absurd c277 ((fun q => absurd q (by simp only [r_hasNext, List.length_map]; rw [if_pos (by omega)]; decide)))) (fun c277 => ?_)
                  refine J_aload_n cx dX1_init_2_280 rfl ?_
                  refine J_callF (n := 0) cx (ci := 32) [] (t_LL_next l Ω hrw6 hit hrm (by omega)) dX1_init_2_281 q1198 q785 q1194 q1196 q110 q787 q786 q1197 q1195 q778 ⟨by decide, by decide, by decide +kernel⟩ rfl hit rfl rfl ⟨Nat.le_of_ble_eq_true rfl, Nat.le_of_ble_eq_true rfl⟩ rfl rfl (Nat.le_of_ble_eq_true rfl) ⟨by show _ ≤ 150; omega, by show _ ≤ 420 + cpS cp (tn (g 2)); omega⟩ (jdet ?_)
                  refine J_mem (gset G6 z7 (itE ns (B 5) (i9 + 1) mcr)) rfl ?_
                  refine J_castBox cx (n9 := r9) (by omega) dX1_init_2_286 q1204 ?_
                  refine J_intValue cx (n9 := r9) (by omega) dX1_init_2_289 q1205 ⟨Nat.le_of_ble_eq_true rfl, Nat.le_of_ble_eq_true rfl⟩ (Nat.le_of_ble_eq_true rfl) ⟨by show _ ≤ 150; omega, by show _ ≤ 420 + cpS cp (tn (g 2)); omega⟩ ?_
                  refine J_istore_n3 cx dX1_init_2_292 (by decide) rfl ?_
                  refine J_aload_n cx dX1_init_2_293 rfl ?_
                  refine J_get cx in_X1 (ci := 1) rfl 5 (by decide) q257 (fun _ h => h) dX1_init_2_294 ((gset_ne (by omega)).trans hCN) rfl ?_
                  refine J_iload_n cx dX1_init_2_297 rfl ?_
                  refine J_valueOf cx (n9 := r9) (by omega) dX1_init_2_298 q1209 ⟨Nat.le_of_ble_eq_true rfl, Nat.le_of_ble_eq_true rfl⟩ (Nat.le_of_ble_eq_true rfl) ⟨by show _ ≤ 150; omega, by show _ ≤ 420 + cpS cp (tn (g 2)); omega⟩ ?_
                  refine J_callV (n := 1) cx (ci := 29) [.ref (Ω.2.2.1 (r9 + 128 + 10))] (t_LL_add l Ω (v := Ω.2.2.1 (r9 + 128 + 10)) (hrwN.put2 hB5N.1 (fun n hn => by have := hnsz n hn; omega)) (by omega)) dX1_init_2_301 (lw_V q1229 q1230 q1231 q90 q1232) ⟨rfl, by decide, by decide, by decide +kernel⟩ rfl (hrwN.put2 hB5N.1 (fun n hn => by have := hnsz n hn; omega)).1 rfl rfl ⟨Nat.le_of_ble_eq_true rfl, Nat.le_of_ble_eq_true rfl⟩ rfl rfl (Nat.le_of_ble_eq_true rfl) ⟨by show _ ≤ 150; omega, by show _ ≤ 420 + cpS cp (tn (g 2)); omega⟩ (fun v9 G9 z9 hp9 _ => ?_)
                  obtain ⟨e1, e2, hrw2, hfr2⟩ := hp9
                  subst e1; subst e2
                  have hadd := hallN.rowed (G1 := G9) (ns' := nsN ++ [z6]) (row' := row.take (i9 + 1)) (fun q c hq h1 h2 => by
                      obtain ⟨e1, e2⟩ := gdel_some hq
                      exact (hfr2 q (hlA6 _ _ e2) h1 h2).trans ((gset_ne e1).trans e2)) ⟨_, by rw [List.take_succ, hr9, List.map_append]; exact hrw2, hA5N, fun n hn => by
                      rcases List.mem_append.mp hn with h | h
                      · exact hAnsN n h
                      · simp at h; rw [h]; exact Or.inr ⟨by omega, by omega⟩, fun p hp => hr16 p (List.mem_of_mem_take hp)⟩
                  have hfr9 : ∀ q, q < sz → q ≠ b → G9 q = G q := fun q h1 h2 => (hfr2 q (by omega) (fun e => by rcases hA5N with h | h <;> omega) (fun e => by rcases hAnsN q e with h | h <;> omega)).trans ((gset_ne (by omega)).trans (hfr8 q h1 h2))
                  have hit9 : G9 z7 = some (itE ns (B 5) (i9 + 1) mcr) := (hfr2 z7 (by omega) (Ne.symm hB5N.1) (fun e => (hnsz _ e).1 rfl)).trans gset_eq
                  have hwk9 : ∀ w k x, G7 w = some (wE k x) → G9 w = some (wE k x) := fun w k x h => by
                      have h1 := hwk w k x h
                      have h2 := hlA6 _ _ h1
                      exact (hfr2 w h2 (jneC h1 hrwN.1 (wE_ne5 (by decide) (by decide))) (fun e => by
                        obtain ⟨fs, h3⟩ := hrwN.nodes e
                        exact jneC h1 h3 (wE_ne5 (by decide) (by decide)) rfl)).trans ((gset_ne (jneC h1 hit (wE_ne5 (by decide) (by decide)))).trans h1)
                  refine J_goto (tgt := 271) cx dX1_init_2_304 (by decide) ?_
                  refine J_sub (L1 := [some (.ref b), some (.ref a), some (.ref z7), none]) (jsub_s (jsub_s (jsub_s (jsub_n jsub_0)))) ?_
                  refine J_widen (cells' := 130 + (i9 + 1)) (slots' := 340 + cpS cp (tn (g 2)) + 3 * (i9 + 1)) (by omega) (by omega) ?_
                  exact ihi9 (i9 + 1) _ _ (by omega) ⟨hadd.py, by omega, hfr9, hit9, hwk9⟩
              refine J_sub (L1 := [some (.ref b), some (.ref a), some (.ref z7), none]) (jsub_s (jsub_s (jsub_s (jsub_n jsub_0)))) ?_
              refine J_widen (cells' := 130 + 0) (slots' := 340 + cpS cp (tn (g 2)) + 3 * 0) (by omega) (by omega) ?_
              exact K271 (row.length) 0 _ _ (by omega) ⟨hpyM.mono (fun q c hq h => (gset_ne (by have := hlA9 q c hq; omega)).trans hq), by omega, fun q h1 h2 => (gset_ne (by omega)).trans (hfrB q h1 h2), gset_eq, fun w k x h => (gset_ne (by have := hlA9 _ _ h; omega)).trans h⟩
            | succ nj9 ihj9 =>
              intro j9 G7 z7 hj9 hinv
              obtain ⟨hpyN, hz8, hfr8⟩ := hinv
              have hpyO : isPy Ω (rgO A sz b) G7 a g D cp row e9 := (hpy.region (A' := rgO A sz b) (fun q c hq h => ⟨h, hlA0 q c hq, hnb q c hq (Or.inl h)⟩) (fun q h => ebp0 q h.1)).mono (fun q c hq h => (hfr8 q (hlA0 q c hq) (hnb q c hq (h.imp (fun x => x.1) id))).trans hq)
              obtain ⟨B, pl, ol, ns, dr, sh, hall⟩ := hpyO.all
              obtain ⟨⟨hAa, hC⟩, hI, hP, hO, hR, hS, hX⟩ := id hall
              obtain ⟨mcp, hps, hA3, hA8, hg2, hp16, hPp, hdr⟩ := id hP
              obtain ⟨mco, hos, hA4, hA9, hg3, ho8, hond, hOo⟩ := id hO
              obtain ⟨sf, df, kf, nk, hIA, hse, hsf, hdry, hdf, hsk, hnk, hg1, hkf⟩ := id hI
              obtain ⟨mcr, hrw, hA5, hAns, hr16⟩ := id hR
              obtain ⟨hsh, hsa, hA6, hA7, hsk8⟩ := id hS
              have ebp := hX.2.2
              refine J_ltA (fun hlA9 => ?_)
              have hne9 : jNe Ω := cx.kw.ne
              have hal3 := hps.lt hlA9
              have hal4 := hos.lt hlA9
              have hbA := ebp _ hAa
              have hb0 := ebp _ hIA.1
              have hb1 := ebp _ hIA.2.1
              have hb2 := ebp _ hIA.2.2
              have hb3 := ebp _ hA3
              have hb4 := ebp _ hA4
              have hb5 := ebp _ hA5
              have hb6 := ebp _ hA6
              have hb7 := ebp _ hA7
              have hqa : jHide _ := hall.neO hC
              refine J_lt hC (fun hlt0 => ?_)
              refine J_lt hse (fun hlt1 => ?_)
              refine J_lt hdry (fun hlt2 => ?_)
              refine J_lt hsk (fun hlt3 => ?_)
              refine J_lt hsh (fun hlt6 => ?_)
              refine J_lt hsa (fun hlt7 => ?_)
              have hpl9 : pl.length = tn (g 2) := by rw [hg2, tn_nI (by omega)]
              have hol9 : ol.length = tn (g 3) := by rw [hg3, tn_nI (by omega)]
              obtain ⟨BN, plN, olN, nsN, drN, shN, hallN⟩ := hpyN.all
              obtain ⟨⟨hAaN, hCN⟩, -, ⟨mcN, hpsN, hA3N, hA8N, hg2N, hp16N, hPpN, hdrN⟩, ⟨moN, hosN, hA4N, hA9N, hg3N, ho8N, hondN, hOoN⟩, -⟩ := id hallN
              have halN := hpsN.lt hlA9
              have haoN := hosN.lt hlA9
              have hA3M : jHide (BN 3 = b ∨ sz ≤ BN 3) := hA3N
              have hA4M : jHide (BN 4 = b ∨ sz ≤ BN 4) := hA4N
              have hA8M : jHide (BN 10 ≠ 0 → (BN 8 = b ∨ sz ≤ BN 8)) := hA8N
              have hA9M : jHide (BN 11 ≠ 0 → (BN 9 = b ∨ sz ≤ BN 9)) := hA9N
              refine J_lt hCN (fun hltN => ?_)
              have holN : olN.length = j9 := by have h := hg3N; simp only [gL, if_true] at h; exact ((nI_eq (by omega) (by omega)).mp h).symm
              refine J_iload_n cx dX1_init_2_220 rfl ?_
              refine J_aload_n cx dX1_init_2_221 rfl ?_
              refine J_get cx in_X1 (ci := 1) rfl 4 (by decide) q255 (fun _ h => h) dX1_init_2_222 hC rfl ?_
              refine J_al_size cx dX1_init_2_225 q410 hos ⟨Nat.le_of_ble_eq_true rfl, Nat.le_of_ble_eq_true rfl⟩ (Nat.le_of_ble_eq_true rfl) ⟨by show _ ≤ 150; omega, by show _ ≤ 420 + cpS cp (tn (g 2)); omega⟩ ?_
              refine J_icmpN_ge (tgt := 263) cx dX1_init_2_228 (by decide) (by omega) (by omega) (fun c228 => absurd c228 (by omega)) (fun c228 => ?_)
              refine J_aload_n cx dX1_init_2_231 rfl ?_
              refine J_get cx in_X1 (ci := 1) rfl 4 (by decide) q255 (fun _ h => h) dX1_init_2_232 hCN rfl ?_
              refine J_new cx in_X9 tyX9 tyX9_ok q609 q610 q105 (ci := 7) rfl (fs := [.int 0, .int 0, .int 0, .int 0, .int 0, .int 0]) (by decide +kernel) dX1_init_2_235 (by show _ ≤ 150; omega) (by show _ ≤ 420 + cpS cp (tn (g 2)); omega) ?_
              refine J_dup cx dX1_init_2_238 rfl ?_
              refine J_aload_n cx dX1_init_2_239 rfl ?_
              refine J_get cx in_X1 (ci := 1) rfl 4 (by decide) q255 (fun _ h => h) dX1_init_2_240 ((gset_ne (by omega)).trans hC) rfl ?_
              refine J_iload_n cx dX1_init_2_243 rfl ?_
              obtain ⟨y15, hy15⟩ := jget (ns := ol) (i := j9) (by omega)
              obtain ⟨hAy15, hc15⟩ := hOo _ _ hy15
              have hq15 : jHide _ := hall.neO hc15
              refine J_al_get cx dX1_init_2_244 q413 (hos.put2 (by omega) (by omega)) hy15 ⟨Nat.le_of_ble_eq_true rfl, Nat.le_of_ble_eq_true rfl⟩ (Nat.le_of_ble_eq_true rfl) ⟨by show _ ≤ 150; omega, by show _ ≤ 420 + cpS cp (tn (g 2)); omega⟩ ?_
              have hzo : y15 < z7 := hlA9 _ _ hc15
              refine J_castS (q := (RX9, TX9, 6)) cx dX1_init_2_247 q609 (ci := 7) rfl ((gset_ne (by omega)).trans hc15) ?_
              refine J_callI (n := 1) cx [.ref y15] (t_X9_init l Ω z7 y15 gset_eq ((gset_ne (by omega)).trans hc15) (by omega) (by omega)) dX1_init_2_250 q613 q105 q611 q612 rfl ⟨by decide, by decide, by decide +kernel⟩ rfl rfl ⟨Nat.le_of_ble_eq_true rfl, Nat.le_of_ble_eq_true rfl⟩ rfl rfl (Nat.le_of_ble_eq_true rfl) ⟨by show _ ≤ 150; omega, by show _ ≤ 420 + cpS cp (tn (g 2)); omega⟩ (jdet ?_)
              refine J_mem (gset G7 z7 (.inr (7, [.int (gO g j9 0), .int (gO g j9 1), .int (gO g j9 2), .int (gO g j9 3), .int (gO g j9 4), .int (gO g j9 5)]))) gset_gset ?_
              have hmL : mAL olN.length (BN 11) ≤ 22 := mAL_le (by omega) (by rcases hosN.room with ⟨h3, h4⟩ | ⟨h3, h4⟩ <;> omega)
              refine J_al_add cx (ci9 := 7) dX1_init_2_253 q512 (hosN.put2 (by omega) (by omega)) (hA2b _ hA4N) rfl gset_eq q3053 (by omega) (fun y hy => by obtain ⟨i, hi⟩ := List.getElem?_of_mem hy; have hc8 := (hOoN i y hi).2; have hy8 := hlA9 _ _ hc8; exact ⟨7, _, _, rfl, (gset_ne (by omega)).trans (hc8), q3053⟩) (by omega) ⟨Nat.le_of_ble_eq_true rfl, Nat.le_of_ble_eq_true rfl⟩ (Nat.le_of_ble_eq_true rfl) ⟨by show _ ≤ 150; omega, by show _ ≤ 420 + cpS cp (tn (g 2)); omega⟩ (fun G9 z9 ed9 cap9 hal9 hed9 hz9a hz9b hlt9 hfr9 => ?_)
              have hfrG : ∀ q c, G7 q = some c → q ≠ BN 4 → (BN 11 ≠ 0 → q ≠ BN 9) → G9 q = some c := fun q c hq h2 h3 => (hfr9 q (by have := hlA9 _ _ hq; omega) h2 h3).trans ((gset_ne (by have := hlA9 _ _ hq; omega)).trans (hq))
              have hedN : (ed9 = BN 9 ∧ BN 11 ≠ 0) ∨ ((rg2 b sz) ed9 ∧ ∀ q c, G7 q = some c → q ≠ ed9) := by
                  rcases hed9 with e | e
                  · by_cases h10 : BN 11 = 0
                    · exact absurd (hal9.based (by simp)) (by rcases hosN.room with ⟨h3, h4⟩ | ⟨h3, h4⟩ <;> omega)
                    · exact Or.inl ⟨e, h10⟩
                  · exact Or.inr ⟨Or.inr (by omega), fun q c hq => by have := hlA9 _ _ hq; omega⟩
              have hfrK : ∀ q, q < sz → q ≠ b → G9 q = G q := fun q h1 h2 => (hfr9 q (by omega) (by have := hA4M.get; omega) (fun h10 => by have := hA9M.get h10; omega)).trans ((gset_ne (by omega)).trans (hfr8 q h1 h2))
              have hadd := hallN.addOrder hne9 (y := z7) (n := j9) (g' := gL g (j9 + 1)) holN (by omega) hfrG hal9 hedN (Or.inr (by omega)) (fun hm => by obtain ⟨i, hi⟩ := List.getElem?_of_mem hm; have := hlA9 _ _ (hOoN i _ hi).2; omega) ((hfr9 z7 (by omega) (by omega) (fun h10 => by have := haoN.2 h10; omega)).trans (gset_eq.trans (by simp only [ordE, gO]; rw [gL_ord g j9 0 (by omega), gL_ord g j9 1 (by omega), gL_ord g j9 2 (by omega), gL_ord g j9 3 (by omega), gL_ord g j9 4 (by omega), gL_ord g j9 5 (by omega)]))) (fun i _ h2 h3 => gL_step g j9 i h2 h3) (by simp only [gL, if_true])
              refine J_pop cx dX1_init_2_256 rfl ?_
              refine J_iinc2 (v := nI (j9 + 1)) cx dX1_init_2_257 (nI_1 j9) (by decide) rfl ?_
              refine J_goto (tgt := 220) cx dX1_init_2_260 (by decide) ?_
              refine J_sub (L1 := [some (.ref b), some (.ref a), some (.int (nI (j9 + 1))), none]) (jsub_s (jsub_s (jsub_s (jsub_n jsub_0)))) ?_
              refine J_widen (cells' := 100 + 2 * (j9 + 1)) (slots' := 100 + cpS cp (tn (g 2)) + 28 * (j9 + 1)) (by omega) (by omega) ?_
              exact ihj9 (j9 + 1) _ _ (by omega) ⟨hadd.py, by omega, hfrK⟩
          refine J_sub (L1 := [some (.ref b), some (.ref a), some (.int (nI (0))), none]) (jsub_s (jsub_s (jsub_s (jsub_n jsub_0)))) ?_
          refine J_widen (cells' := 100 + 2 * 0) (slots' := 100 + cpS cp (tn (g 2)) + 28 * 0) (by omega) (by omega) ?_
          exact K220 (tn (g 3)) 0 _ _ (by omega) ⟨by rw [gL_0]; rw [show k9 = tn (g 2) by omega] at hpyN; exact hpyN, hz8, hfr8⟩
        | succ nk9 ihk9 =>
          intro k9 G8 z8 hk9 hinv
          obtain ⟨hpyN, hz8, hfr8⟩ := hinv
          have hpyO : isPy Ω (rgO A sz b) G8 a g D cp row e9 := (hpy.region (A' := rgO A sz b) (fun q c hq h => ⟨h, hlA0 q c hq, hnb q c hq (Or.inl h)⟩) (fun q h => ebp0 q h.1)).mono (fun q c hq h => (hfr8 q (hlA0 q c hq) (hnb q c hq (h.imp (fun x => x.1) id))).trans hq)
          obtain ⟨B, pl, ol, ns, dr, sh, hall⟩ := hpyO.all
          obtain ⟨⟨hAa, hC⟩, hI, hP, hO, hR, hS, hX⟩ := id hall
          obtain ⟨mcp, hps, hA3, hA8, hg2, hp16, hPp, hdr⟩ := id hP
          obtain ⟨mco, hos, hA4, hA9, hg3, ho8, hond, hOo⟩ := id hO
          obtain ⟨sf, df, kf, nk, hIA, hse, hsf, hdry, hdf, hsk, hnk, hg1, hkf⟩ := id hI
          obtain ⟨mcr, hrw, hA5, hAns, hr16⟩ := id hR
          obtain ⟨hsh, hsa, hA6, hA7, hsk8⟩ := id hS
          have ebp := hX.2.2
          refine J_ltA (fun hlA9 => ?_)
          have hne9 : jNe Ω := cx.kw.ne
          have hal3 := hps.lt hlA9
          have hal4 := hos.lt hlA9
          have hbA := ebp _ hAa
          have hb0 := ebp _ hIA.1
          have hb1 := ebp _ hIA.2.1
          have hb2 := ebp _ hIA.2.2
          have hb3 := ebp _ hA3
          have hb4 := ebp _ hA4
          have hb5 := ebp _ hA5
          have hb6 := ebp _ hA6
          have hb7 := ebp _ hA7
          have hqa : jHide _ := hall.neO hC
          refine J_lt hC (fun hlt0 => ?_)
          refine J_lt hse (fun hlt1 => ?_)
          refine J_lt hdry (fun hlt2 => ?_)
          refine J_lt hsk (fun hlt3 => ?_)
          refine J_lt hsh (fun hlt6 => ?_)
          refine J_lt hsa (fun hlt7 => ?_)
          have hpl9 : pl.length = tn (g 2) := by rw [hg2, tn_nI (by omega)]
          have hol9 : ol.length = tn (g 3) := by rw [hg3, tn_nI (by omega)]
          obtain ⟨BN, plN, olN, nsN, drN, shN, hallN⟩ := hpyN.all
          obtain ⟨⟨hAaN, hCN⟩, -, ⟨mcN, hpsN, hA3N, hA8N, hg2N, hp16N, hPpN, hdrN⟩, ⟨moN, hosN, hA4N, hA9N, hg3N, ho8N, hondN, hOoN⟩, -⟩ := id hallN
          have halN := hpsN.lt hlA9
          have haoN := hosN.lt hlA9
          have hA3M : jHide (BN 3 = b ∨ sz ≤ BN 3) := hA3N
          have hA4M : jHide (BN 4 = b ∨ sz ≤ BN 4) := hA4N
          have hA8M : jHide (BN 10 ≠ 0 → (BN 8 = b ∨ sz ≤ BN 8)) := hA8N
          have hA9M : jHide (BN 11 ≠ 0 → (BN 9 = b ∨ sz ≤ BN 9)) := hA9N
          refine J_lt hCN (fun hltN => ?_)
          have hplN : plN.length = k9 := by have h := hg2N; simp only [gK, if_true] at h; exact ((nI_eq (by omega) (by omega)).mp h).symm
          have hcpS : cpS cp k9 ≤ cpS cp (tn (g 2)) := cpS_mono cp (by omega)
          refine J_iload_n cx dX1_init_2_175 rfl ?_
          refine J_aload_n cx dX1_init_2_176 rfl ?_
          refine J_get cx in_X1 (ci := 1) rfl 3 (by decide) q253 (fun _ h => h) dX1_init_2_177 hC rfl ?_
          refine J_al_size cx dX1_init_2_180 q410 hps ⟨Nat.le_of_ble_eq_true rfl, Nat.le_of_ble_eq_true rfl⟩ (Nat.le_of_ble_eq_true rfl) ⟨by show _ ≤ 150; omega, by show _ ≤ 420 + cpS cp (tn (g 2)); omega⟩ ?_
          refine J_icmpN_ge (tgt := 218) cx dX1_init_2_183 (by decide) (by omega) (by omega) (fun c183 => absurd c183 (by omega)) (fun c183 => ?_)
          refine J_aload_n cx dX1_init_2_186 rfl ?_
          refine J_get cx in_X1 (ci := 1) rfl 3 (by decide) q253 (fun _ h => h) dX1_init_2_187 hCN rfl ?_
          refine J_new cx in_X6 tyX6 tyX6_ok q411 q412 q96 (ci := 5) rfl (fs := [.int 0, .int 0, .int 0, .int 0, .int 0, .int 0, .int 0, .float 0, .null, .int 0, .null, .int 0]) (by decide +kernel) dX1_init_2_190 (by show _ ≤ 150; omega) (by show _ ≤ 420 + cpS cp (tn (g 2)); omega) ?_
          refine J_dup cx dX1_init_2_193 rfl ?_
          refine J_aload_n cx dX1_init_2_194 rfl ?_
          refine J_get cx in_X1 (ci := 1) rfl 3 (by decide) q253 (fun _ h => h) dX1_init_2_195 ((gset_ne (by omega)).trans hC) rfl ?_
          refine J_iload_n cx dX1_init_2_198 rfl ?_
          obtain ⟨y16, hy16⟩ := jget (ns := pl) (i := k9) (by omega)
          obtain ⟨hAy16, hAd16, w16, f16, hc16, hn16, hw16, hwb16, hd16, hl16, hm16, hu16, he16, hf16, hv16⟩ := hPp _ _ hy16
          have hq16 : jHide _ := hall.neP hne9 hc16 hd16 hw16
          have hz16 : y16 < z8 ∧ dr k9 < z8 ∧ w16 < z8 := ⟨hlA9 _ _ hc16, hlA9 _ _ hd16, hlA9 _ _ hw16⟩
          refine J_al_get cx dX1_init_2_199 q413 (hps.put2 (by omega) (by omega)) hy16 ⟨Nat.le_of_ble_eq_true rfl, Nat.le_of_ble_eq_true rfl⟩ (Nat.le_of_ble_eq_true rfl) ⟨by show _ ≤ 150; omega, by show _ ≤ 420 + cpS cp (tn (g 2)); omega⟩ ?_
          refine J_castS (q := (RX6, TX6, 12)) cx dX1_init_2_202 q411 (ci := 5) rfl ((gset_ne (by omega)).trans hc16) ?_
          have hS1 : cpS cp k9 + (35 + cp k9) ≤ cpS cp (tn (g 2)) := cpS_mono cp (k := k9 + 1) (by omega)
          refine J_callI (n := 1) cx [.ref y16] (t_X6_init l Ω z8 y16 gset_eq ((gset_ne (by omega)).trans hc16) ((gset_ne (by omega)).trans hd16) hf16 rfl hv16 (by omega) (by omega)) dX1_init_2_205 q429 q96 q427 q428 rfl ⟨by decide, by decide, by decide +kernel⟩ rfl rfl ⟨Nat.le_of_ble_eq_true rfl, Nat.le_of_ble_eq_true rfl⟩ rfl rfl (Nat.le_of_ble_eq_true rfl) ⟨by show _ ≤ 150; omega, by show _ ≤ 420 + cpS cp (tn (g 2)); omega⟩ (jdet ?_)
          refine J_mem (gset (gset (gset (gset G8 (z8 + 1) (.inl (Ω.2.1 1, 0, .inl (fun _ => 0)))) (z8 + 1 + 1) (.inr (6, [.int (nI (k9))]))) (z8 + 1 + 1 + 1) (.inl (Ω.2.1 1, cp k9, .inl f16))) z8 (.inr (5, [.int (nI (k9)), .int (gP g k9 1), .int (gP g k9 2), .int (gP g k9 3), .int (gP g k9 0), .int (gP g k9 4), .int (gP g k9 5), .float ((gP g k9 11).toUInt32), .ref w16, .int (gP g k9 10), .ref (z8 + 1 + 1 + 1), .int (nI ((D k9).length))]))) (by funext q9; simp only [gset]; by_cases hq9 : q9 = z8 <;> simp [hq9]) ?_
          have hmL : mAL plN.length (BN 10) ≤ 22 := mAL_le (by omega) (by rcases hpsN.room with ⟨h3, h4⟩ | ⟨h3, h4⟩ <;> omega)
          refine J_al_add cx (ci9 := 5) dX1_init_2_208 q512 ((((hpsN.put2 (by omega) (by omega)).put2 (by omega) (by omega)).put2 (by omega) (by omega)).put2 (by omega) (by omega)) (hA2b _ hA3N) rfl gset_eq q3051 (by omega) (fun y hy => by obtain ⟨i, hi⟩ := List.getElem?_of_mem hy; obtain ⟨-, -, w8, d8, hc8, -⟩ := hPpN i y hi; have hy8 := hlA9 _ _ hc8; exact ⟨5, _, _, rfl, (gset_ne (by omega)).trans ((gset_ne (by omega)).trans ((gset_ne (by omega)).trans ((gset_ne (by omega)).trans (hc8)))), q3051⟩) (by omega) ⟨Nat.le_of_ble_eq_true rfl, Nat.le_of_ble_eq_true rfl⟩ (Nat.le_of_ble_eq_true rfl) ⟨by show _ ≤ 150; omega, by show _ ≤ 420 + cpS cp (tn (g 2)); omega⟩ (fun G9 z9 ed9 cap9 hal9 hed9 hz9a hz9b hlt9 hfr9 => ?_)
          have hfrG : ∀ q c, G8 q = some c → q ≠ BN 3 → (BN 10 ≠ 0 → q ≠ BN 8) → G9 q = some c := fun q c hq h2 h3 => (hfr9 q (by have := hlA9 _ _ hq; omega) h2 h3).trans ((gset_ne (by have := hlA9 _ _ hq; omega)).trans ((gset_ne (by have := hlA9 _ _ hq; omega)).trans ((gset_ne (by have := hlA9 _ _ hq; omega)).trans ((gset_ne (by have := hlA9 _ _ hq; omega)).trans (hq)))))
          have hedN : (ed9 = BN 8 ∧ BN 10 ≠ 0) ∨ ((rg2 b sz) ed9 ∧ ∀ q c, G8 q = some c → q ≠ ed9) := by
              rcases hed9 with e | e
              · by_cases h10 : BN 10 = 0
                · exact absurd (hal9.based (by simp)) (by rcases hpsN.room with ⟨h3, h4⟩ | ⟨h3, h4⟩ <;> omega)
                · exact Or.inl ⟨e, h10⟩
              · exact Or.inr ⟨Or.inr (by omega), fun q c hq => by have := hlA9 _ _ hq; omega⟩
          have hfrK : ∀ q, q < sz → q ≠ b → G9 q = G q := fun q h1 h2 => (hfr9 q (by omega) (by have := hA3M.get; omega) (fun h10 => by have := hA8M.get h10; omega)).trans ((gset_ne (by omega)).trans ((gset_ne (by omega)).trans ((gset_ne (by omega)).trans ((gset_ne (by omega)).trans (hfr8 q h1 h2)))))
          have hjp : jPot Ω G9 z8 k9 (gP (gK g (k9 + 1)) k9) (D k9) (z8 + 1 + 1 + 1) (cp k9) := jPot.congr (f := gP g k9) ⟨w16, f16, ((hfr9 (z8) (by omega) (by omega) (fun h10 => by have := halN.2 h10; omega)).trans (gset_eq)), hn16, hfrG _ _ hw16 (jneC hw16 hpsN.cells.1.choose_spec (wE_ne5 (by decide) (by decide))) (fun h10 => jneC hw16 (hpsN.cells.2 h10).choose_spec wE_neA), hwb16, ((hfr9 (z8 + 1 + 1 + 1) (by omega) (by omega) (fun h10 => by have := halN.2 h10; omega)).trans ((gset_ne (by omega)).trans (gset_eq))), hl16, hm16, hu16, he16, hf16, hv16⟩ (fun i hi _ => gK_pot g k9 i (by omega))
          have hadd := hallN.addPot hne9 (y := z8) (dr1 := z8 + 1 + 1 + 1) (cp1 := cp k9) (n := k9) (g' := gK g (k9 + 1)) (d0 := D k9) hplN (by omega) (fun q c hq _ h2 h3 => hfrG q c hq h2 h3) hal9 hedN (Or.inr (by omega)) (Or.inr (by omega)) (fun q c hq => by have := hlA9 _ _ hq; omega) hjp (fun i _ h2 h3 => gK_step g k9 i h2 h3) (by simp only [gK, if_true])
          rw [show (fun p => if p = k9 then D k9 else D p) = D from by funext p; by_cases h : p = k9 <;> simp [h], show (fun p => if p = k9 then cp k9 else cp p) = cp from by funext p; by_cases h : p = k9 <;> simp [h]] at hadd
          refine J_pop cx dX1_init_2_211 rfl ?_
          refine J_iinc2 (v := nI (k9 + 1)) cx dX1_init_2_212 (nI_1 k9) (by decide) rfl ?_
          refine J_goto (tgt := 175) cx dX1_init_2_215 (by decide) ?_
          refine J_sub (L1 := [some (.ref b), some (.ref a), some (.int (nI (k9 + 1))), none]) (jsub_s (jsub_s (jsub_s (jsub_n jsub_0)))) ?_
          refine J_widen (cells' := 20 + 5 * (k9 + 1)) (slots' := 100 + cpS cp (k9 + 1)) (by omega) (by simp only [cpS]; omega) ?_
          exact ihk9 (k9 + 1) _ _ (by omega) ⟨hadd.py, by omega, hfrK⟩
      refine J_sub (L1 := [some (.ref b), some (.ref a), some (.int (nI (0))), none]) (jsub_s (jsub_s (jsub_s (jsub_n jsub_0)))) ?_
      refine J_widen (cells' := 20 + 5 * 0) (slots' := 100 + cpS cp 0) (by omega) (by simp only [cpS]; omega) ?_
      have ma : (gset (gset (gset (gset (gset (gset (gset (gset (gset (gset (gset (gset G sz (.inl (Ω.2.1 0, 6, .inl (upd (upd (upd (upd (upd (upd (fun _ => 0) 0 (nI (1))) 1 (nI (3))) 2 (nI (5))) 3 (nI (8))) 4 (nI (150))) 5 (nI (12)))))) (sz + 1 + 1) (.inl (Ω.2.1 0, 0, .inl (fun _ => 0)))) (sz + 1 + 1 + 1) (.inr (28, [.int (nI (0)), .ref (Ω.2.2.1 0), .int 0]))) (sz + 1 + 1 + 1 + 1) (.inr (28, [.int (nI (0)), .ref (Ω.2.2.1 0), .int 0]))) (sz + 1 + 1 + 1 + 1 + 1) (.inr (29, [.int (nI (0)), .int (nI (0)), .null, .null]))) (sz + 1 + 1 + 1 + 1 + 1 + 1 + 1) (.inl (Ω.2.1 5, 8, jAq (fun _ => none)))) (sz + 1 + 1 + 1 + 1 + 1 + 1) (.inr (2, [.ref (sz + 1 + 1 + 1 + 1 + 1 + 1 + 1)]))) (sz + 1) (.inl (Ω.2.1 0, 24, .inl (S_dry20 k9)))) (sz + 1 + 1 + 1 + 1 + 1 + 1 + 1 + 1) (.inl (Ω.2.1 0, 6, .inl sf))) (sz + 1 + 1 + 1 + 1 + 1 + 1 + 1 + 1 + 1) (.inl (Ω.2.1 0, 24, .inl df))) (sz + 1 + 1 + 1 + 1 + 1 + 1 + 1 + 1 + 1 + 1) (.inl (Ω.2.1 0, nk, .inl kf))) b (.inr (1, [.ref (sz + 1 + 1 + 1 + 1 + 1 + 1 + 1 + 1), .ref (sz + 1 + 1 + 1 + 1 + 1 + 1 + 1 + 1 + 1), .ref (sz + 1 + 1 + 1 + 1 + 1 + 1 + 1 + 1 + 1 + 1), .ref (sz + 1 + 1 + 1), .ref (sz + 1 + 1 + 1 + 1), .ref (sz + 1 + 1 + 1 + 1 + 1), .ref (sz + 1 + 1 + 1 + 1 + 1 + 1), .int 0, .int (-1), .int 0, .int (-1), .int 0, .int 0]))) b = some (.inr (1, [.ref (sz + 1 + 1 + 1 + 1 + 1 + 1 + 1 + 1), .ref (sz + 1 + 1 + 1 + 1 + 1 + 1 + 1 + 1 + 1), .ref (sz + 1 + 1 + 1 + 1 + 1 + 1 + 1 + 1 + 1 + 1), .ref (sz + 1 + 1 + 1), .ref (sz + 1 + 1 + 1 + 1), .ref (sz + 1 + 1 + 1 + 1 + 1), .ref (sz + 1 + 1 + 1 + 1 + 1 + 1), .int 0, .int (-1), .int 0, .int (-1), .int 0, .int 0])) := gset_eq
      have m3 : (gset (gset (gset (gset (gset (gset (gset (gset (gset (gset (gset (gset G sz (.inl (Ω.2.1 0, 6, .inl (upd (upd (upd (upd (upd (upd (fun _ => 0) 0 (nI (1))) 1 (nI (3))) 2 (nI (5))) 3 (nI (8))) 4 (nI (150))) 5 (nI (12)))))) (sz + 1 + 1) (.inl (Ω.2.1 0, 0, .inl (fun _ => 0)))) (sz + 1 + 1 + 1) (.inr (28, [.int (nI (0)), .ref (Ω.2.2.1 0), .int 0]))) (sz + 1 + 1 + 1 + 1) (.inr (28, [.int (nI (0)), .ref (Ω.2.2.1 0), .int 0]))) (sz + 1 + 1 + 1 + 1 + 1) (.inr (29, [.int (nI (0)), .int (nI (0)), .null, .null]))) (sz + 1 + 1 + 1 + 1 + 1 + 1 + 1) (.inl (Ω.2.1 5, 8, jAq (fun _ => none)))) (sz + 1 + 1 + 1 + 1 + 1 + 1) (.inr (2, [.ref (sz + 1 + 1 + 1 + 1 + 1 + 1 + 1)]))) (sz + 1) (.inl (Ω.2.1 0, 24, .inl (S_dry20 k9)))) (sz + 1 + 1 + 1 + 1 + 1 + 1 + 1 + 1) (.inl (Ω.2.1 0, 6, .inl sf))) (sz + 1 + 1 + 1 + 1 + 1 + 1 + 1 + 1 + 1) (.inl (Ω.2.1 0, 24, .inl df))) (sz + 1 + 1 + 1 + 1 + 1 + 1 + 1 + 1 + 1 + 1) (.inl (Ω.2.1 0, nk, .inl kf))) b (.inr (1, [.ref (sz + 1 + 1 + 1 + 1 + 1 + 1 + 1 + 1), .ref (sz + 1 + 1 + 1 + 1 + 1 + 1 + 1 + 1 + 1), .ref (sz + 1 + 1 + 1 + 1 + 1 + 1 + 1 + 1 + 1 + 1), .ref (sz + 1 + 1 + 1), .ref (sz + 1 + 1 + 1 + 1), .ref (sz + 1 + 1 + 1 + 1 + 1), .ref (sz + 1 + 1 + 1 + 1 + 1 + 1), .int 0, .int (-1), .int 0, .int (-1), .int 0, .int 0]))) (sz + 1 + 1 + 1) = some (.inr (28, [.int (nI (0)), .ref (Ω.2.2.1 0), .int 0])) := (gset_ne (by omega)).trans ((gset_ne (by omega)).trans ((gset_ne (by omega)).trans ((gset_ne (by omega)).trans ((gset_ne (by omega)).trans ((gset_ne (by omega)).trans ((gset_ne (by omega)).trans ((gset_ne (by omega)).trans ((gset_ne (by omega)).trans (gset_eq)))))))))
      have n3 : (rg2 b sz) (sz + 1 + 1 + 1) := Or.inr (by omega)
      have m4 : (gset (gset (gset (gset (gset (gset (gset (gset (gset (gset (gset (gset G sz (.inl (Ω.2.1 0, 6, .inl (upd (upd (upd (upd (upd (upd (fun _ => 0) 0 (nI (1))) 1 (nI (3))) 2 (nI (5))) 3 (nI (8))) 4 (nI (150))) 5 (nI (12)))))) (sz + 1 + 1) (.inl (Ω.2.1 0, 0, .inl (fun _ => 0)))) (sz + 1 + 1 + 1) (.inr (28, [.int (nI (0)), .ref (Ω.2.2.1 0), .int 0]))) (sz + 1 + 1 + 1 + 1) (.inr (28, [.int (nI (0)), .ref (Ω.2.2.1 0), .int 0]))) (sz + 1 + 1 + 1 + 1 + 1) (.inr (29, [.int (nI (0)), .int (nI (0)), .null, .null]))) (sz + 1 + 1 + 1 + 1 + 1 + 1 + 1) (.inl (Ω.2.1 5, 8, jAq (fun _ => none)))) (sz + 1 + 1 + 1 + 1 + 1 + 1) (.inr (2, [.ref (sz + 1 + 1 + 1 + 1 + 1 + 1 + 1)]))) (sz + 1) (.inl (Ω.2.1 0, 24, .inl (S_dry20 k9)))) (sz + 1 + 1 + 1 + 1 + 1 + 1 + 1 + 1) (.inl (Ω.2.1 0, 6, .inl sf))) (sz + 1 + 1 + 1 + 1 + 1 + 1 + 1 + 1 + 1) (.inl (Ω.2.1 0, 24, .inl df))) (sz + 1 + 1 + 1 + 1 + 1 + 1 + 1 + 1 + 1 + 1) (.inl (Ω.2.1 0, nk, .inl kf))) b (.inr (1, [.ref (sz + 1 + 1 + 1 + 1 + 1 + 1 + 1 + 1), .ref (sz + 1 + 1 + 1 + 1 + 1 + 1 + 1 + 1 + 1), .ref (sz + 1 + 1 + 1 + 1 + 1 + 1 + 1 + 1 + 1 + 1), .ref (sz + 1 + 1 + 1), .ref (sz + 1 + 1 + 1 + 1), .ref (sz + 1 + 1 + 1 + 1 + 1), .ref (sz + 1 + 1 + 1 + 1 + 1 + 1), .int 0, .int (-1), .int 0, .int (-1), .int 0, .int 0]))) (sz + 1 + 1 + 1 + 1) = some (.inr (28, [.int (nI (0)), .ref (Ω.2.2.1 0), .int 0])) := (gset_ne (by omega)).trans ((gset_ne (by omega)).trans ((gset_ne (by omega)).trans ((gset_ne (by omega)).trans ((gset_ne (by omega)).trans ((gset_ne (by omega)).trans ((gset_ne (by omega)).trans ((gset_ne (by omega)).trans (gset_eq))))))))
      have n4 : (rg2 b sz) (sz + 1 + 1 + 1 + 1) := Or.inr (by omega)
      have m5 : (gset (gset (gset (gset (gset (gset (gset (gset (gset (gset (gset (gset G sz (.inl (Ω.2.1 0, 6, .inl (upd (upd (upd (upd (upd (upd (fun _ => 0) 0 (nI (1))) 1 (nI (3))) 2 (nI (5))) 3 (nI (8))) 4 (nI (150))) 5 (nI (12)))))) (sz + 1 + 1) (.inl (Ω.2.1 0, 0, .inl (fun _ => 0)))) (sz + 1 + 1 + 1) (.inr (28, [.int (nI (0)), .ref (Ω.2.2.1 0), .int 0]))) (sz + 1 + 1 + 1 + 1) (.inr (28, [.int (nI (0)), .ref (Ω.2.2.1 0), .int 0]))) (sz + 1 + 1 + 1 + 1 + 1) (.inr (29, [.int (nI (0)), .int (nI (0)), .null, .null]))) (sz + 1 + 1 + 1 + 1 + 1 + 1 + 1) (.inl (Ω.2.1 5, 8, jAq (fun _ => none)))) (sz + 1 + 1 + 1 + 1 + 1 + 1) (.inr (2, [.ref (sz + 1 + 1 + 1 + 1 + 1 + 1 + 1)]))) (sz + 1) (.inl (Ω.2.1 0, 24, .inl (S_dry20 k9)))) (sz + 1 + 1 + 1 + 1 + 1 + 1 + 1 + 1) (.inl (Ω.2.1 0, 6, .inl sf))) (sz + 1 + 1 + 1 + 1 + 1 + 1 + 1 + 1 + 1) (.inl (Ω.2.1 0, 24, .inl df))) (sz + 1 + 1 + 1 + 1 + 1 + 1 + 1 + 1 + 1 + 1) (.inl (Ω.2.1 0, nk, .inl kf))) b (.inr (1, [.ref (sz + 1 + 1 + 1 + 1 + 1 + 1 + 1 + 1), .ref (sz + 1 + 1 + 1 + 1 + 1 + 1 + 1 + 1 + 1), .ref (sz + 1 + 1 + 1 + 1 + 1 + 1 + 1 + 1 + 1 + 1), .ref (sz + 1 + 1 + 1), .ref (sz + 1 + 1 + 1 + 1), .ref (sz + 1 + 1 + 1 + 1 + 1), .ref (sz + 1 + 1 + 1 + 1 + 1 + 1), .int 0, .int (-1), .int 0, .int (-1), .int 0, .int 0]))) (sz + 1 + 1 + 1 + 1 + 1) = some (.inr (29, [.int (nI (0)), .int (nI (0)), .null, .null])) := (gset_ne (by omega)).trans ((gset_ne (by omega)).trans ((gset_ne (by omega)).trans ((gset_ne (by omega)).trans ((gset_ne (by omega)).trans ((gset_ne (by omega)).trans ((gset_ne (by omega)).trans (gset_eq)))))))
      have n5 : (rg2 b sz) (sz + 1 + 1 + 1 + 1 + 1) := Or.inr (by omega)
      have m6 : (gset (gset (gset (gset (gset (gset (gset (gset (gset (gset (gset (gset G sz (.inl (Ω.2.1 0, 6, .inl (upd (upd (upd (upd (upd (upd (fun _ => 0) 0 (nI (1))) 1 (nI (3))) 2 (nI (5))) 3 (nI (8))) 4 (nI (150))) 5 (nI (12)))))) (sz + 1 + 1) (.inl (Ω.2.1 0, 0, .inl (fun _ => 0)))) (sz + 1 + 1 + 1) (.inr (28, [.int (nI (0)), .ref (Ω.2.2.1 0), .int 0]))) (sz + 1 + 1 + 1 + 1) (.inr (28, [.int (nI (0)), .ref (Ω.2.2.1 0), .int 0]))) (sz + 1 + 1 + 1 + 1 + 1) (.inr (29, [.int (nI (0)), .int (nI (0)), .null, .null]))) (sz + 1 + 1 + 1 + 1 + 1 + 1 + 1) (.inl (Ω.2.1 5, 8, jAq (fun _ => none)))) (sz + 1 + 1 + 1 + 1 + 1 + 1) (.inr (2, [.ref (sz + 1 + 1 + 1 + 1 + 1 + 1 + 1)]))) (sz + 1) (.inl (Ω.2.1 0, 24, .inl (S_dry20 k9)))) (sz + 1 + 1 + 1 + 1 + 1 + 1 + 1 + 1) (.inl (Ω.2.1 0, 6, .inl sf))) (sz + 1 + 1 + 1 + 1 + 1 + 1 + 1 + 1 + 1) (.inl (Ω.2.1 0, 24, .inl df))) (sz + 1 + 1 + 1 + 1 + 1 + 1 + 1 + 1 + 1 + 1) (.inl (Ω.2.1 0, nk, .inl kf))) b (.inr (1, [.ref (sz + 1 + 1 + 1 + 1 + 1 + 1 + 1 + 1), .ref (sz + 1 + 1 + 1 + 1 + 1 + 1 + 1 + 1 + 1), .ref (sz + 1 + 1 + 1 + 1 + 1 + 1 + 1 + 1 + 1 + 1), .ref (sz + 1 + 1 + 1), .ref (sz + 1 + 1 + 1 + 1), .ref (sz + 1 + 1 + 1 + 1 + 1), .ref (sz + 1 + 1 + 1 + 1 + 1 + 1), .int 0, .int (-1), .int 0, .int (-1), .int 0, .int 0]))) (sz + 1 + 1 + 1 + 1 + 1 + 1) = some (.inr (2, [.ref (sz + 1 + 1 + 1 + 1 + 1 + 1 + 1)])) := (gset_ne (by omega)).trans ((gset_ne (by omega)).trans ((gset_ne (by omega)).trans ((gset_ne (by omega)).trans ((gset_ne (by omega)).trans (gset_eq)))))
      have n6 : (rg2 b sz) (sz + 1 + 1 + 1 + 1 + 1 + 1) := Or.inr (by omega)
      have m7 : (gset (gset (gset (gset (gset (gset (gset (gset (gset (gset (gset (gset G sz (.inl (Ω.2.1 0, 6, .inl (upd (upd (upd (upd (upd (upd (fun _ => 0) 0 (nI (1))) 1 (nI (3))) 2 (nI (5))) 3 (nI (8))) 4 (nI (150))) 5 (nI (12)))))) (sz + 1 + 1) (.inl (Ω.2.1 0, 0, .inl (fun _ => 0)))) (sz + 1 + 1 + 1) (.inr (28, [.int (nI (0)), .ref (Ω.2.2.1 0), .int 0]))) (sz + 1 + 1 + 1 + 1) (.inr (28, [.int (nI (0)), .ref (Ω.2.2.1 0), .int 0]))) (sz + 1 + 1 + 1 + 1 + 1) (.inr (29, [.int (nI (0)), .int (nI (0)), .null, .null]))) (sz + 1 + 1 + 1 + 1 + 1 + 1 + 1) (.inl (Ω.2.1 5, 8, jAq (fun _ => none)))) (sz + 1 + 1 + 1 + 1 + 1 + 1) (.inr (2, [.ref (sz + 1 + 1 + 1 + 1 + 1 + 1 + 1)]))) (sz + 1) (.inl (Ω.2.1 0, 24, .inl (S_dry20 k9)))) (sz + 1 + 1 + 1 + 1 + 1 + 1 + 1 + 1) (.inl (Ω.2.1 0, 6, .inl sf))) (sz + 1 + 1 + 1 + 1 + 1 + 1 + 1 + 1 + 1) (.inl (Ω.2.1 0, 24, .inl df))) (sz + 1 + 1 + 1 + 1 + 1 + 1 + 1 + 1 + 1 + 1) (.inl (Ω.2.1 0, nk, .inl kf))) b (.inr (1, [.ref (sz + 1 + 1 + 1 + 1 + 1 + 1 + 1 + 1), .ref (sz + 1 + 1 + 1 + 1 + 1 + 1 + 1 + 1 + 1), .ref (sz + 1 + 1 + 1 + 1 + 1 + 1 + 1 + 1 + 1 + 1), .ref (sz + 1 + 1 + 1), .ref (sz + 1 + 1 + 1 + 1), .ref (sz + 1 + 1 + 1 + 1 + 1), .ref (sz + 1 + 1 + 1 + 1 + 1 + 1), .int 0, .int (-1), .int 0, .int (-1), .int 0, .int 0]))) (sz + 1 + 1 + 1 + 1 + 1 + 1 + 1) = some (.inl (Ω.2.1 5, 8, jAq (fun _ => none))) := (gset_ne (by omega)).trans ((gset_ne (by omega)).trans ((gset_ne (by omega)).trans ((gset_ne (by omega)).trans ((gset_ne (by omega)).trans ((gset_ne (by omega)).trans (gset_eq))))))
      have n7 : (rg2 b sz) (sz + 1 + 1 + 1 + 1 + 1 + 1 + 1) := Or.inr (by omega)
      have m8 : (gset (gset (gset (gset (gset (gset (gset (gset (gset (gset (gset (gset G sz (.inl (Ω.2.1 0, 6, .inl (upd (upd (upd (upd (upd (upd (fun _ => 0) 0 (nI (1))) 1 (nI (3))) 2 (nI (5))) 3 (nI (8))) 4 (nI (150))) 5 (nI (12)))))) (sz + 1 + 1) (.inl (Ω.2.1 0, 0, .inl (fun _ => 0)))) (sz + 1 + 1 + 1) (.inr (28, [.int (nI (0)), .ref (Ω.2.2.1 0), .int 0]))) (sz + 1 + 1 + 1 + 1) (.inr (28, [.int (nI (0)), .ref (Ω.2.2.1 0), .int 0]))) (sz + 1 + 1 + 1 + 1 + 1) (.inr (29, [.int (nI (0)), .int (nI (0)), .null, .null]))) (sz + 1 + 1 + 1 + 1 + 1 + 1 + 1) (.inl (Ω.2.1 5, 8, jAq (fun _ => none)))) (sz + 1 + 1 + 1 + 1 + 1 + 1) (.inr (2, [.ref (sz + 1 + 1 + 1 + 1 + 1 + 1 + 1)]))) (sz + 1) (.inl (Ω.2.1 0, 24, .inl (S_dry20 k9)))) (sz + 1 + 1 + 1 + 1 + 1 + 1 + 1 + 1) (.inl (Ω.2.1 0, 6, .inl sf))) (sz + 1 + 1 + 1 + 1 + 1 + 1 + 1 + 1 + 1) (.inl (Ω.2.1 0, 24, .inl df))) (sz + 1 + 1 + 1 + 1 + 1 + 1 + 1 + 1 + 1 + 1) (.inl (Ω.2.1 0, nk, .inl kf))) b (.inr (1, [.ref (sz + 1 + 1 + 1 + 1 + 1 + 1 + 1 + 1), .ref (sz + 1 + 1 + 1 + 1 + 1 + 1 + 1 + 1 + 1), .ref (sz + 1 + 1 + 1 + 1 + 1 + 1 + 1 + 1 + 1 + 1), .ref (sz + 1 + 1 + 1), .ref (sz + 1 + 1 + 1 + 1), .ref (sz + 1 + 1 + 1 + 1 + 1), .ref (sz + 1 + 1 + 1 + 1 + 1 + 1), .int 0, .int (-1), .int 0, .int (-1), .int 0, .int 0]))) (sz + 1 + 1 + 1 + 1 + 1 + 1 + 1 + 1) = some (.inl (Ω.2.1 0, 6, .inl sf)) := (gset_ne (by omega)).trans ((gset_ne (by omega)).trans ((gset_ne (by omega)).trans (gset_eq)))
      have n8 : (rg2 b sz) (sz + 1 + 1 + 1 + 1 + 1 + 1 + 1 + 1) := Or.inr (by omega)
      have m9 : (gset (gset (gset (gset (gset (gset (gset (gset (gset (gset (gset (gset G sz (.inl (Ω.2.1 0, 6, .inl (upd (upd (upd (upd (upd (upd (fun _ => 0) 0 (nI (1))) 1 (nI (3))) 2 (nI (5))) 3 (nI (8))) 4 (nI (150))) 5 (nI (12)))))) (sz + 1 + 1) (.inl (Ω.2.1 0, 0, .inl (fun _ => 0)))) (sz + 1 + 1 + 1) (.inr (28, [.int (nI (0)), .ref (Ω.2.2.1 0), .int 0]))) (sz + 1 + 1 + 1 + 1) (.inr (28, [.int (nI (0)), .ref (Ω.2.2.1 0), .int 0]))) (sz + 1 + 1 + 1 + 1 + 1) (.inr (29, [.int (nI (0)), .int (nI (0)), .null, .null]))) (sz + 1 + 1 + 1 + 1 + 1 + 1 + 1) (.inl (Ω.2.1 5, 8, jAq (fun _ => none)))) (sz + 1 + 1 + 1 + 1 + 1 + 1) (.inr (2, [.ref (sz + 1 + 1 + 1 + 1 + 1 + 1 + 1)]))) (sz + 1) (.inl (Ω.2.1 0, 24, .inl (S_dry20 k9)))) (sz + 1 + 1 + 1 + 1 + 1 + 1 + 1 + 1) (.inl (Ω.2.1 0, 6, .inl sf))) (sz + 1 + 1 + 1 + 1 + 1 + 1 + 1 + 1 + 1) (.inl (Ω.2.1 0, 24, .inl df))) (sz + 1 + 1 + 1 + 1 + 1 + 1 + 1 + 1 + 1 + 1) (.inl (Ω.2.1 0, nk, .inl kf))) b (.inr (1, [.ref (sz + 1 + 1 + 1 + 1 + 1 + 1 + 1 + 1), .ref (sz + 1 + 1 + 1 + 1 + 1 + 1 + 1 + 1 + 1), .ref (sz + 1 + 1 + 1 + 1 + 1 + 1 + 1 + 1 + 1 + 1), .ref (sz + 1 + 1 + 1), .ref (sz + 1 + 1 + 1 + 1), .ref (sz + 1 + 1 + 1 + 1 + 1), .ref (sz + 1 + 1 + 1 + 1 + 1 + 1), .int 0, .int (-1), .int 0, .int (-1), .int 0, .int 0]))) (sz + 1 + 1 + 1 + 1 + 1 + 1 + 1 + 1 + 1) = some (.inl (Ω.2.1 0, 24, .inl df)) := (gset_ne (by omega)).trans ((gset_ne (by omega)).trans (gset_eq))
      have n9 : (rg2 b sz) (sz + 1 + 1 + 1 + 1 + 1 + 1 + 1 + 1 + 1) := Or.inr (by omega)
      have m10 : (gset (gset (gset (gset (gset (gset (gset (gset (gset (gset (gset (gset G sz (.inl (Ω.2.1 0, 6, .inl (upd (upd (upd (upd (upd (upd (fun _ => 0) 0 (nI (1))) 1 (nI (3))) 2 (nI (5))) 3 (nI (8))) 4 (nI (150))) 5 (nI (12)))))) (sz + 1 + 1) (.inl (Ω.2.1 0, 0, .inl (fun _ => 0)))) (sz + 1 + 1 + 1) (.inr (28, [.int (nI (0)), .ref (Ω.2.2.1 0), .int 0]))) (sz + 1 + 1 + 1 + 1) (.inr (28, [.int (nI (0)), .ref (Ω.2.2.1 0), .int 0]))) (sz + 1 + 1 + 1 + 1 + 1) (.inr (29, [.int (nI (0)), .int (nI (0)), .null, .null]))) (sz + 1 + 1 + 1 + 1 + 1 + 1 + 1) (.inl (Ω.2.1 5, 8, jAq (fun _ => none)))) (sz + 1 + 1 + 1 + 1 + 1 + 1) (.inr (2, [.ref (sz + 1 + 1 + 1 + 1 + 1 + 1 + 1)]))) (sz + 1) (.inl (Ω.2.1 0, 24, .inl (S_dry20 k9)))) (sz + 1 + 1 + 1 + 1 + 1 + 1 + 1 + 1) (.inl (Ω.2.1 0, 6, .inl sf))) (sz + 1 + 1 + 1 + 1 + 1 + 1 + 1 + 1 + 1) (.inl (Ω.2.1 0, 24, .inl df))) (sz + 1 + 1 + 1 + 1 + 1 + 1 + 1 + 1 + 1 + 1) (.inl (Ω.2.1 0, nk, .inl kf))) b (.inr (1, [.ref (sz + 1 + 1 + 1 + 1 + 1 + 1 + 1 + 1), .ref (sz + 1 + 1 + 1 + 1 + 1 + 1 + 1 + 1 + 1), .ref (sz + 1 + 1 + 1 + 1 + 1 + 1 + 1 + 1 + 1 + 1), .ref (sz + 1 + 1 + 1), .ref (sz + 1 + 1 + 1 + 1), .ref (sz + 1 + 1 + 1 + 1 + 1), .ref (sz + 1 + 1 + 1 + 1 + 1 + 1), .int 0, .int (-1), .int 0, .int (-1), .int 0, .int 0]))) (sz + 1 + 1 + 1 + 1 + 1 + 1 + 1 + 1 + 1 + 1) = some (.inl (Ω.2.1 0, nk, .inl kf)) := (gset_ne (by omega)).trans (gset_eq)
      have n10 : (rg2 b sz) (sz + 1 + 1 + 1 + 1 + 1 + 1 + 1 + 1 + 1 + 1) := Or.inr (by omega)
      have hnew : isPy Ω (rg2 b sz) (gset (gset (gset (gset (gset (gset (gset (gset (gset (gset (gset (gset G sz (.inl (Ω.2.1 0, 6, .inl (upd (upd (upd (upd (upd (upd (fun _ => 0) 0 (nI (1))) 1 (nI (3))) 2 (nI (5))) 3 (nI (8))) 4 (nI (150))) 5 (nI (12)))))) (sz + 1 + 1) (.inl (Ω.2.1 0, 0, .inl (fun _ => 0)))) (sz + 1 + 1 + 1) (.inr (28, [.int (nI (0)), .ref (Ω.2.2.1 0), .int 0]))) (sz + 1 + 1 + 1 + 1) (.inr (28, [.int (nI (0)), .ref (Ω.2.2.1 0), .int 0]))) (sz + 1 + 1 + 1 + 1 + 1) (.inr (29, [.int (nI (0)), .int (nI (0)), .null, .null]))) (sz + 1 + 1 + 1 + 1 + 1 + 1 + 1) (.inl (Ω.2.1 5, 8, jAq (fun _ => none)))) (sz + 1 + 1 + 1 + 1 + 1 + 1) (.inr (2, [.ref (sz + 1 + 1 + 1 + 1 + 1 + 1 + 1)]))) (sz + 1) (.inl (Ω.2.1 0, 24, .inl (S_dry20 k9)))) (sz + 1 + 1 + 1 + 1 + 1 + 1 + 1 + 1) (.inl (Ω.2.1 0, 6, .inl sf))) (sz + 1 + 1 + 1 + 1 + 1 + 1 + 1 + 1 + 1) (.inl (Ω.2.1 0, 24, .inl df))) (sz + 1 + 1 + 1 + 1 + 1 + 1 + 1 + 1 + 1 + 1) (.inl (Ω.2.1 0, nk, .inl kf))) b (.inr (1, [.ref (sz + 1 + 1 + 1 + 1 + 1 + 1 + 1 + 1), .ref (sz + 1 + 1 + 1 + 1 + 1 + 1 + 1 + 1 + 1), .ref (sz + 1 + 1 + 1 + 1 + 1 + 1 + 1 + 1 + 1 + 1), .ref (sz + 1 + 1 + 1), .ref (sz + 1 + 1 + 1 + 1), .ref (sz + 1 + 1 + 1 + 1 + 1), .ref (sz + 1 + 1 + 1 + 1 + 1 + 1), .int 0, .int (-1), .int 0, .int (-1), .int 0, .int 0]))) b (gK g 0) D cp [] 0 := (pyAll.fresh (B := fun i => match i with | 0 => sz + 1 + 1 + 1 + 1 + 1 + 1 + 1 + 1 | 1 => sz + 1 + 1 + 1 + 1 + 1 + 1 + 1 + 1 + 1 | 2 => sz + 1 + 1 + 1 + 1 + 1 + 1 + 1 + 1 + 1 + 1 | 3 => sz + 1 + 1 + 1 | 4 => sz + 1 + 1 + 1 + 1 | 5 => sz + 1 + 1 + 1 + 1 + 1 | 6 => sz + 1 + 1 + 1 + 1 + 1 + 1 | 7 => sz + 1 + 1 + 1 + 1 + 1 + 1 + 1 | 8 => Ω.2.2.1 0 | 9 => Ω.2.2.1 0 | _ => 0) (g := gK g 0) (dr := fun _ => 0) (Or.inl rfl) hA2b ma ⟨sf, df, kf, nk, ⟨n8, n9, n10⟩, m8, fun k hk => (hsf k hk).trans (by simp only [gK]; rw [if_neg (by omega), if_pos (by omega)]), m9, fun k hk => (hdf k hk).trans (by simp only [gK]; rw [if_neg (by omega), if_pos (by omega)]), m10, by omega, (show gK g 0 1 = nI nk by simp only [gK]; rw [if_neg (by omega), if_pos (by omega)]; exact hg1), fun k hk => (hkf k hk).trans (by simp only [gK]; rw [if_neg (by omega), if_pos (by omega)])⟩ n3 n4 n5 n6 n7 rfl rfl rfl rfl (show sz + 1 + 1 + 1 ≠ sz + 1 + 1 + 1 + 1 by omega) m3 m4 m5 m6 m7 (by simp [gK]; rfl) (by simp [gK, gZ]) (fun k hk => by simp only [gK, gZ]; rw [if_neg (by omega), if_neg (by omega), if_neg (by omega), if_neg (by omega), if_neg (by omega), if_neg (by omega), if_neg (by omega), if_neg (by omega), if_neg (by omega), if_pos (by omega)])).py
      have hfrN : ∀ q, q < sz → q ≠ b → (gset (gset (gset (gset (gset (gset (gset (gset (gset (gset (gset (gset G sz (.inl (Ω.2.1 0, 6, .inl (upd (upd (upd (upd (upd (upd (fun _ => 0) 0 (nI (1))) 1 (nI (3))) 2 (nI (5))) 3 (nI (8))) 4 (nI (150))) 5 (nI (12)))))) (sz + 1 + 1) (.inl (Ω.2.1 0, 0, .inl (fun _ => 0)))) (sz + 1 + 1 + 1) (.inr (28, [.int (nI (0)), .ref (Ω.2.2.1 0), .int 0]))) (sz + 1 + 1 + 1 + 1) (.inr (28, [.int (nI (0)), .ref (Ω.2.2.1 0), .int 0]))) (sz + 1 + 1 + 1 + 1 + 1) (.inr (29, [.int (nI (0)), .int (nI (0)), .null, .null]))) (sz + 1 + 1 + 1 + 1 + 1 + 1 + 1) (.inl (Ω.2.1 5, 8, jAq (fun _ => none)))) (sz + 1 + 1 + 1 + 1 + 1 + 1) (.inr (2, [.ref (sz + 1 + 1 + 1 + 1 + 1 + 1 + 1)]))) (sz + 1) (.inl (Ω.2.1 0, 24, .inl (S_dry20 k9)))) (sz + 1 + 1 + 1 + 1 + 1 + 1 + 1 + 1) (.inl (Ω.2.1 0, 6, .inl sf))) (sz + 1 + 1 + 1 + 1 + 1 + 1 + 1 + 1 + 1) (.inl (Ω.2.1 0, 24, .inl df))) (sz + 1 + 1 + 1 + 1 + 1 + 1 + 1 + 1 + 1 + 1) (.inl (Ω.2.1 0, nk, .inl kf))) b (.inr (1, [.ref (sz + 1 + 1 + 1 + 1 + 1 + 1 + 1 + 1), .ref (sz + 1 + 1 + 1 + 1 + 1 + 1 + 1 + 1 + 1), .ref (sz + 1 + 1 + 1 + 1 + 1 + 1 + 1 + 1 + 1 + 1), .ref (sz + 1 + 1 + 1), .ref (sz + 1 + 1 + 1 + 1), .ref (sz + 1 + 1 + 1 + 1 + 1), .ref (sz + 1 + 1 + 1 + 1 + 1 + 1), .int 0, .int (-1), .int 0, .int (-1), .int 0, .int 0]))) q = G q := fun q h1 h2 => (gset_ne (by omega)).trans ((gset_ne (by omega)).trans ((gset_ne (by omega)).trans ((gset_ne (by omega)).trans ((gset_ne (by omega)).trans ((gset_ne (by omega)).trans ((gset_ne (by omega)).trans ((gset_ne (by omega)).trans ((gset_ne (by omega)).trans ((gset_ne (by omega)).trans ((gset_ne (by omega)).trans ((gset_ne (by omega)).trans (rfl))))))))))))
      exact K175 (tn (g 2)) 0 _ _ (by omega) ⟨hnew, by omega, hfrN⟩
    | succ nk9 ihk9 =>
      intro k9 hk9
      refine J_iload_n cx dX1_init_2_111 rfl ?_
      refine J_bipush (v := nI (24)) cx dX1_init_2_112 (by decide) ?_
      refine J_icmpN_ge (tgt := 131) cx dX1_init_2_114 (by decide) (by omega) (by omega) (fun c114 => absurd c114 (by omega)) (fun c114 => ?_)
      refine J_aload_n cx dX1_init_2_117 rfl ?_
      refine J_get cx in_X1 (ci := 1) rfl 1 (by decide) q248 (fun _ h => h) dX1_init_2_118 ((gset_ne (by omega)).trans gset_eq) rfl ?_
      refine J_iload_n cx dX1_init_2_121 rfl ?_
      refine J_bipush (v := nI (20)) cx dX1_init_2_122 (by decide) ?_
      refine J_iast cx dX1_init_2_124 gset_eq (by omega) (by omega) (by omega) ?_
      refine J_mem (gset (gset (gset (gset (gset (gset (gset (gset (gset G sz (.inl (Ω.2.1 0, 6, .inl (upd (upd (upd (upd (upd (upd (fun _ => 0) 0 (nI (1))) 1 (nI (3))) 2 (nI (5))) 3 (nI (8))) 4 (nI (150))) 5 (nI (12)))))) (sz + 1 + 1) (.inl (Ω.2.1 0, 0, .inl (fun _ => 0)))) (sz + 1 + 1 + 1) (.inr (28, [.int (nI (0)), .ref (Ω.2.2.1 0), .int 0]))) (sz + 1 + 1 + 1 + 1) (.inr (28, [.int (nI (0)), .ref (Ω.2.2.1 0), .int 0]))) (sz + 1 + 1 + 1 + 1 + 1) (.inr (29, [.int (nI (0)), .int (nI (0)), .null, .null]))) (sz + 1 + 1 + 1 + 1 + 1 + 1 + 1) (.inl (Ω.2.1 5, 8, jAq (fun _ => none)))) (sz + 1 + 1 + 1 + 1 + 1 + 1) (.inr (2, [.ref (sz + 1 + 1 + 1 + 1 + 1 + 1 + 1)]))) b (.inr (1, [.ref sz, .ref (sz + 1), .ref (sz + 1 + 1), .ref (sz + 1 + 1 + 1), .ref (sz + 1 + 1 + 1 + 1), .ref (sz + 1 + 1 + 1 + 1 + 1), .ref (sz + 1 + 1 + 1 + 1 + 1 + 1), .int 0, .int (-1), .int 0, .int (-1), .int 0, .int 0]))) (sz + 1) (.inl (Ω.2.1 0, 24, .inl (upd (S_dry20 k9) k9 (nI (20)))))) gset_gset ?_
      refine J_iinc2 (v := nI (k9 + 1)) cx dX1_init_2_125 (nI_1 k9) (by decide) rfl ?_
      refine J_goto (tgt := 111) cx dX1_init_2_128 (by decide) ?_
      refine J_sub (L1 := [some (.ref b), some (.ref a), some (.int (nI (k9 + 1))), none]) (jsub_s (jsub_s (jsub_s (jsub_n jsub_0)))) ?_
      refine J_mem (gset (gset (gset (gset (gset (gset (gset (gset (gset G sz (.inl (Ω.2.1 0, 6, .inl (upd (upd (upd (upd (upd (upd (fun _ => 0) 0 (nI (1))) 1 (nI (3))) 2 (nI (5))) 3 (nI (8))) 4 (nI (150))) 5 (nI (12)))))) (sz + 1 + 1) (.inl (Ω.2.1 0, 0, .inl (fun _ => 0)))) (sz + 1 + 1 + 1) (.inr (28, [.int (nI (0)), .ref (Ω.2.2.1 0), .int 0]))) (sz + 1 + 1 + 1 + 1) (.inr (28, [.int (nI (0)), .ref (Ω.2.2.1 0), .int 0]))) (sz + 1 + 1 + 1 + 1 + 1) (.inr (29, [.int (nI (0)), .int (nI (0)), .null, .null]))) (sz + 1 + 1 + 1 + 1 + 1 + 1 + 1) (.inl (Ω.2.1 5, 8, jAq (fun _ => none)))) (sz + 1 + 1 + 1 + 1 + 1 + 1) (.inr (2, [.ref (sz + 1 + 1 + 1 + 1 + 1 + 1 + 1)]))) b (.inr (1, [.ref sz, .ref (sz + 1), .ref (sz + 1 + 1), .ref (sz + 1 + 1 + 1), .ref (sz + 1 + 1 + 1 + 1), .ref (sz + 1 + 1 + 1 + 1 + 1), .ref (sz + 1 + 1 + 1 + 1 + 1 + 1), .int 0, .int (-1), .int 0, .int (-1), .int 0, .int 0]))) (sz + 1) (.inl (Ω.2.1 0, 24, .inl (S_dry20 (k9 + 1))))) (by rw [S_dry20_1]) ?_
      exact ihk9 (k9 + 1) (by omega)
  refine J_sub (L1 := [some (.ref b), some (.ref a), some (.int (nI (0))), none]) (jsub_s (jsub_s (jsub_s (jsub_n jsub_0)))) ?_
  refine J_mem (gset (gset (gset (gset (gset (gset (gset (gset (gset G sz (.inl (Ω.2.1 0, 6, .inl (upd (upd (upd (upd (upd (upd (fun _ => 0) 0 (nI (1))) 1 (nI (3))) 2 (nI (5))) 3 (nI (8))) 4 (nI (150))) 5 (nI (12)))))) (sz + 1 + 1) (.inl (Ω.2.1 0, 0, .inl (fun _ => 0)))) (sz + 1 + 1 + 1) (.inr (28, [.int (nI (0)), .ref (Ω.2.2.1 0), .int 0]))) (sz + 1 + 1 + 1 + 1) (.inr (28, [.int (nI (0)), .ref (Ω.2.2.1 0), .int 0]))) (sz + 1 + 1 + 1 + 1 + 1) (.inr (29, [.int (nI (0)), .int (nI (0)), .null, .null]))) (sz + 1 + 1 + 1 + 1 + 1 + 1 + 1) (.inl (Ω.2.1 5, 8, jAq (fun _ => none)))) (sz + 1 + 1 + 1 + 1 + 1 + 1) (.inr (2, [.ref (sz + 1 + 1 + 1 + 1 + 1 + 1 + 1)]))) b (.inr (1, [.ref sz, .ref (sz + 1), .ref (sz + 1 + 1), .ref (sz + 1 + 1 + 1), .ref (sz + 1 + 1 + 1 + 1), .ref (sz + 1 + 1 + 1 + 1 + 1), .ref (sz + 1 + 1 + 1 + 1 + 1 + 1), .int 0, .int (-1), .int 0, .int (-1), .int 0, .int 0]))) (sz + 1) (.inl (Ω.2.1 0, 24, .inl (S_dry20 0)))) (by rw [S_dry20_0]; funext q9; cases Nat.decEq q9 (sz + 1) with | isFalse h9 => simp only [gset, if_neg h9] | isTrue h9 => subst h9; exact ((gset_ne (by omega)).trans ((gset_ne (by omega)).trans ((gset_ne (by omega)).trans ((gset_ne (by omega)).trans ((gset_ne (by omega)).trans ((gset_ne (by omega)).trans ((gset_ne (by omega)).trans (gset_eq)))))))).trans gset_eq.symm) ?_
  exact K111 24 0 (by omega)
