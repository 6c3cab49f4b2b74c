/-! THE KILN 4 (gen/mk_z3.py): burns, fires -/
set_option maxRecDepth 100000
/-- the pots that are fired whole -/
def mF (g : Nat → Int32) : Nat := shM g 8 &&& (loM g 8 ^^^ 65535)
def c_g1 (g : Nat → Int32) (k : Nat) : Nat → Int32 := c_sts g (loM g 8) (nI (7)) k
def c_g2 (g : Nat → Int32) (k : Nat) : Nat → Int32 := c_sts (c_g1 g 16) (mF g) (nI (5)) k
def c_g3 (g : Nat → Int32) : Nat → Int32 := fun i => if 41 ≤ i ∧ i ≤ 48 then -1 else c_g2 g 16 i
def c_burn (g : Nat → Int32) : Nat → Int32 := upd (c_g3 g) 49 (g 0 + g 9)
theorem cg1_lo (g : Nat → Int32) (k : Nat) {i : Nat} (h : i < 50) : c_g1 g k i = g i := csts_ne g _ _ _ (by omega)
theorem cg2_lo (g : Nat → Int32) (k : Nat) {i : Nat} (h : i < 50) : c_g2 g k i = g i := (csts_ne _ _ _ _ (by omega)).trans (cg1_lo g 16 h)
theorem shM_bits (g : Nat → Int32) {p : Nat} : ∀ n, (shM g n).testBit p = true → ∃ k, k < n ∧ g (41 + k) ≠ -1 ∧ tn (g (41 + k)) = p
  | 0, h => by simp [shM] at h
  | n + 1, h => by
    simp only [shM] at h
    split at h
    · obtain ⟨k, h1, h2⟩ := shM_bits g n h
      exact ⟨k, by omega, h2⟩
    · next hne =>
      rw [Nat.testBit_or, Nat.testBit_two_pow, Bool.or_eq_true] at h
      rcases h with h | h
      · obtain ⟨k, h1, h2⟩ := shM_bits g n h
        exact ⟨k, by omega, h2⟩
      · exact ⟨n, by omega, hne, by simpa using h⟩
theorem loM_bits (g : Nat → Int32) {p : Nat} : ∀ n, (loM g n).testBit p = true → ∃ k, k < n ∧ g (41 + k) ≠ -1 ∧ tn (g (41 + k)) = p
  | 0, h => by simp [loM] at h
  | n + 1, h => by
    have ih := fun h => loM_bits g (p := p) n h
    simp only [loM] at h
    split at h
    · obtain ⟨k, h1, h2⟩ := ih h
      exact ⟨k, by omega, h2⟩
    · next hne =>
      have hor : (loM g n ||| 2 ^ tn (g (41 + n))).testBit p = true → ∃ k, k < n + 1 ∧ g (41 + k) ≠ -1 ∧ tn (g (41 + k)) = p := fun h => by
        rw [Nat.testBit_or, Nat.testBit_two_pow, Bool.or_eq_true] at h
        rcases h with h | h
        · obtain ⟨k, h1, h2⟩ := ih h
          exact ⟨k, by omega, h2⟩
        · exact ⟨n, by omega, hne, by simpa using h⟩
      split at h
      · split at h
        · obtain ⟨k, h1, h2⟩ := ih h
          exact ⟨k, by omega, h2⟩
        · exact hor h
      · exact hor h
theorem shM_pot {g : Nat → Int32} (hsN : shelfN g) {p : Nat} (h : (shM g 8).testBit p = true) : p < tn (g 2) := by
  obtain ⟨k, h1, h2, h3⟩ := shM_bits g 8 h
  rw [← h3]; exact ((hsN k h1).resolve_left h2).2.1
theorem loM_pot {g : Nat → Int32} (hsN : shelfN g) {p : Nat} (h : (loM g 8).testBit p = true) : p < tn (g 2) := by
  obtain ⟨k, h1, h2, h3⟩ := loM_bits g 8 h
  rw [← h3]; exact ((hsN k h1).resolve_left h2).2.1
theorem mF_pot {g : Nat → Int32} (hsN : shelfN g) {p : Nat} (h : (mF g).testBit p = true) : p < tn (g 2) := by
  simp only [mF] at h
  rw [Nat.testBit_and, Bool.and_eq_true] at h
  exact shM_pot hsN h.1
theorem pyE_burn {B : Nat → Nat} {g : Nat → Int32} {e : Int32} : (Option.some (Sum.inr (1, [Value.ref (B 0), Value.ref (B 1), Value.ref (B 2), Value.ref (B 3), Value.ref (B 4), Value.ref (B 5), Value.ref (B 6), Value.int (g 0), Value.int (g 38), Value.int (g 39), Value.int (g 40), Value.int (g 0 + g (4 + 5)), Value.int e]) : va_E)) = some (pyE B (c_burn g) e) := by
  have h : ∀ i, i < 41 → c_burn g i = g i := fun i hi => by simp only [c_burn, c_g3, upd]; rw [if_neg (by omega), if_neg (by omega)]; exact cg2_lo g 16 (by omega)
  have h49 : c_burn g 49 = g 0 + g 9 := by simp only [c_burn, upd, if_true]
  simp only [pyE]
  rw [h 0 (by omega), h 38 (by omega), h 39 (by omega), h 40 (by omega), h49]
set_option maxHeartbeats 2000000 in
theorem t_Py_burns (l : Launch) (Ω : jO) {G : Mem} {sz : Nat} {A : Nat → Prop} (a : Nat) {g : Nat → Int32} {D : Nat → List Int32} {cp : Nat → Nat} {row : List Nat} {e9 : Int32} (hpy : isPy Ω A G a g D cp row e9) (hsN : shelfN g) : Met l yX1_burns (ws_ yX1_burns cX1_burns 4 (some (.object "java/util/BitSet"))) ({ frames := 6, cells := 6, slots := 12, locals := 127 } : Room) (va_Pc [.ref a] (jWd Ω G sz)) (jQ Ω (fun v G1 sz1 => v = some (.ref (sz + 1 + 1 + 1 + 1)) ∧ sz1 = sz + 1 + 1 + 1 + 1 + 1 + 1 ∧ (jBS Ω G1 (sz + 1 + 1 + 1 + 1) (sz + 1 + 1 + 1 + 1 + 1) (slG (mF g) (c_burn g) e9 16).2.2 ∧ isPy Ω A G1 a (slG (mF g) (c_burn g) e9 16).1 D cp row (slG (mF g) (c_burn g) e9 16).2.1) ∧ ∀ q, q < sz → ¬ A q → G1 q = G q)) 6 12 (jB Ω) := by
  refine jMet (by decide) (Nat.le_of_ble_eq_true rfl) ?_
  intro p e s m args below meth c cx hr hnm
  refine J_loc [some (.ref a), none, none, none] rfl ?_
  obtain ⟨B, pl, ol, ns, dr, sh, hall⟩ := hpy.all
  obtain ⟨⟨hAa, hC⟩, hI, hP, hO, hR, hS, hX⟩ := id hall
  obtain ⟨mcp, hps, hA3, hA8, hg2, hp16, hPp, hdr⟩ := id hP
  obtain ⟨mco, hos, hA4, hA9, hg3, ho8, hond, hOo⟩ := id hO
  obtain ⟨sf, df, kf, nk, hIA, hse, hsf, hdry, hdf, hsk, hnk, hg1, hkf⟩ := id hI
  obtain ⟨mcr, hrw, hA5, hAns, hr16⟩ := id hR
  obtain ⟨hsh, hsa, hA6, hA7, hsk8⟩ := id hS
  have ebp := hX.2.2
  refine J_ltA (fun hlA9 => ?_)
  have hne9 : jNe Ω := cx.kw.ne
  have hal3 := hps.lt hlA9
  have hal4 := hos.lt hlA9
  have hbA := ebp _ hAa
  have hb0 := ebp _ hIA.1
  have hb1 := ebp _ hIA.2.1
  have hb2 := ebp _ hIA.2.2
  have hb3 := ebp _ hA3
  have hb4 := ebp _ hA4
  have hb5 := ebp _ hA5
  have hb6 := ebp _ hA6
  have hb7 := ebp _ hA7
  have hqa : jHide _ := hall.neO hC
  have hlA0 := hlA9
  have ebp0 := ebp
  refine J_bs cx (fun hbs9 => ?_)
  refine J_lt hC (fun hlt0 => ?_)
  refine J_lt hse (fun hlt1 => ?_)
  refine J_lt hdry (fun hlt2 => ?_)
  refine J_lt hsk (fun hlt3 => ?_)
  refine J_lt hsh (fun hlt6 => ?_)
  refine J_lt hsa (fun hlt7 => ?_)
  refine J_aload_n cx dX1_burns_0 rfl ?_
  refine J_callV (n := 0) cx (ci := 1) [] (t_Py_lost l Ω a hpy hsN) dX1_burns_1 (lw_V q1768 q1769 q1770 q85 q1771) ⟨rfl, by decide, by decide, by decide +kernel⟩ rfl hC rfl rfl ⟨Nat.le_of_ble_eq_true rfl, Nat.le_of_ble_eq_true rfl⟩ rfl rfl (Nat.le_of_ble_eq_true rfl) ⟨Nat.le_of_ble_eq_true rfl, Nat.le_of_ble_eq_true rfl⟩ (fun v9 G9 z9 hp9 _ => ?_)
  obtain ⟨e1, e2, hbL, hfrL⟩ := hp9
  subst e1; subst e2
  have hpyL : isPy Ω (fun q => A q ∧ q < sz) G9 a g D cp row e9 := (hpy.region (A' := (fun q => A q ∧ q < sz)) (fun q x hx h => ⟨h, hlA0 q x hx⟩) (fun q h => ebp0 q h.1)).mono (fun q c hq _ => (hfrL q (hlA0 q c hq)).trans hq)
  have hCL : G9 a = some (pyE B g e9) := (hfrL a hlt0).trans hC
  refine J_astore_n1 cx dX1_burns_4 (by decide) rfl ?_
  refine J_ltA (fun hlL => ?_)
  refine J_aload_n cx dX1_burns_5 rfl ?_
  refine J_callV (n := 0) cx (ci := 1) [] (t_Py_onShelf l Ω a hpyL hsN) dX1_burns_6 (lw_V q1834 q1835 q1836 q85 q1837) ⟨rfl, by decide, by decide, by decide +kernel⟩ rfl hCL rfl rfl ⟨Nat.le_of_ble_eq_true rfl, Nat.le_of_ble_eq_true rfl⟩ rfl rfl (Nat.le_of_ble_eq_true rfl) ⟨Nat.le_of_ble_eq_true rfl, Nat.le_of_ble_eq_true rfl⟩ (fun v9 G7 z9 hp9 _ => ?_)
  obtain ⟨e1, e2, hbF0, hfrF⟩ := hp9
  subst e1; subst e2
  have hpyF : isPy Ω (fun q => A q ∧ q < sz) G7 a g D cp row e9 := hpyL.mono (fun q c hq h => (hfrF q (by rcases h with h | ⟨k, x, h⟩; exact Nat.lt_of_lt_of_le h.2 (by omega); exact hlL q c hq)).trans hq)
  have hbL7 : jBS Ω G7 sz (sz + 1) (loM g 8) := hbL.mono (fun q c hq h => (hfrF q (by omega)).trans hq)
  refine J_astore_n2 cx dX1_burns_9 (by decide) rfl ?_
  refine J_aload_n cx dX1_burns_10 rfl ?_
  refine J_aload_n cx dX1_burns_11 rfl ?_
  refine J_callV (n := 1) cx (ci := 35) [.ref sz] (t_BS_andNot l Ω hbF0 hbL7) dX1_burns_12 (lw_V q1838 q1839 q1840 q134 q1841) ⟨rfl, by decide, by decide, by decide +kernel⟩ rfl hbF0.1 rfl rfl ⟨Nat.le_of_ble_eq_true rfl, Nat.le_of_ble_eq_true rfl⟩ rfl rfl (Nat.le_of_ble_eq_true rfl) ⟨Nat.le_of_ble_eq_true rfl, Nat.le_of_ble_eq_true rfl⟩ (fun v9 G6 z9 hp9 _ => ?_)
  obtain ⟨e1, e2, hbF1, hfrA⟩ := hp9
  subst e1; subst e2
  have hpy0 : isPy Ω (fun q => A q ∧ q < sz) G6 a g D cp row e9 := hpyF.bs hbF0 (fun q h => ⟨by have := h.2; omega, by have := h.2; omega⟩) hfrA
  have hbL6 : jBS Ω G6 sz (sz + 1) (loM g 8) := hbL7.bs (b := sz + 1 + 1) (wb := sz + 1 + 1 + 1) ⟨by omega, by omega, by omega, by omega⟩ hfrA
  have hfr6 : ∀ q, q < sz → ¬ A q → G6 q = G q := fun q h1 h2 => (hfrA q (by omega) (by omega)).trans ((hfrF q (by omega)).trans (hfrL q h1))
  refine J_aload_n cx dX1_burns_15 rfl ?_
  refine J_iconst (v := nI (0)) cx dX1_burns_16 (by decide) ?_
  refine J_callV (n := 1) cx (ci := 35) [.int (nI (0))] (t_BS_next l Ω hbL6 (k := 0) (by omega)) dX1_burns_17 (lw_V q1848 q1849 q1850 q134 q1851) ⟨rfl, by decide, by decide, by decide +kernel⟩ rfl hbL6.1 rfl rfl ⟨Nat.le_of_ble_eq_true rfl, Nat.le_of_ble_eq_true rfl⟩ rfl rfl (Nat.le_of_ble_eq_true rfl) ⟨Nat.le_of_ble_eq_true rfl, Nat.le_of_ble_eq_true rfl⟩ (jdet ?_)
  refine J_istore_n3 cx dX1_burns_20 (by decide) rfl ?_
  have K21 : ∀ (nk9 k9 : Nat) (G8 : Mem) (z8 : Nat), nk9 + k9 = 16 → (isPy Ω (fun q => A q ∧ q < sz) G8 a (c_g1 g k9) D cp row e9 ∧ jBS Ω G8 sz (sz + 1) (loM g 8) ∧ jBS Ω G8 (sz + 1 + 1) (sz + 1 + 1 + 1) (mF g) ∧ z8 = sz + 1 + 1 + 1 + 1 ∧ ∀ q, q < sz → ¬ A q → G8 q = G q) → J p l e ({ frames := 6, cells := 6, slots := 12, locals := 127 } : Room) s m args below meth c Ω 4 (MQ below (jQ Ω (fun v G1 sz1 => v = some (.ref (sz + 1 + 1 + 1 + 1)) ∧ sz1 = sz + 1 + 1 + 1 + 1 + 1 + 1 ∧ (jBS Ω G1 (sz + 1 + 1 + 1 + 1) (sz + 1 + 1 + 1 + 1 + 1) (slG (mF g) (c_burn g) e9 16).2.2 ∧ isPy Ω A G1 a (slG (mF g) (c_burn g) e9 16).1 D cp row (slG (mF g) (c_burn g) e9 16).2.1) ∧ ∀ q, q < sz → ¬ A q → G1 q = G q)) args s 6 12 (jB Ω)) 4 8 z8 G8 21 [some (.ref a), some (.ref sz), some (.ref (sz + 1 + 1)), some (.int (r_next (loM g 8) k9))] [] := by
    intro nk9
    induction nk9 using Nat.strongRecOn with
    | _ nk9 ihk9 =>
      intro k9 G8 z8 hk9 hinv
      obtain ⟨hpyU, hbL6, hbF1, rfl, hfr6⟩ := hinv
      obtain ⟨B, pl, ol, ns, dr, sh, hall⟩ := hpyU.all
      obtain ⟨⟨hAa, hC⟩, hI, hP, hO, hR, hS, hX⟩ := id hall
      obtain ⟨mcp, hps, hA3, hA8, hg2, hp16, hPp, hdr⟩ := id hP
      obtain ⟨mco, hos, hA4, hA9, hg3, ho8, hond, hOo⟩ := id hO
      obtain ⟨sf, df, kf, nk, hIA, hse, hsf, hdry, hdf, hsk, hnk, hg1, hkf⟩ := id hI
      obtain ⟨mcr, hrw, hA5, hAns, hr16⟩ := id hR
      obtain ⟨hsh, hsa, hA6, hA7, hsk8⟩ := id hS
      have ebp := hX.2.2
      refine J_ltA (fun hlA9 => ?_)
      have hne9 : jNe Ω := cx.kw.ne
      have hal3 := hps.lt hlA9
      have hal4 := hos.lt hlA9
      have hbA := ebp _ hAa
      have hb0 := ebp _ hIA.1
      have hb1 := ebp _ hIA.2.1
      have hb2 := ebp _ hIA.2.2
      have hb3 := ebp _ hA3
      have hb4 := ebp _ hA4
      have hb5 := ebp _ hA5
      have hb6 := ebp _ hA6
      have hb7 := ebp _ hA7
      have hqa : jHide _ := hall.neO hC
      refine J_lt hC (fun hlt0 => ?_)
      refine J_lt hse (fun hlt1 => ?_)
      refine J_lt hdry (fun hlt2 => ?_)
      refine J_lt hsk (fun hlt3 => ?_)
      refine J_lt hsh (fun hlt6 => ?_)
      refine J_lt hsa (fun hlt7 => ?_)
      have hpl9 : pl.length = tn (g 2) := by rw [cg1_lo g _ (by omega)] at hg2; rw [hg2, tn_nI (by omega)]
      rcases nsb_spec (loM g 8) (16 - k9) k9 (by omega) with ⟨hb1, hb2, hb3, hb4⟩ | ⟨hb1, hb2⟩
      · obtain ⟨r9, hrr9⟩ : ∃ x, nsb (loM g 8) k9 (16 - k9) = x := ⟨_, rfl⟩
        rw [hrr9] at hb1 hb2 hb3 hb4
        have hrn : r_next (loM g 8) k9 = nI r9 := by simp only [r_next]; rw [hrr9, if_neg (by omega)]
        refine J_loc [some (.ref a), some (.ref sz), some (.ref (sz + 1 + 1)), some (.int (nI (r9)))] (by rw [hrn]) ?_
        have hrp : r9 < pl.length := by rw [hpl9]; exact loM_pot hsN hb3
        refine J_iload_n cx dX1_burns_21 rfl ?_
        refine J_if_lt (tgt := 52) cx dX1_burns_22 (by decide) (fun c22 => absurd c22 (fun q => absurd q (nI_pos (by omega)))) (fun c22 => ?_)
        refine J_aload_n cx dX1_burns_25 rfl ?_
        refine J_get cx in_X1 (ci := 1) rfl 3 (by decide) q253 (fun _ h => h) dX1_burns_26 hC rfl ?_
        refine J_iload_n cx dX1_burns_29 rfl ?_
        obtain ⟨y12, hy12⟩ := jget (ns := pl) (i := r9) (by omega)
        obtain ⟨hAy12, hAd12, w12, f12, hc12, hn12, hw12, hwb12, hd12, hl12, hm12, hu12, he12, hf12, hv12⟩ := hPp _ _ hy12
        have hq12 : jHide _ := hall.neP hne9 hc12 hd12 hw12
        have hz12 : y12 < (sz + 1 + 1 + 1 + 1) ∧ dr r9 < (sz + 1 + 1 + 1 + 1) ∧ w12 < (sz + 1 + 1 + 1 + 1) := ⟨hlA9 _ _ hc12, hlA9 _ _ hd12, hlA9 _ _ hw12⟩
        refine J_al_get cx dX1_burns_30 q413 hps hy12 ⟨Nat.le_of_ble_eq_true rfl, Nat.le_of_ble_eq_true rfl⟩ (Nat.le_of_ble_eq_true rfl) ⟨Nat.le_of_ble_eq_true rfl, Nat.le_of_ble_eq_true rfl⟩ ?_
        refine J_castS (q := (RX6, TX6, 12)) cx dX1_burns_33 q411 (ci := 5) rfl hc12 ?_
        refine J_bipush (v := nI (7)) cx dX1_burns_36 (by decide) ?_
        refine J_putN cx in_X6 tyX6 tyX6_ok nmX6 (ci := 5) rfl 4 (by decide) q461 (fun _ h => h) rfl (ty := .int) (by decide +kernel) dX1_burns_38 rfl rfl hc12 (Nat.le_of_ble_eq_true rfl) (by have := ebp _ hAy12; omega) ?_
        refine J_mem (gset G8 y12 (.inr (5, [.int (nI (r9)), .int (gP (c_g1 g k9) r9 1), .int (gP (c_g1 g k9) r9 2), .int (gP (c_g1 g k9) r9 3), .int (nI (7)), .int (gP (c_g1 g k9) r9 4), .int (gP (c_g1 g k9) r9 5), .float ((gP (c_g1 g k9) r9 11).toUInt32), .ref w12, .int (gP (c_g1 g k9) r9 10), .ref (dr r9), .int (nI ((D r9).length))]))) rfl ?_
        refine J_aload_n cx dX1_burns_41 rfl ?_
        refine J_iload_n cx dX1_burns_42 rfl ?_
        refine J_iconst (v := nI (1)) cx dX1_burns_43 (by decide) ?_
        refine J_iaddN cx dX1_burns_44 ?_
        refine J_callV (n := 1) cx (ci := 35) [.int (nI (r9 + 1))] (t_BS_next l Ω (hbL6.put (hc12) (by simp) (by simp)) (k := r9 + 1) (by omega)) dX1_burns_45 (lw_V q1848 q1849 q1850 q134 q1851) ⟨rfl, by decide, by decide, by decide +kernel⟩ rfl (hbL6.put (hc12) (by simp) (by simp)).1 rfl rfl ⟨Nat.le_of_ble_eq_true rfl, Nat.le_of_ble_eq_true rfl⟩ rfl rfl (Nat.le_of_ble_eq_true rfl) ⟨Nat.le_of_ble_eq_true rfl, Nat.le_of_ble_eq_true rfl⟩ (jdet ?_)
        refine J_istore_n3 cx dX1_burns_48 (by decide) rfl ?_
        refine J_goto (tgt := 21) cx dX1_burns_49 (by decide) ?_
        refine J_sub (L1 := [some (.ref a), some (.ref sz), some (.ref (sz + 1 + 1)), some (.int (r_next (loM g 8) (r9 + 1)))]) (jsub_s (jsub_s (jsub_s (jsub_s jsub_0)))) ?_
        have hso : c_g1 g r9 = c_g1 g k9 := csts_skip g _ _ hb2 hb4
        have hst : c_g1 g (r9 + 1) = upd (c_g1 g k9) (50 + 13 * r9 + 0) (nI (7)) := by rw [show c_g1 g (r9 + 1) = upd (c_g1 g r9) (50 + 13 * r9 + 0) (nI (7)) from csts_step g _ _ hb3, hso]
        have hjp : jPot Ω (gset G8 y12 (.inr (5, [.int (nI (r9)), .int (gP (c_g1 g k9) r9 1), .int (gP (c_g1 g k9) r9 2), .int (gP (c_g1 g k9) r9 3), .int (nI (7)), .int (gP (c_g1 g k9) r9 4), .int (gP (c_g1 g k9) r9 5), .float ((gP (c_g1 g k9) r9 11).toUInt32), .ref w12, .int (gP (c_g1 g k9) r9 10), .ref (dr r9), .int (nI ((D r9).length))]))) y12 r9 (upd (gP (c_g1 g k9) r9) 0 (nI (7))) (D r9) (dr r9) (cp r9) := ⟨w12, f12, gset_eq.trans (by simp [potC, upd]), by simp [upd, hn12], (gset_ne (Ne.symm hq12.get.2.2.2.1)).trans (by simpa [upd] using hw12), hwb12, (gset_ne (Ne.symm hq12.get.2.2.1)).trans (hd12), hl12, hm12, hu12, he12, hf12, by simpa [upd] using hv12⟩
        have hpy7 : isPy Ω (fun q => A q ∧ q < sz) (gset G8 y12 (.inr (5, [.int (nI (r9)), .int (gP (c_g1 g k9) r9 1), .int (gP (c_g1 g k9) r9 2), .int (gP (c_g1 g k9) r9 3), .int (nI (7)), .int (gP (c_g1 g k9) r9 4), .int (gP (c_g1 g k9) r9 5), .float ((gP (c_g1 g k9) r9 11).toUInt32), .ref w12, .int (gP (c_g1 g k9) r9 10), .ref (dr r9), .int (nI ((D r9).length))]))) a (c_g1 g (r9 + 1)) D cp row e9 := hall.pot hne9 hy12 (fun q c hq h1 h2 => (gset_ne h1).trans hq) (hjp.congr (fun i hi _ => by rw [hst]; simp only [gP, upd]; by_cases h : i = 0 <;> simp [h])) hAd12 (Or.inl rfl) (fun i h1 h2 => by rw [hst]; simp only [upd]; rw [if_neg (by omega)]) (fun k _ => ⟨rfl, rfl⟩)
        exact ihk9 (16 - (r9 + 1)) (by omega) (r9 + 1) _ _ (by omega) ⟨hpy7, (hbL6.put (hc12) (by simp) (by simp)), (hbF1.put (hc12) (by simp) (by simp)), rfl, fun q h1 h2 => (gset_ne (fun e => h2 (by rw [e]; exact hAy12.1))).trans (hfr6 q h1 h2)⟩
      · have hrn : r_next (loM g 8) k9 = -1 := by simp only [r_next]; rw [if_pos hb1]
        refine J_loc [some (.ref a), some (.ref sz), some (.ref (sz + 1 + 1)), some (.int (-1))] (by rw [hrn]) ?_
        refine J_iload_n cx dX1_burns_21 rfl ?_
        refine J_if_lt (tgt := 52) cx dX1_burns_22 (by decide) (fun c22 => ?_) (fun c22 => absurd c22 (by decide))
        refine J_aload_n cx dX1_burns_52 rfl ?_
        refine J_iconst (v := nI (0)) cx dX1_burns_53 (by decide) ?_
        refine J_callV (n := 1) cx (ci := 35) [.int (nI (0))] (t_BS_next l Ω hbF1 (k := 0) (by omega)) dX1_burns_54 (lw_V q1848 q1849 q1850 q134 q1851) ⟨rfl, by decide, by decide, by decide +kernel⟩ rfl hbF1.1 rfl rfl ⟨Nat.le_of_ble_eq_true rfl, Nat.le_of_ble_eq_true rfl⟩ rfl rfl (Nat.le_of_ble_eq_true rfl) ⟨Nat.le_of_ble_eq_true rfl, Nat.le_of_ble_eq_true rfl⟩ (jdet ?_)
        refine J_istore_n3 cx dX1_burns_57 (by decide) rfl ?_
        have K58 : ∀ (nj9 j9 : Nat) (G8 : Mem) (z8 : Nat), nj9 + j9 = 16 → (isPy Ω (fun q => A q ∧ q < sz) G8 a (c_g2 g j9) D cp row e9 ∧ jBS Ω G8 sz (sz + 1) (loM g 8) ∧ jBS Ω G8 (sz + 1 + 1) (sz + 1 + 1 + 1) (mF g) ∧ z8 = sz + 1 + 1 + 1 + 1 ∧ ∀ q, q < sz → ¬ A q → G8 q = G q) → J p l e ({ frames := 6, cells := 6, slots := 12, locals := 127 } : Room) s m args below meth c Ω 4 (MQ below (jQ Ω (fun v G1 sz1 => v = some (.ref (sz + 1 + 1 + 1 + 1)) ∧ sz1 = sz + 1 + 1 + 1 + 1 + 1 + 1 ∧ (jBS Ω G1 (sz + 1 + 1 + 1 + 1) (sz + 1 + 1 + 1 + 1 + 1) (slG (mF g) (c_burn g) e9 16).2.2 ∧ isPy Ω A G1 a (slG (mF g) (c_burn g) e9 16).1 D cp row (slG (mF g) (c_burn g) e9 16).2.1) ∧ ∀ q, q < sz → ¬ A q → G1 q = G q)) args s 6 12 (jB Ω)) 4 8 z8 G8 58 [some (.ref a), some (.ref sz), some (.ref (sz + 1 + 1)), some (.int (r_next (mF g) j9))] [] := by
          intro nj9
          induction nj9 using Nat.strongRecOn with
          | _ nj9 ihj9 =>
            intro j9 G8 z8 hj9 hinv
            obtain ⟨hpyU, hbL6, hbF1, rfl, hfr6⟩ := hinv
            obtain ⟨B, pl, ol, ns, dr, sh, hall⟩ := hpyU.all
            obtain ⟨⟨hAa, hC⟩, hI, hP, hO, hR, hS, hX⟩ := id hall
            obtain ⟨mcp, hps, hA3, hA8, hg2, hp16, hPp, hdr⟩ := id hP
            obtain ⟨mco, hos, hA4, hA9, hg3, ho8, hond, hOo⟩ := id hO
            obtain ⟨sf, df, kf, nk, hIA, hse, hsf, hdry, hdf, hsk, hnk, hg1, hkf⟩ := id hI
            obtain ⟨mcr, hrw, hA5, hAns, hr16⟩ := id hR
            obtain ⟨hsh, hsa, hA6, hA7, hsk8⟩ := id hS
            have ebp := hX.2.2
            refine J_ltA (fun hlA9 => ?_)
            have hne9 : jNe Ω := cx.kw.ne
            have hal3 := hps.lt hlA9
            have hal4 := hos.lt hlA9
            have hbA := ebp _ hAa
            have hb0 := ebp _ hIA.1
            have hb1 := ebp _ hIA.2.1
            have hb2 := ebp _ hIA.2.2
            have hb3 := ebp _ hA3
            have hb4 := ebp _ hA4
            have hb5 := ebp _ hA5
            have hb6 := ebp _ hA6
            have hb7 := ebp _ hA7
            have hqa : jHide _ := hall.neO hC
            refine J_lt hC (fun hlt0 => ?_)
            refine J_lt hse (fun hlt1 => ?_)
            refine J_lt hdry (fun hlt2 => ?_)
            refine J_lt hsk (fun hlt3 => ?_)
            refine J_lt hsh (fun hlt6 => ?_)
            refine J_lt hsa (fun hlt7 => ?_)
            have hpl9 : pl.length = tn (g 2) := by rw [cg2_lo g _ (by omega)] at hg2; rw [hg2, tn_nI (by omega)]
            rcases nsb_spec (mF g) (16 - j9) j9 (by omega) with ⟨hb1, hb2, hb3, hb4⟩ | ⟨hb1, hb2⟩
            · obtain ⟨r8, hrr8⟩ : ∃ x, nsb (mF g) j9 (16 - j9) = x := ⟨_, rfl⟩
              rw [hrr8] at hb1 hb2 hb3 hb4
              have hrn : r_next (mF g) j9 = nI r8 := by simp only [r_next]; rw [hrr8, if_neg (by omega)]
              refine J_loc [some (.ref a), some (.ref sz), some (.ref (sz + 1 + 1)), some (.int (nI (r8)))] (by rw [hrn]) ?_
              have hrp : r8 < pl.length := by rw [hpl9]; exact mF_pot hsN hb3
              refine J_iload_n cx dX1_burns_58 rfl ?_
              refine J_if_lt (tgt := 88) cx dX1_burns_59 (by decide) (fun c59 => absurd c59 (fun q => absurd q (nI_pos (by omega)))) (fun c59 => ?_)
              refine J_aload_n cx dX1_burns_62 rfl ?_
              refine J_get cx in_X1 (ci := 1) rfl 3 (by decide) q253 (fun _ h => h) dX1_burns_63 hC rfl ?_
              refine J_iload_n cx dX1_burns_66 rfl ?_
              obtain ⟨y13, hy13⟩ := jget (ns := pl) (i := r8) (by omega)
              obtain ⟨hAy13, hAd13, w13, f13, hc13, hn13, hw13, hwb13, hd13, hl13, hm13, hu13, he13, hf13, hv13⟩ := hPp _ _ hy13
              have hq13 : jHide _ := hall.neP hne9 hc13 hd13 hw13
              have hz13 : y13 < (sz + 1 + 1 + 1 + 1) ∧ dr r8 < (sz + 1 + 1 + 1 + 1) ∧ w13 < (sz + 1 + 1 + 1 + 1) := ⟨hlA9 _ _ hc13, hlA9 _ _ hd13, hlA9 _ _ hw13⟩
              refine J_al_get cx dX1_burns_67 q413 hps hy13 ⟨Nat.le_of_ble_eq_true rfl, Nat.le_of_ble_eq_true rfl⟩ (Nat.le_of_ble_eq_true rfl) ⟨Nat.le_of_ble_eq_true rfl, Nat.le_of_ble_eq_true rfl⟩ ?_
              refine J_castS (q := (RX6, TX6, 12)) cx dX1_burns_70 q411 (ci := 5) rfl hc13 ?_
              refine J_iconst (v := nI (5)) cx dX1_burns_73 (by decide) ?_
              refine J_putN cx in_X6 tyX6 tyX6_ok nmX6 (ci := 5) rfl 4 (by decide) q461 (fun _ h => h) rfl (ty := .int) (by decide +kernel) dX1_burns_74 rfl rfl hc13 (Nat.le_of_ble_eq_true rfl) (by have := ebp _ hAy13; omega) ?_
              refine J_mem (gset G8 y13 (.inr (5, [.int (nI (r8)), .int (gP (c_g2 g j9) r8 1), .int (gP (c_g2 g j9) r8 2), .int (gP (c_g2 g j9) r8 3), .int (nI (5)), .int (gP (c_g2 g j9) r8 4), .int (gP (c_g2 g j9) r8 5), .float ((gP (c_g2 g j9) r8 11).toUInt32), .ref w13, .int (gP (c_g2 g j9) r8 10), .ref (dr r8), .int (nI ((D r8).length))]))) rfl ?_
              refine J_aload_n cx dX1_burns_77 rfl ?_
              refine J_iload_n cx dX1_burns_78 rfl ?_
              refine J_iconst (v := nI (1)) cx dX1_burns_79 (by decide) ?_
              refine J_iaddN cx dX1_burns_80 ?_
              refine J_callV (n := 1) cx (ci := 35) [.int (nI (r8 + 1))] (t_BS_next l Ω (hbF1.put (hc13) (by simp) (by simp)) (k := r8 + 1) (by omega)) dX1_burns_81 (lw_V q1848 q1849 q1850 q134 q1851) ⟨rfl, by decide, by decide, by decide +kernel⟩ rfl (hbF1.put (hc13) (by simp) (by simp)).1 rfl rfl ⟨Nat.le_of_ble_eq_true rfl, Nat.le_of_ble_eq_true rfl⟩ rfl rfl (Nat.le_of_ble_eq_true rfl) ⟨Nat.le_of_ble_eq_true rfl, Nat.le_of_ble_eq_true rfl⟩ (jdet ?_)
              refine J_istore_n3 cx dX1_burns_84 (by decide) rfl ?_
              refine J_goto (tgt := 58) cx dX1_burns_85 (by decide) ?_
              refine J_sub (L1 := [some (.ref a), some (.ref sz), some (.ref (sz + 1 + 1)), some (.int (r_next (mF g) (r8 + 1)))]) (jsub_s (jsub_s (jsub_s (jsub_s jsub_0)))) ?_
              have hso : c_g2 g r8 = c_g2 g j9 := csts_skip (c_g1 g 16) _ _ hb2 hb4
              have hst : c_g2 g (r8 + 1) = upd (c_g2 g j9) (50 + 13 * r8 + 0) (nI (5)) := by rw [show c_g2 g (r8 + 1) = upd (c_g2 g r8) (50 + 13 * r8 + 0) (nI (5)) from csts_step (c_g1 g 16) _ _ hb3, hso]
              have hjp : jPot Ω (gset G8 y13 (.inr (5, [.int (nI (r8)), .int (gP (c_g2 g j9) r8 1), .int (gP (c_g2 g j9) r8 2), .int (gP (c_g2 g j9) r8 3), .int (nI (5)), .int (gP (c_g2 g j9) r8 4), .int (gP (c_g2 g j9) r8 5), .float ((gP (c_g2 g j9) r8 11).toUInt32), .ref w13, .int (gP (c_g2 g j9) r8 10), .ref (dr r8), .int (nI ((D r8).length))]))) y13 r8 (upd (gP (c_g2 g j9) r8) 0 (nI (5))) (D r8) (dr r8) (cp r8) := ⟨w13, f13, gset_eq.trans (by simp [potC, upd]), by simp [upd, hn13], (gset_ne (Ne.symm hq13.get.2.2.2.1)).trans (by simpa [upd] using hw13), hwb13, (gset_ne (Ne.symm hq13.get.2.2.1)).trans (hd13), hl13, hm13, hu13, he13, hf13, by simpa [upd] using hv13⟩
              have hpy7 : isPy Ω (fun q => A q ∧ q < sz) (gset G8 y13 (.inr (5, [.int (nI (r8)), .int (gP (c_g2 g j9) r8 1), .int (gP (c_g2 g j9) r8 2), .int (gP (c_g2 g j9) r8 3), .int (nI (5)), .int (gP (c_g2 g j9) r8 4), .int (gP (c_g2 g j9) r8 5), .float ((gP (c_g2 g j9) r8 11).toUInt32), .ref w13, .int (gP (c_g2 g j9) r8 10), .ref (dr r8), .int (nI ((D r8).length))]))) a (c_g2 g (r8 + 1)) D cp row e9 := hall.pot hne9 hy13 (fun q c hq h1 h2 => (gset_ne h1).trans hq) (hjp.congr (fun i hi _ => by rw [hst]; simp only [gP, upd]; by_cases h : i = 0 <;> simp [h])) hAd13 (Or.inl rfl) (fun i h1 h2 => by rw [hst]; simp only [upd]; rw [if_neg (by omega)]) (fun k _ => ⟨rfl, rfl⟩)
              exact ihj9 (16 - (r8 + 1)) (by omega) (r8 + 1) _ _ (by omega) ⟨hpy7, (hbL6.put (hc13) (by simp) (by simp)), (hbF1.put (hc13) (by simp) (by simp)), rfl, fun q h1 h2 => (gset_ne (fun e => h2 (by rw [e]; exact hAy13.1))).trans (hfr6 q h1 h2)⟩
            · have hrn : r_next (mF g) j9 = -1 := by simp only [r_next]; rw [if_pos hb1]
              refine J_loc [some (.ref a), some (.ref sz), some (.ref (sz + 1 + 1)), some (.int (-1))] (by rw [hrn]) ?_
              refine J_iload_n cx dX1_burns_58 rfl ?_
              refine J_if_lt (tgt := 88) cx dX1_burns_59 (by decide) (fun c59 => ?_) (fun c59 => absurd c59 (by decide))
              refine J_aload_n cx dX1_burns_88 rfl ?_
              refine J_get cx in_X1 (ci := 1) rfl 6 (by decide) q259 (fun _ h => h) dX1_burns_89 hC rfl ?_
              refine J_callV (n := 0) cx (ci := 2) [] (t_X2_clears l Ω (B 6) hsh hsa hb7) dX1_burns_92 (lw_V q1859 q1860 q1861 q91 q1862) ⟨rfl, by decide, by decide, by decide +kernel⟩ rfl hsh rfl rfl ⟨Nat.le_of_ble_eq_true rfl, Nat.le_of_ble_eq_true rfl⟩ rfl rfl (Nat.le_of_ble_eq_true rfl) ⟨Nat.le_of_ble_eq_true rfl, Nat.le_of_ble_eq_true rfl⟩ (jdet ?_)
              refine J_mem (gset G8 (B 7) (.inl (Ω.2.1 5, 8, jAq (S_clr sh 8)))) rfl ?_
              refine J_aload_n cx dX1_burns_95 rfl ?_
              refine J_aload_n cx dX1_burns_96 rfl ?_
              refine J_get cx in_X1 (ci := 1) rfl 7 (by decide) q261 (fun _ h => h) dX1_burns_97 ((gset_ne (Ne.symm (hqa.get.2.2.2.2.2.2.2.2.2.2.2))).trans hC) rfl ?_
              refine J_aload_n cx dX1_burns_100 rfl ?_
              refine J_get cx in_X1 (ci := 1) rfl 0 (by decide) q245 (fun _ h => h) dX1_burns_101 ((gset_ne (Ne.symm (hqa.get.2.2.2.2.2.2.2.2.2.2.2))).trans hC) rfl ?_
              refine J_iconst (v := nI (5)) cx dX1_burns_104 (by decide) ?_
              refine J_iald cx dX1_burns_105 ((gset_ne (jneC hse hsa (by simp))).trans hse) (by omega) (by omega) ?_
              refine J_iadd cx dX1_burns_106 ?_
              refine J_put cx in_X1 tyX1 tyX1_ok nmX1 (ci := 1) rfl 11 (by decide) q269 (fun _ h => h) rfl (ty := .int) (by decide +kernel) dX1_burns_107 rfl rfl ((gset_ne (Ne.symm (hqa.get.2.2.2.2.2.2.2.2.2.2.2))).trans hC) (Nat.le_of_ble_eq_true rfl) (by omega) ?_
              refine J_mem (gset (gset G8 (B 7) (.inl (Ω.2.1 5, 8, jAq (S_clr sh 8)))) a (.inr (1, [.ref (B 0), .ref (B 1), .ref (B 2), .ref (B 3), .ref (B 4), .ref (B 5), .ref (B 6), .int ((c_g2 g j9) 0), .int ((c_g2 g j9) 38), .int ((c_g2 g j9) 39), .int ((c_g2 g j9) 40), .int (((c_g2 g j9) 0) + (sf 5)), .int e9]))) rfl ?_
              refine J_aload_n cx dX1_burns_110 rfl ?_
              refine J_aload_n cx dX1_burns_111 rfl ?_
              have hg16 : c_g2 g j9 = c_g2 g 16 := (csts_skip (c_g1 g 16) _ _ (by omega) (fun j h1 h2 => hb2 j h1 h2)).symm
              rw [hg16] at hall
              have h1 : pyAll Ω (fun q => A q ∧ q < sz) (gset G8 (B 7) (.inl (Ω.2.1 5, 8, jAq (S_clr sh 8)))) a (c_g3 g) D cp row e9 B pl ol ns dr (S_clr sh 8) := hall.shelf hne9 (fun q c hq h1 => (gset_ne h1).trans hq) gset_eq (fun k hk => Or.inl ⟨by simp only [S_clr]; rw [if_pos hk], by simp only [c_g3]; rw [if_pos (by omega)]⟩) (fun i h1 h2 _ => by simp only [c_g3]; rw [if_neg h2])
              have hpyB : isPy Ω (fun q => A q ∧ q < sz) (gset (gset G8 (B 7) (.inl (Ω.2.1 5, 8, jAq (S_clr sh 8)))) a (.inr (1, [.ref (B 0), .ref (B 1), .ref (B 2), .ref (B 3), .ref (B 4), .ref (B 5), .ref (B 6), .int ((c_g2 g j9) 0), .int ((c_g2 g j9) 38), .int ((c_g2 g j9) 39), .int ((c_g2 g j9) 40), .int (((c_g2 g j9) 0) + (sf 5)), .int e9]))) a (c_burn g) D cp row e9 := (h1.own (fun q c hq h1 => (gset_ne h1).trans hq) (gset_eq.trans (by rw [hg16, hsf 5 (by omega), hg16, cg2_lo g 16 (show 4 + 5 < 50 by omega), cg2_lo g 16 (show 0 < 50 by omega), cg2_lo g 16 (show 38 < 50 by omega), cg2_lo g 16 (show 39 < 50 by omega), cg2_lo g 16 (show 40 < 50 by omega)]; rw [pyE_burn])) (fun i h1 h2 h3 h4 h5 h6 => by simp only [c_burn, upd]; rw [if_neg h6])).py
              have hbF2 : jBS Ω (gset (gset G8 (B 7) (.inl (Ω.2.1 5, 8, jAq (S_clr sh 8)))) a (.inr (1, [.ref (B 0), .ref (B 1), .ref (B 2), .ref (B 3), .ref (B 4), .ref (B 5), .ref (B 6), .int ((c_g2 g j9) 0), .int ((c_g2 g j9) 38), .int ((c_g2 g j9) 39), .int ((c_g2 g j9) 40), .int (((c_g2 g j9) 0) + (sf 5)), .int e9]))) (sz + 1 + 1) (sz + 1 + 1 + 1) (mF g) := ((hbF1.put (hsa) (by simp) (by simp)).put ((gset_ne (Ne.symm (hqa.get.2.2.2.2.2.2.2.2.2.2.2))).trans (hC)) (by simp) (by simp))
              refine J_callV (n := 1) cx (ci := 1) [.ref (sz + 1 + 1)] (t_Py_sells l Ω a hpyB (sz + 1 + 1) hbF2 (fun p hp => by rw [show c_burn g 2 = g 2 from by simp only [c_burn, c_g3, upd]; rw [if_neg (by omega), if_neg (by omega)]; exact cg2_lo g 16 (by omega)]; exact mF_pot hsN hp)) dX1_burns_112 (lw_V q1863 q1865 qs24 q85 q1866) ⟨rfl, by decide, by decide, by decide +kernel⟩ rfl gset_eq rfl rfl ⟨Nat.le_of_ble_eq_true rfl, Nat.le_of_ble_eq_true rfl⟩ rfl rfl (Nat.le_of_ble_eq_true rfl) ⟨Nat.le_of_ble_eq_true rfl, Nat.le_of_ble_eq_true rfl⟩ (fun v9 G5 z9 hp9 _ => ?_)
              obtain ⟨e1, e2, ⟨hbS, hpyS⟩, hfrS⟩ := hp9
              subst e1; subst e2
              have hfr : ∀ q, q < sz → ¬ A q → G5 q = G q := fun q h1 h2 => (hfrS q (by omega) (fun h => h2 h.1)).trans ((gset_ne (fun e => h2 (by rw [e]; exact hAa.1))).trans ((gset_ne (fun e => h2 (by rw [e]; exact hA7.1))).trans (hfr6 q h1 h2)))
              exact J_aret cx dX1_burns_115 hr (Or.inl ⟨_, rfl⟩) (Or.inr ⟨_, rfl⟩) ⟨rfl, rfl, ⟨hbS, hpyS.region (fun q x _ h => h.1) (fun q h => ebp0 q h)⟩, hfr⟩ (Nat.le_of_ble_eq_true rfl) (Nat.le_of_ble_eq_true rfl)
        refine J_sub (L1 := [some (.ref a), some (.ref sz), some (.ref (sz + 1 + 1)), some (.int (r_next (mF g) 0))]) (jsub_s (jsub_s (jsub_s (jsub_s jsub_0)))) ?_
        exact K58 16 0 _ _ (by omega) ⟨by rw [show c_g2 g 0 = c_g1 g 16 from csts_0 _ _ _, show c_g1 g 16 = c_g1 g k9 from csts_skip g _ _ (by omega) (fun j h1 h2 => hb2 j h1 h2)]; exact hpyU, hbL6, hbF1, rfl, hfr6⟩
  refine J_sub (L1 := [some (.ref a), some (.ref sz), some (.ref (sz + 1 + 1)), some (.int (r_next (loM g 8) 0))]) (jsub_s (jsub_s (jsub_s (jsub_s jsub_0)))) ?_
  exact K21 16 0 _ _ (by omega) ⟨by rw [show c_g1 g 0 = g from csts_0 g _ _]; exact hpy0, hbL6, hbF1, rfl, hfr6⟩
