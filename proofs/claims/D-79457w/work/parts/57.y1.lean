/-! POTTERY 4 (gen/mk_y1.py): over isPy: readers, inState, covers, glazes -/
set_option maxRecDepth 100000
/-- a refusal in memory, with its causes -/
abbrev rfE (ca : Value) (x : Int32 × Int32) : va_E := .inr (8, [ca, .null, .null, .null, .null, .int 0, .int x.1, .int x.2])
def isRf (G : Mem) : Nat → List (Int32 × Int32) → Prop
  | _, [] => False
  | q, [x] => G q = some (rfE .null x)
  | q, x :: y :: t => ∃ q2, G q = some (rfE (.ref q2) x) ∧ isRf G q2 (y :: t)
theorem isRf.mono {G G1 : Mem} : ∀ {c : List (Int32 × Int32)} {q : Nat}, (∀ z fs, G z = some (.inr (8, fs)) → G1 z = some (.inr (8, fs))) → isRf G q c → isRf G1 q c
  | [], _, _, h => h
  | [x], _, hm, h => hm _ _ h
  | x :: y :: t, _, hm, ⟨q2, h1, h2⟩ => ⟨q2, hm _ _ h1, isRf.mono hm h2⟩
/-- thrown out of a pottery's change: refusals ch at a fresh q, the old untouched -/
def xPy (A : Nat → Prop) (G : Mem) (sz : Nat) (ch : List (Int32 × Int32)) : Nat → Nat → Mem → Nat → Prop := fun ci q G1 sz1 => ci = 8 ∧ sz ≤ q ∧ q < sz1 ∧ isRf G1 q ch ∧ ∀ z, z < sz → ¬ A z → G1 z = G z
theorem xRef.py {A : Nat → Prop} {G : Mem} {sz : Nat} {re de : Int32} {ci q : Nat} {G1 : Mem} {sz1 : Nat} (h : xRef G sz re de .null ci q G1 sz1) : xPy A G sz [(re, de)] ci q G1 sz1 := by
  obtain ⟨h1, rfl, rfl, rfl⟩ := h
  exact ⟨h1, Nat.le_refl _, Nat.lt_succ_self _, gset_eq, fun z hz _ => gset_ne (by omega)⟩
abbrev potR (p : Nat) (f : Nat → Int32) (w dr n : Nat) : PotR := (fun i => match i with | 0 => nI p | 1 => f 1 | 2 => f 2 | 3 => f 3 | 4 => f 0 | 5 => f 4 | 6 => f 5 | _ => f 10, (f 11).toUInt32, fun j => match j with | 0 => w | 1 => dr | _ => n)
theorem t_Py_isPotter (l : Launch) (Ω : jO) {G : Mem} {sz : Nat} {A : Nat → Prop} (a : Nat) {g : Nat → Int32} {D : Nat → List Int32} {cp : Nat → Nat} {row : List Nat} {e9 : Int32} (hpy : isPy Ω A G a g D cp row e9) (p9 : Int32) : Met l yX1_isPotter (ws_ yX1_isPotter cX1_isPotter 2 (some .boolean)) ({ frames := 2, cells := 0, slots := 0, locals := 34 } : Room) (va_Pc [.ref a, .int p9] (jWd Ω G sz)) (jQ Ω (jD (some (.int (r_X3_in p9 (nI (0)) (g 1 - nI (1))))) G sz)) 0 0 (jB Ω) := by
  obtain ⟨B, pl, ol, ns, dr, sh, hall⟩ := hpy.all
  obtain ⟨⟨hAa, hC⟩, hI, hP, hO, hR, hS, hX⟩ := id hall
  obtain ⟨mcp, hps, hA3, hA8, hg2, hp16, hPp, hdr⟩ := id hP
  obtain ⟨mco, hos, hA4, hA9, hg3, ho8, hond, hOo⟩ := id hO
  obtain ⟨sf, df, kf, nk, hIA, hse, hsf, hdry, hdf, hsk, hnk, hg1, hkf⟩ := id hI
  obtain ⟨mcr, hrw, hA5, hAns, hr16⟩ := id hR
  obtain ⟨hsh, hsa, hA6, hA7, hsk8⟩ := id hS
  have ebp := hX.2.2
  rw [hg1]
  exact t_X1_isPotter l Ω a hC p9 hsk
theorem t_Py_isPot (l : Launch) (Ω : jO) {G : Mem} {sz : Nat} {A : Nat → Prop} (a : Nat) {g : Nat → Int32} {D : Nat → List Int32} {cp : Nat → Nat} {row : List Nat} {e9 : Int32} (hpy : isPy Ω A G a g D cp row e9) (p9 : Int32) : Met l yX1_isPot (ws_ yX1_isPot cX1_isPot 2 (some .boolean)) ({ frames := 2, cells := 0, slots := 0, locals := 40 } : Room) (va_Pc [.ref a, .int p9] (jWd Ω G sz)) (jQ Ω (jD (some (.int (r_X3_in p9 (nI (0)) (g 2 - nI (1))))) G sz)) 0 0 (jB Ω) := by
  obtain ⟨B, pl, ol, ns, dr, sh, hall⟩ := hpy.all
  obtain ⟨⟨hAa, hC⟩, hI, hP, hO, hR, hS, hX⟩ := id hall
  obtain ⟨mcp, hps, hA3, hA8, hg2, hp16, hPp, hdr⟩ := id hP
  obtain ⟨mco, hos, hA4, hA9, hg3, ho8, hond, hOo⟩ := id hO
  obtain ⟨sf, df, kf, nk, hIA, hse, hsf, hdry, hdf, hsk, hnk, hg1, hkf⟩ := id hI
  obtain ⟨mcr, hrw, hA5, hAns, hr16⟩ := id hR
  obtain ⟨hsh, hsa, hA6, hA7, hsk8⟩ := id hS
  have ebp := hX.2.2
  rw [hg2]
  exact t_X1_isPot l Ω a hC p9 hps
def c_rest (g : Nat → Int32) : Int32 := if nI 0 < g 49 - g 0 then g 49 - g 0 else nI 0
theorem t_Py_restLeft (l : Launch) (Ω : jO) {G : Mem} {sz : Nat} {A : Nat → Prop} (a : Nat) {g : Nat → Int32} {D : Nat → List Int32} {cp : Nat → Nat} {row : List Nat} {e9 : Int32} (hpy : isPy Ω A G a g D cp row e9) : Met l yX1_restLeft (ws_ yX1_restLeft cX1_restLeft 1 (some .int)) ({ frames := 1, cells := 0, slots := 0, locals := 32 } : Room) (va_Pc [.ref a] (jWd Ω G sz)) (jQ Ω (jD (some (.int (c_rest g))) G sz)) 0 0 (jB Ω) := by
  obtain ⟨B, pl, ol, ns, dr, sh, hall⟩ := hpy.all
  obtain ⟨⟨hAa, hC⟩, hI, hP, hO, hR, hS, hX⟩ := id hall
  obtain ⟨mcp, hps, hA3, hA8, hg2, hp16, hPp, hdr⟩ := id hP
  obtain ⟨mco, hos, hA4, hA9, hg3, ho8, hond, hOo⟩ := id hO
  obtain ⟨sf, df, kf, nk, hIA, hse, hsf, hdry, hdf, hsk, hnk, hg1, hkf⟩ := id hI
  obtain ⟨mcr, hrw, hA5, hAns, hr16⟩ := id hR
  obtain ⟨hsh, hsa, hA6, hA7, hsk8⟩ := id hS
  have ebp := hX.2.2
  exact t_X1_restLeft l Ω a hC
def S_manyG (g : Nat → Int32) (x9 : Int32) : Nat → Int32
  | 0 => nI (0)
  | k + 1 => S_manyG g x9 k + r_bit (if gP g k 0 = x9 then nI (1) else nI (0))
set_option maxHeartbeats 1000000 in
theorem t_Py_many (l : Launch) (Ω : jO) {G : Mem} {sz : Nat} {A : Nat → Prop} (a : Nat) {g : Nat → Int32} {D : Nat → List Int32} {cp : Nat → Nat} {row : List Nat} {e9 : Int32} (hpy : isPy Ω A G a g D cp row e9) (x9 : Int32) : Met l yX1_many (ws_ yX1_many cX1_many 4 (some .int)) ({ frames := 4, cells := 0, slots := 0, locals := 80 } : Room) (va_Pc [.ref a, .int x9] (jWd Ω G sz)) (jQ Ω (jD (some (.int (S_manyG g x9 (tn (g 2))))) G sz)) 0 0 (jB Ω) := by
  refine jMet (by decide) (Nat.le_of_ble_eq_true rfl) ?_
  intro p e s m args below meth c cx hr hnm
  refine J_loc [some (.ref a), some (.int x9), none, none] rfl ?_
  obtain ⟨B, pl, ol, ns, dr, sh, hall⟩ := hpy.all
  obtain ⟨⟨hAa, hC⟩, hI, hP, hO, hR, hS, hX⟩ := id hall
  obtain ⟨mcp, hps, hA3, hA8, hg2, hp16, hPp, hdr⟩ := id hP
  obtain ⟨mco, hos, hA4, hA9, hg3, ho8, hond, hOo⟩ := id hO
  obtain ⟨sf, df, kf, nk, hIA, hse, hsf, hdry, hdf, hsk, hnk, hg1, hkf⟩ := id hI
  obtain ⟨mcr, hrw, hA5, hAns, hr16⟩ := id hR
  obtain ⟨hsh, hsa, hA6, hA7, hsk8⟩ := id hS
  have ebp := hX.2.2
  refine J_ltA (fun hlA9 => ?_)
  have hne9 : jNe Ω := cx.kw.ne
  have hal3 := hps.lt hlA9
  have hal4 := hos.lt hlA9
  have hbA := ebp _ hAa
  have hb0 := ebp _ hIA.1
  have hb1 := ebp _ hIA.2.1
  have hb2 := ebp _ hIA.2.2
  have hb3 := ebp _ hA3
  have hb4 := ebp _ hA4
  have hb5 := ebp _ hA5
  have hb6 := ebp _ hA6
  have hb7 := ebp _ hA7
  have hqa : jHide _ := hall.neO hC
  refine J_iconst (v := nI (0)) cx dX1_many_0 (by decide) ?_
  refine J_istore_n2 cx dX1_many_1 (by decide) rfl ?_
  refine J_iconst (v := nI (0)) cx dX1_many_2 (by decide) ?_
  refine J_istore_n3 cx dX1_many_3 (by decide) rfl ?_
  have K4 : ∀ nk9 k9 : Nat, nk9 + k9 = pl.length → J p l e ({ frames := 4, cells := 0, slots := 0, locals := 80 } : Room) s m args below meth c Ω 4 (MQ below (jQ Ω (jD (some (.int (S_manyG g x9 (tn (g 2))))) G sz)) args s 0 0 (jB Ω)) 0 0 (sz) G 4 [some (.ref a), some (.int x9), some (.int (S_manyG g x9 k9)), some (.int (nI (k9)))] [] := by
    intro nk9
    induction nk9 with
    | zero =>
      intro k9 hk9
      refine J_iload_n cx dX1_many_4 rfl ?_
      refine J_aload_n cx dX1_many_5 rfl ?_
      refine J_get cx in_X1 (ci := 1) rfl 3 (by decide) q253 (fun _ h => h) dX1_many_6 hC rfl ?_
      refine J_al_size cx dX1_many_9 q410 hps ⟨Nat.le_of_ble_eq_true rfl, Nat.le_of_ble_eq_true rfl⟩ (Nat.le_of_ble_eq_true rfl) ⟨Nat.le_of_ble_eq_true rfl, Nat.le_of_ble_eq_true rfl⟩ ?_
      refine J_icmpN_ge (tgt := 50) cx dX1_many_12 (by decide) (by omega) (by omega) (fun c12 => ?_) (fun c12 => absurd c12 (by omega))
      refine J_iload_n cx dX1_many_50 rfl ?_
      exact J_iret cx dX1_many_51 hr ⟨by rw [hg2, tn_nI (by omega), show k9 = pl.length by omega], rfl, rfl⟩ (Nat.le_of_ble_eq_true rfl) (Nat.le_of_ble_eq_true rfl)
    | succ nk9 ihk9 =>
      intro k9 hk9
      refine J_iload_n cx dX1_many_4 rfl ?_
      refine J_aload_n cx dX1_many_5 rfl ?_
      refine J_get cx in_X1 (ci := 1) rfl 3 (by decide) q253 (fun _ h => h) dX1_many_6 hC rfl ?_
      refine J_al_size cx dX1_many_9 q410 hps ⟨Nat.le_of_ble_eq_true rfl, Nat.le_of_ble_eq_true rfl⟩ (Nat.le_of_ble_eq_true rfl) ⟨Nat.le_of_ble_eq_true rfl, Nat.le_of_ble_eq_true rfl⟩ ?_
      refine J_icmpN_ge (tgt := 50) cx dX1_many_12 (by decide) (by omega) (by omega) (fun c12 => absurd c12 (by omega)) (fun c12 => ?_)
      refine J_iload_n cx dX1_many_15 rfl ?_
      refine J_aload_n cx dX1_many_16 rfl ?_
      refine J_get cx in_X1 (ci := 1) rfl 3 (by decide) q253 (fun _ h => h) dX1_many_17 hC rfl ?_
      refine J_iload_n cx dX1_many_20 rfl ?_
      obtain ⟨y1, hy1⟩ := jget (ns := pl) (i := k9) (by omega)
      obtain ⟨hAy1, hAd1, w1, f1, hc1, hn1, hw1, hwb1, hd1, hl1, hm1, hu1, he1, hf1, hv1⟩ := hPp _ _ hy1
      have hq1 : jHide _ := hall.neP hne9 hc1 hd1 hw1
      have hz1 : y1 < sz ∧ dr k9 < sz ∧ w1 < sz := ⟨hlA9 _ _ hc1, hlA9 _ _ hd1, hlA9 _ _ hw1⟩
      refine J_al_get cx dX1_many_21 q413 hps hy1 ⟨Nat.le_of_ble_eq_true rfl, Nat.le_of_ble_eq_true rfl⟩ (Nat.le_of_ble_eq_true rfl) ⟨Nat.le_of_ble_eq_true rfl, Nat.le_of_ble_eq_true rfl⟩ ?_
      refine J_castS (q := (RX6, TX6, 12)) cx dX1_many_24 q411 (ci := 5) rfl hc1 ?_
      refine J_getN cx in_X6 (ci := 5) rfl 4 (by decide) q461 (fun _ h => h) dX1_many_27 hc1 rfl ?_
      refine J_iload_n cx dX1_many_30 rfl ?_
      have K39 : J p l e ({ frames := 4, cells := 0, slots := 0, locals := 80 } : Room) s m args below meth c Ω 4 (MQ below (jQ Ω (jD (some (.int (S_manyG g x9 (tn (g 2))))) G sz)) args s 0 0 (jB Ω)) 0 0 (sz) G 39 [some (.ref a), some (.int x9), some (.int (S_manyG g x9 k9)), some (.int (nI (k9)))] [.int (if (gP g k9 0) = x9 then nI (1) else nI (0)), .int (S_manyG g x9 k9)] := by
        refine J_callSN (n := 1) cx [.int (if (gP g k9 0) = x9 then nI (1) else nI (0))] (t_X0_bit l Ω (if (gP g k9 0) = x9 then nI (1) else nI (0))) dX1_many_39 q1332 q1654 q84 q1331 ⟨by decide, by decide, by decide +kernel⟩ rfl rfl ⟨Nat.le_of_ble_eq_true rfl, Nat.le_of_ble_eq_true rfl⟩ rfl rfl (Nat.le_of_ble_eq_true rfl) ⟨Nat.le_of_ble_eq_true rfl, Nat.le_of_ble_eq_true rfl⟩ (jdet ?_)
        refine J_iadd cx dX1_many_42 ?_
        refine J_istore_n2 cx dX1_many_43 (by decide) rfl ?_
        refine J_iinc3 (v := nI (k9 + 1)) cx dX1_many_44 (nI_1 k9) (by decide) rfl ?_
        refine J_goto (tgt := 4) cx dX1_many_47 (by decide) ?_
        refine J_sub (L1 := [some (.ref a), some (.int x9), some (.int (S_manyG g x9 (k9 + 1))), some (.int (nI (k9 + 1)))]) (jsub_s (jsub_s (jsub_e (congrArg Value.int (by simp only [S_manyG])) (jsub_s jsub_0)))) ?_
        exact ihk9 (k9 + 1) (by omega)
      refine J_icmp_ne (tgt := 38) cx dX1_many_31 (by decide) (fun c31 => ?_) (fun c31 => ?_)
      · refine J_iconst (v := nI (0)) cx dX1_many_38 (by decide) ?_
        refine J_top (.int (if (gP g k9 0) = x9 then nI (1) else nI (0))) (congrArg Value.int (if_neg c31).symm) ?_
        exact K39
      · refine J_iconst (v := nI (1)) cx dX1_many_34 (by decide) ?_
        refine J_goto (tgt := 39) cx dX1_many_35 (by decide) ?_
        refine J_top (.int (if (gP g k9 0) = x9 then nI (1) else nI (0))) (congrArg Value.int (if_pos c31).symm) ?_
        exact K39
  refine J_sub (L1 := [some (.ref a), some (.int x9), some (.int (S_manyG g x9 0)), some (.int (nI (0)))]) (jsub_s (jsub_s (jsub_e (congrArg Value.int rfl) (jsub_s jsub_0)))) ?_
  exact K4 (pl.length) 0 (by omega)
theorem t_Py_inState (l : Launch) (Ω : jO) {G : Mem} {sz : Nat} {A : Nat → Prop} (a : Nat) {g : Nat → Int32} {D : Nat → List Int32} {cp : Nat → Nat} {row : List Nat} {e9 : Int32} (hpy : isPy Ω A G a g D cp row e9) (p9 : Nat) (x9 : Int32) (hpi : p9 < tn (g 2)) : vx_Met l yX1_inState (ws_ yX1_inState cX1_inState 4 (some (.object "TurningWheel$Pot"))) ({ frames := 5, cells := 1, slots := 8, locals := 105 } : Room) (va_Pc [.ref a, .int (nI p9), .int x9] (jWd Ω G sz)) (jQ Ω (fun v G1 sz1 => gP g p9 0 = x9 ∧ (∃ B pl ol ns dr sh y, pyAll Ω A G a g D cp row e9 B pl ol ns dr sh ∧ pl[p9]? = some y ∧ v = some (.ref y)) ∧ G1 = G ∧ sz1 = sz)) (jXC Ω (fun ci q G1 sz1 => ¬ gP g p9 0 = x9 ∧ xPy A G sz [(nI (13), gP g p9 0)] ci q G1 sz1)) 1 8 (jB Ω) := by
  obtain ⟨B, pl, ol, ns, dr, sh, hall⟩ := hpy.all
  obtain ⟨⟨hAa, hC⟩, hI, hP, hO, hR, hS, hX⟩ := id hall
  obtain ⟨mcp, hps, hA3, hA8, hg2, hp16, hPp, hdr⟩ := id hP
  obtain ⟨mco, hos, hA4, hA9, hg3, ho8, hond, hOo⟩ := id hO
  obtain ⟨sf, df, kf, nk, hIA, hse, hsf, hdry, hdf, hsk, hnk, hg1, hkf⟩ := id hI
  obtain ⟨mcr, hrw, hA5, hAns, hr16⟩ := id hR
  obtain ⟨hsh, hsa, hA6, hA7, hsk8⟩ := id hS
  have ebp := hX.2.2
  have hpl : p9 < pl.length := by rw [hg2, tn_nI (by omega)] at hpi; exact hpi
  obtain ⟨y, hy⟩ := jget hpl
  obtain ⟨q1, q2, w, df9, q3, q4⟩ := hPp p9 y hy
  refine jConsX (t_X1_inState l Ω a hC p9 y x9 (P9 := potR p9 (gP g p9) w (dr p9) (D p9).length) hps hy q3) ?_ ?_
  · rintro v G1 sz1 ⟨h1, h2, h3, h4⟩
    exact ⟨h1, ⟨B, pl, ol, ns, dr, sh, y, hall, hy, h2⟩, h3, h4⟩
  · rintro ci q G1 sz1 ⟨h1, h2⟩
    exact ⟨h1, h2.py⟩
