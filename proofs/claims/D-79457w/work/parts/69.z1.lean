/-! THE KILN 1 (gen/mk_z1.py): onShelf, isReached, lost -/
set_option maxRecDepth 100000
/-- the shelf's pots as a number's bits -/
def shM (g : Nat → Int32) : Nat → Nat
  | 0 => 0
  | k + 1 => if g (41 + k) = -1 then shM g k else shM g k ||| 2 ^ tn (g (41 + k))
def absD (k p : Nat) : Int32 := if 0 ≤ nI k - nI p then nI k - nI p else 0 - (nI k - nI p)
def S_rch (g : Nat → Int32) (p : Nat) : Nat → Nat → Int32
  | 0, _ => nI (0)
  | n + 1, k => if k = p then S_rch g p n (k + 1) else if g (41 + k) = -1 then S_rch g p n (k + 1) else if r_X3_reach g (tn (g (41 + k))) < absD k p then S_rch g p n (k + 1) else nI (1)
/-- the pots on the shelf that would be lost -/
def loM (g : Nat → Int32) : Nat → Nat
  | 0 => 0
  | k + 1 => if g (41 + k) = -1 then loM g k else if S_rch g k 8 0 = 0 then (if r_breaks (gP g (tn (g (41 + k))) 4) (gP g (tn (g (41 + k))) 3) = 0 then loM g k else loM g k ||| 2 ^ tn (g (41 + k))) else loM g k ||| 2 ^ tn (g (41 + k))
def shelfN (g : Nat → Int32) : Prop := ∀ k, k < 8 → g (41 + k) = -1 ∨ (g (41 + k) = nI (tn (g (41 + k))) ∧ tn (g (41 + k)) < tn (g 2) ∧ reachOk g (tn (g (41 + k))))
theorem reach_eq {g : Nat → Int32} {p : Nat} {sf : Nat → Int32} (hsf : ∀ k, k < 6 → sf k = g (4 + k)) (h : nat_ g (50 + 13 * p + 6) 3) : r_reach (gw (gP g p 6) (gP g p 7)) (gP g p 2) sf = r_X3_reach g p := by
  have hne : gP g p 6 ≠ -1 := by
    have h1 : gP g p 6 = nI (tn (gP g p 6)) := h.1
    rw [h1]
    have : tn (gP g p 6) < 4 := by have := h.2; simp only [gP]; omega
    exact gl_ne _ this
  have e : gw (gP g p 6) (gP g p 7) = some (gP g p 6, gP g p 7) := by simp only [gw]; rw [if_neg hne]
  have h6 : tn (gP g p 6) < 6 := by have := h.2; simp only [gP]; omega
  rw [e]
  simp only [r_reach, r_X3_reach, wCo, wGl, gP]
  rw [hsf (tn (g (50 + 13 * p + 6))) h6]
set_option maxHeartbeats 1000000 in
theorem t_Py_isReached (l : Launch) (Ω : jO) {G : Mem} {sz : Nat} {A : Nat → Prop} (a : Nat) {g : Nat → Int32} {D : Nat → List Int32} {cp : Nat → Nat} {row : List Nat} {e9 : Int32} (hpy : isPy Ω A G a g D cp row e9) (p9 : Nat) (hp8 : p9 < 8) (hsN : shelfN g) : Met l yX1_isReached (ws_ yX1_isReached cX1_isReached 4 (some .boolean)) ({ frames := 4, cells := 0, slots := 0, locals := 80 } : Room) (va_Pc [.ref a, .int (nI (p9))] (jWd Ω G sz)) (jQ Ω (jD (some (.int (S_rch g p9 8 0))) G sz)) 0 0 (jB Ω) := by
  refine jMet (by decide) (Nat.le_of_ble_eq_true rfl) ?_
  intro p e s m args below meth c cx hr hnm
  refine J_loc [some (.ref a), some (.int (nI (p9))), none, none] rfl ?_
  obtain ⟨B, pl, ol, ns, dr, sh, hall⟩ := hpy.all
  obtain ⟨⟨hAa, hC⟩, hI, hP, hO, hR, hS, hX⟩ := id hall
  obtain ⟨mcp, hps, hA3, hA8, hg2, hp16, hPp, hdr⟩ := id hP
  obtain ⟨mco, hos, hA4, hA9, hg3, ho8, hond, hOo⟩ := id hO
  obtain ⟨sf, df, kf, nk, hIA, hse, hsf, hdry, hdf, hsk, hnk, hg1, hkf⟩ := id hI
  obtain ⟨mcr, hrw, hA5, hAns, hr16⟩ := id hR
  obtain ⟨hsh, hsa, hA6, hA7, hsk8⟩ := id hS
  have ebp := hX.2.2
  refine J_ltA (fun hlA9 => ?_)
  have hne9 : jNe Ω := cx.kw.ne
  have hal3 := hps.lt hlA9
  have hal4 := hos.lt hlA9
  have hbA := ebp _ hAa
  have hb0 := ebp _ hIA.1
  have hb1 := ebp _ hIA.2.1
  have hb2 := ebp _ hIA.2.2
  have hb3 := ebp _ hA3
  have hb4 := ebp _ hA4
  have hb5 := ebp _ hA5
  have hb6 := ebp _ hA6
  have hb7 := ebp _ hA7
  have hqa : jHide _ := hall.neO hC
  refine J_bs cx (fun hbs9 => ?_)
  refine J_lt hC (fun hlt0 => ?_)
  refine J_lt hse (fun hlt1 => ?_)
  refine J_lt hdry (fun hlt2 => ?_)
  refine J_lt hsk (fun hlt3 => ?_)
  refine J_lt hsh (fun hlt6 => ?_)
  refine J_lt hsa (fun hlt7 => ?_)
  refine J_iconst (v := nI (0)) cx dX1_isReached_0 (by decide) ?_
  refine J_istore_n2 cx dX1_isReached_1 (by decide) rfl ?_
  have K2 : ∀ nk9 k9 : Nat, nk9 + k9 = 8 → S_rch g p9 8 0 = S_rch g p9 nk9 k9 → J p l e ({ frames := 4, cells := 0, slots := 0, locals := 80 } : Room) s m args below meth c Ω 4 (MQ below (jQ Ω (jD (some (.int (S_rch g p9 8 0))) G sz)) args s 0 0 (jB Ω)) 0 0 (sz) G 2 [some (.ref a), some (.int (nI (p9))), some (.int (nI (k9))), none] [] := by
    intro nk9
    induction nk9 with
    | zero =>
      intro k9 hk9 hinv
      refine J_iload_n cx dX1_isReached_2 rfl ?_
      refine J_bipush (v := nI (8)) cx dX1_isReached_3 (by decide) ?_
      refine J_icmpN_ge (tgt := 64) cx dX1_isReached_5 (by decide) (by omega) (by omega) (fun c5 => ?_) (fun c5 => absurd c5 (by omega))
      refine J_iconst (v := nI (0)) cx dX1_isReached_64 (by decide) ?_
      exact J_zret cx dX1_isReached_65 hr rfl ⟨congrArg (fun z => some (Value.int z)) (Eq.symm (hinv.trans (by simp only [S_rch, if_neg (Nat.not_lt.mpr c5)]))), rfl, rfl⟩ (Nat.le_of_ble_eq_true rfl) (Nat.le_of_ble_eq_true rfl)
    | succ nk9 ihk9 =>
      intro k9 hk9 hinv
      refine J_iload_n cx dX1_isReached_2 rfl ?_
      refine J_bipush (v := nI (8)) cx dX1_isReached_3 (by decide) ?_
      refine J_icmpN_ge (tgt := 64) cx dX1_isReached_5 (by decide) (by omega) (by omega) (fun c5 => absurd c5 (by omega)) (fun c5 => ?_)
      refine J_aload_n cx dX1_isReached_8 rfl ?_
      refine J_get cx in_X1 (ci := 1) rfl 6 (by decide) q259 (fun _ h => h) dX1_isReached_9 hC rfl ?_
      refine J_iload_n cx dX1_isReached_12 rfl ?_
      refine J_callV (n := 1) cx (ci := 2) [.int (nI (k9))] (t_X2_at l Ω (B 6) hsh hsa k9 (by omega)) dX1_isReached_13 (lw_V q1706 q1707 q1708 q91 q1709) ⟨rfl, by decide, by decide, by decide +kernel⟩ rfl hsh rfl rfl ⟨Nat.le_of_ble_eq_true rfl, Nat.le_of_ble_eq_true rfl⟩ rfl rfl (Nat.le_of_ble_eq_true rfl) ⟨Nat.le_of_ble_eq_true rfl, Nat.le_of_ble_eq_true rfl⟩ (jdet ?_)
      rcases hsk8 k9 (by omega) with ⟨hsv, hgv⟩ | ⟨wv, xv, hsv, hgv, hwbv, hwv⟩
      · refine J_top .null (by rw [hsv]; rfl) ?_
        refine J_astore_nN3 cx dX1_isReached_16 (by decide) rfl ?_
        refine J_iload_n cx dX1_isReached_17 rfl ?_
        refine J_iload_n cx dX1_isReached_18 rfl ?_
        refine J_icmpN_eq (tgt := 58) cx dX1_isReached_19 (by decide) (by omega) (by omega) (fun c19 => ?_) (fun c19 => ?_)
        · refine J_iinc2 (v := nI (k9 + 1)) cx dX1_isReached_58 (nI_1 k9) (by decide) rfl ?_
          refine J_goto (tgt := 2) cx dX1_isReached_61 (by decide) ?_
          refine J_sub (L1 := [some (.ref a), some (.int (nI (p9))), some (.int (nI (k9 + 1))), none]) (jsub_s (jsub_s (jsub_s (jsub_n jsub_0)))) ?_
          exact ihk9 (k9 + 1) (by omega) (hinv.trans (by simp only [S_rch, if_pos c5, if_pos hgv, if_pos c19]))
        · refine J_aload_nN cx dX1_isReached_22 rfl ?_
          refine J_ifnullN (tgt := 58) cx dX1_isReached_23 (by decide) ?_
          refine J_iinc2 (v := nI (k9 + 1)) cx dX1_isReached_58 (nI_1 k9) (by decide) rfl ?_
          refine J_goto (tgt := 2) cx dX1_isReached_61 (by decide) ?_
          refine J_sub (L1 := [some (.ref a), some (.int (nI (p9))), some (.int (nI (k9 + 1))), none]) (jsub_s (jsub_s (jsub_s (jsub_n jsub_0)))) ?_
          exact ihk9 (k9 + 1) (by omega) (hinv.trans (by simp only [S_rch, if_pos c5, if_pos hgv, if_neg c19]))
      · refine J_top (.ref wv) (by rw [hsv]; rfl) ?_
        refine J_astore_n3 cx dX1_isReached_16 (by decide) rfl ?_
        refine J_iload_n cx dX1_isReached_17 rfl ?_
        refine J_iload_n cx dX1_isReached_18 rfl ?_
        refine J_icmpN_eq (tgt := 58) cx dX1_isReached_19 (by decide) (by omega) (by omega) (fun c19 => ?_) (fun c19 => ?_)
        · refine J_iinc2 (v := nI (k9 + 1)) cx dX1_isReached_58 (nI_1 k9) (by decide) rfl ?_
          refine J_goto (tgt := 2) cx dX1_isReached_61 (by decide) ?_
          refine J_sub (L1 := [some (.ref a), some (.int (nI (p9))), some (.int (nI (k9 + 1))), none]) (jsub_s (jsub_s (jsub_s (jsub_n jsub_0)))) ?_
          exact ihk9 (k9 + 1) (by omega) (hinv.trans (by simp only [S_rch, if_pos c5, if_neg hgv, if_pos c19]))
        · refine J_aload_n cx dX1_isReached_22 rfl ?_
          refine J_ifnull cx dX1_isReached_23 ?_
          refine J_iload_n cx dX1_isReached_26 rfl ?_
          refine J_iload_n cx dX1_isReached_27 rfl ?_
          refine J_isub cx dX1_isReached_28 ?_
          refine J_mabs cx dX1_isReached_29 q1800 q1801 q102 q1802 (Nat.le_of_ble_eq_true rfl) (Nat.le_of_ble_eq_true rfl) (Nat.le_of_ble_eq_true rfl) (Nat.le_of_ble_eq_true rfl) ?_
          refine J_top (.int (absD k9 p9)) rfl ?_
          refine J_aload_n cx dX1_isReached_32 rfl ?_
          refine J_get cx in_X1 (ci := 1) rfl 3 (by decide) q253 (fun _ h => h) dX1_isReached_33 hC rfl ?_
          refine J_aload_n cx dX1_isReached_36 rfl ?_
          refine J_w_pot cx dX1_isReached_37 q1749 hwv ⟨Nat.le_of_ble_eq_true rfl, Nat.le_of_ble_eq_true rfl⟩ (Nat.le_of_ble_eq_true rfl) ⟨Nat.le_of_ble_eq_true rfl, Nat.le_of_ble_eq_true rfl⟩ ?_
          have hNwv := (hsN k9 (by omega)).resolve_left hgv
          have hMwv : tn (g (41 + k9)) < pl.length := by have h9 := hNwv.2.1; rw [hg2, tn_nI (by omega)] at h9; exact h9
          refine J_top (.int (nI (tn (g (41 + k9))))) (congrArg Value.int hNwv.1) ?_
          obtain ⟨y8, hy8⟩ := jget (ns := pl) (i := tn (g (41 + k9))) (by omega)
          obtain ⟨hAy8, hAd8, w8, f8, hc8, hn8, hw8, hwb8, hd8, hl8, hm8, hu8, he8, hf8, hv8⟩ := hPp _ _ hy8
          have hq8 : jHide _ := hall.neP hne9 hc8 hd8 hw8
          have hz8 : y8 < sz ∧ dr (tn (g (41 + k9))) < sz ∧ w8 < sz := ⟨hlA9 _ _ hc8, hlA9 _ _ hd8, hlA9 _ _ hw8⟩
          refine J_al_get cx dX1_isReached_40 q413 hps hy8 ⟨Nat.le_of_ble_eq_true rfl, Nat.le_of_ble_eq_true rfl⟩ (Nat.le_of_ble_eq_true rfl) ⟨Nat.le_of_ble_eq_true rfl, Nat.le_of_ble_eq_true rfl⟩ ?_
          refine J_castS (q := (RX6, TX6, 12)) cx dX1_isReached_43 q411 (ci := 5) rfl hc8 ?_
          refine J_aload_n cx dX1_isReached_46 rfl ?_
          refine J_get cx in_X1 (ci := 1) rfl 0 (by decide) q245 (fun _ h => h) dX1_isReached_47 hC rfl ?_
          have hR8 := hNwv.2.2
          have hq6 : tn (gP g (tn (g (41 + k9))) 6) < 6 := by have := hR8.1.2; simp only [gP]; omega
          have hre := reach_eq hsf hR8.1
          refine J_callV (n := 1) cx (ci := 5) [.ref (B 0)] (t_X6_reach l Ω y8 (B 0) hc8 hw8 hse (by rw [wGl_gw]; exact hR8.1.1) (by rw [wGl_gw]; exact hq6) (by rw [wGl_gw, wCo_gw (fun e => absurd e (by have := hR8.1.1; rw [show gP g (tn (g (41 + k9))) 6 = g (50 + 13 * (tn (g (41 + k9))) + 6) from rfl, this]; exact gl_ne _ (by have := hR8.1.2; omega))), hsf _ hq6]; exact hR8.2)) dX1_isReached_50 (lw_V q1676 q1677 q1678 q96 q1679) ⟨rfl, by decide, by decide, by decide +kernel⟩ rfl hc8 rfl rfl ⟨Nat.le_of_ble_eq_true rfl, Nat.le_of_ble_eq_true rfl⟩ rfl rfl (Nat.le_of_ble_eq_true rfl) ⟨Nat.le_of_ble_eq_true rfl, Nat.le_of_ble_eq_true rfl⟩ (jdet ?_)
          refine J_top (.int (r_X3_reach g (tn (g (41 + k9))))) (congrArg Value.int hre) ?_
          refine J_icmp_gt (tgt := 58) cx dX1_isReached_53 (by decide) (fun c53 => ?_) (fun c53 => ?_)
          · refine J_iinc2 (v := nI (k9 + 1)) cx dX1_isReached_58 (nI_1 k9) (by decide) rfl ?_
            refine J_goto (tgt := 2) cx dX1_isReached_61 (by decide) ?_
            refine J_sub (L1 := [some (.ref a), some (.int (nI (p9))), some (.int (nI (k9 + 1))), none]) (jsub_s (jsub_s (jsub_s (jsub_n jsub_0)))) ?_
            exact ihk9 (k9 + 1) (by omega) (hinv.trans (by simp only [S_rch, if_pos c5, if_neg hgv, if_neg c19, if_pos c53]))
          · refine J_iconst (v := nI (1)) cx dX1_isReached_56 (by decide) ?_
            exact J_zret cx dX1_isReached_57 hr rfl ⟨congrArg (fun z => some (Value.int z)) (Eq.symm (hinv.trans (by simp only [S_rch, if_pos c5, if_neg hgv, if_neg c19, if_neg c53]))), rfl, rfl⟩ (Nat.le_of_ble_eq_true rfl) (Nat.le_of_ble_eq_true rfl)
  refine J_sub (L1 := [some (.ref a), some (.int (nI (p9))), some (.int (nI (0))), none]) (jsub_s (jsub_s (jsub_s (jsub_n jsub_0)))) ?_
  exact K2 8 0 (by omega) rfl
set_option maxHeartbeats 1000000 in
theorem t_Py_onShelf (l : Launch) (Ω : jO) {G : Mem} {sz : Nat} {A : Nat → Prop} (a : Nat) {g : Nat → Int32} {D : Nat → List Int32} {cp : Nat → Nat} {row : List Nat} {e9 : Int32} (hpy : isPy Ω A G a g D cp row e9) (hsN : shelfN g) : Met l yX1_onShelf (ws_ yX1_onShelf cX1_onShelf 3 (some (.object "java/util/BitSet"))) ({ frames := 4, cells := 2, slots := 4, locals := 78 } : Room) (va_Pc [.ref a] (jWd Ω G sz)) (jQ Ω (fun v G1 sz1 => v = some (.ref sz) ∧ sz1 = sz + 1 + 1 ∧ jBS Ω G1 sz (sz + 1) (shM g 8) ∧ ∀ q, q < sz → G1 q = G q)) 2 4 (jB Ω) := by
  refine jMet (by decide) (Nat.le_of_ble_eq_true rfl) ?_
  intro p e s m args below meth c cx hr hnm
  refine J_loc [some (.ref a), none, none] rfl ?_
  obtain ⟨B, pl, ol, ns, dr, sh, hall⟩ := hpy.all
  obtain ⟨⟨hAa, hC⟩, hI, hP, hO, hR, hS, hX⟩ := id hall
  obtain ⟨mcp, hps, hA3, hA8, hg2, hp16, hPp, hdr⟩ := id hP
  obtain ⟨mco, hos, hA4, hA9, hg3, ho8, hond, hOo⟩ := id hO
  obtain ⟨sf, df, kf, nk, hIA, hse, hsf, hdry, hdf, hsk, hnk, hg1, hkf⟩ := id hI
  obtain ⟨mcr, hrw, hA5, hAns, hr16⟩ := id hR
  obtain ⟨hsh, hsa, hA6, hA7, hsk8⟩ := id hS
  have ebp := hX.2.2
  refine J_ltA (fun hlA9 => ?_)
  have hne9 : jNe Ω := cx.kw.ne
  have hal3 := hps.lt hlA9
  have hal4 := hos.lt hlA9
  have hbA := ebp _ hAa
  have hb0 := ebp _ hIA.1
  have hb1 := ebp _ hIA.2.1
  have hb2 := ebp _ hIA.2.2
  have hb3 := ebp _ hA3
  have hb4 := ebp _ hA4
  have hb5 := ebp _ hA5
  have hb6 := ebp _ hA6
  have hb7 := ebp _ hA7
  have hqa : jHide _ := hall.neO hC
  have hlA0 := hlA9
  refine J_bs cx (fun hbs9 => ?_)
  refine J_lt hC (fun hlt0 => ?_)
  refine J_lt hse (fun hlt1 => ?_)
  refine J_lt hdry (fun hlt2 => ?_)
  refine J_lt hsk (fun hlt3 => ?_)
  refine J_lt hsh (fun hlt6 => ?_)
  refine J_lt hsa (fun hlt7 => ?_)
  refine J_new cx in_J34 tyJ34 tyJ34_ok q1772 q1773 q134 (ci := 35) rfl (fs := [.null, .int 0, .int 0]) (by decide +kernel) dX1_onShelf_0 (Nat.le_of_ble_eq_true rfl) (Nat.le_of_ble_eq_true rfl) ?_
  refine J_dup cx dX1_onShelf_3 rfl ?_
  have hbz : sz < sz + 1 := by omega
  refine J_callI (n := 0) cx [] (t_BS_init l Ω gset_eq (by omega)) dX1_onShelf_4 q1776 q134 q1774 q1775 rfl ⟨by decide, by decide, by decide +kernel⟩ rfl rfl ⟨Nat.le_of_ble_eq_true rfl, Nat.le_of_ble_eq_true rfl⟩ rfl rfl (Nat.le_of_ble_eq_true rfl) ⟨Nat.le_of_ble_eq_true rfl, Nat.le_of_ble_eq_true rfl⟩ (fun v9 G9 z9 hp9 _ => ?_)
  obtain ⟨e1, e2, hbs8, hfr7⟩ := hp9
  subst e1; subst e2
  have hfr2 : ∀ q, q < sz → G9 q = G q := fun q hq => (hfr7 q (by omega) (by omega)).trans (gset_ne (by omega))
  refine J_astore_n1 cx dX1_onShelf_7 (by decide) rfl ?_
  refine J_iconst (v := nI (0)) cx dX1_onShelf_8 (by decide) ?_
  refine J_istore_n2 cx dX1_onShelf_9 (by decide) rfl ?_
  have K10 : ∀ (nk9 k9 : Nat) (G8 : Mem) (z8 : Nat), nk9 + k9 = 8 → (jBS Ω G8 sz (sz + 1) (shM g k9) ∧ z8 = sz + 1 + 1 ∧ ∀ q, q < sz → G8 q = G q) → J p l e ({ frames := 4, cells := 2, slots := 4, locals := 78 } : Room) s m args below meth c Ω 3 (MQ below (jQ Ω (fun v G1 sz1 => v = some (.ref sz) ∧ sz1 = sz + 1 + 1 ∧ jBS Ω G1 sz (sz + 1) (shM g 8) ∧ ∀ q, q < sz → G1 q = G q)) args s 2 4 (jB Ω)) 2 4 z8 G8 10 [some (.ref a), some (.ref sz), some (.int (nI (k9)))] [] := by
    intro nk9
    induction nk9 with
    | zero =>
      intro k9 G8 z8 hk9 hinv
      obtain ⟨hbs8, rfl, hfr2⟩ := hinv
      have hpy8 : isPy Ω A G8 a g D cp row e9 := hpy.mono (fun q c hq _ => (hfr2 q (hlA0 q c hq)).trans hq)
      obtain ⟨B, pl, ol, ns, dr, sh, hall⟩ := hpy8.all
      obtain ⟨⟨hAa, hC⟩, hI, hP, hO, hR, hS, hX⟩ := id hall
      obtain ⟨mcp, hps, hA3, hA8, hg2, hp16, hPp, hdr⟩ := id hP
      obtain ⟨mco, hos, hA4, hA9, hg3, ho8, hond, hOo⟩ := id hO
      obtain ⟨sf, df, kf, nk, hIA, hse, hsf, hdry, hdf, hsk, hnk, hg1, hkf⟩ := id hI
      obtain ⟨mcr, hrw, hA5, hAns, hr16⟩ := id hR
      obtain ⟨hsh, hsa, hA6, hA7, hsk8⟩ := id hS
      have ebp := hX.2.2
      refine J_ltA (fun hlA9 => ?_)
      have hne9 : jNe Ω := cx.kw.ne
      have hal3 := hps.lt hlA9
      have hal4 := hos.lt hlA9
      have hbA := ebp _ hAa
      have hb0 := ebp _ hIA.1
      have hb1 := ebp _ hIA.2.1
      have hb2 := ebp _ hIA.2.2
      have hb3 := ebp _ hA3
      have hb4 := ebp _ hA4
      have hb5 := ebp _ hA5
      have hb6 := ebp _ hA6
      have hb7 := ebp _ hA7
      have hqa : jHide _ := hall.neO hC
      refine J_lt hC (fun hlt0 => ?_)
      refine J_lt hse (fun hlt1 => ?_)
      refine J_lt hdry (fun hlt2 => ?_)
      refine J_lt hsk (fun hlt3 => ?_)
      refine J_lt hsh (fun hlt6 => ?_)
      refine J_lt hsa (fun hlt7 => ?_)
      refine J_iload_n cx dX1_onShelf_10 rfl ?_
      refine J_bipush (v := nI (8)) cx dX1_onShelf_11 (by decide) ?_
      refine J_icmpN_ge (tgt := 48) cx dX1_onShelf_13 (by decide) (by omega) (by omega) (fun c13 => ?_) (fun c13 => absurd c13 (by omega))
      refine J_aload_n cx dX1_onShelf_48 rfl ?_
      exact J_aret cx dX1_onShelf_49 hr (Or.inl ⟨_, rfl⟩) (Or.inr ⟨_, rfl⟩) ⟨rfl, rfl, by rw [show k9 = 8 by omega] at hbs8; exact hbs8, hfr2⟩ (Nat.le_of_ble_eq_true rfl) (Nat.le_of_ble_eq_true rfl)
    | succ nk9 ihk9 =>
      intro k9 G8 z8 hk9 hinv
      obtain ⟨hbs8, rfl, hfr2⟩ := hinv
      have hpy8 : isPy Ω A G8 a g D cp row e9 := hpy.mono (fun q c hq _ => (hfr2 q (hlA0 q c hq)).trans hq)
      obtain ⟨B, pl, ol, ns, dr, sh, hall⟩ := hpy8.all
      obtain ⟨⟨hAa, hC⟩, hI, hP, hO, hR, hS, hX⟩ := id hall
      obtain ⟨mcp, hps, hA3, hA8, hg2, hp16, hPp, hdr⟩ := id hP
      obtain ⟨mco, hos, hA4, hA9, hg3, ho8, hond, hOo⟩ := id hO
      obtain ⟨sf, df, kf, nk, hIA, hse, hsf, hdry, hdf, hsk, hnk, hg1, hkf⟩ := id hI
      obtain ⟨mcr, hrw, hA5, hAns, hr16⟩ := id hR
      obtain ⟨hsh, hsa, hA6, hA7, hsk8⟩ := id hS
      have ebp := hX.2.2
      refine J_ltA (fun hlA9 => ?_)
      have hne9 : jNe Ω := cx.kw.ne
      have hal3 := hps.lt hlA9
      have hal4 := hos.lt hlA9
      have hbA := ebp _ hAa
      have hb0 := ebp _ hIA.1
      have hb1 := ebp _ hIA.2.1
      have hb2 := ebp _ hIA.2.2
      have hb3 := ebp _ hA3
      have hb4 := ebp _ hA4
      have hb5 := ebp _ hA5
      have hb6 := ebp _ hA6
      have hb7 := ebp _ hA7
      have hqa : jHide _ := hall.neO hC
      refine J_lt hC (fun hlt0 => ?_)
      refine J_lt hse (fun hlt1 => ?_)
      refine J_lt hdry (fun hlt2 => ?_)
      refine J_lt hsk (fun hlt3 => ?_)
      refine J_lt hsh (fun hlt6 => ?_)
      refine J_lt hsa (fun hlt7 => ?_)
      refine J_iload_n cx dX1_onShelf_10 rfl ?_
      refine J_bipush (v := nI (8)) cx dX1_onShelf_11 (by decide) ?_
      refine J_icmpN_ge (tgt := 48) cx dX1_onShelf_13 (by decide) (by omega) (by omega) (fun c13 => absurd c13 (by omega)) (fun c13 => ?_)
      refine J_aload_n cx dX1_onShelf_16 rfl ?_
      refine J_get cx in_X1 (ci := 1) rfl 6 (by decide) q259 (fun _ h => h) dX1_onShelf_17 hC rfl ?_
      refine J_iload_n cx dX1_onShelf_20 rfl ?_
      refine J_callV (n := 1) cx (ci := 2) [.int (nI (k9))] (t_X2_at l Ω (B 6) hsh hsa k9 (by omega)) dX1_onShelf_21 (lw_V q1706 q1707 q1708 q91 q1709) ⟨rfl, by decide, by decide, by decide +kernel⟩ rfl hsh rfl rfl ⟨Nat.le_of_ble_eq_true rfl, Nat.le_of_ble_eq_true rfl⟩ rfl rfl (Nat.le_of_ble_eq_true rfl) ⟨Nat.le_of_ble_eq_true rfl, Nat.le_of_ble_eq_true rfl⟩ (jdet ?_)
      rcases hsk8 k9 (by omega) with ⟨hsv, hgv⟩ | ⟨wv, xv, hsv, hgv, hwbv, hwv⟩
      · refine J_top .null (by rw [hsv]; rfl) ?_
        refine J_ifnullN (tgt := 42) cx dX1_onShelf_24 (by decide) ?_
        refine J_iinc2 (v := nI (k9 + 1)) cx dX1_onShelf_42 (nI_1 k9) (by decide) rfl ?_
        refine J_goto (tgt := 10) cx dX1_onShelf_45 (by decide) ?_
        refine J_sub (L1 := [some (.ref a), some (.ref sz), some (.int (nI (k9 + 1)))]) (jsub_s (jsub_s (jsub_s jsub_0))) ?_
        exact ihk9 (k9 + 1) _ _ (by omega) ⟨by simp only [shM, if_pos c13, if_pos hgv]; exact hbs8, rfl, hfr2⟩
      · refine J_top (.ref wv) (by rw [hsv]; rfl) ?_
        refine J_ifnull cx dX1_onShelf_24 ?_
        refine J_aload_n cx dX1_onShelf_27 rfl ?_
        refine J_aload_n cx dX1_onShelf_28 rfl ?_
        refine J_get cx in_X1 (ci := 1) rfl 6 (by decide) q259 (fun _ h => h) dX1_onShelf_29 hC rfl ?_
        refine J_iload_n cx dX1_onShelf_32 rfl ?_
        refine J_callV (n := 1) cx (ci := 2) [.int (nI (k9))] (t_X2_at l Ω (B 6) hsh hsa k9 (by omega)) dX1_onShelf_33 (lw_V q1706 q1707 q1708 q91 q1709) ⟨rfl, by decide, by decide, by decide +kernel⟩ rfl hsh rfl rfl ⟨Nat.le_of_ble_eq_true rfl, Nat.le_of_ble_eq_true rfl⟩ rfl rfl (Nat.le_of_ble_eq_true rfl) ⟨Nat.le_of_ble_eq_true rfl, Nat.le_of_ble_eq_true rfl⟩ (jdet ?_)
        refine J_top (.ref wv) (by rw [hsv]; rfl) ?_
        refine J_w_pot cx dX1_onShelf_36 q1749 hwv ⟨Nat.le_of_ble_eq_true rfl, Nat.le_of_ble_eq_true rfl⟩ (Nat.le_of_ble_eq_true rfl) ⟨Nat.le_of_ble_eq_true rfl, Nat.le_of_ble_eq_true rfl⟩ ?_
        have hNwv := (hsN k9 (by omega)).resolve_left hgv
        have hMwv : tn (g (41 + k9)) < pl.length := by have h9 := hNwv.2.1; rw [hg2, tn_nI (by omega)] at h9; exact h9
        refine J_top (.int (nI (tn (g (41 + k9))))) (congrArg Value.int hNwv.1) ?_
        refine J_callV (n := 1) cx (ci := 35) [.int (nI (tn (g (41 + k9))))] (t_BS_set l Ω hbs8 (k := tn (g (41 + k9))) (by omega)) dX1_onShelf_39 (lw_V q1807 q1808 q1809 q134 q1810) ⟨rfl, by decide, by decide, by decide +kernel⟩ rfl hbs8.1 rfl rfl ⟨Nat.le_of_ble_eq_true rfl, Nat.le_of_ble_eq_true rfl⟩ rfl rfl (Nat.le_of_ble_eq_true rfl) ⟨Nat.le_of_ble_eq_true rfl, Nat.le_of_ble_eq_true rfl⟩ (fun v9 G9 z9 hp9 _ => ?_)
        obtain ⟨e1, e2, hbs7, hfr7⟩ := hp9
        subst e1; subst e2
        have hfr3 : ∀ q, q < sz → G9 q = G q := fun q hq => (hfr7 q (by omega) (by omega)).trans (hfr2 q hq)
        refine J_iinc2 (v := nI (k9 + 1)) cx dX1_onShelf_42 (nI_1 k9) (by decide) rfl ?_
        refine J_goto (tgt := 10) cx dX1_onShelf_45 (by decide) ?_
        refine J_sub (L1 := [some (.ref a), some (.ref sz), some (.int (nI (k9 + 1)))]) (jsub_s (jsub_s (jsub_s jsub_0))) ?_
        exact ihk9 (k9 + 1) _ _ (by omega) ⟨by simp only [shM, if_pos c13, if_neg hgv]; exact hbs7, rfl, hfr3⟩
  refine J_sub (L1 := [some (.ref a), some (.ref sz), some (.int (nI (0)))]) (jsub_s (jsub_s (jsub_s jsub_0))) ?_
  exact K10 8 0 _ _ (by omega) ⟨hbs8, rfl, hfr2⟩
set_option maxHeartbeats 1000000 in
theorem t_Py_lost (l : Launch) (Ω : jO) {G : Mem} {sz : Nat} {A : Nat → Prop} (a : Nat) {g : Nat → Int32} {D : Nat → List Int32} {cp : Nat → Nat} {row : List Nat} {e9 : Int32} (hpy : isPy Ω A G a g D cp row e9) (hsN : shelfN g) : Met l yX1_lost (ws_ yX1_lost cX1_lost 4 (some (.object "java/util/BitSet"))) ({ frames := 5, cells := 2, slots := 4, locals := 103 } : Room) (va_Pc [.ref a] (jWd Ω G sz)) (jQ Ω (fun v G1 sz1 => v = some (.ref sz) ∧ sz1 = sz + 1 + 1 ∧ jBS Ω G1 sz (sz + 1) (loM g 8) ∧ ∀ q, q < sz → G1 q = G q)) 2 4 (jB Ω) := by
  refine jMet (by decide) (Nat.le_of_ble_eq_true rfl) ?_
  intro p e s m args below meth c cx hr hnm
  refine J_loc [some (.ref a), none, none, none] rfl ?_
  obtain ⟨B, pl, ol, ns, dr, sh, hall⟩ := hpy.all
  obtain ⟨⟨hAa, hC⟩, hI, hP, hO, hR, hS, hX⟩ := id hall
  obtain ⟨mcp, hps, hA3, hA8, hg2, hp16, hPp, hdr⟩ := id hP
  obtain ⟨mco, hos, hA4, hA9, hg3, ho8, hond, hOo⟩ := id hO
  obtain ⟨sf, df, kf, nk, hIA, hse, hsf, hdry, hdf, hsk, hnk, hg1, hkf⟩ := id hI
  obtain ⟨mcr, hrw, hA5, hAns, hr16⟩ := id hR
  obtain ⟨hsh, hsa, hA6, hA7, hsk8⟩ := id hS
  have ebp := hX.2.2
  refine J_ltA (fun hlA9 => ?_)
  have hne9 : jNe Ω := cx.kw.ne
  have hal3 := hps.lt hlA9
  have hal4 := hos.lt hlA9
  have hbA := ebp _ hAa
  have hb0 := ebp _ hIA.1
  have hb1 := ebp _ hIA.2.1
  have hb2 := ebp _ hIA.2.2
  have hb3 := ebp _ hA3
  have hb4 := ebp _ hA4
  have hb5 := ebp _ hA5
  have hb6 := ebp _ hA6
  have hb7 := ebp _ hA7
  have hqa : jHide _ := hall.neO hC
  have hlA0 := hlA9
  refine J_bs cx (fun hbs9 => ?_)
  refine J_lt hC (fun hlt0 => ?_)
  refine J_lt hse (fun hlt1 => ?_)
  refine J_lt hdry (fun hlt2 => ?_)
  refine J_lt hsk (fun hlt3 => ?_)
  refine J_lt hsh (fun hlt6 => ?_)
  refine J_lt hsa (fun hlt7 => ?_)
  refine J_new cx in_J34 tyJ34 tyJ34_ok q1772 q1773 q134 (ci := 35) rfl (fs := [.null, .int 0, .int 0]) (by decide +kernel) dX1_lost_0 (Nat.le_of_ble_eq_true rfl) (Nat.le_of_ble_eq_true rfl) ?_
  refine J_dup cx dX1_lost_3 rfl ?_
  have hbz : sz < sz + 1 := by omega
  refine J_callI (n := 0) cx [] (t_BS_init l Ω gset_eq (by omega)) dX1_lost_4 q1776 q134 q1774 q1775 rfl ⟨by decide, by decide, by decide +kernel⟩ rfl rfl ⟨Nat.le_of_ble_eq_true rfl, Nat.le_of_ble_eq_true rfl⟩ rfl rfl (Nat.le_of_ble_eq_true rfl) ⟨Nat.le_of_ble_eq_true rfl, Nat.le_of_ble_eq_true rfl⟩ (fun v9 G9 z9 hp9 _ => ?_)
  obtain ⟨e1, e2, hbs8, hfr7⟩ := hp9
  subst e1; subst e2
  have hfr2 : ∀ q, q < sz → G9 q = G q := fun q hq => (hfr7 q (by omega) (by omega)).trans (gset_ne (by omega))
  refine J_astore_n1 cx dX1_lost_7 (by decide) rfl ?_
  refine J_iconst (v := nI (0)) cx dX1_lost_8 (by decide) ?_
  refine J_istore_n2 cx dX1_lost_9 (by decide) rfl ?_
  have K10 : ∀ (nk9 k9 : Nat) (G8 : Mem) (z8 : Nat), nk9 + k9 = 8 → (jBS Ω G8 sz (sz + 1) (loM g k9) ∧ z8 = sz + 1 + 1 ∧ ∀ q, q < sz → G8 q = G q) → J p l e ({ frames := 5, cells := 2, slots := 4, locals := 103 } : Room) s m args below meth c Ω 4 (MQ below (jQ Ω (fun v G1 sz1 => v = some (.ref sz) ∧ sz1 = sz + 1 + 1 ∧ jBS Ω G1 sz (sz + 1) (loM g 8) ∧ ∀ q, q < sz → G1 q = G q)) args s 2 4 (jB Ω)) 2 4 z8 G8 10 [some (.ref a), some (.ref sz), some (.int (nI (k9))), none] [] := by
    intro nk9
    induction nk9 with
    | zero =>
      intro k9 G8 z8 hk9 hinv
      obtain ⟨hbs8, rfl, hfr2⟩ := hinv
      have hpy8 : isPy Ω A G8 a g D cp row e9 := hpy.mono (fun q c hq _ => (hfr2 q (hlA0 q c hq)).trans hq)
      obtain ⟨B, pl, ol, ns, dr, sh, hall⟩ := hpy8.all
      obtain ⟨⟨hAa, hC⟩, hI, hP, hO, hR, hS, hX⟩ := id hall
      obtain ⟨mcp, hps, hA3, hA8, hg2, hp16, hPp, hdr⟩ := id hP
      obtain ⟨mco, hos, hA4, hA9, hg3, ho8, hond, hOo⟩ := id hO
      obtain ⟨sf, df, kf, nk, hIA, hse, hsf, hdry, hdf, hsk, hnk, hg1, hkf⟩ := id hI
      obtain ⟨mcr, hrw, hA5, hAns, hr16⟩ := id hR
      obtain ⟨hsh, hsa, hA6, hA7, hsk8⟩ := id hS
      have ebp := hX.2.2
      refine J_ltA (fun hlA9 => ?_)
      have hne9 : jNe Ω := cx.kw.ne
      have hal3 := hps.lt hlA9
      have hal4 := hos.lt hlA9
      have hbA := ebp _ hAa
      have hb0 := ebp _ hIA.1
      have hb1 := ebp _ hIA.2.1
      have hb2 := ebp _ hIA.2.2
      have hb3 := ebp _ hA3
      have hb4 := ebp _ hA4
      have hb5 := ebp _ hA5
      have hb6 := ebp _ hA6
      have hb7 := ebp _ hA7
      have hqa : jHide _ := hall.neO hC
      refine J_lt hC (fun hlt0 => ?_)
      refine J_lt hse (fun hlt1 => ?_)
      refine J_lt hdry (fun hlt2 => ?_)
      refine J_lt hsk (fun hlt3 => ?_)
      refine J_lt hsh (fun hlt6 => ?_)
      refine J_lt hsa (fun hlt7 => ?_)
      refine J_iload_n cx dX1_lost_10 rfl ?_
      refine J_bipush (v := nI (8)) cx dX1_lost_11 (by decide) ?_
      refine J_icmpN_ge (tgt := 71) cx dX1_lost_13 (by decide) (by omega) (by omega) (fun c13 => ?_) (fun c13 => absurd c13 (by omega))
      refine J_aload_n cx dX1_lost_71 rfl ?_
      exact J_aret cx dX1_lost_72 hr (Or.inl ⟨_, rfl⟩) (Or.inr ⟨_, rfl⟩) ⟨rfl, rfl, by rw [show k9 = 8 by omega] at hbs8; exact hbs8, hfr2⟩ (Nat.le_of_ble_eq_true rfl) (Nat.le_of_ble_eq_true rfl)
    | succ nk9 ihk9 =>
      intro k9 G8 z8 hk9 hinv
      obtain ⟨hbs8, rfl, hfr2⟩ := hinv
      have hpy8 : isPy Ω A G8 a g D cp row e9 := hpy.mono (fun q c hq _ => (hfr2 q (hlA0 q c hq)).trans hq)
      obtain ⟨B, pl, ol, ns, dr, sh, hall⟩ := hpy8.all
      obtain ⟨⟨hAa, hC⟩, hI, hP, hO, hR, hS, hX⟩ := id hall
      obtain ⟨mcp, hps, hA3, hA8, hg2, hp16, hPp, hdr⟩ := id hP
      obtain ⟨mco, hos, hA4, hA9, hg3, ho8, hond, hOo⟩ := id hO
      obtain ⟨sf, df, kf, nk, hIA, hse, hsf, hdry, hdf, hsk, hnk, hg1, hkf⟩ := id hI
      obtain ⟨mcr, hrw, hA5, hAns, hr16⟩ := id hR
      obtain ⟨hsh, hsa, hA6, hA7, hsk8⟩ := id hS
      have ebp := hX.2.2
      refine J_ltA (fun hlA9 => ?_)
      have hne9 : jNe Ω := cx.kw.ne
      have hal3 := hps.lt hlA9
      have hal4 := hos.lt hlA9
      have hbA := ebp _ hAa
      have hb0 := ebp _ hIA.1
      have hb1 := ebp _ hIA.2.1
      have hb2 := ebp _ hIA.2.2
      have hb3 := ebp _ hA3
      have hb4 := ebp _ hA4
      have hb5 := ebp _ hA5
      have hb6 := ebp _ hA6
      have hb7 := ebp _ hA7
      have hqa : jHide _ := hall.neO hC
      refine J_lt hC (fun hlt0 => ?_)
      refine J_lt hse (fun hlt1 => ?_)
      refine J_lt hdry (fun hlt2 => ?_)
      refine J_lt hsk (fun hlt3 => ?_)
      refine J_lt hsh (fun hlt6 => ?_)
      refine J_lt hsa (fun hlt7 => ?_)
      refine J_iload_n cx dX1_lost_10 rfl ?_
      refine J_bipush (v := nI (8)) cx dX1_lost_11 (by decide) ?_
      refine J_icmpN_ge (tgt := 71) cx dX1_lost_13 (by decide) (by omega) (by omega) (fun c13 => absurd c13 (by omega)) (fun c13 => ?_)
      refine J_aload_n cx dX1_lost_16 rfl ?_
      refine J_get cx in_X1 (ci := 1) rfl 6 (by decide) q259 (fun _ h => h) dX1_lost_17 hC rfl ?_
      refine J_iload_n cx dX1_lost_20 rfl ?_
      refine J_callV (n := 1) cx (ci := 2) [.int (nI (k9))] (t_X2_at l Ω (B 6) hsh hsa k9 (by omega)) dX1_lost_21 (lw_V q1706 q1707 q1708 q91 q1709) ⟨rfl, by decide, by decide, by decide +kernel⟩ rfl hsh rfl rfl ⟨Nat.le_of_ble_eq_true rfl, Nat.le_of_ble_eq_true rfl⟩ rfl rfl (Nat.le_of_ble_eq_true rfl) ⟨Nat.le_of_ble_eq_true rfl, Nat.le_of_ble_eq_true rfl⟩ (jdet ?_)
      rcases hsk8 k9 (by omega) with ⟨hsv, hgv⟩ | ⟨wv, xv, hsv, hgv, hwbv, hwv⟩
      · refine J_top .null (by rw [hsv]; rfl) ?_
        refine J_astore_nN3 cx dX1_lost_24 (by decide) rfl ?_
        refine J_aload_nN cx dX1_lost_25 rfl ?_
        refine J_ifnullN (tgt := 65) cx dX1_lost_26 (by decide) ?_
        refine J_iinc2 (v := nI (k9 + 1)) cx dX1_lost_65 (nI_1 k9) (by decide) rfl ?_
        refine J_goto (tgt := 10) cx dX1_lost_68 (by decide) ?_
        refine J_sub (L1 := [some (.ref a), some (.ref sz), some (.int (nI (k9 + 1))), none]) (jsub_s (jsub_s (jsub_s (jsub_n jsub_0)))) ?_
        exact ihk9 (k9 + 1) _ _ (by omega) ⟨by simp only [loM, if_pos c13, if_pos hgv]; exact hbs8, rfl, hfr2⟩
      · refine J_top (.ref wv) (by rw [hsv]; rfl) ?_
        refine J_astore_n3 cx dX1_lost_24 (by decide) rfl ?_
        refine J_aload_n cx dX1_lost_25 rfl ?_
        refine J_ifnull cx dX1_lost_26 ?_
        refine J_aload_n cx dX1_lost_29 rfl ?_
        refine J_iload_n cx dX1_lost_30 rfl ?_
        refine J_callV (n := 1) cx (ci := 1) [.int (nI (k9))] (t_Py_isReached l Ω a hpy8 k9 (by omega) hsN) dX1_lost_31 (lw_V q1796 q1798 qs19 q85 q1799) ⟨rfl, by decide, by decide, by decide +kernel⟩ rfl hC rfl rfl ⟨Nat.le_of_ble_eq_true rfl, Nat.le_of_ble_eq_true rfl⟩ rfl rfl (Nat.le_of_ble_eq_true rfl) ⟨Nat.le_of_ble_eq_true rfl, Nat.le_of_ble_eq_true rfl⟩ (jdet ?_)
        refine J_if_ne (tgt := 57) cx dX1_lost_34 (by decide) (fun c34 => ?_) (fun c34 => ?_)
        · refine J_aload_n cx dX1_lost_57 rfl ?_
          refine J_aload_n cx dX1_lost_58 rfl ?_
          refine J_w_pot cx dX1_lost_59 q1749 hwv ⟨Nat.le_of_ble_eq_true rfl, Nat.le_of_ble_eq_true rfl⟩ (Nat.le_of_ble_eq_true rfl) ⟨Nat.le_of_ble_eq_true rfl, Nat.le_of_ble_eq_true rfl⟩ ?_
          have hNwv := (hsN k9 (by omega)).resolve_left hgv
          have hMwv : tn (g (41 + k9)) < pl.length := by have h9 := hNwv.2.1; rw [hg2, tn_nI (by omega)] at h9; exact h9
          refine J_top (.int (nI (tn (g (41 + k9))))) (congrArg Value.int hNwv.1) ?_
          refine J_callV (n := 1) cx (ci := 35) [.int (nI (tn (g (41 + k9))))] (t_BS_set l Ω hbs8 (k := tn (g (41 + k9))) (by omega)) dX1_lost_62 (lw_V q1807 q1808 q1809 q134 q1810) ⟨rfl, by decide, by decide, by decide +kernel⟩ rfl hbs8.1 rfl rfl ⟨Nat.le_of_ble_eq_true rfl, Nat.le_of_ble_eq_true rfl⟩ rfl rfl (Nat.le_of_ble_eq_true rfl) ⟨Nat.le_of_ble_eq_true rfl, Nat.le_of_ble_eq_true rfl⟩ (fun v9 G9 z9 hp9 _ => ?_)
          obtain ⟨e1, e2, hbs7, hfr7⟩ := hp9
          subst e1; subst e2
          have hfr3 : ∀ q, q < sz → G9 q = G q := fun q hq => (hfr7 q (by omega) (by omega)).trans (hfr2 q hq)
          refine J_iinc2 (v := nI (k9 + 1)) cx dX1_lost_65 (nI_1 k9) (by decide) rfl ?_
          refine J_goto (tgt := 10) cx dX1_lost_68 (by decide) ?_
          refine J_sub (L1 := [some (.ref a), some (.ref sz), some (.int (nI (k9 + 1))), none]) (jsub_s (jsub_s (jsub_s (jsub_n jsub_0)))) ?_
          exact ihk9 (k9 + 1) _ _ (by omega) ⟨by simp only [loM, if_pos c13, if_neg hgv, if_neg c34]; exact hbs7, rfl, hfr3⟩
        · refine J_aload_n cx dX1_lost_37 rfl ?_
          refine J_get cx in_X1 (ci := 1) rfl 3 (by decide) q253 (fun _ h => h) dX1_lost_38 hC rfl ?_
          refine J_aload_n cx dX1_lost_41 rfl ?_
          refine J_w_pot cx dX1_lost_42 q1749 hwv ⟨Nat.le_of_ble_eq_true rfl, Nat.le_of_ble_eq_true rfl⟩ (Nat.le_of_ble_eq_true rfl) ⟨Nat.le_of_ble_eq_true rfl, Nat.le_of_ble_eq_true rfl⟩ ?_
          have hNwv := (hsN k9 (by omega)).resolve_left hgv
          have hMwv : tn (g (41 + k9)) < pl.length := by have h9 := hNwv.2.1; rw [hg2, tn_nI (by omega)] at h9; exact h9
          refine J_top (.int (nI (tn (g (41 + k9))))) (congrArg Value.int hNwv.1) ?_
          obtain ⟨y9, hy9⟩ := jget (ns := pl) (i := tn (g (41 + k9))) (by omega)
          obtain ⟨hAy9, hAd9, w9, f9, hc9, hn9, hw9, hwb9, hd9, hl9, hm9, hu9, he9, hf9, hv9⟩ := hPp _ _ hy9
          have hq9 : jHide _ := hall.neP hne9 hc9 hd9 hw9
          have hz9 : y9 < (sz + 1 + 1) ∧ dr (tn (g (41 + k9))) < (sz + 1 + 1) ∧ w9 < (sz + 1 + 1) := ⟨hlA9 _ _ hc9, hlA9 _ _ hd9, hlA9 _ _ hw9⟩
          refine J_al_get cx dX1_lost_45 q413 hps hy9 ⟨Nat.le_of_ble_eq_true rfl, Nat.le_of_ble_eq_true rfl⟩ (Nat.le_of_ble_eq_true rfl) ⟨Nat.le_of_ble_eq_true rfl, Nat.le_of_ble_eq_true rfl⟩ ?_
          refine J_castS (q := (RX6, TX6, 12)) cx dX1_lost_48 q411 (ci := 5) rfl hc9 ?_
          refine J_callV (n := 0) cx (ci := 5) [] (t_X6_breaks l Ω y9 hc9) dX1_lost_51 (lw_V q1803 q1804 q1805 q96 q1806) ⟨rfl, by decide, by decide, by decide +kernel⟩ rfl hc9 rfl rfl ⟨Nat.le_of_ble_eq_true rfl, Nat.le_of_ble_eq_true rfl⟩ rfl rfl (Nat.le_of_ble_eq_true rfl) ⟨Nat.le_of_ble_eq_true rfl, Nat.le_of_ble_eq_true rfl⟩ (jdet ?_)
          refine J_if_eq (tgt := 65) cx dX1_lost_54 (by decide) (fun c54 => ?_) (fun c54 => ?_)
          · refine J_iinc2 (v := nI (k9 + 1)) cx dX1_lost_65 (nI_1 k9) (by decide) rfl ?_
            refine J_goto (tgt := 10) cx dX1_lost_68 (by decide) ?_
            refine J_sub (L1 := [some (.ref a), some (.ref sz), some (.int (nI (k9 + 1))), none]) (jsub_s (jsub_s (jsub_s (jsub_n jsub_0)))) ?_
            exact ihk9 (k9 + 1) _ _ (by omega) ⟨by simp only [loM, if_pos c13, if_neg hgv, if_pos c34, if_pos c54]; exact hbs8, rfl, hfr2⟩
          · refine J_aload_n cx dX1_lost_57 rfl ?_
            refine J_aload_n cx dX1_lost_58 rfl ?_
            refine J_w_pot cx dX1_lost_59 q1749 hwv ⟨Nat.le_of_ble_eq_true rfl, Nat.le_of_ble_eq_true rfl⟩ (Nat.le_of_ble_eq_true rfl) ⟨Nat.le_of_ble_eq_true rfl, Nat.le_of_ble_eq_true rfl⟩ ?_
            have hNwv := (hsN k9 (by omega)).resolve_left hgv
            have hMwv : tn (g (41 + k9)) < pl.length := by have h9 := hNwv.2.1; rw [hg2, tn_nI (by omega)] at h9; exact h9
            refine J_top (.int (nI (tn (g (41 + k9))))) (congrArg Value.int hNwv.1) ?_
            refine J_callV (n := 1) cx (ci := 35) [.int (nI (tn (g (41 + k9))))] (t_BS_set l Ω hbs8 (k := tn (g (41 + k9))) (by omega)) dX1_lost_62 (lw_V q1807 q1808 q1809 q134 q1810) ⟨rfl, by decide, by decide, by decide +kernel⟩ rfl hbs8.1 rfl rfl ⟨Nat.le_of_ble_eq_true rfl, Nat.le_of_ble_eq_true rfl⟩ rfl rfl (Nat.le_of_ble_eq_true rfl) ⟨Nat.le_of_ble_eq_true rfl, Nat.le_of_ble_eq_true rfl⟩ (fun v9 G9 z9 hp9 _ => ?_)
            obtain ⟨e1, e2, hbs7, hfr7⟩ := hp9
            subst e1; subst e2
            have hfr3 : ∀ q, q < sz → G9 q = G q := fun q hq => (hfr7 q (by omega) (by omega)).trans (hfr2 q hq)
            refine J_iinc2 (v := nI (k9 + 1)) cx dX1_lost_65 (nI_1 k9) (by decide) rfl ?_
            refine J_goto (tgt := 10) cx dX1_lost_68 (by decide) ?_
            refine J_sub (L1 := [some (.ref a), some (.ref sz), some (.int (nI (k9 + 1))), none]) (jsub_s (jsub_s (jsub_s (jsub_n jsub_0)))) ?_
            exact ihk9 (k9 + 1) _ _ (by omega) ⟨by simp only [loM, if_pos c13, if_neg hgv, if_pos c34, if_neg c54]; exact hbs7, rfl, hfr3⟩
  refine J_sub (L1 := [some (.ref a), some (.ref sz), some (.int (nI (0))), none]) (jsub_s (jsub_s (jsub_s (jsub_n jsub_0)))) ?_
  exact K10 8 0 _ _ (by omega) ⟨hbs8, rfl, hfr2⟩
