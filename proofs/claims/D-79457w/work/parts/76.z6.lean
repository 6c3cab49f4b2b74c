/-! POTTERY 13 (gen/mk_z6.py): tries, places -/
set_option maxRecDepth 100000
theorem vaup_back {f : Nat → Option Nat} {k : Nat} {x y : Option Nat} (h : f k = y) : va_up (va_up f k x) k y = f := by
  funext j
  simp only [va_up]
  by_cases hj : j = k
  · rw [if_pos hj, hj, h]
  · rw [if_neg hj, if_neg hj]
/-- the place of a pot on the shelf -/
def c_placeOf (g : Nat → Int32) (p : Int32) : Nat → Nat → Int32
  | 0, _ => -1
  | n + 1, k => if g (41 + k) = -1 then c_placeOf g p n (k + 1) else if g (41 + k) = p then nI k else c_placeOf g p n (k + 1)
theorem wares_of {Ω : jO} {A : Nat → Prop} {G : Mem} {B : Nat → Nat} {sh : Nat → Option Nat} {g : Nat → Int32} (h : pyS Ω A G B sh g) : ∃ cx9 : Nat → Int32 × Int32, ∀ k, k < 8 → ∀ w, sh k = some w → G w = some (wE (g (41 + k)) (some (cx9 k))) := by
  have h1 : ∀ k, ∃ x, k < 8 → ∀ w, sh k = some w → G w = some (wE (g (41 + k)) (some x)) := fun k => by
    by_cases hk : k < 8
    · rcases h.2.2.2.2 k hk with ⟨e1, -⟩ | ⟨w, x, e1, -, -, e4⟩
      · exact ⟨(0, 0), fun _ w hw => by rw [e1] at hw; cases hw⟩
      · exact ⟨x, fun _ w' hw => by rw [e1] at hw; cases hw; exact e4⟩
    · exact ⟨(0, 0), fun e => absurd e hk⟩
  exact ⟨fun k => (h1 k).choose, fun k hk w hw => (h1 k).choose_spec hk w hw⟩
theorem placeOf_eq {Ω : jO} {A : Nat → Prop} {G : Mem} {B : Nat → Nat} {sh : Nat → Option Nat} {g : Nat → Int32} (h : pyS Ω A G B sh g) (p : Int32) : ∀ n k, n + k ≤ 8 → S_placeOf sh (fun k => g (41 + k)) p n k = c_placeOf g p n k
  | 0, _, _ => rfl
  | n + 1, k, hk => by
    have ih := placeOf_eq h p n (k + 1) (by omega)
    simp only [S_placeOf, c_placeOf]
    rcases h.2.2.2.2 k (by omega) with ⟨e1, e2⟩ | ⟨w, x, e1, e2, -⟩
    · rw [e1, if_pos e2]; exact ih
    · rw [e1, if_neg e2]
      show (if g (41 + k) = p then nI k else S_placeOf sh (fun k => g (41 + k)) p n (k + 1)) = _
      rw [ih]
def c_place (g : Nat → Int32) (p k : Nat) : Nat → Int32 := upd (upd g (50 + 13 * p + 8) (nI k)) (41 + k) (nI p)
set_option maxHeartbeats 1000000 in
theorem t_Py_tries (l : Launch) (Ω : jO) {G : Mem} {sz : Nat} (hl : l.stackTraces = false) {A : Nat → Prop} (a : Nat) {g : Nat → Int32} {D : Nat → List Int32} {cp : Nat → Nat} {row : List Nat} {e9 : Int32} {B : Nat → Nat} {pl ol ns : List Nat} {dr : Nat → Nat} {sh : Nat → Option Nat} (hall : pyAll Ω A G a g D cp row e9 B pl ol ns dr sh) (p9 y0 : Nat) (hy0 : pl[p9]? = some y0) (k9 : Nat) (hk8 : k9 < 8) : vx_Met l yX1_tries (wsW_ yX1_tries cX1_tries 5 none [(9, 23, 26, 169)]) ({ frames := 8, cells := 5, slots := 42, locals := 10276 } : Room) (va_Pc [.ref a, .ref y0, .int (nI (k9))] (jWd Ω G sz)) (jQ Ω (fun v G1 sz1 => ¬ gP g p9 6 = -1 ∧ v = none ∧ G1 = G ∧ sz1 = sz)) (jXC Ω (fun ci q G1 sz1 => gP g p9 6 = -1 ∧ xPy A G sz [(nI (13), gP g p9 0), (nI (20), nI p9)] ci q G1 sz1)) 5 42 (jB Ω) := by
  refine jMetXH (by decide) (Nat.le_of_ble_eq_true rfl) ?_
  intro p e s m args below meth c cx hr hnm hex
  refine J_loc [some (.ref a), some (.ref y0), some (.int (nI (k9))), none, none] rfl ?_
  obtain ⟨⟨hAa, hC⟩, hI, hP, hO, hR, hS, hX⟩ := id hall
  obtain ⟨mcp, hps, hA3, hA8, hg2, hp16, hPp, hdr⟩ := id hP
  obtain ⟨mco, hos, hA4, hA9, hg3, ho8, hond, hOo⟩ := id hO
  obtain ⟨sf, df, kf, nk, hIA, hse, hsf, hdry, hdf, hsk, hnk, hg1, hkf⟩ := id hI
  obtain ⟨mcr, hrw, hA5, hAns, hr16⟩ := id hR
  obtain ⟨hsh, hsa, hA6, hA7, hsk8⟩ := id hS
  have ebp := hX.2.2
  refine J_ltA (fun hlA9 => ?_)
  have hne9 : jNe Ω := cx.kw.ne
  have hal3 := hps.lt hlA9
  have hal4 := hos.lt hlA9
  have hbA := ebp _ hAa
  have hb0 := ebp _ hIA.1
  have hb1 := ebp _ hIA.2.1
  have hb2 := ebp _ hIA.2.2
  have hb3 := ebp _ hA3
  have hb4 := ebp _ hA4
  have hb5 := ebp _ hA5
  have hb6 := ebp _ hA6
  have hb7 := ebp _ hA7
  have hqa : jHide _ := hall.neO hC
  obtain ⟨hAy0, hAd0, w0, f0, hc0, hn0, hw0, hwb0, hd0, hl0, hm0, hu0, he0, hf0, hv0⟩ := hPp _ _ hy0
  have hq0 : jHide _ := hall.neP hne9 hc0 hd0 hw0
  have hz0 : y0 < sz ∧ dr p9 < sz ∧ w0 < sz := ⟨hlA9 _ _ hc0, hlA9 _ _ hd0, hlA9 _ _ hw0⟩
  refine J_bs cx (fun hbs9 => ?_)
  refine J_lt hC (fun hlt0 => ?_)
  refine J_lt hse (fun hlt1 => ?_)
  refine J_lt hdry (fun hlt2 => ?_)
  refine J_lt hsk (fun hlt3 => ?_)
  refine J_lt hsh (fun hlt6 => ?_)
  refine J_lt hsa (fun hlt7 => ?_)
  refine J_lt hc0 (fun hlt8 => ?_)
  refine J_lt hw0 (fun hlt9 => ?_)
  refine J_aload_n cx dX1_tries_0 rfl ?_
  refine J_get cx in_X1 (ci := 1) rfl 6 (by decide) q259 (fun _ h => h) dX1_tries_1 hC rfl ?_
  refine J_iload_n cx dX1_tries_4 rfl ?_
  refine J_callV (n := 1) cx (ci := 2) [.int (nI (k9))] (t_X2_at l Ω (B 6) hsh hsa k9 (by omega)) dX1_tries_5 (lw_V q1706 q1707 q1708 q91 q1709) ⟨rfl, by decide, by decide, by decide +kernel⟩ rfl hsh rfl rfl ⟨Nat.le_of_ble_eq_true rfl, Nat.le_of_ble_eq_true rfl⟩ rfl rfl (Nat.le_of_ble_eq_true rfl) ⟨Nat.le_of_ble_eq_true rfl, Nat.le_of_ble_eq_true rfl⟩ (jdet ?_)
  rcases hsk8 k9 (by omega) with ⟨hsv, hgv⟩ | ⟨wv, xv, hsv, hgv, hwbv, hwv⟩
  · refine J_top .null (by rw [hsv]; rfl) ?_
    refine J_astore_nN3 cx dX1_tries_8 (by decide) rfl ?_
    refine J_aload_n cx dX1_tries_9 rfl ?_
    refine J_get cx in_X1 (ci := 1) rfl 6 (by decide) q259 (fun _ h => h) dX1_tries_10 hC rfl ?_
    refine J_iload_n cx dX1_tries_13 rfl ?_
    refine J_aload_n cx dX1_tries_14 rfl ?_
    refine J_getN cx in_X6 (ci := 5) rfl 8 (by decide) q474 (fun _ h => h) dX1_tries_15 hc0 rfl ?_
    by_cases c6 : gP g p9 6 = -1
    · have hw0r : G w0 = some (wE (nI p9) none) := by rw [hw0, gw, if_pos c6]
      refine J_callVXH (n := 2) cx (ci := 2) [.int (nI (k9)), .ref w0] (t_X2_puts_X l Ω hl (B 6) hsh hsa k9 (by omega) hb7 w0 hw0r) dX1_tries_18 (lw_VW q1710 q1711 q1712 q91 q1713) ⟨rfl, by decide, by decide, by decide +kernel⟩ rfl hsh rfl rfl ⟨Nat.le_of_ble_eq_true rfl, Nat.le_of_ble_eq_true rfl⟩ rfl rfl (Nat.le_of_ble_eq_true rfl) ⟨Nat.le_of_ble_eq_true rfl, Nat.le_of_ble_eq_true rfl⟩ (fun _ _ _ hp9 _ => False.elim hp9) (fun ci9 q9 r9 fs9 G9 z9 hc9 hq9 hp9 hle9 => ?_)
      obtain ⟨zz9, hz9, e0, e1, e2, e3⟩ := hp9
      subst e0; subst e1; subst e2; subst e3
      refine JX_catch (r := (RX10, TX10, 8)) cx [] _ [] hex (fun z hz => by cases hz) (by decide) (by decide) q1283 q1285 (ci := 8) rfl gset_eq ?_
      refine J_astore4 cx dX1_tries_26 (by decide) rfl ?_
      refine J_new cx in_X10 tyX10 tyX10_ok q1283 q1284 q125 (ci := 8) rfl (fs := [.null, .null, .null, .null, .null, .int 0, .int 0, .int 0]) (by decide +kernel) dX1_tries_28 (Nat.le_of_ble_eq_true rfl) (Nat.le_of_ble_eq_true rfl) ?_
      refine J_dup cx dX1_tries_31 rfl ?_
      refine J_bipush (v := nI (13)) cx dX1_tries_32 (by decide) ?_
      refine J_aload_n cx dX1_tries_34 rfl ?_
      refine J_getN cx in_X6 (ci := 5) rfl 4 (by decide) q461 (fun _ h => h) dX1_tries_35 ((gset_ne (by omega)).trans ((gset_ne (by omega)).trans hc0)) rfl ?_
      refine J_aload cx dX1_tries_38 rfl ?_
      refine J_callI (n := 3) cx [.int (nI (13)), .int (gP g p9 0), .ref q9] (t_X10_init_2_R l Ω (q9 + 1) q9 (nI (13)) (gP g p9 0) gset_eq (by omega)) dX1_tries_40 q1297 q125 q1744 q1296 rfl ⟨by decide, by decide, by decide +kernel⟩ rfl rfl ⟨Nat.le_of_ble_eq_true rfl, Nat.le_of_ble_eq_true rfl⟩ rfl rfl (Nat.le_of_ble_eq_true rfl) ⟨Nat.le_of_ble_eq_true rfl, Nat.le_of_ble_eq_true rfl⟩ (jdet ?_)
      refine J_mem (gset (gset G q9 (.inr (8, [.null, .null, .null, .null, .null, .int 0, .int (nI (20)), .int (nI p9)]))) (q9 + 1) (.inr (8, [.ref q9, .null, .null, .null, .null, .int 0, .int (nI (13)), .int (gP g p9 0)]))) gset_gset ?_
      refine J_athrow cx dX1_tries_43 ?_
      exact JX_out cx (jnocov hex (by decide)) (ci := 8) rfl gset_eq ⟨c6, rfl, by omega, by omega, ⟨q9, gset_eq, (gset_ne (by omega)).trans gset_eq⟩, fun z h1 _ => (gset_ne (by omega)).trans (gset_ne (by omega))⟩ (Nat.le_of_ble_eq_true rfl) (Nat.le_of_ble_eq_true rfl)
    · have hw0c : G w0 = some (wE (nI p9) (some (gP g p9 6, gP g p9 7))) := by rw [hw0, gw, if_neg c6]
      refine J_callVXH (n := 2) cx (ci := 2) [.int (nI (k9)), .ref w0] (t_X2_puts_C l Ω (B 6) hsh hsa k9 (by omega) hb7 w0 hw0c) dX1_tries_18 (lw_VW q1710 q1711 q1712 q91 q1713) ⟨rfl, by decide, by decide, by decide +kernel⟩ rfl hsh rfl rfl ⟨Nat.le_of_ble_eq_true rfl, Nat.le_of_ble_eq_true rfl⟩ rfl rfl (Nat.le_of_ble_eq_true rfl) ⟨Nat.le_of_ble_eq_true rfl, Nat.le_of_ble_eq_true rfl⟩ (fun v9 G9 z9 hp9 _ => ?_) (fun _ _ _ _ _ _ _ _ hx _ => False.elim hx)
      obtain ⟨e1, e2, e3⟩ := hp9
      rw [e1, e2, e3]
      refine J_mem (gset G (B 7) (.inl (Ω.2.1 5, 8, jAq (va_up sh k9 (some w0))))) rfl ?_
      refine J_top (.null) (by rw [hsv]; rfl) ?_
      refine J_astoreN4 cx dX1_tries_21 (by decide) rfl ?_
      refine J_goto (tgt := 44) cx dX1_tries_23 (by decide) ?_
      refine J_aload_n cx dX1_tries_44 rfl ?_
      refine J_get cx in_X1 (ci := 1) rfl 6 (by decide) q259 (fun _ h => h) dX1_tries_45 ((gset_ne (Ne.symm (hqa.get.2.2.2.2.2.2.2.2.2.2.2))).trans hC) rfl ?_
      refine J_iload_n cx dX1_tries_48 rfl ?_
      refine J_aload_nN cx dX1_tries_49 rfl ?_
      refine J_callVXH (n := 2) cx (ci := 2) [.int (nI (k9)), .null] (t_X2_puts_N l Ω (B 6) ((gset_ne (jneC hsh hsa (by simp))).trans hsh) gset_eq k9 (by omega) hb7) dX1_tries_50 (lw_VW q1710 q1711 q1712 q91 q1713) ⟨rfl, by decide, by decide, by decide +kernel⟩ rfl ((gset_ne (jneC hsh hsa (by simp))).trans hsh) rfl rfl ⟨Nat.le_of_ble_eq_true rfl, Nat.le_of_ble_eq_true rfl⟩ rfl rfl (Nat.le_of_ble_eq_true rfl) ⟨Nat.le_of_ble_eq_true rfl, Nat.le_of_ble_eq_true rfl⟩ (fun v9 G9 z9 hp9 _ => ?_) (fun _ _ _ _ _ _ _ _ hx _ => False.elim hx)
      obtain ⟨e1, e2, e3⟩ := hp9
      rw [e1, e2, e3]
      refine J_mem (gset G (B 7) (.inl (Ω.2.1 5, 8, jAq (va_up (va_up sh k9 (some w0)) k9 none)))) gset_gset ?_
      refine J_top (.ref w0) (by simp [va_up, va_rf]) ?_
      have hback : (gset G (B 7) (.inl (Ω.2.1 5, 8, jAq (va_up (va_up sh k9 (some w0)) k9 none)))) = G := by rw [vaup_back hsv, gset_same hsa]
      refine J_astore4 cx dX1_tries_53 (by decide) rfl ?_
      refine J_xret ?_
      exact J_vret cx dX1_tries_55 hr ⟨c6, rfl, hback, rfl⟩ (Nat.le_of_ble_eq_true rfl) (Nat.le_of_ble_eq_true rfl)
  · refine J_top (.ref wv) (by rw [hsv]; rfl) ?_
    refine J_astore_n3 cx dX1_tries_8 (by decide) rfl ?_
    refine J_aload_n cx dX1_tries_9 rfl ?_
    refine J_get cx in_X1 (ci := 1) rfl 6 (by decide) q259 (fun _ h => h) dX1_tries_10 hC rfl ?_
    refine J_iload_n cx dX1_tries_13 rfl ?_
    refine J_aload_n cx dX1_tries_14 rfl ?_
    refine J_getN cx in_X6 (ci := 5) rfl 8 (by decide) q474 (fun _ h => h) dX1_tries_15 hc0 rfl ?_
    by_cases c6 : gP g p9 6 = -1
    · have hw0r : G w0 = some (wE (nI p9) none) := by rw [hw0, gw, if_pos c6]
      refine J_callVXH (n := 2) cx (ci := 2) [.int (nI (k9)), .ref w0] (t_X2_puts_X l Ω hl (B 6) hsh hsa k9 (by omega) hb7 w0 hw0r) dX1_tries_18 (lw_VW q1710 q1711 q1712 q91 q1713) ⟨rfl, by decide, by decide, by decide +kernel⟩ rfl hsh rfl rfl ⟨Nat.le_of_ble_eq_true rfl, Nat.le_of_ble_eq_true rfl⟩ rfl rfl (Nat.le_of_ble_eq_true rfl) ⟨Nat.le_of_ble_eq_true rfl, Nat.le_of_ble_eq_true rfl⟩ (fun _ _ _ hp9 _ => False.elim hp9) (fun ci9 q9 r9 fs9 G9 z9 hc9 hq9 hp9 hle9 => ?_)
      obtain ⟨zz9, hz9, e0, e1, e2, e3⟩ := hp9
      subst e0; subst e1; subst e2; subst e3
      refine JX_catch (r := (RX10, TX10, 8)) cx [] _ [] hex (fun z hz => by cases hz) (by decide) (by decide) q1283 q1285 (ci := 8) rfl gset_eq ?_
      refine J_astore4 cx dX1_tries_26 (by decide) rfl ?_
      refine J_new cx in_X10 tyX10 tyX10_ok q1283 q1284 q125 (ci := 8) rfl (fs := [.null, .null, .null, .null, .null, .int 0, .int 0, .int 0]) (by decide +kernel) dX1_tries_28 (Nat.le_of_ble_eq_true rfl) (Nat.le_of_ble_eq_true rfl) ?_
      refine J_dup cx dX1_tries_31 rfl ?_
      refine J_bipush (v := nI (13)) cx dX1_tries_32 (by decide) ?_
      refine J_aload_n cx dX1_tries_34 rfl ?_
      refine J_getN cx in_X6 (ci := 5) rfl 4 (by decide) q461 (fun _ h => h) dX1_tries_35 ((gset_ne (by omega)).trans ((gset_ne (by omega)).trans hc0)) rfl ?_
      refine J_aload cx dX1_tries_38 rfl ?_
      refine J_callI (n := 3) cx [.int (nI (13)), .int (gP g p9 0), .ref q9] (t_X10_init_2_R l Ω (q9 + 1) q9 (nI (13)) (gP g p9 0) gset_eq (by omega)) dX1_tries_40 q1297 q125 q1744 q1296 rfl ⟨by decide, by decide, by decide +kernel⟩ rfl rfl ⟨Nat.le_of_ble_eq_true rfl, Nat.le_of_ble_eq_true rfl⟩ rfl rfl (Nat.le_of_ble_eq_true rfl) ⟨Nat.le_of_ble_eq_true rfl, Nat.le_of_ble_eq_true rfl⟩ (jdet ?_)
      refine J_mem (gset (gset G q9 (.inr (8, [.null, .null, .null, .null, .null, .int 0, .int (nI (20)), .int (nI p9)]))) (q9 + 1) (.inr (8, [.ref q9, .null, .null, .null, .null, .int 0, .int (nI (13)), .int (gP g p9 0)]))) gset_gset ?_
      refine J_athrow cx dX1_tries_43 ?_
      exact JX_out cx (jnocov hex (by decide)) (ci := 8) rfl gset_eq ⟨c6, rfl, by omega, by omega, ⟨q9, gset_eq, (gset_ne (by omega)).trans gset_eq⟩, fun z h1 _ => (gset_ne (by omega)).trans (gset_ne (by omega))⟩ (Nat.le_of_ble_eq_true rfl) (Nat.le_of_ble_eq_true rfl)
    · have hw0c : G w0 = some (wE (nI p9) (some (gP g p9 6, gP g p9 7))) := by rw [hw0, gw, if_neg c6]
      refine J_callVXH (n := 2) cx (ci := 2) [.int (nI (k9)), .ref w0] (t_X2_puts_C l Ω (B 6) hsh hsa k9 (by omega) hb7 w0 hw0c) dX1_tries_18 (lw_VW q1710 q1711 q1712 q91 q1713) ⟨rfl, by decide, by decide, by decide +kernel⟩ rfl hsh rfl rfl ⟨Nat.le_of_ble_eq_true rfl, Nat.le_of_ble_eq_true rfl⟩ rfl rfl (Nat.le_of_ble_eq_true rfl) ⟨Nat.le_of_ble_eq_true rfl, Nat.le_of_ble_eq_true rfl⟩ (fun v9 G9 z9 hp9 _ => ?_) (fun _ _ _ _ _ _ _ _ hx _ => False.elim hx)
      obtain ⟨e1, e2, e3⟩ := hp9
      rw [e1, e2, e3]
      refine J_mem (gset G (B 7) (.inl (Ω.2.1 5, 8, jAq (va_up sh k9 (some w0))))) rfl ?_
      refine J_top (.ref wv) (by rw [hsv]; rfl) ?_
      refine J_astore4 cx dX1_tries_21 (by decide) rfl ?_
      refine J_goto (tgt := 44) cx dX1_tries_23 (by decide) ?_
      refine J_aload_n cx dX1_tries_44 rfl ?_
      refine J_get cx in_X1 (ci := 1) rfl 6 (by decide) q259 (fun _ h => h) dX1_tries_45 ((gset_ne (Ne.symm (hqa.get.2.2.2.2.2.2.2.2.2.2.2))).trans hC) rfl ?_
      refine J_iload_n cx dX1_tries_48 rfl ?_
      refine J_aload_n cx dX1_tries_49 rfl ?_
      have hwv2 : (gset G (B 7) (.inl (Ω.2.1 5, 8, jAq (va_up sh k9 (some w0))))) wv = some (wE (g (41 + k9)) (some xv)) := (gset_ne (jneC hwv hsa wE_neA)).trans hwv
      refine J_callVXH (n := 2) cx (ci := 2) [.int (nI (k9)), .ref wv] (t_X2_puts_C l Ω (B 6) ((gset_ne (jneC hsh hsa (by simp))).trans hsh) gset_eq k9 (by omega) hb7 wv hwv2) dX1_tries_50 (lw_VW q1710 q1711 q1712 q91 q1713) ⟨rfl, by decide, by decide, by decide +kernel⟩ rfl ((gset_ne (jneC hsh hsa (by simp))).trans hsh) rfl rfl ⟨Nat.le_of_ble_eq_true rfl, Nat.le_of_ble_eq_true rfl⟩ rfl rfl (Nat.le_of_ble_eq_true rfl) ⟨Nat.le_of_ble_eq_true rfl, Nat.le_of_ble_eq_true rfl⟩ (fun v9 G9 z9 hp9 _ => ?_) (fun _ _ _ _ _ _ _ _ hx _ => False.elim hx)
      obtain ⟨e1, e2, e3⟩ := hp9
      rw [e1, e2, e3]
      refine J_mem (gset G (B 7) (.inl (Ω.2.1 5, 8, jAq (va_up (va_up sh k9 (some w0)) k9 (some wv))))) gset_gset ?_
      refine J_top (.ref w0) (by simp [va_up, va_rf]) ?_
      have hback : (gset G (B 7) (.inl (Ω.2.1 5, 8, jAq (va_up (va_up sh k9 (some w0)) k9 (some wv))))) = G := by rw [vaup_back hsv, gset_same hsa]
      refine J_astore4 cx dX1_tries_53 (by decide) rfl ?_
      refine J_xret ?_
      exact J_vret cx dX1_tries_55 hr ⟨c6, rfl, hback, rfl⟩ (Nat.le_of_ble_eq_true rfl) (Nat.le_of_ble_eq_true rfl)
