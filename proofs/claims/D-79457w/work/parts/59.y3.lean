/-! POTTERY 6 (gen/mk_y3.py): nextOfRow -/
set_option maxRecDepth 100000
section JBX3
variable {p : Program} {l : Launch} {e : Env} {R : Room} {s : State} {m : MethodId} {args : Array Value} {below : List Frame} {meth : Method} {c : Code} {Q : State → Prop} {Ω : jO} {nL : Nat}
variable {cells slots sz : Nat} {G : Mem} {L : List (Option Value)} {st : List Value} {cc : ByteArray} {own : String} {pc : Nat}
theorem J_castBox (cx : jCX p s m args meth c cc own Ω nL) {index n9 : Nat} (hn : n9 < 128) (hdg : decode cc pc = .ok (.checkcast index, 3)) (hlk : Cond.classLink own index "java/lang/Integer" ∈ lw_all)
    (kk : J p l e R s m args below meth c Ω nL Q cells slots sz G (pc + 3) L (.ref (Ω.2.2.1 (n9 + 128 + 10)) :: st)) : J p l e R s m args below meth c Ω nL Q cells slots sz G pc L (.ref (Ω.2.2.1 (n9 + 128 + 10)) :: st) := fun H locs ls h1 h2 h3 h4 => by
  obtain ⟨cC, iS, hk⟩ := u_known (s := s) (args := args) cx.ts in_J26 (cx.ts _ q1217)
  obtain ⟨cell, g1, g2, g3, -⟩ := (cx.sta.2.2.2.2.2.1.1 (n9 + 128) (by omega)).kept h3.2.1
  exact va_castS cx.1 cx.2.1 cx.ow (cx.ts _ hlk) hk.2 ⟨cell, g1, g2, g3⟩ hdg (kk H locs ls h1 h2 h3 h4)
end JBX3
theorem eraseMap {α β : Type} (f : α → β) : ∀ (l : List α) (k : Nat), (l.map f).eraseIdx k = (l.eraseIdx k).map f
  | [], _ => rfl
  | _ :: _, 0 => rfl
  | a :: l, k + 1 => by simp only [List.map_cons, List.eraseIdx_cons_succ, eraseMap f l k]
/-- the place in the row of the next pot: the first of another potter than the last one's, else the first -/
def S_nx (g : Nat → Int32) (row : List Nat) : Nat → Nat → Nat
  | 0, _ => 0
  | n + 1, k => match row[k]? with
    | none => 0
    | some r => if gP g r 1 = g 40 then S_nx g row n (k + 1) else k
set_option maxHeartbeats 1000000 in
theorem t_Py_nextOfRow (l : Launch) (Ω : jO) {G : Mem} {sz : Nat} {A : Nat → Prop} (a : Nat) {g : Nat → Int32} {D : Nat → List Int32} {cp : Nat → Nat} {row : List Nat} {e9 : Int32} (hpy : isPy Ω A G a g D cp row e9) (hne : row ≠ []) (hrow : ∀ r, r ∈ row → r < tn (g 2)) : Met l yX1_nextOfRow (ws_ yX1_nextOfRow cX1_nextOfRow 3 (some .int)) ({ frames := 6, cells := 1, slots := 5, locals := 118 } : Room) (va_Pc [.ref a] (jWd Ω G sz)) (jQ Ω (fun v G1 sz1 => ∃ r, row[S_nx g row row.length 0]? = some r ∧ v = some (.int (nI r)) ∧ sz1 = sz + 1 ∧ isPy Ω A G1 a g D cp (row.eraseIdx (S_nx g row row.length 0)) e9 ∧ ∀ q, q < sz → ¬ A q → G1 q = G q)) 1 5 (jB Ω) := by
  refine jMet (by decide) (Nat.le_of_ble_eq_true rfl) ?_
  intro p e s m args below meth c cx hr hnm
  refine J_loc [some (.ref a), none, none] rfl ?_
  obtain ⟨B, pl, ol, ns, dr, sh, hall⟩ := hpy.all
  obtain ⟨⟨hAa, hC⟩, hI, hP, hO, hR, hS, hX⟩ := id hall
  obtain ⟨mcp, hps, hA3, hA8, hg2, hp16, hPp, hdr⟩ := id hP
  obtain ⟨mco, hos, hA4, hA9, hg3, ho8, hond, hOo⟩ := id hO
  obtain ⟨sf, df, kf, nk, hIA, hse, hsf, hdry, hdf, hsk, hnk, hg1, hkf⟩ := id hI
  obtain ⟨mcr, hrw, hA5, hAns, hr16⟩ := id hR
  obtain ⟨hsh, hsa, hA6, hA7, hsk8⟩ := id hS
  have ebp := hX.2.2
  refine J_ltA (fun hlA9 => ?_)
  have hne9 : jNe Ω := cx.kw.ne
  have hal3 := hps.lt hlA9
  have hal4 := hos.lt hlA9
  have hbA := ebp _ hAa
  have hb0 := ebp _ hIA.1
  have hb1 := ebp _ hIA.2.1
  have hb2 := ebp _ hIA.2.2
  have hb3 := ebp _ hA3
  have hb4 := ebp _ hA4
  have hb5 := ebp _ hA5
  have hb6 := ebp _ hA6
  have hb7 := ebp _ hA7
  have hqa : jHide _ := hall.neO hC
  have hnlt : ∀ n, n ∈ ns → n < sz := fun n hn => by obtain ⟨fs, h9⟩ := hrw.nodes hn; exact hlA9 _ _ h9
  have hrl : row.length = ns.length := by have h9 := hrw.2.1; rw [List.length_map] at h9; exact h9
  have hr40 : row.length < 40 := by have h9 := hrw.2.2.1; omega
  have hB5 : B 5 < sz := hlA9 _ _ hrw.1
  have hpl9 : tn (g 2) = pl.length := by rw [hg2, tn_nI (by omega)]
  have hr0l : 0 < row.length := List.length_pos_iff.mpr hne
  obtain ⟨r0, hr0⟩ := jget hr0l
  have hr016 : r0 < 16 := hr16 _ (List.mem_of_getElem? hr0)
  have hrm0 : (row.map fun p => Ω.2.2.1 (p + 128 + 10))[0]? = some (Ω.2.2.1 (r0 + 128 + 10)) := by rw [List.getElem?_map, hr0]; rfl
  refine J_bs cx (fun hbs9 => ?_)
  refine J_lt hC (fun hlt0 => ?_)
  refine J_lt hse (fun hlt1 => ?_)
  refine J_lt hdry (fun hlt2 => ?_)
  refine J_lt hsk (fun hlt3 => ?_)
  refine J_lt hsh (fun hlt6 => ?_)
  refine J_lt hsa (fun hlt7 => ?_)
  refine J_aload_n cx dX1_nextOfRow_0 rfl ?_
  refine J_get cx in_X1 (ci := 1) rfl 5 (by decide) q257 (fun _ h => h) dX1_nextOfRow_1 hC rfl ?_
  refine J_callU (n := 0) (owner := "java/util/AbstractSequentialList") cx (ci := 29) [] (t_LL_iter l Ω hrw) dX1_nextOfRow_4 q650 q645 q646 q648 q649 q89 rfl ⟨by decide, by decide, by decide +kernel⟩ rfl hrw.1 rfl rfl ⟨Nat.le_of_ble_eq_true rfl, Nat.le_of_ble_eq_true rfl⟩ rfl rfl (Nat.le_of_ble_eq_true rfl) ⟨Nat.le_of_ble_eq_true rfl, Nat.le_of_ble_eq_true rfl⟩ (jdet ?_)
  refine J_mem (gset G sz (itE ns (B 5) 0 mcr)) rfl ?_
  refine J_astore_n1 cx dX1_nextOfRow_7 (by decide) rfl ?_
  have K8 : ∀ nk9 k9 : Nat, nk9 + k9 = row.length → S_nx g row row.length 0 = S_nx g row nk9 k9 → J p l e ({ frames := 6, cells := 1, slots := 5, locals := 118 } : Room) s m args below meth c Ω 3 (MQ below (jQ Ω (fun v G1 sz1 => ∃ r, row[S_nx g row row.length 0]? = some r ∧ v = some (.int (nI r)) ∧ sz1 = sz + 1 ∧ isPy Ω A G1 a g D cp (row.eraseIdx (S_nx g row row.length 0)) e9 ∧ ∀ q, q < sz → ¬ A q → G1 q = G q)) args s 1 5 (jB Ω)) 1 5 (sz + 1) (gset G sz (itE ns (B 5) k9 mcr)) 8 [some (.ref a), some (.ref sz), none] [] := by
    intro nk9
    induction nk9 with
    | zero =>
      intro k9 hk9 hinv
      refine J_aload_n cx dX1_nextOfRow_8 rfl ?_
      refine J_callF (n := 0) cx (ci := 32) [] (t_LL_hasNext l Ω (hrw.put2 (by omega) (fun n hn e => by have := hnlt n hn; omega)) gset_eq (by omega)) dX1_nextOfRow_9 q783 q733 q779 q781 q110 q735 q734 q782 q780 q778 ⟨by decide, by decide, by decide +kernel⟩ rfl gset_eq rfl rfl ⟨Nat.le_of_ble_eq_true rfl, Nat.le_of_ble_eq_true rfl⟩ rfl rfl (Nat.le_of_ble_eq_true rfl) ⟨Nat.le_of_ble_eq_true rfl, Nat.le_of_ble_eq_true rfl⟩ (jdet ?_)
      refine J_if_eq (tgt := 62) cx dX1_nextOfRow_14 (by decide) (fun c14 => ?_) (fun c14 => absurd c14 ((fun q => q (by simp only [r_hasNext, List.length_map]; rw [if_neg (by omega)] <;> rfl))))
      refine J_aload_n cx dX1_nextOfRow_62 rfl ?_
      refine J_get cx in_X1 (ci := 1) rfl 5 (by decide) q257 (fun _ h => h) dX1_nextOfRow_63 ((gset_ne (by omega)).trans hC) rfl ?_
      refine J_callV (n := 0) cx (ci := 29) [] (t_LL_first l Ω (hrw.put2 (by omega) (fun n hn e => by have := hnlt n hn; omega)) hrm0) dX1_nextOfRow_66 (lw_V q1471 q1472 q1473 q90 q1474) ⟨rfl, by decide, by decide, by decide +kernel⟩ rfl (hrw.put2 (by omega) (fun n hn e => by have := hnlt n hn; omega)).1 rfl rfl ⟨Nat.le_of_ble_eq_true rfl, Nat.le_of_ble_eq_true rfl⟩ rfl rfl (Nat.le_of_ble_eq_true rfl) ⟨Nat.le_of_ble_eq_true rfl, Nat.le_of_ble_eq_true rfl⟩ (fun v9 G9 z9 hp9 _ => ?_)
      obtain ⟨e1, e2, hrw2, hfr2⟩ := hp9
      subst e1; subst e2
      rw [eraseMap] at hrw2
      refine J_castBox cx (n9 := r0) (by omega) dX1_nextOfRow_69 q1204 ?_
      refine J_intValue cx (n9 := r0) (by omega) dX1_nextOfRow_72 q1205 ⟨Nat.le_of_ble_eq_true rfl, Nat.le_of_ble_eq_true rfl⟩ (Nat.le_of_ble_eq_true rfl) ⟨Nat.le_of_ble_eq_true rfl, Nat.le_of_ble_eq_true rfl⟩ ?_
      have hj : S_nx g row row.length 0 = 0 := hinv.trans (by simp only [S_nx])
      have hfin : isPy Ω A G9 a g D cp (row.eraseIdx 0) e9 := (hall.rowed (ns' := ns.eraseIdx 0) (fun q c hq h1 h2 => (hfr2 q h1 h2).trans ((gset_ne (by have := hlA9 _ _ hq; omega)).trans hq)) ⟨_, hrw2, hA5, fun n hn => hAns n (List.Sublist.subset (List.eraseIdx_sublist ..) hn), fun p hp => hr16 p (List.Sublist.subset (List.eraseIdx_sublist ..) hp)⟩).py
      have hfr : ∀ q, q < sz → ¬ A q → G9 q = G q := fun q h1 h2 => (hfr2 q (fun e => h2 (e ▸ hA5)) (fun e => h2 (hAns q e))).trans (gset_ne (by omega))
      exact J_iret cx dX1_nextOfRow_75 hr ⟨r0, by rw [hj]; exact hr0, rfl, rfl, by rw [hj]; exact hfin, hfr⟩ (Nat.le_of_ble_eq_true rfl) (Nat.le_of_ble_eq_true rfl)
    | succ nk9 ihk9 =>
      intro k9 hk9 hinv
      obtain ⟨r9, hr9⟩ := jget (ns := row) (i := k9) (by omega)
      have hr8 : r9 < pl.length := by rw [← hpl9]; exact hrow _ (List.mem_of_getElem? hr9)
      have hrm : (row.map fun p => Ω.2.2.1 (p + 128 + 10))[k9]? = some (Ω.2.2.1 (r9 + 128 + 10)) := by rw [List.getElem?_map, hr9]; rfl
      refine J_aload_n cx dX1_nextOfRow_8 rfl ?_
      refine J_callF (n := 0) cx (ci := 32) [] (t_LL_hasNext l Ω (hrw.put2 (by omega) (fun n hn e => by have := hnlt n hn; omega)) gset_eq (by omega)) dX1_nextOfRow_9 q783 q733 q779 q781 q110 q735 q734 q782 q780 q778 ⟨by decide, by decide, by decide +kernel⟩ rfl gset_eq rfl rfl ⟨Nat.le_of_ble_eq_true rfl, Nat.le_of_ble_eq_true rfl⟩ rfl rfl (Nat.le_of_ble_eq_true rfl) ⟨Nat.le_of_ble_eq_true rfl, Nat.le_of_ble_eq_true rfl⟩ (jdet ?_)
      refine J_if_eq (tgt := 62) cx dX1_nextOfRow_14 (by decide) (fun c14 => absurd c14 ((fun q => absurd q (by simp only [r_hasNext, List.length_map]; rw [if_pos (by omega)]; decide)))) (fun c14 => ?_)
      refine J_aload_n cx dX1_nextOfRow_17 rfl ?_
      refine J_callF (n := 0) cx (ci := 32) [] (t_LL_next l Ω (hrw.put2 (by omega) (fun n hn e => by have := hnlt n hn; omega)) gset_eq hrm (by omega)) dX1_nextOfRow_18 q1198 q785 q1194 q1196 q110 q787 q786 q1197 q1195 q778 ⟨by decide, by decide, by decide +kernel⟩ rfl gset_eq rfl rfl ⟨Nat.le_of_ble_eq_true rfl, Nat.le_of_ble_eq_true rfl⟩ rfl rfl (Nat.le_of_ble_eq_true rfl) ⟨Nat.le_of_ble_eq_true rfl, Nat.le_of_ble_eq_true rfl⟩ (jdet ?_)
      refine J_mem (gset G sz (itE ns (B 5) (k9 + 1) mcr)) gset_gset ?_
      refine J_castBox cx (n9 := r9) (by omega) dX1_nextOfRow_23 q1204 ?_
      refine J_intValue cx (n9 := r9) (by omega) dX1_nextOfRow_26 q1205 ⟨Nat.le_of_ble_eq_true rfl, Nat.le_of_ble_eq_true rfl⟩ (Nat.le_of_ble_eq_true rfl) ⟨Nat.le_of_ble_eq_true rfl, Nat.le_of_ble_eq_true rfl⟩ ?_
      refine J_istore_n2 cx dX1_nextOfRow_29 (by decide) rfl ?_
      refine J_aload_n cx dX1_nextOfRow_30 rfl ?_
      refine J_get cx in_X1 (ci := 1) rfl 3 (by decide) q253 (fun _ h => h) dX1_nextOfRow_31 ((gset_ne (by omega)).trans hC) rfl ?_
      refine J_iload_n cx dX1_nextOfRow_34 rfl ?_
      obtain ⟨y4, hy4⟩ := jget (ns := pl) (i := r9) (by omega)
      obtain ⟨hAy4, hAd4, w4, f4, hc4, hn4, hw4, hwb4, hd4, hl4, hm4, hu4, he4, hf4, hv4⟩ := hPp _ _ hy4
      have hq4 : jHide _ := hall.neP hne9 hc4 hd4 hw4
      have hz4 : y4 < sz ∧ dr r9 < sz ∧ w4 < sz := ⟨hlA9 _ _ hc4, hlA9 _ _ hd4, hlA9 _ _ hw4⟩
      refine J_al_get cx dX1_nextOfRow_35 q413 (hps.put2 (by omega) (by omega)) hy4 ⟨Nat.le_of_ble_eq_true rfl, Nat.le_of_ble_eq_true rfl⟩ (Nat.le_of_ble_eq_true rfl) ⟨Nat.le_of_ble_eq_true rfl, Nat.le_of_ble_eq_true rfl⟩ ?_
      refine J_castS (q := (RX6, TX6, 12)) cx dX1_nextOfRow_38 q411 (ci := 5) rfl ((gset_ne (by omega)).trans hc4) ?_
      refine J_getN cx in_X6 (ci := 5) rfl 1 (by decide) q450 (fun _ h => h) dX1_nextOfRow_41 ((gset_ne (by omega)).trans hc4) rfl ?_
      refine J_aload_n cx dX1_nextOfRow_44 rfl ?_
      refine J_get cx in_X1 (ci := 1) rfl 10 (by decide) q267 (fun _ h => h) dX1_nextOfRow_45 ((gset_ne (by omega)).trans hC) rfl ?_
      refine J_icmp_eq (tgt := 59) cx dX1_nextOfRow_48 (by decide) (fun c48 => ?_) (fun c48 => ?_)
      · refine J_goto (tgt := 8) cx dX1_nextOfRow_59 (by decide) ?_
        refine J_sub (L1 := [some (.ref a), some (.ref sz), none]) (jsub_s (jsub_s (jsub_n jsub_0))) ?_
        exact ihk9 (k9 + 1) (by omega) (hinv.trans (by simp only [S_nx, hr9, if_pos c48]))
      · refine J_aload_n cx dX1_nextOfRow_51 rfl ?_
        refine J_callF (n := 0) cx (ci := 32) [] (t_LL_remove l Ω (hrw.put2 (by omega) (fun n hn e => by have := hnlt n hn; omega)) gset_eq hrm (by omega)) dX1_nextOfRow_52 q1469 q1367 q1465 q1467 q110 q1369 q1368 q1468 q1466 q778 ⟨by decide, by decide, by decide +kernel⟩ rfl gset_eq rfl rfl ⟨Nat.le_of_ble_eq_true rfl, Nat.le_of_ble_eq_true rfl⟩ rfl rfl (Nat.le_of_ble_eq_true rfl) ⟨Nat.le_of_ble_eq_true rfl, Nat.le_of_ble_eq_true rfl⟩ (fun v9 G9 z9 hp9 _ => ?_)
        obtain ⟨e1, e2, hrw2, hfr2⟩ := hp9
        subst e1; subst e2
        rw [eraseMap] at hrw2
        refine J_iload_n cx dX1_nextOfRow_57 rfl ?_
        have hj : S_nx g row row.length 0 = k9 := hinv.trans (by simp only [S_nx, hr9, if_neg c48])
        have hfin : isPy Ω A G9 a g D cp (row.eraseIdx k9) e9 := (hall.rowed (ns' := ns.eraseIdx k9) (fun q c hq h1 h2 => (hfr2 q h1 (by have := hlA9 _ _ hq; omega) h2).trans ((gset_ne (by have := hlA9 _ _ hq; omega)).trans hq)) ⟨_, hrw2, hA5, fun n hn => hAns n (List.Sublist.subset (List.eraseIdx_sublist ..) hn), fun p hp => hr16 p (List.Sublist.subset (List.eraseIdx_sublist ..) hp)⟩).py
        have hfr : ∀ q, q < sz → ¬ A q → G9 q = G q := fun q h1 h2 => (hfr2 q (fun e => h2 (e ▸ hA5)) (by omega) (fun e => h2 (hAns q e))).trans (gset_ne (by omega))
        exact J_iret cx dX1_nextOfRow_58 hr ⟨r9, by rw [hj]; exact hr9, rfl, rfl, by rw [hj]; exact hfin, hfr⟩ (Nat.le_of_ble_eq_true rfl) (Nat.le_of_ble_eq_true rfl)
  refine J_sub (L1 := [some (.ref a), some (.ref sz), none]) (jsub_s (jsub_s (jsub_n jsub_0))) ?_
  exact K8 (row.length) 0 (by omega) rfl
