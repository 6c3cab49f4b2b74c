/-! POTTERY 1 (gen/mk_p1.py): isPotter, isPot, restLeft, many -/
set_option maxRecDepth 100000
/-- a pot's fields: its ints (0 number, 1 potter, 2 weight, 3 rim, 4 state, 5 cracks, 6 isCovered, 7 order), its moisture, its addresses and hours (0 ware, 1 dried, 2 hours) -/
abbrev PotR : Type := (Nat → Int32) × UInt32 × (Nat → Nat)
abbrev potE (P : PotR) : va_E := .inr (5, [.int (P.1 0), .int (P.1 1), .int (P.1 2), .int (P.1 3), .int (P.1 4), .int (P.1 5), .int (P.1 6), .float P.2.1, .ref (P.2.2 0), .int (P.1 7), .ref (P.2.2 1), .int (nI (P.2.2 2))])
theorem t_X1_isPotter (l : Launch) (Ω : jO) {G : Mem} {sz : Nat} (a : Nat) {se9 dr9 sk9 ps9 os9 rw9 sh9 : Nat} {ck9 wh9 ne9 la9 re9 ea9 : Int32} (ha : G a = some (.inr (1, [.ref se9, .ref dr9, .ref sk9, .ref ps9, .ref os9, .ref rw9, .ref sh9, .int ck9, .int wh9, .int ne9, .int la9, .int re9, .int ea9]))) (p9 : Int32) {n9 : Nat} {sf9 : Nat → Int32} (hs : G sk9 = some (.inl (Ω.2.1 0, n9, .inl sf9))) : Met l yX1_isPotter (ws_ yX1_isPotter cX1_isPotter 2 (some .boolean)) ({ frames := 2, cells := 0, slots := 0, locals := 34 } : Room) (va_Pc [.ref a, .int p9] (jWd Ω G sz)) (jQ Ω (jD (some (.int (r_X3_in p9 (nI (0)) ((nI n9) - (nI (1)))))) G sz)) 0 0 (jB Ω) := by
  refine jMet (by decide) (Nat.le_of_ble_eq_true rfl) ?_
  intro p e s m args below meth c cx hr hnm
  refine J_loc [some (.ref a), some (.int p9)] rfl ?_
  refine J_iload_n cx dX1_isPotter_0 rfl ?_
  refine J_iconst (v := nI (0)) cx dX1_isPotter_1 (by decide) ?_
  refine J_aload_n cx dX1_isPotter_2 rfl ?_
  refine J_get cx in_X1 (ci := 1) rfl 2 (by decide) q251 (fun _ h => h) dX1_isPotter_3 ha rfl ?_
  refine J_alen cx 0 dX1_isPotter_6 rfl hs ?_
  refine J_iconst (v := nI (1)) cx dX1_isPotter_7 (by decide) ?_
  refine J_isub cx dX1_isPotter_8 ?_
  refine J_callSN (n := 3) cx [.int p9, .int (nI (0)), .int ((nI (n9)) - (nI (1)))] (t_X0_in l Ω p9 (nI (0)) ((nI (n9)) - (nI (1)))) dX1_isPotter_9 q366 q1614 q84 q365 ⟨by decide, by decide, by decide +kernel⟩ rfl rfl ⟨Nat.le_of_ble_eq_true rfl, Nat.le_of_ble_eq_true rfl⟩ rfl rfl (Nat.le_of_ble_eq_true rfl) ⟨Nat.le_of_ble_eq_true rfl, Nat.le_of_ble_eq_true rfl⟩ (jdet ?_)
  exact J_zret cx dX1_isPotter_12 hr (by simp only [r_X3_in]; split <;> (try split) <;> rfl) ⟨rfl, rfl, rfl⟩ (Nat.le_of_ble_eq_true rfl) (Nat.le_of_ble_eq_true rfl)
theorem t_X1_isPot (l : Launch) (Ω : jO) {G : Mem} {sz : Nat} (a : Nat) {se9 dr9 sk9 ps9 os9 rw9 sh9 : Nat} {ck9 wh9 ne9 la9 re9 ea9 : Int32} (ha : G a = some (.inr (1, [.ref se9, .ref dr9, .ref sk9, .ref ps9, .ref os9, .ref rw9, .ref sh9, .int ck9, .int wh9, .int ne9, .int la9, .int re9, .int ea9]))) (p9 : Int32) {mcp9 : Int32} {xs9 : List Nat} {edp9 cpp9 : Nat} (hps : jAL Ω G ps9 mcp9 xs9 edp9 cpp9) : Met l yX1_isPot (ws_ yX1_isPot cX1_isPot 2 (some .boolean)) ({ frames := 2, cells := 0, slots := 0, locals := 40 } : Room) (va_Pc [.ref a, .int p9] (jWd Ω G sz)) (jQ Ω (jD (some (.int (r_X3_in p9 (nI (0)) ((nI (xs9.length)) - (nI (1)))))) G sz)) 0 0 (jB Ω) := by
  refine jMet (by decide) (Nat.le_of_ble_eq_true rfl) ?_
  intro p e s m args below meth c cx hr hnm
  refine J_loc [some (.ref a), some (.int p9)] rfl ?_
  refine J_iload_n cx dX1_isPot_0 rfl ?_
  refine J_iconst (v := nI (0)) cx dX1_isPot_1 (by decide) ?_
  refine J_aload_n cx dX1_isPot_2 rfl ?_
  refine J_get cx in_X1 (ci := 1) rfl 3 (by decide) q253 (fun _ h => h) dX1_isPot_3 ha rfl ?_
  refine J_al_size cx dX1_isPot_6 q410 hps ⟨Nat.le_of_ble_eq_true rfl, Nat.le_of_ble_eq_true rfl⟩ (Nat.le_of_ble_eq_true rfl) ⟨Nat.le_of_ble_eq_true rfl, Nat.le_of_ble_eq_true rfl⟩ ?_
  refine J_iconst (v := nI (1)) cx dX1_isPot_9 (by decide) ?_
  refine J_isub cx dX1_isPot_10 ?_
  refine J_callSN (n := 3) cx [.int p9, .int (nI (0)), .int ((nI (xs9.length)) - (nI (1)))] (t_X0_in l Ω p9 (nI (0)) ((nI (xs9.length)) - (nI (1)))) dX1_isPot_11 q366 q1614 q84 q365 ⟨by decide, by decide, by decide +kernel⟩ rfl rfl ⟨Nat.le_of_ble_eq_true rfl, Nat.le_of_ble_eq_true rfl⟩ rfl rfl (Nat.le_of_ble_eq_true rfl) ⟨Nat.le_of_ble_eq_true rfl, Nat.le_of_ble_eq_true rfl⟩ (jdet ?_)
  exact J_zret cx dX1_isPot_14 hr (by simp only [r_X3_in]; split <;> (try split) <;> rfl) ⟨rfl, rfl, rfl⟩ (Nat.le_of_ble_eq_true rfl) (Nat.le_of_ble_eq_true rfl)
theorem t_X1_restLeft (l : Launch) (Ω : jO) {G : Mem} {sz : Nat} (a : Nat) {se9 dr9 sk9 ps9 os9 rw9 sh9 : Nat} {ck9 wh9 ne9 la9 re9 ea9 : Int32} (ha : G a = some (.inr (1, [.ref se9, .ref dr9, .ref sk9, .ref ps9, .ref os9, .ref rw9, .ref sh9, .int ck9, .int wh9, .int ne9, .int la9, .int re9, .int ea9]))) : Met l yX1_restLeft (ws_ yX1_restLeft cX1_restLeft 1 (some .int)) ({ frames := 1, cells := 0, slots := 0, locals := 32 } : Room) (va_Pc [.ref a] (jWd Ω G sz)) (jQ Ω (jD (some (.int (if nI 0 < re9 - ck9 then re9 - ck9 else nI 0))) G sz)) 0 0 (jB Ω) := by
  refine jMet (by decide) (Nat.le_of_ble_eq_true rfl) ?_
  intro p e s m args below meth c cx hr hnm
  refine J_loc [some (.ref a)] rfl ?_
  refine J_iconst (v := nI (0)) cx dX1_restLeft_0 (by decide) ?_
  refine J_aload_n cx dX1_restLeft_1 rfl ?_
  refine J_get cx in_X1 (ci := 1) rfl 11 (by decide) q269 (fun _ h => h) dX1_restLeft_2 ha rfl ?_
  refine J_aload_n cx dX1_restLeft_5 rfl ?_
  refine J_get cx in_X1 (ci := 1) rfl 7 (by decide) q261 (fun _ h => h) dX1_restLeft_6 ha rfl ?_
  refine J_isub cx dX1_restLeft_9 ?_
  refine J_mmax cx dX1_restLeft_10 q1763 q532 q102 q533 (Nat.le_of_ble_eq_true rfl) (Nat.le_of_ble_eq_true rfl) (Nat.le_of_ble_eq_true rfl) (Nat.le_of_ble_eq_true rfl) ?_
  exact J_iret cx dX1_restLeft_13 hr ⟨rfl, rfl, rfl⟩ (Nat.le_of_ble_eq_true rfl) (Nat.le_of_ble_eq_true rfl)
def S_many (pf9 : Nat → PotR) (x9 : Int32) : Nat → Int32
  | 0 => nI (0)
  | k + 1 => S_many pf9 x9 k + r_bit (if (pf9 k).1 4 = x9 then nI (1) else nI (0))
set_option maxHeartbeats 1000000 in
theorem t_X1_many (l : Launch) (Ω : jO) {G : Mem} {sz : Nat} (a : Nat) {se9 dr9 sk9 ps9 os9 rw9 sh9 : Nat} {ck9 wh9 ne9 la9 re9 ea9 : Int32} (ha : G a = some (.inr (1, [.ref se9, .ref dr9, .ref sk9, .ref ps9, .ref os9, .ref rw9, .ref sh9, .int ck9, .int wh9, .int ne9, .int la9, .int re9, .int ea9]))) (x9 : Int32) {mcp9 : Int32} {xs9 : List Nat} {edp9 cpp9 : Nat} (hps : jAL Ω G ps9 mcp9 xs9 edp9 cpp9) {pf9 : Nat → PotR} (hpt : ∀ k y, xs9[k]? = some y → G y = some (potE (pf9 k))) (hn : xs9.length < 1000) : Met l yX1_many (ws_ yX1_many cX1_many 4 (some .int)) ({ frames := 4, cells := 0, slots := 0, locals := 80 } : Room) (va_Pc [.ref a, .int x9] (jWd Ω G sz)) (jQ Ω (jD (some (.int (S_many pf9 x9 xs9.length))) G sz)) 0 0 (jB Ω) := by
  refine jMet (by decide) (Nat.le_of_ble_eq_true rfl) ?_
  intro p e s m args below meth c cx hr hnm
  refine J_loc [some (.ref a), some (.int x9), none, none] rfl ?_
  refine J_iconst (v := nI (0)) cx dX1_many_0 (by decide) ?_
  refine J_istore_n2 cx dX1_many_1 (by decide) rfl ?_
  refine J_iconst (v := nI (0)) cx dX1_many_2 (by decide) ?_
  refine J_istore_n3 cx dX1_many_3 (by decide) rfl ?_
  have K4 : ∀ nk9 k9 : Nat, nk9 + k9 = xs9.length → J p l e ({ frames := 4, cells := 0, slots := 0, locals := 80 } : Room) s m args below meth c Ω 4 (MQ below (jQ Ω (jD (some (.int (S_many pf9 x9 xs9.length))) G sz)) args s 0 0 (jB Ω)) 0 0 (sz) G 4 [some (.ref a), some (.int x9), some (.int (S_many pf9 x9 k9)), some (.int (nI (k9)))] [] := by
    intro nk9
    induction nk9 with
    | zero =>
      intro k9 hk9
      refine J_iload_n cx dX1_many_4 rfl ?_
      refine J_aload_n cx dX1_many_5 rfl ?_
      refine J_get cx in_X1 (ci := 1) rfl 3 (by decide) q253 (fun _ h => h) dX1_many_6 ha rfl ?_
      refine J_al_size cx dX1_many_9 q410 hps ⟨Nat.le_of_ble_eq_true rfl, Nat.le_of_ble_eq_true rfl⟩ (Nat.le_of_ble_eq_true rfl) ⟨Nat.le_of_ble_eq_true rfl, Nat.le_of_ble_eq_true rfl⟩ ?_
      refine J_icmpN_ge (tgt := 50) cx dX1_many_12 (by decide) (by omega) (by omega) (fun c12 => ?_) (fun c12 => absurd c12 (by omega))
      refine J_iload_n cx dX1_many_50 rfl ?_
      exact J_iret cx dX1_many_51 hr ⟨by rw [show k9 = xs9.length by omega], rfl, rfl⟩ (Nat.le_of_ble_eq_true rfl) (Nat.le_of_ble_eq_true rfl)
    | succ nk9 ihk9 =>
      intro k9 hk9
      obtain ⟨y9, hy9⟩ : ∃ y9, xs9[k9]? = some y9 := ⟨_, List.getElem?_eq_getElem (by omega)⟩
      refine J_iload_n cx dX1_many_4 rfl ?_
      refine J_aload_n cx dX1_many_5 rfl ?_
      refine J_get cx in_X1 (ci := 1) rfl 3 (by decide) q253 (fun _ h => h) dX1_many_6 ha rfl ?_
      refine J_al_size cx dX1_many_9 q410 hps ⟨Nat.le_of_ble_eq_true rfl, Nat.le_of_ble_eq_true rfl⟩ (Nat.le_of_ble_eq_true rfl) ⟨Nat.le_of_ble_eq_true rfl, Nat.le_of_ble_eq_true rfl⟩ ?_
      refine J_icmpN_ge (tgt := 50) cx dX1_many_12 (by decide) (by omega) (by omega) (fun c12 => absurd c12 (by omega)) (fun c12 => ?_)
      refine J_iload_n cx dX1_many_15 rfl ?_
      refine J_aload_n cx dX1_many_16 rfl ?_
      refine J_get cx in_X1 (ci := 1) rfl 3 (by decide) q253 (fun _ h => h) dX1_many_17 ha rfl ?_
      refine J_iload_n cx dX1_many_20 rfl ?_
      refine J_al_get cx dX1_many_21 q413 hps hy9 ⟨Nat.le_of_ble_eq_true rfl, Nat.le_of_ble_eq_true rfl⟩ (Nat.le_of_ble_eq_true rfl) ⟨Nat.le_of_ble_eq_true rfl, Nat.le_of_ble_eq_true rfl⟩ ?_
      refine J_castS (q := (RX6, TX6, 12)) cx dX1_many_24 q411 (ci := 5) rfl (hpt k9 y9 hy9) ?_
      refine J_getN cx in_X6 (ci := 5) rfl 4 (by decide) q461 (fun _ h => h) dX1_many_27 (hpt k9 y9 hy9) rfl ?_
      refine J_iload_n cx dX1_many_30 rfl ?_
      have K39 : J p l e ({ frames := 4, cells := 0, slots := 0, locals := 80 } : Room) s m args below meth c Ω 4 (MQ below (jQ Ω (jD (some (.int (S_many pf9 x9 xs9.length))) G sz)) args s 0 0 (jB Ω)) 0 0 (sz) G 39 [some (.ref a), some (.int x9), some (.int (S_many pf9 x9 k9)), some (.int (nI (k9)))] [.int (if ((pf9 k9).1 4) = x9 then nI (1) else nI (0)), .int (S_many pf9 x9 k9)] := by
        refine J_callSN (n := 1) cx [.int (if ((pf9 k9).1 4) = x9 then nI (1) else nI (0))] (t_X0_bit l Ω (if ((pf9 k9).1 4) = x9 then nI (1) else nI (0))) dX1_many_39 q1332 q1654 q84 q1331 ⟨by decide, by decide, by decide +kernel⟩ rfl rfl ⟨Nat.le_of_ble_eq_true rfl, Nat.le_of_ble_eq_true rfl⟩ rfl rfl (Nat.le_of_ble_eq_true rfl) ⟨Nat.le_of_ble_eq_true rfl, Nat.le_of_ble_eq_true rfl⟩ (jdet ?_)
        refine J_iadd cx dX1_many_42 ?_
        refine J_istore_n2 cx dX1_many_43 (by decide) rfl ?_
        refine J_iinc3 (v := nI (k9 + 1)) cx dX1_many_44 (nI_1 k9) (by decide) rfl ?_
        refine J_goto (tgt := 4) cx dX1_many_47 (by decide) ?_
        refine J_sub (L1 := [some (.ref a), some (.int x9), some (.int (S_many pf9 x9 (k9 + 1))), some (.int (nI (k9 + 1)))]) (jsub_s (jsub_s (jsub_e (congrArg Value.int (by simp only [S_many])) (jsub_s jsub_0)))) ?_
        exact ihk9 (k9 + 1) (by omega)
      refine J_icmp_ne (tgt := 38) cx dX1_many_31 (by decide) (fun c31 => ?_) (fun c31 => ?_)
      · refine J_iconst (v := nI (0)) cx dX1_many_38 (by decide) ?_
        refine J_top (.int (if ((pf9 k9).1 4) = x9 then nI (1) else nI (0))) (congrArg Value.int (if_neg c31).symm) ?_
        exact K39
      · refine J_iconst (v := nI (1)) cx dX1_many_34 (by decide) ?_
        refine J_goto (tgt := 39) cx dX1_many_35 (by decide) ?_
        refine J_top (.int (if ((pf9 k9).1 4) = x9 then nI (1) else nI (0))) (congrArg Value.int (if_pos c31).symm) ?_
        exact K39
  refine J_sub (L1 := [some (.ref a), some (.int x9), some (.int (S_many pf9 x9 0)), some (.int (nI (0)))]) (jsub_s (jsub_s (jsub_e (congrArg Value.int rfl) (jsub_s jsub_0)))) ?_
  exact K4 (xs9.length) 0 (by omega)
abbrev ordE (f : Nat → Int32) : va_E := .inr (7, [.int (f 0), .int (f 1), .int (f 2), .int (f 3), .int (f 4), .int (f 5)])
def S_ordFor (of9 : Nat → Nat → Int32) (pw9 ck9 : Int32) (wx9 : Option (Int32 × Int32)) : Nat → Nat → Int32
  | 0, _ => -1
  | n + 1, k => if r_wants (of9 k 0) (of9 k 1) (of9 k 3) (of9 k 5) pw9 ck9 wx9 = 0 then S_ordFor of9 pw9 ck9 wx9 n (k + 1) else nI k
set_option maxHeartbeats 1000000 in
theorem t_X1_orderFor (l : Launch) (Ω : jO) {G : Mem} {sz : Nat} (a : Nat) {se9 dr9 sk9 ps9 os9 rw9 sh9 : Nat} {ck9 wh9 ne9 la9 re9 ea9 : Int32} (ha : G a = some (.inr (1, [.ref se9, .ref dr9, .ref sk9, .ref ps9, .ref os9, .ref rw9, .ref sh9, .int ck9, .int wh9, .int ne9, .int la9, .int re9, .int ea9]))) (q9 : Nat) {P9 : PotR} {wk9 : Int32} {wx9 : Option (Int32 × Int32)} (hp : G q9 = some (potE P9)) (hw : G (P9.2.2 0) = some (wE wk9 wx9)) {mcp9 : Int32} {xs9 : List Nat} {edp9 cpp9 : Nat} (hps : jAL Ω G os9 mcp9 xs9 edp9 cpp9) {of9 : Nat → Nat → Int32} (hot : ∀ k y, xs9[k]? = some y → G y = some (ordE (of9 k))) (hn : xs9.length < 1000) : Met l yX1_orderFor (ws_ yX1_orderFor cX1_orderFor 3 (some .int)) ({ frames := 4, cells := 0, slots := 0, locals := 80 } : Room) (va_Pc [.ref a, .ref q9] (jWd Ω G sz)) (jQ Ω (jD (some (.int (S_ordFor of9 (P9.1 2) ck9 wx9 xs9.length 0))) G sz)) 0 0 (jB Ω) := by
  refine jMet (by decide) (Nat.le_of_ble_eq_true rfl) ?_
  intro p e s m args below meth c cx hr hnm
  refine J_loc [some (.ref a), some (.ref q9), none] rfl ?_
  refine J_iconst (v := nI (0)) cx dX1_orderFor_0 (by decide) ?_
  refine J_istore_n2 cx dX1_orderFor_1 (by decide) rfl ?_
  have K2 : ∀ nk9 k9 : Nat, nk9 + k9 = xs9.length → S_ordFor of9 (P9.1 2) ck9 wx9 xs9.length 0 = S_ordFor of9 (P9.1 2) ck9 wx9 nk9 k9 → J p l e ({ frames := 4, cells := 0, slots := 0, locals := 80 } : Room) s m args below meth c Ω 3 (MQ below (jQ Ω (jD (some (.int (S_ordFor of9 (P9.1 2) ck9 wx9 xs9.length 0))) G sz)) args s 0 0 (jB Ω)) 0 0 (sz) G 2 [some (.ref a), some (.ref q9), some (.int (nI (k9)))] [] := by
    intro nk9
    induction nk9 with
    | zero =>
      intro k9 hk9 hinv
      refine J_iload_n cx dX1_orderFor_2 rfl ?_
      refine J_aload_n cx dX1_orderFor_3 rfl ?_
      refine J_get cx in_X1 (ci := 1) rfl 4 (by decide) q255 (fun _ h => h) dX1_orderFor_4 ha rfl ?_
      refine J_al_size cx dX1_orderFor_7 q410 hps ⟨Nat.le_of_ble_eq_true rfl, Nat.le_of_ble_eq_true rfl⟩ (Nat.le_of_ble_eq_true rfl) ⟨Nat.le_of_ble_eq_true rfl, Nat.le_of_ble_eq_true rfl⟩ ?_
      refine J_icmpN_ge (tgt := 43) cx dX1_orderFor_10 (by decide) (by omega) (by omega) (fun c10 => ?_) (fun c10 => absurd c10 (by omega))
      refine J_iconst (v := -1) cx dX1_orderFor_43 (by decide) ?_
      exact J_iret cx dX1_orderFor_44 hr ⟨congrArg (fun z => some (Value.int z)) (Eq.symm (hinv.trans (by simp only [S_ordFor, if_neg (Nat.not_lt.mpr c10)] <;> rfl))), rfl, rfl⟩ (Nat.le_of_ble_eq_true rfl) (Nat.le_of_ble_eq_true rfl)
    | succ nk9 ihk9 =>
      intro k9 hk9 hinv
      obtain ⟨y9, hy9⟩ : ∃ y9, xs9[k9]? = some y9 := ⟨_, List.getElem?_eq_getElem (by omega)⟩
      refine J_iload_n cx dX1_orderFor_2 rfl ?_
      refine J_aload_n cx dX1_orderFor_3 rfl ?_
      refine J_get cx in_X1 (ci := 1) rfl 4 (by decide) q255 (fun _ h => h) dX1_orderFor_4 ha rfl ?_
      refine J_al_size cx dX1_orderFor_7 q410 hps ⟨Nat.le_of_ble_eq_true rfl, Nat.le_of_ble_eq_true rfl⟩ (Nat.le_of_ble_eq_true rfl) ⟨Nat.le_of_ble_eq_true rfl, Nat.le_of_ble_eq_true rfl⟩ ?_
      refine J_icmpN_ge (tgt := 43) cx dX1_orderFor_10 (by decide) (by omega) (by omega) (fun c10 => absurd c10 (by omega)) (fun c10 => ?_)
      refine J_aload_n cx dX1_orderFor_13 rfl ?_
      refine J_get cx in_X1 (ci := 1) rfl 4 (by decide) q255 (fun _ h => h) dX1_orderFor_14 ha rfl ?_
      refine J_iload_n cx dX1_orderFor_17 rfl ?_
      refine J_al_get cx dX1_orderFor_18 q413 hps hy9 ⟨Nat.le_of_ble_eq_true rfl, Nat.le_of_ble_eq_true rfl⟩ (Nat.le_of_ble_eq_true rfl) ⟨Nat.le_of_ble_eq_true rfl, Nat.le_of_ble_eq_true rfl⟩ ?_
      refine J_castS (q := (RX9, TX9, 6)) cx dX1_orderFor_21 q609 (ci := 7) rfl (hot k9 y9 hy9) ?_
      refine J_aload_n cx dX1_orderFor_24 rfl ?_
      refine J_aload_n cx dX1_orderFor_25 rfl ?_
      refine J_get cx in_X1 (ci := 1) rfl 7 (by decide) q261 (fun _ h => h) dX1_orderFor_26 ha rfl ?_
      refine J_callV (n := 2) cx (ci := 7) [.ref q9, .int ck9] (t_X9_wants l Ω y9 q9 ck9 (hot k9 y9 hy9) hp hw) dX1_orderFor_29 (lw_V q1871 q1872 q1873 q105 q1874) ⟨rfl, by decide, by decide, by decide +kernel⟩ rfl (hot k9 y9 hy9) rfl rfl ⟨Nat.le_of_ble_eq_true rfl, Nat.le_of_ble_eq_true rfl⟩ rfl rfl (Nat.le_of_ble_eq_true rfl) ⟨Nat.le_of_ble_eq_true rfl, Nat.le_of_ble_eq_true rfl⟩ (jdet ?_)
      refine J_if_eq (tgt := 37) cx dX1_orderFor_32 (by decide) (fun c32 => ?_) (fun c32 => ?_)
      · refine J_iinc2 (v := nI (k9 + 1)) cx dX1_orderFor_37 (nI_1 k9) (by decide) rfl ?_
        refine J_goto (tgt := 2) cx dX1_orderFor_40 (by decide) ?_
        refine J_sub (L1 := [some (.ref a), some (.ref q9), some (.int (nI (k9 + 1)))]) (jsub_s (jsub_s (jsub_s jsub_0))) ?_
        exact ihk9 (k9 + 1) (by omega) (hinv.trans (by simp only [S_ordFor, if_pos c10, if_pos c32]))
      · refine J_iload_n cx dX1_orderFor_35 rfl ?_
        exact J_iret cx dX1_orderFor_36 hr ⟨congrArg (fun z => some (Value.int z)) (Eq.symm (hinv.trans (by simp only [S_ordFor, if_pos c10, if_neg c32] <;> rfl))), rfl, rfl⟩ (Nat.le_of_ble_eq_true rfl) (Nat.le_of_ble_eq_true rfl)
  refine J_sub (L1 := [some (.ref a), some (.ref q9), some (.int (nI (0)))]) (jsub_s (jsub_s (jsub_s jsub_0))) ?_
  exact K2 (xs9.length) 0 (by omega) rfl
