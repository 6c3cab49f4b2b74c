/-! THE TWIN, methods with loops of a plain count (gen/mk_t2.py) -/
set_option maxRecDepth 100000
def S_onShelf (g : Nat → Int32) : Nat → Int32
  | 0 => (nI (0))
  | k1 + 1 => (if (g (41 + k1)) = (-1) then ((S_onShelf g k1) + (nI (0))) else ((S_onShelf g k1) + (nI (1))))
theorem hd_X3_onShelf : yX3_onShelf.cls = RX3 ∧ yX3_onShelf.cls ≠ "java/lang/invoke/MethodHandle" ∧ yX3_onShelf.cls ≠ "java/lang/invoke/VarHandle" ∧ (parseMethodDescriptor yX3_onShelf.desc).map (fun d => d.parameters.length) = some 0 := by decide +kernel
set_option maxHeartbeats 4000000 in
theorem t_X3_onShelf (l : Launch) (Ω : jO) {t : Nat} {G0 : Mem} {g hi sv as_ inp why now told bef : Nat → Int32} {ch hs fed fa ws ns ct st_ pl iw sn : Int32} {sz : Nat} (ht : Ω.2.2.2 ≤ t)   : Met l yX3_onShelf (ws_ yX3_onShelf cX3_onShelf 3 (some .int)) ({ frames := 1, cells := 0, slots := 0, locals := 12 }) (va_Pc [.ref t] (jWd Ω (tov Ω t G0 g hi sv as_ inp why now told bef ch hs fed fa ws ns ct st_ pl iw sn) sz)) (jQ Ω (jD (some (.int (S_onShelf g 8))) (tov Ω t G0 g hi sv as_ inp why now told bef ch hs fed fa ws ns ct st_ pl iw sn) sz)) 0 0 (jB Ω) := by
  refine jMet (by decide) (Nat.le_of_ble_eq_true rfl) ?_
  intro p e s m args below meth c cx hr hnm
  refine J_loc [some (.ref t), none, none] rfl ?_
  refine J_iconst (v := nI (0)) cx dX3_onShelf_0 (by decide) ?_
  refine J_istore_n1 cx dX3_onShelf_1 (by decide) rfl ?_
  refine J_iconst (v := nI (0)) cx dX3_onShelf_2 (by decide) ?_
  refine J_istore_n2 cx dX3_onShelf_3 (by decide) rfl ?_
  have loop4 : ∀ (n k1 : Nat), 8 + 1 ≤ n + k1 → k1 ≤ 8 → J p l e ({ frames := 1, cells := 0, slots := 0, locals := 12 } : Room) s m args below meth c Ω 3 (MQ below (jQ Ω (jD (some (.int (S_onShelf g 8))) (tov Ω t G0 g hi sv as_ inp why now told bef ch hs fed fa ws ns ct st_ pl iw sn) sz)) args s 0 0 (jB Ω)) 0 0 sz (tov Ω t G0 g hi sv as_ inp why now told bef ch hs fed fa ws ns ct st_ pl iw sn) 4 [some (.ref t), some (.int (S_onShelf g k1)), some (.int (nI (k1)))] [] := by
    intro n
    induction n with
    | zero => intro k1 hn1 hk1 ; exact absurd hn1 (by omega)
    | succ n ih =>
      intro k1 hn1 hk1 
      refine J_iload_n cx dX3_onShelf_4 rfl ?_
      refine J_bipush (v := nI (8)) cx dX3_onShelf_5 (by decide) ?_
      refine J_icmpN_ge (tgt := 37) cx dX3_onShelf_7 (by decide) (by omega) (by omega) (fun c7 => ?_) (fun c7 => ?_)
      · have hkx : 8 = k1 := Eq.symm (by omega)
        subst hkx
        refine J_iload_n cx dX3_onShelf_37 rfl ?_
        exact J_iret cx dX3_onShelf_38 hr ⟨congrArg some (congrArg Value.int rfl), rfl, rfl⟩ (Nat.le_refl 0) (Nat.le_refl 0)
      · refine J_iload_n cx dX3_onShelf_10 rfl ?_
        refine J_aload_n cx dX3_onShelf_11 rfl ?_
        refine T_get_g cx dX3_onShelf_12 ?_
        refine J_bipush (v := nI (41)) cx dX3_onShelf_15 (by decide) ?_
        refine J_iload_n cx dX3_onShelf_17 rfl ?_
        refine J_iaddN cx dX3_onShelf_18 ?_
        refine T_ld_g cx dX3_onShelf_19 (by omega) ?_
        refine J_iconst (v := -1) cx dX3_onShelf_20 (by decide) ?_
        refine J_icmp_ne (tgt := 28) cx dX3_onShelf_21 (by decide) (fun c21 => ?_) (fun c21 => ?_)
        · refine J_iconst (v := nI (1)) cx dX3_onShelf_28 (by decide) ?_
          refine J_iadd cx dX3_onShelf_29 ?_
          refine J_istore_n1 cx dX3_onShelf_30 (by decide) rfl ?_
          refine J_iinc2 (v := nI (k1 + 1)) cx dX3_onShelf_31 (nI_1 k1) (by decide) rfl ?_
          refine J_goto (tgt := 4) cx dX3_onShelf_34 (by decide) ?_
          refine J_sub (L1 := [some (.ref t), some (.int (S_onShelf g (k1 + 1))), some (.int (nI (k1 + 1)))]) (jsub_s (jsub_e (congrArg Value.int (by simp only [S_onShelf, if_pos c7, if_neg c21])) (jsub_s jsub_0))) ?_
          exact ih (k1 + 1) (by omega) (by omega) 
        · refine J_iconst (v := nI (0)) cx dX3_onShelf_24 (by decide) ?_
          refine J_goto (tgt := 29) cx dX3_onShelf_25 (by decide) ?_
          refine J_iadd cx dX3_onShelf_29 ?_
          refine J_istore_n1 cx dX3_onShelf_30 (by decide) rfl ?_
          refine J_iinc2 (v := nI (k1 + 1)) cx dX3_onShelf_31 (nI_1 k1) (by decide) rfl ?_
          refine J_goto (tgt := 4) cx dX3_onShelf_34 (by decide) ?_
          refine J_sub (L1 := [some (.ref t), some (.int (S_onShelf g (k1 + 1))), some (.int (nI (k1 + 1)))]) (jsub_s (jsub_e (congrArg Value.int (by simp only [S_onShelf, if_pos c7, if_pos c21])) (jsub_s jsub_0))) ?_
          exact ih (k1 + 1) (by omega) (by omega) 
  refine J_sub (L1 := [some (.ref t), some (.int (S_onShelf g 0)), some (.int (nI (0)))]) (jsub_s (jsub_e (congrArg Value.int rfl) (jsub_s jsub_0))) ?_
  exact loop4 (8 + 1) 0 (by omega) (by omega) 
def S_refused (why : Nat → Int32) (now : Nat → Int32) : Nat → (Nat → Int32)
  | 0 => why
  | k1 + 1 => (upd (S_refused why now k1) (k1) (now (k1)))
theorem hd_X3_refused : yX3_refused.cls = RX3 ∧ yX3_refused.cls ≠ "java/lang/invoke/MethodHandle" ∧ yX3_refused.cls ≠ "java/lang/invoke/VarHandle" ∧ (parseMethodDescriptor yX3_refused.desc).map (fun d => d.parameters.length) = some 0 := by decide +kernel
set_option maxHeartbeats 4000000 in
theorem t_X3_refused (l : Launch) (Ω : jO) {t : Nat} {G0 : Mem} {g hi sv as_ inp why now told bef : Nat → Int32} {ch hs fed fa ws ns ct st_ pl iw sn : Int32} {sz : Nat} (ht : Ω.2.2.2 ≤ t)  (hns : ns = nI (tn ns)) (hns2 : tn ns ≤ 2) : Met l yX3_refused (ws_ yX3_refused cX3_refused 2 (some .int)) ({ frames := 1, cells := 0, slots := 0, locals := 12 }) (va_Pc [.ref t] (jWd Ω (tov Ω t G0 g hi sv as_ inp why now told bef ch hs fed fa ws ns ct st_ pl iw sn) sz)) (jQ Ω (jD (some (.int (-5))) (tov Ω t G0 g hi sv as_ inp (S_refused why now (2 * tn ns)) now told bef ch hs fed fa (nI (tn ns)) ns ct st_ pl iw sn) sz)) 0 0 (jB Ω) := by
  refine jMet (by decide) (Nat.le_of_ble_eq_true rfl) ?_
  intro p e s m args below meth c cx hr hnm
  refine J_loc [some (.ref t), none] rfl ?_
  refine J_aload_n cx dX3_refused_0 rfl ?_
  refine J_aload_n cx dX3_refused_1 rfl ?_
  refine T_get_ns cx dX3_refused_2 ?_
  refine J_top (.int (nI (tn ns))) (congrArg Value.int (hns)) ?_
  refine T_put_ws cx ht dX3_refused_5 ?_
  refine J_iconst (v := nI (0)) cx dX3_refused_8 (by decide) ?_
  refine J_istore_n1 cx dX3_refused_9 (by decide) rfl ?_
  have loop10 : ∀ (n k1 : Nat), (2 * tn ns) + 1 ≤ n + k1 → k1 ≤ (2 * tn ns) → J p l e ({ frames := 1, cells := 0, slots := 0, locals := 12 } : Room) s m args below meth c Ω 2 (MQ below (jQ Ω (jD (some (.int (-5))) (tov Ω t G0 g hi sv as_ inp (S_refused why now (2 * tn ns)) now told bef ch hs fed fa (nI (tn ns)) ns ct st_ pl iw sn) sz)) args s 0 0 (jB Ω)) 0 0 sz (tov Ω t G0 g hi sv as_ inp (S_refused why now k1) now told bef ch hs fed fa (nI (tn ns)) ns ct st_ pl iw sn) 10 [some (.ref t), some (.int (nI (k1)))] [] := by
    intro n
    induction n with
    | zero => intro k1 hn1 hk1 ; exact absurd hn1 (by omega)
    | succ n ih =>
      intro k1 hn1 hk1 
      refine J_iload_n cx dX3_refused_10 rfl ?_
      refine J_iconst (v := nI (2)) cx dX3_refused_11 (by decide) ?_
      refine J_aload_n cx dX3_refused_12 rfl ?_
      refine T_get_ns cx dX3_refused_13 ?_
      refine J_top (.int (nI (tn ns))) (congrArg Value.int (hns)) ?_
      refine J_imulN cx dX3_refused_16 ?_
      refine J_icmpN_ge (tgt := 38) cx dX3_refused_17 (by decide) (by omega) (by omega) (fun c17 => ?_) (fun c17 => ?_)
      · have hkx : 2 * tn ns = k1 := Eq.symm (by omega)
        subst hkx
        refine J_bipush (v := -5) cx dX3_refused_38 (by decide) ?_
        exact J_iret cx dX3_refused_40 hr ⟨congrArg some (congrArg Value.int rfl), rfl, rfl⟩ (Nat.le_refl 0) (Nat.le_refl 0)
      · refine J_aload_n cx dX3_refused_20 rfl ?_
        refine T_get_why cx dX3_refused_21 ?_
        refine J_iload_n cx dX3_refused_24 rfl ?_
        refine J_aload_n cx dX3_refused_25 rfl ?_
        refine T_get_now cx dX3_refused_26 ?_
        refine J_iload_n cx dX3_refused_29 rfl ?_
        refine T_ld_now cx dX3_refused_30 (by omega) ?_
        refine T_st_why cx ht dX3_refused_31 (by omega) ?_
        refine J_iinc1 (v := nI (k1 + 1)) cx dX3_refused_32 (nI_1 k1) (by decide) rfl ?_
        refine J_goto (tgt := 10) cx dX3_refused_35 (by decide) ?_
        refine J_mem (tov Ω t G0 g hi sv as_ inp (S_refused why now (k1 + 1)) now told bef ch hs fed fa (nI (tn ns)) ns ct st_ pl iw sn) (tov_cg rfl rfl rfl rfl rfl (by simp only [S_refused, if_pos c17]) rfl rfl rfl rfl rfl rfl rfl rfl rfl rfl rfl rfl rfl rfl) ?_
        refine J_sub (L1 := [some (.ref t), some (.int (nI (k1 + 1)))]) (jsub_s (jsub_s jsub_0)) ?_
        exact ih (k1 + 1) (by omega) (by omega) 
  refine J_sub (L1 := [some (.ref t), some (.int (nI (0)))]) (jsub_s (jsub_s jsub_0)) ?_
  exact loop10 (2 * tn ns + 1) 0 (by omega) (by omega) 
def S_refusedAt (why : Nat → Int32) (now : Nat → Int32) (n9 : Int32) : Nat → (Nat → Int32)
  | 0 => (upd (upd why (0) (nI (18))) (1) (n9))
  | k1 + 1 => (upd (S_refusedAt why now n9 k1) (2 + k1) (now (k1)))
theorem hd_X3_refusedAt : yX3_refusedAt.cls = RX3 ∧ yX3_refusedAt.cls ≠ "java/lang/invoke/MethodHandle" ∧ yX3_refusedAt.cls ≠ "java/lang/invoke/VarHandle" ∧ (parseMethodDescriptor yX3_refusedAt.desc).map (fun d => d.parameters.length) = some 1 := by decide +kernel
set_option maxHeartbeats 4000000 in
theorem t_X3_refusedAt (l : Launch) (Ω : jO) {t : Nat} {G0 : Mem} {g hi sv as_ inp why now told bef : Nat → Int32} {ch hs fed fa ws ns ct st_ pl iw sn : Int32} {sz : Nat} (ht : Ω.2.2.2 ≤ t) (n9 : Int32) (hns : ns = nI (tn ns)) (hns2 : tn ns ≤ 2) : Met l yX3_refusedAt (ws_ yX3_refusedAt cX3_refusedAt 3 (some .int)) ({ frames := 1, cells := 0, slots := 0, locals := 12 }) (va_Pc [.ref t, .int (n9)] (jWd Ω (tov Ω t G0 g hi sv as_ inp why now told bef ch hs fed fa ws ns ct st_ pl iw sn) sz)) (jQ Ω (jD (some (.int (-5))) (tov Ω t G0 g hi sv as_ inp (S_refusedAt why now n9 (2 * tn ns)) now told bef ch hs fed fa (nI (1 + tn ns)) ns ct st_ pl iw sn) sz)) 0 0 (jB Ω) := by
  refine jMet (by decide) (Nat.le_of_ble_eq_true rfl) ?_
  intro p e s m args below meth c cx hr hnm
  refine J_loc [some (.ref t), some (.int (n9)), none] rfl ?_
  refine J_aload_n cx dX3_refusedAt_0 rfl ?_
  refine T_get_why cx dX3_refusedAt_1 ?_
  refine J_iconst (v := nI (0)) cx dX3_refusedAt_4 (by decide) ?_
  refine J_bipush (v := nI (18)) cx dX3_refusedAt_5 (by decide) ?_
  refine T_st_why cx ht dX3_refusedAt_7 (by omega) ?_
  refine J_aload_n cx dX3_refusedAt_8 rfl ?_
  refine T_get_why cx dX3_refusedAt_9 ?_
  refine J_iconst (v := nI (1)) cx dX3_refusedAt_12 (by decide) ?_
  refine J_iload_n cx dX3_refusedAt_13 rfl ?_
  refine T_st_why cx ht dX3_refusedAt_14 (by omega) ?_
  refine J_aload_n cx dX3_refusedAt_15 rfl ?_
  refine J_iconst (v := nI (1)) cx dX3_refusedAt_16 (by decide) ?_
  refine J_aload_n cx dX3_refusedAt_17 rfl ?_
  refine T_get_ns cx dX3_refusedAt_18 ?_
  refine J_top (.int (nI (tn ns))) (congrArg Value.int (hns)) ?_
  refine J_iaddN cx dX3_refusedAt_21 ?_
  refine T_put_ws cx ht dX3_refusedAt_22 ?_
  refine J_iconst (v := nI (0)) cx dX3_refusedAt_25 (by decide) ?_
  refine J_istore_n2 cx dX3_refusedAt_26 (by decide) rfl ?_
  have loop27 : ∀ (n k1 : Nat), (2 * tn ns) + 1 ≤ n + k1 → k1 ≤ (2 * tn ns) → J p l e ({ frames := 1, cells := 0, slots := 0, locals := 12 } : Room) s m args below meth c Ω 3 (MQ below (jQ Ω (jD (some (.int (-5))) (tov Ω t G0 g hi sv as_ inp (S_refusedAt why now n9 (2 * tn ns)) now told bef ch hs fed fa (nI (1 + tn ns)) ns ct st_ pl iw sn) sz)) args s 0 0 (jB Ω)) 0 0 sz (tov Ω t G0 g hi sv as_ inp (S_refusedAt why now n9 k1) now told bef ch hs fed fa (nI (1 + (tn ns))) ns ct st_ pl iw sn) 27 [some (.ref t), some (.int (n9)), some (.int (nI (k1)))] [] := by
    intro n
    induction n with
    | zero => intro k1 hn1 hk1 ; exact absurd hn1 (by omega)
    | succ n ih =>
      intro k1 hn1 hk1 
      refine J_iload_n cx dX3_refusedAt_27 rfl ?_
      refine J_iconst (v := nI (2)) cx dX3_refusedAt_28 (by decide) ?_
      refine J_aload_n cx dX3_refusedAt_29 rfl ?_
      refine T_get_ns cx dX3_refusedAt_30 ?_
      refine J_top (.int (nI (tn ns))) (congrArg Value.int (hns)) ?_
      refine J_imulN cx dX3_refusedAt_33 ?_
      refine J_icmpN_ge (tgt := 57) cx dX3_refusedAt_34 (by decide) (by omega) (by omega) (fun c34 => ?_) (fun c34 => ?_)
      · have hkx : 2 * tn ns = k1 := Eq.symm (by omega)
        subst hkx
        refine J_bipush (v := -5) cx dX3_refusedAt_57 (by decide) ?_
        exact J_iret cx dX3_refusedAt_59 hr ⟨congrArg some (congrArg Value.int rfl), (tov_cg rfl rfl rfl rfl rfl rfl rfl rfl rfl rfl rfl rfl rfl (by simp only [if_neg (Nat.not_lt.mpr c34)]) rfl rfl rfl rfl rfl rfl), rfl⟩ (Nat.le_refl 0) (Nat.le_refl 0)
      · refine J_aload_n cx dX3_refusedAt_37 rfl ?_
        refine T_get_why cx dX3_refusedAt_38 ?_
        refine J_iconst (v := nI (2)) cx dX3_refusedAt_41 (by decide) ?_
        refine J_iload_n cx dX3_refusedAt_42 rfl ?_
        refine J_iaddN cx dX3_refusedAt_43 ?_
        refine J_aload_n cx dX3_refusedAt_44 rfl ?_
        refine T_get_now cx dX3_refusedAt_45 ?_
        refine J_iload_n cx dX3_refusedAt_48 rfl ?_
        refine T_ld_now cx dX3_refusedAt_49 (by omega) ?_
        refine T_st_why cx ht dX3_refusedAt_50 (by omega) ?_
        refine J_iinc2 (v := nI (k1 + 1)) cx dX3_refusedAt_51 (nI_1 k1) (by decide) rfl ?_
        refine J_goto (tgt := 27) cx dX3_refusedAt_54 (by decide) ?_
        refine J_mem (tov Ω t G0 g hi sv as_ inp (S_refusedAt why now n9 (k1 + 1)) now told bef ch hs fed fa (nI (1 + (tn ns))) ns ct st_ pl iw sn) (tov_cg rfl rfl rfl rfl rfl (by simp only [S_refusedAt, if_pos c34]) rfl rfl rfl rfl rfl rfl rfl rfl rfl rfl rfl rfl rfl rfl) ?_
        refine J_sub (L1 := [some (.ref t), some (.int (n9)), some (.int (nI (k1 + 1)))]) (jsub_s (jsub_s (jsub_s jsub_0))) ?_
        exact ih (k1 + 1) (by omega) (by omega) 
  refine J_sub (L1 := [some (.ref t), some (.int (n9)), some (.int (nI (0)))]) (jsub_s (jsub_s (jsub_s jsub_0))) ?_
  exact loop27 (2 * tn ns + 1) 0 (by omega) (by omega) 
def S_ones (x9 : Int32) : Nat → Int32
  | 0 => (nI (0))
  | k1 + 1 => ((S_ones x9 k1) + ((x9 >>> ((nI (k1)) &&& 31)) &&& (nI (1))))
theorem hd_X3_ones : yX3_ones.cls = RX3 ∧ yX3_ones.cls ≠ "java/lang/invoke/MethodHandle" ∧ yX3_ones.cls ≠ "java/lang/invoke/VarHandle" ∧ (parseMethodDescriptor yX3_ones.desc).map (fun d => d.parameters.length) = some 1 := by decide +kernel
set_option maxHeartbeats 4000000 in
theorem t_X3_ones (l : Launch) (Ω : jO) {G : Mem} {sz : Nat} (x9 : Int32)  : Met l yX3_ones (ws_ yX3_ones cX3_ones 3 (some .int)) ({ frames := 1, cells := 0, slots := 0, locals := 12 }) (va_Pc [.int (x9)] (jWd Ω (G) sz)) (jQ Ω (jD (some (.int (S_ones x9 16))) (G) sz)) 0 0 (jB Ω) := by
  refine jMet (by decide) (Nat.le_of_ble_eq_true rfl) ?_
  intro p e s m args below meth c cx hr hnm
  refine J_loc [some (.int (x9)), none, none] rfl ?_
  refine J_iconst (v := nI (0)) cx dX3_ones_0 (by decide) ?_
  refine J_istore_n1 cx dX3_ones_1 (by decide) rfl ?_
  refine J_iconst (v := nI (0)) cx dX3_ones_2 (by decide) ?_
  refine J_istore_n2 cx dX3_ones_3 (by decide) rfl ?_
  have loop4 : ∀ (n k1 : Nat), 16 + 1 ≤ n + k1 → k1 ≤ 16 → J p l e ({ frames := 1, cells := 0, slots := 0, locals := 12 } : Room) s m args below meth c Ω 3 (MQ below (jQ Ω (jD (some (.int (S_ones x9 16))) (G) sz)) args s 0 0 (jB Ω)) 0 0 sz (G) 4 [some (.int (x9)), some (.int (S_ones x9 k1)), some (.int (nI (k1)))] [] := by
    intro n
    induction n with
    | zero => intro k1 hn1 hk1 ; exact absurd hn1 (by omega)
    | succ n ih =>
      intro k1 hn1 hk1 
      refine J_iload_n cx dX3_ones_4 rfl ?_
      refine J_bipush (v := nI (16)) cx dX3_ones_5 (by decide) ?_
      refine J_icmpN_ge (tgt := 24) cx dX3_ones_7 (by decide) (by omega) (by omega) (fun c7 => ?_) (fun c7 => ?_)
      · have hkx : 16 = k1 := Eq.symm (by omega)
        subst hkx
        refine J_iload_n cx dX3_ones_24 rfl ?_
        exact J_iret cx dX3_ones_25 hr ⟨congrArg some (congrArg Value.int rfl), rfl, rfl⟩ (Nat.le_refl 0) (Nat.le_refl 0)
      · refine J_iload_n cx dX3_ones_10 rfl ?_
        refine J_iload_n cx dX3_ones_11 rfl ?_
        refine J_iload_n cx dX3_ones_12 rfl ?_
        refine J_ishr cx dX3_ones_13 ?_
        refine J_iconst (v := nI (1)) cx dX3_ones_14 (by decide) ?_
        refine J_iand cx dX3_ones_15 ?_
        refine J_iadd cx dX3_ones_16 ?_
        refine J_istore_n1 cx dX3_ones_17 (by decide) rfl ?_
        refine J_iinc2 (v := nI (k1 + 1)) cx dX3_ones_18 (nI_1 k1) (by decide) rfl ?_
        refine J_goto (tgt := 4) cx dX3_ones_21 (by decide) ?_
        refine J_sub (L1 := [some (.int (x9)), some (.int (S_ones x9 (k1 + 1))), some (.int (nI (k1 + 1)))]) (jsub_s (jsub_e (congrArg Value.int (by simp only [S_ones, if_pos c7])) (jsub_s jsub_0))) ?_
        exact ih (k1 + 1) (by omega) (by omega) 
  refine J_sub (L1 := [some (.int (x9)), some (.int (S_ones x9 0)), some (.int (nI (0)))]) (jsub_s (jsub_e (congrArg Value.int rfl) (jsub_s jsub_0))) ?_
  exact loop4 (16 + 1) 0 (by omega) (by omega) 
def S_shelfSet (g : Nat → Int32) : Nat → Int32
  | 0 => (nI (0))
  | k1 + 1 => (if (g (41 + k1)) = (-1) then ((S_shelfSet g k1) ||| (nI (0))) else ((S_shelfSet g k1) ||| ((nI (1)) <<< ((g (41 + k1)) &&& 31))))
theorem hd_X3_shelfSet : yX3_shelfSet.cls = RX3 ∧ yX3_shelfSet.cls ≠ "java/lang/invoke/MethodHandle" ∧ yX3_shelfSet.cls ≠ "java/lang/invoke/VarHandle" ∧ (parseMethodDescriptor yX3_shelfSet.desc).map (fun d => d.parameters.length) = some 0 := by decide +kernel
set_option maxHeartbeats 4000000 in
theorem t_X3_shelfSet (l : Launch) (Ω : jO) {t : Nat} {G0 : Mem} {g hi sv as_ inp why now told bef : Nat → Int32} {ch hs fed fa ws ns ct st_ pl iw sn : Int32} {sz : Nat} (ht : Ω.2.2.2 ≤ t)   : Met l yX3_shelfSet (ws_ yX3_shelfSet cX3_shelfSet 3 (some .int)) ({ frames := 1, cells := 0, slots := 0, locals := 12 }) (va_Pc [.ref t] (jWd Ω (tov Ω t G0 g hi sv as_ inp why now told bef ch hs fed fa ws ns ct st_ pl iw sn) sz)) (jQ Ω (jD (some (.int (S_shelfSet g 8))) (tov Ω t G0 g hi sv as_ inp why now told bef ch hs fed fa ws ns ct st_ pl iw sn) sz)) 0 0 (jB Ω) := by
  refine jMet (by decide) (Nat.le_of_ble_eq_true rfl) ?_
  intro p e s m args below meth c cx hr hnm
  refine J_loc [some (.ref t), none, none] rfl ?_
  refine J_iconst (v := nI (0)) cx dX3_shelfSet_0 (by decide) ?_
  refine J_istore_n1 cx dX3_shelfSet_1 (by decide) rfl ?_
  refine J_iconst (v := nI (0)) cx dX3_shelfSet_2 (by decide) ?_
  refine J_istore_n2 cx dX3_shelfSet_3 (by decide) rfl ?_
  have loop4 : ∀ (n k1 : Nat), 8 + 1 ≤ n + k1 → k1 ≤ 8 → J p l e ({ frames := 1, cells := 0, slots := 0, locals := 12 } : Room) s m args below meth c Ω 3 (MQ below (jQ Ω (jD (some (.int (S_shelfSet g 8))) (tov Ω t G0 g hi sv as_ inp why now told bef ch hs fed fa ws ns ct st_ pl iw sn) sz)) args s 0 0 (jB Ω)) 0 0 sz (tov Ω t G0 g hi sv as_ inp why now told bef ch hs fed fa ws ns ct st_ pl iw sn) 4 [some (.ref t), some (.int (S_shelfSet g k1)), some (.int (nI (k1)))] [] := by
    intro n
    induction n with
    | zero => intro k1 hn1 hk1 ; exact absurd hn1 (by omega)
    | succ n ih =>
      intro k1 hn1 hk1 
      refine J_iload_n cx dX3_shelfSet_4 rfl ?_
      refine J_bipush (v := nI (8)) cx dX3_shelfSet_5 (by decide) ?_
      refine J_icmpN_ge (tgt := 47) cx dX3_shelfSet_7 (by decide) (by omega) (by omega) (fun c7 => ?_) (fun c7 => ?_)
      · have hkx : 8 = k1 := Eq.symm (by omega)
        subst hkx
        refine J_iload_n cx dX3_shelfSet_47 rfl ?_
        exact J_iret cx dX3_shelfSet_48 hr ⟨congrArg some (congrArg Value.int rfl), rfl, rfl⟩ (Nat.le_refl 0) (Nat.le_refl 0)
      · refine J_iload_n cx dX3_shelfSet_10 rfl ?_
        refine J_aload_n cx dX3_shelfSet_11 rfl ?_
        refine T_get_g cx dX3_shelfSet_12 ?_
        refine J_bipush (v := nI (41)) cx dX3_shelfSet_15 (by decide) ?_
        refine J_iload_n cx dX3_shelfSet_17 rfl ?_
        refine J_iaddN cx dX3_shelfSet_18 ?_
        refine T_ld_g cx dX3_shelfSet_19 (by omega) ?_
        refine J_iconst (v := -1) cx dX3_shelfSet_20 (by decide) ?_
        refine J_icmp_ne (tgt := 28) cx dX3_shelfSet_21 (by decide) (fun c21 => ?_) (fun c21 => ?_)
        · refine J_iconst (v := nI (1)) cx dX3_shelfSet_28 (by decide) ?_
          refine J_aload_n cx dX3_shelfSet_29 rfl ?_
          refine T_get_g cx dX3_shelfSet_30 ?_
          refine J_bipush (v := nI (41)) cx dX3_shelfSet_33 (by decide) ?_
          refine J_iload_n cx dX3_shelfSet_35 rfl ?_
          refine J_iaddN cx dX3_shelfSet_36 ?_
          refine T_ld_g cx dX3_shelfSet_37 (by omega) ?_
          refine J_ishl cx dX3_shelfSet_38 ?_
          refine J_ior cx dX3_shelfSet_39 ?_
          refine J_istore_n1 cx dX3_shelfSet_40 (by decide) rfl ?_
          refine J_iinc2 (v := nI (k1 + 1)) cx dX3_shelfSet_41 (nI_1 k1) (by decide) rfl ?_
          refine J_goto (tgt := 4) cx dX3_shelfSet_44 (by decide) ?_
          refine J_sub (L1 := [some (.ref t), some (.int (S_shelfSet g (k1 + 1))), some (.int (nI (k1 + 1)))]) (jsub_s (jsub_e (congrArg Value.int (by simp only [S_shelfSet, if_pos c7, if_neg c21])) (jsub_s jsub_0))) ?_
          exact ih (k1 + 1) (by omega) (by omega) 
        · refine J_iconst (v := nI (0)) cx dX3_shelfSet_24 (by decide) ?_
          refine J_goto (tgt := 39) cx dX3_shelfSet_25 (by decide) ?_
          refine J_ior cx dX3_shelfSet_39 ?_
          refine J_istore_n1 cx dX3_shelfSet_40 (by decide) rfl ?_
          refine J_iinc2 (v := nI (k1 + 1)) cx dX3_shelfSet_41 (nI_1 k1) (by decide) rfl ?_
          refine J_goto (tgt := 4) cx dX3_shelfSet_44 (by decide) ?_
          refine J_sub (L1 := [some (.ref t), some (.int (S_shelfSet g (k1 + 1))), some (.int (nI (k1 + 1)))]) (jsub_s (jsub_e (congrArg Value.int (by simp only [S_shelfSet, if_pos c7, if_pos c21])) (jsub_s jsub_0))) ?_
          exact ih (k1 + 1) (by omega) (by omega) 
  refine J_sub (L1 := [some (.ref t), some (.int (S_shelfSet g 0)), some (.int (nI (0)))]) (jsub_s (jsub_e (congrArg Value.int rfl) (jsub_s jsub_0))) ?_
  exact loop4 (8 + 1) 0 (by omega) (by omega) 
def S_begins1 (g : Nat → Int32) : Nat → (Nat → Int32)
  | 0 => g
  | k1 + 1 => (upd (S_begins1 g k1) (k1) (nI (0)))
def S_begins2 (g : Nat → Int32) : Nat → (Nat → Int32)
  | 0 => (upd (upd (upd (upd (upd (upd (S_begins1 g 1108) (4) (nI (1))) (5) (nI (3))) (6) (nI (5))) (7) (nI (8))) (8) (nI (150))) (9) (nI (12)))
  | k1 + 1 => (upd (S_begins2 g k1) (10 + k1) (nI (20)))
def S_begins3 (g : Nat → Int32) : Nat → (Nat → Int32)
  | 0 => (upd (upd (S_begins2 g 24) (38) (-1)) (40) (-1))
  | k1 + 1 => (upd (S_begins3 g k1) (41 + k1) (-1))
theorem hd_X3_begins : yX3_begins.cls = RX3 ∧ yX3_begins.cls ≠ "java/lang/invoke/MethodHandle" ∧ yX3_begins.cls ≠ "java/lang/invoke/VarHandle" ∧ (parseMethodDescriptor yX3_begins.desc).map (fun d => d.parameters.length) = some 0 := by decide +kernel
set_option maxHeartbeats 4000000 in
theorem t_X3_begins (l : Launch) (Ω : jO) {t : Nat} {G0 : Mem} {g hi sv as_ inp why now told bef : Nat → Int32} {ch hs fed fa ws ns ct st_ pl iw sn : Int32} {sz : Nat} (ht : Ω.2.2.2 ≤ t)   : Met l yX3_begins (ws_ yX3_begins cX3_begins 2 (none)) ({ frames := 1, cells := 0, slots := 0, locals := 12 }) (va_Pc [.ref t] (jWd Ω (tov Ω t G0 g hi sv as_ inp why now told bef ch hs fed fa ws ns ct st_ pl iw sn) sz)) (jQ Ω (jD none (tov Ω t G0 (S_begins3 g 8) hi sv as_ inp why now told bef ch hs fed fa ws ns ct st_ pl iw sn) sz)) 0 0 (jB Ω) := by
  refine jMet (by decide) (Nat.le_of_ble_eq_true rfl) ?_
  intro p e s m args below meth c cx hr hnm
  refine J_loc [some (.ref t), none] rfl ?_
  refine J_iconst (v := nI (0)) cx dX3_begins_0 (by decide) ?_
  refine J_istore_n1 cx dX3_begins_1 (by decide) rfl ?_
  have loop2 : ∀ (n k1 : Nat), 1108 + 1 ≤ n + k1 → k1 ≤ 1108 → J p l e ({ frames := 1, cells := 0, slots := 0, locals := 12 } : Room) s m args below meth c Ω 2 (MQ below (jQ Ω (jD none (tov Ω t G0 (S_begins3 g 8) hi sv as_ inp why now told bef ch hs fed fa ws ns ct st_ pl iw sn) sz)) args s 0 0 (jB Ω)) 0 0 sz (tov Ω t G0 (S_begins1 g k1) hi sv as_ inp why now told bef ch hs fed fa ws ns ct st_ pl iw sn) 2 [some (.ref t), some (.int (nI (k1)))] [] := by
    intro n
    induction n with
    | zero => intro k1 hn1 hk1 ; exact absurd hn1 (by omega)
    | succ n ih =>
      intro k1 hn1 hk1 
      refine J_iload_n cx dX3_begins_2 rfl ?_
      refine J_sipush (v := nI (1108)) cx dX3_begins_3 (by decide) ?_
      refine J_icmpN_ge (tgt := 22) cx dX3_begins_6 (by decide) (by omega) (by omega) (fun c6 => ?_) (fun c6 => ?_)
      · have hkx : 1108 = k1 := Eq.symm (by omega)
        subst hkx
        refine J_aload_n cx dX3_begins_22 rfl ?_
        refine T_get_g cx dX3_begins_23 ?_
        refine J_iconst (v := nI (4)) cx dX3_begins_26 (by decide) ?_
        refine J_iconst (v := nI (1)) cx dX3_begins_27 (by decide) ?_
        refine T_st_g cx ht dX3_begins_28 (by omega) ?_
        refine J_aload_n cx dX3_begins_29 rfl ?_
        refine T_get_g cx dX3_begins_30 ?_
        refine J_iconst (v := nI (5)) cx dX3_begins_33 (by decide) ?_
        refine J_iconst (v := nI (3)) cx dX3_begins_34 (by decide) ?_
        refine T_st_g cx ht dX3_begins_35 (by omega) ?_
        refine J_aload_n cx dX3_begins_36 rfl ?_
        refine T_get_g cx dX3_begins_37 ?_
        refine J_bipush (v := nI (6)) cx dX3_begins_40 (by decide) ?_
        refine J_iconst (v := nI (5)) cx dX3_begins_42 (by decide) ?_
        refine T_st_g cx ht dX3_begins_43 (by omega) ?_
        refine J_aload_n cx dX3_begins_44 rfl ?_
        refine T_get_g cx dX3_begins_45 ?_
        refine J_bipush (v := nI (7)) cx dX3_begins_48 (by decide) ?_
        refine J_bipush (v := nI (8)) cx dX3_begins_50 (by decide) ?_
        refine T_st_g cx ht dX3_begins_52 (by omega) ?_
        refine J_aload_n cx dX3_begins_53 rfl ?_
        refine T_get_g cx dX3_begins_54 ?_
        refine J_bipush (v := nI (8)) cx dX3_begins_57 (by decide) ?_
        refine J_sipush (v := nI (150)) cx dX3_begins_59 (by decide) ?_
        refine T_st_g cx ht dX3_begins_62 (by omega) ?_
        refine J_aload_n cx dX3_begins_63 rfl ?_
        refine T_get_g cx dX3_begins_64 ?_
        refine J_bipush (v := nI (9)) cx dX3_begins_67 (by decide) ?_
        refine J_bipush (v := nI (12)) cx dX3_begins_69 (by decide) ?_
        refine T_st_g cx ht dX3_begins_71 (by omega) ?_
        refine J_iconst (v := nI (0)) cx dX3_begins_72 (by decide) ?_
        refine J_istore_n1 cx dX3_begins_73 (by decide) rfl ?_
        have loop74 : ∀ (n k1 : Nat), 24 + 1 ≤ n + k1 → k1 ≤ 24 → J p l e ({ frames := 1, cells := 0, slots := 0, locals := 12 } : Room) s m args below meth c Ω 2 (MQ below (jQ Ω (jD none (tov Ω t G0 (S_begins3 g 8) hi sv as_ inp why now told bef ch hs fed fa ws ns ct st_ pl iw sn) sz)) args s 0 0 (jB Ω)) 0 0 sz (tov Ω t G0 (S_begins2 g k1) hi sv as_ inp why now told bef ch hs fed fa ws ns ct st_ pl iw sn) 74 [some (.ref t), some (.int (nI (k1)))] [] := by
          intro n
          induction n with
          | zero => intro k1 hn1 hk1 ; exact absurd hn1 (by omega)
          | succ n ih =>
            intro k1 hn1 hk1 
            refine J_iload_n cx dX3_begins_74 rfl ?_
            refine J_bipush (v := nI (24)) cx dX3_begins_75 (by decide) ?_
            refine J_icmpN_ge (tgt := 97) cx dX3_begins_77 (by decide) (by omega) (by omega) (fun c77 => ?_) (fun c77 => ?_)
            · have hkx : 24 = k1 := Eq.symm (by omega)
              subst hkx
              refine J_aload_n cx dX3_begins_97 rfl ?_
              refine T_get_g cx dX3_begins_98 ?_
              refine J_bipush (v := nI (38)) cx dX3_begins_101 (by decide) ?_
              refine J_iconst (v := -1) cx dX3_begins_103 (by decide) ?_
              refine T_st_g cx ht dX3_begins_104 (by omega) ?_
              refine J_aload_n cx dX3_begins_105 rfl ?_
              refine T_get_g cx dX3_begins_106 ?_
              refine J_bipush (v := nI (40)) cx dX3_begins_109 (by decide) ?_
              refine J_iconst (v := -1) cx dX3_begins_111 (by decide) ?_
              refine T_st_g cx ht dX3_begins_112 (by omega) ?_
              refine J_iconst (v := nI (0)) cx dX3_begins_113 (by decide) ?_
              refine J_istore_n1 cx dX3_begins_114 (by decide) rfl ?_
              have loop115 : ∀ (n k1 : Nat), 8 + 1 ≤ n + k1 → k1 ≤ 8 → J p l e ({ frames := 1, cells := 0, slots := 0, locals := 12 } : Room) s m args below meth c Ω 2 (MQ below (jQ Ω (jD none (tov Ω t G0 (S_begins3 g 8) hi sv as_ inp why now told bef ch hs fed fa ws ns ct st_ pl iw sn) sz)) args s 0 0 (jB Ω)) 0 0 sz (tov Ω t G0 (S_begins3 g k1) hi sv as_ inp why now told bef ch hs fed fa ws ns ct st_ pl iw sn) 115 [some (.ref t), some (.int (nI (k1)))] [] := by
                intro n
                induction n with
                | zero => intro k1 hn1 hk1 ; exact absurd hn1 (by omega)
                | succ n ih =>
                  intro k1 hn1 hk1 
                  refine J_iload_n cx dX3_begins_115 rfl ?_
                  refine J_bipush (v := nI (8)) cx dX3_begins_116 (by decide) ?_
                  refine J_icmpN_ge (tgt := 137) cx dX3_begins_118 (by decide) (by omega) (by omega) (fun c118 => ?_) (fun c118 => ?_)
                  · have hkx : 8 = k1 := Eq.symm (by omega)
                    subst hkx
                    exact J_vret cx dX3_begins_137 hr ⟨rfl, rfl, rfl⟩ (Nat.le_refl 0) (Nat.le_refl 0)
                  · refine J_aload_n cx dX3_begins_121 rfl ?_
                    refine T_get_g cx dX3_begins_122 ?_
                    refine J_bipush (v := nI (41)) cx dX3_begins_125 (by decide) ?_
                    refine J_iload_n cx dX3_begins_127 rfl ?_
                    refine J_iaddN cx dX3_begins_128 ?_
                    refine J_iconst (v := -1) cx dX3_begins_129 (by decide) ?_
                    refine T_st_g cx ht dX3_begins_130 (by omega) ?_
                    refine J_iinc1 (v := nI (k1 + 1)) cx dX3_begins_131 (nI_1 k1) (by decide) rfl ?_
                    refine J_goto (tgt := 115) cx dX3_begins_134 (by decide) ?_
                    refine J_mem (tov Ω t G0 (S_begins3 g (k1 + 1)) hi sv as_ inp why now told bef ch hs fed fa ws ns ct st_ pl iw sn) (tov_cg (by simp only [S_begins3, if_neg (Nat.not_lt.mpr c6), if_neg (Nat.not_lt.mpr c77), if_pos c118]) rfl rfl rfl rfl rfl rfl rfl rfl rfl rfl rfl rfl rfl rfl rfl rfl rfl rfl rfl) ?_
                    refine J_sub (L1 := [some (.ref t), some (.int (nI (k1 + 1)))]) (jsub_s (jsub_s jsub_0)) ?_
                    exact ih (k1 + 1) (by omega) (by omega) 
              refine J_sub (L1 := [some (.ref t), some (.int (nI (0)))]) (jsub_s (jsub_s jsub_0)) ?_
              exact loop115 (8 + 1) 0 (by omega) (by omega) 
            · refine J_aload_n cx dX3_begins_80 rfl ?_
              refine T_get_g cx dX3_begins_81 ?_
              refine J_bipush (v := nI (10)) cx dX3_begins_84 (by decide) ?_
              refine J_iload_n cx dX3_begins_86 rfl ?_
              refine J_iaddN cx dX3_begins_87 ?_
              refine J_bipush (v := nI (20)) cx dX3_begins_88 (by decide) ?_
              refine T_st_g cx ht dX3_begins_90 (by omega) ?_
              refine J_iinc1 (v := nI (k1 + 1)) cx dX3_begins_91 (nI_1 k1) (by decide) rfl ?_
              refine J_goto (tgt := 74) cx dX3_begins_94 (by decide) ?_
              refine J_mem (tov Ω t G0 (S_begins2 g (k1 + 1)) hi sv as_ inp why now told bef ch hs fed fa ws ns ct st_ pl iw sn) (tov_cg (by simp only [S_begins2, if_neg (Nat.not_lt.mpr c6), if_pos c77]) rfl rfl rfl rfl rfl rfl rfl rfl rfl rfl rfl rfl rfl rfl rfl rfl rfl rfl rfl) ?_
              refine J_sub (L1 := [some (.ref t), some (.int (nI (k1 + 1)))]) (jsub_s (jsub_s jsub_0)) ?_
              exact ih (k1 + 1) (by omega) (by omega) 
        refine J_sub (L1 := [some (.ref t), some (.int (nI (0)))]) (jsub_s (jsub_s jsub_0)) ?_
        exact loop74 (24 + 1) 0 (by omega) (by omega) 
      · refine J_aload_n cx dX3_begins_9 rfl ?_
        refine T_get_g cx dX3_begins_10 ?_
        refine J_iload_n cx dX3_begins_13 rfl ?_
        refine J_iconst (v := nI (0)) cx dX3_begins_14 (by decide) ?_
        refine T_st_g cx ht dX3_begins_15 (by omega) ?_
        refine J_iinc1 (v := nI (k1 + 1)) cx dX3_begins_16 (nI_1 k1) (by decide) rfl ?_
        refine J_goto (tgt := 2) cx dX3_begins_19 (by decide) ?_
        refine J_mem (tov Ω t G0 (S_begins1 g (k1 + 1)) hi sv as_ inp why now told bef ch hs fed fa ws ns ct st_ pl iw sn) (tov_cg (by simp only [S_begins1, if_pos c6]) rfl rfl rfl rfl rfl rfl rfl rfl rfl rfl rfl rfl rfl rfl rfl rfl rfl rfl rfl) ?_
        refine J_sub (L1 := [some (.ref t), some (.int (nI (k1 + 1)))]) (jsub_s (jsub_s jsub_0)) ?_
        exact ih (k1 + 1) (by omega) (by omega) 
  refine J_sub (L1 := [some (.ref t), some (.int (nI (0)))]) (jsub_s (jsub_s jsub_0)) ?_
  exact loop2 (1108 + 1) 0 (by omega) (by omega) 
def r_X3_mayFire (g : Nat → Int32) : Int32 := (if (S_onShelf g 8) = 0 then (nI (15)) else (if (r_X3_restLeft g) ≤ 0 then (nI (0)) else (nI (16))))
def o_X3_mayFire_now (g : Nat → Int32) (now : Nat → Int32) : Nat → Int32 := (if (S_onShelf g 8) = 0 then ((upd (upd now (0) ((nI (15)))) (1) ((nI (0))))) else (if (r_X3_restLeft g) ≤ 0 then now else ((upd (upd now (0) ((nI (16)))) (1) ((r_X3_restLeft g))))))
def o_X3_mayFire_ns (g : Nat → Int32) (ns : Int32) : Int32 := (if (S_onShelf g 8) = 0 then ((nI (1))) else (if (r_X3_restLeft g) ≤ 0 then ns else ((nI (1)))))
theorem hd_X3_mayFire : yX3_mayFire.cls = RX3 ∧ yX3_mayFire.cls ≠ "java/lang/invoke/MethodHandle" ∧ yX3_mayFire.cls ≠ "java/lang/invoke/VarHandle" ∧ (parseMethodDescriptor yX3_mayFire.desc).map (fun d => d.parameters.length) = some 0 := by decide +kernel
set_option maxHeartbeats 4000000 in
theorem t_X3_mayFire (l : Launch) (Ω : jO) {t : Nat} {G0 : Mem} {g hi sv as_ inp why now told bef : Nat → Int32} {ch hs fed fa ws ns ct st_ pl iw sn : Int32} {sz : Nat} (ht : Ω.2.2.2 ≤ t)   : Met l yX3_mayFire (ws_ yX3_mayFire cX3_mayFire 1 (some .int)) ({ frames := 2, cells := 0, slots := 0, locals := 34 }) (va_Pc [.ref t] (jWd Ω (tov Ω t G0 g hi sv as_ inp why now told bef ch hs fed fa ws ns ct st_ pl iw sn) sz)) (jQ Ω (jD (some (.int (r_X3_mayFire g))) (tov Ω t G0 g hi sv as_ inp why (o_X3_mayFire_now g now) told bef ch hs fed fa ws (o_X3_mayFire_ns g ns) ct st_ pl iw sn) sz)) 0 0 (jB Ω) := by
  refine jMet (by decide) (Nat.le_of_ble_eq_true rfl) ?_
  intro p e s m args below meth c cx hr hnm
  refine J_loc [some (.ref t)] rfl ?_
  refine J_aload_n cx dX3_mayFire_0 rfl ?_
  refine T_callI cx [] (t_X3_onShelf l Ω ht) dX3_mayFire_1 (lw_V q2803 q2805 qs53 q93 q2806) hd_X3_onShelf rfl rfl ⟨Nat.le_of_ble_eq_true rfl, Nat.le_of_ble_eq_true rfl⟩ rfl rfl (Nat.le_of_ble_eq_true rfl) ?_
  refine J_if_ne (tgt := 17) cx dX3_mayFire_4 (by decide) (fun c4 => ?_) (fun c4 => ?_)
  · refine J_aload_n cx dX3_mayFire_17 rfl ?_
    refine T_callI cx [] (t_X3_restLeft l Ω ht) dX3_mayFire_18 (lw_V q2851 q2853 qs62 q93 q2854) hd_X3_restLeft rfl rfl ⟨Nat.le_of_ble_eq_true rfl, Nat.le_of_ble_eq_true rfl⟩ rfl rfl (Nat.le_of_ble_eq_true rfl) ?_
    refine J_if_le (tgt := 37) cx dX3_mayFire_21 (by decide) (fun c21 => ?_) (fun c21 => ?_)
    · refine J_iconst (v := nI (0)) cx dX3_mayFire_37 (by decide) ?_
      exact J_iret cx dX3_mayFire_38 hr ⟨congrArg some (congrArg Value.int (by simp only [r_X3_mayFire, o_X3_mayFire_now, o_X3_mayFire_ns, if_neg c4, if_pos c21])), (tov_cg rfl rfl rfl rfl rfl rfl (by simp only [r_X3_mayFire, o_X3_mayFire_now, o_X3_mayFire_ns, if_neg c4, if_pos c21]) rfl rfl rfl rfl rfl rfl rfl (by simp only [r_X3_mayFire, o_X3_mayFire_now, o_X3_mayFire_ns, if_neg c4, if_pos c21]) rfl rfl rfl rfl rfl), rfl⟩ (Nat.le_refl 0) (Nat.le_refl 0)
    · refine J_aload_n cx dX3_mayFire_24 rfl ?_
      refine J_bipush (v := nI (16)) cx dX3_mayFire_25 (by decide) ?_
      refine J_aload_n cx dX3_mayFire_27 rfl ?_
      refine T_callI cx [] (t_X3_restLeft l Ω ht) dX3_mayFire_28 (lw_V q2851 q2853 qs62 q93 q2854) hd_X3_restLeft rfl rfl ⟨Nat.le_of_ble_eq_true rfl, Nat.le_of_ble_eq_true rfl⟩ rfl rfl (Nat.le_of_ble_eq_true rfl) ?_
      refine T_callI cx [.int (nI (16)), .int (r_X3_restLeft g)] (t_X3_noted l Ω ht (nI (16)) (r_X3_restLeft g)) dX3_mayFire_31 (lw_V q2716 q2718 qs41 q93 q2719) hd_X3_noted rfl rfl ⟨Nat.le_of_ble_eq_true rfl, Nat.le_of_ble_eq_true rfl⟩ rfl rfl (Nat.le_of_ble_eq_true rfl) ?_
      refine J_goto (tgt := 38) cx dX3_mayFire_34 (by decide) ?_
      exact J_iret cx dX3_mayFire_38 hr ⟨congrArg some (congrArg Value.int (by simp only [r_X3_mayFire, o_X3_mayFire_now, o_X3_mayFire_ns, if_neg c4, if_neg c21])), (tov_cg rfl rfl rfl rfl rfl rfl (by simp only [r_X3_mayFire, o_X3_mayFire_now, o_X3_mayFire_ns, if_neg c4, if_neg c21]) rfl rfl rfl rfl rfl rfl rfl (by simp only [r_X3_mayFire, o_X3_mayFire_now, o_X3_mayFire_ns, if_neg c4, if_neg c21]) rfl rfl rfl rfl rfl), rfl⟩ (Nat.le_refl 0) (Nat.le_refl 0)
  · refine J_aload_n cx dX3_mayFire_7 rfl ?_
    refine J_bipush (v := nI (15)) cx dX3_mayFire_8 (by decide) ?_
    refine J_iconst (v := nI (0)) cx dX3_mayFire_10 (by decide) ?_
    refine T_callI cx [.int (nI (15)), .int (nI (0))] (t_X3_noted l Ω ht (nI (15)) (nI (0))) dX3_mayFire_11 (lw_V q2716 q2718 qs41 q93 q2719) hd_X3_noted rfl rfl ⟨Nat.le_of_ble_eq_true rfl, Nat.le_of_ble_eq_true rfl⟩ rfl rfl (Nat.le_of_ble_eq_true rfl) ?_
    refine J_goto (tgt := 38) cx dX3_mayFire_14 (by decide) ?_
    exact J_iret cx dX3_mayFire_38 hr ⟨congrArg some (congrArg Value.int (by simp only [r_X3_mayFire, o_X3_mayFire_now, o_X3_mayFire_ns, if_pos c4])), (tov_cg rfl rfl rfl rfl rfl rfl (by simp only [r_X3_mayFire, o_X3_mayFire_now, o_X3_mayFire_ns, if_pos c4]) rfl rfl rfl rfl rfl rfl rfl (by simp only [r_X3_mayFire, o_X3_mayFire_now, o_X3_mayFire_ns, if_pos c4]) rfl rfl rfl rfl rfl), rfl⟩ (Nat.le_refl 0) (Nat.le_refl 0)
def r_X3_mayPass (g : Nat → Int32) (n9 : Int32) : Int32 := (if ((g (0)) + n9) ≤ (nI (400)) then (nI (0)) else (nI (17)))
def o_X3_mayPass_now (g : Nat → Int32) (now : Nat → Int32) (n9 : Int32) : Nat → Int32 := (if ((g (0)) + n9) ≤ (nI (400)) then now else ((upd (upd now (0) ((nI (17)))) (1) (((g (0)) + n9)))))
def o_X3_mayPass_ns (g : Nat → Int32) (ns : Int32) (n9 : Int32) : Int32 := (if ((g (0)) + n9) ≤ (nI (400)) then ns else ((nI (1))))
theorem hd_X3_mayPass : yX3_mayPass.cls = RX3 ∧ yX3_mayPass.cls ≠ "java/lang/invoke/MethodHandle" ∧ yX3_mayPass.cls ≠ "java/lang/invoke/VarHandle" ∧ (parseMethodDescriptor yX3_mayPass.desc).map (fun d => d.parameters.length) = some 1 := by decide +kernel
set_option maxHeartbeats 4000000 in
theorem t_X3_mayPass (l : Launch) (Ω : jO) {t : Nat} {G0 : Mem} {g hi sv as_ inp why now told bef : Nat → Int32} {ch hs fed fa ws ns ct st_ pl iw sn : Int32} {sz : Nat} (ht : Ω.2.2.2 ≤ t) (n9 : Int32)  : Met l yX3_mayPass (ws_ yX3_mayPass cX3_mayPass 2 (some .int)) ({ frames := 2, cells := 0, slots := 0, locals := 34 }) (va_Pc [.ref t, .int (n9)] (jWd Ω (tov Ω t G0 g hi sv as_ inp why now told bef ch hs fed fa ws ns ct st_ pl iw sn) sz)) (jQ Ω (jD (some (.int (r_X3_mayPass g n9))) (tov Ω t G0 g hi sv as_ inp why (o_X3_mayPass_now g now n9) told bef ch hs fed fa ws (o_X3_mayPass_ns g ns n9) ct st_ pl iw sn) sz)) 0 0 (jB Ω) := by
  refine jMet (by decide) (Nat.le_of_ble_eq_true rfl) ?_
  intro p e s m args below meth c cx hr hnm
  refine J_loc [some (.ref t), some (.int (n9))] rfl ?_
  refine J_aload_n cx dX3_mayPass_0 rfl ?_
  refine T_get_g cx dX3_mayPass_1 ?_
  refine J_iconst (v := nI (0)) cx dX3_mayPass_4 (by decide) ?_
  refine T_ld_g cx dX3_mayPass_5 (by omega) ?_
  refine J_iload_n cx dX3_mayPass_6 rfl ?_
  refine J_iadd cx dX3_mayPass_7 ?_
  refine J_sipush (v := nI (400)) cx dX3_mayPass_8 (by decide) ?_
  refine J_icmp_le (tgt := 31) cx dX3_mayPass_11 (by decide) (fun c11 => ?_) (fun c11 => ?_)
  · refine J_iconst (v := nI (0)) cx dX3_mayPass_31 (by decide) ?_
    exact J_iret cx dX3_mayPass_32 hr ⟨congrArg some (congrArg Value.int (by simp only [r_X3_mayPass, o_X3_mayPass_now, o_X3_mayPass_ns, if_pos c11])), (tov_cg rfl rfl rfl rfl rfl rfl (by simp only [r_X3_mayPass, o_X3_mayPass_now, o_X3_mayPass_ns, if_pos c11]) rfl rfl rfl rfl rfl rfl rfl (by simp only [r_X3_mayPass, o_X3_mayPass_now, o_X3_mayPass_ns, if_pos c11]) rfl rfl rfl rfl rfl), rfl⟩ (Nat.le_refl 0) (Nat.le_refl 0)
  · refine J_aload_n cx dX3_mayPass_14 rfl ?_
    refine J_bipush (v := nI (17)) cx dX3_mayPass_15 (by decide) ?_
    refine J_aload_n cx dX3_mayPass_17 rfl ?_
    refine T_get_g cx dX3_mayPass_18 ?_
    refine J_iconst (v := nI (0)) cx dX3_mayPass_21 (by decide) ?_
    refine T_ld_g cx dX3_mayPass_22 (by omega) ?_
    refine J_iload_n cx dX3_mayPass_23 rfl ?_
    refine J_iadd cx dX3_mayPass_24 ?_
    refine T_callI cx [.int (nI (17)), .int ((g (0)) + n9)] (t_X3_noted l Ω ht (nI (17)) ((g (0)) + n9)) dX3_mayPass_25 (lw_V q2716 q2718 qs41 q93 q2719) hd_X3_noted rfl rfl ⟨Nat.le_of_ble_eq_true rfl, Nat.le_of_ble_eq_true rfl⟩ rfl rfl (Nat.le_of_ble_eq_true rfl) ?_
    refine J_goto (tgt := 32) cx dX3_mayPass_28 (by decide) ?_
    exact J_iret cx dX3_mayPass_32 hr ⟨congrArg some (congrArg Value.int (by simp only [r_X3_mayPass, o_X3_mayPass_now, o_X3_mayPass_ns, if_neg c11])), (tov_cg rfl rfl rfl rfl rfl rfl (by simp only [r_X3_mayPass, o_X3_mayPass_now, o_X3_mayPass_ns, if_neg c11]) rfl rfl rfl rfl rfl rfl rfl (by simp only [r_X3_mayPass, o_X3_mayPass_now, o_X3_mayPass_ns, if_neg c11]) rfl rfl rfl rfl rfl), rfl⟩ (Nat.le_refl 0) (Nat.le_refl 0)
def S_orderFor (g : Nat → Int32) (p9 : Nat) : Nat → Int32
  | 0 => (-1)
  | d1 + 1 => (if (r_X3_isGood g (tn (g (3)) - (d1 + 1))) = 0 then (S_orderFor g p9 d1) else (if (g (258 + (6 * (tn (g (3)) - (d1 + 1))))) = (g ((50 + (13 * p9)) + 6)) then (if (g ((50 + (13 * p9)) + 2)) < (g ((258 + (6 * (tn (g (3)) - (d1 + 1)))) + 1)) then (S_orderFor g p9 d1) else (nI ((tn (g (3)) - (d1 + 1))))) else (S_orderFor g p9 d1)))
theorem hd_X3_orderFor : yX3_orderFor.cls = RX3 ∧ yX3_orderFor.cls ≠ "java/lang/invoke/MethodHandle" ∧ yX3_orderFor.cls ≠ "java/lang/invoke/VarHandle" ∧ (parseMethodDescriptor yX3_orderFor.desc).map (fun d => d.parameters.length) = some 1 := by decide +kernel
set_option maxHeartbeats 4000000 in
theorem t_X3_orderFor (l : Launch) (Ω : jO) {t : Nat} {G0 : Mem} {g hi sv as_ inp why now told bef : Nat → Int32} {ch hs fed fa ws ns ct st_ pl iw sn : Int32} {sz : Nat} (ht : Ω.2.2.2 ≤ t) (p9 : Nat) (hp : p9 < 16) (ho : g 3 = nI (tn (g 3))) (ho8 : tn (g 3) ≤ 8) : Met l yX3_orderFor (ws_ yX3_orderFor cX3_orderFor 5 (some .int)) ({ frames := 2, cells := 0, slots := 0, locals := 33 }) (va_Pc [.ref t, .int (nI (p9))] (jWd Ω (tov Ω t G0 g hi sv as_ inp why now told bef ch hs fed fa ws ns ct st_ pl iw sn) sz)) (jQ Ω (jD (some (.int (S_orderFor g p9 (tn (g (3)))))) (tov Ω t G0 g hi sv as_ inp why now told bef ch hs fed fa ws ns ct st_ pl iw sn) sz)) 0 0 (jB Ω) := by
  refine jMet (by decide) (Nat.le_of_ble_eq_true rfl) ?_
  intro p e s m args below meth c cx hr hnm
  refine J_loc [some (.ref t), some (.int (nI (p9))), none, none, none] rfl ?_
  refine J_iconst (v := -1) cx dX3_orderFor_0 (by decide) ?_
  refine J_istore_n2 cx dX3_orderFor_1 (by decide) rfl ?_
  refine J_aload_n cx dX3_orderFor_2 rfl ?_
  refine T_get_g cx dX3_orderFor_3 ?_
  refine J_iconst (v := nI (3)) cx dX3_orderFor_6 (by decide) ?_
  refine T_ld_g cx dX3_orderFor_7 (by omega) ?_
  refine J_top (.int (nI (tn (g (3))))) (congrArg Value.int (ho)) ?_
  refine J_iconst (v := nI (1)) cx dX3_orderFor_8 (by decide) ?_
  refine J_isub cx dX3_orderFor_9 ?_
  refine J_istore_n3 cx dX3_orderFor_10 (by decide) rfl ?_
  have loop11 : ∀ (k1 d1 : Nat), k1 + d1 = (tn (g (3))) → J p l e ({ frames := 2, cells := 0, slots := 0, locals := 33 } : Room) s m args below meth c Ω 5 (MQ below (jQ Ω (jD (some (.int (S_orderFor g p9 (tn (g (3)))))) (tov Ω t G0 g hi sv as_ inp why now told bef ch hs fed fa ws ns ct st_ pl iw sn) sz)) args s 0 0 (jB Ω)) 0 0 sz (tov Ω t G0 g hi sv as_ inp why now told bef ch hs fed fa ws ns ct st_ pl iw sn) 11 [some (.ref t), some (.int (nI (p9))), some (.int (S_orderFor g p9 d1)), some (.int (nI k1 - nI (1))), none] [] := by
    intro k1
    induction k1 with
    | zero =>
      intro d1 hk1 
      have hd9 : d1 = tn (g (3)) := by omega
      subst hd9
      refine J_loc [some (.ref t), some (.int (nI (p9))), some (.int (S_orderFor g p9 (tn (g (3))))), some (.int (-1)), none] rfl ?_
      refine J_iload_n cx dX3_orderFor_11 rfl ?_
      refine J_if_lt (tgt := 104) cx dX3_orderFor_12 (by decide) (fun c12 => ?_) (fun c12 => absurd (by decide) c12)
      refine J_iload_n cx dX3_orderFor_104 rfl ?_
      exact J_iret cx dX3_orderFor_105 hr ⟨congrArg some (congrArg Value.int rfl), rfl, rfl⟩ (Nat.le_refl 0) (Nat.le_refl 0)
    | succ k1 ih =>
      intro d1 hk1 
      have hkd : (tn (g (3))) - (d1 + 1) = k1 := by omega
      refine J_loc [some (.ref t), some (.int (nI (p9))), some (.int (S_orderFor g p9 d1)), some (.int (nI (k1))), none] (by rw [← nI_pred k1]; rfl) ?_
      refine J_iload_n cx dX3_orderFor_11 rfl ?_
      refine J_if_lt (tgt := 104) cx dX3_orderFor_12 (by decide) (fun c12 => absurd c12 (nI_pos (by omega))) (fun c12 => ?_)
      refine J_aload_n cx dX3_orderFor_15 rfl ?_
      refine J_iload_n cx dX3_orderFor_16 rfl ?_
      refine T_callI cx [.int (nI (k1))] (t_X3_isGood l Ω ht (k1) (by omega)) dX3_orderFor_17 (lw_V q2839 q2841 qs60 q93 q2842) hd_X3_isGood rfl rfl ⟨Nat.le_of_ble_eq_true rfl, Nat.le_of_ble_eq_true rfl⟩ rfl rfl (Nat.le_of_ble_eq_true rfl) ?_
      refine J_if_eq (tgt := 84) cx dX3_orderFor_20 (by decide) (fun c20 => ?_) (fun c20 => ?_)
      · refine J_iconst (v := nI (0)) cx dX3_orderFor_84 (by decide) ?_
        refine J_istore4 cx dX3_orderFor_85 (by decide) rfl ?_
        refine J_iload cx dX3_orderFor_87 rfl ?_
        refine J_if_eq (tgt := 96) cx dX3_orderFor_89 (by decide) (fun c89 => ?_) (fun c89 => absurd c89 (by decide))
        refine J_iload_n cx dX3_orderFor_96 rfl ?_
        refine J_istore_n2 cx dX3_orderFor_97 (by decide) rfl ?_
        refine J_iinc3 (v := nI k1 - nI (1)) cx dX3_orderFor_98 (jdec _) (by decide) rfl ?_
        refine J_goto (tgt := 11) cx dX3_orderFor_101 (by decide) ?_
        refine J_sub (L1 := [some (.ref t), some (.int (nI (p9))), some (.int (S_orderFor g p9 (d1 + 1))), some (.int (nI k1 - nI (1))), none]) (jsub_s (jsub_s (jsub_e (congrArg Value.int (by simp only [S_orderFor, hkd, if_pos c20])) (jsub_s (jsub_n jsub_0))))) ?_
        exact ih (d1 + 1) (by omega) 
      · refine J_aload_n cx dX3_orderFor_23 rfl ?_
        refine T_get_g cx dX3_orderFor_24 ?_
        refine J_sipush (v := nI (258)) cx dX3_orderFor_27 (by decide) ?_
        refine J_bipush (v := nI (6)) cx dX3_orderFor_30 (by decide) ?_
        refine J_iload_n cx dX3_orderFor_32 rfl ?_
        refine J_imulN cx dX3_orderFor_33 ?_
        refine J_iaddN cx dX3_orderFor_34 ?_
        refine T_ld_g cx dX3_orderFor_35 (by omega) ?_
        refine J_aload_n cx dX3_orderFor_36 rfl ?_
        refine T_get_g cx dX3_orderFor_37 ?_
        refine J_iload_n cx dX3_orderFor_40 rfl ?_
        refine T_callSI cx [.int (nI (p9))] (t_X3_at l Ω (p9)) dX3_orderFor_41 (lw_S q2736 q2737 q93 q2738) hd_X3_at.2 rfl rfl ⟨Nat.le_of_ble_eq_true rfl, Nat.le_of_ble_eq_true rfl⟩ rfl rfl (Nat.le_of_ble_eq_true rfl) ?_
        refine J_bipush (v := nI (6)) cx dX3_orderFor_44 (by decide) ?_
        refine J_iaddN cx dX3_orderFor_46 ?_
        refine T_ld_g cx dX3_orderFor_47 (by omega) ?_
        refine J_icmp_ne (tgt := 84) cx dX3_orderFor_48 (by decide) (fun c48 => ?_) (fun c48 => ?_)
        · refine J_iconst (v := nI (0)) cx dX3_orderFor_84 (by decide) ?_
          refine J_istore4 cx dX3_orderFor_85 (by decide) rfl ?_
          refine J_iload cx dX3_orderFor_87 rfl ?_
          refine J_if_eq (tgt := 96) cx dX3_orderFor_89 (by decide) (fun c89 => ?_) (fun c89 => absurd c89 (by decide))
          refine J_iload_n cx dX3_orderFor_96 rfl ?_
          refine J_istore_n2 cx dX3_orderFor_97 (by decide) rfl ?_
          refine J_iinc3 (v := nI k1 - nI (1)) cx dX3_orderFor_98 (jdec _) (by decide) rfl ?_
          refine J_goto (tgt := 11) cx dX3_orderFor_101 (by decide) ?_
          refine J_sub (L1 := [some (.ref t), some (.int (nI (p9))), some (.int (S_orderFor g p9 (d1 + 1))), some (.int (nI k1 - nI (1))), none]) (jsub_s (jsub_s (jsub_e (congrArg Value.int (by simp only [S_orderFor, hkd, if_neg c20, if_neg c48])) (jsub_s (jsub_n jsub_0))))) ?_
          exact ih (d1 + 1) (by omega) 
        · refine J_aload_n cx dX3_orderFor_51 rfl ?_
          refine T_get_g cx dX3_orderFor_52 ?_
          refine J_sipush (v := nI (258)) cx dX3_orderFor_55 (by decide) ?_
          refine J_bipush (v := nI (6)) cx dX3_orderFor_58 (by decide) ?_
          refine J_iload_n cx dX3_orderFor_60 rfl ?_
          refine J_imulN cx dX3_orderFor_61 ?_
          refine J_iaddN cx dX3_orderFor_62 ?_
          refine J_iconst (v := nI (1)) cx dX3_orderFor_63 (by decide) ?_
          refine J_iaddN cx dX3_orderFor_64 ?_
          refine T_ld_g cx dX3_orderFor_65 (by omega) ?_
          refine J_aload_n cx dX3_orderFor_66 rfl ?_
          refine T_get_g cx dX3_orderFor_67 ?_
          refine J_iload_n cx dX3_orderFor_70 rfl ?_
          refine T_callSI cx [.int (nI (p9))] (t_X3_at l Ω (p9)) dX3_orderFor_71 (lw_S q2736 q2737 q93 q2738) hd_X3_at.2 rfl rfl ⟨Nat.le_of_ble_eq_true rfl, Nat.le_of_ble_eq_true rfl⟩ rfl rfl (Nat.le_of_ble_eq_true rfl) ?_
          refine J_iconst (v := nI (2)) cx dX3_orderFor_74 (by decide) ?_
          refine J_iaddN cx dX3_orderFor_75 ?_
          refine T_ld_g cx dX3_orderFor_76 (by omega) ?_
          refine J_icmp_gt (tgt := 84) cx dX3_orderFor_77 (by decide) (fun c77 => ?_) (fun c77 => ?_)
          · refine J_iconst (v := nI (0)) cx dX3_orderFor_84 (by decide) ?_
            refine J_istore4 cx dX3_orderFor_85 (by decide) rfl ?_
            refine J_iload cx dX3_orderFor_87 rfl ?_
            refine J_if_eq (tgt := 96) cx dX3_orderFor_89 (by decide) (fun c89 => ?_) (fun c89 => absurd c89 (by decide))
            refine J_iload_n cx dX3_orderFor_96 rfl ?_
            refine J_istore_n2 cx dX3_orderFor_97 (by decide) rfl ?_
            refine J_iinc3 (v := nI k1 - nI (1)) cx dX3_orderFor_98 (jdec _) (by decide) rfl ?_
            refine J_goto (tgt := 11) cx dX3_orderFor_101 (by decide) ?_
            refine J_sub (L1 := [some (.ref t), some (.int (nI (p9))), some (.int (S_orderFor g p9 (d1 + 1))), some (.int (nI k1 - nI (1))), none]) (jsub_s (jsub_s (jsub_e (congrArg Value.int (by simp only [S_orderFor, hkd, if_neg c20, if_pos c48, if_pos c77])) (jsub_s (jsub_n jsub_0))))) ?_
            exact ih (d1 + 1) (by omega) 
          · refine J_iconst (v := nI (1)) cx dX3_orderFor_80 (by decide) ?_
            refine J_goto (tgt := 85) cx dX3_orderFor_81 (by decide) ?_
            refine J_istore4 cx dX3_orderFor_85 (by decide) rfl ?_
            refine J_iload cx dX3_orderFor_87 rfl ?_
            refine J_if_eq (tgt := 96) cx dX3_orderFor_89 (by decide) (fun c89 => absurd c89 (by decide)) (fun c89 => ?_)
            refine J_iload_n cx dX3_orderFor_92 rfl ?_
            refine J_goto (tgt := 97) cx dX3_orderFor_93 (by decide) ?_
            refine J_istore_n2 cx dX3_orderFor_97 (by decide) rfl ?_
            refine J_iinc3 (v := nI k1 - nI (1)) cx dX3_orderFor_98 (jdec _) (by decide) rfl ?_
            refine J_goto (tgt := 11) cx dX3_orderFor_101 (by decide) ?_
            refine J_sub (L1 := [some (.ref t), some (.int (nI (p9))), some (.int (S_orderFor g p9 (d1 + 1))), some (.int (nI k1 - nI (1))), none]) (jsub_s (jsub_s (jsub_e (congrArg Value.int (by simp only [S_orderFor, hkd, if_neg c20, if_pos c48, if_neg c77])) (jsub_s (jsub_n jsub_0))))) ?_
            exact ih (d1 + 1) (by omega) 
  refine J_sub (L1 := [some (.ref t), some (.int (nI (p9))), some (.int (S_orderFor g p9 0)), some (.int (nI (tn (g (3))) - nI (1))), none]) (jsub_s (jsub_s (jsub_e (congrArg Value.int rfl) (jsub_e (congrArg Value.int rfl) (jsub_n jsub_0))))) ?_
  exact loop11 (tn (g (3))) 0 (by omega) 
