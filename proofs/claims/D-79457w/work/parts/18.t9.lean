/-! THE TWIN: texts (gen/mk_t9.py) -/
set_option maxRecDepth 100000
theorem tn_nI {n : Nat} (h : n < 2147483648) : tn (nI n) = n := nI_clamp h
theorem nI_tn {n : Nat} (h : n < 2147483648) : nI n = nI (tn (nI n)) := by rw [show tn (nI n) = n from nI_clamp h]
def w_wants (inp : Nat → Int32) (fed iw pl c9 : Int32) : Int32 := if iw = 0 then (if r_X3_here inp fed pl = c9 then nI (0) else nI (1)) else nI (1)
theorem w_wants_01 (inp : Nat → Int32) (fed iw pl c9 : Int32) : w_wants inp fed iw pl c9 = 0 ∨ w_wants inp fed iw pl c9 = 1 := by
  unfold w_wants
  (repeat' split) <;> first | exact Or.inl rfl | exact Or.inr rfl
def o_X3_wants_pl (inp : Nat → Int32) (fed : Int32) (pl : Int32) (iw : Int32) (c9 : Int32) : Int32 := (if (w_wants inp fed iw pl c9) = 0 then (nI ((tn pl) + 1)) else (nI ((tn pl) + 0)))
def o_X3_wants_iw (inp : Nat → Int32) (fed : Int32) (pl : Int32) (iw : Int32) (c9 : Int32) : Int32 := (if (w_wants inp fed iw pl c9) = 0 then (w_wants inp fed iw pl c9) else (w_wants inp fed iw pl c9))
theorem hd_X3_wants : yX3_wants.cls = RX3 ∧ yX3_wants.cls ≠ "java/lang/invoke/MethodHandle" ∧ yX3_wants.cls ≠ "java/lang/invoke/VarHandle" ∧ (parseMethodDescriptor yX3_wants.desc).map (fun d => d.parameters.length) = some 1 := by decide +kernel
set_option maxHeartbeats 4000000 in
theorem t_X3_wants (l : Launch) (Ω : jO) {t : Nat} {G0 : Mem} {g hi sv as_ inp why now told bef : Nat → Int32} {ch hs fed fa ws ns ct st_ pl iw sn : Int32} {sz : Nat} (ht : Ω.2.2.2 ≤ t) (c9 : Int32) (hpl : pl = nI (tn pl)) (hplb : tn pl ≤ 2000) (hfd : fed = nI (tn fed)) (hfd6 : tn fed ≤ 60) : Met l yX3_wants (ws_ yX3_wants cX3_wants 2 (none)) ({ frames := 2, cells := 0, slots := 0, locals := 32 }) (va_Pc [.ref t, .int (c9)] (jWd Ω (tov Ω t G0 g hi sv as_ inp why now told bef ch hs fed fa ws ns ct st_ pl iw sn) sz)) (jQ Ω (jD none (tov Ω t G0 g hi sv as_ inp why now told bef ch hs fed fa ws ns ct st_ (o_X3_wants_pl inp fed pl iw c9) (o_X3_wants_iw inp fed pl iw c9) sn) sz)) 0 0 (jB Ω) := by
  refine jMet (by decide) (Nat.le_of_ble_eq_true rfl) ?_
  intro p e s m args below meth c cx hr hnm
  refine J_loc [some (.ref t), some (.int (c9))] rfl ?_
  have K21 : J p l e ({ frames := 2, cells := 0, slots := 0, locals := 32 } : Room) s m args below meth c Ω 2 (MQ below (jQ Ω (jD none (tov Ω t G0 g hi sv as_ inp why now told bef ch hs fed fa ws ns ct st_ (o_X3_wants_pl inp fed pl iw c9) (o_X3_wants_iw inp fed pl iw c9) sn) sz)) args s 0 0 (jB Ω)) 0 0 sz (tov Ω t G0 g hi sv as_ inp why now told bef ch hs fed fa ws ns ct st_ pl iw sn) 21 [some (.ref t), some (.int (c9))] [.int (w_wants inp fed iw pl c9), .ref t] := by
    refine T_put_iw cx ht (w_wants_01 ..) dX3_wants_21 ?_
    refine J_aload_n cx dX3_wants_24 rfl ?_
    refine J_dup cx dX3_wants_25 rfl ?_
    refine T_get_pl cx dX3_wants_26 ?_
    refine J_top (.int (nI (tn pl))) (congrArg Value.int (hpl)) ?_
    refine J_aload_n cx dX3_wants_29 rfl ?_
    refine T_get_iw cx dX3_wants_30 ?_
    refine J_if_eq (tgt := 40) cx dX3_wants_33 (by decide) (fun c33 => ?_) (fun c33 => ?_)
    · refine J_iconst (v := nI (1)) cx dX3_wants_40 (by decide) ?_
      refine J_iaddN cx dX3_wants_41 ?_
      refine T_put_pl cx ht dX3_wants_42 ?_
      exact J_vret cx dX3_wants_45 hr ⟨rfl, (tov_cg rfl rfl rfl rfl rfl rfl rfl rfl rfl rfl rfl rfl rfl rfl rfl rfl rfl (by simp only [o_X3_wants_pl, o_X3_wants_iw, if_pos c33]) (by simp only [o_X3_wants_pl, o_X3_wants_iw, if_pos c33]) rfl), rfl⟩ (Nat.le_refl 0) (Nat.le_refl 0)
    · refine J_iconst (v := nI (0)) cx dX3_wants_36 (by decide) ?_
      refine J_goto (tgt := 41) cx dX3_wants_37 (by decide) ?_
      refine J_iaddN cx dX3_wants_41 ?_
      refine T_put_pl cx ht dX3_wants_42 ?_
      exact J_vret cx dX3_wants_45 hr ⟨rfl, (tov_cg rfl rfl rfl rfl rfl rfl rfl rfl rfl rfl rfl rfl rfl rfl rfl rfl rfl (by simp only [o_X3_wants_pl, o_X3_wants_iw, if_neg c33]) (by simp only [o_X3_wants_pl, o_X3_wants_iw, if_neg c33]) rfl), rfl⟩ (Nat.le_refl 0) (Nat.le_refl 0)
  refine J_aload_n cx dX3_wants_0 rfl ?_
  refine J_aload_n cx dX3_wants_1 rfl ?_
  refine T_get_iw cx dX3_wants_2 ?_
  refine J_if_ne (tgt := 16) cx dX3_wants_5 (by decide) (fun c5 => ?_) (fun c5 => ?_)
  · refine J_iconst (v := nI (1)) cx dX3_wants_16 (by decide) ?_
    refine J_goto (tgt := 21) cx dX3_wants_17 (by decide) ?_
    refine J_sub (L1 := [some (.ref t), some (.int (c9))]) (jsub_s (jsub_s jsub_0)) ?_
    refine J_st [.int (w_wants inp fed iw pl c9), .ref t] (jst_e (congrArg Value.int (by simp only [w_wants, if_neg c5])) (jst_s rfl)) ?_
    exact K21
  · refine J_aload_n cx dX3_wants_8 rfl ?_
    refine T_callI cx [] (t_X3_here l Ω ht hpl hfd hfd6) dX3_wants_9 (lw_V q2965 q2967 qs76 q93 q2968) hd_X3_here rfl rfl ⟨Nat.le_of_ble_eq_true rfl, Nat.le_of_ble_eq_true rfl⟩ rfl rfl (Nat.le_of_ble_eq_true rfl) ?_
    refine J_iload_n cx dX3_wants_12 rfl ?_
    refine J_icmp_eq (tgt := 20) cx dX3_wants_13 (by decide) (fun c13 => ?_) (fun c13 => ?_)
    · refine J_iconst (v := nI (0)) cx dX3_wants_20 (by decide) ?_
      refine J_sub (L1 := [some (.ref t), some (.int (c9))]) (jsub_s (jsub_s jsub_0)) ?_
      refine J_st [.int (w_wants inp fed iw pl c9), .ref t] (jst_e (congrArg Value.int (by simp only [w_wants, if_pos c5, if_pos c13])) (jst_s rfl)) ?_
      exact K21
    · refine J_iconst (v := nI (1)) cx dX3_wants_16 (by decide) ?_
      refine J_goto (tgt := 21) cx dX3_wants_17 (by decide) ?_
      refine J_sub (L1 := [some (.ref t), some (.int (c9))]) (jsub_s (jsub_s jsub_0)) ?_
      refine J_st [.int (w_wants inp fed iw pl c9), .ref t] (jst_e (congrArg Value.int (by simp only [w_wants, if_pos c5, if_neg c13])) (jst_s rfl)) ?_
      exact K21
theorem wants_pl (inp : Nat → Int32) (fed : Int32) (pl : Int32) (iw : Int32) (c9 : Int32) (h : tn pl ≤ 2000) : o_X3_wants_pl inp fed pl iw c9 = nI (tn (o_X3_wants_pl inp fed pl iw c9)) ∧ tn (o_X3_wants_pl inp fed pl iw c9) ≤ tn pl + 1 := by
  unfold o_X3_wants_pl
  split
  · exact ⟨nI_tn (by omega), by rw [show tn (nI _) = _ from nI_clamp (by omega)]; omega⟩
  · exact ⟨nI_tn (by omega), by rw [show tn (nI _) = _ from nI_clamp (by omega)]; omega⟩
def w_num1 (inp : Nat → Int32) (fed iw pl : Int32) : Int32 := if iw = 0 then (if r_X3_in (r_X3_here inp fed pl) (nI (48)) (nI (57)) = 0 then nI (1) else nI (0)) else nI (1)
theorem w_num1_01 (inp : Nat → Int32) (fed iw pl : Int32) : w_num1 inp fed iw pl = 0 ∨ w_num1 inp fed iw pl = 1 := by
  unfold w_num1
  (repeat' split) <;> first | exact Or.inl rfl | exact Or.inr rfl
def w_num2 (inp : Nat → Int32) (fed iw pl : Int32) : Int32 := if w_num1 inp fed iw pl = 0 then r_X3_here inp fed pl - nI (48) else nI (0)
def r_X3_number (inp : Nat → Int32) (fed : Int32) (pl : Int32) (iw : Int32) : Int32 := (if (w_num1 inp fed iw pl) = 0 then (if (r_X3_in (r_X3_here inp fed (nI ((tn pl) + 1))) (nI (48)) (nI (57))) = 0 then (w_num2 inp fed iw pl) else ((((nI (10)) * (w_num2 inp fed iw pl)) + (r_X3_here inp fed (nI ((tn pl) + 1)))) - (nI (48)))) else (w_num2 inp fed iw pl))
def o_X3_number_pl (inp : Nat → Int32) (fed : Int32) (pl : Int32) (iw : Int32) : Int32 := (if (w_num1 inp fed iw pl) = 0 then (if (r_X3_in (r_X3_here inp fed (nI ((tn pl) + 1))) (nI (48)) (nI (57))) = 0 then (nI ((tn pl) + 1)) else (nI (((tn pl) + 1) + 1))) else (nI ((tn pl) + 0)))
def o_X3_number_iw (inp : Nat → Int32) (fed : Int32) (pl : Int32) (iw : Int32) : Int32 := (if (w_num1 inp fed iw pl) = 0 then (if (r_X3_in (r_X3_here inp fed (nI ((tn pl) + 1))) (nI (48)) (nI (57))) = 0 then (w_num1 inp fed iw pl) else (w_num1 inp fed iw pl)) else (w_num1 inp fed iw pl))
theorem hd_X3_number : yX3_number.cls = RX3 ∧ yX3_number.cls ≠ "java/lang/invoke/MethodHandle" ∧ yX3_number.cls ≠ "java/lang/invoke/VarHandle" ∧ (parseMethodDescriptor yX3_number.desc).map (fun d => d.parameters.length) = some 0 := by decide +kernel
set_option maxHeartbeats 4000000 in
theorem t_X3_number (l : Launch) (Ω : jO) {t : Nat} {G0 : Mem} {g hi sv as_ inp why now told bef : Nat → Int32} {ch hs fed fa ws ns ct st_ pl iw sn : Int32} {sz : Nat} (ht : Ω.2.2.2 ≤ t)  (hpl : pl = nI (tn pl)) (hplb : tn pl ≤ 2000) (hfd : fed = nI (tn fed)) (hfd6 : tn fed ≤ 60) : Met l yX3_number (ws_ yX3_number cX3_number 2 (some .int)) ({ frames := 2, cells := 0, slots := 0, locals := 34 }) (va_Pc [.ref t] (jWd Ω (tov Ω t G0 g hi sv as_ inp why now told bef ch hs fed fa ws ns ct st_ pl iw sn) sz)) (jQ Ω (jD (some (.int (r_X3_number inp fed pl iw))) (tov Ω t G0 g hi sv as_ inp why now told bef ch hs fed fa ws ns ct st_ (o_X3_number_pl inp fed pl iw) (o_X3_number_iw inp fed pl iw) sn) sz)) 0 0 (jB Ω) := by
  refine jMet (by decide) (Nat.le_of_ble_eq_true rfl) ?_
  intro p e s m args below meth c cx hr hnm
  refine J_loc [some (.ref t), none] rfl ?_
  have K27 : J p l e ({ frames := 2, cells := 0, slots := 0, locals := 34 } : Room) s m args below meth c Ω 2 (MQ below (jQ Ω (jD (some (.int (r_X3_number inp fed pl iw))) (tov Ω t G0 g hi sv as_ inp why now told bef ch hs fed fa ws ns ct st_ (o_X3_number_pl inp fed pl iw) (o_X3_number_iw inp fed pl iw) sn) sz)) args s 0 0 (jB Ω)) 0 0 sz (tov Ω t G0 g hi sv as_ inp why now told bef ch hs fed fa ws ns ct st_ pl iw sn) 27 [some (.ref t), none] [.int (w_num1 inp fed iw pl), .ref t] := by
    refine T_put_iw cx ht (w_num1_01 ..) dX3_number_27 ?_
    have K48 : J p l e ({ frames := 2, cells := 0, slots := 0, locals := 34 } : Room) s m args below meth c Ω 2 (MQ below (jQ Ω (jD (some (.int (r_X3_number inp fed pl iw))) (tov Ω t G0 g hi sv as_ inp why now told bef ch hs fed fa ws ns ct st_ (o_X3_number_pl inp fed pl iw) (o_X3_number_iw inp fed pl iw) sn) sz)) args s 0 0 (jB Ω)) 0 0 sz (tov Ω t G0 g hi sv as_ inp why now told bef ch hs fed fa ws ns ct st_ pl (w_num1 inp fed iw pl) sn) 48 [some (.ref t), none] [.int (w_num2 inp fed iw pl)] := by
      refine J_istore_n1 cx dX3_number_48 (by decide) rfl ?_
      refine J_aload_n cx dX3_number_49 rfl ?_
      refine J_dup cx dX3_number_50 rfl ?_
      refine T_get_pl cx dX3_number_51 ?_
      refine J_top (.int (nI (tn pl))) (congrArg Value.int (hpl)) ?_
      refine J_aload_n cx dX3_number_54 rfl ?_
      refine T_get_iw cx dX3_number_55 ?_
      refine J_if_eq (tgt := 65) cx dX3_number_58 (by decide) (fun c58 => ?_) (fun c58 => ?_)
      · refine J_iconst (v := nI (1)) cx dX3_number_65 (by decide) ?_
        refine J_iaddN cx dX3_number_66 ?_
        refine T_put_pl cx ht dX3_number_67 ?_
        refine J_aload_n cx dX3_number_70 rfl ?_
        refine T_get_iw cx dX3_number_71 ?_
        refine J_if_ne (tgt := 114) cx dX3_number_74 (by decide) (fun c74 => absurd c58 c74) (fun c74 => ?_)
        refine J_aload_n cx dX3_number_77 rfl ?_
        refine T_callI cx [] (t_X3_here l Ω ht (nI_tn (by omega)) hfd hfd6) dX3_number_78 (lw_V q2965 q2967 qs76 q93 q2968) hd_X3_here rfl rfl ⟨Nat.le_of_ble_eq_true rfl, Nat.le_of_ble_eq_true rfl⟩ rfl rfl (Nat.le_of_ble_eq_true rfl) ?_
        refine J_bipush (v := nI (48)) cx dX3_number_81 (by decide) ?_
        refine J_bipush (v := nI (57)) cx dX3_number_83 (by decide) ?_
        refine T_callSI cx [.int (r_X3_here inp fed (nI ((tn pl) + 1))), .int (nI (48)), .int (nI (57))] (t_X3_in l Ω (r_X3_here inp fed (nI ((tn pl) + 1))) (nI (48)) (nI (57))) dX3_number_85 (lw_S q2686 q2687 q93 q2688) hd_X3_in.2 rfl rfl ⟨Nat.le_of_ble_eq_true rfl, Nat.le_of_ble_eq_true rfl⟩ rfl rfl (Nat.le_of_ble_eq_true rfl) ?_
        refine J_if_eq (tgt := 114) cx dX3_number_88 (by decide) (fun c88 => ?_) (fun c88 => ?_)
        · refine J_iload_n cx dX3_number_114 rfl ?_
          exact J_iret cx dX3_number_115 hr ⟨congrArg some (congrArg Value.int (by simp only [r_X3_number, o_X3_number_pl, o_X3_number_iw, if_pos c58, if_pos c88])), (tov_cg rfl rfl rfl rfl rfl rfl rfl rfl rfl rfl rfl rfl rfl rfl rfl rfl rfl (by simp only [r_X3_number, o_X3_number_pl, o_X3_number_iw, if_pos c58, if_pos c88]) (by simp only [r_X3_number, o_X3_number_pl, o_X3_number_iw, if_pos c58, if_pos c88]) rfl), rfl⟩ (Nat.le_refl 0) (Nat.le_refl 0)
        · refine J_bipush (v := nI (10)) cx dX3_number_91 (by decide) ?_
          refine J_iload_n cx dX3_number_93 rfl ?_
          refine J_imul cx dX3_number_94 ?_
          refine J_aload_n cx dX3_number_95 rfl ?_
          refine T_callI cx [] (t_X3_here l Ω ht (nI_tn (by omega)) hfd hfd6) dX3_number_96 (lw_V q2965 q2967 qs76 q93 q2968) hd_X3_here rfl rfl ⟨Nat.le_of_ble_eq_true rfl, Nat.le_of_ble_eq_true rfl⟩ rfl rfl (Nat.le_of_ble_eq_true rfl) ?_
          refine J_iadd cx dX3_number_99 ?_
          refine J_bipush (v := nI (48)) cx dX3_number_100 (by decide) ?_
          refine J_isub cx dX3_number_102 ?_
          refine J_istore_n1 cx dX3_number_103 (by decide) rfl ?_
          refine J_aload_n cx dX3_number_104 rfl ?_
          refine J_dup cx dX3_number_105 rfl ?_
          refine T_get_pl cx dX3_number_106 ?_
          refine J_iconst (v := nI (1)) cx dX3_number_109 (by decide) ?_
          refine J_iaddN cx dX3_number_110 ?_
          refine T_put_pl cx ht dX3_number_111 ?_
          refine J_iload_n cx dX3_number_114 rfl ?_
          exact J_iret cx dX3_number_115 hr ⟨congrArg some (congrArg Value.int (by simp only [r_X3_number, o_X3_number_pl, o_X3_number_iw, if_pos c58, if_neg c88])), (tov_cg rfl rfl rfl rfl rfl rfl rfl rfl rfl rfl rfl rfl rfl rfl rfl rfl rfl (by simp only [r_X3_number, o_X3_number_pl, o_X3_number_iw, if_pos c58, if_neg c88]) (by simp only [r_X3_number, o_X3_number_pl, o_X3_number_iw, if_pos c58, if_neg c88]) rfl), rfl⟩ (Nat.le_refl 0) (Nat.le_refl 0)
      · refine J_iconst (v := nI (0)) cx dX3_number_61 (by decide) ?_
        refine J_goto (tgt := 66) cx dX3_number_62 (by decide) ?_
        refine J_iaddN cx dX3_number_66 ?_
        refine T_put_pl cx ht dX3_number_67 ?_
        refine J_aload_n cx dX3_number_70 rfl ?_
        refine T_get_iw cx dX3_number_71 ?_
        refine J_if_ne (tgt := 114) cx dX3_number_74 (by decide) (fun c74 => ?_) (fun c74 => absurd c74 c58)
        refine J_iload_n cx dX3_number_114 rfl ?_
        exact J_iret cx dX3_number_115 hr ⟨congrArg some (congrArg Value.int (by simp only [r_X3_number, o_X3_number_pl, o_X3_number_iw, if_neg c58])), (tov_cg rfl rfl rfl rfl rfl rfl rfl rfl rfl rfl rfl rfl rfl rfl rfl rfl rfl (by simp only [r_X3_number, o_X3_number_pl, o_X3_number_iw, if_neg c58]) (by simp only [r_X3_number, o_X3_number_pl, o_X3_number_iw, if_neg c58]) rfl), rfl⟩ (Nat.le_refl 0) (Nat.le_refl 0)
    refine J_aload_n cx dX3_number_30 rfl ?_
    refine T_get_iw cx dX3_number_31 ?_
    refine J_if_eq (tgt := 41) cx dX3_number_34 (by decide) (fun c34 => ?_) (fun c34 => ?_)
    · refine J_aload_n cx dX3_number_41 rfl ?_
      refine T_callI cx [] (t_X3_here l Ω ht hpl hfd hfd6) dX3_number_42 (lw_V q2965 q2967 qs76 q93 q2968) hd_X3_here rfl rfl ⟨Nat.le_of_ble_eq_true rfl, Nat.le_of_ble_eq_true rfl⟩ rfl rfl (Nat.le_of_ble_eq_true rfl) ?_
      refine J_bipush (v := nI (48)) cx dX3_number_45 (by decide) ?_
      refine J_isub cx dX3_number_47 ?_
      refine J_sub (L1 := [some (.ref t), none]) (jsub_s (jsub_n jsub_0)) ?_
      refine J_st [.int (w_num2 inp fed iw pl)] (jst_e (congrArg Value.int (by simp only [w_num2, if_pos c34])) rfl) ?_
      exact K48
    · refine J_iconst (v := nI (0)) cx dX3_number_37 (by decide) ?_
      refine J_goto (tgt := 48) cx dX3_number_38 (by decide) ?_
      refine J_sub (L1 := [some (.ref t), none]) (jsub_s (jsub_n jsub_0)) ?_
      refine J_st [.int (w_num2 inp fed iw pl)] (jst_e (congrArg Value.int (by simp only [w_num2, if_neg c34])) rfl) ?_
      exact K48
  refine J_aload_n cx dX3_number_0 rfl ?_
  refine J_aload_n cx dX3_number_1 rfl ?_
  refine T_get_iw cx dX3_number_2 ?_
  refine J_if_ne (tgt := 22) cx dX3_number_5 (by decide) (fun c5 => ?_) (fun c5 => ?_)
  · refine J_iconst (v := nI (1)) cx dX3_number_22 (by decide) ?_
    refine J_goto (tgt := 27) cx dX3_number_23 (by decide) ?_
    refine J_sub (L1 := [some (.ref t), none]) (jsub_s (jsub_n jsub_0)) ?_
    refine J_st [.int (w_num1 inp fed iw pl), .ref t] (jst_e (congrArg Value.int (by simp only [w_num1, if_neg c5])) (jst_s rfl)) ?_
    exact K27
  · refine J_aload_n cx dX3_number_8 rfl ?_
    refine T_callI cx [] (t_X3_here l Ω ht hpl hfd hfd6) dX3_number_9 (lw_V q2965 q2967 qs76 q93 q2968) hd_X3_here rfl rfl ⟨Nat.le_of_ble_eq_true rfl, Nat.le_of_ble_eq_true rfl⟩ rfl rfl (Nat.le_of_ble_eq_true rfl) ?_
    refine J_bipush (v := nI (48)) cx dX3_number_12 (by decide) ?_
    refine J_bipush (v := nI (57)) cx dX3_number_14 (by decide) ?_
    refine T_callSI cx [.int (r_X3_here inp fed pl), .int (nI (48)), .int (nI (57))] (t_X3_in l Ω (r_X3_here inp fed pl) (nI (48)) (nI (57))) dX3_number_16 (lw_S q2686 q2687 q93 q2688) hd_X3_in.2 rfl rfl ⟨Nat.le_of_ble_eq_true rfl, Nat.le_of_ble_eq_true rfl⟩ rfl rfl (Nat.le_of_ble_eq_true rfl) ?_
    refine J_if_ne (tgt := 26) cx dX3_number_19 (by decide) (fun c19 => ?_) (fun c19 => ?_)
    · refine J_iconst (v := nI (0)) cx dX3_number_26 (by decide) ?_
      refine J_sub (L1 := [some (.ref t), none]) (jsub_s (jsub_n jsub_0)) ?_
      refine J_st [.int (w_num1 inp fed iw pl), .ref t] (jst_e (congrArg Value.int (by simp only [w_num1, if_pos c5, if_neg c19])) (jst_s rfl)) ?_
      exact K27
    · refine J_iconst (v := nI (1)) cx dX3_number_22 (by decide) ?_
      refine J_goto (tgt := 27) cx dX3_number_23 (by decide) ?_
      refine J_sub (L1 := [some (.ref t), none]) (jsub_s (jsub_n jsub_0)) ?_
      refine J_st [.int (w_num1 inp fed iw pl), .ref t] (jst_e (congrArg Value.int (by simp only [w_num1, if_pos c5, if_pos c19])) (jst_s rfl)) ?_
      exact K27
theorem number_pl (inp : Nat → Int32) (fed : Int32) (pl : Int32) (iw : Int32) (h : tn pl ≤ 2000) : o_X3_number_pl inp fed pl iw = nI (tn (o_X3_number_pl inp fed pl iw)) ∧ tn (o_X3_number_pl inp fed pl iw) ≤ tn pl + 2 := by
  unfold o_X3_number_pl
  (repeat' split) <;> exact ⟨nI_tn (by omega), by rw [show tn (nI _) = _ from nI_clamp (by omega)]; omega⟩
