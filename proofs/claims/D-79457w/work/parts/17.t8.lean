/-! THE TWIN: firing, moistures (gen/mk_t8.py) -/
set_option maxRecDepth 100000
def r_X3_becomes (g : Nat → Int32) (ct : Int32) (st_ : Int32) (p9 : Nat) (w9 : Int32) : Int32 := (if w9 = 0 then (if st_ = 0 then (if (g ((50 + (13 * p9)) + 0)) = (nI (1)) then (nI (1)) else (nI (0))) else (nI (0))) else (if w9 = 1 then (if st_ = (nI (1)) then (if (g ((50 + (13 * p9)) + 0)) = (nI (2)) then (nI (1)) else (nI (0))) else (nI (0))) else (if w9 = 2 then (if (g ((50 + (13 * p9)) + 4)) ≤ ct then (nI (0)) else (nI (1))) else (if st_ = (nI (2)) then (if (g ((50 + (13 * p9)) + 0)) = (nI (3)) then (nI (1)) else (nI (0))) else (nI (0))))))
theorem z_X3_becomes (g : Nat → Int32) (ct : Int32) (st_ : Int32) (p9 : Nat) (w9 : Int32) : narrow .boolean (.int (r_X3_becomes g ct st_ p9 w9)) = .int (r_X3_becomes g ct st_ p9 w9) := by unfold r_X3_becomes; (repeat' split) <;> first | rfl
theorem hd_X3_becomes : yX3_becomes.cls = RX3 ∧ yX3_becomes.cls ≠ "java/lang/invoke/MethodHandle" ∧ yX3_becomes.cls ≠ "java/lang/invoke/VarHandle" ∧ (parseMethodDescriptor yX3_becomes.desc).map (fun d => d.parameters.length) = some 2 := by decide +kernel
set_option maxHeartbeats 4000000 in
theorem t_X3_becomes (l : Launch) (Ω : jO) {t : Nat} {G0 : Mem} {g hi sv as_ inp why now told bef : Nat → Int32} {ch hs fed fa ws ns ct st_ pl iw sn : Int32} {sz : Nat} (ht : Ω.2.2.2 ≤ t) (p9 : Nat) (w9 : Int32) (hp : p9 < 16) : Met l yX3_becomes (ws_ yX3_becomes cX3_becomes 4 (some .boolean)) ({ frames := 2, cells := 0, slots := 0, locals := 32 }) (va_Pc [.ref t, .int (nI (p9)), .int (w9)] (jWd Ω (tov Ω t G0 g hi sv as_ inp why now told bef ch hs fed fa ws ns ct st_ pl iw sn) sz)) (jQ Ω (jD (some (.int (r_X3_becomes g ct st_ p9 w9))) (tov Ω t G0 g hi sv as_ inp why now told bef ch hs fed fa ws ns ct st_ pl iw sn) sz)) 0 0 (jB Ω) := by
  refine jMet (by decide) (Nat.le_of_ble_eq_true rfl) ?_
  intro p e s m args below meth c cx hr hnm
  refine J_loc [some (.ref t), some (.int (nI (p9))), some (.int (w9)), none] rfl ?_
  refine J_aload_n cx dX3_becomes_0 rfl ?_
  refine T_get_g cx dX3_becomes_1 ?_
  refine J_iload_n cx dX3_becomes_4 rfl ?_
  refine T_callSI cx [.int (nI (p9))] (t_X3_at l Ω (p9)) dX3_becomes_5 (lw_S q2736 q2737 q93 q2738) hd_X3_at.2 rfl rfl ⟨Nat.le_of_ble_eq_true rfl, Nat.le_of_ble_eq_true rfl⟩ rfl rfl (Nat.le_of_ble_eq_true rfl) ?_
  refine J_iconst (v := nI (0)) cx dX3_becomes_8 (by decide) ?_
  refine J_iaddN cx dX3_becomes_9 ?_
  refine T_ld_g cx dX3_becomes_10 (by omega) ?_
  refine J_istore_n3 cx dX3_becomes_11 (by decide) rfl ?_
  refine J_iload_n cx dX3_becomes_12 rfl ?_
  by_cases c13_0 : w9 = 0
  · refine J_tableIn (off := 27) (tgt := 40) cx dX3_becomes_13 (by rw [c13_0]; decide) (by rw [c13_0]; decide) (by rw [c13_0]; rfl) (by decide) ?_
    refine J_aload_n cx dX3_becomes_40 rfl ?_
    refine T_get_st_ cx dX3_becomes_41 ?_
    refine J_if_ne (tgt := 56) cx dX3_becomes_44 (by decide) (fun c44 => ?_) (fun c44 => ?_)
    · refine J_iconst (v := nI (0)) cx dX3_becomes_56 (by decide) ?_
      exact J_zret cx dX3_becomes_57 hr (by first | rfl | exact z_X3_becomes ..) ⟨congrArg some (congrArg Value.int (by simp only [r_X3_becomes, if_pos c13_0, if_neg c44])), rfl, rfl⟩ (Nat.le_refl 0) (Nat.le_refl 0)
    · refine J_iload_n cx dX3_becomes_47 rfl ?_
      refine J_iconst (v := nI (1)) cx dX3_becomes_48 (by decide) ?_
      refine J_icmp_ne (tgt := 56) cx dX3_becomes_49 (by decide) (fun c49 => ?_) (fun c49 => ?_)
      · refine J_iconst (v := nI (0)) cx dX3_becomes_56 (by decide) ?_
        exact J_zret cx dX3_becomes_57 hr (by first | rfl | exact z_X3_becomes ..) ⟨congrArg some (congrArg Value.int (by simp only [r_X3_becomes, if_pos c13_0, if_pos c44, if_neg c49])), rfl, rfl⟩ (Nat.le_refl 0) (Nat.le_refl 0)
      · refine J_iconst (v := nI (1)) cx dX3_becomes_52 (by decide) ?_
        refine J_goto (tgt := 57) cx dX3_becomes_53 (by decide) ?_
        exact J_zret cx dX3_becomes_57 hr (by first | rfl | exact z_X3_becomes ..) ⟨congrArg some (congrArg Value.int (by simp only [r_X3_becomes, if_pos c13_0, if_pos c44, if_pos c49])), rfl, rfl⟩ (Nat.le_refl 0) (Nat.le_refl 0)
  by_cases c13_1 : w9 = 1
  · refine J_tableIn (off := 45) (tgt := 58) cx dX3_becomes_13 (by rw [c13_1]; decide) (by rw [c13_1]; decide) (by rw [c13_1]; rfl) (by decide) ?_
    refine J_aload_n cx dX3_becomes_58 rfl ?_
    refine T_get_st_ cx dX3_becomes_59 ?_
    refine J_iconst (v := nI (1)) cx dX3_becomes_62 (by decide) ?_
    refine J_icmp_ne (tgt := 75) cx dX3_becomes_63 (by decide) (fun c63 => ?_) (fun c63 => ?_)
    · refine J_iconst (v := nI (0)) cx dX3_becomes_75 (by decide) ?_
      exact J_zret cx dX3_becomes_76 hr (by first | rfl | exact z_X3_becomes ..) ⟨congrArg some (congrArg Value.int (by simp only [r_X3_becomes, if_neg c13_0, if_pos c13_1, if_neg c63])), rfl, rfl⟩ (Nat.le_refl 0) (Nat.le_refl 0)
    · refine J_iload_n cx dX3_becomes_66 rfl ?_
      refine J_iconst (v := nI (2)) cx dX3_becomes_67 (by decide) ?_
      refine J_icmp_ne (tgt := 75) cx dX3_becomes_68 (by decide) (fun c68 => ?_) (fun c68 => ?_)
      · refine J_iconst (v := nI (0)) cx dX3_becomes_75 (by decide) ?_
        exact J_zret cx dX3_becomes_76 hr (by first | rfl | exact z_X3_becomes ..) ⟨congrArg some (congrArg Value.int (by simp only [r_X3_becomes, if_neg c13_0, if_pos c13_1, if_pos c63, if_neg c68])), rfl, rfl⟩ (Nat.le_refl 0) (Nat.le_refl 0)
      · refine J_iconst (v := nI (1)) cx dX3_becomes_71 (by decide) ?_
        refine J_goto (tgt := 76) cx dX3_becomes_72 (by decide) ?_
        exact J_zret cx dX3_becomes_76 hr (by first | rfl | exact z_X3_becomes ..) ⟨congrArg some (congrArg Value.int (by simp only [r_X3_becomes, if_neg c13_0, if_pos c13_1, if_pos c63, if_pos c68])), rfl, rfl⟩ (Nat.le_refl 0) (Nat.le_refl 0)
  by_cases c13_2 : w9 = 2
  · refine J_tableIn (off := 64) (tgt := 77) cx dX3_becomes_13 (by rw [c13_2]; decide) (by rw [c13_2]; decide) (by rw [c13_2]; rfl) (by decide) ?_
    refine J_aload_n cx dX3_becomes_77 rfl ?_
    refine T_get_g cx dX3_becomes_78 ?_
    refine J_iload_n cx dX3_becomes_81 rfl ?_
    refine T_callSI cx [.int (nI (p9))] (t_X3_at l Ω (p9)) dX3_becomes_82 (lw_S q2736 q2737 q93 q2738) hd_X3_at.2 rfl rfl ⟨Nat.le_of_ble_eq_true rfl, Nat.le_of_ble_eq_true rfl⟩ rfl rfl (Nat.le_of_ble_eq_true rfl) ?_
    refine J_iconst (v := nI (4)) cx dX3_becomes_85 (by decide) ?_
    refine J_iaddN cx dX3_becomes_86 ?_
    refine T_ld_g cx dX3_becomes_87 (by omega) ?_
    refine J_aload_n cx dX3_becomes_88 rfl ?_
    refine T_get_ct cx dX3_becomes_89 ?_
    refine J_icmp_le (tgt := 99) cx dX3_becomes_92 (by decide) (fun c92 => ?_) (fun c92 => ?_)
    · refine J_iconst (v := nI (0)) cx dX3_becomes_99 (by decide) ?_
      exact J_zret cx dX3_becomes_100 hr (by first | rfl | exact z_X3_becomes ..) ⟨congrArg some (congrArg Value.int (by simp only [r_X3_becomes, if_neg c13_0, if_neg c13_1, if_pos c13_2, if_pos c92])), rfl, rfl⟩ (Nat.le_refl 0) (Nat.le_refl 0)
    · refine J_iconst (v := nI (1)) cx dX3_becomes_95 (by decide) ?_
      refine J_goto (tgt := 100) cx dX3_becomes_96 (by decide) ?_
      exact J_zret cx dX3_becomes_100 hr (by first | rfl | exact z_X3_becomes ..) ⟨congrArg some (congrArg Value.int (by simp only [r_X3_becomes, if_neg c13_0, if_neg c13_1, if_pos c13_2, if_neg c92])), rfl, rfl⟩ (Nat.le_refl 0) (Nat.le_refl 0)
  have hout13 : w9.toInt < 0 ∨ 2 < w9.toInt := by
    have ec13_0 := jne_int (n := 0) 0 (by decide) c13_0
    have ec13_1 := jne_int (n := 1) 1 (by decide) c13_1
    have ec13_2 := jne_int (n := 2) 2 (by decide) c13_2
    omega
  refine J_tableOut (tgt := 101) cx dX3_becomes_13 hout13 (by decide) ?_
  refine J_aload_n cx dX3_becomes_101 rfl ?_
  refine T_get_st_ cx dX3_becomes_102 ?_
  refine J_iconst (v := nI (2)) cx dX3_becomes_105 (by decide) ?_
  refine J_icmp_ne (tgt := 118) cx dX3_becomes_106 (by decide) (fun c106 => ?_) (fun c106 => ?_)
  · refine J_iconst (v := nI (0)) cx dX3_becomes_118 (by decide) ?_
    exact J_zret cx dX3_becomes_119 hr (by first | rfl | exact z_X3_becomes ..) ⟨congrArg some (congrArg Value.int (by simp only [r_X3_becomes, if_neg c13_0, if_neg c13_1, if_neg c13_2, if_neg c106])), rfl, rfl⟩ (Nat.le_refl 0) (Nat.le_refl 0)
  · refine J_iload_n cx dX3_becomes_109 rfl ?_
    refine J_iconst (v := nI (3)) cx dX3_becomes_110 (by decide) ?_
    refine J_icmp_ne (tgt := 118) cx dX3_becomes_111 (by decide) (fun c111 => ?_) (fun c111 => ?_)
    · refine J_iconst (v := nI (0)) cx dX3_becomes_118 (by decide) ?_
      exact J_zret cx dX3_becomes_119 hr (by first | rfl | exact z_X3_becomes ..) ⟨congrArg some (congrArg Value.int (by simp only [r_X3_becomes, if_neg c13_0, if_neg c13_1, if_neg c13_2, if_pos c106, if_neg c111])), rfl, rfl⟩ (Nat.le_refl 0) (Nat.le_refl 0)
    · refine J_iconst (v := nI (1)) cx dX3_becomes_114 (by decide) ?_
      refine J_goto (tgt := 119) cx dX3_becomes_115 (by decide) ?_
      exact J_zret cx dX3_becomes_119 hr (by first | rfl | exact z_X3_becomes ..) ⟨congrArg some (congrArg Value.int (by simp only [r_X3_becomes, if_neg c13_0, if_neg c13_1, if_neg c13_2, if_pos c106, if_pos c111])), rfl, rfl⟩ (Nat.le_refl 0) (Nat.le_refl 0)
def r_X3_soldThen (g : Nat → Int32) : Int32 := ((S_fires2 (fireG g) (S_lostThen g 8) (S_shelfSet g 8) (tn (g (2)))).2)
def o_X3_soldThen_g (g : Nat → Int32) (as_ : Nat → Int32) : Nat → Int32 := (va_cpy (va_cpy g as_ 0 0 1108) ((S_fires2 (fireG g) (S_lostThen g 8) (S_shelfSet g 8) (tn (g (2)))).1) 0 0 1108)
theorem hd_X3_soldThen : yX3_soldThen.cls = RX3 ∧ yX3_soldThen.cls ≠ "java/lang/invoke/MethodHandle" ∧ yX3_soldThen.cls ≠ "java/lang/invoke/VarHandle" ∧ (parseMethodDescriptor yX3_soldThen.desc).map (fun d => d.parameters.length) = some 0 := by decide +kernel
set_option maxHeartbeats 4000000 in
theorem t_X3_soldThen (l : Launch) (Ω : jO) {t : Nat} {G0 : Mem} {g hi sv as_ inp why now told bef : Nat → Int32} {ch hs fed fa ws ns ct st_ pl iw sn : Int32} {sz : Nat} (ht : Ω.2.2.2 ≤ t)  (hfo : firesOk g) : Met l yX3_soldThen (ws_ yX3_soldThen cX3_soldThen 2 (some .int)) ({ frames := 6, cells := 0, slots := 0, locals := 128 }) (va_Pc [.ref t] (jWd Ω (tov Ω t G0 g hi sv as_ inp why now told bef ch hs fed fa ws ns ct st_ pl iw sn) sz)) (jQ Ω (jD (some (.int (r_X3_soldThen g))) (tov Ω t G0 (o_X3_soldThen_g g as_) hi sv (va_cpy g as_ 0 0 1108) inp why now told bef ch hs fed fa ws ns ct st_ pl iw sn) sz)) 0 0 (jB Ω) := by
  refine jMet (by decide) (Nat.le_of_ble_eq_true rfl) ?_
  intro p e s m args below meth c cx hr hnm
  refine J_loc [some (.ref t), none] rfl ?_
  refine J_aload_n cx dX3_soldThen_0 rfl ?_
  refine T_get_g cx dX3_soldThen_1 ?_
  refine J_iconst (v := nI (0)) cx dX3_soldThen_4 (by decide) ?_
  refine J_aload_n cx dX3_soldThen_5 rfl ?_
  refine T_get_as_ cx dX3_soldThen_6 ?_
  refine J_iconst (v := nI (0)) cx dX3_soldThen_9 (by decide) ?_
  refine T_callSV cx [.ref (t + 1), .int (nI (0)), .ref (t + 4), .int (nI (0))] (t_copy_g_as_ l Ω ht (0) (0) (by omega) (by omega)) dX3_soldThen_10 (lw_S q2701 q2702 q93 q2703) hd_X3_copy.2 rfl rfl ⟨Nat.le_of_ble_eq_true rfl, Nat.le_of_ble_eq_true rfl⟩ rfl rfl (Nat.le_of_ble_eq_true rfl) ?_
  refine J_aload_n cx dX3_soldThen_13 rfl ?_
  refine T_callI cx [] (t_X3_fires l Ω ht hfo) dX3_soldThen_14 (lw_V q2831 q2833 qs58 q93 q2834) hd_X3_fires rfl rfl ⟨Nat.le_of_ble_eq_true rfl, Nat.le_of_ble_eq_true rfl⟩ rfl rfl (Nat.le_of_ble_eq_true rfl) ?_
  refine J_istore_n1 cx dX3_soldThen_17 (by decide) rfl ?_
  refine J_aload_n cx dX3_soldThen_18 rfl ?_
  refine T_get_as_ cx dX3_soldThen_19 ?_
  refine J_iconst (v := nI (0)) cx dX3_soldThen_22 (by decide) ?_
  refine J_aload_n cx dX3_soldThen_23 rfl ?_
  refine T_get_g cx dX3_soldThen_24 ?_
  refine J_iconst (v := nI (0)) cx dX3_soldThen_27 (by decide) ?_
  refine T_callSV cx [.ref (t + 4), .int (nI (0)), .ref (t + 1), .int (nI (0))] (t_copy_as__g l Ω ht (0) (0) (by omega) (by omega)) dX3_soldThen_28 (lw_S q2701 q2702 q93 q2703) hd_X3_copy.2 rfl rfl ⟨Nat.le_of_ble_eq_true rfl, Nat.le_of_ble_eq_true rfl⟩ rfl rfl (Nat.le_of_ble_eq_true rfl) ?_
  refine J_iload_n cx dX3_soldThen_31 rfl ?_
  exact J_iret cx dX3_soldThen_32 hr ⟨congrArg some (congrArg Value.int (by simp only [r_X3_soldThen, o_X3_soldThen_g])), (tov_cg (by simp only [r_X3_soldThen, o_X3_soldThen_g]) rfl rfl rfl rfl rfl rfl rfl rfl rfl rfl rfl rfl rfl rfl rfl rfl rfl rfl rfl), rfl⟩ (Nat.le_refl 0) (Nat.le_refl 0)
def r_X3_kiln (g : Nat → Int32) (w9 : Int32) : Int32 := (if w9 = 0 then (S_shelfSet g 8) else (if w9 = (nI (1)) then (S_lostThen g 8) else (if w9 = (nI (2)) then (r_X3_soldThen g) else (-2))))
def o_X3_kiln_g (g : Nat → Int32) (as_ : Nat → Int32) (w9 : Int32) : Nat → Int32 := (if w9 = 0 then g else (if w9 = (nI (1)) then g else (if w9 = (nI (2)) then (o_X3_soldThen_g g as_) else g)))
def o_X3_kiln_as_ (g : Nat → Int32) (as_ : Nat → Int32) (w9 : Int32) : Nat → Int32 := (if w9 = 0 then as_ else (if w9 = (nI (1)) then as_ else (if w9 = (nI (2)) then ((va_cpy g as_ 0 0 1108)) else as_)))
theorem hd_X3_kiln : yX3_kiln.cls = RX3 ∧ yX3_kiln.cls ≠ "java/lang/invoke/MethodHandle" ∧ yX3_kiln.cls ≠ "java/lang/invoke/VarHandle" ∧ (parseMethodDescriptor yX3_kiln.desc).map (fun d => d.parameters.length) = some 1 := by decide +kernel
set_option maxHeartbeats 4000000 in
theorem t_X3_kiln (l : Launch) (Ω : jO) {t : Nat} {G0 : Mem} {g hi sv as_ inp why now told bef : Nat → Int32} {ch hs fed fa ws ns ct st_ pl iw sn : Int32} {sz : Nat} (ht : Ω.2.2.2 ≤ t) (w9 : Int32) (hfo : firesOk g) : Met l yX3_kiln (ws_ yX3_kiln cX3_kiln 2 (some .int)) ({ frames := 7, cells := 0, slots := 0, locals := 149 }) (va_Pc [.ref t, .int (w9)] (jWd Ω (tov Ω t G0 g hi sv as_ inp why now told bef ch hs fed fa ws ns ct st_ pl iw sn) sz)) (jQ Ω (jD (some (.int (r_X3_kiln g w9))) (tov Ω t G0 (o_X3_kiln_g g as_ w9) hi sv (o_X3_kiln_as_ g as_ w9) inp why now told bef ch hs fed fa ws ns ct st_ pl iw sn) sz)) 0 0 (jB Ω) := by
  refine jMet (by decide) (Nat.le_of_ble_eq_true rfl) ?_
  intro p e s m args below meth c cx hr hnm
  refine J_loc [some (.ref t), some (.int (w9))] rfl ?_
  refine J_iload_n cx dX3_kiln_0 rfl ?_
  refine J_if_ne (tgt := 11) cx dX3_kiln_1 (by decide) (fun c1 => ?_) (fun c1 => ?_)
  · refine J_iload_n cx dX3_kiln_11 rfl ?_
    refine J_iconst (v := nI (1)) cx dX3_kiln_12 (by decide) ?_
    refine J_icmp_ne (tgt := 23) cx dX3_kiln_13 (by decide) (fun c13 => ?_) (fun c13 => ?_)
    · refine J_iload_n cx dX3_kiln_23 rfl ?_
      refine J_iconst (v := nI (2)) cx dX3_kiln_24 (by decide) ?_
      refine J_icmp_ne (tgt := 35) cx dX3_kiln_25 (by decide) (fun c25 => ?_) (fun c25 => ?_)
      · refine J_bipush (v := -2) cx dX3_kiln_35 (by decide) ?_
        exact J_iret cx dX3_kiln_37 hr ⟨congrArg some (congrArg Value.int (by simp only [r_X3_kiln, o_X3_kiln_g, o_X3_kiln_as_, if_neg c1, if_neg c13, if_neg c25])), (tov_cg (by simp only [r_X3_kiln, o_X3_kiln_g, o_X3_kiln_as_, if_neg c1, if_neg c13, if_neg c25]) rfl rfl (by simp only [r_X3_kiln, o_X3_kiln_g, o_X3_kiln_as_, if_neg c1, if_neg c13, if_neg c25]) rfl rfl rfl rfl rfl rfl rfl rfl rfl rfl rfl rfl rfl rfl rfl rfl), rfl⟩ (Nat.le_refl 0) (Nat.le_refl 0)
      · refine J_aload_n cx dX3_kiln_28 rfl ?_
        refine T_callI cx [] (t_X3_soldThen l Ω ht hfo) dX3_kiln_29 (lw_V q2827 q2829 qs57 q93 q2830) hd_X3_soldThen rfl rfl ⟨Nat.le_of_ble_eq_true rfl, Nat.le_of_ble_eq_true rfl⟩ rfl rfl (Nat.le_of_ble_eq_true rfl) ?_
        refine J_goto (tgt := 37) cx dX3_kiln_32 (by decide) ?_
        exact J_iret cx dX3_kiln_37 hr ⟨congrArg some (congrArg Value.int (by simp only [r_X3_kiln, o_X3_kiln_g, o_X3_kiln_as_, if_neg c1, if_neg c13, if_pos c25])), (tov_cg (by simp only [r_X3_kiln, o_X3_kiln_g, o_X3_kiln_as_, if_neg c1, if_neg c13, if_pos c25]) rfl rfl (by simp only [r_X3_kiln, o_X3_kiln_g, o_X3_kiln_as_, if_neg c1, if_neg c13, if_pos c25]) rfl rfl rfl rfl rfl rfl rfl rfl rfl rfl rfl rfl rfl rfl rfl rfl), rfl⟩ (Nat.le_refl 0) (Nat.le_refl 0)
    · refine J_aload_n cx dX3_kiln_16 rfl ?_
      refine T_callI cx [] (t_X3_lostThen l Ω ht hfo.2.1) dX3_kiln_17 (lw_V q2819 q2821 qs55 q93 q2822) hd_X3_lostThen rfl rfl ⟨Nat.le_of_ble_eq_true rfl, Nat.le_of_ble_eq_true rfl⟩ rfl rfl (Nat.le_of_ble_eq_true rfl) ?_
      refine J_goto (tgt := 37) cx dX3_kiln_20 (by decide) ?_
      exact J_iret cx dX3_kiln_37 hr ⟨congrArg some (congrArg Value.int (by simp only [r_X3_kiln, o_X3_kiln_g, o_X3_kiln_as_, if_neg c1, if_pos c13])), (tov_cg (by simp only [r_X3_kiln, o_X3_kiln_g, o_X3_kiln_as_, if_neg c1, if_pos c13]) rfl rfl (by simp only [r_X3_kiln, o_X3_kiln_g, o_X3_kiln_as_, if_neg c1, if_pos c13]) rfl rfl rfl rfl rfl rfl rfl rfl rfl rfl rfl rfl rfl rfl rfl rfl), rfl⟩ (Nat.le_refl 0) (Nat.le_refl 0)
  · refine J_aload_n cx dX3_kiln_4 rfl ?_
    refine T_callI cx [] (t_X3_shelfSet l Ω ht) dX3_kiln_5 (lw_V q2815 q2817 qs54 q93 q2818) hd_X3_shelfSet rfl rfl ⟨Nat.le_of_ble_eq_true rfl, Nat.le_of_ble_eq_true rfl⟩ rfl rfl (Nat.le_of_ble_eq_true rfl) ?_
    refine J_goto (tgt := 37) cx dX3_kiln_8 (by decide) ?_
    exact J_iret cx dX3_kiln_37 hr ⟨congrArg some (congrArg Value.int (by simp only [r_X3_kiln, o_X3_kiln_g, o_X3_kiln_as_, if_pos c1])), (tov_cg (by simp only [r_X3_kiln, o_X3_kiln_g, o_X3_kiln_as_, if_pos c1]) rfl rfl (by simp only [r_X3_kiln, o_X3_kiln_g, o_X3_kiln_as_, if_pos c1]) rfl rfl rfl rfl rfl rfl rfl rfl rfl rfl rfl rfl rfl rfl rfl rfl), rfl⟩ (Nat.le_refl 0) (Nat.le_refl 0)
def r_X3_fire (g : Nat → Int32) : Int32 := (if (r_X3_mayFire g) = 0 then (S_ones ((S_fires2 (fireG g) (S_lostThen g 8) (S_shelfSet g 8) (tn (g (2)))).2) 16) else (-5))
def o_X3_fire_g (g : Nat → Int32) : Nat → Int32 := (if (r_X3_mayFire g) = 0 then ((S_fires2 (fireG g) (S_lostThen g 8) (S_shelfSet g 8) (tn (g (2)))).1) else g)
def o_X3_fire_hi (g : Nat → Int32) (hi : Nat → Int32) (ch : Int32) : Nat → Int32 := (if (r_X3_mayFire g) = 0 then (o_X3_remembers_hi g hi ch) else hi)
def o_X3_fire_now (g : Nat → Int32) (now : Nat → Int32) : Nat → Int32 := (if (r_X3_mayFire g) = 0 then (o_X3_mayFire_now g now) else (o_X3_mayFire_now g now))
def o_X3_fire_ch (g : Nat → Int32) (ch : Int32) : Int32 := (if (r_X3_mayFire g) = 0 then (o_X3_remembers_ch ch) else ch)
def o_X3_fire_ns (g : Nat → Int32) (ns : Int32) : Int32 := (if (r_X3_mayFire g) = 0 then (o_X3_mayFire_ns g ns) else (o_X3_mayFire_ns g ns))
def o_X3_fire_why (g : Nat → Int32) (why : Nat → Int32) (now : Nat → Int32) (ns : Int32) : Nat → Int32 := (if (r_X3_mayFire g) = 0 then why else (S_refused why (o_X3_mayFire_now g now) (2 * tn (o_X3_mayFire_ns g ns))))
def o_X3_fire_ws (g : Nat → Int32) (ws : Int32) (ns : Int32) : Int32 := (if (r_X3_mayFire g) = 0 then ws else (nI (tn (o_X3_mayFire_ns g ns))))
theorem hd_X3_fire : yX3_fire.cls = RX3 ∧ yX3_fire.cls ≠ "java/lang/invoke/MethodHandle" ∧ yX3_fire.cls ≠ "java/lang/invoke/VarHandle" ∧ (parseMethodDescriptor yX3_fire.desc).map (fun d => d.parameters.length) = some 0 := by decide +kernel
set_option maxHeartbeats 4000000 in
theorem t_X3_fire (l : Launch) (Ω : jO) {t : Nat} {G0 : Mem} {g hi sv as_ inp why now told bef : Nat → Int32} {ch hs fed fa ws ns ct st_ pl iw sn : Int32} {sz : Nat} (ht : Ω.2.2.2 ≤ t)  (hch : ch = nI (tn ch)) (hch8 : tn ch ≤ 8) (hns : NsOk ns) (hfo : firesOk g) : Met l yX3_fire (ws_ yX3_fire cX3_fire 1 (some .int)) ({ frames := 6, cells := 0, slots := 0, locals := 128 }) (va_Pc [.ref t] (jWd Ω (tov Ω t G0 g hi sv as_ inp why now told bef ch hs fed fa ws ns ct st_ pl iw sn) sz)) (jQ Ω (jD (some (.int (r_X3_fire g))) (tov Ω t G0 (o_X3_fire_g g) (o_X3_fire_hi g hi ch) sv as_ inp (o_X3_fire_why g why now ns) (o_X3_fire_now g now) told bef (o_X3_fire_ch g ch) hs fed fa (o_X3_fire_ws g ws ns) (o_X3_fire_ns g ns) ct st_ pl iw sn) sz)) 0 0 (jB Ω) := by
  refine jMet (by decide) (Nat.le_of_ble_eq_true rfl) ?_
  intro p e s m args below meth c cx hr hnm
  refine J_loc [some (.ref t)] rfl ?_
  refine J_aload_n cx dX3_fire_0 rfl ?_
  refine T_callI cx [] (t_X3_mayFire l Ω ht) dX3_fire_1 (lw_V q2847 q2849 qs61 q93 q2850) hd_X3_mayFire rfl rfl ⟨Nat.le_of_ble_eq_true rfl, Nat.le_of_ble_eq_true rfl⟩ rfl rfl (Nat.le_of_ble_eq_true rfl) ?_
  refine J_if_eq (tgt := 12) cx dX3_fire_4 (by decide) (fun c4 => ?_) (fun c4 => ?_)
  · refine J_aload_n cx dX3_fire_12 rfl ?_
    refine T_callV cx [] (t_X3_remembers l Ω ht hch hch8) dX3_fire_13 (lw_V q2697 q2699 qs40 q93 q2700) hd_X3_remembers rfl rfl ⟨Nat.le_of_ble_eq_true rfl, Nat.le_of_ble_eq_true rfl⟩ rfl rfl (Nat.le_of_ble_eq_true rfl) ?_
    refine J_aload_n cx dX3_fire_16 rfl ?_
    refine T_callI cx [] (t_X3_fires l Ω ht hfo) dX3_fire_17 (lw_V q2831 q2833 qs58 q93 q2834) hd_X3_fires rfl rfl ⟨Nat.le_of_ble_eq_true rfl, Nat.le_of_ble_eq_true rfl⟩ rfl rfl (Nat.le_of_ble_eq_true rfl) ?_
    refine T_callSI cx [.int ((S_fires2 (fireG g) (S_lostThen g 8) (S_shelfSet g 8) (tn (g (2)))).2)] (t_X3_ones l Ω ((S_fires2 (fireG g) (S_lostThen g 8) (S_shelfSet g 8) (tn (g (2)))).2)) dX3_fire_20 (lw_S q2855 q2856 q93 q2857) hd_X3_ones.2 rfl rfl ⟨Nat.le_of_ble_eq_true rfl, Nat.le_of_ble_eq_true rfl⟩ rfl rfl (Nat.le_of_ble_eq_true rfl) ?_
    exact J_iret cx dX3_fire_23 hr ⟨congrArg some (congrArg Value.int (by simp only [r_X3_fire, o_X3_fire_g, o_X3_fire_hi, o_X3_fire_now, o_X3_fire_ch, o_X3_fire_ns, o_X3_fire_why, o_X3_fire_ws, if_pos c4])), (tov_cg (by simp only [r_X3_fire, o_X3_fire_g, o_X3_fire_hi, o_X3_fire_now, o_X3_fire_ch, o_X3_fire_ns, o_X3_fire_why, o_X3_fire_ws, if_pos c4]) (by simp only [r_X3_fire, o_X3_fire_g, o_X3_fire_hi, o_X3_fire_now, o_X3_fire_ch, o_X3_fire_ns, o_X3_fire_why, o_X3_fire_ws, if_pos c4]) rfl rfl rfl (by simp only [r_X3_fire, o_X3_fire_g, o_X3_fire_hi, o_X3_fire_now, o_X3_fire_ch, o_X3_fire_ns, o_X3_fire_why, o_X3_fire_ws, if_pos c4]) (by simp only [r_X3_fire, o_X3_fire_g, o_X3_fire_hi, o_X3_fire_now, o_X3_fire_ch, o_X3_fire_ns, o_X3_fire_why, o_X3_fire_ws, if_pos c4]) rfl rfl (by simp only [r_X3_fire, o_X3_fire_g, o_X3_fire_hi, o_X3_fire_now, o_X3_fire_ch, o_X3_fire_ns, o_X3_fire_why, o_X3_fire_ws, if_pos c4]) rfl rfl rfl (by simp only [r_X3_fire, o_X3_fire_g, o_X3_fire_hi, o_X3_fire_now, o_X3_fire_ch, o_X3_fire_ns, o_X3_fire_why, o_X3_fire_ws, if_pos c4]) (by simp only [r_X3_fire, o_X3_fire_g, o_X3_fire_hi, o_X3_fire_now, o_X3_fire_ch, o_X3_fire_ns, o_X3_fire_why, o_X3_fire_ws, if_pos c4]) rfl rfl rfl rfl rfl), rfl⟩ (Nat.le_refl 0) (Nat.le_refl 0)
  · refine J_aload_n cx dX3_fire_7 rfl ?_
    refine T_callI cx [] (t_X3_refused l Ω ht (nsk_mayFire _ hns).1 (nsk_mayFire _ hns).2) dX3_fire_8 (lw_V q2720 q2722 qs42 q93 q2723) hd_X3_refused rfl rfl ⟨Nat.le_of_ble_eq_true rfl, Nat.le_of_ble_eq_true rfl⟩ rfl rfl (Nat.le_of_ble_eq_true rfl) ?_
    exact J_iret cx dX3_fire_11 hr ⟨congrArg some (congrArg Value.int (by simp only [r_X3_fire, o_X3_fire_g, o_X3_fire_hi, o_X3_fire_now, o_X3_fire_ch, o_X3_fire_ns, o_X3_fire_why, o_X3_fire_ws, if_neg c4])), (tov_cg (by simp only [r_X3_fire, o_X3_fire_g, o_X3_fire_hi, o_X3_fire_now, o_X3_fire_ch, o_X3_fire_ns, o_X3_fire_why, o_X3_fire_ws, if_neg c4]) (by simp only [r_X3_fire, o_X3_fire_g, o_X3_fire_hi, o_X3_fire_now, o_X3_fire_ch, o_X3_fire_ns, o_X3_fire_why, o_X3_fire_ws, if_neg c4]) rfl rfl rfl (by simp only [r_X3_fire, o_X3_fire_g, o_X3_fire_hi, o_X3_fire_now, o_X3_fire_ch, o_X3_fire_ns, o_X3_fire_why, o_X3_fire_ws, if_neg c4]) (by simp only [r_X3_fire, o_X3_fire_g, o_X3_fire_hi, o_X3_fire_now, o_X3_fire_ch, o_X3_fire_ns, o_X3_fire_why, o_X3_fire_ws, if_neg c4]) rfl rfl (by simp only [r_X3_fire, o_X3_fire_g, o_X3_fire_hi, o_X3_fire_now, o_X3_fire_ch, o_X3_fire_ns, o_X3_fire_why, o_X3_fire_ws, if_neg c4]) rfl rfl rfl (by simp only [r_X3_fire, o_X3_fire_g, o_X3_fire_hi, o_X3_fire_now, o_X3_fire_ch, o_X3_fire_ns, o_X3_fire_why, o_X3_fire_ws, if_neg c4]) (by simp only [r_X3_fire, o_X3_fire_g, o_X3_fire_hi, o_X3_fire_now, o_X3_fire_ch, o_X3_fire_ns, o_X3_fire_why, o_X3_fire_ws, if_neg c4]) rfl rfl rfl rfl rfl), rfl⟩ (Nat.le_refl 0) (Nat.le_refl 0)
def r_X3_moisture (g : Nat → Int32) (p9 : Int32) : UInt32 := (if ((r_X3_in p9 (nI (0)) ((g (2)) - (nI (1))))) = 0 then 3212836864 else ((g ((50 + (13 * (tn p9))) + 11)).toUInt32))
theorem hd_X3_moisture : yX3_moisture.cls = RX3 ∧ yX3_moisture.cls ≠ "java/lang/invoke/MethodHandle" ∧ yX3_moisture.cls ≠ "java/lang/invoke/VarHandle" ∧ (parseMethodDescriptor yX3_moisture.desc).map (fun d => d.parameters.length) = some 1 := by decide +kernel
set_option maxHeartbeats 4000000 in
theorem t_X3_moisture (l : Launch) (Ω : jO) {t : Nat} {G0 : Mem} {g hi sv as_ inp why now told bef : Nat → Int32} {ch hs fed fa ws ns ct st_ pl iw sn : Int32} {sz : Nat} (ht : Ω.2.2.2 ≤ t) (p9 : Int32) (hn2 : g 2 = nI (tn (g 2))) (hn16 : tn (g 2) ≤ 16) (hsn : ∀ k, k < tn (g 2) → vn_sni2f (g ((50 + (13 * k)) + 11)) = false) : Met l yX3_moisture (ws_ yX3_moisture cX3_moisture 2 (some .float)) ({ frames := 3, cells := 0, slots := 0, locals := 55 }) (va_Pc [.ref t, .int (p9)] (jWd Ω (tov Ω t G0 g hi sv as_ inp why now told bef ch hs fed fa ws ns ct st_ pl iw sn) sz)) (jQ Ω (jD (some (.float (r_X3_moisture g p9))) (tov Ω t G0 g hi sv as_ inp why now told bef ch hs fed fa ws ns ct st_ pl iw sn) sz)) 0 0 (jB Ω) := by
  refine jMet (by decide) (Nat.le_of_ble_eq_true rfl) ?_
  intro p e s m args below meth c cx hr hnm
  refine J_loc [some (.ref t), some (.int (p9))] rfl ?_
  refine J_aload_n cx dX3_moisture_0 rfl ?_
  refine J_iload_n cx dX3_moisture_1 rfl ?_
  refine T_callI cx [.int (p9)] (t_X3_isPot l Ω ht (p9)) dX3_moisture_2 (lw_V q2743 q2745 qs45 q93 q2746) hd_X3_isPot rfl rfl ⟨Nat.le_of_ble_eq_true rfl, Nat.le_of_ble_eq_true rfl⟩ rfl rfl (Nat.le_of_ble_eq_true rfl) ?_
  refine J_if_eq (tgt := 16) cx dX3_moisture_5 (by decide) (fun c5 => ?_) (fun c5 => ?_)
  · refine J_ldcf cx dX3_moisture_16 q2762 ?_
    exact J_fret cx dX3_moisture_18 hr ⟨congrArg some (congrArg Value.float (by simp only [r_X3_moisture, if_pos c5])), rfl, rfl⟩ (Nat.le_refl 0) (Nat.le_refl 0)
  · have hx8_1 := (in_m1 hn2 c5).2
    have hre8_1 : p9 = nI (tn p9) := (in_m1 hn2 c5).1
    refine J_loc [some (.ref t), some (.int (nI (tn p9)))] (by simp only [← hre8_1]) ?_
    refine J_aload_n cx dX3_moisture_8 rfl ?_
    refine J_iload_n cx dX3_moisture_9 rfl ?_
    refine T_callF cx [.int (nI (tn p9))] (t_X3_moistureOf l Ω ht (tn p9) (by omega) (hsn _ hx8_1)) dX3_moisture_10 (lw_V q2755 q2757 qs47 q93 q2758) hd_X3_moistureOf rfl rfl ⟨Nat.le_of_ble_eq_true rfl, Nat.le_of_ble_eq_true rfl⟩ rfl rfl (Nat.le_of_ble_eq_true rfl) ?_
    refine J_goto (tgt := 18) cx dX3_moisture_13 (by decide) ?_
    exact J_fret cx dX3_moisture_18 hr ⟨congrArg some (congrArg Value.float (by simp only [r_X3_moisture, if_neg c5])), rfl, rfl⟩ (Nat.le_refl 0) (Nat.le_refl 0)
def mOk (m : UInt32) (d r : Int32) : Prop := vf_n32 (FP.fmul m (FP.i2f (d * (nI (11) - r)))) ∧ vf_n32 (FP.fdiv (FP.fmul m (FP.i2f (d * (nI (11) - r)))) 1148846080) ∧ vf_n32 (FP.fsub m (FP.fdiv (FP.fmul m (FP.i2f (d * (nI (11) - r)))) 1148846080))
def w_ma (g : Nat → Int32) (q9 : Nat) : UInt32 := if g ((50 + (13 * q9)) + 12) = nI (1) then FP.fconst1 else FP.fconst0
def S_ma (g : Nat → Int32) (q9 : Nat) : Nat → UInt32
  | 0 => (w_ma g q9)
  | k1 + 1 => (if (((g (707 + (k1 + 1))) >>> ((nI q9) &&& 31)) &&& (nI (1))) = (nI (1)) then (if (((g (707 + (k1 + 1))) >>> ((nI (16 + q9)) &&& 31)) &&& (nI (1))) = (nI (1)) then (FP.fsub (S_ma g q9 k1) (r_X3_loss (S_ma g q9 k1) ((g (306 + (k1 + 1))) / (nI (2))) (g ((50 + (13 * q9)) + 3)))) else (FP.fsub (S_ma g q9 k1) (r_X3_loss (S_ma g q9 k1) (g (306 + (k1 + 1))) (g ((50 + (13 * q9)) + 3))))) else (S_ma g q9 k1))
def r_X3_moistureAgain (g : Nat → Int32) (p9 : Int32) : UInt32 := (if ((r_X3_in p9 (nI (0)) ((g (2)) - (nI (1))))) = 0 then 3212836864 else (S_ma g (tn p9) (tn (g (0)))))
theorem hd_X3_moistureAgain : yX3_moistureAgain.cls = RX3 ∧ yX3_moistureAgain.cls ≠ "java/lang/invoke/MethodHandle" ∧ yX3_moistureAgain.cls ≠ "java/lang/invoke/VarHandle" ∧ (parseMethodDescriptor yX3_moistureAgain.desc).map (fun d => d.parameters.length) = some 1 := by decide +kernel
set_option maxHeartbeats 4000000 in
theorem t_X3_moistureAgain (l : Launch) (Ω : jO) {t : Nat} {G0 : Mem} {g hi sv as_ inp why now told bef : Nat → Int32} {ch hs fed fa ws ns ct st_ pl iw sn : Int32} {sz : Nat} (ht : Ω.2.2.2 ≤ t) (p9 : Int32) (hn2 : g 2 = nI (tn (g 2))) (hn16 : tn (g 2) ≤ 16) (hck : g 0 = nI (tn (g 0))) (hck4 : tn (g 0) ≤ 400) (hA : ∀ k, k < tn (g 0) → (((g (707 + (k + 1))) >>> ((nI (tn p9)) &&& 31)) &&& (nI (1))) = nI (1) → (((g (707 + (k + 1))) >>> ((nI (16 + (tn p9))) &&& 31)) &&& (nI (1))) = nI (1) → mOk (S_ma g (tn p9) k) ((g (306 + (k + 1))) / (nI (2))) (g ((50 + (13 * (tn p9))) + 3))) (hB : ∀ k, k < tn (g 0) → (((g (707 + (k + 1))) >>> ((nI (tn p9)) &&& 31)) &&& (nI (1))) = nI (1) → ¬ (((g (707 + (k + 1))) >>> ((nI (16 + (tn p9))) &&& 31)) &&& (nI (1))) = nI (1) → mOk (S_ma g (tn p9) k) (g (306 + (k + 1))) (g ((50 + (13 * (tn p9))) + 3))) : Met l yX3_moistureAgain (ws_ yX3_moistureAgain cX3_moistureAgain 5 (some .float)) ({ frames := 3, cells := 0, slots := 0, locals := 55 }) (va_Pc [.ref t, .int (p9)] (jWd Ω (tov Ω t G0 g hi sv as_ inp why now told bef ch hs fed fa ws ns ct st_ pl iw sn) sz)) (jQ Ω (jD (some (.float (r_X3_moistureAgain g p9))) (tov Ω t G0 g hi sv as_ inp why now told bef ch hs fed fa ws ns ct st_ pl iw sn) sz)) 0 0 (jB Ω) := by
  refine jMet (by decide) (Nat.le_of_ble_eq_true rfl) ?_
  intro p e s m args below meth c cx hr hnm
  refine J_loc [some (.ref t), some (.int (p9)), none, none, none] rfl ?_
  refine J_aload_n cx dX3_moistureAgain_0 rfl ?_
  refine J_iload_n cx dX3_moistureAgain_1 rfl ?_
  refine T_callI cx [.int (p9)] (t_X3_isPot l Ω ht (p9)) dX3_moistureAgain_2 (lw_V q2743 q2745 qs45 q93 q2746) hd_X3_isPot rfl rfl ⟨Nat.le_of_ble_eq_true rfl, Nat.le_of_ble_eq_true rfl⟩ rfl rfl (Nat.le_of_ble_eq_true rfl) ?_
  refine J_if_ne (tgt := 11) cx dX3_moistureAgain_5 (by decide) (fun c5 => ?_) (fun c5 => ?_)
  · have hx11_1 := (in_m1 hn2 c5).2
    have hre11_1 : p9 = nI (tn p9) := (in_m1 hn2 c5).1
    refine J_loc [some (.ref t), some (.int (nI (tn p9))), none, none, none] (by simp only [← hre11_1]) ?_
    have K32 : J p l e ({ frames := 3, cells := 0, slots := 0, locals := 55 } : Room) s m args below meth c Ω 5 (MQ below (jQ Ω (jD (some (.float (r_X3_moistureAgain g p9))) (tov Ω t G0 g hi sv as_ inp why now told bef ch hs fed fa ws ns ct st_ pl iw sn) sz)) args s 0 0 (jB Ω)) 0 0 sz (tov Ω t G0 g hi sv as_ inp why now told bef ch hs fed fa ws ns ct st_ pl iw sn) 32 [some (.ref t), some (.int (nI (tn p9))), none, none, none] [.float (w_ma g (tn p9))] := by
      refine J_fstore_n2 cx dX3_moistureAgain_32 (by decide) rfl ?_
      refine J_iconst (v := nI (1)) cx dX3_moistureAgain_33 (by decide) ?_
      refine J_istore_n3 cx dX3_moistureAgain_34 (by decide) rfl ?_
      have loop35 : ∀ (n k1 : Nat), (tn (g (0))) + 1 ≤ n + k1 → k1 ≤ (tn (g (0))) → J p l e ({ frames := 3, cells := 0, slots := 0, locals := 55 } : Room) s m args below meth c Ω 5 (MQ below (jQ Ω (jD (some (.float (r_X3_moistureAgain g p9))) (tov Ω t G0 g hi sv as_ inp why now told bef ch hs fed fa ws ns ct st_ pl iw sn) sz)) args s 0 0 (jB Ω)) 0 0 sz (tov Ω t G0 g hi sv as_ inp why now told bef ch hs fed fa ws ns ct st_ pl iw sn) 35 [some (.ref t), some (.int (nI (tn p9))), some (.float (S_ma g (tn p9) k1)), some (.int (nI (k1 + 1))), none] [] := by
        intro n
        induction n with
        | zero => intro k1 hn1 hk1 ; exact absurd hn1 (by omega)
        | succ n ih =>
          intro k1 hn1 hk1 
          refine J_iload_n cx dX3_moistureAgain_35 rfl ?_
          refine J_aload_n cx dX3_moistureAgain_36 rfl ?_
          refine T_get_g cx dX3_moistureAgain_37 ?_
          refine J_iconst (v := nI (0)) cx dX3_moistureAgain_40 (by decide) ?_
          refine T_ld_g cx dX3_moistureAgain_41 (by omega) ?_
          refine J_top (.int (nI (tn (g (0))))) (congrArg Value.int (hck)) ?_
          refine J_icmpN_gt (tgt := 137) cx dX3_moistureAgain_42 (by decide) (by omega) (by omega) (fun c42 => ?_) (fun c42 => ?_)
          · have hkx : tn (g (0)) = k1 := Eq.symm (by omega)
            subst hkx
            refine J_fload_n cx dX3_moistureAgain_137 rfl ?_
            exact J_fret cx dX3_moistureAgain_138 hr ⟨congrArg some (congrArg Value.float (by simp only [r_X3_moistureAgain, if_neg c5, if_pos c42])), rfl, rfl⟩ (Nat.le_refl 0) (Nat.le_refl 0)
          · refine J_aload_n cx dX3_moistureAgain_45 rfl ?_
            refine T_get_g cx dX3_moistureAgain_46 ?_
            refine J_sipush (v := nI (707)) cx dX3_moistureAgain_49 (by decide) ?_
            refine J_iload_n cx dX3_moistureAgain_52 rfl ?_
            refine J_iaddN cx dX3_moistureAgain_53 ?_
            refine T_ld_g cx dX3_moistureAgain_54 (by omega) ?_
            refine J_iload_n cx dX3_moistureAgain_55 rfl ?_
            refine J_ishr cx dX3_moistureAgain_56 ?_
            refine J_iconst (v := nI (1)) cx dX3_moistureAgain_57 (by decide) ?_
            refine J_iand cx dX3_moistureAgain_58 ?_
            refine J_iconst (v := nI (1)) cx dX3_moistureAgain_59 (by decide) ?_
            refine J_icmp_ne (tgt := 131) cx dX3_moistureAgain_60 (by decide) (fun c60 => ?_) (fun c60 => ?_)
            · refine J_iinc3 (v := nI ((k1 + 1) + 1)) cx dX3_moistureAgain_131 (nI_1 (k1 + 1)) (by decide) rfl ?_
              refine J_goto (tgt := 35) cx dX3_moistureAgain_134 (by decide) ?_
              refine J_sub (L1 := [some (.ref t), some (.int (nI (tn p9))), some (.float (S_ma g (tn p9) (k1 + 1))), some (.int (nI ((k1 + 1) + 1))), none]) (jsub_s (jsub_s (jsub_e (congrArg Value.float (by simp only [S_ma, if_neg c5, if_neg (Nat.not_lt.mpr c42), if_neg c60])) (jsub_s (jsub_n jsub_0))))) ?_
              exact ih (k1 + 1) (by omega) (by omega) 
            · refine J_aload_n cx dX3_moistureAgain_63 rfl ?_
              refine T_get_g cx dX3_moistureAgain_64 ?_
              refine J_sipush (v := nI (707)) cx dX3_moistureAgain_67 (by decide) ?_
              refine J_iload_n cx dX3_moistureAgain_70 rfl ?_
              refine J_iaddN cx dX3_moistureAgain_71 ?_
              refine T_ld_g cx dX3_moistureAgain_72 (by omega) ?_
              refine J_bipush (v := nI (16)) cx dX3_moistureAgain_73 (by decide) ?_
              refine J_iload_n cx dX3_moistureAgain_75 rfl ?_
              refine J_iaddN cx dX3_moistureAgain_76 ?_
              refine J_ishr cx dX3_moistureAgain_77 ?_
              refine J_iconst (v := nI (1)) cx dX3_moistureAgain_78 (by decide) ?_
              refine J_iand cx dX3_moistureAgain_79 ?_
              refine J_iconst (v := nI (1)) cx dX3_moistureAgain_80 (by decide) ?_
              refine J_icmp_ne (tgt := 99) cx dX3_moistureAgain_81 (by decide) (fun c81 => ?_) (fun c81 => ?_)
              · have hm9 := hB k1 (by omega) c60 c81
                refine J_aload_n cx dX3_moistureAgain_99 rfl ?_
                refine T_get_g cx dX3_moistureAgain_100 ?_
                refine J_sipush (v := nI (306)) cx dX3_moistureAgain_103 (by decide) ?_
                refine J_iload_n cx dX3_moistureAgain_106 rfl ?_
                refine J_iaddN cx dX3_moistureAgain_107 ?_
                refine T_ld_g cx dX3_moistureAgain_108 (by omega) ?_
                refine J_istore4 cx dX3_moistureAgain_109 (by decide) rfl ?_
                refine J_fload_n cx dX3_moistureAgain_111 rfl ?_
                refine J_fload_n cx dX3_moistureAgain_112 rfl ?_
                refine J_iload cx dX3_moistureAgain_113 rfl ?_
                refine J_aload_n cx dX3_moistureAgain_115 rfl ?_
                refine T_get_g cx dX3_moistureAgain_116 ?_
                refine J_iload_n cx dX3_moistureAgain_119 rfl ?_
                refine T_callSI cx [.int (nI (tn p9))] (t_X3_at l Ω (tn p9)) dX3_moistureAgain_120 (lw_S q2736 q2737 q93 q2738) hd_X3_at.2 rfl rfl ⟨Nat.le_of_ble_eq_true rfl, Nat.le_of_ble_eq_true rfl⟩ rfl rfl (Nat.le_of_ble_eq_true rfl) ?_
                refine J_iconst (v := nI (3)) cx dX3_moistureAgain_123 (by decide) ?_
                refine J_iaddN cx dX3_moistureAgain_124 ?_
                refine T_ld_g cx dX3_moistureAgain_125 (by omega) ?_
                refine T_callSF cx [.float (S_ma g (tn p9) k1), .int (g (306 + (k1 + 1))), .int (g ((50 + (13 * (tn p9))) + 3))] (t_X3_loss l Ω (S_ma g (tn p9) k1) (g (306 + (k1 + 1))) (g ((50 + (13 * (tn p9))) + 3)) hm9.1 hm9.2.1) dX3_moistureAgain_126 (lw_S q2767 q2768 q93 q2769) hd_X3_loss.2 rfl rfl ⟨Nat.le_of_ble_eq_true rfl, Nat.le_of_ble_eq_true rfl⟩ rfl rfl (Nat.le_of_ble_eq_true rfl) ?_
                refine J_fsub cx dX3_moistureAgain_129 hm9.2.2 ?_
                refine J_fstore_n2 cx dX3_moistureAgain_130 (by decide) rfl ?_
                refine J_iinc3 (v := nI ((k1 + 1) + 1)) cx dX3_moistureAgain_131 (nI_1 (k1 + 1)) (by decide) rfl ?_
                refine J_goto (tgt := 35) cx dX3_moistureAgain_134 (by decide) ?_
                refine J_sub (L1 := [some (.ref t), some (.int (nI (tn p9))), some (.float (S_ma g (tn p9) (k1 + 1))), some (.int (nI ((k1 + 1) + 1))), none]) (jsub_s (jsub_s (jsub_e (congrArg Value.float (by simp only [S_ma, if_neg c5, if_neg (Nat.not_lt.mpr c42), if_pos c60, if_neg c81])) (jsub_s (jsub_n jsub_0))))) ?_
                exact ih (k1 + 1) (by omega) (by omega) 
              · have hm9 := hA k1 (by omega) c60 c81
                refine J_aload_n cx dX3_moistureAgain_84 rfl ?_
                refine T_get_g cx dX3_moistureAgain_85 ?_
                refine J_sipush (v := nI (306)) cx dX3_moistureAgain_88 (by decide) ?_
                refine J_iload_n cx dX3_moistureAgain_91 rfl ?_
                refine J_iaddN cx dX3_moistureAgain_92 ?_
                refine T_ld_g cx dX3_moistureAgain_93 (by omega) ?_
                refine J_iconst (v := nI (2)) cx dX3_moistureAgain_94 (by decide) ?_
                refine J_idiv cx dX3_moistureAgain_95 (nI_ne0 (by decide) (by decide)) ?_
                refine J_goto (tgt := 109) cx dX3_moistureAgain_96 (by decide) ?_
                refine J_istore4 cx dX3_moistureAgain_109 (by decide) rfl ?_
                refine J_fload_n cx dX3_moistureAgain_111 rfl ?_
                refine J_fload_n cx dX3_moistureAgain_112 rfl ?_
                refine J_iload cx dX3_moistureAgain_113 rfl ?_
                refine J_aload_n cx dX3_moistureAgain_115 rfl ?_
                refine T_get_g cx dX3_moistureAgain_116 ?_
                refine J_iload_n cx dX3_moistureAgain_119 rfl ?_
                refine T_callSI cx [.int (nI (tn p9))] (t_X3_at l Ω (tn p9)) dX3_moistureAgain_120 (lw_S q2736 q2737 q93 q2738) hd_X3_at.2 rfl rfl ⟨Nat.le_of_ble_eq_true rfl, Nat.le_of_ble_eq_true rfl⟩ rfl rfl (Nat.le_of_ble_eq_true rfl) ?_
                refine J_iconst (v := nI (3)) cx dX3_moistureAgain_123 (by decide) ?_
                refine J_iaddN cx dX3_moistureAgain_124 ?_
                refine T_ld_g cx dX3_moistureAgain_125 (by omega) ?_
                refine T_callSF cx [.float (S_ma g (tn p9) k1), .int ((g (306 + (k1 + 1))) / (nI (2))), .int (g ((50 + (13 * (tn p9))) + 3))] (t_X3_loss l Ω (S_ma g (tn p9) k1) ((g (306 + (k1 + 1))) / (nI (2))) (g ((50 + (13 * (tn p9))) + 3)) hm9.1 hm9.2.1) dX3_moistureAgain_126 (lw_S q2767 q2768 q93 q2769) hd_X3_loss.2 rfl rfl ⟨Nat.le_of_ble_eq_true rfl, Nat.le_of_ble_eq_true rfl⟩ rfl rfl (Nat.le_of_ble_eq_true rfl) ?_
                refine J_fsub cx dX3_moistureAgain_129 hm9.2.2 ?_
                refine J_fstore_n2 cx dX3_moistureAgain_130 (by decide) rfl ?_
                refine J_iinc3 (v := nI ((k1 + 1) + 1)) cx dX3_moistureAgain_131 (nI_1 (k1 + 1)) (by decide) rfl ?_
                refine J_goto (tgt := 35) cx dX3_moistureAgain_134 (by decide) ?_
                refine J_sub (L1 := [some (.ref t), some (.int (nI (tn p9))), some (.float (S_ma g (tn p9) (k1 + 1))), some (.int (nI ((k1 + 1) + 1))), none]) (jsub_s (jsub_s (jsub_e (congrArg Value.float (by simp only [S_ma, if_neg c5, if_neg (Nat.not_lt.mpr c42), if_pos c60, if_pos c81])) (jsub_s (jsub_n jsub_0))))) ?_
                exact ih (k1 + 1) (by omega) (by omega) 
      refine J_sub (L1 := [some (.ref t), some (.int (nI (tn p9))), some (.float (S_ma g (tn p9) 0)), some (.int (nI (0 + 1))), none]) (jsub_s (jsub_s (jsub_e (congrArg Value.float rfl) (jsub_e (congrArg Value.int rfl) (jsub_n jsub_0))))) ?_
      exact loop35 (tn (g (0)) + 1) 0 (by omega) (by omega) 
    refine J_aload_n cx dX3_moistureAgain_11 rfl ?_
    refine T_get_g cx dX3_moistureAgain_12 ?_
    refine J_iload_n cx dX3_moistureAgain_15 rfl ?_
    refine T_callSI cx [.int (nI (tn p9))] (t_X3_at l Ω (tn p9)) dX3_moistureAgain_16 (lw_S q2736 q2737 q93 q2738) hd_X3_at.2 rfl rfl ⟨Nat.le_of_ble_eq_true rfl, Nat.le_of_ble_eq_true rfl⟩ rfl rfl (Nat.le_of_ble_eq_true rfl) ?_
    refine J_bipush (v := nI (12)) cx dX3_moistureAgain_19 (by decide) ?_
    refine J_iaddN cx dX3_moistureAgain_21 ?_
    refine T_ld_g cx dX3_moistureAgain_22 (by omega) ?_
    refine J_iconst (v := nI (1)) cx dX3_moistureAgain_23 (by decide) ?_
    refine J_icmp_ne (tgt := 31) cx dX3_moistureAgain_24 (by decide) (fun c24 => ?_) (fun c24 => ?_)
    · refine J_fconst0 cx dX3_moistureAgain_31 ?_
      refine J_sub (L1 := [some (.ref t), some (.int (nI (tn p9))), none, none, none]) (jsub_s (jsub_s (jsub_n (jsub_n (jsub_n jsub_0))))) ?_
      refine J_st [.float (w_ma g (tn p9))] (jst_e (congrArg Value.float (by simp only [w_ma, if_neg c5, if_neg c24])) rfl) ?_
      exact K32
    · refine J_fconst1 cx dX3_moistureAgain_27 ?_
      refine J_goto (tgt := 32) cx dX3_moistureAgain_28 (by decide) ?_
      refine J_sub (L1 := [some (.ref t), some (.int (nI (tn p9))), none, none, none]) (jsub_s (jsub_s (jsub_n (jsub_n (jsub_n jsub_0))))) ?_
      refine J_st [.float (w_ma g (tn p9))] (jst_e (congrArg Value.float (by simp only [w_ma, if_neg c5, if_pos c24])) rfl) ?_
      exact K32
  · refine J_ldcf cx dX3_moistureAgain_8 q2762 ?_
    exact J_fret cx dX3_moistureAgain_10 hr ⟨congrArg some (congrArg Value.float (by simp only [r_X3_moistureAgain, if_pos c5])), rfl, rfl⟩ (Nat.le_refl 0) (Nat.le_refl 0)
def S_mean (g : Nat → Int32) : Nat → UInt64 × Int32
  | 0 => ((FP.dconst0), (nI (0)))
  | k1 + 1 => (if (g ((50 + (13 * k1)) + 0)) = (nI (2)) then ((FP.dadd ((S_mean g k1).1) (FP.f2d ((g ((50 + (13 * k1)) + 11)).toUInt32))), (((S_mean g k1).2) + 1)) else (((S_mean g k1).1), ((S_mean g k1).2)))
def r_X3_meanMoisture (g : Nat → Int32) : UInt64 := (if ((S_mean g (tn (g (2)))).2) = 0 then (FP.dconst0) else (FP.ddiv ((S_mean g (tn (g (2)))).1) (FP.i2d ((S_mean g (tn (g (2)))).2))))
theorem hd_X3_meanMoisture : yX3_meanMoisture.cls = RX3 ∧ yX3_meanMoisture.cls ≠ "java/lang/invoke/MethodHandle" ∧ yX3_meanMoisture.cls ≠ "java/lang/invoke/VarHandle" ∧ (parseMethodDescriptor yX3_meanMoisture.desc).map (fun d => d.parameters.length) = some 0 := by decide +kernel
set_option maxHeartbeats 4000000 in
theorem t_X3_meanMoisture (l : Launch) (Ω : jO) {t : Nat} {G0 : Mem} {g hi sv as_ inp why now told bef : Nat → Int32} {ch hs fed fa ws ns ct st_ pl iw sn : Int32} {sz : Nat} (ht : Ω.2.2.2 ≤ t)  (hn2 : g 2 = nI (tn (g 2))) (hn16 : tn (g 2) ≤ 16) (hsn : ∀ k, k < tn (g 2) → vn_sni2f (g ((50 + (13 * k)) + 11)) = false) (hf : ∀ k, k < tn (g 2) → g ((50 + (13 * k)) + 0) = nI (2) → vf_n64 (FP.f2d (g ((50 + (13 * k)) + 11)).toUInt32) ∧ vf_n64 (FP.dadd (S_mean g k).1 (FP.f2d (g ((50 + (13 * k)) + 11)).toUInt32))) (hd : ¬ (S_mean g (tn (g (2)))).2 = 0 → vf_n64 (FP.ddiv (S_mean g (tn (g (2)))).1 (FP.i2d (S_mean g (tn (g (2)))).2))) : Met l yX3_meanMoisture (ws_ yX3_meanMoisture cX3_meanMoisture 5 (some .double)) ({ frames := 3, cells := 0, slots := 0, locals := 53 }) (va_Pc [.ref t] (jWd Ω (tov Ω t G0 g hi sv as_ inp why now told bef ch hs fed fa ws ns ct st_ pl iw sn) sz)) (jQ Ω (jD (some (.double (r_X3_meanMoisture g))) (tov Ω t G0 g hi sv as_ inp why now told bef ch hs fed fa ws ns ct st_ pl iw sn) sz)) 0 0 (jB Ω) := by
  refine jMet (by decide) (Nat.le_of_ble_eq_true rfl) ?_
  intro p e s m args below meth c cx hr hnm
  refine J_loc [some (.ref t), none, none, none, none] rfl ?_
  refine J_dconst0 cx dX3_meanMoisture_0 ?_
  refine J_dstore_n1 cx dX3_meanMoisture_1 (by decide) rfl ?_
  refine J_iconst (v := nI (0)) cx dX3_meanMoisture_2 (by decide) ?_
  refine J_istore_n3 cx dX3_meanMoisture_3 (by decide) rfl ?_
  refine J_iconst (v := nI (0)) cx dX3_meanMoisture_4 (by decide) ?_
  refine J_istore4 cx dX3_meanMoisture_5 (by decide) rfl ?_
  have loop7 : ∀ (n k1 : Nat), (tn (g (2))) + 1 ≤ n + k1 → k1 ≤ (tn (g (2))) → J p l e ({ frames := 3, cells := 0, slots := 0, locals := 53 } : Room) s m args below meth c Ω 5 (MQ below (jQ Ω (jD (some (.double (r_X3_meanMoisture g))) (tov Ω t G0 g hi sv as_ inp why now told bef ch hs fed fa ws ns ct st_ pl iw sn) sz)) args s 0 0 (jB Ω)) 0 0 sz (tov Ω t G0 g hi sv as_ inp why now told bef ch hs fed fa ws ns ct st_ pl iw sn) 7 [some (.ref t), some (.double ((S_mean g k1).1)), none, some (.int ((S_mean g k1).2)), some (.int (nI (k1)))] [] := by
    intro n
    induction n with
    | zero => intro k1 hn1 hk1 ; exact absurd hn1 (by omega)
    | succ n ih =>
      intro k1 hn1 hk1 
      refine J_iload cx dX3_meanMoisture_7 rfl ?_
      refine J_aload_n cx dX3_meanMoisture_9 rfl ?_
      refine T_get_g cx dX3_meanMoisture_10 ?_
      refine J_iconst (v := nI (2)) cx dX3_meanMoisture_13 (by decide) ?_
      refine T_ld_g cx dX3_meanMoisture_14 (by omega) ?_
      refine J_top (.int (nI (tn (g (2))))) (congrArg Value.int (hn2)) ?_
      refine J_icmpN_ge (tgt := 53) cx dX3_meanMoisture_15 (by decide) (by omega) (by omega) (fun c15 => ?_) (fun c15 => ?_)
      · have hkx : tn (g (2)) = k1 := Eq.symm (by omega)
        subst hkx
        refine J_iload_n cx dX3_meanMoisture_53 rfl ?_
        refine J_if_ne (tgt := 61) cx dX3_meanMoisture_54 (by decide) (fun c54 => ?_) (fun c54 => ?_)
        · refine J_dload_n cx dX3_meanMoisture_61 rfl ?_
          refine J_iload_n cx dX3_meanMoisture_62 rfl ?_
          refine J_i2d cx dX3_meanMoisture_63 ?_
          refine J_ddiv cx dX3_meanMoisture_64 (hd c54) ?_
          exact J_dret cx dX3_meanMoisture_65 hr ⟨congrArg some (congrArg Value.double (by simp only [r_X3_meanMoisture, if_neg (Nat.not_lt.mpr c15), if_neg c54])), rfl, rfl⟩ (Nat.le_refl 0) (Nat.le_refl 0)
        · refine J_dconst0 cx dX3_meanMoisture_57 ?_
          refine J_goto (tgt := 65) cx dX3_meanMoisture_58 (by decide) ?_
          exact J_dret cx dX3_meanMoisture_65 hr ⟨congrArg some (congrArg Value.double (by simp only [r_X3_meanMoisture, if_neg (Nat.not_lt.mpr c15), if_pos c54])), rfl, rfl⟩ (Nat.le_refl 0) (Nat.le_refl 0)
      · refine J_aload_n cx dX3_meanMoisture_18 rfl ?_
        refine T_get_g cx dX3_meanMoisture_19 ?_
        refine J_iload cx dX3_meanMoisture_22 rfl ?_
        refine T_callSI cx [.int (nI (k1))] (t_X3_at l Ω (k1)) dX3_meanMoisture_24 (lw_S q2736 q2737 q93 q2738) hd_X3_at.2 rfl rfl ⟨Nat.le_of_ble_eq_true rfl, Nat.le_of_ble_eq_true rfl⟩ rfl rfl (Nat.le_of_ble_eq_true rfl) ?_
        refine J_iconst (v := nI (0)) cx dX3_meanMoisture_27 (by decide) ?_
        refine J_iaddN cx dX3_meanMoisture_28 ?_
        refine T_ld_g cx dX3_meanMoisture_29 (by omega) ?_
        refine J_iconst (v := nI (2)) cx dX3_meanMoisture_30 (by decide) ?_
        refine J_icmp_ne (tgt := 47) cx dX3_meanMoisture_31 (by decide) (fun c31 => ?_) (fun c31 => ?_)
        · refine J_iinc4 (v := nI (k1 + 1)) cx dX3_meanMoisture_47 (nI_1 k1) (by decide) rfl ?_
          refine J_goto (tgt := 7) cx dX3_meanMoisture_50 (by decide) ?_
          refine J_sub (L1 := [some (.ref t), some (.double ((S_mean g (k1 + 1)).1)), none, some (.int ((S_mean g (k1 + 1)).2)), some (.int (nI (k1 + 1)))]) (jsub_s (jsub_e (congrArg Value.double (by simp only [S_mean, if_pos c15, if_neg c31])) (jsub_n (jsub_e (congrArg Value.int (by simp only [S_mean, if_pos c15, if_neg c31])) (jsub_s jsub_0))))) ?_
          exact ih (k1 + 1) (by omega) (by omega) 
        · refine J_dload_n cx dX3_meanMoisture_34 rfl ?_
          refine J_aload_n cx dX3_meanMoisture_35 rfl ?_
          refine J_iload cx dX3_meanMoisture_36 rfl ?_
          refine T_callF cx [.int (nI (k1))] (t_X3_moistureOf l Ω ht (k1) (by omega) (hsn k1 c15)) dX3_meanMoisture_38 (lw_V q2755 q2757 qs47 q93 q2758) hd_X3_moistureOf rfl rfl ⟨Nat.le_of_ble_eq_true rfl, Nat.le_of_ble_eq_true rfl⟩ rfl rfl (Nat.le_of_ble_eq_true rfl) ?_
          refine J_f2d cx dX3_meanMoisture_41 (hf k1 c15 c31).1 ?_
          refine J_dadd cx dX3_meanMoisture_42 (hf k1 c15 c31).2 ?_
          refine J_dstore_n1 cx dX3_meanMoisture_43 (by decide) rfl ?_
          refine J_iinc3 (v := ((S_mean g k1).2) + 1) cx dX3_meanMoisture_44 (by rfl) (by decide) rfl ?_
          refine J_iinc4 (v := nI (k1 + 1)) cx dX3_meanMoisture_47 (nI_1 k1) (by decide) rfl ?_
          refine J_goto (tgt := 7) cx dX3_meanMoisture_50 (by decide) ?_
          refine J_sub (L1 := [some (.ref t), some (.double ((S_mean g (k1 + 1)).1)), none, some (.int ((S_mean g (k1 + 1)).2)), some (.int (nI (k1 + 1)))]) (jsub_s (jsub_e (congrArg Value.double (by simp only [S_mean, if_pos c15, if_pos c31])) (jsub_n (jsub_e (congrArg Value.int (by simp only [S_mean, if_pos c15, if_pos c31])) (jsub_s jsub_0))))) ?_
          exact ih (k1 + 1) (by omega) (by omega) 
  refine J_sub (L1 := [some (.ref t), some (.double ((S_mean g 0).1)), none, some (.int ((S_mean g 0).2)), some (.int (nI (0)))]) (jsub_s (jsub_e (congrArg Value.double rfl) (jsub_n (jsub_e (congrArg Value.int rfl) (jsub_s jsub_0))))) ?_
  exact loop7 (tn (g (2)) + 1) 0 (by omega) (by omega) 
def S_share (g : Nat → Int32) : Nat → Int32 × Int32
  | 0 => ((nI (0)), (nI (0)))
  | k1 + 1 => (if (r_X3_isWhole g k1) = 0 then ((((S_share g k1).1) + (nI (0))), (((S_share g k1).2) + (g ((50 + (13 * k1)) + 12)))) else ((((S_share g k1).1) + (nI (1))), (((S_share g k1).2) + (g ((50 + (13 * k1)) + 12)))))
def r_X3_wholeShare (g : Nat → Int32) : UInt32 := (if ((S_share g (tn (g (2)))).2) = 0 then (FP.fconst0) else (FP.fdiv (FP.i2f ((S_share g (tn (g (2)))).1)) (FP.i2f ((S_share g (tn (g (2)))).2))))
theorem hd_X3_wholeShare : yX3_wholeShare.cls = RX3 ∧ yX3_wholeShare.cls ≠ "java/lang/invoke/MethodHandle" ∧ yX3_wholeShare.cls ≠ "java/lang/invoke/VarHandle" ∧ (parseMethodDescriptor yX3_wholeShare.desc).map (fun d => d.parameters.length) = some 0 := by decide +kernel
set_option maxHeartbeats 4000000 in
theorem t_X3_wholeShare (l : Launch) (Ω : jO) {t : Nat} {G0 : Mem} {g hi sv as_ inp why now told bef : Nat → Int32} {ch hs fed fa ws ns ct st_ pl iw sn : Int32} {sz : Nat} (ht : Ω.2.2.2 ≤ t)  (hn2 : g 2 = nI (tn (g 2))) (hn16 : tn (g 2) ≤ 16) (hd : ¬ (S_share g (tn (g (2)))).2 = 0 → vf_n32 (FP.fdiv (FP.i2f (S_share g (tn (g (2)))).1) (FP.i2f (S_share g (tn (g (2)))).2))) : Met l yX3_wholeShare (ws_ yX3_wholeShare cX3_wholeShare 4 (some .float)) ({ frames := 3, cells := 0, slots := 0, locals := 53 }) (va_Pc [.ref t] (jWd Ω (tov Ω t G0 g hi sv as_ inp why now told bef ch hs fed fa ws ns ct st_ pl iw sn) sz)) (jQ Ω (jD (some (.float (r_X3_wholeShare g))) (tov Ω t G0 g hi sv as_ inp why now told bef ch hs fed fa ws ns ct st_ pl iw sn) sz)) 0 0 (jB Ω) := by
  refine jMet (by decide) (Nat.le_of_ble_eq_true rfl) ?_
  intro p e s m args below meth c cx hr hnm
  refine J_loc [some (.ref t), none, none, none] rfl ?_
  refine J_iconst (v := nI (0)) cx dX3_wholeShare_0 (by decide) ?_
  refine J_istore_n1 cx dX3_wholeShare_1 (by decide) rfl ?_
  refine J_iconst (v := nI (0)) cx dX3_wholeShare_2 (by decide) ?_
  refine J_istore_n2 cx dX3_wholeShare_3 (by decide) rfl ?_
  refine J_iconst (v := nI (0)) cx dX3_wholeShare_4 (by decide) ?_
  refine J_istore_n3 cx dX3_wholeShare_5 (by decide) rfl ?_
  have loop6 : ∀ (n k1 : Nat), (tn (g (2))) + 1 ≤ n + k1 → k1 ≤ (tn (g (2))) → J p l e ({ frames := 3, cells := 0, slots := 0, locals := 53 } : Room) s m args below meth c Ω 4 (MQ below (jQ Ω (jD (some (.float (r_X3_wholeShare g))) (tov Ω t G0 g hi sv as_ inp why now told bef ch hs fed fa ws ns ct st_ pl iw sn) sz)) args s 0 0 (jB Ω)) 0 0 sz (tov Ω t G0 g hi sv as_ inp why now told bef ch hs fed fa ws ns ct st_ pl iw sn) 6 [some (.ref t), some (.int ((S_share g k1).1)), some (.int ((S_share g k1).2)), some (.int (nI (k1)))] [] := by
    intro n
    induction n with
    | zero => intro k1 hn1 hk1 ; exact absurd hn1 (by omega)
    | succ n ih =>
      intro k1 hn1 hk1 
      refine J_iload_n cx dX3_wholeShare_6 rfl ?_
      refine J_aload_n cx dX3_wholeShare_7 rfl ?_
      refine T_get_g cx dX3_wholeShare_8 ?_
      refine J_iconst (v := nI (2)) cx dX3_wholeShare_11 (by decide) ?_
      refine T_ld_g cx dX3_wholeShare_12 (by omega) ?_
      refine J_top (.int (nI (tn (g (2))))) (congrArg Value.int (hn2)) ?_
      refine J_icmpN_ge (tgt := 53) cx dX3_wholeShare_13 (by decide) (by omega) (by omega) (fun c13 => ?_) (fun c13 => ?_)
      · have hkx : tn (g (2)) = k1 := Eq.symm (by omega)
        subst hkx
        refine J_iload_n cx dX3_wholeShare_53 rfl ?_
        refine J_if_ne (tgt := 61) cx dX3_wholeShare_54 (by decide) (fun c54 => ?_) (fun c54 => ?_)
        · refine J_iload_n cx dX3_wholeShare_61 rfl ?_
          refine J_i2f cx dX3_wholeShare_62 ?_
          refine J_iload_n cx dX3_wholeShare_63 rfl ?_
          refine J_i2f cx dX3_wholeShare_64 ?_
          refine J_fdiv cx dX3_wholeShare_65 (hd c54) ?_
          exact J_fret cx dX3_wholeShare_66 hr ⟨congrArg some (congrArg Value.float (by simp only [r_X3_wholeShare, if_neg (Nat.not_lt.mpr c13), if_neg c54])), rfl, rfl⟩ (Nat.le_refl 0) (Nat.le_refl 0)
        · refine J_fconst0 cx dX3_wholeShare_57 ?_
          refine J_goto (tgt := 66) cx dX3_wholeShare_58 (by decide) ?_
          exact J_fret cx dX3_wholeShare_66 hr ⟨congrArg some (congrArg Value.float (by simp only [r_X3_wholeShare, if_neg (Nat.not_lt.mpr c13), if_pos c54])), rfl, rfl⟩ (Nat.le_refl 0) (Nat.le_refl 0)
      · refine J_iload_n cx dX3_wholeShare_16 rfl ?_
        refine J_aload_n cx dX3_wholeShare_17 rfl ?_
        refine J_iload_n cx dX3_wholeShare_18 rfl ?_
        refine T_callI cx [.int (nI (k1))] (t_X3_isWhole l Ω ht (k1) (by omega)) dX3_wholeShare_19 (lw_V q2747 q2749 qs46 q93 q2750) hd_X3_isWhole rfl rfl ⟨Nat.le_of_ble_eq_true rfl, Nat.le_of_ble_eq_true rfl⟩ rfl rfl (Nat.le_of_ble_eq_true rfl) ?_
        refine J_if_eq (tgt := 29) cx dX3_wholeShare_22 (by decide) (fun c22 => ?_) (fun c22 => ?_)
        · refine J_iconst (v := nI (0)) cx dX3_wholeShare_29 (by decide) ?_
          refine J_iadd cx dX3_wholeShare_30 ?_
          refine J_istore_n1 cx dX3_wholeShare_31 (by decide) rfl ?_
          refine J_iload_n cx dX3_wholeShare_32 rfl ?_
          refine J_aload_n cx dX3_wholeShare_33 rfl ?_
          refine T_get_g cx dX3_wholeShare_34 ?_
          refine J_iload_n cx dX3_wholeShare_37 rfl ?_
          refine T_callSI cx [.int (nI (k1))] (t_X3_at l Ω (k1)) dX3_wholeShare_38 (lw_S q2736 q2737 q93 q2738) hd_X3_at.2 rfl rfl ⟨Nat.le_of_ble_eq_true rfl, Nat.le_of_ble_eq_true rfl⟩ rfl rfl (Nat.le_of_ble_eq_true rfl) ?_
          refine J_bipush (v := nI (12)) cx dX3_wholeShare_41 (by decide) ?_
          refine J_iaddN cx dX3_wholeShare_43 ?_
          refine T_ld_g cx dX3_wholeShare_44 (by omega) ?_
          refine J_iadd cx dX3_wholeShare_45 ?_
          refine J_istore_n2 cx dX3_wholeShare_46 (by decide) rfl ?_
          refine J_iinc3 (v := nI (k1 + 1)) cx dX3_wholeShare_47 (nI_1 k1) (by decide) rfl ?_
          refine J_goto (tgt := 6) cx dX3_wholeShare_50 (by decide) ?_
          refine J_sub (L1 := [some (.ref t), some (.int ((S_share g (k1 + 1)).1)), some (.int ((S_share g (k1 + 1)).2)), some (.int (nI (k1 + 1)))]) (jsub_s (jsub_e (congrArg Value.int (by simp only [S_share, if_pos c13, if_pos c22])) (jsub_e (congrArg Value.int (by simp only [S_share, if_pos c13, if_pos c22])) (jsub_s jsub_0)))) ?_
          exact ih (k1 + 1) (by omega) (by omega) 
        · refine J_iconst (v := nI (1)) cx dX3_wholeShare_25 (by decide) ?_
          refine J_goto (tgt := 30) cx dX3_wholeShare_26 (by decide) ?_
          refine J_iadd cx dX3_wholeShare_30 ?_
          refine J_istore_n1 cx dX3_wholeShare_31 (by decide) rfl ?_
          refine J_iload_n cx dX3_wholeShare_32 rfl ?_
          refine J_aload_n cx dX3_wholeShare_33 rfl ?_
          refine T_get_g cx dX3_wholeShare_34 ?_
          refine J_iload_n cx dX3_wholeShare_37 rfl ?_
          refine T_callSI cx [.int (nI (k1))] (t_X3_at l Ω (k1)) dX3_wholeShare_38 (lw_S q2736 q2737 q93 q2738) hd_X3_at.2 rfl rfl ⟨Nat.le_of_ble_eq_true rfl, Nat.le_of_ble_eq_true rfl⟩ rfl rfl (Nat.le_of_ble_eq_true rfl) ?_
          refine J_bipush (v := nI (12)) cx dX3_wholeShare_41 (by decide) ?_
          refine J_iaddN cx dX3_wholeShare_43 ?_
          refine T_ld_g cx dX3_wholeShare_44 (by omega) ?_
          refine J_iadd cx dX3_wholeShare_45 ?_
          refine J_istore_n2 cx dX3_wholeShare_46 (by decide) rfl ?_
          refine J_iinc3 (v := nI (k1 + 1)) cx dX3_wholeShare_47 (nI_1 k1) (by decide) rfl ?_
          refine J_goto (tgt := 6) cx dX3_wholeShare_50 (by decide) ?_
          refine J_sub (L1 := [some (.ref t), some (.int ((S_share g (k1 + 1)).1)), some (.int ((S_share g (k1 + 1)).2)), some (.int (nI (k1 + 1)))]) (jsub_s (jsub_e (congrArg Value.int (by simp only [S_share, if_pos c13, if_neg c22])) (jsub_e (congrArg Value.int (by simp only [S_share, if_pos c13, if_neg c22])) (jsub_s jsub_0)))) ?_
          exact ih (k1 + 1) (by omega) (by omega) 
  refine J_sub (L1 := [some (.ref t), some (.int ((S_share g 0).1)), some (.int ((S_share g 0).2)), some (.int (nI (0)))]) (jsub_s (jsub_e (congrArg Value.int rfl) (jsub_e (congrArg Value.int rfl) (jsub_s jsub_0)))) ?_
  exact loop6 (tn (g (2)) + 1) 0 (by omega) (by omega) 
