/-! THE TWIN, its small methods: walks and specs by program (gen/mk_t1.py) -/
set_option maxRecDepth 100000
abbrev tn (x : Int32) : Nat := x.toNatClampNeg
theorem tn_lt (x : Int32) : tn x < 2147483648 := by have := Int32.toInt_lt x; unfold tn Int32.toNatClampNeg; omega
def r_X3_in (v9 : Int32) (lo9 : Int32) (hi9 : Int32) : Int32 := (if v9 < lo9 then (nI (0)) else (if hi9 < v9 then (nI (0)) else (nI (1))))
theorem z_X3_in (v9 : Int32) (lo9 : Int32) (hi9 : Int32) : narrow .boolean (.int (r_X3_in v9 lo9 hi9)) = .int (r_X3_in v9 lo9 hi9) := by unfold r_X3_in; (repeat' split) <;> first | rfl
theorem hd_X3_in : yX3_in.cls = RX3 ∧ yX3_in.cls ≠ "java/lang/invoke/MethodHandle" ∧ yX3_in.cls ≠ "java/lang/invoke/VarHandle" ∧ (parseMethodDescriptor yX3_in.desc).map (fun d => d.parameters.length) = some 3 := by decide +kernel
set_option maxHeartbeats 4000000 in
theorem t_X3_in (l : Launch) (Ω : jO) {G : Mem} {sz : Nat} (v9 : Int32) (lo9 : Int32) (hi9 : Int32)  : Met l yX3_in (ws_ yX3_in cX3_in 3 (some .boolean)) ({ frames := 1, cells := 0, slots := 0, locals := 12 }) (va_Pc [.int (v9), .int (lo9), .int (hi9)] (jWd Ω (G) sz)) (jQ Ω (jD (some (.int (r_X3_in v9 lo9 hi9))) (G) sz)) 0 0 (jB Ω) := by
  refine jMet (by decide) (Nat.le_of_ble_eq_true rfl) ?_
  intro p e s m args below meth c cx hr hnm
  refine J_loc [some (.int (v9)), some (.int (lo9)), some (.int (hi9))] rfl ?_
  refine J_iload_n cx dX3_in_0 rfl ?_
  refine J_iload_n cx dX3_in_1 rfl ?_
  refine J_icmp_lt (tgt := 14) cx dX3_in_2 (by decide) (fun c2 => ?_) (fun c2 => ?_)
  · refine J_iconst (v := nI (0)) cx dX3_in_14 (by decide) ?_
    exact J_zret cx dX3_in_15 hr (by first | rfl | exact z_X3_in ..) ⟨congrArg some (congrArg Value.int (by simp only [r_X3_in, if_pos c2])), rfl, rfl⟩ (Nat.le_refl 0) (Nat.le_refl 0)
  · refine J_iload_n cx dX3_in_5 rfl ?_
    refine J_iload_n cx dX3_in_6 rfl ?_
    refine J_icmp_gt (tgt := 14) cx dX3_in_7 (by decide) (fun c7 => ?_) (fun c7 => ?_)
    · refine J_iconst (v := nI (0)) cx dX3_in_14 (by decide) ?_
      exact J_zret cx dX3_in_15 hr (by first | rfl | exact z_X3_in ..) ⟨congrArg some (congrArg Value.int (by simp only [r_X3_in, if_neg c2, if_pos c7])), rfl, rfl⟩ (Nat.le_refl 0) (Nat.le_refl 0)
    · refine J_iconst (v := nI (1)) cx dX3_in_10 (by decide) ?_
      refine J_goto (tgt := 15) cx dX3_in_11 (by decide) ?_
      exact J_zret cx dX3_in_15 hr (by first | rfl | exact z_X3_in ..) ⟨congrArg some (congrArg Value.int (by simp only [r_X3_in, if_neg c2, if_neg c7])), rfl, rfl⟩ (Nat.le_refl 0) (Nat.le_refl 0)
theorem hd_X3_at : yX3_at.cls = RX3 ∧ yX3_at.cls ≠ "java/lang/invoke/MethodHandle" ∧ yX3_at.cls ≠ "java/lang/invoke/VarHandle" ∧ (parseMethodDescriptor yX3_at.desc).map (fun d => d.parameters.length) = some 1 := by decide +kernel
set_option maxHeartbeats 4000000 in
theorem t_X3_at (l : Launch) (Ω : jO) {G : Mem} {sz : Nat} (p9 : Nat)  : Met l yX3_at (ws_ yX3_at cX3_at 1 (some .int)) ({ frames := 1, cells := 0, slots := 0, locals := 12 }) (va_Pc [.int (nI (p9))] (jWd Ω (G) sz)) (jQ Ω (jD (some (.int (nI (50 + (13 * p9))))) (G) sz)) 0 0 (jB Ω) := by
  refine jMet (by decide) (Nat.le_of_ble_eq_true rfl) ?_
  intro p e s m args below meth c cx hr hnm
  refine J_loc [some (.int (nI (p9)))] rfl ?_
  refine J_bipush (v := nI (50)) cx dX3_at_0 (by decide) ?_
  refine J_bipush (v := nI (13)) cx dX3_at_2 (by decide) ?_
  refine J_iload_n cx dX3_at_4 rfl ?_
  refine J_imulN cx dX3_at_5 ?_
  refine J_iaddN cx dX3_at_6 ?_
  exact J_iret cx dX3_at_7 hr ⟨congrArg some (congrArg Value.int rfl), rfl, rfl⟩ (Nat.le_refl 0) (Nat.le_refl 0)
theorem z_X3_isPot (g : Nat → Int32) (p9 : Int32) : narrow .boolean (.int ((r_X3_in p9 (nI (0)) ((g (2)) - (nI (1)))))) = .int ((r_X3_in p9 (nI (0)) ((g (2)) - (nI (1))))) := by (repeat' split) <;> first | rfl | exact z_X3_in ..
theorem hd_X3_isPot : yX3_isPot.cls = RX3 ∧ yX3_isPot.cls ≠ "java/lang/invoke/MethodHandle" ∧ yX3_isPot.cls ≠ "java/lang/invoke/VarHandle" ∧ (parseMethodDescriptor yX3_isPot.desc).map (fun d => d.parameters.length) = some 1 := by decide +kernel
set_option maxHeartbeats 4000000 in
theorem t_X3_isPot (l : Launch) (Ω : jO) {t : Nat} {G0 : Mem} {g hi sv as_ inp why now told bef : Nat → Int32} {ch hs fed fa ws ns ct st_ pl iw sn : Int32} {sz : Nat} (ht : Ω.2.2.2 ≤ t) (p9 : Int32)  : Met l yX3_isPot (ws_ yX3_isPot cX3_isPot 2 (some .boolean)) ({ frames := 2, cells := 0, slots := 0, locals := 34 }) (va_Pc [.ref t, .int (p9)] (jWd Ω (tov Ω t G0 g hi sv as_ inp why now told bef ch hs fed fa ws ns ct st_ pl iw sn) sz)) (jQ Ω (jD (some (.int ((r_X3_in p9 (nI (0)) ((g (2)) - (nI (1))))))) (tov Ω t G0 g hi sv as_ inp why now told bef ch hs fed fa ws ns ct st_ pl iw sn) sz)) 0 0 (jB Ω) := by
  refine jMet (by decide) (Nat.le_of_ble_eq_true rfl) ?_
  intro p e s m args below meth c cx hr hnm
  refine J_loc [some (.ref t), some (.int (p9))] rfl ?_
  refine J_iload_n cx dX3_isPot_0 rfl ?_
  refine J_iconst (v := nI (0)) cx dX3_isPot_1 (by decide) ?_
  refine J_aload_n cx dX3_isPot_2 rfl ?_
  refine T_get_g cx dX3_isPot_3 ?_
  refine J_iconst (v := nI (2)) cx dX3_isPot_6 (by decide) ?_
  refine T_ld_g cx dX3_isPot_7 (by omega) ?_
  refine J_iconst (v := nI (1)) cx dX3_isPot_8 (by decide) ?_
  refine J_isub cx dX3_isPot_9 ?_
  refine T_callSI cx [.int (p9), .int (nI (0)), .int ((g (2)) - (nI (1)))] (t_X3_in l Ω (p9) (nI (0)) ((g (2)) - (nI (1)))) dX3_isPot_10 (lw_S q2686 q2687 q93 q2688) hd_X3_in.2 rfl rfl ⟨Nat.le_of_ble_eq_true rfl, Nat.le_of_ble_eq_true rfl⟩ rfl rfl (Nat.le_of_ble_eq_true rfl) ?_
  exact J_zret cx dX3_isPot_13 hr (by first | rfl | exact z_X3_in .. | exact z_X3_isPot ..) ⟨congrArg some (congrArg Value.int rfl), rfl, rfl⟩ (Nat.le_refl 0) (Nat.le_refl 0)
theorem hd_X3_noted : yX3_noted.cls = RX3 ∧ yX3_noted.cls ≠ "java/lang/invoke/MethodHandle" ∧ yX3_noted.cls ≠ "java/lang/invoke/VarHandle" ∧ (parseMethodDescriptor yX3_noted.desc).map (fun d => d.parameters.length) = some 2 := by decide +kernel
set_option maxHeartbeats 4000000 in
theorem t_X3_noted (l : Launch) (Ω : jO) {t : Nat} {G0 : Mem} {g hi sv as_ inp why now told bef : Nat → Int32} {ch hs fed fa ws ns ct st_ pl iw sn : Int32} {sz : Nat} (ht : Ω.2.2.2 ≤ t) (rs : Int32) (dt : Int32)  : Met l yX3_noted (ws_ yX3_noted cX3_noted 3 (some .int)) ({ frames := 1, cells := 0, slots := 0, locals := 12 }) (va_Pc [.ref t, .int (rs), .int (dt)] (jWd Ω (tov Ω t G0 g hi sv as_ inp why now told bef ch hs fed fa ws ns ct st_ pl iw sn) sz)) (jQ Ω (jD (some (.int (rs))) (tov Ω t G0 g hi sv as_ inp why (upd (upd now (0) (rs)) (1) (dt)) told bef ch hs fed fa ws (nI (1)) ct st_ pl iw sn) sz)) 0 0 (jB Ω) := by
  refine jMet (by decide) (Nat.le_of_ble_eq_true rfl) ?_
  intro p e s m args below meth c cx hr hnm
  refine J_loc [some (.ref t), some (.int (rs)), some (.int (dt))] rfl ?_
  refine J_aload_n cx dX3_noted_0 rfl ?_
  refine T_get_now cx dX3_noted_1 ?_
  refine J_iconst (v := nI (0)) cx dX3_noted_4 (by decide) ?_
  refine J_iload_n cx dX3_noted_5 rfl ?_
  refine T_st_now cx ht dX3_noted_6 (by omega) ?_
  refine J_aload_n cx dX3_noted_7 rfl ?_
  refine T_get_now cx dX3_noted_8 ?_
  refine J_iconst (v := nI (1)) cx dX3_noted_11 (by decide) ?_
  refine J_iload_n cx dX3_noted_12 rfl ?_
  refine T_st_now cx ht dX3_noted_13 (by omega) ?_
  refine J_aload_n cx dX3_noted_14 rfl ?_
  refine J_iconst (v := nI (1)) cx dX3_noted_15 (by decide) ?_
  refine T_put_ns cx ht dX3_noted_16 ?_
  refine J_iload_n cx dX3_noted_19 rfl ?_
  exact J_iret cx dX3_noted_20 hr ⟨congrArg some (congrArg Value.int rfl), rfl, rfl⟩ (Nat.le_refl 0) (Nat.le_refl 0)
def r_X3_mayPot (g : Nat → Int32) : Int32 := (if (g (2)) = (nI (16)) then (nI (11)) else (nI (0)))
def o_X3_mayPot_now (g : Nat → Int32) (now : Nat → Int32) : Nat → Int32 := (if (g (2)) = (nI (16)) then ((upd (upd now (0) ((nI (11)))) (1) ((nI (16))))) else now)
def o_X3_mayPot_ns (g : Nat → Int32) (ns : Int32) : Int32 := (if (g (2)) = (nI (16)) then ((nI (1))) else ns)
theorem hd_X3_mayPot : yX3_mayPot.cls = RX3 ∧ yX3_mayPot.cls ≠ "java/lang/invoke/MethodHandle" ∧ yX3_mayPot.cls ≠ "java/lang/invoke/VarHandle" ∧ (parseMethodDescriptor yX3_mayPot.desc).map (fun d => d.parameters.length) = some 0 := by decide +kernel
set_option maxHeartbeats 4000000 in
theorem t_X3_mayPot (l : Launch) (Ω : jO) {t : Nat} {G0 : Mem} {g hi sv as_ inp why now told bef : Nat → Int32} {ch hs fed fa ws ns ct st_ pl iw sn : Int32} {sz : Nat} (ht : Ω.2.2.2 ≤ t)   : Met l yX3_mayPot (ws_ yX3_mayPot cX3_mayPot 1 (some .int)) ({ frames := 2, cells := 0, slots := 0, locals := 34 }) (va_Pc [.ref t] (jWd Ω (tov Ω t G0 g hi sv as_ inp why now told bef ch hs fed fa ws ns ct st_ pl iw sn) sz)) (jQ Ω (jD (some (.int (r_X3_mayPot g))) (tov Ω t G0 g hi sv as_ inp why (o_X3_mayPot_now g now) told bef ch hs fed fa ws (o_X3_mayPot_ns g ns) ct st_ pl iw sn) sz)) 0 0 (jB Ω) := by
  refine jMet (by decide) (Nat.le_of_ble_eq_true rfl) ?_
  intro p e s m args below meth c cx hr hnm
  refine J_loc [some (.ref t)] rfl ?_
  refine J_aload_n cx dX3_mayPot_0 rfl ?_
  refine T_get_g cx dX3_mayPot_1 ?_
  refine J_iconst (v := nI (2)) cx dX3_mayPot_4 (by decide) ?_
  refine T_ld_g cx dX3_mayPot_5 (by omega) ?_
  refine J_bipush (v := nI (16)) cx dX3_mayPot_6 (by decide) ?_
  refine J_icmp_ne (tgt := 22) cx dX3_mayPot_8 (by decide) (fun c8 => ?_) (fun c8 => ?_)
  · refine J_iconst (v := nI (0)) cx dX3_mayPot_22 (by decide) ?_
    exact J_iret cx dX3_mayPot_23 hr ⟨congrArg some (congrArg Value.int (by simp only [r_X3_mayPot, o_X3_mayPot_now, o_X3_mayPot_ns, if_neg c8])), (tov_cg rfl rfl rfl rfl rfl rfl (by simp only [r_X3_mayPot, o_X3_mayPot_now, o_X3_mayPot_ns, if_neg c8]) rfl rfl rfl rfl rfl rfl rfl (by simp only [r_X3_mayPot, o_X3_mayPot_now, o_X3_mayPot_ns, if_neg c8]) rfl rfl rfl rfl rfl), rfl⟩ (Nat.le_refl 0) (Nat.le_refl 0)
  · refine J_aload_n cx dX3_mayPot_11 rfl ?_
    refine J_bipush (v := nI (11)) cx dX3_mayPot_12 (by decide) ?_
    refine J_bipush (v := nI (16)) cx dX3_mayPot_14 (by decide) ?_
    refine T_callI cx [.int (nI (11)), .int (nI (16))] (t_X3_noted l Ω ht (nI (11)) (nI (16))) dX3_mayPot_16 (lw_V q2716 q2718 qs41 q93 q2719) hd_X3_noted rfl rfl ⟨Nat.le_of_ble_eq_true rfl, Nat.le_of_ble_eq_true rfl⟩ rfl rfl (Nat.le_of_ble_eq_true rfl) ?_
    refine J_goto (tgt := 23) cx dX3_mayPot_19 (by decide) ?_
    exact J_iret cx dX3_mayPot_23 hr ⟨congrArg some (congrArg Value.int (by simp only [r_X3_mayPot, o_X3_mayPot_now, o_X3_mayPot_ns, if_pos c8])), (tov_cg rfl rfl rfl rfl rfl rfl (by simp only [r_X3_mayPot, o_X3_mayPot_now, o_X3_mayPot_ns, if_pos c8]) rfl rfl rfl rfl rfl rfl rfl (by simp only [r_X3_mayPot, o_X3_mayPot_now, o_X3_mayPot_ns, if_pos c8]) rfl rfl rfl rfl rfl), rfl⟩ (Nat.le_refl 0) (Nat.le_refl 0)
def r_X3_mayBeIn (g : Nat → Int32) (p9 : Nat) (x9 : Int32) : Int32 := (if (g ((50 + (13 * p9)) + 0)) = x9 then (nI (0)) else (nI (13)))
def o_X3_mayBeIn_now (g : Nat → Int32) (now : Nat → Int32) (p9 : Nat) (x9 : Int32) : Nat → Int32 := (if (g ((50 + (13 * p9)) + 0)) = x9 then now else ((upd (upd now (0) ((nI (13)))) (1) ((g ((50 + (13 * p9)) + 0))))))
def o_X3_mayBeIn_ns (g : Nat → Int32) (ns : Int32) (p9 : Nat) (x9 : Int32) : Int32 := (if (g ((50 + (13 * p9)) + 0)) = x9 then ns else ((nI (1))))
theorem hd_X3_mayBeIn : yX3_mayBeIn.cls = RX3 ∧ yX3_mayBeIn.cls ≠ "java/lang/invoke/MethodHandle" ∧ yX3_mayBeIn.cls ≠ "java/lang/invoke/VarHandle" ∧ (parseMethodDescriptor yX3_mayBeIn.desc).map (fun d => d.parameters.length) = some 2 := by decide +kernel
set_option maxHeartbeats 4000000 in
theorem t_X3_mayBeIn (l : Launch) (Ω : jO) {t : Nat} {G0 : Mem} {g hi sv as_ inp why now told bef : Nat → Int32} {ch hs fed fa ws ns ct st_ pl iw sn : Int32} {sz : Nat} (ht : Ω.2.2.2 ≤ t) (p9 : Nat) (x9 : Int32) (hp : p9 < 16) : Met l yX3_mayBeIn (ws_ yX3_mayBeIn cX3_mayBeIn 3 (some .int)) ({ frames := 2, cells := 0, slots := 0, locals := 34 }) (va_Pc [.ref t, .int (nI (p9)), .int (x9)] (jWd Ω (tov Ω t G0 g hi sv as_ inp why now told bef ch hs fed fa ws ns ct st_ pl iw sn) sz)) (jQ Ω (jD (some (.int (r_X3_mayBeIn g p9 x9))) (tov Ω t G0 g hi sv as_ inp why (o_X3_mayBeIn_now g now p9 x9) told bef ch hs fed fa ws (o_X3_mayBeIn_ns g ns p9 x9) ct st_ pl iw sn) sz)) 0 0 (jB Ω) := by
  refine jMet (by decide) (Nat.le_of_ble_eq_true rfl) ?_
  intro p e s m args below meth c cx hr hnm
  refine J_loc [some (.ref t), some (.int (nI (p9))), some (.int (x9))] rfl ?_
  refine J_aload_n cx dX3_mayBeIn_0 rfl ?_
  refine T_get_g cx dX3_mayBeIn_1 ?_
  refine J_iload_n cx dX3_mayBeIn_4 rfl ?_
  refine T_callSI cx [.int (nI (p9))] (t_X3_at l Ω (p9)) dX3_mayBeIn_5 (lw_S q2736 q2737 q93 q2738) hd_X3_at.2 rfl rfl ⟨Nat.le_of_ble_eq_true rfl, Nat.le_of_ble_eq_true rfl⟩ rfl rfl (Nat.le_of_ble_eq_true rfl) ?_
  refine J_iconst (v := nI (0)) cx dX3_mayBeIn_8 (by decide) ?_
  refine J_iaddN cx dX3_mayBeIn_9 ?_
  refine T_ld_g cx dX3_mayBeIn_10 (by omega) ?_
  refine J_iload_n cx dX3_mayBeIn_11 rfl ?_
  refine J_icmp_ne (tgt := 19) cx dX3_mayBeIn_12 (by decide) (fun c12 => ?_) (fun c12 => ?_)
  · refine J_aload_n cx dX3_mayBeIn_19 rfl ?_
    refine J_bipush (v := nI (13)) cx dX3_mayBeIn_20 (by decide) ?_
    refine J_aload_n cx dX3_mayBeIn_22 rfl ?_
    refine T_get_g cx dX3_mayBeIn_23 ?_
    refine J_iload_n cx dX3_mayBeIn_26 rfl ?_
    refine T_callSI cx [.int (nI (p9))] (t_X3_at l Ω (p9)) dX3_mayBeIn_27 (lw_S q2736 q2737 q93 q2738) hd_X3_at.2 rfl rfl ⟨Nat.le_of_ble_eq_true rfl, Nat.le_of_ble_eq_true rfl⟩ rfl rfl (Nat.le_of_ble_eq_true rfl) ?_
    refine J_iconst (v := nI (0)) cx dX3_mayBeIn_30 (by decide) ?_
    refine J_iaddN cx dX3_mayBeIn_31 ?_
    refine T_ld_g cx dX3_mayBeIn_32 (by omega) ?_
    refine T_callI cx [.int (nI (13)), .int (g ((50 + (13 * p9)) + 0))] (t_X3_noted l Ω ht (nI (13)) (g ((50 + (13 * p9)) + 0))) dX3_mayBeIn_33 (lw_V q2716 q2718 qs41 q93 q2719) hd_X3_noted rfl rfl ⟨Nat.le_of_ble_eq_true rfl, Nat.le_of_ble_eq_true rfl⟩ rfl rfl (Nat.le_of_ble_eq_true rfl) ?_
    exact J_iret cx dX3_mayBeIn_36 hr ⟨congrArg some (congrArg Value.int (by simp only [r_X3_mayBeIn, o_X3_mayBeIn_now, o_X3_mayBeIn_ns, if_neg c12])), (tov_cg rfl rfl rfl rfl rfl rfl (by simp only [r_X3_mayBeIn, o_X3_mayBeIn_now, o_X3_mayBeIn_ns, if_neg c12]) rfl rfl rfl rfl rfl rfl rfl (by simp only [r_X3_mayBeIn, o_X3_mayBeIn_now, o_X3_mayBeIn_ns, if_neg c12]) rfl rfl rfl rfl rfl), rfl⟩ (Nat.le_refl 0) (Nat.le_refl 0)
  · refine J_iconst (v := nI (0)) cx dX3_mayBeIn_15 (by decide) ?_
    refine J_goto (tgt := 36) cx dX3_mayBeIn_16 (by decide) ?_
    exact J_iret cx dX3_mayBeIn_36 hr ⟨congrArg some (congrArg Value.int (by simp only [r_X3_mayBeIn, o_X3_mayBeIn_now, o_X3_mayBeIn_ns, if_pos c12])), (tov_cg rfl rfl rfl rfl rfl rfl (by simp only [r_X3_mayBeIn, o_X3_mayBeIn_now, o_X3_mayBeIn_ns, if_pos c12]) rfl rfl rfl rfl rfl rfl rfl (by simp only [r_X3_mayBeIn, o_X3_mayBeIn_now, o_X3_mayBeIn_ns, if_pos c12]) rfl rfl rfl rfl rfl), rfl⟩ (Nat.le_refl 0) (Nat.le_refl 0)
def r_X3_mayPlace (g : Nat → Int32) (p9 : Nat) (q9 : Nat) : Int32 := (if (r_X3_mayBeIn g p9 (nI (4))) = 0 then (if (g ((50 + (13 * p9)) + 8)) = (-1) then (if (g (41 + q9)) = (-1) then (nI (0)) else (nI (14))) else (nI (14))) else (if (g ((50 + (13 * p9)) + 6)) = (-1) then (nI (13)) else (nI (13))))
def o_X3_mayPlace_now (g : Nat → Int32) (now : Nat → Int32) (p9 : Nat) (q9 : Nat) : Nat → Int32 := (if (r_X3_mayBeIn g p9 (nI (4))) = 0 then (if (g ((50 + (13 * p9)) + 8)) = (-1) then (if (g (41 + q9)) = (-1) then (o_X3_mayBeIn_now g now p9 (nI (4))) else ((upd (upd (o_X3_mayBeIn_now g now p9 (nI (4))) (0) ((nI (14)))) (1) ((g (41 + q9)))))) else ((upd (upd (o_X3_mayBeIn_now g now p9 (nI (4))) (0) ((nI (14)))) (1) ((nI (p9)))))) else (if (g ((50 + (13 * p9)) + 6)) = (-1) then (upd (upd (o_X3_mayBeIn_now g now p9 (nI (4))) (2) (nI (20))) (3) (nI (p9))) else (o_X3_mayBeIn_now g now p9 (nI (4)))))
def o_X3_mayPlace_ns (g : Nat → Int32) (ns : Int32) (p9 : Nat) (q9 : Nat) : Int32 := (if (r_X3_mayBeIn g p9 (nI (4))) = 0 then (if (g ((50 + (13 * p9)) + 8)) = (-1) then (if (g (41 + q9)) = (-1) then (o_X3_mayBeIn_ns g ns p9 (nI (4))) else ((nI (1)))) else ((nI (1)))) else (if (g ((50 + (13 * p9)) + 6)) = (-1) then (nI (2)) else (o_X3_mayBeIn_ns g ns p9 (nI (4)))))
theorem hd_X3_mayPlace : yX3_mayPlace.cls = RX3 ∧ yX3_mayPlace.cls ≠ "java/lang/invoke/MethodHandle" ∧ yX3_mayPlace.cls ≠ "java/lang/invoke/VarHandle" ∧ (parseMethodDescriptor yX3_mayPlace.desc).map (fun d => d.parameters.length) = some 2 := by decide +kernel
set_option maxHeartbeats 4000000 in
theorem t_X3_mayPlace (l : Launch) (Ω : jO) {t : Nat} {G0 : Mem} {g hi sv as_ inp why now told bef : Nat → Int32} {ch hs fed fa ws ns ct st_ pl iw sn : Int32} {sz : Nat} (ht : Ω.2.2.2 ≤ t) (p9 : Nat) (q9 : Nat) (hp : p9 < 16) (hq : q9 < 8) : Met l yX3_mayPlace (ws_ yX3_mayPlace cX3_mayPlace 3 (some .int)) ({ frames := 3, cells := 0, slots := 0, locals := 56 }) (va_Pc [.ref t, .int (nI (p9)), .int (nI (q9))] (jWd Ω (tov Ω t G0 g hi sv as_ inp why now told bef ch hs fed fa ws ns ct st_ pl iw sn) sz)) (jQ Ω (jD (some (.int (r_X3_mayPlace g p9 q9))) (tov Ω t G0 g hi sv as_ inp why (o_X3_mayPlace_now g now p9 q9) told bef ch hs fed fa ws (o_X3_mayPlace_ns g ns p9 q9) ct st_ pl iw sn) sz)) 0 0 (jB Ω) := by
  refine jMet (by decide) (Nat.le_of_ble_eq_true rfl) ?_
  intro p e s m args below meth c cx hr hnm
  refine J_loc [some (.ref t), some (.int (nI (p9))), some (.int (nI (q9)))] rfl ?_
  refine J_aload_n cx dX3_mayPlace_0 rfl ?_
  refine J_iload_n cx dX3_mayPlace_1 rfl ?_
  refine J_iconst (v := nI (4)) cx dX3_mayPlace_2 (by decide) ?_
  refine T_callI cx [.int (nI (p9)), .int (nI (4))] (t_X3_mayBeIn l Ω ht (p9) (nI (4)) hp) dX3_mayPlace_3 (lw_V q2775 q2777 qs48 q93 q2778) hd_X3_mayBeIn rfl rfl ⟨Nat.le_of_ble_eq_true rfl, Nat.le_of_ble_eq_true rfl⟩ rfl rfl (Nat.le_of_ble_eq_true rfl) ?_
  refine J_if_eq (tgt := 48) cx dX3_mayPlace_6 (by decide) (fun c6 => ?_) (fun c6 => ?_)
  · refine J_aload_n cx dX3_mayPlace_48 rfl ?_
    refine T_get_g cx dX3_mayPlace_49 ?_
    refine J_iload_n cx dX3_mayPlace_52 rfl ?_
    refine T_callSI cx [.int (nI (p9))] (t_X3_at l Ω (p9)) dX3_mayPlace_53 (lw_S q2736 q2737 q93 q2738) hd_X3_at.2 rfl rfl ⟨Nat.le_of_ble_eq_true rfl, Nat.le_of_ble_eq_true rfl⟩ rfl rfl (Nat.le_of_ble_eq_true rfl) ?_
    refine J_bipush (v := nI (8)) cx dX3_mayPlace_56 (by decide) ?_
    refine J_iaddN cx dX3_mayPlace_58 ?_
    refine T_ld_g cx dX3_mayPlace_59 (by omega) ?_
    refine J_iconst (v := -1) cx dX3_mayPlace_60 (by decide) ?_
    refine J_icmp_eq (tgt := 72) cx dX3_mayPlace_61 (by decide) (fun c61 => ?_) (fun c61 => ?_)
    · refine J_aload_n cx dX3_mayPlace_72 rfl ?_
      refine T_get_g cx dX3_mayPlace_73 ?_
      refine J_bipush (v := nI (41)) cx dX3_mayPlace_76 (by decide) ?_
      refine J_iload_n cx dX3_mayPlace_78 rfl ?_
      refine J_iaddN cx dX3_mayPlace_79 ?_
      refine T_ld_g cx dX3_mayPlace_80 (by omega) ?_
      refine J_iconst (v := -1) cx dX3_mayPlace_81 (by decide) ?_
      refine J_icmp_ne (tgt := 89) cx dX3_mayPlace_82 (by decide) (fun c82 => ?_) (fun c82 => ?_)
      · refine J_aload_n cx dX3_mayPlace_89 rfl ?_
        refine J_bipush (v := nI (14)) cx dX3_mayPlace_90 (by decide) ?_
        refine J_aload_n cx dX3_mayPlace_92 rfl ?_
        refine T_get_g cx dX3_mayPlace_93 ?_
        refine J_bipush (v := nI (41)) cx dX3_mayPlace_96 (by decide) ?_
        refine J_iload_n cx dX3_mayPlace_98 rfl ?_
        refine J_iaddN cx dX3_mayPlace_99 ?_
        refine T_ld_g cx dX3_mayPlace_100 (by omega) ?_
        refine T_callI cx [.int (nI (14)), .int (g (41 + q9))] (t_X3_noted l Ω ht (nI (14)) (g (41 + q9))) dX3_mayPlace_101 (lw_V q2716 q2718 qs41 q93 q2719) hd_X3_noted rfl rfl ⟨Nat.le_of_ble_eq_true rfl, Nat.le_of_ble_eq_true rfl⟩ rfl rfl (Nat.le_of_ble_eq_true rfl) ?_
        exact J_iret cx dX3_mayPlace_104 hr ⟨congrArg some (congrArg Value.int (by simp only [r_X3_mayPlace, o_X3_mayPlace_now, o_X3_mayPlace_ns, if_pos c6, if_pos c61, if_neg c82])), (tov_cg rfl rfl rfl rfl rfl rfl (by simp only [r_X3_mayPlace, o_X3_mayPlace_now, o_X3_mayPlace_ns, if_pos c6, if_pos c61, if_neg c82]) rfl rfl rfl rfl rfl rfl rfl (by simp only [r_X3_mayPlace, o_X3_mayPlace_now, o_X3_mayPlace_ns, if_pos c6, if_pos c61, if_neg c82]) rfl rfl rfl rfl rfl), rfl⟩ (Nat.le_refl 0) (Nat.le_refl 0)
      · refine J_iconst (v := nI (0)) cx dX3_mayPlace_85 (by decide) ?_
        refine J_goto (tgt := 104) cx dX3_mayPlace_86 (by decide) ?_
        exact J_iret cx dX3_mayPlace_104 hr ⟨congrArg some (congrArg Value.int (by simp only [r_X3_mayPlace, o_X3_mayPlace_now, o_X3_mayPlace_ns, if_pos c6, if_pos c61, if_pos c82])), (tov_cg rfl rfl rfl rfl rfl rfl (by simp only [r_X3_mayPlace, o_X3_mayPlace_now, o_X3_mayPlace_ns, if_pos c6, if_pos c61, if_pos c82]) rfl rfl rfl rfl rfl rfl rfl (by simp only [r_X3_mayPlace, o_X3_mayPlace_now, o_X3_mayPlace_ns, if_pos c6, if_pos c61, if_pos c82]) rfl rfl rfl rfl rfl), rfl⟩ (Nat.le_refl 0) (Nat.le_refl 0)
    · refine J_aload_n cx dX3_mayPlace_64 rfl ?_
      refine J_bipush (v := nI (14)) cx dX3_mayPlace_65 (by decide) ?_
      refine J_iload_n cx dX3_mayPlace_67 rfl ?_
      refine T_callI cx [.int (nI (14)), .int (nI (p9))] (t_X3_noted l Ω ht (nI (14)) (nI (p9))) dX3_mayPlace_68 (lw_V q2716 q2718 qs41 q93 q2719) hd_X3_noted rfl rfl ⟨Nat.le_of_ble_eq_true rfl, Nat.le_of_ble_eq_true rfl⟩ rfl rfl (Nat.le_of_ble_eq_true rfl) ?_
      exact J_iret cx dX3_mayPlace_71 hr ⟨congrArg some (congrArg Value.int (by simp only [r_X3_mayPlace, o_X3_mayPlace_now, o_X3_mayPlace_ns, if_pos c6, if_neg c61])), (tov_cg rfl rfl rfl rfl rfl rfl (by simp only [r_X3_mayPlace, o_X3_mayPlace_now, o_X3_mayPlace_ns, if_pos c6, if_neg c61]) rfl rfl rfl rfl rfl rfl rfl (by simp only [r_X3_mayPlace, o_X3_mayPlace_now, o_X3_mayPlace_ns, if_pos c6, if_neg c61]) rfl rfl rfl rfl rfl), rfl⟩ (Nat.le_refl 0) (Nat.le_refl 0)
  · refine J_aload_n cx dX3_mayPlace_9 rfl ?_
    refine T_get_g cx dX3_mayPlace_10 ?_
    refine J_iload_n cx dX3_mayPlace_13 rfl ?_
    refine T_callSI cx [.int (nI (p9))] (t_X3_at l Ω (p9)) dX3_mayPlace_14 (lw_S q2736 q2737 q93 q2738) hd_X3_at.2 rfl rfl ⟨Nat.le_of_ble_eq_true rfl, Nat.le_of_ble_eq_true rfl⟩ rfl rfl (Nat.le_of_ble_eq_true rfl) ?_
    refine J_bipush (v := nI (6)) cx dX3_mayPlace_17 (by decide) ?_
    refine J_iaddN cx dX3_mayPlace_19 ?_
    refine T_ld_g cx dX3_mayPlace_20 (by omega) ?_
    refine J_iconst (v := -1) cx dX3_mayPlace_21 (by decide) ?_
    refine J_icmp_ne (tgt := 45) cx dX3_mayPlace_22 (by decide) (fun c22 => ?_) (fun c22 => ?_)
    · refine J_bipush (v := nI (13)) cx dX3_mayPlace_45 (by decide) ?_
      exact J_iret cx dX3_mayPlace_47 hr ⟨congrArg some (congrArg Value.int (by simp only [r_X3_mayPlace, o_X3_mayPlace_now, o_X3_mayPlace_ns, if_neg c6, if_neg c22])), (tov_cg rfl rfl rfl rfl rfl rfl (by simp only [r_X3_mayPlace, o_X3_mayPlace_now, o_X3_mayPlace_ns, if_neg c6, if_neg c22]) rfl rfl rfl rfl rfl rfl rfl (by simp only [r_X3_mayPlace, o_X3_mayPlace_now, o_X3_mayPlace_ns, if_neg c6, if_neg c22]) rfl rfl rfl rfl rfl), rfl⟩ (Nat.le_refl 0) (Nat.le_refl 0)
    · refine J_aload_n cx dX3_mayPlace_25 rfl ?_
      refine T_get_now cx dX3_mayPlace_26 ?_
      refine J_iconst (v := nI (2)) cx dX3_mayPlace_29 (by decide) ?_
      refine J_bipush (v := nI (20)) cx dX3_mayPlace_30 (by decide) ?_
      refine T_st_now cx ht dX3_mayPlace_32 (by omega) ?_
      refine J_aload_n cx dX3_mayPlace_33 rfl ?_
      refine T_get_now cx dX3_mayPlace_34 ?_
      refine J_iconst (v := nI (3)) cx dX3_mayPlace_37 (by decide) ?_
      refine J_iload_n cx dX3_mayPlace_38 rfl ?_
      refine T_st_now cx ht dX3_mayPlace_39 (by omega) ?_
      refine J_aload_n cx dX3_mayPlace_40 rfl ?_
      refine J_iconst (v := nI (2)) cx dX3_mayPlace_41 (by decide) ?_
      refine T_put_ns cx ht dX3_mayPlace_42 ?_
      refine J_bipush (v := nI (13)) cx dX3_mayPlace_45 (by decide) ?_
      exact J_iret cx dX3_mayPlace_47 hr ⟨congrArg some (congrArg Value.int (by simp only [r_X3_mayPlace, o_X3_mayPlace_now, o_X3_mayPlace_ns, if_neg c6, if_pos c22])), (tov_cg rfl rfl rfl rfl rfl rfl (by simp only [r_X3_mayPlace, o_X3_mayPlace_now, o_X3_mayPlace_ns, if_neg c6, if_pos c22]) rfl rfl rfl rfl rfl rfl rfl (by simp only [r_X3_mayPlace, o_X3_mayPlace_now, o_X3_mayPlace_ns, if_neg c6, if_pos c22]) rfl rfl rfl rfl rfl), rfl⟩ (Nat.le_refl 0) (Nat.le_refl 0)
def r_X3_restLeft (g : Nat → Int32) : Int32 := (if (g (49)) ≤ (g (0)) then (nI (0)) else ((g (49)) - (g (0))))
theorem hd_X3_restLeft : yX3_restLeft.cls = RX3 ∧ yX3_restLeft.cls ≠ "java/lang/invoke/MethodHandle" ∧ yX3_restLeft.cls ≠ "java/lang/invoke/VarHandle" ∧ (parseMethodDescriptor yX3_restLeft.desc).map (fun d => d.parameters.length) = some 0 := by decide +kernel
set_option maxHeartbeats 4000000 in
theorem t_X3_restLeft (l : Launch) (Ω : jO) {t : Nat} {G0 : Mem} {g hi sv as_ inp why now told bef : Nat → Int32} {ch hs fed fa ws ns ct st_ pl iw sn : Int32} {sz : Nat} (ht : Ω.2.2.2 ≤ t)   : Met l yX3_restLeft (ws_ yX3_restLeft cX3_restLeft 1 (some .int)) ({ frames := 1, cells := 0, slots := 0, locals := 12 }) (va_Pc [.ref t] (jWd Ω (tov Ω t G0 g hi sv as_ inp why now told bef ch hs fed fa ws ns ct st_ pl iw sn) sz)) (jQ Ω (jD (some (.int (r_X3_restLeft g))) (tov Ω t G0 g hi sv as_ inp why now told bef ch hs fed fa ws ns ct st_ pl iw sn) sz)) 0 0 (jB Ω) := by
  refine jMet (by decide) (Nat.le_of_ble_eq_true rfl) ?_
  intro p e s m args below meth c cx hr hnm
  refine J_loc [some (.ref t)] rfl ?_
  refine J_aload_n cx dX3_restLeft_0 rfl ?_
  refine T_get_g cx dX3_restLeft_1 ?_
  refine J_bipush (v := nI (49)) cx dX3_restLeft_4 (by decide) ?_
  refine T_ld_g cx dX3_restLeft_6 (by omega) ?_
  refine J_aload_n cx dX3_restLeft_7 rfl ?_
  refine T_get_g cx dX3_restLeft_8 ?_
  refine J_iconst (v := nI (0)) cx dX3_restLeft_11 (by decide) ?_
  refine T_ld_g cx dX3_restLeft_12 (by omega) ?_
  refine J_icmp_le (tgt := 33) cx dX3_restLeft_13 (by decide) (fun c13 => ?_) (fun c13 => ?_)
  · refine J_iconst (v := nI (0)) cx dX3_restLeft_33 (by decide) ?_
    exact J_iret cx dX3_restLeft_34 hr ⟨congrArg some (congrArg Value.int (by simp only [r_X3_restLeft, if_pos c13])), rfl, rfl⟩ (Nat.le_refl 0) (Nat.le_refl 0)
  · refine J_aload_n cx dX3_restLeft_16 rfl ?_
    refine T_get_g cx dX3_restLeft_17 ?_
    refine J_bipush (v := nI (49)) cx dX3_restLeft_20 (by decide) ?_
    refine T_ld_g cx dX3_restLeft_22 (by omega) ?_
    refine J_aload_n cx dX3_restLeft_23 rfl ?_
    refine T_get_g cx dX3_restLeft_24 ?_
    refine J_iconst (v := nI (0)) cx dX3_restLeft_27 (by decide) ?_
    refine T_ld_g cx dX3_restLeft_28 (by omega) ?_
    refine J_isub cx dX3_restLeft_29 ?_
    refine J_goto (tgt := 34) cx dX3_restLeft_30 (by decide) ?_
    exact J_iret cx dX3_restLeft_34 hr ⟨congrArg some (congrArg Value.int (by simp only [r_X3_restLeft, if_neg c13])), rfl, rfl⟩ (Nat.le_refl 0) (Nat.le_refl 0)
def r_X3_isGood (g : Nat → Int32) (o9 : Nat) : Int32 := (if (g ((258 + (6 * o9)) + 5)) ≤ 0 then (nI (0)) else (if (g ((258 + (6 * o9)) + 3)) < (g (0)) then (nI (0)) else (nI (1))))
theorem z_X3_isGood (g : Nat → Int32) (o9 : Nat) : narrow .boolean (.int (r_X3_isGood g o9)) = .int (r_X3_isGood g o9) := by unfold r_X3_isGood; (repeat' split) <;> first | rfl
theorem hd_X3_isGood : yX3_isGood.cls = RX3 ∧ yX3_isGood.cls ≠ "java/lang/invoke/MethodHandle" ∧ yX3_isGood.cls ≠ "java/lang/invoke/VarHandle" ∧ (parseMethodDescriptor yX3_isGood.desc).map (fun d => d.parameters.length) = some 1 := by decide +kernel
set_option maxHeartbeats 4000000 in
theorem t_X3_isGood (l : Launch) (Ω : jO) {t : Nat} {G0 : Mem} {g hi sv as_ inp why now told bef : Nat → Int32} {ch hs fed fa ws ns ct st_ pl iw sn : Int32} {sz : Nat} (ht : Ω.2.2.2 ≤ t) (o9 : Nat) (ho : o9 < 8) : Met l yX3_isGood (ws_ yX3_isGood cX3_isGood 2 (some .boolean)) ({ frames := 1, cells := 0, slots := 0, locals := 12 }) (va_Pc [.ref t, .int (nI (o9))] (jWd Ω (tov Ω t G0 g hi sv as_ inp why now told bef ch hs fed fa ws ns ct st_ pl iw sn) sz)) (jQ Ω (jD (some (.int (r_X3_isGood g o9))) (tov Ω t G0 g hi sv as_ inp why now told bef ch hs fed fa ws ns ct st_ pl iw sn) sz)) 0 0 (jB Ω) := by
  refine jMet (by decide) (Nat.le_of_ble_eq_true rfl) ?_
  intro p e s m args below meth c cx hr hnm
  refine J_loc [some (.ref t), some (.int (nI (o9)))] rfl ?_
  refine J_aload_n cx dX3_isGood_0 rfl ?_
  refine T_get_g cx dX3_isGood_1 ?_
  refine J_sipush (v := nI (258)) cx dX3_isGood_4 (by decide) ?_
  refine J_bipush (v := nI (6)) cx dX3_isGood_7 (by decide) ?_
  refine J_iload_n cx dX3_isGood_9 rfl ?_
  refine J_imulN cx dX3_isGood_10 ?_
  refine J_iaddN cx dX3_isGood_11 ?_
  refine J_iconst (v := nI (5)) cx dX3_isGood_12 (by decide) ?_
  refine J_iaddN cx dX3_isGood_13 ?_
  refine T_ld_g cx dX3_isGood_14 (by omega) ?_
  refine J_if_le (tgt := 46) cx dX3_isGood_15 (by decide) (fun c15 => ?_) (fun c15 => ?_)
  · refine J_iconst (v := nI (0)) cx dX3_isGood_46 (by decide) ?_
    exact J_zret cx dX3_isGood_47 hr (by first | rfl | exact z_X3_isGood ..) ⟨congrArg some (congrArg Value.int (by simp only [r_X3_isGood, if_pos c15])), rfl, rfl⟩ (Nat.le_refl 0) (Nat.le_refl 0)
  · refine J_aload_n cx dX3_isGood_18 rfl ?_
    refine T_get_g cx dX3_isGood_19 ?_
    refine J_iconst (v := nI (0)) cx dX3_isGood_22 (by decide) ?_
    refine T_ld_g cx dX3_isGood_23 (by omega) ?_
    refine J_aload_n cx dX3_isGood_24 rfl ?_
    refine T_get_g cx dX3_isGood_25 ?_
    refine J_sipush (v := nI (258)) cx dX3_isGood_28 (by decide) ?_
    refine J_bipush (v := nI (6)) cx dX3_isGood_31 (by decide) ?_
    refine J_iload_n cx dX3_isGood_33 rfl ?_
    refine J_imulN cx dX3_isGood_34 ?_
    refine J_iaddN cx dX3_isGood_35 ?_
    refine J_iconst (v := nI (3)) cx dX3_isGood_36 (by decide) ?_
    refine J_iaddN cx dX3_isGood_37 ?_
    refine T_ld_g cx dX3_isGood_38 (by omega) ?_
    refine J_icmp_gt (tgt := 46) cx dX3_isGood_39 (by decide) (fun c39 => ?_) (fun c39 => ?_)
    · refine J_iconst (v := nI (0)) cx dX3_isGood_46 (by decide) ?_
      exact J_zret cx dX3_isGood_47 hr (by first | rfl | exact z_X3_isGood ..) ⟨congrArg some (congrArg Value.int (by simp only [r_X3_isGood, if_neg c15, if_pos c39])), rfl, rfl⟩ (Nat.le_refl 0) (Nat.le_refl 0)
    · refine J_iconst (v := nI (1)) cx dX3_isGood_42 (by decide) ?_
      refine J_goto (tgt := 47) cx dX3_isGood_43 (by decide) ?_
      exact J_zret cx dX3_isGood_47 hr (by first | rfl | exact z_X3_isGood ..) ⟨congrArg some (congrArg Value.int (by simp only [r_X3_isGood, if_neg c15, if_neg c39])), rfl, rfl⟩ (Nat.le_refl 0) (Nat.le_refl 0)
def o_X3_glazes_g (g : Nat → Int32) (p9 : Nat) (x9 : Int32) (y9 : Int32) : Nat → Int32 := (upd (upd (upd g ((50 + (13 * p9)) + 0) (nI (4))) ((50 + (13 * p9)) + 6) (x9)) ((50 + (13 * p9)) + 7) (y9))
theorem hd_X3_glazes : yX3_glazes.cls = RX3 ∧ yX3_glazes.cls ≠ "java/lang/invoke/MethodHandle" ∧ yX3_glazes.cls ≠ "java/lang/invoke/VarHandle" ∧ (parseMethodDescriptor yX3_glazes.desc).map (fun d => d.parameters.length) = some 3 := by decide +kernel
set_option maxHeartbeats 4000000 in
theorem t_X3_glazes (l : Launch) (Ω : jO) {t : Nat} {G0 : Mem} {g hi sv as_ inp why now told bef : Nat → Int32} {ch hs fed fa ws ns ct st_ pl iw sn : Int32} {sz : Nat} (ht : Ω.2.2.2 ≤ t) (p9 : Nat) (x9 : Int32) (y9 : Int32) (hp : p9 < 16) : Met l yX3_glazes (ws_ yX3_glazes cX3_glazes 4 (none)) ({ frames := 2, cells := 0, slots := 0, locals := 32 }) (va_Pc [.ref t, .int (nI (p9)), .int (x9), .int (y9)] (jWd Ω (tov Ω t G0 g hi sv as_ inp why now told bef ch hs fed fa ws ns ct st_ pl iw sn) sz)) (jQ Ω (jD none (tov Ω t G0 (o_X3_glazes_g g p9 x9 y9) hi sv as_ inp why now told bef ch hs fed fa ws ns ct st_ pl iw sn) sz)) 0 0 (jB Ω) := by
  refine jMet (by decide) (Nat.le_of_ble_eq_true rfl) ?_
  intro p e s m args below meth c cx hr hnm
  refine J_loc [some (.ref t), some (.int (nI (p9))), some (.int (x9)), some (.int (y9))] rfl ?_
  refine J_aload_n cx dX3_glazes_0 rfl ?_
  refine T_get_g cx dX3_glazes_1 ?_
  refine J_iload_n cx dX3_glazes_4 rfl ?_
  refine T_callSI cx [.int (nI (p9))] (t_X3_at l Ω (p9)) dX3_glazes_5 (lw_S q2736 q2737 q93 q2738) hd_X3_at.2 rfl rfl ⟨Nat.le_of_ble_eq_true rfl, Nat.le_of_ble_eq_true rfl⟩ rfl rfl (Nat.le_of_ble_eq_true rfl) ?_
  refine J_iconst (v := nI (0)) cx dX3_glazes_8 (by decide) ?_
  refine J_iaddN cx dX3_glazes_9 ?_
  refine J_iconst (v := nI (4)) cx dX3_glazes_10 (by decide) ?_
  refine T_st_g cx ht dX3_glazes_11 (by omega) ?_
  refine J_aload_n cx dX3_glazes_12 rfl ?_
  refine T_get_g cx dX3_glazes_13 ?_
  refine J_iload_n cx dX3_glazes_16 rfl ?_
  refine T_callSI cx [.int (nI (p9))] (t_X3_at l Ω (p9)) dX3_glazes_17 (lw_S q2736 q2737 q93 q2738) hd_X3_at.2 rfl rfl ⟨Nat.le_of_ble_eq_true rfl, Nat.le_of_ble_eq_true rfl⟩ rfl rfl (Nat.le_of_ble_eq_true rfl) ?_
  refine J_bipush (v := nI (6)) cx dX3_glazes_20 (by decide) ?_
  refine J_iaddN cx dX3_glazes_22 ?_
  refine J_iload_n cx dX3_glazes_23 rfl ?_
  refine T_st_g cx ht dX3_glazes_24 (by omega) ?_
  refine J_aload_n cx dX3_glazes_25 rfl ?_
  refine T_get_g cx dX3_glazes_26 ?_
  refine J_iload_n cx dX3_glazes_29 rfl ?_
  refine T_callSI cx [.int (nI (p9))] (t_X3_at l Ω (p9)) dX3_glazes_30 (lw_S q2736 q2737 q93 q2738) hd_X3_at.2 rfl rfl ⟨Nat.le_of_ble_eq_true rfl, Nat.le_of_ble_eq_true rfl⟩ rfl rfl (Nat.le_of_ble_eq_true rfl) ?_
  refine J_bipush (v := nI (7)) cx dX3_glazes_33 (by decide) ?_
  refine J_iaddN cx dX3_glazes_35 ?_
  refine J_iload_n cx dX3_glazes_36 rfl ?_
  refine T_st_g cx ht dX3_glazes_37 (by omega) ?_
  exact J_vret cx dX3_glazes_38 hr ⟨rfl, (tov_cg (by simp only [o_X3_glazes_g]) rfl rfl rfl rfl rfl rfl rfl rfl rfl rfl rfl rfl rfl rfl rfl rfl rfl rfl rfl), rfl⟩ (Nat.le_refl 0) (Nat.le_refl 0)
theorem hd_X3_puts : yX3_puts.cls = RX3 ∧ yX3_puts.cls ≠ "java/lang/invoke/MethodHandle" ∧ yX3_puts.cls ≠ "java/lang/invoke/VarHandle" ∧ (parseMethodDescriptor yX3_puts.desc).map (fun d => d.parameters.length) = some 2 := by decide +kernel
set_option maxHeartbeats 4000000 in
theorem t_X3_puts (l : Launch) (Ω : jO) {t : Nat} {G0 : Mem} {g hi sv as_ inp why now told bef : Nat → Int32} {ch hs fed fa ws ns ct st_ pl iw sn : Int32} {sz : Nat} (ht : Ω.2.2.2 ≤ t) (p9 : Nat) (q9 : Nat) (hp : p9 < 16) (hq : q9 < 8) : Met l yX3_puts (ws_ yX3_puts cX3_puts 3 (none)) ({ frames := 2, cells := 0, slots := 0, locals := 32 }) (va_Pc [.ref t, .int (nI (p9)), .int (nI (q9))] (jWd Ω (tov Ω t G0 g hi sv as_ inp why now told bef ch hs fed fa ws ns ct st_ pl iw sn) sz)) (jQ Ω (jD none (tov Ω t G0 (upd (upd g ((50 + (13 * p9)) + 8) (nI (q9))) (41 + q9) (nI (p9))) hi sv as_ inp why now told bef ch hs fed fa ws ns ct st_ pl iw sn) sz)) 0 0 (jB Ω) := by
  refine jMet (by decide) (Nat.le_of_ble_eq_true rfl) ?_
  intro p e s m args below meth c cx hr hnm
  refine J_loc [some (.ref t), some (.int (nI (p9))), some (.int (nI (q9)))] rfl ?_
  refine J_aload_n cx dX3_puts_0 rfl ?_
  refine T_get_g cx dX3_puts_1 ?_
  refine J_iload_n cx dX3_puts_4 rfl ?_
  refine T_callSI cx [.int (nI (p9))] (t_X3_at l Ω (p9)) dX3_puts_5 (lw_S q2736 q2737 q93 q2738) hd_X3_at.2 rfl rfl ⟨Nat.le_of_ble_eq_true rfl, Nat.le_of_ble_eq_true rfl⟩ rfl rfl (Nat.le_of_ble_eq_true rfl) ?_
  refine J_bipush (v := nI (8)) cx dX3_puts_8 (by decide) ?_
  refine J_iaddN cx dX3_puts_10 ?_
  refine J_iload_n cx dX3_puts_11 rfl ?_
  refine T_st_g cx ht dX3_puts_12 (by omega) ?_
  refine J_aload_n cx dX3_puts_13 rfl ?_
  refine T_get_g cx dX3_puts_14 ?_
  refine J_bipush (v := nI (41)) cx dX3_puts_17 (by decide) ?_
  refine J_iload_n cx dX3_puts_19 rfl ?_
  refine J_iaddN cx dX3_puts_20 ?_
  refine J_iload_n cx dX3_puts_21 rfl ?_
  refine T_st_g cx ht dX3_puts_22 (by omega) ?_
  exact J_vret cx dX3_puts_23 hr ⟨rfl, rfl, rfl⟩ (Nat.le_refl 0) (Nat.le_refl 0)
def r_X3_here (inp : Nat → Int32) (fed : Int32) (pl : Int32) : Int32 := (if (tn pl) < (tn fed) then (inp (tn pl)) else (-1))
theorem hd_X3_here : yX3_here.cls = RX3 ∧ yX3_here.cls ≠ "java/lang/invoke/MethodHandle" ∧ yX3_here.cls ≠ "java/lang/invoke/VarHandle" ∧ (parseMethodDescriptor yX3_here.desc).map (fun d => d.parameters.length) = some 0 := by decide +kernel
set_option maxHeartbeats 4000000 in
theorem t_X3_here (l : Launch) (Ω : jO) {t : Nat} {G0 : Mem} {g hi sv as_ inp why now told bef : Nat → Int32} {ch hs fed fa ws ns ct st_ pl iw sn : Int32} {sz : Nat} (ht : Ω.2.2.2 ≤ t)  (hpl : pl = nI (tn pl)) (hfed : fed = nI (tn fed)) (hf6 : tn fed ≤ 60) : Met l yX3_here (ws_ yX3_here cX3_here 1 (some .int)) ({ frames := 1, cells := 0, slots := 0, locals := 12 }) (va_Pc [.ref t] (jWd Ω (tov Ω t G0 g hi sv as_ inp why now told bef ch hs fed fa ws ns ct st_ pl iw sn) sz)) (jQ Ω (jD (some (.int (r_X3_here inp fed pl))) (tov Ω t G0 g hi sv as_ inp why now told bef ch hs fed fa ws ns ct st_ pl iw sn) sz)) 0 0 (jB Ω) := by
  refine jMet (by decide) (Nat.le_of_ble_eq_true rfl) ?_
  intro p e s m args below meth c cx hr hnm
  refine J_loc [some (.ref t)] rfl ?_
  have hpl2 : tn pl < 2147483648 := tn_lt _
  refine J_aload_n cx dX3_here_0 rfl ?_
  refine T_get_pl cx dX3_here_1 ?_
  refine J_top (.int (nI (tn pl))) (congrArg Value.int (hpl)) ?_
  refine J_aload_n cx dX3_here_4 rfl ?_
  refine T_get_fed cx dX3_here_5 ?_
  refine J_top (.int (nI (tn fed))) (congrArg Value.int (hfed)) ?_
  refine J_icmpN_ge (tgt := 23) cx dX3_here_8 (by decide) (by omega) (by omega) (fun c8 => ?_) (fun c8 => ?_)
  · refine J_iconst (v := -1) cx dX3_here_23 (by decide) ?_
    exact J_iret cx dX3_here_24 hr ⟨congrArg some (congrArg Value.int (by simp only [r_X3_here, if_neg (Nat.not_lt.mpr c8)])), rfl, rfl⟩ (Nat.le_refl 0) (Nat.le_refl 0)
  · refine J_aload_n cx dX3_here_11 rfl ?_
    refine T_get_inp cx dX3_here_12 ?_
    refine J_aload_n cx dX3_here_15 rfl ?_
    refine T_get_pl cx dX3_here_16 ?_
    refine J_top (.int (nI (tn pl))) (congrArg Value.int (hpl)) ?_
    refine T_ld_inp cx dX3_here_19 (by omega) ?_
    refine J_goto (tgt := 24) cx dX3_here_20 (by decide) ?_
    exact J_iret cx dX3_here_24 hr ⟨congrArg some (congrArg Value.int (by simp only [r_X3_here, if_pos c8])), rfl, rfl⟩ (Nat.le_refl 0) (Nat.le_refl 0)
