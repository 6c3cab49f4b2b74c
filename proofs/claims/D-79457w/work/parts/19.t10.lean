/-! THE TWIN: commands (gen/mk_t10.py) -/
set_option maxRecDepth 100000
def w_rc0 (inp : Nat → Int32) (fed iw pl : Int32) : Int32 := if iw = 0 then (if (r_X3_here inp fed pl) = nI (112) then nI (0) else if (r_X3_here inp fed pl) = nI (104) then nI (0) else if (r_X3_here inp fed pl) = nI (99) then nI (0) else if (r_X3_here inp fed pl) = nI (103) then nI (0) else if (r_X3_here inp fed pl) = nI (107) then nI (0) else if (r_X3_here inp fed pl) = nI (102) then nI (0) else nI (1)) else nI (1)
theorem w_rc0_01 (inp : Nat → Int32) (fed iw pl : Int32) : w_rc0 inp fed iw pl = 0 ∨ w_rc0 inp fed iw pl = 1 := by
  unfold w_rc0
  (repeat' split) <;> first | exact Or.inl rfl | exact Or.inr rfl
def w_rc_v (inp : Nat → Int32) (fed iw pl : Int32) : Int32 := if (r_X3_here inp fed pl) = nI (102) then nI (0) else r_X3_number inp fed (nI ((tn pl) + 1)) (w_rc0 inp fed iw pl)
def w_rc_pl (inp : Nat → Int32) (fed iw pl : Int32) : Int32 := if (r_X3_here inp fed pl) = nI (102) then (nI ((tn pl) + 1)) else o_X3_number_pl inp fed (nI ((tn pl) + 1)) (w_rc0 inp fed iw pl)
def w_rc_iw (inp : Nat → Int32) (fed iw pl : Int32) : Int32 := if (r_X3_here inp fed pl) = nI (102) then (w_rc0 inp fed iw pl) else o_X3_number_iw inp fed (nI ((tn pl) + 1)) (w_rc0 inp fed iw pl)
theorem rc_pl (inp : Nat → Int32) (fed iw pl : Int32) (h : tn pl ≤ 1900) : w_rc_pl inp fed iw pl = nI (tn (w_rc_pl inp fed iw pl)) ∧ tn (w_rc_pl inp fed iw pl) ≤ tn pl + 3 := by
  have e : tn (nI ((tn pl) + 1)) = tn pl + 1 := nI_clamp (by omega)
  unfold w_rc_pl
  split
  · exact ⟨nI_tn (by omega), by rw [e]; omega⟩
  · obtain ⟨h1, h2⟩ := number_pl inp fed (nI ((tn pl) + 1)) (w_rc0 inp fed iw pl) (by rw [e]; omega)
    exact ⟨h1, by rw [e] at h2; omega⟩
def w_rcc (inp : Nat → Int32) (fed iw pl : Int32) : Int32 := if w_rc_iw inp fed iw pl = 0 then (if r_X3_here inp fed (nI (tn (w_rc_pl inp fed iw pl))) = nI (43) then nI (0) else if r_X3_here inp fed (nI (tn (w_rc_pl inp fed iw pl))) = nI (45) then nI (0) else nI (1)) else nI (1)
theorem w_rcc_01 (inp : Nat → Int32) (fed iw pl : Int32) : w_rcc inp fed iw pl = 0 ∨ w_rcc inp fed iw pl = 1 := by
  unfold w_rcc
  (repeat' split) <;> first | exact Or.inl rfl | exact Or.inr rfl
def o_X3_readsCommand_told (inp : Nat → Int32) (told : Nat → Int32) (fed : Int32) (pl : Int32) (iw : Int32) (to9 : Nat) : Nat → Int32 := (if (w_rc0 inp fed iw pl) = 0 then (if (r_X3_here inp fed pl) = (nI (99)) then (if (r_X3_here inp fed (nI (tn (w_rc_pl inp fed iw pl)))) = (nI (43)) then (if (w_rcc inp fed iw pl) = 0 then (upd (upd (upd told (to9) (r_X3_here inp fed pl)) (to9 + 1) (w_rc_v inp fed iw pl)) (to9 + 2) (nI (1))) else (upd (upd (upd told (to9) (r_X3_here inp fed pl)) (to9 + 1) (w_rc_v inp fed iw pl)) (to9 + 2) (nI (1)))) else (if (w_rcc inp fed iw pl) = 0 then (upd (upd (upd told (to9) (r_X3_here inp fed pl)) (to9 + 1) (w_rc_v inp fed iw pl)) (to9 + 2) (nI (0))) else (upd (upd (upd told (to9) (r_X3_here inp fed pl)) (to9 + 1) (w_rc_v inp fed iw pl)) (to9 + 2) (nI (0))))) else (if (r_X3_here inp fed pl) = (nI (107)) then (upd (upd (upd told (to9) (r_X3_here inp fed pl)) (to9 + 1) (w_rc_v inp fed iw pl)) (to9 + 2) (r_X3_number inp fed (nI (tn (o_X3_wants_pl inp fed (nI (tn (w_rc_pl inp fed iw pl))) (w_rc_iw inp fed iw pl) (nI (64))))) (o_X3_wants_iw inp fed (nI (tn (w_rc_pl inp fed iw pl))) (w_rc_iw inp fed iw pl) (nI (64))))) else (if (r_X3_here inp fed pl) = (nI (112)) then (upd (upd (upd (upd told (to9) (r_X3_here inp fed pl)) (to9 + 1) (w_rc_v inp fed iw pl)) (to9 + 2) (r_X3_number inp fed (nI (tn (o_X3_wants_pl inp fed (nI (tn (w_rc_pl inp fed iw pl))) (w_rc_iw inp fed iw pl) (nI (58))))) (o_X3_wants_iw inp fed (nI (tn (w_rc_pl inp fed iw pl))) (w_rc_iw inp fed iw pl) (nI (58))))) (to9 + 3) (r_X3_number inp fed (nI (tn (o_X3_wants_pl inp fed (nI (tn (o_X3_number_pl inp fed (nI (tn (o_X3_wants_pl inp fed (nI (tn (w_rc_pl inp fed iw pl))) (w_rc_iw inp fed iw pl) (nI (58))))) (o_X3_wants_iw inp fed (nI (tn (w_rc_pl inp fed iw pl))) (w_rc_iw inp fed iw pl) (nI (58)))))) (o_X3_number_iw inp fed (nI (tn (o_X3_wants_pl inp fed (nI (tn (w_rc_pl inp fed iw pl))) (w_rc_iw inp fed iw pl) (nI (58))))) (o_X3_wants_iw inp fed (nI (tn (w_rc_pl inp fed iw pl))) (w_rc_iw inp fed iw pl) (nI (58)))) (nI (47))))) (o_X3_wants_iw inp fed (nI (tn (o_X3_number_pl inp fed (nI (tn (o_X3_wants_pl inp fed (nI (tn (w_rc_pl inp fed iw pl))) (w_rc_iw inp fed iw pl) (nI (58))))) (o_X3_wants_iw inp fed (nI (tn (w_rc_pl inp fed iw pl))) (w_rc_iw inp fed iw pl) (nI (58)))))) (o_X3_number_iw inp fed (nI (tn (o_X3_wants_pl inp fed (nI (tn (w_rc_pl inp fed iw pl))) (w_rc_iw inp fed iw pl) (nI (58))))) (o_X3_wants_iw inp fed (nI (tn (w_rc_pl inp fed iw pl))) (w_rc_iw inp fed iw pl) (nI (58)))) (nI (47))))) else (if (r_X3_here inp fed pl) = (nI (103)) then (upd (upd (upd (upd told (to9) (r_X3_here inp fed pl)) (to9 + 1) (w_rc_v inp fed iw pl)) (to9 + 2) (r_X3_number inp fed (nI (tn (o_X3_wants_pl inp fed (nI (tn (w_rc_pl inp fed iw pl))) (w_rc_iw inp fed iw pl) (nI (61))))) (o_X3_wants_iw inp fed (nI (tn (w_rc_pl inp fed iw pl))) (w_rc_iw inp fed iw pl) (nI (61))))) (to9 + 3) (r_X3_number inp fed (nI (tn (o_X3_wants_pl inp fed (nI (tn (o_X3_number_pl inp fed (nI (tn (o_X3_wants_pl inp fed (nI (tn (w_rc_pl inp fed iw pl))) (w_rc_iw inp fed iw pl) (nI (61))))) (o_X3_wants_iw inp fed (nI (tn (w_rc_pl inp fed iw pl))) (w_rc_iw inp fed iw pl) (nI (61)))))) (o_X3_number_iw inp fed (nI (tn (o_X3_wants_pl inp fed (nI (tn (w_rc_pl inp fed iw pl))) (w_rc_iw inp fed iw pl) (nI (61))))) (o_X3_wants_iw inp fed (nI (tn (w_rc_pl inp fed iw pl))) (w_rc_iw inp fed iw pl) (nI (61)))) (nI (42))))) (o_X3_wants_iw inp fed (nI (tn (o_X3_number_pl inp fed (nI (tn (o_X3_wants_pl inp fed (nI (tn (w_rc_pl inp fed iw pl))) (w_rc_iw inp fed iw pl) (nI (61))))) (o_X3_wants_iw inp fed (nI (tn (w_rc_pl inp fed iw pl))) (w_rc_iw inp fed iw pl) (nI (61)))))) (o_X3_number_iw inp fed (nI (tn (o_X3_wants_pl inp fed (nI (tn (w_rc_pl inp fed iw pl))) (w_rc_iw inp fed iw pl) (nI (61))))) (o_X3_wants_iw inp fed (nI (tn (w_rc_pl inp fed iw pl))) (w_rc_iw inp fed iw pl) (nI (61)))) (nI (42))))) else (upd (upd told (to9) (r_X3_here inp fed pl)) (to9 + 1) (w_rc_v inp fed iw pl)))))) else told)
def o_X3_readsCommand_pl (inp : Nat → Int32) (fed : Int32) (pl : Int32) (iw : Int32) : Int32 := (if (w_rc0 inp fed iw pl) = 0 then (if (r_X3_here inp fed pl) = (nI (99)) then (if (r_X3_here inp fed (nI (tn (w_rc_pl inp fed iw pl)))) = (nI (43)) then (if (w_rcc inp fed iw pl) = 0 then (nI ((tn (w_rc_pl inp fed iw pl)) + 1)) else (nI ((tn (w_rc_pl inp fed iw pl)) + 0))) else (if (w_rcc inp fed iw pl) = 0 then (nI ((tn (w_rc_pl inp fed iw pl)) + 1)) else (nI ((tn (w_rc_pl inp fed iw pl)) + 0)))) else (if (r_X3_here inp fed pl) = (nI (107)) then (nI (tn (o_X3_number_pl inp fed (nI (tn (o_X3_wants_pl inp fed (nI (tn (w_rc_pl inp fed iw pl))) (w_rc_iw inp fed iw pl) (nI (64))))) (o_X3_wants_iw inp fed (nI (tn (w_rc_pl inp fed iw pl))) (w_rc_iw inp fed iw pl) (nI (64)))))) else (if (r_X3_here inp fed pl) = (nI (112)) then (nI (tn (o_X3_number_pl inp fed (nI (tn (o_X3_wants_pl inp fed (nI (tn (o_X3_number_pl inp fed (nI (tn (o_X3_wants_pl inp fed (nI (tn (w_rc_pl inp fed iw pl))) (w_rc_iw inp fed iw pl) (nI (58))))) (o_X3_wants_iw inp fed (nI (tn (w_rc_pl inp fed iw pl))) (w_rc_iw inp fed iw pl) (nI (58)))))) (o_X3_number_iw inp fed (nI (tn (o_X3_wants_pl inp fed (nI (tn (w_rc_pl inp fed iw pl))) (w_rc_iw inp fed iw pl) (nI (58))))) (o_X3_wants_iw inp fed (nI (tn (w_rc_pl inp fed iw pl))) (w_rc_iw inp fed iw pl) (nI (58)))) (nI (47))))) (o_X3_wants_iw inp fed (nI (tn (o_X3_number_pl inp fed (nI (tn (o_X3_wants_pl inp fed (nI (tn (w_rc_pl inp fed iw pl))) (w_rc_iw inp fed iw pl) (nI (58))))) (o_X3_wants_iw inp fed (nI (tn (w_rc_pl inp fed iw pl))) (w_rc_iw inp fed iw pl) (nI (58)))))) (o_X3_number_iw inp fed (nI (tn (o_X3_wants_pl inp fed (nI (tn (w_rc_pl inp fed iw pl))) (w_rc_iw inp fed iw pl) (nI (58))))) (o_X3_wants_iw inp fed (nI (tn (w_rc_pl inp fed iw pl))) (w_rc_iw inp fed iw pl) (nI (58)))) (nI (47)))))) else (if (r_X3_here inp fed pl) = (nI (103)) then (nI (tn (o_X3_number_pl inp fed (nI (tn (o_X3_wants_pl inp fed (nI (tn (o_X3_number_pl inp fed (nI (tn (o_X3_wants_pl inp fed (nI (tn (w_rc_pl inp fed iw pl))) (w_rc_iw inp fed iw pl) (nI (61))))) (o_X3_wants_iw inp fed (nI (tn (w_rc_pl inp fed iw pl))) (w_rc_iw inp fed iw pl) (nI (61)))))) (o_X3_number_iw inp fed (nI (tn (o_X3_wants_pl inp fed (nI (tn (w_rc_pl inp fed iw pl))) (w_rc_iw inp fed iw pl) (nI (61))))) (o_X3_wants_iw inp fed (nI (tn (w_rc_pl inp fed iw pl))) (w_rc_iw inp fed iw pl) (nI (61)))) (nI (42))))) (o_X3_wants_iw inp fed (nI (tn (o_X3_number_pl inp fed (nI (tn (o_X3_wants_pl inp fed (nI (tn (w_rc_pl inp fed iw pl))) (w_rc_iw inp fed iw pl) (nI (61))))) (o_X3_wants_iw inp fed (nI (tn (w_rc_pl inp fed iw pl))) (w_rc_iw inp fed iw pl) (nI (61)))))) (o_X3_number_iw inp fed (nI (tn (o_X3_wants_pl inp fed (nI (tn (w_rc_pl inp fed iw pl))) (w_rc_iw inp fed iw pl) (nI (61))))) (o_X3_wants_iw inp fed (nI (tn (w_rc_pl inp fed iw pl))) (w_rc_iw inp fed iw pl) (nI (61)))) (nI (42)))))) else (nI (tn (w_rc_pl inp fed iw pl))))))) else pl)
def o_X3_readsCommand_iw (inp : Nat → Int32) (fed : Int32) (pl : Int32) (iw : Int32) : Int32 := (if (w_rc0 inp fed iw pl) = 0 then (if (r_X3_here inp fed pl) = (nI (99)) then (if (r_X3_here inp fed (nI (tn (w_rc_pl inp fed iw pl)))) = (nI (43)) then (if (w_rcc inp fed iw pl) = 0 then (w_rcc inp fed iw pl) else (w_rcc inp fed iw pl)) else (if (w_rcc inp fed iw pl) = 0 then (w_rcc inp fed iw pl) else (w_rcc inp fed iw pl))) else (if (r_X3_here inp fed pl) = (nI (107)) then (o_X3_number_iw inp fed (nI (tn (o_X3_wants_pl inp fed (nI (tn (w_rc_pl inp fed iw pl))) (w_rc_iw inp fed iw pl) (nI (64))))) (o_X3_wants_iw inp fed (nI (tn (w_rc_pl inp fed iw pl))) (w_rc_iw inp fed iw pl) (nI (64)))) else (if (r_X3_here inp fed pl) = (nI (112)) then (o_X3_number_iw inp fed (nI (tn (o_X3_wants_pl inp fed (nI (tn (o_X3_number_pl inp fed (nI (tn (o_X3_wants_pl inp fed (nI (tn (w_rc_pl inp fed iw pl))) (w_rc_iw inp fed iw pl) (nI (58))))) (o_X3_wants_iw inp fed (nI (tn (w_rc_pl inp fed iw pl))) (w_rc_iw inp fed iw pl) (nI (58)))))) (o_X3_number_iw inp fed (nI (tn (o_X3_wants_pl inp fed (nI (tn (w_rc_pl inp fed iw pl))) (w_rc_iw inp fed iw pl) (nI (58))))) (o_X3_wants_iw inp fed (nI (tn (w_rc_pl inp fed iw pl))) (w_rc_iw inp fed iw pl) (nI (58)))) (nI (47))))) (o_X3_wants_iw inp fed (nI (tn (o_X3_number_pl inp fed (nI (tn (o_X3_wants_pl inp fed (nI (tn (w_rc_pl inp fed iw pl))) (w_rc_iw inp fed iw pl) (nI (58))))) (o_X3_wants_iw inp fed (nI (tn (w_rc_pl inp fed iw pl))) (w_rc_iw inp fed iw pl) (nI (58)))))) (o_X3_number_iw inp fed (nI (tn (o_X3_wants_pl inp fed (nI (tn (w_rc_pl inp fed iw pl))) (w_rc_iw inp fed iw pl) (nI (58))))) (o_X3_wants_iw inp fed (nI (tn (w_rc_pl inp fed iw pl))) (w_rc_iw inp fed iw pl) (nI (58)))) (nI (47)))) else (if (r_X3_here inp fed pl) = (nI (103)) then (o_X3_number_iw inp fed (nI (tn (o_X3_wants_pl inp fed (nI (tn (o_X3_number_pl inp fed (nI (tn (o_X3_wants_pl inp fed (nI (tn (w_rc_pl inp fed iw pl))) (w_rc_iw inp fed iw pl) (nI (61))))) (o_X3_wants_iw inp fed (nI (tn (w_rc_pl inp fed iw pl))) (w_rc_iw inp fed iw pl) (nI (61)))))) (o_X3_number_iw inp fed (nI (tn (o_X3_wants_pl inp fed (nI (tn (w_rc_pl inp fed iw pl))) (w_rc_iw inp fed iw pl) (nI (61))))) (o_X3_wants_iw inp fed (nI (tn (w_rc_pl inp fed iw pl))) (w_rc_iw inp fed iw pl) (nI (61)))) (nI (42))))) (o_X3_wants_iw inp fed (nI (tn (o_X3_number_pl inp fed (nI (tn (o_X3_wants_pl inp fed (nI (tn (w_rc_pl inp fed iw pl))) (w_rc_iw inp fed iw pl) (nI (61))))) (o_X3_wants_iw inp fed (nI (tn (w_rc_pl inp fed iw pl))) (w_rc_iw inp fed iw pl) (nI (61)))))) (o_X3_number_iw inp fed (nI (tn (o_X3_wants_pl inp fed (nI (tn (w_rc_pl inp fed iw pl))) (w_rc_iw inp fed iw pl) (nI (61))))) (o_X3_wants_iw inp fed (nI (tn (w_rc_pl inp fed iw pl))) (w_rc_iw inp fed iw pl) (nI (61)))) (nI (42)))) else (w_rc_iw inp fed iw pl))))) else (w_rc0 inp fed iw pl))
theorem hd_X3_readsCommand : yX3_readsCommand.cls = RX3 ∧ yX3_readsCommand.cls ≠ "java/lang/invoke/MethodHandle" ∧ yX3_readsCommand.cls ≠ "java/lang/invoke/VarHandle" ∧ (parseMethodDescriptor yX3_readsCommand.desc).map (fun d => d.parameters.length) = some 1 := by decide +kernel
set_option maxHeartbeats 4000000 in
theorem t_X3_readsCommand (l : Launch) (Ω : jO) {t : Nat} {G0 : Mem} {g hi sv as_ inp why now told bef : Nat → Int32} {ch hs fed fa ws ns ct st_ pl iw sn : Int32} {sz : Nat} (ht : Ω.2.2.2 ≤ t) (to9 : Nat) (hto : to9 ≤ 236) (hpl : pl = nI (tn pl)) (hplb : tn pl ≤ 1900) (hfd : fed = nI (tn fed)) (hfd6 : tn fed ≤ 60) : Met l yX3_readsCommand (ws_ yX3_readsCommand cX3_readsCommand 3 (none)) ({ frames := 3, cells := 0, slots := 0, locals := 55 }) (va_Pc [.ref t, .int (nI (to9))] (jWd Ω (tov Ω t G0 g hi sv as_ inp why now told bef ch hs fed fa ws ns ct st_ pl iw sn) sz)) (jQ Ω (jD none (tov Ω t G0 g hi sv as_ inp why now (o_X3_readsCommand_told inp told fed pl iw to9) bef ch hs fed fa ws ns ct st_ (o_X3_readsCommand_pl inp fed pl iw) (o_X3_readsCommand_iw inp fed pl iw) sn) sz)) 0 0 (jB Ω) := by
  refine jMet (by decide) (Nat.le_of_ble_eq_true rfl) ?_
  intro p e s m args below meth c cx hr hnm
  refine J_loc [some (.ref t), some (.int (nI (to9))), none] rfl ?_
  refine J_aload_n cx dX3_readsCommand_0 rfl ?_
  refine T_callI cx [] (t_X3_here l Ω ht hpl hfd hfd6) dX3_readsCommand_1 (lw_V q2965 q2967 qs76 q93 q2968) hd_X3_here rfl rfl ⟨Nat.le_of_ble_eq_true rfl, Nat.le_of_ble_eq_true rfl⟩ rfl rfl (Nat.le_of_ble_eq_true rfl) ?_
  refine J_istore_n2 cx dX3_readsCommand_4 (by decide) rfl ?_
  have K54 : J p l e ({ frames := 3, cells := 0, slots := 0, locals := 55 } : Room) s m args below meth c Ω 3 (MQ below (jQ Ω (jD none (tov Ω t G0 g hi sv as_ inp why now (o_X3_readsCommand_told inp told fed pl iw to9) bef ch hs fed fa ws ns ct st_ (o_X3_readsCommand_pl inp fed pl iw) (o_X3_readsCommand_iw inp fed pl iw) sn) sz)) args s 0 0 (jB Ω)) 0 0 sz (tov Ω t G0 g hi sv as_ inp why now told bef ch hs fed fa ws ns ct st_ pl iw sn) 54 [some (.ref t), some (.int (nI (to9))), some (.int (r_X3_here inp fed pl))] [.int (w_rc0 inp fed iw pl), .ref t] := by
    refine T_put_iw cx ht (w_rc0_01 ..) dX3_readsCommand_54 ?_
    refine J_aload_n cx dX3_readsCommand_57 rfl ?_
    refine T_get_iw cx dX3_readsCommand_58 ?_
    refine J_if_eq (tgt := 65) cx dX3_readsCommand_61 (by decide) (fun c61 => ?_) (fun c61 => ?_)
    · refine J_aload_n cx dX3_readsCommand_65 rfl ?_
      refine J_dup cx dX3_readsCommand_66 rfl ?_
      refine T_get_pl cx dX3_readsCommand_67 ?_
      refine J_top (.int (nI (tn pl))) (congrArg Value.int (hpl)) ?_
      refine J_iconst (v := nI (1)) cx dX3_readsCommand_70 (by decide) ?_
      refine J_iaddN cx dX3_readsCommand_71 ?_
      refine T_put_pl cx ht dX3_readsCommand_72 ?_
      refine J_aload_n cx dX3_readsCommand_75 rfl ?_
      refine T_get_told cx dX3_readsCommand_76 ?_
      refine J_iload_n cx dX3_readsCommand_79 rfl ?_
      refine J_iload_n cx dX3_readsCommand_80 rfl ?_
      refine T_st_told cx ht dX3_readsCommand_81 (by omega) ?_
      have K103 : J p l e ({ frames := 3, cells := 0, slots := 0, locals := 55 } : Room) s m args below meth c Ω 3 (MQ below (jQ Ω (jD none (tov Ω t G0 g hi sv as_ inp why now (o_X3_readsCommand_told inp told fed pl iw to9) bef ch hs fed fa ws ns ct st_ (o_X3_readsCommand_pl inp fed pl iw) (o_X3_readsCommand_iw inp fed pl iw) sn) sz)) args s 0 0 (jB Ω)) 0 0 sz (tov Ω t G0 g hi sv as_ inp why now (upd told (to9) (r_X3_here inp fed pl)) bef ch hs fed fa ws ns ct st_ (w_rc_pl inp fed iw pl) (w_rc_iw inp fed iw pl) sn) 103 [some (.ref t), some (.int (nI (to9))), some (.int (r_X3_here inp fed pl))] [.int (w_rc_v inp fed iw pl), .int (nI (to9 + 1)), .ref (t + 8)] := by
        have hpn9 := rc_pl inp fed iw pl (by omega)
        have hpm9 := hpn9.2
        refine J_mem (tov Ω t G0 g hi sv as_ inp why now (upd told (to9) (r_X3_here inp fed pl)) bef ch hs fed fa ws ns ct st_ (nI (tn (w_rc_pl inp fed iw pl))) (w_rc_iw inp fed iw pl) sn) (tov_cg rfl rfl rfl rfl rfl rfl rfl rfl rfl rfl rfl rfl rfl rfl rfl rfl rfl hpn9.1 rfl rfl) ?_
        refine T_st_told cx ht dX3_readsCommand_103 (by omega) ?_
        refine J_iload_n cx dX3_readsCommand_104 rfl ?_
        refine J_bipush (v := nI (99)) cx dX3_readsCommand_105 (by decide) ?_
        refine J_icmp_ne (tgt := 190) cx dX3_readsCommand_107 (by decide) (fun c107 => ?_) (fun c107 => ?_)
        · refine J_iload_n cx dX3_readsCommand_190 rfl ?_
          refine J_bipush (v := nI (107)) cx dX3_readsCommand_191 (by decide) ?_
          refine J_icmp_ne (tgt := 217) cx dX3_readsCommand_193 (by decide) (fun c193 => ?_) (fun c193 => ?_)
          · refine J_iload_n cx dX3_readsCommand_217 rfl ?_
            refine J_bipush (v := nI (112)) cx dX3_readsCommand_218 (by decide) ?_
            refine J_icmp_eq (tgt := 229) cx dX3_readsCommand_220 (by decide) (fun c220 => ?_) (fun c220 => ?_)
            · refine J_aload_n cx dX3_readsCommand_229 rfl ?_
              refine J_iload_n cx dX3_readsCommand_230 rfl ?_
              refine J_bipush (v := nI (112)) cx dX3_readsCommand_231 (by decide) ?_
              refine J_icmp_ne (tgt := 241) cx dX3_readsCommand_233 (by decide) (fun c233 => absurd c220 c233) (fun c233 => ?_)
              refine J_bipush (v := nI (58)) cx dX3_readsCommand_236 (by decide) ?_
              refine J_goto (tgt := 243) cx dX3_readsCommand_238 (by decide) ?_
              refine T_callV cx [.int (nI (58))] (t_X3_wants l Ω ht (nI (58)) (nI_tn (by omega)) (by first | omega | (rw [tn_nI (by omega)]; omega)) hfd hfd6) dX3_readsCommand_243 (lw_V q2973 q2975 qs78 q93 q2976) hd_X3_wants rfl rfl ⟨Nat.le_of_ble_eq_true rfl, Nat.le_of_ble_eq_true rfl⟩ rfl rfl (Nat.le_of_ble_eq_true rfl) ?_
              have hpn1 := wants_pl inp fed (nI (tn (w_rc_pl inp fed iw pl))) (w_rc_iw inp fed iw pl) (nI (58)) (by first | omega | (rw [tn_nI (by omega)]; omega))
              have hpm1 := hpn1.2
              try rw [tn_nI (by omega)] at hpm1
              refine J_mem (tov Ω t G0 g hi sv as_ inp why now (upd (upd told (to9) (r_X3_here inp fed pl)) (to9 + 1) (w_rc_v inp fed iw pl)) bef ch hs fed fa ws ns ct st_ (nI (tn (o_X3_wants_pl inp fed (nI (tn (w_rc_pl inp fed iw pl))) (w_rc_iw inp fed iw pl) (nI (58))))) (o_X3_wants_iw inp fed (nI (tn (w_rc_pl inp fed iw pl))) (w_rc_iw inp fed iw pl) (nI (58))) sn) (tov_cg rfl rfl rfl rfl rfl rfl rfl rfl rfl rfl rfl rfl rfl rfl rfl rfl rfl hpn1.1 rfl rfl) ?_
              refine J_aload_n cx dX3_readsCommand_246 rfl ?_
              refine T_get_told cx dX3_readsCommand_247 ?_
              refine J_iload_n cx dX3_readsCommand_250 rfl ?_
              refine J_iconst (v := nI (2)) cx dX3_readsCommand_251 (by decide) ?_
              refine J_iaddN cx dX3_readsCommand_252 ?_
              refine J_aload_n cx dX3_readsCommand_253 rfl ?_
              refine T_callI cx [] (t_X3_number l Ω ht (nI_tn (by omega)) (by first | omega | (rw [tn_nI (by omega)]; omega)) hfd hfd6) dX3_readsCommand_254 (lw_V q2969 q2971 qs77 q93 q2972) hd_X3_number rfl rfl ⟨Nat.le_of_ble_eq_true rfl, Nat.le_of_ble_eq_true rfl⟩ rfl rfl (Nat.le_of_ble_eq_true rfl) ?_
              have hpn2 := number_pl inp fed (nI (tn (o_X3_wants_pl inp fed (nI (tn (w_rc_pl inp fed iw pl))) (w_rc_iw inp fed iw pl) (nI (58))))) (o_X3_wants_iw inp fed (nI (tn (w_rc_pl inp fed iw pl))) (w_rc_iw inp fed iw pl) (nI (58))) (by first | omega | (rw [tn_nI (by omega)]; omega))
              have hpm2 := hpn2.2
              try rw [tn_nI (by omega)] at hpm2
              refine J_mem (tov Ω t G0 g hi sv as_ inp why now (upd (upd told (to9) (r_X3_here inp fed pl)) (to9 + 1) (w_rc_v inp fed iw pl)) bef ch hs fed fa ws ns ct st_ (nI (tn (o_X3_number_pl inp fed (nI (tn (o_X3_wants_pl inp fed (nI (tn (w_rc_pl inp fed iw pl))) (w_rc_iw inp fed iw pl) (nI (58))))) (o_X3_wants_iw inp fed (nI (tn (w_rc_pl inp fed iw pl))) (w_rc_iw inp fed iw pl) (nI (58)))))) (o_X3_number_iw inp fed (nI (tn (o_X3_wants_pl inp fed (nI (tn (w_rc_pl inp fed iw pl))) (w_rc_iw inp fed iw pl) (nI (58))))) (o_X3_wants_iw inp fed (nI (tn (w_rc_pl inp fed iw pl))) (w_rc_iw inp fed iw pl) (nI (58)))) sn) (tov_cg rfl rfl rfl rfl rfl rfl rfl rfl rfl rfl rfl rfl rfl rfl rfl rfl rfl hpn2.1 rfl rfl) ?_
              refine T_st_told cx ht dX3_readsCommand_257 (by omega) ?_
              refine J_aload_n cx dX3_readsCommand_258 rfl ?_
              refine J_iload_n cx dX3_readsCommand_259 rfl ?_
              refine J_bipush (v := nI (112)) cx dX3_readsCommand_260 (by decide) ?_
              refine J_icmp_ne (tgt := 270) cx dX3_readsCommand_262 (by decide) (fun c262 => absurd c220 c262) (fun c262 => ?_)
              refine J_bipush (v := nI (47)) cx dX3_readsCommand_265 (by decide) ?_
              refine J_goto (tgt := 272) cx dX3_readsCommand_267 (by decide) ?_
              refine T_callV cx [.int (nI (47))] (t_X3_wants l Ω ht (nI (47)) (nI_tn (by omega)) (by first | omega | (rw [tn_nI (by omega)]; omega)) hfd hfd6) dX3_readsCommand_272 (lw_V q2973 q2975 qs78 q93 q2976) hd_X3_wants rfl rfl ⟨Nat.le_of_ble_eq_true rfl, Nat.le_of_ble_eq_true rfl⟩ rfl rfl (Nat.le_of_ble_eq_true rfl) ?_
              have hpn3 := wants_pl inp fed (nI (tn (o_X3_number_pl inp fed (nI (tn (o_X3_wants_pl inp fed (nI (tn (w_rc_pl inp fed iw pl))) (w_rc_iw inp fed iw pl) (nI (58))))) (o_X3_wants_iw inp fed (nI (tn (w_rc_pl inp fed iw pl))) (w_rc_iw inp fed iw pl) (nI (58)))))) (o_X3_number_iw inp fed (nI (tn (o_X3_wants_pl inp fed (nI (tn (w_rc_pl inp fed iw pl))) (w_rc_iw inp fed iw pl) (nI (58))))) (o_X3_wants_iw inp fed (nI (tn (w_rc_pl inp fed iw pl))) (w_rc_iw inp fed iw pl) (nI (58)))) (nI (47)) (by first | omega | (rw [tn_nI (by omega)]; omega))
              have hpm3 := hpn3.2
              try rw [tn_nI (by omega)] at hpm3
              refine J_mem (tov Ω t G0 g hi sv as_ inp why now (upd (upd (upd told (to9) (r_X3_here inp fed pl)) (to9 + 1) (w_rc_v inp fed iw pl)) (to9 + 2) (r_X3_number inp fed (nI (tn (o_X3_wants_pl inp fed (nI (tn (w_rc_pl inp fed iw pl))) (w_rc_iw inp fed iw pl) (nI (58))))) (o_X3_wants_iw inp fed (nI (tn (w_rc_pl inp fed iw pl))) (w_rc_iw inp fed iw pl) (nI (58))))) bef ch hs fed fa ws ns ct st_ (nI (tn (o_X3_wants_pl inp fed (nI (tn (o_X3_number_pl inp fed (nI (tn (o_X3_wants_pl inp fed (nI (tn (w_rc_pl inp fed iw pl))) (w_rc_iw inp fed iw pl) (nI (58))))) (o_X3_wants_iw inp fed (nI (tn (w_rc_pl inp fed iw pl))) (w_rc_iw inp fed iw pl) (nI (58)))))) (o_X3_number_iw inp fed (nI (tn (o_X3_wants_pl inp fed (nI (tn (w_rc_pl inp fed iw pl))) (w_rc_iw inp fed iw pl) (nI (58))))) (o_X3_wants_iw inp fed (nI (tn (w_rc_pl inp fed iw pl))) (w_rc_iw inp fed iw pl) (nI (58)))) (nI (47))))) (o_X3_wants_iw inp fed (nI (tn (o_X3_number_pl inp fed (nI (tn (o_X3_wants_pl inp fed (nI (tn (w_rc_pl inp fed iw pl))) (w_rc_iw inp fed iw pl) (nI (58))))) (o_X3_wants_iw inp fed (nI (tn (w_rc_pl inp fed iw pl))) (w_rc_iw inp fed iw pl) (nI (58)))))) (o_X3_number_iw inp fed (nI (tn (o_X3_wants_pl inp fed (nI (tn (w_rc_pl inp fed iw pl))) (w_rc_iw inp fed iw pl) (nI (58))))) (o_X3_wants_iw inp fed (nI (tn (w_rc_pl inp fed iw pl))) (w_rc_iw inp fed iw pl) (nI (58)))) (nI (47))) sn) (tov_cg rfl rfl rfl rfl rfl rfl rfl rfl rfl rfl rfl rfl rfl rfl rfl rfl rfl hpn3.1 rfl rfl) ?_
              refine J_aload_n cx dX3_readsCommand_275 rfl ?_
              refine T_get_told cx dX3_readsCommand_276 ?_
              refine J_iload_n cx dX3_readsCommand_279 rfl ?_
              refine J_iconst (v := nI (3)) cx dX3_readsCommand_280 (by decide) ?_
              refine J_iaddN cx dX3_readsCommand_281 ?_
              refine J_aload_n cx dX3_readsCommand_282 rfl ?_
              refine T_callI cx [] (t_X3_number l Ω ht (nI_tn (by omega)) (by first | omega | (rw [tn_nI (by omega)]; omega)) hfd hfd6) dX3_readsCommand_283 (lw_V q2969 q2971 qs77 q93 q2972) hd_X3_number rfl rfl ⟨Nat.le_of_ble_eq_true rfl, Nat.le_of_ble_eq_true rfl⟩ rfl rfl (Nat.le_of_ble_eq_true rfl) ?_
              have hpn4 := number_pl inp fed (nI (tn (o_X3_wants_pl inp fed (nI (tn (o_X3_number_pl inp fed (nI (tn (o_X3_wants_pl inp fed (nI (tn (w_rc_pl inp fed iw pl))) (w_rc_iw inp fed iw pl) (nI (58))))) (o_X3_wants_iw inp fed (nI (tn (w_rc_pl inp fed iw pl))) (w_rc_iw inp fed iw pl) (nI (58)))))) (o_X3_number_iw inp fed (nI (tn (o_X3_wants_pl inp fed (nI (tn (w_rc_pl inp fed iw pl))) (w_rc_iw inp fed iw pl) (nI (58))))) (o_X3_wants_iw inp fed (nI (tn (w_rc_pl inp fed iw pl))) (w_rc_iw inp fed iw pl) (nI (58)))) (nI (47))))) (o_X3_wants_iw inp fed (nI (tn (o_X3_number_pl inp fed (nI (tn (o_X3_wants_pl inp fed (nI (tn (w_rc_pl inp fed iw pl))) (w_rc_iw inp fed iw pl) (nI (58))))) (o_X3_wants_iw inp fed (nI (tn (w_rc_pl inp fed iw pl))) (w_rc_iw inp fed iw pl) (nI (58)))))) (o_X3_number_iw inp fed (nI (tn (o_X3_wants_pl inp fed (nI (tn (w_rc_pl inp fed iw pl))) (w_rc_iw inp fed iw pl) (nI (58))))) (o_X3_wants_iw inp fed (nI (tn (w_rc_pl inp fed iw pl))) (w_rc_iw inp fed iw pl) (nI (58)))) (nI (47))) (by first | omega | (rw [tn_nI (by omega)]; omega))
              have hpm4 := hpn4.2
              try rw [tn_nI (by omega)] at hpm4
              refine J_mem (tov Ω t G0 g hi sv as_ inp why now (upd (upd (upd told (to9) (r_X3_here inp fed pl)) (to9 + 1) (w_rc_v inp fed iw pl)) (to9 + 2) (r_X3_number inp fed (nI (tn (o_X3_wants_pl inp fed (nI (tn (w_rc_pl inp fed iw pl))) (w_rc_iw inp fed iw pl) (nI (58))))) (o_X3_wants_iw inp fed (nI (tn (w_rc_pl inp fed iw pl))) (w_rc_iw inp fed iw pl) (nI (58))))) bef ch hs fed fa ws ns ct st_ (nI (tn (o_X3_number_pl inp fed (nI (tn (o_X3_wants_pl inp fed (nI (tn (o_X3_number_pl inp fed (nI (tn (o_X3_wants_pl inp fed (nI (tn (w_rc_pl inp fed iw pl))) (w_rc_iw inp fed iw pl) (nI (58))))) (o_X3_wants_iw inp fed (nI (tn (w_rc_pl inp fed iw pl))) (w_rc_iw inp fed iw pl) (nI (58)))))) (o_X3_number_iw inp fed (nI (tn (o_X3_wants_pl inp fed (nI (tn (w_rc_pl inp fed iw pl))) (w_rc_iw inp fed iw pl) (nI (58))))) (o_X3_wants_iw inp fed (nI (tn (w_rc_pl inp fed iw pl))) (w_rc_iw inp fed iw pl) (nI (58)))) (nI (47))))) (o_X3_wants_iw inp fed (nI (tn (o_X3_number_pl inp fed (nI (tn (o_X3_wants_pl inp fed (nI (tn (w_rc_pl inp fed iw pl))) (w_rc_iw inp fed iw pl) (nI (58))))) (o_X3_wants_iw inp fed (nI (tn (w_rc_pl inp fed iw pl))) (w_rc_iw inp fed iw pl) (nI (58)))))) (o_X3_number_iw inp fed (nI (tn (o_X3_wants_pl inp fed (nI (tn (w_rc_pl inp fed iw pl))) (w_rc_iw inp fed iw pl) (nI (58))))) (o_X3_wants_iw inp fed (nI (tn (w_rc_pl inp fed iw pl))) (w_rc_iw inp fed iw pl) (nI (58)))) (nI (47)))))) (o_X3_number_iw inp fed (nI (tn (o_X3_wants_pl inp fed (nI (tn (o_X3_number_pl inp fed (nI (tn (o_X3_wants_pl inp fed (nI (tn (w_rc_pl inp fed iw pl))) (w_rc_iw inp fed iw pl) (nI (58))))) (o_X3_wants_iw inp fed (nI (tn (w_rc_pl inp fed iw pl))) (w_rc_iw inp fed iw pl) (nI (58)))))) (o_X3_number_iw inp fed (nI (tn (o_X3_wants_pl inp fed (nI (tn (w_rc_pl inp fed iw pl))) (w_rc_iw inp fed iw pl) (nI (58))))) (o_X3_wants_iw inp fed (nI (tn (w_rc_pl inp fed iw pl))) (w_rc_iw inp fed iw pl) (nI (58)))) (nI (47))))) (o_X3_wants_iw inp fed (nI (tn (o_X3_number_pl inp fed (nI (tn (o_X3_wants_pl inp fed (nI (tn (w_rc_pl inp fed iw pl))) (w_rc_iw inp fed iw pl) (nI (58))))) (o_X3_wants_iw inp fed (nI (tn (w_rc_pl inp fed iw pl))) (w_rc_iw inp fed iw pl) (nI (58)))))) (o_X3_number_iw inp fed (nI (tn (o_X3_wants_pl inp fed (nI (tn (w_rc_pl inp fed iw pl))) (w_rc_iw inp fed iw pl) (nI (58))))) (o_X3_wants_iw inp fed (nI (tn (w_rc_pl inp fed iw pl))) (w_rc_iw inp fed iw pl) (nI (58)))) (nI (47)))) sn) (tov_cg rfl rfl rfl rfl rfl rfl rfl rfl rfl rfl rfl rfl rfl rfl rfl rfl rfl hpn4.1 rfl rfl) ?_
              refine T_st_told cx ht dX3_readsCommand_286 (by omega) ?_
              exact J_vret cx dX3_readsCommand_287 hr ⟨rfl, (tov_cg rfl rfl rfl rfl rfl rfl rfl (by simp only [o_X3_readsCommand_told, o_X3_readsCommand_pl, o_X3_readsCommand_iw, if_pos c61, if_neg c107, if_neg c193, if_pos c220]) rfl rfl rfl rfl rfl rfl rfl rfl rfl (by simp only [o_X3_readsCommand_told, o_X3_readsCommand_pl, o_X3_readsCommand_iw, if_pos c61, if_neg c107, if_neg c193, if_pos c220]) (by simp only [o_X3_readsCommand_told, o_X3_readsCommand_pl, o_X3_readsCommand_iw, if_pos c61, if_neg c107, if_neg c193, if_pos c220]) rfl), rfl⟩ (Nat.le_refl 0) (Nat.le_refl 0)
            · refine J_iload_n cx dX3_readsCommand_223 rfl ?_
              refine J_bipush (v := nI (103)) cx dX3_readsCommand_224 (by decide) ?_
              refine J_icmp_ne (tgt := 287) cx dX3_readsCommand_226 (by decide) (fun c226 => ?_) (fun c226 => ?_)
              · exact J_vret cx dX3_readsCommand_287 hr ⟨rfl, (tov_cg rfl rfl rfl rfl rfl rfl rfl (by simp only [o_X3_readsCommand_told, o_X3_readsCommand_pl, o_X3_readsCommand_iw, if_pos c61, if_neg c107, if_neg c193, if_neg c220, if_neg c226]) rfl rfl rfl rfl rfl rfl rfl rfl rfl (by simp only [o_X3_readsCommand_told, o_X3_readsCommand_pl, o_X3_readsCommand_iw, if_pos c61, if_neg c107, if_neg c193, if_neg c220, if_neg c226]) (by simp only [o_X3_readsCommand_told, o_X3_readsCommand_pl, o_X3_readsCommand_iw, if_pos c61, if_neg c107, if_neg c193, if_neg c220, if_neg c226]) rfl), rfl⟩ (Nat.le_refl 0) (Nat.le_refl 0)
              · refine J_aload_n cx dX3_readsCommand_229 rfl ?_
                refine J_iload_n cx dX3_readsCommand_230 rfl ?_
                refine J_bipush (v := nI (112)) cx dX3_readsCommand_231 (by decide) ?_
                refine J_icmp_ne (tgt := 241) cx dX3_readsCommand_233 (by decide) (fun c233 => ?_) (fun c233 => absurd c233 c220)
                refine J_bipush (v := nI (61)) cx dX3_readsCommand_241 (by decide) ?_
                refine T_callV cx [.int (nI (61))] (t_X3_wants l Ω ht (nI (61)) (nI_tn (by omega)) (by first | omega | (rw [tn_nI (by omega)]; omega)) hfd hfd6) dX3_readsCommand_243 (lw_V q2973 q2975 qs78 q93 q2976) hd_X3_wants rfl rfl ⟨Nat.le_of_ble_eq_true rfl, Nat.le_of_ble_eq_true rfl⟩ rfl rfl (Nat.le_of_ble_eq_true rfl) ?_
                have hpn5 := wants_pl inp fed (nI (tn (w_rc_pl inp fed iw pl))) (w_rc_iw inp fed iw pl) (nI (61)) (by first | omega | (rw [tn_nI (by omega)]; omega))
                have hpm5 := hpn5.2
                try rw [tn_nI (by omega)] at hpm5
                refine J_mem (tov Ω t G0 g hi sv as_ inp why now (upd (upd told (to9) (r_X3_here inp fed pl)) (to9 + 1) (w_rc_v inp fed iw pl)) bef ch hs fed fa ws ns ct st_ (nI (tn (o_X3_wants_pl inp fed (nI (tn (w_rc_pl inp fed iw pl))) (w_rc_iw inp fed iw pl) (nI (61))))) (o_X3_wants_iw inp fed (nI (tn (w_rc_pl inp fed iw pl))) (w_rc_iw inp fed iw pl) (nI (61))) sn) (tov_cg rfl rfl rfl rfl rfl rfl rfl rfl rfl rfl rfl rfl rfl rfl rfl rfl rfl hpn5.1 rfl rfl) ?_
                refine J_aload_n cx dX3_readsCommand_246 rfl ?_
                refine T_get_told cx dX3_readsCommand_247 ?_
                refine J_iload_n cx dX3_readsCommand_250 rfl ?_
                refine J_iconst (v := nI (2)) cx dX3_readsCommand_251 (by decide) ?_
                refine J_iaddN cx dX3_readsCommand_252 ?_
                refine J_aload_n cx dX3_readsCommand_253 rfl ?_
                refine T_callI cx [] (t_X3_number l Ω ht (nI_tn (by omega)) (by first | omega | (rw [tn_nI (by omega)]; omega)) hfd hfd6) dX3_readsCommand_254 (lw_V q2969 q2971 qs77 q93 q2972) hd_X3_number rfl rfl ⟨Nat.le_of_ble_eq_true rfl, Nat.le_of_ble_eq_true rfl⟩ rfl rfl (Nat.le_of_ble_eq_true rfl) ?_
                have hpn6 := number_pl inp fed (nI (tn (o_X3_wants_pl inp fed (nI (tn (w_rc_pl inp fed iw pl))) (w_rc_iw inp fed iw pl) (nI (61))))) (o_X3_wants_iw inp fed (nI (tn (w_rc_pl inp fed iw pl))) (w_rc_iw inp fed iw pl) (nI (61))) (by first | omega | (rw [tn_nI (by omega)]; omega))
                have hpm6 := hpn6.2
                try rw [tn_nI (by omega)] at hpm6
                refine J_mem (tov Ω t G0 g hi sv as_ inp why now (upd (upd told (to9) (r_X3_here inp fed pl)) (to9 + 1) (w_rc_v inp fed iw pl)) bef ch hs fed fa ws ns ct st_ (nI (tn (o_X3_number_pl inp fed (nI (tn (o_X3_wants_pl inp fed (nI (tn (w_rc_pl inp fed iw pl))) (w_rc_iw inp fed iw pl) (nI (61))))) (o_X3_wants_iw inp fed (nI (tn (w_rc_pl inp fed iw pl))) (w_rc_iw inp fed iw pl) (nI (61)))))) (o_X3_number_iw inp fed (nI (tn (o_X3_wants_pl inp fed (nI (tn (w_rc_pl inp fed iw pl))) (w_rc_iw inp fed iw pl) (nI (61))))) (o_X3_wants_iw inp fed (nI (tn (w_rc_pl inp fed iw pl))) (w_rc_iw inp fed iw pl) (nI (61)))) sn) (tov_cg rfl rfl rfl rfl rfl rfl rfl rfl rfl rfl rfl rfl rfl rfl rfl rfl rfl hpn6.1 rfl rfl) ?_
                refine T_st_told cx ht dX3_readsCommand_257 (by omega) ?_
                refine J_aload_n cx dX3_readsCommand_258 rfl ?_
                refine J_iload_n cx dX3_readsCommand_259 rfl ?_
                refine J_bipush (v := nI (112)) cx dX3_readsCommand_260 (by decide) ?_
                refine J_icmp_ne (tgt := 270) cx dX3_readsCommand_262 (by decide) (fun c262 => ?_) (fun c262 => absurd c262 c220)
                refine J_bipush (v := nI (42)) cx dX3_readsCommand_270 (by decide) ?_
                refine T_callV cx [.int (nI (42))] (t_X3_wants l Ω ht (nI (42)) (nI_tn (by omega)) (by first | omega | (rw [tn_nI (by omega)]; omega)) hfd hfd6) dX3_readsCommand_272 (lw_V q2973 q2975 qs78 q93 q2976) hd_X3_wants rfl rfl ⟨Nat.le_of_ble_eq_true rfl, Nat.le_of_ble_eq_true rfl⟩ rfl rfl (Nat.le_of_ble_eq_true rfl) ?_
                have hpn7 := wants_pl inp fed (nI (tn (o_X3_number_pl inp fed (nI (tn (o_X3_wants_pl inp fed (nI (tn (w_rc_pl inp fed iw pl))) (w_rc_iw inp fed iw pl) (nI (61))))) (o_X3_wants_iw inp fed (nI (tn (w_rc_pl inp fed iw pl))) (w_rc_iw inp fed iw pl) (nI (61)))))) (o_X3_number_iw inp fed (nI (tn (o_X3_wants_pl inp fed (nI (tn (w_rc_pl inp fed iw pl))) (w_rc_iw inp fed iw pl) (nI (61))))) (o_X3_wants_iw inp fed (nI (tn (w_rc_pl inp fed iw pl))) (w_rc_iw inp fed iw pl) (nI (61)))) (nI (42)) (by first | omega | (rw [tn_nI (by omega)]; omega))
                have hpm7 := hpn7.2
                try rw [tn_nI (by omega)] at hpm7
                refine J_mem (tov Ω t G0 g hi sv as_ inp why now (upd (upd (upd told (to9) (r_X3_here inp fed pl)) (to9 + 1) (w_rc_v inp fed iw pl)) (to9 + 2) (r_X3_number inp fed (nI (tn (o_X3_wants_pl inp fed (nI (tn (w_rc_pl inp fed iw pl))) (w_rc_iw inp fed iw pl) (nI (61))))) (o_X3_wants_iw inp fed (nI (tn (w_rc_pl inp fed iw pl))) (w_rc_iw inp fed iw pl) (nI (61))))) bef ch hs fed fa ws ns ct st_ (nI (tn (o_X3_wants_pl inp fed (nI (tn (o_X3_number_pl inp fed (nI (tn (o_X3_wants_pl inp fed (nI (tn (w_rc_pl inp fed iw pl))) (w_rc_iw inp fed iw pl) (nI (61))))) (o_X3_wants_iw inp fed (nI (tn (w_rc_pl inp fed iw pl))) (w_rc_iw inp fed iw pl) (nI (61)))))) (o_X3_number_iw inp fed (nI (tn (o_X3_wants_pl inp fed (nI (tn (w_rc_pl inp fed iw pl))) (w_rc_iw inp fed iw pl) (nI (61))))) (o_X3_wants_iw inp fed (nI (tn (w_rc_pl inp fed iw pl))) (w_rc_iw inp fed iw pl) (nI (61)))) (nI (42))))) (o_X3_wants_iw inp fed (nI (tn (o_X3_number_pl inp fed (nI (tn (o_X3_wants_pl inp fed (nI (tn (w_rc_pl inp fed iw pl))) (w_rc_iw inp fed iw pl) (nI (61))))) (o_X3_wants_iw inp fed (nI (tn (w_rc_pl inp fed iw pl))) (w_rc_iw inp fed iw pl) (nI (61)))))) (o_X3_number_iw inp fed (nI (tn (o_X3_wants_pl inp fed (nI (tn (w_rc_pl inp fed iw pl))) (w_rc_iw inp fed iw pl) (nI (61))))) (o_X3_wants_iw inp fed (nI (tn (w_rc_pl inp fed iw pl))) (w_rc_iw inp fed iw pl) (nI (61)))) (nI (42))) sn) (tov_cg rfl rfl rfl rfl rfl rfl rfl rfl rfl rfl rfl rfl rfl rfl rfl rfl rfl hpn7.1 rfl rfl) ?_
                refine J_aload_n cx dX3_readsCommand_275 rfl ?_
                refine T_get_told cx dX3_readsCommand_276 ?_
                refine J_iload_n cx dX3_readsCommand_279 rfl ?_
                refine J_iconst (v := nI (3)) cx dX3_readsCommand_280 (by decide) ?_
                refine J_iaddN cx dX3_readsCommand_281 ?_
                refine J_aload_n cx dX3_readsCommand_282 rfl ?_
                refine T_callI cx [] (t_X3_number l Ω ht (nI_tn (by omega)) (by first | omega | (rw [tn_nI (by omega)]; omega)) hfd hfd6) dX3_readsCommand_283 (lw_V q2969 q2971 qs77 q93 q2972) hd_X3_number rfl rfl ⟨Nat.le_of_ble_eq_true rfl, Nat.le_of_ble_eq_true rfl⟩ rfl rfl (Nat.le_of_ble_eq_true rfl) ?_
                have hpn8 := number_pl inp fed (nI (tn (o_X3_wants_pl inp fed (nI (tn (o_X3_number_pl inp fed (nI (tn (o_X3_wants_pl inp fed (nI (tn (w_rc_pl inp fed iw pl))) (w_rc_iw inp fed iw pl) (nI (61))))) (o_X3_wants_iw inp fed (nI (tn (w_rc_pl inp fed iw pl))) (w_rc_iw inp fed iw pl) (nI (61)))))) (o_X3_number_iw inp fed (nI (tn (o_X3_wants_pl inp fed (nI (tn (w_rc_pl inp fed iw pl))) (w_rc_iw inp fed iw pl) (nI (61))))) (o_X3_wants_iw inp fed (nI (tn (w_rc_pl inp fed iw pl))) (w_rc_iw inp fed iw pl) (nI (61)))) (nI (42))))) (o_X3_wants_iw inp fed (nI (tn (o_X3_number_pl inp fed (nI (tn (o_X3_wants_pl inp fed (nI (tn (w_rc_pl inp fed iw pl))) (w_rc_iw inp fed iw pl) (nI (61))))) (o_X3_wants_iw inp fed (nI (tn (w_rc_pl inp fed iw pl))) (w_rc_iw inp fed iw pl) (nI (61)))))) (o_X3_number_iw inp fed (nI (tn (o_X3_wants_pl inp fed (nI (tn (w_rc_pl inp fed iw pl))) (w_rc_iw inp fed iw pl) (nI (61))))) (o_X3_wants_iw inp fed (nI (tn (w_rc_pl inp fed iw pl))) (w_rc_iw inp fed iw pl) (nI (61)))) (nI (42))) (by first | omega | (rw [tn_nI (by omega)]; omega))
                have hpm8 := hpn8.2
                try rw [tn_nI (by omega)] at hpm8
                refine J_mem (tov Ω t G0 g hi sv as_ inp why now (upd (upd (upd told (to9) (r_X3_here inp fed pl)) (to9 + 1) (w_rc_v inp fed iw pl)) (to9 + 2) (r_X3_number inp fed (nI (tn (o_X3_wants_pl inp fed (nI (tn (w_rc_pl inp fed iw pl))) (w_rc_iw inp fed iw pl) (nI (61))))) (o_X3_wants_iw inp fed (nI (tn (w_rc_pl inp fed iw pl))) (w_rc_iw inp fed iw pl) (nI (61))))) bef ch hs fed fa ws ns ct st_ (nI (tn (o_X3_number_pl inp fed (nI (tn (o_X3_wants_pl inp fed (nI (tn (o_X3_number_pl inp fed (nI (tn (o_X3_wants_pl inp fed (nI (tn (w_rc_pl inp fed iw pl))) (w_rc_iw inp fed iw pl) (nI (61))))) (o_X3_wants_iw inp fed (nI (tn (w_rc_pl inp fed iw pl))) (w_rc_iw inp fed iw pl) (nI (61)))))) (o_X3_number_iw inp fed (nI (tn (o_X3_wants_pl inp fed (nI (tn (w_rc_pl inp fed iw pl))) (w_rc_iw inp fed iw pl) (nI (61))))) (o_X3_wants_iw inp fed (nI (tn (w_rc_pl inp fed iw pl))) (w_rc_iw inp fed iw pl) (nI (61)))) (nI (42))))) (o_X3_wants_iw inp fed (nI (tn (o_X3_number_pl inp fed (nI (tn (o_X3_wants_pl inp fed (nI (tn (w_rc_pl inp fed iw pl))) (w_rc_iw inp fed iw pl) (nI (61))))) (o_X3_wants_iw inp fed (nI (tn (w_rc_pl inp fed iw pl))) (w_rc_iw inp fed iw pl) (nI (61)))))) (o_X3_number_iw inp fed (nI (tn (o_X3_wants_pl inp fed (nI (tn (w_rc_pl inp fed iw pl))) (w_rc_iw inp fed iw pl) (nI (61))))) (o_X3_wants_iw inp fed (nI (tn (w_rc_pl inp fed iw pl))) (w_rc_iw inp fed iw pl) (nI (61)))) (nI (42)))))) (o_X3_number_iw inp fed (nI (tn (o_X3_wants_pl inp fed (nI (tn (o_X3_number_pl inp fed (nI (tn (o_X3_wants_pl inp fed (nI (tn (w_rc_pl inp fed iw pl))) (w_rc_iw inp fed iw pl) (nI (61))))) (o_X3_wants_iw inp fed (nI (tn (w_rc_pl inp fed iw pl))) (w_rc_iw inp fed iw pl) (nI (61)))))) (o_X3_number_iw inp fed (nI (tn (o_X3_wants_pl inp fed (nI (tn (w_rc_pl inp fed iw pl))) (w_rc_iw inp fed iw pl) (nI (61))))) (o_X3_wants_iw inp fed (nI (tn (w_rc_pl inp fed iw pl))) (w_rc_iw inp fed iw pl) (nI (61)))) (nI (42))))) (o_X3_wants_iw inp fed (nI (tn (o_X3_number_pl inp fed (nI (tn (o_X3_wants_pl inp fed (nI (tn (w_rc_pl inp fed iw pl))) (w_rc_iw inp fed iw pl) (nI (61))))) (o_X3_wants_iw inp fed (nI (tn (w_rc_pl inp fed iw pl))) (w_rc_iw inp fed iw pl) (nI (61)))))) (o_X3_number_iw inp fed (nI (tn (o_X3_wants_pl inp fed (nI (tn (w_rc_pl inp fed iw pl))) (w_rc_iw inp fed iw pl) (nI (61))))) (o_X3_wants_iw inp fed (nI (tn (w_rc_pl inp fed iw pl))) (w_rc_iw inp fed iw pl) (nI (61)))) (nI (42)))) sn) (tov_cg rfl rfl rfl rfl rfl rfl rfl rfl rfl rfl rfl rfl rfl rfl rfl rfl rfl hpn8.1 rfl rfl) ?_
                refine T_st_told cx ht dX3_readsCommand_286 (by omega) ?_
                exact J_vret cx dX3_readsCommand_287 hr ⟨rfl, (tov_cg rfl rfl rfl rfl rfl rfl rfl (by simp only [o_X3_readsCommand_told, o_X3_readsCommand_pl, o_X3_readsCommand_iw, if_pos c61, if_neg c107, if_neg c193, if_neg c220, if_pos c226]) rfl rfl rfl rfl rfl rfl rfl rfl rfl (by simp only [o_X3_readsCommand_told, o_X3_readsCommand_pl, o_X3_readsCommand_iw, if_pos c61, if_neg c107, if_neg c193, if_neg c220, if_pos c226]) (by simp only [o_X3_readsCommand_told, o_X3_readsCommand_pl, o_X3_readsCommand_iw, if_pos c61, if_neg c107, if_neg c193, if_neg c220, if_pos c226]) rfl), rfl⟩ (Nat.le_refl 0) (Nat.le_refl 0)
          · refine J_aload_n cx dX3_readsCommand_196 rfl ?_
            refine J_bipush (v := nI (64)) cx dX3_readsCommand_197 (by decide) ?_
            refine T_callV cx [.int (nI (64))] (t_X3_wants l Ω ht (nI (64)) (nI_tn (by omega)) (by first | omega | (rw [tn_nI (by omega)]; omega)) hfd hfd6) dX3_readsCommand_199 (lw_V q2973 q2975 qs78 q93 q2976) hd_X3_wants rfl rfl ⟨Nat.le_of_ble_eq_true rfl, Nat.le_of_ble_eq_true rfl⟩ rfl rfl (Nat.le_of_ble_eq_true rfl) ?_
            have hpn9 := wants_pl inp fed (nI (tn (w_rc_pl inp fed iw pl))) (w_rc_iw inp fed iw pl) (nI (64)) (by first | omega | (rw [tn_nI (by omega)]; omega))
            have hpm9 := hpn9.2
            try rw [tn_nI (by omega)] at hpm9
            refine J_mem (tov Ω t G0 g hi sv as_ inp why now (upd (upd told (to9) (r_X3_here inp fed pl)) (to9 + 1) (w_rc_v inp fed iw pl)) bef ch hs fed fa ws ns ct st_ (nI (tn (o_X3_wants_pl inp fed (nI (tn (w_rc_pl inp fed iw pl))) (w_rc_iw inp fed iw pl) (nI (64))))) (o_X3_wants_iw inp fed (nI (tn (w_rc_pl inp fed iw pl))) (w_rc_iw inp fed iw pl) (nI (64))) sn) (tov_cg rfl rfl rfl rfl rfl rfl rfl rfl rfl rfl rfl rfl rfl rfl rfl rfl rfl hpn9.1 rfl rfl) ?_
            refine J_aload_n cx dX3_readsCommand_202 rfl ?_
            refine T_get_told cx dX3_readsCommand_203 ?_
            refine J_iload_n cx dX3_readsCommand_206 rfl ?_
            refine J_iconst (v := nI (2)) cx dX3_readsCommand_207 (by decide) ?_
            refine J_iaddN cx dX3_readsCommand_208 ?_
            refine J_aload_n cx dX3_readsCommand_209 rfl ?_
            refine T_callI cx [] (t_X3_number l Ω ht (nI_tn (by omega)) (by first | omega | (rw [tn_nI (by omega)]; omega)) hfd hfd6) dX3_readsCommand_210 (lw_V q2969 q2971 qs77 q93 q2972) hd_X3_number rfl rfl ⟨Nat.le_of_ble_eq_true rfl, Nat.le_of_ble_eq_true rfl⟩ rfl rfl (Nat.le_of_ble_eq_true rfl) ?_
            have hpn10 := number_pl inp fed (nI (tn (o_X3_wants_pl inp fed (nI (tn (w_rc_pl inp fed iw pl))) (w_rc_iw inp fed iw pl) (nI (64))))) (o_X3_wants_iw inp fed (nI (tn (w_rc_pl inp fed iw pl))) (w_rc_iw inp fed iw pl) (nI (64))) (by first | omega | (rw [tn_nI (by omega)]; omega))
            have hpm10 := hpn10.2
            try rw [tn_nI (by omega)] at hpm10
            refine J_mem (tov Ω t G0 g hi sv as_ inp why now (upd (upd told (to9) (r_X3_here inp fed pl)) (to9 + 1) (w_rc_v inp fed iw pl)) bef ch hs fed fa ws ns ct st_ (nI (tn (o_X3_number_pl inp fed (nI (tn (o_X3_wants_pl inp fed (nI (tn (w_rc_pl inp fed iw pl))) (w_rc_iw inp fed iw pl) (nI (64))))) (o_X3_wants_iw inp fed (nI (tn (w_rc_pl inp fed iw pl))) (w_rc_iw inp fed iw pl) (nI (64)))))) (o_X3_number_iw inp fed (nI (tn (o_X3_wants_pl inp fed (nI (tn (w_rc_pl inp fed iw pl))) (w_rc_iw inp fed iw pl) (nI (64))))) (o_X3_wants_iw inp fed (nI (tn (w_rc_pl inp fed iw pl))) (w_rc_iw inp fed iw pl) (nI (64)))) sn) (tov_cg rfl rfl rfl rfl rfl rfl rfl rfl rfl rfl rfl rfl rfl rfl rfl rfl rfl hpn10.1 rfl rfl) ?_
            refine T_st_told cx ht dX3_readsCommand_213 (by omega) ?_
            refine J_goto (tgt := 287) cx dX3_readsCommand_214 (by decide) ?_
            exact J_vret cx dX3_readsCommand_287 hr ⟨rfl, (tov_cg rfl rfl rfl rfl rfl rfl rfl (by simp only [o_X3_readsCommand_told, o_X3_readsCommand_pl, o_X3_readsCommand_iw, if_pos c61, if_neg c107, if_pos c193]) rfl rfl rfl rfl rfl rfl rfl rfl rfl (by simp only [o_X3_readsCommand_told, o_X3_readsCommand_pl, o_X3_readsCommand_iw, if_pos c61, if_neg c107, if_pos c193]) (by simp only [o_X3_readsCommand_told, o_X3_readsCommand_pl, o_X3_readsCommand_iw, if_pos c61, if_neg c107, if_pos c193]) rfl), rfl⟩ (Nat.le_refl 0) (Nat.le_refl 0)
        · have K141 : J p l e ({ frames := 3, cells := 0, slots := 0, locals := 55 } : Room) s m args below meth c Ω 3 (MQ below (jQ Ω (jD none (tov Ω t G0 g hi sv as_ inp why now (o_X3_readsCommand_told inp told fed pl iw to9) bef ch hs fed fa ws ns ct st_ (o_X3_readsCommand_pl inp fed pl iw) (o_X3_readsCommand_iw inp fed pl iw) sn) sz)) args s 0 0 (jB Ω)) 0 0 sz (tov Ω t G0 g hi sv as_ inp why now (upd (upd told (to9) (r_X3_here inp fed pl)) (to9 + 1) (w_rc_v inp fed iw pl)) bef ch hs fed fa ws ns ct st_ (nI (tn (w_rc_pl inp fed iw pl))) (w_rc_iw inp fed iw pl) sn) 141 [some (.ref t), some (.int (nI (to9))), some (.int (r_X3_here inp fed pl))] [.int (w_rcc inp fed iw pl), .ref t] := by
            refine T_put_iw cx ht (w_rcc_01 ..) dX3_readsCommand_141 ?_
            refine J_aload_n cx dX3_readsCommand_144 rfl ?_
            refine T_get_told cx dX3_readsCommand_145 ?_
            refine J_iload_n cx dX3_readsCommand_148 rfl ?_
            refine J_iconst (v := nI (2)) cx dX3_readsCommand_149 (by decide) ?_
            refine J_iaddN cx dX3_readsCommand_150 ?_
            refine J_aload_n cx dX3_readsCommand_151 rfl ?_
            refine T_callI cx [] (t_X3_here l Ω ht (nI_tn (by omega)) hfd hfd6) dX3_readsCommand_152 (lw_V q2965 q2967 qs76 q93 q2968) hd_X3_here rfl rfl ⟨Nat.le_of_ble_eq_true rfl, Nat.le_of_ble_eq_true rfl⟩ rfl rfl (Nat.le_of_ble_eq_true rfl) ?_
            refine J_bipush (v := nI (43)) cx dX3_readsCommand_155 (by decide) ?_
            refine J_icmp_ne (tgt := 164) cx dX3_readsCommand_157 (by decide) (fun c157 => ?_) (fun c157 => ?_)
            · refine J_iconst (v := nI (0)) cx dX3_readsCommand_164 (by decide) ?_
              refine T_st_told cx ht dX3_readsCommand_165 (by omega) ?_
              refine J_aload_n cx dX3_readsCommand_166 rfl ?_
              refine J_dup cx dX3_readsCommand_167 rfl ?_
              refine T_get_pl cx dX3_readsCommand_168 ?_
              refine J_aload_n cx dX3_readsCommand_171 rfl ?_
              refine T_get_iw cx dX3_readsCommand_172 ?_
              refine J_if_eq (tgt := 182) cx dX3_readsCommand_175 (by decide) (fun c175 => ?_) (fun c175 => ?_)
              · refine J_iconst (v := nI (1)) cx dX3_readsCommand_182 (by decide) ?_
                refine J_iaddN cx dX3_readsCommand_183 ?_
                refine T_put_pl cx ht dX3_readsCommand_184 ?_
                refine J_goto (tgt := 287) cx dX3_readsCommand_187 (by decide) ?_
                exact J_vret cx dX3_readsCommand_287 hr ⟨rfl, (tov_cg rfl rfl rfl rfl rfl rfl rfl (by simp only [o_X3_readsCommand_told, o_X3_readsCommand_pl, o_X3_readsCommand_iw, if_pos c61, if_pos c107, if_neg c157, if_pos c175]) rfl rfl rfl rfl rfl rfl rfl rfl rfl (by simp only [o_X3_readsCommand_told, o_X3_readsCommand_pl, o_X3_readsCommand_iw, if_pos c61, if_pos c107, if_neg c157, if_pos c175]) (by simp only [o_X3_readsCommand_told, o_X3_readsCommand_pl, o_X3_readsCommand_iw, if_pos c61, if_pos c107, if_neg c157, if_pos c175]) rfl), rfl⟩ (Nat.le_refl 0) (Nat.le_refl 0)
              · refine J_iconst (v := nI (0)) cx dX3_readsCommand_178 (by decide) ?_
                refine J_goto (tgt := 183) cx dX3_readsCommand_179 (by decide) ?_
                refine J_iaddN cx dX3_readsCommand_183 ?_
                refine T_put_pl cx ht dX3_readsCommand_184 ?_
                refine J_goto (tgt := 287) cx dX3_readsCommand_187 (by decide) ?_
                exact J_vret cx dX3_readsCommand_287 hr ⟨rfl, (tov_cg rfl rfl rfl rfl rfl rfl rfl (by simp only [o_X3_readsCommand_told, o_X3_readsCommand_pl, o_X3_readsCommand_iw, if_pos c61, if_pos c107, if_neg c157, if_neg c175]) rfl rfl rfl rfl rfl rfl rfl rfl rfl (by simp only [o_X3_readsCommand_told, o_X3_readsCommand_pl, o_X3_readsCommand_iw, if_pos c61, if_pos c107, if_neg c157, if_neg c175]) (by simp only [o_X3_readsCommand_told, o_X3_readsCommand_pl, o_X3_readsCommand_iw, if_pos c61, if_pos c107, if_neg c157, if_neg c175]) rfl), rfl⟩ (Nat.le_refl 0) (Nat.le_refl 0)
            · refine J_iconst (v := nI (1)) cx dX3_readsCommand_160 (by decide) ?_
              refine J_goto (tgt := 165) cx dX3_readsCommand_161 (by decide) ?_
              refine T_st_told cx ht dX3_readsCommand_165 (by omega) ?_
              refine J_aload_n cx dX3_readsCommand_166 rfl ?_
              refine J_dup cx dX3_readsCommand_167 rfl ?_
              refine T_get_pl cx dX3_readsCommand_168 ?_
              refine J_aload_n cx dX3_readsCommand_171 rfl ?_
              refine T_get_iw cx dX3_readsCommand_172 ?_
              refine J_if_eq (tgt := 182) cx dX3_readsCommand_175 (by decide) (fun c175 => ?_) (fun c175 => ?_)
              · refine J_iconst (v := nI (1)) cx dX3_readsCommand_182 (by decide) ?_
                refine J_iaddN cx dX3_readsCommand_183 ?_
                refine T_put_pl cx ht dX3_readsCommand_184 ?_
                refine J_goto (tgt := 287) cx dX3_readsCommand_187 (by decide) ?_
                exact J_vret cx dX3_readsCommand_287 hr ⟨rfl, (tov_cg rfl rfl rfl rfl rfl rfl rfl (by simp only [o_X3_readsCommand_told, o_X3_readsCommand_pl, o_X3_readsCommand_iw, if_pos c61, if_pos c107, if_pos c157, if_pos c175]) rfl rfl rfl rfl rfl rfl rfl rfl rfl (by simp only [o_X3_readsCommand_told, o_X3_readsCommand_pl, o_X3_readsCommand_iw, if_pos c61, if_pos c107, if_pos c157, if_pos c175]) (by simp only [o_X3_readsCommand_told, o_X3_readsCommand_pl, o_X3_readsCommand_iw, if_pos c61, if_pos c107, if_pos c157, if_pos c175]) rfl), rfl⟩ (Nat.le_refl 0) (Nat.le_refl 0)
              · refine J_iconst (v := nI (0)) cx dX3_readsCommand_178 (by decide) ?_
                refine J_goto (tgt := 183) cx dX3_readsCommand_179 (by decide) ?_
                refine J_iaddN cx dX3_readsCommand_183 ?_
                refine T_put_pl cx ht dX3_readsCommand_184 ?_
                refine J_goto (tgt := 287) cx dX3_readsCommand_187 (by decide) ?_
                exact J_vret cx dX3_readsCommand_287 hr ⟨rfl, (tov_cg rfl rfl rfl rfl rfl rfl rfl (by simp only [o_X3_readsCommand_told, o_X3_readsCommand_pl, o_X3_readsCommand_iw, if_pos c61, if_pos c107, if_pos c157, if_neg c175]) rfl rfl rfl rfl rfl rfl rfl rfl rfl (by simp only [o_X3_readsCommand_told, o_X3_readsCommand_pl, o_X3_readsCommand_iw, if_pos c61, if_pos c107, if_pos c157, if_neg c175]) (by simp only [o_X3_readsCommand_told, o_X3_readsCommand_pl, o_X3_readsCommand_iw, if_pos c61, if_pos c107, if_pos c157, if_neg c175]) rfl), rfl⟩ (Nat.le_refl 0) (Nat.le_refl 0)
          refine J_aload_n cx dX3_readsCommand_110 rfl ?_
          refine J_aload_n cx dX3_readsCommand_111 rfl ?_
          refine T_get_iw cx dX3_readsCommand_112 ?_
          refine J_if_ne (tgt := 136) cx dX3_readsCommand_115 (by decide) (fun c115 => ?_) (fun c115 => ?_)
          · refine J_iconst (v := nI (1)) cx dX3_readsCommand_136 (by decide) ?_
            refine J_goto (tgt := 141) cx dX3_readsCommand_137 (by decide) ?_
            refine J_sub (L1 := [some (.ref t), some (.int (nI (to9))), some (.int (r_X3_here inp fed pl))]) (jsub_s (jsub_s (jsub_s jsub_0))) ?_
            refine J_st [.int (w_rcc inp fed iw pl), .ref t] (jst_e (congrArg Value.int (by simp only [w_rcc, if_pos c61, if_pos c107, if_neg c115])) (jst_s rfl)) ?_
            exact K141
          · refine J_aload_n cx dX3_readsCommand_118 rfl ?_
            refine T_callI cx [] (t_X3_here l Ω ht (nI_tn (by omega)) hfd hfd6) dX3_readsCommand_119 (lw_V q2965 q2967 qs76 q93 q2968) hd_X3_here rfl rfl ⟨Nat.le_of_ble_eq_true rfl, Nat.le_of_ble_eq_true rfl⟩ rfl rfl (Nat.le_of_ble_eq_true rfl) ?_
            refine J_bipush (v := nI (43)) cx dX3_readsCommand_122 (by decide) ?_
            refine J_icmp_eq (tgt := 140) cx dX3_readsCommand_124 (by decide) (fun c124 => ?_) (fun c124 => ?_)
            · refine J_iconst (v := nI (0)) cx dX3_readsCommand_140 (by decide) ?_
              refine J_sub (L1 := [some (.ref t), some (.int (nI (to9))), some (.int (r_X3_here inp fed pl))]) (jsub_s (jsub_s (jsub_s jsub_0))) ?_
              refine J_st [.int (w_rcc inp fed iw pl), .ref t] (jst_e (congrArg Value.int (by simp only [w_rcc, if_pos c61, if_pos c107, if_pos c115, if_pos c124])) (jst_s rfl)) ?_
              exact K141
            · refine J_aload_n cx dX3_readsCommand_127 rfl ?_
              refine T_callI cx [] (t_X3_here l Ω ht (nI_tn (by omega)) hfd hfd6) dX3_readsCommand_128 (lw_V q2965 q2967 qs76 q93 q2968) hd_X3_here rfl rfl ⟨Nat.le_of_ble_eq_true rfl, Nat.le_of_ble_eq_true rfl⟩ rfl rfl (Nat.le_of_ble_eq_true rfl) ?_
              refine J_bipush (v := nI (45)) cx dX3_readsCommand_131 (by decide) ?_
              refine J_icmp_eq (tgt := 140) cx dX3_readsCommand_133 (by decide) (fun c133 => ?_) (fun c133 => ?_)
              · refine J_iconst (v := nI (0)) cx dX3_readsCommand_140 (by decide) ?_
                refine J_sub (L1 := [some (.ref t), some (.int (nI (to9))), some (.int (r_X3_here inp fed pl))]) (jsub_s (jsub_s (jsub_s jsub_0))) ?_
                refine J_st [.int (w_rcc inp fed iw pl), .ref t] (jst_e (congrArg Value.int (by simp only [w_rcc, if_pos c61, if_pos c107, if_pos c115, if_neg c124, if_pos c133])) (jst_s rfl)) ?_
                exact K141
              · refine J_iconst (v := nI (1)) cx dX3_readsCommand_136 (by decide) ?_
                refine J_goto (tgt := 141) cx dX3_readsCommand_137 (by decide) ?_
                refine J_sub (L1 := [some (.ref t), some (.int (nI (to9))), some (.int (r_X3_here inp fed pl))]) (jsub_s (jsub_s (jsub_s jsub_0))) ?_
                refine J_st [.int (w_rcc inp fed iw pl), .ref t] (jst_e (congrArg Value.int (by simp only [w_rcc, if_pos c61, if_pos c107, if_pos c115, if_neg c124, if_neg c133])) (jst_s rfl)) ?_
                exact K141
      refine J_aload_n cx dX3_readsCommand_82 rfl ?_
      refine T_get_told cx dX3_readsCommand_83 ?_
      refine J_iload_n cx dX3_readsCommand_86 rfl ?_
      refine J_iconst (v := nI (1)) cx dX3_readsCommand_87 (by decide) ?_
      refine J_iaddN cx dX3_readsCommand_88 ?_
      refine J_iload_n cx dX3_readsCommand_89 rfl ?_
      refine J_bipush (v := nI (102)) cx dX3_readsCommand_90 (by decide) ?_
      refine J_icmp_ne (tgt := 99) cx dX3_readsCommand_92 (by decide) (fun c92 => ?_) (fun c92 => ?_)
      · refine J_aload_n cx dX3_readsCommand_99 rfl ?_
        refine T_callI cx [] (t_X3_number l Ω ht (nI_tn (by omega)) (by first | omega | (rw [tn_nI (by omega)]; omega)) hfd hfd6) dX3_readsCommand_100 (lw_V q2969 q2971 qs77 q93 q2972) hd_X3_number rfl rfl ⟨Nat.le_of_ble_eq_true rfl, Nat.le_of_ble_eq_true rfl⟩ rfl rfl (Nat.le_of_ble_eq_true rfl) ?_
        have hpn11 := number_pl inp fed (nI ((tn pl) + 1)) (w_rc0 inp fed iw pl) (by first | omega | (rw [tn_nI (by omega)]; omega))
        have hpm11 := hpn11.2
        try rw [tn_nI (by omega)] at hpm11
        refine J_mem (tov Ω t G0 g hi sv as_ inp why now (upd told (to9) (r_X3_here inp fed pl)) bef ch hs fed fa ws ns ct st_ (nI (tn (o_X3_number_pl inp fed (nI ((tn pl) + 1)) (w_rc0 inp fed iw pl)))) (o_X3_number_iw inp fed (nI ((tn pl) + 1)) (w_rc0 inp fed iw pl)) sn) (tov_cg rfl rfl rfl rfl rfl rfl rfl rfl rfl rfl rfl rfl rfl rfl rfl rfl rfl hpn11.1 rfl rfl) ?_
        refine J_mem (tov Ω t G0 g hi sv as_ inp why now (upd told (to9) (r_X3_here inp fed pl)) bef ch hs fed fa ws ns ct st_ (w_rc_pl inp fed iw pl) (w_rc_iw inp fed iw pl) sn) (tov_cg rfl rfl rfl rfl rfl rfl rfl rfl rfl rfl rfl rfl rfl rfl rfl rfl rfl (by simp only [w_rc_v, w_rc_pl, w_rc_iw, if_pos c61, if_neg c92]; try exact hpn11.1.symm) (by simp only [w_rc_v, w_rc_pl, w_rc_iw, if_pos c61, if_neg c92]; try exact hpn11.1.symm) rfl) ?_
        refine J_sub (L1 := [some (.ref t), some (.int (nI (to9))), some (.int (r_X3_here inp fed pl))]) (jsub_s (jsub_s (jsub_s jsub_0))) ?_
        refine J_st [.int (w_rc_v inp fed iw pl), .int (nI (to9 + 1)), .ref (t + 8)] (jst_e (congrArg Value.int (by simp only [w_rc_v, w_rc_pl, w_rc_iw, if_pos c61, if_neg c92]; try exact hpn11.1.symm)) (jst_s (jst_s rfl))) ?_
        exact K103
      · refine J_iconst (v := nI (0)) cx dX3_readsCommand_95 (by decide) ?_
        refine J_goto (tgt := 103) cx dX3_readsCommand_96 (by decide) ?_
        refine J_mem (tov Ω t G0 g hi sv as_ inp why now (upd told (to9) (r_X3_here inp fed pl)) bef ch hs fed fa ws ns ct st_ (w_rc_pl inp fed iw pl) (w_rc_iw inp fed iw pl) sn) (tov_cg rfl rfl rfl rfl rfl rfl rfl rfl rfl rfl rfl rfl rfl rfl rfl rfl rfl (by simp only [w_rc_v, w_rc_pl, w_rc_iw, if_pos c61, if_pos c92]; try exact hpn11.1.symm) (by simp only [w_rc_v, w_rc_pl, w_rc_iw, if_pos c61, if_pos c92]; try exact hpn11.1.symm) rfl) ?_
        refine J_sub (L1 := [some (.ref t), some (.int (nI (to9))), some (.int (r_X3_here inp fed pl))]) (jsub_s (jsub_s (jsub_s jsub_0))) ?_
        refine J_st [.int (w_rc_v inp fed iw pl), .int (nI (to9 + 1)), .ref (t + 8)] (jst_e (congrArg Value.int (by simp only [w_rc_v, w_rc_pl, w_rc_iw, if_pos c61, if_pos c92]; try exact hpn11.1.symm)) (jst_s (jst_s rfl))) ?_
        exact K103
    · exact J_vret cx dX3_readsCommand_64 hr ⟨rfl, (tov_cg rfl rfl rfl rfl rfl rfl rfl (by simp only [o_X3_readsCommand_told, o_X3_readsCommand_pl, o_X3_readsCommand_iw, if_neg c61]) rfl rfl rfl rfl rfl rfl rfl rfl rfl (by simp only [o_X3_readsCommand_told, o_X3_readsCommand_pl, o_X3_readsCommand_iw, if_neg c61]) (by simp only [o_X3_readsCommand_told, o_X3_readsCommand_pl, o_X3_readsCommand_iw, if_neg c61]) rfl), rfl⟩ (Nat.le_refl 0) (Nat.le_refl 0)
  refine J_aload_n cx dX3_readsCommand_5 rfl ?_
  refine J_aload_n cx dX3_readsCommand_6 rfl ?_
  refine T_get_iw cx dX3_readsCommand_7 ?_
  refine J_if_ne (tgt := 49) cx dX3_readsCommand_10 (by decide) (fun c10 => ?_) (fun c10 => ?_)
  · refine J_iconst (v := nI (1)) cx dX3_readsCommand_49 (by decide) ?_
    refine J_goto (tgt := 54) cx dX3_readsCommand_50 (by decide) ?_
    refine J_sub (L1 := [some (.ref t), some (.int (nI (to9))), some (.int (r_X3_here inp fed pl))]) (jsub_s (jsub_s (jsub_s jsub_0))) ?_
    refine J_st [.int (w_rc0 inp fed iw pl), .ref t] (jst_e (congrArg Value.int (by simp only [w_rc0, if_neg c10])) (jst_s rfl)) ?_
    exact K54
  · refine J_iload_n cx dX3_readsCommand_13 rfl ?_
    refine J_bipush (v := nI (112)) cx dX3_readsCommand_14 (by decide) ?_
    refine J_icmp_eq (tgt := 53) cx dX3_readsCommand_16 (by decide) (fun c16 => ?_) (fun c16 => ?_)
    · refine J_iconst (v := nI (0)) cx dX3_readsCommand_53 (by decide) ?_
      refine J_sub (L1 := [some (.ref t), some (.int (nI (to9))), some (.int (r_X3_here inp fed pl))]) (jsub_s (jsub_s (jsub_s jsub_0))) ?_
      refine J_st [.int (w_rc0 inp fed iw pl), .ref t] (jst_e (congrArg Value.int (by simp only [w_rc0, if_pos c10, if_pos c16])) (jst_s rfl)) ?_
      exact K54
    · refine J_iload_n cx dX3_readsCommand_19 rfl ?_
      refine J_bipush (v := nI (104)) cx dX3_readsCommand_20 (by decide) ?_
      refine J_icmp_eq (tgt := 53) cx dX3_readsCommand_22 (by decide) (fun c22 => ?_) (fun c22 => ?_)
      · refine J_iconst (v := nI (0)) cx dX3_readsCommand_53 (by decide) ?_
        refine J_sub (L1 := [some (.ref t), some (.int (nI (to9))), some (.int (r_X3_here inp fed pl))]) (jsub_s (jsub_s (jsub_s jsub_0))) ?_
        refine J_st [.int (w_rc0 inp fed iw pl), .ref t] (jst_e (congrArg Value.int (by simp only [w_rc0, if_pos c10, if_neg c16, if_pos c22])) (jst_s rfl)) ?_
        exact K54
      · refine J_iload_n cx dX3_readsCommand_25 rfl ?_
        refine J_bipush (v := nI (99)) cx dX3_readsCommand_26 (by decide) ?_
        refine J_icmp_eq (tgt := 53) cx dX3_readsCommand_28 (by decide) (fun c28 => ?_) (fun c28 => ?_)
        · refine J_iconst (v := nI (0)) cx dX3_readsCommand_53 (by decide) ?_
          refine J_sub (L1 := [some (.ref t), some (.int (nI (to9))), some (.int (r_X3_here inp fed pl))]) (jsub_s (jsub_s (jsub_s jsub_0))) ?_
          refine J_st [.int (w_rc0 inp fed iw pl), .ref t] (jst_e (congrArg Value.int (by simp only [w_rc0, if_pos c10, if_neg c16, if_neg c22, if_pos c28])) (jst_s rfl)) ?_
          exact K54
        · refine J_iload_n cx dX3_readsCommand_31 rfl ?_
          refine J_bipush (v := nI (103)) cx dX3_readsCommand_32 (by decide) ?_
          refine J_icmp_eq (tgt := 53) cx dX3_readsCommand_34 (by decide) (fun c34 => ?_) (fun c34 => ?_)
          · refine J_iconst (v := nI (0)) cx dX3_readsCommand_53 (by decide) ?_
            refine J_sub (L1 := [some (.ref t), some (.int (nI (to9))), some (.int (r_X3_here inp fed pl))]) (jsub_s (jsub_s (jsub_s jsub_0))) ?_
            refine J_st [.int (w_rc0 inp fed iw pl), .ref t] (jst_e (congrArg Value.int (by simp only [w_rc0, if_pos c10, if_neg c16, if_neg c22, if_neg c28, if_pos c34])) (jst_s rfl)) ?_
            exact K54
          · refine J_iload_n cx dX3_readsCommand_37 rfl ?_
            refine J_bipush (v := nI (107)) cx dX3_readsCommand_38 (by decide) ?_
            refine J_icmp_eq (tgt := 53) cx dX3_readsCommand_40 (by decide) (fun c40 => ?_) (fun c40 => ?_)
            · refine J_iconst (v := nI (0)) cx dX3_readsCommand_53 (by decide) ?_
              refine J_sub (L1 := [some (.ref t), some (.int (nI (to9))), some (.int (r_X3_here inp fed pl))]) (jsub_s (jsub_s (jsub_s jsub_0))) ?_
              refine J_st [.int (w_rc0 inp fed iw pl), .ref t] (jst_e (congrArg Value.int (by simp only [w_rc0, if_pos c10, if_neg c16, if_neg c22, if_neg c28, if_neg c34, if_pos c40])) (jst_s rfl)) ?_
              exact K54
            · refine J_iload_n cx dX3_readsCommand_43 rfl ?_
              refine J_bipush (v := nI (102)) cx dX3_readsCommand_44 (by decide) ?_
              refine J_icmp_eq (tgt := 53) cx dX3_readsCommand_46 (by decide) (fun c46 => ?_) (fun c46 => ?_)
              · refine J_iconst (v := nI (0)) cx dX3_readsCommand_53 (by decide) ?_
                refine J_sub (L1 := [some (.ref t), some (.int (nI (to9))), some (.int (r_X3_here inp fed pl))]) (jsub_s (jsub_s (jsub_s jsub_0))) ?_
                refine J_st [.int (w_rc0 inp fed iw pl), .ref t] (jst_e (congrArg Value.int (by simp only [w_rc0, if_pos c10, if_neg c16, if_neg c22, if_neg c28, if_neg c34, if_neg c40, if_pos c46])) (jst_s rfl)) ?_
                exact K54
              · refine J_iconst (v := nI (1)) cx dX3_readsCommand_49 (by decide) ?_
                refine J_goto (tgt := 54) cx dX3_readsCommand_50 (by decide) ?_
                refine J_sub (L1 := [some (.ref t), some (.int (nI (to9))), some (.int (r_X3_here inp fed pl))]) (jsub_s (jsub_s (jsub_s jsub_0))) ?_
                refine J_st [.int (w_rc0 inp fed iw pl), .ref t] (jst_e (congrArg Value.int (by simp only [w_rc0, if_pos c10, if_neg c16, if_neg c22, if_neg c28, if_neg c34, if_neg c40, if_neg c46])) (jst_s rfl)) ?_
                exact K54
def r_X3_wrongNumber (g : Nat → Int32) (told : Nat → Int32) (to9 : Nat) : Int32 := (if (told (to9)) = 99 then (if ((r_X3_in (told (to9 + 1)) (nI (0)) ((g (2)) - (nI (1))))) = 0 then (nI (0)) else (-1)) else (if (told (to9)) = 103 then (if ((r_X3_in (told (to9 + 1)) (nI (0)) ((g (2)) - (nI (1))))) = 0 then (nI (0)) else (if (r_X3_in (told (to9 + 2)) (nI (0)) (nI (3))) = 0 then (nI (1)) else (if (r_X3_in (told (to9 + 3)) (nI (1)) (nI (3))) = 0 then (nI (2)) else (-1)))) else (if (told (to9)) = 104 then (if (r_X3_in (told (to9 + 1)) (nI (1)) (nI (48))) = 0 then (nI (0)) else (-1)) else (if (told (to9)) = 107 then (if ((r_X3_in (told (to9 + 1)) (nI (0)) ((g (2)) - (nI (1))))) = 0 then (nI (0)) else (if (r_X3_in (told (to9 + 2)) (nI (0)) (nI (7))) = 0 then (nI (1)) else (-1))) else (if (told (to9)) = 112 then (if (r_X3_in (told (to9 + 1)) (nI (0)) ((g (1)) - (nI (1)))) = 0 then (nI (0)) else (if (r_X3_in (told (to9 + 2)) (nI (1)) (nI (9))) = 0 then (nI (1)) else (if (r_X3_in (told (to9 + 3)) (nI (1)) (nI (9))) = 0 then (nI (2)) else (-1)))) else (-1))))))
theorem hd_X3_wrongNumber : yX3_wrongNumber.cls = RX3 ∧ yX3_wrongNumber.cls ≠ "java/lang/invoke/MethodHandle" ∧ yX3_wrongNumber.cls ≠ "java/lang/invoke/VarHandle" ∧ (parseMethodDescriptor yX3_wrongNumber.desc).map (fun d => d.parameters.length) = some 1 := by decide +kernel
set_option maxHeartbeats 4000000 in
theorem t_X3_wrongNumber (l : Launch) (Ω : jO) {t : Nat} {G0 : Mem} {g hi sv as_ inp why now told bef : Nat → Int32} {ch hs fed fa ws ns ct st_ pl iw sn : Int32} {sz : Nat} (ht : Ω.2.2.2 ≤ t) (to9 : Nat) (hto : to9 ≤ 236) : Met l yX3_wrongNumber (ws_ yX3_wrongNumber cX3_wrongNumber 5 (some .int)) ({ frames := 3, cells := 0, slots := 0, locals := 55 }) (va_Pc [.ref t, .int (nI (to9))] (jWd Ω (tov Ω t G0 g hi sv as_ inp why now told bef ch hs fed fa ws ns ct st_ pl iw sn) sz)) (jQ Ω (jD (some (.int (r_X3_wrongNumber g told to9))) (tov Ω t G0 g hi sv as_ inp why now told bef ch hs fed fa ws ns ct st_ pl iw sn) sz)) 0 0 (jB Ω) := by
  refine jMet (by decide) (Nat.le_of_ble_eq_true rfl) ?_
  intro p e s m args below meth c cx hr hnm
  refine J_loc [some (.ref t), some (.int (nI (to9))), none, none, none] rfl ?_
  refine J_aload_n cx dX3_wrongNumber_0 rfl ?_
  refine T_get_told cx dX3_wrongNumber_1 ?_
  refine J_iload_n cx dX3_wrongNumber_4 rfl ?_
  refine J_iconst (v := nI (1)) cx dX3_wrongNumber_5 (by decide) ?_
  refine J_iaddN cx dX3_wrongNumber_6 ?_
  refine T_ld_told cx dX3_wrongNumber_7 (by omega) ?_
  refine J_istore_n2 cx dX3_wrongNumber_8 (by decide) rfl ?_
  refine J_aload_n cx dX3_wrongNumber_9 rfl ?_
  refine T_get_told cx dX3_wrongNumber_10 ?_
  refine J_iload_n cx dX3_wrongNumber_13 rfl ?_
  refine J_iconst (v := nI (2)) cx dX3_wrongNumber_14 (by decide) ?_
  refine J_iaddN cx dX3_wrongNumber_15 ?_
  refine T_ld_told cx dX3_wrongNumber_16 (by omega) ?_
  refine J_istore_n3 cx dX3_wrongNumber_17 (by decide) rfl ?_
  refine J_aload_n cx dX3_wrongNumber_18 rfl ?_
  refine T_get_told cx dX3_wrongNumber_19 ?_
  refine J_iload_n cx dX3_wrongNumber_22 rfl ?_
  refine J_iconst (v := nI (3)) cx dX3_wrongNumber_23 (by decide) ?_
  refine J_iaddN cx dX3_wrongNumber_24 ?_
  refine T_ld_told cx dX3_wrongNumber_25 (by omega) ?_
  refine J_istore4 cx dX3_wrongNumber_26 (by decide) rfl ?_
  refine J_aload_n cx dX3_wrongNumber_28 rfl ?_
  refine T_get_told cx dX3_wrongNumber_29 ?_
  refine J_iload_n cx dX3_wrongNumber_32 rfl ?_
  refine T_ld_told cx dX3_wrongNumber_33 (by omega) ?_
  by_cases c34_99 : (told (to9)) = 99
  · refine J_tableIn (off := 137) (tgt := 171) cx dX3_wrongNumber_34 (by rw [c34_99]; decide) (by rw [c34_99]; decide) (by rw [c34_99]; rfl) (by decide) ?_
    refine J_aload_n cx dX3_wrongNumber_171 rfl ?_
    refine J_iload_n cx dX3_wrongNumber_172 rfl ?_
    refine T_callI cx [.int (told (to9 + 1))] (t_X3_isPot l Ω ht (told (to9 + 1))) dX3_wrongNumber_173 (lw_V q2743 q2745 qs45 q93 q2746) hd_X3_isPot rfl rfl ⟨Nat.le_of_ble_eq_true rfl, Nat.le_of_ble_eq_true rfl⟩ rfl rfl (Nat.le_of_ble_eq_true rfl) ?_
    refine J_if_eq (tgt := 183) cx dX3_wrongNumber_176 (by decide) (fun c176 => ?_) (fun c176 => ?_)
    · refine J_iconst (v := nI (0)) cx dX3_wrongNumber_183 (by decide) ?_
      exact J_iret cx dX3_wrongNumber_184 hr ⟨congrArg some (congrArg Value.int (by simp only [r_X3_wrongNumber, if_pos c34_99, if_pos c176])), rfl, rfl⟩ (Nat.le_refl 0) (Nat.le_refl 0)
    · refine J_iconst (v := -1) cx dX3_wrongNumber_179 (by decide) ?_
      refine J_goto (tgt := 184) cx dX3_wrongNumber_180 (by decide) ?_
      exact J_iret cx dX3_wrongNumber_184 hr ⟨congrArg some (congrArg Value.int (by simp only [r_X3_wrongNumber, if_pos c34_99, if_neg c176])), rfl, rfl⟩ (Nat.le_refl 0) (Nat.le_refl 0)
  by_cases c34_103 : (told (to9)) = 103
  · refine J_tableIn (off := 151) (tgt := 185) cx dX3_wrongNumber_34 (by rw [c34_103]; decide) (by rw [c34_103]; decide) (by rw [c34_103]; rfl) (by decide) ?_
    refine J_aload_n cx dX3_wrongNumber_185 rfl ?_
    refine J_iload_n cx dX3_wrongNumber_186 rfl ?_
    refine T_callI cx [.int (told (to9 + 1))] (t_X3_isPot l Ω ht (told (to9 + 1))) dX3_wrongNumber_187 (lw_V q2743 q2745 qs45 q93 q2746) hd_X3_isPot rfl rfl ⟨Nat.le_of_ble_eq_true rfl, Nat.le_of_ble_eq_true rfl⟩ rfl rfl (Nat.le_of_ble_eq_true rfl) ?_
    refine J_if_ne (tgt := 197) cx dX3_wrongNumber_190 (by decide) (fun c190 => ?_) (fun c190 => ?_)
    · refine J_iload_n cx dX3_wrongNumber_197 rfl ?_
      refine J_iconst (v := nI (0)) cx dX3_wrongNumber_198 (by decide) ?_
      refine J_iconst (v := nI (3)) cx dX3_wrongNumber_199 (by decide) ?_
      refine T_callSI cx [.int (told (to9 + 2)), .int (nI (0)), .int (nI (3))] (t_X3_in l Ω (told (to9 + 2)) (nI (0)) (nI (3))) dX3_wrongNumber_200 (lw_S q2686 q2687 q93 q2688) hd_X3_in.2 rfl rfl ⟨Nat.le_of_ble_eq_true rfl, Nat.le_of_ble_eq_true rfl⟩ rfl rfl (Nat.le_of_ble_eq_true rfl) ?_
      refine J_if_ne (tgt := 210) cx dX3_wrongNumber_203 (by decide) (fun c203 => ?_) (fun c203 => ?_)
      · refine J_iload cx dX3_wrongNumber_210 rfl ?_
        refine J_iconst (v := nI (1)) cx dX3_wrongNumber_212 (by decide) ?_
        refine J_iconst (v := nI (3)) cx dX3_wrongNumber_213 (by decide) ?_
        refine T_callSI cx [.int (told (to9 + 3)), .int (nI (1)), .int (nI (3))] (t_X3_in l Ω (told (to9 + 3)) (nI (1)) (nI (3))) dX3_wrongNumber_214 (lw_S q2686 q2687 q93 q2688) hd_X3_in.2 rfl rfl ⟨Nat.le_of_ble_eq_true rfl, Nat.le_of_ble_eq_true rfl⟩ rfl rfl (Nat.le_of_ble_eq_true rfl) ?_
        refine J_if_ne (tgt := 224) cx dX3_wrongNumber_217 (by decide) (fun c217 => ?_) (fun c217 => ?_)
        · refine J_iconst (v := -1) cx dX3_wrongNumber_224 (by decide) ?_
          exact J_iret cx dX3_wrongNumber_225 hr ⟨congrArg some (congrArg Value.int (by simp only [r_X3_wrongNumber, if_neg c34_99, if_pos c34_103, if_neg c190, if_neg c203, if_neg c217])), rfl, rfl⟩ (Nat.le_refl 0) (Nat.le_refl 0)
        · refine J_iconst (v := nI (2)) cx dX3_wrongNumber_220 (by decide) ?_
          refine J_goto (tgt := 225) cx dX3_wrongNumber_221 (by decide) ?_
          exact J_iret cx dX3_wrongNumber_225 hr ⟨congrArg some (congrArg Value.int (by simp only [r_X3_wrongNumber, if_neg c34_99, if_pos c34_103, if_neg c190, if_neg c203, if_pos c217])), rfl, rfl⟩ (Nat.le_refl 0) (Nat.le_refl 0)
      · refine J_iconst (v := nI (1)) cx dX3_wrongNumber_206 (by decide) ?_
        refine J_goto (tgt := 225) cx dX3_wrongNumber_207 (by decide) ?_
        exact J_iret cx dX3_wrongNumber_225 hr ⟨congrArg some (congrArg Value.int (by simp only [r_X3_wrongNumber, if_neg c34_99, if_pos c34_103, if_neg c190, if_pos c203])), rfl, rfl⟩ (Nat.le_refl 0) (Nat.le_refl 0)
    · refine J_iconst (v := nI (0)) cx dX3_wrongNumber_193 (by decide) ?_
      refine J_goto (tgt := 225) cx dX3_wrongNumber_194 (by decide) ?_
      exact J_iret cx dX3_wrongNumber_225 hr ⟨congrArg some (congrArg Value.int (by simp only [r_X3_wrongNumber, if_neg c34_99, if_pos c34_103, if_pos c190])), rfl, rfl⟩ (Nat.le_refl 0) (Nat.le_refl 0)
  by_cases c34_104 : (told (to9)) = 104
  · refine J_tableIn (off := 121) (tgt := 155) cx dX3_wrongNumber_34 (by rw [c34_104]; decide) (by rw [c34_104]; decide) (by rw [c34_104]; rfl) (by decide) ?_
    refine J_iload_n cx dX3_wrongNumber_155 rfl ?_
    refine J_iconst (v := nI (1)) cx dX3_wrongNumber_156 (by decide) ?_
    refine J_bipush (v := nI (48)) cx dX3_wrongNumber_157 (by decide) ?_
    refine T_callSI cx [.int (told (to9 + 1)), .int (nI (1)), .int (nI (48))] (t_X3_in l Ω (told (to9 + 1)) (nI (1)) (nI (48))) dX3_wrongNumber_159 (lw_S q2686 q2687 q93 q2688) hd_X3_in.2 rfl rfl ⟨Nat.le_of_ble_eq_true rfl, Nat.le_of_ble_eq_true rfl⟩ rfl rfl (Nat.le_of_ble_eq_true rfl) ?_
    refine J_if_eq (tgt := 169) cx dX3_wrongNumber_162 (by decide) (fun c162 => ?_) (fun c162 => ?_)
    · refine J_iconst (v := nI (0)) cx dX3_wrongNumber_169 (by decide) ?_
      exact J_iret cx dX3_wrongNumber_170 hr ⟨congrArg some (congrArg Value.int (by simp only [r_X3_wrongNumber, if_neg c34_99, if_neg c34_103, if_pos c34_104, if_pos c162])), rfl, rfl⟩ (Nat.le_refl 0) (Nat.le_refl 0)
    · refine J_iconst (v := -1) cx dX3_wrongNumber_165 (by decide) ?_
      refine J_goto (tgt := 170) cx dX3_wrongNumber_166 (by decide) ?_
      exact J_iret cx dX3_wrongNumber_170 hr ⟨congrArg some (congrArg Value.int (by simp only [r_X3_wrongNumber, if_neg c34_99, if_neg c34_103, if_pos c34_104, if_neg c162])), rfl, rfl⟩ (Nat.le_refl 0) (Nat.le_refl 0)
  by_cases c34_107 : (told (to9)) = 107
  · refine J_tableIn (off := 192) (tgt := 226) cx dX3_wrongNumber_34 (by rw [c34_107]; decide) (by rw [c34_107]; decide) (by rw [c34_107]; rfl) (by decide) ?_
    refine J_aload_n cx dX3_wrongNumber_226 rfl ?_
    refine J_iload_n cx dX3_wrongNumber_227 rfl ?_
    refine T_callI cx [.int (told (to9 + 1))] (t_X3_isPot l Ω ht (told (to9 + 1))) dX3_wrongNumber_228 (lw_V q2743 q2745 qs45 q93 q2746) hd_X3_isPot rfl rfl ⟨Nat.le_of_ble_eq_true rfl, Nat.le_of_ble_eq_true rfl⟩ rfl rfl (Nat.le_of_ble_eq_true rfl) ?_
    refine J_if_ne (tgt := 238) cx dX3_wrongNumber_231 (by decide) (fun c231 => ?_) (fun c231 => ?_)
    · refine J_iload_n cx dX3_wrongNumber_238 rfl ?_
      refine J_iconst (v := nI (0)) cx dX3_wrongNumber_239 (by decide) ?_
      refine J_bipush (v := nI (7)) cx dX3_wrongNumber_240 (by decide) ?_
      refine T_callSI cx [.int (told (to9 + 2)), .int (nI (0)), .int (nI (7))] (t_X3_in l Ω (told (to9 + 2)) (nI (0)) (nI (7))) dX3_wrongNumber_242 (lw_S q2686 q2687 q93 q2688) hd_X3_in.2 rfl rfl ⟨Nat.le_of_ble_eq_true rfl, Nat.le_of_ble_eq_true rfl⟩ rfl rfl (Nat.le_of_ble_eq_true rfl) ?_
      refine J_if_eq (tgt := 252) cx dX3_wrongNumber_245 (by decide) (fun c245 => ?_) (fun c245 => ?_)
      · refine J_iconst (v := nI (1)) cx dX3_wrongNumber_252 (by decide) ?_
        exact J_iret cx dX3_wrongNumber_253 hr ⟨congrArg some (congrArg Value.int (by simp only [r_X3_wrongNumber, if_neg c34_99, if_neg c34_103, if_neg c34_104, if_pos c34_107, if_neg c231, if_pos c245])), rfl, rfl⟩ (Nat.le_refl 0) (Nat.le_refl 0)
      · refine J_iconst (v := -1) cx dX3_wrongNumber_248 (by decide) ?_
        refine J_goto (tgt := 253) cx dX3_wrongNumber_249 (by decide) ?_
        exact J_iret cx dX3_wrongNumber_253 hr ⟨congrArg some (congrArg Value.int (by simp only [r_X3_wrongNumber, if_neg c34_99, if_neg c34_103, if_neg c34_104, if_pos c34_107, if_neg c231, if_neg c245])), rfl, rfl⟩ (Nat.le_refl 0) (Nat.le_refl 0)
    · refine J_iconst (v := nI (0)) cx dX3_wrongNumber_234 (by decide) ?_
      refine J_goto (tgt := 253) cx dX3_wrongNumber_235 (by decide) ?_
      exact J_iret cx dX3_wrongNumber_253 hr ⟨congrArg some (congrArg Value.int (by simp only [r_X3_wrongNumber, if_neg c34_99, if_neg c34_103, if_neg c34_104, if_pos c34_107, if_pos c231])), rfl, rfl⟩ (Nat.le_refl 0) (Nat.le_refl 0)
  by_cases c34_112 : (told (to9)) = 112
  · refine J_tableIn (off := 70) (tgt := 104) cx dX3_wrongNumber_34 (by rw [c34_112]; decide) (by rw [c34_112]; decide) (by rw [c34_112]; rfl) (by decide) ?_
    refine J_iload_n cx dX3_wrongNumber_104 rfl ?_
    refine J_iconst (v := nI (0)) cx dX3_wrongNumber_105 (by decide) ?_
    refine J_aload_n cx dX3_wrongNumber_106 rfl ?_
    refine T_get_g cx dX3_wrongNumber_107 ?_
    refine J_iconst (v := nI (1)) cx dX3_wrongNumber_110 (by decide) ?_
    refine T_ld_g cx dX3_wrongNumber_111 (by omega) ?_
    refine J_iconst (v := nI (1)) cx dX3_wrongNumber_112 (by decide) ?_
    refine J_isub cx dX3_wrongNumber_113 ?_
    refine T_callSI cx [.int (told (to9 + 1)), .int (nI (0)), .int ((g (1)) - (nI (1)))] (t_X3_in l Ω (told (to9 + 1)) (nI (0)) ((g (1)) - (nI (1)))) dX3_wrongNumber_114 (lw_S q2686 q2687 q93 q2688) hd_X3_in.2 rfl rfl ⟨Nat.le_of_ble_eq_true rfl, Nat.le_of_ble_eq_true rfl⟩ rfl rfl (Nat.le_of_ble_eq_true rfl) ?_
    refine J_if_ne (tgt := 124) cx dX3_wrongNumber_117 (by decide) (fun c117 => ?_) (fun c117 => ?_)
    · refine J_iload_n cx dX3_wrongNumber_124 rfl ?_
      refine J_iconst (v := nI (1)) cx dX3_wrongNumber_125 (by decide) ?_
      refine J_bipush (v := nI (9)) cx dX3_wrongNumber_126 (by decide) ?_
      refine T_callSI cx [.int (told (to9 + 2)), .int (nI (1)), .int (nI (9))] (t_X3_in l Ω (told (to9 + 2)) (nI (1)) (nI (9))) dX3_wrongNumber_128 (lw_S q2686 q2687 q93 q2688) hd_X3_in.2 rfl rfl ⟨Nat.le_of_ble_eq_true rfl, Nat.le_of_ble_eq_true rfl⟩ rfl rfl (Nat.le_of_ble_eq_true rfl) ?_
      refine J_if_ne (tgt := 138) cx dX3_wrongNumber_131 (by decide) (fun c131 => ?_) (fun c131 => ?_)
      · refine J_iload cx dX3_wrongNumber_138 rfl ?_
        refine J_iconst (v := nI (1)) cx dX3_wrongNumber_140 (by decide) ?_
        refine J_bipush (v := nI (9)) cx dX3_wrongNumber_141 (by decide) ?_
        refine T_callSI cx [.int (told (to9 + 3)), .int (nI (1)), .int (nI (9))] (t_X3_in l Ω (told (to9 + 3)) (nI (1)) (nI (9))) dX3_wrongNumber_143 (lw_S q2686 q2687 q93 q2688) hd_X3_in.2 rfl rfl ⟨Nat.le_of_ble_eq_true rfl, Nat.le_of_ble_eq_true rfl⟩ rfl rfl (Nat.le_of_ble_eq_true rfl) ?_
        refine J_if_ne (tgt := 153) cx dX3_wrongNumber_146 (by decide) (fun c146 => ?_) (fun c146 => ?_)
        · refine J_iconst (v := -1) cx dX3_wrongNumber_153 (by decide) ?_
          exact J_iret cx dX3_wrongNumber_154 hr ⟨congrArg some (congrArg Value.int (by simp only [r_X3_wrongNumber, if_neg c34_99, if_neg c34_103, if_neg c34_104, if_neg c34_107, if_pos c34_112, if_neg c117, if_neg c131, if_neg c146])), rfl, rfl⟩ (Nat.le_refl 0) (Nat.le_refl 0)
        · refine J_iconst (v := nI (2)) cx dX3_wrongNumber_149 (by decide) ?_
          refine J_goto (tgt := 154) cx dX3_wrongNumber_150 (by decide) ?_
          exact J_iret cx dX3_wrongNumber_154 hr ⟨congrArg some (congrArg Value.int (by simp only [r_X3_wrongNumber, if_neg c34_99, if_neg c34_103, if_neg c34_104, if_neg c34_107, if_pos c34_112, if_neg c117, if_neg c131, if_pos c146])), rfl, rfl⟩ (Nat.le_refl 0) (Nat.le_refl 0)
      · refine J_iconst (v := nI (1)) cx dX3_wrongNumber_134 (by decide) ?_
        refine J_goto (tgt := 154) cx dX3_wrongNumber_135 (by decide) ?_
        exact J_iret cx dX3_wrongNumber_154 hr ⟨congrArg some (congrArg Value.int (by simp only [r_X3_wrongNumber, if_neg c34_99, if_neg c34_103, if_neg c34_104, if_neg c34_107, if_pos c34_112, if_neg c117, if_pos c131])), rfl, rfl⟩ (Nat.le_refl 0) (Nat.le_refl 0)
    · refine J_iconst (v := nI (0)) cx dX3_wrongNumber_120 (by decide) ?_
      refine J_goto (tgt := 154) cx dX3_wrongNumber_121 (by decide) ?_
      exact J_iret cx dX3_wrongNumber_154 hr ⟨congrArg some (congrArg Value.int (by simp only [r_X3_wrongNumber, if_neg c34_99, if_neg c34_103, if_neg c34_104, if_neg c34_107, if_pos c34_112, if_pos c117])), rfl, rfl⟩ (Nat.le_refl 0) (Nat.le_refl 0)
  have Kd34 : J p l e ({ frames := 3, cells := 0, slots := 0, locals := 55 } : Room) s m args below meth c Ω 5 (MQ below (jQ Ω (jD (some (.int (r_X3_wrongNumber g told to9))) (tov Ω t G0 g hi sv as_ inp why now told bef ch hs fed fa ws ns ct st_ pl iw sn) sz)) args s 0 0 (jB Ω)) 0 0 sz (tov Ω t G0 g hi sv as_ inp why now told bef ch hs fed fa ws ns ct st_ pl iw sn) 254 [some (.ref t), some (.int (nI (to9))), some (.int (told (to9 + 1))), some (.int (told (to9 + 2))), some (.int (told (to9 + 3)))] [] := by
    refine J_iconst (v := -1) cx dX3_wrongNumber_254 (by decide) ?_
    exact J_iret cx dX3_wrongNumber_255 hr ⟨congrArg some (congrArg Value.int (by simp only [r_X3_wrongNumber, if_neg c34_99, if_neg c34_103, if_neg c34_104, if_neg c34_107, if_neg c34_112])), rfl, rfl⟩ (Nat.le_refl 0) (Nat.le_refl 0)
  by_cases c34_100 : (told (to9)) = 100
  · exact J_tableIn (off := 220) (tgt := 254) cx dX3_wrongNumber_34 (by rw [c34_100]; decide) (by rw [c34_100]; decide) (by rw [c34_100]; rfl) (by decide) Kd34
  by_cases c34_101 : (told (to9)) = 101
  · exact J_tableIn (off := 220) (tgt := 254) cx dX3_wrongNumber_34 (by rw [c34_101]; decide) (by rw [c34_101]; decide) (by rw [c34_101]; rfl) (by decide) Kd34
  by_cases c34_102 : (told (to9)) = 102
  · exact J_tableIn (off := 220) (tgt := 254) cx dX3_wrongNumber_34 (by rw [c34_102]; decide) (by rw [c34_102]; decide) (by rw [c34_102]; rfl) (by decide) Kd34
  by_cases c34_105 : (told (to9)) = 105
  · exact J_tableIn (off := 220) (tgt := 254) cx dX3_wrongNumber_34 (by rw [c34_105]; decide) (by rw [c34_105]; decide) (by rw [c34_105]; rfl) (by decide) Kd34
  by_cases c34_106 : (told (to9)) = 106
  · exact J_tableIn (off := 220) (tgt := 254) cx dX3_wrongNumber_34 (by rw [c34_106]; decide) (by rw [c34_106]; decide) (by rw [c34_106]; rfl) (by decide) Kd34
  by_cases c34_108 : (told (to9)) = 108
  · exact J_tableIn (off := 220) (tgt := 254) cx dX3_wrongNumber_34 (by rw [c34_108]; decide) (by rw [c34_108]; decide) (by rw [c34_108]; rfl) (by decide) Kd34
  by_cases c34_109 : (told (to9)) = 109
  · exact J_tableIn (off := 220) (tgt := 254) cx dX3_wrongNumber_34 (by rw [c34_109]; decide) (by rw [c34_109]; decide) (by rw [c34_109]; rfl) (by decide) Kd34
  by_cases c34_110 : (told (to9)) = 110
  · exact J_tableIn (off := 220) (tgt := 254) cx dX3_wrongNumber_34 (by rw [c34_110]; decide) (by rw [c34_110]; decide) (by rw [c34_110]; rfl) (by decide) Kd34
  by_cases c34_111 : (told (to9)) = 111
  · exact J_tableIn (off := 220) (tgt := 254) cx dX3_wrongNumber_34 (by rw [c34_111]; decide) (by rw [c34_111]; decide) (by rw [c34_111]; rfl) (by decide) Kd34
  have hout34 : (told (to9)).toInt < 99 ∨ 112 < (told (to9)).toInt := by
    have ec34_99 := jne_int (n := 99) 99 (by decide) c34_99
    have ec34_103 := jne_int (n := 103) 103 (by decide) c34_103
    have ec34_104 := jne_int (n := 104) 104 (by decide) c34_104
    have ec34_107 := jne_int (n := 107) 107 (by decide) c34_107
    have ec34_112 := jne_int (n := 112) 112 (by decide) c34_112
    have ec34_100 := jne_int (n := 100) 100 (by decide) c34_100
    have ec34_101 := jne_int (n := 101) 101 (by decide) c34_101
    have ec34_102 := jne_int (n := 102) 102 (by decide) c34_102
    have ec34_105 := jne_int (n := 105) 105 (by decide) c34_105
    have ec34_106 := jne_int (n := 106) 106 (by decide) c34_106
    have ec34_108 := jne_int (n := 108) 108 (by decide) c34_108
    have ec34_109 := jne_int (n := 109) 109 (by decide) c34_109
    have ec34_110 := jne_int (n := 110) 110 (by decide) c34_110
    have ec34_111 := jne_int (n := 111) 111 (by decide) c34_111
    omega
  exact J_tableOut (tgt := 254) cx dX3_wrongNumber_34 hout34 (by decide) Kd34
