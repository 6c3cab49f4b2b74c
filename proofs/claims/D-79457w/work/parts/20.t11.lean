/-! THE TWIN: doing commands (gen/mk_t11.py) -/
set_option maxRecDepth 100000
theorem wn_c {g told : Nat → Int32} {to9 : Nat} (h : r_X3_wrongNumber g told to9 = -1) (e : told (to9) = 99) : ¬ r_X3_in (told (to9 + 1)) (nI 0) (g 2 - nI 1) = 0 := by
  unfold r_X3_wrongNumber at h
  rw [if_pos e] at h
  intro h0
  rw [if_pos h0] at h
  exact absurd h (by decide)
theorem wn_g {g told : Nat → Int32} {to9 : Nat} (h : r_X3_wrongNumber g told to9 = -1) (e : told (to9) = 103) : ¬ r_X3_in (told (to9 + 1)) (nI 0) (g 2 - nI 1) = 0 ∧ ¬ r_X3_in (told (to9 + 2)) (nI 0) (nI 3) = 0 ∧ ¬ r_X3_in (told (to9 + 3)) (nI 1) (nI 3) = 0 := by
  unfold r_X3_wrongNumber at h
  rw [if_neg (by rw [e]; decide), if_pos e] at h
  refine ⟨fun h0 => ?_, fun h0 => ?_, fun h0 => ?_⟩
  · rw [if_pos h0] at h; exact absurd h (by decide)
  · (repeat' split at h) <;> first | exact absurd h (by decide) | exact absurd h0 ‹_›
  · (repeat' split at h) <;> first | exact absurd h (by decide) | exact absurd h0 ‹_›
theorem wn_h {g told : Nat → Int32} {to9 : Nat} (h : r_X3_wrongNumber g told to9 = -1) (e : told (to9) = 104) : ¬ r_X3_in (told (to9 + 1)) (nI 1) (nI 48) = 0 := by
  unfold r_X3_wrongNumber at h
  rw [if_neg (by rw [e]; decide), if_neg (by rw [e]; decide), if_pos e] at h
  intro h0
  rw [if_pos h0] at h; exact absurd h (by decide)
theorem wn_k {g told : Nat → Int32} {to9 : Nat} (h : r_X3_wrongNumber g told to9 = -1) (e : told (to9) = 107) : ¬ r_X3_in (told (to9 + 1)) (nI 0) (g 2 - nI 1) = 0 ∧ ¬ r_X3_in (told (to9 + 2)) (nI 0) (nI 7) = 0 := by
  unfold r_X3_wrongNumber at h
  rw [if_neg (by rw [e]; decide), if_neg (by rw [e]; decide), if_neg (by rw [e]; decide), if_pos e] at h
  refine ⟨fun h0 => ?_, fun h0 => ?_⟩
  · rw [if_pos h0] at h; exact absurd h (by decide)
  · (repeat' split at h) <;> first | exact absurd h (by decide) | exact absurd h0 ‹_›
theorem wn_p {g told : Nat → Int32} {to9 : Nat} (h : r_X3_wrongNumber g told to9 = -1) (e : told (to9) = 112) : ¬ r_X3_in (told (to9 + 1)) (nI 0) (g 1 - nI 1) = 0 ∧ ¬ r_X3_in (told (to9 + 2)) (nI 1) (nI 9) = 0 ∧ ¬ r_X3_in (told (to9 + 3)) (nI 1) (nI 9) = 0 := by
  unfold r_X3_wrongNumber at h
  rw [if_neg (by rw [e]; decide), if_neg (by rw [e]; decide), if_neg (by rw [e]; decide), if_neg (by rw [e]; decide), if_pos e] at h
  refine ⟨fun h0 => ?_, fun h0 => ?_, fun h0 => ?_⟩
  · rw [if_pos h0] at h; exact absurd h (by decide)
  · (repeat' split at h) <;> first | exact absurd h (by decide) | exact absurd h0 ‹_›
  · (repeat' split at h) <;> first | exact absurd h (by decide) | exact absurd h0 ‹_›
def r_X3_mayDo (g : Nat → Int32) (told : Nat → Int32) (to9 : Nat) : Int32 := (if (r_X3_wrongNumber g told to9) = (-1) then (if (told (to9)) = 99 then (r_X3_mayBeIn g (tn (told (to9 + 1))) (nI (2))) else (if (told (to9)) = 103 then (r_X3_mayBeIn g (tn (told (to9 + 1))) (nI (3))) else (if (told (to9)) = 104 then (r_X3_mayPass g (told (to9 + 1))) else (if (told (to9)) = 107 then (r_X3_mayPlace g (tn (told (to9 + 1))) (tn (told (to9 + 2)))) else (if (told (to9)) = 112 then (r_X3_mayPot g) else (r_X3_mayFire g)))))) else (nI (19)))
def o_X3_mayDo_now (g : Nat → Int32) (now : Nat → Int32) (told : Nat → Int32) (to9 : Nat) : Nat → Int32 := (if (r_X3_wrongNumber g told to9) = (-1) then (if (told (to9)) = 99 then (o_X3_mayBeIn_now g now (tn (told (to9 + 1))) (nI (2))) else (if (told (to9)) = 103 then (o_X3_mayBeIn_now g now (tn (told (to9 + 1))) (nI (3))) else (if (told (to9)) = 104 then (o_X3_mayPass_now g now (told (to9 + 1))) else (if (told (to9)) = 107 then (o_X3_mayPlace_now g now (tn (told (to9 + 1))) (tn (told (to9 + 2)))) else (if (told (to9)) = 112 then (o_X3_mayPot_now g now) else (o_X3_mayFire_now g now)))))) else ((upd (upd now (0) ((nI (19)))) (1) ((r_X3_wrongNumber g told to9)))))
def o_X3_mayDo_ns (g : Nat → Int32) (told : Nat → Int32) (ns : Int32) (to9 : Nat) : Int32 := (if (r_X3_wrongNumber g told to9) = (-1) then (if (told (to9)) = 99 then (o_X3_mayBeIn_ns g ns (tn (told (to9 + 1))) (nI (2))) else (if (told (to9)) = 103 then (o_X3_mayBeIn_ns g ns (tn (told (to9 + 1))) (nI (3))) else (if (told (to9)) = 104 then (o_X3_mayPass_ns g ns (told (to9 + 1))) else (if (told (to9)) = 107 then (o_X3_mayPlace_ns g ns (tn (told (to9 + 1))) (tn (told (to9 + 2)))) else (if (told (to9)) = 112 then (o_X3_mayPot_ns g ns) else (o_X3_mayFire_ns g ns)))))) else ((nI (1))))
theorem hd_X3_mayDo : yX3_mayDo.cls = RX3 ∧ yX3_mayDo.cls ≠ "java/lang/invoke/MethodHandle" ∧ yX3_mayDo.cls ≠ "java/lang/invoke/VarHandle" ∧ (parseMethodDescriptor yX3_mayDo.desc).map (fun d => d.parameters.length) = some 1 := by decide +kernel
set_option maxHeartbeats 4000000 in
theorem t_X3_mayDo (l : Launch) (Ω : jO) {t : Nat} {G0 : Mem} {g hi sv as_ inp why now told bef : Nat → Int32} {ch hs fed fa ws ns ct st_ pl iw sn : Int32} {sz : Nat} (ht : Ω.2.2.2 ≤ t) (to9 : Nat) (hto : to9 ≤ 236) (hn2 : g 2 = nI (tn (g 2))) (hn16 : tn (g 2) ≤ 16) : Met l yX3_mayDo (ws_ yX3_mayDo cX3_mayDo 3 (some .int)) ({ frames := 4, cells := 0, slots := 0, locals := 79 }) (va_Pc [.ref t, .int (nI (to9))] (jWd Ω (tov Ω t G0 g hi sv as_ inp why now told bef ch hs fed fa ws ns ct st_ pl iw sn) sz)) (jQ Ω (jD (some (.int (r_X3_mayDo g told to9))) (tov Ω t G0 g hi sv as_ inp why (o_X3_mayDo_now g now told to9) told bef ch hs fed fa ws (o_X3_mayDo_ns g told ns to9) ct st_ pl iw sn) sz)) 0 0 (jB Ω) := by
  refine jMet (by decide) (Nat.le_of_ble_eq_true rfl) ?_
  intro p e s m args below meth c cx hr hnm
  refine J_loc [some (.ref t), some (.int (nI (to9))), none] rfl ?_
  refine J_aload_n cx dX3_mayDo_0 rfl ?_
  refine J_iload_n cx dX3_mayDo_1 rfl ?_
  refine T_callI cx [.int (nI (to9))] (t_X3_wrongNumber l Ω ht (to9) hto) dX3_mayDo_2 (lw_V q2981 q2983 qs80 q93 q2984) hd_X3_wrongNumber rfl rfl ⟨Nat.le_of_ble_eq_true rfl, Nat.le_of_ble_eq_true rfl⟩ rfl rfl (Nat.le_of_ble_eq_true rfl) ?_
  refine J_iconst (v := -1) cx dX3_mayDo_5 (by decide) ?_
  refine J_icmp_eq (tgt := 21) cx dX3_mayDo_6 (by decide) (fun c6 => ?_) (fun c6 => ?_)
  · refine J_aload_n cx dX3_mayDo_21 rfl ?_
    refine T_get_told cx dX3_mayDo_22 ?_
    refine J_iload_n cx dX3_mayDo_25 rfl ?_
    refine J_iconst (v := nI (1)) cx dX3_mayDo_26 (by decide) ?_
    refine J_iaddN cx dX3_mayDo_27 ?_
    refine T_ld_told cx dX3_mayDo_28 (by omega) ?_
    refine J_istore_n2 cx dX3_mayDo_29 (by decide) rfl ?_
    refine J_aload_n cx dX3_mayDo_30 rfl ?_
    refine T_get_told cx dX3_mayDo_31 ?_
    refine J_iload_n cx dX3_mayDo_34 rfl ?_
    refine T_ld_told cx dX3_mayDo_35 (by omega) ?_
    by_cases c36_99 : (told (to9)) = 99
    · refine J_tableIn (off := 83) (tgt := 119) cx dX3_mayDo_36 (by rw [c36_99]; decide) (by rw [c36_99]; decide) (by rw [c36_99]; rfl) (by decide) ?_
      have hpw := (in_m1 hn2 (wn_c c6 c36_99)).2
      have hre119_2 : told (to9 + 1) = nI (tn (told (to9 + 1))) := (in_m1 hn2 (wn_c c6 c36_99)).1
      refine J_loc [some (.ref t), some (.int (nI (to9))), some (.int (nI (tn (told (to9 + 1)))))] (by simp only [← hre119_2]) ?_
      refine J_aload_n cx dX3_mayDo_119 rfl ?_
      refine J_iload_n cx dX3_mayDo_120 rfl ?_
      refine J_iconst (v := nI (2)) cx dX3_mayDo_121 (by decide) ?_
      refine T_callI cx [.int (nI (tn (told (to9 + 1)))), .int (nI (2))] (t_X3_mayBeIn l Ω ht (tn (told (to9 + 1))) (nI (2)) (by omega)) dX3_mayDo_122 (lw_V q2775 q2777 qs48 q93 q2778) hd_X3_mayBeIn rfl rfl ⟨Nat.le_of_ble_eq_true rfl, Nat.le_of_ble_eq_true rfl⟩ rfl rfl (Nat.le_of_ble_eq_true rfl) ?_
      exact J_iret cx dX3_mayDo_125 hr ⟨congrArg some (congrArg Value.int (by simp only [r_X3_mayDo, o_X3_mayDo_now, o_X3_mayDo_ns, if_pos c6, if_pos c36_99])), (tov_cg rfl rfl rfl rfl rfl rfl (by simp only [r_X3_mayDo, o_X3_mayDo_now, o_X3_mayDo_ns, if_pos c6, if_pos c36_99]) rfl rfl rfl rfl rfl rfl rfl (by simp only [r_X3_mayDo, o_X3_mayDo_now, o_X3_mayDo_ns, if_pos c6, if_pos c36_99]) rfl rfl rfl rfl rfl), rfl⟩ (Nat.le_refl 0) (Nat.le_refl 0)
    by_cases c36_103 : (told (to9)) = 103
    · refine J_tableIn (off := 90) (tgt := 126) cx dX3_mayDo_36 (by rw [c36_103]; decide) (by rw [c36_103]; decide) (by rw [c36_103]; rfl) (by decide) ?_
      have hpw := (in_m1 hn2 (wn_g c6 c36_103).1).2
      have hre126_2 : told (to9 + 1) = nI (tn (told (to9 + 1))) := (in_m1 hn2 (wn_g c6 c36_103).1).1
      refine J_loc [some (.ref t), some (.int (nI (to9))), some (.int (nI (tn (told (to9 + 1)))))] (by simp only [← hre126_2]) ?_
      refine J_aload_n cx dX3_mayDo_126 rfl ?_
      refine J_iload_n cx dX3_mayDo_127 rfl ?_
      refine J_iconst (v := nI (3)) cx dX3_mayDo_128 (by decide) ?_
      refine T_callI cx [.int (nI (tn (told (to9 + 1)))), .int (nI (3))] (t_X3_mayBeIn l Ω ht (tn (told (to9 + 1))) (nI (3)) (by omega)) dX3_mayDo_129 (lw_V q2775 q2777 qs48 q93 q2778) hd_X3_mayBeIn rfl rfl ⟨Nat.le_of_ble_eq_true rfl, Nat.le_of_ble_eq_true rfl⟩ rfl rfl (Nat.le_of_ble_eq_true rfl) ?_
      exact J_iret cx dX3_mayDo_132 hr ⟨congrArg some (congrArg Value.int (by simp only [r_X3_mayDo, o_X3_mayDo_now, o_X3_mayDo_ns, if_pos c6, if_neg c36_99, if_pos c36_103])), (tov_cg rfl rfl rfl rfl rfl rfl (by simp only [r_X3_mayDo, o_X3_mayDo_now, o_X3_mayDo_ns, if_pos c6, if_neg c36_99, if_pos c36_103]) rfl rfl rfl rfl rfl rfl rfl (by simp only [r_X3_mayDo, o_X3_mayDo_now, o_X3_mayDo_ns, if_pos c6, if_neg c36_99, if_pos c36_103]) rfl rfl rfl rfl rfl), rfl⟩ (Nat.le_refl 0) (Nat.le_refl 0)
    by_cases c36_104 : (told (to9)) = 104
    · refine J_tableIn (off := 77) (tgt := 113) cx dX3_mayDo_36 (by rw [c36_104]; decide) (by rw [c36_104]; decide) (by rw [c36_104]; rfl) (by decide) ?_
      refine J_aload_n cx dX3_mayDo_113 rfl ?_
      refine J_iload_n cx dX3_mayDo_114 rfl ?_
      refine T_callI cx [.int (told (to9 + 1))] (t_X3_mayPass l Ω ht (told (to9 + 1))) dX3_mayDo_115 (lw_V q2870 q2872 qs63 q93 q2873) hd_X3_mayPass rfl rfl ⟨Nat.le_of_ble_eq_true rfl, Nat.le_of_ble_eq_true rfl⟩ rfl rfl (Nat.le_of_ble_eq_true rfl) ?_
      exact J_iret cx dX3_mayDo_118 hr ⟨congrArg some (congrArg Value.int (by simp only [r_X3_mayDo, o_X3_mayDo_now, o_X3_mayDo_ns, if_pos c6, if_neg c36_99, if_neg c36_103, if_pos c36_104])), (tov_cg rfl rfl rfl rfl rfl rfl (by simp only [r_X3_mayDo, o_X3_mayDo_now, o_X3_mayDo_ns, if_pos c6, if_neg c36_99, if_neg c36_103, if_pos c36_104]) rfl rfl rfl rfl rfl rfl rfl (by simp only [r_X3_mayDo, o_X3_mayDo_now, o_X3_mayDo_ns, if_pos c6, if_neg c36_99, if_neg c36_103, if_pos c36_104]) rfl rfl rfl rfl rfl), rfl⟩ (Nat.le_refl 0) (Nat.le_refl 0)
    by_cases c36_107 : (told (to9)) = 107
    · refine J_tableIn (off := 97) (tgt := 133) cx dX3_mayDo_36 (by rw [c36_107]; decide) (by rw [c36_107]; decide) (by rw [c36_107]; rfl) (by decide) ?_
      have hpw := (in_m1 hn2 (wn_k c6 c36_107).1).2
      have hqw := (in_n (by decide) (wn_k c6 c36_107).2).2.2
      have hre133_2 : told (to9 + 1) = nI (tn (told (to9 + 1))) := (in_m1 hn2 (wn_k c6 c36_107).1).1
      refine J_loc [some (.ref t), some (.int (nI (to9))), some (.int (nI (tn (told (to9 + 1)))))] (by simp only [← hre133_2]) ?_
      refine J_aload_n cx dX3_mayDo_133 rfl ?_
      refine J_iload_n cx dX3_mayDo_134 rfl ?_
      refine J_aload_n cx dX3_mayDo_135 rfl ?_
      refine T_get_told cx dX3_mayDo_136 ?_
      refine J_iload_n cx dX3_mayDo_139 rfl ?_
      refine J_iconst (v := nI (2)) cx dX3_mayDo_140 (by decide) ?_
      refine J_iaddN cx dX3_mayDo_141 ?_
      refine T_ld_told cx dX3_mayDo_142 (by omega) ?_
      refine J_top (.int (nI (tn (told (to9 + 2))))) (congrArg Value.int ((in_n (by decide) (wn_k c6 c36_107).2).1)) ?_
      refine T_callI cx [.int (nI (tn (told (to9 + 1)))), .int (nI (tn (told (to9 + 2))))] (t_X3_mayPlace l Ω ht (tn (told (to9 + 1))) (tn (told (to9 + 2))) (by omega) (by omega)) dX3_mayDo_143 (lw_V q2795 q2797 qs51 q93 q2798) hd_X3_mayPlace rfl rfl ⟨Nat.le_of_ble_eq_true rfl, Nat.le_of_ble_eq_true rfl⟩ rfl rfl (Nat.le_of_ble_eq_true rfl) ?_
      exact J_iret cx dX3_mayDo_146 hr ⟨congrArg some (congrArg Value.int (by simp only [r_X3_mayDo, o_X3_mayDo_now, o_X3_mayDo_ns, if_pos c6, if_neg c36_99, if_neg c36_103, if_neg c36_104, if_pos c36_107])), (tov_cg rfl rfl rfl rfl rfl rfl (by simp only [r_X3_mayDo, o_X3_mayDo_now, o_X3_mayDo_ns, if_pos c6, if_neg c36_99, if_neg c36_103, if_neg c36_104, if_pos c36_107]) rfl rfl rfl rfl rfl rfl rfl (by simp only [r_X3_mayDo, o_X3_mayDo_now, o_X3_mayDo_ns, if_pos c6, if_neg c36_99, if_neg c36_103, if_neg c36_104, if_pos c36_107]) rfl rfl rfl rfl rfl), rfl⟩ (Nat.le_refl 0) (Nat.le_refl 0)
    by_cases c36_112 : (told (to9)) = 112
    · refine J_tableIn (off := 72) (tgt := 108) cx dX3_mayDo_36 (by rw [c36_112]; decide) (by rw [c36_112]; decide) (by rw [c36_112]; rfl) (by decide) ?_
      refine J_aload_n cx dX3_mayDo_108 rfl ?_
      refine T_callI cx [] (t_X3_mayPot l Ω ht) dX3_mayDo_109 (lw_V q2728 q2730 qs43 q93 q2731) hd_X3_mayPot rfl rfl ⟨Nat.le_of_ble_eq_true rfl, Nat.le_of_ble_eq_true rfl⟩ rfl rfl (Nat.le_of_ble_eq_true rfl) ?_
      exact J_iret cx dX3_mayDo_112 hr ⟨congrArg some (congrArg Value.int (by simp only [r_X3_mayDo, o_X3_mayDo_now, o_X3_mayDo_ns, if_pos c6, if_neg c36_99, if_neg c36_103, if_neg c36_104, if_neg c36_107, if_pos c36_112])), (tov_cg rfl rfl rfl rfl rfl rfl (by simp only [r_X3_mayDo, o_X3_mayDo_now, o_X3_mayDo_ns, if_pos c6, if_neg c36_99, if_neg c36_103, if_neg c36_104, if_neg c36_107, if_pos c36_112]) rfl rfl rfl rfl rfl rfl rfl (by simp only [r_X3_mayDo, o_X3_mayDo_now, o_X3_mayDo_ns, if_pos c6, if_neg c36_99, if_neg c36_103, if_neg c36_104, if_neg c36_107, if_pos c36_112]) rfl rfl rfl rfl rfl), rfl⟩ (Nat.le_refl 0) (Nat.le_refl 0)
    have Kd36 : J p l e ({ frames := 4, cells := 0, slots := 0, locals := 79 } : Room) s m args below meth c Ω 3 (MQ below (jQ Ω (jD (some (.int (r_X3_mayDo g told to9))) (tov Ω t G0 g hi sv as_ inp why (o_X3_mayDo_now g now told to9) told bef ch hs fed fa ws (o_X3_mayDo_ns g told ns to9) ct st_ pl iw sn) sz)) args s 0 0 (jB Ω)) 0 0 sz (tov Ω t G0 g hi sv as_ inp why now told bef ch hs fed fa ws ns ct st_ pl iw sn) 147 [some (.ref t), some (.int (nI (to9))), some (.int (told (to9 + 1)))] [] := by
      refine J_aload_n cx dX3_mayDo_147 rfl ?_
      refine T_callI cx [] (t_X3_mayFire l Ω ht) dX3_mayDo_148 (lw_V q2847 q2849 qs61 q93 q2850) hd_X3_mayFire rfl rfl ⟨Nat.le_of_ble_eq_true rfl, Nat.le_of_ble_eq_true rfl⟩ rfl rfl (Nat.le_of_ble_eq_true rfl) ?_
      exact J_iret cx dX3_mayDo_151 hr ⟨congrArg some (congrArg Value.int (by simp only [r_X3_mayDo, o_X3_mayDo_now, o_X3_mayDo_ns, if_pos c6, if_neg c36_99, if_neg c36_103, if_neg c36_104, if_neg c36_107, if_neg c36_112])), (tov_cg rfl rfl rfl rfl rfl rfl (by simp only [r_X3_mayDo, o_X3_mayDo_now, o_X3_mayDo_ns, if_pos c6, if_neg c36_99, if_neg c36_103, if_neg c36_104, if_neg c36_107, if_neg c36_112]) rfl rfl rfl rfl rfl rfl rfl (by simp only [r_X3_mayDo, o_X3_mayDo_now, o_X3_mayDo_ns, if_pos c6, if_neg c36_99, if_neg c36_103, if_neg c36_104, if_neg c36_107, if_neg c36_112]) rfl rfl rfl rfl rfl), rfl⟩ (Nat.le_refl 0) (Nat.le_refl 0)
    by_cases c36_100 : (told (to9)) = 100
    · exact J_tableIn (off := 111) (tgt := 147) cx dX3_mayDo_36 (by rw [c36_100]; decide) (by rw [c36_100]; decide) (by rw [c36_100]; rfl) (by decide) Kd36
    by_cases c36_101 : (told (to9)) = 101
    · exact J_tableIn (off := 111) (tgt := 147) cx dX3_mayDo_36 (by rw [c36_101]; decide) (by rw [c36_101]; decide) (by rw [c36_101]; rfl) (by decide) Kd36
    by_cases c36_102 : (told (to9)) = 102
    · exact J_tableIn (off := 111) (tgt := 147) cx dX3_mayDo_36 (by rw [c36_102]; decide) (by rw [c36_102]; decide) (by rw [c36_102]; rfl) (by decide) Kd36
    by_cases c36_105 : (told (to9)) = 105
    · exact J_tableIn (off := 111) (tgt := 147) cx dX3_mayDo_36 (by rw [c36_105]; decide) (by rw [c36_105]; decide) (by rw [c36_105]; rfl) (by decide) Kd36
    by_cases c36_106 : (told (to9)) = 106
    · exact J_tableIn (off := 111) (tgt := 147) cx dX3_mayDo_36 (by rw [c36_106]; decide) (by rw [c36_106]; decide) (by rw [c36_106]; rfl) (by decide) Kd36
    by_cases c36_108 : (told (to9)) = 108
    · exact J_tableIn (off := 111) (tgt := 147) cx dX3_mayDo_36 (by rw [c36_108]; decide) (by rw [c36_108]; decide) (by rw [c36_108]; rfl) (by decide) Kd36
    by_cases c36_109 : (told (to9)) = 109
    · exact J_tableIn (off := 111) (tgt := 147) cx dX3_mayDo_36 (by rw [c36_109]; decide) (by rw [c36_109]; decide) (by rw [c36_109]; rfl) (by decide) Kd36
    by_cases c36_110 : (told (to9)) = 110
    · exact J_tableIn (off := 111) (tgt := 147) cx dX3_mayDo_36 (by rw [c36_110]; decide) (by rw [c36_110]; decide) (by rw [c36_110]; rfl) (by decide) Kd36
    by_cases c36_111 : (told (to9)) = 111
    · exact J_tableIn (off := 111) (tgt := 147) cx dX3_mayDo_36 (by rw [c36_111]; decide) (by rw [c36_111]; decide) (by rw [c36_111]; rfl) (by decide) Kd36
    have hout36 : (told (to9)).toInt < 99 ∨ 112 < (told (to9)).toInt := by
      have ec36_99 := jne_int (n := 99) 99 (by decide) c36_99
      have ec36_103 := jne_int (n := 103) 103 (by decide) c36_103
      have ec36_104 := jne_int (n := 104) 104 (by decide) c36_104
      have ec36_107 := jne_int (n := 107) 107 (by decide) c36_107
      have ec36_112 := jne_int (n := 112) 112 (by decide) c36_112
      have ec36_100 := jne_int (n := 100) 100 (by decide) c36_100
      have ec36_101 := jne_int (n := 101) 101 (by decide) c36_101
      have ec36_102 := jne_int (n := 102) 102 (by decide) c36_102
      have ec36_105 := jne_int (n := 105) 105 (by decide) c36_105
      have ec36_106 := jne_int (n := 106) 106 (by decide) c36_106
      have ec36_108 := jne_int (n := 108) 108 (by decide) c36_108
      have ec36_109 := jne_int (n := 109) 109 (by decide) c36_109
      have ec36_110 := jne_int (n := 110) 110 (by decide) c36_110
      have ec36_111 := jne_int (n := 111) 111 (by decide) c36_111
      omega
    exact J_tableOut (tgt := 147) cx dX3_mayDo_36 hout36 (by decide) Kd36
  · refine J_aload_n cx dX3_mayDo_9 rfl ?_
    refine J_bipush (v := nI (19)) cx dX3_mayDo_10 (by decide) ?_
    refine J_aload_n cx dX3_mayDo_12 rfl ?_
    refine J_iload_n cx dX3_mayDo_13 rfl ?_
    refine T_callI cx [.int (nI (to9))] (t_X3_wrongNumber l Ω ht (to9) hto) dX3_mayDo_14 (lw_V q2981 q2983 qs80 q93 q2984) hd_X3_wrongNumber rfl rfl ⟨Nat.le_of_ble_eq_true rfl, Nat.le_of_ble_eq_true rfl⟩ rfl rfl (Nat.le_of_ble_eq_true rfl) ?_
    refine T_callI cx [.int (nI (19)), .int (r_X3_wrongNumber g told to9)] (t_X3_noted l Ω ht (nI (19)) (r_X3_wrongNumber g told to9)) dX3_mayDo_17 (lw_V q2716 q2718 qs41 q93 q2719) hd_X3_noted rfl rfl ⟨Nat.le_of_ble_eq_true rfl, Nat.le_of_ble_eq_true rfl⟩ rfl rfl (Nat.le_of_ble_eq_true rfl) ?_
    exact J_iret cx dX3_mayDo_20 hr ⟨congrArg some (congrArg Value.int (by simp only [r_X3_mayDo, o_X3_mayDo_now, o_X3_mayDo_ns, if_neg c6])), (tov_cg rfl rfl rfl rfl rfl rfl (by simp only [r_X3_mayDo, o_X3_mayDo_now, o_X3_mayDo_ns, if_neg c6]) rfl rfl rfl rfl rfl rfl rfl (by simp only [r_X3_mayDo, o_X3_mayDo_now, o_X3_mayDo_ns, if_neg c6]) rfl rfl rfl rfl rfl), rfl⟩ (Nat.le_refl 0) (Nat.le_refl 0)
def o_X3_does_g (g : Nat → Int32) (told : Nat → Int32) (to9 : Nat) : Nat → Int32 := (if (told (to9)) = 99 then (upd g ((50 + (13 * (tn (told (to9 + 1))))) + 5) (told (to9 + 2))) else (if (told (to9)) = 103 then (o_X3_glazes_g g (tn (told (to9 + 1))) (told (to9 + 2)) (told (to9 + 3))) else (if (told (to9)) = 104 then (S_hours g (tn (told (to9 + 1)))) else (if (told (to9)) = 107 then ((upd (upd g ((50 + (13 * (tn (told (to9 + 1))))) + 8) (nI ((tn (told (to9 + 2)))))) (41 + (tn (told (to9 + 2)))) (nI ((tn (told (to9 + 1))))))) else (if (told (to9)) = 112 then (o_X3_comes_g g (told (to9 + 1)) (told (to9 + 2)) (told (to9 + 3))) else ((S_fires2 (fireG g) (S_lostThen g 8) (S_shelfSet g 8) (tn (g (2)))).1))))))
def o_X3_does_sn (g : Nat → Int32) (told : Nat → Int32) (sn : Int32) (to9 : Nat) : Int32 := (if (told (to9)) = 99 then sn else (if (told (to9)) = 103 then sn else (if (told (to9)) = 104 then sn else (if (told (to9)) = 107 then sn else (if (told (to9)) = 112 then sn else ((S_fires2 (fireG g) (S_lostThen g 8) (S_shelfSet g 8) (tn (g (2)))).2))))))
theorem hd_X3_does : yX3_does.cls = RX3 ∧ yX3_does.cls ≠ "java/lang/invoke/MethodHandle" ∧ yX3_does.cls ≠ "java/lang/invoke/VarHandle" ∧ (parseMethodDescriptor yX3_does.desc).map (fun d => d.parameters.length) = some 1 := by decide +kernel
set_option maxHeartbeats 4000000 in
theorem t_X3_does (l : Launch) (Ω : jO) {t : Nat} {G0 : Mem} {g hi sv as_ inp why now told bef : Nat → Int32} {ch hs fed fa ws ns ct st_ pl iw sn : Int32} {sz : Nat} (ht : Ω.2.2.2 ≤ t) (to9 : Nat) (hto : to9 ≤ 236) (hn2 : g 2 = nI (tn (g 2))) (hn16 : tn (g 2) ≤ 16) (hwn : r_X3_wrongNumber g told to9 = -1) (hpt : told (to9) = 112 → tn (g 2) < 16) (hhr : told (to9) = 104 → ∀ k, k < tn (told (to9 + 1)) → hourOk (S_hours g k)) (hfo : firesOk g) : Met l yX3_does (ws_ yX3_does cX3_does 4 (none)) ({ frames := 6, cells := 0, slots := 0, locals := 128 }) (va_Pc [.ref t, .int (nI (to9))] (jWd Ω (tov Ω t G0 g hi sv as_ inp why now told bef ch hs fed fa ws ns ct st_ pl iw sn) sz)) (jQ Ω (jD none (tov Ω t G0 (o_X3_does_g g told to9) hi sv as_ inp why now told bef ch hs fed fa ws ns ct st_ pl iw (o_X3_does_sn g told sn to9)) sz)) 0 0 (jB Ω) := by
  refine jMet (by decide) (Nat.le_of_ble_eq_true rfl) ?_
  intro p e s m args below meth c cx hr hnm
  refine J_loc [some (.ref t), some (.int (nI (to9))), none, none] rfl ?_
  refine J_aload_n cx dX3_does_0 rfl ?_
  refine T_get_told cx dX3_does_1 ?_
  refine J_iload_n cx dX3_does_4 rfl ?_
  refine J_iconst (v := nI (1)) cx dX3_does_5 (by decide) ?_
  refine J_iaddN cx dX3_does_6 ?_
  refine T_ld_told cx dX3_does_7 (by omega) ?_
  refine J_istore_n2 cx dX3_does_8 (by decide) rfl ?_
  refine J_aload_n cx dX3_does_9 rfl ?_
  refine T_get_told cx dX3_does_10 ?_
  refine J_iload_n cx dX3_does_13 rfl ?_
  refine J_iconst (v := nI (2)) cx dX3_does_14 (by decide) ?_
  refine J_iaddN cx dX3_does_15 ?_
  refine T_ld_told cx dX3_does_16 (by omega) ?_
  refine J_istore_n3 cx dX3_does_17 (by decide) rfl ?_
  refine J_aload_n cx dX3_does_18 rfl ?_
  refine T_get_told cx dX3_does_19 ?_
  refine J_iload_n cx dX3_does_22 rfl ?_
  refine T_ld_told cx dX3_does_23 (by omega) ?_
  by_cases c24_99 : (told (to9)) = 99
  · refine J_tableIn (off := 97) (tgt := 121) cx dX3_does_24 (by rw [c24_99]; decide) (by rw [c24_99]; decide) (by rw [c24_99]; rfl) (by decide) ?_
    have hpw := (in_m1 hn2 (wn_c hwn c24_99)).2
    have hre121_2 : told (to9 + 1) = nI (tn (told (to9 + 1))) := (in_m1 hn2 (wn_c hwn c24_99)).1
    refine J_loc [some (.ref t), some (.int (nI (to9))), some (.int (nI (tn (told (to9 + 1))))), some (.int (told (to9 + 2)))] (by simp only [← hre121_2]) ?_
    refine J_aload_n cx dX3_does_121 rfl ?_
    refine T_get_g cx dX3_does_122 ?_
    refine J_iload_n cx dX3_does_125 rfl ?_
    refine T_callSI cx [.int (nI (tn (told (to9 + 1))))] (t_X3_at l Ω (tn (told (to9 + 1)))) dX3_does_126 (lw_S q2736 q2737 q93 q2738) hd_X3_at.2 rfl rfl ⟨Nat.le_of_ble_eq_true rfl, Nat.le_of_ble_eq_true rfl⟩ rfl rfl (Nat.le_of_ble_eq_true rfl) ?_
    refine J_iconst (v := nI (5)) cx dX3_does_129 (by decide) ?_
    refine J_iaddN cx dX3_does_130 ?_
    refine J_iload_n cx dX3_does_131 rfl ?_
    refine T_st_g cx ht dX3_does_132 (by omega) ?_
    refine J_goto (tgt := 170) cx dX3_does_133 (by decide) ?_
    exact J_vret cx dX3_does_170 hr ⟨rfl, (tov_cg (by simp only [o_X3_does_g, o_X3_does_sn, if_pos c24_99]) rfl rfl rfl rfl rfl rfl rfl rfl rfl rfl rfl rfl rfl rfl rfl rfl rfl rfl (by simp only [o_X3_does_g, o_X3_does_sn, if_pos c24_99])), rfl⟩ (Nat.le_refl 0) (Nat.le_refl 0)
  by_cases c24_103 : (told (to9)) = 103
  · refine J_tableIn (off := 112) (tgt := 136) cx dX3_does_24 (by rw [c24_103]; decide) (by rw [c24_103]; decide) (by rw [c24_103]; rfl) (by decide) ?_
    have hpw := (in_m1 hn2 (wn_g hwn c24_103).1).2
    have hre136_2 : told (to9 + 1) = nI (tn (told (to9 + 1))) := (in_m1 hn2 (wn_g hwn c24_103).1).1
    refine J_loc [some (.ref t), some (.int (nI (to9))), some (.int (nI (tn (told (to9 + 1))))), some (.int (told (to9 + 2)))] (by simp only [← hre136_2]) ?_
    refine J_aload_n cx dX3_does_136 rfl ?_
    refine J_iload_n cx dX3_does_137 rfl ?_
    refine J_iload_n cx dX3_does_138 rfl ?_
    refine J_aload_n cx dX3_does_139 rfl ?_
    refine T_get_told cx dX3_does_140 ?_
    refine J_iload_n cx dX3_does_143 rfl ?_
    refine J_iconst (v := nI (3)) cx dX3_does_144 (by decide) ?_
    refine J_iaddN cx dX3_does_145 ?_
    refine T_ld_told cx dX3_does_146 (by omega) ?_
    refine T_callV cx [.int (nI (tn (told (to9 + 1)))), .int (told (to9 + 2)), .int (told (to9 + 3))] (t_X3_glazes l Ω ht (tn (told (to9 + 1))) (told (to9 + 2)) (told (to9 + 3)) (by omega)) dX3_does_147 (lw_V q2783 q2785 qs49 q93 q2786) hd_X3_glazes rfl rfl ⟨Nat.le_of_ble_eq_true rfl, Nat.le_of_ble_eq_true rfl⟩ rfl rfl (Nat.le_of_ble_eq_true rfl) ?_
    refine J_goto (tgt := 170) cx dX3_does_150 (by decide) ?_
    exact J_vret cx dX3_does_170 hr ⟨rfl, (tov_cg (by simp only [o_X3_does_g, o_X3_does_sn, if_neg c24_99, if_pos c24_103]) rfl rfl rfl rfl rfl rfl rfl rfl rfl rfl rfl rfl rfl rfl rfl rfl rfl rfl (by simp only [o_X3_does_g, o_X3_does_sn, if_neg c24_99, if_pos c24_103])), rfl⟩ (Nat.le_refl 0) (Nat.le_refl 0)
  by_cases c24_104 : (told (to9)) = 104
  · refine J_tableIn (off := 89) (tgt := 113) cx dX3_does_24 (by rw [c24_104]; decide) (by rw [c24_104]; decide) (by rw [c24_104]; rfl) (by decide) ?_
    have hpw := (in_n (by decide) (wn_h hwn c24_104)).2.2
    have hre113_2 : told (to9 + 1) = nI (tn (told (to9 + 1))) := (in_n (by decide) (wn_h hwn c24_104)).1
    refine J_loc [some (.ref t), some (.int (nI (to9))), some (.int (nI (tn (told (to9 + 1))))), some (.int (told (to9 + 2)))] (by simp only [← hre113_2]) ?_
    refine J_aload_n cx dX3_does_113 rfl ?_
    refine J_iload_n cx dX3_does_114 rfl ?_
    refine T_callV cx [.int (nI (tn (told (to9 + 1))))] (t_X3_hours l Ω ht (tn (told (to9 + 1))) (by omega) (hhr c24_104)) dX3_does_115 (lw_V q2874 q2876 qs64 q93 q2877) hd_X3_hours rfl rfl ⟨Nat.le_of_ble_eq_true rfl, Nat.le_of_ble_eq_true rfl⟩ rfl rfl (Nat.le_of_ble_eq_true rfl) ?_
    refine J_goto (tgt := 170) cx dX3_does_118 (by decide) ?_
    exact J_vret cx dX3_does_170 hr ⟨rfl, (tov_cg (by simp only [o_X3_does_g, o_X3_does_sn, if_neg c24_99, if_neg c24_103, if_pos c24_104]) rfl rfl rfl rfl rfl rfl rfl rfl rfl rfl rfl rfl rfl rfl rfl rfl rfl rfl (by simp only [o_X3_does_g, o_X3_does_sn, if_neg c24_99, if_neg c24_103, if_pos c24_104])), rfl⟩ (Nat.le_refl 0) (Nat.le_refl 0)
  by_cases c24_107 : (told (to9)) = 107
  · refine J_tableIn (off := 129) (tgt := 153) cx dX3_does_24 (by rw [c24_107]; decide) (by rw [c24_107]; decide) (by rw [c24_107]; rfl) (by decide) ?_
    have hpw := (in_m1 hn2 (wn_k hwn c24_107).1).2
    have hqw := (in_n (by decide) (wn_k hwn c24_107).2).2.2
    have hre153_2 : told (to9 + 1) = nI (tn (told (to9 + 1))) := (in_m1 hn2 (wn_k hwn c24_107).1).1
    refine J_loc [some (.ref t), some (.int (nI (to9))), some (.int (nI (tn (told (to9 + 1))))), some (.int (told (to9 + 2)))] (by simp only [← hre153_2]) ?_
    have hre153_3 : told (to9 + 2) = nI (tn (told (to9 + 2))) := (in_n (by decide) (wn_k hwn c24_107).2).1
    refine J_loc [some (.ref t), some (.int (nI (to9))), some (.int (nI (tn (told (to9 + 1))))), some (.int (nI (tn (told (to9 + 2)))))] (by simp only [← hre153_3]) ?_
    refine J_aload_n cx dX3_does_153 rfl ?_
    refine J_iload_n cx dX3_does_154 rfl ?_
    refine J_iload_n cx dX3_does_155 rfl ?_
    refine T_callV cx [.int (nI (tn (told (to9 + 1)))), .int (nI (tn (told (to9 + 2))))] (t_X3_puts l Ω ht (tn (told (to9 + 1))) (tn (told (to9 + 2))) (by omega) (by omega)) dX3_does_156 (lw_V q2799 q2801 qs52 q93 q2802) hd_X3_puts rfl rfl ⟨Nat.le_of_ble_eq_true rfl, Nat.le_of_ble_eq_true rfl⟩ rfl rfl (Nat.le_of_ble_eq_true rfl) ?_
    refine J_goto (tgt := 170) cx dX3_does_159 (by decide) ?_
    exact J_vret cx dX3_does_170 hr ⟨rfl, (tov_cg (by simp only [o_X3_does_g, o_X3_does_sn, if_neg c24_99, if_neg c24_103, if_neg c24_104, if_pos c24_107]) rfl rfl rfl rfl rfl rfl rfl rfl rfl rfl rfl rfl rfl rfl rfl rfl rfl rfl (by simp only [o_X3_does_g, o_X3_does_sn, if_neg c24_99, if_neg c24_103, if_neg c24_104, if_pos c24_107])), rfl⟩ (Nat.le_refl 0) (Nat.le_refl 0)
  by_cases c24_112 : (told (to9)) = 112
  · refine J_tableIn (off := 72) (tgt := 96) cx dX3_does_24 (by rw [c24_112]; decide) (by rw [c24_112]; decide) (by rw [c24_112]; rfl) (by decide) ?_
    refine J_aload_n cx dX3_does_96 rfl ?_
    refine J_iload_n cx dX3_does_97 rfl ?_
    refine J_iload_n cx dX3_does_98 rfl ?_
    refine J_aload_n cx dX3_does_99 rfl ?_
    refine T_get_told cx dX3_does_100 ?_
    refine J_iload_n cx dX3_does_103 rfl ?_
    refine J_iconst (v := nI (3)) cx dX3_does_104 (by decide) ?_
    refine J_iaddN cx dX3_does_105 ?_
    refine T_ld_told cx dX3_does_106 (by omega) ?_
    refine T_callV cx [.int (told (to9 + 1)), .int (told (to9 + 2)), .int (told (to9 + 3))] (t_X3_comes l Ω ht (told (to9 + 1)) (told (to9 + 2)) (told (to9 + 3)) hn2 (hpt c24_112)) dX3_does_107 (lw_V q2732 q2734 qs44 q93 q2735) hd_X3_comes rfl rfl ⟨Nat.le_of_ble_eq_true rfl, Nat.le_of_ble_eq_true rfl⟩ rfl rfl (Nat.le_of_ble_eq_true rfl) ?_
    refine J_goto (tgt := 170) cx dX3_does_110 (by decide) ?_
    exact J_vret cx dX3_does_170 hr ⟨rfl, (tov_cg (by simp only [o_X3_does_g, o_X3_does_sn, if_neg c24_99, if_neg c24_103, if_neg c24_104, if_neg c24_107, if_pos c24_112]) rfl rfl rfl rfl rfl rfl rfl rfl rfl rfl rfl rfl rfl rfl rfl rfl rfl rfl (by simp only [o_X3_does_g, o_X3_does_sn, if_neg c24_99, if_neg c24_103, if_neg c24_104, if_neg c24_107, if_pos c24_112])), rfl⟩ (Nat.le_refl 0) (Nat.le_refl 0)
  have Kd24 : J p l e ({ frames := 6, cells := 0, slots := 0, locals := 128 } : Room) s m args below meth c Ω 4 (MQ below (jQ Ω (jD none (tov Ω t G0 (o_X3_does_g g told to9) hi sv as_ inp why now told bef ch hs fed fa ws ns ct st_ pl iw (o_X3_does_sn g told sn to9)) sz)) args s 0 0 (jB Ω)) 0 0 sz (tov Ω t G0 g hi sv as_ inp why now told bef ch hs fed fa ws ns ct st_ pl iw sn) 162 [some (.ref t), some (.int (nI (to9))), some (.int (told (to9 + 1))), some (.int (told (to9 + 2)))] [] := by
    refine J_aload_n cx dX3_does_162 rfl ?_
    refine J_aload_n cx dX3_does_163 rfl ?_
    refine T_callI cx [] (t_X3_fires l Ω ht hfo) dX3_does_164 (lw_V q2831 q2833 qs58 q93 q2834) hd_X3_fires rfl rfl ⟨Nat.le_of_ble_eq_true rfl, Nat.le_of_ble_eq_true rfl⟩ rfl rfl (Nat.le_of_ble_eq_true rfl) ?_
    refine T_put_sn cx ht dX3_does_167 ?_
    exact J_vret cx dX3_does_170 hr ⟨rfl, (tov_cg (by simp only [o_X3_does_g, o_X3_does_sn, if_neg c24_99, if_neg c24_103, if_neg c24_104, if_neg c24_107, if_neg c24_112]) rfl rfl rfl rfl rfl rfl rfl rfl rfl rfl rfl rfl rfl rfl rfl rfl rfl rfl (by simp only [o_X3_does_g, o_X3_does_sn, if_neg c24_99, if_neg c24_103, if_neg c24_104, if_neg c24_107, if_neg c24_112])), rfl⟩ (Nat.le_refl 0) (Nat.le_refl 0)
  by_cases c24_100 : (told (to9)) = 100
  · exact J_tableIn (off := 138) (tgt := 162) cx dX3_does_24 (by rw [c24_100]; decide) (by rw [c24_100]; decide) (by rw [c24_100]; rfl) (by decide) Kd24
  by_cases c24_101 : (told (to9)) = 101
  · exact J_tableIn (off := 138) (tgt := 162) cx dX3_does_24 (by rw [c24_101]; decide) (by rw [c24_101]; decide) (by rw [c24_101]; rfl) (by decide) Kd24
  by_cases c24_102 : (told (to9)) = 102
  · exact J_tableIn (off := 138) (tgt := 162) cx dX3_does_24 (by rw [c24_102]; decide) (by rw [c24_102]; decide) (by rw [c24_102]; rfl) (by decide) Kd24
  by_cases c24_105 : (told (to9)) = 105
  · exact J_tableIn (off := 138) (tgt := 162) cx dX3_does_24 (by rw [c24_105]; decide) (by rw [c24_105]; decide) (by rw [c24_105]; rfl) (by decide) Kd24
  by_cases c24_106 : (told (to9)) = 106
  · exact J_tableIn (off := 138) (tgt := 162) cx dX3_does_24 (by rw [c24_106]; decide) (by rw [c24_106]; decide) (by rw [c24_106]; rfl) (by decide) Kd24
  by_cases c24_108 : (told (to9)) = 108
  · exact J_tableIn (off := 138) (tgt := 162) cx dX3_does_24 (by rw [c24_108]; decide) (by rw [c24_108]; decide) (by rw [c24_108]; rfl) (by decide) Kd24
  by_cases c24_109 : (told (to9)) = 109
  · exact J_tableIn (off := 138) (tgt := 162) cx dX3_does_24 (by rw [c24_109]; decide) (by rw [c24_109]; decide) (by rw [c24_109]; rfl) (by decide) Kd24
  by_cases c24_110 : (told (to9)) = 110
  · exact J_tableIn (off := 138) (tgt := 162) cx dX3_does_24 (by rw [c24_110]; decide) (by rw [c24_110]; decide) (by rw [c24_110]; rfl) (by decide) Kd24
  by_cases c24_111 : (told (to9)) = 111
  · exact J_tableIn (off := 138) (tgt := 162) cx dX3_does_24 (by rw [c24_111]; decide) (by rw [c24_111]; decide) (by rw [c24_111]; rfl) (by decide) Kd24
  have hout24 : (told (to9)).toInt < 99 ∨ 112 < (told (to9)).toInt := by
    have ec24_99 := jne_int (n := 99) 99 (by decide) c24_99
    have ec24_103 := jne_int (n := 103) 103 (by decide) c24_103
    have ec24_104 := jne_int (n := 104) 104 (by decide) c24_104
    have ec24_107 := jne_int (n := 107) 107 (by decide) c24_107
    have ec24_112 := jne_int (n := 112) 112 (by decide) c24_112
    have ec24_100 := jne_int (n := 100) 100 (by decide) c24_100
    have ec24_101 := jne_int (n := 101) 101 (by decide) c24_101
    have ec24_102 := jne_int (n := 102) 102 (by decide) c24_102
    have ec24_105 := jne_int (n := 105) 105 (by decide) c24_105
    have ec24_106 := jne_int (n := 106) 106 (by decide) c24_106
    have ec24_108 := jne_int (n := 108) 108 (by decide) c24_108
    have ec24_109 := jne_int (n := 109) 109 (by decide) c24_109
    have ec24_110 := jne_int (n := 110) 110 (by decide) c24_110
    have ec24_111 := jne_int (n := 111) 111 (by decide) c24_111
    omega
  exact J_tableOut (tgt := 162) cx dX3_does_24 hout24 (by decide) Kd24
def S_waiting (g : Nat → Int32) : Nat → Int32
  | 0 => (nI (0))
  | k1 + 1 => (if (g ((50 + (13 * k1)) + 0)) = 0 then ((S_waiting g k1) + 1) else (S_waiting g k1))
theorem hd_X3_waiting : yX3_waiting.cls = RX3 ∧ yX3_waiting.cls ≠ "java/lang/invoke/MethodHandle" ∧ yX3_waiting.cls ≠ "java/lang/invoke/VarHandle" ∧ (parseMethodDescriptor yX3_waiting.desc).map (fun d => d.parameters.length) = some 1 := by decide +kernel
set_option maxHeartbeats 4000000 in
theorem t_X3_waitingA (l : Launch) (Ω : jO) {t : Nat} {G0 : Mem} {g hi sv as_ inp why now told bef : Nat → Int32} {ch hs fed fa ws ns ct st_ pl iw sn : Int32} {sz : Nat} (ht : Ω.2.2.2 ≤ t) (i9 : Int32) (hn2 : g 2 = nI (tn (g 2))) (hn16 : tn (g 2) ≤ 16) (hpre : ∀ k, k < tn (g 2) → g ((50 + (13 * k)) + 0) = 0 → ¬ S_waiting g k = i9) : Met l yX3_waiting (ws_ yX3_waiting cX3_waiting 4 (some .int)) ({ frames := 2, cells := 0, slots := 0, locals := 32 }) (va_Pc [.ref t, .int (i9)] (jWd Ω (tov Ω t G0 g hi sv as_ inp why now told bef ch hs fed fa ws ns ct st_ pl iw sn) sz)) (jQ Ω (jD (some (.int (-1))) (tov Ω t G0 g hi sv as_ inp why now told bef ch hs fed fa ws ns ct st_ pl iw sn) sz)) 0 0 (jB Ω) := by
  refine jMet (by decide) (Nat.le_of_ble_eq_true rfl) ?_
  intro p e s m args below meth c cx hr hnm
  refine J_loc [some (.ref t), some (.int (i9)), none, none] rfl ?_
  refine J_iconst (v := nI (0)) cx dX3_waiting_0 (by decide) ?_
  refine J_istore_n2 cx dX3_waiting_1 (by decide) rfl ?_
  refine J_iconst (v := nI (0)) cx dX3_waiting_2 (by decide) ?_
  refine J_istore_n3 cx dX3_waiting_3 (by decide) rfl ?_
  have loop4 : ∀ (n k1 : Nat), (tn (g (2))) + 1 ≤ n + k1 → k1 ≤ (tn (g (2))) → J p l e ({ frames := 2, cells := 0, slots := 0, locals := 32 } : Room) s m args below meth c Ω 4 (MQ below (jQ Ω (jD (some (.int (-1))) (tov Ω t G0 g hi sv as_ inp why now told bef ch hs fed fa ws ns ct st_ pl iw sn) sz)) args s 0 0 (jB Ω)) 0 0 sz (tov Ω t G0 g hi sv as_ inp why now told bef ch hs fed fa ws ns ct st_ pl iw sn) 4 [some (.ref t), some (.int (i9)), some (.int (S_waiting g k1)), some (.int (nI (k1)))] [] := by
    intro n
    induction n with
    | zero => intro k1 hn1 hk1 ; exact absurd hn1 (by omega)
    | succ n ih =>
      intro k1 hn1 hk1 
      refine J_iload_n cx dX3_waiting_4 rfl ?_
      refine J_aload_n cx dX3_waiting_5 rfl ?_
      refine T_get_g cx dX3_waiting_6 ?_
      refine J_iconst (v := nI (2)) cx dX3_waiting_9 (by decide) ?_
      refine T_ld_g cx dX3_waiting_10 (by omega) ?_
      refine J_top (.int (nI (tn (g (2))))) (congrArg Value.int (hn2)) ?_
      refine J_icmpN_ge (tgt := 44) cx dX3_waiting_11 (by decide) (by omega) (by omega) (fun c11 => ?_) (fun c11 => ?_)
      · have hkx : tn (g (2)) = k1 := Eq.symm (by omega)
        subst hkx
        refine J_iconst (v := -1) cx dX3_waiting_44 (by decide) ?_
        exact J_iret cx dX3_waiting_45 hr ⟨congrArg some (congrArg Value.int rfl), rfl, rfl⟩ (Nat.le_refl 0) (Nat.le_refl 0)
      · refine J_aload_n cx dX3_waiting_14 rfl ?_
        refine T_get_g cx dX3_waiting_15 ?_
        refine J_iload_n cx dX3_waiting_18 rfl ?_
        refine T_callSI cx [.int (nI (k1))] (t_X3_at l Ω (k1)) dX3_waiting_19 (lw_S q2736 q2737 q93 q2738) hd_X3_at.2 rfl rfl ⟨Nat.le_of_ble_eq_true rfl, Nat.le_of_ble_eq_true rfl⟩ rfl rfl (Nat.le_of_ble_eq_true rfl) ?_
        refine J_iconst (v := nI (0)) cx dX3_waiting_22 (by decide) ?_
        refine J_iaddN cx dX3_waiting_23 ?_
        refine T_ld_g cx dX3_waiting_24 (by omega) ?_
        refine J_if_ne (tgt := 38) cx dX3_waiting_25 (by decide) (fun c25 => ?_) (fun c25 => ?_)
        · refine J_iinc3 (v := nI (k1 + 1)) cx dX3_waiting_38 (nI_1 k1) (by decide) rfl ?_
          refine J_goto (tgt := 4) cx dX3_waiting_41 (by decide) ?_
          refine J_sub (L1 := [some (.ref t), some (.int (i9)), some (.int (S_waiting g (k1 + 1))), some (.int (nI (k1 + 1)))]) (jsub_s (jsub_s (jsub_e (congrArg Value.int (by simp only [S_waiting, if_pos c11, if_neg c25])) (jsub_s jsub_0)))) ?_
          exact ih (k1 + 1) (by omega) (by omega) 
        · refine J_iload_n cx dX3_waiting_28 rfl ?_
          refine J_iload_n cx dX3_waiting_29 rfl ?_
          refine J_icmp_ne (tgt := 35) cx dX3_waiting_30 (by decide) (fun c30 => ?_) (fun c30 => absurd c30 (hpre k1 c11 c25))
          refine J_iinc2 (v := (S_waiting g k1) + 1) cx dX3_waiting_35 (by rfl) (by decide) rfl ?_
          refine J_iinc3 (v := nI (k1 + 1)) cx dX3_waiting_38 (nI_1 k1) (by decide) rfl ?_
          refine J_goto (tgt := 4) cx dX3_waiting_41 (by decide) ?_
          refine J_sub (L1 := [some (.ref t), some (.int (i9)), some (.int (S_waiting g (k1 + 1))), some (.int (nI (k1 + 1)))]) (jsub_s (jsub_s (jsub_e (congrArg Value.int (by simp only [S_waiting, if_pos c11, if_pos c25, if_neg c30])) (jsub_s jsub_0)))) ?_
          exact ih (k1 + 1) (by omega) (by omega) 
  refine J_sub (L1 := [some (.ref t), some (.int (i9)), some (.int (S_waiting g 0)), some (.int (nI (0)))]) (jsub_s (jsub_s (jsub_e (congrArg Value.int rfl) (jsub_s jsub_0)))) ?_
  exact loop4 (tn (g (2)) + 1) 0 (by omega) (by omega) 
theorem hd_X3_waiting_ : yX3_waiting.cls = RX3 ∧ yX3_waiting.cls ≠ "java/lang/invoke/MethodHandle" ∧ yX3_waiting.cls ≠ "java/lang/invoke/VarHandle" ∧ (parseMethodDescriptor yX3_waiting.desc).map (fun d => d.parameters.length) = some 1 := by decide +kernel
set_option maxHeartbeats 4000000 in
theorem t_X3_waiting (l : Launch) (Ω : jO) {t : Nat} {G0 : Mem} {g hi sv as_ inp why now told bef : Nat → Int32} {ch hs fed fa ws ns ct st_ pl iw sn : Int32} {sz : Nat} (ht : Ω.2.2.2 ≤ t) (i9 : Int32) (hn2 : g 2 = nI (tn (g 2))) (hn16 : tn (g 2) ≤ 16) (kW : Nat) (hkW : kW < tn (g 2)) (hk0 : g ((50 + (13 * kW)) + 0) = 0) (hki : S_waiting g kW = i9) (hpre : ∀ k, k < kW → g ((50 + (13 * k)) + 0) = 0 → ¬ S_waiting g k = i9) : Met l yX3_waiting (ws_ yX3_waiting cX3_waiting 4 (some .int)) ({ frames := 2, cells := 0, slots := 0, locals := 32 }) (va_Pc [.ref t, .int (i9)] (jWd Ω (tov Ω t G0 g hi sv as_ inp why now told bef ch hs fed fa ws ns ct st_ pl iw sn) sz)) (jQ Ω (jD (some (.int (nI (kW)))) (tov Ω t G0 g hi sv as_ inp why now told bef ch hs fed fa ws ns ct st_ pl iw sn) sz)) 0 0 (jB Ω) := by
  refine jMet (by decide) (Nat.le_of_ble_eq_true rfl) ?_
  intro p e s m args below meth c cx hr hnm
  refine J_loc [some (.ref t), some (.int (i9)), none, none] rfl ?_
  refine J_iconst (v := nI (0)) cx dX3_waiting_0 (by decide) ?_
  refine J_istore_n2 cx dX3_waiting_1 (by decide) rfl ?_
  refine J_iconst (v := nI (0)) cx dX3_waiting_2 (by decide) ?_
  refine J_istore_n3 cx dX3_waiting_3 (by decide) rfl ?_
  have loop4 : ∀ (n k1 : Nat), (tn (g (2))) + 1 ≤ n + k1 → k1 ≤ (tn (g (2))) → (k1 ≤ kW) → J p l e ({ frames := 2, cells := 0, slots := 0, locals := 32 } : Room) s m args below meth c Ω 4 (MQ below (jQ Ω (jD (some (.int (nI (kW)))) (tov Ω t G0 g hi sv as_ inp why now told bef ch hs fed fa ws ns ct st_ pl iw sn) sz)) args s 0 0 (jB Ω)) 0 0 sz (tov Ω t G0 g hi sv as_ inp why now told bef ch hs fed fa ws ns ct st_ pl iw sn) 4 [some (.ref t), some (.int (i9)), some (.int (S_waiting g k1)), some (.int (nI (k1)))] [] := by
    intro n
    induction n with
    | zero => intro k1 hn1 hk1 hle; exact absurd hn1 (by omega)
    | succ n ih =>
      intro k1 hn1 hk1 hle
      refine J_iload_n cx dX3_waiting_4 rfl ?_
      refine J_aload_n cx dX3_waiting_5 rfl ?_
      refine T_get_g cx dX3_waiting_6 ?_
      refine J_iconst (v := nI (2)) cx dX3_waiting_9 (by decide) ?_
      refine T_ld_g cx dX3_waiting_10 (by omega) ?_
      refine J_top (.int (nI (tn (g (2))))) (congrArg Value.int (hn2)) ?_
      refine J_icmpN_ge (tgt := 44) cx dX3_waiting_11 (by decide) (by omega) (by omega) (fun c11 => absurd c11 (by omega)) (fun c11 => ?_)
      refine J_aload_n cx dX3_waiting_14 rfl ?_
      refine T_get_g cx dX3_waiting_15 ?_
      refine J_iload_n cx dX3_waiting_18 rfl ?_
      refine T_callSI cx [.int (nI (k1))] (t_X3_at l Ω (k1)) dX3_waiting_19 (lw_S q2736 q2737 q93 q2738) hd_X3_at.2 rfl rfl ⟨Nat.le_of_ble_eq_true rfl, Nat.le_of_ble_eq_true rfl⟩ rfl rfl (Nat.le_of_ble_eq_true rfl) ?_
      refine J_iconst (v := nI (0)) cx dX3_waiting_22 (by decide) ?_
      refine J_iaddN cx dX3_waiting_23 ?_
      refine T_ld_g cx dX3_waiting_24 (by omega) ?_
      refine J_if_ne (tgt := 38) cx dX3_waiting_25 (by decide) (fun c25 => ?_) (fun c25 => ?_)
      · have hle1 : k1 + 1 ≤ kW := by
          rcases Nat.lt_or_ge k1 kW with h | h
          · exact h
          · exact absurd (show g ((50 + (13 * k1)) + 0) = 0 by rw [show k1 = kW by omega]; exact hk0) c25
        refine J_iinc3 (v := nI (k1 + 1)) cx dX3_waiting_38 (nI_1 k1) (by decide) rfl ?_
        refine J_goto (tgt := 4) cx dX3_waiting_41 (by decide) ?_
        refine J_sub (L1 := [some (.ref t), some (.int (i9)), some (.int (S_waiting g (k1 + 1))), some (.int (nI (k1 + 1)))]) (jsub_s (jsub_s (jsub_e (congrArg Value.int (by simp only [S_waiting, if_neg c25])) (jsub_s jsub_0)))) ?_
        exact ih (k1 + 1) (by omega) (by omega) (hle1)
      · refine J_iload_n cx dX3_waiting_28 rfl ?_
        refine J_iload_n cx dX3_waiting_29 rfl ?_
        refine J_icmp_ne (tgt := 35) cx dX3_waiting_30 (by decide) (fun c30 => ?_) (fun c30 => ?_)
        · have hle1 : k1 + 1 ≤ kW := by
            rcases Nat.lt_or_ge k1 kW with h | h
            · exact h
            · exact absurd (show S_waiting g k1 = i9 by rw [show k1 = kW by omega]; exact hki) c30
          refine J_iinc2 (v := (S_waiting g k1) + 1) cx dX3_waiting_35 (by rfl) (by decide) rfl ?_
          refine J_iinc3 (v := nI (k1 + 1)) cx dX3_waiting_38 (nI_1 k1) (by decide) rfl ?_
          refine J_goto (tgt := 4) cx dX3_waiting_41 (by decide) ?_
          refine J_sub (L1 := [some (.ref t), some (.int (i9)), some (.int (S_waiting g (k1 + 1))), some (.int (nI (k1 + 1)))]) (jsub_s (jsub_s (jsub_e (congrArg Value.int (by simp only [S_waiting, if_pos c25, if_neg c30])) (jsub_s jsub_0)))) ?_
          exact ih (k1 + 1) (by omega) (by omega) (hle1)
        · have hke : k1 = kW := by
            rcases Nat.lt_or_ge k1 kW with h | h
            · exact absurd c30 (hpre k1 h c25)
            · omega
          refine J_iload_n cx dX3_waiting_33 rfl ?_
          exact J_iret cx dX3_waiting_34 hr ⟨congrArg some (congrArg Value.int (by rw [hke])), rfl, rfl⟩ (Nat.le_refl 0) (Nat.le_refl 0)
  refine J_sub (L1 := [some (.ref t), some (.int (i9)), some (.int (S_waiting g 0)), some (.int (nI (0)))]) (jsub_s (jsub_s (jsub_e (congrArg Value.int rfl) (jsub_s jsub_0)))) ?_
  exact loop4 (tn (g (2)) + 1) 0 (by omega) (by omega) (by omega)
