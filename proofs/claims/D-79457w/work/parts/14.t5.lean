/-! THE TWIN: pots, orders, accounts (gen/mk_t5.py) -/
set_option maxRecDepth 100000
theorem in_m1 {v x : Int32} (h2 : v = nI (tn v)) (h : ¬ r_X3_in x (nI 0) (v - nI 1) = 0) : x = nI (tn x) ∧ tn x < tn v := by
  by_cases h0 : tn v = 0
  · rw [h2, h0] at h
    unfold r_X3_in at h
    by_cases h1 : x < nI 0
    · rw [if_pos h1] at h; exact absurd rfl h
    · rw [if_neg h1, if_pos] at h
      · exact absurd rfl h
      · rw [Int32.lt_iff_toInt_lt] at h1 ⊢
        rw [show (nI 0).toInt = 0 from rfl] at h1
        rw [show (nI 0 - nI 1).toInt = -1 from by decide]
        omega
  · have e : v - nI 1 = nI (tn v - 1) := by
      have h9 : nI (tn v) - nI 1 = nI (tn v - 1) := pk_sub (by omega)
      rw [← h9, ← h2]
    rw [e] at h
    have := tn_lt v
    obtain ⟨a1, -, a2⟩ := in_n (by omega) h
    exact ⟨a1, by omega⟩
theorem mayPot_lt {g : Nat → Int32} (hn2 : g 2 = nI (tn (g 2))) (hn16 : tn (g 2) ≤ 16) (h : r_X3_mayPot g = 0) : tn (g 2) < 16 := by
  unfold r_X3_mayPot at h
  by_cases h1 : g (2) = nI (16)
  · rw [if_pos h1] at h; exact absurd h (by decide)
  · have : tn (g 2) ≠ 16 := fun e => h1 (by rw [hn2, e])
    omega
def r_X3_pot (g : Nat → Int32) (a9 : Int32) (b9 : Int32) (d9 : Int32) : Int32 := (if (r_X3_in a9 (nI (0)) ((g (1)) - (nI (1)))) = 0 then (-1) else (if (r_X3_in b9 (nI (1)) (nI (9))) = 0 then (-2) else (if (r_X3_in d9 (nI (1)) (nI (9))) = 0 then (-2) else (if (r_X3_mayPot g) = 0 then (((o_X3_comes_g g a9 b9 d9) (2)) - (nI (1))) else (-5)))))
def o_X3_pot_g (g : Nat → Int32) (a9 : Int32) (b9 : Int32) (d9 : Int32) : Nat → Int32 := (if (r_X3_in a9 (nI (0)) ((g (1)) - (nI (1)))) = 0 then g else (if (r_X3_in b9 (nI (1)) (nI (9))) = 0 then g else (if (r_X3_in d9 (nI (1)) (nI (9))) = 0 then g else (if (r_X3_mayPot g) = 0 then (o_X3_comes_g g a9 b9 d9) else g))))
def o_X3_pot_hi (g : Nat → Int32) (hi : Nat → Int32) (ch : Int32) (a9 : Int32) (b9 : Int32) (d9 : Int32) : Nat → Int32 := (if (r_X3_in a9 (nI (0)) ((g (1)) - (nI (1)))) = 0 then hi else (if (r_X3_in b9 (nI (1)) (nI (9))) = 0 then hi else (if (r_X3_in d9 (nI (1)) (nI (9))) = 0 then hi else (if (r_X3_mayPot g) = 0 then (o_X3_remembers_hi g hi ch) else hi))))
def o_X3_pot_now (g : Nat → Int32) (now : Nat → Int32) (a9 : Int32) (b9 : Int32) (d9 : Int32) : Nat → Int32 := (if (r_X3_in a9 (nI (0)) ((g (1)) - (nI (1)))) = 0 then now else (if (r_X3_in b9 (nI (1)) (nI (9))) = 0 then now else (if (r_X3_in d9 (nI (1)) (nI (9))) = 0 then now else (if (r_X3_mayPot g) = 0 then (o_X3_mayPot_now g now) else (o_X3_mayPot_now g now)))))
def o_X3_pot_ch (g : Nat → Int32) (ch : Int32) (a9 : Int32) (b9 : Int32) (d9 : Int32) : Int32 := (if (r_X3_in a9 (nI (0)) ((g (1)) - (nI (1)))) = 0 then ch else (if (r_X3_in b9 (nI (1)) (nI (9))) = 0 then ch else (if (r_X3_in d9 (nI (1)) (nI (9))) = 0 then ch else (if (r_X3_mayPot g) = 0 then (o_X3_remembers_ch ch) else ch))))
def o_X3_pot_ns (g : Nat → Int32) (ns : Int32) (a9 : Int32) (b9 : Int32) (d9 : Int32) : Int32 := (if (r_X3_in a9 (nI (0)) ((g (1)) - (nI (1)))) = 0 then ns else (if (r_X3_in b9 (nI (1)) (nI (9))) = 0 then ns else (if (r_X3_in d9 (nI (1)) (nI (9))) = 0 then ns else (if (r_X3_mayPot g) = 0 then (o_X3_mayPot_ns g ns) else (o_X3_mayPot_ns g ns)))))
def o_X3_pot_why (g : Nat → Int32) (why : Nat → Int32) (now : Nat → Int32) (ns : Int32) (a9 : Int32) (b9 : Int32) (d9 : Int32) : Nat → Int32 := (if (r_X3_in a9 (nI (0)) ((g (1)) - (nI (1)))) = 0 then why else (if (r_X3_in b9 (nI (1)) (nI (9))) = 0 then why else (if (r_X3_in d9 (nI (1)) (nI (9))) = 0 then why else (if (r_X3_mayPot g) = 0 then why else (S_refused why (o_X3_mayPot_now g now) (2 * tn (o_X3_mayPot_ns g ns)))))))
def o_X3_pot_ws (g : Nat → Int32) (ws : Int32) (ns : Int32) (a9 : Int32) (b9 : Int32) (d9 : Int32) : Int32 := (if (r_X3_in a9 (nI (0)) ((g (1)) - (nI (1)))) = 0 then ws else (if (r_X3_in b9 (nI (1)) (nI (9))) = 0 then ws else (if (r_X3_in d9 (nI (1)) (nI (9))) = 0 then ws else (if (r_X3_mayPot g) = 0 then ws else (nI (tn (o_X3_mayPot_ns g ns)))))))
theorem hd_X3_pot : yX3_pot.cls = RX3 ∧ yX3_pot.cls ≠ "java/lang/invoke/MethodHandle" ∧ yX3_pot.cls ≠ "java/lang/invoke/VarHandle" ∧ (parseMethodDescriptor yX3_pot.desc).map (fun d => d.parameters.length) = some 3 := by decide +kernel
set_option maxHeartbeats 4000000 in
theorem t_X3_pot (l : Launch) (Ω : jO) {t : Nat} {G0 : Mem} {g hi sv as_ inp why now told bef : Nat → Int32} {ch hs fed fa ws ns ct st_ pl iw sn : Int32} {sz : Nat} (ht : Ω.2.2.2 ≤ t) (a9 : Int32) (b9 : Int32) (d9 : Int32) (hn2 : g 2 = nI (tn (g 2))) (hn16 : tn (g 2) ≤ 16) (hch : ch = nI (tn ch)) (hch8 : tn ch ≤ 8) (hns : NsOk ns) : Met l yX3_pot (ws_ yX3_pot cX3_pot 4 (some .int)) ({ frames := 3, cells := 0, slots := 0, locals := 57 }) (va_Pc [.ref t, .int (a9), .int (b9), .int (d9)] (jWd Ω (tov Ω t G0 g hi sv as_ inp why now told bef ch hs fed fa ws ns ct st_ pl iw sn) sz)) (jQ Ω (jD (some (.int (r_X3_pot g a9 b9 d9))) (tov Ω t G0 (o_X3_pot_g g a9 b9 d9) (o_X3_pot_hi g hi ch a9 b9 d9) sv as_ inp (o_X3_pot_why g why now ns a9 b9 d9) (o_X3_pot_now g now a9 b9 d9) told bef (o_X3_pot_ch g ch a9 b9 d9) hs fed fa (o_X3_pot_ws g ws ns a9 b9 d9) (o_X3_pot_ns g ns a9 b9 d9) ct st_ pl iw sn) sz)) 0 0 (jB Ω) := by
  refine jMet (by decide) (Nat.le_of_ble_eq_true rfl) ?_
  intro p e s m args below meth c cx hr hnm
  refine J_loc [some (.ref t), some (.int (a9)), some (.int (b9)), some (.int (d9))] rfl ?_
  refine J_iload_n cx dX3_pot_0 rfl ?_
  refine J_iconst (v := nI (0)) cx dX3_pot_1 (by decide) ?_
  refine J_aload_n cx dX3_pot_2 rfl ?_
  refine T_get_g cx dX3_pot_3 ?_
  refine J_iconst (v := nI (1)) cx dX3_pot_6 (by decide) ?_
  refine T_ld_g cx dX3_pot_7 (by omega) ?_
  refine J_iconst (v := nI (1)) cx dX3_pot_8 (by decide) ?_
  refine J_isub cx dX3_pot_9 ?_
  refine T_callSI cx [.int (a9), .int (nI (0)), .int ((g (1)) - (nI (1)))] (t_X3_in l Ω (a9) (nI (0)) ((g (1)) - (nI (1)))) dX3_pot_10 (lw_S q2686 q2687 q93 q2688) hd_X3_in.2 rfl rfl ⟨Nat.le_of_ble_eq_true rfl, Nat.le_of_ble_eq_true rfl⟩ rfl rfl (Nat.le_of_ble_eq_true rfl) ?_
  refine J_if_ne (tgt := 18) cx dX3_pot_13 (by decide) (fun c13 => ?_) (fun c13 => ?_)
  · refine J_iload_n cx dX3_pot_18 rfl ?_
    refine J_iconst (v := nI (1)) cx dX3_pot_19 (by decide) ?_
    refine J_bipush (v := nI (9)) cx dX3_pot_20 (by decide) ?_
    refine T_callSI cx [.int (b9), .int (nI (1)), .int (nI (9))] (t_X3_in l Ω (b9) (nI (1)) (nI (9))) dX3_pot_22 (lw_S q2686 q2687 q93 q2688) hd_X3_in.2 rfl rfl ⟨Nat.le_of_ble_eq_true rfl, Nat.le_of_ble_eq_true rfl⟩ rfl rfl (Nat.le_of_ble_eq_true rfl) ?_
    refine J_if_eq (tgt := 38) cx dX3_pot_25 (by decide) (fun c25 => ?_) (fun c25 => ?_)
    · refine J_bipush (v := -2) cx dX3_pot_38 (by decide) ?_
      exact J_iret cx dX3_pot_40 hr ⟨congrArg some (congrArg Value.int (by simp only [r_X3_pot, o_X3_pot_g, o_X3_pot_hi, o_X3_pot_now, o_X3_pot_ch, o_X3_pot_ns, o_X3_pot_why, o_X3_pot_ws, if_neg c13, if_pos c25])), (tov_cg (by simp only [r_X3_pot, o_X3_pot_g, o_X3_pot_hi, o_X3_pot_now, o_X3_pot_ch, o_X3_pot_ns, o_X3_pot_why, o_X3_pot_ws, if_neg c13, if_pos c25]) (by simp only [r_X3_pot, o_X3_pot_g, o_X3_pot_hi, o_X3_pot_now, o_X3_pot_ch, o_X3_pot_ns, o_X3_pot_why, o_X3_pot_ws, if_neg c13, if_pos c25]) rfl rfl rfl (by simp only [r_X3_pot, o_X3_pot_g, o_X3_pot_hi, o_X3_pot_now, o_X3_pot_ch, o_X3_pot_ns, o_X3_pot_why, o_X3_pot_ws, if_neg c13, if_pos c25]) (by simp only [r_X3_pot, o_X3_pot_g, o_X3_pot_hi, o_X3_pot_now, o_X3_pot_ch, o_X3_pot_ns, o_X3_pot_why, o_X3_pot_ws, if_neg c13, if_pos c25]) rfl rfl (by simp only [r_X3_pot, o_X3_pot_g, o_X3_pot_hi, o_X3_pot_now, o_X3_pot_ch, o_X3_pot_ns, o_X3_pot_why, o_X3_pot_ws, if_neg c13, if_pos c25]) rfl rfl rfl (by simp only [r_X3_pot, o_X3_pot_g, o_X3_pot_hi, o_X3_pot_now, o_X3_pot_ch, o_X3_pot_ns, o_X3_pot_why, o_X3_pot_ws, if_neg c13, if_pos c25]) (by simp only [r_X3_pot, o_X3_pot_g, o_X3_pot_hi, o_X3_pot_now, o_X3_pot_ch, o_X3_pot_ns, o_X3_pot_why, o_X3_pot_ws, if_neg c13, if_pos c25]) rfl rfl rfl rfl rfl), rfl⟩ (Nat.le_refl 0) (Nat.le_refl 0)
    · refine J_iload_n cx dX3_pot_28 rfl ?_
      refine J_iconst (v := nI (1)) cx dX3_pot_29 (by decide) ?_
      refine J_bipush (v := nI (9)) cx dX3_pot_30 (by decide) ?_
      refine T_callSI cx [.int (d9), .int (nI (1)), .int (nI (9))] (t_X3_in l Ω (d9) (nI (1)) (nI (9))) dX3_pot_32 (lw_S q2686 q2687 q93 q2688) hd_X3_in.2 rfl rfl ⟨Nat.le_of_ble_eq_true rfl, Nat.le_of_ble_eq_true rfl⟩ rfl rfl (Nat.le_of_ble_eq_true rfl) ?_
      refine J_if_ne (tgt := 41) cx dX3_pot_35 (by decide) (fun c35 => ?_) (fun c35 => ?_)
      · refine J_aload_n cx dX3_pot_41 rfl ?_
        refine T_callI cx [] (t_X3_mayPot l Ω ht) dX3_pot_42 (lw_V q2728 q2730 qs43 q93 q2731) hd_X3_mayPot rfl rfl ⟨Nat.le_of_ble_eq_true rfl, Nat.le_of_ble_eq_true rfl⟩ rfl rfl (Nat.le_of_ble_eq_true rfl) ?_
        refine J_if_eq (tgt := 53) cx dX3_pot_45 (by decide) (fun c45 => ?_) (fun c45 => ?_)
        · refine J_aload_n cx dX3_pot_53 rfl ?_
          refine T_callV cx [] (t_X3_remembers l Ω ht hch hch8) dX3_pot_54 (lw_V q2697 q2699 qs40 q93 q2700) hd_X3_remembers rfl rfl ⟨Nat.le_of_ble_eq_true rfl, Nat.le_of_ble_eq_true rfl⟩ rfl rfl (Nat.le_of_ble_eq_true rfl) ?_
          refine J_aload_n cx dX3_pot_57 rfl ?_
          refine J_iload_n cx dX3_pot_58 rfl ?_
          refine J_iload_n cx dX3_pot_59 rfl ?_
          refine J_iload_n cx dX3_pot_60 rfl ?_
          refine T_callV cx [.int (a9), .int (b9), .int (d9)] (t_X3_comes l Ω ht (a9) (b9) (d9) hn2 (mayPot_lt hn2 hn16 c45)) dX3_pot_61 (lw_V q2732 q2734 qs44 q93 q2735) hd_X3_comes rfl rfl ⟨Nat.le_of_ble_eq_true rfl, Nat.le_of_ble_eq_true rfl⟩ rfl rfl (Nat.le_of_ble_eq_true rfl) ?_
          refine J_aload_n cx dX3_pot_64 rfl ?_
          refine T_get_g cx dX3_pot_65 ?_
          refine J_iconst (v := nI (2)) cx dX3_pot_68 (by decide) ?_
          refine T_ld_g cx dX3_pot_69 (by omega) ?_
          refine J_iconst (v := nI (1)) cx dX3_pot_70 (by decide) ?_
          refine J_isub cx dX3_pot_71 ?_
          exact J_iret cx dX3_pot_72 hr ⟨congrArg some (congrArg Value.int (by simp only [r_X3_pot, o_X3_pot_g, o_X3_pot_hi, o_X3_pot_now, o_X3_pot_ch, o_X3_pot_ns, o_X3_pot_why, o_X3_pot_ws, if_neg c13, if_neg c25, if_neg c35, if_pos c45])), (tov_cg (by simp only [r_X3_pot, o_X3_pot_g, o_X3_pot_hi, o_X3_pot_now, o_X3_pot_ch, o_X3_pot_ns, o_X3_pot_why, o_X3_pot_ws, if_neg c13, if_neg c25, if_neg c35, if_pos c45]) (by simp only [r_X3_pot, o_X3_pot_g, o_X3_pot_hi, o_X3_pot_now, o_X3_pot_ch, o_X3_pot_ns, o_X3_pot_why, o_X3_pot_ws, if_neg c13, if_neg c25, if_neg c35, if_pos c45]) rfl rfl rfl (by simp only [r_X3_pot, o_X3_pot_g, o_X3_pot_hi, o_X3_pot_now, o_X3_pot_ch, o_X3_pot_ns, o_X3_pot_why, o_X3_pot_ws, if_neg c13, if_neg c25, if_neg c35, if_pos c45]) (by simp only [r_X3_pot, o_X3_pot_g, o_X3_pot_hi, o_X3_pot_now, o_X3_pot_ch, o_X3_pot_ns, o_X3_pot_why, o_X3_pot_ws, if_neg c13, if_neg c25, if_neg c35, if_pos c45]) rfl rfl (by simp only [r_X3_pot, o_X3_pot_g, o_X3_pot_hi, o_X3_pot_now, o_X3_pot_ch, o_X3_pot_ns, o_X3_pot_why, o_X3_pot_ws, if_neg c13, if_neg c25, if_neg c35, if_pos c45]) rfl rfl rfl (by simp only [r_X3_pot, o_X3_pot_g, o_X3_pot_hi, o_X3_pot_now, o_X3_pot_ch, o_X3_pot_ns, o_X3_pot_why, o_X3_pot_ws, if_neg c13, if_neg c25, if_neg c35, if_pos c45]) (by simp only [r_X3_pot, o_X3_pot_g, o_X3_pot_hi, o_X3_pot_now, o_X3_pot_ch, o_X3_pot_ns, o_X3_pot_why, o_X3_pot_ws, if_neg c13, if_neg c25, if_neg c35, if_pos c45]) rfl rfl rfl rfl rfl), rfl⟩ (Nat.le_refl 0) (Nat.le_refl 0)
        · refine J_aload_n cx dX3_pot_48 rfl ?_
          refine T_callI cx [] (t_X3_refused l Ω ht (nsk_mayPot _ hns).1 (nsk_mayPot _ hns).2) dX3_pot_49 (lw_V q2720 q2722 qs42 q93 q2723) hd_X3_refused rfl rfl ⟨Nat.le_of_ble_eq_true rfl, Nat.le_of_ble_eq_true rfl⟩ rfl rfl (Nat.le_of_ble_eq_true rfl) ?_
          exact J_iret cx dX3_pot_52 hr ⟨congrArg some (congrArg Value.int (by simp only [r_X3_pot, o_X3_pot_g, o_X3_pot_hi, o_X3_pot_now, o_X3_pot_ch, o_X3_pot_ns, o_X3_pot_why, o_X3_pot_ws, if_neg c13, if_neg c25, if_neg c35, if_neg c45])), (tov_cg (by simp only [r_X3_pot, o_X3_pot_g, o_X3_pot_hi, o_X3_pot_now, o_X3_pot_ch, o_X3_pot_ns, o_X3_pot_why, o_X3_pot_ws, if_neg c13, if_neg c25, if_neg c35, if_neg c45]) (by simp only [r_X3_pot, o_X3_pot_g, o_X3_pot_hi, o_X3_pot_now, o_X3_pot_ch, o_X3_pot_ns, o_X3_pot_why, o_X3_pot_ws, if_neg c13, if_neg c25, if_neg c35, if_neg c45]) rfl rfl rfl (by simp only [r_X3_pot, o_X3_pot_g, o_X3_pot_hi, o_X3_pot_now, o_X3_pot_ch, o_X3_pot_ns, o_X3_pot_why, o_X3_pot_ws, if_neg c13, if_neg c25, if_neg c35, if_neg c45]) (by simp only [r_X3_pot, o_X3_pot_g, o_X3_pot_hi, o_X3_pot_now, o_X3_pot_ch, o_X3_pot_ns, o_X3_pot_why, o_X3_pot_ws, if_neg c13, if_neg c25, if_neg c35, if_neg c45]) rfl rfl (by simp only [r_X3_pot, o_X3_pot_g, o_X3_pot_hi, o_X3_pot_now, o_X3_pot_ch, o_X3_pot_ns, o_X3_pot_why, o_X3_pot_ws, if_neg c13, if_neg c25, if_neg c35, if_neg c45]) rfl rfl rfl (by simp only [r_X3_pot, o_X3_pot_g, o_X3_pot_hi, o_X3_pot_now, o_X3_pot_ch, o_X3_pot_ns, o_X3_pot_why, o_X3_pot_ws, if_neg c13, if_neg c25, if_neg c35, if_neg c45]) (by simp only [r_X3_pot, o_X3_pot_g, o_X3_pot_hi, o_X3_pot_now, o_X3_pot_ch, o_X3_pot_ns, o_X3_pot_why, o_X3_pot_ws, if_neg c13, if_neg c25, if_neg c35, if_neg c45]) rfl rfl rfl rfl rfl), rfl⟩ (Nat.le_refl 0) (Nat.le_refl 0)
      · refine J_bipush (v := -2) cx dX3_pot_38 (by decide) ?_
        exact J_iret cx dX3_pot_40 hr ⟨congrArg some (congrArg Value.int (by simp only [r_X3_pot, o_X3_pot_g, o_X3_pot_hi, o_X3_pot_now, o_X3_pot_ch, o_X3_pot_ns, o_X3_pot_why, o_X3_pot_ws, if_neg c13, if_neg c25, if_pos c35])), (tov_cg (by simp only [r_X3_pot, o_X3_pot_g, o_X3_pot_hi, o_X3_pot_now, o_X3_pot_ch, o_X3_pot_ns, o_X3_pot_why, o_X3_pot_ws, if_neg c13, if_neg c25, if_pos c35]) (by simp only [r_X3_pot, o_X3_pot_g, o_X3_pot_hi, o_X3_pot_now, o_X3_pot_ch, o_X3_pot_ns, o_X3_pot_why, o_X3_pot_ws, if_neg c13, if_neg c25, if_pos c35]) rfl rfl rfl (by simp only [r_X3_pot, o_X3_pot_g, o_X3_pot_hi, o_X3_pot_now, o_X3_pot_ch, o_X3_pot_ns, o_X3_pot_why, o_X3_pot_ws, if_neg c13, if_neg c25, if_pos c35]) (by simp only [r_X3_pot, o_X3_pot_g, o_X3_pot_hi, o_X3_pot_now, o_X3_pot_ch, o_X3_pot_ns, o_X3_pot_why, o_X3_pot_ws, if_neg c13, if_neg c25, if_pos c35]) rfl rfl (by simp only [r_X3_pot, o_X3_pot_g, o_X3_pot_hi, o_X3_pot_now, o_X3_pot_ch, o_X3_pot_ns, o_X3_pot_why, o_X3_pot_ws, if_neg c13, if_neg c25, if_pos c35]) rfl rfl rfl (by simp only [r_X3_pot, o_X3_pot_g, o_X3_pot_hi, o_X3_pot_now, o_X3_pot_ch, o_X3_pot_ns, o_X3_pot_why, o_X3_pot_ws, if_neg c13, if_neg c25, if_pos c35]) (by simp only [r_X3_pot, o_X3_pot_g, o_X3_pot_hi, o_X3_pot_now, o_X3_pot_ch, o_X3_pot_ns, o_X3_pot_why, o_X3_pot_ws, if_neg c13, if_neg c25, if_pos c35]) rfl rfl rfl rfl rfl), rfl⟩ (Nat.le_refl 0) (Nat.le_refl 0)
  · refine J_iconst (v := -1) cx dX3_pot_16 (by decide) ?_
    exact J_iret cx dX3_pot_17 hr ⟨congrArg some (congrArg Value.int (by simp only [r_X3_pot, o_X3_pot_g, o_X3_pot_hi, o_X3_pot_now, o_X3_pot_ch, o_X3_pot_ns, o_X3_pot_why, o_X3_pot_ws, if_pos c13])), (tov_cg (by simp only [r_X3_pot, o_X3_pot_g, o_X3_pot_hi, o_X3_pot_now, o_X3_pot_ch, o_X3_pot_ns, o_X3_pot_why, o_X3_pot_ws, if_pos c13]) (by simp only [r_X3_pot, o_X3_pot_g, o_X3_pot_hi, o_X3_pot_now, o_X3_pot_ch, o_X3_pot_ns, o_X3_pot_why, o_X3_pot_ws, if_pos c13]) rfl rfl rfl (by simp only [r_X3_pot, o_X3_pot_g, o_X3_pot_hi, o_X3_pot_now, o_X3_pot_ch, o_X3_pot_ns, o_X3_pot_why, o_X3_pot_ws, if_pos c13]) (by simp only [r_X3_pot, o_X3_pot_g, o_X3_pot_hi, o_X3_pot_now, o_X3_pot_ch, o_X3_pot_ns, o_X3_pot_why, o_X3_pot_ws, if_pos c13]) rfl rfl (by simp only [r_X3_pot, o_X3_pot_g, o_X3_pot_hi, o_X3_pot_now, o_X3_pot_ch, o_X3_pot_ns, o_X3_pot_why, o_X3_pot_ws, if_pos c13]) rfl rfl rfl (by simp only [r_X3_pot, o_X3_pot_g, o_X3_pot_hi, o_X3_pot_now, o_X3_pot_ch, o_X3_pot_ns, o_X3_pot_why, o_X3_pot_ws, if_pos c13]) (by simp only [r_X3_pot, o_X3_pot_g, o_X3_pot_hi, o_X3_pot_now, o_X3_pot_ch, o_X3_pot_ns, o_X3_pot_why, o_X3_pot_ws, if_pos c13]) rfl rfl rfl rfl rfl), rfl⟩ (Nat.le_refl 0) (Nat.le_refl 0)
def r_X3_isWhole (g : Nat → Int32) (p9 : Nat) : Int32 := (if (g ((50 + (13 * p9)) + 12)) = (nI (1)) then (if (g ((50 + (13 * p9)) + 4)) = 0 then (if (g ((50 + (13 * p9)) + 0)) = (nI (7)) then (nI (0)) else (nI (1))) else (nI (0))) else (nI (0)))
theorem z_X3_isWhole (g : Nat → Int32) (p9 : Nat) : narrow .boolean (.int (r_X3_isWhole g p9)) = .int (r_X3_isWhole g p9) := by unfold r_X3_isWhole; (repeat' split) <;> first | rfl
theorem hd_X3_isWhole : yX3_isWhole.cls = RX3 ∧ yX3_isWhole.cls ≠ "java/lang/invoke/MethodHandle" ∧ yX3_isWhole.cls ≠ "java/lang/invoke/VarHandle" ∧ (parseMethodDescriptor yX3_isWhole.desc).map (fun d => d.parameters.length) = some 1 := by decide +kernel
set_option maxHeartbeats 4000000 in
theorem t_X3_isWhole (l : Launch) (Ω : jO) {t : Nat} {G0 : Mem} {g hi sv as_ inp why now told bef : Nat → Int32} {ch hs fed fa ws ns ct st_ pl iw sn : Int32} {sz : Nat} (ht : Ω.2.2.2 ≤ t) (p9 : Nat) (hp : p9 < 16) : Met l yX3_isWhole (ws_ yX3_isWhole cX3_isWhole 2 (some .boolean)) ({ frames := 2, cells := 0, slots := 0, locals := 32 }) (va_Pc [.ref t, .int (nI (p9))] (jWd Ω (tov Ω t G0 g hi sv as_ inp why now told bef ch hs fed fa ws ns ct st_ pl iw sn) sz)) (jQ Ω (jD (some (.int (r_X3_isWhole g p9))) (tov Ω t G0 g hi sv as_ inp why now told bef ch hs fed fa ws ns ct st_ pl iw sn) sz)) 0 0 (jB Ω) := by
  refine jMet (by decide) (Nat.le_of_ble_eq_true rfl) ?_
  intro p e s m args below meth c cx hr hnm
  refine J_loc [some (.ref t), some (.int (nI (p9)))] rfl ?_
  refine J_aload_n cx dX3_isWhole_0 rfl ?_
  refine T_get_g cx dX3_isWhole_1 ?_
  refine J_iload_n cx dX3_isWhole_4 rfl ?_
  refine T_callSI cx [.int (nI (p9))] (t_X3_at l Ω (p9)) dX3_isWhole_5 (lw_S q2736 q2737 q93 q2738) hd_X3_at.2 rfl rfl ⟨Nat.le_of_ble_eq_true rfl, Nat.le_of_ble_eq_true rfl⟩ rfl rfl (Nat.le_of_ble_eq_true rfl) ?_
  refine J_bipush (v := nI (12)) cx dX3_isWhole_8 (by decide) ?_
  refine J_iaddN cx dX3_isWhole_10 ?_
  refine T_ld_g cx dX3_isWhole_11 (by omega) ?_
  refine J_iconst (v := nI (1)) cx dX3_isWhole_12 (by decide) ?_
  refine J_icmp_ne (tgt := 50) cx dX3_isWhole_13 (by decide) (fun c13 => ?_) (fun c13 => ?_)
  · refine J_iconst (v := nI (0)) cx dX3_isWhole_50 (by decide) ?_
    exact J_zret cx dX3_isWhole_51 hr (by first | rfl | exact z_X3_isWhole ..) ⟨congrArg some (congrArg Value.int (by simp only [r_X3_isWhole, if_neg c13])), rfl, rfl⟩ (Nat.le_refl 0) (Nat.le_refl 0)
  · refine J_aload_n cx dX3_isWhole_16 rfl ?_
    refine T_get_g cx dX3_isWhole_17 ?_
    refine J_iload_n cx dX3_isWhole_20 rfl ?_
    refine T_callSI cx [.int (nI (p9))] (t_X3_at l Ω (p9)) dX3_isWhole_21 (lw_S q2736 q2737 q93 q2738) hd_X3_at.2 rfl rfl ⟨Nat.le_of_ble_eq_true rfl, Nat.le_of_ble_eq_true rfl⟩ rfl rfl (Nat.le_of_ble_eq_true rfl) ?_
    refine J_iconst (v := nI (4)) cx dX3_isWhole_24 (by decide) ?_
    refine J_iaddN cx dX3_isWhole_25 ?_
    refine T_ld_g cx dX3_isWhole_26 (by omega) ?_
    refine J_if_ne (tgt := 50) cx dX3_isWhole_27 (by decide) (fun c27 => ?_) (fun c27 => ?_)
    · refine J_iconst (v := nI (0)) cx dX3_isWhole_50 (by decide) ?_
      exact J_zret cx dX3_isWhole_51 hr (by first | rfl | exact z_X3_isWhole ..) ⟨congrArg some (congrArg Value.int (by simp only [r_X3_isWhole, if_pos c13, if_neg c27])), rfl, rfl⟩ (Nat.le_refl 0) (Nat.le_refl 0)
    · refine J_aload_n cx dX3_isWhole_30 rfl ?_
      refine T_get_g cx dX3_isWhole_31 ?_
      refine J_iload_n cx dX3_isWhole_34 rfl ?_
      refine T_callSI cx [.int (nI (p9))] (t_X3_at l Ω (p9)) dX3_isWhole_35 (lw_S q2736 q2737 q93 q2738) hd_X3_at.2 rfl rfl ⟨Nat.le_of_ble_eq_true rfl, Nat.le_of_ble_eq_true rfl⟩ rfl rfl (Nat.le_of_ble_eq_true rfl) ?_
      refine J_iconst (v := nI (0)) cx dX3_isWhole_38 (by decide) ?_
      refine J_iaddN cx dX3_isWhole_39 ?_
      refine T_ld_g cx dX3_isWhole_40 (by omega) ?_
      refine J_bipush (v := nI (7)) cx dX3_isWhole_41 (by decide) ?_
      refine J_icmp_eq (tgt := 50) cx dX3_isWhole_43 (by decide) (fun c43 => ?_) (fun c43 => ?_)
      · refine J_iconst (v := nI (0)) cx dX3_isWhole_50 (by decide) ?_
        exact J_zret cx dX3_isWhole_51 hr (by first | rfl | exact z_X3_isWhole ..) ⟨congrArg some (congrArg Value.int (by simp only [r_X3_isWhole, if_pos c13, if_pos c27, if_pos c43])), rfl, rfl⟩ (Nat.le_refl 0) (Nat.le_refl 0)
      · refine J_iconst (v := nI (1)) cx dX3_isWhole_46 (by decide) ?_
        refine J_goto (tgt := 51) cx dX3_isWhole_47 (by decide) ?_
        exact J_zret cx dX3_isWhole_51 hr (by first | rfl | exact z_X3_isWhole ..) ⟨congrArg some (congrArg Value.int (by simp only [r_X3_isWhole, if_pos c13, if_pos c27, if_neg c43])), rfl, rfl⟩ (Nat.le_refl 0) (Nat.le_refl 0)
def r_X3_of (g : Nat → Int32) (p9 : Int32) (w9 : Int32) : Int32 := (if ((r_X3_in p9 (nI (0)) ((g (2)) - (nI (1))))) = 0 then (-1) else (if (r_X3_in w9 (nI (0)) (nI (11))) = 0 then (-2) else (if (nI (11)) ≤ w9 then (if (r_X3_isWhole g (tn p9)) = 0 then (nI (0)) else (nI (1))) else (g ((50 + (13 * (tn p9))) + (tn w9))))))
theorem hd_X3_of : yX3_of.cls = RX3 ∧ yX3_of.cls ≠ "java/lang/invoke/MethodHandle" ∧ yX3_of.cls ≠ "java/lang/invoke/VarHandle" ∧ (parseMethodDescriptor yX3_of.desc).map (fun d => d.parameters.length) = some 2 := by decide +kernel
set_option maxHeartbeats 4000000 in
theorem t_X3_of (l : Launch) (Ω : jO) {t : Nat} {G0 : Mem} {g hi sv as_ inp why now told bef : Nat → Int32} {ch hs fed fa ws ns ct st_ pl iw sn : Int32} {sz : Nat} (ht : Ω.2.2.2 ≤ t) (p9 : Int32) (w9 : Int32) (hn2 : g 2 = nI (tn (g 2))) (hn16 : tn (g 2) ≤ 16) : Met l yX3_of (ws_ yX3_of cX3_of 3 (some .int)) ({ frames := 3, cells := 0, slots := 0, locals := 55 }) (va_Pc [.ref t, .int (p9), .int (w9)] (jWd Ω (tov Ω t G0 g hi sv as_ inp why now told bef ch hs fed fa ws ns ct st_ pl iw sn) sz)) (jQ Ω (jD (some (.int (r_X3_of g p9 w9))) (tov Ω t G0 g hi sv as_ inp why now told bef ch hs fed fa ws ns ct st_ pl iw sn) sz)) 0 0 (jB Ω) := by
  refine jMet (by decide) (Nat.le_of_ble_eq_true rfl) ?_
  intro p e s m args below meth c cx hr hnm
  refine J_loc [some (.ref t), some (.int (p9)), some (.int (w9))] rfl ?_
  refine J_aload_n cx dX3_of_0 rfl ?_
  refine J_iload_n cx dX3_of_1 rfl ?_
  refine T_callI cx [.int (p9)] (t_X3_isPot l Ω ht (p9)) dX3_of_2 (lw_V q2743 q2745 qs45 q93 q2746) hd_X3_isPot rfl rfl ⟨Nat.le_of_ble_eq_true rfl, Nat.le_of_ble_eq_true rfl⟩ rfl rfl (Nat.le_of_ble_eq_true rfl) ?_
  refine J_if_ne (tgt := 10) cx dX3_of_5 (by decide) (fun c5 => ?_) (fun c5 => ?_)
  · refine J_iload_n cx dX3_of_10 rfl ?_
    refine J_iconst (v := nI (0)) cx dX3_of_11 (by decide) ?_
    refine J_bipush (v := nI (11)) cx dX3_of_12 (by decide) ?_
    refine T_callSI cx [.int (w9), .int (nI (0)), .int (nI (11))] (t_X3_in l Ω (w9) (nI (0)) (nI (11))) dX3_of_14 (lw_S q2686 q2687 q93 q2688) hd_X3_in.2 rfl rfl ⟨Nat.le_of_ble_eq_true rfl, Nat.le_of_ble_eq_true rfl⟩ rfl rfl (Nat.le_of_ble_eq_true rfl) ?_
    refine J_if_ne (tgt := 23) cx dX3_of_17 (by decide) (fun c17 => ?_) (fun c17 => ?_)
    · refine J_iload_n cx dX3_of_23 rfl ?_
      refine J_bipush (v := nI (11)) cx dX3_of_24 (by decide) ?_
      refine J_icmp_ge (tgt := 43) cx dX3_of_26 (by decide) (fun c26 => ?_) (fun c26 => ?_)
      · have hx43_1 := (in_m1 hn2 c5).2
        have hre43_1 : p9 = nI (tn p9) := (in_m1 hn2 c5).1
        refine J_loc [some (.ref t), some (.int (nI (tn p9))), some (.int (w9))] (by simp only [← hre43_1]) ?_
        refine J_aload_n cx dX3_of_43 rfl ?_
        refine J_iload_n cx dX3_of_44 rfl ?_
        refine T_callI cx [.int (nI (tn p9))] (t_X3_isWhole l Ω ht (tn p9) (by omega)) dX3_of_45 (lw_V q2747 q2749 qs46 q93 q2750) hd_X3_isWhole rfl rfl ⟨Nat.le_of_ble_eq_true rfl, Nat.le_of_ble_eq_true rfl⟩ rfl rfl (Nat.le_of_ble_eq_true rfl) ?_
        refine J_if_eq (tgt := 55) cx dX3_of_48 (by decide) (fun c48 => ?_) (fun c48 => ?_)
        · refine J_iconst (v := nI (0)) cx dX3_of_55 (by decide) ?_
          exact J_iret cx dX3_of_56 hr ⟨congrArg some (congrArg Value.int (by simp only [r_X3_of, if_neg c5, if_neg c17, if_pos c26, if_pos c48])), rfl, rfl⟩ (Nat.le_refl 0) (Nat.le_refl 0)
        · refine J_iconst (v := nI (1)) cx dX3_of_51 (by decide) ?_
          refine J_goto (tgt := 56) cx dX3_of_52 (by decide) ?_
          exact J_iret cx dX3_of_56 hr ⟨congrArg some (congrArg Value.int (by simp only [r_X3_of, if_neg c5, if_neg c17, if_pos c26, if_neg c48])), rfl, rfl⟩ (Nat.le_refl 0) (Nat.le_refl 0)
      · have hx29_1 := (in_m1 hn2 c5).2
        have hre29_1 : p9 = nI (tn p9) := (in_m1 hn2 c5).1
        refine J_loc [some (.ref t), some (.int (nI (tn p9))), some (.int (w9))] (by simp only [← hre29_1]) ?_
        have hx29_2 := (in_n (by decide) c17).2
        have hre29_2 : w9 = nI (tn w9) := (in_n (by decide) c17).1
        refine J_loc [some (.ref t), some (.int (nI (tn p9))), some (.int (nI (tn w9)))] (by simp only [← hre29_2]) ?_
        refine J_aload_n cx dX3_of_29 rfl ?_
        refine T_get_g cx dX3_of_30 ?_
        refine J_iload_n cx dX3_of_33 rfl ?_
        refine T_callSI cx [.int (nI (tn p9))] (t_X3_at l Ω (tn p9)) dX3_of_34 (lw_S q2736 q2737 q93 q2738) hd_X3_at.2 rfl rfl ⟨Nat.le_of_ble_eq_true rfl, Nat.le_of_ble_eq_true rfl⟩ rfl rfl (Nat.le_of_ble_eq_true rfl) ?_
        refine J_iload_n cx dX3_of_37 rfl ?_
        refine J_iaddN cx dX3_of_38 ?_
        refine T_ld_g cx dX3_of_39 (by omega) ?_
        refine J_goto (tgt := 56) cx dX3_of_40 (by decide) ?_
        exact J_iret cx dX3_of_56 hr ⟨congrArg some (congrArg Value.int (by simp only [r_X3_of, if_neg c5, if_neg c17, if_neg c26])), rfl, rfl⟩ (Nat.le_refl 0) (Nat.le_refl 0)
    · refine J_bipush (v := -2) cx dX3_of_20 (by decide) ?_
      exact J_iret cx dX3_of_22 hr ⟨congrArg some (congrArg Value.int (by simp only [r_X3_of, if_neg c5, if_pos c17])), rfl, rfl⟩ (Nat.le_refl 0) (Nat.le_refl 0)
  · refine J_iconst (v := -1) cx dX3_of_8 (by decide) ?_
    exact J_iret cx dX3_of_9 hr ⟨congrArg some (congrArg Value.int (by simp only [r_X3_of, if_pos c5])), rfl, rfl⟩ (Nat.le_refl 0) (Nat.le_refl 0)
def r_X3_cover (g : Nat → Int32) (p9 : Int32) (b9 : Int32) : Int32 := (if ((r_X3_in p9 (nI (0)) ((g (2)) - (nI (1))))) = 0 then (-1) else (if (r_X3_mayBeIn g (tn p9) (nI (2))) = 0 then (if b9 = 0 then (g ((50 + (13 * (tn p9))) + 5)) else (g ((50 + (13 * (tn p9))) + 5))) else (-5)))
def o_X3_cover_g (g : Nat → Int32) (p9 : Int32) (b9 : Int32) : Nat → Int32 := (if ((r_X3_in p9 (nI (0)) ((g (2)) - (nI (1))))) = 0 then g else (if (r_X3_mayBeIn g (tn p9) (nI (2))) = 0 then (if b9 = 0 then (upd g ((50 + (13 * (tn p9))) + 5) (nI (0))) else (upd g ((50 + (13 * (tn p9))) + 5) (nI (1)))) else g))
def o_X3_cover_hi (g : Nat → Int32) (hi : Nat → Int32) (ch : Int32) (p9 : Int32) (b9 : Int32) : Nat → Int32 := (if ((r_X3_in p9 (nI (0)) ((g (2)) - (nI (1))))) = 0 then hi else (if (r_X3_mayBeIn g (tn p9) (nI (2))) = 0 then (if b9 = 0 then (o_X3_remembers_hi g hi ch) else (o_X3_remembers_hi g hi ch)) else hi))
def o_X3_cover_now (g : Nat → Int32) (now : Nat → Int32) (p9 : Int32) (b9 : Int32) : Nat → Int32 := (if ((r_X3_in p9 (nI (0)) ((g (2)) - (nI (1))))) = 0 then now else (if (r_X3_mayBeIn g (tn p9) (nI (2))) = 0 then (if b9 = 0 then (o_X3_mayBeIn_now g now (tn p9) (nI (2))) else (o_X3_mayBeIn_now g now (tn p9) (nI (2)))) else (o_X3_mayBeIn_now g now (tn p9) (nI (2)))))
def o_X3_cover_ch (g : Nat → Int32) (ch : Int32) (p9 : Int32) (b9 : Int32) : Int32 := (if ((r_X3_in p9 (nI (0)) ((g (2)) - (nI (1))))) = 0 then ch else (if (r_X3_mayBeIn g (tn p9) (nI (2))) = 0 then (if b9 = 0 then (o_X3_remembers_ch ch) else (o_X3_remembers_ch ch)) else ch))
def o_X3_cover_ns (g : Nat → Int32) (ns : Int32) (p9 : Int32) (b9 : Int32) : Int32 := (if ((r_X3_in p9 (nI (0)) ((g (2)) - (nI (1))))) = 0 then ns else (if (r_X3_mayBeIn g (tn p9) (nI (2))) = 0 then (if b9 = 0 then (o_X3_mayBeIn_ns g ns (tn p9) (nI (2))) else (o_X3_mayBeIn_ns g ns (tn p9) (nI (2)))) else (o_X3_mayBeIn_ns g ns (tn p9) (nI (2)))))
def o_X3_cover_why (g : Nat → Int32) (why : Nat → Int32) (now : Nat → Int32) (ns : Int32) (p9 : Int32) (b9 : Int32) : Nat → Int32 := (if ((r_X3_in p9 (nI (0)) ((g (2)) - (nI (1))))) = 0 then why else (if (r_X3_mayBeIn g (tn p9) (nI (2))) = 0 then (if b9 = 0 then why else why) else (S_refused why (o_X3_mayBeIn_now g now (tn p9) (nI (2))) (2 * tn (o_X3_mayBeIn_ns g ns (tn p9) (nI (2)))))))
def o_X3_cover_ws (g : Nat → Int32) (ws : Int32) (ns : Int32) (p9 : Int32) (b9 : Int32) : Int32 := (if ((r_X3_in p9 (nI (0)) ((g (2)) - (nI (1))))) = 0 then ws else (if (r_X3_mayBeIn g (tn p9) (nI (2))) = 0 then (if b9 = 0 then ws else ws) else (nI (tn (o_X3_mayBeIn_ns g ns (tn p9) (nI (2)))))))
theorem hd_X3_cover : yX3_cover.cls = RX3 ∧ yX3_cover.cls ≠ "java/lang/invoke/MethodHandle" ∧ yX3_cover.cls ≠ "java/lang/invoke/VarHandle" ∧ (parseMethodDescriptor yX3_cover.desc).map (fun d => d.parameters.length) = some 2 := by decide +kernel
set_option maxHeartbeats 4000000 in
theorem t_X3_cover (l : Launch) (Ω : jO) {t : Nat} {G0 : Mem} {g hi sv as_ inp why now told bef : Nat → Int32} {ch hs fed fa ws ns ct st_ pl iw sn : Int32} {sz : Nat} (ht : Ω.2.2.2 ≤ t) (p9 : Int32) (b9 : Int32) (hn2 : g 2 = nI (tn (g 2))) (hn16 : tn (g 2) ≤ 16) (hch : ch = nI (tn ch)) (hch8 : tn ch ≤ 8) (hns : NsOk ns) : Met l yX3_cover (ws_ yX3_cover cX3_cover 4 (some .int)) ({ frames := 3, cells := 0, slots := 0, locals := 57 }) (va_Pc [.ref t, .int (p9), .int (b9)] (jWd Ω (tov Ω t G0 g hi sv as_ inp why now told bef ch hs fed fa ws ns ct st_ pl iw sn) sz)) (jQ Ω (jD (some (.int (r_X3_cover g p9 b9))) (tov Ω t G0 (o_X3_cover_g g p9 b9) (o_X3_cover_hi g hi ch p9 b9) sv as_ inp (o_X3_cover_why g why now ns p9 b9) (o_X3_cover_now g now p9 b9) told bef (o_X3_cover_ch g ch p9 b9) hs fed fa (o_X3_cover_ws g ws ns p9 b9) (o_X3_cover_ns g ns p9 b9) ct st_ pl iw sn) sz)) 0 0 (jB Ω) := by
  refine jMet (by decide) (Nat.le_of_ble_eq_true rfl) ?_
  intro p e s m args below meth c cx hr hnm
  refine J_loc [some (.ref t), some (.int (p9)), some (.int (b9)), none] rfl ?_
  refine J_aload_n cx dX3_cover_0 rfl ?_
  refine J_iload_n cx dX3_cover_1 rfl ?_
  refine T_callI cx [.int (p9)] (t_X3_isPot l Ω ht (p9)) dX3_cover_2 (lw_V q2743 q2745 qs45 q93 q2746) hd_X3_isPot rfl rfl ⟨Nat.le_of_ble_eq_true rfl, Nat.le_of_ble_eq_true rfl⟩ rfl rfl (Nat.le_of_ble_eq_true rfl) ?_
  refine J_if_ne (tgt := 10) cx dX3_cover_5 (by decide) (fun c5 => ?_) (fun c5 => ?_)
  · have hx10_1 := (in_m1 hn2 c5).2
    have hre10_1 : p9 = nI (tn p9) := (in_m1 hn2 c5).1
    refine J_loc [some (.ref t), some (.int (nI (tn p9))), some (.int (b9)), none] (by simp only [← hre10_1]) ?_
    refine J_aload_n cx dX3_cover_10 rfl ?_
    refine J_iload_n cx dX3_cover_11 rfl ?_
    refine J_iconst (v := nI (2)) cx dX3_cover_12 (by decide) ?_
    refine T_callI cx [.int (nI (tn p9)), .int (nI (2))] (t_X3_mayBeIn l Ω ht (tn p9) (nI (2)) (by omega)) dX3_cover_13 (lw_V q2775 q2777 qs48 q93 q2778) hd_X3_mayBeIn rfl rfl ⟨Nat.le_of_ble_eq_true rfl, Nat.le_of_ble_eq_true rfl⟩ rfl rfl (Nat.le_of_ble_eq_true rfl) ?_
    refine J_if_eq (tgt := 24) cx dX3_cover_16 (by decide) (fun c16 => ?_) (fun c16 => ?_)
    · refine J_aload_n cx dX3_cover_24 rfl ?_
      refine T_callV cx [] (t_X3_remembers l Ω ht hch hch8) dX3_cover_25 (lw_V q2697 q2699 qs40 q93 q2700) hd_X3_remembers rfl rfl ⟨Nat.le_of_ble_eq_true rfl, Nat.le_of_ble_eq_true rfl⟩ rfl rfl (Nat.le_of_ble_eq_true rfl) ?_
      refine J_aload_n cx dX3_cover_28 rfl ?_
      refine T_get_g cx dX3_cover_29 ?_
      refine J_iload_n cx dX3_cover_32 rfl ?_
      refine T_callSI cx [.int (nI (tn p9))] (t_X3_at l Ω (tn p9)) dX3_cover_33 (lw_S q2736 q2737 q93 q2738) hd_X3_at.2 rfl rfl ⟨Nat.le_of_ble_eq_true rfl, Nat.le_of_ble_eq_true rfl⟩ rfl rfl (Nat.le_of_ble_eq_true rfl) ?_
      refine J_iconst (v := nI (5)) cx dX3_cover_36 (by decide) ?_
      refine J_iaddN cx dX3_cover_37 ?_
      refine T_ld_g cx dX3_cover_38 (by omega) ?_
      refine J_istore_n3 cx dX3_cover_39 (by decide) rfl ?_
      refine J_aload_n cx dX3_cover_40 rfl ?_
      refine T_get_g cx dX3_cover_41 ?_
      refine J_iload_n cx dX3_cover_44 rfl ?_
      refine T_callSI cx [.int (nI (tn p9))] (t_X3_at l Ω (tn p9)) dX3_cover_45 (lw_S q2736 q2737 q93 q2738) hd_X3_at.2 rfl rfl ⟨Nat.le_of_ble_eq_true rfl, Nat.le_of_ble_eq_true rfl⟩ rfl rfl (Nat.le_of_ble_eq_true rfl) ?_
      refine J_iconst (v := nI (5)) cx dX3_cover_48 (by decide) ?_
      refine J_iaddN cx dX3_cover_49 ?_
      refine J_iload_n cx dX3_cover_50 rfl ?_
      refine J_if_eq (tgt := 58) cx dX3_cover_51 (by decide) (fun c51 => ?_) (fun c51 => ?_)
      · refine J_iconst (v := nI (0)) cx dX3_cover_58 (by decide) ?_
        refine T_st_g cx ht dX3_cover_59 (by omega) ?_
        refine J_iload_n cx dX3_cover_60 rfl ?_
        exact J_iret cx dX3_cover_61 hr ⟨congrArg some (congrArg Value.int (by simp only [r_X3_cover, o_X3_cover_g, o_X3_cover_hi, o_X3_cover_now, o_X3_cover_ch, o_X3_cover_ns, o_X3_cover_why, o_X3_cover_ws, if_neg c5, if_pos c16, if_pos c51])), (tov_cg (by simp only [r_X3_cover, o_X3_cover_g, o_X3_cover_hi, o_X3_cover_now, o_X3_cover_ch, o_X3_cover_ns, o_X3_cover_why, o_X3_cover_ws, if_neg c5, if_pos c16, if_pos c51]) (by simp only [r_X3_cover, o_X3_cover_g, o_X3_cover_hi, o_X3_cover_now, o_X3_cover_ch, o_X3_cover_ns, o_X3_cover_why, o_X3_cover_ws, if_neg c5, if_pos c16, if_pos c51]) rfl rfl rfl (by simp only [r_X3_cover, o_X3_cover_g, o_X3_cover_hi, o_X3_cover_now, o_X3_cover_ch, o_X3_cover_ns, o_X3_cover_why, o_X3_cover_ws, if_neg c5, if_pos c16, if_pos c51]) (by simp only [r_X3_cover, o_X3_cover_g, o_X3_cover_hi, o_X3_cover_now, o_X3_cover_ch, o_X3_cover_ns, o_X3_cover_why, o_X3_cover_ws, if_neg c5, if_pos c16, if_pos c51]) rfl rfl (by simp only [r_X3_cover, o_X3_cover_g, o_X3_cover_hi, o_X3_cover_now, o_X3_cover_ch, o_X3_cover_ns, o_X3_cover_why, o_X3_cover_ws, if_neg c5, if_pos c16, if_pos c51]) rfl rfl rfl (by simp only [r_X3_cover, o_X3_cover_g, o_X3_cover_hi, o_X3_cover_now, o_X3_cover_ch, o_X3_cover_ns, o_X3_cover_why, o_X3_cover_ws, if_neg c5, if_pos c16, if_pos c51]) (by simp only [r_X3_cover, o_X3_cover_g, o_X3_cover_hi, o_X3_cover_now, o_X3_cover_ch, o_X3_cover_ns, o_X3_cover_why, o_X3_cover_ws, if_neg c5, if_pos c16, if_pos c51]) rfl rfl rfl rfl rfl), rfl⟩ (Nat.le_refl 0) (Nat.le_refl 0)
      · refine J_iconst (v := nI (1)) cx dX3_cover_54 (by decide) ?_
        refine J_goto (tgt := 59) cx dX3_cover_55 (by decide) ?_
        refine T_st_g cx ht dX3_cover_59 (by omega) ?_
        refine J_iload_n cx dX3_cover_60 rfl ?_
        exact J_iret cx dX3_cover_61 hr ⟨congrArg some (congrArg Value.int (by simp only [r_X3_cover, o_X3_cover_g, o_X3_cover_hi, o_X3_cover_now, o_X3_cover_ch, o_X3_cover_ns, o_X3_cover_why, o_X3_cover_ws, if_neg c5, if_pos c16, if_neg c51])), (tov_cg (by simp only [r_X3_cover, o_X3_cover_g, o_X3_cover_hi, o_X3_cover_now, o_X3_cover_ch, o_X3_cover_ns, o_X3_cover_why, o_X3_cover_ws, if_neg c5, if_pos c16, if_neg c51]) (by simp only [r_X3_cover, o_X3_cover_g, o_X3_cover_hi, o_X3_cover_now, o_X3_cover_ch, o_X3_cover_ns, o_X3_cover_why, o_X3_cover_ws, if_neg c5, if_pos c16, if_neg c51]) rfl rfl rfl (by simp only [r_X3_cover, o_X3_cover_g, o_X3_cover_hi, o_X3_cover_now, o_X3_cover_ch, o_X3_cover_ns, o_X3_cover_why, o_X3_cover_ws, if_neg c5, if_pos c16, if_neg c51]) (by simp only [r_X3_cover, o_X3_cover_g, o_X3_cover_hi, o_X3_cover_now, o_X3_cover_ch, o_X3_cover_ns, o_X3_cover_why, o_X3_cover_ws, if_neg c5, if_pos c16, if_neg c51]) rfl rfl (by simp only [r_X3_cover, o_X3_cover_g, o_X3_cover_hi, o_X3_cover_now, o_X3_cover_ch, o_X3_cover_ns, o_X3_cover_why, o_X3_cover_ws, if_neg c5, if_pos c16, if_neg c51]) rfl rfl rfl (by simp only [r_X3_cover, o_X3_cover_g, o_X3_cover_hi, o_X3_cover_now, o_X3_cover_ch, o_X3_cover_ns, o_X3_cover_why, o_X3_cover_ws, if_neg c5, if_pos c16, if_neg c51]) (by simp only [r_X3_cover, o_X3_cover_g, o_X3_cover_hi, o_X3_cover_now, o_X3_cover_ch, o_X3_cover_ns, o_X3_cover_why, o_X3_cover_ws, if_neg c5, if_pos c16, if_neg c51]) rfl rfl rfl rfl rfl), rfl⟩ (Nat.le_refl 0) (Nat.le_refl 0)
    · refine J_aload_n cx dX3_cover_19 rfl ?_
      refine T_callI cx [] (t_X3_refused l Ω ht (nsk_mayBeIn _ _ _ hns).1 (nsk_mayBeIn _ _ _ hns).2) dX3_cover_20 (lw_V q2720 q2722 qs42 q93 q2723) hd_X3_refused rfl rfl ⟨Nat.le_of_ble_eq_true rfl, Nat.le_of_ble_eq_true rfl⟩ rfl rfl (Nat.le_of_ble_eq_true rfl) ?_
      exact J_iret cx dX3_cover_23 hr ⟨congrArg some (congrArg Value.int (by simp only [r_X3_cover, o_X3_cover_g, o_X3_cover_hi, o_X3_cover_now, o_X3_cover_ch, o_X3_cover_ns, o_X3_cover_why, o_X3_cover_ws, if_neg c5, if_neg c16])), (tov_cg (by simp only [r_X3_cover, o_X3_cover_g, o_X3_cover_hi, o_X3_cover_now, o_X3_cover_ch, o_X3_cover_ns, o_X3_cover_why, o_X3_cover_ws, if_neg c5, if_neg c16]) (by simp only [r_X3_cover, o_X3_cover_g, o_X3_cover_hi, o_X3_cover_now, o_X3_cover_ch, o_X3_cover_ns, o_X3_cover_why, o_X3_cover_ws, if_neg c5, if_neg c16]) rfl rfl rfl (by simp only [r_X3_cover, o_X3_cover_g, o_X3_cover_hi, o_X3_cover_now, o_X3_cover_ch, o_X3_cover_ns, o_X3_cover_why, o_X3_cover_ws, if_neg c5, if_neg c16]) (by simp only [r_X3_cover, o_X3_cover_g, o_X3_cover_hi, o_X3_cover_now, o_X3_cover_ch, o_X3_cover_ns, o_X3_cover_why, o_X3_cover_ws, if_neg c5, if_neg c16]) rfl rfl (by simp only [r_X3_cover, o_X3_cover_g, o_X3_cover_hi, o_X3_cover_now, o_X3_cover_ch, o_X3_cover_ns, o_X3_cover_why, o_X3_cover_ws, if_neg c5, if_neg c16]) rfl rfl rfl (by simp only [r_X3_cover, o_X3_cover_g, o_X3_cover_hi, o_X3_cover_now, o_X3_cover_ch, o_X3_cover_ns, o_X3_cover_why, o_X3_cover_ws, if_neg c5, if_neg c16]) (by simp only [r_X3_cover, o_X3_cover_g, o_X3_cover_hi, o_X3_cover_now, o_X3_cover_ch, o_X3_cover_ns, o_X3_cover_why, o_X3_cover_ws, if_neg c5, if_neg c16]) rfl rfl rfl rfl rfl), rfl⟩ (Nat.le_refl 0) (Nat.le_refl 0)
  · refine J_iconst (v := -1) cx dX3_cover_8 (by decide) ?_
    exact J_iret cx dX3_cover_9 hr ⟨congrArg some (congrArg Value.int (by simp only [r_X3_cover, o_X3_cover_g, o_X3_cover_hi, o_X3_cover_now, o_X3_cover_ch, o_X3_cover_ns, o_X3_cover_why, o_X3_cover_ws, if_pos c5])), (tov_cg (by simp only [r_X3_cover, o_X3_cover_g, o_X3_cover_hi, o_X3_cover_now, o_X3_cover_ch, o_X3_cover_ns, o_X3_cover_why, o_X3_cover_ws, if_pos c5]) (by simp only [r_X3_cover, o_X3_cover_g, o_X3_cover_hi, o_X3_cover_now, o_X3_cover_ch, o_X3_cover_ns, o_X3_cover_why, o_X3_cover_ws, if_pos c5]) rfl rfl rfl (by simp only [r_X3_cover, o_X3_cover_g, o_X3_cover_hi, o_X3_cover_now, o_X3_cover_ch, o_X3_cover_ns, o_X3_cover_why, o_X3_cover_ws, if_pos c5]) (by simp only [r_X3_cover, o_X3_cover_g, o_X3_cover_hi, o_X3_cover_now, o_X3_cover_ch, o_X3_cover_ns, o_X3_cover_why, o_X3_cover_ws, if_pos c5]) rfl rfl (by simp only [r_X3_cover, o_X3_cover_g, o_X3_cover_hi, o_X3_cover_now, o_X3_cover_ch, o_X3_cover_ns, o_X3_cover_why, o_X3_cover_ws, if_pos c5]) rfl rfl rfl (by simp only [r_X3_cover, o_X3_cover_g, o_X3_cover_hi, o_X3_cover_now, o_X3_cover_ch, o_X3_cover_ns, o_X3_cover_why, o_X3_cover_ws, if_pos c5]) (by simp only [r_X3_cover, o_X3_cover_g, o_X3_cover_hi, o_X3_cover_now, o_X3_cover_ch, o_X3_cover_ns, o_X3_cover_why, o_X3_cover_ws, if_pos c5]) rfl rfl rfl rfl rfl), rfl⟩ (Nat.le_refl 0) (Nat.le_refl 0)
def r_X3_glaze (g : Nat → Int32) (p9 : Int32) (x9 : Int32) (y9 : Int32) : Int32 := (if ((r_X3_in p9 (nI (0)) ((g (2)) - (nI (1))))) = 0 then (-1) else (if (r_X3_in x9 (nI (0)) (nI (3))) = 0 then (-2) else (if (r_X3_in y9 (nI (1)) (nI (3))) = 0 then (-2) else (if (r_X3_mayBeIn g (tn p9) (nI (3))) = 0 then (r_X3_reach (o_X3_glazes_g g (tn p9) x9 y9) (tn p9)) else (-5)))))
def o_X3_glaze_g (g : Nat → Int32) (p9 : Int32) (x9 : Int32) (y9 : Int32) : Nat → Int32 := (if ((r_X3_in p9 (nI (0)) ((g (2)) - (nI (1))))) = 0 then g else (if (r_X3_in x9 (nI (0)) (nI (3))) = 0 then g else (if (r_X3_in y9 (nI (1)) (nI (3))) = 0 then g else (if (r_X3_mayBeIn g (tn p9) (nI (3))) = 0 then (o_X3_glazes_g g (tn p9) x9 y9) else g))))
def o_X3_glaze_hi (g : Nat → Int32) (hi : Nat → Int32) (ch : Int32) (p9 : Int32) (x9 : Int32) (y9 : Int32) : Nat → Int32 := (if ((r_X3_in p9 (nI (0)) ((g (2)) - (nI (1))))) = 0 then hi else (if (r_X3_in x9 (nI (0)) (nI (3))) = 0 then hi else (if (r_X3_in y9 (nI (1)) (nI (3))) = 0 then hi else (if (r_X3_mayBeIn g (tn p9) (nI (3))) = 0 then (o_X3_remembers_hi g hi ch) else hi))))
def o_X3_glaze_now (g : Nat → Int32) (now : Nat → Int32) (p9 : Int32) (x9 : Int32) (y9 : Int32) : Nat → Int32 := (if ((r_X3_in p9 (nI (0)) ((g (2)) - (nI (1))))) = 0 then now else (if (r_X3_in x9 (nI (0)) (nI (3))) = 0 then now else (if (r_X3_in y9 (nI (1)) (nI (3))) = 0 then now else (if (r_X3_mayBeIn g (tn p9) (nI (3))) = 0 then (o_X3_mayBeIn_now g now (tn p9) (nI (3))) else (o_X3_mayBeIn_now g now (tn p9) (nI (3)))))))
def o_X3_glaze_ch (g : Nat → Int32) (ch : Int32) (p9 : Int32) (x9 : Int32) (y9 : Int32) : Int32 := (if ((r_X3_in p9 (nI (0)) ((g (2)) - (nI (1))))) = 0 then ch else (if (r_X3_in x9 (nI (0)) (nI (3))) = 0 then ch else (if (r_X3_in y9 (nI (1)) (nI (3))) = 0 then ch else (if (r_X3_mayBeIn g (tn p9) (nI (3))) = 0 then (o_X3_remembers_ch ch) else ch))))
def o_X3_glaze_ns (g : Nat → Int32) (ns : Int32) (p9 : Int32) (x9 : Int32) (y9 : Int32) : Int32 := (if ((r_X3_in p9 (nI (0)) ((g (2)) - (nI (1))))) = 0 then ns else (if (r_X3_in x9 (nI (0)) (nI (3))) = 0 then ns else (if (r_X3_in y9 (nI (1)) (nI (3))) = 0 then ns else (if (r_X3_mayBeIn g (tn p9) (nI (3))) = 0 then (o_X3_mayBeIn_ns g ns (tn p9) (nI (3))) else (o_X3_mayBeIn_ns g ns (tn p9) (nI (3)))))))
def o_X3_glaze_why (g : Nat → Int32) (why : Nat → Int32) (now : Nat → Int32) (ns : Int32) (p9 : Int32) (x9 : Int32) (y9 : Int32) : Nat → Int32 := (if ((r_X3_in p9 (nI (0)) ((g (2)) - (nI (1))))) = 0 then why else (if (r_X3_in x9 (nI (0)) (nI (3))) = 0 then why else (if (r_X3_in y9 (nI (1)) (nI (3))) = 0 then why else (if (r_X3_mayBeIn g (tn p9) (nI (3))) = 0 then why else (S_refused why (o_X3_mayBeIn_now g now (tn p9) (nI (3))) (2 * tn (o_X3_mayBeIn_ns g ns (tn p9) (nI (3)))))))))
def o_X3_glaze_ws (g : Nat → Int32) (ws : Int32) (ns : Int32) (p9 : Int32) (x9 : Int32) (y9 : Int32) : Int32 := (if ((r_X3_in p9 (nI (0)) ((g (2)) - (nI (1))))) = 0 then ws else (if (r_X3_in x9 (nI (0)) (nI (3))) = 0 then ws else (if (r_X3_in y9 (nI (1)) (nI (3))) = 0 then ws else (if (r_X3_mayBeIn g (tn p9) (nI (3))) = 0 then ws else (nI (tn (o_X3_mayBeIn_ns g ns (tn p9) (nI (3)))))))))
theorem hd_X3_glaze : yX3_glaze.cls = RX3 ∧ yX3_glaze.cls ≠ "java/lang/invoke/MethodHandle" ∧ yX3_glaze.cls ≠ "java/lang/invoke/VarHandle" ∧ (parseMethodDescriptor yX3_glaze.desc).map (fun d => d.parameters.length) = some 3 := by decide +kernel
set_option maxHeartbeats 4000000 in
theorem t_X3_glaze (l : Launch) (Ω : jO) {t : Nat} {G0 : Mem} {g hi sv as_ inp why now told bef : Nat → Int32} {ch hs fed fa ws ns ct st_ pl iw sn : Int32} {sz : Nat} (ht : Ω.2.2.2 ≤ t) (p9 : Int32) (x9 : Int32) (y9 : Int32) (hn2 : g 2 = nI (tn (g 2))) (hn16 : tn (g 2) ≤ 16) (hch : ch = nI (tn ch)) (hch8 : tn ch ≤ 8) (hns : NsOk ns) (hrc : ¬ r_X3_in p9 (nI 0) (g 2 - nI 1) = 0 → ¬ r_X3_in x9 (nI 0) (nI 3) = 0 → ¬ r_X3_in y9 (nI 1) (nI 3) = 0 → reachOk (o_X3_glazes_g g (tn p9) x9 y9) (tn p9)) : Met l yX3_glaze (ws_ yX3_glaze cX3_glaze 4 (some .int)) ({ frames := 3, cells := 0, slots := 0, locals := 57 }) (va_Pc [.ref t, .int (p9), .int (x9), .int (y9)] (jWd Ω (tov Ω t G0 g hi sv as_ inp why now told bef ch hs fed fa ws ns ct st_ pl iw sn) sz)) (jQ Ω (jD (some (.int (r_X3_glaze g p9 x9 y9))) (tov Ω t G0 (o_X3_glaze_g g p9 x9 y9) (o_X3_glaze_hi g hi ch p9 x9 y9) sv as_ inp (o_X3_glaze_why g why now ns p9 x9 y9) (o_X3_glaze_now g now p9 x9 y9) told bef (o_X3_glaze_ch g ch p9 x9 y9) hs fed fa (o_X3_glaze_ws g ws ns p9 x9 y9) (o_X3_glaze_ns g ns p9 x9 y9) ct st_ pl iw sn) sz)) 0 0 (jB Ω) := by
  refine jMet (by decide) (Nat.le_of_ble_eq_true rfl) ?_
  intro p e s m args below meth c cx hr hnm
  refine J_loc [some (.ref t), some (.int (p9)), some (.int (x9)), some (.int (y9))] rfl ?_
  refine J_aload_n cx dX3_glaze_0 rfl ?_
  refine J_iload_n cx dX3_glaze_1 rfl ?_
  refine T_callI cx [.int (p9)] (t_X3_isPot l Ω ht (p9)) dX3_glaze_2 (lw_V q2743 q2745 qs45 q93 q2746) hd_X3_isPot rfl rfl ⟨Nat.le_of_ble_eq_true rfl, Nat.le_of_ble_eq_true rfl⟩ rfl rfl (Nat.le_of_ble_eq_true rfl) ?_
  refine J_if_ne (tgt := 10) cx dX3_glaze_5 (by decide) (fun c5 => ?_) (fun c5 => ?_)
  · refine J_iload_n cx dX3_glaze_10 rfl ?_
    refine J_iconst (v := nI (0)) cx dX3_glaze_11 (by decide) ?_
    refine J_iconst (v := nI (3)) cx dX3_glaze_12 (by decide) ?_
    refine T_callSI cx [.int (x9), .int (nI (0)), .int (nI (3))] (t_X3_in l Ω (x9) (nI (0)) (nI (3))) dX3_glaze_13 (lw_S q2686 q2687 q93 q2688) hd_X3_in.2 rfl rfl ⟨Nat.le_of_ble_eq_true rfl, Nat.le_of_ble_eq_true rfl⟩ rfl rfl (Nat.le_of_ble_eq_true rfl) ?_
    refine J_if_eq (tgt := 28) cx dX3_glaze_16 (by decide) (fun c16 => ?_) (fun c16 => ?_)
    · refine J_bipush (v := -2) cx dX3_glaze_28 (by decide) ?_
      exact J_iret cx dX3_glaze_30 hr ⟨congrArg some (congrArg Value.int (by simp only [r_X3_glaze, o_X3_glaze_g, o_X3_glaze_hi, o_X3_glaze_now, o_X3_glaze_ch, o_X3_glaze_ns, o_X3_glaze_why, o_X3_glaze_ws, if_neg c5, if_pos c16])), (tov_cg (by simp only [r_X3_glaze, o_X3_glaze_g, o_X3_glaze_hi, o_X3_glaze_now, o_X3_glaze_ch, o_X3_glaze_ns, o_X3_glaze_why, o_X3_glaze_ws, if_neg c5, if_pos c16]) (by simp only [r_X3_glaze, o_X3_glaze_g, o_X3_glaze_hi, o_X3_glaze_now, o_X3_glaze_ch, o_X3_glaze_ns, o_X3_glaze_why, o_X3_glaze_ws, if_neg c5, if_pos c16]) rfl rfl rfl (by simp only [r_X3_glaze, o_X3_glaze_g, o_X3_glaze_hi, o_X3_glaze_now, o_X3_glaze_ch, o_X3_glaze_ns, o_X3_glaze_why, o_X3_glaze_ws, if_neg c5, if_pos c16]) (by simp only [r_X3_glaze, o_X3_glaze_g, o_X3_glaze_hi, o_X3_glaze_now, o_X3_glaze_ch, o_X3_glaze_ns, o_X3_glaze_why, o_X3_glaze_ws, if_neg c5, if_pos c16]) rfl rfl (by simp only [r_X3_glaze, o_X3_glaze_g, o_X3_glaze_hi, o_X3_glaze_now, o_X3_glaze_ch, o_X3_glaze_ns, o_X3_glaze_why, o_X3_glaze_ws, if_neg c5, if_pos c16]) rfl rfl rfl (by simp only [r_X3_glaze, o_X3_glaze_g, o_X3_glaze_hi, o_X3_glaze_now, o_X3_glaze_ch, o_X3_glaze_ns, o_X3_glaze_why, o_X3_glaze_ws, if_neg c5, if_pos c16]) (by simp only [r_X3_glaze, o_X3_glaze_g, o_X3_glaze_hi, o_X3_glaze_now, o_X3_glaze_ch, o_X3_glaze_ns, o_X3_glaze_why, o_X3_glaze_ws, if_neg c5, if_pos c16]) rfl rfl rfl rfl rfl), rfl⟩ (Nat.le_refl 0) (Nat.le_refl 0)
    · refine J_iload_n cx dX3_glaze_19 rfl ?_
      refine J_iconst (v := nI (1)) cx dX3_glaze_20 (by decide) ?_
      refine J_iconst (v := nI (3)) cx dX3_glaze_21 (by decide) ?_
      refine T_callSI cx [.int (y9), .int (nI (1)), .int (nI (3))] (t_X3_in l Ω (y9) (nI (1)) (nI (3))) dX3_glaze_22 (lw_S q2686 q2687 q93 q2688) hd_X3_in.2 rfl rfl ⟨Nat.le_of_ble_eq_true rfl, Nat.le_of_ble_eq_true rfl⟩ rfl rfl (Nat.le_of_ble_eq_true rfl) ?_
      refine J_if_ne (tgt := 31) cx dX3_glaze_25 (by decide) (fun c25 => ?_) (fun c25 => ?_)
      · have hx31_1 := (in_m1 hn2 c5).2
        have hre31_1 : p9 = nI (tn p9) := (in_m1 hn2 c5).1
        refine J_loc [some (.ref t), some (.int (nI (tn p9))), some (.int (x9)), some (.int (y9))] (by simp only [← hre31_1]) ?_
        refine J_aload_n cx dX3_glaze_31 rfl ?_
        refine J_iload_n cx dX3_glaze_32 rfl ?_
        refine J_iconst (v := nI (3)) cx dX3_glaze_33 (by decide) ?_
        refine T_callI cx [.int (nI (tn p9)), .int (nI (3))] (t_X3_mayBeIn l Ω ht (tn p9) (nI (3)) (by omega)) dX3_glaze_34 (lw_V q2775 q2777 qs48 q93 q2778) hd_X3_mayBeIn rfl rfl ⟨Nat.le_of_ble_eq_true rfl, Nat.le_of_ble_eq_true rfl⟩ rfl rfl (Nat.le_of_ble_eq_true rfl) ?_
        refine J_if_eq (tgt := 45) cx dX3_glaze_37 (by decide) (fun c37 => ?_) (fun c37 => ?_)
        · refine J_aload_n cx dX3_glaze_45 rfl ?_
          refine T_callV cx [] (t_X3_remembers l Ω ht hch hch8) dX3_glaze_46 (lw_V q2697 q2699 qs40 q93 q2700) hd_X3_remembers rfl rfl ⟨Nat.le_of_ble_eq_true rfl, Nat.le_of_ble_eq_true rfl⟩ rfl rfl (Nat.le_of_ble_eq_true rfl) ?_
          refine J_aload_n cx dX3_glaze_49 rfl ?_
          refine J_iload_n cx dX3_glaze_50 rfl ?_
          refine J_iload_n cx dX3_glaze_51 rfl ?_
          refine J_iload_n cx dX3_glaze_52 rfl ?_
          refine T_callV cx [.int (nI (tn p9)), .int (x9), .int (y9)] (t_X3_glazes l Ω ht (tn p9) (x9) (y9) (by omega)) dX3_glaze_53 (lw_V q2783 q2785 qs49 q93 q2786) hd_X3_glazes rfl rfl ⟨Nat.le_of_ble_eq_true rfl, Nat.le_of_ble_eq_true rfl⟩ rfl rfl (Nat.le_of_ble_eq_true rfl) ?_
          refine J_aload_n cx dX3_glaze_56 rfl ?_
          refine J_iload_n cx dX3_glaze_57 rfl ?_
          refine T_callI cx [.int (nI (tn p9))] (t_X3_reach l Ω ht (tn p9) (by omega) (hrc c5 c16 c25)) dX3_glaze_58 (lw_V q2787 q2789 qs50 q93 q2790) hd_X3_reach rfl rfl ⟨Nat.le_of_ble_eq_true rfl, Nat.le_of_ble_eq_true rfl⟩ rfl rfl (Nat.le_of_ble_eq_true rfl) ?_
          exact J_iret cx dX3_glaze_61 hr ⟨congrArg some (congrArg Value.int (by simp only [r_X3_glaze, o_X3_glaze_g, o_X3_glaze_hi, o_X3_glaze_now, o_X3_glaze_ch, o_X3_glaze_ns, o_X3_glaze_why, o_X3_glaze_ws, if_neg c5, if_neg c16, if_neg c25, if_pos c37])), (tov_cg (by simp only [r_X3_glaze, o_X3_glaze_g, o_X3_glaze_hi, o_X3_glaze_now, o_X3_glaze_ch, o_X3_glaze_ns, o_X3_glaze_why, o_X3_glaze_ws, if_neg c5, if_neg c16, if_neg c25, if_pos c37]) (by simp only [r_X3_glaze, o_X3_glaze_g, o_X3_glaze_hi, o_X3_glaze_now, o_X3_glaze_ch, o_X3_glaze_ns, o_X3_glaze_why, o_X3_glaze_ws, if_neg c5, if_neg c16, if_neg c25, if_pos c37]) rfl rfl rfl (by simp only [r_X3_glaze, o_X3_glaze_g, o_X3_glaze_hi, o_X3_glaze_now, o_X3_glaze_ch, o_X3_glaze_ns, o_X3_glaze_why, o_X3_glaze_ws, if_neg c5, if_neg c16, if_neg c25, if_pos c37]) (by simp only [r_X3_glaze, o_X3_glaze_g, o_X3_glaze_hi, o_X3_glaze_now, o_X3_glaze_ch, o_X3_glaze_ns, o_X3_glaze_why, o_X3_glaze_ws, if_neg c5, if_neg c16, if_neg c25, if_pos c37]) rfl rfl (by simp only [r_X3_glaze, o_X3_glaze_g, o_X3_glaze_hi, o_X3_glaze_now, o_X3_glaze_ch, o_X3_glaze_ns, o_X3_glaze_why, o_X3_glaze_ws, if_neg c5, if_neg c16, if_neg c25, if_pos c37]) rfl rfl rfl (by simp only [r_X3_glaze, o_X3_glaze_g, o_X3_glaze_hi, o_X3_glaze_now, o_X3_glaze_ch, o_X3_glaze_ns, o_X3_glaze_why, o_X3_glaze_ws, if_neg c5, if_neg c16, if_neg c25, if_pos c37]) (by simp only [r_X3_glaze, o_X3_glaze_g, o_X3_glaze_hi, o_X3_glaze_now, o_X3_glaze_ch, o_X3_glaze_ns, o_X3_glaze_why, o_X3_glaze_ws, if_neg c5, if_neg c16, if_neg c25, if_pos c37]) rfl rfl rfl rfl rfl), rfl⟩ (Nat.le_refl 0) (Nat.le_refl 0)
        · refine J_aload_n cx dX3_glaze_40 rfl ?_
          refine T_callI cx [] (t_X3_refused l Ω ht (nsk_mayBeIn _ _ _ hns).1 (nsk_mayBeIn _ _ _ hns).2) dX3_glaze_41 (lw_V q2720 q2722 qs42 q93 q2723) hd_X3_refused rfl rfl ⟨Nat.le_of_ble_eq_true rfl, Nat.le_of_ble_eq_true rfl⟩ rfl rfl (Nat.le_of_ble_eq_true rfl) ?_
          exact J_iret cx dX3_glaze_44 hr ⟨congrArg some (congrArg Value.int (by simp only [r_X3_glaze, o_X3_glaze_g, o_X3_glaze_hi, o_X3_glaze_now, o_X3_glaze_ch, o_X3_glaze_ns, o_X3_glaze_why, o_X3_glaze_ws, if_neg c5, if_neg c16, if_neg c25, if_neg c37])), (tov_cg (by simp only [r_X3_glaze, o_X3_glaze_g, o_X3_glaze_hi, o_X3_glaze_now, o_X3_glaze_ch, o_X3_glaze_ns, o_X3_glaze_why, o_X3_glaze_ws, if_neg c5, if_neg c16, if_neg c25, if_neg c37]) (by simp only [r_X3_glaze, o_X3_glaze_g, o_X3_glaze_hi, o_X3_glaze_now, o_X3_glaze_ch, o_X3_glaze_ns, o_X3_glaze_why, o_X3_glaze_ws, if_neg c5, if_neg c16, if_neg c25, if_neg c37]) rfl rfl rfl (by simp only [r_X3_glaze, o_X3_glaze_g, o_X3_glaze_hi, o_X3_glaze_now, o_X3_glaze_ch, o_X3_glaze_ns, o_X3_glaze_why, o_X3_glaze_ws, if_neg c5, if_neg c16, if_neg c25, if_neg c37]) (by simp only [r_X3_glaze, o_X3_glaze_g, o_X3_glaze_hi, o_X3_glaze_now, o_X3_glaze_ch, o_X3_glaze_ns, o_X3_glaze_why, o_X3_glaze_ws, if_neg c5, if_neg c16, if_neg c25, if_neg c37]) rfl rfl (by simp only [r_X3_glaze, o_X3_glaze_g, o_X3_glaze_hi, o_X3_glaze_now, o_X3_glaze_ch, o_X3_glaze_ns, o_X3_glaze_why, o_X3_glaze_ws, if_neg c5, if_neg c16, if_neg c25, if_neg c37]) rfl rfl rfl (by simp only [r_X3_glaze, o_X3_glaze_g, o_X3_glaze_hi, o_X3_glaze_now, o_X3_glaze_ch, o_X3_glaze_ns, o_X3_glaze_why, o_X3_glaze_ws, if_neg c5, if_neg c16, if_neg c25, if_neg c37]) (by simp only [r_X3_glaze, o_X3_glaze_g, o_X3_glaze_hi, o_X3_glaze_now, o_X3_glaze_ch, o_X3_glaze_ns, o_X3_glaze_why, o_X3_glaze_ws, if_neg c5, if_neg c16, if_neg c25, if_neg c37]) rfl rfl rfl rfl rfl), rfl⟩ (Nat.le_refl 0) (Nat.le_refl 0)
      · refine J_bipush (v := -2) cx dX3_glaze_28 (by decide) ?_
        exact J_iret cx dX3_glaze_30 hr ⟨congrArg some (congrArg Value.int (by simp only [r_X3_glaze, o_X3_glaze_g, o_X3_glaze_hi, o_X3_glaze_now, o_X3_glaze_ch, o_X3_glaze_ns, o_X3_glaze_why, o_X3_glaze_ws, if_neg c5, if_neg c16, if_pos c25])), (tov_cg (by simp only [r_X3_glaze, o_X3_glaze_g, o_X3_glaze_hi, o_X3_glaze_now, o_X3_glaze_ch, o_X3_glaze_ns, o_X3_glaze_why, o_X3_glaze_ws, if_neg c5, if_neg c16, if_pos c25]) (by simp only [r_X3_glaze, o_X3_glaze_g, o_X3_glaze_hi, o_X3_glaze_now, o_X3_glaze_ch, o_X3_glaze_ns, o_X3_glaze_why, o_X3_glaze_ws, if_neg c5, if_neg c16, if_pos c25]) rfl rfl rfl (by simp only [r_X3_glaze, o_X3_glaze_g, o_X3_glaze_hi, o_X3_glaze_now, o_X3_glaze_ch, o_X3_glaze_ns, o_X3_glaze_why, o_X3_glaze_ws, if_neg c5, if_neg c16, if_pos c25]) (by simp only [r_X3_glaze, o_X3_glaze_g, o_X3_glaze_hi, o_X3_glaze_now, o_X3_glaze_ch, o_X3_glaze_ns, o_X3_glaze_why, o_X3_glaze_ws, if_neg c5, if_neg c16, if_pos c25]) rfl rfl (by simp only [r_X3_glaze, o_X3_glaze_g, o_X3_glaze_hi, o_X3_glaze_now, o_X3_glaze_ch, o_X3_glaze_ns, o_X3_glaze_why, o_X3_glaze_ws, if_neg c5, if_neg c16, if_pos c25]) rfl rfl rfl (by simp only [r_X3_glaze, o_X3_glaze_g, o_X3_glaze_hi, o_X3_glaze_now, o_X3_glaze_ch, o_X3_glaze_ns, o_X3_glaze_why, o_X3_glaze_ws, if_neg c5, if_neg c16, if_pos c25]) (by simp only [r_X3_glaze, o_X3_glaze_g, o_X3_glaze_hi, o_X3_glaze_now, o_X3_glaze_ch, o_X3_glaze_ns, o_X3_glaze_why, o_X3_glaze_ws, if_neg c5, if_neg c16, if_pos c25]) rfl rfl rfl rfl rfl), rfl⟩ (Nat.le_refl 0) (Nat.le_refl 0)
  · refine J_iconst (v := -1) cx dX3_glaze_8 (by decide) ?_
    exact J_iret cx dX3_glaze_9 hr ⟨congrArg some (congrArg Value.int (by simp only [r_X3_glaze, o_X3_glaze_g, o_X3_glaze_hi, o_X3_glaze_now, o_X3_glaze_ch, o_X3_glaze_ns, o_X3_glaze_why, o_X3_glaze_ws, if_pos c5])), (tov_cg (by simp only [r_X3_glaze, o_X3_glaze_g, o_X3_glaze_hi, o_X3_glaze_now, o_X3_glaze_ch, o_X3_glaze_ns, o_X3_glaze_why, o_X3_glaze_ws, if_pos c5]) (by simp only [r_X3_glaze, o_X3_glaze_g, o_X3_glaze_hi, o_X3_glaze_now, o_X3_glaze_ch, o_X3_glaze_ns, o_X3_glaze_why, o_X3_glaze_ws, if_pos c5]) rfl rfl rfl (by simp only [r_X3_glaze, o_X3_glaze_g, o_X3_glaze_hi, o_X3_glaze_now, o_X3_glaze_ch, o_X3_glaze_ns, o_X3_glaze_why, o_X3_glaze_ws, if_pos c5]) (by simp only [r_X3_glaze, o_X3_glaze_g, o_X3_glaze_hi, o_X3_glaze_now, o_X3_glaze_ch, o_X3_glaze_ns, o_X3_glaze_why, o_X3_glaze_ws, if_pos c5]) rfl rfl (by simp only [r_X3_glaze, o_X3_glaze_g, o_X3_glaze_hi, o_X3_glaze_now, o_X3_glaze_ch, o_X3_glaze_ns, o_X3_glaze_why, o_X3_glaze_ws, if_pos c5]) rfl rfl rfl (by simp only [r_X3_glaze, o_X3_glaze_g, o_X3_glaze_hi, o_X3_glaze_now, o_X3_glaze_ch, o_X3_glaze_ns, o_X3_glaze_why, o_X3_glaze_ws, if_pos c5]) (by simp only [r_X3_glaze, o_X3_glaze_g, o_X3_glaze_hi, o_X3_glaze_now, o_X3_glaze_ch, o_X3_glaze_ns, o_X3_glaze_why, o_X3_glaze_ws, if_pos c5]) rfl rfl rfl rfl rfl), rfl⟩ (Nat.le_refl 0) (Nat.le_refl 0)
def r_X3_place (g : Nat → Int32) (p9 : Int32) (q9 : Int32) : Int32 := (if ((r_X3_in p9 (nI (0)) ((g (2)) - (nI (1))))) = 0 then (-1) else (if (r_X3_in q9 (nI (0)) (nI (7))) = 0 then (-1) else (if (r_X3_mayPlace g (tn p9) (tn q9)) = 0 then (S_onShelf ((upd (upd g ((50 + (13 * (tn p9))) + 8) (nI ((tn q9)))) (41 + (tn q9)) (nI ((tn p9))))) 8) else (-5))))
def o_X3_place_g (g : Nat → Int32) (p9 : Int32) (q9 : Int32) : Nat → Int32 := (if ((r_X3_in p9 (nI (0)) ((g (2)) - (nI (1))))) = 0 then g else (if (r_X3_in q9 (nI (0)) (nI (7))) = 0 then g else (if (r_X3_mayPlace g (tn p9) (tn q9)) = 0 then ((upd (upd g ((50 + (13 * (tn p9))) + 8) (nI ((tn q9)))) (41 + (tn q9)) (nI ((tn p9))))) else g)))
def o_X3_place_hi (g : Nat → Int32) (hi : Nat → Int32) (ch : Int32) (p9 : Int32) (q9 : Int32) : Nat → Int32 := (if ((r_X3_in p9 (nI (0)) ((g (2)) - (nI (1))))) = 0 then hi else (if (r_X3_in q9 (nI (0)) (nI (7))) = 0 then hi else (if (r_X3_mayPlace g (tn p9) (tn q9)) = 0 then (o_X3_remembers_hi g hi ch) else hi)))
def o_X3_place_now (g : Nat → Int32) (now : Nat → Int32) (p9 : Int32) (q9 : Int32) : Nat → Int32 := (if ((r_X3_in p9 (nI (0)) ((g (2)) - (nI (1))))) = 0 then now else (if (r_X3_in q9 (nI (0)) (nI (7))) = 0 then now else (if (r_X3_mayPlace g (tn p9) (tn q9)) = 0 then (o_X3_mayPlace_now g now (tn p9) (tn q9)) else (o_X3_mayPlace_now g now (tn p9) (tn q9)))))
def o_X3_place_ch (g : Nat → Int32) (ch : Int32) (p9 : Int32) (q9 : Int32) : Int32 := (if ((r_X3_in p9 (nI (0)) ((g (2)) - (nI (1))))) = 0 then ch else (if (r_X3_in q9 (nI (0)) (nI (7))) = 0 then ch else (if (r_X3_mayPlace g (tn p9) (tn q9)) = 0 then (o_X3_remembers_ch ch) else ch)))
def o_X3_place_ns (g : Nat → Int32) (ns : Int32) (p9 : Int32) (q9 : Int32) : Int32 := (if ((r_X3_in p9 (nI (0)) ((g (2)) - (nI (1))))) = 0 then ns else (if (r_X3_in q9 (nI (0)) (nI (7))) = 0 then ns else (if (r_X3_mayPlace g (tn p9) (tn q9)) = 0 then (o_X3_mayPlace_ns g ns (tn p9) (tn q9)) else (o_X3_mayPlace_ns g ns (tn p9) (tn q9)))))
def o_X3_place_why (g : Nat → Int32) (why : Nat → Int32) (now : Nat → Int32) (ns : Int32) (p9 : Int32) (q9 : Int32) : Nat → Int32 := (if ((r_X3_in p9 (nI (0)) ((g (2)) - (nI (1))))) = 0 then why else (if (r_X3_in q9 (nI (0)) (nI (7))) = 0 then why else (if (r_X3_mayPlace g (tn p9) (tn q9)) = 0 then why else (S_refused why (o_X3_mayPlace_now g now (tn p9) (tn q9)) (2 * tn (o_X3_mayPlace_ns g ns (tn p9) (tn q9)))))))
def o_X3_place_ws (g : Nat → Int32) (ws : Int32) (ns : Int32) (p9 : Int32) (q9 : Int32) : Int32 := (if ((r_X3_in p9 (nI (0)) ((g (2)) - (nI (1))))) = 0 then ws else (if (r_X3_in q9 (nI (0)) (nI (7))) = 0 then ws else (if (r_X3_mayPlace g (tn p9) (tn q9)) = 0 then ws else (nI (tn (o_X3_mayPlace_ns g ns (tn p9) (tn q9)))))))
theorem hd_X3_place : yX3_place.cls = RX3 ∧ yX3_place.cls ≠ "java/lang/invoke/MethodHandle" ∧ yX3_place.cls ≠ "java/lang/invoke/VarHandle" ∧ (parseMethodDescriptor yX3_place.desc).map (fun d => d.parameters.length) = some 2 := by decide +kernel
set_option maxHeartbeats 4000000 in
theorem t_X3_place (l : Launch) (Ω : jO) {t : Nat} {G0 : Mem} {g hi sv as_ inp why now told bef : Nat → Int32} {ch hs fed fa ws ns ct st_ pl iw sn : Int32} {sz : Nat} (ht : Ω.2.2.2 ≤ t) (p9 : Int32) (q9 : Int32) (hn2 : g 2 = nI (tn (g 2))) (hn16 : tn (g 2) ≤ 16) (hch : ch = nI (tn ch)) (hch8 : tn ch ≤ 8) (hns : NsOk ns) : Met l yX3_place (ws_ yX3_place cX3_place 3 (some .int)) ({ frames := 4, cells := 0, slots := 0, locals := 78 }) (va_Pc [.ref t, .int (p9), .int (q9)] (jWd Ω (tov Ω t G0 g hi sv as_ inp why now told bef ch hs fed fa ws ns ct st_ pl iw sn) sz)) (jQ Ω (jD (some (.int (r_X3_place g p9 q9))) (tov Ω t G0 (o_X3_place_g g p9 q9) (o_X3_place_hi g hi ch p9 q9) sv as_ inp (o_X3_place_why g why now ns p9 q9) (o_X3_place_now g now p9 q9) told bef (o_X3_place_ch g ch p9 q9) hs fed fa (o_X3_place_ws g ws ns p9 q9) (o_X3_place_ns g ns p9 q9) ct st_ pl iw sn) sz)) 0 0 (jB Ω) := by
  refine jMet (by decide) (Nat.le_of_ble_eq_true rfl) ?_
  intro p e s m args below meth c cx hr hnm
  refine J_loc [some (.ref t), some (.int (p9)), some (.int (q9))] rfl ?_
  refine J_aload_n cx dX3_place_0 rfl ?_
  refine J_iload_n cx dX3_place_1 rfl ?_
  refine T_callI cx [.int (p9)] (t_X3_isPot l Ω ht (p9)) dX3_place_2 (lw_V q2743 q2745 qs45 q93 q2746) hd_X3_isPot rfl rfl ⟨Nat.le_of_ble_eq_true rfl, Nat.le_of_ble_eq_true rfl⟩ rfl rfl (Nat.le_of_ble_eq_true rfl) ?_
  refine J_if_eq (tgt := 18) cx dX3_place_5 (by decide) (fun c5 => ?_) (fun c5 => ?_)
  · refine J_iconst (v := -1) cx dX3_place_18 (by decide) ?_
    exact J_iret cx dX3_place_19 hr ⟨congrArg some (congrArg Value.int (by simp only [r_X3_place, o_X3_place_g, o_X3_place_hi, o_X3_place_now, o_X3_place_ch, o_X3_place_ns, o_X3_place_why, o_X3_place_ws, if_pos c5])), (tov_cg (by simp only [r_X3_place, o_X3_place_g, o_X3_place_hi, o_X3_place_now, o_X3_place_ch, o_X3_place_ns, o_X3_place_why, o_X3_place_ws, if_pos c5]) (by simp only [r_X3_place, o_X3_place_g, o_X3_place_hi, o_X3_place_now, o_X3_place_ch, o_X3_place_ns, o_X3_place_why, o_X3_place_ws, if_pos c5]) rfl rfl rfl (by simp only [r_X3_place, o_X3_place_g, o_X3_place_hi, o_X3_place_now, o_X3_place_ch, o_X3_place_ns, o_X3_place_why, o_X3_place_ws, if_pos c5]) (by simp only [r_X3_place, o_X3_place_g, o_X3_place_hi, o_X3_place_now, o_X3_place_ch, o_X3_place_ns, o_X3_place_why, o_X3_place_ws, if_pos c5]) rfl rfl (by simp only [r_X3_place, o_X3_place_g, o_X3_place_hi, o_X3_place_now, o_X3_place_ch, o_X3_place_ns, o_X3_place_why, o_X3_place_ws, if_pos c5]) rfl rfl rfl (by simp only [r_X3_place, o_X3_place_g, o_X3_place_hi, o_X3_place_now, o_X3_place_ch, o_X3_place_ns, o_X3_place_why, o_X3_place_ws, if_pos c5]) (by simp only [r_X3_place, o_X3_place_g, o_X3_place_hi, o_X3_place_now, o_X3_place_ch, o_X3_place_ns, o_X3_place_why, o_X3_place_ws, if_pos c5]) rfl rfl rfl rfl rfl), rfl⟩ (Nat.le_refl 0) (Nat.le_refl 0)
  · refine J_iload_n cx dX3_place_8 rfl ?_
    refine J_iconst (v := nI (0)) cx dX3_place_9 (by decide) ?_
    refine J_bipush (v := nI (7)) cx dX3_place_10 (by decide) ?_
    refine T_callSI cx [.int (q9), .int (nI (0)), .int (nI (7))] (t_X3_in l Ω (q9) (nI (0)) (nI (7))) dX3_place_12 (lw_S q2686 q2687 q93 q2688) hd_X3_in.2 rfl rfl ⟨Nat.le_of_ble_eq_true rfl, Nat.le_of_ble_eq_true rfl⟩ rfl rfl (Nat.le_of_ble_eq_true rfl) ?_
    refine J_if_ne (tgt := 20) cx dX3_place_15 (by decide) (fun c15 => ?_) (fun c15 => ?_)
    · have hx20_1 := (in_m1 hn2 c5).2
      have hre20_1 : p9 = nI (tn p9) := (in_m1 hn2 c5).1
      refine J_loc [some (.ref t), some (.int (nI (tn p9))), some (.int (q9))] (by simp only [← hre20_1]) ?_
      have hx20_2 := (in_n (by decide) c15).2
      have hre20_2 : q9 = nI (tn q9) := (in_n (by decide) c15).1
      refine J_loc [some (.ref t), some (.int (nI (tn p9))), some (.int (nI (tn q9)))] (by simp only [← hre20_2]) ?_
      refine J_aload_n cx dX3_place_20 rfl ?_
      refine J_iload_n cx dX3_place_21 rfl ?_
      refine J_iload_n cx dX3_place_22 rfl ?_
      refine T_callI cx [.int (nI (tn p9)), .int (nI (tn q9))] (t_X3_mayPlace l Ω ht (tn p9) (tn q9) (by omega) (by omega)) dX3_place_23 (lw_V q2795 q2797 qs51 q93 q2798) hd_X3_mayPlace rfl rfl ⟨Nat.le_of_ble_eq_true rfl, Nat.le_of_ble_eq_true rfl⟩ rfl rfl (Nat.le_of_ble_eq_true rfl) ?_
      refine J_if_eq (tgt := 34) cx dX3_place_26 (by decide) (fun c26 => ?_) (fun c26 => ?_)
      · refine J_aload_n cx dX3_place_34 rfl ?_
        refine T_callV cx [] (t_X3_remembers l Ω ht hch hch8) dX3_place_35 (lw_V q2697 q2699 qs40 q93 q2700) hd_X3_remembers rfl rfl ⟨Nat.le_of_ble_eq_true rfl, Nat.le_of_ble_eq_true rfl⟩ rfl rfl (Nat.le_of_ble_eq_true rfl) ?_
        refine J_aload_n cx dX3_place_38 rfl ?_
        refine J_iload_n cx dX3_place_39 rfl ?_
        refine J_iload_n cx dX3_place_40 rfl ?_
        refine T_callV cx [.int (nI (tn p9)), .int (nI (tn q9))] (t_X3_puts l Ω ht (tn p9) (tn q9) (by omega) (by omega)) dX3_place_41 (lw_V q2799 q2801 qs52 q93 q2802) hd_X3_puts rfl rfl ⟨Nat.le_of_ble_eq_true rfl, Nat.le_of_ble_eq_true rfl⟩ rfl rfl (Nat.le_of_ble_eq_true rfl) ?_
        refine J_aload_n cx dX3_place_44 rfl ?_
        refine T_callI cx [] (t_X3_onShelf l Ω ht) dX3_place_45 (lw_V q2803 q2805 qs53 q93 q2806) hd_X3_onShelf rfl rfl ⟨Nat.le_of_ble_eq_true rfl, Nat.le_of_ble_eq_true rfl⟩ rfl rfl (Nat.le_of_ble_eq_true rfl) ?_
        exact J_iret cx dX3_place_48 hr ⟨congrArg some (congrArg Value.int (by simp only [r_X3_place, o_X3_place_g, o_X3_place_hi, o_X3_place_now, o_X3_place_ch, o_X3_place_ns, o_X3_place_why, o_X3_place_ws, if_neg c5, if_neg c15, if_pos c26])), (tov_cg (by simp only [r_X3_place, o_X3_place_g, o_X3_place_hi, o_X3_place_now, o_X3_place_ch, o_X3_place_ns, o_X3_place_why, o_X3_place_ws, if_neg c5, if_neg c15, if_pos c26]) (by simp only [r_X3_place, o_X3_place_g, o_X3_place_hi, o_X3_place_now, o_X3_place_ch, o_X3_place_ns, o_X3_place_why, o_X3_place_ws, if_neg c5, if_neg c15, if_pos c26]) rfl rfl rfl (by simp only [r_X3_place, o_X3_place_g, o_X3_place_hi, o_X3_place_now, o_X3_place_ch, o_X3_place_ns, o_X3_place_why, o_X3_place_ws, if_neg c5, if_neg c15, if_pos c26]) (by simp only [r_X3_place, o_X3_place_g, o_X3_place_hi, o_X3_place_now, o_X3_place_ch, o_X3_place_ns, o_X3_place_why, o_X3_place_ws, if_neg c5, if_neg c15, if_pos c26]) rfl rfl (by simp only [r_X3_place, o_X3_place_g, o_X3_place_hi, o_X3_place_now, o_X3_place_ch, o_X3_place_ns, o_X3_place_why, o_X3_place_ws, if_neg c5, if_neg c15, if_pos c26]) rfl rfl rfl (by simp only [r_X3_place, o_X3_place_g, o_X3_place_hi, o_X3_place_now, o_X3_place_ch, o_X3_place_ns, o_X3_place_why, o_X3_place_ws, if_neg c5, if_neg c15, if_pos c26]) (by simp only [r_X3_place, o_X3_place_g, o_X3_place_hi, o_X3_place_now, o_X3_place_ch, o_X3_place_ns, o_X3_place_why, o_X3_place_ws, if_neg c5, if_neg c15, if_pos c26]) rfl rfl rfl rfl rfl), rfl⟩ (Nat.le_refl 0) (Nat.le_refl 0)
      · refine J_aload_n cx dX3_place_29 rfl ?_
        refine T_callI cx [] (t_X3_refused l Ω ht (nsk_mayPlace _ _ _ hns).1 (nsk_mayPlace _ _ _ hns).2) dX3_place_30 (lw_V q2720 q2722 qs42 q93 q2723) hd_X3_refused rfl rfl ⟨Nat.le_of_ble_eq_true rfl, Nat.le_of_ble_eq_true rfl⟩ rfl rfl (Nat.le_of_ble_eq_true rfl) ?_
        exact J_iret cx dX3_place_33 hr ⟨congrArg some (congrArg Value.int (by simp only [r_X3_place, o_X3_place_g, o_X3_place_hi, o_X3_place_now, o_X3_place_ch, o_X3_place_ns, o_X3_place_why, o_X3_place_ws, if_neg c5, if_neg c15, if_neg c26])), (tov_cg (by simp only [r_X3_place, o_X3_place_g, o_X3_place_hi, o_X3_place_now, o_X3_place_ch, o_X3_place_ns, o_X3_place_why, o_X3_place_ws, if_neg c5, if_neg c15, if_neg c26]) (by simp only [r_X3_place, o_X3_place_g, o_X3_place_hi, o_X3_place_now, o_X3_place_ch, o_X3_place_ns, o_X3_place_why, o_X3_place_ws, if_neg c5, if_neg c15, if_neg c26]) rfl rfl rfl (by simp only [r_X3_place, o_X3_place_g, o_X3_place_hi, o_X3_place_now, o_X3_place_ch, o_X3_place_ns, o_X3_place_why, o_X3_place_ws, if_neg c5, if_neg c15, if_neg c26]) (by simp only [r_X3_place, o_X3_place_g, o_X3_place_hi, o_X3_place_now, o_X3_place_ch, o_X3_place_ns, o_X3_place_why, o_X3_place_ws, if_neg c5, if_neg c15, if_neg c26]) rfl rfl (by simp only [r_X3_place, o_X3_place_g, o_X3_place_hi, o_X3_place_now, o_X3_place_ch, o_X3_place_ns, o_X3_place_why, o_X3_place_ws, if_neg c5, if_neg c15, if_neg c26]) rfl rfl rfl (by simp only [r_X3_place, o_X3_place_g, o_X3_place_hi, o_X3_place_now, o_X3_place_ch, o_X3_place_ns, o_X3_place_why, o_X3_place_ws, if_neg c5, if_neg c15, if_neg c26]) (by simp only [r_X3_place, o_X3_place_g, o_X3_place_hi, o_X3_place_now, o_X3_place_ch, o_X3_place_ns, o_X3_place_why, o_X3_place_ws, if_neg c5, if_neg c15, if_neg c26]) rfl rfl rfl rfl rfl), rfl⟩ (Nat.le_refl 0) (Nat.le_refl 0)
    · refine J_iconst (v := -1) cx dX3_place_18 (by decide) ?_
      exact J_iret cx dX3_place_19 hr ⟨congrArg some (congrArg Value.int (by simp only [r_X3_place, o_X3_place_g, o_X3_place_hi, o_X3_place_now, o_X3_place_ch, o_X3_place_ns, o_X3_place_why, o_X3_place_ws, if_neg c5, if_pos c15])), (tov_cg (by simp only [r_X3_place, o_X3_place_g, o_X3_place_hi, o_X3_place_now, o_X3_place_ch, o_X3_place_ns, o_X3_place_why, o_X3_place_ws, if_neg c5, if_pos c15]) (by simp only [r_X3_place, o_X3_place_g, o_X3_place_hi, o_X3_place_now, o_X3_place_ch, o_X3_place_ns, o_X3_place_why, o_X3_place_ws, if_neg c5, if_pos c15]) rfl rfl rfl (by simp only [r_X3_place, o_X3_place_g, o_X3_place_hi, o_X3_place_now, o_X3_place_ch, o_X3_place_ns, o_X3_place_why, o_X3_place_ws, if_neg c5, if_pos c15]) (by simp only [r_X3_place, o_X3_place_g, o_X3_place_hi, o_X3_place_now, o_X3_place_ch, o_X3_place_ns, o_X3_place_why, o_X3_place_ws, if_neg c5, if_pos c15]) rfl rfl (by simp only [r_X3_place, o_X3_place_g, o_X3_place_hi, o_X3_place_now, o_X3_place_ch, o_X3_place_ns, o_X3_place_why, o_X3_place_ws, if_neg c5, if_pos c15]) rfl rfl rfl (by simp only [r_X3_place, o_X3_place_g, o_X3_place_hi, o_X3_place_now, o_X3_place_ch, o_X3_place_ns, o_X3_place_why, o_X3_place_ws, if_neg c5, if_pos c15]) (by simp only [r_X3_place, o_X3_place_g, o_X3_place_hi, o_X3_place_now, o_X3_place_ch, o_X3_place_ns, o_X3_place_why, o_X3_place_ws, if_neg c5, if_pos c15]) rfl rfl rfl rfl rfl), rfl⟩ (Nat.le_refl 0) (Nat.le_refl 0)
def r_X3_shelf (g : Nat → Int32) (q9 : Int32) : Int32 := (if (r_X3_in q9 (nI (0)) (nI (7))) = 0 then (-1) else (if (g (41 + (tn q9))) = (-1) then (-6) else (g (41 + (tn q9)))))
theorem hd_X3_shelf : yX3_shelf.cls = RX3 ∧ yX3_shelf.cls ≠ "java/lang/invoke/MethodHandle" ∧ yX3_shelf.cls ≠ "java/lang/invoke/VarHandle" ∧ (parseMethodDescriptor yX3_shelf.desc).map (fun d => d.parameters.length) = some 1 := by decide +kernel
set_option maxHeartbeats 4000000 in
theorem t_X3_shelf (l : Launch) (Ω : jO) {t : Nat} {G0 : Mem} {g hi sv as_ inp why now told bef : Nat → Int32} {ch hs fed fa ws ns ct st_ pl iw sn : Int32} {sz : Nat} (ht : Ω.2.2.2 ≤ t) (q9 : Int32)  : Met l yX3_shelf (ws_ yX3_shelf cX3_shelf 2 (some .int)) ({ frames := 2, cells := 0, slots := 0, locals := 34 }) (va_Pc [.ref t, .int (q9)] (jWd Ω (tov Ω t G0 g hi sv as_ inp why now told bef ch hs fed fa ws ns ct st_ pl iw sn) sz)) (jQ Ω (jD (some (.int (r_X3_shelf g q9))) (tov Ω t G0 g hi sv as_ inp why now told bef ch hs fed fa ws ns ct st_ pl iw sn) sz)) 0 0 (jB Ω) := by
  refine jMet (by decide) (Nat.le_of_ble_eq_true rfl) ?_
  intro p e s m args below meth c cx hr hnm
  refine J_loc [some (.ref t), some (.int (q9))] rfl ?_
  refine J_iload_n cx dX3_shelf_0 rfl ?_
  refine J_iconst (v := nI (0)) cx dX3_shelf_1 (by decide) ?_
  refine J_bipush (v := nI (7)) cx dX3_shelf_2 (by decide) ?_
  refine T_callSI cx [.int (q9), .int (nI (0)), .int (nI (7))] (t_X3_in l Ω (q9) (nI (0)) (nI (7))) dX3_shelf_4 (lw_S q2686 q2687 q93 q2688) hd_X3_in.2 rfl rfl ⟨Nat.le_of_ble_eq_true rfl, Nat.le_of_ble_eq_true rfl⟩ rfl rfl (Nat.le_of_ble_eq_true rfl) ?_
  refine J_if_ne (tgt := 14) cx dX3_shelf_7 (by decide) (fun c7 => ?_) (fun c7 => ?_)
  · have hx14_1 := (in_n (by decide) c7).2
    have hre14_1 : q9 = nI (tn q9) := (in_n (by decide) c7).1
    refine J_loc [some (.ref t), some (.int (nI (tn q9)))] (by simp only [← hre14_1]) ?_
    refine J_aload_n cx dX3_shelf_14 rfl ?_
    refine T_get_g cx dX3_shelf_15 ?_
    refine J_bipush (v := nI (41)) cx dX3_shelf_18 (by decide) ?_
    refine J_iload_n cx dX3_shelf_20 rfl ?_
    refine J_iaddN cx dX3_shelf_21 ?_
    refine T_ld_g cx dX3_shelf_22 (by omega) ?_
    refine J_iconst (v := -1) cx dX3_shelf_23 (by decide) ?_
    refine J_icmp_ne (tgt := 32) cx dX3_shelf_24 (by decide) (fun c24 => ?_) (fun c24 => ?_)
    · refine J_aload_n cx dX3_shelf_32 rfl ?_
      refine T_get_g cx dX3_shelf_33 ?_
      refine J_bipush (v := nI (41)) cx dX3_shelf_36 (by decide) ?_
      refine J_iload_n cx dX3_shelf_38 rfl ?_
      refine J_iaddN cx dX3_shelf_39 ?_
      refine T_ld_g cx dX3_shelf_40 (by omega) ?_
      exact J_iret cx dX3_shelf_41 hr ⟨congrArg some (congrArg Value.int (by simp only [r_X3_shelf, if_neg c7, if_neg c24])), rfl, rfl⟩ (Nat.le_refl 0) (Nat.le_refl 0)
    · refine J_bipush (v := -6) cx dX3_shelf_27 (by decide) ?_
      refine J_goto (tgt := 41) cx dX3_shelf_29 (by decide) ?_
      exact J_iret cx dX3_shelf_41 hr ⟨congrArg some (congrArg Value.int (by simp only [r_X3_shelf, if_neg c7, if_pos c24])), rfl, rfl⟩ (Nat.le_refl 0) (Nat.le_refl 0)
  · refine J_iconst (v := -1) cx dX3_shelf_10 (by decide) ?_
    refine J_goto (tgt := 41) cx dX3_shelf_11 (by decide) ?_
    exact J_iret cx dX3_shelf_41 hr ⟨congrArg some (congrArg Value.int (by simp only [r_X3_shelf, if_pos c7])), rfl, rfl⟩ (Nat.le_refl 0) (Nat.le_refl 0)
def r_X3_order (g : Nat → Int32) (a9 : Int32) (b9 : Int32) (d9 : Int32) (e9 : Int32) (f9 : Int32) : Int32 := (if (r_X3_in a9 (nI (0)) (nI (3))) = 0 then (-2) else (if (r_X3_in b9 (nI (1)) (nI (9))) = 0 then (-2) else (if (r_X3_in d9 (nI (1)) (nI (5))) = 0 then (-2) else (if (r_X3_in e9 (nI (1)) (nI (400))) = 0 then (-2) else (if (r_X3_in f9 (nI (1)) (nI (999))) = 0 then (-2) else (if (tn (g (3))) = 8 then (-5) else ((nI ((tn (g (3))) + 1)) - (nI (1)))))))))
def o_X3_order_why (g : Nat → Int32) (why : Nat → Int32) (now : Nat → Int32) (a9 : Int32) (b9 : Int32) (d9 : Int32) (e9 : Int32) (f9 : Int32) : Nat → Int32 := (if (r_X3_in a9 (nI (0)) (nI (3))) = 0 then why else (if (r_X3_in b9 (nI (1)) (nI (9))) = 0 then why else (if (r_X3_in d9 (nI (1)) (nI (5))) = 0 then why else (if (r_X3_in e9 (nI (1)) (nI (400))) = 0 then why else (if (r_X3_in f9 (nI (1)) (nI (999))) = 0 then why else (if (tn (g (3))) = 8 then (S_refused why ((upd (upd now (0) ((nI (12)))) (1) ((nI (8))))) (2 * tn ((nI (1))))) else why))))))
def o_X3_order_now (g : Nat → Int32) (now : Nat → Int32) (a9 : Int32) (b9 : Int32) (d9 : Int32) (e9 : Int32) (f9 : Int32) : Nat → Int32 := (if (r_X3_in a9 (nI (0)) (nI (3))) = 0 then now else (if (r_X3_in b9 (nI (1)) (nI (9))) = 0 then now else (if (r_X3_in d9 (nI (1)) (nI (5))) = 0 then now else (if (r_X3_in e9 (nI (1)) (nI (400))) = 0 then now else (if (r_X3_in f9 (nI (1)) (nI (999))) = 0 then now else (if (tn (g (3))) = 8 then ((upd (upd now (0) ((nI (12)))) (1) ((nI (8))))) else now))))))
def o_X3_order_ws (g : Nat → Int32) (ws : Int32) (a9 : Int32) (b9 : Int32) (d9 : Int32) (e9 : Int32) (f9 : Int32) : Int32 := (if (r_X3_in a9 (nI (0)) (nI (3))) = 0 then ws else (if (r_X3_in b9 (nI (1)) (nI (9))) = 0 then ws else (if (r_X3_in d9 (nI (1)) (nI (5))) = 0 then ws else (if (r_X3_in e9 (nI (1)) (nI (400))) = 0 then ws else (if (r_X3_in f9 (nI (1)) (nI (999))) = 0 then ws else (if (tn (g (3))) = 8 then (nI (tn ((nI (1))))) else ws))))))
def o_X3_order_ns (g : Nat → Int32) (ns : Int32) (a9 : Int32) (b9 : Int32) (d9 : Int32) (e9 : Int32) (f9 : Int32) : Int32 := (if (r_X3_in a9 (nI (0)) (nI (3))) = 0 then ns else (if (r_X3_in b9 (nI (1)) (nI (9))) = 0 then ns else (if (r_X3_in d9 (nI (1)) (nI (5))) = 0 then ns else (if (r_X3_in e9 (nI (1)) (nI (400))) = 0 then ns else (if (r_X3_in f9 (nI (1)) (nI (999))) = 0 then ns else (if (tn (g (3))) = 8 then ((nI (1))) else ns))))))
def o_X3_order_g (g : Nat → Int32) (a9 : Int32) (b9 : Int32) (d9 : Int32) (e9 : Int32) (f9 : Int32) : Nat → Int32 := (if (r_X3_in a9 (nI (0)) (nI (3))) = 0 then g else (if (r_X3_in b9 (nI (1)) (nI (9))) = 0 then g else (if (r_X3_in d9 (nI (1)) (nI (5))) = 0 then g else (if (r_X3_in e9 (nI (1)) (nI (400))) = 0 then g else (if (r_X3_in f9 (nI (1)) (nI (999))) = 0 then g else (if (tn (g (3))) = 8 then g else (upd (upd (upd (upd (upd (upd (upd g (258 + (6 * (tn (g (3))))) (a9)) ((258 + (6 * (tn (g (3))))) + 1) (b9)) ((258 + (6 * (tn (g (3))))) + 2) (d9)) ((258 + (6 * (tn (g (3))))) + 3) (e9)) ((258 + (6 * (tn (g (3))))) + 4) (f9)) ((258 + (6 * (tn (g (3))))) + 5) (d9)) (3) (nI ((tn (g (3))) + 1)))))))))
def o_X3_order_hi (g : Nat → Int32) (hi : Nat → Int32) (ch : Int32) (a9 : Int32) (b9 : Int32) (d9 : Int32) (e9 : Int32) (f9 : Int32) : Nat → Int32 := (if (r_X3_in a9 (nI (0)) (nI (3))) = 0 then hi else (if (r_X3_in b9 (nI (1)) (nI (9))) = 0 then hi else (if (r_X3_in d9 (nI (1)) (nI (5))) = 0 then hi else (if (r_X3_in e9 (nI (1)) (nI (400))) = 0 then hi else (if (r_X3_in f9 (nI (1)) (nI (999))) = 0 then hi else (if (tn (g (3))) = 8 then hi else (o_X3_remembers_hi g hi ch)))))))
def o_X3_order_ch (g : Nat → Int32) (ch : Int32) (a9 : Int32) (b9 : Int32) (d9 : Int32) (e9 : Int32) (f9 : Int32) : Int32 := (if (r_X3_in a9 (nI (0)) (nI (3))) = 0 then ch else (if (r_X3_in b9 (nI (1)) (nI (9))) = 0 then ch else (if (r_X3_in d9 (nI (1)) (nI (5))) = 0 then ch else (if (r_X3_in e9 (nI (1)) (nI (400))) = 0 then ch else (if (r_X3_in f9 (nI (1)) (nI (999))) = 0 then ch else (if (tn (g (3))) = 8 then ch else (o_X3_remembers_ch ch)))))))
theorem hd_X3_order : yX3_order.cls = RX3 ∧ yX3_order.cls ≠ "java/lang/invoke/MethodHandle" ∧ yX3_order.cls ≠ "java/lang/invoke/VarHandle" ∧ (parseMethodDescriptor yX3_order.desc).map (fun d => d.parameters.length) = some 5 := by decide +kernel
set_option maxHeartbeats 4000000 in
theorem t_X3_order (l : Launch) (Ω : jO) {t : Nat} {G0 : Mem} {g hi sv as_ inp why now told bef : Nat → Int32} {ch hs fed fa ws ns ct st_ pl iw sn : Int32} {sz : Nat} (ht : Ω.2.2.2 ≤ t) (a9 : Int32) (b9 : Int32) (d9 : Int32) (e9 : Int32) (f9 : Int32) (ho2 : g 3 = nI (tn (g 3))) (ho8 : tn (g 3) ≤ 8) (hch : ch = nI (tn ch)) (hch8 : tn ch ≤ 8) : Met l yX3_order (ws_ yX3_order cX3_order 7 (some .int)) ({ frames := 3, cells := 0, slots := 0, locals := 57 }) (va_Pc [.ref t, .int (a9), .int (b9), .int (d9), .int (e9), .int (f9)] (jWd Ω (tov Ω t G0 g hi sv as_ inp why now told bef ch hs fed fa ws ns ct st_ pl iw sn) sz)) (jQ Ω (jD (some (.int (r_X3_order g a9 b9 d9 e9 f9))) (tov Ω t G0 (o_X3_order_g g a9 b9 d9 e9 f9) (o_X3_order_hi g hi ch a9 b9 d9 e9 f9) sv as_ inp (o_X3_order_why g why now a9 b9 d9 e9 f9) (o_X3_order_now g now a9 b9 d9 e9 f9) told bef (o_X3_order_ch g ch a9 b9 d9 e9 f9) hs fed fa (o_X3_order_ws g ws a9 b9 d9 e9 f9) (o_X3_order_ns g ns a9 b9 d9 e9 f9) ct st_ pl iw sn) sz)) 0 0 (jB Ω) := by
  refine jMet (by decide) (Nat.le_of_ble_eq_true rfl) ?_
  intro p e s m args below meth c cx hr hnm
  refine J_loc [some (.ref t), some (.int (a9)), some (.int (b9)), some (.int (d9)), some (.int (e9)), some (.int (f9)), none] rfl ?_
  refine J_iload_n cx dX3_order_0 rfl ?_
  refine J_iconst (v := nI (0)) cx dX3_order_1 (by decide) ?_
  refine J_iconst (v := nI (3)) cx dX3_order_2 (by decide) ?_
  refine T_callSI cx [.int (a9), .int (nI (0)), .int (nI (3))] (t_X3_in l Ω (a9) (nI (0)) (nI (3))) dX3_order_3 (lw_S q2686 q2687 q93 q2688) hd_X3_in.2 rfl rfl ⟨Nat.le_of_ble_eq_true rfl, Nat.le_of_ble_eq_true rfl⟩ rfl rfl (Nat.le_of_ble_eq_true rfl) ?_
  refine J_if_eq (tgt := 52) cx dX3_order_6 (by decide) (fun c6 => ?_) (fun c6 => ?_)
  · refine J_bipush (v := -2) cx dX3_order_52 (by decide) ?_
    exact J_iret cx dX3_order_54 hr ⟨congrArg some (congrArg Value.int (by simp only [r_X3_order, o_X3_order_why, o_X3_order_now, o_X3_order_ws, o_X3_order_ns, o_X3_order_g, o_X3_order_hi, o_X3_order_ch, if_pos c6])), (tov_cg (by simp only [r_X3_order, o_X3_order_why, o_X3_order_now, o_X3_order_ws, o_X3_order_ns, o_X3_order_g, o_X3_order_hi, o_X3_order_ch, if_pos c6]) (by simp only [r_X3_order, o_X3_order_why, o_X3_order_now, o_X3_order_ws, o_X3_order_ns, o_X3_order_g, o_X3_order_hi, o_X3_order_ch, if_pos c6]) rfl rfl rfl (by simp only [r_X3_order, o_X3_order_why, o_X3_order_now, o_X3_order_ws, o_X3_order_ns, o_X3_order_g, o_X3_order_hi, o_X3_order_ch, if_pos c6]) (by simp only [r_X3_order, o_X3_order_why, o_X3_order_now, o_X3_order_ws, o_X3_order_ns, o_X3_order_g, o_X3_order_hi, o_X3_order_ch, if_pos c6]) rfl rfl (by simp only [r_X3_order, o_X3_order_why, o_X3_order_now, o_X3_order_ws, o_X3_order_ns, o_X3_order_g, o_X3_order_hi, o_X3_order_ch, if_pos c6]) rfl rfl rfl (by simp only [r_X3_order, o_X3_order_why, o_X3_order_now, o_X3_order_ws, o_X3_order_ns, o_X3_order_g, o_X3_order_hi, o_X3_order_ch, if_pos c6]) (by simp only [r_X3_order, o_X3_order_why, o_X3_order_now, o_X3_order_ws, o_X3_order_ns, o_X3_order_g, o_X3_order_hi, o_X3_order_ch, if_pos c6]) rfl rfl rfl rfl rfl), rfl⟩ (Nat.le_refl 0) (Nat.le_refl 0)
  · refine J_iload_n cx dX3_order_9 rfl ?_
    refine J_iconst (v := nI (1)) cx dX3_order_10 (by decide) ?_
    refine J_bipush (v := nI (9)) cx dX3_order_11 (by decide) ?_
    refine T_callSI cx [.int (b9), .int (nI (1)), .int (nI (9))] (t_X3_in l Ω (b9) (nI (1)) (nI (9))) dX3_order_13 (lw_S q2686 q2687 q93 q2688) hd_X3_in.2 rfl rfl ⟨Nat.le_of_ble_eq_true rfl, Nat.le_of_ble_eq_true rfl⟩ rfl rfl (Nat.le_of_ble_eq_true rfl) ?_
    refine J_if_eq (tgt := 52) cx dX3_order_16 (by decide) (fun c16 => ?_) (fun c16 => ?_)
    · refine J_bipush (v := -2) cx dX3_order_52 (by decide) ?_
      exact J_iret cx dX3_order_54 hr ⟨congrArg some (congrArg Value.int (by simp only [r_X3_order, o_X3_order_why, o_X3_order_now, o_X3_order_ws, o_X3_order_ns, o_X3_order_g, o_X3_order_hi, o_X3_order_ch, if_neg c6, if_pos c16])), (tov_cg (by simp only [r_X3_order, o_X3_order_why, o_X3_order_now, o_X3_order_ws, o_X3_order_ns, o_X3_order_g, o_X3_order_hi, o_X3_order_ch, if_neg c6, if_pos c16]) (by simp only [r_X3_order, o_X3_order_why, o_X3_order_now, o_X3_order_ws, o_X3_order_ns, o_X3_order_g, o_X3_order_hi, o_X3_order_ch, if_neg c6, if_pos c16]) rfl rfl rfl (by simp only [r_X3_order, o_X3_order_why, o_X3_order_now, o_X3_order_ws, o_X3_order_ns, o_X3_order_g, o_X3_order_hi, o_X3_order_ch, if_neg c6, if_pos c16]) (by simp only [r_X3_order, o_X3_order_why, o_X3_order_now, o_X3_order_ws, o_X3_order_ns, o_X3_order_g, o_X3_order_hi, o_X3_order_ch, if_neg c6, if_pos c16]) rfl rfl (by simp only [r_X3_order, o_X3_order_why, o_X3_order_now, o_X3_order_ws, o_X3_order_ns, o_X3_order_g, o_X3_order_hi, o_X3_order_ch, if_neg c6, if_pos c16]) rfl rfl rfl (by simp only [r_X3_order, o_X3_order_why, o_X3_order_now, o_X3_order_ws, o_X3_order_ns, o_X3_order_g, o_X3_order_hi, o_X3_order_ch, if_neg c6, if_pos c16]) (by simp only [r_X3_order, o_X3_order_why, o_X3_order_now, o_X3_order_ws, o_X3_order_ns, o_X3_order_g, o_X3_order_hi, o_X3_order_ch, if_neg c6, if_pos c16]) rfl rfl rfl rfl rfl), rfl⟩ (Nat.le_refl 0) (Nat.le_refl 0)
    · refine J_iload_n cx dX3_order_19 rfl ?_
      refine J_iconst (v := nI (1)) cx dX3_order_20 (by decide) ?_
      refine J_iconst (v := nI (5)) cx dX3_order_21 (by decide) ?_
      refine T_callSI cx [.int (d9), .int (nI (1)), .int (nI (5))] (t_X3_in l Ω (d9) (nI (1)) (nI (5))) dX3_order_22 (lw_S q2686 q2687 q93 q2688) hd_X3_in.2 rfl rfl ⟨Nat.le_of_ble_eq_true rfl, Nat.le_of_ble_eq_true rfl⟩ rfl rfl (Nat.le_of_ble_eq_true rfl) ?_
      refine J_if_eq (tgt := 52) cx dX3_order_25 (by decide) (fun c25 => ?_) (fun c25 => ?_)
      · refine J_bipush (v := -2) cx dX3_order_52 (by decide) ?_
        exact J_iret cx dX3_order_54 hr ⟨congrArg some (congrArg Value.int (by simp only [r_X3_order, o_X3_order_why, o_X3_order_now, o_X3_order_ws, o_X3_order_ns, o_X3_order_g, o_X3_order_hi, o_X3_order_ch, if_neg c6, if_neg c16, if_pos c25])), (tov_cg (by simp only [r_X3_order, o_X3_order_why, o_X3_order_now, o_X3_order_ws, o_X3_order_ns, o_X3_order_g, o_X3_order_hi, o_X3_order_ch, if_neg c6, if_neg c16, if_pos c25]) (by simp only [r_X3_order, o_X3_order_why, o_X3_order_now, o_X3_order_ws, o_X3_order_ns, o_X3_order_g, o_X3_order_hi, o_X3_order_ch, if_neg c6, if_neg c16, if_pos c25]) rfl rfl rfl (by simp only [r_X3_order, o_X3_order_why, o_X3_order_now, o_X3_order_ws, o_X3_order_ns, o_X3_order_g, o_X3_order_hi, o_X3_order_ch, if_neg c6, if_neg c16, if_pos c25]) (by simp only [r_X3_order, o_X3_order_why, o_X3_order_now, o_X3_order_ws, o_X3_order_ns, o_X3_order_g, o_X3_order_hi, o_X3_order_ch, if_neg c6, if_neg c16, if_pos c25]) rfl rfl (by simp only [r_X3_order, o_X3_order_why, o_X3_order_now, o_X3_order_ws, o_X3_order_ns, o_X3_order_g, o_X3_order_hi, o_X3_order_ch, if_neg c6, if_neg c16, if_pos c25]) rfl rfl rfl (by simp only [r_X3_order, o_X3_order_why, o_X3_order_now, o_X3_order_ws, o_X3_order_ns, o_X3_order_g, o_X3_order_hi, o_X3_order_ch, if_neg c6, if_neg c16, if_pos c25]) (by simp only [r_X3_order, o_X3_order_why, o_X3_order_now, o_X3_order_ws, o_X3_order_ns, o_X3_order_g, o_X3_order_hi, o_X3_order_ch, if_neg c6, if_neg c16, if_pos c25]) rfl rfl rfl rfl rfl), rfl⟩ (Nat.le_refl 0) (Nat.le_refl 0)
      · refine J_iload cx dX3_order_28 rfl ?_
        refine J_iconst (v := nI (1)) cx dX3_order_30 (by decide) ?_
        refine J_sipush (v := nI (400)) cx dX3_order_31 (by decide) ?_
        refine T_callSI cx [.int (e9), .int (nI (1)), .int (nI (400))] (t_X3_in l Ω (e9) (nI (1)) (nI (400))) dX3_order_34 (lw_S q2686 q2687 q93 q2688) hd_X3_in.2 rfl rfl ⟨Nat.le_of_ble_eq_true rfl, Nat.le_of_ble_eq_true rfl⟩ rfl rfl (Nat.le_of_ble_eq_true rfl) ?_
        refine J_if_eq (tgt := 52) cx dX3_order_37 (by decide) (fun c37 => ?_) (fun c37 => ?_)
        · refine J_bipush (v := -2) cx dX3_order_52 (by decide) ?_
          exact J_iret cx dX3_order_54 hr ⟨congrArg some (congrArg Value.int (by simp only [r_X3_order, o_X3_order_why, o_X3_order_now, o_X3_order_ws, o_X3_order_ns, o_X3_order_g, o_X3_order_hi, o_X3_order_ch, if_neg c6, if_neg c16, if_neg c25, if_pos c37])), (tov_cg (by simp only [r_X3_order, o_X3_order_why, o_X3_order_now, o_X3_order_ws, o_X3_order_ns, o_X3_order_g, o_X3_order_hi, o_X3_order_ch, if_neg c6, if_neg c16, if_neg c25, if_pos c37]) (by simp only [r_X3_order, o_X3_order_why, o_X3_order_now, o_X3_order_ws, o_X3_order_ns, o_X3_order_g, o_X3_order_hi, o_X3_order_ch, if_neg c6, if_neg c16, if_neg c25, if_pos c37]) rfl rfl rfl (by simp only [r_X3_order, o_X3_order_why, o_X3_order_now, o_X3_order_ws, o_X3_order_ns, o_X3_order_g, o_X3_order_hi, o_X3_order_ch, if_neg c6, if_neg c16, if_neg c25, if_pos c37]) (by simp only [r_X3_order, o_X3_order_why, o_X3_order_now, o_X3_order_ws, o_X3_order_ns, o_X3_order_g, o_X3_order_hi, o_X3_order_ch, if_neg c6, if_neg c16, if_neg c25, if_pos c37]) rfl rfl (by simp only [r_X3_order, o_X3_order_why, o_X3_order_now, o_X3_order_ws, o_X3_order_ns, o_X3_order_g, o_X3_order_hi, o_X3_order_ch, if_neg c6, if_neg c16, if_neg c25, if_pos c37]) rfl rfl rfl (by simp only [r_X3_order, o_X3_order_why, o_X3_order_now, o_X3_order_ws, o_X3_order_ns, o_X3_order_g, o_X3_order_hi, o_X3_order_ch, if_neg c6, if_neg c16, if_neg c25, if_pos c37]) (by simp only [r_X3_order, o_X3_order_why, o_X3_order_now, o_X3_order_ws, o_X3_order_ns, o_X3_order_g, o_X3_order_hi, o_X3_order_ch, if_neg c6, if_neg c16, if_neg c25, if_pos c37]) rfl rfl rfl rfl rfl), rfl⟩ (Nat.le_refl 0) (Nat.le_refl 0)
        · refine J_iload cx dX3_order_40 rfl ?_
          refine J_iconst (v := nI (1)) cx dX3_order_42 (by decide) ?_
          refine J_sipush (v := nI (999)) cx dX3_order_43 (by decide) ?_
          refine T_callSI cx [.int (f9), .int (nI (1)), .int (nI (999))] (t_X3_in l Ω (f9) (nI (1)) (nI (999))) dX3_order_46 (lw_S q2686 q2687 q93 q2688) hd_X3_in.2 rfl rfl ⟨Nat.le_of_ble_eq_true rfl, Nat.le_of_ble_eq_true rfl⟩ rfl rfl (Nat.le_of_ble_eq_true rfl) ?_
          refine J_if_ne (tgt := 55) cx dX3_order_49 (by decide) (fun c49 => ?_) (fun c49 => ?_)
          · refine J_aload_n cx dX3_order_55 rfl ?_
            refine T_get_g cx dX3_order_56 ?_
            refine J_iconst (v := nI (3)) cx dX3_order_59 (by decide) ?_
            refine T_ld_g cx dX3_order_60 (by omega) ?_
            refine J_top (.int (nI (tn (g (3))))) (congrArg Value.int (ho2)) ?_
            refine J_bipush (v := nI (8)) cx dX3_order_61 (by decide) ?_
            refine J_icmpN_ne (tgt := 80) cx dX3_order_63 (by decide) (by omega) (by omega) (fun c63 => ?_) (fun c63 => ?_)
            · refine J_aload_n cx dX3_order_80 rfl ?_
              refine T_callV cx [] (t_X3_remembers l Ω ht hch hch8) dX3_order_81 (lw_V q2697 q2699 qs40 q93 q2700) hd_X3_remembers rfl rfl ⟨Nat.le_of_ble_eq_true rfl, Nat.le_of_ble_eq_true rfl⟩ rfl rfl (Nat.le_of_ble_eq_true rfl) ?_
              refine J_sipush (v := nI (258)) cx dX3_order_84 (by decide) ?_
              refine J_bipush (v := nI (6)) cx dX3_order_87 (by decide) ?_
              refine J_aload_n cx dX3_order_89 rfl ?_
              refine T_get_g cx dX3_order_90 ?_
              refine J_iconst (v := nI (3)) cx dX3_order_93 (by decide) ?_
              refine T_ld_g cx dX3_order_94 (by omega) ?_
              refine J_top (.int (nI (tn (g (3))))) (congrArg Value.int (ho2)) ?_
              refine J_imulN cx dX3_order_95 ?_
              refine J_iaddN cx dX3_order_96 ?_
              refine J_istore6 cx dX3_order_97 (by decide) rfl ?_
              refine J_aload_n cx dX3_order_99 rfl ?_
              refine T_get_g cx dX3_order_100 ?_
              refine J_iload cx dX3_order_103 rfl ?_
              refine J_iload_n cx dX3_order_105 rfl ?_
              refine T_st_g cx ht dX3_order_106 (by omega) ?_
              refine J_aload_n cx dX3_order_107 rfl ?_
              refine T_get_g cx dX3_order_108 ?_
              refine J_iload cx dX3_order_111 rfl ?_
              refine J_iconst (v := nI (1)) cx dX3_order_113 (by decide) ?_
              refine J_iaddN cx dX3_order_114 ?_
              refine J_iload_n cx dX3_order_115 rfl ?_
              refine T_st_g cx ht dX3_order_116 (by omega) ?_
              refine J_aload_n cx dX3_order_117 rfl ?_
              refine T_get_g cx dX3_order_118 ?_
              refine J_iload cx dX3_order_121 rfl ?_
              refine J_iconst (v := nI (2)) cx dX3_order_123 (by decide) ?_
              refine J_iaddN cx dX3_order_124 ?_
              refine J_iload_n cx dX3_order_125 rfl ?_
              refine T_st_g cx ht dX3_order_126 (by omega) ?_
              refine J_aload_n cx dX3_order_127 rfl ?_
              refine T_get_g cx dX3_order_128 ?_
              refine J_iload cx dX3_order_131 rfl ?_
              refine J_iconst (v := nI (3)) cx dX3_order_133 (by decide) ?_
              refine J_iaddN cx dX3_order_134 ?_
              refine J_iload cx dX3_order_135 rfl ?_
              refine T_st_g cx ht dX3_order_137 (by omega) ?_
              refine J_aload_n cx dX3_order_138 rfl ?_
              refine T_get_g cx dX3_order_139 ?_
              refine J_iload cx dX3_order_142 rfl ?_
              refine J_iconst (v := nI (4)) cx dX3_order_144 (by decide) ?_
              refine J_iaddN cx dX3_order_145 ?_
              refine J_iload cx dX3_order_146 rfl ?_
              refine T_st_g cx ht dX3_order_148 (by omega) ?_
              refine J_aload_n cx dX3_order_149 rfl ?_
              refine T_get_g cx dX3_order_150 ?_
              refine J_iload cx dX3_order_153 rfl ?_
              refine J_iconst (v := nI (5)) cx dX3_order_155 (by decide) ?_
              refine J_iaddN cx dX3_order_156 ?_
              refine J_iload_n cx dX3_order_157 rfl ?_
              refine T_st_g cx ht dX3_order_158 (by omega) ?_
              refine J_aload_n cx dX3_order_159 rfl ?_
              refine T_get_g cx dX3_order_160 ?_
              refine J_iconst (v := nI (3)) cx dX3_order_163 (by decide) ?_
              refine J_dup2 cx dX3_order_164 rfl rfl ?_
              refine T_ld_g cx dX3_order_165 (by omega) ?_
              refine J_top (.int (g (3))) (congrArg Value.int ((pk_un (by omega)).trans ((pk_un (by omega)).trans ((pk_un (by omega)).trans ((pk_un (by omega)).trans ((pk_un (by omega)).trans ((pk_un (by omega)).trans (rfl)))))))) ?_
              refine J_top (.int (nI (tn (g (3))))) (congrArg Value.int (ho2)) ?_
              refine J_iconst (v := nI (1)) cx dX3_order_166 (by decide) ?_
              refine J_iaddN cx dX3_order_167 ?_
              refine T_st_g cx ht dX3_order_168 (by omega) ?_
              refine J_aload_n cx dX3_order_169 rfl ?_
              refine T_get_g cx dX3_order_170 ?_
              refine J_iconst (v := nI (3)) cx dX3_order_173 (by decide) ?_
              refine T_ld_g cx dX3_order_174 (by omega) ?_
              refine J_top (.int (nI ((tn (g (3))) + 1))) (congrArg Value.int (pk_us)) ?_
              refine J_iconst (v := nI (1)) cx dX3_order_175 (by decide) ?_
              refine J_isub cx dX3_order_176 ?_
              exact J_iret cx dX3_order_177 hr ⟨congrArg some (congrArg Value.int (by simp only [r_X3_order, o_X3_order_why, o_X3_order_now, o_X3_order_ws, o_X3_order_ns, o_X3_order_g, o_X3_order_hi, o_X3_order_ch, if_neg c6, if_neg c16, if_neg c25, if_neg c37, if_neg c49, if_neg c63])), (tov_cg (by simp only [r_X3_order, o_X3_order_why, o_X3_order_now, o_X3_order_ws, o_X3_order_ns, o_X3_order_g, o_X3_order_hi, o_X3_order_ch, if_neg c6, if_neg c16, if_neg c25, if_neg c37, if_neg c49, if_neg c63]) (by simp only [r_X3_order, o_X3_order_why, o_X3_order_now, o_X3_order_ws, o_X3_order_ns, o_X3_order_g, o_X3_order_hi, o_X3_order_ch, if_neg c6, if_neg c16, if_neg c25, if_neg c37, if_neg c49, if_neg c63]) rfl rfl rfl (by simp only [r_X3_order, o_X3_order_why, o_X3_order_now, o_X3_order_ws, o_X3_order_ns, o_X3_order_g, o_X3_order_hi, o_X3_order_ch, if_neg c6, if_neg c16, if_neg c25, if_neg c37, if_neg c49, if_neg c63]) (by simp only [r_X3_order, o_X3_order_why, o_X3_order_now, o_X3_order_ws, o_X3_order_ns, o_X3_order_g, o_X3_order_hi, o_X3_order_ch, if_neg c6, if_neg c16, if_neg c25, if_neg c37, if_neg c49, if_neg c63]) rfl rfl (by simp only [r_X3_order, o_X3_order_why, o_X3_order_now, o_X3_order_ws, o_X3_order_ns, o_X3_order_g, o_X3_order_hi, o_X3_order_ch, if_neg c6, if_neg c16, if_neg c25, if_neg c37, if_neg c49, if_neg c63]) rfl rfl rfl (by simp only [r_X3_order, o_X3_order_why, o_X3_order_now, o_X3_order_ws, o_X3_order_ns, o_X3_order_g, o_X3_order_hi, o_X3_order_ch, if_neg c6, if_neg c16, if_neg c25, if_neg c37, if_neg c49, if_neg c63]) (by simp only [r_X3_order, o_X3_order_why, o_X3_order_now, o_X3_order_ws, o_X3_order_ns, o_X3_order_g, o_X3_order_hi, o_X3_order_ch, if_neg c6, if_neg c16, if_neg c25, if_neg c37, if_neg c49, if_neg c63]) rfl rfl rfl rfl rfl), rfl⟩ (Nat.le_refl 0) (Nat.le_refl 0)
            · refine J_aload_n cx dX3_order_66 rfl ?_
              refine J_bipush (v := nI (12)) cx dX3_order_67 (by decide) ?_
              refine J_bipush (v := nI (8)) cx dX3_order_69 (by decide) ?_
              refine T_callI cx [.int (nI (12)), .int (nI (8))] (t_X3_noted l Ω ht (nI (12)) (nI (8))) dX3_order_71 (lw_V q2716 q2718 qs41 q93 q2719) hd_X3_noted rfl rfl ⟨Nat.le_of_ble_eq_true rfl, Nat.le_of_ble_eq_true rfl⟩ rfl rfl (Nat.le_of_ble_eq_true rfl) ?_
              refine J_pop cx dX3_order_74 rfl ?_
              refine J_aload_n cx dX3_order_75 rfl ?_
              refine T_callI cx [] (t_X3_refused l Ω ht nsk1.1 nsk1.2) dX3_order_76 (lw_V q2720 q2722 qs42 q93 q2723) hd_X3_refused rfl rfl ⟨Nat.le_of_ble_eq_true rfl, Nat.le_of_ble_eq_true rfl⟩ rfl rfl (Nat.le_of_ble_eq_true rfl) ?_
              exact J_iret cx dX3_order_79 hr ⟨congrArg some (congrArg Value.int (by simp only [r_X3_order, o_X3_order_why, o_X3_order_now, o_X3_order_ws, o_X3_order_ns, o_X3_order_g, o_X3_order_hi, o_X3_order_ch, if_neg c6, if_neg c16, if_neg c25, if_neg c37, if_neg c49, if_pos c63])), (tov_cg (by simp only [r_X3_order, o_X3_order_why, o_X3_order_now, o_X3_order_ws, o_X3_order_ns, o_X3_order_g, o_X3_order_hi, o_X3_order_ch, if_neg c6, if_neg c16, if_neg c25, if_neg c37, if_neg c49, if_pos c63]) (by simp only [r_X3_order, o_X3_order_why, o_X3_order_now, o_X3_order_ws, o_X3_order_ns, o_X3_order_g, o_X3_order_hi, o_X3_order_ch, if_neg c6, if_neg c16, if_neg c25, if_neg c37, if_neg c49, if_pos c63]) rfl rfl rfl (by simp only [r_X3_order, o_X3_order_why, o_X3_order_now, o_X3_order_ws, o_X3_order_ns, o_X3_order_g, o_X3_order_hi, o_X3_order_ch, if_neg c6, if_neg c16, if_neg c25, if_neg c37, if_neg c49, if_pos c63]) (by simp only [r_X3_order, o_X3_order_why, o_X3_order_now, o_X3_order_ws, o_X3_order_ns, o_X3_order_g, o_X3_order_hi, o_X3_order_ch, if_neg c6, if_neg c16, if_neg c25, if_neg c37, if_neg c49, if_pos c63]) rfl rfl (by simp only [r_X3_order, o_X3_order_why, o_X3_order_now, o_X3_order_ws, o_X3_order_ns, o_X3_order_g, o_X3_order_hi, o_X3_order_ch, if_neg c6, if_neg c16, if_neg c25, if_neg c37, if_neg c49, if_pos c63]) rfl rfl rfl (by simp only [r_X3_order, o_X3_order_why, o_X3_order_now, o_X3_order_ws, o_X3_order_ns, o_X3_order_g, o_X3_order_hi, o_X3_order_ch, if_neg c6, if_neg c16, if_neg c25, if_neg c37, if_neg c49, if_pos c63]) (by simp only [r_X3_order, o_X3_order_why, o_X3_order_now, o_X3_order_ws, o_X3_order_ns, o_X3_order_g, o_X3_order_hi, o_X3_order_ch, if_neg c6, if_neg c16, if_neg c25, if_neg c37, if_neg c49, if_pos c63]) rfl rfl rfl rfl rfl), rfl⟩ (Nat.le_refl 0) (Nat.le_refl 0)
          · refine J_bipush (v := -2) cx dX3_order_52 (by decide) ?_
            exact J_iret cx dX3_order_54 hr ⟨congrArg some (congrArg Value.int (by simp only [r_X3_order, o_X3_order_why, o_X3_order_now, o_X3_order_ws, o_X3_order_ns, o_X3_order_g, o_X3_order_hi, o_X3_order_ch, if_neg c6, if_neg c16, if_neg c25, if_neg c37, if_pos c49])), (tov_cg (by simp only [r_X3_order, o_X3_order_why, o_X3_order_now, o_X3_order_ws, o_X3_order_ns, o_X3_order_g, o_X3_order_hi, o_X3_order_ch, if_neg c6, if_neg c16, if_neg c25, if_neg c37, if_pos c49]) (by simp only [r_X3_order, o_X3_order_why, o_X3_order_now, o_X3_order_ws, o_X3_order_ns, o_X3_order_g, o_X3_order_hi, o_X3_order_ch, if_neg c6, if_neg c16, if_neg c25, if_neg c37, if_pos c49]) rfl rfl rfl (by simp only [r_X3_order, o_X3_order_why, o_X3_order_now, o_X3_order_ws, o_X3_order_ns, o_X3_order_g, o_X3_order_hi, o_X3_order_ch, if_neg c6, if_neg c16, if_neg c25, if_neg c37, if_pos c49]) (by simp only [r_X3_order, o_X3_order_why, o_X3_order_now, o_X3_order_ws, o_X3_order_ns, o_X3_order_g, o_X3_order_hi, o_X3_order_ch, if_neg c6, if_neg c16, if_neg c25, if_neg c37, if_pos c49]) rfl rfl (by simp only [r_X3_order, o_X3_order_why, o_X3_order_now, o_X3_order_ws, o_X3_order_ns, o_X3_order_g, o_X3_order_hi, o_X3_order_ch, if_neg c6, if_neg c16, if_neg c25, if_neg c37, if_pos c49]) rfl rfl rfl (by simp only [r_X3_order, o_X3_order_why, o_X3_order_now, o_X3_order_ws, o_X3_order_ns, o_X3_order_g, o_X3_order_hi, o_X3_order_ch, if_neg c6, if_neg c16, if_neg c25, if_neg c37, if_pos c49]) (by simp only [r_X3_order, o_X3_order_why, o_X3_order_now, o_X3_order_ws, o_X3_order_ns, o_X3_order_g, o_X3_order_hi, o_X3_order_ch, if_neg c6, if_neg c16, if_neg c25, if_neg c37, if_pos c49]) rfl rfl rfl rfl rfl), rfl⟩ (Nat.le_refl 0) (Nat.le_refl 0)
def r_X3_ordered (g : Nat → Int32) (o9 : Int32) (w9 : Int32) : Int32 := (if (r_X3_in o9 (nI (0)) ((g (3)) - (nI (1)))) = 0 then (-1) else (if (r_X3_in w9 (nI (0)) (nI (6))) = 0 then (-2) else (if (nI (6)) ≤ w9 then (if (r_X3_isGood g (tn o9)) = 0 then (nI (0)) else (nI (1))) else (g ((258 + (6 * (tn o9))) + (tn w9))))))
theorem hd_X3_ordered : yX3_ordered.cls = RX3 ∧ yX3_ordered.cls ≠ "java/lang/invoke/MethodHandle" ∧ yX3_ordered.cls ≠ "java/lang/invoke/VarHandle" ∧ (parseMethodDescriptor yX3_ordered.desc).map (fun d => d.parameters.length) = some 2 := by decide +kernel
set_option maxHeartbeats 4000000 in
theorem t_X3_ordered (l : Launch) (Ω : jO) {t : Nat} {G0 : Mem} {g hi sv as_ inp why now told bef : Nat → Int32} {ch hs fed fa ws ns ct st_ pl iw sn : Int32} {sz : Nat} (ht : Ω.2.2.2 ≤ t) (o9 : Int32) (w9 : Int32) (ho2 : g 3 = nI (tn (g 3))) (ho8 : tn (g 3) ≤ 8) : Met l yX3_ordered (ws_ yX3_ordered cX3_ordered 3 (some .int)) ({ frames := 2, cells := 0, slots := 0, locals := 34 }) (va_Pc [.ref t, .int (o9), .int (w9)] (jWd Ω (tov Ω t G0 g hi sv as_ inp why now told bef ch hs fed fa ws ns ct st_ pl iw sn) sz)) (jQ Ω (jD (some (.int (r_X3_ordered g o9 w9))) (tov Ω t G0 g hi sv as_ inp why now told bef ch hs fed fa ws ns ct st_ pl iw sn) sz)) 0 0 (jB Ω) := by
  refine jMet (by decide) (Nat.le_of_ble_eq_true rfl) ?_
  intro p e s m args below meth c cx hr hnm
  refine J_loc [some (.ref t), some (.int (o9)), some (.int (w9))] rfl ?_
  refine J_iload_n cx dX3_ordered_0 rfl ?_
  refine J_iconst (v := nI (0)) cx dX3_ordered_1 (by decide) ?_
  refine J_aload_n cx dX3_ordered_2 rfl ?_
  refine T_get_g cx dX3_ordered_3 ?_
  refine J_iconst (v := nI (3)) cx dX3_ordered_6 (by decide) ?_
  refine T_ld_g cx dX3_ordered_7 (by omega) ?_
  refine J_iconst (v := nI (1)) cx dX3_ordered_8 (by decide) ?_
  refine J_isub cx dX3_ordered_9 ?_
  refine T_callSI cx [.int (o9), .int (nI (0)), .int ((g (3)) - (nI (1)))] (t_X3_in l Ω (o9) (nI (0)) ((g (3)) - (nI (1)))) dX3_ordered_10 (lw_S q2686 q2687 q93 q2688) hd_X3_in.2 rfl rfl ⟨Nat.le_of_ble_eq_true rfl, Nat.le_of_ble_eq_true rfl⟩ rfl rfl (Nat.le_of_ble_eq_true rfl) ?_
  refine J_if_ne (tgt := 18) cx dX3_ordered_13 (by decide) (fun c13 => ?_) (fun c13 => ?_)
  · refine J_iload_n cx dX3_ordered_18 rfl ?_
    refine J_iconst (v := nI (0)) cx dX3_ordered_19 (by decide) ?_
    refine J_bipush (v := nI (6)) cx dX3_ordered_20 (by decide) ?_
    refine T_callSI cx [.int (w9), .int (nI (0)), .int (nI (6))] (t_X3_in l Ω (w9) (nI (0)) (nI (6))) dX3_ordered_22 (lw_S q2686 q2687 q93 q2688) hd_X3_in.2 rfl rfl ⟨Nat.le_of_ble_eq_true rfl, Nat.le_of_ble_eq_true rfl⟩ rfl rfl (Nat.le_of_ble_eq_true rfl) ?_
    refine J_if_ne (tgt := 31) cx dX3_ordered_25 (by decide) (fun c25 => ?_) (fun c25 => ?_)
    · refine J_iload_n cx dX3_ordered_31 rfl ?_
      refine J_bipush (v := nI (6)) cx dX3_ordered_32 (by decide) ?_
      refine J_icmp_ge (tgt := 55) cx dX3_ordered_34 (by decide) (fun c34 => ?_) (fun c34 => ?_)
      · have hx55_1 := (in_m1 ho2 c13).2
        have hre55_1 : o9 = nI (tn o9) := (in_m1 ho2 c13).1
        refine J_loc [some (.ref t), some (.int (nI (tn o9))), some (.int (w9))] (by simp only [← hre55_1]) ?_
        refine J_aload_n cx dX3_ordered_55 rfl ?_
        refine J_iload_n cx dX3_ordered_56 rfl ?_
        refine T_callI cx [.int (nI (tn o9))] (t_X3_isGood l Ω ht (tn o9) (by omega)) dX3_ordered_57 (lw_V q2839 q2841 qs60 q93 q2842) hd_X3_isGood rfl rfl ⟨Nat.le_of_ble_eq_true rfl, Nat.le_of_ble_eq_true rfl⟩ rfl rfl (Nat.le_of_ble_eq_true rfl) ?_
        refine J_if_eq (tgt := 67) cx dX3_ordered_60 (by decide) (fun c60 => ?_) (fun c60 => ?_)
        · refine J_iconst (v := nI (0)) cx dX3_ordered_67 (by decide) ?_
          exact J_iret cx dX3_ordered_68 hr ⟨congrArg some (congrArg Value.int (by simp only [r_X3_ordered, if_neg c13, if_neg c25, if_pos c34, if_pos c60])), rfl, rfl⟩ (Nat.le_refl 0) (Nat.le_refl 0)
        · refine J_iconst (v := nI (1)) cx dX3_ordered_63 (by decide) ?_
          refine J_goto (tgt := 68) cx dX3_ordered_64 (by decide) ?_
          exact J_iret cx dX3_ordered_68 hr ⟨congrArg some (congrArg Value.int (by simp only [r_X3_ordered, if_neg c13, if_neg c25, if_pos c34, if_neg c60])), rfl, rfl⟩ (Nat.le_refl 0) (Nat.le_refl 0)
      · have hx37_1 := (in_m1 ho2 c13).2
        have hre37_1 : o9 = nI (tn o9) := (in_m1 ho2 c13).1
        refine J_loc [some (.ref t), some (.int (nI (tn o9))), some (.int (w9))] (by simp only [← hre37_1]) ?_
        have hx37_2 := (in_n (by decide) c25).2
        have hre37_2 : w9 = nI (tn w9) := (in_n (by decide) c25).1
        refine J_loc [some (.ref t), some (.int (nI (tn o9))), some (.int (nI (tn w9)))] (by simp only [← hre37_2]) ?_
        refine J_aload_n cx dX3_ordered_37 rfl ?_
        refine T_get_g cx dX3_ordered_38 ?_
        refine J_sipush (v := nI (258)) cx dX3_ordered_41 (by decide) ?_
        refine J_bipush (v := nI (6)) cx dX3_ordered_44 (by decide) ?_
        refine J_iload_n cx dX3_ordered_46 rfl ?_
        refine J_imulN cx dX3_ordered_47 ?_
        refine J_iaddN cx dX3_ordered_48 ?_
        refine J_iload_n cx dX3_ordered_49 rfl ?_
        refine J_iaddN cx dX3_ordered_50 ?_
        refine T_ld_g cx dX3_ordered_51 (by omega) ?_
        refine J_goto (tgt := 68) cx dX3_ordered_52 (by decide) ?_
        exact J_iret cx dX3_ordered_68 hr ⟨congrArg some (congrArg Value.int (by simp only [r_X3_ordered, if_neg c13, if_neg c25, if_neg c34])), rfl, rfl⟩ (Nat.le_refl 0) (Nat.le_refl 0)
    · refine J_bipush (v := -2) cx dX3_ordered_28 (by decide) ?_
      exact J_iret cx dX3_ordered_30 hr ⟨congrArg some (congrArg Value.int (by simp only [r_X3_ordered, if_neg c13, if_pos c25])), rfl, rfl⟩ (Nat.le_refl 0) (Nat.le_refl 0)
  · refine J_iconst (v := -1) cx dX3_ordered_16 (by decide) ?_
    exact J_iret cx dX3_ordered_17 hr ⟨congrArg some (congrArg Value.int (by simp only [r_X3_ordered, if_pos c13])), rfl, rfl⟩ (Nat.le_refl 0) (Nat.le_refl 0)
def S_inState (g : Nat → Int32) (x9 : Int32) : Nat → Int32
  | 0 => (nI (0))
  | k1 + 1 => (if (g ((50 + (13 * k1)) + 0)) = x9 then ((S_inState g x9 k1) + (nI (1))) else ((S_inState g x9 k1) + (nI (0))))
theorem hd_X3_inState : yX3_inState.cls = RX3 ∧ yX3_inState.cls ≠ "java/lang/invoke/MethodHandle" ∧ yX3_inState.cls ≠ "java/lang/invoke/VarHandle" ∧ (parseMethodDescriptor yX3_inState.desc).map (fun d => d.parameters.length) = some 1 := by decide +kernel
set_option maxHeartbeats 4000000 in
theorem t_X3_inState (l : Launch) (Ω : jO) {t : Nat} {G0 : Mem} {g hi sv as_ inp why now told bef : Nat → Int32} {ch hs fed fa ws ns ct st_ pl iw sn : Int32} {sz : Nat} (ht : Ω.2.2.2 ≤ t) (x9 : Int32) (hn2 : g 2 = nI (tn (g 2))) (hn16 : tn (g 2) ≤ 16) : Met l yX3_inState (ws_ yX3_inState cX3_inState 4 (some .int)) ({ frames := 2, cells := 0, slots := 0, locals := 32 }) (va_Pc [.ref t, .int (x9)] (jWd Ω (tov Ω t G0 g hi sv as_ inp why now told bef ch hs fed fa ws ns ct st_ pl iw sn) sz)) (jQ Ω (jD (some (.int (S_inState g x9 (tn (g (2)))))) (tov Ω t G0 g hi sv as_ inp why now told bef ch hs fed fa ws ns ct st_ pl iw sn) sz)) 0 0 (jB Ω) := by
  refine jMet (by decide) (Nat.le_of_ble_eq_true rfl) ?_
  intro p e s m args below meth c cx hr hnm
  refine J_loc [some (.ref t), some (.int (x9)), none, none] rfl ?_
  refine J_iconst (v := nI (0)) cx dX3_inState_0 (by decide) ?_
  refine J_istore_n2 cx dX3_inState_1 (by decide) rfl ?_
  refine J_iconst (v := nI (0)) cx dX3_inState_2 (by decide) ?_
  refine J_istore_n3 cx dX3_inState_3 (by decide) rfl ?_
  have loop4 : ∀ (n k1 : Nat), (tn (g (2))) + 1 ≤ n + k1 → k1 ≤ (tn (g (2))) → J p l e ({ frames := 2, cells := 0, slots := 0, locals := 32 } : Room) s m args below meth c Ω 4 (MQ below (jQ Ω (jD (some (.int (S_inState g x9 (tn (g (2)))))) (tov Ω t G0 g hi sv as_ inp why now told bef ch hs fed fa ws ns ct st_ pl iw sn) sz)) args s 0 0 (jB Ω)) 0 0 sz (tov Ω t G0 g hi sv as_ inp why now told bef ch hs fed fa ws ns ct st_ pl iw sn) 4 [some (.ref t), some (.int (x9)), some (.int (S_inState g x9 k1)), some (.int (nI (k1)))] [] := by
    intro n
    induction n with
    | zero => intro k1 hn1 hk1 ; exact absurd hn1 (by omega)
    | succ n ih =>
      intro k1 hn1 hk1 
      refine J_iload_n cx dX3_inState_4 rfl ?_
      refine J_aload_n cx dX3_inState_5 rfl ?_
      refine T_get_g cx dX3_inState_6 ?_
      refine J_iconst (v := nI (2)) cx dX3_inState_9 (by decide) ?_
      refine T_ld_g cx dX3_inState_10 (by omega) ?_
      refine J_top (.int (nI (tn (g (2))))) (congrArg Value.int (hn2)) ?_
      refine J_icmpN_ge (tgt := 43) cx dX3_inState_11 (by decide) (by omega) (by omega) (fun c11 => ?_) (fun c11 => ?_)
      · have hkx : tn (g (2)) = k1 := Eq.symm (by omega)
        subst hkx
        refine J_iload_n cx dX3_inState_43 rfl ?_
        exact J_iret cx dX3_inState_44 hr ⟨congrArg some (congrArg Value.int rfl), rfl, rfl⟩ (Nat.le_refl 0) (Nat.le_refl 0)
      · refine J_iload_n cx dX3_inState_14 rfl ?_
        refine J_aload_n cx dX3_inState_15 rfl ?_
        refine T_get_g cx dX3_inState_16 ?_
        refine J_iload_n cx dX3_inState_19 rfl ?_
        refine T_callSI cx [.int (nI (k1))] (t_X3_at l Ω (k1)) dX3_inState_20 (lw_S q2736 q2737 q93 q2738) hd_X3_at.2 rfl rfl ⟨Nat.le_of_ble_eq_true rfl, Nat.le_of_ble_eq_true rfl⟩ rfl rfl (Nat.le_of_ble_eq_true rfl) ?_
        refine J_iconst (v := nI (0)) cx dX3_inState_23 (by decide) ?_
        refine J_iaddN cx dX3_inState_24 ?_
        refine T_ld_g cx dX3_inState_25 (by omega) ?_
        refine J_iload_n cx dX3_inState_26 rfl ?_
        refine J_icmp_ne (tgt := 34) cx dX3_inState_27 (by decide) (fun c27 => ?_) (fun c27 => ?_)
        · refine J_iconst (v := nI (0)) cx dX3_inState_34 (by decide) ?_
          refine J_iadd cx dX3_inState_35 ?_
          refine J_istore_n2 cx dX3_inState_36 (by decide) rfl ?_
          refine J_iinc3 (v := nI (k1 + 1)) cx dX3_inState_37 (nI_1 k1) (by decide) rfl ?_
          refine J_goto (tgt := 4) cx dX3_inState_40 (by decide) ?_
          refine J_sub (L1 := [some (.ref t), some (.int (x9)), some (.int (S_inState g x9 (k1 + 1))), some (.int (nI (k1 + 1)))]) (jsub_s (jsub_s (jsub_e (congrArg Value.int (by simp only [S_inState, if_pos c11, if_neg c27])) (jsub_s jsub_0)))) ?_
          exact ih (k1 + 1) (by omega) (by omega) 
        · refine J_iconst (v := nI (1)) cx dX3_inState_30 (by decide) ?_
          refine J_goto (tgt := 35) cx dX3_inState_31 (by decide) ?_
          refine J_iadd cx dX3_inState_35 ?_
          refine J_istore_n2 cx dX3_inState_36 (by decide) rfl ?_
          refine J_iinc3 (v := nI (k1 + 1)) cx dX3_inState_37 (nI_1 k1) (by decide) rfl ?_
          refine J_goto (tgt := 4) cx dX3_inState_40 (by decide) ?_
          refine J_sub (L1 := [some (.ref t), some (.int (x9)), some (.int (S_inState g x9 (k1 + 1))), some (.int (nI (k1 + 1)))]) (jsub_s (jsub_s (jsub_e (congrArg Value.int (by simp only [S_inState, if_pos c11, if_pos c27])) (jsub_s jsub_0)))) ?_
          exact ih (k1 + 1) (by omega) (by omega) 
  refine J_sub (L1 := [some (.ref t), some (.int (x9)), some (.int (S_inState g x9 0)), some (.int (nI (0)))]) (jsub_s (jsub_s (jsub_e (congrArg Value.int rfl) (jsub_s jsub_0)))) ?_
  exact loop4 (tn (g (2)) + 1) 0 (by omega) (by omega) 
def r_X3_wheel (g : Nat → Int32) (w9 : Int32) : Int32 := (if w9 = 0 then (g (38)) else (if w9 = 1 then (if (g (38)) = (-1) then (nI (0)) else (g (39))) else (if w9 = 2 then (S_inState g (nI (0)) (tn (g (2)))) else (if w9 = 3 then (g (40)) else (-2)))))
theorem hd_X3_wheel : yX3_wheel.cls = RX3 ∧ yX3_wheel.cls ≠ "java/lang/invoke/MethodHandle" ∧ yX3_wheel.cls ≠ "java/lang/invoke/VarHandle" ∧ (parseMethodDescriptor yX3_wheel.desc).map (fun d => d.parameters.length) = some 1 := by decide +kernel
set_option maxHeartbeats 4000000 in
theorem t_X3_wheel (l : Launch) (Ω : jO) {t : Nat} {G0 : Mem} {g hi sv as_ inp why now told bef : Nat → Int32} {ch hs fed fa ws ns ct st_ pl iw sn : Int32} {sz : Nat} (ht : Ω.2.2.2 ≤ t) (w9 : Int32) (hn2 : g 2 = nI (tn (g 2))) (hn16 : tn (g 2) ≤ 16) : Met l yX3_wheel (ws_ yX3_wheel cX3_wheel 2 (some .int)) ({ frames := 3, cells := 0, slots := 0, locals := 55 }) (va_Pc [.ref t, .int (w9)] (jWd Ω (tov Ω t G0 g hi sv as_ inp why now told bef ch hs fed fa ws ns ct st_ pl iw sn) sz)) (jQ Ω (jD (some (.int (r_X3_wheel g w9))) (tov Ω t G0 g hi sv as_ inp why now told bef ch hs fed fa ws ns ct st_ pl iw sn) sz)) 0 0 (jB Ω) := by
  refine jMet (by decide) (Nat.le_of_ble_eq_true rfl) ?_
  intro p e s m args below meth c cx hr hnm
  refine J_loc [some (.ref t), some (.int (w9))] rfl ?_
  refine J_iload_n cx dX3_wheel_0 rfl ?_
  by_cases c1_0 : w9 = 0
  · refine J_tableIn (off := 31) (tgt := 32) cx dX3_wheel_1 (by rw [c1_0]; decide) (by rw [c1_0]; decide) (by rw [c1_0]; rfl) (by decide) ?_
    refine J_aload_n cx dX3_wheel_32 rfl ?_
    refine T_get_g cx dX3_wheel_33 ?_
    refine J_bipush (v := nI (38)) cx dX3_wheel_36 (by decide) ?_
    refine T_ld_g cx dX3_wheel_38 (by omega) ?_
    exact J_iret cx dX3_wheel_39 hr ⟨congrArg some (congrArg Value.int (by simp only [r_X3_wheel, if_pos c1_0])), rfl, rfl⟩ (Nat.le_refl 0) (Nat.le_refl 0)
  by_cases c1_1 : w9 = 1
  · refine J_tableIn (off := 39) (tgt := 40) cx dX3_wheel_1 (by rw [c1_1]; decide) (by rw [c1_1]; decide) (by rw [c1_1]; rfl) (by decide) ?_
    refine J_aload_n cx dX3_wheel_40 rfl ?_
    refine T_get_g cx dX3_wheel_41 ?_
    refine J_bipush (v := nI (38)) cx dX3_wheel_44 (by decide) ?_
    refine T_ld_g cx dX3_wheel_46 (by omega) ?_
    refine J_iconst (v := -1) cx dX3_wheel_47 (by decide) ?_
    refine J_icmp_ne (tgt := 55) cx dX3_wheel_48 (by decide) (fun c48 => ?_) (fun c48 => ?_)
    · refine J_aload_n cx dX3_wheel_55 rfl ?_
      refine T_get_g cx dX3_wheel_56 ?_
      refine J_bipush (v := nI (39)) cx dX3_wheel_59 (by decide) ?_
      refine T_ld_g cx dX3_wheel_61 (by omega) ?_
      exact J_iret cx dX3_wheel_62 hr ⟨congrArg some (congrArg Value.int (by simp only [r_X3_wheel, if_neg c1_0, if_pos c1_1, if_neg c48])), rfl, rfl⟩ (Nat.le_refl 0) (Nat.le_refl 0)
    · refine J_iconst (v := nI (0)) cx dX3_wheel_51 (by decide) ?_
      refine J_goto (tgt := 62) cx dX3_wheel_52 (by decide) ?_
      exact J_iret cx dX3_wheel_62 hr ⟨congrArg some (congrArg Value.int (by simp only [r_X3_wheel, if_neg c1_0, if_pos c1_1, if_pos c48])), rfl, rfl⟩ (Nat.le_refl 0) (Nat.le_refl 0)
  by_cases c1_2 : w9 = 2
  · refine J_tableIn (off := 62) (tgt := 63) cx dX3_wheel_1 (by rw [c1_2]; decide) (by rw [c1_2]; decide) (by rw [c1_2]; rfl) (by decide) ?_
    refine J_aload_n cx dX3_wheel_63 rfl ?_
    refine J_iconst (v := nI (0)) cx dX3_wheel_64 (by decide) ?_
    refine T_callI cx [.int (nI (0))] (t_X3_inState l Ω ht (nI (0)) hn2 hn16) dX3_wheel_65 (lw_V q2909 q2911 qs69 q93 q2912) hd_X3_inState rfl rfl ⟨Nat.le_of_ble_eq_true rfl, Nat.le_of_ble_eq_true rfl⟩ rfl rfl (Nat.le_of_ble_eq_true rfl) ?_
    exact J_iret cx dX3_wheel_68 hr ⟨congrArg some (congrArg Value.int (by simp only [r_X3_wheel, if_neg c1_0, if_neg c1_1, if_pos c1_2])), rfl, rfl⟩ (Nat.le_refl 0) (Nat.le_refl 0)
  by_cases c1_3 : w9 = 3
  · refine J_tableIn (off := 68) (tgt := 69) cx dX3_wheel_1 (by rw [c1_3]; decide) (by rw [c1_3]; decide) (by rw [c1_3]; rfl) (by decide) ?_
    refine J_aload_n cx dX3_wheel_69 rfl ?_
    refine T_get_g cx dX3_wheel_70 ?_
    refine J_bipush (v := nI (40)) cx dX3_wheel_73 (by decide) ?_
    refine T_ld_g cx dX3_wheel_75 (by omega) ?_
    exact J_iret cx dX3_wheel_76 hr ⟨congrArg some (congrArg Value.int (by simp only [r_X3_wheel, if_neg c1_0, if_neg c1_1, if_neg c1_2, if_pos c1_3])), rfl, rfl⟩ (Nat.le_refl 0) (Nat.le_refl 0)
  have hout1 : w9.toInt < 0 ∨ 3 < w9.toInt := by
    have ec1_0 := jne_int (n := 0) 0 (by decide) c1_0
    have ec1_1 := jne_int (n := 1) 1 (by decide) c1_1
    have ec1_2 := jne_int (n := 2) 2 (by decide) c1_2
    have ec1_3 := jne_int (n := 3) 3 (by decide) c1_3
    omega
  refine J_tableOut (tgt := 77) cx dX3_wheel_1 hout1 (by decide) ?_
  refine J_bipush (v := -2) cx dX3_wheel_77 (by decide) ?_
  exact J_iret cx dX3_wheel_79 hr ⟨congrArg some (congrArg Value.int (by simp only [r_X3_wheel, if_neg c1_0, if_neg c1_1, if_neg c1_2, if_neg c1_3])), rfl, rfl⟩ (Nat.le_refl 0) (Nat.le_refl 0)
def S_allCracks (g : Nat → Int32) : Nat → Int32
  | 0 => (nI (0))
  | k1 + 1 => ((S_allCracks g k1) + (g ((50 + (13 * k1)) + 4)))
theorem hd_X3_allCracks : yX3_allCracks.cls = RX3 ∧ yX3_allCracks.cls ≠ "java/lang/invoke/MethodHandle" ∧ yX3_allCracks.cls ≠ "java/lang/invoke/VarHandle" ∧ (parseMethodDescriptor yX3_allCracks.desc).map (fun d => d.parameters.length) = some 0 := by decide +kernel
set_option maxHeartbeats 4000000 in
theorem t_X3_allCracks (l : Launch) (Ω : jO) {t : Nat} {G0 : Mem} {g hi sv as_ inp why now told bef : Nat → Int32} {ch hs fed fa ws ns ct st_ pl iw sn : Int32} {sz : Nat} (ht : Ω.2.2.2 ≤ t)  (hn2 : g 2 = nI (tn (g 2))) (hn16 : tn (g 2) ≤ 16) : Met l yX3_allCracks (ws_ yX3_allCracks cX3_allCracks 3 (some .int)) ({ frames := 2, cells := 0, slots := 0, locals := 32 }) (va_Pc [.ref t] (jWd Ω (tov Ω t G0 g hi sv as_ inp why now told bef ch hs fed fa ws ns ct st_ pl iw sn) sz)) (jQ Ω (jD (some (.int (S_allCracks g (tn (g (2)))))) (tov Ω t G0 g hi sv as_ inp why now told bef ch hs fed fa ws ns ct st_ pl iw sn) sz)) 0 0 (jB Ω) := by
  refine jMet (by decide) (Nat.le_of_ble_eq_true rfl) ?_
  intro p e s m args below meth c cx hr hnm
  refine J_loc [some (.ref t), none, none] rfl ?_
  refine J_iconst (v := nI (0)) cx dX3_allCracks_0 (by decide) ?_
  refine J_istore_n1 cx dX3_allCracks_1 (by decide) rfl ?_
  refine J_iconst (v := nI (0)) cx dX3_allCracks_2 (by decide) ?_
  refine J_istore_n2 cx dX3_allCracks_3 (by decide) rfl ?_
  have loop4 : ∀ (n k1 : Nat), (tn (g (2))) + 1 ≤ n + k1 → k1 ≤ (tn (g (2))) → J p l e ({ frames := 2, cells := 0, slots := 0, locals := 32 } : Room) s m args below meth c Ω 3 (MQ below (jQ Ω (jD (some (.int (S_allCracks g (tn (g (2)))))) (tov Ω t G0 g hi sv as_ inp why now told bef ch hs fed fa ws ns ct st_ pl iw sn) sz)) args s 0 0 (jB Ω)) 0 0 sz (tov Ω t G0 g hi sv as_ inp why now told bef ch hs fed fa ws ns ct st_ pl iw sn) 4 [some (.ref t), some (.int (S_allCracks g k1)), some (.int (nI (k1)))] [] := by
    intro n
    induction n with
    | zero => intro k1 hn1 hk1 ; exact absurd hn1 (by omega)
    | succ n ih =>
      intro k1 hn1 hk1 
      refine J_iload_n cx dX3_allCracks_4 rfl ?_
      refine J_aload_n cx dX3_allCracks_5 rfl ?_
      refine T_get_g cx dX3_allCracks_6 ?_
      refine J_iconst (v := nI (2)) cx dX3_allCracks_9 (by decide) ?_
      refine T_ld_g cx dX3_allCracks_10 (by omega) ?_
      refine J_top (.int (nI (tn (g (2))))) (congrArg Value.int (hn2)) ?_
      refine J_icmpN_ge (tgt := 34) cx dX3_allCracks_11 (by decide) (by omega) (by omega) (fun c11 => ?_) (fun c11 => ?_)
      · have hkx : tn (g (2)) = k1 := Eq.symm (by omega)
        subst hkx
        refine J_iload_n cx dX3_allCracks_34 rfl ?_
        exact J_iret cx dX3_allCracks_35 hr ⟨congrArg some (congrArg Value.int rfl), rfl, rfl⟩ (Nat.le_refl 0) (Nat.le_refl 0)
      · refine J_iload_n cx dX3_allCracks_14 rfl ?_
        refine J_aload_n cx dX3_allCracks_15 rfl ?_
        refine T_get_g cx dX3_allCracks_16 ?_
        refine J_iload_n cx dX3_allCracks_19 rfl ?_
        refine T_callSI cx [.int (nI (k1))] (t_X3_at l Ω (k1)) dX3_allCracks_20 (lw_S q2736 q2737 q93 q2738) hd_X3_at.2 rfl rfl ⟨Nat.le_of_ble_eq_true rfl, Nat.le_of_ble_eq_true rfl⟩ rfl rfl (Nat.le_of_ble_eq_true rfl) ?_
        refine J_iconst (v := nI (4)) cx dX3_allCracks_23 (by decide) ?_
        refine J_iaddN cx dX3_allCracks_24 ?_
        refine T_ld_g cx dX3_allCracks_25 (by omega) ?_
        refine J_iadd cx dX3_allCracks_26 ?_
        refine J_istore_n1 cx dX3_allCracks_27 (by decide) rfl ?_
        refine J_iinc2 (v := nI (k1 + 1)) cx dX3_allCracks_28 (nI_1 k1) (by decide) rfl ?_
        refine J_goto (tgt := 4) cx dX3_allCracks_31 (by decide) ?_
        refine J_sub (L1 := [some (.ref t), some (.int (S_allCracks g (k1 + 1))), some (.int (nI (k1 + 1)))]) (jsub_s (jsub_e (congrArg Value.int (by simp only [S_allCracks, if_pos c11])) (jsub_s jsub_0))) ?_
        exact ih (k1 + 1) (by omega) (by omega) 
  refine J_sub (L1 := [some (.ref t), some (.int (S_allCracks g 0)), some (.int (nI (0)))]) (jsub_s (jsub_e (congrArg Value.int rfl) (jsub_s jsub_0))) ?_
  exact loop4 (tn (g (2)) + 1) 0 (by omega) (by omega) 
def S_goodOrders (g : Nat → Int32) : Nat → Int32
  | 0 => (nI (0))
  | k1 + 1 => (if (r_X3_isGood g k1) = 0 then ((S_goodOrders g k1) + (nI (0))) else ((S_goodOrders g k1) + (nI (1))))
theorem hd_X3_goodOrders : yX3_goodOrders.cls = RX3 ∧ yX3_goodOrders.cls ≠ "java/lang/invoke/MethodHandle" ∧ yX3_goodOrders.cls ≠ "java/lang/invoke/VarHandle" ∧ (parseMethodDescriptor yX3_goodOrders.desc).map (fun d => d.parameters.length) = some 0 := by decide +kernel
set_option maxHeartbeats 4000000 in
theorem t_X3_goodOrders (l : Launch) (Ω : jO) {t : Nat} {G0 : Mem} {g hi sv as_ inp why now told bef : Nat → Int32} {ch hs fed fa ws ns ct st_ pl iw sn : Int32} {sz : Nat} (ht : Ω.2.2.2 ≤ t)  (ho2 : g 3 = nI (tn (g 3))) (ho8 : tn (g 3) ≤ 8) : Met l yX3_goodOrders (ws_ yX3_goodOrders cX3_goodOrders 3 (some .int)) ({ frames := 2, cells := 0, slots := 0, locals := 33 }) (va_Pc [.ref t] (jWd Ω (tov Ω t G0 g hi sv as_ inp why now told bef ch hs fed fa ws ns ct st_ pl iw sn) sz)) (jQ Ω (jD (some (.int (S_goodOrders g (tn (g (3)))))) (tov Ω t G0 g hi sv as_ inp why now told bef ch hs fed fa ws ns ct st_ pl iw sn) sz)) 0 0 (jB Ω) := by
  refine jMet (by decide) (Nat.le_of_ble_eq_true rfl) ?_
  intro p e s m args below meth c cx hr hnm
  refine J_loc [some (.ref t), none, none] rfl ?_
  refine J_iconst (v := nI (0)) cx dX3_goodOrders_0 (by decide) ?_
  refine J_istore_n1 cx dX3_goodOrders_1 (by decide) rfl ?_
  refine J_iconst (v := nI (0)) cx dX3_goodOrders_2 (by decide) ?_
  refine J_istore_n2 cx dX3_goodOrders_3 (by decide) rfl ?_
  have loop4 : ∀ (n k1 : Nat), (tn (g (3))) + 1 ≤ n + k1 → k1 ≤ (tn (g (3))) → J p l e ({ frames := 2, cells := 0, slots := 0, locals := 33 } : Room) s m args below meth c Ω 3 (MQ below (jQ Ω (jD (some (.int (S_goodOrders g (tn (g (3)))))) (tov Ω t G0 g hi sv as_ inp why now told bef ch hs fed fa ws ns ct st_ pl iw sn) sz)) args s 0 0 (jB Ω)) 0 0 sz (tov Ω t G0 g hi sv as_ inp why now told bef ch hs fed fa ws ns ct st_ pl iw sn) 4 [some (.ref t), some (.int (S_goodOrders g k1)), some (.int (nI (k1)))] [] := by
    intro n
    induction n with
    | zero => intro k1 hn1 hk1 ; exact absurd hn1 (by omega)
    | succ n ih =>
      intro k1 hn1 hk1 
      refine J_iload_n cx dX3_goodOrders_4 rfl ?_
      refine J_aload_n cx dX3_goodOrders_5 rfl ?_
      refine T_get_g cx dX3_goodOrders_6 ?_
      refine J_iconst (v := nI (3)) cx dX3_goodOrders_9 (by decide) ?_
      refine T_ld_g cx dX3_goodOrders_10 (by omega) ?_
      refine J_top (.int (nI (tn (g (3))))) (congrArg Value.int (ho2)) ?_
      refine J_icmpN_ge (tgt := 36) cx dX3_goodOrders_11 (by decide) (by omega) (by omega) (fun c11 => ?_) (fun c11 => ?_)
      · have hkx : tn (g (3)) = k1 := Eq.symm (by omega)
        subst hkx
        refine J_iload_n cx dX3_goodOrders_36 rfl ?_
        exact J_iret cx dX3_goodOrders_37 hr ⟨congrArg some (congrArg Value.int rfl), rfl, rfl⟩ (Nat.le_refl 0) (Nat.le_refl 0)
      · refine J_iload_n cx dX3_goodOrders_14 rfl ?_
        refine J_aload_n cx dX3_goodOrders_15 rfl ?_
        refine J_iload_n cx dX3_goodOrders_16 rfl ?_
        refine T_callI cx [.int (nI (k1))] (t_X3_isGood l Ω ht (k1) (by omega)) dX3_goodOrders_17 (lw_V q2839 q2841 qs60 q93 q2842) hd_X3_isGood rfl rfl ⟨Nat.le_of_ble_eq_true rfl, Nat.le_of_ble_eq_true rfl⟩ rfl rfl (Nat.le_of_ble_eq_true rfl) ?_
        refine J_if_eq (tgt := 27) cx dX3_goodOrders_20 (by decide) (fun c20 => ?_) (fun c20 => ?_)
        · refine J_iconst (v := nI (0)) cx dX3_goodOrders_27 (by decide) ?_
          refine J_iadd cx dX3_goodOrders_28 ?_
          refine J_istore_n1 cx dX3_goodOrders_29 (by decide) rfl ?_
          refine J_iinc2 (v := nI (k1 + 1)) cx dX3_goodOrders_30 (nI_1 k1) (by decide) rfl ?_
          refine J_goto (tgt := 4) cx dX3_goodOrders_33 (by decide) ?_
          refine J_sub (L1 := [some (.ref t), some (.int (S_goodOrders g (k1 + 1))), some (.int (nI (k1 + 1)))]) (jsub_s (jsub_e (congrArg Value.int (by simp only [S_goodOrders, if_pos c11, if_pos c20])) (jsub_s jsub_0))) ?_
          exact ih (k1 + 1) (by omega) (by omega) 
        · refine J_iconst (v := nI (1)) cx dX3_goodOrders_23 (by decide) ?_
          refine J_goto (tgt := 28) cx dX3_goodOrders_24 (by decide) ?_
          refine J_iadd cx dX3_goodOrders_28 ?_
          refine J_istore_n1 cx dX3_goodOrders_29 (by decide) rfl ?_
          refine J_iinc2 (v := nI (k1 + 1)) cx dX3_goodOrders_30 (nI_1 k1) (by decide) rfl ?_
          refine J_goto (tgt := 4) cx dX3_goodOrders_33 (by decide) ?_
          refine J_sub (L1 := [some (.ref t), some (.int (S_goodOrders g (k1 + 1))), some (.int (nI (k1 + 1)))]) (jsub_s (jsub_e (congrArg Value.int (by simp only [S_goodOrders, if_pos c11, if_neg c20])) (jsub_s jsub_0))) ?_
          exact ih (k1 + 1) (by omega) (by omega) 
  refine J_sub (L1 := [some (.ref t), some (.int (S_goodOrders g 0)), some (.int (nI (0)))]) (jsub_s (jsub_e (congrArg Value.int rfl) (jsub_s jsub_0))) ?_
  exact loop4 (tn (g (3)) + 1) 0 (by omega) (by omega) 
