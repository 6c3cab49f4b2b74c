/-! THE TWIN: the kiln, orders, the small public methods (gen/mk_t4.py) -/
set_option maxRecDepth 100000
def w_isLost (g : Nat → Int32) (p9 : Nat) : Int32 := if (nI (2)) * (g ((50 + (13 * p9)) + 4)) ≤ g ((50 + (13 * p9)) + 3) then nI 0 else nI 1
def S_isLost (g : Nat → Int32) (p9 : Nat) (b9 : Int32) : Nat → Int32
  | 0 => b9
  | k1 + 1 => (if (nI (k1)) ≤ (g ((50 + (13 * p9)) + 8)) then (if (S_isLost g p9 b9 k1) = 0 then (if (g (41 + k1)) = (-1) then (nI (0)) else (if (g (41 + k1)) = (nI (p9)) then (nI (0)) else (if (r_X3_reach g (tn (g (41 + k1)))) < ((g ((50 + (13 * p9)) + 8)) - (nI (k1))) then (nI (0)) else (nI (1))))) else (nI (1))) else (if (S_isLost g p9 b9 k1) = 0 then (if (g (41 + k1)) = (-1) then (nI (0)) else (if (g (41 + k1)) = (nI (p9)) then (nI (0)) else (if (r_X3_reach g (tn (g (41 + k1)))) < ((nI (k1)) - (g ((50 + (13 * p9)) + 8))) then (nI (0)) else (nI (1))))) else (nI (1))))
theorem S_isLost_01 (g : Nat → Int32) (p9 : Nat) (b9 : Int32) (k : Nat) : S_isLost g p9 b9 (k + 1) = nI 0 ∨ S_isLost g p9 b9 (k + 1) = nI 1 := by
  rw [S_isLost]
  (repeat' split) <;> first | exact Or.inl rfl | exact Or.inr rfl
theorem z_X3_isLostThen (g : Nat → Int32) (p9 : Nat) : narrow .boolean (.int (S_isLost g p9 (w_isLost g p9) 8)) = .int (S_isLost g p9 (w_isLost g p9) 8) := by rcases S_isLost_01 g p9 (w_isLost g p9) 7 with h | h <;> rw [h] <;> rfl
theorem hd_X3_isLostThen : yX3_isLostThen.cls = RX3 ∧ yX3_isLostThen.cls ≠ "java/lang/invoke/MethodHandle" ∧ yX3_isLostThen.cls ≠ "java/lang/invoke/VarHandle" ∧ (parseMethodDescriptor yX3_isLostThen.desc).map (fun d => d.parameters.length) = some 1 := by decide +kernel
set_option maxHeartbeats 4000000 in
theorem t_X3_isLostThen (l : Launch) (Ω : jO) {t : Nat} {G0 : Mem} {g hi sv as_ inp why now told bef : Nat → Int32} {ch hs fed fa ws ns ct st_ pl iw sn : Int32} {sz : Nat} (ht : Ω.2.2.2 ≤ t) (p9 : Nat) (hp : p9 < 16) (hsh : shelfOk g) : Met l yX3_isLostThen (ws_ yX3_isLostThen cX3_isLostThen 7 (some .boolean)) ({ frames := 3, cells := 0, slots := 0, locals := 54 }) (va_Pc [.ref t, .int (nI (p9))] (jWd Ω (tov Ω t G0 g hi sv as_ inp why now told bef ch hs fed fa ws ns ct st_ pl iw sn) sz)) (jQ Ω (jD (some (.int (S_isLost g p9 (w_isLost g p9) 8))) (tov Ω t G0 g hi sv as_ inp why now told bef ch hs fed fa ws ns ct st_ pl iw sn) sz)) 0 0 (jB Ω) := by
  refine jMet (by decide) (Nat.le_of_ble_eq_true rfl) ?_
  intro p e s m args below meth c cx hr hnm
  refine J_loc [some (.ref t), some (.int (nI (p9))), none, none, none, none, none] rfl ?_
  refine J_aload_n cx dX3_isLostThen_0 rfl ?_
  refine T_get_g cx dX3_isLostThen_1 ?_
  refine J_iload_n cx dX3_isLostThen_4 rfl ?_
  refine T_callSI cx [.int (nI (p9))] (t_X3_at l Ω (p9)) dX3_isLostThen_5 (lw_S q2736 q2737 q93 q2738) hd_X3_at.2 rfl rfl ⟨Nat.le_of_ble_eq_true rfl, Nat.le_of_ble_eq_true rfl⟩ rfl rfl (Nat.le_of_ble_eq_true rfl) ?_
  refine J_bipush (v := nI (8)) cx dX3_isLostThen_8 (by decide) ?_
  refine J_iaddN cx dX3_isLostThen_10 ?_
  refine T_ld_g cx dX3_isLostThen_11 (by omega) ?_
  refine J_istore_n2 cx dX3_isLostThen_12 (by decide) rfl ?_
  have K45 : J p l e ({ frames := 3, cells := 0, slots := 0, locals := 54 } : Room) s m args below meth c Ω 7 (MQ below (jQ Ω (jD (some (.int (S_isLost g p9 (w_isLost g p9) 8))) (tov Ω t G0 g hi sv as_ inp why now told bef ch hs fed fa ws ns ct st_ pl iw sn) sz)) args s 0 0 (jB Ω)) 0 0 sz (tov Ω t G0 g hi sv as_ inp why now told bef ch hs fed fa ws ns ct st_ pl iw sn) 45 [some (.ref t), some (.int (nI (p9))), some (.int (g ((50 + (13 * p9)) + 8))), none, none, none, none] [.int (w_isLost g p9)] := by
    refine J_istore_n3 cx dX3_isLostThen_45 (by decide) rfl ?_
    refine J_iconst (v := nI (0)) cx dX3_isLostThen_46 (by decide) ?_
    refine J_istore4 cx dX3_isLostThen_47 (by decide) rfl ?_
    have loop49 : ∀ (n k1 : Nat), 8 + 1 ≤ n + k1 → k1 ≤ 8 → J p l e ({ frames := 3, cells := 0, slots := 0, locals := 54 } : Room) s m args below meth c Ω 7 (MQ below (jQ Ω (jD (some (.int (S_isLost g p9 (w_isLost g p9) 8))) (tov Ω t G0 g hi sv as_ inp why now told bef ch hs fed fa ws ns ct st_ pl iw sn) sz)) args s 0 0 (jB Ω)) 0 0 sz (tov Ω t G0 g hi sv as_ inp why now told bef ch hs fed fa ws ns ct st_ pl iw sn) 49 [some (.ref t), some (.int (nI (p9))), some (.int (g ((50 + (13 * p9)) + 8))), some (.int (S_isLost g p9 (w_isLost g p9) k1)), some (.int (nI (k1))), none, none] [] := by
      intro n
      induction n with
      | zero => intro k1 hn1 hk1 ; exact absurd hn1 (by omega)
      | succ n ih =>
        intro k1 hn1 hk1 
        refine J_iload cx dX3_isLostThen_49 rfl ?_
        refine J_bipush (v := nI (8)) cx dX3_isLostThen_51 (by decide) ?_
        refine J_icmpN_ge (tgt := 126) cx dX3_isLostThen_53 (by decide) (by omega) (by omega) (fun c53 => ?_) (fun c53 => ?_)
        · have hkx : 8 = k1 := Eq.symm (by omega)
          subst hkx
          refine J_iload_n cx dX3_isLostThen_126 rfl ?_
          exact J_zret cx dX3_isLostThen_127 hr (by first | rfl | exact z_X3_isLostThen ..) ⟨congrArg some (congrArg Value.int rfl), rfl, rfl⟩ (Nat.le_refl 0) (Nat.le_refl 0)
        · refine J_aload_n cx dX3_isLostThen_56 rfl ?_
          refine T_get_g cx dX3_isLostThen_57 ?_
          refine J_bipush (v := nI (41)) cx dX3_isLostThen_60 (by decide) ?_
          refine J_iload cx dX3_isLostThen_62 rfl ?_
          refine J_iaddN cx dX3_isLostThen_64 ?_
          refine T_ld_g cx dX3_isLostThen_65 (by omega) ?_
          refine J_istore5 cx dX3_isLostThen_66 (by decide) rfl ?_
          refine J_iload cx dX3_isLostThen_68 rfl ?_
          refine J_iload_n cx dX3_isLostThen_70 rfl ?_
          refine J_icmp_le (tgt := 81) cx dX3_isLostThen_71 (by decide) (fun c71 => ?_) (fun c71 => ?_)
          · refine J_iload_n cx dX3_isLostThen_81 rfl ?_
            refine J_iload cx dX3_isLostThen_82 rfl ?_
            refine J_isub cx dX3_isLostThen_84 ?_
            refine J_istore6 cx dX3_isLostThen_85 (by decide) rfl ?_
            refine J_iload_n cx dX3_isLostThen_87 rfl ?_
            refine J_if_ne (tgt := 114) cx dX3_isLostThen_88 (by decide) (fun c88 => ?_) (fun c88 => ?_)
            · refine J_iconst (v := nI (1)) cx dX3_isLostThen_114 (by decide) ?_
              refine J_goto (tgt := 119) cx dX3_isLostThen_115 (by decide) ?_
              refine J_istore_n3 cx dX3_isLostThen_119 (by decide) rfl ?_
              refine J_iinc4 (v := nI (k1 + 1)) cx dX3_isLostThen_120 (nI_1 k1) (by decide) rfl ?_
              refine J_goto (tgt := 49) cx dX3_isLostThen_123 (by decide) ?_
              refine J_sub (L1 := [some (.ref t), some (.int (nI (p9))), some (.int (g ((50 + (13 * p9)) + 8))), some (.int (S_isLost g p9 (w_isLost g p9) (k1 + 1))), some (.int (nI (k1 + 1))), none, none]) (jsub_s (jsub_s (jsub_s (jsub_e (congrArg Value.int (by simp only [S_isLost, if_pos c53, if_pos c71, if_neg c88])) (jsub_s (jsub_n (jsub_n jsub_0))))))) ?_
              exact ih (k1 + 1) (by omega) (by omega) 
            · refine J_iload cx dX3_isLostThen_91 rfl ?_
              refine J_iconst (v := -1) cx dX3_isLostThen_93 (by decide) ?_
              refine J_icmp_eq (tgt := 118) cx dX3_isLostThen_94 (by decide) (fun c94 => ?_) (fun c94 => ?_)
              · refine J_iconst (v := nI (0)) cx dX3_isLostThen_118 (by decide) ?_
                refine J_istore_n3 cx dX3_isLostThen_119 (by decide) rfl ?_
                refine J_iinc4 (v := nI (k1 + 1)) cx dX3_isLostThen_120 (nI_1 k1) (by decide) rfl ?_
                refine J_goto (tgt := 49) cx dX3_isLostThen_123 (by decide) ?_
                refine J_sub (L1 := [some (.ref t), some (.int (nI (p9))), some (.int (g ((50 + (13 * p9)) + 8))), some (.int (S_isLost g p9 (w_isLost g p9) (k1 + 1))), some (.int (nI (k1 + 1))), none, none]) (jsub_s (jsub_s (jsub_s (jsub_e (congrArg Value.int (by simp only [S_isLost, if_pos c53, if_pos c71, if_pos c88, if_pos c94])) (jsub_s (jsub_n (jsub_n jsub_0))))))) ?_
                exact ih (k1 + 1) (by omega) (by omega) 
              · refine J_iload cx dX3_isLostThen_97 rfl ?_
                refine J_iload_n cx dX3_isLostThen_99 rfl ?_
                refine J_icmp_eq (tgt := 118) cx dX3_isLostThen_100 (by decide) (fun c100 => ?_) (fun c100 => ?_)
                · refine J_iconst (v := nI (0)) cx dX3_isLostThen_118 (by decide) ?_
                  refine J_istore_n3 cx dX3_isLostThen_119 (by decide) rfl ?_
                  refine J_iinc4 (v := nI (k1 + 1)) cx dX3_isLostThen_120 (nI_1 k1) (by decide) rfl ?_
                  refine J_goto (tgt := 49) cx dX3_isLostThen_123 (by decide) ?_
                  refine J_sub (L1 := [some (.ref t), some (.int (nI (p9))), some (.int (g ((50 + (13 * p9)) + 8))), some (.int (S_isLost g p9 (w_isLost g p9) (k1 + 1))), some (.int (nI (k1 + 1))), none, none]) (jsub_s (jsub_s (jsub_s (jsub_e (congrArg Value.int (by simp only [S_isLost, if_pos c53, if_pos c71, if_pos c88, if_neg c94, if_pos c100])) (jsub_s (jsub_n (jsub_n jsub_0))))))) ?_
                  exact ih (k1 + 1) (by omega) (by omega) 
                · refine J_iload cx dX3_isLostThen_103 rfl ?_
                  have hre105_5 : g (41 + k1) = nI (tn (g (41 + k1))) := ((hsh k1 c53).resolve_left c94).1.1
                  refine J_loc [some (.ref t), some (.int (nI (p9))), some (.int (g ((50 + (13 * p9)) + 8))), some (.int (S_isLost g p9 (w_isLost g p9) k1)), some (.int (nI (k1))), some (.int (nI (tn (g (41 + k1))))), some (.int ((g ((50 + (13 * p9)) + 8)) - (nI (k1))))] (by simp only [← hre105_5]) ?_
                  refine J_aload_n cx dX3_isLostThen_105 rfl ?_
                  refine J_iload cx dX3_isLostThen_106 rfl ?_
                  refine T_callI cx [.int (nI (tn (g (41 + k1))))] (t_X3_reach l Ω ht (tn (g (41 + k1))) (Nat.lt_succ_of_le ((hsh k1 c53).resolve_left c94).1.2) ((hsh k1 c53).resolve_left c94).2) dX3_isLostThen_108 (lw_V q2787 q2789 qs50 q93 q2790) hd_X3_reach rfl rfl ⟨Nat.le_of_ble_eq_true rfl, Nat.le_of_ble_eq_true rfl⟩ rfl rfl (Nat.le_of_ble_eq_true rfl) ?_
                  refine J_icmp_gt (tgt := 118) cx dX3_isLostThen_111 (by decide) (fun c111 => ?_) (fun c111 => ?_)
                  · refine J_iconst (v := nI (0)) cx dX3_isLostThen_118 (by decide) ?_
                    refine J_istore_n3 cx dX3_isLostThen_119 (by decide) rfl ?_
                    refine J_iinc4 (v := nI (k1 + 1)) cx dX3_isLostThen_120 (nI_1 k1) (by decide) rfl ?_
                    refine J_goto (tgt := 49) cx dX3_isLostThen_123 (by decide) ?_
                    refine J_sub (L1 := [some (.ref t), some (.int (nI (p9))), some (.int (g ((50 + (13 * p9)) + 8))), some (.int (S_isLost g p9 (w_isLost g p9) (k1 + 1))), some (.int (nI (k1 + 1))), none, none]) (jsub_s (jsub_s (jsub_s (jsub_e (congrArg Value.int (by simp only [S_isLost, if_pos c53, if_pos c71, if_pos c88, if_neg c94, if_neg c100, if_pos c111])) (jsub_s (jsub_n (jsub_n jsub_0))))))) ?_
                    exact ih (k1 + 1) (by omega) (by omega) 
                  · refine J_iconst (v := nI (1)) cx dX3_isLostThen_114 (by decide) ?_
                    refine J_goto (tgt := 119) cx dX3_isLostThen_115 (by decide) ?_
                    refine J_istore_n3 cx dX3_isLostThen_119 (by decide) rfl ?_
                    refine J_iinc4 (v := nI (k1 + 1)) cx dX3_isLostThen_120 (nI_1 k1) (by decide) rfl ?_
                    refine J_goto (tgt := 49) cx dX3_isLostThen_123 (by decide) ?_
                    refine J_sub (L1 := [some (.ref t), some (.int (nI (p9))), some (.int (g ((50 + (13 * p9)) + 8))), some (.int (S_isLost g p9 (w_isLost g p9) (k1 + 1))), some (.int (nI (k1 + 1))), none, none]) (jsub_s (jsub_s (jsub_s (jsub_e (congrArg Value.int (by simp only [S_isLost, if_pos c53, if_pos c71, if_pos c88, if_neg c94, if_neg c100, if_neg c111])) (jsub_s (jsub_n (jsub_n jsub_0))))))) ?_
                    exact ih (k1 + 1) (by omega) (by omega) 
          · refine J_iload cx dX3_isLostThen_74 rfl ?_
            refine J_iload_n cx dX3_isLostThen_76 rfl ?_
            refine J_isub cx dX3_isLostThen_77 ?_
            refine J_goto (tgt := 85) cx dX3_isLostThen_78 (by decide) ?_
            refine J_istore6 cx dX3_isLostThen_85 (by decide) rfl ?_
            refine J_iload_n cx dX3_isLostThen_87 rfl ?_
            refine J_if_ne (tgt := 114) cx dX3_isLostThen_88 (by decide) (fun c88 => ?_) (fun c88 => ?_)
            · refine J_iconst (v := nI (1)) cx dX3_isLostThen_114 (by decide) ?_
              refine J_goto (tgt := 119) cx dX3_isLostThen_115 (by decide) ?_
              refine J_istore_n3 cx dX3_isLostThen_119 (by decide) rfl ?_
              refine J_iinc4 (v := nI (k1 + 1)) cx dX3_isLostThen_120 (nI_1 k1) (by decide) rfl ?_
              refine J_goto (tgt := 49) cx dX3_isLostThen_123 (by decide) ?_
              refine J_sub (L1 := [some (.ref t), some (.int (nI (p9))), some (.int (g ((50 + (13 * p9)) + 8))), some (.int (S_isLost g p9 (w_isLost g p9) (k1 + 1))), some (.int (nI (k1 + 1))), none, none]) (jsub_s (jsub_s (jsub_s (jsub_e (congrArg Value.int (by simp only [S_isLost, if_pos c53, if_neg c71, if_neg c88])) (jsub_s (jsub_n (jsub_n jsub_0))))))) ?_
              exact ih (k1 + 1) (by omega) (by omega) 
            · refine J_iload cx dX3_isLostThen_91 rfl ?_
              refine J_iconst (v := -1) cx dX3_isLostThen_93 (by decide) ?_
              refine J_icmp_eq (tgt := 118) cx dX3_isLostThen_94 (by decide) (fun c94 => ?_) (fun c94 => ?_)
              · refine J_iconst (v := nI (0)) cx dX3_isLostThen_118 (by decide) ?_
                refine J_istore_n3 cx dX3_isLostThen_119 (by decide) rfl ?_
                refine J_iinc4 (v := nI (k1 + 1)) cx dX3_isLostThen_120 (nI_1 k1) (by decide) rfl ?_
                refine J_goto (tgt := 49) cx dX3_isLostThen_123 (by decide) ?_
                refine J_sub (L1 := [some (.ref t), some (.int (nI (p9))), some (.int (g ((50 + (13 * p9)) + 8))), some (.int (S_isLost g p9 (w_isLost g p9) (k1 + 1))), some (.int (nI (k1 + 1))), none, none]) (jsub_s (jsub_s (jsub_s (jsub_e (congrArg Value.int (by simp only [S_isLost, if_pos c53, if_neg c71, if_pos c88, if_pos c94])) (jsub_s (jsub_n (jsub_n jsub_0))))))) ?_
                exact ih (k1 + 1) (by omega) (by omega) 
              · refine J_iload cx dX3_isLostThen_97 rfl ?_
                refine J_iload_n cx dX3_isLostThen_99 rfl ?_
                refine J_icmp_eq (tgt := 118) cx dX3_isLostThen_100 (by decide) (fun c100 => ?_) (fun c100 => ?_)
                · refine J_iconst (v := nI (0)) cx dX3_isLostThen_118 (by decide) ?_
                  refine J_istore_n3 cx dX3_isLostThen_119 (by decide) rfl ?_
                  refine J_iinc4 (v := nI (k1 + 1)) cx dX3_isLostThen_120 (nI_1 k1) (by decide) rfl ?_
                  refine J_goto (tgt := 49) cx dX3_isLostThen_123 (by decide) ?_
                  refine J_sub (L1 := [some (.ref t), some (.int (nI (p9))), some (.int (g ((50 + (13 * p9)) + 8))), some (.int (S_isLost g p9 (w_isLost g p9) (k1 + 1))), some (.int (nI (k1 + 1))), none, none]) (jsub_s (jsub_s (jsub_s (jsub_e (congrArg Value.int (by simp only [S_isLost, if_pos c53, if_neg c71, if_pos c88, if_neg c94, if_pos c100])) (jsub_s (jsub_n (jsub_n jsub_0))))))) ?_
                  exact ih (k1 + 1) (by omega) (by omega) 
                · refine J_iload cx dX3_isLostThen_103 rfl ?_
                  have hre105_5 : g (41 + k1) = nI (tn (g (41 + k1))) := ((hsh k1 c53).resolve_left c94).1.1
                  refine J_loc [some (.ref t), some (.int (nI (p9))), some (.int (g ((50 + (13 * p9)) + 8))), some (.int (S_isLost g p9 (w_isLost g p9) k1)), some (.int (nI (k1))), some (.int (nI (tn (g (41 + k1))))), some (.int ((nI (k1)) - (g ((50 + (13 * p9)) + 8))))] (by simp only [← hre105_5]) ?_
                  refine J_aload_n cx dX3_isLostThen_105 rfl ?_
                  refine J_iload cx dX3_isLostThen_106 rfl ?_
                  refine T_callI cx [.int (nI (tn (g (41 + k1))))] (t_X3_reach l Ω ht (tn (g (41 + k1))) (Nat.lt_succ_of_le ((hsh k1 c53).resolve_left c94).1.2) ((hsh k1 c53).resolve_left c94).2) dX3_isLostThen_108 (lw_V q2787 q2789 qs50 q93 q2790) hd_X3_reach rfl rfl ⟨Nat.le_of_ble_eq_true rfl, Nat.le_of_ble_eq_true rfl⟩ rfl rfl (Nat.le_of_ble_eq_true rfl) ?_
                  refine J_icmp_gt (tgt := 118) cx dX3_isLostThen_111 (by decide) (fun c111 => ?_) (fun c111 => ?_)
                  · refine J_iconst (v := nI (0)) cx dX3_isLostThen_118 (by decide) ?_
                    refine J_istore_n3 cx dX3_isLostThen_119 (by decide) rfl ?_
                    refine J_iinc4 (v := nI (k1 + 1)) cx dX3_isLostThen_120 (nI_1 k1) (by decide) rfl ?_
                    refine J_goto (tgt := 49) cx dX3_isLostThen_123 (by decide) ?_
                    refine J_sub (L1 := [some (.ref t), some (.int (nI (p9))), some (.int (g ((50 + (13 * p9)) + 8))), some (.int (S_isLost g p9 (w_isLost g p9) (k1 + 1))), some (.int (nI (k1 + 1))), none, none]) (jsub_s (jsub_s (jsub_s (jsub_e (congrArg Value.int (by simp only [S_isLost, if_pos c53, if_neg c71, if_pos c88, if_neg c94, if_neg c100, if_pos c111])) (jsub_s (jsub_n (jsub_n jsub_0))))))) ?_
                    exact ih (k1 + 1) (by omega) (by omega) 
                  · refine J_iconst (v := nI (1)) cx dX3_isLostThen_114 (by decide) ?_
                    refine J_goto (tgt := 119) cx dX3_isLostThen_115 (by decide) ?_
                    refine J_istore_n3 cx dX3_isLostThen_119 (by decide) rfl ?_
                    refine J_iinc4 (v := nI (k1 + 1)) cx dX3_isLostThen_120 (nI_1 k1) (by decide) rfl ?_
                    refine J_goto (tgt := 49) cx dX3_isLostThen_123 (by decide) ?_
                    refine J_sub (L1 := [some (.ref t), some (.int (nI (p9))), some (.int (g ((50 + (13 * p9)) + 8))), some (.int (S_isLost g p9 (w_isLost g p9) (k1 + 1))), some (.int (nI (k1 + 1))), none, none]) (jsub_s (jsub_s (jsub_s (jsub_e (congrArg Value.int (by simp only [S_isLost, if_pos c53, if_neg c71, if_pos c88, if_neg c94, if_neg c100, if_neg c111])) (jsub_s (jsub_n (jsub_n jsub_0))))))) ?_
                    exact ih (k1 + 1) (by omega) (by omega) 
    refine J_sub (L1 := [some (.ref t), some (.int (nI (p9))), some (.int (g ((50 + (13 * p9)) + 8))), some (.int (S_isLost g p9 (w_isLost g p9) 0)), some (.int (nI (0))), none, none]) (jsub_s (jsub_s (jsub_s (jsub_e (congrArg Value.int rfl) (jsub_s (jsub_n (jsub_n jsub_0))))))) ?_
    exact loop49 (8 + 1) 0 (by omega) (by omega) 
  refine J_iconst (v := nI (2)) cx dX3_isLostThen_13 (by decide) ?_
  refine J_aload_n cx dX3_isLostThen_14 rfl ?_
  refine T_get_g cx dX3_isLostThen_15 ?_
  refine J_iload_n cx dX3_isLostThen_18 rfl ?_
  refine T_callSI cx [.int (nI (p9))] (t_X3_at l Ω (p9)) dX3_isLostThen_19 (lw_S q2736 q2737 q93 q2738) hd_X3_at.2 rfl rfl ⟨Nat.le_of_ble_eq_true rfl, Nat.le_of_ble_eq_true rfl⟩ rfl rfl (Nat.le_of_ble_eq_true rfl) ?_
  refine J_iconst (v := nI (4)) cx dX3_isLostThen_22 (by decide) ?_
  refine J_iaddN cx dX3_isLostThen_23 ?_
  refine T_ld_g cx dX3_isLostThen_24 (by omega) ?_
  refine J_imul cx dX3_isLostThen_25 ?_
  refine J_aload_n cx dX3_isLostThen_26 rfl ?_
  refine T_get_g cx dX3_isLostThen_27 ?_
  refine J_iload_n cx dX3_isLostThen_30 rfl ?_
  refine T_callSI cx [.int (nI (p9))] (t_X3_at l Ω (p9)) dX3_isLostThen_31 (lw_S q2736 q2737 q93 q2738) hd_X3_at.2 rfl rfl ⟨Nat.le_of_ble_eq_true rfl, Nat.le_of_ble_eq_true rfl⟩ rfl rfl (Nat.le_of_ble_eq_true rfl) ?_
  refine J_iconst (v := nI (3)) cx dX3_isLostThen_34 (by decide) ?_
  refine J_iaddN cx dX3_isLostThen_35 ?_
  refine T_ld_g cx dX3_isLostThen_36 (by omega) ?_
  refine J_icmp_le (tgt := 44) cx dX3_isLostThen_37 (by decide) (fun c37 => ?_) (fun c37 => ?_)
  · refine J_iconst (v := nI (0)) cx dX3_isLostThen_44 (by decide) ?_
    refine J_sub (L1 := [some (.ref t), some (.int (nI (p9))), some (.int (g ((50 + (13 * p9)) + 8))), none, none, none, none]) (jsub_s (jsub_s (jsub_s (jsub_n (jsub_n (jsub_n (jsub_n jsub_0))))))) ?_
    refine J_st [.int (w_isLost g p9)] (jst_e (congrArg Value.int (by simp only [w_isLost, if_pos c37])) rfl) ?_
    exact K45
  · refine J_iconst (v := nI (1)) cx dX3_isLostThen_40 (by decide) ?_
    refine J_goto (tgt := 45) cx dX3_isLostThen_41 (by decide) ?_
    refine J_sub (L1 := [some (.ref t), some (.int (nI (p9))), some (.int (g ((50 + (13 * p9)) + 8))), none, none, none, none]) (jsub_s (jsub_s (jsub_s (jsub_n (jsub_n (jsub_n (jsub_n jsub_0))))))) ?_
    refine J_st [.int (w_isLost g p9)] (jst_e (congrArg Value.int (by simp only [w_isLost, if_neg c37])) rfl) ?_
    exact K45
def S_lostThen (g : Nat → Int32) : Nat → Int32
  | 0 => (nI (0))
  | k1 + 1 => (if (g (41 + k1)) = (-1) then ((S_lostThen g k1) ||| (nI (0))) else (if (S_isLost g (tn (g (41 + k1))) (w_isLost g (tn (g (41 + k1)))) 8) = 0 then ((S_lostThen g k1) ||| (nI (0))) else ((S_lostThen g k1) ||| ((nI (1)) <<< ((nI (tn (g (41 + k1)))) &&& 31)))))
theorem hd_X3_lostThen : yX3_lostThen.cls = RX3 ∧ yX3_lostThen.cls ≠ "java/lang/invoke/MethodHandle" ∧ yX3_lostThen.cls ≠ "java/lang/invoke/VarHandle" ∧ (parseMethodDescriptor yX3_lostThen.desc).map (fun d => d.parameters.length) = some 0 := by decide +kernel
set_option maxHeartbeats 4000000 in
theorem t_X3_lostThen (l : Launch) (Ω : jO) {t : Nat} {G0 : Mem} {g hi sv as_ inp why now told bef : Nat → Int32} {ch hs fed fa ws ns ct st_ pl iw sn : Int32} {sz : Nat} (ht : Ω.2.2.2 ≤ t)  (hsh : shelfOk g) : Met l yX3_lostThen (ws_ yX3_lostThen cX3_lostThen 4 (some .int)) ({ frames := 4, cells := 0, slots := 0, locals := 80 }) (va_Pc [.ref t] (jWd Ω (tov Ω t G0 g hi sv as_ inp why now told bef ch hs fed fa ws ns ct st_ pl iw sn) sz)) (jQ Ω (jD (some (.int (S_lostThen g 8))) (tov Ω t G0 g hi sv as_ inp why now told bef ch hs fed fa ws ns ct st_ pl iw sn) sz)) 0 0 (jB Ω) := by
  refine jMet (by decide) (Nat.le_of_ble_eq_true rfl) ?_
  intro p e s m args below meth c cx hr hnm
  refine J_loc [some (.ref t), none, none, none] rfl ?_
  refine J_iconst (v := nI (0)) cx dX3_lostThen_0 (by decide) ?_
  refine J_istore_n1 cx dX3_lostThen_1 (by decide) rfl ?_
  refine J_iconst (v := nI (0)) cx dX3_lostThen_2 (by decide) ?_
  refine J_istore_n2 cx dX3_lostThen_3 (by decide) rfl ?_
  have loop4 : ∀ (n k1 : Nat), 8 + 1 ≤ n + k1 → k1 ≤ 8 → J p l e ({ frames := 4, cells := 0, slots := 0, locals := 80 } : Room) s m args below meth c Ω 4 (MQ below (jQ Ω (jD (some (.int (S_lostThen g 8))) (tov Ω t G0 g hi sv as_ inp why now told bef ch hs fed fa ws ns ct st_ pl iw sn) sz)) args s 0 0 (jB Ω)) 0 0 sz (tov Ω t G0 g hi sv as_ inp why now told bef ch hs fed fa ws ns ct st_ pl iw sn) 4 [some (.ref t), some (.int (S_lostThen g k1)), some (.int (nI (k1))), none] [] := by
    intro n
    induction n with
    | zero => intro k1 hn1 hk1 ; exact absurd hn1 (by omega)
    | succ n ih =>
      intro k1 hn1 hk1 
      refine J_iload_n cx dX3_lostThen_4 rfl ?_
      refine J_bipush (v := nI (8)) cx dX3_lostThen_5 (by decide) ?_
      refine J_icmpN_ge (tgt := 49) cx dX3_lostThen_7 (by decide) (by omega) (by omega) (fun c7 => ?_) (fun c7 => ?_)
      · have hkx : 8 = k1 := Eq.symm (by omega)
        subst hkx
        refine J_iload_n cx dX3_lostThen_49 rfl ?_
        exact J_iret cx dX3_lostThen_50 hr ⟨congrArg some (congrArg Value.int rfl), rfl, rfl⟩ (Nat.le_refl 0) (Nat.le_refl 0)
      · refine J_aload_n cx dX3_lostThen_10 rfl ?_
        refine T_get_g cx dX3_lostThen_11 ?_
        refine J_bipush (v := nI (41)) cx dX3_lostThen_14 (by decide) ?_
        refine J_iload_n cx dX3_lostThen_16 rfl ?_
        refine J_iaddN cx dX3_lostThen_17 ?_
        refine T_ld_g cx dX3_lostThen_18 (by omega) ?_
        refine J_istore_n3 cx dX3_lostThen_19 (by decide) rfl ?_
        refine J_iload_n cx dX3_lostThen_20 rfl ?_
        refine J_iload_n cx dX3_lostThen_21 rfl ?_
        refine J_iconst (v := -1) cx dX3_lostThen_22 (by decide) ?_
        refine J_icmp_eq (tgt := 40) cx dX3_lostThen_23 (by decide) (fun c23 => ?_) (fun c23 => ?_)
        · refine J_iconst (v := nI (0)) cx dX3_lostThen_40 (by decide) ?_
          refine J_ior cx dX3_lostThen_41 ?_
          refine J_istore_n1 cx dX3_lostThen_42 (by decide) rfl ?_
          refine J_iinc2 (v := nI (k1 + 1)) cx dX3_lostThen_43 (nI_1 k1) (by decide) rfl ?_
          refine J_goto (tgt := 4) cx dX3_lostThen_46 (by decide) ?_
          refine J_sub (L1 := [some (.ref t), some (.int (S_lostThen g (k1 + 1))), some (.int (nI (k1 + 1))), none]) (jsub_s (jsub_e (congrArg Value.int (by simp only [S_lostThen, if_pos c7, if_pos c23])) (jsub_s (jsub_n jsub_0)))) ?_
          exact ih (k1 + 1) (by omega) (by omega) 
        · have hre26_3 : g (41 + k1) = nI (tn (g (41 + k1))) := ((hsh k1 c7).resolve_left c23).1.1
          refine J_loc [some (.ref t), some (.int (S_lostThen g k1)), some (.int (nI (k1))), some (.int (nI (tn (g (41 + k1)))))] (by simp only [← hre26_3]) ?_
          refine J_aload_n cx dX3_lostThen_26 rfl ?_
          refine J_iload_n cx dX3_lostThen_27 rfl ?_
          refine T_callI cx [.int (nI (tn (g (41 + k1))))] (t_X3_isLostThen l Ω ht (tn (g (41 + k1))) (Nat.lt_succ_of_le ((hsh k1 c7).resolve_left c23).1.2) hsh) dX3_lostThen_28 (lw_V q2823 q2825 qs56 q93 q2826) hd_X3_isLostThen rfl rfl ⟨Nat.le_of_ble_eq_true rfl, Nat.le_of_ble_eq_true rfl⟩ rfl rfl (Nat.le_of_ble_eq_true rfl) ?_
          refine J_if_eq (tgt := 40) cx dX3_lostThen_31 (by decide) (fun c31 => ?_) (fun c31 => ?_)
          · refine J_iconst (v := nI (0)) cx dX3_lostThen_40 (by decide) ?_
            refine J_ior cx dX3_lostThen_41 ?_
            refine J_istore_n1 cx dX3_lostThen_42 (by decide) rfl ?_
            refine J_iinc2 (v := nI (k1 + 1)) cx dX3_lostThen_43 (nI_1 k1) (by decide) rfl ?_
            refine J_goto (tgt := 4) cx dX3_lostThen_46 (by decide) ?_
            refine J_sub (L1 := [some (.ref t), some (.int (S_lostThen g (k1 + 1))), some (.int (nI (k1 + 1))), none]) (jsub_s (jsub_e (congrArg Value.int (by simp only [S_lostThen, if_pos c7, if_neg c23, if_pos c31])) (jsub_s (jsub_n jsub_0)))) ?_
            exact ih (k1 + 1) (by omega) (by omega) 
          · refine J_iconst (v := nI (1)) cx dX3_lostThen_34 (by decide) ?_
            refine J_iload_n cx dX3_lostThen_35 rfl ?_
            refine J_ishl cx dX3_lostThen_36 ?_
            refine J_goto (tgt := 41) cx dX3_lostThen_37 (by decide) ?_
            refine J_ior cx dX3_lostThen_41 ?_
            refine J_istore_n1 cx dX3_lostThen_42 (by decide) rfl ?_
            refine J_iinc2 (v := nI (k1 + 1)) cx dX3_lostThen_43 (nI_1 k1) (by decide) rfl ?_
            refine J_goto (tgt := 4) cx dX3_lostThen_46 (by decide) ?_
            refine J_sub (L1 := [some (.ref t), some (.int (S_lostThen g (k1 + 1))), some (.int (nI (k1 + 1))), none]) (jsub_s (jsub_e (congrArg Value.int (by simp only [S_lostThen, if_pos c7, if_neg c23, if_neg c31])) (jsub_s (jsub_n jsub_0)))) ?_
            exact ih (k1 + 1) (by omega) (by omega) 
  refine J_sub (L1 := [some (.ref t), some (.int (S_lostThen g 0)), some (.int (nI (0))), none]) (jsub_s (jsub_e (congrArg Value.int rfl) (jsub_s (jsub_n jsub_0)))) ?_
  exact loop4 (8 + 1) 0 (by omega) (by omega) 
theorem in_n {x : Int32} {a b : Nat} (hb : b < 2147483648) (h : ¬ r_X3_in x (nI a) (nI b) = 0) (ha : a < 2147483648 := by decide) : x = nI (tn x) ∧ a ≤ tn x ∧ tn x ≤ b := by
  unfold r_X3_in at h
  by_cases h1 : x < nI a
  · rw [if_pos h1] at h; exact absurd rfl h
  · rw [if_neg h1] at h
    by_cases h2 : nI b < x
    · rw [if_pos h2] at h; exact absurd rfl h
    · rw [Int32.lt_iff_toInt_lt, nI_toInt ha] at h1
      rw [Int32.lt_iff_toInt_lt, nI_toInt hb] at h2
      have h3 : (tn x : Int) = x.toInt := by unfold tn Int32.toNatClampNeg; omega
      refine ⟨?_, by omega, by omega⟩
      apply Int32.toInt_inj.mp
      rw [nI_toInt (by omega), h3]
theorem isPot_n {g : Nat → Int32} {x : Int32} (h2 : g 2 = nI (tn (g 2))) (h16 : tn (g 2) ≤ 16) (h : ¬ r_X3_in x (nI 0) ((g 2) - nI 1) = 0) : x = nI (tn x) ∧ tn x < tn (g 2) := by
  by_cases h0 : tn (g 2) = 0
  · rw [h2, h0] at h
    unfold r_X3_in at h
    by_cases h1 : x < nI 0
    · rw [if_pos h1] at h; exact absurd rfl h
    · rw [if_neg h1, if_pos] at h
      · exact absurd rfl h
      · rw [Int32.lt_iff_toInt_lt] at h1 ⊢
        rw [show (nI 0).toInt = 0 from rfl] at h1
        rw [show (nI 0 - nI 1).toInt = -1 from by decide]
        omega
  · have e : g 2 - nI 1 = nI (tn (g 2) - 1) := by
      have h9 : nI (tn (g 2)) - nI 1 = nI (tn (g 2) - 1) := pk_sub (by omega)
      rw [← h9, ← h2]
    rw [e] at h
    obtain ⟨a1, -, a2⟩ := in_n (by omega) h
    exact ⟨a1, by omega⟩
theorem nat_lt {x : Int32} {n : Nat} (h : tn x ≤ n) : tn x < n + 1 := Nat.lt_succ_of_le h
theorem hd_X3_clear : yX3_clear.cls = RX3 ∧ yX3_clear.cls ≠ "java/lang/invoke/MethodHandle" ∧ yX3_clear.cls ≠ "java/lang/invoke/VarHandle" ∧ (parseMethodDescriptor yX3_clear.desc).map (fun d => d.parameters.length) = some 0 := by decide +kernel
set_option maxHeartbeats 4000000 in
theorem t_X3_clear (l : Launch) (Ω : jO) {t : Nat} {G0 : Mem} {g hi sv as_ inp why now told bef : Nat → Int32} {ch hs fed fa ws ns ct st_ pl iw sn : Int32} {sz : Nat} (ht : Ω.2.2.2 ≤ t)   : Met l yX3_clear (ws_ yX3_clear cX3_clear 2 (some .int)) ({ frames := 2, cells := 0, slots := 0, locals := 33 }) (va_Pc [.ref t] (jWd Ω (tov Ω t G0 g hi sv as_ inp why now told bef ch hs fed fa ws ns ct st_ pl iw sn) sz)) (jQ Ω (jD (some (.int ((g (2))))) (tov Ω t G0 (S_begins3 g 8) hi sv as_ inp why now told bef (nI (0)) hs fed fa ws ns ct st_ pl iw sn) sz)) 0 0 (jB Ω) := by
  refine jMet (by decide) (Nat.le_of_ble_eq_true rfl) ?_
  intro p e s m args below meth c cx hr hnm
  refine J_loc [some (.ref t), none] rfl ?_
  refine J_aload_n cx dX3_clear_0 rfl ?_
  refine T_get_g cx dX3_clear_1 ?_
  refine J_iconst (v := nI (2)) cx dX3_clear_4 (by decide) ?_
  refine T_ld_g cx dX3_clear_5 (by omega) ?_
  refine J_istore_n1 cx dX3_clear_6 (by decide) rfl ?_
  refine J_aload_n cx dX3_clear_7 rfl ?_
  refine T_callV cx [] (t_X3_begins l Ω ht) dX3_clear_8 (lw_V q2617 q2619 qs39 q93 q2620) hd_X3_begins rfl rfl ⟨Nat.le_of_ble_eq_true rfl, Nat.le_of_ble_eq_true rfl⟩ rfl rfl (Nat.le_of_ble_eq_true rfl) ?_
  refine J_aload_n cx dX3_clear_11 rfl ?_
  refine J_iconst (v := nI (0)) cx dX3_clear_12 (by decide) ?_
  refine T_put_ch cx ht dX3_clear_13 ?_
  refine J_iload_n cx dX3_clear_16 rfl ?_
  exact J_iret cx dX3_clear_17 hr ⟨congrArg some (congrArg Value.int rfl), rfl, rfl⟩ (Nat.le_refl 0) (Nat.le_refl 0)
def r_X3_set (g : Nat → Int32) (w9 : Int32) (v9 : Int32) : Int32 := (if (r_X3_in w9 (nI (0)) (nI (5))) = 0 then (-1) else (if (nI (4)) ≤ w9 then (if w9 = (nI (4)) then (if (r_X3_in v9 (nI (10)) (nI (400))) = 0 then (-2) else (g (4 + (tn w9)))) else (if (r_X3_in v9 (nI (1)) (nI (48))) = 0 then (-2) else (g (4 + (tn w9))))) else (if (r_X3_in v9 (nI (0)) (nI (9))) = 0 then (-2) else (g (4 + (tn w9))))))
def o_X3_set_g (g : Nat → Int32) (w9 : Int32) (v9 : Int32) : Nat → Int32 := (if (r_X3_in w9 (nI (0)) (nI (5))) = 0 then g else (if (nI (4)) ≤ w9 then (if w9 = (nI (4)) then (if (r_X3_in v9 (nI (10)) (nI (400))) = 0 then g else (upd g (4 + (tn w9)) (v9))) else (if (r_X3_in v9 (nI (1)) (nI (48))) = 0 then g else (upd g (4 + (tn w9)) (v9)))) else (if (r_X3_in v9 (nI (0)) (nI (9))) = 0 then g else (upd g (4 + (tn w9)) (v9)))))
def o_X3_set_hi (g : Nat → Int32) (hi : Nat → Int32) (ch : Int32) (w9 : Int32) (v9 : Int32) : Nat → Int32 := (if (r_X3_in w9 (nI (0)) (nI (5))) = 0 then hi else (if (nI (4)) ≤ w9 then (if w9 = (nI (4)) then (if (r_X3_in v9 (nI (10)) (nI (400))) = 0 then hi else (o_X3_remembers_hi g hi ch)) else (if (r_X3_in v9 (nI (1)) (nI (48))) = 0 then hi else (o_X3_remembers_hi g hi ch))) else (if (r_X3_in v9 (nI (0)) (nI (9))) = 0 then hi else (o_X3_remembers_hi g hi ch))))
def o_X3_set_ch (ch : Int32) (w9 : Int32) (v9 : Int32) : Int32 := (if (r_X3_in w9 (nI (0)) (nI (5))) = 0 then ch else (if (nI (4)) ≤ w9 then (if w9 = (nI (4)) then (if (r_X3_in v9 (nI (10)) (nI (400))) = 0 then ch else (o_X3_remembers_ch ch)) else (if (r_X3_in v9 (nI (1)) (nI (48))) = 0 then ch else (o_X3_remembers_ch ch))) else (if (r_X3_in v9 (nI (0)) (nI (9))) = 0 then ch else (o_X3_remembers_ch ch))))
theorem hd_X3_set : yX3_set.cls = RX3 ∧ yX3_set.cls ≠ "java/lang/invoke/MethodHandle" ∧ yX3_set.cls ≠ "java/lang/invoke/VarHandle" ∧ (parseMethodDescriptor yX3_set.desc).map (fun d => d.parameters.length) = some 2 := by decide +kernel
set_option maxHeartbeats 4000000 in
theorem t_X3_set (l : Launch) (Ω : jO) {t : Nat} {G0 : Mem} {g hi sv as_ inp why now told bef : Nat → Int32} {ch hs fed fa ws ns ct st_ pl iw sn : Int32} {sz : Nat} (ht : Ω.2.2.2 ≤ t) (w9 : Int32) (v9 : Int32) (hch : ch = nI (tn ch)) (hch8 : tn ch ≤ 8) : Met l yX3_set (ws_ yX3_set cX3_set 4 (some .int)) ({ frames := 3, cells := 0, slots := 0, locals := 57 }) (va_Pc [.ref t, .int (w9), .int (v9)] (jWd Ω (tov Ω t G0 g hi sv as_ inp why now told bef ch hs fed fa ws ns ct st_ pl iw sn) sz)) (jQ Ω (jD (some (.int (r_X3_set g w9 v9))) (tov Ω t G0 (o_X3_set_g g w9 v9) (o_X3_set_hi g hi ch w9 v9) sv as_ inp why now told bef (o_X3_set_ch ch w9 v9) hs fed fa ws ns ct st_ pl iw sn) sz)) 0 0 (jB Ω) := by
  refine jMet (by decide) (Nat.le_of_ble_eq_true rfl) ?_
  intro p e s m args below meth c cx hr hnm
  refine J_loc [some (.ref t), some (.int (w9)), some (.int (v9)), none] rfl ?_
  refine J_iload_n cx dX3_set_0 rfl ?_
  refine J_iconst (v := nI (0)) cx dX3_set_1 (by decide) ?_
  refine J_iconst (v := nI (5)) cx dX3_set_2 (by decide) ?_
  refine T_callSI cx [.int (w9), .int (nI (0)), .int (nI (5))] (t_X3_in l Ω (w9) (nI (0)) (nI (5))) dX3_set_3 (lw_S q2686 q2687 q93 q2688) hd_X3_in.2 rfl rfl ⟨Nat.le_of_ble_eq_true rfl, Nat.le_of_ble_eq_true rfl⟩ rfl rfl (Nat.le_of_ble_eq_true rfl) ?_
  refine J_if_ne (tgt := 11) cx dX3_set_6 (by decide) (fun c6 => ?_) (fun c6 => ?_)
  · refine J_iload_n cx dX3_set_11 rfl ?_
    refine J_iconst (v := nI (4)) cx dX3_set_12 (by decide) ?_
    refine J_icmp_ge (tgt := 29) cx dX3_set_13 (by decide) (fun c13 => ?_) (fun c13 => ?_)
    · refine J_iload_n cx dX3_set_29 rfl ?_
      refine J_iconst (v := nI (4)) cx dX3_set_30 (by decide) ?_
      refine J_icmp_ne (tgt := 49) cx dX3_set_31 (by decide) (fun c31 => ?_) (fun c31 => ?_)
      · refine J_iload_n cx dX3_set_49 rfl ?_
        refine J_iconst (v := nI (1)) cx dX3_set_50 (by decide) ?_
        refine J_bipush (v := nI (48)) cx dX3_set_51 (by decide) ?_
        refine T_callSI cx [.int (v9), .int (nI (1)), .int (nI (48))] (t_X3_in l Ω (v9) (nI (1)) (nI (48))) dX3_set_53 (lw_S q2686 q2687 q93 q2688) hd_X3_in.2 rfl rfl ⟨Nat.le_of_ble_eq_true rfl, Nat.le_of_ble_eq_true rfl⟩ rfl rfl (Nat.le_of_ble_eq_true rfl) ?_
        refine J_if_ne (tgt := 62) cx dX3_set_56 (by decide) (fun c56 => ?_) (fun c56 => ?_)
        · refine J_aload_n cx dX3_set_62 rfl ?_
          refine T_callV cx [] (t_X3_remembers l Ω ht hch hch8) dX3_set_63 (lw_V q2697 q2699 qs40 q93 q2700) hd_X3_remembers rfl rfl ⟨Nat.le_of_ble_eq_true rfl, Nat.le_of_ble_eq_true rfl⟩ rfl rfl (Nat.le_of_ble_eq_true rfl) ?_
          have hw5 := (in_n (by decide) c6).2.2
          have hre66_1 : w9 = nI (tn w9) := (in_n (by decide) c6).1
          refine J_loc [some (.ref t), some (.int (nI (tn w9))), some (.int (v9)), none] (by simp only [← hre66_1]) ?_
          refine J_aload_n cx dX3_set_66 rfl ?_
          refine T_get_g cx dX3_set_67 ?_
          refine J_iconst (v := nI (4)) cx dX3_set_70 (by decide) ?_
          refine J_iload_n cx dX3_set_71 rfl ?_
          refine J_iaddN cx dX3_set_72 ?_
          refine T_ld_g cx dX3_set_73 (by omega) ?_
          refine J_istore_n3 cx dX3_set_74 (by decide) rfl ?_
          refine J_aload_n cx dX3_set_75 rfl ?_
          refine T_get_g cx dX3_set_76 ?_
          refine J_iconst (v := nI (4)) cx dX3_set_79 (by decide) ?_
          refine J_iload_n cx dX3_set_80 rfl ?_
          refine J_iaddN cx dX3_set_81 ?_
          refine J_iload_n cx dX3_set_82 rfl ?_
          refine T_st_g cx ht dX3_set_83 (by omega) ?_
          refine J_iload_n cx dX3_set_84 rfl ?_
          exact J_iret cx dX3_set_85 hr ⟨congrArg some (congrArg Value.int (by simp only [r_X3_set, o_X3_set_g, o_X3_set_hi, o_X3_set_ch, if_neg c6, if_pos c13, if_neg c31, if_neg c56])), (tov_cg (by simp only [r_X3_set, o_X3_set_g, o_X3_set_hi, o_X3_set_ch, if_neg c6, if_pos c13, if_neg c31, if_neg c56]) (by simp only [r_X3_set, o_X3_set_g, o_X3_set_hi, o_X3_set_ch, if_neg c6, if_pos c13, if_neg c31, if_neg c56]) rfl rfl rfl rfl rfl rfl rfl (by simp only [r_X3_set, o_X3_set_g, o_X3_set_hi, o_X3_set_ch, if_neg c6, if_pos c13, if_neg c31, if_neg c56]) rfl rfl rfl rfl rfl rfl rfl rfl rfl rfl), rfl⟩ (Nat.le_refl 0) (Nat.le_refl 0)
        · refine J_bipush (v := -2) cx dX3_set_59 (by decide) ?_
          exact J_iret cx dX3_set_61 hr ⟨congrArg some (congrArg Value.int (by simp only [r_X3_set, o_X3_set_g, o_X3_set_hi, o_X3_set_ch, if_neg c6, if_pos c13, if_neg c31, if_pos c56])), (tov_cg (by simp only [r_X3_set, o_X3_set_g, o_X3_set_hi, o_X3_set_ch, if_neg c6, if_pos c13, if_neg c31, if_pos c56]) (by simp only [r_X3_set, o_X3_set_g, o_X3_set_hi, o_X3_set_ch, if_neg c6, if_pos c13, if_neg c31, if_pos c56]) rfl rfl rfl rfl rfl rfl rfl (by simp only [r_X3_set, o_X3_set_g, o_X3_set_hi, o_X3_set_ch, if_neg c6, if_pos c13, if_neg c31, if_pos c56]) rfl rfl rfl rfl rfl rfl rfl rfl rfl rfl), rfl⟩ (Nat.le_refl 0) (Nat.le_refl 0)
      · refine J_iload_n cx dX3_set_34 rfl ?_
        refine J_bipush (v := nI (10)) cx dX3_set_35 (by decide) ?_
        refine J_sipush (v := nI (400)) cx dX3_set_37 (by decide) ?_
        refine T_callSI cx [.int (v9), .int (nI (10)), .int (nI (400))] (t_X3_in l Ω (v9) (nI (10)) (nI (400))) dX3_set_40 (lw_S q2686 q2687 q93 q2688) hd_X3_in.2 rfl rfl ⟨Nat.le_of_ble_eq_true rfl, Nat.le_of_ble_eq_true rfl⟩ rfl rfl (Nat.le_of_ble_eq_true rfl) ?_
        refine J_if_ne (tgt := 62) cx dX3_set_43 (by decide) (fun c43 => ?_) (fun c43 => ?_)
        · refine J_aload_n cx dX3_set_62 rfl ?_
          refine T_callV cx [] (t_X3_remembers l Ω ht hch hch8) dX3_set_63 (lw_V q2697 q2699 qs40 q93 q2700) hd_X3_remembers rfl rfl ⟨Nat.le_of_ble_eq_true rfl, Nat.le_of_ble_eq_true rfl⟩ rfl rfl (Nat.le_of_ble_eq_true rfl) ?_
          have hw5 := (in_n (by decide) c6).2.2
          have hre66_1 : w9 = nI (tn w9) := (in_n (by decide) c6).1
          refine J_loc [some (.ref t), some (.int (nI (tn w9))), some (.int (v9)), none] (by simp only [← hre66_1]) ?_
          refine J_aload_n cx dX3_set_66 rfl ?_
          refine T_get_g cx dX3_set_67 ?_
          refine J_iconst (v := nI (4)) cx dX3_set_70 (by decide) ?_
          refine J_iload_n cx dX3_set_71 rfl ?_
          refine J_iaddN cx dX3_set_72 ?_
          refine T_ld_g cx dX3_set_73 (by omega) ?_
          refine J_istore_n3 cx dX3_set_74 (by decide) rfl ?_
          refine J_aload_n cx dX3_set_75 rfl ?_
          refine T_get_g cx dX3_set_76 ?_
          refine J_iconst (v := nI (4)) cx dX3_set_79 (by decide) ?_
          refine J_iload_n cx dX3_set_80 rfl ?_
          refine J_iaddN cx dX3_set_81 ?_
          refine J_iload_n cx dX3_set_82 rfl ?_
          refine T_st_g cx ht dX3_set_83 (by omega) ?_
          refine J_iload_n cx dX3_set_84 rfl ?_
          exact J_iret cx dX3_set_85 hr ⟨congrArg some (congrArg Value.int (by simp only [r_X3_set, o_X3_set_g, o_X3_set_hi, o_X3_set_ch, if_neg c6, if_pos c13, if_pos c31, if_neg c43])), (tov_cg (by simp only [r_X3_set, o_X3_set_g, o_X3_set_hi, o_X3_set_ch, if_neg c6, if_pos c13, if_pos c31, if_neg c43]) (by simp only [r_X3_set, o_X3_set_g, o_X3_set_hi, o_X3_set_ch, if_neg c6, if_pos c13, if_pos c31, if_neg c43]) rfl rfl rfl rfl rfl rfl rfl (by simp only [r_X3_set, o_X3_set_g, o_X3_set_hi, o_X3_set_ch, if_neg c6, if_pos c13, if_pos c31, if_neg c43]) rfl rfl rfl rfl rfl rfl rfl rfl rfl rfl), rfl⟩ (Nat.le_refl 0) (Nat.le_refl 0)
        · refine J_goto (tgt := 59) cx dX3_set_46 (by decide) ?_
          refine J_bipush (v := -2) cx dX3_set_59 (by decide) ?_
          exact J_iret cx dX3_set_61 hr ⟨congrArg some (congrArg Value.int (by simp only [r_X3_set, o_X3_set_g, o_X3_set_hi, o_X3_set_ch, if_neg c6, if_pos c13, if_pos c31, if_pos c43])), (tov_cg (by simp only [r_X3_set, o_X3_set_g, o_X3_set_hi, o_X3_set_ch, if_neg c6, if_pos c13, if_pos c31, if_pos c43]) (by simp only [r_X3_set, o_X3_set_g, o_X3_set_hi, o_X3_set_ch, if_neg c6, if_pos c13, if_pos c31, if_pos c43]) rfl rfl rfl rfl rfl rfl rfl (by simp only [r_X3_set, o_X3_set_g, o_X3_set_hi, o_X3_set_ch, if_neg c6, if_pos c13, if_pos c31, if_pos c43]) rfl rfl rfl rfl rfl rfl rfl rfl rfl rfl), rfl⟩ (Nat.le_refl 0) (Nat.le_refl 0)
    · refine J_iload_n cx dX3_set_16 rfl ?_
      refine J_iconst (v := nI (0)) cx dX3_set_17 (by decide) ?_
      refine J_bipush (v := nI (9)) cx dX3_set_18 (by decide) ?_
      refine T_callSI cx [.int (v9), .int (nI (0)), .int (nI (9))] (t_X3_in l Ω (v9) (nI (0)) (nI (9))) dX3_set_20 (lw_S q2686 q2687 q93 q2688) hd_X3_in.2 rfl rfl ⟨Nat.le_of_ble_eq_true rfl, Nat.le_of_ble_eq_true rfl⟩ rfl rfl (Nat.le_of_ble_eq_true rfl) ?_
      refine J_if_ne (tgt := 62) cx dX3_set_23 (by decide) (fun c23 => ?_) (fun c23 => ?_)
      · refine J_aload_n cx dX3_set_62 rfl ?_
        refine T_callV cx [] (t_X3_remembers l Ω ht hch hch8) dX3_set_63 (lw_V q2697 q2699 qs40 q93 q2700) hd_X3_remembers rfl rfl ⟨Nat.le_of_ble_eq_true rfl, Nat.le_of_ble_eq_true rfl⟩ rfl rfl (Nat.le_of_ble_eq_true rfl) ?_
        have hw5 := (in_n (by decide) c6).2.2
        have hre66_1 : w9 = nI (tn w9) := (in_n (by decide) c6).1
        refine J_loc [some (.ref t), some (.int (nI (tn w9))), some (.int (v9)), none] (by simp only [← hre66_1]) ?_
        refine J_aload_n cx dX3_set_66 rfl ?_
        refine T_get_g cx dX3_set_67 ?_
        refine J_iconst (v := nI (4)) cx dX3_set_70 (by decide) ?_
        refine J_iload_n cx dX3_set_71 rfl ?_
        refine J_iaddN cx dX3_set_72 ?_
        refine T_ld_g cx dX3_set_73 (by omega) ?_
        refine J_istore_n3 cx dX3_set_74 (by decide) rfl ?_
        refine J_aload_n cx dX3_set_75 rfl ?_
        refine T_get_g cx dX3_set_76 ?_
        refine J_iconst (v := nI (4)) cx dX3_set_79 (by decide) ?_
        refine J_iload_n cx dX3_set_80 rfl ?_
        refine J_iaddN cx dX3_set_81 ?_
        refine J_iload_n cx dX3_set_82 rfl ?_
        refine T_st_g cx ht dX3_set_83 (by omega) ?_
        refine J_iload_n cx dX3_set_84 rfl ?_
        exact J_iret cx dX3_set_85 hr ⟨congrArg some (congrArg Value.int (by simp only [r_X3_set, o_X3_set_g, o_X3_set_hi, o_X3_set_ch, if_neg c6, if_neg c13, if_neg c23])), (tov_cg (by simp only [r_X3_set, o_X3_set_g, o_X3_set_hi, o_X3_set_ch, if_neg c6, if_neg c13, if_neg c23]) (by simp only [r_X3_set, o_X3_set_g, o_X3_set_hi, o_X3_set_ch, if_neg c6, if_neg c13, if_neg c23]) rfl rfl rfl rfl rfl rfl rfl (by simp only [r_X3_set, o_X3_set_g, o_X3_set_hi, o_X3_set_ch, if_neg c6, if_neg c13, if_neg c23]) rfl rfl rfl rfl rfl rfl rfl rfl rfl rfl), rfl⟩ (Nat.le_refl 0) (Nat.le_refl 0)
      · refine J_goto (tgt := 59) cx dX3_set_26 (by decide) ?_
        refine J_bipush (v := -2) cx dX3_set_59 (by decide) ?_
        exact J_iret cx dX3_set_61 hr ⟨congrArg some (congrArg Value.int (by simp only [r_X3_set, o_X3_set_g, o_X3_set_hi, o_X3_set_ch, if_neg c6, if_neg c13, if_pos c23])), (tov_cg (by simp only [r_X3_set, o_X3_set_g, o_X3_set_hi, o_X3_set_ch, if_neg c6, if_neg c13, if_pos c23]) (by simp only [r_X3_set, o_X3_set_g, o_X3_set_hi, o_X3_set_ch, if_neg c6, if_neg c13, if_pos c23]) rfl rfl rfl rfl rfl rfl rfl (by simp only [r_X3_set, o_X3_set_g, o_X3_set_hi, o_X3_set_ch, if_neg c6, if_neg c13, if_pos c23]) rfl rfl rfl rfl rfl rfl rfl rfl rfl rfl), rfl⟩ (Nat.le_refl 0) (Nat.le_refl 0)
  · refine J_iconst (v := -1) cx dX3_set_9 (by decide) ?_
    exact J_iret cx dX3_set_10 hr ⟨congrArg some (congrArg Value.int (by simp only [r_X3_set, o_X3_set_g, o_X3_set_hi, o_X3_set_ch, if_pos c6])), (tov_cg (by simp only [r_X3_set, o_X3_set_g, o_X3_set_hi, o_X3_set_ch, if_pos c6]) (by simp only [r_X3_set, o_X3_set_g, o_X3_set_hi, o_X3_set_ch, if_pos c6]) rfl rfl rfl rfl rfl rfl rfl (by simp only [r_X3_set, o_X3_set_g, o_X3_set_hi, o_X3_set_ch, if_pos c6]) rfl rfl rfl rfl rfl rfl rfl rfl rfl rfl), rfl⟩ (Nat.le_refl 0) (Nat.le_refl 0)
def r_X3_dryness (g : Nat → Int32) (w9 : Int32) (v9 : Int32) : Int32 := (if (r_X3_in w9 (nI (0)) (nI (23))) = 0 then (-1) else (if (r_X3_in v9 (nI (0)) (nI (60))) = 0 then (-2) else (g (10 + (tn w9)))))
def o_X3_dryness_g (g : Nat → Int32) (w9 : Int32) (v9 : Int32) : Nat → Int32 := (if (r_X3_in w9 (nI (0)) (nI (23))) = 0 then g else (if (r_X3_in v9 (nI (0)) (nI (60))) = 0 then g else (upd g (10 + (tn w9)) (v9))))
def o_X3_dryness_hi (g : Nat → Int32) (hi : Nat → Int32) (ch : Int32) (w9 : Int32) (v9 : Int32) : Nat → Int32 := (if (r_X3_in w9 (nI (0)) (nI (23))) = 0 then hi else (if (r_X3_in v9 (nI (0)) (nI (60))) = 0 then hi else (o_X3_remembers_hi g hi ch)))
def o_X3_dryness_ch (ch : Int32) (w9 : Int32) (v9 : Int32) : Int32 := (if (r_X3_in w9 (nI (0)) (nI (23))) = 0 then ch else (if (r_X3_in v9 (nI (0)) (nI (60))) = 0 then ch else (o_X3_remembers_ch ch)))
theorem hd_X3_dryness : yX3_dryness.cls = RX3 ∧ yX3_dryness.cls ≠ "java/lang/invoke/MethodHandle" ∧ yX3_dryness.cls ≠ "java/lang/invoke/VarHandle" ∧ (parseMethodDescriptor yX3_dryness.desc).map (fun d => d.parameters.length) = some 2 := by decide +kernel
set_option maxHeartbeats 4000000 in
theorem t_X3_dryness (l : Launch) (Ω : jO) {t : Nat} {G0 : Mem} {g hi sv as_ inp why now told bef : Nat → Int32} {ch hs fed fa ws ns ct st_ pl iw sn : Int32} {sz : Nat} (ht : Ω.2.2.2 ≤ t) (w9 : Int32) (v9 : Int32) (hch : ch = nI (tn ch)) (hch8 : tn ch ≤ 8) : Met l yX3_dryness (ws_ yX3_dryness cX3_dryness 4 (some .int)) ({ frames := 3, cells := 0, slots := 0, locals := 57 }) (va_Pc [.ref t, .int (w9), .int (v9)] (jWd Ω (tov Ω t G0 g hi sv as_ inp why now told bef ch hs fed fa ws ns ct st_ pl iw sn) sz)) (jQ Ω (jD (some (.int (r_X3_dryness g w9 v9))) (tov Ω t G0 (o_X3_dryness_g g w9 v9) (o_X3_dryness_hi g hi ch w9 v9) sv as_ inp why now told bef (o_X3_dryness_ch ch w9 v9) hs fed fa ws ns ct st_ pl iw sn) sz)) 0 0 (jB Ω) := by
  refine jMet (by decide) (Nat.le_of_ble_eq_true rfl) ?_
  intro p e s m args below meth c cx hr hnm
  refine J_loc [some (.ref t), some (.int (w9)), some (.int (v9)), none] rfl ?_
  refine J_iload_n cx dX3_dryness_0 rfl ?_
  refine J_iconst (v := nI (0)) cx dX3_dryness_1 (by decide) ?_
  refine J_bipush (v := nI (23)) cx dX3_dryness_2 (by decide) ?_
  refine T_callSI cx [.int (w9), .int (nI (0)), .int (nI (23))] (t_X3_in l Ω (w9) (nI (0)) (nI (23))) dX3_dryness_4 (lw_S q2686 q2687 q93 q2688) hd_X3_in.2 rfl rfl ⟨Nat.le_of_ble_eq_true rfl, Nat.le_of_ble_eq_true rfl⟩ rfl rfl (Nat.le_of_ble_eq_true rfl) ?_
  refine J_if_ne (tgt := 12) cx dX3_dryness_7 (by decide) (fun c7 => ?_) (fun c7 => ?_)
  · refine J_iload_n cx dX3_dryness_12 rfl ?_
    refine J_iconst (v := nI (0)) cx dX3_dryness_13 (by decide) ?_
    refine J_bipush (v := nI (60)) cx dX3_dryness_14 (by decide) ?_
    refine T_callSI cx [.int (v9), .int (nI (0)), .int (nI (60))] (t_X3_in l Ω (v9) (nI (0)) (nI (60))) dX3_dryness_16 (lw_S q2686 q2687 q93 q2688) hd_X3_in.2 rfl rfl ⟨Nat.le_of_ble_eq_true rfl, Nat.le_of_ble_eq_true rfl⟩ rfl rfl (Nat.le_of_ble_eq_true rfl) ?_
    refine J_if_ne (tgt := 25) cx dX3_dryness_19 (by decide) (fun c19 => ?_) (fun c19 => ?_)
    · refine J_aload_n cx dX3_dryness_25 rfl ?_
      refine T_callV cx [] (t_X3_remembers l Ω ht hch hch8) dX3_dryness_26 (lw_V q2697 q2699 qs40 q93 q2700) hd_X3_remembers rfl rfl ⟨Nat.le_of_ble_eq_true rfl, Nat.le_of_ble_eq_true rfl⟩ rfl rfl (Nat.le_of_ble_eq_true rfl) ?_
      have hw5 := (in_n (by decide) c7).2.2
      have hre29_1 : w9 = nI (tn w9) := (in_n (by decide) c7).1
      refine J_loc [some (.ref t), some (.int (nI (tn w9))), some (.int (v9)), none] (by simp only [← hre29_1]) ?_
      refine J_aload_n cx dX3_dryness_29 rfl ?_
      refine T_get_g cx dX3_dryness_30 ?_
      refine J_bipush (v := nI (10)) cx dX3_dryness_33 (by decide) ?_
      refine J_iload_n cx dX3_dryness_35 rfl ?_
      refine J_iaddN cx dX3_dryness_36 ?_
      refine T_ld_g cx dX3_dryness_37 (by omega) ?_
      refine J_istore_n3 cx dX3_dryness_38 (by decide) rfl ?_
      refine J_aload_n cx dX3_dryness_39 rfl ?_
      refine T_get_g cx dX3_dryness_40 ?_
      refine J_bipush (v := nI (10)) cx dX3_dryness_43 (by decide) ?_
      refine J_iload_n cx dX3_dryness_45 rfl ?_
      refine J_iaddN cx dX3_dryness_46 ?_
      refine J_iload_n cx dX3_dryness_47 rfl ?_
      refine T_st_g cx ht dX3_dryness_48 (by omega) ?_
      refine J_iload_n cx dX3_dryness_49 rfl ?_
      exact J_iret cx dX3_dryness_50 hr ⟨congrArg some (congrArg Value.int (by simp only [r_X3_dryness, o_X3_dryness_g, o_X3_dryness_hi, o_X3_dryness_ch, if_neg c7, if_neg c19])), (tov_cg (by simp only [r_X3_dryness, o_X3_dryness_g, o_X3_dryness_hi, o_X3_dryness_ch, if_neg c7, if_neg c19]) (by simp only [r_X3_dryness, o_X3_dryness_g, o_X3_dryness_hi, o_X3_dryness_ch, if_neg c7, if_neg c19]) rfl rfl rfl rfl rfl rfl rfl (by simp only [r_X3_dryness, o_X3_dryness_g, o_X3_dryness_hi, o_X3_dryness_ch, if_neg c7, if_neg c19]) rfl rfl rfl rfl rfl rfl rfl rfl rfl rfl), rfl⟩ (Nat.le_refl 0) (Nat.le_refl 0)
    · refine J_bipush (v := -2) cx dX3_dryness_22 (by decide) ?_
      exact J_iret cx dX3_dryness_24 hr ⟨congrArg some (congrArg Value.int (by simp only [r_X3_dryness, o_X3_dryness_g, o_X3_dryness_hi, o_X3_dryness_ch, if_neg c7, if_pos c19])), (tov_cg (by simp only [r_X3_dryness, o_X3_dryness_g, o_X3_dryness_hi, o_X3_dryness_ch, if_neg c7, if_pos c19]) (by simp only [r_X3_dryness, o_X3_dryness_g, o_X3_dryness_hi, o_X3_dryness_ch, if_neg c7, if_pos c19]) rfl rfl rfl rfl rfl rfl rfl (by simp only [r_X3_dryness, o_X3_dryness_g, o_X3_dryness_hi, o_X3_dryness_ch, if_neg c7, if_pos c19]) rfl rfl rfl rfl rfl rfl rfl rfl rfl rfl), rfl⟩ (Nat.le_refl 0) (Nat.le_refl 0)
  · refine J_iconst (v := -1) cx dX3_dryness_10 (by decide) ?_
    exact J_iret cx dX3_dryness_11 hr ⟨congrArg some (congrArg Value.int (by simp only [r_X3_dryness, o_X3_dryness_g, o_X3_dryness_hi, o_X3_dryness_ch, if_pos c7])), (tov_cg (by simp only [r_X3_dryness, o_X3_dryness_g, o_X3_dryness_hi, o_X3_dryness_ch, if_pos c7]) (by simp only [r_X3_dryness, o_X3_dryness_g, o_X3_dryness_hi, o_X3_dryness_ch, if_pos c7]) rfl rfl rfl rfl rfl rfl rfl (by simp only [r_X3_dryness, o_X3_dryness_g, o_X3_dryness_hi, o_X3_dryness_ch, if_pos c7]) rfl rfl rfl rfl rfl rfl rfl rfl rfl rfl), rfl⟩ (Nat.le_refl 0) (Nat.le_refl 0)
def r_X3_air (g : Nat → Int32) (w9 : Int32) : Int32 := (if (r_X3_in w9 (nI (0)) (nI (23))) = 0 then (-1) else (g (10 + (tn w9))))
theorem hd_X3_air : yX3_air.cls = RX3 ∧ yX3_air.cls ≠ "java/lang/invoke/MethodHandle" ∧ yX3_air.cls ≠ "java/lang/invoke/VarHandle" ∧ (parseMethodDescriptor yX3_air.desc).map (fun d => d.parameters.length) = some 1 := by decide +kernel
set_option maxHeartbeats 4000000 in
theorem t_X3_air (l : Launch) (Ω : jO) {t : Nat} {G0 : Mem} {g hi sv as_ inp why now told bef : Nat → Int32} {ch hs fed fa ws ns ct st_ pl iw sn : Int32} {sz : Nat} (ht : Ω.2.2.2 ≤ t) (w9 : Int32)  : Met l yX3_air (ws_ yX3_air cX3_air 2 (some .int)) ({ frames := 2, cells := 0, slots := 0, locals := 34 }) (va_Pc [.ref t, .int (w9)] (jWd Ω (tov Ω t G0 g hi sv as_ inp why now told bef ch hs fed fa ws ns ct st_ pl iw sn) sz)) (jQ Ω (jD (some (.int (r_X3_air g w9))) (tov Ω t G0 g hi sv as_ inp why now told bef ch hs fed fa ws ns ct st_ pl iw sn) sz)) 0 0 (jB Ω) := by
  refine jMet (by decide) (Nat.le_of_ble_eq_true rfl) ?_
  intro p e s m args below meth c cx hr hnm
  refine J_loc [some (.ref t), some (.int (w9))] rfl ?_
  refine J_iload_n cx dX3_air_0 rfl ?_
  refine J_iconst (v := nI (0)) cx dX3_air_1 (by decide) ?_
  refine J_bipush (v := nI (23)) cx dX3_air_2 (by decide) ?_
  refine T_callSI cx [.int (w9), .int (nI (0)), .int (nI (23))] (t_X3_in l Ω (w9) (nI (0)) (nI (23))) dX3_air_4 (lw_S q2686 q2687 q93 q2688) hd_X3_in.2 rfl rfl ⟨Nat.le_of_ble_eq_true rfl, Nat.le_of_ble_eq_true rfl⟩ rfl rfl (Nat.le_of_ble_eq_true rfl) ?_
  refine J_if_eq (tgt := 22) cx dX3_air_7 (by decide) (fun c7 => ?_) (fun c7 => ?_)
  · refine J_iconst (v := -1) cx dX3_air_22 (by decide) ?_
    exact J_iret cx dX3_air_23 hr ⟨congrArg some (congrArg Value.int (by simp only [r_X3_air, if_pos c7])), rfl, rfl⟩ (Nat.le_refl 0) (Nat.le_refl 0)
  · have hw5 := (in_n (by decide) c7).2.2
    have hre10_1 : w9 = nI (tn w9) := (in_n (by decide) c7).1
    refine J_loc [some (.ref t), some (.int (nI (tn w9)))] (by simp only [← hre10_1]) ?_
    refine J_aload_n cx dX3_air_10 rfl ?_
    refine T_get_g cx dX3_air_11 ?_
    refine J_bipush (v := nI (10)) cx dX3_air_14 (by decide) ?_
    refine J_iload_n cx dX3_air_16 rfl ?_
    refine J_iaddN cx dX3_air_17 ?_
    refine T_ld_g cx dX3_air_18 (by omega) ?_
    refine J_goto (tgt := 23) cx dX3_air_19 (by decide) ?_
    exact J_iret cx dX3_air_23 hr ⟨congrArg some (congrArg Value.int (by simp only [r_X3_air, if_neg c7])), rfl, rfl⟩ (Nat.le_refl 0) (Nat.le_refl 0)
def NsOk (x : Int32) : Prop := x = nI (tn x) ∧ tn x ≤ 2
theorem nsk1 : NsOk (nI 1) := ⟨by decide, by decide⟩
theorem nsk2 : NsOk (nI 2) := ⟨by decide, by decide⟩
theorem nsk_mayPot (g : Nat → Int32) {ns : Int32} (h : NsOk ns) : NsOk (o_X3_mayPot_ns g ns) := by
  unfold o_X3_mayPot_ns
  (repeat' split) <;> first | exact h | exact nsk1 | exact nsk2 | exact nsk_mayBeIn _ _ _ h
theorem nsk_mayBeIn (g : Nat → Int32) (p9 : Nat) (x9 : Int32) {ns : Int32} (h : NsOk ns) : NsOk (o_X3_mayBeIn_ns g ns p9 x9) := by
  unfold o_X3_mayBeIn_ns
  (repeat' split) <;> first | exact h | exact nsk1 | exact nsk2 | exact nsk_mayBeIn _ _ _ h
theorem nsk_mayPlace (g : Nat → Int32) (p9 : Nat) (q9 : Nat) {ns : Int32} (h : NsOk ns) : NsOk (o_X3_mayPlace_ns g ns p9 q9) := by
  unfold o_X3_mayPlace_ns
  (repeat' split) <;> first | exact h | exact nsk1 | exact nsk2 | exact nsk_mayBeIn _ _ _ h
theorem nsk_mayFire (g : Nat → Int32) {ns : Int32} (h : NsOk ns) : NsOk (o_X3_mayFire_ns g ns) := by
  unfold o_X3_mayFire_ns
  (repeat' split) <;> first | exact h | exact nsk1 | exact nsk2 | exact nsk_mayBeIn _ _ _ h
theorem nsk_mayPass (g : Nat → Int32) (n9 : Int32) {ns : Int32} (h : NsOk ns) : NsOk (o_X3_mayPass_ns g ns n9) := by
  unfold o_X3_mayPass_ns
  (repeat' split) <;> first | exact h | exact nsk1 | exact nsk2 | exact nsk_mayBeIn _ _ _ h
def r_X3_reason (why : Nat → Int32) (ws : Int32) (l9 : Int32) (b9 : Int32) : Int32 := (if ws = 0 then (-3) else (if (r_X3_in l9 (nI (0)) (nI (2))) = 0 then (-2) else (if l9 < ws then (if b9 = 0 then (why ((2 * (tn l9)) + 0)) else (why ((2 * (tn l9)) + 1))) else (-6))))
theorem hd_X3_reason : yX3_reason.cls = RX3 ∧ yX3_reason.cls ≠ "java/lang/invoke/MethodHandle" ∧ yX3_reason.cls ≠ "java/lang/invoke/VarHandle" ∧ (parseMethodDescriptor yX3_reason.desc).map (fun d => d.parameters.length) = some 2 := by decide +kernel
set_option maxHeartbeats 4000000 in
theorem t_X3_reason (l : Launch) (Ω : jO) {t : Nat} {G0 : Mem} {g hi sv as_ inp why now told bef : Nat → Int32} {ch hs fed fa ws ns ct st_ pl iw sn : Int32} {sz : Nat} (ht : Ω.2.2.2 ≤ t) (l9 : Int32) (b9 : Int32)  : Met l yX3_reason (ws_ yX3_reason cX3_reason 3 (some .int)) ({ frames := 2, cells := 0, slots := 0, locals := 34 }) (va_Pc [.ref t, .int (l9), .int (b9)] (jWd Ω (tov Ω t G0 g hi sv as_ inp why now told bef ch hs fed fa ws ns ct st_ pl iw sn) sz)) (jQ Ω (jD (some (.int (r_X3_reason why ws l9 b9))) (tov Ω t G0 g hi sv as_ inp why now told bef ch hs fed fa ws ns ct st_ pl iw sn) sz)) 0 0 (jB Ω) := by
  refine jMet (by decide) (Nat.le_of_ble_eq_true rfl) ?_
  intro p e s m args below meth c cx hr hnm
  refine J_loc [some (.ref t), some (.int (l9)), some (.int (b9))] rfl ?_
  refine J_aload_n cx dX3_reason_0 rfl ?_
  refine T_get_ws cx dX3_reason_1 ?_
  refine J_if_ne (tgt := 10) cx dX3_reason_4 (by decide) (fun c4 => ?_) (fun c4 => ?_)
  · refine J_iload_n cx dX3_reason_10 rfl ?_
    refine J_iconst (v := nI (0)) cx dX3_reason_11 (by decide) ?_
    refine J_iconst (v := nI (2)) cx dX3_reason_12 (by decide) ?_
    refine T_callSI cx [.int (l9), .int (nI (0)), .int (nI (2))] (t_X3_in l Ω (l9) (nI (0)) (nI (2))) dX3_reason_13 (lw_S q2686 q2687 q93 q2688) hd_X3_in.2 rfl rfl ⟨Nat.le_of_ble_eq_true rfl, Nat.le_of_ble_eq_true rfl⟩ rfl rfl (Nat.le_of_ble_eq_true rfl) ?_
    refine J_if_ne (tgt := 22) cx dX3_reason_16 (by decide) (fun c16 => ?_) (fun c16 => ?_)
    · refine J_iload_n cx dX3_reason_22 rfl ?_
      refine J_aload_n cx dX3_reason_23 rfl ?_
      refine T_get_ws cx dX3_reason_24 ?_
      refine J_icmp_lt (tgt := 35) cx dX3_reason_27 (by decide) (fun c27 => ?_) (fun c27 => ?_)
      · refine J_aload_n cx dX3_reason_35 rfl ?_
        refine T_get_why cx dX3_reason_36 ?_
        have hw5 := (in_n (by decide) c16).2.2
        have hre39_1 : l9 = nI (tn l9) := (in_n (by decide) c16).1
        refine J_loc [some (.ref t), some (.int (nI (tn l9))), some (.int (b9))] (by simp only [← hre39_1]) ?_
        refine J_iconst (v := nI (2)) cx dX3_reason_39 (by decide) ?_
        refine J_iload_n cx dX3_reason_40 rfl ?_
        refine J_imulN cx dX3_reason_41 ?_
        refine J_iload_n cx dX3_reason_42 rfl ?_
        refine J_if_eq (tgt := 50) cx dX3_reason_43 (by decide) (fun c43 => ?_) (fun c43 => ?_)
        · refine J_iconst (v := nI (0)) cx dX3_reason_50 (by decide) ?_
          refine J_iaddN cx dX3_reason_51 ?_
          refine T_ld_why cx dX3_reason_52 (by omega) ?_
          exact J_iret cx dX3_reason_53 hr ⟨congrArg some (congrArg Value.int (by simp only [r_X3_reason, if_neg c4, if_neg c16, if_pos c27, if_pos c43])), rfl, rfl⟩ (Nat.le_refl 0) (Nat.le_refl 0)
        · refine J_iconst (v := nI (1)) cx dX3_reason_46 (by decide) ?_
          refine J_goto (tgt := 51) cx dX3_reason_47 (by decide) ?_
          refine J_iaddN cx dX3_reason_51 ?_
          refine T_ld_why cx dX3_reason_52 (by omega) ?_
          exact J_iret cx dX3_reason_53 hr ⟨congrArg some (congrArg Value.int (by simp only [r_X3_reason, if_neg c4, if_neg c16, if_pos c27, if_neg c43])), rfl, rfl⟩ (Nat.le_refl 0) (Nat.le_refl 0)
      · refine J_bipush (v := -6) cx dX3_reason_30 (by decide) ?_
        refine J_goto (tgt := 53) cx dX3_reason_32 (by decide) ?_
        exact J_iret cx dX3_reason_53 hr ⟨congrArg some (congrArg Value.int (by simp only [r_X3_reason, if_neg c4, if_neg c16, if_neg c27])), rfl, rfl⟩ (Nat.le_refl 0) (Nat.le_refl 0)
    · refine J_bipush (v := -2) cx dX3_reason_19 (by decide) ?_
      exact J_iret cx dX3_reason_21 hr ⟨congrArg some (congrArg Value.int (by simp only [r_X3_reason, if_neg c4, if_pos c16])), rfl, rfl⟩ (Nat.le_refl 0) (Nat.le_refl 0)
  · refine J_bipush (v := -3) cx dX3_reason_7 (by decide) ?_
    exact J_iret cx dX3_reason_9 hr ⟨congrArg some (congrArg Value.int (by simp only [r_X3_reason, if_pos c4])), rfl, rfl⟩ (Nat.le_refl 0) (Nat.le_refl 0)
def r_X3_potter (g : Nat → Int32) (s9 : Int32) : Int32 := (if (r_X3_in s9 (nI (1)) (nI (9))) = 0 then (-2) else (if (tn (g (1))) = 4 then (-5) else ((nI ((tn (g (1))) + 1)) - (nI (1)))))
def o_X3_potter_why (g : Nat → Int32) (why : Nat → Int32) (now : Nat → Int32) (s9 : Int32) : Nat → Int32 := (if (r_X3_in s9 (nI (1)) (nI (9))) = 0 then why else (if (tn (g (1))) = 4 then (S_refused why ((upd (upd now (0) ((nI (10)))) (1) ((nI (4))))) (2 * tn ((nI (1))))) else why))
def o_X3_potter_now (g : Nat → Int32) (now : Nat → Int32) (s9 : Int32) : Nat → Int32 := (if (r_X3_in s9 (nI (1)) (nI (9))) = 0 then now else (if (tn (g (1))) = 4 then ((upd (upd now (0) ((nI (10)))) (1) ((nI (4))))) else now))
def o_X3_potter_ws (g : Nat → Int32) (ws : Int32) (s9 : Int32) : Int32 := (if (r_X3_in s9 (nI (1)) (nI (9))) = 0 then ws else (if (tn (g (1))) = 4 then (nI (tn ((nI (1))))) else ws))
def o_X3_potter_ns (g : Nat → Int32) (ns : Int32) (s9 : Int32) : Int32 := (if (r_X3_in s9 (nI (1)) (nI (9))) = 0 then ns else (if (tn (g (1))) = 4 then ((nI (1))) else ns))
def o_X3_potter_g (g : Nat → Int32) (s9 : Int32) : Nat → Int32 := (if (r_X3_in s9 (nI (1)) (nI (9))) = 0 then g else (if (tn (g (1))) = 4 then g else (upd (upd g (34 + (tn (g (1)))) (s9)) (1) (nI ((tn (g (1))) + 1)))))
def o_X3_potter_hi (g : Nat → Int32) (hi : Nat → Int32) (ch : Int32) (s9 : Int32) : Nat → Int32 := (if (r_X3_in s9 (nI (1)) (nI (9))) = 0 then hi else (if (tn (g (1))) = 4 then hi else (o_X3_remembers_hi g hi ch)))
def o_X3_potter_ch (g : Nat → Int32) (ch : Int32) (s9 : Int32) : Int32 := (if (r_X3_in s9 (nI (1)) (nI (9))) = 0 then ch else (if (tn (g (1))) = 4 then ch else (o_X3_remembers_ch ch)))
theorem hd_X3_potter : yX3_potter.cls = RX3 ∧ yX3_potter.cls ≠ "java/lang/invoke/MethodHandle" ∧ yX3_potter.cls ≠ "java/lang/invoke/VarHandle" ∧ (parseMethodDescriptor yX3_potter.desc).map (fun d => d.parameters.length) = some 1 := by decide +kernel
set_option maxHeartbeats 4000000 in
theorem t_X3_potter (l : Launch) (Ω : jO) {t : Nat} {G0 : Mem} {g hi sv as_ inp why now told bef : Nat → Int32} {ch hs fed fa ws ns ct st_ pl iw sn : Int32} {sz : Nat} (ht : Ω.2.2.2 ≤ t) (s9 : Int32) (hch : ch = nI (tn ch)) (hch8 : tn ch ≤ 8) (hp1 : g 1 = nI (tn (g 1))) (hp4 : tn (g 1) ≤ 4) : Met l yX3_potter (ws_ yX3_potter cX3_potter 2 (some .int)) ({ frames := 3, cells := 0, slots := 0, locals := 57 }) (va_Pc [.ref t, .int (s9)] (jWd Ω (tov Ω t G0 g hi sv as_ inp why now told bef ch hs fed fa ws ns ct st_ pl iw sn) sz)) (jQ Ω (jD (some (.int (r_X3_potter g s9))) (tov Ω t G0 (o_X3_potter_g g s9) (o_X3_potter_hi g hi ch s9) sv as_ inp (o_X3_potter_why g why now s9) (o_X3_potter_now g now s9) told bef (o_X3_potter_ch g ch s9) hs fed fa (o_X3_potter_ws g ws s9) (o_X3_potter_ns g ns s9) ct st_ pl iw sn) sz)) 0 0 (jB Ω) := by
  refine jMet (by decide) (Nat.le_of_ble_eq_true rfl) ?_
  intro p e s m args below meth c cx hr hnm
  refine J_loc [some (.ref t), some (.int (s9))] rfl ?_
  refine J_iload_n cx dX3_potter_0 rfl ?_
  refine J_iconst (v := nI (1)) cx dX3_potter_1 (by decide) ?_
  refine J_bipush (v := nI (9)) cx dX3_potter_2 (by decide) ?_
  refine T_callSI cx [.int (s9), .int (nI (1)), .int (nI (9))] (t_X3_in l Ω (s9) (nI (1)) (nI (9))) dX3_potter_4 (lw_S q2686 q2687 q93 q2688) hd_X3_in.2 rfl rfl ⟨Nat.le_of_ble_eq_true rfl, Nat.le_of_ble_eq_true rfl⟩ rfl rfl (Nat.le_of_ble_eq_true rfl) ?_
  refine J_if_ne (tgt := 13) cx dX3_potter_7 (by decide) (fun c7 => ?_) (fun c7 => ?_)
  · refine J_aload_n cx dX3_potter_13 rfl ?_
    refine T_get_g cx dX3_potter_14 ?_
    refine J_iconst (v := nI (1)) cx dX3_potter_17 (by decide) ?_
    refine T_ld_g cx dX3_potter_18 (by omega) ?_
    refine J_top (.int (nI (tn (g (1))))) (congrArg Value.int (hp1)) ?_
    refine J_iconst (v := nI (4)) cx dX3_potter_19 (by decide) ?_
    refine J_icmpN_ne (tgt := 36) cx dX3_potter_20 (by decide) (by omega) (by omega) (fun c20 => ?_) (fun c20 => ?_)
    · refine J_aload_n cx dX3_potter_36 rfl ?_
      refine T_callV cx [] (t_X3_remembers l Ω ht hch hch8) dX3_potter_37 (lw_V q2697 q2699 qs40 q93 q2700) hd_X3_remembers rfl rfl ⟨Nat.le_of_ble_eq_true rfl, Nat.le_of_ble_eq_true rfl⟩ rfl rfl (Nat.le_of_ble_eq_true rfl) ?_
      refine J_aload_n cx dX3_potter_40 rfl ?_
      refine T_get_g cx dX3_potter_41 ?_
      refine J_bipush (v := nI (34)) cx dX3_potter_44 (by decide) ?_
      refine J_aload_n cx dX3_potter_46 rfl ?_
      refine T_get_g cx dX3_potter_47 ?_
      refine J_iconst (v := nI (1)) cx dX3_potter_50 (by decide) ?_
      refine T_ld_g cx dX3_potter_51 (by omega) ?_
      refine J_top (.int (nI (tn (g (1))))) (congrArg Value.int (hp1)) ?_
      refine J_iaddN cx dX3_potter_52 ?_
      refine J_iload_n cx dX3_potter_53 rfl ?_
      refine T_st_g cx ht dX3_potter_54 (by omega) ?_
      refine J_aload_n cx dX3_potter_55 rfl ?_
      refine T_get_g cx dX3_potter_56 ?_
      refine J_iconst (v := nI (1)) cx dX3_potter_59 (by decide) ?_
      refine J_dup2 cx dX3_potter_60 rfl rfl ?_
      refine T_ld_g cx dX3_potter_61 (by omega) ?_
      refine J_top (.int (g (1))) (congrArg Value.int ((pk_un (by omega)).trans (rfl))) ?_
      refine J_top (.int (nI (tn (g (1))))) (congrArg Value.int (hp1)) ?_
      refine J_iconst (v := nI (1)) cx dX3_potter_62 (by decide) ?_
      refine J_iaddN cx dX3_potter_63 ?_
      refine T_st_g cx ht dX3_potter_64 (by omega) ?_
      refine J_aload_n cx dX3_potter_65 rfl ?_
      refine T_get_g cx dX3_potter_66 ?_
      refine J_iconst (v := nI (1)) cx dX3_potter_69 (by decide) ?_
      refine T_ld_g cx dX3_potter_70 (by omega) ?_
      refine J_top (.int (nI ((tn (g (1))) + 1))) (congrArg Value.int (pk_us)) ?_
      refine J_iconst (v := nI (1)) cx dX3_potter_71 (by decide) ?_
      refine J_isub cx dX3_potter_72 ?_
      exact J_iret cx dX3_potter_73 hr ⟨congrArg some (congrArg Value.int (by simp only [r_X3_potter, o_X3_potter_why, o_X3_potter_now, o_X3_potter_ws, o_X3_potter_ns, o_X3_potter_g, o_X3_potter_hi, o_X3_potter_ch, if_neg c7, if_neg c20])), (tov_cg (by simp only [r_X3_potter, o_X3_potter_why, o_X3_potter_now, o_X3_potter_ws, o_X3_potter_ns, o_X3_potter_g, o_X3_potter_hi, o_X3_potter_ch, if_neg c7, if_neg c20]) (by simp only [r_X3_potter, o_X3_potter_why, o_X3_potter_now, o_X3_potter_ws, o_X3_potter_ns, o_X3_potter_g, o_X3_potter_hi, o_X3_potter_ch, if_neg c7, if_neg c20]) rfl rfl rfl (by simp only [r_X3_potter, o_X3_potter_why, o_X3_potter_now, o_X3_potter_ws, o_X3_potter_ns, o_X3_potter_g, o_X3_potter_hi, o_X3_potter_ch, if_neg c7, if_neg c20]) (by simp only [r_X3_potter, o_X3_potter_why, o_X3_potter_now, o_X3_potter_ws, o_X3_potter_ns, o_X3_potter_g, o_X3_potter_hi, o_X3_potter_ch, if_neg c7, if_neg c20]) rfl rfl (by simp only [r_X3_potter, o_X3_potter_why, o_X3_potter_now, o_X3_potter_ws, o_X3_potter_ns, o_X3_potter_g, o_X3_potter_hi, o_X3_potter_ch, if_neg c7, if_neg c20]) rfl rfl rfl (by simp only [r_X3_potter, o_X3_potter_why, o_X3_potter_now, o_X3_potter_ws, o_X3_potter_ns, o_X3_potter_g, o_X3_potter_hi, o_X3_potter_ch, if_neg c7, if_neg c20]) (by simp only [r_X3_potter, o_X3_potter_why, o_X3_potter_now, o_X3_potter_ws, o_X3_potter_ns, o_X3_potter_g, o_X3_potter_hi, o_X3_potter_ch, if_neg c7, if_neg c20]) rfl rfl rfl rfl rfl), rfl⟩ (Nat.le_refl 0) (Nat.le_refl 0)
    · refine J_aload_n cx dX3_potter_23 rfl ?_
      refine J_bipush (v := nI (10)) cx dX3_potter_24 (by decide) ?_
      refine J_iconst (v := nI (4)) cx dX3_potter_26 (by decide) ?_
      refine T_callI cx [.int (nI (10)), .int (nI (4))] (t_X3_noted l Ω ht (nI (10)) (nI (4))) dX3_potter_27 (lw_V q2716 q2718 qs41 q93 q2719) hd_X3_noted rfl rfl ⟨Nat.le_of_ble_eq_true rfl, Nat.le_of_ble_eq_true rfl⟩ rfl rfl (Nat.le_of_ble_eq_true rfl) ?_
      refine J_pop cx dX3_potter_30 rfl ?_
      refine J_aload_n cx dX3_potter_31 rfl ?_
      refine T_callI cx [] (t_X3_refused l Ω ht nsk1.1 nsk1.2) dX3_potter_32 (lw_V q2720 q2722 qs42 q93 q2723) hd_X3_refused rfl rfl ⟨Nat.le_of_ble_eq_true rfl, Nat.le_of_ble_eq_true rfl⟩ rfl rfl (Nat.le_of_ble_eq_true rfl) ?_
      exact J_iret cx dX3_potter_35 hr ⟨congrArg some (congrArg Value.int (by simp only [r_X3_potter, o_X3_potter_why, o_X3_potter_now, o_X3_potter_ws, o_X3_potter_ns, o_X3_potter_g, o_X3_potter_hi, o_X3_potter_ch, if_neg c7, if_pos c20])), (tov_cg (by simp only [r_X3_potter, o_X3_potter_why, o_X3_potter_now, o_X3_potter_ws, o_X3_potter_ns, o_X3_potter_g, o_X3_potter_hi, o_X3_potter_ch, if_neg c7, if_pos c20]) (by simp only [r_X3_potter, o_X3_potter_why, o_X3_potter_now, o_X3_potter_ws, o_X3_potter_ns, o_X3_potter_g, o_X3_potter_hi, o_X3_potter_ch, if_neg c7, if_pos c20]) rfl rfl rfl (by simp only [r_X3_potter, o_X3_potter_why, o_X3_potter_now, o_X3_potter_ws, o_X3_potter_ns, o_X3_potter_g, o_X3_potter_hi, o_X3_potter_ch, if_neg c7, if_pos c20]) (by simp only [r_X3_potter, o_X3_potter_why, o_X3_potter_now, o_X3_potter_ws, o_X3_potter_ns, o_X3_potter_g, o_X3_potter_hi, o_X3_potter_ch, if_neg c7, if_pos c20]) rfl rfl (by simp only [r_X3_potter, o_X3_potter_why, o_X3_potter_now, o_X3_potter_ws, o_X3_potter_ns, o_X3_potter_g, o_X3_potter_hi, o_X3_potter_ch, if_neg c7, if_pos c20]) rfl rfl rfl (by simp only [r_X3_potter, o_X3_potter_why, o_X3_potter_now, o_X3_potter_ws, o_X3_potter_ns, o_X3_potter_g, o_X3_potter_hi, o_X3_potter_ch, if_neg c7, if_pos c20]) (by simp only [r_X3_potter, o_X3_potter_why, o_X3_potter_now, o_X3_potter_ws, o_X3_potter_ns, o_X3_potter_g, o_X3_potter_hi, o_X3_potter_ch, if_neg c7, if_pos c20]) rfl rfl rfl rfl rfl), rfl⟩ (Nat.le_refl 0) (Nat.le_refl 0)
  · refine J_bipush (v := -2) cx dX3_potter_10 (by decide) ?_
    exact J_iret cx dX3_potter_12 hr ⟨congrArg some (congrArg Value.int (by simp only [r_X3_potter, o_X3_potter_why, o_X3_potter_now, o_X3_potter_ws, o_X3_potter_ns, o_X3_potter_g, o_X3_potter_hi, o_X3_potter_ch, if_pos c7])), (tov_cg (by simp only [r_X3_potter, o_X3_potter_why, o_X3_potter_now, o_X3_potter_ws, o_X3_potter_ns, o_X3_potter_g, o_X3_potter_hi, o_X3_potter_ch, if_pos c7]) (by simp only [r_X3_potter, o_X3_potter_why, o_X3_potter_now, o_X3_potter_ws, o_X3_potter_ns, o_X3_potter_g, o_X3_potter_hi, o_X3_potter_ch, if_pos c7]) rfl rfl rfl (by simp only [r_X3_potter, o_X3_potter_why, o_X3_potter_now, o_X3_potter_ws, o_X3_potter_ns, o_X3_potter_g, o_X3_potter_hi, o_X3_potter_ch, if_pos c7]) (by simp only [r_X3_potter, o_X3_potter_why, o_X3_potter_now, o_X3_potter_ws, o_X3_potter_ns, o_X3_potter_g, o_X3_potter_hi, o_X3_potter_ch, if_pos c7]) rfl rfl (by simp only [r_X3_potter, o_X3_potter_why, o_X3_potter_now, o_X3_potter_ws, o_X3_potter_ns, o_X3_potter_g, o_X3_potter_hi, o_X3_potter_ch, if_pos c7]) rfl rfl rfl (by simp only [r_X3_potter, o_X3_potter_why, o_X3_potter_now, o_X3_potter_ws, o_X3_potter_ns, o_X3_potter_g, o_X3_potter_hi, o_X3_potter_ch, if_pos c7]) (by simp only [r_X3_potter, o_X3_potter_why, o_X3_potter_now, o_X3_potter_ws, o_X3_potter_ns, o_X3_potter_g, o_X3_potter_hi, o_X3_potter_ch, if_pos c7]) rfl rfl rfl rfl rfl), rfl⟩ (Nat.le_refl 0) (Nat.le_refl 0)
def S_comes (g : Nat → Int32) : Nat → (Nat → Int32)
  | 0 => g
  | k1 + 1 => (upd (S_comes g k1) ((50 + (13 * (tn (g (2))))) + k1) (nI (0)))
theorem S_comes_lt (g : Nat → Int32) (k i : Nat) (hi : i < 50) : S_comes g k i = g i := by
  induction k with
  | zero => rfl
  | succ k ih => rw [← ih]; exact pk_un (by omega)
def o_X3_comes_g (g : Nat → Int32) (a9 : Int32) (b9 : Int32) (d9 : Int32) : Nat → Int32 := (upd (upd (upd (upd (upd (upd (upd (upd (S_comes g 13) ((50 + (13 * (tn (g (2))))) + 1) (a9)) ((50 + (13 * (tn (g (2))))) + 2) (b9)) ((50 + (13 * (tn (g (2))))) + 3) (d9)) ((50 + (13 * (tn (g (2))))) + 6) (-1)) ((50 + (13 * (tn (g (2))))) + 7) (-1)) ((50 + (13 * (tn (g (2))))) + 8) (-1)) ((50 + (13 * (tn (g (2))))) + 10) (-1)) (2) (nI ((tn (g (2))) + 1)))
theorem hd_X3_comes : yX3_comes.cls = RX3 ∧ yX3_comes.cls ≠ "java/lang/invoke/MethodHandle" ∧ yX3_comes.cls ≠ "java/lang/invoke/VarHandle" ∧ (parseMethodDescriptor yX3_comes.desc).map (fun d => d.parameters.length) = some 3 := by decide +kernel
set_option maxHeartbeats 4000000 in
theorem t_X3_comes (l : Launch) (Ω : jO) {t : Nat} {G0 : Mem} {g hi sv as_ inp why now told bef : Nat → Int32} {ch hs fed fa ws ns ct st_ pl iw sn : Int32} {sz : Nat} (ht : Ω.2.2.2 ≤ t) (a9 : Int32) (b9 : Int32) (d9 : Int32) (hn2 : g 2 = nI (tn (g 2))) (hn16 : tn (g 2) < 16) : Met l yX3_comes (ws_ yX3_comes cX3_comes 6 (none)) ({ frames := 2, cells := 0, slots := 0, locals := 32 }) (va_Pc [.ref t, .int (a9), .int (b9), .int (d9)] (jWd Ω (tov Ω t G0 g hi sv as_ inp why now told bef ch hs fed fa ws ns ct st_ pl iw sn) sz)) (jQ Ω (jD none (tov Ω t G0 (o_X3_comes_g g a9 b9 d9) hi sv as_ inp why now told bef ch hs fed fa ws ns ct st_ pl iw sn) sz)) 0 0 (jB Ω) := by
  refine jMet (by decide) (Nat.le_of_ble_eq_true rfl) ?_
  intro p e s m args below meth c cx hr hnm
  refine J_loc [some (.ref t), some (.int (a9)), some (.int (b9)), some (.int (d9)), none, none] rfl ?_
  refine J_aload_n cx dX3_comes_0 rfl ?_
  refine T_get_g cx dX3_comes_1 ?_
  refine J_iconst (v := nI (2)) cx dX3_comes_4 (by decide) ?_
  refine T_ld_g cx dX3_comes_5 (by omega) ?_
  refine J_top (.int (nI (tn (g (2))))) (congrArg Value.int (hn2)) ?_
  refine T_callSI cx [.int (nI (tn (g (2))))] (t_X3_at l Ω (tn (g (2)))) dX3_comes_6 (lw_S q2736 q2737 q93 q2738) hd_X3_at.2 rfl rfl ⟨Nat.le_of_ble_eq_true rfl, Nat.le_of_ble_eq_true rfl⟩ rfl rfl (Nat.le_of_ble_eq_true rfl) ?_
  refine J_istore4 cx dX3_comes_9 (by decide) rfl ?_
  refine J_iconst (v := nI (0)) cx dX3_comes_11 (by decide) ?_
  refine J_istore5 cx dX3_comes_12 (by decide) rfl ?_
  have loop14 : ∀ (n k1 : Nat), 13 + 1 ≤ n + k1 → k1 ≤ 13 → J p l e ({ frames := 2, cells := 0, slots := 0, locals := 32 } : Room) s m args below meth c Ω 6 (MQ below (jQ Ω (jD none (tov Ω t G0 (o_X3_comes_g g a9 b9 d9) hi sv as_ inp why now told bef ch hs fed fa ws ns ct st_ pl iw sn) sz)) args s 0 0 (jB Ω)) 0 0 sz (tov Ω t G0 (S_comes g k1) hi sv as_ inp why now told bef ch hs fed fa ws ns ct st_ pl iw sn) 14 [some (.ref t), some (.int (a9)), some (.int (b9)), some (.int (d9)), some (.int (nI (50 + (13 * (tn (g (2))))))), some (.int (nI (k1)))] [] := by
    intro n
    induction n with
    | zero => intro k1 hn1 hk1 ; exact absurd hn1 (by omega)
    | succ n ih =>
      intro k1 hn1 hk1 
      refine J_iload cx dX3_comes_14 rfl ?_
      refine J_bipush (v := nI (13)) cx dX3_comes_16 (by decide) ?_
      refine J_icmpN_ge (tgt := 38) cx dX3_comes_18 (by decide) (by omega) (by omega) (fun c18 => ?_) (fun c18 => ?_)
      · have hkx : 13 = k1 := Eq.symm (by omega)
        subst hkx
        refine J_aload_n cx dX3_comes_38 rfl ?_
        refine T_get_g cx dX3_comes_39 ?_
        refine J_iload cx dX3_comes_42 rfl ?_
        refine J_iconst (v := nI (1)) cx dX3_comes_44 (by decide) ?_
        refine J_iaddN cx dX3_comes_45 ?_
        refine J_iload_n cx dX3_comes_46 rfl ?_
        refine T_st_g cx ht dX3_comes_47 (by omega) ?_
        refine J_aload_n cx dX3_comes_48 rfl ?_
        refine T_get_g cx dX3_comes_49 ?_
        refine J_iload cx dX3_comes_52 rfl ?_
        refine J_iconst (v := nI (2)) cx dX3_comes_54 (by decide) ?_
        refine J_iaddN cx dX3_comes_55 ?_
        refine J_iload_n cx dX3_comes_56 rfl ?_
        refine T_st_g cx ht dX3_comes_57 (by omega) ?_
        refine J_aload_n cx dX3_comes_58 rfl ?_
        refine T_get_g cx dX3_comes_59 ?_
        refine J_iload cx dX3_comes_62 rfl ?_
        refine J_iconst (v := nI (3)) cx dX3_comes_64 (by decide) ?_
        refine J_iaddN cx dX3_comes_65 ?_
        refine J_iload_n cx dX3_comes_66 rfl ?_
        refine T_st_g cx ht dX3_comes_67 (by omega) ?_
        refine J_aload_n cx dX3_comes_68 rfl ?_
        refine T_get_g cx dX3_comes_69 ?_
        refine J_iload cx dX3_comes_72 rfl ?_
        refine J_bipush (v := nI (6)) cx dX3_comes_74 (by decide) ?_
        refine J_iaddN cx dX3_comes_76 ?_
        refine J_iconst (v := -1) cx dX3_comes_77 (by decide) ?_
        refine T_st_g cx ht dX3_comes_78 (by omega) ?_
        refine J_aload_n cx dX3_comes_79 rfl ?_
        refine T_get_g cx dX3_comes_80 ?_
        refine J_iload cx dX3_comes_83 rfl ?_
        refine J_bipush (v := nI (7)) cx dX3_comes_85 (by decide) ?_
        refine J_iaddN cx dX3_comes_87 ?_
        refine J_iconst (v := -1) cx dX3_comes_88 (by decide) ?_
        refine T_st_g cx ht dX3_comes_89 (by omega) ?_
        refine J_aload_n cx dX3_comes_90 rfl ?_
        refine T_get_g cx dX3_comes_91 ?_
        refine J_iload cx dX3_comes_94 rfl ?_
        refine J_bipush (v := nI (8)) cx dX3_comes_96 (by decide) ?_
        refine J_iaddN cx dX3_comes_98 ?_
        refine J_iconst (v := -1) cx dX3_comes_99 (by decide) ?_
        refine T_st_g cx ht dX3_comes_100 (by omega) ?_
        refine J_aload_n cx dX3_comes_101 rfl ?_
        refine T_get_g cx dX3_comes_102 ?_
        refine J_iload cx dX3_comes_105 rfl ?_
        refine J_bipush (v := nI (10)) cx dX3_comes_107 (by decide) ?_
        refine J_iaddN cx dX3_comes_109 ?_
        refine J_iconst (v := -1) cx dX3_comes_110 (by decide) ?_
        refine T_st_g cx ht dX3_comes_111 (by omega) ?_
        refine J_aload_n cx dX3_comes_112 rfl ?_
        refine T_get_g cx dX3_comes_113 ?_
        refine J_iconst (v := nI (2)) cx dX3_comes_116 (by decide) ?_
        refine J_dup2 cx dX3_comes_117 rfl rfl ?_
        refine T_ld_g cx dX3_comes_118 (by omega) ?_
        refine J_top (.int ((S_comes g 13) (2))) (congrArg Value.int ((pk_un (by omega)).trans ((pk_un (by omega)).trans ((pk_un (by omega)).trans ((pk_un (by omega)).trans ((pk_un (by omega)).trans ((pk_un (by omega)).trans ((pk_un (by omega)).trans (rfl))))))))) ?_
        refine J_top (.int (nI (tn (g (2))))) (congrArg Value.int ((S_comes_lt g 13 2 (by decide)).trans hn2)) ?_
        refine J_iconst (v := nI (1)) cx dX3_comes_119 (by decide) ?_
        refine J_iaddN cx dX3_comes_120 ?_
        refine T_st_g cx ht dX3_comes_121 (by omega) ?_
        exact J_vret cx dX3_comes_122 hr ⟨rfl, (tov_cg (by simp only [o_X3_comes_g, if_neg (Nat.not_lt.mpr c18)]) rfl rfl rfl rfl rfl rfl rfl rfl rfl rfl rfl rfl rfl rfl rfl rfl rfl rfl rfl), rfl⟩ (Nat.le_refl 0) (Nat.le_refl 0)
      · refine J_aload_n cx dX3_comes_21 rfl ?_
        refine T_get_g cx dX3_comes_22 ?_
        refine J_iload cx dX3_comes_25 rfl ?_
        refine J_iload cx dX3_comes_27 rfl ?_
        refine J_iaddN cx dX3_comes_29 ?_
        refine J_iconst (v := nI (0)) cx dX3_comes_30 (by decide) ?_
        refine T_st_g cx ht dX3_comes_31 (by omega) ?_
        refine J_iinc5 (v := nI (k1 + 1)) cx dX3_comes_32 (nI_1 k1) (by decide) rfl ?_
        refine J_goto (tgt := 14) cx dX3_comes_35 (by decide) ?_
        refine J_mem (tov Ω t G0 (S_comes g (k1 + 1)) hi sv as_ inp why now told bef ch hs fed fa ws ns ct st_ pl iw sn) (tov_cg (by simp only [S_comes, if_pos c18]) rfl rfl rfl rfl rfl rfl rfl rfl rfl rfl rfl rfl rfl rfl rfl rfl rfl rfl rfl) ?_
        refine J_sub (L1 := [some (.ref t), some (.int (a9)), some (.int (b9)), some (.int (d9)), some (.int (nI (50 + (13 * (tn (g (2))))))), some (.int (nI (k1 + 1)))]) (jsub_s (jsub_s (jsub_s (jsub_s (jsub_s (jsub_s jsub_0)))))) ?_
        exact ih (k1 + 1) (by omega) (by omega) 
  refine J_sub (L1 := [some (.ref t), some (.int (a9)), some (.int (b9)), some (.int (d9)), some (.int (nI (50 + (13 * (tn (g (2))))))), some (.int (nI (0)))]) (jsub_s (jsub_s (jsub_s (jsub_s (jsub_s (jsub_s jsub_0)))))) ?_
  exact loop14 (13 + 1) 0 (by omega) (by omega) 
