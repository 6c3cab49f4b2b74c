/-! THE TWIN: the hour, the firing (gen/mk_t7.py) -/
set_option maxRecDepth 100000
def driesOk (G : Nat → Int32) (p9 : Nat) : Prop := p9 < 16 ∧ G 0 = nI (tn (G 0)) ∧ tn (G 0) ≤ 499 ∧ vn_sni2f (G ((50 + (13 * p9)) + 11)) = false ∧ vf_n32 (FP.fmul (G ((50 + (13 * p9)) + 11)).toUInt32 (FP.i2f ((w_dr1 G p9) * ((nI (11)) - (G ((50 + (13 * p9)) + 3)))))) ∧ vf_n32 (FP.fdiv (FP.fmul (G ((50 + (13 * p9)) + 11)).toUInt32 (FP.i2f ((w_dr1 G p9) * ((nI (11)) - (G ((50 + (13 * p9)) + 3)))))) 1148846080) ∧ vf_n32 (FP.fsub (G ((50 + (13 * p9)) + 11)).toUInt32 (FP.fdiv (FP.fmul (G ((50 + (13 * p9)) + 11)).toUInt32 (FP.i2f ((w_dr1 G p9) * ((nI (11)) - (G ((50 + (13 * p9)) + 3)))))) 1148846080)) ∧ vf_n32 (FP.fmul (FP.fdiv (FP.fmul (G ((50 + (13 * p9)) + 11)).toUInt32 (FP.i2f ((w_dr1 G p9) * ((nI (11)) - (G ((50 + (13 * p9)) + 3)))))) 1148846080) 1148846080)
def takesOk (G : Nat → Int32) (p9 : Nat) : Prop := p9 < 16 ∧ nat_ G ((50 + (13 * p9)) + 1) 3 ∧ ¬ (G (34 + tn (G ((50 + (13 * p9)) + 1)))) + (nI (2)) = 0
def hG1 (g : Nat → Int32) : Nat → Int32 := if 400 < (tn (g (0))) + 1 then upd g (0) (nI ((tn (g (0))) + 1)) else upd (upd g (0) (nI ((tn (g (0))) + 1))) (707 + ((tn (g (0))) + 1)) (nI (0))
def S_hour (g0 : Nat → Int32) : Nat → (Nat → Int32)
  | 0 => g0
  | k1 + 1 => (if ((S_hour g0 k1) ((50 + (13 * k1)) + 0)) = (nI (2)) then (o_X3_dries_g (S_hour g0 k1) k1) else (S_hour g0 k1))
def hG2 (g : Nat → Int32) : Nat → Int32 := S_hour (hG1 g) (tn (g (2)))
def hG3 (g : Nat → Int32) : Nat → Int32 := if (hG2 g) (38) = -1 then hG2 g else if ((hG2 g) (39)) - (nI (1)) = 0 then (upd (upd (upd (upd (upd (upd (hG2 g) (39) (((hG2 g) (39)) - (nI (1)))) ((50 + (13 * (tn ((hG2 g) (38))))) + 0) (nI (2))) ((50 + (13 * (tn ((hG2 g) (38))))) + 11) (FP.fconst1.toInt32)) ((50 + (13 * (tn ((hG2 g) (38))))) + 12) (nI (1))) ((50 + (13 * (tn ((hG2 g) (38))))) + 5) (nI (0))) (38) (-1)) else upd (hG2 g) (39) (((hG2 g) (39)) - (nI (1)))
def hourOk (g : Nat → Int32) : Prop := (g 0 = nI (tn (g 0)) ∧ tn (g 0) ≤ 498) ∧ (g 2 = nI (tn (g 2)) ∧ tn (g 2) ≤ 16) ∧
  (∀ k, k ≤ tn (g 2) → S_hour (hG1 g) k 2 = nI (tn (g 2))) ∧ (∀ k, k < tn (g 2) → (S_hour (hG1 g) k) ((50 + (13 * k)) + 0) = nI (2) → driesOk (S_hour (hG1 g) k) k) ∧
  (¬ (hG2 g) (38) = -1 → nat_ (hG2 g) 38 15) ∧ ((hG3 g) 2 = nI (tn ((hG3 g) 2)) ∧ tn ((hG3 g) 2) ≤ 16) ∧
  (¬ r_X3_nextOfRow (hG3 g) = -1 → r_X3_nextOfRow (hG3 g) = nI (tn (r_X3_nextOfRow (hG3 g))) ∧ takesOk (hG3 g) (tn (r_X3_nextOfRow (hG3 g))))
def o_X3_hour_g (g : Nat → Int32) : Nat → Int32 := (if ((hG3 g) (38)) = (-1) then (if (r_X3_nextOfRow (hG3 g)) = (-1) then (hG3 g) else (o_X3_takes_g (hG3 g) (tn (r_X3_nextOfRow (hG3 g))))) else (hG3 g))
theorem hd_X3_hour : yX3_hour.cls = RX3 ∧ yX3_hour.cls ≠ "java/lang/invoke/MethodHandle" ∧ yX3_hour.cls ≠ "java/lang/invoke/VarHandle" ∧ (parseMethodDescriptor yX3_hour.desc).map (fun d => d.parameters.length) = some 0 := by decide +kernel
set_option maxHeartbeats 4000000 in
theorem t_X3_hour (l : Launch) (Ω : jO) {t : Nat} {G0 : Mem} {g hi sv as_ inp why now told bef : Nat → Int32} {ch hs fed fa ws ns ct st_ pl iw sn : Int32} {sz : Nat} (ht : Ω.2.2.2 ≤ t)  (hh : hourOk g) : Met l yX3_hour (ws_ yX3_hour cX3_hour 2 (none)) ({ frames := 4, cells := 0, slots := 0, locals := 78 }) (va_Pc [.ref t] (jWd Ω (tov Ω t G0 g hi sv as_ inp why now told bef ch hs fed fa ws ns ct st_ pl iw sn) sz)) (jQ Ω (jD none (tov Ω t G0 (o_X3_hour_g g) hi sv as_ inp why now told bef ch hs fed fa ws ns ct st_ pl iw sn) sz)) 0 0 (jB Ω) := by
  refine jMet (by decide) (Nat.le_of_ble_eq_true rfl) ?_
  intro p e s m args below meth c cx hr hnm
  refine J_loc [some (.ref t), none] rfl ?_
  obtain ⟨⟨hck, hck9⟩, ⟨hn2, hn16⟩, hS2, hdr, hwh, ⟨h3n, h3n2⟩, hnx⟩ := hh
  have K38 : J p l e ({ frames := 4, cells := 0, slots := 0, locals := 78 } : Room) s m args below meth c Ω 2 (MQ below (jQ Ω (jD none (tov Ω t G0 (o_X3_hour_g g) hi sv as_ inp why now told bef ch hs fed fa ws ns ct st_ pl iw sn) sz)) args s 0 0 (jB Ω)) 0 0 sz (tov Ω t G0 (hG1 g) hi sv as_ inp why now told bef ch hs fed fa ws ns ct st_ pl iw sn) 38 [some (.ref t), none] [] := by
    refine J_iconst (v := nI (0)) cx dX3_hour_38 (by decide) ?_
    refine J_istore_n1 cx dX3_hour_39 (by decide) rfl ?_
    have loop40 : ∀ (n k1 : Nat), (tn (g (2))) + 1 ≤ n + k1 → k1 ≤ (tn (g (2))) → J p l e ({ frames := 4, cells := 0, slots := 0, locals := 78 } : Room) s m args below meth c Ω 2 (MQ below (jQ Ω (jD none (tov Ω t G0 (o_X3_hour_g g) hi sv as_ inp why now told bef ch hs fed fa ws ns ct st_ pl iw sn) sz)) args s 0 0 (jB Ω)) 0 0 sz (tov Ω t G0 (S_hour (hG1 g) k1) hi sv as_ inp why now told bef ch hs fed fa ws ns ct st_ pl iw sn) 40 [some (.ref t), some (.int (nI (k1)))] [] := by
      intro n
      induction n with
      | zero => intro k1 hn1 hk1 ; exact absurd hn1 (by omega)
      | succ n ih =>
        intro k1 hn1 hk1 
        refine J_iload_n cx dX3_hour_40 rfl ?_
        refine J_aload_n cx dX3_hour_41 rfl ?_
        refine T_get_g cx dX3_hour_42 ?_
        refine J_iconst (v := nI (2)) cx dX3_hour_45 (by decide) ?_
        refine T_ld_g cx dX3_hour_46 (by omega) ?_
        refine J_top (.int (nI (tn (g (2))))) (congrArg Value.int (hS2 k1 hk1)) ?_
        refine J_icmpN_ge (tgt := 76) cx dX3_hour_47 (by decide) (by omega) (by omega) (fun c47 => ?_) (fun c47 => ?_)
        · have hkx : tn (g (2)) = k1 := Eq.symm (by omega)
          subst hkx
          refine J_mem (tov Ω t G0 (hG2 g) hi sv as_ inp why now told bef ch hs fed fa ws ns ct st_ pl iw sn) rfl ?_
          have K168 : J p l e ({ frames := 4, cells := 0, slots := 0, locals := 78 } : Room) s m args below meth c Ω 2 (MQ below (jQ Ω (jD none (tov Ω t G0 (o_X3_hour_g g) hi sv as_ inp why now told bef ch hs fed fa ws ns ct st_ pl iw sn) sz)) args s 0 0 (jB Ω)) 0 0 sz (tov Ω t G0 (hG3 g) hi sv as_ inp why now told bef ch hs fed fa ws ns ct st_ pl iw sn) 168 [some (.ref t), none] [] := by
            refine J_aload_n cx dX3_hour_168 rfl ?_
            refine T_get_g cx dX3_hour_169 ?_
            refine J_bipush (v := nI (38)) cx dX3_hour_172 (by decide) ?_
            refine T_ld_g cx dX3_hour_174 (by omega) ?_
            refine J_iconst (v := -1) cx dX3_hour_175 (by decide) ?_
            refine J_icmp_ne (tgt := 186) cx dX3_hour_176 (by decide) (fun c176 => ?_) (fun c176 => ?_)
            · refine J_iconst (v := -1) cx dX3_hour_186 (by decide) ?_
              refine J_istore_n1 cx dX3_hour_187 (by decide) rfl ?_
              refine J_iload_n cx dX3_hour_188 rfl ?_
              refine J_iconst (v := -1) cx dX3_hour_189 (by decide) ?_
              refine J_icmp_eq (tgt := 198) cx dX3_hour_190 (by decide) (fun c190 => ?_) (fun c190 => absurd rfl c190)
              exact J_vret cx dX3_hour_198 hr ⟨rfl, (tov_cg (by simp only [o_X3_hour_g, if_neg (Nat.not_lt.mpr c47), if_neg c176]) rfl rfl rfl rfl rfl rfl rfl rfl rfl rfl rfl rfl rfl rfl rfl rfl rfl rfl rfl), rfl⟩ (Nat.le_refl 0) (Nat.le_refl 0)
            · refine J_aload_n cx dX3_hour_179 rfl ?_
              refine T_callI cx [] (t_X3_nextOfRow l Ω ht h3n h3n2) dX3_hour_180 (lw_V q2897 q2899 qs67 q93 q2900) hd_X3_nextOfRow rfl rfl ⟨Nat.le_of_ble_eq_true rfl, Nat.le_of_ble_eq_true rfl⟩ rfl rfl (Nat.le_of_ble_eq_true rfl) ?_
              refine J_goto (tgt := 187) cx dX3_hour_183 (by decide) ?_
              refine J_istore_n1 cx dX3_hour_187 (by decide) rfl ?_
              refine J_iload_n cx dX3_hour_188 rfl ?_
              refine J_iconst (v := -1) cx dX3_hour_189 (by decide) ?_
              refine J_icmp_eq (tgt := 198) cx dX3_hour_190 (by decide) (fun c190 => ?_) (fun c190 => ?_)
              · exact J_vret cx dX3_hour_198 hr ⟨rfl, (tov_cg (by simp only [o_X3_hour_g, if_neg (Nat.not_lt.mpr c47), if_pos c176, if_pos c190]) rfl rfl rfl rfl rfl rfl rfl rfl rfl rfl rfl rfl rfl rfl rfl rfl rfl rfl rfl), rfl⟩ (Nat.le_refl 0) (Nat.le_refl 0)
              · have hre193_1 : r_X3_nextOfRow (hG3 g) = nI (tn (r_X3_nextOfRow (hG3 g))) := (hnx c190).1
                refine J_loc [some (.ref t), some (.int (nI (tn (r_X3_nextOfRow (hG3 g)))))] (by simp only [← hre193_1]) ?_
                refine J_aload_n cx dX3_hour_193 rfl ?_
                refine J_iload_n cx dX3_hour_194 rfl ?_
                refine T_callV cx [.int (nI (tn (r_X3_nextOfRow (hG3 g))))] (t_X3_takes l Ω ht (tn (r_X3_nextOfRow (hG3 g))) (hnx c190).2.1 (hnx c190).2.2.1 (hnx c190).2.2.2) dX3_hour_195 (lw_V q2901 q2903 qs68 q93 q2904) hd_X3_takes rfl rfl ⟨Nat.le_of_ble_eq_true rfl, Nat.le_of_ble_eq_true rfl⟩ rfl rfl (Nat.le_of_ble_eq_true rfl) ?_
                exact J_vret cx dX3_hour_198 hr ⟨rfl, (tov_cg (by simp only [o_X3_hour_g, if_neg (Nat.not_lt.mpr c47), if_pos c176, if_neg c190]) rfl rfl rfl rfl rfl rfl rfl rfl rfl rfl rfl rfl rfl rfl rfl rfl rfl rfl rfl), rfl⟩ (Nat.le_refl 0) (Nat.le_refl 0)
          refine J_aload_n cx dX3_hour_76 rfl ?_
          refine T_get_g cx dX3_hour_77 ?_
          refine J_bipush (v := nI (38)) cx dX3_hour_80 (by decide) ?_
          refine T_ld_g cx dX3_hour_82 (by omega) ?_
          refine J_iconst (v := -1) cx dX3_hour_83 (by decide) ?_
          refine J_icmp_eq (tgt := 168) cx dX3_hour_84 (by decide) (fun c84 => ?_) (fun c84 => ?_)
          · refine J_mem (tov Ω t G0 (hG3 g) hi sv as_ inp why now told bef ch hs fed fa ws ns ct st_ pl iw sn) (tov_cg (by simp only [hG3, if_neg (Nat.not_lt.mpr c47), if_pos c84]) rfl rfl rfl rfl rfl rfl rfl rfl rfl rfl rfl rfl rfl rfl rfl rfl rfl rfl rfl) ?_
            refine J_sub (L1 := [some (.ref t), none]) (jsub_s (jsub_n jsub_0)) ?_
            exact K168
          · have hwb := (hwh c84).2
            refine J_aload_n cx dX3_hour_87 rfl ?_
            refine T_get_g cx dX3_hour_88 ?_
            refine J_bipush (v := nI (39)) cx dX3_hour_91 (by decide) ?_
            refine J_dup2 cx dX3_hour_93 rfl rfl ?_
            refine T_ld_g cx dX3_hour_94 (by omega) ?_
            refine J_iconst (v := nI (1)) cx dX3_hour_95 (by decide) ?_
            refine J_isub cx dX3_hour_96 ?_
            refine T_st_g cx ht dX3_hour_97 (by omega) ?_
            refine J_aload_n cx dX3_hour_98 rfl ?_
            refine T_get_g cx dX3_hour_99 ?_
            refine J_bipush (v := nI (39)) cx dX3_hour_102 (by decide) ?_
            refine T_ld_g cx dX3_hour_104 (by omega) ?_
            refine J_top (.int (((hG2 g) (39)) - (nI (1)))) (congrArg Value.int (pk_us)) ?_
            refine J_if_ne (tgt := 168) cx dX3_hour_105 (by decide) (fun c105 => ?_) (fun c105 => ?_)
            · refine J_mem (tov Ω t G0 (hG3 g) hi sv as_ inp why now told bef ch hs fed fa ws ns ct st_ pl iw sn) (tov_cg (by simp only [hG3, if_neg (Nat.not_lt.mpr c47), if_neg c84, if_neg c105]) rfl rfl rfl rfl rfl rfl rfl rfl rfl rfl rfl rfl rfl rfl rfl rfl rfl rfl rfl) ?_
              refine J_sub (L1 := [some (.ref t), none]) (jsub_s (jsub_n jsub_0)) ?_
              exact K168
            · refine J_aload_n cx dX3_hour_108 rfl ?_
              refine T_get_g cx dX3_hour_109 ?_
              refine J_bipush (v := nI (38)) cx dX3_hour_112 (by decide) ?_
              refine T_ld_g cx dX3_hour_114 (by omega) ?_
              refine J_top (.int ((hG2 g) (38))) (congrArg Value.int ((pk_un (by omega)).trans (rfl))) ?_
              refine J_top (.int (nI (tn ((hG2 g) (38))))) (congrArg Value.int ((hwh c84).1)) ?_
              refine T_callSI cx [.int (nI (tn ((hG2 g) (38))))] (t_X3_at l Ω (tn ((hG2 g) (38)))) dX3_hour_115 (lw_S q2736 q2737 q93 q2738) hd_X3_at.2 rfl rfl ⟨Nat.le_of_ble_eq_true rfl, Nat.le_of_ble_eq_true rfl⟩ rfl rfl (Nat.le_of_ble_eq_true rfl) ?_
              refine J_istore_n1 cx dX3_hour_118 (by decide) rfl ?_
              refine J_aload_n cx dX3_hour_119 rfl ?_
              refine T_get_g cx dX3_hour_120 ?_
              refine J_iload_n cx dX3_hour_123 rfl ?_
              refine J_iconst (v := nI (0)) cx dX3_hour_124 (by decide) ?_
              refine J_iaddN cx dX3_hour_125 ?_
              refine J_iconst (v := nI (2)) cx dX3_hour_126 (by decide) ?_
              refine T_st_g cx ht dX3_hour_127 (by omega) ?_
              refine J_aload_n cx dX3_hour_128 rfl ?_
              refine T_get_g cx dX3_hour_129 ?_
              refine J_iload_n cx dX3_hour_132 rfl ?_
              refine J_bipush (v := nI (11)) cx dX3_hour_133 (by decide) ?_
              refine J_iaddN cx dX3_hour_135 ?_
              refine J_fconst1 cx dX3_hour_136 ?_
              refine T_callSI cx [.float (FP.fconst1)] (t_J36_floatToIntBits l Ω (FP.fconst1) (by decide +kernel)) dX3_hour_137 (lw_S q2886 q2887 q139 q2888) hd_J36_floatToIntBits.2 rfl rfl ⟨Nat.le_of_ble_eq_true rfl, Nat.le_of_ble_eq_true rfl⟩ rfl rfl (Nat.le_of_ble_eq_true rfl) ?_
              refine T_st_g cx ht dX3_hour_140 (by omega) ?_
              refine J_aload_n cx dX3_hour_141 rfl ?_
              refine T_get_g cx dX3_hour_142 ?_
              refine J_iload_n cx dX3_hour_145 rfl ?_
              refine J_bipush (v := nI (12)) cx dX3_hour_146 (by decide) ?_
              refine J_iaddN cx dX3_hour_148 ?_
              refine J_iconst (v := nI (1)) cx dX3_hour_149 (by decide) ?_
              refine T_st_g cx ht dX3_hour_150 (by omega) ?_
              refine J_aload_n cx dX3_hour_151 rfl ?_
              refine T_get_g cx dX3_hour_152 ?_
              refine J_iload_n cx dX3_hour_155 rfl ?_
              refine J_iconst (v := nI (5)) cx dX3_hour_156 (by decide) ?_
              refine J_iaddN cx dX3_hour_157 ?_
              refine J_iconst (v := nI (0)) cx dX3_hour_158 (by decide) ?_
              refine T_st_g cx ht dX3_hour_159 (by omega) ?_
              refine J_aload_n cx dX3_hour_160 rfl ?_
              refine T_get_g cx dX3_hour_161 ?_
              refine J_bipush (v := nI (38)) cx dX3_hour_164 (by decide) ?_
              refine J_iconst (v := -1) cx dX3_hour_166 (by decide) ?_
              refine T_st_g cx ht dX3_hour_167 (by omega) ?_
              refine J_mem (tov Ω t G0 (hG3 g) hi sv as_ inp why now told bef ch hs fed fa ws ns ct st_ pl iw sn) (tov_cg (by simp only [hG3, if_neg (Nat.not_lt.mpr c47), if_neg c84, if_pos c105]) rfl rfl rfl rfl rfl rfl rfl rfl rfl rfl rfl rfl rfl rfl rfl rfl rfl rfl rfl) ?_
              refine J_sub (L1 := [some (.ref t), none]) (jsub_s (jsub_n jsub_0)) ?_
              exact K168
        · refine J_aload_n cx dX3_hour_50 rfl ?_
          refine T_get_g cx dX3_hour_51 ?_
          refine J_iload_n cx dX3_hour_54 rfl ?_
          refine T_callSI cx [.int (nI (k1))] (t_X3_at l Ω (k1)) dX3_hour_55 (lw_S q2736 q2737 q93 q2738) hd_X3_at.2 rfl rfl ⟨Nat.le_of_ble_eq_true rfl, Nat.le_of_ble_eq_true rfl⟩ rfl rfl (Nat.le_of_ble_eq_true rfl) ?_
          refine J_iconst (v := nI (0)) cx dX3_hour_58 (by decide) ?_
          refine J_iaddN cx dX3_hour_59 ?_
          refine T_ld_g cx dX3_hour_60 (by omega) ?_
          refine J_iconst (v := nI (2)) cx dX3_hour_61 (by decide) ?_
          refine J_icmp_ne (tgt := 70) cx dX3_hour_62 (by decide) (fun c62 => ?_) (fun c62 => ?_)
          · refine J_iinc1 (v := nI (k1 + 1)) cx dX3_hour_70 (nI_1 k1) (by decide) rfl ?_
            refine J_goto (tgt := 40) cx dX3_hour_73 (by decide) ?_
            refine J_mem (tov Ω t G0 (S_hour (hG1 g) (k1 + 1)) hi sv as_ inp why now told bef ch hs fed fa ws ns ct st_ pl iw sn) (tov_cg (by simp only [S_hour, if_pos c47, if_neg c62]) rfl rfl rfl rfl rfl rfl rfl rfl rfl rfl rfl rfl rfl rfl rfl rfl rfl rfl rfl) ?_
            refine J_sub (L1 := [some (.ref t), some (.int (nI (k1 + 1)))]) (jsub_s (jsub_s jsub_0)) ?_
            exact ih (k1 + 1) (by omega) (by omega) 
          · refine J_aload_n cx dX3_hour_65 rfl ?_
            refine J_iload_n cx dX3_hour_66 rfl ?_
            refine T_callV cx [.int (nI (k1))] (t_X3_dries l Ω ht (k1) (hdr k1 c47 c62).1 (hdr k1 c47 c62).2.1 (hdr k1 c47 c62).2.2.1 (hdr k1 c47 c62).2.2.2.1 (hdr k1 c47 c62).2.2.2.2.1 (hdr k1 c47 c62).2.2.2.2.2.1 (hdr k1 c47 c62).2.2.2.2.2.2.1 (hdr k1 c47 c62).2.2.2.2.2.2.2) dX3_hour_67 (lw_V q2882 q2884 qs66 q93 q2885) hd_X3_dries rfl rfl ⟨Nat.le_of_ble_eq_true rfl, Nat.le_of_ble_eq_true rfl⟩ rfl rfl (Nat.le_of_ble_eq_true rfl) ?_
            refine J_iinc1 (v := nI (k1 + 1)) cx dX3_hour_70 (nI_1 k1) (by decide) rfl ?_
            refine J_goto (tgt := 40) cx dX3_hour_73 (by decide) ?_
            refine J_mem (tov Ω t G0 (S_hour (hG1 g) (k1 + 1)) hi sv as_ inp why now told bef ch hs fed fa ws ns ct st_ pl iw sn) (tov_cg (by simp only [S_hour, if_pos c47, if_pos c62]) rfl rfl rfl rfl rfl rfl rfl rfl rfl rfl rfl rfl rfl rfl rfl rfl rfl rfl rfl) ?_
            refine J_sub (L1 := [some (.ref t), some (.int (nI (k1 + 1)))]) (jsub_s (jsub_s jsub_0)) ?_
            exact ih (k1 + 1) (by omega) (by omega) 
    refine J_sub (L1 := [some (.ref t), some (.int (nI (0)))]) (jsub_s (jsub_s jsub_0)) ?_
    exact loop40 (tn (g (2)) + 1) 0 (by omega) (by omega) 
  refine J_aload_n cx dX3_hour_0 rfl ?_
  refine T_get_g cx dX3_hour_1 ?_
  refine J_iconst (v := nI (0)) cx dX3_hour_4 (by decide) ?_
  refine J_dup2 cx dX3_hour_5 rfl rfl ?_
  refine T_ld_g cx dX3_hour_6 (by omega) ?_
  refine J_top (.int (nI (tn (g (0))))) (congrArg Value.int (hck)) ?_
  refine J_iconst (v := nI (1)) cx dX3_hour_7 (by decide) ?_
  refine J_iaddN cx dX3_hour_8 ?_
  refine T_st_g cx ht dX3_hour_9 (by omega) ?_
  refine J_aload_n cx dX3_hour_10 rfl ?_
  refine T_get_g cx dX3_hour_11 ?_
  refine J_iconst (v := nI (0)) cx dX3_hour_14 (by decide) ?_
  refine T_ld_g cx dX3_hour_15 (by omega) ?_
  refine J_top (.int (nI ((tn (g (0))) + 1))) (congrArg Value.int (pk_us)) ?_
  refine J_sipush (v := nI (400)) cx dX3_hour_16 (by decide) ?_
  refine J_icmpN_gt (tgt := 38) cx dX3_hour_19 (by decide) (by omega) (by omega) (fun c19 => ?_) (fun c19 => ?_)
  · refine J_mem (tov Ω t G0 (hG1 g) hi sv as_ inp why now told bef ch hs fed fa ws ns ct st_ pl iw sn) (tov_cg (by simp only [hG1, if_pos c19]) rfl rfl rfl rfl rfl rfl rfl rfl rfl rfl rfl rfl rfl rfl rfl rfl rfl rfl rfl) ?_
    refine J_sub (L1 := [some (.ref t), none]) (jsub_s (jsub_n jsub_0)) ?_
    exact K38
  · refine J_aload_n cx dX3_hour_22 rfl ?_
    refine T_get_g cx dX3_hour_23 ?_
    refine J_sipush (v := nI (707)) cx dX3_hour_26 (by decide) ?_
    refine J_aload_n cx dX3_hour_29 rfl ?_
    refine T_get_g cx dX3_hour_30 ?_
    refine J_iconst (v := nI (0)) cx dX3_hour_33 (by decide) ?_
    refine T_ld_g cx dX3_hour_34 (by omega) ?_
    refine J_top (.int (nI ((tn (g (0))) + 1))) (congrArg Value.int (pk_us)) ?_
    refine J_iaddN cx dX3_hour_35 ?_
    refine J_iconst (v := nI (0)) cx dX3_hour_36 (by decide) ?_
    refine T_st_g cx ht dX3_hour_37 (by omega) ?_
    refine J_mem (tov Ω t G0 (hG1 g) hi sv as_ inp why now told bef ch hs fed fa ws ns ct st_ pl iw sn) (tov_cg (by simp only [hG1, if_neg (Nat.not_lt.mpr c19)]) rfl rfl rfl rfl rfl rfl rfl rfl rfl rfl rfl rfl rfl rfl rfl rfl rfl rfl rfl) ?_
    refine J_sub (L1 := [some (.ref t), none]) (jsub_s (jsub_n jsub_0)) ?_
    exact K38
def S_hours (g : Nat → Int32) : Nat → (Nat → Int32)
  | 0 => g
  | k1 + 1 => (o_X3_hour_g (S_hours g k1))
theorem hd_X3_hours : yX3_hours.cls = RX3 ∧ yX3_hours.cls ≠ "java/lang/invoke/MethodHandle" ∧ yX3_hours.cls ≠ "java/lang/invoke/VarHandle" ∧ (parseMethodDescriptor yX3_hours.desc).map (fun d => d.parameters.length) = some 1 := by decide +kernel
set_option maxHeartbeats 4000000 in
theorem t_X3_hours (l : Launch) (Ω : jO) {t : Nat} {G0 : Mem} {g hi sv as_ inp why now told bef : Nat → Int32} {ch hs fed fa ws ns ct st_ pl iw sn : Int32} {sz : Nat} (ht : Ω.2.2.2 ≤ t) (n9 : Nat) (hn9 : n9 < 2147483647) (hh : ∀ k, k < n9 → hourOk (S_hours g k)) : Met l yX3_hours (ws_ yX3_hours cX3_hours 3 (none)) ({ frames := 5, cells := 0, slots := 0, locals := 99 }) (va_Pc [.ref t, .int (nI (n9))] (jWd Ω (tov Ω t G0 g hi sv as_ inp why now told bef ch hs fed fa ws ns ct st_ pl iw sn) sz)) (jQ Ω (jD none (tov Ω t G0 (S_hours g n9) hi sv as_ inp why now told bef ch hs fed fa ws ns ct st_ pl iw sn) sz)) 0 0 (jB Ω) := by
  refine jMet (by decide) (Nat.le_of_ble_eq_true rfl) ?_
  intro p e s m args below meth c cx hr hnm
  refine J_loc [some (.ref t), some (.int (nI (n9))), none] rfl ?_
  refine J_iconst (v := nI (0)) cx dX3_hours_0 (by decide) ?_
  refine J_istore_n2 cx dX3_hours_1 (by decide) rfl ?_
  have loop2 : ∀ (n k1 : Nat), n9 + 1 ≤ n + k1 → k1 ≤ n9 → J p l e ({ frames := 5, cells := 0, slots := 0, locals := 99 } : Room) s m args below meth c Ω 3 (MQ below (jQ Ω (jD none (tov Ω t G0 (S_hours g n9) hi sv as_ inp why now told bef ch hs fed fa ws ns ct st_ pl iw sn) sz)) args s 0 0 (jB Ω)) 0 0 sz (tov Ω t G0 (S_hours g k1) hi sv as_ inp why now told bef ch hs fed fa ws ns ct st_ pl iw sn) 2 [some (.ref t), some (.int (nI (n9))), some (.int (nI (k1)))] [] := by
    intro n
    induction n with
    | zero => intro k1 hn1 hk1 ; exact absurd hn1 (by omega)
    | succ n ih =>
      intro k1 hn1 hk1 
      refine J_iload_n cx dX3_hours_2 rfl ?_
      refine J_iload_n cx dX3_hours_3 rfl ?_
      refine J_icmpN_ge (tgt := 17) cx dX3_hours_4 (by decide) (by omega) (by omega) (fun c4 => ?_) (fun c4 => ?_)
      · have hkx : n9 = k1 := Eq.symm (by omega)
        subst hkx
        exact J_vret cx dX3_hours_17 hr ⟨rfl, rfl, rfl⟩ (Nat.le_refl 0) (Nat.le_refl 0)
      · refine J_aload_n cx dX3_hours_7 rfl ?_
        refine T_callV cx [] (t_X3_hour l Ω ht (hh k1 c4)) dX3_hours_8 (lw_V q2878 q2880 qs65 q93 q2881) hd_X3_hour rfl rfl ⟨Nat.le_of_ble_eq_true rfl, Nat.le_of_ble_eq_true rfl⟩ rfl rfl (Nat.le_of_ble_eq_true rfl) ?_
        refine J_iinc2 (v := nI (k1 + 1)) cx dX3_hours_11 (nI_1 k1) (by decide) rfl ?_
        refine J_goto (tgt := 2) cx dX3_hours_14 (by decide) ?_
        refine J_mem (tov Ω t G0 (S_hours g (k1 + 1)) hi sv as_ inp why now told bef ch hs fed fa ws ns ct st_ pl iw sn) (tov_cg (by simp only [S_hours, if_pos c4]) rfl rfl rfl rfl rfl rfl rfl rfl rfl rfl rfl rfl rfl rfl rfl rfl rfl rfl rfl) ?_
        refine J_sub (L1 := [some (.ref t), some (.int (nI (n9))), some (.int (nI (k1 + 1)))]) (jsub_s (jsub_s (jsub_s jsub_0))) ?_
        exact ih (k1 + 1) (by omega) (by omega) 
  refine J_sub (L1 := [some (.ref t), some (.int (nI (n9))), some (.int (nI (0)))]) (jsub_s (jsub_s (jsub_s jsub_0))) ?_
  exact loop2 (n9 + 1) 0 (by omega) (by omega) 
def r_X3_pass (g : Nat → Int32) (n9 : Int32) : Int32 := (if (r_X3_in n9 (nI (1)) (nI (48))) = 0 then (-2) else (if (r_X3_mayPass g n9) = 0 then ((S_hours g (tn n9)) (0)) else (-5)))
def o_X3_pass_g (g : Nat → Int32) (n9 : Int32) : Nat → Int32 := (if (r_X3_in n9 (nI (1)) (nI (48))) = 0 then g else (if (r_X3_mayPass g n9) = 0 then (S_hours g (tn n9)) else g))
def o_X3_pass_hi (g : Nat → Int32) (hi : Nat → Int32) (ch : Int32) (n9 : Int32) : Nat → Int32 := (if (r_X3_in n9 (nI (1)) (nI (48))) = 0 then hi else (if (r_X3_mayPass g n9) = 0 then (o_X3_remembers_hi g hi ch) else hi))
def o_X3_pass_now (g : Nat → Int32) (now : Nat → Int32) (n9 : Int32) : Nat → Int32 := (if (r_X3_in n9 (nI (1)) (nI (48))) = 0 then now else (if (r_X3_mayPass g n9) = 0 then (o_X3_mayPass_now g now n9) else (o_X3_mayPass_now g now n9)))
def o_X3_pass_ch (g : Nat → Int32) (ch : Int32) (n9 : Int32) : Int32 := (if (r_X3_in n9 (nI (1)) (nI (48))) = 0 then ch else (if (r_X3_mayPass g n9) = 0 then (o_X3_remembers_ch ch) else ch))
def o_X3_pass_ns (g : Nat → Int32) (ns : Int32) (n9 : Int32) : Int32 := (if (r_X3_in n9 (nI (1)) (nI (48))) = 0 then ns else (if (r_X3_mayPass g n9) = 0 then (o_X3_mayPass_ns g ns n9) else (o_X3_mayPass_ns g ns n9)))
def o_X3_pass_why (g : Nat → Int32) (why : Nat → Int32) (now : Nat → Int32) (ns : Int32) (n9 : Int32) : Nat → Int32 := (if (r_X3_in n9 (nI (1)) (nI (48))) = 0 then why else (if (r_X3_mayPass g n9) = 0 then why else (S_refused why (o_X3_mayPass_now g now n9) (2 * tn (o_X3_mayPass_ns g ns n9)))))
def o_X3_pass_ws (g : Nat → Int32) (ws : Int32) (ns : Int32) (n9 : Int32) : Int32 := (if (r_X3_in n9 (nI (1)) (nI (48))) = 0 then ws else (if (r_X3_mayPass g n9) = 0 then ws else (nI (tn (o_X3_mayPass_ns g ns n9)))))
theorem hd_X3_pass : yX3_pass.cls = RX3 ∧ yX3_pass.cls ≠ "java/lang/invoke/MethodHandle" ∧ yX3_pass.cls ≠ "java/lang/invoke/VarHandle" ∧ (parseMethodDescriptor yX3_pass.desc).map (fun d => d.parameters.length) = some 1 := by decide +kernel
set_option maxHeartbeats 4000000 in
theorem t_X3_pass (l : Launch) (Ω : jO) {t : Nat} {G0 : Mem} {g hi sv as_ inp why now told bef : Nat → Int32} {ch hs fed fa ws ns ct st_ pl iw sn : Int32} {sz : Nat} (ht : Ω.2.2.2 ≤ t) (n9 : Int32) (hch : ch = nI (tn ch)) (hch8 : tn ch ≤ 8) (hns : NsOk ns) (hh : ¬ r_X3_in n9 (nI 1) (nI 48) = 0 → r_X3_mayPass g n9 = 0 → ∀ k, k < tn n9 → hourOk (S_hours g k)) : Met l yX3_pass (ws_ yX3_pass cX3_pass 2 (some .int)) ({ frames := 6, cells := 0, slots := 0, locals := 121 }) (va_Pc [.ref t, .int (n9)] (jWd Ω (tov Ω t G0 g hi sv as_ inp why now told bef ch hs fed fa ws ns ct st_ pl iw sn) sz)) (jQ Ω (jD (some (.int (r_X3_pass g n9))) (tov Ω t G0 (o_X3_pass_g g n9) (o_X3_pass_hi g hi ch n9) sv as_ inp (o_X3_pass_why g why now ns n9) (o_X3_pass_now g now n9) told bef (o_X3_pass_ch g ch n9) hs fed fa (o_X3_pass_ws g ws ns n9) (o_X3_pass_ns g ns n9) ct st_ pl iw sn) sz)) 0 0 (jB Ω) := by
  refine jMet (by decide) (Nat.le_of_ble_eq_true rfl) ?_
  intro p e s m args below meth c cx hr hnm
  refine J_loc [some (.ref t), some (.int (n9))] rfl ?_
  refine J_iload_n cx dX3_pass_0 rfl ?_
  refine J_iconst (v := nI (1)) cx dX3_pass_1 (by decide) ?_
  refine J_bipush (v := nI (48)) cx dX3_pass_2 (by decide) ?_
  refine T_callSI cx [.int (n9), .int (nI (1)), .int (nI (48))] (t_X3_in l Ω (n9) (nI (1)) (nI (48))) dX3_pass_4 (lw_S q2686 q2687 q93 q2688) hd_X3_in.2 rfl rfl ⟨Nat.le_of_ble_eq_true rfl, Nat.le_of_ble_eq_true rfl⟩ rfl rfl (Nat.le_of_ble_eq_true rfl) ?_
  refine J_if_ne (tgt := 13) cx dX3_pass_7 (by decide) (fun c7 => ?_) (fun c7 => ?_)
  · refine J_aload_n cx dX3_pass_13 rfl ?_
    refine J_iload_n cx dX3_pass_14 rfl ?_
    refine T_callI cx [.int (n9)] (t_X3_mayPass l Ω ht (n9)) dX3_pass_15 (lw_V q2870 q2872 qs63 q93 q2873) hd_X3_mayPass rfl rfl ⟨Nat.le_of_ble_eq_true rfl, Nat.le_of_ble_eq_true rfl⟩ rfl rfl (Nat.le_of_ble_eq_true rfl) ?_
    refine J_if_eq (tgt := 26) cx dX3_pass_18 (by decide) (fun c18 => ?_) (fun c18 => ?_)
    · refine J_aload_n cx dX3_pass_26 rfl ?_
      refine T_callV cx [] (t_X3_remembers l Ω ht hch hch8) dX3_pass_27 (lw_V q2697 q2699 qs40 q93 q2700) hd_X3_remembers rfl rfl ⟨Nat.le_of_ble_eq_true rfl, Nat.le_of_ble_eq_true rfl⟩ rfl rfl (Nat.le_of_ble_eq_true rfl) ?_
      have hx := (in_n (by decide) c7).2.2
      have hre30_1 : n9 = nI (tn n9) := (in_n (by decide) c7).1
      refine J_loc [some (.ref t), some (.int (nI (tn n9)))] (by simp only [← hre30_1]) ?_
      refine J_aload_n cx dX3_pass_30 rfl ?_
      refine J_iload_n cx dX3_pass_31 rfl ?_
      refine T_callV cx [.int (nI (tn n9))] (t_X3_hours l Ω ht (tn n9) (by omega) (hh c7 c18)) dX3_pass_32 (lw_V q2874 q2876 qs64 q93 q2877) hd_X3_hours rfl rfl ⟨Nat.le_of_ble_eq_true rfl, Nat.le_of_ble_eq_true rfl⟩ rfl rfl (Nat.le_of_ble_eq_true rfl) ?_
      refine J_aload_n cx dX3_pass_35 rfl ?_
      refine T_get_g cx dX3_pass_36 ?_
      refine J_iconst (v := nI (0)) cx dX3_pass_39 (by decide) ?_
      refine T_ld_g cx dX3_pass_40 (by omega) ?_
      exact J_iret cx dX3_pass_41 hr ⟨congrArg some (congrArg Value.int (by simp only [r_X3_pass, o_X3_pass_g, o_X3_pass_hi, o_X3_pass_now, o_X3_pass_ch, o_X3_pass_ns, o_X3_pass_why, o_X3_pass_ws, if_neg c7, if_pos c18])), (tov_cg (by simp only [r_X3_pass, o_X3_pass_g, o_X3_pass_hi, o_X3_pass_now, o_X3_pass_ch, o_X3_pass_ns, o_X3_pass_why, o_X3_pass_ws, if_neg c7, if_pos c18]) (by simp only [r_X3_pass, o_X3_pass_g, o_X3_pass_hi, o_X3_pass_now, o_X3_pass_ch, o_X3_pass_ns, o_X3_pass_why, o_X3_pass_ws, if_neg c7, if_pos c18]) rfl rfl rfl (by simp only [r_X3_pass, o_X3_pass_g, o_X3_pass_hi, o_X3_pass_now, o_X3_pass_ch, o_X3_pass_ns, o_X3_pass_why, o_X3_pass_ws, if_neg c7, if_pos c18]) (by simp only [r_X3_pass, o_X3_pass_g, o_X3_pass_hi, o_X3_pass_now, o_X3_pass_ch, o_X3_pass_ns, o_X3_pass_why, o_X3_pass_ws, if_neg c7, if_pos c18]) rfl rfl (by simp only [r_X3_pass, o_X3_pass_g, o_X3_pass_hi, o_X3_pass_now, o_X3_pass_ch, o_X3_pass_ns, o_X3_pass_why, o_X3_pass_ws, if_neg c7, if_pos c18]) rfl rfl rfl (by simp only [r_X3_pass, o_X3_pass_g, o_X3_pass_hi, o_X3_pass_now, o_X3_pass_ch, o_X3_pass_ns, o_X3_pass_why, o_X3_pass_ws, if_neg c7, if_pos c18]) (by simp only [r_X3_pass, o_X3_pass_g, o_X3_pass_hi, o_X3_pass_now, o_X3_pass_ch, o_X3_pass_ns, o_X3_pass_why, o_X3_pass_ws, if_neg c7, if_pos c18]) rfl rfl rfl rfl rfl), rfl⟩ (Nat.le_refl 0) (Nat.le_refl 0)
    · refine J_aload_n cx dX3_pass_21 rfl ?_
      refine T_callI cx [] (t_X3_refused l Ω ht (nsk_mayPass _ _ hns).1 (nsk_mayPass _ _ hns).2) dX3_pass_22 (lw_V q2720 q2722 qs42 q93 q2723) hd_X3_refused rfl rfl ⟨Nat.le_of_ble_eq_true rfl, Nat.le_of_ble_eq_true rfl⟩ rfl rfl (Nat.le_of_ble_eq_true rfl) ?_
      exact J_iret cx dX3_pass_25 hr ⟨congrArg some (congrArg Value.int (by simp only [r_X3_pass, o_X3_pass_g, o_X3_pass_hi, o_X3_pass_now, o_X3_pass_ch, o_X3_pass_ns, o_X3_pass_why, o_X3_pass_ws, if_neg c7, if_neg c18])), (tov_cg (by simp only [r_X3_pass, o_X3_pass_g, o_X3_pass_hi, o_X3_pass_now, o_X3_pass_ch, o_X3_pass_ns, o_X3_pass_why, o_X3_pass_ws, if_neg c7, if_neg c18]) (by simp only [r_X3_pass, o_X3_pass_g, o_X3_pass_hi, o_X3_pass_now, o_X3_pass_ch, o_X3_pass_ns, o_X3_pass_why, o_X3_pass_ws, if_neg c7, if_neg c18]) rfl rfl rfl (by simp only [r_X3_pass, o_X3_pass_g, o_X3_pass_hi, o_X3_pass_now, o_X3_pass_ch, o_X3_pass_ns, o_X3_pass_why, o_X3_pass_ws, if_neg c7, if_neg c18]) (by simp only [r_X3_pass, o_X3_pass_g, o_X3_pass_hi, o_X3_pass_now, o_X3_pass_ch, o_X3_pass_ns, o_X3_pass_why, o_X3_pass_ws, if_neg c7, if_neg c18]) rfl rfl (by simp only [r_X3_pass, o_X3_pass_g, o_X3_pass_hi, o_X3_pass_now, o_X3_pass_ch, o_X3_pass_ns, o_X3_pass_why, o_X3_pass_ws, if_neg c7, if_neg c18]) rfl rfl rfl (by simp only [r_X3_pass, o_X3_pass_g, o_X3_pass_hi, o_X3_pass_now, o_X3_pass_ch, o_X3_pass_ns, o_X3_pass_why, o_X3_pass_ws, if_neg c7, if_neg c18]) (by simp only [r_X3_pass, o_X3_pass_g, o_X3_pass_hi, o_X3_pass_now, o_X3_pass_ch, o_X3_pass_ns, o_X3_pass_why, o_X3_pass_ws, if_neg c7, if_neg c18]) rfl rfl rfl rfl rfl), rfl⟩ (Nat.le_refl 0) (Nat.le_refl 0)
  · refine J_bipush (v := -2) cx dX3_pass_10 (by decide) ?_
    exact J_iret cx dX3_pass_12 hr ⟨congrArg some (congrArg Value.int (by simp only [r_X3_pass, o_X3_pass_g, o_X3_pass_hi, o_X3_pass_now, o_X3_pass_ch, o_X3_pass_ns, o_X3_pass_why, o_X3_pass_ws, if_pos c7])), (tov_cg (by simp only [r_X3_pass, o_X3_pass_g, o_X3_pass_hi, o_X3_pass_now, o_X3_pass_ch, o_X3_pass_ns, o_X3_pass_why, o_X3_pass_ws, if_pos c7]) (by simp only [r_X3_pass, o_X3_pass_g, o_X3_pass_hi, o_X3_pass_now, o_X3_pass_ch, o_X3_pass_ns, o_X3_pass_why, o_X3_pass_ws, if_pos c7]) rfl rfl rfl (by simp only [r_X3_pass, o_X3_pass_g, o_X3_pass_hi, o_X3_pass_now, o_X3_pass_ch, o_X3_pass_ns, o_X3_pass_why, o_X3_pass_ws, if_pos c7]) (by simp only [r_X3_pass, o_X3_pass_g, o_X3_pass_hi, o_X3_pass_now, o_X3_pass_ch, o_X3_pass_ns, o_X3_pass_why, o_X3_pass_ws, if_pos c7]) rfl rfl (by simp only [r_X3_pass, o_X3_pass_g, o_X3_pass_hi, o_X3_pass_now, o_X3_pass_ch, o_X3_pass_ns, o_X3_pass_why, o_X3_pass_ws, if_pos c7]) rfl rfl rfl (by simp only [r_X3_pass, o_X3_pass_g, o_X3_pass_hi, o_X3_pass_now, o_X3_pass_ch, o_X3_pass_ns, o_X3_pass_why, o_X3_pass_ws, if_pos c7]) (by simp only [r_X3_pass, o_X3_pass_g, o_X3_pass_hi, o_X3_pass_now, o_X3_pass_ch, o_X3_pass_ns, o_X3_pass_why, o_X3_pass_ws, if_pos c7]) rfl rfl rfl rfl rfl), rfl⟩ (Nat.le_refl 0) (Nat.le_refl 0)
theorem orderFor_rng (g : Nat → Int32) (p9 : Nat) : ∀ d, d ≤ tn (g (3)) → S_orderFor g p9 d = -1 ∨ (S_orderFor g p9 d = nI (tn (S_orderFor g p9 d)) ∧ tn (S_orderFor g p9 d) < tn (g (3))) := by
  intro d
  induction d with
  | zero => intro _; exact Or.inl rfl
  | succ d ih =>
    intro hd
    have ih := ih (by omega)
    have := tn_lt (g (3))
    have key : tn (nI (tn (g (3)) - (d + 1))) = tn (g (3)) - (d + 1) := nI_clamp (by omega)
    rw [S_orderFor]
    (repeat' split) <;> first | exact ih | exact Or.inr ⟨by rw [key], by rw [key]; omega⟩ | (exact absurd ‹_› (by decide))
def S_fires2 (g0 : Nat → Int32) (lo9 : Int32) (al9 : Int32) : Nat → (Nat → Int32) × Int32
  | 0 => (g0, (nI 0))
  | k1 + 1 => (if ((al9 >>> ((nI (k1)) &&& 31)) &&& (nI (1))) = (nI (1)) then (if ((lo9 >>> ((nI (k1)) &&& 31)) &&& (nI (1))) = (nI (1)) then ((upd (upd ((S_fires2 g0 lo9 al9 k1).1) ((50 + (13 * k1)) + 8) (-1)) ((50 + (13 * k1)) + 0) (nI (7))), ((S_fires2 g0 lo9 al9 k1).2)) else (if (((S_fires2 g0 lo9 al9 k1).1) ((50 + (13 * k1)) + 4)) = 0 then (if (S_orderFor (upd (upd ((S_fires2 g0 lo9 al9 k1).1) ((50 + (13 * k1)) + 8) (-1)) ((50 + (13 * k1)) + 0) (nI (5))) k1 (tn ((upd (upd ((S_fires2 g0 lo9 al9 k1).1) ((50 + (13 * k1)) + 8) (-1)) ((50 + (13 * k1)) + 0) (nI (5))) (3)))) = (-1) then ((upd (upd ((S_fires2 g0 lo9 al9 k1).1) ((50 + (13 * k1)) + 8) (-1)) ((50 + (13 * k1)) + 0) (nI (5))), ((S_fires2 g0 lo9 al9 k1).2)) else ((upd (upd (upd (upd (upd ((S_fires2 g0 lo9 al9 k1).1) ((50 + (13 * k1)) + 8) (-1)) ((50 + (13 * k1)) + 0) (nI (5))) ((50 + (13 * k1)) + 0) (nI (6))) ((50 + (13 * k1)) + 10) (nI (tn (S_orderFor (upd (upd ((S_fires2 g0 lo9 al9 k1).1) ((50 + (13 * k1)) + 8) (-1)) ((50 + (13 * k1)) + 0) (nI (5))) k1 (tn ((upd (upd ((S_fires2 g0 lo9 al9 k1).1) ((50 + (13 * k1)) + 8) (-1)) ((50 + (13 * k1)) + 0) (nI (5))) (3))))))) ((258 + (6 * (tn (S_orderFor (upd (upd ((S_fires2 g0 lo9 al9 k1).1) ((50 + (13 * k1)) + 8) (-1)) ((50 + (13 * k1)) + 0) (nI (5))) k1 (tn ((upd (upd ((S_fires2 g0 lo9 al9 k1).1) ((50 + (13 * k1)) + 8) (-1)) ((50 + (13 * k1)) + 0) (nI (5))) (3))))))) + 5) ((((S_fires2 g0 lo9 al9 k1).1) ((258 + (6 * (tn (S_orderFor (upd (upd ((S_fires2 g0 lo9 al9 k1).1) ((50 + (13 * k1)) + 8) (-1)) ((50 + (13 * k1)) + 0) (nI (5))) k1 (tn ((upd (upd ((S_fires2 g0 lo9 al9 k1).1) ((50 + (13 * k1)) + 8) (-1)) ((50 + (13 * k1)) + 0) (nI (5))) (3))))))) + 5)) - (nI (1)))), (((S_fires2 g0 lo9 al9 k1).2) ||| ((nI (1)) <<< ((nI (k1)) &&& 31))))) else ((upd (upd ((S_fires2 g0 lo9 al9 k1).1) ((50 + (13 * k1)) + 8) (-1)) ((50 + (13 * k1)) + 0) (nI (5))), ((S_fires2 g0 lo9 al9 k1).2)))) else (((S_fires2 g0 lo9 al9 k1).1), ((S_fires2 g0 lo9 al9 k1).2)))
def S_fires1 (g : Nat → Int32) : Nat → (Nat → Int32)
  | 0 => g
  | k1 + 1 => (upd (S_fires1 g k1) (41 + k1) (-1))
def fireG (g : Nat → Int32) : Nat → Int32 := upd (S_fires1 g 8) (49) (((S_fires1 g 8) (0)) + ((S_fires1 g 8) (9)))
def firesOk (g : Nat → Int32) : Prop := (g 2 = nI (tn (g 2)) ∧ tn (g 2) ≤ 16) ∧ shelfOk g ∧ (∀ k, k ≤ tn (g 2) → (S_fires2 (fireG g) (S_lostThen g 8) (S_shelfSet g 8) k).1 2 = nI (tn (g 2))) ∧
  (∀ k, k ≤ tn (g 2) → (S_fires2 (fireG g) (S_lostThen g 8) (S_shelfSet g 8) k).1 3 = nI (tn ((S_fires2 (fireG g) (S_lostThen g 8) (S_shelfSet g 8) k).1 3)) ∧ tn ((S_fires2 (fireG g) (S_lostThen g 8) (S_shelfSet g 8) k).1 3) ≤ 8)
theorem hd_X3_fires : yX3_fires.cls = RX3 ∧ yX3_fires.cls ≠ "java/lang/invoke/MethodHandle" ∧ yX3_fires.cls ≠ "java/lang/invoke/VarHandle" ∧ (parseMethodDescriptor yX3_fires.desc).map (fun d => d.parameters.length) = some 0 := by decide +kernel
set_option maxHeartbeats 4000000 in
theorem t_X3_fires (l : Launch) (Ω : jO) {t : Nat} {G0 : Mem} {g hi sv as_ inp why now told bef : Nat → Int32} {ch hs fed fa ws ns ct st_ pl iw sn : Int32} {sz : Nat} (ht : Ω.2.2.2 ≤ t)  (hfo : firesOk g) : Met l yX3_fires (ws_ yX3_fires cX3_fires 6 (some .int)) ({ frames := 5, cells := 0, slots := 0, locals := 103 }) (va_Pc [.ref t] (jWd Ω (tov Ω t G0 g hi sv as_ inp why now told bef ch hs fed fa ws ns ct st_ pl iw sn) sz)) (jQ Ω (jD (some (.int ((S_fires2 (fireG g) (S_lostThen g 8) (S_shelfSet g 8) (tn (g (2)))).2))) (tov Ω t G0 ((S_fires2 (fireG g) (S_lostThen g 8) (S_shelfSet g 8) (tn (g (2)))).1) hi sv as_ inp why now told bef ch hs fed fa ws ns ct st_ pl iw sn) sz)) 0 0 (jB Ω) := by
  refine jMet (by decide) (Nat.le_of_ble_eq_true rfl) ?_
  intro p e s m args below meth c cx hr hnm
  refine J_loc [some (.ref t), none, none, none, none, none] rfl ?_
  obtain ⟨⟨hn2, hn16⟩, hsh, hF2, hF3⟩ := hfo
  refine J_aload_n cx dX3_fires_0 rfl ?_
  refine T_callI cx [] (t_X3_lostThen l Ω ht hsh) dX3_fires_1 (lw_V q2819 q2821 qs55 q93 q2822) hd_X3_lostThen rfl rfl ⟨Nat.le_of_ble_eq_true rfl, Nat.le_of_ble_eq_true rfl⟩ rfl rfl (Nat.le_of_ble_eq_true rfl) ?_
  refine J_istore_n1 cx dX3_fires_4 (by decide) rfl ?_
  refine J_aload_n cx dX3_fires_5 rfl ?_
  refine T_callI cx [] (t_X3_shelfSet l Ω ht) dX3_fires_6 (lw_V q2815 q2817 qs54 q93 q2818) hd_X3_shelfSet rfl rfl ⟨Nat.le_of_ble_eq_true rfl, Nat.le_of_ble_eq_true rfl⟩ rfl rfl (Nat.le_of_ble_eq_true rfl) ?_
  refine J_istore_n2 cx dX3_fires_9 (by decide) rfl ?_
  refine J_iconst (v := nI (0)) cx dX3_fires_10 (by decide) ?_
  refine J_istore_n3 cx dX3_fires_11 (by decide) rfl ?_
  refine J_iconst (v := nI (0)) cx dX3_fires_12 (by decide) ?_
  refine J_istore4 cx dX3_fires_13 (by decide) rfl ?_
  have loop15 : ∀ (n k1 : Nat), 8 + 1 ≤ n + k1 → k1 ≤ 8 → J p l e ({ frames := 5, cells := 0, slots := 0, locals := 103 } : Room) s m args below meth c Ω 6 (MQ below (jQ Ω (jD (some (.int ((S_fires2 (fireG g) (S_lostThen g 8) (S_shelfSet g 8) (tn (g (2)))).2))) (tov Ω t G0 ((S_fires2 (fireG g) (S_lostThen g 8) (S_shelfSet g 8) (tn (g (2)))).1) hi sv as_ inp why now told bef ch hs fed fa ws ns ct st_ pl iw sn) sz)) args s 0 0 (jB Ω)) 0 0 sz (tov Ω t G0 (S_fires1 g k1) hi sv as_ inp why now told bef ch hs fed fa ws ns ct st_ pl iw sn) 15 [some (.ref t), some (.int (S_lostThen g 8)), some (.int (S_shelfSet g 8)), some (.int (nI (0))), some (.int (nI (k1))), none] [] := by
    intro n
    induction n with
    | zero => intro k1 hn1 hk1 ; exact absurd hn1 (by omega)
    | succ n ih =>
      intro k1 hn1 hk1 
      refine J_iload cx dX3_fires_15 rfl ?_
      refine J_bipush (v := nI (8)) cx dX3_fires_17 (by decide) ?_
      refine J_icmpN_ge (tgt := 39) cx dX3_fires_19 (by decide) (by omega) (by omega) (fun c19 => ?_) (fun c19 => ?_)
      · have hkx : 8 = k1 := Eq.symm (by omega)
        subst hkx
        refine J_aload_n cx dX3_fires_39 rfl ?_
        refine T_get_g cx dX3_fires_40 ?_
        refine J_bipush (v := nI (49)) cx dX3_fires_43 (by decide) ?_
        refine J_aload_n cx dX3_fires_45 rfl ?_
        refine T_get_g cx dX3_fires_46 ?_
        refine J_iconst (v := nI (0)) cx dX3_fires_49 (by decide) ?_
        refine T_ld_g cx dX3_fires_50 (by omega) ?_
        refine J_aload_n cx dX3_fires_51 rfl ?_
        refine T_get_g cx dX3_fires_52 ?_
        refine J_bipush (v := nI (9)) cx dX3_fires_55 (by decide) ?_
        refine T_ld_g cx dX3_fires_57 (by omega) ?_
        refine J_iadd cx dX3_fires_58 ?_
        refine T_st_g cx ht dX3_fires_59 (by omega) ?_
        refine J_mem (tov Ω t G0 (fireG g) hi sv as_ inp why now told bef ch hs fed fa ws ns ct st_ pl iw sn) rfl ?_
        refine J_iconst (v := nI (0)) cx dX3_fires_60 (by decide) ?_
        refine J_istore4 cx dX3_fires_61 (by decide) rfl ?_
        have loop63 : ∀ (n k1 : Nat), (tn (g (2))) + 1 ≤ n + k1 → k1 ≤ (tn (g (2))) → J p l e ({ frames := 5, cells := 0, slots := 0, locals := 103 } : Room) s m args below meth c Ω 6 (MQ below (jQ Ω (jD (some (.int ((S_fires2 (fireG g) (S_lostThen g 8) (S_shelfSet g 8) (tn (g (2)))).2))) (tov Ω t G0 ((S_fires2 (fireG g) (S_lostThen g 8) (S_shelfSet g 8) (tn (g (2)))).1) hi sv as_ inp why now told bef ch hs fed fa ws ns ct st_ pl iw sn) sz)) args s 0 0 (jB Ω)) 0 0 sz (tov Ω t G0 ((S_fires2 (fireG g) (S_lostThen g 8) (S_shelfSet g 8) k1).1) hi sv as_ inp why now told bef ch hs fed fa ws ns ct st_ pl iw sn) 63 [some (.ref t), some (.int (S_lostThen g 8)), some (.int (S_shelfSet g 8)), some (.int ((S_fires2 (fireG g) (S_lostThen g 8) (S_shelfSet g 8) k1).2)), some (.int (nI (k1))), none] [] := by
          intro n
          induction n with
          | zero => intro k1 hn1 hk1 ; exact absurd hn1 (by omega)
          | succ n ih =>
            intro k1 hn1 hk1 
            refine J_iload cx dX3_fires_63 rfl ?_
            refine J_aload_n cx dX3_fires_65 rfl ?_
            refine T_get_g cx dX3_fires_66 ?_
            refine J_iconst (v := nI (2)) cx dX3_fires_69 (by decide) ?_
            refine T_ld_g cx dX3_fires_70 (by omega) ?_
            refine J_top (.int (nI (tn (g (2))))) (congrArg Value.int (hF2 k1 hk1)) ?_
            refine J_icmpN_ge (tgt := 237) cx dX3_fires_71 (by decide) (by omega) (by omega) (fun c71 => ?_) (fun c71 => ?_)
            · have hkx : tn (g (2)) = k1 := Eq.symm (by omega)
              subst hkx
              refine J_iload_n cx dX3_fires_237 rfl ?_
              exact J_iret cx dX3_fires_238 hr ⟨congrArg some (congrArg Value.int rfl), rfl, rfl⟩ (Nat.le_refl 0) (Nat.le_refl 0)
            · refine J_iload_n cx dX3_fires_74 rfl ?_
              refine J_iload cx dX3_fires_75 rfl ?_
              refine J_ishr cx dX3_fires_77 ?_
              refine J_iconst (v := nI (1)) cx dX3_fires_78 (by decide) ?_
              refine J_iand cx dX3_fires_79 ?_
              refine J_iconst (v := nI (1)) cx dX3_fires_80 (by decide) ?_
              refine J_icmp_ne (tgt := 231) cx dX3_fires_81 (by decide) (fun c81 => ?_) (fun c81 => ?_)
              · refine J_iinc4 (v := nI (k1 + 1)) cx dX3_fires_231 (nI_1 k1) (by decide) rfl ?_
                refine J_goto (tgt := 63) cx dX3_fires_234 (by decide) ?_
                refine J_mem (tov Ω t G0 ((S_fires2 (fireG g) (S_lostThen g 8) (S_shelfSet g 8) (k1 + 1)).1) hi sv as_ inp why now told bef ch hs fed fa ws ns ct st_ pl iw sn) (tov_cg (by simp only [S_fires2, if_neg (Nat.not_lt.mpr c19), if_pos c71, if_neg c81]) rfl rfl rfl rfl rfl rfl rfl rfl rfl rfl rfl rfl rfl rfl rfl rfl rfl rfl rfl) ?_
                refine J_sub (L1 := [some (.ref t), some (.int (S_lostThen g 8)), some (.int (S_shelfSet g 8)), some (.int ((S_fires2 (fireG g) (S_lostThen g 8) (S_shelfSet g 8) (k1 + 1)).2)), some (.int (nI (k1 + 1))), none]) (jsub_s (jsub_s (jsub_s (jsub_e (congrArg Value.int (by simp only [S_fires2, if_neg (Nat.not_lt.mpr c19), if_pos c71, if_neg c81])) (jsub_s (jsub_n jsub_0)))))) ?_
                exact ih (k1 + 1) (by omega) (by omega) 
              · refine J_aload_n cx dX3_fires_84 rfl ?_
                refine T_get_g cx dX3_fires_85 ?_
                refine J_iload cx dX3_fires_88 rfl ?_
                refine T_callSI cx [.int (nI (k1))] (t_X3_at l Ω (k1)) dX3_fires_90 (lw_S q2736 q2737 q93 q2738) hd_X3_at.2 rfl rfl ⟨Nat.le_of_ble_eq_true rfl, Nat.le_of_ble_eq_true rfl⟩ rfl rfl (Nat.le_of_ble_eq_true rfl) ?_
                refine J_bipush (v := nI (8)) cx dX3_fires_93 (by decide) ?_
                refine J_iaddN cx dX3_fires_95 ?_
                refine J_iconst (v := -1) cx dX3_fires_96 (by decide) ?_
                refine T_st_g cx ht dX3_fires_97 (by omega) ?_
                refine J_aload_n cx dX3_fires_98 rfl ?_
                refine T_get_g cx dX3_fires_99 ?_
                refine J_iload cx dX3_fires_102 rfl ?_
                refine T_callSI cx [.int (nI (k1))] (t_X3_at l Ω (k1)) dX3_fires_104 (lw_S q2736 q2737 q93 q2738) hd_X3_at.2 rfl rfl ⟨Nat.le_of_ble_eq_true rfl, Nat.le_of_ble_eq_true rfl⟩ rfl rfl (Nat.le_of_ble_eq_true rfl) ?_
                refine J_iconst (v := nI (0)) cx dX3_fires_107 (by decide) ?_
                refine J_iaddN cx dX3_fires_108 ?_
                refine J_iload_n cx dX3_fires_109 rfl ?_
                refine J_iload cx dX3_fires_110 rfl ?_
                refine J_ishr cx dX3_fires_112 ?_
                refine J_iconst (v := nI (1)) cx dX3_fires_113 (by decide) ?_
                refine J_iand cx dX3_fires_114 ?_
                refine J_iconst (v := nI (1)) cx dX3_fires_115 (by decide) ?_
                refine J_icmp_ne (tgt := 124) cx dX3_fires_116 (by decide) (fun c116 => ?_) (fun c116 => ?_)
                · refine J_iconst (v := nI (5)) cx dX3_fires_124 (by decide) ?_
                  refine T_st_g cx ht dX3_fires_125 (by omega) ?_
                  refine J_aload_n cx dX3_fires_126 rfl ?_
                  refine T_get_g cx dX3_fires_127 ?_
                  refine J_iload cx dX3_fires_130 rfl ?_
                  refine T_callSI cx [.int (nI (k1))] (t_X3_at l Ω (k1)) dX3_fires_132 (lw_S q2736 q2737 q93 q2738) hd_X3_at.2 rfl rfl ⟨Nat.le_of_ble_eq_true rfl, Nat.le_of_ble_eq_true rfl⟩ rfl rfl (Nat.le_of_ble_eq_true rfl) ?_
                  refine J_iconst (v := nI (0)) cx dX3_fires_135 (by decide) ?_
                  refine J_iaddN cx dX3_fires_136 ?_
                  refine T_ld_g cx dX3_fires_137 (by omega) ?_
                  refine J_top (.int (nI (5))) (congrArg Value.int (pk_us)) ?_
                  refine J_iconst (v := nI (5)) cx dX3_fires_138 (by decide) ?_
                  refine J_icmpN_ne (tgt := 166) cx dX3_fires_139 (by decide) (by omega) (by omega) (fun c139 => absurd c139 (by decide)) (fun c139 => ?_)
                  refine J_aload_n cx dX3_fires_142 rfl ?_
                  refine T_get_g cx dX3_fires_143 ?_
                  refine J_iload cx dX3_fires_146 rfl ?_
                  refine T_callSI cx [.int (nI (k1))] (t_X3_at l Ω (k1)) dX3_fires_148 (lw_S q2736 q2737 q93 q2738) hd_X3_at.2 rfl rfl ⟨Nat.le_of_ble_eq_true rfl, Nat.le_of_ble_eq_true rfl⟩ rfl rfl (Nat.le_of_ble_eq_true rfl) ?_
                  refine J_iconst (v := nI (4)) cx dX3_fires_151 (by decide) ?_
                  refine J_iaddN cx dX3_fires_152 ?_
                  refine T_ld_g cx dX3_fires_153 (by omega) ?_
                  refine J_top (.int (((S_fires2 (fireG g) (S_lostThen g 8) (S_shelfSet g 8) k1).1) ((50 + (13 * k1)) + 4))) (congrArg Value.int ((pk_un (by omega)).trans ((pk_un (by omega)).trans (rfl)))) ?_
                  refine J_if_ne (tgt := 166) cx dX3_fires_154 (by decide) (fun c154 => ?_) (fun c154 => ?_)
                  · refine J_iconst (v := -1) cx dX3_fires_166 (by decide) ?_
                    refine J_istore5 cx dX3_fires_167 (by decide) rfl ?_
                    refine J_iload cx dX3_fires_169 rfl ?_
                    refine J_iconst (v := -1) cx dX3_fires_171 (by decide) ?_
                    refine J_icmp_eq (tgt := 231) cx dX3_fires_172 (by decide) (fun c172 => ?_) (fun c172 => absurd rfl c172)
                    refine J_iinc4 (v := nI (k1 + 1)) cx dX3_fires_231 (nI_1 k1) (by decide) rfl ?_
                    refine J_goto (tgt := 63) cx dX3_fires_234 (by decide) ?_
                    refine J_mem (tov Ω t G0 ((S_fires2 (fireG g) (S_lostThen g 8) (S_shelfSet g 8) (k1 + 1)).1) hi sv as_ inp why now told bef ch hs fed fa ws ns ct st_ pl iw sn) (tov_cg (by simp only [S_fires2, if_neg (Nat.not_lt.mpr c19), if_pos c71, if_pos c81, if_neg c116, if_neg c154]) rfl rfl rfl rfl rfl rfl rfl rfl rfl rfl rfl rfl rfl rfl rfl rfl rfl rfl rfl) ?_
                    refine J_sub (L1 := [some (.ref t), some (.int (S_lostThen g 8)), some (.int (S_shelfSet g 8)), some (.int ((S_fires2 (fireG g) (S_lostThen g 8) (S_shelfSet g 8) (k1 + 1)).2)), some (.int (nI (k1 + 1))), none]) (jsub_s (jsub_s (jsub_s (jsub_e (congrArg Value.int (by simp only [S_fires2, if_neg (Nat.not_lt.mpr c19), if_pos c71, if_pos c81, if_neg c116, if_neg c154])) (jsub_s (jsub_n jsub_0)))))) ?_
                    exact ih (k1 + 1) (by omega) (by omega) 
                  · refine J_aload_n cx dX3_fires_157 rfl ?_
                    refine J_iload cx dX3_fires_158 rfl ?_
                    refine T_callI cx [.int (nI (k1))] (t_X3_orderFor l Ω ht (k1) (by omega) (by simp only [upd]; rw [if_neg (by omega), if_neg (by omega)]; exact (hF3 k1 hk1).1) (by simp only [upd]; rw [if_neg (by omega), if_neg (by omega)]; exact (hF3 k1 hk1).2)) dX3_fires_160 (lw_V q2835 q2837 qs59 q93 q2838) hd_X3_orderFor rfl rfl ⟨Nat.le_of_ble_eq_true rfl, Nat.le_of_ble_eq_true rfl⟩ rfl rfl (Nat.le_of_ble_eq_true rfl) ?_
                    refine J_goto (tgt := 167) cx dX3_fires_163 (by decide) ?_
                    refine J_istore5 cx dX3_fires_167 (by decide) rfl ?_
                    refine J_iload cx dX3_fires_169 rfl ?_
                    refine J_iconst (v := -1) cx dX3_fires_171 (by decide) ?_
                    refine J_icmp_eq (tgt := 231) cx dX3_fires_172 (by decide) (fun c172 => ?_) (fun c172 => ?_)
                    · refine J_iinc4 (v := nI (k1 + 1)) cx dX3_fires_231 (nI_1 k1) (by decide) rfl ?_
                      refine J_goto (tgt := 63) cx dX3_fires_234 (by decide) ?_
                      refine J_mem (tov Ω t G0 ((S_fires2 (fireG g) (S_lostThen g 8) (S_shelfSet g 8) (k1 + 1)).1) hi sv as_ inp why now told bef ch hs fed fa ws ns ct st_ pl iw sn) (tov_cg (by simp only [S_fires2, if_neg (Nat.not_lt.mpr c19), if_pos c71, if_pos c81, if_neg c116, if_pos c154, if_pos c172]) rfl rfl rfl rfl rfl rfl rfl rfl rfl rfl rfl rfl rfl rfl rfl rfl rfl rfl rfl) ?_
                      refine J_sub (L1 := [some (.ref t), some (.int (S_lostThen g 8)), some (.int (S_shelfSet g 8)), some (.int ((S_fires2 (fireG g) (S_lostThen g 8) (S_shelfSet g 8) (k1 + 1)).2)), some (.int (nI (k1 + 1))), none]) (jsub_s (jsub_s (jsub_s (jsub_e (congrArg Value.int (by simp only [S_fires2, if_neg (Nat.not_lt.mpr c19), if_pos c71, if_pos c81, if_neg c116, if_pos c154, if_pos c172])) (jsub_s (jsub_n jsub_0)))))) ?_
                      exact ih (k1 + 1) (by omega) (by omega) 
                    · have hof := (orderFor_rng (upd (upd ((S_fires2 (fireG g) (S_lostThen g 8) (S_shelfSet g 8) k1).1) ((50 + (13 * k1)) + 8) (-1)) ((50 + (13 * k1)) + 0) (nI (5))) k1 _ (Nat.le_refl _)).resolve_left c172
                      have hof2 : tn (S_orderFor (upd (upd ((S_fires2 (fireG g) (S_lostThen g 8) (S_shelfSet g 8) k1).1) ((50 + (13 * k1)) + 8) (-1)) ((50 + (13 * k1)) + 0) (nI (5))) k1 (tn ((upd (upd ((S_fires2 (fireG g) (S_lostThen g 8) (S_shelfSet g 8) k1).1) ((50 + (13 * k1)) + 8) (-1)) ((50 + (13 * k1)) + 0) (nI (5))) (3)))) < 8 := Nat.lt_of_lt_of_le hof.2 (by simp only [upd]; repeat rw [if_neg (by omega)]; exact (hF3 k1 hk1).2)
                      have hre175_5 : S_orderFor (upd (upd ((S_fires2 (fireG g) (S_lostThen g 8) (S_shelfSet g 8) k1).1) ((50 + (13 * k1)) + 8) (-1)) ((50 + (13 * k1)) + 0) (nI (5))) k1 (tn ((upd (upd ((S_fires2 (fireG g) (S_lostThen g 8) (S_shelfSet g 8) k1).1) ((50 + (13 * k1)) + 8) (-1)) ((50 + (13 * k1)) + 0) (nI (5))) (3))) = nI (tn (S_orderFor (upd (upd ((S_fires2 (fireG g) (S_lostThen g 8) (S_shelfSet g 8) k1).1) ((50 + (13 * k1)) + 8) (-1)) ((50 + (13 * k1)) + 0) (nI (5))) k1 (tn ((upd (upd ((S_fires2 (fireG g) (S_lostThen g 8) (S_shelfSet g 8) k1).1) ((50 + (13 * k1)) + 8) (-1)) ((50 + (13 * k1)) + 0) (nI (5))) (3))))) := hof.1
                      refine J_loc [some (.ref t), some (.int (S_lostThen g 8)), some (.int (S_shelfSet g 8)), some (.int ((S_fires2 (fireG g) (S_lostThen g 8) (S_shelfSet g 8) k1).2)), some (.int (nI (k1))), some (.int (nI (tn (S_orderFor (upd (upd ((S_fires2 (fireG g) (S_lostThen g 8) (S_shelfSet g 8) k1).1) ((50 + (13 * k1)) + 8) (-1)) ((50 + (13 * k1)) + 0) (nI (5))) k1 (tn ((upd (upd ((S_fires2 (fireG g) (S_lostThen g 8) (S_shelfSet g 8) k1).1) ((50 + (13 * k1)) + 8) (-1)) ((50 + (13 * k1)) + 0) (nI (5))) (3)))))))] (by simp only [← hre175_5]) ?_
                      refine J_aload_n cx dX3_fires_175 rfl ?_
                      refine T_get_g cx dX3_fires_176 ?_
                      refine J_iload cx dX3_fires_179 rfl ?_
                      refine T_callSI cx [.int (nI (k1))] (t_X3_at l Ω (k1)) dX3_fires_181 (lw_S q2736 q2737 q93 q2738) hd_X3_at.2 rfl rfl ⟨Nat.le_of_ble_eq_true rfl, Nat.le_of_ble_eq_true rfl⟩ rfl rfl (Nat.le_of_ble_eq_true rfl) ?_
                      refine J_iconst (v := nI (0)) cx dX3_fires_184 (by decide) ?_
                      refine J_iaddN cx dX3_fires_185 ?_
                      refine J_bipush (v := nI (6)) cx dX3_fires_186 (by decide) ?_
                      refine T_st_g cx ht dX3_fires_188 (by omega) ?_
                      refine J_aload_n cx dX3_fires_189 rfl ?_
                      refine T_get_g cx dX3_fires_190 ?_
                      refine J_iload cx dX3_fires_193 rfl ?_
                      refine T_callSI cx [.int (nI (k1))] (t_X3_at l Ω (k1)) dX3_fires_195 (lw_S q2736 q2737 q93 q2738) hd_X3_at.2 rfl rfl ⟨Nat.le_of_ble_eq_true rfl, Nat.le_of_ble_eq_true rfl⟩ rfl rfl (Nat.le_of_ble_eq_true rfl) ?_
                      refine J_bipush (v := nI (10)) cx dX3_fires_198 (by decide) ?_
                      refine J_iaddN cx dX3_fires_200 ?_
                      refine J_iload cx dX3_fires_201 rfl ?_
                      refine T_st_g cx ht dX3_fires_203 (by omega) ?_
                      refine J_aload_n cx dX3_fires_204 rfl ?_
                      refine T_get_g cx dX3_fires_205 ?_
                      refine J_sipush (v := nI (258)) cx dX3_fires_208 (by decide) ?_
                      refine J_bipush (v := nI (6)) cx dX3_fires_211 (by decide) ?_
                      refine J_iload cx dX3_fires_213 rfl ?_
                      refine J_imulN cx dX3_fires_215 ?_
                      refine J_iaddN cx dX3_fires_216 ?_
                      refine J_iconst (v := nI (5)) cx dX3_fires_217 (by decide) ?_
                      refine J_iaddN cx dX3_fires_218 ?_
                      refine J_dup2 cx dX3_fires_219 rfl rfl ?_
                      refine T_ld_g cx dX3_fires_220 (by omega) ?_
                      refine J_top (.int (((S_fires2 (fireG g) (S_lostThen g 8) (S_shelfSet g 8) k1).1) ((258 + (6 * (tn (S_orderFor (upd (upd ((S_fires2 (fireG g) (S_lostThen g 8) (S_shelfSet g 8) k1).1) ((50 + (13 * k1)) + 8) (-1)) ((50 + (13 * k1)) + 0) (nI (5))) k1 (tn ((upd (upd ((S_fires2 (fireG g) (S_lostThen g 8) (S_shelfSet g 8) k1).1) ((50 + (13 * k1)) + 8) (-1)) ((50 + (13 * k1)) + 0) (nI (5))) (3))))))) + 5))) (congrArg Value.int ((pk_un (by omega)).trans ((pk_un (by omega)).trans ((pk_un (by omega)).trans ((pk_un (by omega)).trans (rfl)))))) ?_
                      refine J_iconst (v := nI (1)) cx dX3_fires_221 (by decide) ?_
                      refine J_isub cx dX3_fires_222 ?_
                      refine T_st_g cx ht dX3_fires_223 (by omega) ?_
                      refine J_iload_n cx dX3_fires_224 rfl ?_
                      refine J_iconst (v := nI (1)) cx dX3_fires_225 (by decide) ?_
                      refine J_iload cx dX3_fires_226 rfl ?_
                      refine J_ishl cx dX3_fires_228 ?_
                      refine J_ior cx dX3_fires_229 ?_
                      refine J_istore_n3 cx dX3_fires_230 (by decide) rfl ?_
                      refine J_iinc4 (v := nI (k1 + 1)) cx dX3_fires_231 (nI_1 k1) (by decide) rfl ?_
                      refine J_goto (tgt := 63) cx dX3_fires_234 (by decide) ?_
                      refine J_mem (tov Ω t G0 ((S_fires2 (fireG g) (S_lostThen g 8) (S_shelfSet g 8) (k1 + 1)).1) hi sv as_ inp why now told bef ch hs fed fa ws ns ct st_ pl iw sn) (tov_cg (by simp only [S_fires2, if_neg (Nat.not_lt.mpr c19), if_pos c71, if_pos c81, if_neg c116, if_pos c154, if_neg c172]) rfl rfl rfl rfl rfl rfl rfl rfl rfl rfl rfl rfl rfl rfl rfl rfl rfl rfl rfl) ?_
                      refine J_sub (L1 := [some (.ref t), some (.int (S_lostThen g 8)), some (.int (S_shelfSet g 8)), some (.int ((S_fires2 (fireG g) (S_lostThen g 8) (S_shelfSet g 8) (k1 + 1)).2)), some (.int (nI (k1 + 1))), none]) (jsub_s (jsub_s (jsub_s (jsub_e (congrArg Value.int (by simp only [S_fires2, if_neg (Nat.not_lt.mpr c19), if_pos c71, if_pos c81, if_neg c116, if_pos c154, if_neg c172])) (jsub_s (jsub_n jsub_0)))))) ?_
                      exact ih (k1 + 1) (by omega) (by omega) 
                · refine J_bipush (v := nI (7)) cx dX3_fires_119 (by decide) ?_
                  refine J_goto (tgt := 125) cx dX3_fires_121 (by decide) ?_
                  refine T_st_g cx ht dX3_fires_125 (by omega) ?_
                  refine J_aload_n cx dX3_fires_126 rfl ?_
                  refine T_get_g cx dX3_fires_127 ?_
                  refine J_iload cx dX3_fires_130 rfl ?_
                  refine T_callSI cx [.int (nI (k1))] (t_X3_at l Ω (k1)) dX3_fires_132 (lw_S q2736 q2737 q93 q2738) hd_X3_at.2 rfl rfl ⟨Nat.le_of_ble_eq_true rfl, Nat.le_of_ble_eq_true rfl⟩ rfl rfl (Nat.le_of_ble_eq_true rfl) ?_
                  refine J_iconst (v := nI (0)) cx dX3_fires_135 (by decide) ?_
                  refine J_iaddN cx dX3_fires_136 ?_
                  refine T_ld_g cx dX3_fires_137 (by omega) ?_
                  refine J_top (.int (nI (7))) (congrArg Value.int (pk_us)) ?_
                  refine J_iconst (v := nI (5)) cx dX3_fires_138 (by decide) ?_
                  refine J_icmpN_ne (tgt := 166) cx dX3_fires_139 (by decide) (by omega) (by omega) (fun c139 => ?_) (fun c139 => absurd c139 (by decide))
                  refine J_iconst (v := -1) cx dX3_fires_166 (by decide) ?_
                  refine J_istore5 cx dX3_fires_167 (by decide) rfl ?_
                  refine J_iload cx dX3_fires_169 rfl ?_
                  refine J_iconst (v := -1) cx dX3_fires_171 (by decide) ?_
                  refine J_icmp_eq (tgt := 231) cx dX3_fires_172 (by decide) (fun c172 => ?_) (fun c172 => absurd rfl c172)
                  refine J_iinc4 (v := nI (k1 + 1)) cx dX3_fires_231 (nI_1 k1) (by decide) rfl ?_
                  refine J_goto (tgt := 63) cx dX3_fires_234 (by decide) ?_
                  refine J_mem (tov Ω t G0 ((S_fires2 (fireG g) (S_lostThen g 8) (S_shelfSet g 8) (k1 + 1)).1) hi sv as_ inp why now told bef ch hs fed fa ws ns ct st_ pl iw sn) (tov_cg (by simp only [S_fires2, if_neg (Nat.not_lt.mpr c19), if_pos c71, if_pos c81, if_pos c116]) rfl rfl rfl rfl rfl rfl rfl rfl rfl rfl rfl rfl rfl rfl rfl rfl rfl rfl rfl) ?_
                  refine J_sub (L1 := [some (.ref t), some (.int (S_lostThen g 8)), some (.int (S_shelfSet g 8)), some (.int ((S_fires2 (fireG g) (S_lostThen g 8) (S_shelfSet g 8) (k1 + 1)).2)), some (.int (nI (k1 + 1))), none]) (jsub_s (jsub_s (jsub_s (jsub_e (congrArg Value.int (by simp only [S_fires2, if_neg (Nat.not_lt.mpr c19), if_pos c71, if_pos c81, if_pos c116])) (jsub_s (jsub_n jsub_0)))))) ?_
                  exact ih (k1 + 1) (by omega) (by omega) 
        refine J_sub (L1 := [some (.ref t), some (.int (S_lostThen g 8)), some (.int (S_shelfSet g 8)), some (.int ((S_fires2 (fireG g) (S_lostThen g 8) (S_shelfSet g 8) 0).2)), some (.int (nI (0))), none]) (jsub_s (jsub_s (jsub_s (jsub_e (congrArg Value.int rfl) (jsub_s (jsub_n jsub_0)))))) ?_
        exact loop63 (tn (g (2)) + 1) 0 (by omega) (by omega) 
      · refine J_aload_n cx dX3_fires_22 rfl ?_
        refine T_get_g cx dX3_fires_23 ?_
        refine J_bipush (v := nI (41)) cx dX3_fires_26 (by decide) ?_
        refine J_iload cx dX3_fires_28 rfl ?_
        refine J_iaddN cx dX3_fires_30 ?_
        refine J_iconst (v := -1) cx dX3_fires_31 (by decide) ?_
        refine T_st_g cx ht dX3_fires_32 (by omega) ?_
        refine J_iinc4 (v := nI (k1 + 1)) cx dX3_fires_33 (nI_1 k1) (by decide) rfl ?_
        refine J_goto (tgt := 15) cx dX3_fires_36 (by decide) ?_
        refine J_mem (tov Ω t G0 (S_fires1 g (k1 + 1)) hi sv as_ inp why now told bef ch hs fed fa ws ns ct st_ pl iw sn) (tov_cg (by simp only [S_fires1, if_pos c19]) rfl rfl rfl rfl rfl rfl rfl rfl rfl rfl rfl rfl rfl rfl rfl rfl rfl rfl rfl) ?_
        refine J_sub (L1 := [some (.ref t), some (.int (S_lostThen g 8)), some (.int (S_shelfSet g 8)), some (.int (nI (0))), some (.int (nI (k1 + 1))), none]) (jsub_s (jsub_s (jsub_s (jsub_s (jsub_s (jsub_n jsub_0)))))) ?_
        exact ih (k1 + 1) (by omega) (by omega) 
  refine J_sub (L1 := [some (.ref t), some (.int (S_lostThen g 8)), some (.int (S_shelfSet g 8)), some (.int (nI (0))), some (.int (nI (0))), none]) (jsub_s (jsub_s (jsub_s (jsub_s (jsub_s (jsub_n jsub_0)))))) ?_
  exact loop15 (8 + 1) 0 (by omega) (by omega) 
