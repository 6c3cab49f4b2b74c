/-! THE TWIN: read (gen/mk_t13.py) -/
set_option maxRecDepth 100000
theorem hd_X3_readX : yX3_read.cls = RX3 ∧ yX3_read.cls ≠ "java/lang/invoke/MethodHandle" ∧ yX3_read.cls ≠ "java/lang/invoke/VarHandle" ∧ (parseMethodDescriptor yX3_read.desc).map (fun d => d.parameters.length) = some 0 := by decide +kernel
set_option maxHeartbeats 4000000 in
theorem t_X3_readX (l : Launch) (Ω : jO) {t : Nat} {G0 : Mem} {g hi sv as_ inp why now told bef : Nat → Int32} {ch hs fed fa ws ns ct st_ pl iw sn : Int32} {sz : Nat} (ht : Ω.2.2.2 ≤ t)  (nC : Nat) (hfd : fed = nI (tn fed)) (hfd6 : tn fed ≤ 60) (htx : textOk inp fed told nC) (hwr : ¬ (o_X3_readsText_iw inp told fed nC) = 0) : Met l yX3_read (ws_ yX3_read cX3_read 3 (some .int)) ({ frames := 5, cells := 0, slots := 0, locals := 99 }) (va_Pc [.ref t] (jWd Ω (tov Ω t G0 g hi sv as_ inp why now told bef ch hs fed fa ws ns ct st_ pl iw sn) sz)) (jQ Ω (jD (some (.int ((-2)))) (tov Ω t G0 g hi sv as_ inp why now (o_X3_readsText_told inp told fed nC) bef ch hs (nI (0)) (o_X3_readsText_pl inp told fed nC) ws ns ct st_ (o_X3_readsText_pl inp told fed nC) (o_X3_readsText_iw inp told fed nC) sn) sz)) 0 0 (jB Ω) := by
  refine jMet (by decide) (Nat.le_of_ble_eq_true rfl) ?_
  intro p e s m args below meth c cx hr hnm
  refine J_loc [some (.ref t), none, none] rfl ?_
  refine J_aload_n cx dX3_read_0 rfl ?_
  refine T_callI cx [] (t_X3_readsText l Ω ht nC hfd hfd6 htx) dX3_read_1 (lw_V q2957 q2959 qs74 q93 q2960) hd_X3_readsText rfl rfl ⟨Nat.le_of_ble_eq_true rfl, Nat.le_of_ble_eq_true rfl⟩ rfl rfl (Nat.le_of_ble_eq_true rfl) ?_
  refine J_istore_n1 cx dX3_read_4 (by decide) rfl ?_
  refine J_aload_n cx dX3_read_5 rfl ?_
  refine J_iconst (v := nI (0)) cx dX3_read_6 (by decide) ?_
  refine T_put_fed cx ht dX3_read_7 ?_
  refine J_aload_n cx dX3_read_10 rfl ?_
  refine T_get_iw cx dX3_read_11 ?_
  refine J_if_eq (tgt := 28) cx dX3_read_14 (by decide) (fun c14 => absurd c14 (hwr)) (fun c14 => ?_)
  refine J_aload_n cx dX3_read_17 rfl ?_
  refine J_aload_n cx dX3_read_18 rfl ?_
  refine T_get_pl cx dX3_read_19 ?_
  refine T_put_fa cx ht dX3_read_22 ?_
  refine J_bipush (v := -2) cx dX3_read_25 (by decide) ?_
  exact J_iret cx dX3_read_27 hr ⟨congrArg some (congrArg Value.int rfl), rfl, rfl⟩ (Nat.le_refl 0) (Nat.le_refl 0)
def doesOk (g told : Nat → Int32) (to9 : Nat) : Prop := r_X3_wrongNumber g told to9 = -1 ∧ (told (to9) = 112 → tn (g 2) < 16) ∧ (told (to9) = 104 → ∀ k, k < tn (told (to9 + 1)) → hourOk (S_hours g k)) ∧ firesOk g
def S_read (g : Nat → Int32) (now : Nat → Int32) (ns : Int32) (sn : Int32) (told9 : Nat → Int32) : Nat → (Nat → Int32) × (Nat → Int32) × Int32 × Int32
  | 0 => (g, now, ns, sn)
  | k1 + 1 => ((o_X3_does_g ((S_read g now ns sn told9 k1).1) told9 (4 * k1)), (o_X3_mayDo_now ((S_read g now ns sn told9 k1).1) ((S_read g now ns sn told9 k1).2.1) told9 (4 * k1)), (o_X3_mayDo_ns ((S_read g now ns sn told9 k1).1) told9 ((S_read g now ns sn told9 k1).2.2.1) (4 * k1)), (o_X3_does_sn ((S_read g now ns sn told9 k1).1) told9 ((S_read g now ns sn told9 k1).2.2.2) (4 * k1)))
def readOk (g now : Nat → Int32) (ns sn : Int32) (inp : Nat → Int32) (fed : Int32) (told : Nat → Int32) (nC nF : Nat) : Prop :=
  (∀ k, k < nF → (r_X3_mayDo ((S_read g now ns sn (o_X3_readsText_told inp told fed nC) k).1) (o_X3_readsText_told inp told fed nC) (4 * k)) = 0) ∧ (∀ k, k ≤ nF → (((S_read g now ns sn (o_X3_readsText_told inp told fed nC) k).1) 2 = nI (tn (((S_read g now ns sn (o_X3_readsText_told inp told fed nC) k).1) 2)) ∧ tn (((S_read g now ns sn (o_X3_readsText_told inp told fed nC) k).1) 2) ≤ 16)) ∧ (∀ k, k < nF → doesOk ((S_read g now ns sn (o_X3_readsText_told inp told fed nC) k).1) (o_X3_readsText_told inp told fed nC) (4 * k))
def o_readA_g (g : Nat → Int32) (as_ : Nat → Int32) (inp : Nat → Int32) (now : Nat → Int32) (told : Nat → Int32) (bef : Nat → Int32) (fed : Int32) (ns : Int32) (sn : Int32) (nC : Nat) : Nat → Int32 := (va_cpy (va_cpy ((S_read g now ns sn (o_X3_readsText_told inp told fed nC) nC).1) as_ 0 0 1108) (va_cpy (va_cpy g bef 0 0 1108) ((S_read g now ns sn (o_X3_readsText_told inp told fed nC) nC).1) 0 0 1108) 0 0 1108)
def o_readA_hi (g : Nat → Int32) (hi : Nat → Int32) (inp : Nat → Int32) (now : Nat → Int32) (told : Nat → Int32) (bef : Nat → Int32) (ch : Int32) (fed : Int32) (ns : Int32) (sn : Int32) (nC : Nat) : Nat → Int32 := (o_X3_remembers_hi (va_cpy (va_cpy g bef 0 0 1108) ((S_read g now ns sn (o_X3_readsText_told inp told fed nC) nC).1) 0 0 1108) hi ch)
theorem hd_X3_read : yX3_read.cls = RX3 ∧ yX3_read.cls ≠ "java/lang/invoke/MethodHandle" ∧ yX3_read.cls ≠ "java/lang/invoke/VarHandle" ∧ (parseMethodDescriptor yX3_read.desc).map (fun d => d.parameters.length) = some 0 := by decide +kernel
set_option maxHeartbeats 4000000 in
theorem t_X3_read (l : Launch) (Ω : jO) {t : Nat} {G0 : Mem} {g hi sv as_ inp why now told bef : Nat → Int32} {ch hs fed fa ws ns ct st_ pl iw sn : Int32} {sz : Nat} (ht : Ω.2.2.2 ≤ t)  (nC : Nat) (hfd : fed = nI (tn fed)) (hfd6 : tn fed ≤ 60) (htx : textOk inp fed told nC) (hwr : (o_X3_readsText_iw inp told fed nC) = 0) (hok : readOk g now ns sn inp fed told nC nC) (hch : ch = nI (tn ch)) (hch8 : tn ch ≤ 8) : Met l yX3_read (ws_ yX3_read cX3_read 3 (some .int)) ({ frames := 7, cells := 0, slots := 0, locals := 151 }) (va_Pc [.ref t] (jWd Ω (tov Ω t G0 g hi sv as_ inp why now told bef ch hs fed fa ws ns ct st_ pl iw sn) sz)) (jQ Ω (jD (some (.int (nI (nC)))) (tov Ω t G0 (o_readA_g g as_ inp now told bef fed ns sn nC) (o_readA_hi g hi inp now told bef ch fed ns sn nC) sv (va_cpy ((S_read g now ns sn (o_X3_readsText_told inp told fed nC) nC).1) as_ 0 0 1108) inp why ((S_read g now ns sn (o_X3_readsText_told inp told fed nC) nC).2.1) (o_X3_readsText_told inp told fed nC) (va_cpy g bef 0 0 1108) (o_X3_remembers_ch ch) hs (nI (0)) fa ws ((S_read g now ns sn (o_X3_readsText_told inp told fed nC) nC).2.2.1) ct st_ (o_X3_readsText_pl inp told fed nC) (o_X3_readsText_iw inp told fed nC) ((S_read g now ns sn (o_X3_readsText_told inp told fed nC) nC).2.2.2)) sz)) 0 0 (jB Ω) := by
  refine jMet (by decide) (Nat.le_of_ble_eq_true rfl) ?_
  intro p e s m args below meth c cx hr hnm
  refine J_loc [some (.ref t), none, none] rfl ?_
  have hnc := htx.1
  obtain ⟨hmd, hnp, hdo⟩ := hok
  refine J_aload_n cx dX3_read_0 rfl ?_
  refine T_callI cx [] (t_X3_readsText l Ω ht nC hfd hfd6 htx) dX3_read_1 (lw_V q2957 q2959 qs74 q93 q2960) hd_X3_readsText rfl rfl ⟨Nat.le_of_ble_eq_true rfl, Nat.le_of_ble_eq_true rfl⟩ rfl rfl (Nat.le_of_ble_eq_true rfl) ?_
  refine J_istore_n1 cx dX3_read_4 (by decide) rfl ?_
  refine J_aload_n cx dX3_read_5 rfl ?_
  refine J_iconst (v := nI (0)) cx dX3_read_6 (by decide) ?_
  refine T_put_fed cx ht dX3_read_7 ?_
  refine J_aload_n cx dX3_read_10 rfl ?_
  refine T_get_iw cx dX3_read_11 ?_
  refine J_if_eq (tgt := 28) cx dX3_read_14 (by decide) (fun c14 => ?_) (fun c14 => absurd (hwr) c14)
  refine J_aload_n cx dX3_read_28 rfl ?_
  refine T_get_g cx dX3_read_29 ?_
  refine J_iconst (v := nI (0)) cx dX3_read_32 (by decide) ?_
  refine J_aload_n cx dX3_read_33 rfl ?_
  refine T_get_bef cx dX3_read_34 ?_
  refine J_iconst (v := nI (0)) cx dX3_read_37 (by decide) ?_
  refine T_callSV cx [.ref (t + 1), .int (nI (0)), .ref (t + 9), .int (nI (0))] (t_copy_g_bef l Ω ht (0) (0) (by omega) (by omega)) dX3_read_38 (lw_S q2701 q2702 q93 q2703) hd_X3_copy.2 rfl rfl ⟨Nat.le_of_ble_eq_true rfl, Nat.le_of_ble_eq_true rfl⟩ rfl rfl (Nat.le_of_ble_eq_true rfl) ?_
  refine J_iconst (v := nI (0)) cx dX3_read_41 (by decide) ?_
  refine J_istore_n2 cx dX3_read_42 (by decide) rfl ?_
  have loop43 : ∀ (n k1 : Nat), nC + 1 ≤ n + k1 → k1 ≤ nC → J p l e ({ frames := 7, cells := 0, slots := 0, locals := 151 } : Room) s m args below meth c Ω 3 (MQ below (jQ Ω (jD (some (.int (nI (nC)))) (tov Ω t G0 (o_readA_g g as_ inp now told bef fed ns sn nC) (o_readA_hi g hi inp now told bef ch fed ns sn nC) sv (va_cpy ((S_read g now ns sn (o_X3_readsText_told inp told fed nC) nC).1) as_ 0 0 1108) inp why ((S_read g now ns sn (o_X3_readsText_told inp told fed nC) nC).2.1) (o_X3_readsText_told inp told fed nC) (va_cpy g bef 0 0 1108) (o_X3_remembers_ch ch) hs (nI (0)) fa ws ((S_read g now ns sn (o_X3_readsText_told inp told fed nC) nC).2.2.1) ct st_ (o_X3_readsText_pl inp told fed nC) (o_X3_readsText_iw inp told fed nC) ((S_read g now ns sn (o_X3_readsText_told inp told fed nC) nC).2.2.2)) sz)) args s 0 0 (jB Ω)) 0 0 sz (tov Ω t G0 ((S_read g now ns sn (o_X3_readsText_told inp told fed nC) k1).1) hi sv as_ inp why ((S_read g now ns sn (o_X3_readsText_told inp told fed nC) k1).2.1) (o_X3_readsText_told inp told fed nC) (va_cpy g bef 0 0 1108) ch hs (nI (0)) fa ws ((S_read g now ns sn (o_X3_readsText_told inp told fed nC) k1).2.2.1) ct st_ (o_X3_readsText_pl inp told fed nC) (o_X3_readsText_iw inp told fed nC) ((S_read g now ns sn (o_X3_readsText_told inp told fed nC) k1).2.2.2)) 43 [some (.ref t), some (.int (nI (nC))), some (.int (nI (k1)))] [] := by
    intro n
    induction n with
    | zero => intro k1 hn1 hk1 ; exact absurd hn1 (by omega)
    | succ n ih =>
      intro k1 hn1 hk1 
      refine J_iload_n cx dX3_read_43 rfl ?_
      refine J_iload_n cx dX3_read_44 rfl ?_
      refine J_icmpN_ge (tgt := 90) cx dX3_read_45 (by decide) (by omega) (by omega) (fun c45 => ?_) (fun c45 => ?_)
      · have hkx : nC = k1 := Eq.symm (by omega)
        subst hkx
        refine J_aload_n cx dX3_read_90 rfl ?_
        refine T_get_g cx dX3_read_91 ?_
        refine J_iconst (v := nI (0)) cx dX3_read_94 (by decide) ?_
        refine J_aload_n cx dX3_read_95 rfl ?_
        refine T_get_as_ cx dX3_read_96 ?_
        refine J_iconst (v := nI (0)) cx dX3_read_99 (by decide) ?_
        refine T_callSV cx [.ref (t + 1), .int (nI (0)), .ref (t + 4), .int (nI (0))] (t_copy_g_as_ l Ω ht (0) (0) (by omega) (by omega)) dX3_read_100 (lw_S q2701 q2702 q93 q2703) hd_X3_copy.2 rfl rfl ⟨Nat.le_of_ble_eq_true rfl, Nat.le_of_ble_eq_true rfl⟩ rfl rfl (Nat.le_of_ble_eq_true rfl) ?_
        refine J_aload_n cx dX3_read_103 rfl ?_
        refine T_get_bef cx dX3_read_104 ?_
        refine J_iconst (v := nI (0)) cx dX3_read_107 (by decide) ?_
        refine J_aload_n cx dX3_read_108 rfl ?_
        refine T_get_g cx dX3_read_109 ?_
        refine J_iconst (v := nI (0)) cx dX3_read_112 (by decide) ?_
        refine T_callSV cx [.ref (t + 9), .int (nI (0)), .ref (t + 1), .int (nI (0))] (t_copy_bef_g l Ω ht (0) (0) (by omega) (by omega)) dX3_read_113 (lw_S q2701 q2702 q93 q2703) hd_X3_copy.2 rfl rfl ⟨Nat.le_of_ble_eq_true rfl, Nat.le_of_ble_eq_true rfl⟩ rfl rfl (Nat.le_of_ble_eq_true rfl) ?_
        refine J_aload_n cx dX3_read_116 rfl ?_
        refine T_callV cx [] (t_X3_remembers l Ω ht hch hch8) dX3_read_117 (lw_V q2697 q2699 qs40 q93 q2700) hd_X3_remembers rfl rfl ⟨Nat.le_of_ble_eq_true rfl, Nat.le_of_ble_eq_true rfl⟩ rfl rfl (Nat.le_of_ble_eq_true rfl) ?_
        refine J_aload_n cx dX3_read_120 rfl ?_
        refine T_get_as_ cx dX3_read_121 ?_
        refine J_iconst (v := nI (0)) cx dX3_read_124 (by decide) ?_
        refine J_aload_n cx dX3_read_125 rfl ?_
        refine T_get_g cx dX3_read_126 ?_
        refine J_iconst (v := nI (0)) cx dX3_read_129 (by decide) ?_
        refine T_callSV cx [.ref (t + 4), .int (nI (0)), .ref (t + 1), .int (nI (0))] (t_copy_as__g l Ω ht (0) (0) (by omega) (by omega)) dX3_read_130 (lw_S q2701 q2702 q93 q2703) hd_X3_copy.2 rfl rfl ⟨Nat.le_of_ble_eq_true rfl, Nat.le_of_ble_eq_true rfl⟩ rfl rfl (Nat.le_of_ble_eq_true rfl) ?_
        refine J_iload_n cx dX3_read_133 rfl ?_
        exact J_iret cx dX3_read_134 hr ⟨congrArg some (congrArg Value.int (by simp only [o_readA_g, o_readA_hi, if_pos c14, if_neg (Nat.not_lt.mpr c45)])), (tov_cg (by simp only [o_readA_g, o_readA_hi, if_pos c14, if_neg (Nat.not_lt.mpr c45)]) (by simp only [o_readA_g, o_readA_hi, if_pos c14, if_neg (Nat.not_lt.mpr c45)]) rfl rfl rfl rfl rfl rfl rfl rfl rfl rfl rfl rfl rfl rfl rfl rfl rfl rfl), rfl⟩ (Nat.le_refl 0) (Nat.le_refl 0)
      · refine J_aload_n cx dX3_read_48 rfl ?_
        refine J_iconst (v := nI (4)) cx dX3_read_49 (by decide) ?_
        refine J_iload_n cx dX3_read_50 rfl ?_
        refine J_imulN cx dX3_read_51 ?_
        refine T_callI cx [.int (nI (4 * k1))] (t_X3_mayDo l Ω ht (4 * k1) (by omega) (hnp k1 hk1).1 (hnp k1 hk1).2) dX3_read_52 (lw_V q2977 q2979 qs79 q93 q2980) hd_X3_mayDo rfl rfl ⟨Nat.le_of_ble_eq_true rfl, Nat.le_of_ble_eq_true rfl⟩ rfl rfl (Nat.le_of_ble_eq_true rfl) ?_
        refine J_if_eq (tgt := 77) cx dX3_read_55 (by decide) (fun c55 => ?_) (fun c55 => absurd (hmd k1 c45) c55)
        refine J_aload_n cx dX3_read_77 rfl ?_
        refine J_iconst (v := nI (4)) cx dX3_read_78 (by decide) ?_
        refine J_iload_n cx dX3_read_79 rfl ?_
        refine J_imulN cx dX3_read_80 ?_
        refine T_callV cx [.int (nI (4 * k1))] (t_X3_does l Ω ht (4 * k1) (by omega) (hnp k1 hk1).1 (hnp k1 hk1).2 (hdo k1 c45).1 (hdo k1 c45).2.1 (hdo k1 c45).2.2.1 (hdo k1 c45).2.2.2) dX3_read_81 (lw_V q2989 q2991 qs82 q93 q2992) hd_X3_does rfl rfl ⟨Nat.le_of_ble_eq_true rfl, Nat.le_of_ble_eq_true rfl⟩ rfl rfl (Nat.le_of_ble_eq_true rfl) ?_
        refine J_iinc2 (v := nI (k1 + 1)) cx dX3_read_84 (nI_1 k1) (by decide) rfl ?_
        refine J_goto (tgt := 43) cx dX3_read_87 (by decide) ?_
        refine J_mem (tov Ω t G0 ((S_read g now ns sn (o_X3_readsText_told inp told fed nC) (k1 + 1)).1) hi sv as_ inp why ((S_read g now ns sn (o_X3_readsText_told inp told fed nC) (k1 + 1)).2.1) (o_X3_readsText_told inp told fed nC) (va_cpy g bef 0 0 1108) ch hs (nI (0)) fa ws ((S_read g now ns sn (o_X3_readsText_told inp told fed nC) (k1 + 1)).2.2.1) ct st_ (o_X3_readsText_pl inp told fed nC) (o_X3_readsText_iw inp told fed nC) ((S_read g now ns sn (o_X3_readsText_told inp told fed nC) (k1 + 1)).2.2.2)) (tov_cg (by simp only [S_read, if_pos c14, if_pos c45, if_pos c55]) rfl rfl rfl rfl rfl (by simp only [S_read, if_pos c14, if_pos c45, if_pos c55]) rfl rfl rfl rfl rfl rfl rfl (by simp only [S_read, if_pos c14, if_pos c45, if_pos c55]) rfl rfl rfl rfl (by simp only [S_read, if_pos c14, if_pos c45, if_pos c55])) ?_
        refine J_sub (L1 := [some (.ref t), some (.int (nI (nC))), some (.int (nI (k1 + 1)))]) (jsub_s (jsub_s (jsub_s jsub_0))) ?_
        exact ih (k1 + 1) (by omega) (by omega) 
  refine J_sub (L1 := [some (.ref t), some (.int (nI (nC))), some (.int (nI (0)))]) (jsub_s (jsub_s (jsub_s jsub_0))) ?_
  exact loop43 (nC + 1) 0 (by omega) (by omega) 
def o_readF_g (g : Nat → Int32) (inp : Nat → Int32) (now : Nat → Int32) (told : Nat → Int32) (bef : Nat → Int32) (fed : Int32) (ns : Int32) (sn : Int32) (nC : Nat) (kF : Nat) : Nat → Int32 := (va_cpy (va_cpy g bef 0 0 1108) ((S_read g now ns sn (o_X3_readsText_told inp told fed nC) kF).1) 0 0 1108)
def o_readF_why (g : Nat → Int32) (inp : Nat → Int32) (why : Nat → Int32) (now : Nat → Int32) (told : Nat → Int32) (fed : Int32) (ns : Int32) (sn : Int32) (nC : Nat) (kF : Nat) : Nat → Int32 := (S_refusedAt why (o_X3_mayDo_now ((S_read g now ns sn (o_X3_readsText_told inp told fed nC) kF).1) ((S_read g now ns sn (o_X3_readsText_told inp told fed nC) kF).2.1) (o_X3_readsText_told inp told fed nC) (4 * kF)) (nI (kF)) (2 * tn (o_X3_mayDo_ns ((S_read g now ns sn (o_X3_readsText_told inp told fed nC) kF).1) (o_X3_readsText_told inp told fed nC) ((S_read g now ns sn (o_X3_readsText_told inp told fed nC) kF).2.2.1) (4 * kF))))
def o_readF_now (g : Nat → Int32) (inp : Nat → Int32) (now : Nat → Int32) (told : Nat → Int32) (fed : Int32) (ns : Int32) (sn : Int32) (nC : Nat) (kF : Nat) : Nat → Int32 := (o_X3_mayDo_now ((S_read g now ns sn (o_X3_readsText_told inp told fed nC) kF).1) ((S_read g now ns sn (o_X3_readsText_told inp told fed nC) kF).2.1) (o_X3_readsText_told inp told fed nC) (4 * kF))
def o_readF_ws (g : Nat → Int32) (inp : Nat → Int32) (now : Nat → Int32) (told : Nat → Int32) (fed : Int32) (ns : Int32) (sn : Int32) (nC : Nat) (kF : Nat) : Int32 := (nI (1 + tn (o_X3_mayDo_ns ((S_read g now ns sn (o_X3_readsText_told inp told fed nC) kF).1) (o_X3_readsText_told inp told fed nC) ((S_read g now ns sn (o_X3_readsText_told inp told fed nC) kF).2.2.1) (4 * kF))))
def o_readF_ns (g : Nat → Int32) (inp : Nat → Int32) (now : Nat → Int32) (told : Nat → Int32) (fed : Int32) (ns : Int32) (sn : Int32) (nC : Nat) (kF : Nat) : Int32 := (o_X3_mayDo_ns ((S_read g now ns sn (o_X3_readsText_told inp told fed nC) kF).1) (o_X3_readsText_told inp told fed nC) ((S_read g now ns sn (o_X3_readsText_told inp told fed nC) kF).2.2.1) (4 * kF))
theorem hd_X3_readF : yX3_read.cls = RX3 ∧ yX3_read.cls ≠ "java/lang/invoke/MethodHandle" ∧ yX3_read.cls ≠ "java/lang/invoke/VarHandle" ∧ (parseMethodDescriptor yX3_read.desc).map (fun d => d.parameters.length) = some 0 := by decide +kernel
set_option maxHeartbeats 4000000 in
theorem t_X3_readF (l : Launch) (Ω : jO) {t : Nat} {G0 : Mem} {g hi sv as_ inp why now told bef : Nat → Int32} {ch hs fed fa ws ns ct st_ pl iw sn : Int32} {sz : Nat} (ht : Ω.2.2.2 ≤ t)  (nC : Nat) (kF : Nat) (hfd : fed = nI (tn fed)) (hfd6 : tn fed ≤ 60) (htx : textOk inp fed told nC) (hwr : (o_X3_readsText_iw inp told fed nC) = 0) (hkF : kF < nC) (hok : readOk g now ns sn inp fed told nC kF) (hbad : ¬ (r_X3_mayDo ((S_read g now ns sn (o_X3_readsText_told inp told fed nC) kF).1) (o_X3_readsText_told inp told fed nC) (4 * kF)) = 0) (hnsF : NsOk (o_X3_mayDo_ns ((S_read g now ns sn (o_X3_readsText_told inp told fed nC) kF).1) (o_X3_readsText_told inp told fed nC) ((S_read g now ns sn (o_X3_readsText_told inp told fed nC) kF).2.2.1) (4 * kF))) (hch : ch = nI (tn ch)) (hch8 : tn ch ≤ 8) : Met l yX3_read (ws_ yX3_read cX3_read 3 (some .int)) ({ frames := 7, cells := 0, slots := 0, locals := 151 }) (va_Pc [.ref t] (jWd Ω (tov Ω t G0 g hi sv as_ inp why now told bef ch hs fed fa ws ns ct st_ pl iw sn) sz)) (jQ Ω (jD (some (.int ((-5)))) (tov Ω t G0 (o_readF_g g inp now told bef fed ns sn nC kF) hi sv as_ inp (o_readF_why g inp why now told fed ns sn nC kF) (o_readF_now g inp now told fed ns sn nC kF) (o_X3_readsText_told inp told fed nC) (va_cpy g bef 0 0 1108) ch hs (nI (0)) fa (o_readF_ws g inp now told fed ns sn nC kF) (o_readF_ns g inp now told fed ns sn nC kF) ct st_ (o_X3_readsText_pl inp told fed nC) (o_X3_readsText_iw inp told fed nC) ((S_read g now ns sn (o_X3_readsText_told inp told fed nC) kF).2.2.2)) sz)) 0 0 (jB Ω) := by
  refine jMet (by decide) (Nat.le_of_ble_eq_true rfl) ?_
  intro p e s m args below meth c cx hr hnm
  refine J_loc [some (.ref t), none, none] rfl ?_
  have hnc := htx.1
  obtain ⟨hmd, hnp, hdo⟩ := hok
  refine J_aload_n cx dX3_read_0 rfl ?_
  refine T_callI cx [] (t_X3_readsText l Ω ht nC hfd hfd6 htx) dX3_read_1 (lw_V q2957 q2959 qs74 q93 q2960) hd_X3_readsText rfl rfl ⟨Nat.le_of_ble_eq_true rfl, Nat.le_of_ble_eq_true rfl⟩ rfl rfl (Nat.le_of_ble_eq_true rfl) ?_
  refine J_istore_n1 cx dX3_read_4 (by decide) rfl ?_
  refine J_aload_n cx dX3_read_5 rfl ?_
  refine J_iconst (v := nI (0)) cx dX3_read_6 (by decide) ?_
  refine T_put_fed cx ht dX3_read_7 ?_
  refine J_aload_n cx dX3_read_10 rfl ?_
  refine T_get_iw cx dX3_read_11 ?_
  refine J_if_eq (tgt := 28) cx dX3_read_14 (by decide) (fun c14 => ?_) (fun c14 => absurd (hwr) c14)
  refine J_aload_n cx dX3_read_28 rfl ?_
  refine T_get_g cx dX3_read_29 ?_
  refine J_iconst (v := nI (0)) cx dX3_read_32 (by decide) ?_
  refine J_aload_n cx dX3_read_33 rfl ?_
  refine T_get_bef cx dX3_read_34 ?_
  refine J_iconst (v := nI (0)) cx dX3_read_37 (by decide) ?_
  refine T_callSV cx [.ref (t + 1), .int (nI (0)), .ref (t + 9), .int (nI (0))] (t_copy_g_bef l Ω ht (0) (0) (by omega) (by omega)) dX3_read_38 (lw_S q2701 q2702 q93 q2703) hd_X3_copy.2 rfl rfl ⟨Nat.le_of_ble_eq_true rfl, Nat.le_of_ble_eq_true rfl⟩ rfl rfl (Nat.le_of_ble_eq_true rfl) ?_
  refine J_iconst (v := nI (0)) cx dX3_read_41 (by decide) ?_
  refine J_istore_n2 cx dX3_read_42 (by decide) rfl ?_
  have loop43 : ∀ (n k1 : Nat), nC + 1 ≤ n + k1 → k1 ≤ nC → (k1 ≤ kF) → J p l e ({ frames := 7, cells := 0, slots := 0, locals := 151 } : Room) s m args below meth c Ω 3 (MQ below (jQ Ω (jD (some (.int ((-5)))) (tov Ω t G0 (o_readF_g g inp now told bef fed ns sn nC kF) hi sv as_ inp (o_readF_why g inp why now told fed ns sn nC kF) (o_readF_now g inp now told fed ns sn nC kF) (o_X3_readsText_told inp told fed nC) (va_cpy g bef 0 0 1108) ch hs (nI (0)) fa (o_readF_ws g inp now told fed ns sn nC kF) (o_readF_ns g inp now told fed ns sn nC kF) ct st_ (o_X3_readsText_pl inp told fed nC) (o_X3_readsText_iw inp told fed nC) ((S_read g now ns sn (o_X3_readsText_told inp told fed nC) kF).2.2.2)) sz)) args s 0 0 (jB Ω)) 0 0 sz (tov Ω t G0 ((S_read g now ns sn (o_X3_readsText_told inp told fed nC) k1).1) hi sv as_ inp why ((S_read g now ns sn (o_X3_readsText_told inp told fed nC) k1).2.1) (o_X3_readsText_told inp told fed nC) (va_cpy g bef 0 0 1108) ch hs (nI (0)) fa ws ((S_read g now ns sn (o_X3_readsText_told inp told fed nC) k1).2.2.1) ct st_ (o_X3_readsText_pl inp told fed nC) (o_X3_readsText_iw inp told fed nC) ((S_read g now ns sn (o_X3_readsText_told inp told fed nC) k1).2.2.2)) 43 [some (.ref t), some (.int (nI (nC))), some (.int (nI (k1)))] [] := by
    intro n
    induction n with
    | zero => intro k1 hn1 hk1 hle; exact absurd hn1 (by omega)
    | succ n ih =>
      intro k1 hn1 hk1 hle
      refine J_iload_n cx dX3_read_43 rfl ?_
      refine J_iload_n cx dX3_read_44 rfl ?_
      refine J_icmpN_ge (tgt := 90) cx dX3_read_45 (by decide) (by omega) (by omega) (fun c45 => absurd c45 (by omega)) (fun c45 => ?_)
      refine J_aload_n cx dX3_read_48 rfl ?_
      refine J_iconst (v := nI (4)) cx dX3_read_49 (by decide) ?_
      refine J_iload_n cx dX3_read_50 rfl ?_
      refine J_imulN cx dX3_read_51 ?_
      refine T_callI cx [.int (nI (4 * k1))] (t_X3_mayDo l Ω ht (4 * k1) (by omega) (hnp k1 hle).1 (hnp k1 hle).2) dX3_read_52 (lw_V q2977 q2979 qs79 q93 q2980) hd_X3_mayDo rfl rfl ⟨Nat.le_of_ble_eq_true rfl, Nat.le_of_ble_eq_true rfl⟩ rfl rfl (Nat.le_of_ble_eq_true rfl) ?_
      refine J_if_eq (tgt := 77) cx dX3_read_55 (by decide) (fun c55 => ?_) (fun c55 => ?_)
      · have hlt : k1 < kF := Nat.lt_of_le_of_ne hle (fun e => hbad (by rw [← e]; exact c55))
        refine J_aload_n cx dX3_read_77 rfl ?_
        refine J_iconst (v := nI (4)) cx dX3_read_78 (by decide) ?_
        refine J_iload_n cx dX3_read_79 rfl ?_
        refine J_imulN cx dX3_read_80 ?_
        refine T_callV cx [.int (nI (4 * k1))] (t_X3_does l Ω ht (4 * k1) (by omega) (hnp k1 hle).1 (hnp k1 hle).2 (hdo k1 hlt).1 (hdo k1 hlt).2.1 (hdo k1 hlt).2.2.1 (hdo k1 hlt).2.2.2) dX3_read_81 (lw_V q2989 q2991 qs82 q93 q2992) hd_X3_does rfl rfl ⟨Nat.le_of_ble_eq_true rfl, Nat.le_of_ble_eq_true rfl⟩ rfl rfl (Nat.le_of_ble_eq_true rfl) ?_
        refine J_iinc2 (v := nI (k1 + 1)) cx dX3_read_84 (nI_1 k1) (by decide) rfl ?_
        refine J_goto (tgt := 43) cx dX3_read_87 (by decide) ?_
        refine J_mem (tov Ω t G0 ((S_read g now ns sn (o_X3_readsText_told inp told fed nC) (k1 + 1)).1) hi sv as_ inp why ((S_read g now ns sn (o_X3_readsText_told inp told fed nC) (k1 + 1)).2.1) (o_X3_readsText_told inp told fed nC) (va_cpy g bef 0 0 1108) ch hs (nI (0)) fa ws ((S_read g now ns sn (o_X3_readsText_told inp told fed nC) (k1 + 1)).2.2.1) ct st_ (o_X3_readsText_pl inp told fed nC) (o_X3_readsText_iw inp told fed nC) ((S_read g now ns sn (o_X3_readsText_told inp told fed nC) (k1 + 1)).2.2.2)) (tov_cg (by simp only [S_read, if_pos c14, if_pos c55]) rfl rfl rfl rfl rfl (by simp only [S_read, if_pos c14, if_pos c55]) rfl rfl rfl rfl rfl rfl rfl (by simp only [S_read, if_pos c14, if_pos c55]) rfl rfl rfl rfl (by simp only [S_read, if_pos c14, if_pos c55])) ?_
        refine J_sub (L1 := [some (.ref t), some (.int (nI (nC))), some (.int (nI (k1 + 1)))]) (jsub_s (jsub_s (jsub_s jsub_0))) ?_
        exact ih (k1 + 1) (by omega) (by omega) (by omega)
      · have hkx : kF = k1 := Eq.symm (Nat.le_antisymm hle (Nat.not_lt.mp fun h => c55 (hmd k1 h)))
        subst hkx
        refine J_aload_n cx dX3_read_58 rfl ?_
        refine T_get_bef cx dX3_read_59 ?_
        refine J_iconst (v := nI (0)) cx dX3_read_62 (by decide) ?_
        refine J_aload_n cx dX3_read_63 rfl ?_
        refine T_get_g cx dX3_read_64 ?_
        refine J_iconst (v := nI (0)) cx dX3_read_67 (by decide) ?_
        refine T_callSV cx [.ref (t + 9), .int (nI (0)), .ref (t + 1), .int (nI (0))] (t_copy_bef_g l Ω ht (0) (0) (by omega) (by omega)) dX3_read_68 (lw_S q2701 q2702 q93 q2703) hd_X3_copy.2 rfl rfl ⟨Nat.le_of_ble_eq_true rfl, Nat.le_of_ble_eq_true rfl⟩ rfl rfl (Nat.le_of_ble_eq_true rfl) ?_
        refine J_aload_n cx dX3_read_71 rfl ?_
        refine J_iload_n cx dX3_read_72 rfl ?_
        refine T_callI cx [.int (nI (kF))] (t_X3_refusedAt l Ω ht (nI (kF)) hnsF.1 hnsF.2) dX3_read_73 (lw_V q2985 q2987 qs81 q93 q2988) hd_X3_refusedAt rfl rfl ⟨Nat.le_of_ble_eq_true rfl, Nat.le_of_ble_eq_true rfl⟩ rfl rfl (Nat.le_of_ble_eq_true rfl) ?_
        exact J_iret cx dX3_read_76 hr ⟨congrArg some (congrArg Value.int (by simp only [o_readF_g, o_readF_why, o_readF_now, o_readF_ws, o_readF_ns, if_pos c14, if_neg c55])), (tov_cg (by simp only [o_readF_g, o_readF_why, o_readF_now, o_readF_ws, o_readF_ns, if_pos c14, if_neg c55]) rfl rfl rfl rfl (by simp only [o_readF_g, o_readF_why, o_readF_now, o_readF_ws, o_readF_ns, if_pos c14, if_neg c55]) (by simp only [o_readF_g, o_readF_why, o_readF_now, o_readF_ws, o_readF_ns, if_pos c14, if_neg c55]) rfl rfl rfl rfl rfl rfl (by simp only [o_readF_g, o_readF_why, o_readF_now, o_readF_ws, o_readF_ns, if_pos c14, if_neg c55]) (by simp only [o_readF_g, o_readF_why, o_readF_now, o_readF_ws, o_readF_ns, if_pos c14, if_neg c55]) rfl rfl rfl rfl rfl), rfl⟩ (Nat.le_refl 0) (Nat.le_refl 0)
  refine J_sub (L1 := [some (.ref t), some (.int (nI (nC))), some (.int (nI (0)))]) (jsub_s (jsub_s (jsub_s jsub_0))) ?_
  exact loop43 (nC + 1) 0 (by omega) (by omega) (by omega)
