/-! THE TWIN: whole texts, looks ahead (gen/mk_t12.py) -/
set_option maxRecDepth 100000
def S_txt (inp : Nat → Int32) (fed : Int32) (told : Nat → Int32) : Nat → (Nat → Int32) × Int32 × Int32 × Int32
  | 0 => (told, (nI (0)), (nI (0)), (nI (1)))
  | k1 + 1 => (if (o_X3_readsCommand_iw inp fed ((S_txt inp fed told k1).2.1) ((S_txt inp fed told k1).2.2.1)) = 0 then (if (r_X3_here inp fed (nI (tn (o_X3_readsCommand_pl inp fed ((S_txt inp fed told k1).2.1) ((S_txt inp fed told k1).2.2.1))))) = (nI (59)) then ((o_X3_readsCommand_told inp ((S_txt inp fed told k1).1) fed ((S_txt inp fed told k1).2.1) ((S_txt inp fed told k1).2.2.1) (4 * k1)), (nI ((tn (o_X3_readsCommand_pl inp fed ((S_txt inp fed told k1).2.1) ((S_txt inp fed told k1).2.2.1))) + 1)), (o_X3_readsCommand_iw inp fed ((S_txt inp fed told k1).2.1) ((S_txt inp fed told k1).2.2.1)), (nI (1))) else ((o_X3_readsCommand_told inp ((S_txt inp fed told k1).1) fed ((S_txt inp fed told k1).2.1) ((S_txt inp fed told k1).2.2.1) (4 * k1)), (nI ((tn (o_X3_readsCommand_pl inp fed ((S_txt inp fed told k1).2.1) ((S_txt inp fed told k1).2.2.1))) + 0)), (o_X3_readsCommand_iw inp fed ((S_txt inp fed told k1).2.1) ((S_txt inp fed told k1).2.2.1)), (nI (0)))) else ((o_X3_readsCommand_told inp ((S_txt inp fed told k1).1) fed ((S_txt inp fed told k1).2.1) ((S_txt inp fed told k1).2.2.1) (4 * k1)), (nI ((tn (o_X3_readsCommand_pl inp fed ((S_txt inp fed told k1).2.1) ((S_txt inp fed told k1).2.2.1))) + 0)), (o_X3_readsCommand_iw inp fed ((S_txt inp fed told k1).2.1) ((S_txt inp fed told k1).2.2.1)), (nI (0))))
def textOk (inp : Nat → Int32) (fed : Int32) (told : Nat → Int32) (nC : Nat) : Prop := nC ≤ 59 ∧ (∀ k, k < nC → ¬ (S_txt inp fed told k).2.2.2 = 0) ∧ (S_txt inp fed told nC).2.2.2 = 0 ∧
  (∀ k, k ≤ nC → (S_txt inp fed told k).2.1 = nI (tn (S_txt inp fed told k).2.1) ∧ tn (S_txt inp fed told k).2.1 ≤ 1000) ∧ (∀ k, k < nC → (o_X3_readsCommand_pl inp fed ((S_txt inp fed told k).2.1) ((S_txt inp fed told k).2.2.1)) = nI (tn (o_X3_readsCommand_pl inp fed ((S_txt inp fed told k).2.1) ((S_txt inp fed told k).2.2.1))) ∧ tn (o_X3_readsCommand_pl inp fed ((S_txt inp fed told k).2.1) ((S_txt inp fed told k).2.2.1)) ≤ 1900)
def o_X3_readsText_told (inp : Nat → Int32) (told : Nat → Int32) (fed : Int32) (nC : Nat) : Nat → Int32 := (if ((S_txt inp fed told nC).2.2.1) = 0 then (if (tn ((S_txt inp fed told nC).2.1)) < (tn fed) then ((S_txt inp fed told nC).1) else ((S_txt inp fed told nC).1)) else ((S_txt inp fed told nC).1))
def o_X3_readsText_pl (inp : Nat → Int32) (told : Nat → Int32) (fed : Int32) (nC : Nat) : Int32 := (if ((S_txt inp fed told nC).2.2.1) = 0 then (if (tn ((S_txt inp fed told nC).2.1)) < (tn fed) then ((S_txt inp fed told nC).2.1) else ((S_txt inp fed told nC).2.1)) else ((S_txt inp fed told nC).2.1))
def o_X3_readsText_iw (inp : Nat → Int32) (told : Nat → Int32) (fed : Int32) (nC : Nat) : Int32 := (if ((S_txt inp fed told nC).2.2.1) = 0 then (if (tn ((S_txt inp fed told nC).2.1)) < (tn fed) then (nI (1)) else (nI (0))) else (nI (1)))
theorem hd_X3_readsText : yX3_readsText.cls = RX3 ∧ yX3_readsText.cls ≠ "java/lang/invoke/MethodHandle" ∧ yX3_readsText.cls ≠ "java/lang/invoke/VarHandle" ∧ (parseMethodDescriptor yX3_readsText.desc).map (fun d => d.parameters.length) = some 0 := by decide +kernel
set_option maxHeartbeats 4000000 in
theorem t_X3_readsText (l : Launch) (Ω : jO) {t : Nat} {G0 : Mem} {g hi sv as_ inp why now told bef : Nat → Int32} {ch hs fed fa ws ns ct st_ pl iw sn : Int32} {sz : Nat} (ht : Ω.2.2.2 ≤ t)  (nC : Nat) (hfd : fed = nI (tn fed)) (hfd6 : tn fed ≤ 60) (htx : textOk inp fed told nC) : Met l yX3_readsText (ws_ yX3_readsText cX3_readsText 3 (some .int)) ({ frames := 4, cells := 0, slots := 0, locals := 77 }) (va_Pc [.ref t] (jWd Ω (tov Ω t G0 g hi sv as_ inp why now told bef ch hs fed fa ws ns ct st_ pl iw sn) sz)) (jQ Ω (jD (some (.int (nI (nC)))) (tov Ω t G0 g hi sv as_ inp why now (o_X3_readsText_told inp told fed nC) bef ch hs fed fa ws ns ct st_ (o_X3_readsText_pl inp told fed nC) (o_X3_readsText_iw inp told fed nC) sn) sz)) 0 0 (jB Ω) := by
  refine jMet (by decide) (Nat.le_of_ble_eq_true rfl) ?_
  intro p e s m args below meth c cx hr hnm
  refine J_loc [some (.ref t), none, none] rfl ?_
  obtain ⟨hnc, hmore, hdone, hplk, hplm⟩ := htx
  refine J_aload_n cx dX3_readsText_0 rfl ?_
  refine J_iconst (v := nI (0)) cx dX3_readsText_1 (by decide) ?_
  refine T_put_pl cx ht dX3_readsText_2 ?_
  refine J_aload_n cx dX3_readsText_5 rfl ?_
  refine J_iconst (v := nI (0)) cx dX3_readsText_6 (by decide) ?_
  refine T_put_iw cx ht (by decide) dX3_readsText_7 ?_
  refine J_iconst (v := nI (0)) cx dX3_readsText_10 (by decide) ?_
  refine J_istore_n1 cx dX3_readsText_11 (by decide) rfl ?_
  refine J_iconst (v := nI (1)) cx dX3_readsText_12 (by decide) ?_
  refine J_istore_n2 cx dX3_readsText_13 (by decide) rfl ?_
  have loop14 : ∀ (n k1 : Nat), nC + 1 ≤ n + k1 → k1 ≤ nC → J p l e ({ frames := 4, cells := 0, slots := 0, locals := 77 } : Room) s m args below meth c Ω 3 (MQ below (jQ Ω (jD (some (.int (nI (nC)))) (tov Ω t G0 g hi sv as_ inp why now (o_X3_readsText_told inp told fed nC) bef ch hs fed fa ws ns ct st_ (o_X3_readsText_pl inp told fed nC) (o_X3_readsText_iw inp told fed nC) sn) sz)) args s 0 0 (jB Ω)) 0 0 sz (tov Ω t G0 g hi sv as_ inp why now ((S_txt inp fed told k1).1) bef ch hs fed fa ws ns ct st_ ((S_txt inp fed told k1).2.1) ((S_txt inp fed told k1).2.2.1) sn) 14 [some (.ref t), some (.int (nI (k1))), some (.int ((S_txt inp fed told k1).2.2.2))] [] := by
    intro n
    induction n with
    | zero => intro k1 hn1 hk1 ; exact absurd hn1 (by omega)
    | succ n ih =>
      intro k1 hn1 hk1 
      refine J_iload_n cx dX3_readsText_14 rfl ?_
      refine J_if_eq (tgt := 71) cx dX3_readsText_15 (by decide) (fun c15 => ?_) (fun c15 => ?_)
      · have hkx : nC = k1 := Eq.symm (Nat.le_antisymm hk1 (Nat.not_lt.mp fun h => hmore k1 h c15))
        subst hkx
        have hpx := (hplk nC (Nat.le_refl _)).2
        refine J_aload_n cx dX3_readsText_71 rfl ?_
        refine J_aload_n cx dX3_readsText_72 rfl ?_
        refine T_get_iw cx dX3_readsText_73 ?_
        refine J_if_ne (tgt := 90) cx dX3_readsText_76 (by decide) (fun c76 => ?_) (fun c76 => ?_)
        · refine J_iconst (v := nI (1)) cx dX3_readsText_90 (by decide) ?_
          refine J_goto (tgt := 95) cx dX3_readsText_91 (by decide) ?_
          refine T_put_iw cx ht (by decide) dX3_readsText_95 ?_
          refine J_iload_n cx dX3_readsText_98 rfl ?_
          exact J_iret cx dX3_readsText_99 hr ⟨congrArg some (congrArg Value.int (by simp only [o_X3_readsText_told, o_X3_readsText_pl, o_X3_readsText_iw, if_pos c15, if_neg c76])), (tov_cg rfl rfl rfl rfl rfl rfl rfl (by simp only [o_X3_readsText_told, o_X3_readsText_pl, o_X3_readsText_iw, if_pos c15, if_neg c76]) rfl rfl rfl rfl rfl rfl rfl rfl rfl (by simp only [o_X3_readsText_told, o_X3_readsText_pl, o_X3_readsText_iw, if_pos c15, if_neg c76]) (by simp only [o_X3_readsText_told, o_X3_readsText_pl, o_X3_readsText_iw, if_pos c15, if_neg c76]) rfl), rfl⟩ (Nat.le_refl 0) (Nat.le_refl 0)
        · refine J_aload_n cx dX3_readsText_79 rfl ?_
          refine T_get_pl cx dX3_readsText_80 ?_
          refine J_top (.int (nI (tn ((S_txt inp fed told nC).2.1)))) (congrArg Value.int ((hplk nC (Nat.le_refl _)).1)) ?_
          refine J_aload_n cx dX3_readsText_83 rfl ?_
          refine T_get_fed cx dX3_readsText_84 ?_
          refine J_top (.int (nI (tn fed))) (congrArg Value.int (hfd)) ?_
          refine J_icmpN_ge (tgt := 94) cx dX3_readsText_87 (by decide) (by omega) (by omega) (fun c87 => ?_) (fun c87 => ?_)
          · refine J_iconst (v := nI (0)) cx dX3_readsText_94 (by decide) ?_
            refine T_put_iw cx ht (by decide) dX3_readsText_95 ?_
            refine J_iload_n cx dX3_readsText_98 rfl ?_
            exact J_iret cx dX3_readsText_99 hr ⟨congrArg some (congrArg Value.int (by simp only [o_X3_readsText_told, o_X3_readsText_pl, o_X3_readsText_iw, if_pos c15, if_pos c76, if_neg (Nat.not_lt.mpr c87)])), (tov_cg rfl rfl rfl rfl rfl rfl rfl (by simp only [o_X3_readsText_told, o_X3_readsText_pl, o_X3_readsText_iw, if_pos c15, if_pos c76, if_neg (Nat.not_lt.mpr c87)]) rfl rfl rfl rfl rfl rfl rfl rfl rfl (by simp only [o_X3_readsText_told, o_X3_readsText_pl, o_X3_readsText_iw, if_pos c15, if_pos c76, if_neg (Nat.not_lt.mpr c87)]) (by simp only [o_X3_readsText_told, o_X3_readsText_pl, o_X3_readsText_iw, if_pos c15, if_pos c76, if_neg (Nat.not_lt.mpr c87)]) rfl), rfl⟩ (Nat.le_refl 0) (Nat.le_refl 0)
          · refine J_iconst (v := nI (1)) cx dX3_readsText_90 (by decide) ?_
            refine J_goto (tgt := 95) cx dX3_readsText_91 (by decide) ?_
            refine T_put_iw cx ht (by decide) dX3_readsText_95 ?_
            refine J_iload_n cx dX3_readsText_98 rfl ?_
            exact J_iret cx dX3_readsText_99 hr ⟨congrArg some (congrArg Value.int (by simp only [o_X3_readsText_told, o_X3_readsText_pl, o_X3_readsText_iw, if_pos c15, if_pos c76, if_pos c87])), (tov_cg rfl rfl rfl rfl rfl rfl rfl (by simp only [o_X3_readsText_told, o_X3_readsText_pl, o_X3_readsText_iw, if_pos c15, if_pos c76, if_pos c87]) rfl rfl rfl rfl rfl rfl rfl rfl rfl (by simp only [o_X3_readsText_told, o_X3_readsText_pl, o_X3_readsText_iw, if_pos c15, if_pos c76, if_pos c87]) (by simp only [o_X3_readsText_told, o_X3_readsText_pl, o_X3_readsText_iw, if_pos c15, if_pos c76, if_pos c87]) rfl), rfl⟩ (Nat.le_refl 0) (Nat.le_refl 0)
      · have hlt : k1 < nC := Nat.lt_of_le_of_ne hk1 (fun e => c15 (by rw [e]; exact hdone))
        refine J_aload_n cx dX3_readsText_18 rfl ?_
        refine J_iconst (v := nI (4)) cx dX3_readsText_19 (by decide) ?_
        refine J_iload_n cx dX3_readsText_20 rfl ?_
        refine J_imulN cx dX3_readsText_21 ?_
        refine T_callV cx [.int (nI (4 * k1))] (t_X3_readsCommand l Ω ht (4 * k1) (by omega) (hplk k1 hk1).1 (by have := (hplk k1 hk1).2; omega) hfd hfd6) dX3_readsText_22 (lw_V q2961 q2963 qs75 q93 q2964) hd_X3_readsCommand rfl rfl ⟨Nat.le_of_ble_eq_true rfl, Nat.le_of_ble_eq_true rfl⟩ rfl rfl (Nat.le_of_ble_eq_true rfl) ?_
        have hpq := hplm k1 hlt
        have hpq2 := hpq.2
        refine J_mem (tov Ω t G0 g hi sv as_ inp why now (o_X3_readsCommand_told inp ((S_txt inp fed told k1).1) fed ((S_txt inp fed told k1).2.1) ((S_txt inp fed told k1).2.2.1) (4 * k1)) bef ch hs fed fa ws ns ct st_ (nI (tn (o_X3_readsCommand_pl inp fed ((S_txt inp fed told k1).2.1) ((S_txt inp fed told k1).2.2.1)))) (o_X3_readsCommand_iw inp fed ((S_txt inp fed told k1).2.1) ((S_txt inp fed told k1).2.2.1)) sn) (tov_cg rfl rfl rfl rfl rfl rfl rfl rfl rfl rfl rfl rfl rfl rfl rfl rfl rfl hpq.1 rfl rfl) ?_
        refine J_iinc1 (v := nI (k1 + 1)) cx dX3_readsText_25 (nI_1 k1) (by decide) rfl ?_
        refine J_aload_n cx dX3_readsText_28 rfl ?_
        refine T_get_iw cx dX3_readsText_29 ?_
        refine J_if_ne (tgt := 48) cx dX3_readsText_32 (by decide) (fun c32 => ?_) (fun c32 => ?_)
        · refine J_iconst (v := nI (0)) cx dX3_readsText_48 (by decide) ?_
          refine J_istore_n2 cx dX3_readsText_49 (by decide) rfl ?_
          refine J_aload_n cx dX3_readsText_50 rfl ?_
          refine J_dup cx dX3_readsText_51 rfl ?_
          refine T_get_pl cx dX3_readsText_52 ?_
          refine J_iload_n cx dX3_readsText_55 rfl ?_
          refine J_if_eq (tgt := 63) cx dX3_readsText_56 (by decide) (fun c56 => ?_) (fun c56 => absurd c56 (by decide))
          refine J_iconst (v := nI (0)) cx dX3_readsText_63 (by decide) ?_
          refine J_iaddN cx dX3_readsText_64 ?_
          refine T_put_pl cx ht dX3_readsText_65 ?_
          refine J_goto (tgt := 14) cx dX3_readsText_68 (by decide) ?_
          refine J_mem (tov Ω t G0 g hi sv as_ inp why now ((S_txt inp fed told (k1 + 1)).1) bef ch hs fed fa ws ns ct st_ ((S_txt inp fed told (k1 + 1)).2.1) ((S_txt inp fed told (k1 + 1)).2.2.1) sn) (tov_cg rfl rfl rfl rfl rfl rfl rfl (by simp only [S_txt, if_neg c15, if_neg c32]) rfl rfl rfl rfl rfl rfl rfl rfl rfl (by simp only [S_txt, if_neg c15, if_neg c32]) (by simp only [S_txt, if_neg c15, if_neg c32]) rfl) ?_
          refine J_sub (L1 := [some (.ref t), some (.int (nI (k1 + 1))), some (.int ((S_txt inp fed told (k1 + 1)).2.2.2))]) (jsub_s (jsub_s (jsub_e (congrArg Value.int (by simp only [S_txt, if_neg c15, if_neg c32])) jsub_0))) ?_
          exact ih (k1 + 1) (by omega) (by omega) 
        · refine J_aload_n cx dX3_readsText_35 rfl ?_
          refine T_callI cx [] (t_X3_here l Ω ht (nI_tn (by omega)) hfd hfd6) dX3_readsText_36 (lw_V q2965 q2967 qs76 q93 q2968) hd_X3_here rfl rfl ⟨Nat.le_of_ble_eq_true rfl, Nat.le_of_ble_eq_true rfl⟩ rfl rfl (Nat.le_of_ble_eq_true rfl) ?_
          refine J_bipush (v := nI (59)) cx dX3_readsText_39 (by decide) ?_
          refine J_icmp_ne (tgt := 48) cx dX3_readsText_41 (by decide) (fun c41 => ?_) (fun c41 => ?_)
          · refine J_iconst (v := nI (0)) cx dX3_readsText_48 (by decide) ?_
            refine J_istore_n2 cx dX3_readsText_49 (by decide) rfl ?_
            refine J_aload_n cx dX3_readsText_50 rfl ?_
            refine J_dup cx dX3_readsText_51 rfl ?_
            refine T_get_pl cx dX3_readsText_52 ?_
            refine J_iload_n cx dX3_readsText_55 rfl ?_
            refine J_if_eq (tgt := 63) cx dX3_readsText_56 (by decide) (fun c56 => ?_) (fun c56 => absurd c56 (by decide))
            refine J_iconst (v := nI (0)) cx dX3_readsText_63 (by decide) ?_
            refine J_iaddN cx dX3_readsText_64 ?_
            refine T_put_pl cx ht dX3_readsText_65 ?_
            refine J_goto (tgt := 14) cx dX3_readsText_68 (by decide) ?_
            refine J_mem (tov Ω t G0 g hi sv as_ inp why now ((S_txt inp fed told (k1 + 1)).1) bef ch hs fed fa ws ns ct st_ ((S_txt inp fed told (k1 + 1)).2.1) ((S_txt inp fed told (k1 + 1)).2.2.1) sn) (tov_cg rfl rfl rfl rfl rfl rfl rfl (by simp only [S_txt, if_neg c15, if_pos c32, if_neg c41]) rfl rfl rfl rfl rfl rfl rfl rfl rfl (by simp only [S_txt, if_neg c15, if_pos c32, if_neg c41]) (by simp only [S_txt, if_neg c15, if_pos c32, if_neg c41]) rfl) ?_
            refine J_sub (L1 := [some (.ref t), some (.int (nI (k1 + 1))), some (.int ((S_txt inp fed told (k1 + 1)).2.2.2))]) (jsub_s (jsub_s (jsub_e (congrArg Value.int (by simp only [S_txt, if_neg c15, if_pos c32, if_neg c41])) jsub_0))) ?_
            exact ih (k1 + 1) (by omega) (by omega) 
          · refine J_iconst (v := nI (1)) cx dX3_readsText_44 (by decide) ?_
            refine J_goto (tgt := 49) cx dX3_readsText_45 (by decide) ?_
            refine J_istore_n2 cx dX3_readsText_49 (by decide) rfl ?_
            refine J_aload_n cx dX3_readsText_50 rfl ?_
            refine J_dup cx dX3_readsText_51 rfl ?_
            refine T_get_pl cx dX3_readsText_52 ?_
            refine J_iload_n cx dX3_readsText_55 rfl ?_
            refine J_if_eq (tgt := 63) cx dX3_readsText_56 (by decide) (fun c56 => absurd c56 (by decide)) (fun c56 => ?_)
            refine J_iconst (v := nI (1)) cx dX3_readsText_59 (by decide) ?_
            refine J_goto (tgt := 64) cx dX3_readsText_60 (by decide) ?_
            refine J_iaddN cx dX3_readsText_64 ?_
            refine T_put_pl cx ht dX3_readsText_65 ?_
            refine J_goto (tgt := 14) cx dX3_readsText_68 (by decide) ?_
            refine J_mem (tov Ω t G0 g hi sv as_ inp why now ((S_txt inp fed told (k1 + 1)).1) bef ch hs fed fa ws ns ct st_ ((S_txt inp fed told (k1 + 1)).2.1) ((S_txt inp fed told (k1 + 1)).2.2.1) sn) (tov_cg rfl rfl rfl rfl rfl rfl rfl (by simp only [S_txt, if_neg c15, if_pos c32, if_pos c41]) rfl rfl rfl rfl rfl rfl rfl rfl rfl (by simp only [S_txt, if_neg c15, if_pos c32, if_pos c41]) (by simp only [S_txt, if_neg c15, if_pos c32, if_pos c41]) rfl) ?_
            refine J_sub (L1 := [some (.ref t), some (.int (nI (k1 + 1))), some (.int ((S_txt inp fed told (k1 + 1)).2.2.2))]) (jsub_s (jsub_s (jsub_e (congrArg Value.int (by simp only [S_txt, if_neg c15, if_pos c32, if_pos c41])) jsub_0))) ?_
            exact ih (k1 + 1) (by omega) (by omega) 
  refine J_sub (L1 := [some (.ref t), some (.int (nI (0))), some (.int ((S_txt inp fed told 0).2.2.2))]) (jsub_s (jsub_s (jsub_e (congrArg Value.int rfl) jsub_0))) ?_
  exact loop14 (nC + 1) 0 (by omega) (by omega) 
def S_ahead (g : Nat → Int32) (q9 : Nat) (w9 : Int32) (ct : Int32) (st_ : Int32) : Nat → (Nat → Int32) × Int32 × Int32 × Int32
  | 0 => (g, ct, st_, (-6))
  | k1 + 1 => (if (r_X3_becomes (o_X3_hour_g ((S_ahead g q9 w9 ct st_ k1).1)) (((S_ahead g q9 w9 ct st_ k1).1) ((50 + (13 * q9)) + 4)) (((S_ahead g q9 w9 ct st_ k1).1) ((50 + (13 * q9)) + 0)) q9 w9) = 0 then ((o_X3_hour_g ((S_ahead g q9 w9 ct st_ k1).1)), (((S_ahead g q9 w9 ct st_ k1).1) ((50 + (13 * q9)) + 4)), (((S_ahead g q9 w9 ct st_ k1).1) ((50 + (13 * q9)) + 0)), (-6)) else ((o_X3_hour_g ((S_ahead g q9 w9 ct st_ k1).1)), (((S_ahead g q9 w9 ct st_ k1).1) ((50 + (13 * q9)) + 4)), (((S_ahead g q9 w9 ct st_ k1).1) ((50 + (13 * q9)) + 0)), (nI (k1 + 1))))
def r_X3_ahead (g : Nat → Int32) (ct : Int32) (st_ : Int32) (p9 : Int32) (w9 : Int32) (nA : Nat) : Int32 := (if ((r_X3_in p9 (nI (0)) ((g (2)) - (nI (1))))) = 0 then (-1) else (if (r_X3_in w9 (nI (0)) (nI (3))) = 0 then (-2) else ((S_ahead g (tn p9) w9 ct st_ nA).2.2.2)))
def o_X3_ahead_g (g : Nat → Int32) (as_ : Nat → Int32) (ct : Int32) (st_ : Int32) (p9 : Int32) (w9 : Int32) (nA : Nat) : Nat → Int32 := (if ((r_X3_in p9 (nI (0)) ((g (2)) - (nI (1))))) = 0 then g else (if (r_X3_in w9 (nI (0)) (nI (3))) = 0 then g else (va_cpy (va_cpy g as_ 0 0 1108) ((S_ahead g (tn p9) w9 ct st_ nA).1) 0 0 1108)))
def o_X3_ahead_as_ (g : Nat → Int32) (as_ : Nat → Int32) (p9 : Int32) (w9 : Int32) : Nat → Int32 := (if ((r_X3_in p9 (nI (0)) ((g (2)) - (nI (1))))) = 0 then as_ else (if (r_X3_in w9 (nI (0)) (nI (3))) = 0 then as_ else (va_cpy g as_ 0 0 1108)))
def o_X3_ahead_ct (g : Nat → Int32) (ct : Int32) (st_ : Int32) (p9 : Int32) (w9 : Int32) (nA : Nat) : Int32 := (if ((r_X3_in p9 (nI (0)) ((g (2)) - (nI (1))))) = 0 then ct else (if (r_X3_in w9 (nI (0)) (nI (3))) = 0 then ct else ((S_ahead g (tn p9) w9 ct st_ nA).2.1)))
def o_X3_ahead_st_ (g : Nat → Int32) (ct : Int32) (st_ : Int32) (p9 : Int32) (w9 : Int32) (nA : Nat) : Int32 := (if ((r_X3_in p9 (nI (0)) ((g (2)) - (nI (1))))) = 0 then st_ else (if (r_X3_in w9 (nI (0)) (nI (3))) = 0 then st_ else ((S_ahead g (tn p9) w9 ct st_ nA).2.2.1)))
theorem hd_X3_ahead : yX3_ahead.cls = RX3 ∧ yX3_ahead.cls ≠ "java/lang/invoke/MethodHandle" ∧ yX3_ahead.cls ≠ "java/lang/invoke/VarHandle" ∧ (parseMethodDescriptor yX3_ahead.desc).map (fun d => d.parameters.length) = some 2 := by decide +kernel
set_option maxHeartbeats 4000000 in
theorem t_X3_ahead (l : Launch) (Ω : jO) {t : Nat} {G0 : Mem} {g hi sv as_ inp why now told bef : Nat → Int32} {ch hs fed fa ws ns ct st_ pl iw sn : Int32} {sz : Nat} (ht : Ω.2.2.2 ≤ t) (p9 : Int32) (w9 : Int32) (nA : Nat) (hn2 : g 2 = nI (tn (g 2))) (hn16 : tn (g 2) ≤ 16) (hA9 : nA ≤ 99) (hAh : ¬ r_X3_in p9 (nI 0) (g 2 - nI 1) = 0 → ∀ k, k < nA → hourOk (S_ahead g (tn p9) w9 ct st_ k).1) (hA0 : ∀ k, k < nA → (S_ahead g (tn p9) w9 ct st_ k).2.2.2 = -6) (hA1 : nA = 99 ∨ ¬ (S_ahead g (tn p9) w9 ct st_ nA).2.2.2 = -6) : Met l yX3_ahead (ws_ yX3_ahead cX3_ahead 5 (some .int)) ({ frames := 5, cells := 0, slots := 0, locals := 99 }) (va_Pc [.ref t, .int (p9), .int (w9)] (jWd Ω (tov Ω t G0 g hi sv as_ inp why now told bef ch hs fed fa ws ns ct st_ pl iw sn) sz)) (jQ Ω (jD (some (.int (r_X3_ahead g ct st_ p9 w9 nA))) (tov Ω t G0 (o_X3_ahead_g g as_ ct st_ p9 w9 nA) hi sv (o_X3_ahead_as_ g as_ p9 w9) inp why now told bef ch hs fed fa ws ns (o_X3_ahead_ct g ct st_ p9 w9 nA) (o_X3_ahead_st_ g ct st_ p9 w9 nA) pl iw sn) sz)) 0 0 (jB Ω) := by
  refine jMet (by decide) (Nat.le_of_ble_eq_true rfl) ?_
  intro p e s m args below meth c cx hr hnm
  refine J_loc [some (.ref t), some (.int (p9)), some (.int (w9)), none, none] rfl ?_
  refine J_aload_n cx dX3_ahead_0 rfl ?_
  refine J_iload_n cx dX3_ahead_1 rfl ?_
  refine T_callI cx [.int (p9)] (t_X3_isPot l Ω ht (p9)) dX3_ahead_2 (lw_V q2743 q2745 qs45 q93 q2746) hd_X3_isPot rfl rfl ⟨Nat.le_of_ble_eq_true rfl, Nat.le_of_ble_eq_true rfl⟩ rfl rfl (Nat.le_of_ble_eq_true rfl) ?_
  refine J_if_ne (tgt := 10) cx dX3_ahead_5 (by decide) (fun c5 => ?_) (fun c5 => ?_)
  · refine J_iload_n cx dX3_ahead_10 rfl ?_
    refine J_iconst (v := nI (0)) cx dX3_ahead_11 (by decide) ?_
    refine J_iconst (v := nI (3)) cx dX3_ahead_12 (by decide) ?_
    refine T_callSI cx [.int (w9), .int (nI (0)), .int (nI (3))] (t_X3_in l Ω (w9) (nI (0)) (nI (3))) dX3_ahead_13 (lw_S q2686 q2687 q93 q2688) hd_X3_in.2 rfl rfl ⟨Nat.le_of_ble_eq_true rfl, Nat.le_of_ble_eq_true rfl⟩ rfl rfl (Nat.le_of_ble_eq_true rfl) ?_
    refine J_if_ne (tgt := 22) cx dX3_ahead_16 (by decide) (fun c16 => ?_) (fun c16 => ?_)
    · have hx22_1 := (in_m1 hn2 c5).2
      have hre22_1 : p9 = nI (tn p9) := (in_m1 hn2 c5).1
      refine J_loc [some (.ref t), some (.int (nI (tn p9))), some (.int (w9)), none, none] (by simp only [← hre22_1]) ?_
      refine J_aload_n cx dX3_ahead_22 rfl ?_
      refine T_get_g cx dX3_ahead_23 ?_
      refine J_iconst (v := nI (0)) cx dX3_ahead_26 (by decide) ?_
      refine J_aload_n cx dX3_ahead_27 rfl ?_
      refine T_get_as_ cx dX3_ahead_28 ?_
      refine J_iconst (v := nI (0)) cx dX3_ahead_31 (by decide) ?_
      refine T_callSV cx [.ref (t + 1), .int (nI (0)), .ref (t + 4), .int (nI (0))] (t_copy_g_as_ l Ω ht (0) (0) (by omega) (by omega)) dX3_ahead_32 (lw_S q2701 q2702 q93 q2703) hd_X3_copy.2 rfl rfl ⟨Nat.le_of_ble_eq_true rfl, Nat.le_of_ble_eq_true rfl⟩ rfl rfl (Nat.le_of_ble_eq_true rfl) ?_
      refine J_bipush (v := -6) cx dX3_ahead_35 (by decide) ?_
      refine J_istore_n3 cx dX3_ahead_37 (by decide) rfl ?_
      refine J_iconst (v := nI (1)) cx dX3_ahead_38 (by decide) ?_
      refine J_istore4 cx dX3_ahead_39 (by decide) rfl ?_
      have loop41 : ∀ (n k1 : Nat), nA + 1 ≤ n + k1 → k1 ≤ nA → J p l e ({ frames := 5, cells := 0, slots := 0, locals := 99 } : Room) s m args below meth c Ω 5 (MQ below (jQ Ω (jD (some (.int (r_X3_ahead g ct st_ p9 w9 nA))) (tov Ω t G0 (o_X3_ahead_g g as_ ct st_ p9 w9 nA) hi sv (o_X3_ahead_as_ g as_ p9 w9) inp why now told bef ch hs fed fa ws ns (o_X3_ahead_ct g ct st_ p9 w9 nA) (o_X3_ahead_st_ g ct st_ p9 w9 nA) pl iw sn) sz)) args s 0 0 (jB Ω)) 0 0 sz (tov Ω t G0 ((S_ahead g (tn p9) w9 ct st_ k1).1) hi sv (va_cpy g as_ 0 0 1108) inp why now told bef ch hs fed fa ws ns ((S_ahead g (tn p9) w9 ct st_ k1).2.1) ((S_ahead g (tn p9) w9 ct st_ k1).2.2.1) pl iw sn) 41 [some (.ref t), some (.int (nI (tn p9))), some (.int (w9)), some (.int ((S_ahead g (tn p9) w9 ct st_ k1).2.2.2)), some (.int (nI (k1 + 1)))] [] := by
        intro n
        induction n with
        | zero => intro k1 hn1 hk1 ; exact absurd hn1 (by omega)
        | succ n ih =>
          intro k1 hn1 hk1 
          refine J_iload cx dX3_ahead_41 rfl ?_
          refine J_bipush (v := nI (99)) cx dX3_ahead_43 (by decide) ?_
          refine J_icmpN_gt (tgt := 111) cx dX3_ahead_45 (by decide) (by omega) (by omega) (fun c45 => ?_) (fun c45 => ?_)
          · have hkx : nA = k1 := Eq.symm (by omega)
            subst hkx
            refine J_aload_n cx dX3_ahead_111 rfl ?_
            refine T_get_as_ cx dX3_ahead_112 ?_
            refine J_iconst (v := nI (0)) cx dX3_ahead_115 (by decide) ?_
            refine J_aload_n cx dX3_ahead_116 rfl ?_
            refine T_get_g cx dX3_ahead_117 ?_
            refine J_iconst (v := nI (0)) cx dX3_ahead_120 (by decide) ?_
            refine T_callSV cx [.ref (t + 4), .int (nI (0)), .ref (t + 1), .int (nI (0))] (t_copy_as__g l Ω ht (0) (0) (by omega) (by omega)) dX3_ahead_121 (lw_S q2701 q2702 q93 q2703) hd_X3_copy.2 rfl rfl ⟨Nat.le_of_ble_eq_true rfl, Nat.le_of_ble_eq_true rfl⟩ rfl rfl (Nat.le_of_ble_eq_true rfl) ?_
            refine J_iload_n cx dX3_ahead_124 rfl ?_
            exact J_iret cx dX3_ahead_125 hr ⟨congrArg some (congrArg Value.int (by simp only [r_X3_ahead, o_X3_ahead_g, o_X3_ahead_as_, o_X3_ahead_ct, o_X3_ahead_st_, if_neg c5, if_neg c16, if_pos c45])), (tov_cg (by simp only [r_X3_ahead, o_X3_ahead_g, o_X3_ahead_as_, o_X3_ahead_ct, o_X3_ahead_st_, if_neg c5, if_neg c16, if_pos c45]) rfl rfl (by simp only [r_X3_ahead, o_X3_ahead_g, o_X3_ahead_as_, o_X3_ahead_ct, o_X3_ahead_st_, if_neg c5, if_neg c16, if_pos c45]) rfl rfl rfl rfl rfl rfl rfl rfl rfl rfl rfl (by simp only [r_X3_ahead, o_X3_ahead_g, o_X3_ahead_as_, o_X3_ahead_ct, o_X3_ahead_st_, if_neg c5, if_neg c16, if_pos c45]) (by simp only [r_X3_ahead, o_X3_ahead_g, o_X3_ahead_as_, o_X3_ahead_ct, o_X3_ahead_st_, if_neg c5, if_neg c16, if_pos c45]) rfl rfl rfl), rfl⟩ (Nat.le_refl 0) (Nat.le_refl 0)
          · refine J_iload_n cx dX3_ahead_48 rfl ?_
            refine J_bipush (v := -6) cx dX3_ahead_49 (by decide) ?_
            refine J_icmp_ne (tgt := 111) cx dX3_ahead_51 (by decide) (fun c51 => ?_) (fun c51 => ?_)
            · have hkx : nA = k1 := Eq.symm (Nat.le_antisymm hk1 (Nat.not_lt.mp fun h => c51 (hA0 k1 h)))
              subst hkx
              refine J_aload_n cx dX3_ahead_111 rfl ?_
              refine T_get_as_ cx dX3_ahead_112 ?_
              refine J_iconst (v := nI (0)) cx dX3_ahead_115 (by decide) ?_
              refine J_aload_n cx dX3_ahead_116 rfl ?_
              refine T_get_g cx dX3_ahead_117 ?_
              refine J_iconst (v := nI (0)) cx dX3_ahead_120 (by decide) ?_
              refine T_callSV cx [.ref (t + 4), .int (nI (0)), .ref (t + 1), .int (nI (0))] (t_copy_as__g l Ω ht (0) (0) (by omega) (by omega)) dX3_ahead_121 (lw_S q2701 q2702 q93 q2703) hd_X3_copy.2 rfl rfl ⟨Nat.le_of_ble_eq_true rfl, Nat.le_of_ble_eq_true rfl⟩ rfl rfl (Nat.le_of_ble_eq_true rfl) ?_
              refine J_iload_n cx dX3_ahead_124 rfl ?_
              exact J_iret cx dX3_ahead_125 hr ⟨congrArg some (congrArg Value.int (by simp only [r_X3_ahead, o_X3_ahead_g, o_X3_ahead_as_, o_X3_ahead_ct, o_X3_ahead_st_, if_neg c5, if_neg c16, if_neg (Nat.not_lt.mpr c45), if_neg c51])), (tov_cg (by simp only [r_X3_ahead, o_X3_ahead_g, o_X3_ahead_as_, o_X3_ahead_ct, o_X3_ahead_st_, if_neg c5, if_neg c16, if_neg (Nat.not_lt.mpr c45), if_neg c51]) rfl rfl (by simp only [r_X3_ahead, o_X3_ahead_g, o_X3_ahead_as_, o_X3_ahead_ct, o_X3_ahead_st_, if_neg c5, if_neg c16, if_neg (Nat.not_lt.mpr c45), if_neg c51]) rfl rfl rfl rfl rfl rfl rfl rfl rfl rfl rfl (by simp only [r_X3_ahead, o_X3_ahead_g, o_X3_ahead_as_, o_X3_ahead_ct, o_X3_ahead_st_, if_neg c5, if_neg c16, if_neg (Nat.not_lt.mpr c45), if_neg c51]) (by simp only [r_X3_ahead, o_X3_ahead_g, o_X3_ahead_as_, o_X3_ahead_ct, o_X3_ahead_st_, if_neg c5, if_neg c16, if_neg (Nat.not_lt.mpr c45), if_neg c51]) rfl rfl rfl), rfl⟩ (Nat.le_refl 0) (Nat.le_refl 0)
            · have hlt : k1 < nA := Nat.lt_of_le_of_ne hk1 (fun e => hA1.elim (fun h => by omega) (fun h => h (by rw [← e]; exact c51)))
              refine J_aload_n cx dX3_ahead_54 rfl ?_
              refine J_aload_n cx dX3_ahead_55 rfl ?_
              refine T_get_g cx dX3_ahead_56 ?_
              refine J_iload_n cx dX3_ahead_59 rfl ?_
              refine T_callSI cx [.int (nI (tn p9))] (t_X3_at l Ω (tn p9)) dX3_ahead_60 (lw_S q2736 q2737 q93 q2738) hd_X3_at.2 rfl rfl ⟨Nat.le_of_ble_eq_true rfl, Nat.le_of_ble_eq_true rfl⟩ rfl rfl (Nat.le_of_ble_eq_true rfl) ?_
              refine J_iconst (v := nI (0)) cx dX3_ahead_63 (by decide) ?_
              refine J_iaddN cx dX3_ahead_64 ?_
              refine T_ld_g cx dX3_ahead_65 (by omega) ?_
              refine T_put_st_ cx ht dX3_ahead_66 ?_
              refine J_aload_n cx dX3_ahead_69 rfl ?_
              refine J_aload_n cx dX3_ahead_70 rfl ?_
              refine T_get_g cx dX3_ahead_71 ?_
              refine J_iload_n cx dX3_ahead_74 rfl ?_
              refine T_callSI cx [.int (nI (tn p9))] (t_X3_at l Ω (tn p9)) dX3_ahead_75 (lw_S q2736 q2737 q93 q2738) hd_X3_at.2 rfl rfl ⟨Nat.le_of_ble_eq_true rfl, Nat.le_of_ble_eq_true rfl⟩ rfl rfl (Nat.le_of_ble_eq_true rfl) ?_
              refine J_iconst (v := nI (4)) cx dX3_ahead_78 (by decide) ?_
              refine J_iaddN cx dX3_ahead_79 ?_
              refine T_ld_g cx dX3_ahead_80 (by omega) ?_
              refine T_put_ct cx ht dX3_ahead_81 ?_
              refine J_aload_n cx dX3_ahead_84 rfl ?_
              refine T_callV cx [] (t_X3_hour l Ω ht (hAh c5 k1 hlt)) dX3_ahead_85 (lw_V q2878 q2880 qs65 q93 q2881) hd_X3_hour rfl rfl ⟨Nat.le_of_ble_eq_true rfl, Nat.le_of_ble_eq_true rfl⟩ rfl rfl (Nat.le_of_ble_eq_true rfl) ?_
              refine J_aload_n cx dX3_ahead_88 rfl ?_
              refine J_iload_n cx dX3_ahead_89 rfl ?_
              refine J_iload_n cx dX3_ahead_90 rfl ?_
              refine T_callI cx [.int (nI (tn p9)), .int (w9)] (t_X3_becomes l Ω ht (tn p9) (w9) (by omega)) dX3_ahead_91 (lw_V q2921 q2923 qs70 q93 q2924) hd_X3_becomes rfl rfl ⟨Nat.le_of_ble_eq_true rfl, Nat.le_of_ble_eq_true rfl⟩ rfl rfl (Nat.le_of_ble_eq_true rfl) ?_
              refine J_if_eq (tgt := 102) cx dX3_ahead_94 (by decide) (fun c94 => ?_) (fun c94 => ?_)
              · refine J_bipush (v := -6) cx dX3_ahead_102 (by decide) ?_
                refine J_istore_n3 cx dX3_ahead_104 (by decide) rfl ?_
                refine J_iinc4 (v := nI ((k1 + 1) + 1)) cx dX3_ahead_105 (nI_1 (k1 + 1)) (by decide) rfl ?_
                refine J_goto (tgt := 41) cx dX3_ahead_108 (by decide) ?_
                refine J_mem (tov Ω t G0 ((S_ahead g (tn p9) w9 ct st_ (k1 + 1)).1) hi sv (va_cpy g as_ 0 0 1108) inp why now told bef ch hs fed fa ws ns ((S_ahead g (tn p9) w9 ct st_ (k1 + 1)).2.1) ((S_ahead g (tn p9) w9 ct st_ (k1 + 1)).2.2.1) pl iw sn) (tov_cg (by simp only [S_ahead, if_neg c5, if_neg c16, if_neg (Nat.not_lt.mpr c45), if_pos c51, if_pos c94]) rfl rfl rfl rfl rfl rfl rfl rfl rfl rfl rfl rfl rfl rfl (by simp only [S_ahead, if_neg c5, if_neg c16, if_neg (Nat.not_lt.mpr c45), if_pos c51, if_pos c94]) (by simp only [S_ahead, if_neg c5, if_neg c16, if_neg (Nat.not_lt.mpr c45), if_pos c51, if_pos c94]) rfl rfl rfl) ?_
                refine J_sub (L1 := [some (.ref t), some (.int (nI (tn p9))), some (.int (w9)), some (.int ((S_ahead g (tn p9) w9 ct st_ (k1 + 1)).2.2.2)), some (.int (nI ((k1 + 1) + 1)))]) (jsub_s (jsub_s (jsub_s (jsub_e (congrArg Value.int (by simp only [S_ahead, if_neg c5, if_neg c16, if_neg (Nat.not_lt.mpr c45), if_pos c51, if_pos c94])) (jsub_s jsub_0))))) ?_
                exact ih (k1 + 1) (by omega) (by omega) 
              · refine J_iload cx dX3_ahead_97 rfl ?_
                refine J_goto (tgt := 104) cx dX3_ahead_99 (by decide) ?_
                refine J_istore_n3 cx dX3_ahead_104 (by decide) rfl ?_
                refine J_iinc4 (v := nI ((k1 + 1) + 1)) cx dX3_ahead_105 (nI_1 (k1 + 1)) (by decide) rfl ?_
                refine J_goto (tgt := 41) cx dX3_ahead_108 (by decide) ?_
                refine J_mem (tov Ω t G0 ((S_ahead g (tn p9) w9 ct st_ (k1 + 1)).1) hi sv (va_cpy g as_ 0 0 1108) inp why now told bef ch hs fed fa ws ns ((S_ahead g (tn p9) w9 ct st_ (k1 + 1)).2.1) ((S_ahead g (tn p9) w9 ct st_ (k1 + 1)).2.2.1) pl iw sn) (tov_cg (by simp only [S_ahead, if_neg c5, if_neg c16, if_neg (Nat.not_lt.mpr c45), if_pos c51, if_neg c94]) rfl rfl rfl rfl rfl rfl rfl rfl rfl rfl rfl rfl rfl rfl (by simp only [S_ahead, if_neg c5, if_neg c16, if_neg (Nat.not_lt.mpr c45), if_pos c51, if_neg c94]) (by simp only [S_ahead, if_neg c5, if_neg c16, if_neg (Nat.not_lt.mpr c45), if_pos c51, if_neg c94]) rfl rfl rfl) ?_
                refine J_sub (L1 := [some (.ref t), some (.int (nI (tn p9))), some (.int (w9)), some (.int ((S_ahead g (tn p9) w9 ct st_ (k1 + 1)).2.2.2)), some (.int (nI ((k1 + 1) + 1)))]) (jsub_s (jsub_s (jsub_s (jsub_e (congrArg Value.int (by simp only [S_ahead, if_neg c5, if_neg c16, if_neg (Nat.not_lt.mpr c45), if_pos c51, if_neg c94])) (jsub_s jsub_0))))) ?_
                exact ih (k1 + 1) (by omega) (by omega) 
      refine J_sub (L1 := [some (.ref t), some (.int (nI (tn p9))), some (.int (w9)), some (.int ((S_ahead g (tn p9) w9 ct st_ 0).2.2.2)), some (.int (nI (0 + 1)))]) (jsub_s (jsub_s (jsub_s (jsub_e (congrArg Value.int rfl) (jsub_e (congrArg Value.int rfl) jsub_0))))) ?_
      exact loop41 (nA + 1) 0 (by omega) (by omega) 
    · refine J_bipush (v := -2) cx dX3_ahead_19 (by decide) ?_
      exact J_iret cx dX3_ahead_21 hr ⟨congrArg some (congrArg Value.int (by simp only [r_X3_ahead, o_X3_ahead_g, o_X3_ahead_as_, o_X3_ahead_ct, o_X3_ahead_st_, if_neg c5, if_pos c16])), (tov_cg (by simp only [r_X3_ahead, o_X3_ahead_g, o_X3_ahead_as_, o_X3_ahead_ct, o_X3_ahead_st_, if_neg c5, if_pos c16]) rfl rfl (by simp only [r_X3_ahead, o_X3_ahead_g, o_X3_ahead_as_, o_X3_ahead_ct, o_X3_ahead_st_, if_neg c5, if_pos c16]) rfl rfl rfl rfl rfl rfl rfl rfl rfl rfl rfl (by simp only [r_X3_ahead, o_X3_ahead_g, o_X3_ahead_as_, o_X3_ahead_ct, o_X3_ahead_st_, if_neg c5, if_pos c16]) (by simp only [r_X3_ahead, o_X3_ahead_g, o_X3_ahead_as_, o_X3_ahead_ct, o_X3_ahead_st_, if_neg c5, if_pos c16]) rfl rfl rfl), rfl⟩ (Nat.le_refl 0) (Nat.le_refl 0)
  · refine J_iconst (v := -1) cx dX3_ahead_8 (by decide) ?_
    exact J_iret cx dX3_ahead_9 hr ⟨congrArg some (congrArg Value.int (by simp only [r_X3_ahead, o_X3_ahead_g, o_X3_ahead_as_, o_X3_ahead_ct, o_X3_ahead_st_, if_pos c5])), (tov_cg (by simp only [r_X3_ahead, o_X3_ahead_g, o_X3_ahead_as_, o_X3_ahead_ct, o_X3_ahead_st_, if_pos c5]) rfl rfl (by simp only [r_X3_ahead, o_X3_ahead_g, o_X3_ahead_as_, o_X3_ahead_ct, o_X3_ahead_st_, if_pos c5]) rfl rfl rfl rfl rfl rfl rfl rfl rfl rfl rfl (by simp only [r_X3_ahead, o_X3_ahead_g, o_X3_ahead_as_, o_X3_ahead_ct, o_X3_ahead_st_, if_pos c5]) (by simp only [r_X3_ahead, o_X3_ahead_g, o_X3_ahead_as_, o_X3_ahead_ct, o_X3_ahead_st_, if_pos c5]) rfl rfl rfl), rfl⟩ (Nat.le_refl 0) (Nat.le_refl 0)
