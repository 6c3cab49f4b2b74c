/-! THE TWIN: hours, firing, snapshots (gen/mk_t6.py) -/
set_option maxRecDepth 100000
theorem fl_and (x : UInt32) : (x &&& 0x7fffffff).toNat = x.toNat % 2 ^ 31 := by
  rw [UInt32.toNat_and, show (0x7fffffff : UInt32).toNat = 2 ^ 31 - 1 from rfl, Nat.and_two_pow_sub_one_eq_mod]
theorem fl_n32 (x : UInt32) : vf_n32 x ↔ x.toNat % 2 ^ 31 ≤ 2139095040 := by
  unfold vf_n32
  rw [UInt32.le_iff_toNat_le, fl_and]
  exact Iff.rfl
theorem fl_dn {x : UInt32} (h : vf_n32 x) : FP.Core.decode FP.Core.b32 x.toNat ≠ .nan := by
  have h1 := (fl_n32 x).mp h
  have hx := x.toNat_lt
  unfold FP.Core.decode FP.Core.fieldE FP.Core.fieldT FP.Core.fieldS
  rw [show FP.Core.b32.tails = 8388608 from rfl, show FP.Core.b32.exps = 256 from rfl]
  by_cases e : x.toNat / 8388608 % 256 = 256 - 1
  · rw [if_pos e, if_pos (by omega)]
    exact FP.Core.Datum.noConfusion
  · rw [if_neg e]
    split <;> exact FP.Core.Datum.noConfusion
theorem fl_cmp {x : UInt32} (h : vf_n32 x) : FP.fcmp x x = some .eq := by
  have h1 := fl_dn h
  show FP.Core.order (FP.Core.decode FP.Core.b32 x.toNat) (FP.Core.decode FP.Core.b32 x.toNat) = some .eq
  cases hd : FP.Core.decode FP.Core.b32 x.toNat with
  | nan => exact absurd hd h1
  | inf s => simp [FP.Core.order]
  | fin s c q => simp [FP.Core.order]
theorem nI_pos1 {n : Nat} (h : ¬ nI n = 0) : 1 ≤ n := by
  rcases Nat.eq_zero_or_pos n with e | e
  · subst e; exact absurd rfl h
  · exact e
def S_prices (g : Nat → Int32) : Nat → Int32
  | 0 => (nI (0))
  | k1 + 1 => (if (g ((50 + (13 * k1)) + 0)) = (nI (6)) then ((S_prices g k1) + (g ((258 + (6 * (tn (g ((50 + (13 * k1)) + 10))))) + 4))) else ((S_prices g k1) + (nI (0))))
theorem hd_X3_prices : yX3_prices.cls = RX3 ∧ yX3_prices.cls ≠ "java/lang/invoke/MethodHandle" ∧ yX3_prices.cls ≠ "java/lang/invoke/VarHandle" ∧ (parseMethodDescriptor yX3_prices.desc).map (fun d => d.parameters.length) = some 0 := by decide +kernel
set_option maxHeartbeats 4000000 in
theorem t_X3_prices (l : Launch) (Ω : jO) {t : Nat} {G0 : Mem} {g hi sv as_ inp why now told bef : Nat → Int32} {ch hs fed fa ws ns ct st_ pl iw sn : Int32} {sz : Nat} (ht : Ω.2.2.2 ≤ t)  (hn2 : g 2 = nI (tn (g 2))) (hn16 : tn (g 2) ≤ 16) (hso : ∀ k, k < tn (g 2) → g ((50 + (13 * k)) + 0) = nI (6) → nat_ g ((50 + (13 * k)) + 10) 7) : Met l yX3_prices (ws_ yX3_prices cX3_prices 3 (some .int)) ({ frames := 2, cells := 0, slots := 0, locals := 32 }) (va_Pc [.ref t] (jWd Ω (tov Ω t G0 g hi sv as_ inp why now told bef ch hs fed fa ws ns ct st_ pl iw sn) sz)) (jQ Ω (jD (some (.int (S_prices g (tn (g (2)))))) (tov Ω t G0 g hi sv as_ inp why now told bef ch hs fed fa ws ns ct st_ pl iw sn) sz)) 0 0 (jB Ω) := by
  refine jMet (by decide) (Nat.le_of_ble_eq_true rfl) ?_
  intro p e s m args below meth c cx hr hnm
  refine J_loc [some (.ref t), none, none] rfl ?_
  have hso2 := fun k a b => (hso k a b).2
  refine J_iconst (v := nI (0)) cx dX3_prices_0 (by decide) ?_
  refine J_istore_n1 cx dX3_prices_1 (by decide) rfl ?_
  refine J_iconst (v := nI (0)) cx dX3_prices_2 (by decide) ?_
  refine J_istore_n2 cx dX3_prices_3 (by decide) rfl ?_
  have loop4 : ∀ (n k1 : Nat), (tn (g (2))) + 1 ≤ n + k1 → k1 ≤ (tn (g (2))) → J p l e ({ frames := 2, cells := 0, slots := 0, locals := 32 } : Room) s m args below meth c Ω 3 (MQ below (jQ Ω (jD (some (.int (S_prices g (tn (g (2)))))) (tov Ω t G0 g hi sv as_ inp why now told bef ch hs fed fa ws ns ct st_ pl iw sn) sz)) args s 0 0 (jB Ω)) 0 0 sz (tov Ω t G0 g hi sv as_ inp why now told bef ch hs fed fa ws ns ct st_ pl iw sn) 4 [some (.ref t), some (.int (S_prices g k1)), some (.int (nI (k1)))] [] := by
    intro n
    induction n with
    | zero => intro k1 hn1 hk1 ; exact absurd hn1 (by omega)
    | succ n ih =>
      intro k1 hn1 hk1 
      refine J_iload_n cx dX3_prices_4 rfl ?_
      refine J_aload_n cx dX3_prices_5 rfl ?_
      refine T_get_g cx dX3_prices_6 ?_
      refine J_iconst (v := nI (2)) cx dX3_prices_9 (by decide) ?_
      refine T_ld_g cx dX3_prices_10 (by omega) ?_
      refine J_top (.int (nI (tn (g (2))))) (congrArg Value.int (hn2)) ?_
      refine J_icmpN_ge (tgt := 69) cx dX3_prices_11 (by decide) (by omega) (by omega) (fun c11 => ?_) (fun c11 => ?_)
      · have hkx : tn (g (2)) = k1 := Eq.symm (by omega)
        subst hkx
        refine J_iload_n cx dX3_prices_69 rfl ?_
        exact J_iret cx dX3_prices_70 hr ⟨congrArg some (congrArg Value.int rfl), rfl, rfl⟩ (Nat.le_refl 0) (Nat.le_refl 0)
      · refine J_iload_n cx dX3_prices_14 rfl ?_
        refine J_aload_n cx dX3_prices_15 rfl ?_
        refine T_get_g cx dX3_prices_16 ?_
        refine J_iload_n cx dX3_prices_19 rfl ?_
        refine T_callSI cx [.int (nI (k1))] (t_X3_at l Ω (k1)) dX3_prices_20 (lw_S q2736 q2737 q93 q2738) hd_X3_at.2 rfl rfl ⟨Nat.le_of_ble_eq_true rfl, Nat.le_of_ble_eq_true rfl⟩ rfl rfl (Nat.le_of_ble_eq_true rfl) ?_
        refine J_iconst (v := nI (0)) cx dX3_prices_23 (by decide) ?_
        refine J_iaddN cx dX3_prices_24 ?_
        refine T_ld_g cx dX3_prices_25 (by omega) ?_
        refine J_bipush (v := nI (6)) cx dX3_prices_26 (by decide) ?_
        refine J_icmp_ne (tgt := 60) cx dX3_prices_28 (by decide) (fun c28 => ?_) (fun c28 => ?_)
        · refine J_iconst (v := nI (0)) cx dX3_prices_60 (by decide) ?_
          refine J_iadd cx dX3_prices_61 ?_
          refine J_istore_n1 cx dX3_prices_62 (by decide) rfl ?_
          refine J_iinc2 (v := nI (k1 + 1)) cx dX3_prices_63 (nI_1 k1) (by decide) rfl ?_
          refine J_goto (tgt := 4) cx dX3_prices_66 (by decide) ?_
          refine J_sub (L1 := [some (.ref t), some (.int (S_prices g (k1 + 1))), some (.int (nI (k1 + 1)))]) (jsub_s (jsub_e (congrArg Value.int (by simp only [S_prices, if_pos c11, if_neg c28])) (jsub_s jsub_0))) ?_
          exact ih (k1 + 1) (by omega) (by omega) 
        · have hso3 := (hso k1 c11 c28).2
          refine J_aload_n cx dX3_prices_31 rfl ?_
          refine T_get_g cx dX3_prices_32 ?_
          refine J_sipush (v := nI (258)) cx dX3_prices_35 (by decide) ?_
          refine J_bipush (v := nI (6)) cx dX3_prices_38 (by decide) ?_
          refine J_aload_n cx dX3_prices_40 rfl ?_
          refine T_get_g cx dX3_prices_41 ?_
          refine J_iload_n cx dX3_prices_44 rfl ?_
          refine T_callSI cx [.int (nI (k1))] (t_X3_at l Ω (k1)) dX3_prices_45 (lw_S q2736 q2737 q93 q2738) hd_X3_at.2 rfl rfl ⟨Nat.le_of_ble_eq_true rfl, Nat.le_of_ble_eq_true rfl⟩ rfl rfl (Nat.le_of_ble_eq_true rfl) ?_
          refine J_bipush (v := nI (10)) cx dX3_prices_48 (by decide) ?_
          refine J_iaddN cx dX3_prices_50 ?_
          refine T_ld_g cx dX3_prices_51 (by omega) ?_
          refine J_top (.int (nI (tn (g ((50 + (13 * k1)) + 10))))) (congrArg Value.int ((hso k1 c11 c28).1)) ?_
          refine J_imulN cx dX3_prices_52 ?_
          refine J_iaddN cx dX3_prices_53 ?_
          refine J_iconst (v := nI (4)) cx dX3_prices_54 (by decide) ?_
          refine J_iaddN cx dX3_prices_55 ?_
          refine T_ld_g cx dX3_prices_56 (by omega) ?_
          refine J_goto (tgt := 61) cx dX3_prices_57 (by decide) ?_
          refine J_iadd cx dX3_prices_61 ?_
          refine J_istore_n1 cx dX3_prices_62 (by decide) rfl ?_
          refine J_iinc2 (v := nI (k1 + 1)) cx dX3_prices_63 (nI_1 k1) (by decide) rfl ?_
          refine J_goto (tgt := 4) cx dX3_prices_66 (by decide) ?_
          refine J_sub (L1 := [some (.ref t), some (.int (S_prices g (k1 + 1))), some (.int (nI (k1 + 1)))]) (jsub_s (jsub_e (congrArg Value.int (by simp only [S_prices, if_pos c11, if_pos c28])) (jsub_s jsub_0))) ?_
          exact ih (k1 + 1) (by omega) (by omega) 
  refine J_sub (L1 := [some (.ref t), some (.int (S_prices g 0)), some (.int (nI (0)))]) (jsub_s (jsub_e (congrArg Value.int rfl) (jsub_s jsub_0))) ?_
  exact loop4 (tn (g (2)) + 1) 0 (by omega) (by omega) 
def r_X3_account (g : Nat → Int32) (ch : Int32) (fed : Int32) (w9 : Int32) : Int32 := (if (r_X3_in w9 (nI (3)) (nI (10))) = 0 then (if (r_X3_in w9 (nI (18)) (nI (23))) = 0 then (if w9 = 0 then (g (0)) else (if w9 = 1 then (g (1)) else (if w9 = 2 then (g (2)) else (if w9 = 11 then (S_allCracks g (tn (g (2)))) else (if w9 = 12 then (g (3)) else (if w9 = 13 then (S_goodOrders g (tn (g (3)))) else (if w9 = 14 then (S_prices g (tn (g (2)))) else (if w9 = 15 then (r_X3_restLeft g) else (if w9 = 16 then fed else (if w9 = 17 then ch else (-2))))))))))) else (g ((4 + (tn w9)) - 18))) else (S_inState g (w9 - (nI (3))) (tn (g (2)))))
theorem hd_X3_account : yX3_account.cls = RX3 ∧ yX3_account.cls ≠ "java/lang/invoke/MethodHandle" ∧ yX3_account.cls ≠ "java/lang/invoke/VarHandle" ∧ (parseMethodDescriptor yX3_account.desc).map (fun d => d.parameters.length) = some 1 := by decide +kernel
set_option maxHeartbeats 4000000 in
theorem t_X3_account (l : Launch) (Ω : jO) {t : Nat} {G0 : Mem} {g hi sv as_ inp why now told bef : Nat → Int32} {ch hs fed fa ws ns ct st_ pl iw sn : Int32} {sz : Nat} (ht : Ω.2.2.2 ≤ t) (w9 : Int32) (hn2 : g 2 = nI (tn (g 2))) (hn16 : tn (g 2) ≤ 16) (ho2 : g 3 = nI (tn (g 3))) (ho8 : tn (g 3) ≤ 8) (hso : ∀ k, k < tn (g 2) → g ((50 + (13 * k)) + 0) = nI (6) → nat_ g ((50 + (13 * k)) + 10) 7) : Met l yX3_account (ws_ yX3_account cX3_account 2 (some .int)) ({ frames := 3, cells := 0, slots := 0, locals := 55 }) (va_Pc [.ref t, .int (w9)] (jWd Ω (tov Ω t G0 g hi sv as_ inp why now told bef ch hs fed fa ws ns ct st_ pl iw sn) sz)) (jQ Ω (jD (some (.int (r_X3_account g ch fed w9))) (tov Ω t G0 g hi sv as_ inp why now told bef ch hs fed fa ws ns ct st_ pl iw sn) sz)) 0 0 (jB Ω) := by
  refine jMet (by decide) (Nat.le_of_ble_eq_true rfl) ?_
  intro p e s m args below meth c cx hr hnm
  refine J_loc [some (.ref t), some (.int (w9))] rfl ?_
  refine J_iload_n cx dX3_account_0 rfl ?_
  refine J_iconst (v := nI (3)) cx dX3_account_1 (by decide) ?_
  refine J_bipush (v := nI (10)) cx dX3_account_2 (by decide) ?_
  refine T_callSI cx [.int (w9), .int (nI (3)), .int (nI (10))] (t_X3_in l Ω (w9) (nI (3)) (nI (10))) dX3_account_4 (lw_S q2686 q2687 q93 q2688) hd_X3_in.2 rfl rfl ⟨Nat.le_of_ble_eq_true rfl, Nat.le_of_ble_eq_true rfl⟩ rfl rfl (Nat.le_of_ble_eq_true rfl) ?_
  refine J_if_eq (tgt := 18) cx dX3_account_7 (by decide) (fun c7 => ?_) (fun c7 => ?_)
  · refine J_iload_n cx dX3_account_18 rfl ?_
    refine J_bipush (v := nI (18)) cx dX3_account_19 (by decide) ?_
    refine J_bipush (v := nI (23)) cx dX3_account_21 (by decide) ?_
    refine T_callSI cx [.int (w9), .int (nI (18)), .int (nI (23))] (t_X3_in l Ω (w9) (nI (18)) (nI (23))) dX3_account_23 (lw_S q2686 q2687 q93 q2688) hd_X3_in.2 rfl rfl ⟨Nat.le_of_ble_eq_true rfl, Nat.le_of_ble_eq_true rfl⟩ rfl rfl (Nat.le_of_ble_eq_true rfl) ?_
    refine J_if_eq (tgt := 41) cx dX3_account_26 (by decide) (fun c26 => ?_) (fun c26 => ?_)
    · refine J_iload_n cx dX3_account_41 rfl ?_
      by_cases c42_0 : w9 = 0
      · refine J_tableIn (off := 86) (tgt := 128) cx dX3_account_42 (by rw [c42_0]; decide) (by rw [c42_0]; decide) (by rw [c42_0]; rfl) (by decide) ?_
        have hre128_1 : w9 = nI (0) := c42_0
        refine J_loc [some (.ref t), some (.int (nI (0)))] (by simp only [← hre128_1]) ?_
        refine J_aload_n cx dX3_account_128 rfl ?_
        refine T_get_g cx dX3_account_129 ?_
        refine J_iload_n cx dX3_account_132 rfl ?_
        refine T_ld_g cx dX3_account_133 (by omega) ?_
        exact J_iret cx dX3_account_134 hr ⟨congrArg some (congrArg Value.int (by simp only [r_X3_account, if_pos c7, if_pos c26, if_pos c42_0])), rfl, rfl⟩ (Nat.le_refl 0) (Nat.le_refl 0)
      by_cases c42_1 : w9 = 1
      · refine J_tableIn (off := 86) (tgt := 128) cx dX3_account_42 (by rw [c42_1]; decide) (by rw [c42_1]; decide) (by rw [c42_1]; rfl) (by decide) ?_
        have hre128_1 : w9 = nI (1) := c42_1
        refine J_loc [some (.ref t), some (.int (nI (1)))] (by simp only [← hre128_1]) ?_
        refine J_aload_n cx dX3_account_128 rfl ?_
        refine T_get_g cx dX3_account_129 ?_
        refine J_iload_n cx dX3_account_132 rfl ?_
        refine T_ld_g cx dX3_account_133 (by omega) ?_
        exact J_iret cx dX3_account_134 hr ⟨congrArg some (congrArg Value.int (by simp only [r_X3_account, if_pos c7, if_pos c26, if_neg c42_0, if_pos c42_1])), rfl, rfl⟩ (Nat.le_refl 0) (Nat.le_refl 0)
      by_cases c42_2 : w9 = 2
      · refine J_tableIn (off := 86) (tgt := 128) cx dX3_account_42 (by rw [c42_2]; decide) (by rw [c42_2]; decide) (by rw [c42_2]; rfl) (by decide) ?_
        have hre128_1 : w9 = nI (2) := c42_2
        refine J_loc [some (.ref t), some (.int (nI (2)))] (by simp only [← hre128_1]) ?_
        refine J_aload_n cx dX3_account_128 rfl ?_
        refine T_get_g cx dX3_account_129 ?_
        refine J_iload_n cx dX3_account_132 rfl ?_
        refine T_ld_g cx dX3_account_133 (by omega) ?_
        exact J_iret cx dX3_account_134 hr ⟨congrArg some (congrArg Value.int (by simp only [r_X3_account, if_pos c7, if_pos c26, if_neg c42_0, if_neg c42_1, if_pos c42_2])), rfl, rfl⟩ (Nat.le_refl 0) (Nat.le_refl 0)
      by_cases c42_11 : w9 = 11
      · refine J_tableIn (off := 93) (tgt := 135) cx dX3_account_42 (by rw [c42_11]; decide) (by rw [c42_11]; decide) (by rw [c42_11]; rfl) (by decide) ?_
        refine J_aload_n cx dX3_account_135 rfl ?_
        refine T_callI cx [] (t_X3_allCracks l Ω ht hn2 hn16) dX3_account_136 (lw_V q2937 q2939 qs71 q93 q2940) hd_X3_allCracks rfl rfl ⟨Nat.le_of_ble_eq_true rfl, Nat.le_of_ble_eq_true rfl⟩ rfl rfl (Nat.le_of_ble_eq_true rfl) ?_
        exact J_iret cx dX3_account_139 hr ⟨congrArg some (congrArg Value.int (by simp only [r_X3_account, if_pos c7, if_pos c26, if_neg c42_0, if_neg c42_1, if_neg c42_2, if_pos c42_11])), rfl, rfl⟩ (Nat.le_refl 0) (Nat.le_refl 0)
      by_cases c42_12 : w9 = 12
      · refine J_tableIn (off := 98) (tgt := 140) cx dX3_account_42 (by rw [c42_12]; decide) (by rw [c42_12]; decide) (by rw [c42_12]; rfl) (by decide) ?_
        refine J_aload_n cx dX3_account_140 rfl ?_
        refine T_get_g cx dX3_account_141 ?_
        refine J_iconst (v := nI (3)) cx dX3_account_144 (by decide) ?_
        refine T_ld_g cx dX3_account_145 (by omega) ?_
        exact J_iret cx dX3_account_146 hr ⟨congrArg some (congrArg Value.int (by simp only [r_X3_account, if_pos c7, if_pos c26, if_neg c42_0, if_neg c42_1, if_neg c42_2, if_neg c42_11, if_pos c42_12])), rfl, rfl⟩ (Nat.le_refl 0) (Nat.le_refl 0)
      by_cases c42_13 : w9 = 13
      · refine J_tableIn (off := 105) (tgt := 147) cx dX3_account_42 (by rw [c42_13]; decide) (by rw [c42_13]; decide) (by rw [c42_13]; rfl) (by decide) ?_
        refine J_aload_n cx dX3_account_147 rfl ?_
        refine T_callI cx [] (t_X3_goodOrders l Ω ht ho2 ho8) dX3_account_148 (lw_V q2941 q2943 qs72 q93 q2944) hd_X3_goodOrders rfl rfl ⟨Nat.le_of_ble_eq_true rfl, Nat.le_of_ble_eq_true rfl⟩ rfl rfl (Nat.le_of_ble_eq_true rfl) ?_
        exact J_iret cx dX3_account_151 hr ⟨congrArg some (congrArg Value.int (by simp only [r_X3_account, if_pos c7, if_pos c26, if_neg c42_0, if_neg c42_1, if_neg c42_2, if_neg c42_11, if_neg c42_12, if_pos c42_13])), rfl, rfl⟩ (Nat.le_refl 0) (Nat.le_refl 0)
      by_cases c42_14 : w9 = 14
      · refine J_tableIn (off := 110) (tgt := 152) cx dX3_account_42 (by rw [c42_14]; decide) (by rw [c42_14]; decide) (by rw [c42_14]; rfl) (by decide) ?_
        refine J_aload_n cx dX3_account_152 rfl ?_
        refine T_callI cx [] (t_X3_prices l Ω ht hn2 hn16 hso) dX3_account_153 (lw_V q2945 q2947 qs73 q93 q2948) hd_X3_prices rfl rfl ⟨Nat.le_of_ble_eq_true rfl, Nat.le_of_ble_eq_true rfl⟩ rfl rfl (Nat.le_of_ble_eq_true rfl) ?_
        exact J_iret cx dX3_account_156 hr ⟨congrArg some (congrArg Value.int (by simp only [r_X3_account, if_pos c7, if_pos c26, if_neg c42_0, if_neg c42_1, if_neg c42_2, if_neg c42_11, if_neg c42_12, if_neg c42_13, if_pos c42_14])), rfl, rfl⟩ (Nat.le_refl 0) (Nat.le_refl 0)
      by_cases c42_15 : w9 = 15
      · refine J_tableIn (off := 115) (tgt := 157) cx dX3_account_42 (by rw [c42_15]; decide) (by rw [c42_15]; decide) (by rw [c42_15]; rfl) (by decide) ?_
        refine J_aload_n cx dX3_account_157 rfl ?_
        refine T_callI cx [] (t_X3_restLeft l Ω ht) dX3_account_158 (lw_V q2851 q2853 qs62 q93 q2854) hd_X3_restLeft rfl rfl ⟨Nat.le_of_ble_eq_true rfl, Nat.le_of_ble_eq_true rfl⟩ rfl rfl (Nat.le_of_ble_eq_true rfl) ?_
        exact J_iret cx dX3_account_161 hr ⟨congrArg some (congrArg Value.int (by simp only [r_X3_account, if_pos c7, if_pos c26, if_neg c42_0, if_neg c42_1, if_neg c42_2, if_neg c42_11, if_neg c42_12, if_neg c42_13, if_neg c42_14, if_pos c42_15])), rfl, rfl⟩ (Nat.le_refl 0) (Nat.le_refl 0)
      by_cases c42_16 : w9 = 16
      · refine J_tableIn (off := 120) (tgt := 162) cx dX3_account_42 (by rw [c42_16]; decide) (by rw [c42_16]; decide) (by rw [c42_16]; rfl) (by decide) ?_
        refine J_aload_n cx dX3_account_162 rfl ?_
        refine T_get_fed cx dX3_account_163 ?_
        exact J_iret cx dX3_account_166 hr ⟨congrArg some (congrArg Value.int (by simp only [r_X3_account, if_pos c7, if_pos c26, if_neg c42_0, if_neg c42_1, if_neg c42_2, if_neg c42_11, if_neg c42_12, if_neg c42_13, if_neg c42_14, if_neg c42_15, if_pos c42_16])), rfl, rfl⟩ (Nat.le_refl 0) (Nat.le_refl 0)
      by_cases c42_17 : w9 = 17
      · refine J_tableIn (off := 125) (tgt := 167) cx dX3_account_42 (by rw [c42_17]; decide) (by rw [c42_17]; decide) (by rw [c42_17]; rfl) (by decide) ?_
        refine J_aload_n cx dX3_account_167 rfl ?_
        refine T_get_ch cx dX3_account_168 ?_
        exact J_iret cx dX3_account_171 hr ⟨congrArg some (congrArg Value.int (by simp only [r_X3_account, if_pos c7, if_pos c26, if_neg c42_0, if_neg c42_1, if_neg c42_2, if_neg c42_11, if_neg c42_12, if_neg c42_13, if_neg c42_14, if_neg c42_15, if_neg c42_16, if_pos c42_17])), rfl, rfl⟩ (Nat.le_refl 0) (Nat.le_refl 0)
      have Kd42 : J p l e ({ frames := 3, cells := 0, slots := 0, locals := 55 } : Room) s m args below meth c Ω 2 (MQ below (jQ Ω (jD (some (.int (r_X3_account g ch fed w9))) (tov Ω t G0 g hi sv as_ inp why now told bef ch hs fed fa ws ns ct st_ pl iw sn) sz)) args s 0 0 (jB Ω)) 0 0 sz (tov Ω t G0 g hi sv as_ inp why now told bef ch hs fed fa ws ns ct st_ pl iw sn) 172 [some (.ref t), some (.int (w9))] [] := by
        refine J_bipush (v := -2) cx dX3_account_172 (by decide) ?_
        exact J_iret cx dX3_account_174 hr ⟨congrArg some (congrArg Value.int (by simp only [r_X3_account, if_pos c7, if_pos c26, if_neg c42_0, if_neg c42_1, if_neg c42_2, if_neg c42_11, if_neg c42_12, if_neg c42_13, if_neg c42_14, if_neg c42_15, if_neg c42_16, if_neg c42_17])), rfl, rfl⟩ (Nat.le_refl 0) (Nat.le_refl 0)
      by_cases c42_3 : w9 = 3
      · exact J_tableIn (off := 130) (tgt := 172) cx dX3_account_42 (by rw [c42_3]; decide) (by rw [c42_3]; decide) (by rw [c42_3]; rfl) (by decide) Kd42
      by_cases c42_4 : w9 = 4
      · exact J_tableIn (off := 130) (tgt := 172) cx dX3_account_42 (by rw [c42_4]; decide) (by rw [c42_4]; decide) (by rw [c42_4]; rfl) (by decide) Kd42
      by_cases c42_5 : w9 = 5
      · exact J_tableIn (off := 130) (tgt := 172) cx dX3_account_42 (by rw [c42_5]; decide) (by rw [c42_5]; decide) (by rw [c42_5]; rfl) (by decide) Kd42
      by_cases c42_6 : w9 = 6
      · exact J_tableIn (off := 130) (tgt := 172) cx dX3_account_42 (by rw [c42_6]; decide) (by rw [c42_6]; decide) (by rw [c42_6]; rfl) (by decide) Kd42
      by_cases c42_7 : w9 = 7
      · exact J_tableIn (off := 130) (tgt := 172) cx dX3_account_42 (by rw [c42_7]; decide) (by rw [c42_7]; decide) (by rw [c42_7]; rfl) (by decide) Kd42
      by_cases c42_8 : w9 = 8
      · exact J_tableIn (off := 130) (tgt := 172) cx dX3_account_42 (by rw [c42_8]; decide) (by rw [c42_8]; decide) (by rw [c42_8]; rfl) (by decide) Kd42
      by_cases c42_9 : w9 = 9
      · exact J_tableIn (off := 130) (tgt := 172) cx dX3_account_42 (by rw [c42_9]; decide) (by rw [c42_9]; decide) (by rw [c42_9]; rfl) (by decide) Kd42
      by_cases c42_10 : w9 = 10
      · exact J_tableIn (off := 130) (tgt := 172) cx dX3_account_42 (by rw [c42_10]; decide) (by rw [c42_10]; decide) (by rw [c42_10]; rfl) (by decide) Kd42
      have hout42 : w9.toInt < 0 ∨ 17 < w9.toInt := by
        have ec42_0 := jne_int (n := 0) 0 (by decide) c42_0
        have ec42_1 := jne_int (n := 1) 1 (by decide) c42_1
        have ec42_2 := jne_int (n := 2) 2 (by decide) c42_2
        have ec42_11 := jne_int (n := 11) 11 (by decide) c42_11
        have ec42_12 := jne_int (n := 12) 12 (by decide) c42_12
        have ec42_13 := jne_int (n := 13) 13 (by decide) c42_13
        have ec42_14 := jne_int (n := 14) 14 (by decide) c42_14
        have ec42_15 := jne_int (n := 15) 15 (by decide) c42_15
        have ec42_16 := jne_int (n := 16) 16 (by decide) c42_16
        have ec42_17 := jne_int (n := 17) 17 (by decide) c42_17
        have ec42_3 := jne_int (n := 3) 3 (by decide) c42_3
        have ec42_4 := jne_int (n := 4) 4 (by decide) c42_4
        have ec42_5 := jne_int (n := 5) 5 (by decide) c42_5
        have ec42_6 := jne_int (n := 6) 6 (by decide) c42_6
        have ec42_7 := jne_int (n := 7) 7 (by decide) c42_7
        have ec42_8 := jne_int (n := 8) 8 (by decide) c42_8
        have ec42_9 := jne_int (n := 9) 9 (by decide) c42_9
        have ec42_10 := jne_int (n := 10) 10 (by decide) c42_10
        omega
      exact J_tableOut (tgt := 172) cx dX3_account_42 hout42 (by decide) Kd42
    · have hx29_1 := (in_n (by decide) c26).2
      have hre29_1 : w9 = nI (tn w9) := (in_n (by decide) c26).1
      refine J_loc [some (.ref t), some (.int (nI (tn w9)))] (by simp only [← hre29_1]) ?_
      refine J_aload_n cx dX3_account_29 rfl ?_
      refine T_get_g cx dX3_account_30 ?_
      refine J_iconst (v := nI (4)) cx dX3_account_33 (by decide) ?_
      refine J_iload_n cx dX3_account_34 rfl ?_
      refine J_iaddN cx dX3_account_35 ?_
      refine J_bipush (v := nI (18)) cx dX3_account_36 (by decide) ?_
      refine J_isubN cx dX3_account_38 (by omega) ?_
      refine T_ld_g cx dX3_account_39 (by omega) ?_
      exact J_iret cx dX3_account_40 hr ⟨congrArg some (congrArg Value.int (by simp only [r_X3_account, if_pos c7, if_neg c26])), rfl, rfl⟩ (Nat.le_refl 0) (Nat.le_refl 0)
  · refine J_aload_n cx dX3_account_10 rfl ?_
    refine J_iload_n cx dX3_account_11 rfl ?_
    refine J_iconst (v := nI (3)) cx dX3_account_12 (by decide) ?_
    refine J_isub cx dX3_account_13 ?_
    refine T_callI cx [.int (w9 - (nI (3)))] (t_X3_inState l Ω ht (w9 - (nI (3))) hn2 hn16) dX3_account_14 (lw_V q2909 q2911 qs69 q93 q2912) hd_X3_inState rfl rfl ⟨Nat.le_of_ble_eq_true rfl, Nat.le_of_ble_eq_true rfl⟩ rfl rfl (Nat.le_of_ble_eq_true rfl) ?_
    exact J_iret cx dX3_account_17 hr ⟨congrArg some (congrArg Value.int (by simp only [r_X3_account, if_neg c7])), rfl, rfl⟩ (Nat.le_refl 0) (Nat.le_refl 0)
def r_X3_append (fed : Int32) (c9 : Int32) : Int32 := (if (r_X3_in c9 (nI (32)) (nI (126))) = 0 then (-2) else (if (tn fed) = 60 then (-4) else (nI ((tn fed) + 1))))
def o_X3_append_inp (inp : Nat → Int32) (fed : Int32) (c9 : Int32) : Nat → Int32 := (if (r_X3_in c9 (nI (32)) (nI (126))) = 0 then inp else (if (tn fed) = 60 then inp else (upd inp (tn fed) (c9))))
def o_X3_append_fed (fed : Int32) (c9 : Int32) : Int32 := (if (r_X3_in c9 (nI (32)) (nI (126))) = 0 then fed else (if (tn fed) = 60 then fed else (nI ((tn fed) + 1))))
theorem hd_X3_append : yX3_append.cls = RX3 ∧ yX3_append.cls ≠ "java/lang/invoke/MethodHandle" ∧ yX3_append.cls ≠ "java/lang/invoke/VarHandle" ∧ (parseMethodDescriptor yX3_append.desc).map (fun d => d.parameters.length) = some 1 := by decide +kernel
set_option maxHeartbeats 4000000 in
theorem t_X3_append (l : Launch) (Ω : jO) {t : Nat} {G0 : Mem} {g hi sv as_ inp why now told bef : Nat → Int32} {ch hs fed fa ws ns ct st_ pl iw sn : Int32} {sz : Nat} (ht : Ω.2.2.2 ≤ t) (c9 : Int32) (hfd : fed = nI (tn fed)) (hfd6 : tn fed ≤ 60) : Met l yX3_append (ws_ yX3_append cX3_append 2 (some .int)) ({ frames := 2, cells := 0, slots := 0, locals := 34 }) (va_Pc [.ref t, .int (c9)] (jWd Ω (tov Ω t G0 g hi sv as_ inp why now told bef ch hs fed fa ws ns ct st_ pl iw sn) sz)) (jQ Ω (jD (some (.int (r_X3_append fed c9))) (tov Ω t G0 g hi sv as_ (o_X3_append_inp inp fed c9) why now told bef ch hs (o_X3_append_fed fed c9) fa ws ns ct st_ pl iw sn) sz)) 0 0 (jB Ω) := by
  refine jMet (by decide) (Nat.le_of_ble_eq_true rfl) ?_
  intro p e s m args below meth c cx hr hnm
  refine J_loc [some (.ref t), some (.int (c9))] rfl ?_
  refine J_iload_n cx dX3_append_0 rfl ?_
  refine J_bipush (v := nI (32)) cx dX3_append_1 (by decide) ?_
  refine J_bipush (v := nI (126)) cx dX3_append_3 (by decide) ?_
  refine T_callSI cx [.int (c9), .int (nI (32)), .int (nI (126))] (t_X3_in l Ω (c9) (nI (32)) (nI (126))) dX3_append_5 (lw_S q2686 q2687 q93 q2688) hd_X3_in.2 rfl rfl ⟨Nat.le_of_ble_eq_true rfl, Nat.le_of_ble_eq_true rfl⟩ rfl rfl (Nat.le_of_ble_eq_true rfl) ?_
  refine J_if_ne (tgt := 14) cx dX3_append_8 (by decide) (fun c8 => ?_) (fun c8 => ?_)
  · refine J_aload_n cx dX3_append_14 rfl ?_
    refine T_get_fed cx dX3_append_15 ?_
    refine J_top (.int (nI (tn fed))) (congrArg Value.int (hfd)) ?_
    refine J_bipush (v := nI (60)) cx dX3_append_18 (by decide) ?_
    refine J_icmpN_ne (tgt := 26) cx dX3_append_20 (by decide) (by omega) (by omega) (fun c20 => ?_) (fun c20 => ?_)
    · refine J_aload_n cx dX3_append_26 rfl ?_
      refine T_get_inp cx dX3_append_27 ?_
      refine J_aload_n cx dX3_append_30 rfl ?_
      refine T_get_fed cx dX3_append_31 ?_
      refine J_top (.int (nI (tn fed))) (congrArg Value.int (hfd)) ?_
      refine J_iload_n cx dX3_append_34 rfl ?_
      refine T_st_inp cx ht dX3_append_35 (by omega) ?_
      refine J_aload_n cx dX3_append_36 rfl ?_
      refine J_dup cx dX3_append_37 rfl ?_
      refine T_get_fed cx dX3_append_38 ?_
      refine J_top (.int (nI (tn fed))) (congrArg Value.int (hfd)) ?_
      refine J_iconst (v := nI (1)) cx dX3_append_41 (by decide) ?_
      refine J_iaddN cx dX3_append_42 ?_
      refine T_put_fed cx ht dX3_append_43 ?_
      refine J_aload_n cx dX3_append_46 rfl ?_
      refine T_get_fed cx dX3_append_47 ?_
      exact J_iret cx dX3_append_50 hr ⟨congrArg some (congrArg Value.int (by simp only [r_X3_append, o_X3_append_inp, o_X3_append_fed, if_neg c8, if_neg c20])), (tov_cg rfl rfl rfl rfl (by simp only [r_X3_append, o_X3_append_inp, o_X3_append_fed, if_neg c8, if_neg c20]) rfl rfl rfl rfl rfl rfl (by simp only [r_X3_append, o_X3_append_inp, o_X3_append_fed, if_neg c8, if_neg c20]) rfl rfl rfl rfl rfl rfl rfl rfl), rfl⟩ (Nat.le_refl 0) (Nat.le_refl 0)
    · refine J_bipush (v := -4) cx dX3_append_23 (by decide) ?_
      exact J_iret cx dX3_append_25 hr ⟨congrArg some (congrArg Value.int (by simp only [r_X3_append, o_X3_append_inp, o_X3_append_fed, if_neg c8, if_pos c20])), (tov_cg rfl rfl rfl rfl (by simp only [r_X3_append, o_X3_append_inp, o_X3_append_fed, if_neg c8, if_pos c20]) rfl rfl rfl rfl rfl rfl (by simp only [r_X3_append, o_X3_append_inp, o_X3_append_fed, if_neg c8, if_pos c20]) rfl rfl rfl rfl rfl rfl rfl rfl), rfl⟩ (Nat.le_refl 0) (Nat.le_refl 0)
  · refine J_bipush (v := -2) cx dX3_append_11 (by decide) ?_
    exact J_iret cx dX3_append_13 hr ⟨congrArg some (congrArg Value.int (by simp only [r_X3_append, o_X3_append_inp, o_X3_append_fed, if_pos c8])), (tov_cg rfl rfl rfl rfl (by simp only [r_X3_append, o_X3_append_inp, o_X3_append_fed, if_pos c8]) rfl rfl rfl rfl rfl rfl (by simp only [r_X3_append, o_X3_append_inp, o_X3_append_fed, if_pos c8]) rfl rfl rfl rfl rfl rfl rfl rfl), rfl⟩ (Nat.le_refl 0) (Nat.le_refl 0)
def r_X3_fault (fa : Int32) : Int32 := (if fa = (-1) then (-3) else fa)
theorem hd_X3_fault : yX3_fault.cls = RX3 ∧ yX3_fault.cls ≠ "java/lang/invoke/MethodHandle" ∧ yX3_fault.cls ≠ "java/lang/invoke/VarHandle" ∧ (parseMethodDescriptor yX3_fault.desc).map (fun d => d.parameters.length) = some 0 := by decide +kernel
set_option maxHeartbeats 4000000 in
theorem t_X3_fault (l : Launch) (Ω : jO) {t : Nat} {G0 : Mem} {g hi sv as_ inp why now told bef : Nat → Int32} {ch hs fed fa ws ns ct st_ pl iw sn : Int32} {sz : Nat} (ht : Ω.2.2.2 ≤ t)   : Met l yX3_fault (ws_ yX3_fault cX3_fault 1 (some .int)) ({ frames := 1, cells := 0, slots := 0, locals := 12 }) (va_Pc [.ref t] (jWd Ω (tov Ω t G0 g hi sv as_ inp why now told bef ch hs fed fa ws ns ct st_ pl iw sn) sz)) (jQ Ω (jD (some (.int (r_X3_fault fa))) (tov Ω t G0 g hi sv as_ inp why now told bef ch hs fed fa ws ns ct st_ pl iw sn) sz)) 0 0 (jB Ω) := by
  refine jMet (by decide) (Nat.le_of_ble_eq_true rfl) ?_
  intro p e s m args below meth c cx hr hnm
  refine J_loc [some (.ref t)] rfl ?_
  refine J_aload_n cx dX3_fault_0 rfl ?_
  refine T_get_fa cx dX3_fault_1 ?_
  refine J_iconst (v := -1) cx dX3_fault_4 (by decide) ?_
  refine J_icmp_ne (tgt := 13) cx dX3_fault_5 (by decide) (fun c5 => ?_) (fun c5 => ?_)
  · refine J_aload_n cx dX3_fault_13 rfl ?_
    refine T_get_fa cx dX3_fault_14 ?_
    exact J_iret cx dX3_fault_17 hr ⟨congrArg some (congrArg Value.int (by simp only [r_X3_fault, if_neg c5])), rfl, rfl⟩ (Nat.le_refl 0) (Nat.le_refl 0)
  · refine J_bipush (v := -3) cx dX3_fault_8 (by decide) ?_
    refine J_goto (tgt := 17) cx dX3_fault_10 (by decide) ?_
    exact J_iret cx dX3_fault_17 hr ⟨congrArg some (congrArg Value.int (by simp only [r_X3_fault, if_pos c5])), rfl, rfl⟩ (Nat.le_refl 0) (Nat.le_refl 0)
def r_X3_undo (ch : Int32) : Int32 := (if (nI (tn ch)) = 0 then (-3) else (nI ((tn ch) - 1)))
def o_X3_undo_g (g : Nat → Int32) (hi : Nat → Int32) (ch : Int32) : Nat → Int32 := (if (nI (tn ch)) = 0 then g else (va_cpy hi g (((tn ch) - 1) * 1108) 0 1108))
def o_X3_undo_ch (ch : Int32) : Int32 := (if (nI (tn ch)) = 0 then ch else (nI ((tn ch) - 1)))
theorem hd_X3_undo : yX3_undo.cls = RX3 ∧ yX3_undo.cls ≠ "java/lang/invoke/MethodHandle" ∧ yX3_undo.cls ≠ "java/lang/invoke/VarHandle" ∧ (parseMethodDescriptor yX3_undo.desc).map (fun d => d.parameters.length) = some 0 := by decide +kernel
set_option maxHeartbeats 4000000 in
theorem t_X3_undo (l : Launch) (Ω : jO) {t : Nat} {G0 : Mem} {g hi sv as_ inp why now told bef : Nat → Int32} {ch hs fed fa ws ns ct st_ pl iw sn : Int32} {sz : Nat} (ht : Ω.2.2.2 ≤ t)  (hch : ch = nI (tn ch)) (hch8 : tn ch ≤ 8) : Met l yX3_undo (ws_ yX3_undo cX3_undo 1 (some .int)) ({ frames := 2, cells := 0, slots := 0, locals := 36 }) (va_Pc [.ref t] (jWd Ω (tov Ω t G0 g hi sv as_ inp why now told bef ch hs fed fa ws ns ct st_ pl iw sn) sz)) (jQ Ω (jD (some (.int (r_X3_undo ch))) (tov Ω t G0 (o_X3_undo_g g hi ch) hi sv as_ inp why now told bef (o_X3_undo_ch ch) hs fed fa ws ns ct st_ pl iw sn) sz)) 0 0 (jB Ω) := by
  refine jMet (by decide) (Nat.le_of_ble_eq_true rfl) ?_
  intro p e s m args below meth c cx hr hnm
  refine J_loc [some (.ref t)] rfl ?_
  refine J_aload_n cx dX3_undo_0 rfl ?_
  refine T_get_ch cx dX3_undo_1 ?_
  refine J_top (.int (nI (tn ch))) (congrArg Value.int (hch)) ?_
  refine J_if_ne (tgt := 10) cx dX3_undo_4 (by decide) (fun c4 => ?_) (fun c4 => ?_)
  · have hch1 := nI_pos1 c4
    refine J_aload_n cx dX3_undo_10 rfl ?_
    refine J_dup cx dX3_undo_11 rfl ?_
    refine T_get_ch cx dX3_undo_12 ?_
    refine J_top (.int (nI (tn ch))) (congrArg Value.int (hch)) ?_
    refine J_iconst (v := nI (1)) cx dX3_undo_15 (by decide) ?_
    refine J_isubN cx dX3_undo_16 (by omega) ?_
    refine T_put_ch cx ht dX3_undo_17 ?_
    refine J_aload_n cx dX3_undo_20 rfl ?_
    refine T_get_hi cx dX3_undo_21 ?_
    refine J_aload_n cx dX3_undo_24 rfl ?_
    refine T_get_ch cx dX3_undo_25 ?_
    refine J_sipush (v := nI (1108)) cx dX3_undo_28 (by decide) ?_
    refine J_imulN cx dX3_undo_31 ?_
    refine J_aload_n cx dX3_undo_32 rfl ?_
    refine T_get_g cx dX3_undo_33 ?_
    refine J_iconst (v := nI (0)) cx dX3_undo_36 (by decide) ?_
    refine T_callSV cx [.ref (t + 2), .int (nI (((tn ch) - 1) * 1108)), .ref (t + 1), .int (nI (0))] (t_copy_hi_g l Ω ht (((tn ch) - 1) * 1108) (0) (by omega) (by omega)) dX3_undo_37 (lw_S q2701 q2702 q93 q2703) hd_X3_copy.2 rfl rfl ⟨Nat.le_of_ble_eq_true rfl, Nat.le_of_ble_eq_true rfl⟩ rfl rfl (Nat.le_of_ble_eq_true rfl) ?_
    refine J_aload_n cx dX3_undo_40 rfl ?_
    refine T_get_ch cx dX3_undo_41 ?_
    exact J_iret cx dX3_undo_44 hr ⟨congrArg some (congrArg Value.int (by simp only [r_X3_undo, o_X3_undo_g, o_X3_undo_ch, if_neg c4])), (tov_cg (by simp only [r_X3_undo, o_X3_undo_g, o_X3_undo_ch, if_neg c4]) rfl rfl rfl rfl rfl rfl rfl rfl (by simp only [r_X3_undo, o_X3_undo_g, o_X3_undo_ch, if_neg c4]) rfl rfl rfl rfl rfl rfl rfl rfl rfl rfl), rfl⟩ (Nat.le_refl 0) (Nat.le_refl 0)
  · refine J_bipush (v := -3) cx dX3_undo_7 (by decide) ?_
    exact J_iret cx dX3_undo_9 hr ⟨congrArg some (congrArg Value.int (by simp only [r_X3_undo, o_X3_undo_g, o_X3_undo_ch, if_pos c4])), (tov_cg (by simp only [r_X3_undo, o_X3_undo_g, o_X3_undo_ch, if_pos c4]) rfl rfl rfl rfl rfl rfl rfl rfl (by simp only [r_X3_undo, o_X3_undo_g, o_X3_undo_ch, if_pos c4]) rfl rfl rfl rfl rfl rfl rfl rfl rfl rfl), rfl⟩ (Nat.le_refl 0) (Nat.le_refl 0)
theorem hd_X3_save : yX3_save.cls = RX3 ∧ yX3_save.cls ≠ "java/lang/invoke/MethodHandle" ∧ yX3_save.cls ≠ "java/lang/invoke/VarHandle" ∧ (parseMethodDescriptor yX3_save.desc).map (fun d => d.parameters.length) = some 0 := by decide +kernel
set_option maxHeartbeats 4000000 in
theorem t_X3_save (l : Launch) (Ω : jO) {t : Nat} {G0 : Mem} {g hi sv as_ inp why now told bef : Nat → Int32} {ch hs fed fa ws ns ct st_ pl iw sn : Int32} {sz : Nat} (ht : Ω.2.2.2 ≤ t)   : Met l yX3_save (ws_ yX3_save cX3_save 1 (some .int)) ({ frames := 2, cells := 0, slots := 0, locals := 36 }) (va_Pc [.ref t] (jWd Ω (tov Ω t G0 g hi sv as_ inp why now told bef ch hs fed fa ws ns ct st_ pl iw sn) sz)) (jQ Ω (jD (some (.int ((g (2))))) (tov Ω t G0 g hi (va_cpy g sv 0 0 1108) as_ inp why now told bef ch (nI (1)) fed fa ws ns ct st_ pl iw sn) sz)) 0 0 (jB Ω) := by
  refine jMet (by decide) (Nat.le_of_ble_eq_true rfl) ?_
  intro p e s m args below meth c cx hr hnm
  refine J_loc [some (.ref t)] rfl ?_
  refine J_aload_n cx dX3_save_0 rfl ?_
  refine T_get_g cx dX3_save_1 ?_
  refine J_iconst (v := nI (0)) cx dX3_save_4 (by decide) ?_
  refine J_aload_n cx dX3_save_5 rfl ?_
  refine T_get_sv cx dX3_save_6 ?_
  refine J_iconst (v := nI (0)) cx dX3_save_9 (by decide) ?_
  refine T_callSV cx [.ref (t + 1), .int (nI (0)), .ref (t + 3), .int (nI (0))] (t_copy_g_sv l Ω ht (0) (0) (by omega) (by omega)) dX3_save_10 (lw_S q2701 q2702 q93 q2703) hd_X3_copy.2 rfl rfl ⟨Nat.le_of_ble_eq_true rfl, Nat.le_of_ble_eq_true rfl⟩ rfl rfl (Nat.le_of_ble_eq_true rfl) ?_
  refine J_aload_n cx dX3_save_13 rfl ?_
  refine J_iconst (v := nI (1)) cx dX3_save_14 (by decide) ?_
  refine T_put_hs cx ht (by decide) dX3_save_15 ?_
  refine J_aload_n cx dX3_save_18 rfl ?_
  refine T_get_g cx dX3_save_19 ?_
  refine J_iconst (v := nI (2)) cx dX3_save_22 (by decide) ?_
  refine T_ld_g cx dX3_save_23 (by omega) ?_
  exact J_iret cx dX3_save_24 hr ⟨congrArg some (congrArg Value.int rfl), rfl, rfl⟩ (Nat.le_refl 0) (Nat.le_refl 0)
def r_X3_restore (g : Nat → Int32) (sv : Nat → Int32) (hs : Int32) : Int32 := (if hs = 0 then (-3) else ((va_cpy sv g 0 0 1108) (2)))
def o_X3_restore_g (g : Nat → Int32) (sv : Nat → Int32) (hs : Int32) : Nat → Int32 := (if hs = 0 then g else (va_cpy sv g 0 0 1108))
def o_X3_restore_ch (ch : Int32) (hs : Int32) : Int32 := (if hs = 0 then ch else (nI (0)))
theorem hd_X3_restore : yX3_restore.cls = RX3 ∧ yX3_restore.cls ≠ "java/lang/invoke/MethodHandle" ∧ yX3_restore.cls ≠ "java/lang/invoke/VarHandle" ∧ (parseMethodDescriptor yX3_restore.desc).map (fun d => d.parameters.length) = some 0 := by decide +kernel
set_option maxHeartbeats 4000000 in
theorem t_X3_restore (l : Launch) (Ω : jO) {t : Nat} {G0 : Mem} {g hi sv as_ inp why now told bef : Nat → Int32} {ch hs fed fa ws ns ct st_ pl iw sn : Int32} {sz : Nat} (ht : Ω.2.2.2 ≤ t)   : Met l yX3_restore (ws_ yX3_restore cX3_restore 1 (some .int)) ({ frames := 2, cells := 0, slots := 0, locals := 36 }) (va_Pc [.ref t] (jWd Ω (tov Ω t G0 g hi sv as_ inp why now told bef ch hs fed fa ws ns ct st_ pl iw sn) sz)) (jQ Ω (jD (some (.int (r_X3_restore g sv hs))) (tov Ω t G0 (o_X3_restore_g g sv hs) hi sv as_ inp why now told bef (o_X3_restore_ch ch hs) hs fed fa ws ns ct st_ pl iw sn) sz)) 0 0 (jB Ω) := by
  refine jMet (by decide) (Nat.le_of_ble_eq_true rfl) ?_
  intro p e s m args below meth c cx hr hnm
  refine J_loc [some (.ref t)] rfl ?_
  refine J_aload_n cx dX3_restore_0 rfl ?_
  refine T_get_hs cx dX3_restore_1 ?_
  refine J_if_ne (tgt := 10) cx dX3_restore_4 (by decide) (fun c4 => ?_) (fun c4 => ?_)
  · refine J_aload_n cx dX3_restore_10 rfl ?_
    refine T_get_sv cx dX3_restore_11 ?_
    refine J_iconst (v := nI (0)) cx dX3_restore_14 (by decide) ?_
    refine J_aload_n cx dX3_restore_15 rfl ?_
    refine T_get_g cx dX3_restore_16 ?_
    refine J_iconst (v := nI (0)) cx dX3_restore_19 (by decide) ?_
    refine T_callSV cx [.ref (t + 3), .int (nI (0)), .ref (t + 1), .int (nI (0))] (t_copy_sv_g l Ω ht (0) (0) (by omega) (by omega)) dX3_restore_20 (lw_S q2701 q2702 q93 q2703) hd_X3_copy.2 rfl rfl ⟨Nat.le_of_ble_eq_true rfl, Nat.le_of_ble_eq_true rfl⟩ rfl rfl (Nat.le_of_ble_eq_true rfl) ?_
    refine J_aload_n cx dX3_restore_23 rfl ?_
    refine J_iconst (v := nI (0)) cx dX3_restore_24 (by decide) ?_
    refine T_put_ch cx ht dX3_restore_25 ?_
    refine J_aload_n cx dX3_restore_28 rfl ?_
    refine T_get_g cx dX3_restore_29 ?_
    refine J_iconst (v := nI (2)) cx dX3_restore_32 (by decide) ?_
    refine T_ld_g cx dX3_restore_33 (by omega) ?_
    exact J_iret cx dX3_restore_34 hr ⟨congrArg some (congrArg Value.int (by simp only [r_X3_restore, o_X3_restore_g, o_X3_restore_ch, if_neg c4])), (tov_cg (by simp only [r_X3_restore, o_X3_restore_g, o_X3_restore_ch, if_neg c4]) rfl rfl rfl rfl rfl rfl rfl rfl (by simp only [r_X3_restore, o_X3_restore_g, o_X3_restore_ch, if_neg c4]) rfl rfl rfl rfl rfl rfl rfl rfl rfl rfl), rfl⟩ (Nat.le_refl 0) (Nat.le_refl 0)
  · refine J_bipush (v := -3) cx dX3_restore_7 (by decide) ?_
    exact J_iret cx dX3_restore_9 hr ⟨congrArg some (congrArg Value.int (by simp only [r_X3_restore, o_X3_restore_g, o_X3_restore_ch, if_pos c4])), (tov_cg (by simp only [r_X3_restore, o_X3_restore_g, o_X3_restore_ch, if_pos c4]) rfl rfl rfl rfl rfl rfl rfl rfl (by simp only [r_X3_restore, o_X3_restore_g, o_X3_restore_ch, if_pos c4]) rfl rfl rfl rfl rfl rfl rfl rfl rfl rfl), rfl⟩ (Nat.le_refl 0) (Nat.le_refl 0)
def o_X3_takes_g (g : Nat → Int32) (p9 : Nat) : Nat → Int32 := (upd (upd (upd (upd g ((50 + (13 * p9)) + 0) (nI (1))) (38) (nI (p9))) (39) ((nI (1)) + (((g ((50 + (13 * p9)) + 2)) * (nI (6))) / ((g (34 + (tn (g ((50 + (13 * p9)) + 1))))) + (nI (2)))))) (40) (nI (tn (g ((50 + (13 * p9)) + 1)))))
theorem hd_X3_takes : yX3_takes.cls = RX3 ∧ yX3_takes.cls ≠ "java/lang/invoke/MethodHandle" ∧ yX3_takes.cls ≠ "java/lang/invoke/VarHandle" ∧ (parseMethodDescriptor yX3_takes.desc).map (fun d => d.parameters.length) = some 1 := by decide +kernel
set_option maxHeartbeats 4000000 in
theorem t_X3_takes (l : Launch) (Ω : jO) {t : Nat} {G0 : Mem} {g hi sv as_ inp why now told bef : Nat → Int32} {ch hs fed fa ws ns ct st_ pl iw sn : Int32} {sz : Nat} (ht : Ω.2.2.2 ≤ t) (p9 : Nat) (hp : p9 < 16) (hq : nat_ g ((50 + (13 * p9)) + 1) 3) (hsk : ¬ (g (34 + tn (g ((50 + (13 * p9)) + 1)))) + (nI (2)) = 0) : Met l yX3_takes (ws_ yX3_takes cX3_takes 3 (none)) ({ frames := 2, cells := 0, slots := 0, locals := 32 }) (va_Pc [.ref t, .int (nI (p9))] (jWd Ω (tov Ω t G0 g hi sv as_ inp why now told bef ch hs fed fa ws ns ct st_ pl iw sn) sz)) (jQ Ω (jD none (tov Ω t G0 (o_X3_takes_g g p9) hi sv as_ inp why now told bef ch hs fed fa ws ns ct st_ pl iw sn) sz)) 0 0 (jB Ω) := by
  refine jMet (by decide) (Nat.le_of_ble_eq_true rfl) ?_
  intro p e s m args below meth c cx hr hnm
  refine J_loc [some (.ref t), some (.int (nI (p9))), none] rfl ?_
  have hq2 := hq.2
  refine J_aload_n cx dX3_takes_0 rfl ?_
  refine T_get_g cx dX3_takes_1 ?_
  refine J_iload_n cx dX3_takes_4 rfl ?_
  refine T_callSI cx [.int (nI (p9))] (t_X3_at l Ω (p9)) dX3_takes_5 (lw_S q2736 q2737 q93 q2738) hd_X3_at.2 rfl rfl ⟨Nat.le_of_ble_eq_true rfl, Nat.le_of_ble_eq_true rfl⟩ rfl rfl (Nat.le_of_ble_eq_true rfl) ?_
  refine J_iconst (v := nI (1)) cx dX3_takes_8 (by decide) ?_
  refine J_iaddN cx dX3_takes_9 ?_
  refine T_ld_g cx dX3_takes_10 (by omega) ?_
  refine J_top (.int (nI (tn (g ((50 + (13 * p9)) + 1))))) (congrArg Value.int (hq.1)) ?_
  refine J_istore_n2 cx dX3_takes_11 (by decide) rfl ?_
  refine J_aload_n cx dX3_takes_12 rfl ?_
  refine T_get_g cx dX3_takes_13 ?_
  refine J_iload_n cx dX3_takes_16 rfl ?_
  refine T_callSI cx [.int (nI (p9))] (t_X3_at l Ω (p9)) dX3_takes_17 (lw_S q2736 q2737 q93 q2738) hd_X3_at.2 rfl rfl ⟨Nat.le_of_ble_eq_true rfl, Nat.le_of_ble_eq_true rfl⟩ rfl rfl (Nat.le_of_ble_eq_true rfl) ?_
  refine J_iconst (v := nI (0)) cx dX3_takes_20 (by decide) ?_
  refine J_iaddN cx dX3_takes_21 ?_
  refine J_iconst (v := nI (1)) cx dX3_takes_22 (by decide) ?_
  refine T_st_g cx ht dX3_takes_23 (by omega) ?_
  refine J_aload_n cx dX3_takes_24 rfl ?_
  refine T_get_g cx dX3_takes_25 ?_
  refine J_bipush (v := nI (38)) cx dX3_takes_28 (by decide) ?_
  refine J_iload_n cx dX3_takes_30 rfl ?_
  refine T_st_g cx ht dX3_takes_31 (by omega) ?_
  refine J_aload_n cx dX3_takes_32 rfl ?_
  refine T_get_g cx dX3_takes_33 ?_
  refine J_bipush (v := nI (39)) cx dX3_takes_36 (by decide) ?_
  refine J_iconst (v := nI (1)) cx dX3_takes_38 (by decide) ?_
  refine J_aload_n cx dX3_takes_39 rfl ?_
  refine T_get_g cx dX3_takes_40 ?_
  refine J_iload_n cx dX3_takes_43 rfl ?_
  refine T_callSI cx [.int (nI (p9))] (t_X3_at l Ω (p9)) dX3_takes_44 (lw_S q2736 q2737 q93 q2738) hd_X3_at.2 rfl rfl ⟨Nat.le_of_ble_eq_true rfl, Nat.le_of_ble_eq_true rfl⟩ rfl rfl (Nat.le_of_ble_eq_true rfl) ?_
  refine J_iconst (v := nI (2)) cx dX3_takes_47 (by decide) ?_
  refine J_iaddN cx dX3_takes_48 ?_
  refine T_ld_g cx dX3_takes_49 (by omega) ?_
  refine J_top (.int (g ((50 + (13 * p9)) + 2))) (congrArg Value.int ((pk_un (by omega)).trans ((pk_un (by omega)).trans (rfl)))) ?_
  refine J_bipush (v := nI (6)) cx dX3_takes_50 (by decide) ?_
  refine J_imul cx dX3_takes_52 ?_
  refine J_aload_n cx dX3_takes_53 rfl ?_
  refine T_get_g cx dX3_takes_54 ?_
  refine J_bipush (v := nI (34)) cx dX3_takes_57 (by decide) ?_
  refine J_iload_n cx dX3_takes_59 rfl ?_
  refine J_iaddN cx dX3_takes_60 ?_
  refine T_ld_g cx dX3_takes_61 (by omega) ?_
  refine J_top (.int (g (34 + (tn (g ((50 + (13 * p9)) + 1)))))) (congrArg Value.int ((pk_un (by omega)).trans ((pk_un (by omega)).trans (rfl)))) ?_
  refine J_iconst (v := nI (2)) cx dX3_takes_62 (by decide) ?_
  refine J_iadd cx dX3_takes_63 ?_
  refine J_idiv cx dX3_takes_64 hsk ?_
  refine J_iadd cx dX3_takes_65 ?_
  refine T_st_g cx ht dX3_takes_66 (by omega) ?_
  refine J_aload_n cx dX3_takes_67 rfl ?_
  refine T_get_g cx dX3_takes_68 ?_
  refine J_bipush (v := nI (40)) cx dX3_takes_71 (by decide) ?_
  refine J_iload_n cx dX3_takes_73 rfl ?_
  refine T_st_g cx ht dX3_takes_74 (by omega) ?_
  exact J_vret cx dX3_takes_75 hr ⟨rfl, (tov_cg (by simp only [o_X3_takes_g]) rfl rfl rfl rfl rfl rfl rfl rfl rfl rfl rfl rfl rfl rfl rfl rfl rfl rfl rfl), rfl⟩ (Nat.le_refl 0) (Nat.le_refl 0)
def S_nextOfRow (g : Nat → Int32) : Nat → Int32 × Int32
  | 0 => ((-1), (-1))
  | d1 + 1 => (if (g ((50 + (13 * (tn (g (2)) - (d1 + 1)))) + 0)) = 0 then (if (g ((50 + (13 * (tn (g (2)) - (d1 + 1)))) + 1)) = (g (40)) then ((nI ((tn (g (2)) - (d1 + 1)))), ((S_nextOfRow g d1).2)) else ((nI ((tn (g (2)) - (d1 + 1)))), (nI ((tn (g (2)) - (d1 + 1)))))) else (((S_nextOfRow g d1).1), ((S_nextOfRow g d1).2)))
def r_X3_nextOfRow (g : Nat → Int32) : Int32 := (if ((S_nextOfRow g (tn (g (2)))).2) = (-1) then ((S_nextOfRow g (tn (g (2)))).1) else ((S_nextOfRow g (tn (g (2)))).2))
theorem hd_X3_nextOfRow : yX3_nextOfRow.cls = RX3 ∧ yX3_nextOfRow.cls ≠ "java/lang/invoke/MethodHandle" ∧ yX3_nextOfRow.cls ≠ "java/lang/invoke/VarHandle" ∧ (parseMethodDescriptor yX3_nextOfRow.desc).map (fun d => d.parameters.length) = some 0 := by decide +kernel
set_option maxHeartbeats 4000000 in
theorem t_X3_nextOfRow (l : Launch) (Ω : jO) {t : Nat} {G0 : Mem} {g hi sv as_ inp why now told bef : Nat → Int32} {ch hs fed fa ws ns ct st_ pl iw sn : Int32} {sz : Nat} (ht : Ω.2.2.2 ≤ t)  (hn2 : g 2 = nI (tn (g 2))) (hn16 : tn (g 2) ≤ 16) : Met l yX3_nextOfRow (ws_ yX3_nextOfRow cX3_nextOfRow 4 (some .int)) ({ frames := 2, cells := 0, slots := 0, locals := 32 }) (va_Pc [.ref t] (jWd Ω (tov Ω t G0 g hi sv as_ inp why now told bef ch hs fed fa ws ns ct st_ pl iw sn) sz)) (jQ Ω (jD (some (.int (r_X3_nextOfRow g))) (tov Ω t G0 g hi sv as_ inp why now told bef ch hs fed fa ws ns ct st_ pl iw sn) sz)) 0 0 (jB Ω) := by
  refine jMet (by decide) (Nat.le_of_ble_eq_true rfl) ?_
  intro p e s m args below meth c cx hr hnm
  refine J_loc [some (.ref t), none, none, none] rfl ?_
  refine J_iconst (v := -1) cx dX3_nextOfRow_0 (by decide) ?_
  refine J_istore_n1 cx dX3_nextOfRow_1 (by decide) rfl ?_
  refine J_iconst (v := -1) cx dX3_nextOfRow_2 (by decide) ?_
  refine J_istore_n2 cx dX3_nextOfRow_3 (by decide) rfl ?_
  refine J_aload_n cx dX3_nextOfRow_4 rfl ?_
  refine T_get_g cx dX3_nextOfRow_5 ?_
  refine J_iconst (v := nI (2)) cx dX3_nextOfRow_8 (by decide) ?_
  refine T_ld_g cx dX3_nextOfRow_9 (by omega) ?_
  refine J_top (.int (nI (tn (g (2))))) (congrArg Value.int (hn2)) ?_
  refine J_iconst (v := nI (1)) cx dX3_nextOfRow_10 (by decide) ?_
  refine J_isub cx dX3_nextOfRow_11 ?_
  refine J_istore_n3 cx dX3_nextOfRow_12 (by decide) rfl ?_
  have loop13 : ∀ (k1 d1 : Nat), k1 + d1 = (tn (g (2))) → J p l e ({ frames := 2, cells := 0, slots := 0, locals := 32 } : Room) s m args below meth c Ω 4 (MQ below (jQ Ω (jD (some (.int (r_X3_nextOfRow g))) (tov Ω t G0 g hi sv as_ inp why now told bef ch hs fed fa ws ns ct st_ pl iw sn) sz)) args s 0 0 (jB Ω)) 0 0 sz (tov Ω t G0 g hi sv as_ inp why now told bef ch hs fed fa ws ns ct st_ pl iw sn) 13 [some (.ref t), some (.int ((S_nextOfRow g d1).1)), some (.int ((S_nextOfRow g d1).2)), some (.int (nI k1 - nI (1)))] [] := by
    intro k1
    induction k1 with
    | zero =>
      intro d1 hk1 
      have hd9 : d1 = tn (g (2)) := by omega
      subst hd9
      refine J_loc [some (.ref t), some (.int ((S_nextOfRow g (tn (g (2)))).1)), some (.int ((S_nextOfRow g (tn (g (2)))).2)), some (.int (-1))] rfl ?_
      refine J_iload_n cx dX3_nextOfRow_13 rfl ?_
      refine J_if_lt (tgt := 66) cx dX3_nextOfRow_14 (by decide) (fun c14 => ?_) (fun c14 => absurd (by decide) c14)
      refine J_iload_n cx dX3_nextOfRow_66 rfl ?_
      refine J_iconst (v := -1) cx dX3_nextOfRow_67 (by decide) ?_
      refine J_icmp_ne (tgt := 75) cx dX3_nextOfRow_68 (by decide) (fun c68 => ?_) (fun c68 => ?_)
      · refine J_iload_n cx dX3_nextOfRow_75 rfl ?_
        exact J_iret cx dX3_nextOfRow_76 hr ⟨congrArg some (congrArg Value.int (by simp only [r_X3_nextOfRow, if_neg c68])), rfl, rfl⟩ (Nat.le_refl 0) (Nat.le_refl 0)
      · refine J_iload_n cx dX3_nextOfRow_71 rfl ?_
        refine J_goto (tgt := 76) cx dX3_nextOfRow_72 (by decide) ?_
        exact J_iret cx dX3_nextOfRow_76 hr ⟨congrArg some (congrArg Value.int (by simp only [r_X3_nextOfRow, if_pos c68])), rfl, rfl⟩ (Nat.le_refl 0) (Nat.le_refl 0)
    | succ k1 ih =>
      intro d1 hk1 
      have hkd : (tn (g (2))) - (d1 + 1) = k1 := by omega
      refine J_loc [some (.ref t), some (.int ((S_nextOfRow g d1).1)), some (.int ((S_nextOfRow g d1).2)), some (.int (nI (k1)))] (by rw [← nI_pred k1]; rfl) ?_
      refine J_iload_n cx dX3_nextOfRow_13 rfl ?_
      refine J_if_lt (tgt := 66) cx dX3_nextOfRow_14 (by decide) (fun c14 => absurd c14 (nI_pos (by omega))) (fun c14 => ?_)
      refine J_aload_n cx dX3_nextOfRow_17 rfl ?_
      refine T_get_g cx dX3_nextOfRow_18 ?_
      refine J_iload_n cx dX3_nextOfRow_21 rfl ?_
      refine T_callSI cx [.int (nI (k1))] (t_X3_at l Ω (k1)) dX3_nextOfRow_22 (lw_S q2736 q2737 q93 q2738) hd_X3_at.2 rfl rfl ⟨Nat.le_of_ble_eq_true rfl, Nat.le_of_ble_eq_true rfl⟩ rfl rfl (Nat.le_of_ble_eq_true rfl) ?_
      refine J_iconst (v := nI (0)) cx dX3_nextOfRow_25 (by decide) ?_
      refine J_iaddN cx dX3_nextOfRow_26 ?_
      refine T_ld_g cx dX3_nextOfRow_27 (by omega) ?_
      refine J_if_ne (tgt := 60) cx dX3_nextOfRow_28 (by decide) (fun c28 => ?_) (fun c28 => ?_)
      · refine J_iinc3 (v := nI k1 - nI (1)) cx dX3_nextOfRow_60 (jdec _) (by decide) rfl ?_
        refine J_goto (tgt := 13) cx dX3_nextOfRow_63 (by decide) ?_
        refine J_sub (L1 := [some (.ref t), some (.int ((S_nextOfRow g (d1 + 1)).1)), some (.int ((S_nextOfRow g (d1 + 1)).2)), some (.int (nI k1 - nI (1)))]) (jsub_s (jsub_e (congrArg Value.int (by simp only [S_nextOfRow, hkd, if_neg c28])) (jsub_e (congrArg Value.int (by simp only [S_nextOfRow, hkd, if_neg c28])) (jsub_s jsub_0)))) ?_
        exact ih (d1 + 1) (by omega) 
      · refine J_iload_n cx dX3_nextOfRow_31 rfl ?_
        refine J_istore_n1 cx dX3_nextOfRow_32 (by decide) rfl ?_
        refine J_aload_n cx dX3_nextOfRow_33 rfl ?_
        refine T_get_g cx dX3_nextOfRow_34 ?_
        refine J_iload_n cx dX3_nextOfRow_37 rfl ?_
        refine T_callSI cx [.int (nI (k1))] (t_X3_at l Ω (k1)) dX3_nextOfRow_38 (lw_S q2736 q2737 q93 q2738) hd_X3_at.2 rfl rfl ⟨Nat.le_of_ble_eq_true rfl, Nat.le_of_ble_eq_true rfl⟩ rfl rfl (Nat.le_of_ble_eq_true rfl) ?_
        refine J_iconst (v := nI (1)) cx dX3_nextOfRow_41 (by decide) ?_
        refine J_iaddN cx dX3_nextOfRow_42 ?_
        refine T_ld_g cx dX3_nextOfRow_43 (by omega) ?_
        refine J_aload_n cx dX3_nextOfRow_44 rfl ?_
        refine T_get_g cx dX3_nextOfRow_45 ?_
        refine J_bipush (v := nI (40)) cx dX3_nextOfRow_48 (by decide) ?_
        refine T_ld_g cx dX3_nextOfRow_50 (by omega) ?_
        refine J_icmp_eq (tgt := 58) cx dX3_nextOfRow_51 (by decide) (fun c51 => ?_) (fun c51 => ?_)
        · refine J_iload_n cx dX3_nextOfRow_58 rfl ?_
          refine J_istore_n2 cx dX3_nextOfRow_59 (by decide) rfl ?_
          refine J_iinc3 (v := nI k1 - nI (1)) cx dX3_nextOfRow_60 (jdec _) (by decide) rfl ?_
          refine J_goto (tgt := 13) cx dX3_nextOfRow_63 (by decide) ?_
          refine J_sub (L1 := [some (.ref t), some (.int ((S_nextOfRow g (d1 + 1)).1)), some (.int ((S_nextOfRow g (d1 + 1)).2)), some (.int (nI k1 - nI (1)))]) (jsub_s (jsub_e (congrArg Value.int (by simp only [S_nextOfRow, hkd, if_pos c28, if_pos c51])) (jsub_e (congrArg Value.int (by simp only [S_nextOfRow, hkd, if_pos c28, if_pos c51])) (jsub_s jsub_0)))) ?_
          exact ih (d1 + 1) (by omega) 
        · refine J_iload_n cx dX3_nextOfRow_54 rfl ?_
          refine J_goto (tgt := 59) cx dX3_nextOfRow_55 (by decide) ?_
          refine J_istore_n2 cx dX3_nextOfRow_59 (by decide) rfl ?_
          refine J_iinc3 (v := nI k1 - nI (1)) cx dX3_nextOfRow_60 (jdec _) (by decide) rfl ?_
          refine J_goto (tgt := 13) cx dX3_nextOfRow_63 (by decide) ?_
          refine J_sub (L1 := [some (.ref t), some (.int ((S_nextOfRow g (d1 + 1)).1)), some (.int ((S_nextOfRow g (d1 + 1)).2)), some (.int (nI k1 - nI (1)))]) (jsub_s (jsub_e (congrArg Value.int (by simp only [S_nextOfRow, hkd, if_pos c28, if_neg c51])) (jsub_e (congrArg Value.int (by simp only [S_nextOfRow, hkd, if_pos c28, if_neg c51])) (jsub_s jsub_0)))) ?_
          exact ih (d1 + 1) (by omega) 
  refine J_sub (L1 := [some (.ref t), some (.int ((S_nextOfRow g 0).1)), some (.int ((S_nextOfRow g 0).2)), some (.int (nI (tn (g (2))) - nI (1)))]) (jsub_s (jsub_e (congrArg Value.int rfl) (jsub_e (congrArg Value.int rfl) (jsub_e (congrArg Value.int rfl) jsub_0)))) ?_
  exact loop13 (tn (g (2))) 0 (by omega) 
def w_dr1 (g : Nat → Int32) (p9 : Nat) : Int32 := if g ((50 + (13 * p9)) + 5) = nI (1) then (g (10 + (tn (g (0)) % 24))) / (nI (2)) else g (10 + (tn (g (0)) % 24))
def o_X3_dries_g (g : Nat → Int32) (p9 : Nat) : Nat → Int32 := (if 400 < (tn (g (0))) then (if (FP.f2i (FP.fmul (r_X3_loss ((g ((50 + (13 * p9)) + 11)).toUInt32) (w_dr1 g p9) (g ((50 + (13 * p9)) + 3))) 1148846080)) ≤ ((g (8)) + ((nI (10)) * (g ((50 + (13 * p9)) + 3)))) then (if (g ((50 + (13 * p9)) + 4)) = (nI (3)) then (upd (upd (upd g ((50 + (13 * p9)) + 11) (((FP.fsub ((g ((50 + (13 * p9)) + 11)).toUInt32) (r_X3_loss ((g ((50 + (13 * p9)) + 11)).toUInt32) (w_dr1 g p9) (g ((50 + (13 * p9)) + 3)))).toInt32))) ((50 + (13 * p9)) + 9) ((g ((50 + (13 * p9)) + 9)) + (nI (1)))) ((50 + (13 * p9)) + 0) (nI (7))) else (if 0 ≤ (Op.cmpValue (FP.fcmp (FP.fsub ((g ((50 + (13 * p9)) + 11)).toUInt32) (r_X3_loss ((g ((50 + (13 * p9)) + 11)).toUInt32) (w_dr1 g p9) (g ((50 + (13 * p9)) + 3)))) 1036831949) .g) then (upd (upd g ((50 + (13 * p9)) + 11) (((FP.fsub ((g ((50 + (13 * p9)) + 11)).toUInt32) (r_X3_loss ((g ((50 + (13 * p9)) + 11)).toUInt32) (w_dr1 g p9) (g ((50 + (13 * p9)) + 3)))).toInt32))) ((50 + (13 * p9)) + 9) ((g ((50 + (13 * p9)) + 9)) + (nI (1)))) else (upd (upd (upd g ((50 + (13 * p9)) + 11) (((FP.fsub ((g ((50 + (13 * p9)) + 11)).toUInt32) (r_X3_loss ((g ((50 + (13 * p9)) + 11)).toUInt32) (w_dr1 g p9) (g ((50 + (13 * p9)) + 3)))).toInt32))) ((50 + (13 * p9)) + 9) ((g ((50 + (13 * p9)) + 9)) + (nI (1)))) ((50 + (13 * p9)) + 0) (nI (3))))) else (if ((g ((50 + (13 * p9)) + 4)) + (nI (1))) = (nI (3)) then (upd (upd (upd (upd g ((50 + (13 * p9)) + 11) (((FP.fsub ((g ((50 + (13 * p9)) + 11)).toUInt32) (r_X3_loss ((g ((50 + (13 * p9)) + 11)).toUInt32) (w_dr1 g p9) (g ((50 + (13 * p9)) + 3)))).toInt32))) ((50 + (13 * p9)) + 9) ((g ((50 + (13 * p9)) + 9)) + (nI (1)))) ((50 + (13 * p9)) + 4) ((g ((50 + (13 * p9)) + 4)) + (nI (1)))) ((50 + (13 * p9)) + 0) (nI (7))) else (if 0 ≤ (Op.cmpValue (FP.fcmp (FP.fsub ((g ((50 + (13 * p9)) + 11)).toUInt32) (r_X3_loss ((g ((50 + (13 * p9)) + 11)).toUInt32) (w_dr1 g p9) (g ((50 + (13 * p9)) + 3)))) 1036831949) .g) then (upd (upd (upd g ((50 + (13 * p9)) + 11) (((FP.fsub ((g ((50 + (13 * p9)) + 11)).toUInt32) (r_X3_loss ((g ((50 + (13 * p9)) + 11)).toUInt32) (w_dr1 g p9) (g ((50 + (13 * p9)) + 3)))).toInt32))) ((50 + (13 * p9)) + 9) ((g ((50 + (13 * p9)) + 9)) + (nI (1)))) ((50 + (13 * p9)) + 4) ((g ((50 + (13 * p9)) + 4)) + (nI (1)))) else (upd (upd (upd (upd g ((50 + (13 * p9)) + 11) (((FP.fsub ((g ((50 + (13 * p9)) + 11)).toUInt32) (r_X3_loss ((g ((50 + (13 * p9)) + 11)).toUInt32) (w_dr1 g p9) (g ((50 + (13 * p9)) + 3)))).toInt32))) ((50 + (13 * p9)) + 9) ((g ((50 + (13 * p9)) + 9)) + (nI (1)))) ((50 + (13 * p9)) + 4) ((g ((50 + (13 * p9)) + 4)) + (nI (1)))) ((50 + (13 * p9)) + 0) (nI (3)))))) else (if (FP.f2i (FP.fmul (r_X3_loss ((g ((50 + (13 * p9)) + 11)).toUInt32) (w_dr1 g p9) (g ((50 + (13 * p9)) + 3))) 1148846080)) ≤ ((g (8)) + ((nI (10)) * (g ((50 + (13 * p9)) + 3)))) then (if (g ((50 + (13 * p9)) + 4)) = (nI (3)) then (upd (upd (upd (upd (upd g ((50 + (13 * p9)) + 11) (((FP.fsub ((g ((50 + (13 * p9)) + 11)).toUInt32) (r_X3_loss ((g ((50 + (13 * p9)) + 11)).toUInt32) (w_dr1 g p9) (g ((50 + (13 * p9)) + 3)))).toInt32))) ((50 + (13 * p9)) + 9) ((g ((50 + (13 * p9)) + 9)) + (nI (1)))) (306 + (tn (g (0)))) (g (10 + ((tn (g (0))) % 24)))) (707 + (tn (g (0)))) ((g (707 + (tn (g (0))))) ||| (((nI (1)) <<< ((nI (p9)) &&& 31)) ||| ((g ((50 + (13 * p9)) + 5)) <<< ((nI (16 + p9)) &&& 31))))) ((50 + (13 * p9)) + 0) (nI (7))) else (if 0 ≤ (Op.cmpValue (FP.fcmp (FP.fsub ((g ((50 + (13 * p9)) + 11)).toUInt32) (r_X3_loss ((g ((50 + (13 * p9)) + 11)).toUInt32) (w_dr1 g p9) (g ((50 + (13 * p9)) + 3)))) 1036831949) .g) then (upd (upd (upd (upd g ((50 + (13 * p9)) + 11) (((FP.fsub ((g ((50 + (13 * p9)) + 11)).toUInt32) (r_X3_loss ((g ((50 + (13 * p9)) + 11)).toUInt32) (w_dr1 g p9) (g ((50 + (13 * p9)) + 3)))).toInt32))) ((50 + (13 * p9)) + 9) ((g ((50 + (13 * p9)) + 9)) + (nI (1)))) (306 + (tn (g (0)))) (g (10 + ((tn (g (0))) % 24)))) (707 + (tn (g (0)))) ((g (707 + (tn (g (0))))) ||| (((nI (1)) <<< ((nI (p9)) &&& 31)) ||| ((g ((50 + (13 * p9)) + 5)) <<< ((nI (16 + p9)) &&& 31))))) else (upd (upd (upd (upd (upd g ((50 + (13 * p9)) + 11) (((FP.fsub ((g ((50 + (13 * p9)) + 11)).toUInt32) (r_X3_loss ((g ((50 + (13 * p9)) + 11)).toUInt32) (w_dr1 g p9) (g ((50 + (13 * p9)) + 3)))).toInt32))) ((50 + (13 * p9)) + 9) ((g ((50 + (13 * p9)) + 9)) + (nI (1)))) (306 + (tn (g (0)))) (g (10 + ((tn (g (0))) % 24)))) (707 + (tn (g (0)))) ((g (707 + (tn (g (0))))) ||| (((nI (1)) <<< ((nI (p9)) &&& 31)) ||| ((g ((50 + (13 * p9)) + 5)) <<< ((nI (16 + p9)) &&& 31))))) ((50 + (13 * p9)) + 0) (nI (3))))) else (if ((g ((50 + (13 * p9)) + 4)) + (nI (1))) = (nI (3)) then (upd (upd (upd (upd (upd (upd g ((50 + (13 * p9)) + 11) (((FP.fsub ((g ((50 + (13 * p9)) + 11)).toUInt32) (r_X3_loss ((g ((50 + (13 * p9)) + 11)).toUInt32) (w_dr1 g p9) (g ((50 + (13 * p9)) + 3)))).toInt32))) ((50 + (13 * p9)) + 9) ((g ((50 + (13 * p9)) + 9)) + (nI (1)))) (306 + (tn (g (0)))) (g (10 + ((tn (g (0))) % 24)))) (707 + (tn (g (0)))) ((g (707 + (tn (g (0))))) ||| (((nI (1)) <<< ((nI (p9)) &&& 31)) ||| ((g ((50 + (13 * p9)) + 5)) <<< ((nI (16 + p9)) &&& 31))))) ((50 + (13 * p9)) + 4) ((g ((50 + (13 * p9)) + 4)) + (nI (1)))) ((50 + (13 * p9)) + 0) (nI (7))) else (if 0 ≤ (Op.cmpValue (FP.fcmp (FP.fsub ((g ((50 + (13 * p9)) + 11)).toUInt32) (r_X3_loss ((g ((50 + (13 * p9)) + 11)).toUInt32) (w_dr1 g p9) (g ((50 + (13 * p9)) + 3)))) 1036831949) .g) then (upd (upd (upd (upd (upd g ((50 + (13 * p9)) + 11) (((FP.fsub ((g ((50 + (13 * p9)) + 11)).toUInt32) (r_X3_loss ((g ((50 + (13 * p9)) + 11)).toUInt32) (w_dr1 g p9) (g ((50 + (13 * p9)) + 3)))).toInt32))) ((50 + (13 * p9)) + 9) ((g ((50 + (13 * p9)) + 9)) + (nI (1)))) (306 + (tn (g (0)))) (g (10 + ((tn (g (0))) % 24)))) (707 + (tn (g (0)))) ((g (707 + (tn (g (0))))) ||| (((nI (1)) <<< ((nI (p9)) &&& 31)) ||| ((g ((50 + (13 * p9)) + 5)) <<< ((nI (16 + p9)) &&& 31))))) ((50 + (13 * p9)) + 4) ((g ((50 + (13 * p9)) + 4)) + (nI (1)))) else (upd (upd (upd (upd (upd (upd g ((50 + (13 * p9)) + 11) (((FP.fsub ((g ((50 + (13 * p9)) + 11)).toUInt32) (r_X3_loss ((g ((50 + (13 * p9)) + 11)).toUInt32) (w_dr1 g p9) (g ((50 + (13 * p9)) + 3)))).toInt32))) ((50 + (13 * p9)) + 9) ((g ((50 + (13 * p9)) + 9)) + (nI (1)))) (306 + (tn (g (0)))) (g (10 + ((tn (g (0))) % 24)))) (707 + (tn (g (0)))) ((g (707 + (tn (g (0))))) ||| (((nI (1)) <<< ((nI (p9)) &&& 31)) ||| ((g ((50 + (13 * p9)) + 5)) <<< ((nI (16 + p9)) &&& 31))))) ((50 + (13 * p9)) + 4) ((g ((50 + (13 * p9)) + 4)) + (nI (1)))) ((50 + (13 * p9)) + 0) (nI (3)))))))
theorem hd_X3_dries : yX3_dries.cls = RX3 ∧ yX3_dries.cls ≠ "java/lang/invoke/MethodHandle" ∧ yX3_dries.cls ≠ "java/lang/invoke/VarHandle" ∧ (parseMethodDescriptor yX3_dries.desc).map (fun d => d.parameters.length) = some 1 := by decide +kernel
set_option maxHeartbeats 4000000 in
theorem t_X3_dries (l : Launch) (Ω : jO) {t : Nat} {G0 : Mem} {g hi sv as_ inp why now told bef : Nat → Int32} {ch hs fed fa ws ns ct st_ pl iw sn : Int32} {sz : Nat} (ht : Ω.2.2.2 ≤ t) (p9 : Nat) (hp : p9 < 16) (hck : g 0 = nI (tn (g 0))) (hck9 : tn (g 0) ≤ 499) (hsn : vn_sni2f (g ((50 + (13 * p9)) + 11)) = false) (h1 : vf_n32 (FP.fmul (g ((50 + (13 * p9)) + 11)).toUInt32 (FP.i2f ((w_dr1 g p9) * ((nI (11)) - (g ((50 + (13 * p9)) + 3))))))) (h2 : vf_n32 (FP.fdiv (FP.fmul (g ((50 + (13 * p9)) + 11)).toUInt32 (FP.i2f ((w_dr1 g p9) * ((nI (11)) - (g ((50 + (13 * p9)) + 3)))))) 1148846080)) (h3 : vf_n32 (FP.fsub (g ((50 + (13 * p9)) + 11)).toUInt32 (FP.fdiv (FP.fmul (g ((50 + (13 * p9)) + 11)).toUInt32 (FP.i2f ((w_dr1 g p9) * ((nI (11)) - (g ((50 + (13 * p9)) + 3)))))) 1148846080))) (h4 : vf_n32 (FP.fmul (FP.fdiv (FP.fmul (g ((50 + (13 * p9)) + 11)).toUInt32 (FP.i2f ((w_dr1 g p9) * ((nI (11)) - (g ((50 + (13 * p9)) + 3)))))) 1148846080) 1148846080)) : Met l yX3_dries (ws_ yX3_dries cX3_dries 6 (none)) ({ frames := 3, cells := 0, slots := 0, locals := 53 }) (va_Pc [.ref t, .int (nI (p9))] (jWd Ω (tov Ω t G0 g hi sv as_ inp why now told bef ch hs fed fa ws ns ct st_ pl iw sn) sz)) (jQ Ω (jD none (tov Ω t G0 (o_X3_dries_g g p9) hi sv as_ inp why now told bef ch hs fed fa ws ns ct st_ pl iw sn) sz)) 0 0 (jB Ω) := by
  refine jMet (by decide) (Nat.le_of_ble_eq_true rfl) ?_
  intro p e s m args below meth c cx hr hnm
  refine J_loc [some (.ref t), some (.int (nI (p9))), none, none, none, none] rfl ?_
  refine J_iload_n cx dX3_dries_0 rfl ?_
  refine T_callSI cx [.int (nI (p9))] (t_X3_at l Ω (p9)) dX3_dries_1 (lw_S q2736 q2737 q93 q2738) hd_X3_at.2 rfl rfl ⟨Nat.le_of_ble_eq_true rfl, Nat.le_of_ble_eq_true rfl⟩ rfl rfl (Nat.le_of_ble_eq_true rfl) ?_
  refine J_istore_n2 cx dX3_dries_4 (by decide) rfl ?_
  refine J_aload_n cx dX3_dries_5 rfl ?_
  refine T_get_g cx dX3_dries_6 ?_
  refine J_bipush (v := nI (10)) cx dX3_dries_9 (by decide) ?_
  refine J_aload_n cx dX3_dries_11 rfl ?_
  refine T_get_g cx dX3_dries_12 ?_
  refine J_iconst (v := nI (0)) cx dX3_dries_15 (by decide) ?_
  refine T_ld_g cx dX3_dries_16 (by omega) ?_
  refine J_top (.int (nI (tn (g (0))))) (congrArg Value.int (hck)) ?_
  refine J_bipush (v := nI (24)) cx dX3_dries_17 (by decide) ?_
  refine J_iremN cx dX3_dries_19 (by omega) (by omega) (by omega) ?_
  refine J_iaddN cx dX3_dries_20 ?_
  refine T_ld_g cx dX3_dries_21 (by omega) ?_
  refine J_istore_n3 cx dX3_dries_22 (by decide) rfl ?_
  refine J_aload_n cx dX3_dries_23 rfl ?_
  refine J_iload_n cx dX3_dries_24 rfl ?_
  refine T_callF cx [.int (nI (p9))] (t_X3_moistureOf l Ω ht (p9) hp hsn) dX3_dries_25 (lw_V q2755 q2757 qs47 q93 q2758) hd_X3_moistureOf rfl rfl ⟨Nat.le_of_ble_eq_true rfl, Nat.le_of_ble_eq_true rfl⟩ rfl rfl (Nat.le_of_ble_eq_true rfl) ?_
  have K51 : J p l e ({ frames := 3, cells := 0, slots := 0, locals := 53 } : Room) s m args below meth c Ω 6 (MQ below (jQ Ω (jD none (tov Ω t G0 (o_X3_dries_g g p9) hi sv as_ inp why now told bef ch hs fed fa ws ns ct st_ pl iw sn) sz)) args s 0 0 (jB Ω)) 0 0 sz (tov Ω t G0 g hi sv as_ inp why now told bef ch hs fed fa ws ns ct st_ pl iw sn) 51 [some (.ref t), some (.int (nI (p9))), some (.int (nI (50 + (13 * p9)))), some (.int (g (10 + ((tn (g (0))) % 24)))), some (.float ((g ((50 + (13 * p9)) + 11)).toUInt32)), none] [.int (w_dr1 g p9), .float ((g ((50 + (13 * p9)) + 11)).toUInt32)] := by
    refine J_aload_n cx dX3_dries_51 rfl ?_
    refine T_get_g cx dX3_dries_52 ?_
    refine J_iload_n cx dX3_dries_55 rfl ?_
    refine J_iconst (v := nI (3)) cx dX3_dries_56 (by decide) ?_
    refine J_iaddN cx dX3_dries_57 ?_
    refine T_ld_g cx dX3_dries_58 (by omega) ?_
    refine T_callSF cx [.float ((g ((50 + (13 * p9)) + 11)).toUInt32), .int (w_dr1 g p9), .int (g ((50 + (13 * p9)) + 3))] (t_X3_loss l Ω ((g ((50 + (13 * p9)) + 11)).toUInt32) (w_dr1 g p9) (g ((50 + (13 * p9)) + 3)) h1 h2) dX3_dries_59 (lw_S q2767 q2768 q93 q2769) hd_X3_loss.2 rfl rfl ⟨Nat.le_of_ble_eq_true rfl, Nat.le_of_ble_eq_true rfl⟩ rfl rfl (Nat.le_of_ble_eq_true rfl) ?_
    refine J_fstore5 cx dX3_dries_62 (by decide) rfl ?_
    refine J_fload cx dX3_dries_64 rfl ?_
    refine J_fload cx dX3_dries_66 rfl ?_
    refine J_fsub cx dX3_dries_68 h3 ?_
    refine J_fstore4 cx dX3_dries_69 (by decide) rfl ?_
    refine J_aload_n cx dX3_dries_71 rfl ?_
    refine T_get_g cx dX3_dries_72 ?_
    refine J_iload_n cx dX3_dries_75 rfl ?_
    refine J_bipush (v := nI (11)) cx dX3_dries_76 (by decide) ?_
    refine J_iaddN cx dX3_dries_78 ?_
    refine J_fload cx dX3_dries_79 rfl ?_
    refine T_callSI cx [.float (FP.fsub ((g ((50 + (13 * p9)) + 11)).toUInt32) (r_X3_loss ((g ((50 + (13 * p9)) + 11)).toUInt32) (w_dr1 g p9) (g ((50 + (13 * p9)) + 3))))] (t_J36_floatToIntBits l Ω (FP.fsub ((g ((50 + (13 * p9)) + 11)).toUInt32) (r_X3_loss ((g ((50 + (13 * p9)) + 11)).toUInt32) (w_dr1 g p9) (g ((50 + (13 * p9)) + 3)))) (fl_cmp h3)) dX3_dries_81 (lw_S q2886 q2887 q139 q2888) hd_J36_floatToIntBits.2 rfl rfl ⟨Nat.le_of_ble_eq_true rfl, Nat.le_of_ble_eq_true rfl⟩ rfl rfl (Nat.le_of_ble_eq_true rfl) ?_
    refine T_st_g cx ht dX3_dries_84 (by omega) ?_
    refine J_aload_n cx dX3_dries_85 rfl ?_
    refine T_get_g cx dX3_dries_86 ?_
    refine J_iload_n cx dX3_dries_89 rfl ?_
    refine J_bipush (v := nI (9)) cx dX3_dries_90 (by decide) ?_
    refine J_iaddN cx dX3_dries_92 ?_
    refine J_dup2 cx dX3_dries_93 rfl rfl ?_
    refine T_ld_g cx dX3_dries_94 (by omega) ?_
    refine J_top (.int (g ((50 + (13 * p9)) + 9))) (congrArg Value.int ((pk_un (by omega)).trans (rfl))) ?_
    refine J_iconst (v := nI (1)) cx dX3_dries_95 (by decide) ?_
    refine J_iadd cx dX3_dries_96 ?_
    refine T_st_g cx ht dX3_dries_97 (by omega) ?_
    refine J_aload_n cx dX3_dries_98 rfl ?_
    refine T_get_g cx dX3_dries_99 ?_
    refine J_iconst (v := nI (0)) cx dX3_dries_102 (by decide) ?_
    refine T_ld_g cx dX3_dries_103 (by omega) ?_
    refine J_top (.int (g (0))) (congrArg Value.int ((pk_un (by omega)).trans ((pk_un (by omega)).trans (rfl)))) ?_
    refine J_top (.int (nI (tn (g (0))))) (congrArg Value.int (hck)) ?_
    refine J_sipush (v := nI (400)) cx dX3_dries_104 (by decide) ?_
    refine J_icmpN_gt (tgt := 161) cx dX3_dries_107 (by decide) (by omega) (by omega) (fun c107 => ?_) (fun c107 => ?_)
    · refine J_fload cx dX3_dries_161 rfl ?_
      refine J_ldcf cx dX3_dries_163 q2770 ?_
      refine J_fmul cx dX3_dries_165 h4 ?_
      refine J_f2i cx dX3_dries_166 ?_
      refine J_aload_n cx dX3_dries_167 rfl ?_
      refine T_get_g cx dX3_dries_168 ?_
      refine J_bipush (v := nI (8)) cx dX3_dries_171 (by decide) ?_
      refine T_ld_g cx dX3_dries_173 (by omega) ?_
      refine J_top (.int (g (8))) (congrArg Value.int ((pk_un (by omega)).trans ((pk_un (by omega)).trans (rfl)))) ?_
      refine J_bipush (v := nI (10)) cx dX3_dries_174 (by decide) ?_
      refine J_aload_n cx dX3_dries_176 rfl ?_
      refine T_get_g cx dX3_dries_177 ?_
      refine J_iload_n cx dX3_dries_180 rfl ?_
      refine J_iconst (v := nI (3)) cx dX3_dries_181 (by decide) ?_
      refine J_iaddN cx dX3_dries_182 ?_
      refine T_ld_g cx dX3_dries_183 (by omega) ?_
      refine J_top (.int (g ((50 + (13 * p9)) + 3))) (congrArg Value.int ((pk_un (by omega)).trans ((pk_un (by omega)).trans (rfl)))) ?_
      refine J_imul cx dX3_dries_184 ?_
      refine J_iadd cx dX3_dries_185 ?_
      refine J_icmp_le (tgt := 201) cx dX3_dries_186 (by decide) (fun c186 => ?_) (fun c186 => ?_)
      · refine J_aload_n cx dX3_dries_201 rfl ?_
        refine T_get_g cx dX3_dries_202 ?_
        refine J_iload_n cx dX3_dries_205 rfl ?_
        refine J_iconst (v := nI (4)) cx dX3_dries_206 (by decide) ?_
        refine J_iaddN cx dX3_dries_207 ?_
        refine T_ld_g cx dX3_dries_208 (by omega) ?_
        refine J_top (.int (g ((50 + (13 * p9)) + 4))) (congrArg Value.int ((pk_un (by omega)).trans ((pk_un (by omega)).trans (rfl)))) ?_
        refine J_iconst (v := nI (3)) cx dX3_dries_209 (by decide) ?_
        refine J_icmp_ne (tgt := 226) cx dX3_dries_210 (by decide) (fun c210 => ?_) (fun c210 => ?_)
        · refine J_fload cx dX3_dries_226 rfl ?_
          refine J_ldcf cx dX3_dries_228 q2896 ?_
          refine J_fcmp cx dX3_dries_230 ?_
          refine J_if_ge (tgt := 243) cx dX3_dries_231 (by decide) (fun c231 => ?_) (fun c231 => ?_)
          · exact J_vret cx dX3_dries_243 hr ⟨rfl, (tov_cg (by simp only [o_X3_dries_g, if_pos c107, if_pos c186, if_neg c210, if_pos c231]) rfl rfl rfl rfl rfl rfl rfl rfl rfl rfl rfl rfl rfl rfl rfl rfl rfl rfl rfl), rfl⟩ (Nat.le_refl 0) (Nat.le_refl 0)
          · refine J_aload_n cx dX3_dries_234 rfl ?_
            refine T_get_g cx dX3_dries_235 ?_
            refine J_iload_n cx dX3_dries_238 rfl ?_
            refine J_iconst (v := nI (0)) cx dX3_dries_239 (by decide) ?_
            refine J_iaddN cx dX3_dries_240 ?_
            refine J_iconst (v := nI (3)) cx dX3_dries_241 (by decide) ?_
            refine T_st_g cx ht dX3_dries_242 (by omega) ?_
            exact J_vret cx dX3_dries_243 hr ⟨rfl, (tov_cg (by simp only [o_X3_dries_g, if_pos c107, if_pos c186, if_neg c210, if_neg c231]) rfl rfl rfl rfl rfl rfl rfl rfl rfl rfl rfl rfl rfl rfl rfl rfl rfl rfl rfl), rfl⟩ (Nat.le_refl 0) (Nat.le_refl 0)
        · refine J_aload_n cx dX3_dries_213 rfl ?_
          refine T_get_g cx dX3_dries_214 ?_
          refine J_iload_n cx dX3_dries_217 rfl ?_
          refine J_iconst (v := nI (0)) cx dX3_dries_218 (by decide) ?_
          refine J_iaddN cx dX3_dries_219 ?_
          refine J_bipush (v := nI (7)) cx dX3_dries_220 (by decide) ?_
          refine T_st_g cx ht dX3_dries_222 (by omega) ?_
          refine J_goto (tgt := 243) cx dX3_dries_223 (by decide) ?_
          exact J_vret cx dX3_dries_243 hr ⟨rfl, (tov_cg (by simp only [o_X3_dries_g, if_pos c107, if_pos c186, if_pos c210]) rfl rfl rfl rfl rfl rfl rfl rfl rfl rfl rfl rfl rfl rfl rfl rfl rfl rfl rfl), rfl⟩ (Nat.le_refl 0) (Nat.le_refl 0)
      · refine J_aload_n cx dX3_dries_189 rfl ?_
        refine T_get_g cx dX3_dries_190 ?_
        refine J_iload_n cx dX3_dries_193 rfl ?_
        refine J_iconst (v := nI (4)) cx dX3_dries_194 (by decide) ?_
        refine J_iaddN cx dX3_dries_195 ?_
        refine J_dup2 cx dX3_dries_196 rfl rfl ?_
        refine T_ld_g cx dX3_dries_197 (by omega) ?_
        refine J_top (.int (g ((50 + (13 * p9)) + 4))) (congrArg Value.int ((pk_un (by omega)).trans ((pk_un (by omega)).trans (rfl)))) ?_
        refine J_iconst (v := nI (1)) cx dX3_dries_198 (by decide) ?_
        refine J_iadd cx dX3_dries_199 ?_
        refine T_st_g cx ht dX3_dries_200 (by omega) ?_
        refine J_aload_n cx dX3_dries_201 rfl ?_
        refine T_get_g cx dX3_dries_202 ?_
        refine J_iload_n cx dX3_dries_205 rfl ?_
        refine J_iconst (v := nI (4)) cx dX3_dries_206 (by decide) ?_
        refine J_iaddN cx dX3_dries_207 ?_
        refine T_ld_g cx dX3_dries_208 (by omega) ?_
        refine J_top (.int ((g ((50 + (13 * p9)) + 4)) + (nI (1)))) (congrArg Value.int (pk_us)) ?_
        refine J_iconst (v := nI (3)) cx dX3_dries_209 (by decide) ?_
        refine J_icmp_ne (tgt := 226) cx dX3_dries_210 (by decide) (fun c210 => ?_) (fun c210 => ?_)
        · refine J_fload cx dX3_dries_226 rfl ?_
          refine J_ldcf cx dX3_dries_228 q2896 ?_
          refine J_fcmp cx dX3_dries_230 ?_
          refine J_if_ge (tgt := 243) cx dX3_dries_231 (by decide) (fun c231 => ?_) (fun c231 => ?_)
          · exact J_vret cx dX3_dries_243 hr ⟨rfl, (tov_cg (by simp only [o_X3_dries_g, if_pos c107, if_neg c186, if_neg c210, if_pos c231]) rfl rfl rfl rfl rfl rfl rfl rfl rfl rfl rfl rfl rfl rfl rfl rfl rfl rfl rfl), rfl⟩ (Nat.le_refl 0) (Nat.le_refl 0)
          · refine J_aload_n cx dX3_dries_234 rfl ?_
            refine T_get_g cx dX3_dries_235 ?_
            refine J_iload_n cx dX3_dries_238 rfl ?_
            refine J_iconst (v := nI (0)) cx dX3_dries_239 (by decide) ?_
            refine J_iaddN cx dX3_dries_240 ?_
            refine J_iconst (v := nI (3)) cx dX3_dries_241 (by decide) ?_
            refine T_st_g cx ht dX3_dries_242 (by omega) ?_
            exact J_vret cx dX3_dries_243 hr ⟨rfl, (tov_cg (by simp only [o_X3_dries_g, if_pos c107, if_neg c186, if_neg c210, if_neg c231]) rfl rfl rfl rfl rfl rfl rfl rfl rfl rfl rfl rfl rfl rfl rfl rfl rfl rfl rfl), rfl⟩ (Nat.le_refl 0) (Nat.le_refl 0)
        · refine J_aload_n cx dX3_dries_213 rfl ?_
          refine T_get_g cx dX3_dries_214 ?_
          refine J_iload_n cx dX3_dries_217 rfl ?_
          refine J_iconst (v := nI (0)) cx dX3_dries_218 (by decide) ?_
          refine J_iaddN cx dX3_dries_219 ?_
          refine J_bipush (v := nI (7)) cx dX3_dries_220 (by decide) ?_
          refine T_st_g cx ht dX3_dries_222 (by omega) ?_
          refine J_goto (tgt := 243) cx dX3_dries_223 (by decide) ?_
          exact J_vret cx dX3_dries_243 hr ⟨rfl, (tov_cg (by simp only [o_X3_dries_g, if_pos c107, if_neg c186, if_pos c210]) rfl rfl rfl rfl rfl rfl rfl rfl rfl rfl rfl rfl rfl rfl rfl rfl rfl rfl rfl), rfl⟩ (Nat.le_refl 0) (Nat.le_refl 0)
    · refine J_aload_n cx dX3_dries_110 rfl ?_
      refine T_get_g cx dX3_dries_111 ?_
      refine J_sipush (v := nI (306)) cx dX3_dries_114 (by decide) ?_
      refine J_aload_n cx dX3_dries_117 rfl ?_
      refine T_get_g cx dX3_dries_118 ?_
      refine J_iconst (v := nI (0)) cx dX3_dries_121 (by decide) ?_
      refine T_ld_g cx dX3_dries_122 (by omega) ?_
      refine J_top (.int (g (0))) (congrArg Value.int ((pk_un (by omega)).trans ((pk_un (by omega)).trans (rfl)))) ?_
      refine J_top (.int (nI (tn (g (0))))) (congrArg Value.int (hck)) ?_
      refine J_iaddN cx dX3_dries_123 ?_
      refine J_iload_n cx dX3_dries_124 rfl ?_
      refine T_st_g cx ht dX3_dries_125 (by omega) ?_
      refine J_aload_n cx dX3_dries_126 rfl ?_
      refine T_get_g cx dX3_dries_127 ?_
      refine J_sipush (v := nI (707)) cx dX3_dries_130 (by decide) ?_
      refine J_aload_n cx dX3_dries_133 rfl ?_
      refine T_get_g cx dX3_dries_134 ?_
      refine J_iconst (v := nI (0)) cx dX3_dries_137 (by decide) ?_
      refine T_ld_g cx dX3_dries_138 (by omega) ?_
      refine J_top (.int (g (0))) (congrArg Value.int ((pk_un (by omega)).trans ((pk_un (by omega)).trans ((pk_un (by omega)).trans (rfl))))) ?_
      refine J_top (.int (nI (tn (g (0))))) (congrArg Value.int (hck)) ?_
      refine J_iaddN cx dX3_dries_139 ?_
      refine J_dup2 cx dX3_dries_140 rfl rfl ?_
      refine T_ld_g cx dX3_dries_141 (by omega) ?_
      refine J_top (.int (g (707 + (tn (g (0)))))) (congrArg Value.int ((pk_un (by omega)).trans ((pk_un (by omega)).trans ((pk_un (by omega)).trans (rfl))))) ?_
      refine J_iconst (v := nI (1)) cx dX3_dries_142 (by decide) ?_
      refine J_iload_n cx dX3_dries_143 rfl ?_
      refine J_ishl cx dX3_dries_144 ?_
      refine J_aload_n cx dX3_dries_145 rfl ?_
      refine T_get_g cx dX3_dries_146 ?_
      refine J_iload_n cx dX3_dries_149 rfl ?_
      refine J_iconst (v := nI (5)) cx dX3_dries_150 (by decide) ?_
      refine J_iaddN cx dX3_dries_151 ?_
      refine T_ld_g cx dX3_dries_152 (by omega) ?_
      refine J_top (.int (g ((50 + (13 * p9)) + 5))) (congrArg Value.int ((pk_un (by omega)).trans ((pk_un (by omega)).trans ((pk_un (by omega)).trans (rfl))))) ?_
      refine J_bipush (v := nI (16)) cx dX3_dries_153 (by decide) ?_
      refine J_iload_n cx dX3_dries_155 rfl ?_
      refine J_iaddN cx dX3_dries_156 ?_
      refine J_ishl cx dX3_dries_157 ?_
      refine J_ior cx dX3_dries_158 ?_
      refine J_ior cx dX3_dries_159 ?_
      refine T_st_g cx ht dX3_dries_160 (by omega) ?_
      refine J_fload cx dX3_dries_161 rfl ?_
      refine J_ldcf cx dX3_dries_163 q2770 ?_
      refine J_fmul cx dX3_dries_165 h4 ?_
      refine J_f2i cx dX3_dries_166 ?_
      refine J_aload_n cx dX3_dries_167 rfl ?_
      refine T_get_g cx dX3_dries_168 ?_
      refine J_bipush (v := nI (8)) cx dX3_dries_171 (by decide) ?_
      refine T_ld_g cx dX3_dries_173 (by omega) ?_
      refine J_top (.int (g (8))) (congrArg Value.int ((pk_un (by omega)).trans ((pk_un (by omega)).trans ((pk_un (by omega)).trans ((pk_un (by omega)).trans (rfl)))))) ?_
      refine J_bipush (v := nI (10)) cx dX3_dries_174 (by decide) ?_
      refine J_aload_n cx dX3_dries_176 rfl ?_
      refine T_get_g cx dX3_dries_177 ?_
      refine J_iload_n cx dX3_dries_180 rfl ?_
      refine J_iconst (v := nI (3)) cx dX3_dries_181 (by decide) ?_
      refine J_iaddN cx dX3_dries_182 ?_
      refine T_ld_g cx dX3_dries_183 (by omega) ?_
      refine J_top (.int (g ((50 + (13 * p9)) + 3))) (congrArg Value.int ((pk_un (by omega)).trans ((pk_un (by omega)).trans ((pk_un (by omega)).trans ((pk_un (by omega)).trans (rfl)))))) ?_
      refine J_imul cx dX3_dries_184 ?_
      refine J_iadd cx dX3_dries_185 ?_
      refine J_icmp_le (tgt := 201) cx dX3_dries_186 (by decide) (fun c186 => ?_) (fun c186 => ?_)
      · refine J_aload_n cx dX3_dries_201 rfl ?_
        refine T_get_g cx dX3_dries_202 ?_
        refine J_iload_n cx dX3_dries_205 rfl ?_
        refine J_iconst (v := nI (4)) cx dX3_dries_206 (by decide) ?_
        refine J_iaddN cx dX3_dries_207 ?_
        refine T_ld_g cx dX3_dries_208 (by omega) ?_
        refine J_top (.int (g ((50 + (13 * p9)) + 4))) (congrArg Value.int ((pk_un (by omega)).trans ((pk_un (by omega)).trans ((pk_un (by omega)).trans ((pk_un (by omega)).trans (rfl)))))) ?_
        refine J_iconst (v := nI (3)) cx dX3_dries_209 (by decide) ?_
        refine J_icmp_ne (tgt := 226) cx dX3_dries_210 (by decide) (fun c210 => ?_) (fun c210 => ?_)
        · refine J_fload cx dX3_dries_226 rfl ?_
          refine J_ldcf cx dX3_dries_228 q2896 ?_
          refine J_fcmp cx dX3_dries_230 ?_
          refine J_if_ge (tgt := 243) cx dX3_dries_231 (by decide) (fun c231 => ?_) (fun c231 => ?_)
          · exact J_vret cx dX3_dries_243 hr ⟨rfl, (tov_cg (by simp only [o_X3_dries_g, if_neg (Nat.not_lt.mpr c107), if_pos c186, if_neg c210, if_pos c231]) rfl rfl rfl rfl rfl rfl rfl rfl rfl rfl rfl rfl rfl rfl rfl rfl rfl rfl rfl), rfl⟩ (Nat.le_refl 0) (Nat.le_refl 0)
          · refine J_aload_n cx dX3_dries_234 rfl ?_
            refine T_get_g cx dX3_dries_235 ?_
            refine J_iload_n cx dX3_dries_238 rfl ?_
            refine J_iconst (v := nI (0)) cx dX3_dries_239 (by decide) ?_
            refine J_iaddN cx dX3_dries_240 ?_
            refine J_iconst (v := nI (3)) cx dX3_dries_241 (by decide) ?_
            refine T_st_g cx ht dX3_dries_242 (by omega) ?_
            exact J_vret cx dX3_dries_243 hr ⟨rfl, (tov_cg (by simp only [o_X3_dries_g, if_neg (Nat.not_lt.mpr c107), if_pos c186, if_neg c210, if_neg c231]) rfl rfl rfl rfl rfl rfl rfl rfl rfl rfl rfl rfl rfl rfl rfl rfl rfl rfl rfl), rfl⟩ (Nat.le_refl 0) (Nat.le_refl 0)
        · refine J_aload_n cx dX3_dries_213 rfl ?_
          refine T_get_g cx dX3_dries_214 ?_
          refine J_iload_n cx dX3_dries_217 rfl ?_
          refine J_iconst (v := nI (0)) cx dX3_dries_218 (by decide) ?_
          refine J_iaddN cx dX3_dries_219 ?_
          refine J_bipush (v := nI (7)) cx dX3_dries_220 (by decide) ?_
          refine T_st_g cx ht dX3_dries_222 (by omega) ?_
          refine J_goto (tgt := 243) cx dX3_dries_223 (by decide) ?_
          exact J_vret cx dX3_dries_243 hr ⟨rfl, (tov_cg (by simp only [o_X3_dries_g, if_neg (Nat.not_lt.mpr c107), if_pos c186, if_pos c210]) rfl rfl rfl rfl rfl rfl rfl rfl rfl rfl rfl rfl rfl rfl rfl rfl rfl rfl rfl), rfl⟩ (Nat.le_refl 0) (Nat.le_refl 0)
      · refine J_aload_n cx dX3_dries_189 rfl ?_
        refine T_get_g cx dX3_dries_190 ?_
        refine J_iload_n cx dX3_dries_193 rfl ?_
        refine J_iconst (v := nI (4)) cx dX3_dries_194 (by decide) ?_
        refine J_iaddN cx dX3_dries_195 ?_
        refine J_dup2 cx dX3_dries_196 rfl rfl ?_
        refine T_ld_g cx dX3_dries_197 (by omega) ?_
        refine J_top (.int (g ((50 + (13 * p9)) + 4))) (congrArg Value.int ((pk_un (by omega)).trans ((pk_un (by omega)).trans ((pk_un (by omega)).trans ((pk_un (by omega)).trans (rfl)))))) ?_
        refine J_iconst (v := nI (1)) cx dX3_dries_198 (by decide) ?_
        refine J_iadd cx dX3_dries_199 ?_
        refine T_st_g cx ht dX3_dries_200 (by omega) ?_
        refine J_aload_n cx dX3_dries_201 rfl ?_
        refine T_get_g cx dX3_dries_202 ?_
        refine J_iload_n cx dX3_dries_205 rfl ?_
        refine J_iconst (v := nI (4)) cx dX3_dries_206 (by decide) ?_
        refine J_iaddN cx dX3_dries_207 ?_
        refine T_ld_g cx dX3_dries_208 (by omega) ?_
        refine J_top (.int ((g ((50 + (13 * p9)) + 4)) + (nI (1)))) (congrArg Value.int (pk_us)) ?_
        refine J_iconst (v := nI (3)) cx dX3_dries_209 (by decide) ?_
        refine J_icmp_ne (tgt := 226) cx dX3_dries_210 (by decide) (fun c210 => ?_) (fun c210 => ?_)
        · refine J_fload cx dX3_dries_226 rfl ?_
          refine J_ldcf cx dX3_dries_228 q2896 ?_
          refine J_fcmp cx dX3_dries_230 ?_
          refine J_if_ge (tgt := 243) cx dX3_dries_231 (by decide) (fun c231 => ?_) (fun c231 => ?_)
          · exact J_vret cx dX3_dries_243 hr ⟨rfl, (tov_cg (by simp only [o_X3_dries_g, if_neg (Nat.not_lt.mpr c107), if_neg c186, if_neg c210, if_pos c231]) rfl rfl rfl rfl rfl rfl rfl rfl rfl rfl rfl rfl rfl rfl rfl rfl rfl rfl rfl), rfl⟩ (Nat.le_refl 0) (Nat.le_refl 0)
          · refine J_aload_n cx dX3_dries_234 rfl ?_
            refine T_get_g cx dX3_dries_235 ?_
            refine J_iload_n cx dX3_dries_238 rfl ?_
            refine J_iconst (v := nI (0)) cx dX3_dries_239 (by decide) ?_
            refine J_iaddN cx dX3_dries_240 ?_
            refine J_iconst (v := nI (3)) cx dX3_dries_241 (by decide) ?_
            refine T_st_g cx ht dX3_dries_242 (by omega) ?_
            exact J_vret cx dX3_dries_243 hr ⟨rfl, (tov_cg (by simp only [o_X3_dries_g, if_neg (Nat.not_lt.mpr c107), if_neg c186, if_neg c210, if_neg c231]) rfl rfl rfl rfl rfl rfl rfl rfl rfl rfl rfl rfl rfl rfl rfl rfl rfl rfl rfl), rfl⟩ (Nat.le_refl 0) (Nat.le_refl 0)
        · refine J_aload_n cx dX3_dries_213 rfl ?_
          refine T_get_g cx dX3_dries_214 ?_
          refine J_iload_n cx dX3_dries_217 rfl ?_
          refine J_iconst (v := nI (0)) cx dX3_dries_218 (by decide) ?_
          refine J_iaddN cx dX3_dries_219 ?_
          refine J_bipush (v := nI (7)) cx dX3_dries_220 (by decide) ?_
          refine T_st_g cx ht dX3_dries_222 (by omega) ?_
          refine J_goto (tgt := 243) cx dX3_dries_223 (by decide) ?_
          exact J_vret cx dX3_dries_243 hr ⟨rfl, (tov_cg (by simp only [o_X3_dries_g, if_neg (Nat.not_lt.mpr c107), if_neg c186, if_pos c210]) rfl rfl rfl rfl rfl rfl rfl rfl rfl rfl rfl rfl rfl rfl rfl rfl rfl rfl rfl), rfl⟩ (Nat.le_refl 0) (Nat.le_refl 0)
  refine J_fstore4 cx dX3_dries_28 (by decide) rfl ?_
  refine J_fload cx dX3_dries_30 rfl ?_
  refine J_aload_n cx dX3_dries_32 rfl ?_
  refine T_get_g cx dX3_dries_33 ?_
  refine J_iload_n cx dX3_dries_36 rfl ?_
  refine J_iconst (v := nI (5)) cx dX3_dries_37 (by decide) ?_
  refine J_iaddN cx dX3_dries_38 ?_
  refine T_ld_g cx dX3_dries_39 (by omega) ?_
  refine J_iconst (v := nI (1)) cx dX3_dries_40 (by decide) ?_
  refine J_icmp_ne (tgt := 50) cx dX3_dries_41 (by decide) (fun c41 => ?_) (fun c41 => ?_)
  · refine J_iload_n cx dX3_dries_50 rfl ?_
    refine J_sub (L1 := [some (.ref t), some (.int (nI (p9))), some (.int (nI (50 + (13 * p9)))), some (.int (g (10 + ((tn (g (0))) % 24)))), some (.float ((g ((50 + (13 * p9)) + 11)).toUInt32)), none]) (jsub_s (jsub_s (jsub_s (jsub_s (jsub_e (congrArg Value.float (by simp only [w_dr1, if_neg c41])) (jsub_n jsub_0)))))) ?_
    refine J_st [.int (w_dr1 g p9), .float ((g ((50 + (13 * p9)) + 11)).toUInt32)] (jst_e (congrArg Value.int (by simp only [w_dr1, if_neg c41])) (jst_e (congrArg Value.float (by simp only [w_dr1, if_neg c41])) rfl)) ?_
    exact K51
  · refine J_iload_n cx dX3_dries_44 rfl ?_
    refine J_iconst (v := nI (2)) cx dX3_dries_45 (by decide) ?_
    refine J_idiv cx dX3_dries_46 (nI_ne0 (by decide) (by decide)) ?_
    refine J_goto (tgt := 51) cx dX3_dries_47 (by decide) ?_
    refine J_sub (L1 := [some (.ref t), some (.int (nI (p9))), some (.int (nI (50 + (13 * p9)))), some (.int (g (10 + ((tn (g (0))) % 24)))), some (.float ((g ((50 + (13 * p9)) + 11)).toUInt32)), none]) (jsub_s (jsub_s (jsub_s (jsub_s (jsub_e (congrArg Value.float (by simp only [w_dr1, if_pos c41])) (jsub_n jsub_0)))))) ?_
    refine J_st [.int (w_dr1 g p9), .float ((g ((50 + (13 * p9)) + 11)).toUInt32)] (jst_e (congrArg Value.int (by simp only [w_dr1, if_pos c41])) (jst_e (congrArg Value.float (by simp only [w_dr1, if_pos c41])) rfl)) ?_
    exact K51
