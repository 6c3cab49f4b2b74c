/-! JDK 8 (gen/mk_x1.py): Long's bits, BitSet's rest -/
set_option maxRecDepth 100000
section JR12
variable {p : Program} {l : Launch} {e : Env} {R : Room} {s : State} {m : MethodId} {args : Array Value} {below : List Frame} {meth : Method} {c : Code} {Q : State → Prop} {Ω : jO} {nL : Nat}
variable {cells slots sz : Nat} {G : Mem} {L : List (Option Value)} {st : List Value} {cc : ByteArray} {own : String} {pc : Nat}
theorem J_ldcw (cx : jCX p s m args meth c cc own Ω nL) {index : Nat} {v : Int32} (hdg : decode cc pc = .ok (.ldc_w index, 3)) (hconst : Cond.constant own index v ∈ lw_all) (kk : J p l e R s m args below meth c Ω nL Q cells slots sz G (pc + 3) L (.int v :: st)) : J p l e R s m args below meth c Ω nL Q cells slots sz G pc L st := fun H locs ls h1 h2 h3 h4 =>
  lv_ldcw cx.1 cx.2.1 cx.ow (cx.ts _ hconst) hdg (kk H locs ls h1 h2 h3 h4)
end JR12
def r_ntzI (x9 : Int32) : Int32 := (if 0 < ((x9 ^^^ (-1)) &&& (x9 - (nI (1)))) then (if ((x9 ^^^ (-1)) &&& (x9 - (nI (1)))) ≤ (nI (65536)) then (if ((x9 ^^^ (-1)) &&& (x9 - (nI (1)))) ≤ (nI (256)) then (if ((x9 ^^^ (-1)) &&& (x9 - (nI (1)))) ≤ (nI (16)) then (if ((x9 ^^^ (-1)) &&& (x9 - (nI (1)))) ≤ (nI (4)) then ((nI (1)) + ((((x9 ^^^ (-1)) &&& (x9 - (nI (1)))).toUInt32 >>> ((nI (1)).toUInt32 &&& Int32.toUInt32 31)).toInt32)) else (((nI (1)) + 2) + ((((((x9 ^^^ (-1)) &&& (x9 - (nI (1)))).toUInt32 >>> ((nI (2)).toUInt32 &&& Int32.toUInt32 31)).toInt32).toUInt32 >>> ((nI (1)).toUInt32 &&& Int32.toUInt32 31)).toInt32))) else (if ((((x9 ^^^ (-1)) &&& (x9 - (nI (1)))).toUInt32 >>> ((nI (4)).toUInt32 &&& Int32.toUInt32 31)).toInt32) ≤ (nI (4)) then (((nI (1)) + 4) + ((((((x9 ^^^ (-1)) &&& (x9 - (nI (1)))).toUInt32 >>> ((nI (4)).toUInt32 &&& Int32.toUInt32 31)).toInt32).toUInt32 >>> ((nI (1)).toUInt32 &&& Int32.toUInt32 31)).toInt32)) else ((((nI (1)) + 4) + 2) + ((((((((x9 ^^^ (-1)) &&& (x9 - (nI (1)))).toUInt32 >>> ((nI (4)).toUInt32 &&& Int32.toUInt32 31)).toInt32).toUInt32 >>> ((nI (2)).toUInt32 &&& Int32.toUInt32 31)).toInt32).toUInt32 >>> ((nI (1)).toUInt32 &&& Int32.toUInt32 31)).toInt32)))) else (if ((((x9 ^^^ (-1)) &&& (x9 - (nI (1)))).toUInt32 >>> ((nI (8)).toUInt32 &&& Int32.toUInt32 31)).toInt32) ≤ (nI (16)) then (if ((((x9 ^^^ (-1)) &&& (x9 - (nI (1)))).toUInt32 >>> ((nI (8)).toUInt32 &&& Int32.toUInt32 31)).toInt32) ≤ (nI (4)) then (((nI (1)) + 8) + ((((((x9 ^^^ (-1)) &&& (x9 - (nI (1)))).toUInt32 >>> ((nI (8)).toUInt32 &&& Int32.toUInt32 31)).toInt32).toUInt32 >>> ((nI (1)).toUInt32 &&& Int32.toUInt32 31)).toInt32)) else ((((nI (1)) + 8) + 2) + ((((((((x9 ^^^ (-1)) &&& (x9 - (nI (1)))).toUInt32 >>> ((nI (8)).toUInt32 &&& Int32.toUInt32 31)).toInt32).toUInt32 >>> ((nI (2)).toUInt32 &&& Int32.toUInt32 31)).toInt32).toUInt32 >>> ((nI (1)).toUInt32 &&& Int32.toUInt32 31)).toInt32))) else (if ((((((x9 ^^^ (-1)) &&& (x9 - (nI (1)))).toUInt32 >>> ((nI (8)).toUInt32 &&& Int32.toUInt32 31)).toInt32).toUInt32 >>> ((nI (4)).toUInt32 &&& Int32.toUInt32 31)).toInt32) ≤ (nI (4)) then ((((nI (1)) + 8) + 4) + ((((((((x9 ^^^ (-1)) &&& (x9 - (nI (1)))).toUInt32 >>> ((nI (8)).toUInt32 &&& Int32.toUInt32 31)).toInt32).toUInt32 >>> ((nI (4)).toUInt32 &&& Int32.toUInt32 31)).toInt32).toUInt32 >>> ((nI (1)).toUInt32 &&& Int32.toUInt32 31)).toInt32)) else (((((nI (1)) + 8) + 4) + 2) + ((((((((((x9 ^^^ (-1)) &&& (x9 - (nI (1)))).toUInt32 >>> ((nI (8)).toUInt32 &&& Int32.toUInt32 31)).toInt32).toUInt32 >>> ((nI (4)).toUInt32 &&& Int32.toUInt32 31)).toInt32).toUInt32 >>> ((nI (2)).toUInt32 &&& Int32.toUInt32 31)).toInt32).toUInt32 >>> ((nI (1)).toUInt32 &&& Int32.toUInt32 31)).toInt32))))) else (if ((((x9 ^^^ (-1)) &&& (x9 - (nI (1)))).toUInt32 >>> ((nI (16)).toUInt32 &&& Int32.toUInt32 31)).toInt32) ≤ (nI (256)) then (if ((((x9 ^^^ (-1)) &&& (x9 - (nI (1)))).toUInt32 >>> ((nI (16)).toUInt32 &&& Int32.toUInt32 31)).toInt32) ≤ (nI (16)) then (if ((((x9 ^^^ (-1)) &&& (x9 - (nI (1)))).toUInt32 >>> ((nI (16)).toUInt32 &&& Int32.toUInt32 31)).toInt32) ≤ (nI (4)) then (((nI (1)) + 16) + ((((((x9 ^^^ (-1)) &&& (x9 - (nI (1)))).toUInt32 >>> ((nI (16)).toUInt32 &&& Int32.toUInt32 31)).toInt32).toUInt32 >>> ((nI (1)).toUInt32 &&& Int32.toUInt32 31)).toInt32)) else ((((nI (1)) + 16) + 2) + ((((((((x9 ^^^ (-1)) &&& (x9 - (nI (1)))).toUInt32 >>> ((nI (16)).toUInt32 &&& Int32.toUInt32 31)).toInt32).toUInt32 >>> ((nI (2)).toUInt32 &&& Int32.toUInt32 31)).toInt32).toUInt32 >>> ((nI (1)).toUInt32 &&& Int32.toUInt32 31)).toInt32))) else (if ((((((x9 ^^^ (-1)) &&& (x9 - (nI (1)))).toUInt32 >>> ((nI (16)).toUInt32 &&& Int32.toUInt32 31)).toInt32).toUInt32 >>> ((nI (4)).toUInt32 &&& Int32.toUInt32 31)).toInt32) ≤ (nI (4)) then ((((nI (1)) + 16) + 4) + ((((((((x9 ^^^ (-1)) &&& (x9 - (nI (1)))).toUInt32 >>> ((nI (16)).toUInt32 &&& Int32.toUInt32 31)).toInt32).toUInt32 >>> ((nI (4)).toUInt32 &&& Int32.toUInt32 31)).toInt32).toUInt32 >>> ((nI (1)).toUInt32 &&& Int32.toUInt32 31)).toInt32)) else (((((nI (1)) + 16) + 4) + 2) + ((((((((((x9 ^^^ (-1)) &&& (x9 - (nI (1)))).toUInt32 >>> ((nI (16)).toUInt32 &&& Int32.toUInt32 31)).toInt32).toUInt32 >>> ((nI (4)).toUInt32 &&& Int32.toUInt32 31)).toInt32).toUInt32 >>> ((nI (2)).toUInt32 &&& Int32.toUInt32 31)).toInt32).toUInt32 >>> ((nI (1)).toUInt32 &&& Int32.toUInt32 31)).toInt32)))) else (if ((((((x9 ^^^ (-1)) &&& (x9 - (nI (1)))).toUInt32 >>> ((nI (16)).toUInt32 &&& Int32.toUInt32 31)).toInt32).toUInt32 >>> ((nI (8)).toUInt32 &&& Int32.toUInt32 31)).toInt32) ≤ (nI (16)) then (if ((((((x9 ^^^ (-1)) &&& (x9 - (nI (1)))).toUInt32 >>> ((nI (16)).toUInt32 &&& Int32.toUInt32 31)).toInt32).toUInt32 >>> ((nI (8)).toUInt32 &&& Int32.toUInt32 31)).toInt32) ≤ (nI (4)) then ((((nI (1)) + 16) + 8) + ((((((((x9 ^^^ (-1)) &&& (x9 - (nI (1)))).toUInt32 >>> ((nI (16)).toUInt32 &&& Int32.toUInt32 31)).toInt32).toUInt32 >>> ((nI (8)).toUInt32 &&& Int32.toUInt32 31)).toInt32).toUInt32 >>> ((nI (1)).toUInt32 &&& Int32.toUInt32 31)).toInt32)) else (((((nI (1)) + 16) + 8) + 2) + ((((((((((x9 ^^^ (-1)) &&& (x9 - (nI (1)))).toUInt32 >>> ((nI (16)).toUInt32 &&& Int32.toUInt32 31)).toInt32).toUInt32 >>> ((nI (8)).toUInt32 &&& Int32.toUInt32 31)).toInt32).toUInt32 >>> ((nI (2)).toUInt32 &&& Int32.toUInt32 31)).toInt32).toUInt32 >>> ((nI (1)).toUInt32 &&& Int32.toUInt32 31)).toInt32))) else (if ((((((((x9 ^^^ (-1)) &&& (x9 - (nI (1)))).toUInt32 >>> ((nI (16)).toUInt32 &&& Int32.toUInt32 31)).toInt32).toUInt32 >>> ((nI (8)).toUInt32 &&& Int32.toUInt32 31)).toInt32).toUInt32 >>> ((nI (4)).toUInt32 &&& Int32.toUInt32 31)).toInt32) ≤ (nI (4)) then (((((nI (1)) + 16) + 8) + 4) + ((((((((((x9 ^^^ (-1)) &&& (x9 - (nI (1)))).toUInt32 >>> ((nI (16)).toUInt32 &&& Int32.toUInt32 31)).toInt32).toUInt32 >>> ((nI (8)).toUInt32 &&& Int32.toUInt32 31)).toInt32).toUInt32 >>> ((nI (4)).toUInt32 &&& Int32.toUInt32 31)).toInt32).toUInt32 >>> ((nI (1)).toUInt32 &&& Int32.toUInt32 31)).toInt32)) else ((((((nI (1)) + 16) + 8) + 4) + 2) + ((((((((((((x9 ^^^ (-1)) &&& (x9 - (nI (1)))).toUInt32 >>> ((nI (16)).toUInt32 &&& Int32.toUInt32 31)).toInt32).toUInt32 >>> ((nI (8)).toUInt32 &&& Int32.toUInt32 31)).toInt32).toUInt32 >>> ((nI (4)).toUInt32 &&& Int32.toUInt32 31)).toInt32).toUInt32 >>> ((nI (2)).toUInt32 &&& Int32.toUInt32 31)).toInt32).toUInt32 >>> ((nI (1)).toUInt32 &&& Int32.toUInt32 31)).toInt32)))))) else (((x9 ^^^ (-1)) &&& (x9 - (nI (1)))) &&& (nI (32))))
set_option maxHeartbeats 1000000 in
theorem t_J26_numberOfTrailingZeros (l : Launch) (Ω : jO) {G : Mem} {sz : Nat} (x9 : Int32) : Met l yJ26_numberOfTrailingZeros (ws_ yJ26_numberOfTrailingZeros cJ26_numberOfTrailingZeros 2 (some .int)) ({ frames := 1, cells := 0, slots := 0, locals := 12 } : Room) (va_Pc [.int x9] (jWd Ω G sz)) (jQ Ω (jD (some (.int (r_ntzI x9))) G sz)) 0 0 (jB Ω) := by
  refine jMet (by decide) (Nat.le_of_ble_eq_true rfl) ?_
  intro p e s m args below meth c cx hr hnm
  refine J_loc [some (.int x9), none] rfl ?_
  refine J_iload_n cx dJ26_numberOfTrailingZeros_0 rfl ?_
  refine J_iconst (v := -1) cx dJ26_numberOfTrailingZeros_1 (by decide) ?_
  refine J_ixor cx dJ26_numberOfTrailingZeros_2 ?_
  refine J_iload_n cx dJ26_numberOfTrailingZeros_3 rfl ?_
  refine J_iconst (v := nI (1)) cx dJ26_numberOfTrailingZeros_4 (by decide) ?_
  refine J_isub cx dJ26_numberOfTrailingZeros_5 ?_
  refine J_iand cx dJ26_numberOfTrailingZeros_6 ?_
  refine J_istore_n0 cx dJ26_numberOfTrailingZeros_7 (by decide) ?_
  refine J_iload_n cx dJ26_numberOfTrailingZeros_8 rfl ?_
  refine J_if_gt (tgt := 17) cx dJ26_numberOfTrailingZeros_9 (by decide) (fun c9 => ?_) (fun c9 => ?_)
  · refine J_iconst (v := nI (1)) cx dJ26_numberOfTrailingZeros_17 (by decide) ?_
    refine J_istore_n1 cx dJ26_numberOfTrailingZeros_18 (by decide) rfl ?_
    refine J_iload_n cx dJ26_numberOfTrailingZeros_19 rfl ?_
    refine J_ldcw cx dJ26_numberOfTrailingZeros_20 q1858 ?_
    refine J_top (.int (nI (65536))) rfl ?_
    refine J_icmp_le (tgt := 34) cx dJ26_numberOfTrailingZeros_23 (by decide) (fun c23 => ?_) (fun c23 => ?_)
    · refine J_iload_n cx dJ26_numberOfTrailingZeros_34 rfl ?_
      refine J_sipush (v := nI (256)) cx dJ26_numberOfTrailingZeros_35 (by decide) ?_
      refine J_icmp_le (tgt := 49) cx dJ26_numberOfTrailingZeros_38 (by decide) (fun c38 => ?_) (fun c38 => ?_)
      · refine J_iload_n cx dJ26_numberOfTrailingZeros_49 rfl ?_
        refine J_bipush (v := nI (16)) cx dJ26_numberOfTrailingZeros_50 (by decide) ?_
        refine J_icmp_le (tgt := 62) cx dJ26_numberOfTrailingZeros_52 (by decide) (fun c52 => ?_) (fun c52 => ?_)
        · refine J_iload_n cx dJ26_numberOfTrailingZeros_62 rfl ?_
          refine J_iconst (v := nI (4)) cx dJ26_numberOfTrailingZeros_63 (by decide) ?_
          refine J_icmp_le (tgt := 74) cx dJ26_numberOfTrailingZeros_64 (by decide) (fun c64 => ?_) (fun c64 => ?_)
          · refine J_iload_n cx dJ26_numberOfTrailingZeros_74 rfl ?_
            refine J_iload_n cx dJ26_numberOfTrailingZeros_75 rfl ?_
            refine J_iconst (v := nI (1)) cx dJ26_numberOfTrailingZeros_76 (by decide) ?_
            refine J_iushr (v := (((x9 ^^^ (-1)) &&& (x9 - (nI (1)))).toUInt32 >>> ((nI (1)).toUInt32 &&& Int32.toUInt32 31)).toInt32) cx dJ26_numberOfTrailingZeros_77 rfl ?_
            refine J_iadd cx dJ26_numberOfTrailingZeros_78 ?_
            exact J_iret cx dJ26_numberOfTrailingZeros_79 hr ⟨by simp only [r_ntzI, if_pos c9, if_pos c23, if_pos c38, if_pos c52, if_pos c64], rfl, rfl⟩ (Nat.le_of_ble_eq_true rfl) (Nat.le_of_ble_eq_true rfl)
          · refine J_iinc1 (v := (nI (1)) + 2) cx dJ26_numberOfTrailingZeros_67 (by rfl) (by decide) rfl ?_
            refine J_iload_n cx dJ26_numberOfTrailingZeros_70 rfl ?_
            refine J_iconst (v := nI (2)) cx dJ26_numberOfTrailingZeros_71 (by decide) ?_
            refine J_iushr (v := (((x9 ^^^ (-1)) &&& (x9 - (nI (1)))).toUInt32 >>> ((nI (2)).toUInt32 &&& Int32.toUInt32 31)).toInt32) cx dJ26_numberOfTrailingZeros_72 rfl ?_
            refine J_istore_n0 cx dJ26_numberOfTrailingZeros_73 (by decide) ?_
            refine J_iload_n cx dJ26_numberOfTrailingZeros_74 rfl ?_
            refine J_iload_n cx dJ26_numberOfTrailingZeros_75 rfl ?_
            refine J_iconst (v := nI (1)) cx dJ26_numberOfTrailingZeros_76 (by decide) ?_
            refine J_iushr (v := (((((x9 ^^^ (-1)) &&& (x9 - (nI (1)))).toUInt32 >>> ((nI (2)).toUInt32 &&& Int32.toUInt32 31)).toInt32).toUInt32 >>> ((nI (1)).toUInt32 &&& Int32.toUInt32 31)).toInt32) cx dJ26_numberOfTrailingZeros_77 rfl ?_
            refine J_iadd cx dJ26_numberOfTrailingZeros_78 ?_
            exact J_iret cx dJ26_numberOfTrailingZeros_79 hr ⟨by simp only [r_ntzI, if_pos c9, if_pos c23, if_pos c38, if_pos c52, if_neg c64], rfl, rfl⟩ (Nat.le_of_ble_eq_true rfl) (Nat.le_of_ble_eq_true rfl)
        · refine J_iinc1 (v := (nI (1)) + 4) cx dJ26_numberOfTrailingZeros_55 (by rfl) (by decide) rfl ?_
          refine J_iload_n cx dJ26_numberOfTrailingZeros_58 rfl ?_
          refine J_iconst (v := nI (4)) cx dJ26_numberOfTrailingZeros_59 (by decide) ?_
          refine J_iushr (v := (((x9 ^^^ (-1)) &&& (x9 - (nI (1)))).toUInt32 >>> ((nI (4)).toUInt32 &&& Int32.toUInt32 31)).toInt32) cx dJ26_numberOfTrailingZeros_60 rfl ?_
          refine J_istore_n0 cx dJ26_numberOfTrailingZeros_61 (by decide) ?_
          refine J_iload_n cx dJ26_numberOfTrailingZeros_62 rfl ?_
          refine J_iconst (v := nI (4)) cx dJ26_numberOfTrailingZeros_63 (by decide) ?_
          refine J_icmp_le (tgt := 74) cx dJ26_numberOfTrailingZeros_64 (by decide) (fun c64 => ?_) (fun c64 => ?_)
          · refine J_iload_n cx dJ26_numberOfTrailingZeros_74 rfl ?_
            refine J_iload_n cx dJ26_numberOfTrailingZeros_75 rfl ?_
            refine J_iconst (v := nI (1)) cx dJ26_numberOfTrailingZeros_76 (by decide) ?_
            refine J_iushr (v := (((((x9 ^^^ (-1)) &&& (x9 - (nI (1)))).toUInt32 >>> ((nI (4)).toUInt32 &&& Int32.toUInt32 31)).toInt32).toUInt32 >>> ((nI (1)).toUInt32 &&& Int32.toUInt32 31)).toInt32) cx dJ26_numberOfTrailingZeros_77 rfl ?_
            refine J_iadd cx dJ26_numberOfTrailingZeros_78 ?_
            exact J_iret cx dJ26_numberOfTrailingZeros_79 hr ⟨by simp only [r_ntzI, if_pos c9, if_pos c23, if_pos c38, if_neg c52, if_pos c64], rfl, rfl⟩ (Nat.le_of_ble_eq_true rfl) (Nat.le_of_ble_eq_true rfl)
          · refine J_iinc1 (v := ((nI (1)) + 4) + 2) cx dJ26_numberOfTrailingZeros_67 (by rfl) (by decide) rfl ?_
            refine J_iload_n cx dJ26_numberOfTrailingZeros_70 rfl ?_
            refine J_iconst (v := nI (2)) cx dJ26_numberOfTrailingZeros_71 (by decide) ?_
            refine J_iushr (v := (((((x9 ^^^ (-1)) &&& (x9 - (nI (1)))).toUInt32 >>> ((nI (4)).toUInt32 &&& Int32.toUInt32 31)).toInt32).toUInt32 >>> ((nI (2)).toUInt32 &&& Int32.toUInt32 31)).toInt32) cx dJ26_numberOfTrailingZeros_72 rfl ?_
            refine J_istore_n0 cx dJ26_numberOfTrailingZeros_73 (by decide) ?_
            refine J_iload_n cx dJ26_numberOfTrailingZeros_74 rfl ?_
            refine J_iload_n cx dJ26_numberOfTrailingZeros_75 rfl ?_
            refine J_iconst (v := nI (1)) cx dJ26_numberOfTrailingZeros_76 (by decide) ?_
            refine J_iushr (v := (((((((x9 ^^^ (-1)) &&& (x9 - (nI (1)))).toUInt32 >>> ((nI (4)).toUInt32 &&& Int32.toUInt32 31)).toInt32).toUInt32 >>> ((nI (2)).toUInt32 &&& Int32.toUInt32 31)).toInt32).toUInt32 >>> ((nI (1)).toUInt32 &&& Int32.toUInt32 31)).toInt32) cx dJ26_numberOfTrailingZeros_77 rfl ?_
            refine J_iadd cx dJ26_numberOfTrailingZeros_78 ?_
            exact J_iret cx dJ26_numberOfTrailingZeros_79 hr ⟨by simp only [r_ntzI, if_pos c9, if_pos c23, if_pos c38, if_neg c52, if_neg c64], rfl, rfl⟩ (Nat.le_of_ble_eq_true rfl) (Nat.le_of_ble_eq_true rfl)
      · refine J_iinc1 (v := (nI (1)) + 8) cx dJ26_numberOfTrailingZeros_41 (by rfl) (by decide) rfl ?_
        refine J_iload_n cx dJ26_numberOfTrailingZeros_44 rfl ?_
        refine J_bipush (v := nI (8)) cx dJ26_numberOfTrailingZeros_45 (by decide) ?_
        refine J_iushr (v := (((x9 ^^^ (-1)) &&& (x9 - (nI (1)))).toUInt32 >>> ((nI (8)).toUInt32 &&& Int32.toUInt32 31)).toInt32) cx dJ26_numberOfTrailingZeros_47 rfl ?_
        refine J_istore_n0 cx dJ26_numberOfTrailingZeros_48 (by decide) ?_
        refine J_iload_n cx dJ26_numberOfTrailingZeros_49 rfl ?_
        refine J_bipush (v := nI (16)) cx dJ26_numberOfTrailingZeros_50 (by decide) ?_
        refine J_icmp_le (tgt := 62) cx dJ26_numberOfTrailingZeros_52 (by decide) (fun c52 => ?_) (fun c52 => ?_)
        · refine J_iload_n cx dJ26_numberOfTrailingZeros_62 rfl ?_
          refine J_iconst (v := nI (4)) cx dJ26_numberOfTrailingZeros_63 (by decide) ?_
          refine J_icmp_le (tgt := 74) cx dJ26_numberOfTrailingZeros_64 (by decide) (fun c64 => ?_) (fun c64 => ?_)
          · refine J_iload_n cx dJ26_numberOfTrailingZeros_74 rfl ?_
            refine J_iload_n cx dJ26_numberOfTrailingZeros_75 rfl ?_
            refine J_iconst (v := nI (1)) cx dJ26_numberOfTrailingZeros_76 (by decide) ?_
            refine J_iushr (v := (((((x9 ^^^ (-1)) &&& (x9 - (nI (1)))).toUInt32 >>> ((nI (8)).toUInt32 &&& Int32.toUInt32 31)).toInt32).toUInt32 >>> ((nI (1)).toUInt32 &&& Int32.toUInt32 31)).toInt32) cx dJ26_numberOfTrailingZeros_77 rfl ?_
            refine J_iadd cx dJ26_numberOfTrailingZeros_78 ?_
            exact J_iret cx dJ26_numberOfTrailingZeros_79 hr ⟨by simp only [r_ntzI, if_pos c9, if_pos c23, if_neg c38, if_pos c52, if_pos c64], rfl, rfl⟩ (Nat.le_of_ble_eq_true rfl) (Nat.le_of_ble_eq_true rfl)
          · refine J_iinc1 (v := ((nI (1)) + 8) + 2) cx dJ26_numberOfTrailingZeros_67 (by rfl) (by decide) rfl ?_
            refine J_iload_n cx dJ26_numberOfTrailingZeros_70 rfl ?_
            refine J_iconst (v := nI (2)) cx dJ26_numberOfTrailingZeros_71 (by decide) ?_
            refine J_iushr (v := (((((x9 ^^^ (-1)) &&& (x9 - (nI (1)))).toUInt32 >>> ((nI (8)).toUInt32 &&& Int32.toUInt32 31)).toInt32).toUInt32 >>> ((nI (2)).toUInt32 &&& Int32.toUInt32 31)).toInt32) cx dJ26_numberOfTrailingZeros_72 rfl ?_
            refine J_istore_n0 cx dJ26_numberOfTrailingZeros_73 (by decide) ?_
            refine J_iload_n cx dJ26_numberOfTrailingZeros_74 rfl ?_
            refine J_iload_n cx dJ26_numberOfTrailingZeros_75 rfl ?_
            refine J_iconst (v := nI (1)) cx dJ26_numberOfTrailingZeros_76 (by decide) ?_
            refine J_iushr (v := (((((((x9 ^^^ (-1)) &&& (x9 - (nI (1)))).toUInt32 >>> ((nI (8)).toUInt32 &&& Int32.toUInt32 31)).toInt32).toUInt32 >>> ((nI (2)).toUInt32 &&& Int32.toUInt32 31)).toInt32).toUInt32 >>> ((nI (1)).toUInt32 &&& Int32.toUInt32 31)).toInt32) cx dJ26_numberOfTrailingZeros_77 rfl ?_
            refine J_iadd cx dJ26_numberOfTrailingZeros_78 ?_
            exact J_iret cx dJ26_numberOfTrailingZeros_79 hr ⟨by simp only [r_ntzI, if_pos c9, if_pos c23, if_neg c38, if_pos c52, if_neg c64], rfl, rfl⟩ (Nat.le_of_ble_eq_true rfl) (Nat.le_of_ble_eq_true rfl)
        · refine J_iinc1 (v := ((nI (1)) + 8) + 4) cx dJ26_numberOfTrailingZeros_55 (by rfl) (by decide) rfl ?_
          refine J_iload_n cx dJ26_numberOfTrailingZeros_58 rfl ?_
          refine J_iconst (v := nI (4)) cx dJ26_numberOfTrailingZeros_59 (by decide) ?_
          refine J_iushr (v := (((((x9 ^^^ (-1)) &&& (x9 - (nI (1)))).toUInt32 >>> ((nI (8)).toUInt32 &&& Int32.toUInt32 31)).toInt32).toUInt32 >>> ((nI (4)).toUInt32 &&& Int32.toUInt32 31)).toInt32) cx dJ26_numberOfTrailingZeros_60 rfl ?_
          refine J_istore_n0 cx dJ26_numberOfTrailingZeros_61 (by decide) ?_
          refine J_iload_n cx dJ26_numberOfTrailingZeros_62 rfl ?_
          refine J_iconst (v := nI (4)) cx dJ26_numberOfTrailingZeros_63 (by decide) ?_
          refine J_icmp_le (tgt := 74) cx dJ26_numberOfTrailingZeros_64 (by decide) (fun c64 => ?_) (fun c64 => ?_)
          · refine J_iload_n cx dJ26_numberOfTrailingZeros_74 rfl ?_
            refine J_iload_n cx dJ26_numberOfTrailingZeros_75 rfl ?_
            refine J_iconst (v := nI (1)) cx dJ26_numberOfTrailingZeros_76 (by decide) ?_
            refine J_iushr (v := (((((((x9 ^^^ (-1)) &&& (x9 - (nI (1)))).toUInt32 >>> ((nI (8)).toUInt32 &&& Int32.toUInt32 31)).toInt32).toUInt32 >>> ((nI (4)).toUInt32 &&& Int32.toUInt32 31)).toInt32).toUInt32 >>> ((nI (1)).toUInt32 &&& Int32.toUInt32 31)).toInt32) cx dJ26_numberOfTrailingZeros_77 rfl ?_
            refine J_iadd cx dJ26_numberOfTrailingZeros_78 ?_
            exact J_iret cx dJ26_numberOfTrailingZeros_79 hr ⟨by simp only [r_ntzI, if_pos c9, if_pos c23, if_neg c38, if_neg c52, if_pos c64], rfl, rfl⟩ (Nat.le_of_ble_eq_true rfl) (Nat.le_of_ble_eq_true rfl)
          · refine J_iinc1 (v := (((nI (1)) + 8) + 4) + 2) cx dJ26_numberOfTrailingZeros_67 (by rfl) (by decide) rfl ?_
            refine J_iload_n cx dJ26_numberOfTrailingZeros_70 rfl ?_
            refine J_iconst (v := nI (2)) cx dJ26_numberOfTrailingZeros_71 (by decide) ?_
            refine J_iushr (v := (((((((x9 ^^^ (-1)) &&& (x9 - (nI (1)))).toUInt32 >>> ((nI (8)).toUInt32 &&& Int32.toUInt32 31)).toInt32).toUInt32 >>> ((nI (4)).toUInt32 &&& Int32.toUInt32 31)).toInt32).toUInt32 >>> ((nI (2)).toUInt32 &&& Int32.toUInt32 31)).toInt32) cx dJ26_numberOfTrailingZeros_72 rfl ?_
            refine J_istore_n0 cx dJ26_numberOfTrailingZeros_73 (by decide) ?_
            refine J_iload_n cx dJ26_numberOfTrailingZeros_74 rfl ?_
            refine J_iload_n cx dJ26_numberOfTrailingZeros_75 rfl ?_
            refine J_iconst (v := nI (1)) cx dJ26_numberOfTrailingZeros_76 (by decide) ?_
            refine J_iushr (v := (((((((((x9 ^^^ (-1)) &&& (x9 - (nI (1)))).toUInt32 >>> ((nI (8)).toUInt32 &&& Int32.toUInt32 31)).toInt32).toUInt32 >>> ((nI (4)).toUInt32 &&& Int32.toUInt32 31)).toInt32).toUInt32 >>> ((nI (2)).toUInt32 &&& Int32.toUInt32 31)).toInt32).toUInt32 >>> ((nI (1)).toUInt32 &&& Int32.toUInt32 31)).toInt32) cx dJ26_numberOfTrailingZeros_77 rfl ?_
            refine J_iadd cx dJ26_numberOfTrailingZeros_78 ?_
            exact J_iret cx dJ26_numberOfTrailingZeros_79 hr ⟨by simp only [r_ntzI, if_pos c9, if_pos c23, if_neg c38, if_neg c52, if_neg c64], rfl, rfl⟩ (Nat.le_of_ble_eq_true rfl) (Nat.le_of_ble_eq_true rfl)
    · refine J_iinc1 (v := (nI (1)) + 16) cx dJ26_numberOfTrailingZeros_26 (by rfl) (by decide) rfl ?_
      refine J_iload_n cx dJ26_numberOfTrailingZeros_29 rfl ?_
      refine J_bipush (v := nI (16)) cx dJ26_numberOfTrailingZeros_30 (by decide) ?_
      refine J_iushr (v := (((x9 ^^^ (-1)) &&& (x9 - (nI (1)))).toUInt32 >>> ((nI (16)).toUInt32 &&& Int32.toUInt32 31)).toInt32) cx dJ26_numberOfTrailingZeros_32 rfl ?_
      refine J_istore_n0 cx dJ26_numberOfTrailingZeros_33 (by decide) ?_
      refine J_iload_n cx dJ26_numberOfTrailingZeros_34 rfl ?_
      refine J_sipush (v := nI (256)) cx dJ26_numberOfTrailingZeros_35 (by decide) ?_
      refine J_icmp_le (tgt := 49) cx dJ26_numberOfTrailingZeros_38 (by decide) (fun c38 => ?_) (fun c38 => ?_)
      · refine J_iload_n cx dJ26_numberOfTrailingZeros_49 rfl ?_
        refine J_bipush (v := nI (16)) cx dJ26_numberOfTrailingZeros_50 (by decide) ?_
        refine J_icmp_le (tgt := 62) cx dJ26_numberOfTrailingZeros_52 (by decide) (fun c52 => ?_) (fun c52 => ?_)
        · refine J_iload_n cx dJ26_numberOfTrailingZeros_62 rfl ?_
          refine J_iconst (v := nI (4)) cx dJ26_numberOfTrailingZeros_63 (by decide) ?_
          refine J_icmp_le (tgt := 74) cx dJ26_numberOfTrailingZeros_64 (by decide) (fun c64 => ?_) (fun c64 => ?_)
          · refine J_iload_n cx dJ26_numberOfTrailingZeros_74 rfl ?_
            refine J_iload_n cx dJ26_numberOfTrailingZeros_75 rfl ?_
            refine J_iconst (v := nI (1)) cx dJ26_numberOfTrailingZeros_76 (by decide) ?_
            refine J_iushr (v := (((((x9 ^^^ (-1)) &&& (x9 - (nI (1)))).toUInt32 >>> ((nI (16)).toUInt32 &&& Int32.toUInt32 31)).toInt32).toUInt32 >>> ((nI (1)).toUInt32 &&& Int32.toUInt32 31)).toInt32) cx dJ26_numberOfTrailingZeros_77 rfl ?_
            refine J_iadd cx dJ26_numberOfTrailingZeros_78 ?_
            exact J_iret cx dJ26_numberOfTrailingZeros_79 hr ⟨by simp only [r_ntzI, if_pos c9, if_neg c23, if_pos c38, if_pos c52, if_pos c64], rfl, rfl⟩ (Nat.le_of_ble_eq_true rfl) (Nat.le_of_ble_eq_true rfl)
          · refine J_iinc1 (v := ((nI (1)) + 16) + 2) cx dJ26_numberOfTrailingZeros_67 (by rfl) (by decide) rfl ?_
            refine J_iload_n cx dJ26_numberOfTrailingZeros_70 rfl ?_
            refine J_iconst (v := nI (2)) cx dJ26_numberOfTrailingZeros_71 (by decide) ?_
            refine J_iushr (v := (((((x9 ^^^ (-1)) &&& (x9 - (nI (1)))).toUInt32 >>> ((nI (16)).toUInt32 &&& Int32.toUInt32 31)).toInt32).toUInt32 >>> ((nI (2)).toUInt32 &&& Int32.toUInt32 31)).toInt32) cx dJ26_numberOfTrailingZeros_72 rfl ?_
            refine J_istore_n0 cx dJ26_numberOfTrailingZeros_73 (by decide) ?_
            refine J_iload_n cx dJ26_numberOfTrailingZeros_74 rfl ?_
            refine J_iload_n cx dJ26_numberOfTrailingZeros_75 rfl ?_
            refine J_iconst (v := nI (1)) cx dJ26_numberOfTrailingZeros_76 (by decide) ?_
            refine J_iushr (v := (((((((x9 ^^^ (-1)) &&& (x9 - (nI (1)))).toUInt32 >>> ((nI (16)).toUInt32 &&& Int32.toUInt32 31)).toInt32).toUInt32 >>> ((nI (2)).toUInt32 &&& Int32.toUInt32 31)).toInt32).toUInt32 >>> ((nI (1)).toUInt32 &&& Int32.toUInt32 31)).toInt32) cx dJ26_numberOfTrailingZeros_77 rfl ?_
            refine J_iadd cx dJ26_numberOfTrailingZeros_78 ?_
            exact J_iret cx dJ26_numberOfTrailingZeros_79 hr ⟨by simp only [r_ntzI, if_pos c9, if_neg c23, if_pos c38, if_pos c52, if_neg c64], rfl, rfl⟩ (Nat.le_of_ble_eq_true rfl) (Nat.le_of_ble_eq_true rfl)
        · refine J_iinc1 (v := ((nI (1)) + 16) + 4) cx dJ26_numberOfTrailingZeros_55 (by rfl) (by decide) rfl ?_
          refine J_iload_n cx dJ26_numberOfTrailingZeros_58 rfl ?_
          refine J_iconst (v := nI (4)) cx dJ26_numberOfTrailingZeros_59 (by decide) ?_
          refine J_iushr (v := (((((x9 ^^^ (-1)) &&& (x9 - (nI (1)))).toUInt32 >>> ((nI (16)).toUInt32 &&& Int32.toUInt32 31)).toInt32).toUInt32 >>> ((nI (4)).toUInt32 &&& Int32.toUInt32 31)).toInt32) cx dJ26_numberOfTrailingZeros_60 rfl ?_
          refine J_istore_n0 cx dJ26_numberOfTrailingZeros_61 (by decide) ?_
          refine J_iload_n cx dJ26_numberOfTrailingZeros_62 rfl ?_
          refine J_iconst (v := nI (4)) cx dJ26_numberOfTrailingZeros_63 (by decide) ?_
          refine J_icmp_le (tgt := 74) cx dJ26_numberOfTrailingZeros_64 (by decide) (fun c64 => ?_) (fun c64 => ?_)
          · refine J_iload_n cx dJ26_numberOfTrailingZeros_74 rfl ?_
            refine J_iload_n cx dJ26_numberOfTrailingZeros_75 rfl ?_
            refine J_iconst (v := nI (1)) cx dJ26_numberOfTrailingZeros_76 (by decide) ?_
            refine J_iushr (v := (((((((x9 ^^^ (-1)) &&& (x9 - (nI (1)))).toUInt32 >>> ((nI (16)).toUInt32 &&& Int32.toUInt32 31)).toInt32).toUInt32 >>> ((nI (4)).toUInt32 &&& Int32.toUInt32 31)).toInt32).toUInt32 >>> ((nI (1)).toUInt32 &&& Int32.toUInt32 31)).toInt32) cx dJ26_numberOfTrailingZeros_77 rfl ?_
            refine J_iadd cx dJ26_numberOfTrailingZeros_78 ?_
            exact J_iret cx dJ26_numberOfTrailingZeros_79 hr ⟨by simp only [r_ntzI, if_pos c9, if_neg c23, if_pos c38, if_neg c52, if_pos c64], rfl, rfl⟩ (Nat.le_of_ble_eq_true rfl) (Nat.le_of_ble_eq_true rfl)
          · refine J_iinc1 (v := (((nI (1)) + 16) + 4) + 2) cx dJ26_numberOfTrailingZeros_67 (by rfl) (by decide) rfl ?_
            refine J_iload_n cx dJ26_numberOfTrailingZeros_70 rfl ?_
            refine J_iconst (v := nI (2)) cx dJ26_numberOfTrailingZeros_71 (by decide) ?_
            refine J_iushr (v := (((((((x9 ^^^ (-1)) &&& (x9 - (nI (1)))).toUInt32 >>> ((nI (16)).toUInt32 &&& Int32.toUInt32 31)).toInt32).toUInt32 >>> ((nI (4)).toUInt32 &&& Int32.toUInt32 31)).toInt32).toUInt32 >>> ((nI (2)).toUInt32 &&& Int32.toUInt32 31)).toInt32) cx dJ26_numberOfTrailingZeros_72 rfl ?_
            refine J_istore_n0 cx dJ26_numberOfTrailingZeros_73 (by decide) ?_
            refine J_iload_n cx dJ26_numberOfTrailingZeros_74 rfl ?_
            refine J_iload_n cx dJ26_numberOfTrailingZeros_75 rfl ?_
            refine J_iconst (v := nI (1)) cx dJ26_numberOfTrailingZeros_76 (by decide) ?_
            refine J_iushr (v := (((((((((x9 ^^^ (-1)) &&& (x9 - (nI (1)))).toUInt32 >>> ((nI (16)).toUInt32 &&& Int32.toUInt32 31)).toInt32).toUInt32 >>> ((nI (4)).toUInt32 &&& Int32.toUInt32 31)).toInt32).toUInt32 >>> ((nI (2)).toUInt32 &&& Int32.toUInt32 31)).toInt32).toUInt32 >>> ((nI (1)).toUInt32 &&& Int32.toUInt32 31)).toInt32) cx dJ26_numberOfTrailingZeros_77 rfl ?_
            refine J_iadd cx dJ26_numberOfTrailingZeros_78 ?_
            exact J_iret cx dJ26_numberOfTrailingZeros_79 hr ⟨by simp only [r_ntzI, if_pos c9, if_neg c23, if_pos c38, if_neg c52, if_neg c64], rfl, rfl⟩ (Nat.le_of_ble_eq_true rfl) (Nat.le_of_ble_eq_true rfl)
      · refine J_iinc1 (v := ((nI (1)) + 16) + 8) cx dJ26_numberOfTrailingZeros_41 (by rfl) (by decide) rfl ?_
        refine J_iload_n cx dJ26_numberOfTrailingZeros_44 rfl ?_
        refine J_bipush (v := nI (8)) cx dJ26_numberOfTrailingZeros_45 (by decide) ?_
        refine J_iushr (v := (((((x9 ^^^ (-1)) &&& (x9 - (nI (1)))).toUInt32 >>> ((nI (16)).toUInt32 &&& Int32.toUInt32 31)).toInt32).toUInt32 >>> ((nI (8)).toUInt32 &&& Int32.toUInt32 31)).toInt32) cx dJ26_numberOfTrailingZeros_47 rfl ?_
        refine J_istore_n0 cx dJ26_numberOfTrailingZeros_48 (by decide) ?_
        refine J_iload_n cx dJ26_numberOfTrailingZeros_49 rfl ?_
        refine J_bipush (v := nI (16)) cx dJ26_numberOfTrailingZeros_50 (by decide) ?_
        refine J_icmp_le (tgt := 62) cx dJ26_numberOfTrailingZeros_52 (by decide) (fun c52 => ?_) (fun c52 => ?_)
        · refine J_iload_n cx dJ26_numberOfTrailingZeros_62 rfl ?_
          refine J_iconst (v := nI (4)) cx dJ26_numberOfTrailingZeros_63 (by decide) ?_
          refine J_icmp_le (tgt := 74) cx dJ26_numberOfTrailingZeros_64 (by decide) (fun c64 => ?_) (fun c64 => ?_)
          · refine J_iload_n cx dJ26_numberOfTrailingZeros_74 rfl ?_
            refine J_iload_n cx dJ26_numberOfTrailingZeros_75 rfl ?_
            refine J_iconst (v := nI (1)) cx dJ26_numberOfTrailingZeros_76 (by decide) ?_
            refine J_iushr (v := (((((((x9 ^^^ (-1)) &&& (x9 - (nI (1)))).toUInt32 >>> ((nI (16)).toUInt32 &&& Int32.toUInt32 31)).toInt32).toUInt32 >>> ((nI (8)).toUInt32 &&& Int32.toUInt32 31)).toInt32).toUInt32 >>> ((nI (1)).toUInt32 &&& Int32.toUInt32 31)).toInt32) cx dJ26_numberOfTrailingZeros_77 rfl ?_
            refine J_iadd cx dJ26_numberOfTrailingZeros_78 ?_
            exact J_iret cx dJ26_numberOfTrailingZeros_79 hr ⟨by simp only [r_ntzI, if_pos c9, if_neg c23, if_neg c38, if_pos c52, if_pos c64], rfl, rfl⟩ (Nat.le_of_ble_eq_true rfl) (Nat.le_of_ble_eq_true rfl)
          · refine J_iinc1 (v := (((nI (1)) + 16) + 8) + 2) cx dJ26_numberOfTrailingZeros_67 (by rfl) (by decide) rfl ?_
            refine J_iload_n cx dJ26_numberOfTrailingZeros_70 rfl ?_
            refine J_iconst (v := nI (2)) cx dJ26_numberOfTrailingZeros_71 (by decide) ?_
            refine J_iushr (v := (((((((x9 ^^^ (-1)) &&& (x9 - (nI (1)))).toUInt32 >>> ((nI (16)).toUInt32 &&& Int32.toUInt32 31)).toInt32).toUInt32 >>> ((nI (8)).toUInt32 &&& Int32.toUInt32 31)).toInt32).toUInt32 >>> ((nI (2)).toUInt32 &&& Int32.toUInt32 31)).toInt32) cx dJ26_numberOfTrailingZeros_72 rfl ?_
            refine J_istore_n0 cx dJ26_numberOfTrailingZeros_73 (by decide) ?_
            refine J_iload_n cx dJ26_numberOfTrailingZeros_74 rfl ?_
            refine J_iload_n cx dJ26_numberOfTrailingZeros_75 rfl ?_
            refine J_iconst (v := nI (1)) cx dJ26_numberOfTrailingZeros_76 (by decide) ?_
            refine J_iushr (v := (((((((((x9 ^^^ (-1)) &&& (x9 - (nI (1)))).toUInt32 >>> ((nI (16)).toUInt32 &&& Int32.toUInt32 31)).toInt32).toUInt32 >>> ((nI (8)).toUInt32 &&& Int32.toUInt32 31)).toInt32).toUInt32 >>> ((nI (2)).toUInt32 &&& Int32.toUInt32 31)).toInt32).toUInt32 >>> ((nI (1)).toUInt32 &&& Int32.toUInt32 31)).toInt32) cx dJ26_numberOfTrailingZeros_77 rfl ?_
            refine J_iadd cx dJ26_numberOfTrailingZeros_78 ?_
            exact J_iret cx dJ26_numberOfTrailingZeros_79 hr ⟨by simp only [r_ntzI, if_pos c9, if_neg c23, if_neg c38, if_pos c52, if_neg c64], rfl, rfl⟩ (Nat.le_of_ble_eq_true rfl) (Nat.le_of_ble_eq_true rfl)
        · refine J_iinc1 (v := (((nI (1)) + 16) + 8) + 4) cx dJ26_numberOfTrailingZeros_55 (by rfl) (by decide) rfl ?_
          refine J_iload_n cx dJ26_numberOfTrailingZeros_58 rfl ?_
          refine J_iconst (v := nI (4)) cx dJ26_numberOfTrailingZeros_59 (by decide) ?_
          refine J_iushr (v := (((((((x9 ^^^ (-1)) &&& (x9 - (nI (1)))).toUInt32 >>> ((nI (16)).toUInt32 &&& Int32.toUInt32 31)).toInt32).toUInt32 >>> ((nI (8)).toUInt32 &&& Int32.toUInt32 31)).toInt32).toUInt32 >>> ((nI (4)).toUInt32 &&& Int32.toUInt32 31)).toInt32) cx dJ26_numberOfTrailingZeros_60 rfl ?_
          refine J_istore_n0 cx dJ26_numberOfTrailingZeros_61 (by decide) ?_
          refine J_iload_n cx dJ26_numberOfTrailingZeros_62 rfl ?_
          refine J_iconst (v := nI (4)) cx dJ26_numberOfTrailingZeros_63 (by decide) ?_
          refine J_icmp_le (tgt := 74) cx dJ26_numberOfTrailingZeros_64 (by decide) (fun c64 => ?_) (fun c64 => ?_)
          · refine J_iload_n cx dJ26_numberOfTrailingZeros_74 rfl ?_
            refine J_iload_n cx dJ26_numberOfTrailingZeros_75 rfl ?_
            refine J_iconst (v := nI (1)) cx dJ26_numberOfTrailingZeros_76 (by decide) ?_
            refine J_iushr (v := (((((((((x9 ^^^ (-1)) &&& (x9 - (nI (1)))).toUInt32 >>> ((nI (16)).toUInt32 &&& Int32.toUInt32 31)).toInt32).toUInt32 >>> ((nI (8)).toUInt32 &&& Int32.toUInt32 31)).toInt32).toUInt32 >>> ((nI (4)).toUInt32 &&& Int32.toUInt32 31)).toInt32).toUInt32 >>> ((nI (1)).toUInt32 &&& Int32.toUInt32 31)).toInt32) cx dJ26_numberOfTrailingZeros_77 rfl ?_
            refine J_iadd cx dJ26_numberOfTrailingZeros_78 ?_
            exact J_iret cx dJ26_numberOfTrailingZeros_79 hr ⟨by simp only [r_ntzI, if_pos c9, if_neg c23, if_neg c38, if_neg c52, if_pos c64], rfl, rfl⟩ (Nat.le_of_ble_eq_true rfl) (Nat.le_of_ble_eq_true rfl)
          · refine J_iinc1 (v := ((((nI (1)) + 16) + 8) + 4) + 2) cx dJ26_numberOfTrailingZeros_67 (by rfl) (by decide) rfl ?_
            refine J_iload_n cx dJ26_numberOfTrailingZeros_70 rfl ?_
            refine J_iconst (v := nI (2)) cx dJ26_numberOfTrailingZeros_71 (by decide) ?_
            refine J_iushr (v := (((((((((x9 ^^^ (-1)) &&& (x9 - (nI (1)))).toUInt32 >>> ((nI (16)).toUInt32 &&& Int32.toUInt32 31)).toInt32).toUInt32 >>> ((nI (8)).toUInt32 &&& Int32.toUInt32 31)).toInt32).toUInt32 >>> ((nI (4)).toUInt32 &&& Int32.toUInt32 31)).toInt32).toUInt32 >>> ((nI (2)).toUInt32 &&& Int32.toUInt32 31)).toInt32) cx dJ26_numberOfTrailingZeros_72 rfl ?_
            refine J_istore_n0 cx dJ26_numberOfTrailingZeros_73 (by decide) ?_
            refine J_iload_n cx dJ26_numberOfTrailingZeros_74 rfl ?_
            refine J_iload_n cx dJ26_numberOfTrailingZeros_75 rfl ?_
            refine J_iconst (v := nI (1)) cx dJ26_numberOfTrailingZeros_76 (by decide) ?_
            refine J_iushr (v := (((((((((((x9 ^^^ (-1)) &&& (x9 - (nI (1)))).toUInt32 >>> ((nI (16)).toUInt32 &&& Int32.toUInt32 31)).toInt32).toUInt32 >>> ((nI (8)).toUInt32 &&& Int32.toUInt32 31)).toInt32).toUInt32 >>> ((nI (4)).toUInt32 &&& Int32.toUInt32 31)).toInt32).toUInt32 >>> ((nI (2)).toUInt32 &&& Int32.toUInt32 31)).toInt32).toUInt32 >>> ((nI (1)).toUInt32 &&& Int32.toUInt32 31)).toInt32) cx dJ26_numberOfTrailingZeros_77 rfl ?_
            refine J_iadd cx dJ26_numberOfTrailingZeros_78 ?_
            exact J_iret cx dJ26_numberOfTrailingZeros_79 hr ⟨by simp only [r_ntzI, if_pos c9, if_neg c23, if_neg c38, if_neg c52, if_neg c64], rfl, rfl⟩ (Nat.le_of_ble_eq_true rfl) (Nat.le_of_ble_eq_true rfl)
  · refine J_iload_n cx dJ26_numberOfTrailingZeros_12 rfl ?_
    refine J_bipush (v := nI (32)) cx dJ26_numberOfTrailingZeros_13 (by decide) ?_
    refine J_iand cx dJ26_numberOfTrailingZeros_15 ?_
    exact J_iret cx dJ26_numberOfTrailingZeros_16 hr ⟨by simp only [r_ntzI, if_neg c9], rfl, rfl⟩ (Nat.le_of_ble_eq_true rfl) (Nat.le_of_ble_eq_true rfl)
def r_ntzL (x9 : Int64) : Int32 := (if (x9.toInt32) = 0 then ((nI (32)) + (r_ntzI (((x9.toUInt64 >>> ((nI (32)).toInt64.toUInt64 &&& Int64.toUInt64 63)).toInt64).toInt32))) else (r_ntzI (x9.toInt32)))
set_option maxHeartbeats 1000000 in
theorem t_J35_numberOfTrailingZeros (l : Launch) (Ω : jO) {G : Mem} {sz : Nat} (x9 : Int64) : Met l yJ35_numberOfTrailingZeros (ws_ yJ35_numberOfTrailingZeros cJ35_numberOfTrailingZeros 3 (some .int)) ({ frames := 2, cells := 0, slots := 0, locals := 33 } : Room) (va_Pc [.long x9] (jWd Ω G sz)) (jQ Ω (jD (some (.int (r_ntzL x9))) G sz)) 0 0 (jB Ω) := by
  refine jMet (by decide) (Nat.le_of_ble_eq_true rfl) ?_
  intro p e s m args below meth c cx hr hnm
  refine J_loc [some (.long x9), none, none] rfl ?_
  refine J_lload_n cx dJ35_numberOfTrailingZeros_0 rfl ?_
  refine J_l2i (v := x9.toInt32) cx dJ35_numberOfTrailingZeros_1 rfl ?_
  refine J_istore_n2 cx dJ35_numberOfTrailingZeros_2 (by decide) rfl ?_
  refine J_iload_n cx dJ35_numberOfTrailingZeros_3 rfl ?_
  refine J_if_ne (tgt := 21) cx dJ35_numberOfTrailingZeros_4 (by decide) (fun c4 => ?_) (fun c4 => ?_)
  · refine J_iload_n cx dJ35_numberOfTrailingZeros_21 rfl ?_
    refine J_callS (n := 1) cx [.int (x9.toInt32)] (t_J26_numberOfTrailingZeros l Ω (x9.toInt32)) dJ35_numberOfTrailingZeros_22 (lw_S q1855 q1856 q122 q1857) ⟨by decide, by decide, by decide +kernel⟩ rfl rfl ⟨Nat.le_of_ble_eq_true rfl, Nat.le_of_ble_eq_true rfl⟩ rfl rfl (Nat.le_of_ble_eq_true rfl) ⟨Nat.le_of_ble_eq_true rfl, Nat.le_of_ble_eq_true rfl⟩ (jdet ?_)
    exact J_iret cx dJ35_numberOfTrailingZeros_25 hr ⟨by simp only [r_ntzL, if_neg c4], rfl, rfl⟩ (Nat.le_of_ble_eq_true rfl) (Nat.le_of_ble_eq_true rfl)
  · refine J_bipush (v := nI (32)) cx dJ35_numberOfTrailingZeros_7 (by decide) ?_
    refine J_lload_n cx dJ35_numberOfTrailingZeros_9 rfl ?_
    refine J_bipush (v := nI (32)) cx dJ35_numberOfTrailingZeros_10 (by decide) ?_
    refine J_lushr (v := (x9.toUInt64 >>> ((nI (32)).toInt64.toUInt64 &&& Int64.toUInt64 63)).toInt64) cx dJ35_numberOfTrailingZeros_12 rfl ?_
    refine J_l2i (v := ((x9.toUInt64 >>> ((nI (32)).toInt64.toUInt64 &&& Int64.toUInt64 63)).toInt64).toInt32) cx dJ35_numberOfTrailingZeros_13 rfl ?_
    refine J_callS (n := 1) cx [.int (((x9.toUInt64 >>> ((nI (32)).toInt64.toUInt64 &&& Int64.toUInt64 63)).toInt64).toInt32)] (t_J26_numberOfTrailingZeros l Ω (((x9.toUInt64 >>> ((nI (32)).toInt64.toUInt64 &&& Int64.toUInt64 63)).toInt64).toInt32)) dJ35_numberOfTrailingZeros_14 (lw_S q1855 q1856 q122 q1857) ⟨by decide, by decide, by decide +kernel⟩ rfl rfl ⟨Nat.le_of_ble_eq_true rfl, Nat.le_of_ble_eq_true rfl⟩ rfl rfl (Nat.le_of_ble_eq_true rfl) ⟨Nat.le_of_ble_eq_true rfl, Nat.le_of_ble_eq_true rfl⟩ (jdet ?_)
    refine J_iadd cx dJ35_numberOfTrailingZeros_17 ?_
    refine J_goto (tgt := 25) cx dJ35_numberOfTrailingZeros_18 (by decide) ?_
    exact J_iret cx dJ35_numberOfTrailingZeros_25 hr ⟨by simp only [r_ntzL, if_pos c4], rfl, rfl⟩ (Nat.le_of_ble_eq_true rfl) (Nat.le_of_ble_eq_true rfl)
def bc1 (x : Int64) : Int64 := x - ((((x).toUInt64 >>> ((nI (1)).toInt64.toUInt64 &&& Int64.toUInt64 63)).toInt64) &&& 6148914691236517205)
def bc2 (x : Int64) : Int64 := (x &&& 3689348814741910323) + ((((x).toUInt64 >>> ((nI (2)).toInt64.toUInt64 &&& Int64.toUInt64 63)).toInt64) &&& 3689348814741910323)
def bc3 (x : Int64) : Int64 := (x + (((x).toUInt64 >>> ((nI (4)).toInt64.toUInt64 &&& Int64.toUInt64 63)).toInt64)) &&& 1085102592571150095
def bc4 (x : Int64) : Int64 := x + (((x).toUInt64 >>> ((nI (8)).toInt64.toUInt64 &&& Int64.toUInt64 63)).toInt64)
def bc5 (x : Int64) : Int64 := x + (((x).toUInt64 >>> ((nI (16)).toInt64.toUInt64 &&& Int64.toUInt64 63)).toInt64)
def bc6 (x : Int64) : Int64 := x + (((x).toUInt64 >>> ((nI (32)).toInt64.toUInt64 &&& Int64.toUInt64 63)).toInt64)
def r_bitCount (x9 : Int64) : Int32 := (bc6 (bc5 (bc4 (bc3 (bc2 (bc1 x9)))))).toInt32 &&& nI (127)
set_option maxHeartbeats 1000000 in
theorem t_J35_bitCount (l : Launch) (Ω : jO) {G : Mem} {sz : Nat} (x9 : Int64) : Met l yJ35_bitCount (ws_ yJ35_bitCount cJ35_bitCount 2 (some .int)) ({ frames := 1, cells := 0, slots := 0, locals := 12 } : Room) (va_Pc [.long x9] (jWd Ω G sz)) (jQ Ω (jD (some (.int (r_bitCount x9))) G sz)) 0 0 (jB Ω) := by
  refine jMet (by decide) (Nat.le_of_ble_eq_true rfl) ?_
  intro p e s m args below meth c cx hr hnm
  refine J_loc [some (.long x9), none] rfl ?_
  refine J_lload_n cx dJ35_bitCount_0 rfl ?_
  refine J_lload_n cx dJ35_bitCount_1 rfl ?_
  refine J_iconst (v := nI (1)) cx dJ35_bitCount_2 (by decide) ?_
  refine J_lushr (v := (x9.toUInt64 >>> ((nI (1)).toInt64.toUInt64 &&& Int64.toUInt64 63)).toInt64) cx dJ35_bitCount_3 rfl ?_
  refine J_ldc2 (v := 6148914691236517205) cx dJ35_bitCount_4 q1887 ?_
  refine J_land cx dJ35_bitCount_7 ?_
  refine J_lsub cx dJ35_bitCount_8 ?_
  refine J_lstore_n0 cx dJ35_bitCount_9 (by decide) ?_
  refine J_loc [some (.long (bc1 x9)), none] rfl ?_
  refine J_lload_n cx dJ35_bitCount_10 rfl ?_
  refine J_ldc2 (v := 3689348814741910323) cx dJ35_bitCount_11 q1888 ?_
  refine J_land cx dJ35_bitCount_14 ?_
  refine J_lload_n cx dJ35_bitCount_15 rfl ?_
  refine J_iconst (v := nI (2)) cx dJ35_bitCount_16 (by decide) ?_
  refine J_lushr (v := ((bc1 x9).toUInt64 >>> ((nI (2)).toInt64.toUInt64 &&& Int64.toUInt64 63)).toInt64) cx dJ35_bitCount_17 rfl ?_
  refine J_ldc2 (v := 3689348814741910323) cx dJ35_bitCount_18 q1888 ?_
  refine J_land cx dJ35_bitCount_21 ?_
  refine J_ladd cx dJ35_bitCount_22 ?_
  refine J_lstore_n0 cx dJ35_bitCount_23 (by decide) ?_
  refine J_loc [some (.long (bc2 (bc1 x9))), none] rfl ?_
  refine J_lload_n cx dJ35_bitCount_24 rfl ?_
  refine J_lload_n cx dJ35_bitCount_25 rfl ?_
  refine J_iconst (v := nI (4)) cx dJ35_bitCount_26 (by decide) ?_
  refine J_lushr (v := ((bc2 (bc1 x9)).toUInt64 >>> ((nI (4)).toInt64.toUInt64 &&& Int64.toUInt64 63)).toInt64) cx dJ35_bitCount_27 rfl ?_
  refine J_ladd cx dJ35_bitCount_28 ?_
  refine J_ldc2 (v := 1085102592571150095) cx dJ35_bitCount_29 q1889 ?_
  refine J_land cx dJ35_bitCount_32 ?_
  refine J_lstore_n0 cx dJ35_bitCount_33 (by decide) ?_
  refine J_loc [some (.long (bc3 (bc2 (bc1 x9)))), none] rfl ?_
  refine J_lload_n cx dJ35_bitCount_34 rfl ?_
  refine J_lload_n cx dJ35_bitCount_35 rfl ?_
  refine J_bipush (v := nI (8)) cx dJ35_bitCount_36 (by decide) ?_
  refine J_lushr (v := ((bc3 (bc2 (bc1 x9))).toUInt64 >>> ((nI (8)).toInt64.toUInt64 &&& Int64.toUInt64 63)).toInt64) cx dJ35_bitCount_38 rfl ?_
  refine J_ladd cx dJ35_bitCount_39 ?_
  refine J_lstore_n0 cx dJ35_bitCount_40 (by decide) ?_
  refine J_loc [some (.long (bc4 (bc3 (bc2 (bc1 x9))))), none] rfl ?_
  refine J_lload_n cx dJ35_bitCount_41 rfl ?_
  refine J_lload_n cx dJ35_bitCount_42 rfl ?_
  refine J_bipush (v := nI (16)) cx dJ35_bitCount_43 (by decide) ?_
  refine J_lushr (v := ((bc4 (bc3 (bc2 (bc1 x9)))).toUInt64 >>> ((nI (16)).toInt64.toUInt64 &&& Int64.toUInt64 63)).toInt64) cx dJ35_bitCount_45 rfl ?_
  refine J_ladd cx dJ35_bitCount_46 ?_
  refine J_lstore_n0 cx dJ35_bitCount_47 (by decide) ?_
  refine J_loc [some (.long (bc5 (bc4 (bc3 (bc2 (bc1 x9)))))), none] rfl ?_
  refine J_lload_n cx dJ35_bitCount_48 rfl ?_
  refine J_lload_n cx dJ35_bitCount_49 rfl ?_
  refine J_bipush (v := nI (32)) cx dJ35_bitCount_50 (by decide) ?_
  refine J_lushr (v := ((bc5 (bc4 (bc3 (bc2 (bc1 x9))))).toUInt64 >>> ((nI (32)).toInt64.toUInt64 &&& Int64.toUInt64 63)).toInt64) cx dJ35_bitCount_52 rfl ?_
  refine J_ladd cx dJ35_bitCount_53 ?_
  refine J_lstore_n0 cx dJ35_bitCount_54 (by decide) ?_
  refine J_loc [some (.long (bc6 (bc5 (bc4 (bc3 (bc2 (bc1 x9))))))), none] rfl ?_
  refine J_lload_n cx dJ35_bitCount_55 rfl ?_
  refine J_l2i (v := (bc6 (bc5 (bc4 (bc3 (bc2 (bc1 x9)))))).toInt32) cx dJ35_bitCount_56 rfl ?_
  refine J_bipush (v := nI (127)) cx dJ35_bitCount_57 (by decide) ?_
  refine J_iand cx dJ35_bitCount_59 ?_
  exact J_iret cx dJ35_bitCount_60 hr ⟨rfl, rfl, rfl⟩ (Nat.le_of_ble_eq_true rfl) (Nat.le_of_ble_eq_true rfl)
