/-! JDK 5 (gen/mk_bx.py): boxed ints of the cache -/
set_option maxRecDepth 100000
section JBX
variable {p : Program} {l : Launch} {e : Env} {R : Room} {s : State} {m : MethodId} {args : Array Value} {below : List Frame} {meth : Method} {c : Code} {Q : State → Prop} {Ω : jO} {nL : Nat}
variable {cells slots sz : Nat} {G : Mem} {L : List (Option Value)} {st : List Value} {cc : ByteArray} {own : String} {pc : Nat}
theorem J_tq (cx : jCX p s m args meth c cc own Ω nL) {k : Nat} (hk : k < 256) (hdg : decode cc pc = .ok (.aaload, 1))
    (kk : J p l e R s m args below meth c Ω nL Q cells slots sz G (pc + 1) L (.ref (Ω.2.2.1 (k + 10)) :: st)) : J p l e R s m args below meth c Ω nL Q cells slots sz G pc L (.int (nI k) :: .ref (Ω.2.2.1 1) :: st) := fun H locs ls h1 h2 h3 h4 =>
  vb_tq (v := .ref (Ω.2.2.1 (k + 10))) cx.1 cx.2.1 cx.sta.2.2.2.1 h3 (jin rfl hk (by decide)).1 (by rw [(jin rfl hk (by decide)).2]) hdg (kk H locs ls h1 h2 h3 h4)
theorem J_bxget (cx : jCX p s m args meth c cc own Ω nL) {k index : Nat} {ref : String} (hk : k < 256) (hlink : Cond.fieldLink own index ref "value" "I" ∈ lw_all) (hsame : ∀ x, s.fieldFound? "java/lang/Integer" "value" "I" = some x → s.fieldFound? ref "value" "I" = some x) (hdg : decode cc pc = .ok (.getfield index, 3))
    (kk : J p l e R s m args below meth c Ω nL Q cells slots sz G (pc + 3) L (.int (vb_c k) :: st)) : J p l e R s m args below meth c Ω nL Q cells slots sz G pc L (.ref (Ω.2.2.1 (k + 10)) :: st) := fun H locs ls h1 h2 h3 h4 =>
  va_getX (i := k) (v := fun k => .int (vb_c k)) cx.1 cx.2.1 cx.sta.2.2.2.2.2.1.2 hk h3 cx.ow (cx.ts _ hlink) hsame hdg (kk H locs ls h1 h2 h3 h4)
theorem jbx : ∀ n : Nat, n < 128 → vb_c (n + 128) = nI n := by decide +kernel
end JBX
theorem t_J26_intValue (l : Launch) (Ω : jO) {G : Mem} {sz : Nat} (k9 : Nat) (hk : k9 < 256) : Met l yJ26_intValue (ws_ yJ26_intValue cJ26_intValue 1 (some .int)) ({ frames := 1, cells := 0, slots := 0, locals := 12 } : Room) (va_Pc [.ref (Ω.2.2.1 (k9 + 10))] (jWd Ω G sz)) (jQ Ω (jD (some (.int (vb_c k9))) G sz)) 0 0 (jB Ω) := by
  refine jMetF (by decide +kernel) (Nat.le_of_ble_eq_true rfl) ?_
  intro p e s m args below meth c cx hr hnm
  refine J_loc [some (.ref (Ω.2.2.1 (k9 + 10)))] rfl ?_
  refine J_aload_n cx dJ26_intValue_0 rfl ?_
  refine J_bxget cx hk q1225 (fun _ h => h) dJ26_intValue_1 ?_
  exact J_iret cx dJ26_intValue_4 hr ⟨rfl, rfl, rfl⟩ (Nat.le_of_ble_eq_true rfl) (Nat.le_of_ble_eq_true rfl)
theorem jbx1 : ∀ n : Nat, n < 128 → ¬ nI n < -128 := by decide +kernel
theorem jbx2 : ∀ n : Nat, n < 128 → ¬ 127 < nI n := by decide +kernel
theorem t_J26_valueOf (l : Launch) (Ω : jO) {G : Mem} {sz : Nat} (n9 : Nat) (hn : n9 < 128) : Met l yJ26_valueOf (ws_ yJ26_valueOf cJ26_valueOf 1 (some (.object "java/lang/Integer"))) ({ frames := 1, cells := 0, slots := 0, locals := 12 } : Room) (va_Pc [.int (nI (n9))] (jWd Ω G sz)) (jQ Ω (jD (some (.ref (Ω.2.2.1 (n9 + 128 + 10)))) G sz)) 0 0 (jB Ω) := by
  refine jMetF (by decide +kernel) (Nat.le_of_ble_eq_true rfl) ?_
  intro p e s m args below meth c cx hr hnm
  refine J_loc [some (.int (nI (n9)))] rfl ?_
  refine J_iload_n cx dJ26_valueOf_0 rfl ?_
  refine J_bipush (v := -128) cx dJ26_valueOf_1 (by decide) ?_
  refine J_icmp_lt (tgt := 23) cx dJ26_valueOf_3 (by decide) (fun c3 => absurd c3 (jbx1 n9 hn)) (fun c3 => ?_)
  refine J_iload_n cx dJ26_valueOf_6 rfl ?_
  refine J_gets cx cx.sta.2.2.2.2.1 dJ26_valueOf_7 q1212 (fun _ h => h) ?_
  refine J_icmp_gt (tgt := 23) cx dJ26_valueOf_10 (by decide) (fun c10 => absurd c10 (jbx2 n9 hn)) (fun c10 => ?_)
  refine J_gets cx cx.sta.2.2.1 dJ26_valueOf_13 q1214 (fun _ h => h) ?_
  refine J_iload_n cx dJ26_valueOf_16 rfl ?_
  refine J_sipush (v := nI (128)) cx dJ26_valueOf_17 (by decide) ?_
  refine J_iaddN cx dJ26_valueOf_20 ?_
  refine J_tq cx (k := n9 + 128) (by omega) dJ26_valueOf_21 ?_
  exact J_aret cx dJ26_valueOf_22 hr (Or.inl ⟨_, rfl⟩) (Or.inr ⟨_, rfl⟩) ⟨rfl, rfl, rfl⟩ (Nat.le_of_ble_eq_true rfl) (Nat.le_of_ble_eq_true rfl)
section JBX2
variable {p : Program} {l : Launch} {e : Env} {R : Room} {s : State} {m : MethodId} {args : Array Value} {below : List Frame} {meth : Method} {c : Code} {Q : State → Prop} {Ω : jO} {nL : Nat}
variable {cells slots sz : Nat} {G : Mem} {L : List (Option Value)} {st : List Value} {cc : ByteArray} {own : String} {pc : Nat}
theorem J_intValue (cx : jCX p s m args meth c cc own Ω nL) {index n9 : Nat} (hn : n9 < 128) (hdg : decode cc pc = .ok (.invokevirtual index, 3)) (hlk : Cond.methodLink own index ⟨"java/lang/Integer", "intValue", "()I"⟩ ∈ lw_all) (hR : 2 ≤ R.frames ∧ 40 ≤ R.locals) (hW : (st.map fun v => v.category).sum ≤ 8) (hf : cells ≤ R.cells ∧ slots ≤ R.slots)
    (kk : J p l e R s m args below meth c Ω nL Q cells slots sz G (pc + 3) L (.int (nI n9) :: st)) : J p l e R s m args below meth c Ω nL Q cells slots sz G pc L (.ref (Ω.2.2.1 (n9 + 128 + 10)) :: st) := by
  refine jrun (rest := st) cx (fun H locs ls h1 h2 h3 h4 => va_runV (C := "java/lang/Integer") (As := []) (jfix cx) (t_J26_intValue l Ω (n9 + 128) (by omega)) (cwV 0 cx.ts (lw_V hlk q1206 q1207 q122 q1208) rfl rfl rfl ⟨rfl, by decide, by decide, by decide +kernel⟩ ⟨hR.1, Nat.le_trans (Nat.le_of_ble_eq_true rfl) hR.2⟩) ⟨jWd.blind _, ?_, fun U hU hW9 => ⟨rfl, jWd.call cx h1 h2 h3 hU hW9⟩⟩ rfl rfl h4.1 rfl (lv_room hW) hdg ⟨hf.1, hf.2⟩) (jdet ?_)
  · obtain ⟨cell, g1, g2, g3, -⟩ := (cx.sta.2.2.2.2.2.1.1 (n9 + 128) (by omega)).kept h3.2.1
    exact ⟨cell, g1, g2, g3⟩
  · rw [jbx n9 hn]
    exact kk
theorem J_valueOf (cx : jCX p s m args meth c cc own Ω nL) {index n9 : Nat} (hn : n9 < 128) (hdg : decode cc pc = .ok (.invokestatic index, 3)) (hlk : Cond.methodLink own index ⟨"java/lang/Integer", "valueOf", "(I)Ljava/lang/Integer;"⟩ ∈ lw_all) (hR : 2 ≤ R.frames ∧ 40 ≤ R.locals) (hW : (st.map fun v => v.category).sum ≤ 8) (hf : cells ≤ R.cells ∧ slots ≤ R.slots)
    (kk : J p l e R s m args below meth c Ω nL Q cells slots sz G (pc + 3) L (.ref (Ω.2.2.1 (n9 + 128 + 10)) :: st)) : J p l e R s m args below meth c Ω nL Q cells slots sz G pc L (.int (nI n9) :: st) := by
  refine J_callS (n := 1) cx [.int (nI n9)] (t_J26_valueOf l Ω n9 hn) hdg (lw_S hlk q1210 q122 q1211) ⟨by decide, by decide, by decide +kernel⟩ rfl rfl ⟨hR.1, Nat.le_trans (Nat.le_of_ble_eq_true rfl) hR.2⟩ rfl rfl hW ⟨hf.1, hf.2⟩ (jdet ?_)
  exact kk
end JBX2
