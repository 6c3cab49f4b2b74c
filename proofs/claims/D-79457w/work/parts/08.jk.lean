/-! THE JUDGEMENT J: a frame's pc, locals and stack and the whole known memory in the open, over the kit's W -/
set_option maxRecDepth 100000
abbrev vwCl : List vw_C := [(RX0, TX0, 7), (RX1, TX1, 13), (RX2, TX2, 1), (RX3, TX3, 20), (RX5, TX5, 4), (RX6, TX6, 12), (RX8, TX8, 1), (RX9, TX9, 6), (RX10, TX10, 8), (RX11, TX11, 7), (RX12, TX12, 3), (RX13, TX13, 4), (RX14, TX14, 3), (RX15, TX15, 5), (RX16, TX16, 4), (RX17, TX17, 5), (RX18, TX18, 4), (RX19, TX19, 2), (RX20, TX20, 7), (RX21, TX21, 3), (RX23, TX23, 1), (RX24, TX24, 1), (RX25, TX25, 2), (RX26, TX26, 1), (RX27, TX27, 2), (RX28, TX28, 7), (RX29, TX29, 2), (RX30, TX30, 3), (RJ2, TJ2, 3), (RJ4, TJ4, 4), (RJ5, TJ5, 3), (RJ12, TJ12, 4), (RJ14, TJ14, 5), (RJ27, TJ27, 3), (RJ30, TJ30, 2), (RJ34, TJ34, 3), (RJ41, TJ41, 2), (RJ45, TJ45, 2), (RJ33, TJ33, 6)]
/-- what is known of the heap: a partial picture, a cell an address -/
abbrev Mem : Type := Nat → Option va_E
def gset (G : Mem) (a : Nat) (x : va_E) : Mem := fun q => if q = a then some x else G q
theorem gset_eq {G : Mem} {a : Nat} {x : va_E} : gset G a x a = some x := if_pos rfl
theorem gset_ne {G : Mem} {a q : Nat} {x : va_E} (h : q ≠ a) : gset G a x q = G q := if_neg h
/-- the law's constants: the classes' numbers and slots; the array classes; addresses of what was there at the start; the first address of its own -/
abbrev jO : Type := va_G × (Nat → ClassId) × (Nat → Nat) × Nat
/-- an object's monitor is free -/
def jFr (a : Nat) (x : va_E) (H : Heap) : Prop := match x with
  | .inl _ => True
  | .inr _ => ∀ c : Cell, H[a]? = some c → c.monitor.owner = none ∧ c.monitor.count = 0
theorem jFr.kept {a : Nat} {x : va_E} {H H1 : Heap} (h : jFr a x H) (e : H1[a]? = H[a]?) : jFr a x H1 := by
  cases x with
  | inl _ => exact True.intro
  | inr _ => exact fun c hc => h c (e.symm.trans hc)
def jGR (D : va_G) (G : Mem) (H : Heap) : Prop := ∀ (a : Nat) (x : va_E), G a = some x → va_at D vwCl (a, x) H ∧ jFr a x H
abbrev jTy (dA : Nat → ClassId) : List (ClassId × FieldType) := [(dA 0, .int), (dA 1, .byte), (dA 2, .char), (dA 3, .long), (dA 4, .object "java/lang/Object"), (dA 5, .object "TurningWheel$Coated")]
abbrev jB (Ω : jO) : Nat → Prop := fun q => Ω.2.2.2 ≤ q
/-- words of the tables that don't ride in the lists -/
def jwk : Cond → Bool
  | .fieldLinkNest .. => true
  | .methodLinkNest .. => true
  | .castable .. => true
  | .declares .. => true
  | _ => false
/-- getClass() asked of a list by its interface -/
def jGc (U : State) : Prop := (Cond.declares ⟨"java/lang/Object", "getClass", "()Ljava/lang/Class;"⟩).before #[] U = true ∧ (Cond.interfaceMethod "java/util/List" "java/lang/Object" "getClass" "()Ljava/lang/Class;").before #[] U = true ∧ (Cond.publicMethod ⟨"java/lang/Object", "getClass", "()Ljava/lang/Class;"⟩).before #[] U = true ∧ (Cond.unhidden "java/util/ArrayList" "getClass" "()Ljava/lang/Class;").before #[] U = true
theorem jGc_if {u U : State} (hvm : u.vm.Alike U.vm) : (Cond.interfaceMethod "java/util/List" "java/lang/Object" "getClass" "()Ljava/lang/Class;").before #[] (u.setVm U.vm) = (Cond.interfaceMethod "java/util/List" "java/lang/Object" "getClass" "()Ljava/lang/Class;").before #[] u := by
  simp only [Cond.before, Cond.holds, Cond.value, State.vm_setVm, hvm.findClass, State.methodFound?_setVm hvm, State.methodNamed?_setVm hvm, arm_isInterface_setVm hvm]
theorem jGc.moved {u U : State} (hvm : u.vm.Alike U.vm) (h : jGc u) : jGc U := by
  obtain ⟨h1, h2, h3, h4⟩ := h
  have tr : ∀ {c : Cond}, c.onTables = true → c.before #[] (u.setVm U.vm) = true → c.before #[] U = true := by
    intro c hc h
    have e := Cond.onTables_vm (A := #[]) (A' := #[]) (U := u) (U' := U) U.vm c hc
    have hU : U.setVm U.vm = U := rfl
    rw [hU] at e
    rw [← e]
    exact h
  refine ⟨tr rfl (by rw [Cond.declares_setVm hvm]; exact h1), ?_, tr rfl (by rw [Cond.publicMethod_setVm hvm]; exact h3), tr rfl (by rw [Cond.unhidden_setVm hvm]; exact h4)⟩
  exact tr rfl (by rw [jGc_if hvm]; exact h2)
def jKw (Ω : jO) (U : State) : Prop :=
  va_K Ω.1 vwCl (jTy Ω.2.1) U ∧ (∀ w ∈ lw_tbl, jwk w = true → va_Nw w U) ∧ (∀ C : String, Cond.arrayOver (.object C) ∈ lw_tbl → va_AO C U) ∧
  (∀ (C : String) (x y : MethodName), (x.cls ≠ "java/lang/invoke/MethodHandle" ∧ x.cls ≠ "java/lang/invoke/VarHandle") → Cond.declares x ∈ lw_tbl → Cond.interfaceMethod x.cls x.cls x.name x.desc ∈ lw_tbl → Cond.publicMethod y ∈ lw_tbl → Cond.unhidden C x.name x.desc ∈ lw_tbl → Cond.castable C x.cls ∈ lw_tbl → va_Fw C x y U) ∧ jGc U
/-- the pairs of classes that are used as not castable -/
abbrev jNcL : List (String × String) := [("TurningWheel$Refused", "TurningWheel$OutOfRange"), ("TurningWheel$OutOfRange", "TurningWheel$Refused"), ("TurningWheel$Raw", "TurningWheel$Coated"), ("java/lang/ArrayStoreException", "TurningWheel$Refused"), ("TurningWheel$Refused", "TurningWheel$BadSign"), ("TurningWheel$BadSign", "TurningWheel$Refused"), ("TurningWheel$BadSign", "TurningWheel$OutOfRange"), ("TurningWheel$OutOfRange", "TurningWheel$BadSign")]
/-- the class objects that the code compares -/
def jMi (Ω : jO) (U : State) : Prop :=
  va_Mi "[Ljava/lang/Object;" (Ω.2.2.1 2) U ∧ va_Mi "java/util/ArrayList" (Ω.2.2.1 3) U ∧ va_Mi "java/util/Collections$UnmodifiableList" (Ω.2.2.1 4) U ∧ va_Mi "java/util/Collections$UnmodifiableRandomAccessList" (Ω.2.2.1 5) U ∧ Ω.2.2.1 3 ≠ Ω.2.2.1 4 ∧ Ω.2.2.1 3 ≠ Ω.2.2.1 5 ∧ (∀ C T : String, (C, T) ∈ jNcL → va_Nc C T U)
theorem jMi.moved {Ω : jO} {u U : State} (hA : u.vm.Alike U.vm) (h : jMi Ω u) : jMi Ω U := ⟨h.1.moved hA, h.2.1.moved hA, h.2.2.1.moved hA, h.2.2.2.1.moved hA, h.2.2.2.2.1, h.2.2.2.2.2.1, fun C T w => va_Nc.moved hA (h.2.2.2.2.2.2 C T w)⟩
def jSt (Ω : jO) (U : State) (H : Heap) : Prop :=
  va_Z "java/util/ArrayList" "DEFAULTCAPACITY_EMPTY_ELEMENTDATA" "[Ljava/lang/Object;" (.ref (Ω.2.2.1 0)) (jB Ω) U H ∧
  va_T (.object "java/lang/Object") (Ω.2.2.1 0) 0 (fun _ => .null) (jB Ω) U H ∧
  va_Z "java/lang/Integer$IntegerCache" "cache" "[Ljava/lang/Integer;" (.ref (Ω.2.2.1 1)) (jB Ω) U H ∧
  va_T (.object "java/lang/Integer") (Ω.2.2.1 1) 256 (fun k => .ref (Ω.2.2.1 (k + 10))) (jB Ω) U H ∧
  va_Z "java/lang/Integer$IntegerCache" "high" "I" (.int 127) (jB Ω) U H ∧
  vb_C (fun k => Ω.2.2.1 (k + 10)) (jB Ω) U H ∧
  va_Z "java/util/BitSet" "$assertionsDisabled" "Z" (.int 1) (jB Ω) U H ∧
  va_Z "java/util/ImmutableCollections" "$assertionsDisabled" "Z" (.int 1) (jB Ω) U H ∧
  vx_Zq Bundle.tN "UNASSIGNED_STACK" Bundle.steD (jB Ω) U H ∧ vx_Zq Bundle.tN "SUPPRESSED_SENTINEL" Bundle.listD (jB Ω) U H ∧ jMi Ω U
theorem jKw.warm {Ω : jO} {s U : State} (hW : s.WarmedH U.vm) (h : jKw Ω s) : jKw Ω U := by
  obtain ⟨h1, h2, h3, h4, h5⟩ := h
  refine ⟨va_K.moved hW.alike h1, fun w hw hk => ?_, fun C hC => va_AO.moved hW.alike (h3 C hC), fun C x y hx a1 a2 a3 a4 a5 => va_Fw.moved hx hW.alike (h4 C x y hx a1 a2 a3 a4 a5), h5.moved hW.alike⟩
  have h := h2 w hw hk
  cases w <;> simp [jwk] at hk
  · first | exact va_Nw.warmF hW h | exact va_Nw.warmM hW h
  · first | exact va_Nw.warmF hW h | exact va_Nw.warmM hW h
  · exact va_Nw.warmD hW h
  · exact va_Nw.warmC hW h
theorem jKw.same {Ω : jO} {s U : State} (hv : s.vm = U.vm) (h : jKw Ω s) : jKw Ω U := by
  have hA : s.vm.Alike U.vm := by rw [hv]; exact Vm.Alike.refl _
  obtain ⟨h1, h2, h3, h4, h5⟩ := h
  refine ⟨va_K.moved hA h1, fun w hw hk => ?_, fun C hC => va_AO.moved hA (h3 C hC), fun C x y hx a1 a2 a3 a4 a5 => va_Fw.moved hx hA (h4 C x y hx a1 a2 a3 a4 a5), h5.moved hA⟩
  refine va_Nw.same ?_ hv (h2 w hw hk)
  cases w <;> first | rfl | simp [jwk] at hk
theorem jSt.moved {Ω : jO} {u U : State} {H : Heap} (hA : u.vm.Alike U.vm) (h : jSt Ω u H) : jSt Ω U H := by
  obtain ⟨h1, h2, h3, h4, h5, h6, h7, h8, h9, h10, h11⟩ := h
  exact ⟨va_Z.moved hA h1, va_T.moved hA h2, va_Z.moved hA h3, va_T.moved hA h4, va_Z.moved hA h5, vb_C.moved hA h6, va_Z.moved hA h7, va_Z.moved hA h8, vx_Zq.moved hA h9, vx_Zq.moved hA h10, h11.moved hA⟩
theorem jSt.kept {Ω : jO} {U : State} {H H1 : Heap} (h : jSt Ω U H) (hq : ∀ a : Nat, a < H.size → ¬ jB Ω a → H1[a]? = H[a]?) : jSt Ω U H1 := by
  obtain ⟨h1, h2, h3, h4, h5, h6, h7, h8, h9, h10, h11⟩ := h
  exact ⟨h1.kept hq, h2.kept hq, h3.kept hq, h4.kept hq, h5.kept hq, h6.kept hq, h7.kept hq, h8.kept hq, h9.kept hq, h10.kept hq, h11⟩
/-- the whole world at a method's start: the heap's size, what is known of it, the tables, the statics -/
def jWd (Ω : jO) (G : Mem) (sz : Nat) (U : State) : Prop := U.heap.size = sz ∧ jGR Ω.1 G U.heap ∧ jKw Ω U ∧ Ω.2.2.2 ≤ sz ∧ jSt Ω U U.heap
/-- a method's end -/
def jQ (Ω : jO) (post : Option Value → Mem → Nat → Prop) : Array Value → State → Outcome → State → Prop := fun _ st oc t =>
  (∃ (v : Option Value) (G' : Mem) (sz' : Nat), oc = .returned v ∧ post v G' sz' ∧ t.heap.size = sz' ∧ jGR Ω.1 G' t.heap) ∧ va_F (jB Ω) st t
/-- an answer, a memory and a size that are determined -/
def jD (v0 : Option Value) (G1 : Mem) (sz1 : Nat) : Option Value → Mem → Nat → Prop := fun v G' sz' => v = v0 ∧ G' = G1 ∧ sz' = sz1
/-- what a method's walk has at hand -/
def jCX (p : Program) (s : State) (m : MethodId) (args : Array Value) (meth : Method) (c : Code) (cc : ByteArray) (own : String) (Ω : jO) (nL : Nat) : Prop :=
  p.tables.exec = Jvm.exec ∧ c.code = cc ∧ c.maxLocals = nL ∧ s.vm.findClass own = some m.cls ∧ (∀ w ∈ lw_all, w.before args s = true) ∧ jKw Ω s ∧ Ω.2.2.2 ≤ s.heap.size ∧ meth.locks = false ∧ jSt Ω s s.heap
/-- the locals: slot by slot; none: not spoken of -/
def jL (ls : Array Slot) (nL : Nat) (L : List (Option Value)) : Prop := ls.size = nL ∧ lv_wf ls ∧ L.length = nL ∧ ∀ (i : Nat) (v : Value), L[i]? = some (some v) → ls[i]? = some (.val v)
def jpr : Nat → List (Option Value) → List (Nat × Value)
  | _, [] => []
  | i, some v :: L => (i, v) :: jpr (i + 1) L
  | i, none :: L => jpr (i + 1) L
theorem jpr_mem : ∀ (L : List (Option Value)) (i0 i : Nat) (v : Value), L[i]? = some (some v) → (i0 + i, v) ∈ jpr i0 L
  | [], _, _, _, h => by simp at h
  | a :: L, i0, 0, v, h => by
    simp at h
    subst h
    simp [jpr]
  | a :: L, i0, i + 1, v, h => by
    have h2 := jpr_mem L (i0 + 1) i v (by simpa using h)
    rw [show i0 + (i + 1) = i0 + 1 + i by omega]
    cases a with
    | none => simpa [jpr] using h2
    | some w => exact List.mem_cons_of_mem _ h2
theorem jpr_of : ∀ (L : List (Option Value)) (i0 : Nat) (q : Nat × Value), q ∈ jpr i0 L → ∃ i, q.1 = i0 + i ∧ L[i]? = some (some q.2)
  | [], _, _, h => by simp [jpr] at h
  | none :: L, i0, q, h => by
    obtain ⟨i, h1, h2⟩ := jpr_of L (i0 + 1) q h
    exact ⟨i + 1, by omega, by simpa using h2⟩
  | some w :: L, i0, q, h => by
    simp only [jpr, List.mem_cons] at h
    rcases h with rfl | h
    · exact ⟨0, rfl, rfl⟩
    · obtain ⟨i, h1, h2⟩ := jpr_of L (i0 + 1) q h
      exact ⟨i + 1, by omega, by simpa using h2⟩
theorem jL.has {ls : Array Slot} {nL : Nat} {L : List (Option Value)} (h : jL ls nL L) : lv_has ls nL (jpr 0 L) := by
  refine ⟨h.1, h.2.1, fun q hq => ?_⟩
  obtain ⟨i, h1, h2⟩ := jpr_of L 0 q hq
  rw [h1, Nat.zero_add]
  exact h.2.2.2 i q.2 h2
/-- the slot ahead holds no long, no double -/
def jok1 : Option Value → Bool
  | none => true
  | some v => v.category == 1
def jok (L : List (Option Value)) : Nat → Bool
  | 0 => true
  | i + 1 => match L[i]? with | some a => jok1 a | none => true
theorem jok_at {L : List (Option Value)} {i : Nat} (h : jok L (i + 1) = true) {w : Value} (hw : L[i]? = some (some w)) : w.category ≠ 2 := by
  simp [jok, hw, jok1] at h
  omega
theorem j1_use {ls : Array Slot} {nL i : Nat} {L : List (Option Value)} {v : Value} {X : Array Slot → Prop} {Y : Prop} (h : jL ls nL L) (hi : i < nL) (ho : jok L i = true)
    (row : ∀ lv lv', lv_has ls nL lv → (∀ j w, L[j]? = some (some w) → (j, w) ∈ lv) → (i, v) :: lv.filter (fun q => !(q.1 == i) && !(q.1 + 1 == i && q.2.category == 2)) = lv' → (∀ ls', lv_has ls' nL lv' → X ls') → Y)
    (kk : ∀ ls', jL ls' nL (L.set i (some v)) → X ls') : Y := by
  refine row (jpr 0 L) _ h.has (fun j w hw => by have := jpr_mem L 0 j w hw; rwa [Nat.zero_add] at this) rfl (fun ls' h' => kk ls' ⟨h'.1, h'.2.1, by rw [List.length_set]; exact h.2.2.1, fun j w hj => ?_⟩)
  by_cases e : j = i
  · subst e
    have hl : j < L.length := by rw [h.2.2.1]; exact hi
    rw [List.getElem?_set_self hl] at hj
    cases hj
    exact h'.2.2 (j, v) List.mem_cons_self
  · rw [List.getElem?_set_ne (Ne.symm e)] at hj
    have hm := jpr_mem L 0 j w hj
    rw [Nat.zero_add] at hm
    refine h'.2.2 (j, w) (List.mem_cons_of_mem _ (List.mem_filter.mpr ⟨hm, ?_⟩))
    have h2 : ¬ (j + 1 = i ∧ w.category = 2) := by
      rintro ⟨e1, e2⟩
      subst e1
      exact jok_at ho hj e2
    simp only [Bool.and_eq_true, Bool.not_eq_true', beq_eq_false_iff_ne, ne_eq, Bool.and_eq_false_iff]
    refine ⟨e, ?_⟩
    by_cases e1 : j + 1 = i
    · exact Or.inr (fun e2 => h2 ⟨e1, e2⟩)
    · exact Or.inl e1
theorem j2_use {ls : Array Slot} {nL i : Nat} {L : List (Option Value)} {v : Value} {X : Array Slot → Prop} {Y : Prop} (h : jL ls nL L) (hi : i + 1 < nL) (ho : jok L i = true)
    (row : ∀ lv lv', lv_has ls nL lv → (∀ j w, L[j]? = some (some w) → (j, w) ∈ lv) → (i, v) :: lv.filter (fun q => !(q.1 == i) && (!(q.1 == i + 1) && !(q.1 + 1 == i && q.2.category == 2))) = lv' → (∀ ls', lv_has ls' nL lv' → X ls') → Y)
    (kk : ∀ ls', jL ls' nL ((L.set i (some v)).set (i + 1) none) → X ls') : Y := by
  refine row (jpr 0 L) _ h.has (fun j w hw => by have := jpr_mem L 0 j w hw; rwa [Nat.zero_add] at this) rfl (fun ls' h' => kk ls' ⟨h'.1, h'.2.1, by rw [List.length_set, List.length_set]; exact h.2.2.1, fun j w hj => ?_⟩)
  have hlen := h.2.2.1
  by_cases e0 : j = i + 1
  · subst e0
    rw [List.getElem?_set_self (by rw [List.length_set]; omega)] at hj
    cases hj
  rw [List.getElem?_set_ne (Ne.symm e0)] at hj
  by_cases e : j = i
  · subst e
    rw [List.getElem?_set_self (by omega)] at hj
    cases hj
    exact h'.2.2 (j, v) List.mem_cons_self
  · rw [List.getElem?_set_ne (Ne.symm e)] at hj
    have hm := jpr_mem L 0 j w hj
    rw [Nat.zero_add] at hm
    refine h'.2.2 (j, w) (List.mem_cons_of_mem _ (List.mem_filter.mpr ⟨hm, ?_⟩))
    have h2 : ¬ (j + 1 = i ∧ w.category = 2) := by
      rintro ⟨e1, e2⟩
      subst e1
      exact jok_at ho hj e2
    simp only [Bool.and_eq_true, Bool.not_eq_true', beq_eq_false_iff_ne, ne_eq, Bool.and_eq_false_iff]
    refine ⟨e, e0, ?_⟩
    by_cases e1 : j + 1 = i
    · exact Or.inr (fun e2 => h2 ⟨e1, e2⟩)
    · exact Or.inl e1
/-- the locals at a method's entry -/
def jargs : List Value → List (Option Value)
  | [] => []
  | v :: vs => if v.category = 2 then some v :: none :: jargs vs else some v :: jargs vs
theorem jargs_mem : ∀ (vs : List Value) (i0 i : Nat) (v : Value), (jargs vs)[i]? = some (some v) → (i0 + i, v) ∈ lv_args i0 vs
  | [], _, _, _, h => by simp [jargs] at h
  | a :: vs, i0, i, v, h => by
    simp only [jargs] at h
    simp only [lv_args]
    by_cases hc : a.category = 2
    · rw [if_pos hc] at h ⊢
      match i, h with
      | 0, h => simp at h; subst h; simp
      | 1, h => simp at h
      | i + 2, h =>
        have := jargs_mem vs (i0 + 2) i v (by simpa using h)
        rw [show i0 + (i + 2) = i0 + 2 + i by omega]
        exact List.mem_cons_of_mem _ this
    · rw [if_neg hc] at h ⊢
      match i, h with
      | 0, h => simp at h; subst h; simp
      | i + 1, h =>
        have := jargs_mem vs (i0 + 1) i v (by simpa using h)
        rw [show i0 + (i + 1) = i0 + 1 + i by omega]
        exact List.mem_cons_of_mem _ this
theorem jargs_len : ∀ (vs : List Value), (jargs vs).length = (lg_sl vs).length
  | [] => rfl
  | a :: vs => by
    have ih := jargs_len vs
    by_cases hc : a.category = 2
    · simp only [jargs, if_pos hc, List.length_cons, ih]
      simp [lg_sl, hc]
    · simp only [jargs, if_neg hc, List.length_cons, ih]
      simp [lg_sl, hc]
theorem jL_entry (vs : List Value) {n : Nat} (h : (jargs vs).length ≤ n) : jL ((lg_sl vs ++ List.replicate (n - (lg_sl vs).length) Slot.unset).toArray) n (jargs vs ++ List.replicate (n - (jargs vs).length) none) := by
  have hl := lv_entry vs (n := n) (by rw [← jargs_len]; exact h)
  refine ⟨hl.1, hl.2.1, by simp; omega, fun i v hi => ?_⟩
  have h2 : (jargs vs)[i]? = some (some v) := by
    by_cases hlt : i < (jargs vs).length
    · rw [List.getElem?_append_left hlt] at hi
      exact hi
    · rw [List.getElem?_append_right (by omega)] at hi
      have := List.eq_of_mem_replicate (List.mem_of_getElem? hi)
      cases this
  have h3 := jargs_mem vs 0 i v h2
  rw [Nat.zero_add] at h3
  exact hl.2.2 (i, v) h3
theorem jcmp_eq {a b : Nat} (ha : a < 2147483648) (hb : b < 2147483648) (h : nI a = nI b) : a = b := (nI_eq ha hb).mp h
theorem jcmpn_eq {a b : Nat} (ha : a < 2147483648) (hb : b < 2147483648) (h : ¬ nI a = nI b) : ¬ a = b := fun e => h (by rw [e])
theorem jcmp_ne {a b : Nat} (ha : a < 2147483648) (hb : b < 2147483648) (h : ¬ nI a = nI b) : ¬ a = b := fun e => h (by rw [e])
theorem jcmpn_ne {a b : Nat} (ha : a < 2147483648) (hb : b < 2147483648) (h : nI a = nI b) : a = b := (nI_eq ha hb).mp h
theorem jcmp_lt {a b : Nat} (ha : a < 2147483648) (hb : b < 2147483648) (h : nI a < nI b) : a < b := (nI_ltI ha hb).mp h
theorem jcmpn_lt {a b : Nat} (ha : a < 2147483648) (hb : b < 2147483648) (h : ¬ nI a < nI b) : b ≤ a := Nat.not_lt.mp fun q => h ((nI_ltI ha hb).mpr q)
theorem jcmp_ge {a b : Nat} (ha : a < 2147483648) (hb : b < 2147483648) (h : nI b ≤ nI a) : b ≤ a := (nI_leI hb ha).mp h
theorem jcmpn_ge {a b : Nat} (ha : a < 2147483648) (hb : b < 2147483648) (h : ¬ nI b ≤ nI a) : a < b := Nat.not_le.mp fun q => h ((nI_leI hb ha).mpr q)
theorem jcmp_gt {a b : Nat} (ha : a < 2147483648) (hb : b < 2147483648) (h : nI b < nI a) : b < a := (nI_ltI hb ha).mp h
theorem jcmpn_gt {a b : Nat} (ha : a < 2147483648) (hb : b < 2147483648) (h : ¬ nI b < nI a) : a ≤ b := Nat.not_lt.mp fun q => h ((nI_ltI hb ha).mpr q)
theorem jcmp_le {a b : Nat} (ha : a < 2147483648) (hb : b < 2147483648) (h : nI a ≤ nI b) : a ≤ b := (nI_leI ha hb).mp h
theorem jcmpn_le {a b : Nat} (ha : a < 2147483648) (hb : b < 2147483648) (h : ¬ nI a ≤ nI b) : b < a := Nat.not_le.mp fun q => h ((nI_leI ha hb).mpr q)
def J (p : Program) (l : Launch) (e : Env) (R : Room) (s : State) (m : MethodId) (args : Array Value) (below : List Frame) (meth : Method) (c : Code) (Ω : jO) (nL : Nat) (Q : State → Prop) (cells slots sz : Nat) (G : Mem) (pc : Nat) (L : List (Option Value)) (st : List Value) : Prop :=
  ∀ (H : Heap) (locs : List Loc) (ls : Array Slot), H.size = sz → jGR Ω.1 G H → va_S (jB Ω) s.heap H locs → jL ls nL L → W p l e R s m args below meth c H locs cells slots Q (F0 m pc ls st)

section JR
variable {p : Program} {l : Launch} {e : Env} {R : Room} {s : State} {m : MethodId} {args : Array Value} {below : List Frame} {meth : Method} {c : Code} {Q : State → Prop} {Ω : jO} {nL : Nat}
variable {cells slots sz : Nat} {G : Mem} {L : List (Option Value)} {st : List Value} {cc : ByteArray} {own : String} {pc : Nat}
theorem J_iconst (cx : jCX p s m args meth c cc own Ω nL) {n : Int} {v : Int32} (hdg : decode cc pc = .ok (.iconst n, 1)) (hv : Int32.ofInt n = v)
    (kk : J p l e R s m args below meth c Ω nL Q cells slots sz G (pc + 1) L (.int v :: st)) : J p l e R s m args below meth c Ω nL Q cells slots sz G (pc) L (st) := fun H locs ls h1 h2 h3 h4 => lv_iconst cx.1 cx.2.1 hdg hv (kk H locs ls h1 h2 h3 h4)
theorem J_bipush (cx : jCX p s m args meth c cc own Ω nL) {n : Int} {v : Int32} (hdg : decode cc pc = .ok (.bipush n, 2)) (hv : (Int8.ofInt n).toInt32 = v)
    (kk : J p l e R s m args below meth c Ω nL Q cells slots sz G (pc + 2) L (.int v :: st)) : J p l e R s m args below meth c Ω nL Q cells slots sz G (pc) L (st) := fun H locs ls h1 h2 h3 h4 => lv_bipush cx.1 cx.2.1 hdg hv (kk H locs ls h1 h2 h3 h4)
theorem J_sipush (cx : jCX p s m args meth c cc own Ω nL) {n : Int} {v : Int32} (hdg : decode cc pc = .ok (.sipush n, 3)) (hv : (Int16.ofInt n).toInt32 = v)
    (kk : J p l e R s m args below meth c Ω nL Q cells slots sz G (pc + 3) L (.int v :: st)) : J p l e R s m args below meth c Ω nL Q cells slots sz G (pc) L (st) := fun H locs ls h1 h2 h3 h4 => lv_sipush cx.1 cx.2.1 hdg hv (kk H locs ls h1 h2 h3 h4)
theorem J_lconst (cx : jCX p s m args meth c cc own Ω nL) {n : Fin 2} {v : Int64} (hdg : decode cc pc = .ok (.lconst n, 1)) (hv : Int64.ofNat (n : Nat) = v)
    (kk : J p l e R s m args below meth c Ω nL Q cells slots sz G (pc + 1) L (.long v :: st)) : J p l e R s m args below meth c Ω nL Q cells slots sz G (pc) L (st) := fun H locs ls h1 h2 h3 h4 => lv_lconst cx.1 cx.2.1 hdg hv (kk H locs ls h1 h2 h3 h4)
theorem J_null (cx : jCX p s m args meth c cc own Ω nL)  (hdg : decode cc pc = .ok (.aconst_null, 1)) 
    (kk : J p l e R s m args below meth c Ω nL Q cells slots sz G (pc + 1) L (.null :: st)) : J p l e R s m args below meth c Ω nL Q cells slots sz G (pc) L (st) := fun H locs ls h1 h2 h3 h4 => lv_null cx.1 cx.2.1 hdg  (kk H locs ls h1 h2 h3 h4)
theorem J_fconst0 (cx : jCX p s m args meth c cc own Ω nL)  (hdg : decode cc pc = .ok (.fconst 0, 1)) 
    (kk : J p l e R s m args below meth c Ω nL Q cells slots sz G (pc + 1) L (.float FP.fconst0 :: st)) : J p l e R s m args below meth c Ω nL Q cells slots sz G (pc) L (st) := fun H locs ls h1 h2 h3 h4 => lv_fconst0 cx.1 cx.2.1 hdg  (kk H locs ls h1 h2 h3 h4)
theorem J_fconst1 (cx : jCX p s m args meth c cc own Ω nL)  (hdg : decode cc pc = .ok (.fconst 1, 1)) 
    (kk : J p l e R s m args below meth c Ω nL Q cells slots sz G (pc + 1) L (.float FP.fconst1 :: st)) : J p l e R s m args below meth c Ω nL Q cells slots sz G (pc) L (st) := fun H locs ls h1 h2 h3 h4 => lv_fconst1 cx.1 cx.2.1 hdg  (kk H locs ls h1 h2 h3 h4)
theorem J_dconst0 (cx : jCX p s m args meth c cc own Ω nL)  (hdg : decode cc pc = .ok (.dconst 0, 1)) 
    (kk : J p l e R s m args below meth c Ω nL Q cells slots sz G (pc + 1) L (.double FP.dconst0 :: st)) : J p l e R s m args below meth c Ω nL Q cells slots sz G (pc) L (st) := fun H locs ls h1 h2 h3 h4 => lv_dconst0 cx.1 cx.2.1 hdg  (kk H locs ls h1 h2 h3 h4)
theorem J_dconst1 (cx : jCX p s m args meth c cc own Ω nL)  (hdg : decode cc pc = .ok (.dconst 1, 1)) 
    (kk : J p l e R s m args below meth c Ω nL Q cells slots sz G (pc + 1) L (.double FP.dconst1 :: st)) : J p l e R s m args below meth c Ω nL Q cells slots sz G (pc) L (st) := fun H locs ls h1 h2 h3 h4 => lv_dconst1 cx.1 cx.2.1 hdg  (kk H locs ls h1 h2 h3 h4)
theorem J_iadd (cx : jCX p s m args meth c cc own Ω nL) {x y : Int32} (hdg : decode cc pc = .ok (.iadd, 1)) 
    (kk : J p l e R s m args below meth c Ω nL Q cells slots sz G (pc + 1) L (.int (x + y) :: st)) : J p l e R s m args below meth c Ω nL Q cells slots sz G (pc) L (.int y :: .int x :: st) := fun H locs ls h1 h2 h3 h4 => lv_iadd cx.1 cx.2.1 hdg  (kk H locs ls h1 h2 h3 h4)
theorem J_isub (cx : jCX p s m args meth c cc own Ω nL) {x y : Int32} (hdg : decode cc pc = .ok (.isub, 1)) 
    (kk : J p l e R s m args below meth c Ω nL Q cells slots sz G (pc + 1) L (.int (x - y) :: st)) : J p l e R s m args below meth c Ω nL Q cells slots sz G (pc) L (.int y :: .int x :: st) := fun H locs ls h1 h2 h3 h4 => lv_isub cx.1 cx.2.1 hdg  (kk H locs ls h1 h2 h3 h4)
theorem J_imul (cx : jCX p s m args meth c cc own Ω nL) {x y : Int32} (hdg : decode cc pc = .ok (.imul, 1)) 
    (kk : J p l e R s m args below meth c Ω nL Q cells slots sz G (pc + 1) L (.int (x * y) :: st)) : J p l e R s m args below meth c Ω nL Q cells slots sz G (pc) L (.int y :: .int x :: st) := fun H locs ls h1 h2 h3 h4 => lv_imul cx.1 cx.2.1 hdg  (kk H locs ls h1 h2 h3 h4)
theorem J_iand (cx : jCX p s m args meth c cc own Ω nL) {x y : Int32} (hdg : decode cc pc = .ok (.iand, 1)) 
    (kk : J p l e R s m args below meth c Ω nL Q cells slots sz G (pc + 1) L (.int (x &&& y) :: st)) : J p l e R s m args below meth c Ω nL Q cells slots sz G (pc) L (.int y :: .int x :: st) := fun H locs ls h1 h2 h3 h4 => lv_iand cx.1 cx.2.1 hdg  (kk H locs ls h1 h2 h3 h4)
theorem J_ior (cx : jCX p s m args meth c cc own Ω nL) {x y : Int32} (hdg : decode cc pc = .ok (.ior, 1)) 
    (kk : J p l e R s m args below meth c Ω nL Q cells slots sz G (pc + 1) L (.int (x ||| y) :: st)) : J p l e R s m args below meth c Ω nL Q cells slots sz G (pc) L (.int y :: .int x :: st) := fun H locs ls h1 h2 h3 h4 => lv_ior cx.1 cx.2.1 hdg  (kk H locs ls h1 h2 h3 h4)
theorem J_ixor (cx : jCX p s m args meth c cc own Ω nL) {x y : Int32} (hdg : decode cc pc = .ok (.ixor, 1)) 
    (kk : J p l e R s m args below meth c Ω nL Q cells slots sz G (pc + 1) L (.int (x ^^^ y) :: st)) : J p l e R s m args below meth c Ω nL Q cells slots sz G (pc) L (.int y :: .int x :: st) := fun H locs ls h1 h2 h3 h4 => lv_ixor cx.1 cx.2.1 hdg  (kk H locs ls h1 h2 h3 h4)
theorem J_ishl (cx : jCX p s m args meth c cc own Ω nL) {x y : Int32} (hdg : decode cc pc = .ok (.ishl, 1)) 
    (kk : J p l e R s m args below meth c Ω nL Q cells slots sz G (pc + 1) L (.int (x <<< (y &&& 31)) :: st)) : J p l e R s m args below meth c Ω nL Q cells slots sz G (pc) L (.int y :: .int x :: st) := fun H locs ls h1 h2 h3 h4 => lv_ishl cx.1 cx.2.1 hdg  (kk H locs ls h1 h2 h3 h4)
theorem J_ishr (cx : jCX p s m args meth c cc own Ω nL) {x y : Int32} (hdg : decode cc pc = .ok (.ishr, 1)) 
    (kk : J p l e R s m args below meth c Ω nL Q cells slots sz G (pc + 1) L (.int (x >>> (y &&& 31)) :: st)) : J p l e R s m args below meth c Ω nL Q cells slots sz G (pc) L (.int y :: .int x :: st) := fun H locs ls h1 h2 h3 h4 => lv_ishr cx.1 cx.2.1 hdg  (kk H locs ls h1 h2 h3 h4)
theorem J_idiv (cx : jCX p s m args meth c cc own Ω nL) {x y : Int32} (hdg : decode cc pc = .ok (.idiv, 1)) (hne : ¬ y = 0)
    (kk : J p l e R s m args below meth c Ω nL Q cells slots sz G (pc + 1) L (.int (x / y) :: st)) : J p l e R s m args below meth c Ω nL Q cells slots sz G (pc) L (.int y :: .int x :: st) := fun H locs ls h1 h2 h3 h4 => lv_idiv cx.1 cx.2.1 hdg hne (kk H locs ls h1 h2 h3 h4)
theorem J_irem (cx : jCX p s m args meth c cc own Ω nL) {x y : Int32} (hdg : decode cc pc = .ok (.irem, 1)) (hne : ¬ y = 0)
    (kk : J p l e R s m args below meth c Ω nL Q cells slots sz G (pc + 1) L (.int (x - x / y * y) :: st)) : J p l e R s m args below meth c Ω nL Q cells slots sz G (pc) L (.int y :: .int x :: st) := fun H locs ls h1 h2 h3 h4 => lv_irem cx.1 cx.2.1 hdg hne (kk H locs ls h1 h2 h3 h4)
theorem J_ineg (cx : jCX p s m args meth c cc own Ω nL) {x : Int32} (hdg : decode cc pc = .ok (.ineg, 1)) 
    (kk : J p l e R s m args below meth c Ω nL Q cells slots sz G (pc + 1) L (.int (-x) :: st)) : J p l e R s m args below meth c Ω nL Q cells slots sz G (pc) L (.int x :: st) := fun H locs ls h1 h2 h3 h4 => lv_ineg cx.1 cx.2.1 hdg  (kk H locs ls h1 h2 h3 h4)
theorem J_iushr (cx : jCX p s m args meth c cc own Ω nL) {x y v : Int32} (hdg : decode cc pc = .ok (.iushr, 1)) (hv : (x.toUInt32 >>> (y.toUInt32 &&& Int32.toUInt32 31)).toInt32 = v)
    (kk : J p l e R s m args below meth c Ω nL Q cells slots sz G (pc + 1) L (.int v :: st)) : J p l e R s m args below meth c Ω nL Q cells slots sz G (pc) L (.int y :: .int x :: st) := fun H locs ls h1 h2 h3 h4 => lv_iushr cx.1 cx.2.1 hdg hv (kk H locs ls h1 h2 h3 h4)
theorem J_ladd (cx : jCX p s m args meth c cc own Ω nL) {x y : Int64} (hdg : decode cc pc = .ok (.ladd, 1)) 
    (kk : J p l e R s m args below meth c Ω nL Q cells slots sz G (pc + 1) L (.long (x + y) :: st)) : J p l e R s m args below meth c Ω nL Q cells slots sz G (pc) L (.long y :: .long x :: st) := fun H locs ls h1 h2 h3 h4 => lv_ladd cx.1 cx.2.1 hdg  (kk H locs ls h1 h2 h3 h4)
theorem J_lsub (cx : jCX p s m args meth c cc own Ω nL) {x y : Int64} (hdg : decode cc pc = .ok (.lsub, 1)) 
    (kk : J p l e R s m args below meth c Ω nL Q cells slots sz G (pc + 1) L (.long (x - y) :: st)) : J p l e R s m args below meth c Ω nL Q cells slots sz G (pc) L (.long y :: .long x :: st) := fun H locs ls h1 h2 h3 h4 => lv_lsub cx.1 cx.2.1 hdg  (kk H locs ls h1 h2 h3 h4)
theorem J_land (cx : jCX p s m args meth c cc own Ω nL) {x y : Int64} (hdg : decode cc pc = .ok (.land, 1)) 
    (kk : J p l e R s m args below meth c Ω nL Q cells slots sz G (pc + 1) L (.long (x &&& y) :: st)) : J p l e R s m args below meth c Ω nL Q cells slots sz G (pc) L (.long y :: .long x :: st) := fun H locs ls h1 h2 h3 h4 => lv_land cx.1 cx.2.1 hdg  (kk H locs ls h1 h2 h3 h4)
theorem J_lor (cx : jCX p s m args meth c cc own Ω nL) {x y : Int64} (hdg : decode cc pc = .ok (.lor, 1)) 
    (kk : J p l e R s m args below meth c Ω nL Q cells slots sz G (pc + 1) L (.long (x ||| y) :: st)) : J p l e R s m args below meth c Ω nL Q cells slots sz G (pc) L (.long y :: .long x :: st) := fun H locs ls h1 h2 h3 h4 => lv_lor cx.1 cx.2.1 hdg  (kk H locs ls h1 h2 h3 h4)
theorem J_lxor (cx : jCX p s m args meth c cc own Ω nL) {x y : Int64} (hdg : decode cc pc = .ok (.lxor, 1)) 
    (kk : J p l e R s m args below meth c Ω nL Q cells slots sz G (pc + 1) L (.long (x ^^^ y) :: st)) : J p l e R s m args below meth c Ω nL Q cells slots sz G (pc) L (.long y :: .long x :: st) := fun H locs ls h1 h2 h3 h4 => lv_lxor cx.1 cx.2.1 hdg  (kk H locs ls h1 h2 h3 h4)
theorem J_lushr (cx : jCX p s m args meth c cc own Ω nL) {x v : Int64} {y : Int32} (hdg : decode cc pc = .ok (.lushr, 1)) (hv : (x.toUInt64 >>> (y.toInt64.toUInt64 &&& Int64.toUInt64 63)).toInt64 = v)
    (kk : J p l e R s m args below meth c Ω nL Q cells slots sz G (pc + 1) L (.long v :: st)) : J p l e R s m args below meth c Ω nL Q cells slots sz G (pc) L (.int y :: .long x :: st) := fun H locs ls h1 h2 h3 h4 => lv_lushr cx.1 cx.2.1 hdg hv (kk H locs ls h1 h2 h3 h4)
theorem J_lshl (cx : jCX p s m args meth c cc own Ω nL) {x v : Int64} {y : Int32} (hdg : decode cc pc = .ok (.lshl, 1)) (hv : x <<< (y.toInt64 &&& 63) = v)
    (kk : J p l e R s m args below meth c Ω nL Q cells slots sz G (pc + 1) L (.long v :: st)) : J p l e R s m args below meth c Ω nL Q cells slots sz G (pc) L (.int y :: .long x :: st) := fun H locs ls h1 h2 h3 h4 => lv_lshl cx.1 cx.2.1 hdg hv (kk H locs ls h1 h2 h3 h4)
theorem J_lcmp (cx : jCX p s m args meth c cc own Ω nL) {x y : Int64} (hdg : decode cc pc = .ok (.lcmp, 1)) 
    (kk : J p l e R s m args below meth c Ω nL Q cells slots sz G (pc + 1) L (.int (lg_cmp x y) :: st)) : J p l e R s m args below meth c Ω nL Q cells slots sz G (pc) L (.long y :: .long x :: st) := fun H locs ls h1 h2 h3 h4 => W.lcmp cx.1 cx.2.1 hdg  (kk H locs ls h1 h2 h3 h4)
theorem J_i2l (cx : jCX p s m args meth c cc own Ω nL) {x : Int32} {v : Int64} (hdg : decode cc pc = .ok (.i2l, 1)) (hv : x.toInt64 = v)
    (kk : J p l e R s m args below meth c Ω nL Q cells slots sz G (pc + 1) L (.long v :: st)) : J p l e R s m args below meth c Ω nL Q cells slots sz G (pc) L (.int x :: st) := fun H locs ls h1 h2 h3 h4 => lv_i2l cx.1 cx.2.1 hdg hv (kk H locs ls h1 h2 h3 h4)
theorem J_l2i (cx : jCX p s m args meth c cc own Ω nL) {x : Int64} {v : Int32} (hdg : decode cc pc = .ok (.l2i, 1)) (hv : x.toInt32 = v)
    (kk : J p l e R s m args below meth c Ω nL Q cells slots sz G (pc + 1) L (.int v :: st)) : J p l e R s m args below meth c Ω nL Q cells slots sz G (pc) L (.long x :: st) := fun H locs ls h1 h2 h3 h4 => lv_l2i cx.1 cx.2.1 hdg hv (kk H locs ls h1 h2 h3 h4)
theorem J_i2b (cx : jCX p s m args meth c cc own Ω nL) {x v : Int32} (hdg : decode cc pc = .ok (.i2b, 1)) (hv : x.toInt8.toInt32 = v)
    (kk : J p l e R s m args below meth c Ω nL Q cells slots sz G (pc + 1) L (.int v :: st)) : J p l e R s m args below meth c Ω nL Q cells slots sz G (pc) L (.int x :: st) := fun H locs ls h1 h2 h3 h4 => lv_i2b cx.1 cx.2.1 hdg hv (kk H locs ls h1 h2 h3 h4)
theorem J_i2c (cx : jCX p s m args meth c cc own Ω nL) {x v : Int32} (hdg : decode cc pc = .ok (.i2c, 1)) (hv : (x.toUInt32 % 65536).toInt32 = v)
    (kk : J p l e R s m args below meth c Ω nL Q cells slots sz G (pc + 1) L (.int v :: st)) : J p l e R s m args below meth c Ω nL Q cells slots sz G (pc) L (.int x :: st) := fun H locs ls h1 h2 h3 h4 => lv_i2c cx.1 cx.2.1 hdg hv (kk H locs ls h1 h2 h3 h4)
theorem J_i2f (cx : jCX p s m args meth c cc own Ω nL) {x : Int32} (hdg : decode cc pc = .ok (.i2f, 1)) 
    (kk : J p l e R s m args below meth c Ω nL Q cells slots sz G (pc + 1) L (.float (FP.i2f x) :: st)) : J p l e R s m args below meth c Ω nL Q cells slots sz G (pc) L (.int x :: st) := fun H locs ls h1 h2 h3 h4 => lv_i2f cx.1 cx.2.1 hdg  (kk H locs ls h1 h2 h3 h4)
theorem J_f2i (cx : jCX p s m args meth c cc own Ω nL) {x : UInt32} (hdg : decode cc pc = .ok (.f2i, 1)) 
    (kk : J p l e R s m args below meth c Ω nL Q cells slots sz G (pc + 1) L (.int (FP.f2i x) :: st)) : J p l e R s m args below meth c Ω nL Q cells slots sz G (pc) L (.float x :: st) := fun H locs ls h1 h2 h3 h4 => lv_f2i cx.1 cx.2.1 hdg  (kk H locs ls h1 h2 h3 h4)
theorem J_i2d (cx : jCX p s m args meth c cc own Ω nL) {x : Int32} (hdg : decode cc pc = .ok (.i2d, 1)) 
    (kk : J p l e R s m args below meth c Ω nL Q cells slots sz G (pc + 1) L (.double (FP.i2d x) :: st)) : J p l e R s m args below meth c Ω nL Q cells slots sz G (pc) L (.int x :: st) := fun H locs ls h1 h2 h3 h4 => lv_i2d cx.1 cx.2.1 hdg  (kk H locs ls h1 h2 h3 h4)
theorem J_f2d (cx : jCX p s m args meth c cc own Ω nL) {x : UInt32} (hdg : decode cc pc = .ok (.f2d, 1)) (hne : vf_n64 (FP.f2d x))
    (kk : J p l e R s m args below meth c Ω nL Q cells slots sz G (pc + 1) L (.double (FP.f2d x) :: st)) : J p l e R s m args below meth c Ω nL Q cells slots sz G (pc) L (.float x :: st) := fun H locs ls h1 h2 h3 h4 => lv_f2d cx.1 cx.2.1 hdg hne (kk H locs ls h1 h2 h3 h4)
theorem J_fadd (cx : jCX p s m args meth c cc own Ω nL) {x y : UInt32} (hdg : decode cc pc = .ok (.fadd, 1)) (hne : vf_n32 (FP.fadd x y))
    (kk : J p l e R s m args below meth c Ω nL Q cells slots sz G (pc + 1) L (.float (FP.fadd x y) :: st)) : J p l e R s m args below meth c Ω nL Q cells slots sz G (pc) L (.float y :: .float x :: st) := fun H locs ls h1 h2 h3 h4 => lv_fadd cx.1 cx.2.1 hdg hne (kk H locs ls h1 h2 h3 h4)
theorem J_fsub (cx : jCX p s m args meth c cc own Ω nL) {x y : UInt32} (hdg : decode cc pc = .ok (.fsub, 1)) (hne : vf_n32 (FP.fsub x y))
    (kk : J p l e R s m args below meth c Ω nL Q cells slots sz G (pc + 1) L (.float (FP.fsub x y) :: st)) : J p l e R s m args below meth c Ω nL Q cells slots sz G (pc) L (.float y :: .float x :: st) := fun H locs ls h1 h2 h3 h4 => lv_fsub cx.1 cx.2.1 hdg hne (kk H locs ls h1 h2 h3 h4)
theorem J_fmul (cx : jCX p s m args meth c cc own Ω nL) {x y : UInt32} (hdg : decode cc pc = .ok (.fmul, 1)) (hne : vf_n32 (FP.fmul x y))
    (kk : J p l e R s m args below meth c Ω nL Q cells slots sz G (pc + 1) L (.float (FP.fmul x y) :: st)) : J p l e R s m args below meth c Ω nL Q cells slots sz G (pc) L (.float y :: .float x :: st) := fun H locs ls h1 h2 h3 h4 => lv_fmul cx.1 cx.2.1 hdg hne (kk H locs ls h1 h2 h3 h4)
theorem J_fdiv (cx : jCX p s m args meth c cc own Ω nL) {x y : UInt32} (hdg : decode cc pc = .ok (.fdiv, 1)) (hne : vf_n32 (FP.fdiv x y))
    (kk : J p l e R s m args below meth c Ω nL Q cells slots sz G (pc + 1) L (.float (FP.fdiv x y) :: st)) : J p l e R s m args below meth c Ω nL Q cells slots sz G (pc) L (.float y :: .float x :: st) := fun H locs ls h1 h2 h3 h4 => lv_fdiv cx.1 cx.2.1 hdg hne (kk H locs ls h1 h2 h3 h4)
theorem J_dadd (cx : jCX p s m args meth c cc own Ω nL) {x y : UInt64} (hdg : decode cc pc = .ok (.dadd, 1)) (hne : vf_n64 (FP.dadd x y))
    (kk : J p l e R s m args below meth c Ω nL Q cells slots sz G (pc + 1) L (.double (FP.dadd x y) :: st)) : J p l e R s m args below meth c Ω nL Q cells slots sz G (pc) L (.double y :: .double x :: st) := fun H locs ls h1 h2 h3 h4 => lv_dadd cx.1 cx.2.1 hdg hne (kk H locs ls h1 h2 h3 h4)
theorem J_ddiv (cx : jCX p s m args meth c cc own Ω nL) {x y : UInt64} (hdg : decode cc pc = .ok (.ddiv, 1)) (hne : vf_n64 (FP.ddiv x y))
    (kk : J p l e R s m args below meth c Ω nL Q cells slots sz G (pc + 1) L (.double (FP.ddiv x y) :: st)) : J p l e R s m args below meth c Ω nL Q cells slots sz G (pc) L (.double y :: .double x :: st) := fun H locs ls h1 h2 h3 h4 => lv_ddiv cx.1 cx.2.1 hdg hne (kk H locs ls h1 h2 h3 h4)
theorem J_fcmp (cx : jCX p s m args meth c cc own Ω nL) {x y : UInt32} {op : CmpOp} (hdg : decode cc pc = .ok (.fcmp op, 1)) 
    (kk : J p l e R s m args below meth c Ω nL Q cells slots sz G (pc + 1) L (.int (Op.cmpValue (FP.fcmp x y) op) :: st)) : J p l e R s m args below meth c Ω nL Q cells slots sz G (pc) L (.float y :: .float x :: st) := fun H locs ls h1 h2 h3 h4 => lv_fcmp cx.1 cx.2.1 hdg  (kk H locs ls h1 h2 h3 h4)
theorem J_dcmp (cx : jCX p s m args meth c cc own Ω nL) {x y : UInt64} {op : CmpOp} (hdg : decode cc pc = .ok (.dcmp op, 1)) 
    (kk : J p l e R s m args below meth c Ω nL Q cells slots sz G (pc + 1) L (.int (Op.cmpValue (FP.dcmp x y) op) :: st)) : J p l e R s m args below meth c Ω nL Q cells slots sz G (pc) L (.double y :: .double x :: st) := fun H locs ls h1 h2 h3 h4 => lv_dcmp cx.1 cx.2.1 hdg  (kk H locs ls h1 h2 h3 h4)
theorem J_dup (cx : jCX p s m args meth c cc own Ω nL) {va : Value} (hdg : decode cc pc = .ok (.dup, 1)) (hva : va.category = 1)
    (kk : J p l e R s m args below meth c Ω nL Q cells slots sz G (pc + 1) L (va :: va :: st)) : J p l e R s m args below meth c Ω nL Q cells slots sz G (pc) L (va :: st) := fun H locs ls h1 h2 h3 h4 => lv_dup cx.1 cx.2.1 hdg hva (kk H locs ls h1 h2 h3 h4)
theorem J_pop (cx : jCX p s m args meth c cc own Ω nL) {va : Value} (hdg : decode cc pc = .ok (.pop, 1)) (hva : va.category = 1)
    (kk : J p l e R s m args below meth c Ω nL Q cells slots sz G (pc + 1) L (st)) : J p l e R s m args below meth c Ω nL Q cells slots sz G (pc) L (va :: st) := fun H locs ls h1 h2 h3 h4 => lv_pop cx.1 cx.2.1 hdg hva (kk H locs ls h1 h2 h3 h4)
theorem J_dup_x1 (cx : jCX p s m args meth c cc own Ω nL) {va vb : Value} (hdg : decode cc pc = .ok (.dup_x1, 1)) (hva : va.category = 1) (hvb : vb.category = 1)
    (kk : J p l e R s m args below meth c Ω nL Q cells slots sz G (pc + 1) L (va :: vb :: va :: st)) : J p l e R s m args below meth c Ω nL Q cells slots sz G (pc) L (va :: vb :: st) := fun H locs ls h1 h2 h3 h4 => lv_dup_x1 cx.1 cx.2.1 hdg hva hvb (kk H locs ls h1 h2 h3 h4)
theorem J_dup2 (cx : jCX p s m args meth c cc own Ω nL) {va vb : Value} (hdg : decode cc pc = .ok (.dup2, 1)) (hva : va.category = 1) (hvb : vb.category = 1)
    (kk : J p l e R s m args below meth c Ω nL Q cells slots sz G (pc + 1) L (va :: vb :: va :: vb :: st)) : J p l e R s m args below meth c Ω nL Q cells slots sz G (pc) L (va :: vb :: st) := fun H locs ls h1 h2 h3 h4 => lv_dup2_11 cx.1 cx.2.1 hdg hva hvb (kk H locs ls h1 h2 h3 h4)
theorem J_goto (cx : jCX p s m args meth c cc own Ω nL)  {off : Int} {tgt : Nat} (hdg : decode cc pc = .ok (.goto off, 3)) (ht : (pc : Int) + off = (tgt : Int))
    (kk : J p l e R s m args below meth c Ω nL Q cells slots sz G (tgt) L (st)) : J p l e R s m args below meth c Ω nL Q cells slots sz G (pc) L (st) := fun H locs ls h1 h2 h3 h4 => lv_goto cx.1 cx.2.1 hdg ht (kk H locs ls h1 h2 h3 h4)
theorem J_ifnonnull (cx : jCX p s m args meth c cc own Ω nL) {x : Nat} {off : Int} {tgt : Nat} (hdg : decode cc pc = .ok (.ifnonnull off, 3)) (ht : (pc : Int) + off = (tgt : Int))
    (kk : J p l e R s m args below meth c Ω nL Q cells slots sz G (tgt) L (st)) : J p l e R s m args below meth c Ω nL Q cells slots sz G (pc) L (.ref x :: st) := fun H locs ls h1 h2 h3 h4 => lv_ifnonnull cx.1 cx.2.1 hdg ht (kk H locs ls h1 h2 h3 h4)
theorem J_ifnullN (cx : jCX p s m args meth c cc own Ω nL)  {off : Int} {tgt : Nat} (hdg : decode cc pc = .ok (.ifnull off, 3)) (ht : (pc : Int) + off = (tgt : Int))
    (kk : J p l e R s m args below meth c Ω nL Q cells slots sz G (tgt) L (st)) : J p l e R s m args below meth c Ω nL Q cells slots sz G (pc) L (.null :: st) := fun H locs ls h1 h2 h3 h4 => lv_ifnullN cx.1 cx.2.1 hdg ht (kk H locs ls h1 h2 h3 h4)
theorem J_ifnull (cx : jCX p s m args meth c cc own Ω nL) {x : Nat} {off : Int} (hdg : decode cc pc = .ok (.ifnull off, 3)) 
    (kk : J p l e R s m args below meth c Ω nL Q cells slots sz G (pc + 3) L (st)) : J p l e R s m args below meth c Ω nL Q cells slots sz G (pc) L (.ref x :: st) := fun H locs ls h1 h2 h3 h4 => lv_ifnull cx.1 cx.2.1 hdg  (kk H locs ls h1 h2 h3 h4)
theorem J_ifnonnullN (cx : jCX p s m args meth c cc own Ω nL) {off : Int} (hdg : decode cc pc = .ok (.ifnonnull off, 3)) 
    (kk : J p l e R s m args below meth c Ω nL Q cells slots sz G (pc + 3) L (st)) : J p l e R s m args below meth c Ω nL Q cells slots sz G (pc) L (.null :: st) := fun H locs ls h1 h2 h3 h4 => lv_ifnonnullN cx.1 cx.2.1 hdg  (kk H locs ls h1 h2 h3 h4)
theorem J_if_eq (cx : jCX p s m args meth c cc own Ω nL) {x : Int32} {off : Int} {tgt : Nat} (hdg : decode cc pc = .ok (.ifCond .eq off, 3)) (ht : (pc : Int) + off = (tgt : Int))
    (kt : x = 0 → J p l e R s m args below meth c Ω nL Q cells slots sz G (tgt) L (st)) (kf : ¬ x = 0 → J p l e R s m args below meth c Ω nL Q cells slots sz G (pc + 3) L (st)) : J p l e R s m args below meth c Ω nL Q cells slots sz G (pc) L (.int x :: st) := fun H locs ls h1 h2 h3 h4 => lv_if_eq cx.1 cx.2.1 hdg ht (fun h => kt h H locs ls h1 h2 h3 h4) (fun h => kf h H locs ls h1 h2 h3 h4)
theorem J_if_ne (cx : jCX p s m args meth c cc own Ω nL) {x : Int32} {off : Int} {tgt : Nat} (hdg : decode cc pc = .ok (.ifCond .ne off, 3)) (ht : (pc : Int) + off = (tgt : Int))
    (kt : ¬ x = 0 → J p l e R s m args below meth c Ω nL Q cells slots sz G (tgt) L (st)) (kf : x = 0 → J p l e R s m args below meth c Ω nL Q cells slots sz G (pc + 3) L (st)) : J p l e R s m args below meth c Ω nL Q cells slots sz G (pc) L (.int x :: st) := fun H locs ls h1 h2 h3 h4 => lv_if_ne cx.1 cx.2.1 hdg ht (fun h => kt h H locs ls h1 h2 h3 h4) (fun h => kf h H locs ls h1 h2 h3 h4)
theorem J_if_lt (cx : jCX p s m args meth c cc own Ω nL) {x : Int32} {off : Int} {tgt : Nat} (hdg : decode cc pc = .ok (.ifCond .lt off, 3)) (ht : (pc : Int) + off = (tgt : Int))
    (kt : x < 0 → J p l e R s m args below meth c Ω nL Q cells slots sz G (tgt) L (st)) (kf : ¬ x < 0 → J p l e R s m args below meth c Ω nL Q cells slots sz G (pc + 3) L (st)) : J p l e R s m args below meth c Ω nL Q cells slots sz G (pc) L (.int x :: st) := fun H locs ls h1 h2 h3 h4 => lv_if_lt cx.1 cx.2.1 hdg ht (fun h => kt h H locs ls h1 h2 h3 h4) (fun h => kf h H locs ls h1 h2 h3 h4)
theorem J_if_ge (cx : jCX p s m args meth c cc own Ω nL) {x : Int32} {off : Int} {tgt : Nat} (hdg : decode cc pc = .ok (.ifCond .ge off, 3)) (ht : (pc : Int) + off = (tgt : Int))
    (kt : 0 ≤ x → J p l e R s m args below meth c Ω nL Q cells slots sz G (tgt) L (st)) (kf : ¬ 0 ≤ x → J p l e R s m args below meth c Ω nL Q cells slots sz G (pc + 3) L (st)) : J p l e R s m args below meth c Ω nL Q cells slots sz G (pc) L (.int x :: st) := fun H locs ls h1 h2 h3 h4 => lv_if_ge cx.1 cx.2.1 hdg ht (fun h => kt h H locs ls h1 h2 h3 h4) (fun h => kf h H locs ls h1 h2 h3 h4)
theorem J_if_gt (cx : jCX p s m args meth c cc own Ω nL) {x : Int32} {off : Int} {tgt : Nat} (hdg : decode cc pc = .ok (.ifCond .gt off, 3)) (ht : (pc : Int) + off = (tgt : Int))
    (kt : 0 < x → J p l e R s m args below meth c Ω nL Q cells slots sz G (tgt) L (st)) (kf : ¬ 0 < x → J p l e R s m args below meth c Ω nL Q cells slots sz G (pc + 3) L (st)) : J p l e R s m args below meth c Ω nL Q cells slots sz G (pc) L (.int x :: st) := fun H locs ls h1 h2 h3 h4 => lv_if_gt cx.1 cx.2.1 hdg ht (fun h => kt h H locs ls h1 h2 h3 h4) (fun h => kf h H locs ls h1 h2 h3 h4)
theorem J_if_le (cx : jCX p s m args meth c cc own Ω nL) {x : Int32} {off : Int} {tgt : Nat} (hdg : decode cc pc = .ok (.ifCond .le off, 3)) (ht : (pc : Int) + off = (tgt : Int))
    (kt : x ≤ 0 → J p l e R s m args below meth c Ω nL Q cells slots sz G (tgt) L (st)) (kf : ¬ x ≤ 0 → J p l e R s m args below meth c Ω nL Q cells slots sz G (pc + 3) L (st)) : J p l e R s m args below meth c Ω nL Q cells slots sz G (pc) L (.int x :: st) := fun H locs ls h1 h2 h3 h4 => lv_if_le cx.1 cx.2.1 hdg ht (fun h => kt h H locs ls h1 h2 h3 h4) (fun h => kf h H locs ls h1 h2 h3 h4)
theorem J_icmp_eq (cx : jCX p s m args meth c cc own Ω nL) {x y : Int32} {off : Int} {tgt : Nat} (hdg : decode cc pc = .ok (.if_icmp .eq off, 3)) (ht : (pc : Int) + off = (tgt : Int))
    (kt : x = y → J p l e R s m args below meth c Ω nL Q cells slots sz G (tgt) L (st)) (kf : ¬ x = y → J p l e R s m args below meth c Ω nL Q cells slots sz G (pc + 3) L (st)) : J p l e R s m args below meth c Ω nL Q cells slots sz G (pc) L (.int y :: .int x :: st) := fun H locs ls h1 h2 h3 h4 => lv_icmp_eq cx.1 cx.2.1 hdg ht (fun h => kt h H locs ls h1 h2 h3 h4) (fun h => kf h H locs ls h1 h2 h3 h4)
theorem J_icmpN_eq (cx : jCX p s m args meth c cc own Ω nL) {a b : Nat} {off : Int} {tgt : Nat} (hdg : decode cc pc = .ok (.if_icmp .eq off, 3)) (ht : (pc : Int) + off = (tgt : Int)) (ha : a < 2147483648) (hb : b < 2147483648)
    (kt : a = b → J p l e R s m args below meth c Ω nL Q cells slots sz G (tgt) L (st)) (kf : ¬ a = b → J p l e R s m args below meth c Ω nL Q cells slots sz G (pc + 3) L (st)) : J p l e R s m args below meth c Ω nL Q cells slots sz G (pc) L (.int (nI b) :: .int (nI a) :: st) := J_icmp_eq cx hdg ht (fun h => kt (jcmp_eq ha hb h)) (fun h => kf (jcmpn_eq ha hb h))
theorem J_icmp_ne (cx : jCX p s m args meth c cc own Ω nL) {x y : Int32} {off : Int} {tgt : Nat} (hdg : decode cc pc = .ok (.if_icmp .ne off, 3)) (ht : (pc : Int) + off = (tgt : Int))
    (kt : ¬ x = y → J p l e R s m args below meth c Ω nL Q cells slots sz G (tgt) L (st)) (kf : x = y → J p l e R s m args below meth c Ω nL Q cells slots sz G (pc + 3) L (st)) : J p l e R s m args below meth c Ω nL Q cells slots sz G (pc) L (.int y :: .int x :: st) := fun H locs ls h1 h2 h3 h4 => lv_icmp_ne cx.1 cx.2.1 hdg ht (fun h => kt h H locs ls h1 h2 h3 h4) (fun h => kf h H locs ls h1 h2 h3 h4)
theorem J_icmpN_ne (cx : jCX p s m args meth c cc own Ω nL) {a b : Nat} {off : Int} {tgt : Nat} (hdg : decode cc pc = .ok (.if_icmp .ne off, 3)) (ht : (pc : Int) + off = (tgt : Int)) (ha : a < 2147483648) (hb : b < 2147483648)
    (kt : ¬ a = b → J p l e R s m args below meth c Ω nL Q cells slots sz G (tgt) L (st)) (kf : a = b → J p l e R s m args below meth c Ω nL Q cells slots sz G (pc + 3) L (st)) : J p l e R s m args below meth c Ω nL Q cells slots sz G (pc) L (.int (nI b) :: .int (nI a) :: st) := J_icmp_ne cx hdg ht (fun h => kt (jcmp_ne ha hb h)) (fun h => kf (jcmpn_ne ha hb h))
theorem J_icmp_lt (cx : jCX p s m args meth c cc own Ω nL) {x y : Int32} {off : Int} {tgt : Nat} (hdg : decode cc pc = .ok (.if_icmp .lt off, 3)) (ht : (pc : Int) + off = (tgt : Int))
    (kt : x < y → J p l e R s m args below meth c Ω nL Q cells slots sz G (tgt) L (st)) (kf : ¬ x < y → J p l e R s m args below meth c Ω nL Q cells slots sz G (pc + 3) L (st)) : J p l e R s m args below meth c Ω nL Q cells slots sz G (pc) L (.int y :: .int x :: st) := fun H locs ls h1 h2 h3 h4 => lv_icmp_lt cx.1 cx.2.1 hdg ht (fun h => kt h H locs ls h1 h2 h3 h4) (fun h => kf h H locs ls h1 h2 h3 h4)
theorem J_icmpN_lt (cx : jCX p s m args meth c cc own Ω nL) {a b : Nat} {off : Int} {tgt : Nat} (hdg : decode cc pc = .ok (.if_icmp .lt off, 3)) (ht : (pc : Int) + off = (tgt : Int)) (ha : a < 2147483648) (hb : b < 2147483648)
    (kt : a < b → J p l e R s m args below meth c Ω nL Q cells slots sz G (tgt) L (st)) (kf : b ≤ a → J p l e R s m args below meth c Ω nL Q cells slots sz G (pc + 3) L (st)) : J p l e R s m args below meth c Ω nL Q cells slots sz G (pc) L (.int (nI b) :: .int (nI a) :: st) := J_icmp_lt cx hdg ht (fun h => kt (jcmp_lt ha hb h)) (fun h => kf (jcmpn_lt ha hb h))
theorem J_icmp_ge (cx : jCX p s m args meth c cc own Ω nL) {x y : Int32} {off : Int} {tgt : Nat} (hdg : decode cc pc = .ok (.if_icmp .ge off, 3)) (ht : (pc : Int) + off = (tgt : Int))
    (kt : y ≤ x → J p l e R s m args below meth c Ω nL Q cells slots sz G (tgt) L (st)) (kf : ¬ y ≤ x → J p l e R s m args below meth c Ω nL Q cells slots sz G (pc + 3) L (st)) : J p l e R s m args below meth c Ω nL Q cells slots sz G (pc) L (.int y :: .int x :: st) := fun H locs ls h1 h2 h3 h4 => lv_icmp_ge cx.1 cx.2.1 hdg ht (fun h => kt h H locs ls h1 h2 h3 h4) (fun h => kf h H locs ls h1 h2 h3 h4)
theorem J_icmpN_ge (cx : jCX p s m args meth c cc own Ω nL) {a b : Nat} {off : Int} {tgt : Nat} (hdg : decode cc pc = .ok (.if_icmp .ge off, 3)) (ht : (pc : Int) + off = (tgt : Int)) (ha : a < 2147483648) (hb : b < 2147483648)
    (kt : b ≤ a → J p l e R s m args below meth c Ω nL Q cells slots sz G (tgt) L (st)) (kf : a < b → J p l e R s m args below meth c Ω nL Q cells slots sz G (pc + 3) L (st)) : J p l e R s m args below meth c Ω nL Q cells slots sz G (pc) L (.int (nI b) :: .int (nI a) :: st) := J_icmp_ge cx hdg ht (fun h => kt (jcmp_ge ha hb h)) (fun h => kf (jcmpn_ge ha hb h))
theorem J_icmp_gt (cx : jCX p s m args meth c cc own Ω nL) {x y : Int32} {off : Int} {tgt : Nat} (hdg : decode cc pc = .ok (.if_icmp .gt off, 3)) (ht : (pc : Int) + off = (tgt : Int))
    (kt : y < x → J p l e R s m args below meth c Ω nL Q cells slots sz G (tgt) L (st)) (kf : ¬ y < x → J p l e R s m args below meth c Ω nL Q cells slots sz G (pc + 3) L (st)) : J p l e R s m args below meth c Ω nL Q cells slots sz G (pc) L (.int y :: .int x :: st) := fun H locs ls h1 h2 h3 h4 => lv_icmp_gt cx.1 cx.2.1 hdg ht (fun h => kt h H locs ls h1 h2 h3 h4) (fun h => kf h H locs ls h1 h2 h3 h4)
theorem J_icmpN_gt (cx : jCX p s m args meth c cc own Ω nL) {a b : Nat} {off : Int} {tgt : Nat} (hdg : decode cc pc = .ok (.if_icmp .gt off, 3)) (ht : (pc : Int) + off = (tgt : Int)) (ha : a < 2147483648) (hb : b < 2147483648)
    (kt : b < a → J p l e R s m args below meth c Ω nL Q cells slots sz G (tgt) L (st)) (kf : a ≤ b → J p l e R s m args below meth c Ω nL Q cells slots sz G (pc + 3) L (st)) : J p l e R s m args below meth c Ω nL Q cells slots sz G (pc) L (.int (nI b) :: .int (nI a) :: st) := J_icmp_gt cx hdg ht (fun h => kt (jcmp_gt ha hb h)) (fun h => kf (jcmpn_gt ha hb h))
theorem J_icmp_le (cx : jCX p s m args meth c cc own Ω nL) {x y : Int32} {off : Int} {tgt : Nat} (hdg : decode cc pc = .ok (.if_icmp .le off, 3)) (ht : (pc : Int) + off = (tgt : Int))
    (kt : x ≤ y → J p l e R s m args below meth c Ω nL Q cells slots sz G (tgt) L (st)) (kf : ¬ x ≤ y → J p l e R s m args below meth c Ω nL Q cells slots sz G (pc + 3) L (st)) : J p l e R s m args below meth c Ω nL Q cells slots sz G (pc) L (.int y :: .int x :: st) := fun H locs ls h1 h2 h3 h4 => lv_icmp_le cx.1 cx.2.1 hdg ht (fun h => kt h H locs ls h1 h2 h3 h4) (fun h => kf h H locs ls h1 h2 h3 h4)
theorem J_icmpN_le (cx : jCX p s m args meth c cc own Ω nL) {a b : Nat} {off : Int} {tgt : Nat} (hdg : decode cc pc = .ok (.if_icmp .le off, 3)) (ht : (pc : Int) + off = (tgt : Int)) (ha : a < 2147483648) (hb : b < 2147483648)
    (kt : a ≤ b → J p l e R s m args below meth c Ω nL Q cells slots sz G (tgt) L (st)) (kf : b < a → J p l e R s m args below meth c Ω nL Q cells slots sz G (pc + 3) L (st)) : J p l e R s m args below meth c Ω nL Q cells slots sz G (pc) L (.int (nI b) :: .int (nI a) :: st) := J_icmp_le cx hdg ht (fun h => kt (jcmp_le ha hb h)) (fun h => kf (jcmpn_le ha hb h))
theorem J_iaddN (cx : jCX p s m args meth c cc own Ω nL) {a b : Nat} (hdg : decode cc pc = .ok (.iadd, 1)) (kk : J p l e R s m args below meth c Ω nL Q cells slots sz G (pc + 1) L (.int (nI (a + b)) :: st)) : J p l e R s m args below meth c Ω nL Q cells slots sz G (pc) L (.int (nI b) :: .int (nI a) :: st) := J_iadd cx hdg (by rw [nI_add a b]; exact kk)
theorem J_imulN (cx : jCX p s m args meth c cc own Ω nL) {a b : Nat} (hdg : decode cc pc = .ok (.imul, 1)) (kk : J p l e R s m args below meth c Ω nL Q cells slots sz G (pc + 1) L (.int (nI (a * b)) :: st)) : J p l e R s m args below meth c Ω nL Q cells slots sz G (pc) L (.int (nI b) :: .int (nI a) :: st) := J_imul cx hdg (by rw [pk_mul a b]; exact kk)
theorem J_isubN (cx : jCX p s m args meth c cc own Ω nL) {a b : Nat} (hdg : decode cc pc = .ok (.isub, 1)) (h : b ≤ a) (kk : J p l e R s m args below meth c Ω nL Q cells slots sz G (pc + 1) L (.int (nI (a - b)) :: st)) : J p l e R s m args below meth c Ω nL Q cells slots sz G (pc) L (.int (nI b) :: .int (nI a) :: st) := J_isub cx hdg (by rw [pk_sub h]; exact kk)
theorem J_idivN (cx : jCX p s m args meth c cc own Ω nL) {a b : Nat} (hdg : decode cc pc = .ok (.idiv, 1)) (ha : a < 2147483648) (h0 : 0 < b) (hb : b < 2147483648) (kk : J p l e R s m args below meth c Ω nL Q cells slots sz G (pc + 1) L (.int (nI (a / b)) :: st)) : J p l e R s m args below meth c Ω nL Q cells slots sz G (pc) L (.int (nI b) :: .int (nI a) :: st) := J_idiv cx hdg (nI_ne0 h0 hb) (by rw [pk_div ha h0 hb]; exact kk)
theorem J_iremN (cx : jCX p s m args meth c cc own Ω nL) {a b : Nat} (hdg : decode cc pc = .ok (.irem, 1)) (ha : a < 2147483648) (h0 : 0 < b) (hb : b < 2147483648) (kk : J p l e R s m args below meth c Ω nL Q cells slots sz G (pc + 1) L (.int (nI (a % b)) :: st)) : J p l e R s m args below meth c Ω nL Q cells slots sz G (pc) L (.int (nI b) :: .int (nI a) :: st) := J_irem cx hdg (nI_ne0 h0 hb) (by rw [pk_rem ha h0 hb]; exact kk)
theorem J_top (v : Value) {v0 : Value} (h : v0 = v) (kk : J p l e R s m args below meth c Ω nL Q cells slots sz G (pc) L (v :: st)) : J p l e R s m args below meth c Ω nL Q cells slots sz G (pc) L (v0 :: st) := h ▸ kk
theorem J_mem (G1 : Mem) (h : G = G1) (kk : J p l e R s m args below meth c Ω nL Q cells slots sz G1 (pc) L (st)) : J p l e R s m args below meth c Ω nL Q cells slots sz G (pc) L (st) := h ▸ kk
theorem J_st (st1 : List Value) (h : st = st1) (kk : J p l e R s m args below meth c Ω nL Q cells slots sz G (pc) L (st1)) : J p l e R s m args below meth c Ω nL Q cells slots sz G (pc) L (st) := h ▸ kk
theorem J_loc (L1 : List (Option Value)) (h : L = L1) (kk : J p l e R s m args below meth c Ω nL Q cells slots sz G (pc) L1 (st)) : J p l e R s m args below meth c Ω nL Q cells slots sz G (pc) L (st) := h ▸ kk
theorem J_iload_n (cx : jCX p s m args meth c cc own Ω nL) {k : Fin 4} {x : Int32} (hdg : decode cc pc = .ok (.iload_n k, 1)) (hl : L[(k : Nat)]? = some (some (.int x)))
    (kk : J p l e R s m args below meth c Ω nL Q cells slots sz G (pc + 1) L (.int x :: st)) : J p l e R s m args below meth c Ω nL Q cells slots sz G (pc) L (st) := fun H locs ls h1 h2 h3 h4 => lv_iload_n cx.1 cx.2.1 hdg rfl (h4.2.2.2 _ _ hl) (kk H locs ls h1 h2 h3 h4)
theorem J_iload (cx : jCX p s m args meth c cc own Ω nL) {k : Nat} {x : Int32} (hdg : decode cc pc = .ok (.iload k, 2)) (hl : L[k]? = some (some (.int x)))
    (kk : J p l e R s m args below meth c Ω nL Q cells slots sz G (pc + 2) L (.int x :: st)) : J p l e R s m args below meth c Ω nL Q cells slots sz G (pc) L (st) := fun H locs ls h1 h2 h3 h4 => lv_iload cx.1 cx.2.1 hdg (h4.2.2.2 _ _ hl) (kk H locs ls h1 h2 h3 h4)
theorem J_aload_n (cx : jCX p s m args meth c cc own Ω nL) {k : Fin 4} {x : Nat} (hdg : decode cc pc = .ok (.aload_n k, 1)) (hl : L[(k : Nat)]? = some (some (.ref x)))
    (kk : J p l e R s m args below meth c Ω nL Q cells slots sz G (pc + 1) L (.ref x :: st)) : J p l e R s m args below meth c Ω nL Q cells slots sz G (pc) L (st) := fun H locs ls h1 h2 h3 h4 => lv_aload_n cx.1 cx.2.1 hdg rfl (h4.2.2.2 _ _ hl) (kk H locs ls h1 h2 h3 h4)
theorem J_aload (cx : jCX p s m args meth c cc own Ω nL) {k : Nat} {x : Nat} (hdg : decode cc pc = .ok (.aload k, 2)) (hl : L[k]? = some (some (.ref x)))
    (kk : J p l e R s m args below meth c Ω nL Q cells slots sz G (pc + 2) L (.ref x :: st)) : J p l e R s m args below meth c Ω nL Q cells slots sz G (pc) L (st) := fun H locs ls h1 h2 h3 h4 => lv_aload cx.1 cx.2.1 hdg (h4.2.2.2 _ _ hl) (kk H locs ls h1 h2 h3 h4)
theorem J_lload_n (cx : jCX p s m args meth c cc own Ω nL) {k : Fin 4} {x : Int64} (hdg : decode cc pc = .ok (.lload_n k, 1)) (hl : L[(k : Nat)]? = some (some (.long x)))
    (kk : J p l e R s m args below meth c Ω nL Q cells slots sz G (pc + 1) L (.long x :: st)) : J p l e R s m args below meth c Ω nL Q cells slots sz G (pc) L (st) := fun H locs ls h1 h2 h3 h4 => lv_lload_n cx.1 cx.2.1 hdg rfl (h4.2.2.2 _ _ hl) (kk H locs ls h1 h2 h3 h4)
theorem J_lload (cx : jCX p s m args meth c cc own Ω nL) {k : Nat} {x : Int64} (hdg : decode cc pc = .ok (.lload k, 2)) (hl : L[k]? = some (some (.long x)))
    (kk : J p l e R s m args below meth c Ω nL Q cells slots sz G (pc + 2) L (.long x :: st)) : J p l e R s m args below meth c Ω nL Q cells slots sz G (pc) L (st) := fun H locs ls h1 h2 h3 h4 => lv_lload cx.1 cx.2.1 hdg (h4.2.2.2 _ _ hl) (kk H locs ls h1 h2 h3 h4)
theorem J_fload_n (cx : jCX p s m args meth c cc own Ω nL) {k : Fin 4} {x : UInt32} (hdg : decode cc pc = .ok (.fload_n k, 1)) (hl : L[(k : Nat)]? = some (some (.float x)))
    (kk : J p l e R s m args below meth c Ω nL Q cells slots sz G (pc + 1) L (.float x :: st)) : J p l e R s m args below meth c Ω nL Q cells slots sz G (pc) L (st) := fun H locs ls h1 h2 h3 h4 => lv_fload_n cx.1 cx.2.1 hdg rfl (h4.2.2.2 _ _ hl) (kk H locs ls h1 h2 h3 h4)
theorem J_fload (cx : jCX p s m args meth c cc own Ω nL) {k : Nat} {x : UInt32} (hdg : decode cc pc = .ok (.fload k, 2)) (hl : L[k]? = some (some (.float x)))
    (kk : J p l e R s m args below meth c Ω nL Q cells slots sz G (pc + 2) L (.float x :: st)) : J p l e R s m args below meth c Ω nL Q cells slots sz G (pc) L (st) := fun H locs ls h1 h2 h3 h4 => lv_fload cx.1 cx.2.1 hdg (h4.2.2.2 _ _ hl) (kk H locs ls h1 h2 h3 h4)
theorem J_dload_n (cx : jCX p s m args meth c cc own Ω nL) {k : Fin 4} {x : UInt64} (hdg : decode cc pc = .ok (.dload_n k, 1)) (hl : L[(k : Nat)]? = some (some (.double x)))
    (kk : J p l e R s m args below meth c Ω nL Q cells slots sz G (pc + 1) L (.double x :: st)) : J p l e R s m args below meth c Ω nL Q cells slots sz G (pc) L (st) := fun H locs ls h1 h2 h3 h4 => lv_dload_n cx.1 cx.2.1 hdg rfl (h4.2.2.2 _ _ hl) (kk H locs ls h1 h2 h3 h4)
theorem J_dload (cx : jCX p s m args meth c cc own Ω nL) {k : Nat} {x : UInt64} (hdg : decode cc pc = .ok (.dload k, 2)) (hl : L[k]? = some (some (.double x)))
    (kk : J p l e R s m args below meth c Ω nL Q cells slots sz G (pc + 2) L (.double x :: st)) : J p l e R s m args below meth c Ω nL Q cells slots sz G (pc) L (st) := fun H locs ls h1 h2 h3 h4 => lv_dload cx.1 cx.2.1 hdg (h4.2.2.2 _ _ hl) (kk H locs ls h1 h2 h3 h4)
theorem J_aload_nN (cx : jCX p s m args meth c cc own Ω nL) {k : Fin 4} (hdg : decode cc pc = .ok (.aload_n k, 1)) (hl : L[(k : Nat)]? = some (some .null))
    (kk : J p l e R s m args below meth c Ω nL Q cells slots sz G (pc + 1) L (.null :: st)) : J p l e R s m args below meth c Ω nL Q cells slots sz G (pc) L (st) := fun H locs ls h1 h2 h3 h4 => lv_aload_nN cx.1 cx.2.1 hdg rfl (h4.2.2.2 _ _ hl) (kk H locs ls h1 h2 h3 h4)
theorem J_aloadN (cx : jCX p s m args meth c cc own Ω nL) {k : Nat} (hdg : decode cc pc = .ok (.aload k, 2)) (hl : L[k]? = some (some .null))
    (kk : J p l e R s m args below meth c Ω nL Q cells slots sz G (pc + 2) L (.null :: st)) : J p l e R s m args below meth c Ω nL Q cells slots sz G (pc) L (st) := fun H locs ls h1 h2 h3 h4 => lv_aloadN cx.1 cx.2.1 hdg (h4.2.2.2 _ _ hl) (kk H locs ls h1 h2 h3 h4)
theorem J_istore_n (cx : jCX p s m args meth c cc own Ω nL) {k9 : Fin 4} (k : Nat) (hk9 : (k9 : Nat) = k) {x : Int32} (hdg : decode cc pc = .ok (.istore_n k9, 1)) (hk : k < nL) (ho : jok L k = true)
    (kk : J p l e R s m args below meth c Ω nL Q cells slots sz G (pc + 1) (L.set k (some (.int x))) (st)) : J p l e R s m args below meth c Ω nL Q cells slots sz G (pc) L (.int x :: st) := by
  intro H locs ls h1 h2 h3 h4
  exact j1_use (v := .int x) h4 hk ho (fun lv lv' h5 _ hr k5 => lv_istore_n cx.1 cx.2.1 hdg hk9 h5 hk hr k5) (fun ls' h7 => kk H locs ls' h1 h2 h3 h7)
theorem J_istore_n0 (cx : jCX p s m args meth c cc own Ω nL) {x : Int32} {a0 : Option Value} (hdg : decode cc pc = .ok (.istore_n 0, 1)) (hk : 0 < nL) 
    (kk : J p l e R s m args below meth c Ω nL Q cells slots sz G (pc + 1) (some (.int x) :: L) (st)) : J p l e R s m args below meth c Ω nL Q cells slots sz G (pc) (a0 :: L) (.int x :: st) := J_istore_n cx 0 rfl hdg hk rfl kk
theorem J_istore_n1 (cx : jCX p s m args meth c cc own Ω nL) {x : Int32} {a0 a1 : Option Value} (hdg : decode cc pc = .ok (.istore_n 1, 1)) (hk : 1 < nL) (ho : jok1 a0 = true)
    (kk : J p l e R s m args below meth c Ω nL Q cells slots sz G (pc + 1) (a0 :: some (.int x) :: L) (st)) : J p l e R s m args below meth c Ω nL Q cells slots sz G (pc) (a0 :: a1 :: L) (.int x :: st) := J_istore_n cx 1 rfl hdg hk (by simpa [jok] using ho) kk
theorem J_istore_n2 (cx : jCX p s m args meth c cc own Ω nL) {x : Int32} {a0 a1 a2 : Option Value} (hdg : decode cc pc = .ok (.istore_n 2, 1)) (hk : 2 < nL) (ho : jok1 a1 = true)
    (kk : J p l e R s m args below meth c Ω nL Q cells slots sz G (pc + 1) (a0 :: a1 :: some (.int x) :: L) (st)) : J p l e R s m args below meth c Ω nL Q cells slots sz G (pc) (a0 :: a1 :: a2 :: L) (.int x :: st) := J_istore_n cx 2 rfl hdg hk (by simpa [jok] using ho) kk
theorem J_istore_n3 (cx : jCX p s m args meth c cc own Ω nL) {x : Int32} {a0 a1 a2 a3 : Option Value} (hdg : decode cc pc = .ok (.istore_n 3, 1)) (hk : 3 < nL) (ho : jok1 a2 = true)
    (kk : J p l e R s m args below meth c Ω nL Q cells slots sz G (pc + 1) (a0 :: a1 :: a2 :: some (.int x) :: L) (st)) : J p l e R s m args below meth c Ω nL Q cells slots sz G (pc) (a0 :: a1 :: a2 :: a3 :: L) (.int x :: st) := J_istore_n cx 3 rfl hdg hk (by simpa [jok] using ho) kk
theorem J_istore (cx : jCX p s m args meth c cc own Ω nL) (k : Nat) {x : Int32} (hdg : decode cc pc = .ok (.istore k, 2)) (hk : k < nL) (ho : jok L k = true)
    (kk : J p l e R s m args below meth c Ω nL Q cells slots sz G (pc + 2) (L.set k (some (.int x))) (st)) : J p l e R s m args below meth c Ω nL Q cells slots sz G (pc) L (.int x :: st) := by
  intro H locs ls h1 h2 h3 h4
  exact j1_use (v := .int x) h4 hk ho (fun lv lv' h5 _ hr k5 => lv_istore cx.1 cx.2.1 hdg h5 hk hr k5) (fun ls' h7 => kk H locs ls' h1 h2 h3 h7)
theorem J_istore4 (cx : jCX p s m args meth c cc own Ω nL) {x : Int32} {a0 a1 a2 a3 a4 : Option Value} (hdg : decode cc pc = .ok (.istore 4, 2)) (hk : 4 < nL) (ho : jok1 a3 = true)
    (kk : J p l e R s m args below meth c Ω nL Q cells slots sz G (pc + 2) (a0 :: a1 :: a2 :: a3 :: some (.int x) :: L) (st)) : J p l e R s m args below meth c Ω nL Q cells slots sz G (pc) (a0 :: a1 :: a2 :: a3 :: a4 :: L) (.int x :: st) := J_istore cx 4 hdg hk (by simpa [jok] using ho) kk
theorem J_istore5 (cx : jCX p s m args meth c cc own Ω nL) {x : Int32} {a0 a1 a2 a3 a4 a5 : Option Value} (hdg : decode cc pc = .ok (.istore 5, 2)) (hk : 5 < nL) (ho : jok1 a4 = true)
    (kk : J p l e R s m args below meth c Ω nL Q cells slots sz G (pc + 2) (a0 :: a1 :: a2 :: a3 :: a4 :: some (.int x) :: L) (st)) : J p l e R s m args below meth c Ω nL Q cells slots sz G (pc) (a0 :: a1 :: a2 :: a3 :: a4 :: a5 :: L) (.int x :: st) := J_istore cx 5 hdg hk (by simpa [jok] using ho) kk
theorem J_istore6 (cx : jCX p s m args meth c cc own Ω nL) {x : Int32} {a0 a1 a2 a3 a4 a5 a6 : Option Value} (hdg : decode cc pc = .ok (.istore 6, 2)) (hk : 6 < nL) (ho : jok1 a5 = true)
    (kk : J p l e R s m args below meth c Ω nL Q cells slots sz G (pc + 2) (a0 :: a1 :: a2 :: a3 :: a4 :: a5 :: some (.int x) :: L) (st)) : J p l e R s m args below meth c Ω nL Q cells slots sz G (pc) (a0 :: a1 :: a2 :: a3 :: a4 :: a5 :: a6 :: L) (.int x :: st) := J_istore cx 6 hdg hk (by simpa [jok] using ho) kk
theorem J_istore7 (cx : jCX p s m args meth c cc own Ω nL) {x : Int32} {a0 a1 a2 a3 a4 a5 a6 a7 : Option Value} (hdg : decode cc pc = .ok (.istore 7, 2)) (hk : 7 < nL) (ho : jok1 a6 = true)
    (kk : J p l e R s m args below meth c Ω nL Q cells slots sz G (pc + 2) (a0 :: a1 :: a2 :: a3 :: a4 :: a5 :: a6 :: some (.int x) :: L) (st)) : J p l e R s m args below meth c Ω nL Q cells slots sz G (pc) (a0 :: a1 :: a2 :: a3 :: a4 :: a5 :: a6 :: a7 :: L) (.int x :: st) := J_istore cx 7 hdg hk (by simpa [jok] using ho) kk
theorem J_istore8 (cx : jCX p s m args meth c cc own Ω nL) {x : Int32} {a0 a1 a2 a3 a4 a5 a6 a7 a8 : Option Value} (hdg : decode cc pc = .ok (.istore 8, 2)) (hk : 8 < nL) (ho : jok1 a7 = true)
    (kk : J p l e R s m args below meth c Ω nL Q cells slots sz G (pc + 2) (a0 :: a1 :: a2 :: a3 :: a4 :: a5 :: a6 :: a7 :: some (.int x) :: L) (st)) : J p l e R s m args below meth c Ω nL Q cells slots sz G (pc) (a0 :: a1 :: a2 :: a3 :: a4 :: a5 :: a6 :: a7 :: a8 :: L) (.int x :: st) := J_istore cx 8 hdg hk (by simpa [jok] using ho) kk
theorem J_istore9 (cx : jCX p s m args meth c cc own Ω nL) {x : Int32} {a0 a1 a2 a3 a4 a5 a6 a7 a8 a9 : Option Value} (hdg : decode cc pc = .ok (.istore 9, 2)) (hk : 9 < nL) (ho : jok1 a8 = true)
    (kk : J p l e R s m args below meth c Ω nL Q cells slots sz G (pc + 2) (a0 :: a1 :: a2 :: a3 :: a4 :: a5 :: a6 :: a7 :: a8 :: some (.int x) :: L) (st)) : J p l e R s m args below meth c Ω nL Q cells slots sz G (pc) (a0 :: a1 :: a2 :: a3 :: a4 :: a5 :: a6 :: a7 :: a8 :: a9 :: L) (.int x :: st) := J_istore cx 9 hdg hk (by simpa [jok] using ho) kk
theorem J_istore10 (cx : jCX p s m args meth c cc own Ω nL) {x : Int32} {a0 a1 a2 a3 a4 a5 a6 a7 a8 a9 a10 : Option Value} (hdg : decode cc pc = .ok (.istore 10, 2)) (hk : 10 < nL) (ho : jok1 a9 = true)
    (kk : J p l e R s m args below meth c Ω nL Q cells slots sz G (pc + 2) (a0 :: a1 :: a2 :: a3 :: a4 :: a5 :: a6 :: a7 :: a8 :: a9 :: some (.int x) :: L) (st)) : J p l e R s m args below meth c Ω nL Q cells slots sz G (pc) (a0 :: a1 :: a2 :: a3 :: a4 :: a5 :: a6 :: a7 :: a8 :: a9 :: a10 :: L) (.int x :: st) := J_istore cx 10 hdg hk (by simpa [jok] using ho) kk
theorem J_istore11 (cx : jCX p s m args meth c cc own Ω nL) {x : Int32} {a0 a1 a2 a3 a4 a5 a6 a7 a8 a9 a10 a11 : Option Value} (hdg : decode cc pc = .ok (.istore 11, 2)) (hk : 11 < nL) (ho : jok1 a10 = true)
    (kk : J p l e R s m args below meth c Ω nL Q cells slots sz G (pc + 2) (a0 :: a1 :: a2 :: a3 :: a4 :: a5 :: a6 :: a7 :: a8 :: a9 :: a10 :: some (.int x) :: L) (st)) : J p l e R s m args below meth c Ω nL Q cells slots sz G (pc) (a0 :: a1 :: a2 :: a3 :: a4 :: a5 :: a6 :: a7 :: a8 :: a9 :: a10 :: a11 :: L) (.int x :: st) := J_istore cx 11 hdg hk (by simpa [jok] using ho) kk
theorem J_istore12 (cx : jCX p s m args meth c cc own Ω nL) {x : Int32} {a0 a1 a2 a3 a4 a5 a6 a7 a8 a9 a10 a11 a12 : Option Value} (hdg : decode cc pc = .ok (.istore 12, 2)) (hk : 12 < nL) (ho : jok1 a11 = true)
    (kk : J p l e R s m args below meth c Ω nL Q cells slots sz G (pc + 2) (a0 :: a1 :: a2 :: a3 :: a4 :: a5 :: a6 :: a7 :: a8 :: a9 :: a10 :: a11 :: some (.int x) :: L) (st)) : J p l e R s m args below meth c Ω nL Q cells slots sz G (pc) (a0 :: a1 :: a2 :: a3 :: a4 :: a5 :: a6 :: a7 :: a8 :: a9 :: a10 :: a11 :: a12 :: L) (.int x :: st) := J_istore cx 12 hdg hk (by simpa [jok] using ho) kk
theorem J_istore13 (cx : jCX p s m args meth c cc own Ω nL) {x : Int32} {a0 a1 a2 a3 a4 a5 a6 a7 a8 a9 a10 a11 a12 a13 : Option Value} (hdg : decode cc pc = .ok (.istore 13, 2)) (hk : 13 < nL) (ho : jok1 a12 = true)
    (kk : J p l e R s m args below meth c Ω nL Q cells slots sz G (pc + 2) (a0 :: a1 :: a2 :: a3 :: a4 :: a5 :: a6 :: a7 :: a8 :: a9 :: a10 :: a11 :: a12 :: some (.int x) :: L) (st)) : J p l e R s m args below meth c Ω nL Q cells slots sz G (pc) (a0 :: a1 :: a2 :: a3 :: a4 :: a5 :: a6 :: a7 :: a8 :: a9 :: a10 :: a11 :: a12 :: a13 :: L) (.int x :: st) := J_istore cx 13 hdg hk (by simpa [jok] using ho) kk
theorem J_istore14 (cx : jCX p s m args meth c cc own Ω nL) {x : Int32} {a0 a1 a2 a3 a4 a5 a6 a7 a8 a9 a10 a11 a12 a13 a14 : Option Value} (hdg : decode cc pc = .ok (.istore 14, 2)) (hk : 14 < nL) (ho : jok1 a13 = true)
    (kk : J p l e R s m args below meth c Ω nL Q cells slots sz G (pc + 2) (a0 :: a1 :: a2 :: a3 :: a4 :: a5 :: a6 :: a7 :: a8 :: a9 :: a10 :: a11 :: a12 :: a13 :: some (.int x) :: L) (st)) : J p l e R s m args below meth c Ω nL Q cells slots sz G (pc) (a0 :: a1 :: a2 :: a3 :: a4 :: a5 :: a6 :: a7 :: a8 :: a9 :: a10 :: a11 :: a12 :: a13 :: a14 :: L) (.int x :: st) := J_istore cx 14 hdg hk (by simpa [jok] using ho) kk
theorem J_istore15 (cx : jCX p s m args meth c cc own Ω nL) {x : Int32} {a0 a1 a2 a3 a4 a5 a6 a7 a8 a9 a10 a11 a12 a13 a14 a15 : Option Value} (hdg : decode cc pc = .ok (.istore 15, 2)) (hk : 15 < nL) (ho : jok1 a14 = true)
    (kk : J p l e R s m args below meth c Ω nL Q cells slots sz G (pc + 2) (a0 :: a1 :: a2 :: a3 :: a4 :: a5 :: a6 :: a7 :: a8 :: a9 :: a10 :: a11 :: a12 :: a13 :: a14 :: some (.int x) :: L) (st)) : J p l e R s m args below meth c Ω nL Q cells slots sz G (pc) (a0 :: a1 :: a2 :: a3 :: a4 :: a5 :: a6 :: a7 :: a8 :: a9 :: a10 :: a11 :: a12 :: a13 :: a14 :: a15 :: L) (.int x :: st) := J_istore cx 15 hdg hk (by simpa [jok] using ho) kk
theorem J_astore_n (cx : jCX p s m args meth c cc own Ω nL) {k9 : Fin 4} (k : Nat) (hk9 : (k9 : Nat) = k) {x : Nat} (hdg : decode cc pc = .ok (.astore_n k9, 1)) (hk : k < nL) (ho : jok L k = true)
    (kk : J p l e R s m args below meth c Ω nL Q cells slots sz G (pc + 1) (L.set k (some (.ref x))) (st)) : J p l e R s m args below meth c Ω nL Q cells slots sz G (pc) L (.ref x :: st) := by
  intro H locs ls h1 h2 h3 h4
  exact j1_use (v := .ref x) h4 hk ho (fun lv lv' h5 _ hr k5 => lv_astore_n cx.1 cx.2.1 hdg hk9 h5 hk hr k5) (fun ls' h7 => kk H locs ls' h1 h2 h3 h7)
theorem J_astore_n0 (cx : jCX p s m args meth c cc own Ω nL) {x : Nat} {a0 : Option Value} (hdg : decode cc pc = .ok (.astore_n 0, 1)) (hk : 0 < nL) 
    (kk : J p l e R s m args below meth c Ω nL Q cells slots sz G (pc + 1) (some (.ref x) :: L) (st)) : J p l e R s m args below meth c Ω nL Q cells slots sz G (pc) (a0 :: L) (.ref x :: st) := J_astore_n cx 0 rfl hdg hk rfl kk
theorem J_astore_n1 (cx : jCX p s m args meth c cc own Ω nL) {x : Nat} {a0 a1 : Option Value} (hdg : decode cc pc = .ok (.astore_n 1, 1)) (hk : 1 < nL) (ho : jok1 a0 = true)
    (kk : J p l e R s m args below meth c Ω nL Q cells slots sz G (pc + 1) (a0 :: some (.ref x) :: L) (st)) : J p l e R s m args below meth c Ω nL Q cells slots sz G (pc) (a0 :: a1 :: L) (.ref x :: st) := J_astore_n cx 1 rfl hdg hk (by simpa [jok] using ho) kk
theorem J_astore_n2 (cx : jCX p s m args meth c cc own Ω nL) {x : Nat} {a0 a1 a2 : Option Value} (hdg : decode cc pc = .ok (.astore_n 2, 1)) (hk : 2 < nL) (ho : jok1 a1 = true)
    (kk : J p l e R s m args below meth c Ω nL Q cells slots sz G (pc + 1) (a0 :: a1 :: some (.ref x) :: L) (st)) : J p l e R s m args below meth c Ω nL Q cells slots sz G (pc) (a0 :: a1 :: a2 :: L) (.ref x :: st) := J_astore_n cx 2 rfl hdg hk (by simpa [jok] using ho) kk
theorem J_astore_n3 (cx : jCX p s m args meth c cc own Ω nL) {x : Nat} {a0 a1 a2 a3 : Option Value} (hdg : decode cc pc = .ok (.astore_n 3, 1)) (hk : 3 < nL) (ho : jok1 a2 = true)
    (kk : J p l e R s m args below meth c Ω nL Q cells slots sz G (pc + 1) (a0 :: a1 :: a2 :: some (.ref x) :: L) (st)) : J p l e R s m args below meth c Ω nL Q cells slots sz G (pc) (a0 :: a1 :: a2 :: a3 :: L) (.ref x :: st) := J_astore_n cx 3 rfl hdg hk (by simpa [jok] using ho) kk
theorem J_astore (cx : jCX p s m args meth c cc own Ω nL) (k : Nat) {x : Nat} (hdg : decode cc pc = .ok (.astore k, 2)) (hk : k < nL) (ho : jok L k = true)
    (kk : J p l e R s m args below meth c Ω nL Q cells slots sz G (pc + 2) (L.set k (some (.ref x))) (st)) : J p l e R s m args below meth c Ω nL Q cells slots sz G (pc) L (.ref x :: st) := by
  intro H locs ls h1 h2 h3 h4
  exact j1_use (v := .ref x) h4 hk ho (fun lv lv' h5 _ hr k5 => lv_astore cx.1 cx.2.1 hdg h5 hk hr k5) (fun ls' h7 => kk H locs ls' h1 h2 h3 h7)
theorem J_astore4 (cx : jCX p s m args meth c cc own Ω nL) {x : Nat} {a0 a1 a2 a3 a4 : Option Value} (hdg : decode cc pc = .ok (.astore 4, 2)) (hk : 4 < nL) (ho : jok1 a3 = true)
    (kk : J p l e R s m args below meth c Ω nL Q cells slots sz G (pc + 2) (a0 :: a1 :: a2 :: a3 :: some (.ref x) :: L) (st)) : J p l e R s m args below meth c Ω nL Q cells slots sz G (pc) (a0 :: a1 :: a2 :: a3 :: a4 :: L) (.ref x :: st) := J_astore cx 4 hdg hk (by simpa [jok] using ho) kk
theorem J_astore5 (cx : jCX p s m args meth c cc own Ω nL) {x : Nat} {a0 a1 a2 a3 a4 a5 : Option Value} (hdg : decode cc pc = .ok (.astore 5, 2)) (hk : 5 < nL) (ho : jok1 a4 = true)
    (kk : J p l e R s m args below meth c Ω nL Q cells slots sz G (pc + 2) (a0 :: a1 :: a2 :: a3 :: a4 :: some (.ref x) :: L) (st)) : J p l e R s m args below meth c Ω nL Q cells slots sz G (pc) (a0 :: a1 :: a2 :: a3 :: a4 :: a5 :: L) (.ref x :: st) := J_astore cx 5 hdg hk (by simpa [jok] using ho) kk
theorem J_astore6 (cx : jCX p s m args meth c cc own Ω nL) {x : Nat} {a0 a1 a2 a3 a4 a5 a6 : Option Value} (hdg : decode cc pc = .ok (.astore 6, 2)) (hk : 6 < nL) (ho : jok1 a5 = true)
    (kk : J p l e R s m args below meth c Ω nL Q cells slots sz G (pc + 2) (a0 :: a1 :: a2 :: a3 :: a4 :: a5 :: some (.ref x) :: L) (st)) : J p l e R s m args below meth c Ω nL Q cells slots sz G (pc) (a0 :: a1 :: a2 :: a3 :: a4 :: a5 :: a6 :: L) (.ref x :: st) := J_astore cx 6 hdg hk (by simpa [jok] using ho) kk
theorem J_astore7 (cx : jCX p s m args meth c cc own Ω nL) {x : Nat} {a0 a1 a2 a3 a4 a5 a6 a7 : Option Value} (hdg : decode cc pc = .ok (.astore 7, 2)) (hk : 7 < nL) (ho : jok1 a6 = true)
    (kk : J p l e R s m args below meth c Ω nL Q cells slots sz G (pc + 2) (a0 :: a1 :: a2 :: a3 :: a4 :: a5 :: a6 :: some (.ref x) :: L) (st)) : J p l e R s m args below meth c Ω nL Q cells slots sz G (pc) (a0 :: a1 :: a2 :: a3 :: a4 :: a5 :: a6 :: a7 :: L) (.ref x :: st) := J_astore cx 7 hdg hk (by simpa [jok] using ho) kk
theorem J_astore8 (cx : jCX p s m args meth c cc own Ω nL) {x : Nat} {a0 a1 a2 a3 a4 a5 a6 a7 a8 : Option Value} (hdg : decode cc pc = .ok (.astore 8, 2)) (hk : 8 < nL) (ho : jok1 a7 = true)
    (kk : J p l e R s m args below meth c Ω nL Q cells slots sz G (pc + 2) (a0 :: a1 :: a2 :: a3 :: a4 :: a5 :: a6 :: a7 :: some (.ref x) :: L) (st)) : J p l e R s m args below meth c Ω nL Q cells slots sz G (pc) (a0 :: a1 :: a2 :: a3 :: a4 :: a5 :: a6 :: a7 :: a8 :: L) (.ref x :: st) := J_astore cx 8 hdg hk (by simpa [jok] using ho) kk
theorem J_astore9 (cx : jCX p s m args meth c cc own Ω nL) {x : Nat} {a0 a1 a2 a3 a4 a5 a6 a7 a8 a9 : Option Value} (hdg : decode cc pc = .ok (.astore 9, 2)) (hk : 9 < nL) (ho : jok1 a8 = true)
    (kk : J p l e R s m args below meth c Ω nL Q cells slots sz G (pc + 2) (a0 :: a1 :: a2 :: a3 :: a4 :: a5 :: a6 :: a7 :: a8 :: some (.ref x) :: L) (st)) : J p l e R s m args below meth c Ω nL Q cells slots sz G (pc) (a0 :: a1 :: a2 :: a3 :: a4 :: a5 :: a6 :: a7 :: a8 :: a9 :: L) (.ref x :: st) := J_astore cx 9 hdg hk (by simpa [jok] using ho) kk
theorem J_astore10 (cx : jCX p s m args meth c cc own Ω nL) {x : Nat} {a0 a1 a2 a3 a4 a5 a6 a7 a8 a9 a10 : Option Value} (hdg : decode cc pc = .ok (.astore 10, 2)) (hk : 10 < nL) (ho : jok1 a9 = true)
    (kk : J p l e R s m args below meth c Ω nL Q cells slots sz G (pc + 2) (a0 :: a1 :: a2 :: a3 :: a4 :: a5 :: a6 :: a7 :: a8 :: a9 :: some (.ref x) :: L) (st)) : J p l e R s m args below meth c Ω nL Q cells slots sz G (pc) (a0 :: a1 :: a2 :: a3 :: a4 :: a5 :: a6 :: a7 :: a8 :: a9 :: a10 :: L) (.ref x :: st) := J_astore cx 10 hdg hk (by simpa [jok] using ho) kk
theorem J_astore11 (cx : jCX p s m args meth c cc own Ω nL) {x : Nat} {a0 a1 a2 a3 a4 a5 a6 a7 a8 a9 a10 a11 : Option Value} (hdg : decode cc pc = .ok (.astore 11, 2)) (hk : 11 < nL) (ho : jok1 a10 = true)
    (kk : J p l e R s m args below meth c Ω nL Q cells slots sz G (pc + 2) (a0 :: a1 :: a2 :: a3 :: a4 :: a5 :: a6 :: a7 :: a8 :: a9 :: a10 :: some (.ref x) :: L) (st)) : J p l e R s m args below meth c Ω nL Q cells slots sz G (pc) (a0 :: a1 :: a2 :: a3 :: a4 :: a5 :: a6 :: a7 :: a8 :: a9 :: a10 :: a11 :: L) (.ref x :: st) := J_astore cx 11 hdg hk (by simpa [jok] using ho) kk
theorem J_astore12 (cx : jCX p s m args meth c cc own Ω nL) {x : Nat} {a0 a1 a2 a3 a4 a5 a6 a7 a8 a9 a10 a11 a12 : Option Value} (hdg : decode cc pc = .ok (.astore 12, 2)) (hk : 12 < nL) (ho : jok1 a11 = true)
    (kk : J p l e R s m args below meth c Ω nL Q cells slots sz G (pc + 2) (a0 :: a1 :: a2 :: a3 :: a4 :: a5 :: a6 :: a7 :: a8 :: a9 :: a10 :: a11 :: some (.ref x) :: L) (st)) : J p l e R s m args below meth c Ω nL Q cells slots sz G (pc) (a0 :: a1 :: a2 :: a3 :: a4 :: a5 :: a6 :: a7 :: a8 :: a9 :: a10 :: a11 :: a12 :: L) (.ref x :: st) := J_astore cx 12 hdg hk (by simpa [jok] using ho) kk
theorem J_astore13 (cx : jCX p s m args meth c cc own Ω nL) {x : Nat} {a0 a1 a2 a3 a4 a5 a6 a7 a8 a9 a10 a11 a12 a13 : Option Value} (hdg : decode cc pc = .ok (.astore 13, 2)) (hk : 13 < nL) (ho : jok1 a12 = true)
    (kk : J p l e R s m args below meth c Ω nL Q cells slots sz G (pc + 2) (a0 :: a1 :: a2 :: a3 :: a4 :: a5 :: a6 :: a7 :: a8 :: a9 :: a10 :: a11 :: a12 :: some (.ref x) :: L) (st)) : J p l e R s m args below meth c Ω nL Q cells slots sz G (pc) (a0 :: a1 :: a2 :: a3 :: a4 :: a5 :: a6 :: a7 :: a8 :: a9 :: a10 :: a11 :: a12 :: a13 :: L) (.ref x :: st) := J_astore cx 13 hdg hk (by simpa [jok] using ho) kk
theorem J_astore14 (cx : jCX p s m args meth c cc own Ω nL) {x : Nat} {a0 a1 a2 a3 a4 a5 a6 a7 a8 a9 a10 a11 a12 a13 a14 : Option Value} (hdg : decode cc pc = .ok (.astore 14, 2)) (hk : 14 < nL) (ho : jok1 a13 = true)
    (kk : J p l e R s m args below meth c Ω nL Q cells slots sz G (pc + 2) (a0 :: a1 :: a2 :: a3 :: a4 :: a5 :: a6 :: a7 :: a8 :: a9 :: a10 :: a11 :: a12 :: a13 :: some (.ref x) :: L) (st)) : J p l e R s m args below meth c Ω nL Q cells slots sz G (pc) (a0 :: a1 :: a2 :: a3 :: a4 :: a5 :: a6 :: a7 :: a8 :: a9 :: a10 :: a11 :: a12 :: a13 :: a14 :: L) (.ref x :: st) := J_astore cx 14 hdg hk (by simpa [jok] using ho) kk
theorem J_astore15 (cx : jCX p s m args meth c cc own Ω nL) {x : Nat} {a0 a1 a2 a3 a4 a5 a6 a7 a8 a9 a10 a11 a12 a13 a14 a15 : Option Value} (hdg : decode cc pc = .ok (.astore 15, 2)) (hk : 15 < nL) (ho : jok1 a14 = true)
    (kk : J p l e R s m args below meth c Ω nL Q cells slots sz G (pc + 2) (a0 :: a1 :: a2 :: a3 :: a4 :: a5 :: a6 :: a7 :: a8 :: a9 :: a10 :: a11 :: a12 :: a13 :: a14 :: some (.ref x) :: L) (st)) : J p l e R s m args below meth c Ω nL Q cells slots sz G (pc) (a0 :: a1 :: a2 :: a3 :: a4 :: a5 :: a6 :: a7 :: a8 :: a9 :: a10 :: a11 :: a12 :: a13 :: a14 :: a15 :: L) (.ref x :: st) := J_astore cx 15 hdg hk (by simpa [jok] using ho) kk
theorem J_astore_nN (cx : jCX p s m args meth c cc own Ω nL) {k9 : Fin 4} (k : Nat) (hk9 : (k9 : Nat) = k)  (hdg : decode cc pc = .ok (.astore_n k9, 1)) (hk : k < nL) (ho : jok L k = true)
    (kk : J p l e R s m args below meth c Ω nL Q cells slots sz G (pc + 1) (L.set k (some (.null))) (st)) : J p l e R s m args below meth c Ω nL Q cells slots sz G (pc) L (.null :: st) := by
  intro H locs ls h1 h2 h3 h4
  exact j1_use (v := .null) h4 hk ho (fun lv lv' h5 _ hr k5 => lv_astore_nN cx.1 cx.2.1 hdg hk9 h5 hk hr k5) (fun ls' h7 => kk H locs ls' h1 h2 h3 h7)
theorem J_astore_nN0 (cx : jCX p s m args meth c cc own Ω nL)  {a0 : Option Value} (hdg : decode cc pc = .ok (.astore_n 0, 1)) (hk : 0 < nL) 
    (kk : J p l e R s m args below meth c Ω nL Q cells slots sz G (pc + 1) (some (.null) :: L) (st)) : J p l e R s m args below meth c Ω nL Q cells slots sz G (pc) (a0 :: L) (.null :: st) := J_astore_nN cx 0 rfl hdg hk rfl kk
theorem J_astore_nN1 (cx : jCX p s m args meth c cc own Ω nL)  {a0 a1 : Option Value} (hdg : decode cc pc = .ok (.astore_n 1, 1)) (hk : 1 < nL) (ho : jok1 a0 = true)
    (kk : J p l e R s m args below meth c Ω nL Q cells slots sz G (pc + 1) (a0 :: some (.null) :: L) (st)) : J p l e R s m args below meth c Ω nL Q cells slots sz G (pc) (a0 :: a1 :: L) (.null :: st) := J_astore_nN cx 1 rfl hdg hk (by simpa [jok] using ho) kk
theorem J_astore_nN2 (cx : jCX p s m args meth c cc own Ω nL)  {a0 a1 a2 : Option Value} (hdg : decode cc pc = .ok (.astore_n 2, 1)) (hk : 2 < nL) (ho : jok1 a1 = true)
    (kk : J p l e R s m args below meth c Ω nL Q cells slots sz G (pc + 1) (a0 :: a1 :: some (.null) :: L) (st)) : J p l e R s m args below meth c Ω nL Q cells slots sz G (pc) (a0 :: a1 :: a2 :: L) (.null :: st) := J_astore_nN cx 2 rfl hdg hk (by simpa [jok] using ho) kk
theorem J_astore_nN3 (cx : jCX p s m args meth c cc own Ω nL)  {a0 a1 a2 a3 : Option Value} (hdg : decode cc pc = .ok (.astore_n 3, 1)) (hk : 3 < nL) (ho : jok1 a2 = true)
    (kk : J p l e R s m args below meth c Ω nL Q cells slots sz G (pc + 1) (a0 :: a1 :: a2 :: some (.null) :: L) (st)) : J p l e R s m args below meth c Ω nL Q cells slots sz G (pc) (a0 :: a1 :: a2 :: a3 :: L) (.null :: st) := J_astore_nN cx 3 rfl hdg hk (by simpa [jok] using ho) kk
theorem J_astoreN (cx : jCX p s m args meth c cc own Ω nL) (k : Nat)  (hdg : decode cc pc = .ok (.astore k, 2)) (hk : k < nL) (ho : jok L k = true)
    (kk : J p l e R s m args below meth c Ω nL Q cells slots sz G (pc + 2) (L.set k (some (.null))) (st)) : J p l e R s m args below meth c Ω nL Q cells slots sz G (pc) L (.null :: st) := by
  intro H locs ls h1 h2 h3 h4
  exact j1_use (v := .null) h4 hk ho (fun lv lv' h5 _ hr k5 => lv_astoreN cx.1 cx.2.1 hdg h5 hk hr k5) (fun ls' h7 => kk H locs ls' h1 h2 h3 h7)
theorem J_astoreN4 (cx : jCX p s m args meth c cc own Ω nL)  {a0 a1 a2 a3 a4 : Option Value} (hdg : decode cc pc = .ok (.astore 4, 2)) (hk : 4 < nL) (ho : jok1 a3 = true)
    (kk : J p l e R s m args below meth c Ω nL Q cells slots sz G (pc + 2) (a0 :: a1 :: a2 :: a3 :: some (.null) :: L) (st)) : J p l e R s m args below meth c Ω nL Q cells slots sz G (pc) (a0 :: a1 :: a2 :: a3 :: a4 :: L) (.null :: st) := J_astoreN cx 4 hdg hk (by simpa [jok] using ho) kk
theorem J_astoreN5 (cx : jCX p s m args meth c cc own Ω nL)  {a0 a1 a2 a3 a4 a5 : Option Value} (hdg : decode cc pc = .ok (.astore 5, 2)) (hk : 5 < nL) (ho : jok1 a4 = true)
    (kk : J p l e R s m args below meth c Ω nL Q cells slots sz G (pc + 2) (a0 :: a1 :: a2 :: a3 :: a4 :: some (.null) :: L) (st)) : J p l e R s m args below meth c Ω nL Q cells slots sz G (pc) (a0 :: a1 :: a2 :: a3 :: a4 :: a5 :: L) (.null :: st) := J_astoreN cx 5 hdg hk (by simpa [jok] using ho) kk
theorem J_astoreN6 (cx : jCX p s m args meth c cc own Ω nL)  {a0 a1 a2 a3 a4 a5 a6 : Option Value} (hdg : decode cc pc = .ok (.astore 6, 2)) (hk : 6 < nL) (ho : jok1 a5 = true)
    (kk : J p l e R s m args below meth c Ω nL Q cells slots sz G (pc + 2) (a0 :: a1 :: a2 :: a3 :: a4 :: a5 :: some (.null) :: L) (st)) : J p l e R s m args below meth c Ω nL Q cells slots sz G (pc) (a0 :: a1 :: a2 :: a3 :: a4 :: a5 :: a6 :: L) (.null :: st) := J_astoreN cx 6 hdg hk (by simpa [jok] using ho) kk
theorem J_astoreN7 (cx : jCX p s m args meth c cc own Ω nL)  {a0 a1 a2 a3 a4 a5 a6 a7 : Option Value} (hdg : decode cc pc = .ok (.astore 7, 2)) (hk : 7 < nL) (ho : jok1 a6 = true)
    (kk : J p l e R s m args below meth c Ω nL Q cells slots sz G (pc + 2) (a0 :: a1 :: a2 :: a3 :: a4 :: a5 :: a6 :: some (.null) :: L) (st)) : J p l e R s m args below meth c Ω nL Q cells slots sz G (pc) (a0 :: a1 :: a2 :: a3 :: a4 :: a5 :: a6 :: a7 :: L) (.null :: st) := J_astoreN cx 7 hdg hk (by simpa [jok] using ho) kk
theorem J_astoreN8 (cx : jCX p s m args meth c cc own Ω nL)  {a0 a1 a2 a3 a4 a5 a6 a7 a8 : Option Value} (hdg : decode cc pc = .ok (.astore 8, 2)) (hk : 8 < nL) (ho : jok1 a7 = true)
    (kk : J p l e R s m args below meth c Ω nL Q cells slots sz G (pc + 2) (a0 :: a1 :: a2 :: a3 :: a4 :: a5 :: a6 :: a7 :: some (.null) :: L) (st)) : J p l e R s m args below meth c Ω nL Q cells slots sz G (pc) (a0 :: a1 :: a2 :: a3 :: a4 :: a5 :: a6 :: a7 :: a8 :: L) (.null :: st) := J_astoreN cx 8 hdg hk (by simpa [jok] using ho) kk
theorem J_astoreN9 (cx : jCX p s m args meth c cc own Ω nL)  {a0 a1 a2 a3 a4 a5 a6 a7 a8 a9 : Option Value} (hdg : decode cc pc = .ok (.astore 9, 2)) (hk : 9 < nL) (ho : jok1 a8 = true)
    (kk : J p l e R s m args below meth c Ω nL Q cells slots sz G (pc + 2) (a0 :: a1 :: a2 :: a3 :: a4 :: a5 :: a6 :: a7 :: a8 :: some (.null) :: L) (st)) : J p l e R s m args below meth c Ω nL Q cells slots sz G (pc) (a0 :: a1 :: a2 :: a3 :: a4 :: a5 :: a6 :: a7 :: a8 :: a9 :: L) (.null :: st) := J_astoreN cx 9 hdg hk (by simpa [jok] using ho) kk
theorem J_astoreN10 (cx : jCX p s m args meth c cc own Ω nL)  {a0 a1 a2 a3 a4 a5 a6 a7 a8 a9 a10 : Option Value} (hdg : decode cc pc = .ok (.astore 10, 2)) (hk : 10 < nL) (ho : jok1 a9 = true)
    (kk : J p l e R s m args below meth c Ω nL Q cells slots sz G (pc + 2) (a0 :: a1 :: a2 :: a3 :: a4 :: a5 :: a6 :: a7 :: a8 :: a9 :: some (.null) :: L) (st)) : J p l e R s m args below meth c Ω nL Q cells slots sz G (pc) (a0 :: a1 :: a2 :: a3 :: a4 :: a5 :: a6 :: a7 :: a8 :: a9 :: a10 :: L) (.null :: st) := J_astoreN cx 10 hdg hk (by simpa [jok] using ho) kk
theorem J_astoreN11 (cx : jCX p s m args meth c cc own Ω nL)  {a0 a1 a2 a3 a4 a5 a6 a7 a8 a9 a10 a11 : Option Value} (hdg : decode cc pc = .ok (.astore 11, 2)) (hk : 11 < nL) (ho : jok1 a10 = true)
    (kk : J p l e R s m args below meth c Ω nL Q cells slots sz G (pc + 2) (a0 :: a1 :: a2 :: a3 :: a4 :: a5 :: a6 :: a7 :: a8 :: a9 :: a10 :: some (.null) :: L) (st)) : J p l e R s m args below meth c Ω nL Q cells slots sz G (pc) (a0 :: a1 :: a2 :: a3 :: a4 :: a5 :: a6 :: a7 :: a8 :: a9 :: a10 :: a11 :: L) (.null :: st) := J_astoreN cx 11 hdg hk (by simpa [jok] using ho) kk
theorem J_astoreN12 (cx : jCX p s m args meth c cc own Ω nL)  {a0 a1 a2 a3 a4 a5 a6 a7 a8 a9 a10 a11 a12 : Option Value} (hdg : decode cc pc = .ok (.astore 12, 2)) (hk : 12 < nL) (ho : jok1 a11 = true)
    (kk : J p l e R s m args below meth c Ω nL Q cells slots sz G (pc + 2) (a0 :: a1 :: a2 :: a3 :: a4 :: a5 :: a6 :: a7 :: a8 :: a9 :: a10 :: a11 :: some (.null) :: L) (st)) : J p l e R s m args below meth c Ω nL Q cells slots sz G (pc) (a0 :: a1 :: a2 :: a3 :: a4 :: a5 :: a6 :: a7 :: a8 :: a9 :: a10 :: a11 :: a12 :: L) (.null :: st) := J_astoreN cx 12 hdg hk (by simpa [jok] using ho) kk
theorem J_astoreN13 (cx : jCX p s m args meth c cc own Ω nL)  {a0 a1 a2 a3 a4 a5 a6 a7 a8 a9 a10 a11 a12 a13 : Option Value} (hdg : decode cc pc = .ok (.astore 13, 2)) (hk : 13 < nL) (ho : jok1 a12 = true)
    (kk : J p l e R s m args below meth c Ω nL Q cells slots sz G (pc + 2) (a0 :: a1 :: a2 :: a3 :: a4 :: a5 :: a6 :: a7 :: a8 :: a9 :: a10 :: a11 :: a12 :: some (.null) :: L) (st)) : J p l e R s m args below meth c Ω nL Q cells slots sz G (pc) (a0 :: a1 :: a2 :: a3 :: a4 :: a5 :: a6 :: a7 :: a8 :: a9 :: a10 :: a11 :: a12 :: a13 :: L) (.null :: st) := J_astoreN cx 13 hdg hk (by simpa [jok] using ho) kk
theorem J_astoreN14 (cx : jCX p s m args meth c cc own Ω nL)  {a0 a1 a2 a3 a4 a5 a6 a7 a8 a9 a10 a11 a12 a13 a14 : Option Value} (hdg : decode cc pc = .ok (.astore 14, 2)) (hk : 14 < nL) (ho : jok1 a13 = true)
    (kk : J p l e R s m args below meth c Ω nL Q cells slots sz G (pc + 2) (a0 :: a1 :: a2 :: a3 :: a4 :: a5 :: a6 :: a7 :: a8 :: a9 :: a10 :: a11 :: a12 :: a13 :: some (.null) :: L) (st)) : J p l e R s m args below meth c Ω nL Q cells slots sz G (pc) (a0 :: a1 :: a2 :: a3 :: a4 :: a5 :: a6 :: a7 :: a8 :: a9 :: a10 :: a11 :: a12 :: a13 :: a14 :: L) (.null :: st) := J_astoreN cx 14 hdg hk (by simpa [jok] using ho) kk
theorem J_astoreN15 (cx : jCX p s m args meth c cc own Ω nL)  {a0 a1 a2 a3 a4 a5 a6 a7 a8 a9 a10 a11 a12 a13 a14 a15 : Option Value} (hdg : decode cc pc = .ok (.astore 15, 2)) (hk : 15 < nL) (ho : jok1 a14 = true)
    (kk : J p l e R s m args below meth c Ω nL Q cells slots sz G (pc + 2) (a0 :: a1 :: a2 :: a3 :: a4 :: a5 :: a6 :: a7 :: a8 :: a9 :: a10 :: a11 :: a12 :: a13 :: a14 :: some (.null) :: L) (st)) : J p l e R s m args below meth c Ω nL Q cells slots sz G (pc) (a0 :: a1 :: a2 :: a3 :: a4 :: a5 :: a6 :: a7 :: a8 :: a9 :: a10 :: a11 :: a12 :: a13 :: a14 :: a15 :: L) (.null :: st) := J_astoreN cx 15 hdg hk (by simpa [jok] using ho) kk
theorem J_fstore_n (cx : jCX p s m args meth c cc own Ω nL) {k9 : Fin 4} (k : Nat) (hk9 : (k9 : Nat) = k) {x : UInt32} (hdg : decode cc pc = .ok (.fstore_n k9, 1)) (hk : k < nL) (ho : jok L k = true)
    (kk : J p l e R s m args below meth c Ω nL Q cells slots sz G (pc + 1) (L.set k (some (.float x))) (st)) : J p l e R s m args below meth c Ω nL Q cells slots sz G (pc) L (.float x :: st) := by
  intro H locs ls h1 h2 h3 h4
  exact j1_use (v := .float x) h4 hk ho (fun lv lv' h5 _ hr k5 => lv_fstore_n cx.1 cx.2.1 hdg hk9 h5 hk hr k5) (fun ls' h7 => kk H locs ls' h1 h2 h3 h7)
theorem J_fstore_n0 (cx : jCX p s m args meth c cc own Ω nL) {x : UInt32} {a0 : Option Value} (hdg : decode cc pc = .ok (.fstore_n 0, 1)) (hk : 0 < nL) 
    (kk : J p l e R s m args below meth c Ω nL Q cells slots sz G (pc + 1) (some (.float x) :: L) (st)) : J p l e R s m args below meth c Ω nL Q cells slots sz G (pc) (a0 :: L) (.float x :: st) := J_fstore_n cx 0 rfl hdg hk rfl kk
theorem J_fstore_n1 (cx : jCX p s m args meth c cc own Ω nL) {x : UInt32} {a0 a1 : Option Value} (hdg : decode cc pc = .ok (.fstore_n 1, 1)) (hk : 1 < nL) (ho : jok1 a0 = true)
    (kk : J p l e R s m args below meth c Ω nL Q cells slots sz G (pc + 1) (a0 :: some (.float x) :: L) (st)) : J p l e R s m args below meth c Ω nL Q cells slots sz G (pc) (a0 :: a1 :: L) (.float x :: st) := J_fstore_n cx 1 rfl hdg hk (by simpa [jok] using ho) kk
theorem J_fstore_n2 (cx : jCX p s m args meth c cc own Ω nL) {x : UInt32} {a0 a1 a2 : Option Value} (hdg : decode cc pc = .ok (.fstore_n 2, 1)) (hk : 2 < nL) (ho : jok1 a1 = true)
    (kk : J p l e R s m args below meth c Ω nL Q cells slots sz G (pc + 1) (a0 :: a1 :: some (.float x) :: L) (st)) : J p l e R s m args below meth c Ω nL Q cells slots sz G (pc) (a0 :: a1 :: a2 :: L) (.float x :: st) := J_fstore_n cx 2 rfl hdg hk (by simpa [jok] using ho) kk
theorem J_fstore_n3 (cx : jCX p s m args meth c cc own Ω nL) {x : UInt32} {a0 a1 a2 a3 : Option Value} (hdg : decode cc pc = .ok (.fstore_n 3, 1)) (hk : 3 < nL) (ho : jok1 a2 = true)
    (kk : J p l e R s m args below meth c Ω nL Q cells slots sz G (pc + 1) (a0 :: a1 :: a2 :: some (.float x) :: L) (st)) : J p l e R s m args below meth c Ω nL Q cells slots sz G (pc) (a0 :: a1 :: a2 :: a3 :: L) (.float x :: st) := J_fstore_n cx 3 rfl hdg hk (by simpa [jok] using ho) kk
theorem J_fstore (cx : jCX p s m args meth c cc own Ω nL) (k : Nat) {x : UInt32} (hdg : decode cc pc = .ok (.fstore k, 2)) (hk : k < nL) (ho : jok L k = true)
    (kk : J p l e R s m args below meth c Ω nL Q cells slots sz G (pc + 2) (L.set k (some (.float x))) (st)) : J p l e R s m args below meth c Ω nL Q cells slots sz G (pc) L (.float x :: st) := by
  intro H locs ls h1 h2 h3 h4
  exact j1_use (v := .float x) h4 hk ho (fun lv lv' h5 _ hr k5 => lv_fstore cx.1 cx.2.1 hdg h5 hk hr k5) (fun ls' h7 => kk H locs ls' h1 h2 h3 h7)
theorem J_fstore4 (cx : jCX p s m args meth c cc own Ω nL) {x : UInt32} {a0 a1 a2 a3 a4 : Option Value} (hdg : decode cc pc = .ok (.fstore 4, 2)) (hk : 4 < nL) (ho : jok1 a3 = true)
    (kk : J p l e R s m args below meth c Ω nL Q cells slots sz G (pc + 2) (a0 :: a1 :: a2 :: a3 :: some (.float x) :: L) (st)) : J p l e R s m args below meth c Ω nL Q cells slots sz G (pc) (a0 :: a1 :: a2 :: a3 :: a4 :: L) (.float x :: st) := J_fstore cx 4 hdg hk (by simpa [jok] using ho) kk
theorem J_fstore5 (cx : jCX p s m args meth c cc own Ω nL) {x : UInt32} {a0 a1 a2 a3 a4 a5 : Option Value} (hdg : decode cc pc = .ok (.fstore 5, 2)) (hk : 5 < nL) (ho : jok1 a4 = true)
    (kk : J p l e R s m args below meth c Ω nL Q cells slots sz G (pc + 2) (a0 :: a1 :: a2 :: a3 :: a4 :: some (.float x) :: L) (st)) : J p l e R s m args below meth c Ω nL Q cells slots sz G (pc) (a0 :: a1 :: a2 :: a3 :: a4 :: a5 :: L) (.float x :: st) := J_fstore cx 5 hdg hk (by simpa [jok] using ho) kk
theorem J_fstore6 (cx : jCX p s m args meth c cc own Ω nL) {x : UInt32} {a0 a1 a2 a3 a4 a5 a6 : Option Value} (hdg : decode cc pc = .ok (.fstore 6, 2)) (hk : 6 < nL) (ho : jok1 a5 = true)
    (kk : J p l e R s m args below meth c Ω nL Q cells slots sz G (pc + 2) (a0 :: a1 :: a2 :: a3 :: a4 :: a5 :: some (.float x) :: L) (st)) : J p l e R s m args below meth c Ω nL Q cells slots sz G (pc) (a0 :: a1 :: a2 :: a3 :: a4 :: a5 :: a6 :: L) (.float x :: st) := J_fstore cx 6 hdg hk (by simpa [jok] using ho) kk
theorem J_fstore7 (cx : jCX p s m args meth c cc own Ω nL) {x : UInt32} {a0 a1 a2 a3 a4 a5 a6 a7 : Option Value} (hdg : decode cc pc = .ok (.fstore 7, 2)) (hk : 7 < nL) (ho : jok1 a6 = true)
    (kk : J p l e R s m args below meth c Ω nL Q cells slots sz G (pc + 2) (a0 :: a1 :: a2 :: a3 :: a4 :: a5 :: a6 :: some (.float x) :: L) (st)) : J p l e R s m args below meth c Ω nL Q cells slots sz G (pc) (a0 :: a1 :: a2 :: a3 :: a4 :: a5 :: a6 :: a7 :: L) (.float x :: st) := J_fstore cx 7 hdg hk (by simpa [jok] using ho) kk
theorem J_fstore8 (cx : jCX p s m args meth c cc own Ω nL) {x : UInt32} {a0 a1 a2 a3 a4 a5 a6 a7 a8 : Option Value} (hdg : decode cc pc = .ok (.fstore 8, 2)) (hk : 8 < nL) (ho : jok1 a7 = true)
    (kk : J p l e R s m args below meth c Ω nL Q cells slots sz G (pc + 2) (a0 :: a1 :: a2 :: a3 :: a4 :: a5 :: a6 :: a7 :: some (.float x) :: L) (st)) : J p l e R s m args below meth c Ω nL Q cells slots sz G (pc) (a0 :: a1 :: a2 :: a3 :: a4 :: a5 :: a6 :: a7 :: a8 :: L) (.float x :: st) := J_fstore cx 8 hdg hk (by simpa [jok] using ho) kk
theorem J_fstore9 (cx : jCX p s m args meth c cc own Ω nL) {x : UInt32} {a0 a1 a2 a3 a4 a5 a6 a7 a8 a9 : Option Value} (hdg : decode cc pc = .ok (.fstore 9, 2)) (hk : 9 < nL) (ho : jok1 a8 = true)
    (kk : J p l e R s m args below meth c Ω nL Q cells slots sz G (pc + 2) (a0 :: a1 :: a2 :: a3 :: a4 :: a5 :: a6 :: a7 :: a8 :: some (.float x) :: L) (st)) : J p l e R s m args below meth c Ω nL Q cells slots sz G (pc) (a0 :: a1 :: a2 :: a3 :: a4 :: a5 :: a6 :: a7 :: a8 :: a9 :: L) (.float x :: st) := J_fstore cx 9 hdg hk (by simpa [jok] using ho) kk
theorem J_fstore10 (cx : jCX p s m args meth c cc own Ω nL) {x : UInt32} {a0 a1 a2 a3 a4 a5 a6 a7 a8 a9 a10 : Option Value} (hdg : decode cc pc = .ok (.fstore 10, 2)) (hk : 10 < nL) (ho : jok1 a9 = true)
    (kk : J p l e R s m args below meth c Ω nL Q cells slots sz G (pc + 2) (a0 :: a1 :: a2 :: a3 :: a4 :: a5 :: a6 :: a7 :: a8 :: a9 :: some (.float x) :: L) (st)) : J p l e R s m args below meth c Ω nL Q cells slots sz G (pc) (a0 :: a1 :: a2 :: a3 :: a4 :: a5 :: a6 :: a7 :: a8 :: a9 :: a10 :: L) (.float x :: st) := J_fstore cx 10 hdg hk (by simpa [jok] using ho) kk
theorem J_fstore11 (cx : jCX p s m args meth c cc own Ω nL) {x : UInt32} {a0 a1 a2 a3 a4 a5 a6 a7 a8 a9 a10 a11 : Option Value} (hdg : decode cc pc = .ok (.fstore 11, 2)) (hk : 11 < nL) (ho : jok1 a10 = true)
    (kk : J p l e R s m args below meth c Ω nL Q cells slots sz G (pc + 2) (a0 :: a1 :: a2 :: a3 :: a4 :: a5 :: a6 :: a7 :: a8 :: a9 :: a10 :: some (.float x) :: L) (st)) : J p l e R s m args below meth c Ω nL Q cells slots sz G (pc) (a0 :: a1 :: a2 :: a3 :: a4 :: a5 :: a6 :: a7 :: a8 :: a9 :: a10 :: a11 :: L) (.float x :: st) := J_fstore cx 11 hdg hk (by simpa [jok] using ho) kk
theorem J_fstore12 (cx : jCX p s m args meth c cc own Ω nL) {x : UInt32} {a0 a1 a2 a3 a4 a5 a6 a7 a8 a9 a10 a11 a12 : Option Value} (hdg : decode cc pc = .ok (.fstore 12, 2)) (hk : 12 < nL) (ho : jok1 a11 = true)
    (kk : J p l e R s m args below meth c Ω nL Q cells slots sz G (pc + 2) (a0 :: a1 :: a2 :: a3 :: a4 :: a5 :: a6 :: a7 :: a8 :: a9 :: a10 :: a11 :: some (.float x) :: L) (st)) : J p l e R s m args below meth c Ω nL Q cells slots sz G (pc) (a0 :: a1 :: a2 :: a3 :: a4 :: a5 :: a6 :: a7 :: a8 :: a9 :: a10 :: a11 :: a12 :: L) (.float x :: st) := J_fstore cx 12 hdg hk (by simpa [jok] using ho) kk
theorem J_fstore13 (cx : jCX p s m args meth c cc own Ω nL) {x : UInt32} {a0 a1 a2 a3 a4 a5 a6 a7 a8 a9 a10 a11 a12 a13 : Option Value} (hdg : decode cc pc = .ok (.fstore 13, 2)) (hk : 13 < nL) (ho : jok1 a12 = true)
    (kk : J p l e R s m args below meth c Ω nL Q cells slots sz G (pc + 2) (a0 :: a1 :: a2 :: a3 :: a4 :: a5 :: a6 :: a7 :: a8 :: a9 :: a10 :: a11 :: a12 :: some (.float x) :: L) (st)) : J p l e R s m args below meth c Ω nL Q cells slots sz G (pc) (a0 :: a1 :: a2 :: a3 :: a4 :: a5 :: a6 :: a7 :: a8 :: a9 :: a10 :: a11 :: a12 :: a13 :: L) (.float x :: st) := J_fstore cx 13 hdg hk (by simpa [jok] using ho) kk
theorem J_fstore14 (cx : jCX p s m args meth c cc own Ω nL) {x : UInt32} {a0 a1 a2 a3 a4 a5 a6 a7 a8 a9 a10 a11 a12 a13 a14 : Option Value} (hdg : decode cc pc = .ok (.fstore 14, 2)) (hk : 14 < nL) (ho : jok1 a13 = true)
    (kk : J p l e R s m args below meth c Ω nL Q cells slots sz G (pc + 2) (a0 :: a1 :: a2 :: a3 :: a4 :: a5 :: a6 :: a7 :: a8 :: a9 :: a10 :: a11 :: a12 :: a13 :: some (.float x) :: L) (st)) : J p l e R s m args below meth c Ω nL Q cells slots sz G (pc) (a0 :: a1 :: a2 :: a3 :: a4 :: a5 :: a6 :: a7 :: a8 :: a9 :: a10 :: a11 :: a12 :: a13 :: a14 :: L) (.float x :: st) := J_fstore cx 14 hdg hk (by simpa [jok] using ho) kk
theorem J_fstore15 (cx : jCX p s m args meth c cc own Ω nL) {x : UInt32} {a0 a1 a2 a3 a4 a5 a6 a7 a8 a9 a10 a11 a12 a13 a14 a15 : Option Value} (hdg : decode cc pc = .ok (.fstore 15, 2)) (hk : 15 < nL) (ho : jok1 a14 = true)
    (kk : J p l e R s m args below meth c Ω nL Q cells slots sz G (pc + 2) (a0 :: a1 :: a2 :: a3 :: a4 :: a5 :: a6 :: a7 :: a8 :: a9 :: a10 :: a11 :: a12 :: a13 :: a14 :: some (.float x) :: L) (st)) : J p l e R s m args below meth c Ω nL Q cells slots sz G (pc) (a0 :: a1 :: a2 :: a3 :: a4 :: a5 :: a6 :: a7 :: a8 :: a9 :: a10 :: a11 :: a12 :: a13 :: a14 :: a15 :: L) (.float x :: st) := J_fstore cx 15 hdg hk (by simpa [jok] using ho) kk
theorem J_lstore_n (cx : jCX p s m args meth c cc own Ω nL) {k9 : Fin 4} (k : Nat) (hk9 : (k9 : Nat) = k) {x : Int64} (hdg : decode cc pc = .ok (.lstore_n k9, 1)) (hk : k + 1 < nL) (ho : jok L k = true)
    (kk : J p l e R s m args below meth c Ω nL Q cells slots sz G (pc + 1) ((L.set k (some (.long x))).set (k + 1) none) (st)) : J p l e R s m args below meth c Ω nL Q cells slots sz G (pc) L (.long x :: st) := by
  intro H locs ls h1 h2 h3 h4
  exact j2_use (v := .long x) h4 hk ho (fun lv lv' h5 _ hr k5 => lv_lstore_n cx.1 cx.2.1 hdg hk9 h5 hk hr k5) (fun ls' h7 => kk H locs ls' h1 h2 h3 h7)
theorem J_lstore_n0 (cx : jCX p s m args meth c cc own Ω nL) {x : Int64} {a0 a1 : Option Value} (hdg : decode cc pc = .ok (.lstore_n 0, 1)) (hk : 1 < nL) 
    (kk : J p l e R s m args below meth c Ω nL Q cells slots sz G (pc + 1) (some (.long x) :: none :: L) (st)) : J p l e R s m args below meth c Ω nL Q cells slots sz G (pc) (a0 :: a1 :: L) (.long x :: st) := J_lstore_n cx 0 rfl hdg hk rfl kk
theorem J_lstore_n1 (cx : jCX p s m args meth c cc own Ω nL) {x : Int64} {a0 a1 a2 : Option Value} (hdg : decode cc pc = .ok (.lstore_n 1, 1)) (hk : 2 < nL) (ho : jok1 a0 = true)
    (kk : J p l e R s m args below meth c Ω nL Q cells slots sz G (pc + 1) (a0 :: some (.long x) :: none :: L) (st)) : J p l e R s m args below meth c Ω nL Q cells slots sz G (pc) (a0 :: a1 :: a2 :: L) (.long x :: st) := J_lstore_n cx 1 rfl hdg hk (by simpa [jok] using ho) kk
theorem J_lstore_n2 (cx : jCX p s m args meth c cc own Ω nL) {x : Int64} {a0 a1 a2 a3 : Option Value} (hdg : decode cc pc = .ok (.lstore_n 2, 1)) (hk : 3 < nL) (ho : jok1 a1 = true)
    (kk : J p l e R s m args below meth c Ω nL Q cells slots sz G (pc + 1) (a0 :: a1 :: some (.long x) :: none :: L) (st)) : J p l e R s m args below meth c Ω nL Q cells slots sz G (pc) (a0 :: a1 :: a2 :: a3 :: L) (.long x :: st) := J_lstore_n cx 2 rfl hdg hk (by simpa [jok] using ho) kk
theorem J_lstore_n3 (cx : jCX p s m args meth c cc own Ω nL) {x : Int64} {a0 a1 a2 a3 a4 : Option Value} (hdg : decode cc pc = .ok (.lstore_n 3, 1)) (hk : 4 < nL) (ho : jok1 a2 = true)
    (kk : J p l e R s m args below meth c Ω nL Q cells slots sz G (pc + 1) (a0 :: a1 :: a2 :: some (.long x) :: none :: L) (st)) : J p l e R s m args below meth c Ω nL Q cells slots sz G (pc) (a0 :: a1 :: a2 :: a3 :: a4 :: L) (.long x :: st) := J_lstore_n cx 3 rfl hdg hk (by simpa [jok] using ho) kk
theorem J_lstore (cx : jCX p s m args meth c cc own Ω nL) (k : Nat) {x : Int64} (hdg : decode cc pc = .ok (.lstore k, 2)) (hk : k + 1 < nL) (ho : jok L k = true)
    (kk : J p l e R s m args below meth c Ω nL Q cells slots sz G (pc + 2) ((L.set k (some (.long x))).set (k + 1) none) (st)) : J p l e R s m args below meth c Ω nL Q cells slots sz G (pc) L (.long x :: st) := by
  intro H locs ls h1 h2 h3 h4
  exact j2_use (v := .long x) h4 hk ho (fun lv lv' h5 _ hr k5 => lv_lstore cx.1 cx.2.1 hdg h5 hk hr k5) (fun ls' h7 => kk H locs ls' h1 h2 h3 h7)
theorem J_lstore4 (cx : jCX p s m args meth c cc own Ω nL) {x : Int64} {a0 a1 a2 a3 a4 a5 : Option Value} (hdg : decode cc pc = .ok (.lstore 4, 2)) (hk : 5 < nL) (ho : jok1 a3 = true)
    (kk : J p l e R s m args below meth c Ω nL Q cells slots sz G (pc + 2) (a0 :: a1 :: a2 :: a3 :: some (.long x) :: none :: L) (st)) : J p l e R s m args below meth c Ω nL Q cells slots sz G (pc) (a0 :: a1 :: a2 :: a3 :: a4 :: a5 :: L) (.long x :: st) := J_lstore cx 4 hdg hk (by simpa [jok] using ho) kk
theorem J_lstore5 (cx : jCX p s m args meth c cc own Ω nL) {x : Int64} {a0 a1 a2 a3 a4 a5 a6 : Option Value} (hdg : decode cc pc = .ok (.lstore 5, 2)) (hk : 6 < nL) (ho : jok1 a4 = true)
    (kk : J p l e R s m args below meth c Ω nL Q cells slots sz G (pc + 2) (a0 :: a1 :: a2 :: a3 :: a4 :: some (.long x) :: none :: L) (st)) : J p l e R s m args below meth c Ω nL Q cells slots sz G (pc) (a0 :: a1 :: a2 :: a3 :: a4 :: a5 :: a6 :: L) (.long x :: st) := J_lstore cx 5 hdg hk (by simpa [jok] using ho) kk
theorem J_lstore6 (cx : jCX p s m args meth c cc own Ω nL) {x : Int64} {a0 a1 a2 a3 a4 a5 a6 a7 : Option Value} (hdg : decode cc pc = .ok (.lstore 6, 2)) (hk : 7 < nL) (ho : jok1 a5 = true)
    (kk : J p l e R s m args below meth c Ω nL Q cells slots sz G (pc + 2) (a0 :: a1 :: a2 :: a3 :: a4 :: a5 :: some (.long x) :: none :: L) (st)) : J p l e R s m args below meth c Ω nL Q cells slots sz G (pc) (a0 :: a1 :: a2 :: a3 :: a4 :: a5 :: a6 :: a7 :: L) (.long x :: st) := J_lstore cx 6 hdg hk (by simpa [jok] using ho) kk
theorem J_lstore7 (cx : jCX p s m args meth c cc own Ω nL) {x : Int64} {a0 a1 a2 a3 a4 a5 a6 a7 a8 : Option Value} (hdg : decode cc pc = .ok (.lstore 7, 2)) (hk : 8 < nL) (ho : jok1 a6 = true)
    (kk : J p l e R s m args below meth c Ω nL Q cells slots sz G (pc + 2) (a0 :: a1 :: a2 :: a3 :: a4 :: a5 :: a6 :: some (.long x) :: none :: L) (st)) : J p l e R s m args below meth c Ω nL Q cells slots sz G (pc) (a0 :: a1 :: a2 :: a3 :: a4 :: a5 :: a6 :: a7 :: a8 :: L) (.long x :: st) := J_lstore cx 7 hdg hk (by simpa [jok] using ho) kk
theorem J_lstore8 (cx : jCX p s m args meth c cc own Ω nL) {x : Int64} {a0 a1 a2 a3 a4 a5 a6 a7 a8 a9 : Option Value} (hdg : decode cc pc = .ok (.lstore 8, 2)) (hk : 9 < nL) (ho : jok1 a7 = true)
    (kk : J p l e R s m args below meth c Ω nL Q cells slots sz G (pc + 2) (a0 :: a1 :: a2 :: a3 :: a4 :: a5 :: a6 :: a7 :: some (.long x) :: none :: L) (st)) : J p l e R s m args below meth c Ω nL Q cells slots sz G (pc) (a0 :: a1 :: a2 :: a3 :: a4 :: a5 :: a6 :: a7 :: a8 :: a9 :: L) (.long x :: st) := J_lstore cx 8 hdg hk (by simpa [jok] using ho) kk
theorem J_lstore9 (cx : jCX p s m args meth c cc own Ω nL) {x : Int64} {a0 a1 a2 a3 a4 a5 a6 a7 a8 a9 a10 : Option Value} (hdg : decode cc pc = .ok (.lstore 9, 2)) (hk : 10 < nL) (ho : jok1 a8 = true)
    (kk : J p l e R s m args below meth c Ω nL Q cells slots sz G (pc + 2) (a0 :: a1 :: a2 :: a3 :: a4 :: a5 :: a6 :: a7 :: a8 :: some (.long x) :: none :: L) (st)) : J p l e R s m args below meth c Ω nL Q cells slots sz G (pc) (a0 :: a1 :: a2 :: a3 :: a4 :: a5 :: a6 :: a7 :: a8 :: a9 :: a10 :: L) (.long x :: st) := J_lstore cx 9 hdg hk (by simpa [jok] using ho) kk
theorem J_lstore10 (cx : jCX p s m args meth c cc own Ω nL) {x : Int64} {a0 a1 a2 a3 a4 a5 a6 a7 a8 a9 a10 a11 : Option Value} (hdg : decode cc pc = .ok (.lstore 10, 2)) (hk : 11 < nL) (ho : jok1 a9 = true)
    (kk : J p l e R s m args below meth c Ω nL Q cells slots sz G (pc + 2) (a0 :: a1 :: a2 :: a3 :: a4 :: a5 :: a6 :: a7 :: a8 :: a9 :: some (.long x) :: none :: L) (st)) : J p l e R s m args below meth c Ω nL Q cells slots sz G (pc) (a0 :: a1 :: a2 :: a3 :: a4 :: a5 :: a6 :: a7 :: a8 :: a9 :: a10 :: a11 :: L) (.long x :: st) := J_lstore cx 10 hdg hk (by simpa [jok] using ho) kk
theorem J_lstore11 (cx : jCX p s m args meth c cc own Ω nL) {x : Int64} {a0 a1 a2 a3 a4 a5 a6 a7 a8 a9 a10 a11 a12 : Option Value} (hdg : decode cc pc = .ok (.lstore 11, 2)) (hk : 12 < nL) (ho : jok1 a10 = true)
    (kk : J p l e R s m args below meth c Ω nL Q cells slots sz G (pc + 2) (a0 :: a1 :: a2 :: a3 :: a4 :: a5 :: a6 :: a7 :: a8 :: a9 :: a10 :: some (.long x) :: none :: L) (st)) : J p l e R s m args below meth c Ω nL Q cells slots sz G (pc) (a0 :: a1 :: a2 :: a3 :: a4 :: a5 :: a6 :: a7 :: a8 :: a9 :: a10 :: a11 :: a12 :: L) (.long x :: st) := J_lstore cx 11 hdg hk (by simpa [jok] using ho) kk
theorem J_lstore12 (cx : jCX p s m args meth c cc own Ω nL) {x : Int64} {a0 a1 a2 a3 a4 a5 a6 a7 a8 a9 a10 a11 a12 a13 : Option Value} (hdg : decode cc pc = .ok (.lstore 12, 2)) (hk : 13 < nL) (ho : jok1 a11 = true)
    (kk : J p l e R s m args below meth c Ω nL Q cells slots sz G (pc + 2) (a0 :: a1 :: a2 :: a3 :: a4 :: a5 :: a6 :: a7 :: a8 :: a9 :: a10 :: a11 :: some (.long x) :: none :: L) (st)) : J p l e R s m args below meth c Ω nL Q cells slots sz G (pc) (a0 :: a1 :: a2 :: a3 :: a4 :: a5 :: a6 :: a7 :: a8 :: a9 :: a10 :: a11 :: a12 :: a13 :: L) (.long x :: st) := J_lstore cx 12 hdg hk (by simpa [jok] using ho) kk
theorem J_lstore13 (cx : jCX p s m args meth c cc own Ω nL) {x : Int64} {a0 a1 a2 a3 a4 a5 a6 a7 a8 a9 a10 a11 a12 a13 a14 : Option Value} (hdg : decode cc pc = .ok (.lstore 13, 2)) (hk : 14 < nL) (ho : jok1 a12 = true)
    (kk : J p l e R s m args below meth c Ω nL Q cells slots sz G (pc + 2) (a0 :: a1 :: a2 :: a3 :: a4 :: a5 :: a6 :: a7 :: a8 :: a9 :: a10 :: a11 :: a12 :: some (.long x) :: none :: L) (st)) : J p l e R s m args below meth c Ω nL Q cells slots sz G (pc) (a0 :: a1 :: a2 :: a3 :: a4 :: a5 :: a6 :: a7 :: a8 :: a9 :: a10 :: a11 :: a12 :: a13 :: a14 :: L) (.long x :: st) := J_lstore cx 13 hdg hk (by simpa [jok] using ho) kk
theorem J_lstore14 (cx : jCX p s m args meth c cc own Ω nL) {x : Int64} {a0 a1 a2 a3 a4 a5 a6 a7 a8 a9 a10 a11 a12 a13 a14 a15 : Option Value} (hdg : decode cc pc = .ok (.lstore 14, 2)) (hk : 15 < nL) (ho : jok1 a13 = true)
    (kk : J p l e R s m args below meth c Ω nL Q cells slots sz G (pc + 2) (a0 :: a1 :: a2 :: a3 :: a4 :: a5 :: a6 :: a7 :: a8 :: a9 :: a10 :: a11 :: a12 :: a13 :: some (.long x) :: none :: L) (st)) : J p l e R s m args below meth c Ω nL Q cells slots sz G (pc) (a0 :: a1 :: a2 :: a3 :: a4 :: a5 :: a6 :: a7 :: a8 :: a9 :: a10 :: a11 :: a12 :: a13 :: a14 :: a15 :: L) (.long x :: st) := J_lstore cx 14 hdg hk (by simpa [jok] using ho) kk
theorem J_lstore15 (cx : jCX p s m args meth c cc own Ω nL) {x : Int64} {a0 a1 a2 a3 a4 a5 a6 a7 a8 a9 a10 a11 a12 a13 a14 a15 a16 : Option Value} (hdg : decode cc pc = .ok (.lstore 15, 2)) (hk : 16 < nL) (ho : jok1 a14 = true)
    (kk : J p l e R s m args below meth c Ω nL Q cells slots sz G (pc + 2) (a0 :: a1 :: a2 :: a3 :: a4 :: a5 :: a6 :: a7 :: a8 :: a9 :: a10 :: a11 :: a12 :: a13 :: a14 :: some (.long x) :: none :: L) (st)) : J p l e R s m args below meth c Ω nL Q cells slots sz G (pc) (a0 :: a1 :: a2 :: a3 :: a4 :: a5 :: a6 :: a7 :: a8 :: a9 :: a10 :: a11 :: a12 :: a13 :: a14 :: a15 :: a16 :: L) (.long x :: st) := J_lstore cx 15 hdg hk (by simpa [jok] using ho) kk
theorem J_dstore_n (cx : jCX p s m args meth c cc own Ω nL) {k9 : Fin 4} (k : Nat) (hk9 : (k9 : Nat) = k) {x : UInt64} (hdg : decode cc pc = .ok (.dstore_n k9, 1)) (hk : k + 1 < nL) (ho : jok L k = true)
    (kk : J p l e R s m args below meth c Ω nL Q cells slots sz G (pc + 1) ((L.set k (some (.double x))).set (k + 1) none) (st)) : J p l e R s m args below meth c Ω nL Q cells slots sz G (pc) L (.double x :: st) := by
  intro H locs ls h1 h2 h3 h4
  exact j2_use (v := .double x) h4 hk ho (fun lv lv' h5 _ hr k5 => lv_dstore_n cx.1 cx.2.1 hdg hk9 h5 hk hr k5) (fun ls' h7 => kk H locs ls' h1 h2 h3 h7)
theorem J_dstore_n0 (cx : jCX p s m args meth c cc own Ω nL) {x : UInt64} {a0 a1 : Option Value} (hdg : decode cc pc = .ok (.dstore_n 0, 1)) (hk : 1 < nL) 
    (kk : J p l e R s m args below meth c Ω nL Q cells slots sz G (pc + 1) (some (.double x) :: none :: L) (st)) : J p l e R s m args below meth c Ω nL Q cells slots sz G (pc) (a0 :: a1 :: L) (.double x :: st) := J_dstore_n cx 0 rfl hdg hk rfl kk
theorem J_dstore_n1 (cx : jCX p s m args meth c cc own Ω nL) {x : UInt64} {a0 a1 a2 : Option Value} (hdg : decode cc pc = .ok (.dstore_n 1, 1)) (hk : 2 < nL) (ho : jok1 a0 = true)
    (kk : J p l e R s m args below meth c Ω nL Q cells slots sz G (pc + 1) (a0 :: some (.double x) :: none :: L) (st)) : J p l e R s m args below meth c Ω nL Q cells slots sz G (pc) (a0 :: a1 :: a2 :: L) (.double x :: st) := J_dstore_n cx 1 rfl hdg hk (by simpa [jok] using ho) kk
theorem J_dstore_n2 (cx : jCX p s m args meth c cc own Ω nL) {x : UInt64} {a0 a1 a2 a3 : Option Value} (hdg : decode cc pc = .ok (.dstore_n 2, 1)) (hk : 3 < nL) (ho : jok1 a1 = true)
    (kk : J p l e R s m args below meth c Ω nL Q cells slots sz G (pc + 1) (a0 :: a1 :: some (.double x) :: none :: L) (st)) : J p l e R s m args below meth c Ω nL Q cells slots sz G (pc) (a0 :: a1 :: a2 :: a3 :: L) (.double x :: st) := J_dstore_n cx 2 rfl hdg hk (by simpa [jok] using ho) kk
theorem J_dstore_n3 (cx : jCX p s m args meth c cc own Ω nL) {x : UInt64} {a0 a1 a2 a3 a4 : Option Value} (hdg : decode cc pc = .ok (.dstore_n 3, 1)) (hk : 4 < nL) (ho : jok1 a2 = true)
    (kk : J p l e R s m args below meth c Ω nL Q cells slots sz G (pc + 1) (a0 :: a1 :: a2 :: some (.double x) :: none :: L) (st)) : J p l e R s m args below meth c Ω nL Q cells slots sz G (pc) (a0 :: a1 :: a2 :: a3 :: a4 :: L) (.double x :: st) := J_dstore_n cx 3 rfl hdg hk (by simpa [jok] using ho) kk
theorem J_dstore (cx : jCX p s m args meth c cc own Ω nL) (k : Nat) {x : UInt64} (hdg : decode cc pc = .ok (.dstore k, 2)) (hk : k + 1 < nL) (ho : jok L k = true)
    (kk : J p l e R s m args below meth c Ω nL Q cells slots sz G (pc + 2) ((L.set k (some (.double x))).set (k + 1) none) (st)) : J p l e R s m args below meth c Ω nL Q cells slots sz G (pc) L (.double x :: st) := by
  intro H locs ls h1 h2 h3 h4
  exact j2_use (v := .double x) h4 hk ho (fun lv lv' h5 _ hr k5 => lv_dstore cx.1 cx.2.1 hdg h5 hk hr k5) (fun ls' h7 => kk H locs ls' h1 h2 h3 h7)
theorem J_dstore4 (cx : jCX p s m args meth c cc own Ω nL) {x : UInt64} {a0 a1 a2 a3 a4 a5 : Option Value} (hdg : decode cc pc = .ok (.dstore 4, 2)) (hk : 5 < nL) (ho : jok1 a3 = true)
    (kk : J p l e R s m args below meth c Ω nL Q cells slots sz G (pc + 2) (a0 :: a1 :: a2 :: a3 :: some (.double x) :: none :: L) (st)) : J p l e R s m args below meth c Ω nL Q cells slots sz G (pc) (a0 :: a1 :: a2 :: a3 :: a4 :: a5 :: L) (.double x :: st) := J_dstore cx 4 hdg hk (by simpa [jok] using ho) kk
theorem J_dstore5 (cx : jCX p s m args meth c cc own Ω nL) {x : UInt64} {a0 a1 a2 a3 a4 a5 a6 : Option Value} (hdg : decode cc pc = .ok (.dstore 5, 2)) (hk : 6 < nL) (ho : jok1 a4 = true)
    (kk : J p l e R s m args below meth c Ω nL Q cells slots sz G (pc + 2) (a0 :: a1 :: a2 :: a3 :: a4 :: some (.double x) :: none :: L) (st)) : J p l e R s m args below meth c Ω nL Q cells slots sz G (pc) (a0 :: a1 :: a2 :: a3 :: a4 :: a5 :: a6 :: L) (.double x :: st) := J_dstore cx 5 hdg hk (by simpa [jok] using ho) kk
theorem J_dstore6 (cx : jCX p s m args meth c cc own Ω nL) {x : UInt64} {a0 a1 a2 a3 a4 a5 a6 a7 : Option Value} (hdg : decode cc pc = .ok (.dstore 6, 2)) (hk : 7 < nL) (ho : jok1 a5 = true)
    (kk : J p l e R s m args below meth c Ω nL Q cells slots sz G (pc + 2) (a0 :: a1 :: a2 :: a3 :: a4 :: a5 :: some (.double x) :: none :: L) (st)) : J p l e R s m args below meth c Ω nL Q cells slots sz G (pc) (a0 :: a1 :: a2 :: a3 :: a4 :: a5 :: a6 :: a7 :: L) (.double x :: st) := J_dstore cx 6 hdg hk (by simpa [jok] using ho) kk
theorem J_dstore7 (cx : jCX p s m args meth c cc own Ω nL) {x : UInt64} {a0 a1 a2 a3 a4 a5 a6 a7 a8 : Option Value} (hdg : decode cc pc = .ok (.dstore 7, 2)) (hk : 8 < nL) (ho : jok1 a6 = true)
    (kk : J p l e R s m args below meth c Ω nL Q cells slots sz G (pc + 2) (a0 :: a1 :: a2 :: a3 :: a4 :: a5 :: a6 :: some (.double x) :: none :: L) (st)) : J p l e R s m args below meth c Ω nL Q cells slots sz G (pc) (a0 :: a1 :: a2 :: a3 :: a4 :: a5 :: a6 :: a7 :: a8 :: L) (.double x :: st) := J_dstore cx 7 hdg hk (by simpa [jok] using ho) kk
theorem J_dstore8 (cx : jCX p s m args meth c cc own Ω nL) {x : UInt64} {a0 a1 a2 a3 a4 a5 a6 a7 a8 a9 : Option Value} (hdg : decode cc pc = .ok (.dstore 8, 2)) (hk : 9 < nL) (ho : jok1 a7 = true)
    (kk : J p l e R s m args below meth c Ω nL Q cells slots sz G (pc + 2) (a0 :: a1 :: a2 :: a3 :: a4 :: a5 :: a6 :: a7 :: some (.double x) :: none :: L) (st)) : J p l e R s m args below meth c Ω nL Q cells slots sz G (pc) (a0 :: a1 :: a2 :: a3 :: a4 :: a5 :: a6 :: a7 :: a8 :: a9 :: L) (.double x :: st) := J_dstore cx 8 hdg hk (by simpa [jok] using ho) kk
theorem J_dstore9 (cx : jCX p s m args meth c cc own Ω nL) {x : UInt64} {a0 a1 a2 a3 a4 a5 a6 a7 a8 a9 a10 : Option Value} (hdg : decode cc pc = .ok (.dstore 9, 2)) (hk : 10 < nL) (ho : jok1 a8 = true)
    (kk : J p l e R s m args below meth c Ω nL Q cells slots sz G (pc + 2) (a0 :: a1 :: a2 :: a3 :: a4 :: a5 :: a6 :: a7 :: a8 :: some (.double x) :: none :: L) (st)) : J p l e R s m args below meth c Ω nL Q cells slots sz G (pc) (a0 :: a1 :: a2 :: a3 :: a4 :: a5 :: a6 :: a7 :: a8 :: a9 :: a10 :: L) (.double x :: st) := J_dstore cx 9 hdg hk (by simpa [jok] using ho) kk
theorem J_dstore10 (cx : jCX p s m args meth c cc own Ω nL) {x : UInt64} {a0 a1 a2 a3 a4 a5 a6 a7 a8 a9 a10 a11 : Option Value} (hdg : decode cc pc = .ok (.dstore 10, 2)) (hk : 11 < nL) (ho : jok1 a9 = true)
    (kk : J p l e R s m args below meth c Ω nL Q cells slots sz G (pc + 2) (a0 :: a1 :: a2 :: a3 :: a4 :: a5 :: a6 :: a7 :: a8 :: a9 :: some (.double x) :: none :: L) (st)) : J p l e R s m args below meth c Ω nL Q cells slots sz G (pc) (a0 :: a1 :: a2 :: a3 :: a4 :: a5 :: a6 :: a7 :: a8 :: a9 :: a10 :: a11 :: L) (.double x :: st) := J_dstore cx 10 hdg hk (by simpa [jok] using ho) kk
theorem J_dstore11 (cx : jCX p s m args meth c cc own Ω nL) {x : UInt64} {a0 a1 a2 a3 a4 a5 a6 a7 a8 a9 a10 a11 a12 : Option Value} (hdg : decode cc pc = .ok (.dstore 11, 2)) (hk : 12 < nL) (ho : jok1 a10 = true)
    (kk : J p l e R s m args below meth c Ω nL Q cells slots sz G (pc + 2) (a0 :: a1 :: a2 :: a3 :: a4 :: a5 :: a6 :: a7 :: a8 :: a9 :: a10 :: some (.double x) :: none :: L) (st)) : J p l e R s m args below meth c Ω nL Q cells slots sz G (pc) (a0 :: a1 :: a2 :: a3 :: a4 :: a5 :: a6 :: a7 :: a8 :: a9 :: a10 :: a11 :: a12 :: L) (.double x :: st) := J_dstore cx 11 hdg hk (by simpa [jok] using ho) kk
theorem J_dstore12 (cx : jCX p s m args meth c cc own Ω nL) {x : UInt64} {a0 a1 a2 a3 a4 a5 a6 a7 a8 a9 a10 a11 a12 a13 : Option Value} (hdg : decode cc pc = .ok (.dstore 12, 2)) (hk : 13 < nL) (ho : jok1 a11 = true)
    (kk : J p l e R s m args below meth c Ω nL Q cells slots sz G (pc + 2) (a0 :: a1 :: a2 :: a3 :: a4 :: a5 :: a6 :: a7 :: a8 :: a9 :: a10 :: a11 :: some (.double x) :: none :: L) (st)) : J p l e R s m args below meth c Ω nL Q cells slots sz G (pc) (a0 :: a1 :: a2 :: a3 :: a4 :: a5 :: a6 :: a7 :: a8 :: a9 :: a10 :: a11 :: a12 :: a13 :: L) (.double x :: st) := J_dstore cx 12 hdg hk (by simpa [jok] using ho) kk
theorem J_dstore13 (cx : jCX p s m args meth c cc own Ω nL) {x : UInt64} {a0 a1 a2 a3 a4 a5 a6 a7 a8 a9 a10 a11 a12 a13 a14 : Option Value} (hdg : decode cc pc = .ok (.dstore 13, 2)) (hk : 14 < nL) (ho : jok1 a12 = true)
    (kk : J p l e R s m args below meth c Ω nL Q cells slots sz G (pc + 2) (a0 :: a1 :: a2 :: a3 :: a4 :: a5 :: a6 :: a7 :: a8 :: a9 :: a10 :: a11 :: a12 :: some (.double x) :: none :: L) (st)) : J p l e R s m args below meth c Ω nL Q cells slots sz G (pc) (a0 :: a1 :: a2 :: a3 :: a4 :: a5 :: a6 :: a7 :: a8 :: a9 :: a10 :: a11 :: a12 :: a13 :: a14 :: L) (.double x :: st) := J_dstore cx 13 hdg hk (by simpa [jok] using ho) kk
theorem J_dstore14 (cx : jCX p s m args meth c cc own Ω nL) {x : UInt64} {a0 a1 a2 a3 a4 a5 a6 a7 a8 a9 a10 a11 a12 a13 a14 a15 : Option Value} (hdg : decode cc pc = .ok (.dstore 14, 2)) (hk : 15 < nL) (ho : jok1 a13 = true)
    (kk : J p l e R s m args below meth c Ω nL Q cells slots sz G (pc + 2) (a0 :: a1 :: a2 :: a3 :: a4 :: a5 :: a6 :: a7 :: a8 :: a9 :: a10 :: a11 :: a12 :: a13 :: some (.double x) :: none :: L) (st)) : J p l e R s m args below meth c Ω nL Q cells slots sz G (pc) (a0 :: a1 :: a2 :: a3 :: a4 :: a5 :: a6 :: a7 :: a8 :: a9 :: a10 :: a11 :: a12 :: a13 :: a14 :: a15 :: L) (.double x :: st) := J_dstore cx 14 hdg hk (by simpa [jok] using ho) kk
theorem J_dstore15 (cx : jCX p s m args meth c cc own Ω nL) {x : UInt64} {a0 a1 a2 a3 a4 a5 a6 a7 a8 a9 a10 a11 a12 a13 a14 a15 a16 : Option Value} (hdg : decode cc pc = .ok (.dstore 15, 2)) (hk : 16 < nL) (ho : jok1 a14 = true)
    (kk : J p l e R s m args below meth c Ω nL Q cells slots sz G (pc + 2) (a0 :: a1 :: a2 :: a3 :: a4 :: a5 :: a6 :: a7 :: a8 :: a9 :: a10 :: a11 :: a12 :: a13 :: a14 :: some (.double x) :: none :: L) (st)) : J p l e R s m args below meth c Ω nL Q cells slots sz G (pc) (a0 :: a1 :: a2 :: a3 :: a4 :: a5 :: a6 :: a7 :: a8 :: a9 :: a10 :: a11 :: a12 :: a13 :: a14 :: a15 :: a16 :: L) (.double x :: st) := J_dstore cx 15 hdg hk (by simpa [jok] using ho) kk
theorem J_iinc0 (cx : jCX p s m args meth c cc own Ω nL) {x v : Int32} {n : Int}  (hdg : decode cc pc = .ok (.iinc 0 n, 3)) (hv : x + Int32.ofInt n = v) (hk : 0 < nL) 
    (kk : J p l e R s m args below meth c Ω nL Q cells slots sz G (pc + 3) (some (.int v) :: L) (st)) : J p l e R s m args below meth c Ω nL Q cells slots sz G (pc) (some (.int x) :: L) (st) := by
  intro H locs ls h1 h2 h3 h4
  refine j1_use (i := 0) (v := .int v) h4 hk rfl (fun lv lv' h5 hm hr k5 => ?_) (fun ls' h7 => kk H locs ls' h1 h2 h3 h7)
  obtain ⟨k9, hk9⟩ := List.getElem?_of_mem (hm 0 (.int x) rfl)
  exact lv_iinc cx.1 cx.2.1 hdg h5 hk9 hv hk hr k5
theorem J_iinc1 (cx : jCX p s m args meth c cc own Ω nL) {x v : Int32} {n : Int} {a0 : Option Value} (hdg : decode cc pc = .ok (.iinc 1 n, 3)) (hv : x + Int32.ofInt n = v) (hk : 1 < nL) (ho : jok1 a0 = true)
    (kk : J p l e R s m args below meth c Ω nL Q cells slots sz G (pc + 3) (a0 :: some (.int v) :: L) (st)) : J p l e R s m args below meth c Ω nL Q cells slots sz G (pc) (a0 :: some (.int x) :: L) (st) := by
  intro H locs ls h1 h2 h3 h4
  refine j1_use (i := 1) (v := .int v) h4 hk (by simpa [jok] using ho) (fun lv lv' h5 hm hr k5 => ?_) (fun ls' h7 => kk H locs ls' h1 h2 h3 h7)
  obtain ⟨k9, hk9⟩ := List.getElem?_of_mem (hm 1 (.int x) rfl)
  exact lv_iinc cx.1 cx.2.1 hdg h5 hk9 hv hk hr k5
theorem J_iinc2 (cx : jCX p s m args meth c cc own Ω nL) {x v : Int32} {n : Int} {a0 a1 : Option Value} (hdg : decode cc pc = .ok (.iinc 2 n, 3)) (hv : x + Int32.ofInt n = v) (hk : 2 < nL) (ho : jok1 a1 = true)
    (kk : J p l e R s m args below meth c Ω nL Q cells slots sz G (pc + 3) (a0 :: a1 :: some (.int v) :: L) (st)) : J p l e R s m args below meth c Ω nL Q cells slots sz G (pc) (a0 :: a1 :: some (.int x) :: L) (st) := by
  intro H locs ls h1 h2 h3 h4
  refine j1_use (i := 2) (v := .int v) h4 hk (by simpa [jok] using ho) (fun lv lv' h5 hm hr k5 => ?_) (fun ls' h7 => kk H locs ls' h1 h2 h3 h7)
  obtain ⟨k9, hk9⟩ := List.getElem?_of_mem (hm 2 (.int x) rfl)
  exact lv_iinc cx.1 cx.2.1 hdg h5 hk9 hv hk hr k5
theorem J_iinc3 (cx : jCX p s m args meth c cc own Ω nL) {x v : Int32} {n : Int} {a0 a1 a2 : Option Value} (hdg : decode cc pc = .ok (.iinc 3 n, 3)) (hv : x + Int32.ofInt n = v) (hk : 3 < nL) (ho : jok1 a2 = true)
    (kk : J p l e R s m args below meth c Ω nL Q cells slots sz G (pc + 3) (a0 :: a1 :: a2 :: some (.int v) :: L) (st)) : J p l e R s m args below meth c Ω nL Q cells slots sz G (pc) (a0 :: a1 :: a2 :: some (.int x) :: L) (st) := by
  intro H locs ls h1 h2 h3 h4
  refine j1_use (i := 3) (v := .int v) h4 hk (by simpa [jok] using ho) (fun lv lv' h5 hm hr k5 => ?_) (fun ls' h7 => kk H locs ls' h1 h2 h3 h7)
  obtain ⟨k9, hk9⟩ := List.getElem?_of_mem (hm 3 (.int x) rfl)
  exact lv_iinc cx.1 cx.2.1 hdg h5 hk9 hv hk hr k5
theorem J_iinc4 (cx : jCX p s m args meth c cc own Ω nL) {x v : Int32} {n : Int} {a0 a1 a2 a3 : Option Value} (hdg : decode cc pc = .ok (.iinc 4 n, 3)) (hv : x + Int32.ofInt n = v) (hk : 4 < nL) (ho : jok1 a3 = true)
    (kk : J p l e R s m args below meth c Ω nL Q cells slots sz G (pc + 3) (a0 :: a1 :: a2 :: a3 :: some (.int v) :: L) (st)) : J p l e R s m args below meth c Ω nL Q cells slots sz G (pc) (a0 :: a1 :: a2 :: a3 :: some (.int x) :: L) (st) := by
  intro H locs ls h1 h2 h3 h4
  refine j1_use (i := 4) (v := .int v) h4 hk (by simpa [jok] using ho) (fun lv lv' h5 hm hr k5 => ?_) (fun ls' h7 => kk H locs ls' h1 h2 h3 h7)
  obtain ⟨k9, hk9⟩ := List.getElem?_of_mem (hm 4 (.int x) rfl)
  exact lv_iinc cx.1 cx.2.1 hdg h5 hk9 hv hk hr k5
theorem J_iinc5 (cx : jCX p s m args meth c cc own Ω nL) {x v : Int32} {n : Int} {a0 a1 a2 a3 a4 : Option Value} (hdg : decode cc pc = .ok (.iinc 5 n, 3)) (hv : x + Int32.ofInt n = v) (hk : 5 < nL) (ho : jok1 a4 = true)
    (kk : J p l e R s m args below meth c Ω nL Q cells slots sz G (pc + 3) (a0 :: a1 :: a2 :: a3 :: a4 :: some (.int v) :: L) (st)) : J p l e R s m args below meth c Ω nL Q cells slots sz G (pc) (a0 :: a1 :: a2 :: a3 :: a4 :: some (.int x) :: L) (st) := by
  intro H locs ls h1 h2 h3 h4
  refine j1_use (i := 5) (v := .int v) h4 hk (by simpa [jok] using ho) (fun lv lv' h5 hm hr k5 => ?_) (fun ls' h7 => kk H locs ls' h1 h2 h3 h7)
  obtain ⟨k9, hk9⟩ := List.getElem?_of_mem (hm 5 (.int x) rfl)
  exact lv_iinc cx.1 cx.2.1 hdg h5 hk9 hv hk hr k5
theorem J_iinc6 (cx : jCX p s m args meth c cc own Ω nL) {x v : Int32} {n : Int} {a0 a1 a2 a3 a4 a5 : Option Value} (hdg : decode cc pc = .ok (.iinc 6 n, 3)) (hv : x + Int32.ofInt n = v) (hk : 6 < nL) (ho : jok1 a5 = true)
    (kk : J p l e R s m args below meth c Ω nL Q cells slots sz G (pc + 3) (a0 :: a1 :: a2 :: a3 :: a4 :: a5 :: some (.int v) :: L) (st)) : J p l e R s m args below meth c Ω nL Q cells slots sz G (pc) (a0 :: a1 :: a2 :: a3 :: a4 :: a5 :: some (.int x) :: L) (st) := by
  intro H locs ls h1 h2 h3 h4
  refine j1_use (i := 6) (v := .int v) h4 hk (by simpa [jok] using ho) (fun lv lv' h5 hm hr k5 => ?_) (fun ls' h7 => kk H locs ls' h1 h2 h3 h7)
  obtain ⟨k9, hk9⟩ := List.getElem?_of_mem (hm 6 (.int x) rfl)
  exact lv_iinc cx.1 cx.2.1 hdg h5 hk9 hv hk hr k5
theorem J_iinc7 (cx : jCX p s m args meth c cc own Ω nL) {x v : Int32} {n : Int} {a0 a1 a2 a3 a4 a5 a6 : Option Value} (hdg : decode cc pc = .ok (.iinc 7 n, 3)) (hv : x + Int32.ofInt n = v) (hk : 7 < nL) (ho : jok1 a6 = true)
    (kk : J p l e R s m args below meth c Ω nL Q cells slots sz G (pc + 3) (a0 :: a1 :: a2 :: a3 :: a4 :: a5 :: a6 :: some (.int v) :: L) (st)) : J p l e R s m args below meth c Ω nL Q cells slots sz G (pc) (a0 :: a1 :: a2 :: a3 :: a4 :: a5 :: a6 :: some (.int x) :: L) (st) := by
  intro H locs ls h1 h2 h3 h4
  refine j1_use (i := 7) (v := .int v) h4 hk (by simpa [jok] using ho) (fun lv lv' h5 hm hr k5 => ?_) (fun ls' h7 => kk H locs ls' h1 h2 h3 h7)
  obtain ⟨k9, hk9⟩ := List.getElem?_of_mem (hm 7 (.int x) rfl)
  exact lv_iinc cx.1 cx.2.1 hdg h5 hk9 hv hk hr k5
theorem J_iinc8 (cx : jCX p s m args meth c cc own Ω nL) {x v : Int32} {n : Int} {a0 a1 a2 a3 a4 a5 a6 a7 : Option Value} (hdg : decode cc pc = .ok (.iinc 8 n, 3)) (hv : x + Int32.ofInt n = v) (hk : 8 < nL) (ho : jok1 a7 = true)
    (kk : J p l e R s m args below meth c Ω nL Q cells slots sz G (pc + 3) (a0 :: a1 :: a2 :: a3 :: a4 :: a5 :: a6 :: a7 :: some (.int v) :: L) (st)) : J p l e R s m args below meth c Ω nL Q cells slots sz G (pc) (a0 :: a1 :: a2 :: a3 :: a4 :: a5 :: a6 :: a7 :: some (.int x) :: L) (st) := by
  intro H locs ls h1 h2 h3 h4
  refine j1_use (i := 8) (v := .int v) h4 hk (by simpa [jok] using ho) (fun lv lv' h5 hm hr k5 => ?_) (fun ls' h7 => kk H locs ls' h1 h2 h3 h7)
  obtain ⟨k9, hk9⟩ := List.getElem?_of_mem (hm 8 (.int x) rfl)
  exact lv_iinc cx.1 cx.2.1 hdg h5 hk9 hv hk hr k5
theorem J_iinc9 (cx : jCX p s m args meth c cc own Ω nL) {x v : Int32} {n : Int} {a0 a1 a2 a3 a4 a5 a6 a7 a8 : Option Value} (hdg : decode cc pc = .ok (.iinc 9 n, 3)) (hv : x + Int32.ofInt n = v) (hk : 9 < nL) (ho : jok1 a8 = true)
    (kk : J p l e R s m args below meth c Ω nL Q cells slots sz G (pc + 3) (a0 :: a1 :: a2 :: a3 :: a4 :: a5 :: a6 :: a7 :: a8 :: some (.int v) :: L) (st)) : J p l e R s m args below meth c Ω nL Q cells slots sz G (pc) (a0 :: a1 :: a2 :: a3 :: a4 :: a5 :: a6 :: a7 :: a8 :: some (.int x) :: L) (st) := by
  intro H locs ls h1 h2 h3 h4
  refine j1_use (i := 9) (v := .int v) h4 hk (by simpa [jok] using ho) (fun lv lv' h5 hm hr k5 => ?_) (fun ls' h7 => kk H locs ls' h1 h2 h3 h7)
  obtain ⟨k9, hk9⟩ := List.getElem?_of_mem (hm 9 (.int x) rfl)
  exact lv_iinc cx.1 cx.2.1 hdg h5 hk9 hv hk hr k5
theorem J_iinc10 (cx : jCX p s m args meth c cc own Ω nL) {x v : Int32} {n : Int} {a0 a1 a2 a3 a4 a5 a6 a7 a8 a9 : Option Value} (hdg : decode cc pc = .ok (.iinc 10 n, 3)) (hv : x + Int32.ofInt n = v) (hk : 10 < nL) (ho : jok1 a9 = true)
    (kk : J p l e R s m args below meth c Ω nL Q cells slots sz G (pc + 3) (a0 :: a1 :: a2 :: a3 :: a4 :: a5 :: a6 :: a7 :: a8 :: a9 :: some (.int v) :: L) (st)) : J p l e R s m args below meth c Ω nL Q cells slots sz G (pc) (a0 :: a1 :: a2 :: a3 :: a4 :: a5 :: a6 :: a7 :: a8 :: a9 :: some (.int x) :: L) (st) := by
  intro H locs ls h1 h2 h3 h4
  refine j1_use (i := 10) (v := .int v) h4 hk (by simpa [jok] using ho) (fun lv lv' h5 hm hr k5 => ?_) (fun ls' h7 => kk H locs ls' h1 h2 h3 h7)
  obtain ⟨k9, hk9⟩ := List.getElem?_of_mem (hm 10 (.int x) rfl)
  exact lv_iinc cx.1 cx.2.1 hdg h5 hk9 hv hk hr k5
theorem J_iinc11 (cx : jCX p s m args meth c cc own Ω nL) {x v : Int32} {n : Int} {a0 a1 a2 a3 a4 a5 a6 a7 a8 a9 a10 : Option Value} (hdg : decode cc pc = .ok (.iinc 11 n, 3)) (hv : x + Int32.ofInt n = v) (hk : 11 < nL) (ho : jok1 a10 = true)
    (kk : J p l e R s m args below meth c Ω nL Q cells slots sz G (pc + 3) (a0 :: a1 :: a2 :: a3 :: a4 :: a5 :: a6 :: a7 :: a8 :: a9 :: a10 :: some (.int v) :: L) (st)) : J p l e R s m args below meth c Ω nL Q cells slots sz G (pc) (a0 :: a1 :: a2 :: a3 :: a4 :: a5 :: a6 :: a7 :: a8 :: a9 :: a10 :: some (.int x) :: L) (st) := by
  intro H locs ls h1 h2 h3 h4
  refine j1_use (i := 11) (v := .int v) h4 hk (by simpa [jok] using ho) (fun lv lv' h5 hm hr k5 => ?_) (fun ls' h7 => kk H locs ls' h1 h2 h3 h7)
  obtain ⟨k9, hk9⟩ := List.getElem?_of_mem (hm 11 (.int x) rfl)
  exact lv_iinc cx.1 cx.2.1 hdg h5 hk9 hv hk hr k5
theorem J_iinc12 (cx : jCX p s m args meth c cc own Ω nL) {x v : Int32} {n : Int} {a0 a1 a2 a3 a4 a5 a6 a7 a8 a9 a10 a11 : Option Value} (hdg : decode cc pc = .ok (.iinc 12 n, 3)) (hv : x + Int32.ofInt n = v) (hk : 12 < nL) (ho : jok1 a11 = true)
    (kk : J p l e R s m args below meth c Ω nL Q cells slots sz G (pc + 3) (a0 :: a1 :: a2 :: a3 :: a4 :: a5 :: a6 :: a7 :: a8 :: a9 :: a10 :: a11 :: some (.int v) :: L) (st)) : J p l e R s m args below meth c Ω nL Q cells slots sz G (pc) (a0 :: a1 :: a2 :: a3 :: a4 :: a5 :: a6 :: a7 :: a8 :: a9 :: a10 :: a11 :: some (.int x) :: L) (st) := by
  intro H locs ls h1 h2 h3 h4
  refine j1_use (i := 12) (v := .int v) h4 hk (by simpa [jok] using ho) (fun lv lv' h5 hm hr k5 => ?_) (fun ls' h7 => kk H locs ls' h1 h2 h3 h7)
  obtain ⟨k9, hk9⟩ := List.getElem?_of_mem (hm 12 (.int x) rfl)
  exact lv_iinc cx.1 cx.2.1 hdg h5 hk9 hv hk hr k5
theorem J_iinc13 (cx : jCX p s m args meth c cc own Ω nL) {x v : Int32} {n : Int} {a0 a1 a2 a3 a4 a5 a6 a7 a8 a9 a10 a11 a12 : Option Value} (hdg : decode cc pc = .ok (.iinc 13 n, 3)) (hv : x + Int32.ofInt n = v) (hk : 13 < nL) (ho : jok1 a12 = true)
    (kk : J p l e R s m args below meth c Ω nL Q cells slots sz G (pc + 3) (a0 :: a1 :: a2 :: a3 :: a4 :: a5 :: a6 :: a7 :: a8 :: a9 :: a10 :: a11 :: a12 :: some (.int v) :: L) (st)) : J p l e R s m args below meth c Ω nL Q cells slots sz G (pc) (a0 :: a1 :: a2 :: a3 :: a4 :: a5 :: a6 :: a7 :: a8 :: a9 :: a10 :: a11 :: a12 :: some (.int x) :: L) (st) := by
  intro H locs ls h1 h2 h3 h4
  refine j1_use (i := 13) (v := .int v) h4 hk (by simpa [jok] using ho) (fun lv lv' h5 hm hr k5 => ?_) (fun ls' h7 => kk H locs ls' h1 h2 h3 h7)
  obtain ⟨k9, hk9⟩ := List.getElem?_of_mem (hm 13 (.int x) rfl)
  exact lv_iinc cx.1 cx.2.1 hdg h5 hk9 hv hk hr k5
theorem J_iinc14 (cx : jCX p s m args meth c cc own Ω nL) {x v : Int32} {n : Int} {a0 a1 a2 a3 a4 a5 a6 a7 a8 a9 a10 a11 a12 a13 : Option Value} (hdg : decode cc pc = .ok (.iinc 14 n, 3)) (hv : x + Int32.ofInt n = v) (hk : 14 < nL) (ho : jok1 a13 = true)
    (kk : J p l e R s m args below meth c Ω nL Q cells slots sz G (pc + 3) (a0 :: a1 :: a2 :: a3 :: a4 :: a5 :: a6 :: a7 :: a8 :: a9 :: a10 :: a11 :: a12 :: a13 :: some (.int v) :: L) (st)) : J p l e R s m args below meth c Ω nL Q cells slots sz G (pc) (a0 :: a1 :: a2 :: a3 :: a4 :: a5 :: a6 :: a7 :: a8 :: a9 :: a10 :: a11 :: a12 :: a13 :: some (.int x) :: L) (st) := by
  intro H locs ls h1 h2 h3 h4
  refine j1_use (i := 14) (v := .int v) h4 hk (by simpa [jok] using ho) (fun lv lv' h5 hm hr k5 => ?_) (fun ls' h7 => kk H locs ls' h1 h2 h3 h7)
  obtain ⟨k9, hk9⟩ := List.getElem?_of_mem (hm 14 (.int x) rfl)
  exact lv_iinc cx.1 cx.2.1 hdg h5 hk9 hv hk hr k5
theorem J_iinc15 (cx : jCX p s m args meth c cc own Ω nL) {x v : Int32} {n : Int} {a0 a1 a2 a3 a4 a5 a6 a7 a8 a9 a10 a11 a12 a13 a14 : Option Value} (hdg : decode cc pc = .ok (.iinc 15 n, 3)) (hv : x + Int32.ofInt n = v) (hk : 15 < nL) (ho : jok1 a14 = true)
    (kk : J p l e R s m args below meth c Ω nL Q cells slots sz G (pc + 3) (a0 :: a1 :: a2 :: a3 :: a4 :: a5 :: a6 :: a7 :: a8 :: a9 :: a10 :: a11 :: a12 :: a13 :: a14 :: some (.int v) :: L) (st)) : J p l e R s m args below meth c Ω nL Q cells slots sz G (pc) (a0 :: a1 :: a2 :: a3 :: a4 :: a5 :: a6 :: a7 :: a8 :: a9 :: a10 :: a11 :: a12 :: a13 :: a14 :: some (.int x) :: L) (st) := by
  intro H locs ls h1 h2 h3 h4
  refine j1_use (i := 15) (v := .int v) h4 hk (by simpa [jok] using ho) (fun lv lv' h5 hm hr k5 => ?_) (fun ls' h7 => kk H locs ls' h1 h2 h3 h7)
  obtain ⟨k9, hk9⟩ := List.getElem?_of_mem (hm 15 (.int x) rfl)
  exact lv_iinc cx.1 cx.2.1 hdg h5 hk9 hv hk hr k5
theorem jst_s {v : Value} {a b : List Value} (h : a = b) : v :: a = v :: b := by rw [h]
theorem jst_e {v w : Value} {a b : List Value} (e : v = w) (h : a = b) : v :: a = w :: b := by rw [e, h]
theorem jdec (x : Int32) : x + Int32.ofInt (-1) = x - nI (1) := by rw [Int32.sub_eq_add_neg]; rfl
def jsub : List (Option Value) → List (Option Value) → Prop
  | [], [] => True
  | _ :: L, none :: L1 => jsub L L1
  | a :: L, some v :: L1 => a = some v ∧ jsub L L1
  | _, _ => False
theorem jsub_0 : jsub [] [] := trivial
theorem jsub_n {a : Option Value} {L L1 : List (Option Value)} (h : jsub L L1) : jsub (a :: L) (none :: L1) := by cases a <;> exact h
theorem jsub_s {v : Value} {L L1 : List (Option Value)} (h : jsub L L1) : jsub (some v :: L) (some v :: L1) := ⟨rfl, h⟩
theorem jsub_e {v w : Value} {L L1 : List (Option Value)} (e : v = w) (h : jsub L L1) : jsub (some v :: L) (some w :: L1) := ⟨by rw [e], h⟩
theorem jsub_at : ∀ {L L1 : List (Option Value)}, jsub L L1 → L.length = L1.length ∧ ∀ (i : Nat) (v : Value), L1[i]? = some (some v) → L[i]? = some (some v)
  | [], [], _ => ⟨rfl, fun i v h => h⟩
  | a :: L, none :: L1, h => by
    have h : jsub L L1 := by cases a <;> exact h
    obtain ⟨h1, h2⟩ := jsub_at h
    refine ⟨by simp [h1], fun i v hi => ?_⟩
    cases i with
    | zero => simp at hi
    | succ i => simpa using h2 i v (by simpa using hi)
  | a :: L, some w :: L1, h => by
    obtain ⟨h0, h⟩ := h
    obtain ⟨h1, h2⟩ := jsub_at h
    refine ⟨by simp [h1], fun i v hi => ?_⟩
    cases i with
    | zero => simp at hi; subst hi; simp [h0]
    | succ i => simpa using h2 i v (by simpa using hi)
  | [], _ :: _, h => by simp [jsub] at h
  | _ :: _, [], h => by simp [jsub] at h
theorem J_sub {L1 : List (Option Value)} (h : jsub L L1) (kk : J p l e R s m args below meth c Ω nL Q cells slots sz G pc L1 st) : J p l e R s m args below meth c Ω nL Q cells slots sz G pc L st := fun H locs ls h1 h2 h3 h4 =>
  kk H locs ls h1 h2 h3 ⟨h4.1, h4.2.1, (jsub_at h).1 ▸ h4.2.2.1, fun i v hi => h4.2.2.2 i v ((jsub_at h).2 i v hi)⟩
theorem jone {D : va_G} {q : Nat × va_E} {H : Heap} (h : va_at D vwCl q H) : va_P D vwCl [q] H := by
  intro k x hk
  match k, hk with
  | 0, hk => cases hk; exact h
  | k + 1, hk => simp at hk
theorem jGR.set {D : va_G} {G : Mem} {H H1 : Heap} {a : Nat} {x : va_E} (h : jGR D G H) (he : va_at D vwCl (a, x) H1) (oq : ∀ q : Nat, q ≠ a → H1[q]? = H[q]?) (hm : jFr a x H1 := by exact True.intro) : jGR D (gset G a x) H1 := by
  intro q y hq
  by_cases e : q = a
  · subst e
    rw [gset_eq] at hq
    cases hq
    exact ⟨he, hm⟩
  · rw [gset_ne e] at hq
    exact ⟨(h q y hq).1.kept (oq q e), (h q y hq).2.kept (oq q e)⟩
theorem jGR.push {D : va_G} {G : Mem} {H H1 : Heap} {a : Nat} {x : va_E} (h : jGR D G H) (ha : H.size = a) (he : va_at D vwCl (a, x) H1) (oq : ∀ q : Nat, q < a → H1[q]? = H[q]?) (hm : jFr a x H1 := by exact True.intro) : jGR D (gset G a x) H1 := by
  intro q y hq
  by_cases e : q = a
  · subst e
    rw [gset_eq] at hq
    cases hq
    exact ⟨he, hm⟩
  · rw [gset_ne e] at hq
    have hl : q < a := by rw [← ha]; exact (h q y hq).1.lt
    exact ⟨(h q y hq).1.kept (oq q hl), (h q y hq).2.kept (oq q hl)⟩
theorem jCX.K (cx : jCX p s m args meth c cc own Ω nL) : va_K Ω.1 vwCl (jTy Ω.2.1) s := cx.2.2.2.2.2.1.1
theorem jCX.ts (cx : jCX p s m args meth c cc own Ω nL) : ∀ w ∈ lw_all, w.before args s = true := cx.2.2.2.2.1
theorem jCX.ow (cx : jCX p s m args meth c cc own Ω nL) : s.vm.findClass own = some m.cls := cx.2.2.2.1
theorem jCX.kw (cx : jCX p s m args meth c cc own Ω nL) : jKw Ω s := cx.2.2.2.2.2.1
theorem jCX.bs (cx : jCX p s m args meth c cc own Ω nL) : Ω.2.2.2 ≤ s.heap.size := cx.2.2.2.2.2.2.1
theorem jCX.lk (cx : jCX p s m args meth c cc own Ω nL) : meth.locks = false := cx.2.2.2.2.2.2.2.1
theorem jCX.sta (cx : jCX p s m args meth c cc own Ω nL) : jSt Ω s s.heap := cx.2.2.2.2.2.2.2.2
theorem jCX.nest (cx : jCX p s m args meth c cc own Ω nL) {w : Cond} (h : w ∈ lw_tbl) (hk : jwk w = true) : va_Nw w s := cx.kw.2.1 w h hk
theorem jCX.stH (cx : jCX p s m args meth c cc own Ω nL) {H : Heap} {locs : List Loc} (hS : va_S (jB Ω) s.heap H locs) : jSt Ω s H := cx.sta.kept hS.2.1
theorem J_get (cx : jCX p s m args meth c cc own Ω nL) {C ref : String} {T : u_T} {N ci index : Nat} (hin : ∀ w ∈ u_ws C T N, w ∈ lw_all) (hc : vwCl[ci]? = some (C, T, N)) (k : Nat) (hk : k < N) (hlink : Cond.fieldLink own index ref (T k).2.1 (T k).2.2.1 ∈ lw_all) (hsame : ∀ x, s.fieldFound? (T k).1 (T k).2.1 (T k).2.2.1 = some x → s.fieldFound? ref (T k).2.1 (T k).2.2.1 = some x) {a : Nat} {fs : List Value} {v : Value} (hdg : decode cc pc = .ok (.getfield index, 3)) (ha : G a = some (.inr (ci, fs))) (hv : fs[k]? = some v)
    (kk : J p l e R s m args below meth c Ω nL Q cells slots sz G (pc + 3) L (v :: st)) : J p l e R s m args below meth c Ω nL Q cells slots sz G pc L (.ref a :: st) := fun H locs ls h1 h2 h3 h4 =>
  va_get cx.1 cx.2.1 cx.ts hin cx.ow cx.K (jone (h2 _ _ ha).1) 0 rfl hc k hk (cx.ts _ hlink) hsame hv hdg (kk H locs ls h1 h2 h3 h4)
theorem J_getN (cx : jCX p s m args meth c cc own Ω nL) {C ref host : String} {T : u_T} {N ci index : Nat} (hin : ∀ w ∈ u_ws C T N, w ∈ lw_all) (hc : vwCl[ci]? = some (C, T, N)) (k : Nat) (hk : k < N) (hlink : Cond.fieldLinkNest own index ref (T k).2.1 (T k).2.2.1 host ∈ lw_tbl) (hsame : ∀ x, s.fieldFound? (T k).1 (T k).2.1 (T k).2.2.1 = some x → s.fieldFound? ref (T k).2.1 (T k).2.2.1 = some x) {a : Nat} {fs : List Value} {v : Value} (hdg : decode cc pc = .ok (.getfield index, 3)) (ha : G a = some (.inr (ci, fs))) (hv : fs[k]? = some v)
    (kk : J p l e R s m args below meth c Ω nL Q cells slots sz G (pc + 3) L (v :: st)) : J p l e R s m args below meth c Ω nL Q cells slots sz G pc L (.ref a :: st) := fun H locs ls h1 h2 h3 h4 =>
  va_getN cx.1 cx.2.1 cx.ts hin cx.ow cx.K (jone (h2 _ _ ha).1) 0 rfl hc k hk (va_Nw.use rfl (cx.nest hlink rfl)) hsame hv hdg (kk H locs ls h1 h2 h3 h4)
theorem jap {own C : String} {T : u_T} {N ci : Nat} (cx : jCX p s m args meth c cc own Ω nL) (hin : ∀ w ∈ u_ws C T N, w ∈ lw_all) (ty : Nat → FieldType) (hty : ∀ k, k < N → parseFieldDescriptor (T k).2.2.1 = some (ty k)) (hnm : ∀ a, a < N → ∀ b, b < N → a ≠ b → (T a).2.1 ≠ (T b).2.1) (hc : vwCl[ci]? = some (C, T, N)) : ∀ x y, x < N → y < N → x ≠ y → (Ω.1.2 ci) x ≠ (Ω.1.2 ci) y :=
  va_apart (own := own) cx.ts hin ty hty hnm cx.K hc
theorem J_put (cx : jCX p s m args meth c cc own Ω nL) {C ref : String} {T : u_T} {N ci index : Nat} (hin : ∀ w ∈ u_ws C T N, w ∈ lw_all) (ty0 : Nat → FieldType) (hty : ∀ k, k < N → parseFieldDescriptor (T k).2.2.1 = some (ty0 k)) (hnm : ∀ a, a < N → ∀ b, b < N → a ≠ b → (T a).2.1 ≠ (T b).2.1) (hc : vwCl[ci]? = some (C, T, N)) (k : Nat) (hk : k < N) (hlink : Cond.fieldLink own index ref (T k).2.1 (T k).2.2.1 ∈ lw_all) (hsame : ∀ x, s.fieldFound? (T k).1 (T k).2.1 (T k).2.2.1 = some x → s.fieldFound? ref (T k).2.1 (T k).2.2.1 = some x) (hfin : (T k).2.2.2 = false) {ty : FieldType} (hd : parseFieldDescriptor (T k).2.2.1 = some ty) {a : Nat} {fs : List Value} {v : Value} (hdg : decode cc pc = .ok (.putfield index, 3)) (hn : narrow ty v = v) (hfit : fits ty v = true) (ha : G a = some (.inr (ci, fs))) (hl : k < fs.length) (hb9 : Ω.2.2.2 ≤ a)
    (kk : J p l e R s m args below meth c Ω nL Q cells slots sz (gset G a (.inr (ci, fs.set k v))) (pc + 3) L st) : J p l e R s m args below meth c Ω nL Q cells slots sz G pc L (v :: .ref a :: st) := by
  intro H locs ls g1 g2 g3 g4
  have hap := jap cx hin ty0 hty hnm hc
  obtain ⟨r, h1, cell, q1, q2, q3, q4⟩ := (g2 _ _ ha).1
  have hr : r = (C, T, N) := Option.some.inj (h1.symm.trans hc)
  subst hr
  obtain ⟨hS, hfc, kC, hkC, hkind⟩ := cx.K.1 ci _ hc
  obtain ⟨cf, kf, fi, f, hi, hsl⟩ := hS k hk
  have hlay := cx.ts _ (hin _ (u_in_lay hk))
  unfold u_lay at hlay
  rw [if_neg (by rw [hfin]; decide)] at hlay
  have hst := (u_facts hfc hkC (u_lays cx.ts hin hk) hi).1
  have h6 := u_store hfc hkC hkind hlay hi hd hn hfit
  refine W.putK cx.1 cx.2.1 (f := f) ⟨cx.ow, cx.ts _ hlink, ⟨_, _, _, hsame _ hi⟩, hst⟩ (by rw [q2]; exact h6) q1 q3 (by rw [hsl]; exact k2_hasslot (q4 k hk)) rfl rfl hdg fun H' e1 e2 e3 => ?_
  rw [hsl] at e1 ⊢
  exact kk H' _ ls (e2.trans g1) (g2.set ⟨_, hc, t_OB.to (V := updV (vp_V fs) k v) ⟨_, e1, q2, q3, t_set q4 hap hk v⟩ (fun j _ => vp_updV_set hl v j)⟩ e3 (fun c8 h8 => by rw [e1] at h8; cases h8; exact (g2 _ _ ha).2 cell q1)) (g3.put e2 e3 hb9) g4
theorem J_putN (cx : jCX p s m args meth c cc own Ω nL) {C ref host : String} {T : u_T} {N ci index : Nat} (hin : ∀ w ∈ u_ws C T N, w ∈ lw_all) (ty0 : Nat → FieldType) (hty : ∀ k, k < N → parseFieldDescriptor (T k).2.2.1 = some (ty0 k)) (hnm : ∀ a, a < N → ∀ b, b < N → a ≠ b → (T a).2.1 ≠ (T b).2.1) (hc : vwCl[ci]? = some (C, T, N)) (k : Nat) (hk : k < N) (hlink : Cond.fieldLinkNest own index ref (T k).2.1 (T k).2.2.1 host ∈ lw_tbl) (hsame : ∀ x, s.fieldFound? (T k).1 (T k).2.1 (T k).2.2.1 = some x → s.fieldFound? ref (T k).2.1 (T k).2.2.1 = some x) (hfin : (T k).2.2.2 = false) {ty : FieldType} (hd : parseFieldDescriptor (T k).2.2.1 = some ty) {a : Nat} {fs : List Value} {v : Value} (hdg : decode cc pc = .ok (.putfield index, 3)) (hn : narrow ty v = v) (hfit : fits ty v = true) (ha : G a = some (.inr (ci, fs))) (hl : k < fs.length) (hb9 : Ω.2.2.2 ≤ a)
    (kk : J p l e R s m args below meth c Ω nL Q cells slots sz (gset G a (.inr (ci, fs.set k v))) (pc + 3) L st) : J p l e R s m args below meth c Ω nL Q cells slots sz G pc L (v :: .ref a :: st) := by
  intro H locs ls g1 g2 g3 g4
  have hap := jap cx hin ty0 hty hnm hc
  obtain ⟨r, h1, cell, q1, q2, q3, q4⟩ := (g2 _ _ ha).1
  have hr : r = (C, T, N) := Option.some.inj (h1.symm.trans hc)
  subst hr
  obtain ⟨hS, hfc, kC, hkC, hkind⟩ := cx.K.1 ci _ hc
  obtain ⟨cf, kf, fi, f, hi, hsl⟩ := hS k hk
  have hlay := cx.ts _ (hin _ (u_in_lay hk))
  unfold u_lay at hlay
  rw [if_neg (by rw [hfin]; decide)] at hlay
  have hst := (u_facts hfc hkC (u_lays cx.ts hin hk) hi).1
  have h6 := u_store hfc hkC hkind hlay hi hd hn hfit
  refine va_WputK cx.1 cx.2.1 (f := f) cx.ow (va_Nw.use rfl (cx.nest hlink rfl)) (hsame _ hi) hst (by rw [q2]; exact h6) q1 q3 (by rw [hsl]; exact k2_hasslot (q4 k hk)) rfl rfl hdg fun H' e1 e2 e3 => ?_
  rw [hsl] at e1 ⊢
  exact kk H' _ ls (e2.trans g1) (g2.set ⟨_, hc, t_OB.to (V := updV (vp_V fs) k v) ⟨_, e1, q2, q3, t_set q4 hap hk v⟩ (fun j _ => vp_updV_set hl v j)⟩ e3 (fun c8 h8 => by rw [e1] at h8; cases h8; exact (g2 _ _ ha).2 cell q1)) (g3.put e2 e3 hb9) g4
/-- a final field, in its class's constructor -/
theorem J_putF (cx : jCX p s m args meth c cc own Ω nL) {C ref : String} {T : u_T} {N ci index : Nat} (hin : ∀ w ∈ u_ws C T N, w ∈ lw_all) (ty0 : Nat → FieldType) (hty : ∀ k, k < N → parseFieldDescriptor (T k).2.2.1 = some (ty0 k)) (hnm : ∀ a, a < N → ∀ b, b < N → a ≠ b → (T a).2.1 ≠ (T b).2.1) (hc : vwCl[ci]? = some (C, T, N)) (k : Nat) (hk : k < N) (hlink : Cond.fieldLink own index ref (T k).2.1 (T k).2.2.1 ∈ lw_all) (hsame : ∀ x, s.fieldFound? (T k).1 (T k).2.1 (T k).2.2.1 = some x → s.fieldFound? ref (T k).2.1 (T k).2.2.1 = some x) (hfin : (T k).2.2.2 = true) (hdecl : (T k).1 = own) (hin2 : meth.name = "<init>") {ty : FieldType} (hd : parseFieldDescriptor (T k).2.2.1 = some ty) {a : Nat} {fs : List Value} {v : Value} (hdg : decode cc pc = .ok (.putfield index, 3)) (hn : narrow ty v = v) (hfit : fits ty v = true) (ha : G a = some (.inr (ci, fs))) (hl : k < fs.length) (hb9 : Ω.2.2.2 ≤ a)
    (kk : J p l e R s m args below meth c Ω nL Q cells slots sz (gset G a (.inr (ci, fs.set k v))) (pc + 3) L st) : J p l e R s m args below meth c Ω nL Q cells slots sz G pc L (v :: .ref a :: st) := by
  intro H locs ls g1 g2 g3 g4
  have hap := jap cx hin ty0 hty hnm hc
  obtain ⟨r, h1, cell, q1, q2, q3, q4⟩ := (g2 _ _ ha).1
  have hr : r = (C, T, N) := Option.some.inj (h1.symm.trans hc)
  subst hr
  obtain ⟨hS, hfc, kC, hkC, hkind⟩ := cx.K.1 ci _ hc
  obtain ⟨cf, kf, fi, f, hi, hsl⟩ := hS k hk
  have hlay := cx.ts _ (hin _ (u_in_lay hk))
  unfold u_lay at hlay
  rw [if_pos hfin] at hlay
  have hst := (u_facts hfc hkC (u_lays cx.ts hin hk) hi).1
  have hcf : m.cls = cf := by
    obtain ⟨_, _, c', _, _, _, -, -, hf', -, -, -, hown2, -⟩ := Cond.laysFinal_spec hlay
    have e1 : c' = cf := by have := hi.symm.trans hf'; simp at this; exact this.1.symm
    rw [hdecl] at hown2
    rw [← e1]; exact Option.some.inj (cx.ow.symm.trans hown2)
  have h6 := u_fits hfc hkC hkind (Or.inr hlay) hi hd hn hfit
  refine W.putFinK cx.1 cx.2.1 cx.ow (cx.ts _ hlink) (hsame _ hi) hst hcf hin2 (by rw [q2]; exact h6) q1 q3 (by rw [hsl]; exact k2_hasslot (q4 k hk)) rfl rfl hdg fun H' e1 e2 e3 => ?_
  rw [hsl] at e1 ⊢
  exact kk H' _ ls (e2.trans g1) (g2.set ⟨_, hc, t_OB.to (V := updV (vp_V fs) k v) ⟨_, e1, q2, q3, t_set q4 hap hk v⟩ (fun j _ => vp_updV_set hl v j)⟩ e3 (fun c8 h8 => by rw [e1] at h8; cases h8; exact (g2 _ _ ha).2 cell q1)) (g3.put e2 e3 hb9) g4
-- arrays of whole numbers
theorem jin {i : Int32} {k n : Nat} (hi : i = nI k) (hk : k < n) (hn : n < 2147483648) : vp_in i n ∧ i.toNatClampNeg = k := by
  subst hi
  exact ⟨vp_in_nI hk hn, nI_clamp (Nat.lt_trans hk hn)⟩
theorem J_iald (cx : jCX p s m args meth c cc own Ω nL) {a n k : Nat} {f : Nat → Int32} (hdg : decode cc pc = .ok (.iaload, 1)) (ha : G a = some (.inl (Ω.2.1 0, n, .inl f))) (hk : k < n) (hn : n < 2147483648)
    (kk : J p l e R s m args below meth c Ω nL Q cells slots sz G (pc + 1) L (.int (f k) :: st)) : J p l e R s m args below meth c Ω nL Q cells slots sz G pc L (.int (nI k) :: .ref a :: st) := fun H locs ls h1 h2 h3 h4 =>
  va_iald cx.1 cx.2.1 cx.K (jone (h2 _ _ ha).1) 0 0 rfl rfl (jin rfl hk hn).1 hdg (by rw [(jin rfl hk hn).2]; exact kk H locs ls h1 h2 h3 h4)
theorem J_bald (cx : jCX p s m args meth c cc own Ω nL) {a n k : Nat} {f : Nat → Int32} (hdg : decode cc pc = .ok (.baload, 1)) (ha : G a = some (.inl (Ω.2.1 1, n, .inl f))) (hk : k < n) (hn : n < 2147483648)
    (kk : J p l e R s m args below meth c Ω nL Q cells slots sz G (pc + 1) L (.int (f k) :: st)) : J p l e R s m args below meth c Ω nL Q cells slots sz G pc L (.int (nI k) :: .ref a :: st) := fun H locs ls h1 h2 h3 h4 =>
  va_bald cx.1 cx.2.1 cx.K (jone (h2 _ _ ha).1) 0 1 rfl rfl (jin rfl hk hn).1 hdg (by rw [(jin rfl hk hn).2]; exact kk H locs ls h1 h2 h3 h4)
theorem J_cald (cx : jCX p s m args meth c cc own Ω nL) {a n k : Nat} {f : Nat → Int32} (hdg : decode cc pc = .ok (.caload, 1)) (ha : G a = some (.inl (Ω.2.1 2, n, .inl f))) (hk : k < n) (hn : n < 2147483648)
    (kk : J p l e R s m args below meth c Ω nL Q cells slots sz G (pc + 1) L (.int (f k) :: st)) : J p l e R s m args below meth c Ω nL Q cells slots sz G pc L (.int (nI k) :: .ref a :: st) := fun H locs ls h1 h2 h3 h4 =>
  va_cald cx.1 cx.2.1 cx.K (jone (h2 _ _ ha).1) 0 2 rfl rfl (jin rfl hk hn).1 hdg (by rw [(jin rfl hk hn).2]; exact kk H locs ls h1 h2 h3 h4)
theorem J_lald (cx : jCX p s m args meth c cc own Ω nL) {a n k : Nat} {f : Nat → Int64} (hdg : decode cc pc = .ok (.laload, 1)) (ha : G a = some (.inl (Ω.2.1 3, n, .inr (.inl f)))) (hk : k < n) (hn : n < 2147483648)
    (kk : J p l e R s m args below meth c Ω nL Q cells slots sz G (pc + 1) L (.long (f k) :: st)) : J p l e R s m args below meth c Ω nL Q cells slots sz G pc L (.int (nI k) :: .ref a :: st) := fun H locs ls h1 h2 h3 h4 =>
  va_lald cx.1 cx.2.1 cx.K (jone (h2 _ _ ha).1) 0 3 rfl rfl (jin rfl hk hn).1 hdg (by rw [(jin rfl hk hn).2]; exact kk H locs ls h1 h2 h3 h4)
theorem J_iast (cx : jCX p s m args meth c cc own Ω nL) {a n k : Nat} {f : Nat → Int32} {x : Int32} (hdg : decode cc pc = .ok (.iastore, 1)) (ha : G a = some (.inl (Ω.2.1 0, n, .inl f))) (hk : k < n) (hn : n < 2147483648) (hb9 : Ω.2.2.2 ≤ a)
    (kk : J p l e R s m args below meth c Ω nL Q cells slots sz (gset G a (.inl (Ω.2.1 0, n, .inl (upd f k x)))) (pc + 1) L st) : J p l e R s m args below meth c Ω nL Q cells slots sz G pc L (.int x :: .int (nI k) :: .ref a :: st) := by
  intro H locs ls g1 g2 g3 g4
  refine W.iast cx.1 cx.2.1 (g2 _ _ ha).1 ((cx.K.2 0 _ rfl).1 n (fun j => .int (f j))) (fun q => by cases q) (by show ¬ (_ < 0 ∨ (arrV _ _ _).slots.size ≤ _); rw [arrV_size]; exact (jin rfl hk hn).1) rfl rfl hdg fun H1 e z oq => ?_
  rw [(jin rfl hk hn).2] at e ⊢
  refine kk H1 _ ls (z.trans g1) (g2.set ?_ oq) (g3.put z oq hb9) g4
  show H1[a]? = some (vp_cell _ _)
  rw [e]
  rw [vp_cell_i, vp_cell_i, arrV_store]
  congr 2
  funext q
  by_cases hq : q = k
  · subst hq
    simp [updV, upd]
  · simp [updV, upd, hq]
theorem J_bast (cx : jCX p s m args meth c cc own Ω nL) {a n k : Nat} {f : Nat → Int32} {x : Int32} (hdg : decode cc pc = .ok (.bastore, 1)) (ha : G a = some (.inl (Ω.2.1 1, n, .inl f))) (hk : k < n) (hn : n < 2147483648) (hb9 : Ω.2.2.2 ≤ a)
    (kk : J p l e R s m args below meth c Ω nL Q cells slots sz (gset G a (.inl (Ω.2.1 1, n, .inl (upd f k (vp_nar .byte x))))) (pc + 1) L st) : J p l e R s m args below meth c Ω nL Q cells slots sz G pc L (.int x :: .int (nI k) :: .ref a :: st) := by
  intro H locs ls g1 g2 g3 g4
  refine W.bast cx.1 cx.2.1 (g2 _ _ ha).1 ((cx.K.2 1 _ rfl).1 n (fun j => .int (f j))) (fun q => by cases q) (by show ¬ (_ < 0 ∨ (arrV _ _ _).slots.size ≤ _); rw [arrV_size]; exact (jin rfl hk hn).1) rfl rfl hdg fun H1 e z oq => ?_
  rw [(jin rfl hk hn).2] at e ⊢
  refine kk H1 _ ls (z.trans g1) (g2.set ?_ oq) (g3.put z oq hb9) g4
  show H1[a]? = some (vp_cell _ _)
  rw [e]
  rw [vp_cell_i, vp_cell_i, arrV_store]
  congr 2
  funext q
  by_cases hq : q = k
  · subst hq
    simp [updV, upd, vp_nar]
    try rfl
  · simp [updV, upd, hq]
theorem J_cast (cx : jCX p s m args meth c cc own Ω nL) {a n k : Nat} {f : Nat → Int32} {x : Int32} (hdg : decode cc pc = .ok (.castore, 1)) (ha : G a = some (.inl (Ω.2.1 2, n, .inl f))) (hk : k < n) (hn : n < 2147483648) (hb9 : Ω.2.2.2 ≤ a)
    (kk : J p l e R s m args below meth c Ω nL Q cells slots sz (gset G a (.inl (Ω.2.1 2, n, .inl (upd f k (vp_nar .char x))))) (pc + 1) L st) : J p l e R s m args below meth c Ω nL Q cells slots sz G pc L (.int x :: .int (nI k) :: .ref a :: st) := by
  intro H locs ls g1 g2 g3 g4
  refine W.cast cx.1 cx.2.1 (g2 _ _ ha).1 ((cx.K.2 2 _ rfl).1 n (fun j => .int (f j))) (fun q => by cases q) (by show ¬ (_ < 0 ∨ (arrV _ _ _).slots.size ≤ _); rw [arrV_size]; exact (jin rfl hk hn).1) rfl rfl hdg fun H1 e z oq => ?_
  rw [(jin rfl hk hn).2] at e ⊢
  refine kk H1 _ ls (z.trans g1) (g2.set ?_ oq) (g3.put z oq hb9) g4
  show H1[a]? = some (vp_cell _ _)
  rw [e]
  rw [vp_cell_i, vp_cell_i, arrV_store]
  congr 2
  funext q
  by_cases hq : q = k
  · subst hq
    simp [updV, upd, vp_nar]
    try rfl
  · simp [updV, upd, hq]
theorem J_last (cx : jCX p s m args meth c cc own Ω nL) {a n k : Nat} {f : Nat → Int64} {x : Int64} (hdg : decode cc pc = .ok (.lastore, 1)) (ha : G a = some (.inl (Ω.2.1 3, n, .inr (.inl f)))) (hk : k < n) (hn : n < 2147483648) (hb9 : Ω.2.2.2 ≤ a)
    (kk : J p l e R s m args below meth c Ω nL Q cells slots sz (gset G a (.inl (Ω.2.1 3, n, .inr (.inl (vp_updL f k x))))) (pc + 1) L st) : J p l e R s m args below meth c Ω nL Q cells slots sz G pc L (.long x :: .int (nI k) :: .ref a :: st) := by
  intro H locs ls g1 g2 g3 g4
  refine W.last cx.1 cx.2.1 (g2 _ _ ha).1 ((cx.K.2 3 _ rfl).1 n (fun j => .long (f j))) (fun q => by cases q) (by show ¬ (_ < 0 ∨ (arrV _ _ _).slots.size ≤ _); rw [arrV_size]; exact (jin rfl hk hn).1) rfl rfl hdg fun H1 e z oq => ?_
  rw [(jin rfl hk hn).2] at e ⊢
  refine kk H1 _ ls (z.trans g1) (g2.set ?_ oq) (g3.put z oq hb9) g4
  show H1[a]? = some (vp_cell _ _)
  rw [e]
  rw [vp_cell_l, vp_cell_l, arrV_store]
  congr 2
  funext q
  by_cases hq : q = k
  · subst hq
    simp [updV, vp_updL]
  · simp [updV, vp_updL, hq]
theorem J_alen (cx : jCX p s m args meth c cc own Ω nL) (t0 : Nat) {a : Nat} {x : vp_A} {cA : ClassId} {ty : FieldType} (hdg : decode cc pc = .ok (.arraylength, 1)) (ht : (jTy Ω.2.1)[t0]? = some (cA, ty)) (ha : G a = some (.inl (cA, x)))
    (kk : J p l e R s m args below meth c Ω nL Q cells slots sz G (pc + 1) L (.int (nI x.1) :: st)) : J p l e R s m args below meth c Ω nL Q cells slots sz G pc L (.ref a :: st) := fun H locs ls h1 h2 h3 h4 =>
  va_alen cx.1 cx.2.1 cx.K (jone (h2 _ _ ha).1) 0 t0 rfl ht rfl hdg (kk H locs ls h1 h2 h3 h4)
theorem J_new (cx : jCX p s m args meth c cc own Ω nL) {C : String} {T : u_T} {N ci index : Nat} (hin : ∀ w ∈ u_ws C T N, w ∈ lw_all) (ty : Nat → FieldType) (hty : ∀ k, k < N → parseFieldDescriptor (T k).2.2.1 = some (ty k)) (hcl : Cond.classLink own index C ∈ lw_all) (hinst : Cond.instantiable C N ∈ lw_all) (hini : Cond.initialized C ∈ lw_all) (hc : vwCl[ci]? = some (C, T, N)) {fs : List Value} (hfs : ∀ j, j < N → defaultValue (ty j) = vp_V fs j) (hdg : decode cc pc = .ok (.new index, 3)) (hcells : cells + 1 ≤ R.cells) (hslots : slots + N ≤ R.slots)
    (kk : J p l e R s m args below meth c Ω nL Q (cells + 1) (slots + N) (sz + 1) (gset G sz (.inr (ci, fs))) (pc + 3) L (.ref sz :: st)) : J p l e R s m args below meth c Ω nL Q cells slots sz G pc L st := by
  intro H locs ls g1 g2 g3 g4
  have hKn := cx.K.1 ci _ hc
  refine W.newcK cx.1 cx.2.1 cx.ow (cx.ts _ hcl) (cx.ts _ hinst) (cx.ts _ hini) rfl hdg hcells hslots hKn.2.1 g1 fun H1 kC hkC e1 z1 o1 => ?_
  refine kk H1 locs ls z1 (g2.push g1 ⟨_, hc, (u_born ty cx.ts hin hKn hkC e1 hty).to hfs⟩ o1 (fun c8 h8 => by rw [e1] at h8; cases h8; exact ⟨rfl, rfl⟩)) ⟨Nat.le_trans g3.1 (by omega), fun x h1 h2 => (o1 x (Nat.lt_of_lt_of_le h1 (by rw [← g1]; exact g3.1))).trans (g3.2.1 x h1 h2), g3.2.2⟩ g4
theorem J_newa (cx : jCX p s m args meth c cc own Ω nL) {atype : ArrayType} (ty : FieldType) (hty : newarray.typeOf atype = ty) (t0 : Nat) {cA : ClassId} (harr : Cond.arrayClass ty ∈ lw_all) (ht : (jTy Ω.2.1)[t0]? = some (cA, ty)) (hra : va_RA s cA ty = (s.vm.findClass ("[" ++ ty.toString) = some cA)) (a0 : vp_A) {N' : Nat} (hdg : decode cc pc = .ok (.newarray atype, 2)) (ha : ∀ cA : ClassId, vp_cell cA a0 = arrV cA N' (fun _ => defaultValue ty)) (hN : N' < 2147483648) (hbytes : N' * componentBytes ty ≤ 536870912) (hcells : cells + 1 ≤ R.cells) (hslots : slots + N' ≤ R.slots)
    (kk : J p l e R s m args below meth c Ω nL Q (cells + 1) (slots + N') (sz + 1) (gset G sz (.inl (cA, a0))) (pc + 2) L (.ref sz :: st)) : J p l e R s m args below meth c Ω nL Q cells slots sz G pc L (.int (nI N') :: st) := by
  subst hty
  intro H locs ls g1 g2 g3 g4
  refine va_newaK cx.1 cx.2.1 (cx.ts _ harr) rfl hdg rfl (nI_pos hN) (nI_clamp hN) hbytes hcells hslots g1 fun H1 cA' e1 z1 o1 hAr hNm => ?_
  have hx : va_RA s cA (newarray.typeOf atype) := (cx.K.2 t0 _ ht).2
  rw [hra] at hx
  have hcA : cA' = cA := Option.some.inj (hNm.symm.trans hx)
  subst hcA
  refine kk H1 locs ls z1 (g2.push g1 (show H1[sz]? = some (vp_cell _ _) by rw [ha]; exact e1) o1) ⟨Nat.le_trans g3.1 (by omega), fun x h1 h2 => (o1 x (Nat.lt_of_lt_of_le h1 (by rw [← g1]; exact g3.1))).trans (g3.2.1 x h1 h2), g3.2.2⟩ g4
/-- java.lang.Object's constructor -/
theorem J_objInit (cx : jCX p s m args meth c cc own Ω nL) {idx a : Nat} (hdg : decode cc pc = .ok (.invokespecial idx, 3)) (hlink : Cond.methodLink own idx Lib.objectInit ∈ lw_all) (hinst : Cond.instanceMethod Lib.objectInit ∈ lw_all) (hcode : Cond.code Lib.objectInit ⟨#[0xb1]⟩ 1 none ∈ lw_all) (hframes : 1 ≤ R.frames) (hlocals : (st.map fun v => v.category).sum + 12 ≤ R.locals)
    (kk : J p l e R s m args below meth c Ω nL Q cells slots sz G (pc + 3) L st) : J p l e R s m args below meth c Ω nL Q cells slots sz G pc L (.ref a :: st) := fun H locs ls h1 h2 h3 h4 =>
  W.objInit cx.1 cx.2.1 cx.ow (cx.ts _ hlink) (cx.ts _ hinst) (cx.ts _ hcode) rfl (by rw [cx.2.2.1]; exact h4.1) rfl hdg hframes (by show 2 * 0 + _ + 12 ≤ _; omega) (kk H locs ls h1 h2 h3 h4)
theorem J_ldcf (cx : jCX p s m args meth c cc own Ω nL) {index : Nat} {v : UInt32} (hdg : decode cc pc = .ok (.ldc index, 2)) (hconst : Cond.constantFloat own index v ∈ lw_all) (kk : J p l e R s m args below meth c Ω nL Q cells slots sz G (pc + 2) L (.float v :: st)) : J p l e R s m args below meth c Ω nL Q cells slots sz G pc L st := fun H locs ls h1 h2 h3 h4 =>
  lv_ldcf cx.1 cx.2.1 cx.ow (cx.ts _ hconst) hdg (kk H locs ls h1 h2 h3 h4)
theorem J_ldc (cx : jCX p s m args meth c cc own Ω nL) {index : Nat} {v : Int32} (hdg : decode cc pc = .ok (.ldc index, 2)) (hconst : Cond.constant own index v ∈ lw_all) (kk : J p l e R s m args below meth c Ω nL Q cells slots sz G (pc + 2) L (.int v :: st)) : J p l e R s m args below meth c Ω nL Q cells slots sz G pc L st := fun H locs ls h1 h2 h3 h4 =>
  lv_ldc cx.1 cx.2.1 cx.ow (cx.ts _ hconst) hdg (kk H locs ls h1 h2 h3 h4)
theorem J_ldc2 (cx : jCX p s m args meth c cc own Ω nL) {index : Nat} {v : Int64} (hdg : decode cc pc = .ok (.ldc2_w index, 3)) (hconst : Cond.constantLong own index v ∈ lw_all) (kk : J p l e R s m args below meth c Ω nL Q cells slots sz G (pc + 3) L (.long v :: st)) : J p l e R s m args below meth c Ω nL Q cells slots sz G pc L st := fun H locs ls h1 h2 h3 h4 =>
  lv_ldc2 cx.1 cx.2.1 cx.ow (cx.ts _ hconst) hdg (kk H locs ls h1 h2 h3 h4)
theorem J_i2fb (cx : jCX p s m args meth c cc own Ω nL) {index : Nat} {b : Int32} (hdg : decode cc pc = .ok (.invokestatic index, 3)) (hlink : Cond.methodLink own index ⟨"java/lang/Float", "intBitsToFloat", "(I)F"⟩ ∈ lw_all) (hnat : Cond.native ⟨"java/lang/Float", "intBitsToFloat", "(I)F"⟩ ∈ lw_all) (hstat : Cond.static ⟨"java/lang/Float", "intBitsToFloat", "(I)F"⟩ ∈ lw_all) (hinit : Cond.initialized "java/lang/Float" ∈ lw_all) (hv : vn_sni2f b = false) (hframes : 1 ≤ R.frames) (hlocals : (st.map fun v => v.category).sum + 15 ≤ R.locals)
    (kk : J p l e R s m args below meth c Ω nL Q cells slots sz G (pc + 3) L (.float b.toUInt32 :: st)) : J p l e R s m args below meth c Ω nL Q cells slots sz G pc L (.int b :: st) := fun H locs ls h1 h2 h3 h4 =>
  vn_i2f cx.1 cx.2.1 (by rw [cx.2.2.1]; exact h4.1.symm) cx.ow (cx.ts _ hlink) (cx.ts _ hnat) (cx.ts _ hstat) (cx.ts _ hinit) hv hframes hlocals hdg (kk H locs ls h1 h2 h3 h4)
theorem J_f2ib (cx : jCX p s m args meth c cc own Ω nL) {index : Nat} {b : UInt32} (hdg : decode cc pc = .ok (.invokestatic index, 3)) (hlink : Cond.methodLink own index ⟨"java/lang/Float", "floatToRawIntBits", "(F)I"⟩ ∈ lw_all) (hnat : Cond.native ⟨"java/lang/Float", "floatToRawIntBits", "(F)I"⟩ ∈ lw_all) (hstat : Cond.static ⟨"java/lang/Float", "floatToRawIntBits", "(F)I"⟩ ∈ lw_all) (hinit : Cond.initialized "java/lang/Float" ∈ lw_all) (hframes : 1 ≤ R.frames) (hlocals : (st.map fun v => v.category).sum + 15 ≤ R.locals)
    (kk : J p l e R s m args below meth c Ω nL Q cells slots sz G (pc + 3) L (.int b.toInt32 :: st)) : J p l e R s m args below meth c Ω nL Q cells slots sz G pc L (.float b :: st) := fun H locs ls h1 h2 h3 h4 =>
  vn_f2i cx.1 cx.2.1 (by rw [cx.2.2.1]; exact h4.1.symm) cx.ow (cx.ts _ hlink) (cx.ts _ hnat) (cx.ts _ hstat) (cx.ts _ hinit) hframes hlocals hdg (kk H locs ls h1 h2 h3 h4)
theorem jsw_out {x : Int32} {lo hi : Int} (h : ¬ (lo ≤ x.toInt ∧ x.toInt ≤ hi)) : x.toInt < lo ∨ hi < x.toInt := by omega
theorem jne_int {x : Int32} {n : Int} (v : Int32) (hv : v.toInt = n) (h : ¬ x = v) : x.toInt ≠ n := fun e => h (Int32.toInt_inj.mp (e.trans hv.symm))
theorem jeq_int {x : Int32} {n : Int} (v : Int32) (hv : v.toInt = n) (h : x = v) : x.toInt = n := by rw [h]; exact hv
-- calls
/-- what a callee's start asks, out of the caller's memory -/
theorem jWd.call (cx : jCX p s m args meth c cc own Ω nL) {H : Heap} {locs : List Loc} (h1 : H.size = sz) (h2 : jGR Ω.1 G H) (h3 : va_S (jB Ω) s.heap H locs) {U : State} (hU : U.heap = H) (hW : s.WarmedH U.vm) : jWd Ω G sz U := by
  subst hU
  exact ⟨h1, h2, cx.kw.warm hW, by rw [← h1]; exact Nat.le_trans cx.bs h3.1, (cx.stH h3).moved hW.alike⟩
theorem jWd.blind (av : List Value) : FrameBlind (va_Pc av (jWd Ω G sz)) := fun a U g mk h => ⟨h.1, h.2.1, h.2.2.1, h.2.2.2.1.same (by rfl), h.2.2.2.2.1, h.2.2.2.2.2.moved (Vm.Alike.refl _)⟩
theorem jrun (cx : jCX p s m args meth c cc own Ω nL) {st0 rest : List Value} {mc ms : Nat} {a : Array Value} {post : Option Value → Mem → Nat → Prop}
    (hr : ∀ (H : Heap) (locs : List Loc) (ls : Array Slot), H.size = sz → jGR Ω.1 G H → va_S (jB Ω) s.heap H locs → jL ls nL L → va_Run p l e R s m args below meth c H locs cells slots mc ms (F0 m pc ls st0) rest (jQ Ω post a) (jB Ω))
    (kk : ∀ (v : Option Value) (G1 : Mem) (sz1 : Nat), post v G1 sz1 → sz ≤ sz1 → J p l e R s m args below meth c Ω nL Q (cells + mc) (slots + ms) sz1 G1 (pc + 3) L (v.toList ++ rest)) : J p l e R s m args below meth c Ω nL Q cells slots sz G pc L st0 := by
  intro H locs ls h1 h2 h3 h4
  intro T hT X
  obtain ⟨v, st₀, t, T', L', h0, X', hL, e1, e2, ⟨⟨v', G1, sz1, hv, hpost, hsz, hgr⟩, hz, hk⟩, hst⟩ := hr H locs ls h1 h2 h3 h4 T hT X
  cases hv
  rw [h0] at hz hk
  obtain ⟨t2, a1, b1⟩ := kk v G1 sz1 hpost (by rw [← hsz, ← h1]; exact hz) T'.heap (locs ++ L') ls (by rw [e1]; exact hsz) (by rw [e1]; exact hgr)
    ⟨Nat.le_trans h3.1 (by rw [e1]; exact hz), fun q g1 g2 => by rw [e1, hk q (Nat.lt_of_lt_of_le g1 h3.1) g2]; exact h3.2.1 q g1 g2, fun q hq => by
      rcases List.mem_append.mp hq with h | h
      · exact h3.2.2 q h
      · exact hL q h⟩ h4 T' rfl X'
  exact ⟨t2, hst t2 a1, b1⟩
theorem jrecv (cx : jCX p s m args meth c cc own Ω nL) {H : Heap} {b ci : Nat} {q : vw_C} {fs : List Value} (h2 : jGR Ω.1 G H) (hc : vwCl[ci]? = some q) (hb : G b = some (.inr (ci, fs))) : ∃ cell : Cell, H[b]? = some cell ∧ cell.vm.isStatics = false ∧ s.vm.findClass q.1 = some cell.cls :=
  va_recv cx.K (jone (h2 _ _ hb).1) hc (q0 := 0) rfl
theorem jfix (cx : jCX p s m args meth c cc own Ω nL) : CallFix p m c cc nL s args lw_all own := ⟨cx.1, cx.2.1, cx.2.2.1, cx.ow, cx.ts⟩
/-- invokevirtual (a method of the receiver's own class; a private one) -/
theorem J_callV (cx : jCX p s m args meth c cc own Ω nL) {y : MethodName} {bytes : ByteArray} {maxL n index mc ms ci b : Nat} {ret : Option FieldType} {q : vw_C} {fs : List Value} {rm : Room} {post : Option Value → Mem → Nat → Prop} (As : List Value) {rest st0 : List Value}
    (hM : Met l y (ws_ y bytes maxL ret) rm (va_Pc (.ref b :: As) (jWd Ω G sz)) (jQ Ω post) mc ms (jB Ω)) (hdg : decode cc pc = .ok (.invokevirtual index, 3))
    (hw : GoodIn lw_all (wsV own index q.1 y (ws_ y bytes maxL ret))) (hd : y.cls = q.1 ∧ y.cls ≠ "java/lang/invoke/MethodHandle" ∧ y.cls ≠ "java/lang/invoke/VarHandle" ∧ (parseMethodDescriptor y.desc).map (fun d => d.parameters.length) = some n) (hc : vwCl[ci]? = some q) (hb : G b = some (.inr (ci, fs)))
    (hrc : rm.cells = mc) (hrs : rm.slots = ms) (hR : rm.frames + 1 ≤ R.frames ∧ 8 + (maxL + 11) + rm.locals ≤ R.locals) (hn : As.length = n) (hstack : st0 = As.reverse ++ .ref b :: rest) (hW : (rest.map fun v => v.category).sum ≤ 8) (hf : cells + mc ≤ R.cells ∧ slots + ms ≤ R.slots)
    (kk : ∀ (v : Option Value) (G1 : Mem) (sz1 : Nat), post v G1 sz1 → sz ≤ sz1 → J p l e R s m args below meth c Ω nL Q (cells + mc) (slots + ms) sz1 G1 (pc + 3) L (v.toList ++ rest)) : J p l e R s m args below meth c Ω nL Q cells slots sz G pc L st0 := by
  subst hstack
  refine jrun cx (fun H locs ls h1 h2 h3 h4 => va_runV (jfix cx) hM (cwV n cx.ts hw rfl hrc hrs hd hR) ⟨jWd.blind _, jrecv cx h2 hc hb, fun U hU hW9 => ⟨rfl, jWd.call cx h1 h2 h3 hU hW9⟩⟩ rfl hn h4.1 rfl (lv_room hW) hdg hf) kk
theorem J_callS (cx : jCX p s m args meth c cc own Ω nL) {y : MethodName} {bytes : ByteArray} {maxL n index mc ms : Nat} {ret : Option FieldType} {rm : Room} {post : Option Value → Mem → Nat → Prop} (As : List Value) {rest st0 : List Value}
    (hM : Met l y (ws_ y bytes maxL ret) rm (va_Pc As (jWd Ω G sz)) (jQ Ω post) mc ms (jB Ω)) (hdg : decode cc pc = .ok (.invokestatic index, 3))
    (hw : GoodIn lw_all (va_wsS own index y (ws_ y bytes maxL ret))) (hd : y.cls ≠ "java/lang/invoke/MethodHandle" ∧ y.cls ≠ "java/lang/invoke/VarHandle" ∧ (parseMethodDescriptor y.desc).map (fun d => d.parameters.length) = some n)
    (hrc : rm.cells = mc) (hrs : rm.slots = ms) (hR : rm.frames + 1 ≤ R.frames ∧ 8 + (maxL + 11) + rm.locals ≤ R.locals) (hn : As.length = n) (hstack : st0 = As.reverse ++ rest) (hW : (rest.map fun v => v.category).sum ≤ 8) (hf : cells + mc ≤ R.cells ∧ slots + ms ≤ R.slots)
    (kk : ∀ (v : Option Value) (G1 : Mem) (sz1 : Nat), post v G1 sz1 → sz ≤ sz1 → J p l e R s m args below meth c Ω nL Q (cells + mc) (slots + ms) sz1 G1 (pc + 3) L (v.toList ++ rest)) : J p l e R s m args below meth c Ω nL Q cells slots sz G pc L st0 := by
  subst hstack
  refine jrun cx (fun H locs ls h1 h2 h3 h4 => va_runS (jfix cx) hM (va_cwS n cx.ts hw rfl hrc hrs hd hR) ⟨jWd.blind _, fun U hU hW9 => ⟨rfl, jWd.call cx h1 h2 h3 hU hW9⟩⟩ rfl hn h4.1 rfl (lv_room hW) hdg hf) kk
theorem J_callI (cx : jCX p s m args meth c cc own Ω nL) {y : MethodName} {bytes : ByteArray} {maxL n index mc ms b : Nat} {rm : Room} {post : Option Value → Mem → Nat → Prop} (As : List Value) {rest st0 : List Value}
    (hM : Met l y (ws_ y bytes maxL none) rm (va_Pc (.ref b :: As) (jWd Ω G sz)) (jQ Ω post) mc ms (jB Ω)) (hdg : decode cc pc = .ok (.invokespecial index, 3))
    (hcode : Cond.code y bytes maxL none ∈ lw_all) (hini : Cond.initialized y.cls ∈ lw_all) (hlk : Cond.methodLink own index y ∈ lw_all) (hin : Cond.instanceMethod y ∈ lw_all) (hy1 : y.name = "<init>") (hd : y.cls ≠ "java/lang/invoke/MethodHandle" ∧ y.cls ≠ "java/lang/invoke/VarHandle" ∧ (parseMethodDescriptor y.desc).map (fun d => d.parameters.length) = some n)
    (hrc : rm.cells = mc) (hrs : rm.slots = ms) (hR : rm.frames + 1 ≤ R.frames ∧ 8 + (maxL + 11) + rm.locals ≤ R.locals) (hn : As.length = n) (hstack : st0 = As.reverse ++ .ref b :: rest) (hW : (rest.map fun v => v.category).sum ≤ 8) (hf : cells + mc ≤ R.cells ∧ slots + ms ≤ R.slots)
    (kk : ∀ (v : Option Value) (G1 : Mem) (sz1 : Nat), post v G1 sz1 → sz ≤ sz1 → J p l e R s m args below meth c Ω nL Q (cells + mc) (slots + ms) sz1 G1 (pc + 3) L (v.toList ++ rest)) : J p l e R s m args below meth c Ω nL Q cells slots sz G pc L st0 := by
  subst hstack
  refine jrun cx (fun H locs ls h1 h2 h3 h4 => va_runI (jfix cx) hM (cwI n cx.ts (lw_meth hcode) rfl hrc hrs (cx.ts _ hini) (cx.ts _ hlk) (cx.ts _ hin) hy1 hd hR) ⟨jWd.blind _, fun U hU hW9 => ⟨rfl, jWd.call cx h1 h2 h3 hU hW9⟩⟩ rfl hn h4.1 rfl (lv_room hW) hdg hf) kk
/-- behind a call whose answer is determined -/
theorem jdet {v0 : Option Value} {G1 : Mem} {sz1 : Nat} {rest : List Value} {cells slots : Nat} {pc : Nat} (kk : J p l e R s m args below meth c Ω nL Q cells slots sz1 G1 pc L (v0.toList ++ rest)) : ∀ (v : Option Value) (G9 : Mem) (sz9 : Nat), jD v0 G1 sz1 v G9 sz9 → sz ≤ sz9 → J p l e R s m args below meth c Ω nL Q cells slots sz9 G9 pc L (v.toList ++ rest) := by
  rintro v G9 sz9 ⟨rfl, rfl, rfl⟩ -
  exact kk
-- ends
theorem jQ_end {post : Option Value → Mem → Nat → Prop} {v : Option Value} {H : Heap} {locs : List Loc} (hp : post v G sz) (h1 : H.size = sz) (h2 : jGR Ω.1 G H) (h3 : va_S (jB Ω) s.heap H locs) : ∀ t : State, t.heap = H → jQ Ω post args s (.returned v) t := by
  intro t ht
  subst ht
  exact ⟨⟨v, G, sz, rfl, hp, h1, h2⟩, h3.F rfl⟩
theorem J_iret (cx : jCX p s m args meth c cc own Ω nL) {post : Option Value → Mem → Nat → Prop} {v : Int32} {mc ms : Nat} (hdg : decode cc pc = .ok (.ireturn, 1)) (hr : meth.sig.returnType = some .int) (hp : post (some (.int v)) G sz) (hmc : cells ≤ mc) (hms : slots ≤ ms) : J p l e R s m args below meth c Ω nL (MQ below (jQ Ω post) args s mc ms (jB Ω)) cells slots sz G pc L [.int v] := fun H locs ls h1 h2 h3 h4 =>
  W.widen hmc hms (W.iret cx.1 cx.2.1 hr (fun t ht _ => jQ_end hp h1 h2 h3 t ht) h3.2.2 hdg cx.lk)
theorem J_zret (cx : jCX p s m args meth c cc own Ω nL) {post : Option Value → Mem → Nat → Prop} {v : Int32} {mc ms : Nat} {ty : FieldType} (hdg : decode cc pc = .ok (.ireturn, 1)) (hr : meth.sig.returnType = some ty) (hn : narrow ty (.int v) = .int v) (hp : post (some (.int v)) G sz) (hmc : cells ≤ mc) (hms : slots ≤ ms) : J p l e R s m args below meth c Ω nL (MQ below (jQ Ω post) args s mc ms (jB Ω)) cells slots sz G pc L [.int v] := fun H locs ls h1 h2 h3 h4 =>
  W.widen hmc hms (W.zret cx.1 cx.2.1 hr hn (fun t ht _ => jQ_end hp h1 h2 h3 t ht) h3.2.2 hdg cx.lk)
theorem J_vret (cx : jCX p s m args meth c cc own Ω nL) {post : Option Value → Mem → Nat → Prop} {mc ms : Nat} (hdg : decode cc pc = .ok (.return_, 1)) (hr : meth.sig.returnType = none) (hp : post none G sz) (hmc : cells ≤ mc) (hms : slots ≤ ms) : J p l e R s m args below meth c Ω nL (MQ below (jQ Ω post) args s mc ms (jB Ω)) cells slots sz G pc L [] := fun H locs ls h1 h2 h3 h4 =>
  W.widen hmc hms (W.vret cx.1 cx.2.1 hr (fun t ht _ => jQ_end hp h1 h2 h3 t ht) h3.2.2 hdg cx.lk)
theorem J_fret (cx : jCX p s m args meth c cc own Ω nL) {post : Option Value → Mem → Nat → Prop} {v : UInt32} {mc ms : Nat} (hdg : decode cc pc = .ok (.freturn, 1)) (hr : meth.sig.returnType = some .float) (hp : post (some (.float v)) G sz) (hmc : cells ≤ mc) (hms : slots ≤ ms) : J p l e R s m args below meth c Ω nL (MQ below (jQ Ω post) args s mc ms (jB Ω)) cells slots sz G pc L [.float v] := fun H locs ls h1 h2 h3 h4 =>
  W.widen hmc hms (W.fret cx.1 cx.2.1 hr (fun t ht _ => jQ_end hp h1 h2 h3 t ht) h3.2.2 hdg cx.lk)
theorem J_dret (cx : jCX p s m args meth c cc own Ω nL) {post : Option Value → Mem → Nat → Prop} {v : UInt64} {mc ms : Nat} (hdg : decode cc pc = .ok (.dreturn, 1)) (hr : meth.sig.returnType = some .double) (hp : post (some (.double v)) G sz) (hmc : cells ≤ mc) (hms : slots ≤ ms) : J p l e R s m args below meth c Ω nL (MQ below (jQ Ω post) args s mc ms (jB Ω)) cells slots sz G pc L [.double v] := fun H locs ls h1 h2 h3 h4 =>
  W.widen hmc hms (W.dret cx.1 cx.2.1 hr (fun t ht _ => jQ_end hp h1 h2 h3 t ht) h3.2.2 hdg cx.lk)
theorem J_lret (cx : jCX p s m args meth c cc own Ω nL) {post : Option Value → Mem → Nat → Prop} {v : Int64} {mc ms : Nat} (hdg : decode cc pc = .ok (.lreturn, 1)) (hr : meth.sig.returnType = some .long) (hp : post (some (.long v)) G sz) (hmc : cells ≤ mc) (hms : slots ≤ ms) : J p l e R s m args below meth c Ω nL (MQ below (jQ Ω post) args s mc ms (jB Ω)) cells slots sz G pc L [.long v] := fun H locs ls h1 h2 h3 h4 =>
  W.widen hmc hms (W.lret cx.1 cx.2.1 hr (fun t ht _ => jQ_end hp h1 h2 h3 t ht) h3.2.2 hdg cx.lk)
theorem J_aret (cx : jCX p s m args meth c cc own Ω nL) {post : Option Value → Mem → Nat → Prop} {v : Value} {mc ms : Nat} {rt : FieldType} (hdg : decode cc pc = .ok (.areturn, 1)) (hr : meth.sig.returnType = some rt) (hrt : (∃ n, rt = .object n) ∨ ∃ t, rt = .array t) (hv : v = .null ∨ ∃ a, v = .ref a) (hp : post (some v) G sz) (hmc : cells ≤ mc) (hms : slots ≤ ms) : J p l e R s m args below meth c Ω nL (MQ below (jQ Ω post) args s mc ms (jB Ω)) cells slots sz G pc L [v] := fun H locs ls h1 h2 h3 h4 =>
  W.widen hmc hms (W.aret cx.1 cx.2.1 hr hrt hv (fun t ht _ => jQ_end hp h1 h2 h3 t ht) h3.2.2 hdg cx.lk)
/-- a method's contract out of the walk of its body -/
theorem jMet {y : MethodName} {rm : Room} {av : List Value} {post : Option Value → Mem → Nat → Prop} {mc ms : Nat} {ret : Option FieldType} (hy : plainName y.cls = true) (hla : (jargs av).length ≤ nL)
    (body : ∀ (p : Program) (e : Env) (s : State) (m : MethodId) (args : Array Value) (below : List Frame) (meth : Method) (c : Code), jCX p s m args meth c cc y.cls Ω nL → meth.sig.returnType = ret → meth.name = y.name → J p l e rm s m args below meth c Ω nL (MQ below (jQ Ω post) args s mc ms (jB Ω)) 0 0 sz G 0 (jargs av ++ List.replicate (nL - (jargs av).length) none) []) :
    Met l y (ws_ y cc nL ret) rm (va_Pc av (jWd Ω G sz)) (jQ Ω post) mc ms (jB Ω) := by
  refine Met.ofW (cc := cc) (maxL := nL) (ret := ret) hy rfl ?_
  intro p e s m args below meth c s₁ B hml hv
  obtain ⟨rfl, hsz, hgr, hkw, hbs, hst⟩ := hv
  have hts := atoms_spec (ws := ws_ y cc nL ret) B.pre
  have cx : jCX p s m av.toArray meth c cc y.cls Ω nL := ⟨B.exec, B.bytes, hml, findClass_of_methodNamed B.named, fun w h => hts w (List.mem_cons_of_mem _ h), hkw, by rw [hsz]; exact hbs, B.notSynchronized, hst⟩
  rw [lg_entry_eq]
  exact body p e s m av.toArray below meth c cx B.returns (name_of_methodNamed B.named B.method).1 s.heap [] _ hsz hgr va_S.rf (jL_entry av hla)
/-- a method's contract out of the walk of its body -/
theorem jMetF {y : MethodName} {rm : Room} {av : List Value} {post : Option Value → Mem → Nat → Prop} {mc ms : Nat} {ret : Option FieldType} (hy : plainFor y = true) (hla : (jargs av).length ≤ nL)
    (body : ∀ (p : Program) (e : Env) (s : State) (m : MethodId) (args : Array Value) (below : List Frame) (meth : Method) (c : Code), jCX p s m args meth c cc y.cls Ω nL → meth.sig.returnType = ret → meth.name = y.name → J p l e rm s m args below meth c Ω nL (MQ below (jQ Ω post) args s mc ms (jB Ω)) 0 0 sz G 0 (jargs av ++ List.replicate (nL - (jargs av).length) none) []) :
    Met l y (ws_ y cc nL ret) rm (va_Pc av (jWd Ω G sz)) (jQ Ω post) mc ms (jB Ω) := by
  refine va_MetF (cc := cc) (maxL := nL) (ret := ret) hy rfl ?_
  intro p e s m args below meth c s₁ B hml hv
  obtain ⟨rfl, hsz, hgr, hkw, hbs, hst⟩ := hv
  have hts := atoms_spec (ws := ws_ y cc nL ret) B.pre
  have cx : jCX p s m av.toArray meth c cc y.cls Ω nL := ⟨B.exec, B.bytes, hml, findClass_of_methodNamed B.named, fun w h => hts w (List.mem_cons_of_mem _ h), hkw, by rw [hsz]; exact hbs, B.notSynchronized, hst⟩
  rw [lg_entry_eq]
  exact body p e s m av.toArray below meth c cx B.returns (name_of_methodNamed B.named B.method).1 s.heap [] _ hsz hgr va_S.rf (jL_entry av hla)
theorem J_tableOut (cx : jCX p s m args meth c cc own Ω nL) {dflt lo hi : Int} {offs : Array Int} {len : Nat} {x : Int32} {tgt : Nat} (hdg : decode cc pc = .ok (.tableswitch dflt lo hi offs, len)) (h : x.toInt < lo ∨ hi < x.toInt) (ht : (pc : Int) + dflt = (tgt : Int)) (kk : J p l e R s m args below meth c Ω nL Q cells slots sz G tgt L st) : J p l e R s m args below meth c Ω nL Q cells slots sz G pc L (.int x :: st) := fun H locs ls h1 h2 h3 h4 => lv_tableOut cx.1 cx.2.1 hdg h ht (kk H locs ls h1 h2 h3 h4)
theorem J_tableIn (cx : jCX p s m args meth c cc own Ω nL) {dflt lo hi : Int} {offs : Array Int} {len : Nat} {x : Int32} {off : Int} {tgt : Nat} (hdg : decode cc pc = .ok (.tableswitch dflt lo hi offs, len)) (h1 : ¬ x.toInt < lo) (h2 : ¬ hi < x.toInt) (ho : offs[(x.toInt - lo).toNat]? = some off) (ht : (pc : Int) + off = (tgt : Int)) (kk : J p l e R s m args below meth c Ω nL Q cells slots sz G tgt L st) : J p l e R s m args below meth c Ω nL Q cells slots sz G pc L (.int x :: st) := fun H locs ls g1 g2 g3 g4 => lv_tableIn cx.1 cx.2.1 hdg h1 h2 ho ht (kk H locs ls g1 g2 g3 g4)
theorem J_lookup (cx : jCX p s m args meth c cc own Ω nL) {dflt : Int} {ps : Array (Int × Int)} {len : Nat} {x : Int32} {off : Int} {tgt : Nat} (hdg : decode cc pc = .ok (.lookupswitch dflt ps, len)) (hp : (ps.toList.zip (ps.toList.drop 1)).all (fun (a, next) => a.1 < next.1) = true) (ho : Op.lookupswitch.offset ps.toList dflt x.toInt = off) (ht : (pc : Int) + off = (tgt : Int)) (kk : J p l e R s m args below meth c Ω nL Q cells slots sz G tgt L st) : J p l e R s m args below meth c Ω nL Q cells slots sz G pc L (.int x :: st) := fun H locs ls h1 h2 h3 h4 => lv_lookup cx.1 cx.2.1 hdg hp ho ht (kk H locs ls h1 h2 h3 h4)

end JR
