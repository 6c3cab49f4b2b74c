/-! THE JUDGEMENT J, PART THREE: arraycopy, clone, storing null and references into locals -/
set_option maxRecDepth 100000
section JR5
variable {p : Program} {l : Launch} {e : Env} {R : Room} {s : State} {m : MethodId} {args : Array Value} {below : List Frame} {meth : Method} {c : Code} {Q : State → Prop} {Ω : jO} {nL : Nat}
variable {cells slots sz : Nat} {G : Mem} {L : List (Option Value)} {st : List Value} {cc : ByteArray} {own : String} {pc : Nat}
theorem jnn {n : Nat} (h : n < 2147483648) : (nI n).toInt = (n : Int) := by
  have h1 : (nI n).toNatClampNeg = n := nI_clamp h
  have h0 : ¬ nI n < 0 := nI_pos h
  have h2 : (0 : Int) ≤ (nI n).toInt := by
    have := Int32.not_lt.mp h0
    simpa using Int32.le_iff_toInt_le.mp this
  have h3 : ((nI n).toInt.toNat : Nat) = n := h1
  omega
/-- System.arraycopy between arrays of ints or bytes -/
theorem J_copyi (cx : jCX p s m args meth c cc own Ω nL) (t0 : Nat) {index : Nat} {a0 a1 n0 n1 sp dp n : Nat} {cA : ClassId} {f g : Nat → Int32} {ty : FieldType} (hdg : decode cc pc = .ok (.invokestatic index, 3))
    (hlink : Cond.methodLink own index arraycopyName ∈ lw_all) (hnat : Cond.native arraycopyName ∈ lw_all) (hstat : Cond.static arraycopyName ∈ lw_all) (hini : Cond.initialized "java/lang/System" ∈ lw_all)
    (ht : (jTy Ω.2.1)[t0]? = some (cA, ty)) (hprim : refKind ty = false) (ha0 : G a0 = some (.inl (cA, n0, .inl f))) (ha1 : G a1 = some (.inl (cA, n1, .inl g)))
    (h4 : sp + n ≤ n0) (h5 : dp + n ≤ n1) (hn0 : n0 < 2147483648) (hn1 : n1 < 2147483648) (hfit : ∀ i, i < n → fits ty (.int (f (sp + i))) = true) (hb9 : Ω.2.2.2 ≤ a1)
    (hframes : 1 ≤ R.frames) (hlocals : (st.map fun v => v.category).sum + (nativeFrameWords "java/lang/System" "arraycopy" 5 + 11) ≤ R.locals)
    (kk : J p l e R s m args below meth c Ω nL Q cells slots sz (gset G a1 (.inl (cA, n1, .inl (va_cpy f g sp dp n)))) (pc + 3) L st) :
    J p l e R s m args below meth c Ω nL Q cells slots sz G pc L (.int (nI n) :: .int (nI dp) :: .ref a1 :: .int (nI sp) :: .ref a0 :: st) := by
  intro H locs ls g1 g2 g3 g4 T hT X
  have es : (nI sp).toNatClampNeg = sp := nI_clamp (by omega)
  have ed : (nI dp).toNatClampNeg = dp := nI_clamp (by omega)
  have en : (nI n).toNatClampNeg = n := nI_clamp (by omega)
  have hc0 : H[a0]? = some (vp_cell cA (n0, .inl f)) := (g2 _ _ ha0).1
  have hc1 : H[a1]? = some (vp_cell cA (n1, .inl g)) := (g2 _ _ ha1).1
  obtain ⟨-, k0, hk0, cm0, hkk0⟩ := (cx.K.2 t0 _ ht).1 n0 (fun j => .int (f j))
  obtain ⟨vm', X', step⟩ := X.arraycopy cx.1 cx.ow (cx.ts _ hlink) (cx.ts _ hnat) (cx.ts _ hstat) (cx.ts _ hini) (src := a0) (dst := a1) (cs := vp_cell cA (n0, .inl f)) (cd := vp_cell cA (n1, .inl g)) (srcPos := nI sp) (destPos := nI dp) (n := nI n) (by rw [hT]; exact hc0) (by rw [hT]; exact hc1)
    (fun _ h => by cases h) (fun _ h => by cases h) (fun h => by cases h) (fun h => by cases h) hk0 hk0 hkk0 hkk0 (by simp [hprim]) (nI_pos (by omega)) (nI_pos (by omega)) (nI_pos (by omega))
    (by rw [jnn (by omega), jnn (by omega)]; show ¬ _ > ((arrV cA n0 (fun j => .int (f j))).slots.size : Int); rw [arrV_size]; omega)
    (by rw [jnn (by omega), jnn (by omega)]; show ¬ _ > ((arrV cA n1 (fun j => .int (g j))).slots.size : Int); rw [arrV_size]; omega)
    (fun vm₁ _ i hi => by
      rw [en] at hi
      rw [es]
      have ev : (vp_cell cA (n0, .inl f)).slots.getD (sp + i) .null = .int (f (sp + i)) := by
        show (arrV cA n0 (fun j => .int (f j))).slots.getD _ _ = _
        rw [Array.getD_eq_getD_getElem?, arrV_read _ _ (by omega)]
        rfl
      rw [ev]
      exact ⟨hfit i hi, trivial⟩)
    (g := F0 m pc ls (.int (nI n) :: .int (nI dp) :: .ref a1 :: .int (nI sp) :: .ref a0 :: st)) rfl (g4.1.trans cx.2.2.1.symm) (rest := st) rfl (by rw [cx.2.1]; exact hdg) hframes (by show 2 * 0 + _ + _ ≤ _; omega)
  have e1 : copied (vp_cell cA (n0, .inl f)) (vp_cell cA (n1, .inl g)) (nI sp) (nI dp) (nI n) = vp_cell cA (n1, .inl (va_cpy f g (nI sp).toNatClampNeg (nI dp).toNatClampNeg (nI n).toNatClampNeg)) := va_copied (fun z => .int z) cA cA f g (by rw [es, en]; exact h4)
  rw [es, ed, en] at e1
  rw [e1] at X' step
  have hl : a1 < H.size := (Array.getElem?_eq_some_iff.mp hc1).1
  obtain ⟨t, r1, r2⟩ := kk (H.setIfInBounds a1 (vp_cell cA (n1, .inl (va_cpy f g sp dp n)))) _ ls (by simp [g1]) (g2.set (show (H.setIfInBounds a1 _)[a1]? = some _ by simp [Array.getElem?_setIfInBounds, hl]) (fun q hq => by simp [Array.getElem?_setIfInBounds, Ne.symm hq]))
    ⟨by simp; exact g3.1, fun q r1 r2 => by
      rw [show (H.setIfInBounds a1 (vp_cell cA (n1, .inl (va_cpy f g sp dp n))))[q]? = H[q]? from by
        have hq : q ≠ a1 := fun ee => r2 (by rw [ee]; exact hb9)
        simp [Array.getElem?_setIfInBounds, Ne.symm hq]]
      exact g3.2.1 q r1 r2, fun q hq => by
      rcases List.mem_append.mp hq with h | h
      · exact g3.2.2 q h
      · obtain ⟨z, -, hz⟩ := List.mem_map.mp h
        rw [← hz]
        exact hb9⟩ g4 _ (by rw [← hT]; rfl) X'
  exact ⟨t, step t r1, r2⟩
/-- an array's clone -/
theorem J_clone (cx : jCX p s m args meth c cc own Ω nL) (t0 : Nat) {ad : String} {index a : Nat} {cA : ClassId} {x : vp_A} {ty : FieldType} (hdg : decode cc pc = .ok (.invokevirtual index, 3))
    (hlink : Cond.methodLink own index ⟨ad, "clone", "()Ljava/lang/Object;"⟩ ∈ lw_all) (hsame : Cond.sameMethod ad "java/lang/Object" "clone" "()Ljava/lang/Object;" ∈ lw_all)
    (hnat : Cond.native ⟨"java/lang/Object", "clone", "()Ljava/lang/Object;"⟩ ∈ lw_all) (hinst : Cond.instanceMethod ⟨"java/lang/Object", "clone", "()Ljava/lang/Object;"⟩ ∈ lw_all)
    (hsel : Cond.selects ad ⟨ad, "clone", "()Ljava/lang/Object;"⟩ ⟨"java/lang/Object", "clone", "()Ljava/lang/Object;"⟩ ∈ lw_all) (hcl : Cond.castable ad "java/lang/Cloneable" ∈ lw_tbl)
    (ht : (jTy Ω.2.1)[t0]? = some (cA, ty)) (ha : G a = some (.inl (cA, x))) (hnm : s.vm.findClass ad = some cA) (hfit : ∀ (i : Nat) (v : Value), (vp_cell cA x).slots[i]? = some v → fits ty v = true)
    (hframes : 1 ≤ R.frames) (hlocals : (st.map fun v => v.category).sum + 14 ≤ R.locals) (hcells : cells + 1 ≤ R.cells) (hslots : slots + x.1 ≤ R.slots)
    (kk : J p l e R s m args below meth c Ω nL Q (cells + 1) (slots + x.1) (sz + 1) (gset G sz (.inl (cA, x))) (pc + 3) L (.ref sz :: st)) :
    J p l e R s m args below meth c Ω nL Q cells slots sz G pc L (.ref a :: st) := by
  intro H locs ls g1 g2 g3 g4
  have hA : ∀ q, s.heap.size ≤ q → jB Ω q := fun q hq => Nat.le_trans cx.bs hq
  have hsz : (vp_cell cA x).slots.size = x.1 := by
    obtain ⟨n, f | f | f | f | f⟩ := x <;> exact arrV_size _ _ _
  have hvm0 : (vp_cell cA x).vm = .none := by
    obtain ⟨n, f | f | f | f | f⟩ := x <;> rfl
  have hcl0 : (vp_cell cA x).cls = cA := by
    obtain ⟨n, f | f | f | f | f⟩ := x <;> rfl
  have hcellE : ({ cls := (vp_cell cA x).cls, slots := (vp_cell cA x).slots } : Cell) = vp_cell cA x := by
    obtain ⟨n, f | f | f | f | f⟩ := x <;> rfl
  obtain ⟨c0, t0', f1, f2, f3⟩ := Cond.castable_spec (va_Nw.use (A := args) rfl (cx.nest hcl rfl))
  cases hnm.symm.trans f1
  intro T hT X
  have hcellT : T.heap[a]? = some (vp_cell cA x) := by rw [hT]; exact (g2 _ _ ha).1
  obtain ⟨-, kA, hkA, comp, hkind⟩ := State.isArrayOf_alike X.warmed.alike ((cx.K.2 t0 _ ht).1 0 (fun _ => .null))
  obtain ⟨-, kS, hkS, compS, hkindS⟩ := (cx.K.2 t0 _ ht).1 0 (fun _ => .null)
  obtain ⟨vm', X', st9⟩ := X.cloneArray cx.1 cx.ow (cx.ts _ hlink) (cx.ts _ hsame) (cx.ts _ hnat) (cx.ts _ hinst) (cx.ts _ hsel) (a := a) (cell := vp_cell cA x) hcellT (fun k h => by rw [hvm0] at h; cases h) (by rw [hvm0]; exact fun h => by cases h) (by rw [hcl0]; exact hnm) f2 (by rw [hcl0]; exact f3)
    (fun i v hv => by
      rw [hcl0]
      have hk' : T.vm.classes[cA]? = some kA := hkA
      simpa [State.fitsSlot, State.slotType?, hk', hkind] using hfit i v hv)
    (g := F0 m pc ls (.ref a :: st)) rfl (g4.1.trans cx.2.2.1.symm) rfl (by rw [cx.2.1]; exact hdg) hframes (by show 2 * 0 + _ + 14 ≤ _; omega) hcells (by rw [hsz]; exact hslots) (hloader := by rw [hcl0]; exact Vm.clonesLoader_of_array hkS hkindS)
  rw [hcellE, hsz] at X'
  have o1 : ∀ q : Nat, q < H.size → (H.push (vp_cell cA x))[q]? = H[q]? := fun q hq => by rw [Array.getElem?_push, if_neg (Nat.ne_of_lt hq)]
  obtain ⟨t, b1, b2⟩ := kk (H.push (vp_cell cA x)) locs ls (by rw [Array.size_push, g1]) (g2.push g1 (show (H.push (vp_cell cA x))[sz]? = some _ by rw [← g1, Array.getElem?_push_size]) (fun q hq => o1 q (by rw [g1]; exact hq)))
    ⟨Nat.le_trans g3.1 (by rw [Array.size_push]; omega), fun y h1 h2 => (o1 y (Nat.lt_of_lt_of_le h1 g3.1)).trans (g3.2.1 y h1 h2), g3.2.2⟩ g4
    ((T.setVm vm').pushCell (vp_cell cA x)) (by rw [← hT]; rfl) X'
  refine ⟨t, st9 t ?_, b2⟩
  rw [hcellE, hT, g1]
  exact b1
theorem jCX.nmI (cx : jCX p s m args meth c cc own Ω nL) : s.vm.findClass "[I" = some (Ω.2.1 0) := va_nm_int (cx.K.2 0 _ rfl).2
theorem jCX.nmB (cx : jCX p s m args meth c cc own Ω nL) : s.vm.findClass "[B" = some (Ω.2.1 1) := va_nm_byte (cx.K.2 1 _ rfl).2
theorem jCX.nmJ (cx : jCX p s m args meth c cc own Ω nL) : s.vm.findClass "[J" = some (Ω.2.1 3) := va_nm_long (cx.K.2 3 _ rfl).2
theorem jCX.nmC (cx : jCX p s m args meth c cc own Ω nL) : s.vm.findClass "[LTurningWheel$Coated;" = some (Ω.2.1 5) := by
  obtain ⟨_, _, -, -, -, h⟩ := (cx.K.2 5 _ rfl).2
  have e : "[" ++ (FieldType.object "TurningWheel$Coated").toString = "[LTurningWheel$Coated;" := by decide +kernel
  rw [← e]
  exact h
theorem jfit_i {cA : ClassId} {n : Nat} {f : Nat → Int32} (i : Nat) (v : Value) (hv : (vp_cell cA (n, .inl f)).slots[i]? = some v) : fits .int v = true := va_fit (cA := cA) (n := n) (F := fun j => .int (f j)) (fun _ _ => rfl) i v hv
theorem jfit_b {cA : ClassId} {n : Nat} {f : Nat → Int32} (hf : ∀ k, k < n → fits .byte (.int (f k)) = true) (i : Nat) (v : Value) (hv : (vp_cell cA (n, .inl f)).slots[i]? = some v) : fits .byte v = true := va_fit (cA := cA) (n := n) (F := fun j => .int (f j)) hf i v hv
theorem jfit_q {cA : ClassId} {C : String} {n : Nat} {f : Nat → Option Nat} (i : Nat) (v : Value) (hv : (vp_cell cA (n, jAq f)).slots[i]? = some v) : fits (.object C) v = true := by
  refine va_fit (cA := cA) (n := n) (F := fun j => va_rf (f j)) (fun j _ => ?_) i v (by rw [vp_cell_q] at hv; exact hv)
  cases f j <;> rfl
theorem J_castA (cx : jCX p s m args meth c cc own Ω nL) {index a : Nat} {x : vp_A} {cA : ClassId} {nm : String} (hdg : decode cc pc = .ok (.checkcast index, 3)) (hlink : Cond.classLink own index nm ∈ lw_all) (ha : G a = some (.inl (cA, x))) (hnm : s.vm.findClass nm = some cA)
    (kk : J p l e R s m args below meth c Ω nL Q cells slots sz G (pc + 3) L (.ref a :: st)) : J p l e R s m args below meth c Ω nL Q cells slots sz G pc L (.ref a :: st) := fun H locs ls h1 h2 h3 h4 =>
  va_castA cx.1 cx.2.1 cx.ow (cx.ts _ hlink) (jone (h2 _ _ ha).1) 0 rfl hnm hdg (kk H locs ls h1 h2 h3 h4)
end JR5
