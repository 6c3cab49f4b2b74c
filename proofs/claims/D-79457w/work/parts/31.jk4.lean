/-! THE JUDGEMENT J, PART FOUR: arraycopy of references, class constants, getClass of an Object[] -/
set_option maxRecDepth 100000
/-- an object that may stand in an Object[] -/
def jObj (G : Mem) (y : Nat) : Prop := ∃ (ci : Nat) (q : vw_C) (vs : List Value), vwCl[ci]? = some q ∧ G y = some (.inr (ci, vs)) ∧ Cond.castable q.1 "java/lang/Object" ∈ lw_tbl
section JR7
variable {p : Program} {l : Launch} {e : Env} {R : Room} {s : State} {m : MethodId} {args : Array Value} {below : List Frame} {meth : Method} {c : Code} {Q : State → Prop} {Ω : jO} {nL : Nat}
variable {cells slots sz : Nat} {G : Mem} {L : List (Option Value)} {st : List Value} {cc : ByteArray} {own : String} {pc : Nat}
theorem J_copyq (cx : jCX p s m args meth c cc own Ω nL) {index : Nat} {a0 a1 n0 n1 sp dp n : Nat} {f g : Nat → Option Nat} (hdg : decode cc pc = .ok (.invokestatic index, 3))
    (hlink : Cond.methodLink own index arraycopyName ∈ lw_all) (hnat : Cond.native arraycopyName ∈ lw_all) (hstat : Cond.static arraycopyName ∈ lw_all) (hini : Cond.initialized "java/lang/System" ∈ lw_all)
    (ha0 : G a0 = some (.inl (Ω.2.1 4, n0, jAq f))) (ha1 : G a1 = some (.inl (Ω.2.1 4, n1, jAq g)))
    (h4 : sp + n ≤ n0) (h5 : dp + n ≤ n1) (hn0 : n0 < 2147483648) (hn1 : n1 < 2147483648) (hel : ∀ i, i < n → ∀ y, f (sp + i) = some y → jObj G y) (hb9 : Ω.2.2.2 ≤ a1)
    (hframes : 1 ≤ R.frames) (hlocals : (st.map fun v => v.category).sum + (nativeFrameWords "java/lang/System" "arraycopy" 5 + 11) ≤ R.locals)
    (kk : J p l e R s m args below meth c Ω nL Q cells slots sz (gset G a1 (.inl (Ω.2.1 4, n1, jAq (va_cpy f g sp dp n)))) (pc + 3) L st) :
    J p l e R s m args below meth c Ω nL Q cells slots sz G pc L (.int (nI n) :: .int (nI dp) :: .ref a1 :: .int (nI sp) :: .ref a0 :: st) := by
  intro H locs ls g1 g2 g3 g4 T hT X
  have es : (nI sp).toNatClampNeg = sp := nI_clamp (by omega)
  have ed : (nI dp).toNatClampNeg = dp := nI_clamp (by omega)
  have en : (nI n).toNatClampNeg = n := nI_clamp (by omega)
  have hc0 : H[a0]? = some (vp_cell (Ω.2.1 4) (n0, jAq f)) := (g2 _ _ ha0).1
  have hc1 : H[a1]? = some (vp_cell (Ω.2.1 4) (n1, jAq g)) := (g2 _ _ ha1).1
  have ht : (jTy Ω.2.1)[4]? = some (Ω.2.1 4, .object "java/lang/Object") := rfl
  obtain ⟨-, k0, hk0, cm0, hkk0⟩ := (cx.K.2 4 _ ht).1 n0 (fun j => va_rf (f j))
  obtain ⟨vm', X', step⟩ := X.arraycopy cx.1 cx.ow (cx.ts _ hlink) (cx.ts _ hnat) (cx.ts _ hstat) (cx.ts _ hini) (src := a0) (dst := a1) (cs := vp_cell (Ω.2.1 4) (n0, jAq f)) (cd := vp_cell (Ω.2.1 4) (n1, jAq g)) (srcPos := nI sp) (destPos := nI dp) (n := nI n) (by rw [hT]; exact hc0) (by rw [hT]; exact hc1)
    (fun _ h => by cases h) (fun _ h => by cases h) (fun h => by cases h) (fun h => by cases h) hk0 hk0 hkk0 hkk0 rfl (nI_pos (by omega)) (nI_pos (by omega)) (nI_pos (by omega))
    (by rw [jnn (by omega), jnn (by omega)]; show ¬ _ > ((arrV (Ω.2.1 4) n0 (fun j => va_rf (f j))).slots.size : Int); rw [arrV_size]; omega)
    (by rw [jnn (by omega), jnn (by omega)]; show ¬ _ > ((arrV (Ω.2.1 4) n1 (fun j => va_rf (g j))).slots.size : Int); rw [arrV_size]; omega)
    (fun vm₁ hal i hi => by
      rw [en] at hi
      rw [es]
      have ev : (vp_cell (Ω.2.1 4) (n0, jAq f)).slots.getD (sp + i) .null = va_rf (f (sp + i)) := by
        show (arrV (Ω.2.1 4) n0 (fun j => va_rf (f j))).slots.getD _ _ = _
        rw [Array.getD_eq_getD_getElem?, arrV_read _ _ (by omega)]
        rfl
      rw [ev]
      cases hy : f (sp + i) with
      | none => exact ⟨rfl, trivial⟩
      | some y =>
        obtain ⟨ci, q, vs, hc, hv, hcast⟩ := hel i hi y hy
        obtain ⟨cellV, u1, u3, ⟨kC, hkC⟩, hasg⟩ := jany (E := "java/lang/Object") cx g2 hc hv hcast
        obtain ⟨kA, comp, r1, r2, r3, -⟩ := (cx.K.2 4 _ ht).2
        cases hk0.symm.trans r1
        cases hkk0.symm.trans r2
        obtain ⟨kE, hkE, -⟩ := Vm.findClass_spec r3
        obtain ⟨kC', hkC', -⟩ := hal.2.2 _ _ hkC
        obtain ⟨kE', hkE', -⟩ := hal.2.2 _ _ hkE
        refine ⟨rfl, cellV, (show T.heap[y]? = some cellV by rw [hT]; exact u1), (fun q h => by rw [h] at u3; cases u3), ⟨kC', hkC'⟩, ?_, ?_⟩
        · exact ⟨kE', hkE'⟩
        · show vm₁.assignable _ _ = true
          rw [hal.assignable]
          exact hasg _ r3)
    (g := F0 m pc ls (.int (nI n) :: .int (nI dp) :: .ref a1 :: .int (nI sp) :: .ref a0 :: st)) rfl (g4.1.trans cx.2.2.1.symm) (rest := st) rfl (by rw [cx.2.1]; exact hdg) hframes (by show 2 * 0 + _ + _ ≤ _; omega)
  have e1 : copied (vp_cell (Ω.2.1 4) (n0, jAq f)) (vp_cell (Ω.2.1 4) (n1, jAq g)) (nI sp) (nI dp) (nI n) = vp_cell (Ω.2.1 4) (n1, jAq (va_cpy f g (nI sp).toNatClampNeg (nI dp).toNatClampNeg (nI n).toNatClampNeg)) := by
    rw [vp_cell_q, vp_cell_q, vp_cell_q]
    exact va_copied (fun z => va_rf z) (Ω.2.1 4) (Ω.2.1 4) f g (by rw [es, en]; exact h4)
  rw [es, ed, en] at e1
  rw [e1] at X' step
  have hl : a1 < H.size := (Array.getElem?_eq_some_iff.mp hc1).1
  obtain ⟨t, r1, r2⟩ := kk (H.setIfInBounds a1 (vp_cell (Ω.2.1 4) (n1, jAq (va_cpy f g sp dp n)))) _ ls (by simp [g1]) (g2.set (show (H.setIfInBounds a1 _)[a1]? = some _ by simp [Array.getElem?_setIfInBounds, hl]) (fun q hq => by simp [Array.getElem?_setIfInBounds, Ne.symm hq]))
    ⟨by simp; exact g3.1, fun q r1 r2 => by
      rw [show (H.setIfInBounds a1 (vp_cell (Ω.2.1 4) (n1, jAq (va_cpy f g sp dp n))))[q]? = H[q]? from by
        have hq : q ≠ a1 := fun ee => r2 (by rw [ee]; exact hb9)
        simp [Array.getElem?_setIfInBounds, Ne.symm hq]]
      exact g3.2.1 q r1 r2, fun q hq => by
      rcases List.mem_append.mp hq with h | h
      · exact g3.2.2 q h
      · obtain ⟨z, -, hz⟩ := List.mem_map.mp h
        rw [← hz]
        exact hb9⟩ g4 _ (by rw [← hT]; rfl) X'
  exact ⟨t, step t r1, r2⟩
theorem J_ldcM (cx : jCX p s m args meth c cc own Ω nL) {C : String} {index mi : Nat} (hM : va_Mi C mi s) (hdg : decode cc pc = .ok (.ldc index, 2)) (hlink : Cond.classLink own index C ∈ lw_all)
    (kk : J p l e R s m args below meth c Ω nL Q cells slots sz G (pc + 2) L (.ref mi :: st)) : J p l e R s m args below meth c Ω nL Q cells slots sz G pc L st := fun H locs ls h1 h2 h3 h4 =>
  va_ldcM cx.1 cx.2.1 cx.ow (cx.ts _ hlink) hM hdg (kk H locs ls h1 h2 h3 h4)
theorem J_getC (cx : jCX p s m args meth c cc own Ω nL) {index a n : Nat} {f : Nat → Option Nat} (hdg : decode cc pc = .ok (.invokevirtual index, 3)) (hlink : Cond.methodLink own index ⟨"java/lang/Object", "getClass", "()Ljava/lang/Class;"⟩ ∈ lw_all) (hdecl : Cond.declares ⟨"java/lang/Object", "getClass", "()Ljava/lang/Class;"⟩ ∈ lw_tbl)
    (hsel : Cond.selects "[Ljava/lang/Object;" ⟨"java/lang/Object", "getClass", "()Ljava/lang/Class;"⟩ ⟨"java/lang/Object", "getClass", "()Ljava/lang/Class;"⟩ ∈ lw_all) (hinst : Cond.instanceMethod ⟨"java/lang/Object", "getClass", "()Ljava/lang/Class;"⟩ ∈ lw_all) (hnat : Cond.native ⟨"java/lang/Object", "getClass", "()Ljava/lang/Class;"⟩ ∈ lw_all)
    (ha : G a = some (.inl (Ω.2.1 4, n, jAq f))) (hframes : 1 ≤ R.frames) (hlocals : (st.map fun v => v.category).sum + 14 ≤ R.locals)
    (kk : J p l e R s m args below meth c Ω nL Q cells slots sz G (pc + 3) L (.ref (Ω.2.2.1 2) :: st)) : J p l e R s m args below meth c Ω nL Q cells slots sz G pc L (.ref a :: st) := fun H locs ls h1 h2 h3 h4 => by
  obtain ⟨_, _, -, -, -, hnm⟩ := (cx.K.2 4 _ rfl).2
  have e9 : "[" ++ (FieldType.object "java/lang/Object").toString = "[Ljava/lang/Object;" := by decide +kernel
  rw [e9] at hnm
  exact va_getC cx.1 cx.2.1 (by rw [cx.2.2.1]; exact h4.1.symm) cx.ow (cx.ts _ hlink) (va_Nw.use rfl (cx.nest hdecl rfl)) (cx.ts _ hsel) (cx.ts _ hinst) (cx.ts _ hnat) cx.sta.2.2.2.2.2.2.2.2.2.2.1 ⟨_, (h2 _ _ ha).1, rfl, hnm⟩ hframes hlocals hdg (kk H locs ls h1 h2 h3 h4)
end JR7
