/-! THE JUDGEMENT J, PART NINE: clone and checkcast of an array through its superclass' array type (Shelf.copy) -/
set_option maxRecDepth 100000
section JR13
variable {p : Program} {l : Launch} {e : Env} {R : Room} {s : State} {m : MethodId} {args : Array Value} {below : List Frame} {meth : Method} {c : Code} {Q : State → Prop} {Ω : jO} {nL : Nat}
variable {cells slots sz : Nat} {G : Mem} {L : List (Option Value)} {st : List Value} {cc : ByteArray} {own : String} {pc : Nat}
/-- Coated[] can be cast to Ware[] -/
theorem jasgW (cx : jCX p s m args meth c cc own Ω nL) : ∃ cW, s.vm.findClass "[LTurningWheel$Ware;" = some cW ∧ s.vm.assignable (Ω.2.1 5) cW = true := by
  obtain ⟨kA, compC, k1, k2, k3, -⟩ := (cx.K.2 5 _ rfl).2
  obtain ⟨compW, cW, kW, a4, -, a2, a3, a1⟩ := Cond.arrayOver_spec (va_AO.use (A := args) (cx.kw.2.2.1 "TurningWheel$Ware" q1268))
  obtain ⟨p0, kC, kP, s1, s2, s3, s4, s5, s6, s7⟩ := Cond.superclass_spec k3 (cx.ts _ q1675)
  cases Option.some.inj (s1.symm.trans a4)
  obtain ⟨c0, t0', f1, f2, f3⟩ := Cond.castable_spec (va_Nw.use (A := args) rfl (cx.nest q3042 rfl))
  cases k3.symm.trans f1
  cases a4.symm.trans f2
  have e : "[" ++ (FieldType.object "TurningWheel$Ware").toString = "[LTurningWheel$Ware;" := by decide +kernel
  rw [e] at a1
  refine ⟨cW, a1, ?_⟩
  have hin : s.vm.assignableAux 255 compC compW = true := by
    have h : s.vm.assignableAux (255 + 1) compC compW = true := f3
    rw [Vm.assignableAux, s2, s3] at h
    rw [show (255 : Nat) = 254 + 1 from rfl, Vm.assignableAux, s2, s3]
    simp only [s5, s6] at h ⊢
    exact h
  show s.vm.assignableAux (255 + 1) (Ω.2.1 5) cW = true
  rw [Vm.assignableAux, k1, a2]
  have p1 : s.vm.isPrimitive compC = false := by simp [Vm.isPrimitive, s2, s5]
  have p2 : s.vm.isPrimitive compW = false := by simp [Vm.isPrimitive, s3, s6]
  simp [k2, a3, p1, p2, hin]
theorem J_castW (cx : jCX p s m args meth c cc own Ω nL) {index a : Nat} {x : vp_A} (hdg : decode cc pc = .ok (.checkcast index, 3)) (hlink : Cond.classLink own index "[LTurningWheel$Ware;" ∈ lw_all) (ha : G a = some (.inl (Ω.2.1 5, x)))
    (kk : J p l e R s m args below meth c Ω nL Q cells slots sz G (pc + 3) L (.ref a :: st)) : J p l e R s m args below meth c Ω nL Q cells slots sz G pc L (.ref a :: st) := by
  intro H locs ls g1 g2 g3 g4
  have hvm0 : (vp_cell (Ω.2.1 5) x).vm = .none := by
    obtain ⟨n, f | f | f | f | f⟩ := x <;> rfl
  have hcl0 : (vp_cell (Ω.2.1 5) x).cls = Ω.2.1 5 := by
    obtain ⟨n, f | f | f | f | f⟩ := x <;> rfl
  intro T hT X
  obtain ⟨cW, w1, w2⟩ := jasgW cx
  obtain ⟨vm', X', st9⟩ := X.checkcastYes cx.1 cx.ow (cx.ts _ hlink) (by rw [hT]; exact (g2 _ _ ha).1) (by rw [hvm0]; rfl) w1 (by rw [hcl0]; exact w2) (g := F0 m pc ls (.ref a :: st)) rfl rfl (by rw [cx.2.1]; exact hdg)
  obtain ⟨t, a1, b1⟩ := kk H locs ls g1 g2 g3 g4 (T.setVm vm') hT X'
  exact ⟨t, st9 t a1, b1⟩
/-- clone of an array of class ad2, called through the array type ad (follows the kit's cloneArray) -/
theorem jclone2 {T : State} {locs : List Loc} (X : Stand p l e R s m args below meth c T locs cells slots) (hexec : p.tables.exec = Jvm.exec) {own ad ad2 : String} {index : Nat} (hown : s.vm.findClass own = some m.cls)
    (hlink : (Cond.methodLink own index ⟨ad, "clone", "()Ljava/lang/Object;"⟩).before args s = true) (hsame : (Cond.sameMethod ad "java/lang/Object" "clone" "()Ljava/lang/Object;").before args s = true) (hsame2 : (Cond.sameMethod ad2 "java/lang/Object" "clone" "()Ljava/lang/Object;").before args s = true)
    (hnat : (Cond.native ⟨"java/lang/Object", "clone", "()Ljava/lang/Object;"⟩).before args s = true) (hinst : (Cond.instanceMethod ⟨"java/lang/Object", "clone", "()Ljava/lang/Object;"⟩).before args s = true)
    (hsel : (Cond.selects ad2 ⟨ad2, "clone", "()Ljava/lang/Object;"⟩ ⟨"java/lang/Object", "clone", "()Ljava/lang/Object;"⟩).before args s = true)
    {a : Addr} {cell : Cell} {cC : ClassId} (hcell : T.heap[a]? = some cell) (hobj : ∀ k, cell.vm ≠ .statics k) (hknown : cell.vm ≠ .unknown) (hcls : s.vm.findClass ad2 = some cell.cls)
    (hC : s.vm.findClass "java/lang/Cloneable" = some cC) (hasg : s.vm.assignable cell.cls cC = true) (hfit : ∀ i v, cell.slots[i]? = some v → T.fitsSlot cell.cls .none i v = true)
    {g : JFrame} (hg : g.method = m) (hsize : g.locals.size = c.maxLocals) {rest : List Value} (hstack : g.stack = .ref a :: rest) (hdg : decode c.code g.pc = .ok (.invokevirtual index, 3))
    (hframes : 1 ≤ R.frames) (hlocals : 2 * g.monitorRoom + (rest.map fun v => v.category).sum + 14 ≤ R.locals) (hcells : cells + 1 ≤ R.cells) (hslots : slots + cell.slots.size ≤ R.slots)
    (hloader : s.vm.clonesLoader cell.cls = false) :
    ∃ vm', Stand p l e R s m args below meth c ((T.setVm vm').pushCell { cls := cell.cls, slots := cell.slots }) locs (cells + 1) (slots + cell.slots.size) ∧
      ∀ target, Steps p.tables e below (((T.setVm vm').pushCell { cls := cell.cls, slots := cell.slots }).setTop { g with pc := g.pc + 3, stack := .ref T.heap.size :: rest }) target → Steps p.tables e below (T.setTop g) target := by
  obtain ⟨r, kO, methO, hnO, hmO, hkO, N⟩ := NativeOf.of_instance hnat hinst (ps := []) (ret := some (.object "java/lang/Object")) (by decide +kernel)
  obtain ⟨r', methO', hnO', hmO', -, habs⟩ := Cond.instanceMethod_spec hinst
  cases hnO.symm.trans hnO'
  cases hmO.symm.trans hmO'
  obtain ⟨cn, ck, r1, hcn, hck, -, hf, hn1⟩ := Cond.sameMethod_found hsame2
  cases hnO.symm.trans hn1
  cases hcls.symm.trans hcn
  obtain ⟨c2, r2, m2, q1, q2, q3, q4, mk, hmk, hmki⟩ := Cond.selects_spec hsel
  cases hcls.symm.trans q1
  cases hf.symm.trans q2
  cases hnO.symm.trans q3
  cases hkO.symm.trans hmk
  have hselP : selectMethod e.platform s.vm cell.cls r = .method r := by rw [Launch.admits_selectMethod X.admits]; exact q4
  obtain ⟨vm', X', step⟩ := X.invokevirtualUp hexec hown hlink hsame (by decide) hnO hmO N.static hcell hobj hselP hmO habs hkO hmki hg (argsL := []) (rest := rest) (by rw [N.sig]; rfl) hstack hdg
  refine ⟨vm', X'.pushed _, fun target hrest => step target fun acts => ?_⟩
  subst hg
  have hA' : s.vm.Alike vm' := X'.warmed.alike
  obtain ⟨kO', N'⟩ := N.alike hA'
  obtain ⟨ck', hck', -⟩ := hA'.2.2 _ _ hck
  obtain ⟨kC, hkC, -⟩ := Vm.findClass_spec hC
  obtain ⟨kC', hkC', -⟩ := hA'.2.2 _ _ hkC
  have hroom := X.room
  simp only [State.hasRoom, Bool.and_eq_true, decide_eq_true_eq] at hroom
  have h1 := X.heapSize
  have h2 := X.used
  exact Steps.cloneOf (g := { g with stack := rest }) (ig := .invokevirtual index) (len := 3) p X'.here acts N'
    (X'.notFull (g := { g with stack := rest }) hsize (vars := nativeFrameWords "java/lang/Object" "clone" 1) hframes (by rw [show nativeFrameWords "java/lang/Object" "clone" 1 = 3 from by decide]; exact hlocals))
    hcell hobj hknown ⟨ck', hck'⟩ (by show vm'.findClass _ = _; rw [hA'.findClass]; exact hC) ⟨kC', hkC'⟩ (by show vm'.assignable _ _ = _; rw [hA'.assignable]; exact hasg) (Launch.admits_finalization X.admits)
    (by show T.heap.size < _; omega) (by show T.slotsUsed + _ ≤ _; omega) (fun i v hv => by rw [State.fitsSlot_setVm (X.warmed.alike.symm.trans hA')]; exact hfit i v hv) hdg hrest (by show vm'.clonesLoader _ = false; rw [hA'.clonesLoader]; exact hloader)
/-- clone of the shelf's array -/
theorem J_cloneW (cx : jCX p s m args meth c cc own Ω nL) {index a n : Nat} {f : Nat → Option Nat} (hdg : decode cc pc = .ok (.invokevirtual index, 3))
    (hlink : Cond.methodLink own index ⟨"[LTurningWheel$Ware;", "clone", "()Ljava/lang/Object;"⟩ ∈ lw_all) (ha : G a = some (.inl (Ω.2.1 5, n, jAq f)))
    (hframes : 1 ≤ R.frames) (hlocals : (st.map fun v => v.category).sum + 14 ≤ R.locals) (hcells : cells + 1 ≤ R.cells) (hslots : slots + n ≤ R.slots)
    (kk : J p l e R s m args below meth c Ω nL Q (cells + 1) (slots + n) (sz + 1) (gset G sz (.inl (Ω.2.1 5, n, jAq f))) (pc + 3) L (.ref sz :: st)) :
    J p l e R s m args below meth c Ω nL Q cells slots sz G pc L (.ref a :: st) := by
  intro H locs ls g1 g2 g3 g4
  have hsz : (vp_cell (Ω.2.1 5) (n, jAq f)).slots.size = n := arrV_size _ _ _
  have hcellE : ({ cls := (vp_cell (Ω.2.1 5) (n, jAq f)).cls, slots := (vp_cell (Ω.2.1 5) (n, jAq f)).slots } : Cell) = vp_cell (Ω.2.1 5) (n, jAq f) := rfl
  obtain ⟨c0, t0', f1, f2, f3⟩ := Cond.castable_spec (va_Nw.use (A := args) rfl (cx.nest q3039 rfl))
  have hnm := cx.nmC
  cases hnm.symm.trans f1
  intro T hT X
  have hcellT : T.heap[a]? = some (vp_cell (Ω.2.1 5) (n, jAq f)) := by rw [hT]; exact (g2 _ _ ha).1
  obtain ⟨-, kA, hkA, comp, hkind⟩ := State.isArrayOf_alike X.warmed.alike ((cx.K.2 5 _ rfl).1 0 (fun _ => .null))
  obtain ⟨-, kS, hkS, compS, hkindS⟩ := (cx.K.2 5 _ rfl).1 0 (fun _ => .null)
  obtain ⟨vm', X', st9⟩ := jclone2 X cx.1 cx.ow (cx.ts _ hlink) (cx.ts _ q1265) (cx.ts _ q3037) (cx.ts _ q405) (cx.ts _ q406) (cx.ts _ q3038) (a := a) (cell := vp_cell (Ω.2.1 5) (n, jAq f)) hcellT (fun k h => by cases h) (fun h => by cases h) hnm f2 f3
    (fun i v hv => by
      have hk' : T.vm.classes[Ω.2.1 5]? = some kA := hkA
      show T.fitsSlot (Ω.2.1 5) .none i v = true
      simpa [State.fitsSlot, State.slotType?, hk', hkind] using jfit_q (C := "TurningWheel$Coated") i v hv)
    (g := F0 m pc ls (.ref a :: st)) rfl (g4.1.trans cx.2.2.1.symm) rfl (by rw [cx.2.1]; exact hdg) hframes (by show 2 * 0 + _ + 14 ≤ _; omega) hcells (by rw [hsz]; exact hslots) (Vm.clonesLoader_of_array hkS hkindS)
  rw [hcellE, hsz] at X'
  have o1 : ∀ q : Nat, q < H.size → (H.push (vp_cell (Ω.2.1 5) (n, jAq f)))[q]? = H[q]? := fun q hq => by rw [Array.getElem?_push, if_neg (Nat.ne_of_lt hq)]
  obtain ⟨t, b1, b2⟩ := kk (H.push (vp_cell (Ω.2.1 5) (n, jAq f))) locs ls (by rw [Array.size_push, g1]) (g2.push g1 (show (H.push (vp_cell (Ω.2.1 5) (n, jAq f)))[sz]? = some _ by rw [← g1, Array.getElem?_push_size]) (fun q hq => o1 q (by rw [g1]; exact hq)))
    ⟨Nat.le_trans g3.1 (by rw [Array.size_push]; omega), fun y h1 h2 => (o1 y (Nat.lt_of_lt_of_le h1 g3.1)).trans (g3.2.1 y h1 h2), g3.2.2⟩ g4
    ((T.setVm vm').pushCell (vp_cell (Ω.2.1 5) (n, jAq f))) (by rw [← hT]; rfl) X'
  refine ⟨t, st9 t ?_, b2⟩
  rw [hcellE, hT, g1]
  exact b1
end JR13
