/-! THE JUDGEMENT J, PART FIVE: exceptions -/
set_option maxRecDepth 100000
/-- a method's end by a throw: the class' index, the exception's address, the memory, the heap's size -/
def jXC (Ω : jO) (xpost : Nat → Nat → Mem → Nat → Prop) : String → Addr → State → State → Prop := fun E q st t =>
  (∃ (ci : Nat) (r : vw_C) (fs : List Value) (G' : Mem) (sz' : Nat), vwCl[ci]? = some r ∧ r.1 = E ∧ xpost ci q G' sz' ∧ G' q = some (.inr (ci, fs)) ∧ t.heap.size = sz' ∧ jGR Ω.1 G' t.heap) ∧ va_F (jB Ω) st t
/-- an exception q on its way, at pc -/
def JX (p : Program) (l : Launch) (e : Env) (R : Room) (s : State) (m : MethodId) (args : Array Value) (below : List Frame) (meth : Method) (c : Code) (Ω : jO) (nL : Nat) (Q : State → Prop) (cells slots sz : Nat) (G : Mem) (pc : Nat) (L : List (Option Value)) (q : Nat) : Prop :=
  ∀ (H : Heap) (locs : List Loc) (ls : Array Slot) (rest : List Value), H.size = sz → jGR Ω.1 G H → va_S (jB Ω) s.heap H locs → jL ls nL L → vx_W p l e R s m args below meth c H locs cells slots Q (F0 m pc ls rest) q
section JR9
variable {p : Program} {l : Launch} {e : Env} {R : Room} {s : State} {m : MethodId} {args : Array Value} {below : List Frame} {meth : Method} {c : Code} {Q : State → Prop} {Ω : jO} {nL : Nat}
variable {cells slots sz : Nat} {G : Mem} {L : List (Option Value)} {st : List Value} {cc : ByteArray} {own : String} {pc : Nat}
theorem J_athrow (cx : jCX p s m args meth c cc own Ω nL) {q : Nat} (hdg : decode cc pc = .ok (.athrow, 1)) (kk : JX p l e R s m args below meth c Ω nL Q cells slots sz G pc L q) : J p l e R s m args below meth c Ω nL Q cells slots sz G pc L (.ref q :: st) := fun H locs ls h1 h2 h3 h4 =>
  vx_athrow cx.1 cx.2.1 hdg (kk H locs ls _ h1 h2 h3 h4)
/-- the exception's cell -/
theorem jxcell (cx : jCX p s m args meth c cc own Ω nL) {H : Heap} {q ci : Nat} {r : vw_C} {fs : List Value} (h2 : jGR Ω.1 G H) (hc : vwCl[ci]? = some r) (hq : G q = some (.inr (ci, fs))) : ∃ ce : Cell, H[q]? = some ce ∧ ce.vm = .none ∧ s.vm.findClass r.1 = some ce.cls := by
  obtain ⟨r', h1, cell, q1, q2, q3, -⟩ := (h2 _ _ hq).1
  cases Option.some.inj (h1.symm.trans hc)
  exact ⟨cell, q1, q3, by rw [q2]; exact (cx.K.1 ci _ hc).2.1⟩
theorem JX_out (cx : jCX p s m args meth c cc own Ω nL) {post : Option Value → Mem → Nat → Prop} {xpost : Nat → Nat → Mem → Nat → Prop} {q ci : Nat} {r : vw_C} {fs : List Value} {mc ms : Nat} (hout : ∀ x ∈ c.exceptionTable.toList, covers x pc = false) (hc : vwCl[ci]? = some r) (hq : G q = some (.inr (ci, fs))) (hp : xpost ci q G sz) (hmc : cells ≤ mc) (hms : slots ≤ ms) :
    JX p l e R s m args below meth c Ω nL (vx_MQ below (jQ Ω post) (jXC Ω xpost) args s mc ms (jB Ω)) cells slots sz G pc L q := by
  intro H locs ls rest h1 h2 h3 h4
  obtain ⟨ce, e1, e2, e3⟩ := jxcell cx h2 hc hq
  exact vx_out hout cx.lk e1 e2 e3 (fun t ht _ => by
    subst ht
    exact ⟨⟨ci, r, fs, G, sz, hc, rfl, hp, hq, h1, h2⟩, h3.F rfl⟩) h3.2.2 hmc hms
/-- an ordinary end of a method that may throw -/
theorem J_xret {post : Option Value → Mem → Nat → Prop} {xpost : Nat → Nat → Mem → Nat → Prop} {mc ms : Nat} (kk : J p l e R s m args below meth c Ω nL (MQ below (jQ Ω post) args s mc ms (jB Ω)) cells slots sz G pc L st) : J p l e R s m args below meth c Ω nL (vx_MQ below (jQ Ω post) (jXC Ω xpost) args s mc ms (jB Ω)) cells slots sz G pc L st := fun H locs ls h1 h2 h3 h4 => vx_ret (kk H locs ls h1 h2 h3 h4)
/-- the contract of a method without handlers that may throw -/
theorem jMetX {y : MethodName} {rm : Room} {av : List Value} {post : Option Value → Mem → Nat → Prop} {xpost : Nat → Nat → Mem → Nat → Prop} {mc ms : Nat} {ret : Option FieldType} (hy : plainName y.cls = true) (hla : (jargs av).length ≤ nL)
    (body : ∀ (p : Program) (e : Env) (s : State) (m : MethodId) (args : Array Value) (below : List Frame) (meth : Method) (c : Code), jCX p s m args meth c cc y.cls Ω nL → meth.sig.returnType = ret → meth.name = y.name → (∀ x ∈ c.exceptionTable.toList, False) → J p l e rm s m args below meth c Ω nL (vx_MQ below (jQ Ω post) (jXC Ω xpost) args s mc ms (jB Ω)) 0 0 sz G 0 (jargs av ++ List.replicate (nL - (jargs av).length) none) []) :
    vx_Met l y (ws_ y cc nL ret) rm (va_Pc av (jWd Ω G sz)) (jQ Ω post) (jXC Ω xpost) mc ms (jB Ω) := by
  refine vx_ofW (cc := cc) (maxL := nL) (ret := ret) hy rfl ?_
  intro p e s m args below meth c s₁ B hml hex hv
  obtain ⟨rfl, hsz, hgr, hkw, hbs, hst⟩ := hv
  have hts := atoms_spec (ws := ws_ y cc nL ret) B.pre
  have cx : jCX p s m av.toArray meth c cc y.cls Ω nL := ⟨B.exec, B.bytes, hml, findClass_of_methodNamed B.named, fun w h => hts w (List.mem_cons_of_mem _ h), hkw, by rw [hsz]; exact hbs, B.notSynchronized, hst⟩
  rw [lg_entry_eq]
  exact body p e s m av.toArray below meth c cx B.returns (name_of_methodNamed B.named B.method).1 hex s.heap [] _ hsz hgr va_S.rf (jL_entry av hla)
/-- a call that may throw -/
theorem jrunX (cx : jCX p s m args meth c cc own Ω nL) {st0 rest : List Value} {mc ms : Nat} {a : Array Value} {post : Option Value → Mem → Nat → Prop} {xpost : Nat → Nat → Mem → Nat → Prop}
    (hr : ∀ (H : Heap) (locs : List Loc) (ls : Array Slot), H.size = sz → jGR Ω.1 G H → va_S (jB Ω) s.heap H locs → jL ls nL L → vx_Run p l e R s m args below meth c H locs cells slots mc ms (F0 m pc ls st0) rest (jQ Ω post a) (jXC Ω xpost) (jB Ω))
    (kk : ∀ (v : Option Value) (G1 : Mem) (sz1 : Nat), post v G1 sz1 → sz ≤ sz1 → J p l e R s m args below meth c Ω nL Q (cells + mc) (slots + ms) sz1 G1 (pc + 3) L (v.toList ++ rest))
    (kx : ∀ (ci q : Nat) (r : vw_C) (fs : List Value) (G1 : Mem) (sz1 : Nat), vwCl[ci]? = some r → G1 q = some (.inr (ci, fs)) → xpost ci q G1 sz1 → sz ≤ sz1 → JX p l e R s m args below meth c Ω nL Q (cells + mc) (slots + ms) sz1 G1 pc L q) : J p l e R s m args below meth c Ω nL Q cells slots sz G pc L st0 := by
  intro H locs ls h1 h2 h3 h4
  intro T hT X
  rcases hr H locs ls h1 h2 h3 h4 T hT X with ⟨v, st₀, t, T', L', h0, X', hL, e1, e2, ⟨⟨v', G1, sz1, hv, hpost, hsz, hgr⟩, hz, hk⟩, hst⟩ | ⟨q, st₀, t, T', L', E, ce, h0, X', hL, e1, e2, ⟨⟨ci, r, fs, G1, sz1, hc, hE, hxp, hq, hsz, hgr⟩, hz, hk⟩, hce, hcv, hcl, hst⟩
  · cases hv
    rw [h0] at hz hk
    obtain ⟨t2, a1, b1⟩ := kk v G1 sz1 hpost (by rw [← hsz, ← h1]; exact hz) T'.heap (locs ++ L') ls (by rw [e1]; exact hsz) (by rw [e1]; exact hgr)
      ⟨Nat.le_trans h3.1 (by rw [e1]; exact hz), fun q g1 g2 => by rw [e1, hk q (Nat.lt_of_lt_of_le g1 h3.1) g2]; exact h3.2.1 q g1 g2, fun q hq => by
        rcases List.mem_append.mp hq with h | h
        · exact h3.2.2 q h
        · exact hL q h⟩ h4 T' rfl X'
    exact ⟨t2, hst t2 a1, b1⟩
  · rw [h0] at hz hk
    obtain ⟨t2, a1, b1⟩ := kx ci q r fs G1 sz1 hc hq hxp (by rw [← hsz, ← h1]; exact hz) T'.heap (locs ++ L') ls rest (by rw [e1]; exact hsz) (by rw [e1]; exact hgr)
      ⟨Nat.le_trans h3.1 (by rw [e1]; exact hz), fun q g1 g2 => by rw [e1, hk q (Nat.lt_of_lt_of_le g1 h3.1) g2]; exact h3.2.1 q g1 g2, fun q hq => by
        rcases List.mem_append.mp hq with h | h
        · exact h3.2.2 q h
        · exact hL q h⟩ h4 T' rfl X'
    exact ⟨t2, hst.trans a1, b1⟩
abbrev jK9x (p : Program) (l : Launch) (e : Env) (R : Room) (s : State) (m : MethodId) (args : Array Value) (below : List Frame) (meth : Method) (c : Code) (Ω : jO) (nL : Nat) (Q : State → Prop) (cells slots sz pc : Nat) (L : List (Option Value)) (xpost : Nat → Nat → Mem → Nat → Prop) : Prop :=
  ∀ (ci q : Nat) (r : vw_C) (fs : List Value) (G1 : Mem) (sz1 : Nat), vwCl[ci]? = some r → G1 q = some (.inr (ci, fs)) → xpost ci q G1 sz1 → sz ≤ sz1 → JX p l e R s m args below meth c Ω nL Q cells slots sz1 G1 pc L q
/-- invokevirtual of a method that may throw -/
theorem J_callVX (cx : jCX p s m args meth c cc own Ω nL) {y : MethodName} {bytes : ByteArray} {maxL n index mc ms ci b : Nat} {ret : Option FieldType} {q : vw_C} {fs : List Value} {rm : Room} {post : Option Value → Mem → Nat → Prop} {xpost : Nat → Nat → Mem → Nat → Prop} (As : List Value) {rest st0 : List Value}
    (hM : vx_Met l y (ws_ y bytes maxL ret) rm (va_Pc (.ref b :: As) (jWd Ω G sz)) (jQ Ω post) (jXC Ω xpost) mc ms (jB Ω)) (hdg : decode cc pc = .ok (.invokevirtual index, 3))
    (hw : GoodIn lw_all (wsV own index q.1 y (ws_ y bytes maxL ret))) (hd : y.cls = q.1 ∧ y.cls ≠ "java/lang/invoke/MethodHandle" ∧ y.cls ≠ "java/lang/invoke/VarHandle" ∧ (parseMethodDescriptor y.desc).map (fun d => d.parameters.length) = some n) (hc : vwCl[ci]? = some q) (hb : G b = some (.inr (ci, fs)))
    (hrc : rm.cells = mc) (hrs : rm.slots = ms) (hR : rm.frames + 1 ≤ R.frames ∧ 8 + (maxL + 11) + rm.locals ≤ R.locals) (hn : As.length = n) (hstack : st0 = As.reverse ++ .ref b :: rest) (hW : (rest.map fun v => v.category).sum ≤ 8) (hf : cells + mc ≤ R.cells ∧ slots + ms ≤ R.slots)
    (kk : ∀ (v : Option Value) (G1 : Mem) (sz1 : Nat), post v G1 sz1 → sz ≤ sz1 → J p l e R s m args below meth c Ω nL Q (cells + mc) (slots + ms) sz1 G1 (pc + 3) L (v.toList ++ rest))
    (kx : jK9x p l e R s m args below meth c Ω nL Q (cells + mc) (slots + ms) sz pc L xpost) : J p l e R s m args below meth c Ω nL Q cells slots sz G pc L st0 := by
  subst hstack
  exact jrunX cx (fun H locs ls h1 h2 h3 h4 => vx_runV (jfix cx) hM (cwV n cx.ts hw rfl hrc hrs hd hR) ⟨jWd.blind _, jrecv cx h2 hc hb, fun U hU hW9 => ⟨rfl, jWd.call cx h1 h2 h3 hU hW9⟩⟩ rfl hn h4.1 rfl (lv_room hW) hdg hf) kk kx
/-- caught by the table's first row that covers -/
theorem JX_catch (cx : jCX p s m args meth c cc own Ω nL) {name : String} {q ci : Nat} {r : vw_C} {fs : List Value} (pre : List ExceptionTableEntry) (x : ExceptionTableEntry) (suf : List ExceptionTableEntry) (hsplit : c.exceptionTable.toList = pre ++ x :: suf)
    (hpass : ∀ z ∈ pre, covers z pc = false ∨ (z.catchType ≠ 0 ∧ ∃ nm : String, (Cond.classLink own z.catchType nm).before args s = true ∧ va_Nc r.1 nm s)) (hx : covers x pc = true) (h0 : x.catchType ≠ 0)
    (hlink : Cond.classLink own x.catchType name ∈ lw_all) (hcast : Cond.castable r.1 name ∈ lw_tbl) (hc : vwCl[ci]? = some r) (hq : G q = some (.inr (ci, fs)))
    (kk : J p l e R s m args below meth c Ω nL Q cells slots sz G x.handlerPc L [.ref q]) : JX p l e R s m args below meth c Ω nL Q cells slots sz G pc L q := by
  intro H locs ls rest h1 h2 h3 h4
  obtain ⟨ce, e1, e2, e3⟩ := jxcell cx h2 hc hq
  exact vx_catch cx.ow pre x suf hsplit hpass hx h0 (cx.ts _ hlink) (va_Nw.use rfl (cx.nest hcast rfl)) e1 e2 e3 (kk H locs ls h1 h2 h3 h4)
end JR9
