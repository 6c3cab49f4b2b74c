/-! THE JUDGEMENT J, PART TWO: calls of nest mates, inherited, abstract, interface and super methods; arrays of references; casts; statics; Math -/
set_option maxRecDepth 100000
section JR2
variable {p : Program} {l : Launch} {e : Env} {R : Room} {s : State} {m : MethodId} {args : Array Value} {below : List Frame} {meth : Method} {c : Code} {Q : State → Prop} {Ω : jO} {nL : Nat}
variable {cells slots sz : Nat} {G : Mem} {L : List (Option Value)} {st : List Value} {cc : ByteArray} {own : String} {pc : Nat}
abbrev jK9 (p : Program) (l : Launch) (e : Env) (R : Room) (s : State) (m : MethodId) (args : Array Value) (below : List Frame) (meth : Method) (c : Code) (Ω : jO) (nL : Nat) (Q : State → Prop) (cells slots sz pc : Nat) (L : List (Option Value)) (rest : List Value) (post : Option Value → Mem → Nat → Prop) : Prop :=
  ∀ (v : Option Value) (G1 : Mem) (sz1 : Nat), post v G1 sz1 → sz ≤ sz1 → J p l e R s m args below meth c Ω nL Q cells slots sz1 G1 pc L (v.toList ++ rest)
theorem jrun5 (cx : jCX p s m args meth c cc own Ω nL) {st0 rest : List Value} {mc ms : Nat} {a : Array Value} {post : Option Value → Mem → Nat → Prop}
    (hr : ∀ (H : Heap) (locs : List Loc) (ls : Array Slot), H.size = sz → jGR Ω.1 G H → va_S (jB Ω) s.heap H locs → jL ls nL L → va_Run5 p l e R s m args below meth c H locs cells slots mc ms (F0 m pc ls st0) rest (jQ Ω post a) (jB Ω))
    (kk : jK9 p l e R s m args below meth c Ω nL Q (cells + mc) (slots + ms) sz (pc + 5) L rest post) : J p l e R s m args below meth c Ω nL Q cells slots sz G pc L st0 := by
  intro H locs ls h1 h2 h3 h4
  intro T hT X
  obtain ⟨v, st₀, t, T', L', h0, X', hL, e1, e2, ⟨⟨v', G1, sz1, hv, hpost, hsz, hgr⟩, hz, hk⟩, hst⟩ := hr H locs ls h1 h2 h3 h4 T hT X
  cases hv
  rw [h0] at hz hk
  obtain ⟨t2, a1, b1⟩ := kk v G1 sz1 hpost (by rw [← hsz, ← h1]; exact hz) T'.heap (locs ++ L') ls (by rw [e1]; exact hsz) (by rw [e1]; exact hgr)
    ⟨Nat.le_trans h3.1 (by rw [e1]; exact hz), fun q g1 g2 => by rw [e1, hk q (Nat.lt_of_lt_of_le g1 h3.1) g2]; exact h3.2.1 q g1 g2, fun q hq => by
      rcases List.mem_append.mp hq with h | h
      · exact h3.2.2 q h
      · exact hL q h⟩ h4 T' rfl X'
  exact ⟨t2, hst t2 a1, b1⟩
/-- a private method of a nest mate -/
theorem J_callVN (cx : jCX p s m args meth c cc own Ω nL) {y : MethodName} {host : String} {bytes : ByteArray} {maxL n index mc ms ci b : Nat} {ret : Option FieldType} {q : vw_C} {fs : List Value} {rm : Room} {post : Option Value → Mem → Nat → Prop} (As : List Value) {rest st0 : List Value}
    (hM : Met l y (ws_ y bytes maxL ret) rm (va_Pc (.ref b :: As) (jWd Ω G sz)) (jQ Ω post) mc ms (jB Ω)) (hdg : decode cc pc = .ok (.invokevirtual index, 3))
    (hcode : Cond.code y bytes maxL ret ∈ lw_all) (hlk : Cond.methodLinkNest own index y host ∈ lw_tbl) (hini : Cond.initialized y.cls ∈ lw_all) (hins : Cond.instanceMethod y ∈ lw_all) (hsel : Cond.selects q.1 y y ∈ lw_all) (hd : y.cls ≠ "java/lang/invoke/MethodHandle" ∧ y.cls ≠ "java/lang/invoke/VarHandle" ∧ (parseMethodDescriptor y.desc).map (fun d => d.parameters.length) = some n) (hc : vwCl[ci]? = some q) (hb : G b = some (.inr (ci, fs)))
    (hrc : rm.cells = mc) (hrs : rm.slots = ms) (hR : rm.frames + 1 ≤ R.frames ∧ 8 + (maxL + 11) + rm.locals ≤ R.locals) (hn : As.length = n) (hstack : st0 = As.reverse ++ .ref b :: rest) (hW : (rest.map fun v => v.category).sum ≤ 8) (hf : cells + mc ≤ R.cells ∧ slots + ms ≤ R.slots)
    (kk : jK9 p l e R s m args below meth c Ω nL Q (cells + mc) (slots + ms) sz (pc + 3) L rest post) : J p l e R s m args below meth c Ω nL Q cells slots sz G pc L st0 := by
  subst hstack
  refine jrun cx (fun H locs ls h1 h2 h3 h4 => va_runVN (jfix cx) hM ⟨va_cnB n cx.ts (lw_meth hcode) rfl hrc hrs (cx.nest hlk rfl) (cx.ts _ hini) hd hR, cx.ts _ hins, cx.ts _ hsel⟩ ⟨jWd.blind _, jrecv cx h2 hc hb, fun U hU hW9 => ⟨rfl, jWd.call cx h1 h2 h3 hU hW9⟩⟩ rfl hn h4.1 rfl (lv_room hW) hdg hf) kk
theorem J_callSN (cx : jCX p s m args meth c cc own Ω nL) {y : MethodName} {host : String} {bytes : ByteArray} {maxL n index mc ms : Nat} {ret : Option FieldType} {rm : Room} {post : Option Value → Mem → Nat → Prop} (As : List Value) {rest st0 : List Value}
    (hM : Met l y (ws_ y bytes maxL ret) rm (va_Pc As (jWd Ω G sz)) (jQ Ω post) mc ms (jB Ω)) (hdg : decode cc pc = .ok (.invokestatic index, 3))
    (hcode : Cond.code y bytes maxL ret ∈ lw_all) (hlk : Cond.methodLinkNest own index y host ∈ lw_tbl) (hini : Cond.initialized y.cls ∈ lw_all) (hsta : Cond.static y ∈ lw_all) (hd : y.cls ≠ "java/lang/invoke/MethodHandle" ∧ y.cls ≠ "java/lang/invoke/VarHandle" ∧ (parseMethodDescriptor y.desc).map (fun d => d.parameters.length) = some n)
    (hrc : rm.cells = mc) (hrs : rm.slots = ms) (hR : rm.frames + 1 ≤ R.frames ∧ 8 + (maxL + 11) + rm.locals ≤ R.locals) (hn : As.length = n) (hstack : st0 = As.reverse ++ rest) (hW : (rest.map fun v => v.category).sum ≤ 8) (hf : cells + mc ≤ R.cells ∧ slots + ms ≤ R.slots)
    (kk : jK9 p l e R s m args below meth c Ω nL Q (cells + mc) (slots + ms) sz (pc + 3) L rest post) : J p l e R s m args below meth c Ω nL Q cells slots sz G pc L st0 := by
  subst hstack
  refine jrun cx (fun H locs ls h1 h2 h3 h4 => va_runSN (jfix cx) hM ⟨va_cnB n cx.ts (lw_meth hcode) rfl hrc hrs (cx.nest hlk rfl) (cx.ts _ hini) hd hR, cx.ts _ hsta, trivial⟩ ⟨jWd.blind _, fun U hU hW9 => ⟨rfl, jWd.call cx h1 h2 h3 hU hW9⟩⟩ rfl hn h4.1 rfl (lv_room hW) hdg hf) kk
theorem J_callIN (cx : jCX p s m args meth c cc own Ω nL) {y : MethodName} {host : String} {bytes : ByteArray} {maxL n index mc ms b : Nat} {rm : Room} {post : Option Value → Mem → Nat → Prop} (As : List Value) {rest st0 : List Value}
    (hM : Met l y (ws_ y bytes maxL none) rm (va_Pc (.ref b :: As) (jWd Ω G sz)) (jQ Ω post) mc ms (jB Ω)) (hdg : decode cc pc = .ok (.invokespecial index, 3))
    (hcode : Cond.code y bytes maxL none ∈ lw_all) (hini : Cond.initialized y.cls ∈ lw_all) (hlk : Cond.methodLinkNest own index y host ∈ lw_tbl) (hin : Cond.instanceMethod y ∈ lw_all) (hy1 : y.name = "<init>") (hd : y.cls ≠ "java/lang/invoke/MethodHandle" ∧ y.cls ≠ "java/lang/invoke/VarHandle" ∧ (parseMethodDescriptor y.desc).map (fun d => d.parameters.length) = some n)
    (hrc : rm.cells = mc) (hrs : rm.slots = ms) (hR : rm.frames + 1 ≤ R.frames ∧ 8 + (maxL + 11) + rm.locals ≤ R.locals) (hn : As.length = n) (hstack : st0 = As.reverse ++ .ref b :: rest) (hW : (rest.map fun v => v.category).sum ≤ 8) (hf : cells + mc ≤ R.cells ∧ slots + ms ≤ R.slots)
    (kk : jK9 p l e R s m args below meth c Ω nL Q (cells + mc) (slots + ms) sz (pc + 3) L rest post) : J p l e R s m args below meth c Ω nL Q cells slots sz G pc L st0 := by
  subst hstack
  refine jrun cx (fun H locs ls h1 h2 h3 h4 => va_runIN (jfix cx) hM ⟨va_cnB n cx.ts (lw_meth hcode) rfl hrc hrs (cx.nest hlk rfl) (cx.ts _ hini) hd hR, hy1, cx.ts _ hin⟩ ⟨jWd.blind _, fun U hU hW9 => ⟨rfl, jWd.call cx h1 h2 h3 hU hW9⟩⟩ rfl hn h4.1 rfl (lv_room hW) hdg hf) kk
/-- a method found above the receiver's class, by its own name (owner declares the code that runs) -/
theorem J_callU (cx : jCX p s m args meth c cc own Ω nL) {x y : MethodName} {owner : String} {bytes : ByteArray} {maxL n index mc ms ci b : Nat} {ret : Option FieldType} {q : vw_C} {fs : List Value} {rm : Room} {post : Option Value → Mem → Nat → Prop} (As : List Value) {rest st0 : List Value}
    (hM : Met l y (ws_ y bytes maxL ret) rm (va_Pc (.ref b :: As) (jWd Ω G sz)) (jQ Ω post) mc ms (jB Ω)) (hdg : decode cc pc = .ok (.invokevirtual index, 3))
    (hcode : Cond.code y bytes maxL ret ∈ lw_all) (hlk : Cond.methodLink own index x ∈ lw_all) (hsame : Cond.sameMethod x.cls owner x.name x.desc ∈ lw_all) (hsel : Cond.selects q.1 x y ∈ lw_all) (hins : Cond.instanceMethod y ∈ lw_all) (hini : Cond.initialized y.cls ∈ lw_all) (hyx : y = ⟨owner, x.name, x.desc⟩)
    (hd : owner ≠ "java/lang/invoke/MethodHandle" ∧ owner ≠ "java/lang/invoke/VarHandle" ∧ (parseMethodDescriptor x.desc).map (fun d => d.parameters.length) = some n) (hc : vwCl[ci]? = some q) (hb : G b = some (.inr (ci, fs)))
    (hrc : rm.cells = mc) (hrs : rm.slots = ms) (hR : rm.frames + 1 ≤ R.frames ∧ 8 + (maxL + 11) + rm.locals ≤ R.locals) (hn : As.length = n) (hstack : st0 = As.reverse ++ .ref b :: rest) (hW : (rest.map fun v => v.category).sum ≤ 8) (hf : cells + mc ≤ R.cells ∧ slots + ms ≤ R.slots)
    (kk : jK9 p l e R s m args below meth c Ω nL Q (cells + mc) (slots + ms) sz (pc + 3) L rest post) : J p l e R s m args below meth c Ω nL Q cells slots sz G pc L st0 := by
  subst hstack
  have hg : GoodIn lw_all (va_wsU own index q.1 owner x y (ws_ y bytes maxL ret)) := by
    refine lw_app ?_ (lw_meth hcode)
    intro w hw
    simp only [List.mem_cons, List.not_mem_nil, or_false] at hw
    rcases hw with e | e | e | e | e <;> (rw [e]; assumption)
  refine jrun cx (fun H locs ls h1 h2 h3 h4 => (va_runU (jfix cx) hM (va_cwU n cx.ts hg rfl hrc hrs hyx hd hR) ⟨jWd.blind _, jrecv cx h2 hc hb, fun U hU hW9 => ⟨rfl, jWd.call cx h1 h2 h3 hU hW9⟩⟩ rfl hn h4.1 rfl (lv_room hW) hdg hf)) kk
/-- an overriding method: the named one has code, that isn't run -/
theorem J_callO (cx : jCX p s m args meth c cc own Ω nL) {x y : MethodName} {owner : String} {bytes : ByteArray} {maxL n index mc ms ci b : Nat} {ret : Option FieldType} {q : vw_C} {fs : List Value} {rm : Room} {post : Option Value → Mem → Nat → Prop} (As : List Value) {rest st0 : List Value}
    (hM : Met l y (ws_ y bytes maxL ret) rm (va_Pc (.ref b :: As) (jWd Ω G sz)) (jQ Ω post) mc ms (jB Ω)) (hdg : decode cc pc = .ok (.invokevirtual index, 3))
    (hcode : Cond.code y bytes maxL ret ∈ lw_all) {b0 : ByteArray} {m0 : Nat} {r0 : Option FieldType} (h0 : Cond.code ⟨owner, x.name, x.desc⟩ b0 m0 r0 ∈ lw_all) (hlk : Cond.methodLink own index x ∈ lw_all) (hsame : Cond.sameMethod x.cls owner x.name x.desc ∈ lw_all) (hsel : Cond.selects q.1 x y ∈ lw_all) (hins : Cond.instanceMethod y ∈ lw_all) (hins0 : Cond.instanceMethod ⟨owner, x.name, x.desc⟩ ∈ lw_all) (hini : Cond.initialized y.cls ∈ lw_all)
    (hd : owner ≠ "java/lang/invoke/MethodHandle" ∧ owner ≠ "java/lang/invoke/VarHandle" ∧ (parseMethodDescriptor x.desc).map (fun d => d.parameters.length) = some n) (hc : vwCl[ci]? = some q) (hb : G b = some (.inr (ci, fs)))
    (hrc : rm.cells = mc) (hrs : rm.slots = ms) (hR : rm.frames + 1 ≤ R.frames ∧ 8 + (maxL + 11) + rm.locals ≤ R.locals) (hn : As.length = n) (hstack : st0 = As.reverse ++ .ref b :: rest) (hW : (rest.map fun v => v.category).sum ≤ 8) (hf : cells + mc ≤ R.cells ∧ slots + ms ≤ R.slots)
    (kk : jK9 p l e R s m args below meth c Ω nL Q (cells + mc) (slots + ms) sz (pc + 3) L rest post) : J p l e R s m args below meth c Ω nL Q cells slots sz G pc L st0 := by
  subst hstack
  have hg : GoodIn lw_all (va_wsO own index q.1 owner x y (ws_ y bytes maxL ret)) := by
    refine lw_app ?_ (lw_meth hcode)
    intro w hw
    simp only [List.mem_cons, List.not_mem_nil, or_false] at hw
    rcases hw with e | e | e | e | e | e <;> (rw [e]; assumption)
  refine jrun cx (fun H locs ls h1 h2 h3 h4 => (va_runU (jfix cx) hM (va_cwO n cx.ts hg rfl hrc hrs h0 hd hR) ⟨jWd.blind _, jrecv cx h2 hc hb, fun U hU hW9 => ⟨rfl, jWd.call cx h1 h2 h3 hU hW9⟩⟩ rfl hn h4.1 rfl (lv_room hW) hdg hf)) kk
/-- the named method is abstract -/
theorem J_callA (cx : jCX p s m args meth c cc own Ω nL) {x y : MethodName} {owner : String} {bytes : ByteArray} {maxL n index mc ms ci b : Nat} {ret : Option FieldType} {q : vw_C} {fs : List Value} {rm : Room} {post : Option Value → Mem → Nat → Prop} (As : List Value) {rest st0 : List Value}
    (hM : Met l y (ws_ y bytes maxL ret) rm (va_Pc (.ref b :: As) (jWd Ω G sz)) (jQ Ω post) mc ms (jB Ω)) (hdg : decode cc pc = .ok (.invokevirtual index, 3))
    (hcode : Cond.code y bytes maxL ret ∈ lw_all) (hdc : Cond.declares ⟨owner, x.name, x.desc⟩ ∈ lw_tbl) (hlk : Cond.methodLink own index x ∈ lw_all) (hsame : Cond.sameMethod x.cls owner x.name x.desc ∈ lw_all) (hsel : Cond.selects q.1 x y ∈ lw_all) (hins : Cond.instanceMethod y ∈ lw_all) (hini : Cond.initialized y.cls ∈ lw_all)
    (hd : owner ≠ "java/lang/invoke/MethodHandle" ∧ owner ≠ "java/lang/invoke/VarHandle" ∧ (parseMethodDescriptor x.desc).map (fun d => d.parameters.length) = some n) (hc : vwCl[ci]? = some q) (hb : G b = some (.inr (ci, fs)))
    (hrc : rm.cells = mc) (hrs : rm.slots = ms) (hR : rm.frames + 1 ≤ R.frames ∧ 8 + (maxL + 11) + rm.locals ≤ R.locals) (hn : As.length = n) (hstack : st0 = As.reverse ++ .ref b :: rest) (hW : (rest.map fun v => v.category).sum ≤ 8) (hf : cells + mc ≤ R.cells ∧ slots + ms ≤ R.slots)
    (kk : jK9 p l e R s m args below meth c Ω nL Q (cells + mc) (slots + ms) sz (pc + 3) L rest post) : J p l e R s m args below meth c Ω nL Q cells slots sz G pc L st0 := by
  subst hstack
  have hg : GoodIn lw_all (va_wsU own index q.1 owner x y (ws_ y bytes maxL ret)) := by
    refine lw_app ?_ (lw_meth hcode)
    intro w hw
    simp only [List.mem_cons, List.not_mem_nil, or_false] at hw
    rcases hw with e | e | e | e | e <;> (rw [e]; assumption)
  refine jrun cx (fun H locs ls h1 h2 h3 h4 => (va_runU (jfix cx) hM (va_cwA n cx.ts hg rfl hrc hrs (cx.nest hdc rfl) hd hR) ⟨jWd.blind _, jrecv cx h2 hc hb, fun U hU hW9 => ⟨rfl, jWd.call cx h1 h2 h3 hU hW9⟩⟩ rfl hn h4.1 rfl (lv_room hW) hdg hf)) kk
/-- an interface's method -/
theorem J_callF (cx : jCX p s m args meth c cc own Ω nL) {x y : MethodName} {bytes : ByteArray} {maxL n index count mc ms ci b : Nat} {ret : Option FieldType} {q : vw_C} {fs : List Value} {rm : Room} {post : Option Value → Mem → Nat → Prop} (As : List Value) {rest st0 : List Value}
    (hM : Met l y (ws_ y bytes maxL ret) rm (va_Pc (.ref b :: As) (jWd Ω G sz)) (jQ Ω post) mc ms (jB Ω)) (hdg : decode cc pc = .ok (.invokeinterface index count, 5))
    (hcode : Cond.code y bytes maxL ret ∈ lw_all) (hlk : Cond.methodLink own index x ∈ lw_all) (hsel : Cond.selects q.1 x y ∈ lw_all) (hins : Cond.instanceMethod y ∈ lw_all) (hini : Cond.initialized y.cls ∈ lw_all)
    (hx1 : Cond.declares x ∈ lw_tbl) (hx2 : Cond.interfaceMethod x.cls x.cls x.name x.desc ∈ lw_tbl) (hx3 : Cond.publicMethod y ∈ lw_tbl) (hx4 : Cond.unhidden q.1 x.name x.desc ∈ lw_tbl) (hx5 : Cond.castable q.1 x.cls ∈ lw_tbl)
    (hd : x.cls ≠ "java/lang/invoke/MethodHandle" ∧ x.cls ≠ "java/lang/invoke/VarHandle" ∧ (parseMethodDescriptor x.desc).map (fun d => d.parameters.length) = some n) (hc : vwCl[ci]? = some q) (hb : G b = some (.inr (ci, fs)))
    (hrc : rm.cells = mc) (hrs : rm.slots = ms) (hR : rm.frames + 1 ≤ R.frames ∧ 8 + (maxL + 11) + rm.locals ≤ R.locals) (hn : As.length = n) (hstack : st0 = As.reverse ++ .ref b :: rest) (hW : (rest.map fun v => v.category).sum ≤ 8) (hf : cells + mc ≤ R.cells ∧ slots + ms ≤ R.slots)
    (kk : jK9 p l e R s m args below meth c Ω nL Q (cells + mc) (slots + ms) sz (pc + 5) L rest post) : J p l e R s m args below meth c Ω nL Q cells slots sz G pc L st0 := by
  subst hstack
  have hg : GoodIn lw_all (va_wsF own index q.1 x y (ws_ y bytes maxL ret)) := by
    refine lw_app ?_ (lw_meth hcode)
    intro w hw
    simp only [List.mem_cons, List.not_mem_nil, or_false] at hw
    rcases hw with e | e | e | e <;> (rw [e]; assumption)
  refine jrun5 cx (fun H locs ls h1 h2 h3 h4 => va_runF ((cx.K.1 ci _ hc).2) (jfix cx) hM (va_cwF n cx.ts hg rfl hrc hrs (cx.kw.2.2.2.1 _ _ _ ⟨hd.1, hd.2.1⟩ hx1 hx2 hx3 hx4 hx5) hd hR) ⟨jWd.blind _, jrecv cx h2 hc hb, fun U hU hW9 => ⟨rfl, jWd.call cx h1 h2 h3 hU hW9⟩⟩ rfl hn h4.1 rfl (lv_room hW) hdg hf) kk
/-- super.m(..) -/
theorem J_callSU (cx : jCX p s m args meth c cc own Ω nL) {y : MethodName} {bytes : ByteArray} {maxL n index mc ms ci b : Nat} {ret : Option FieldType} {q : vw_C} {fs : List Value} {rm : Room} {post : Option Value → Mem → Nat → Prop} (As : List Value) {rest st0 : List Value}
    (hM : Met l y (ws_ y bytes maxL ret) rm (va_Pc (.ref b :: As) (jWd Ω G sz)) (jQ Ω post) mc ms (jB Ω)) (hdg : decode cc pc = .ok (.invokespecial index, 3))
    (hcode : Cond.code y bytes maxL ret ∈ lw_all) (hlk : Cond.methodLink own index y ∈ lw_all) (hsame : Cond.sameMethod y.cls y.cls y.name y.desc ∈ lw_all) (hsup : Cond.superclass own y.cls ∈ lw_all) (hins : Cond.instanceMethod y ∈ lw_all) (hini : Cond.initialized y.cls ∈ lw_all)
    (hd : y.name ≠ "<init>" ∧ (parseMethodDescriptor y.desc).map (fun d => d.parameters.length) = some n) (hc : vwCl[ci]? = some q) (hb : G b = some (.inr (ci, fs)))
    (hrc : rm.cells = mc) (hrs : rm.slots = ms) (hR : rm.frames + 1 ≤ R.frames ∧ 8 + (maxL + 11) + rm.locals ≤ R.locals) (hn : As.length = n) (hstack : st0 = As.reverse ++ .ref b :: rest) (hW : (rest.map fun v => v.category).sum ≤ 8) (hf : cells + mc ≤ R.cells ∧ slots + ms ≤ R.slots)
    (kk : jK9 p l e R s m args below meth c Ω nL Q (cells + mc) (slots + ms) sz (pc + 3) L rest post) : J p l e R s m args below meth c Ω nL Q cells slots sz G pc L st0 := by
  subst hstack
  have hg : GoodIn lw_all (va_wsSU own index y (ws_ y bytes maxL ret)) := by
    refine lw_app ?_ (lw_meth hcode)
    intro w hw
    simp only [List.mem_cons, List.not_mem_nil, or_false] at hw
    rcases hw with e | e | e | e | e <;> (rw [e]; assumption)
  refine jrun cx (fun H locs ls h1 h2 h3 h4 => va_runSU ((cx.K.1 ci _ hc).2) (jfix cx) hM (va_cwSU n cx.ts hg rfl hrc hrs hd hR) ⟨jWd.blind _, jrecv cx h2 hc hb, fun U hU hW9 => ⟨rfl, jWd.call cx h1 h2 h3 hU hW9⟩⟩ rfl hn h4.1 rfl (lv_room hW) hdg hf) kk
-- arrays of references
abbrev jAq (f : Nat → Option Nat) : Sum (Nat → Int32) (Sum (Nat → Int64) (Sum (Nat → UInt32) (Sum (Nat → UInt64) (Nat → Option Nat)))) := .inr (.inr (.inr (.inr f)))
theorem J_aald (cx : jCX p s m args meth c cc own Ω nL) (t0 : Nat) {C : String} {cA : ClassId} {a n k : Nat} {f : Nat → Option Nat} {v : Value} (hdg : decode cc pc = .ok (.aaload, 1)) (ht : (jTy Ω.2.1)[t0]? = some (cA, .object C)) (ha : G a = some (.inl (cA, n, jAq f))) (hk : k < n) (hn : n < 2147483648) (hv : va_rf (f k) = v)
    (kk : J p l e R s m args below meth c Ω nL Q cells slots sz G (pc + 1) L (v :: st)) : J p l e R s m args below meth c Ω nL Q cells slots sz G pc L (.int (nI k) :: .ref a :: st) := fun H locs ls h1 h2 h3 h4 =>
  va_aldq cx.1 cx.2.1 cx.K (jone (h2 _ _ ha).1) 0 t0 rfl ht (jin rfl hk hn).1 hdg (by rw [(jin rfl hk hn).2, hv]; exact kk H locs ls h1 h2 h3 h4)
theorem jGR.back {D : va_G} {G : Mem} {H H1 : Heap} {A : Nat → Prop} {a : Nat} {x : va_E} (h : jGR D G H) (hP : va_P D vwCl [(a, x)] H1) (oq : ∀ q : Nat, q ≠ a → H1[q]? = H[q]?) (hm : jFr a x H1 := by exact True.intro) : jGR D (gset G a x) H1 := h.set (hP 0 _ rfl) oq hm
theorem jany (cx : jCX p s m args meth c cc own Ω nL) {H : Heap} {v ci : Nat} {q : vw_C} {vs : List Value} {E : String} (h2 : jGR Ω.1 G H) (hc : vwCl[ci]? = some q) (hb : G v = some (.inr (ci, vs))) (hcast : Cond.castable q.1 E ∈ lw_tbl) : va_Any E s H v := by
  obtain ⟨c0, t0, f1, f2, f3⟩ := Cond.castable_spec (va_Nw.use (A := args) rfl (cx.nest hcast rfl))
  refine va_rAny cx.K (jone (h2 _ _ hb).1) (q0 := 0) rfl hc (fun comp c1 g1 g2 => ?_)
  cases f1.symm.trans g2
  cases f2.symm.trans g1
  exact f3
theorem J_aast (cx : jCX p s m args meth c cc own Ω nL) (t0 : Nat) {E : String} {cA : ClassId} {a n k v ci : Nat} {q : vw_C} {vs : List Value} {f : Nat → Option Nat} (hdg : decode cc pc = .ok (.aastore, 1)) (ht : (jTy Ω.2.1)[t0]? = some (cA, .object E)) (ha : G a = some (.inl (cA, n, jAq f))) (hc : vwCl[ci]? = some q) (hv : G v = some (.inr (ci, vs))) (hcast : Cond.castable q.1 E ∈ lw_tbl) (hk : k < n) (hn : n < 2147483648) (hb9 : Ω.2.2.2 ≤ a)
    (kk : J p l e R s m args below meth c Ω nL Q cells slots sz (gset G a (.inl (cA, n, jAq (va_up f k (some v))))) (pc + 1) L st) : J p l e R s m args below meth c Ω nL Q cells slots sz G pc L (.ref v :: .int (nI k) :: .ref a :: st) := by
  intro H locs ls g1 g2 g3 g4
  have hlt : (nI k).toNatClampNeg < n := by rw [(jin rfl hk hn).2]; exact hk
  have hin := (jin (i := nI k) rfl hk hn).1
  have h0 : ¬ nI k < 0 := fun q => hin (Or.inl q)
  have hP0 : va_P Ω.1 vwCl [(a, .inl (cA, n, jAq f))] H := jone (g2 _ _ ha).1
  obtain ⟨cellV, u1, u3, ⟨kC, hkC⟩, hasg⟩ := jany cx g2 hc hv hcast
  obtain ⟨kA, comp, k1, k2, k3, -⟩ := (cx.K.2 t0 _ ht).2
  obtain ⟨kE, hkE, -⟩ := Vm.findClass_spec k3
  refine W.aast cx.1 cx.2.1 (hP0 0 _ rfl) (fun q h => by cases h) (fun h => by cases h) k1 k2 rfl hkE ⟨h0, by show _ < (arrV _ _ _).slots.size; rw [arrV_size]; exact hlt⟩ u1 (fun q h => by rw [h] at u3; cases u3) hkC (hasg comp k3) rfl rfl hdg fun H1 e z oq => ?_
  refine kk H1 _ ls (z.trans g1) (g2.set (show H1[a]? = some (vp_cell _ _) from ?_) oq) (g3.put z oq hb9) g4
  rw [e]
  rw [vp_cell_q, vp_cell_q, arrV_store, (jin (i := nI k) rfl hk hn).2]
  congr 2
  funext q
  by_cases hq : q = k
  · subst hq
    simp [updV, va_up, va_rf]
  · simp [updV, va_up, hq]
theorem J_aastN (cx : jCX p s m args meth c cc own Ω nL) (t0 : Nat) {E : String} {cA : ClassId} {a n k : Nat} {f : Nat → Option Nat} (hdg : decode cc pc = .ok (.aastore, 1)) (ht : (jTy Ω.2.1)[t0]? = some (cA, .object E)) (ha : G a = some (.inl (cA, n, jAq f))) (hk : k < n) (hn : n < 2147483648) (hb9 : Ω.2.2.2 ≤ a)
    (kk : J p l e R s m args below meth c Ω nL Q cells slots sz (gset G a (.inl (cA, n, jAq (va_up f k none)))) (pc + 1) L st) : J p l e R s m args below meth c Ω nL Q cells slots sz G pc L (.null :: .int (nI k) :: .ref a :: st) := by
  intro H locs ls g1 g2 g3 g4
  have hin := (jin (i := nI k) rfl hk hn).1
  have hP0 : va_P Ω.1 vwCl [(a, .inl (cA, n, jAq f))] H := jone (g2 _ _ ha).1
  refine va_WaastN (C := E) cx.1 cx.2.1 (hP0 0 _ rfl) ((cx.K.2 t0 _ ht).1 n (fun j => va_rf (f j))) (fun h => by cases h) (by show ¬ (nI k < 0 ∨ (arrV _ _ _).slots.size ≤ _); rw [arrV_size]; exact hin) rfl rfl hdg fun H1 e z oq => ?_
  refine kk H1 _ ls (z.trans g1) (g2.set (show H1[a]? = some (vp_cell _ _) from ?_) oq) (g3.put z oq hb9) g4
  rw [e]
  rw [vp_cell_q, vp_cell_q, arrV_store, (jin (i := nI k) rfl hk hn).2]
  congr 2
  funext q
  by_cases hq : q = k
  · subst hq
    simp [updV, va_up, va_rf]
  · simp [updV, va_up, hq]
theorem J_newq (cx : jCX p s m args meth c cc own Ω nL) (t0 : Nat) {C : String} {cA : ClassId} {index N' : Nat} (hdg : decode cc pc = .ok (.anewarray index, 3)) (hcl : Cond.classLink own index C ∈ lw_all) (hov : Cond.arrayOver (.object C) ∈ lw_tbl) (ht : (jTy Ω.2.1)[t0]? = some (cA, .object C)) (hN : N' < 2147483648) (hbytes : N' * 4 ≤ 536870912) (hcells : cells + 1 ≤ R.cells) (hslots : slots + N' ≤ R.slots)
    (kk : J p l e R s m args below meth c Ω nL Q (cells + 1) (slots + N') (sz + 1) (gset G sz (.inl (cA, N', jAq (fun _ => none)))) (pc + 3) L (.ref sz :: st)) : J p l e R s m args below meth c Ω nL Q cells slots sz G pc L (.int (nI N') :: st) := by
  intro H locs ls g1 g2 g3 g4
  have hz : (nI N').toNatClampNeg = N' := nI_clamp hN
  refine W.anew cx.1 cx.2.1 cx.ow (cx.ts _ hcl) (va_AO.use (cx.kw.2.2.1 C hov)) rfl hdg rfl (nI_pos hN) (by rw [hz]; exact hbytes) hcells (by rw [hz]; exact hslots) fun cA' kA comp f1 f2 f3 f4 => ?_
  obtain ⟨kA2, comp2, -, -, -, hnm⟩ := (cx.K.2 t0 _ ht).2
  have hcA : cA' = cA := Option.some.inj (f1.symm.trans hnm)
  subst hcA
  rw [hz]
  generalize hH1 : H.push ({ cls := cA', slots := Array.replicate N' .null, vm := .none } : Cell) = H1
  have z1 : H1.size = H.size + 1 := by rw [← hH1, Array.size_push]
  have e1 : H1[H.size]? = some (arrV cA' N' (fun _ => .null)) := by rw [← hH1, Array.getElem?_push_size, ← arrV_new]
  have o1 : ∀ q : Nat, q < sz → H1[q]? = H[q]? := fun q hq => by rw [← hH1, Array.getElem?_push, if_neg (Nat.ne_of_lt (by rw [g1]; exact hq))]
  rw [g1] at e1 z1 ⊢
  refine kk H1 locs ls z1 (g2.push g1 (show H1[sz]? = some (vp_cell _ _) by rw [vp_cell_q]; exact e1) o1) ⟨Nat.le_trans g3.1 (by omega), fun x h1 h2 => (o1 x (Nat.lt_of_lt_of_le h1 (by rw [← g1]; exact g3.1))).trans (g3.2.1 x h1 h2), g3.2.2⟩ g4
-- casts
theorem J_castN (cx : jCX p s m args meth c cc own Ω nL) {index : Nat} (hdg : decode cc pc = .ok (.checkcast index, 3)) (kk : J p l e R s m args below meth c Ω nL Q cells slots sz G (pc + 3) L (.null :: st)) : J p l e R s m args below meth c Ω nL Q cells slots sz G pc L (.null :: st) := fun H locs ls h1 h2 h3 h4 =>
  lv_castN cx.1 cx.2.1 hdg (kk H locs ls h1 h2 h3 h4)
theorem J_instN (cx : jCX p s m args meth c cc own Ω nL) {index : Nat} (hdg : decode cc pc = .ok (.instanceof index, 3)) (kk : J p l e R s m args below meth c Ω nL Q cells slots sz G (pc + 3) L (.int 0 :: st)) : J p l e R s m args below meth c Ω nL Q cells slots sz G pc L (.null :: st) := fun H locs ls h1 h2 h3 h4 =>
  lv_instN cx.1 cx.2.1 hdg (kk H locs ls h1 h2 h3 h4)
theorem J_castY (cx : jCX p s m args meth c cc own Ω nL) {index a ci : Nat} {q : vw_C} {fs : List Value} {nm : String} (hdg : decode cc pc = .ok (.checkcast index, 3)) (hlink : Cond.classLink own index nm ∈ lw_all) (hcast : Cond.castable q.1 nm ∈ lw_tbl) (hc : vwCl[ci]? = some q) (hb : G a = some (.inr (ci, fs)))
    (kk : J p l e R s m args below meth c Ω nL Q cells slots sz G (pc + 3) L (.ref a :: st)) : J p l e R s m args below meth c Ω nL Q cells slots sz G pc L (.ref a :: st) := fun H locs ls h1 h2 h3 h4 =>
  va_castY cx.1 cx.2.1 cx.ow (cx.ts _ hlink) (cx.nest hcast rfl) (jrecv cx h2 hc hb) hdg (kk H locs ls h1 h2 h3 h4)
theorem J_instY (cx : jCX p s m args meth c cc own Ω nL) {index a ci : Nat} {q : vw_C} {fs : List Value} {nm : String} (hdg : decode cc pc = .ok (.instanceof index, 3)) (hlink : Cond.classLink own index nm ∈ lw_all) (hcast : Cond.castable q.1 nm ∈ lw_tbl) (hc : vwCl[ci]? = some q) (hb : G a = some (.inr (ci, fs)))
    (kk : J p l e R s m args below meth c Ω nL Q cells slots sz G (pc + 3) L (.int 1 :: st)) : J p l e R s m args below meth c Ω nL Q cells slots sz G pc L (.ref a :: st) := fun H locs ls h1 h2 h3 h4 =>
  va_instY cx.1 cx.2.1 cx.ow (cx.ts _ hlink) (cx.nest hcast rfl) (jrecv cx h2 hc hb) hdg (kk H locs ls h1 h2 h3 h4)
theorem J_castS (cx : jCX p s m args meth c cc own Ω nL) {index a ci : Nat} {q : vw_C} {fs : List Value} (hdg : decode cc pc = .ok (.checkcast index, 3)) (hlink : Cond.classLink own index q.1 ∈ lw_all) (hc : vwCl[ci]? = some q) (hb : G a = some (.inr (ci, fs)))
    (kk : J p l e R s m args below meth c Ω nL Q cells slots sz G (pc + 3) L (.ref a :: st)) : J p l e R s m args below meth c Ω nL Q cells slots sz G pc L (.ref a :: st) := fun H locs ls h1 h2 h3 h4 =>
  va_castS cx.1 cx.2.1 cx.ow (cx.ts _ hlink) ((cx.K.1 ci _ hc).2) (jrecv cx h2 hc hb) hdg (kk H locs ls h1 h2 h3 h4)
theorem J_acmp_eq (cx : jCX p s m args meth c cc own Ω nL) {rx ry : Option Nat} {v w : Value} {off : Int} {tgt : Nat} (hdg : decode cc pc = .ok (.if_acmp .eq off, 3)) (ht : (pc : Int) + off = (tgt : Int)) (hv : v = va_rf ry) (hw : w = va_rf rx)
    (kt : rx = ry → J p l e R s m args below meth c Ω nL Q cells slots sz G tgt L st) (kf : ¬ rx = ry → J p l e R s m args below meth c Ω nL Q cells slots sz G (pc + 3) L st) : J p l e R s m args below meth c Ω nL Q cells slots sz G pc L (v :: w :: st) := by
  subst hv; subst hw
  exact fun H locs ls h1 h2 h3 h4 => lv_acmp_eq cx.1 cx.2.1 hdg ht (fun q => kt q H locs ls h1 h2 h3 h4) (fun q => kf q H locs ls h1 h2 h3 h4)
theorem J_acmp_ne (cx : jCX p s m args meth c cc own Ω nL) {rx ry : Option Nat} {v w : Value} {off : Int} {tgt : Nat} (hdg : decode cc pc = .ok (.if_acmp .ne off, 3)) (ht : (pc : Int) + off = (tgt : Int)) (hv : v = va_rf ry) (hw : w = va_rf rx)
    (kt : ¬ rx = ry → J p l e R s m args below meth c Ω nL Q cells slots sz G tgt L st) (kf : rx = ry → J p l e R s m args below meth c Ω nL Q cells slots sz G (pc + 3) L st) : J p l e R s m args below meth c Ω nL Q cells slots sz G pc L (v :: w :: st) := by
  subst hv; subst hw
  exact fun H locs ls h1 h2 h3 h4 => lv_acmp_ne cx.1 cx.2.1 hdg ht (fun q => kt q H locs ls h1 h2 h3 h4) (fun q => kf q H locs ls h1 h2 h3 h4)
theorem J_gets (cx : jCX p s m args meth c cc own Ω nL) {C n d ref : String} {v : Value} {index : Nat} (hZ : va_Z C n d v (jB Ω) s s.heap) (hdg : decode cc pc = .ok (.getstatic index, 3)) (hlink : Cond.fieldLink own index ref n d ∈ lw_all) (hsame : ∀ x, s.fieldFound? C n d = some x → s.fieldFound? ref n d = some x)
    (kk : J p l e R s m args below meth c Ω nL Q cells slots sz G (pc + 3) L (v :: st)) : J p l e R s m args below meth c Ω nL Q cells slots sz G pc L st := fun H locs ls h1 h2 h3 h4 =>
  va_gets cx.1 cx.2.1 hZ h3 cx.ow (cx.ts _ hlink) hsame hdg (kk H locs ls h1 h2 h3 h4)
theorem J_mmax (cx : jCX p s m args meth c cc own Ω nL) {index : Nat} {x y : Int32} (hdg : decode cc pc = .ok (.invokestatic index, 3)) (hlink : Cond.methodLink own index Lib.Math.max.name ∈ lw_all) (hstat : Cond.static Lib.Math.max.name ∈ lw_all) (hini : Cond.initialized "java/lang/Math" ∈ lw_all) (hcode : Cond.code Lib.Math.max.name Lib.Math.max.code 2 (some .int) ∈ lw_all)
    (hframes : 1 ≤ R.frames) (hlocals : (st.map fun v => v.category).sum + 13 ≤ R.locals) (hc : cells ≤ R.cells) (hs : slots ≤ R.slots)
    (kk : J p l e R s m args below meth c Ω nL Q cells slots sz G (pc + 3) L (.int (if x < y then y else x) :: st)) : J p l e R s m args below meth c Ω nL Q cells slots sz G pc L (.int y :: .int x :: st) := fun H locs ls h1 h2 h3 h4 =>
  va_mmax cx.1 cx.2.1 (by rw [cx.2.2.1]; exact h4.1.symm) cx.ow (cx.ts _ hlink) (cx.ts _ hstat) (cx.ts _ hini) (cx.ts _ hcode) hframes hlocals hc hs hdg (kk H locs ls h1 h2 h3 h4)
theorem J_mabs (cx : jCX p s m args meth c cc own Ω nL) {index : Nat} {x : Int32} (hdg : decode cc pc = .ok (.invokestatic index, 3)) (hlink : Cond.methodLink own index Lib.Math.abs.name ∈ lw_all) (hstat : Cond.static Lib.Math.abs.name ∈ lw_all) (hini : Cond.initialized "java/lang/Math" ∈ lw_all) (hcode : Cond.code Lib.Math.abs.name Lib.Math.abs.code 1 (some .int) ∈ lw_all)
    (hframes : 1 ≤ R.frames) (hlocals : (st.map fun v => v.category).sum + 13 ≤ R.locals) (hc : cells ≤ R.cells) (hs : slots ≤ R.slots)
    (kk : J p l e R s m args below meth c Ω nL Q cells slots sz G (pc + 3) L (.int (if 0 ≤ x then x else 0 - x) :: st)) : J p l e R s m args below meth c Ω nL Q cells slots sz G pc L (.int x :: st) := fun H locs ls h1 h2 h3 h4 =>
  va_mabs cx.1 cx.2.1 (by rw [cx.2.2.1]; exact h4.1.symm) cx.ow (cx.ts _ hlink) (cx.ts _ hstat) (cx.ts _ hini) (cx.ts _ hcode) hframes hlocals hc hs hdg (kk H locs ls h1 h2 h3 h4)
end JR2
