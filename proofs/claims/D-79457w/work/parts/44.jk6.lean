/-! THE JUDGEMENT J, PART SIX: static and nest-mate calls that may throw -/
set_option maxRecDepth 100000
section JR10
variable {p : Program} {l : Launch} {e : Env} {R : Room} {s : State} {m : MethodId} {args : Array Value} {below : List Frame} {meth : Method} {c : Code} {Q : State → Prop} {Ω : jO} {nL : Nat}
variable {cells slots sz : Nat} {G : Mem} {L : List (Option Value)} {st : List Value} {cc : ByteArray} {own : String} {pc : Nat}
theorem J_callSX (cx : jCX p s m args meth c cc own Ω nL) {y : MethodName} {bytes : ByteArray} {maxL n index mc ms : Nat} {ret : Option FieldType} {rm : Room} {post : Option Value → Mem → Nat → Prop} {xpost : Nat → Nat → Mem → Nat → Prop} (As : List Value) {rest st0 : List Value}
    (hM : vx_Met l y (ws_ y bytes maxL ret) rm (va_Pc As (jWd Ω G sz)) (jQ Ω post) (jXC Ω xpost) mc ms (jB Ω)) (hdg : decode cc pc = .ok (.invokestatic index, 3))
    (hw : GoodIn lw_all (va_wsS own index y (ws_ y bytes maxL ret))) (hd : y.cls ≠ "java/lang/invoke/MethodHandle" ∧ y.cls ≠ "java/lang/invoke/VarHandle" ∧ (parseMethodDescriptor y.desc).map (fun d => d.parameters.length) = some n)
    (hrc : rm.cells = mc) (hrs : rm.slots = ms) (hR : rm.frames + 1 ≤ R.frames ∧ 8 + (maxL + 11) + rm.locals ≤ R.locals) (hn : As.length = n) (hstack : st0 = As.reverse ++ rest) (hW : (rest.map fun v => v.category).sum ≤ 8) (hf : cells + mc ≤ R.cells ∧ slots + ms ≤ R.slots)
    (kk : ∀ (v : Option Value) (G1 : Mem) (sz1 : Nat), post v G1 sz1 → sz ≤ sz1 → J p l e R s m args below meth c Ω nL Q (cells + mc) (slots + ms) sz1 G1 (pc + 3) L (v.toList ++ rest))
    (kx : jK9x p l e R s m args below meth c Ω nL Q (cells + mc) (slots + ms) sz pc L xpost) : J p l e R s m args below meth c Ω nL Q cells slots sz G pc L st0 := by
  subst hstack
  exact jrunX cx (fun H locs ls h1 h2 h3 h4 => vx_runS (jfix cx) hM (va_cwS n cx.ts hw rfl hrc hrs hd hR) ⟨jWd.blind _, fun U hU hW9 => ⟨rfl, jWd.call cx h1 h2 h3 hU hW9⟩⟩ rfl hn h4.1 rfl (lv_room hW) hdg hf) kk kx
theorem J_callVNX (cx : jCX p s m args meth c cc own Ω nL) {y : MethodName} {host : String} {bytes : ByteArray} {maxL n index mc ms ci b : Nat} {ret : Option FieldType} {q : vw_C} {fs : List Value} {rm : Room} {post : Option Value → Mem → Nat → Prop} {xpost : Nat → Nat → Mem → Nat → Prop} (As : List Value) {rest st0 : List Value}
    (hM : vx_Met l y (ws_ y bytes maxL ret) rm (va_Pc (.ref b :: As) (jWd Ω G sz)) (jQ Ω post) (jXC Ω xpost) mc ms (jB Ω)) (hdg : decode cc pc = .ok (.invokevirtual index, 3))
    (hcode : Cond.code y bytes maxL ret ∈ lw_all) (hlk : Cond.methodLinkNest own index y host ∈ lw_tbl) (hini : Cond.initialized y.cls ∈ lw_all) (hins : Cond.instanceMethod y ∈ lw_all) (hsel : Cond.selects q.1 y y ∈ lw_all) (hd : y.cls ≠ "java/lang/invoke/MethodHandle" ∧ y.cls ≠ "java/lang/invoke/VarHandle" ∧ (parseMethodDescriptor y.desc).map (fun d => d.parameters.length) = some n) (hc : vwCl[ci]? = some q) (hb : G b = some (.inr (ci, fs)))
    (hrc : rm.cells = mc) (hrs : rm.slots = ms) (hR : rm.frames + 1 ≤ R.frames ∧ 8 + (maxL + 11) + rm.locals ≤ R.locals) (hn : As.length = n) (hstack : st0 = As.reverse ++ .ref b :: rest) (hW : (rest.map fun v => v.category).sum ≤ 8) (hf : cells + mc ≤ R.cells ∧ slots + ms ≤ R.slots)
    (kk : ∀ (v : Option Value) (G1 : Mem) (sz1 : Nat), post v G1 sz1 → sz ≤ sz1 → J p l e R s m args below meth c Ω nL Q (cells + mc) (slots + ms) sz1 G1 (pc + 3) L (v.toList ++ rest))
    (kx : jK9x p l e R s m args below meth c Ω nL Q (cells + mc) (slots + ms) sz pc L xpost) : J p l e R s m args below meth c Ω nL Q cells slots sz G pc L st0 := by
  subst hstack
  exact jrunX cx (fun H locs ls h1 h2 h3 h4 => vx_runVN (jfix cx) hM ⟨va_cnB n cx.ts (lw_meth hcode) rfl hrc hrs (cx.nest hlk rfl) (cx.ts _ hini) hd hR, cx.ts _ hins, cx.ts _ hsel⟩ ⟨jWd.blind _, jrecv cx h2 hc hb, fun U hU hW9 => ⟨rfl, jWd.call cx h1 h2 h3 hU hW9⟩⟩ rfl hn h4.1 rfl (lv_room hW) hdg hf) kk kx
theorem J_callSNX (cx : jCX p s m args meth c cc own Ω nL) {y : MethodName} {host : String} {bytes : ByteArray} {maxL n index mc ms : Nat} {ret : Option FieldType} {rm : Room} {post : Option Value → Mem → Nat → Prop} {xpost : Nat → Nat → Mem → Nat → Prop} (As : List Value) {rest st0 : List Value}
    (hM : vx_Met l y (ws_ y bytes maxL ret) rm (va_Pc As (jWd Ω G sz)) (jQ Ω post) (jXC Ω xpost) mc ms (jB Ω)) (hdg : decode cc pc = .ok (.invokestatic index, 3))
    (hcode : Cond.code y bytes maxL ret ∈ lw_all) (hlk : Cond.methodLinkNest own index y host ∈ lw_tbl) (hini : Cond.initialized y.cls ∈ lw_all) (hsta : Cond.static y ∈ lw_all) (hd : y.cls ≠ "java/lang/invoke/MethodHandle" ∧ y.cls ≠ "java/lang/invoke/VarHandle" ∧ (parseMethodDescriptor y.desc).map (fun d => d.parameters.length) = some n)
    (hrc : rm.cells = mc) (hrs : rm.slots = ms) (hR : rm.frames + 1 ≤ R.frames ∧ 8 + (maxL + 11) + rm.locals ≤ R.locals) (hn : As.length = n) (hstack : st0 = As.reverse ++ rest) (hW : (rest.map fun v => v.category).sum ≤ 8) (hf : cells + mc ≤ R.cells ∧ slots + ms ≤ R.slots)
    (kk : ∀ (v : Option Value) (G1 : Mem) (sz1 : Nat), post v G1 sz1 → sz ≤ sz1 → J p l e R s m args below meth c Ω nL Q (cells + mc) (slots + ms) sz1 G1 (pc + 3) L (v.toList ++ rest))
    (kx : jK9x p l e R s m args below meth c Ω nL Q (cells + mc) (slots + ms) sz pc L xpost) : J p l e R s m args below meth c Ω nL Q cells slots sz G pc L st0 := by
  subst hstack
  exact jrunX cx (fun H locs ls h1 h2 h3 h4 => vx_runSN (jfix cx) hM ⟨va_cnB n cx.ts (lw_meth hcode) rfl hrc hrs (cx.nest hlk rfl) (cx.ts _ hini) hd hR, cx.ts _ hsta, trivial⟩ ⟨jWd.blind _, fun U hU hW9 => ⟨rfl, jWd.call cx h1 h2 h3 hU hW9⟩⟩ rfl hn h4.1 rfl (lv_room hW) hdg hf) kk kx
end JR10
