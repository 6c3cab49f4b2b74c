/-! AN INHERITED METHOD WITH HANDLERS, CALLED (gen/mk_syn2.py) -/
set_option maxRecDepth 100000
abbrev abh_C (R : Room) (s : State) (args : Array Value) (own C owner : String) (index : Nat) (x y : MethodName) (bytes : ByteArray) (maxL : Nat) (ret : Option FieldType) (hh : List (Nat × Nat × Nat × Nat)) (ws : List Cond) (rm : Room) (mc ms n : Nat) : Prop :=
  (rm.cells = mc ∧ rm.slots = ms ∧ rm.frames + 1 ≤ R.frames ∧ 8 + (maxL + 11) + rm.locals ≤ R.locals ∧ (∀ w ∈ ws, ∀ (a' : Array Value) (U : State), s.WarmedH U.vm → w.before a' U = true) ∧ Cond.codeWith y bytes maxL ret hh ∈ ws) ∧
  (Cond.initialized y.cls).before args s = true ∧ (owner ≠ "java/lang/invoke/MethodHandle" ∧ owner ≠ "java/lang/invoke/VarHandle") ∧
  (∀ sig, parseMethodDescriptor x.desc = some sig → n = sig.parameters.length) ∧ (Cond.methodLink own index x).before args s = true ∧ (Cond.sameMethod x.cls owner x.name x.desc).before args s = true ∧ va_Decl s ⟨owner, x.name, x.desc⟩ ∧ (Cond.selects C x y).before args s = true ∧ (Cond.instanceMethod y).before args s = true
section ABH
variable {l : Launch} {R : Room} {p : Program} {e : Env} {below : List Frame} {s : State} {sargs : Array Value} {y : MethodName} {len W9 : Nat}
variable {p : Program} {l : Launch} {e : Env} {R : Room} {s : State} {m : MethodId} {args : Array Value} {below : List Frame} {meth : Method} {c : Code} {T : State} {H : Heap} {locs : List Loc} {cells slots : Nat}
variable {y : MethodName} {bytes cc : ByteArray} {maxL nL mc ms n index : Nat} {ret : Option FieldType} {ws : List Cond} {rm : Room} {Pc : Array Value → State → Prop} {Qc : Array Value → State → Outcome → State → Prop} {XC : String → Addr → State → State → Prop} {free : Addr → Prop} {Ts : List Cond} {own C : String} {b : Addr} {As rest : List Value} {g : JFrame}
theorem abh_run {hh : List (Nat × Nat × Nat × Nat)} {x : MethodName} {owner : String} (S : CallFix p m c cc nL s args Ts own) (hM : vx_Met l y ws rm Pc Qc XC mc ms free) (cw : abh_C R s args own C owner index x y bytes maxL ret hh ws rm mc ms n) (hp : PreV s H C b Pc As)
    (hg : g.method = m) (hn : As.length = n) (hsize : g.locals.size = nL) (hstack : g.stack = As.reverse ++ .ref b :: rest) (hW : 2 * g.monitorRoom + (rest.map fun v => v.category).sum ≤ 8) (hdg : decode cc g.pc = .ok (.invokevirtual index, 3)) (hf : cells + mc ≤ R.cells ∧ slots + ms ≤ R.slots) :
    vx_Run p l e R s m args below meth c H locs cells slots mc ms g rest (Qc (Value.ref b :: As).toArray) XC free := by
  obtain ⟨⟨hrc, hrs, hfr, hlo, hws, hcw⟩, hini, hy, hlen, hl, hsm, hde, hse, hin⟩ := cw
  have hK : vx_Back l R p e below s args y 3 8 (PreOf R mc ms Pc) (PostOf Qc mc ms free) (vx_Post XC mc ms free) := vx_backW (hh := hh) (bytes := bytes) (maxL := maxL) (ret := ret) hM hp.1 hrc hrs hfr hlo hws hcw (fun a' U hW => word_at hW (Or.inl (by first | rfl | simp [Cond.onTables, Cond.keeps, Cond.steady])) hini)
  obtain ⟨hx, hb, hml, ho, -⟩ := S
  obtain ⟨-, ⟨cellB, hcB, hoB, hclB⟩, hPc⟩ := hp
  intro T hT X
  rcases abx_call X hx (C := C) (owner := owner) ho hl hsm hde hy hse hin hK (by rw [hT]; exact hcB) hoB hclB hg (hsize.trans hml.symm) (argsL := As) (rest := rest) (fun sig h => hn.trans (hlen sig h)) hstack hW (by rw [hb]; exact hdg)
    (fun vm₁ hW₁ => ⟨hf.1, hf.2, hPc (T.setVm vm₁) hT hW₁⟩) with ⟨v, vm₁, ⟨U', l2, c2, s2⟩, hW₁, X', ⟨g', mk, t, L, e1, e2, hq, h1, hL, h2, h3⟩, st⟩ | ⟨q, vm₁, ⟨U', l2, c2, s2⟩, hW₁, X', ⟨g', mk, t, L, E, ce, e1, e2, hq, hce, hcv, hcl, h1, hL, h2, h3⟩, st⟩
  · dsimp only [Pt.U, Pt.locs, Pt.cells, Pt.slots] at X' e1 e2 h1 h2 h3 st
    subst h1; subst h2; subst h3
    exact Or.inl ⟨v, (T.setVm vm₁).calling g' mk (Value.ref b :: As).toArray, t, U', L, hT, X', hL, e1, e2, hq, st⟩
  · dsimp only [Pt.U, Pt.locs, Pt.cells, Pt.slots] at X' e1 e2 h1 h2 h3 st hcl
    subst h1; subst h2; subst h3
    exact Or.inr ⟨q, (T.setVm vm₁).calling g' mk (Value.ref b :: As).toArray, t, U', L, E, ce, hT, X', hL, e1, e2, hq, hce, hcv, vx_cls hW₁ hcl, st⟩

end ABH
section JRAH
variable {p : Program} {l : Launch} {e : Env} {R : Room} {s : State} {m : MethodId} {args : Array Value} {below : List Frame} {meth : Method} {c : Code} {Q : State → Prop} {Ω : jO} {nL : Nat}
variable {cells slots sz : Nat} {G : Mem} {L : List (Option Value)} {st : List Value} {cc : ByteArray} {own : String} {pc : Nat}
/-- invokevirtual of an inherited method with handlers -/
theorem J_callUXH (cx : jCX p s m args meth c cc own Ω nL) {x y : MethodName} {owner : String} {bytes : ByteArray} {maxL n index mc ms ci b : Nat} {ret : Option FieldType} {hh : List (Nat × Nat × Nat × Nat)} {q : vw_C} {fs : List Value} {rm : Room} {post : Option Value → Mem → Nat → Prop} {xpost : Nat → Nat → Mem → Nat → Prop} (As : List Value) {rest st0 : List Value}
    (hM : vx_Met l y (wsW_ y bytes maxL ret hh) rm (va_Pc (.ref b :: As) (jWd Ω G sz)) (jQ Ω post) (jXC Ω xpost) mc ms (jB Ω)) (hdg : decode cc pc = .ok (.invokevirtual index, 3))
    (hcode : Cond.codeWith y bytes maxL ret hh ∈ lw_all) (hlk : Cond.methodLink own index x ∈ lw_all) (hsame : Cond.sameMethod x.cls owner x.name x.desc ∈ lw_all) (hsel : Cond.selects q.1 x y ∈ lw_all) (hins : Cond.instanceMethod y ∈ lw_all) (hini : Cond.initialized y.cls ∈ lw_all) (hyx : y = ⟨owner, x.name, x.desc⟩)
    (hd : owner ≠ "java/lang/invoke/MethodHandle" ∧ owner ≠ "java/lang/invoke/VarHandle" ∧ (parseMethodDescriptor x.desc).map (fun d => d.parameters.length) = some n) (hc : vwCl[ci]? = some q) (hb : G b = some (.inr (ci, fs)))
    (hrc : rm.cells = mc) (hrs : rm.slots = ms) (hR : rm.frames + 1 ≤ R.frames ∧ 8 + (maxL + 11) + rm.locals ≤ R.locals) (hn : As.length = n) (hstack : st0 = As.reverse ++ .ref b :: rest) (hW : (rest.map fun v => v.category).sum ≤ 8) (hf : cells + mc ≤ R.cells ∧ slots + ms ≤ R.slots)
    (kk : ∀ (v : Option Value) (G1 : Mem) (sz1 : Nat), post v G1 sz1 → sz ≤ sz1 → J p l e R s m args below meth c Ω nL Q (cells + mc) (slots + ms) sz1 G1 (pc + 3) L (v.toList ++ rest))
    (kx : jK9x p l e R s m args below meth c Ω nL Q (cells + mc) (slots + ms) sz pc L xpost) : J p l e R s m args below meth c Ω nL Q cells slots sz G pc L st0 := by
  subst hstack
  have hG := lw_methW hcode
  have hde : va_Decl s ⟨owner, x.name, x.desc⟩ := by
    rw [← hyx]
    obtain ⟨mk, methM, hnamed, hmethM, hst, hab⟩ := Cond.instanceMethod_spec (cx.ts _ hins)
    obtain ⟨m8, methM', cM, hn8, hmethM', -, -, -, -, -, -, hsigM⟩ := Cond.codeWith_spec (cx.ts _ hcode)
    cases Option.some.inj (hn8.symm.trans hnamed)
    cases hmethM.symm.trans hmethM'
    exact ⟨mk, methM, hnamed, hmethM, hst, hsigM⟩
  have cw : abh_C R s args own q.1 owner index x y bytes maxL ret hh (wsW_ y bytes maxL ret hh) rm mc ms n := ⟨⟨hrc, hrs, hR.1, hR.2, pay_in cx.ts hG, List.mem_cons_self⟩, cx.ts _ hini, ⟨hd.1, hd.2.1⟩, fun sig h => (by
    have h9 := hd.2.2
    rw [h] at h9
    exact (Option.some.inj h9).symm), cx.ts _ hlk, cx.ts _ hsame, hde, cx.ts _ hsel, cx.ts _ hins⟩
  exact jrunX cx (fun H locs ls g1 g2 g3 g4 => abh_run (jfix cx) hM cw ⟨jWd.blind _, jrecv cx g2 hc hb, fun U hU hW9 => ⟨rfl, jWd.call cx g1 g2 g3 hU hW9⟩⟩ rfl hn g4.1 rfl (lv_room hW) hdg hf) kk kx
end JRAH
