/-! A SYNCHRONIZED METHOD (gen/mk_syn.py): Throwable.getCause: its contract and its call -/
set_option maxRecDepth 100000
abbrev wsS_ (y : MethodName) (b : ByteArray) (L : Nat) (r : Option FieldType) : List Cond := Cond.codeSync y b L r :: lw_all
theorem lw_methS {y : MethodName} {b : ByteArray} {L : Nat} {r : Option FieldType} (h : Cond.codeSync y b L r ∈ lw_all) : GoodIn lw_all (wsS_ y b L r) := by
  intro w hw
  rcases List.mem_cons.mp hw with e | e
  · rw [e]
    exact lw_self _ h
  · exact lw_self _ e
abbrev syn_CV (R : Room) (s : State) (args : Array Value) (own C : String) (index : Nat) (y : MethodName) (bytes : ByteArray) (maxL : Nat) (ret : Option FieldType) (ws : List Cond) (rm : Room) (mc ms n : Nat) : Prop :=
  (rm.cells = mc ∧ rm.slots = ms ∧ rm.frames + 1 ≤ R.frames ∧ 8 + (maxL + 11) + rm.locals ≤ R.locals ∧ (∀ w ∈ ws, ∀ (a' : Array Value) (U : State), s.WarmedH U.vm → w.before a' U = true) ∧ Cond.codeSync y bytes maxL ret ∈ ws) ∧
  (Cond.codeSync y bytes maxL ret).before args s = true ∧ (Cond.initialized y.cls).before args s = true ∧ (y.cls ≠ "java/lang/invoke/MethodHandle" ∧ y.cls ≠ "java/lang/invoke/VarHandle") ∧
  (∀ sig, parseMethodDescriptor y.desc = some sig → n = sig.parameters.length) ∧ (Cond.methodLink own index y).before args s = true ∧ (Cond.instanceMethod y).before args s = true ∧ (Cond.selects C y y).before args s = true

section SYN_vx_backW
variable {l : Launch} {R : Room} {p : Program} {e : Env} {below : List Frame} {s : State} {sargs : Array Value} {y : MethodName} {len W9 : Nat}
theorem syn_back {ws : List Cond} {rm : Room} {Pc : Array Value → State → Prop} {Qc : Array Value → State → Outcome → State → Prop} {XC : String → Addr → State → State → Prop} {mc ms : Nat} {free : Addr → Prop} {bytes : ByteArray} {maxL : Nat} {ret : Option FieldType}
    (hM : vx_Met l y ws rm Pc Qc XC mc ms free) (hblind : FrameBlind Pc) (hrc : rm.cells = mc) (hrs : rm.slots = ms)
    (hframes : rm.frames + 1 ≤ R.frames) (hlocals : W9 + (maxL + 11) + rm.locals ≤ R.locals)
    (hws : ∀ w ∈ ws, ∀ a' U, s.WarmedH U.vm → w.before a' U = true) (hcode : Cond.codeSync y bytes maxL ret ∈ ws) (hinit : ∀ a' U, s.WarmedH U.vm → (Cond.initialized y.cls).before a' U = true) :
    vx_Back l R p e below s sargs y len W9 (PreOf R mc ms Pc) (PostOf Qc mc ms free) (vx_Post XC mc ms free) := by
  intro m meth c A g ig mk a X hg hsize hdg hW hn hp
  have h1 : (headSpec ws rm).pre.before a A.U = true := atoms_intro fun w hw => hws w hw _ _ X.warmed
  have h2 : (Cond.codeSync y bytes maxL ret).before a A.U = true := hws _ hcode _ _ X.warmed
  have h3 : (Cond.initialized y.cls).before a A.U = true := hinit _ _ X.warmed
  have h4 : A.cells + (headSpec ws rm).room.cells ≤ R.cells := by rw [show (headSpec ws rm).room.cells = mc from hrc]; exact hp.1
  have h5 : A.slots + (headSpec ws rm).room.slots ≤ R.slots := by rw [show (headSpec ws rm).room.slots = ms from hrs]; exact hp.2.1
  have hPc : Pc a (A.U.calling g mk a) := hblind _ _ _ _ hp.2.2
  obtain ⟨U, Ls, c0, s0⟩ := A
  dsimp only [Pt.U, Pt.locs, Pt.cells, Pt.slots] at h1 h2 h3 h4 h5 X hn hPc ⊢
  obtain ⟨methY, cY, hmY, hcY, -, hlY, -⟩ := Cond.codeSync_spec hn h2
  obtain ⟨kY, hkY, -⟩ := className_of_methodNamed hn
  have hinitY : kY.init = .initialized := Cond.initialized_spec (findClass_of_methodNamed hn) hkY h3
  have h : At U g.method c below := by rw [hg]; exact X.here
  have hlocals9 : W9 + (maxL + 11) + (headSpec ws rm).room.locals ≤ R.locals := hlocals
  have happ : (headSpec ws rm).appliesLoose y e.platform (U.calling g mk a) = true :=
    Spec.appliesLoose_calling (g := g) h hdg hn hkY hinitY
      (X.room_calling (g := g) (R' := (headSpec ws rm).room) hsize hmY hcY hframes (by rw [hlY]; omega) h4 h5) h1
  obtain ⟨mid, hmid⟩ := h.above
  have hfr : (U.setTop g).frames = (.java g :: mid) ++ below := by rw [State.frames_setTop' g h.top, hmid]; rfl
  obtain ⟨o, s₂, hsteps, -, hend, hq⟩ := Steps.callFree hM p X.admits X.cas X.clock (acts := []) hfr happ hPc trivial
  have hq' : vx_Q Qc XC mc ms free a (U.calling g mk a) o s₂ := hq
  rw [State.frames_setTop' g h.top] at hend
  obtain ⟨g₀, hg0⟩ := Option.isSome_iff_exists.mp h.top
  obtain ⟨r, hr⟩ := State.topJava?_eq_some.mp hg0
  have hr' : (({ U with heap := s₂.heap, slotsUsed := s₂.slotsUsed } : State).setVm s₂.vm).frames = .java g₀ :: r := hr
  rcases hq' with ⟨hqc, L, hfe, hL⟩ | ⟨q, rfl, E, ce, L, hx, hce, hcv, hcl, hW₂, hsm, hL⟩
  · obtain ⟨⟨v, rfl⟩, hW₂, e2, q2, q3, q4, q5, q6⟩ := id hfe
    have e3 : s₂ = ({ (U.calling g mk a).setFrames s₂.frames with heap := s₂.heap, slotsUsed := s₂.slotsUsed } : State).setVm s₂.vm := by
      have : s₂ = ({ s₂ with vm := (U.calling g mk a).vm } : State).setVm s₂.vm := rfl
      rw [e2] at this
      exact this
    obtain ⟨c₂, i₂, len₂, hc₂, hd₂, hf₂⟩ := hend
    have hW' : U.WarmedH s₂.vm := hW₂
    have hcc : c₂ = c := by
      have h1 : s₂.code? g.method = U.code? g.method := by
        rw [State.code?_eq, State.code?_eq, hW'.alike.method?]
      exact Option.some.inj (hc₂.symm.trans (h1.trans h.code))
    subst hcc
    have hlen : len₂ = len := by rw [hdg] at hd₂; cases hd₂; rfl
    subst hlen
    have hs₂ : s₂ = (({ U with heap := s₂.heap, slotsUsed := s₂.slotsUsed } : State).setVm s₂.vm).setTop { g with pc := g.pc + len₂, stack := v.toList ++ g.stack } := by
      refine e3.trans ?_
      rw [hf₂, State.calling_eq h.top, State.setFrames_setFrames, State.setTop_of_frames _ hr', hr]
      rfl
    have hsame : U.sameButNew ({ U with heap := s₂.heap, slotsUsed := s₂.slotsUsed } : State) L mc ms := by
      refine ⟨?_, q2, q3, q4, q5, q6⟩
      obtain ⟨t, ht, -⟩ := State.frames_cons hr
      show ({ U with heap := s₂.heap, slotsUsed := s₂.slotsUsed } : State) = { U.setFrames U.frames with heap := s₂.heap, slotsUsed := s₂.slotsUsed }
      rw [State.setFrames_self ht]
    subst hg
    refine Or.inl ⟨v, ⟨(({ U with heap := s₂.heap, slotsUsed := s₂.slotsUsed } : State).setVm s₂.vm), Ls ++ L, c0 + mc, s0 + ms⟩,
      ⟨X.admits, X.cas, X.clock, X.frames, X.room, X.hears, X.method, X.code, (X.here.setHeapUsed s₂.heap s₂.slotsUsed).setVm hW'.alike, X.tail, State.WarmedH.trans X.warmed hW', X.limits, X.bytes, X.same.trans (hsame.setVm s.vm)⟩,
      ⟨g, mk, s₂, L, rfl, rfl, hqc, rfl, hL, rfl, rfl⟩, ?_⟩
    show Steps p.tables e below _ ((({ U with heap := s₂.heap, slotsUsed := s₂.slotsUsed } : State).setVm s₂.vm).setTop { g with pc := g.pc + len₂, stack := v.toList ++ g.stack })
    rw [← hs₂]
    exact hsteps
  · obtain ⟨e2, q2, q3, q4, q5, q6⟩ := id hsm
    have e3 : s₂ = ({ (U.calling g mk a).setFrames s₂.frames with heap := s₂.heap, slotsUsed := s₂.slotsUsed } : State).setVm s₂.vm := by
      have : s₂ = ({ s₂ with vm := (U.calling g mk a).vm } : State).setVm s₂.vm := rfl
      rw [e2] at this
      exact this
    have hf₂ : s₂.frames = .throwing q :: .java g :: U.frames.tail := hend
    have hW' : U.WarmedH s₂.vm := hW₂
    have hs₂ : s₂ = ((({ U with heap := s₂.heap, slotsUsed := s₂.slotsUsed } : State).setVm s₂.vm).setTop g).pushFrame (.throwing q) := by
      refine e3.trans ?_
      rw [hf₂, State.calling_eq h.top, State.setFrames_setFrames, State.pushFrame, State.frames_setTop _ hr', State.setTop_of_frames _ hr', State.setFrames_setFrames, hr]
      rfl
    have hsame : U.sameButNew ({ U with heap := s₂.heap, slotsUsed := s₂.slotsUsed } : State) L mc ms := by
      refine ⟨?_, q2, q3, q4, q5, q6⟩
      obtain ⟨t, ht, -⟩ := State.frames_cons hr
      show ({ U with heap := s₂.heap, slotsUsed := s₂.slotsUsed } : State) = { U.setFrames U.frames with heap := s₂.heap, slotsUsed := s₂.slotsUsed }
      rw [State.setFrames_self ht]
    subst hg
    refine Or.inr ⟨q, ⟨(({ U with heap := s₂.heap, slotsUsed := s₂.slotsUsed } : State).setVm s₂.vm), Ls ++ L, c0 + mc, s0 + ms⟩,
      ⟨X.admits, X.cas, X.clock, X.frames, X.room, X.hears, X.method, X.code, (X.here.setHeapUsed s₂.heap s₂.slotsUsed).setVm hW'.alike, X.tail, State.WarmedH.trans X.warmed hW', X.limits, X.bytes, X.same.trans (hsame.setVm s.vm)⟩,
      ⟨g, mk, s₂, L, E, ce, rfl, rfl, hx, hce, hcv, hcl, rfl, hL, rfl, rfl⟩, ?_⟩
    show Steps p.tables e below _ (((({ U with heap := s₂.heap, slotsUsed := s₂.slotsUsed } : State).setVm s₂.vm).setTop g).pushFrame (.throwing q))
    rw [← hs₂]
    exact hsteps

end SYN_vx_backW
section SYN_vx_callVX
variable {l : Launch} {R : Room} {p : Program} {e : Env} {below : List Frame} {s : State} {sargs : Array Value} {y : MethodName} {len W9 : Nat}
variable {p : Program} {l : Launch} {e : Env} {R : Room} {s : State} {m : MethodId} {args : Array Value} {below : List Frame} {meth : Method} {c : Code} {T : State} {H : Heap} {locs : List Loc} {cells slots : Nat}
theorem syn_call (X : Stand p l e R s m args below meth c T locs cells slots) (hexec : p.tables.exec = Jvm.exec) {own C : String} {index : Nat} {y : MethodName} {bytes : ByteArray} {maxL : Nat} {ret : Option FieldType}
    (hown : s.vm.findClass own = some m.cls) (hlink : (Cond.methodLink own index y).before args s = true) (hinst : (Cond.instanceMethod y).before args s = true) (hsel : (Cond.selects C y y).before args s = true)
    (hcode : (Cond.codeSync y bytes maxL ret).before args s = true) (hy : y.cls ≠ "java/lang/invoke/MethodHandle" ∧ y.cls ≠ "java/lang/invoke/VarHandle")
    {W9 : Nat} {Pre : Pt → Array Value → Prop} {Post : Pt → Array Value → Option Value → Pt → Prop} {PostX : Pt → Array Value → Addr → Pt → Prop} (hK : vx_Back l R p e below s args y 3 W9 Pre Post PostX)
    {b : Addr} {cellB : Cell} (hcell : T.heap[b]? = some cellB) (hobj : cellB.vm.isStatics = false) (hcls : s.vm.findClass C = some cellB.cls)
    {g : JFrame} (hg : g.method = m) (hsize : g.locals.size = c.maxLocals) {argsL rest : List Value} (hlen : ∀ sig, parseMethodDescriptor y.desc = some sig → argsL.length = sig.parameters.length)
    (hstack : g.stack = argsL.reverse ++ .ref b :: rest) (hW : 2 * g.monitorRoom + (rest.map fun v => v.category).sum ≤ W9) (hdg : decode c.code g.pc = .ok (.invokevirtual index, 3))
    (hpre : ∀ vm₁, s.WarmedH vm₁ → Pre ⟨T.setVm vm₁, locs, cells, slots⟩ (Value.ref b :: argsL).toArray) :
    (∃ (v : Option Value) (vm₁ : Vm) (B : Pt), s.WarmedH vm₁ ∧ Stand p l e R s m args below meth c B.U B.locs B.cells B.slots ∧ Post ⟨T.setVm vm₁, locs, cells, slots⟩ (Value.ref b :: argsL).toArray v B ∧
      ∀ target, Steps p.tables e below (B.U.setTop { g with pc := g.pc + 3, stack := v.toList ++ rest }) target → Steps p.tables e below (T.setTop g) target) ∨
    (∃ (q : Addr) (vm₁ : Vm) (B : Pt), s.WarmedH vm₁ ∧ Stand p l e R s m args below meth c B.U B.locs B.cells B.slots ∧ PostX ⟨T.setVm vm₁, locs, cells, slots⟩ (Value.ref b :: argsL).toArray q B ∧
      Steps p.tables e below (T.setTop g) ((B.U.setTop { g with stack := rest }).pushFrame (.throwing q))) := by
  obtain ⟨mk, methM, hnamed, hmethM, hstM, habM⟩ := Cond.instanceMethod_spec hinst
  obtain ⟨methM', cM, hmethM', -, -, -, -, -, -, hsigM⟩ := Cond.codeSync_spec hnamed hcode
  cases hmethM.symm.trans hmethM'
  obtain ⟨c2, r2, m2, q1, q2, q3, q4, kP, hkP, hkPi⟩ := Cond.selects_spec hsel
  cases hcls.symm.trans q1
  cases (State.methodFound?_of_named hnamed hy).symm.trans q2
  cases hnamed.symm.trans q3
  have hselP : selectMethod e.platform s.vm cellB.cls mk = .method mk := by rw [Launch.admits_selectMethod X.admits]; exact q4
  obtain ⟨vm₁, X₁, hstep₁⟩ := X.invokevirtual hexec hown hlink hnamed hmethM hstM hkP hkPi hy (a := b) (cell := cellB) hcell
    (fun z h => by rw [h] at hobj; cases hobj) hselP hmethM habM hkP hkPi (g := g) hg (argsL := argsL) (rest := rest) (hlen _ hsigM) hstack hdg
  rcases hK m meth c ⟨T.setVm vm₁, locs, cells, slots⟩ { g with stack := rest } (.invokevirtual index) mk (Value.ref b :: argsL).toArray X₁ hg hsize hdg hW (X₁.named hnamed) (hpre vm₁ X₁.warmed) with ⟨v, B, X', hpost, hsteps⟩ | ⟨q, B, X', hpost, hsteps⟩
  · exact Or.inl ⟨v, vm₁, B, X₁.warmed, X', hpost, fun target h => hstep₁ _ fun acts => by rw [doInvoke_state]; exact hsteps.trans h⟩
  · exact Or.inr ⟨q, vm₁, B, X₁.warmed, X', hpost, hstep₁ _ fun acts => by rw [doInvoke_state]; exact hsteps⟩

end SYN_vx_callVX
section SYN_vx_runVX
variable {l : Launch} {R : Room} {p : Program} {e : Env} {below : List Frame} {s : State} {sargs : Array Value} {y : MethodName} {len W9 : Nat}
variable {p : Program} {l : Launch} {e : Env} {R : Room} {s : State} {m : MethodId} {args : Array Value} {below : List Frame} {meth : Method} {c : Code} {T : State} {H : Heap} {locs : List Loc} {cells slots : Nat}
variable {y : MethodName} {bytes cc : ByteArray} {maxL nL mc ms n index : Nat} {ret : Option FieldType} {ws : List Cond} {rm : Room} {Pc : Array Value → State → Prop} {Qc : Array Value → State → Outcome → State → Prop} {XC : String → Addr → State → State → Prop} {free : Addr → Prop} {Ts : List Cond} {own C : String} {b : Addr} {As rest : List Value} {g : JFrame}
theorem syn_run (S : CallFix p m c cc nL s args Ts own) (hM : vx_Met l y ws rm Pc Qc XC mc ms free) (cw : syn_CV R s args own C index y bytes maxL ret ws rm mc ms n) (hp : PreV s H C b Pc As)
    (hg : g.method = m) (hn : As.length = n) (hsize : g.locals.size = nL) (hstack : g.stack = As.reverse ++ .ref b :: rest) (hW : 2 * g.monitorRoom + (rest.map fun v => v.category).sum ≤ 8) (hdg : decode cc g.pc = .ok (.invokevirtual index, 3)) (hf : cells + mc ≤ R.cells ∧ slots + ms ≤ R.slots) :
    vx_Run p l e R s m args below meth c H locs cells slots mc ms g rest (Qc (Value.ref b :: As).toArray) XC free := by
  obtain ⟨⟨hrc, hrs, hfr, hlo, hws, hcw⟩, hcode, hini, hy, hlen, hl, hin, hse⟩ := cw
  have hK : vx_Back l R p e below s args y 3 8 (PreOf R mc ms Pc) (PostOf Qc mc ms free) (vx_Post XC mc ms free) := syn_back (bytes := bytes) (maxL := maxL) (ret := ret) hM hp.1 hrc hrs hfr hlo hws hcw (fun a' U hW => word_at hW (Or.inl (by first | rfl | simp [Cond.onTables, Cond.keeps, Cond.steady])) hini)
  obtain ⟨hx, hb, hml, ho, -⟩ := S
  obtain ⟨-, ⟨cellB, hcB, hoB, hclB⟩, hPc⟩ := hp
  intro T hT X
  rcases syn_call X hx (C := C) (bytes := bytes) (maxL := maxL) (ret := ret) ho hl hin hse hcode hy hK (by rw [hT]; exact hcB) hoB hclB hg (hsize.trans hml.symm) (argsL := As) (rest := rest) (fun sig h => hn.trans (hlen sig h)) hstack hW (by rw [hb]; exact hdg)
    (fun vm₁ hW₁ => ⟨hf.1, hf.2, hPc (T.setVm vm₁) hT hW₁⟩) with ⟨v, vm₁, ⟨U', l2, c2, s2⟩, hW₁, X', ⟨g', mk, t, L, e1, e2, hq, h1, hL, h2, h3⟩, st⟩ | ⟨q, vm₁, ⟨U', l2, c2, s2⟩, hW₁, X', ⟨g', mk, t, L, E, ce, e1, e2, hq, hce, hcv, hcl, h1, hL, h2, h3⟩, st⟩
  · dsimp only [Pt.U, Pt.locs, Pt.cells, Pt.slots] at X' e1 e2 h1 h2 h3 st
    subst h1; subst h2; subst h3
    exact Or.inl ⟨v, (T.setVm vm₁).calling g' mk (Value.ref b :: As).toArray, t, U', L, hT, X', hL, e1, e2, hq, st⟩
  · dsimp only [Pt.U, Pt.locs, Pt.cells, Pt.slots] at X' e1 e2 h1 h2 h3 st hcl
    subst h1; subst h2; subst h3
    exact Or.inr ⟨q, (T.setVm vm₁).calling g' mk (Value.ref b :: As).toArray, t, U', L, E, ce, hT, X', hL, e1, e2, hq, hce, hcv, vx_cls hW₁ hcl, st⟩

end SYN_vx_runVX
section JRS
variable {p : Program} {l : Launch} {e : Env} {R : Room} {s : State} {m : MethodId} {args : Array Value} {below : List Frame} {meth : Method} {c : Code} {Q : State → Prop} {Ω : jO} {nL : Nat}
variable {cells slots sz : Nat} {G : Mem} {L : List (Option Value)} {st : List Value} {cc : ByteArray} {own : String} {pc : Nat}
/-- invokevirtual of a synchronized method that a superclass declares -/
theorem J_callVS (cx : jCX p s m args meth c cc own Ω nL) {y : MethodName} {bytes : ByteArray} {maxL n index mc ms ci b : Nat} {ret : Option FieldType} {q : vw_C} {fs : List Value} {rm : Room} {post : Option Value → Mem → Nat → Prop} {xpost : Nat → Nat → Mem → Nat → Prop} (As : List Value) {rest st0 : List Value}
    (hM : vx_Met l y (wsS_ y bytes maxL ret) rm (va_Pc (.ref b :: As) (jWd Ω G sz)) (jQ Ω post) (jXC Ω xpost) mc ms (jB Ω)) (hdg : decode cc pc = .ok (.invokevirtual index, 3))
    (h1 : Cond.methodLink own index y ∈ lw_all) (h2 : Cond.instanceMethod y ∈ lw_all) (h3 : Cond.selects q.1 y y ∈ lw_all) (h4 : Cond.initialized y.cls ∈ lw_all) (h5 : Cond.codeSync y bytes maxL ret ∈ lw_all)
    (hd : y.cls ≠ "java/lang/invoke/MethodHandle" ∧ y.cls ≠ "java/lang/invoke/VarHandle" ∧ (parseMethodDescriptor y.desc).map (fun d => d.parameters.length) = some n) (hc : vwCl[ci]? = some q) (hb : G b = some (.inr (ci, fs)))
    (hrc : rm.cells = mc) (hrs : rm.slots = ms) (hR : rm.frames + 1 ≤ R.frames ∧ 8 + (maxL + 11) + rm.locals ≤ R.locals) (hn : As.length = n) (hstack : st0 = As.reverse ++ .ref b :: rest) (hW : (rest.map fun v => v.category).sum ≤ 8) (hf : cells + mc ≤ R.cells ∧ slots + ms ≤ R.slots)
    (kk : ∀ (v : Option Value) (G1 : Mem) (sz1 : Nat), post v G1 sz1 → sz ≤ sz1 → J p l e R s m args below meth c Ω nL Q (cells + mc) (slots + ms) sz1 G1 (pc + 3) L (v.toList ++ rest))
    (kx : jK9x p l e R s m args below meth c Ω nL Q (cells + mc) (slots + ms) sz pc L xpost) : J p l e R s m args below meth c Ω nL Q cells slots sz G pc L st0 := by
  subst hstack
  have hG := lw_methS h5
  have cw : syn_CV R s args own q.1 index y bytes maxL ret (wsS_ y bytes maxL ret) rm mc ms n := ⟨⟨hrc, hrs, hR.1, hR.2, pay_in cx.ts hG, List.mem_cons_self⟩, cx.ts _ h5, cx.ts _ h4, ⟨hd.1, hd.2.1⟩, fun sig h => (by
    have h9 := hd.2.2
    rw [h] at h9
    exact (Option.some.inj h9).symm), cx.ts _ h1, cx.ts _ h2, cx.ts _ h3⟩
  exact jrunX cx (fun H locs ls g1 g2 g3 g4 => syn_run (jfix cx) hM cw ⟨jWd.blind _, jrecv cx g2 hc hb, fun U hU hW9 => ⟨rfl, jWd.call cx g1 g2 g3 hU hW9⟩⟩ rfl hn g4.1 rfl (lv_room hW) hdg hf) kk kx
end JRS
def yJ15_getCause : MethodName := ⟨"java/lang/Throwable", "getCause", "()Ljava/lang/Throwable;"⟩
abbrev cJ15_getCause : ByteArray := prog_55_method_8_code
theorem dgc0 : decode cJ15_getCause 0 = .ok (.aload_n 0, 1) := by decide +kernel
theorem dgc1 : decode cJ15_getCause 1 = .ok (.getfield 7, 3) := by decide +kernel
theorem dgc4 : decode cJ15_getCause 4 = .ok (.aload_n 0, 1) := by decide +kernel
theorem dgc5 : decode cJ15_getCause 5 = .ok (.if_acmp .ne 7, 3) := by decide +kernel
theorem dgc12 : decode cJ15_getCause 12 = .ok (.aload_n 0, 1) := by decide +kernel
theorem dgc13 : decode cJ15_getCause 13 = .ok (.getfield 7, 3) := by decide +kernel
theorem dgc16 : decode cJ15_getCause 16 = .ok (.areturn, 1) := by decide +kernel
/-- the frame of the synchronized getCause -/
abbrev gcF (m : MethodId) (a pc : Nat) (st : List Value) : JFrame := { method := m, pc := pc, locals := #[.val (.ref a)], stack := st, locked := some a, monitorRoom := 1 }
theorem t_J15_getCause (l : Launch) (Ω : jO) {G : Mem} {sz : Nat} (a : Nat) {ca : Option Nat} {x : Int32 × Int32} (ha : G a = some (rfE (va_rf ca) x)) (hca : ca ≠ some a) :
    vx_Met l yJ15_getCause (wsS_ yJ15_getCause cJ15_getCause 1 (some (.object "java/lang/Throwable"))) ({ frames := 1, cells := 0, slots := 0, locals := 20 } : Room) (va_Pc [.ref a] (jWd Ω G sz)) (jQ Ω (jD (some (va_rf ca)) G sz)) (jXC Ω (fun _ _ _ _ => False)) 0 0 (jB Ω) := by
  intro p e hadm hcas hclk s m args below hf happ hP _
  obtain ⟨hrun, hable, halone, hname, hhears, hinit, hroom, hpre⟩ := (Spec.appliesLoose_iff hf).mp happ
  obtain ⟨rfl, hsz, hgr, hkw, hbs, hst⟩ := hP
  have hts := atoms_spec (ws := wsS_ yJ15_getCause cJ15_getCause 1 (some (.object "java/lang/Throwable"))) hpre
  have hall : ∀ w ∈ lw_all, w.before [Value.ref a].toArray s = true := fun w h => hts w (List.mem_cons_of_mem _ h)
  obtain ⟨meth, c, hmeth, hcode, hbytes, hlocals, hret, hlocks, -, -⟩ := Cond.codeSync_spec hname (hts _ List.mem_cons_self)
  obtain ⟨m9, methM, hn9, hm9, hstat, -⟩ := Cond.instanceMethod_spec (hall _ q2572)
  cases Option.some.inj (hname.symm.trans hn9)
  cases hmeth.symm.trans hm9
  obtain ⟨⟨r, hr8, cell, hcell, hcl, hvm, hsl⟩, hfr⟩ := hgr _ _ ha
  obtain ⟨hfree, hcount⟩ := hfr cell hcell
  have hr8' : r = (RX10, TX10, 8) := Option.some.inj (hr8.symm.trans rfl)
  subst hr8'
  have hlt : a < s.heap.size := (Array.getElem?_eq_some_iff.mp hcell).1
  have hcur := State.cur_lt_of_frames hf
  have hexec : p.tables.exec = Jvm.exec := by cases p <;> rfl
  have hown : s.vm.findClass "java/lang/Throwable" = some m.cls := findClass_of_methodNamed hname
  let s0 : State := s.setCell a (cell.withEntry s.cur)
  have hcur0 : s0.cur < s0.threads.size := hcur
  let s₁ : State := s0.setFrames (.java (entryFrameSync m [Value.ref a].toArray 1 a) :: below)
  have hs1 : s₁ = s0.setFrames (.java (entryFrameSync m [Value.ref a].toArray 1 a) :: below) := rfl
  have hf1 : s₁.frames = .java (entryFrameSync m [Value.ref a].toArray 1 a) :: below := State.frames_setFrames _ hcur0
  have ht1 := State.topJava?_of_frames hf1
  have hplain : s₁.plainMethod m := State.plainMethod.of_named (s := s) (x := yJ15_getCause) (by decide +kernel) hname hmeth
  have hAt : At s₁ m c below :=
    ⟨by rw [ht1]; rfl, ⟨[], by rw [hf1]; rfl⟩, hrun, by simpa [s₁, s0] using hable, by simpa [s₁, s0] using halone,
      by rw [State.code?_eq]; simp [s₁, s0, State.setFrames, State.setCell, hmeth, hcode], hplain⟩
  have hmeth0 : s₁.vm.method? m = some meth := hmeth
  have hvm1 : s₁.vm = s0.vm := rfl
  have hX : Stand p l e { frames := 1, cells := 0, slots := 0, locals := 20 } s0 m [Value.ref a].toArray below meth c s₁ [] 0 0 := by
    obtain ⟨t, ht, -⟩ := State.frames_cons hf
    refine ⟨hadm, hcas, hclk, hf, by rw [State.hasRoom_setCell (x := cell.withEntry s.cur) hcell rfl]; exact hroom, hhears, hmeth, hcode, hAt, by rw [hf1]; rfl,
      by rw [hvm1]; exact State.WarmedH.refl s0, by rw [hs1, State.stackLimits_setFrames], by rw [hs1, State.stackBytes_setFrames], ?_⟩
    have h := (State.sameButNew.refl s0 (x := t) ht).setFrames (.java (entryFrameSync m [Value.ref a].toArray 1 a) :: below) hcur
    exact h
  have hH : s₁.heap = s.heap.setIfInBounds a (cell.withEntry s.cur) := rfl
  have hc1 : (s.heap.setIfInBounds a (cell.withEntry s.cur))[a]? = some (cell.withEntry s.cur) := by simp [hlt]
  have hstep : (stepThread p.tables e s).1 = s₁.setTop (entryFrameSync m [Value.ref a].toArray 1 a) := by
    have hfull : e.platform.stackFull (s.setFrames below).me (s.setFrames below).frames (c.maxLocals + 2) = false := by
      obtain ⟨-, h1, -, h2⟩ := State.hasRoom_stack hroom
      rw [hf, List.length_cons] at h1
      rw [State.localsInUse_invoking hf hmeth hcode] at h2
      have hw := stackUse_le_stackWeight below
      rw [State.frames_setFrames _ hcur]
      simp only [vmFrameWords] at h2
      simp only [headSpec] at h1 h2
      exact Platform.stackFull_eq_false (by rw [State.stackLimits_setFrames]; omega) (by rw [State.stackLimits_setFrames]; omega)
    rw [stepThread_invoking hf, (doInvoke_java_sync (s := s.setFrames below) (e := e) (meth := meth) (code := c) (a := a) (cell := cell) hmeth hcode hlocks hstat rfl hcell (Or.inl hfree) hfull).1,
      State.setTop_self ht1, hlocals]
    show (((s.setFrames below).setCell a (cell.withEntry s.cur)).setFrames (.java (entryFrameSync m [Value.ref a].toArray 1 a) :: ((s.setFrames below).setCell a (cell.withEntry s.cur)).frames)) = _
    rw [show ((s.setFrames below).setCell a (cell.withEntry s.cur)).frames = below from State.frames_setFrames _ hcur, State.setCell_setFrames, State.setFrames_setFrames]
  have hlink0 : (Cond.fieldLink "java/lang/Throwable" 7 "java/lang/Throwable" "cause" "Ljava/lang/Throwable;").before [Value.ref a].toArray s0 = true := word_at (s := s) (U := s0) (State.WarmedH.refl s) (Or.inl rfl) (hall _ q1099)
  obtain ⟨hS, hfc, kC, hkC, hkind⟩ := hkw.1.1 8 (RX10, TX10, 8) rfl
  obtain ⟨cf, kf, fi, f, hi, hslt⟩ := hS 0 (by decide)
  have hstF := (u_facts hfc hkC (u_lays hall in_X10 (by decide)) hi).1
  have hi0 : s0.fieldFound? "java/lang/Throwable" "cause" "Ljava/lang/Throwable;" = some (cf, kf, fi, f) := hi
  have hslot : (cell.withEntry s.cur).slots[f.slot]? = some (va_rf ca) := by rw [hslt]; exact hsl 0 (by decide)
  have hend : ∀ T : State, T.heap = s.heap.setIfInBounds a (cell.withEntry s.cur) → Stand p l e { frames := 1, cells := 0, slots := 0, locals := 20 } s0 m [Value.ref a].toArray below meth c T [] 0 0 →
      ∃ t, Steps p.tables e below (T.setTop (gcF m a 16 [va_rf ca])) t ∧ vx_MQ below (jQ Ω (jD (some (va_rf ca)) G sz)) (jXC Ω (fun _ _ _ _ => False)) [Value.ref a].toArray s 0 0 (jB Ω) t := by
    intro T hT X
    obtain ⟨fs, cellT, hTc, hrt, hrunT, hended, hWm, hsame⟩ := X.leaveSync hcell (Or.inl ⟨hfree, hcount⟩) hlocks (v := some (va_rf ca)) (fun h => by rw [hret] at h; cases h)
    have hcT : cellT = cell.withEntry s.cur := by rw [hT, hc1] at hTc; exact (Option.some.inj hTc).symm
    have hheap : ((T.setCell a cellT.left).setFrames fs).heap = s.heap := by
      show T.heap.setIfInBounds a cellT.left = _
      rw [hT, hcT, Cell.left_withEntry s.cur hfree hcount, Array.setIfInBounds_setIfInBounds]
      exact Array.ext_getElem? fun i => by
        by_cases h : a = i
        · subst h; simp [hlt]; exact (Array.getElem?_eq_some_iff.mp hcell).2.symm
        · simp [Array.getElem?_setIfInBounds, h]
    have hmeth' : T.vm.method? m = some meth := X.method'
    refine ⟨(T.setCell a cellT.left).setFrames fs, ?_, .returned (some (va_rf ca)), hrunT, hended, Or.inl ⟨⟨⟨some (va_rf ca), G, sz, rfl, ⟨rfl, rfl, rfl⟩, by rw [hheap]; exact hsz, by rw [hheap]; exact hgr⟩, ⟨by rw [hheap]; exact Nat.le_refl _, fun q _ _ => by rw [hheap]⟩⟩, [], ⟨⟨_, rfl⟩, hWm, hsame⟩, fun q hq => by simp at hq⟩⟩
    cases ca with
    | none =>
      have hrt : ∀ (f : JFrame) (acts : List Action), f.method = m → f.locked = some a → f.entered = [] → (doReturn e (T.setTop f) acts (some Value.null)).1 = (T.setCell a cellT.left).setFrames fs := hrt
      jvm_step X.here [X.here.top, hexec, hbytes, dgc16, hmeth', hret, va_rf]
      (try refine ⟨rfl, ?_⟩); (try refine ⟨rfl, ?_⟩)
      first | (intro acts; rw [hrt _ acts rfl rfl rfl]) | rw [hrt _ _ rfl rfl rfl]
      exact Steps.refl _
    | some q =>
      have hrt : ∀ (f : JFrame) (acts : List Action), f.method = m → f.locked = some a → f.entered = [] → (doReturn e (T.setTop f) acts (some (Value.ref q))).1 = (T.setCell a cellT.left).setFrames fs := hrt
      jvm_step X.here [X.here.top, hexec, hbytes, dgc16, hmeth', hret, va_rf]
      (try refine ⟨rfl, ?_⟩); (try refine ⟨rfl, ?_⟩)
      first | (intro acts; rw [hrt _ acts rfl rfl rfl]) | rw [hrt _ _ rfl rfl rfl]
      exact Steps.refl _
  have hwalk : W p l e { frames := 1, cells := 0, slots := 0, locals := 20 } s0 m [Value.ref a].toArray below meth c (s.heap.setIfInBounds a (cell.withEntry s.cur)) [] 0 0 (vx_MQ below (jQ Ω (jD (some (va_rf ca)) G sz)) (jXC Ω (fun _ _ _ _ => False)) [Value.ref a].toArray s 0 0 (jB Ω)) (gcF m a 0 []) := by
    refine W.go (g2 := gcF m a 1 [.ref a]) (fun T hA tg hh => by
      jvm_step hA [hA.top, hexec, hbytes, dgc0, Value.isRef]
      exact hh) ?_
    refine W.getf (s := s0) (args := [Value.ref a].toArray) hexec hbytes hown hlink0 hi0 hstF hc1 (fun h => by rw [show (cell.withEntry s.cur).vm = cell.vm from rfl, hvm] at h; cases h) hslot (g := gcF m a 1 [.ref a]) rfl (rest := []) rfl dgc1 ?_
    refine W.go (g2 := gcF m a 5 [.ref a, va_rf ca]) (fun T hA tg hh => by
      jvm_step hA [hA.top, hexec, hbytes, dgc4, Value.isRef]
      exact hh) ?_
    refine W.go (g2 := gcF m a 12 []) (fun T hA tg hh => by
      cases ca with
      | none => jvm_step hA [hA.top, hexec, hbytes, dgc5, va_rf, Value.asRef?, Op.if_acmp.holds]; exact hh
      | some q =>
        have hq : ¬ q = a := fun h => hca (by rw [h])
        jvm_step hA [hA.top, hexec, hbytes, dgc5, va_rf, Value.asRef?, Op.if_acmp.holds, hq, Ne.symm hq]; exact hh) ?_
    refine W.go (g2 := gcF m a 13 [.ref a]) (fun T hA tg hh => by
      jvm_step hA [hA.top, hexec, hbytes, dgc12, Value.isRef]
      exact hh) ?_
    refine W.getf (s := s0) (args := [Value.ref a].toArray) hexec hbytes hown hlink0 hi0 hstF hc1 (fun h => by rw [show (cell.withEntry s.cur).vm = cell.vm from rfl, hvm] at h; cases h) hslot (g := gcF m a 13 [.ref a]) rfl (rest := []) rfl dgc13 ?_
    exact hend
  obtain ⟨s₂, hs, o, hr, he, hp⟩ := hwalk s₁ hH hX
  obtain ⟨n, hn, hw⟩ := Steps.head (tb := p.tables) (e := e) ⟨hrun, hable, halone⟩ ⟨[.invoking m [Value.ref a].toArray], hf, by simp, by simp⟩ (hstep ▸ hs)
  exact ⟨n, o, hw, hn ▸ hr, hn ▸ he, hn ▸ hp⟩

section ABX_vx_callVX
variable {l : Launch} {R : Room} {p : Program} {e : Env} {below : List Frame} {s : State} {sargs : Array Value} {y : MethodName} {len W9 : Nat}
variable {p : Program} {l : Launch} {e : Env} {R : Room} {s : State} {m : MethodId} {args : Array Value} {below : List Frame} {meth : Method} {c : Code} {T : State} {H : Heap} {locs : List Loc} {cells slots : Nat}
theorem abx_call (X : Stand p l e R s m args below meth c T locs cells slots) (hexec : p.tables.exec = Jvm.exec) {own C owner : String} {index : Nat} {x y : MethodName}
    (hown : s.vm.findClass own = some m.cls) (hlink : (Cond.methodLink own index x).before args s = true) (hsame : (Cond.sameMethod x.cls owner x.name x.desc).before args s = true)
    (hd0 : va_Decl s ⟨owner, x.name, x.desc⟩) (howner : owner ≠ "java/lang/invoke/MethodHandle" ∧ owner ≠ "java/lang/invoke/VarHandle")
    (hsel : (Cond.selects C x y).before args s = true) (hinst : (Cond.instanceMethod y).before args s = true)
    {W9 : Nat} {Pre : Pt → Array Value → Prop} {Post : Pt → Array Value → Option Value → Pt → Prop} {PostX : Pt → Array Value → Addr → Pt → Prop} (hK : vx_Back l R p e below s args y 3 W9 Pre Post PostX)
    {b : Addr} {cellB : Cell} (hcell : T.heap[b]? = some cellB) (hobj : cellB.vm.isStatics = false) (hcls : s.vm.findClass C = some cellB.cls)
    {g : JFrame} (hg : g.method = m) (hsize : g.locals.size = c.maxLocals) {argsL rest : List Value} (hlen : ∀ sig, parseMethodDescriptor x.desc = some sig → argsL.length = sig.parameters.length)
    (hstack : g.stack = argsL.reverse ++ .ref b :: rest) (hW : 2 * g.monitorRoom + (rest.map fun v => v.category).sum ≤ W9) (hdg : decode c.code g.pc = .ok (.invokevirtual index, 3))
    (hpre : ∀ vm₁, s.WarmedH vm₁ → Pre ⟨T.setVm vm₁, locs, cells, slots⟩ (Value.ref b :: argsL).toArray) :
    (∃ (v : Option Value) (vm₁ : Vm) (B : Pt), s.WarmedH vm₁ ∧ Stand p l e R s m args below meth c B.U B.locs B.cells B.slots ∧ Post ⟨T.setVm vm₁, locs, cells, slots⟩ (Value.ref b :: argsL).toArray v B ∧
      ∀ target, Steps p.tables e below (B.U.setTop { g with pc := g.pc + 3, stack := v.toList ++ rest }) target → Steps p.tables e below (T.setTop g) target) ∨
    (∃ (q : Addr) (vm₁ : Vm) (B : Pt), s.WarmedH vm₁ ∧ Stand p l e R s m args below meth c B.U B.locs B.cells B.slots ∧ PostX ⟨T.setVm vm₁, locs, cells, slots⟩ (Value.ref b :: argsL).toArray q B ∧
      Steps p.tables e below (T.setTop g) ((B.U.setTop { g with stack := rest }).pushFrame (.throwing q))) := by
  obtain ⟨r0, r, hn, hrm, hstR, hsigR⟩ := hd0
  obtain ⟨cn, ck, r1, hcn, hck, hni, hf, hn1⟩ := Cond.sameMethod_found hsame
  cases hn.symm.trans hn1
  obtain ⟨mk, methM, hnamed, hmethM, -, habM⟩ := Cond.instanceMethod_spec hinst
  obtain ⟨c2, r2, m2, q1, q2, q3, q4, kP, hkP, hkPi⟩ := Cond.selects_spec hsel
  cases hcls.symm.trans q1
  cases hf.symm.trans q2
  cases hnamed.symm.trans q3
  have hselP : selectMethod e.platform s.vm cellB.cls r0 = .method mk := by rw [Launch.admits_selectMethod X.admits]; exact q4
  obtain ⟨vm₁, X₁, hstep₁⟩ := X.invokevirtualUp hexec hown hlink hsame howner hn hrm hstR (a := b) (cell := cellB) hcell
    (fun z h => by rw [h] at hobj; cases hobj) hselP hmethM habM hkP hkPi (g := g) hg (argsL := argsL) (rest := rest) (hlen _ hsigR) hstack hdg
  rcases hK m meth c ⟨T.setVm vm₁, locs, cells, slots⟩ { g with stack := rest } (.invokevirtual index) mk (Value.ref b :: argsL).toArray X₁ hg hsize hdg hW (X₁.named hnamed) (hpre vm₁ X₁.warmed) with ⟨v, B, X', hpost, hsteps⟩ | ⟨q, B, X', hpost, hsteps⟩
  · exact Or.inl ⟨v, vm₁, B, X₁.warmed, X', hpost, fun target h => hstep₁ _ fun acts => by rw [doInvoke_state]; exact hsteps.trans h⟩
  · exact Or.inr ⟨q, vm₁, B, X₁.warmed, X', hpost, hstep₁ _ fun acts => by rw [doInvoke_state]; exact hsteps⟩

end ABX_vx_callVX
section ABX_vx_runVX
variable {l : Launch} {R : Room} {p : Program} {e : Env} {below : List Frame} {s : State} {sargs : Array Value} {y : MethodName} {len W9 : Nat}
variable {p : Program} {l : Launch} {e : Env} {R : Room} {s : State} {m : MethodId} {args : Array Value} {below : List Frame} {meth : Method} {c : Code} {T : State} {H : Heap} {locs : List Loc} {cells slots : Nat}
variable {y : MethodName} {bytes cc : ByteArray} {maxL nL mc ms n index : Nat} {ret : Option FieldType} {ws : List Cond} {rm : Room} {Pc : Array Value → State → Prop} {Qc : Array Value → State → Outcome → State → Prop} {XC : String → Addr → State → State → Prop} {free : Addr → Prop} {Ts : List Cond} {own C : String} {b : Addr} {As rest : List Value} {g : JFrame}
theorem abx_run {x : MethodName} {owner : String} (S : CallFix p m c cc nL s args Ts own) (hM : vx_Met l y ws rm Pc Qc XC mc ms free) (cw : va_CU R s args own C owner index x y bytes maxL ret ws rm mc ms n) (hp : PreV s H C b Pc As)
    (hg : g.method = m) (hn : As.length = n) (hsize : g.locals.size = nL) (hstack : g.stack = As.reverse ++ .ref b :: rest) (hW : 2 * g.monitorRoom + (rest.map fun v => v.category).sum ≤ 8) (hdg : decode cc g.pc = .ok (.invokevirtual index, 3)) (hf : cells + mc ≤ R.cells ∧ slots + ms ≤ R.slots) :
    vx_Run p l e R s m args below meth c H locs cells slots mc ms g rest (Qc (Value.ref b :: As).toArray) XC free := by
  obtain ⟨hrc, hrs, hfr, hlo, hws, hcw⟩ := cw.back
  have hini := cw.init
  have hK : vx_Back l R p e below s args y 3 8 (PreOf R mc ms Pc) (PostOf Qc mc ms free) (vx_Post XC mc ms free) := vx_back (bytes := bytes) (maxL := maxL) (ret := ret) hM hp.1 hrc hrs hfr hlo hws hcw (fun a' U hW => word_at hW (Or.inl (by first | rfl | simp [Cond.onTables, Cond.keeps, Cond.steady])) hini)
  obtain ⟨hx, hb, hml, ho, -⟩ := S
  obtain ⟨-, ⟨cellB, hcB, hoB, hclB⟩, hPc⟩ := hp
  intro T hT X
  rcases abx_call X hx (C := C) (owner := owner) ho cw.link cw.same cw.decl cw.notMH cw.sel cw.inst hK (by rw [hT]; exact hcB) hoB hclB hg (hsize.trans hml.symm) (argsL := As) (rest := rest) (fun sig h => hn.trans (cw.len sig h)) hstack hW (by rw [hb]; exact hdg)
    (fun vm₁ hW₁ => ⟨hf.1, hf.2, hPc (T.setVm vm₁) hT hW₁⟩) with ⟨v, vm₁, ⟨U', l2, c2, s2⟩, hW₁, X', ⟨g', mk, t, L, e1, e2, hq, h1, hL, h2, h3⟩, st⟩ | ⟨q, vm₁, ⟨U', l2, c2, s2⟩, hW₁, X', ⟨g', mk, t, L, E, ce, e1, e2, hq, hce, hcv, hcl, h1, hL, h2, h3⟩, st⟩
  · dsimp only [Pt.U, Pt.locs, Pt.cells, Pt.slots] at X' e1 e2 h1 h2 h3 st
    subst h1; subst h2; subst h3
    exact Or.inl ⟨v, (T.setVm vm₁).calling g' mk (Value.ref b :: As).toArray, t, U', L, hT, X', hL, e1, e2, hq, st⟩
  · dsimp only [Pt.U, Pt.locs, Pt.cells, Pt.slots] at X' e1 e2 h1 h2 h3 st hcl
    subst h1; subst h2; subst h3
    exact Or.inr ⟨q, (T.setVm vm₁).calling g' mk (Value.ref b :: As).toArray, t, U', L, E, ce, hT, X', hL, e1, e2, hq, hce, hcv, vx_cls hW₁ hcl, st⟩

end ABX_vx_runVX
section JRA
variable {p : Program} {l : Launch} {e : Env} {R : Room} {s : State} {m : MethodId} {args : Array Value} {below : List Frame} {meth : Method} {c : Code} {Q : State → Prop} {Ω : jO} {nL : Nat}
variable {cells slots sz : Nat} {G : Mem} {L : List (Option Value)} {st : List Value} {cc : ByteArray} {own : String} {pc : Nat}
/-- invokevirtual of an abstract method that may throw -/
theorem J_callAX (cx : jCX p s m args meth c cc own Ω nL) {x y : MethodName} {owner : String} {bytes : ByteArray} {maxL n index mc ms ci b : Nat} {ret : Option FieldType} {q : vw_C} {fs : List Value} {rm : Room} {post : Option Value → Mem → Nat → Prop} {xpost : Nat → Nat → Mem → Nat → Prop} (As : List Value) {rest st0 : List Value}
    (hM : vx_Met l y (ws_ y bytes maxL ret) rm (va_Pc (.ref b :: As) (jWd Ω G sz)) (jQ Ω post) (jXC Ω xpost) mc ms (jB Ω)) (hdg : decode cc pc = .ok (.invokevirtual index, 3))
    (hcode : Cond.code y bytes maxL ret ∈ lw_all) (hdc : Cond.declares ⟨owner, x.name, x.desc⟩ ∈ lw_tbl) (hlk : Cond.methodLink own index x ∈ lw_all) (hsame : Cond.sameMethod x.cls owner x.name x.desc ∈ lw_all) (hsel : Cond.selects q.1 x y ∈ lw_all) (hins : Cond.instanceMethod y ∈ lw_all) (hini : Cond.initialized y.cls ∈ lw_all)
    (hd : owner ≠ "java/lang/invoke/MethodHandle" ∧ owner ≠ "java/lang/invoke/VarHandle" ∧ (parseMethodDescriptor x.desc).map (fun d => d.parameters.length) = some n) (hc : vwCl[ci]? = some q) (hb : G b = some (.inr (ci, fs)))
    (hrc : rm.cells = mc) (hrs : rm.slots = ms) (hR : rm.frames + 1 ≤ R.frames ∧ 8 + (maxL + 11) + rm.locals ≤ R.locals) (hn : As.length = n) (hstack : st0 = As.reverse ++ .ref b :: rest) (hW : (rest.map fun v => v.category).sum ≤ 8) (hf : cells + mc ≤ R.cells ∧ slots + ms ≤ R.slots)
    (kk : ∀ (v : Option Value) (G1 : Mem) (sz1 : Nat), post v G1 sz1 → sz ≤ sz1 → J p l e R s m args below meth c Ω nL Q (cells + mc) (slots + ms) sz1 G1 (pc + 3) L (v.toList ++ rest))
    (kx : jK9x p l e R s m args below meth c Ω nL Q (cells + mc) (slots + ms) sz pc L xpost) : J p l e R s m args below meth c Ω nL Q cells slots sz G pc L st0 := by
  subst hstack
  have hg : GoodIn lw_all (va_wsU own index q.1 owner x y (ws_ y bytes maxL ret)) := by
    refine lw_app ?_ (lw_meth hcode)
    intro w hw
    simp only [List.mem_cons, List.not_mem_nil, or_false] at hw
    rcases hw with e | e | e | e | e <;> (rw [e]; assumption)
  exact jrunX cx (fun H locs ls g1 g2 g3 g4 => abx_run (jfix cx) hM (va_cwA n cx.ts hg rfl hrc hrs (cx.nest hdc rfl) hd hR) ⟨jWd.blind _, jrecv cx g2 hc hb, fun U hU hW9 => ⟨rfl, jWd.call cx g1 g2 g3 hU hW9⟩⟩ rfl hn g4.1 rfl (lv_room hW) hdg hf) kk kx
end JRA