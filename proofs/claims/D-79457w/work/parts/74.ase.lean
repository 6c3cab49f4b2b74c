/-! THE JUDGEMENT J, PART EIGHT: methods with handlers; ArrayStoreException out of aastore -/
set_option maxRecDepth 100000
section JR12
variable {p : Program} {l : Launch} {e : Env} {R : Room} {s : State} {m : MethodId} {args : Array Value} {below : List Frame} {meth : Method} {c : Code} {Q : State → Prop} {Ω : jO} {nL : Nat}
variable {cells slots sz : Nat} {G : Mem} {L : List (Option Value)} {st : List Value} {cc : ByteArray} {own : String} {pc : Nat}
/-- the contract of a method with handlers -/
theorem jMetXH {y : MethodName} {rm : Room} {av : List Value} {post : Option Value → Mem → Nat → Prop} {xpost : Nat → Nat → Mem → Nat → Prop} {mc ms : Nat} {ret : Option FieldType} {hh : List (Nat × Nat × Nat × Nat)} (hy : plainName y.cls = true) (hla : (jargs av).length ≤ nL)
    (body : ∀ (p : Program) (e : Env) (s : State) (m : MethodId) (args : Array Value) (below : List Frame) (meth : Method) (c : Code), jCX p s m args meth c cc y.cls Ω nL → meth.sig.returnType = ret → meth.name = y.name → c.exceptionTable.toList = tableOf hh → J p l e rm s m args below meth c Ω nL (vx_MQ below (jQ Ω post) (jXC Ω xpost) args s mc ms (jB Ω)) 0 0 sz G 0 (jargs av ++ List.replicate (nL - (jargs av).length) none) []) :
    vx_Met l y (wsW_ y cc nL ret hh) rm (va_Pc av (jWd Ω G sz)) (jQ Ω post) (jXC Ω xpost) mc ms (jB Ω) := by
  refine vx_ofWH (cc := cc) (maxL := nL) (ret := ret) hy rfl ?_
  intro p e s m args below meth c s₁ B hml hv
  obtain ⟨rfl, hsz, hgr, hkw, hbs, hst⟩ := hv
  have hts := atoms_spec (ws := wsW_ y cc nL ret hh) B.pre
  have hex := vx_table (x := y) B (hts _ List.mem_cons_self)
  have cx : jCX p s m av.toArray meth c cc y.cls Ω nL := ⟨B.exec, B.bytes, hml, findClass_of_methodNamed B.named, fun w h => hts w (List.mem_cons_of_mem _ h), hkw, by rw [hsz]; exact hbs, B.notSynchronized, hst⟩
  rw [lg_entry_eq]
  exact body p e s m av.toArray below meth c cx B.returns (name_of_methodNamed B.named B.method).1 hex s.heap [] _ hsz hgr va_S.rf (jL_entry av hla)
/-- invokevirtual of a method with handlers that may throw -/
theorem J_callVXH (cx : jCX p s m args meth c cc own Ω nL) {y : MethodName} {bytes : ByteArray} {maxL n index mc ms ci b : Nat} {ret : Option FieldType} {hh : List (Nat × Nat × Nat × Nat)} {q : vw_C} {fs : List Value} {rm : Room} {post : Option Value → Mem → Nat → Prop} {xpost : Nat → Nat → Mem → Nat → Prop} (As : List Value) {rest st0 : List Value}
    (hM : vx_Met l y (wsW_ y bytes maxL ret hh) rm (va_Pc (.ref b :: As) (jWd Ω G sz)) (jQ Ω post) (jXC Ω xpost) mc ms (jB Ω)) (hdg : decode cc pc = .ok (.invokevirtual index, 3))
    (hw : GoodIn lw_all (wsV own index q.1 y (wsW_ y bytes maxL ret hh))) (hd : y.cls = q.1 ∧ y.cls ≠ "java/lang/invoke/MethodHandle" ∧ y.cls ≠ "java/lang/invoke/VarHandle" ∧ (parseMethodDescriptor y.desc).map (fun d => d.parameters.length) = some n) (hc : vwCl[ci]? = some q) (hb : G b = some (.inr (ci, fs)))
    (hrc : rm.cells = mc) (hrs : rm.slots = ms) (hR : rm.frames + 1 ≤ R.frames ∧ 8 + (maxL + 11) + rm.locals ≤ R.locals) (hn : As.length = n) (hstack : st0 = As.reverse ++ .ref b :: rest) (hW : (rest.map fun v => v.category).sum ≤ 8) (hf : cells + mc ≤ R.cells ∧ slots + ms ≤ R.slots)
    (kk : ∀ (v : Option Value) (G1 : Mem) (sz1 : Nat), post v G1 sz1 → sz ≤ sz1 → J p l e R s m args below meth c Ω nL Q (cells + mc) (slots + ms) sz1 G1 (pc + 3) L (v.toList ++ rest))
    (kx : jK9x p l e R s m args below meth c Ω nL Q (cells + mc) (slots + ms) sz pc L xpost) : J p l e R s m args below meth c Ω nL Q cells slots sz G pc L st0 := by
  subst hstack
  exact jrunX cx (fun H locs ls h1 h2 h3 h4 => vx_runVX (jfix cx) hM (vx_cwVW n cx.ts hw rfl hrc hrs hd hR) ⟨jWd.blind _, jrecv cx h2 hc hb, fun U hU hW9 => ⟨rfl, jWd.call cx h1 h2 h3 hU hW9⟩⟩ rfl hn h4.1 rfl (lv_room hW) hdg hf) kk kx
/-- aastore of an object that the component's class doesn't take: the machine's note -/
theorem jnotas {T : State} {locs : List Loc} (X : Stand p l e R s m args below meth c T locs cells slots) (hexec : p.tables.exec = Jvm.exec)
    {a v : Addr} {cell cv : Cell} {j : Int32} {k kv kcomp : Class} {comp : ClassId} {t : FieldType}
    (hcell : T.heap[a]? = some cell) (hobj : ∀ q, cell.vm ≠ .statics q) (hknown : cell.vm ≠ .unknown)
    (hk : s.vm.classes[cell.cls]? = some k) (hkind : k.kind = .array comp t) (hkcomp : s.vm.classes[comp]? = some kcomp)
    (hin : ¬ j < 0 ∧ j.toNatClampNeg < cell.slots.size)
    (hv : T.heap[v]? = some cv) (hvobj : ∀ q, cv.vm ≠ .statics q) (hkv : s.vm.classes[cv.cls]? = some kv) (hinst : s.vm.assignable cv.cls comp = false)
    {g : JFrame} (hg : g.method = m) {rest : List Value} (hstack : g.stack = .ref v :: .int j :: .ref a :: rest) (hdg : decode c.code g.pc = .ok (.aastore, 1)) :
      ∀ target, Steps p.tables e below ((T.setTop { g with stack := rest }).pushFrame (.throwNew "java/lang/ArrayStoreException" (some kv.shown) none)) target → Steps p.tables e below (T.setTop g) target := by
  have hal : s.vm.Alike T.vm := X.warmed.alike
  obtain ⟨k₁, hk₁, hek⟩ := hal.2.2 _ _ hk
  have hkind₁ : k₁.kind = .array comp t := by rw [hek]; exact hkind
  obtain ⟨kcomp₁, hkcomp₁, -⟩ := hal.2.2 _ _ hkcomp
  obtain ⟨kv₁, hkv₁, hekv⟩ := hal.2.2 _ _ hkv
  have hinst₁ : T.vm.assignable cv.cls comp = false := by rw [hal.assignable]; exact hinst
  have hsh : kv₁.shown = kv.shown := by rw [hekv]; rfl
  have harr : T.isArray cell := ⟨hobj, k₁, hk₁, comp, t, hkind₁⟩
  intro target hrest
  subst hg
  jvm_step X.here [hexec, hdg, Jvm.Op.aastore.sem, hstack, hcell, hobj, hknown, hk₁, hkind₁, hin.1, hin.2, Nat.not_le.mpr hin.2, harr, hv, hvobj, hkv₁, hkcomp₁, hinst₁, hsh]
  exact hrest
abbrev jASN : List String := ["java/lang/RuntimeException", "java/lang/Exception"]
theorem jaseW : ∀ w ∈ vx_atM "java/lang/ArrayStoreException" jASN, w ∈ lw_tbl ∧ (goodWord w = true ∨ jwk w = true) := by
  have h : (vx_atM "java/lang/ArrayStoreException" jASN).all (fun w => lw_tbl.any (fun v => decide (v = w)) && (goodWord w || jwk w)) = true := by decide +kernel
  intro w hw
  have h1 := List.all_eq_true.mp h w hw
  simp only [Bool.and_eq_true, Bool.or_eq_true, List.any_eq_true, decide_eq_true_eq] at h1
  obtain ⟨⟨v, hv, rfl⟩, h2⟩ := h1
  exact ⟨hv, h2⟩
theorem jaseG : ∀ w ∈ vx_atM "java/lang/ArrayStoreException" jASN, vx_ot w = true := by
  have h : (vx_atM "java/lang/ArrayStoreException" jASN).all vx_ot = true := by decide +kernel
  exact fun w hw => List.all_eq_true.mp h w hw
theorem jtext : ((("TurningWheel$Raw" : String) == notModelled) = false) ∧ (stringBytes (stringToUtf16 "TurningWheel$Raw")).size ≤ 16 := by decide +kernel
/-- a raw ware into the shelf's array: ArrayStoreException, caught by the table's first row -/
theorem J_aastX (cx : jCX p s m args meth c cc own Ω nL) (hl : l.stackTraces = false) (t0 : Nat) {E : String} {cA : ClassId} {a n k v ci : Nat} {q : vw_C} {vs : List Value} {f : Nat → Option Nat} (hdg : decode cc pc = .ok (.aastore, 1)) (ht : (jTy Ω.2.1)[t0]? = some (cA, .object E)) (ha : G a = some (.inl (cA, n, jAq f))) (hc : vwCl[ci]? = some q) (hq1 : q.1 = "TurningWheel$Raw") (hv : G v = some (.inr (ci, vs))) (hcast : (q.1, E) ∈ jNcL) (hk : k < n) (hn : n < 2147483648)
    (x : ExceptionTableEntry) (suf : List ExceptionTableEntry) (hsplit : c.exceptionTable.toList = x :: suf) (hx : covers x pc = true) (h0 : x.catchType ≠ 0) (hlink : Cond.classLink own x.catchType "java/lang/ArrayStoreException" ∈ lw_all)
    (hRf : 6 < R.frames) (hRl : (st.map fun v => v.category).sum + 10240 ≤ R.locals) (hRc : cells + 3 ≤ R.cells) (hRs : slots + 26 ≤ R.slots)
    (kk : ∀ (q9 sz1 : Nat), sz ≤ sz1 → J p l e R s m args below meth c Ω nL Q (cells + 3) (slots + 26) sz1 G x.handlerPc L [.ref q9]) : J p l e R s m args below meth c Ω nL Q cells slots sz G pc L (.ref v :: .int (nI k) :: .ref a :: st) := by
  intro H locs ls g1 g2 g3 g4
  intro T hT X
  have hlt : (nI k).toNatClampNeg < n := by rw [(jin rfl hk hn).2]; exact hk
  have hin := (jin (i := nI k) rfl hk hn).1
  have h9 : ¬ nI k < 0 := fun q => hin (Or.inl q)
  have hP0 : va_P Ω.1 vwCl [(a, .inl (cA, n, jAq f))] H := jone (g2 _ _ ha).1
  obtain ⟨cellV, u1, u3, u4⟩ := jxcell cx g2 hc hv
  obtain ⟨kC, hkC, hnm⟩ := Vm.findClass_spec u4
  obtain ⟨c1, c2, n1, n2, n3⟩ := cx.sta.2.2.2.2.2.2.2.2.2.2.2.2.2.2.2.2 q.1 E hcast
  cases n1.symm.trans u4
  obtain ⟨kA, comp, k1, k2, k3, -⟩ := (cx.K.2 t0 _ ht).2
  obtain ⟨kE, hkE, -⟩ := Vm.findClass_spec k3
  cases n2.symm.trans k3
  have hhid : kC.hidden = none := by
    obtain ⟨hlt9, hp9, -⟩ := Array.findIdx?_eq_some_iff_getElem.mp u4
    rw [Array.getElem?_eq_getElem hlt9] at hkC
    cases hkC
    simp only [Bool.and_eq_true, Option.isNone_iff_eq_none] at hp9
    exact hp9.1.1.2
  have hshown : kC.shown = "TurningWheel$Raw" := by
    unfold Class.shown
    rw [hhid, hnm, hq1]
    show dotted "TurningWheel$Raw" = _
    decide +kernel
  have note : vx_Note p l e R s m args below meth c H locs cells slots Q (F0 m pc ls st) "java/lang/ArrayStoreException" "TurningWheel$Raw" := vx_vm (names := jASN) (nb := 16) (A := jB Ω) cx.1 hl (by decide +kernel) (by decide +kernel) (by decide +kernel) (by decide +kernel) (fun w hw => by
      obtain ⟨h1, h2⟩ := jaseW w hw
      by_cases hg : goodWord w = true
      · exact cx.ts w (lw_g h1 hg)
      · have h9 := h2.resolve_left hg
        exact va_Nw.use (by cases w <;> first | rfl | simp [jwk] at h9) (cx.nest h1 h9)) jaseG cx.sta.2.2.2.2.2.2.2.2.1 cx.sta.2.2.2.2.2.2.2.2.2.1 g3 (g4.1.trans cx.2.2.1.symm) jtext.1 jtext.2 (by decide) hRf hRl (by decide) hRc hRs cx.2.2.2.2.2.2.2.1
    (fun H1 q9 ce z1 z2 z3 z4 z5 z6 => vx_catch cx.ow [] x suf hsplit (fun z hz => by cases hz) hx h0 (cx.ts _ hlink) (va_Nw.use rfl (cx.nest (w := Cond.castable "java/lang/ArrayStoreException" "java/lang/ArrayStoreException") q1734 rfl)) z4 z5 z6
      (kk q9 H1.size (by rw [← g1]; exact z1) H1 locs ls rfl (fun q' y' hy' => have hl := z2 q' (g2 q' y' hy').1.lt; ⟨(g2 q' y' hy').1.kept hl, (g2 q' y' hy').2.kept hl⟩) z3 g4))
  obtain ⟨t, st9, hq9⟩ := note T hT X
  refine ⟨t, ?_, hq9⟩
  refine jnotas X cx.1 (g := F0 m pc ls (.ref v :: .int (nI k) :: .ref a :: st)) (rest := st) (by rw [hT]; exact hP0 0 _ rfl) (fun q h => by cases h) (fun h => by cases h) k1 k2 hkE ⟨h9, by show _ < (arrV _ _ _).slots.size; rw [arrV_size]; exact hlt⟩ (by rw [hT]; exact u1) (fun q h => by rw [h] at u3; cases u3) hkC n3 rfl rfl (by rw [cx.2.1]; exact hdg) t ?_
  rw [hshown]
  exact st9
theorem jassignS (vm : Vm) (c : ClassId) : vm.assignable c c = true := by
  show vm.assignableAux (255 + 1) c c = true
  rw [Vm.assignableAux]
  simp only [beq_self_eq_true, Bool.true_or]
/-- aastore of an object of the component's own class -/
theorem J_aastS (cx : jCX p s m args meth c cc own Ω nL) (t0 : Nat) {cA : ClassId} {a n k v ci : Nat} {q : vw_C} {vs : List Value} {f : Nat → Option Nat} (hdg : decode cc pc = .ok (.aastore, 1)) (ht : (jTy Ω.2.1)[t0]? = some (cA, .object q.1)) (ha : G a = some (.inl (cA, n, jAq f))) (hc : vwCl[ci]? = some q) (hv : G v = some (.inr (ci, vs))) (hk : k < n) (hn : n < 2147483648) (hb9 : Ω.2.2.2 ≤ a)
    (kk : J p l e R s m args below meth c Ω nL Q cells slots sz (gset G a (.inl (cA, n, jAq (va_up f k (some v))))) (pc + 1) L st) : J p l e R s m args below meth c Ω nL Q cells slots sz G pc L (.ref v :: .int (nI k) :: .ref a :: st) := by
  intro H locs ls g1 g2 g3 g4
  have hlt : (nI k).toNatClampNeg < n := by rw [(jin rfl hk hn).2]; exact hk
  have hin := (jin (i := nI k) rfl hk hn).1
  have h0 : ¬ nI k < 0 := fun q => hin (Or.inl q)
  have hP0 : va_P Ω.1 vwCl [(a, .inl (cA, n, jAq f))] H := jone (g2 _ _ ha).1
  obtain ⟨cellV, u1, u3, u4⟩ := jxcell cx g2 hc hv
  obtain ⟨kC, hkC, -⟩ := Vm.findClass_spec u4
  obtain ⟨kA, comp, k1, k2, k3, -⟩ := (cx.K.2 t0 _ ht).2
  obtain ⟨kE, hkE, -⟩ := Vm.findClass_spec k3
  have hcc : cellV.cls = comp := Option.some.inj (u4.symm.trans k3)
  refine W.aast cx.1 cx.2.1 (hP0 0 _ rfl) (fun q h => by cases h) (fun h => by cases h) k1 k2 rfl hkE ⟨h0, by show _ < (arrV _ _ _).slots.size; rw [arrV_size]; exact hlt⟩ u1 (fun q h => by rw [h] at u3; cases u3) hkC (by rw [hcc]; exact jassignS _ _) rfl rfl hdg fun H1 e z oq => ?_
  refine kk H1 _ ls (z.trans g1) (g2.set (show H1[a]? = some (vp_cell _ _) from ?_) oq) (g3.put z oq hb9) g4
  rw [e]
  rw [vp_cell_q, vp_cell_q, arrV_store, (jin rfl hk hn).2]
  congr 2
  funext q
  by_cases hq : q = k
  · subst hq
    simp [updV, va_up, va_rf]
  · simp [updV, va_up, hq]
theorem jnocov {hh : List (Nat × Nat × Nat × Nat)} (hex : c.exceptionTable.toList = tableOf hh) (h : (tableOf hh).all (fun x => !covers x pc) = true) : ∀ x ∈ c.exceptionTable.toList, covers x pc = false := fun x hx => by
  rw [hex] at hx
  have h1 : (!covers x pc) = true := List.all_eq_true.mp h x hx
  cases h2 : covers x pc with
  | false => rfl
  | true => rw [h2] at h1; cases h1
end JR12
