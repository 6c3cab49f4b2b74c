/-! THE JUDGEMENT J, PART SEVEN (gen/jk7.lean): contracts bent: what a start gives, a weaker end, a larger room -/
set_option maxRecDepth 100000
theorem jarr_ne {U : State} {c1 c2 : ClassId} {t1 t2 : FieldType} (h1 : ArrOfT U c1 t1) (h2 : ArrOfT U c2 t2) (hne : t1 ≠ t2) : c1 ≠ c2 := by
  intro e
  subst e
  obtain ⟨-, k1, a1, comp1, b1⟩ := h1 0 (fun _ => .null)
  obtain ⟨-, k2, a2, comp2, b2⟩ := h2 0 (fun _ => .null)
  cases Option.some.inj (a1.symm.trans a2)
  rw [b1] at b2
  simp only [Kind.array.injEq] at b2
  exact hne b2.2
/-- the array classes are apart -/
def jNe (Ω : jO) : Prop := Ω.2.1 0 ≠ Ω.2.1 1 ∧ Ω.2.1 4 ≠ Ω.2.1 5 ∧ Ω.2.1 0 ≠ Ω.2.1 2
theorem jKw.ne {Ω : jO} {U : State} (h : jKw Ω U) : jNe Ω :=
  ⟨jarr_ne (h.1.2 0 _ rfl).1 (h.1.2 1 _ rfl).1 (fun e => nomatch e), jarr_ne (h.1.2 4 _ rfl).1 (h.1.2 5 _ rfl).1 (fun e => absurd (FieldType.object.inj e) (by decide)), jarr_ne (h.1.2 0 _ rfl).1 (h.1.2 2 _ rfl).1 (fun e => nomatch e)⟩
/-- what every start gives -/
def jS0 (Ω : jO) (G : Mem) (sz : Nat) : Prop := (∀ q x, G q = some x → q < sz) ∧ Ω.2.2.2 ≤ sz ∧ jNe Ω
theorem jWd.s0 {Ω : jO} {G : Mem} {sz : Nat} {U : State} (h : jWd Ω G sz U) : jS0 Ω G sz := by
  obtain ⟨hsz, hgr, hkw, hbs, hst⟩ := h
  exact ⟨fun q x hx => by rw [← hsz]; exact (hgr _ _ hx).1.lt, hbs, hkw.ne⟩
theorem jPre {l : Launch} {y : MethodName} {ws : List Cond} {rm : Room} {av : List Value} {Ω : jO} {G : Mem} {sz mc ms : Nat} {Qc : Array Value → State → Outcome → State → Prop} {fr : Addr → Prop}
    (h : jS0 Ω G sz → Met l y ws rm (va_Pc av (jWd Ω G sz)) Qc mc ms fr) : Met l y ws rm (va_Pc av (jWd Ω G sz)) Qc mc ms fr := by
  intro p e ha hc hk s m args below hf happ hP hK
  exact h (hP.2.s0) p e ha hc hk s m args below hf happ hP hK
theorem jPreX {l : Launch} {y : MethodName} {ws : List Cond} {rm : Room} {av : List Value} {Ω : jO} {G : Mem} {sz mc ms : Nat} {Qc : Array Value → State → Outcome → State → Prop} {XC : String → Addr → State → State → Prop} {fr : Addr → Prop}
    (h : jS0 Ω G sz → vx_Met l y ws rm (va_Pc av (jWd Ω G sz)) Qc XC mc ms fr) : vx_Met l y ws rm (va_Pc av (jWd Ω G sz)) Qc XC mc ms fr := by
  intro p e ha hc hk s m args below hf happ hP hK
  exact h (hP.2.s0) p e ha hc hk s m args below hf happ hP hK
theorem jCons {l : Launch} {y : MethodName} {ws : List Cond} {rm : Room} {P : Array Value → State → Prop} {Ω : jO} {mc ms : Nat} {post post' : Option Value → Mem → Nat → Prop} {fr : Addr → Prop}
    (h : Met l y ws rm P (jQ Ω post) mc ms fr) (hp : ∀ v G1 sz1, post v G1 sz1 → post' v G1 sz1) : Met l y ws rm P (jQ Ω post') mc ms fr := by
  intro p e ha hc hk s m args below hf happ hP hK
  obtain ⟨n, o, h1, h2, h3, ⟨⟨v, G1, sz1, e1, e2, e3, e4⟩, e5⟩, h5⟩ := h p e ha hc hk s m args below hf happ hP hK
  exact ⟨n, o, h1, h2, h3, ⟨⟨v, G1, sz1, e1, hp _ _ _ e2, e3, e4⟩, e5⟩, h5⟩
theorem jConsX {l : Launch} {y : MethodName} {ws : List Cond} {rm : Room} {P : Array Value → State → Prop} {Ω : jO} {mc ms : Nat} {post post' : Option Value → Mem → Nat → Prop} {xpost xpost' : Nat → Nat → Mem → Nat → Prop} {fr : Addr → Prop}
    (h : vx_Met l y ws rm P (jQ Ω post) (jXC Ω xpost) mc ms fr) (hp : ∀ v G1 sz1, post v G1 sz1 → post' v G1 sz1) (hx : ∀ ci q G1 sz1, xpost ci q G1 sz1 → xpost' ci q G1 sz1) : vx_Met l y ws rm P (jQ Ω post') (jXC Ω xpost') mc ms fr := by
  intro p e ha hc hk s m args below hf happ hP hK
  obtain ⟨n, o, h1, h2, h3, h4⟩ := h p e ha hc hk s m args below hf happ hP hK
  refine ⟨n, o, h1, h2, h3, ?_⟩
  rcases h4 with ⟨⟨⟨v, G1, sz1, e1, e2, e3, e4⟩, e5⟩, h5⟩ | ⟨q, ho, E, ce, L, ⟨⟨ci, r, fs, G1, sz1, f1, f2, f3, f4, f5, f6⟩, g1⟩, g2⟩
  · exact Or.inl ⟨⟨⟨v, G1, sz1, e1, hp _ _ _ e2, e3, e4⟩, e5⟩, h5⟩
  · exact Or.inr ⟨q, ho, E, ce, L, ⟨⟨ci, r, fs, G1, sz1, f1, f2, hx _ _ _ _ f3, f4, f5, f6⟩, g1⟩, g2⟩
theorem jhasRoom {s : State} {pl : Platform} {r r' : Room} (hf : r.frames ≤ r'.frames) (hl : r.locals ≤ r'.locals) (hc : r.cells ≤ r'.cells) (hs : r.slots ≤ r'.slots) (h : s.hasRoom pl r' = true) : s.hasRoom pl r = true := by
  simp only [State.hasRoom, Bool.and_eq_true, decide_eq_true_eq] at h ⊢
  obtain ⟨⟨⟨⟨y, a, b, c, d, e⟩, f⟩, g⟩, i⟩ := h
  exact ⟨⟨⟨⟨by omega, by omega, by omega, by omega, by omega, e⟩, by omega⟩, by omega⟩, i⟩
theorem jmetRoom {l : Launch} {y : MethodName} {ws : List Cond} {r r' : Room} {P : Array Value → State → Prop} {K : Program → Env → List Frame → State → Array Value → Prop} {Q : Array Value → State → Outcome → State → Prop}
    (h : MetFree l y (headSpec ws r) P K Q) (hf : r.frames ≤ r'.frames) (hl : r.locals ≤ r'.locals) (hc : r.cells ≤ r'.cells) (hs : r.slots ≤ r'.slots) : MetFree l y (headSpec ws r') P K Q := by
  intro p e ha hcs hk s m args below hfr happ hP hK
  obtain ⟨a1, a2, a3, a4, a5, a6, a7, a8⟩ := (Spec.appliesLoose_iff hfr).mp happ
  exact h p e ha hcs hk s m args below hfr ((Spec.appliesLoose_iff hfr).mpr ⟨a1, a2, a3, a4, a5, a6, jhasRoom hf hl hc hs a7, a8⟩) hP hK
/-- a larger room, with as many new cells and slots as it has -/
theorem jRoom {l : Launch} {y : MethodName} {ws : List Cond} {r : Room} {P : Array Value → State → Prop} {Q : Array Value → State → Outcome → State → Prop} {mc ms : Nat} {fr : Addr → Prop} {F L : Nat} {mc' ms' : Nat}
    (h : Met l y ws r P Q mc ms fr) (hf : r.frames ≤ F) (hl : r.locals ≤ L) (hc0 : r.cells = mc) (hs0 : r.slots = ms) (hc : mc ≤ mc') (hs : ms ≤ ms') : Met l y ws { frames := F, cells := mc', slots := ms', locals := L } P Q mc' ms' fr := by
  have h2 := jmetRoom (r' := { frames := F, cells := mc', slots := ms', locals := L }) h hf hl (by show r.cells ≤ mc'; omega) (by show r.slots ≤ ms'; omega)
  intro p e ha hcs hk s m args below hfr happ hP hK
  obtain ⟨n, o, h1, h2, h3, h4, L9, h5, h6⟩ := h2 p e ha hcs hk s m args below hfr happ hP hK
  exact ⟨n, o, h1, h2, h3, h4, L9, ⟨h5.1, h5.2.1, h5.2.2.mono hc hs⟩, h6⟩
