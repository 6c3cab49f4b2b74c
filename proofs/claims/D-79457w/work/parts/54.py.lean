/-! A POTTERY AS ONE FACT (gen/py.lean): over the twin's row of numbers g -/
set_option maxRecDepth 100000
/-- a ware's glaze and coats by the twin's numbers -/
def gw (gl co : Int32) : Option (Int32 × Int32) := if gl = -1 then none else some (gl, co)
theorem wGl_gw (gl co : Int32) : wGl (gw gl co) = gl := by
  simp only [gw]
  split
  · next h => rw [h]; rfl
  · rfl
theorem wCo_gw {gl co : Int32} (h : gl = -1 → co = -1) : wCo (gw gl co) = co := by
  simp only [gw]
  split
  · next e => rw [h e]; rfl
  · rfl
/-- a pot's cell: its number p, the twin's fields f (0 state 1 potter 2 weight 3 rim 4 cracks 5 cover 6 glaze 7 coats 9 hours 10 order 11 moisture), its ware w, its array dr -/
abbrev potC (p : Nat) (f : Nat → Int32) (w dr n : Nat) : va_E := .inr (5, [.int (nI p), .int (f 1), .int (f 2), .int (f 3), .int (f 0), .int (f 4), .int (f 5), .float (f 11).toUInt32, .ref w, .int (f 10), .ref dr, .int (nI n)])
/-- a pot in memory, with the hours' dryness d and room for cp of them -/
def jPot (Ω : jO) (G : Mem) (y p : Nat) (f : Nat → Int32) (d : List Int32) (dr cp : Nat) : Prop :=
  ∃ (w : Nat) (df : Nat → Int32), G y = some (potC p f w dr d.length) ∧ f 9 = nI d.length ∧ G w = some (wE (nI p) (gw (f 6) (f 7))) ∧ Ω.2.2.2 ≤ w ∧ G dr = some (.inl (Ω.2.1 1, cp, .inl df)) ∧ d.length ≤ cp ∧ cp ≤ 2 * d.length + 8 ∧ d.length < 600 ∧
    (∀ i x, d[i]? = some x → df i = x) ∧ (∀ k, k < cp → fits .byte (.int (df k)) = true) ∧ (f 5 = 0 ∨ f 5 = 1)
theorem jPot.mono {Ω : jO} {G G1 : Mem} {y p dr cp : Nat} {f : Nat → Int32} {d : List Int32} (h : jPot Ω G y p f d dr cp) (hm : ∀ q c, G q = some c → (q = y ∨ q = dr ∨ ∃ k x, c = wE k x) → G1 q = some c) : jPot Ω G1 y p f d dr cp := by
  obtain ⟨w, df, h1, h2, h3, h4, h5, h6⟩ := h
  exact ⟨w, df, hm _ _ h1 (Or.inl rfl), h2, hm _ _ h3 (Or.inr (Or.inr ⟨_, _, rfl⟩)), h4, hm _ _ h5 (Or.inr (Or.inl rfl)), h6⟩
/-- the twin's fields of pot p -/
abbrev gP (g : Nat → Int32) (p : Nat) : Nat → Int32 := fun i => g (50 + 13 * p + i)
abbrev gO (g : Nat → Int32) (k : Nat) : Nat → Int32 := fun i => g (258 + 6 * k + i)
/-- the fields that a pot in memory shows -/
theorem jPot.congr {Ω : jO} {G : Mem} {y p dr cp : Nat} {f f' : Nat → Int32} {d : List Int32} (h : jPot Ω G y p f d dr cp) (he : ∀ i, i ≤ 11 → i ≠ 8 → f' i = f i) : jPot Ω G y p f' d dr cp := by
  obtain ⟨w, df, h1, h2, h3, h4, h5, h6, h7, h8, h9, h10, h11⟩ := h
  refine ⟨w, df, ?_, by rw [he 9 (by omega) (by omega)]; exact h2, by rw [he 6 (by omega) (by omega), he 7 (by omega) (by omega)]; exact h3, h4, h5, h6, h7, h8, h9, h10, by rw [he 5 (by omega) (by omega)]; exact h11⟩
  rw [h1]
  simp only [potC]
  rw [he 0 (by omega) (by omega), he 1 (by omega) (by omega), he 2 (by omega) (by omega), he 3 (by omega) (by omega), he 4 (by omega) (by omega), he 5 (by omega) (by omega), he 10 (by omega) (by omega), he 11 (by omega) (by omega)]
/-- the pottery's own cell; B: the addresses 0 settings 1 dryness 2 skills 3 pots 4 orders 5 row 6 shelf -/
abbrev pyE (B : Nat → Nat) (g : Nat → Int32) (e : Int32) : va_E := .inr (1, [.ref (B 0), .ref (B 1), .ref (B 2), .ref (B 3), .ref (B 4), .ref (B 5), .ref (B 6), .int (g 0), .int (g 38), .int (g 39), .int (g 40), .int (g 49), .int e])
/-- its arrays of ints -/
def pyI (Ω : jO) (A : Nat → Prop) (G : Mem) (B : Nat → Nat) (g : Nat → Int32) : Prop :=
  ∃ (sf df kf : Nat → Int32) (n : Nat), (A (B 0) ∧ A (B 1) ∧ A (B 2)) ∧ G (B 0) = some (.inl (Ω.2.1 0, 6, .inl sf)) ∧ (∀ k, k < 6 → sf k = g (4 + k)) ∧ G (B 1) = some (.inl (Ω.2.1 0, 24, .inl df)) ∧ (∀ k, k < 24 → df k = g (10 + k)) ∧
    G (B 2) = some (.inl (Ω.2.1 0, n, .inl kf)) ∧ n ≤ 4 ∧ g 1 = nI n ∧ ∀ k, k < n → kf k = g (34 + k)
/-- its pots: pl their addresses, dr their arrays' -/
def pyP (Ω : jO) (A : Nat → Prop) (G : Mem) (B : Nat → Nat) (pl : List Nat) (g : Nat → Int32) (D : Nat → List Int32) (dr cp : Nat → Nat) : Prop :=
  ∃ (mc : Int32), jAL Ω G (B 3) mc pl (B 8) (B 10) ∧ A (B 3) ∧ (B 10 ≠ 0 → A (B 8)) ∧ g 2 = nI pl.length ∧ pl.length ≤ 16 ∧
    (∀ p y, pl[p]? = some y → A y ∧ A (dr p) ∧ jPot Ω G y p (gP g p) (D p) (dr p) (cp p)) ∧ ∀ p q, p < pl.length → q < pl.length → dr p = dr q → p = q
def pyO (Ω : jO) (A : Nat → Prop) (G : Mem) (B : Nat → Nat) (ol : List Nat) (g : Nat → Int32) : Prop :=
  ∃ (mc : Int32), jAL Ω G (B 4) mc ol (B 9) (B 11) ∧ A (B 4) ∧ (B 11 ≠ 0 → A (B 9)) ∧ g 3 = nI ol.length ∧ ol.length ≤ 8 ∧ ol.Nodup ∧ ∀ k y, ol[k]? = some y → A y ∧ G y = some (ordE (gO g k))
/-- the row: pots that wait, as the cache's boxes -/
def pyR (Ω : jO) (A : Nat → Prop) (G : Mem) (B : Nat → Nat) (ns row : List Nat) : Prop :=
  ∃ (mc : Int32), jLL Ω G (B 5) mc ns (row.map fun p => Ω.2.2.1 (p + 128 + 10)) ∧ A (B 5) ∧ (∀ n, n ∈ ns → A n) ∧ ∀ p, p ∈ row → p < 16
def pyS (Ω : jO) (A : Nat → Prop) (G : Mem) (B : Nat → Nat) (sh : Nat → Option Nat) (g : Nat → Int32) : Prop :=
  G (B 6) = some (.inr (2, [.ref (B 7)])) ∧ G (B 7) = some (.inl (Ω.2.1 5, 8, jAq sh)) ∧ A (B 6) ∧ A (B 7) ∧
    ∀ k, k < 8 → (sh k = none ∧ g (41 + k) = -1) ∨ ∃ w x, sh k = some w ∧ g (41 + k) ≠ -1 ∧ Ω.2.2.2 ≤ w ∧ G w = some (wE (g (41 + k)) (some x))
/-- a pottery at a: what changes lies in A; the twin's numbers g, the pots' hours D, the arrays' rooms cp, the row, what is earned -/
def isPy (Ω : jO) (A : Nat → Prop) (G : Mem) (a : Nat) (g : Nat → Int32) (D : Nat → List Int32) (cp : Nat → Nat) (row : List Nat) (e : Int32) : Prop :=
  ∃ (B : Nat → Nat) (pl ol ns : List Nat) (dr : Nat → Nat) (sh : Nat → Option Nat), (A a ∧ G a = some (pyE B g e)) ∧ pyI Ω A G B g ∧ pyP Ω A G B pl g D dr cp ∧ pyO Ω A G B ol g ∧ pyR Ω A G B ns row ∧ pyS Ω A G B sh g ∧ (B 3 ≠ B 4 ∧ (B 10 ≠ 0 → B 11 ≠ 0 → B 8 ≠ B 9) ∧ ∀ q, A q → Ω.2.2.2 ≤ q)
theorem pyI.mono {Ω : jO} {A : Nat → Prop} {G G1 : Mem} {B : Nat → Nat} {g : Nat → Int32} (h : pyI Ω A G B g) (hm : ∀ q c, G q = some c → (q = B 0 ∨ q = B 1 ∨ q = B 2) → G1 q = some c) : pyI Ω A G1 B g := by
  obtain ⟨sf, df, kf, n, h0, h1, h2, h3, h4, h5, h6⟩ := h
  exact ⟨sf, df, kf, n, h0, hm _ _ h1 (Or.inl rfl), h2, hm _ _ h3 (Or.inr (Or.inl rfl)), h4, hm _ _ h5 (Or.inr (Or.inr rfl)), h6⟩
theorem jAL.mono {Ω : jO} {G G1 : Mem} {a : Nat} {mc : Int32} {xs : List Nat} {ed cap : Nat} (h : jAL Ω G a mc xs ed cap) (hm : ∀ q c, G q = some c → (q = a ∨ (q = ed ∧ cap ≠ 0)) → G1 q = some c) : jAL Ω G1 a mc xs ed cap := by
  rcases h with ⟨h1, h2, h3, h4⟩ | ⟨f, h1, h2, h3, h4, h5, h6, h7⟩
  · exact Or.inl ⟨h1, h2, h3, hm _ _ h4 (Or.inl rfl)⟩
  · exact Or.inr ⟨f, h1, h2, h3, h4, hm _ _ h5 (Or.inl rfl), hm _ _ h6 (Or.inr ⟨rfl, by omega⟩), h7⟩
theorem pyP.mono {Ω : jO} {A : Nat → Prop} {G G1 : Mem} {B : Nat → Nat} {pl : List Nat} {g : Nat → Int32} {D : Nat → List Int32} {dr cp : Nat → Nat} (h : pyP Ω A G B pl g D dr cp)
    (hm : ∀ q c, G q = some c → (q = B 3 ∨ (q = B 8 ∧ B 10 ≠ 0) ∨ q ∈ pl ∨ (∃ p, p < pl.length ∧ q = dr p) ∨ ∃ k x, c = wE k x) → G1 q = some c) : pyP Ω A G1 B pl g D dr cp := by
  obtain ⟨mc, h1, h2, h3, h4, h5, h6, h7⟩ := h
  refine ⟨mc, h1.mono (fun q c hq hc => hm q c hq ?_), h2, h3, h4, h5, fun p y hy => ?_, h7⟩
  · rcases hc with h | h
    · exact Or.inl h
    · exact Or.inr (Or.inl h)
  · obtain ⟨a1, a2, a3⟩ := h6 p y hy
    refine ⟨a1, a2, a3.mono (fun q c hq hc => hm q c hq ?_)⟩
    rcases hc with h | h | h
    · exact Or.inr (Or.inr (Or.inl (h ▸ List.mem_of_getElem? hy)))
    · exact Or.inr (Or.inr (Or.inr (Or.inl ⟨p, (List.getElem?_eq_some_iff.mp hy).1, h⟩)))
    · exact Or.inr (Or.inr (Or.inr (Or.inr h)))
theorem pyO.mono {Ω : jO} {A : Nat → Prop} {G G1 : Mem} {B : Nat → Nat} {ol : List Nat} {g : Nat → Int32} (h : pyO Ω A G B ol g)
    (hm : ∀ q c, G q = some c → (q = B 4 ∨ (q = B 9 ∧ B 11 ≠ 0) ∨ q ∈ ol) → G1 q = some c) : pyO Ω A G1 B ol g := by
  obtain ⟨mc, h1, h2, h3, h4, h5, h6, h7⟩ := h
  refine ⟨mc, h1.mono (fun q c hq hc => hm q c hq ?_), h2, h3, h4, h5, h6, fun k y hy => ⟨(h7 k y hy).1, hm _ _ (h7 k y hy).2 (Or.inr (Or.inr (List.mem_of_getElem? hy)))⟩⟩
  rcases hc with h | h
  · exact Or.inl h
  · exact Or.inr (Or.inl h)
theorem pyR.mono {Ω : jO} {A : Nat → Prop} {G G1 : Mem} {B : Nat → Nat} {ns row : List Nat} (h : pyR Ω A G B ns row) (hm : ∀ q c, G q = some c → (q = B 5 ∨ q ∈ ns) → G1 q = some c) : pyR Ω A G1 B ns row := by
  obtain ⟨mc, h1, h2, h3, h4⟩ := h
  exact ⟨mc, h1.mono hm, h2, h3, h4⟩
theorem pyS.mono {Ω : jO} {A : Nat → Prop} {G G1 : Mem} {B : Nat → Nat} {sh : Nat → Option Nat} {g : Nat → Int32} (h : pyS Ω A G B sh g) (hm : ∀ q c, G q = some c → (q = B 6 ∨ q = B 7 ∨ ∃ k x, c = wE k x) → G1 q = some c) : pyS Ω A G1 B sh g := by
  obtain ⟨h1, h2, h3, h4, h5⟩ := h
  refine ⟨hm _ _ h1 (Or.inl rfl), hm _ _ h2 (Or.inr (Or.inl rfl)), h3, h4, fun k hk => ?_⟩
  rcases h5 k hk with h | ⟨w, x, e1, e2, e3, e4⟩
  · exact Or.inl h
  · exact Or.inr ⟨w, x, e1, e2, e3, hm _ _ e4 (Or.inr (Or.inr ⟨_, _, rfl⟩))⟩
/-- a pottery of which nothing is written -/
theorem isPy.mono {Ω : jO} {A : Nat → Prop} {G G1 : Mem} {a : Nat} {g : Nat → Int32} {D : Nat → List Int32} {cp : Nat → Nat} {row : List Nat} {e : Int32} (h : isPy Ω A G a g D cp row e) (hm : ∀ q c, G q = some c → (A q ∨ ∃ k x, c = wE k x) → G1 q = some c) : isPy Ω A G1 a g D cp row e := by
  obtain ⟨B, pl, ol, ns, dr, sh, hC, hI, hP, hO, hR, hS, hN⟩ := h
  obtain ⟨_, _, _, _, hIa, -⟩ := id hI
  obtain ⟨_, -, hPa, hPb, -, -, hPc, -⟩ := id hP
  obtain ⟨_, -, hOa, hOb, -, -, -, hOc⟩ := id hO
  obtain ⟨_, -, hRa, hRb, -⟩ := id hR
  refine ⟨B, pl, ol, ns, dr, sh, ⟨hC.1, hm _ _ hC.2 (Or.inl hC.1)⟩, hI.mono (fun q c hq hc => hm q c hq (Or.inl ?_)), hP.mono (fun q c hq hc => hm q c hq ?_), hO.mono (fun q c hq hc => hm q c hq (Or.inl ?_)), hR.mono (fun q c hq hc => hm q c hq (Or.inl ?_)), hS.mono (fun q c hq hc => hm q c hq ?_), hN⟩
  · rcases hc with rfl | rfl | rfl
    · exact hIa.1
    · exact hIa.2.1
    · exact hIa.2.2
  · rcases hc with rfl | ⟨rfl, hb⟩ | hm9 | ⟨p, hp, rfl⟩ | hw
    · exact Or.inl hPa
    · exact Or.inl (hPb hb)
    · obtain ⟨i, hi⟩ := List.getElem?_of_mem hm9
      exact Or.inl (hPc i q hi).1
    · obtain ⟨y, hy⟩ := jget hp
      exact Or.inl (hPc p y hy).2.1
    · exact Or.inr hw
  · rcases hc with rfl | ⟨rfl, hb⟩ | hm9
    · exact hOa
    · exact hOb hb
    · obtain ⟨i, hi⟩ := List.getElem?_of_mem hm9
      exact (hOc i q hi).1
  · rcases hc with rfl | hm9
    · exact hRa
    · exact hRb q hm9
  · rcases hc with rfl | rfl | hw
    · exact Or.inl hS.2.2.1
    · exact Or.inl hS.2.2.2.1
    · exact Or.inr hw
/-- the region may be larger -/
theorem isPy.region {Ω : jO} {A A' : Nat → Prop} {G : Mem} {a : Nat} {g : Nat → Int32} {D : Nat → List Int32} {cp : Nat → Nat} {row : List Nat} {e : Int32} (h : isPy Ω A G a g D cp row e) (hA : ∀ q x, G q = some x → A q → A' q) (hb : ∀ q, A' q → Ω.2.2.2 ≤ q) : isPy Ω A' G a g D cp row e := by
  obtain ⟨B, pl, ol, ns, dr, sh, hC, hI, hP, hO, hR, hS, hN⟩ := h
  refine ⟨B, pl, ol, ns, dr, sh, ⟨hA _ _ hC.2 hC.1, hC.2⟩, ?_, ?_, ?_, ?_, ?_, hN.1, hN.2.1, hb⟩
  · obtain ⟨sf, df, kf, n, h0, h1, h2, h3, h4, h5, h6⟩ := hI
    exact ⟨sf, df, kf, n, ⟨hA _ _ h1 h0.1, hA _ _ h3 h0.2.1, hA _ _ h5 h0.2.2⟩, h1, h2, h3, h4, h5, h6⟩
  · obtain ⟨mc, h1, h2, h3, h4, h5, h6, h7⟩ := hP
    refine ⟨mc, h1, ?_, fun hb9 => ?_, h4, h5, fun p y hy => ?_, h7⟩
    · rcases h1 with ⟨-, -, -, h⟩ | ⟨f, -, -, -, -, h, -⟩
      · exact hA _ _ h h2
      · exact hA _ _ h h2
    · rcases h1 with ⟨-, -, e1, -⟩ | ⟨f, -, -, -, -, -, h, -⟩
      · exact absurd e1 hb9
      · exact hA _ _ h (h3 hb9)
    · obtain ⟨a1, a2, w, df, b1, b2, b3, b4, b5, b6⟩ := h6 p y hy
      exact ⟨hA _ _ b1 a1, hA _ _ b5 a2, w, df, b1, b2, b3, b4, b5, b6⟩
  · obtain ⟨mc, h1, h2, h3, h4, h5, h6, h7⟩ := hO
    refine ⟨mc, h1, ?_, fun hb9 => ?_, h4, h5, h6, fun k y hy => ⟨hA _ _ (h7 k y hy).2 (h7 k y hy).1, (h7 k y hy).2⟩⟩
    · rcases h1 with ⟨-, -, -, h⟩ | ⟨f, -, -, -, -, h, -⟩
      · exact hA _ _ h h2
      · exact hA _ _ h h2
    · rcases h1 with ⟨-, -, e1, -⟩ | ⟨f, -, -, -, -, -, h, -⟩
      · exact absurd e1 hb9
      · exact hA _ _ h (h3 hb9)
  · obtain ⟨mc, h1, h2, h3, h4⟩ := hR
    refine ⟨mc, h1, hA _ _ h1.1 h2, fun n hn => ?_, h4⟩
    obtain ⟨i, hi⟩ := List.getElem?_of_mem hn
    obtain ⟨x, hx⟩ := jget (ns := row.map fun p => Ω.2.2.1 (p + 128 + 10)) (i := i) (by rw [h1.2.1]; exact (List.getElem?_eq_some_iff.mp hi).1)
    exact hA _ _ (h1.2.2.2.2.2.2 i n x hi hx) (h3 n hn)
  · obtain ⟨h1, h2, h3, h4, h5⟩ := hS
    exact ⟨h1, h2, hA _ _ h1 h3, hA _ _ h2 h4, h5⟩
