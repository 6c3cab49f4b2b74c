/-! A POTTERY AS ONE FACT, PART TWO (gen/py2.lean): other numbers, a changed pot, lists put apart -/
set_option maxRecDepth 100000
theorem pyI.congr {Ω : jO} {A : Nat → Prop} {G : Mem} {B : Nat → Nat} {g g' : Nat → Int32} (h : pyI Ω A G B g) (hg : ∀ i, (i = 1 ∨ (4 ≤ i ∧ i ≤ 37)) → g' i = g i) : pyI Ω A G B g' := by
  obtain ⟨sf, df, kf, n, h0, h1, h2, h3, h4, h5, h6, h7, h8⟩ := h
  exact ⟨sf, df, kf, n, h0, h1, fun k hk => (h2 k hk).trans (hg _ (by omega)).symm, h3, fun k hk => (h4 k hk).trans (hg _ (by omega)).symm, h5, h6, (hg 1 (by omega)).trans h7, fun k hk => (h8 k hk).trans (hg _ (by omega)).symm⟩
theorem pyP.congr {Ω : jO} {A : Nat → Prop} {G : Mem} {B : Nat → Nat} {pl : List Nat} {g g' : Nat → Int32} {D : Nat → List Int32} {dr cp : Nat → Nat} (h : pyP Ω A G B pl g D dr cp) (h2 : g' 2 = g 2) (hg : ∀ p i, p < pl.length → i ≤ 11 → i ≠ 8 → g' (50 + 13 * p + i) = g (50 + 13 * p + i)) : pyP Ω A G B pl g' D dr cp := by
  obtain ⟨mc, h1, h3, h4, h5, h6, h7, h8⟩ := h
  exact ⟨mc, h1, h3, h4, h2.trans h5, h6, fun p y hy => ⟨(h7 p y hy).1, (h7 p y hy).2.1, (h7 p y hy).2.2.congr (fun i h9 h10 => hg p i (List.getElem?_eq_some_iff.mp hy).1 h9 h10)⟩, h8⟩
theorem pyO.congr {Ω : jO} {A : Nat → Prop} {G : Mem} {B : Nat → Nat} {ol : List Nat} {g g' : Nat → Int32} (h : pyO Ω A G B ol g) (h3 : g' 3 = g 3) (hg : ∀ k i, k < ol.length → i ≤ 5 → g' (258 + 6 * k + i) = g (258 + 6 * k + i)) : pyO Ω A G B ol g' := by
  obtain ⟨mc, h1, h4, h5, h6, h7, h8, h9⟩ := h
  refine ⟨mc, h1, h4, h5, h3.trans h6, h7, h8, fun k y hy => ⟨(h9 k y hy).1, ?_⟩⟩
  have hk := (List.getElem?_eq_some_iff.mp hy).1
  rw [(h9 k y hy).2]
  simp only [ordE, gO]
  rw [hg k 0 hk (by omega), hg k 1 hk (by omega), hg k 2 hk (by omega), hg k 3 hk (by omega), hg k 4 hk (by omega), hg k 5 hk (by omega)]
theorem pyS.congr {Ω : jO} {A : Nat → Prop} {G : Mem} {B : Nat → Nat} {sh : Nat → Option Nat} {g g' : Nat → Int32} (h : pyS Ω A G B sh g) (hg : ∀ k, k < 8 → g' (41 + k) = g (41 + k)) : pyS Ω A G B sh g' := by
  obtain ⟨h1, h2, h3, h4, h5⟩ := h
  refine ⟨h1, h2, h3, h4, fun k hk => ?_⟩
  rw [hg k hk]
  exact h5 k hk
theorem pyP.set {Ω : jO} {A : Nat → Prop} {G G1 : Mem} {B : Nat → Nat} {pl : List Nat} {g g' : Nat → Int32} {D D' : Nat → List Int32} {dr dr' cp cp' : Nat → Nat} (h : pyP Ω A G B pl g D dr cp) {p y : Nat} (hy : pl[p]? = some y)
    (hm : ∀ q c, G q = some c → (q = B 3 ∨ (q = B 8 ∧ B 10 ≠ 0) ∨ (∃ k, pl[k]? = some q ∧ k ≠ p) ∨ (∃ k, k < pl.length ∧ k ≠ p ∧ q = dr k) ∨ ∃ k x, c = wE k x) → G1 q = some c)
    (hp : jPot Ω G1 y p (gP g' p) (D' p) (dr' p) (cp' p)) (hd : A (dr' p)) (hdn : ∀ k, k < pl.length → k ≠ p → dr k ≠ dr' p)
    (hg : ∀ k, k < pl.length → k ≠ p → (∀ i, i ≤ 11 → i ≠ 8 → gP g' k i = gP g k i) ∧ D' k = D k ∧ dr' k = dr k ∧ cp' k = cp k) (hg2 : g' 2 = g 2) : pyP Ω A G1 B pl g' D' dr' cp' := by
  obtain ⟨mc, h1, h3, h4, h5, h6, h7, h8⟩ := h
  refine ⟨mc, h1.mono (fun q c hq hc => hm q c hq ?_), h3, h4, hg2.trans h5, h6, fun k z hz => ?_, fun k j hk hj e => ?_⟩
  · rcases hc with h | h
    · exact Or.inl h
    · exact Or.inr (Or.inl h)
  · have hkl := (List.getElem?_eq_some_iff.mp hz).1
    by_cases hk : k = p
    · subst hk
      have e : z = y := Option.some.inj (hz.symm.trans hy)
      subst e
      exact ⟨(h7 _ _ hy).1, hd, hp⟩
    · obtain ⟨e1, e2, e3, e4⟩ := hg k hkl hk
      rw [e2, e3, e4]
      refine ⟨(h7 k z hz).1, (h7 k z hz).2.1, ((h7 k z hz).2.2.mono (fun q c hq hc => hm q c hq ?_)).congr e1⟩
      rcases hc with h | h | h
      · exact Or.inr (Or.inr (Or.inl ⟨k, h ▸ hz, hk⟩))
      · exact Or.inr (Or.inr (Or.inr (Or.inl ⟨k, hkl, hk, h⟩)))
      · exact Or.inr (Or.inr (Or.inr (Or.inr h)))
  · by_cases hk1 : k = p
    · by_cases hj1 : j = p
      · omega
      · rw [(hg j hj hj1).2.2.1, hk1] at e
        exact absurd e.symm (hdn j hj hj1)
    · by_cases hj1 : j = p
      · rw [(hg k hk hk1).2.2.1, hj1] at e
        exact absurd e (hdn k hk hk1)
      · rw [(hg k hk hk1).2.2.1, (hg j hj hj1).2.2.1] at e
        exact h8 k j hk hj e
/-- lists of objects and another cell -/
theorem jAL.neO {Ω : jO} {G : Mem} {a y ci : Nat} {mc : Int32} {xs : List Nat} {ed cap : Nat} {fs : List Value} (h : jAL Ω G a mc xs ed cap) (hy : G y = some (.inr (ci, fs))) (hc : ci ≠ 28) : a ≠ y ∧ (cap ≠ 0 → ed ≠ y) := by
  rcases h with ⟨h1, h2, h3, h4⟩ | ⟨f, h1, h2, h3, h4, h5, h6, h7⟩
  · exact ⟨fun e => by rw [e, hy] at h4; simp at h4; exact hc h4.1, fun e => absurd h3 e⟩
  · exact ⟨fun e => by rw [e, hy] at h5; simp at h5; exact hc h5.1, fun _ e => by rw [e, hy] at h6; simp at h6⟩
theorem jAL.neI {Ω : jO} {G : Mem} {a y n : Nat} {mc : Int32} {xs : List Nat} {ed cap : Nat} {cA : ClassId} {f : Nat → Int32} (h : jAL Ω G a mc xs ed cap) (hy : G y = some (.inl (cA, n, .inl f))) : a ≠ y ∧ (cap ≠ 0 → ed ≠ y) := by
  rcases h with ⟨h1, h2, h3, h4⟩ | ⟨f, h1, h2, h3, h4, h5, h6, h7⟩
  · exact ⟨fun e => by rw [e, hy] at h4; simp at h4, fun e => absurd h3 e⟩
  · exact ⟨fun e => by rw [e, hy] at h5; simp at h5, fun _ e => by rw [e, hy] at h6; simp at h6⟩
theorem jAL.neQ {Ω : jO} {G : Mem} {a y n : Nat} {mc : Int32} {xs : List Nat} {ed cap : Nat} {cA : ClassId} {f : Nat → Option Nat} (h : jAL Ω G a mc xs ed cap) (hy : G y = some (.inl (cA, n, jAq f))) (hc : cA ≠ Ω.2.1 4) : a ≠ y ∧ (cap ≠ 0 → ed ≠ y) := by
  rcases h with ⟨h1, h2, h3, h4⟩ | ⟨f, h1, h2, h3, h4, h5, h6, h7⟩
  · exact ⟨fun e => by rw [e, hy] at h4; simp at h4, fun e => absurd h3 e⟩
  · exact ⟨fun e => by rw [e, hy] at h5; simp at h5, fun _ e => by rw [e, hy] at h6; simp at h6; exact hc h6.1⟩
theorem jAL.lt {Ω : jO} {G : Mem} {a sz : Nat} {mc : Int32} {xs : List Nat} {ed cap : Nat} (h : jAL Ω G a mc xs ed cap) (hl : ∀ q x, G q = some x → q < sz) : a < sz ∧ (cap ≠ 0 → ed < sz) := by
  rcases h with ⟨h1, h2, h3, h4⟩ | ⟨f, h1, h2, h3, h4, h5, h6, h7⟩
  · exact ⟨hl _ _ h4, fun e => absurd h3 e⟩
  · exact ⟨hl _ _ h5, fun _ => hl _ _ h6⟩
theorem jAL.put2 {Ω : jO} {G : Mem} {a y : Nat} {mc : Int32} {xs : List Nat} {ed cap : Nat} {c : va_E} (h : jAL Ω G a mc xs ed cap) (h1 : a ≠ y) (h2 : cap ≠ 0 → ed ≠ y) : jAL Ω (gset G y c) a mc xs ed cap :=
  h.mono (fun q x hq hc => by
    rcases hc with e | ⟨e, hc⟩
    · exact (gset_ne (by rw [e]; exact h1)).trans hq
    · exact (gset_ne (by rw [e]; exact h2 hc)).trans hq)
theorem jLL.nodes {Ω : jO} {G : Mem} {a : Nat} {mc : Int32} {ns xs : List Nat} (h : jLL Ω G a mc ns xs) {n : Nat} (hn : n ∈ ns) : ∃ fs, G n = some (.inr (33, fs)) := by
  obtain ⟨h1, h2, h3, h4, h5, h6, h7⟩ := h
  obtain ⟨i, hi⟩ := List.getElem?_of_mem hn
  obtain ⟨x, hx⟩ := jget (ns := xs) (i := i) (by have := (List.getElem?_eq_some_iff.mp hi).1; omega)
  exact ⟨_, h7 i n x hi hx⟩
theorem jLL.put2 {Ω : jO} {G : Mem} {a y : Nat} {mc : Int32} {ns xs : List Nat} {c : va_E} (h : jLL Ω G a mc ns xs) (h1 : a ≠ y) (h2 : ∀ n, n ∈ ns → n ≠ y) : jLL Ω (gset G y c) a mc ns xs :=
  h.mono (fun q x hq hc => by
    rcases hc with e | hc
    · exact (gset_ne (by rw [e]; exact h1)).trans hq
    · exact (gset_ne (h2 q hc)).trans hq)
/-- two cells of other kinds lie apart -/
theorem jneC {G : Mem} {a b : Nat} {x y : va_E} (ha : G a = some x) (hb : G b = some y) (h : x ≠ y) : a ≠ b := fun e => h (Option.some.inj (ha.symm.trans (e ▸ hb)))
