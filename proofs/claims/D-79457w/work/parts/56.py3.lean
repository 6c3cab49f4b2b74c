/-! A POTTERY AS ONE FACT, PART THREE (gen/py3.lean): what lies apart; a pot, the own cell, an order, the shelf, the row are changed -/
set_option maxRecDepth 100000
def pyAll (Ω : jO) (A : Nat → Prop) (G : Mem) (a : Nat) (g : Nat → Int32) (D : Nat → List Int32) (cp : Nat → Nat) (row : List Nat) (e : Int32) (B : Nat → Nat) (pl ol ns : List Nat) (dr : Nat → Nat) (sh : Nat → Option Nat) : Prop :=
  (A a ∧ G a = some (pyE B g e)) ∧ pyI Ω A G B g ∧ pyP Ω A G B pl g D dr cp ∧ pyO Ω A G B ol g ∧ pyR Ω A G B ns row ∧ pyS Ω A G B sh g ∧ (B 3 ≠ B 4 ∧ (B 10 ≠ 0 → B 11 ≠ 0 → B 8 ≠ B 9) ∧ ∀ q, A q → Ω.2.2.2 ≤ q)
/-- kept out of omega's sight -/
def jHide (P : Prop) : Prop := P
theorem jHide.get {P : Prop} (h : jHide P) : P := h
section PY3
variable {Ω : jO} {A : Nat → Prop} {G G1 : Mem} {a : Nat} {g g' : Nat → Int32} {D D' : Nat → List Int32} {cp cp' : Nat → Nat} {row row' : List Nat} {e e' : Int32} {B : Nat → Nat} {pl ol ns : List Nat} {dr : Nat → Nat} {sh : Nat → Option Nat}
theorem isPy.all (h : isPy Ω A G a g D cp row e) : ∃ B pl ol ns dr sh, pyAll Ω A G a g D cp row e B pl ol ns dr sh := h
theorem pyAll.py (h : pyAll Ω A G a g D cp row e B pl ol ns dr sh) : isPy Ω A G a g D cp row e := ⟨B, pl, ol, ns, dr, sh, h⟩
theorem pyE_congr (h0 : g' 0 = g 0) (h1 : g' 38 = g 38) (h2 : g' 39 = g 39) (h3 : g' 40 = g 40) (h4 : g' 49 = g 49) : pyE B g' e = pyE B g e := by
  simp only [pyE]
  rw [h0, h1, h2, h3, h4]
theorem pyAll.neO (h : pyAll Ω A G a g D cp row e B pl ol ns dr sh) {y ci : Nat} {fs : List Value} (hy : G y = some (.inr (ci, fs))) :
    (ci ≠ 1 → a ≠ y) ∧ (B 0 ≠ y ∧ B 1 ≠ y ∧ B 2 ≠ y) ∧ (ci ≠ 28 → B 3 ≠ y ∧ B 4 ≠ y) ∧ (B 10 ≠ 0 → B 8 ≠ y) ∧ (B 11 ≠ 0 → B 9 ≠ y) ∧ (ci ≠ 5 → y ∉ pl) ∧ (∀ k, k < pl.length → dr k ≠ y) ∧ (ci ≠ 7 → y ∉ ol) ∧ (ci ≠ 29 → B 5 ≠ y) ∧ (ci ≠ 33 → y ∉ ns) ∧ (ci ≠ 2 → B 6 ≠ y) ∧ B 7 ≠ y := by
  obtain ⟨hC, ⟨sf, df, kf, n, -, i1, -, i2, -, i3, -⟩, ⟨mp, p1, -, -, -, -, p2, -⟩, ⟨mo, o1, -, -, -, -, -, o2⟩, ⟨mr, r1, -⟩, ⟨s1, s2, -⟩, -⟩ := h
  refine ⟨fun hc => jneC hC.2 hy (fun e => by simp at e; omega), ⟨jneC i1 hy (by simp), jneC i2 hy (by simp), jneC i3 hy (by simp)⟩, fun hc => ?_, ?_, ?_, fun hc hm => ?_, fun k hk => ?_, fun hc hm => ?_, fun hc => jneC r1.1 hy (fun e => by simp at e; omega), fun hc hm => ?_, fun hc => jneC s1 hy (fun e => by simp at e; omega), jneC s2 hy (by simp)⟩
  · exact ⟨(p1.neO hy hc).1, (o1.neO hy hc).1⟩
  · rcases p1 with ⟨h1, h2, h3, h4⟩ | ⟨f, h1, h2, h3, h4, h5, h6, h7⟩
    · exact fun e => absurd h3 e
    · exact fun _ => jneC h6 hy (by simp)
  · rcases o1 with ⟨h1, h2, h3, h4⟩ | ⟨f, h1, h2, h3, h4, h5, h6, h7⟩
    · exact fun e => absurd h3 e
    · exact fun _ => jneC h6 hy (by simp)
  · obtain ⟨i, hi⟩ := List.getElem?_of_mem hm
    obtain ⟨-, -, w, d9, q1, -⟩ := p2 i y hi
    exact jneC q1 hy (fun e => by simp at e; omega) rfl
  · obtain ⟨z, hz⟩ := jget hk
    obtain ⟨-, -, w, d9, -, -, -, -, q1, -⟩ := p2 k z hz
    exact jneC q1 hy (by simp)
  · obtain ⟨i, hi⟩ := List.getElem?_of_mem hm
    exact jneC (o2 i y hi).2 hy (fun e => by simp at e; omega) rfl
  · obtain ⟨f9, h9⟩ := r1.nodes hm
    exact jneC h9 hy (fun e => by simp at e; omega) rfl
theorem pyAll.neA (h : pyAll Ω A G a g D cp row e B pl ol ns dr sh) (hN : jNe Ω) {y n : Nat} {f : Nat → Int32} (hy : G y = some (.inl (Ω.2.1 1, n, .inl f))) :
    a ≠ y ∧ (B 0 ≠ y ∧ B 1 ≠ y ∧ B 2 ≠ y) ∧ (B 3 ≠ y ∧ B 4 ≠ y) ∧ (B 10 ≠ 0 → B 8 ≠ y) ∧ (B 11 ≠ 0 → B 9 ≠ y) ∧ y ∉ pl ∧ y ∉ ol ∧ B 5 ≠ y ∧ y ∉ ns ∧ B 6 ≠ y ∧ B 7 ≠ y := by
  obtain ⟨hC, ⟨sf, df, kf, n9, -, i1, -, i2, -, i3, -⟩, ⟨mp, p1, -, -, -, -, p2, -⟩, ⟨mo, o1, -, -, -, -, -, o2⟩, ⟨mr, r1, -⟩, ⟨s1, s2, -⟩, -⟩ := h
  refine ⟨jneC hC.2 hy (by simp), ⟨jneC i1 hy (fun e => by simp at e; exact hN.1 e.1), jneC i2 hy (fun e => by simp at e; exact hN.1 e.1), jneC i3 hy (fun e => by simp at e; exact hN.1 e.1)⟩, ⟨(p1.neI hy).1, (o1.neI hy).1⟩, (p1.neI hy).2, (o1.neI hy).2, fun hm => ?_, fun hm => ?_, jneC r1.1 hy (by simp), fun hm => ?_, jneC s1 hy (by simp), jneC s2 hy (by simp)⟩
  · obtain ⟨i, hi⟩ := List.getElem?_of_mem hm
    obtain ⟨-, -, w, d9, q1, -⟩ := p2 i y hi
    exact jneC q1 hy (by simp) rfl
  · obtain ⟨i, hi⟩ := List.getElem?_of_mem hm
    exact jneC (o2 i y hi).2 hy (by simp) rfl
  · obtain ⟨f9, h9⟩ := r1.nodes hm
    exact jneC h9 hy (by simp) rfl
theorem wE_ne5 {k : Int32} {x : Option (Int32 × Int32)} {fs : List Value} {ci : Nat} (h : ci ≠ 6) (h2 : ci ≠ 10) : (wE k x : va_E) ≠ .inr (ci, fs) := by
  cases x with
  | none => intro e; simp only [wE] at e; simp at e; omega
  | some q => intro e; simp only [wE] at e; simp at e; omega
theorem wE_neA {k : Int32} {x : Option (Int32 × Int32)} {z : ClassId × vp_A} : (wE k x : va_E) ≠ .inl z := by
  cases x with
  | none => intro e; simp [wE] at e
  | some q => intro e; simp [wE] at e
/-- a pot's cell and its array are changed -/
theorem pyAll.pot (h : pyAll Ω A G a g D cp row e B pl ol ns dr sh) (hN : jNe Ω) {p y dr1 : Nat} (hy : pl[p]? = some y)
    (hm : ∀ q c, G q = some c → q ≠ y → q ≠ dr p → G1 q = some c) (hp : jPot Ω G1 y p (gP g' p) (D' p) dr1 (cp' p)) (hd : A dr1) (hdn : dr1 = dr p ∨ ∀ q c, G q = some c → q ≠ dr1)
    (hg : ∀ i, i < 306 → ¬ (50 + 13 * p ≤ i ∧ i ≤ 50 + 13 * p + 12) → g' i = g i) (hD : ∀ k, k ≠ p → D' k = D k ∧ cp' k = cp k) : isPy Ω A G1 a g' D' cp' row e := by
  obtain ⟨mp, p1, p3, p4, p5, p6, p2, p7⟩ := id h.2.2.1
  have hpl := (List.getElem?_eq_some_iff.mp hy).1
  obtain ⟨q1, q2, w, d9, q3, q4, q5, q6, q7, q8⟩ := p2 p y hy
  obtain ⟨n1, ⟨n2, n3, n4⟩, n5, n6, n7, n8, n9, n10, n11, n12, n13, n14⟩ := h.neO q3
  obtain ⟨m1, ⟨m2, m3, m4⟩, ⟨m5, m5'⟩, m6, m7, m8, m10, m11, m12, m13, m14⟩ := h.neA hN q7
  have n1 := n1 (by decide); have n5 := n5 (by decide); have n10 := n10 (by decide); have n11 := n11 (by decide); have n12 := n12 (by decide); have n13 := n13 (by decide)
  obtain ⟨hC, hI, hP, hO, hR, hS, hX⟩ := h
  have ho8 : ol.length ≤ 8 := hO.choose_spec.2.2.2.2.1
  refine ⟨B, pl, ol, ns, (fun k => if k = p then dr1 else dr k), sh, ⟨hC.1, ?_⟩, (hI.mono fun q c hq hc => ?_).congr (fun i hi => hg i (by omega) (by omega)), ?_, (hO.mono fun q c hq hc => ?_).congr (hg 3 (by omega) (by omega)) (fun k i hk hi => hg _ (by omega) (by omega)), hR.mono (fun q c hq hc => ?_), (hS.mono fun q c hq hc => ?_).congr (fun k hk => hg _ (by omega) (by omega)), hX⟩
  · rw [pyE_congr (hg 0 (by omega) (by omega)) (hg 38 (by omega) (by omega)) (hg 39 (by omega) (by omega)) (hg 40 (by omega) (by omega)) (hg 49 (by omega) (by omega))]
    exact hm _ _ hC.2 n1 m1
  · rcases hc with rfl | rfl | rfl
    · exact hm _ _ hq n2 m2
    · exact hm _ _ hq n3 m3
    · exact hm _ _ hq n4 m4
  · refine hP.set (dr' := fun k => if k = p then dr1 else dr k) hy (fun q c hq hc => ?_) (by rw [if_pos rfl]; exact hp) (by rw [if_pos rfl]; exact hd) (fun k hk hkp => ?_) (fun k hk hkp => ⟨fun i h1 h2 => hg _ (by omega) (by omega), (hD k hkp).1, if_neg hkp, (hD k hkp).2⟩) (hg 2 (by omega) (by omega))
    · rcases hc with rfl | ⟨rfl, h8⟩ | ⟨k, hk, hkp⟩ | ⟨k, hk, hkp, rfl⟩ | ⟨k, x, rfl⟩
      · exact hm _ _ hq n5.1 m5
      · exact hm _ _ hq (n6 h8) (m6 h8)
      · refine hm _ _ hq (fun e => hkp ?_) (fun e => m8 (e ▸ List.mem_of_getElem? hk))
        obtain ⟨-, -, w2, d2, r3, -⟩ := p2 k q hk
        rw [e, q3] at r3
        simp at r3
        exact ((nI_eq (by omega) (by have := (List.getElem?_eq_some_iff.mp hk).1; omega)).mp r3.1).symm
      · exact hm _ _ hq (n9 k hk) (fun e => hkp (p7 k p hk hpl e))
      · refine hm _ _ hq (fun e => ?_) (fun e => ?_)
        · rw [e, q3] at hq
          exact wE_ne5 (by decide) (by decide) (Option.some.inj hq).symm
        · rw [e, q7] at hq
          exact wE_neA (Option.some.inj hq).symm
    · rw [if_pos rfl]
      rcases hdn with e | e
      · rw [e]; exact fun e2 => hkp (p7 k p hk hpl e2)
      · obtain ⟨z, hz⟩ := jget hk
        obtain ⟨-, -, w2, d2, -, -, -, -, r3, -⟩ := p2 k z hz
        exact e _ _ r3
  · rcases hc with rfl | ⟨rfl, h8⟩ | hk
    · exact hm _ _ hq n5.2 m5'
    · exact hm _ _ hq (n7 h8) (m7 h8)
    · exact hm _ _ hq (fun e => n10 (e ▸ hk)) (fun e => m10 (e ▸ hk))
  · rcases hc with rfl | hk
    · exact hm _ _ hq n11 m11
    · exact hm _ _ hq (fun e => n12 (e ▸ hk)) (fun e => m12 (e ▸ hk))
  · rcases hc with rfl | rfl | ⟨k, x, rfl⟩
    · exact hm _ _ hq n13 m13
    · exact hm _ _ hq n14 m14
    · refine hm _ _ hq (fun e => ?_) (fun e => ?_)
      · rw [e, q3] at hq
        exact wE_ne5 (by decide) (by decide) (Option.some.inj hq).symm
      · rw [e, q7] at hq
        exact wE_neA (Option.some.inj hq).symm
/-- the pottery's own numbers are changed -/
theorem pyAll.own (h : pyAll Ω A G a g D cp row e B pl ol ns dr sh) (hm : ∀ q c, G q = some c → q ≠ a → G1 q = some c) (ha : G1 a = some (pyE B g' e'))
    (hg : ∀ i, i < 306 → i ≠ 0 → i ≠ 38 → i ≠ 39 → i ≠ 40 → i ≠ 49 → g' i = g i) : pyAll Ω A G1 a g' D cp row e' B pl ol ns dr sh := by
  have hC := h.1
  obtain ⟨-, ⟨n2, n3, n4⟩, n5, n6, n7, n8, n9, n10, n11, n12, n13, n14⟩ := h.neO hC.2
  have n5 := n5 (by decide); have n8 := n8 (by decide); have n10 := n10 (by decide); have n11 := n11 (by decide); have n12 := n12 (by decide); have n13 := n13 (by decide)
  obtain ⟨hC, hI, hP, hO, hR, hS, hX⟩ := h
  have ho8 : ol.length ≤ 8 := hO.choose_spec.2.2.2.2.1
  have hp16 : pl.length ≤ 16 := hP.choose_spec.2.2.2.2.1
  refine ⟨⟨hC.1, ha⟩, (hI.mono fun q c hq hc => hm q c hq ?_).congr (fun i hi => hg i (by omega) (by omega) (by omega) (by omega) (by omega) (by omega)), (hP.mono fun q c hq hc => hm q c hq ?_).congr (hg 2 (by omega) (by omega) (by omega) (by omega) (by omega) (by omega)) (fun p i hp hi _ => hg _ (by omega) (by omega) (by omega) (by omega) (by omega) (by omega)), (hO.mono fun q c hq hc => hm q c hq ?_).congr (hg 3 (by omega) (by omega) (by omega) (by omega) (by omega) (by omega)) (fun k i hk hi => hg _ (by omega) (by omega) (by omega) (by omega) (by omega) (by omega)), hR.mono (fun q c hq hc => hm q c hq ?_), (hS.mono fun q c hq hc => hm q c hq ?_).congr (fun k hk => hg _ (by omega) (by omega) (by omega) (by omega) (by omega) (by omega)), hX⟩
  · rcases hc with rfl | rfl | rfl
    · exact n2
    · exact n3
    · exact n4
  · rcases hc with rfl | ⟨rfl, h8⟩ | hk | ⟨k, hk, rfl⟩ | ⟨k, x, rfl⟩
    · exact n5.1
    · exact n6 h8
    · exact fun e => n8 (e ▸ hk)
    · exact n9 k hk
    · intro e
      rw [e, hC.2] at hq
      exact wE_ne5 (by decide) (by decide) (Option.some.inj hq).symm
  · rcases hc with rfl | ⟨rfl, h8⟩ | hk
    · exact n5.2
    · exact n7 h8
    · exact fun e => n10 (e ▸ hk)
  · rcases hc with rfl | hk
    · exact n11
    · exact fun e => n12 (e ▸ hk)
  · rcases hc with rfl | rfl | ⟨k, x, rfl⟩
    · exact n13
    · exact n14
    · intro e
      rw [e, hC.2] at hq
      exact wE_ne5 (by decide) (by decide) (Option.some.inj hq).symm
/-- the row is changed -/
theorem pyAll.rowed (h : pyAll Ω A G a g D cp row e B pl ol ns dr sh) {ns' : List Nat} (hm : ∀ q c, G q = some c → q ≠ B 5 → q ∉ ns → G1 q = some c) (hr : pyR Ω A G1 B ns' row') : pyAll Ω A G1 a g D cp row' e B pl ol ns' dr sh := by
  obtain ⟨mr, r1, -⟩ := id h.2.2.2.2.1
  obtain ⟨n1, ⟨n2, n3, n4⟩, n5, n6, n7, n8, n9, n10, -, n12, n13, n14⟩ := h.neO r1.1
  have n1 := n1 (by decide); have n5 := n5 (by decide); have n8 := n8 (by decide); have n10 := n10 (by decide); have n12 := n12 (by decide); have n13 := n13 (by decide)
  have hk : ∀ q c, G q = some c → q ≠ B 5 → (∀ fs, c ≠ .inr (33, fs)) → G1 q = some c := fun q c hq h1 h2 => hm q c hq h1 (fun hm9 => by
    obtain ⟨f9, h9⟩ := r1.nodes hm9
    rw [hq] at h9
    exact h2 _ (Option.some.inj h9))
  obtain ⟨hC, ⟨sf, df, kf, n9', i0, i1, i1', i2, i2', i3, i3'⟩, ⟨mp, p1, p3, p4, p5, p6, p2, p7⟩, ⟨mo, o1, o3, o4, o5, o6, o7, o2⟩, hR, ⟨s1, s2, s3, s4, s5⟩, hX⟩ := h
  refine ⟨⟨hC.1, hk _ _ hC.2 n1 (fun fs => by simp)⟩, ⟨sf, df, kf, n9', i0, hk _ _ i1 n2 (fun fs => by simp), i1', hk _ _ i2 n3 (fun fs => by simp), i2', hk _ _ i3 n4 (fun fs => by simp), i3'⟩, ⟨mp, ?_, p3, p4, p5, p6, fun p y hy => ?_, p7⟩, ⟨mo, ?_, o3, o4, o5, o6, o7, fun k y hy => ⟨(o2 k y hy).1, hk _ _ (o2 k y hy).2 (fun e => n10 (e ▸ List.mem_of_getElem? hy)) (fun fs => by simp)⟩⟩, hr, ⟨hk _ _ s1 n13 (fun fs => by simp), hk _ _ s2 n14 (fun fs => by simp), s3, s4, fun k hk9 => ?_⟩, hX⟩
  · rcases p1 with ⟨h1, h2, h3, h4⟩ | ⟨f, h1, h2, h3, h4, h5, h6, h7⟩
    · exact Or.inl ⟨h1, h2, h3, hk _ _ h4 n5.1 (fun fs => by simp)⟩
    · exact Or.inr ⟨f, h1, h2, h3, h4, hk _ _ h5 n5.1 (fun fs => by simp), hk _ _ h6 (n6 (by omega)) (fun fs => by simp), h7⟩
  · obtain ⟨q1, q2, w, d9, q3, q4, q5, q6, q7, q8⟩ := p2 p y hy
    exact ⟨q1, q2, w, d9, hk _ _ q3 (fun e => n8 (e ▸ List.mem_of_getElem? hy)) (fun fs => by simp), q4, hk _ _ q5 (fun e => by rw [e, r1.1] at q5; exact wE_ne5 (by decide) (by decide) (Option.some.inj q5).symm) (fun fs => wE_ne5 (by decide) (by decide)), q6, hk _ _ q7 (n9 p (List.getElem?_eq_some_iff.mp hy).1) (fun fs => by simp), q8⟩
  · rcases o1 with ⟨h1, h2, h3, h4⟩ | ⟨f, h1, h2, h3, h4, h5, h6, h7⟩
    · exact Or.inl ⟨h1, h2, h3, hk _ _ h4 n5.2 (fun fs => by simp)⟩
    · exact Or.inr ⟨f, h1, h2, h3, h4, hk _ _ h5 n5.2 (fun fs => by simp), hk _ _ h6 (n7 (by omega)) (fun fs => by simp), h7⟩
  · rcases s5 k hk9 with h | ⟨w, x, e1, e2, e3, e4⟩
    · exact Or.inl h
    · exact Or.inr ⟨w, x, e1, e2, e3, hk _ _ e4 (fun e => by rw [e, r1.1] at e4; exact wE_ne5 (by decide) (by decide) (Option.some.inj e4).symm) (fun fs => wE_ne5 (by decide) (by decide))⟩
/-- a pot's cell, its array and its ware against the rest -/
theorem pyAll.neP (h : pyAll Ω A G a g D cp row e B pl ol ns dr sh) (hN : jNe Ω) {y w m d : Nat} {f : Nat → Int32} {fs : List Value} {k : Int32} {x : Option (Int32 × Int32)} (hc : G y = some (.inr (5, fs))) (hd : G d = some (.inl (Ω.2.1 1, m, .inl f))) (hw : G w = some (wE k x)) :
    (a ≠ y ∧ B 0 ≠ y ∧ B 1 ≠ y ∧ B 2 ≠ y ∧ B 3 ≠ y ∧ B 4 ≠ y ∧ (B 10 ≠ 0 → B 8 ≠ y) ∧ (B 11 ≠ 0 → B 9 ≠ y) ∧ B 5 ≠ y ∧ B 6 ≠ y ∧ B 7 ≠ y) ∧ (a ≠ d ∧ B 0 ≠ d ∧ B 1 ≠ d ∧ B 2 ≠ d ∧ B 3 ≠ d ∧ B 4 ≠ d ∧ (B 10 ≠ 0 → B 8 ≠ d) ∧ (B 11 ≠ 0 → B 9 ≠ d) ∧ B 5 ≠ d ∧ B 6 ≠ d ∧ B 7 ≠ d) ∧ y ≠ d ∧ y ≠ w ∧ d ≠ w ∧ a ≠ w := by
  obtain ⟨n1, ⟨n2, n3, n4⟩, n5, n6, n7, n8, n9, n10, n11, n12, n13, n14⟩ := h.neO hc
  obtain ⟨m1, ⟨m2, m3, m4⟩, ⟨m5, m5'⟩, m6, m7, m8, m10, m11, m12, m13, m14⟩ := h.neA hN hd
  exact ⟨⟨n1 (by decide), n2, n3, n4, (n5 (by decide)).1, (n5 (by decide)).2, n6, n7, n11 (by decide), n13 (by decide), n14⟩, ⟨m1, m2, m3, m4, m5, m5', m6, m7, m11, m13, m14⟩, jneC hc hd (by simp), jneC hc hw (wE_ne5 (by decide) (by decide)).symm, jneC hd hw wE_neA.symm, jneC h.1.2 hw (wE_ne5 (by decide) (by decide)).symm⟩
end PY3
