/-! A POTTERY AS ONE FACT, PART FOUR (gen/py4.lean): a potter, a pot, an order more; an order, the shelf changed -/
set_option maxRecDepth 100000
section PY4
variable {Ω : jO} {A : Nat → Prop} {G G1 : Mem} {a : Nat} {g g' : Nat → Int32} {D D' : Nat → List Int32} {cp cp' : Nat → Nat} {row row' : List Nat} {e e' : Int32} {B B' : Nat → Nat} {pl ol ns : List Nat} {dr : Nat → Nat} {sh : Nat → Option Nat}
theorem pyI.cB (h : pyI Ω A G B g) (h0 : B' 0 = B 0) (h1 : B' 1 = B 1) (h2 : B' 2 = B 2) : pyI Ω A G B' g := by
  obtain ⟨sf, df, kf, n, q⟩ := h
  refine ⟨sf, df, kf, n, ?_⟩
  rw [h0, h1, h2]
  exact q
theorem pyP.cB (h : pyP Ω A G B pl g D dr cp) (h3 : B' 3 = B 3) (h8 : B' 8 = B 8) (h10 : B' 10 = B 10) : pyP Ω A G B' pl g D dr cp := by
  obtain ⟨mc, q⟩ := h
  refine ⟨mc, ?_⟩
  rw [h3, h8, h10]
  exact q
theorem pyO.cB (h : pyO Ω A G B ol g) (h3 : B' 4 = B 4) (h8 : B' 9 = B 9) (h10 : B' 11 = B 11) : pyO Ω A G B' ol g := by
  obtain ⟨mc, q⟩ := h
  refine ⟨mc, ?_⟩
  rw [h3, h8, h10]
  exact q
theorem pyR.cB (h : pyR Ω A G B ns row) (h5 : B' 5 = B 5) : pyR Ω A G B' ns row := by
  obtain ⟨mc, q⟩ := h
  refine ⟨mc, ?_⟩
  rw [h5]
  exact q
theorem pyS.cB (h : pyS Ω A G B sh g) (h6 : B' 6 = B 6) (h7 : B' 7 = B 7) : pyS Ω A G B' sh g := by
  simp only [pyS]
  rw [h6, h7]
  exact h
/-- the array of a list against the rest -/
theorem pyAll.neQ (h : pyAll Ω A G a g D cp row e B pl ol ns dr sh) (hN : jNe Ω) {y n : Nat} {f : Nat → Option Nat} (hy : G y = some (.inl (Ω.2.1 4, n, jAq f))) :
    a ≠ y ∧ (B 0 ≠ y ∧ B 1 ≠ y ∧ B 2 ≠ y) ∧ (B 3 ≠ y ∧ B 4 ≠ y) ∧ y ∉ pl ∧ (∀ k, k < pl.length → dr k ≠ y) ∧ y ∉ ol ∧ B 5 ≠ y ∧ y ∉ ns ∧ B 6 ≠ y ∧ B 7 ≠ y := by
  obtain ⟨hC, ⟨sf, df, kf, n9, -, i1, -, i2, -, i3, -⟩, ⟨mp, p1, -, -, -, -, p2, -⟩, ⟨mo, o1, -, -, -, -, -, o2⟩, ⟨mr, r1, -⟩, ⟨s1, s2, -⟩, -⟩ := h
  refine ⟨jneC hC.2 hy (by simp), ⟨jneC i1 hy (by simp), jneC i2 hy (by simp), jneC i3 hy (by simp)⟩, ⟨?_, ?_⟩, fun hm => ?_, fun k hk => ?_, fun hm => ?_, jneC r1.1 hy (by simp), fun hm => ?_, jneC s1 hy (by simp), jneC s2 hy (fun e => by simp at e; exact hN.2.1 e.1.symm)⟩
  · rcases p1 with ⟨-, -, -, h4⟩ | ⟨f, -, -, -, -, h4, -⟩
    · exact jneC h4 hy (by simp)
    · exact jneC h4 hy (by simp)
  · rcases o1 with ⟨-, -, -, h4⟩ | ⟨f, -, -, -, -, h4, -⟩
    · exact jneC h4 hy (by simp)
    · exact jneC h4 hy (by simp)
  · obtain ⟨i, hi⟩ := List.getElem?_of_mem hm
    obtain ⟨-, -, w, d9, q1, -⟩ := p2 i y hi
    exact jneC q1 hy (by simp) rfl
  · obtain ⟨z, hz⟩ := jget hk
    obtain ⟨-, -, w, d9, -, -, -, -, q1, -⟩ := p2 k z hz
    exact jneC q1 hy (by simp)
  · obtain ⟨i, hi⟩ := List.getElem?_of_mem hm
    exact jneC (o2 i y hi).2 hy (by simp) rfl
  · obtain ⟨f9, h9⟩ := r1.nodes hm
    exact jneC h9 hy (by simp) rfl
theorem wE_neO {k : Int32} {x : Option (Int32 × Int32)} {ci : Nat} {fs : List Value} {y q : Nat} (hq : G q = some (wE k x)) (hy : G y = some (.inr (ci, fs))) (h : ci ≠ 6) (h2 : ci ≠ 10) : q ≠ y := jneC hq hy (wE_ne5 h h2)
theorem wE_neI {k : Int32} {x : Option (Int32 × Int32)} {z : ClassId × vp_A} {y q : Nat} (hq : G q = some (wE k x)) (hy : G y = some (.inl z)) : q ≠ y := jneC hq hy wE_neA
/-- a list's own cell and array in memory -/
theorem jAL.cells {Ω : jO} {G : Mem} {a : Nat} {mc : Int32} {xs : List Nat} {ed cap : Nat} (h : jAL Ω G a mc xs ed cap) : (∃ fs, G a = some (.inr (28, fs))) ∧ (cap ≠ 0 → ∃ f, G ed = some (.inl (Ω.2.1 4, cap, jAq f))) := by
  rcases h with ⟨h1, h2, h3, h4⟩ | ⟨f, h1, h2, h3, h4, h5, h6, h7⟩
  · exact ⟨⟨_, h4⟩, fun e => absurd h3 e⟩
  · exact ⟨⟨_, h5⟩, fun _ => ⟨f, h6⟩⟩
/-- a pot more (the row is another step) -/
theorem pyAll.addPot {d0 : List Int32} (h : pyAll Ω A G a g D cp row e B pl ol ns dr sh) (hN : jNe Ω) {y dr1 cp1 n ed1 cap1 : Nat} {mc1 : Int32} (hn : pl.length = n) (hn16 : n ≤ 15)
    (hm : ∀ q c, G q = some c → Ω.2.2.2 ≤ q → q ≠ B 3 → (B 10 ≠ 0 → q ≠ B 8) → G1 q = some c)
    (hal : jAL Ω G1 (B 3) mc1 (pl ++ [y]) ed1 cap1) (hed : (ed1 = B 8 ∧ B 10 ≠ 0) ∨ (A ed1 ∧ ∀ q c, G q = some c → q ≠ ed1)) (hyA : A y) (hdA : A dr1) (hfr : ∀ q c, G q = some c → q ≠ y ∧ q ≠ dr1) (hp : jPot Ω G1 y n (gP g' n) d0 dr1 cp1)
    (hg : ∀ i, i < 306 → i ≠ 2 → ¬ (50 + 13 * n ≤ i ∧ i ≤ 50 + 13 * n + 12) → g' i = g i) (hg2 : g' 2 = nI (n + 1)) :
    pyAll Ω A G1 a g' (fun p => if p = n then d0 else D p) (fun p => if p = n then cp1 else cp p) row e (fun i => if i = 8 then ed1 else if i = 10 then cap1 else B i) (pl ++ [y]) ol ns (fun p => if p = n then dr1 else dr p) sh := by
  have hb : ∀ q, A q → Ω.2.2.2 ≤ q := h.2.2.2.2.2.2.2.2
  obtain ⟨mp, p1, p3, p4, p5, p6, p2, p7⟩ := id h.2.2.1
  obtain ⟨⟨fs3, hB3⟩, hB8⟩ := p1.cells
  obtain ⟨n1, ⟨n2, n3, n4⟩, -, -, n7, n8, n9, n10, n11, n12, n13, n14⟩ := h.neO hB3
  have n1 := n1 (by decide); have n8 := n8 (by decide); have n10 := n10 (by decide); have n11 := n11 (by decide); have n12 := n12 (by decide); have n13 := n13 (by decide)
  have hall := h
  obtain ⟨hC, hI, hP, ⟨mo, o1, o3, o4, o5, o6, o7, o2⟩, ⟨mr, r1, r2, r3, r4⟩, hS, hX⟩ := h
  obtain ⟨sf, df, kf, nk, i0, i1, i1', i2, i2', i3, i3'⟩ := hI
  obtain ⟨s1, s2, s3, s4, s5⟩ := hS
  have hk : ∀ q c, G q = some c → Ω.2.2.2 ≤ q → q ≠ B 3 → (∀ m f, c ≠ .inl (Ω.2.1 4, m, jAq f)) → G1 q = some c := fun q c hq h1 h2 h3 => hm q c hq h1 h2 (fun h10 e => by
    obtain ⟨f, hf⟩ := hB8 h10
    rw [e, hf] at hq
    exact h3 _ _ (Option.some.inj hq).symm)
  obtain ⟨⟨fs4, hB4⟩, hB9⟩ := o1.cells
  refine ⟨⟨hC.1, ?_⟩, ⟨sf, df, kf, nk, i0, ?_, fun k hk9 => (i1' k hk9).trans (hg _ (by omega) (by omega) (by omega)).symm, ?_, fun k hk9 => (i2' k hk9).trans (hg _ (by omega) (by omega) (by omega)).symm, ?_, i3'.1, (hg 1 (by omega) (by omega) (by omega)).trans i3'.2.1, fun k hk9 => (i3'.2.2 k hk9).trans (hg _ (by omega) (by omega) (by omega)).symm⟩, ⟨mc1, hal, p3, ?_, ?_, ?_, fun p z hz => ?_, fun p q hp9 hq9 e9 => ?_⟩, ⟨mo, ?_, o3, o4, (hg 3 (by omega) (by omega) (by omega)).trans o5, o6, o7, fun k z hz => ⟨(o2 k z hz).1, ?_⟩⟩, ⟨mr, ?_, r2, r3, r4⟩, ⟨?_, ?_, s3, s4, fun k hk9 => ?_⟩, hX.1, ?_, hX.2.2⟩
  · show G1 a = some (pyE B g' e)
    rw [pyE_congr (hg 0 (by omega) (by omega) (by omega)) (hg 38 (by omega) (by omega) (by omega)) (hg 39 (by omega) (by omega) (by omega)) (hg 40 (by omega) (by omega) (by omega)) (hg 49 (by omega) (by omega) (by omega))]
    exact hk _ _ hC.2 (hb _ hC.1) n1 (fun _ _ => by simp)
  · exact hk _ _ i1 (hb _ i0.1) n2 (fun _ _ => by simp)
  · exact hk _ _ i2 (hb _ i0.2.1) n3 (fun _ _ => by simp)
  · exact hk _ _ i3 (hb _ i0.2.2) n4 (fun _ _ => by simp)
  · intro _
    show A ed1
    rcases hed with ⟨e1, e2⟩ | ⟨e1, -⟩
    · rw [e1]; exact p4 e2
    · exact e1
  · rw [hg2]; simp [hn]
  · simp; omega
  · rw [List.getElem?_append] at hz
    by_cases hpl : p < pl.length
    · rw [if_pos hpl] at hz
      obtain ⟨q1, q2, w, d9, q3, q4, q5, q6, q7, q8⟩ := p2 p z hz
      have hpn : ¬ p = n := by omega
      show A z ∧ A (if p = n then dr1 else dr p) ∧ jPot Ω G1 z p (gP g' p) (if p = n then d0 else D p) (if p = n then dr1 else dr p) (if p = n then cp1 else cp p)
      rw [if_neg hpn, if_neg hpn, if_neg hpn]
      refine ⟨q1, q2, jPot.congr (f := gP g p) ⟨w, d9, hk _ _ q3 (hb _ q1) (fun e => n8 (e ▸ List.mem_of_getElem? hz)) (fun _ _ => by simp), q4, hk _ _ q5 q6 (wE_neO q5 hB3 (by decide) (by decide)) (fun _ _ => wE_neA), q6, hk _ _ q7 (hb _ q2) (n9 p hpl) (fun _ _ => by simp), q8⟩ (fun i h1 h2 => hg _ (by omega) (by omega) (by omega))⟩
    · rw [if_neg hpl] at hz
      have hpn : p = n := by
        have := (List.getElem?_eq_some_iff.mp hz).1
        simp at this
        omega
      rw [hpn, hn, Nat.sub_self] at hz
      simp at hz
      subst hz
      show A y ∧ A (if p = n then dr1 else dr p) ∧ jPot Ω G1 y p (gP g' p) (if p = n then d0 else D p) (if p = n then dr1 else dr p) (if p = n then cp1 else cp p)
      rw [if_pos hpn, if_pos hpn, if_pos hpn, hpn]
      exact ⟨hyA, hdA, hp⟩
  · simp only [List.length_append, List.length_singleton] at hp9 hq9
    have hfd : ∀ k, k < pl.length → dr k ≠ dr1 := fun k hk9 => by
      obtain ⟨z, hz⟩ := jget hk9
      obtain ⟨-, -, w, d9, -, -, -, -, q7, -⟩ := p2 k z hz
      exact (hfr _ _ q7).2
    by_cases h1 : p = n
    · by_cases h2 : q = n
      · omega
      · simp only [if_pos h1, if_neg h2] at e9
        exact absurd e9.symm (hfd q (by omega))
    · by_cases h2 : q = n
      · simp only [if_neg h1, if_pos h2] at e9
        exact absurd e9 (hfd p (by omega))
      · simp only [if_neg h1, if_neg h2] at e9
        exact p7 p q (by omega) (by omega) e9
  · refine o1.mono (fun q c hq hc => ?_)
    rcases hc with rfl | ⟨rfl, h8⟩
    · exact hk _ _ hq (hb _ o3) (Ne.symm hX.1) (by obtain ⟨⟨fs, h9⟩, -⟩ := o1.cells; rw [h9] at hq; cases hq; exact fun _ _ => by simp)
    · obtain ⟨f, hf⟩ := hB9 h8
      rw [hf] at hq
      cases hq
      exact hm _ _ hf (hb _ (o4 h8)) (fun e => by rw [e, hB3] at hf; simp at hf) (fun h10 e => hX.2.1 h10 h8 e.symm)
  · have hkl := (List.getElem?_eq_some_iff.mp hz).1
    have e9 : ordE (gO g' k) = ordE (gO g k) := by
      simp only [ordE, gO]
      rw [hg _ (by omega) (by omega) (by omega), hg _ (by omega) (by omega) (by omega), hg _ (by omega) (by omega) (by omega), hg _ (by omega) (by omega) (by omega), hg _ (by omega) (by omega) (by omega), hg _ (by omega) (by omega) (by omega)]
    rw [e9]
    exact hk _ _ (o2 k z hz).2 (hb _ (o2 k z hz).1) (fun e => n10 (e ▸ List.mem_of_getElem? hz)) (fun _ _ => by simp)
  · refine r1.mono (fun q c hq hc => ?_)
    rcases hc with rfl | hc
    · exact hk _ _ hq (hb _ r2) n11 (by rw [r1.1] at hq; cases hq; exact fun _ _ => by simp)
    · obtain ⟨fs, h9⟩ := r1.nodes hc
      rw [h9] at hq
      cases hq
      exact hk _ _ h9 (hb _ (r3 q hc)) (fun e => n12 (e ▸ hc)) (fun _ _ => by simp)
  · exact hk _ _ s1 (hb _ s3) n13 (fun _ _ => by simp)
  · exact hk _ _ s2 (hb _ s4) n14 (fun _ _ e => by simp at e; exact hN.2.1 e.1.symm)
  · rw [hg _ (by omega) (by omega) (by omega)]
    rcases s5 k hk9 with h | ⟨w, x, e1, e2, e3, e4⟩
    · exact Or.inl h
    · exact Or.inr ⟨w, x, e1, e2, e3, hk _ _ e4 e3 (wE_neO e4 hB3 (by decide) (by decide)) (fun _ _ => wE_neA)⟩
  · intro _ h11
    show ed1 ≠ B 9
    rcases hed with ⟨e1, e2⟩ | ⟨-, e1⟩
    · rw [e1]; exact hX.2.1 e2 h11
    · obtain ⟨f, hf⟩ := hB9 h11
      exact fun e => e1 _ _ hf e.symm
end PY4
