/-! A POTTERY AS ONE FACT, PART FIVE (gen/py5.lean): a potter, an order more; the settings; an order, the shelf changed -/
set_option maxRecDepth 100000
section PY5
variable {Ω : jO} {A : Nat → Prop} {G G1 : Mem} {a : Nat} {g g' : Nat → Int32} {D D' : Nat → List Int32} {cp cp' : Nat → Nat} {row row' : List Nat} {e e' : Int32} {B B' : Nat → Nat} {pl ol ns : List Nat} {dr : Nat → Nat} {sh sh' : Nat → Option Nat}
/-- the arrays of ints are others (new ones or the old, rewritten), the own cell with them -/
theorem pyAll.ints (h : pyAll Ω A G a g D cp row e B pl ol ns dr sh) (hN : jNe Ω) (hm : ∀ q c, G q = some c → q ≠ a → q ≠ B 0 → q ≠ B 1 → q ≠ B 2 → G1 q = some c) (ha : G1 a = some (pyE B' g' e))
    (hI : pyI Ω A G1 B' g') (h34 : ∀ i, 3 ≤ i → B' i = B i) (hg : ∀ i, i < 306 → i ≠ 1 → ¬ (4 ≤ i ∧ i ≤ 37) → g' i = g i) : pyAll Ω A G1 a g' D cp row e B' pl ol ns dr sh := by
  have hC := h.1
  obtain ⟨sf, df, kf, nk, -, i1, -, i2, -, i3, -⟩ := id h.2.1
  obtain ⟨-, -, n5, n6, n7, n8, n9, n10, n11, n12, n13, n14⟩ := h.neO hC.2
  have n5 := n5 (by decide); have n8 := n8 (by decide); have n10 := n10 (by decide); have n11 := n11 (by decide); have n12 := n12 (by decide); have n13 := n13 (by decide)
  have hk : ∀ q c, G q = some c → q ≠ a → (∀ m f, c ≠ .inl (Ω.2.1 0, m, .inl f)) → G1 q = some c := fun q c hq h1 h2 => hm q c hq h1 (fun e => by rw [e, i1] at hq; exact h2 _ _ (Option.some.inj hq).symm) (fun e => by rw [e, i2] at hq; exact h2 _ _ (Option.some.inj hq).symm) (fun e => by rw [e, i3] at hq; exact h2 _ _ (Option.some.inj hq).symm)
  obtain ⟨-, -, hP, hO, hR, hS, hX⟩ := h
  have ho8 : ol.length ≤ 8 := hO.choose_spec.2.2.2.2.1
  have hp16 : pl.length ≤ 16 := hP.choose_spec.2.2.2.2.1
  obtain ⟨mp, p1, p3, p4, p5, p6, p2, p7⟩ := id hP
  obtain ⟨mo, o1, o3, o4, o5, o6, o7, o2⟩ := id hO
  obtain ⟨mr, r1, -⟩ := id hR
  obtain ⟨s1, s2, s3, s4, s5⟩ := id hS
  refine ⟨⟨hC.1, ha⟩, hI, ((hP.mono fun q c hq hc => ?_).congr (hg 2 (by omega) (by omega) (by omega)) (fun p i hp hi _ => hg _ (by omega) (by omega) (by omega))).cB (h34 3 (by omega)) (h34 8 (by omega)) (h34 10 (by omega)), ((hO.mono fun q c hq hc => ?_).congr (hg 3 (by omega) (by omega) (by omega)) (fun k i hk hi => hg _ (by omega) (by omega) (by omega))).cB (h34 4 (by omega)) (h34 9 (by omega)) (h34 11 (by omega)), (hR.mono (fun q c hq hc => ?_)).cB (h34 5 (by omega)), ((hS.mono fun q c hq hc => ?_).congr (fun k hk => hg _ (by omega) (by omega) (by omega))).cB (h34 6 (by omega)) (h34 7 (by omega)), ?_⟩
  · rcases hc with rfl | ⟨rfl, h8⟩ | hk9 | ⟨k, hk9, rfl⟩ | ⟨k, x, rfl⟩
    · obtain ⟨⟨fs, h9⟩, -⟩ := p1.cells
      rw [h9] at hq; cases hq
      exact hk _ _ h9 n5.1 (fun _ _ => by simp)
    · obtain ⟨f, h9⟩ := p1.cells.2 h8
      rw [h9] at hq; cases hq
      exact hk _ _ h9 (n6 h8) (fun _ _ => by simp)
    · obtain ⟨i, hi⟩ := List.getElem?_of_mem hk9
      obtain ⟨-, -, w, d9, q3, -⟩ := p2 i q hi
      rw [q3] at hq; cases hq
      exact hk _ _ q3 (fun e => n8 (e ▸ hk9)) (fun _ _ => by simp)
    · obtain ⟨z, hz⟩ := jget hk9
      obtain ⟨-, -, w, d9, -, -, -, -, q7, -⟩ := p2 k z hz
      rw [q7] at hq; cases hq
      exact hk _ _ q7 (n9 k hk9) (fun _ _ e => by simp at e; exact hN.1 e.1.symm)
    · exact hk _ _ hq (wE_neO hq hC.2 (by decide) (by decide)) (fun _ _ => wE_neA)
  · rcases hc with rfl | ⟨rfl, h8⟩ | hk9
    · obtain ⟨⟨fs, h9⟩, -⟩ := o1.cells
      rw [h9] at hq; cases hq
      exact hk _ _ h9 n5.2 (fun _ _ => by simp)
    · obtain ⟨f, h9⟩ := o1.cells.2 h8
      rw [h9] at hq; cases hq
      exact hk _ _ h9 (n7 h8) (fun _ _ => by simp)
    · obtain ⟨i, hi⟩ := List.getElem?_of_mem hk9
      have h9 := (o2 i q hi).2
      rw [h9] at hq; cases hq
      exact hk _ _ h9 (fun e => n10 (e ▸ hk9)) (fun _ _ => by simp)
  · rcases hc with rfl | hk9
    · rw [r1.1] at hq; cases hq
      exact hk _ _ r1.1 n11 (fun _ _ => by simp)
    · obtain ⟨fs, h9⟩ := r1.nodes hk9
      rw [h9] at hq; cases hq
      exact hk _ _ h9 (fun e => n12 (e ▸ hk9)) (fun _ _ => by simp)
  · rcases hc with rfl | rfl | ⟨k, x, rfl⟩
    · rw [s1] at hq; cases hq
      exact hk _ _ s1 n13 (fun _ _ => by simp)
    · rw [s2] at hq; cases hq
      exact hk _ _ s2 n14 (fun _ _ => by simp)
    · exact hk _ _ hq (wE_neO hq hC.2 (by decide) (by decide)) (fun _ _ => wE_neA)
  · rw [h34 3 (by omega), h34 4 (by omega), h34 8 (by omega), h34 9 (by omega), h34 10 (by omega), h34 11 (by omega)]
    exact hX
/-- an order more -/
theorem pyAll.addOrder (h : pyAll Ω A G a g D cp row e B pl ol ns dr sh) (hN : jNe Ω) {y n ed1 cap1 : Nat} {mc1 : Int32} (hn : ol.length = n) (hn8 : n ≤ 7)
    (hm : ∀ q c, G q = some c → q ≠ B 4 → (B 11 ≠ 0 → q ≠ B 9) → G1 q = some c)
    (hal : jAL Ω G1 (B 4) mc1 (ol ++ [y]) ed1 cap1) (hed : (ed1 = B 9 ∧ B 11 ≠ 0) ∨ (A ed1 ∧ ∀ q c, G q = some c → q ≠ ed1)) (hyA : A y) (hyn : y ∉ ol) (hy : G1 y = some (ordE (gO g' n)))
    (hg : ∀ i, i < 306 → i ≠ 3 → ¬ (258 + 6 * n ≤ i ∧ i ≤ 258 + 6 * n + 5) → g' i = g i) (hg3 : g' 3 = nI (n + 1)) :
    pyAll Ω A G1 a g' D cp row e (fun i => if i = 9 then ed1 else if i = 11 then cap1 else B i) pl (ol ++ [y]) ns dr sh := by
  obtain ⟨mo, o1, o3, o4, o5, o6, o7, o2⟩ := id h.2.2.2.1
  obtain ⟨⟨fs4, hB4⟩, hB9⟩ := o1.cells
  obtain ⟨n1, ⟨n2, n3, n4⟩, -, n7, -, n8, n9, n10, n11, n12, n13, n14⟩ := h.neO hB4
  have n1 := n1 (by decide); have n8 := n8 (by decide); have n10 := n10 (by decide); have n11 := n11 (by decide); have n12 := n12 (by decide); have n13 := n13 (by decide)
  have hk : ∀ q c, G q = some c → q ≠ B 4 → (∀ m f, c ≠ .inl (Ω.2.1 4, m, jAq f)) → G1 q = some c := fun q c hq h2 h3 => hm q c hq h2 (fun h10 e => by
    obtain ⟨f, hf⟩ := hB9 h10
    rw [e, hf] at hq
    exact h3 _ _ (Option.some.inj hq).symm)
  have hall := h
  obtain ⟨hC, hI, hP, hO, hR, hS, hX⟩ := h
  have hp16 : pl.length ≤ 16 := hP.choose_spec.2.2.2.2.1
  obtain ⟨mp, p1, p3, p4, p5, p6, p2, p7⟩ := id hP
  obtain ⟨⟨fs3, hB3⟩, hB8⟩ := p1.cells
  obtain ⟨sf, df, kf, nk, i0, i1, i1', i2, i2', i3, i3'⟩ := id hI
  obtain ⟨mr, r1, -⟩ := id hR
  obtain ⟨s1, s2, s3, s4, s5⟩ := id hS
  refine ⟨⟨hC.1, ?_⟩, ((hI.mono fun q c hq hc => ?_).congr (fun i hi => hg i (by omega) (by omega) (by omega))).cB rfl rfl rfl, ((hP.mono fun q c hq hc => ?_).congr (hg 2 (by omega) (by omega) (by omega)) (fun p i hp hi _ => hg _ (by omega) (by omega) (by omega))).cB rfl rfl rfl, ⟨mc1, hal, o3, ?_, ?_, ?_, ?_, fun k z hz => ?_⟩, (hR.mono (fun q c hq hc => ?_)).cB rfl, ((hS.mono fun q c hq hc => ?_).congr (fun k hk => hg _ (by omega) (by omega) (by omega))).cB rfl rfl, hX.1, ?_, hX.2.2⟩
  · show G1 a = some (pyE B g' e)
    rw [pyE_congr (hg 0 (by omega) (by omega) (by omega)) (hg 38 (by omega) (by omega) (by omega)) (hg 39 (by omega) (by omega) (by omega)) (hg 40 (by omega) (by omega) (by omega)) (hg 49 (by omega) (by omega) (by omega))]
    exact hk _ _ hC.2 n1 (fun _ _ => by simp)
  · rcases hc with rfl | rfl | rfl
    · rw [i1] at hq; cases hq
      exact hk _ _ i1 n2 (fun _ _ => by simp)
    · rw [i2] at hq; cases hq
      exact hk _ _ i2 n3 (fun _ _ => by simp)
    · rw [i3] at hq; cases hq
      exact hk _ _ i3 n4 (fun _ _ => by simp)
  · rcases hc with rfl | ⟨rfl, h8⟩ | hk9 | ⟨k, hk9, rfl⟩ | ⟨k, x, rfl⟩
    · rw [hB3] at hq; cases hq
      exact hk _ _ hB3 hX.1 (fun _ _ => by simp)
    · obtain ⟨f, h9⟩ := hB8 h8
      exact hm _ _ hq (fun e => by rw [h9] at hq; rw [e, hB4] at h9; simp at h9) (fun h11 => hX.2.1 h8 h11)
    · obtain ⟨i, hi⟩ := List.getElem?_of_mem hk9
      obtain ⟨-, -, w, d9, q3, -⟩ := p2 i q hi
      rw [q3] at hq; cases hq
      exact hk _ _ q3 (fun e => n8 (e ▸ hk9)) (fun _ _ => by simp)
    · obtain ⟨z, hz⟩ := jget hk9
      obtain ⟨-, -, w, d9, -, -, -, -, q7, -⟩ := p2 k z hz
      rw [q7] at hq; cases hq
      exact hk _ _ q7 (n9 k hk9) (fun _ _ => by simp)
    · exact hk _ _ hq (wE_neO hq hB4 (by decide) (by decide)) (fun _ _ => wE_neA)
  · intro _
    show A ed1
    rcases hed with ⟨e1, e2⟩ | ⟨e1, -⟩
    · rw [e1]; exact o4 e2
    · exact e1
  · rw [hg3]; simp [hn]
  · simp; omega
  · rw [List.nodup_append]
    refine ⟨o7, by simp, fun x hx z hz e => ?_⟩
    simp at hz
    rw [e, hz] at hx
    exact hyn hx
  · rw [List.getElem?_append] at hz
    by_cases hkl : k < ol.length
    · rw [if_pos hkl] at hz
      refine ⟨(o2 k z hz).1, ?_⟩
      have e9 : ordE (gO g' k) = ordE (gO g k) := by
        simp only [ordE, gO]
        rw [hg _ (by omega) (by omega) (by omega), hg _ (by omega) (by omega) (by omega), hg _ (by omega) (by omega) (by omega), hg _ (by omega) (by omega) (by omega), hg _ (by omega) (by omega) (by omega), hg _ (by omega) (by omega) (by omega)]
      rw [e9]
      exact hk _ _ (o2 k z hz).2 (fun e => n10 (e ▸ List.mem_of_getElem? hz)) (fun _ _ => by simp)
    · rw [if_neg hkl] at hz
      have hkn : k = n := by
        have := (List.getElem?_eq_some_iff.mp hz).1
        simp at this
        omega
      rw [hkn, hn, Nat.sub_self] at hz
      simp at hz
      subst hz
      rw [hkn]
      exact ⟨hyA, hy⟩
  · rcases hc with rfl | hk9
    · rw [r1.1] at hq; cases hq
      exact hk _ _ r1.1 n11 (fun _ _ => by simp)
    · obtain ⟨fs, h9⟩ := r1.nodes hk9
      rw [h9] at hq; cases hq
      exact hk _ _ h9 (fun e => n12 (e ▸ hk9)) (fun _ _ => by simp)
  · rcases hc with rfl | rfl | ⟨k, x, rfl⟩
    · rw [s1] at hq; cases hq
      exact hk _ _ s1 n13 (fun _ _ => by simp)
    · rw [s2] at hq; cases hq
      exact hk _ _ s2 n14 (fun _ _ e => by simp at e; exact hN.2.1 e.1.symm)
    · exact hk _ _ hq (wE_neO hq hB4 (by decide) (by decide)) (fun _ _ => wE_neA)
  · intro h8 _
    show B 8 ≠ ed1
    rcases hed with ⟨e1, e2⟩ | ⟨-, e1⟩
    · rw [e1]; exact hX.2.1 h8 e2
    · obtain ⟨f, hf⟩ := hB8 h8
      exact e1 _ _ hf
/-- one order's cell is another -/
theorem pyAll.order (h : pyAll Ω A G a g D cp row e B pl ol ns dr sh) {k y : Nat} (hy : ol[k]? = some y) (hm : ∀ q c, G q = some c → q ≠ y → G1 q = some c) (hc : G1 y = some (ordE (gO g' k)))
    (hg : ∀ i, i < 306 → ¬ (258 + 6 * k ≤ i ∧ i ≤ 258 + 6 * k + 5) → g' i = g i) : pyAll Ω A G1 a g' D cp row e B pl ol ns dr sh := by
  have hkl := (List.getElem?_eq_some_iff.mp hy).1
  obtain ⟨mo, o1, o3, o4, o5, o6, o7, o2⟩ := id h.2.2.2.1
  obtain ⟨n1, ⟨n2, n3, n4⟩, n5, n6, n7, n8, n9, -, n11, n12, n13, n14⟩ := h.neO (o2 k y hy).2
  have n1 := n1 (by decide); have n5 := n5 (by decide); have n8 := n8 (by decide); have n11 := n11 (by decide); have n12 := n12 (by decide); have n13 := n13 (by decide)
  have hcy := (o2 k y hy).2
  obtain ⟨hC, hI, hP, hO, hR, hS, hX⟩ := h
  have hp16 : pl.length ≤ 16 := hP.choose_spec.2.2.2.2.1
  refine ⟨⟨hC.1, ?_⟩, (hI.mono fun q c hq hc => hm q c hq ?_).congr (fun i hi => hg i (by omega) (by omega)), (hP.mono fun q c hq hc => hm q c hq ?_).congr (hg 2 (by omega) (by omega)) (fun p i hp hi _ => hg _ (by omega) (by omega)), ⟨mo, o1.mono (fun q c hq hc => hm q c hq ?_), o3, o4, (hg 3 (by omega) (by omega)).trans o5, o6, o7, fun j z hz => ⟨(o2 j z hz).1, ?_⟩⟩, hR.mono (fun q c hq hc => hm q c hq ?_), (hS.mono fun q c hq hc => hm q c hq ?_).congr (fun k hk => hg _ (by omega) (by omega)), hX⟩
  · rw [pyE_congr (hg 0 (by omega) (by omega)) (hg 38 (by omega) (by omega)) (hg 39 (by omega) (by omega)) (hg 40 (by omega) (by omega)) (hg 49 (by omega) (by omega))]
    exact hm _ _ hC.2 n1
  · rcases hc with rfl | rfl | rfl
    · exact n2
    · exact n3
    · exact n4
  · rcases hc with rfl | ⟨rfl, h8⟩ | hk9 | ⟨k, hk9, rfl⟩ | ⟨k, x, rfl⟩
    · exact n5.1
    · exact n6 h8
    · exact fun e => n8 (e ▸ hk9)
    · exact n9 k hk9
    · exact wE_neO hq hcy (by decide) (by decide)
  · rcases hc with rfl | ⟨rfl, h8⟩
    · exact n5.2
    · exact n7 h8
  · by_cases e9 : j = k
    · subst e9
      have e1 : z = y := Option.some.inj (hz.symm.trans hy)
      subst e1
      exact hc
    · have hjl := (List.getElem?_eq_some_iff.mp hz).1
      have e8 : ordE (gO g' j) = ordE (gO g j) := by
        simp only [ordE, gO]
        rw [hg _ (by omega) (by omega), hg _ (by omega) (by omega), hg _ (by omega) (by omega), hg _ (by omega) (by omega), hg _ (by omega) (by omega), hg _ (by omega) (by omega)]
      rw [e8]
      exact hm _ _ (o2 j z hz).2 (jnd o7 hz hy e9)
  · rcases hc with rfl | hk9
    · exact n11
    · exact fun e => n12 (e ▸ hk9)
  · rcases hc with rfl | rfl | ⟨k, x, rfl⟩
    · exact n13
    · exact n14
    · exact wE_neO hq hcy (by decide) (by decide)
/-- the shelf's array is another -/
theorem pyAll.shelf (h : pyAll Ω A G a g D cp row e B pl ol ns dr sh) (hN : jNe Ω) (hm : ∀ q c, G q = some c → q ≠ B 7 → G1 q = some c) (hs : G1 (B 7) = some (.inl (Ω.2.1 5, 8, jAq sh')))
    (hk : ∀ k, k < 8 → (sh' k = none ∧ g' (41 + k) = -1) ∨ ∃ w x, sh' k = some w ∧ g' (41 + k) ≠ -1 ∧ Ω.2.2.2 ≤ w ∧ G w = some (wE (g' (41 + k)) (some x)))
    (hg : ∀ i, i < 306 → ¬ (41 ≤ i ∧ i ≤ 48) → (∀ p, p < 16 → i ≠ 50 + 13 * p + 8) → g' i = g i) : pyAll Ω A G1 a g' D cp row e B pl ol ns dr sh' := by
  obtain ⟨s1, s2, s3, s4, s5⟩ := id h.2.2.2.2.2.1
  obtain ⟨hC, hI, hP, hO, hR, hS, hX⟩ := h
  have hp16 : pl.length ≤ 16 := hP.choose_spec.2.2.2.2.1
  have ho8 : ol.length ≤ 8 := hO.choose_spec.2.2.2.2.1
  obtain ⟨mp, p1, p3, p4, p5, p6, p2, p7⟩ := id hP
  obtain ⟨mo, o1, o3, o4, o5, o6, o7, o2⟩ := id hO
  obtain ⟨sf, df, kf, nk, i0, i1, i1', i2, i2', i3, i3'⟩ := id hI
  obtain ⟨mr, r1, -⟩ := id hR
  have h4 : Ω.2.1 5 ≠ Ω.2.1 4 := fun e => hN.2.1 e.symm
  refine ⟨⟨hC.1, ?_⟩, (hI.mono fun q c hq hc => hm q c hq ?_).congr (fun i hi => hg i (by omega) (by omega) (fun p _ => by omega)), (hP.mono fun q c hq hc => hm q c hq ?_).congr (hg 2 (by omega) (by omega) (fun p _ => by omega)) (fun p i hp hi h8 => hg _ (by omega) (by omega) (fun p _ => by omega)), (hO.mono fun q c hq hc => hm q c hq ?_).congr (hg 3 (by omega) (by omega) (fun p _ => by omega)) (fun k i hk hi => ?_), hR.mono (fun q c hq hc => hm q c hq ?_), ⟨hm _ _ s1 (jneC s1 s2 (by simp)), hs, s3, s4, fun k hk9 => ?_⟩, hX⟩
  · rw [pyE_congr (hg 0 (by omega) (by omega) (fun p _ => by omega)) (hg 38 (by omega) (by omega) (fun p _ => by omega)) (hg 39 (by omega) (by omega) (fun p _ => by omega)) (hg 40 (by omega) (by omega) (fun p _ => by omega)) (hg 49 (by omega) (by omega) (fun p _ => by omega))]
    exact hm _ _ hC.2 (jneC hC.2 s2 (by simp))
  · rcases hc with rfl | rfl | rfl
    · exact jneC i1 s2 (by simp)
    · exact jneC i2 s2 (by simp)
    · exact jneC i3 s2 (by simp)
  · rcases hc with rfl | ⟨rfl, h8⟩ | hk9 | ⟨k, hk9, rfl⟩ | ⟨k, x, rfl⟩
    · exact (p1.neQ s2 h4).1
    · exact (p1.neQ s2 h4).2 h8
    · obtain ⟨i, hi⟩ := List.getElem?_of_mem hk9
      obtain ⟨-, -, w, d9, q3, -⟩ := p2 i q hi
      exact jneC q3 s2 (by simp)
    · obtain ⟨z, hz⟩ := jget hk9
      obtain ⟨-, -, w, d9, -, -, -, -, q7, -⟩ := p2 k z hz
      exact jneC q7 s2 (by simp)
    · exact wE_neI hq s2
  · rcases hc with rfl | ⟨rfl, h8⟩ | hk9
    · exact (o1.neQ s2 h4).1
    · exact (o1.neQ s2 h4).2 h8
    · obtain ⟨i, hi⟩ := List.getElem?_of_mem hk9
      exact jneC (o2 i q hi).2 s2 (by simp)
  · exact hg _ (by omega) (by omega) (fun p _ => by omega)
  · rcases hc with rfl | hk9
    · exact jneC r1.1 s2 (by simp)
    · obtain ⟨fs, h9⟩ := r1.nodes hk9
      exact jneC h9 s2 (by simp)
  · rcases hk k hk9 with h | ⟨w, x, e1, e2, e3, e4⟩
    · exact Or.inl h
    · exact Or.inr ⟨w, x, e1, e2, e3, hm _ _ e4 (wE_neI e4 s2)⟩
end PY5
