/-! THE DEQUE AS ONE FACT (gen/mk_x3.py) -/
set_option maxRecDepth 100000
def jDQ (Ω : jO) (G : Mem) (a ea : Nat) (xs : List Nat) : Prop := ∃ (h : Nat) (f : Nat → Option Nat), h < 17 ∧ xs.length ≤ 9 ∧ G a = some (.inr (30, [.ref ea, .int (nI h), .int (nI ((h + xs.length) % 17))])) ∧ G ea = some (.inl (Ω.2.1 4, 17, jAq f)) ∧ Ω.2.2.2 ≤ a ∧ Ω.2.2.2 ≤ ea ∧ ∀ i x, xs[i]? = some x → f ((h + i) % 17) = some x
theorem jDQ.mono {Ω : jO} {G G1 : Mem} {a ea : Nat} {xs : List Nat} (h : jDQ Ω G a ea xs) (ha : ∀ q c, G q = some c → (q = a ∨ q = ea) → G1 q = some c) : jDQ Ω G1 a ea xs := by
  obtain ⟨hd, f, h1, h2, h3, h4, h5, h6, h7⟩ := h
  exact ⟨hd, f, h1, h2, ha _ _ h3 (Or.inl rfl), ha _ _ h4 (Or.inr rfl), h5, h6, h7⟩
theorem dinc17 {i : Nat} (h : i < 17) : dinc i 17 = (i + 1) % 17 := by simp only [dinc]; split <;> omega
theorem t_DQ_size (l : Launch) (Ω : jO) {G : Mem} {sz : Nat} {a ea : Nat} {xs : List Nat} (h : jDQ Ω G a ea xs) : Met l yJ5_size (ws_ yJ5_size cJ5_size 1 (some .int)) ({ frames := 2, cells := 0, slots := 0, locals := 34 } : Room) (va_Pc [.ref a] (jWd Ω G sz)) (jQ Ω (jD (some (.int (nI xs.length))) G sz)) 0 0 (jB Ω) := by
  obtain ⟨hd, f, h1, h2, h3, h4, h5, h6, h7⟩ := h
  have e : dsub ((hd + xs.length) % 17) hd = xs.length := by simp only [dsub]; split <;> omega
  have h9 := t_J5_size (sz := sz) l Ω a h3 h4 h1 (by omega)
  rw [e] at h9
  exact h9
theorem t_DQ_empty (l : Launch) (Ω : jO) {G : Mem} {sz : Nat} {a ea : Nat} {xs : List Nat} (h : jDQ Ω G a ea xs) : Met l yJ5_isEmpty (ws_ yJ5_isEmpty cJ5_isEmpty 1 (some .boolean)) ({ frames := 1, cells := 0, slots := 0, locals := 12 } : Room) (va_Pc [.ref a] (jWd Ω G sz)) (jQ Ω (jD (some (.int (if xs.length = 0 then nI (1) else nI (0)))) G sz)) 0 0 (jB Ω) := by
  obtain ⟨hd, f, h1, h2, h3, h4, h5, h6, h7⟩ := h
  have h9 := t_J5_isEmpty (sz := sz) l Ω a h3 h1 (by omega)
  have e : r_dqEmpty hd ((hd + xs.length) % 17) = if xs.length = 0 then nI (1) else nI (0) := by
    simp only [r_dqEmpty]
    by_cases h : xs.length = 0
    · rw [if_pos h, if_pos (by omega)]
    · rw [if_neg h, if_neg (by omega)]
  rw [e] at h9
  exact h9
theorem t_DQ_add (l : Launch) (Ω : jO) {G : Mem} {sz : Nat} {a ea : Nat} {xs : List Nat} (h : jDQ Ω G a ea xs) (v : Nat) {ci : Nat} {q : vw_C} {vs : List Value} (hc : vwCl[ci]? = some q) (hv : G v = some (.inr (ci, vs))) (hcs : Cond.castable q.1 "java/lang/Object" ∈ lw_tbl) (hva : v ≠ a) (hl : xs.length ≤ 8) : Met l yJ5_addLast (ws_ yJ5_addLast cJ5_addLast 3 none) ({ frames := 2, cells := 0, slots := 0, locals := 33 } : Room) (va_Pc [.ref a, .ref v] (jWd Ω G sz)) (jQ Ω (fun r G1 sz1 => r = none ∧ sz1 = sz ∧ jDQ Ω G1 a ea (xs ++ [v]) ∧ ∀ q, q ≠ a → q ≠ ea → G1 q = G q)) 0 0 (jB Ω) := by
  obtain ⟨hd, f, h1, h2, h3, h4, h5, h6, h7⟩ := h
  have hne : a ≠ ea := fun e9 => by rw [e9, h4] at h3; simp at h3
  have hi : dinc ((hd + xs.length) % 17) 17 = (hd + (xs.length + 1)) % 17 := by rw [dinc17 (by omega)]; omega
  refine jCons (t_J5_addLast l Ω a h3 h4 h1 (by omega) v hc hv hcs hva h5 h6 (by rw [hi]; omega)) ?_
  rintro r G1 sz1 ⟨rfl, rfl, rfl⟩
  refine ⟨rfl, rfl, ⟨hd, va_up f ((hd + xs.length) % 17) (some v), h1, by simp; omega, ?_, (gset_ne (Ne.symm hne)).trans gset_eq, h5, h6, ?_⟩, fun q g1 g2 => (gset_ne g1).trans (gset_ne g2)⟩
  · rw [show (xs ++ [v]).length = xs.length + 1 by simp, ← hi]; exact gset_eq
  · intro i x hx
    have hil := (List.getElem?_eq_some_iff.mp hx).1
    simp at hil
    rw [List.getElem?_append] at hx
    by_cases e : i < xs.length
    · rw [if_pos e] at hx
      simp only [va_up]
      rw [if_neg (by omega)]
      exact h7 i x hx
    · rw [if_neg e, show i - xs.length = 0 by omega] at hx
      simp at hx
      subst hx
      simp only [va_up]
      rw [if_pos (by rw [show i = xs.length by omega])]
theorem t_DQ_first (l : Launch) (Ω : jO) {G : Mem} {sz : Nat} {a ea x : Nat} {xs : List Nat} (h : jDQ Ω G a ea (x :: xs)) : Met l yJ5_removeFirst (ws_ yJ5_removeFirst cJ5_removeFirst 2 (some (.object "java/lang/Object"))) ({ frames := 3, cells := 0, slots := 0, locals := 56 } : Room) (va_Pc [.ref a] (jWd Ω G sz)) (jQ Ω (fun r G1 sz1 => r = some (.ref x) ∧ sz1 = sz ∧ jDQ Ω G1 a ea xs ∧ ∀ q, q ≠ a → q ≠ ea → G1 q = G q)) 0 0 (jB Ω) := by
  obtain ⟨hd, f, h1, h2, h3, h4, h5, h6, h7⟩ := h
  have hne : a ≠ ea := fun e9 => by rw [e9, h4] at h3; simp at h3
  have hl : xs.length + 1 ≤ 9 := by simpa using h2
  have h0 := h7 0 x rfl
  rw [show (hd + 0) % 17 = hd by omega] at h0
  refine jCons (t_J5_removeFirst l Ω a h3 h4 h1 (by omega) x h0 h5 h6) ?_
  rintro r G1 sz1 ⟨rfl, rfl, rfl⟩
  refine ⟨rfl, rfl, ⟨(hd + 1) % 17, va_up f hd none, by omega, by omega, ?_, (gset_ne (Ne.symm hne)).trans gset_eq, h5, h6, ?_⟩, fun q g1 g2 => (gset_ne g1).trans (gset_ne g2)⟩
  · rw [dinc17 h1, show ((hd + 1) % 17 + xs.length) % 17 = (hd + (x :: xs).length) % 17 by simp; omega]; exact gset_eq
  · intro i y hy
    have hil := (List.getElem?_eq_some_iff.mp hy).1
    simp only [va_up]
    rw [if_neg (by omega), show ((hd + 1) % 17 + i) % 17 = (hd + (i + 1)) % 17 by omega]
    exact h7 (i + 1) y (by simpa using hy)
theorem t_DQ_last (l : Launch) (Ω : jO) {G : Mem} {sz : Nat} {a ea x : Nat} {xs : List Nat} (h : jDQ Ω G a ea (xs ++ [x])) : Met l yJ5_removeLast (ws_ yJ5_removeLast cJ5_removeLast 2 (some (.object "java/lang/Object"))) ({ frames := 3, cells := 0, slots := 0, locals := 56 } : Room) (va_Pc [.ref a] (jWd Ω G sz)) (jQ Ω (fun r G1 sz1 => r = some (.ref x) ∧ sz1 = sz ∧ jDQ Ω G1 a ea xs ∧ ∀ q, q ≠ a → q ≠ ea → G1 q = G q)) 0 0 (jB Ω) := by
  obtain ⟨hd, f, h1, h2, h3, h4, h5, h6, h7⟩ := h
  have hne : a ≠ ea := fun e9 => by rw [e9, h4] at h3; simp at h3
  have hl : xs.length + 1 ≤ 9 := by simpa using h2
  have hll : (xs ++ [x]).length = xs.length + 1 := by simp
  have hd0 : ddec ((hd + (xs ++ [x]).length) % 17) = (hd + xs.length) % 17 := by rw [hll]; simp only [ddec]; split <;> omega
  have h0 := h7 xs.length x (by rw [List.getElem?_append, if_neg (by omega)]; simp)
  rw [← hd0] at h0
  refine jCons (t_J5_removeLast l Ω a h3 h4 h1 (by omega) x h0 h5 h6) ?_
  rintro r G1 sz1 ⟨rfl, rfl, rfl⟩
  refine ⟨rfl, rfl, ⟨hd, _, h1, by omega, ?_, gset_eq, h5, h6, ?_⟩, fun q g1 g2 => (gset_ne g2).trans (gset_ne g1)⟩
  · rw [← hd0]; exact (gset_ne hne).trans gset_eq
  · intro i y hy
    have hil := (List.getElem?_eq_some_iff.mp hy).1
    simp only [va_up]
    rw [if_neg (by rw [hd0]; omega)]
    exact h7 i y (by rw [List.getElem?_append, if_pos hil]; exact hy)
theorem t_DQ_clear (l : Launch) (Ω : jO) {G : Mem} {sz : Nat} {a ea : Nat} {xs : List Nat} (h : jDQ Ω G a ea xs) : Met l yJ5_clear (ws_ yJ5_clear cJ5_clear 1 none) ({ frames := 2, cells := 0, slots := 0, locals := 35 } : Room) (va_Pc [.ref a] (jWd Ω G sz)) (jQ Ω (fun r G1 sz1 => r = none ∧ sz1 = sz ∧ jDQ Ω G1 a ea [] ∧ ∀ q, q ≠ a → q ≠ ea → G1 q = G q)) 0 0 (jB Ω) := by
  obtain ⟨hd, f, h1, h2, h3, h4, h5, h6, h7⟩ := h
  have hne : a ≠ ea := fun e9 => by rw [e9, h4] at h3; simp at h3
  refine jCons (t_J5_clear l Ω a h3 h4 h1 (by omega) h5 h6) ?_
  rintro r G1 sz1 ⟨rfl, ⟨f1, rfl⟩, rfl⟩
  exact ⟨rfl, rfl, ⟨0, f1, by omega, by simp, gset_eq, (gset_ne (Ne.symm hne)).trans gset_eq, h5, h6, fun i x hx => by simp at hx⟩, fun q g1 g2 => (gset_ne g1).trans (gset_ne g2)⟩
