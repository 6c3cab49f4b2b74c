/-! A LinkedList AS ONE FACT (gen/lls.lean): its nodes ns, their items xs; add, removeFirst, iterator -/
set_option maxRecDepth 100000
def lnx (ns : List Nat) (i : Nat) : Value := va_rf ns[i]?
def lpv (ns : List Nat) : Nat → Value
  | 0 => .null
  | i + 1 => va_rf ns[i]?
def jLL (Ω : jO) (G : Mem) (a : Nat) (mc : Int32) (ns xs : List Nat) : Prop :=
  G a = some (.inr (29, [.int mc, .int (nI ns.length), lnx ns 0, lpv ns ns.length])) ∧ xs.length = ns.length ∧ ns.length < 40 ∧ ns.Nodup ∧ Ω.2.2.2 ≤ a ∧ (∀ n, n ∈ ns → Ω.2.2.2 ≤ n) ∧
  ∀ i n x, ns[i]? = some n → xs[i]? = some x → G n = some (.inr (33, [.ref x, lnx ns (i + 1), lpv ns i]))
theorem jLL.mono {Ω : jO} {G G1 : Mem} {a : Nat} {mc : Int32} {ns xs : List Nat} (h : jLL Ω G a mc ns xs) (ha : ∀ q c, G q = some c → (q = a ∨ q ∈ ns) → G1 q = some c) : jLL Ω G1 a mc ns xs := by
  obtain ⟨h1, h2, h3, h4, h5, h6, h7⟩ := h
  exact ⟨ha _ _ h1 (Or.inl rfl), h2, h3, h4, h5, h6, fun i n x e1 e2 => ha _ _ (h7 i n x e1 e2) (Or.inr (List.mem_of_getElem? e1))⟩
theorem lnx_some {ns : List Nat} {i n : Nat} (h : ns[i]? = some n) : lnx ns i = .ref n := by simp only [lnx, h]; rfl
theorem lnx_none {ns : List Nat} {i : Nat} (h : ns.length ≤ i) : lnx ns i = .null := by simp only [lnx, List.getElem?_eq_none h]; rfl
theorem lpv_some {ns : List Nat} {i n : Nat} (h : ns[i]? = some n) : lpv ns (i + 1) = .ref n := by simp only [lpv, h]; rfl
theorem jget {ns : List Nat} {i : Nat} (h : i < ns.length) : ∃ n, ns[i]? = some n := ⟨_, List.getElem?_eq_getElem h⟩
theorem jnodup {ns : List Nat} (h : ns.Nodup) {i j n : Nat} (hi : ns[i]? = some n) (hj : ns[j]? = some n) : i = j := by
  have h1 := (List.getElem?_eq_some_iff.mp hi).1
  have h2 := (List.getElem?_eq_some_iff.mp hj).1
  exact (List.getElem_inj h).mp (((List.getElem?_eq_some_iff.mp hi).2).trans ((List.getElem?_eq_some_iff.mp hj).2).symm)
theorem jnd {ns : List Nat} (h : ns.Nodup) {i j n m : Nat} (hi : ns[i]? = some n) (hj : ns[j]? = some m) (hne : ¬ i = j) : n ≠ m := fun e => hne (jnodup h hi (by rw [e]; exact hj))
theorem jLL_erase {Ω : jO} {G G1 : Mem} {a : Nat} {mc : Int32} {ns xs : List Nat} (h : jLL Ω G a mc ns xs) {j x : Nat} (hj : ns[j]? = some x)
    (hA : G1 a = some (.inr (29, [.int (mc + nI (1)), .int (nI (ns.length - 1)), (if j = 0 then lnx ns 1 else lnx ns 0), (if j + 1 = ns.length then lpv ns j else lpv ns ns.length)])))
    (hN : ∀ i n v, ns[i]? = some n → xs[i]? = some v → i ≠ j → G1 n = some (.inr (33, [.ref v, (if i + 1 = j then lnx ns (j + 1) else lnx ns (i + 1)), (if i = j + 1 then lpv ns j else lpv ns i)]))) :
    jLL Ω G1 a (mc + nI (1)) (ns.eraseIdx j) (xs.eraseIdx j) := by
  obtain ⟨h1, h2, h3, h4, h5, h6, h7⟩ := h
  have hjl : j < ns.length := (List.getElem?_eq_some_iff.mp hj).1
  have hl : (ns.eraseIdx j).length = ns.length - 1 := by rw [List.length_eraseIdx, if_pos hjl]
  have hl2 : (xs.eraseIdx j).length = ns.length - 1 := by rw [List.length_eraseIdx, if_pos (by omega), h2]
  have e1 : lnx (ns.eraseIdx j) 0 = if j = 0 then lnx ns 1 else lnx ns 0 := by
    simp only [lnx, List.getElem?_eraseIdx]
    by_cases hz : j = 0
    · rw [if_neg (by omega), if_pos hz]
    · rw [if_pos (by omega), if_neg hz]
  have e2 : lpv (ns.eraseIdx j) (ns.length - 1) = if j + 1 = ns.length then lpv ns j else lpv ns ns.length := by
    obtain ⟨k, hk⟩ : ∃ k, ns.length = k + 1 := ⟨ns.length - 1, by omega⟩
    rw [hk]
    show lpv (ns.eraseIdx j) k = _
    by_cases hz : j = k
    · rw [if_pos (by omega)]
      subst hz
      cases j with
      | zero => rfl
      | succ j => simp only [lpv, List.getElem?_eraseIdx]; rw [if_pos (by omega)]
    · rw [if_neg (by omega)]
      cases k with
      | zero => omega
      | succ k => simp only [lpv, List.getElem?_eraseIdx]; rw [if_neg (by omega)]
  refine ⟨?_, by omega, by omega, List.Pairwise.sublist (List.eraseIdx_sublist ..) h4, h5, fun n hn => h6 n (List.Sublist.subset (List.eraseIdx_sublist ..) hn), ?_⟩
  · rw [hl, e1, e2]; exact hA
  · intro i n v hi hv
    rw [List.getElem?_eraseIdx] at hi hv
    by_cases hij : i < j
    · rw [if_pos hij] at hi hv
      rw [hN i n v hi hv (by omega)]
      have f1 : lnx (ns.eraseIdx j) (i + 1) = if i + 1 = j then lnx ns (j + 1) else lnx ns (i + 1) := by
        simp only [lnx, List.getElem?_eraseIdx]
        by_cases hz : i + 1 = j
        · rw [if_neg (by omega), if_pos hz, hz]
        · rw [if_pos (by omega), if_neg hz]
      have f2 : lpv (ns.eraseIdx j) i = if i = j + 1 then lpv ns j else lpv ns i := by
        rw [if_neg (by omega)]
        cases i with
        | zero => rfl
        | succ i => simp only [lpv, List.getElem?_eraseIdx]; rw [if_pos (by omega)]
      rw [f1, f2]
    · rw [if_neg hij] at hi hv
      rw [hN (i + 1) n v hi hv (by omega)]
      have f1 : lnx (ns.eraseIdx j) (i + 1) = if i + 1 + 1 = j then lnx ns (j + 1) else lnx ns (i + 1 + 1) := by
        rw [if_neg (by omega)]
        simp only [lnx, List.getElem?_eraseIdx]
        rw [if_neg (by omega)]
      have f2 : lpv (ns.eraseIdx j) i = if i + 1 = j + 1 then lpv ns j else lpv ns (i + 1) := by
        by_cases hz : i = j
        · rw [if_pos (by omega), hz]
          cases j with
          | zero => rfl
          | succ j => simp only [lpv, List.getElem?_eraseIdx]; rw [if_pos (by omega)]
        · rw [if_neg (by omega)]
          cases i with
          | zero => omega
          | succ i => simp only [lpv, List.getElem?_eraseIdx]; rw [if_neg (by omega)]
      rw [f1, f2]
/-- list and nodes are apart -/
theorem jLL.ne {Ω : jO} {G : Mem} {a : Nat} {mc : Int32} {ns xs : List Nat} (h : jLL Ω G a mc ns xs) {n : Nat} (hn : n ∈ ns) : n ≠ a := by
  obtain ⟨h1, h2, h3, h4, h5, h6, h7⟩ := h
  obtain ⟨i, hi⟩ := List.getElem?_of_mem hn
  have hil := (List.getElem?_eq_some_iff.mp hi).1
  obtain ⟨x, hx⟩ := jget (ns := xs) (i := i) (by omega)
  intro e
  have h8 := h7 i n x hi hx
  rw [e, h1] at h8
  simp at h8
theorem t_LL_add (l : Launch) (Ω : jO) {G : Mem} {sz a v : Nat} {mc : Int32} {ns xs : List Nat} (h : jLL Ω G a mc ns xs) (hl : ns.length < 39) :
    Met l yJ4_addLast (ws_ yJ4_addLast cJ4_addLast 2 none) ({ frames := 3, cells := 1, slots := 3, locals := 58 } : Room) (va_Pc [.ref a, .ref v] (jWd Ω G sz)) (jQ Ω (fun r G1 sz1 => r = none ∧ sz1 = sz + 1 ∧ jLL Ω G1 a (mc + nI (1)) (ns ++ [sz]) (xs ++ [v]) ∧ ∀ q, q < sz → q ≠ a → q ∉ ns → G1 q = G q)) 1 3 (jB Ω) := by
  refine jPre (fun hs => ?_)
  obtain ⟨hlA, hbs, hne9⟩ := hs
  have hh := h
  obtain ⟨h1, h2, h3, h4, h5, h6, h7⟩ := h
  have hsa := hlA _ _ h1
  have hns : ∀ n, n ∈ ns → n < sz := fun n hn => by
    obtain ⟨i, hi⟩ := List.getElem?_of_mem hn
    have hil := (List.getElem?_eq_some_iff.mp hi).1
    obtain ⟨x, hx⟩ := jget (ns := xs) (i := i) (by omega)
    exact hlA _ _ (h7 i n x hi hx)
  rcases hn : ns.length with _ | k
  · have e1 : ns = [] := List.eq_nil_of_length_eq_zero hn
    have e2 : xs = [] := List.eq_nil_of_length_eq_zero (h2.trans hn)
    subst e1; subst e2
    refine jCons (t_J4_addLast_E l Ω a v h1 h5) ?_
    rintro r G1 sz1 ⟨rfl, rfl, rfl⟩
    refine ⟨rfl, rfl, ⟨gset_eq, rfl, by simp, by simp, h5, ?_, ?_⟩, fun q g1 g2 g3 => (gset_ne g2).trans (gset_ne (by omega))⟩
    · intro n hn; simp at hn; omega
    · intro i n x hi hx
      cases i with
      | zero => simp at hi hx; subst hi; subst hx; exact (gset_ne (by omega)).trans gset_eq
      | succ i => simp at hi
  · obtain ⟨la, hla⟩ := jget (ns := ns) (i := k) (by omega)
    obtain ⟨x0, hx0⟩ := jget (ns := xs) (i := k) (by omega)
    obtain ⟨fi, hfi⟩ := jget (ns := ns) (i := 0) (by omega)
    have hl9 := h7 k la x0 hla hx0
    rw [lnx_none (by omega)] at hl9
    rw [hn, lpv_some hla, lnx_some hfi] at h1
    have hlas : la < sz := hns la (List.mem_of_getElem? hla)
    have hlaa : la ≠ a := hh.ne (List.mem_of_getElem? hla)
    refine jCons (t_J4_addLast_N l Ω a v h1 hl9 h5 (h6 la (List.mem_of_getElem? hla))) ?_
    rintro r G1 sz1 ⟨rfl, rfl, rfl⟩
    refine ⟨rfl, rfl, ⟨?_, by simp [h2], by simp; omega, ?_, h5, ?_, ?_⟩, fun q g1 g2 g3 => (gset_ne g2).trans ((gset_ne (fun e => g3 (by rw [e]; exact List.mem_of_getElem? hla))).trans (gset_ne (by omega)))⟩
    · have e1 : (ns ++ [sz])[0]? = some fi := by rw [List.getElem?_append, if_pos (by omega)]; exact hfi
      have e2 : (ns ++ [sz])[k + 1]? = some sz := by rw [List.getElem?_append, if_neg (by omega), hn]; simp
      rw [show (ns ++ [sz]).length = k + 1 + 1 by simp [hn], lnx_some e1, lpv_some e2]
      exact gset_eq
    · rw [List.nodup_append]
      refine ⟨h4, by simp, ?_⟩
      intro x hx y hy e
      simp at hy
      have := hns x hx
      omega
    · intro n hn9
      rcases List.mem_append.mp hn9 with h | h
      · exact h6 n h
      · simp at h; omega
    · intro i n x hi hx
      have hil : i < k + 1 + 1 := by have := (List.getElem?_eq_some_iff.mp hi).1; simp [hn] at this; omega
      by_cases hik : i = k + 1
      · subst hik
        rw [List.getElem?_append, if_neg (by omega), hn] at hi
        rw [List.getElem?_append, if_neg (by omega), h2, hn] at hx
        simp at hi hx
        subst hi; subst hx
        have e1 : (ns ++ [sz])[k]? = some la := by rw [List.getElem?_append, if_pos (by omega)]; exact hla
        rw [lnx_none (by simp; omega), lpv_some e1]
        exact (gset_ne (by omega)).trans ((gset_ne (by omega)).trans gset_eq)
      · rw [List.getElem?_append, if_pos (by omega)] at hi
        rw [List.getElem?_append, if_pos (by omega)] at hx
        have hni := hns n (List.mem_of_getElem? hi)
        have hna : n ≠ a := hh.ne (List.mem_of_getElem? hi)
        have e1 : lpv (ns ++ [sz]) i = lpv ns i := by
          cases i with
          | zero => rfl
          | succ i => simp only [lpv]; rw [List.getElem?_append, if_pos (by omega)]
        by_cases hk : i = k
        · subst hk
          have e3 : n = la := Option.some.inj (hi.symm.trans hla)
          have e4 : x = x0 := Option.some.inj (hx.symm.trans hx0)
          subst e3; subst e4
          have e2 : (ns ++ [sz])[i + 1]? = some sz := by rw [List.getElem?_append, if_neg (by omega), hn]; simp
          rw [lnx_some e2, e1]
          exact (gset_ne hna).trans gset_eq
        · have e2 : lnx (ns ++ [sz]) (i + 1) = lnx ns (i + 1) := by simp only [lnx]; rw [List.getElem?_append, if_pos (by omega)]
          rw [e1, e2]
          refine (gset_ne hna).trans ((gset_ne (jnd h4 hi hla hk)).trans ((gset_ne (by omega)).trans (h7 i n x hi hx)))
theorem t_LL_size (l : Launch) (Ω : jO) {G : Mem} {sz a : Nat} {mc : Int32} {ns xs : List Nat} (h : jLL Ω G a mc ns xs) :
    Met l yJ4_size (ws_ yJ4_size cJ4_size 1 (some .int)) ({ frames := 1, cells := 0, slots := 0, locals := 12 } : Room) (va_Pc [.ref a] (jWd Ω G sz)) (jQ Ω (jD (some (.int (nI xs.length))) G sz)) 0 0 (jB Ω) := by
  rw [h.2.1]
  exact t_J4_sizeV l Ω a h.1
theorem t_LL_isEmpty (l : Launch) (Ω : jO) {G : Mem} {sz a : Nat} {mc : Int32} {ns xs : List Nat} (h : jLL Ω G a mc ns xs) :
    Met l yJ0_isEmpty (ws_ yJ0_isEmpty cJ0_isEmpty 1 (some .boolean)) ({ frames := 2, cells := 0, slots := 0, locals := 32 } : Room) (va_Pc [.ref a] (jWd Ω G sz)) (jQ Ω (jD (some (.int (r_isEmpty xs.length))) G sz)) 0 0 (jB Ω) := by
  rw [h.2.1]
  exact t_J0_isEmpty_ll l Ω a h.1
theorem t_LL_first (l : Launch) (Ω : jO) {G : Mem} {sz a x : Nat} {mc : Int32} {ns xs : List Nat} (h : jLL Ω G a mc ns xs) (hx : xs[0]? = some x) :
    Met l yJ4_removeFirst (ws_ yJ4_removeFirst cJ4_removeFirst 2 (some (.object "java/lang/Object"))) ({ frames := 2, cells := 0, slots := 0, locals := 35 } : Room) (va_Pc [.ref a] (jWd Ω G sz)) (jQ Ω (fun r G1 sz1 => r = some (.ref x) ∧ sz1 = sz ∧ jLL Ω G1 a (mc + nI (1)) (ns.eraseIdx 0) (xs.eraseIdx 0) ∧ ∀ q, q ≠ a → q ∉ ns → G1 q = G q)) 0 0 (jB Ω) := by
  have hh := h
  obtain ⟨h1, h2, h3, h4, h5, h6, h7⟩ := h
  have hl0 : 0 < ns.length := by have := (List.getElem?_eq_some_iff.mp hx).1; omega
  obtain ⟨fi, hfi⟩ := jget hl0
  have hf := h7 0 fi x hfi hx
  have hfa : fi ≠ a := hh.ne (List.mem_of_getElem? hfi)
  have hfm := List.mem_of_getElem? hfi
  by_cases h1l : ns.length = 1
  · rw [lnx_none (by omega)] at hf
    have h1' := h1
    rw [lnx_some hfi] at h1'
    refine jCons (t_J4_removeFirst_S l Ω a h1' hf h5 (h6 fi hfm) (by omega)) ?_
    rintro r G1 sz1 ⟨rfl, rfl, rfl⟩
    refine ⟨rfl, rfl, jLL_erase hh hfi ?_ ?_, fun q g1 g2 => (gset_ne g1).trans (gset_ne (fun e => g2 (by rw [e]; exact hfm)))⟩
    · rw [if_pos rfl, if_pos (by omega), lnx_none (by omega)]
      exact gset_eq
    · intro i n v hi hv hi0
      have := (List.getElem?_eq_some_iff.mp hi).1
      omega
  · obtain ⟨nx, hnx⟩ := jget (ns := ns) (i := 1) (by omega)
    obtain ⟨x1, hx1⟩ := jget (ns := xs) (i := 1) (by omega)
    have hxn := h7 1 nx x1 hnx hx1
    have hne : fi ≠ nx := fun e => by have := jnodup h4 hfi (e ▸ hnx); omega
    have hnxm := List.mem_of_getElem? hnx
    have hnxa : nx ≠ a := hh.ne hnxm
    rw [lnx_some hnx] at hf
    have h1' := h1
    rw [lnx_some hfi] at h1'
    refine jCons (t_J4_removeFirst_M l Ω a h1' hf hxn hne h5 (h6 fi hfm) (h6 nx hnxm) (by omega)) ?_
    rintro r G1 sz1 ⟨rfl, rfl, rfl⟩
    refine ⟨rfl, rfl, jLL_erase hh hfi ?_ ?_, fun q g1 g2 => (gset_ne g1).trans ((gset_ne (fun e => g2 (by rw [e]; exact hnxm))).trans (gset_ne (fun e => g2 (by rw [e]; exact hfm))))⟩
    · rw [if_pos rfl, if_neg (by omega), lnx_some hnx]
      exact gset_eq
    · intro i n v hi hv hi0
      have hna : n ≠ a := hh.ne (List.mem_of_getElem? hi)
      rw [if_neg (by omega)]
      by_cases e1 : i = 1
      · subst e1
        have e3 : n = nx := Option.some.inj (hi.symm.trans hnx)
        have e4 : v = x1 := Option.some.inj (hv.symm.trans hx1)
        subst e3; subst e4
        rw [if_pos rfl]
        exact (gset_ne hna).trans gset_eq
      · rw [if_neg (by omega)]
        exact (gset_ne hna).trans ((gset_ne (jnd h4 hi hnx e1)).trans ((gset_ne (jnd h4 hi hfi hi0)).trans (h7 i n v hi hv)))
/-- an iterator i of the list a, ahead of place k -/
abbrev itE (ns : List Nat) (a k : Nat) (mc : Int32) : va_E := .inr (32, [lpv ns k, lnx ns k, .int (nI k), .int mc, .ref a])
theorem t_LL_iter (l : Launch) (Ω : jO) {G : Mem} {sz a : Nat} {mc : Int32} {ns xs : List Nat} (h : jLL Ω G a mc ns xs) :
    Met l yJ3_iterator (ws_ yJ3_iterator cJ3_iterator 1 (some (.object "java/util/Iterator"))) ({ frames := 5, cells := 1, slots := 5, locals := 98 } : Room) (va_Pc [.ref a] (jWd Ω G sz)) (jQ Ω (jD (some (.ref sz)) (gset G sz (itE ns a 0 mc)) (sz + 1))) 1 5 (jB Ω) := by
  obtain ⟨h1, h2, h3, h4, h5, h6, h7⟩ := h
  rcases hn : ns.length with _ | k
  · have e1 : ns = [] := List.eq_nil_of_length_eq_zero hn
    subst e1
    exact jRoom (t_J3_iterator_E l Ω a h1) (by decide) (by decide) rfl rfl (by decide) (by decide)
  · obtain ⟨la, hla⟩ := jget (ns := ns) (i := k) (by omega)
    obtain ⟨fi, hfi⟩ := jget (ns := ns) (i := 0) (by omega)
    rw [hn, lpv_some hla, lnx_some hfi] at h1
    cases k with
    | zero =>
      have e3 : fi = la := Option.some.inj (hfi.symm.trans hla)
      subst e3
      have h9 := t_J3_iterator_S (sz := sz) l Ω a h1
      simp only [itE, lnx_some hfi, lpv]
      exact h9
    | succ k =>
      have h9 := t_J3_iterator_M (sz := sz) l Ω a h1 (by omega) (by omega)
      simp only [itE, lnx_some hfi, lpv]
      exact h9
theorem t_LL_hasNext (l : Launch) (Ω : jO) {G : Mem} {sz a i k : Nat} {mc : Int32} {ns xs : List Nat} (h : jLL Ω G a mc ns xs) (hi : G i = some (itE ns a k mc)) (hk : k < 100000) :
    Met l yJ14_hasNext (ws_ yJ14_hasNext cJ14_hasNext 1 (some .boolean)) ({ frames := 1, cells := 0, slots := 0, locals := 12 } : Room) (va_Pc [.ref i] (jWd Ω G sz)) (jQ Ω (jD (some (.int (r_hasNext k xs.length))) G sz)) 0 0 (jB Ω) := by
  have h3 := h.2.2.1
  rw [h.2.1]
  exact t_J14_hasNext l Ω a h.1 i hi hk (by omega)
theorem t_LL_next (l : Launch) (Ω : jO) {G : Mem} {sz a i k x : Nat} {mc : Int32} {ns xs : List Nat} (h : jLL Ω G a mc ns xs) (hi : G i = some (itE ns a k mc)) (hk : xs[k]? = some x) (hb : Ω.2.2.2 ≤ i) :
    Met l yJ14_next (ws_ yJ14_next cJ14_next 1 (some (.object "java/lang/Object"))) ({ frames := 2, cells := 0, slots := 0, locals := 32 } : Room) (va_Pc [.ref i] (jWd Ω G sz)) (jQ Ω (jD (some (.ref x)) (gset G i (itE ns a (k + 1) mc)) sz)) 0 0 (jB Ω) := by
  obtain ⟨h1, h2, h3, h4, h5, h6, h7⟩ := h
  have hkl : k < ns.length := by have := (List.getElem?_eq_some_iff.mp hk).1; omega
  obtain ⟨n, hn⟩ := jget hkl
  have h8 := h7 k n x hn hk
  simp only [itE, lnx_some hn] at hi
  simp only [itE, lpv_some hn]
  by_cases hl : k + 1 < ns.length
  · obtain ⟨y, hy⟩ := jget hl
    rw [lnx_some hy] at h8
    rw [lnx_some hy]
    exact t_J14_next_R l Ω a h1 i hi h8 hb hkl (by omega)
  · rw [lnx_none (by omega)] at h8
    rw [lnx_none (by omega)]
    exact t_J14_next_Z l Ω a h1 i hi h8 hb hkl (by omega)
/-- remove() behind next(): place k goes -/
theorem t_LL_remove (l : Launch) (Ω : jO) {G : Mem} {sz a i k x : Nat} {mc : Int32} {ns xs : List Nat} (h : jLL Ω G a mc ns xs) (hi : G i = some (itE ns a (k + 1) mc)) (hk : xs[k]? = some x) (hb : Ω.2.2.2 ≤ i) :
    Met l yJ14_remove (ws_ yJ14_remove cJ14_remove 2 none) ({ frames := 2, cells := 0, slots := 0, locals := 36 } : Room) (va_Pc [.ref i] (jWd Ω G sz)) (jQ Ω (fun r G1 sz1 => r = none ∧ sz1 = sz ∧ jLL Ω G1 a (mc + nI (1)) (ns.eraseIdx k) (xs.eraseIdx k) ∧ ∀ q, q ≠ a → q ≠ i → q ∉ ns → G1 q = G q)) 0 0 (jB Ω) := by
  have hh := h
  obtain ⟨h1, h2, h3, h4, h5, h6, h7⟩ := h
  have hkl : k < ns.length := by have := (List.getElem?_eq_some_iff.mp hk).1; omega
  obtain ⟨n, hn⟩ := jget hkl
  have h8 := h7 k n x hn hk
  have hnm := List.mem_of_getElem? hn
  have hna : n ≠ a := hh.ne hnm
  simp only [itE, lpv_some hn] at hi
  have hia : i ≠ a := fun e => by rw [e, h1] at hi; simp at hi
  have hin : ∀ q, q ∈ ns → q ≠ i := fun q hq e => by
    obtain ⟨j, hj⟩ := List.getElem?_of_mem hq
    obtain ⟨y, hy⟩ := jget (ns := xs) (i := j) (by have := (List.getElem?_eq_some_iff.mp hj).1; omega)
    have h9 := h7 j q y hj hy
    rw [e, hi] at h9
    simp at h9
  have hsplit : ∀ {j : Nat}, ns.length - 1 = ns.length - 1 := fun {j} => rfl
  by_cases hP : k = 0
  · subst hP
    by_cases hX : 1 < ns.length
    · obtain ⟨nx, hnx⟩ := jget hX
      obtain ⟨x1, hx1⟩ := jget (ns := xs) (i := 1) (by omega)
      have hnxm := List.mem_of_getElem? hnx
      have hnxa : nx ≠ a := hh.ne hnxm
      have hne : n ≠ nx := fun e => by have := jnodup h4 hn (e ▸ hnx); omega
      rw [lnx_some hnx] at h8 hi
      refine jCons (t_J14_remove_ZR l Ω a n i h1 h8 hi (h7 1 nx x1 hnx hx1) h5 (h6 n hnm) hb (by omega) (by omega) (h6 nx hnxm) hne) ?_
      rintro r G1 sz1 ⟨rfl, rfl, rfl⟩
      refine ⟨rfl, rfl, jLL_erase hh hn ?_ ?_, fun q g1 g2 g3 => (gset_ne g2).trans ((gset_ne g1).trans ((gset_ne (fun e => g3 (by rw [e]; exact hnm))).trans (gset_ne (fun e => g3 (by rw [e]; exact hnxm)))))⟩
      · rw [if_pos rfl, if_neg (by omega), lnx_some hnx]
        exact (gset_ne (Ne.symm hia)).trans gset_eq
      · intro j q v hj hv hj0
        have hqm := List.mem_of_getElem? hj
        rw [if_neg (by omega)]
        refine (gset_ne (hin q hqm)).trans ((gset_ne (hh.ne hqm)).trans ((gset_ne (jnd h4 hj hn hj0)).trans ?_))
        by_cases e1 : j = 1
        · subst e1
          have e3 : q = nx := Option.some.inj (hj.symm.trans hnx)
          have e4 : v = x1 := Option.some.inj (hv.symm.trans hx1)
          subst e3; subst e4
          rw [if_pos rfl]
          exact gset_eq
        · rw [if_neg (by omega)]
          exact (gset_ne (jnd h4 hj hnx e1)).trans (h7 j q v hj hv)
    · rw [lnx_none (by omega)] at h8 hi
      refine jCons (t_J14_remove_ZZ l Ω a n i h1 h8 hi h5 (h6 n hnm) hb (by omega) (by omega)) ?_
      rintro r G1 sz1 ⟨rfl, rfl, rfl⟩
      refine ⟨rfl, rfl, jLL_erase hh hn ?_ ?_, fun q g1 g2 g3 => (gset_ne g2).trans ((gset_ne g1).trans (gset_ne (fun e => g3 (by rw [e]; exact hnm))))⟩
      · rw [if_pos rfl, if_pos (by omega), lnx_none (by omega)]
        exact (gset_ne (Ne.symm hia)).trans gset_eq
      · intro j q v hj hv hj0
        have := (List.getElem?_eq_some_iff.mp hj).1
        omega
  · obtain ⟨k, rfl⟩ : ∃ k', k = k' + 1 := ⟨k - 1, by omega⟩
    obtain ⟨pv, hpv⟩ := jget (ns := ns) (i := k) (by omega)
    obtain ⟨x0, hx0⟩ := jget (ns := xs) (i := k) (by omega)
    have hpm := List.mem_of_getElem? hpv
    have hpa : pv ≠ a := hh.ne hpm
    have hpn : n ≠ pv := fun e => by have := jnodup h4 hn (e ▸ hpv); omega
    rw [lpv_some hpv] at h8
    by_cases hX : k + 1 + 1 < ns.length
    · obtain ⟨nx, hnx⟩ := jget hX
      obtain ⟨x1, hx1⟩ := jget (ns := xs) (i := k + 1 + 1) (by omega)
      have hnxm := List.mem_of_getElem? hnx
      have hne : n ≠ nx := fun e => by have := jnodup h4 hn (e ▸ hnx); omega
      have hpx : pv ≠ nx := fun e => by have := jnodup h4 hpv (e ▸ hnx); omega
      rw [lnx_some hnx] at h8 hi
      refine jCons (t_J14_remove_RR l Ω a n i h1 h8 hi (h7 _ nx x1 hnx hx1) (h7 _ pv x0 hpv hx0) h5 (h6 n hnm) hb (by omega) (by omega) (h6 nx hnxm) hne (h6 pv hpm) hpn hpx) ?_
      rintro r G1 sz1 ⟨rfl, rfl, rfl⟩
      refine ⟨rfl, rfl, jLL_erase hh hn ?_ ?_, fun q g1 g2 g3 => (gset_ne g2).trans ((gset_ne g1).trans ((gset_ne (fun e => g3 (by rw [e]; exact hnm))).trans ((gset_ne (fun e => g3 (by rw [e]; exact hnxm))).trans (gset_ne (fun e => g3 (by rw [e]; exact hpm))))))⟩
      · rw [if_neg (by omega), if_neg (by omega)]
        exact (gset_ne (Ne.symm hia)).trans gset_eq
      · intro j q v hj hv hj0
        have hqm := List.mem_of_getElem? hj
        refine (gset_ne (hin q hqm)).trans ((gset_ne (hh.ne hqm)).trans ((gset_ne (jnd h4 hj hn hj0)).trans ?_))
        by_cases e1 : j = k + 1 + 1
        · subst e1
          have e3 : q = nx := Option.some.inj (hj.symm.trans hnx)
          have e4 : v = x1 := Option.some.inj (hv.symm.trans hx1)
          subst e3; subst e4
          rw [if_neg (by omega), if_pos rfl, lpv_some hpv]
          exact gset_eq
        · rw [if_neg e1]
          refine (gset_ne (jnd h4 hj hnx e1)).trans ?_
          by_cases e2 : j = k
          · subst e2
            have e3 : q = pv := Option.some.inj (hj.symm.trans hpv)
            have e4 : v = x0 := Option.some.inj (hv.symm.trans hx0)
            subst e3; subst e4
            rw [if_pos rfl, lnx_some hnx]
            exact gset_eq
          · rw [if_neg (by omega)]
            exact (gset_ne (jnd h4 hj hpv e2)).trans (h7 j q v hj hv)
    · rw [lnx_none (by omega)] at h8 hi
      refine jCons (t_J14_remove_RZ l Ω a n i h1 h8 hi (h7 _ pv x0 hpv hx0) h5 (h6 n hnm) hb (by omega) (by omega) (h6 pv hpm) hpn) ?_
      rintro r G1 sz1 ⟨rfl, rfl, rfl⟩
      refine ⟨rfl, rfl, jLL_erase hh hn ?_ ?_, fun q g1 g2 g3 => (gset_ne g2).trans ((gset_ne g1).trans ((gset_ne (fun e => g3 (by rw [e]; exact hnm))).trans (gset_ne (fun e => g3 (by rw [e]; exact hpm)))))⟩
      · rw [if_neg (by omega), if_pos (by omega), lpv_some hpv]
        exact (gset_ne (Ne.symm hia)).trans gset_eq
      · intro j q v hj hv hj0
        have hqm := List.mem_of_getElem? hj
        have hjl := (List.getElem?_eq_some_iff.mp hj).1
        refine (gset_ne (hin q hqm)).trans ((gset_ne (hh.ne hqm)).trans ((gset_ne (jnd h4 hj hn hj0)).trans ?_))
        rw [if_neg (by omega : ¬ j = k + 1 + 1)]
        by_cases e2 : j = k
        · subst e2
          have e3 : q = pv := Option.some.inj (hj.symm.trans hpv)
          have e4 : v = x0 := Option.some.inj (hv.symm.trans hx0)
          subst e3; subst e4
          rw [if_pos rfl, lnx_none (by omega)]
          exact gset_eq
        · rw [if_neg (by omega)]
          exact (gset_ne (jnd h4 hj hpv e2)).trans (h7 j q v hj hv)
