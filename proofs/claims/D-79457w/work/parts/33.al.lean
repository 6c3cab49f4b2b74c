/-! LISTS (gen/mk_al.py): an ArrayList as one fact, its calls as rows -/
set_option maxRecDepth 100000
/-- an ArrayList at a, of the objects xs, with its array at ed of length cap (none yet: the old empty one) -/
def jAL (Ω : jO) (G : Mem) (a : Nat) (mc : Int32) (xs : List Nat) (ed cap : Nat) : Prop :=
  (xs = [] ∧ ed = Ω.2.2.1 0 ∧ cap = 0 ∧ G a = some (.inr (28, [.int mc, .ref (Ω.2.2.1 0), .int (nI (0))]))) ∨
  (∃ f : Nat → Option Nat, 0 < cap ∧ cap < 64 ∧ xs.length ≤ cap ∧ Ω.2.2.2 ≤ ed ∧ G a = some (.inr (28, [.int mc, .ref ed, .int (nI xs.length)])) ∧ G ed = some (.inl (Ω.2.1 4, cap, jAq f)) ∧ ∀ i, i < cap → f i = xs[i]?)
/-- the slots that an add takes -/
def mAL (n cap : Nat) : Nat := if cap = 0 then 10 else if n < cap then 0 else cap + (max 1 (cap / 2))
theorem jAL.frame {Ω : jO} {G G1 : Mem} {a : Nat} {mc : Int32} {xs : List Nat} {ed cap : Nat} (h : jAL Ω G a mc xs ed cap) (ha : G1 a = G a) (he : Ω.2.2.2 ≤ ed → G1 ed = G ed) : jAL Ω G1 a mc xs ed cap := by
  rcases h with ⟨h1, h2, h3, h4⟩ | ⟨f, h1, h2, h3, h4, h5, h6, h7⟩
  · exact Or.inl ⟨h1, h2, h3, ha.trans h4⟩
  · exact Or.inr ⟨f, h1, h2, h3, h4, ha.trans h5, (he h4).trans h6, h7⟩
section JRAL
variable {p : Program} {l : Launch} {e : Env} {R : Room} {s : State} {m : MethodId} {args : Array Value} {below : List Frame} {meth : Method} {c : Code} {Q : State → Prop} {Ω : jO} {nL : Nat}
variable {cells slots sz : Nat} {G : Mem} {L : List (Option Value)} {st : List Value} {cc : ByteArray} {own : String} {pc : Nat}
theorem J_widen {cells' slots' : Nat} (h1 : cells ≤ cells') (h2 : slots ≤ slots') (kk : J p l e R s m args below meth c Ω nL Q cells' slots' sz G pc L st) : J p l e R s m args below meth c Ω nL Q cells slots sz G pc L st := fun H locs ls g1 g2 g3 g4 => W.widen h1 h2 (kk H locs ls g1 g2 g3 g4)
theorem J_al_size (cx : jCX p s m args meth c cc own Ω nL) {index a ed cap : Nat} {mc : Int32} {xs : List Nat} (hdg : decode cc pc = .ok (.invokevirtual index, 3)) (hlk : Cond.methodLink own index ⟨"java/util/ArrayList", "size", "()I"⟩ ∈ lw_all) (hal : jAL Ω G a mc xs ed cap) (hR : 2 ≤ R.frames ∧ 40 ≤ R.locals) (hW : (st.map fun v => v.category).sum ≤ 8) (hf : cells ≤ R.cells ∧ slots ≤ R.slots)
    (kk : J p l e R s m args below meth c Ω nL Q cells slots sz G (pc + 3) L (.int (nI xs.length) :: st)) : J p l e R s m args below meth c Ω nL Q cells slots sz G pc L (.ref a :: st) := by
  have key : ∃ (ed9 : Nat), G a = some (.inr (28, [.int mc, .ref ed9, .int (nI xs.length)])) := by
    rcases hal with ⟨h1, h2, h3, h4⟩ | ⟨f, h1, h2, h3, h4, h5, h6, h7⟩
    · subst h1; exact ⟨_, h4⟩
    · exact ⟨_, h5⟩
  obtain ⟨ed9, hg⟩ := key
  refine J_callV (n := 0) cx (ci := 28) [] (t_J2_size l Ω a hg) hdg (lw_V hlk q350 q351 q88 q352) ⟨rfl, by decide, by decide, by decide +kernel⟩ rfl hg rfl rfl ⟨hR.1, Nat.le_trans (Nat.le_of_ble_eq_true rfl) hR.2⟩ rfl rfl hW ⟨hf.1, hf.2⟩ (jdet ?_)
  exact kk
theorem J_al_get (cx : jCX p s m args meth c cc own Ω nL) {index a ed cap i y : Nat} {mc : Int32} {xs : List Nat} (hdg : decode cc pc = .ok (.invokevirtual index, 3)) (hlk : Cond.methodLink own index ⟨"java/util/ArrayList", "get", "(I)Ljava/lang/Object;"⟩ ∈ lw_all) (hal : jAL Ω G a mc xs ed cap) (hi : xs[i]? = some y) (hR : 4 ≤ R.frames ∧ 80 ≤ R.locals) (hW : (st.map fun v => v.category).sum ≤ 8) (hf : cells ≤ R.cells ∧ slots ≤ R.slots)
    (kk : J p l e R s m args below meth c Ω nL Q cells slots sz G (pc + 3) L (.ref y :: st)) : J p l e R s m args below meth c Ω nL Q cells slots sz G pc L (.int (nI i) :: .ref a :: st) := by
  have hl : i < xs.length := (List.getElem?_eq_some_iff.mp hi).1
  rcases hal with ⟨h1, h2, h3, h4⟩ | ⟨f, h1, h2, h3, h4, h5, h6, h7⟩
  · subst h1; simp at hl
  have hfi : f i = some y := (h7 i (by omega)).trans hi
  refine J_callV (n := 1) cx (ci := 28) [.int (nI i)] (t_J2_get l Ω a h5 h6 (by omega) i hl h3) hdg (lw_V hlk q414 q415 q88 q416) ⟨rfl, by decide, by decide, by decide +kernel⟩ rfl h5 rfl rfl ⟨hR.1, Nat.le_trans (Nat.le_of_ble_eq_true rfl) hR.2⟩ rfl rfl hW ⟨hf.1, hf.2⟩ (jdet ?_)
  rw [hfi]
  exact kk
theorem J_al_add (cx : jCX p s m args meth c cc own Ω nL) {index a ed cap v9 ci9 : Nat} {mc : Int32} {xs : List Nat} {q9 : vw_C} {vs9 : List Value} (hdg : decode cc pc = .ok (.invokevirtual index, 3)) (hlk : Cond.methodLink own index ⟨"java/util/ArrayList", "add", "(Ljava/lang/Object;)Z"⟩ ∈ lw_all) (hal : jAL Ω G a mc xs ed cap) (hb : Ω.2.2.2 ≤ a)
    (hc9 : vwCl[ci9]? = some q9) (hv : G v9 = some (.inr (ci9, vs9))) (hcs9 : Cond.castable q9.1 "java/lang/Object" ∈ lw_tbl) (hva : v9 ≠ a) (hall : ∀ y, y ∈ xs → jObj G y) (hn : xs.length < 40)
    (hR : 7 ≤ R.frames ∧ 190 ≤ R.locals) (hW : (st.map fun v => v.category).sum ≤ 8) (hf : cells + 1 ≤ R.cells ∧ slots + mAL xs.length cap ≤ R.slots)
    (kk : ∀ (G1 : Mem) (sz1 ed1 cap1 : Nat), jAL Ω G1 a (mc + nI (1)) (xs ++ [v9]) ed1 cap1 → (ed1 = ed ∨ sz ≤ ed1) → sz ≤ sz1 → sz1 ≤ sz + 1 → (sz ≤ ed1 → ed1 < sz1) → (∀ q, q < sz → q ≠ a → (cap ≠ 0 → q ≠ ed) → G1 q = G q) → J p l e R s m args below meth c Ω nL Q (cells + 1) (slots + mAL xs.length cap) sz1 G1 (pc + 3) L (.int (nI (1)) :: st)) : J p l e R s m args below meth c Ω nL Q cells slots sz G pc L (.ref v9 :: .ref a :: st) := by
  refine J_bs cx (fun hbs => ?_)
  refine J_ltA (fun hlA => ?_)
  rcases hal with ⟨h1, h2, h3, h4⟩ | ⟨f, h1, h2, h3, h4, h5, h6, h7⟩
  · subst h1; subst h2; subst h3
    have hla := hlA _ _ h4
    refine J_callV (n := 1) cx (ci := 28) [.ref v9] (t_J2_addA l Ω a h4 v9 hc9 hv hcs9 hva hb) hdg (lw_V hlk q513 q514 q88 q515) ⟨rfl, by decide, by decide, by decide +kernel⟩ rfl h4 rfl rfl ⟨Nat.le_trans (Nat.le_of_ble_eq_true rfl) hR.1, Nat.le_trans (Nat.le_of_ble_eq_true rfl) hR.2⟩ rfl rfl hW ⟨hf.1, hf.2⟩ (jdet ?_)
    refine kk _ _ sz 10 (Or.inr ⟨va_up (fun _ => none) 0 (some v9), by decide, by decide, by simp, hbs, gset_eq, (gset_ne (by omega)).trans gset_eq, fun i hi => ?_⟩) (Or.inr (Nat.le_refl _)) (Nat.le_succ _) (Nat.le_refl _) (fun _ => Nat.lt_succ_self _) (fun q g1 g2 g3 => (gset_ne g2).trans (gset_ne (by omega)))
    · cases i with
      | zero => simp [va_up]
      | succ i => simp [va_up]
  · have hla := hlA _ _ h5
    have hle := hlA _ _ h6
    by_cases hlt : xs.length < cap
    · have em : mAL xs.length cap = 0 := by simp only [mAL]; rw [if_neg (by omega), if_pos hlt]
      rw [em] at hf kk
      refine J_callV (n := 1) cx (ci := 28) [.ref v9] (t_J2_addR l Ω a h5 h6 v9 hc9 hv hcs9 hva hb h4 hlt h2) hdg (lw_V hlk q513 q514 q88 q515) ⟨rfl, by decide, by decide, by decide +kernel⟩ rfl h5 rfl rfl ⟨Nat.le_trans (Nat.le_of_ble_eq_true rfl) hR.1, Nat.le_trans (Nat.le_of_ble_eq_true rfl) hR.2⟩ rfl rfl hW ⟨by omega, hf.2⟩ (jdet ?_)
      have hne : a ≠ ed := fun e9 => by rw [e9, h6] at h5; simp at h5
      refine J_widen (cells' := cells + 1) (by omega) (Nat.le_refl _) (kk _ _ ed cap (Or.inr ⟨va_up f xs.length (some v9), h1, h2, by simp; omega, h4, by rw [List.length_append]; exact gset_eq, (gset_ne (Ne.symm hne)).trans gset_eq, fun i hi => ?_⟩) (Or.inl rfl) (Nat.le_refl _) (Nat.le_succ _) (fun q => by omega) (fun q g1 g2 g3 => (gset_ne g2).trans (gset_ne (g3 (by omega)))))
      by_cases e9 : i = xs.length
      · subst e9; simp [va_up]
      · rw [va_up_ne _ _ e9, h7 i hi, List.getElem?_append]
        split
        · rfl
        · rw [List.getElem?_eq_none (by omega), List.getElem?_eq_none (by simp; omega)]
    · have hcp : xs.length = cap := by omega
      have em : mAL xs.length cap = cap + (max 1 (cap / 2)) := by simp only [mAL]; rw [if_neg (by omega), if_neg hlt]
      rw [em] at hf kk
      have hel : ∀ i, i < cap → ∀ y, f i = some y → jObj G y := fun i hi y hy => hall y (List.mem_of_getElem? ((h7 i hi).symm.trans hy))
      have hel2 : ∀ i, i < cap → ∀ y, f i = some y → jObj G y := hel
      refine J_callV (n := 1) cx (ci := 28) [.ref v9] (t_J2_addB l Ω a h5 h6 v9 hc9 hv hcs9 hva hb h1 h2 hel2 hcp) hdg (lw_V hlk q513 q514 q88 q515) ⟨rfl, by decide, by decide, by decide +kernel⟩ rfl h5 rfl rfl ⟨Nat.le_trans (Nat.le_of_ble_eq_true rfl) hR.1, Nat.le_trans (Nat.le_of_ble_eq_true rfl) hR.2⟩ rfl rfl hW ⟨hf.1, hf.2⟩ (jdet ?_)
      refine kk _ _ sz (cap + (max 1 (cap / 2))) (Or.inr ⟨va_up (va_cpy f (fun _ => none) 0 0 cap) xs.length (some v9), by omega, by omega, by simp; omega, hbs, by rw [List.length_append]; exact gset_eq, (gset_ne (by omega)).trans gset_eq, fun i hi => ?_⟩) (Or.inr (Nat.le_refl _)) (Nat.le_succ _) (Nat.le_refl _) (fun _ => Nat.lt_succ_self _) (fun q g1 g2 g3 => (gset_ne g2).trans (gset_ne (by omega)))
      by_cases e9 : i = xs.length
      · subst e9; simp [va_up]
      · rw [va_up_ne _ _ e9, List.getElem?_append]
        by_cases e8 : i < cap
        · rw [if_pos (by omega), ← h7 i e8]
          simp only [va_cpy]
          rw [if_pos (by omega)]
          congr 1
          omega
        · rw [if_neg (by omega), List.getElem?_eq_none (by simp; omega)]
          simp only [va_cpy]
          rw [if_neg (by omega)]
end JRAL
