/-! AN HOUR'S DRYING (gen/dry.lean): the numbers, one pot's step -/
set_option maxRecDepth 100000
/-- the dryness that a pot feels -/
def dval (g : Nat → Int32) (p : Nat) : Int32 := if gP g p 5 = 0 then g (10 + tn (g 0) % 24) else g (10 + tn (g 0) % 24) / nI (2)
def drF (g : Nat → Int32) (p i : Nat) : Int32 := if gP g p 0 = nI (2) then
    (if i = 0 then s_dries_st (gP g p 11).toUInt32 (gP g p 3) (gP g p 0) (gP g p 4) (gP g p 5) (g (10 + tn (g 0) % 24)) (g 8)
    else if i = 4 then s_dries_ck (gP g p 11).toUInt32 (gP g p 3) (gP g p 0) (gP g p 4) (gP g p 5) (g (10 + tn (g 0) % 24)) (g 8)
    else if i = 9 then gP g p 9 + nI (1)
    else if i = 11 then (s_dries_mo (gP g p 11).toUInt32 (gP g p 3) (gP g p 0) (gP g p 4) (gP g p 5) (g (10 + tn (g 0) % 24)) (g 8)).toInt32
    else gP g p i) else gP g p i
/-- the pots below n have dried -/
def c_dry (g : Nat → Int32) (n : Nat) : Nat → Int32 := fun i => if 50 ≤ i ∧ i < 50 + 13 * n then drF g ((i - 50) / 13) ((i - 50) % 13) else g i
def hrD (g : Nat → Int32) (D : Nat → List Int32) (n : Nat) : Nat → List Int32 := fun p => if p < n ∧ gP g p 0 = nI (2) then D p ++ [dval g p] else D p
def hrC (g : Nat → Int32) (D : Nat → List Int32) (cp : Nat → Nat) (n : Nat) : Nat → Nat := fun p => if p < n ∧ gP g p 0 = nI (2) ∧ (D p).length = cp p then 2 * (D p).length + 8 else cp p
/-- the slots that the arrays' growth takes -/
def hrS (g : Nat → Int32) (D : Nat → List Int32) (cp : Nat → Nat) : Nat → Nat
  | 0 => 0
  | k + 1 => hrS g D cp k + (if gP g k 0 = nI (2) then mKeeps (D k).length (cp k) else 0)
theorem hrS_mono (g : Nat → Int32) (D : Nat → List Int32) (cp : Nat → Nat) {k n : Nat} (h : k ≤ n) : hrS g D cp k ≤ hrS g D cp n := by
  induction n with
  | zero => rw [Nat.le_zero.mp h]; exact Nat.le_refl _
  | succ n ih =>
    by_cases e : k = n + 1
    · rw [e]; exact Nat.le_refl _
    · simp only [hrS]; have := ih (by omega); omega
def airOk (g : Nat → Int32) : Prop := ∀ h, h < 24 → ∃ j, j ≤ 60 ∧ g (10 + h) = nI j
def dryOk (g : Nat → Int32) (p : Nat) : Prop := vf_n32 (FP.fmul (gP g p 11).toUInt32 (FP.i2f (dval g p * (nI (11) - gP g p 3)))) ∧ vf_n32 (r_loss (gP g p 11).toUInt32 (dval g p) (gP g p 3)) ∧ vf_n32 (FP.fsub (gP g p 11).toUInt32 (r_loss (gP g p 11).toUInt32 (dval g p) (gP g p 3))) ∧ vf_n32 (FP.fmul (r_loss (gP g p 11).toUInt32 (dval g p) (gP g p 3)) 1148846080)
theorem cdry_at (g : Nat → Int32) (n p i : Nat) (hi : i ≤ 12) : gP (c_dry g n) p i = if p < n then drF g p i else gP g p i := by
  simp only [gP, c_dry]
  by_cases h : p < n
  · rw [if_pos h, if_pos (by omega), show (50 + 13 * p + i - 50) / 13 = p by omega, show (50 + 13 * p + i - 50) % 13 = i by omega]
  · rw [if_neg h, if_neg (by omega)]
theorem cdry_lo (g : Nat → Int32) (n i : Nat) (h : i < 50 ∨ 50 + 13 * n ≤ i) : c_dry g n i = g i := by
  simp only [c_dry]
  rw [if_neg (by omega)]
theorem cdry_0 (g : Nat → Int32) : c_dry g 0 = g := funext fun i => cdry_lo g 0 i (by omega)
theorem hrD_0 (g : Nat → Int32) (D : Nat → List Int32) : hrD g D 0 = D := funext fun p => by simp only [hrD]; rw [if_neg (by omega)]
theorem hrC_0 (g : Nat → Int32) (D : Nat → List Int32) (cp : Nat → Nat) : hrC g D cp 0 = cp := funext fun p => by simp only [hrC]; rw [if_neg (by omega)]
theorem dry_skip {g : Nat → Int32} {D : Nat → List Int32} {cp : Nat → Nat} {k : Nat} (h : ¬ gP g k 0 = nI (2)) : c_dry g (k + 1) = c_dry g k ∧ hrD g D (k + 1) = hrD g D k ∧ hrC g D cp (k + 1) = hrC g D cp k := by
  refine ⟨funext fun i => ?_, funext fun p => ?_, funext fun p => ?_⟩
  · simp only [c_dry]
    by_cases h1 : 50 ≤ i ∧ i < 50 + 13 * k
    · rw [if_pos h1, if_pos (by omega)]
    · rw [if_neg h1]
      by_cases h2 : 50 ≤ i ∧ i < 50 + 13 * (k + 1)
      · rw [if_pos h2, show (i - 50) / 13 = k by omega]
        simp only [drF]
        rw [if_neg h]
        simp only [gP]
        congr 1
        omega
      · rw [if_neg h2]
  · simp only [hrD]
    by_cases e : p = k
    · subst e; rw [if_neg (fun q => h q.2), if_neg (fun q => h q.2)]
    · by_cases h1 : p < k ∧ gP g p 0 = nI (2)
      · rw [if_pos h1, if_pos ⟨by omega, h1.2⟩]
      · rw [if_neg h1, if_neg (fun q => h1 ⟨by omega, q.2⟩)]
  · simp only [hrC]
    by_cases e : p = k
    · subst e; rw [if_neg (fun q => h q.2.1), if_neg (fun q => h q.2.1)]
    · by_cases h1 : p < k ∧ gP g p 0 = nI (2) ∧ (D p).length = cp p
      · rw [if_pos h1, if_pos ⟨by omega, h1.2⟩]
      · rw [if_neg h1, if_neg (fun q => h1 ⟨by omega, q.2⟩)]
/-- pot k ahead of its step is as it was -/
theorem cdry_pot {Ω : jO} {G : Mem} {y k dr : Nat} {g : Nat → Int32} {D : Nat → List Int32} {cp : Nat → Nat} (h : jPot Ω G y k (gP (c_dry g k) k) (hrD g D k k) dr (hrC g D cp k k)) : jPot Ω G y k (gP g k) (D k) dr (cp k) := by
  have e1 : hrD g D k k = D k := by simp only [hrD]; rw [if_neg (by omega)]
  have e2 : hrC g D cp k k = cp k := by simp only [hrC]; rw [if_neg (by omega)]
  rw [e1, e2] at h
  exact h.congr (fun i hi _ => by rw [cdry_at g k k i (by omega), if_neg (by omega)])
theorem byte60 : ∀ j : Nat, j < 61 → vp_nar .byte ((nI j).toInt8.toInt32) = nI j ∧ fits .byte (.int (nI j)) = true ∧ nI j / nI (2) = nI (j / 2) := by decide +kernel
theorem dval_ok {g : Nat → Int32} (ha : airOk g) (p : Nat) : ∃ j, j < 61 ∧ dval g p = nI j := by
  obtain ⟨j, h1, h2⟩ := ha (tn (g 0) % 24) (by omega)
  simp only [dval]
  rw [h2]
  split
  · exact ⟨j, by omega, rfl⟩
  · exact ⟨j / 2, by omega, (byte60 j (by omega)).2.2⟩
theorem dry_step {Ω : jO} {A : Nat → Prop} {G G1 : Mem} {a : Nat} {g : Nat → Int32} {D : Nat → List Int32} {cp : Nat → Nat} {row : List Nat} {e : Int32} {B : Nat → Nat} {pl ol ns : List Nat} {dr : Nat → Nat} {sh : Nat → Option Nat} {k y w sz : Nat} {df : Nat → Int32}
    (hall : pyAll Ω A G a (c_dry g k) (hrD g D k) (hrC g D cp k) row e B pl ol ns dr sh) (hN : jNe Ω) (hy : pl[k]? = some y) (hst : gP g k 0 = nI (2)) (hair : airOk g) (hlen : (D k).length < 590) (hlA : ∀ q x, G q = some x → q < sz) (hA : ∀ q, sz ≤ q → A q) (hAd : A (dr k))
    (hc : G y = some (potC k (gP g k) w (dr k) (D k).length)) (hn : gP g k 9 = nI (D k).length) (hw : G w = some (wE (nI k) (gw (gP g k 6) (gP g k 7)))) (hwb : Ω.2.2.2 ≤ w) (hd : G (dr k) = some (.inl (Ω.2.1 1, cp k, .inl df))) (hl : (D k).length ≤ cp k) (hm : cp k ≤ 2 * (D k).length + 8) (he : ∀ i x, (D k)[i]? = some x → df i = x) (hf : ∀ i, i < cp k → fits .byte (.int (df i)) = true) (hv : gP g k 5 = 0 ∨ gP g k 5 = 1)
    (h1 : G1 y = some (.inr (5, [.int (nI k), .int (gP g k 1), .int (gP g k 2), .int (gP g k 3), .int (s_dries_st (gP g k 11).toUInt32 (gP g k 3) (gP g k 0) (gP g k 4) (gP g k 5) (g (10 + tn (g 0) % 24)) (g 8)), .int (s_dries_ck (gP g k 11).toUInt32 (gP g k 3) (gP g k 0) (gP g k 4) (gP g k 5) (g (10 + tn (g 0) % 24)) (g 8)), .int (gP g k 5), .float (s_dries_mo (gP g k 11).toUInt32 (gP g k 3) (gP g k 0) (gP g k 4) (gP g k 5) (g (10 + tn (g 0) % 24)) (g 8)), .ref w, .int (gP g k 10), .ref (if (D k).length = cp k then sz else dr k), .int (nI ((D k).length + 1))])))
    (h2 : G1 (if (D k).length = cp k then sz else dr k) = some (.inl (Ω.2.1 1, (if (D k).length = cp k then (2 * (D k).length) + 8 else cp k), .inl (if (D k).length = cp k then upd (va_cpy df (fun _ => 0) 0 0 (D k).length) (D k).length (vp_nar .byte ((dval g k).toInt8.toInt32)) else upd df (D k).length (vp_nar .byte ((dval g k).toInt8.toInt32))))))
    (h3 : ∀ q, q < sz → q ≠ y → q ≠ dr k → G1 q = G q) : isPy Ω A G1 a (c_dry g (k + 1)) (hrD g D (k + 1)) (hrC g D cp (k + 1)) row e := by
  obtain ⟨j, hj, hdv⟩ := dval_ok hair k
  have hdv2 : vp_nar .byte ((dval g k).toInt8.toInt32) = dval g k := by rw [hdv]; exact (byte60 j hj).1
  have hdf : fits .byte (.int (dval g k)) = true := by rw [hdv]; exact (byte60 j hj).2.1
  rw [hdv2] at h2
  have eD : hrD g D (k + 1) k = D k ++ [dval g k] := by simp only [hrD]; rw [if_pos ⟨by omega, hst⟩]
  have eC : hrC g D cp (k + 1) k = if (D k).length = cp k then 2 * (D k).length + 8 else cp k := by
    simp only [hrC]
    by_cases e : (D k).length = cp k
    · rw [if_pos ⟨by omega, hst, e⟩, if_pos e]
    · rw [if_neg (fun q => e q.2.2), if_neg e]
  have eF : ∀ i, i ≤ 12 → gP (c_dry g (k + 1)) k i = drF g k i := fun i hi => by rw [cdry_at g (k + 1) k i hi, if_pos (by omega)]
  have hys := hlA _ _ hc
  have hws := hlA _ _ hw
  have hds := hlA _ _ hd
  refine hall.pot hN hy (fun q c hq n1 n2 => (h3 q (hlA _ _ hq) n1 n2).trans hq) (dr1 := if (D k).length = cp k then sz else dr k) ?_ ?_ ?_ (fun i h4 h5 => ?_) (fun p hp => ⟨?_, ?_⟩)
  · rw [eD, eC]
    refine ⟨w, _, ?_, ?_, ?_, hwb, h2, ?_, ?_, ?_, ?_, ?_, ?_⟩
    · rw [h1]
      simp only [potC]
      rw [eF 0 (by omega), eF 1 (by omega), eF 2 (by omega), eF 3 (by omega), eF 4 (by omega), eF 5 (by omega), eF 10 (by omega), eF 11 (by omega)]
      simp [drF, if_pos hst]
    · rw [eF 9 (by omega)]
      simp [drF, if_pos hst, hn, nI_add]
    · rw [eF 6 (by omega), eF 7 (by omega)]
      rw [h3 w hws (Ne.symm (jneC hc hw (wE_ne5 (by decide) (by decide)).symm)) (Ne.symm (jneC hd hw wE_neA.symm)), hw]
      simp [drF]
    · simp only [List.length_append, List.length_singleton]; split <;> omega
    · simp only [List.length_append, List.length_singleton]; split <;> omega
    · simp only [List.length_append, List.length_singleton]; omega
    · intro i x hx
      rw [List.getElem?_append] at hx
      by_cases hi : i < (D k).length
      · rw [if_pos hi] at hx
        have h9 := he i x hx
        split
        · simp only [upd, va_cpy]; rw [if_neg (by omega), if_pos (by omega), Nat.zero_add, Nat.sub_zero]; exact h9
        · simp only [upd]; rw [if_neg (by omega)]; exact h9
      · rw [if_neg hi] at hx
        have hi2 : i = (D k).length := by
          have := (List.getElem?_eq_some_iff.mp hx).1
          simp at this
          omega
        rw [hi2, Nat.sub_self] at hx
        simp at hx
        rw [hi2, ← hx]
        split
        · simp only [upd, if_true]
        · simp only [upd, if_true]
    · intro i hi
      split at hi
      · next e9 =>
        rw [if_pos e9]
        simp only [upd, va_cpy]
        split
        · exact hdf
        · split
          · next h9 => exact hf _ (by omega)
          · rfl
      · next e9 =>
        rw [if_neg e9]
        simp only [upd]
        split
        · exact hdf
        · exact hf i hi
    · rw [eF 5 (by omega)]
      simp only [drF]
      rw [if_pos hst]
      simpa using hv
  · split
    · exact hA sz (Nat.le_refl _)
    · exact hAd
  · split
    · exact Or.inr (fun q c hq e9 => by have := hlA _ _ hq; omega)
    · exact Or.inl rfl
  · simp only [c_dry]
    by_cases h6 : 50 ≤ i ∧ i < 50 + 13 * k
    · rw [if_pos h6, if_pos (by omega)]
    · rw [if_neg h6, if_neg (by omega)]
  · simp only [hrD]
    by_cases h6 : p < k ∧ gP g p 0 = nI (2)
    · rw [if_pos h6, if_pos ⟨by omega, h6.2⟩]
    · rw [if_neg h6, if_neg (fun q => h6 ⟨by omega, q.2⟩)]
  · simp only [hrC]
    by_cases h6 : p < k ∧ gP g p 0 = nI (2) ∧ (D p).length = cp p
    · rw [if_pos h6, if_pos ⟨by omega, h6.2⟩]
    · rw [if_neg h6, if_neg (fun q => h6 ⟨by omega, q.2⟩)]
