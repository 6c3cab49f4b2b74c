/-! THE KILN 2 (gen/kiln.lean): BitSets beside a pottery; what sells changes -/
set_option maxRecDepth 100000
theorem jBS.put {Ω : jO} {G : Mem} {b wa m y : Nat} {c c0 : va_E} (h : jBS Ω G b wa m) (hy : G y = some c0) (h1 : ∀ fs, c0 ≠ .inr (35, fs)) (h2 : ∀ n f, c0 ≠ .inl (Ω.2.1 3, n, .inr (.inl f))) : jBS Ω (gset G y c) b wa m := by
  obtain ⟨e1, ⟨f, e2, e3⟩, e4⟩ := h
  exact ⟨(gset_ne (jneC e1 hy (fun e => h1 _ e.symm))).trans e1, ⟨f, (gset_ne (jneC e2 hy (fun e => h2 _ _ e.symm))).trans e2, e3⟩, e4⟩
theorem isPy.bs {Ω : jO} {A : Nat → Prop} {G G1 : Mem} {a b wb m : Nat} {g : Nat → Int32} {D : Nat → List Int32} {cp : Nat → Nat} {row : List Nat} {e : Int32} (h : isPy Ω A G a g D cp row e) (hb : jBS Ω G b wb m) (hA : ∀ q, A q → q ≠ b ∧ q ≠ wb) (hf : ∀ q, q ≠ b → q ≠ wb → G1 q = G q) : isPy Ω A G1 a g D cp row e :=
  h.mono (fun q c hq hc => by
    rcases hc with h1 | ⟨k, x, rfl⟩
    · exact (hf q (hA q h1).1 (hA q h1).2).trans hq
    · obtain ⟨f, e2, -⟩ := hb.2.1
      exact (hf q (wE_neO hq hb.1 (by decide) (by decide)) (wE_neI hq e2)).trans hq)
theorem jBS.bs {Ω : jO} {G G1 : Mem} {b wb c wc n : Nat} (h : jBS Ω G c wc n) (hn : c ≠ b ∧ c ≠ wb ∧ wc ≠ b ∧ wc ≠ wb) (hf : ∀ q, q ≠ b → q ≠ wb → G1 q = G q) : jBS Ω G1 c wc n :=
  h.mono (fun q x hq hc => by
    rcases hc with rfl | rfl
    · exact (hf _ hn.1 hn.2.1).trans hq
    · exact (hf _ hn.2.2.1 hn.2.2.2).trans hq)
theorem ordFor_spec (of9 : Nat → Nat → Int32) (pw ck : Int32) (wx : Option (Int32 × Int32)) : ∀ n k : Nat, S_ordFor of9 pw ck wx n k = -1 ∨ ∃ j, k ≤ j ∧ j < k + n ∧ S_ordFor of9 pw ck wx n k = nI j
  | 0, k => Or.inl rfl
  | n + 1, k => by
    simp only [S_ordFor]
    split
    · rcases ordFor_spec of9 pw ck wx n (k + 1) with h | ⟨j, h1, h2, h3⟩
      · exact Or.inl h
      · exact Or.inr ⟨j, by omega, by omega, h3⟩
    · exact Or.inr ⟨k, by omega, by omega, rfl⟩
/-- the order that wants pot p -/
def c_ordFor (g : Nat → Int32) (p : Nat) : Int32 := S_ordFor (fun k => gO g k) (gP g p 2) (g 0) (gw (gP g p 6) (gP g p 7)) (tn (g 3)) 0
/-- pot p is sold by order k -/
def c_sell (g : Nat → Int32) (p k : Nat) : Nat → Int32 := upd (upd (upd g (258 + 6 * k + 5) (g (258 + 6 * k + 5) - nI (1))) (50 + 13 * p + 10) (nI k)) (50 + 13 * p + 0) (nI (6))
/-- numbers, what is earned, who is sold, when the pots of m below k have been asked -/
def slG (m : Nat) (g : Nat → Int32) (e : Int32) : Nat → (Nat → Int32) × Int32 × Nat
  | 0 => (g, e, 0)
  | k + 1 => if m.testBit k = true then (if gP (slG m g e k).1 k 4 ≤ 0 then (if c_ordFor (slG m g e k).1 k = -1 then slG m g e k else (c_sell (slG m g e k).1 k (tn (c_ordFor (slG m g e k).1 k)), (slG m g e k).2.1 + gO (slG m g e k).1 (tn (c_ordFor (slG m g e k).1 k)) 4, (slG m g e k).2.2 ||| 2 ^ k)) else slG m g e k) else slG m g e k
theorem slG_skip (m : Nat) (g : Nat → Int32) (e : Int32) {k r : Nat} (h : k ≤ r) (hb : ∀ j, k ≤ j → j < r → m.testBit j = false) : slG m g e r = slG m g e k := by
  induction r with
  | zero => rw [Nat.le_zero.mp h]
  | succ r ih =>
    by_cases e9 : k = r + 1
    · rw [e9]
    · simp only [slG]
      rw [if_neg (by rw [hb r (by omega) (by omega)]; simp)]
      exact ih (by omega) (fun j h1 h2 => hb j h1 (by omega))
theorem slG_lo (m : Nat) (g : Nat → Int32) (e : Int32) {i : Nat} (hi : i < 50) : ∀ k, (slG m g e k).1 i = g i
  | 0 => rfl
  | k + 1 => by
    simp only [slG]
    have ih := slG_lo m g e hi k
    split
    · split
      · split
        · exact ih
        · simp only [c_sell, upd]
          rw [if_neg (by omega), if_neg (by omega), if_neg (by omega)]
          exact ih
      · exact ih
    · exact ih
/-- all pots of m below n get state v -/
def c_sts (g : Nat → Int32) (m : Nat) (v : Int32) (n : Nat) : Nat → Int32 := fun i => if 50 ≤ i ∧ i < 50 + 13 * n ∧ (i - 50) % 13 = 0 ∧ m.testBit ((i - 50) / 13) = true then v else g i
theorem csts_0 (g : Nat → Int32) (m : Nat) (v : Int32) : c_sts g m v 0 = g := funext fun i => by simp only [c_sts]; rw [if_neg (by omega)]
theorem csts_skip (g : Nat → Int32) (m : Nat) (v : Int32) {k r : Nat} (h : k ≤ r) (hb : ∀ j, k ≤ j → j < r → m.testBit j = false) : c_sts g m v r = c_sts g m v k := funext fun i => by
  simp only [c_sts]
  by_cases h1 : 50 ≤ i ∧ i < 50 + 13 * k ∧ (i - 50) % 13 = 0 ∧ m.testBit ((i - 50) / 13) = true
  · rw [if_pos h1, if_pos ⟨h1.1, by omega, h1.2.2⟩]
  · rw [if_neg h1, if_neg (fun q => h1 ⟨q.1, ?_, q.2.2⟩)]
    by_cases h2 : i < 50 + 13 * k
    · exact h2
    · have h3 := hb ((i - 50) / 13) (by omega) (by omega)
      rw [q.2.2.2] at h3
      cases h3
theorem csts_step (g : Nat → Int32) (m : Nat) (v : Int32) {k : Nat} (hb : m.testBit k = true) : c_sts g m v (k + 1) = upd (c_sts g m v k) (50 + 13 * k + 0) v := funext fun i => by
  simp only [c_sts, upd]
  by_cases h0 : i = 50 + 13 * k + 0
  · subst h0
    rw [if_pos ⟨by omega, by omega, by omega, by rw [show (50 + 13 * k + 0 - 50) / 13 = k by omega]; exact hb⟩, if_pos rfl]
  · rw [if_neg h0]
    by_cases h1 : 50 ≤ i ∧ i < 50 + 13 * k ∧ (i - 50) % 13 = 0 ∧ m.testBit ((i - 50) / 13) = true
    · rw [if_pos h1, if_pos ⟨h1.1, by omega, h1.2.2⟩]
    · rw [if_neg h1, if_neg (fun q => h1 ⟨q.1, by omega, q.2.2⟩)]
theorem csts_ne (g : Nat → Int32) (m : Nat) (v : Int32) (n : Nat) {i : Nat} (h : i < 50 ∨ (i - 50) % 13 ≠ 0 ∨ 50 + 13 * n ≤ i) : c_sts g m v n i = g i := by
  simp only [c_sts]
  rw [if_neg (by omega)]
