/-! A BitSet AS ONE FACT (gen/mk_x4.py): of 16 bits, the number m -/
set_option maxRecDepth 100000
def jBS (Ω : jO) (G : Mem) (b wa m : Nat) : Prop := G b = some (.inr (35, [.ref wa, .int (nI (if m = 0 then 0 else 1)), .int 0])) ∧ (∃ f, G wa = some (.inl (Ω.2.1 3, 1, .inr (.inl f))) ∧ f 0 = lN m) ∧ Ω.2.2.2 ≤ b ∧ Ω.2.2.2 ≤ wa ∧ m < 65536
theorem jBS.mono {Ω : jO} {G G1 : Mem} {b wa m : Nat} (h : jBS Ω G b wa m) (hm : ∀ q c, G q = some c → (q = b ∨ q = wa) → G1 q = some c) : jBS Ω G1 b wa m := by
  obtain ⟨h1, ⟨f, h2, h3⟩, h4⟩ := h
  exact ⟨hm _ _ h1 (Or.inl rfl), ⟨f, hm _ _ h2 (Or.inr rfl), h3⟩, h4⟩
theorem t_BS_init (l : Launch) (Ω : jO) {G : Mem} {sz : Nat} {a : Nat} (h : G a = some (.inr (35, [.null, .int 0, .int 0]))) (hb : Ω.2.2.2 ≤ a) : Met l yJ34_init (ws_ yJ34_init cJ34_init 1 none) ({ frames := 3, cells := 1, slots := 1, locals := 53 } : Room) (va_Pc [.ref a] (jWd Ω G sz)) (jQ Ω (fun r G1 sz1 => r = none ∧ sz1 = sz + 1 ∧ jBS Ω G1 a sz 0 ∧ ∀ q, q < sz → q ≠ a → G1 q = G q)) 1 1 (jB Ω) := by
  refine jPre (fun hs => ?_)
  have ha := hs.1 _ _ h
  refine jCons (t_J34_init l Ω a h hb) ?_
  rintro r G1 sz1 ⟨rfl, rfl, rfl⟩
  exact ⟨rfl, rfl, ⟨gset_eq, ⟨_, (gset_ne (by omega)).trans gset_eq, rfl⟩, hb, hs.2.1, by decide⟩, fun q g1 g2 => (gset_ne g2).trans (gset_ne (by omega))⟩
theorem t_BS_set (l : Launch) (Ω : jO) {G : Mem} {sz : Nat} {b wa m k : Nat} (h : jBS Ω G b wa m) (hk : k < 16) : Met l yJ34_set (ws_ yJ34_set cJ34_set 3 none) ({ frames := 3, cells := 0, slots := 0, locals := 56 } : Room) (va_Pc [.ref b, .int (nI k)] (jWd Ω G sz)) (jQ Ω (fun r G1 sz1 => r = none ∧ sz1 = sz ∧ jBS Ω G1 b wa (m ||| 2 ^ k) ∧ ∀ q, q ≠ b → q ≠ wa → G1 q = G q)) 0 0 (jB Ω) := by
  obtain ⟨h1, ⟨f, h2, h3⟩, h4, h5, h6⟩ := h
  have hne : b ≠ wa := fun e9 => by rw [e9, h2] at h1; simp at h1
  have hlt : m ||| 2 ^ k < 65536 := lt16 (fun j hj => by rw [Nat.testBit_or, tb16 h6 hj, Nat.testBit_two_pow_of_ne (by omega)]; rfl)
  have hn0 : m ||| 2 ^ k ≠ 0 := fun e => by
    have h9 : (m ||| 2 ^ k).testBit k = true := by rw [Nat.testBit_or, Nat.testBit_two_pow_self]; simp
    rw [e, Nat.zero_testBit] at h9
    cases h9
  have hv : vp_updL f 0 ((f 0) ||| (1 <<< ((nI k).toInt64 &&& 63))) 0 = lN (m ||| 2 ^ k) := by simp only [vp_updL, if_true]; rw [h3, one_shl k hk, lN_or]
  by_cases h0 : m = 0
  · rw [if_pos h0] at h1
    refine jCons (jRoom (t_J34_set_0 l Ω b h1 h2 h4 h5 k (by omega)) (Nat.le_of_ble_eq_true rfl) (Nat.le_of_ble_eq_true rfl) rfl rfl (Nat.le_refl _) (Nat.le_refl _)) ?_
    rintro r G1 sz1 ⟨rfl, rfl, rfl⟩
    refine ⟨rfl, rfl, ⟨?_, ⟨_, gset_eq, hv⟩, h4, h5, hlt⟩, fun q g1 g2 => (gset_ne g2).trans (gset_ne g1)⟩
    rw [if_neg hn0]; exact (gset_ne hne).trans gset_eq
  · rw [if_neg h0] at h1
    refine jCons (jRoom (t_J34_set_1 l Ω b h1 h2 h4 h5 k (by omega)) (Nat.le_of_ble_eq_true rfl) (Nat.le_of_ble_eq_true rfl) rfl rfl (Nat.le_refl _) (Nat.le_refl _)) ?_
    rintro r G1 sz1 ⟨rfl, rfl, rfl⟩
    refine ⟨rfl, rfl, ⟨?_, ⟨_, gset_eq, hv⟩, h4, h5, hlt⟩, fun q g1 g2 => gset_ne g2⟩
    rw [if_neg hn0]; exact (gset_ne hne).trans h1
theorem t_BS_next (l : Launch) (Ω : jO) {G : Mem} {sz : Nat} {b wa m k : Nat} (h : jBS Ω G b wa m) (hk : k ≤ 16) : Met l yJ34_nextSetBit (ws_ yJ34_nextSetBit cJ34_nextSetBit 5 (some .int)) ({ frames := 3, cells := 0, slots := 0, locals := 55 } : Room) (va_Pc [.ref b, .int (nI k)] (jWd Ω G sz)) (jQ Ω (jD (some (.int (r_next m k))) G sz)) 0 0 (jB Ω) := by
  obtain ⟨h1, ⟨f, h2, h3⟩, h4, h5, h6⟩ := h
  by_cases h0 : m = 0
  · rw [if_pos h0] at h1
    have e : r_next m k = -1 := by
      simp only [r_next]
      rw [if_pos (nsb_no (by omega) (fun j _ _ => by rw [h0, Nat.zero_testBit]))]
    rw [e]
    exact jRoom (t_J34_nextSetBit_0 l Ω b h1 h2 k (by omega)) (Nat.le_of_ble_eq_true rfl) (Nat.le_of_ble_eq_true rfl) rfl rfl (Nat.le_refl _) (Nat.le_refl _)
  · rw [if_neg h0] at h1
    rw [← next_eq h3 h6 hk]
    exact jRoom (t_J34_nextSetBit_1 l Ω b h1 h2 k (by omega)) (Nat.le_of_ble_eq_true rfl) (Nat.le_of_ble_eq_true rfl) rfl rfl (Nat.le_refl _) (Nat.le_refl _)
def r_card (m : Nat) : Int32 := r_bitCount (lN m)
theorem t_BS_card (l : Launch) (Ω : jO) {G : Mem} {sz : Nat} {b wa m : Nat} (h : jBS Ω G b wa m) : Met l yJ34_cardinality (ws_ yJ34_cardinality cJ34_cardinality 3 (some .int)) ({ frames := 2, cells := 0, slots := 0, locals := 33 } : Room) (va_Pc [.ref b] (jWd Ω G sz)) (jQ Ω (jD (some (.int (r_card m))) G sz)) 0 0 (jB Ω) := by
  obtain ⟨h1, ⟨f, h2, h3⟩, h4, h5, h6⟩ := h
  by_cases h0 : m = 0
  · rw [if_pos h0] at h1
    subst h0
    exact jRoom (t_J34_card_0 l Ω b h1 h2) (Nat.le_of_ble_eq_true rfl) (Nat.le_of_ble_eq_true rfl) rfl rfl (Nat.le_refl _) (Nat.le_refl _)
  · rw [if_neg h0] at h1
    have h9 := t_J34_card_1 (sz := sz) l Ω b h1 h2
    rw [h3, show nI 0 + r_bitCount (lN m) = r_card m from Int32.zero_add _] at h9
    exact jRoom h9 (Nat.le_of_ble_eq_true rfl) (Nat.le_of_ble_eq_true rfl) rfl rfl (Nat.le_refl _) (Nat.le_refl _)
theorem t_BS_andNot (l : Launch) (Ω : jO) {G : Mem} {sz : Nat} {b wa m c wc n : Nat} (h : jBS Ω G b wa m) (hc : jBS Ω G c wc n) : Met l yJ34_andNot (ws_ yJ34_andNot cJ34_andNot 3 none) ({ frames := 2, cells := 0, slots := 0, locals := 33 } : Room) (va_Pc [.ref b, .ref c] (jWd Ω G sz)) (jQ Ω (fun r G1 sz1 => r = none ∧ sz1 = sz ∧ jBS Ω G1 b wa (m &&& (n ^^^ 65535)) ∧ ∀ q, q ≠ b → q ≠ wa → G1 q = G q)) 0 0 (jB Ω) := by
  obtain ⟨h1, ⟨f, h2, h3⟩, h4, h5, h6⟩ := h
  obtain ⟨c1, ⟨g, c2, c3⟩, c4, c5, c6⟩ := hc
  have hne : b ≠ wa := fun e9 => by rw [e9, h2] at h1; simp at h1
  have hlt : m &&& (n ^^^ 65535) < 65536 := lt16 (fun j hj => by rw [Nat.testBit_and, tb16 h6 hj]; rfl)
  have hv : f 0 &&& (g 0 ^^^ (-1)) = lN (m &&& (n ^^^ 65535)) := by rw [h3, c3, andNot_eq h6]
  by_cases h0 : m = 0
  · subst h0
    have e0 : 0 &&& (n ^^^ 65535) = 0 := Nat.zero_and _
    rw [e0]
    rw [if_pos rfl] at h1
    by_cases c0 : n = 0
    · rw [if_pos c0] at c1
      refine jCons (jRoom (t_J34_andNot_00 l Ω b c h1 h2 c1 c2 h4 h5) (Nat.le_of_ble_eq_true rfl) (Nat.le_of_ble_eq_true rfl) rfl rfl (Nat.le_refl _) (Nat.le_refl _)) ?_
      rintro r G1 sz1 ⟨rfl, rfl, rfl⟩
      exact ⟨rfl, rfl, ⟨gset_eq, ⟨f, (gset_ne (Ne.symm hne)).trans h2, h3⟩, h4, h5, h6⟩, fun q g1 g2 => gset_ne g1⟩
    · rw [if_neg c0] at c1
      refine jCons (jRoom (t_J34_andNot_01 l Ω b c h1 h2 c1 c2 h4 h5) (Nat.le_of_ble_eq_true rfl) (Nat.le_of_ble_eq_true rfl) rfl rfl (Nat.le_refl _) (Nat.le_refl _)) ?_
      rintro r G1 sz1 ⟨rfl, rfl, rfl⟩
      exact ⟨rfl, rfl, ⟨gset_eq, ⟨f, (gset_ne (Ne.symm hne)).trans h2, h3⟩, h4, h5, h6⟩, fun q g1 g2 => gset_ne g1⟩
  · rw [if_neg h0] at h1
    by_cases c0 : n = 0
    · rw [if_pos c0] at c1
      have e0 : m &&& (n ^^^ 65535) = m := by
        rw [c0]
        refine Nat.eq_of_testBit_eq (fun j => ?_)
        rw [Nat.testBit_and, Nat.zero_xor, show (65535 : Nat) = 2 ^ 16 - 1 from rfl, Nat.testBit_two_pow_sub_one]
        rcases Nat.lt_or_ge j 16 with h | h
        · simp [h]
        · rw [tb16 h6 h]; rfl
      rw [e0]
      refine jCons (jRoom (t_J34_andNot_10 l Ω b c h1 h2 c1 c2 h4 h5 (by rw [h3]; exact fun e => h0 (lg0 h6 e))) (Nat.le_of_ble_eq_true rfl) (Nat.le_of_ble_eq_true rfl) rfl rfl (Nat.le_refl _) (Nat.le_refl _)) ?_
      rintro r G1 sz1 ⟨rfl, rfl, rfl⟩
      refine ⟨rfl, rfl, ⟨?_, ⟨f, (gset_ne (Ne.symm hne)).trans h2, h3⟩, h4, h5, h6⟩, fun q g1 g2 => gset_ne g1⟩
      rw [if_neg h0]; exact gset_eq
    · rw [if_neg c0] at c1
      by_cases hz : m &&& (n ^^^ 65535) = 0
      · refine jCons (jRoom (t_J34_andNot_11z l Ω b c h1 h2 c1 c2 h4 h5 (by rw [hv, hz]; rfl)) (Nat.le_of_ble_eq_true rfl) (Nat.le_of_ble_eq_true rfl) rfl rfl (Nat.le_refl _) (Nat.le_refl _)) ?_
        rintro r G1 sz1 ⟨rfl, rfl, rfl⟩
        refine ⟨rfl, rfl, ⟨?_, ⟨_, (gset_ne (Ne.symm hne)).trans gset_eq, by simp only [vp_updL, if_true]; exact hv⟩, h4, h5, hlt⟩, fun q g1 g2 => (gset_ne g1).trans (gset_ne g2)⟩
        rw [if_pos hz]; exact gset_eq
      · refine jCons (jRoom (t_J34_andNot_11n l Ω b c h1 h2 c1 c2 h4 h5 (by rw [hv]; exact fun e => hz (lg0 hlt e))) (Nat.le_of_ble_eq_true rfl) (Nat.le_of_ble_eq_true rfl) rfl rfl (Nat.le_refl _) (Nat.le_refl _)) ?_
        rintro r G1 sz1 ⟨rfl, rfl, rfl⟩
        refine ⟨rfl, rfl, ⟨?_, ⟨_, (gset_ne (Ne.symm hne)).trans gset_eq, by simp only [vp_updL, if_true]; exact hv⟩, h4, h5, hlt⟩, fun q g1 g2 => (gset_ne g1).trans (gset_ne g2)⟩
        rw [if_neg hz]; exact gset_eq
