/-! BITS (gen/bits.lean, mk_x4.py): the pure side of a BitSet of 16 bits -/
set_option maxRecDepth 100000
def r_ntzM (m9 : Int32) : Int32 := (if 0 < m9 then (if m9 ≤ (nI (65536)) then (if m9 ≤ (nI (256)) then (if m9 ≤ (nI (16)) then (if m9 ≤ (nI (4)) then ((nI (1)) + ((m9.toUInt32 >>> ((nI (1)).toUInt32 &&& Int32.toUInt32 31)).toInt32)) else (((nI (1)) + 2) + ((((m9.toUInt32 >>> ((nI (2)).toUInt32 &&& Int32.toUInt32 31)).toInt32).toUInt32 >>> ((nI (1)).toUInt32 &&& Int32.toUInt32 31)).toInt32))) else (if ((m9.toUInt32 >>> ((nI (4)).toUInt32 &&& Int32.toUInt32 31)).toInt32) ≤ (nI (4)) then (((nI (1)) + 4) + ((((m9.toUInt32 >>> ((nI (4)).toUInt32 &&& Int32.toUInt32 31)).toInt32).toUInt32 >>> ((nI (1)).toUInt32 &&& Int32.toUInt32 31)).toInt32)) else ((((nI (1)) + 4) + 2) + ((((((m9.toUInt32 >>> ((nI (4)).toUInt32 &&& Int32.toUInt32 31)).toInt32).toUInt32 >>> ((nI (2)).toUInt32 &&& Int32.toUInt32 31)).toInt32).toUInt32 >>> ((nI (1)).toUInt32 &&& Int32.toUInt32 31)).toInt32)))) else (if ((m9.toUInt32 >>> ((nI (8)).toUInt32 &&& Int32.toUInt32 31)).toInt32) ≤ (nI (16)) then (if ((m9.toUInt32 >>> ((nI (8)).toUInt32 &&& Int32.toUInt32 31)).toInt32) ≤ (nI (4)) then (((nI (1)) + 8) + ((((m9.toUInt32 >>> ((nI (8)).toUInt32 &&& Int32.toUInt32 31)).toInt32).toUInt32 >>> ((nI (1)).toUInt32 &&& Int32.toUInt32 31)).toInt32)) else ((((nI (1)) + 8) + 2) + ((((((m9.toUInt32 >>> ((nI (8)).toUInt32 &&& Int32.toUInt32 31)).toInt32).toUInt32 >>> ((nI (2)).toUInt32 &&& Int32.toUInt32 31)).toInt32).toUInt32 >>> ((nI (1)).toUInt32 &&& Int32.toUInt32 31)).toInt32))) else (if ((((m9.toUInt32 >>> ((nI (8)).toUInt32 &&& Int32.toUInt32 31)).toInt32).toUInt32 >>> ((nI (4)).toUInt32 &&& Int32.toUInt32 31)).toInt32) ≤ (nI (4)) then ((((nI (1)) + 8) + 4) + ((((((m9.toUInt32 >>> ((nI (8)).toUInt32 &&& Int32.toUInt32 31)).toInt32).toUInt32 >>> ((nI (4)).toUInt32 &&& Int32.toUInt32 31)).toInt32).toUInt32 >>> ((nI (1)).toUInt32 &&& Int32.toUInt32 31)).toInt32)) else (((((nI (1)) + 8) + 4) + 2) + ((((((((m9.toUInt32 >>> ((nI (8)).toUInt32 &&& Int32.toUInt32 31)).toInt32).toUInt32 >>> ((nI (4)).toUInt32 &&& Int32.toUInt32 31)).toInt32).toUInt32 >>> ((nI (2)).toUInt32 &&& Int32.toUInt32 31)).toInt32).toUInt32 >>> ((nI (1)).toUInt32 &&& Int32.toUInt32 31)).toInt32))))) else (if ((m9.toUInt32 >>> ((nI (16)).toUInt32 &&& Int32.toUInt32 31)).toInt32) ≤ (nI (256)) then (if ((m9.toUInt32 >>> ((nI (16)).toUInt32 &&& Int32.toUInt32 31)).toInt32) ≤ (nI (16)) then (if ((m9.toUInt32 >>> ((nI (16)).toUInt32 &&& Int32.toUInt32 31)).toInt32) ≤ (nI (4)) then (((nI (1)) + 16) + ((((m9.toUInt32 >>> ((nI (16)).toUInt32 &&& Int32.toUInt32 31)).toInt32).toUInt32 >>> ((nI (1)).toUInt32 &&& Int32.toUInt32 31)).toInt32)) else ((((nI (1)) + 16) + 2) + ((((((m9.toUInt32 >>> ((nI (16)).toUInt32 &&& Int32.toUInt32 31)).toInt32).toUInt32 >>> ((nI (2)).toUInt32 &&& Int32.toUInt32 31)).toInt32).toUInt32 >>> ((nI (1)).toUInt32 &&& Int32.toUInt32 31)).toInt32))) else (if ((((m9.toUInt32 >>> ((nI (16)).toUInt32 &&& Int32.toUInt32 31)).toInt32).toUInt32 >>> ((nI (4)).toUInt32 &&& Int32.toUInt32 31)).toInt32) ≤ (nI (4)) then ((((nI (1)) + 16) + 4) + ((((((m9.toUInt32 >>> ((nI (16)).toUInt32 &&& Int32.toUInt32 31)).toInt32).toUInt32 >>> ((nI (4)).toUInt32 &&& Int32.toUInt32 31)).toInt32).toUInt32 >>> ((nI (1)).toUInt32 &&& Int32.toUInt32 31)).toInt32)) else (((((nI (1)) + 16) + 4) + 2) + ((((((((m9.toUInt32 >>> ((nI (16)).toUInt32 &&& Int32.toUInt32 31)).toInt32).toUInt32 >>> ((nI (4)).toUInt32 &&& Int32.toUInt32 31)).toInt32).toUInt32 >>> ((nI (2)).toUInt32 &&& Int32.toUInt32 31)).toInt32).toUInt32 >>> ((nI (1)).toUInt32 &&& Int32.toUInt32 31)).toInt32)))) else (if ((((m9.toUInt32 >>> ((nI (16)).toUInt32 &&& Int32.toUInt32 31)).toInt32).toUInt32 >>> ((nI (8)).toUInt32 &&& Int32.toUInt32 31)).toInt32) ≤ (nI (16)) then (if ((((m9.toUInt32 >>> ((nI (16)).toUInt32 &&& Int32.toUInt32 31)).toInt32).toUInt32 >>> ((nI (8)).toUInt32 &&& Int32.toUInt32 31)).toInt32) ≤ (nI (4)) then ((((nI (1)) + 16) + 8) + ((((((m9.toUInt32 >>> ((nI (16)).toUInt32 &&& Int32.toUInt32 31)).toInt32).toUInt32 >>> ((nI (8)).toUInt32 &&& Int32.toUInt32 31)).toInt32).toUInt32 >>> ((nI (1)).toUInt32 &&& Int32.toUInt32 31)).toInt32)) else (((((nI (1)) + 16) + 8) + 2) + ((((((((m9.toUInt32 >>> ((nI (16)).toUInt32 &&& Int32.toUInt32 31)).toInt32).toUInt32 >>> ((nI (8)).toUInt32 &&& Int32.toUInt32 31)).toInt32).toUInt32 >>> ((nI (2)).toUInt32 &&& Int32.toUInt32 31)).toInt32).toUInt32 >>> ((nI (1)).toUInt32 &&& Int32.toUInt32 31)).toInt32))) else (if ((((((m9.toUInt32 >>> ((nI (16)).toUInt32 &&& Int32.toUInt32 31)).toInt32).toUInt32 >>> ((nI (8)).toUInt32 &&& Int32.toUInt32 31)).toInt32).toUInt32 >>> ((nI (4)).toUInt32 &&& Int32.toUInt32 31)).toInt32) ≤ (nI (4)) then (((((nI (1)) + 16) + 8) + 4) + ((((((((m9.toUInt32 >>> ((nI (16)).toUInt32 &&& Int32.toUInt32 31)).toInt32).toUInt32 >>> ((nI (8)).toUInt32 &&& Int32.toUInt32 31)).toInt32).toUInt32 >>> ((nI (4)).toUInt32 &&& Int32.toUInt32 31)).toInt32).toUInt32 >>> ((nI (1)).toUInt32 &&& Int32.toUInt32 31)).toInt32)) else ((((((nI (1)) + 16) + 8) + 4) + 2) + ((((((((((m9.toUInt32 >>> ((nI (16)).toUInt32 &&& Int32.toUInt32 31)).toInt32).toUInt32 >>> ((nI (8)).toUInt32 &&& Int32.toUInt32 31)).toInt32).toUInt32 >>> ((nI (4)).toUInt32 &&& Int32.toUInt32 31)).toInt32).toUInt32 >>> ((nI (2)).toUInt32 &&& Int32.toUInt32 31)).toInt32).toUInt32 >>> ((nI (1)).toUInt32 &&& Int32.toUInt32 31)).toInt32)))))) else (m9 &&& (nI (32))))
theorem ntzI_M (x9 : Int32) : r_ntzI x9 = r_ntzM ((x9 ^^^ (-1)) &&& (x9 - (nI (1)))) := rfl
theorem ntzM_all : ∀ k : Nat, k < 16 → r_ntzM (nI (2 ^ k - 1)) = nI k := by decide +kernel
/-- the next set bit from k on, among n places; 16: none -/
def nsb (m : Nat) : Nat → Nat → Nat
  | _, 0 => 16
  | k, n + 1 => if m.testBit k then k else nsb m (k + 1) n
theorem nsb_spec (m : Nat) : ∀ (n k : Nat), k + n = 16 → (nsb m k n < 16 ∧ k ≤ nsb m k n ∧ m.testBit (nsb m k n) = true ∧ ∀ j, k ≤ j → j < nsb m k n → m.testBit j = false) ∨ (nsb m k n = 16 ∧ ∀ j, k ≤ j → j < 16 → m.testBit j = false)
  | 0, k, h => Or.inr ⟨rfl, fun j h1 h2 => by omega⟩
  | n + 1, k, h => by
    simp only [nsb]
    by_cases hk : m.testBit k = true
    · rw [if_pos hk]
      exact Or.inl ⟨by omega, Nat.le_refl _, hk, fun j h1 h2 => by omega⟩
    · rw [if_neg hk]
      have hf : m.testBit k = false := by simpa using hk
      rcases nsb_spec m n (k + 1) (by omega) with ⟨a, b, c, d⟩ | ⟨a, b⟩
      · refine Or.inl ⟨a, by omega, c, fun j h1 h2 => ?_⟩
        by_cases e : j = k
        · rw [e]; exact hf
        · exact d j (by omega) h2
      · refine Or.inr ⟨a, fun j h1 h2 => ?_⟩
        by_cases e : j = k
        · rw [e]; exact hf
        · exact b j (by omega) h2
theorem nsb_of {m k n r : Nat} (h : k + n = 16) (h1 : r < 16) (h2 : k ≤ r) (h3 : m.testBit r = true) (h4 : ∀ j, k ≤ j → j < r → m.testBit j = false) : nsb m k n = r := by
  rcases nsb_spec m n k h with ⟨a, b, c, d⟩ | ⟨a, b⟩
  · by_cases e1 : nsb m k n < r
    · have := h4 _ b e1; rw [c] at this; cases this
    · by_cases e2 : r < nsb m k n
      · have := d r h2 e2; rw [h3] at this; cases this
      · omega
  · have := b r h2 h1; rw [h3] at this; cases this
theorem nsb_no {m k n : Nat} (h : k + n = 16) (h4 : ∀ j, k ≤ j → j < 16 → m.testBit j = false) : nsb m k n = 16 := by
  rcases nsb_spec m n k h with ⟨a, b, c, d⟩ | ⟨a, b⟩
  · have := h4 _ b a; rw [c] at this; cases this
  · exact a
theorem lN_or (m n : Nat) : lN m ||| lN n = lN (m ||| n) := Int64.toBitVec.inj (by show BitVec.ofNat 64 m ||| BitVec.ofNat 64 n = BitVec.ofNat 64 (m ||| n); rw [BitVec.ofNat_or])
theorem lN_and (m n : Nat) : lN m &&& lN n = lN (m &&& n) := Int64.toBitVec.inj (by show BitVec.ofNat 64 m &&& BitVec.ofNat 64 n = BitVec.ofNat 64 (m &&& n); rw [BitVec.ofNat_and])
theorem lN_xor (m n : Nat) : lN m ^^^ lN n = lN (m ^^^ n) := Int64.toBitVec.inj (by show BitVec.ofNat 64 m ^^^ BitVec.ofNat 64 n = BitVec.ofNat 64 (m ^^^ n); rw [BitVec.ofNat_xor])
theorem nI_or (m n : Nat) : nI m ||| nI n = nI (m ||| n) := Int32.toBitVec.inj (by show BitVec.ofNat 32 m ||| BitVec.ofNat 32 n = BitVec.ofNat 32 (m ||| n); rw [BitVec.ofNat_or])
theorem nI_and (m n : Nat) : nI m &&& nI n = nI (m &&& n) := Int32.toBitVec.inj (by show BitVec.ofNat 32 m &&& BitVec.ofNat 32 n = BitVec.ofNat 32 (m &&& n); rw [BitVec.ofNat_and])
theorem nI_xor (m n : Nat) : nI m ^^^ nI n = nI (m ^^^ n) := Int32.toBitVec.inj (by show BitVec.ofNat 32 m ^^^ BitVec.ofNat 32 n = BitVec.ofNat 32 (m ^^^ n); rw [BitVec.ofNat_xor])
theorem tb16 {m j : Nat} (hm : m < 65536) (hj : 16 ≤ j) : m.testBit j = false := Nat.testBit_lt_two_pow (Nat.lt_of_lt_of_le hm (Nat.pow_le_pow_right (n := 2) (by decide) hj))
/-- a number below 2 ^ 16 by its bits -/
theorem lt16 {m : Nat} (h : ∀ j, 16 ≤ j → m.testBit j = false) : m < 65536 := by
  have e : m = m % 2 ^ 16 := Nat.eq_of_testBit_eq (fun j => by
    rw [Nat.testBit_mod_two_pow]
    by_cases hj : j < 16
    · simp [hj]
    · simp [hj, h j (by omega)])
  rw [e]
  exact Nat.mod_lt _ (by decide)
theorem one_shl : ∀ k : Nat, k < 16 → (1 : Int64) <<< ((nI k).toInt64 &&& 63) = lN (2 ^ k) := by decide +kernel
theorem neg_shl : ∀ k : Nat, k < 17 → (-1 : Int64) <<< ((nI k).toInt64 &&& 63) = lN (2 ^ 64 - 2 ^ k) := by decide +kernel
theorem neg_bit : ∀ k : Nat, k < 17 → ∀ j : Nat, j < 16 → (2 ^ 64 - 2 ^ k).testBit j = decide (k ≤ j) := by decide +kernel
theorem lN_inj {m n : Nat} (hm : m < 65536) (hn : n < 65536) (h : lN m = lN n) : m = n := (lN_eq (by omega) (by omega)).mp h
theorem lg0 {m : Nat} (hm : m < 65536) (h : lg_cmp (lN m) 0 = 0) : m = 0 := by
  have h1 : lN m = 0 := by
    simp only [lg_cmp] at h
    split at h
    · simp at h
    · split at h
      · next e => exact e
      · simp at h
  exact lN_inj hm (by decide) h1
theorem andNot_eq {m n : Nat} (hm : m < 65536) : lN m &&& (lN n ^^^ (-1)) = lN (m &&& (n ^^^ 65535)) := by
  rw [show (-1 : Int64) = lN (2 ^ 64 - 1) from by decide, lN_xor, lN_and]
  congr 1
  refine Nat.eq_of_testBit_eq (fun j => ?_)
  rw [Nat.testBit_and, Nat.testBit_and, Nat.testBit_xor, Nat.testBit_xor, Nat.testBit_two_pow_sub_one, show (65535 : Nat) = 2 ^ 16 - 1 from rfl, Nat.testBit_two_pow_sub_one]
  by_cases hj : j < 16
  · simp [hj, show j < 64 by omega]
  · simp [tb16 hm (by omega : 16 ≤ j)]
/-- n - 1 against n, n's lowest bit at k -/
theorem pred_bit {n k : Nat} (hk : n.testBit k = true) (hl : ∀ j, j < k → n.testBit j = false) (j : Nat) : (n - 1).testBit j = if j < k then true else if j = k then false else n.testBit j := by
  have h0 : n % 2 ^ k = 0 := Nat.eq_of_testBit_eq (fun i => by
    rw [Nat.testBit_mod_two_pow, Nat.zero_testBit]
    by_cases hi : i < k
    · simp [hi, hl i hi]
    · simp [hi])
  have hp : n / 2 ^ k % 2 = 1 := by
    have := hk
    rw [Nat.testBit_eq_decide_div_mod_eq] at this
    simpa using this
  have hpos : 0 < 2 ^ k := Nat.two_pow_pos k
  obtain ⟨q, hq⟩ : ∃ q, n / 2 ^ k = 2 * q + 1 := ⟨n / 2 ^ k / 2, by omega⟩
  have hn : n = 2 ^ k * (2 * q + 1) := by
    have := Nat.div_add_mod n (2 ^ k)
    rw [h0, hq] at this
    omega
  have hn1 : n - 1 = 2 ^ k * (2 * q) + (2 ^ k - 1) := by
    rw [hn, Nat.mul_add]
    omega
  have hn2 : n = 2 ^ k * (2 * q + 1) + 0 := hn
  rw [hn1, Nat.testBit_two_pow_mul_add _ (by omega)]
  by_cases h1 : j < k
  · rw [if_pos h1, if_pos h1, Nat.testBit_two_pow_sub_one]; simpa using h1
  · rw [if_neg h1, if_neg h1]
    by_cases h2 : j = k
    · rw [if_pos h2, h2, Nat.sub_self]
      rw [Nat.testBit_eq_decide_div_mod_eq]
      simp
    · rw [if_neg h2, hn2, Nat.testBit_two_pow_mul_add _ hpos, if_neg h1]
      obtain ⟨i, hi⟩ : ∃ i, j - k = i + 1 := ⟨j - k - 1, by omega⟩
      rw [hi, Nat.testBit_add_one, Nat.testBit_add_one]
      congr 1
      omega
theorem ntz_mask {n k : Nat} (hn : n < 65536) (hk : n.testBit k = true) (hl : ∀ j, j < k → n.testBit j = false) : (nI n ^^^ (-1)) &&& (nI n - nI (1)) = nI (2 ^ k - 1) := by
  have h1 : 1 ≤ n := by
    rcases Nat.eq_zero_or_pos n with h | h
    · rw [h, Nat.zero_testBit] at hk; cases hk
    · exact h
  have hk16 : k < 16 := by
    rcases Nat.lt_or_ge k 16 with h | h
    · exact h
    · have := tb16 hn h; rw [hk] at this; cases this
  rw [pk_sub h1, show (-1 : Int32) = nI (2 ^ 32 - 1) from by decide, nI_xor, nI_and]
  congr 1
  refine Nat.eq_of_testBit_eq (fun j => ?_)
  rw [Nat.testBit_and, Nat.testBit_xor, Nat.testBit_two_pow_sub_one, Nat.testBit_two_pow_sub_one, pred_bit hk hl]
  by_cases h2 : j < k
  · simp [h2, hl j h2, show j < 32 by omega]
  · rw [if_neg h2]
    by_cases h3 : j = k
    · simp [h3]
    · rw [if_neg h3]
      by_cases h4 : j < 32
      · simp [h2, h4]
      · simp [tb16 hn (by omega : 16 ≤ j), h2]
theorem ntz_eq {n : Nat} (hn : n < 65536) (h0 : n ≠ 0) : r_ntzL (lN n) = nI (nsb n 0 16) := by
  rcases nsb_spec n 16 0 (by decide) with ⟨a, b, c, d⟩ | ⟨a, b⟩
  · have hm := ntz_mask hn c (fun j hj => d j (Nat.zero_le _) hj)
    simp only [r_ntzL, lN_i]
    rw [if_neg (nI_ne0 (by omega) (by omega)), ntzI_M, hm]
    exact ntzM_all _ a
  · exact absurd (Nat.eq_of_testBit_eq (fun j => by
      rw [Nat.zero_testBit]
      rcases Nat.lt_or_ge j 16 with h | h
      · exact b j (Nat.zero_le _) h
      · exact tb16 hn h)) h0
/-- what nextSetBit answers -/
def r_next (m k : Nat) : Int32 := if nsb m k (16 - k) = 16 then -1 else nI (nsb m k (16 - k))
theorem next_eq {m k : Nat} {f : Nat → Int64} (hf : f 0 = lN m) (hm : m < 65536) (hk : k ≤ 16) : r_nextB f k = r_next m k := by
  have hb : ∀ j, (m &&& (2 ^ 64 - 2 ^ k)).testBit j = (m.testBit j && decide (k ≤ j)) := fun j => by
    rw [Nat.testBit_and]
    rcases Nat.lt_or_ge j 16 with h | h
    · rw [neg_bit k (by omega) j h]
    · rw [tb16 hm h]; rfl
  have hlt : (m &&& (2 ^ 64 - 2 ^ k)) < 65536 := lt16 (fun j hj => by rw [hb j, tb16 hm hj]; rfl)
  have hs : nsb (m &&& (2 ^ 64 - 2 ^ k)) 0 16 = nsb m k (16 - k) := by
    rcases nsb_spec m (16 - k) k (by omega) with ⟨a, b, c, d⟩ | ⟨a, b⟩
    · refine nsb_of (by decide) a (Nat.zero_le _) (by rw [hb, c]; simpa using b) (fun j _ hj => ?_)
      rw [hb]
      rcases Nat.lt_or_ge j k with h | h
      · simp; omega
      · rw [d j h hj]; rfl
    · rw [a]
      refine nsb_no (by decide) (fun j _ hj => ?_)
      rw [hb]
      rcases Nat.lt_or_ge j k with h | h
      · simp; omega
      · rw [b j h hj]; rfl
  simp only [r_nextB, r_next]
  rw [hf, neg_shl k (by omega), lN_and, ← hs]
  by_cases h0 : m &&& (2 ^ 64 - 2 ^ k) = 0
  · rw [h0, if_pos (by decide), if_pos (by decide)]
  · rw [if_neg (fun h => h0 (lg0 hlt h)), ntz_eq hlt h0]
    rcases nsb_spec (m &&& (2 ^ 64 - 2 ^ k)) 16 0 (by decide) with ⟨a, b, c, d⟩ | ⟨a, b⟩
    · rw [if_neg (by omega), nI_add, Nat.zero_mul, Nat.zero_add]
    · exact absurd (Nat.eq_of_testBit_eq (fun j => by
        rw [Nat.zero_testBit]
        rcases Nat.lt_or_ge j 16 with h | h
        · exact b j (Nat.zero_le _) h
        · exact tb16 hlt h)) h0
