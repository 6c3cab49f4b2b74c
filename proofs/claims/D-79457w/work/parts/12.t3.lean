/-! THE TWIN: copies, floats, the kiln (gen/mk_t3.py) -/
set_option maxRecDepth 100000
theorem hd_X3_copy : yX3_copy.cls = RX3 ∧ yX3_copy.cls ≠ "java/lang/invoke/MethodHandle" ∧ yX3_copy.cls ≠ "java/lang/invoke/VarHandle" ∧ (parseMethodDescriptor yX3_copy.desc).map (fun d => d.parameters.length) = some 4 := by decide +kernel
theorem cpy_0 (f h : Nat → Int32) (sp dp : Nat) : va_cpy f h sp dp 0 = h := by
  funext k
  unfold va_cpy
  rw [if_neg (by omega)]
theorem cpy_s (f h : Nat → Int32) (sp dp k : Nat) : upd (va_cpy f h sp dp k) (dp + k) (f (sp + k)) = va_cpy f h sp dp (k + 1) := by
  funext j
  unfold upd va_cpy
  by_cases e : j = dp + k
  · subst e
    rw [if_pos rfl, if_pos (by omega), show dp + k - dp = k by omega]
  · rw [if_neg e]
    by_cases e2 : dp ≤ j ∧ j < dp + k
    · rw [if_pos e2, if_pos (by omega)]
    · rw [if_neg e2, if_neg (by omega)]
theorem gset_same {G : Mem} {a : Nat} {x : va_E} (h : G a = some x) : gset G a x = G := by
  funext q
  unfold gset
  by_cases e : q = a
  · rw [if_pos e, e, h]
  · rw [if_neg e]
theorem gset_gset {G : Mem} {a : Nat} {x y : va_E} : gset (gset G a x) a y = gset G a y := by
  funext q
  unfold gset
  by_cases e : q = a
  · rw [if_pos e, if_pos e]
  · rw [if_neg e, if_neg e, if_neg e]
set_option maxHeartbeats 4000000 in
/-- copy: a row of 1108 numbers, from one array to another -/
theorem t_X3_copy (l : Launch) (Ω : jO) {G : Mem} {sz : Nat} {fa ta nf nt : Nat} {f h : Nat → Int32} (sp dp : Nat) (hf : G fa = some (.inl (Ω.2.1 0, nf, .inl f))) (ht : G ta = some (.inl (Ω.2.1 0, nt, .inl h))) (hne : fa ≠ ta) (hb : Ω.2.2.2 ≤ ta) (h1 : sp + 1108 ≤ nf) (h2 : dp + 1108 ≤ nt) (hnf : nf < 2147483648) (hnt : nt < 2147483648) :
    Met l yX3_copy (ws_ yX3_copy cX3_copy 5 none) ({ frames := 1, cells := 0, slots := 0, locals := 12 }) (va_Pc [.ref fa, .int (nI sp), .ref ta, .int (nI dp)] (jWd Ω G sz)) (jQ Ω (jD none (gset G ta (.inl (Ω.2.1 0, nt, .inl (va_cpy f h sp dp 1108)))) sz)) 0 0 (jB Ω) := by
  refine jMet (by decide) (Nat.le_of_ble_eq_true rfl) ?_
  intro p e s m args below meth c cx hr hnm
  refine J_loc [some (.ref fa), some (.int (nI sp)), some (.ref ta), some (.int (nI dp)), none] rfl ?_
  refine J_iconst (v := nI 0) cx dX3_copy_0 (by decide) ?_
  refine J_istore4 cx dX3_copy_1 (by decide) rfl ?_
  have loop : ∀ (n k : Nat), 1109 ≤ n + k → k ≤ 1108 → J p l e ({ frames := 1, cells := 0, slots := 0, locals := 12 } : Room) s m args below meth c Ω 5 (MQ below (jQ Ω (jD none (gset G ta (.inl (Ω.2.1 0, nt, .inl (va_cpy f h sp dp 1108)))) sz)) args s 0 0 (jB Ω)) 0 0 sz (gset G ta (.inl (Ω.2.1 0, nt, .inl (va_cpy f h sp dp k)))) 3 [some (.ref fa), some (.int (nI sp)), some (.ref ta), some (.int (nI dp)), some (.int (nI k))] [] := by
    intro n
    induction n with
    | zero => intro k hn hk; exact absurd hn (by omega)
    | succ n ih =>
      intro k hn hk
      refine J_iload cx dX3_copy_3 rfl ?_
      refine J_sipush (v := nI 1108) cx dX3_copy_5 (by decide) ?_
      refine J_icmpN_ge (tgt := 29) cx dX3_copy_8 (by decide) (by omega) (by omega) (fun c8 => ?_) (fun c8 => ?_)
      · have e : k = 1108 := by omega
        subst e
        exact J_vret cx dX3_copy_29 hr ⟨rfl, rfl, rfl⟩ (Nat.le_refl 0) (Nat.le_refl 0)
      · refine J_aload_n cx dX3_copy_11 rfl ?_
        refine J_iload_n cx dX3_copy_12 rfl ?_
        refine J_iload cx dX3_copy_13 rfl ?_
        refine J_iaddN cx dX3_copy_15 ?_
        refine J_aload_n cx dX3_copy_16 rfl ?_
        refine J_iload_n cx dX3_copy_17 rfl ?_
        refine J_iload cx dX3_copy_18 rfl ?_
        refine J_iaddN cx dX3_copy_20 ?_
        refine J_iald cx dX3_copy_21 ((gset_ne hne).trans hf) (by omega) hnf ?_
        refine J_iast cx dX3_copy_22 gset_eq (by omega) hnt hb ?_
        rw [gset_gset, cpy_s]
        refine J_iinc4 (v := nI (k + 1)) cx dX3_copy_23 (nI_1 k) (by decide) rfl ?_
        refine J_goto (tgt := 3) cx dX3_copy_26 (by decide) ?_
        exact ih (k + 1) (by omega) (by omega)
  have h0 := loop 1109 0 (by omega) (by omega)
  rw [cpy_0, gset_same ht] at h0
  exact h0

theorem t_copy_g_hi (l : Launch) (Ω : jO) {t : Nat} {G0 : Mem} {g hi sv as_ inp why now told bef : Nat → Int32} {ch hs fed fa ws ns ct st_ pl iw sn : Int32} {sz : Nat} (ht : Ω.2.2.2 ≤ t) (sp dp : Nat) (h1 : sp + 1108 ≤ 1108) (h2 : dp + 1108 ≤ 8864) : Met l yX3_copy (ws_ yX3_copy cX3_copy 5 none) ({ frames := 1, cells := 0, slots := 0, locals := 12 }) (va_Pc [.ref (t + 1), .int (nI sp), .ref (t + 2), .int (nI dp)] (jWd Ω (tov Ω t G0 g hi sv as_ inp why now told bef ch hs fed fa ws ns ct st_ pl iw sn) sz)) (jQ Ω (jD none (tov Ω t G0 g (va_cpy g hi sp dp 1108) sv as_ inp why now told bef ch hs fed fa ws ns ct st_ pl iw sn) sz)) 0 0 (jB Ω) := by
  have h := t_X3_copy (l := l) (Ω := Ω) (sz := sz) sp dp (tov_g (Ω := Ω) (t := t) (G0 := G0) (g := g) (hi := hi) (sv := sv) (as_ := as_) (inp := inp) (why := why) (now := now) (told := told) (bef := bef) (ch := ch) (hs := hs) (fed := fed) (fa := fa) (ws := ws) (ns := ns) (ct := ct) (st_ := st_) (pl := pl) (iw := iw) (sn := sn)) (tov_hi (Ω := Ω) (t := t) (G0 := G0) (g := g) (hi := hi) (sv := sv) (as_ := as_) (inp := inp) (why := why) (now := now) (told := told) (bef := bef) (ch := ch) (hs := hs) (fed := fed) (fa := fa) (ws := ws) (ns := ns) (ct := ct) (st_ := st_) (pl := pl) (iw := iw) (sn := sn)) (by omega) (Nat.le_trans ht (Nat.le_add_right _ _)) h1 h2 (by decide) (by decide)
  rw [tov_shi] at h
  exact h
theorem t_copy_g_as_ (l : Launch) (Ω : jO) {t : Nat} {G0 : Mem} {g hi sv as_ inp why now told bef : Nat → Int32} {ch hs fed fa ws ns ct st_ pl iw sn : Int32} {sz : Nat} (ht : Ω.2.2.2 ≤ t) (sp dp : Nat) (h1 : sp + 1108 ≤ 1108) (h2 : dp + 1108 ≤ 1108) : Met l yX3_copy (ws_ yX3_copy cX3_copy 5 none) ({ frames := 1, cells := 0, slots := 0, locals := 12 }) (va_Pc [.ref (t + 1), .int (nI sp), .ref (t + 4), .int (nI dp)] (jWd Ω (tov Ω t G0 g hi sv as_ inp why now told bef ch hs fed fa ws ns ct st_ pl iw sn) sz)) (jQ Ω (jD none (tov Ω t G0 g hi sv (va_cpy g as_ sp dp 1108) inp why now told bef ch hs fed fa ws ns ct st_ pl iw sn) sz)) 0 0 (jB Ω) := by
  have h := t_X3_copy (l := l) (Ω := Ω) (sz := sz) sp dp (tov_g (Ω := Ω) (t := t) (G0 := G0) (g := g) (hi := hi) (sv := sv) (as_ := as_) (inp := inp) (why := why) (now := now) (told := told) (bef := bef) (ch := ch) (hs := hs) (fed := fed) (fa := fa) (ws := ws) (ns := ns) (ct := ct) (st_ := st_) (pl := pl) (iw := iw) (sn := sn)) (tov_as_ (Ω := Ω) (t := t) (G0 := G0) (g := g) (hi := hi) (sv := sv) (as_ := as_) (inp := inp) (why := why) (now := now) (told := told) (bef := bef) (ch := ch) (hs := hs) (fed := fed) (fa := fa) (ws := ws) (ns := ns) (ct := ct) (st_ := st_) (pl := pl) (iw := iw) (sn := sn)) (by omega) (Nat.le_trans ht (Nat.le_add_right _ _)) h1 h2 (by decide) (by decide)
  rw [tov_sas_] at h
  exact h
theorem t_copy_as__g (l : Launch) (Ω : jO) {t : Nat} {G0 : Mem} {g hi sv as_ inp why now told bef : Nat → Int32} {ch hs fed fa ws ns ct st_ pl iw sn : Int32} {sz : Nat} (ht : Ω.2.2.2 ≤ t) (sp dp : Nat) (h1 : sp + 1108 ≤ 1108) (h2 : dp + 1108 ≤ 1108) : Met l yX3_copy (ws_ yX3_copy cX3_copy 5 none) ({ frames := 1, cells := 0, slots := 0, locals := 12 }) (va_Pc [.ref (t + 4), .int (nI sp), .ref (t + 1), .int (nI dp)] (jWd Ω (tov Ω t G0 g hi sv as_ inp why now told bef ch hs fed fa ws ns ct st_ pl iw sn) sz)) (jQ Ω (jD none (tov Ω t G0 (va_cpy as_ g sp dp 1108) hi sv as_ inp why now told bef ch hs fed fa ws ns ct st_ pl iw sn) sz)) 0 0 (jB Ω) := by
  have h := t_X3_copy (l := l) (Ω := Ω) (sz := sz) sp dp (tov_as_ (Ω := Ω) (t := t) (G0 := G0) (g := g) (hi := hi) (sv := sv) (as_ := as_) (inp := inp) (why := why) (now := now) (told := told) (bef := bef) (ch := ch) (hs := hs) (fed := fed) (fa := fa) (ws := ws) (ns := ns) (ct := ct) (st_ := st_) (pl := pl) (iw := iw) (sn := sn)) (tov_g (Ω := Ω) (t := t) (G0 := G0) (g := g) (hi := hi) (sv := sv) (as_ := as_) (inp := inp) (why := why) (now := now) (told := told) (bef := bef) (ch := ch) (hs := hs) (fed := fed) (fa := fa) (ws := ws) (ns := ns) (ct := ct) (st_ := st_) (pl := pl) (iw := iw) (sn := sn)) (by omega) (Nat.le_trans ht (Nat.le_add_right _ _)) h1 h2 (by decide) (by decide)
  rw [tov_sg] at h
  exact h
theorem t_copy_g_bef (l : Launch) (Ω : jO) {t : Nat} {G0 : Mem} {g hi sv as_ inp why now told bef : Nat → Int32} {ch hs fed fa ws ns ct st_ pl iw sn : Int32} {sz : Nat} (ht : Ω.2.2.2 ≤ t) (sp dp : Nat) (h1 : sp + 1108 ≤ 1108) (h2 : dp + 1108 ≤ 1108) : Met l yX3_copy (ws_ yX3_copy cX3_copy 5 none) ({ frames := 1, cells := 0, slots := 0, locals := 12 }) (va_Pc [.ref (t + 1), .int (nI sp), .ref (t + 9), .int (nI dp)] (jWd Ω (tov Ω t G0 g hi sv as_ inp why now told bef ch hs fed fa ws ns ct st_ pl iw sn) sz)) (jQ Ω (jD none (tov Ω t G0 g hi sv as_ inp why now told (va_cpy g bef sp dp 1108) ch hs fed fa ws ns ct st_ pl iw sn) sz)) 0 0 (jB Ω) := by
  have h := t_X3_copy (l := l) (Ω := Ω) (sz := sz) sp dp (tov_g (Ω := Ω) (t := t) (G0 := G0) (g := g) (hi := hi) (sv := sv) (as_ := as_) (inp := inp) (why := why) (now := now) (told := told) (bef := bef) (ch := ch) (hs := hs) (fed := fed) (fa := fa) (ws := ws) (ns := ns) (ct := ct) (st_ := st_) (pl := pl) (iw := iw) (sn := sn)) (tov_bef (Ω := Ω) (t := t) (G0 := G0) (g := g) (hi := hi) (sv := sv) (as_ := as_) (inp := inp) (why := why) (now := now) (told := told) (bef := bef) (ch := ch) (hs := hs) (fed := fed) (fa := fa) (ws := ws) (ns := ns) (ct := ct) (st_ := st_) (pl := pl) (iw := iw) (sn := sn)) (by omega) (Nat.le_trans ht (Nat.le_add_right _ _)) h1 h2 (by decide) (by decide)
  rw [tov_sbef] at h
  exact h
theorem t_copy_bef_g (l : Launch) (Ω : jO) {t : Nat} {G0 : Mem} {g hi sv as_ inp why now told bef : Nat → Int32} {ch hs fed fa ws ns ct st_ pl iw sn : Int32} {sz : Nat} (ht : Ω.2.2.2 ≤ t) (sp dp : Nat) (h1 : sp + 1108 ≤ 1108) (h2 : dp + 1108 ≤ 1108) : Met l yX3_copy (ws_ yX3_copy cX3_copy 5 none) ({ frames := 1, cells := 0, slots := 0, locals := 12 }) (va_Pc [.ref (t + 9), .int (nI sp), .ref (t + 1), .int (nI dp)] (jWd Ω (tov Ω t G0 g hi sv as_ inp why now told bef ch hs fed fa ws ns ct st_ pl iw sn) sz)) (jQ Ω (jD none (tov Ω t G0 (va_cpy bef g sp dp 1108) hi sv as_ inp why now told bef ch hs fed fa ws ns ct st_ pl iw sn) sz)) 0 0 (jB Ω) := by
  have h := t_X3_copy (l := l) (Ω := Ω) (sz := sz) sp dp (tov_bef (Ω := Ω) (t := t) (G0 := G0) (g := g) (hi := hi) (sv := sv) (as_ := as_) (inp := inp) (why := why) (now := now) (told := told) (bef := bef) (ch := ch) (hs := hs) (fed := fed) (fa := fa) (ws := ws) (ns := ns) (ct := ct) (st_ := st_) (pl := pl) (iw := iw) (sn := sn)) (tov_g (Ω := Ω) (t := t) (G0 := G0) (g := g) (hi := hi) (sv := sv) (as_ := as_) (inp := inp) (why := why) (now := now) (told := told) (bef := bef) (ch := ch) (hs := hs) (fed := fed) (fa := fa) (ws := ws) (ns := ns) (ct := ct) (st_ := st_) (pl := pl) (iw := iw) (sn := sn)) (by omega) (Nat.le_trans ht (Nat.le_add_right _ _)) h1 h2 (by decide) (by decide)
  rw [tov_sg] at h
  exact h
theorem t_copy_hi_g (l : Launch) (Ω : jO) {t : Nat} {G0 : Mem} {g hi sv as_ inp why now told bef : Nat → Int32} {ch hs fed fa ws ns ct st_ pl iw sn : Int32} {sz : Nat} (ht : Ω.2.2.2 ≤ t) (sp dp : Nat) (h1 : sp + 1108 ≤ 8864) (h2 : dp + 1108 ≤ 1108) : Met l yX3_copy (ws_ yX3_copy cX3_copy 5 none) ({ frames := 1, cells := 0, slots := 0, locals := 12 }) (va_Pc [.ref (t + 2), .int (nI sp), .ref (t + 1), .int (nI dp)] (jWd Ω (tov Ω t G0 g hi sv as_ inp why now told bef ch hs fed fa ws ns ct st_ pl iw sn) sz)) (jQ Ω (jD none (tov Ω t G0 (va_cpy hi g sp dp 1108) hi sv as_ inp why now told bef ch hs fed fa ws ns ct st_ pl iw sn) sz)) 0 0 (jB Ω) := by
  have h := t_X3_copy (l := l) (Ω := Ω) (sz := sz) sp dp (tov_hi (Ω := Ω) (t := t) (G0 := G0) (g := g) (hi := hi) (sv := sv) (as_ := as_) (inp := inp) (why := why) (now := now) (told := told) (bef := bef) (ch := ch) (hs := hs) (fed := fed) (fa := fa) (ws := ws) (ns := ns) (ct := ct) (st_ := st_) (pl := pl) (iw := iw) (sn := sn)) (tov_g (Ω := Ω) (t := t) (G0 := G0) (g := g) (hi := hi) (sv := sv) (as_ := as_) (inp := inp) (why := why) (now := now) (told := told) (bef := bef) (ch := ch) (hs := hs) (fed := fed) (fa := fa) (ws := ws) (ns := ns) (ct := ct) (st_ := st_) (pl := pl) (iw := iw) (sn := sn)) (by omega) (Nat.le_trans ht (Nat.le_add_right _ _)) h1 h2 (by decide) (by decide)
  rw [tov_sg] at h
  exact h
theorem t_copy_g_sv (l : Launch) (Ω : jO) {t : Nat} {G0 : Mem} {g hi sv as_ inp why now told bef : Nat → Int32} {ch hs fed fa ws ns ct st_ pl iw sn : Int32} {sz : Nat} (ht : Ω.2.2.2 ≤ t) (sp dp : Nat) (h1 : sp + 1108 ≤ 1108) (h2 : dp + 1108 ≤ 1108) : Met l yX3_copy (ws_ yX3_copy cX3_copy 5 none) ({ frames := 1, cells := 0, slots := 0, locals := 12 }) (va_Pc [.ref (t + 1), .int (nI sp), .ref (t + 3), .int (nI dp)] (jWd Ω (tov Ω t G0 g hi sv as_ inp why now told bef ch hs fed fa ws ns ct st_ pl iw sn) sz)) (jQ Ω (jD none (tov Ω t G0 g hi (va_cpy g sv sp dp 1108) as_ inp why now told bef ch hs fed fa ws ns ct st_ pl iw sn) sz)) 0 0 (jB Ω) := by
  have h := t_X3_copy (l := l) (Ω := Ω) (sz := sz) sp dp (tov_g (Ω := Ω) (t := t) (G0 := G0) (g := g) (hi := hi) (sv := sv) (as_ := as_) (inp := inp) (why := why) (now := now) (told := told) (bef := bef) (ch := ch) (hs := hs) (fed := fed) (fa := fa) (ws := ws) (ns := ns) (ct := ct) (st_ := st_) (pl := pl) (iw := iw) (sn := sn)) (tov_sv (Ω := Ω) (t := t) (G0 := G0) (g := g) (hi := hi) (sv := sv) (as_ := as_) (inp := inp) (why := why) (now := now) (told := told) (bef := bef) (ch := ch) (hs := hs) (fed := fed) (fa := fa) (ws := ws) (ns := ns) (ct := ct) (st_ := st_) (pl := pl) (iw := iw) (sn := sn)) (by omega) (Nat.le_trans ht (Nat.le_add_right _ _)) h1 h2 (by decide) (by decide)
  rw [tov_ssv] at h
  exact h
theorem t_copy_sv_g (l : Launch) (Ω : jO) {t : Nat} {G0 : Mem} {g hi sv as_ inp why now told bef : Nat → Int32} {ch hs fed fa ws ns ct st_ pl iw sn : Int32} {sz : Nat} (ht : Ω.2.2.2 ≤ t) (sp dp : Nat) (h1 : sp + 1108 ≤ 1108) (h2 : dp + 1108 ≤ 1108) : Met l yX3_copy (ws_ yX3_copy cX3_copy 5 none) ({ frames := 1, cells := 0, slots := 0, locals := 12 }) (va_Pc [.ref (t + 3), .int (nI sp), .ref (t + 1), .int (nI dp)] (jWd Ω (tov Ω t G0 g hi sv as_ inp why now told bef ch hs fed fa ws ns ct st_ pl iw sn) sz)) (jQ Ω (jD none (tov Ω t G0 (va_cpy sv g sp dp 1108) hi sv as_ inp why now told bef ch hs fed fa ws ns ct st_ pl iw sn) sz)) 0 0 (jB Ω) := by
  have h := t_X3_copy (l := l) (Ω := Ω) (sz := sz) sp dp (tov_sv (Ω := Ω) (t := t) (G0 := G0) (g := g) (hi := hi) (sv := sv) (as_ := as_) (inp := inp) (why := why) (now := now) (told := told) (bef := bef) (ch := ch) (hs := hs) (fed := fed) (fa := fa) (ws := ws) (ns := ns) (ct := ct) (st_ := st_) (pl := pl) (iw := iw) (sn := sn)) (tov_g (Ω := Ω) (t := t) (G0 := G0) (g := g) (hi := hi) (sv := sv) (as_ := as_) (inp := inp) (why := why) (now := now) (told := told) (bef := bef) (ch := ch) (hs := hs) (fed := fed) (fa := fa) (ws := ws) (ns := ns) (ct := ct) (st_ := st_) (pl := pl) (iw := iw) (sn := sn)) (by omega) (Nat.le_trans ht (Nat.le_add_right _ _)) h1 h2 (by decide) (by decide)
  rw [tov_sg] at h
  exact h
def nat_ (g : Nat → Int32) (i b : Nat) : Prop := g i = nI (tn (g i)) ∧ tn (g i) ≤ b
def S_rem (hi : Nat → Int32) : Nat → (Nat → Int32)
  | 0 => hi
  | k1 + 1 => (upd (S_rem hi k1) (k1) ((S_rem hi k1) (k1 + 1108)))
def o_X3_remembers_hi (g : Nat → Int32) (hi : Nat → Int32) (ch : Int32) : Nat → Int32 := (if (tn ch) = 8 then (va_cpy g (S_rem hi 7756) 0 (((tn ch) - 1) * 1108) 1108) else (va_cpy g hi 0 ((tn ch) * 1108) 1108))
def o_X3_remembers_ch (ch : Int32) : Int32 := (if (tn ch) = 8 then (nI (((tn ch) - 1) + 1)) else (nI ((tn ch) + 1)))
theorem hd_X3_remembers : yX3_remembers.cls = RX3 ∧ yX3_remembers.cls ≠ "java/lang/invoke/MethodHandle" ∧ yX3_remembers.cls ≠ "java/lang/invoke/VarHandle" ∧ (parseMethodDescriptor yX3_remembers.desc).map (fun d => d.parameters.length) = some 0 := by decide +kernel
set_option maxHeartbeats 4000000 in
theorem t_X3_remembers (l : Launch) (Ω : jO) {t : Nat} {G0 : Mem} {g hi sv as_ inp why now told bef : Nat → Int32} {ch hs fed fa ws ns ct st_ pl iw sn : Int32} {sz : Nat} (ht : Ω.2.2.2 ≤ t)  (hch : ch = nI (tn ch)) (hch8 : tn ch ≤ 8) : Met l yX3_remembers (ws_ yX3_remembers cX3_remembers 2 (none)) ({ frames := 2, cells := 0, slots := 0, locals := 36 }) (va_Pc [.ref t] (jWd Ω (tov Ω t G0 g hi sv as_ inp why now told bef ch hs fed fa ws ns ct st_ pl iw sn) sz)) (jQ Ω (jD none (tov Ω t G0 g (o_X3_remembers_hi g hi ch) sv as_ inp why now told bef (o_X3_remembers_ch ch) hs fed fa ws ns ct st_ pl iw sn) sz)) 0 0 (jB Ω) := by
  refine jMet (by decide) (Nat.le_of_ble_eq_true rfl) ?_
  intro p e s m args below meth c cx hr hnm
  refine J_loc [some (.ref t), none] rfl ?_
  refine J_aload_n cx dX3_remembers_0 rfl ?_
  refine T_get_ch cx dX3_remembers_1 ?_
  refine J_top (.int (nI (tn ch))) (congrArg Value.int (hch)) ?_
  refine J_bipush (v := nI (8)) cx dX3_remembers_4 (by decide) ?_
  refine J_icmpN_ne (tgt := 50) cx dX3_remembers_6 (by decide) (by omega) (by omega) (fun c6 => ?_) (fun c6 => ?_)
  · refine J_aload_n cx dX3_remembers_50 rfl ?_
    refine T_get_g cx dX3_remembers_51 ?_
    refine J_iconst (v := nI (0)) cx dX3_remembers_54 (by decide) ?_
    refine J_aload_n cx dX3_remembers_55 rfl ?_
    refine T_get_hi cx dX3_remembers_56 ?_
    refine J_aload_n cx dX3_remembers_59 rfl ?_
    refine T_get_ch cx dX3_remembers_60 ?_
    refine J_top (.int (nI (tn ch))) (congrArg Value.int (hch)) ?_
    refine J_sipush (v := nI (1108)) cx dX3_remembers_63 (by decide) ?_
    refine J_imulN cx dX3_remembers_66 ?_
    refine T_callSV cx [.ref (t + 1), .int (nI (0)), .ref (t + 2), .int (nI ((tn ch) * 1108))] (t_copy_g_hi l Ω ht (0) ((tn ch) * 1108) (by omega) (by omega)) dX3_remembers_67 (lw_S q2701 q2702 q93 q2703) hd_X3_copy.2 rfl rfl ⟨Nat.le_of_ble_eq_true rfl, Nat.le_of_ble_eq_true rfl⟩ rfl rfl (Nat.le_of_ble_eq_true rfl) ?_
    refine J_aload_n cx dX3_remembers_70 rfl ?_
    refine J_dup cx dX3_remembers_71 rfl ?_
    refine T_get_ch cx dX3_remembers_72 ?_
    refine J_top (.int (nI (tn ch))) (congrArg Value.int (hch)) ?_
    refine J_iconst (v := nI (1)) cx dX3_remembers_75 (by decide) ?_
    refine J_iaddN cx dX3_remembers_76 ?_
    refine T_put_ch cx ht dX3_remembers_77 ?_
    exact J_vret cx dX3_remembers_80 hr ⟨rfl, (tov_cg rfl (by simp only [o_X3_remembers_hi, o_X3_remembers_ch, if_neg c6]) rfl rfl rfl rfl rfl rfl rfl (by simp only [o_X3_remembers_hi, o_X3_remembers_ch, if_neg c6]) rfl rfl rfl rfl rfl rfl rfl rfl rfl rfl), rfl⟩ (Nat.le_refl 0) (Nat.le_refl 0)
  · refine J_iconst (v := nI (0)) cx dX3_remembers_9 (by decide) ?_
    refine J_istore_n1 cx dX3_remembers_10 (by decide) rfl ?_
    have loop11 : ∀ (n k1 : Nat), 7756 + 1 ≤ n + k1 → k1 ≤ 7756 → J p l e ({ frames := 2, cells := 0, slots := 0, locals := 36 } : Room) s m args below meth c Ω 2 (MQ below (jQ Ω (jD none (tov Ω t G0 g (o_X3_remembers_hi g hi ch) sv as_ inp why now told bef (o_X3_remembers_ch ch) hs fed fa ws ns ct st_ pl iw sn) sz)) args s 0 0 (jB Ω)) 0 0 sz (tov Ω t G0 g (S_rem hi k1) sv as_ inp why now told bef ch hs fed fa ws ns ct st_ pl iw sn) 11 [some (.ref t), some (.int (nI (k1)))] [] := by
      intro n
      induction n with
      | zero => intro k1 hn1 hk1 ; exact absurd hn1 (by omega)
      | succ n ih =>
        intro k1 hn1 hk1 
        refine J_iload_n cx dX3_remembers_11 rfl ?_
        refine J_sipush (v := nI (7756)) cx dX3_remembers_12 (by decide) ?_
        refine J_icmpN_ge (tgt := 40) cx dX3_remembers_15 (by decide) (by omega) (by omega) (fun c15 => ?_) (fun c15 => ?_)
        · have hkx : 7756 = k1 := Eq.symm (by omega)
          subst hkx
          refine J_aload_n cx dX3_remembers_40 rfl ?_
          refine J_dup cx dX3_remembers_41 rfl ?_
          refine T_get_ch cx dX3_remembers_42 ?_
          refine J_top (.int (nI (tn ch))) (congrArg Value.int (hch)) ?_
          refine J_iconst (v := nI (1)) cx dX3_remembers_45 (by decide) ?_
          refine J_isubN cx dX3_remembers_46 (by omega) ?_
          refine T_put_ch cx ht dX3_remembers_47 ?_
          refine J_aload_n cx dX3_remembers_50 rfl ?_
          refine T_get_g cx dX3_remembers_51 ?_
          refine J_iconst (v := nI (0)) cx dX3_remembers_54 (by decide) ?_
          refine J_aload_n cx dX3_remembers_55 rfl ?_
          refine T_get_hi cx dX3_remembers_56 ?_
          refine J_aload_n cx dX3_remembers_59 rfl ?_
          refine T_get_ch cx dX3_remembers_60 ?_
          refine J_sipush (v := nI (1108)) cx dX3_remembers_63 (by decide) ?_
          refine J_imulN cx dX3_remembers_66 ?_
          refine T_callSV cx [.ref (t + 1), .int (nI (0)), .ref (t + 2), .int (nI (((tn ch) - 1) * 1108))] (t_copy_g_hi l Ω ht (0) (((tn ch) - 1) * 1108) (by omega) (by omega)) dX3_remembers_67 (lw_S q2701 q2702 q93 q2703) hd_X3_copy.2 rfl rfl ⟨Nat.le_of_ble_eq_true rfl, Nat.le_of_ble_eq_true rfl⟩ rfl rfl (Nat.le_of_ble_eq_true rfl) ?_
          refine J_aload_n cx dX3_remembers_70 rfl ?_
          refine J_dup cx dX3_remembers_71 rfl ?_
          refine T_get_ch cx dX3_remembers_72 ?_
          refine J_iconst (v := nI (1)) cx dX3_remembers_75 (by decide) ?_
          refine J_iaddN cx dX3_remembers_76 ?_
          refine T_put_ch cx ht dX3_remembers_77 ?_
          exact J_vret cx dX3_remembers_80 hr ⟨rfl, (tov_cg rfl (by simp only [o_X3_remembers_hi, o_X3_remembers_ch, if_pos c6, if_neg (Nat.not_lt.mpr c15)]) rfl rfl rfl rfl rfl rfl rfl (by simp only [o_X3_remembers_hi, o_X3_remembers_ch, if_pos c6, if_neg (Nat.not_lt.mpr c15)]) rfl rfl rfl rfl rfl rfl rfl rfl rfl rfl), rfl⟩ (Nat.le_refl 0) (Nat.le_refl 0)
        · refine J_aload_n cx dX3_remembers_18 rfl ?_
          refine T_get_hi cx dX3_remembers_19 ?_
          refine J_iload_n cx dX3_remembers_22 rfl ?_
          refine J_aload_n cx dX3_remembers_23 rfl ?_
          refine T_get_hi cx dX3_remembers_24 ?_
          refine J_iload_n cx dX3_remembers_27 rfl ?_
          refine J_sipush (v := nI (1108)) cx dX3_remembers_28 (by decide) ?_
          refine J_iaddN cx dX3_remembers_31 ?_
          refine T_ld_hi cx dX3_remembers_32 (by omega) ?_
          refine T_st_hi cx ht dX3_remembers_33 (by omega) ?_
          refine J_iinc1 (v := nI (k1 + 1)) cx dX3_remembers_34 (nI_1 k1) (by decide) rfl ?_
          refine J_goto (tgt := 11) cx dX3_remembers_37 (by decide) ?_
          refine J_mem (tov Ω t G0 g (S_rem hi (k1 + 1)) sv as_ inp why now told bef ch hs fed fa ws ns ct st_ pl iw sn) (tov_cg rfl (by simp only [S_rem, if_pos c6, if_pos c15]) rfl rfl rfl rfl rfl rfl rfl rfl rfl rfl rfl rfl rfl rfl rfl rfl rfl rfl) ?_
          refine J_sub (L1 := [some (.ref t), some (.int (nI (k1 + 1)))]) (jsub_s (jsub_s jsub_0)) ?_
          exact ih (k1 + 1) (by omega) (by omega) 
    refine J_sub (L1 := [some (.ref t), some (.int (nI (0)))]) (jsub_s (jsub_s jsub_0)) ?_
    exact loop11 (7756 + 1) 0 (by omega) (by omega) 
theorem z_J36_isNaN  : narrow .boolean (.int (nI (0))) = .int (nI (0)) := by (repeat' split) <;> first | rfl
theorem hd_J36_isNaN : yJ36_isNaN.cls = RJ36 ∧ yJ36_isNaN.cls ≠ "java/lang/invoke/MethodHandle" ∧ yJ36_isNaN.cls ≠ "java/lang/invoke/VarHandle" ∧ (parseMethodDescriptor yJ36_isNaN.desc).map (fun d => d.parameters.length) = some 1 := by decide +kernel
set_option maxHeartbeats 4000000 in
theorem t_J36_isNaN (l : Launch) (Ω : jO) {G : Mem} {sz : Nat} (x9 : UInt32) (hn : FP.fcmp x9 x9 = some .eq) : Met l yJ36_isNaN (ws_ yJ36_isNaN cJ36_isNaN 1 (some .boolean)) ({ frames := 1, cells := 0, slots := 0, locals := 12 }) (va_Pc [.float (x9)] (jWd Ω (G) sz)) (jQ Ω (jD (some (.int (nI (0)))) (G) sz)) 0 0 (jB Ω) := by
  refine jMetF (by decide +kernel) (Nat.le_of_ble_eq_true rfl) ?_
  intro p e s m args below meth c cx hr hnm
  refine J_loc [some (.float (x9))] rfl ?_
  refine J_fload_n cx dJ36_isNaN_0 rfl ?_
  refine J_fload_n cx dJ36_isNaN_1 rfl ?_
  refine J_fcmp cx dJ36_isNaN_2 ?_
  refine J_if_eq (tgt := 10) cx dJ36_isNaN_3 (by decide) (fun c3 => ?_) (fun c3 => absurd c3 (by rw [hn]; decide))
  refine J_iconst (v := nI (0)) cx dJ36_isNaN_10 (by decide) ?_
  exact J_zret cx dJ36_isNaN_11 hr (by first | rfl | exact z_J36_isNaN ..) ⟨congrArg some (congrArg Value.int rfl), rfl, rfl⟩ (Nat.le_refl 0) (Nat.le_refl 0)
theorem hd_J36_floatToIntBits : yJ36_floatToIntBits.cls = RJ36 ∧ yJ36_floatToIntBits.cls ≠ "java/lang/invoke/MethodHandle" ∧ yJ36_floatToIntBits.cls ≠ "java/lang/invoke/VarHandle" ∧ (parseMethodDescriptor yJ36_floatToIntBits.desc).map (fun d => d.parameters.length) = some 1 := by decide +kernel
set_option maxHeartbeats 4000000 in
theorem t_J36_floatToIntBits (l : Launch) (Ω : jO) {G : Mem} {sz : Nat} (x9 : UInt32) (hn : FP.fcmp x9 x9 = some .eq) : Met l yJ36_floatToIntBits (ws_ yJ36_floatToIntBits cJ36_floatToIntBits 1 (some .int)) ({ frames := 2, cells := 0, slots := 0, locals := 32 }) (va_Pc [.float (x9)] (jWd Ω (G) sz)) (jQ Ω (jD (some (.int ((x9.toInt32)))) (G) sz)) 0 0 (jB Ω) := by
  refine jMetF (by decide +kernel) (Nat.le_of_ble_eq_true rfl) ?_
  intro p e s m args below meth c cx hr hnm
  refine J_loc [some (.float (x9))] rfl ?_
  refine J_fload_n cx dJ36_floatToIntBits_0 rfl ?_
  refine T_callSI cx [.float (x9)] (t_J36_isNaN l Ω (x9) hn) dJ36_floatToIntBits_1 (lw_S q2889 q2890 q139 q2891) hd_J36_isNaN.2 rfl rfl ⟨Nat.le_of_ble_eq_true rfl, Nat.le_of_ble_eq_true rfl⟩ rfl rfl (Nat.le_of_ble_eq_true rfl) ?_
  refine J_if_ne (tgt := 12) cx dJ36_floatToIntBits_4 (by decide) (fun c4 => absurd c4 (by decide)) (fun c4 => ?_)
  refine J_fload_n cx dJ36_floatToIntBits_7 rfl ?_
  refine J_f2ib cx dJ36_floatToIntBits_8 q2892 q2894 q2893 q139 (Nat.le_of_ble_eq_true rfl) (Nat.le_of_ble_eq_true rfl) ?_
  exact J_iret cx dJ36_floatToIntBits_11 hr ⟨congrArg some (congrArg Value.int rfl), rfl, rfl⟩ (Nat.le_refl 0) (Nat.le_refl 0)
def r_X3_loss (m9 : UInt32) (d9 : Int32) (r9 : Int32) : UInt32 := (FP.fdiv (FP.fmul m9 (FP.i2f (d9 * ((nI (11)) - r9)))) 1148846080)
theorem hd_X3_loss : yX3_loss.cls = RX3 ∧ yX3_loss.cls ≠ "java/lang/invoke/MethodHandle" ∧ yX3_loss.cls ≠ "java/lang/invoke/VarHandle" ∧ (parseMethodDescriptor yX3_loss.desc).map (fun d => d.parameters.length) = some 3 := by decide +kernel
set_option maxHeartbeats 4000000 in
theorem t_X3_loss (l : Launch) (Ω : jO) {G : Mem} {sz : Nat} (m9 : UInt32) (d9 : Int32) (r9 : Int32) (h1 : vf_n32 (FP.fmul m9 (FP.i2f (d9 * (nI (11) - r9))))) (h2 : vf_n32 (FP.fdiv (FP.fmul m9 (FP.i2f (d9 * (nI (11) - r9)))) 1148846080)) : Met l yX3_loss (ws_ yX3_loss cX3_loss 3 (some .float)) ({ frames := 1, cells := 0, slots := 0, locals := 12 }) (va_Pc [.float (m9), .int (d9), .int (r9)] (jWd Ω (G) sz)) (jQ Ω (jD (some (.float (r_X3_loss m9 d9 r9))) (G) sz)) 0 0 (jB Ω) := by
  refine jMet (by decide) (Nat.le_of_ble_eq_true rfl) ?_
  intro p e s m args below meth c cx hr hnm
  refine J_loc [some (.float (m9)), some (.int (d9)), some (.int (r9))] rfl ?_
  refine J_fload_n cx dX3_loss_0 rfl ?_
  refine J_iload_n cx dX3_loss_1 rfl ?_
  refine J_bipush (v := nI (11)) cx dX3_loss_2 (by decide) ?_
  refine J_iload_n cx dX3_loss_4 rfl ?_
  refine J_isub cx dX3_loss_5 ?_
  refine J_imul cx dX3_loss_6 ?_
  refine J_i2f cx dX3_loss_7 ?_
  refine J_fmul cx dX3_loss_8 h1 ?_
  refine J_ldcf cx dX3_loss_9 q2770 ?_
  refine J_fdiv cx dX3_loss_11 h2 ?_
  exact J_fret cx dX3_loss_12 hr ⟨congrArg some (congrArg Value.float (by simp only [r_X3_loss])), rfl, rfl⟩ (Nat.le_refl 0) (Nat.le_refl 0)
theorem hd_X3_moistureOf : yX3_moistureOf.cls = RX3 ∧ yX3_moistureOf.cls ≠ "java/lang/invoke/MethodHandle" ∧ yX3_moistureOf.cls ≠ "java/lang/invoke/VarHandle" ∧ (parseMethodDescriptor yX3_moistureOf.desc).map (fun d => d.parameters.length) = some 1 := by decide +kernel
set_option maxHeartbeats 4000000 in
theorem t_X3_moistureOf (l : Launch) (Ω : jO) {t : Nat} {G0 : Mem} {g hi sv as_ inp why now told bef : Nat → Int32} {ch hs fed fa ws ns ct st_ pl iw sn : Int32} {sz : Nat} (ht : Ω.2.2.2 ≤ t) (p9 : Nat) (hp : p9 < 16) (hsn : vn_sni2f (g (50 + 13 * p9 + 11)) = false) : Met l yX3_moistureOf (ws_ yX3_moistureOf cX3_moistureOf 2 (some .float)) ({ frames := 2, cells := 0, slots := 0, locals := 32 }) (va_Pc [.ref t, .int (nI (p9))] (jWd Ω (tov Ω t G0 g hi sv as_ inp why now told bef ch hs fed fa ws ns ct st_ pl iw sn) sz)) (jQ Ω (jD (some (.float (((g ((50 + (13 * p9)) + 11)).toUInt32)))) (tov Ω t G0 g hi sv as_ inp why now told bef ch hs fed fa ws ns ct st_ pl iw sn) sz)) 0 0 (jB Ω) := by
  refine jMet (by decide) (Nat.le_of_ble_eq_true rfl) ?_
  intro p e s m args below meth c cx hr hnm
  refine J_loc [some (.ref t), some (.int (nI (p9)))] rfl ?_
  refine J_aload_n cx dX3_moistureOf_0 rfl ?_
  refine T_get_g cx dX3_moistureOf_1 ?_
  refine J_iload_n cx dX3_moistureOf_4 rfl ?_
  refine T_callSI cx [.int (nI (p9))] (t_X3_at l Ω (p9)) dX3_moistureOf_5 (lw_S q2736 q2737 q93 q2738) hd_X3_at.2 rfl rfl ⟨Nat.le_of_ble_eq_true rfl, Nat.le_of_ble_eq_true rfl⟩ rfl rfl (Nat.le_of_ble_eq_true rfl) ?_
  refine J_bipush (v := nI (11)) cx dX3_moistureOf_8 (by decide) ?_
  refine J_iaddN cx dX3_moistureOf_10 ?_
  refine T_ld_g cx dX3_moistureOf_11 (by omega) ?_
  refine J_i2fb cx dX3_moistureOf_12 q2759 q2761 q2760 q139 hsn (Nat.le_of_ble_eq_true rfl) (Nat.le_of_ble_eq_true rfl) ?_
  exact J_fret cx dX3_moistureOf_15 hr ⟨congrArg some (congrArg Value.float rfl), rfl, rfl⟩ (Nat.le_refl 0) (Nat.le_refl 0)
def reachOk (g : Nat → Int32) (p9 : Nat) : Prop := nat_ g (50 + 13 * p9 + 6) 3 ∧ vf_n32 (FP.fdiv (FP.i2f (g (50 + 13 * p9 + 7) * g (4 + tn (g (50 + 13 * p9 + 6))))) (FP.i2f (g (50 + 13 * p9 + 2))))
def shelfOk (g : Nat → Int32) : Prop := ∀ k, k < 8 → g (41 + k) = -1 ∨ (nat_ g (41 + k) 15 ∧ reachOk g (tn (g (41 + k))))
def r_X3_reach (g : Nat → Int32) (p9 : Nat) : Int32 := (FP.f2i (FP.fdiv (FP.i2f ((g ((50 + (13 * p9)) + 7)) * (g (4 + (tn (g ((50 + (13 * p9)) + 6))))))) (FP.i2f (g ((50 + (13 * p9)) + 2)))))
theorem hd_X3_reach : yX3_reach.cls = RX3 ∧ yX3_reach.cls ≠ "java/lang/invoke/MethodHandle" ∧ yX3_reach.cls ≠ "java/lang/invoke/VarHandle" ∧ (parseMethodDescriptor yX3_reach.desc).map (fun d => d.parameters.length) = some 1 := by decide +kernel
set_option maxHeartbeats 4000000 in
theorem t_X3_reach (l : Launch) (Ω : jO) {t : Nat} {G0 : Mem} {g hi sv as_ inp why now told bef : Nat → Int32} {ch hs fed fa ws ns ct st_ pl iw sn : Int32} {sz : Nat} (ht : Ω.2.2.2 ≤ t) (p9 : Nat) (hp : p9 < 16) (hrc : reachOk g p9) : Met l yX3_reach (ws_ yX3_reach cX3_reach 3 (some .int)) ({ frames := 2, cells := 0, slots := 0, locals := 32 }) (va_Pc [.ref t, .int (nI (p9))] (jWd Ω (tov Ω t G0 g hi sv as_ inp why now told bef ch hs fed fa ws ns ct st_ pl iw sn) sz)) (jQ Ω (jD (some (.int (r_X3_reach g p9))) (tov Ω t G0 g hi sv as_ inp why now told bef ch hs fed fa ws ns ct st_ pl iw sn) sz)) 0 0 (jB Ω) := by
  refine jMet (by decide) (Nat.le_of_ble_eq_true rfl) ?_
  intro p e s m args below meth c cx hr hnm
  refine J_loc [some (.ref t), some (.int (nI (p9))), none] rfl ?_
  have hrc2 := hrc.1.2
  refine J_iload_n cx dX3_reach_0 rfl ?_
  refine T_callSI cx [.int (nI (p9))] (t_X3_at l Ω (p9)) dX3_reach_1 (lw_S q2736 q2737 q93 q2738) hd_X3_at.2 rfl rfl ⟨Nat.le_of_ble_eq_true rfl, Nat.le_of_ble_eq_true rfl⟩ rfl rfl (Nat.le_of_ble_eq_true rfl) ?_
  refine J_istore_n2 cx dX3_reach_4 (by decide) rfl ?_
  refine J_aload_n cx dX3_reach_5 rfl ?_
  refine T_get_g cx dX3_reach_6 ?_
  refine J_iload_n cx dX3_reach_9 rfl ?_
  refine J_bipush (v := nI (7)) cx dX3_reach_10 (by decide) ?_
  refine J_iaddN cx dX3_reach_12 ?_
  refine T_ld_g cx dX3_reach_13 (by omega) ?_
  refine J_aload_n cx dX3_reach_14 rfl ?_
  refine T_get_g cx dX3_reach_15 ?_
  refine J_iconst (v := nI (4)) cx dX3_reach_18 (by decide) ?_
  refine J_aload_n cx dX3_reach_19 rfl ?_
  refine T_get_g cx dX3_reach_20 ?_
  refine J_iload_n cx dX3_reach_23 rfl ?_
  refine J_bipush (v := nI (6)) cx dX3_reach_24 (by decide) ?_
  refine J_iaddN cx dX3_reach_26 ?_
  refine T_ld_g cx dX3_reach_27 (by omega) ?_
  refine J_top (.int (nI (tn (g ((50 + (13 * p9)) + 6))))) (congrArg Value.int (hrc.1.1)) ?_
  refine J_iaddN cx dX3_reach_28 ?_
  refine T_ld_g cx dX3_reach_29 (by omega) ?_
  refine J_imul cx dX3_reach_30 ?_
  refine J_i2f cx dX3_reach_31 ?_
  refine J_aload_n cx dX3_reach_32 rfl ?_
  refine T_get_g cx dX3_reach_33 ?_
  refine J_iload_n cx dX3_reach_36 rfl ?_
  refine J_iconst (v := nI (2)) cx dX3_reach_37 (by decide) ?_
  refine J_iaddN cx dX3_reach_38 ?_
  refine T_ld_g cx dX3_reach_39 (by omega) ?_
  refine J_i2f cx dX3_reach_40 ?_
  refine J_fdiv cx dX3_reach_41 hrc.2 ?_
  refine J_f2i cx dX3_reach_42 ?_
  exact J_iret cx dX3_reach_43 hr ⟨congrArg some (congrArg Value.int (by simp only [r_X3_reach])), rfl, rfl⟩ (Nat.le_refl 0) (Nat.le_refl 0)
