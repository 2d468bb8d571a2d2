/-! the reference: matching, days -/
set_option maxRecDepth 100000
theorem bestN_c {s : Nat → Nat} {c : Nat → Bool} : ∀ n q, jfold (bestF s c) n none = some q → c q = true := by
  intro n
  induction n with
  | zero => intro q h; cases h
  | succ n ih =>
    intro q h
    rw [jfold_succ] at h
    unfold bestF at h
    split at h
    · next e => cases h; exact e.1
    · exact ih q h
theorem nextN_c {s : Nat → Nat} {k : Nat} (h : nextN s = some k) : waitN s k = true ∧ ∃ p, favN s k true = some p := by
  have q := bestN_c 10 k h
  rw [Bool.and_eq_true] at q
  exact ⟨q.1, Option.isSome_iff_exists.mp q.2⟩
theorem favN_c {s : Nat → Nat} {k : Nat} : ∀ n p, jfold (favF s k true) n none = some p → fitN s k p = true ∧ pFl s p = 0 := by
  intro n
  induction n with
  | zero => intro q h; cases h
  | succ n ih =>
    intro q h
    rw [jfold_succ] at h
    unfold favF at h
    split at h
    · next e => cases h; exact ⟨e.1, e.2.1 rfl⟩
    · exact ih q h
/-- the greedy matching -/
def matchF : Nat → (Nat → Nat) → Nat → Nat × (Nat → Nat)
  | 0, s, m => (m, s)
  | f + 1, s, m => match nextN s with
    | none => (m, s)
    | some k => match favN s k true with
      | none => (m, s)
      | some p => matchF f (fillS s p k) (m + 1)
def matchD (s : Nat → Nat) : Nat × Int32 × (Nat → Nat) := (0, nI (matchF 7 s 0).1, (matchF 7 s 0).2)
theorem vacF_up {s : Nat → Nat} {p k : Nat} : ∀ i, jfold (vacF (fillS s p k)) i 0 = if p < i ∧ pFl s p = 0 then jfold (vacF s) i 0 - 1 else jfold (vacF s) i 0 := by
  intro i
  induction i with
  | zero => rfl
  | succ i ih =>
    rw [jfold_succ, jfold_succ, ih]
    have e : pFl (fillS s p k) i = if i = p then k + 1 else pFl s i := by
      unfold pFl fillS jup
      by_cases h : i = p
      · rw [if_pos (by omega), if_pos h]
      · rw [if_neg (by omega), if_neg h]
    have pos : p < i → pFl s p = 0 → 0 < jfold (vacF s) i 0 := by
      intro h1 h2
      clear ih e
      induction i with
      | zero => omega
      | succ j ih =>
        rw [jfold_succ]
        by_cases h : p = j
        · subst h; unfold vacF; rw [if_pos h2]; omega
        · have := ih (by omega); generalize jfold (vacF s) j 0 = z at *; unfold vacF; split <;> omega
    generalize jfold (vacF s) i 0 = z at *
    unfold vacF
    rw [e]
    by_cases h : i = p
    · subst h
      by_cases h0 : pFl s i = 0 <;> simp [h0]
    · have h4 : p < i + 1 ↔ p < i := by omega
      by_cases h1 : p < i <;> by_cases h2 : pFl s p = 0 <;> by_cases h3 : pFl s i = 0 <;> simp [h, h1, h2, h3, h4]
      · have := pos h1 h2; omega
theorem vac_pos {s : Nat → Nat} {p : Nat} (h0 : pFl s p = 0) : ∀ n, p < n → 0 < jfold (vacF s) n 0 := by
  intro n
  induction n with
  | zero => intro h; omega
  | succ j ih =>
    intro hp
    rw [jfold_succ]
    by_cases h : p = j
    · subst h; unfold vacF; rw [if_pos h0]; omega
    · have := ih (by omega); generalize jfold (vacF s) j 0 = z at *; unfold vacF; split <;> omega
theorem vac_fill {s : Nat → Nat} {p k : Nat} (hp : p < s 2) (h0 : pFl s p = 0) : vacN (fillS s p k) + 1 = vacN s := by
  unfold vacN
  rw [show fillS s p k 2 = s 2 from jup_ne (by omega), vacF_up, if_pos ⟨hp, h0⟩]
  have := vac_pos h0 (s 2) hp
  omega
theorem c_X3_doMatch (l : Launch) (G : JG) (H : Heap) {g : Nat → Nat} {ar : Nat → Nat → Nat} {cm fs : Nat → Int32} (hT : jtw G H g ar cm fs) (hB : Bs (ar 0)) (h6 : fs 6 = 0) : JMet l yX3_doMatch (ws_ yX3_doMatch cX3_doMatch 3 (some .int)) 5 0 G H [.ref (g 100)] (twU G H g ar cm fs (matchD (ar 0))) (jno) := by
  refine JMet.of [(0, .inr (some (g 100)))] (by decide) (Nat.le_of_ble_eq_true rfl) rfl (fun X hl hX hQ hEx hr hnm hH => ?_)
  subst hl
  obtain ⟨h0, ho, hs, hbf, hsv, hpa, hou, hip, hcm⟩ := id hT
  have hi2 : vp_in (2 : Int32) 93 := vp_in_nI (n := 2) (by omega) (by decide)
  obtain ⟨h2, hb, hf, hg⟩ := id hB
  have hF : JFr (twP g) H H := JFr.rfl'
  obtain ⟨M, hM⟩ : ∃ M, matchF 7 (ar 0) 0 = M := ⟨_, rfl⟩
  have loop : ∀ f (s : Nat → Nat) (m : Nat) (H1 : Heap), vacN s < f → Bs s → JFr (twP g) H H1 → jtw G H1 g (jup ar 0 s) cm fs → matchF f s m = M → JW X G H1 0 7 [(0, .inr (some (g 100))), (1, .inl (.int (nI m))), (2, .inl (.int (oI (nextN s))))] [] := by
    intro f
    induction f with
    | zero => intro s m H1 h; omega
    | succ f ih =>
      intro s m H1 hv hB hF hT he
      obtain ⟨h2, hb, hf, hg⟩ := id hB
      have ho := hT.2.1
      unfold matchF at he
      refine j_iload_n (pc := 7) hX dX3_doMatch_7 rfl rfl ?_
      refine j_if_lt (pc := 8) (tgt := 33) hX dX3_doMatch_8 (by decide) (fun c_8 => ?_) (fun c_8 => ?_)
      · rw [oI_neg' (fun _ => nextN_lt) (by omega)] at c_8
        simp only [c_8] at he
        refine j_iload_n (pc := 33) hX dX3_doMatch_33 rfl rfl ?_
        exact j_iret hX hQ hr dX3_doMatch_34 ⟨_, rfl, twU_ok h6 (by unfold matchD; rw [hM, ← he]) hF hT⟩
      · rw [Int32.not_lt, oI_pos' (fun _ => nextN_lt) (by omega)] at c_8
        obtain ⟨k, c_8, hk⟩ := c_8
        simp only [c_8] at he
        obtain ⟨hw, p, hp⟩ := nextN_c c_8
        simp only [hp] at he
        have hp2 := favN_lt hp
        have hp0 := (favN_c _ p hp).2
        first | refine j_aload_n (pc := 11) hX dX3_doMatch_11 rfl rfl ?_ | refine j_aload_nq (pc := 11) hX dX3_doMatch_11 rfl rfl ?_
        first | refine j_aload_n (pc := 12) hX dX3_doMatch_12 rfl rfl ?_ | refine j_aload_nq (pc := 12) hX dX3_doMatch_12 rfl rfl ?_
        refine j_iload_n (pc := 13) hX dX3_doMatch_13 rfl rfl ?_
        refine j_iconst (pc := 14) (v := 1) hX dX3_doMatch_14 (by decide) ?_
        rw [oI_some c_8]
        refine j_rune (pc := 15) (jr_V (pc := 15) hX kv_X3_158 (by first | assumption | exact jow.r (by assumption)) (c_X3_favourite _ _ _ hT hB k true hk) (by decide) dX3_doMatch_15 rfl rfl (Nat.le_of_ble_eq_true rfl)) ?_ jno_x
        refine j_iload_n (pc := 18) hX dX3_doMatch_18 rfl rfl ?_
        change JW X G H1 0 19 _ [.int (nI k), .int (oI (favN s k true)), _]
        rw [oI_some hp]
        refine j_runv (pc := 19) (jr_V (pc := 19) hX kv_X3_165 (by first | assumption | exact jow.r (by assumption)) (c_X3_fills _ _ _ hT p k (by omega) hk) (by decide) dX3_doMatch_19 rfl rfl (Nat.le_of_ble_eq_true rfl)) (fun H_19 p_19 z_19 => ?_) jno_x
        have hF := JFr.trans hF p_19.1
        have hT := p_19.2
        obtain ⟨h0, ho, hs, hbf, hsv, hpa, hou, hip, hcm⟩ := id hT
        rw [jup_jup, jup_same] at hT
        have hB' := fillS_B (p := p) hB hk
        have hv' := vac_fill (k := k) hp2 hp0
        refine j_iincc (pc := 22) (m := 1) hX dX3_doMatch_22 rfl (by decide) (by decide) rfl ?_
        first | refine j_aload_n (pc := 25) hX dX3_doMatch_25 rfl rfl ?_ | refine j_aload_nq (pc := 25) hX dX3_doMatch_25 rfl rfl ?_
        refine j_rune (pc := 26) (jr_V (pc := 26) hX kv_X3_178 (by first | assumption | exact jow.r (by assumption)) (c_X3_nextToHire _ _ _ hT hB') (by decide) dX3_doMatch_26 rfl rfl (Nat.le_of_ble_eq_true rfl)) ?_ jno_x
        refine j_istore_n (pc := 29) hX dX3_doMatch_29 rfl (by decide) rfl ?_
        refine j_goto (pc := 30) (tgt := 7) hX dX3_doMatch_30 (by decide) ?_
        exact j_lv (by simp [jsb, jget, jval, nI_1, jup_same, fillS]) (ih (fillS s p k) (m + 1) _ (by omega) hB' hF hT he)
  have hv := vacN_le (ar 0)
  refine j_iconst (pc := 0) (v := 0) hX dX3_doMatch_0 (by decide) ?_
  refine j_istore_n (pc := 1) hX dX3_doMatch_1 rfl (by decide) rfl ?_
  first | refine j_aload_n (pc := 2) hX dX3_doMatch_2 rfl rfl ?_ | refine j_aload_nq (pc := 2) hX dX3_doMatch_2 rfl rfl ?_
  refine j_rune (pc := 3) (jr_V (pc := 3) hX kv_X3_178 (by first | assumption | exact jow.r (by assumption)) (c_X3_nextToHire _ _ _ hT hB) (by decide) dX3_doMatch_3 rfl rfl (Nat.le_of_ble_eq_true rfl)) ?_ jno_x
  refine j_istore_n (pc := 6) hX dX3_doMatch_6 rfl (by decide) rfl ?_
  exact loop 7 (ar 0) 0 _ (by omega) hB hF (by rw [jup_id]; exact hT) hM
/-- a day passes for the one who fills a post -/
def payS (s : Nat → Nat) (p : Nat) : Nat → Nat :=
  jup (jup s (3 + 6 * (pFl s p - 1) + 4) (aCo s (pFl s p - 1) + pWg s p)) (3 + 6 * (pFl s p - 1) + 3) (min 50 (aRn s (pFl s p - 1) + 1))
def payF (p : Nat) (q : (Nat → Nat) × Nat) : (Nat → Nat) × Nat :=
  if pFl q.1 p = 0 then q else if fitN (payS q.1 p) (pFl q.1 p - 1) p then (payS q.1 p, q.2) else (jup (payS q.1 p) (63 + 5 * p + 4) 0, q.2 + 1)
def dayF (s : Nat → Nat) : (Nat → Nat) × Nat := jfold payF (s 2) (s, 0)
def dayS (s : Nat → Nat) : Nat → Nat := jup (dayF s).1 1 (s 1 + 1)
/-- bounds that days keep -/
def Bd (c : Nat) (s : Nat → Nat) : Prop := Bs s ∧ (∀ p, p < 6 → pWg s p ≤ 99) ∧ (∀ k, k < 10 → aCo s k ≤ c) ∧ ∀ k, k < 10 → aRn s k ≤ 50
theorem Bd.up0 {c : Nat} {s : Nat → Nat} {p : Nat} (h : Bd c s) (hp : p < 6) : Bd c (jup s (63 + 5 * p + 4) 0) := by
  obtain ⟨a, b, d, e⟩ := h
  refine ⟨a.up0, fun q hq => ?_, fun k hk => ?_, fun k hk => ?_⟩
  · have := b q hq; unfold pWg jup at *; split <;> omega
  · have := d k hk; unfold aCo jup at *; split <;> omega
  · have := e k hk; unfold aRn jup at *; split <;> omega
theorem Bd.mono {c c' : Nat} {s : Nat → Nat} (h : Bd c s) (hc : c ≤ c') : Bd c' s := ⟨h.1, h.2.1, fun k hk => Nat.le_trans (h.2.2.1 k hk) hc, h.2.2.2⟩
theorem payS_B {c : Nat} {s : Nat → Nat} {p : Nat} (h : Bd c s) (hp : p < 6) (hc : c + 99 < 2 ^ 24) (h0 : pFl s p ≠ 0) : Bd (c + 99) (payS s p) := by
  obtain ⟨a, b, d, e⟩ := h
  have f := a.2.2.1 p hp
  have bw := b p hp
  have dk := d (pFl s p - 1) (by omega)
  have ek := e (pFl s p - 1) (by omega)
  refine ⟨?_, fun q hq => ?_, fun k hk => ?_, fun k hk => ?_⟩
  · refine (a.up (i := 3 + 6 * (pFl s p - 1) + 4) (v := aCo s (pFl s p - 1) + pWg s p) (by omega) (fun z => by omega) (fun _ _ z => by omega) (fun _ _ z => by omega)).up (by omega) (fun z => by omega) (fun _ _ z => by omega) (fun _ _ z => by omega)
  · have := b q hq
    unfold payS pWg
    rw [jup_ne (by omega), jup_ne (by omega)]; exact this
  · have := d k hk
    unfold payS aCo
    rw [jup_ne (by omega)]
    unfold jup; split
    · exact Nat.add_le_add dk bw
    · exact Nat.le_trans this (by omega)
  · have := e k hk
    unfold payS aRn
    unfold jup; split
    · exact Nat.min_le_left _ _
    · split <;> omega
theorem payF_B {c : Nat} {q : (Nat → Nat) × Nat} {p : Nat} (h : Bd c q.1) (hp : p < 6) (hc : c + 99 < 2 ^ 24) : Bd (c + 99) (payF p q).1 := by
  unfold payF; split
  · exact h.mono (by omega)
  · next e =>
    split
    · exact payS_B h hp hc e
    · exact (payS_B h hp hc e).up0 hp
theorem payS_lo {s : Nat → Nat} {p j : Nat} (h : j < 3) : payS s p j = s j := by unfold payS; rw [jup_ne (by omega), jup_ne (by omega)]
theorem payS_lo2 {s : Nat → Nat} {p j : Nat} (h : j < 3) : jup (payS s p) (63 + 5 * p + 4) 0 j = s j := by rw [jup_ne (by omega), payS_lo h]
theorem payF_2 {q : (Nat → Nat) × Nat} {p : Nat} : (payF p q).1 2 = q.1 2 ∧ (payF p q).1 1 = q.1 1 ∧ (payF p q).1 0 = q.1 0 := by
  unfold payF; split
  · exact ⟨rfl, rfl, rfl⟩
  · split
    · exact ⟨payS_lo (s := q.1) (p := p) (j := 2) (by omega), payS_lo (s := q.1) (p := p) (j := 1) (by omega), payS_lo (s := q.1) (p := p) (j := 0) (by omega)⟩
    · exact ⟨payS_lo2 (s := q.1) (p := p) (j := 2) (by omega), payS_lo2 (s := q.1) (p := p) (j := 1) (by omega), payS_lo2 (s := q.1) (p := p) (j := 0) (by omega)⟩
theorem dayF_B {c : Nat} {s : Nat → Nat} (h : Bd c s) : ∀ i, i ≤ 6 → c + 99 * 6 < 2 ^ 24 → Bd (c + 99 * i) (jfold payF i (s, 0)).1 ∧ (jfold payF i (s, 0)).1 2 = s 2 ∧ (jfold payF i (s, 0)).1 1 = s 1 ∧ (jfold payF i (s, 0)).1 0 = s 0 := by
  intro i
  induction i with
  | zero => intro _ _; exact ⟨h, rfl, rfl, rfl⟩
  | succ i ih =>
    intro hi hc
    obtain ⟨a, b, d, e⟩ := ih (by omega) hc
    have q := payF_2 (q := jfold payF i (s, 0)) (p := i)
    refine ⟨?_, q.1.trans b, q.2.1.trans d, q.2.2.trans e⟩
    have := payF_B (p := i) a (by omega) (by omega)
    rw [show c + 99 * (i + 1) = c + 99 * i + 99 by omega]; exact this
theorem pay_no {p : Nat} {q : (Nat → Nat) × Nat} (h : pFl q.1 p = 0) : payF p q = q := by unfold payF; rw [if_pos h]
theorem pay_fit {p : Nat} {q : (Nat → Nat) × Nat} (h : pFl q.1 p ≠ 0) (h2 : fitN (payS q.1 p) (pFl q.1 p - 1) p = true) : payF p q = (payS q.1 p, q.2) := by unfold payF; rw [if_neg h, if_pos h2]
theorem pay_out {p : Nat} {q : (Nat → Nat) × Nat} (h : pFl q.1 p ≠ 0) (h2 : fitN (payS q.1 p) (pFl q.1 p - 1) p = false) : payF p q = (jup (payS q.1 p) (63 + 5 * p + 4) 0, q.2 + 1) := by unfold payF; rw [if_neg h, if_neg (by rw [h2]; decide)]
theorem nI_min {a : Nat} (h : a < 2 ^ 30) : (if nI a < (50 : Int32) then nI a else 50) = nI (min 50 a) := by
  have e : nI a < (50 : Int32) ↔ a < 50 := nI_ltI (b := 50) (by omega) (by omega)
  by_cases q : a < 50
  · rw [if_pos (e.mpr q), Nat.min_eq_right (by omega)]
  · rw [if_neg (fun z => q (e.mp z)), Nat.min_eq_left (by omega)]; rfl
theorem c_X3_doPassDay (l : Launch) (G : JG) (H : Heap) {g : Nat → Nat} {ar : Nat → Nat → Nat} {cm fs : Nat → Int32} (hT : jtw G H g ar cm fs) (c : Nat) (hD : Bd c (ar 0)) (hc : c + 594 < 2 ^ 24) (hd : ar 0 1 + 1 < 2 ^ 24) : JMet l yX3_doPassDay (ws_ yX3_doPassDay cX3_doPassDay 4 (some .int)) 3 0 G H [.ref (g 100)] (jpi (fun r H1 => twR G H H1 g (jup ar 0 (dayS (ar 0))) cm fs ∧ r = nI (dayF (ar 0)).2)) (jno) := by
  refine JMet.of [(0, .inr (some (g 100)))] (by decide) (Nat.le_of_ble_eq_true rfl) rfl (fun X hl hX hQ hEx hr hnm hH => ?_)
  subst hl
  obtain ⟨h0, ho, hs, hbf, hsv, hpa, hou, hip, hcm⟩ := id hT
  have hi2 : vp_in (2 : Int32) 93 := vp_in_nI (n := 2) (by omega) (by decide)
  have hF : JFr (twP g) H H := JFr.rfl'
  have hi1 : vp_in (1 : Int32) 93 := vp_in_nI (n := 1) (by omega) (by decide)
  have h2 := hD.1.1
  refine j_iconst (pc := 0) (v := 0) hX dX3_doPassDay_0 (by decide) ?_
  refine j_istore_n (pc := 1) hX dX3_doPassDay_1 rfl (by decide) rfl ?_
  refine j_iconst (pc := 2) (v := 0) hX dX3_doPassDay_2 (by decide) ?_
  refine j_istore_n (pc := 3) hX dX3_doPassDay_3 rfl (by decide) rfl ?_
  refine jloop (P := fun i => ∀ H1, JFr (twP g) H H1 → jtw G H1 g (jup ar 0 (jfold payF i (ar 0, 0)).1) cm fs → JW X G H1 0 4 [(0, .inr (some (g 100))), (1, .inl (.int (nI (jfold payF i (ar 0, 0)).2))), (2, .inl (.int (nI i)))] []) (ar 0 2) (fun H1 hF hT => ?_) (fun i hi ih H1 hF hT => ?_) 0 (by omega) _ hF (by rw [show (jfold payF 0 (ar 0, 0)).1 = ar 0 from rfl, jup_id]; exact hT)
  · obtain ⟨eB, e2, e1, -⟩ := dayF_B hD (ar 0 2) h2 (by omega)
    have e0 : jup ar 0 (jfold payF (ar 0 2) (ar 0, 0)).1 0 = (jfold payF (ar 0 2) (ar 0, 0)).1 := rfl
    change jtw G H1 g (jup ar 0 (dayF (ar 0)).1) cm fs at hT
    change (dayF (ar 0)).1 2 = ar 0 2 at e2
    change (dayF (ar 0)).1 1 = ar 0 1 at e1
    have eS : dayS (ar 0) = jup (dayF (ar 0)).1 1 (ar 0 1 + 1) := rfl
    change JW X G H1 0 4 [(0, .inr (some (g 100))), (1, .inl (.int (nI (dayF (ar 0)).2))), (2, .inl (.int (nI (ar 0 2))))] []
    generalize dayF (ar 0) = D at *
    obtain ⟨h0, ho, hs, hbf, hsv, hpa, hou, hip, hcm⟩ := id hT
    refine j_iload_n (pc := 4) hX dX3_doPassDay_4 rfl rfl ?_
    first | refine j_aload_n (pc := 5) hX dX3_doPassDay_5 rfl rfl ?_ | refine j_aload_nq (pc := 5) hX dX3_doPassDay_5 rfl rfl ?_
    refine j_get (pc := 6) hX kg_X3_9 dX3_doPassDay_6 (by first | assumption | exact jow.r (by assumption)) (by rfl) ?_
    refine j_iconst (pc := 9) (v := 2) hX dX3_doPassDay_9 (by decide) ?_
    refine j_iald (pc := 10) hX dX3_doPassDay_10 (by first | assumption | exact jaw.r hX (by decide) (by assumption)) (by assumption) ?_
    change JW X G H1 0 11 _ [.int (nI (D.1 2)), _]
    rw [e2]
    refine j_icmp_ge (pc := 11) (tgt := 97) hX dX3_doPassDay_11 (by decide) (fun c_11 => ?_) (fun c_11 => ?_)
    rotate_left
    · exact absurd (jge_no (a := ar 0 2) c_11 (by omega) (by omega)) (by omega)
    first | refine j_aload_n (pc := 97) hX dX3_doPassDay_97 rfl rfl ?_ | refine j_aload_nq (pc := 97) hX dX3_doPassDay_97 rfl rfl ?_
    refine j_get (pc := 98) hX kg_X3_9 dX3_doPassDay_98 (by first | assumption | exact jow.r (by assumption)) (by rfl) ?_
    refine j_iconst (pc := 101) (v := 1) hX dX3_doPassDay_101 (by decide) ?_
    refine j_dup2_11 (pc := 102) hX dX3_doPassDay_102 (by first | rfl | exact jrf_cat _) (by first | rfl | exact jrf_cat _) ?_
    refine j_iald (pc := 103) hX dX3_doPassDay_103 (by first | assumption | exact jaw.r hX (by decide) (by assumption)) (by assumption) ?_
    change JW X G H1 0 104 _ [.int (nI (D.1 1)), _, _]
    refine j_iconst (pc := 104) (v := 1) hX dX3_doPassDay_104 (by decide) ?_
    refine j_iadd (pc := 105) hX dX3_doPassDay_105 ?_
    rw [nI_1, e1]
    refine j_iast (pc := 106) hX dX3_doPassDay_106 (by assumption) (h0.1 _ (by decide)) (by assumption) (fun H_106 w_106 n_106 => ?_)
    have hT := tw_arr0 hT w_106 n_106 (tw_hf _ _ _ _)
    have hF := JFr.put hF w_106 (fun _ => ⟨0, by decide, rfl⟩)
    obtain ⟨h0, ho, hs, hbf, hsv, hpa, hou, hip, hcm⟩ := id hT
    refine j_iload_n (pc := 107) hX dX3_doPassDay_107 rfl rfl ?_
    exact j_iret hX hQ hr dX3_doPassDay_108 ⟨_, rfl, ⟨hF, by rw [eS]; simp only [jup_jup, jup_same] at hT; exact hT⟩, rfl⟩
  · obtain ⟨eB, e2, e1, -⟩ := dayF_B hD i (by omega) (by omega)
    have es : jfold payF (i + 1) (ar 0, 0) = payF i (jfold payF i (ar 0, 0)) := rfl
    rw [es] at ih
    generalize jfold payF i (ar 0, 0) = q at *
    obtain ⟨h0, ho, hs, hbf, hsv, hpa, hou, hip, hcm⟩ := id hT
    have hB := eB.1
    have hb := hB.2.1
    have hf := hB.2.2.1 i (by omega)
    have hBp := fun h => payS_B (p := i) eB (by omega) (by omega) h
    have hck := eB.2.2.1
    have hrk := eB.2.2.2
    have hwk := eB.2.1 i (by omega)
    refine j_iload_n (pc := 4) hX dX3_doPassDay_4 rfl rfl ?_
    first | refine j_aload_n (pc := 5) hX dX3_doPassDay_5 rfl rfl ?_ | refine j_aload_nq (pc := 5) hX dX3_doPassDay_5 rfl rfl ?_
    refine j_get (pc := 6) hX kg_X3_9 dX3_doPassDay_6 (by first | assumption | exact jow.r (by assumption)) (by rfl) ?_
    refine j_iconst (pc := 9) (v := 2) hX dX3_doPassDay_9 (by decide) ?_
    refine j_iald (pc := 10) hX dX3_doPassDay_10 (by first | assumption | exact jaw.r hX (by decide) (by assumption)) (by assumption) ?_
    change JW X G H1 0 11 _ [.int (nI (q.1 2)), _]
    rw [e2]
    refine j_icmp_ge (pc := 11) (tgt := 97) hX dX3_doPassDay_11 (by decide) (fun c_11 => ?_) (fun c_11 => ?_)
    · exact absurd (jge_yes (a := ar 0 2) c_11 (by omega) (by omega)) (by omega)
    first | refine j_aload_n (pc := 14) hX dX3_doPassDay_14 rfl rfl ?_ | refine j_aload_nq (pc := 14) hX dX3_doPassDay_14 rfl rfl ?_
    refine j_iload_n (pc := 15) hX dX3_doPassDay_15 rfl rfl ?_
    refine j_iconst (pc := 16) (v := 4) hX dX3_doPassDay_16 (by decide) ?_
    refine j_rune (pc := 17) (jr_V (pc := 17) hX kv_X3_59 (by first | assumption | exact jow.r (by assumption)) (c_X3_ofPost _ _ _ hT i 4 (by omega) (by omega)) (by decide) dX3_doPassDay_17 rfl rfl (Nat.le_of_ble_eq_true rfl)) ?_ jno_x
    change JW X G H1 0 20 _ [.int (nI (pFl q.1 i))]
    refine j_iconst (pc := 20) (v := 1) hX dX3_doPassDay_20 (by decide) ?_
    refine j_isub (pc := 21) hX dX3_doPassDay_21 ?_
    refine j_istore_n (pc := 22) hX dX3_doPassDay_22 rfl (by decide) rfl ?_
    refine j_iload_n (pc := 23) hX dX3_doPassDay_23 rfl rfl ?_
    refine j_if_lt (pc := 24) (tgt := 91) hX dX3_doPassDay_24 (by decide) (fun c_24 => ?_) (fun c_24 => ?_)
    · have c_24' : pFl q.1 i = 0 := by rcases Nat.eq_zero_or_pos (pFl q.1 i) with e | e; exact e; exact absurd c_24 (by rw [(Nat.sub_add_cancel e).symm, nI_pred]; exact nI_pos (by omega))
      rw [pay_no c_24'] at ih
      refine j_iincc (pc := 91) (m := 1) hX dX3_doPassDay_91 rfl (by decide) (by decide) rfl ?_
      refine j_goto (pc := 94) (tgt := 4) hX dX3_doPassDay_94 (by decide) ?_
      exact j_lv (by simp [jsb, jget, jval, nI_1]) (ih _ hF hT)
    · have c_24' : 0 < pFl q.1 i := by rcases Nat.eq_zero_or_pos (pFl q.1 i) with e | e; exact absurd (by rw [e]; decide) c_24; exact e
      obtain ⟨k, hk⟩ : ∃ k, pFl q.1 i = k + 1 := ⟨pFl q.1 i - 1, (Nat.sub_add_cancel c_24').symm⟩
      have hkk : k < 10 := by omega
      have hP : payS q.1 i = jup (jup q.1 (3 + 6 * k + 4) (aCo q.1 k + pWg q.1 i)) (3 + 6 * k + 3) (min 50 (aRn q.1 k + 1)) := by unfold payS; rw [hk, Nat.add_sub_cancel]
      rw [hk, nI_pred]
      first | refine j_aload_n (pc := 27) hX dX3_doPassDay_27 rfl rfl ?_ | refine j_aload_nq (pc := 27) hX dX3_doPassDay_27 rfl rfl ?_
      refine j_iload_n (pc := 28) hX dX3_doPassDay_28 rfl rfl ?_
      refine j_iconst (pc := 29) (v := 4) hX dX3_doPassDay_29 (by decide) ?_
      first | refine j_aload_n (pc := 30) hX dX3_doPassDay_30 rfl rfl ?_ | refine j_aload_nq (pc := 30) hX dX3_doPassDay_30 rfl rfl ?_
      refine j_iload_n (pc := 31) hX dX3_doPassDay_31 rfl rfl ?_
      refine j_iconst (pc := 32) (v := 4) hX dX3_doPassDay_32 (by decide) ?_
      refine j_rune (pc := 33) (jr_V (pc := 33) hX kv_X3_55 (by first | assumption | exact jow.r (by assumption)) (c_X3_of _ _ _ hT k 4 hkk (by omega)) (by decide) dX3_doPassDay_33 rfl rfl (Nat.le_of_ble_eq_true rfl)) ?_ jno_x
      first | refine j_aload_n (pc := 36) hX dX3_doPassDay_36 rfl rfl ?_ | refine j_aload_nq (pc := 36) hX dX3_doPassDay_36 rfl rfl ?_
      refine j_iload_n (pc := 37) hX dX3_doPassDay_37 rfl rfl ?_
      refine j_iconst (pc := 38) (v := 3) hX dX3_doPassDay_38 (by decide) ?_
      refine j_rune (pc := 39) (jr_V (pc := 39) hX kv_X3_59 (by first | assumption | exact jow.r (by assumption)) (c_X3_ofPost _ _ _ hT i 3 (by omega) (by omega)) (by decide) dX3_doPassDay_39 rfl rfl (Nat.le_of_ble_eq_true rfl)) ?_ jno_x
      refine j_iadd (pc := 42) hX dX3_doPassDay_42 ?_
      rw [nI_add]
      refine j_runv (pc := 43) (jr_V (pc := 43) hX kv_X3_89 (by first | assumption | exact jow.r (by assumption)) (c_X3_sets _ _ _ hT k 4 _ hkk (by omega)) (by decide) dX3_doPassDay_43 rfl rfl (Nat.le_of_ble_eq_true rfl)) (fun H_43 p_43 z_43 => ?_) jno_x
      have hF := JFr.trans hF p_43.1
      have hT := p_43.2
      obtain ⟨h0, ho, hs, hbf, hsv, hpa, hou, hip, hcm⟩ := id hT
      simp only [jup_jup, jup_same] at hT
      have ho := hT.2.1
      first | refine j_aload_n (pc := 46) hX dX3_doPassDay_46 rfl rfl ?_ | refine j_aload_nq (pc := 46) hX dX3_doPassDay_46 rfl rfl ?_
      refine j_iload_n (pc := 47) hX dX3_doPassDay_47 rfl rfl ?_
      refine j_iconst (pc := 48) (v := 3) hX dX3_doPassDay_48 (by decide) ?_
      refine j_bipush (pc := 49) (v := 50) hX dX3_doPassDay_49 (by decide) ?_
      first | refine j_aload_n (pc := 51) hX dX3_doPassDay_51 rfl rfl ?_ | refine j_aload_nq (pc := 51) hX dX3_doPassDay_51 rfl rfl ?_
      refine j_iload_n (pc := 52) hX dX3_doPassDay_52 rfl rfl ?_
      refine j_iconst (pc := 53) (v := 3) hX dX3_doPassDay_53 (by decide) ?_
      refine j_rune (pc := 54) (jr_V (pc := 54) hX kv_X3_55 (by first | assumption | exact jow.r (by assumption)) (c_X3_of _ _ _ hT k 3 hkk (by omega)) (by decide) dX3_doPassDay_54 rfl rfl (Nat.le_of_ble_eq_true rfl)) ?_ jno_x
      change JW X G H_43 0 57 _ (.int (nI (jup q.1 (3 + 6 * k + 4) (aCo q.1 k + pWg q.1 i) (3 + 6 * k + 3))) :: _)
      rw [jup_ne (show 3 + 6 * k + 3 ≠ 3 + 6 * k + 4 by omega)]
      refine j_iconst (pc := 57) (v := 1) hX dX3_doPassDay_57 (by decide) ?_
      refine j_iadd (pc := 58) hX dX3_doPassDay_58 ?_
      rw [nI_1]
      refine j_mmin (pc := 59) hX km_X3_198 dX3_doPassDay_59 (by decide) (Nat.le_of_ble_eq_true rfl) ?_
      rw [nI_min (by have := hrk k hkk; unfold aRn at this; omega)]
      refine j_runv (pc := 62) (jr_V (pc := 62) hX kv_X3_89 (by first | assumption | exact jow.r (by assumption)) (c_X3_sets _ _ _ hT k 3 _ hkk (by omega)) (by decide) dX3_doPassDay_62 rfl rfl (Nat.le_of_ble_eq_true rfl)) (fun H_62 p_62 z_62 => ?_) jno_x
      have hF := JFr.trans hF p_62.1
      have hT := p_62.2
      obtain ⟨h0, ho, hs, hbf, hsv, hpa, hou, hip, hcm⟩ := id hT
      simp only [jup_jup, jup_same] at hT
      have hT : jtw G H_62 g (jup ar 0 (payS q.1 i)) cm fs := by rw [hP]; exact hT
      have hBq := hBp (by omega)
      obtain ⟨h0, ho, hs, hbf, hsv, hpa, hou, hip, hcm⟩ := id hT
      first | refine j_aload_n (pc := 65) hX dX3_doPassDay_65 rfl rfl ?_ | refine j_aload_nq (pc := 65) hX dX3_doPassDay_65 rfl rfl ?_
      refine j_iload_n (pc := 66) hX dX3_doPassDay_66 rfl rfl ?_
      refine j_iload_n (pc := 67) hX dX3_doPassDay_67 rfl rfl ?_
      refine j_rune (pc := 68) (jr_V (pc := 68) hX kv_X3_152 (by first | assumption | exact jow.r (by assumption)) (c_X3_fits _ _ _ hT hBq.1 k i hkk (by omega)) (by decide) dX3_doPassDay_68 rfl rfl (Nat.le_of_ble_eq_true rfl)) ?_ jno_x
      refine j_if_ne (pc := 71) (tgt := 91) hX dX3_doPassDay_71 (by decide) (fun c_71 => ?_) (fun c_71 => ?_)
      · rw [jb_n] at c_71
        rw [pay_fit (by omega) (by rw [hk]; exact c_71)] at ih
        refine j_iincc (pc := 91) (m := 1) hX dX3_doPassDay_91 rfl (by decide) (by decide) rfl ?_
        refine j_goto (pc := 94) (tgt := 4) hX dX3_doPassDay_94 (by decide) ?_
        exact j_lv (by simp [jsb, jget, jval, nI_1]) (ih _ hF hT)
      · rw [jb_z] at c_71
        rw [pay_out (by omega) (by rw [hk]; exact c_71)] at ih
        have hin : vp_in (nI (63 + 5 * i + 4)) 93 := vp_in_nI (by omega) (by decide)
        first | refine j_aload_n (pc := 74) hX dX3_doPassDay_74 rfl rfl ?_ | refine j_aload_nq (pc := 74) hX dX3_doPassDay_74 rfl rfl ?_
        refine j_get (pc := 75) hX kg_X3_9 dX3_doPassDay_75 (by first | assumption | exact jow.r (by assumption)) (by rfl) ?_
        refine j_bipush (pc := 78) (v := 63) hX dX3_doPassDay_78 (by decide) ?_
        refine j_iconst (pc := 80) (v := 5) hX dX3_doPassDay_80 (by decide) ?_
        refine j_iload_n (pc := 81) hX dX3_doPassDay_81 rfl rfl ?_
        refine j_imul (pc := 82) hX dX3_doPassDay_82 ?_
        refine j_iadd (pc := 83) hX dX3_doPassDay_83 ?_
        refine j_iconst (pc := 84) (v := 4) hX dX3_doPassDay_84 (by decide) ?_
        refine j_iadd (pc := 85) hX dX3_doPassDay_85 ?_
        change JW X G H_62 0 86 _ [.int (63 + 5 * nI i + nI 4), _]
        rw [tw_px]
        refine j_iconst (pc := 86) (v := 0) hX dX3_doPassDay_86 (by decide) ?_
        refine j_iast (pc := 87) hX dX3_doPassDay_87 (by assumption) (h0.1 _ (by decide)) (by assumption) (fun H_87 w_87 n_87 => ?_)
        rw [nI_clamp (by omega)] at n_87
        have hT := tw_arr0 hT w_87 n_87 (tw_hf _ _ _ _)
        have hF := JFr.put hF w_87 (fun _ => ⟨0, by decide, rfl⟩)
        obtain ⟨h0, ho, hs, hbf, hsv, hpa, hou, hip, hcm⟩ := id hT
        simp only [jup_jup, jup_same] at hT
        refine j_iincc (pc := 88) (m := 1) hX dX3_doPassDay_88 rfl (by decide) (by decide) rfl ?_
        refine j_iincc (pc := 91) (m := 1) hX dX3_doPassDay_91 rfl (by decide) (by decide) rfl ?_
        refine j_goto (pc := 94) (tgt := 4) hX dX3_doPassDay_94 (by decide) ?_
        exact j_lv (by simp [jsb, jget, jval, nI_1]) (ih _ hF hT)

theorem dayS_B {c : Nat} {s : Nat → Nat} (h : Bd c s) (hc : c + 594 < 2 ^ 24) (hd : s 1 + 1 < 2 ^ 24) : Bd (c + 594) (dayS s) ∧ dayS s 1 = s 1 + 1 ∧ dayS s 2 = s 2 ∧ dayS s 0 = s 0 := by
  obtain ⟨eB, e2, e1, e0⟩ := dayF_B h (s 2) h.1.1 (by omega)
  have h2 := h.1.1
  have eB := eB.mono (c' := c + 594) (by omega)
  refine ⟨⟨eB.1.up hd (fun z => by omega) (fun _ _ z => by omega) (fun _ _ z => by omega), fun p hp => ?_, fun k hk => ?_, fun k hk => ?_⟩, jup_same, (jup_ne (by omega)).trans e2, (jup_ne (by omega)).trans e0⟩
  · exact Nat.le_trans (Nat.le_of_eq (jup_ne (by omega))) (eB.2.1 p hp)
  · exact Nat.le_trans (Nat.le_of_eq (jup_ne (by omega))) (eB.2.2.1 k hk)
  · exact Nat.le_trans (Nat.le_of_eq (jup_ne (by omega))) (eB.2.2.2 k hk)
def daysF (_ : Nat) (q : (Nat → Nat) × Nat) : (Nat → Nat) × Nat := (dayS q.1, q.2 + (dayF q.1).2)
def daysD (s : Nat → Nat) (x : Int32) : Nat × Int32 × (Nat → Nat) :=
  if inI x 1 30 then (0, nI (jfold daysF x.toNatClampNeg (s, 0)).2, (jfold daysF x.toNatClampNeg (s, 0)).1) else (1, 0, s)
theorem daysF_B {c : Nat} {s : Nat → Nat} (h : Bd c s) : ∀ i, i ≤ 30 → c + 594 * 30 < 2 ^ 24 → s 1 + 30 < 2 ^ 24 → Bd (c + 594 * i) (jfold daysF i (s, 0)).1 ∧ (jfold daysF i (s, 0)).1 1 = s 1 + i ∧ (jfold daysF i (s, 0)).1 2 = s 2 ∧ (jfold daysF i (s, 0)).1 0 = s 0 := by
  intro i
  induction i with
  | zero => intro _ _ _; exact ⟨h, rfl, rfl, rfl⟩
  | succ i ih =>
    intro hi hc hd
    obtain ⟨a, b, d, e⟩ := ih (by omega) hc hd
    rw [jfold_succ]
    obtain ⟨a', b', d', e'⟩ := dayS_B a (by omega) (by omega)
    refine ⟨by rw [show c + 594 * (i + 1) = c + 594 * i + 594 by omega]; exact a', ?_, d'.trans d, e'.trans e⟩
    show dayS (jfold daysF i (s, 0)).1 1 = _
    rw [b', b]; omega
theorem c_X3_doPassDays (l : Launch) (G : JG) (H : Heap) {g : Nat → Nat} {ar : Nat → Nat → Nat} {cm fs : Nat → Int32} (hT : jtw G H g ar cm fs) (c : Nat) (hD : Bd c (ar 0)) (hc : c + 594 * 30 < 2 ^ 24) (hd : ar 0 1 + 30 < 2 ^ 24) (h6 : fs 6 = 0) (x : Int32) : JMet l yX3_doPassDays (ws_ yX3_doPassDays cX3_doPassDays 4 (some .int)) 4 0 G H [.ref (g 100), .int x] (twU G H g ar cm fs (daysD (ar 0) x)) (jno) := by
  refine JMet.of [(0, .inr (some (g 100))), (1, .inl (.int x))] (by decide) (Nat.le_of_ble_eq_true rfl) rfl (fun X hl hX hQ hEx hr hnm hH => ?_)
  subst hl
  obtain ⟨h0, ho, hs, hbf, hsv, hpa, hou, hip, hcm⟩ := id hT
  have hi2 : vp_in (2 : Int32) 93 := vp_in_nI (n := 2) (by omega) (by decide)
  have hF : JFr (twP g) H H := JFr.rfl'
  have main : ∀ n : Nat, x = nI n → n ≤ 30 → daysD (ar 0) x = (0, nI (jfold daysF n (ar 0, 0)).2, (jfold daysF n (ar 0, 0)).1) → JW X G H 0 20 [(0, .inr (some (g 100))), (1, .inl (.int x)), (2, .inl (.int 0)), (3, .inl (.int 0))] [] := by
    intro n ex hn ed
    subst ex
    refine jloop (P := fun i => ∀ H1, JFr (twP g) H H1 → jtw G H1 g (jup ar 0 (jfold daysF i (ar 0, 0)).1) cm fs → JW X G H1 0 20 [(0, .inr (some (g 100))), (1, .inl (.int (nI n))), (2, .inl (.int (nI (jfold daysF i (ar 0, 0)).2))), (3, .inl (.int (nI i)))] []) n (fun H1 hF hT => ?_) (fun i hi ih H1 hF hT => ?_) 0 (by omega) _ hF (by rw [show (jfold daysF 0 (ar 0, 0)).1 = ar 0 from rfl, jup_id]; exact hT)
    · generalize jfold daysF n (ar 0, 0) = D at *
      refine j_iload_n (pc := 20) hX dX3_doPassDays_20 rfl rfl ?_
      refine j_iload_n (pc := 21) hX dX3_doPassDays_21 rfl rfl ?_
      refine j_icmp_ge (pc := 22) (tgt := 38) hX dX3_doPassDays_22 (by decide) (fun c_22 => ?_) (fun c_22 => ?_)
      rotate_left
      · exact absurd (jge_no (a := n) c_22 (by omega) (by omega)) (by omega)
      refine j_iload_n (pc := 38) hX dX3_doPassDays_38 rfl rfl ?_
      exact j_iret hX hQ hr dX3_doPassDays_39 ⟨_, rfl, twU_ok h6 ed hF hT⟩
    · obtain ⟨eB, e1, -⟩ := daysF_B hD i (by omega) hc hd
      have es : jfold daysF (i + 1) (ar 0, 0) = daysF i (jfold daysF i (ar 0, 0)) := rfl
      rw [es] at ih
      generalize jfold daysF i (ar 0, 0) = q at *
      have ho := hT.2.1
      refine j_iload_n (pc := 20) hX dX3_doPassDays_20 rfl rfl ?_
      refine j_iload_n (pc := 21) hX dX3_doPassDays_21 rfl rfl ?_
      refine j_icmp_ge (pc := 22) (tgt := 38) hX dX3_doPassDays_22 (by decide) (fun c_22 => ?_) (fun c_22 => ?_)
      · exact absurd (jge_yes (a := n) c_22 (by omega) (by omega)) (by omega)
      refine j_iload_n (pc := 25) hX dX3_doPassDays_25 rfl rfl ?_
      first | refine j_aload_n (pc := 26) hX dX3_doPassDays_26 rfl rfl ?_ | refine j_aload_nq (pc := 26) hX dX3_doPassDays_26 rfl rfl ?_
      refine j_runi (pc := 27) (jr_V (pc := 27) hX kv_X3_201 (by first | assumption | exact jow.r (by assumption)) (c_X3_doPassDay _ _ _ hT (c + 594 * i) eB (by omega) (by rw [show jup ar 0 q.1 0 = q.1 from rfl, e1]; omega)) (by decide) dX3_doPassDays_27 rfl rfl (Nat.le_of_ble_eq_true rfl)) (fun r_27 H_27 p_27 z_27 => ?_) jno_x
      obtain ⟨hR, rfl⟩ := p_27
      have hF := JFr.trans hF hR.1
      have hT := hR.2
      simp only [jup_jup, jup_same] at hT
      rw [show jup ar 0 q.1 0 = q.1 from rfl]
      refine j_iadd (pc := 30) hX dX3_doPassDays_30 ?_
      rw [nI_add]
      refine j_istore_n (pc := 31) hX dX3_doPassDays_31 rfl (by decide) rfl ?_
      refine j_iincc (pc := 32) (m := 1) hX dX3_doPassDays_32 rfl (by decide) (by decide) rfl ?_
      refine j_goto (pc := 35) (tgt := 20) hX dX3_doPassDays_35 (by decide) ?_
      exact j_lv (by simp [jsb, jget, jval, nI_1, daysF]) (ih _ hF hT)
  refine j_iconst (pc := 0) (v := 0) hX dX3_doPassDays_0 (by decide) ?_
  refine j_istore_n (pc := 1) hX dX3_doPassDays_1 rfl (by decide) rfl ?_
  refine j_iload_n (pc := 2) hX dX3_doPassDays_2 rfl rfl ?_
  refine j_iconst (pc := 3) (v := 1) hX dX3_doPassDays_3 (by decide) ?_
  refine j_bipush (pc := 4) (v := 30) hX dX3_doPassDays_4 (by decide) ?_
  refine j_rune (pc := 6) (jr_S (pc := 6) hX ks_X3_51 (c_X3_in _ _ _ _ _ _) (by decide) dX3_doPassDays_6 rfl rfl (Nat.le_of_ble_eq_true rfl)) ?_ jno_x
  refine j_if_ne (pc := 9) (tgt := 18) hX dX3_doPassDays_9 (by decide) (fun c_9 => ?_) (fun c_9 => ?_)
  · rw [jb_n] at c_9
    change inI x 1 30 = _ at c_9
    refine j_iconst (pc := 18) (v := 0) hX dX3_doPassDays_18 (by decide) ?_
    refine j_istore_n (pc := 19) hX dX3_doPassDays_19 rfl (by decide) rfl ?_
    obtain ⟨n, -, hn, en⟩ := inI_nat1 (n := 30) rfl c_9
    exact main n en hn (by rw [daysD, if_pos c_9, en, nI_clamp (by omega)])
  · rw [jb_z] at c_9
    change inI x 1 30 = _ at c_9
    first | refine j_aload_n (pc := 12) hX dX3_doPassDays_12 rfl rfl ?_ | refine j_aload_nq (pc := 12) hX dX3_doPassDays_12 rfl rfl ?_
    refine j_iconst (pc := 13) (v := 1) hX dX3_doPassDays_13 (by decide) ?_
    refine j_runi (pc := 14) (jr_V (pc := 14) hX kv_X3_82 (by first | assumption | exact jow.r (by assumption)) (c_X3_fails _ _ _ hT _) (by decide) dX3_doPassDays_14 rfl rfl (Nat.le_of_ble_eq_true rfl)) (fun r_14 H_14 p_14 z_14 => ?_) jno_x
    obtain ⟨hR, rfl⟩ := p_14
    have hF := JFr.trans hF hR.1
    have hT := hR.2
    exact j_iret hX hQ hr dX3_doPassDays_17 ⟨_, rfl, twU_no (t := 1) (by rw [daysD, c_9]; rfl) hF hT⟩
