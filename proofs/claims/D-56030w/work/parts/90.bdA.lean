/-! posts filled and emptied -/
set_option maxRecDepth 100000
section
variable {s : Nat → Nat}
abbrev UFl (s : Nat → Nat) : Prop := ∀ p q, p < s 2 → q < s 2 → 0 < pFl s p → pFl s p = pFl s q → p = q
theorem WFs.U (h : WFs s) : UFl s := h.2.2.2.2.2.2.2.2.2.2
theorem fill_some : ∀ (n k p : Nat), jfold (fillF s k) n none = some p → p < n ∧ pFl s p = k + 1 := by
  intro n
  induction n with
  | zero => intro k p h; cases h
  | succ n ih =>
    intro k p h
    rw [jfold_succ] at h
    unfold fillF at h
    split at h
    · rename_i c; cases Option.some.inj h; exact ⟨Nat.lt_succ_self _, c⟩
    · have := ih k p h; exact ⟨Nat.lt_succ_of_lt this.1, this.2⟩
theorem fill_none : ∀ (n k : Nat), jfold (fillF s k) n none = none → ∀ p, p < n → pFl s p ≠ k + 1 := by
  intro n
  induction n with
  | zero => intro k _ p h; exact absurd h (Nat.not_lt_zero p)
  | succ n ih =>
    intro k h p hp
    rw [jfold_succ] at h
    unfold fillF at h
    split at h
    · cases h
    · rename_i c
      by_cases e : p = n
      · subst e; exact c
      · exact ih k h p (by omega)
theorem fillN_at {k p : Nat} (h : fillN s k = some p) : p < s 2 ∧ pFl s p = k + 1 := fill_some (s 2) k p h
theorem fillN_of (hU : UFl s) {k p : Nat} (hp : p < s 2) (h : pFl s p = k + 1) : fillN s k = some p := by
  cases e : fillN s k with
  | none => exact absurd h (fill_none (s 2) k e p hp)
  | some q =>
    obtain ⟨h1, h2⟩ := fillN_at e
    rw [hU q p h1 hp (by omega) (by omega)]
theorem fillN_no {k : Nat} (h : ∀ p, p < s 2 → pFl s p ≠ k + 1) : fillN s k = none := by
  cases e : fillN s k with
  | none => rfl
  | some q => exact absurd (fillN_at e).2 (h q (fillN_at e).1)
theorem jup_pFl (p q v : Nat) : pFl (jup s (63 + 5 * p + 4) v) q = if q = p then v else pFl s q := by
  show jup s (63 + 5 * p + 4) v (63 + 5 * q + 4) = _
  unfold jup
  by_cases e : q = p
  · rw [if_pos (by omega), if_pos e]
  · rw [if_neg (by omega), if_neg e]
theorem jup_off {j p v : Nat} (h : ∀ q, j ≠ 63 + 5 * q + 4) : jup s (63 + 5 * p + 4) v j = s j := jup_ne (h p)
theorem fillS_fill (hU : UFl s) {p k : Nat} (hp : p < s 2) (hv : pFl s p = 0) (hw : fillN s k = none) (k' : Nat) : fillN (fillS s p k) k' = if k' = k then some p else fillN s k' := by
  have e2 : fillS s p k 2 = s 2 := jup_off (fun q => by omega)
  have hf : ∀ q, pFl (fillS s p k) q = if q = p then k + 1 else pFl s q := fun q => jup_pFl p q (k + 1)
  have hU' : UFl (fillS s p k) := fun a c ha hc h0 e => by
    rw [e2] at ha hc
    rw [hf] at h0 e
    rw [hf] at e
    by_cases ea : a = p <;> by_cases ec : c = p
    · omega
    · rw [if_pos ea, if_neg ec] at e
      exact absurd e.symm (fill_none (s 2) k hw c hc)
    · rw [if_neg ea, if_pos ec] at e
      exact absurd e (fill_none (s 2) k hw a ha)
    · rw [if_neg ea] at h0
      rw [if_neg ea, if_neg ec] at e
      exact hU a c ha hc h0 e
  by_cases e : k' = k
  · rw [if_pos e]
    exact fillN_of hU' (by rw [e2]; exact hp) (by rw [hf, if_pos rfl, e])
  · rw [if_neg e]
    cases c : fillN s k' with
    | none =>
      refine fillN_no (fun q hq => ?_)
      rw [e2] at hq
      rw [hf]
      split
      · omega
      · exact fill_none (s 2) k' c q hq
    | some q =>
      obtain ⟨h1, h2⟩ := fillN_at c
      refine fillN_of hU' (by rw [e2]; exact h1) ?_
      rw [hf, if_neg (fun z => by rw [z, hv] at h2; omega)]
      exact h2
theorem emptS_fill (hU : UFl s) {p k : Nat} (hp : p < s 2) (hv : pFl s p = k + 1) (k' : Nat) : fillN (jup s (63 + 5 * p + 4) 0) k' = if k' = k then none else fillN s k' := by
  have e2 : jup s (63 + 5 * p + 4) 0 2 = s 2 := jup_off (fun q => by omega)
  have hf : ∀ q, pFl (jup s (63 + 5 * p + 4) 0) q = if q = p then 0 else pFl s q := fun q => jup_pFl p q 0
  have hU' : UFl (jup s (63 + 5 * p + 4) 0) := fun a c ha hc h0 e => by
    rw [e2] at ha hc
    rw [hf] at h0 e
    rw [hf] at e
    by_cases ea : a = p <;> by_cases ec : c = p
    · omega
    · rw [if_pos ea] at h0; omega
    · rw [if_neg ea] at h0; rw [if_neg ea, if_pos ec] at e; omega
    · rw [if_neg ea] at h0
      rw [if_neg ea, if_neg ec] at e
      exact hU a c ha hc h0 e
  by_cases e : k' = k
  · rw [if_pos e]
    refine fillN_no (fun q hq => ?_)
    rw [e2] at hq
    rw [hf]
    split
    · omega
    · rename_i z
      intro y
      exact z (hU q p hq hp (by omega) (by omega))
  · rw [if_neg e]
    cases c : fillN s k' with
    | none =>
      refine fillN_no (fun q hq => ?_)
      rw [e2] at hq
      rw [hf]
      split
      · omega
      · exact fill_none (s 2) k' c q hq
    | some q =>
      obtain ⟨h1, h2⟩ := fillN_at c
      refine fillN_of hU' (by rw [e2]; exact h1) ?_
      rw [hf, if_neg (fun z => by rw [z, hv] at h2; omega)]
      exact h2
theorem WFs_fl {p v : Nat} (h : WFs s) (hv : v ≤ 10) (hu : 0 < v → 0 < aId s (v - 1)) (hn : 0 < v → ∀ q, q < s 2 → q ≠ p → pFl s q ≠ v) : WFs (jup s (63 + 5 * p + 4) v) := by
  have off : ∀ j, (∀ q, j ≠ 63 + 5 * q + 4) → jup s (63 + 5 * p + 4) v j = s j := fun j hj => jup_off hj
  have hf : ∀ q, pFl (jup s (63 + 5 * p + 4) v) q = if q = p then v else pFl s q := fun q => jup_pFl p q v
  have o0 := off 0 (fun q => by omega)
  have o1 := off 1 (fun q => by omega)
  have o2 := off 2 (fun q => by omega)
  have oa : ∀ k w, k < 10 → w < 6 → jup s (63 + 5 * p + 4) v (3 + 6 * k + w) = s (3 + 6 * k + w) := fun k w hk hw => off _ (fun q => by omega)
  have oi : ∀ k, k < 10 → aId (jup s (63 + 5 * p + 4) v) k = aId s k := fun k hk => oa k 0 hk (by omega)
  have ow : ∀ q w, w < 4 → jup s (63 + 5 * p + 4) v (63 + 5 * q + w) = s (63 + 5 * q + w) := fun q w hw => off _ (fun q => by omega)
  obtain ⟨h1, h2, h3, h4, h5, h6, h7, h8, h9, hA, hB⟩ := h
  refine ⟨by rw [o0]; exact h1, by rw [o1]; exact h2, by rw [o2]; exact h3, fun k hk => ?_, fun k hk => ?_, fun k hk => ?_, fun j k hj hk => ?_, fun j k hj hk => ?_, fun q hq => ?_, fun q hq => ?_, fun a c ha hc => ?_⟩
  · rw [oi k hk, o0]
    show _ ∧ jup s _ v (3 + 6 * k + 2) ≤ 100 ∧ jup s _ v (3 + 6 * k + 3) ≤ 50 ∧ jup s _ v (3 + 6 * k + 4) ≤ 1000000 ∧ jup s _ v (3 + 6 * k + 5) < 1024
    rw [oa k 2 hk (by omega), oa k 3 hk (by omega), oa k 4 hk (by omega), oa k 5 hk (by omega)]
    exact h4 k hk
  · rw [oi k hk]
    show _ → isSh (jup s _ v (3 + 6 * k + 1)) = true
    rw [oa k 1 hk (by omega)]
    exact h5 k hk
  · rw [oi k hk]
    show _ → jup s _ v (3 + 6 * k + 1) = 0 ∧ jup s _ v (3 + 6 * k + 2) = 0 ∧ jup s _ v (3 + 6 * k + 3) = 0 ∧ jup s _ v (3 + 6 * k + 4) = 0 ∧ jup s _ v (3 + 6 * k + 5) = 0
    rw [oa k 1 hk (by omega), oa k 2 hk (by omega), oa k 3 hk (by omega), oa k 4 hk (by omega), oa k 5 hk (by omega)]
    exact h6 k hk
  · rw [oi j hj, oi k hk]; exact h7 j k hj hk
  · show (jup s _ v (3 + 6 * k + 5)).testBit j = true → _
    rw [oa k 5 hk (by omega), oi j hj]; exact h8 j k hj hk
  · rw [o2] at hq
    have := h9 q hq
    show (isSh (jup s _ v (63 + 5 * q + 0)) = true ∨ jup s _ v (63 + 5 * q + 0) = 42) ∧ jup s _ v (63 + 5 * q + 1) ≤ 100 ∧ jup s _ v (63 + 5 * q + 2) ≤ 50 ∧ 1 ≤ jup s _ v (63 + 5 * q + 3) ∧ jup s _ v (63 + 5 * q + 3) ≤ 99 ∧ pFl (jup s _ v) q ≤ 10
    rw [ow q 0 (by omega), ow q 1 (by omega), ow q 2 (by omega), ow q 3 (by omega), hf]
    refine ⟨this.1, this.2.1, this.2.2.1, this.2.2.2.1, this.2.2.2.2.1, ?_⟩
    split
    · exact hv
    · exact this.2.2.2.2.2
  · rw [o2] at hq
    rw [hf]
    split
    · intro h0; rw [oi (v - 1) (by omega)]; exact hu h0
    · intro h0
      rw [oi _ (by have := (h9 q hq).2.2.2.2.2; omega)]; exact hA q hq h0
  · rw [o2] at ha hc
    rw [hf, hf]
    intro h0 e
    by_cases ea : a = p <;> by_cases ec : c = p
    · omega
    · rw [if_pos ea] at h0 e; rw [if_neg ec] at e
      exact absurd e.symm (hn h0 c hc ec)
    · rw [if_neg ea] at h0 e; rw [if_pos ec] at e
      exact absurd e (hn (by omega) a ha ea)
    · rw [if_neg ea] at h0
      rw [if_neg ea, if_neg ec] at e
      exact hB a c ha hc h0 e
end
