/-! the component's board: changed parts put together -/
set_option maxRecDepth 100000
abbrev bown (b : BG) (o : Nat → Nat) : BG := (b.1, b.2.1, b.2.2.1, o, b.2.2.2.2)
def owN (o : Nat → Nat) (m n w : Nat) : Nat → Nat := fun x => if m ≤ x ∧ x < n then w else o x
theorem owN_lt {o : Nat → Nat} {m n w x : Nat} (h : x < m) : owN o m n w x = o x := by unfold owN; rw [if_neg (by omega)]
theorem owN_in {o : Nat → Nat} {m n w x : Nat} (h : m ≤ x) (h2 : x < n) : owN o m n w x = w := by unfold owN; rw [if_pos ⟨h, h2⟩]
section
variable {G : JG} {H H1 : Heap} {n0 : Nat} {b : BG} {s s' : Nat → Nat} {o : Nat → Nat}
/-- more cells owned -/
theorem jbd.grow (h : jbd G H n0 b s) (ho : ∀ x, bow b x ≠ 0 → o x = bow b x) (hO : ∀ a, o a ≠ 0 → n0 ≤ a ∧ a < H.size) : jbd G H n0 (bown b o) s := by
  obtain ⟨h0, h1, h2, h3, h4, h5, h6, h7, h8⟩ := h
  have e : ∀ x w, w ≠ 0 → bow b x = w → o x = w := fun x w hw hx => (ho x (by rw [hx]; exact hw)).trans hx
  refine ⟨⟨h0.1, hO, h0.2.2⟩, h1, ⟨h2.1, e _ _ (by decide) h2.2⟩, ?_, ?_, ⟨h5.1, e _ _ (by decide) h5.2.1, h5.2.2.imp (e _ _ (by decide)) (fun z => z)⟩, ⟨h6.1, e _ _ (by decide) h6.2.1, h6.2.2.imp (e _ _ (by decide)) (fun z => z)⟩, ⟨fun k hk => ⟨(h7.1 k hk).1, e _ _ (by decide) (h7.1 k hk).2⟩, h7.2⟩, ⟨fun k hk => ⟨(h8.1 k hk).1, e _ _ (by decide) (h8.1 k hk).2⟩, h8.2⟩⟩
  · obtain ⟨E, a1, a2⟩ := h3
    exact ⟨E, a1.mono (fun x hx => e _ _ (by decide) hx) (fun x hx => hx.imp (fun z => z) (e _ _ (by decide))), a2⟩
  · obtain ⟨E, a1, a2⟩ := h4
    exact ⟨E, a1.mono (fun x hx => e _ _ (by decide) hx) (fun x hx => e _ _ (by decide) hx), a2⟩
theorem jbd.grow1 (h : jbd G H n0 b s) {m n w : Nat} (hm : ∀ x, bow b x ≠ 0 → x < m) (hn : n ≤ H.size) (hm2 : n0 ≤ m) : jbd G H n0 (bown b (owN (bow b) m n w)) s :=
  h.grow (fun x hx => owN_lt (hm x hx)) (fun a ha => by
    unfold owN at ha
    split at ha
    · rename_i z; exact ⟨by omega, by omega⟩
    · exact h.O.2.1 a ha)
/-- rows that say the same of a board -/
def sameB (L : List Nat) (s s' : Nat → Nat) : Prop := s' 0 = s 0 ∧ s' 1 = s 1 ∧ s' 2 = s 2 ∧ (∀ k, k < 10 → aId s' k = aId s k) ∧ (∀ k ∈ L, aSh s' k = aSh s k ∧ aWh s' k = aWh s k ∧ aRn s' k = aRn s k ∧ aCo s' k = aCo s k ∧ aGv s' k = aGv s k) ∧ (∀ p, p < s 2 → pSh s' p = pSh s p ∧ pLo s' p = pLo s p ∧ pHi s' p = pHi s p ∧ pWg s' p = pWg s p ∧ pFl s' p = pFl s p)
theorem fillN_congr (h2 : s' 2 = s 2) (h : ∀ p, p < s 2 → pFl s' p = pFl s p) (k : Nat) : fillN s' k = fillN s k := by
  unfold fillN
  rw [h2]
  exact fold_ext _ _ (fun p a hp => by unfold fillF; rw [h p hp])
theorem jbd.congr (h : jbd G H n0 b s) (e : sameB (bL b) s s') : jbd G H n0 b s' := by
  obtain ⟨e0, e1, e2, e3, e4, e5⟩ := e
  obtain ⟨h0, h1, h2, h3, h4, h5, h6, h7, h8⟩ := h
  have hk10 : ∀ k ∈ bL b, k < 10 := fun k hk => (h1.lt hk).1
  have hid : ∀ k ∈ bL b, idI s' k = idI s k := fun k hk => by unfold idI; rw [e3 k (hk10 k hk)]
  refine ⟨h0, ⟨fun k => ?_, ?_⟩, ⟨by rw [e0, e1]; exact h2.1, h2.2⟩, ?_, ?_, h5, by rw [e2]; exact h6, ⟨fun k hk => ?_, h7.2⟩, ⟨fun p hp => ?_, fun p q hp hq => h8.2 p q (by omega) (by omega)⟩⟩
  · rw [h1.1 k]
    constructor
    · rintro ⟨a, c⟩; exact ⟨a, by rw [e3 k a]; exact c⟩
    · rintro ⟨a, c⟩; exact ⟨a, by rw [← e3 k a]; exact c⟩
  · refine List.Pairwise.imp_of_mem ?_ h1.2
    intro i j hi hj hlt
    rw [e3 i (hk10 i hi), e3 j (hk10 j hj)]; exact hlt
  · obtain ⟨E, a1, a2⟩ := h3
    refine ⟨E, a1, fun k v => ?_⟩
    rw [a2]
    constructor
    · rintro ⟨i, hi, rfl, rfl⟩; exact ⟨i, hi, (hid i hi).symm, rfl⟩
    · rintro ⟨i, hi, rfl, rfl⟩; exact ⟨i, hi, hid i hi, rfl⟩
  · obtain ⟨E, a1, a2⟩ := h4
    refine ⟨E, a1, fun k v => ?_⟩
    rw [a2]
    constructor
    · rintro ⟨hv, i, hi, j, hj, rfl, hb⟩; exact ⟨hv, i, hi, j, hj, by rw [hid i hi, hid j hj], by rw [(e4 j hj).2.2.2.2]; exact hb⟩
    · rintro ⟨hv, i, hi, j, hj, rfl, hb⟩; exact ⟨hv, i, hi, j, hj, by rw [hid i hi, hid j hj], by rw [← (e4 j hj).2.2.2.2]; exact hb⟩
  · have := h7.1 k hk
    obtain ⟨q1, q2, q3, q4, -⟩ := e4 k hk
    unfold appV at *
    rw [hid k hk, q1, q2, q3, q4, fillN_congr e2 (fun p hp => (e5 p hp).2.2.2.2)]; exact this
  · have hp' : p < s 2 := by omega
    have := h8.1 p hp'
    obtain ⟨q1, q2, q3, q4, q5⟩ := e5 p hp'
    have hh : hldN b s' p = hldN b s p := by unfold hldN; rw [q5]
    unfold posV at *
    rw [q1, q2, q3, q4, hh]; exact this
/-- posts filled or emptied -/
theorem jbd.refill (hC : JC G) (h : jbd G H n0 b s) (hs : ∀ j, (∀ p, j ≠ 63 + 5 * p + 4) → s' j = s j) (hF : JFr (fun a => bow b a = 6 ∨ bow b a = 7) H H1) (hX : jbX G H1 b s') (hY : jbY G H1 b s') : jbd G H1 n0 b s' := by
  obtain ⟨h0, h1, h2, h3, h4, h5, h6, h7, h8⟩ := h
  have hold : ∀ a, a < (gs G).heap.size → H1[a]? = H[a]? := fun a ha => hF.2 a (Nat.lt_of_lt_of_le ha (Nat.le_trans h0.1 h0.2.2)) (fun z => by have := h0.2.1 a (by rcases z with z | z <;> rw [z] <;> decide); have := h0.1; omega)
  have hid : ∀ k, k < 10 → aId s' k = aId s k := fun k hk => hs _ (fun p => by omega)
  have hgv : ∀ k, k < 10 → aGv s' k = aGv s k := fun k hk => hs _ (fun p => by omega)
  have hk10 : ∀ k ∈ bL b, k < 10 := fun k hk => (h1.lt hk).1
  have hI : ∀ k ∈ bL b, idI s' k = idI s k := fun k hk => by unfold idI; rw [hid k (hk10 k hk)]
  have keep : ∀ w a, w ≠ 0 → w ≠ 6 → w ≠ 7 → bow b a = w → H1[a]? = H[a]? := fun w a hw w6 w7 ha => hF.2 a (h0.2.1 a (by rw [ha]; exact hw)).2 (fun z => by rcases z with z | z; exact w6 (ha.symm.trans z); exact w7 (ha.symm.trans z))
  refine ⟨h0.keep hF.1, ⟨fun k => ?_, ?_⟩, ⟨by rw [hs 0 (fun p => by omega), hs 1 (fun p => by omega)]; exact (h2.keep (fun a => keep 1 a (by decide) (by decide) (by decide))).1, h2.2⟩, ?_, ?_, h5.keep hC (fun a => keep 4 a (by decide) (by decide) (by decide)), by rw [hs 2 (fun p => by omega)]; exact h6.keep hC (fun a => keep 5 a (by decide) (by decide) (by decide)), hX, hY⟩
  · rw [h1.1 k]
    constructor
    · rintro ⟨a, c⟩; exact ⟨a, by rw [hid k a]; exact c⟩
    · rintro ⟨a, c⟩; exact ⟨a, by rw [← hid k a]; exact c⟩
  · refine List.Pairwise.imp_of_mem ?_ h1.2
    intro i j hi hj hlt
    rw [hid i (hk10 i hi), hid j (hk10 j hj)]; exact hlt
  · obtain ⟨E, a1, a2⟩ := h3.keep (H1 := H1) (fun a ha => by
      rcases ha with ha | ha | ha
      · exact keep 2 a (by decide) (by decide) (by decide) ha
      · exact keep 8 a (by decide) (by decide) (by decide) ha
      · exact hold a ha)
    refine ⟨E, a1, fun k v => ?_⟩
    rw [a2]
    constructor
    · rintro ⟨i, hi, rfl, rfl⟩; exact ⟨i, hi, (hI i hi).symm, rfl⟩
    · rintro ⟨i, hi, rfl, rfl⟩; exact ⟨i, hi, hI i hi, rfl⟩
  · obtain ⟨E, a1, a2⟩ := h4.keep (H1 := H1) (fun a ha => by
      rcases ha with ha | ha
      · exact keep 3 a (by decide) (by decide) (by decide) ha
      · exact keep 8 a (by decide) (by decide) (by decide) ha)
    refine ⟨E, a1, fun k v => ?_⟩
    rw [a2]
    constructor
    · rintro ⟨hv, i, hi, j, hj, rfl, hb⟩; exact ⟨hv, i, hi, j, hj, by rw [hI i hi, hI j hj], by rw [hgv j (hk10 j hj)]; exact hb⟩
    · rintro ⟨hv, i, hi, j, hj, rfl, hb⟩; exact ⟨hv, i, hi, j, hj, by rw [hI i hi, hI j hj], by rw [← hgv j (hk10 j hj)]; exact hb⟩
end
