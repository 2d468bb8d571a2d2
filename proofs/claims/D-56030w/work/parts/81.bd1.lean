/-! the component's board as a row of numbers -/
set_option maxRecDepth 100000
/-- what lies where: 0 the board, 1 byId, 2 applicants, 3 their array, 4 references, 5 posts, 6 their array; the applicants by slot, the posts by index, who owns a cell, the slots in the order of their ids, the lists' counts of changes -/
abbrev BG : Type := (Nat → Nat) × (Nat → Nat) × (Nat → Nat) × (Nat → Nat) × List Nat × (Nat → Int32)
abbrev bg (b : BG) : Nat → Nat := b.1
abbrev bap (b : BG) : Nat → Nat := b.2.1
abbrev bpo (b : BG) : Nat → Nat := b.2.2.1
abbrev bow (b : BG) : Nat → Nat := b.2.2.2.1
abbrev bL (b : BG) : List Nat := b.2.2.2.2.1
abbrev bmc (b : BG) : Nat → Int32 := b.2.2.2.2.2
/-- the used slots, in the order of their ids -/
def SlL (s : Nat → Nat) (L : List Nat) : Prop := (∀ k, k ∈ L ↔ k < 10 ∧ 0 < aId s k) ∧ L.Pairwise (fun i j => aId s i < aId s j)
abbrev idI (s : Nat → Nat) (k : Nat) : Int32 := nI (aId s k) - 1
abbrev appV (b : BG) (s : Nat → Nat) (k : Nat) : List Value := oApp (idI s k) (nI (aSh s k)) (nI (aWh s k)) (nI (aRn s k)) (nI (aCo s k)) ((fillN s k).map (bpo b))
def hldN (b : BG) (s : Nat → Nat) (p : Nat) : Option Nat := if pFl s p = 0 then none else some (bap b (pFl s p - 1))
abbrev posV (b : BG) (s : Nat → Nat) (p : Nat) : List Value := oPost (nI (pSh s p)) (nI (pLo s p)) (nI (pHi s p)) (nI (pWg s p)) (hldN b s p)
def bMI (b : BG) (s : Nat → Nat) (E : List (Int32 × Nat)) : Prop := ∀ k v, (k, v) ∈ E ↔ ∃ i ∈ bL b, k = idI s i ∧ v = bap b i
def bMR (G : JG) (L : List Nat) (s : Nat → Nat) (E : List ((Int32 × Int32) × Nat)) : Prop := ∀ k v, (k, v) ∈ E ↔ v = gC G 2 ∧ ∃ i ∈ L, ∃ j ∈ L, k = (idI s i, idI s j) ∧ (aGv s j).testBit i = true
abbrev fpB (b : BG) (w : Nat) : Nat → Prop := fun a => bow b a = w
abbrev kpI (G : JG) (b : BG) : Nat → Prop := fun a => a < (gs G).heap.size ∨ bow b a = 8
/-- the board's parts -/
def jbO (G : JG) (H : Heap) (n0 : Nat) (b : BG) : Prop := (gs G).heap.size ≤ n0 ∧ (∀ a, bow b a ≠ 0 → n0 ≤ a ∧ a < H.size) ∧ n0 ≤ H.size
def jbB (G : JG) (H : Heap) (b : BG) (s : Nat → Nat) : Prop := jow G H (bg b 0) 1 [.ref (bg b 1), .ref (bg b 2), .ref (bg b 4), .ref (bg b 5), .int (nI (s 0)), .int (nI (s 1))] ∧ bow b (bg b 0) = 1
def jbI (G : JG) (H : Heap) (b : BG) (s : Nat → Nat) : Prop := ∃ E, jmA kdI G H (bg b 1) (fpB b 2) (kpI G b) E ∧ bMI b s E
def jbR (G : JG) (H : Heap) (b : BG) (s : Nat → Nat) : Prop := ∃ E, jmA kdR G H (bg b 4) (fpB b 3) (fpB b 8) E ∧ bMR G (bL b) s E
def jbA (G : JG) (H : Heap) (b : BG) : Prop := alA G H (bg b 2) (bg b 3) (bmc b 0) ((bL b).map (bap b)) ∧ bow b (bg b 2) = 4 ∧ (bow b (bg b 3) = 4 ∨ bg b 3 = gC G 0)
def jbP (G : JG) (H : Heap) (b : BG) (n : Nat) : Prop := alA G H (bg b 5) (bg b 6) (bmc b 1) ((List.range n).map (bpo b)) ∧ bow b (bg b 5) = 5 ∧ (bow b (bg b 6) = 5 ∨ bg b 6 = gC G 0)
def jbX (G : JG) (H : Heap) (b : BG) (s : Nat → Nat) : Prop := (∀ k ∈ bL b, jow G H (bap b k) 2 (appV b s k) ∧ bow b (bap b k) = 6) ∧ (∀ i ∈ bL b, ∀ j ∈ bL b, bap b i = bap b j → i = j)
def jbY (G : JG) (H : Heap) (b : BG) (s : Nat → Nat) : Prop := (∀ p, p < s 2 → jow G H (bpo b p) 3 (posV b s p) ∧ bow b (bpo b p) = 7) ∧ (∀ p q, p < s 2 → q < s 2 → bpo b p = bpo b q → p = q)
def jbd (G : JG) (H : Heap) (n0 : Nat) (b : BG) (s : Nat → Nat) : Prop := jbO G H n0 b ∧ SlL s (bL b) ∧ jbB G H b s ∧ jbI G H b s ∧ jbR G H b s ∧ jbA G H b ∧ jbP G H b (s 2) ∧ jbX G H b s ∧ jbY G H b s
theorem JC.gC0 {G : JG} (h : JC G) : gC G 0 < (gs G).heap.size := h.2.2.2.2.1.lt
section
variable {G : JG} {H H1 : Heap} {n0 : Nat} {b : BG} {s : Nat → Nat}
theorem jbB.keep (h : jbB G H b s) (e : ∀ a, bow b a = 1 → H1[a]? = H[a]?) : jbB G H1 b s := ⟨h.1.kept (e _ h.2), h.2⟩
theorem jbI.keep (h : jbI G H b s) (e : ∀ a, bow b a = 2 ∨ bow b a = 8 ∨ a < (gs G).heap.size → H1[a]? = H[a]?) : jbI G H1 b s := by
  obtain ⟨E, h1, h2⟩ := h
  exact ⟨E, h1.keep (fun a ha => e a (by rcases ha with ha | ha | ha; exact Or.inl ha; exact Or.inr (Or.inr ha); exact Or.inr (Or.inl ha))), h2⟩
theorem jbR.keep (h : jbR G H b s) (e : ∀ a, bow b a = 3 ∨ bow b a = 8 → H1[a]? = H[a]?) : jbR G H1 b s := by
  obtain ⟨E, h1, h2⟩ := h
  exact ⟨E, h1.keep (fun a ha => e a ha), h2⟩
theorem jbA.keep (hC : JC G) (h : jbA G H b) (e : ∀ a, bow b a = 4 → H1[a]? = H[a]?) : jbA G H1 b := by
  obtain ⟨h1, h2, h3⟩ := h
  refine ⟨h1.kept (e _ h2) (fun hg => ?_), h2, h3⟩
  rcases h3 with h3 | h3
  · exact e _ h3
  · rw [h3] at hg; exact absurd hC.gC0 (Nat.not_lt.mpr hg)
theorem jbP.keep {n : Nat} (hC : JC G) (h : jbP G H b n) (e : ∀ a, bow b a = 5 → H1[a]? = H[a]?) : jbP G H1 b n := by
  obtain ⟨h1, h2, h3⟩ := h
  refine ⟨h1.kept (e _ h2) (fun hg => ?_), h2, h3⟩
  rcases h3 with h3 | h3
  · exact e _ h3
  · rw [h3] at hg; exact absurd hC.gC0 (Nat.not_lt.mpr hg)
theorem jbX.keep (h : jbX G H b s) (e : ∀ a, bow b a = 6 → H1[a]? = H[a]?) : jbX G H1 b s := ⟨fun k hk => ⟨(h.1 k hk).1.kept (e _ (h.1 k hk).2), (h.1 k hk).2⟩, h.2⟩
theorem jbY.keep (h : jbY G H b s) (e : ∀ a, bow b a = 7 → H1[a]? = H[a]?) : jbY G H1 b s := ⟨fun k hk => ⟨(h.1 k hk).1.kept (e _ (h.1 k hk).2), (h.1 k hk).2⟩, h.2⟩
theorem jbO.keep (h : jbO G H n0 b) (e : H.size ≤ H1.size) : jbO G H1 n0 b := ⟨h.1, fun a ha => ⟨(h.2.1 a ha).1, Nat.lt_of_lt_of_le (h.2.1 a ha).2 e⟩, Nat.le_trans h.2.2 e⟩
theorem jbd.keep (hC : JC G) (h : jbd G H n0 b s) (e : ∀ a, a < (gs G).heap.size ∨ bow b a ≠ 0 → H1[a]? = H[a]?) (hz : H.size ≤ H1.size) : jbd G H1 n0 b s := by
  obtain ⟨h0, h1, h2, h3, h4, h5, h6, h7, h8⟩ := h
  have e' : ∀ w a, w ≠ 0 → bow b a = w → H1[a]? = H[a]? := fun w a hw ha => e a (Or.inr (by rw [ha]; exact hw))
  exact ⟨h0.keep hz, h1, h2.keep (fun a => e' 1 a (by decide)), h3.keep (fun a ha => by
    rcases ha with ha | ha | ha
    · exact e' 2 a (by decide) ha
    · exact e' 8 a (by decide) ha
    · exact e a (Or.inl ha)), h4.keep (fun a ha => by
    rcases ha with ha | ha
    · exact e' 3 a (by decide) ha
    · exact e' 8 a (by decide) ha), h5.keep hC (fun a => e' 4 a (by decide)), h6.keep hC (fun a => e' 5 a (by decide)), h7.keep (fun a => e' 6 a (by decide)), h8.keep (fun a => e' 7 a (by decide))⟩
theorem jbd.ext (hC : JC G) (h : jbd G H n0 b s) (e : JExt H H1) : jbd G H1 n0 b s :=
  h.keep hC (fun a ha => e.2 a (by rcases ha with ha | ha; exact Nat.lt_of_lt_of_le ha (Nat.le_trans h.1.1 h.1.2.2); exact (h.1.2.1 a ha).2)) e.1
/-- a board below n1 is kept by what writes only from n1 on -/
theorem jbd.fr {n1 : Nat} (hC : JC G) (h : jbd G H n0 b s) (hl : ∀ a, bow b a ≠ 0 → a < n1) (hn : (gs G).heap.size ≤ n1) (e : JFr (fun a => n1 ≤ a) H H1) : jbd G H1 n0 b s :=
  h.keep hC (fun a ha => by
    rcases ha with ha | ha
    · exact e.2 a (Nat.lt_of_lt_of_le ha (Nat.le_trans h.1.1 h.1.2.2)) (by omega)
    · exact e.2 a (h.1.2.1 a ha).2 (by have := hl a ha; omega)) e.1
theorem jbd.O (h : jbd G H n0 b s) : jbO G H n0 b := h.1
theorem jbd.S (h : jbd G H n0 b s) : SlL s (bL b) := h.2.1
theorem jbd.B (h : jbd G H n0 b s) : jbB G H b s := h.2.2.1
theorem jbd.I (h : jbd G H n0 b s) : jbI G H b s := h.2.2.2.1
theorem jbd.R (h : jbd G H n0 b s) : jbR G H b s := h.2.2.2.2.1
theorem jbd.A (h : jbd G H n0 b s) : jbA G H b := h.2.2.2.2.2.1
theorem jbd.P (h : jbd G H n0 b s) : jbP G H b (s 2) := h.2.2.2.2.2.2.1
theorem jbd.X (h : jbd G H n0 b s) : jbX G H b s := h.2.2.2.2.2.2.2.1
theorem jbd.Y (h : jbd G H n0 b s) : jbY G H b s := h.2.2.2.2.2.2.2.2
/-- slots -/
theorem SlL.lt {L : List Nat} (h : SlL s L) {k : Nat} (hk : k ∈ L) : k < 10 ∧ 0 < aId s k := (h.1 k).mp hk
theorem SlL.nodup {L : List Nat} (h : SlL s L) : L.Nodup := h.2.imp (fun hlt e => by subst e; exact Nat.lt_irrefl _ hlt)
theorem SlL.len {L : List Nat} (h : SlL s L) : L.length ≤ 10 := by
  have : ∀ (n : Nat) (L : List Nat), L.Nodup → (∀ k ∈ L, k < n) → L.length ≤ n := by
    intro n
    induction n with
    | zero =>
      intro L _ h
      cases L with
      | nil => exact Nat.le_refl _
      | cons x t => exact absurd (h x List.mem_cons_self) (Nat.not_lt_zero x)
    | succ n ih =>
      intro L hn hl
      by_cases c : n ∈ L
      · have h1 := ih (L.erase n) (hn.erase n) (fun k hk => by
          have := hl k (List.mem_of_mem_erase hk)
          have hne : k ≠ n := fun e => by subst e; exact (List.Nodup.not_mem_erase hn) hk
          omega)
        rw [List.length_erase_of_mem c] at h1
        omega
      · have h1 := ih L hn (fun k hk => by
          have := hl k hk
          have hne : k ≠ n := fun e => c (e ▸ hk)
          omega)
        omega
  exact this 10 L h.nodup (fun k hk => (h.lt hk).1)
theorem SlL.inj {L : List Nat} (h : SlL s L) {i j : Nat} (hi : i ∈ L) (hj : j ∈ L) (e : aId s i = aId s j) : i = j := by
  obtain ⟨m, hm, rfl⟩ := List.mem_iff_getElem.mp hi
  obtain ⟨n, hn, rfl⟩ := List.mem_iff_getElem.mp hj
  rcases Nat.lt_trichotomy m n with c | c | c
  · have := (List.pairwise_iff_getElem.mp h.2) m n hm hn c; omega
  · subst c; rfl
  · have := (List.pairwise_iff_getElem.mp h.2) n m hn hm c; omega
theorem getD_map {f : Nat → Nat} {L : List Nat} {i : Nat} (hi : i < L.length) : (L.map f).getD i 0 = f (L.getD i 0) := by
  rw [List.getD_eq_getElem?_getD, List.getElem?_map, List.getElem?_eq_getElem hi, List.getD_eq_getElem?_getD, List.getElem?_eq_getElem hi]; rfl
theorem getD_mem {L : List Nat} {i : Nat} (hi : i < L.length) : L.getD i 0 ∈ L := by
  rw [List.getD_eq_getElem?_getD, List.getElem?_eq_getElem hi]; exact List.getElem_mem hi
theorem getD_range {n i : Nat} (hi : i < n) : (List.range n).getD i 0 = i := by
  rw [List.getD_eq_getElem?_getD, List.getElem?_range hi]; rfl
end
