/-! the map: a table made twice as long; a bin made longer -/
set_option maxRecDepth 100000
theorem inN_add {K : Type} {B : Nat → List (ND K)} {cap ix : Nat} {x n : ND K} (hix : ix < cap) : inN (jup B ix (B ix ++ [x])) cap n ↔ inN B cap n ∨ n = x := by
  constructor
  · rintro ⟨j, hj, hn⟩
    by_cases e : j = ix
    · subst e
      rw [jup_same, List.mem_append, List.mem_singleton] at hn
      rcases hn with hn | hn
      · exact Or.inl ⟨j, hj, hn⟩
      · exact Or.inr hn
    · rw [jup_ne e] at hn; exact Or.inl ⟨j, hj, hn⟩
  · rintro (⟨j, hj, hn⟩ | rfl)
    · refine ⟨j, hj, ?_⟩
      by_cases e : j = ix
      · subst e; rw [jup_same]; exact List.mem_append_left _ hn
      · rw [jup_ne e]; exact hn
    · exact ⟨ix, hix, by rw [jup_same]; exact List.mem_append_right _ List.mem_cons_self⟩
section
variable {K : Type} {d : KD K} {G : JG} {H H1 : Heap} {q t cap sz : Nat} {mc : Int32} {B : Nat → List (ND K)} {tab : Option Nat}
theorem tbA.add {ix : Nat} {x : ND K} (h : tbA d G H t cap B) (hix : ixN cap (hK d x.2.1) = ix) (hno : ∀ n ∈ B ix, n.2.1 ≠ x.2.1) (ha : jaw G H1 t 8 cap (fun j => va_rf (nxN (jup B ix (B ix ++ [x]) j) none))) (hb : chE d G H1 none (B ix ++ [x])) (ho : ∀ j, j < cap → j ≠ ix → chE d G H1 none (B j)) : tbA d G H1 t cap (jup B ix (B ix ++ [x])) := by
  obtain ⟨h1, h2, h3, h4, h5, h6⟩ := h
  refine ⟨h1, h2, ha, fun j hj => ?_, fun j hj => ?_, fun j hj => ?_⟩
  · by_cases e : j = ix
    · subst e; rw [jup_same]; exact hb
    · rw [jup_ne e]; exact ho j hj e
  · by_cases e : j = ix
    · subst e; rw [jup_same]
      intro n hn
      rcases List.mem_append.mp hn with hn | hn
      · exact h5 j hj n hn
      · rw [List.mem_singleton.mp hn]; exact hix
    · rw [jup_ne e]; exact h5 j hj
  · by_cases e : j = ix
    · subst e; rw [jup_same, List.map_append, List.nodup_append]
      refine ⟨h6 j hj, by simp, fun a ha b hb => ?_⟩
      obtain ⟨n, hn, rfl⟩ := List.mem_map.mp ha
      rw [List.map_singleton, List.mem_singleton] at hb
      rw [hb]; exact hno n hn
    · rw [jup_ne e]; exact h6 j hj
theorem tbA.nodup (h : tbA d G H t cap B) {j : Nat} (hj : j < cap) : (B j).Nodup := by
  have := h.2.2.2.2.2 j hj
  unfold List.Nodup at this
  rw [List.pairwise_map] at this
  exact this.imp (fun hne e => hne (by rw [e]))
theorem chE.close {o o' : Option Nat} {A : List (ND K)} {x : ND K} (h : chE d G H o (A ++ [x])) (hw : JPut H H1 x.1) (hn : jow G H1 x.1 10 (ndF (hK d x.2.1) x.2.2.1 x.2.2.2 o')) (h1 : ∀ n ∈ A, n.1 ≠ x.1) (h2 : ∀ n ∈ A ++ [x], n.2.2.1 ≠ x.1) : chE d G H1 o' (A ++ [x]) := by
  obtain ⟨a, b⟩ := chE_app.mp h
  refine chE_app.mpr ⟨?_, hn, b.2.1, b.2.2.1.put hw (h2 x (List.mem_append_right _ List.mem_cons_self)), trivial⟩
  exact a.keep (fun n hn => ⟨hw.2 _ (h1 n hn), hw.2 _ (h2 n (List.mem_append_left _ hn))⟩)
/-- a bin while it is split: two open chains, and the rest -/
def SP (d : KD K) (G : JG) (H : Heap) (A C R : List (ND K)) : Prop := (∃ o, chE d G H o A) ∧ (∃ o, chE d G H o C) ∧ chE d G H none R ∧ (∀ n m, n ∈ A ∨ n ∈ C ∨ n ∈ R → m ∈ A ∨ m ∈ C ∨ m ∈ R → n.1 = m.1 → n = m) ∧ (∀ n m, n ∈ A ∨ n ∈ C ∨ n ∈ R → m ∈ A ∨ m ∈ C ∨ m ∈ R → n.2.2.1 ≠ m.1) ∧ A.Nodup ∧ C.Nodup ∧ R.Nodup ∧ (∀ n ∈ A, n ∉ C ∧ n ∉ R) ∧ ∀ n ∈ C, n ∉ R
theorem SP.swap {A C R : List (ND K)} (h : SP d G H A C R) : SP d G H C A R := by
  obtain ⟨a, b, c, e, f, g, i, j, k, l⟩ := h
  refine ⟨b, a, c, fun n m hn hm => e n m (by rcases hn with h | h | h <;> simp [h]) (by rcases hm with h | h | h <;> simp [h]), fun n m hn hm => f n m (by rcases hn with h | h | h <;> simp [h]) (by rcases hm with h | h | h <;> simp [h]), i, g, j, fun n hn => ⟨fun ha => (k n ha).1 hn, l n hn⟩, fun n hn => (k n hn).2⟩
theorem SP.first {C R : List (ND K)} {e : ND K} (h : SP d G H [] C (e :: R)) : SP d G H [e] C R := by
  obtain ⟨a, b, c, x, f, g, i, j, k, l⟩ := h
  have tr : ∀ n : ND K, n ∈ [e] ∨ n ∈ C ∨ n ∈ R → n ∈ [] ∨ n ∈ C ∨ n ∈ e :: R := fun n hn => by
    rcases hn with h | h | h
    · rw [List.mem_singleton.mp h]; exact Or.inr (Or.inr List.mem_cons_self)
    · exact Or.inr (Or.inl h)
    · exact Or.inr (Or.inr (List.mem_cons_of_mem _ h))
  refine ⟨⟨nxN R none, c.1, c.2.1, c.2.2.1, trivial⟩, b, c.2.2.2, fun n m hn hm => x n m (tr n hn) (tr m hm), fun n m hn hm => f n m (tr n hn) (tr m hm), by simp, i, (List.nodup_cons.mp j).2, fun n hn => ?_, fun n hn hr => l n hn (List.mem_cons_of_mem _ hr)⟩
  rw [List.mem_singleton.mp hn]
  exact ⟨fun hc => l e hc List.mem_cons_self, (List.nodup_cons.mp j).1⟩
theorem SP.app {A C R : List (ND K)} {x e : ND K} (h : SP d G H (A ++ [x]) C (e :: R)) (hw : JPut H H1 x.1) (hn : jow G H1 x.1 10 (ndF (hK d x.2.1) x.2.2.1 x.2.2.2 (some e.1))) : SP d G H1 (A ++ [x] ++ [e]) C R := by
  obtain ⟨⟨oa, a⟩, ⟨ob, b⟩, c, y, f, g, i, j, k, l⟩ := h
  have hx : x ∈ A ++ [x] := List.mem_append_right _ List.mem_cons_self
  obtain ⟨g1, -, g3⟩ := List.nodup_append.mp g
  have tr : ∀ n : ND K, n ∈ A ++ [x] ++ [e] ∨ n ∈ C ∨ n ∈ R → n ∈ A ++ [x] ∨ n ∈ C ∨ n ∈ e :: R := fun n hn => by
    rcases hn with h | h | h
    · rcases List.mem_append.mp h with h | h
      · exact Or.inl h
      · rw [List.mem_singleton.mp h]; exact Or.inr (Or.inr List.mem_cons_self)
    · exact Or.inr (Or.inl h)
    · exact Or.inr (Or.inr (List.mem_cons_of_mem _ h))
  have kx : ∀ n, n ∈ A ++ [x] ∨ n ∈ C ∨ n ∈ e :: R → n.2.2.1 ≠ x.1 := fun n hn => f n x hn (Or.inl hx)
  have a' := a.close hw hn (fun n hn e => g3 n hn x List.mem_cons_self (y n x (Or.inl (List.mem_append_left _ hn)) (Or.inl hx) e)) (fun n hn => kx n (Or.inl hn))
  have b' : chE d G H1 ob C := b.keep (fun n hn => ⟨hw.2 _ (fun e => (k x hx).1 ((y n x (Or.inr (Or.inl hn)) (Or.inl hx) e) ▸ hn)), hw.2 _ (kx n (Or.inr (Or.inl hn)))⟩)
  have c' : chE d G H1 none (e :: R) := c.keep (fun n hn => ⟨hw.2 _ (fun e => (k x hx).2 ((y n x (Or.inr (Or.inr hn)) (Or.inl hx) e) ▸ hn)), hw.2 _ (kx n (Or.inr (Or.inr hn)))⟩)
  refine ⟨⟨nxN R none, chE_app.mpr ⟨a', c'.1, c'.2.1, c'.2.2.1, trivial⟩⟩, ⟨ob, b'⟩, c'.2.2.2, fun n m hn hm => y n m (tr n hn) (tr m hm), fun n m hn hm => f n m (tr n hn) (tr m hm), ?_, i, (List.nodup_cons.mp j).2, fun n hn => ?_, fun n hn hr => l n hn (List.mem_cons_of_mem _ hr)⟩
  · rw [List.nodup_append]
    refine ⟨g, by simp, fun n hn m hm => ?_⟩
    rw [List.mem_singleton.mp hm]
    exact fun z => (k n hn).2 (z ▸ List.mem_cons_self)
  · rcases List.mem_append.mp hn with hn | hn
    · exact ⟨(k n hn).1, fun hr => (k n hn).2 (List.mem_cons_of_mem _ hr)⟩
    · rw [List.mem_singleton.mp hn]
      exact ⟨fun hc => l e hc List.mem_cons_self, (List.nodup_cons.mp j).1⟩
/-- the first chain closed -/
theorem SP.end {A C R : List (ND K)} {x : ND K} (h : SP d G H (A ++ [x]) C R) (hw : JPut H H1 x.1) (hn : jow G H1 x.1 10 (ndF (hK d x.2.1) x.2.2.1 x.2.2.2 none)) : SP d G H1 (A ++ [x]) C R ∧ chE d G H1 none (A ++ [x]) := by
  obtain ⟨⟨oa, a⟩, ⟨ob, b⟩, c, y, f, g, i, j, k, l⟩ := h
  have hx : x ∈ A ++ [x] := List.mem_append_right _ List.mem_cons_self
  obtain ⟨g1, -, g3⟩ := List.nodup_append.mp g
  have kx : ∀ n, n ∈ A ++ [x] ∨ n ∈ C ∨ n ∈ R → n.2.2.1 ≠ x.1 := fun n hn => f n x hn (Or.inl hx)
  have a' := a.close hw hn (fun n hn e => g3 n hn x List.mem_cons_self (y n x (Or.inl (List.mem_append_left _ hn)) (Or.inl hx) e)) (fun n hn => kx n (Or.inl hn))
  have b' : chE d G H1 ob C := b.keep (fun n hn => ⟨hw.2 _ (fun e => (k x hx).1 ((y n x (Or.inr (Or.inl hn)) (Or.inl hx) e) ▸ hn)), hw.2 _ (kx n (Or.inr (Or.inl hn)))⟩)
  have c' : chE d G H1 none R := c.keep (fun n hn => ⟨hw.2 _ (fun e => (k x hx).2 ((y n x (Or.inr (Or.inr hn)) (Or.inl hx) e) ▸ hn)), hw.2 _ (kx n (Or.inr (Or.inr hn)))⟩)
  exact ⟨⟨⟨_, a'⟩, ⟨ob, b'⟩, c', y, f, g, i, j, k, l⟩, a'⟩
/-- where the last one lies -/
def lsN (L : List (ND K)) : Option Nat := L.getLast?.map (·.1)
theorem lsN_app (A : List (ND K)) (x : ND K) : lsN (A ++ [x]) = some x.1 := by unfold lsN; rw [List.getLast?_append]; rfl
theorem nxN_app1 (A : List (ND K)) (x : ND K) (o : Option Nat) : nxN (A ++ [x]) o = nxN A (some x.1) := nxN_app A [x] o
theorem nil_or_app {α : Type} (L : List α) : L = [] ∨ ∃ A x, L = A ++ [x] := by
  rcases List.eq_nil_or_concat L with h | ⟨A, x, h⟩
  · exact Or.inl h
  · exact Or.inr ⟨A, x, by rw [h, List.concat_eq_append]⟩
theorem lsN_some {A : List (ND K)} {a : Nat} (h : lsN A = some a) : ∃ A0 x, A = A0 ++ [x] ∧ x.1 = a := by
  rcases nil_or_app A with rfl | ⟨A0, x, rfl⟩
  · cases h
  · rw [lsN_app] at h; exact ⟨A0, x, rfl, Option.some.inj h⟩
theorem lsN_none {A : List (ND K)} (h : lsN A = none) : A = [] := by
  rcases nil_or_app A with rfl | ⟨A0, x, rfl⟩
  · rfl
  · rw [lsN_app] at h; cases h
theorem nxN_some (A : List (ND K)) (x : ND K) : ∃ y ∈ A ++ [x], ∀ o, nxN (A ++ [x]) o = some y.1 := by
  cases A with
  | nil => exact ⟨x, List.mem_cons_self, fun _ => rfl⟩
  | cons y t => exact ⟨y, List.mem_cons_self, fun _ => rfl⟩
theorem nxN_grow (A : List (ND K)) (x e : ND K) (o o' : Option Nat) : nxN (A ++ [x] ++ [e]) o = nxN (A ++ [x]) o' := by cases A <;> rfl
/-- the bins of a table twice as long, of the first j bins -/
def spl (d : KD K) (B : Nat → List (ND K)) (j i : Nat) : List (ND K) := if i % 16 < j then (B (i % 16)).filter (fun n => decide (ixN 32 (hK d n.2.1) = i)) else []
theorem and16 (x : Nat) : x &&& 16 = (x.testBit 4).toNat * 16 := by
  apply Nat.eq_of_testBit_eq
  intro i
  rw [Nat.testBit_and, show (16 : Nat) = 2 ^ 4 from rfl, Nat.testBit_two_pow]
  by_cases e : 4 = i
  · subst e; cases x.testBit 4 <;> simp <;> decide
  · rw [decide_eq_false e, Bool.and_false]
    cases x.testBit 4
    · simp
    · show false = (1 * 2 ^ 4).testBit i
      rw [Nat.one_mul, Nat.testBit_two_pow, decide_eq_false e]
theorem ix_2 (h : Int32) : (h &&& 16 = 0 ↔ ixN 32 h = ixN 16 h) ∧ (¬ h &&& 16 = 0 ↔ ixN 32 h = ixN 16 h + 16) := by
  have e : (h &&& 16).toBitVec.toNat = (h.toBitVec.toNat.testBit 4).toNat * 16 := by
    rw [Int32.toBitVec_and, BitVec.toNat_and]
    exact and16 h.toBitVec.toNat
  have z : (h &&& 16 = 0) ↔ (h &&& 16).toBitVec.toNat = 0 := ⟨fun e => by rw [e]; rfl, fun e => Int32.toBitVec_inj.mp (BitVec.eq_of_toNat_eq (by rw [e]; rfl))⟩
  have t : h.toBitVec.toNat.testBit 4 = decide (h.toBitVec.toNat / 16 % 2 = 1) := Nat.testBit_eq_decide_div_mod_eq
  rw [z, e, t]
  unfold ixN
  by_cases c : h.toBitVec.toNat / 16 % 2 = 1
  · rw [decide_eq_true c]
    show (1 * 16 = 0 ↔ _) ∧ (¬ 1 * 16 = 0 ↔ _)
    omega
  · rw [decide_eq_false c]
    show (0 * 16 = 0 ↔ _) ∧ (¬ 0 * 16 = 0 ↔ _)
    omega
theorem ix_m (h : Int32) : ixN 32 h % 16 = ixN 16 h := by unfold ixN; omega
theorem spl_mem {j i : Nat} {n : ND K} (hn : n ∈ spl d B j i) : i % 16 < j ∧ n ∈ B (i % 16) ∧ ixN 32 (hK d n.2.1) = i := by
  unfold spl at hn
  split at hn
  · rename_i e
    rw [List.mem_filter, decide_eq_true_eq] at hn
    exact ⟨e, hn.1, hn.2⟩
  · cases hn
theorem spl_at {j i : Nat} (e : i % 16 = j) : spl d B (j + 1) i = (B j).filter (fun n => decide (ixN 32 (hK d n.2.1) = i)) := by
  unfold spl; rw [if_pos (by omega), e]
theorem spl_off {j i : Nat} (e : i % 16 ≠ j) : spl d B (j + 1) i = spl d B j i := by
  unfold spl
  by_cases h : i % 16 < j
  · rw [if_pos h, if_pos (by omega)]
  · rw [if_neg h, if_neg (by omega)]
theorem inN_spl (h : tbA d G H t 16 B) {n : ND K} : inN (spl d B 16) 32 n ↔ inN B 16 n := by
  constructor
  · rintro ⟨i, hi, hn⟩
    exact ⟨i % 16, by omega, (spl_mem hn).2.1⟩
  · rintro ⟨j, hj, hn⟩
    have e := h.2.2.2.2.1 j hj n hn
    have m := ix_m (hK d n.2.1)
    refine ⟨ixN 32 (hK d n.2.1), Nat.mod_lt _ (by decide), ?_⟩
    unfold spl
    rw [if_pos (by omega), List.mem_filter, decide_eq_true_eq, m, e]
    exact ⟨hn, rfl⟩
theorem tbA.dbl {nt : Nat} (h : tbA d G H t 16 B) (hnt : (gs G).heap.size ≤ nt) (ha : jaw G H1 nt 8 32 (fun i => va_rf (nxN (spl d B 16 i) none))) (hc : ∀ i, i < 32 → chE d G H1 none (spl d B 16 i)) : tbA d G H1 nt 32 (spl d B 16) := by
  refine ⟨Or.inr rfl, hnt, ha, hc, fun i hi n hn => (spl_mem hn).2.2, fun i hi => ?_⟩
  have h6 := h.2.2.2.2.2 (i % 16) (by omega)
  unfold spl
  split
  · exact List.Pairwise.sublist (List.Sublist.map _ List.filter_sublist) h6
  · exact List.Pairwise.nil
/-- the old table emptied up to j, the new one filled -/
def rsA (d : KD K) (G : JG) (H0 H : Heap) (q t nt sz : Nat) (mc : Int32) (B : Nat → List (ND K)) (j : Nat) : Prop :=
  jow G H q 9 (hmF sz mc 32 (some nt)) ∧ jaw G H t 8 16 (fun i => va_rf (if i < j then none else nxN (B i) none)) ∧ jaw G H nt 8 32 (fun i => va_rf (nxN (spl d B j i) none)) ∧ (∀ i, j ≤ i → i < 16 → chE d G H none (B i)) ∧ (∀ i, i < 32 → chE d G H none (spl d B j i)) ∧ JFr (fpN q (some t) B 16) H0 H
def rsP (t nt : Nat) (L : List (ND K)) (a : Nat) : Prop := a = t ∨ a = nt ∨ ∃ n ∈ L, n.1 = a
theorem rsA.step {H0 : Heap} {nt j : Nat} (hC : JC G) (hd : KOK d) (hT : tbA d G H0 t 16 B) (h : rsA d G H0 H q t nt sz mc B j) (hj : j < 16) (hnt : H0.size ≤ nt) (hF : JFr (rsP t nt (B j)) H H1)
    (ht : jaw G H1 t 8 16 (fun i => va_rf (if i < j + 1 then none else nxN (B i) none))) (hn : jaw G H1 nt 8 32 (fun i => va_rf (nxN (spl d B (j + 1) i) none)))
    (hl : chE d G H1 none ((B j).filter (fun n => decide (ixN 32 (hK d n.2.1) = j)))) (hh : chE d G H1 none ((B j).filter (fun n => decide (ixN 32 (hK d n.2.1) = j + 16)))) : rsA d G H0 H1 q t nt sz mc B (j + 1) := by
  obtain ⟨h1, h2, h3, h4, h5, h6⟩ := h
  have hcj := h4 j (Nat.le_refl _) hj
  have keep : ∀ (i : Nat) (L : List (ND K)), i ≠ j → i < 16 → (∀ n ∈ L, n ∈ B i) → chE d G H none L → chE d G H1 none L := by
    intro i L hi hi2 hL hc
    refine hc.fr hF (fun n hn => ?_) (fun n hn => ?_)
    · rintro (e | e | ⟨m, hm, e⟩)
      · exact hC.neA (hc.get hn).1.choose_spec.r h2 (by decide) e
      · exact hC.neA (hc.get hn).1.choose_spec.r h3 (by decide) e
      · have := hT.eq hd ⟨j, hj, hm⟩ ⟨i, hi2, hL n hn⟩ e
        subst this
        exact hi (hT.bin hi2 hj (hL m hn) hm)
    · have hk := (hc.get hn).2.2
      rintro (e | e | ⟨m, hm, e⟩)
      · exact hC.neA hk h2 (by decide) e
      · exact hC.neA hk h3 (by decide) e
      · exact hC.ne hk (hcj.get hm).1.choose_spec.r hd.2.1 e.symm
  refine ⟨h1.fr hF ?_, ht, hn, fun i hi hi2 => keep i _ (by omega) hi2 (fun n hn => hn) (h4 i (by omega) hi2), fun i hi => ?_, JFr.call h6 hF ?_⟩
  · rintro (e | e | ⟨m, hm, e⟩)
    · exact hC.neA h1.r h2 (by decide) e
    · exact hC.neA h1.r h3 (by decide) e
    · exact hC.ne h1.r (hcj.get hm).1.choose_spec.r (by decide) e.symm
  · by_cases e : i % 16 = j
    · rw [spl_at e]
      rcases (show i = j ∨ i = j + 16 by omega) with rfl | rfl
      · exact hl
      · exact hh
    · rw [spl_off e]
      exact keep (i % 16) _ e (by omega) (fun n hn => (spl_mem hn).2.1) (h5 i hi)
  · rintro a ha (e | e | ⟨m, hm, e⟩)
    · exact Or.inr (Or.inl (by rw [e]))
    · omega
    · exact Or.inr (Or.inr ⟨m, ⟨j, hj, hm⟩, e⟩)
end
