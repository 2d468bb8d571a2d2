/-! the applicants in the order of their ids, and in the order of their slots -/
set_option maxRecDepth 100000
theorem jfold_list {α : Type} (F : Nat → α → α) : ∀ (L : List Nat) (a : α), jfold (fun j a => F (L.getD j 0) a) L.length a = L.foldl (fun a k => F k a) a := by
  have gen : ∀ (L A : List Nat) (a : α), jfold (fun j a => F ((A ++ L).getD j 0) a) (A.length + L.length) a = L.foldl (fun a k => F k a) (jfold (fun j a => F ((A ++ L).getD j 0) a) A.length a) := by
    intro L
    induction L with
    | nil => intro A a; rfl
    | cons x t ih =>
      intro A a
      have h := ih (A ++ [x]) a
      rw [List.append_assoc, List.singleton_append, List.length_append, List.length_singleton] at h
      rw [show A.length + (x :: t).length = A.length + 1 + t.length by simp; omega, h, List.foldl_cons, jfold_succ]
      congr 2
      simp
  intro L a
  have := gen L [] a
  rw [List.nil_append, List.length_nil, Nat.zero_add] at this
  exact this
theorem jfold_range {α : Type} (F : Nat → α → α) : ∀ (n : Nat) (a : α), jfold F n a = (List.range n).foldl (fun a k => F k a) a := by
  intro n
  induction n with
  | zero => intro a; rfl
  | succ n ih => intro a; rw [jfold_succ, List.range_succ, List.foldl_append, ih]; rfl
theorem SlL.perm {s : Nat → Nat} {L : List Nat} (h : SlL s L) : L.Perm ((List.range 10).filter (fun k => usedN s k)) := by
  rw [List.perm_ext_iff_of_nodup h.nodup (List.Pairwise.filter _ List.nodup_range)]
  intro k
  rw [h.1 k, List.mem_filter, List.mem_range]
  unfold usedN
  rw [decide_eq_true_eq]
/-- a fold that does not mind the order -/
theorem fold_perm {α : Type} {s : Nat → Nat} {L : List Nat} (h : SlL s L) (F : Nat → α → α) (hF : ∀ x ∈ L, ∀ y ∈ L, ∀ z, F y (F x z) = F x (F y z)) (a : α) :
    jfold (fun j a => F (L.getD j 0) a) L.length a = jfold (fun k a => if usedN s k then F k a else a) 10 a := by
  rw [jfold_list, jfold_range, List.Perm.foldl_eq' h.perm (fun x hx y hy z => hF x hx y hy z) a, List.foldl_filter]
theorem fold_ext {α : Type} {F G : Nat → α → α} : ∀ (n : Nat) (a : α), (∀ k a, k < n → F k a = G k a) → jfold F n a = jfold G n a := by
  intro n
  induction n with
  | zero => intro a _; rfl
  | succ n ih => intro a h; rw [jfold_succ, jfold_succ, ih a (fun k a hk => h k a (by omega)), h n _ (by omega)]
theorem lfN_eq {s : Nat → Nat} {L : List Nat} (h : SlL s L) (f : Nat → Nat) : lfN L f L.length = jfold (fun k a => a + if usedN s k then f k else 0) 10 0 := by
  have := fold_perm h (fun k a => a + f k) (fun x _ y _ z => by omega) 0
  exact Eq.trans this (fold_ext 10 0 (fun k a _ => by split <;> simp))
theorem wc_law {s : Nat → Nat} {L : List Nat} (h : SlL s L) : lfN L (fun k => if (fillN s k).isSome then 0 else 1) L.length = wcN s := by
  rw [lfN_eq h]
  refine fold_ext 10 0 (fun k a _ => ?_)
  unfold wcF waitN
  cases usedN s k <;> cases fillN s k <;> simp
theorem cand_law {s : Nat → Nat} {L : List Nat} (h : SlL s L) (p : Nat) : lfN L (fun k => if (fillN s k).isNone && fitN s k p then 1 else 0) L.length = jfold (candCF s p) 10 0 := by
  rw [lfN_eq h]
  refine fold_ext 10 0 (fun k a _ => ?_)
  unfold candCF waitN
  cases usedN s k <;> cases fillN s k <;> simp
theorem refs_law {s : Nat → Nat} {L : List Nat} (h : SlL s L) (n : Nat) (hn : ∀ i, n.testBit i = true → 0 < aId s i) : lfN L (fun i => if n.testBit i then 1 else 0) L.length = bitN n := by
  rw [lfN_eq h]
  refine fold_ext 10 0 (fun k a _ => ?_)
  cases e : n.testBit k with
  | false => simp
  | true => have := hn k e; simp [usedN, this]
theorem refFrom_law {s : Nat → Nat} {L : List Nat} (h : SlL s L) (k : Nat) (hn : ∀ j, j < 10 → aId s j = 0 → aGv s j = 0) : lfN L (fun j => if (aGv s j).testBit k then 1 else 0) L.length = jfold (refFromF s k) 10 0 := by
  rw [lfN_eq h]
  refine fold_ext 10 0 (fun j a hj => ?_)
  unfold refFromF usedN
  by_cases c : 0 < aId s j
  · rw [decide_eq_true c]; rfl
  · rw [decide_eq_false c, hn j hj (by omega)]; simp
theorem lfN_cap {L : List Nat} {f : Nat → Nat} {c : Nat} (hf : ∀ k, f k ≤ c) : ∀ i, lfN L f i ≤ c * i := by
  intro i
  induction i with
  | zero => exact Nat.le_refl _
  | succ i ih => unfold lfN at *; rw [jfold_succ, Nat.mul_succ]; have := hf (L.getD i 0); omega
