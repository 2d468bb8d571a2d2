/-! J: calls that change nothing; loops that count -/
set_option maxRecDepth 100000
/-- a question: the answer e, the heap as it was -/
abbrev jpe (H : Heap) (e : Int32) : Option Value → Heap → Prop := jpi (fun r H1 => H1 = H ∧ r = e)
abbrev jpae (H : Heap) (e : Nat) : Option Value → Heap → Prop := jpa (fun r H1 => H1 = H ∧ r = e)
abbrev jpqe (H : Heap) (e : Option Nat) : Option Value → Heap → Prop := jpq (fun r H1 => H1 = H ∧ r = e)
abbrev jpve (H : Heap) : Option Value → Heap → Prop := jpv (fun H1 => H1 = H)
section
variable {X : JX} {G : JG} {H : Heap} {b b' pc : Nat} {lv : JL} {rest st0 : List Value} {px : String → Nat → Heap → Prop}
theorem j_rune {e : Int32} (hr : JRun X G H b' pc st0 rest (jpe H e) px) (kk : JW X G H b (pc + 3) lv (.int e :: rest)) (kx : ∀ (E : String) (q : Nat) (H1 : Heap), px E q H1 → H.size ≤ H1.size → JT X G H1 b pc lv rest E q) : JW X G H (b + b') pc lv st0 :=
  j_runi hr (fun r H1 hp hz => by obtain ⟨e1, e2⟩ := hp; rw [e1, e2]; exact kk) kx
theorem j_runae {e : Nat} (hr : JRun X G H b' pc st0 rest (jpae H e) px) (kk : JW X G H b (pc + 3) lv (.ref e :: rest)) (kx : ∀ (E : String) (q : Nat) (H1 : Heap), px E q H1 → H.size ≤ H1.size → JT X G H1 b pc lv rest E q) : JW X G H (b + b') pc lv st0 :=
  j_runa hr (fun r H1 hp hz => by obtain ⟨e1, e2⟩ := hp; rw [e1, e2]; exact kk) kx
theorem j_runqe {e : Option Nat} (hr : JRun X G H b' pc st0 rest (jpqe H e) px) (kk : JW X G H b (pc + 3) lv (va_rf e :: rest)) (kx : ∀ (E : String) (q : Nat) (H1 : Heap), px E q H1 → H.size ≤ H1.size → JT X G H1 b pc lv rest E q) : JW X G H (b + b') pc lv st0 :=
  j_runq hr (fun r H1 hp hz => by obtain ⟨e1, e2⟩ := hp; rw [e1, e2]; exact kk) kx
theorem j_runve (hr : JRun X G H b' pc st0 rest (jpve H) px) (kk : JW X G H b (pc + 3) lv rest) (kx : ∀ (E : String) (q : Nat) (H1 : Heap), px E q H1 → H.size ≤ H1.size → JT X G H1 b pc lv rest E q) : JW X G H (b + b') pc lv st0 :=
  j_runv hr (fun H1 hp hz => by rw [hp]; exact kk) kx
end
/-- a loop that counts up to N -/
theorem jloop {P : Nat → Prop} (N : Nat) (hN : P N) (hs : ∀ i, i < N → P (i + 1) → P i) : ∀ i, i ≤ N → P i := by
  intro i hi
  obtain ⟨m, hm⟩ : ∃ m, i + m = N := ⟨N - i, by omega⟩
  induction m generalizing i with
  | zero => rw [show i = N by omega]; exact hN
  | succ m ih => exact hs i (by omega) (ih (i + 1) (by omega) (by omega))
def jfold {α : Type} (f : Nat → α → α) : Nat → α → α
  | 0, x => x
  | n + 1, x => f n (jfold f n x)
theorem jfold_succ {α : Type} (f : Nat → α → α) (n : Nat) (x : α) : jfold f (n + 1) x = f n (jfold f n x) := rfl
/-- 'i < n' of ints that are small -/
theorem jge_no {a b : Nat} (h : ¬ nI a ≤ nI b) (ha : a < 2 ^ 31) (hb : b < 2 ^ 31) : b < a := by
  rcases Nat.lt_or_ge b a with q | q
  · exact q
  · exact absurd (nI_le q hb) h
theorem jge_yes {a b : Nat} (h : nI a ≤ nI b) (ha : a < 2 ^ 31) (hb : b < 2 ^ 31) : a ≤ b := (nI_leI ha hb).mp h
theorem nI_smod : ∀ n, n < 32 → ((nI n &&& 31).toBitVec.smod 32).toNat = n := by decide +kernel
theorem nI_bit {n k : Nat} (hn : n < 2 ^ 31) (hk : k < 31) : (nI n >>> (nI k &&& 31)) &&& 1 = nI (if n.testBit k then 1 else 0) := by
  rw [pk_shrN hn _ k (nI_smod k (by omega)), pk_andN (Nat.lt_of_le_of_lt (Nat.div_le_self _ _) (by omega)) 1 (by decide)]
  congr 1
  rw [Nat.testBit_eq_decide_div_mod_eq]
  have := Nat.mod_two_eq_zero_or_one (n / 2 ^ k)
  rcases this with h | h <;> simp [h]
