/-! laws: the best of some, ranks -/
set_option maxRecDepth 100000
section
variable {s : Nat → Nat} {L : List Nat}
theorem bet_irr (x : Nat) : betN s x x = false := by unfold betN; simp
theorem bet_asym {x y : Nat} (h : betN s x y = true) : betN s y x = false := by
  unfold betN at *
  simp only [Bool.or_eq_true, Bool.and_eq_true, decide_eq_true_eq, Bool.or_eq_false_iff, Bool.and_eq_false_iff, decide_eq_false_iff_not] at *
  omega
theorem bet_trans {x y z : Nat} (h : betN s x y = true) (k : betN s y z = true) : betN s x z = true := by
  unfold betN at *
  simp only [Bool.or_eq_true, Bool.and_eq_true, decide_eq_true_eq] at *
  omega
theorem bet_tot (hS : SlL s L) {x y : Nat} (hx : x ∈ L) (hy : y ∈ L) (n : x ≠ y) : betN s x y = false → betN s y x = true := by
  have hne : aId s x ≠ aId s y := fun e => n (hS.inj hx hy e)
  unfold betN
  simp only [Bool.or_eq_true, Bool.and_eq_true, decide_eq_true_eq, Bool.or_eq_false_iff, Bool.and_eq_false_iff, decide_eq_false_iff_not]
  omega
theorem idl_irr (x : Nat) : idLt s x x = false := by unfold idLt; simp
theorem idl_asym {x y : Nat} (h : idLt s x y = true) : idLt s y x = false := by
  unfold idLt at *
  simp only [decide_eq_true_eq, decide_eq_false_iff_not] at *
  omega
theorem idl_trans {x y z : Nat} (h : idLt s x y = true) (k : idLt s y z = true) : idLt s x z = true := by
  unfold idLt at *
  simp only [decide_eq_true_eq] at *
  omega
theorem idl_tot (hS : SlL s L) {x y : Nat} (hx : x ∈ L) (hy : y ∈ L) (n : x ≠ y) : idLt s x y = false → idLt s y x = true := by
  have hne : aId s x ≠ aId s y := fun e => n (hS.inj hx hy e)
  unfold idLt
  simp only [decide_eq_true_eq, decide_eq_false_iff_not]
  omega
theorem best_comm (hS : SlL s L) (c : Nat → Bool) : ∀ x ∈ L, ∀ y ∈ L, ∀ z, bestF s c y (bestF s c x z) = bestF s c x (bestF s c y z) := by
  intro x hx y hy z
  by_cases n : x = y
  · rw [n]
  · have t1 := bet_tot hS hx hy n
    have t2 := bet_tot hS hy hx (Ne.symm n)
    have a1 := @bet_asym s x y
    have a2 := @bet_asym s y x
    cases z with
    | none =>
      unfold bestF
      by_cases cx : c x = true <;> by_cases cy : c y = true <;> simp [cx, cy]
      cases e : betN s x y <;> cases e2 : betN s y x <;> simp_all
    | some q =>
      have r1 := @bet_trans s x y q
      have r2 := @bet_trans s y x q
      unfold bestF
      by_cases cx : c x = true <;> by_cases cy : c y = true <;> simp [cx, cy]
      cases e : betN s x y <;> cases e2 : betN s y x <;> cases e3 : betN s x q <;> cases e4 : betN s y q <;> simp_all
theorem best_law (hS : SlL s L) (c : Nat → Bool) : jfold (fun j o => bestF s c (L.getD j 0) o) L.length none = jfold (bestF s (fun k => usedN s k && c k)) 10 none := by
  rw [fold_perm hS (bestF s c) (best_comm hS c)]
  refine fold_ext 10 none (fun k o _ => ?_)
  unfold bestF
  cases e : usedN s k <;> simp [e]
theorem candN_law (hS : SlL s L) (p : Nat) : jfold (fun j o => bestF s (fun k => (fillN s k).isNone && fitN s k p) (L.getD j 0) o) L.length none = candN s p := by
  have : (fun k => usedN s k && ((fillN s k).isNone && fitN s k p)) = (fun k => waitN s k && fitN s k p) := by
    funext k; unfold waitN; rw [Bool.and_assoc]
  rw [best_law hS, this]; rfl
end
/-! ranks in a strict order -/
def ahL (c : Nat → Nat → Bool) (L : List Nat) (k : Nat) : Nat := L.countP (fun o => c o k)
section
variable {c : Nat → Nat → Bool} {L : List Nat}
def StO (c : Nat → Nat → Bool) (L : List Nat) : Prop := (∀ x, c x x = false) ∧ (∀ x y, c x y = true → c y x = false) ∧ (∀ x y z, c x y = true → c y z = true → c x z = true) ∧ (∀ x ∈ L, ∀ y ∈ L, x ≠ y → c x y = false → c y x = true)
theorem ah_lt {x y : Nat} (h : StO c L) (hx : x ∈ L) (hxy : c x y = true) : ahL c L x < ahL c L y := by
  obtain ⟨h1, h2, h3, h4⟩ := h
  unfold ahL
  obtain ⟨A, B, rfl⟩ := List.append_of_mem hx
  simp only [List.countP_append, List.countP_cons, h1, hxy, if_true]
  have e1 := List.countP_mono_left (l := A) (p := fun o => c o x) (q := fun o => c o y) (fun o _ ho => h3 o x y ho hxy)
  have e2 := List.countP_mono_left (l := B) (p := fun o => c o x) (q := fun o => c o y) (fun o _ ho => h3 o x y ho hxy)
  simp
  omega
theorem ah_inj {x y : Nat} (h : StO c L) (hx : x ∈ L) (hy : y ∈ L) (e : ahL c L x = ahL c L y) : x = y := by
  by_cases n : x = y
  · exact n
  · cases hxy : c x y with
    | true => have := ah_lt h hx hxy; omega
    | false => have := ah_lt h hy (h.2.2.2 x hx y hy n hxy); omega
theorem min_ex : ∀ (L : List Nat), L ≠ [] → StO c L → ∃ m ∈ L, ∀ x ∈ L, c m x = false := by
  intro L
  induction L with
  | nil => intro h; exact absurd rfl h
  | cons a t ih =>
    intro _ h
    obtain ⟨h1, h2, h3, h4⟩ := h
    by_cases ht : t = []
    · subst ht
      exact ⟨a, List.mem_cons_self, fun x hx => by rw [List.mem_singleton.mp hx]; exact h1 a⟩
    · obtain ⟨m, hm, hmin⟩ := ih ht ⟨h1, h2, h3, fun x hx y hy => h4 x (List.mem_cons_of_mem _ hx) y (List.mem_cons_of_mem _ hy)⟩
      cases e : c m a with
      | false =>
        refine ⟨m, List.mem_cons_of_mem _ hm, fun x hx => ?_⟩
        rcases List.mem_cons.mp hx with rfl | hx
        · exact e
        · exact hmin x hx
      | true =>
        refine ⟨a, List.mem_cons_self, fun x hx => ?_⟩
        rcases List.mem_cons.mp hx with rfl | hx
        · exact h1 x
        · cases e2 : c a x with
          | false => rfl
          | true => have := h3 m a x e e2; rw [hmin x hx] at this; cases this
theorem ah_ex : ∀ (n : Nat) (L : List Nat), L.length = n → L.Nodup → StO c L → ∀ r, r < n → ∃ k ∈ L, ahL c L k = r := by
  intro n
  induction n with
  | zero => intro L _ _ _ r hr; exact absurd hr (Nat.not_lt_zero r)
  | succ n ih =>
    intro L hl hn h r hr
    have hne : L ≠ [] := fun e => by subst e; cases hl
    obtain ⟨m, hm, hmin⟩ := min_ex L hne h
    obtain ⟨h1, h2, h3, h4⟩ := h
    have hp := List.perm_cons_erase hm
    have hcount : ∀ k, ahL c L k = (if c m k then 1 else 0) + ahL c (L.erase m) k := fun k => by
      unfold ahL
      rw [hp.countP_eq, List.countP_cons]; omega
    by_cases e : r = n
    · refine ⟨m, hm, ?_⟩
      have hall : ahL c (L.erase m) m = (L.erase m).length := by
        unfold ahL
        rw [List.countP_eq_length]
        intro x hx
        have hxL := List.mem_of_mem_erase hx
        have hxm : x ≠ m := fun z => by subst z; exact hn.not_mem_erase hx
        exact h4 m hm x hxL (Ne.symm hxm) (hmin x hxL)
      rw [hcount, hall, h1, List.length_erase_of_mem hm]
      simp; omega
    · obtain ⟨k, hk, hr2⟩ := ih (L.erase m) (by rw [List.length_erase_of_mem hm]; omega) (hn.erase m) ⟨h1, h2, h3, fun x hx y hy => h4 x (List.mem_of_mem_erase hx) y (List.mem_of_mem_erase hy)⟩ r (by omega)
      have hkL := List.mem_of_mem_erase hk
      refine ⟨k, hkL, ?_⟩
      rw [hcount, hmin k hkL, hr2]; simp
end
