/-! laws: ranks told, blocking pairs told -/
set_option maxRecDepth 100000
section
variable {s : Nat → Nat} {L : List Nat}
theorem lfN_count (p : Nat → Bool) : lfN L (fun o => if p o then 1 else 0) L.length = L.countP p := by
  unfold lfN
  rw [jfold_list (fun o a => a + if p o then 1 else 0) L 0]
  have : ∀ (L : List Nat) (a : Nat), L.foldl (fun a o => a + if p o then 1 else 0) a = a + L.countP p := by
    intro L
    induction L with
    | nil => intro a; rfl
    | cons x t ih => intro a; rw [List.foldl_cons, ih, List.countP_cons]; omega
  rw [this]; omega
theorem ahead_law (hS : SlL s L) (c : Nat → Nat → Bool) (k : Nat) : lfN L (fun o => if c o k then 1 else 0) L.length = aheadN s c k := by
  rw [lfN_eq hS]
  refine fold_ext 10 0 (fun o a _ => ?_)
  unfold aheadF
  cases e : usedN s o <;> simp [e]
theorem ahead_ah (hS : SlL s L) (c : Nat → Nat → Bool) (k : Nat) : aheadN s c k = ahL c L k := by
  rw [← ahead_law hS c k, lfN_count]; rfl
theorem apps_law (hS : SlL s L) : appsN s = L.length := by
  have h := lfN_eq hS (fun _ => 1)
  have e : lfN L (fun _ => 1) L.length = L.length := by
    have : ∀ i, lfN L (fun _ => 1) i = i := by
      intro i
      induction i with
      | zero => rfl
      | succ i ih => rw [lfN_s, ih]
    exact this _
  rw [e] at h
  rw [h]; rfl
/-- the one of a rank, told by a value -/
def rkO (s : Nat → Nat) (c : Nat → Nat → Bool) (x : Int32) (L : List Nat) (i : Nat) : Int32 := jfold (fun j o => if nI (aheadN s c (L.getD j 0)) = x then idI s (L.getD j 0) else o) i (-1)
theorem rkO_0 (s : Nat → Nat) (c : Nat → Nat → Bool) (x : Int32) (L : List Nat) : rkO s c x L 0 = -1 := rfl
theorem rkO_s (s : Nat → Nat) (c : Nat → Nat → Bool) (x : Int32) (L : List Nat) (i : Nat) : rkO s c x L (i + 1) = if nI (aheadN s c (L.getD i 0)) = x then idI s (L.getD i 0) else rkO s c x L i := rfl
theorem fold_any {α : Type} {q : Nat → Prop} [DecidablePred q] {v : Nat → α} {a a' : α} : ∀ n, (∃ k, k < n ∧ q k) → jfold (fun k o => if q k then v k else o) n a = jfold (fun k o => if q k then v k else o) n a' := by
  intro n
  induction n with
  | zero => rintro ⟨k, hk, _⟩; exact absurd hk (Nat.not_lt_zero k)
  | succ n ih =>
    rintro ⟨k, hk, hq⟩
    rw [jfold_succ, jfold_succ]
    by_cases e : q n
    · rw [if_pos e, if_pos e]
    · rw [if_neg e, if_neg e]
      exact ih ⟨k, by
        have : k ≠ n := fun z => by subst z; exact e hq
        omega, hq⟩
theorem ah_le (c : Nat → Nat → Bool) (k : Nat) : ahL c L k ≤ L.length := List.countP_le_length
theorem rank_law (hS : SlL s L) (c : Nat → Nat → Bool) (hc : StO c L) {x : Int32} (hx : (decide (0 ≤ x) && decide (x ≤ nI L.length - 1)) = true) : rankQ s c x = (0, rkO s c x L L.length) := by
  unfold rankQ
  rw [apps_law hS, if_pos hx]
  congr 1
  have hl := hS.len
  rw [Bool.and_eq_true, decide_eq_true_eq, decide_eq_true_eq] at hx
  obtain ⟨r, hr, rfl⟩ := nI_of (Int32.not_lt.mpr hx.1)
  have hlt : r < L.length := by
    by_cases z : L.length = 0
    · rw [z] at hx
      have h2 := hx.2
      exact absurd h2 (fun q => by
        rw [show nI 0 - 1 = zI (-1) from rfl, nI_zI, zI_le (by omega) (by omega)] at q; omega)
    · obtain ⟨m, hm⟩ : ∃ m, L.length = m + 1 := ⟨L.length - 1, by omega⟩
      rw [hm, nI_pred, nI_leI hr (by omega)] at hx
      omega
  obtain ⟨k0, hk0, hr0⟩ := ah_ex L.length L rfl hS.nodup hc r hlt
  have inj : ∀ x ∈ L, ∀ y ∈ L, nI (aheadN s c x) = nI r → nI (aheadN s c y) = nI r → x = y := fun x hx y hy e1 e2 => by
    rw [ahead_ah hS] at e1 e2
    have l1 := ah_le (L := L) c x
    have l2 := ah_le (L := L) c y
    rw [nI_eq (by omega) (by omega)] at e1 e2
    exact ah_inj hc hx hy (e1.trans e2.symm)
  have e1 : rkO s c (nI r) L L.length = jfold (fun k o => if usedN s k then (if nI (aheadN s c k) = nI r then idI s k else o) else o) 10 (-1) :=
    fold_perm hS (fun k o => if nI (aheadN s c k) = nI r then idI s k else o) (fun x hx y hy z => by
      by_cases n : x = y
      · rw [n]
      · by_cases a : nI (aheadN s c x) = nI r
        · by_cases b : nI (aheadN s c y) = nI r
          · exact absurd (inj x hx y hy a b) n
          · simp [a, b]
        · simp [a]) (-1)
  rw [e1]
  have e2 : jfold (rankF s c (nI r)) 10 0 = jfold (fun k o => if (usedN s k && decide (nI (aheadN s c k) = nI r)) = true then idI s k else o) 10 0 := rfl
  rw [e2, fold_any (a := (0 : Int32)) (a' := -1) 10 ⟨k0, (hS.lt hk0).1, by
    rw [Bool.and_eq_true, decide_eq_true_eq]
    exact ⟨by unfold usedN; exact decide_eq_true (hS.lt hk0).2, by rw [ahead_ah hS, hr0]⟩⟩]
  refine fold_ext 10 (-1) (fun k a _ => ?_)
  cases usedN s k <;> simp
theorem bet_st (hS : SlL s L) : StO (betN s) L := ⟨bet_irr, fun _ _ => bet_asym, fun _ _ _ => bet_trans, fun _ hx _ hy n => bet_tot hS hx hy n⟩
theorem idl_st (hS : SlL s L) : StO (idLt s) L := ⟨idl_irr, fun _ _ => idl_asym, fun _ _ _ => idl_trans, fun _ hx _ hy n => idl_tot hS hx hy n⟩
/-- the position in the order of ids -/
theorem idl_pos : ∀ (A B : List Nat) (k : Nat), (A ++ k :: B).Pairwise (fun i j => aId s i < aId s j) → ahL (idLt s) (A ++ k :: B) k = A.length := by
  intro A B k h
  rw [List.pairwise_append, List.pairwise_cons] at h
  obtain ⟨h1, ⟨h2, h3⟩, h4⟩ := h
  unfold ahL
  rw [List.countP_append, List.countP_cons]
  have e1 : A.countP (fun o => idLt s o k) = A.length := by
    rw [List.countP_eq_length]
    intro x hx
    unfold idLt; exact decide_eq_true (h4 x hx k List.mem_cons_self)
  have e2 : B.countP (fun o => idLt s o k) = 0 := by
    rw [List.countP_eq_zero]
    intro x hx z
    unfold idLt at z
    have := h2 x hx
    rw [decide_eq_true_eq] at z
    omega
  rw [e1, e2, idl_irr]; simp
def blO (s : Nat → Nat) (L : List Nat) (i : Nat) : Nat := jfold (fun j a => jfold (blkF s (L.getD j 0)) (s 2) a) i 0
theorem blO_0 (s : Nat → Nat) (L : List Nat) : blO s L 0 = 0 := rfl
theorem blO_s (s : Nat → Nat) (L : List Nat) (i : Nat) : blO s L (i + 1) = jfold (blkF s (L.getD i 0)) (s 2) (blO s L i) := rfl
theorem blk_add (k : Nat) : ∀ n a, jfold (blkF s k) n a = a + jfold (blkF s k) n 0 := by
  intro n
  induction n with
  | zero => intro a; rfl
  | succ n ih => intro a; rw [jfold_succ, jfold_succ, ih a]; unfold blkF; omega
theorem blO_law (hS : SlL s L) : blO s L L.length = blksN s := by
  unfold blO
  rw [fold_perm hS (fun k a => jfold (blkF s k) (s 2) a) (fun x _ y _ z => by
    show jfold (blkF s y) (s 2) (jfold (blkF s x) (s 2) z) = jfold (blkF s x) (s 2) (jfold (blkF s y) (s 2) z)
    rw [blk_add, blk_add x (s 2) z, blk_add x (s 2) (jfold _ _ _), blk_add y (s 2) z]; omega)]
  rfl
end
