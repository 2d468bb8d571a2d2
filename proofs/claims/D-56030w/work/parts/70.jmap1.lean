/-! the map: cells told apart by their classes; bins -/
set_option maxRecDepth 100000
def jcn (ci : Nat) : String := match jcl[ci]? with | some r => r.1 | none => ""
theorem jcn_ne : ∀ i, i < 18 → ∀ j, j < 18 → i ≠ j → jcn i ≠ jcn j := by decide +kernel
theorem JC.cls {G : JG} (hC : JC G) {i : Nat} {r : vw_C} (hr : jcl[i]? = some r) : (gs G).vm.findClass (jcn i) = some ((gD G).1 i) := by
  have h := (hC.1.1 i r hr).2.1
  unfold jcn; rw [hr]; exact h
theorem jcl_lt {i : Nat} {r : vw_C} (hr : jcl[i]? = some r) : i < 18 := (List.getElem?_eq_some_iff.mp hr).1
theorem JC.ids {G : JG} (hC : JC G) {i j : Nat} {r r' : vw_C} (hr : jcl[i]? = some r) (hr' : jcl[j]? = some r') (e : (gD G).1 i = (gD G).1 j) : i = j := by
  by_cases h : i = j
  · exact h
  · obtain ⟨k, a1, a2⟩ := Vm.findClass_spec (hC.cls hr)
    obtain ⟨k', b1, b2⟩ := Vm.findClass_spec (hC.cls hr')
    rw [e] at a1
    cases Option.some.inj (a1.symm.trans b1)
    exact absurd (a2.symm.trans b2) (jcn_ne i (jcl_lt hr) j (jcl_lt hr') h)
/-- two objects of unlike classes lie apart -/
theorem JC.ne {G : JG} (hC : JC G) {H : Heap} {a b i j : Nat} {fs gs' : List Value} (h : job G H a i fs) (h2 : job G H b j gs') (n : i ≠ j) : a ≠ b := by
  intro e; subst e
  obtain ⟨r1, c1, e1, a1, b1, -⟩ := h
  obtain ⟨r2, c2, e2, a2, b2, -⟩ := h2
  cases Option.some.inj (a1.symm.trans a2)
  exact n (hC.ids e1 e2 (b1.symm.trans b2))
def jtn (t : Nat) : String := "[" ++ (match jty t with | .object C => "L" ++ C ++ ";" | x => x.toString)
theorem JC.arr {G : JG} (hC : JC G) {t : Nat} (ht : t < 10) : ∃ nm : String, nm.toList.head? = some '[' ∧ (gs G).vm.findClass nm = some (gT G t) := by
  have h := (hC.1.2 t _ (jtys_at ht)).2
  rcases (show t = 0 ∨ t = 1 ∨ t = 2 ∨ t = 3 ∨ t = 4 ∨ t = 5 ∨ t = 6 ∨ t = 7 ∨ t = 8 ∨ t = 9 by omega) with rfl | rfl | rfl | rfl | rfl | rfl | rfl | rfl | rfl | rfl
  · exact ⟨_, by rw [String.toList_append]; rfl, h⟩
  · exact ⟨_, by rw [String.toList_append]; rfl, h⟩
  · exact ⟨_, by rw [String.toList_append]; rfl, h⟩
  · exact ⟨_, by rw [String.toList_append]; rfl, h⟩
  · exact ⟨_, by rw [String.toList_append]; rfl, h⟩
  · exact ⟨_, by rw [String.toList_append]; rfl, h⟩
  · obtain ⟨kA, comp, g1, g2, g3, g4⟩ := h; exact ⟨_, by rw [String.toList_append]; rfl, g4⟩
  · obtain ⟨kA, comp, g1, g2, g3, g4⟩ := h; exact ⟨_, by rw [String.toList_append]; rfl, g4⟩
  · obtain ⟨kA, comp, g1, g2, g3, g4⟩ := h; exact ⟨_, by rw [String.toList_append]; rfl, g4⟩
  · obtain ⟨kA, comp, g1, g2, g3, g4⟩ := h; exact ⟨_, by rw [String.toList_append]; rfl, g4⟩
theorem jcn_no : ∀ i, i < 18 → (jcn i).toList.head? ≠ some '[' := by decide +kernel
/-- an object and an array lie apart -/
theorem JC.neA {G : JG} (hC : JC G) {H : Heap} {a b i t n : Nat} {fs : List Value} {f : Nat → Value} (h : job G H a i fs) (h2 : jaw G H b t n f) (ht : t < 10) : a ≠ b := by
  intro e; subst e
  obtain ⟨r1, c1, e1, a1, b1, -⟩ := h
  obtain ⟨c2, a2, b2, -⟩ := h2
  cases Option.some.inj (a1.symm.trans a2)
  obtain ⟨nm, x1, x2⟩ := hC.arr ht
  obtain ⟨k, y1, y2⟩ := Vm.findClass_spec (hC.cls e1)
  obtain ⟨k', z1, z2⟩ := Vm.findClass_spec x2
  rw [← b1, b2] at y1
  cases Option.some.inj (y1.symm.trans z1)
  rw [← z2, y2] at x1
  exact jcn_no i (jcl_lt e1) x1
theorem job_fun {G : JG} {H : Heap} {a ci : Nat} {fs gs' : List Value} (h : job G H a ci fs) (h2 : job G H a ci gs') {r : vw_C} (hr : jcl[ci]? = some r) {k : Nat} (hk : k < r.2.2) : vp_V fs k = vp_V gs' k := by
  obtain ⟨r1, c1, e1, a1, b1, d1, g1, f1⟩ := h
  obtain ⟨r2, c2, e2, a2, b2, d2, g2, f2⟩ := h2
  cases Option.some.inj (hr.symm.trans e1)
  cases Option.some.inj (hr.symm.trans e2)
  cases Option.some.inj (a1.symm.trans a2)
  exact Option.some.inj ((f1 k hk).symm.trans (f2 k hk))
theorem inA_fun {G : JG} {H : Heap} {a : Nat} {x y : Int32} (h : inA G H a x) (h2 : inA G H a y) : x = y := by
  have := job_fun h h2 (r := (RJ19, TJ19, 1)) rfl (k := 0) (by decide)
  simpa [vp_V] using this
theorem rfA_fun {G : JG} {H : Heap} {a : Nat} {x y x2 y2 : Int32} (h : rfA G H a x y) (h2 : rfA G H a x2 y2) : x = x2 ∧ y = y2 := by
  have q0 := job_fun h h2 (r := (RX6, TX6, 2)) rfl (k := 0) (by decide)
  have q1 := job_fun h h2 (r := (RX6, TX6, 2)) rfl (k := 1) (by decide)
  exact ⟨by simpa [vp_V] using q0, by simpa [vp_V] using q1⟩
/-- a node: where it lies, its key's value, its key, its value -/
abbrev ND (K : Type) : Type := Nat × K × Nat × Nat
/-- a kind of keys: their class, fields, hash -/
abbrev KD (K : Type) : Type := Nat × (K → List Value) × (K → Int32)
abbrev kA {K : Type} (d : KD K) (G : JG) (H : Heap) (a : Nat) (k : K) : Prop := job G H a d.1 (d.2.1 k)
abbrev hK {K : Type} (d : KD K) (k : K) : Int32 := hsh (d.2.2 k)
def KOK {K : Type} (d : KD K) : Prop := d.1 ≠ 9 ∧ d.1 ≠ 10 ∧ ∀ (G : JG) (H : Heap) (a : Nat) (k k' : K), kA d G H a k → kA d G H a k' → k = k'
abbrev kdI : KD Int32 := (16, fun k => [.int k], fun k => k)
abbrev kdR : KD (Int32 × Int32) := (4, fun k => [.int k.1, .int k.2], fun k => 1000 * k.1 + k.2)
theorem kdI_ok : KOK kdI := ⟨by decide, by decide, fun _ _ _ _ _ h h2 => inA_fun h h2⟩
theorem kdR_ok : KOK kdR := ⟨by decide, by decide, fun _ _ _ _ _ h h2 => Prod.ext (rfA_fun h h2).1 (rfA_fun h h2).2⟩
def nxN {K : Type} (L : List (ND K)) (o : Option Nat) : Option Nat := match L with | [] => o | n :: _ => some n.1
/-- a bin's nodes, one behind the other; behind the last one lies o -/
def chE {K : Type} (d : KD K) (G : JG) (H : Heap) (o : Option Nat) : List (ND K) → Prop
  | [] => True
  | n :: t => jow G H n.1 10 (ndF (hK d n.2.1) n.2.2.1 n.2.2.2 (nxN t o)) ∧ (gs G).heap.size ≤ n.1 ∧ kA d G H n.2.2.1 n.2.1 ∧ chE d G H o t
section
variable {K : Type} {d : KD K} {G : JG} {H H1 : Heap}
theorem chE.get {o : Option Nat} : ∀ {L : List (ND K)} {n : ND K}, chE d G H o L → n ∈ L → (∃ nx, jow G H n.1 10 (ndF (hK d n.2.1) n.2.2.1 n.2.2.2 nx)) ∧ (gs G).heap.size ≤ n.1 ∧ kA d G H n.2.2.1 n.2.1 := by
  intro L
  induction L with
  | nil => intro n _ h; cases h
  | cons m t ih =>
    intro n h hn
    rcases List.mem_cons.mp hn with rfl | hn
    · exact ⟨⟨_, h.1⟩, h.2.1, h.2.2.1⟩
    · exact ih h.2.2.2 hn
theorem chE.keep {o : Option Nat} : ∀ {L : List (ND K)}, chE d G H o L → (∀ n ∈ L, H1[n.1]? = H[n.1]? ∧ H1[n.2.2.1]? = H[n.2.2.1]?) → chE d G H1 o L := by
  intro L
  induction L with
  | nil => intro _ _; trivial
  | cons m t ih => exact fun h e => ⟨h.1.kept (e m List.mem_cons_self).1, h.2.1, h.2.2.1.kept (e m List.mem_cons_self).2, ih h.2.2.2 (fun n hn => e n (List.mem_cons_of_mem _ hn))⟩
theorem chE.ext {o : Option Nat} {L : List (ND K)} (h : chE d G H o L) (e : JExt H H1) : chE d G H1 o L := h.keep fun n hn => ⟨e.2 _ (h.get hn).1.choose_spec.lt, e.2 _ (h.get hn).2.2.lt⟩
theorem chE.fr {P : Nat → Prop} {o : Option Nat} {L : List (ND K)} (h : chE d G H o L) (e : JFr P H H1) (n1 : ∀ n ∈ L, ¬ P n.1) (n2 : ∀ n ∈ L, ¬ P n.2.2.1) : chE d G H1 o L := h.keep fun n hn => ⟨e.2 _ (h.get hn).1.choose_spec.lt (n1 n hn), e.2 _ (h.get hn).2.2.lt (n2 n hn)⟩
theorem nxN_app (A C : List (ND K)) (o : Option Nat) : nxN (A ++ C) o = nxN A (nxN C o) := by cases A <;> rfl
theorem chE_app {o : Option Nat} {C : List (ND K)} : ∀ {A : List (ND K)}, chE d G H o (A ++ C) ↔ chE d G H (nxN C o) A ∧ chE d G H o C := by
  intro A
  induction A with
  | nil => exact ⟨fun h => ⟨trivial, h⟩, fun h => h.2⟩
  | cons m t ih =>
    show (jow G H m.1 10 (ndF _ _ _ (nxN (t ++ C) o)) ∧ _ ∧ _ ∧ chE d G H o (t ++ C)) ↔ (jow G H m.1 10 (ndF _ _ _ (nxN t (nxN C o))) ∧ _ ∧ _ ∧ chE d G H (nxN C o) t) ∧ _
    rw [nxN_app, ih]
    exact ⟨fun ⟨a, b, c, e, f⟩ => ⟨⟨a, b, c, e⟩, f⟩, fun ⟨⟨a, b, c, e⟩, f⟩ => ⟨a, b, c, e, f⟩⟩
/-- where two nodes lie tells them -/
theorem nd_eq (hd : KOK d) {n m : ND K} {x y : Option Nat} (h : jow G H n.1 10 (ndF (hK d n.2.1) n.2.2.1 n.2.2.2 x)) (hk : kA d G H n.2.2.1 n.2.1) (h2 : jow G H m.1 10 (ndF (hK d m.2.1) m.2.2.1 m.2.2.2 y)) (hk2 : kA d G H m.2.2.1 m.2.1) (e : n.1 = m.1) : n = m := by
  have h2' := h2.r
  rw [← e] at h2'
  have q1 := job_fun h.r h2' (r := (RJ24, TJ24, 4)) rfl (k := 1) (by decide)
  have q2 := job_fun h.r h2' (r := (RJ24, TJ24, 4)) rfl (k := 2) (by decide)
  have e1 : n.2.2.1 = m.2.2.1 := by simpa [vp_V] using q1
  have e2 : n.2.2.2 = m.2.2.2 := by simpa [vp_V] using q2
  rw [← e1] at hk2
  have e3 := hd.2.2 _ _ _ _ _ hk hk2
  exact Prod.ext e (Prod.ext e3 (Prod.ext e1 e2))
end
def findN {K : Type} [DecidableEq K] (k : K) : List (ND K) → Option (ND K)
  | [] => none
  | n :: t => if n.2.1 = k then some n else findN k t
def getN {K : Type} [DecidableEq K] (k : K) (L : List (ND K)) : Option Nat := (findN k L).map (·.1)
theorem getN_yes {K : Type} [DecidableEq K] {k : K} {n : ND K} {L : List (ND K)} (h : n.2.1 = k) : getN k (n :: L) = some n.1 := by unfold getN findN; rw [if_pos h]; rfl
theorem getN_no {K : Type} [DecidableEq K] {k : K} {n : ND K} {L : List (ND K)} (h : ¬ n.2.1 = k) : getN k (n :: L) = getN k L := by unfold getN; rw [findN, if_neg h]
theorem findN_some {K : Type} [DecidableEq K] {k : K} {n : ND K} : ∀ {L : List (ND K)}, findN k L = some n → n ∈ L ∧ n.2.1 = k := by
  intro L
  induction L with
  | nil => intro h; cases h
  | cons m t ih =>
    intro h
    unfold findN at h
    split at h
    · rename_i e; cases Option.some.inj h; exact ⟨List.mem_cons_self, e⟩
    · exact ⟨List.mem_cons_of_mem _ (ih h).1, (ih h).2⟩
theorem findN_none {K : Type} [DecidableEq K] {k : K} : ∀ {L : List (ND K)}, findN k L = none → ∀ n ∈ L, n.2.1 ≠ k := by
  intro L
  induction L with
  | nil => intro _ n h; cases h
  | cons m t ih =>
    intro h n hn
    unfold findN at h
    split at h
    · cases h
    · rename_i e
      rcases List.mem_cons.mp hn with rfl | hn
      · exact e
      · exact ih h n hn
def ixN (cap : Nat) (h : Int32) : Nat := h.toBitVec.toNat % cap
theorem ix_and {cap : Nat} (hc : cap = 16 ∨ cap = 32) (h : Int32) : (nI cap - 1) &&& h = nI (ixN cap h) := by
  rw [Int32.and_comm]
  rcases hc with rfl | rfl
  · exact pk_and h 4 (by decide)
  · exact pk_and h 5 (by decide)
theorem ix_lt {cap : Nat} (hc : cap = 16 ∨ cap = 32) (h : Int32) : ixN cap h < cap := Nat.mod_lt _ (by omega)
/-- a table's bins: heads, chains, keys at their places and told apart -/
def tbA {K : Type} (d : KD K) (G : JG) (H : Heap) (t cap : Nat) (B : Nat → List (ND K)) : Prop :=
  (cap = 16 ∨ cap = 32) ∧ (gs G).heap.size ≤ t ∧ jaw G H t 8 cap (fun j => va_rf (nxN (B j) none)) ∧ (∀ j, j < cap → chE d G H none (B j)) ∧
  (∀ j, j < cap → ∀ n ∈ B j, ixN cap (hK d n.2.1) = j) ∧ ∀ j, j < cap → ((B j).map (·.2.1)).Nodup
/-- a map at q: its table (none, or one of 'cap' places) -/
abbrev hmF (sz : Nat) (mc : Int32) (cap : Nat) (tab : Option Nat) : List Value := [.null, .null, va_rf tab, .null, .int (nI sz), .int mc, .int (nI (cap / 4 * 3)), .float 0x3f400000]
def hmA {K : Type} (d : KD K) (G : JG) (H : Heap) (q : Nat) (tab : Option Nat) (cap sz : Nat) (mc : Int32) (B : Nat → List (ND K)) : Prop :=
  (gs G).heap.size ≤ q ∧ sz < 1000 ∧ jow G H q 9 (hmF sz mc cap tab) ∧ (tab = none → cap = 0 ∧ sz = 0) ∧ ∀ t, tab = some t → tbA d G H t cap B
def inN {K : Type} (B : Nat → List (ND K)) (cap : Nat) (n : ND K) : Prop := ∃ j, j < cap ∧ n ∈ B j
/-- what a map's calls may write -/
def fpN {K : Type} (q : Nat) (tab : Option Nat) (B : Nat → List (ND K)) (cap : Nat) (a : Nat) : Prop := a = q ∨ tab = some a ∨ ∃ n, inN B cap n ∧ n.1 = a
section
variable {K : Type} {d : KD K} {G : JG} {H H1 : Heap} {q t cap sz : Nat} {mc : Int32} {B : Nat → List (ND K)} {tab : Option Nat}
theorem tbA.nd (h : tbA d G H t cap B) {n : ND K} (hn : inN B cap n) : (∃ nx, jow G H n.1 10 (ndF (hK d n.2.1) n.2.2.1 n.2.2.2 nx)) ∧ (gs G).heap.size ≤ n.1 ∧ kA d G H n.2.2.1 n.2.1 := by
  obtain ⟨j, hj, hn⟩ := hn
  exact (h.2.2.2.1 j hj).get hn
theorem tbA.eq (hd : KOK d) (h : tbA d G H t cap B) {n m : ND K} (hn : inN B cap n) (hm : inN B cap m) (e : n.1 = m.1) : n = m := by
  obtain ⟨⟨x, a⟩, -, b⟩ := h.nd hn
  obtain ⟨⟨y, a2⟩, -, b2⟩ := h.nd hm
  exact nd_eq hd a b a2 b2 e
/-- nodes of one bin lie in no other -/
theorem tbA.bin (h : tbA d G H t cap B) {i j : Nat} {n : ND K} (hi : i < cap) (hj : j < cap) (hn : n ∈ B i) (hm : n ∈ B j) : i = j := (h.2.2.2.2.1 i hi n hn).symm.trans (h.2.2.2.2.1 j hj n hm)
/-- keys are not written -/
theorem tbA.key (hC : JC G) (hd : KOK d) (h : tbA d G H t cap B) {fs : List Value} (hq : jow G H q 9 fs) {a : Nat} {k : K} (hk : kA d G H a k) : ¬ fpN q (some t) B cap a := by
  rintro (rfl | e | ⟨m, hm, rfl⟩)
  · exact hC.ne hk hq.r hd.1 rfl
  · cases e; exact hC.neA hk h.2.2.1 (by decide) rfl
  · obtain ⟨⟨x, e⟩, -⟩ := h.nd hm
    exact hC.ne hk e.r hd.2.1 rfl
end
theorem kd_J1_180 : JLD RJ1 180 10 := ⟨"java/util/HashMap$TreeNode", (RJ24, TJ24, 4), rfl, q979, by simp [jncl, RJ24]⟩
theorem kc_X2_137 : JLC RX2 137 17 := ⟨"java/lang/Boolean", ("java/lang/Boolean", TJ19, 0), rfl, q1439, Or.inl rfl⟩
theorem JK.tru {G : JG} {s : State} {H : Heap} (hK : JK G s H) : job G H (gC G 2) 17 [] := by
  have h := hK.2.2.2.2.2.2.2.2.2.2.2
  exact h.kept (hK.old h.lt)
