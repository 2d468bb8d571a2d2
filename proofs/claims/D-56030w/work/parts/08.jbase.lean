/-! J, the walking layer: one context X of a walk, one start G of the whole claim, goals JW X G H b pc lv st over the heap H itself, b the room that is left; contracts JMet over heaps. -/
set_option maxRecDepth 100000
def jcl : List vw_C := [(RX1, TX1, 7), (RX2, TX2, 6), (RX5, TX5, 6), (RX4, TX4, 5), (RX6, TX6, 2), (RX7, TX7, 2), (RX8, TX8, 2), (RX9, TX9, 7), (RX3, TX3, 17), (RJ1, TJ1, 8), (RJ24, TJ24, 4), (RJ4, TJ4, 3), (RJ10, TJ10, 4), (RJ5, TJ5, 3), (RJ7, TJ7, 4), (RJ8, TJ8, 4), (RJ19, TJ19, 1), ("java/lang/Boolean", TJ19, 0)]
/-- the kinds of arrays: 0 int, 1 long, 2 double, 3 boolean, 4 byte, 5 char, 6 Object, 7 Applicant, 8 Node, 9 String -/
def jty : Nat → FieldType := fun k => match k with
  | 0 => .int
  | 1 => .long
  | 2 => .double
  | 3 => .boolean
  | 4 => .byte
  | 5 => .char
  | 6 => .object "java/lang/Object"
  | 7 => .object "CloudInterviews$Applicant"
  | 8 => .object "java/util/HashMap$Node"
  | _ => .object "java/lang/String"
abbrev JG : Type := va_G × (Nat → ClassId) × State × (String → Nat) × (String → Nat) × (Nat → Nat)
abbrev gD (G : JG) : va_G := G.1
abbrev gT (G : JG) : Nat → ClassId := G.2.1
abbrev gs (G : JG) : State := G.2.2.1
abbrev gS (G : JG) : String → Nat := G.2.2.2.1
abbrev gB (G : JG) : String → Nat := G.2.2.2.2.1
abbrev gC (G : JG) : Nat → Nat := G.2.2.2.2.2
def jtys (f : Nat → ClassId) : List (ClassId × FieldType) := [(f 0, jty 0), (f 1, jty 1), (f 2, jty 2), (f 3, jty 3), (f 4, jty 4), (f 5, jty 5), (f 6, jty 6), (f 7, jty 7), (f 8, jty 8), (f 9, jty 9)]
theorem jtys_at {f : Nat → ClassId} {t : Nat} (h : t < 10) : (jtys f)[t]? = some (f t, jty t) := by
  rcases (show t = 0 ∨ t = 1 ∨ t = 2 ∨ t = 3 ∨ t = 4 ∨ t = 5 ∨ t = 6 ∨ t = 7 ∨ t = 8 ∨ t = 9 by omega) with rfl | rfl | rfl | rfl | rfl | rfl | rfl | rfl | rfl | rfl <;> rfl
/-- what may be written: what was made in the run -/
def jA (G : JG) : Nat → Prop := fun q => (gs G).heap.size ≤ q
/-- an object of the run, of class number ci, with its fields -/
def jow (G : JG) (H : Heap) (a ci : Nat) (fs : List Value) : Prop := ∃ r : vw_C, jcl[ci]? = some r ∧ t_OB a ((gD G).1 ci) r.2.2 ((gD G).2 ci) H (vp_V fs)
/-- an object that can be read (a constant of the JVM's among them) -/
def job (G : JG) (H : Heap) (a ci : Nat) (fs : List Value) : Prop := ∃ (r : vw_C) (cell : Cell), jcl[ci]? = some r ∧ H[a]? = some cell ∧ cell.cls = (gD G).1 ci ∧ cell.vm.isStatics = false ∧ cell.vm ≠ .unknown ∧ ∀ k, k < r.2.2 → cell.slots[(gD G).2 ci k]? = some (vp_V fs k)
/-- an array of the run, of kind t -/
def jaw (G : JG) (H : Heap) (a t n : Nat) (f : Nat → Value) : Prop := ∃ cell : Cell, H[a]? = some cell ∧ cell.cls = gT G t ∧ cell.vm = .none ∧ cell.slots.size = n ∧ ∀ j, j < n → cell.slots[j]? = some (f j)
/-- an array that can be read -/
def jar (G : JG) (H : Heap) (a t n : Nat) (f : Nat → Value) : Prop := ∃ cell : Cell, H[a]? = some cell ∧ (gs G).isArrayOf cell (jty t) ∧ cell.vm ≠ .unknown ∧ n ≤ cell.slots.size ∧ cell.slots.size.toInt32 = Int32.ofNat n ∧ ∀ j, j < n → cell.slots[j]? = some (f j)
def JExt (H H1 : Heap) : Prop := H.size ≤ H1.size ∧ ∀ q, q < H.size → H1[q]? = H[q]?
def JPut (H H1 : Heap) (a : Nat) : Prop := H1.size = H.size ∧ ∀ q, q ≠ a → H1[q]? = H[q]?
def JFr (P : Nat → Prop) (H H1 : Heap) : Prop := H.size ≤ H1.size ∧ ∀ q, q < H.size → ¬ P q → H1[q]? = H[q]?
theorem JExt.rfl' {H : Heap} : JExt H H := ⟨Nat.le_refl _, fun _ _ => rfl⟩
theorem JExt.trans {H H1 H2 : Heap} (h : JExt H H1) (k : JExt H1 H2) : JExt H H2 := ⟨Nat.le_trans h.1 k.1, fun q hq => (k.2 q (Nat.lt_of_lt_of_le hq h.1)).trans (h.2 q hq)⟩
theorem JExt.put {H H1 H2 : Heap} {a : Nat} (h : JExt H H1) (k : JPut H1 H2 a) (ha : H.size ≤ a) : JExt H H2 := ⟨by rw [k.1]; exact h.1, fun q hq => (k.2 q (by omega)).trans (h.2 q hq)⟩
theorem JFr.rfl' {P : Nat → Prop} {H : Heap} : JFr P H H := ⟨Nat.le_refl _, fun _ _ _ => rfl⟩
theorem JFr.trans {P : Nat → Prop} {H H1 H2 : Heap} (h : JFr P H H1) (k : JFr P H1 H2) : JFr P H H2 := ⟨Nat.le_trans h.1 k.1, fun q hq hp => (k.2 q (Nat.lt_of_lt_of_le hq h.1) hp).trans (h.2 q hq hp)⟩
theorem JFr.weak {P Q : Nat → Prop} {H H1 : Heap} (h : JFr P H H1) (k : ∀ q, q < H.size → P q → Q q) : JFr Q H H1 := ⟨h.1, fun q hq hp => h.2 q hq (fun z => hp (k q hq z))⟩
theorem JExt.fr {P : Nat → Prop} {H H1 : Heap} (h : JExt H H1) : JFr P H H1 := ⟨h.1, fun q hq _ => h.2 q hq⟩
theorem JPut.fr {P : Nat → Prop} {H H1 : Heap} {a : Nat} (h : JPut H H1 a) (ha : P a) : JFr P H H1 := ⟨by rw [h.1]; exact Nat.le_refl _, fun q _ hp => h.2 q (fun e => hp (e ▸ ha))⟩
theorem JFr.put {P : Nat → Prop} {H H1 H2 : Heap} {a : Nat} (h : JFr P H H1) (k : JPut H1 H2 a) (ha : a < H.size → P a) : JFr P H H2 := ⟨by rw [k.1]; exact h.1, fun q hq hp => (k.2 q (fun e => hp (e ▸ ha (e ▸ hq)))).trans (h.2 q hq hp)⟩
theorem JFr.ext {H H1 : Heap} (h : JFr (fun _ => False) H H1) : JExt H H1 := ⟨h.1, fun q hq => h.2 q hq (fun z => z)⟩
/-- a call's frame behind a frame: the callee's own cells may be old ones that P names, or new -/
theorem JFr.call {P Q : Nat → Prop} {H H1 H2 : Heap} (h : JFr P H H1) (k : JFr Q H1 H2) (hq : ∀ q, q < H.size → Q q → P q) : JFr P H H2 := ⟨Nat.le_trans h.1 k.1, fun q hq' hp => (k.2 q (Nat.lt_of_lt_of_le hq' h.1) (fun z => hp (hq q hq' z))).trans (h.2 q hq' hp)⟩
theorem jow.r {G : JG} {H : Heap} {a ci : Nat} {fs : List Value} (h : jow G H a ci fs) : job G H a ci fs := by
  obtain ⟨r, hr, cell, h1, h2, h3, h4⟩ := h
  exact ⟨r, cell, hr, h1, h2, by rw [h3]; rfl, by rw [h3]; exact (fun e => by cases e), h4⟩
theorem jow.lt {G : JG} {H : Heap} {a ci : Nat} {fs : List Value} (h : jow G H a ci fs) : a < H.size := by
  obtain ⟨r, hr, cell, h1, -⟩ := h
  exact (Array.getElem?_eq_some_iff.mp h1).1
theorem job.lt {G : JG} {H : Heap} {a ci : Nat} {fs : List Value} (h : job G H a ci fs) : a < H.size := by
  obtain ⟨r, cell, hr, h1, -⟩ := h
  exact (Array.getElem?_eq_some_iff.mp h1).1
theorem jaw.lt {G : JG} {H : Heap} {a t n : Nat} {f : Nat → Value} (h : jaw G H a t n f) : a < H.size := by
  obtain ⟨cell, h1, -⟩ := h
  exact (Array.getElem?_eq_some_iff.mp h1).1
theorem jar.lt {G : JG} {H : Heap} {a t n : Nat} {f : Nat → Value} (h : jar G H a t n f) : a < H.size := by
  obtain ⟨cell, h1, -⟩ := h
  exact (Array.getElem?_eq_some_iff.mp h1).1
theorem jow.kept {G : JG} {H H1 : Heap} {a ci : Nat} {fs : List Value} (h : jow G H a ci fs) (e : H1[a]? = H[a]?) : jow G H1 a ci fs := by
  obtain ⟨r, hr, k⟩ := h
  exact ⟨r, hr, k.kept e⟩
theorem job.kept {G : JG} {H H1 : Heap} {a ci : Nat} {fs : List Value} (h : job G H a ci fs) (e : H1[a]? = H[a]?) : job G H1 a ci fs := by
  obtain ⟨r, cell, hr, h1, k⟩ := h
  exact ⟨r, cell, hr, e.trans h1, k⟩
theorem jaw.kept {G : JG} {H H1 : Heap} {a t n : Nat} {f : Nat → Value} (h : jaw G H a t n f) (e : H1[a]? = H[a]?) : jaw G H1 a t n f := by
  obtain ⟨cell, h1, k⟩ := h
  exact ⟨cell, e.trans h1, k⟩
theorem jar.kept {G : JG} {H H1 : Heap} {a t n : Nat} {f : Nat → Value} (h : jar G H a t n f) (e : H1[a]? = H[a]?) : jar G H1 a t n f := by
  obtain ⟨cell, h1, k⟩ := h
  exact ⟨cell, e.trans h1, k⟩
theorem jow.ext {G : JG} {H H1 : Heap} {a ci : Nat} {fs : List Value} (h : jow G H a ci fs) (e : JExt H H1) : jow G H1 a ci fs := h.kept (e.2 a h.lt)
theorem job.ext {G : JG} {H H1 : Heap} {a ci : Nat} {fs : List Value} (h : job G H a ci fs) (e : JExt H H1) : job G H1 a ci fs := h.kept (e.2 a h.lt)
theorem jaw.ext {G : JG} {H H1 : Heap} {a t n : Nat} {f : Nat → Value} (h : jaw G H a t n f) (e : JExt H H1) : jaw G H1 a t n f := h.kept (e.2 a h.lt)
theorem jar.ext {G : JG} {H H1 : Heap} {a t n : Nat} {f : Nat → Value} (h : jar G H a t n f) (e : JExt H H1) : jar G H1 a t n f := h.kept (e.2 a h.lt)
theorem jow.put {G : JG} {H H1 : Heap} {a a' ci : Nat} {fs : List Value} (h : jow G H a ci fs) (e : JPut H H1 a') (n : a ≠ a') : jow G H1 a ci fs := h.kept (e.2 a n)
theorem job.put {G : JG} {H H1 : Heap} {a a' ci : Nat} {fs : List Value} (h : job G H a ci fs) (e : JPut H H1 a') (n : a ≠ a') : job G H1 a ci fs := h.kept (e.2 a n)
theorem jaw.put {G : JG} {H H1 : Heap} {a a' t n : Nat} {f : Nat → Value} (h : jaw G H a t n f) (e : JPut H H1 a') (n' : a ≠ a') : jaw G H1 a t n f := h.kept (e.2 a n')
theorem jar.put {G : JG} {H H1 : Heap} {a a' t n : Nat} {f : Nat → Value} (h : jar G H a t n f) (e : JPut H H1 a') (n' : a ≠ a') : jar G H1 a t n f := h.kept (e.2 a n')
theorem jow.fr {G : JG} {P : Nat → Prop} {H H1 : Heap} {a ci : Nat} {fs : List Value} (h : jow G H a ci fs) (e : JFr P H H1) (n : ¬ P a) : jow G H1 a ci fs := h.kept (e.2 a h.lt n)
theorem job.fr {G : JG} {P : Nat → Prop} {H H1 : Heap} {a ci : Nat} {fs : List Value} (h : job G H a ci fs) (e : JFr P H H1) (n : ¬ P a) : job G H1 a ci fs := h.kept (e.2 a h.lt n)
theorem jaw.fr {G : JG} {P : Nat → Prop} {H H1 : Heap} {a t n : Nat} {f : Nat → Value} (h : jaw G H a t n f) (e : JFr P H H1) (n' : ¬ P a) : jaw G H1 a t n f := h.kept (e.2 a h.lt n')
theorem jar.fr {G : JG} {P : Nat → Prop} {H H1 : Heap} {a t n : Nat} {f : Nat → Value} (h : jar G H a t n f) (e : JFr P H H1) (n' : ¬ P a) : jar G H1 a t n f := h.kept (e.2 a h.lt n')
theorem jaw.congr {G : JG} {H : Heap} {a t n : Nat} {f g : Nat → Value} (h : jaw G H a t n f) (e : ∀ j, j < n → g j = f j) : jaw G H a t n g := by
  obtain ⟨cell, h1, h2, h3, h4, h5⟩ := h
  exact ⟨cell, h1, h2, h3, h4, fun j hj => by rw [e j hj]; exact h5 j hj⟩
theorem jar.congr {G : JG} {H : Heap} {a t n : Nat} {f g : Nat → Value} (h : jar G H a t n f) (e : ∀ j, j < n → g j = f j) : jar G H a t n g := by
  obtain ⟨cell, h1, h2, h3, h4, h5, h6⟩ := h
  exact ⟨cell, h1, h2, h3, h4, h5, fun j hj => by rw [e j hj]; exact h6 j hj⟩
/-! what the claim's start gives -/
def jnwk (w : Cond) : Bool := match w with
  | .fieldLinkNest .. => true
  | .methodLinkNest .. => true
  | .castable .. => true
  | .declares .. => true
  | _ => false
theorem jnwk_warm {w : Cond} {s U : State} (hw : jnwk w = true) (hW : s.WarmedH U.vm) (h : va_Nw w s) : va_Nw w U := by
  cases w <;> first | (exfalso; simp [jnwk] at hw; done) | exact va_Nw.warmF hW h | exact va_Nw.warmM hW h | exact va_Nw.warmC hW h | exact va_Nw.warmD hW h
/-- a String constant: the text's letters are bytes -/
def jbyte (tx : String) (j : Nat) : Int32 := Int32.ofNat (tx.toList.getD j ' ').toNat
def JStr (G : JG) (tx : String) (hash hz : Int32) : Prop := job G (gs G).heap (gS G tx) 15 [.ref (gB G tx), .int 0, .int hash, .int hz] ∧ jar G (gs G).heap (gB G tx) 4 tx.length (fun j => .int (jbyte tx j))
/-- the texts that methods look at, with hash and hashIsZero -/
def jtexts : List (String × Int32 × Int32) := [("apply ", -1411061134, 0), ("leave ", -1106737079, 0), ("post ", 106855296, 0), ("close ", -1357520600, 0), ("hire ", 99286956, 0), ("dismiss ", 282238678, 0), ("refer ", -934829152, 0), ("match", 103668165, 0), ("day", 99228, 0), ("hire best", 335110032, 0), ("unrefer", -278653561, 0), ("reject", -934710369, 0), ("/", 47, 0), ("=", 61, 0), ("<", 60, 0), (">", 62, 0), ("", 0, 1)]
/-- statics that hold whole numbers -/
def jsti : List (String × String × String × Int32) := [("java/lang/String", "COMPACT_STRINGS", "Z", 1), ("java/lang/Integer$IntegerCache", "high", "I", 127), ("java/lang/StringUTF16", "HI_BYTE_SHIFT", "I", 0), ("java/lang/StringUTF16", "LO_BYTE_SHIFT", "I", 8)]
/-- statics that hold references -/
def jstr : List (String × String × String × Nat) := [("java/util/ArrayList", "DEFAULTCAPACITY_EMPTY_ELEMENTDATA", "[Ljava/lang/Object;", 0), ("java/lang/Integer$IntegerCache", "cache", "[Ljava/lang/Integer;", 1), ("java/lang/Boolean", "TRUE", "Ljava/lang/Boolean;", 2), ("java/lang/Boolean", "FALSE", "Ljava/lang/Boolean;", 3), ("java/lang/Integer", "DigitTens", "[B", 4), ("java/lang/Integer", "DigitOnes", "[B", 5)]
/-- pairs of classes that are not castable -/
def jncl : List (String × String) := [("java/lang/IllegalArgumentException", "java/util/NoSuchElementException"), ("java/lang/IllegalStateException", "java/util/NoSuchElementException"), ("java/lang/IndexOutOfBoundsException", "java/util/NoSuchElementException"), ("java/lang/UnsupportedOperationException", "java/util/NoSuchElementException"), ("java/lang/ArithmeticException", "java/util/NoSuchElementException"), ("CloudInterviews$SyntaxException", "java/util/NoSuchElementException"), ("java/util/NoSuchElementException", "java/lang/IllegalArgumentException"), ("java/lang/IllegalStateException", "java/lang/IllegalArgumentException"), ("java/lang/IndexOutOfBoundsException", "java/lang/IllegalArgumentException"), ("java/lang/UnsupportedOperationException", "java/lang/IllegalArgumentException"), ("java/lang/ArithmeticException", "java/lang/IllegalArgumentException"), ("CloudInterviews$SyntaxException", "java/lang/IllegalArgumentException"), ("java/util/NoSuchElementException", "java/lang/IllegalStateException"), ("java/lang/IllegalArgumentException", "java/lang/IllegalStateException"), ("java/lang/IndexOutOfBoundsException", "java/lang/IllegalStateException"), ("java/lang/UnsupportedOperationException", "java/lang/IllegalStateException"), ("java/lang/ArithmeticException", "java/lang/IllegalStateException"), ("CloudInterviews$SyntaxException", "java/lang/IllegalStateException"), ("java/util/NoSuchElementException", "java/lang/IndexOutOfBoundsException"), ("java/lang/IllegalArgumentException", "java/lang/IndexOutOfBoundsException"), ("java/lang/IllegalStateException", "java/lang/IndexOutOfBoundsException"), ("java/lang/UnsupportedOperationException", "java/lang/IndexOutOfBoundsException"), ("java/lang/ArithmeticException", "java/lang/IndexOutOfBoundsException"), ("CloudInterviews$SyntaxException", "java/lang/IndexOutOfBoundsException"), ("java/util/NoSuchElementException", "java/lang/UnsupportedOperationException"), ("java/lang/IllegalArgumentException", "java/lang/UnsupportedOperationException"), ("java/lang/IllegalStateException", "java/lang/UnsupportedOperationException"), ("java/lang/IndexOutOfBoundsException", "java/lang/UnsupportedOperationException"), ("java/lang/ArithmeticException", "java/lang/UnsupportedOperationException"), ("CloudInterviews$SyntaxException", "java/lang/UnsupportedOperationException"), ("java/util/NoSuchElementException", "java/lang/ArithmeticException"), ("java/lang/IllegalArgumentException", "java/lang/ArithmeticException"), ("java/lang/IllegalStateException", "java/lang/ArithmeticException"), ("java/lang/IndexOutOfBoundsException", "java/lang/ArithmeticException"), ("java/lang/UnsupportedOperationException", "java/lang/ArithmeticException"), ("CloudInterviews$SyntaxException", "java/lang/ArithmeticException"), ("java/util/NoSuchElementException", "CloudInterviews$SyntaxException"), ("java/lang/IllegalArgumentException", "CloudInterviews$SyntaxException"), ("java/lang/IllegalStateException", "CloudInterviews$SyntaxException"), ("java/lang/IndexOutOfBoundsException", "CloudInterviews$SyntaxException"), ("java/lang/UnsupportedOperationException", "CloudInterviews$SyntaxException"), ("java/lang/ArithmeticException", "CloudInterviews$SyntaxException"), ("java/util/HashMap$Node", "java/util/HashMap$TreeNode")]
/-- what holds at the claim's start: the classes, the words that ride in no list, the constants -/
def JC (G : JG) : Prop :=
  va_K (gD G) jcl (jtys (gT G)) (gs G) ∧
  ((∀ w ∈ lw_tbl, jnwk w = true → va_Nw w (gs G)) ∧
   (∀ (C : String) (x y : MethodName), Cond.declares x ∈ lw_tbl → Cond.interfaceMethod x.cls x.cls x.name x.desc ∈ lw_tbl → Cond.publicMethod y ∈ lw_tbl → Cond.unhidden C x.name x.desc ∈ lw_tbl → Cond.castable C x.cls ∈ lw_tbl → va_Fw C x y (gs G)) ∧
   (∀ C : String, Cond.arrayOver (.object C) ∈ lw_tbl → va_AO C (gs G)) ∧
   (∀ q ∈ jncl, va_Nc q.1 q.2 (gs G))) ∧
  ((∀ (own : String) (k : Nat) (tx : String), Cond.stringRef own k tx ∈ lw_tbl → vk_R own k tx (gS G tx) (gs G)) ∧
   (∀ q ∈ jtexts, JStr G q.1 q.2.1 q.2.2) ∧ (∀ q ∈ jtexts, ∀ q' ∈ jtexts, gS G q.1 = gS G q'.1 → q.1 = q'.1)) ∧
  ((∀ q ∈ jsti, va_Z q.1 q.2.1 q.2.2.1 (.int q.2.2.2) (jA G) (gs G) (gs G).heap) ∧ (∀ q ∈ jstr, va_Z q.1 q.2.1 q.2.2.1 (.ref (gC G q.2.2.2)) (jA G) (gs G) (gs G).heap) ∧
   vx_Zq Bundle.tN "UNASSIGNED_STACK" Bundle.steD (jA G) (gs G) (gs G).heap ∧ vx_Zq Bundle.tN "SUPPRESSED_SENTINEL" Bundle.listD (jA G) (gs G) (gs G).heap ∧ va_Zq "jdk/internal/util/Preconditions" "SIOOBE_FORMATTER" "Ljava/util/function/BiFunction;" (jA G) (gs G) (gs G).heap) ∧
  (jar G (gs G).heap (gC G 0) 6 0 (fun _ => .null) ∧ (∀ k, k < 256 → job G (gs G).heap (gC G (100 + k)) 16 [.int (nI k - 128)]) ∧ va_T (.object "java/lang/Integer") (gC G 1) 256 (fun k => .ref (gC G (100 + k))) (jA G) (gs G) (gs G).heap ∧
   jar G (gs G).heap (gC G 4) 4 100 (fun k => .int (nI (48 + k / 10))) ∧ jar G (gs G).heap (gC G 5) 4 100 (fun k => .int (nI (48 + k % 10))) ∧ job G (gs G).heap (gC G 2) 17 [])
/-- what every state of the run keeps of it -/
def JK (G : JG) (U : State) (H : Heap) : Prop := (gs G).WarmedH U.vm ∧ ((gs G).heap.size ≤ H.size ∧ ∀ q, q < (gs G).heap.size → H[q]? = (gs G).heap[q]?) ∧ JC G
theorem JK.same {G : JG} {U U' : State} {H : Heap} (h : JK G U H) (e : U.vm = U'.vm) : JK G U' H := ⟨e ▸ h.1, h.2⟩
theorem JK.warm {G : JG} {s U : State} {H : Heap} (h : JK G s H) (hW : s.WarmedH U.vm) : JK G U H := ⟨State.WarmedH.trans h.1 hW, h.2⟩
theorem JK.heap {G : JG} {s : State} {H0 H : Heap} {locs : List Loc} (h : JK G s H0) (hS : va_S (jA G) H0 H locs) : JK G s H :=
  ⟨h.1, ⟨Nat.le_trans h.2.1.1 hS.1, fun q hq => (hS.2.1 q (Nat.lt_of_lt_of_le hq h.2.1.1) (Nat.not_le.mpr hq)).trans (h.2.1.2 q hq)⟩, h.2.2⟩
/-- a fact about the start's heap, seen in the heap of now -/
theorem JK.old {G : JG} {s : State} {H : Heap} (h : JK G s H) {q : Nat} (hq : q < (gs G).heap.size) : H[q]? = (gs G).heap[q]? := h.2.1.2 q hq
/-! a walk's context -/
abbrev JX : Type := Program × Launch × Env × Room × State × MethodId × Array Value × List Frame × Method × Code × (State → Prop)
abbrev jp (X : JX) : Program := X.1
abbrev jl (X : JX) : Launch := X.2.1
abbrev je (X : JX) : Env := X.2.2.1
abbrev jR (X : JX) : Room := X.2.2.2.1
abbrev js (X : JX) : State := X.2.2.2.2.1
abbrev jm (X : JX) : MethodId := X.2.2.2.2.2.1
abbrev ja (X : JX) : Array Value := X.2.2.2.2.2.2.1
abbrev jbl (X : JX) : List Frame := X.2.2.2.2.2.2.2.1
abbrev jme (X : JX) : Method := X.2.2.2.2.2.2.2.2.1
abbrev jc (X : JX) : Code := X.2.2.2.2.2.2.2.2.2.1
abbrev jQ (X : JX) : State → Prop := X.2.2.2.2.2.2.2.2.2.2
def JOK (X : JX) (G : JG) (own : String) (cc : ByteArray) (nL d : Nat) : Prop :=
  CallFix (jp X) (jm X) (jc X) cc nL (js X) (ja X) lw_all own ∧ JK G (js X) (js X).heap ∧ (jme X).locks = false ∧ d ≤ (jR X).frames ∧ 100 * d ≤ (jR X).locals ∧ (jl X).stackTraces = false
/-! locals: by their places; a reference by .inr -/
abbrev JL : Type := List (Nat × (Value ⊕ Option Nat))
def jval (x : Value ⊕ Option Nat) : Value := match x with
  | .inl v => v
  | .inr o => va_rf o
def jmap (lv : JL) : List (Nat × Value) := lv.map (fun q => (q.1, jval q.2))
def jget : JL → Nat → Option Value
  | [], _ => none
  | q :: t, i => match Nat.beq q.1 i with
    | true => match q.2 with
      | .inl v => some v
      | .inr o => some (va_rf o)
    | false => jget t i
def jc2 (x : Value ⊕ Option Nat) : Bool := match x with
  | .inl (.long _) => true
  | .inl (.double _) => true
  | _ => false
def jset1 : Bool → JL → Nat → (Value ⊕ Option Nat) → (JL → Option JL) → Option JL
  | found, [], i, v, k => match found with
    | true => k []
    | false => k [(i, v)]
  | found, q :: t, i, v, k => match Nat.beq q.1 i || (Nat.beq (q.1 + 1) i && jc2 q.2) with
    | true => jset1 true t i v (fun t' => k ((i, v) :: t'))
    | false => jset1 found t i v (fun t' => k (q :: t'))
def jset2 : Bool → JL → Nat → (Value ⊕ Option Nat) → (JL → Option JL) → Option JL
  | found, [], i, v, k => match found with
    | true => k []
    | false => k [(i, v)]
  | found, q :: t, i, v, k => match Nat.beq q.1 i || (Nat.beq q.1 (i + 1) || (Nat.beq (q.1 + 1) i && jc2 q.2)) with
    | true => jset2 true t i v (fun t' => k ((i, v) :: t'))
    | false => jset2 found t i v (fun t' => k (q :: t'))
theorem jget_mem {lv : JL} {i : Nat} {v : Value} (h : jget lv i = some v) : (i, v) ∈ jmap lv := by
  induction lv with
  | nil => simp [jget] at h
  | cons q t ih =>
    unfold jget at h
    cases hq : Nat.beq q.1 i with
    | true =>
      rw [hq] at h
      have e : q.1 = i := Nat.eq_of_beq_eq_true hq
      have hv : v = jval q.2 := by
        cases h2 : q.2 with
        | inl w => rw [h2] at h; exact (Option.some.inj h).symm
        | inr o => rw [h2] at h; exact (Option.some.inj h).symm
      subst e
      subst hv
      exact List.mem_cons_self
    | false =>
      rw [hq] at h
      exact List.mem_cons_of_mem _ (ih h)
theorem jget_ok {ls : Array Slot} {n : Nat} {lv : JL} {i : Nat} {v : Value} (h : lv_has ls n (jmap lv)) (hl : jget lv i = some v) : ls[i]? = some (.val v) := h.2.2 (i, v) (jget_mem hl)
theorem jget_at {lv : JL} {i : Nat} {v : Value} (hl : jget lv i = some v) : ∃ k : Nat, (jmap lv)[k]? = some (i, v) := List.getElem?_of_mem (jget_mem hl)
theorem jc2_no {x : Value ⊕ Option Nat} (h : jc2 x = false) : ¬ (jval x).category = 2 := by
  cases x with
  | inl v => cases v <;> simp_all [jc2, jval, Value.category]
  | inr o => cases o <;> simp [jval, va_rf, Value.category]
theorem jset1_in {lv : JL} {i : Nat} {v : Value ⊕ Option Nat} : ∀ {f : Bool} {k : JL → Option JL} {r : Option JL}, jset1 f lv i v k = r → ∃ l', r = k l' ∧ ∀ q ∈ l', q = (i, v) ∨ (q ∈ lv ∧ ¬ q.1 = i ∧ ¬ (q.1 + 1 = i ∧ (jval q.2).category = 2)) := by
  induction lv with
  | nil =>
    intro f k r h
    cases f with
    | true => exact ⟨[], h.symm, fun q hq => by cases hq⟩
    | false => exact ⟨[(i, v)], h.symm, fun q hq => Or.inl (List.mem_singleton.mp hq)⟩
  | cons q t ih =>
    intro f k r h
    unfold jset1 at h
    cases hq : (Nat.beq q.1 i || (Nat.beq (q.1 + 1) i && jc2 q.2)) with
    | true =>
      rw [hq] at h
      obtain ⟨l', e, hl⟩ := ih h
      refine ⟨(i, v) :: l', e, fun z hz => ?_⟩
      rcases List.mem_cons.mp hz with h1 | h1
      · exact Or.inl h1
      · rcases hl z h1 with h2 | ⟨h2, h3⟩
        · exact Or.inl h2
        · exact Or.inr ⟨List.mem_cons_of_mem _ h2, h3⟩
    | false =>
      rw [hq] at h
      obtain ⟨l', e, hl⟩ := ih h
      simp only [Bool.or_eq_false_iff, Bool.and_eq_false_iff] at hq
      refine ⟨q :: l', e, fun z hz => ?_⟩
      rcases List.mem_cons.mp hz with h1 | h1
      · subst h1
        refine Or.inr ⟨List.mem_cons_self, Nat.ne_of_beq_eq_false hq.1, fun z => ?_⟩
        rcases hq.2 with h4 | h4
        · exact Nat.ne_of_beq_eq_false h4 z.1
        · exact jc2_no h4 z.2
      · rcases hl z h1 with h2 | ⟨h2, h3⟩
        · exact Or.inl h2
        · exact Or.inr ⟨List.mem_cons_of_mem _ h2, h3⟩
theorem jset1_ok {ls : Array Slot} {nL : Nat} {lv lv' : JL} {i : Nat} {v : Value ⊕ Option Nat} (h : lv_has ls nL ((i, jval v) :: (jmap lv).filter (fun q => !(q.1 == i) && !(q.1 + 1 == i && q.2.category == 2)))) (hs : jset1 false lv i v some = some lv') : lv_has ls nL (jmap lv') := by
  obtain ⟨l', e, hl⟩ := jset1_in hs
  cases e
  refine ⟨h.1, h.2.1, fun q hq => ?_⟩
  obtain ⟨z, hz, rfl⟩ := List.mem_map.mp hq
  rcases hl z hz with rfl | ⟨h1, h2, h3⟩
  · exact h.2.2 _ List.mem_cons_self
  · refine h.2.2 _ (List.mem_cons_of_mem _ (List.mem_filter.mpr ⟨List.mem_map.mpr ⟨z, h1, rfl⟩, ?_⟩))
    simp only [Bool.and_eq_true, Bool.not_eq_true', beq_eq_false_iff_ne, ne_eq, Bool.and_eq_false_iff]
    refine ⟨h2, ?_⟩
    by_cases h5 : z.1 + 1 = i
    · exact Or.inr (fun h6 => h3 ⟨h5, h6⟩)
    · exact Or.inl h5
theorem jset2_in {lv : JL} {i : Nat} {v : Value ⊕ Option Nat} : ∀ {f : Bool} {k : JL → Option JL} {r : Option JL}, jset2 f lv i v k = r → ∃ l', r = k l' ∧ ∀ q ∈ l', q = (i, v) ∨ (q ∈ lv ∧ ¬ q.1 = i ∧ ¬ q.1 = i + 1 ∧ ¬ (q.1 + 1 = i ∧ (jval q.2).category = 2)) := by
  induction lv with
  | nil =>
    intro f k r h
    cases f with
    | true => exact ⟨[], h.symm, fun q hq => by cases hq⟩
    | false => exact ⟨[(i, v)], h.symm, fun q hq => Or.inl (List.mem_singleton.mp hq)⟩
  | cons q t ih =>
    intro f k r h
    unfold jset2 at h
    cases hq : (Nat.beq q.1 i || (Nat.beq q.1 (i + 1) || (Nat.beq (q.1 + 1) i && jc2 q.2))) with
    | true =>
      rw [hq] at h
      obtain ⟨l', e, hl⟩ := ih h
      refine ⟨(i, v) :: l', e, fun z hz => ?_⟩
      rcases List.mem_cons.mp hz with h1 | h1
      · exact Or.inl h1
      · rcases hl z h1 with h2 | ⟨h2, h3⟩
        · exact Or.inl h2
        · exact Or.inr ⟨List.mem_cons_of_mem _ h2, h3⟩
    | false =>
      rw [hq] at h
      obtain ⟨l', e, hl⟩ := ih h
      simp only [Bool.or_eq_false_iff, Bool.and_eq_false_iff] at hq
      refine ⟨q :: l', e, fun z hz => ?_⟩
      rcases List.mem_cons.mp hz with h1 | h1
      · subst h1
        refine Or.inr ⟨List.mem_cons_self, Nat.ne_of_beq_eq_false hq.1, Nat.ne_of_beq_eq_false hq.2.1, fun z => ?_⟩
        rcases hq.2.2 with h4 | h4
        · exact Nat.ne_of_beq_eq_false h4 z.1
        · exact jc2_no h4 z.2
      · rcases hl z h1 with h2 | ⟨h2, h3⟩
        · exact Or.inl h2
        · exact Or.inr ⟨List.mem_cons_of_mem _ h2, h3⟩
theorem jset2_ok {ls : Array Slot} {nL : Nat} {lv lv' : JL} {i : Nat} {v : Value ⊕ Option Nat} (h : lv_has ls nL ((i, jval v) :: (jmap lv).filter (fun q => !(q.1 == i) && (!(q.1 == i + 1) && !(q.1 + 1 == i && q.2.category == 2))))) (hs : jset2 false lv i v some = some lv') : lv_has ls nL (jmap lv') := by
  obtain ⟨l', e, hl⟩ := jset2_in hs
  cases e
  refine ⟨h.1, h.2.1, fun q hq => ?_⟩
  obtain ⟨z, hz, rfl⟩ := List.mem_map.mp hq
  rcases hl z hz with rfl | ⟨h1, h2, h2', h3⟩
  · exact h.2.2 _ List.mem_cons_self
  · refine h.2.2 _ (List.mem_cons_of_mem _ (List.mem_filter.mpr ⟨List.mem_map.mpr ⟨z, h1, rfl⟩, ?_⟩))
    simp only [Bool.and_eq_true, Bool.not_eq_true', beq_eq_false_iff_ne, ne_eq, Bool.and_eq_false_iff]
    refine ⟨h2, h2', ?_⟩
    by_cases h5 : z.1 + 1 = i
    · exact Or.inr (fun h6 => h3 ⟨h5, h6⟩)
    · exact Or.inl h5
/-- fewer locals, or in another order -/
def jsb (lv : JL) : JL → Prop
  | [] => True
  | q :: t => jget lv q.1 = some (jval q.2) ∧ jsb lv t
theorem jsb_ok {lv : JL} : ∀ {lv' : JL}, jsb lv lv' → ∀ {ls : Array Slot} {n : Nat}, lv_has ls n (jmap lv) → lv_has ls n (jmap lv') := by
  intro lv' h ls n hl
  refine ⟨hl.1, hl.2.1, ?_⟩
  induction lv' with
  | nil => intro q hq; cases hq
  | cons z t ih =>
    intro q hq
    rcases List.mem_cons.mp hq with rfl | h1
    · exact jget_ok hl h.1
    · exact ih h.2 q h1
/-! the goals -/
/-- the machine at pc, with heap H, b room left, these locals and this stack, comes to its end as X asks -/
def JW (X : JX) (G : JG) (H : Heap) (b pc : Nat) (lv : JL) (st : List Value) : Prop :=
  ∀ (locs : List Loc) (cells slots : Nat) (ls : Array Slot), va_S (jA G) (js X).heap H locs → cells + b ≤ (jR X).cells → slots + 4 * b ≤ (jR X).slots → lv_has ls (jc X).maxLocals (jmap lv) → W (jp X) (jl X) (je X) (jR X) (js X) (jm X) (ja X) (jbl X) (jme X) (jc X) H locs cells slots (jQ X) (F0 (jm X) pc ls st)
/-- the same with q, of class E, thrown over the frame -/
def JT (X : JX) (G : JG) (H : Heap) (b pc : Nat) (lv : JL) (rest : List Value) (E : String) (q : Nat) : Prop :=
  ∀ (locs : List Loc) (cells slots : Nat) (ls : Array Slot) (ce : Cell), va_S (jA G) (js X).heap H locs → cells + b ≤ (jR X).cells → slots + 4 * b ≤ (jR X).slots → lv_has ls (jc X).maxLocals (jmap lv) → H[q]? = some ce → ce.vm = .none → (js X).vm.findClass E = some ce.cls → vx_W (jp X) (jl X) (je X) (jR X) (js X) (jm X) (ja X) (jbl X) (jme X) (jc X) H locs cells slots (jQ X) (F0 (jm X) pc ls rest) q
theorem j_weak {X : JX} {G : JG} {H : Heap} {b b' pc : Nat} {lv : JL} {st : List Value} (h : b' ≤ b) (k : JW X G H b' pc lv st) : JW X G H b pc lv st :=
  fun locs cells slots ls hS hc hs hl => k locs cells slots ls hS (by omega) (by omega) hl
theorem jt_weak {X : JX} {G : JG} {H : Heap} {b b' pc : Nat} {lv : JL} {st : List Value} {E : String} {q : Nat} (h : b' ≤ b) (k : JT X G H b' pc lv st E q) : JT X G H b pc lv st E q :=
  fun locs cells slots ls ce hS hc hs hl => k locs cells slots ls ce hS (by omega) (by omega) hl
theorem j_lv {X : JX} {G : JG} {H : Heap} {b pc : Nat} {lv lv' : JL} {st : List Value} (h : jsb lv lv') (k : JW X G H b pc lv' st) : JW X G H b pc lv st :=
  fun locs cells slots ls hS hc hs hl => k locs cells slots ls hS hc hs (jsb_ok h hl)
/-- from here on the heap is as it was: what a walk may use of it is in its size -/
theorem j_size {X : JX} {G : JG} {H : Heap} {b pc : Nat} {lv : JL} {st : List Value} (k : (js X).heap.size ≤ H.size → JW X G H b pc lv st) : JW X G H b pc lv st :=
  fun locs cells slots ls hS hc hs hl => k hS.1 locs cells slots ls hS hc hs hl
/-- the start's facts, in the heap of now -/
theorem j_start {X : JX} {G : JG} {own : String} {cc : ByteArray} {nL d : Nat} (hX : JOK X G own cc nL d) {H : Heap} {b pc : Nat} {lv : JL} {st : List Value} (k : JK G (js X) H → JW X G H b pc lv st) : JW X G H b pc lv st :=
  fun locs cells slots ls hS hc hs hl => k (hX.2.1.heap hS) locs cells slots ls hS hc hs hl
/-! contracts -/
def jrm (d b : Nat) : Room := { frames := d, cells := b, slots := 4 * b, locals := 100 * d }
def jPc (G : JG) (H : Heap) (args : List Value) : Array Value → State → Prop := va_Pc args (fun U => U.heap = H ∧ JK G U H)
def jQc (G : JG) (post : Option Value → Heap → Prop) : Array Value → State → Outcome → State → Prop := fun _ st oc t => (∃ v, oc = .returned v ∧ post v t.heap) ∧ va_F (jA G) st t
def jXC (G : JG) (px : String → Nat → Heap → Prop) : String → Addr → State → State → Prop := fun E q st t => px E q t.heap ∧ va_F (jA G) st t
/-- method y, called in the heap H with args: returns v in a heap H1 with 'post v H1', or throws q of class E with 'px E q H1'; at most b room, d frames -/
def JMet (l : Launch) (y : MethodName) (ws : List Cond) (d b : Nat) (G : JG) (H : Heap) (args : List Value) (post : Option Value → Heap → Prop) (px : String → Nat → Heap → Prop) : Prop :=
  l.stackTraces = false → vx_Met l y ws (jrm d b) (jPc G H args) (jQc G post) (jXC G px) b (4 * b) (jA G)
def jno : String → Nat → Heap → Prop := fun _ _ _ => False
def jpi (P : Int32 → Heap → Prop) : Option Value → Heap → Prop := fun v H => ∃ r : Int32, v = some (.int r) ∧ P r H
def jpl (P : Int64 → Heap → Prop) : Option Value → Heap → Prop := fun v H => ∃ r : Int64, v = some (.long r) ∧ P r H
def jpd (P : UInt64 → Heap → Prop) : Option Value → Heap → Prop := fun v H => ∃ r : UInt64, v = some (.double r) ∧ P r H
def jpf (P : UInt32 → Heap → Prop) : Option Value → Heap → Prop := fun v H => ∃ r : UInt32, v = some (.float r) ∧ P r H
def jpv (P : Heap → Prop) : Option Value → Heap → Prop := fun v H => v = none ∧ P H
def jpa (P : Nat → Heap → Prop) : Option Value → Heap → Prop := fun v H => ∃ r : Nat, v = some (.ref r) ∧ P r H
def jpq (P : Option Nat → Heap → Prop) : Option Value → Heap → Prop := fun v H => ∃ r : Option Nat, v = some (va_rf r) ∧ P r H
def JRet (X : JX) (G : JG) (b : Nat) (post : Option Value → Heap → Prop) (px : String → Nat → Heap → Prop) : Prop :=
  jQ X = vx_MQ (jbl X) (jQc G post) (jXC G px) (ja X) (js X) b (4 * b) (jA G) ∧ (jR X).cells = b ∧ (jR X).slots = 4 * b
theorem jPc_blind {G : JG} {H : Heap} {args : List Value} : FrameBlind (jPc G H args) := fun a U g mk h => ⟨h.1, h.2.1, h.2.2.same rfl⟩
theorem jPc_here {X : JX} {G : JG} {own : String} {cc : ByteArray} {nL d : Nat} (hX : JOK X G own cc nL d) {H : Heap} {locs : List Loc} (hS : va_S (jA G) (js X).heap H locs) (args : List Value) : ∀ U : State, U.heap = H → (js X).WarmedH U.vm → jPc G H args args.toArray U :=
  fun U hU hW => ⟨rfl, hU, (hX.2.1.heap hS).warm hW⟩
/-- a contract out of a walk: no handlers -/
theorem JMet.of {l : Launch} {y : MethodName} {cc : ByteArray} {nL : Nat} {ret : Option FieldType} {d b : Nat} {G : JG} {H : Heap} {args : List Value} {post : Option Value → Heap → Prop} {px : String → Nat → Heap → Prop} (lv : JL) (hy : plainName y.cls = true) (hlen : (lg_sl args).length ≤ nL) (hlv : jmap lv = lv_args 0 args)
    (body : ∀ X : JX, jl X = l → JOK X G y.cls cc nL d → JRet X G b post px → (jc X).exceptionTable.toList = [] → (jme X).sig.returnType = ret → (jme X).name = y.name → (js X).heap = H → JW X G H b 0 lv []) : JMet l y (ws_ y cc nL ret) d b G H args post px := by
  intro hl0
  refine vx_ofW (cc := cc) (maxL := nL) (ret := ret) hy rfl ?_
  intro p e s m args' below meth c s₁ B hml hno hP
  obtain ⟨rfl, hh, hK⟩ := hP
  have hts := atoms_spec (ws := ws_ y cc nL ret) B.pre
  have hown : s.vm.findClass y.cls = some m.cls := findClass_of_methodNamed B.named
  subst hh
  have hemp : c.exceptionTable.toList = [] := List.eq_nil_iff_forall_not_mem.mpr hno
  have key := body (p, l, e, (headSpec (ws_ y cc nL ret) (jrm d b)).room, s, m, args.toArray, below, meth, c, vx_MQ below (jQc G post) (jXC G px) args.toArray s b (4 * b) (jA G)) rfl
    ⟨⟨B.exec, B.bytes, hml, hown, fun w h => hts w (List.mem_cons_of_mem _ h)⟩, hK, B.notSynchronized, Nat.le_refl _, Nat.le_refl _, hl0⟩ ⟨rfl, rfl, rfl⟩ hemp B.returns (name_of_methodNamed B.named B.method).1 rfl
  rw [lg_entry_eq]
  refine key [] 0 0 _ va_S.rf (Nat.le_of_eq (Nat.zero_add _)) (Nat.le_of_eq (Nat.zero_add _)) ?_
  rw [hlv]
  show lv_has _ c.maxLocals _
  rw [hml]
  exact lv_entry args hlen
/-- the same for a method with handlers -/
theorem JMet.ofH {l : Launch} {y : MethodName} {cc : ByteArray} {nL : Nat} {ret : Option FieldType} {hh : List (Nat × Nat × Nat × Nat)} {d b : Nat} {G : JG} {H : Heap} {args : List Value} {post : Option Value → Heap → Prop} {px : String → Nat → Heap → Prop} (lv : JL) (hy : plainName y.cls = true) (hlen : (lg_sl args).length ≤ nL) (hlv : jmap lv = lv_args 0 args)
    (body : ∀ X : JX, jl X = l → JOK X G y.cls cc nL d → JRet X G b post px → (jc X).exceptionTable.toList = tableOf hh → (jme X).sig.returnType = ret → (js X).heap = H → JW X G H b 0 lv []) : JMet l y (wsW_ y cc nL ret hh) d b G H args post px := by
  intro hl0
  refine vx_ofWH (cc := cc) (maxL := nL) (ret := ret) (hh := hh) hy rfl ?_
  intro p e s m args' below meth c s₁ B hml hP
  obtain ⟨rfl, hh', hK⟩ := hP
  have hts := atoms_spec (ws := wsW_ y cc nL ret hh) B.pre
  have hown : s.vm.findClass y.cls = some m.cls := findClass_of_methodNamed B.named
  subst hh'
  have htb : c.exceptionTable.toList = tableOf hh := vx_table (x := y) B (hts _ List.mem_cons_self)
  have key := body (p, l, e, (headSpec (wsW_ y cc nL ret hh) (jrm d b)).room, s, m, args.toArray, below, meth, c, vx_MQ below (jQc G post) (jXC G px) args.toArray s b (4 * b) (jA G)) rfl
    ⟨⟨B.exec, B.bytes, hml, hown, fun w h => hts w (List.mem_cons_of_mem _ h)⟩, hK, B.notSynchronized, Nat.le_refl _, Nat.le_refl _, hl0⟩ ⟨rfl, rfl, rfl⟩ htb B.returns rfl
  rw [lg_entry_eq]
  refine key [] 0 0 _ va_S.rf (Nat.le_of_eq (Nat.zero_add _)) (Nat.le_of_eq (Nat.zero_add _)) ?_
  rw [hlv]
  show lv_has _ c.maxLocals _
  rw [hml]
  exact lv_entry args hlen
/-- a contract may be used at a weaker end -/
theorem JMet.post {l : Launch} {y : MethodName} {ws : List Cond} {d b : Nat} {G : JG} {H : Heap} {args : List Value} {post post' : Option Value → Heap → Prop} {px px' : String → Nat → Heap → Prop} (h : JMet l y ws d b G H args post px) (h1 : ∀ v H1, post v H1 → post' v H1) (h2 : ∀ E q H1, px E q H1 → px' E q H1) : JMet l y ws d b G H args post' px' := by
  intro hl p e ha hc hk s m a9 below hf happ hP hK
  obtain ⟨n, o, k1, k2, k3, k4⟩ := h hl p e ha hc hk s m a9 below hf happ hP hK
  refine ⟨n, o, k1, k2, k3, ?_⟩
  rcases k4 with ⟨⟨⟨v, e1, e2⟩, e3⟩, e4⟩ | ⟨q, e1, E, ce, L, ⟨e2, e3⟩, e4⟩
  · exact Or.inl ⟨⟨⟨v, e1, h1 _ _ e2⟩, e3⟩, e4⟩
  · exact Or.inr ⟨q, e1, E, ce, L, ⟨h2 _ _ _ e2, e3⟩, e4⟩
