/-! the reference's world, and numbers -/
set_option maxRecDepth 100000
/-! numbers -/
def oI : Option Nat → Int32 | none => -1 | some k => nI k
theorem oI_neg {o : Option Nat} (h : ∀ k, o = some k → k < 2 ^ 31) : oI o < 0 ↔ o = none := by
  cases o with
  | none => exact ⟨fun _ => rfl, fun _ => by decide⟩
  | some k => exact ⟨fun z => absurd z (nI_pos (h k rfl)), fun z => by cases z⟩
/-- small whole numbers as ints -/
def zI (z : Int) : Int32 := Int32.ofInt z
theorem zI_toInt {z : Int} (h1 : -(2 ^ 31) ≤ z) (h2 : z < 2 ^ 31) : (zI z).toInt = z := Int32.toInt_ofInt_of_le h1 h2
theorem nI_zI (n : Nat) : nI n = zI (n : Int) := by
  apply Int32.toBitVec_inj.mp
  simp [nI, zI]
theorem zI_add (a b : Int) : zI a + zI b = zI (a + b) := (Int32.ofInt_add a b).symm
theorem zI_sub (a b : Int) : zI a - zI b = zI (a - b) := (Int32.ofInt_sub a b).symm
theorem zI_mul (a b : Int) : zI a * zI b = zI (a * b) := (Int32.ofInt_mul a b).symm
theorem zI_inj {a b : Int} (ha : -(2 ^ 31) ≤ a ∧ a < 2 ^ 31) (hb : -(2 ^ 31) ≤ b ∧ b < 2 ^ 31) : zI a = zI b ↔ a = b := by
  constructor
  · intro e
    have := congrArg Int32.toInt e
    rwa [zI_toInt ha.1 ha.2, zI_toInt hb.1 hb.2] at this
  · intro e; rw [e]
theorem zI_lt {a b : Int} (ha : -(2 ^ 31) ≤ a ∧ a < 2 ^ 31) (hb : -(2 ^ 31) ≤ b ∧ b < 2 ^ 31) : zI a < zI b ↔ a < b := by
  rw [Int32.lt_iff_toInt_lt, zI_toInt ha.1 ha.2, zI_toInt hb.1 hb.2]
theorem zI_le {a b : Int} (ha : -(2 ^ 31) ≤ a ∧ a < 2 ^ 31) (hb : -(2 ^ 31) ≤ b ∧ b < 2 ^ 31) : zI a ≤ zI b ↔ a ≤ b := by
  rw [Int32.le_iff_toInt_le, zI_toInt ha.1 ha.2, zI_toInt hb.1 hb.2]
theorem zI_0 : (0 : Int32) = zI 0 := by decide
/-! the world -/
abbrev twF (g : Nat → Nat) (fs : Nat → Int32) : List Value := [.ref (g 0), .ref (g 1), .ref (g 2), .int (fs 3), .ref (g 4), .int (fs 5), .int (fs 6), .ref (g 7), .int (fs 8), .ref (g 9), .int (fs 10), .int (fs 11), .int (fs 12), .int (fs 13), .int (fs 14), .ref (g 15), .int (fs 16)]
def twA (ar : Nat → Nat → Nat) (k : Nat) : Nat → Int32 := fun j => nI (ar k j)
def twL : List Nat := [100, 0, 1, 2, 4, 7, 9, 15]
def twD (G : JG) (g : Nat → Nat) : Prop := (∀ i ∈ twL, (gs G).heap.size ≤ g i) ∧ ∀ i ∈ twL, ∀ j ∈ twL, g i = g j → i = j
def twP (g : Nat → Nat) : Nat → Prop := fun q => ∃ i ∈ twL, q = g i
def jtw (G : JG) (H : Heap) (g : Nat → Nat) (ar : Nat → Nat → Nat) (cm fs : Nat → Int32) : Prop :=
  twD G g ∧ jow G H (g 100) 8 (twF g fs) ∧ jaw G H (g 0) 0 93 (fun j => .int (twA ar 0 j)) ∧ jaw G H (g 1) 0 93 (fun j => .int (twA ar 1 j)) ∧ jaw G H (g 2) 0 93 (fun j => .int (twA ar 2 j)) ∧ jaw G H (g 4) 0 744 (fun j => .int (twA ar 4 j)) ∧ jaw G H (g 7) 5 90 (fun j => .int (twA ar 7 j)) ∧ jaw G H (g 9) 5 60 (fun j => .int (twA ar 9 j)) ∧ jaw G H (g 15) 0 300 (fun j => .int (cm j))
theorem twD.ne {G : JG} {g : Nat → Nat} (h : twD G g) {i j : Nat} (hi : i ∈ twL) (hj : j ∈ twL) (n : i ≠ j) : g i ≠ g j := fun e => n (h.2 i hi j hj e)
theorem jtw.kept {G : JG} {H H1 : Heap} {g : Nat → Nat} {ar : Nat → Nat → Nat} {cm fs : Nat → Int32} (h : jtw G H g ar cm fs) (e : ∀ i ∈ twL, H1[g i]? = H[g i]?) : jtw G H1 g ar cm fs := by
  obtain ⟨h0, h1, h2, h3, h4, h5, h6, h7, h8⟩ := h
  exact ⟨h0, h1.kept (e _ (by decide)), h2.kept (e _ (by decide)), h3.kept (e _ (by decide)), h4.kept (e _ (by decide)), h5.kept (e _ (by decide)), h6.kept (e _ (by decide)), h7.kept (e _ (by decide)), h8.kept (e _ (by decide))⟩
theorem jtw.lt {G : JG} {H : Heap} {g : Nat → Nat} {ar : Nat → Nat → Nat} {cm fs : Nat → Int32} (h : jtw G H g ar cm fs) : ∀ i ∈ twL, g i < H.size := by
  obtain ⟨h0, h1, h2, h3, h4, h5, h6, h7, h8⟩ := h
  intro i hi
  simp only [twL, List.mem_cons, List.not_mem_nil, or_false] at hi
  rcases hi with rfl | rfl | rfl | rfl | rfl | rfl | rfl | rfl
  · exact h1.lt
  · exact h2.lt
  · exact h3.lt
  · exact h4.lt
  · exact h5.lt
  · exact h6.lt
  · exact h7.lt
  · exact h8.lt
theorem jtw.ext {G : JG} {H H1 : Heap} {g : Nat → Nat} {ar : Nat → Nat → Nat} {cm fs : Nat → Int32} (h : jtw G H g ar cm fs) (e : JExt H H1) : jtw G H1 g ar cm fs := h.kept fun i hi => e.2 _ (h.lt i hi)
theorem jtw.fr {G : JG} {H H1 : Heap} {P : Nat → Prop} {g : Nat → Nat} {ar : Nat → Nat → Nat} {cm fs : Nat → Int32} (h : jtw G H g ar cm fs) (e : JFr P H H1) (n : ∀ i ∈ twL, ¬ P (g i)) : jtw G H1 g ar cm fs := h.kept fun i hi => e.2 _ (h.lt i hi) (n i hi)
theorem tw_put3 {G : JG} {H H1 : Heap} {g : Nat → Nat} {ar : Nat → Nat → Nat} {cm fs : Nat → Int32} {v : Int32} (h : jtw G H g ar cm fs) (hw : JPut H H1 (g 100)) (hn : jow G H1 (g 100) 8 [.ref (g 0), .ref (g 1), .ref (g 2), .int v, .ref (g 4), .int (fs 5), .int (fs 6), .ref (g 7), .int (fs 8), .ref (g 9), .int (fs 10), .int (fs 11), .int (fs 12), .int (fs 13), .int (fs 14), .ref (g 15), .int (fs 16)]) : jtw G H1 g ar cm (jup fs 3 v) := by
  obtain ⟨h0, h1, h2, h3, h4, h5, h6, h7, h8⟩ := h
  exact ⟨h0, hn, h2.put hw (h0.ne (by decide) (by decide) (by decide)), h3.put hw (h0.ne (by decide) (by decide) (by decide)), h4.put hw (h0.ne (by decide) (by decide) (by decide)), h5.put hw (h0.ne (by decide) (by decide) (by decide)), h6.put hw (h0.ne (by decide) (by decide) (by decide)), h7.put hw (h0.ne (by decide) (by decide) (by decide)), h8.put hw (h0.ne (by decide) (by decide) (by decide))⟩
theorem tw_put5 {G : JG} {H H1 : Heap} {g : Nat → Nat} {ar : Nat → Nat → Nat} {cm fs : Nat → Int32} {v : Int32} (h : jtw G H g ar cm fs) (hw : JPut H H1 (g 100)) (hn : jow G H1 (g 100) 8 [.ref (g 0), .ref (g 1), .ref (g 2), .int (fs 3), .ref (g 4), .int v, .int (fs 6), .ref (g 7), .int (fs 8), .ref (g 9), .int (fs 10), .int (fs 11), .int (fs 12), .int (fs 13), .int (fs 14), .ref (g 15), .int (fs 16)]) : jtw G H1 g ar cm (jup fs 5 v) := by
  obtain ⟨h0, h1, h2, h3, h4, h5, h6, h7, h8⟩ := h
  exact ⟨h0, hn, h2.put hw (h0.ne (by decide) (by decide) (by decide)), h3.put hw (h0.ne (by decide) (by decide) (by decide)), h4.put hw (h0.ne (by decide) (by decide) (by decide)), h5.put hw (h0.ne (by decide) (by decide) (by decide)), h6.put hw (h0.ne (by decide) (by decide) (by decide)), h7.put hw (h0.ne (by decide) (by decide) (by decide)), h8.put hw (h0.ne (by decide) (by decide) (by decide))⟩
theorem tw_put6 {G : JG} {H H1 : Heap} {g : Nat → Nat} {ar : Nat → Nat → Nat} {cm fs : Nat → Int32} {v : Int32} (h : jtw G H g ar cm fs) (hw : JPut H H1 (g 100)) (hn : jow G H1 (g 100) 8 [.ref (g 0), .ref (g 1), .ref (g 2), .int (fs 3), .ref (g 4), .int (fs 5), .int v, .ref (g 7), .int (fs 8), .ref (g 9), .int (fs 10), .int (fs 11), .int (fs 12), .int (fs 13), .int (fs 14), .ref (g 15), .int (fs 16)]) : jtw G H1 g ar cm (jup fs 6 v) := by
  obtain ⟨h0, h1, h2, h3, h4, h5, h6, h7, h8⟩ := h
  exact ⟨h0, hn, h2.put hw (h0.ne (by decide) (by decide) (by decide)), h3.put hw (h0.ne (by decide) (by decide) (by decide)), h4.put hw (h0.ne (by decide) (by decide) (by decide)), h5.put hw (h0.ne (by decide) (by decide) (by decide)), h6.put hw (h0.ne (by decide) (by decide) (by decide)), h7.put hw (h0.ne (by decide) (by decide) (by decide)), h8.put hw (h0.ne (by decide) (by decide) (by decide))⟩
theorem tw_put8 {G : JG} {H H1 : Heap} {g : Nat → Nat} {ar : Nat → Nat → Nat} {cm fs : Nat → Int32} {v : Int32} (h : jtw G H g ar cm fs) (hw : JPut H H1 (g 100)) (hn : jow G H1 (g 100) 8 [.ref (g 0), .ref (g 1), .ref (g 2), .int (fs 3), .ref (g 4), .int (fs 5), .int (fs 6), .ref (g 7), .int v, .ref (g 9), .int (fs 10), .int (fs 11), .int (fs 12), .int (fs 13), .int (fs 14), .ref (g 15), .int (fs 16)]) : jtw G H1 g ar cm (jup fs 8 v) := by
  obtain ⟨h0, h1, h2, h3, h4, h5, h6, h7, h8⟩ := h
  exact ⟨h0, hn, h2.put hw (h0.ne (by decide) (by decide) (by decide)), h3.put hw (h0.ne (by decide) (by decide) (by decide)), h4.put hw (h0.ne (by decide) (by decide) (by decide)), h5.put hw (h0.ne (by decide) (by decide) (by decide)), h6.put hw (h0.ne (by decide) (by decide) (by decide)), h7.put hw (h0.ne (by decide) (by decide) (by decide)), h8.put hw (h0.ne (by decide) (by decide) (by decide))⟩
theorem tw_put10 {G : JG} {H H1 : Heap} {g : Nat → Nat} {ar : Nat → Nat → Nat} {cm fs : Nat → Int32} {v : Int32} (h : jtw G H g ar cm fs) (hw : JPut H H1 (g 100)) (hn : jow G H1 (g 100) 8 [.ref (g 0), .ref (g 1), .ref (g 2), .int (fs 3), .ref (g 4), .int (fs 5), .int (fs 6), .ref (g 7), .int (fs 8), .ref (g 9), .int v, .int (fs 11), .int (fs 12), .int (fs 13), .int (fs 14), .ref (g 15), .int (fs 16)]) : jtw G H1 g ar cm (jup fs 10 v) := by
  obtain ⟨h0, h1, h2, h3, h4, h5, h6, h7, h8⟩ := h
  exact ⟨h0, hn, h2.put hw (h0.ne (by decide) (by decide) (by decide)), h3.put hw (h0.ne (by decide) (by decide) (by decide)), h4.put hw (h0.ne (by decide) (by decide) (by decide)), h5.put hw (h0.ne (by decide) (by decide) (by decide)), h6.put hw (h0.ne (by decide) (by decide) (by decide)), h7.put hw (h0.ne (by decide) (by decide) (by decide)), h8.put hw (h0.ne (by decide) (by decide) (by decide))⟩
theorem tw_put11 {G : JG} {H H1 : Heap} {g : Nat → Nat} {ar : Nat → Nat → Nat} {cm fs : Nat → Int32} {v : Int32} (h : jtw G H g ar cm fs) (hw : JPut H H1 (g 100)) (hn : jow G H1 (g 100) 8 [.ref (g 0), .ref (g 1), .ref (g 2), .int (fs 3), .ref (g 4), .int (fs 5), .int (fs 6), .ref (g 7), .int (fs 8), .ref (g 9), .int (fs 10), .int v, .int (fs 12), .int (fs 13), .int (fs 14), .ref (g 15), .int (fs 16)]) : jtw G H1 g ar cm (jup fs 11 v) := by
  obtain ⟨h0, h1, h2, h3, h4, h5, h6, h7, h8⟩ := h
  exact ⟨h0, hn, h2.put hw (h0.ne (by decide) (by decide) (by decide)), h3.put hw (h0.ne (by decide) (by decide) (by decide)), h4.put hw (h0.ne (by decide) (by decide) (by decide)), h5.put hw (h0.ne (by decide) (by decide) (by decide)), h6.put hw (h0.ne (by decide) (by decide) (by decide)), h7.put hw (h0.ne (by decide) (by decide) (by decide)), h8.put hw (h0.ne (by decide) (by decide) (by decide))⟩
theorem tw_put12 {G : JG} {H H1 : Heap} {g : Nat → Nat} {ar : Nat → Nat → Nat} {cm fs : Nat → Int32} {v : Int32} (h : jtw G H g ar cm fs) (hw : JPut H H1 (g 100)) (hn : jow G H1 (g 100) 8 [.ref (g 0), .ref (g 1), .ref (g 2), .int (fs 3), .ref (g 4), .int (fs 5), .int (fs 6), .ref (g 7), .int (fs 8), .ref (g 9), .int (fs 10), .int (fs 11), .int v, .int (fs 13), .int (fs 14), .ref (g 15), .int (fs 16)]) : jtw G H1 g ar cm (jup fs 12 v) := by
  obtain ⟨h0, h1, h2, h3, h4, h5, h6, h7, h8⟩ := h
  exact ⟨h0, hn, h2.put hw (h0.ne (by decide) (by decide) (by decide)), h3.put hw (h0.ne (by decide) (by decide) (by decide)), h4.put hw (h0.ne (by decide) (by decide) (by decide)), h5.put hw (h0.ne (by decide) (by decide) (by decide)), h6.put hw (h0.ne (by decide) (by decide) (by decide)), h7.put hw (h0.ne (by decide) (by decide) (by decide)), h8.put hw (h0.ne (by decide) (by decide) (by decide))⟩
theorem tw_put13 {G : JG} {H H1 : Heap} {g : Nat → Nat} {ar : Nat → Nat → Nat} {cm fs : Nat → Int32} {v : Int32} (h : jtw G H g ar cm fs) (hw : JPut H H1 (g 100)) (hn : jow G H1 (g 100) 8 [.ref (g 0), .ref (g 1), .ref (g 2), .int (fs 3), .ref (g 4), .int (fs 5), .int (fs 6), .ref (g 7), .int (fs 8), .ref (g 9), .int (fs 10), .int (fs 11), .int (fs 12), .int v, .int (fs 14), .ref (g 15), .int (fs 16)]) : jtw G H1 g ar cm (jup fs 13 v) := by
  obtain ⟨h0, h1, h2, h3, h4, h5, h6, h7, h8⟩ := h
  exact ⟨h0, hn, h2.put hw (h0.ne (by decide) (by decide) (by decide)), h3.put hw (h0.ne (by decide) (by decide) (by decide)), h4.put hw (h0.ne (by decide) (by decide) (by decide)), h5.put hw (h0.ne (by decide) (by decide) (by decide)), h6.put hw (h0.ne (by decide) (by decide) (by decide)), h7.put hw (h0.ne (by decide) (by decide) (by decide)), h8.put hw (h0.ne (by decide) (by decide) (by decide))⟩
theorem tw_put14 {G : JG} {H H1 : Heap} {g : Nat → Nat} {ar : Nat → Nat → Nat} {cm fs : Nat → Int32} {v : Int32} (h : jtw G H g ar cm fs) (hw : JPut H H1 (g 100)) (hn : jow G H1 (g 100) 8 [.ref (g 0), .ref (g 1), .ref (g 2), .int (fs 3), .ref (g 4), .int (fs 5), .int (fs 6), .ref (g 7), .int (fs 8), .ref (g 9), .int (fs 10), .int (fs 11), .int (fs 12), .int (fs 13), .int v, .ref (g 15), .int (fs 16)]) : jtw G H1 g ar cm (jup fs 14 v) := by
  obtain ⟨h0, h1, h2, h3, h4, h5, h6, h7, h8⟩ := h
  exact ⟨h0, hn, h2.put hw (h0.ne (by decide) (by decide) (by decide)), h3.put hw (h0.ne (by decide) (by decide) (by decide)), h4.put hw (h0.ne (by decide) (by decide) (by decide)), h5.put hw (h0.ne (by decide) (by decide) (by decide)), h6.put hw (h0.ne (by decide) (by decide) (by decide)), h7.put hw (h0.ne (by decide) (by decide) (by decide)), h8.put hw (h0.ne (by decide) (by decide) (by decide))⟩
theorem tw_put16 {G : JG} {H H1 : Heap} {g : Nat → Nat} {ar : Nat → Nat → Nat} {cm fs : Nat → Int32} {v : Int32} (h : jtw G H g ar cm fs) (hw : JPut H H1 (g 100)) (hn : jow G H1 (g 100) 8 [.ref (g 0), .ref (g 1), .ref (g 2), .int (fs 3), .ref (g 4), .int (fs 5), .int (fs 6), .ref (g 7), .int (fs 8), .ref (g 9), .int (fs 10), .int (fs 11), .int (fs 12), .int (fs 13), .int (fs 14), .ref (g 15), .int v]) : jtw G H1 g ar cm (jup fs 16 v) := by
  obtain ⟨h0, h1, h2, h3, h4, h5, h6, h7, h8⟩ := h
  exact ⟨h0, hn, h2.put hw (h0.ne (by decide) (by decide) (by decide)), h3.put hw (h0.ne (by decide) (by decide) (by decide)), h4.put hw (h0.ne (by decide) (by decide) (by decide)), h5.put hw (h0.ne (by decide) (by decide) (by decide)), h6.put hw (h0.ne (by decide) (by decide) (by decide)), h7.put hw (h0.ne (by decide) (by decide) (by decide)), h8.put hw (h0.ne (by decide) (by decide) (by decide))⟩
theorem tw_arr0 {G : JG} {H H1 : Heap} {g : Nat → Nat} {ar : Nat → Nat → Nat} {cm fs : Nat → Int32} {f : Nat → Int32} {s2 : Nat → Nat} (h : jtw G H g ar cm fs) (hw : JPut H H1 (g 0)) (hn : jaw G H1 (g 0) 0 93 (fun j => .int (f j))) (hf : ∀ j, j < 93 → f j = nI (s2 j)) : jtw G H1 g (jup ar 0 s2) cm fs := by
  obtain ⟨h0, h1, h2, h3, h4, h5, h6, h7, h8⟩ := h
  exact ⟨h0, h1.put hw (h0.ne (by decide) (by decide) (by decide)), hn.congr (fun j hj => congrArg Value.int (hf j hj).symm), h3.put hw (h0.ne (by decide) (by decide) (by decide)), h4.put hw (h0.ne (by decide) (by decide) (by decide)), h5.put hw (h0.ne (by decide) (by decide) (by decide)), h6.put hw (h0.ne (by decide) (by decide) (by decide)), h7.put hw (h0.ne (by decide) (by decide) (by decide)), h8.put hw (h0.ne (by decide) (by decide) (by decide))⟩
theorem tw_arr1 {G : JG} {H H1 : Heap} {g : Nat → Nat} {ar : Nat → Nat → Nat} {cm fs : Nat → Int32} {f : Nat → Int32} {s2 : Nat → Nat} (h : jtw G H g ar cm fs) (hw : JPut H H1 (g 1)) (hn : jaw G H1 (g 1) 0 93 (fun j => .int (f j))) (hf : ∀ j, j < 93 → f j = nI (s2 j)) : jtw G H1 g (jup ar 1 s2) cm fs := by
  obtain ⟨h0, h1, h2, h3, h4, h5, h6, h7, h8⟩ := h
  exact ⟨h0, h1.put hw (h0.ne (by decide) (by decide) (by decide)), h2.put hw (h0.ne (by decide) (by decide) (by decide)), hn.congr (fun j hj => congrArg Value.int (hf j hj).symm), h4.put hw (h0.ne (by decide) (by decide) (by decide)), h5.put hw (h0.ne (by decide) (by decide) (by decide)), h6.put hw (h0.ne (by decide) (by decide) (by decide)), h7.put hw (h0.ne (by decide) (by decide) (by decide)), h8.put hw (h0.ne (by decide) (by decide) (by decide))⟩
theorem tw_arr2 {G : JG} {H H1 : Heap} {g : Nat → Nat} {ar : Nat → Nat → Nat} {cm fs : Nat → Int32} {f : Nat → Int32} {s2 : Nat → Nat} (h : jtw G H g ar cm fs) (hw : JPut H H1 (g 2)) (hn : jaw G H1 (g 2) 0 93 (fun j => .int (f j))) (hf : ∀ j, j < 93 → f j = nI (s2 j)) : jtw G H1 g (jup ar 2 s2) cm fs := by
  obtain ⟨h0, h1, h2, h3, h4, h5, h6, h7, h8⟩ := h
  exact ⟨h0, h1.put hw (h0.ne (by decide) (by decide) (by decide)), h2.put hw (h0.ne (by decide) (by decide) (by decide)), h3.put hw (h0.ne (by decide) (by decide) (by decide)), hn.congr (fun j hj => congrArg Value.int (hf j hj).symm), h5.put hw (h0.ne (by decide) (by decide) (by decide)), h6.put hw (h0.ne (by decide) (by decide) (by decide)), h7.put hw (h0.ne (by decide) (by decide) (by decide)), h8.put hw (h0.ne (by decide) (by decide) (by decide))⟩
theorem tw_arr4 {G : JG} {H H1 : Heap} {g : Nat → Nat} {ar : Nat → Nat → Nat} {cm fs : Nat → Int32} {f : Nat → Int32} {s2 : Nat → Nat} (h : jtw G H g ar cm fs) (hw : JPut H H1 (g 4)) (hn : jaw G H1 (g 4) 0 744 (fun j => .int (f j))) (hf : ∀ j, j < 744 → f j = nI (s2 j)) : jtw G H1 g (jup ar 4 s2) cm fs := by
  obtain ⟨h0, h1, h2, h3, h4, h5, h6, h7, h8⟩ := h
  exact ⟨h0, h1.put hw (h0.ne (by decide) (by decide) (by decide)), h2.put hw (h0.ne (by decide) (by decide) (by decide)), h3.put hw (h0.ne (by decide) (by decide) (by decide)), h4.put hw (h0.ne (by decide) (by decide) (by decide)), hn.congr (fun j hj => congrArg Value.int (hf j hj).symm), h6.put hw (h0.ne (by decide) (by decide) (by decide)), h7.put hw (h0.ne (by decide) (by decide) (by decide)), h8.put hw (h0.ne (by decide) (by decide) (by decide))⟩
theorem tw_arr7 {G : JG} {H H1 : Heap} {g : Nat → Nat} {ar : Nat → Nat → Nat} {cm fs : Nat → Int32} {f : Nat → Int32} {s2 : Nat → Nat} (h : jtw G H g ar cm fs) (hw : JPut H H1 (g 7)) (hn : jaw G H1 (g 7) 5 90 (fun j => .int (f j))) (hf : ∀ j, j < 90 → f j = nI (s2 j)) : jtw G H1 g (jup ar 7 s2) cm fs := by
  obtain ⟨h0, h1, h2, h3, h4, h5, h6, h7, h8⟩ := h
  exact ⟨h0, h1.put hw (h0.ne (by decide) (by decide) (by decide)), h2.put hw (h0.ne (by decide) (by decide) (by decide)), h3.put hw (h0.ne (by decide) (by decide) (by decide)), h4.put hw (h0.ne (by decide) (by decide) (by decide)), h5.put hw (h0.ne (by decide) (by decide) (by decide)), hn.congr (fun j hj => congrArg Value.int (hf j hj).symm), h7.put hw (h0.ne (by decide) (by decide) (by decide)), h8.put hw (h0.ne (by decide) (by decide) (by decide))⟩
theorem tw_arr9 {G : JG} {H H1 : Heap} {g : Nat → Nat} {ar : Nat → Nat → Nat} {cm fs : Nat → Int32} {f : Nat → Int32} {s2 : Nat → Nat} (h : jtw G H g ar cm fs) (hw : JPut H H1 (g 9)) (hn : jaw G H1 (g 9) 5 60 (fun j => .int (f j))) (hf : ∀ j, j < 60 → f j = nI (s2 j)) : jtw G H1 g (jup ar 9 s2) cm fs := by
  obtain ⟨h0, h1, h2, h3, h4, h5, h6, h7, h8⟩ := h
  exact ⟨h0, h1.put hw (h0.ne (by decide) (by decide) (by decide)), h2.put hw (h0.ne (by decide) (by decide) (by decide)), h3.put hw (h0.ne (by decide) (by decide) (by decide)), h4.put hw (h0.ne (by decide) (by decide) (by decide)), h5.put hw (h0.ne (by decide) (by decide) (by decide)), h6.put hw (h0.ne (by decide) (by decide) (by decide)), hn.congr (fun j hj => congrArg Value.int (hf j hj).symm), h8.put hw (h0.ne (by decide) (by decide) (by decide))⟩
theorem tw_cmd {G : JG} {H H1 : Heap} {g : Nat → Nat} {ar : Nat → Nat → Nat} {cm fs : Nat → Int32} {f : Nat → Int32} (h : jtw G H g ar cm fs) (hw : JPut H H1 (g 15)) (hn : jaw G H1 (g 15) 0 300 (fun j => .int (f j))) : jtw G H1 g ar f fs := by
  obtain ⟨h0, h1, h2, h3, h4, h5, h6, h7, h8⟩ := h
  exact ⟨h0, h1.put hw (h0.ne (by decide) (by decide) (by decide)), h2.put hw (h0.ne (by decide) (by decide) (by decide)), h3.put hw (h0.ne (by decide) (by decide) (by decide)), h4.put hw (h0.ne (by decide) (by decide) (by decide)), h5.put hw (h0.ne (by decide) (by decide) (by decide)), h6.put hw (h0.ne (by decide) (by decide) (by decide)), h7.put hw (h0.ne (by decide) (by decide) (by decide)), hn⟩
/-! the board in the reference's row of numbers -/
abbrev aId (s : Nat → Nat) (k : Nat) : Nat := s (3 + 6 * k)
abbrev aSh (s : Nat → Nat) (k : Nat) : Nat := s (3 + 6 * k + 1)
abbrev aWh (s : Nat → Nat) (k : Nat) : Nat := s (3 + 6 * k + 2)
abbrev aRn (s : Nat → Nat) (k : Nat) : Nat := s (3 + 6 * k + 3)
abbrev aCo (s : Nat → Nat) (k : Nat) : Nat := s (3 + 6 * k + 4)
abbrev aGv (s : Nat → Nat) (k : Nat) : Nat := s (3 + 6 * k + 5)
abbrev pSh (s : Nat → Nat) (p : Nat) : Nat := s (63 + 5 * p)
abbrev pLo (s : Nat → Nat) (p : Nat) : Nat := s (63 + 5 * p + 1)
abbrev pHi (s : Nat → Nat) (p : Nat) : Nat := s (63 + 5 * p + 2)
abbrev pWg (s : Nat → Nat) (p : Nat) : Nat := s (63 + 5 * p + 3)
abbrev pFl (s : Nat → Nat) (p : Nat) : Nat := s (63 + 5 * p + 4)
def isSh (c : Nat) : Bool := c == 99 || c == 115 || c == 110
/-- what every row of numbers that is met keeps -/
def WFs (s : Nat → Nat) : Prop :=
  s 0 ≤ 1000 ∧ s 1 ≤ 1000000 ∧ s 2 ≤ 6 ∧
  (∀ k, k < 10 → aId s k ≤ s 0 ∧ aWh s k ≤ 100 ∧ aRn s k ≤ 50 ∧ aCo s k ≤ 1000000 ∧ aGv s k < 1024) ∧
  (∀ k, k < 10 → 0 < aId s k → isSh (aSh s k) = true) ∧
  (∀ k, k < 10 → aId s k = 0 → aSh s k = 0 ∧ aWh s k = 0 ∧ aRn s k = 0 ∧ aCo s k = 0 ∧ aGv s k = 0) ∧
  (∀ j k, j < 10 → k < 10 → 0 < aId s j → aId s j = aId s k → j = k) ∧
  (∀ j k, j < 10 → k < 10 → (aGv s k).testBit j = true → 0 < aId s j ∧ j ≠ k) ∧
  (∀ p, p < s 2 → (isSh (pSh s p) = true ∨ pSh s p = 42) ∧ pLo s p ≤ 100 ∧ pHi s p ≤ 50 ∧ 1 ≤ pWg s p ∧ pWg s p ≤ 99 ∧ pFl s p ≤ 10) ∧
  (∀ p, p < s 2 → 0 < pFl s p → 0 < aId s (pFl s p - 1)) ∧
  (∀ p q, p < s 2 → q < s 2 → 0 < pFl s p → pFl s p = pFl s q → p = q)
