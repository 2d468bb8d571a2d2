/-! lists: ArrayList and its Itr, of at most ten elements -/
set_option maxRecDepth 100000
theorem JPut.trans {H H1 H2 : Heap} {a : Nat} (h : JPut H H1 a) (k : JPut H1 H2 a) : JPut H H2 a := ⟨k.1.trans h.1, fun q hq => (k.2 q hq).trans (h.2 q hq)⟩
/-- a list object at q with its array at arr -/
def alA (G : JG) (H : Heap) (q arr : Nat) (mc : Int32) (E : List Nat) : Prop := jow G H q 11 [.int mc, .ref arr, .int (nI E.length)] ∧ (gs G).heap.size ≤ q ∧ E.length ≤ 10 ∧ ((E = [] ∧ arr = gC G 0) ∨ (arr ≠ q ∧ (gs G).heap.size ≤ arr ∧ jaw G H arr 6 10 (fun j => va_rf (E[j]?))))
theorem alA.lt {G : JG} {H : Heap} {q arr : Nat} {mc : Int32} {E : List Nat} (h : alA G H q arr mc E) : q < H.size := h.1.lt
theorem alA.kept {G : JG} {H H1 : Heap} {q arr : Nat} {mc : Int32} {E : List Nat} (h : alA G H q arr mc E) (e1 : H1[q]? = H[q]?) (e2 : (gs G).heap.size ≤ arr → H1[arr]? = H[arr]?) : alA G H1 q arr mc E := by
  obtain ⟨h1, h2, h3, h4⟩ := h
  refine ⟨h1.kept e1, h2, h3, ?_⟩
  rcases h4 with h4 | ⟨h4, h5, h6⟩
  · exact Or.inl h4
  · exact Or.inr ⟨h4, h5, h6.kept (e2 h5)⟩
theorem alA.arr_lt {G : JG} {H : Heap} {q arr : Nat} {mc : Int32} {E : List Nat} (h : alA G H q arr mc E) (ha : (gs G).heap.size ≤ arr) (hG : gC G 0 < (gs G).heap.size) : arr < H.size := by
  rcases h.2.2.2 with ⟨-, e⟩ | ⟨-, -, h6⟩
  · omega
  · exact h6.lt
theorem c_J2_init (l : Launch) (G : JG) (H : Heap) (q : Nat) {ci : Nat} {fs : List Value} (h : job G H q ci fs) : JMet l yJ2_init (ws_ yJ2_init cJ2_init 1 none) 2 0 G H [.ref q] (jpve H) (jno) := by
  refine JMet.of [(0, .inr (some q))] (by decide) (Nat.le_of_ble_eq_true rfl) rfl (fun X hl hX hQ hEx hr hnm hH => ?_)
  subst hl
  first | refine j_aload_n (pc := 0) hX dJ2_init_0 rfl rfl ?_ | refine j_aload_nq (pc := 0) hX dJ2_init_0 rfl rfl ?_
  refine j_objInit (pc := 1) hX ko_J2_1 (by decide) (Nat.le_of_ble_eq_true rfl) dJ2_init_1 ?_
  exact j_vret hX hQ hr dJ2_init_4 ⟨rfl, rfl⟩
theorem c_J3_init (l : Launch) (G : JG) (H : Heap) (q arr : Nat) (h : jow G H q 11 [.int 0, .null, .int 0]) (hq : (gs G).heap.size ≤ q) : JMet l yJ3_init (ws_ yJ3_init cJ3_init 1 none) 3 0 G H [.ref q] (jpv (fun H1 => JPut H H1 q ∧ jow G H1 q 11 [.int 0, .null, .int 0])) (jno) := by
  refine JMet.of [(0, .inr (some q))] (by decide) (Nat.le_of_ble_eq_true rfl) rfl (fun X hl hX hQ hEx hr hnm hH => ?_)
  subst hl
  first | refine j_aload_n (pc := 0) hX dJ3_init_0 rfl rfl ?_ | refine j_aload_nq (pc := 0) hX dJ3_init_0 rfl rfl ?_
  refine j_runve (pc := 1) (jr_I (pc := 1) hX ki_J3_1 (c_J2_init _ _ _ q h.r) (by decide) dJ3_init_1 rfl rfl (Nat.le_of_ble_eq_true rfl)) ?_ jno_x
  first | refine j_aload_n (pc := 4) hX dJ3_init_4 rfl rfl ?_ | refine j_aload_nq (pc := 4) hX dJ3_init_4 rfl rfl ?_
  refine j_iconst (pc := 5) (v := 0) hX dJ3_init_5 (by decide) ?_
  refine j_put (pc := 6) hX kp_J3_7 dJ3_init_6 (by assumption) hq rfl rfl rfl (fun H_6 w_6 n_6 => ?_)
  exact j_vret hX hQ hr dJ3_init_9 ⟨rfl, w_6, n_6⟩
theorem JC.emp {G : JG} (h : JC G) : va_Z "java/util/ArrayList" "DEFAULTCAPACITY_EMPTY_ELEMENTDATA" "[Ljava/lang/Object;" (.ref (gC G 0)) (jA G) (gs G) (gs G).heap := h.2.2.2.1.2.1 ("java/util/ArrayList", "DEFAULTCAPACITY_EMPTY_ELEMENTDATA", "[Ljava/lang/Object;", 0) (by simp [jstr])
theorem JK.emp {G : JG} {s : State} {H : Heap} (hK : JK G s H) : jar G H (gC G 0) 6 0 (fun _ => .null) := by
  have h := hK.2.2.2.2.2.2.1
  exact h.kept (hK.old h.lt)
theorem c_J4_init (l : Launch) (G : JG) (H : Heap) (q : Nat) (h : jow G H q 11 [.int 0, .null, .int 0]) (hq : (gs G).heap.size ≤ q) : JMet l yJ4_init (ws_ yJ4_init cJ4_init 1 none) 4 0 G H [.ref q] (jpv (fun H1 => JPut H H1 q ∧ alA G H1 q (gC G 0) 0 [])) (jno) := by
  refine JMet.of [(0, .inr (some q))] (by decide) (Nat.le_of_ble_eq_true rfl) rfl (fun X hl hX hQ hEx hr hnm hH => ?_)
  subst hl
  have z := hX.C.emp
  first | refine j_aload_n (pc := 0) hX dJ4_init_0 rfl rfl ?_ | refine j_aload_nq (pc := 0) hX dJ4_init_0 rfl rfl ?_
  refine j_runv (pc := 1) (jr_I (pc := 1) hX ki_J4_1 (c_J3_init _ _ _ q 0 h hq) (by decide) dJ4_init_1 rfl rfl (Nat.le_of_ble_eq_true rfl)) (fun H_1 p_1 z_1 => ?_) jno_x
  obtain ⟨w1, n1⟩ := p_1
  first | refine j_aload_n (pc := 4) hX dJ4_init_4 rfl rfl ?_ | refine j_aload_nq (pc := 4) hX dJ4_init_4 rfl rfl ?_
  refine j_gets (pc := 5) hX kst_J4_39 z dJ4_init_5 ?_
  refine j_put (pc := 8) hX kp_J4_9 dJ4_init_8 (by assumption) hq rfl rfl rfl (fun H_8 w_8 n_8 => ?_)
  exact j_vret hX hQ hr dJ4_init_11 ⟨rfl, w1.trans w_8, n_8, hq, by simp, Or.inl ⟨rfl, rfl⟩⟩
theorem c_J4_size (l : Launch) (G : JG) (H : Heap) (q arr : Nat) {mc : Int32} {E : List Nat} (h : alA G H q arr mc E) : JMet l yJ4_size (ws_ yJ4_size cJ4_size 1 (some .int)) 1 0 G H [.ref q] (jpe H (nI E.length)) (jno) := by
  refine JMet.of [(0, .inr (some q))] (by decide) (Nat.le_of_ble_eq_true rfl) rfl (fun X hl hX hQ hEx hr hnm hH => ?_)
  subst hl
  have ho := h.1
  first | refine j_aload_n (pc := 0) hX dJ4_size_0 rfl rfl ?_ | refine j_aload_nq (pc := 0) hX dJ4_size_0 rfl rfl ?_
  refine j_get (pc := 1) hX kg_J4_48 dJ4_size_1 (by first | assumption | exact jow.r (by assumption)) (by rfl) ?_
  exact j_iret hX hQ hr dJ4_size_4 ⟨_, rfl, rfl, by rfl⟩
theorem c_J4_elementData (l : Launch) (G : JG) (H : Heap) (q arr : Nat) {mc : Int32} {E : List Nat} (h : alA G H q arr mc E) (k : Nat) (hk : k < E.length) : JMet l yJ4_elementData (ws_ yJ4_elementData cJ4_elementData 2 (some (.object "java/lang/Object"))) 1 0 G H [.ref q, .int (nI k)] (jpae H (E.getD k 0)) (jno) := by
  refine JMet.of [(0, .inr (some q)), (1, .inl (.int (nI k)))] (by decide) (Nat.le_of_ble_eq_true rfl) rfl (fun X hl hX hQ hEx hr hnm hH => ?_)
  subst hl
  obtain ⟨ho, h2, h3, h4⟩ := h
  rcases h4 with ⟨e, -⟩ | ⟨h4, h5, h6⟩
  · rw [e] at hk; cases hk
  · have hin : vp_in (nI k) 10 := vp_in_nI (by omega) (by decide)
    first | refine j_aload_n (pc := 0) hX dJ4_elementData_0 rfl rfl ?_ | refine j_aload_nq (pc := 0) hX dJ4_elementData_0 rfl rfl ?_
    refine j_get (pc := 1) hX kg_J4_9 dJ4_elementData_1 (by first | assumption | exact jow.r (by assumption)) (by rfl) ?_
    refine j_iload_n (pc := 4) hX dJ4_elementData_4 rfl rfl ?_
    refine j_aald (pc := 5) hX (by decide) dJ4_elementData_5 (jaw.r (t := 6) hX (by decide) h6) (by assumption) ?_
    skip
    rw [nI_clamp (by omega), List.getElem?_eq_getElem hk]
    exact j_aret hX hQ hr (by first | exact Or.inl ⟨_, rfl⟩ | exact Or.inr ⟨_, rfl⟩) dJ4_elementData_6 ⟨_, rfl, rfl, by rw [List.getD_eq_getElem?_getD, List.getElem?_eq_getElem hk]; rfl⟩
theorem c_J29_checkIndex (l : Launch) (G : JG) (H : Heap) (i n : Nat) (hi : i < n) (hn : n < 2 ^ 31) : JMet l yJ29_checkIndex (ws_ yJ29_checkIndex cJ29_checkIndex 2 (some .int)) 2 0 G H [.int (nI i), .int (nI n)] (jpe H (nI i)) (jno) := by
  refine JMet.of [(0, .inl (.int (nI i))), (1, .inl (.int (nI n)))] (by decide) (Nat.le_of_ble_eq_true rfl) rfl (fun X hl hX hQ hEx hr hnm hH => ?_)
  subst hl
  refine j_iload_n (pc := 0) hX dJ29_checkIndex_0 rfl rfl ?_
  refine j_iload_n (pc := 1) hX dJ29_checkIndex_1 rfl rfl ?_
  refine j_null (pc := 2) hX dJ29_checkIndex_2 ?_
  refine j_rune (pc := 3) (jr_S (pc := 3) hX ks_J29_105 (c_J23_checkIndex _ _ _ i n hi hn none) (by decide) dJ29_checkIndex_3 rfl rfl (Nat.le_of_ble_eq_true rfl)) ?_ jno_x
  exact j_iret hX hQ hr dJ29_checkIndex_6 ⟨_, rfl, rfl, by rfl⟩
theorem c_J4_get (l : Launch) (G : JG) (H : Heap) (q arr : Nat) {mc : Int32} {E : List Nat} (h : alA G H q arr mc E) (k : Nat) (hk : k < E.length) : JMet l yJ4_get (ws_ yJ4_get cJ4_get 2 (some (.object "java/lang/Object"))) 3 0 G H [.ref q, .int (nI k)] (jpae H (E.getD k 0)) (jno) := by
  refine JMet.of [(0, .inr (some q)), (1, .inl (.int (nI k)))] (by decide) (Nat.le_of_ble_eq_true rfl) rfl (fun X hl hX hQ hEx hr hnm hH => ?_)
  subst hl
  have ho := h.1
  have h3 := h.2.2.1
  refine j_iload_n (pc := 0) hX dJ4_get_0 rfl rfl ?_
  first | refine j_aload_n (pc := 1) hX dJ4_get_1 rfl rfl ?_ | refine j_aload_nq (pc := 1) hX dJ4_get_1 rfl rfl ?_
  refine j_get (pc := 2) hX kg_J4_48 dJ4_get_2 (by first | assumption | exact jow.r (by assumption)) (by rfl) ?_
  refine j_rune (pc := 5) (jr_S (pc := 5) hX ks_J4_118 (c_J29_checkIndex _ _ _ k E.length hk (by omega)) (by decide) dJ4_get_5 rfl rfl (Nat.le_of_ble_eq_true rfl)) ?_ jno_x
  refine j_pop (pc := 8) hX dJ4_get_8 (by first | rfl | exact jrf_cat _) ?_
  first | refine j_aload_n (pc := 9) hX dJ4_get_9 rfl rfl ?_ | refine j_aload_nq (pc := 9) hX dJ4_get_9 rfl rfl ?_
  refine j_iload_n (pc := 10) hX dJ4_get_10 rfl rfl ?_
  refine j_runae (pc := 11) (jr_V (pc := 11) hX kv_J4_123 (by first | assumption | exact jow.r (by assumption)) (c_J4_elementData _ _ _ q arr h k hk) (by decide) dJ4_get_11 rfl rfl (Nat.le_of_ble_eq_true rfl)) ?_ jno_x
  first | exact j_aret hX hQ hr (by first | exact Or.inl ⟨_, rfl⟩ | exact Or.inr ⟨_, rfl⟩) dJ4_get_14 ⟨_, rfl, rfl, rfl⟩ | exact j_aretN hX hQ hr (by first | exact Or.inl ⟨_, rfl⟩ | exact Or.inr ⟨_, rfl⟩) dJ4_get_14 ⟨_, rfl, rfl, rfl⟩ | exact j_aretq hX hQ hr (by first | exact Or.inl ⟨_, rfl⟩ | exact Or.inr ⟨_, rfl⟩) dJ4_get_14 ⟨_, rfl, rfl, rfl⟩
/-- an iterator at 'it' over the list q, before its element k -/
def itA (G : JG) (H : Heap) (it q k : Nat) (mc : Int32) : Prop := (∃ x : Int32, jow G H it 12 [.int (nI k), .int x, .int mc, .ref q]) ∧ (gs G).heap.size ≤ it
theorem c_J10_init (l : Launch) (G : JG) (H : Heap) (it q arr : Nat) {mc : Int32} {E : List Nat} (h : jow G H it 12 [.int 0, .int 0, .int 0, .null]) (hi : (gs G).heap.size ≤ it) (hq : alA G H q arr mc E) (hne : q ≠ it) : JMet l yJ10_init (ws_ yJ10_init cJ10_init 2 none) 2 0 G H [.ref it, .ref q] (jpv (fun H1 => JPut H H1 it ∧ itA G H1 it q 0 mc)) (jno) := by
  refine JMet.of [(0, .inr (some it)), (1, .inr (some q))] (by decide) (Nat.le_of_ble_eq_true rfl) rfl (fun X hl hX hQ hEx hr hnm hH => ?_)
  subst hl
  first | refine j_aload_n (pc := 0) hX dJ10_init_0 rfl rfl ?_ | refine j_aload_nq (pc := 0) hX dJ10_init_0 rfl rfl ?_
  first | refine j_aload_n (pc := 1) hX dJ10_init_1 rfl rfl ?_ | refine j_aload_nq (pc := 1) hX dJ10_init_1 rfl rfl ?_
  refine j_putF (pc := 2) hX hnm kp_J10_1 dJ10_init_2 (by assumption) hi rfl rfl rfl (fun H_2 w_2 n_2 => ?_)
  first | refine j_aload_n (pc := 5) hX dJ10_init_5 rfl rfl ?_ | refine j_aload_nq (pc := 5) hX dJ10_init_5 rfl rfl ?_
  refine j_objInit (pc := 6) hX ko_J10_7 (by decide) (Nat.le_of_ble_eq_true rfl) dJ10_init_6 ?_
  first | refine j_aload_n (pc := 9) hX dJ10_init_9 rfl rfl ?_ | refine j_aload_nq (pc := 9) hX dJ10_init_9 rfl rfl ?_
  refine j_iconst (pc := 10) (v := -1) hX dJ10_init_10 (by decide) ?_
  refine j_put (pc := 11) hX kp_J10_13 dJ10_init_11 (by assumption) hi rfl rfl rfl (fun H_11 w_11 n_11 => ?_)
  first | refine j_aload_n (pc := 14) hX dJ10_init_14 rfl rfl ?_ | refine j_aload_nq (pc := 14) hX dJ10_init_14 rfl rfl ?_
  first | refine j_aload_n (pc := 15) hX dJ10_init_15 rfl rfl ?_ | refine j_aload_nq (pc := 15) hX dJ10_init_15 rfl rfl ?_
  refine j_get (pc := 16) hX kg_J10_1 dJ10_init_16 (by first | assumption | exact jow.r (by assumption)) (by rfl) ?_
  have hq2 := ((hq.1.put w_2 hne).put w_11 hne)
  refine j_get (pc := 19) hX kg_J10_17 dJ10_init_19 (by first | assumption | exact jow.r (by assumption)) (by rfl) ?_
  refine j_put (pc := 22) hX kp_J10_22 dJ10_init_22 (by assumption) hi rfl rfl rfl (fun H_22 w_22 n_22 => ?_)
  exact j_vret hX hQ hr dJ10_init_25 ⟨rfl, (w_2.trans w_11).trans w_22, ⟨_, n_22⟩, hi⟩
theorem c_J4_iterator (l : Launch) (G : JG) (H : Heap) (q arr : Nat) {mc : Int32} {E : List Nat} (h : alA G H q arr mc E) : JMet l yJ4_iterator (ws_ yJ4_iterator cJ4_iterator 1 (some (.object "java/util/Iterator"))) 3 1 G H [.ref q] (jpa (fun it H1 => H.size ≤ it ∧ itA G H1 it q 0 mc ∧ JExt H H1)) (jno) := by
  refine JMet.of [(0, .inr (some q))] (by decide) (Nat.le_of_ble_eq_true rfl) rfl (fun X hl hX hQ hEx hr hnm hH => ?_)
  subst hl
  refine j_new (pc := 0) hX kn_J4_267 1 jw_J10 dJ4_iterator_0 (fun H_0 z_0 e_0 n_0 b_0 => ?_)
  refine j_dup (pc := 3) hX dJ4_iterator_3 (by first | rfl | exact jrf_cat _) ?_
  first | refine j_aload_n (pc := 4) hX dJ4_iterator_4 rfl rfl ?_ | refine j_aload_nq (pc := 4) hX dJ4_iterator_4 rfl rfl ?_
  refine j_runv (pc := 5) (jr_I (pc := 5) hX ki_J4_269 (c_J10_init _ _ _ _ q arr n_0 b_0 (h.kept (e_0.2 _ h.lt) (fun e => e_0.2 _ (h.arr_lt e (by have := hX.C; exact hX.C.2.2.2.2.1.lt)))) (by have := h.lt; omega)) (by decide) dJ4_iterator_5 rfl rfl (Nat.le_of_ble_eq_true rfl)) (fun H_5 p_5 z_5 => ?_) jno_x
  obtain ⟨w1, n1⟩ := p_5
  first | exact j_aret hX hQ hr (by first | exact Or.inl ⟨_, rfl⟩ | exact Or.inr ⟨_, rfl⟩) dJ4_iterator_8 ⟨_, rfl, Nat.le_refl _, n1, e_0.put w1 (Nat.le_refl _)⟩ | exact j_aretN hX hQ hr (by first | exact Or.inl ⟨_, rfl⟩ | exact Or.inr ⟨_, rfl⟩) dJ4_iterator_8 ⟨_, rfl, Nat.le_refl _, n1, e_0.put w1 (Nat.le_refl _)⟩ | exact j_aretq hX hQ hr (by first | exact Or.inl ⟨_, rfl⟩ | exact Or.inr ⟨_, rfl⟩) dJ4_iterator_8 ⟨_, rfl, Nat.le_refl _, n1, e_0.put w1 (Nat.le_refl _)⟩
theorem c_J10_hasNext (l : Launch) (G : JG) (H : Heap) (it q arr k : Nat) {mc mc2 : Int32} {E : List Nat} (hi : itA G H it q k mc) (h : alA G H q arr mc2 E) (hk : k ≤ E.length) : JMet l yJ10_hasNext (ws_ yJ10_hasNext cJ10_hasNext 1 (some .boolean)) 1 0 G H [.ref it] (jpe H (jb (decide (k < E.length)))) (jno) := by
  refine JMet.of [(0, .inr (some it))] (by decide) (Nat.le_of_ble_eq_true rfl) rfl (fun X hl hX hQ hEx hr hnm hH => ?_)
  subst hl
  obtain ⟨⟨x, h1⟩, hi2⟩ := hi
  have ho := h.1
  have h3 := h.2.2.1
  first | refine j_aload_n (pc := 0) hX dJ10_hasNext_0 rfl rfl ?_ | refine j_aload_nq (pc := 0) hX dJ10_hasNext_0 rfl rfl ?_
  refine j_get (pc := 1) hX kg_J10_25 dJ10_hasNext_1 (by first | assumption | exact jow.r (by assumption)) (by rfl) ?_
  first | refine j_aload_n (pc := 4) hX dJ10_hasNext_4 rfl rfl ?_ | refine j_aload_nq (pc := 4) hX dJ10_hasNext_4 rfl rfl ?_
  refine j_get (pc := 5) hX kg_J10_1 dJ10_hasNext_5 (by first | assumption | exact jow.r (by assumption)) (by rfl) ?_
  refine j_get (pc := 8) hX kg_J10_28 dJ10_hasNext_8 (by first | assumption | exact jow.r (by assumption)) (by rfl) ?_
  refine j_icmp_eq (pc := 11) (tgt := 18) hX dJ10_hasNext_11 (by decide) (fun c_11 => ?_) (fun c_11 => ?_)
  · rw [nI_eq (by omega) (by omega)] at c_11
    refine j_iconst (pc := 18) (v := 0) hX dJ10_hasNext_18 (by decide) ?_
    exact j_zret hX hQ hr (by first | rfl | exact jb_nar _ | exact nI_narC _ | assumption) dJ10_hasNext_19 ⟨_, rfl, rfl, by rw [jb]; first | (rw [if_pos (by rw [decide_eq_true_eq]; omega)]; done) | (rw [if_neg (by rw [decide_eq_true_eq]; omega)]; done)⟩
  · rw [nI_eq (by omega) (by omega)] at c_11
    refine j_iconst (pc := 14) (v := 1) hX dJ10_hasNext_14 (by decide) ?_
    refine j_goto (pc := 15) (tgt := 19) hX dJ10_hasNext_15 (by decide) ?_
    exact j_zret hX hQ hr (by first | rfl | exact jb_nar _ | exact nI_narC _ | assumption) dJ10_hasNext_19 ⟨_, rfl, rfl, by rw [jb]; first | (rw [if_pos (by rw [decide_eq_true_eq]; omega)]; done) | (rw [if_neg (by rw [decide_eq_true_eq]; omega)]; done)⟩
theorem c_J10_checkForComodification (l : Launch) (G : JG) (H : Heap) (it q arr k : Nat) {mc : Int32} {E : List Nat} (hi : itA G H it q k mc) (h : alA G H q arr mc E) : JMet l yJ10_checkForComodification (ws_ yJ10_checkForComodification cJ10_checkForComodification 1 none) 1 0 G H [.ref it] (jpve H) (jno) := by
  refine JMet.of [(0, .inr (some it))] (by decide) (Nat.le_of_ble_eq_true rfl) rfl (fun X hl hX hQ hEx hr hnm hH => ?_)
  subst hl
  obtain ⟨⟨x, h1⟩, hi2⟩ := hi
  have ho := h.1
  first | refine j_aload_n (pc := 0) hX dJ10_checkForComodification_0 rfl rfl ?_ | refine j_aload_nq (pc := 0) hX dJ10_checkForComodification_0 rfl rfl ?_
  refine j_get (pc := 1) hX kg_J10_1 dJ10_checkForComodification_1 (by first | assumption | exact jow.r (by assumption)) (by rfl) ?_
  refine j_get (pc := 4) hX kg_J10_17 dJ10_checkForComodification_4 (by first | assumption | exact jow.r (by assumption)) (by rfl) ?_
  first | refine j_aload_n (pc := 7) hX dJ10_checkForComodification_7 rfl rfl ?_ | refine j_aload_nq (pc := 7) hX dJ10_checkForComodification_7 rfl rfl ?_
  refine j_get (pc := 8) hX kg_J10_22 dJ10_checkForComodification_8 (by first | assumption | exact jow.r (by assumption)) (by rfl) ?_
  refine j_icmp_eq (pc := 11) (tgt := 22) hX dJ10_checkForComodification_11 (by decide) (fun c_11 => ?_) (fun c_11 => ?_)
  rotate_left
  · exact absurd rfl c_11
  exact j_vret hX hQ hr dJ10_checkForComodification_22 ⟨rfl, rfl⟩
theorem c_J10_next (l : Launch) (G : JG) (H : Heap) (it q arr k : Nat) {mc : Int32} {E : List Nat} (hi : itA G H it q k mc) (h : alA G H q arr mc E) (hk : k < E.length) (hne : q ≠ it) (hne2 : arr ≠ it) : JMet l yJ10_next (ws_ yJ10_next cJ10_next 3 (some (.object "java/lang/Object"))) 2 0 G H [.ref it] (jpa (fun r H1 => r = E.getD k 0 ∧ JPut H H1 it ∧ itA G H1 it q (k + 1) mc)) (jno) := by
  refine JMet.of [(0, .inr (some it))] (by decide) (Nat.le_of_ble_eq_true rfl) rfl (fun X hl hX hQ hEx hr hnm hH => ?_)
  subst hl
  have hi' := hi
  obtain ⟨⟨x, h1⟩, hi2⟩ := hi
  obtain ⟨ho, h2, h3, h4⟩ := id h
  rcases h4 with ⟨e, -⟩ | ⟨h4, h5, h6⟩
  · rw [e] at hk; cases hk
  · have hin : vp_in (nI k) 10 := vp_in_nI (by omega) (by decide)
    first | refine j_aload_n (pc := 0) hX dJ10_next_0 rfl rfl ?_ | refine j_aload_nq (pc := 0) hX dJ10_next_0 rfl rfl ?_
    refine j_runve (pc := 1) (jr_V (pc := 1) hX kv_J10_31 (by first | assumption | exact jow.r (by assumption)) (c_J10_checkForComodification _ _ _ it q arr k hi' h) (by decide) dJ10_next_1 rfl rfl (Nat.le_of_ble_eq_true rfl)) ?_ jno_x
    first | refine j_aload_n (pc := 4) hX dJ10_next_4 rfl rfl ?_ | refine j_aload_nq (pc := 4) hX dJ10_next_4 rfl rfl ?_
    refine j_get (pc := 5) hX kg_J10_25 dJ10_next_5 (by first | assumption | exact jow.r (by assumption)) (by rfl) ?_
    refine j_istore_n (pc := 8) hX dJ10_next_8 rfl (by decide) rfl ?_
    refine j_iload_n (pc := 9) hX dJ10_next_9 rfl rfl ?_
    first | refine j_aload_n (pc := 10) hX dJ10_next_10 rfl rfl ?_ | refine j_aload_nq (pc := 10) hX dJ10_next_10 rfl rfl ?_
    refine j_get (pc := 11) hX kg_J10_1 dJ10_next_11 (by first | assumption | exact jow.r (by assumption)) (by rfl) ?_
    refine j_get (pc := 14) hX kg_J10_28 dJ10_next_14 (by first | assumption | exact jow.r (by assumption)) (by rfl) ?_
    refine j_icmp_lt (pc := 17) (tgt := 28) hX dJ10_next_17 (by decide) (fun c_17 => ?_) (fun c_17 => ?_)
    rotate_left
    · exact absurd (nI_lt hk (by omega)) c_17
    first | refine j_aload_n (pc := 28) hX dJ10_next_28 rfl rfl ?_ | refine j_aload_nq (pc := 28) hX dJ10_next_28 rfl rfl ?_
    refine j_get (pc := 29) hX kg_J10_1 dJ10_next_29 (by first | assumption | exact jow.r (by assumption)) (by rfl) ?_
    refine j_get (pc := 32) hX kg_J10_37 dJ10_next_32 (by first | assumption | exact jow.r (by assumption)) (by rfl) ?_
    first | refine j_astore_n (pc := 35) hX dJ10_next_35 rfl (by decide) rfl ?_ | refine j_astore_nN (pc := 35) hX dJ10_next_35 rfl (by decide) rfl ?_ | refine j_astore_nq (pc := 35) hX dJ10_next_35 rfl (by decide) rfl ?_
    refine j_iload_n (pc := 36) hX dJ10_next_36 rfl rfl ?_
    first | refine j_aload_n (pc := 37) hX dJ10_next_37 rfl rfl ?_ | refine j_aload_nq (pc := 37) hX dJ10_next_37 rfl rfl ?_
    refine j_alen (pc := 38) hX dJ10_next_38 (jaw.r (t := 6) hX (by decide) h6) ?_
    refine j_icmp_lt (pc := 39) (tgt := 50) hX dJ10_next_39 (by decide) (fun c_39 => ?_) (fun c_39 => ?_)
    rotate_left
    · exact absurd (nI_lt (b := 10) (show k < 10 by omega) (by omega)) c_39
    first | refine j_aload_n (pc := 50) hX dJ10_next_50 rfl rfl ?_ | refine j_aload_nq (pc := 50) hX dJ10_next_50 rfl rfl ?_
    refine j_iload_n (pc := 51) hX dJ10_next_51 rfl rfl ?_
    refine j_iconst (pc := 52) (v := 1) hX dJ10_next_52 (by decide) ?_
    refine j_iadd (pc := 53) hX dJ10_next_53 ?_
    rw [nI_1]
    refine j_put (pc := 54) hX kp_J10_25 dJ10_next_54 (by assumption) hi2 rfl rfl rfl (fun H_54 w_54 n_54 => ?_)
    first | refine j_aload_n (pc := 57) hX dJ10_next_57 rfl rfl ?_ | refine j_aload_nq (pc := 57) hX dJ10_next_57 rfl rfl ?_
    first | refine j_aload_n (pc := 58) hX dJ10_next_58 rfl rfl ?_ | refine j_aload_nq (pc := 58) hX dJ10_next_58 rfl rfl ?_
    refine j_iload_n (pc := 59) hX dJ10_next_59 rfl rfl ?_
    refine j_dup_x1 (pc := 60) hX dJ10_next_60 (by first | rfl | exact jrf_cat _) (by first | rfl | exact jrf_cat _) ?_
    refine j_put (pc := 61) hX kp_J10_13 dJ10_next_61 (by assumption) hi2 rfl rfl rfl (fun H_61 w_61 n_61 => ?_)
    refine j_aald (pc := 64) hX (by decide) dJ10_next_64 (jaw.r (t := 6) hX (by decide) ((h6.put w_54 hne2).put w_61 hne2)) (by assumption) ?_
    skip
    rw [nI_clamp (by omega), List.getElem?_eq_getElem hk]
    exact j_aret hX hQ hr (by first | exact Or.inl ⟨_, rfl⟩ | exact Or.inr ⟨_, rfl⟩) dJ10_next_65 ⟨_, rfl, by rw [List.getD_eq_getElem?_getD, List.getElem?_eq_getElem hk]; rfl, w_54.trans w_61, ⟨_, n_61⟩, hi2⟩
