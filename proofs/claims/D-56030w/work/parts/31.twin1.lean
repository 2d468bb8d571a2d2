/-! the reference: questions over its row of numbers -/
set_option maxRecDepth 100000
theorem tw_ix (k w : Nat) : (3 : Int32) + 6 * nI k + nI w = nI (3 + 6 * k + w) := by
  rw [show (3 : Int32) = nI 3 from rfl, show (6 : Int32) = nI 6 from rfl, pk_mul, nI_add, nI_add]
theorem tw_px (k w : Nat) : (63 : Int32) + 5 * nI k + nI w = nI (63 + 5 * k + w) := by
  rw [show (63 : Int32) = nI 63 from rfl, show (5 : Int32) = nI 5 from rfl, pk_mul, nI_add, nI_add]
theorem c_X3_thrown (l : Launch) (G : JG) (H : Heap) {g : Nat → Nat} {ar : Nat → Nat → Nat} {cm fs : Nat → Int32} (hT : jtw G H g ar cm fs) : JMet l yX3_thrown (ws_ yX3_thrown cX3_thrown 1 (some .int)) 1 0 G H [.ref (g 100)] (jpe H (fs 6)) jno := by
  refine JMet.of [(0, .inr (some (g 100)))] (by decide) (Nat.le_of_ble_eq_true rfl) rfl (fun X hl hX hQ _ hr hnm hH => ?_)
  subst hl
  have ho := hT.2.1
  first | refine j_aload_n (pc := 0) hX dX3_thrown_0 rfl rfl ?_ | refine j_aload_nq (pc := 0) hX dX3_thrown_0 rfl rfl ?_
  refine j_get (pc := 1) hX kg_X3_39 dX3_thrown_1 (by first | assumption | exact jow.r (by assumption)) (by rfl) ?_
  exact j_iret hX hQ hr dX3_thrown_4 ⟨_, rfl, rfl, rfl⟩
theorem c_X3_in (l : Launch) (G : JG) (H : Heap) (v lo hi : Int32) : JMet l yX3_in (ws_ yX3_in cX3_in 3 (some .boolean)) 1 0 G H [.int v, .int lo, .int hi] (jpe H (jb (decide (lo ≤ v) && decide (v ≤ hi)))) jno := by
  refine JMet.of [(0, .inl (.int v)), (1, .inl (.int lo)), (2, .inl (.int hi))] (by decide) (Nat.le_of_ble_eq_true rfl) rfl (fun X hl hX hQ _ hr hnm hH => ?_)
  subst hl
  refine j_iload_n (pc := 0) hX dX3_in_0 rfl rfl ?_
  refine j_iload_n (pc := 1) hX dX3_in_1 rfl rfl ?_
  refine j_icmp_lt (pc := 2) (tgt := 14) hX dX3_in_2 (by decide) (fun c_2 => ?_) (fun c_2 => ?_)
  · refine j_iconst (pc := 14) (v := 0) hX dX3_in_14 (by decide) ?_
    exact j_zret hX hQ hr rfl dX3_in_15 ⟨_, rfl, rfl, by simp [Int32.not_le.mpr c_2, jb]⟩
  · refine j_iload_n (pc := 5) hX dX3_in_5 rfl rfl ?_
    refine j_iload_n (pc := 6) hX dX3_in_6 rfl rfl ?_
    refine j_icmp_gt (pc := 7) (tgt := 14) hX dX3_in_7 (by decide) (fun c_7 => ?_) (fun c_7 => ?_)
    · refine j_iconst (pc := 14) (v := 0) hX dX3_in_14 (by decide) ?_
      exact j_zret hX hQ hr rfl dX3_in_15 ⟨_, rfl, rfl, by simp [Int32.not_le.mpr c_7, jb]⟩
    · refine j_iconst (pc := 10) (v := 1) hX dX3_in_10 (by decide) ?_
      refine j_goto (pc := 11) (tgt := 15) hX dX3_in_11 (by decide) ?_
      exact j_zret hX hQ hr rfl dX3_in_15 ⟨_, rfl, rfl, by simp [Int32.not_lt.mp c_2, Int32.not_lt.mp c_7, jb]⟩
theorem c_X3_isShape (l : Launch) (G : JG) (H : Heap) (v : Int32) : JMet l yX3_isShape (ws_ yX3_isShape cX3_isShape 1 (some .boolean)) 1 0 G H [.int v] (jpe H (jb (decide (v = 99) || (decide (v = 115) || decide (v = 110))))) jno := by
  refine JMet.of [(0, .inl (.int v))] (by decide) (Nat.le_of_ble_eq_true rfl) rfl (fun X hl hX hQ _ hr hnm hH => ?_)
  subst hl
  refine j_iload_n (pc := 0) hX dX3_isShape_0 rfl rfl ?_
  refine j_bipush (pc := 1) (v := 99) hX dX3_isShape_1 (by decide) ?_
  refine j_icmp_eq (pc := 3) (tgt := 18) hX dX3_isShape_3 (by decide) (fun c_3 => ?_) (fun c_3 => ?_)
  · refine j_iconst (pc := 18) (v := 1) hX dX3_isShape_18 (by decide) ?_
    refine j_goto (pc := 19) (tgt := 23) hX dX3_isShape_19 (by decide) ?_
    exact j_zret hX hQ hr rfl dX3_isShape_23 ⟨_, rfl, rfl, by simp [c_3, jb]⟩
  · refine j_iload_n (pc := 6) hX dX3_isShape_6 rfl rfl ?_
    refine j_bipush (pc := 7) (v := 115) hX dX3_isShape_7 (by decide) ?_
    refine j_icmp_eq (pc := 9) (tgt := 18) hX dX3_isShape_9 (by decide) (fun c_9 => ?_) (fun c_9 => ?_)
    · refine j_iconst (pc := 18) (v := 1) hX dX3_isShape_18 (by decide) ?_
      refine j_goto (pc := 19) (tgt := 23) hX dX3_isShape_19 (by decide) ?_
      exact j_zret hX hQ hr rfl dX3_isShape_23 ⟨_, rfl, rfl, by simp [c_9, jb]⟩
    · refine j_iload_n (pc := 12) hX dX3_isShape_12 rfl rfl ?_
      refine j_bipush (pc := 13) (v := 110) hX dX3_isShape_13 (by decide) ?_
      refine j_icmp_ne (pc := 15) (tgt := 22) hX dX3_isShape_15 (by decide) (fun c_15 => ?_) (fun c_15 => ?_)
      · refine j_iconst (pc := 22) (v := 0) hX dX3_isShape_22 (by decide) ?_
        exact j_zret hX hQ hr rfl dX3_isShape_23 ⟨_, rfl, rfl, by simp [c_3, c_9, c_15, jb]⟩
      · refine j_iconst (pc := 18) (v := 1) hX dX3_isShape_18 (by decide) ?_
        refine j_goto (pc := 19) (tgt := 23) hX dX3_isShape_19 (by decide) ?_
        exact j_zret hX hQ hr rfl dX3_isShape_23 ⟨_, rfl, rfl, by simp [c_15, jb]⟩
theorem c_X3_of (l : Launch) (G : JG) (H : Heap) {g : Nat → Nat} {ar : Nat → Nat → Nat} {cm fs : Nat → Int32} (hT : jtw G H g ar cm fs) (k w : Nat) (hk : k < 10) (hw : w < 6) : JMet l yX3_of (ws_ yX3_of cX3_of 3 (some .int)) 1 0 G H [.ref (g 100), .int (nI k), .int (nI w)] (jpe H (nI (ar 0 (3 + 6 * k + w)))) jno := by
  refine JMet.of [(0, .inr (some (g 100))), (1, .inl (.int (nI k))), (2, .inl (.int (nI w)))] (by decide) (Nat.le_of_ble_eq_true rfl) rfl (fun X hl hX hQ _ hr hnm hH => ?_)
  subst hl
  obtain ⟨h0, h1, h2, -⟩ := hT
  first | refine j_aload_n (pc := 0) hX dX3_of_0 rfl rfl ?_ | refine j_aload_nq (pc := 0) hX dX3_of_0 rfl rfl ?_
  refine j_get (pc := 1) hX kg_X3_9 dX3_of_1 (by first | assumption | exact jow.r (by assumption)) (by rfl) ?_
  refine j_iconst (pc := 4) (v := 3) hX dX3_of_4 (by decide) ?_
  refine j_bipush (pc := 5) (v := 6) hX dX3_of_5 (by decide) ?_
  refine j_iload_n (pc := 7) hX dX3_of_7 rfl rfl ?_
  refine j_imul (pc := 8) hX dX3_of_8 ?_
  refine j_iadd (pc := 9) hX dX3_of_9 ?_
  refine j_iload_n (pc := 10) hX dX3_of_10 rfl rfl ?_
  refine j_iadd (pc := 11) hX dX3_of_11 ?_
  rw [tw_ix]
  have hin : vp_in (nI (3 + 6 * k + w)) 93 := vp_in_nI (by omega) (by decide)
  refine j_iald (pc := 12) hX dX3_of_12 (by first | assumption | exact jaw.r hX (by decide) (by assumption)) (by assumption) ?_
  exact j_iret hX hQ hr dX3_of_13 ⟨_, rfl, rfl, by rw [nI_clamp (by omega)]; rfl⟩
theorem c_X3_ofPost (l : Launch) (G : JG) (H : Heap) {g : Nat → Nat} {ar : Nat → Nat → Nat} {cm fs : Nat → Int32} (hT : jtw G H g ar cm fs) (k w : Nat) (hk : k < 6) (hw : w < 5) : JMet l yX3_ofPost (ws_ yX3_ofPost cX3_ofPost 3 (some .int)) 1 0 G H [.ref (g 100), .int (nI k), .int (nI w)] (jpe H (nI (ar 0 (63 + 5 * k + w)))) jno := by
  refine JMet.of [(0, .inr (some (g 100))), (1, .inl (.int (nI k))), (2, .inl (.int (nI w)))] (by decide) (Nat.le_of_ble_eq_true rfl) rfl (fun X hl hX hQ _ hr hnm hH => ?_)
  subst hl
  obtain ⟨h0, h1, h2, -⟩ := hT
  first | refine j_aload_n (pc := 0) hX dX3_ofPost_0 rfl rfl ?_ | refine j_aload_nq (pc := 0) hX dX3_ofPost_0 rfl rfl ?_
  refine j_get (pc := 1) hX kg_X3_9 dX3_ofPost_1 (by first | assumption | exact jow.r (by assumption)) (by rfl) ?_
  refine j_bipush (pc := 4) (v := 63) hX dX3_ofPost_4 (by decide) ?_
  refine j_iconst (pc := 6) (v := 5) hX dX3_ofPost_6 (by decide) ?_
  refine j_iload_n (pc := 7) hX dX3_ofPost_7 rfl rfl ?_
  refine j_imul (pc := 8) hX dX3_ofPost_8 ?_
  refine j_iadd (pc := 9) hX dX3_ofPost_9 ?_
  refine j_iload_n (pc := 10) hX dX3_ofPost_10 rfl rfl ?_
  refine j_iadd (pc := 11) hX dX3_ofPost_11 ?_
  rw [tw_px]
  have hin : vp_in (nI (63 + 5 * k + w)) 93 := vp_in_nI (by omega) (by decide)
  refine j_iald (pc := 12) hX dX3_ofPost_12 (by first | assumption | exact jaw.r hX (by decide) (by assumption)) (by assumption) ?_
  exact j_iret hX hQ hr dX3_ofPost_13 ⟨_, rfl, rfl, by rw [nI_clamp (by omega)]; rfl⟩
theorem c_X3_isPost (l : Launch) (G : JG) (H : Heap) {g : Nat → Nat} {ar : Nat → Nat → Nat} {cm fs : Nat → Int32} (hT : jtw G H g ar cm fs) (x : Int32) : JMet l yX3_isPost (ws_ yX3_isPost cX3_isPost 2 (some .boolean)) 2 0 G H [.ref (g 100), .int x] (jpe H (jb (decide (0 ≤ x) && decide (x ≤ nI (ar 0 2) - 1)))) jno := by
  refine JMet.of [(0, .inr (some (g 100))), (1, .inl (.int x))] (by decide) (Nat.le_of_ble_eq_true rfl) rfl (fun X hl hX hQ _ hr hnm hH => ?_)
  subst hl
  obtain ⟨h0, h1, h2, -⟩ := hT
  have hin : vp_in (2 : Int32) 93 := vp_in_nI (n := 2) (by omega) (by decide)
  refine j_iload_n (pc := 0) hX dX3_isPost_0 rfl rfl ?_
  refine j_iconst (pc := 1) (v := 0) hX dX3_isPost_1 (by decide) ?_
  first | refine j_aload_n (pc := 2) hX dX3_isPost_2 rfl rfl ?_ | refine j_aload_nq (pc := 2) hX dX3_isPost_2 rfl rfl ?_
  refine j_get (pc := 3) hX kg_X3_9 dX3_isPost_3 (by first | assumption | exact jow.r (by assumption)) (by rfl) ?_
  refine j_iconst (pc := 6) (v := 2) hX dX3_isPost_6 (by decide) ?_
  refine j_iald (pc := 7) hX dX3_isPost_7 (by first | assumption | exact jaw.r hX (by decide) (by assumption)) (by assumption) ?_
  refine j_iconst (pc := 8) (v := 1) hX dX3_isPost_8 (by decide) ?_
  refine j_isub (pc := 9) hX dX3_isPost_9 ?_
  refine j_rune (pc := 10) (jr_S (pc := 10) hX ks_X3_51 (c_X3_in (jl X) G H _ _ _) (by decide) dX3_isPost_10 rfl rfl (Nat.le_of_ble_eq_true rfl)) ?_ jno_x
  exact j_zret hX hQ hr (jb_nar _) dX3_isPost_13 ⟨_, rfl, rfl, rfl⟩
theorem c_X3_isUsed (l : Launch) (G : JG) (H : Heap) {g : Nat → Nat} {ar : Nat → Nat → Nat} {cm fs : Nat → Int32} (hT : jtw G H g ar cm fs) (hb : ∀ j, j < 93 → ar 0 j < 2 ^ 31) (k : Nat) (hk : k < 10) : JMet l yX3_isUsed (ws_ yX3_isUsed cX3_isUsed 2 (some .boolean)) 2 0 G H [.ref (g 100), .int (nI k)] (jpe H (jb (decide (0 < aId (ar 0) k)))) jno := by
  refine JMet.of [(0, .inr (some (g 100))), (1, .inl (.int (nI k)))] (by decide) (Nat.le_of_ble_eq_true rfl) rfl (fun X hl hX hQ _ hr hnm hH => ?_)
  subst hl
  have ho := hT.2.1
  first | refine j_aload_n (pc := 0) hX dX3_isUsed_0 rfl rfl ?_ | refine j_aload_nq (pc := 0) hX dX3_isUsed_0 rfl rfl ?_
  refine j_iload_n (pc := 1) hX dX3_isUsed_1 rfl rfl ?_
  refine j_iconst (pc := 2) (v := 0) hX dX3_isUsed_2 (by decide) ?_
  refine j_rune (pc := 3) (jr_V (pc := 3) hX kv_X3_55 (by first | assumption | exact jow.r (by assumption)) (c_X3_of (jl X) G H hT k 0 hk (by omega)) (by decide) dX3_isUsed_3 rfl rfl (Nat.le_of_ble_eq_true rfl)) ?_ jno_x
  refine j_if_le (pc := 6) (tgt := 13) hX dX3_isUsed_6 (by decide) (fun c_6 => ?_) (fun c_6 => ?_)
  · refine j_iconst (pc := 13) (v := 0) hX dX3_isUsed_13 (by decide) ?_
    have : ar 0 (3 + 6 * k) = 0 := by
      rcases Nat.eq_zero_or_pos (ar 0 (3 + 6 * k)) with q | q
      · exact q
      · exact absurd c_6 (nI_nle q (hb _ (by omega)))
    exact j_zret hX hQ hr rfl dX3_isUsed_14 ⟨_, rfl, rfl, by simp [aId, this, jb]⟩
  · refine j_iconst (pc := 9) (v := 1) hX dX3_isUsed_9 (by decide) ?_
    refine j_goto (pc := 10) (tgt := 14) hX dX3_isUsed_10 (by decide) ?_
    have : 0 < ar 0 (3 + 6 * k) := by
      rcases Nat.eq_zero_or_pos (ar 0 (3 + 6 * k)) with q | q
      · exact absurd (by rw [show 3 + 6 * k + 0 = 3 + 6 * k from rfl, q]; decide) c_6
      · exact q
    exact j_zret hX hQ hr rfl dX3_isUsed_14 ⟨_, rfl, rfl, by simp [aId, this, jb]⟩
theorem c_X3_idOf (l : Launch) (G : JG) (H : Heap) {g : Nat → Nat} {ar : Nat → Nat → Nat} {cm fs : Nat → Int32} (hT : jtw G H g ar cm fs) (k : Nat) (hk : k < 10) : JMet l yX3_idOf (ws_ yX3_idOf cX3_idOf 2 (some .int)) 2 0 G H [.ref (g 100), .int (nI k)] (jpe H (nI (aId (ar 0) k) - 1)) jno := by
  refine JMet.of [(0, .inr (some (g 100))), (1, .inl (.int (nI k)))] (by decide) (Nat.le_of_ble_eq_true rfl) rfl (fun X hl hX hQ _ hr hnm hH => ?_)
  subst hl
  have ho := hT.2.1
  first | refine j_aload_n (pc := 0) hX dX3_idOf_0 rfl rfl ?_ | refine j_aload_nq (pc := 0) hX dX3_idOf_0 rfl rfl ?_
  refine j_iload_n (pc := 1) hX dX3_idOf_1 rfl rfl ?_
  refine j_iconst (pc := 2) (v := 0) hX dX3_idOf_2 (by decide) ?_
  refine j_rune (pc := 3) (jr_V (pc := 3) hX kv_X3_55 (by first | assumption | exact jow.r (by assumption)) (c_X3_of (jl X) G H hT k 0 hk (by omega)) (by decide) dX3_idOf_3 rfl rfl (Nat.le_of_ble_eq_true rfl)) ?_ jno_x
  refine j_iconst (pc := 6) (v := 1) hX dX3_idOf_6 (by decide) ?_
  refine j_isub (pc := 7) hX dX3_idOf_7 ?_
  exact j_iret hX hQ hr dX3_idOf_8 ⟨_, rfl, rfl, rfl⟩
/-- how many of the ten lowest bits -/
def bitN (n : Nat) : Nat := jfold (fun k acc => acc + (if n.testBit k then 1 else 0)) 10 0
theorem c_X3_bits (l : Launch) (G : JG) (H : Heap) (n : Nat) (hn : n < 2 ^ 31) : JMet l yX3_bits (ws_ yX3_bits cX3_bits 3 (some .int)) 1 0 G H [.int (nI n)] (jpe H (nI (bitN n))) jno := by
  refine JMet.of [(0, .inl (.int (nI n)))] (by decide) (Nat.le_of_ble_eq_true rfl) rfl (fun X hl hX hQ _ hr hnm hH => ?_)
  subst hl
  refine j_iconst (pc := 0) (v := 0) hX dX3_bits_0 (by decide) ?_
  refine j_istore_n (pc := 1) hX dX3_bits_1 rfl (by decide) rfl ?_
  refine j_iconst (pc := 2) (v := 0) hX dX3_bits_2 (by decide) ?_
  refine j_istore_n (pc := 3) hX dX3_bits_3 rfl (by decide) rfl ?_
  refine jloop (P := fun i => JW X G H 0 4 [(0, .inl (.int (nI n))), (1, .inl (.int (nI (jfold (fun k acc => acc + (if n.testBit k then 1 else 0)) i 0)))), (2, .inl (.int (nI i)))] []) 10 ?_ (fun i hi ih => ?_) 0 (by omega)
  · refine j_iload_n (pc := 4) hX dX3_bits_4 rfl rfl ?_
    refine j_bipush (pc := 5) (v := 10) hX dX3_bits_5 (by decide) ?_
    refine j_icmp_ge (pc := 7) (tgt := 24) hX dX3_bits_7 (by decide) (fun c_7 => ?_) (fun c_7 => ?_)
    · refine j_iload_n (pc := 24) hX dX3_bits_24 rfl rfl ?_
      exact j_iret hX hQ hr dX3_bits_25 ⟨_, rfl, rfl, rfl⟩
    · exact absurd (jge_no (a := 10) c_7 (by decide) (by decide)) (by omega)
  · refine j_iload_n (pc := 4) hX dX3_bits_4 rfl rfl ?_
    refine j_bipush (pc := 5) (v := 10) hX dX3_bits_5 (by decide) ?_
    refine j_icmp_ge (pc := 7) (tgt := 24) hX dX3_bits_7 (by decide) (fun c_7 => ?_) (fun c_7 => ?_)
    · exact absurd (jge_yes (a := 10) c_7 (by decide) (by omega)) (by omega)
    · refine j_iload_n (pc := 10) hX dX3_bits_10 rfl rfl ?_
      refine j_iload_n (pc := 11) hX dX3_bits_11 rfl rfl ?_
      refine j_iload_n (pc := 12) hX dX3_bits_12 rfl rfl ?_
      refine j_ishr (pc := 13) hX dX3_bits_13 ?_
      refine j_iconst (pc := 14) (v := 1) hX dX3_bits_14 (by decide) ?_
      refine j_iand (pc := 15) hX dX3_bits_15 ?_
      refine j_iadd (pc := 16) hX dX3_bits_16 ?_
      refine j_istore_n (pc := 17) hX dX3_bits_17 rfl (by decide) rfl ?_
      refine j_iincc (pc := 18) (m := 1) hX dX3_bits_18 rfl (by decide) (by decide) rfl ?_
      refine j_goto (pc := 21) (tgt := 4) hX dX3_bits_21 (by decide) ?_
      rw [nI_bit hn (by omega), nI_add, nI_1]
      exact ih
