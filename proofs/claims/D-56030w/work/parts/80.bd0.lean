/-! the component's board: its own checks, small objects -/
set_option maxRecDepth 100000
abbrev eArg : String := "java/lang/IllegalArgumentException"
abbrev eIdx : String := "java/lang/IndexOutOfBoundsException"
abbrev eSta : String := "java/lang/IllegalStateException"
abbrev eEle : String := "java/util/NoSuchElementException"
abbrev eAri : String := "java/lang/ArithmeticException"
abbrev eSup : String := "java/lang/UnsupportedOperationException"
theorem j_run5e {X : JX} {G : JG} {H : Heap} {b b' pc : Nat} {lv : JL} {rest st0 : List Value} {px : String → Nat → Heap → Prop} {e : Int32} (hr : JRun5 X G H b' pc st0 rest (jpe H e) px) (kk : JW X G H b (pc + 5) lv (.int e :: rest)) (kx : ∀ (E : String) (q : Nat) (H1 : Heap), px E q H1 → H.size ≤ H1.size → JT X G H1 b pc lv rest E q) : JW X G H (b + b') pc lv st0 :=
  j_run5i hr (fun r H1 hp hz => by obtain ⟨e1, e2⟩ := hp; rw [e1, e2]; exact kk) kx
/-- an exception of this class is thrown if P -/
abbrev pxO (e : String) (P : Prop) (H : Heap) : String → Nat → Heap → Prop := fun E _ H1 => E = e ∧ P ∧ JExt H H1
theorem c_X1_checkArgument (l : Launch) (G : JG) (H : Heap) (c : Bool) : JMet l yX1_checkArgument (ws_ yX1_checkArgument cX1_checkArgument 1 none) 6 2 G H [.int (jb c)] (jpv (fun H1 => H1 = H ∧ c = true)) (pxO eArg (c = false) H) := by
  refine JMet.of [(0, .inl (.int (jb c)))] (by decide) (Nat.le_of_ble_eq_true rfl) rfl (fun X hl hX hQ hEx hr hnm hH => ?_)
  subst hl
  refine j_iload_n (pc := 0) hX dX1_checkArgument_0 rfl rfl ?_
  refine j_if_ne (pc := 1) (tgt := 12) hX dX1_checkArgument_1 (by decide) (fun c_1 => ?_) (fun c_1 => ?_)
  · rw [jb_n] at c_1
    exact j_vret hX hQ hr dX1_checkArgument_12 ⟨rfl, rfl, c_1⟩
  · rw [jb_z] at c_1
    change JW X G H (0 + 2) 4 _ _; exact j_throw0 (pc := 4) hX hQ (hh := []) (by rw [hEx]; rfl) kth_arg (fun x hx => by cases hx) dX1_checkArgument_4 dX1_checkArgument_7 dX1_checkArgument_8 dX1_checkArgument_11 (by decide) (Nat.le_of_ble_eq_true rfl) (fun q H1 e => ⟨rfl, c_1, e⟩)
theorem c_X1_checkState (l : Launch) (G : JG) (H : Heap) (c : Bool) : JMet l yX1_checkState (ws_ yX1_checkState cX1_checkState 1 none) 6 2 G H [.int (jb c)] (jpv (fun H1 => H1 = H ∧ c = true)) (pxO eSta (c = false) H) := by
  refine JMet.of [(0, .inl (.int (jb c)))] (by decide) (Nat.le_of_ble_eq_true rfl) rfl (fun X hl hX hQ hEx hr hnm hH => ?_)
  subst hl
  refine j_iload_n (pc := 0) hX dX1_checkState_0 rfl rfl ?_
  refine j_if_ne (pc := 1) (tgt := 12) hX dX1_checkState_1 (by decide) (fun c_1 => ?_) (fun c_1 => ?_)
  · rw [jb_n] at c_1
    exact j_vret hX hQ hr dX1_checkState_12 ⟨rfl, rfl, c_1⟩
  · rw [jb_z] at c_1
    change JW X G H (0 + 2) 4 _ _; exact j_throw0 (pc := 4) hX hQ (hh := []) (by rw [hEx]; rfl) kth_sta (fun x hx => by cases hx) dX1_checkState_4 dX1_checkState_7 dX1_checkState_8 dX1_checkState_11 (by decide) (Nat.le_of_ble_eq_true rfl) (fun q H1 e => ⟨rfl, c_1, e⟩)
theorem c_X1_checkElement (l : Launch) (G : JG) (H : Heap) (c : Bool) : JMet l yX1_checkElement (ws_ yX1_checkElement cX1_checkElement 1 none) 6 2 G H [.int (jb c)] (jpv (fun H1 => H1 = H ∧ c = true)) (pxO eEle (c = false) H) := by
  refine JMet.of [(0, .inl (.int (jb c)))] (by decide) (Nat.le_of_ble_eq_true rfl) rfl (fun X hl hX hQ hEx hr hnm hH => ?_)
  subst hl
  refine j_iload_n (pc := 0) hX dX1_checkElement_0 rfl rfl ?_
  refine j_if_ne (pc := 1) (tgt := 12) hX dX1_checkElement_1 (by decide) (fun c_1 => ?_) (fun c_1 => ?_)
  · rw [jb_n] at c_1
    exact j_vret hX hQ hr dX1_checkElement_12 ⟨rfl, rfl, c_1⟩
  · rw [jb_z] at c_1
    change JW X G H (0 + 2) 4 _ _; exact j_throw0 (pc := 4) hX hQ (hh := []) (by rw [hEx]; rfl) kth_ele (fun x hx => by cases hx) dX1_checkElement_4 dX1_checkElement_7 dX1_checkElement_8 dX1_checkElement_11 (by decide) (Nat.le_of_ble_eq_true rfl) (fun q H1 e => ⟨rfl, c_1, e⟩)
theorem c_X1_checkNumbers (l : Launch) (G : JG) (H : Heap) (c : Bool) : JMet l yX1_checkNumbers (ws_ yX1_checkNumbers cX1_checkNumbers 1 none) 6 2 G H [.int (jb c)] (jpv (fun H1 => H1 = H ∧ c = true)) (pxO eAri (c = false) H) := by
  refine JMet.of [(0, .inl (.int (jb c)))] (by decide) (Nat.le_of_ble_eq_true rfl) rfl (fun X hl hX hQ hEx hr hnm hH => ?_)
  subst hl
  refine j_iload_n (pc := 0) hX dX1_checkNumbers_0 rfl rfl ?_
  refine j_if_ne (pc := 1) (tgt := 12) hX dX1_checkNumbers_1 (by decide) (fun c_1 => ?_) (fun c_1 => ?_)
  · rw [jb_n] at c_1
    exact j_vret hX hQ hr dX1_checkNumbers_12 ⟨rfl, rfl, c_1⟩
  · rw [jb_z] at c_1
    change JW X G H (0 + 2) 4 _ _; exact j_throw0 (pc := 4) hX hQ (hh := []) (by rw [hEx]; rfl) kth_ari (fun x hx => by cases hx) dX1_checkNumbers_4 dX1_checkNumbers_7 dX1_checkNumbers_8 dX1_checkNumbers_11 (by decide) (Nat.le_of_ble_eq_true rfl) (fun q H1 e => ⟨rfl, c_1, e⟩)
theorem c_X1_checkSupported (l : Launch) (G : JG) (H : Heap) (c : Bool) : JMet l yX1_checkSupported (ws_ yX1_checkSupported cX1_checkSupported 1 none) 6 2 G H [.int (jb c)] (jpv (fun H1 => H1 = H ∧ c = true)) (pxO eSup (c = false) H) := by
  refine JMet.of [(0, .inl (.int (jb c)))] (by decide) (Nat.le_of_ble_eq_true rfl) rfl (fun X hl hX hQ hEx hr hnm hH => ?_)
  subst hl
  refine j_iload_n (pc := 0) hX dX1_checkSupported_0 rfl rfl ?_
  refine j_if_ne (pc := 1) (tgt := 12) hX dX1_checkSupported_1 (by decide) (fun c_1 => ?_) (fun c_1 => ?_)
  · rw [jb_n] at c_1
    exact j_vret hX hQ hr dX1_checkSupported_12 ⟨rfl, rfl, c_1⟩
  · rw [jb_z] at c_1
    change JW X G H (0 + 2) 4 _ _; exact j_throw0 (pc := 4) hX hQ (hh := []) (by rw [hEx]; rfl) kth_sup (fun x hx => by cases hx) dX1_checkSupported_4 dX1_checkSupported_7 dX1_checkSupported_8 dX1_checkSupported_11 (by decide) (Nat.le_of_ble_eq_true rfl) (fun q H1 e => ⟨rfl, c_1, e⟩)
theorem c_X1_isShape (l : Launch) (G : JG) (H : Heap) (x : Int32) : JMet l yX1_isShape (ws_ yX1_isShape cX1_isShape 1 (some .boolean)) 1 0 G H [.int x] (jpe H (jb (shI x))) (jno) := by
  refine JMet.of [(0, .inl (.int x))] (by decide) (Nat.le_of_ble_eq_true rfl) rfl (fun X hl hX hQ hEx hr hnm hH => ?_)
  subst hl
  refine j_iload_n (pc := 0) hX dX1_isShape_0 rfl rfl ?_
  refine j_bipush (pc := 1) (v := 99) hX dX1_isShape_1 (by decide) ?_
  refine j_icmp_eq (pc := 3) (tgt := 18) hX dX1_isShape_3 (by decide) (fun c_3 => ?_) (fun c_3 => ?_)
  · refine j_iconst (pc := 18) (v := 1) hX dX1_isShape_18 (by decide) ?_
    refine j_goto (pc := 19) (tgt := 23) hX dX1_isShape_19 (by decide) ?_
    exact j_zret hX hQ hr (by first | rfl | exact jb_nar _ | exact nI_narC _ | assumption) dX1_isShape_23 ⟨_, rfl, rfl, by unfold shI; simp [jb, c_3]⟩
  · refine j_iload_n (pc := 6) hX dX1_isShape_6 rfl rfl ?_
    refine j_bipush (pc := 7) (v := 115) hX dX1_isShape_7 (by decide) ?_
    refine j_icmp_eq (pc := 9) (tgt := 18) hX dX1_isShape_9 (by decide) (fun c_9 => ?_) (fun c_9 => ?_)
    · refine j_iconst (pc := 18) (v := 1) hX dX1_isShape_18 (by decide) ?_
      refine j_goto (pc := 19) (tgt := 23) hX dX1_isShape_19 (by decide) ?_
      exact j_zret hX hQ hr (by first | rfl | exact jb_nar _ | exact nI_narC _ | assumption) dX1_isShape_23 ⟨_, rfl, rfl, by unfold shI; simp [jb, c_3, c_9]⟩
    · refine j_iload_n (pc := 12) hX dX1_isShape_12 rfl rfl ?_
      refine j_bipush (pc := 13) (v := 110) hX dX1_isShape_13 (by decide) ?_
      refine j_icmp_ne (pc := 15) (tgt := 22) hX dX1_isShape_15 (by decide) (fun c_15 => ?_) (fun c_15 => ?_)
      · refine j_iconst (pc := 22) (v := 0) hX dX1_isShape_22 (by decide) ?_
        exact j_zret hX hQ hr (by first | rfl | exact jb_nar _ | exact nI_narC _ | assumption) dX1_isShape_23 ⟨_, rfl, rfl, by unfold shI; simp [jb, c_3, c_9, c_15]⟩
      · refine j_iconst (pc := 18) (v := 1) hX dX1_isShape_18 (by decide) ?_
        refine j_goto (pc := 19) (tgt := 23) hX dX1_isShape_19 (by decide) ?_
        exact j_zret hX hQ hr (by first | rfl | exact jb_nar _ | exact nI_narC _ | assumption) dX1_isShape_23 ⟨_, rfl, rfl, by unfold shI; simp [jb, c_3, c_9, c_15]⟩
theorem i2l_le {a b : Int32} : a.toInt64 ≤ b.toInt64 ↔ a ≤ b := by rw [Int64.le_iff_toInt_le, Int32.le_iff_toInt_le, Int32.toInt_toInt64, Int32.toInt_toInt64]
theorem lg_lt {x y : Int64} : lg_cmp x y < 0 ↔ ¬ y ≤ x := by rw [lg_cmp_lt, Int64.not_le]
theorem lg_gt {x y : Int64} : 0 < lg_cmp x y ↔ ¬ x ≤ y := by rw [lg_cmp_gt, Int64.not_le]
theorem c_X1_inRange (l : Launch) (G : JG) (H : Heap) (a b c : Int64) : JMet l yX1_inRange (ws_ yX1_inRange cX1_inRange 6 (some .boolean)) 1 0 G H [.long a, .long b, .long c] (jpe H (jb (decide (b ≤ a) && decide (a ≤ c)))) (jno) := by
  refine JMet.of [(0, .inl (.long a)), (2, .inl (.long b)), (4, .inl (.long c))] (by decide) (Nat.le_of_ble_eq_true rfl) rfl (fun X hl hX hQ hEx hr hnm hH => ?_)
  subst hl
  refine j_lload_n (pc := 0) hX dX1_inRange_0 rfl rfl ?_
  refine j_lload_n (pc := 1) hX dX1_inRange_1 rfl rfl ?_
  refine j_lcmp (pc := 2) hX dX1_inRange_2 ?_
  refine j_if_lt (pc := 3) (tgt := 17) hX dX1_inRange_3 (by decide) (fun c_3 => ?_) (fun c_3 => ?_)
  · rw [lg_lt] at c_3
    refine j_iconst (pc := 17) (v := 0) hX dX1_inRange_17 (by decide) ?_
    exact j_zret hX hQ hr (by first | rfl | exact jb_nar _ | exact nI_narC _ | assumption) dX1_inRange_18 ⟨_, rfl, rfl, by simp [jb, c_3]⟩
  · rw [lg_lt, Classical.not_not] at c_3
    refine j_lload_n (pc := 6) hX dX1_inRange_6 rfl rfl ?_
    refine j_lload (pc := 7) hX dX1_inRange_7 rfl ?_
    refine j_lcmp (pc := 9) hX dX1_inRange_9 ?_
    refine j_if_gt (pc := 10) (tgt := 17) hX dX1_inRange_10 (by decide) (fun c_10 => ?_) (fun c_10 => ?_)
    · rw [lg_gt] at c_10
      refine j_iconst (pc := 17) (v := 0) hX dX1_inRange_17 (by decide) ?_
      exact j_zret hX hQ hr (by first | rfl | exact jb_nar _ | exact nI_narC _ | assumption) dX1_inRange_18 ⟨_, rfl, rfl, by simp [jb, c_3, c_10]⟩
    · rw [lg_gt, Classical.not_not] at c_10
      refine j_iconst (pc := 13) (v := 1) hX dX1_inRange_13 (by decide) ?_
      refine j_goto (pc := 14) (tgt := 18) hX dX1_inRange_14 (by decide) ?_
      exact j_zret hX hQ hr (by first | rfl | exact jb_nar _ | exact nI_narC _ | assumption) dX1_inRange_18 ⟨_, rfl, rfl, by simp [jb, c_3, c_10]⟩
theorem c_X1_checkIndex (l : Launch) (G : JG) (H : Heap) (i n : Int32) : JMet l yX1_checkIndex (ws_ yX1_checkIndex cX1_checkIndex 2 none) 6 2 G H [.int i, .int n] (jpv (fun H1 => H1 = H ∧ (decide (0 ≤ i) && decide (i ≤ n - 1)) = true)) (pxO eIdx ((decide (0 ≤ i) && decide (i ≤ n - 1)) = false) H) := by
  refine JMet.of [(0, .inl (.int i)), (1, .inl (.int n))] (by decide) (Nat.le_of_ble_eq_true rfl) rfl (fun X hl hX hQ hEx hr hnm hH => ?_)
  subst hl
  have e0 : decide ((0 : Int64) ≤ i.toInt64) = decide (0 ≤ i) := decide_eq_decide.mpr (i2l_le (a := 0))
  have e1 : decide (i.toInt64 ≤ (n - 1).toInt64) = decide (i ≤ n - 1) := decide_eq_decide.mpr i2l_le
  refine j_iload_n (pc := 0) hX dX1_checkIndex_0 rfl rfl ?_
  refine j_i2l (pc := 1) hX dX1_checkIndex_1 rfl ?_
  refine j_lconst (pc := 2) (v := 0) hX dX1_checkIndex_2 (by decide) ?_
  refine j_iload_n (pc := 3) hX dX1_checkIndex_3 rfl rfl ?_
  refine j_iconst (pc := 4) (v := 1) hX dX1_checkIndex_4 (by decide) ?_
  refine j_isub (pc := 5) hX dX1_checkIndex_5 ?_
  refine j_i2l (pc := 6) hX dX1_checkIndex_6 rfl ?_
  refine j_rune (pc := 7) (jr_S (pc := 7) hX ks_X1_7 (c_X1_inRange _ _ _ i.toInt64 0 (n - 1).toInt64) (by decide) dX1_checkIndex_7 rfl rfl (Nat.le_of_ble_eq_true rfl)) ?_ jno_x
  refine j_if_ne (pc := 10) (tgt := 21) hX dX1_checkIndex_10 (by decide) (fun c_10 => ?_) (fun c_10 => ?_)
  · rw [jb_n, e0, e1] at c_10
    exact j_vret hX hQ hr dX1_checkIndex_21 ⟨rfl, rfl, c_10⟩
  · rw [jb_z, e0, e1] at c_10
    change JW X G H (0 + 2) 13 _ _; exact j_throw0 (pc := 13) hX hQ (hh := []) (by rw [hEx]; rfl) kth_idx (fun x hx => by cases hx) dX1_checkIndex_13 dX1_checkIndex_16 dX1_checkIndex_17 dX1_checkIndex_20 (by decide) (Nat.le_of_ble_eq_true rfl) (fun q H1 e => ⟨rfl, c_10, e⟩)
theorem c_X5_init (l : Launch) (G : JG) (H : Heap) (q : Nat) (i sh wh rn co : Int32) (h : jow G H q 2 [.int 0, .int 0, .int 0, .int 0, .int 0, .null]) (hq : (gs G).heap.size ≤ q) (hsh : narrow .char (.int sh) = .int sh ∧ fits .char (.int sh) = true) : JMet l yX5_init (ws_ yX5_init cX5_init 6 none) 2 0 G H [.ref q, .int i, .int sh, .int wh, .int rn, .int co] (jpv (fun H1 => JPut H H1 q ∧ jow G H1 q 2 (oApp i sh wh rn co none))) (jno) := by
  refine JMet.of [(0, .inr (some q)), (1, .inl (.int i)), (2, .inl (.int sh)), (3, .inl (.int wh)), (4, .inl (.int rn)), (5, .inl (.int co))] (by decide) (Nat.le_of_ble_eq_true rfl) rfl (fun X hl hX hQ hEx hr hnm hH => ?_)
  subst hl
  first | refine j_aload_n (pc := 0) hX dX5_init_0 rfl rfl ?_ | refine j_aload_nq (pc := 0) hX dX5_init_0 rfl rfl ?_
  refine j_objInit (pc := 1) hX ko_X5_1 (by decide) (Nat.le_of_ble_eq_true rfl) dX5_init_1 ?_
  first | refine j_aload_n (pc := 4) hX dX5_init_4 rfl rfl ?_ | refine j_aload_nq (pc := 4) hX dX5_init_4 rfl rfl ?_
  refine j_iload_n (pc := 5) hX dX5_init_5 rfl rfl ?_
  refine j_putF (pc := 6) hX hnm kp_X5_7 dX5_init_6 (by assumption) hq rfl rfl rfl (fun H_6 w_6 n_6 => ?_)
  first | refine j_aload_n (pc := 9) hX dX5_init_9 rfl rfl ?_ | refine j_aload_nq (pc := 9) hX dX5_init_9 rfl rfl ?_
  refine j_iload_n (pc := 10) hX dX5_init_10 rfl rfl ?_
  refine j_putF (pc := 11) hX hnm kp_X5_13 dX5_init_11 (by assumption) hq hsh.1 hsh.2 rfl (fun H_11 w_11 n_11 => ?_)
  first | refine j_aload_n (pc := 14) hX dX5_init_14 rfl rfl ?_ | refine j_aload_nq (pc := 14) hX dX5_init_14 rfl rfl ?_
  refine j_iload_n (pc := 15) hX dX5_init_15 rfl rfl ?_
  refine j_putF (pc := 16) hX hnm kp_X5_17 dX5_init_16 (by assumption) hq rfl rfl rfl (fun H_16 w_16 n_16 => ?_)
  first | refine j_aload_n (pc := 19) hX dX5_init_19 rfl rfl ?_ | refine j_aload_nq (pc := 19) hX dX5_init_19 rfl rfl ?_
  refine j_iload (pc := 20) hX dX5_init_20 rfl ?_
  refine j_put (pc := 22) hX kp_X5_20 dX5_init_22 (by assumption) hq rfl rfl rfl (fun H_22 w_22 n_22 => ?_)
  first | refine j_aload_n (pc := 25) hX dX5_init_25 rfl rfl ?_ | refine j_aload_nq (pc := 25) hX dX5_init_25 rfl rfl ?_
  refine j_iload (pc := 26) hX dX5_init_26 rfl ?_
  refine j_put (pc := 28) hX kp_X5_23 dX5_init_28 (by assumption) hq rfl rfl rfl (fun H_28 w_28 n_28 => ?_)
  exact j_vret hX hQ hr dX5_init_31 ⟨rfl, (((w_6.trans w_11).trans w_16).trans w_22).trans w_28, n_28⟩
theorem c_X5_copy (l : Launch) (G : JG) (H : Heap) (a : Nat) {i sh wh rn co : Int32} {po : Option Nat} (h : jow G H a 2 (oApp i sh wh rn co po)) (hsh : narrow .char (.int sh) = .int sh ∧ fits .char (.int sh) = true) : JMet l yX5_copy (ws_ yX5_copy cX5_copy 1 (some (.object "CloudInterviews$Applicant"))) 3 2 G H [.ref a] (jpa (fun r H1 => H.size ≤ r ∧ (gs G).heap.size ≤ r ∧ jow G H1 r 2 (oApp i sh wh rn co none) ∧ JExt H H1)) (jno) := by
  refine JMet.of [(0, .inr (some a))] (by decide) (Nat.le_of_ble_eq_true rfl) rfl (fun X hl hX hQ hEx hr hnm hH => ?_)
  subst hl
  have ho := h.r
  refine j_new (pc := 0) hX kn_X5_8 2 jw_X5 dX5_copy_0 (fun H_0 z_0 e_0 n_0 b_0 => ?_)
  have ho := ho.ext e_0
  refine j_dup (pc := 3) hX dX5_copy_3 (by first | rfl | exact jrf_cat _) ?_
  first | refine j_aload_n (pc := 4) hX dX5_copy_4 rfl rfl ?_ | refine j_aload_nq (pc := 4) hX dX5_copy_4 rfl rfl ?_
  refine j_get (pc := 5) hX kg_X5_7 dX5_copy_5 (by first | assumption | exact jow.r (by assumption)) (by rfl) ?_
  first | refine j_aload_n (pc := 8) hX dX5_copy_8 rfl rfl ?_ | refine j_aload_nq (pc := 8) hX dX5_copy_8 rfl rfl ?_
  refine j_get (pc := 9) hX kg_X5_13 dX5_copy_9 (by first | assumption | exact jow.r (by assumption)) (by rfl) ?_
  first | refine j_aload_n (pc := 12) hX dX5_copy_12 rfl rfl ?_ | refine j_aload_nq (pc := 12) hX dX5_copy_12 rfl rfl ?_
  refine j_get (pc := 13) hX kg_X5_17 dX5_copy_13 (by first | assumption | exact jow.r (by assumption)) (by rfl) ?_
  first | refine j_aload_n (pc := 16) hX dX5_copy_16 rfl rfl ?_ | refine j_aload_nq (pc := 16) hX dX5_copy_16 rfl rfl ?_
  refine j_get (pc := 17) hX kg_X5_20 dX5_copy_17 (by first | assumption | exact jow.r (by assumption)) (by rfl) ?_
  first | refine j_aload_n (pc := 20) hX dX5_copy_20 rfl rfl ?_ | refine j_aload_nq (pc := 20) hX dX5_copy_20 rfl rfl ?_
  refine j_get (pc := 21) hX kg_X5_23 dX5_copy_21 (by first | assumption | exact jow.r (by assumption)) (by rfl) ?_
  refine j_runv (pc := 24) (jr_I (pc := 24) hX ki_X5_30 (c_X5_init _ _ _ _ i sh wh rn co n_0 b_0 hsh) (by decide) dX5_copy_24 rfl rfl (Nat.le_of_ble_eq_true rfl)) (fun H_24 p_24 z_24 => ?_) jno_x
  obtain ⟨w1, n1⟩ := p_24
  first | exact j_aret hX hQ hr (by first | exact Or.inl ⟨_, rfl⟩ | exact Or.inr ⟨_, rfl⟩) dX5_copy_27 ⟨_, rfl, Nat.le_refl _, b_0, n1, e_0.put w1 (Nat.le_refl _)⟩ | exact j_aretN hX hQ hr (by first | exact Or.inl ⟨_, rfl⟩ | exact Or.inr ⟨_, rfl⟩) dX5_copy_27 ⟨_, rfl, Nat.le_refl _, b_0, n1, e_0.put w1 (Nat.le_refl _)⟩ | exact j_aretq hX hQ hr (by first | exact Or.inl ⟨_, rfl⟩ | exact Or.inr ⟨_, rfl⟩) dX5_copy_27 ⟨_, rfl, Nat.le_refl _, b_0, n1, e_0.put w1 (Nat.le_refl _)⟩
theorem c_X4_init (l : Launch) (G : JG) (H : Heap) (q : Nat) (sh lo hi wg : Int32) (h : jow G H q 3 [.int 0, .int 0, .int 0, .int 0, .null]) (hq : (gs G).heap.size ≤ q) (hsh : narrow .char (.int sh) = .int sh ∧ fits .char (.int sh) = true) : JMet l yX4_init (ws_ yX4_init cX4_init 5 none) 2 0 G H [.ref q, .int sh, .int lo, .int hi, .int wg] (jpv (fun H1 => JPut H H1 q ∧ jow G H1 q 3 (oPost sh lo hi wg none))) (jno) := by
  refine JMet.of [(0, .inr (some q)), (1, .inl (.int sh)), (2, .inl (.int lo)), (3, .inl (.int hi)), (4, .inl (.int wg))] (by decide) (Nat.le_of_ble_eq_true rfl) rfl (fun X hl hX hQ hEx hr hnm hH => ?_)
  subst hl
  first | refine j_aload_n (pc := 0) hX dX4_init_0 rfl rfl ?_ | refine j_aload_nq (pc := 0) hX dX4_init_0 rfl rfl ?_
  refine j_objInit (pc := 1) hX ko_X4_3 (by decide) (Nat.le_of_ble_eq_true rfl) dX4_init_1 ?_
  first | refine j_aload_n (pc := 4) hX dX4_init_4 rfl rfl ?_ | refine j_aload_nq (pc := 4) hX dX4_init_4 rfl rfl ?_
  refine j_iload_n (pc := 5) hX dX4_init_5 rfl rfl ?_
  refine j_putF (pc := 6) hX hnm kp_X4_9 dX4_init_6 (by assumption) hq hsh.1 hsh.2 rfl (fun H_6 w_6 n_6 => ?_)
  first | refine j_aload_n (pc := 9) hX dX4_init_9 rfl rfl ?_ | refine j_aload_nq (pc := 9) hX dX4_init_9 rfl rfl ?_
  refine j_iload_n (pc := 10) hX dX4_init_10 rfl rfl ?_
  refine j_putF (pc := 11) hX hnm kp_X4_15 dX4_init_11 (by assumption) hq rfl rfl rfl (fun H_11 w_11 n_11 => ?_)
  first | refine j_aload_n (pc := 14) hX dX4_init_14 rfl rfl ?_ | refine j_aload_nq (pc := 14) hX dX4_init_14 rfl rfl ?_
  refine j_iload_n (pc := 15) hX dX4_init_15 rfl rfl ?_
  refine j_putF (pc := 16) hX hnm kp_X4_19 dX4_init_16 (by assumption) hq rfl rfl rfl (fun H_16 w_16 n_16 => ?_)
  first | refine j_aload_n (pc := 19) hX dX4_init_19 rfl rfl ?_ | refine j_aload_nq (pc := 19) hX dX4_init_19 rfl rfl ?_
  refine j_iload (pc := 20) hX dX4_init_20 rfl ?_
  refine j_putF (pc := 22) hX hnm kp_X4_22 dX4_init_22 (by assumption) hq rfl rfl rfl (fun H_22 w_22 n_22 => ?_)
  exact j_vret hX hQ hr dX4_init_25 ⟨rfl, ((w_6.trans w_11).trans w_16).trans w_22, n_22⟩
theorem c_X4_copy (l : Launch) (G : JG) (H : Heap) (a : Nat) {sh lo hi wg : Int32} {ho : Option Nat} (h : jow G H a 3 (oPost sh lo hi wg ho)) (hsh : narrow .char (.int sh) = .int sh ∧ fits .char (.int sh) = true) : JMet l yX4_copy (ws_ yX4_copy cX4_copy 1 (some (.object "CloudInterviews$Post"))) 3 2 G H [.ref a] (jpa (fun r H1 => H.size ≤ r ∧ (gs G).heap.size ≤ r ∧ jow G H1 r 3 (oPost sh lo hi wg none) ∧ JExt H H1)) (jno) := by
  refine JMet.of [(0, .inr (some a))] (by decide) (Nat.le_of_ble_eq_true rfl) rfl (fun X hl hX hQ hEx hr hnm hH => ?_)
  subst hl
  have ho := h.r
  refine j_new (pc := 0) hX kn_X4_10 2 jw_X4 dX4_copy_0 (fun H_0 z_0 e_0 n_0 b_0 => ?_)
  have ho := ho.ext e_0
  refine j_dup (pc := 3) hX dX4_copy_3 (by first | rfl | exact jrf_cat _) ?_
  first | refine j_aload_n (pc := 4) hX dX4_copy_4 rfl rfl ?_ | refine j_aload_nq (pc := 4) hX dX4_copy_4 rfl rfl ?_
  refine j_get (pc := 5) hX kg_X4_9 dX4_copy_5 (by first | assumption | exact jow.r (by assumption)) (by rfl) ?_
  first | refine j_aload_n (pc := 8) hX dX4_copy_8 rfl rfl ?_ | refine j_aload_nq (pc := 8) hX dX4_copy_8 rfl rfl ?_
  refine j_get (pc := 9) hX kg_X4_15 dX4_copy_9 (by first | assumption | exact jow.r (by assumption)) (by rfl) ?_
  first | refine j_aload_n (pc := 12) hX dX4_copy_12 rfl rfl ?_ | refine j_aload_nq (pc := 12) hX dX4_copy_12 rfl rfl ?_
  refine j_get (pc := 13) hX kg_X4_19 dX4_copy_13 (by first | assumption | exact jow.r (by assumption)) (by rfl) ?_
  first | refine j_aload_n (pc := 16) hX dX4_copy_16 rfl rfl ?_ | refine j_aload_nq (pc := 16) hX dX4_copy_16 rfl rfl ?_
  refine j_get (pc := 17) hX kg_X4_22 dX4_copy_17 (by first | assumption | exact jow.r (by assumption)) (by rfl) ?_
  refine j_runv (pc := 20) (jr_I (pc := 20) hX ki_X4_38 (c_X4_init _ _ _ _ sh lo hi wg n_0 b_0 hsh) (by decide) dX4_copy_20 rfl rfl (Nat.le_of_ble_eq_true rfl)) (fun H_20 p_20 z_20 => ?_) jno_x
  obtain ⟨w1, n1⟩ := p_20
  first | exact j_aret hX hQ hr (by first | exact Or.inl ⟨_, rfl⟩ | exact Or.inr ⟨_, rfl⟩) dX4_copy_23 ⟨_, rfl, Nat.le_refl _, b_0, n1, e_0.put w1 (Nat.le_refl _)⟩ | exact j_aretN hX hQ hr (by first | exact Or.inl ⟨_, rfl⟩ | exact Or.inr ⟨_, rfl⟩) dX4_copy_23 ⟨_, rfl, Nat.le_refl _, b_0, n1, e_0.put w1 (Nat.le_refl _)⟩ | exact j_aretq hX hQ hr (by first | exact Or.inl ⟨_, rfl⟩ | exact Or.inr ⟨_, rfl⟩) dX4_copy_23 ⟨_, rfl, Nat.le_refl _, b_0, n1, e_0.put w1 (Nat.le_refl _)⟩
theorem c_X4_fill (l : Launch) (G : JG) (H : Heap) (p a : Nat) {sh lo hi wg : Int32} {ho : Option Nat} (h : jow G H p 3 (oPost sh lo hi wg ho)) (hp : (gs G).heap.size ≤ p) {i ash wh rn co : Int32} {po : Option Nat} (h2 : jow G H a 2 (oApp i ash wh rn co po)) (ha : (gs G).heap.size ≤ a) : JMet l yX4_fill (ws_ yX4_fill cX4_fill 2 none) 1 0 G H [.ref p, .ref a] (jpv (fun H1 => jow G H1 p 3 (oPost sh lo hi wg (some a)) ∧ jow G H1 a 2 (oApp i ash wh rn co (some p)) ∧ JFr (fun x => x = p ∨ x = a) H H1)) (jno) := by
  refine JMet.of [(0, .inr (some p)), (1, .inr (some a))] (by decide) (Nat.le_of_ble_eq_true rfl) rfl (fun X hl hX hQ hEx hr hnm hH => ?_)
  subst hl
  have hne : a ≠ p := hX.C.ne h2.r h.r (by decide)
  first | refine j_aload_n (pc := 0) hX dX4_fill_0 rfl rfl ?_ | refine j_aload_nq (pc := 0) hX dX4_fill_0 rfl rfl ?_
  first | refine j_aload_n (pc := 1) hX dX4_fill_1 rfl rfl ?_ | refine j_aload_nq (pc := 1) hX dX4_fill_1 rfl rfl ?_
  refine j_put (pc := 2) hX kp_X4_25 dX4_fill_2 h hp rfl rfl rfl (fun H_2 w_2 n_2 => ?_)
  first | refine j_aload_n (pc := 5) hX dX4_fill_5 rfl rfl ?_ | refine j_aload_nq (pc := 5) hX dX4_fill_5 rfl rfl ?_
  first | refine j_aload_n (pc := 6) hX dX4_fill_6 rfl rfl ?_ | refine j_aload_nq (pc := 6) hX dX4_fill_6 rfl rfl ?_
  refine j_put (pc := 7) hX kp_X4_41 dX4_fill_7 (h2.put w_2 hne) ha rfl rfl rfl (fun H_7 w_7 n_7 => ?_)
  exact j_vret hX hQ hr dX4_fill_10 ⟨rfl, n_2.put w_7 (Ne.symm hne), n_7, (w_2.fr (Or.inl rfl)).put w_7 (fun _ => Or.inr rfl)⟩
theorem c_X4_empty (l : Launch) (G : JG) (H : Heap) (p a : Nat) {sh lo hi wg : Int32} (h : jow G H p 3 (oPost sh lo hi wg (some a))) (hp : (gs G).heap.size ≤ p) {i ash wh rn co : Int32} {po : Option Nat} (h2 : jow G H a 2 (oApp i ash wh rn co po)) (ha : (gs G).heap.size ≤ a) : JMet l yX4_empty (ws_ yX4_empty cX4_empty 2 (some (.object "CloudInterviews$Applicant"))) 1 0 G H [.ref p] (jpa (fun r H1 => r = a ∧ jow G H1 p 3 (oPost sh lo hi wg none) ∧ jow G H1 a 2 (oApp i ash wh rn co none) ∧ JFr (fun x => x = p ∨ x = a) H H1)) (jno) := by
  refine JMet.of [(0, .inr (some p))] (by decide) (Nat.le_of_ble_eq_true rfl) rfl (fun X hl hX hQ hEx hr hnm hH => ?_)
  subst hl
  have ho := h.r
  have hne : a ≠ p := hX.C.ne h2.r h.r (by decide)
  first | refine j_aload_n (pc := 0) hX dX4_empty_0 rfl rfl ?_ | refine j_aload_nq (pc := 0) hX dX4_empty_0 rfl rfl ?_
  refine j_get (pc := 1) hX kg_X4_25 dX4_empty_1 (by first | assumption | exact jow.r (by assumption)) (by rfl) ?_
  first | refine j_astore_n (pc := 4) hX dX4_empty_4 rfl (by decide) rfl ?_ | refine j_astore_nN (pc := 4) hX dX4_empty_4 rfl (by decide) rfl ?_ | refine j_astore_nq (pc := 4) hX dX4_empty_4 rfl (by decide) rfl ?_
  first | refine j_aload_n (pc := 5) hX dX4_empty_5 rfl rfl ?_ | refine j_aload_nq (pc := 5) hX dX4_empty_5 rfl rfl ?_
  refine j_null (pc := 6) hX dX4_empty_6 ?_
  refine j_put (pc := 7) hX kp_X4_25 dX4_empty_7 h hp rfl rfl rfl (fun H_7 w_7 n_7 => ?_)
  first | refine j_aload_n (pc := 10) hX dX4_empty_10 rfl rfl ?_ | refine j_aload_nq (pc := 10) hX dX4_empty_10 rfl rfl ?_
  refine j_null (pc := 11) hX dX4_empty_11 ?_
  refine j_put (pc := 12) hX kp_X4_41 dX4_empty_12 (h2.put w_7 hne) ha rfl rfl rfl (fun H_12 w_12 n_12 => ?_)
  first | refine j_aload_n (pc := 15) hX dX4_empty_15 rfl rfl ?_ | refine j_aload_nq (pc := 15) hX dX4_empty_15 rfl rfl ?_
  first | exact j_aret hX hQ hr (by first | exact Or.inl ⟨_, rfl⟩ | exact Or.inr ⟨_, rfl⟩) dX4_empty_16 ⟨_, rfl, rfl, n_7.put w_12 (Ne.symm hne), n_12, (w_7.fr (Or.inl rfl)).put w_12 (fun _ => Or.inr rfl)⟩ | exact j_aretN hX hQ hr (by first | exact Or.inl ⟨_, rfl⟩ | exact Or.inr ⟨_, rfl⟩) dX4_empty_16 ⟨_, rfl, rfl, n_7.put w_12 (Ne.symm hne), n_12, (w_7.fr (Or.inl rfl)).put w_12 (fun _ => Or.inr rfl)⟩ | exact j_aretq hX hQ hr (by first | exact Or.inl ⟨_, rfl⟩ | exact Or.inr ⟨_, rfl⟩) dX4_empty_16 ⟨_, rfl, rfl, n_7.put w_12 (Ne.symm hne), n_12, (w_7.fr (Or.inl rfl)).put w_12 (fun _ => Or.inr rfl)⟩
