/-! References as keys; nodes -/
set_option maxRecDepth 100000
theorem c_J19_equals (l : Launch) (G : JG) (H : Heap) (q q2 : Nat) {x y : Int32} (h : inA G H q x) (h2 : inA G H q2 y) : JMet l yJ19_equals (ws_ yJ19_equals cJ19_equals 2 (some .boolean)) 2 0 G H [.ref q, .ref q2] (jpe H (jb (decide (x = y)))) (jno) := by
  refine JMet.of [(0, .inr (some q)), (1, .inr (some q2))] (by decide) (Nat.le_of_ble_eq_true rfl) rfl (fun X hl hX hQ hEx hr hnm hH => ?_)
  subst hl
  have ho : job G H q 16 [.int x] := h
  have ho2 : job G H q2 16 [.int y] := h2
  first | refine j_aload_n (pc := 0) hX dJ19_equals_0 rfl rfl ?_ | refine j_aload_nq (pc := 0) hX dJ19_equals_0 rfl rfl ?_
  refine j_inst (pc := 1) hX kc_J19_1 dJ19_equals_1 ho2 ?_
  refine j_if_eq (pc := 4) (tgt := 27) hX dJ19_equals_4 (by decide) (fun c_4 => ?_) (fun c_4 => ?_)
  · exact absurd c_4 (by decide)
  first | refine j_aload_n (pc := 7) hX dJ19_equals_7 rfl rfl ?_ | refine j_aload_nq (pc := 7) hX dJ19_equals_7 rfl rfl ?_
  refine j_get (pc := 8) hX kg_J19_205 dJ19_equals_8 (by first | assumption | exact jow.r (by assumption)) (by rfl) ?_
  first | refine j_aload_n (pc := 11) hX dJ19_equals_11 rfl rfl ?_ | refine j_aload_nq (pc := 11) hX dJ19_equals_11 rfl rfl ?_
  refine j_ccast (pc := 12) hX kc_J19_1 dJ19_equals_12 ho2 ?_
  refine j_rune (pc := 15) (jr_V (pc := 15) hX kv_J19_211 ho2 (c_J19_intValue _ _ _ q2 h2) (by decide) dJ19_equals_15 rfl rfl (Nat.le_of_ble_eq_true rfl)) ?_ jno_x
  refine j_icmp_ne (pc := 18) (tgt := 25) hX dJ19_equals_18 (by decide) (fun c_18 => ?_) (fun c_18 => ?_)
  · refine j_iconst (pc := 25) (v := 0) hX dJ19_equals_25 (by decide) ?_
    exact j_zret hX hQ hr (by first | rfl | exact jb_nar _ | exact nI_narC _ | assumption) dJ19_equals_26 ⟨_, rfl, rfl, by rw [jb]; first | (rw [if_pos (by rw [decide_eq_true_eq]; exact c_18)]; done) | (rw [if_neg (by rw [decide_eq_true_eq]; exact c_18)]; done)⟩
  · refine j_iconst (pc := 21) (v := 1) hX dJ19_equals_21 (by decide) ?_
    refine j_goto (pc := 22) (tgt := 26) hX dJ19_equals_22 (by decide) ?_
    exact j_zret hX hQ hr (by first | rfl | exact jb_nar _ | exact nI_narC _ | assumption) dJ19_equals_26 ⟨_, rfl, rfl, by rw [jb]; first | (rw [if_pos (by rw [decide_eq_true_eq]; exact c_18)]; done) | (rw [if_neg (by rw [decide_eq_true_eq]; exact c_18)]; done)⟩
/-- a reference as a key -/
def rfA (G : JG) (H : Heap) (q : Nat) (a b : Int32) : Prop := job G H q 4 [.int a, .int b]
theorem c_X6_init (l : Launch) (G : JG) (H : Heap) (q : Nat) (a b : Int32) (h : jow G H q 4 [.int 0, .int 0]) (hq : (gs G).heap.size ≤ q) : JMet l yX6_init (ws_ yX6_init cX6_init 3 none) 2 0 G H [.ref q, .int a, .int b] (jpv (fun H1 => JPut H H1 q ∧ jow G H1 q 4 [.int a, .int b])) (jno) := by
  refine JMet.of [(0, .inr (some q)), (1, .inl (.int a)), (2, .inl (.int b))] (by decide) (Nat.le_of_ble_eq_true rfl) rfl (fun X hl hX hQ hEx hr hnm hH => ?_)
  subst hl
  first | refine j_aload_n (pc := 0) hX dX6_init_0 rfl rfl ?_ | refine j_aload_nq (pc := 0) hX dX6_init_0 rfl rfl ?_
  refine j_objInit (pc := 1) hX ko_X6_1 (by decide) (Nat.le_of_ble_eq_true rfl) dX6_init_1 ?_
  first | refine j_aload_n (pc := 4) hX dX6_init_4 rfl rfl ?_ | refine j_aload_nq (pc := 4) hX dX6_init_4 rfl rfl ?_
  refine j_iload_n (pc := 5) hX dX6_init_5 rfl rfl ?_
  refine j_putF (pc := 6) hX hnm kp_X6_7 dX6_init_6 (by assumption) hq rfl rfl rfl (fun H_6 w_6 n_6 => ?_)
  first | refine j_aload_n (pc := 9) hX dX6_init_9 rfl rfl ?_ | refine j_aload_nq (pc := 9) hX dX6_init_9 rfl rfl ?_
  refine j_iload_n (pc := 10) hX dX6_init_10 rfl rfl ?_
  refine j_putF (pc := 11) hX hnm kp_X6_13 dX6_init_11 (by assumption) hq rfl rfl rfl (fun H_11 w_11 n_11 => ?_)
  exact j_vret hX hQ hr dX6_init_14 ⟨rfl, w_6.trans w_11, n_11⟩
theorem c_X6_hashCode (l : Launch) (G : JG) (H : Heap) (q : Nat) {a b : Int32} (h : rfA G H q a b) : JMet l yX6_hashCode (ws_ yX6_hashCode cX6_hashCode 1 (some .int)) 1 0 G H [.ref q] (jpe H (1000 * a + b)) (jno) := by
  refine JMet.of [(0, .inr (some q))] (by decide) (Nat.le_of_ble_eq_true rfl) rfl (fun X hl hX hQ hEx hr hnm hH => ?_)
  subst hl
  have ho : job G H q 4 [.int a, .int b] := h
  refine j_sipush (pc := 0) (v := 1000) hX dX6_hashCode_0 (by decide) ?_
  first | refine j_aload_n (pc := 3) hX dX6_hashCode_3 rfl rfl ?_ | refine j_aload_nq (pc := 3) hX dX6_hashCode_3 rfl rfl ?_
  refine j_get (pc := 4) hX kg_X6_7 dX6_hashCode_4 (by first | assumption | exact jow.r (by assumption)) (by rfl) ?_
  refine j_imul (pc := 7) hX dX6_hashCode_7 ?_
  first | refine j_aload_n (pc := 8) hX dX6_hashCode_8 rfl rfl ?_ | refine j_aload_nq (pc := 8) hX dX6_hashCode_8 rfl rfl ?_
  refine j_get (pc := 9) hX kg_X6_13 dX6_hashCode_9 (by first | assumption | exact jow.r (by assumption)) (by rfl) ?_
  refine j_iadd (pc := 12) hX dX6_hashCode_12 ?_
  exact j_iret hX hQ hr dX6_hashCode_13 ⟨_, rfl, rfl, by rfl⟩
theorem c_X6_equals (l : Launch) (G : JG) (H : Heap) (q q2 : Nat) {a b a2 b2 : Int32} (h : rfA G H q a b) (h2 : rfA G H q2 a2 b2) : JMet l yX6_equals (ws_ yX6_equals cX6_equals 3 (some .boolean)) 1 0 G H [.ref q, .ref q2] (jpe H (jb (decide (a = a2) && decide (b = b2)))) (jno) := by
  refine JMet.of [(0, .inr (some q)), (1, .inr (some q2))] (by decide) (Nat.le_of_ble_eq_true rfl) rfl (fun X hl hX hQ hEx hr hnm hH => ?_)
  subst hl
  have ho : job G H q 4 [.int a, .int b] := h
  have ho2 : job G H q2 4 [.int a2, .int b2] := h2
  first | refine j_aload_n (pc := 0) hX dX6_equals_0 rfl rfl ?_ | refine j_aload_nq (pc := 0) hX dX6_equals_0 rfl rfl ?_
  refine j_inst (pc := 1) hX kc_X6_8 dX6_equals_1 ho2 ?_
  refine j_if_ne (pc := 4) (tgt := 9) hX dX6_equals_4 (by decide) (fun c_4 => ?_) (fun c_4 => ?_)
  rotate_left
  · exact absurd c_4 (by decide)
  first | refine j_aload_n (pc := 9) hX dX6_equals_9 rfl rfl ?_ | refine j_aload_nq (pc := 9) hX dX6_equals_9 rfl rfl ?_
  refine j_ccast (pc := 10) hX kc_X6_8 dX6_equals_10 ho2 ?_
  first | refine j_astore_n (pc := 13) hX dX6_equals_13 rfl (by decide) rfl ?_ | refine j_astore_nN (pc := 13) hX dX6_equals_13 rfl (by decide) rfl ?_ | refine j_astore_nq (pc := 13) hX dX6_equals_13 rfl (by decide) rfl ?_
  first | refine j_aload_n (pc := 14) hX dX6_equals_14 rfl rfl ?_ | refine j_aload_nq (pc := 14) hX dX6_equals_14 rfl rfl ?_
  refine j_get (pc := 15) hX kg_X6_7 dX6_equals_15 ho (by rfl) ?_
  first | refine j_aload_n (pc := 18) hX dX6_equals_18 rfl rfl ?_ | refine j_aload_nq (pc := 18) hX dX6_equals_18 rfl rfl ?_
  refine j_get (pc := 19) hX kg_X6_7 dX6_equals_19 ho2 (by rfl) ?_
  refine j_icmp_ne (pc := 22) (tgt := 40) hX dX6_equals_22 (by decide) (fun c_22 => ?_) (fun c_22 => ?_)
  · refine j_iconst (pc := 40) (v := 0) hX dX6_equals_40 (by decide) ?_
    exact j_zret hX hQ hr (by first | rfl | exact jb_nar _ | exact nI_narC _ | assumption) dX6_equals_41 ⟨_, rfl, rfl, by simp [jb, c_4, c_22]⟩
  · first | refine j_aload_n (pc := 25) hX dX6_equals_25 rfl rfl ?_ | refine j_aload_nq (pc := 25) hX dX6_equals_25 rfl rfl ?_
    refine j_get (pc := 26) hX kg_X6_13 dX6_equals_26 ho (by rfl) ?_
    first | refine j_aload_n (pc := 29) hX dX6_equals_29 rfl rfl ?_ | refine j_aload_nq (pc := 29) hX dX6_equals_29 rfl rfl ?_
    refine j_get (pc := 30) hX kg_X6_13 dX6_equals_30 ho2 (by rfl) ?_
    refine j_icmp_ne (pc := 33) (tgt := 40) hX dX6_equals_33 (by decide) (fun c_33 => ?_) (fun c_33 => ?_)
    · refine j_iconst (pc := 40) (v := 0) hX dX6_equals_40 (by decide) ?_
      exact j_zret hX hQ hr (by first | rfl | exact jb_nar _ | exact nI_narC _ | assumption) dX6_equals_41 ⟨_, rfl, rfl, by simp [jb, c_4, c_22, c_33]⟩
    · refine j_iconst (pc := 36) (v := 1) hX dX6_equals_36 (by decide) ?_
      refine j_goto (pc := 37) (tgt := 41) hX dX6_equals_37 (by decide) ?_
      exact j_zret hX hQ hr (by first | rfl | exact jb_nar _ | exact nI_narC _ | assumption) dX6_equals_41 ⟨_, rfl, rfl, by simp [jb, c_4, c_22, c_33]⟩
theorem JC.tru {G : JG} (h : JC G) : va_Z "java/lang/Boolean" "TRUE" "Ljava/lang/Boolean;" (.ref (gC G 2)) (jA G) (gs G) (gs G).heap := h.2.2.2.1.2.1 ("java/lang/Boolean", "TRUE", "Ljava/lang/Boolean;", 2) (by simp [jstr])
theorem c_J20_true (l : Launch) (G : JG) (H : Heap) (_u : True) : JMet l yJ20_valueOf (ws_ yJ20_valueOf cJ20_valueOf 1 (some (.object "java/lang/Boolean"))) 1 0 G H [.int 1] (jpae H (gC G 2)) (jno) := by
  refine JMet.of [(0, .inl (.int 1))] (by decide) (Nat.le_of_ble_eq_true rfl) rfl (fun X hl hX hQ hEx hr hnm hH => ?_)
  subst hl
  have z := hX.C.tru
  refine j_iload_n (pc := 0) hX dJ20_valueOf_0 rfl rfl ?_
  refine j_if_eq (pc := 1) (tgt := 10) hX dJ20_valueOf_1 (by decide) (fun c_1 => ?_) (fun c_1 => ?_)
  · exact absurd c_1 (by decide)
  refine j_gets (pc := 4) hX kst_J20_27 z dJ20_valueOf_4 ?_
  refine j_goto (pc := 7) (tgt := 13) hX dJ20_valueOf_7 (by decide) ?_
  first | exact j_aret hX hQ hr (by first | exact Or.inl ⟨_, rfl⟩ | exact Or.inr ⟨_, rfl⟩) dJ20_valueOf_13 ⟨_, rfl, rfl, rfl⟩ | exact j_aretN hX hQ hr (by first | exact Or.inl ⟨_, rfl⟩ | exact Or.inr ⟨_, rfl⟩) dJ20_valueOf_13 ⟨_, rfl, rfl, rfl⟩ | exact j_aretq hX hQ hr (by first | exact Or.inl ⟨_, rfl⟩ | exact Or.inr ⟨_, rfl⟩) dJ20_valueOf_13 ⟨_, rfl, rfl, rfl⟩
/-- a node of a bin -/
abbrev ndF (h : Int32) (k v : Nat) (nx : Option Nat) : List Value := [.int h, .ref k, .ref v, va_rf nx]
theorem c_J24_init (l : Launch) (G : JG) (H : Heap) (q : Nat) (hh : Int32) (k v : Nat) (nx : Option Nat) (h : jow G H q 10 [.int 0, .null, .null, .null]) (hq : (gs G).heap.size ≤ q) : JMet l yJ24_init (ws_ yJ24_init cJ24_init 5 none) 1 0 G H [.ref q, .int hh, .ref k, .ref v, va_rf nx] (jpv (fun H1 => JPut H H1 q ∧ jow G H1 q 10 (ndF hh k v nx))) (jno) := by
  refine JMet.of [(0, .inr (some q)), (1, .inl (.int hh)), (2, .inr (some k)), (3, .inr (some v)), (4, .inr nx)] (by decide) (by cases nx <;> exact Nat.le_of_ble_eq_true rfl) (by cases nx <;> rfl) (fun X hl hX hQ hEx hr hnm hH => ?_)
  subst hl
  first | refine j_aload_n (pc := 0) hX dJ24_init_0 rfl rfl ?_ | refine j_aload_nq (pc := 0) hX dJ24_init_0 rfl rfl ?_
  refine j_objInit (pc := 1) hX ko_J24_1 (by decide) (Nat.le_of_ble_eq_true rfl) dJ24_init_1 ?_
  first | refine j_aload_n (pc := 4) hX dJ24_init_4 rfl rfl ?_ | refine j_aload_nq (pc := 4) hX dJ24_init_4 rfl rfl ?_
  refine j_iload_n (pc := 5) hX dJ24_init_5 rfl rfl ?_
  refine j_putF (pc := 6) hX hnm kp_J24_7 dJ24_init_6 (by assumption) hq rfl rfl rfl (fun H_6 w_6 n_6 => ?_)
  first | refine j_aload_n (pc := 9) hX dJ24_init_9 rfl rfl ?_ | refine j_aload_nq (pc := 9) hX dJ24_init_9 rfl rfl ?_
  first | refine j_aload_n (pc := 10) hX dJ24_init_10 rfl rfl ?_ | refine j_aload_nq (pc := 10) hX dJ24_init_10 rfl rfl ?_
  refine j_putF (pc := 11) hX hnm kp_J24_13 dJ24_init_11 (by assumption) hq rfl rfl rfl (fun H_11 w_11 n_11 => ?_)
  first | refine j_aload_n (pc := 14) hX dJ24_init_14 rfl rfl ?_ | refine j_aload_nq (pc := 14) hX dJ24_init_14 rfl rfl ?_
  first | refine j_aload_n (pc := 15) hX dJ24_init_15 rfl rfl ?_ | refine j_aload_nq (pc := 15) hX dJ24_init_15 rfl rfl ?_
  refine j_put (pc := 16) hX kp_J24_17 dJ24_init_16 (by assumption) hq rfl rfl rfl (fun H_16 w_16 n_16 => ?_)
  first | refine j_aload_n (pc := 19) hX dJ24_init_19 rfl rfl ?_ | refine j_aload_nq (pc := 19) hX dJ24_init_19 rfl rfl ?_
  first | refine j_aload (pc := 20) hX dJ24_init_20 rfl ?_ | refine j_aloadq (pc := 20) hX dJ24_init_20 rfl ?_
  refine j_put (pc := 22) hX kp_J24_20 dJ24_init_22 (by assumption) hq (by cases nx <;> rfl) (by cases nx <;> rfl) rfl (fun H_22 w_22 n_22 => ?_)
  exact j_vret hX hQ hr dJ24_init_25 ⟨rfl, ((w_6.trans w_11).trans w_16).trans w_22, n_22⟩
theorem c_J1_newNode (l : Launch) (G : JG) (H : Heap) (q : Nat) (hh : Int32) (k v : Nat) (nx : Option Nat) : JMet l yJ1_newNode (ws_ yJ1_newNode cJ1_newNode 5 (some (.object "java/util/HashMap$Node"))) 2 1 G H [.ref q, .int hh, .ref k, .ref v, va_rf nx] (jpa (fun r H1 => r = H.size ∧ (gs G).heap.size ≤ r ∧ jow G H1 r 10 (ndF hh k v nx) ∧ JExt H H1)) (jno) := by
  refine JMet.of [(0, .inr (some q)), (1, .inl (.int hh)), (2, .inr (some k)), (3, .inr (some v)), (4, .inr nx)] (by decide) (by cases nx <;> exact Nat.le_of_ble_eq_true rfl) (by cases nx <;> rfl) (fun X hl hX hQ hEx hr hnm hH => ?_)
  subst hl
  refine j_new (pc := 0) hX kn_J1_163 1 jw_J24 dJ1_newNode_0 (fun H_0 z_0 e_0 n_0 b_0 => ?_)
  refine j_dup (pc := 3) hX dJ1_newNode_3 (by first | rfl | exact jrf_cat _) ?_
  refine j_iload_n (pc := 4) hX dJ1_newNode_4 rfl rfl ?_
  first | refine j_aload_n (pc := 5) hX dJ1_newNode_5 rfl rfl ?_ | refine j_aload_nq (pc := 5) hX dJ1_newNode_5 rfl rfl ?_
  first | refine j_aload_n (pc := 6) hX dJ1_newNode_6 rfl rfl ?_ | refine j_aload_nq (pc := 6) hX dJ1_newNode_6 rfl rfl ?_
  first | refine j_aload (pc := 7) hX dJ1_newNode_7 rfl ?_ | refine j_aloadq (pc := 7) hX dJ1_newNode_7 rfl ?_
  refine j_runv (pc := 9) (jr_I (pc := 9) hX ki_J1_375 (c_J24_init _ _ _ _ hh k v nx n_0 b_0) (by decide) dJ1_newNode_9 rfl rfl (Nat.le_of_ble_eq_true rfl)) (fun H_9 p_9 z_9 => ?_) jno_x
  obtain ⟨w1, n1⟩ := p_9
  first | exact j_aret hX hQ hr (by first | exact Or.inl ⟨_, rfl⟩ | exact Or.inr ⟨_, rfl⟩) dJ1_newNode_12 ⟨_, rfl, rfl, b_0, n1, e_0.put w1 (Nat.le_refl _)⟩ | exact j_aretN hX hQ hr (by first | exact Or.inl ⟨_, rfl⟩ | exact Or.inr ⟨_, rfl⟩) dJ1_newNode_12 ⟨_, rfl, rfl, b_0, n1, e_0.put w1 (Nat.le_refl _)⟩ | exact j_aretq hX hQ hr (by first | exact Or.inl ⟨_, rfl⟩ | exact Or.inr ⟨_, rfl⟩) dJ1_newNode_12 ⟨_, rfl, rfl, b_0, n1, e_0.put w1 (Nat.le_refl _)⟩
