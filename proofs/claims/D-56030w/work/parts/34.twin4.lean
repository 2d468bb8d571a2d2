/-! the reference: what it answers to questions -/
set_option maxRecDepth 100000
/-- the world after a call -/
def twR (G : JG) (H H1 : Heap) (g : Nat → Nat) (ar : Nat → Nat → Nat) (cm fs : Nat → Int32) : Prop := JFr (twP g) H H1 ∧ jtw G H1 g ar cm fs
/-- a question's answer: which exception, or what -/
abbrev twQ (G : JG) (H : Heap) (g : Nat → Nat) (ar : Nat → Nat → Nat) (cm fs : Nat → Int32) (q : Nat × Int32) : Option Value → Heap → Prop := jpi (fun r H1 => twR G H H1 g ar cm (jup fs 6 (nI q.1)) ∧ (q.1 = 0 → r = q.2))
theorem twR.put {G : JG} {H H1 : Heap} {g : Nat → Nat} {ar : Nat → Nat → Nat} {cm fs : Nat → Int32} (w : JPut H H1 (g 100)) (h : jtw G H1 g ar cm fs) : twR G H H1 g ar cm fs := ⟨w.fr ⟨100, by decide, rfl⟩, h⟩
theorem twR.jup2 {G : JG} {H H1 : Heap} {g : Nat → Nat} {ar : Nat → Nat → Nat} {cm fs : Nat → Int32} {i : Nat} {a b : Int32} (h : twR G H H1 g ar cm (jup fs i a)) (e : a = b) : twR G H H1 g ar cm (jup fs i b) := e ▸ h
theorem nI_l1 : nI 1 = 1 := rfl
theorem nI_l2 : nI 2 = 2 := rfl
theorem c_X3_isThere (l : Launch) (G : JG) (H : Heap) {g : Nat → Nat} {ar : Nat → Nat → Nat} {cm fs : Nat → Int32} (hT : jtw G H g ar cm fs) (z : Int32) (hz : narrow .boolean (.int z) = .int z) : JMet l yX3_isThere (ws_ yX3_isThere cX3_isThere 2 (some .boolean)) 1 0 G H [.ref (g 100), .int z] (jpi (fun r H1 => twR G H H1 g ar cm (jup fs 6 (nI (if z = 0 then 1 else 0))) ∧ r = z)) (jno) := by
  refine JMet.of [(0, .inr (some (g 100))), (1, .inl (.int z))] (by decide) (Nat.le_of_ble_eq_true rfl) rfl (fun X hl hX hQ hEx hr hnm hH => ?_)
  subst hl
  obtain ⟨h0, ho, hs, hbf, hsv, hpa, hou, hip, hcm⟩ := id hT
  have hi2 : vp_in (2 : Int32) 93 := vp_in_nI (n := 2) (by omega) (by decide)
  first | refine j_aload_n (pc := 0) hX dX3_isThere_0 rfl rfl ?_ | refine j_aload_nq (pc := 0) hX dX3_isThere_0 rfl rfl ?_
  refine j_iload_n (pc := 1) hX dX3_isThere_1 rfl rfl ?_
  refine j_if_eq (pc := 2) (tgt := 9) hX dX3_isThere_2 (by decide) (fun c_2 => ?_) (fun c_2 => ?_)
  · refine j_iconst (pc := 9) (v := 1) hX dX3_isThere_9 (by decide) ?_
    refine j_put (pc := 10) hX kp_X3_39 dX3_isThere_10 (by assumption) (by first | assumption | omega | exact h0.1 _ (by decide)) rfl rfl rfl (fun H_10 w_10 n_10 => ?_)
    have w1 := tw_put6 hT w_10 n_10
    refine j_iload_n (pc := 13) hX dX3_isThere_13 rfl rfl ?_
    exact j_zret hX hQ hr (by first | rfl | exact jb_nar _ | exact nI_narC _ | assumption) dX3_isThere_14 ⟨_, rfl, (twR.put w_10 w1).jup2 (by simp [nI_0, nI_l1, c_2]), rfl⟩
  · refine j_iconst (pc := 5) (v := 0) hX dX3_isThere_5 (by decide) ?_
    refine j_goto (pc := 6) (tgt := 10) hX dX3_isThere_6 (by decide) ?_
    refine j_put (pc := 10) hX kp_X3_39 dX3_isThere_10 (by assumption) (by first | assumption | omega | exact h0.1 _ (by decide)) rfl rfl rfl (fun H_10 w_10 n_10 => ?_)
    have w1 := tw_put6 hT w_10 n_10
    refine j_iload_n (pc := 13) hX dX3_isThere_13 rfl rfl ?_
    exact j_zret hX hQ hr (by first | rfl | exact jb_nar _ | exact nI_narC _ | assumption) dX3_isThere_14 ⟨_, rfl, (twR.put w_10 w1).jup2 (by simp [nI_0, nI_l1, c_2]), rfl⟩
def toldQ (s : Nat → Nat) (x : Int32) (w : Nat) : Nat × Int32 := match slotN s x with | none => (1, 0) | some k => (0, nI (s (3 + 6 * k + w)))
theorem c_X3_told (l : Launch) (G : JG) (H : Heap) {g : Nat → Nat} {ar : Nat → Nat → Nat} {cm fs : Nat → Int32} (hT : jtw G H g ar cm fs) (x : Int32) (w : Nat) (hw : w < 6) : JMet l yX3_told (ws_ yX3_told cX3_told 4 (some .int)) 3 0 G H [.ref (g 100), .int x, .int (nI w)] (twQ G H g ar cm fs (toldQ (ar 0) x w)) (jno) := by
  refine JMet.of [(0, .inr (some (g 100))), (1, .inl (.int x)), (2, .inl (.int (nI w)))] (by decide) (Nat.le_of_ble_eq_true rfl) rfl (fun X hl hX hQ hEx hr hnm hH => ?_)
  subst hl
  obtain ⟨h0, ho, hs, hbf, hsv, hpa, hou, hip, hcm⟩ := id hT
  have hi2 : vp_in (2 : Int32) 93 := vp_in_nI (n := 2) (by omega) (by decide)
  first | refine j_aload_n (pc := 0) hX dX3_told_0 rfl rfl ?_ | refine j_aload_nq (pc := 0) hX dX3_told_0 rfl rfl ?_
  refine j_iload_n (pc := 1) hX dX3_told_1 rfl rfl ?_
  refine j_rune (pc := 2) (jr_V (pc := 2) hX kv_X3_103 (by first | assumption | exact jow.r (by assumption)) (c_X3_slotOf _ _ _ hT x) (by decide) dX3_told_2 rfl rfl (Nat.le_of_ble_eq_true rfl)) ?_ jno_x
  refine j_istore_n (pc := 5) hX dX3_told_5 rfl (by decide) rfl ?_
  first | refine j_aload_n (pc := 6) hX dX3_told_6 rfl rfl ?_ | refine j_aload_nq (pc := 6) hX dX3_told_6 rfl rfl ?_
  refine j_iload_n (pc := 7) hX dX3_told_7 rfl rfl ?_
  refine j_if_lt (pc := 8) (tgt := 15) hX dX3_told_8 (by decide) (fun c_8 => ?_) (fun c_8 => ?_)
  · rw [oI_neg' (fun _ => slotN_lt) (by omega)] at c_8
    refine j_iconst (pc := 15) (v := 0) hX dX3_told_15 (by decide) ?_
    refine j_runi (pc := 16) (jr_V (pc := 16) hX kv_X3_119 (by first | assumption | exact jow.r (by assumption)) (c_X3_isThere _ _ _ hT _ rfl) (by decide) dX3_told_16 rfl rfl (Nat.le_of_ble_eq_true rfl)) (fun r_16 H_16 p_16 z_16 => ?_) jno_x
    obtain ⟨⟨hF, hT⟩, rfl⟩ := p_16
    have ho := hT.2.1
    refine j_if_eq (pc := 19) (tgt := 31) hX dX3_told_19 (by decide) (fun c_19 => ?_) (fun c_19 => ?_)
    rotate_left
    · first | exact absurd c_19 (by decide) | (change ¬ (0 : Int32) = 0 at c_19; exact absurd c_19 (by decide))
    refine j_iconst (pc := 31) (v := 0) hX dX3_told_31 (by decide) ?_
    exact j_iret hX hQ hr dX3_told_32 ⟨_, rfl, ⟨hF, by simpa [toldQ, c_8] using hT⟩, by simp [toldQ, c_8]⟩
  · rw [Int32.not_lt, oI_pos' (fun _ => slotN_lt) (by omega)] at c_8
    obtain ⟨k, c_8, hk⟩ := c_8
    refine j_iconst (pc := 11) (v := 1) hX dX3_told_11 (by decide) ?_
    refine j_goto (pc := 12) (tgt := 16) hX dX3_told_12 (by decide) ?_
    refine j_runi (pc := 16) (jr_V (pc := 16) hX kv_X3_119 (by first | assumption | exact jow.r (by assumption)) (c_X3_isThere _ _ _ hT _ rfl) (by decide) dX3_told_16 rfl rfl (Nat.le_of_ble_eq_true rfl)) (fun r_16 H_16 p_16 z_16 => ?_) jno_x
    obtain ⟨⟨hF, hT⟩, rfl⟩ := p_16
    have ho := hT.2.1
    refine j_if_eq (pc := 19) (tgt := 31) hX dX3_told_19 (by decide) (fun c_19 => ?_) (fun c_19 => ?_)
    · first | exact absurd c_19 (by decide) | (change (1 : Int32) = 0 at c_19; exact absurd c_19 (by decide))
    first | refine j_aload_n (pc := 22) hX dX3_told_22 rfl rfl ?_ | refine j_aload_nq (pc := 22) hX dX3_told_22 rfl rfl ?_
    refine j_iload_n (pc := 23) hX dX3_told_23 rfl rfl ?_
    refine j_iload_n (pc := 24) hX dX3_told_24 rfl rfl ?_
    rw [oI_some c_8]
    refine j_rune (pc := 25) (jr_V (pc := 25) hX kv_X3_55 (by first | assumption | exact jow.r (by assumption)) (c_X3_of _ _ _ hT k w hk hw) (by decide) dX3_told_25 rfl rfl (Nat.le_of_ble_eq_true rfl)) ?_ jno_x
    refine j_goto (pc := 28) (tgt := 32) hX dX3_told_28 (by decide) ?_
    exact j_iret hX hQ hr dX3_told_32 ⟨_, rfl, ⟨hF, by simpa [toldQ, c_8] using hT⟩, by simp [toldQ, c_8]⟩
theorem c_X3_applicantCount (l : Launch) (G : JG) (H : Heap) {g : Nat → Nat} {ar : Nat → Nat → Nat} {cm fs : Nat → Int32} (hT : jtw G H g ar cm fs) (hB : Bs (ar 0)) : JMet l yX3_applicantCount (ws_ yX3_applicantCount cX3_applicantCount 1 (some .int)) 4 0 G H [.ref (g 100)] (twQ G H g ar cm fs (0, nI (appsN (ar 0)))) (jno) := by
  refine JMet.of [(0, .inr (some (g 100)))] (by decide) (Nat.le_of_ble_eq_true rfl) rfl (fun X hl hX hQ hEx hr hnm hH => ?_)
  subst hl
  obtain ⟨h0, ho, hs, hbf, hsv, hpa, hou, hip, hcm⟩ := id hT
  have hi2 : vp_in (2 : Int32) 93 := vp_in_nI (n := 2) (by omega) (by decide)
  obtain ⟨h2, hb, hf, hg⟩ := id hB
  first | refine j_aload_n (pc := 0) hX dX3_applicantCount_0 rfl rfl ?_ | refine j_aload_nq (pc := 0) hX dX3_applicantCount_0 rfl rfl ?_
  refine j_iconst (pc := 1) (v := 0) hX dX3_applicantCount_1 (by decide) ?_
  refine j_put (pc := 2) hX kp_X3_39 dX3_applicantCount_2 (by assumption) (by first | assumption | omega | exact h0.1 _ (by decide)) rfl rfl rfl (fun H_2 w_2 n_2 => ?_)
  have hT := tw_put6 hT w_2 n_2
  have ho := hT.2.1
  have hF : JFr (twP g) H H_2 := w_2.fr ⟨100, by decide, rfl⟩
  obtain ⟨-, -, hs, -⟩ := id hT
  first | refine j_aload_n (pc := 5) hX dX3_applicantCount_5 rfl rfl ?_ | refine j_aload_nq (pc := 5) hX dX3_applicantCount_5 rfl rfl ?_
  refine j_rune (pc := 6) (jr_V (pc := 6) hX kv_X3_85 (by first | assumption | exact jow.r (by assumption)) (c_X3_applicants _ _ _ hT hB) (by decide) dX3_applicantCount_6 rfl rfl (Nat.le_of_ble_eq_true rfl)) ?_ jno_x
  exact j_iret hX hQ hr dX3_applicantCount_9 ⟨_, rfl, ⟨hF, hT⟩, fun _ => rfl⟩
def wcF (s : Nat → Nat) (k a : Nat) : Nat := a + if waitN s k then 1 else 0
def wcN (s : Nat → Nat) : Nat := jfold (wcF s) 10 0
theorem c_X3_waitingCount (l : Launch) (G : JG) (H : Heap) {g : Nat → Nat} {ar : Nat → Nat → Nat} {cm fs : Nat → Int32} (hT : jtw G H g ar cm fs) (hB : Bs (ar 0)) : JMet l yX3_waitingCount (ws_ yX3_waitingCount cX3_waitingCount 3 (some .int)) 4 0 G H [.ref (g 100)] (twQ G H g ar cm fs (0, nI (wcN (ar 0)))) (jno) := by
  refine JMet.of [(0, .inr (some (g 100)))] (by decide) (Nat.le_of_ble_eq_true rfl) rfl (fun X hl hX hQ hEx hr hnm hH => ?_)
  subst hl
  obtain ⟨h0, ho, hs, hbf, hsv, hpa, hou, hip, hcm⟩ := id hT
  have hi2 : vp_in (2 : Int32) 93 := vp_in_nI (n := 2) (by omega) (by decide)
  obtain ⟨h2, hb, hf, hg⟩ := id hB
  first | refine j_aload_n (pc := 0) hX dX3_waitingCount_0 rfl rfl ?_ | refine j_aload_nq (pc := 0) hX dX3_waitingCount_0 rfl rfl ?_
  refine j_iconst (pc := 1) (v := 0) hX dX3_waitingCount_1 (by decide) ?_
  refine j_put (pc := 2) hX kp_X3_39 dX3_waitingCount_2 (by assumption) (by first | assumption | omega | exact h0.1 _ (by decide)) rfl rfl rfl (fun H_2 w_2 n_2 => ?_)
  have hT := tw_put6 hT w_2 n_2
  have ho := hT.2.1
  have hF : JFr (twP g) H H_2 := w_2.fr ⟨100, by decide, rfl⟩
  obtain ⟨-, -, hs, -⟩ := id hT
  refine j_iconst (pc := 5) (v := 0) hX dX3_waitingCount_5 (by decide) ?_
  refine j_istore_n (pc := 6) hX dX3_waitingCount_6 rfl (by decide) rfl ?_
  refine j_iconst (pc := 7) (v := 0) hX dX3_waitingCount_7 (by decide) ?_
  refine j_istore_n (pc := 8) hX dX3_waitingCount_8 rfl (by decide) rfl ?_
  skip
  refine jloop (P := fun i => JW X G H_2 0 9 [(0, .inr (some (g 100))), (1, .inl (.int (nI (jfold (wcF (ar 0)) i 0)))), (2, .inl (.int (nI i)))] []) 10 ?_ (fun i hi ih => ?_) 0 (by omega)
  · refine j_iload_n (pc := 9) hX dX3_waitingCount_9 rfl rfl ?_
    refine j_bipush (pc := 10) (v := 10) hX dX3_waitingCount_10 (by decide) ?_
    refine j_icmp_ge (pc := 12) (tgt := 37) hX dX3_waitingCount_12 (by decide) (fun c_12 => ?_) (fun c_12 => ?_)
    rotate_left
    · exact absurd (jge_no (a := 10) c_12 (by omega) (by omega)) (by omega)
    refine j_iload_n (pc := 37) hX dX3_waitingCount_37 rfl rfl ?_
    exact j_iret hX hQ hr dX3_waitingCount_38 ⟨_, rfl, ⟨hF, hT⟩, fun _ => rfl⟩
  · refine j_iload_n (pc := 9) hX dX3_waitingCount_9 rfl rfl ?_
    refine j_bipush (pc := 10) (v := 10) hX dX3_waitingCount_10 (by decide) ?_
    refine j_icmp_ge (pc := 12) (tgt := 37) hX dX3_waitingCount_12 (by decide) (fun c_12 => ?_) (fun c_12 => ?_)
    · exact absurd (jge_yes (a := 10) c_12 (by omega) (by omega)) (by omega)
    refine j_iload_n (pc := 15) hX dX3_waitingCount_15 rfl rfl ?_
    first | refine j_aload_n (pc := 16) hX dX3_waitingCount_16 rfl rfl ?_ | refine j_aload_nq (pc := 16) hX dX3_waitingCount_16 rfl rfl ?_
    refine j_iload_n (pc := 17) hX dX3_waitingCount_17 rfl rfl ?_
    refine j_rune (pc := 18) (jr_V (pc := 18) hX kv_X3_113 (by first | assumption | exact jow.r (by assumption)) (c_X3_isWaiting _ _ _ hT hB i hi) (by decide) dX3_waitingCount_18 rfl rfl (Nat.le_of_ble_eq_true rfl)) ?_ jno_x
    refine j_if_eq (pc := 21) (tgt := 28) hX dX3_waitingCount_21 (by decide) (fun c_21 => ?_) (fun c_21 => ?_)
    · rw [jb_z] at c_21
      refine j_iconst (pc := 28) (v := 0) hX dX3_waitingCount_28 (by decide) ?_
      refine j_iadd (pc := 29) hX dX3_waitingCount_29 ?_
      refine j_istore_n (pc := 30) hX dX3_waitingCount_30 rfl (by decide) rfl ?_
      refine j_iincc (pc := 31) (m := 1) hX dX3_waitingCount_31 rfl (by decide) (by decide) rfl ?_
      refine j_goto (pc := 34) (tgt := 9) hX dX3_waitingCount_34 (by decide) ?_
      first | exact absurd rfl (by assumption) | exact absurd (by assumption) (by decide : ¬ (1 : Int32) = 0) | exact j_lv (by simp [jsb, jget, jval, jfold_succ, nI_1, wcF, c_21]) ih
    · rw [jb_n] at c_21
      refine j_iconst (pc := 24) (v := 1) hX dX3_waitingCount_24 (by decide) ?_
      refine j_goto (pc := 25) (tgt := 29) hX dX3_waitingCount_25 (by decide) ?_
      refine j_iadd (pc := 29) hX dX3_waitingCount_29 ?_
      refine j_istore_n (pc := 30) hX dX3_waitingCount_30 rfl (by decide) rfl ?_
      refine j_iincc (pc := 31) (m := 1) hX dX3_waitingCount_31 rfl (by decide) (by decide) rfl ?_
      refine j_goto (pc := 34) (tgt := 9) hX dX3_waitingCount_34 (by decide) ?_
      first | exact absurd rfl (by assumption) | exact absurd (by assumption) (by decide : ¬ (1 : Int32) = 0) | exact j_lv (by simp [jsb, jget, jval, jfold_succ, nI_1, wcF, c_21]) ih
def shapeQ (s : Nat → Nat) (x : Int32) : Nat × Int32 := match slotN s x with | none => (1, 0) | some k => (0, nI (aSh s k % 65536))
def hiredQ (s : Nat → Nat) (x : Int32) : Nat × Int32 := match slotN s x with | none => (1, 0) | some k => (0, jb (fillN s k).isSome)
theorem c_X3_isHired (l : Launch) (G : JG) (H : Heap) {g : Nat → Nat} {ar : Nat → Nat → Nat} {cm fs : Nat → Int32} (hT : jtw G H g ar cm fs) (hB : Bs (ar 0)) (x : Int32) : JMet l yX3_isHired (ws_ yX3_isHired cX3_isHired 3 (some .boolean)) 3 0 G H [.ref (g 100), .int x] (twQ G H g ar cm fs (hiredQ (ar 0) x)) (jno) := by
  refine JMet.of [(0, .inr (some (g 100))), (1, .inl (.int x))] (by decide) (Nat.le_of_ble_eq_true rfl) rfl (fun X hl hX hQ hEx hr hnm hH => ?_)
  subst hl
  obtain ⟨h0, ho, hs, hbf, hsv, hpa, hou, hip, hcm⟩ := id hT
  have hi2 : vp_in (2 : Int32) 93 := vp_in_nI (n := 2) (by omega) (by decide)
  obtain ⟨h2, hb, hf, hg⟩ := id hB
  first | refine j_aload_n (pc := 0) hX dX3_isHired_0 rfl rfl ?_ | refine j_aload_nq (pc := 0) hX dX3_isHired_0 rfl rfl ?_
  refine j_iload_n (pc := 1) hX dX3_isHired_1 rfl rfl ?_
  refine j_rune (pc := 2) (jr_V (pc := 2) hX kv_X3_103 (by first | assumption | exact jow.r (by assumption)) (c_X3_slotOf _ _ _ hT x) (by decide) dX3_isHired_2 rfl rfl (Nat.le_of_ble_eq_true rfl)) ?_ jno_x
  refine j_istore_n (pc := 5) hX dX3_isHired_5 rfl (by decide) rfl ?_
  first | refine j_aload_n (pc := 6) hX dX3_isHired_6 rfl rfl ?_ | refine j_aload_nq (pc := 6) hX dX3_isHired_6 rfl rfl ?_
  refine j_iload_n (pc := 7) hX dX3_isHired_7 rfl rfl ?_
  refine j_if_lt (pc := 8) (tgt := 15) hX dX3_isHired_8 (by decide) (fun c_8 => ?_) (fun c_8 => ?_)
  · rw [oI_neg' (fun _ => slotN_lt) (by omega)] at c_8
    refine j_iconst (pc := 15) (v := 0) hX dX3_isHired_15 (by decide) ?_
    refine j_runi (pc := 16) (jr_V (pc := 16) hX kv_X3_119 (by first | assumption | exact jow.r (by assumption)) (c_X3_isThere _ _ _ hT _ rfl) (by decide) dX3_isHired_16 rfl rfl (Nat.le_of_ble_eq_true rfl)) (fun r_16 H_16 p_16 z_16 => ?_) jno_x
    obtain ⟨⟨hF, hT⟩, rfl⟩ := p_16
    have ho := hT.2.1
    refine j_if_eq (pc := 19) (tgt := 34) hX dX3_isHired_19 (by decide) (fun c_19 => ?_) (fun c_19 => ?_)
    rotate_left
    · first | exact absurd c_19 (by decide) | (change ¬ (0 : Int32) = 0 at c_19; exact absurd c_19 (by decide))
    refine j_iconst (pc := 34) (v := 0) hX dX3_isHired_34 (by decide) ?_
    exact j_zret hX hQ hr (by first | rfl | exact jb_nar _ | exact nI_narC _ | assumption) dX3_isHired_35 ⟨_, rfl, ⟨hF, by simpa [hiredQ, jb, c_8] using hT⟩, by simp [hiredQ, jb, c_8]⟩
  · rw [Int32.not_lt, oI_pos' (fun _ => slotN_lt) (by omega)] at c_8
    obtain ⟨k, c_8, hk⟩ := c_8
    refine j_iconst (pc := 11) (v := 1) hX dX3_isHired_11 (by decide) ?_
    refine j_goto (pc := 12) (tgt := 16) hX dX3_isHired_12 (by decide) ?_
    refine j_runi (pc := 16) (jr_V (pc := 16) hX kv_X3_119 (by first | assumption | exact jow.r (by assumption)) (c_X3_isThere _ _ _ hT _ rfl) (by decide) dX3_isHired_16 rfl rfl (Nat.le_of_ble_eq_true rfl)) (fun r_16 H_16 p_16 z_16 => ?_) jno_x
    obtain ⟨⟨hF, hT⟩, rfl⟩ := p_16
    have ho := hT.2.1
    refine j_if_eq (pc := 19) (tgt := 34) hX dX3_isHired_19 (by decide) (fun c_19 => ?_) (fun c_19 => ?_)
    · first | exact absurd c_19 (by decide) | (change (1 : Int32) = 0 at c_19; exact absurd c_19 (by decide))
    first | refine j_aload_n (pc := 22) hX dX3_isHired_22 rfl rfl ?_ | refine j_aload_nq (pc := 22) hX dX3_isHired_22 rfl rfl ?_
    refine j_iload_n (pc := 23) hX dX3_isHired_23 rfl rfl ?_
    rw [oI_some c_8]
    refine j_rune (pc := 24) (jr_V (pc := 24) hX kv_X3_66 (by first | assumption | exact jow.r (by assumption)) (c_X3_filledWith _ _ _ hT hB k hk) (by decide) dX3_isHired_24 rfl rfl (Nat.le_of_ble_eq_true rfl)) ?_ jno_x
    refine j_if_lt (pc := 27) (tgt := 34) hX dX3_isHired_27 (by decide) (fun c_27 => ?_) (fun c_27 => ?_)
    · rw [oI_neg' (fun _ => fillN_lt) (by omega)] at c_27
      refine j_iconst (pc := 34) (v := 0) hX dX3_isHired_34 (by decide) ?_
      exact j_zret hX hQ hr (by first | rfl | exact jb_nar _ | exact nI_narC _ | assumption) dX3_isHired_35 ⟨_, rfl, ⟨hF, by simpa [hiredQ, jb, c_8, c_27] using hT⟩, by simp [hiredQ, jb, c_8, c_27]⟩
    · rw [Int32.not_lt, oI_pos' (fun _ => fillN_lt) (by omega)] at c_27
      obtain ⟨p, c_27, hp⟩ := c_27
      refine j_iconst (pc := 30) (v := 1) hX dX3_isHired_30 (by decide) ?_
      refine j_goto (pc := 31) (tgt := 35) hX dX3_isHired_31 (by decide) ?_
      exact j_zret hX hQ hr (by first | rfl | exact jb_nar _ | exact nI_narC _ | assumption) dX3_isHired_35 ⟨_, rfl, ⟨hF, by simpa [hiredQ, jb, c_8, c_27] using hT⟩, by simp [hiredQ, jb, c_8, c_27]⟩
def postQ (s : Nat → Nat) (x : Int32) : Nat × Int32 := match slotN s x with | none => (1, 0) | some k => match fillN s k with | none => (1, 0) | some p => (0, nI p)
theorem c_X3_postOf (l : Launch) (G : JG) (H : Heap) {g : Nat → Nat} {ar : Nat → Nat → Nat} {cm fs : Nat → Int32} (hT : jtw G H g ar cm fs) (hB : Bs (ar 0)) (x : Int32) : JMet l yX3_postOf (ws_ yX3_postOf cX3_postOf 4 (some .int)) 3 0 G H [.ref (g 100), .int x] (twQ G H g ar cm fs (postQ (ar 0) x)) (jno) := by
  refine JMet.of [(0, .inr (some (g 100))), (1, .inl (.int x))] (by decide) (Nat.le_of_ble_eq_true rfl) rfl (fun X hl hX hQ hEx hr hnm hH => ?_)
  subst hl
  obtain ⟨h0, ho, hs, hbf, hsv, hpa, hou, hip, hcm⟩ := id hT
  have hi2 : vp_in (2 : Int32) 93 := vp_in_nI (n := 2) (by omega) (by decide)
  obtain ⟨h2, hb, hf, hg⟩ := id hB
  first | refine j_aload_n (pc := 0) hX dX3_postOf_0 rfl rfl ?_ | refine j_aload_nq (pc := 0) hX dX3_postOf_0 rfl rfl ?_
  refine j_iload_n (pc := 1) hX dX3_postOf_1 rfl rfl ?_
  refine j_rune (pc := 2) (jr_V (pc := 2) hX kv_X3_103 (by first | assumption | exact jow.r (by assumption)) (c_X3_slotOf _ _ _ hT x) (by decide) dX3_postOf_2 rfl rfl (Nat.le_of_ble_eq_true rfl)) ?_ jno_x
  refine j_istore_n (pc := 5) hX dX3_postOf_5 rfl (by decide) rfl ?_
  refine j_iload_n (pc := 6) hX dX3_postOf_6 rfl rfl ?_
  refine j_if_ge (pc := 7) (tgt := 14) hX dX3_postOf_7 (by decide) (fun c_7 => ?_) (fun c_7 => ?_)
  · rw [oI_pos' (fun _ => slotN_lt) (by omega)] at c_7
    obtain ⟨k, c_7, hk⟩ := c_7
    first | refine j_aload_n (pc := 14) hX dX3_postOf_14 rfl rfl ?_ | refine j_aload_nq (pc := 14) hX dX3_postOf_14 rfl rfl ?_
    refine j_iload_n (pc := 15) hX dX3_postOf_15 rfl rfl ?_
    rw [oI_some c_7]
    refine j_rune (pc := 16) (jr_V (pc := 16) hX kv_X3_66 (by first | assumption | exact jow.r (by assumption)) (c_X3_filledWith _ _ _ hT hB k hk) (by decide) dX3_postOf_16 rfl rfl (Nat.le_of_ble_eq_true rfl)) ?_ jno_x
    refine j_istore_n (pc := 19) hX dX3_postOf_19 rfl (by decide) rfl ?_
    first | refine j_aload_n (pc := 20) hX dX3_postOf_20 rfl rfl ?_ | refine j_aload_nq (pc := 20) hX dX3_postOf_20 rfl rfl ?_
    refine j_iload_n (pc := 21) hX dX3_postOf_21 rfl rfl ?_
    refine j_if_lt (pc := 22) (tgt := 29) hX dX3_postOf_22 (by decide) (fun c_22 => ?_) (fun c_22 => ?_)
    · rw [oI_neg' (fun _ => fillN_lt) (by omega)] at c_22
      refine j_iconst (pc := 29) (v := 0) hX dX3_postOf_29 (by decide) ?_
      refine j_runi (pc := 30) (jr_V (pc := 30) hX kv_X3_119 (by first | assumption | exact jow.r (by assumption)) (c_X3_isThere _ _ _ hT _ rfl) (by decide) dX3_postOf_30 rfl rfl (Nat.le_of_ble_eq_true rfl)) (fun r_30 H_30 p_30 z_30 => ?_) jno_x
      obtain ⟨⟨hF, hT⟩, rfl⟩ := p_30
      have ho := hT.2.1
      refine j_if_eq (pc := 33) (tgt := 40) hX dX3_postOf_33 (by decide) (fun c_33 => ?_) (fun c_33 => ?_)
      rotate_left
      · first | exact absurd c_33 (by decide) | (change ¬ (0 : Int32) = 0 at c_33; exact absurd c_33 (by decide))
      refine j_iconst (pc := 40) (v := 0) hX dX3_postOf_40 (by decide) ?_
      exact j_iret hX hQ hr dX3_postOf_41 ⟨_, rfl, ⟨hF, by simpa [postQ, oI, c_7, c_22] using hT⟩, by simp [postQ, oI, c_7, c_22]⟩
    · rw [Int32.not_lt, oI_pos' (fun _ => fillN_lt) (by omega)] at c_22
      obtain ⟨p, c_22, hp⟩ := c_22
      refine j_iconst (pc := 25) (v := 1) hX dX3_postOf_25 (by decide) ?_
      refine j_goto (pc := 26) (tgt := 30) hX dX3_postOf_26 (by decide) ?_
      refine j_runi (pc := 30) (jr_V (pc := 30) hX kv_X3_119 (by first | assumption | exact jow.r (by assumption)) (c_X3_isThere _ _ _ hT _ rfl) (by decide) dX3_postOf_30 rfl rfl (Nat.le_of_ble_eq_true rfl)) (fun r_30 H_30 p_30 z_30 => ?_) jno_x
      obtain ⟨⟨hF, hT⟩, rfl⟩ := p_30
      have ho := hT.2.1
      refine j_if_eq (pc := 33) (tgt := 40) hX dX3_postOf_33 (by decide) (fun c_33 => ?_) (fun c_33 => ?_)
      · first | exact absurd c_33 (by decide) | (change (1 : Int32) = 0 at c_33; exact absurd c_33 (by decide))
      refine j_iload_n (pc := 36) hX dX3_postOf_36 rfl rfl ?_
      refine j_goto (pc := 37) (tgt := 41) hX dX3_postOf_37 (by decide) ?_
      exact j_iret hX hQ hr dX3_postOf_41 ⟨_, rfl, ⟨hF, by simpa [postQ, oI, c_7, c_22] using hT⟩, by simp [postQ, oI, c_7, c_22]⟩
  · rw [Int32.not_le, oI_neg' (fun _ => slotN_lt) (by omega)] at c_7
    refine j_iconst (pc := 10) (v := -1) hX dX3_postOf_10 (by decide) ?_
    refine j_goto (pc := 11) (tgt := 19) hX dX3_postOf_11 (by decide) ?_
    refine j_istore_n (pc := 19) hX dX3_postOf_19 rfl (by decide) rfl ?_
    first | refine j_aload_n (pc := 20) hX dX3_postOf_20 rfl rfl ?_ | refine j_aload_nq (pc := 20) hX dX3_postOf_20 rfl rfl ?_
    refine j_iload_n (pc := 21) hX dX3_postOf_21 rfl rfl ?_
    refine j_if_lt (pc := 22) (tgt := 29) hX dX3_postOf_22 (by decide) (fun c_22 => ?_) (fun c_22 => ?_)
    rotate_left
    · first | exact absurd c_22 (by decide) | (change ¬ (-1 : Int32) < 0 at c_22; exact absurd c_22 (by decide))
    refine j_iconst (pc := 29) (v := 0) hX dX3_postOf_29 (by decide) ?_
    refine j_runi (pc := 30) (jr_V (pc := 30) hX kv_X3_119 (by first | assumption | exact jow.r (by assumption)) (c_X3_isThere _ _ _ hT _ rfl) (by decide) dX3_postOf_30 rfl rfl (Nat.le_of_ble_eq_true rfl)) (fun r_30 H_30 p_30 z_30 => ?_) jno_x
    obtain ⟨⟨hF, hT⟩, rfl⟩ := p_30
    have ho := hT.2.1
    refine j_if_eq (pc := 33) (tgt := 40) hX dX3_postOf_33 (by decide) (fun c_33 => ?_) (fun c_33 => ?_)
    rotate_left
    · first | exact absurd c_33 (by decide) | (change ¬ (0 : Int32) = 0 at c_33; exact absurd c_33 (by decide))
    refine j_iconst (pc := 40) (v := 0) hX dX3_postOf_40 (by decide) ?_
    exact j_iret hX hQ hr dX3_postOf_41 ⟨_, rfl, ⟨hF, by simpa [postQ, oI, c_7] using hT⟩, by simp [postQ, oI, c_7]⟩
def scoreQ (s : Nat → Nat) (x : Int32) : Nat × Int32 := match slotN s x with | none => (1, 0) | some k => (0, zI (ptsN s k))
theorem c_X3_score (l : Launch) (G : JG) (H : Heap) {g : Nat → Nat} {ar : Nat → Nat → Nat} {cm fs : Nat → Int32} (hT : jtw G H g ar cm fs) (hB : Bs (ar 0)) (x : Int32) : JMet l yX3_score (ws_ yX3_score cX3_score 3 (some .int)) 3 0 G H [.ref (g 100), .int x] (twQ G H g ar cm fs (scoreQ (ar 0) x)) (jno) := by
  refine JMet.of [(0, .inr (some (g 100))), (1, .inl (.int x))] (by decide) (Nat.le_of_ble_eq_true rfl) rfl (fun X hl hX hQ hEx hr hnm hH => ?_)
  subst hl
  obtain ⟨h0, ho, hs, hbf, hsv, hpa, hou, hip, hcm⟩ := id hT
  have hi2 : vp_in (2 : Int32) 93 := vp_in_nI (n := 2) (by omega) (by decide)
  obtain ⟨h2, hb, hf, hg⟩ := id hB
  first | refine j_aload_n (pc := 0) hX dX3_score_0 rfl rfl ?_ | refine j_aload_nq (pc := 0) hX dX3_score_0 rfl rfl ?_
  refine j_iload_n (pc := 1) hX dX3_score_1 rfl rfl ?_
  refine j_rune (pc := 2) (jr_V (pc := 2) hX kv_X3_103 (by first | assumption | exact jow.r (by assumption)) (c_X3_slotOf _ _ _ hT x) (by decide) dX3_score_2 rfl rfl (Nat.le_of_ble_eq_true rfl)) ?_ jno_x
  refine j_istore_n (pc := 5) hX dX3_score_5 rfl (by decide) rfl ?_
  first | refine j_aload_n (pc := 6) hX dX3_score_6 rfl rfl ?_ | refine j_aload_nq (pc := 6) hX dX3_score_6 rfl rfl ?_
  refine j_iload_n (pc := 7) hX dX3_score_7 rfl rfl ?_
  refine j_if_lt (pc := 8) (tgt := 15) hX dX3_score_8 (by decide) (fun c_8 => ?_) (fun c_8 => ?_)
  · rw [oI_neg' (fun _ => slotN_lt) (by omega)] at c_8
    refine j_iconst (pc := 15) (v := 0) hX dX3_score_15 (by decide) ?_
    refine j_runi (pc := 16) (jr_V (pc := 16) hX kv_X3_119 (by first | assumption | exact jow.r (by assumption)) (c_X3_isThere _ _ _ hT _ rfl) (by decide) dX3_score_16 rfl rfl (Nat.le_of_ble_eq_true rfl)) (fun r_16 H_16 p_16 z_16 => ?_) jno_x
    obtain ⟨⟨hF, hT⟩, rfl⟩ := p_16
    have ho := hT.2.1
    refine j_if_eq (pc := 19) (tgt := 30) hX dX3_score_19 (by decide) (fun c_19 => ?_) (fun c_19 => ?_)
    rotate_left
    · first | exact absurd c_19 (by decide) | (change ¬ (0 : Int32) = 0 at c_19; exact absurd c_19 (by decide))
    refine j_iconst (pc := 30) (v := 0) hX dX3_score_30 (by decide) ?_
    exact j_iret hX hQ hr dX3_score_31 ⟨_, rfl, ⟨hF, by simpa [scoreQ, c_8] using hT⟩, by simp [scoreQ, c_8]⟩
  · rw [Int32.not_lt, oI_pos' (fun _ => slotN_lt) (by omega)] at c_8
    obtain ⟨k, c_8, hk⟩ := c_8
    refine j_iconst (pc := 11) (v := 1) hX dX3_score_11 (by decide) ?_
    refine j_goto (pc := 12) (tgt := 16) hX dX3_score_12 (by decide) ?_
    refine j_runi (pc := 16) (jr_V (pc := 16) hX kv_X3_119 (by first | assumption | exact jow.r (by assumption)) (c_X3_isThere _ _ _ hT _ rfl) (by decide) dX3_score_16 rfl rfl (Nat.le_of_ble_eq_true rfl)) (fun r_16 H_16 p_16 z_16 => ?_) jno_x
    obtain ⟨⟨hF, hT⟩, rfl⟩ := p_16
    have ho := hT.2.1
    refine j_if_eq (pc := 19) (tgt := 30) hX dX3_score_19 (by decide) (fun c_19 => ?_) (fun c_19 => ?_)
    · first | exact absurd c_19 (by decide) | (change (1 : Int32) = 0 at c_19; exact absurd c_19 (by decide))
    first | refine j_aload_n (pc := 22) hX dX3_score_22 rfl rfl ?_ | refine j_aload_nq (pc := 22) hX dX3_score_22 rfl rfl ?_
    refine j_iload_n (pc := 23) hX dX3_score_23 rfl rfl ?_
    rw [oI_some c_8]
    refine j_rune (pc := 24) (jr_V (pc := 24) hX kv_X3_73 (by first | assumption | exact jow.r (by assumption)) (c_X3_points _ _ _ hT hB k hk) (by decide) dX3_score_24 rfl rfl (Nat.le_of_ble_eq_true rfl)) ?_ jno_x
    refine j_goto (pc := 27) (tgt := 31) hX dX3_score_27 (by decide) ?_
    exact j_iret hX hQ hr dX3_score_31 ⟨_, rfl, ⟨hF, by simpa [scoreQ, c_8] using hT⟩, by simp [scoreQ, c_8]⟩
def hasQ (s : Nat → Nat) (x y : Int32) : Nat × Int32 := match slotN s x, slotN s y with | some a, some b => (0, jb ((aGv s b).testBit a)) | _, _ => (1, 0)
theorem c_X3_hasReference (l : Launch) (G : JG) (H : Heap) {g : Nat → Nat} {ar : Nat → Nat → Nat} {cm fs : Nat → Int32} (hT : jtw G H g ar cm fs) (hB : Bs (ar 0)) (x y : Int32) : JMet l yX3_hasReference (ws_ yX3_hasReference cX3_hasReference 3 (some .boolean)) 4 0 G H [.ref (g 100), .int x, .int y] (twQ G H g ar cm fs (hasQ (ar 0) x y)) (jno) := by
  refine JMet.of [(0, .inr (some (g 100))), (1, .inl (.int x)), (2, .inl (.int y))] (by decide) (Nat.le_of_ble_eq_true rfl) rfl (fun X hl hX hQ hEx hr hnm hH => ?_)
  subst hl
  obtain ⟨h0, ho, hs, hbf, hsv, hpa, hou, hip, hcm⟩ := id hT
  have hi2 : vp_in (2 : Int32) 93 := vp_in_nI (n := 2) (by omega) (by decide)
  obtain ⟨h2, hb, hf, hg⟩ := id hB
  first | refine j_aload_n (pc := 0) hX dX3_hasReference_0 rfl rfl ?_ | refine j_aload_nq (pc := 0) hX dX3_hasReference_0 rfl rfl ?_
  first | refine j_aload_n (pc := 1) hX dX3_hasReference_1 rfl rfl ?_ | refine j_aload_nq (pc := 1) hX dX3_hasReference_1 rfl rfl ?_
  refine j_iload_n (pc := 2) hX dX3_hasReference_2 rfl rfl ?_
  refine j_rune (pc := 3) (jr_V (pc := 3) hX kv_X3_103 (by first | assumption | exact jow.r (by assumption)) (c_X3_slotOf _ _ _ hT x) (by decide) dX3_hasReference_3 rfl rfl (Nat.le_of_ble_eq_true rfl)) ?_ jno_x
  refine j_if_lt (pc := 6) (tgt := 21) hX dX3_hasReference_6 (by decide) (fun c_6 => ?_) (fun c_6 => ?_)
  · rw [oI_neg' (fun _ => slotN_lt) (by omega)] at c_6
    refine j_iconst (pc := 21) (v := 0) hX dX3_hasReference_21 (by decide) ?_
    refine j_runi (pc := 22) (jr_V (pc := 22) hX kv_X3_119 (by first | assumption | exact jow.r (by assumption)) (c_X3_isThere _ _ _ hT _ rfl) (by decide) dX3_hasReference_22 rfl rfl (Nat.le_of_ble_eq_true rfl)) (fun r_22 H_22 p_22 z_22 => ?_) jno_x
    obtain ⟨⟨hF, hT⟩, rfl⟩ := p_22
    have ho := hT.2.1
    refine j_if_eq (pc := 25) (tgt := 41) hX dX3_hasReference_25 (by decide) (fun c_25 => ?_) (fun c_25 => ?_)
    rotate_left
    · first | exact absurd c_25 (by decide) | (change ¬ (0 : Int32) = 0 at c_25; exact absurd c_25 (by decide))
    refine j_iconst (pc := 41) (v := 0) hX dX3_hasReference_41 (by decide) ?_
    exact j_zret hX hQ hr (by first | rfl | exact jb_nar _ | exact nI_narC _ | assumption) dX3_hasReference_42 ⟨_, rfl, ⟨hF, by simpa [hasQ, givN, jb, c_6] using hT⟩, by simp [hasQ, givN, jb, c_6]⟩
  · rw [Int32.not_lt, oI_pos' (fun _ => slotN_lt) (by omega)] at c_6
    obtain ⟨a, c_6, ha⟩ := c_6
    first | refine j_aload_n (pc := 9) hX dX3_hasReference_9 rfl rfl ?_ | refine j_aload_nq (pc := 9) hX dX3_hasReference_9 rfl rfl ?_
    refine j_iload_n (pc := 10) hX dX3_hasReference_10 rfl rfl ?_
    refine j_rune (pc := 11) (jr_V (pc := 11) hX kv_X3_103 (by first | assumption | exact jow.r (by assumption)) (c_X3_slotOf _ _ _ hT y) (by decide) dX3_hasReference_11 rfl rfl (Nat.le_of_ble_eq_true rfl)) ?_ jno_x
    refine j_if_lt (pc := 14) (tgt := 21) hX dX3_hasReference_14 (by decide) (fun c_14 => ?_) (fun c_14 => ?_)
    · rw [oI_neg' (fun _ => slotN_lt) (by omega)] at c_14
      refine j_iconst (pc := 21) (v := 0) hX dX3_hasReference_21 (by decide) ?_
      refine j_runi (pc := 22) (jr_V (pc := 22) hX kv_X3_119 (by first | assumption | exact jow.r (by assumption)) (c_X3_isThere _ _ _ hT _ rfl) (by decide) dX3_hasReference_22 rfl rfl (Nat.le_of_ble_eq_true rfl)) (fun r_22 H_22 p_22 z_22 => ?_) jno_x
      obtain ⟨⟨hF, hT⟩, rfl⟩ := p_22
      have ho := hT.2.1
      refine j_if_eq (pc := 25) (tgt := 41) hX dX3_hasReference_25 (by decide) (fun c_25 => ?_) (fun c_25 => ?_)
      rotate_left
      · first | exact absurd c_25 (by decide) | (change ¬ (0 : Int32) = 0 at c_25; exact absurd c_25 (by decide))
      refine j_iconst (pc := 41) (v := 0) hX dX3_hasReference_41 (by decide) ?_
      exact j_zret hX hQ hr (by first | rfl | exact jb_nar _ | exact nI_narC _ | assumption) dX3_hasReference_42 ⟨_, rfl, ⟨hF, by simpa [hasQ, givN, jb, c_6, c_14] using hT⟩, by simp [hasQ, givN, jb, c_6, c_14]⟩
    · rw [Int32.not_lt, oI_pos' (fun _ => slotN_lt) (by omega)] at c_14
      obtain ⟨b, c_14, hb'⟩ := c_14
      refine j_iconst (pc := 17) (v := 1) hX dX3_hasReference_17 (by decide) ?_
      refine j_goto (pc := 18) (tgt := 22) hX dX3_hasReference_18 (by decide) ?_
      refine j_runi (pc := 22) (jr_V (pc := 22) hX kv_X3_119 (by first | assumption | exact jow.r (by assumption)) (c_X3_isThere _ _ _ hT _ rfl) (by decide) dX3_hasReference_22 rfl rfl (Nat.le_of_ble_eq_true rfl)) (fun r_22 H_22 p_22 z_22 => ?_) jno_x
      obtain ⟨⟨hF, hT⟩, rfl⟩ := p_22
      have ho := hT.2.1
      refine j_if_eq (pc := 25) (tgt := 41) hX dX3_hasReference_25 (by decide) (fun c_25 => ?_) (fun c_25 => ?_)
      · first | exact absurd c_25 (by decide) | (change (1 : Int32) = 0 at c_25; exact absurd c_25 (by decide))
      first | refine j_aload_n (pc := 28) hX dX3_hasReference_28 rfl rfl ?_ | refine j_aload_nq (pc := 28) hX dX3_hasReference_28 rfl rfl ?_
      refine j_iload_n (pc := 29) hX dX3_hasReference_29 rfl rfl ?_
      refine j_iload_n (pc := 30) hX dX3_hasReference_30 rfl rfl ?_
      refine j_rune (pc := 31) (jr_V (pc := 31) hX kv_X3_133 (by first | assumption | exact jow.r (by assumption)) (c_X3_isGiven _ _ _ hT hB x y) (by decide) dX3_hasReference_31 rfl rfl (Nat.le_of_ble_eq_true rfl)) ?_ jno_x
      refine j_if_eq (pc := 34) (tgt := 41) hX dX3_hasReference_34 (by decide) (fun c_34 => ?_) (fun c_34 => ?_)
      · rw [jb_z] at c_34
        simp only [givN, c_6, c_14] at c_34
        refine j_iconst (pc := 41) (v := 0) hX dX3_hasReference_41 (by decide) ?_
        exact j_zret hX hQ hr (by first | rfl | exact jb_nar _ | exact nI_narC _ | assumption) dX3_hasReference_42 ⟨_, rfl, ⟨hF, by simpa [hasQ, givN, jb, c_6, c_14, c_34] using hT⟩, by simp [hasQ, givN, jb, c_6, c_14, c_34]⟩
      · rw [jb_n] at c_34
        simp only [givN, c_6, c_14] at c_34
        refine j_iconst (pc := 37) (v := 1) hX dX3_hasReference_37 (by decide) ?_
        refine j_goto (pc := 38) (tgt := 42) hX dX3_hasReference_38 (by decide) ?_
        exact j_zret hX hQ hr (by first | rfl | exact jb_nar _ | exact nI_narC _ | assumption) dX3_hasReference_42 ⟨_, rfl, ⟨hF, by simpa [hasQ, givN, jb, c_6, c_14, c_34] using hT⟩, by simp [hasQ, givN, jb, c_6, c_14, c_34]⟩
def refForQ (s : Nat → Nat) (x : Int32) : Nat × Int32 := match slotN s x with | none => (1, 0) | some k => (0, nI (bitN (aGv s k)))
theorem c_X3_referencesFor (l : Launch) (G : JG) (H : Heap) {g : Nat → Nat} {ar : Nat → Nat → Nat} {cm fs : Nat → Int32} (hT : jtw G H g ar cm fs) (hB : Bs (ar 0)) (x : Int32) : JMet l yX3_referencesFor (ws_ yX3_referencesFor cX3_referencesFor 3 (some .int)) 3 0 G H [.ref (g 100), .int x] (twQ G H g ar cm fs (refForQ (ar 0) x)) (jno) := by
  refine JMet.of [(0, .inr (some (g 100))), (1, .inl (.int x))] (by decide) (Nat.le_of_ble_eq_true rfl) rfl (fun X hl hX hQ hEx hr hnm hH => ?_)
  subst hl
  obtain ⟨h0, ho, hs, hbf, hsv, hpa, hou, hip, hcm⟩ := id hT
  have hi2 : vp_in (2 : Int32) 93 := vp_in_nI (n := 2) (by omega) (by decide)
  obtain ⟨h2, hb, hf, hg⟩ := id hB
  first | refine j_aload_n (pc := 0) hX dX3_referencesFor_0 rfl rfl ?_ | refine j_aload_nq (pc := 0) hX dX3_referencesFor_0 rfl rfl ?_
  refine j_iload_n (pc := 1) hX dX3_referencesFor_1 rfl rfl ?_
  refine j_rune (pc := 2) (jr_V (pc := 2) hX kv_X3_103 (by first | assumption | exact jow.r (by assumption)) (c_X3_slotOf _ _ _ hT x) (by decide) dX3_referencesFor_2 rfl rfl (Nat.le_of_ble_eq_true rfl)) ?_ jno_x
  refine j_istore_n (pc := 5) hX dX3_referencesFor_5 rfl (by decide) rfl ?_
  first | refine j_aload_n (pc := 6) hX dX3_referencesFor_6 rfl rfl ?_ | refine j_aload_nq (pc := 6) hX dX3_referencesFor_6 rfl rfl ?_
  refine j_iload_n (pc := 7) hX dX3_referencesFor_7 rfl rfl ?_
  refine j_if_lt (pc := 8) (tgt := 15) hX dX3_referencesFor_8 (by decide) (fun c_8 => ?_) (fun c_8 => ?_)
  · rw [oI_neg' (fun _ => slotN_lt) (by omega)] at c_8
    refine j_iconst (pc := 15) (v := 0) hX dX3_referencesFor_15 (by decide) ?_
    refine j_runi (pc := 16) (jr_V (pc := 16) hX kv_X3_119 (by first | assumption | exact jow.r (by assumption)) (c_X3_isThere _ _ _ hT _ rfl) (by decide) dX3_referencesFor_16 rfl rfl (Nat.le_of_ble_eq_true rfl)) (fun r_16 H_16 p_16 z_16 => ?_) jno_x
    obtain ⟨⟨hF, hT⟩, rfl⟩ := p_16
    have ho := hT.2.1
    refine j_if_eq (pc := 19) (tgt := 34) hX dX3_referencesFor_19 (by decide) (fun c_19 => ?_) (fun c_19 => ?_)
    rotate_left
    · first | exact absurd c_19 (by decide) | (change ¬ (0 : Int32) = 0 at c_19; exact absurd c_19 (by decide))
    refine j_iconst (pc := 34) (v := 0) hX dX3_referencesFor_34 (by decide) ?_
    exact j_iret hX hQ hr dX3_referencesFor_35 ⟨_, rfl, ⟨hF, by simpa [refForQ, aGv, c_8] using hT⟩, by simp [refForQ, aGv, c_8]⟩
  · rw [Int32.not_lt, oI_pos' (fun _ => slotN_lt) (by omega)] at c_8
    obtain ⟨k, c_8, hk⟩ := c_8
    refine j_iconst (pc := 11) (v := 1) hX dX3_referencesFor_11 (by decide) ?_
    refine j_goto (pc := 12) (tgt := 16) hX dX3_referencesFor_12 (by decide) ?_
    refine j_runi (pc := 16) (jr_V (pc := 16) hX kv_X3_119 (by first | assumption | exact jow.r (by assumption)) (c_X3_isThere _ _ _ hT _ rfl) (by decide) dX3_referencesFor_16 rfl rfl (Nat.le_of_ble_eq_true rfl)) (fun r_16 H_16 p_16 z_16 => ?_) jno_x
    obtain ⟨⟨hF, hT⟩, rfl⟩ := p_16
    have ho := hT.2.1
    refine j_if_eq (pc := 19) (tgt := 34) hX dX3_referencesFor_19 (by decide) (fun c_19 => ?_) (fun c_19 => ?_)
    · first | exact absurd c_19 (by decide) | (change (1 : Int32) = 0 at c_19; exact absurd c_19 (by decide))
    first | refine j_aload_n (pc := 22) hX dX3_referencesFor_22 rfl rfl ?_ | refine j_aload_nq (pc := 22) hX dX3_referencesFor_22 rfl rfl ?_
    refine j_iload_n (pc := 23) hX dX3_referencesFor_23 rfl rfl ?_
    refine j_iconst (pc := 24) (v := 5) hX dX3_referencesFor_24 (by decide) ?_
    rw [oI_some c_8]
    refine j_rune (pc := 25) (jr_V (pc := 25) hX kv_X3_55 (by first | assumption | exact jow.r (by assumption)) (c_X3_of _ _ _ hT k 5 hk (by omega)) (by decide) dX3_referencesFor_25 rfl rfl (Nat.le_of_ble_eq_true rfl)) ?_ jno_x
    refine j_rune (pc := 28) (jr_S (pc := 28) hX ks_X3_70 (c_X3_bits _ _ _ _ (bsL hb (by omega))) (by decide) dX3_referencesFor_28 rfl rfl (Nat.le_of_ble_eq_true rfl)) ?_ jno_x
    refine j_goto (pc := 31) (tgt := 35) hX dX3_referencesFor_31 (by decide) ?_
    exact j_iret hX hQ hr dX3_referencesFor_35 ⟨_, rfl, ⟨hF, by simpa [refForQ, aGv, c_8] using hT⟩, by simp [refForQ, aGv, c_8]⟩
theorem c_X3_postCount (l : Launch) (G : JG) (H : Heap) {g : Nat → Nat} {ar : Nat → Nat → Nat} {cm fs : Nat → Int32} (hT : jtw G H g ar cm fs) (hB : Bs (ar 0)) : JMet l yX3_postCount (ws_ yX3_postCount cX3_postCount 1 (some .int)) 1 0 G H [.ref (g 100)] (twQ G H g ar cm fs (0, nI (ar 0 2))) (jno) := by
  refine JMet.of [(0, .inr (some (g 100)))] (by decide) (Nat.le_of_ble_eq_true rfl) rfl (fun X hl hX hQ hEx hr hnm hH => ?_)
  subst hl
  obtain ⟨h0, ho, hs, hbf, hsv, hpa, hou, hip, hcm⟩ := id hT
  have hi2 : vp_in (2 : Int32) 93 := vp_in_nI (n := 2) (by omega) (by decide)
  obtain ⟨h2, hb, hf, hg⟩ := id hB
  first | refine j_aload_n (pc := 0) hX dX3_postCount_0 rfl rfl ?_ | refine j_aload_nq (pc := 0) hX dX3_postCount_0 rfl rfl ?_
  refine j_iconst (pc := 1) (v := 0) hX dX3_postCount_1 (by decide) ?_
  refine j_put (pc := 2) hX kp_X3_39 dX3_postCount_2 (by assumption) (by first | assumption | omega | exact h0.1 _ (by decide)) rfl rfl rfl (fun H_2 w_2 n_2 => ?_)
  have hT := tw_put6 hT w_2 n_2
  have ho := hT.2.1
  have hF : JFr (twP g) H H_2 := w_2.fr ⟨100, by decide, rfl⟩
  obtain ⟨-, -, hs, -⟩ := id hT
  first | refine j_aload_n (pc := 5) hX dX3_postCount_5 rfl rfl ?_ | refine j_aload_nq (pc := 5) hX dX3_postCount_5 rfl rfl ?_
  refine j_get (pc := 6) hX kg_X3_9 dX3_postCount_6 (by first | assumption | exact jow.r (by assumption)) (by rfl) ?_
  refine j_iconst (pc := 9) (v := 2) hX dX3_postCount_9 (by decide) ?_
  refine j_iald (pc := 10) hX dX3_postCount_10 (by first | assumption | exact jaw.r hX (by decide) (by assumption)) (by assumption) ?_
  exact j_iret hX hQ hr dX3_postCount_11 ⟨_, rfl, ⟨hF, hT⟩, fun _ => rfl⟩
theorem c_X3_vacantCount (l : Launch) (G : JG) (H : Heap) {g : Nat → Nat} {ar : Nat → Nat → Nat} {cm fs : Nat → Int32} (hT : jtw G H g ar cm fs) (hB : Bs (ar 0)) : JMet l yX3_vacantCount (ws_ yX3_vacantCount cX3_vacantCount 1 (some .int)) 3 0 G H [.ref (g 100)] (twQ G H g ar cm fs (0, nI (vacN (ar 0)))) (jno) := by
  refine JMet.of [(0, .inr (some (g 100)))] (by decide) (Nat.le_of_ble_eq_true rfl) rfl (fun X hl hX hQ hEx hr hnm hH => ?_)
  subst hl
  obtain ⟨h0, ho, hs, hbf, hsv, hpa, hou, hip, hcm⟩ := id hT
  have hi2 : vp_in (2 : Int32) 93 := vp_in_nI (n := 2) (by omega) (by decide)
  obtain ⟨h2, hb, hf, hg⟩ := id hB
  first | refine j_aload_n (pc := 0) hX dX3_vacantCount_0 rfl rfl ?_ | refine j_aload_nq (pc := 0) hX dX3_vacantCount_0 rfl rfl ?_
  refine j_iconst (pc := 1) (v := 0) hX dX3_vacantCount_1 (by decide) ?_
  refine j_put (pc := 2) hX kp_X3_39 dX3_vacantCount_2 (by assumption) (by first | assumption | omega | exact h0.1 _ (by decide)) rfl rfl rfl (fun H_2 w_2 n_2 => ?_)
  have hT := tw_put6 hT w_2 n_2
  have ho := hT.2.1
  have hF : JFr (twP g) H H_2 := w_2.fr ⟨100, by decide, rfl⟩
  obtain ⟨-, -, hs, -⟩ := id hT
  first | refine j_aload_n (pc := 5) hX dX3_vacantCount_5 rfl rfl ?_ | refine j_aload_nq (pc := 5) hX dX3_vacantCount_5 rfl rfl ?_
  refine j_rune (pc := 6) (jr_V (pc := 6) hX kv_X3_149 (by first | assumption | exact jow.r (by assumption)) (c_X3_vacancies _ _ _ hT hB) (by decide) dX3_vacantCount_6 rfl rfl (Nat.le_of_ble_eq_true rfl)) ?_ jno_x
  exact j_iret hX hQ hr dX3_vacantCount_9 ⟨_, rfl, ⟨hF, hT⟩, fun _ => rfl⟩
theorem c_X3_day (l : Launch) (G : JG) (H : Heap) {g : Nat → Nat} {ar : Nat → Nat → Nat} {cm fs : Nat → Int32} (hT : jtw G H g ar cm fs) (hB : Bs (ar 0)) : JMet l yX3_day (ws_ yX3_day cX3_day 1 (some .int)) 1 0 G H [.ref (g 100)] (twQ G H g ar cm fs (0, nI (ar 0 1))) (jno) := by
  refine JMet.of [(0, .inr (some (g 100)))] (by decide) (Nat.le_of_ble_eq_true rfl) rfl (fun X hl hX hQ hEx hr hnm hH => ?_)
  subst hl
  obtain ⟨h0, ho, hs, hbf, hsv, hpa, hou, hip, hcm⟩ := id hT
  have hi2 : vp_in (2 : Int32) 93 := vp_in_nI (n := 2) (by omega) (by decide)
  obtain ⟨h2, hb, hf, hg⟩ := id hB
  have hi1 : vp_in (1 : Int32) 93 := vp_in_nI (n := 1) (by omega) (by decide)
  first | refine j_aload_n (pc := 0) hX dX3_day_0 rfl rfl ?_ | refine j_aload_nq (pc := 0) hX dX3_day_0 rfl rfl ?_
  refine j_iconst (pc := 1) (v := 0) hX dX3_day_1 (by decide) ?_
  refine j_put (pc := 2) hX kp_X3_39 dX3_day_2 (by assumption) (by first | assumption | omega | exact h0.1 _ (by decide)) rfl rfl rfl (fun H_2 w_2 n_2 => ?_)
  have hT := tw_put6 hT w_2 n_2
  have ho := hT.2.1
  have hF : JFr (twP g) H H_2 := w_2.fr ⟨100, by decide, rfl⟩
  obtain ⟨-, -, hs, -⟩ := id hT
  first | refine j_aload_n (pc := 5) hX dX3_day_5 rfl rfl ?_ | refine j_aload_nq (pc := 5) hX dX3_day_5 rfl rfl ?_
  refine j_get (pc := 6) hX kg_X3_9 dX3_day_6 (by first | assumption | exact jow.r (by assumption)) (by rfl) ?_
  refine j_iconst (pc := 9) (v := 1) hX dX3_day_9 (by decide) ?_
  refine j_iald (pc := 10) hX dX3_day_10 (by first | assumption | exact jaw.r hX (by decide) (by assumption)) (by assumption) ?_
  exact j_iret hX hQ hr dX3_day_11 ⟨_, rfl, ⟨hF, hT⟩, fun _ => rfl⟩
theorem c_X3_isConsistent (l : Launch) (G : JG) (H : Heap) {g : Nat → Nat} {ar : Nat → Nat → Nat} {cm fs : Nat → Int32} (hT : jtw G H g ar cm fs) (hB : Bs (ar 0)) : JMet l yX3_isConsistent (ws_ yX3_isConsistent cX3_isConsistent 1 (some .boolean)) 1 0 G H [.ref (g 100)] (twQ G H g ar cm fs (0, 1)) (jno) := by
  refine JMet.of [(0, .inr (some (g 100)))] (by decide) (Nat.le_of_ble_eq_true rfl) rfl (fun X hl hX hQ hEx hr hnm hH => ?_)
  subst hl
  obtain ⟨h0, ho, hs, hbf, hsv, hpa, hou, hip, hcm⟩ := id hT
  have hi2 : vp_in (2 : Int32) 93 := vp_in_nI (n := 2) (by omega) (by decide)
  obtain ⟨h2, hb, hf, hg⟩ := id hB
  first | refine j_aload_n (pc := 0) hX dX3_isConsistent_0 rfl rfl ?_ | refine j_aload_nq (pc := 0) hX dX3_isConsistent_0 rfl rfl ?_
  refine j_iconst (pc := 1) (v := 0) hX dX3_isConsistent_1 (by decide) ?_
  refine j_put (pc := 2) hX kp_X3_39 dX3_isConsistent_2 (by assumption) (by first | assumption | omega | exact h0.1 _ (by decide)) rfl rfl rfl (fun H_2 w_2 n_2 => ?_)
  have hT := tw_put6 hT w_2 n_2
  have ho := hT.2.1
  have hF : JFr (twP g) H H_2 := w_2.fr ⟨100, by decide, rfl⟩
  obtain ⟨-, -, hs, -⟩ := id hT
  refine j_iconst (pc := 5) (v := 1) hX dX3_isConsistent_5 (by decide) ?_
  exact j_zret hX hQ hr (by first | rfl | exact jb_nar _ | exact nI_narC _ | assumption) dX3_isConsistent_6 ⟨_, rfl, ⟨hF, hT⟩, fun _ => rfl⟩
/-- a post's index -/
def postN (s : Nat → Nat) (x : Int32) : Option Nat := if 0 ≤ x ∧ x ≤ nI (s 2) - 1 then some x.toNatClampNeg else none
theorem postN_some {s : Nat → Nat} {x : Int32} (h2 : s 2 ≤ 6) (h : (decide (0 ≤ x) && decide (x ≤ nI (s 2) - 1)) = true) : ∃ p, postN s x = some p ∧ p < s 2 ∧ x = nI p := by
  simp only [Bool.and_eq_true, decide_eq_true_eq] at h
  obtain ⟨p, hp, rfl⟩ := nI_of (Int32.not_lt.mpr h.1)
  refine ⟨p, ?_, ?_, rfl⟩
  · rw [postN, if_pos h, nI_clamp hp]
  · rcases Nat.eq_zero_or_pos (s 2) with e | e
    · rw [e] at h
      exact absurd (Int32.le_trans h.1 h.2) (by decide)
    · obtain ⟨n, hn⟩ : ∃ n, s 2 = n + 1 := ⟨s 2 - 1, by omega⟩
      have q := h.2
      rw [hn, nI_pred, nI_leI hp (by omega)] at q
      omega
theorem postN_none {s : Nat → Nat} {x : Int32} (h : (decide (0 ≤ x) && decide (x ≤ nI (s 2) - 1)) = false) : postN s x = none := by
  rw [postN, if_neg (fun q => by simp [q] at h)]
theorem postN_lt {s : Nat → Nat} {x : Int32} {p : Nat} (h2 : s 2 ≤ 6) (h : postN s x = some p) : p < s 2 := by
  unfold postN at h
  split at h
  · next e =>
    obtain ⟨q, e1, e2, -⟩ := postN_some (s := s) (x := x) h2 (by simp [e])
    rw [postN, if_pos e] at e1
    rw [e1] at h; cases h; exact e2
  · cases h
theorem postN_is {s : Nat → Nat} {x : Int32} : (decide (0 ≤ x) && decide (x ≤ nI (s 2) - 1)) = (postN s x).isSome := by
  unfold postN
  split
  · next h => simp [h]
  · next h => simp only [Option.isSome_none, Bool.and_eq_false_iff, decide_eq_false_iff_not]; exact Decidable.or_iff_not_not_and_not.mpr (fun q => h ⟨Decidable.not_not.mp q.1, Decidable.not_not.mp q.2⟩)
theorem postN_ex {s : Nat → Nat} {x : Int32} {p : Nat} (h2 : s 2 ≤ 6) (h : postN s x = some p) : p < s 2 ∧ x = nI p := by
  have e : (decide (0 ≤ x) && decide (x ≤ nI (s 2) - 1)) = true := by rw [postN_is, h]; rfl
  obtain ⟨q, e1, e2, e3⟩ := postN_some h2 e
  rw [h] at e1; cases e1
  exact ⟨e2, e3⟩
theorem c_X3_isP (l : Launch) (G : JG) (H : Heap) {g : Nat → Nat} {ar : Nat → Nat → Nat} {cm fs : Nat → Int32} (hT : jtw G H g ar cm fs) (x : Int32) : JMet l yX3_isPost (ws_ yX3_isPost cX3_isPost 2 (some .boolean)) 2 0 G H [.ref (g 100), .int x] (jpe H (jb (postN (ar 0) x).isSome)) jno := by
  rw [← postN_is]; exact c_X3_isPost l G H hT x
def lowestWhitenessQ (s : Nat → Nat) (x : Int32) : Nat × Int32 := match postN s x with | none => (1, 0) | some p => (0, nI (pLo s p))
theorem c_X3_lowestWhiteness (l : Launch) (G : JG) (H : Heap) {g : Nat → Nat} {ar : Nat → Nat → Nat} {cm fs : Nat → Int32} (hT : jtw G H g ar cm fs) (hB : Bs (ar 0)) (x : Int32) : JMet l yX3_lowestWhiteness (ws_ yX3_lowestWhiteness cX3_lowestWhiteness 2 (some .int)) 3 0 G H [.ref (g 100), .int x] (twQ G H g ar cm fs (lowestWhitenessQ (ar 0) x)) (jno) := by
  refine JMet.of [(0, .inr (some (g 100))), (1, .inl (.int x))] (by decide) (Nat.le_of_ble_eq_true rfl) rfl (fun X hl hX hQ hEx hr hnm hH => ?_)
  subst hl
  obtain ⟨h0, ho, hs, hbf, hsv, hpa, hou, hip, hcm⟩ := id hT
  have hi2 : vp_in (2 : Int32) 93 := vp_in_nI (n := 2) (by omega) (by decide)
  obtain ⟨h2, hb, hf, hg⟩ := id hB
  first | refine j_aload_n (pc := 0) hX dX3_lowestWhiteness_0 rfl rfl ?_ | refine j_aload_nq (pc := 0) hX dX3_lowestWhiteness_0 rfl rfl ?_
  first | refine j_aload_n (pc := 1) hX dX3_lowestWhiteness_1 rfl rfl ?_ | refine j_aload_nq (pc := 1) hX dX3_lowestWhiteness_1 rfl rfl ?_
  refine j_iload_n (pc := 2) hX dX3_lowestWhiteness_2 rfl rfl ?_
  refine j_rune (pc := 3) (jr_V (pc := 3) hX kv_X3_143 (by first | assumption | exact jow.r (by assumption)) (c_X3_isP _ _ _ hT x) (by decide) dX3_lowestWhiteness_3 rfl rfl (Nat.le_of_ble_eq_true rfl)) ?_ jno_x
  refine j_runi (pc := 6) (jr_V (pc := 6) hX kv_X3_119 (by first | assumption | exact jow.r (by assumption)) (c_X3_isThere _ _ _ hT _ (jb_nar _)) (by decide) dX3_lowestWhiteness_6 rfl rfl (Nat.le_of_ble_eq_true rfl)) (fun r_6 H_6 p_6 z_6 => ?_) jno_x
  obtain ⟨⟨hF, hT⟩, rfl⟩ := p_6
  have ho := hT.2.1
  refine j_if_eq (pc := 9) (tgt := 21) hX dX3_lowestWhiteness_9 (by decide) (fun c_9 => ?_) (fun c_9 => ?_)
  · rw [jb_z, Option.isSome_eq_false_iff, Option.isNone_iff_eq_none] at c_9
    refine j_iconst (pc := 21) (v := 0) hX dX3_lowestWhiteness_21 (by decide) ?_
    exact j_iret hX hQ hr dX3_lowestWhiteness_22 ⟨_, rfl, ⟨hF, by simpa [lowestWhitenessQ, jb, c_9] using hT⟩, by simp [lowestWhitenessQ, jb, c_9]⟩
  · rw [jb_n, Option.isSome_iff_exists] at c_9
    obtain ⟨p, c_9⟩ := c_9
    obtain ⟨hp, ex⟩ := postN_ex h2 c_9
    first | refine j_aload_n (pc := 12) hX dX3_lowestWhiteness_12 rfl rfl ?_ | refine j_aload_nq (pc := 12) hX dX3_lowestWhiteness_12 rfl rfl ?_
    refine j_iload_n (pc := 13) hX dX3_lowestWhiteness_13 rfl rfl ?_
    refine j_iconst (pc := 14) (v := 1) hX dX3_lowestWhiteness_14 (by decide) ?_
    rw [ex]
    refine j_rune (pc := 15) (jr_V (pc := 15) hX kv_X3_59 (by first | assumption | exact jow.r (by assumption)) (c_X3_ofPost _ _ _ hT p 1 (by omega) (by omega)) (by decide) dX3_lowestWhiteness_15 rfl rfl (Nat.le_of_ble_eq_true rfl)) ?_ jno_x
    refine j_goto (pc := 18) (tgt := 22) hX dX3_lowestWhiteness_18 (by decide) ?_
    exact j_iret hX hQ hr dX3_lowestWhiteness_22 ⟨_, rfl, ⟨hF, by simpa [lowestWhitenessQ, jb, c_9] using hT⟩, by simp [lowestWhitenessQ, jb, c_9]⟩
def highestRainQ (s : Nat → Nat) (x : Int32) : Nat × Int32 := match postN s x with | none => (1, 0) | some p => (0, nI (pHi s p))
theorem c_X3_highestRain (l : Launch) (G : JG) (H : Heap) {g : Nat → Nat} {ar : Nat → Nat → Nat} {cm fs : Nat → Int32} (hT : jtw G H g ar cm fs) (hB : Bs (ar 0)) (x : Int32) : JMet l yX3_highestRain (ws_ yX3_highestRain cX3_highestRain 2 (some .int)) 3 0 G H [.ref (g 100), .int x] (twQ G H g ar cm fs (highestRainQ (ar 0) x)) (jno) := by
  refine JMet.of [(0, .inr (some (g 100))), (1, .inl (.int x))] (by decide) (Nat.le_of_ble_eq_true rfl) rfl (fun X hl hX hQ hEx hr hnm hH => ?_)
  subst hl
  obtain ⟨h0, ho, hs, hbf, hsv, hpa, hou, hip, hcm⟩ := id hT
  have hi2 : vp_in (2 : Int32) 93 := vp_in_nI (n := 2) (by omega) (by decide)
  obtain ⟨h2, hb, hf, hg⟩ := id hB
  first | refine j_aload_n (pc := 0) hX dX3_highestRain_0 rfl rfl ?_ | refine j_aload_nq (pc := 0) hX dX3_highestRain_0 rfl rfl ?_
  first | refine j_aload_n (pc := 1) hX dX3_highestRain_1 rfl rfl ?_ | refine j_aload_nq (pc := 1) hX dX3_highestRain_1 rfl rfl ?_
  refine j_iload_n (pc := 2) hX dX3_highestRain_2 rfl rfl ?_
  refine j_rune (pc := 3) (jr_V (pc := 3) hX kv_X3_143 (by first | assumption | exact jow.r (by assumption)) (c_X3_isP _ _ _ hT x) (by decide) dX3_highestRain_3 rfl rfl (Nat.le_of_ble_eq_true rfl)) ?_ jno_x
  refine j_runi (pc := 6) (jr_V (pc := 6) hX kv_X3_119 (by first | assumption | exact jow.r (by assumption)) (c_X3_isThere _ _ _ hT _ (jb_nar _)) (by decide) dX3_highestRain_6 rfl rfl (Nat.le_of_ble_eq_true rfl)) (fun r_6 H_6 p_6 z_6 => ?_) jno_x
  obtain ⟨⟨hF, hT⟩, rfl⟩ := p_6
  have ho := hT.2.1
  refine j_if_eq (pc := 9) (tgt := 21) hX dX3_highestRain_9 (by decide) (fun c_9 => ?_) (fun c_9 => ?_)
  · rw [jb_z, Option.isSome_eq_false_iff, Option.isNone_iff_eq_none] at c_9
    refine j_iconst (pc := 21) (v := 0) hX dX3_highestRain_21 (by decide) ?_
    exact j_iret hX hQ hr dX3_highestRain_22 ⟨_, rfl, ⟨hF, by simpa [highestRainQ, jb, c_9] using hT⟩, by simp [highestRainQ, jb, c_9]⟩
  · rw [jb_n, Option.isSome_iff_exists] at c_9
    obtain ⟨p, c_9⟩ := c_9
    obtain ⟨hp, ex⟩ := postN_ex h2 c_9
    first | refine j_aload_n (pc := 12) hX dX3_highestRain_12 rfl rfl ?_ | refine j_aload_nq (pc := 12) hX dX3_highestRain_12 rfl rfl ?_
    refine j_iload_n (pc := 13) hX dX3_highestRain_13 rfl rfl ?_
    refine j_iconst (pc := 14) (v := 2) hX dX3_highestRain_14 (by decide) ?_
    rw [ex]
    refine j_rune (pc := 15) (jr_V (pc := 15) hX kv_X3_59 (by first | assumption | exact jow.r (by assumption)) (c_X3_ofPost _ _ _ hT p 2 (by omega) (by omega)) (by decide) dX3_highestRain_15 rfl rfl (Nat.le_of_ble_eq_true rfl)) ?_ jno_x
    refine j_goto (pc := 18) (tgt := 22) hX dX3_highestRain_18 (by decide) ?_
    exact j_iret hX hQ hr dX3_highestRain_22 ⟨_, rfl, ⟨hF, by simpa [highestRainQ, jb, c_9] using hT⟩, by simp [highestRainQ, jb, c_9]⟩
def wageQ (s : Nat → Nat) (x : Int32) : Nat × Int32 := match postN s x with | none => (1, 0) | some p => (0, nI (pWg s p))
theorem c_X3_wage (l : Launch) (G : JG) (H : Heap) {g : Nat → Nat} {ar : Nat → Nat → Nat} {cm fs : Nat → Int32} (hT : jtw G H g ar cm fs) (hB : Bs (ar 0)) (x : Int32) : JMet l yX3_wage (ws_ yX3_wage cX3_wage 2 (some .int)) 3 0 G H [.ref (g 100), .int x] (twQ G H g ar cm fs (wageQ (ar 0) x)) (jno) := by
  refine JMet.of [(0, .inr (some (g 100))), (1, .inl (.int x))] (by decide) (Nat.le_of_ble_eq_true rfl) rfl (fun X hl hX hQ hEx hr hnm hH => ?_)
  subst hl
  obtain ⟨h0, ho, hs, hbf, hsv, hpa, hou, hip, hcm⟩ := id hT
  have hi2 : vp_in (2 : Int32) 93 := vp_in_nI (n := 2) (by omega) (by decide)
  obtain ⟨h2, hb, hf, hg⟩ := id hB
  first | refine j_aload_n (pc := 0) hX dX3_wage_0 rfl rfl ?_ | refine j_aload_nq (pc := 0) hX dX3_wage_0 rfl rfl ?_
  first | refine j_aload_n (pc := 1) hX dX3_wage_1 rfl rfl ?_ | refine j_aload_nq (pc := 1) hX dX3_wage_1 rfl rfl ?_
  refine j_iload_n (pc := 2) hX dX3_wage_2 rfl rfl ?_
  refine j_rune (pc := 3) (jr_V (pc := 3) hX kv_X3_143 (by first | assumption | exact jow.r (by assumption)) (c_X3_isP _ _ _ hT x) (by decide) dX3_wage_3 rfl rfl (Nat.le_of_ble_eq_true rfl)) ?_ jno_x
  refine j_runi (pc := 6) (jr_V (pc := 6) hX kv_X3_119 (by first | assumption | exact jow.r (by assumption)) (c_X3_isThere _ _ _ hT _ (jb_nar _)) (by decide) dX3_wage_6 rfl rfl (Nat.le_of_ble_eq_true rfl)) (fun r_6 H_6 p_6 z_6 => ?_) jno_x
  obtain ⟨⟨hF, hT⟩, rfl⟩ := p_6
  have ho := hT.2.1
  refine j_if_eq (pc := 9) (tgt := 21) hX dX3_wage_9 (by decide) (fun c_9 => ?_) (fun c_9 => ?_)
  · rw [jb_z, Option.isSome_eq_false_iff, Option.isNone_iff_eq_none] at c_9
    refine j_iconst (pc := 21) (v := 0) hX dX3_wage_21 (by decide) ?_
    exact j_iret hX hQ hr dX3_wage_22 ⟨_, rfl, ⟨hF, by simpa [wageQ, jb, c_9] using hT⟩, by simp [wageQ, jb, c_9]⟩
  · rw [jb_n, Option.isSome_iff_exists] at c_9
    obtain ⟨p, c_9⟩ := c_9
    obtain ⟨hp, ex⟩ := postN_ex h2 c_9
    first | refine j_aload_n (pc := 12) hX dX3_wage_12 rfl rfl ?_ | refine j_aload_nq (pc := 12) hX dX3_wage_12 rfl rfl ?_
    refine j_iload_n (pc := 13) hX dX3_wage_13 rfl rfl ?_
    refine j_iconst (pc := 14) (v := 3) hX dX3_wage_14 (by decide) ?_
    rw [ex]
    refine j_rune (pc := 15) (jr_V (pc := 15) hX kv_X3_59 (by first | assumption | exact jow.r (by assumption)) (c_X3_ofPost _ _ _ hT p 3 (by omega) (by omega)) (by decide) dX3_wage_15 rfl rfl (Nat.le_of_ble_eq_true rfl)) ?_ jno_x
    refine j_goto (pc := 18) (tgt := 22) hX dX3_wage_18 (by decide) ?_
    exact j_iret hX hQ hr dX3_wage_22 ⟨_, rfl, ⟨hF, by simpa [wageQ, jb, c_9] using hT⟩, by simp [wageQ, jb, c_9]⟩
def filledByQ (s : Nat → Nat) (x : Int32) : Nat × Int32 := match postN s x with | none => (1, 0) | some p => if pFl s p = 0 then (2, 0) else (0, nI (aId s (pFl s p - 1)) - 1)
theorem c_X3_filledBy (l : Launch) (G : JG) (H : Heap) {g : Nat → Nat} {ar : Nat → Nat → Nat} {cm fs : Nat → Int32} (hT : jtw G H g ar cm fs) (hB : Bs (ar 0)) (x : Int32) : JMet l yX3_filledBy (ws_ yX3_filledBy cX3_filledBy 2 (some .int)) 3 0 G H [.ref (g 100), .int x] (twQ G H g ar cm fs (filledByQ (ar 0) x)) (jno) := by
  refine JMet.of [(0, .inr (some (g 100))), (1, .inl (.int x))] (by decide) (Nat.le_of_ble_eq_true rfl) rfl (fun X hl hX hQ hEx hr hnm hH => ?_)
  subst hl
  obtain ⟨h0, ho, hs, hbf, hsv, hpa, hou, hip, hcm⟩ := id hT
  have hi2 : vp_in (2 : Int32) 93 := vp_in_nI (n := 2) (by omega) (by decide)
  obtain ⟨h2, hb, hf, hg⟩ := id hB
  first | refine j_aload_n (pc := 0) hX dX3_filledBy_0 rfl rfl ?_ | refine j_aload_nq (pc := 0) hX dX3_filledBy_0 rfl rfl ?_
  first | refine j_aload_n (pc := 1) hX dX3_filledBy_1 rfl rfl ?_ | refine j_aload_nq (pc := 1) hX dX3_filledBy_1 rfl rfl ?_
  refine j_iload_n (pc := 2) hX dX3_filledBy_2 rfl rfl ?_
  refine j_rune (pc := 3) (jr_V (pc := 3) hX kv_X3_143 (by first | assumption | exact jow.r (by assumption)) (c_X3_isP _ _ _ hT x) (by decide) dX3_filledBy_3 rfl rfl (Nat.le_of_ble_eq_true rfl)) ?_ jno_x
  refine j_if_ne (pc := 6) (tgt := 13) hX dX3_filledBy_6 (by decide) (fun c_6 => ?_) (fun c_6 => ?_)
  · rw [jb_n, Option.isSome_iff_exists] at c_6
    obtain ⟨p, c_6⟩ := c_6
    obtain ⟨hp, ex⟩ := postN_ex h2 c_6
    first | refine j_aload_n (pc := 13) hX dX3_filledBy_13 rfl rfl ?_ | refine j_aload_nq (pc := 13) hX dX3_filledBy_13 rfl rfl ?_
    refine j_iload_n (pc := 14) hX dX3_filledBy_14 rfl rfl ?_
    refine j_iconst (pc := 15) (v := 4) hX dX3_filledBy_15 (by decide) ?_
    rw [ex]
    refine j_rune (pc := 16) (jr_V (pc := 16) hX kv_X3_59 (by first | assumption | exact jow.r (by assumption)) (c_X3_ofPost _ _ _ hT p 4 (by omega) (by omega)) (by decide) dX3_filledBy_16 rfl rfl (Nat.le_of_ble_eq_true rfl)) ?_ jno_x
    refine j_if_ne (pc := 19) (tgt := 26) hX dX3_filledBy_19 (by decide) (fun c_19 => ?_) (fun c_19 => ?_)
    · rw [nI_eq0 (bsL hb (by omega))] at c_19
      have c_19' := hf p (by omega)
      obtain ⟨z, hz⟩ : ∃ z, ar 0 (63 + 5 * p + 4) = z + 1 := ⟨ar 0 (63 + 5 * p + 4) - 1, by omega⟩
      refine j_iconst (pc := 26) (v := 0) hX dX3_filledBy_26 (by decide) ?_
      refine j_put (pc := 27) hX kp_X3_39 dX3_filledBy_27 (by assumption) (by first | assumption | omega | exact h0.1 _ (by decide)) rfl rfl rfl (fun H_27 w_27 n_27 => ?_)
      have hT := tw_put6 hT w_27 n_27
      have ho := hT.2.1
      have hF : JFr (twP g) H H_27 := w_27.fr ⟨100, by decide, rfl⟩
      first | refine j_aload_n (pc := 30) hX dX3_filledBy_30 rfl rfl ?_ | refine j_aload_nq (pc := 30) hX dX3_filledBy_30 rfl rfl ?_
      refine j_get (pc := 31) hX kg_X3_39 dX3_filledBy_31 (by first | assumption | exact jow.r (by assumption)) (by rfl) ?_
      refine j_if_le (pc := 34) (tgt := 41) hX dX3_filledBy_34 (by decide) (fun c_34 => ?_) (fun c_34 => ?_)
      rotate_left
      · first | exact absurd c_34 (by decide) | (change ¬ (0 : Int32) ≤ 0 at c_34; exact absurd c_34 (by decide))
      first | refine j_aload_n (pc := 41) hX dX3_filledBy_41 rfl rfl ?_ | refine j_aload_nq (pc := 41) hX dX3_filledBy_41 rfl rfl ?_
      first | refine j_aload_n (pc := 42) hX dX3_filledBy_42 rfl rfl ?_ | refine j_aload_nq (pc := 42) hX dX3_filledBy_42 rfl rfl ?_
      refine j_iload_n (pc := 43) hX dX3_filledBy_43 rfl rfl ?_
      refine j_iconst (pc := 44) (v := 4) hX dX3_filledBy_44 (by decide) ?_
      refine j_rune (pc := 45) (jr_V (pc := 45) hX kv_X3_59 (by first | assumption | exact jow.r (by assumption)) (c_X3_ofPost _ _ _ hT p 4 (by omega) (by omega)) (by decide) dX3_filledBy_45 rfl rfl (Nat.le_of_ble_eq_true rfl)) ?_ jno_x
      refine j_iconst (pc := 48) (v := 1) hX dX3_filledBy_48 (by decide) ?_
      refine j_isub (pc := 49) hX dX3_filledBy_49 ?_
      rw [hz, nI_pred]
      refine j_rune (pc := 50) (jr_V (pc := 50) hX kv_X3_76 (by first | assumption | exact jow.r (by assumption)) (c_X3_idOf _ _ _ hT z (by unfold pFl at c_19'; omega)) (by decide) dX3_filledBy_50 rfl rfl (Nat.le_of_ble_eq_true rfl)) ?_ jno_x
      exact j_iret hX hQ hr dX3_filledBy_53 ⟨_, rfl, ⟨hF, by first | simpa [filledByQ, nI_0, nI_l1, nI_l2, pFl, c_6, c_19] using hT | simpa [filledByQ, nI_0, nI_l1, nI_l2, pFl, hz, c_6, c_19] using hT⟩, by first | (simp [filledByQ, pFl, c_6, c_19]; done) | simp [filledByQ, pFl, hz, c_6, c_19]⟩
    · rw [nI_eq0 (bsL hb (by omega))] at c_19
      refine j_iconst (pc := 22) (v := 2) hX dX3_filledBy_22 (by decide) ?_
      refine j_goto (pc := 23) (tgt := 27) hX dX3_filledBy_23 (by decide) ?_
      refine j_put (pc := 27) hX kp_X3_39 dX3_filledBy_27 (by assumption) (by first | assumption | omega | exact h0.1 _ (by decide)) rfl rfl rfl (fun H_27 w_27 n_27 => ?_)
      have hT := tw_put6 hT w_27 n_27
      have ho := hT.2.1
      have hF : JFr (twP g) H H_27 := w_27.fr ⟨100, by decide, rfl⟩
      first | refine j_aload_n (pc := 30) hX dX3_filledBy_30 rfl rfl ?_ | refine j_aload_nq (pc := 30) hX dX3_filledBy_30 rfl rfl ?_
      refine j_get (pc := 31) hX kg_X3_39 dX3_filledBy_31 (by first | assumption | exact jow.r (by assumption)) (by rfl) ?_
      refine j_if_le (pc := 34) (tgt := 41) hX dX3_filledBy_34 (by decide) (fun c_34 => ?_) (fun c_34 => ?_)
      · first | exact absurd c_34 (by decide) | (change (2 : Int32) ≤ 0 at c_34; exact absurd c_34 (by decide))
      refine j_iconst (pc := 37) (v := 0) hX dX3_filledBy_37 (by decide) ?_
      refine j_goto (pc := 38) (tgt := 53) hX dX3_filledBy_38 (by decide) ?_
      exact j_iret hX hQ hr dX3_filledBy_53 ⟨_, rfl, ⟨hF, by first | simpa [filledByQ, nI_0, nI_l1, nI_l2, pFl, c_6, c_19] using hT | simpa [filledByQ, nI_0, nI_l1, nI_l2, pFl, hz, c_6, c_19] using hT⟩, by first | (simp [filledByQ, pFl, c_6, c_19]; done) | simp [filledByQ, pFl, hz, c_6, c_19]⟩
  · rw [jb_z, Option.isSome_eq_false_iff, Option.isNone_iff_eq_none] at c_6
    refine j_iconst (pc := 9) (v := 1) hX dX3_filledBy_9 (by decide) ?_
    refine j_goto (pc := 10) (tgt := 27) hX dX3_filledBy_10 (by decide) ?_
    refine j_put (pc := 27) hX kp_X3_39 dX3_filledBy_27 (by assumption) (by first | assumption | omega | exact h0.1 _ (by decide)) rfl rfl rfl (fun H_27 w_27 n_27 => ?_)
    have hT := tw_put6 hT w_27 n_27
    have ho := hT.2.1
    have hF : JFr (twP g) H H_27 := w_27.fr ⟨100, by decide, rfl⟩
    first | refine j_aload_n (pc := 30) hX dX3_filledBy_30 rfl rfl ?_ | refine j_aload_nq (pc := 30) hX dX3_filledBy_30 rfl rfl ?_
    refine j_get (pc := 31) hX kg_X3_39 dX3_filledBy_31 (by first | assumption | exact jow.r (by assumption)) (by rfl) ?_
    refine j_if_le (pc := 34) (tgt := 41) hX dX3_filledBy_34 (by decide) (fun c_34 => ?_) (fun c_34 => ?_)
    · first | exact absurd c_34 (by decide) | (change (1 : Int32) ≤ 0 at c_34; exact absurd c_34 (by decide))
    refine j_iconst (pc := 37) (v := 0) hX dX3_filledBy_37 (by decide) ?_
    refine j_goto (pc := 38) (tgt := 53) hX dX3_filledBy_38 (by decide) ?_
    exact j_iret hX hQ hr dX3_filledBy_53 ⟨_, rfl, ⟨hF, by first | simpa [filledByQ, nI_0, nI_l1, nI_l2, pFl, c_6] using hT | simpa [filledByQ, nI_0, nI_l1, nI_l2, pFl, hz, c_6] using hT⟩, by first | (simp [filledByQ, pFl, c_6]; done) | simp [filledByQ, pFl, hz, c_6]⟩
def suitsQ (s : Nat → Nat) (x y : Int32) : Nat × Int32 := match slotN s x with | none => (1, 0) | some k => match postN s y with | none => (2, 0) | some p => (0, jb (fitN s k p))
theorem c_X3_suits (l : Launch) (G : JG) (H : Heap) {g : Nat → Nat} {ar : Nat → Nat → Nat} {cm fs : Nat → Int32} (hT : jtw G H g ar cm fs) (hB : Bs (ar 0)) (x y : Int32) : JMet l yX3_suits (ws_ yX3_suits cX3_suits 4 (some .boolean)) 3 0 G H [.ref (g 100), .int x, .int y] (twQ G H g ar cm fs (suitsQ (ar 0) x y)) (jno) := by
  refine JMet.of [(0, .inr (some (g 100))), (1, .inl (.int x)), (2, .inl (.int y))] (by decide) (Nat.le_of_ble_eq_true rfl) rfl (fun X hl hX hQ hEx hr hnm hH => ?_)
  subst hl
  obtain ⟨h0, ho, hs, hbf, hsv, hpa, hou, hip, hcm⟩ := id hT
  have hi2 : vp_in (2 : Int32) 93 := vp_in_nI (n := 2) (by omega) (by decide)
  obtain ⟨h2, hb, hf, hg⟩ := id hB
  first | refine j_aload_n (pc := 0) hX dX3_suits_0 rfl rfl ?_ | refine j_aload_nq (pc := 0) hX dX3_suits_0 rfl rfl ?_
  refine j_iload_n (pc := 1) hX dX3_suits_1 rfl rfl ?_
  refine j_rune (pc := 2) (jr_V (pc := 2) hX kv_X3_103 (by first | assumption | exact jow.r (by assumption)) (c_X3_slotOf _ _ _ hT x) (by decide) dX3_suits_2 rfl rfl (Nat.le_of_ble_eq_true rfl)) ?_ jno_x
  refine j_istore_n (pc := 5) hX dX3_suits_5 rfl (by decide) rfl ?_
  first | refine j_aload_n (pc := 6) hX dX3_suits_6 rfl rfl ?_ | refine j_aload_nq (pc := 6) hX dX3_suits_6 rfl rfl ?_
  refine j_iload_n (pc := 7) hX dX3_suits_7 rfl rfl ?_
  refine j_if_ge (pc := 8) (tgt := 15) hX dX3_suits_8 (by decide) (fun c_8 => ?_) (fun c_8 => ?_)
  · rw [oI_pos' (fun _ => slotN_lt) (by omega)] at c_8
    obtain ⟨k, c_8, hk⟩ := c_8
    first | refine j_aload_n (pc := 15) hX dX3_suits_15 rfl rfl ?_ | refine j_aload_nq (pc := 15) hX dX3_suits_15 rfl rfl ?_
    refine j_iload_n (pc := 16) hX dX3_suits_16 rfl rfl ?_
    refine j_rune (pc := 17) (jr_V (pc := 17) hX kv_X3_143 (by first | assumption | exact jow.r (by assumption)) (c_X3_isP _ _ _ hT y) (by decide) dX3_suits_17 rfl rfl (Nat.le_of_ble_eq_true rfl)) ?_ jno_x
    refine j_if_ne (pc := 20) (tgt := 27) hX dX3_suits_20 (by decide) (fun c_20 => ?_) (fun c_20 => ?_)
    · rw [jb_n, Option.isSome_iff_exists] at c_20
      obtain ⟨p, c_20⟩ := c_20
      obtain ⟨hp, ex⟩ := postN_ex h2 c_20
      refine j_iconst (pc := 27) (v := 0) hX dX3_suits_27 (by decide) ?_
      refine j_put (pc := 28) hX kp_X3_39 dX3_suits_28 (by assumption) (by first | assumption | omega | exact h0.1 _ (by decide)) rfl rfl rfl (fun H_28 w_28 n_28 => ?_)
      have hT := tw_put6 hT w_28 n_28
      have ho := hT.2.1
      have hF : JFr (twP g) H H_28 := w_28.fr ⟨100, by decide, rfl⟩
      first | refine j_aload_n (pc := 31) hX dX3_suits_31 rfl rfl ?_ | refine j_aload_nq (pc := 31) hX dX3_suits_31 rfl rfl ?_
      refine j_get (pc := 32) hX kg_X3_39 dX3_suits_32 (by first | assumption | exact jow.r (by assumption)) (by rfl) ?_
      refine j_if_ne (pc := 35) (tgt := 51) hX dX3_suits_35 (by decide) (fun c_35 => ?_) (fun c_35 => ?_)
      · first | exact absurd c_35 (by decide) | (change ¬ (0 : Int32) = 0 at c_35; exact absurd c_35 (by decide))
      first | refine j_aload_n (pc := 38) hX dX3_suits_38 rfl rfl ?_ | refine j_aload_nq (pc := 38) hX dX3_suits_38 rfl rfl ?_
      refine j_iload_n (pc := 39) hX dX3_suits_39 rfl rfl ?_
      refine j_iload_n (pc := 40) hX dX3_suits_40 rfl rfl ?_
      rw [oI_some c_8, ex]
      refine j_rune (pc := 41) (jr_V (pc := 41) hX kv_X3_152 (by first | assumption | exact jow.r (by assumption)) (c_X3_fits _ _ _ hT hB k p hk (by omega)) (by decide) dX3_suits_41 rfl rfl (Nat.le_of_ble_eq_true rfl)) ?_ jno_x
      refine j_if_eq (pc := 44) (tgt := 51) hX dX3_suits_44 (by decide) (fun c_44 => ?_) (fun c_44 => ?_)
      · rw [jb_z] at c_44
        refine j_iconst (pc := 51) (v := 0) hX dX3_suits_51 (by decide) ?_
        exact j_zret hX hQ hr (by first | rfl | exact jb_nar _ | exact nI_narC _ | assumption) dX3_suits_52 ⟨_, rfl, ⟨hF, by simpa [suitsQ, nI_0, nI_l1, nI_l2, c_8, c_20, c_44] using hT⟩, by simp [suitsQ, jb, c_8, c_20, c_44]⟩
      · rw [jb_n] at c_44
        refine j_iconst (pc := 47) (v := 1) hX dX3_suits_47 (by decide) ?_
        refine j_goto (pc := 48) (tgt := 52) hX dX3_suits_48 (by decide) ?_
        exact j_zret hX hQ hr (by first | rfl | exact jb_nar _ | exact nI_narC _ | assumption) dX3_suits_52 ⟨_, rfl, ⟨hF, by simpa [suitsQ, nI_0, nI_l1, nI_l2, c_8, c_20, c_44] using hT⟩, by simp [suitsQ, jb, c_8, c_20, c_44]⟩
    · rw [jb_z, Option.isSome_eq_false_iff, Option.isNone_iff_eq_none] at c_20
      refine j_iconst (pc := 23) (v := 2) hX dX3_suits_23 (by decide) ?_
      refine j_goto (pc := 24) (tgt := 28) hX dX3_suits_24 (by decide) ?_
      refine j_put (pc := 28) hX kp_X3_39 dX3_suits_28 (by assumption) (by first | assumption | omega | exact h0.1 _ (by decide)) rfl rfl rfl (fun H_28 w_28 n_28 => ?_)
      have hT := tw_put6 hT w_28 n_28
      have ho := hT.2.1
      have hF : JFr (twP g) H H_28 := w_28.fr ⟨100, by decide, rfl⟩
      first | refine j_aload_n (pc := 31) hX dX3_suits_31 rfl rfl ?_ | refine j_aload_nq (pc := 31) hX dX3_suits_31 rfl rfl ?_
      refine j_get (pc := 32) hX kg_X3_39 dX3_suits_32 (by first | assumption | exact jow.r (by assumption)) (by rfl) ?_
      refine j_if_ne (pc := 35) (tgt := 51) hX dX3_suits_35 (by decide) (fun c_35 => ?_) (fun c_35 => ?_)
      rotate_left
      · first | exact absurd c_35 (by decide) | (change (2 : Int32) = 0 at c_35; exact absurd c_35 (by decide))
      refine j_iconst (pc := 51) (v := 0) hX dX3_suits_51 (by decide) ?_
      exact j_zret hX hQ hr (by first | rfl | exact jb_nar _ | exact nI_narC _ | assumption) dX3_suits_52 ⟨_, rfl, ⟨hF, by simpa [suitsQ, nI_0, nI_l1, nI_l2, c_8, c_20] using hT⟩, by simp [suitsQ, jb, c_8, c_20]⟩
  · rw [Int32.not_le, oI_neg' (fun _ => slotN_lt) (by omega)] at c_8
    refine j_iconst (pc := 11) (v := 1) hX dX3_suits_11 (by decide) ?_
    refine j_goto (pc := 12) (tgt := 28) hX dX3_suits_12 (by decide) ?_
    refine j_put (pc := 28) hX kp_X3_39 dX3_suits_28 (by assumption) (by first | assumption | omega | exact h0.1 _ (by decide)) rfl rfl rfl (fun H_28 w_28 n_28 => ?_)
    have hT := tw_put6 hT w_28 n_28
    have ho := hT.2.1
    have hF : JFr (twP g) H H_28 := w_28.fr ⟨100, by decide, rfl⟩
    first | refine j_aload_n (pc := 31) hX dX3_suits_31 rfl rfl ?_ | refine j_aload_nq (pc := 31) hX dX3_suits_31 rfl rfl ?_
    refine j_get (pc := 32) hX kg_X3_39 dX3_suits_32 (by first | assumption | exact jow.r (by assumption)) (by rfl) ?_
    refine j_if_ne (pc := 35) (tgt := 51) hX dX3_suits_35 (by decide) (fun c_35 => ?_) (fun c_35 => ?_)
    rotate_left
    · first | exact absurd c_35 (by decide) | (change (1 : Int32) = 0 at c_35; exact absurd c_35 (by decide))
    refine j_iconst (pc := 51) (v := 0) hX dX3_suits_51 (by decide) ?_
    exact j_zret hX hQ hr (by first | rfl | exact jb_nar _ | exact nI_narC _ | assumption) dX3_suits_52 ⟨_, rfl, ⟨hF, by simpa [suitsQ, nI_0, nI_l1, nI_l2, c_8] using hT⟩, by simp [suitsQ, jb, c_8]⟩
def favQ (s : Nat → Nat) (x : Int32) : Nat × Int32 := match slotN s x with | none => (1, 0) | some k => match favN s k false with | none => (1, 0) | some p => (0, nI p)
theorem c_X3_favouritePost (l : Launch) (G : JG) (H : Heap) {g : Nat → Nat} {ar : Nat → Nat → Nat} {cm fs : Nat → Int32} (hT : jtw G H g ar cm fs) (hB : Bs (ar 0)) (x : Int32) : JMet l yX3_favouritePost (ws_ yX3_favouritePost cX3_favouritePost 4 (some .int)) 4 0 G H [.ref (g 100), .int x] (twQ G H g ar cm fs (favQ (ar 0) x)) (jno) := by
  refine JMet.of [(0, .inr (some (g 100))), (1, .inl (.int x))] (by decide) (Nat.le_of_ble_eq_true rfl) rfl (fun X hl hX hQ hEx hr hnm hH => ?_)
  subst hl
  obtain ⟨h0, ho, hs, hbf, hsv, hpa, hou, hip, hcm⟩ := id hT
  have hi2 : vp_in (2 : Int32) 93 := vp_in_nI (n := 2) (by omega) (by decide)
  obtain ⟨h2, hb, hf, hg⟩ := id hB
  first | refine j_aload_n (pc := 0) hX dX3_favouritePost_0 rfl rfl ?_ | refine j_aload_nq (pc := 0) hX dX3_favouritePost_0 rfl rfl ?_
  refine j_iload_n (pc := 1) hX dX3_favouritePost_1 rfl rfl ?_
  refine j_rune (pc := 2) (jr_V (pc := 2) hX kv_X3_103 (by first | assumption | exact jow.r (by assumption)) (c_X3_slotOf _ _ _ hT x) (by decide) dX3_favouritePost_2 rfl rfl (Nat.le_of_ble_eq_true rfl)) ?_ jno_x
  refine j_istore_n (pc := 5) hX dX3_favouritePost_5 rfl (by decide) rfl ?_
  refine j_iload_n (pc := 6) hX dX3_favouritePost_6 rfl rfl ?_
  refine j_if_ge (pc := 7) (tgt := 14) hX dX3_favouritePost_7 (by decide) (fun c_7 => ?_) (fun c_7 => ?_)
  · rw [oI_pos' (fun _ => slotN_lt) (by omega)] at c_7
    obtain ⟨k, c_7, hk⟩ := c_7
    first | refine j_aload_n (pc := 14) hX dX3_favouritePost_14 rfl rfl ?_ | refine j_aload_nq (pc := 14) hX dX3_favouritePost_14 rfl rfl ?_
    refine j_iload_n (pc := 15) hX dX3_favouritePost_15 rfl rfl ?_
    refine j_iconst (pc := 16) (v := 0) hX dX3_favouritePost_16 (by decide) ?_
    rw [oI_some c_7]
    refine j_rune (pc := 17) (jr_V (pc := 17) hX kv_X3_158 (by first | assumption | exact jow.r (by assumption)) (c_X3_favourite _ _ _ hT hB k false hk) (by decide) dX3_favouritePost_17 rfl rfl (Nat.le_of_ble_eq_true rfl)) ?_ jno_x
    refine j_istore_n (pc := 20) hX dX3_favouritePost_20 rfl (by decide) rfl ?_
    first | refine j_aload_n (pc := 21) hX dX3_favouritePost_21 rfl rfl ?_ | refine j_aload_nq (pc := 21) hX dX3_favouritePost_21 rfl rfl ?_
    refine j_iload_n (pc := 22) hX dX3_favouritePost_22 rfl rfl ?_
    refine j_if_lt (pc := 23) (tgt := 30) hX dX3_favouritePost_23 (by decide) (fun c_23 => ?_) (fun c_23 => ?_)
    · rw [oI_neg' (fun _ => favN_lt) (by omega)] at c_23
      refine j_iconst (pc := 30) (v := 0) hX dX3_favouritePost_30 (by decide) ?_
      refine j_runi (pc := 31) (jr_V (pc := 31) hX kv_X3_119 (by first | assumption | exact jow.r (by assumption)) (c_X3_isThere _ _ _ hT _ rfl) (by decide) dX3_favouritePost_31 rfl rfl (Nat.le_of_ble_eq_true rfl)) (fun r_31 H_31 p_31 z_31 => ?_) jno_x
      obtain ⟨⟨hF, hT⟩, rfl⟩ := p_31
      have ho := hT.2.1
      refine j_if_eq (pc := 34) (tgt := 41) hX dX3_favouritePost_34 (by decide) (fun c_34 => ?_) (fun c_34 => ?_)
      rotate_left
      · first | exact absurd c_34 (by decide) | (change ¬ (0 : Int32) = 0 at c_34; exact absurd c_34 (by decide))
      refine j_iconst (pc := 41) (v := 0) hX dX3_favouritePost_41 (by decide) ?_
      exact j_iret hX hQ hr dX3_favouritePost_42 ⟨_, rfl, ⟨hF, by simpa [favQ, oI, c_7, c_23] using hT⟩, by simp [favQ, oI, c_7, c_23]⟩
    · rw [Int32.not_lt, oI_pos' (fun _ => favN_lt) (by omega)] at c_23
      obtain ⟨p, c_23, hp⟩ := c_23
      refine j_iconst (pc := 26) (v := 1) hX dX3_favouritePost_26 (by decide) ?_
      refine j_goto (pc := 27) (tgt := 31) hX dX3_favouritePost_27 (by decide) ?_
      refine j_runi (pc := 31) (jr_V (pc := 31) hX kv_X3_119 (by first | assumption | exact jow.r (by assumption)) (c_X3_isThere _ _ _ hT _ rfl) (by decide) dX3_favouritePost_31 rfl rfl (Nat.le_of_ble_eq_true rfl)) (fun r_31 H_31 p_31 z_31 => ?_) jno_x
      obtain ⟨⟨hF, hT⟩, rfl⟩ := p_31
      have ho := hT.2.1
      refine j_if_eq (pc := 34) (tgt := 41) hX dX3_favouritePost_34 (by decide) (fun c_34 => ?_) (fun c_34 => ?_)
      · first | exact absurd c_34 (by decide) | (change (1 : Int32) = 0 at c_34; exact absurd c_34 (by decide))
      refine j_iload_n (pc := 37) hX dX3_favouritePost_37 rfl rfl ?_
      refine j_goto (pc := 38) (tgt := 42) hX dX3_favouritePost_38 (by decide) ?_
      exact j_iret hX hQ hr dX3_favouritePost_42 ⟨_, rfl, ⟨hF, by simpa [favQ, oI, c_7, c_23] using hT⟩, by simp [favQ, oI, c_7, c_23]⟩
  · rw [Int32.not_le, oI_neg' (fun _ => slotN_lt) (by omega)] at c_7
    refine j_iconst (pc := 10) (v := -1) hX dX3_favouritePost_10 (by decide) ?_
    refine j_goto (pc := 11) (tgt := 20) hX dX3_favouritePost_11 (by decide) ?_
    refine j_istore_n (pc := 20) hX dX3_favouritePost_20 rfl (by decide) rfl ?_
    first | refine j_aload_n (pc := 21) hX dX3_favouritePost_21 rfl rfl ?_ | refine j_aload_nq (pc := 21) hX dX3_favouritePost_21 rfl rfl ?_
    refine j_iload_n (pc := 22) hX dX3_favouritePost_22 rfl rfl ?_
    refine j_if_lt (pc := 23) (tgt := 30) hX dX3_favouritePost_23 (by decide) (fun c_23 => ?_) (fun c_23 => ?_)
    rotate_left
    · first | exact absurd c_23 (by decide) | (change ¬ (-1 : Int32) < 0 at c_23; exact absurd c_23 (by decide))
    refine j_iconst (pc := 30) (v := 0) hX dX3_favouritePost_30 (by decide) ?_
    refine j_runi (pc := 31) (jr_V (pc := 31) hX kv_X3_119 (by first | assumption | exact jow.r (by assumption)) (c_X3_isThere _ _ _ hT _ rfl) (by decide) dX3_favouritePost_31 rfl rfl (Nat.le_of_ble_eq_true rfl)) (fun r_31 H_31 p_31 z_31 => ?_) jno_x
    obtain ⟨⟨hF, hT⟩, rfl⟩ := p_31
    have ho := hT.2.1
    refine j_if_eq (pc := 34) (tgt := 41) hX dX3_favouritePost_34 (by decide) (fun c_34 => ?_) (fun c_34 => ?_)
    rotate_left
    · first | exact absurd c_34 (by decide) | (change ¬ (0 : Int32) = 0 at c_34; exact absurd c_34 (by decide))
    refine j_iconst (pc := 41) (v := 0) hX dX3_favouritePost_41 (by decide) ?_
    exact j_iret hX hQ hr dX3_favouritePost_42 ⟨_, rfl, ⟨hF, by simpa [favQ, oI, c_7] using hT⟩, by simp [favQ, oI, c_7]⟩
def bestQ (s : Nat → Nat) (x : Int32) : Nat × Int32 := match postN s x with | none => (1, 0) | some p => match candN s p with | none => (2, 0) | some k => (0, nI (aId s k) - 1)
theorem c_X3_bestCandidate (l : Launch) (G : JG) (H : Heap) {g : Nat → Nat} {ar : Nat → Nat → Nat} {cm fs : Nat → Int32} (hT : jtw G H g ar cm fs) (hB : Bs (ar 0)) (x : Int32) : JMet l yX3_bestCandidate (ws_ yX3_bestCandidate cX3_bestCandidate 2 (some .int)) 5 0 G H [.ref (g 100), .int x] (twQ G H g ar cm fs (bestQ (ar 0) x)) (jno) := by
  refine JMet.of [(0, .inr (some (g 100))), (1, .inl (.int x))] (by decide) (Nat.le_of_ble_eq_true rfl) rfl (fun X hl hX hQ hEx hr hnm hH => ?_)
  subst hl
  obtain ⟨h0, ho, hs, hbf, hsv, hpa, hou, hip, hcm⟩ := id hT
  have hi2 : vp_in (2 : Int32) 93 := vp_in_nI (n := 2) (by omega) (by decide)
  obtain ⟨h2, hb, hf, hg⟩ := id hB
  first | refine j_aload_n (pc := 0) hX dX3_bestCandidate_0 rfl rfl ?_ | refine j_aload_nq (pc := 0) hX dX3_bestCandidate_0 rfl rfl ?_
  first | refine j_aload_n (pc := 1) hX dX3_bestCandidate_1 rfl rfl ?_ | refine j_aload_nq (pc := 1) hX dX3_bestCandidate_1 rfl rfl ?_
  refine j_iload_n (pc := 2) hX dX3_bestCandidate_2 rfl rfl ?_
  refine j_rune (pc := 3) (jr_V (pc := 3) hX kv_X3_143 (by first | assumption | exact jow.r (by assumption)) (c_X3_isP _ _ _ hT x) (by decide) dX3_bestCandidate_3 rfl rfl (Nat.le_of_ble_eq_true rfl)) ?_ jno_x
  refine j_if_ne (pc := 6) (tgt := 13) hX dX3_bestCandidate_6 (by decide) (fun c_6 => ?_) (fun c_6 => ?_)
  · rw [jb_n, Option.isSome_iff_exists] at c_6
    obtain ⟨p, c_6⟩ := c_6
    obtain ⟨hp, ex⟩ := postN_ex h2 c_6
    first | refine j_aload_n (pc := 13) hX dX3_bestCandidate_13 rfl rfl ?_ | refine j_aload_nq (pc := 13) hX dX3_bestCandidate_13 rfl rfl ?_
    refine j_iload_n (pc := 14) hX dX3_bestCandidate_14 rfl rfl ?_
    rw [ex]
    refine j_rune (pc := 15) (jr_V (pc := 15) hX kv_X3_162 (by first | assumption | exact jow.r (by assumption)) (c_X3_candidate _ _ _ hT hB p (by omega)) (by decide) dX3_bestCandidate_15 rfl rfl (Nat.le_of_ble_eq_true rfl)) ?_ jno_x
    refine j_if_ge (pc := 18) (tgt := 25) hX dX3_bestCandidate_18 (by decide) (fun c_18 => ?_) (fun c_18 => ?_)
    · rw [oI_pos' (fun _ => candN_lt) (by omega)] at c_18
      obtain ⟨k, c_18, hk⟩ := c_18
      refine j_iconst (pc := 25) (v := 0) hX dX3_bestCandidate_25 (by decide) ?_
      refine j_put (pc := 26) hX kp_X3_39 dX3_bestCandidate_26 (by assumption) (by first | assumption | omega | exact h0.1 _ (by decide)) rfl rfl rfl (fun H_26 w_26 n_26 => ?_)
      have hT := tw_put6 hT w_26 n_26
      have ho := hT.2.1
      have hF : JFr (twP g) H H_26 := w_26.fr ⟨100, by decide, rfl⟩
      first | refine j_aload_n (pc := 29) hX dX3_bestCandidate_29 rfl rfl ?_ | refine j_aload_nq (pc := 29) hX dX3_bestCandidate_29 rfl rfl ?_
      refine j_get (pc := 30) hX kg_X3_39 dX3_bestCandidate_30 (by first | assumption | exact jow.r (by assumption)) (by rfl) ?_
      refine j_if_le (pc := 33) (tgt := 40) hX dX3_bestCandidate_33 (by decide) (fun c_33 => ?_) (fun c_33 => ?_)
      rotate_left
      · first | exact absurd c_33 (by decide) | (change ¬ (0 : Int32) ≤ 0 at c_33; exact absurd c_33 (by decide))
      first | refine j_aload_n (pc := 40) hX dX3_bestCandidate_40 rfl rfl ?_ | refine j_aload_nq (pc := 40) hX dX3_bestCandidate_40 rfl rfl ?_
      first | refine j_aload_n (pc := 41) hX dX3_bestCandidate_41 rfl rfl ?_ | refine j_aload_nq (pc := 41) hX dX3_bestCandidate_41 rfl rfl ?_
      refine j_iload_n (pc := 42) hX dX3_bestCandidate_42 rfl rfl ?_
      refine j_rune (pc := 43) (jr_V (pc := 43) hX kv_X3_162 (by first | assumption | exact jow.r (by assumption)) (c_X3_candidate _ _ _ hT hB p (by omega)) (by decide) dX3_bestCandidate_43 rfl rfl (Nat.le_of_ble_eq_true rfl)) ?_ jno_x
      rw [oI_some c_18]
      refine j_rune (pc := 46) (jr_V (pc := 46) hX kv_X3_76 (by first | assumption | exact jow.r (by assumption)) (c_X3_idOf _ _ _ hT k hk) (by decide) dX3_bestCandidate_46 rfl rfl (Nat.le_of_ble_eq_true rfl)) ?_ jno_x
      exact j_iret hX hQ hr dX3_bestCandidate_49 ⟨_, rfl, ⟨hF, by simpa [bestQ, nI_0, nI_l1, nI_l2, c_6, c_18] using hT⟩, by simp [bestQ, c_6, c_18]⟩
    · rw [Int32.not_le, oI_neg' (fun _ => candN_lt) (by omega)] at c_18
      refine j_iconst (pc := 21) (v := 2) hX dX3_bestCandidate_21 (by decide) ?_
      refine j_goto (pc := 22) (tgt := 26) hX dX3_bestCandidate_22 (by decide) ?_
      refine j_put (pc := 26) hX kp_X3_39 dX3_bestCandidate_26 (by assumption) (by first | assumption | omega | exact h0.1 _ (by decide)) rfl rfl rfl (fun H_26 w_26 n_26 => ?_)
      have hT := tw_put6 hT w_26 n_26
      have ho := hT.2.1
      have hF : JFr (twP g) H H_26 := w_26.fr ⟨100, by decide, rfl⟩
      first | refine j_aload_n (pc := 29) hX dX3_bestCandidate_29 rfl rfl ?_ | refine j_aload_nq (pc := 29) hX dX3_bestCandidate_29 rfl rfl ?_
      refine j_get (pc := 30) hX kg_X3_39 dX3_bestCandidate_30 (by first | assumption | exact jow.r (by assumption)) (by rfl) ?_
      refine j_if_le (pc := 33) (tgt := 40) hX dX3_bestCandidate_33 (by decide) (fun c_33 => ?_) (fun c_33 => ?_)
      · first | exact absurd c_33 (by decide) | (change (2 : Int32) ≤ 0 at c_33; exact absurd c_33 (by decide))
      refine j_iconst (pc := 36) (v := 0) hX dX3_bestCandidate_36 (by decide) ?_
      refine j_goto (pc := 37) (tgt := 49) hX dX3_bestCandidate_37 (by decide) ?_
      exact j_iret hX hQ hr dX3_bestCandidate_49 ⟨_, rfl, ⟨hF, by simpa [bestQ, nI_0, nI_l1, nI_l2, c_6, c_18] using hT⟩, by simp [bestQ, c_6, c_18]⟩
  · rw [jb_z, Option.isSome_eq_false_iff, Option.isNone_iff_eq_none] at c_6
    refine j_iconst (pc := 9) (v := 1) hX dX3_bestCandidate_9 (by decide) ?_
    refine j_goto (pc := 10) (tgt := 26) hX dX3_bestCandidate_10 (by decide) ?_
    refine j_put (pc := 26) hX kp_X3_39 dX3_bestCandidate_26 (by assumption) (by first | assumption | omega | exact h0.1 _ (by decide)) rfl rfl rfl (fun H_26 w_26 n_26 => ?_)
    have hT := tw_put6 hT w_26 n_26
    have ho := hT.2.1
    have hF : JFr (twP g) H H_26 := w_26.fr ⟨100, by decide, rfl⟩
    first | refine j_aload_n (pc := 29) hX dX3_bestCandidate_29 rfl rfl ?_ | refine j_aload_nq (pc := 29) hX dX3_bestCandidate_29 rfl rfl ?_
    refine j_get (pc := 30) hX kg_X3_39 dX3_bestCandidate_30 (by first | assumption | exact jow.r (by assumption)) (by rfl) ?_
    refine j_if_le (pc := 33) (tgt := 40) hX dX3_bestCandidate_33 (by decide) (fun c_33 => ?_) (fun c_33 => ?_)
    · first | exact absurd c_33 (by decide) | (change (1 : Int32) ≤ 0 at c_33; exact absurd c_33 (by decide))
    refine j_iconst (pc := 36) (v := 0) hX dX3_bestCandidate_36 (by decide) ?_
    refine j_goto (pc := 37) (tgt := 49) hX dX3_bestCandidate_37 (by decide) ?_
    exact j_iret hX hQ hr dX3_bestCandidate_49 ⟨_, rfl, ⟨hF, by simpa [bestQ, nI_0, nI_l1, nI_l2, c_6] using hT⟩, by simp [bestQ, c_6]⟩
def candCF (s : Nat → Nat) (p k a : Nat) : Nat := a + if waitN s k && fitN s k p then 1 else 0
def candCQ (s : Nat → Nat) (x : Int32) : Nat × Int32 := match postN s x with | none => (1, 0) | some p => (0, nI (jfold (candCF s p) 10 0))
