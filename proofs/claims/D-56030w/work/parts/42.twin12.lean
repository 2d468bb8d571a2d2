/-! the reference: its changes, undo, the saved state -/
set_option maxRecDepth 100000
/-- what a change leaves: q is its step's result, n how many could be undone -/
def chR (G : JG) (H H1 : Heap) (g : Nat → Nat) (ar : Nat → Nat → Nat) (cm fs : Nat → Int32) (n : Nat) (q : Nat × Int32 × (Nat → Nat)) (r : Int32) : Prop :=
  (q.1 ≠ 0 → twR G H H1 g (jup ar 1 (ar 0)) cm (jup fs 6 (nI q.1))) ∧
  (q.1 = 0 → twR G H H1 g (jup (jup (jup ar 1 (ar 0)) 0 q.2.2) 4 (pastPush (ar 4) (ar 0) n)) cm (jup (jup fs 6 0) 5 (nI (pastN n))) ∧ r = q.2.1)
theorem chR_t {G : JG} {H H1 : Heap} {g : Nat → Nat} {ar : Nat → Nat → Nat} {cm fs : Nat → Int32} {n : Nat} {q : Nat × Int32 × (Nat → Nat)} {r : Int32} (h0 : q.1 ≠ 0) (hF : JFr (twP g) H H1) (hT : jtw G H1 g (jup (jup (jup ar 1 (ar 0)) 0 q.2.2) 0 (jup (jup ar 1 (ar 0)) 0 q.2.2 1)) cm (jup (jup fs 6 0) 6 (nI q.1))) : chR G H H1 g ar cm fs n q r := by
  refine ⟨fun _ => ⟨hF, ?_⟩, fun z => absurd z h0⟩
  rw [jup_jup, jup_jup, show jup (jup ar 1 (ar 0)) 0 q.2.2 1 = ar 0 from rfl, jup_id' (f := jup ar 1 (ar 0)) (k := 0) (a := ar 0) rfl] at hT
  exact hT
theorem chR_0 {G : JG} {H H1 : Heap} {g : Nat → Nat} {ar : Nat → Nat → Nat} {cm fs : Nat → Int32} {n : Nat} {q : Nat × Int32 × (Nat → Nat)} {r : Int32} (h0 : q.1 = 0) (hF : JFr (twP g) H H1) (hr : r = q.2.1) (hT : jtw G H1 g (jup (jup (jup ar 1 (ar 0)) 0 q.2.2) 4 (pastPush (ar 4) (ar 0) n)) cm (jup (jup (jup fs 6 0) 6 (nI q.1)) 5 (nI (pastN n)))) : chR G H H1 g ar cm fs n q r := by
  refine ⟨fun z => absurd h0 z, fun _ => ⟨⟨hF, ?_⟩, hr⟩⟩
  rw [h0, nI_0, jup_jup] at hT
  exact hT
theorem remD_t {s : Nat → Nat} {x : Int32} : (remD s x).1 < 10 := by unfold remD; split <;> simp
theorem rejD_t {s : Nat → Nat} {x : Int32} : (rejD s x).1 < 10 := by unfold rejD; split <;> simp
theorem refD_t {s : Nat → Nat} {x y : Int32} : (refD s x y).1 < 10 := by
  unfold refD; split
  · split
    · simp
    · split <;> simp
  · simp
theorem unrefD_t {s : Nat → Nat} {x y : Int32} : (unrefD s x y).1 < 10 := by
  unfold unrefD; split
  · split <;> simp
  · simp
theorem closeD_t {s : Nat → Nat} {x : Int32} : (closeD s x).1 < 10 := by unfold closeD; split <;> simp
theorem hireD_t {s : Nat → Nat} {x y : Int32} : (hireD s x y).1 < 10 := by
  unfold hireD; split
  · simp
  · split
    · simp
    · split
      · simp
      · split <;> simp
theorem hireBestD_t {s : Nat → Nat} {x : Int32} : (hireBestD s x).1 < 10 := by
  unfold hireBestD; split
  · simp
  · split
    · simp
    · split <;> simp
theorem dismissD_t {s : Nat → Nat} {x : Int32} : (dismissD s x).1 < 10 := by
  unfold dismissD; split
  · simp
  · split <;> simp
theorem addD_t {s : Nat → Nat} {x y z : Int32} : (addD s x y z).1 < 10 := by
  unfold addD; split
  · simp
  · split <;> simp
theorem openD_t {s : Nat → Nat} {x y z w : Int32} : (openD s x y z w).1 < 10 := by
  unfold openD; split
  · simp
  · split <;> simp
theorem daysD_t {s : Nat → Nat} {x : Int32} : (daysD s x).1 < 10 := by unfold daysD; split <;> simp
theorem matchD_t {s : Nat → Nat} : (matchD s).1 < 10 := by show 0 < 10; omega
theorem c_X3_addApplicant (l : Launch) (G : JG) (H : Heap) {g : Nat → Nat} {ar : Nat → Nat → Nat} {cm fs : Nat → Int32} (hT : jtw G H g ar cm fs) (hB : Bs (ar 0)) (n : Nat) (hn : n ≤ 8) (e5 : fs 5 = nI n) (sh wh rn : Int32) : JMet l yX3_addApplicant (ws_ yX3_addApplicant cX3_addApplicant 4 (some .int)) 5 0 G H [.ref (g 100), .int sh, .int wh, .int rn] (jpi (fun r H1 => chR G H H1 g ar cm fs n (addD (ar 0) sh wh rn) r)) (jno) := by
  refine JMet.of [(0, .inr (some (g 100))), (1, .inl (.int sh)), (2, .inl (.int wh)), (3, .inl (.int rn))] (by decide) (Nat.le_of_ble_eq_true rfl) rfl (fun X hl hX hQ hEx hr hnm hH => ?_)
  subst hl
  obtain ⟨h0, ho, hs, hbf, hsv, hpa, hou, hip, hcm⟩ := id hT
  have hi2 : vp_in (2 : Int32) 93 := vp_in_nI (n := 2) (by omega) (by decide)
  obtain ⟨h2, hb, hf, hg⟩ := id hB
  first | refine j_aload_n (pc := 0) hX dX3_addApplicant_0 rfl rfl ?_ | refine j_aload_nq (pc := 0) hX dX3_addApplicant_0 rfl rfl ?_
  refine j_runv (pc := 1) (jr_V (pc := 1) hX kv_X3_93 (by first | assumption | exact jow.r (by assumption)) (c_X3_keep _ _ _ hT) (by decide) dX3_addApplicant_1 rfl rfl (Nat.le_of_ble_eq_true rfl)) (fun H_1 p_1 z_1 => ?_) jno_x
  have hF := p_1.1
  have hT := p_1.2
  have ho := hT.2.1
  first | refine j_aload_n (pc := 4) hX dX3_addApplicant_4 rfl rfl ?_ | refine j_aload_nq (pc := 4) hX dX3_addApplicant_4 rfl rfl ?_
  first | refine j_aload_n (pc := 5) hX dX3_addApplicant_5 rfl rfl ?_ | refine j_aload_nq (pc := 5) hX dX3_addApplicant_5 rfl rfl ?_
  refine j_iload_n (pc := 6) hX dX3_addApplicant_6 rfl rfl ?_
  refine j_iload_n (pc := 7) hX dX3_addApplicant_7 rfl rfl ?_
  refine j_iload_n (pc := 8) hX dX3_addApplicant_8 rfl rfl ?_
  refine j_runi (pc := 9) (jr_V (pc := 9) hX kv_X3_96 (by first | assumption | exact jow.r (by assumption)) (c_X3_doAddApplicant _ _ _ hT hB (h6 := rfl) sh wh rn) (by decide) dX3_addApplicant_9 rfl rfl (Nat.le_of_ble_eq_true rfl)) (fun r_9 H_9 p_9 z_9 => ?_) jno_x
  obtain ⟨hR, rfl⟩ := p_9
  have hF := JFr.trans hF hR.1
  have hT := hR.2
  have ho := hT.2.1
  skip
  change jtw G H_9 g (jup (jup ar 1 (ar 0)) 0 (addD (ar 0) sh wh rn).2.2) cm (jup (jup fs 6 0) 6 (nI (addD (ar 0) sh wh rn).1)) at hT
  have hq : (addD (ar 0) sh wh rn).1 < 10 := addD_t
  change JW X G H_9 0 12 _ [.int (addD (ar 0) sh wh rn).2.1, _]
  generalize (addD (ar 0) sh wh rn) = q at *
  rcases Nat.eq_zero_or_pos q.1 with h0 | h0
  · refine j_runi (pc := 12) (jr_V (pc := 12) hX kv_X3_100 (by first | assumption | exact jow.r (by assumption)) (c_X3_ends_0 _ _ _ hT n hn e5 (by show nI q.1 = 0; rw [h0]; rfl) _) (by decide) dX3_addApplicant_12 rfl rfl (Nat.le_of_ble_eq_true rfl)) (fun r_12 H_12 p_12 z_12 => ?_) jno_x
    obtain ⟨hR, rfl⟩ := p_12
    have hF := JFr.trans hF hR.1
    have hT := hR.2
    exact j_iret hX hQ hr dX3_addApplicant_15 ⟨_, rfl, chR_0 h0 hF rfl hT⟩
  · refine j_runi (pc := 12) (jr_V (pc := 12) hX kv_X3_100 (by first | assumption | exact jow.r (by assumption)) (c_X3_ends_t _ _ _ hT q.1 h0 hq rfl _) (by decide) dX3_addApplicant_12 rfl rfl (Nat.le_of_ble_eq_true rfl)) (fun r_12 H_12 p_12 z_12 => ?_) jno_x
    obtain ⟨hR, rfl⟩ := p_12
    have hF := JFr.trans hF hR.1
    have hT := hR.2
    exact j_iret hX hQ hr dX3_addApplicant_15 ⟨_, rfl, chR_t (Nat.pos_iff_ne_zero.mp h0) hF hT⟩
theorem c_X3_removeApplicant (l : Launch) (G : JG) (H : Heap) {g : Nat → Nat} {ar : Nat → Nat → Nat} {cm fs : Nat → Int32} (hT : jtw G H g ar cm fs) (hB : Bs (ar 0)) (n : Nat) (hn : n ≤ 8) (e5 : fs 5 = nI n) (x : Int32) : JMet l yX3_removeApplicant (ws_ yX3_removeApplicant cX3_removeApplicant 2 (some .int)) 5 0 G H [.ref (g 100), .int x] (jpi (fun r H1 => chR G H H1 g ar cm fs n (remD (ar 0) x) r)) (jno) := by
  refine JMet.of [(0, .inr (some (g 100))), (1, .inl (.int x))] (by decide) (Nat.le_of_ble_eq_true rfl) rfl (fun X hl hX hQ hEx hr hnm hH => ?_)
  subst hl
  obtain ⟨h0, ho, hs, hbf, hsv, hpa, hou, hip, hcm⟩ := id hT
  have hi2 : vp_in (2 : Int32) 93 := vp_in_nI (n := 2) (by omega) (by decide)
  obtain ⟨h2, hb, hf, hg⟩ := id hB
  first | refine j_aload_n (pc := 0) hX dX3_removeApplicant_0 rfl rfl ?_ | refine j_aload_nq (pc := 0) hX dX3_removeApplicant_0 rfl rfl ?_
  refine j_runv (pc := 1) (jr_V (pc := 1) hX kv_X3_93 (by first | assumption | exact jow.r (by assumption)) (c_X3_keep _ _ _ hT) (by decide) dX3_removeApplicant_1 rfl rfl (Nat.le_of_ble_eq_true rfl)) (fun H_1 p_1 z_1 => ?_) jno_x
  have hF := p_1.1
  have hT := p_1.2
  have ho := hT.2.1
  first | refine j_aload_n (pc := 4) hX dX3_removeApplicant_4 rfl rfl ?_ | refine j_aload_nq (pc := 4) hX dX3_removeApplicant_4 rfl rfl ?_
  first | refine j_aload_n (pc := 5) hX dX3_removeApplicant_5 rfl rfl ?_ | refine j_aload_nq (pc := 5) hX dX3_removeApplicant_5 rfl rfl ?_
  refine j_iload_n (pc := 6) hX dX3_removeApplicant_6 rfl rfl ?_
  refine j_runi (pc := 7) (jr_V (pc := 7) hX kv_X3_110 (by first | assumption | exact jow.r (by assumption)) (c_X3_doRemoveApplicant _ _ _ hT hB (h6 := rfl) x) (by decide) dX3_removeApplicant_7 rfl rfl (Nat.le_of_ble_eq_true rfl)) (fun r_7 H_7 p_7 z_7 => ?_) jno_x
  obtain ⟨hR, rfl⟩ := p_7
  have hF := JFr.trans hF hR.1
  have hT := hR.2
  have ho := hT.2.1
  skip
  change jtw G H_7 g (jup (jup ar 1 (ar 0)) 0 (remD (ar 0) x).2.2) cm (jup (jup fs 6 0) 6 (nI (remD (ar 0) x).1)) at hT
  have hq : (remD (ar 0) x).1 < 10 := remD_t
  change JW X G H_7 0 10 _ [.int (remD (ar 0) x).2.1, _]
  generalize (remD (ar 0) x) = q at *
  rcases Nat.eq_zero_or_pos q.1 with h0 | h0
  · refine j_runi (pc := 10) (jr_V (pc := 10) hX kv_X3_100 (by first | assumption | exact jow.r (by assumption)) (c_X3_ends_0 _ _ _ hT n hn e5 (by show nI q.1 = 0; rw [h0]; rfl) _) (by decide) dX3_removeApplicant_10 rfl rfl (Nat.le_of_ble_eq_true rfl)) (fun r_10 H_10 p_10 z_10 => ?_) jno_x
    obtain ⟨hR, rfl⟩ := p_10
    have hF := JFr.trans hF hR.1
    have hT := hR.2
    exact j_iret hX hQ hr dX3_removeApplicant_13 ⟨_, rfl, chR_0 h0 hF rfl hT⟩
  · refine j_runi (pc := 10) (jr_V (pc := 10) hX kv_X3_100 (by first | assumption | exact jow.r (by assumption)) (c_X3_ends_t _ _ _ hT q.1 h0 hq rfl _) (by decide) dX3_removeApplicant_10 rfl rfl (Nat.le_of_ble_eq_true rfl)) (fun r_10 H_10 p_10 z_10 => ?_) jno_x
    obtain ⟨hR, rfl⟩ := p_10
    have hF := JFr.trans hF hR.1
    have hT := hR.2
    exact j_iret hX hQ hr dX3_removeApplicant_13 ⟨_, rfl, chR_t (Nat.pos_iff_ne_zero.mp h0) hF hT⟩
theorem c_X3_rejectRainy (l : Launch) (G : JG) (H : Heap) {g : Nat → Nat} {ar : Nat → Nat → Nat} {cm fs : Nat → Int32} (hT : jtw G H g ar cm fs) (hB : Bs (ar 0)) (n : Nat) (hn : n ≤ 8) (e5 : fs 5 = nI n) (x : Int32) : JMet l yX3_rejectRainy (ws_ yX3_rejectRainy cX3_rejectRainy 2 (some .int)) 5 0 G H [.ref (g 100), .int x] (jpi (fun r H1 => chR G H H1 g ar cm fs n (rejD (ar 0) x) r)) (jno) := by
  refine JMet.of [(0, .inr (some (g 100))), (1, .inl (.int x))] (by decide) (Nat.le_of_ble_eq_true rfl) rfl (fun X hl hX hQ hEx hr hnm hH => ?_)
  subst hl
  obtain ⟨h0, ho, hs, hbf, hsv, hpa, hou, hip, hcm⟩ := id hT
  have hi2 : vp_in (2 : Int32) 93 := vp_in_nI (n := 2) (by omega) (by decide)
  obtain ⟨h2, hb, hf, hg⟩ := id hB
  first | refine j_aload_n (pc := 0) hX dX3_rejectRainy_0 rfl rfl ?_ | refine j_aload_nq (pc := 0) hX dX3_rejectRainy_0 rfl rfl ?_
  refine j_runv (pc := 1) (jr_V (pc := 1) hX kv_X3_93 (by first | assumption | exact jow.r (by assumption)) (c_X3_keep _ _ _ hT) (by decide) dX3_rejectRainy_1 rfl rfl (Nat.le_of_ble_eq_true rfl)) (fun H_1 p_1 z_1 => ?_) jno_x
  have hF := p_1.1
  have hT := p_1.2
  have ho := hT.2.1
  first | refine j_aload_n (pc := 4) hX dX3_rejectRainy_4 rfl rfl ?_ | refine j_aload_nq (pc := 4) hX dX3_rejectRainy_4 rfl rfl ?_
  first | refine j_aload_n (pc := 5) hX dX3_rejectRainy_5 rfl rfl ?_ | refine j_aload_nq (pc := 5) hX dX3_rejectRainy_5 rfl rfl ?_
  refine j_iload_n (pc := 6) hX dX3_rejectRainy_6 rfl rfl ?_
  refine j_runi (pc := 7) (jr_V (pc := 7) hX kv_X3_116 (by first | assumption | exact jow.r (by assumption)) (c_X3_doRejectRainy _ _ _ hT hB (h6 := rfl) x) (by decide) dX3_rejectRainy_7 rfl rfl (Nat.le_of_ble_eq_true rfl)) (fun r_7 H_7 p_7 z_7 => ?_) jno_x
  obtain ⟨hR, rfl⟩ := p_7
  have hF := JFr.trans hF hR.1
  have hT := hR.2
  have ho := hT.2.1
  skip
  change jtw G H_7 g (jup (jup ar 1 (ar 0)) 0 (rejD (ar 0) x).2.2) cm (jup (jup fs 6 0) 6 (nI (rejD (ar 0) x).1)) at hT
  have hq : (rejD (ar 0) x).1 < 10 := rejD_t
  change JW X G H_7 0 10 _ [.int (rejD (ar 0) x).2.1, _]
  generalize (rejD (ar 0) x) = q at *
  rcases Nat.eq_zero_or_pos q.1 with h0 | h0
  · refine j_runi (pc := 10) (jr_V (pc := 10) hX kv_X3_100 (by first | assumption | exact jow.r (by assumption)) (c_X3_ends_0 _ _ _ hT n hn e5 (by show nI q.1 = 0; rw [h0]; rfl) _) (by decide) dX3_rejectRainy_10 rfl rfl (Nat.le_of_ble_eq_true rfl)) (fun r_10 H_10 p_10 z_10 => ?_) jno_x
    obtain ⟨hR, rfl⟩ := p_10
    have hF := JFr.trans hF hR.1
    have hT := hR.2
    exact j_iret hX hQ hr dX3_rejectRainy_13 ⟨_, rfl, chR_0 h0 hF rfl hT⟩
  · refine j_runi (pc := 10) (jr_V (pc := 10) hX kv_X3_100 (by first | assumption | exact jow.r (by assumption)) (c_X3_ends_t _ _ _ hT q.1 h0 hq rfl _) (by decide) dX3_rejectRainy_10 rfl rfl (Nat.le_of_ble_eq_true rfl)) (fun r_10 H_10 p_10 z_10 => ?_) jno_x
    obtain ⟨hR, rfl⟩ := p_10
    have hF := JFr.trans hF hR.1
    have hT := hR.2
    exact j_iret hX hQ hr dX3_rejectRainy_13 ⟨_, rfl, chR_t (Nat.pos_iff_ne_zero.mp h0) hF hT⟩
theorem c_X3_addReference (l : Launch) (G : JG) (H : Heap) {g : Nat → Nat} {ar : Nat → Nat → Nat} {cm fs : Nat → Int32} (hT : jtw G H g ar cm fs) (hB : Bs (ar 0)) (n : Nat) (hn : n ≤ 8) (e5 : fs 5 = nI n) (x y : Int32) : JMet l yX3_addReference (ws_ yX3_addReference cX3_addReference 3 (some .int)) 4 0 G H [.ref (g 100), .int x, .int y] (jpi (fun r H1 => chR G H H1 g ar cm fs n (refD (ar 0) x y) r)) (jno) := by
  refine JMet.of [(0, .inr (some (g 100))), (1, .inl (.int x)), (2, .inl (.int y))] (by decide) (Nat.le_of_ble_eq_true rfl) rfl (fun X hl hX hQ hEx hr hnm hH => ?_)
  subst hl
  obtain ⟨h0, ho, hs, hbf, hsv, hpa, hou, hip, hcm⟩ := id hT
  have hi2 : vp_in (2 : Int32) 93 := vp_in_nI (n := 2) (by omega) (by decide)
  obtain ⟨h2, hb, hf, hg⟩ := id hB
  first | refine j_aload_n (pc := 0) hX dX3_addReference_0 rfl rfl ?_ | refine j_aload_nq (pc := 0) hX dX3_addReference_0 rfl rfl ?_
  refine j_runv (pc := 1) (jr_V (pc := 1) hX kv_X3_93 (by first | assumption | exact jow.r (by assumption)) (c_X3_keep _ _ _ hT) (by decide) dX3_addReference_1 rfl rfl (Nat.le_of_ble_eq_true rfl)) (fun H_1 p_1 z_1 => ?_) jno_x
  have hF := p_1.1
  have hT := p_1.2
  have ho := hT.2.1
  first | refine j_aload_n (pc := 4) hX dX3_addReference_4 rfl rfl ?_ | refine j_aload_nq (pc := 4) hX dX3_addReference_4 rfl rfl ?_
  first | refine j_aload_n (pc := 5) hX dX3_addReference_5 rfl rfl ?_ | refine j_aload_nq (pc := 5) hX dX3_addReference_5 rfl rfl ?_
  refine j_iload_n (pc := 6) hX dX3_addReference_6 rfl rfl ?_
  refine j_iload_n (pc := 7) hX dX3_addReference_7 rfl rfl ?_
  refine j_runi (pc := 8) (jr_V (pc := 8) hX kv_X3_130 (by first | assumption | exact jow.r (by assumption)) (c_X3_doAddReference _ _ _ hT hB (h6 := rfl) x y) (by decide) dX3_addReference_8 rfl rfl (Nat.le_of_ble_eq_true rfl)) (fun r_8 H_8 p_8 z_8 => ?_) jno_x
  obtain ⟨hR, rfl⟩ := p_8
  have hF := JFr.trans hF hR.1
  have hT := hR.2
  have ho := hT.2.1
  skip
  change jtw G H_8 g (jup (jup ar 1 (ar 0)) 0 (refD (ar 0) x y).2.2) cm (jup (jup fs 6 0) 6 (nI (refD (ar 0) x y).1)) at hT
  have hq : (refD (ar 0) x y).1 < 10 := refD_t
  change JW X G H_8 0 11 _ [.int (refD (ar 0) x y).2.1, _]
  generalize (refD (ar 0) x y) = q at *
  rcases Nat.eq_zero_or_pos q.1 with h0 | h0
  · refine j_runi (pc := 11) (jr_V (pc := 11) hX kv_X3_100 (by first | assumption | exact jow.r (by assumption)) (c_X3_ends_0 _ _ _ hT n hn e5 (by show nI q.1 = 0; rw [h0]; rfl) _) (by decide) dX3_addReference_11 rfl rfl (Nat.le_of_ble_eq_true rfl)) (fun r_11 H_11 p_11 z_11 => ?_) jno_x
    obtain ⟨hR, rfl⟩ := p_11
    have hF := JFr.trans hF hR.1
    have hT := hR.2
    exact j_iret hX hQ hr dX3_addReference_14 ⟨_, rfl, chR_0 h0 hF rfl hT⟩
  · refine j_runi (pc := 11) (jr_V (pc := 11) hX kv_X3_100 (by first | assumption | exact jow.r (by assumption)) (c_X3_ends_t _ _ _ hT q.1 h0 hq rfl _) (by decide) dX3_addReference_11 rfl rfl (Nat.le_of_ble_eq_true rfl)) (fun r_11 H_11 p_11 z_11 => ?_) jno_x
    obtain ⟨hR, rfl⟩ := p_11
    have hF := JFr.trans hF hR.1
    have hT := hR.2
    exact j_iret hX hQ hr dX3_addReference_14 ⟨_, rfl, chR_t (Nat.pos_iff_ne_zero.mp h0) hF hT⟩
theorem c_X3_removeReference (l : Launch) (G : JG) (H : Heap) {g : Nat → Nat} {ar : Nat → Nat → Nat} {cm fs : Nat → Int32} (hT : jtw G H g ar cm fs) (hB : Bs (ar 0)) (n : Nat) (hn : n ≤ 8) (e5 : fs 5 = nI n) (x y : Int32) : JMet l yX3_removeReference (ws_ yX3_removeReference cX3_removeReference 3 (some .int)) 5 0 G H [.ref (g 100), .int x, .int y] (jpi (fun r H1 => chR G H H1 g ar cm fs n (unrefD (ar 0) x y) r)) (jno) := by
  refine JMet.of [(0, .inr (some (g 100))), (1, .inl (.int x)), (2, .inl (.int y))] (by decide) (Nat.le_of_ble_eq_true rfl) rfl (fun X hl hX hQ hEx hr hnm hH => ?_)
  subst hl
  obtain ⟨h0, ho, hs, hbf, hsv, hpa, hou, hip, hcm⟩ := id hT
  have hi2 : vp_in (2 : Int32) 93 := vp_in_nI (n := 2) (by omega) (by decide)
  obtain ⟨h2, hb, hf, hg⟩ := id hB
  first | refine j_aload_n (pc := 0) hX dX3_removeReference_0 rfl rfl ?_ | refine j_aload_nq (pc := 0) hX dX3_removeReference_0 rfl rfl ?_
  refine j_runv (pc := 1) (jr_V (pc := 1) hX kv_X3_93 (by first | assumption | exact jow.r (by assumption)) (c_X3_keep _ _ _ hT) (by decide) dX3_removeReference_1 rfl rfl (Nat.le_of_ble_eq_true rfl)) (fun H_1 p_1 z_1 => ?_) jno_x
  have hF := p_1.1
  have hT := p_1.2
  have ho := hT.2.1
  first | refine j_aload_n (pc := 4) hX dX3_removeReference_4 rfl rfl ?_ | refine j_aload_nq (pc := 4) hX dX3_removeReference_4 rfl rfl ?_
  first | refine j_aload_n (pc := 5) hX dX3_removeReference_5 rfl rfl ?_ | refine j_aload_nq (pc := 5) hX dX3_removeReference_5 rfl rfl ?_
  refine j_iload_n (pc := 6) hX dX3_removeReference_6 rfl rfl ?_
  refine j_iload_n (pc := 7) hX dX3_removeReference_7 rfl rfl ?_
  refine j_runi (pc := 8) (jr_V (pc := 8) hX kv_X3_136 (by first | assumption | exact jow.r (by assumption)) (c_X3_doRemoveReference _ _ _ hT hB (h6 := rfl) x y) (by decide) dX3_removeReference_8 rfl rfl (Nat.le_of_ble_eq_true rfl)) (fun r_8 H_8 p_8 z_8 => ?_) jno_x
  obtain ⟨hR, rfl⟩ := p_8
  have hF := JFr.trans hF hR.1
  have hT := hR.2
  have ho := hT.2.1
  skip
  change jtw G H_8 g (jup (jup ar 1 (ar 0)) 0 (unrefD (ar 0) x y).2.2) cm (jup (jup fs 6 0) 6 (nI (unrefD (ar 0) x y).1)) at hT
  have hq : (unrefD (ar 0) x y).1 < 10 := unrefD_t
  change JW X G H_8 0 11 _ [.int (unrefD (ar 0) x y).2.1, _]
  generalize (unrefD (ar 0) x y) = q at *
  rcases Nat.eq_zero_or_pos q.1 with h0 | h0
  · refine j_runi (pc := 11) (jr_V (pc := 11) hX kv_X3_100 (by first | assumption | exact jow.r (by assumption)) (c_X3_ends_0 _ _ _ hT n hn e5 (by show nI q.1 = 0; rw [h0]; rfl) _) (by decide) dX3_removeReference_11 rfl rfl (Nat.le_of_ble_eq_true rfl)) (fun r_11 H_11 p_11 z_11 => ?_) jno_x
    obtain ⟨hR, rfl⟩ := p_11
    have hF := JFr.trans hF hR.1
    have hT := hR.2
    exact j_iret hX hQ hr dX3_removeReference_14 ⟨_, rfl, chR_0 h0 hF rfl hT⟩
  · refine j_runi (pc := 11) (jr_V (pc := 11) hX kv_X3_100 (by first | assumption | exact jow.r (by assumption)) (c_X3_ends_t _ _ _ hT q.1 h0 hq rfl _) (by decide) dX3_removeReference_11 rfl rfl (Nat.le_of_ble_eq_true rfl)) (fun r_11 H_11 p_11 z_11 => ?_) jno_x
    obtain ⟨hR, rfl⟩ := p_11
    have hF := JFr.trans hF hR.1
    have hT := hR.2
    exact j_iret hX hQ hr dX3_removeReference_14 ⟨_, rfl, chR_t (Nat.pos_iff_ne_zero.mp h0) hF hT⟩
theorem c_X3_openPost (l : Launch) (G : JG) (H : Heap) {g : Nat → Nat} {ar : Nat → Nat → Nat} {cm fs : Nat → Int32} (hT : jtw G H g ar cm fs) (hB : Bs (ar 0)) (n : Nat) (hn : n ≤ 8) (e5 : fs 5 = nI n) (sh lo hi wg : Int32) : JMet l yX3_openPost (ws_ yX3_openPost cX3_openPost 5 (some .int)) 3 0 G H [.ref (g 100), .int sh, .int lo, .int hi, .int wg] (jpi (fun r H1 => chR G H H1 g ar cm fs n (openD (ar 0) sh lo hi wg) r)) (jno) := by
  refine JMet.of [(0, .inr (some (g 100))), (1, .inl (.int sh)), (2, .inl (.int lo)), (3, .inl (.int hi)), (4, .inl (.int wg))] (by decide) (Nat.le_of_ble_eq_true rfl) rfl (fun X hl hX hQ hEx hr hnm hH => ?_)
  subst hl
  obtain ⟨h0, ho, hs, hbf, hsv, hpa, hou, hip, hcm⟩ := id hT
  have hi2 : vp_in (2 : Int32) 93 := vp_in_nI (n := 2) (by omega) (by decide)
  obtain ⟨h2, hb, hf, hg⟩ := id hB
  first | refine j_aload_n (pc := 0) hX dX3_openPost_0 rfl rfl ?_ | refine j_aload_nq (pc := 0) hX dX3_openPost_0 rfl rfl ?_
  refine j_runv (pc := 1) (jr_V (pc := 1) hX kv_X3_93 (by first | assumption | exact jow.r (by assumption)) (c_X3_keep _ _ _ hT) (by decide) dX3_openPost_1 rfl rfl (Nat.le_of_ble_eq_true rfl)) (fun H_1 p_1 z_1 => ?_) jno_x
  have hF := p_1.1
  have hT := p_1.2
  have ho := hT.2.1
  first | refine j_aload_n (pc := 4) hX dX3_openPost_4 rfl rfl ?_ | refine j_aload_nq (pc := 4) hX dX3_openPost_4 rfl rfl ?_
  first | refine j_aload_n (pc := 5) hX dX3_openPost_5 rfl rfl ?_ | refine j_aload_nq (pc := 5) hX dX3_openPost_5 rfl rfl ?_
  refine j_iload_n (pc := 6) hX dX3_openPost_6 rfl rfl ?_
  refine j_iload_n (pc := 7) hX dX3_openPost_7 rfl rfl ?_
  refine j_iload_n (pc := 8) hX dX3_openPost_8 rfl rfl ?_
  refine j_iload (pc := 9) hX dX3_openPost_9 rfl ?_
  refine j_runi (pc := 11) (jr_V (pc := 11) hX kv_X3_139 (by first | assumption | exact jow.r (by assumption)) (c_X3_doOpenPost _ _ _ hT hB (h6 := rfl) sh lo hi wg) (by decide) dX3_openPost_11 rfl rfl (Nat.le_of_ble_eq_true rfl)) (fun r_11 H_11 p_11 z_11 => ?_) jno_x
  obtain ⟨hR, rfl⟩ := p_11
  have hF := JFr.trans hF hR.1
  have hT := hR.2
  have ho := hT.2.1
  skip
  change jtw G H_11 g (jup (jup ar 1 (ar 0)) 0 (openD (ar 0) sh lo hi wg).2.2) cm (jup (jup fs 6 0) 6 (nI (openD (ar 0) sh lo hi wg).1)) at hT
  have hq : (openD (ar 0) sh lo hi wg).1 < 10 := openD_t
  change JW X G H_11 0 14 _ [.int (openD (ar 0) sh lo hi wg).2.1, _]
  generalize (openD (ar 0) sh lo hi wg) = q at *
  rcases Nat.eq_zero_or_pos q.1 with h0 | h0
  · refine j_runi (pc := 14) (jr_V (pc := 14) hX kv_X3_100 (by first | assumption | exact jow.r (by assumption)) (c_X3_ends_0 _ _ _ hT n hn e5 (by show nI q.1 = 0; rw [h0]; rfl) _) (by decide) dX3_openPost_14 rfl rfl (Nat.le_of_ble_eq_true rfl)) (fun r_14 H_14 p_14 z_14 => ?_) jno_x
    obtain ⟨hR, rfl⟩ := p_14
    have hF := JFr.trans hF hR.1
    have hT := hR.2
    exact j_iret hX hQ hr dX3_openPost_17 ⟨_, rfl, chR_0 h0 hF rfl hT⟩
  · refine j_runi (pc := 14) (jr_V (pc := 14) hX kv_X3_100 (by first | assumption | exact jow.r (by assumption)) (c_X3_ends_t _ _ _ hT q.1 h0 hq rfl _) (by decide) dX3_openPost_14 rfl rfl (Nat.le_of_ble_eq_true rfl)) (fun r_14 H_14 p_14 z_14 => ?_) jno_x
    obtain ⟨hR, rfl⟩ := p_14
    have hF := JFr.trans hF hR.1
    have hT := hR.2
    exact j_iret hX hQ hr dX3_openPost_17 ⟨_, rfl, chR_t (Nat.pos_iff_ne_zero.mp h0) hF hT⟩
theorem c_X3_closePost (l : Launch) (G : JG) (H : Heap) {g : Nat → Nat} {ar : Nat → Nat → Nat} {cm fs : Nat → Int32} (hT : jtw G H g ar cm fs) (hB : Bs (ar 0)) (n : Nat) (hn : n ≤ 8) (e5 : fs 5 = nI n) (x : Int32) : JMet l yX3_closePost (ws_ yX3_closePost cX3_closePost 2 (some .boolean)) 4 0 G H [.ref (g 100), .int x] (jpi (fun r H1 => chR G H H1 g ar cm fs n (closeD (ar 0) x) r)) (jno) := by
  refine JMet.of [(0, .inr (some (g 100))), (1, .inl (.int x))] (by decide) (Nat.le_of_ble_eq_true rfl) rfl (fun X hl hX hQ hEx hr hnm hH => ?_)
  subst hl
  obtain ⟨h0, ho, hs, hbf, hsv, hpa, hou, hip, hcm⟩ := id hT
  have hi2 : vp_in (2 : Int32) 93 := vp_in_nI (n := 2) (by omega) (by decide)
  obtain ⟨h2, hb, hf, hg⟩ := id hB
  first | refine j_aload_n (pc := 0) hX dX3_closePost_0 rfl rfl ?_ | refine j_aload_nq (pc := 0) hX dX3_closePost_0 rfl rfl ?_
  refine j_runv (pc := 1) (jr_V (pc := 1) hX kv_X3_93 (by first | assumption | exact jow.r (by assumption)) (c_X3_keep _ _ _ hT) (by decide) dX3_closePost_1 rfl rfl (Nat.le_of_ble_eq_true rfl)) (fun H_1 p_1 z_1 => ?_) jno_x
  have hF := p_1.1
  have hT := p_1.2
  have ho := hT.2.1
  first | refine j_aload_n (pc := 4) hX dX3_closePost_4 rfl rfl ?_ | refine j_aload_nq (pc := 4) hX dX3_closePost_4 rfl rfl ?_
  first | refine j_aload_n (pc := 5) hX dX3_closePost_5 rfl rfl ?_ | refine j_aload_nq (pc := 5) hX dX3_closePost_5 rfl rfl ?_
  refine j_iload_n (pc := 6) hX dX3_closePost_6 rfl rfl ?_
  refine j_runi (pc := 7) (jr_V (pc := 7) hX kv_X3_146 (by first | assumption | exact jow.r (by assumption)) (c_X3_doClosePost _ _ _ hT hB (h6 := rfl) x) (by decide) dX3_closePost_7 rfl rfl (Nat.le_of_ble_eq_true rfl)) (fun r_7 H_7 p_7 z_7 => ?_) jno_x
  obtain ⟨hR, rfl⟩ := p_7
  have hF := JFr.trans hF hR.1
  have hT := hR.2
  have ho := hT.2.1
  skip
  change jtw G H_7 g (jup (jup ar 1 (ar 0)) 0 (closeD (ar 0) x).2.2) cm (jup (jup fs 6 0) 6 (nI (closeD (ar 0) x).1)) at hT
  have hq : (closeD (ar 0) x).1 < 10 := closeD_t
  change JW X G H_7 0 10 _ [.int (closeD (ar 0) x).2.1, _]
  have he : (closeD (ar 0) x).2.1 = 1 ∨ (closeD (ar 0) x).2.1 = 0 := by
    unfold closeD; split
    · exact Or.inr rfl
    · split
      · exact Or.inl rfl
      · exact Or.inr rfl
  generalize (closeD (ar 0) x) = q at *
  rcases Nat.eq_zero_or_pos q.1 with h0 | h0
  · refine j_runi (pc := 10) (jr_V (pc := 10) hX kv_X3_100 (by first | assumption | exact jow.r (by assumption)) (c_X3_ends_0 _ _ _ hT n hn e5 (by show nI q.1 = 0; rw [h0]; rfl) _) (by decide) dX3_closePost_10 rfl rfl (Nat.le_of_ble_eq_true rfl)) (fun r_10 H_10 p_10 z_10 => ?_) jno_x
    obtain ⟨hR, rfl⟩ := p_10
    have hF := JFr.trans hF hR.1
    have hT := hR.2
    refine j_iconst (pc := 13) (v := 1) hX dX3_closePost_13 (by decide) ?_
    refine j_icmp_ne (pc := 14) (tgt := 21) hX dX3_closePost_14 (by decide) (fun c_14 => ?_) (fun c_14 => ?_)
    · refine j_iconst (pc := 21) (v := 0) hX dX3_closePost_21 (by decide) ?_
      exact j_zret hX hQ hr (by first | rfl | exact jb_nar _ | exact nI_narC _ | assumption) dX3_closePost_22 ⟨_, rfl, chR_0 h0 hF (by rcases he with e | e <;> simp_all) hT⟩
    · refine j_iconst (pc := 17) (v := 1) hX dX3_closePost_17 (by decide) ?_
      refine j_goto (pc := 18) (tgt := 22) hX dX3_closePost_18 (by decide) ?_
      exact j_zret hX hQ hr (by first | rfl | exact jb_nar _ | exact nI_narC _ | assumption) dX3_closePost_22 ⟨_, rfl, chR_0 h0 hF (by rcases he with e | e <;> simp_all) hT⟩
  · refine j_runi (pc := 10) (jr_V (pc := 10) hX kv_X3_100 (by first | assumption | exact jow.r (by assumption)) (c_X3_ends_t _ _ _ hT q.1 h0 hq rfl _) (by decide) dX3_closePost_10 rfl rfl (Nat.le_of_ble_eq_true rfl)) (fun r_10 H_10 p_10 z_10 => ?_) jno_x
    obtain ⟨hR, rfl⟩ := p_10
    have hF := JFr.trans hF hR.1
    have hT := hR.2
    refine j_iconst (pc := 13) (v := 1) hX dX3_closePost_13 (by decide) ?_
    refine j_icmp_ne (pc := 14) (tgt := 21) hX dX3_closePost_14 (by decide) (fun c_14 => ?_) (fun c_14 => ?_)
    · refine j_iconst (pc := 21) (v := 0) hX dX3_closePost_21 (by decide) ?_
      exact j_zret hX hQ hr (by first | rfl | exact jb_nar _ | exact nI_narC _ | assumption) dX3_closePost_22 ⟨_, rfl, chR_t (Nat.pos_iff_ne_zero.mp h0) hF hT⟩
    · refine j_iconst (pc := 17) (v := 1) hX dX3_closePost_17 (by decide) ?_
      refine j_goto (pc := 18) (tgt := 22) hX dX3_closePost_18 (by decide) ?_
      exact j_zret hX hQ hr (by first | rfl | exact jb_nar _ | exact nI_narC _ | assumption) dX3_closePost_22 ⟨_, rfl, chR_t (Nat.pos_iff_ne_zero.mp h0) hF hT⟩
theorem c_X3_hire (l : Launch) (G : JG) (H : Heap) {g : Nat → Nat} {ar : Nat → Nat → Nat} {cm fs : Nat → Int32} (hT : jtw G H g ar cm fs) (hB : Bs (ar 0)) (n : Nat) (hn : n ≤ 8) (e5 : fs 5 = nI n) (x y : Int32) : JMet l yX3_hire (ws_ yX3_hire cX3_hire 3 (some .int)) 5 0 G H [.ref (g 100), .int x, .int y] (jpi (fun r H1 => chR G H H1 g ar cm fs n (hireD (ar 0) x y) r)) (jno) := by
  refine JMet.of [(0, .inr (some (g 100))), (1, .inl (.int x)), (2, .inl (.int y))] (by decide) (Nat.le_of_ble_eq_true rfl) rfl (fun X hl hX hQ hEx hr hnm hH => ?_)
  subst hl
  obtain ⟨h0, ho, hs, hbf, hsv, hpa, hou, hip, hcm⟩ := id hT
  have hi2 : vp_in (2 : Int32) 93 := vp_in_nI (n := 2) (by omega) (by decide)
  obtain ⟨h2, hb, hf, hg⟩ := id hB
  first | refine j_aload_n (pc := 0) hX dX3_hire_0 rfl rfl ?_ | refine j_aload_nq (pc := 0) hX dX3_hire_0 rfl rfl ?_
  refine j_runv (pc := 1) (jr_V (pc := 1) hX kv_X3_93 (by first | assumption | exact jow.r (by assumption)) (c_X3_keep _ _ _ hT) (by decide) dX3_hire_1 rfl rfl (Nat.le_of_ble_eq_true rfl)) (fun H_1 p_1 z_1 => ?_) jno_x
  have hF := p_1.1
  have hT := p_1.2
  have ho := hT.2.1
  first | refine j_aload_n (pc := 4) hX dX3_hire_4 rfl rfl ?_ | refine j_aload_nq (pc := 4) hX dX3_hire_4 rfl rfl ?_
  first | refine j_aload_n (pc := 5) hX dX3_hire_5 rfl rfl ?_ | refine j_aload_nq (pc := 5) hX dX3_hire_5 rfl rfl ?_
  refine j_iload_n (pc := 6) hX dX3_hire_6 rfl rfl ?_
  refine j_iload_n (pc := 7) hX dX3_hire_7 rfl rfl ?_
  refine j_runi (pc := 8) (jr_V (pc := 8) hX kv_X3_169 (by first | assumption | exact jow.r (by assumption)) (c_X3_doHire _ _ _ hT hB (h6 := rfl) x y) (by decide) dX3_hire_8 rfl rfl (Nat.le_of_ble_eq_true rfl)) (fun r_8 H_8 p_8 z_8 => ?_) jno_x
  obtain ⟨hR, rfl⟩ := p_8
  have hF := JFr.trans hF hR.1
  have hT := hR.2
  have ho := hT.2.1
  skip
  change jtw G H_8 g (jup (jup ar 1 (ar 0)) 0 (hireD (ar 0) x y).2.2) cm (jup (jup fs 6 0) 6 (nI (hireD (ar 0) x y).1)) at hT
  have hq : (hireD (ar 0) x y).1 < 10 := hireD_t
  change JW X G H_8 0 11 _ [.int (hireD (ar 0) x y).2.1, _]
  generalize (hireD (ar 0) x y) = q at *
  rcases Nat.eq_zero_or_pos q.1 with h0 | h0
  · refine j_runi (pc := 11) (jr_V (pc := 11) hX kv_X3_100 (by first | assumption | exact jow.r (by assumption)) (c_X3_ends_0 _ _ _ hT n hn e5 (by show nI q.1 = 0; rw [h0]; rfl) _) (by decide) dX3_hire_11 rfl rfl (Nat.le_of_ble_eq_true rfl)) (fun r_11 H_11 p_11 z_11 => ?_) jno_x
    obtain ⟨hR, rfl⟩ := p_11
    have hF := JFr.trans hF hR.1
    have hT := hR.2
    exact j_iret hX hQ hr dX3_hire_14 ⟨_, rfl, chR_0 h0 hF rfl hT⟩
  · refine j_runi (pc := 11) (jr_V (pc := 11) hX kv_X3_100 (by first | assumption | exact jow.r (by assumption)) (c_X3_ends_t _ _ _ hT q.1 h0 hq rfl _) (by decide) dX3_hire_11 rfl rfl (Nat.le_of_ble_eq_true rfl)) (fun r_11 H_11 p_11 z_11 => ?_) jno_x
    obtain ⟨hR, rfl⟩ := p_11
    have hF := JFr.trans hF hR.1
    have hT := hR.2
    exact j_iret hX hQ hr dX3_hire_14 ⟨_, rfl, chR_t (Nat.pos_iff_ne_zero.mp h0) hF hT⟩
theorem c_X3_hireBest (l : Launch) (G : JG) (H : Heap) {g : Nat → Nat} {ar : Nat → Nat → Nat} {cm fs : Nat → Int32} (hT : jtw G H g ar cm fs) (hB : Bs (ar 0)) (n : Nat) (hn : n ≤ 8) (e5 : fs 5 = nI n) (x : Int32) : JMet l yX3_hireBest (ws_ yX3_hireBest cX3_hireBest 2 (some .int)) 6 0 G H [.ref (g 100), .int x] (jpi (fun r H1 => chR G H H1 g ar cm fs n (hireBestD (ar 0) x) r)) (jno) := by
  refine JMet.of [(0, .inr (some (g 100))), (1, .inl (.int x))] (by decide) (Nat.le_of_ble_eq_true rfl) rfl (fun X hl hX hQ hEx hr hnm hH => ?_)
  subst hl
  obtain ⟨h0, ho, hs, hbf, hsv, hpa, hou, hip, hcm⟩ := id hT
  have hi2 : vp_in (2 : Int32) 93 := vp_in_nI (n := 2) (by omega) (by decide)
  obtain ⟨h2, hb, hf, hg⟩ := id hB
  first | refine j_aload_n (pc := 0) hX dX3_hireBest_0 rfl rfl ?_ | refine j_aload_nq (pc := 0) hX dX3_hireBest_0 rfl rfl ?_
  refine j_runv (pc := 1) (jr_V (pc := 1) hX kv_X3_93 (by first | assumption | exact jow.r (by assumption)) (c_X3_keep _ _ _ hT) (by decide) dX3_hireBest_1 rfl rfl (Nat.le_of_ble_eq_true rfl)) (fun H_1 p_1 z_1 => ?_) jno_x
  have hF := p_1.1
  have hT := p_1.2
  have ho := hT.2.1
  first | refine j_aload_n (pc := 4) hX dX3_hireBest_4 rfl rfl ?_ | refine j_aload_nq (pc := 4) hX dX3_hireBest_4 rfl rfl ?_
  first | refine j_aload_n (pc := 5) hX dX3_hireBest_5 rfl rfl ?_ | refine j_aload_nq (pc := 5) hX dX3_hireBest_5 rfl rfl ?_
  refine j_iload_n (pc := 6) hX dX3_hireBest_6 rfl rfl ?_
  refine j_runi (pc := 7) (jr_V (pc := 7) hX kv_X3_172 (by first | assumption | exact jow.r (by assumption)) (c_X3_doHireBest _ _ _ hT hB (h6 := rfl) x) (by decide) dX3_hireBest_7 rfl rfl (Nat.le_of_ble_eq_true rfl)) (fun r_7 H_7 p_7 z_7 => ?_) jno_x
  obtain ⟨hR, rfl⟩ := p_7
  have hF := JFr.trans hF hR.1
  have hT := hR.2
  have ho := hT.2.1
  skip
  change jtw G H_7 g (jup (jup ar 1 (ar 0)) 0 (hireBestD (ar 0) x).2.2) cm (jup (jup fs 6 0) 6 (nI (hireBestD (ar 0) x).1)) at hT
  have hq : (hireBestD (ar 0) x).1 < 10 := hireBestD_t
  change JW X G H_7 0 10 _ [.int (hireBestD (ar 0) x).2.1, _]
  generalize (hireBestD (ar 0) x) = q at *
  rcases Nat.eq_zero_or_pos q.1 with h0 | h0
  · refine j_runi (pc := 10) (jr_V (pc := 10) hX kv_X3_100 (by first | assumption | exact jow.r (by assumption)) (c_X3_ends_0 _ _ _ hT n hn e5 (by show nI q.1 = 0; rw [h0]; rfl) _) (by decide) dX3_hireBest_10 rfl rfl (Nat.le_of_ble_eq_true rfl)) (fun r_10 H_10 p_10 z_10 => ?_) jno_x
    obtain ⟨hR, rfl⟩ := p_10
    have hF := JFr.trans hF hR.1
    have hT := hR.2
    exact j_iret hX hQ hr dX3_hireBest_13 ⟨_, rfl, chR_0 h0 hF rfl hT⟩
  · refine j_runi (pc := 10) (jr_V (pc := 10) hX kv_X3_100 (by first | assumption | exact jow.r (by assumption)) (c_X3_ends_t _ _ _ hT q.1 h0 hq rfl _) (by decide) dX3_hireBest_10 rfl rfl (Nat.le_of_ble_eq_true rfl)) (fun r_10 H_10 p_10 z_10 => ?_) jno_x
    obtain ⟨hR, rfl⟩ := p_10
    have hF := JFr.trans hF hR.1
    have hT := hR.2
    exact j_iret hX hQ hr dX3_hireBest_13 ⟨_, rfl, chR_t (Nat.pos_iff_ne_zero.mp h0) hF hT⟩
theorem c_X3_dismiss (l : Launch) (G : JG) (H : Heap) {g : Nat → Nat} {ar : Nat → Nat → Nat} {cm fs : Nat → Int32} (hT : jtw G H g ar cm fs) (hB : Bs (ar 0)) (n : Nat) (hn : n ≤ 8) (e5 : fs 5 = nI n) (x : Int32) : JMet l yX3_dismiss (ws_ yX3_dismiss cX3_dismiss 2 (some .int)) 4 0 G H [.ref (g 100), .int x] (jpi (fun r H1 => chR G H H1 g ar cm fs n (dismissD (ar 0) x) r)) (jno) := by
  refine JMet.of [(0, .inr (some (g 100))), (1, .inl (.int x))] (by decide) (Nat.le_of_ble_eq_true rfl) rfl (fun X hl hX hQ hEx hr hnm hH => ?_)
  subst hl
  obtain ⟨h0, ho, hs, hbf, hsv, hpa, hou, hip, hcm⟩ := id hT
  have hi2 : vp_in (2 : Int32) 93 := vp_in_nI (n := 2) (by omega) (by decide)
  obtain ⟨h2, hb, hf, hg⟩ := id hB
  first | refine j_aload_n (pc := 0) hX dX3_dismiss_0 rfl rfl ?_ | refine j_aload_nq (pc := 0) hX dX3_dismiss_0 rfl rfl ?_
  refine j_runv (pc := 1) (jr_V (pc := 1) hX kv_X3_93 (by first | assumption | exact jow.r (by assumption)) (c_X3_keep _ _ _ hT) (by decide) dX3_dismiss_1 rfl rfl (Nat.le_of_ble_eq_true rfl)) (fun H_1 p_1 z_1 => ?_) jno_x
  have hF := p_1.1
  have hT := p_1.2
  have ho := hT.2.1
  first | refine j_aload_n (pc := 4) hX dX3_dismiss_4 rfl rfl ?_ | refine j_aload_nq (pc := 4) hX dX3_dismiss_4 rfl rfl ?_
  first | refine j_aload_n (pc := 5) hX dX3_dismiss_5 rfl rfl ?_ | refine j_aload_nq (pc := 5) hX dX3_dismiss_5 rfl rfl ?_
  refine j_iload_n (pc := 6) hX dX3_dismiss_6 rfl rfl ?_
  refine j_runi (pc := 7) (jr_V (pc := 7) hX kv_X3_175 (by first | assumption | exact jow.r (by assumption)) (c_X3_doDismiss _ _ _ hT hB (h6 := rfl) x) (by decide) dX3_dismiss_7 rfl rfl (Nat.le_of_ble_eq_true rfl)) (fun r_7 H_7 p_7 z_7 => ?_) jno_x
  obtain ⟨hR, rfl⟩ := p_7
  have hF := JFr.trans hF hR.1
  have hT := hR.2
  have ho := hT.2.1
  skip
  change jtw G H_7 g (jup (jup ar 1 (ar 0)) 0 (dismissD (ar 0) x).2.2) cm (jup (jup fs 6 0) 6 (nI (dismissD (ar 0) x).1)) at hT
  have hq : (dismissD (ar 0) x).1 < 10 := dismissD_t
  change JW X G H_7 0 10 _ [.int (dismissD (ar 0) x).2.1, _]
  generalize (dismissD (ar 0) x) = q at *
  rcases Nat.eq_zero_or_pos q.1 with h0 | h0
  · refine j_runi (pc := 10) (jr_V (pc := 10) hX kv_X3_100 (by first | assumption | exact jow.r (by assumption)) (c_X3_ends_0 _ _ _ hT n hn e5 (by show nI q.1 = 0; rw [h0]; rfl) _) (by decide) dX3_dismiss_10 rfl rfl (Nat.le_of_ble_eq_true rfl)) (fun r_10 H_10 p_10 z_10 => ?_) jno_x
    obtain ⟨hR, rfl⟩ := p_10
    have hF := JFr.trans hF hR.1
    have hT := hR.2
    exact j_iret hX hQ hr dX3_dismiss_13 ⟨_, rfl, chR_0 h0 hF rfl hT⟩
  · refine j_runi (pc := 10) (jr_V (pc := 10) hX kv_X3_100 (by first | assumption | exact jow.r (by assumption)) (c_X3_ends_t _ _ _ hT q.1 h0 hq rfl _) (by decide) dX3_dismiss_10 rfl rfl (Nat.le_of_ble_eq_true rfl)) (fun r_10 H_10 p_10 z_10 => ?_) jno_x
    obtain ⟨hR, rfl⟩ := p_10
    have hF := JFr.trans hF hR.1
    have hT := hR.2
    exact j_iret hX hQ hr dX3_dismiss_13 ⟨_, rfl, chR_t (Nat.pos_iff_ne_zero.mp h0) hF hT⟩
theorem c_X3_match (l : Launch) (G : JG) (H : Heap) {g : Nat → Nat} {ar : Nat → Nat → Nat} {cm fs : Nat → Int32} (hT : jtw G H g ar cm fs) (hB : Bs (ar 0)) (n : Nat) (hn : n ≤ 8) (e5 : fs 5 = nI n) : JMet l yX3_match (ws_ yX3_match cX3_match 1 (some .int)) 6 0 G H [.ref (g 100)] (jpi (fun r H1 => chR G H H1 g ar cm fs n (matchD (ar 0)) r)) (jno) := by
  refine JMet.of [(0, .inr (some (g 100)))] (by decide) (Nat.le_of_ble_eq_true rfl) rfl (fun X hl hX hQ hEx hr hnm hH => ?_)
  subst hl
  obtain ⟨h0, ho, hs, hbf, hsv, hpa, hou, hip, hcm⟩ := id hT
  have hi2 : vp_in (2 : Int32) 93 := vp_in_nI (n := 2) (by omega) (by decide)
  obtain ⟨h2, hb, hf, hg⟩ := id hB
  first | refine j_aload_n (pc := 0) hX dX3_match_0 rfl rfl ?_ | refine j_aload_nq (pc := 0) hX dX3_match_0 rfl rfl ?_
  refine j_runv (pc := 1) (jr_V (pc := 1) hX kv_X3_93 (by first | assumption | exact jow.r (by assumption)) (c_X3_keep _ _ _ hT) (by decide) dX3_match_1 rfl rfl (Nat.le_of_ble_eq_true rfl)) (fun H_1 p_1 z_1 => ?_) jno_x
  have hF := p_1.1
  have hT := p_1.2
  have ho := hT.2.1
  first | refine j_aload_n (pc := 4) hX dX3_match_4 rfl rfl ?_ | refine j_aload_nq (pc := 4) hX dX3_match_4 rfl rfl ?_
  first | refine j_aload_n (pc := 5) hX dX3_match_5 rfl rfl ?_ | refine j_aload_nq (pc := 5) hX dX3_match_5 rfl rfl ?_
  refine j_runi (pc := 6) (jr_V (pc := 6) hX kv_X3_181 (by first | assumption | exact jow.r (by assumption)) (c_X3_doMatch _ _ _ hT hB (h6 := rfl)) (by decide) dX3_match_6 rfl rfl (Nat.le_of_ble_eq_true rfl)) (fun r_6 H_6 p_6 z_6 => ?_) jno_x
  obtain ⟨hR, rfl⟩ := p_6
  have hF := JFr.trans hF hR.1
  have hT := hR.2
  have ho := hT.2.1
  skip
  change jtw G H_6 g (jup (jup ar 1 (ar 0)) 0 (matchD (ar 0)).2.2) cm (jup (jup fs 6 0) 6 (nI (matchD (ar 0)).1)) at hT
  have hq : (matchD (ar 0)).1 < 10 := matchD_t
  change JW X G H_6 0 9 _ [.int (matchD (ar 0)).2.1, _]
  generalize (matchD (ar 0)) = q at *
  rcases Nat.eq_zero_or_pos q.1 with h0 | h0
  · refine j_runi (pc := 9) (jr_V (pc := 9) hX kv_X3_100 (by first | assumption | exact jow.r (by assumption)) (c_X3_ends_0 _ _ _ hT n hn e5 (by show nI q.1 = 0; rw [h0]; rfl) _) (by decide) dX3_match_9 rfl rfl (Nat.le_of_ble_eq_true rfl)) (fun r_9 H_9 p_9 z_9 => ?_) jno_x
    obtain ⟨hR, rfl⟩ := p_9
    have hF := JFr.trans hF hR.1
    have hT := hR.2
    exact j_iret hX hQ hr dX3_match_12 ⟨_, rfl, chR_0 h0 hF rfl hT⟩
  · refine j_runi (pc := 9) (jr_V (pc := 9) hX kv_X3_100 (by first | assumption | exact jow.r (by assumption)) (c_X3_ends_t _ _ _ hT q.1 h0 hq rfl _) (by decide) dX3_match_9 rfl rfl (Nat.le_of_ble_eq_true rfl)) (fun r_9 H_9 p_9 z_9 => ?_) jno_x
    obtain ⟨hR, rfl⟩ := p_9
    have hF := JFr.trans hF hR.1
    have hT := hR.2
    exact j_iret hX hQ hr dX3_match_12 ⟨_, rfl, chR_t (Nat.pos_iff_ne_zero.mp h0) hF hT⟩
theorem c_X3_passDays (l : Launch) (G : JG) (H : Heap) {g : Nat → Nat} {ar : Nat → Nat → Nat} {cm fs : Nat → Int32} (hT : jtw G H g ar cm fs) (c : Nat) (hD : Bd c (ar 0)) (hc : c + 594 * 30 < 2 ^ 24) (hd : ar 0 1 + 30 < 2 ^ 24) (n : Nat) (hn : n ≤ 8) (e5 : fs 5 = nI n) (x : Int32) : JMet l yX3_passDays (ws_ yX3_passDays cX3_passDays 2 (some .int)) 5 0 G H [.ref (g 100), .int x] (jpi (fun r H1 => chR G H H1 g ar cm fs n (daysD (ar 0) x) r)) (jno) := by
  refine JMet.of [(0, .inr (some (g 100))), (1, .inl (.int x))] (by decide) (Nat.le_of_ble_eq_true rfl) rfl (fun X hl hX hQ hEx hr hnm hH => ?_)
  subst hl
  obtain ⟨h0, ho, hs, hbf, hsv, hpa, hou, hip, hcm⟩ := id hT
  have hi2 : vp_in (2 : Int32) 93 := vp_in_nI (n := 2) (by omega) (by decide)
  first | refine j_aload_n (pc := 0) hX dX3_passDays_0 rfl rfl ?_ | refine j_aload_nq (pc := 0) hX dX3_passDays_0 rfl rfl ?_
  refine j_runv (pc := 1) (jr_V (pc := 1) hX kv_X3_93 (by first | assumption | exact jow.r (by assumption)) (c_X3_keep _ _ _ hT) (by decide) dX3_passDays_1 rfl rfl (Nat.le_of_ble_eq_true rfl)) (fun H_1 p_1 z_1 => ?_) jno_x
  have hF := p_1.1
  have hT := p_1.2
  have ho := hT.2.1
  first | refine j_aload_n (pc := 4) hX dX3_passDays_4 rfl rfl ?_ | refine j_aload_nq (pc := 4) hX dX3_passDays_4 rfl rfl ?_
  first | refine j_aload_n (pc := 5) hX dX3_passDays_5 rfl rfl ?_ | refine j_aload_nq (pc := 5) hX dX3_passDays_5 rfl rfl ?_
  refine j_iload_n (pc := 6) hX dX3_passDays_6 rfl rfl ?_
  refine j_runi (pc := 7) (jr_V (pc := 7) hX kv_X3_204 (by first | assumption | exact jow.r (by assumption)) (c_X3_doPassDays _ _ _ hT c hD hc hd (h6 := rfl) x) (by decide) dX3_passDays_7 rfl rfl (Nat.le_of_ble_eq_true rfl)) (fun r_7 H_7 p_7 z_7 => ?_) jno_x
  obtain ⟨hR, rfl⟩ := p_7
  have hF := JFr.trans hF hR.1
  have hT := hR.2
  have ho := hT.2.1
  skip
  change jtw G H_7 g (jup (jup ar 1 (ar 0)) 0 (daysD (ar 0) x).2.2) cm (jup (jup fs 6 0) 6 (nI (daysD (ar 0) x).1)) at hT
  have hq : (daysD (ar 0) x).1 < 10 := daysD_t
  change JW X G H_7 0 10 _ [.int (daysD (ar 0) x).2.1, _]
  generalize (daysD (ar 0) x) = q at *
  rcases Nat.eq_zero_or_pos q.1 with h0 | h0
  · refine j_runi (pc := 10) (jr_V (pc := 10) hX kv_X3_100 (by first | assumption | exact jow.r (by assumption)) (c_X3_ends_0 _ _ _ hT n hn e5 (by show nI q.1 = 0; rw [h0]; rfl) _) (by decide) dX3_passDays_10 rfl rfl (Nat.le_of_ble_eq_true rfl)) (fun r_10 H_10 p_10 z_10 => ?_) jno_x
    obtain ⟨hR, rfl⟩ := p_10
    have hF := JFr.trans hF hR.1
    have hT := hR.2
    exact j_iret hX hQ hr dX3_passDays_13 ⟨_, rfl, chR_0 h0 hF rfl hT⟩
  · refine j_runi (pc := 10) (jr_V (pc := 10) hX kv_X3_100 (by first | assumption | exact jow.r (by assumption)) (c_X3_ends_t _ _ _ hT q.1 h0 hq rfl _) (by decide) dX3_passDays_10 rfl rfl (Nat.le_of_ble_eq_true rfl)) (fun r_10 H_10 p_10 z_10 => ?_) jno_x
    obtain ⟨hR, rfl⟩ := p_10
    have hF := JFr.trans hF hR.1
    have hT := hR.2
    exact j_iret hX hQ hr dX3_passDays_13 ⟨_, rfl, chR_t (Nat.pos_iff_ne_zero.mp h0) hF hT⟩
