/-! the reference: undo, the saved state, output -/
set_option maxRecDepth 100000
def rowN (ps : Nat → Nat) (i j : Nat) : Nat := ps (93 * i + j)
theorem c_X3_undo (l : Launch) (G : JG) (H : Heap) {g : Nat → Nat} {ar : Nat → Nat → Nat} {cm fs : Nat → Int32} (hT : jtw G H g ar cm fs) (n : Nat) (hn : n ≤ 8) (e5 : fs 5 = nI n) : JMet l yX3_undo (ws_ yX3_undo cX3_undo 1 (some .int)) 2 0 G H [.ref (g 100)] (jpi (fun r H1 => (n = 0 → twR G H H1 g ar cm (jup fs 6 1)) ∧ (n ≠ 0 → twR G H H1 g (jup ar 0 (rowN (ar 4) (n - 1))) cm (jup (jup fs 6 0) 5 (nI (n - 1))) ∧ r = nI (n - 1)))) (jno) := by
  refine JMet.of [(0, .inr (some (g 100)))] (by decide) (Nat.le_of_ble_eq_true rfl) rfl (fun X hl hX hQ hEx hr hnm hH => ?_)
  subst hl
  obtain ⟨h0, ho, hs, hbf, hsv, hpa, hou, hip, hcm⟩ := id hT
  have hi2 : vp_in (2 : Int32) 93 := vp_in_nI (n := 2) (by omega) (by decide)
  have hF : JFr (twP g) H H := JFr.rfl'
  first | refine j_aload_n (pc := 0) hX dX3_undo_0 rfl rfl ?_ | refine j_aload_nq (pc := 0) hX dX3_undo_0 rfl rfl ?_
  first | refine j_aload_n (pc := 1) hX dX3_undo_1 rfl rfl ?_ | refine j_aload_nq (pc := 1) hX dX3_undo_1 rfl rfl ?_
  refine j_get (pc := 2) hX kg_X3_48 dX3_undo_2 (by first | assumption | exact jow.r (by assumption)) (by rfl) ?_
  rw [e5]
  refine j_if_ne (pc := 5) (tgt := 12) hX dX3_undo_5 (by decide) (fun c_5 => ?_) (fun c_5 => ?_)
  · rw [nI_eq0 (by omega)] at c_5
    obtain ⟨m, rfl⟩ : ∃ m, n = m + 1 := ⟨n - 1, by omega⟩
    refine j_iconst (pc := 12) (v := 0) hX dX3_undo_12 (by decide) ?_
    refine j_put (pc := 13) hX kp_X3_39 dX3_undo_13 (by assumption) (by first | assumption | omega | exact h0.1 _ (by decide)) rfl rfl rfl (fun H_13 w_13 n_13 => ?_)
    have hT := tw_put6 hT w_13 n_13
    have hF := hF.put w_13 (fun _ => ⟨100, by decide, rfl⟩)
    obtain ⟨h0, ho, hs, hbf, hsv, hpa, hou, hip, hcm⟩ := id hT
    first | refine j_aload_n (pc := 16) hX dX3_undo_16 rfl rfl ?_ | refine j_aload_nq (pc := 16) hX dX3_undo_16 rfl rfl ?_
    refine j_get (pc := 17) hX kg_X3_39 dX3_undo_17 (by first | assumption | exact jow.r (by assumption)) (by rfl) ?_
    refine j_if_le (pc := 20) (tgt := 25) hX dX3_undo_20 (by decide) (fun c_20 => ?_) (fun c_20 => ?_)
    rotate_left
    · first | exact absurd c_20 (by decide) | (change ¬ (0 : Int32) ≤ 0 at c_20; exact absurd c_20 (by decide))
    first | refine j_aload_n (pc := 25) hX dX3_undo_25 rfl rfl ?_ | refine j_aload_nq (pc := 25) hX dX3_undo_25 rfl rfl ?_
    refine j_dup (pc := 26) hX dX3_undo_26 (by first | rfl | exact jrf_cat _) ?_
    refine j_get (pc := 27) hX kg_X3_48 dX3_undo_27 (by first | assumption | exact jow.r (by assumption)) (by rfl) ?_
    refine j_iconst (pc := 30) (v := 1) hX dX3_undo_30 (by decide) ?_
    refine j_isub (pc := 31) hX dX3_undo_31 ?_
    change JW X G H_13 0 32 _ [.int (fs 5 - 1), _]
    rw [e5, nI_pred]
    refine j_put (pc := 32) hX kp_X3_48 dX3_undo_32 (by assumption) (by first | assumption | omega | exact h0.1 _ (by decide)) rfl rfl rfl (fun H_32 w_32 n_32 => ?_)
    have hT := tw_put5 hT w_32 n_32
    have hF := hF.put w_32 (fun _ => ⟨100, by decide, rfl⟩)
    obtain ⟨h0, ho, hs, hbf, hsv, hpa, hou, hip, hcm⟩ := id hT
    first | refine j_aload_n (pc := 35) hX dX3_undo_35 rfl rfl ?_ | refine j_aload_nq (pc := 35) hX dX3_undo_35 rfl rfl ?_
    refine j_get (pc := 36) hX kg_X3_19 dX3_undo_36 (by first | assumption | exact jow.r (by assumption)) (by rfl) ?_
    refine j_bipush (pc := 39) (v := 93) hX dX3_undo_39 (by decide) ?_
    first | refine j_aload_n (pc := 41) hX dX3_undo_41 rfl rfl ?_ | refine j_aload_nq (pc := 41) hX dX3_undo_41 rfl rfl ?_
    refine j_get (pc := 42) hX kg_X3_48 dX3_undo_42 (by first | assumption | exact jow.r (by assumption)) (by rfl) ?_
    refine j_imul (pc := 45) hX dX3_undo_45 ?_
    first | refine j_aload_n (pc := 46) hX dX3_undo_46 rfl rfl ?_ | refine j_aload_nq (pc := 46) hX dX3_undo_46 rfl rfl ?_
    refine j_get (pc := 47) hX kg_X3_9 dX3_undo_47 (by first | assumption | exact jow.r (by assumption)) (by rfl) ?_
    refine j_iconst (pc := 50) (v := 0) hX dX3_undo_50 (by decide) ?_
    refine j_bipush (pc := 51) (v := 93) hX dX3_undo_51 (by decide) ?_
    have e93 : (93 : Int32) * jup (jup fs 6 0) 5 (nI m) 5 = nI (93 * m) := pk_mul 93 m
    refine j_acopy (pc := 53) (t := 0) hX kcp_X3_42 (by decide) (93 * m) 0 93 e93 rfl rfl dX3_undo_53 (by first | assumption | exact jaw.r (t := 0) hX (by decide) (by assumption)) (by assumption) (h0.1 _ (by decide)) (by omega) (by omega) (by omega) (by omega) (fun i hi => ⟨rfl, fun a h => by cases h⟩) (by decide) (Nat.le_of_ble_eq_true rfl) (fun H_53 w_53 n_53 => ?_)
    have hT := tw_arr0 (s2 := rowN (ar 4) m) hT w_53 (jaw_cpy n_53) (fun j hj => by simp [cpN, hj, rowN])
    have hF := JFr.put hF w_53 (fun _ => ⟨0, by decide, rfl⟩)
    have ho := hT.2.1
    first | refine j_aload_n (pc := 56) hX dX3_undo_56 rfl rfl ?_ | refine j_aload_nq (pc := 56) hX dX3_undo_56 rfl rfl ?_
    refine j_get (pc := 57) hX kg_X3_48 dX3_undo_57 (by first | assumption | exact jow.r (by assumption)) (by rfl) ?_
    exact j_iret hX hQ hr dX3_undo_60 ⟨_, rfl, fun z => absurd z (by omega), fun z => ⟨⟨hF, hT⟩, rfl⟩⟩
  · rw [nI_eq0 (by omega)] at c_5
    refine j_iconst (pc := 8) (v := 1) hX dX3_undo_8 (by decide) ?_
    refine j_goto (pc := 9) (tgt := 13) hX dX3_undo_9 (by decide) ?_
    refine j_put (pc := 13) hX kp_X3_39 dX3_undo_13 (by assumption) (by first | assumption | omega | exact h0.1 _ (by decide)) rfl rfl rfl (fun H_13 w_13 n_13 => ?_)
    have hT := tw_put6 hT w_13 n_13
    have hF := hF.put w_13 (fun _ => ⟨100, by decide, rfl⟩)
    obtain ⟨h0, ho, hs, hbf, hsv, hpa, hou, hip, hcm⟩ := id hT
    first | refine j_aload_n (pc := 16) hX dX3_undo_16 rfl rfl ?_ | refine j_aload_nq (pc := 16) hX dX3_undo_16 rfl rfl ?_
    refine j_get (pc := 17) hX kg_X3_39 dX3_undo_17 (by first | assumption | exact jow.r (by assumption)) (by rfl) ?_
    refine j_if_le (pc := 20) (tgt := 25) hX dX3_undo_20 (by decide) (fun c_20 => ?_) (fun c_20 => ?_)
    · first | exact absurd c_20 (by decide) | (change (1 : Int32) ≤ 0 at c_20; exact absurd c_20 (by decide))
    refine j_iconst (pc := 23) (v := 0) hX dX3_undo_23 (by decide) ?_
    exact j_iret hX hQ hr dX3_undo_24 ⟨_, rfl, fun z => ⟨hF, hT⟩, fun z => absurd c_5 z⟩
theorem c_X3_undoCount (l : Launch) (G : JG) (H : Heap) {g : Nat → Nat} {ar : Nat → Nat → Nat} {cm fs : Nat → Int32} (hT : jtw G H g ar cm fs) (n : Nat) (e5 : fs 5 = nI n) : JMet l yX3_undoCount (ws_ yX3_undoCount cX3_undoCount 1 (some .int)) 1 0 G H [.ref (g 100)] (twQ G H g ar cm fs (0, nI n)) (jno) := by
  refine JMet.of [(0, .inr (some (g 100)))] (by decide) (Nat.le_of_ble_eq_true rfl) rfl (fun X hl hX hQ hEx hr hnm hH => ?_)
  subst hl
  obtain ⟨h0, ho, hs, hbf, hsv, hpa, hou, hip, hcm⟩ := id hT
  have hi2 : vp_in (2 : Int32) 93 := vp_in_nI (n := 2) (by omega) (by decide)
  first | refine j_aload_n (pc := 0) hX dX3_undoCount_0 rfl rfl ?_ | refine j_aload_nq (pc := 0) hX dX3_undoCount_0 rfl rfl ?_
  refine j_iconst (pc := 1) (v := 0) hX dX3_undoCount_1 (by decide) ?_
  refine j_put (pc := 2) hX kp_X3_39 dX3_undoCount_2 (by assumption) (by first | assumption | omega | exact h0.1 _ (by decide)) rfl rfl rfl (fun H_2 w_2 n_2 => ?_)
  have hT := tw_put6 hT w_2 n_2
  have ho := hT.2.1
  have hF : JFr (twP g) H H_2 := w_2.fr ⟨100, by decide, rfl⟩
  obtain ⟨-, -, hs, -⟩ := id hT
  first | refine j_aload_n (pc := 5) hX dX3_undoCount_5 rfl rfl ?_ | refine j_aload_nq (pc := 5) hX dX3_undoCount_5 rfl rfl ?_
  refine j_get (pc := 6) hX kg_X3_48 dX3_undoCount_6 (by first | assumption | exact jow.r (by assumption)) (by rfl) ?_
  exact j_iret hX hQ hr dX3_undoCount_9 ⟨_, rfl, ⟨hF, hT⟩, fun _ => e5⟩
theorem c_X3_save (l : Launch) (G : JG) (H : Heap) {g : Nat → Nat} {ar : Nat → Nat → Nat} {cm fs : Nat → Int32} (hT : jtw G H g ar cm fs) (hB : Bs (ar 0)) : JMet l yX3_save (ws_ yX3_save cX3_save 1 (some .int)) 4 0 G H [.ref (g 100)] (jpi (fun r H1 => twR G H H1 g (jup ar 2 (ar 0)) cm (jup (jup fs 6 0) 3 1) ∧ r = nI (appsN (ar 0)))) (jno) := by
  refine JMet.of [(0, .inr (some (g 100)))] (by decide) (Nat.le_of_ble_eq_true rfl) rfl (fun X hl hX hQ hEx hr hnm hH => ?_)
  subst hl
  obtain ⟨h0, ho, hs, hbf, hsv, hpa, hou, hip, hcm⟩ := id hT
  have hi2 : vp_in (2 : Int32) 93 := vp_in_nI (n := 2) (by omega) (by decide)
  obtain ⟨h2, hb, hf, hg⟩ := id hB
  have hF : JFr (twP g) H H := JFr.rfl'
  first | refine j_aload_n (pc := 0) hX dX3_save_0 rfl rfl ?_ | refine j_aload_nq (pc := 0) hX dX3_save_0 rfl rfl ?_
  refine j_iconst (pc := 1) (v := 0) hX dX3_save_1 (by decide) ?_
  refine j_put (pc := 2) hX kp_X3_39 dX3_save_2 (by assumption) (by first | assumption | omega | exact h0.1 _ (by decide)) rfl rfl rfl (fun H_2 w_2 n_2 => ?_)
  have hT := tw_put6 hT w_2 n_2
  have hF := hF.put w_2 (fun _ => ⟨100, by decide, rfl⟩)
  obtain ⟨h0, ho, hs, hbf, hsv, hpa, hou, hip, hcm⟩ := id hT
  first | refine j_aload_n (pc := 5) hX dX3_save_5 rfl rfl ?_ | refine j_aload_nq (pc := 5) hX dX3_save_5 rfl rfl ?_
  refine j_get (pc := 6) hX kg_X3_9 dX3_save_6 (by first | assumption | exact jow.r (by assumption)) (by rfl) ?_
  refine j_iconst (pc := 9) (v := 0) hX dX3_save_9 (by decide) ?_
  first | refine j_aload_n (pc := 10) hX dX3_save_10 rfl rfl ?_ | refine j_aload_nq (pc := 10) hX dX3_save_10 rfl rfl ?_
  refine j_get (pc := 11) hX kg_X3_16 dX3_save_11 (by first | assumption | exact jow.r (by assumption)) (by rfl) ?_
  refine j_iconst (pc := 14) (v := 0) hX dX3_save_14 (by decide) ?_
  refine j_bipush (pc := 15) (v := 93) hX dX3_save_15 (by decide) ?_
  refine j_acopy (pc := 17) (t := 0) hX kcp_X3_42 (by decide) 0 0 93 rfl rfl rfl dX3_save_17 (by first | assumption | exact jaw.r (t := 0) hX (by decide) (by assumption)) (by assumption) (h0.1 _ (by decide)) (by omega) (by omega) (by omega) (by omega) (fun i hi => ⟨rfl, fun a h => by cases h⟩) (by decide) (Nat.le_of_ble_eq_true rfl) (fun H_17 w_17 n_17 => ?_)
  have hT := tw_arr2 (s2 := (ar 0)) hT w_17 (jaw_cpy n_17) (fun j hj => by simp [cpN, hj])
  have hF := JFr.put hF w_17 (fun _ => ⟨2, by decide, rfl⟩)
  obtain ⟨h0, ho, hs, hbf, hsv, hpa, hou, hip, hcm⟩ := id hT
  first | refine j_aload_n (pc := 20) hX dX3_save_20 rfl rfl ?_ | refine j_aload_nq (pc := 20) hX dX3_save_20 rfl rfl ?_
  refine j_iconst (pc := 21) (v := 1) hX dX3_save_21 (by decide) ?_
  refine j_put (pc := 22) hX kp_X3_291 dX3_save_22 (by assumption) (by first | assumption | omega | exact h0.1 _ (by decide)) rfl rfl rfl (fun H_22 w_22 n_22 => ?_)
  have hT := tw_put3 hT w_22 n_22
  have hF := hF.put w_22 (fun _ => ⟨100, by decide, rfl⟩)
  have ho := hT.2.1
  first | refine j_aload_n (pc := 25) hX dX3_save_25 rfl rfl ?_ | refine j_aload_nq (pc := 25) hX dX3_save_25 rfl rfl ?_
  refine j_rune (pc := 26) (jr_V (pc := 26) hX kv_X3_85 (by first | assumption | exact jow.r (by assumption)) (c_X3_applicants _ _ _ hT hB) (by decide) dX3_save_26 rfl rfl (Nat.le_of_ble_eq_true rfl)) ?_ jno_x
  exact j_iret hX hQ hr dX3_save_29 ⟨_, rfl, ⟨hF, hT⟩, rfl⟩
theorem c_X3_restore (l : Launch) (G : JG) (H : Heap) {g : Nat → Nat} {ar : Nat → Nat → Nat} {cm fs : Nat → Int32} (hT : jtw G H g ar cm fs) (z : Bool) (e3 : fs 3 = jb z) (hB : z = true → Bs (ar 2)) : JMet l yX3_restore (ws_ yX3_restore cX3_restore 1 (some .int)) 4 0 G H [.ref (g 100)] (jpi (fun r H1 => (z = false → twR G H H1 g ar cm (jup fs 6 1)) ∧ (z = true → twR G H H1 g (jup ar 0 (ar 2)) cm (jup (jup fs 6 0) 5 0) ∧ r = nI (appsN (ar 2))))) (jno) := by
  refine JMet.of [(0, .inr (some (g 100)))] (by decide) (Nat.le_of_ble_eq_true rfl) rfl (fun X hl hX hQ hEx hr hnm hH => ?_)
  subst hl
  obtain ⟨h0, ho, hs, hbf, hsv, hpa, hou, hip, hcm⟩ := id hT
  have hi2 : vp_in (2 : Int32) 93 := vp_in_nI (n := 2) (by omega) (by decide)
  have hF : JFr (twP g) H H := JFr.rfl'
  first | refine j_aload_n (pc := 0) hX dX3_restore_0 rfl rfl ?_ | refine j_aload_nq (pc := 0) hX dX3_restore_0 rfl rfl ?_
  first | refine j_aload_n (pc := 1) hX dX3_restore_1 rfl rfl ?_ | refine j_aload_nq (pc := 1) hX dX3_restore_1 rfl rfl ?_
  refine j_get (pc := 2) hX kg_X3_291 dX3_restore_2 (by first | assumption | exact jow.r (by assumption)) (by rfl) ?_
  rw [e3]
  refine j_if_eq (pc := 5) (tgt := 12) hX dX3_restore_5 (by decide) (fun c_5 => ?_) (fun c_5 => ?_)
  · rw [jb_z] at c_5
    refine j_iconst (pc := 12) (v := 1) hX dX3_restore_12 (by decide) ?_
    refine j_put (pc := 13) hX kp_X3_39 dX3_restore_13 (by assumption) (by first | assumption | omega | exact h0.1 _ (by decide)) rfl rfl rfl (fun H_13 w_13 n_13 => ?_)
    have hT := tw_put6 hT w_13 n_13
    have hF := hF.put w_13 (fun _ => ⟨100, by decide, rfl⟩)
    obtain ⟨h0, ho, hs, hbf, hsv, hpa, hou, hip, hcm⟩ := id hT
    first | refine j_aload_n (pc := 16) hX dX3_restore_16 rfl rfl ?_ | refine j_aload_nq (pc := 16) hX dX3_restore_16 rfl rfl ?_
    refine j_get (pc := 17) hX kg_X3_39 dX3_restore_17 (by first | assumption | exact jow.r (by assumption)) (by rfl) ?_
    refine j_if_le (pc := 20) (tgt := 25) hX dX3_restore_20 (by decide) (fun c_20 => ?_) (fun c_20 => ?_)
    · first | exact absurd c_20 (by decide) | (change (1 : Int32) ≤ 0 at c_20; exact absurd c_20 (by decide))
    refine j_iconst (pc := 23) (v := 0) hX dX3_restore_23 (by decide) ?_
    exact j_iret hX hQ hr dX3_restore_24 ⟨_, rfl, fun _ => ⟨hF, hT⟩, fun z => absurd (c_5.symm.trans z) (by decide)⟩
  · rw [jb_n] at c_5
    refine j_iconst (pc := 8) (v := 0) hX dX3_restore_8 (by decide) ?_
    refine j_goto (pc := 9) (tgt := 13) hX dX3_restore_9 (by decide) ?_
    refine j_put (pc := 13) hX kp_X3_39 dX3_restore_13 (by assumption) (by first | assumption | omega | exact h0.1 _ (by decide)) rfl rfl rfl (fun H_13 w_13 n_13 => ?_)
    have hT := tw_put6 hT w_13 n_13
    have hF := hF.put w_13 (fun _ => ⟨100, by decide, rfl⟩)
    obtain ⟨h0, ho, hs, hbf, hsv, hpa, hou, hip, hcm⟩ := id hT
    first | refine j_aload_n (pc := 16) hX dX3_restore_16 rfl rfl ?_ | refine j_aload_nq (pc := 16) hX dX3_restore_16 rfl rfl ?_
    refine j_get (pc := 17) hX kg_X3_39 dX3_restore_17 (by first | assumption | exact jow.r (by assumption)) (by rfl) ?_
    refine j_if_le (pc := 20) (tgt := 25) hX dX3_restore_20 (by decide) (fun c_20 => ?_) (fun c_20 => ?_)
    rotate_left
    · first | exact absurd c_20 (by decide) | (change ¬ (0 : Int32) ≤ 0 at c_20; exact absurd c_20 (by decide))
    first | refine j_aload_n (pc := 25) hX dX3_restore_25 rfl rfl ?_ | refine j_aload_nq (pc := 25) hX dX3_restore_25 rfl rfl ?_
    refine j_get (pc := 26) hX kg_X3_16 dX3_restore_26 (by first | assumption | exact jow.r (by assumption)) (by rfl) ?_
    refine j_iconst (pc := 29) (v := 0) hX dX3_restore_29 (by decide) ?_
    first | refine j_aload_n (pc := 30) hX dX3_restore_30 rfl rfl ?_ | refine j_aload_nq (pc := 30) hX dX3_restore_30 rfl rfl ?_
    refine j_get (pc := 31) hX kg_X3_9 dX3_restore_31 (by first | assumption | exact jow.r (by assumption)) (by rfl) ?_
    refine j_iconst (pc := 34) (v := 0) hX dX3_restore_34 (by decide) ?_
    refine j_bipush (pc := 35) (v := 93) hX dX3_restore_35 (by decide) ?_
    refine j_acopy (pc := 37) (t := 0) hX kcp_X3_42 (by decide) 0 0 93 rfl rfl rfl dX3_restore_37 (by first | assumption | exact jaw.r (t := 0) hX (by decide) (by assumption)) (by assumption) (h0.1 _ (by decide)) (by omega) (by omega) (by omega) (by omega) (fun i hi => ⟨rfl, fun a h => by cases h⟩) (by decide) (Nat.le_of_ble_eq_true rfl) (fun H_37 w_37 n_37 => ?_)
    have hT := tw_arr0 (s2 := (ar 2)) hT w_37 (jaw_cpy n_37) (fun j hj => by simp [cpN, hj])
    have hF := JFr.put hF w_37 (fun _ => ⟨0, by decide, rfl⟩)
    obtain ⟨h0, ho, hs, hbf, hsv, hpa, hou, hip, hcm⟩ := id hT
    first | refine j_aload_n (pc := 40) hX dX3_restore_40 rfl rfl ?_ | refine j_aload_nq (pc := 40) hX dX3_restore_40 rfl rfl ?_
    refine j_iconst (pc := 41) (v := 0) hX dX3_restore_41 (by decide) ?_
    refine j_put (pc := 42) hX kp_X3_48 dX3_restore_42 (by assumption) (by first | assumption | omega | exact h0.1 _ (by decide)) rfl rfl rfl (fun H_42 w_42 n_42 => ?_)
    have hT := tw_put5 hT w_42 n_42
    have hF := hF.put w_42 (fun _ => ⟨100, by decide, rfl⟩)
    have ho := hT.2.1
    first | refine j_aload_n (pc := 45) hX dX3_restore_45 rfl rfl ?_ | refine j_aload_nq (pc := 45) hX dX3_restore_45 rfl rfl ?_
    refine j_rune (pc := 46) (jr_V (pc := 46) hX kv_X3_85 (by first | assumption | exact jow.r (by assumption)) (c_X3_applicants _ _ _ hT (hB c_5)) (by decide) dX3_restore_46 rfl rfl (Nat.le_of_ble_eq_true rfl)) ?_ jno_x
    exact j_iret hX hQ hr dX3_restore_49 ⟨_, rfl, fun z => absurd (c_5.symm.trans z) (by decide), fun _ => ⟨⟨hF, hT⟩, rfl⟩⟩
def atQ (o : Int32) : Nat × Int32 := if o < 0 then (1, 0) else (0, o)
theorem c_X3_errorPosition (l : Launch) (G : JG) (H : Heap) {g : Nat → Nat} {ar : Nat → Nat → Nat} {cm fs : Nat → Int32} (hT : jtw G H g ar cm fs) : JMet l yX3_errorPosition (ws_ yX3_errorPosition cX3_errorPosition 1 (some .int)) 2 0 G H [.ref (g 100)] (twQ G H g ar cm fs (atQ (fs 13))) (jno) := by
  refine JMet.of [(0, .inr (some (g 100)))] (by decide) (Nat.le_of_ble_eq_true rfl) rfl (fun X hl hX hQ hEx hr hnm hH => ?_)
  subst hl
  obtain ⟨h0, ho, hs, hbf, hsv, hpa, hou, hip, hcm⟩ := id hT
  have hi2 : vp_in (2 : Int32) 93 := vp_in_nI (n := 2) (by omega) (by decide)
  first | refine j_aload_n (pc := 0) hX dX3_errorPosition_0 rfl rfl ?_ | refine j_aload_nq (pc := 0) hX dX3_errorPosition_0 rfl rfl ?_
  first | refine j_aload_n (pc := 1) hX dX3_errorPosition_1 rfl rfl ?_ | refine j_aload_nq (pc := 1) hX dX3_errorPosition_1 rfl rfl ?_
  refine j_get (pc := 2) hX kg_X3_29 dX3_errorPosition_2 (by first | assumption | exact jow.r (by assumption)) (by rfl) ?_
  refine j_if_lt (pc := 5) (tgt := 12) hX dX3_errorPosition_5 (by decide) (fun c_5 => ?_) (fun c_5 => ?_)
  · refine j_iconst (pc := 12) (v := 0) hX dX3_errorPosition_12 (by decide) ?_
    refine j_runi (pc := 13) (jr_V (pc := 13) hX kv_X3_119 (by first | assumption | exact jow.r (by assumption)) (c_X3_isThere _ _ _ hT _ rfl) (by decide) dX3_errorPosition_13 rfl rfl (Nat.le_of_ble_eq_true rfl)) (fun r_13 H_13 p_13 z_13 => ?_) jno_x
    obtain ⟨⟨hF, hT⟩, rfl⟩ := p_13
    have ho := hT.2.1
    refine j_if_eq (pc := 16) (tgt := 26) hX dX3_errorPosition_16 (by decide) (fun c_16 => ?_) (fun c_16 => ?_)
    rotate_left
    · first | exact absurd c_16 (by decide) | (change ¬ (0 : Int32) = 0 at c_16; exact absurd c_16 (by decide))
    refine j_iconst (pc := 26) (v := 0) hX dX3_errorPosition_26 (by decide) ?_
    exact j_iret hX hQ hr dX3_errorPosition_27 ⟨_, rfl, ⟨hF, by simpa [atQ, c_5] using hT⟩, by intro q; simp [atQ, c_5] at q ⊢ <;> rfl⟩
  · refine j_iconst (pc := 8) (v := 1) hX dX3_errorPosition_8 (by decide) ?_
    refine j_goto (pc := 9) (tgt := 13) hX dX3_errorPosition_9 (by decide) ?_
    refine j_runi (pc := 13) (jr_V (pc := 13) hX kv_X3_119 (by first | assumption | exact jow.r (by assumption)) (c_X3_isThere _ _ _ hT _ rfl) (by decide) dX3_errorPosition_13 rfl rfl (Nat.le_of_ble_eq_true rfl)) (fun r_13 H_13 p_13 z_13 => ?_) jno_x
    obtain ⟨⟨hF, hT⟩, rfl⟩ := p_13
    have ho := hT.2.1
    refine j_if_eq (pc := 16) (tgt := 26) hX dX3_errorPosition_16 (by decide) (fun c_16 => ?_) (fun c_16 => ?_)
    · first | exact absurd c_16 (by decide) | (change (1 : Int32) = 0 at c_16; exact absurd c_16 (by decide))
    first | refine j_aload_n (pc := 19) hX dX3_errorPosition_19 rfl rfl ?_ | refine j_aload_nq (pc := 19) hX dX3_errorPosition_19 rfl rfl ?_
    refine j_get (pc := 20) hX kg_X3_29 dX3_errorPosition_20 (by first | assumption | exact jow.r (by assumption)) (by rfl) ?_
    refine j_goto (pc := 23) (tgt := 27) hX dX3_errorPosition_23 (by decide) ?_
    exact j_iret hX hQ hr dX3_errorPosition_27 ⟨_, rfl, ⟨hF, by simpa [atQ, c_5] using hT⟩, by intro q; simp [atQ, c_5] at q ⊢ <;> rfl⟩
theorem c_X3_failedCommand (l : Launch) (G : JG) (H : Heap) {g : Nat → Nat} {ar : Nat → Nat → Nat} {cm fs : Nat → Int32} (hT : jtw G H g ar cm fs) : JMet l yX3_failedCommand (ws_ yX3_failedCommand cX3_failedCommand 1 (some .int)) 2 0 G H [.ref (g 100)] (twQ G H g ar cm fs (atQ (fs 14))) (jno) := by
  refine JMet.of [(0, .inr (some (g 100)))] (by decide) (Nat.le_of_ble_eq_true rfl) rfl (fun X hl hX hQ hEx hr hnm hH => ?_)
  subst hl
  obtain ⟨h0, ho, hs, hbf, hsv, hpa, hou, hip, hcm⟩ := id hT
  have hi2 : vp_in (2 : Int32) 93 := vp_in_nI (n := 2) (by omega) (by decide)
  first | refine j_aload_n (pc := 0) hX dX3_failedCommand_0 rfl rfl ?_ | refine j_aload_nq (pc := 0) hX dX3_failedCommand_0 rfl rfl ?_
  first | refine j_aload_n (pc := 1) hX dX3_failedCommand_1 rfl rfl ?_ | refine j_aload_nq (pc := 1) hX dX3_failedCommand_1 rfl rfl ?_
  refine j_get (pc := 2) hX kg_X3_33 dX3_failedCommand_2 (by first | assumption | exact jow.r (by assumption)) (by rfl) ?_
  refine j_if_lt (pc := 5) (tgt := 12) hX dX3_failedCommand_5 (by decide) (fun c_5 => ?_) (fun c_5 => ?_)
  · refine j_iconst (pc := 12) (v := 0) hX dX3_failedCommand_12 (by decide) ?_
    refine j_runi (pc := 13) (jr_V (pc := 13) hX kv_X3_119 (by first | assumption | exact jow.r (by assumption)) (c_X3_isThere _ _ _ hT _ rfl) (by decide) dX3_failedCommand_13 rfl rfl (Nat.le_of_ble_eq_true rfl)) (fun r_13 H_13 p_13 z_13 => ?_) jno_x
    obtain ⟨⟨hF, hT⟩, rfl⟩ := p_13
    have ho := hT.2.1
    refine j_if_eq (pc := 16) (tgt := 26) hX dX3_failedCommand_16 (by decide) (fun c_16 => ?_) (fun c_16 => ?_)
    rotate_left
    · first | exact absurd c_16 (by decide) | (change ¬ (0 : Int32) = 0 at c_16; exact absurd c_16 (by decide))
    refine j_iconst (pc := 26) (v := 0) hX dX3_failedCommand_26 (by decide) ?_
    exact j_iret hX hQ hr dX3_failedCommand_27 ⟨_, rfl, ⟨hF, by simpa [atQ, c_5] using hT⟩, by intro q; simp [atQ, c_5] at q ⊢ <;> rfl⟩
  · refine j_iconst (pc := 8) (v := 1) hX dX3_failedCommand_8 (by decide) ?_
    refine j_goto (pc := 9) (tgt := 13) hX dX3_failedCommand_9 (by decide) ?_
    refine j_runi (pc := 13) (jr_V (pc := 13) hX kv_X3_119 (by first | assumption | exact jow.r (by assumption)) (c_X3_isThere _ _ _ hT _ rfl) (by decide) dX3_failedCommand_13 rfl rfl (Nat.le_of_ble_eq_true rfl)) (fun r_13 H_13 p_13 z_13 => ?_) jno_x
    obtain ⟨⟨hF, hT⟩, rfl⟩ := p_13
    have ho := hT.2.1
    refine j_if_eq (pc := 16) (tgt := 26) hX dX3_failedCommand_16 (by decide) (fun c_16 => ?_) (fun c_16 => ?_)
    · first | exact absurd c_16 (by decide) | (change (1 : Int32) = 0 at c_16; exact absurd c_16 (by decide))
    first | refine j_aload_n (pc := 19) hX dX3_failedCommand_19 rfl rfl ?_ | refine j_aload_nq (pc := 19) hX dX3_failedCommand_19 rfl rfl ?_
    refine j_get (pc := 20) hX kg_X3_33 dX3_failedCommand_20 (by first | assumption | exact jow.r (by assumption)) (by rfl) ?_
    refine j_goto (pc := 23) (tgt := 27) hX dX3_failedCommand_23 (by decide) ?_
    exact j_iret hX hQ hr dX3_failedCommand_27 ⟨_, rfl, ⟨hF, by simpa [atQ, c_5] using hT⟩, by intro q; simp [atQ, c_5] at q ⊢ <;> rfl⟩
/-- a row begins with these signs -/
def Ou (o : Nat → Nat) (L : List Nat) : Prop := ∀ j, j < L.length → o j = L.getD j 0
theorem Ou.snoc {o : Nat → Nat} {L : List Nat} {c : Nat} (h : Ou o L) : Ou (jup o L.length c) (L ++ [c]) := by
  intro j hj
  rw [List.length_append] at hj
  unfold jup
  by_cases e : j = L.length
  · rw [if_pos e, e]; simp
  · rw [if_neg e, h j (by simp at hj; omega)]
    rw [List.getD_eq_getElem?_getD, List.getD_eq_getElem?_getD, List.getElem?_append_left (by simp at hj; omega)]
abbrev twO (G : JG) (H : Heap) (g : Nat → Nat) (ar : Nat → Nat → Nat) (cm fs : Nat → Int32) (L : List Nat) : Option Value → Heap → Prop := jpv (fun H1 => ∃ o, Ou o L ∧ twR G H H1 g (jup ar 7 o) cm (jup fs 8 (nI L.length)))
theorem c_X3_says (l : Launch) (G : JG) (H : Heap) {g : Nat → Nat} {ar : Nat → Nat → Nat} {cm fs : Nat → Int32} (hT : jtw G H g ar cm fs) (L : List Nat) (hL : L.length < 90) (e8 : fs 8 = nI L.length) (hO : Ou (ar 7) L) (c : Nat) (hc : c < 65536) : JMet l yX3_says (ws_ yX3_says cX3_says 2 none) 1 0 G H [.ref (g 100), .int (nI c)] (twO G H g ar cm fs (L ++ [c])) (jno) := by
  refine JMet.of [(0, .inr (some (g 100))), (1, .inl (.int (nI c)))] (by decide) (Nat.le_of_ble_eq_true rfl) rfl (fun X hl hX hQ hEx hr hnm hH => ?_)
  subst hl
  obtain ⟨h0, ho, hs, hbf, hsv, hpa, hou, hip, hcm⟩ := id hT
  have hi2 : vp_in (2 : Int32) 93 := vp_in_nI (n := 2) (by omega) (by decide)
  have hF : JFr (twP g) H H := JFr.rfl'
  have hin : vp_in (fs 8) 90 := by rw [e8]; exact vp_in_nI hL (by decide)
  first | refine j_aload_n (pc := 0) hX dX3_says_0 rfl rfl ?_ | refine j_aload_nq (pc := 0) hX dX3_says_0 rfl rfl ?_
  refine j_get (pc := 1) hX kg_X3_22 dX3_says_1 (by first | assumption | exact jow.r (by assumption)) (by rfl) ?_
  first | refine j_aload_n (pc := 4) hX dX3_says_4 rfl rfl ?_ | refine j_aload_nq (pc := 4) hX dX3_says_4 rfl rfl ?_
  refine j_get (pc := 5) hX kg_X3_207 dX3_says_5 (by first | assumption | exact jow.r (by assumption)) (by rfl) ?_
  refine j_iload_n (pc := 8) hX dX3_says_8 rfl rfl ?_
  refine j_i2c (pc := 9) hX dX3_says_9 (nI_c (by omega)) ?_
  rw [Nat.mod_eq_of_lt hc]
  refine j_cast (pc := 10) hX dX3_says_10 (by assumption) (h0.1 _ (by decide)) (by assumption) (pk_charN hc).1 (fun H_10 w_10 n_10 => ?_)
  rw [e8, nI_clamp (by omega)] at n_10
  have hT := tw_arr7 (s2 := jup (ar 7) L.length c) hT w_10 n_10 (fun j hj => by unfold jup twA; split <;> rfl)
  have hF := JFr.put hF w_10 (fun _ => ⟨7, by decide, rfl⟩)
  obtain ⟨h0, ho, hs, hbf, hsv, hpa, hou, hip, hcm⟩ := id hT
  first | refine j_aload_n (pc := 11) hX dX3_says_11 rfl rfl ?_ | refine j_aload_nq (pc := 11) hX dX3_says_11 rfl rfl ?_
  refine j_dup (pc := 12) hX dX3_says_12 (by first | rfl | exact jrf_cat _) ?_
  refine j_get (pc := 13) hX kg_X3_207 dX3_says_13 (by first | assumption | exact jow.r (by assumption)) (by rfl) ?_
  refine j_iconst (pc := 16) (v := 1) hX dX3_says_16 (by decide) ?_
  refine j_iadd (pc := 17) hX dX3_says_17 ?_
  rw [e8, nI_1]
  refine j_put (pc := 18) hX kp_X3_207 dX3_says_18 (by assumption) (by first | assumption | omega | exact h0.1 _ (by decide)) rfl rfl rfl (fun H_18 w_18 n_18 => ?_)
  have hT := tw_put8 hT w_18 n_18
  have hF := hF.put w_18 (fun _ => ⟨100, by decide, rfl⟩)
  exact j_vret hX hQ hr dX3_says_21 ⟨rfl, _, hO.snoc, hF, by rw [List.length_append]; exact hT⟩
theorem nI_rem {v : Nat} (h : v < 2 ^ 31) : nI v - nI v / 10 * 10 = nI (v - v / 10 * 10) := by
  rw [show (10 : Int32) = nI 10 from rfl, pk_div h (by decide) (by decide), pk_mul, nI_subN (by omega)]
/-- a number's digits -/
def digF : Nat → Nat → List Nat
  | 0, v => [48 + v % 10]
  | f + 1, v => if 9 < v then digF f (v / 10) ++ [48 + v % 10] else [48 + v % 10]
def digs (v : Nat) : List Nat := digF 8 v
theorem digF_len : ∀ f v, (digF f v).length ≤ f + 1 := by
  intro f
  induction f with
  | zero => intro v; exact Nat.le_refl _
  | succ f ih => intro v; unfold digF; split; (have := ih (v / 10); simp; omega); simp
theorem c_X3_sayN (l : Launch) (G : JG) : ∀ (f v : Nat), v < 10 ^ (f + 1) → v < 2 ^ 24 → ∀ (H : Heap) {g : Nat → Nat} {ar : Nat → Nat → Nat} {cm fs : Nat → Int32} (hT : jtw G H g ar cm fs) (L : List Nat) (hL : L.length + f < 90) (e8 : fs 8 = nI L.length) (hO : Ou (ar 7) L), JMet l yX3_saysNumber (ws_ yX3_saysNumber cX3_saysNumber 2 none) (f + 2) 0 G H [.ref (g 100), .int (nI v)] (twO G H g ar cm fs (L ++ digF f v)) jno := by
  intro f
  induction f with
  | zero =>
    intro v hv hv2 H g ar cm fs hT L hL e8 hO
    refine JMet.of [(0, .inr (some (g 100))), (1, .inl (.int (nI v)))] (by decide) (Nat.le_of_ble_eq_true rfl) rfl (fun X hl hX hQ hEx hr hnm hH => ?_)
    subst hl
    obtain ⟨h0, ho, hs, hbf, hsv, hpa, hou, hip, hcm⟩ := id hT
    refine j_iload_n (pc := 0) hX dX3_saysNumber_0 rfl rfl ?_
    refine j_bipush (pc := 1) (v := 9) hX dX3_saysNumber_1 (by decide) ?_
    refine j_icmp_le (pc := 3) (tgt := 14) hX dX3_saysNumber_3 (by decide) (fun c_3 => ?_) (fun c_3 => ?_)
    rotate_left
    · exact absurd (nI_le (b := 9) (by omega) (by omega)) c_3
    first | refine j_aload_n (pc := 14) hX dX3_saysNumber_14 rfl rfl ?_ | refine j_aload_nq (pc := 14) hX dX3_saysNumber_14 rfl rfl ?_
    refine j_bipush (pc := 15) (v := 48) hX dX3_saysNumber_15 (by decide) ?_
    refine j_iload_n (pc := 17) hX dX3_saysNumber_17 rfl rfl ?_
    refine j_bipush (pc := 18) (v := 10) hX dX3_saysNumber_18 (by decide) ?_
    refine j_irem (pc := 20) hX dX3_saysNumber_20 (by decide) ?_
    rw [show nI v - nI v / 10 * 10 = nI (v - v / 10 * 10) from nI_rem (by omega)]
    refine j_iadd (pc := 21) hX dX3_saysNumber_21 ?_
    rw [show (48 : Int32) = nI 48 from rfl, nI_add, show 48 + (v - v / 10 * 10) = 48 + v % 10 by omega]
    refine j_runv (pc := 22) (jr_V (pc := 22) hX kv_X3_213 (by first | assumption | exact jow.r (by assumption)) (c_X3_says _ _ _ hT L (by omega) e8 hO (48 + v % 10) (by omega)) (by decide) dX3_saysNumber_22 rfl rfl (Nat.le_of_ble_eq_true rfl)) (fun H_22 p_22 z_22 => ?_) jno_x
    exact j_vret hX hQ hr dX3_saysNumber_25 ⟨rfl, p_22⟩
  | succ f ih =>
    intro v hv hv2 H g ar cm fs hT L hL e8 hO
    refine JMet.of [(0, .inr (some (g 100))), (1, .inl (.int (nI v)))] (by decide) (Nat.le_of_ble_eq_true rfl) rfl (fun X hl hX hQ hEx hr hnm hH => ?_)
    subst hl
    obtain ⟨h0, ho, hs, hbf, hsv, hpa, hou, hip, hcm⟩ := id hT
    have hl2 := digF_len f (v / 10)
    unfold digF at hQ
    rcases Nat.lt_or_ge 9 v with q | q
    · rw [if_pos q, ← List.append_assoc] at hQ
      refine j_iload_n (pc := 0) hX dX3_saysNumber_0 rfl rfl ?_
      refine j_bipush (pc := 1) (v := 9) hX dX3_saysNumber_1 (by decide) ?_
      refine j_icmp_le (pc := 3) (tgt := 14) hX dX3_saysNumber_3 (by decide) (fun c_3 => ?_) (fun c_3 => ?_)
      · exact absurd c_3 (nI_ge (a := 9) q (by omega))
      first | refine j_aload_n (pc := 6) hX dX3_saysNumber_6 rfl rfl ?_ | refine j_aload_nq (pc := 6) hX dX3_saysNumber_6 rfl rfl ?_
      refine j_iload_n (pc := 7) hX dX3_saysNumber_7 rfl rfl ?_
      refine j_bipush (pc := 8) (v := 10) hX dX3_saysNumber_8 (by decide) ?_
      refine j_idiv (pc := 10) hX dX3_saysNumber_10 (by decide) ?_
      rw [show (10 : Int32) = nI 10 from rfl, pk_div (by omega) (by decide) (by decide)]
      refine j_runv (pc := 11) (jr_V (pc := 11) hX kv_X3_210 (by first | assumption | exact jow.r (by assumption)) (ih (v / 10) (by rw [Nat.pow_succ] at hv; omega) (by omega) _ hT L (by omega) e8 hO) (by omega) dX3_saysNumber_11 rfl rfl (Nat.le_of_ble_eq_true rfl)) (fun H_11 p_11 z_11 => ?_) jno_x
      obtain ⟨o, hO, hF, hT⟩ := p_11
      have ho := hT.2.1
      first | refine j_aload_n (pc := 14) hX dX3_saysNumber_14 rfl rfl ?_ | refine j_aload_nq (pc := 14) hX dX3_saysNumber_14 rfl rfl ?_
      refine j_bipush (pc := 15) (v := 48) hX dX3_saysNumber_15 (by decide) ?_
      refine j_iload_n (pc := 17) hX dX3_saysNumber_17 rfl rfl ?_
      refine j_bipush (pc := 18) (v := 10) hX dX3_saysNumber_18 (by decide) ?_
      refine j_irem (pc := 20) hX dX3_saysNumber_20 (by decide) ?_
      rw [show nI v - nI v / 10 * 10 = nI (v - v / 10 * 10) from nI_rem (by omega)]
      refine j_iadd (pc := 21) hX dX3_saysNumber_21 ?_
      rw [show (48 : Int32) = nI 48 from rfl, nI_add, show 48 + (v - v / 10 * 10) = 48 + v % 10 by omega]
      refine j_runv (pc := 22) (jr_V (pc := 22) hX kv_X3_213 (by first | assumption | exact jow.r (by assumption)) (c_X3_says _ _ _ hT (L ++ digF f (v / 10)) (by rw [List.length_append]; omega) rfl hO (48 + v % 10) (by omega)) (by omega) dX3_saysNumber_22 rfl rfl (Nat.le_of_ble_eq_true rfl)) (fun H_22 p_22 z_22 => ?_) jno_x
      obtain ⟨o2, hO2, hF2, hT2⟩ := p_22
      rw [jup_jup, jup_jup] at hT2
      exact j_vret hX hQ hr dX3_saysNumber_25 ⟨rfl, o2, hO2, hF.trans hF2, hT2⟩
    · rw [if_neg (by omega)] at hQ
      refine j_iload_n (pc := 0) hX dX3_saysNumber_0 rfl rfl ?_
      refine j_bipush (pc := 1) (v := 9) hX dX3_saysNumber_1 (by decide) ?_
      refine j_icmp_le (pc := 3) (tgt := 14) hX dX3_saysNumber_3 (by decide) (fun c_3 => ?_) (fun c_3 => ?_)
      rotate_left
      · exact absurd (nI_le (b := 9) (by omega) (by omega)) c_3
      first | refine j_aload_n (pc := 14) hX dX3_saysNumber_14 rfl rfl ?_ | refine j_aload_nq (pc := 14) hX dX3_saysNumber_14 rfl rfl ?_
      refine j_bipush (pc := 15) (v := 48) hX dX3_saysNumber_15 (by decide) ?_
      refine j_iload_n (pc := 17) hX dX3_saysNumber_17 rfl rfl ?_
      refine j_bipush (pc := 18) (v := 10) hX dX3_saysNumber_18 (by decide) ?_
      refine j_irem (pc := 20) hX dX3_saysNumber_20 (by decide) ?_
      rw [show nI v - nI v / 10 * 10 = nI (v - v / 10 * 10) from nI_rem (by omega)]
      refine j_iadd (pc := 21) hX dX3_saysNumber_21 ?_
      rw [show (48 : Int32) = nI 48 from rfl, nI_add, show 48 + (v - v / 10 * 10) = 48 + v % 10 by omega]
      refine j_runv (pc := 22) (jr_V (pc := 22) hX kv_X3_213 (by first | assumption | exact jow.r (by assumption)) (c_X3_says _ _ _ hT L (by omega) e8 hO (48 + v % 10) (by omega)) (by omega) dX3_saysNumber_22 rfl rfl (Nat.le_of_ble_eq_true rfl)) (fun H_22 p_22 z_22 => ?_) jno_x
      exact j_vret hX hQ hr dX3_saysNumber_25 ⟨rfl, p_22⟩
