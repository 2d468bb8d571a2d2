/-! the component's board: what is asked of it -/
set_option maxRecDepth 100000
section
variable {G : JG} {H : Heap} {n0 : Nat} {b : BG} {s : Nat → Nat}
theorem jbd.ltA (h : jbd G H n0 b s) : bg b 2 < H.size := h.A.1.lt
theorem jbd.ltP (h : jbd G H n0 b s) : bg b 5 < H.size := h.P.1.lt
theorem jbd.ltA2 (h : jbd G H n0 b s) (hC : JC G) : bg b 3 < H.size := by
  rcases h.A.2.2 with e | e
  · exact (h.O.2.1 _ (by rw [e]; decide)).2
  · rw [e]; exact Nat.lt_of_lt_of_le hC.gC0 (Nat.le_trans h.O.1 h.O.2.2)
theorem jbd.ltP2 (h : jbd G H n0 b s) (hC : JC G) : bg b 6 < H.size := by
  rcases h.P.2.2 with e | e
  · exact (h.O.2.1 _ (by rw [e]; decide)).2
  · rw [e]; exact Nat.lt_of_lt_of_le hC.gC0 (Nat.le_trans h.O.1 h.O.2.2)
end
/-- a sum over the applicants in their order -/
def lfN (L : List Nat) (f : Nat → Nat) (i : Nat) : Nat := jfold (fun j a => a + f (L.getD j 0)) i 0
theorem lfN_0 (L : List Nat) (f : Nat → Nat) : lfN L f 0 = 0 := rfl
theorem lfN_s (L : List Nat) (f : Nat → Nat) (i : Nat) : lfN L f (i + 1) = lfN L f i + f (L.getD i 0) := rfl
theorem c_X2_waiting (l : Launch) (G : JG) (H : Heap) {n0 : Nat} {b : BG} {s : Nat → Nat} (h : jbd G H n0 b s) : JMet l yX2_waiting (ws_ yX2_waiting cX2_waiting 4 (some .int)) 4 1 G H [.ref (bg b 0)] (jpi (fun r H1 => r = nI (lfN (bL b) (fun k => if (fillN s k).isSome then 0 else 1) (bL b).length) ∧ JExt H H1)) (jno) := by
  refine JMet.of [(0, .inr (some (bg b 0)))] (by decide) (Nat.le_of_ble_eq_true rfl) rfl (fun X hl hX hQ hEx hr hnm hH => ?_)
  subst hl
  have hC := hX.C
  have hoB := h.B.1
  refine j_iconst (pc := 0) (v := 0) hX dX2_waiting_0 (by decide) ?_
  refine j_istore_n (pc := 1) hX dX2_waiting_1 rfl (by decide) rfl ?_
  first | refine j_aload_n (pc := 2) hX dX2_waiting_2 rfl rfl ?_ | refine j_aload_nq (pc := 2) hX dX2_waiting_2 rfl rfl ?_
  refine j_get (pc := 3) hX kg_X2_21 dX2_waiting_3 (by first | assumption | exact jow.r (by assumption)) (by rfl) ?_
  change JW X G H (0 + 1) 6 _ _
  refine j_runa (pc := 6) (jr_V (pc := 6) hX kv_X2_39 h.A.1.1.r (c_J4_iterator _ _ _ (bg b 2) (bg b 3) h.A.1) (by decide) dX2_waiting_6 rfl rfl (Nat.le_of_ble_eq_true rfl)) (fun r_6 H_6 p_6 z_6 => ?_) jno_x
  obtain ⟨hz, hit0, e0⟩ := p_6
  first | refine j_astore_n (pc := 9) hX dX2_waiting_9 rfl (by decide) rfl ?_ | refine j_astore_nN (pc := 9) hX dX2_waiting_9 rfl (by decide) rfl ?_ | refine j_astore_nq (pc := 9) hX dX2_waiting_9 rfl (by decide) rfl ?_
  skip
  have hlen : ((bL b).map (bap b)).length = (bL b).length := by simp
  have hnq : (bg b 2) ≠ r_6 := Nat.ne_of_lt (Nat.lt_of_lt_of_le h.ltA hz)
  have hna : (bg b 3) ≠ r_6 := Nat.ne_of_lt (Nat.lt_of_lt_of_le (h.ltA2 hC) hz)
  refine j_lv (by simp [jsb, jget, jval, lfN_0, nI_0, jfold]) (jloop (P := fun i => ∀ Hk : Heap, JExt H Hk → itA G Hk r_6 (bg b 2) i (bmc b 0) → JW X G Hk (0) 10 [(0, .inr (some (bg b 0))), (1, .inl (.int (nI (lfN (bL b) (fun k => if (fillN s k).isSome then 0 else 1) i)))), (2, .inr (some r_6))] []) (bL b).length (fun Hk eH hit => ?_) (fun i hi ih Hk eH hit => ?_) 0 (Nat.zero_le _) H_6 e0 hit0)
  · have hbk := h.ext hC (eH)
    have hoB := hbk.B.1
    first | refine j_aload_n (pc := 10) hX dX2_waiting_10 rfl rfl ?_ | refine j_aload_nq (pc := 10) hX dX2_waiting_10 rfl rfl ?_
    refine j_run5e (pc := 11) (jr_F (pc := 11) hX kf_X2_43_12 hit.1.choose_spec.r (c_J10_hasNext _ _ _ r_6 (bg b 2) (bg b 3) _ hit hbk.A.1 (by rw [hlen]; exact Nat.le_refl _)) (by decide) dX2_waiting_11 rfl rfl (Nat.le_of_ble_eq_true rfl)) ?_ jno_x
    refine j_if_eq (pc := 16) (tgt := 47) hX dX2_waiting_16 (by decide) (fun c_16 => ?_) (fun c_16 => ?_)
    rotate_left
    · rw [jb_n, decide_eq_true_eq, hlen] at c_16; exact absurd c_16 (Nat.lt_irrefl _)
    refine j_iload_n (pc := 47) hX dX2_waiting_47 rfl rfl ?_
    exact j_iret hX hQ hr dX2_waiting_48 ⟨_, rfl, rfl, eH⟩
  · have hbk := h.ext hC (eH)
    first | refine j_aload_n (pc := 10) hX dX2_waiting_10 rfl rfl ?_ | refine j_aload_nq (pc := 10) hX dX2_waiting_10 rfl rfl ?_
    refine j_run5e (pc := 11) (jr_F (pc := 11) hX kf_X2_43_12 hit.1.choose_spec.r (c_J10_hasNext _ _ _ r_6 (bg b 2) (bg b 3) _ hit hbk.A.1 (by rw [hlen]; omega)) (by decide) dX2_waiting_11 rfl rfl (Nat.le_of_ble_eq_true rfl)) ?_ jno_x
    refine j_if_eq (pc := 16) (tgt := 47) hX dX2_waiting_16 (by decide) (fun c_16 => ?_) (fun c_16 => ?_)
    · rw [jb_z, decide_eq_false_iff_not, hlen] at c_16; exact absurd hi c_16
    first | refine j_aload_n (pc := 19) hX dX2_waiting_19 rfl rfl ?_ | refine j_aload_nq (pc := 19) hX dX2_waiting_19 rfl rfl ?_
    refine j_run5a (pc := 20) (jr_F (pc := 20) hX kf_X2_49_12 hit.1.choose_spec.r (c_J10_next _ _ _ r_6 (bg b 2) (bg b 3) _ hit hbk.A.1 (by rw [hlen]; exact hi) hnq hna) (by decide) dX2_waiting_20 rfl rfl (Nat.le_of_ble_eq_true rfl)) (fun r_20 H_20 p_20 z_20 => ?_) jno_x
    obtain ⟨hr, wn, hin⟩ := p_20
    rw [getD_map hi] at hr
    subst hr
    have eN := eH.put wn hz
    have hbn := h.ext hC (eN)
    have hx := (hbn.X.1 _ (getD_mem hi)).1
    have hoB := hbn.B.1
    refine j_ccast (pc := 25) hX kc_X2_63 dX2_waiting_25 hx.r ?_
    first | refine j_astore_n (pc := 28) hX dX2_waiting_28 rfl (by decide) rfl ?_ | refine j_astore_nN (pc := 28) hX dX2_waiting_28 rfl (by decide) rfl ?_ | refine j_astore_nq (pc := 28) hX dX2_waiting_28 rfl (by decide) rfl ?_
    refine j_iload_n (pc := 29) hX dX2_waiting_29 rfl rfl ?_
    first | refine j_aload_n (pc := 30) hX dX2_waiting_30 rfl rfl ?_ | refine j_aload_nq (pc := 30) hX dX2_waiting_30 rfl rfl ?_
    refine j_rune (pc := 31) (jr_V (pc := 31) hX kv_X2_72 hx.r (c_X5_isHired _ _ _ _ hx) (by decide) dX2_waiting_31 rfl rfl (Nat.le_of_ble_eq_true rfl)) ?_ jno_x
    refine j_if_eq (pc := 34) (tgt := 41) hX dX2_waiting_34 (by decide) (fun c_34 => ?_) (fun c_34 => ?_)
    · rw [jb_z, Option.isSome_map] at c_34
      refine j_iconst (pc := 41) (v := 1) hX dX2_waiting_41 (by decide) ?_
      refine j_iadd (pc := 42) hX dX2_waiting_42 ?_
      refine j_istore_n (pc := 43) hX dX2_waiting_43 rfl (by decide) rfl ?_
      refine j_goto (pc := 44) (tgt := 10) hX dX2_waiting_44 (by decide) ?_
      exact j_lv (by simp [jsb, jget, jval, jfold_succ, lfN_s, nI_1, -List.getD_eq_getElem?_getD, c_34, nI_add]) (ih _ eN hin)
    · rw [jb_n, Option.isSome_map] at c_34
      refine j_iconst (pc := 37) (v := 0) hX dX2_waiting_37 (by decide) ?_
      refine j_goto (pc := 38) (tgt := 42) hX dX2_waiting_38 (by decide) ?_
      refine j_iadd (pc := 42) hX dX2_waiting_42 ?_
      refine j_istore_n (pc := 43) hX dX2_waiting_43 rfl (by decide) rfl ?_
      refine j_goto (pc := 44) (tgt := 10) hX dX2_waiting_44 (by decide) ?_
      exact j_lv (by simp [jsb, jget, jval, jfold_succ, lfN_s, nI_1, -List.getD_eq_getElem?_getD, c_34, nI_add]) (ih _ eN hin)
theorem hldN_z {b : BG} {s : Nat → Nat} {p : Nat} : (hldN b s p).isNone = decide (pFl s p = 0) := by unfold hldN; split <;> simp [*]
theorem c_X2_vacant (l : Launch) (G : JG) (H : Heap) {n0 : Nat} {b : BG} {s : Nat → Nat} (h : jbd G H n0 b s) : JMet l yX2_vacant (ws_ yX2_vacant cX2_vacant 4 (some .int)) 4 1 G H [.ref (bg b 0)] (jpi (fun r H1 => r = nI (vacN s) ∧ JExt H H1)) (jno) := by
  refine JMet.of [(0, .inr (some (bg b 0)))] (by decide) (Nat.le_of_ble_eq_true rfl) rfl (fun X hl hX hQ hEx hr hnm hH => ?_)
  subst hl
  have hC := hX.C
  have hoB := h.B.1
  refine j_iconst (pc := 0) (v := 0) hX dX2_vacant_0 (by decide) ?_
  refine j_istore_n (pc := 1) hX dX2_vacant_1 rfl (by decide) rfl ?_
  first | refine j_aload_n (pc := 2) hX dX2_vacant_2 rfl rfl ?_ | refine j_aload_nq (pc := 2) hX dX2_vacant_2 rfl rfl ?_
  refine j_get (pc := 3) hX kg_X2_28 dX2_vacant_3 (by first | assumption | exact jow.r (by assumption)) (by rfl) ?_
  change JW X G H (0 + 1) 6 _ _
  refine j_runa (pc := 6) (jr_V (pc := 6) hX kv_X2_39 h.P.1.1.r (c_J4_iterator _ _ _ (bg b 5) (bg b 6) h.P.1) (by decide) dX2_vacant_6 rfl rfl (Nat.le_of_ble_eq_true rfl)) (fun r_6 H_6 p_6 z_6 => ?_) jno_x
  obtain ⟨hz, hit0, e0⟩ := p_6
  first | refine j_astore_n (pc := 9) hX dX2_vacant_9 rfl (by decide) rfl ?_ | refine j_astore_nN (pc := 9) hX dX2_vacant_9 rfl (by decide) rfl ?_ | refine j_astore_nq (pc := 9) hX dX2_vacant_9 rfl (by decide) rfl ?_
  skip
  have hlen : ((List.range (s 2)).map (bpo b)).length = (s 2) := by simp
  have hnq : (bg b 5) ≠ r_6 := Nat.ne_of_lt (Nat.lt_of_lt_of_le h.ltP hz)
  have hna : (bg b 6) ≠ r_6 := Nat.ne_of_lt (Nat.lt_of_lt_of_le (h.ltP2 hC) hz)
  refine j_lv (by simp [jsb, jget, jval, lfN_0, nI_0, jfold]) (jloop (P := fun i => ∀ Hk : Heap, JExt H Hk → itA G Hk r_6 (bg b 5) i (bmc b 1) → JW X G Hk (0) 10 [(0, .inr (some (bg b 0))), (1, .inl (.int (nI (jfold (vacF s) i 0)))), (2, .inr (some r_6))] []) (s 2) (fun Hk eH hit => ?_) (fun i hi ih Hk eH hit => ?_) 0 (Nat.zero_le _) H_6 e0 hit0)
  · have hbk := h.ext hC (eH)
    have hoB := hbk.B.1
    first | refine j_aload_n (pc := 10) hX dX2_vacant_10 rfl rfl ?_ | refine j_aload_nq (pc := 10) hX dX2_vacant_10 rfl rfl ?_
    refine j_run5e (pc := 11) (jr_F (pc := 11) hX kf_X2_43_12 hit.1.choose_spec.r (c_J10_hasNext _ _ _ r_6 (bg b 5) (bg b 6) _ hit hbk.P.1 (by rw [hlen]; exact Nat.le_refl _)) (by decide) dX2_vacant_11 rfl rfl (Nat.le_of_ble_eq_true rfl)) ?_ jno_x
    refine j_if_eq (pc := 16) (tgt := 47) hX dX2_vacant_16 (by decide) (fun c_16 => ?_) (fun c_16 => ?_)
    rotate_left
    · rw [jb_n, decide_eq_true_eq, hlen] at c_16; exact absurd c_16 (Nat.lt_irrefl _)
    refine j_iload_n (pc := 47) hX dX2_vacant_47 rfl rfl ?_
    exact j_iret hX hQ hr dX2_vacant_48 ⟨_, rfl, rfl, eH⟩
  · have hbk := h.ext hC (eH)
    first | refine j_aload_n (pc := 10) hX dX2_vacant_10 rfl rfl ?_ | refine j_aload_nq (pc := 10) hX dX2_vacant_10 rfl rfl ?_
    refine j_run5e (pc := 11) (jr_F (pc := 11) hX kf_X2_43_12 hit.1.choose_spec.r (c_J10_hasNext _ _ _ r_6 (bg b 5) (bg b 6) _ hit hbk.P.1 (by rw [hlen]; omega)) (by decide) dX2_vacant_11 rfl rfl (Nat.le_of_ble_eq_true rfl)) ?_ jno_x
    refine j_if_eq (pc := 16) (tgt := 47) hX dX2_vacant_16 (by decide) (fun c_16 => ?_) (fun c_16 => ?_)
    · rw [jb_z, decide_eq_false_iff_not, hlen] at c_16; exact absurd hi c_16
    first | refine j_aload_n (pc := 19) hX dX2_vacant_19 rfl rfl ?_ | refine j_aload_nq (pc := 19) hX dX2_vacant_19 rfl rfl ?_
    refine j_run5a (pc := 20) (jr_F (pc := 20) hX kf_X2_49_12 hit.1.choose_spec.r (c_J10_next _ _ _ r_6 (bg b 5) (bg b 6) _ hit hbk.P.1 (by rw [hlen]; exact hi) hnq hna) (by decide) dX2_vacant_20 rfl rfl (Nat.le_of_ble_eq_true rfl)) (fun r_20 H_20 p_20 z_20 => ?_) jno_x
    obtain ⟨hr, wn, hin⟩ := p_20
    rw [getD_map (by simp; exact hi), getD_range hi] at hr
    subst hr
    have eN := eH.put wn hz
    have hbn := h.ext hC (eN)
    have hx := (hbn.Y.1 _ hi).1
    have hoB := hbn.B.1
    refine j_ccast (pc := 25) hX kc_X2_53 dX2_vacant_25 hx.r ?_
    first | refine j_astore_n (pc := 28) hX dX2_vacant_28 rfl (by decide) rfl ?_ | refine j_astore_nN (pc := 28) hX dX2_vacant_28 rfl (by decide) rfl ?_ | refine j_astore_nq (pc := 28) hX dX2_vacant_28 rfl (by decide) rfl ?_
    refine j_iload_n (pc := 29) hX dX2_vacant_29 rfl rfl ?_
    first | refine j_aload_n (pc := 30) hX dX2_vacant_30 rfl rfl ?_ | refine j_aload_nq (pc := 30) hX dX2_vacant_30 rfl rfl ?_
    refine j_rune (pc := 31) (jr_V (pc := 31) hX kv_X2_126 hx.r (c_X4_isVacant _ _ _ _ hx) (by decide) dX2_vacant_31 rfl rfl (Nat.le_of_ble_eq_true rfl)) ?_ jno_x
    refine j_if_eq (pc := 34) (tgt := 41) hX dX2_vacant_34 (by decide) (fun c_34 => ?_) (fun c_34 => ?_)
    · rw [jb_z, hldN_z, decide_eq_false_iff_not] at c_34
      refine j_iconst (pc := 41) (v := 0) hX dX2_vacant_41 (by decide) ?_
      refine j_iadd (pc := 42) hX dX2_vacant_42 ?_
      refine j_istore_n (pc := 43) hX dX2_vacant_43 rfl (by decide) rfl ?_
      refine j_goto (pc := 44) (tgt := 10) hX dX2_vacant_44 (by decide) ?_
      exact j_lv (by simp [jsb, jget, jval, jfold_succ, lfN_s, nI_1, -List.getD_eq_getElem?_getD, c_34, vacF, nI_add]) (ih _ eN hin)
    · rw [jb_n, hldN_z, decide_eq_true_eq] at c_34
      refine j_iconst (pc := 37) (v := 1) hX dX2_vacant_37 (by decide) ?_
      refine j_goto (pc := 38) (tgt := 42) hX dX2_vacant_38 (by decide) ?_
      refine j_iadd (pc := 42) hX dX2_vacant_42 ?_
      refine j_istore_n (pc := 43) hX dX2_vacant_43 rfl (by decide) rfl ?_
      refine j_goto (pc := 44) (tgt := 10) hX dX2_vacant_44 (by decide) ?_
      exact j_lv (by simp [jsb, jget, jval, jfold_succ, lfN_s, nI_1, -List.getD_eq_getElem?_getD, c_34, vacF, nI_add]) (ih _ eN hin)
theorem c_X2_dailyWages (l : Launch) (G : JG) (H : Heap) {n0 : Nat} {b : BG} {s : Nat → Nat} (h : jbd G H n0 b s) : JMet l yX2_dailyWages (ws_ yX2_dailyWages cX2_dailyWages 4 (some .int)) 4 1 G H [.ref (bg b 0)] (jpi (fun r H1 => r = nI (wagN s) ∧ JExt H H1)) (jno) := by
  refine JMet.of [(0, .inr (some (bg b 0)))] (by decide) (Nat.le_of_ble_eq_true rfl) rfl (fun X hl hX hQ hEx hr hnm hH => ?_)
  subst hl
  have hC := hX.C
  have hoB := h.B.1
  refine j_iconst (pc := 0) (v := 0) hX dX2_dailyWages_0 (by decide) ?_
  refine j_istore_n (pc := 1) hX dX2_dailyWages_1 rfl (by decide) rfl ?_
  first | refine j_aload_n (pc := 2) hX dX2_dailyWages_2 rfl rfl ?_ | refine j_aload_nq (pc := 2) hX dX2_dailyWages_2 rfl rfl ?_
  refine j_get (pc := 3) hX kg_X2_28 dX2_dailyWages_3 (by first | assumption | exact jow.r (by assumption)) (by rfl) ?_
  change JW X G H (0 + 1) 6 _ _
  refine j_runa (pc := 6) (jr_V (pc := 6) hX kv_X2_39 h.P.1.1.r (c_J4_iterator _ _ _ (bg b 5) (bg b 6) h.P.1) (by decide) dX2_dailyWages_6 rfl rfl (Nat.le_of_ble_eq_true rfl)) (fun r_6 H_6 p_6 z_6 => ?_) jno_x
  obtain ⟨hz, hit0, e0⟩ := p_6
  first | refine j_astore_n (pc := 9) hX dX2_dailyWages_9 rfl (by decide) rfl ?_ | refine j_astore_nN (pc := 9) hX dX2_dailyWages_9 rfl (by decide) rfl ?_ | refine j_astore_nq (pc := 9) hX dX2_dailyWages_9 rfl (by decide) rfl ?_
  skip
  have hlen : ((List.range (s 2)).map (bpo b)).length = (s 2) := by simp
  have hnq : (bg b 5) ≠ r_6 := Nat.ne_of_lt (Nat.lt_of_lt_of_le h.ltP hz)
  have hna : (bg b 6) ≠ r_6 := Nat.ne_of_lt (Nat.lt_of_lt_of_le (h.ltP2 hC) hz)
  refine j_lv (by simp [jsb, jget, jval, lfN_0, nI_0, jfold]) (jloop (P := fun i => ∀ Hk : Heap, JExt H Hk → itA G Hk r_6 (bg b 5) i (bmc b 1) → JW X G Hk (0) 10 [(0, .inr (some (bg b 0))), (1, .inl (.int (nI (jfold (wagF s) i 0)))), (2, .inr (some r_6))] []) (s 2) (fun Hk eH hit => ?_) (fun i hi ih Hk eH hit => ?_) 0 (Nat.zero_le _) H_6 e0 hit0)
  · have hbk := h.ext hC (eH)
    have hoB := hbk.B.1
    first | refine j_aload_n (pc := 10) hX dX2_dailyWages_10 rfl rfl ?_ | refine j_aload_nq (pc := 10) hX dX2_dailyWages_10 rfl rfl ?_
    refine j_run5e (pc := 11) (jr_F (pc := 11) hX kf_X2_43_12 hit.1.choose_spec.r (c_J10_hasNext _ _ _ r_6 (bg b 5) (bg b 6) _ hit hbk.P.1 (by rw [hlen]; exact Nat.le_refl _)) (by decide) dX2_dailyWages_11 rfl rfl (Nat.le_of_ble_eq_true rfl)) ?_ jno_x
    refine j_if_eq (pc := 16) (tgt := 50) hX dX2_dailyWages_16 (by decide) (fun c_16 => ?_) (fun c_16 => ?_)
    rotate_left
    · rw [jb_n, decide_eq_true_eq, hlen] at c_16; exact absurd c_16 (Nat.lt_irrefl _)
    refine j_iload_n (pc := 50) hX dX2_dailyWages_50 rfl rfl ?_
    exact j_iret hX hQ hr dX2_dailyWages_51 ⟨_, rfl, rfl, eH⟩
  · have hbk := h.ext hC (eH)
    first | refine j_aload_n (pc := 10) hX dX2_dailyWages_10 rfl rfl ?_ | refine j_aload_nq (pc := 10) hX dX2_dailyWages_10 rfl rfl ?_
    refine j_run5e (pc := 11) (jr_F (pc := 11) hX kf_X2_43_12 hit.1.choose_spec.r (c_J10_hasNext _ _ _ r_6 (bg b 5) (bg b 6) _ hit hbk.P.1 (by rw [hlen]; omega)) (by decide) dX2_dailyWages_11 rfl rfl (Nat.le_of_ble_eq_true rfl)) ?_ jno_x
    refine j_if_eq (pc := 16) (tgt := 50) hX dX2_dailyWages_16 (by decide) (fun c_16 => ?_) (fun c_16 => ?_)
    · rw [jb_z, decide_eq_false_iff_not, hlen] at c_16; exact absurd hi c_16
    first | refine j_aload_n (pc := 19) hX dX2_dailyWages_19 rfl rfl ?_ | refine j_aload_nq (pc := 19) hX dX2_dailyWages_19 rfl rfl ?_
    refine j_run5a (pc := 20) (jr_F (pc := 20) hX kf_X2_49_12 hit.1.choose_spec.r (c_J10_next _ _ _ r_6 (bg b 5) (bg b 6) _ hit hbk.P.1 (by rw [hlen]; exact hi) hnq hna) (by decide) dX2_dailyWages_20 rfl rfl (Nat.le_of_ble_eq_true rfl)) (fun r_20 H_20 p_20 z_20 => ?_) jno_x
    obtain ⟨hr, wn, hin⟩ := p_20
    rw [getD_map (by simp; exact hi), getD_range hi] at hr
    subst hr
    have eN := eH.put wn hz
    have hbn := h.ext hC (eN)
    have hx := (hbn.Y.1 _ hi).1
    have hoB := hbn.B.1
    refine j_ccast (pc := 25) hX kc_X2_53 dX2_dailyWages_25 hx.r ?_
    first | refine j_astore_n (pc := 28) hX dX2_dailyWages_28 rfl (by decide) rfl ?_ | refine j_astore_nN (pc := 28) hX dX2_dailyWages_28 rfl (by decide) rfl ?_ | refine j_astore_nq (pc := 28) hX dX2_dailyWages_28 rfl (by decide) rfl ?_
    refine j_iload_n (pc := 29) hX dX2_dailyWages_29 rfl rfl ?_
    first | refine j_aload_n (pc := 30) hX dX2_dailyWages_30 rfl rfl ?_ | refine j_aload_nq (pc := 30) hX dX2_dailyWages_30 rfl rfl ?_
    refine j_rune (pc := 31) (jr_V (pc := 31) hX kv_X2_126 hx.r (c_X4_isVacant _ _ _ _ hx) (by decide) dX2_dailyWages_31 rfl rfl (Nat.le_of_ble_eq_true rfl)) ?_ jno_x
    refine j_if_eq (pc := 34) (tgt := 41) hX dX2_dailyWages_34 (by decide) (fun c_34 => ?_) (fun c_34 => ?_)
    · rw [jb_z, hldN_z, decide_eq_false_iff_not] at c_34
      first | refine j_aload_n (pc := 41) hX dX2_dailyWages_41 rfl rfl ?_ | refine j_aload_nq (pc := 41) hX dX2_dailyWages_41 rfl rfl ?_
      refine j_get (pc := 42) hX kg_X2_168 dX2_dailyWages_42 hx.r (by rfl) ?_
      refine j_iadd (pc := 45) hX dX2_dailyWages_45 ?_
      refine j_istore_n (pc := 46) hX dX2_dailyWages_46 rfl (by decide) rfl ?_
      refine j_goto (pc := 47) (tgt := 10) hX dX2_dailyWages_47 (by decide) ?_
      exact j_lv (by simp [jsb, jget, jval, jfold_succ, lfN_s, nI_1, -List.getD_eq_getElem?_getD, c_34, wagF, nI_add, Nat.pos_iff_ne_zero]) (ih _ eN hin)
    · rw [jb_n, hldN_z, decide_eq_true_eq] at c_34
      refine j_iconst (pc := 37) (v := 0) hX dX2_dailyWages_37 (by decide) ?_
      refine j_goto (pc := 38) (tgt := 45) hX dX2_dailyWages_38 (by decide) ?_
      refine j_iadd (pc := 45) hX dX2_dailyWages_45 ?_
      refine j_istore_n (pc := 46) hX dX2_dailyWages_46 rfl (by decide) rfl ?_
      refine j_goto (pc := 47) (tgt := 10) hX dX2_dailyWages_47 (by decide) ?_
      exact j_lv (by simp [jsb, jget, jval, jfold_succ, lfN_s, nI_1, -List.getD_eq_getElem?_getD, c_34, wagF, nI_add, Nat.pos_iff_ne_zero]) (ih _ eN hin)
/-! which slot an id is at -/
section
variable {s : Nat → Nat} {L : List Nat} {x : Int32}
theorem slot_c (hB : Bs s) {k : Nat} (hk : k < 10) : (¬ x < 0 ∧ nI (aId s k) = x + 1) ↔ (0 < aId s k ∧ idI s k = x) := by
  have hl : aId s k < 2 ^ 24 := hB.lt (by omega)
  constructor
  · rintro ⟨h1, h2⟩
    have h3 : idI s k = x := by unfold idI; rw [h2, Int32.add_sub_cancel]
    refine ⟨Nat.pos_of_ne_zero (fun z => h1 ?_), h3⟩
    rw [← h3]; unfold idI; rw [z]; decide
  · rintro ⟨h1, rfl⟩
    obtain ⟨m, hm⟩ : ∃ m, aId s k = m + 1 := ⟨aId s k - 1, by omega⟩
    unfold idI
    rw [hm, nI_pred]
    exact ⟨nI_pos (by omega), (nI_1 m).symm⟩
theorem slot_fwd : ∀ (n k : Nat), jfold (slotF s x) n none = some k → k < n ∧ (¬ x < 0 ∧ nI (aId s k) = x + 1) := by
  intro n
  induction n with
  | zero => intro k h; cases h
  | succ n ih =>
    intro k h
    rw [jfold_succ] at h
    unfold slotF at h
    split at h
    · rename_i c; cases Option.some.inj h; exact ⟨Nat.lt_succ_self _, c⟩
    · have := ih k h; exact ⟨Nat.lt_succ_of_lt this.1, this.2⟩
theorem slot_bwd : ∀ (n k : Nat), k < n → (¬ x < 0 ∧ nI (aId s k) = x + 1) → ∃ k', jfold (slotF s x) n none = some k' := by
  intro n
  induction n with
  | zero => intro k h; exact absurd h (Nat.not_lt_zero k)
  | succ n ih =>
    intro k h c
    rw [jfold_succ]
    unfold slotF
    split
    · exact ⟨n, rfl⟩
    · rename_i c2
      exact ih k (by
        have : k ≠ n := fun e => by subst e; exact c2 c
        omega) c
theorem slotN_in (hS : SlL s L) (hB : Bs s) {k : Nat} (h : slotN s x = some k) : k ∈ L ∧ idI s k = x := by
  obtain ⟨h1, h2⟩ := slot_fwd 10 k h
  obtain ⟨h3, h4⟩ := (slot_c hB h1).mp h2
  exact ⟨(hS.1 k).mpr ⟨h1, h3⟩, h4⟩
theorem idI_inj (hS : SlL s L) (hB : Bs s) {i j : Nat} (hi : i ∈ L) (hj : j ∈ L) (e : idI s i = idI s j) : i = j := by
  obtain ⟨i1, i2⟩ := hS.lt hi
  obtain ⟨j1, j2⟩ := hS.lt hj
  have li : aId s i < 2 ^ 24 := hB.lt (by omega)
  have lj : aId s j < 2 ^ 24 := hB.lt (by omega)
  refine hS.inj hi hj ?_
  have : nI (aId s i) = nI (aId s j) := by
    have := congrArg (· + 1) e
    simpa [idI, Int32.sub_add_cancel] using this
  exact (nI_eq (by omega) (by omega)).mp this
theorem slotN_of (hS : SlL s L) (hB : Bs s) {k : Nat} (hk : k ∈ L) : slotN s (idI s k) = some k := by
  obtain ⟨k1, k2⟩ := hS.lt hk
  obtain ⟨k', e⟩ := slot_bwd 10 k k1 ((slot_c hB k1).mpr ⟨k2, rfl⟩)
  obtain ⟨h1, h2⟩ := slotN_in hS hB e
  rw [← idI_inj hS hB h1 hk h2]
  rw [h2]; exact e
theorem slotN_no (hS : SlL s L) (hB : Bs s) (h : slotN s x = none) {k : Nat} (hk : k ∈ L) : idI s k ≠ x := by
  rintro rfl
  rw [slotN_of hS hB hk] at h; cases h
end
theorem c_X2_applicant (l : Launch) (G : JG) (H : Heap) {n0 : Nat} {b : BG} {s : Nat → Nat} (h : jbd G H n0 b s) (hB : Bs s) (x : Int32) : JMet l yX2_applicant (ws_ yX2_applicant cX2_applicant 3 (some (.object "CloudInterviews$Applicant"))) 7 3 G H [.ref (bg b 0), .int x] (jpa (fun r H1 => (∃ k, slotN s x = some k ∧ r = bap b k) ∧ JExt H H1)) (pxO eEle (slotN s x = none) H) := by
  refine JMet.of [(0, .inr (some (bg b 0))), (1, .inl (.int x))] (by decide) (Nat.le_of_ble_eq_true rfl) rfl (fun X hl hX hQ hEx hr hnm hH => ?_)
  subst hl
  have hoB := h.B.1
  first | refine j_aload_n (pc := 0) hX dX2_applicant_0 rfl rfl ?_ | refine j_aload_nq (pc := 0) hX dX2_applicant_0 rfl rfl ?_
  refine j_get (pc := 1) hX kg_X2_12 dX2_applicant_1 (by first | assumption | exact jow.r (by assumption)) (by rfl) ?_
  refine j_iload_n (pc := 4) hX dX2_applicant_4 rfl rfl ?_
  change JW X G H (2 + 1) 5 _ _
  refine j_runa (pc := 5) (jr_S (pc := 5) hX ks_X2_102 (c_J19_valueOf _ _ _ x) (by decide) dX2_applicant_5 rfl rfl (Nat.le_of_ble_eq_true rfl)) (fun r_5 H_5 p_5 z_5 => ?_) jno_x
  obtain ⟨hin, e5, hw⟩ := p_5
  skip
  obtain ⟨E, hE, hbI⟩ := (h.ext hX.C e5).I
  have hS := h.S
  have hX5 := (h.ext hX.C e5).X
  have hl := c_J1_getI (jl X) G H_5 (bg b 1) r_5 x hE hin
  cases ee : lookE x E with
  | none =>
    rw [ee] at hl
    have hno : slotN s x = none := by
      cases e : slotN s x with
      | none => rfl
      | some k =>
        obtain ⟨h1, h2⟩ := slotN_in hS hB e
        have := lookE_some (by obtain ⟨_, _, _, _, _, z, _⟩ := hE; exact z) ((hbI x (bap b k)).mpr ⟨k, h1, h2.symm, rfl⟩)
        rw [ee] at this; cases this
    refine j_runqe (pc := 8) (jr_V (pc := 8) hX kv_X2_111 hE.ho.choose_spec.r (hl) (by decide) dX2_applicant_8 rfl rfl (Nat.le_of_ble_eq_true rfl)) ?_ jno_x
    refine j_castN (pc := 11) hX dX2_applicant_11 ?_
    first | refine j_astore_n (pc := 14) hX dX2_applicant_14 rfl (by decide) rfl ?_ | refine j_astore_nN (pc := 14) hX dX2_applicant_14 rfl (by decide) rfl ?_ | refine j_astore_nq (pc := 14) hX dX2_applicant_14 rfl (by decide) rfl ?_
    first | refine j_aload_n (pc := 15) hX dX2_applicant_15 rfl rfl ?_ | refine j_aload_nq (pc := 15) hX dX2_applicant_15 rfl rfl ?_
    refine j_ifnullN (pc := 16) (tgt := 23) hX dX2_applicant_16 (by decide) ?_
    refine j_iconst (pc := 23) (v := 0) hX dX2_applicant_23 (by decide) ?_
    change JW X G H_5 (0 + 2) 24 _ [.int (jb false)]
    refine j_runv (pc := 24) (jr_SN (pc := 24) hX ks_X2_114 (c_X1_checkElement _ _ _ false) (by decide) dX2_applicant_24 rfl rfl (Nat.le_of_ble_eq_true rfl)) (fun H_24 p_24 z_24 => ?_) (fun E q H1 hx _ => jt_out hX hQ hEx ⟨hx.1, hno, e5.trans hx.2.2⟩)
    exact absurd p_24.2 (by decide)
  | some v =>
    rw [ee] at hl
    obtain ⟨k, hk, hkx, rfl⟩ := (hbI x v).mp (lookE_mem ee)
    have hsl : slotN s x = some k := by rw [hkx]; exact slotN_of hS hB hk
    refine j_runqe (pc := 8) (jr_V (pc := 8) hX kv_X2_111 hE.ho.choose_spec.r (hl) (by decide) dX2_applicant_8 rfl rfl (Nat.le_of_ble_eq_true rfl)) ?_ jno_x
    refine j_ccast (pc := 11) hX kc_X2_63 dX2_applicant_11 (hX5.1 k hk).1.r ?_
    first | refine j_astore_n (pc := 14) hX dX2_applicant_14 rfl (by decide) rfl ?_ | refine j_astore_nN (pc := 14) hX dX2_applicant_14 rfl (by decide) rfl ?_ | refine j_astore_nq (pc := 14) hX dX2_applicant_14 rfl (by decide) rfl ?_
    first | refine j_aload_n (pc := 15) hX dX2_applicant_15 rfl rfl ?_ | refine j_aload_nq (pc := 15) hX dX2_applicant_15 rfl rfl ?_
    refine j_ifnull (pc := 16) hX dX2_applicant_16 ?_
    refine j_iconst (pc := 19) (v := 1) hX dX2_applicant_19 (by decide) ?_
    refine j_goto (pc := 20) (tgt := 24) hX dX2_applicant_20 (by decide) ?_
    change JW X G H_5 (0 + 2) 24 _ [.int (jb true)]
    refine j_runv (pc := 24) (jr_SN (pc := 24) hX ks_X2_114 (c_X1_checkElement _ _ _ true) (by decide) dX2_applicant_24 rfl rfl (Nat.le_of_ble_eq_true rfl)) (fun H_24 p_24 z_24 => ?_) (fun E q H1 hx _ => absurd hx.2.1 (by decide))
    obtain ⟨rfl, -⟩ := p_24
    first | refine j_aload_n (pc := 27) hX dX2_applicant_27 rfl rfl ?_ | refine j_aload_nq (pc := 27) hX dX2_applicant_27 rfl rfl ?_
    first | exact j_aret hX hQ hr (by first | exact Or.inl ⟨_, rfl⟩ | exact Or.inr ⟨_, rfl⟩) dX2_applicant_28 ⟨_, rfl, ⟨k, hsl, rfl⟩, e5⟩ | exact j_aretN hX hQ hr (by first | exact Or.inl ⟨_, rfl⟩ | exact Or.inr ⟨_, rfl⟩) dX2_applicant_28 ⟨_, rfl, ⟨k, hsl, rfl⟩, e5⟩ | exact j_aretq hX hQ hr (by first | exact Or.inl ⟨_, rfl⟩ | exact Or.inr ⟨_, rfl⟩) dX2_applicant_28 ⟨_, rfl, ⟨k, hsl, rfl⟩, e5⟩
theorem c_X2_post (l : Launch) (G : JG) (H : Heap) {n0 : Nat} {b : BG} {s : Nat → Nat} (h : jbd G H n0 b s) (h2 : s 2 ≤ 6) (x : Int32) : JMet l yX2_post (ws_ yX2_post cX2_post 2 (some (.object "CloudInterviews$Post"))) 7 2 G H [.ref (bg b 0), .int x] (jpa (fun r H1 => H1 = H ∧ ∃ p, postN s x = some p ∧ r = bpo b p)) (pxO eIdx (postN s x = none) H) := by
  refine JMet.of [(0, .inr (some (bg b 0))), (1, .inl (.int x))] (by decide) (Nat.le_of_ble_eq_true rfl) rfl (fun X hl hX hQ hEx hr hnm hH => ?_)
  subst hl
  have hoB := h.B.1
  have hP := h.P.1
  have hlen : ((List.range (s 2)).map (bpo b)).length = s 2 := by simp
  have hsz := c_J4_size (jl X) G H (bg b 5) (bg b 6) hP
  rw [hlen] at hsz
  refine j_iload_n (pc := 0) hX dX2_post_0 rfl rfl ?_
  first | refine j_aload_n (pc := 1) hX dX2_post_1 rfl rfl ?_ | refine j_aload_nq (pc := 1) hX dX2_post_1 rfl rfl ?_
  refine j_get (pc := 2) hX kg_X2_28 dX2_post_2 (by first | assumption | exact jow.r (by assumption)) (by rfl) ?_
  refine j_rune (pc := 5) (jr_V (pc := 5) hX kv_X2_118 hP.1.r (hsz) (by decide) dX2_post_5 rfl rfl (Nat.le_of_ble_eq_true rfl)) ?_ jno_x
  change JW X G H (0 + 2) 8 _ _
  refine j_runv (pc := 8) (jr_SN (pc := 8) hX ks_X2_122 (c_X1_checkIndex _ _ _ x (nI (s 2))) (by decide) dX2_post_8 rfl rfl (Nat.le_of_ble_eq_true rfl)) (fun H_8 p_8 z_8 => ?_) (fun E q H1 hx _ => jt_out hX hQ hEx ⟨hx.1, by have := hx.2.1; rw [postN_is] at this; exact Option.isSome_eq_false_iff.mp this |> Option.isNone_iff_eq_none.mp, hx.2.2⟩)
  skip
  obtain ⟨rfl, hc⟩ := p_8
  rw [postN_is, Option.isSome_iff_exists] at hc
  obtain ⟨p, hp⟩ := hc
  obtain ⟨hp2, rfl⟩ := postN_ex h2 hp
  have hg := c_J4_get (jl X) G H_8 (bg b 5) (bg b 6) hP p (by rw [hlen]; exact hp2)
  rw [getD_map (by simp; exact hp2), getD_range hp2] at hg
  first | refine j_aload_n (pc := 11) hX dX2_post_11 rfl rfl ?_ | refine j_aload_nq (pc := 11) hX dX2_post_11 rfl rfl ?_
  refine j_get (pc := 12) hX kg_X2_28 dX2_post_12 (by first | assumption | exact jow.r (by assumption)) (by rfl) ?_
  refine j_iload_n (pc := 15) hX dX2_post_15 rfl rfl ?_
  refine j_runae (pc := 16) (jr_V (pc := 16) hX kv_X2_83 hP.1.r (hg) (by decide) dX2_post_16 rfl rfl (Nat.le_of_ble_eq_true rfl)) ?_ jno_x
  refine j_ccast (pc := 19) hX kc_X2_53 dX2_post_19 (h.Y.1 p hp2).1.r ?_
  first | exact j_aret hX hQ hr (by first | exact Or.inl ⟨_, rfl⟩ | exact Or.inr ⟨_, rfl⟩) dX2_post_22 ⟨_, rfl, rfl, p, hp, rfl⟩ | exact j_aretN hX hQ hr (by first | exact Or.inl ⟨_, rfl⟩ | exact Or.inr ⟨_, rfl⟩) dX2_post_22 ⟨_, rfl, rfl, p, hp, rfl⟩ | exact j_aretq hX hQ hr (by first | exact Or.inl ⟨_, rfl⟩ | exact Or.inr ⟨_, rfl⟩) dX2_post_22 ⟨_, rfl, rfl, p, hp, rfl⟩
theorem c_X2_indexOf (l : Launch) (G : JG) (H : Heap) {n0 : Nat} {b : BG} {s : Nat → Nat} (h : jbd G H n0 b s) (h2 : s 2 ≤ 6) (p : Nat) (hp : p < s 2) : JMet l yX2_indexOf (ws_ yX2_indexOf cX2_indexOf 3 (some .int)) 4 0 G H [.ref (bg b 0), .ref (bpo b p)] (jpe H (nI p)) (jno) := by
  refine JMet.of [(0, .inr (some (bg b 0))), (1, .inr (some (bpo b p)))] (by decide) (Nat.le_of_ble_eq_true rfl) rfl (fun X hl hX hQ hEx hr hnm hH => ?_)
  subst hl
  have hoB := h.B.1
  have hP := h.P.1
  have hlen : ((List.range (s 2)).map (bpo b)).length = s 2 := by simp
  have hg : ∀ i, i < s 2 → JMet (jl X) yJ4_get (ws_ yJ4_get cJ4_get 2 (some (.object "java/lang/Object"))) 3 0 G H [.ref (bg b 5), .int (nI i)] (jpae H (bpo b i)) jno := fun i hi => by
    have := c_J4_get (jl X) G H (bg b 5) (bg b 6) hP i (by rw [hlen]; exact hi)
    rwa [getD_map (by simp; exact hi), getD_range hi] at this
  refine (fun (K0 : JW X G H 0 2 [(0, .inr (some (bg b 0))), (1, .inr (some (bpo b p))), (2, .inl (.int (nI 0)))] []) => ?_) (jloop (P := fun i => JW X G H 0 2 [(0, .inr (some (bg b 0))), (1, .inr (some (bpo b p))), (2, .inl (.int (nI i)))] []) p ?_ (fun i hi ih => ?_) 0 (Nat.zero_le _))
  · skip
    refine j_iconst (pc := 0) (v := 0) hX dX2_indexOf_0 (by decide) ?_
    refine j_istore_n (pc := 1) hX dX2_indexOf_1 rfl (by decide) rfl ?_
    exact j_lv (by simp [jsb, jget, jval, nI_0]) K0
  · skip
    first | refine j_aload_n (pc := 2) hX dX2_indexOf_2 rfl rfl ?_ | refine j_aload_nq (pc := 2) hX dX2_indexOf_2 rfl rfl ?_
    refine j_get (pc := 3) hX kg_X2_28 dX2_indexOf_3 (by first | assumption | exact jow.r (by assumption)) (by rfl) ?_
    refine j_iload_n (pc := 6) hX dX2_indexOf_6 rfl rfl ?_
    refine j_runae (pc := 7) (jr_V (pc := 7) hX kv_X2_83 hP.1.r (hg p hp) (by decide) dX2_indexOf_7 rfl rfl (Nat.le_of_ble_eq_true rfl)) ?_ jno_x
    first | refine j_aload_n (pc := 10) hX dX2_indexOf_10 rfl rfl ?_ | refine j_aload_nq (pc := 10) hX dX2_indexOf_10 rfl rfl ?_
    refine j_acmp_eq (pc := 11) (rx := (some _)) (ry := (some _)) (tgt := 20) hX dX2_indexOf_11 (by decide) (fun c_11 => ?_) (fun c_11 => ?_)
    rotate_left
    · exact absurd rfl c_11
    refine j_iload_n (pc := 20) hX dX2_indexOf_20 rfl rfl ?_
    exact j_iret hX hQ hr dX2_indexOf_21 ⟨_, rfl, rfl, by rfl⟩
  · skip
    first | refine j_aload_n (pc := 2) hX dX2_indexOf_2 rfl rfl ?_ | refine j_aload_nq (pc := 2) hX dX2_indexOf_2 rfl rfl ?_
    refine j_get (pc := 3) hX kg_X2_28 dX2_indexOf_3 (by first | assumption | exact jow.r (by assumption)) (by rfl) ?_
    refine j_iload_n (pc := 6) hX dX2_indexOf_6 rfl rfl ?_
    refine j_runae (pc := 7) (jr_V (pc := 7) hX kv_X2_83 hP.1.r (hg i (by omega)) (by decide) dX2_indexOf_7 rfl rfl (Nat.le_of_ble_eq_true rfl)) ?_ jno_x
    first | refine j_aload_n (pc := 10) hX dX2_indexOf_10 rfl rfl ?_ | refine j_aload_nq (pc := 10) hX dX2_indexOf_10 rfl rfl ?_
    refine j_acmp_eq (pc := 11) (rx := (some _)) (ry := (some _)) (tgt := 20) hX dX2_indexOf_11 (by decide) (fun c_11 => ?_) (fun c_11 => ?_)
    · exact absurd (h.Y.2 i p (by omega) hp (Option.some.inj c_11)) (by omega)
    refine j_iincc (pc := 14) (m := 1) hX dX2_indexOf_14 rfl (by decide) (by decide) rfl ?_
    refine j_goto (pc := 17) (tgt := 2) hX dX2_indexOf_17 (by decide) ?_
    exact j_lv (by simp [jsb, jget, jval, nI_1]) ih
