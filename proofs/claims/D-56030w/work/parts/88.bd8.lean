/-! the component's board: blocking pairs, ranks, days left -/
set_option maxRecDepth 100000
theorem hld_in {G : JG} {H : Heap} {n0 : Nat} {b : BG} {s : Nat → Nat} (h : jbd G H n0 b s) (hW : WFs s) {p : Nat} (hp : p < s 2) (hf : pFl s p ≠ 0) : pFl s p - 1 ∈ bL b ∧ hldN b s p = some (bap b (pFl s p - 1)) := by
  have h1 := (hW.2.2.2.2.2.2.2.2.1 p hp).2.2.2.2.2
  have h2 := hW.2.2.2.2.2.2.2.2.2.1 p hp (by omega)
  exact ⟨(h.S.1 _).mpr ⟨by omega, h2⟩, by unfold hldN; rw [if_neg hf]⟩
def wtN (s : Nat → Nat) (k p : Nat) : Bool := fitN s k p && (decide (pFl s p = 0) || betN s k (pFl s p - 1))
theorem blkN_none {s : Nat → Nat} {k : Nat} (h : fillN s k = none) (p : Nat) : blkN s k p = wtN s k p := by
  unfold blkN wtN; rw [h]; simp
theorem blkN_some {s : Nat → Nat} {k q : Nat} (h : fillN s k = some q) (p : Nat) : blkN s k p = (!decide (q = p) && (preN s p q && wtN s k p)) := by
  unfold blkN wtN; rw [h]
  cases e1 : fitN s k p <;> cases e2 : preN s p q <;> by_cases e : q = p <;> simp [e, e2]
theorem c_X2_wouldTake (l : Launch) (G : JG) (H : Heap) {n0 : Nat} {b : BG} {s : Nat → Nat} (h : jbd G H n0 b s) (hW : WFs s) (hB : Bs s) (p k : Nat) (hp : p < s 2) (hk : k ∈ bL b) : JMet l yX2_wouldTake (ws_ yX2_wouldTake cX2_wouldTake 3 (some .boolean)) 11 22 G H [.ref (bg b 0), .ref (bpo b p), .ref (bap b k)] (jpi (fun r H1 => r = jb (wtN s k p) ∧ JExt H H1)) (jno) := by
  refine JMet.of [(0, .inr (some (bg b 0))), (1, .inr (some (bpo b p))), (2, .inr (some (bap b k)))] (by decide) (Nat.le_of_ble_eq_true rfl) rfl (fun X hl hX hQ hEx hr hnm hH => ?_)
  subst hl
  have hoB := h.B.1
  have hxp := (h.Y.1 p hp).1
  first | refine j_aload_n (pc := 0) hX dX2_wouldTake_0 rfl rfl ?_ | refine j_aload_nq (pc := 0) hX dX2_wouldTake_0 rfl rfl ?_
  first | refine j_aload_n (pc := 1) hX dX2_wouldTake_1 rfl rfl ?_ | refine j_aload_nq (pc := 1) hX dX2_wouldTake_1 rfl rfl ?_
  refine j_rune (pc := 2) (jr_V (pc := 2) hX kv_X2_210 hxp.r (c_X4_fitsN _ _ _ h hB p k hp hk) (by decide) dX2_wouldTake_2 rfl rfl (Nat.le_of_ble_eq_true rfl)) ?_ jno_x
  refine j_if_eq (pc := 5) (tgt := 31) hX dX2_wouldTake_5 (by decide) (fun c_5 => ?_) (fun c_5 => ?_)
  · rw [jb_z] at c_5
    refine j_iconst (pc := 31) (v := 0) hX dX2_wouldTake_31 (by decide) ?_
    exact j_zret hX hQ hr (by first | rfl | exact jb_nar _ | exact nI_narC _ | assumption) dX2_wouldTake_32 ⟨_, rfl, by simp [jb, wtN, c_5], by first | exact e21 | exact JExt.rfl'⟩
  · rw [jb_n] at c_5
    first | refine j_aload_n (pc := 8) hX dX2_wouldTake_8 rfl rfl ?_ | refine j_aload_nq (pc := 8) hX dX2_wouldTake_8 rfl rfl ?_
    refine j_rune (pc := 9) (jr_V (pc := 9) hX kv_X2_126 hxp.r (c_X4_isVacant _ _ _ _ hxp) (by decide) dX2_wouldTake_9 rfl rfl (Nat.le_of_ble_eq_true rfl)) ?_ jno_x
    refine j_if_ne (pc := 12) (tgt := 27) hX dX2_wouldTake_12 (by decide) (fun c_12 => ?_) (fun c_12 => ?_)
    · rw [jb_n, hldN_z, decide_eq_true_eq] at c_12
      refine j_iconst (pc := 27) (v := 1) hX dX2_wouldTake_27 (by decide) ?_
      refine j_goto (pc := 28) (tgt := 32) hX dX2_wouldTake_28 (by decide) ?_
      exact j_zret hX hQ hr (by first | rfl | exact jb_nar _ | exact nI_narC _ | assumption) dX2_wouldTake_32 ⟨_, rfl, by simp [jb, wtN, c_5, c_12], by first | exact e21 | exact JExt.rfl'⟩
    · rw [jb_z, hldN_z, decide_eq_false_iff_not] at c_12
      obtain ⟨hin, hh⟩ := hld_in h hW hp c_12
      first | refine j_aload_n (pc := 15) hX dX2_wouldTake_15 rfl rfl ?_ | refine j_aload_nq (pc := 15) hX dX2_wouldTake_15 rfl rfl ?_
      first | refine j_aload_n (pc := 16) hX dX2_wouldTake_16 rfl rfl ?_ | refine j_aload_nq (pc := 16) hX dX2_wouldTake_16 rfl rfl ?_
      first | refine j_aload_n (pc := 17) hX dX2_wouldTake_17 rfl rfl ?_ | refine j_aload_nq (pc := 17) hX dX2_wouldTake_17 rfl rfl ?_
      refine j_get (pc := 18) hX kg_X2_256 dX2_wouldTake_18 hxp.r (by rfl) ?_
      rw [hh]; change JW X G H (0 + 22) 21 _ [.ref (bap b (pFl s p - 1)), .ref (bap b k), .ref (bg b 0)]
      refine j_runi (pc := 21) (jr_V (pc := 21) hX kv_X2_171 (by first | assumption | exact jow.r (by assumption)) (c_X2_isBetter _ _ _ h hW hB k (pFl s p - 1) hk hin) (by decide) dX2_wouldTake_21 rfl rfl (Nat.le_of_ble_eq_true rfl)) (fun r_21 H_21 p_21 z_21 => ?_) jno_x
      obtain ⟨rfl, e21⟩ := p_21
      refine j_if_eq (pc := 24) (tgt := 31) hX dX2_wouldTake_24 (by decide) (fun c_24 => ?_) (fun c_24 => ?_)
      · rw [jb_z] at c_24
        refine j_iconst (pc := 31) (v := 0) hX dX2_wouldTake_31 (by decide) ?_
        exact j_zret hX hQ hr (by first | rfl | exact jb_nar _ | exact nI_narC _ | assumption) dX2_wouldTake_32 ⟨_, rfl, by simp [jb, wtN, c_5, c_12, c_24], by first | exact e21 | exact JExt.rfl'⟩
      · rw [jb_n] at c_24
        refine j_iconst (pc := 27) (v := 1) hX dX2_wouldTake_27 (by decide) ?_
        refine j_goto (pc := 28) (tgt := 32) hX dX2_wouldTake_28 (by decide) ?_
        exact j_zret hX hQ hr (by first | rfl | exact jb_nar _ | exact nI_narC _ | assumption) dX2_wouldTake_32 ⟨_, rfl, by simp [jb, wtN, c_5, c_12, c_24], by first | exact e21 | exact JExt.rfl'⟩
theorem c_X2_blockingPairs (l : Launch) (G : JG) (H : Heap) {n0 : Nat} {b : BG} {s : Nat → Nat} (h : jbd G H n0 b s) (hW : WFs s) (hB : Bs s) : JMet l yX2_blockingPairs (ws_ yX2_blockingPairs cX2_blockingPairs 7 (some .int)) 12 1331 G H [.ref (bg b 0)] (jpi (fun r H1 => r = nI (blksN s) ∧ JExt H H1)) (jno) := by
  refine JMet.of [(0, .inr (some (bg b 0)))] (by decide) (Nat.le_of_ble_eq_true rfl) rfl (fun X hl hX hQ hEx hr hnm hH => ?_)
  subst hl
  have hC := hX.C
  have hoB := h.B.1
  have hl10 := h.S.len
  have hs6 := hB.1
  have law := blO_law h.S
  refine j_iconst (pc := 0) (v := 0) hX dX2_blockingPairs_0 (by decide) ?_
  refine j_istore_n (pc := 1) hX dX2_blockingPairs_1 rfl (by decide) rfl ?_
  first | refine j_aload_n (pc := 2) hX dX2_blockingPairs_2 rfl rfl ?_ | refine j_aload_nq (pc := 2) hX dX2_blockingPairs_2 rfl rfl ?_
  refine j_get (pc := 3) hX kg_X2_21 dX2_blockingPairs_3 (by first | assumption | exact jow.r (by assumption)) (by rfl) ?_
  change JW X G H (1330 + 1) 6 _ _
  refine j_runa (pc := 6) (jr_V (pc := 6) hX kv_X2_39 h.A.1.1.r (c_J4_iterator _ _ _ (bg b 2) (bg b 3) h.A.1) (by decide) dX2_blockingPairs_6 rfl rfl (Nat.le_of_ble_eq_true rfl)) (fun r_6 H_6 p_6 z_6 => ?_) jno_x
  obtain ⟨hz, hit0, e0⟩ := p_6
  first | refine j_astore_n (pc := 9) hX dX2_blockingPairs_9 rfl (by decide) rfl ?_ | refine j_astore_nN (pc := 9) hX dX2_blockingPairs_9 rfl (by decide) rfl ?_ | refine j_astore_nq (pc := 9) hX dX2_blockingPairs_9 rfl (by decide) rfl ?_
  skip
  refine j_weak (show 133 * ((bL b).length - 0) ≤ 1330 by omega) ?_
  have hlen : ((bL b).map (bap b)).length = (bL b).length := by simp
  have hnq : (bg b 2) ≠ r_6 := Nat.ne_of_lt (Nat.lt_of_lt_of_le h.ltA hz)
  have hna : (bg b 3) ≠ r_6 := Nat.ne_of_lt (Nat.lt_of_lt_of_le (h.ltA2 hC) hz)
  refine j_lv (by simp [jsb, jget, jval, lfN_0, nI_0, blO_0]) (jloop (P := fun i => ∀ Hk : Heap, JExt H Hk → itA G Hk r_6 (bg b 2) i (bmc b 0) → JW X G Hk (133 * ((bL b).length - i)) 10 [(0, .inr (some (bg b 0))), (1, .inl (.int (nI (blO s (bL b) i)))), (2, .inr (some r_6))] []) (bL b).length (fun Hk eH hit => ?_) (fun i hi ih Hk eH hit => ?_) 0 (Nat.zero_le _) H_6 e0 hit0)
  · have hbk := h.ext hC (eH)
    have hoB := hbk.B.1
    obtain ⟨R0, hR0⟩ : ∃ zz, zz = 133 * ((bL b).length - (bL b).length) := ⟨_, rfl⟩
    rw [← hR0]
    first | refine j_aload_n (pc := 10) hX dX2_blockingPairs_10 rfl rfl ?_ | refine j_aload_nq (pc := 10) hX dX2_blockingPairs_10 rfl rfl ?_
    refine j_run5e (pc := 11) (jr_F (pc := 11) hX kf_X2_43_12 hit.1.choose_spec.r (c_J10_hasNext _ _ _ r_6 (bg b 2) (bg b 3) _ hit hbk.A.1 (by rw [hlen]; exact Nat.le_refl _)) (by decide) dX2_blockingPairs_11 rfl rfl (Nat.le_of_ble_eq_true rfl)) ?_ jno_x
    refine j_if_eq (pc := 16) (tgt := 125) hX dX2_blockingPairs_16 (by decide) (fun c_16 => ?_) (fun c_16 => ?_)
    rotate_left
    · rw [jb_n, decide_eq_true_eq, hlen] at c_16; exact absurd c_16 (Nat.lt_irrefl _)
    refine j_iload_n (pc := 125) hX dX2_blockingPairs_125 rfl rfl ?_
    exact j_iret hX hQ hr dX2_blockingPairs_126 ⟨_, rfl, congrArg nI law, eH⟩
  · have hbk := h.ext hC (eH)
    obtain ⟨rm, hrm⟩ : ∃ zz, zz = 133 * ((bL b).length - (i + 1)) := ⟨_, rfl⟩
    rw [← hrm] at ih
    obtain ⟨R, hR⟩ : ∃ zz, zz = rm + 133 := ⟨_, rfl⟩
    rw [show 133 * ((bL b).length - i) = R from by omega]
    first | refine j_aload_n (pc := 10) hX dX2_blockingPairs_10 rfl rfl ?_ | refine j_aload_nq (pc := 10) hX dX2_blockingPairs_10 rfl rfl ?_
    refine j_run5e (pc := 11) (jr_F (pc := 11) hX kf_X2_43_12 hit.1.choose_spec.r (c_J10_hasNext _ _ _ r_6 (bg b 2) (bg b 3) _ hit hbk.A.1 (by rw [hlen]; omega)) (by decide) dX2_blockingPairs_11 rfl rfl (Nat.le_of_ble_eq_true rfl)) ?_ jno_x
    refine j_if_eq (pc := 16) (tgt := 125) hX dX2_blockingPairs_16 (by decide) (fun c_16 => ?_) (fun c_16 => ?_)
    · rw [jb_z, decide_eq_false_iff_not, hlen] at c_16; exact absurd hi c_16
    first | refine j_aload_n (pc := 19) hX dX2_blockingPairs_19 rfl rfl ?_ | refine j_aload_nq (pc := 19) hX dX2_blockingPairs_19 rfl rfl ?_
    refine j_run5a (pc := 20) (jr_F (pc := 20) hX kf_X2_49_12 hit.1.choose_spec.r (c_J10_next _ _ _ r_6 (bg b 2) (bg b 3) _ hit hbk.A.1 (by rw [hlen]; exact hi) hnq hna) (by decide) dX2_blockingPairs_20 rfl rfl (Nat.le_of_ble_eq_true rfl)) (fun r_20 H_20 p_20 z_20 => ?_) jno_x
    obtain ⟨hr, wn, hin⟩ := p_20
    rw [getD_map hi] at hr
    subst hr
    have eN := eH.put wn hz
    have hbn := h.ext hC (eN)
    have hx := (hbn.X.1 _ (getD_mem hi)).1
    have hoB := hbn.B.1
    refine j_ccast (pc := 25) hX kc_X2_63 dX2_blockingPairs_25 hx.r ?_
    first | refine j_astore_n (pc := 28) hX dX2_blockingPairs_28 rfl (by decide) rfl ?_ | refine j_astore_nN (pc := 28) hX dX2_blockingPairs_28 rfl (by decide) rfl ?_ | refine j_astore_nq (pc := 28) hX dX2_blockingPairs_28 rfl (by decide) rfl ?_
    first | refine j_aload_n (pc := 29) hX dX2_blockingPairs_29 rfl rfl ?_ | refine j_aload_nq (pc := 29) hX dX2_blockingPairs_29 rfl rfl ?_
    refine j_get (pc := 30) hX kg_X2_28 dX2_blockingPairs_30 (by first | assumption | exact jow.r (by assumption)) (by rfl) ?_
    subst hR
    change JW X G _ ((rm + 132) + 1) 33 _ _
    refine j_runa (pc := 33) (jr_V (pc := 33) hX kv_X2_39 hbn.P.1.1.r (c_J4_iterator _ _ _ (bg b 5) (bg b 6) hbn.P.1) (by decide) dX2_blockingPairs_33 rfl rfl (Nat.le_of_ble_eq_true rfl)) (fun r_33 H_33 p_33 z_33 => ?_) jno_x
    obtain ⟨hz33, hit33, e33⟩ := p_33
    have hz0 := eN.1
    first | refine j_astore (pc := 36) hX dX2_blockingPairs_36 (by decide) rfl ?_ | refine j_astoreN (pc := 36) hX dX2_blockingPairs_36 (by decide) rfl ?_ | refine j_astoreq (pc := 36) hX dX2_blockingPairs_36 (by decide) rfl ?_
    skip
    refine j_weak (show rm + 22 * (s 2 - 0) ≤ rm + 132 by omega) ?_
    have hlen2 : ((List.range (s 2)).map (bpo b)).length = (s 2) := by simp
    have hnq2 : (bg b 5) ≠ r_33 := Nat.ne_of_lt (Nat.lt_of_lt_of_le h.ltP (Nat.le_trans hz0 hz33))
    have hna2 : (bg b 6) ≠ r_33 := Nat.ne_of_lt (Nat.lt_of_lt_of_le (h.ltP2 hC) (Nat.le_trans hz0 hz33))
    refine j_lv (by simp [jsb, jget, jval, lfN_0, nI_0, jfold]) (jloop (P := fun i2 => ∀ Hk2 : Heap, JExt H_20 Hk2 → itA G Hk2 r_33 (bg b 5) i2 (bmc b 1) → JW X G Hk2 (rm + 22 * (s 2 - i2)) 38 [(0, .inr (some (bg b 0))), (1, .inl (.int (nI (jfold (blkF s ((bL b).getD i 0)) i2 (blO s (bL b) i))))), (2, .inr (some r_6)), (3, .inr (some (bap b ((bL b).getD i 0)))), (4, .inr (some r_33))] []) (s 2) (fun Hk2 eH2 hit2 => ?_) (fun i2 hi2 ih2 Hk2 eH2 hit2 => ?_) 0 (Nat.zero_le _) H_33 e33 hit33)
    · have hbk2 := h.ext hC (eN.trans (eH2))
      have hoB2 := hbk2.B.1
      obtain ⟨R02, hR02⟩ : ∃ zz, zz = rm + 22 * (s 2 - (s 2)) := ⟨_, rfl⟩
      rw [← hR02]
      first | refine j_aload (pc := 38) hX dX2_blockingPairs_38 rfl ?_ | refine j_aloadq (pc := 38) hX dX2_blockingPairs_38 rfl ?_
      refine j_run5e (pc := 40) (jr_F (pc := 40) hX kf_X2_43_12 hit2.1.choose_spec.r (c_J10_hasNext _ _ _ r_33 (bg b 5) (bg b 6) _ hit2 hbk2.P.1 (by rw [hlen2]; exact Nat.le_refl _)) (by decide) dX2_blockingPairs_40 rfl rfl (Nat.le_of_ble_eq_true rfl)) ?_ jno_x
      refine j_if_eq (pc := 45) (tgt := 122) hX dX2_blockingPairs_45 (by decide) (fun c_45 => ?_) (fun c_45 => ?_)
      rotate_left
      · rw [jb_n, decide_eq_true_eq, hlen2] at c_45; exact absurd c_45 (Nat.lt_irrefl _)
      refine j_goto (pc := 122) (tgt := 10) hX dX2_blockingPairs_122 (by decide) ?_
      exact j_lv (by simp [jsb, jget, jval, blO_s, -List.getD_eq_getElem?_getD]) (j_weak (by omega) (ih _ (eN.trans eH2) (hin_ext hin eH2)))
    · have hbk2 := h.ext hC (eN.trans (eH2))
      obtain ⟨rm2, hrm2⟩ : ∃ zz, zz = rm + 22 * (s 2 - (i2 + 1)) := ⟨_, rfl⟩
      rw [← hrm2] at ih2
      obtain ⟨R2, hR2⟩ : ∃ zz, zz = rm2 + 22 := ⟨_, rfl⟩
      rw [show rm + 22 * (s 2 - i2) = R2 from by omega]
      first | refine j_aload (pc := 38) hX dX2_blockingPairs_38 rfl ?_ | refine j_aloadq (pc := 38) hX dX2_blockingPairs_38 rfl ?_
      refine j_run5e (pc := 40) (jr_F (pc := 40) hX kf_X2_43_12 hit2.1.choose_spec.r (c_J10_hasNext _ _ _ r_33 (bg b 5) (bg b 6) _ hit2 hbk2.P.1 (by rw [hlen2]; omega)) (by decide) dX2_blockingPairs_40 rfl rfl (Nat.le_of_ble_eq_true rfl)) ?_ jno_x
      refine j_if_eq (pc := 45) (tgt := 122) hX dX2_blockingPairs_45 (by decide) (fun c_45 => ?_) (fun c_45 => ?_)
      · rw [jb_z, decide_eq_false_iff_not, hlen2] at c_45; exact absurd hi2 c_45
      first | refine j_aload (pc := 48) hX dX2_blockingPairs_48 rfl ?_ | refine j_aloadq (pc := 48) hX dX2_blockingPairs_48 rfl ?_
      refine j_run5a (pc := 50) (jr_F (pc := 50) hX kf_X2_49_12 hit2.1.choose_spec.r (c_J10_next _ _ _ r_33 (bg b 5) (bg b 6) _ hit2 hbk2.P.1 (by rw [hlen2]; exact hi2) hnq2 hna2) (by decide) dX2_blockingPairs_50 rfl rfl (Nat.le_of_ble_eq_true rfl)) (fun r_50 H_50 p_50 z_50 => ?_) jno_x
      obtain ⟨hr2, wn2, hin2⟩ := p_50
      rw [getD_map (by simp; exact hi2), getD_range hi2] at hr2
      subst hr2
      have eN2 := eH2.put wn2 hz33
      have hbn2 := h.ext hC (eN.trans (eN2))
      have hx2 := (hbn2.Y.1 _ hi2).1
      have hoB2 := hbn2.B.1
      refine j_ccast (pc := 55) hX kc_X2_53 dX2_blockingPairs_55 hx2.r ?_
      first | refine j_astore (pc := 58) hX dX2_blockingPairs_58 (by decide) rfl ?_ | refine j_astoreN (pc := 58) hX dX2_blockingPairs_58 (by decide) rfl ?_ | refine j_astoreq (pc := 58) hX dX2_blockingPairs_58 (by decide) rfl ?_
      have hxa := (hbn2.X.1 _ (getD_mem hi)).1
      first | refine j_aload_n (pc := 60) hX dX2_blockingPairs_60 rfl rfl ?_ | refine j_aload_nq (pc := 60) hX dX2_blockingPairs_60 rfl rfl ?_
      refine j_rune (pc := 61) (jr_V (pc := 61) hX kv_X2_72 hxa.r (c_X5_isHired _ _ _ _ hxa) (by decide) dX2_blockingPairs_61 rfl rfl (Nat.le_of_ble_eq_true rfl)) ?_ jno_x
      refine j_if_eq (pc := 64) (tgt := 80) hX dX2_blockingPairs_64 (by decide) (fun c_64 => ?_) (fun c_64 => ?_)
      · rw [jb_z, Option.isSome_map] at c_64
        have c64 : fillN s ((bL b).getD i 0) = none := Option.not_isSome_iff_eq_none.mp (by rw [c_64]; decide)
        refine j_iconst (pc := 80) (v := 1) hX dX2_blockingPairs_80 (by decide) ?_
        refine j_goto (pc := 81) (tgt := 85) hX dX2_blockingPairs_81 (by decide) ?_
        refine j_istore (pc := 85) hX dX2_blockingPairs_85 (by decide) rfl ?_
        refine j_iload_n (pc := 87) hX dX2_blockingPairs_87 rfl rfl ?_
        first | refine j_aload (pc := 88) hX dX2_blockingPairs_88 rfl ?_ | refine j_aloadq (pc := 88) hX dX2_blockingPairs_88 rfl ?_
        first | refine j_aload_n (pc := 90) hX dX2_blockingPairs_90 rfl rfl ?_ | refine j_aload_nq (pc := 90) hX dX2_blockingPairs_90 rfl rfl ?_
        refine j_get (pc := 91) hX kg_X2_75 dX2_blockingPairs_91 hxa.r (by rfl) ?_
        rw [c64]
        refine j_acmp_eq (pc := 94) (rx := (some (bpo b i2))) (ry := _) (tgt := 116) hX dX2_blockingPairs_94 (by decide) (fun c_94 => ?_) (fun c_94 => ?_)
        · refine j_iconst (pc := 116) (v := 0) hX dX2_blockingPairs_116 (by decide) ?_
          refine j_iadd (pc := 117) hX dX2_blockingPairs_117 ?_
          refine j_istore_n (pc := 118) hX dX2_blockingPairs_118 rfl (by decide) rfl ?_
          refine j_goto (pc := 119) (tgt := 38) hX dX2_blockingPairs_119 (by decide) ?_
          first | (simp at c_94; done) | (have c94 : fq = i2 := (hbn2.Y.2 _ _ hi2 hfq (Option.some.inj c_94)).symm; refine j_lv ?_ (j_weak (by omega) (ih2 _ eN2 hin2)); simp [jsb, jget, jval, jfold_succ, -List.getD_eq_getElem?_getD, nI_1, nI_add, blkF, blkN_some c64, c94]; done) | (have c94 : ¬ fq = i2 := fun z => c_94 (by rw [z]; rfl); refine j_lv ?_ (j_weak (by omega) (ih2 _ eN2 hin2)); simp [jsb, jget, jval, jfold_succ, -List.getD_eq_getElem?_getD, nI_1, nI_add, blkF, blkN_some c64, c94, c_45, c_64, c_94]; done) | (refine j_lv ?_ (j_weak (by omega) (ih2 _ eN2 hin2)); simp [jsb, jget, jval, jfold_succ, -List.getD_eq_getElem?_getD, nI_1, nI_add, blkF, blkN_none c64, c_45, c_64, c_94]; done)
        · refine j_iload (pc := 97) hX dX2_blockingPairs_97 rfl ?_
          refine j_if_eq (pc := 99) (tgt := 116) hX dX2_blockingPairs_99 (by decide) (fun c_99 => ?_) (fun c_99 => ?_)
          · first | exact absurd c_99 (by decide) | (change (1 : Int32) = 0 at c_99; exact absurd c_99 (by decide))
          first | refine j_aload_n (pc := 102) hX dX2_blockingPairs_102 rfl rfl ?_ | refine j_aload_nq (pc := 102) hX dX2_blockingPairs_102 rfl rfl ?_
          first | refine j_aload (pc := 103) hX dX2_blockingPairs_103 rfl ?_ | refine j_aloadq (pc := 103) hX dX2_blockingPairs_103 rfl ?_
          first | refine j_aload_n (pc := 105) hX dX2_blockingPairs_105 rfl rfl ?_ | refine j_aload_nq (pc := 105) hX dX2_blockingPairs_105 rfl rfl ?_
          subst hR2
          refine j_runi (pc := 106) (jr_V (pc := 106) hX kv_X2_260 (by first | assumption | exact jow.r (by assumption)) (c_X2_wouldTake _ _ _ hbn2 hW hB i2 ((bL b).getD i 0) hi2 (getD_mem hi)) (by decide) dX2_blockingPairs_106 rfl rfl (Nat.le_of_ble_eq_true rfl)) (fun r_106 H_106 p_106 z_106 => ?_) jno_x
          obtain ⟨rfl, e106⟩ := p_106
          have eN2 := eN2.trans e106
          have hin2 := hin_ext hin2 e106
          refine j_if_eq (pc := 109) (tgt := 116) hX dX2_blockingPairs_109 (by decide) (fun c_109 => ?_) (fun c_109 => ?_)
          · rw [jb_z] at c_109
            refine j_iconst (pc := 116) (v := 0) hX dX2_blockingPairs_116 (by decide) ?_
            refine j_iadd (pc := 117) hX dX2_blockingPairs_117 ?_
            refine j_istore_n (pc := 118) hX dX2_blockingPairs_118 rfl (by decide) rfl ?_
            refine j_goto (pc := 119) (tgt := 38) hX dX2_blockingPairs_119 (by decide) ?_
            first | (simp at c_94; done) | (have c94 : fq = i2 := (hbn2.Y.2 _ _ hi2 hfq (Option.some.inj c_94)).symm; refine j_lv ?_ (j_weak (by omega) (ih2 _ eN2 hin2)); simp [jsb, jget, jval, jfold_succ, -List.getD_eq_getElem?_getD, nI_1, nI_add, blkF, blkN_some c64, c94]; done) | (have c94 : ¬ fq = i2 := fun z => c_94 (by rw [z]; rfl); refine j_lv ?_ (j_weak (by omega) (ih2 _ eN2 hin2)); simp [jsb, jget, jval, jfold_succ, -List.getD_eq_getElem?_getD, nI_1, nI_add, blkF, blkN_some c64, c94, c_45, c_64, c_94, c_109]; done) | (refine j_lv ?_ (j_weak (by omega) (ih2 _ eN2 hin2)); simp [jsb, jget, jval, jfold_succ, -List.getD_eq_getElem?_getD, nI_1, nI_add, blkF, blkN_none c64, c_45, c_64, c_94, c_109]; done)
          · rw [jb_n] at c_109
            refine j_iconst (pc := 112) (v := 1) hX dX2_blockingPairs_112 (by decide) ?_
            refine j_goto (pc := 113) (tgt := 117) hX dX2_blockingPairs_113 (by decide) ?_
            refine j_iadd (pc := 117) hX dX2_blockingPairs_117 ?_
            refine j_istore_n (pc := 118) hX dX2_blockingPairs_118 rfl (by decide) rfl ?_
            refine j_goto (pc := 119) (tgt := 38) hX dX2_blockingPairs_119 (by decide) ?_
            first | (simp at c_94; done) | (have c94 : fq = i2 := (hbn2.Y.2 _ _ hi2 hfq (Option.some.inj c_94)).symm; refine j_lv ?_ (j_weak (by omega) (ih2 _ eN2 hin2)); simp [jsb, jget, jval, jfold_succ, -List.getD_eq_getElem?_getD, nI_1, nI_add, blkF, blkN_some c64, c94]; done) | (have c94 : ¬ fq = i2 := fun z => c_94 (by rw [z]; rfl); refine j_lv ?_ (j_weak (by omega) (ih2 _ eN2 hin2)); simp [jsb, jget, jval, jfold_succ, -List.getD_eq_getElem?_getD, nI_1, nI_add, blkF, blkN_some c64, c94, c_45, c_64, c_94, c_109]; done) | (refine j_lv ?_ (j_weak (by omega) (ih2 _ eN2 hin2)); simp [jsb, jget, jval, jfold_succ, -List.getD_eq_getElem?_getD, nI_1, nI_add, blkF, blkN_none c64, c_45, c_64, c_94, c_109]; done)
      · rw [jb_n, Option.isSome_map, Option.isSome_iff_exists] at c_64
        obtain ⟨fq, c64⟩ := id c_64
        have hfq := fillN_lt c64
        first | refine j_aload_n (pc := 67) hX dX2_blockingPairs_67 rfl rfl ?_ | refine j_aload_nq (pc := 67) hX dX2_blockingPairs_67 rfl rfl ?_
        first | refine j_aload (pc := 68) hX dX2_blockingPairs_68 rfl ?_ | refine j_aloadq (pc := 68) hX dX2_blockingPairs_68 rfl ?_
        first | refine j_aload_n (pc := 70) hX dX2_blockingPairs_70 rfl rfl ?_ | refine j_aload_nq (pc := 70) hX dX2_blockingPairs_70 rfl rfl ?_
        refine j_get (pc := 71) hX kg_X2_75 dX2_blockingPairs_71 hxa.r (by rfl) ?_
        rw [c64]
        change JW X G _ _ 74 _ [.ref (bpo b fq), .ref (bpo b i2), .ref (bg b 0)]
        refine j_rune (pc := 74) (jr_V (pc := 74) hX kv_X2_214 (by first | assumption | exact jow.r (by assumption)) (c_X2_isPreferred _ _ _ hbn2 hB i2 fq hi2 hfq) (by decide) dX2_blockingPairs_74 rfl rfl (Nat.le_of_ble_eq_true rfl)) ?_ jno_x
        refine j_if_eq (pc := 77) (tgt := 84) hX dX2_blockingPairs_77 (by decide) (fun c_77 => ?_) (fun c_77 => ?_)
        · rw [jb_z] at c_77
          refine j_iconst (pc := 84) (v := 0) hX dX2_blockingPairs_84 (by decide) ?_
          refine j_istore (pc := 85) hX dX2_blockingPairs_85 (by decide) rfl ?_
          refine j_iload_n (pc := 87) hX dX2_blockingPairs_87 rfl rfl ?_
          first | refine j_aload (pc := 88) hX dX2_blockingPairs_88 rfl ?_ | refine j_aloadq (pc := 88) hX dX2_blockingPairs_88 rfl ?_
          first | refine j_aload_n (pc := 90) hX dX2_blockingPairs_90 rfl rfl ?_ | refine j_aload_nq (pc := 90) hX dX2_blockingPairs_90 rfl rfl ?_
          refine j_get (pc := 91) hX kg_X2_75 dX2_blockingPairs_91 hxa.r (by rfl) ?_
          rw [c64]
          refine j_acmp_eq (pc := 94) (rx := (some (bpo b i2))) (ry := _) (tgt := 116) hX dX2_blockingPairs_94 (by decide) (fun c_94 => ?_) (fun c_94 => ?_)
          · refine j_iconst (pc := 116) (v := 0) hX dX2_blockingPairs_116 (by decide) ?_
            refine j_iadd (pc := 117) hX dX2_blockingPairs_117 ?_
            refine j_istore_n (pc := 118) hX dX2_blockingPairs_118 rfl (by decide) rfl ?_
            refine j_goto (pc := 119) (tgt := 38) hX dX2_blockingPairs_119 (by decide) ?_
            first | (simp at c_94; done) | (have c94 : fq = i2 := (hbn2.Y.2 _ _ hi2 hfq (Option.some.inj c_94)).symm; refine j_lv ?_ (j_weak (by omega) (ih2 _ eN2 hin2)); simp [jsb, jget, jval, jfold_succ, -List.getD_eq_getElem?_getD, nI_1, nI_add, blkF, blkN_some c64, c94]; done) | (have c94 : ¬ fq = i2 := fun z => c_94 (by rw [z]; rfl); refine j_lv ?_ (j_weak (by omega) (ih2 _ eN2 hin2)); simp [jsb, jget, jval, jfold_succ, -List.getD_eq_getElem?_getD, nI_1, nI_add, blkF, blkN_some c64, c94, c_45, c_64, c_77, c_94]; done) | (refine j_lv ?_ (j_weak (by omega) (ih2 _ eN2 hin2)); simp [jsb, jget, jval, jfold_succ, -List.getD_eq_getElem?_getD, nI_1, nI_add, blkF, blkN_none c64, c_45, c_64, c_77, c_94]; done)
          · refine j_iload (pc := 97) hX dX2_blockingPairs_97 rfl ?_
            refine j_if_eq (pc := 99) (tgt := 116) hX dX2_blockingPairs_99 (by decide) (fun c_99 => ?_) (fun c_99 => ?_)
            rotate_left
            · first | exact absurd c_99 (by decide) | (change ¬ (0 : Int32) = 0 at c_99; exact absurd c_99 (by decide))
            refine j_iconst (pc := 116) (v := 0) hX dX2_blockingPairs_116 (by decide) ?_
            refine j_iadd (pc := 117) hX dX2_blockingPairs_117 ?_
            refine j_istore_n (pc := 118) hX dX2_blockingPairs_118 rfl (by decide) rfl ?_
            refine j_goto (pc := 119) (tgt := 38) hX dX2_blockingPairs_119 (by decide) ?_
            first | (simp at c_94; done) | (have c94 : fq = i2 := (hbn2.Y.2 _ _ hi2 hfq (Option.some.inj c_94)).symm; refine j_lv ?_ (j_weak (by omega) (ih2 _ eN2 hin2)); simp [jsb, jget, jval, jfold_succ, -List.getD_eq_getElem?_getD, nI_1, nI_add, blkF, blkN_some c64, c94]; done) | (have c94 : ¬ fq = i2 := fun z => c_94 (by rw [z]; rfl); refine j_lv ?_ (j_weak (by omega) (ih2 _ eN2 hin2)); simp [jsb, jget, jval, jfold_succ, -List.getD_eq_getElem?_getD, nI_1, nI_add, blkF, blkN_some c64, c94, c_45, c_64, c_77, c_94]; done) | (refine j_lv ?_ (j_weak (by omega) (ih2 _ eN2 hin2)); simp [jsb, jget, jval, jfold_succ, -List.getD_eq_getElem?_getD, nI_1, nI_add, blkF, blkN_none c64, c_45, c_64, c_77, c_94]; done)
        · rw [jb_n] at c_77
          refine j_iconst (pc := 80) (v := 1) hX dX2_blockingPairs_80 (by decide) ?_
          refine j_goto (pc := 81) (tgt := 85) hX dX2_blockingPairs_81 (by decide) ?_
          refine j_istore (pc := 85) hX dX2_blockingPairs_85 (by decide) rfl ?_
          refine j_iload_n (pc := 87) hX dX2_blockingPairs_87 rfl rfl ?_
          first | refine j_aload (pc := 88) hX dX2_blockingPairs_88 rfl ?_ | refine j_aloadq (pc := 88) hX dX2_blockingPairs_88 rfl ?_
          first | refine j_aload_n (pc := 90) hX dX2_blockingPairs_90 rfl rfl ?_ | refine j_aload_nq (pc := 90) hX dX2_blockingPairs_90 rfl rfl ?_
          refine j_get (pc := 91) hX kg_X2_75 dX2_blockingPairs_91 hxa.r (by rfl) ?_
          rw [c64]
          refine j_acmp_eq (pc := 94) (rx := (some (bpo b i2))) (ry := _) (tgt := 116) hX dX2_blockingPairs_94 (by decide) (fun c_94 => ?_) (fun c_94 => ?_)
          · refine j_iconst (pc := 116) (v := 0) hX dX2_blockingPairs_116 (by decide) ?_
            refine j_iadd (pc := 117) hX dX2_blockingPairs_117 ?_
            refine j_istore_n (pc := 118) hX dX2_blockingPairs_118 rfl (by decide) rfl ?_
            refine j_goto (pc := 119) (tgt := 38) hX dX2_blockingPairs_119 (by decide) ?_
            first | (simp at c_94; done) | (have c94 : fq = i2 := (hbn2.Y.2 _ _ hi2 hfq (Option.some.inj c_94)).symm; refine j_lv ?_ (j_weak (by omega) (ih2 _ eN2 hin2)); simp [jsb, jget, jval, jfold_succ, -List.getD_eq_getElem?_getD, nI_1, nI_add, blkF, blkN_some c64, c94]; done) | (have c94 : ¬ fq = i2 := fun z => c_94 (by rw [z]; rfl); refine j_lv ?_ (j_weak (by omega) (ih2 _ eN2 hin2)); simp [jsb, jget, jval, jfold_succ, -List.getD_eq_getElem?_getD, nI_1, nI_add, blkF, blkN_some c64, c94, c_45, c_64, c_77, c_94]; done) | (refine j_lv ?_ (j_weak (by omega) (ih2 _ eN2 hin2)); simp [jsb, jget, jval, jfold_succ, -List.getD_eq_getElem?_getD, nI_1, nI_add, blkF, blkN_none c64, c_45, c_64, c_77, c_94]; done)
          · refine j_iload (pc := 97) hX dX2_blockingPairs_97 rfl ?_
            refine j_if_eq (pc := 99) (tgt := 116) hX dX2_blockingPairs_99 (by decide) (fun c_99 => ?_) (fun c_99 => ?_)
            · first | exact absurd c_99 (by decide) | (change (1 : Int32) = 0 at c_99; exact absurd c_99 (by decide))
            first | refine j_aload_n (pc := 102) hX dX2_blockingPairs_102 rfl rfl ?_ | refine j_aload_nq (pc := 102) hX dX2_blockingPairs_102 rfl rfl ?_
            first | refine j_aload (pc := 103) hX dX2_blockingPairs_103 rfl ?_ | refine j_aloadq (pc := 103) hX dX2_blockingPairs_103 rfl ?_
            first | refine j_aload_n (pc := 105) hX dX2_blockingPairs_105 rfl rfl ?_ | refine j_aload_nq (pc := 105) hX dX2_blockingPairs_105 rfl rfl ?_
            subst hR2
            refine j_runi (pc := 106) (jr_V (pc := 106) hX kv_X2_260 (by first | assumption | exact jow.r (by assumption)) (c_X2_wouldTake _ _ _ hbn2 hW hB i2 ((bL b).getD i 0) hi2 (getD_mem hi)) (by decide) dX2_blockingPairs_106 rfl rfl (Nat.le_of_ble_eq_true rfl)) (fun r_106 H_106 p_106 z_106 => ?_) jno_x
            obtain ⟨rfl, e106⟩ := p_106
            have eN2 := eN2.trans e106
            have hin2 := hin_ext hin2 e106
            refine j_if_eq (pc := 109) (tgt := 116) hX dX2_blockingPairs_109 (by decide) (fun c_109 => ?_) (fun c_109 => ?_)
            · rw [jb_z] at c_109
              refine j_iconst (pc := 116) (v := 0) hX dX2_blockingPairs_116 (by decide) ?_
              refine j_iadd (pc := 117) hX dX2_blockingPairs_117 ?_
              refine j_istore_n (pc := 118) hX dX2_blockingPairs_118 rfl (by decide) rfl ?_
              refine j_goto (pc := 119) (tgt := 38) hX dX2_blockingPairs_119 (by decide) ?_
              first | (simp at c_94; done) | (have c94 : fq = i2 := (hbn2.Y.2 _ _ hi2 hfq (Option.some.inj c_94)).symm; refine j_lv ?_ (j_weak (by omega) (ih2 _ eN2 hin2)); simp [jsb, jget, jval, jfold_succ, -List.getD_eq_getElem?_getD, nI_1, nI_add, blkF, blkN_some c64, c94]; done) | (have c94 : ¬ fq = i2 := fun z => c_94 (by rw [z]; rfl); refine j_lv ?_ (j_weak (by omega) (ih2 _ eN2 hin2)); simp [jsb, jget, jval, jfold_succ, -List.getD_eq_getElem?_getD, nI_1, nI_add, blkF, blkN_some c64, c94, c_45, c_64, c_77, c_94, c_109]; done) | (refine j_lv ?_ (j_weak (by omega) (ih2 _ eN2 hin2)); simp [jsb, jget, jval, jfold_succ, -List.getD_eq_getElem?_getD, nI_1, nI_add, blkF, blkN_none c64, c_45, c_64, c_77, c_94, c_109]; done)
            · rw [jb_n] at c_109
              refine j_iconst (pc := 112) (v := 1) hX dX2_blockingPairs_112 (by decide) ?_
              refine j_goto (pc := 113) (tgt := 117) hX dX2_blockingPairs_113 (by decide) ?_
              refine j_iadd (pc := 117) hX dX2_blockingPairs_117 ?_
              refine j_istore_n (pc := 118) hX dX2_blockingPairs_118 rfl (by decide) rfl ?_
              refine j_goto (pc := 119) (tgt := 38) hX dX2_blockingPairs_119 (by decide) ?_
              first | (simp at c_94; done) | (have c94 : fq = i2 := (hbn2.Y.2 _ _ hi2 hfq (Option.some.inj c_94)).symm; refine j_lv ?_ (j_weak (by omega) (ih2 _ eN2 hin2)); simp [jsb, jget, jval, jfold_succ, -List.getD_eq_getElem?_getD, nI_1, nI_add, blkF, blkN_some c64, c94]; done) | (have c94 : ¬ fq = i2 := fun z => c_94 (by rw [z]; rfl); refine j_lv ?_ (j_weak (by omega) (ih2 _ eN2 hin2)); simp [jsb, jget, jval, jfold_succ, -List.getD_eq_getElem?_getD, nI_1, nI_add, blkF, blkN_some c64, c94, c_45, c_64, c_77, c_94, c_109]; done) | (refine j_lv ?_ (j_weak (by omega) (ih2 _ eN2 hin2)); simp [jsb, jget, jval, jfold_succ, -List.getD_eq_getElem?_getD, nI_1, nI_add, blkF, blkN_none c64, c_45, c_64, c_77, c_94, c_109]; done)
theorem c_X2_byScore (l : Launch) (G : JG) (H : Heap) {n0 : Nat} {b : BG} {s : Nat → Nat} (h : jbd G H n0 b s) (hW : WFs s) (hB : Bs s) (x : Int32) : JMet l yX2_byScore (ws_ yX2_byScore cX2_byScore 8 (some .int)) 12 2214 G H [.ref (bg b 0), .int x] (jpi (fun r H1 => (rankQ s (betN s) x).1 = 0 ∧ r = (rankQ s (betN s) x).2 ∧ JExt H H1)) (pxO eIdx ((rankQ s (betN s) x).1 = 1) H) := by
  refine JMet.of [(0, .inr (some (bg b 0))), (1, .inl (.int x))] (by decide) (Nat.le_of_ble_eq_true rfl) rfl (fun X hl hX hQ hEx hr hnm hH => ?_)
  subst hl
  have hC := hX.C
  have hoB := h.B.1
  have hl10 := h.S.len
  have hA := h.A.1
  have hlen0 : ((bL b).map (bap b)).length = (bL b).length := List.length_map ..
  have hsz := c_J4_size (jl X) G H (bg b 2) (bg b 3) hA
  rw [hlen0] at hsz
  have ap := apps_law h.S
  refine j_iload_n (pc := 0) hX dX2_byScore_0 rfl rfl ?_
  first | refine j_aload_n (pc := 1) hX dX2_byScore_1 rfl rfl ?_ | refine j_aload_nq (pc := 1) hX dX2_byScore_1 rfl rfl ?_
  refine j_get (pc := 2) hX kg_X2_21 dX2_byScore_2 (by first | assumption | exact jow.r (by assumption)) (by rfl) ?_
  refine j_rune (pc := 5) (jr_V (pc := 5) hX kv_X2_118 hA.1.r (hsz) (by decide) dX2_byScore_5 rfl rfl (Nat.le_of_ble_eq_true rfl)) ?_ jno_x
  change JW X G H (2212 + 2) 8 _ _
  refine j_runv (pc := 8) (jr_SN (pc := 8) hX ks_X2_122 (c_X1_checkIndex _ _ _ x (nI (bL b).length)) (by decide) dX2_byScore_8 rfl rfl (Nat.le_of_ble_eq_true rfl)) (fun H_8 p_8 z_8 => ?_) (fun E q H1 hx _ => jt_out hX hQ hEx ⟨hx.1, by unfold rankQ; rw [ap, if_neg (by rw [hx.2.1]; decide)], hx.2.2⟩)
  skip
  obtain ⟨rfl, hc⟩ := p_8
  have law := rank_law h.S (betN s) (bet_st h.S) hc
  refine j_iconst (pc := 11) (v := -1) hX dX2_byScore_11 (by decide) ?_
  refine j_istore_n (pc := 12) hX dX2_byScore_12 rfl (by decide) rfl ?_
  first | refine j_aload_n (pc := 13) hX dX2_byScore_13 rfl rfl ?_ | refine j_aload_nq (pc := 13) hX dX2_byScore_13 rfl rfl ?_
  refine j_get (pc := 14) hX kg_X2_21 dX2_byScore_14 (by first | assumption | exact jow.r (by assumption)) (by rfl) ?_
  change JW X G H_8 (2211 + 1) 17 _ _
  refine j_runa (pc := 17) (jr_V (pc := 17) hX kv_X2_39 h.A.1.1.r (c_J4_iterator _ _ _ (bg b 2) (bg b 3) h.A.1) (by decide) dX2_byScore_17 rfl rfl (Nat.le_of_ble_eq_true rfl)) (fun r_17 H_17 p_17 z_17 => ?_) jno_x
  obtain ⟨hz, hit0, e0⟩ := p_17
  first | refine j_astore_n (pc := 20) hX dX2_byScore_20 rfl (by decide) rfl ?_ | refine j_astore_nN (pc := 20) hX dX2_byScore_20 rfl (by decide) rfl ?_ | refine j_astore_nq (pc := 20) hX dX2_byScore_20 rfl (by decide) rfl ?_
  skip
  refine j_weak (show 221 * ((bL b).length - 0) ≤ 2211 by omega) ?_
  have hlen : ((bL b).map (bap b)).length = (bL b).length := by simp
  have hnq : (bg b 2) ≠ r_17 := Nat.ne_of_lt (Nat.lt_of_lt_of_le h.ltA hz)
  have hna : (bg b 3) ≠ r_17 := Nat.ne_of_lt (Nat.lt_of_lt_of_le (h.ltA2 hC) hz)
  refine j_lv (by simp [jsb, jget, jval, lfN_0, rkO_0]) (jloop (P := fun i => ∀ Hk : Heap, JExt H_8 Hk → itA G Hk r_17 (bg b 2) i (bmc b 0) → JW X G Hk (221 * ((bL b).length - i)) 21 [(0, .inr (some (bg b 0))), (1, .inl (.int x)), (2, .inl (.int (rkO s (betN s) x (bL b) i))), (3, .inr (some r_17))] []) (bL b).length (fun Hk eH hit => ?_) (fun i hi ih Hk eH hit => ?_) 0 (Nat.zero_le _) H_17 e0 hit0)
  · have hbk := h.ext hC (eH)
    have hoB := hbk.B.1
    obtain ⟨R0, hR0⟩ : ∃ zz, zz = 221 * ((bL b).length - (bL b).length) := ⟨_, rfl⟩
    rw [← hR0]
    first | refine j_aload_n (pc := 21) hX dX2_byScore_21 rfl rfl ?_ | refine j_aload_nq (pc := 21) hX dX2_byScore_21 rfl rfl ?_
    refine j_run5e (pc := 22) (jr_F (pc := 22) hX kf_X2_43_12 hit.1.choose_spec.r (c_J10_hasNext _ _ _ r_17 (bg b 2) (bg b 3) _ hit hbk.A.1 (by rw [hlen]; exact Nat.le_refl _)) (by decide) dX2_byScore_22 rfl rfl (Nat.le_of_ble_eq_true rfl)) ?_ jno_x
    refine j_if_eq (pc := 27) (tgt := 118) hX dX2_byScore_27 (by decide) (fun c_27 => ?_) (fun c_27 => ?_)
    rotate_left
    · rw [jb_n, decide_eq_true_eq, hlen] at c_27; exact absurd c_27 (Nat.lt_irrefl _)
    refine j_iload_n (pc := 118) hX dX2_byScore_118 rfl rfl ?_
    exact j_iret hX hQ hr dX2_byScore_119 ⟨_, rfl, by rw [law], by rw [law], eH⟩
  · have hbk := h.ext hC (eH)
    obtain ⟨rm, hrm⟩ : ∃ zz, zz = 221 * ((bL b).length - (i + 1)) := ⟨_, rfl⟩
    rw [← hrm] at ih
    obtain ⟨R, hR⟩ : ∃ zz, zz = rm + 221 := ⟨_, rfl⟩
    rw [show 221 * ((bL b).length - i) = R from by omega]
    first | refine j_aload_n (pc := 21) hX dX2_byScore_21 rfl rfl ?_ | refine j_aload_nq (pc := 21) hX dX2_byScore_21 rfl rfl ?_
    refine j_run5e (pc := 22) (jr_F (pc := 22) hX kf_X2_43_12 hit.1.choose_spec.r (c_J10_hasNext _ _ _ r_17 (bg b 2) (bg b 3) _ hit hbk.A.1 (by rw [hlen]; omega)) (by decide) dX2_byScore_22 rfl rfl (Nat.le_of_ble_eq_true rfl)) ?_ jno_x
    refine j_if_eq (pc := 27) (tgt := 118) hX dX2_byScore_27 (by decide) (fun c_27 => ?_) (fun c_27 => ?_)
    · rw [jb_z, decide_eq_false_iff_not, hlen] at c_27; exact absurd hi c_27
    first | refine j_aload_n (pc := 30) hX dX2_byScore_30 rfl rfl ?_ | refine j_aload_nq (pc := 30) hX dX2_byScore_30 rfl rfl ?_
    refine j_run5a (pc := 31) (jr_F (pc := 31) hX kf_X2_49_12 hit.1.choose_spec.r (c_J10_next _ _ _ r_17 (bg b 2) (bg b 3) _ hit hbk.A.1 (by rw [hlen]; exact hi) hnq hna) (by decide) dX2_byScore_31 rfl rfl (Nat.le_of_ble_eq_true rfl)) (fun r_31 H_31 p_31 z_31 => ?_) jno_x
    obtain ⟨hr, wn, hin⟩ := p_31
    rw [getD_map hi] at hr
    subst hr
    have eN := eH.put wn hz
    have hbn := h.ext hC (eN)
    have hx := (hbn.X.1 _ (getD_mem hi)).1
    have hoB := hbn.B.1
    refine j_ccast (pc := 36) hX kc_X2_63 dX2_byScore_36 hx.r ?_
    first | refine j_astore (pc := 39) hX dX2_byScore_39 (by decide) rfl ?_ | refine j_astoreN (pc := 39) hX dX2_byScore_39 (by decide) rfl ?_ | refine j_astoreq (pc := 39) hX dX2_byScore_39 (by decide) rfl ?_
    refine j_iconst (pc := 41) (v := 0) hX dX2_byScore_41 (by decide) ?_
    refine j_istore (pc := 42) hX dX2_byScore_42 (by decide) rfl ?_
    first | refine j_aload_n (pc := 44) hX dX2_byScore_44 rfl rfl ?_ | refine j_aload_nq (pc := 44) hX dX2_byScore_44 rfl rfl ?_
    refine j_get (pc := 45) hX kg_X2_21 dX2_byScore_45 (by first | assumption | exact jow.r (by assumption)) (by rfl) ?_
    subst hR
    change JW X G _ ((rm + 220) + 1) 48 _ _
    refine j_runa (pc := 48) (jr_V (pc := 48) hX kv_X2_39 hbn.A.1.1.r (c_J4_iterator _ _ _ (bg b 2) (bg b 3) hbn.A.1) (by decide) dX2_byScore_48 rfl rfl (Nat.le_of_ble_eq_true rfl)) (fun r_48 H_48 p_48 z_48 => ?_) jno_x
    obtain ⟨hz48, hit48, e48⟩ := p_48
    have hz0 := eN.1
    first | refine j_astore (pc := 51) hX dX2_byScore_51 (by decide) rfl ?_ | refine j_astoreN (pc := 51) hX dX2_byScore_51 (by decide) rfl ?_ | refine j_astoreq (pc := 51) hX dX2_byScore_51 (by decide) rfl ?_
    skip
    refine j_weak (show rm + 22 * ((bL b).length - 0) ≤ rm + 220 by omega) ?_
    have hlen2 : ((bL b).map (bap b)).length = (bL b).length := by simp
    have hnq2 : (bg b 2) ≠ r_48 := Nat.ne_of_lt (Nat.lt_of_lt_of_le h.ltA (Nat.le_trans hz0 hz48))
    have hna2 : (bg b 3) ≠ r_48 := Nat.ne_of_lt (Nat.lt_of_lt_of_le (h.ltA2 hC) (Nat.le_trans hz0 hz48))
    refine j_lv (by simp [jsb, jget, jval, lfN_0, nI_0]) (jloop (P := fun i2 => ∀ Hk2 : Heap, JExt H_31 Hk2 → itA G Hk2 r_48 (bg b 2) i2 (bmc b 0) → JW X G Hk2 (rm + 22 * ((bL b).length - i2)) 53 [(0, .inr (some (bg b 0))), (1, .inl (.int x)), (2, .inl (.int (rkO s (betN s) x (bL b) i))), (3, .inr (some r_17)), (4, .inr (some (bap b ((bL b).getD i 0)))), (5, .inl (.int (nI (lfN (bL b) (fun o => if betN s o ((bL b).getD i 0) then 1 else 0) i2)))), (6, .inr (some r_48))] []) (bL b).length (fun Hk2 eH2 hit2 => ?_) (fun i2 hi2 ih2 Hk2 eH2 hit2 => ?_) 0 (Nat.zero_le _) H_48 e48 hit48)
    · have hbk2 := h.ext hC (eN.trans (eH2))
      have hoB2 := hbk2.B.1
      obtain ⟨R02, hR02⟩ : ∃ zz, zz = rm + 22 * ((bL b).length - (bL b).length) := ⟨_, rfl⟩
      rw [← hR02]
      have al := ahead_law h.S (betN s) ((bL b).getD i 0)
      have hxa := (hbk2.X.1 _ (getD_mem hi)).1
      first | refine j_aload (pc := 53) hX dX2_byScore_53 rfl ?_ | refine j_aloadq (pc := 53) hX dX2_byScore_53 rfl ?_
      refine j_run5e (pc := 55) (jr_F (pc := 55) hX kf_X2_43_12 hit2.1.choose_spec.r (c_J10_hasNext _ _ _ r_48 (bg b 2) (bg b 3) _ hit2 hbk2.A.1 (by rw [hlen2]; exact Nat.le_refl _)) (by decide) dX2_byScore_55 rfl rfl (Nat.le_of_ble_eq_true rfl)) ?_ jno_x
      refine j_if_eq (pc := 60) (tgt := 99) hX dX2_byScore_60 (by decide) (fun c_60 => ?_) (fun c_60 => ?_)
      rotate_left
      · rw [jb_n, decide_eq_true_eq, hlen2] at c_60; exact absurd c_60 (Nat.lt_irrefl _)
      rw [al]
      refine j_iload (pc := 99) hX dX2_byScore_99 rfl ?_
      refine j_iload_n (pc := 101) hX dX2_byScore_101 rfl rfl ?_
      refine j_icmp_ne (pc := 102) (tgt := 113) hX dX2_byScore_102 (by decide) (fun c_102 => ?_) (fun c_102 => ?_)
      · refine j_iload_n (pc := 113) hX dX2_byScore_113 rfl rfl ?_
        refine j_istore_n (pc := 114) hX dX2_byScore_114 rfl (by decide) rfl ?_
        refine j_goto (pc := 115) (tgt := 21) hX dX2_byScore_115 (by decide) ?_
        exact j_lv (by simp [jsb, jget, jval, rkO_s, -List.getD_eq_getElem?_getD, c_60, c_102]) (j_weak (by omega) (ih _ (eN.trans eH2) (hin_ext hin eH2)))
      · first | refine j_aload (pc := 105) hX dX2_byScore_105 rfl ?_ | refine j_aloadq (pc := 105) hX dX2_byScore_105 rfl ?_
        refine j_get (pc := 107) hX kg_X2_91 dX2_byScore_107 hxa.r (by rfl) ?_
        refine j_goto (pc := 110) (tgt := 114) hX dX2_byScore_110 (by decide) ?_
        refine j_istore_n (pc := 114) hX dX2_byScore_114 rfl (by decide) rfl ?_
        refine j_goto (pc := 115) (tgt := 21) hX dX2_byScore_115 (by decide) ?_
        exact j_lv (by simp [jsb, jget, jval, rkO_s, -List.getD_eq_getElem?_getD, c_60, c_102]) (j_weak (by omega) (ih _ (eN.trans eH2) (hin_ext hin eH2)))
    · have hbk2 := h.ext hC (eN.trans (eH2))
      obtain ⟨rm2, hrm2⟩ : ∃ zz, zz = rm + 22 * ((bL b).length - (i2 + 1)) := ⟨_, rfl⟩
      rw [← hrm2] at ih2
      obtain ⟨R2, hR2⟩ : ∃ zz, zz = rm2 + 22 := ⟨_, rfl⟩
      rw [show rm + 22 * ((bL b).length - i2) = R2 from by omega]
      first | refine j_aload (pc := 53) hX dX2_byScore_53 rfl ?_ | refine j_aloadq (pc := 53) hX dX2_byScore_53 rfl ?_
      refine j_run5e (pc := 55) (jr_F (pc := 55) hX kf_X2_43_12 hit2.1.choose_spec.r (c_J10_hasNext _ _ _ r_48 (bg b 2) (bg b 3) _ hit2 hbk2.A.1 (by rw [hlen2]; omega)) (by decide) dX2_byScore_55 rfl rfl (Nat.le_of_ble_eq_true rfl)) ?_ jno_x
      refine j_if_eq (pc := 60) (tgt := 99) hX dX2_byScore_60 (by decide) (fun c_60 => ?_) (fun c_60 => ?_)
      · rw [jb_z, decide_eq_false_iff_not, hlen2] at c_60; exact absurd hi2 c_60
      first | refine j_aload (pc := 63) hX dX2_byScore_63 rfl ?_ | refine j_aloadq (pc := 63) hX dX2_byScore_63 rfl ?_
      refine j_run5a (pc := 65) (jr_F (pc := 65) hX kf_X2_49_12 hit2.1.choose_spec.r (c_J10_next _ _ _ r_48 (bg b 2) (bg b 3) _ hit2 hbk2.A.1 (by rw [hlen2]; exact hi2) hnq2 hna2) (by decide) dX2_byScore_65 rfl rfl (Nat.le_of_ble_eq_true rfl)) (fun r_65 H_65 p_65 z_65 => ?_) jno_x
      obtain ⟨hr2, wn2, hin2⟩ := p_65
      rw [getD_map hi2] at hr2
      subst hr2
      have eN2 := eH2.put wn2 hz48
      have hbn2 := h.ext hC (eN.trans (eN2))
      have hx2 := (hbn2.X.1 _ (getD_mem hi2)).1
      have hoB2 := hbn2.B.1
      refine j_ccast (pc := 70) hX kc_X2_63 dX2_byScore_70 hx2.r ?_
      first | refine j_astore (pc := 73) hX dX2_byScore_73 (by decide) rfl ?_ | refine j_astoreN (pc := 73) hX dX2_byScore_73 (by decide) rfl ?_ | refine j_astoreq (pc := 73) hX dX2_byScore_73 (by decide) rfl ?_
      refine j_iload (pc := 75) hX dX2_byScore_75 rfl ?_
      first | refine j_aload_n (pc := 77) hX dX2_byScore_77 rfl rfl ?_ | refine j_aload_nq (pc := 77) hX dX2_byScore_77 rfl rfl ?_
      first | refine j_aload (pc := 78) hX dX2_byScore_78 rfl ?_ | refine j_aloadq (pc := 78) hX dX2_byScore_78 rfl ?_
      first | refine j_aload (pc := 80) hX dX2_byScore_80 rfl ?_ | refine j_aloadq (pc := 80) hX dX2_byScore_80 rfl ?_
      subst hR2
      refine j_runi (pc := 82) (jr_V (pc := 82) hX kv_X2_171 (by first | assumption | exact jow.r (by assumption)) (c_X2_isBetter _ _ _ hbn2 hW hB ((bL b).getD i2 0) ((bL b).getD i 0) (getD_mem hi2) (getD_mem hi)) (by decide) dX2_byScore_82 rfl rfl (Nat.le_of_ble_eq_true rfl)) (fun r_82 H_82 p_82 z_82 => ?_) jno_x
      obtain ⟨rfl, e82⟩ := p_82
      have eN2 := eN2.trans e82
      have hin2 := hin_ext hin2 e82
      refine j_if_eq (pc := 85) (tgt := 92) hX dX2_byScore_85 (by decide) (fun c_85 => ?_) (fun c_85 => ?_)
      · rw [jb_z] at c_85
        refine j_iconst (pc := 92) (v := 0) hX dX2_byScore_92 (by decide) ?_
        refine j_iadd (pc := 93) hX dX2_byScore_93 ?_
        refine j_istore (pc := 94) hX dX2_byScore_94 (by decide) rfl ?_
        refine j_goto (pc := 96) (tgt := 53) hX dX2_byScore_96 (by decide) ?_
        exact j_lv (by simp [jsb, jget, jval, jfold_succ, lfN_s, nI_1, -List.getD_eq_getElem?_getD, nI_add, c_60, c_85]) (ih2 _ eN2 hin2)
      · rw [jb_n] at c_85
        refine j_iconst (pc := 88) (v := 1) hX dX2_byScore_88 (by decide) ?_
        refine j_goto (pc := 89) (tgt := 93) hX dX2_byScore_89 (by decide) ?_
        refine j_iadd (pc := 93) hX dX2_byScore_93 ?_
        refine j_istore (pc := 94) hX dX2_byScore_94 (by decide) rfl ?_
        refine j_goto (pc := 96) (tgt := 53) hX dX2_byScore_96 (by decide) ?_
        exact j_lv (by simp [jsb, jget, jval, jfold_succ, lfN_s, nI_1, -List.getD_eq_getElem?_getD, nI_add, c_60, c_85]) (ih2 _ eN2 hin2)
theorem until_eq {s : Nat → Nat} {x : Int32} {k p : Nat} (hk : slotN s x = some k) (hf : fillN s k = some p) : untilQ s x = if pHi s p < 50 then (0, nI (pHi s p) - nI (aRn s k) + 1) else (1, 0) := by
  unfold untilQ; rw [hk]; simp only [hf]
theorem c_X2_daysUntilDismissal (l : Launch) (G : JG) (H : Heap) {n0 : Nat} {b : BG} {s : Nat → Nat} (h : jbd G H n0 b s) (hW : WFs s) (hB : Bs s) (x : Int32) : JMet l yX2_daysUntilDismissal (ws_ yX2_daysUntilDismissal cX2_daysUntilDismissal 3 (some .int)) 8 5 G H [.ref (bg b 0), .int x] (jpi (fun r H1 => (untilQ s x).1 = 0 ∧ r = (untilQ s x).2 ∧ JExt H H1)) (pxO eEle ((untilQ s x).1 = 1) H) := by
  refine JMet.of [(0, .inr (some (bg b 0))), (1, .inl (.int x))] (by decide) (Nat.le_of_ble_eq_true rfl) rfl (fun X hl hX hQ hEx hr hnm hH => ?_)
  subst hl
  have hoB := h.B.1
  first | refine j_aload_n (pc := 0) hX dX2_daysUntilDismissal_0 rfl rfl ?_ | refine j_aload_nq (pc := 0) hX dX2_daysUntilDismissal_0 rfl rfl ?_
  refine j_iload_n (pc := 1) hX dX2_daysUntilDismissal_1 rfl rfl ?_
  change JW X G H (2 + 3) 2 _ _
  refine j_runa (pc := 2) (jr_V (pc := 2) hX kv_X2_144 (by first | assumption | exact jow.r (by assumption)) (c_X2_applicant _ _ _ h hB x) (by decide) dX2_daysUntilDismissal_2 rfl rfl (Nat.le_of_ble_eq_true rfl)) (fun r_2 H_2 p_2 z_2 => ?_) (fun E q H1 hx _ => jt_out hX hQ hEx ⟨hx.1, by unfold untilQ; rw [hx.2.1], hx.2.2⟩)
  obtain ⟨⟨k, hk, rfl⟩, e2⟩ := p_2
  have h2 := h.ext hX.C e2
  obtain ⟨hkL, hkx⟩ := slotN_in h.S hB hk
  have hxa := (h2.X.1 k hkL).1
  skip
  have thr : ∀ c : Bool, c = false → (untilQ s x).1 = 1 → JW X G H_2 2 30 [(0, .inr (some (bg b 0))), (2, .inr (some (bap b k)))] [.int (jb c)] := by
    intro c hc hu
    change JW X G H_2 (0 + 2) 30 _ _
    refine j_runv (pc := 30) (jr_SN (pc := 30) hX ks_X2_114 (c_X1_checkElement _ _ _ c) (by decide) dX2_daysUntilDismissal_30 rfl rfl (Nat.le_of_ble_eq_true rfl)) (fun H_30 p_30 z_30 => ?_) (fun E q H1 hx _ => jt_out hX hQ hEx ⟨hx.1, hu, e2.trans hx.2.2⟩)
    exact absurd p_30.2 (by rw [hc]; decide)
  cases hf : fillN s k with
  | none =>
    unfold appV at hxa; rw [hf] at hxa
    first | refine j_astore_n (pc := 5) hX dX2_daysUntilDismissal_5 rfl (by decide) rfl ?_ | refine j_astore_nN (pc := 5) hX dX2_daysUntilDismissal_5 rfl (by decide) rfl ?_ | refine j_astore_nq (pc := 5) hX dX2_daysUntilDismissal_5 rfl (by decide) rfl ?_
    first | refine j_aload_n (pc := 6) hX dX2_daysUntilDismissal_6 rfl rfl ?_ | refine j_aload_nq (pc := 6) hX dX2_daysUntilDismissal_6 rfl rfl ?_
    refine j_rune (pc := 7) (jr_V (pc := 7) hX kv_X2_72 hxa.r (c_X5_isHired _ _ _ _ hxa) (by decide) dX2_daysUntilDismissal_7 rfl rfl (Nat.le_of_ble_eq_true rfl)) ?_ jno_x
    refine j_if_eq (pc := 10) (tgt := 29) hX dX2_daysUntilDismissal_10 (by decide) (fun c_10 => ?_) (fun c_10 => ?_)
    rotate_left
    · exact absurd rfl c_10
    refine j_iconst (pc := 29) (v := 0) hX dX2_daysUntilDismissal_29 (by decide) ?_
    exact j_lv (by simp [jsb, jget, jval]) (thr false rfl (by unfold untilQ; rw [hk]; simp [hf]))
  | some p =>
    have hp := fillN_lt hf
    have hxp := (h2.Y.1 p hp).1
    have lp : pHi s p < 2 ^ 24 := hB.lt (by have := hB.1; omega)
    unfold appV at hxa; rw [hf] at hxa
    have lo : 50 ≤ pHi s p → JW X G H_2 2 29 [(0, .inr (some (bg b 0))), (2, .inr (some (bap b k)))] [] := by
      intro hlo
      refine j_iconst (pc := 29) (v := 0) hX dX2_daysUntilDismissal_29 (by decide) ?_
      exact thr false rfl (by rw [until_eq hk hf, if_neg (by omega)])
    first | refine j_astore_n (pc := 5) hX dX2_daysUntilDismissal_5 rfl (by decide) rfl ?_ | refine j_astore_nN (pc := 5) hX dX2_daysUntilDismissal_5 rfl (by decide) rfl ?_ | refine j_astore_nq (pc := 5) hX dX2_daysUntilDismissal_5 rfl (by decide) rfl ?_
    first | refine j_aload_n (pc := 6) hX dX2_daysUntilDismissal_6 rfl rfl ?_ | refine j_aload_nq (pc := 6) hX dX2_daysUntilDismissal_6 rfl rfl ?_
    refine j_rune (pc := 7) (jr_V (pc := 7) hX kv_X2_72 hxa.r (c_X5_isHired _ _ _ _ hxa) (by decide) dX2_daysUntilDismissal_7 rfl rfl (Nat.le_of_ble_eq_true rfl)) ?_ jno_x
    refine j_if_eq (pc := 10) (tgt := 29) hX dX2_daysUntilDismissal_10 (by decide) (fun c_10 => ?_) (fun c_10 => ?_)
    · exact absurd c_10 (show ¬ jb true = 0 by decide)
    first | refine j_aload_n (pc := 13) hX dX2_daysUntilDismissal_13 rfl rfl ?_ | refine j_aload_nq (pc := 13) hX dX2_daysUntilDismissal_13 rfl rfl ?_
    refine j_get (pc := 14) hX kg_X2_75 dX2_daysUntilDismissal_14 hxa.r (by rfl) ?_
    refine j_get (pc := 17) hX kg_X2_272 dX2_daysUntilDismissal_17 hxp.r (by rfl) ?_
    refine j_bipush (pc := 20) (v := 50) hX dX2_daysUntilDismissal_20 (by decide) ?_
    refine j_icmp_ge (pc := 22) (tgt := 29) hX dX2_daysUntilDismissal_22 (by decide) (fun c_22 => ?_) (fun c_22 => ?_)
    · rw [show (50 : Int32) = nI 50 from rfl, nI_leI (by omega) (by omega)] at c_22
      exact j_lv (by simp [jsb, jget, jval]) (lo c_22)
    · rw [show (50 : Int32) = nI 50 from rfl, nI_leI (by omega) (by omega)] at c_22
      refine j_iconst (pc := 25) (v := 1) hX dX2_daysUntilDismissal_25 (by decide) ?_
      refine j_goto (pc := 26) (tgt := 30) hX dX2_daysUntilDismissal_26 (by decide) ?_
      change JW X G H_2 (0 + 2) 30 _ [.int (jb true)]
      refine j_runv (pc := 30) (jr_SN (pc := 30) hX ks_X2_114 (c_X1_checkElement _ _ _ true) (by decide) dX2_daysUntilDismissal_30 rfl rfl (Nat.le_of_ble_eq_true rfl)) (fun H_30 p_30 z_30 => ?_) (fun E q H1 hx _ => absurd hx.2.1 (by decide))
      obtain ⟨rfl, -⟩ := p_30
      first | refine j_aload_n (pc := 33) hX dX2_daysUntilDismissal_33 rfl rfl ?_ | refine j_aload_nq (pc := 33) hX dX2_daysUntilDismissal_33 rfl rfl ?_
      refine j_get (pc := 34) hX kg_X2_75 dX2_daysUntilDismissal_34 hxa.r (by rfl) ?_
      refine j_get (pc := 37) hX kg_X2_272 dX2_daysUntilDismissal_37 hxp.r (by rfl) ?_
      first | refine j_aload_n (pc := 40) hX dX2_daysUntilDismissal_40 rfl rfl ?_ | refine j_aload_nq (pc := 40) hX dX2_daysUntilDismissal_40 rfl rfl ?_
      refine j_get (pc := 41) hX kg_X2_161 dX2_daysUntilDismissal_41 hxa.r (by rfl) ?_
      refine j_isub (pc := 44) hX dX2_daysUntilDismissal_44 ?_
      refine j_iconst (pc := 45) (v := 1) hX dX2_daysUntilDismissal_45 (by decide) ?_
      refine j_iadd (pc := 46) hX dX2_daysUntilDismissal_46 ?_
      exact j_iret hX hQ hr dX2_daysUntilDismissal_47 ⟨_, rfl, by rw [until_eq hk hf, if_pos (by omega)], by rw [until_eq hk hf, if_pos (by omega)], e2⟩
