/-! the component's board: candidates, favourites, ranks, days left -/
set_option maxRecDepth 100000
theorem jfits_n {s : Nat → Nat} (hB : Bs s) {k p : Nat} (hk : k < 10) (hp : p < 6) : jfits (nI (pSh s p)) (nI (pLo s p)) (nI (pHi s p)) (nI (aSh s k)) (nI (aWh s k)) (nI (aRn s k)) = fitN s k p := by
  have a1 : pSh s p < 2 ^ 24 := hB.lt (by omega)
  have a2 : pLo s p < 2 ^ 24 := hB.lt (by omega)
  have a3 : pHi s p < 2 ^ 24 := hB.lt (by omega)
  have a4 : aSh s k < 2 ^ 24 := hB.lt (by omega)
  have a5 : aWh s k < 2 ^ 24 := hB.lt (by omega)
  have a6 : aRn s k < 2 ^ 24 := hB.lt (by omega)
  unfold jfits fitN
  rw [show (42 : Int32) = nI 42 from rfl, decide_eq_decide.mpr (nI_eq (b := 42) (show pSh s p < 2 ^ 31 by omega) (by omega)), decide_eq_decide.mpr (nI_eq (show pSh s p < 2 ^ 31 by omega) (show aSh s k < 2 ^ 31 by omega)), decide_eq_decide.mpr (nI_leI (show pLo s p < 2 ^ 31 by omega) (show aWh s k < 2 ^ 31 by omega)), decide_eq_decide.mpr (nI_leI (show aRn s k < 2 ^ 31 by omega) (show pHi s p < 2 ^ 31 by omega))]
theorem c_X4_fitsN (l : Launch) (G : JG) (H : Heap) {n0 : Nat} {b : BG} {s : Nat → Nat} (h : jbd G H n0 b s) (hB : Bs s) (p k : Nat) (hp : p < s 2) (hk : k ∈ bL b) : JMet l yX4_fits (ws_ yX4_fits cX4_fits 3 (some .boolean)) 1 0 G H [.ref (bpo b p), .ref (bap b k)] (jpe H (jb (fitN s k p))) jno := by
  rw [← jfits_n hB (h.S.lt hk).1 (Nat.lt_of_lt_of_le hp hB.1)]
  exact c_X4_fits l G H (bpo b p) (bap b k) (h.Y.1 p hp).1 (h.X.1 k hk).1
theorem c_X2_candidates (l : Launch) (G : JG) (H : Heap) {n0 : Nat} {b : BG} {s : Nat → Nat} (h : jbd G H n0 b s) (hB : Bs s) (p : Nat) (hp : p < s 2) : JMet l yX2_candidates (ws_ yX2_candidates cX2_candidates 5 (some .int)) 5 1 G H [.ref (bg b 0), .ref (bpo b p)] (jpi (fun r H1 => r = nI (jfold (candCF s p) 10 0) ∧ JExt H H1)) (jno) := by
  refine JMet.of [(0, .inr (some (bg b 0))), (1, .inr (some (bpo b p)))] (by decide) (Nat.le_of_ble_eq_true rfl) rfl (fun X hl hX hQ hEx hr hnm hH => ?_)
  subst hl
  have hC := hX.C
  have hoB := h.B.1
  have law := cand_law h.S p
  refine j_iconst (pc := 0) (v := 0) hX dX2_candidates_0 (by decide) ?_
  refine j_istore_n (pc := 1) hX dX2_candidates_1 rfl (by decide) rfl ?_
  first | refine j_aload_n (pc := 2) hX dX2_candidates_2 rfl rfl ?_ | refine j_aload_nq (pc := 2) hX dX2_candidates_2 rfl rfl ?_
  refine j_get (pc := 3) hX kg_X2_21 dX2_candidates_3 (by first | assumption | exact jow.r (by assumption)) (by rfl) ?_
  change JW X G H (0 + 1) 6 _ _
  refine j_runa (pc := 6) (jr_V (pc := 6) hX kv_X2_39 h.A.1.1.r (c_J4_iterator _ _ _ (bg b 2) (bg b 3) h.A.1) (by decide) dX2_candidates_6 rfl rfl (Nat.le_of_ble_eq_true rfl)) (fun r_6 H_6 p_6 z_6 => ?_) jno_x
  obtain ⟨hz, hit0, e0⟩ := p_6
  first | refine j_astore_n (pc := 9) hX dX2_candidates_9 rfl (by decide) rfl ?_ | refine j_astore_nN (pc := 9) hX dX2_candidates_9 rfl (by decide) rfl ?_ | refine j_astore_nq (pc := 9) hX dX2_candidates_9 rfl (by decide) rfl ?_
  skip
  have hlen : ((bL b).map (bap b)).length = (bL b).length := by simp
  have hnq : (bg b 2) ≠ r_6 := Nat.ne_of_lt (Nat.lt_of_lt_of_le h.ltA hz)
  have hna : (bg b 3) ≠ r_6 := Nat.ne_of_lt (Nat.lt_of_lt_of_le (h.ltA2 hC) hz)
  refine j_lv (by simp [jsb, jget, jval, lfN_0, nI_0, jfold]) (jloop (P := fun i => ∀ Hk : Heap, JExt H Hk → itA G Hk r_6 (bg b 2) i (bmc b 0) → JW X G Hk (0) 10 [(0, .inr (some (bg b 0))), (1, .inr (some (bpo b p))), (2, .inl (.int (nI (lfN (bL b) (fun k => if (fillN s k).isNone && fitN s k p then 1 else 0) i)))), (3, .inr (some r_6))] []) (bL b).length (fun Hk eH hit => ?_) (fun i hi ih Hk eH hit => ?_) 0 (Nat.zero_le _) H_6 e0 hit0)
  · have hbk := h.ext hC (eH)
    have hoB := hbk.B.1
    first | refine j_aload_n (pc := 10) hX dX2_candidates_10 rfl rfl ?_ | refine j_aload_nq (pc := 10) hX dX2_candidates_10 rfl rfl ?_
    refine j_run5e (pc := 11) (jr_F (pc := 11) hX kf_X2_43_12 hit.1.choose_spec.r (c_J10_hasNext _ _ _ r_6 (bg b 2) (bg b 3) _ hit hbk.A.1 (by rw [hlen]; exact Nat.le_refl _)) (by decide) dX2_candidates_11 rfl rfl (Nat.le_of_ble_eq_true rfl)) ?_ jno_x
    refine j_if_eq (pc := 16) (tgt := 58) hX dX2_candidates_16 (by decide) (fun c_16 => ?_) (fun c_16 => ?_)
    rotate_left
    · rw [jb_n, decide_eq_true_eq, hlen] at c_16; exact absurd c_16 (Nat.lt_irrefl _)
    refine j_iload_n (pc := 58) hX dX2_candidates_58 rfl rfl ?_
    exact j_iret hX hQ hr dX2_candidates_59 ⟨_, rfl, congrArg nI law, eH⟩
  · have hbk := h.ext hC (eH)
    first | refine j_aload_n (pc := 10) hX dX2_candidates_10 rfl rfl ?_ | refine j_aload_nq (pc := 10) hX dX2_candidates_10 rfl rfl ?_
    refine j_run5e (pc := 11) (jr_F (pc := 11) hX kf_X2_43_12 hit.1.choose_spec.r (c_J10_hasNext _ _ _ r_6 (bg b 2) (bg b 3) _ hit hbk.A.1 (by rw [hlen]; omega)) (by decide) dX2_candidates_11 rfl rfl (Nat.le_of_ble_eq_true rfl)) ?_ jno_x
    refine j_if_eq (pc := 16) (tgt := 58) hX dX2_candidates_16 (by decide) (fun c_16 => ?_) (fun c_16 => ?_)
    · rw [jb_z, decide_eq_false_iff_not, hlen] at c_16; exact absurd hi c_16
    first | refine j_aload_n (pc := 19) hX dX2_candidates_19 rfl rfl ?_ | refine j_aload_nq (pc := 19) hX dX2_candidates_19 rfl rfl ?_
    refine j_run5a (pc := 20) (jr_F (pc := 20) hX kf_X2_49_12 hit.1.choose_spec.r (c_J10_next _ _ _ r_6 (bg b 2) (bg b 3) _ hit hbk.A.1 (by rw [hlen]; exact hi) hnq hna) (by decide) dX2_candidates_20 rfl rfl (Nat.le_of_ble_eq_true rfl)) (fun r_20 H_20 p_20 z_20 => ?_) jno_x
    obtain ⟨hr, wn, hin⟩ := p_20
    rw [getD_map hi] at hr
    subst hr
    have eN := eH.put wn hz
    have hbn := h.ext hC (eN)
    have hx := (hbn.X.1 _ (getD_mem hi)).1
    have hoB := hbn.B.1
    refine j_ccast (pc := 25) hX kc_X2_63 dX2_candidates_25 hx.r ?_
    first | refine j_astore (pc := 28) hX dX2_candidates_28 (by decide) rfl ?_ | refine j_astoreN (pc := 28) hX dX2_candidates_28 (by decide) rfl ?_ | refine j_astoreq (pc := 28) hX dX2_candidates_28 (by decide) rfl ?_
    refine j_iload_n (pc := 30) hX dX2_candidates_30 rfl rfl ?_
    first | refine j_aload (pc := 31) hX dX2_candidates_31 rfl ?_ | refine j_aloadq (pc := 31) hX dX2_candidates_31 rfl ?_
    refine j_rune (pc := 33) (jr_V (pc := 33) hX kv_X2_72 hx.r (c_X5_isHired _ _ _ _ hx) (by decide) dX2_candidates_33 rfl rfl (Nat.le_of_ble_eq_true rfl)) ?_ jno_x
    refine j_if_ne (pc := 36) (tgt := 52) hX dX2_candidates_36 (by decide) (fun c_36 => ?_) (fun c_36 => ?_)
    · rw [jb_n, Option.isSome_map] at c_36
      have c2 : ¬ fillN s ((bL b).getD i 0) = none := fun z => by rw [z] at c_36; cases c_36
      refine j_iconst (pc := 52) (v := 0) hX dX2_candidates_52 (by decide) ?_
      refine j_iadd (pc := 53) hX dX2_candidates_53 ?_
      refine j_istore_n (pc := 54) hX dX2_candidates_54 rfl (by decide) rfl ?_
      refine j_goto (pc := 55) (tgt := 10) hX dX2_candidates_55 (by decide) ?_
      exact j_lv (by simp [jsb, jget, jval, jfold_succ, lfN_s, nI_1, -List.getD_eq_getElem?_getD, c2, c_16, c_36, nI_add]) (ih _ eN hin)
    · rw [jb_z, Option.isSome_map] at c_36
      have c2 : fillN s ((bL b).getD i 0) = none := Option.not_isSome_iff_eq_none.mp (by rw [c_36]; decide)
      first | refine j_aload_n (pc := 39) hX dX2_candidates_39 rfl rfl ?_ | refine j_aload_nq (pc := 39) hX dX2_candidates_39 rfl rfl ?_
      first | refine j_aload (pc := 40) hX dX2_candidates_40 rfl ?_ | refine j_aloadq (pc := 40) hX dX2_candidates_40 rfl ?_
      refine j_rune (pc := 42) (jr_V (pc := 42) hX kv_X2_210 (hbn.Y.1 p hp).1.r (c_X4_fitsN _ _ _ hbn hB p _ hp (getD_mem hi)) (by decide) dX2_candidates_42 rfl rfl (Nat.le_of_ble_eq_true rfl)) ?_ jno_x
      refine j_if_eq (pc := 45) (tgt := 52) hX dX2_candidates_45 (by decide) (fun c_45 => ?_) (fun c_45 => ?_)
      · rw [jb_z] at c_45
        refine j_iconst (pc := 52) (v := 0) hX dX2_candidates_52 (by decide) ?_
        refine j_iadd (pc := 53) hX dX2_candidates_53 ?_
        refine j_istore_n (pc := 54) hX dX2_candidates_54 rfl (by decide) rfl ?_
        refine j_goto (pc := 55) (tgt := 10) hX dX2_candidates_55 (by decide) ?_
        exact j_lv (by simp [jsb, jget, jval, jfold_succ, lfN_s, nI_1, -List.getD_eq_getElem?_getD, c2, c_16, c_36, c_45, nI_add]) (ih _ eN hin)
      · rw [jb_n] at c_45
        refine j_iconst (pc := 48) (v := 1) hX dX2_candidates_48 (by decide) ?_
        refine j_goto (pc := 49) (tgt := 53) hX dX2_candidates_49 (by decide) ?_
        refine j_iadd (pc := 53) hX dX2_candidates_53 ?_
        refine j_istore_n (pc := 54) hX dX2_candidates_54 rfl (by decide) rfl ?_
        refine j_goto (pc := 55) (tgt := 10) hX dX2_candidates_55 (by decide) ?_
        exact j_lv (by simp [jsb, jget, jval, jfold_succ, lfN_s, nI_1, -List.getD_eq_getElem?_getD, c2, c_16, c_36, c_45, nI_add]) (ih _ eN hin)
theorem c_X2_favourite (l : Launch) (G : JG) (H : Heap) {n0 : Nat} {b : BG} {s : Nat → Nat} (h : jbd G H n0 b s) (hB : Bs s) (k : Nat) (hk : k ∈ bL b) : JMet l yX2_favourite (ws_ yX2_favourite cX2_favourite 6 (some (.object "CloudInterviews$Post"))) 6 1 G H [.ref (bg b 0), .ref (bap b k)] (jpq (fun r H1 => r = (favN s k false).map (bpo b) ∧ JExt H H1)) (jno) := by
  refine JMet.of [(0, .inr (some (bg b 0))), (1, .inr (some (bap b k)))] (by decide) (Nat.le_of_ble_eq_true rfl) rfl (fun X hl hX hQ hEx hr hnm hH => ?_)
  subst hl
  have hC := hX.C
  have hoB := h.B.1
  refine j_null (pc := 0) hX dX2_favourite_0 ?_
  first | refine j_astore_n (pc := 1) hX dX2_favourite_1 rfl (by decide) rfl ?_ | refine j_astore_nN (pc := 1) hX dX2_favourite_1 rfl (by decide) rfl ?_ | refine j_astore_nq (pc := 1) hX dX2_favourite_1 rfl (by decide) rfl ?_
  first | refine j_aload_n (pc := 2) hX dX2_favourite_2 rfl rfl ?_ | refine j_aload_nq (pc := 2) hX dX2_favourite_2 rfl rfl ?_
  refine j_get (pc := 3) hX kg_X2_28 dX2_favourite_3 (by first | assumption | exact jow.r (by assumption)) (by rfl) ?_
  change JW X G H (0 + 1) 6 _ _
  refine j_runa (pc := 6) (jr_V (pc := 6) hX kv_X2_39 h.P.1.1.r (c_J4_iterator _ _ _ (bg b 5) (bg b 6) h.P.1) (by decide) dX2_favourite_6 rfl rfl (Nat.le_of_ble_eq_true rfl)) (fun r_6 H_6 p_6 z_6 => ?_) jno_x
  obtain ⟨hz, hit0, e0⟩ := p_6
  first | refine j_astore_n (pc := 9) hX dX2_favourite_9 rfl (by decide) rfl ?_ | refine j_astore_nN (pc := 9) hX dX2_favourite_9 rfl (by decide) rfl ?_ | refine j_astore_nq (pc := 9) hX dX2_favourite_9 rfl (by decide) rfl ?_
  skip
  have hlen : ((List.range (s 2)).map (bpo b)).length = (s 2) := by simp
  have hnq : (bg b 5) ≠ r_6 := Nat.ne_of_lt (Nat.lt_of_lt_of_le h.ltP hz)
  have hna : (bg b 6) ≠ r_6 := Nat.ne_of_lt (Nat.lt_of_lt_of_le (h.ltP2 hC) hz)
  refine j_lv (by simp [jsb, jget, jval, lfN_0, jfold]) (jloop (P := fun i => ∀ Hk : Heap, JExt H Hk → itA G Hk r_6 (bg b 5) i (bmc b 1) → JW X G Hk (0) 10 [(0, .inr (some (bg b 0))), (1, .inr (some (bap b k))), (2, .inr ((jfold (favF s k false) i none).map (bpo b))), (3, .inr (some r_6))] []) (s 2) (fun Hk eH hit => ?_) (fun i hi ih Hk eH hit => ?_) 0 (Nat.zero_le _) H_6 e0 hit0)
  · have hbk := h.ext hC (eH)
    have hoB := hbk.B.1
    first | refine j_aload_n (pc := 10) hX dX2_favourite_10 rfl rfl ?_ | refine j_aload_nq (pc := 10) hX dX2_favourite_10 rfl rfl ?_
    refine j_run5e (pc := 11) (jr_F (pc := 11) hX kf_X2_43_12 hit.1.choose_spec.r (c_J10_hasNext _ _ _ r_6 (bg b 5) (bg b 6) _ hit hbk.P.1 (by rw [hlen]; exact Nat.le_refl _)) (by decide) dX2_favourite_11 rfl rfl (Nat.le_of_ble_eq_true rfl)) ?_ jno_x
    refine j_if_eq (pc := 16) (tgt := 75) hX dX2_favourite_16 (by decide) (fun c_16 => ?_) (fun c_16 => ?_)
    rotate_left
    · rw [jb_n, decide_eq_true_eq, hlen] at c_16; exact absurd c_16 (Nat.lt_irrefl _)
    first | refine j_aload_n (pc := 75) hX dX2_favourite_75 rfl rfl ?_ | refine j_aload_nq (pc := 75) hX dX2_favourite_75 rfl rfl ?_
    first | exact j_aret hX hQ hr (by first | exact Or.inl ⟨_, rfl⟩ | exact Or.inr ⟨_, rfl⟩) dX2_favourite_76 ⟨_, rfl, rfl, eH⟩ | exact j_aretN hX hQ hr (by first | exact Or.inl ⟨_, rfl⟩ | exact Or.inr ⟨_, rfl⟩) dX2_favourite_76 ⟨_, rfl, rfl, eH⟩ | exact j_aretq hX hQ hr (by first | exact Or.inl ⟨_, rfl⟩ | exact Or.inr ⟨_, rfl⟩) dX2_favourite_76 ⟨_, rfl, rfl, eH⟩
  · have hbk := h.ext hC (eH)
    have hol : ∀ q, jfold (favF s k false) i none = some q → q < i := jfold_lt (favF_or s k false) i
    have hhd := h.S
    first | refine j_aload_n (pc := 10) hX dX2_favourite_10 rfl rfl ?_ | refine j_aload_nq (pc := 10) hX dX2_favourite_10 rfl rfl ?_
    refine j_run5e (pc := 11) (jr_F (pc := 11) hX kf_X2_43_12 hit.1.choose_spec.r (c_J10_hasNext _ _ _ r_6 (bg b 5) (bg b 6) _ hit hbk.P.1 (by rw [hlen]; omega)) (by decide) dX2_favourite_11 rfl rfl (Nat.le_of_ble_eq_true rfl)) ?_ jno_x
    refine j_if_eq (pc := 16) (tgt := 75) hX dX2_favourite_16 (by decide) (fun c_16 => ?_) (fun c_16 => ?_)
    · rw [jb_z, decide_eq_false_iff_not, hlen] at c_16; exact absurd hi c_16
    first | refine j_aload_n (pc := 19) hX dX2_favourite_19 rfl rfl ?_ | refine j_aload_nq (pc := 19) hX dX2_favourite_19 rfl rfl ?_
    refine j_run5a (pc := 20) (jr_F (pc := 20) hX kf_X2_49_12 hit.1.choose_spec.r (c_J10_next _ _ _ r_6 (bg b 5) (bg b 6) _ hit hbk.P.1 (by rw [hlen]; exact hi) hnq hna) (by decide) dX2_favourite_20 rfl rfl (Nat.le_of_ble_eq_true rfl)) (fun r_20 H_20 p_20 z_20 => ?_) jno_x
    obtain ⟨hr, wn, hin⟩ := p_20
    rw [getD_map (by simp; exact hi), getD_range hi] at hr
    subst hr
    have eN := eH.put wn hz
    have hbn := h.ext hC (eN)
    have hx := (hbn.Y.1 _ hi).1
    have hoB := hbn.B.1
    refine j_ccast (pc := 25) hX kc_X2_53 dX2_favourite_25 hx.r ?_
    first | refine j_astore (pc := 28) hX dX2_favourite_28 (by decide) rfl ?_ | refine j_astoreN (pc := 28) hX dX2_favourite_28 (by decide) rfl ?_ | refine j_astoreq (pc := 28) hX dX2_favourite_28 (by decide) rfl ?_
    first | refine j_aload (pc := 30) hX dX2_favourite_30 rfl ?_ | refine j_aloadq (pc := 30) hX dX2_favourite_30 rfl ?_
    first | refine j_aload_n (pc := 32) hX dX2_favourite_32 rfl rfl ?_ | refine j_aload_nq (pc := 32) hX dX2_favourite_32 rfl rfl ?_
    refine j_rune (pc := 33) (jr_V (pc := 33) hX kv_X2_210 hx.r (c_X4_fitsN _ _ _ hbn hB _ k hi hk) (by decide) dX2_favourite_33 rfl rfl (Nat.le_of_ble_eq_true rfl)) ?_ jno_x
    refine j_if_eq (pc := 36) (tgt := 57) hX dX2_favourite_36 (by decide) (fun c_36 => ?_) (fun c_36 => ?_)
    · rw [jb_z] at c_36
      refine j_iconst (pc := 57) (v := 0) hX dX2_favourite_57 (by decide) ?_
      refine j_istore (pc := 58) hX dX2_favourite_58 (by decide) rfl ?_
      refine j_iload (pc := 60) hX dX2_favourite_60 rfl ?_
      refine j_if_eq (pc := 62) (tgt := 70) hX dX2_favourite_62 (by decide) (fun c_62 => ?_) (fun c_62 => ?_)
      rotate_left
      · first | exact absurd c_62 (by decide) | (change ¬ (0 : Int32) = 0 at c_62; exact absurd c_62 (by decide))
      first | refine j_aload_n (pc := 70) hX dX2_favourite_70 rfl rfl ?_ | refine j_aload_nq (pc := 70) hX dX2_favourite_70 rfl rfl ?_
      first | refine j_astore_n (pc := 71) hX dX2_favourite_71 rfl (by decide) rfl ?_ | refine j_astore_nN (pc := 71) hX dX2_favourite_71 rfl (by decide) rfl ?_ | refine j_astore_nq (pc := 71) hX dX2_favourite_71 rfl (by decide) rfl ?_
      refine j_goto (pc := 72) (tgt := 10) hX dX2_favourite_72 (by decide) ?_
      exact j_lv (by simp [jsb, jget, jval, jfold_succ, lfN_s, nI_1, -List.getD_eq_getElem?_getD, favF, c_16, c_36]) (ih _ eN hin)
    · rw [jb_n] at c_36
      first | refine j_aload_n (pc := 39) hX dX2_favourite_39 rfl rfl ?_ | refine j_aload_nq (pc := 39) hX dX2_favourite_39 rfl rfl ?_
      refine j_ifnullq (pc := 40) (tgt := 53) hX dX2_favourite_40 (by decide) (fun c_40 => ?_) (fun a_40 c_40 => ?_)
      · rw [Option.map_eq_none_iff] at c_40
        refine j_iconst (pc := 53) (v := 1) hX dX2_favourite_53 (by decide) ?_
        refine j_goto (pc := 54) (tgt := 58) hX dX2_favourite_54 (by decide) ?_
        refine j_istore (pc := 58) hX dX2_favourite_58 (by decide) rfl ?_
        refine j_iload (pc := 60) hX dX2_favourite_60 rfl ?_
        refine j_if_eq (pc := 62) (tgt := 70) hX dX2_favourite_62 (by decide) (fun c_62 => ?_) (fun c_62 => ?_)
        · first | exact absurd c_62 (by decide) | (change (1 : Int32) = 0 at c_62; exact absurd c_62 (by decide))
        first | refine j_aload (pc := 65) hX dX2_favourite_65 rfl ?_ | refine j_aloadq (pc := 65) hX dX2_favourite_65 rfl ?_
        refine j_goto (pc := 67) (tgt := 71) hX dX2_favourite_67 (by decide) ?_
        first | refine j_astore_n (pc := 71) hX dX2_favourite_71 rfl (by decide) rfl ?_ | refine j_astore_nN (pc := 71) hX dX2_favourite_71 rfl (by decide) rfl ?_ | refine j_astore_nq (pc := 71) hX dX2_favourite_71 rfl (by decide) rfl ?_
        refine j_goto (pc := 72) (tgt := 10) hX dX2_favourite_72 (by decide) ?_
        exact j_lv (by simp [jsb, jget, jval, jfold_succ, lfN_s, nI_1, -List.getD_eq_getElem?_getD, favF, c_16, c_36, c_40]) (ih _ eN hin)
      · rw [Option.map_eq_some_iff] at c_40
        obtain ⟨q, c_40, rfl⟩ := c_40
        have hqi := hol q c_40
        rw [c_40]
        first | refine j_aload_n (pc := 43) hX dX2_favourite_43 rfl rfl ?_ | refine j_aload_nq (pc := 43) hX dX2_favourite_43 rfl rfl ?_
        first | refine j_aload (pc := 44) hX dX2_favourite_44 rfl ?_ | refine j_aloadq (pc := 44) hX dX2_favourite_44 rfl ?_
        first | refine j_aload_n (pc := 46) hX dX2_favourite_46 rfl rfl ?_ | refine j_aload_nq (pc := 46) hX dX2_favourite_46 rfl rfl ?_
        refine j_rune (pc := 47) (jr_V (pc := 47) hX kv_X2_214 (by first | assumption | exact jow.r (by assumption)) (c_X2_isPreferred _ _ _ hbn hB i q hi (by omega)) (by decide) dX2_favourite_47 rfl rfl (Nat.le_of_ble_eq_true rfl)) ?_ jno_x
        refine j_if_eq (pc := 50) (tgt := 57) hX dX2_favourite_50 (by decide) (fun c_50 => ?_) (fun c_50 => ?_)
        · rw [jb_z] at c_50
          refine j_iconst (pc := 57) (v := 0) hX dX2_favourite_57 (by decide) ?_
          refine j_istore (pc := 58) hX dX2_favourite_58 (by decide) rfl ?_
          refine j_iload (pc := 60) hX dX2_favourite_60 rfl ?_
          refine j_if_eq (pc := 62) (tgt := 70) hX dX2_favourite_62 (by decide) (fun c_62 => ?_) (fun c_62 => ?_)
          rotate_left
          · first | exact absurd c_62 (by decide) | (change ¬ (0 : Int32) = 0 at c_62; exact absurd c_62 (by decide))
          first | refine j_aload_n (pc := 70) hX dX2_favourite_70 rfl rfl ?_ | refine j_aload_nq (pc := 70) hX dX2_favourite_70 rfl rfl ?_
          first | refine j_astore_n (pc := 71) hX dX2_favourite_71 rfl (by decide) rfl ?_ | refine j_astore_nN (pc := 71) hX dX2_favourite_71 rfl (by decide) rfl ?_ | refine j_astore_nq (pc := 71) hX dX2_favourite_71 rfl (by decide) rfl ?_
          refine j_goto (pc := 72) (tgt := 10) hX dX2_favourite_72 (by decide) ?_
          exact j_lv (by simp [jsb, jget, jval, jfold_succ, lfN_s, nI_1, -List.getD_eq_getElem?_getD, favF, c_16, c_36, c_40, c_50]) (ih _ eN hin)
        · rw [jb_n] at c_50
          refine j_iconst (pc := 53) (v := 1) hX dX2_favourite_53 (by decide) ?_
          refine j_goto (pc := 54) (tgt := 58) hX dX2_favourite_54 (by decide) ?_
          refine j_istore (pc := 58) hX dX2_favourite_58 (by decide) rfl ?_
          refine j_iload (pc := 60) hX dX2_favourite_60 rfl ?_
          refine j_if_eq (pc := 62) (tgt := 70) hX dX2_favourite_62 (by decide) (fun c_62 => ?_) (fun c_62 => ?_)
          · first | exact absurd c_62 (by decide) | (change (1 : Int32) = 0 at c_62; exact absurd c_62 (by decide))
          first | refine j_aload (pc := 65) hX dX2_favourite_65 rfl ?_ | refine j_aloadq (pc := 65) hX dX2_favourite_65 rfl ?_
          refine j_goto (pc := 67) (tgt := 71) hX dX2_favourite_67 (by decide) ?_
          first | refine j_astore_n (pc := 71) hX dX2_favourite_71 rfl (by decide) rfl ?_ | refine j_astore_nN (pc := 71) hX dX2_favourite_71 rfl (by decide) rfl ?_ | refine j_astore_nq (pc := 71) hX dX2_favourite_71 rfl (by decide) rfl ?_
          refine j_goto (pc := 72) (tgt := 10) hX dX2_favourite_72 (by decide) ?_
          exact j_lv (by simp [jsb, jget, jval, jfold_succ, lfN_s, nI_1, -List.getD_eq_getElem?_getD, favF, c_16, c_36, c_40, c_50]) (ih _ eN hin)
def lbN (s : Nat → Nat) (c : Nat → Bool) (L : List Nat) (i : Nat) : Option Nat := jfold (fun j o => bestF s c (L.getD j 0) o) i none
theorem lbN_0 (s : Nat → Nat) (c : Nat → Bool) (L : List Nat) : lbN s c L 0 = none := rfl
theorem lbN_s (s : Nat → Nat) (c : Nat → Bool) (L : List Nat) (i : Nat) : lbN s c L (i + 1) = if c (L.getD i 0) = true ∧ (∀ q, lbN s c L i = some q → betN s (L.getD i 0) q = true) then some (L.getD i 0) else lbN s c L i := rfl
theorem lbN_mem {s : Nat → Nat} {c : Nat → Bool} {L : List Nat} : ∀ (i : Nat), i ≤ L.length → ∀ q, lbN s c L i = some q → q ∈ L := by
  intro i
  induction i with
  | zero => intro _ q h; cases h
  | succ i ih =>
    intro hi q h
    rw [lbN_s] at h
    split at h
    · cases Option.some.inj h; exact getD_mem (by omega)
    · exact ih (by omega) q h
def cdC (s : Nat → Nat) (p k : Nat) : Bool := (fillN s k).isNone && fitN s k p
theorem cdC_h {s : Nat → Nat} {p k : Nat} (h : (fillN s k).isSome = true) : cdC s p k = false := by unfold cdC; cases e : fillN s k <;> simp_all
theorem cdC_n {s : Nat → Nat} {p k : Nat} (h : (fillN s k).isSome = false) : cdC s p k = fitN s k p := by unfold cdC; cases e : fillN s k <;> simp_all
theorem c_X2_candidate (l : Launch) (G : JG) (H : Heap) {n0 : Nat} {b : BG} {s : Nat → Nat} (h : jbd G H n0 b s) (hW : WFs s) (hB : Bs s) (p : Nat) (hp : p < s 2) : JMet l yX2_candidate (ws_ yX2_candidate cX2_candidate 6 (some (.object "CloudInterviews$Applicant"))) 11 221 G H [.ref (bg b 0), .ref (bpo b p)] (jpq (fun r H1 => r = (candN s p).map (bap b) ∧ JExt H H1)) (jno) := by
  refine JMet.of [(0, .inr (some (bg b 0))), (1, .inr (some (bpo b p)))] (by decide) (Nat.le_of_ble_eq_true rfl) rfl (fun X hl hX hQ hEx hr hnm hH => ?_)
  subst hl
  have hC := hX.C
  have hoB := h.B.1
  have hl10 := h.S.len
  have law : lbN s (cdC s p) (bL b) (bL b).length = candN s p := candN_law h.S p
  refine j_null (pc := 0) hX dX2_candidate_0 ?_
  first | refine j_astore_n (pc := 1) hX dX2_candidate_1 rfl (by decide) rfl ?_ | refine j_astore_nN (pc := 1) hX dX2_candidate_1 rfl (by decide) rfl ?_ | refine j_astore_nq (pc := 1) hX dX2_candidate_1 rfl (by decide) rfl ?_
  first | refine j_aload_n (pc := 2) hX dX2_candidate_2 rfl rfl ?_ | refine j_aload_nq (pc := 2) hX dX2_candidate_2 rfl rfl ?_
  refine j_get (pc := 3) hX kg_X2_21 dX2_candidate_3 (by first | assumption | exact jow.r (by assumption)) (by rfl) ?_
  change JW X G H (220 + 1) 6 _ _
  refine j_runa (pc := 6) (jr_V (pc := 6) hX kv_X2_39 h.A.1.1.r (c_J4_iterator _ _ _ (bg b 2) (bg b 3) h.A.1) (by decide) dX2_candidate_6 rfl rfl (Nat.le_of_ble_eq_true rfl)) (fun r_6 H_6 p_6 z_6 => ?_) jno_x
  obtain ⟨hz, hit0, e0⟩ := p_6
  first | refine j_astore_n (pc := 9) hX dX2_candidate_9 rfl (by decide) rfl ?_ | refine j_astore_nN (pc := 9) hX dX2_candidate_9 rfl (by decide) rfl ?_ | refine j_astore_nq (pc := 9) hX dX2_candidate_9 rfl (by decide) rfl ?_
  skip
  refine j_weak (show 22 * ((bL b).length - 0) ≤ 220 by omega) ?_
  have hlen : ((bL b).map (bap b)).length = (bL b).length := by simp
  have hnq : (bg b 2) ≠ r_6 := Nat.ne_of_lt (Nat.lt_of_lt_of_le h.ltA hz)
  have hna : (bg b 3) ≠ r_6 := Nat.ne_of_lt (Nat.lt_of_lt_of_le (h.ltA2 hC) hz)
  refine j_lv (by simp [jsb, jget, jval, lfN_0, lbN_0]) (jloop (P := fun i => ∀ Hk : Heap, JExt H Hk → itA G Hk r_6 (bg b 2) i (bmc b 0) → JW X G Hk (22 * ((bL b).length - i)) 10 [(0, .inr (some (bg b 0))), (1, .inr (some (bpo b p))), (2, .inr ((lbN s (cdC s p) (bL b) i).map (bap b))), (3, .inr (some r_6))] []) (bL b).length (fun Hk eH hit => ?_) (fun i hi ih Hk eH hit => ?_) 0 (Nat.zero_le _) H_6 e0 hit0)
  · have hbk := h.ext hC (eH)
    have hoB := hbk.B.1
    obtain ⟨R0, hR0⟩ : ∃ R, R = 22 * ((bL b).length - (bL b).length) := ⟨_, rfl⟩
    rw [← hR0]
    first | refine j_aload_n (pc := 10) hX dX2_candidate_10 rfl rfl ?_ | refine j_aload_nq (pc := 10) hX dX2_candidate_10 rfl rfl ?_
    refine j_run5e (pc := 11) (jr_F (pc := 11) hX kf_X2_43_12 hit.1.choose_spec.r (c_J10_hasNext _ _ _ r_6 (bg b 2) (bg b 3) _ hit hbk.A.1 (by rw [hlen]; exact Nat.le_refl _)) (by decide) dX2_candidate_11 rfl rfl (Nat.le_of_ble_eq_true rfl)) ?_ jno_x
    refine j_if_eq (pc := 16) (tgt := 83) hX dX2_candidate_16 (by decide) (fun c_16 => ?_) (fun c_16 => ?_)
    rotate_left
    · rw [jb_n, decide_eq_true_eq, hlen] at c_16; exact absurd c_16 (Nat.lt_irrefl _)
    first | refine j_aload_n (pc := 83) hX dX2_candidate_83 rfl rfl ?_ | refine j_aload_nq (pc := 83) hX dX2_candidate_83 rfl rfl ?_
    first | exact j_aret hX hQ hr (by first | exact Or.inl ⟨_, rfl⟩ | exact Or.inr ⟨_, rfl⟩) dX2_candidate_84 ⟨_, rfl, congrArg (Option.map (bap b)) law, eH⟩ | exact j_aretN hX hQ hr (by first | exact Or.inl ⟨_, rfl⟩ | exact Or.inr ⟨_, rfl⟩) dX2_candidate_84 ⟨_, rfl, congrArg (Option.map (bap b)) law, eH⟩ | exact j_aretq hX hQ hr (by first | exact Or.inl ⟨_, rfl⟩ | exact Or.inr ⟨_, rfl⟩) dX2_candidate_84 ⟨_, rfl, congrArg (Option.map (bap b)) law, eH⟩
  · have hbk := h.ext hC (eH)
    obtain ⟨rm, hrm⟩ : ∃ rm, rm = 22 * ((bL b).length - (i + 1)) := ⟨_, rfl⟩
    rw [← hrm] at ih
    obtain ⟨R, hR⟩ : ∃ R, R = rm + 22 := ⟨_, rfl⟩
    rw [show 22 * ((bL b).length - i) = R from by omega]
    have hol := lbN_mem (s := s) (c := cdC s p) (L := bL b) i (by omega)
    first | refine j_aload_n (pc := 10) hX dX2_candidate_10 rfl rfl ?_ | refine j_aload_nq (pc := 10) hX dX2_candidate_10 rfl rfl ?_
    refine j_run5e (pc := 11) (jr_F (pc := 11) hX kf_X2_43_12 hit.1.choose_spec.r (c_J10_hasNext _ _ _ r_6 (bg b 2) (bg b 3) _ hit hbk.A.1 (by rw [hlen]; omega)) (by decide) dX2_candidate_11 rfl rfl (Nat.le_of_ble_eq_true rfl)) ?_ jno_x
    refine j_if_eq (pc := 16) (tgt := 83) hX dX2_candidate_16 (by decide) (fun c_16 => ?_) (fun c_16 => ?_)
    · rw [jb_z, decide_eq_false_iff_not, hlen] at c_16; exact absurd hi c_16
    first | refine j_aload_n (pc := 19) hX dX2_candidate_19 rfl rfl ?_ | refine j_aload_nq (pc := 19) hX dX2_candidate_19 rfl rfl ?_
    refine j_run5a (pc := 20) (jr_F (pc := 20) hX kf_X2_49_12 hit.1.choose_spec.r (c_J10_next _ _ _ r_6 (bg b 2) (bg b 3) _ hit hbk.A.1 (by rw [hlen]; exact hi) hnq hna) (by decide) dX2_candidate_20 rfl rfl (Nat.le_of_ble_eq_true rfl)) (fun r_20 H_20 p_20 z_20 => ?_) jno_x
    obtain ⟨hr, wn, hin⟩ := p_20
    rw [getD_map hi] at hr
    subst hr
    have eN := eH.put wn hz
    have hbn := h.ext hC (eN)
    have hx := (hbn.X.1 _ (getD_mem hi)).1
    have hoB := hbn.B.1
    refine j_ccast (pc := 25) hX kc_X2_63 dX2_candidate_25 hx.r ?_
    first | refine j_astore (pc := 28) hX dX2_candidate_28 (by decide) rfl ?_ | refine j_astoreN (pc := 28) hX dX2_candidate_28 (by decide) rfl ?_ | refine j_astoreq (pc := 28) hX dX2_candidate_28 (by decide) rfl ?_
    first | refine j_aload (pc := 30) hX dX2_candidate_30 rfl ?_ | refine j_aloadq (pc := 30) hX dX2_candidate_30 rfl ?_
    refine j_rune (pc := 32) (jr_V (pc := 32) hX kv_X2_72 hx.r (c_X5_isHired _ _ _ _ hx) (by decide) dX2_candidate_32 rfl rfl (Nat.le_of_ble_eq_true rfl)) ?_ jno_x
    refine j_if_ne (pc := 35) (tgt := 51) hX dX2_candidate_35 (by decide) (fun c_35 => ?_) (fun c_35 => ?_)
    · rw [jb_n, Option.isSome_map] at c_35
      have c2 := cdC_h (p := p) c_35
      refine j_iconst (pc := 51) (v := 0) hX dX2_candidate_51 (by decide) ?_
      refine j_istore (pc := 52) hX dX2_candidate_52 (by decide) rfl ?_
      refine j_iload (pc := 54) hX dX2_candidate_54 rfl ?_
      refine j_if_eq (pc := 56) (tgt := 78) hX dX2_candidate_56 (by decide) (fun c_56 => ?_) (fun c_56 => ?_)
      rotate_left
      · first | exact absurd c_56 (by decide) | (change ¬ (0 : Int32) = 0 at c_56; exact absurd c_56 (by decide))
      first | refine j_aload_n (pc := 78) hX dX2_candidate_78 rfl rfl ?_ | refine j_aload_nq (pc := 78) hX dX2_candidate_78 rfl rfl ?_
      first | refine j_astore_n (pc := 79) hX dX2_candidate_79 rfl (by decide) rfl ?_ | refine j_astore_nN (pc := 79) hX dX2_candidate_79 rfl (by decide) rfl ?_ | refine j_astore_nq (pc := 79) hX dX2_candidate_79 rfl (by decide) rfl ?_
      refine j_goto (pc := 80) (tgt := 10) hX dX2_candidate_80 (by decide) ?_
      exact j_lv (by simp [jsb, jget, jval, jfold_succ, lfN_s, nI_1, -List.getD_eq_getElem?_getD, lbN_s, c2, c_16, c_35]) (j_weak (by omega) (ih _ eN hin))
    · rw [jb_z, Option.isSome_map] at c_35
      have c1 := cdC_n (p := p) c_35
      first | refine j_aload_n (pc := 38) hX dX2_candidate_38 rfl rfl ?_ | refine j_aload_nq (pc := 38) hX dX2_candidate_38 rfl rfl ?_
      first | refine j_aload (pc := 39) hX dX2_candidate_39 rfl ?_ | refine j_aloadq (pc := 39) hX dX2_candidate_39 rfl ?_
      refine j_rune (pc := 41) (jr_V (pc := 41) hX kv_X2_210 (hbn.Y.1 p hp).1.r (c_X4_fitsN _ _ _ hbn hB p _ hp (getD_mem hi)) (by decide) dX2_candidate_41 rfl rfl (Nat.le_of_ble_eq_true rfl)) ?_ jno_x
      refine j_if_eq (pc := 44) (tgt := 51) hX dX2_candidate_44 (by decide) (fun c_44 => ?_) (fun c_44 => ?_)
      · rw [jb_z] at c_44
        have c2 := c1.trans c_44
        refine j_iconst (pc := 51) (v := 0) hX dX2_candidate_51 (by decide) ?_
        refine j_istore (pc := 52) hX dX2_candidate_52 (by decide) rfl ?_
        refine j_iload (pc := 54) hX dX2_candidate_54 rfl ?_
        refine j_if_eq (pc := 56) (tgt := 78) hX dX2_candidate_56 (by decide) (fun c_56 => ?_) (fun c_56 => ?_)
        rotate_left
        · first | exact absurd c_56 (by decide) | (change ¬ (0 : Int32) = 0 at c_56; exact absurd c_56 (by decide))
        first | refine j_aload_n (pc := 78) hX dX2_candidate_78 rfl rfl ?_ | refine j_aload_nq (pc := 78) hX dX2_candidate_78 rfl rfl ?_
        first | refine j_astore_n (pc := 79) hX dX2_candidate_79 rfl (by decide) rfl ?_ | refine j_astore_nN (pc := 79) hX dX2_candidate_79 rfl (by decide) rfl ?_ | refine j_astore_nq (pc := 79) hX dX2_candidate_79 rfl (by decide) rfl ?_
        refine j_goto (pc := 80) (tgt := 10) hX dX2_candidate_80 (by decide) ?_
        exact j_lv (by simp [jsb, jget, jval, jfold_succ, lfN_s, nI_1, -List.getD_eq_getElem?_getD, lbN_s, c2, c_16, c_35, c_44]) (j_weak (by omega) (ih _ eN hin))
      · rw [jb_n] at c_44
        have c2 := c1.trans c_44
        refine j_iconst (pc := 47) (v := 1) hX dX2_candidate_47 (by decide) ?_
        refine j_goto (pc := 48) (tgt := 52) hX dX2_candidate_48 (by decide) ?_
        refine j_istore (pc := 52) hX dX2_candidate_52 (by decide) rfl ?_
        refine j_iload (pc := 54) hX dX2_candidate_54 rfl ?_
        refine j_if_eq (pc := 56) (tgt := 78) hX dX2_candidate_56 (by decide) (fun c_56 => ?_) (fun c_56 => ?_)
        · first | exact absurd c_56 (by decide) | (change (1 : Int32) = 0 at c_56; exact absurd c_56 (by decide))
        first | refine j_aload_n (pc := 59) hX dX2_candidate_59 rfl rfl ?_ | refine j_aload_nq (pc := 59) hX dX2_candidate_59 rfl rfl ?_
        refine j_ifnullq (pc := 60) (tgt := 73) hX dX2_candidate_60 (by decide) (fun c_60 => ?_) (fun a_60 c_60 => ?_)
        · rw [Option.map_eq_none_iff] at c_60
          first | refine j_aload (pc := 73) hX dX2_candidate_73 rfl ?_ | refine j_aloadq (pc := 73) hX dX2_candidate_73 rfl ?_
          refine j_goto (pc := 75) (tgt := 79) hX dX2_candidate_75 (by decide) ?_
          first | refine j_astore_n (pc := 79) hX dX2_candidate_79 rfl (by decide) rfl ?_ | refine j_astore_nN (pc := 79) hX dX2_candidate_79 rfl (by decide) rfl ?_ | refine j_astore_nq (pc := 79) hX dX2_candidate_79 rfl (by decide) rfl ?_
          refine j_goto (pc := 80) (tgt := 10) hX dX2_candidate_80 (by decide) ?_
          exact j_lv (by simp [jsb, jget, jval, jfold_succ, lfN_s, nI_1, -List.getD_eq_getElem?_getD, lbN_s, c2, c_16, c_35, c_44, c_60]) (j_weak (by omega) (ih _ eN hin))
        · rw [Option.map_eq_some_iff] at c_60
          obtain ⟨q, c_60, rfl⟩ := c_60
          have hqi := hol q c_60
          rw [c_60]
          first | refine j_aload_n (pc := 63) hX dX2_candidate_63 rfl rfl ?_ | refine j_aload_nq (pc := 63) hX dX2_candidate_63 rfl rfl ?_
          first | refine j_aload (pc := 64) hX dX2_candidate_64 rfl ?_ | refine j_aloadq (pc := 64) hX dX2_candidate_64 rfl ?_
          first | refine j_aload_n (pc := 66) hX dX2_candidate_66 rfl rfl ?_ | refine j_aload_nq (pc := 66) hX dX2_candidate_66 rfl rfl ?_
          subst hR
          refine j_runi (pc := 67) (jr_V (pc := 67) hX kv_X2_171 (by first | assumption | exact jow.r (by assumption)) (c_X2_isBetter _ _ _ hbn hW hB ((bL b).getD i 0) q (getD_mem hi) hqi) (by decide) dX2_candidate_67 rfl rfl (Nat.le_of_ble_eq_true rfl)) (fun r_67 H_67 p_67 z_67 => ?_) jno_x
          obtain ⟨rfl, e67⟩ := p_67
          have eN := eN.trans e67
          have hin := hin_ext hin e67
          refine j_if_eq (pc := 70) (tgt := 78) hX dX2_candidate_70 (by decide) (fun c_70 => ?_) (fun c_70 => ?_)
          · rw [jb_z] at c_70
            first | refine j_aload_n (pc := 78) hX dX2_candidate_78 rfl rfl ?_ | refine j_aload_nq (pc := 78) hX dX2_candidate_78 rfl rfl ?_
            first | refine j_astore_n (pc := 79) hX dX2_candidate_79 rfl (by decide) rfl ?_ | refine j_astore_nN (pc := 79) hX dX2_candidate_79 rfl (by decide) rfl ?_ | refine j_astore_nq (pc := 79) hX dX2_candidate_79 rfl (by decide) rfl ?_
            refine j_goto (pc := 80) (tgt := 10) hX dX2_candidate_80 (by decide) ?_
            exact j_lv (by simp [jsb, jget, jval, jfold_succ, lfN_s, nI_1, -List.getD_eq_getElem?_getD, lbN_s, c2, c_16, c_35, c_44, c_60, c_70]) (j_weak (by omega) (ih _ eN hin))
          · rw [jb_n] at c_70
            first | refine j_aload (pc := 73) hX dX2_candidate_73 rfl ?_ | refine j_aloadq (pc := 73) hX dX2_candidate_73 rfl ?_
            refine j_goto (pc := 75) (tgt := 79) hX dX2_candidate_75 (by decide) ?_
            first | refine j_astore_n (pc := 79) hX dX2_candidate_79 rfl (by decide) rfl ?_ | refine j_astore_nN (pc := 79) hX dX2_candidate_79 rfl (by decide) rfl ?_ | refine j_astore_nq (pc := 79) hX dX2_candidate_79 rfl (by decide) rfl ?_
            refine j_goto (pc := 80) (tgt := 10) hX dX2_candidate_80 (by decide) ?_
            exact j_lv (by simp [jsb, jget, jval, jfold_succ, lfN_s, nI_1, -List.getD_eq_getElem?_getD, lbN_s, c2, c_16, c_35, c_44, c_60, c_70]) (j_weak (by omega) (ih _ eN hin))
