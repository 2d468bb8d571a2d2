/-! the component's board: references, scores -/
set_option maxRecDepth 100000
theorem hin_ext {G : JG} {H H1 : Heap} {it q k : Nat} {mc : Int32} (h : itA G H it q k mc) (e : JExt H H1) : itA G H1 it q k mc := ⟨h.1.imp fun _ z => z.ext e, h.2⟩
theorem gv_in {s : Nat → Nat} (hW : WFs s) {i j : Nat} (hj : j < 10) (hb : (aGv s j).testBit i = true) : 0 < aId s i := by
  have hi : i < 10 := Nat.lt_of_not_le fun z => by
    rw [Nat.testBit_lt_two_pow (Nat.lt_of_lt_of_le (hW.2.2.2.1 j hj).2.2.2.2 (Nat.pow_le_pow_right (show 0 < 2 by decide) (show 10 ≤ i from z)))] at hb
    cases hb
  exact (hW.2.2.2.2.2.2.2.1 i j hi hj hb).1
theorem ref_look {G : JG} {L : List Nat} {s : Nat → Nat} {E : List ((Int32 × Int32) × Nat)} (hS : SlL s L) (hB : Bs s) (h : bMR G L s E) (hn : (E.map (·.1)).Nodup) {i j : Nat} (hi : i ∈ L) (hj : j ∈ L) : lookE (idI s i, idI s j) E = if (aGv s j).testBit i then some (gC G 2) else none := by
  cases e : (aGv s j).testBit i with
  | true => exact lookE_some hn ((h _ _).mpr ⟨rfl, i, hi, j, hj, rfl, e⟩)
  | false =>
    refine lookE_none (fun v hv => ?_)
    obtain ⟨-, i', hi', j', hj', ee, hb⟩ := (h _ _).mp hv
    have e1 := idI_inj hS hB hi hi' (congrArg Prod.fst ee)
    have e2 := idI_inj hS hB hj hj' (congrArg Prod.snd ee)
    subst e1; subst e2
    rw [e] at hb; cases hb
theorem jmA.nd {K : Type} {d : KD K} {G : JG} {H : Heap} {q : Nat} {F Kp : Nat → Prop} {E : List (K × Nat)} (h : jmA d G H q F Kp E) : (E.map (·.1)).Nodup := by
  obtain ⟨tab, cap, mc, B, h1, h2, -⟩ := h; exact h2
theorem c_X2_hasReference (l : Launch) (G : JG) (H : Heap) {n0 : Nat} {b : BG} {s : Nat → Nat} (h : jbd G H n0 b s) (hB : Bs s) (i j : Nat) (hi : i ∈ bL b) (hj : j ∈ bL b) : JMet l yX2_hasReference (ws_ yX2_hasReference cX2_hasReference 3 (some .boolean)) 7 1 G H [.ref (bg b 0), .int (idI s i), .int (idI s j)] (jpi (fun r H1 => r = jb ((aGv s j).testBit i) ∧ JExt H H1)) (jno) := by
  refine JMet.of [(0, .inr (some (bg b 0))), (1, .inl (.int (idI s i))), (2, .inl (.int (idI s j)))] (by decide) (Nat.le_of_ble_eq_true rfl) rfl (fun X hl hX hQ hEx hr hnm hH => ?_)
  subst hl
  have hoB := h.B.1
  first | refine j_aload_n (pc := 0) hX dX2_hasReference_0 rfl rfl ?_ | refine j_aload_nq (pc := 0) hX dX2_hasReference_0 rfl rfl ?_
  refine j_get (pc := 1) hX kg_X2_25 dX2_hasReference_1 (by first | assumption | exact jow.r (by assumption)) (by rfl) ?_
  change JW X G H (0 + 1) 4 _ _
  refine j_new (pc := 4) hX kn_X2_129 1 jw_X6 dX2_hasReference_4 (fun H_4 z_4 e_4 n_4 b_4 => ?_)
  refine j_dup (pc := 7) hX dX2_hasReference_7 (by first | rfl | exact jrf_cat _) ?_
  refine j_iload_n (pc := 8) hX dX2_hasReference_8 rfl rfl ?_
  refine j_iload_n (pc := 9) hX dX2_hasReference_9 rfl rfl ?_
  refine j_runv (pc := 10) (jr_I (pc := 10) hX ki_X2_131 (c_X6_init _ _ _ _ (idI s i) (idI s j) n_4 b_4) (by decide) dX2_hasReference_10 rfl rfl (Nat.le_of_ble_eq_true rfl)) (fun H_10 p_10 z_10 => ?_) jno_x
  obtain ⟨w1, n1⟩ := p_10
  have e1 := e_4.put w1 (Nat.le_refl _)
  skip
  obtain ⟨E, hE, hbR⟩ := (h.ext hX.C e1).R
  have hl := c_J1_hasR (jl X) G H_10 (bg b 4) H.size (idI s i, idI s j) hE n1.r
  rw [ref_look h.S hB hbR hE.nd hi hj] at hl
  refine j_rune (pc := 13) (jr_V (pc := 13) hX kv_X2_133 hE.ho.choose_spec.r (hl) (by decide) dX2_hasReference_13 rfl rfl (Nat.le_of_ble_eq_true rfl)) ?_ jno_x
  exact j_zret hX hQ hr (by first | rfl | exact jb_nar _ | exact nI_narC _ | assumption) dX2_hasReference_16 ⟨_, rfl, by cases (aGv s j).testBit i <;> rfl, e1⟩
theorem c_X2_referencesFor (l : Launch) (G : JG) (H : Heap) {n0 : Nat} {b : BG} {s : Nat → Nat} (h : jbd G H n0 b s) (hW : WFs s) (hB : Bs s) (j : Nat) (hj : j ∈ bL b) : JMet l yX2_referencesFor (ws_ yX2_referencesFor cX2_referencesFor 5 (some .int)) 8 11 G H [.ref (bg b 0), .int (idI s j)] (jpi (fun r H1 => r = nI (bitN (aGv s j)) ∧ JExt H H1)) (jno) := by
  refine JMet.of [(0, .inr (some (bg b 0))), (1, .inl (.int (idI s j)))] (by decide) (Nat.le_of_ble_eq_true rfl) rfl (fun X hl hX hQ hEx hr hnm hH => ?_)
  subst hl
  have hC := hX.C
  have hoB := h.B.1
  have hl10 := h.S.len
  have law := refs_law h.S (aGv s j) (fun i hb => gv_in hW (h.S.lt hj).1 hb)
  refine j_iconst (pc := 0) (v := 0) hX dX2_referencesFor_0 (by decide) ?_
  refine j_istore_n (pc := 1) hX dX2_referencesFor_1 rfl (by decide) rfl ?_
  first | refine j_aload_n (pc := 2) hX dX2_referencesFor_2 rfl rfl ?_ | refine j_aload_nq (pc := 2) hX dX2_referencesFor_2 rfl rfl ?_
  refine j_get (pc := 3) hX kg_X2_21 dX2_referencesFor_3 (by first | assumption | exact jow.r (by assumption)) (by rfl) ?_
  change JW X G H (10 + 1) 6 _ _
  refine j_runa (pc := 6) (jr_V (pc := 6) hX kv_X2_39 h.A.1.1.r (c_J4_iterator _ _ _ (bg b 2) (bg b 3) h.A.1) (by decide) dX2_referencesFor_6 rfl rfl (Nat.le_of_ble_eq_true rfl)) (fun r_6 H_6 p_6 z_6 => ?_) jno_x
  obtain ⟨hz, hit0, e0⟩ := p_6
  first | refine j_astore_n (pc := 9) hX dX2_referencesFor_9 rfl (by decide) rfl ?_ | refine j_astore_nN (pc := 9) hX dX2_referencesFor_9 rfl (by decide) rfl ?_ | refine j_astore_nq (pc := 9) hX dX2_referencesFor_9 rfl (by decide) rfl ?_
  skip
  refine j_weak (show 1 * ((bL b).length - 0) ≤ 10 by omega) ?_
  have hlen : ((bL b).map (bap b)).length = (bL b).length := by simp
  have hnq : (bg b 2) ≠ r_6 := Nat.ne_of_lt (Nat.lt_of_lt_of_le h.ltA hz)
  have hna : (bg b 3) ≠ r_6 := Nat.ne_of_lt (Nat.lt_of_lt_of_le (h.ltA2 hC) hz)
  refine j_lv (by simp [jsb, jget, jval, lfN_0, nI_0, jfold]) (jloop (P := fun i => ∀ Hk : Heap, JExt H Hk → itA G Hk r_6 (bg b 2) i (bmc b 0) → JW X G Hk (1 * ((bL b).length - i)) 10 [(0, .inr (some (bg b 0))), (1, .inl (.int (idI s j))), (2, .inl (.int (nI (lfN (bL b) (fun i => if (aGv s j).testBit i then 1 else 0) i)))), (3, .inr (some r_6))] []) (bL b).length (fun Hk eH hit => ?_) (fun i hi ih Hk eH hit => ?_) 0 (Nat.zero_le _) H_6 e0 hit0)
  · have hbk := h.ext hC (eH)
    have hoB := hbk.B.1
    obtain ⟨R0, hR0⟩ : ∃ R, R = 1 * ((bL b).length - (bL b).length) := ⟨_, rfl⟩
    rw [← hR0]
    first | refine j_aload_n (pc := 10) hX dX2_referencesFor_10 rfl rfl ?_ | refine j_aload_nq (pc := 10) hX dX2_referencesFor_10 rfl rfl ?_
    refine j_run5e (pc := 11) (jr_F (pc := 11) hX kf_X2_43_12 hit.1.choose_spec.r (c_J10_hasNext _ _ _ r_6 (bg b 2) (bg b 3) _ hit hbk.A.1 (by rw [hlen]; exact Nat.le_refl _)) (by decide) dX2_referencesFor_11 rfl rfl (Nat.le_of_ble_eq_true rfl)) ?_ jno_x
    refine j_if_eq (pc := 16) (tgt := 54) hX dX2_referencesFor_16 (by decide) (fun c_16 => ?_) (fun c_16 => ?_)
    rotate_left
    · rw [jb_n, decide_eq_true_eq, hlen] at c_16; exact absurd c_16 (Nat.lt_irrefl _)
    refine j_iload_n (pc := 54) hX dX2_referencesFor_54 rfl rfl ?_
    exact j_iret hX hQ hr dX2_referencesFor_55 ⟨_, rfl, congrArg nI law, eH⟩
  · have hbk := h.ext hC (eH)
    obtain ⟨rm, hrm⟩ : ∃ rm, rm = 1 * ((bL b).length - (i + 1)) := ⟨_, rfl⟩
    rw [← hrm] at ih
    obtain ⟨R, hR⟩ : ∃ R, R = rm + 1 := ⟨_, rfl⟩
    rw [show 1 * ((bL b).length - i) = R from by omega]
    first | refine j_aload_n (pc := 10) hX dX2_referencesFor_10 rfl rfl ?_ | refine j_aload_nq (pc := 10) hX dX2_referencesFor_10 rfl rfl ?_
    refine j_run5e (pc := 11) (jr_F (pc := 11) hX kf_X2_43_12 hit.1.choose_spec.r (c_J10_hasNext _ _ _ r_6 (bg b 2) (bg b 3) _ hit hbk.A.1 (by rw [hlen]; omega)) (by decide) dX2_referencesFor_11 rfl rfl (Nat.le_of_ble_eq_true rfl)) ?_ jno_x
    refine j_if_eq (pc := 16) (tgt := 54) hX dX2_referencesFor_16 (by decide) (fun c_16 => ?_) (fun c_16 => ?_)
    · rw [jb_z, decide_eq_false_iff_not, hlen] at c_16; exact absurd hi c_16
    first | refine j_aload_n (pc := 19) hX dX2_referencesFor_19 rfl rfl ?_ | refine j_aload_nq (pc := 19) hX dX2_referencesFor_19 rfl rfl ?_
    refine j_run5a (pc := 20) (jr_F (pc := 20) hX kf_X2_49_12 hit.1.choose_spec.r (c_J10_next _ _ _ r_6 (bg b 2) (bg b 3) _ hit hbk.A.1 (by rw [hlen]; exact hi) hnq hna) (by decide) dX2_referencesFor_20 rfl rfl (Nat.le_of_ble_eq_true rfl)) (fun r_20 H_20 p_20 z_20 => ?_) jno_x
    obtain ⟨hr, wn, hin⟩ := p_20
    rw [getD_map hi] at hr
    subst hr
    have eN := eH.put wn hz
    have hbn := h.ext hC (eN)
    have hx := (hbn.X.1 _ (getD_mem hi)).1
    have hoB := hbn.B.1
    refine j_ccast (pc := 25) hX kc_X2_63 dX2_referencesFor_25 hx.r ?_
    first | refine j_astore (pc := 28) hX dX2_referencesFor_28 (by decide) rfl ?_ | refine j_astoreN (pc := 28) hX dX2_referencesFor_28 (by decide) rfl ?_ | refine j_astoreq (pc := 28) hX dX2_referencesFor_28 (by decide) rfl ?_
    refine j_iload_n (pc := 30) hX dX2_referencesFor_30 rfl rfl ?_
    first | refine j_aload_n (pc := 31) hX dX2_referencesFor_31 rfl rfl ?_ | refine j_aload_nq (pc := 31) hX dX2_referencesFor_31 rfl rfl ?_
    first | refine j_aload (pc := 32) hX dX2_referencesFor_32 rfl ?_ | refine j_aloadq (pc := 32) hX dX2_referencesFor_32 rfl ?_
    refine j_get (pc := 34) hX kg_X2_91 dX2_referencesFor_34 hx.r (by rfl) ?_
    refine j_iload_n (pc := 37) hX dX2_referencesFor_37 rfl rfl ?_
    subst hR
    refine j_runi (pc := 38) (jr_V (pc := 38) hX kv_X2_94 (by first | assumption | exact jow.r (by assumption)) (c_X2_hasReference _ _ _ hbn hB ((bL b).getD i 0) j (getD_mem hi) hj) (by decide) dX2_referencesFor_38 rfl rfl (Nat.le_of_ble_eq_true rfl)) (fun r_38 H_38 p_38 z_38 => ?_) jno_x
    obtain ⟨rfl, e38⟩ := p_38
    have eN := eN.trans e38
    have hin := hin_ext hin e38
    refine j_if_eq (pc := 41) (tgt := 48) hX dX2_referencesFor_41 (by decide) (fun c_41 => ?_) (fun c_41 => ?_)
    · rw [jb_z] at c_41
      refine j_iconst (pc := 48) (v := 0) hX dX2_referencesFor_48 (by decide) ?_
      refine j_iadd (pc := 49) hX dX2_referencesFor_49 ?_
      refine j_istore_n (pc := 50) hX dX2_referencesFor_50 rfl (by decide) rfl ?_
      refine j_goto (pc := 51) (tgt := 10) hX dX2_referencesFor_51 (by decide) ?_
      exact j_lv (by simp [jsb, jget, jval, jfold_succ, lfN_s, nI_1, -List.getD_eq_getElem?_getD, c_41, nI_add]) (ih _ eN hin)
    · rw [jb_n] at c_41
      refine j_iconst (pc := 44) (v := 1) hX dX2_referencesFor_44 (by decide) ?_
      refine j_goto (pc := 45) (tgt := 49) hX dX2_referencesFor_45 (by decide) ?_
      refine j_iadd (pc := 49) hX dX2_referencesFor_49 ?_
      refine j_istore_n (pc := 50) hX dX2_referencesFor_50 rfl (by decide) rfl ?_
      refine j_goto (pc := 51) (tgt := 10) hX dX2_referencesFor_51 (by decide) ?_
      exact j_lv (by simp [jsb, jget, jval, jfold_succ, lfN_s, nI_1, -List.getD_eq_getElem?_getD, c_41, nI_add]) (ih _ eN hin)
theorem c_X2_referencesFrom (l : Launch) (G : JG) (H : Heap) {n0 : Nat} {b : BG} {s : Nat → Nat} (h : jbd G H n0 b s) (hW : WFs s) (hB : Bs s) (j : Nat) (hj : j ∈ bL b) : JMet l yX2_referencesFrom (ws_ yX2_referencesFrom cX2_referencesFrom 5 (some .int)) 8 11 G H [.ref (bg b 0), .int (idI s j)] (jpi (fun r H1 => r = nI (jfold (refFromF s j) 10 0) ∧ JExt H H1)) (jno) := by
  refine JMet.of [(0, .inr (some (bg b 0))), (1, .inl (.int (idI s j)))] (by decide) (Nat.le_of_ble_eq_true rfl) rfl (fun X hl hX hQ hEx hr hnm hH => ?_)
  subst hl
  have hC := hX.C
  have hoB := h.B.1
  have hl10 := h.S.len
  have law := refFrom_law h.S j (fun i hi hz => (hW.2.2.2.2.2.1 i hi hz).2.2.2.2)
  refine j_iconst (pc := 0) (v := 0) hX dX2_referencesFrom_0 (by decide) ?_
  refine j_istore_n (pc := 1) hX dX2_referencesFrom_1 rfl (by decide) rfl ?_
  first | refine j_aload_n (pc := 2) hX dX2_referencesFrom_2 rfl rfl ?_ | refine j_aload_nq (pc := 2) hX dX2_referencesFrom_2 rfl rfl ?_
  refine j_get (pc := 3) hX kg_X2_21 dX2_referencesFrom_3 (by first | assumption | exact jow.r (by assumption)) (by rfl) ?_
  change JW X G H (10 + 1) 6 _ _
  refine j_runa (pc := 6) (jr_V (pc := 6) hX kv_X2_39 h.A.1.1.r (c_J4_iterator _ _ _ (bg b 2) (bg b 3) h.A.1) (by decide) dX2_referencesFrom_6 rfl rfl (Nat.le_of_ble_eq_true rfl)) (fun r_6 H_6 p_6 z_6 => ?_) jno_x
  obtain ⟨hz, hit0, e0⟩ := p_6
  first | refine j_astore_n (pc := 9) hX dX2_referencesFrom_9 rfl (by decide) rfl ?_ | refine j_astore_nN (pc := 9) hX dX2_referencesFrom_9 rfl (by decide) rfl ?_ | refine j_astore_nq (pc := 9) hX dX2_referencesFrom_9 rfl (by decide) rfl ?_
  skip
  refine j_weak (show 1 * ((bL b).length - 0) ≤ 10 by omega) ?_
  have hlen : ((bL b).map (bap b)).length = (bL b).length := by simp
  have hnq : (bg b 2) ≠ r_6 := Nat.ne_of_lt (Nat.lt_of_lt_of_le h.ltA hz)
  have hna : (bg b 3) ≠ r_6 := Nat.ne_of_lt (Nat.lt_of_lt_of_le (h.ltA2 hC) hz)
  refine j_lv (by simp [jsb, jget, jval, lfN_0, nI_0, jfold]) (jloop (P := fun i => ∀ Hk : Heap, JExt H Hk → itA G Hk r_6 (bg b 2) i (bmc b 0) → JW X G Hk (1 * ((bL b).length - i)) 10 [(0, .inr (some (bg b 0))), (1, .inl (.int (idI s j))), (2, .inl (.int (nI (lfN (bL b) (fun i => if (aGv s i).testBit j then 1 else 0) i)))), (3, .inr (some r_6))] []) (bL b).length (fun Hk eH hit => ?_) (fun i hi ih Hk eH hit => ?_) 0 (Nat.zero_le _) H_6 e0 hit0)
  · have hbk := h.ext hC (eH)
    have hoB := hbk.B.1
    obtain ⟨R0, hR0⟩ : ∃ R, R = 1 * ((bL b).length - (bL b).length) := ⟨_, rfl⟩
    rw [← hR0]
    first | refine j_aload_n (pc := 10) hX dX2_referencesFrom_10 rfl rfl ?_ | refine j_aload_nq (pc := 10) hX dX2_referencesFrom_10 rfl rfl ?_
    refine j_run5e (pc := 11) (jr_F (pc := 11) hX kf_X2_43_12 hit.1.choose_spec.r (c_J10_hasNext _ _ _ r_6 (bg b 2) (bg b 3) _ hit hbk.A.1 (by rw [hlen]; exact Nat.le_refl _)) (by decide) dX2_referencesFrom_11 rfl rfl (Nat.le_of_ble_eq_true rfl)) ?_ jno_x
    refine j_if_eq (pc := 16) (tgt := 54) hX dX2_referencesFrom_16 (by decide) (fun c_16 => ?_) (fun c_16 => ?_)
    rotate_left
    · rw [jb_n, decide_eq_true_eq, hlen] at c_16; exact absurd c_16 (Nat.lt_irrefl _)
    refine j_iload_n (pc := 54) hX dX2_referencesFrom_54 rfl rfl ?_
    exact j_iret hX hQ hr dX2_referencesFrom_55 ⟨_, rfl, congrArg nI law, eH⟩
  · have hbk := h.ext hC (eH)
    obtain ⟨rm, hrm⟩ : ∃ rm, rm = 1 * ((bL b).length - (i + 1)) := ⟨_, rfl⟩
    rw [← hrm] at ih
    obtain ⟨R, hR⟩ : ∃ R, R = rm + 1 := ⟨_, rfl⟩
    rw [show 1 * ((bL b).length - i) = R from by omega]
    first | refine j_aload_n (pc := 10) hX dX2_referencesFrom_10 rfl rfl ?_ | refine j_aload_nq (pc := 10) hX dX2_referencesFrom_10 rfl rfl ?_
    refine j_run5e (pc := 11) (jr_F (pc := 11) hX kf_X2_43_12 hit.1.choose_spec.r (c_J10_hasNext _ _ _ r_6 (bg b 2) (bg b 3) _ hit hbk.A.1 (by rw [hlen]; omega)) (by decide) dX2_referencesFrom_11 rfl rfl (Nat.le_of_ble_eq_true rfl)) ?_ jno_x
    refine j_if_eq (pc := 16) (tgt := 54) hX dX2_referencesFrom_16 (by decide) (fun c_16 => ?_) (fun c_16 => ?_)
    · rw [jb_z, decide_eq_false_iff_not, hlen] at c_16; exact absurd hi c_16
    first | refine j_aload_n (pc := 19) hX dX2_referencesFrom_19 rfl rfl ?_ | refine j_aload_nq (pc := 19) hX dX2_referencesFrom_19 rfl rfl ?_
    refine j_run5a (pc := 20) (jr_F (pc := 20) hX kf_X2_49_12 hit.1.choose_spec.r (c_J10_next _ _ _ r_6 (bg b 2) (bg b 3) _ hit hbk.A.1 (by rw [hlen]; exact hi) hnq hna) (by decide) dX2_referencesFrom_20 rfl rfl (Nat.le_of_ble_eq_true rfl)) (fun r_20 H_20 p_20 z_20 => ?_) jno_x
    obtain ⟨hr, wn, hin⟩ := p_20
    rw [getD_map hi] at hr
    subst hr
    have eN := eH.put wn hz
    have hbn := h.ext hC (eN)
    have hx := (hbn.X.1 _ (getD_mem hi)).1
    have hoB := hbn.B.1
    refine j_ccast (pc := 25) hX kc_X2_63 dX2_referencesFrom_25 hx.r ?_
    first | refine j_astore (pc := 28) hX dX2_referencesFrom_28 (by decide) rfl ?_ | refine j_astoreN (pc := 28) hX dX2_referencesFrom_28 (by decide) rfl ?_ | refine j_astoreq (pc := 28) hX dX2_referencesFrom_28 (by decide) rfl ?_
    refine j_iload_n (pc := 30) hX dX2_referencesFrom_30 rfl rfl ?_
    first | refine j_aload_n (pc := 31) hX dX2_referencesFrom_31 rfl rfl ?_ | refine j_aload_nq (pc := 31) hX dX2_referencesFrom_31 rfl rfl ?_
    refine j_iload_n (pc := 32) hX dX2_referencesFrom_32 rfl rfl ?_
    first | refine j_aload (pc := 33) hX dX2_referencesFrom_33 rfl ?_ | refine j_aloadq (pc := 33) hX dX2_referencesFrom_33 rfl ?_
    refine j_get (pc := 35) hX kg_X2_91 dX2_referencesFrom_35 hx.r (by rfl) ?_
    subst hR
    refine j_runi (pc := 38) (jr_V (pc := 38) hX kv_X2_94 (by first | assumption | exact jow.r (by assumption)) (c_X2_hasReference _ _ _ hbn hB j ((bL b).getD i 0) hj (getD_mem hi)) (by decide) dX2_referencesFrom_38 rfl rfl (Nat.le_of_ble_eq_true rfl)) (fun r_38 H_38 p_38 z_38 => ?_) jno_x
    obtain ⟨rfl, e38⟩ := p_38
    have eN := eN.trans e38
    have hin := hin_ext hin e38
    refine j_if_eq (pc := 41) (tgt := 48) hX dX2_referencesFrom_41 (by decide) (fun c_41 => ?_) (fun c_41 => ?_)
    · rw [jb_z] at c_41
      refine j_iconst (pc := 48) (v := 0) hX dX2_referencesFrom_48 (by decide) ?_
      refine j_iadd (pc := 49) hX dX2_referencesFrom_49 ?_
      refine j_istore_n (pc := 50) hX dX2_referencesFrom_50 rfl (by decide) rfl ?_
      refine j_goto (pc := 51) (tgt := 10) hX dX2_referencesFrom_51 (by decide) ?_
      exact j_lv (by simp [jsb, jget, jval, jfold_succ, lfN_s, nI_1, -List.getD_eq_getElem?_getD, c_41, nI_add]) (ih _ eN hin)
    · rw [jb_n] at c_41
      refine j_iconst (pc := 44) (v := 1) hX dX2_referencesFrom_44 (by decide) ?_
      refine j_goto (pc := 45) (tgt := 49) hX dX2_referencesFrom_45 (by decide) ?_
      refine j_iadd (pc := 49) hX dX2_referencesFrom_49 ?_
      refine j_istore_n (pc := 50) hX dX2_referencesFrom_50 rfl (by decide) rfl ?_
      refine j_goto (pc := 51) (tgt := 10) hX dX2_referencesFrom_51 (by decide) ?_
      exact j_lv (by simp [jsb, jget, jval, jfold_succ, lfN_s, nI_1, -List.getD_eq_getElem?_getD, c_41, nI_add]) (ih _ eN hin)
theorem pts_b {s : Nat → Nat} (hW : WFs s) {k : Nat} (hk : k < 10) : -50 ≤ ptsN s k ∧ ptsN s k ≤ 200 := by
  have h1 := hW.2.2.2.1 k hk
  have h2 := bitN_le (aGv s k)
  unfold ptsN
  omega
theorem pts_i {s : Nat → Nat} {k : Nat} : nI (aWh s k) - nI (aRn s k) + 10 * nI (bitN (aGv s k)) = zI (ptsN s k) := by
  rw [nI_zI, nI_zI, nI_zI, zI_sub, show (10 : Int32) = zI 10 from rfl, zI_mul, zI_add]; rfl
theorem c_X2_score (l : Launch) (G : JG) (H : Heap) {n0 : Nat} {b : BG} {s : Nat → Nat} (h : jbd G H n0 b s) (hW : WFs s) (hB : Bs s) (k : Nat) (hk : k ∈ bL b) : JMet l yX2_score (ws_ yX2_score cX2_score 2 (some .int)) 9 11 G H [.ref (bg b 0), .ref (bap b k)] (jpi (fun r H1 => r = zI (ptsN s k) ∧ JExt H H1)) (jno) := by
  refine JMet.of [(0, .inr (some (bg b 0))), (1, .inr (some (bap b k)))] (by decide) (Nat.le_of_ble_eq_true rfl) rfl (fun X hl hX hQ hEx hr hnm hH => ?_)
  subst hl
  have hoB := h.B.1
  have hx := (h.X.1 k hk).1
  first | refine j_aload_n (pc := 0) hX dX2_score_0 rfl rfl ?_ | refine j_aload_nq (pc := 0) hX dX2_score_0 rfl rfl ?_
  refine j_get (pc := 1) hX kg_X2_158 dX2_score_1 hx.r (by rfl) ?_
  first | refine j_aload_n (pc := 4) hX dX2_score_4 rfl rfl ?_ | refine j_aload_nq (pc := 4) hX dX2_score_4 rfl rfl ?_
  refine j_get (pc := 5) hX kg_X2_161 dX2_score_5 hx.r (by rfl) ?_
  refine j_isub (pc := 8) hX dX2_score_8 ?_
  refine j_bipush (pc := 9) (v := 10) hX dX2_score_9 (by decide) ?_
  first | refine j_aload_n (pc := 11) hX dX2_score_11 rfl rfl ?_ | refine j_aload_nq (pc := 11) hX dX2_score_11 rfl rfl ?_
  first | refine j_aload_n (pc := 12) hX dX2_score_12 rfl rfl ?_ | refine j_aload_nq (pc := 12) hX dX2_score_12 rfl rfl ?_
  refine j_get (pc := 13) hX kg_X2_91 dX2_score_13 hx.r (by rfl) ?_
  change JW X G H (0 + 11) 16 _ _
  refine j_runi (pc := 16) (jr_V (pc := 16) hX kv_X2_154 (by first | assumption | exact jow.r (by assumption)) (c_X2_referencesFor _ _ _ h hW hB k hk) (by decide) dX2_score_16 rfl rfl (Nat.le_of_ble_eq_true rfl)) (fun r_16 H_16 p_16 z_16 => ?_) jno_x
  obtain ⟨rfl, e16⟩ := p_16
  refine j_imul (pc := 19) hX dX2_score_19 ?_
  refine j_iadd (pc := 20) hX dX2_score_20 ?_
  exact j_iret hX hQ hr dX2_score_21 ⟨_, rfl, pts_i, e16⟩
theorem c_X2_isBetter (l : Launch) (G : JG) (H : Heap) {n0 : Nat} {b : BG} {s : Nat → Nat} (h : jbd G H n0 b s) (hW : WFs s) (hB : Bs s) (i j : Nat) (hi : i ∈ bL b) (hj : j ∈ bL b) : JMet l yX2_isBetter (ws_ yX2_isBetter cX2_isBetter 4 (some .boolean)) 10 22 G H [.ref (bg b 0), .ref (bap b i), .ref (bap b j)] (jpi (fun r H1 => r = jb (betN s i j) ∧ JExt H H1)) (jno) := by
  refine JMet.of [(0, .inr (some (bg b 0))), (1, .inr (some (bap b i))), (2, .inr (some (bap b j)))] (by decide) (Nat.le_of_ble_eq_true rfl) rfl (fun X hl hX hQ hEx hr hnm hH => ?_)
  subst hl
  have hoB := h.B.1
  obtain ⟨p1, p2⟩ := pts_b hW (h.S.lt hi).1
  obtain ⟨p3, p4⟩ := pts_b hW (h.S.lt hj).1
  have li : aId s i < 2 ^ 24 := hB.lt (by have := (h.S.lt hi).1; omega)
  have lj : aId s j < 2 ^ 24 := hB.lt (by have := (h.S.lt hj).1; omega)
  have i0 := (h.S.lt hi).2
  have j0 := (h.S.lt hj).2
  have hid : idI s j ≤ idI s i ↔ ¬ aId s i < aId s j := by
    unfold idI
    obtain ⟨m, hm⟩ : ∃ m, aId s i = m + 1 := ⟨aId s i - 1, by omega⟩
    obtain ⟨n, hn⟩ : ∃ n, aId s j = n + 1 := ⟨aId s j - 1, by omega⟩
    rw [hm, hn, nI_pred, nI_pred, nI_leI (by omega) (by omega)]; omega
  have c0 : (0 : Int32) < zI (ptsN s i) - zI (ptsN s j) ↔ ptsN s j < ptsN s i := by rw [zI_sub, zI_0, zI_lt (by omega) (by omega)]; omega
  have c1 : zI (ptsN s i) - zI (ptsN s j) = 0 ↔ ptsN s i = ptsN s j := by rw [zI_sub, zI_0, zI_inj (by omega) (by omega)]; omega
  first | refine j_aload_n (pc := 0) hX dX2_isBetter_0 rfl rfl ?_ | refine j_aload_nq (pc := 0) hX dX2_isBetter_0 rfl rfl ?_
  first | refine j_aload_n (pc := 1) hX dX2_isBetter_1 rfl rfl ?_ | refine j_aload_nq (pc := 1) hX dX2_isBetter_1 rfl rfl ?_
  change JW X G H (11 + 11) 2 _ _
  refine j_runi (pc := 2) (jr_V (pc := 2) hX kv_X2_164 (by first | assumption | exact jow.r (by assumption)) (c_X2_score _ _ _ h hW hB i hi) (by decide) dX2_isBetter_2 rfl rfl (Nat.le_of_ble_eq_true rfl)) (fun r_2 H_2 p_2 z_2 => ?_) jno_x
  obtain ⟨rfl, e2⟩ := p_2
  have h2 := h.ext hX.C e2
  have hoB := h2.B.1
  first | refine j_aload_n (pc := 5) hX dX2_isBetter_5 rfl rfl ?_ | refine j_aload_nq (pc := 5) hX dX2_isBetter_5 rfl rfl ?_
  first | refine j_aload_n (pc := 6) hX dX2_isBetter_6 rfl rfl ?_ | refine j_aload_nq (pc := 6) hX dX2_isBetter_6 rfl rfl ?_
  change JW X G H_2 (0 + 11) 7 _ _
  refine j_runi (pc := 7) (jr_V (pc := 7) hX kv_X2_164 (by first | assumption | exact jow.r (by assumption)) (c_X2_score _ _ _ h2 hW hB j hj) (by decide) dX2_isBetter_7 rfl rfl (Nat.le_of_ble_eq_true rfl)) (fun r_7 H_7 p_7 z_7 => ?_) jno_x
  obtain ⟨rfl, e7⟩ := p_7
  have h3 := h2.ext hX.C e7
  have hxi := (h3.X.1 i hi).1
  have hxj := (h3.X.1 j hj).1
  refine j_isub (pc := 10) hX dX2_isBetter_10 ?_
  refine j_istore_n (pc := 11) hX dX2_isBetter_11 rfl (by decide) rfl ?_
  refine j_iload_n (pc := 12) hX dX2_isBetter_12 rfl rfl ?_
  refine j_if_gt (pc := 13) (tgt := 31) hX dX2_isBetter_13 (by decide) (fun c_13 => ?_) (fun c_13 => ?_)
  · rw [c0] at c_13
    refine j_iconst (pc := 31) (v := 1) hX dX2_isBetter_31 (by decide) ?_
    refine j_goto (pc := 32) (tgt := 36) hX dX2_isBetter_32 (by decide) ?_
    exact j_zret hX hQ hr (by first | rfl | exact jb_nar _ | exact nI_narC _ | assumption) dX2_isBetter_36 ⟨_, rfl, by unfold betN; simp [jb, c_13], e2.trans e7⟩
  · rw [c0] at c_13
    refine j_iload_n (pc := 16) hX dX2_isBetter_16 rfl rfl ?_
    refine j_if_ne (pc := 17) (tgt := 35) hX dX2_isBetter_17 (by decide) (fun c_17 => ?_) (fun c_17 => ?_)
    · rw [c1] at c_17
      refine j_iconst (pc := 35) (v := 0) hX dX2_isBetter_35 (by decide) ?_
      exact j_zret hX hQ hr (by first | rfl | exact jb_nar _ | exact nI_narC _ | assumption) dX2_isBetter_36 ⟨_, rfl, by unfold betN; simp [jb, c_13, c_17], e2.trans e7⟩
    · rw [c1] at c_17
      first | refine j_aload_n (pc := 20) hX dX2_isBetter_20 rfl rfl ?_ | refine j_aload_nq (pc := 20) hX dX2_isBetter_20 rfl rfl ?_
      refine j_get (pc := 21) hX kg_X2_91 dX2_isBetter_21 hxi.r (by rfl) ?_
      first | refine j_aload_n (pc := 24) hX dX2_isBetter_24 rfl rfl ?_ | refine j_aload_nq (pc := 24) hX dX2_isBetter_24 rfl rfl ?_
      refine j_get (pc := 25) hX kg_X2_91 dX2_isBetter_25 hxj.r (by rfl) ?_
      refine j_icmp_ge (pc := 28) (tgt := 35) hX dX2_isBetter_28 (by decide) (fun c_28 => ?_) (fun c_28 => ?_)
      · rw [hid] at c_28
        refine j_iconst (pc := 35) (v := 0) hX dX2_isBetter_35 (by decide) ?_
        exact j_zret hX hQ hr (by first | rfl | exact jb_nar _ | exact nI_narC _ | assumption) dX2_isBetter_36 ⟨_, rfl, by unfold betN; simp [jb, c_13, c_17, c_28], e2.trans e7⟩
      · rw [hid] at c_28
        refine j_iconst (pc := 31) (v := 1) hX dX2_isBetter_31 (by decide) ?_
        refine j_goto (pc := 32) (tgt := 36) hX dX2_isBetter_32 (by decide) ?_
        exact j_zret hX hQ hr (by first | rfl | exact jb_nar _ | exact nI_narC _ | assumption) dX2_isBetter_36 ⟨_, rfl, by unfold betN; simp [jb, c_13, c_17, c_28], e2.trans e7⟩
theorem c_X2_isPreferred (l : Launch) (G : JG) (H : Heap) {n0 : Nat} {b : BG} {s : Nat → Nat} (h : jbd G H n0 b s) (hB : Bs s) (p q : Nat) (hp : p < s 2) (hq : q < s 2) : JMet l yX2_isPreferred (ws_ yX2_isPreferred cX2_isPreferred 4 (some .boolean)) 5 0 G H [.ref (bg b 0), .ref (bpo b p), .ref (bpo b q)] (jpe H (jb (preN s p q))) (jno) := by
  refine JMet.of [(0, .inr (some (bg b 0))), (1, .inr (some (bpo b p))), (2, .inr (some (bpo b q)))] (by decide) (Nat.le_of_ble_eq_true rfl) rfl (fun X hl hX hQ hEx hr hnm hH => ?_)
  subst hl
  have hoB := h.B.1
  have h2 := hB.1
  have hxp := (h.Y.1 p hp).1
  have hxq := (h.Y.1 q hq).1
  have lp : pWg s p < 2 ^ 24 := hB.lt (by omega)
  have lq : pWg s q < 2 ^ 24 := hB.lt (by omega)
  have c0 : (0 : Int32) < nI (pWg s p) - nI (pWg s q) ↔ pWg s q < pWg s p := by rw [nI_zI, nI_zI, zI_sub, zI_0, zI_lt (by omega) (by omega)]; omega
  have c1 : nI (pWg s p) - nI (pWg s q) = 0 ↔ pWg s p = pWg s q := by rw [nI_zI, nI_zI, zI_sub, zI_0, zI_inj (by omega) (by omega)]; omega
  have c2 : nI q ≤ nI p ↔ ¬ p < q := by rw [nI_leI (by omega) (by omega)]; omega
  first | refine j_aload_n (pc := 0) hX dX2_isPreferred_0 rfl rfl ?_ | refine j_aload_nq (pc := 0) hX dX2_isPreferred_0 rfl rfl ?_
  refine j_get (pc := 1) hX kg_X2_168 dX2_isPreferred_1 hxp.r (by rfl) ?_
  first | refine j_aload_n (pc := 4) hX dX2_isPreferred_4 rfl rfl ?_ | refine j_aload_nq (pc := 4) hX dX2_isPreferred_4 rfl rfl ?_
  refine j_get (pc := 5) hX kg_X2_168 dX2_isPreferred_5 hxq.r (by rfl) ?_
  refine j_isub (pc := 8) hX dX2_isPreferred_8 ?_
  refine j_istore_n (pc := 9) hX dX2_isPreferred_9 rfl (by decide) rfl ?_
  refine j_iload_n (pc := 10) hX dX2_isPreferred_10 rfl rfl ?_
  refine j_if_gt (pc := 11) (tgt := 31) hX dX2_isPreferred_11 (by decide) (fun c_11 => ?_) (fun c_11 => ?_)
  · rw [c0] at c_11
    refine j_iconst (pc := 31) (v := 1) hX dX2_isPreferred_31 (by decide) ?_
    refine j_goto (pc := 32) (tgt := 36) hX dX2_isPreferred_32 (by decide) ?_
    exact j_zret hX hQ hr (by first | rfl | exact jb_nar _ | exact nI_narC _ | assumption) dX2_isPreferred_36 ⟨_, rfl, rfl, by unfold preN; simp [jb, c_11]⟩
  · rw [c0] at c_11
    refine j_iload_n (pc := 14) hX dX2_isPreferred_14 rfl rfl ?_
    refine j_if_ne (pc := 15) (tgt := 35) hX dX2_isPreferred_15 (by decide) (fun c_15 => ?_) (fun c_15 => ?_)
    · rw [c1] at c_15
      refine j_iconst (pc := 35) (v := 0) hX dX2_isPreferred_35 (by decide) ?_
      exact j_zret hX hQ hr (by first | rfl | exact jb_nar _ | exact nI_narC _ | assumption) dX2_isPreferred_36 ⟨_, rfl, rfl, by unfold preN; simp [jb, c_11, c_15]⟩
    · rw [c1] at c_15
      first | refine j_aload_n (pc := 18) hX dX2_isPreferred_18 rfl rfl ?_ | refine j_aload_nq (pc := 18) hX dX2_isPreferred_18 rfl rfl ?_
      first | refine j_aload_n (pc := 19) hX dX2_isPreferred_19 rfl rfl ?_ | refine j_aload_nq (pc := 19) hX dX2_isPreferred_19 rfl rfl ?_
      refine j_rune (pc := 20) (jr_V (pc := 20) hX kv_X2_79 (by first | assumption | exact jow.r (by assumption)) (c_X2_indexOf _ _ _ h h2 p hp) (by decide) dX2_isPreferred_20 rfl rfl (Nat.le_of_ble_eq_true rfl)) ?_ jno_x
      first | refine j_aload_n (pc := 23) hX dX2_isPreferred_23 rfl rfl ?_ | refine j_aload_nq (pc := 23) hX dX2_isPreferred_23 rfl rfl ?_
      first | refine j_aload_n (pc := 24) hX dX2_isPreferred_24 rfl rfl ?_ | refine j_aload_nq (pc := 24) hX dX2_isPreferred_24 rfl rfl ?_
      refine j_rune (pc := 25) (jr_V (pc := 25) hX kv_X2_79 (by first | assumption | exact jow.r (by assumption)) (c_X2_indexOf _ _ _ h h2 q hq) (by decide) dX2_isPreferred_25 rfl rfl (Nat.le_of_ble_eq_true rfl)) ?_ jno_x
      refine j_icmp_ge (pc := 28) (tgt := 35) hX dX2_isPreferred_28 (by decide) (fun c_28 => ?_) (fun c_28 => ?_)
      · rw [c2] at c_28
        refine j_iconst (pc := 35) (v := 0) hX dX2_isPreferred_35 (by decide) ?_
        exact j_zret hX hQ hr (by first | rfl | exact jb_nar _ | exact nI_narC _ | assumption) dX2_isPreferred_36 ⟨_, rfl, rfl, by unfold preN; simp [jb, c_11, c_15, c_28]⟩
      · rw [c2] at c_28
        refine j_iconst (pc := 31) (v := 1) hX dX2_isPreferred_31 (by decide) ?_
        refine j_goto (pc := 32) (tgt := 36) hX dX2_isPreferred_32 (by decide) ?_
        exact j_zret hX hQ hr (by first | rfl | exact jb_nar _ | exact nI_narC _ | assumption) dX2_isPreferred_36 ⟨_, rfl, rfl, by unfold preN; simp [jb, c_11, c_15, c_28]⟩
