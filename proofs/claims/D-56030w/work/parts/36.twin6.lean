/-! the reference: the last of its questions over the row of numbers -/
set_option maxRecDepth 100000
def refFromF (s : Nat → Nat) (k o a : Nat) : Nat := a + if (aGv s o).testBit k then 1 else 0
def refFromQ (s : Nat → Nat) (x : Int32) : Nat × Int32 := match slotN s x with | none => (1, 0) | some k => (0, nI (jfold (refFromF s k) 10 0))
theorem c_X3_referencesFrom (l : Launch) (G : JG) (H : Heap) {g : Nat → Nat} {ar : Nat → Nat → Nat} {cm fs : Nat → Int32} (hT : jtw G H g ar cm fs) (hB : Bs (ar 0)) (x : Int32) : JMet l yX3_referencesFrom (ws_ yX3_referencesFrom cX3_referencesFrom 6 (some .int)) 3 0 G H [.ref (g 100), .int x] (twQ G H g ar cm fs (refFromQ (ar 0) x)) (jno) := by
  refine JMet.of [(0, .inr (some (g 100))), (1, .inl (.int x))] (by decide) (Nat.le_of_ble_eq_true rfl) rfl (fun X hl hX hQ hEx hr hnm hH => ?_)
  subst hl
  obtain ⟨h0, ho, hs, hbf, hsv, hpa, hou, hip, hcm⟩ := id hT
  have hi2 : vp_in (2 : Int32) 93 := vp_in_nI (n := 2) (by omega) (by decide)
  obtain ⟨h2, hb, hf, hg⟩ := id hB
  first | refine j_aload_n (pc := 0) hX dX3_referencesFrom_0 rfl rfl ?_ | refine j_aload_nq (pc := 0) hX dX3_referencesFrom_0 rfl rfl ?_
  refine j_iload_n (pc := 1) hX dX3_referencesFrom_1 rfl rfl ?_
  refine j_rune (pc := 2) (jr_V (pc := 2) hX kv_X3_103 (by first | assumption | exact jow.r (by assumption)) (c_X3_slotOf _ _ _ hT x) (by decide) dX3_referencesFrom_2 rfl rfl (Nat.le_of_ble_eq_true rfl)) ?_ jno_x
  refine j_istore_n (pc := 5) hX dX3_referencesFrom_5 rfl (by decide) rfl ?_
  refine j_iconst (pc := 6) (v := 0) hX dX3_referencesFrom_6 (by decide) ?_
  refine j_istore_n (pc := 7) hX dX3_referencesFrom_7 rfl (by decide) rfl ?_
  skip
  cases e : slotN (ar 0) x with
  | none =>
    have e10 : oI none < 0 := by decide
    first | refine j_aload_n (pc := 8) hX dX3_referencesFrom_8 rfl rfl ?_ | refine j_aload_nq (pc := 8) hX dX3_referencesFrom_8 rfl rfl ?_
    refine j_iload_n (pc := 9) hX dX3_referencesFrom_9 rfl rfl ?_
    refine j_if_lt (pc := 10) (tgt := 17) hX dX3_referencesFrom_10 (by decide) (fun c_10 => ?_) (fun c_10 => ?_)
    rotate_left
    · exact absurd e10 c_10
    refine j_iconst (pc := 17) (v := 0) hX dX3_referencesFrom_17 (by decide) ?_
    refine j_runi (pc := 18) (jr_V (pc := 18) hX kv_X3_119 (by first | assumption | exact jow.r (by assumption)) (c_X3_isThere _ _ _ hT _ rfl) (by decide) dX3_referencesFrom_18 rfl rfl (Nat.le_of_ble_eq_true rfl)) (fun r_18 H_18 p_18 z_18 => ?_) jno_x
    obtain ⟨⟨hF, hT⟩, rfl⟩ := p_18
    have ho := hT.2.1
    refine j_istore (pc := 21) hX dX3_referencesFrom_21 (by decide) rfl ?_
    refine j_iconst (pc := 23) (v := 0) hX dX3_referencesFrom_23 (by decide) ?_
    refine j_istore (pc := 24) hX dX3_referencesFrom_24 (by decide) rfl ?_
    refine j_iload (pc := 26) hX dX3_referencesFrom_26 rfl ?_
    refine j_bipush (pc := 28) (v := 10) hX dX3_referencesFrom_28 (by decide) ?_
    refine j_icmp_ge (pc := 30) (tgt := 58) hX dX3_referencesFrom_30 (by decide) (fun c_30 => ?_) (fun c_30 => ?_)
    · exact absurd c_30 (by decide)
    refine j_iload (pc := 33) hX dX3_referencesFrom_33 rfl ?_
    refine j_if_eq (pc := 35) (tgt := 58) hX dX3_referencesFrom_35 (by decide) (fun c_35 => ?_) (fun c_35 => ?_)
    rotate_left
    · first | exact absurd c_35 (by decide) | (change ¬ (0 : Int32) = 0 at c_35; exact absurd c_35 (by decide))
    refine j_iload_n (pc := 58) hX dX3_referencesFrom_58 rfl rfl ?_
    exact j_iret hX hQ hr dX3_referencesFrom_59 ⟨_, rfl, ⟨hF, by simpa [refFromQ, e, nI_l1] using hT⟩, by simp [refFromQ, e]⟩
  | some k =>
    have hk := slotN_lt e
    have e10 : ¬ oI (some k) < 0 := nI_pos (by omega)
    first | refine j_aload_n (pc := 8) hX dX3_referencesFrom_8 rfl rfl ?_ | refine j_aload_nq (pc := 8) hX dX3_referencesFrom_8 rfl rfl ?_
    refine j_iload_n (pc := 9) hX dX3_referencesFrom_9 rfl rfl ?_
    refine j_if_lt (pc := 10) (tgt := 17) hX dX3_referencesFrom_10 (by decide) (fun c_10 => ?_) (fun c_10 => ?_)
    · exact absurd c_10 e10
    refine j_iconst (pc := 13) (v := 1) hX dX3_referencesFrom_13 (by decide) ?_
    refine j_goto (pc := 14) (tgt := 18) hX dX3_referencesFrom_14 (by decide) ?_
    refine j_runi (pc := 18) (jr_V (pc := 18) hX kv_X3_119 (by first | assumption | exact jow.r (by assumption)) (c_X3_isThere _ _ _ hT _ rfl) (by decide) dX3_referencesFrom_18 rfl rfl (Nat.le_of_ble_eq_true rfl)) (fun r_18 H_18 p_18 z_18 => ?_) jno_x
    obtain ⟨⟨hF, hT⟩, rfl⟩ := p_18
    have ho := hT.2.1
    refine j_istore (pc := 21) hX dX3_referencesFrom_21 (by decide) rfl ?_
    refine j_iconst (pc := 23) (v := 0) hX dX3_referencesFrom_23 (by decide) ?_
    refine j_istore (pc := 24) hX dX3_referencesFrom_24 (by decide) rfl ?_
    skip
    refine jloop (P := fun i => JW X G H_18 0 26 [(0, .inr (some (g 100))), (1, .inl (.int x)), (2, .inl (.int (oI (some k)))), (3, .inl (.int (nI (jfold (refFromF (ar 0) k) i 0)))), (4, .inl (.int 1)), (5, .inl (.int (nI i)))] []) 10 ?_ (fun i hi ih => ?_) 0 (by omega)
    · refine j_iload (pc := 26) hX dX3_referencesFrom_26 rfl ?_
      refine j_bipush (pc := 28) (v := 10) hX dX3_referencesFrom_28 (by decide) ?_
      refine j_icmp_ge (pc := 30) (tgt := 58) hX dX3_referencesFrom_30 (by decide) (fun c_30 => ?_) (fun c_30 => ?_)
      rotate_left
      · exact absurd (jge_no (a := 10) c_30 (by omega) (by omega)) (by omega)
      refine j_iload_n (pc := 58) hX dX3_referencesFrom_58 rfl rfl ?_
      exact j_iret hX hQ hr dX3_referencesFrom_59 ⟨_, rfl, ⟨hF, by simpa [refFromQ, e, nI_0] using hT⟩, by simp [refFromQ, e]⟩
    · refine j_iload (pc := 26) hX dX3_referencesFrom_26 rfl ?_
      refine j_bipush (pc := 28) (v := 10) hX dX3_referencesFrom_28 (by decide) ?_
      refine j_icmp_ge (pc := 30) (tgt := 58) hX dX3_referencesFrom_30 (by decide) (fun c_30 => ?_) (fun c_30 => ?_)
      · exact absurd (jge_yes (a := 10) c_30 (by omega) (by omega)) (by omega)
      refine j_iload (pc := 33) hX dX3_referencesFrom_33 rfl ?_
      refine j_if_eq (pc := 35) (tgt := 58) hX dX3_referencesFrom_35 (by decide) (fun c_35 => ?_) (fun c_35 => ?_)
      · exact absurd c_35 (by decide)
      refine j_iload_n (pc := 38) hX dX3_referencesFrom_38 rfl rfl ?_
      first | refine j_aload_n (pc := 39) hX dX3_referencesFrom_39 rfl rfl ?_ | refine j_aload_nq (pc := 39) hX dX3_referencesFrom_39 rfl rfl ?_
      refine j_iload (pc := 40) hX dX3_referencesFrom_40 rfl ?_
      refine j_iconst (pc := 42) (v := 5) hX dX3_referencesFrom_42 (by decide) ?_
      refine j_rune (pc := 43) (jr_V (pc := 43) hX kv_X3_55 (by first | assumption | exact jow.r (by assumption)) (c_X3_of _ _ _ hT i 5 hi (by omega)) (by decide) dX3_referencesFrom_43 rfl rfl (Nat.le_of_ble_eq_true rfl)) ?_ jno_x
      refine j_iload_n (pc := 46) hX dX3_referencesFrom_46 rfl rfl ?_
      change JW X G H_18 0 47 _ [.int (nI k), .int (nI (ar 0 (3 + 6 * i + 5))), _]
      refine j_ishr (pc := 47) hX dX3_referencesFrom_47 ?_
      refine j_iconst (pc := 48) (v := 1) hX dX3_referencesFrom_48 (by decide) ?_
      refine j_iand (pc := 49) hX dX3_referencesFrom_49 ?_
      rw [nI_bit (bsL hb (by omega)) (by omega)]
      refine j_iadd (pc := 50) hX dX3_referencesFrom_50 ?_
      rw [nI_add]
      refine j_istore_n (pc := 51) hX dX3_referencesFrom_51 rfl (by decide) rfl ?_
      refine j_iincc (pc := 52) (m := 1) hX dX3_referencesFrom_52 rfl (by decide) (by decide) rfl ?_
      refine j_goto (pc := 55) (tgt := 26) hX dX3_referencesFrom_55 (by decide) ?_
      first | exact absurd rfl (by assumption) | exact absurd (by assumption) (by decide : ¬ (1 : Int32) = 0) | exact j_lv (by simp [jsb, jget, jval, jfold_succ, nI_1, refFromF, aGv, c_35]) ih
def blkF (s : Nat → Nat) (k p a : Nat) : Nat := a + if blkN s k p then 1 else 0
def blksF (s : Nat → Nat) (k a : Nat) : Nat := if usedN s k then jfold (blkF s k) (s 2) a else a
def blksN (s : Nat → Nat) : Nat := jfold (blksF s) 10 0
theorem blks_succ {s : Nat → Nat} {k : Nat} : jfold (blksF s) (k + 1) 0 = if usedN s k then jfold (blkF s k) (s 2) (jfold (blksF s) k 0) else jfold (blksF s) k 0 := rfl
theorem c_X3_blockingPairs (l : Launch) (G : JG) (H : Heap) {g : Nat → Nat} {ar : Nat → Nat → Nat} {cm fs : Nat → Int32} (hT : jtw G H g ar cm fs) (hB : Bs (ar 0)) : JMet l yX3_blockingPairs (ws_ yX3_blockingPairs cX3_blockingPairs 4 (some .int)) 5 0 G H [.ref (g 100)] (twQ G H g ar cm fs (0, nI (blksN (ar 0)))) (jno) := by
  refine JMet.of [(0, .inr (some (g 100)))] (by decide) (Nat.le_of_ble_eq_true rfl) rfl (fun X hl hX hQ hEx hr hnm hH => ?_)
  subst hl
  obtain ⟨h0, ho, hs, hbf, hsv, hpa, hou, hip, hcm⟩ := id hT
  have hi2 : vp_in (2 : Int32) 93 := vp_in_nI (n := 2) (by omega) (by decide)
  obtain ⟨h2, hb, hf, hg⟩ := id hB
  first | refine j_aload_n (pc := 0) hX dX3_blockingPairs_0 rfl rfl ?_ | refine j_aload_nq (pc := 0) hX dX3_blockingPairs_0 rfl rfl ?_
  refine j_iconst (pc := 1) (v := 0) hX dX3_blockingPairs_1 (by decide) ?_
  refine j_put (pc := 2) hX kp_X3_39 dX3_blockingPairs_2 (by assumption) (by first | assumption | omega | exact h0.1 _ (by decide)) rfl rfl rfl (fun H_2 w_2 n_2 => ?_)
  have hT := tw_put6 hT w_2 n_2
  have ho := hT.2.1
  have hF : JFr (twP g) H H_2 := w_2.fr ⟨100, by decide, rfl⟩
  obtain ⟨-, -, hs, -⟩ := id hT
  refine j_iconst (pc := 5) (v := 0) hX dX3_blockingPairs_5 (by decide) ?_
  refine j_istore_n (pc := 6) hX dX3_blockingPairs_6 rfl (by decide) rfl ?_
  refine j_iconst (pc := 7) (v := 0) hX dX3_blockingPairs_7 (by decide) ?_
  refine j_istore_n (pc := 8) hX dX3_blockingPairs_8 rfl (by decide) rfl ?_
  skip
  refine jloop (P := fun i => JW X G H_2 0 9 [(0, .inr (some (g 100))), (1, .inl (.int (nI (jfold (blksF (ar 0)) i 0)))), (2, .inl (.int (nI i)))] []) 10 ?_ (fun k hk ihk => ?_) 0 (by omega)
  · refine j_iload_n (pc := 9) hX dX3_blockingPairs_9 rfl rfl ?_
    refine j_bipush (pc := 10) (v := 10) hX dX3_blockingPairs_10 (by decide) ?_
    refine j_icmp_ge (pc := 12) (tgt := 64) hX dX3_blockingPairs_12 (by decide) (fun c_12 => ?_) (fun c_12 => ?_)
    rotate_left
    · exact absurd (jge_no (a := 10) c_12 (by omega) (by omega)) (by omega)
    refine j_iload_n (pc := 64) hX dX3_blockingPairs_64 rfl rfl ?_
    exact j_iret hX hQ hr dX3_blockingPairs_65 ⟨_, rfl, ⟨hF, hT⟩, fun _ => rfl⟩
  · refine j_iload_n (pc := 9) hX dX3_blockingPairs_9 rfl rfl ?_
    refine j_bipush (pc := 10) (v := 10) hX dX3_blockingPairs_10 (by decide) ?_
    refine j_icmp_ge (pc := 12) (tgt := 64) hX dX3_blockingPairs_12 (by decide) (fun c_12 => ?_) (fun c_12 => ?_)
    · exact absurd (jge_yes (a := 10) c_12 (by omega) (by omega)) (by omega)
    refine j_iconst (pc := 15) (v := 0) hX dX3_blockingPairs_15 (by decide) ?_
    refine j_istore_n (pc := 16) hX dX3_blockingPairs_16 rfl (by decide) rfl ?_
    skip
    cases e : usedN (ar 0) k with
    | true =>
      refine jloop (P := fun i => JW X G H_2 0 17 [(0, .inr (some (g 100))), (1, .inl (.int (nI (jfold (blkF (ar 0) k) i (jfold (blksF (ar 0)) k 0))))), (2, .inl (.int (nI k))), (3, .inl (.int (nI i)))] []) (ar 0 2) ?_ (fun i hi ih => ?_) 0 (by omega)
      · refine j_iload_n (pc := 17) hX dX3_blockingPairs_17 rfl rfl ?_
        first | refine j_aload_n (pc := 18) hX dX3_blockingPairs_18 rfl rfl ?_ | refine j_aload_nq (pc := 18) hX dX3_blockingPairs_18 rfl rfl ?_
        refine j_get (pc := 19) hX kg_X3_9 dX3_blockingPairs_19 (by first | assumption | exact jow.r (by assumption)) (by rfl) ?_
        refine j_iconst (pc := 22) (v := 2) hX dX3_blockingPairs_22 (by decide) ?_
        refine j_iald (pc := 23) hX dX3_blockingPairs_23 (by first | assumption | exact jaw.r hX (by decide) (by assumption)) (by assumption) ?_
        refine j_icmp_ge (pc := 24) (tgt := 58) hX dX3_blockingPairs_24 (by decide) (fun c_24 => ?_) (fun c_24 => ?_)
        rotate_left
        · exact absurd (jge_no (a := ar 0 2) c_24 (by omega) (by omega)) (by omega)
        refine j_iincc (pc := 58) (m := 1) hX dX3_blockingPairs_58 rfl (by decide) (by decide) rfl ?_
        refine j_goto (pc := 61) (tgt := 9) hX dX3_blockingPairs_61 (by decide) ?_
        exact j_lv (by simp [jsb, jget, jval, blks_succ, nI_1, e]) ihk
      · refine j_iload_n (pc := 17) hX dX3_blockingPairs_17 rfl rfl ?_
        first | refine j_aload_n (pc := 18) hX dX3_blockingPairs_18 rfl rfl ?_ | refine j_aload_nq (pc := 18) hX dX3_blockingPairs_18 rfl rfl ?_
        refine j_get (pc := 19) hX kg_X3_9 dX3_blockingPairs_19 (by first | assumption | exact jow.r (by assumption)) (by rfl) ?_
        refine j_iconst (pc := 22) (v := 2) hX dX3_blockingPairs_22 (by decide) ?_
        refine j_iald (pc := 23) hX dX3_blockingPairs_23 (by first | assumption | exact jaw.r hX (by decide) (by assumption)) (by assumption) ?_
        refine j_icmp_ge (pc := 24) (tgt := 58) hX dX3_blockingPairs_24 (by decide) (fun c_24 => ?_) (fun c_24 => ?_)
        · exact absurd (jge_yes (a := ar 0 2) c_24 (by omega) (by omega)) (by omega)
        first | refine j_aload_n (pc := 27) hX dX3_blockingPairs_27 rfl rfl ?_ | refine j_aload_nq (pc := 27) hX dX3_blockingPairs_27 rfl rfl ?_
        refine j_iload_n (pc := 28) hX dX3_blockingPairs_28 rfl rfl ?_
        refine j_rune (pc := 29) (jr_V (pc := 29) hX kv_X3_62 (by first | assumption | exact jow.r (by assumption)) (c_X3_isUsed _ _ _ hT (fun j hj => bsL hb hj) k hk) (by decide) dX3_blockingPairs_29 rfl rfl (Nat.le_of_ble_eq_true rfl)) ?_ jno_x
        refine j_if_eq (pc := 32) (tgt := 58) hX dX3_blockingPairs_32 (by decide) (fun c_32 => ?_) (fun c_32 => ?_)
        · exact absurd (show decide (0 < aId (ar 0) k) = true from e) (by rw [jb_z] at c_32; rw [c_32]; decide)
        refine j_iload_n (pc := 35) hX dX3_blockingPairs_35 rfl rfl ?_
        first | refine j_aload_n (pc := 36) hX dX3_blockingPairs_36 rfl rfl ?_ | refine j_aload_nq (pc := 36) hX dX3_blockingPairs_36 rfl rfl ?_
        refine j_iload_n (pc := 37) hX dX3_blockingPairs_37 rfl rfl ?_
        refine j_iload_n (pc := 38) hX dX3_blockingPairs_38 rfl rfl ?_
        refine j_rune (pc := 39) (jr_V (pc := 39) hX kv_X3_192 (by first | assumption | exact jow.r (by assumption)) (c_X3_isBlocking _ _ _ hT hB k i hk (by omega)) (by decide) dX3_blockingPairs_39 rfl rfl (Nat.le_of_ble_eq_true rfl)) ?_ jno_x
        refine j_if_eq (pc := 42) (tgt := 49) hX dX3_blockingPairs_42 (by decide) (fun c_42 => ?_) (fun c_42 => ?_)
        · rw [jb_z] at c_42
          refine j_iconst (pc := 49) (v := 0) hX dX3_blockingPairs_49 (by decide) ?_
          refine j_iadd (pc := 50) hX dX3_blockingPairs_50 ?_
          refine j_istore_n (pc := 51) hX dX3_blockingPairs_51 rfl (by decide) rfl ?_
          refine j_iincc (pc := 52) (m := 1) hX dX3_blockingPairs_52 rfl (by decide) (by decide) rfl ?_
          refine j_goto (pc := 55) (tgt := 17) hX dX3_blockingPairs_55 (by decide) ?_
          first | exact absurd rfl (by assumption) | exact absurd (by assumption) (by decide : ¬ (1 : Int32) = 0) | exact j_lv (by simp [jsb, jget, jval, jfold_succ, nI_1, blkF, c_32, c_42]) ih
        · rw [jb_n] at c_42
          refine j_iconst (pc := 45) (v := 1) hX dX3_blockingPairs_45 (by decide) ?_
          refine j_goto (pc := 46) (tgt := 50) hX dX3_blockingPairs_46 (by decide) ?_
          refine j_iadd (pc := 50) hX dX3_blockingPairs_50 ?_
          refine j_istore_n (pc := 51) hX dX3_blockingPairs_51 rfl (by decide) rfl ?_
          refine j_iincc (pc := 52) (m := 1) hX dX3_blockingPairs_52 rfl (by decide) (by decide) rfl ?_
          refine j_goto (pc := 55) (tgt := 17) hX dX3_blockingPairs_55 (by decide) ?_
          first | exact absurd rfl (by assumption) | exact absurd (by assumption) (by decide : ¬ (1 : Int32) = 0) | exact j_lv (by simp [jsb, jget, jval, jfold_succ, nI_1, blkF, c_32, c_42]) ih
    | false =>
      refine j_iload_n (pc := 17) hX dX3_blockingPairs_17 rfl rfl ?_
      first | refine j_aload_n (pc := 18) hX dX3_blockingPairs_18 rfl rfl ?_ | refine j_aload_nq (pc := 18) hX dX3_blockingPairs_18 rfl rfl ?_
      refine j_get (pc := 19) hX kg_X3_9 dX3_blockingPairs_19 (by first | assumption | exact jow.r (by assumption)) (by rfl) ?_
      refine j_iconst (pc := 22) (v := 2) hX dX3_blockingPairs_22 (by decide) ?_
      refine j_iald (pc := 23) hX dX3_blockingPairs_23 (by first | assumption | exact jaw.r hX (by decide) (by assumption)) (by assumption) ?_
      refine j_icmp_ge (pc := 24) (tgt := 58) hX dX3_blockingPairs_24 (by decide) (fun c_24 => ?_) (fun c_24 => ?_)
      · refine j_iincc (pc := 58) (m := 1) hX dX3_blockingPairs_58 rfl (by decide) (by decide) rfl ?_
        refine j_goto (pc := 61) (tgt := 9) hX dX3_blockingPairs_61 (by decide) ?_
        exact j_lv (by simp [jsb, jget, jval, blks_succ, nI_1, e]) ihk
      · first | refine j_aload_n (pc := 27) hX dX3_blockingPairs_27 rfl rfl ?_ | refine j_aload_nq (pc := 27) hX dX3_blockingPairs_27 rfl rfl ?_
        refine j_iload_n (pc := 28) hX dX3_blockingPairs_28 rfl rfl ?_
        refine j_rune (pc := 29) (jr_V (pc := 29) hX kv_X3_62 (by first | assumption | exact jow.r (by assumption)) (c_X3_isUsed _ _ _ hT (fun j hj => bsL hb hj) k hk) (by decide) dX3_blockingPairs_29 rfl rfl (Nat.le_of_ble_eq_true rfl)) ?_ jno_x
        refine j_if_eq (pc := 32) (tgt := 58) hX dX3_blockingPairs_32 (by decide) (fun c_32 => ?_) (fun c_32 => ?_)
        rotate_left
        · exact absurd (show decide (0 < aId (ar 0) k) = false from e) (by rw [jb_n] at c_32; rw [c_32]; decide)
        refine j_iincc (pc := 58) (m := 1) hX dX3_blockingPairs_58 rfl (by decide) (by decide) rfl ?_
        refine j_goto (pc := 61) (tgt := 9) hX dX3_blockingPairs_61 (by decide) ?_
        exact j_lv (by simp [jsb, jget, jval, blks_succ, nI_1, e]) ihk
theorem c_X3_blockingPairsByPreference (l : Launch) (G : JG) (H : Heap) {g : Nat → Nat} {ar : Nat → Nat → Nat} {cm fs : Nat → Int32} (hT : jtw G H g ar cm fs) (hB : Bs (ar 0)) : JMet l yX3_blockingPairsByPreference (ws_ yX3_blockingPairsByPreference cX3_blockingPairsByPreference 1 (some .int)) 6 0 G H [.ref (g 100)] (twQ G H g ar cm fs (0, nI (blksN (ar 0)))) (jno) := by
  refine JMet.of [(0, .inr (some (g 100)))] (by decide) (Nat.le_of_ble_eq_true rfl) rfl (fun X hl hX hQ hEx hr hnm hH => ?_)
  subst hl
  obtain ⟨h0, ho, hs, hbf, hsv, hpa, hou, hip, hcm⟩ := id hT
  have hi2 : vp_in (2 : Int32) 93 := vp_in_nI (n := 2) (by omega) (by decide)
  obtain ⟨h2, hb, hf, hg⟩ := id hB
  first | refine j_aload_n (pc := 0) hX dX3_blockingPairsByPreference_0 rfl rfl ?_ | refine j_aload_nq (pc := 0) hX dX3_blockingPairsByPreference_0 rfl rfl ?_
  refine j_runi (pc := 1) (jr_V (pc := 1) hX kv_X3_195 (by first | assumption | exact jow.r (by assumption)) (c_X3_blockingPairs _ _ _ hT hB) (by decide) dX3_blockingPairsByPreference_1 rfl rfl (Nat.le_of_ble_eq_true rfl)) (fun r_1 H_1 p_1 z_1 => ?_) jno_x
  exact j_iret hX hQ hr dX3_blockingPairsByPreference_4 ⟨_, rfl, p_1⟩
def untilQ (s : Nat → Nat) (x : Int32) : Nat × Int32 := match slotN s x with | none => (1, 0) | some k => match fillN s k with | none => (1, 0) | some p => if pHi s p < 50 then (0, nI (pHi s p) - nI (aRn s k) + 1) else (1, 0)
theorem c_X3_daysUntilDismissal (l : Launch) (G : JG) (H : Heap) {g : Nat → Nat} {ar : Nat → Nat → Nat} {cm fs : Nat → Int32} (hT : jtw G H g ar cm fs) (hB : Bs (ar 0)) (x : Int32) : JMet l yX3_daysUntilDismissal (ws_ yX3_daysUntilDismissal cX3_daysUntilDismissal 5 (some .int)) 3 0 G H [.ref (g 100), .int x] (twQ G H g ar cm fs (untilQ (ar 0) x)) (jno) := by
  refine JMet.of [(0, .inr (some (g 100))), (1, .inl (.int x))] (by decide) (Nat.le_of_ble_eq_true rfl) rfl (fun X hl hX hQ hEx hr hnm hH => ?_)
  subst hl
  obtain ⟨h0, ho, hs, hbf, hsv, hpa, hou, hip, hcm⟩ := id hT
  have hi2 : vp_in (2 : Int32) 93 := vp_in_nI (n := 2) (by omega) (by decide)
  obtain ⟨h2, hb, hf, hg⟩ := id hB
  first | refine j_aload_n (pc := 0) hX dX3_daysUntilDismissal_0 rfl rfl ?_ | refine j_aload_nq (pc := 0) hX dX3_daysUntilDismissal_0 rfl rfl ?_
  refine j_iload_n (pc := 1) hX dX3_daysUntilDismissal_1 rfl rfl ?_
  refine j_rune (pc := 2) (jr_V (pc := 2) hX kv_X3_103 (by first | assumption | exact jow.r (by assumption)) (c_X3_slotOf _ _ _ hT x) (by decide) dX3_daysUntilDismissal_2 rfl rfl (Nat.le_of_ble_eq_true rfl)) ?_ jno_x
  refine j_istore_n (pc := 5) hX dX3_daysUntilDismissal_5 rfl (by decide) rfl ?_
  refine j_iload_n (pc := 6) hX dX3_daysUntilDismissal_6 rfl rfl ?_
  refine j_if_ge (pc := 7) (tgt := 14) hX dX3_daysUntilDismissal_7 (by decide) (fun c_7 => ?_) (fun c_7 => ?_)
  · rw [oI_pos' (fun _ => slotN_lt) (by omega)] at c_7
    obtain ⟨k, c_7, hk⟩ := c_7
    first | refine j_aload_n (pc := 14) hX dX3_daysUntilDismissal_14 rfl rfl ?_ | refine j_aload_nq (pc := 14) hX dX3_daysUntilDismissal_14 rfl rfl ?_
    refine j_iload_n (pc := 15) hX dX3_daysUntilDismissal_15 rfl rfl ?_
    rw [oI_some c_7]
    refine j_rune (pc := 16) (jr_V (pc := 16) hX kv_X3_66 (by first | assumption | exact jow.r (by assumption)) (c_X3_filledWith _ _ _ hT hB k hk) (by decide) dX3_daysUntilDismissal_16 rfl rfl (Nat.le_of_ble_eq_true rfl)) ?_ jno_x
    refine j_istore_n (pc := 19) hX dX3_daysUntilDismissal_19 rfl (by decide) rfl ?_
    first | refine j_aload_n (pc := 20) hX dX3_daysUntilDismissal_20 rfl rfl ?_ | refine j_aload_nq (pc := 20) hX dX3_daysUntilDismissal_20 rfl rfl ?_
    refine j_iload_n (pc := 21) hX dX3_daysUntilDismissal_21 rfl rfl ?_
    refine j_if_lt (pc := 22) (tgt := 40) hX dX3_daysUntilDismissal_22 (by decide) (fun c_22 => ?_) (fun c_22 => ?_)
    · rw [oI_neg' (fun _ => fillN_lt) (by omega)] at c_22
      have c_33' := True.intro
      refine j_iconst (pc := 40) (v := 0) hX dX3_daysUntilDismissal_40 (by decide) ?_
      refine j_runi (pc := 41) (jr_V (pc := 41) hX kv_X3_119 (by first | assumption | exact jow.r (by assumption)) (c_X3_isThere _ _ _ hT _ rfl) (by decide) dX3_daysUntilDismissal_41 rfl rfl (Nat.le_of_ble_eq_true rfl)) (fun r_41 H_41 p_41 z_41 => ?_) jno_x
      obtain ⟨⟨hF, hT⟩, rfl⟩ := p_41
      have ho := hT.2.1
      refine j_istore (pc := 44) hX dX3_daysUntilDismissal_44 (by decide) rfl ?_
      refine j_iload (pc := 46) hX dX3_daysUntilDismissal_46 rfl ?_
      refine j_if_eq (pc := 48) (tgt := 69) hX dX3_daysUntilDismissal_48 (by decide) (fun c_48 => ?_) (fun c_48 => ?_)
      rotate_left
      · first | exact absurd c_48 (by decide) | (change ¬ (0 : Int32) = 0 at c_48; exact absurd c_48 (by decide))
      refine j_iconst (pc := 69) (v := 0) hX dX3_daysUntilDismissal_69 (by decide) ?_
      exact j_iret hX hQ hr dX3_daysUntilDismissal_70 ⟨_, rfl, ⟨hF, by simpa [untilQ, pHi, c_33', nI_0, nI_l1, c_7, c_22] using hT⟩, by simp [untilQ, pHi, aRn, c_33', c_7, c_22]⟩
    · rw [Int32.not_lt, oI_pos' (fun _ => fillN_lt) (by omega)] at c_22
      obtain ⟨p, c_22, hp⟩ := c_22
      first | refine j_aload_n (pc := 25) hX dX3_daysUntilDismissal_25 rfl rfl ?_ | refine j_aload_nq (pc := 25) hX dX3_daysUntilDismissal_25 rfl rfl ?_
      refine j_iload_n (pc := 26) hX dX3_daysUntilDismissal_26 rfl rfl ?_
      refine j_iconst (pc := 27) (v := 2) hX dX3_daysUntilDismissal_27 (by decide) ?_
      rw [oI_some c_22]
      refine j_rune (pc := 28) (jr_V (pc := 28) hX kv_X3_59 (by first | assumption | exact jow.r (by assumption)) (c_X3_ofPost _ _ _ hT p 2 (by omega) (by omega)) (by decide) dX3_daysUntilDismissal_28 rfl rfl (Nat.le_of_ble_eq_true rfl)) ?_ jno_x
      refine j_bipush (pc := 31) (v := 50) hX dX3_daysUntilDismissal_31 (by decide) ?_
      refine j_icmp_ge (pc := 33) (tgt := 40) hX dX3_daysUntilDismissal_33 (by decide) (fun c_33 => ?_) (fun c_33 => ?_)
      · rw [show (50 : Int32) = nI 50 from rfl, nI_leI (by omega) (bsL hb (by omega))] at c_33
        have c_33' : ¬ ar 0 (63 + 5 * p + 2) < 50 := by omega
        refine j_iconst (pc := 40) (v := 0) hX dX3_daysUntilDismissal_40 (by decide) ?_
        refine j_runi (pc := 41) (jr_V (pc := 41) hX kv_X3_119 (by first | assumption | exact jow.r (by assumption)) (c_X3_isThere _ _ _ hT _ rfl) (by decide) dX3_daysUntilDismissal_41 rfl rfl (Nat.le_of_ble_eq_true rfl)) (fun r_41 H_41 p_41 z_41 => ?_) jno_x
        obtain ⟨⟨hF, hT⟩, rfl⟩ := p_41
        have ho := hT.2.1
        refine j_istore (pc := 44) hX dX3_daysUntilDismissal_44 (by decide) rfl ?_
        refine j_iload (pc := 46) hX dX3_daysUntilDismissal_46 rfl ?_
        refine j_if_eq (pc := 48) (tgt := 69) hX dX3_daysUntilDismissal_48 (by decide) (fun c_48 => ?_) (fun c_48 => ?_)
        rotate_left
        · first | exact absurd c_48 (by decide) | (change ¬ (0 : Int32) = 0 at c_48; exact absurd c_48 (by decide))
        refine j_iconst (pc := 69) (v := 0) hX dX3_daysUntilDismissal_69 (by decide) ?_
        exact j_iret hX hQ hr dX3_daysUntilDismissal_70 ⟨_, rfl, ⟨hF, by simpa [untilQ, pHi, c_33', nI_0, nI_l1, c_7, c_22, c_33] using hT⟩, by simp [untilQ, pHi, aRn, c_33', c_7, c_22, c_33]⟩
      · rw [show (50 : Int32) = nI 50 from rfl, nI_leI (by omega) (bsL hb (by omega))] at c_33
        have c_33' : ar 0 (63 + 5 * p + 2) < 50 := by omega
        refine j_iconst (pc := 36) (v := 1) hX dX3_daysUntilDismissal_36 (by decide) ?_
        refine j_goto (pc := 37) (tgt := 41) hX dX3_daysUntilDismissal_37 (by decide) ?_
        refine j_runi (pc := 41) (jr_V (pc := 41) hX kv_X3_119 (by first | assumption | exact jow.r (by assumption)) (c_X3_isThere _ _ _ hT _ rfl) (by decide) dX3_daysUntilDismissal_41 rfl rfl (Nat.le_of_ble_eq_true rfl)) (fun r_41 H_41 p_41 z_41 => ?_) jno_x
        obtain ⟨⟨hF, hT⟩, rfl⟩ := p_41
        have ho := hT.2.1
        refine j_istore (pc := 44) hX dX3_daysUntilDismissal_44 (by decide) rfl ?_
        refine j_iload (pc := 46) hX dX3_daysUntilDismissal_46 rfl ?_
        refine j_if_eq (pc := 48) (tgt := 69) hX dX3_daysUntilDismissal_48 (by decide) (fun c_48 => ?_) (fun c_48 => ?_)
        · first | exact absurd c_48 (by decide) | (change (1 : Int32) = 0 at c_48; exact absurd c_48 (by decide))
        first | refine j_aload_n (pc := 51) hX dX3_daysUntilDismissal_51 rfl rfl ?_ | refine j_aload_nq (pc := 51) hX dX3_daysUntilDismissal_51 rfl rfl ?_
        refine j_iload_n (pc := 52) hX dX3_daysUntilDismissal_52 rfl rfl ?_
        refine j_iconst (pc := 53) (v := 2) hX dX3_daysUntilDismissal_53 (by decide) ?_
        refine j_rune (pc := 54) (jr_V (pc := 54) hX kv_X3_59 (by first | assumption | exact jow.r (by assumption)) (c_X3_ofPost _ _ _ hT p 2 (by omega) (by omega)) (by decide) dX3_daysUntilDismissal_54 rfl rfl (Nat.le_of_ble_eq_true rfl)) ?_ jno_x
        first | refine j_aload_n (pc := 57) hX dX3_daysUntilDismissal_57 rfl rfl ?_ | refine j_aload_nq (pc := 57) hX dX3_daysUntilDismissal_57 rfl rfl ?_
        refine j_iload_n (pc := 58) hX dX3_daysUntilDismissal_58 rfl rfl ?_
        refine j_iconst (pc := 59) (v := 3) hX dX3_daysUntilDismissal_59 (by decide) ?_
        refine j_rune (pc := 60) (jr_V (pc := 60) hX kv_X3_55 (by first | assumption | exact jow.r (by assumption)) (c_X3_of _ _ _ hT k 3 hk (by omega)) (by decide) dX3_daysUntilDismissal_60 rfl rfl (Nat.le_of_ble_eq_true rfl)) ?_ jno_x
        refine j_isub (pc := 63) hX dX3_daysUntilDismissal_63 ?_
        refine j_iconst (pc := 64) (v := 1) hX dX3_daysUntilDismissal_64 (by decide) ?_
        refine j_iadd (pc := 65) hX dX3_daysUntilDismissal_65 ?_
        refine j_goto (pc := 66) (tgt := 70) hX dX3_daysUntilDismissal_66 (by decide) ?_
        exact j_iret hX hQ hr dX3_daysUntilDismissal_70 ⟨_, rfl, ⟨hF, by simpa [untilQ, pHi, c_33', nI_0, nI_l1, c_7, c_22, c_33] using hT⟩, by simp [untilQ, pHi, aRn, c_33', c_7, c_22, c_33]⟩
  · rw [Int32.not_le, oI_neg' (fun _ => slotN_lt) (by omega)] at c_7
    have c_33' := True.intro
    refine j_iconst (pc := 10) (v := -1) hX dX3_daysUntilDismissal_10 (by decide) ?_
    refine j_goto (pc := 11) (tgt := 19) hX dX3_daysUntilDismissal_11 (by decide) ?_
    refine j_istore_n (pc := 19) hX dX3_daysUntilDismissal_19 rfl (by decide) rfl ?_
    first | refine j_aload_n (pc := 20) hX dX3_daysUntilDismissal_20 rfl rfl ?_ | refine j_aload_nq (pc := 20) hX dX3_daysUntilDismissal_20 rfl rfl ?_
    refine j_iload_n (pc := 21) hX dX3_daysUntilDismissal_21 rfl rfl ?_
    refine j_if_lt (pc := 22) (tgt := 40) hX dX3_daysUntilDismissal_22 (by decide) (fun c_22 => ?_) (fun c_22 => ?_)
    rotate_left
    · first | exact absurd c_22 (by decide) | (change ¬ (-1 : Int32) < 0 at c_22; exact absurd c_22 (by decide))
    refine j_iconst (pc := 40) (v := 0) hX dX3_daysUntilDismissal_40 (by decide) ?_
    refine j_runi (pc := 41) (jr_V (pc := 41) hX kv_X3_119 (by first | assumption | exact jow.r (by assumption)) (c_X3_isThere _ _ _ hT _ rfl) (by decide) dX3_daysUntilDismissal_41 rfl rfl (Nat.le_of_ble_eq_true rfl)) (fun r_41 H_41 p_41 z_41 => ?_) jno_x
    obtain ⟨⟨hF, hT⟩, rfl⟩ := p_41
    have ho := hT.2.1
    refine j_istore (pc := 44) hX dX3_daysUntilDismissal_44 (by decide) rfl ?_
    refine j_iload (pc := 46) hX dX3_daysUntilDismissal_46 rfl ?_
    refine j_if_eq (pc := 48) (tgt := 69) hX dX3_daysUntilDismissal_48 (by decide) (fun c_48 => ?_) (fun c_48 => ?_)
    rotate_left
    · first | exact absurd c_48 (by decide) | (change ¬ (0 : Int32) = 0 at c_48; exact absurd c_48 (by decide))
    refine j_iconst (pc := 69) (v := 0) hX dX3_daysUntilDismissal_69 (by decide) ?_
    exact j_iret hX hQ hr dX3_daysUntilDismissal_70 ⟨_, rfl, ⟨hF, by simpa [untilQ, pHi, c_33', nI_0, nI_l1, c_7] using hT⟩, by simp [untilQ, pHi, aRn, c_33', c_7]⟩
def wagF (s : Nat → Nat) (p a : Nat) : Nat := a + if 0 < pFl s p then pWg s p else 0
def wagN (s : Nat → Nat) : Nat := jfold (wagF s) (s 2) 0
theorem c_X3_dailyWages (l : Launch) (G : JG) (H : Heap) {g : Nat → Nat} {ar : Nat → Nat → Nat} {cm fs : Nat → Int32} (hT : jtw G H g ar cm fs) (hB : Bs (ar 0)) : JMet l yX3_dailyWages (ws_ yX3_dailyWages cX3_dailyWages 3 (some .int)) 3 0 G H [.ref (g 100)] (twQ G H g ar cm fs (0, nI (wagN (ar 0)))) (jno) := by
  refine JMet.of [(0, .inr (some (g 100)))] (by decide) (Nat.le_of_ble_eq_true rfl) rfl (fun X hl hX hQ hEx hr hnm hH => ?_)
  subst hl
  obtain ⟨h0, ho, hs, hbf, hsv, hpa, hou, hip, hcm⟩ := id hT
  have hi2 : vp_in (2 : Int32) 93 := vp_in_nI (n := 2) (by omega) (by decide)
  obtain ⟨h2, hb, hf, hg⟩ := id hB
  first | refine j_aload_n (pc := 0) hX dX3_dailyWages_0 rfl rfl ?_ | refine j_aload_nq (pc := 0) hX dX3_dailyWages_0 rfl rfl ?_
  refine j_iconst (pc := 1) (v := 0) hX dX3_dailyWages_1 (by decide) ?_
  refine j_put (pc := 2) hX kp_X3_39 dX3_dailyWages_2 (by assumption) (by first | assumption | omega | exact h0.1 _ (by decide)) rfl rfl rfl (fun H_2 w_2 n_2 => ?_)
  have hT := tw_put6 hT w_2 n_2
  have ho := hT.2.1
  have hF : JFr (twP g) H H_2 := w_2.fr ⟨100, by decide, rfl⟩
  obtain ⟨-, -, hs, -⟩ := id hT
  refine j_iconst (pc := 5) (v := 0) hX dX3_dailyWages_5 (by decide) ?_
  refine j_istore_n (pc := 6) hX dX3_dailyWages_6 rfl (by decide) rfl ?_
  refine j_iconst (pc := 7) (v := 0) hX dX3_dailyWages_7 (by decide) ?_
  refine j_istore_n (pc := 8) hX dX3_dailyWages_8 rfl (by decide) rfl ?_
  skip
  refine jloop (P := fun i => JW X G H_2 0 9 [(0, .inr (some (g 100))), (1, .inl (.int (nI (jfold (wagF (ar 0)) i 0)))), (2, .inl (.int (nI i)))] []) (ar 0 2) ?_ (fun i hi ih => ?_) 0 (by omega)
  · refine j_iload_n (pc := 9) hX dX3_dailyWages_9 rfl rfl ?_
    first | refine j_aload_n (pc := 10) hX dX3_dailyWages_10 rfl rfl ?_ | refine j_aload_nq (pc := 10) hX dX3_dailyWages_10 rfl rfl ?_
    refine j_get (pc := 11) hX kg_X3_9 dX3_dailyWages_11 (by first | assumption | exact jow.r (by assumption)) (by rfl) ?_
    refine j_iconst (pc := 14) (v := 2) hX dX3_dailyWages_14 (by decide) ?_
    refine j_iald (pc := 15) hX dX3_dailyWages_15 (by first | assumption | exact jaw.r hX (by decide) (by assumption)) (by assumption) ?_
    refine j_icmp_ge (pc := 16) (tgt := 47) hX dX3_dailyWages_16 (by decide) (fun c_16 => ?_) (fun c_16 => ?_)
    rotate_left
    · exact absurd (jge_no (a := ar 0 2) c_16 (by omega) (by omega)) (by omega)
    refine j_iload_n (pc := 47) hX dX3_dailyWages_47 rfl rfl ?_
    exact j_iret hX hQ hr dX3_dailyWages_48 ⟨_, rfl, ⟨hF, hT⟩, fun _ => rfl⟩
  · refine j_iload_n (pc := 9) hX dX3_dailyWages_9 rfl rfl ?_
    first | refine j_aload_n (pc := 10) hX dX3_dailyWages_10 rfl rfl ?_ | refine j_aload_nq (pc := 10) hX dX3_dailyWages_10 rfl rfl ?_
    refine j_get (pc := 11) hX kg_X3_9 dX3_dailyWages_11 (by first | assumption | exact jow.r (by assumption)) (by rfl) ?_
    refine j_iconst (pc := 14) (v := 2) hX dX3_dailyWages_14 (by decide) ?_
    refine j_iald (pc := 15) hX dX3_dailyWages_15 (by first | assumption | exact jaw.r hX (by decide) (by assumption)) (by assumption) ?_
    refine j_icmp_ge (pc := 16) (tgt := 47) hX dX3_dailyWages_16 (by decide) (fun c_16 => ?_) (fun c_16 => ?_)
    · exact absurd (jge_yes (a := ar 0 2) c_16 (by omega) (by omega)) (by omega)
    refine j_iload_n (pc := 19) hX dX3_dailyWages_19 rfl rfl ?_
    first | refine j_aload_n (pc := 20) hX dX3_dailyWages_20 rfl rfl ?_ | refine j_aload_nq (pc := 20) hX dX3_dailyWages_20 rfl rfl ?_
    refine j_iload_n (pc := 21) hX dX3_dailyWages_21 rfl rfl ?_
    refine j_iconst (pc := 22) (v := 4) hX dX3_dailyWages_22 (by decide) ?_
    refine j_rune (pc := 23) (jr_V (pc := 23) hX kv_X3_59 (by first | assumption | exact jow.r (by assumption)) (c_X3_ofPost _ _ _ hT i 4 (by omega) (by omega)) (by decide) dX3_dailyWages_23 rfl rfl (Nat.le_of_ble_eq_true rfl)) ?_ jno_x
    refine j_if_le (pc := 26) (tgt := 38) hX dX3_dailyWages_26 (by decide) (fun c_26 => ?_) (fun c_26 => ?_)
    · rw [show (0 : Int32) = nI 0 from rfl, nI_leI (bsL hb (by omega)) (by omega)] at c_26
      have c_26 : ¬ 0 < ar 0 (63 + 5 * i + 4) := by omega
      refine j_iconst (pc := 38) (v := 0) hX dX3_dailyWages_38 (by decide) ?_
      first | rw [nI_add] | skip
      refine j_iadd (pc := 39) hX dX3_dailyWages_39 ?_
      refine j_istore_n (pc := 40) hX dX3_dailyWages_40 rfl (by decide) rfl ?_
      refine j_iincc (pc := 41) (m := 1) hX dX3_dailyWages_41 rfl (by decide) (by decide) rfl ?_
      refine j_goto (pc := 44) (tgt := 9) hX dX3_dailyWages_44 (by decide) ?_
      first | exact absurd rfl (by assumption) | exact absurd (by assumption) (by decide : ¬ (1 : Int32) = 0) | exact j_lv (by simp [jsb, jget, jval, jfold_succ, nI_1, wagF, pFl, pWg, nI_add, c_26]) ih
    · rw [show (0 : Int32) = nI 0 from rfl, nI_leI (bsL hb (by omega)) (by omega)] at c_26
      have c_26 : 0 < ar 0 (63 + 5 * i + 4) := by omega
      first | refine j_aload_n (pc := 29) hX dX3_dailyWages_29 rfl rfl ?_ | refine j_aload_nq (pc := 29) hX dX3_dailyWages_29 rfl rfl ?_
      refine j_iload_n (pc := 30) hX dX3_dailyWages_30 rfl rfl ?_
      refine j_iconst (pc := 31) (v := 3) hX dX3_dailyWages_31 (by decide) ?_
      refine j_rune (pc := 32) (jr_V (pc := 32) hX kv_X3_59 (by first | assumption | exact jow.r (by assumption)) (c_X3_ofPost _ _ _ hT i 3 (by omega) (by omega)) (by decide) dX3_dailyWages_32 rfl rfl (Nat.le_of_ble_eq_true rfl)) ?_ jno_x
      refine j_goto (pc := 35) (tgt := 39) hX dX3_dailyWages_35 (by decide) ?_
      first | rw [nI_add] | skip
      refine j_iadd (pc := 39) hX dX3_dailyWages_39 ?_
      refine j_istore_n (pc := 40) hX dX3_dailyWages_40 rfl (by decide) rfl ?_
      refine j_iincc (pc := 41) (m := 1) hX dX3_dailyWages_41 rfl (by decide) (by decide) rfl ?_
      refine j_goto (pc := 44) (tgt := 9) hX dX3_dailyWages_44 (by decide) ?_
      first | exact absurd rfl (by assumption) | exact absurd (by assumption) (by decide : ¬ (1 : Int32) = 0) | exact j_lv (by simp [jsb, jget, jval, jfold_succ, nI_1, wagF, pFl, pWg, nI_add, c_26]) ih
theorem mean_ok {z : Int} (h1 : -500 ≤ z) (h2 : z < 1950) {n : Nat} (hn : 0 < n) (hn2 : n ≤ 10) : vf_n64 (FP.ddiv (FP.i2d (zI z)) (FP.i2d (nI n))) := by
  obtain ⟨k, hk⟩ : ∃ k : Nat, z = (k : Int) - 500 := ⟨(z + 500).toNat, by omega⟩
  have q := mean_0 (k / 50) (by omega) (k % 50) (by omega) (n - 1) (by omega)
  rw [Nat.div_add_mod, Nat.sub_add_cancel hn] at q
  rw [hk]; exact q
theorem nI_subN {a b : Nat} (h : b ≤ a) : nI a - nI b = nI (a - b) := by
  rw [nI_zI, nI_zI, nI_zI, zI_sub, Int.ofNat_sub h]
def sumF (s : Nat → Nat) (k : Nat) (a : Int) : Int := a + if usedN s k then ptsN s k else 0
def sumN (s : Nat → Nat) : Int := jfold (sumF s) 10 0
def meanV (s : Nat → Nat) : UInt64 := FP.ddiv (FP.i2d (zI (sumN s))) (FP.i2d (nI (appsN s)))
def fracV (s : Nat → Nat) : UInt32 := FP.fdiv (FP.i2f (nI (s 2) - nI (vacN s))) (FP.i2f (nI (s 2)))
theorem appsN_le (s : Nat → Nat) : appsN s ≤ 10 := by
  have : ∀ i, jfold (appsF s) i 0 ≤ i := by
    intro i
    induction i with
    | zero => exact Nat.le_refl _
    | succ i ih => rw [jfold_succ]; generalize jfold (appsF s) i 0 = z at *; unfold appsF; split <;> omega
  exact this 10
def zeroT (n : Nat) : Nat := if n = 0 then 1 else 0
theorem c_X3_meanScore (l : Launch) (G : JG) (H : Heap) {g : Nat → Nat} {ar : Nat → Nat → Nat} {cm fs : Nat → Int32} (hT : jtw G H g ar cm fs) (hB : Bs (ar 0)) (hm : -500 ≤ sumN (ar 0) ∧ sumN (ar 0) < 1950) : JMet l yX3_meanScore (ws_ yX3_meanScore cX3_meanScore 4 (some .double)) 4 0 G H [.ref (g 100)] (jpd (fun r H1 => twR G H H1 g ar cm (jup fs 6 (nI (zeroT (appsN (ar 0))))) ∧ (zeroT (appsN (ar 0)) = 0 → r = meanV (ar 0)))) (jno) := by
  refine JMet.of [(0, .inr (some (g 100)))] (by decide) (Nat.le_of_ble_eq_true rfl) rfl (fun X hl hX hQ hEx hr hnm hH => ?_)
  subst hl
  obtain ⟨h0, ho, hs, hbf, hsv, hpa, hou, hip, hcm⟩ := id hT
  have hi2 : vp_in (2 : Int32) 93 := vp_in_nI (n := 2) (by omega) (by decide)
  obtain ⟨h2, hb, hf, hg⟩ := id hB
  have l1 := appsN_le (ar 0)
  have rest : ∀ (H_15 : Heap), JFr (twP g) H H_15 → jtw G H_15 g ar cm (jup fs 6 (nI (zeroT (appsN (ar 0))))) → JW X G H_15 0 22 [(0, .inr (some (g 100))), (1, .inl (.int (nI (appsN (ar 0))))), (2, .inl (.int 0)), (3, .inl (.int 0))] [] := by
    intro H_15 hF hT
    have ho := hT.2.1
    refine jloop (P := fun i => JW X G H_15 0 22 [(0, .inr (some (g 100))), (1, .inl (.int (nI (appsN (ar 0))))), (2, .inl (.int (zI (jfold (sumF (ar 0)) i 0)))), (3, .inl (.int (nI i)))] []) 10 ?_ (fun i hi ih => ?_) 0 (by omega)
    · refine j_iload_n (pc := 22) hX dX3_meanScore_22 rfl rfl ?_
      refine j_bipush (pc := 23) (v := 10) hX dX3_meanScore_23 (by decide) ?_
      refine j_icmp_ge (pc := 25) (tgt := 54) hX dX3_meanScore_25 (by decide) (fun c_25 => ?_) (fun c_25 => ?_)
      rotate_left
      · exact absurd (jge_no (a := 10) c_25 (by omega) (by omega)) (by omega)
      first | refine j_aload_n (pc := 54) hX dX3_meanScore_54 rfl rfl ?_ | refine j_aload_nq (pc := 54) hX dX3_meanScore_54 rfl rfl ?_
      refine j_get (pc := 55) hX kg_X3_39 dX3_meanScore_55 (by first | assumption | exact jow.r (by assumption)) (by rfl) ?_
      have e6 : (jup fs 6 (nI (zeroT (appsN (ar 0))))) 6 = nI (zeroT (appsN (ar 0))) := rfl
      rw [e6]
      refine j_if_le (pc := 58) (tgt := 65) hX dX3_meanScore_58 (by decide) (fun c_58 => ?_) (fun c_58 => ?_)
      · have ez : appsN (ar 0) = 0 ∨ 0 < appsN (ar 0) := by omega
        rcases ez with ez | ez; (rw [zeroT, if_pos ez] at c_58; exact absurd c_58 (by decide))
        refine j_iload_n (pc := 65) hX dX3_meanScore_65 rfl rfl ?_
        refine j_i2d (pc := 66) hX dX3_meanScore_66 ?_
        refine j_iload_n (pc := 67) hX dX3_meanScore_67 rfl rfl ?_
        refine j_i2d (pc := 68) hX dX3_meanScore_68 ?_
        refine j_ddiv (pc := 69) hX dX3_meanScore_69 (mean_ok hm.1 hm.2 ez l1) ?_
        exact j_dret hX hQ hr dX3_meanScore_70 ⟨_, rfl, ⟨hF, hT⟩, fun z => by first | rfl | (rw [zeroT, if_pos ez] at z; cases z)⟩
      · have ez : appsN (ar 0) = 0 ∨ 0 < appsN (ar 0) := by omega
        rcases ez with ez | ez; rotate_left; (rw [zeroT, if_neg (by omega)] at c_58; exact absurd (by decide) c_58)
        refine j_dconst0 (pc := 61) hX dX3_meanScore_61 ?_
        refine j_goto (pc := 62) (tgt := 70) hX dX3_meanScore_62 (by decide) ?_
        exact j_dret hX hQ hr dX3_meanScore_70 ⟨_, rfl, ⟨hF, hT⟩, fun z => by first | rfl | (rw [zeroT, if_pos ez] at z; cases z)⟩
    · refine j_iload_n (pc := 22) hX dX3_meanScore_22 rfl rfl ?_
      refine j_bipush (pc := 23) (v := 10) hX dX3_meanScore_23 (by decide) ?_
      refine j_icmp_ge (pc := 25) (tgt := 54) hX dX3_meanScore_25 (by decide) (fun c_25 => ?_) (fun c_25 => ?_)
      · exact absurd (jge_yes (a := 10) c_25 (by omega) (by omega)) (by omega)
      refine j_iload_n (pc := 28) hX dX3_meanScore_28 rfl rfl ?_
      first | refine j_aload_n (pc := 29) hX dX3_meanScore_29 rfl rfl ?_ | refine j_aload_nq (pc := 29) hX dX3_meanScore_29 rfl rfl ?_
      refine j_iload_n (pc := 30) hX dX3_meanScore_30 rfl rfl ?_
      refine j_rune (pc := 31) (jr_V (pc := 31) hX kv_X3_62 (by first | assumption | exact jow.r (by assumption)) (c_X3_isUsed _ _ _ hT (fun j hj => bsL hb hj) i hi) (by decide) dX3_meanScore_31 rfl rfl (Nat.le_of_ble_eq_true rfl)) ?_ jno_x
      refine j_if_eq (pc := 34) (tgt := 45) hX dX3_meanScore_34 (by decide) (fun c_34 => ?_) (fun c_34 => ?_)
      · rw [jb_z] at c_34
        refine j_iconst (pc := 45) (v := 0) hX dX3_meanScore_45 (by decide) ?_
        try rw [zI_add]
        refine j_iadd (pc := 46) hX dX3_meanScore_46 ?_
        refine j_istore_n (pc := 47) hX dX3_meanScore_47 rfl (by decide) rfl ?_
        refine j_iincc (pc := 48) (m := 1) hX dX3_meanScore_48 rfl (by decide) (by decide) rfl ?_
        refine j_goto (pc := 51) (tgt := 22) hX dX3_meanScore_51 (by decide) ?_
        first | exact absurd rfl (by assumption) | exact absurd (by assumption) (by decide : ¬ (1 : Int32) = 0) | exact j_lv (by simp [jsb, jget, jval, jfold_succ, nI_1, sumF, zI_add, usedN, c_34]) ih
      · rw [jb_n] at c_34
        first | refine j_aload_n (pc := 37) hX dX3_meanScore_37 rfl rfl ?_ | refine j_aload_nq (pc := 37) hX dX3_meanScore_37 rfl rfl ?_
        refine j_iload_n (pc := 38) hX dX3_meanScore_38 rfl rfl ?_
        refine j_rune (pc := 39) (jr_V (pc := 39) hX kv_X3_73 (by first | assumption | exact jow.r (by assumption)) (c_X3_points _ _ _ hT hB i hi) (by decide) dX3_meanScore_39 rfl rfl (Nat.le_of_ble_eq_true rfl)) ?_ jno_x
        refine j_goto (pc := 42) (tgt := 46) hX dX3_meanScore_42 (by decide) ?_
        try rw [zI_add]
        refine j_iadd (pc := 46) hX dX3_meanScore_46 ?_
        refine j_istore_n (pc := 47) hX dX3_meanScore_47 rfl (by decide) rfl ?_
        refine j_iincc (pc := 48) (m := 1) hX dX3_meanScore_48 rfl (by decide) (by decide) rfl ?_
        refine j_goto (pc := 51) (tgt := 22) hX dX3_meanScore_51 (by decide) ?_
        first | exact absurd rfl (by assumption) | exact absurd (by assumption) (by decide : ¬ (1 : Int32) = 0) | exact j_lv (by simp [jsb, jget, jval, jfold_succ, nI_1, sumF, zI_add, usedN, c_34]) ih
  first | refine j_aload_n (pc := 0) hX dX3_meanScore_0 rfl rfl ?_ | refine j_aload_nq (pc := 0) hX dX3_meanScore_0 rfl rfl ?_
  refine j_rune (pc := 1) (jr_V (pc := 1) hX kv_X3_85 (by first | assumption | exact jow.r (by assumption)) (c_X3_applicants _ _ _ hT hB) (by decide) dX3_meanScore_1 rfl rfl (Nat.le_of_ble_eq_true rfl)) ?_ jno_x
  refine j_istore_n (pc := 4) hX dX3_meanScore_4 rfl (by decide) rfl ?_
  first | refine j_aload_n (pc := 5) hX dX3_meanScore_5 rfl rfl ?_ | refine j_aload_nq (pc := 5) hX dX3_meanScore_5 rfl rfl ?_
  refine j_iload_n (pc := 6) hX dX3_meanScore_6 rfl rfl ?_
  refine j_if_ne (pc := 7) (tgt := 14) hX dX3_meanScore_7 (by decide) (fun c_7 => ?_) (fun c_7 => ?_)
  · rw [nI_eq0 (by omega)] at c_7
    refine j_iconst (pc := 14) (v := 0) hX dX3_meanScore_14 (by decide) ?_
    refine j_put (pc := 15) hX kp_X3_39 dX3_meanScore_15 (by assumption) (by first | assumption | omega | exact h0.1 _ (by decide)) rfl rfl rfl (fun H_15 w_15 n_15 => ?_)
    have hT := tw_put6 hT w_15 n_15
    have ho := hT.2.1
    have hF : JFr (twP g) H H_15 := w_15.fr ⟨100, by decide, rfl⟩
    refine j_iconst (pc := 18) (v := 0) hX dX3_meanScore_18 (by decide) ?_
    refine j_istore_n (pc := 19) hX dX3_meanScore_19 rfl (by decide) rfl ?_
    refine j_iconst (pc := 20) (v := 0) hX dX3_meanScore_20 (by decide) ?_
    refine j_istore_n (pc := 21) hX dX3_meanScore_21 rfl (by decide) rfl ?_
    exact rest _ hF (by simpa [zeroT, nI_0, nI_l1, c_7] using hT)
  · rw [nI_eq0 (by omega)] at c_7
    refine j_iconst (pc := 10) (v := 1) hX dX3_meanScore_10 (by decide) ?_
    refine j_goto (pc := 11) (tgt := 15) hX dX3_meanScore_11 (by decide) ?_
    refine j_put (pc := 15) hX kp_X3_39 dX3_meanScore_15 (by assumption) (by first | assumption | omega | exact h0.1 _ (by decide)) rfl rfl rfl (fun H_15 w_15 n_15 => ?_)
    have hT := tw_put6 hT w_15 n_15
    have ho := hT.2.1
    have hF : JFr (twP g) H H_15 := w_15.fr ⟨100, by decide, rfl⟩
    refine j_iconst (pc := 18) (v := 0) hX dX3_meanScore_18 (by decide) ?_
    refine j_istore_n (pc := 19) hX dX3_meanScore_19 rfl (by decide) rfl ?_
    refine j_iconst (pc := 20) (v := 0) hX dX3_meanScore_20 (by decide) ?_
    refine j_istore_n (pc := 21) hX dX3_meanScore_21 rfl (by decide) rfl ?_
    exact rest _ hF (by simpa [zeroT, nI_0, nI_l1, c_7] using hT)
theorem vacN_le (s : Nat → Nat) : vacN s ≤ s 2 := by
  have : ∀ i, jfold (vacF s) i 0 ≤ i := by
    intro i
    induction i with
    | zero => exact Nat.le_refl _
    | succ i ih => rw [jfold_succ]; generalize jfold (vacF s) i 0 = z at *; unfold vacF; split <;> omega
  exact this (s 2)
theorem frac_ok {a b : Nat} (h : b ≤ a) (ha : 0 < a) (h6 : a ≤ 6) : vf_n32 (FP.fdiv (FP.i2f (nI a - nI b)) (FP.i2f (nI a))) := by
  have q := (frac_0 (a - b) (by omega) (a - 1) (by omega)).1
  rw [Nat.sub_add_cancel ha] at q
  rw [nI_subN h]; exact q
theorem frac_d {a b : Nat} (h : b ≤ a) (ha : 0 < a) (h6 : a ≤ 6) : vf_n64 (FP.f2d (FP.fdiv (FP.i2f (nI a - nI b)) (FP.i2f (nI a)))) := by
  have q := (frac_0 (a - b) (by omega) (a - 1) (by omega)).2
  rw [Nat.sub_add_cancel ha] at q
  rw [nI_subN h]; exact q
theorem c_X3_filledFraction (l : Launch) (G : JG) (H : Heap) {g : Nat → Nat} {ar : Nat → Nat → Nat} {cm fs : Nat → Int32} (hT : jtw G H g ar cm fs) (hB : Bs (ar 0)) : JMet l yX3_filledFraction (ws_ yX3_filledFraction cX3_filledFraction 2 (some .float)) 3 0 G H [.ref (g 100)] (jpf (fun r H1 => twR G H H1 g ar cm (jup fs 6 (nI (zeroT (ar 0 2)))) ∧ (zeroT (ar 0 2) = 0 → r = fracV (ar 0)))) (jno) := by
  refine JMet.of [(0, .inr (some (g 100)))] (by decide) (Nat.le_of_ble_eq_true rfl) rfl (fun X hl hX hQ hEx hr hnm hH => ?_)
  subst hl
  obtain ⟨h0, ho, hs, hbf, hsv, hpa, hou, hip, hcm⟩ := id hT
  have hi2 : vp_in (2 : Int32) 93 := vp_in_nI (n := 2) (by omega) (by decide)
  obtain ⟨h2, hb, hf, hg⟩ := id hB
  have hv := vacN_le (ar 0)
  first | refine j_aload_n (pc := 0) hX dX3_filledFraction_0 rfl rfl ?_ | refine j_aload_nq (pc := 0) hX dX3_filledFraction_0 rfl rfl ?_
  refine j_get (pc := 1) hX kg_X3_9 dX3_filledFraction_1 (by first | assumption | exact jow.r (by assumption)) (by rfl) ?_
  refine j_iconst (pc := 4) (v := 2) hX dX3_filledFraction_4 (by decide) ?_
  refine j_iald (pc := 5) hX dX3_filledFraction_5 (by first | assumption | exact jaw.r hX (by decide) (by assumption)) (by assumption) ?_
  change JW X G H 0 6 _ [.int (nI (ar 0 2))]
  refine j_istore_n (pc := 6) hX dX3_filledFraction_6 rfl (by decide) rfl ?_
  first | refine j_aload_n (pc := 7) hX dX3_filledFraction_7 rfl rfl ?_ | refine j_aload_nq (pc := 7) hX dX3_filledFraction_7 rfl rfl ?_
  refine j_iload_n (pc := 8) hX dX3_filledFraction_8 rfl rfl ?_
  refine j_if_ne (pc := 9) (tgt := 16) hX dX3_filledFraction_9 (by decide) (fun c_9 => ?_) (fun c_9 => ?_)
  · rw [nI_eq0 (by omega)] at c_9
    refine j_iconst (pc := 16) (v := 0) hX dX3_filledFraction_16 (by decide) ?_
    refine j_put (pc := 17) hX kp_X3_39 dX3_filledFraction_17 (by assumption) (by first | assumption | omega | exact h0.1 _ (by decide)) rfl rfl rfl (fun H_17 w_17 n_17 => ?_)
    have hT := tw_put6 hT w_17 n_17
    have ho := hT.2.1
    have hF : JFr (twP g) H H_17 := w_17.fr ⟨100, by decide, rfl⟩
    first | refine j_aload_n (pc := 20) hX dX3_filledFraction_20 rfl rfl ?_ | refine j_aload_nq (pc := 20) hX dX3_filledFraction_20 rfl rfl ?_
    refine j_get (pc := 21) hX kg_X3_39 dX3_filledFraction_21 (by first | assumption | exact jow.r (by assumption)) (by rfl) ?_
    refine j_if_le (pc := 24) (tgt := 31) hX dX3_filledFraction_24 (by decide) (fun c_24 => ?_) (fun c_24 => ?_)
    rotate_left
    · first | exact absurd c_24 (by decide) | (change ¬ (0 : Int32) ≤ 0 at c_24; exact absurd c_24 (by decide))
    refine j_iload_n (pc := 31) hX dX3_filledFraction_31 rfl rfl ?_
    first | refine j_aload_n (pc := 32) hX dX3_filledFraction_32 rfl rfl ?_ | refine j_aload_nq (pc := 32) hX dX3_filledFraction_32 rfl rfl ?_
    refine j_rune (pc := 33) (jr_V (pc := 33) hX kv_X3_149 (by first | assumption | exact jow.r (by assumption)) (c_X3_vacancies _ _ _ hT hB) (by decide) dX3_filledFraction_33 rfl rfl (Nat.le_of_ble_eq_true rfl)) ?_ jno_x
    refine j_isub (pc := 36) hX dX3_filledFraction_36 ?_
    refine j_i2f (pc := 37) hX dX3_filledFraction_37 ?_
    refine j_iload_n (pc := 38) hX dX3_filledFraction_38 rfl rfl ?_
    refine j_i2f (pc := 39) hX dX3_filledFraction_39 ?_
    refine j_fdiv (pc := 40) hX dX3_filledFraction_40 (frac_ok hv (by omega) h2) ?_
    exact j_fret hX hQ hr dX3_filledFraction_41 ⟨_, rfl, ⟨hF, by simpa [zeroT, nI_0, nI_l1, c_9] using hT⟩, fun z => by first | rfl | (exact absurd z (by simp [zeroT, c_9]))⟩
  · rw [nI_eq0 (by omega)] at c_9
    refine j_iconst (pc := 12) (v := 1) hX dX3_filledFraction_12 (by decide) ?_
    refine j_goto (pc := 13) (tgt := 17) hX dX3_filledFraction_13 (by decide) ?_
    refine j_put (pc := 17) hX kp_X3_39 dX3_filledFraction_17 (by assumption) (by first | assumption | omega | exact h0.1 _ (by decide)) rfl rfl rfl (fun H_17 w_17 n_17 => ?_)
    have hT := tw_put6 hT w_17 n_17
    have ho := hT.2.1
    have hF : JFr (twP g) H H_17 := w_17.fr ⟨100, by decide, rfl⟩
    first | refine j_aload_n (pc := 20) hX dX3_filledFraction_20 rfl rfl ?_ | refine j_aload_nq (pc := 20) hX dX3_filledFraction_20 rfl rfl ?_
    refine j_get (pc := 21) hX kg_X3_39 dX3_filledFraction_21 (by first | assumption | exact jow.r (by assumption)) (by rfl) ?_
    refine j_if_le (pc := 24) (tgt := 31) hX dX3_filledFraction_24 (by decide) (fun c_24 => ?_) (fun c_24 => ?_)
    · first | exact absurd c_24 (by decide) | (change (1 : Int32) ≤ 0 at c_24; exact absurd c_24 (by decide))
    refine j_fconst0 (pc := 27) hX dX3_filledFraction_27 ?_
    refine j_goto (pc := 28) (tgt := 41) hX dX3_filledFraction_28 (by decide) ?_
    exact j_fret hX hQ hr dX3_filledFraction_41 ⟨_, rfl, ⟨hF, by simpa [zeroT, nI_0, nI_l1, c_9] using hT⟩, fun z => by first | rfl | (exact absurd z (by simp [zeroT, c_9]))⟩
