/-! the reference: references, posts, hiring -/
set_option maxRecDepth 100000
def refD (s : Nat → Nat) (x y : Int32) : Nat × Int32 × (Nat → Nat) :=
  match slotN s x, slotN s y with
  | some a, some b => if x = y then (2, 0, s) else if (aGv s b).testBit a then (3, 0, s) else (0, nI (bitN (setB (aGv s b) a)), jup s (3 + 6 * b + 5) (setB (aGv s b) a))
  | _, _ => (1, 0, s)
theorem c_X3_doAddReference (l : Launch) (G : JG) (H : Heap) {g : Nat → Nat} {ar : Nat → Nat → Nat} {cm fs : Nat → Int32} (hT : jtw G H g ar cm fs) (hB : Bs (ar 0)) (h6 : fs 6 = 0) (x y : Int32) : JMet l yX3_doAddReference (ws_ yX3_doAddReference cX3_doAddReference 6 (some .int)) 3 0 G H [.ref (g 100), .int x, .int y] (twU G H g ar cm fs (refD (ar 0) x y)) (jno) := by
  refine JMet.of [(0, .inr (some (g 100))), (1, .inl (.int x)), (2, .inl (.int y))] (by decide) (Nat.le_of_ble_eq_true rfl) rfl (fun X hl hX hQ hEx hr hnm hH => ?_)
  subst hl
  obtain ⟨h0, ho, hs, hbf, hsv, hpa, hou, hip, hcm⟩ := id hT
  have hi2 : vp_in (2 : Int32) 93 := vp_in_nI (n := 2) (by omega) (by decide)
  obtain ⟨h2, hb, hf, hg⟩ := id hB
  have hF : JFr (twP g) H H := JFr.rfl'
  first | refine j_aload_n (pc := 0) hX dX3_doAddReference_0 rfl rfl ?_ | refine j_aload_nq (pc := 0) hX dX3_doAddReference_0 rfl rfl ?_
  refine j_iload_n (pc := 1) hX dX3_doAddReference_1 rfl rfl ?_
  refine j_rune (pc := 2) (jr_V (pc := 2) hX kv_X3_103 (by first | assumption | exact jow.r (by assumption)) (c_X3_slotOf _ _ _ hT x) (by decide) dX3_doAddReference_2 rfl rfl (Nat.le_of_ble_eq_true rfl)) ?_ jno_x
  refine j_istore_n (pc := 5) hX dX3_doAddReference_5 rfl (by decide) rfl ?_
  first | refine j_aload_n (pc := 6) hX dX3_doAddReference_6 rfl rfl ?_ | refine j_aload_nq (pc := 6) hX dX3_doAddReference_6 rfl rfl ?_
  refine j_iload_n (pc := 7) hX dX3_doAddReference_7 rfl rfl ?_
  refine j_rune (pc := 8) (jr_V (pc := 8) hX kv_X3_103 (by first | assumption | exact jow.r (by assumption)) (c_X3_slotOf _ _ _ hT y) (by decide) dX3_doAddReference_8 rfl rfl (Nat.le_of_ble_eq_true rfl)) ?_ jno_x
  refine j_istore (pc := 11) hX dX3_doAddReference_11 (by decide) rfl ?_
  refine j_iload_n (pc := 13) hX dX3_doAddReference_13 rfl rfl ?_
  refine j_if_lt (pc := 14) (tgt := 22) hX dX3_doAddReference_14 (by decide) (fun c_14 => ?_) (fun c_14 => ?_)
  · rw [oI_neg' (fun _ => slotN_lt) (by omega)] at c_14
    first | refine j_aload_n (pc := 22) hX dX3_doAddReference_22 rfl rfl ?_ | refine j_aload_nq (pc := 22) hX dX3_doAddReference_22 rfl rfl ?_
    refine j_iconst (pc := 23) (v := 1) hX dX3_doAddReference_23 (by decide) ?_
    refine j_runi (pc := 24) (jr_V (pc := 24) hX kv_X3_82 (by first | assumption | exact jow.r (by assumption)) (c_X3_fails _ _ _ hT _) (by decide) dX3_doAddReference_24 rfl rfl (Nat.le_of_ble_eq_true rfl)) (fun r_24 H_24 p_24 z_24 => ?_) jno_x
    obtain ⟨hR, rfl⟩ := p_24
    have hF := JFr.trans hF hR.1
    have hT := hR.2
    exact j_iret hX hQ hr dX3_doAddReference_27 ⟨_, rfl, twU_no (t := 1) (by simp [refD, c_14]) hF hT⟩
  · rw [Int32.not_lt, oI_pos' (fun _ => slotN_lt) (by omega)] at c_14
    obtain ⟨a, c_14, ha⟩ := c_14
    refine j_iload (pc := 17) hX dX3_doAddReference_17 rfl ?_
    refine j_if_ge (pc := 19) (tgt := 28) hX dX3_doAddReference_19 (by decide) (fun c_19 => ?_) (fun c_19 => ?_)
    · rw [oI_pos' (fun _ => slotN_lt) (by omega)] at c_19
      obtain ⟨b, c_19, hb'⟩ := c_19
      refine j_iload_n (pc := 28) hX dX3_doAddReference_28 rfl rfl ?_
      refine j_iload_n (pc := 29) hX dX3_doAddReference_29 rfl rfl ?_
      refine j_icmp_ne (pc := 30) (tgt := 39) hX dX3_doAddReference_30 (by decide) (fun c_30 => ?_) (fun c_30 => ?_)
      · first | refine j_aload_n (pc := 39) hX dX3_doAddReference_39 rfl rfl ?_ | refine j_aload_nq (pc := 39) hX dX3_doAddReference_39 rfl rfl ?_
        refine j_iload (pc := 40) hX dX3_doAddReference_40 rfl ?_
        refine j_iconst (pc := 42) (v := 5) hX dX3_doAddReference_42 (by decide) ?_
        rw [oI_some c_19]
        refine j_rune (pc := 43) (jr_V (pc := 43) hX kv_X3_55 (by first | assumption | exact jow.r (by assumption)) (c_X3_of _ _ _ hT b 5 hb' (by omega)) (by decide) dX3_doAddReference_43 rfl rfl (Nat.le_of_ble_eq_true rfl)) ?_ jno_x
        refine j_istore (pc := 46) hX dX3_doAddReference_46 (by decide) rfl ?_
        refine j_iload (pc := 48) hX dX3_doAddReference_48 rfl ?_
        refine j_iload_n (pc := 50) hX dX3_doAddReference_50 rfl rfl ?_
        rw [oI_some c_14]
        refine j_ishr (pc := 51) hX dX3_doAddReference_51 ?_
        refine j_iconst (pc := 52) (v := 1) hX dX3_doAddReference_52 (by decide) ?_
        refine j_iand (pc := 53) hX dX3_doAddReference_53 ?_
        rw [nI_bit (bsL hb (by omega)) (by omega)]
        refine j_iconst (pc := 54) (v := 1) hX dX3_doAddReference_54 (by decide) ?_
        refine j_icmp_ne (pc := 55) (tgt := 64) hX dX3_doAddReference_55 (by decide) (fun c_55 => ?_) (fun c_55 => ?_)
        · rw [show (1 : Int32) = nI 1 from rfl, nI_eq (by split <;> omega) (by omega)] at c_55
          have c_55' : (aGv (ar 0) b).testBit a = false := by cases e : (aGv (ar 0) b).testBit a with | false => rfl | true => exact absurd (by rw [show ar 0 (3 + 6 * b + 5) = aGv (ar 0) b from rfl, e]; rfl) c_55
          first | refine j_aload_n (pc := 64) hX dX3_doAddReference_64 rfl rfl ?_ | refine j_aload_nq (pc := 64) hX dX3_doAddReference_64 rfl rfl ?_
          refine j_iload (pc := 65) hX dX3_doAddReference_65 rfl ?_
          refine j_iconst (pc := 67) (v := 5) hX dX3_doAddReference_67 (by decide) ?_
          refine j_iload (pc := 68) hX dX3_doAddReference_68 rfl ?_
          refine j_iconst (pc := 70) (v := 1) hX dX3_doAddReference_70 (by decide) ?_
          refine j_iload_n (pc := 71) hX dX3_doAddReference_71 rfl rfl ?_
          refine j_ishl (pc := 72) hX dX3_doAddReference_72 ?_
          refine j_ior (pc := 73) hX dX3_doAddReference_73 ?_
          rw [set_bit a ha (ar 0 (3 + 6 * b + 5)) (hg b hb')]
          refine j_runv (pc := 74) (jr_V (pc := 74) hX kv_X3_89 (by first | assumption | exact jow.r (by assumption)) (c_X3_sets _ _ _ hT b 5 _ hb' (by omega)) (by decide) dX3_doAddReference_74 rfl rfl (Nat.le_of_ble_eq_true rfl)) (fun H_74 p_74 z_74 => ?_) jno_x
          have hF := JFr.trans hF p_74.1
          have hT := p_74.2
          obtain ⟨h0, ho, hs, hbf, hsv, hpa, hou, hip, hcm⟩ := id hT
          first | refine j_aload_n (pc := 77) hX dX3_doAddReference_77 rfl rfl ?_ | refine j_aload_nq (pc := 77) hX dX3_doAddReference_77 rfl rfl ?_
          refine j_iload (pc := 78) hX dX3_doAddReference_78 rfl ?_
          refine j_iconst (pc := 80) (v := 5) hX dX3_doAddReference_80 (by decide) ?_
          refine j_rune (pc := 81) (jr_V (pc := 81) hX kv_X3_55 (by first | assumption | exact jow.r (by assumption)) (c_X3_of _ _ _ hT b 5 hb' (by omega)) (by decide) dX3_doAddReference_81 rfl rfl (Nat.le_of_ble_eq_true rfl)) ?_ jno_x
          rw [show jup ar 0 (jup (ar 0) (3 + 6 * b + 5) (setB (ar 0 (3 + 6 * b + 5)) a)) 0 (3 + 6 * b + 5) = setB (aGv (ar 0) b) a from jup_same]
          refine j_rune (pc := 84) (jr_S (pc := 84) hX ks_X3_70 (c_X3_bits _ _ _ _ (Nat.lt_trans (setB_lt a ha _ (hg b hb')) (by decide))) (by decide) dX3_doAddReference_84 rfl rfl (Nat.le_of_ble_eq_true rfl)) ?_ jno_x
          exact j_iret hX hQ hr dX3_doAddReference_87 ⟨_, rfl, twU_ok h6 (by simp [refD, c_14, c_19, c_30, c_55']) hF hT⟩
        · rw [show (1 : Int32) = nI 1 from rfl, nI_eq (by split <;> omega) (by omega)] at c_55
          have c_55' : (aGv (ar 0) b).testBit a = true := by cases e : (aGv (ar 0) b).testBit a with | true => rfl | false => rw [show ar 0 (3 + 6 * b + 5) = aGv (ar 0) b from rfl, e] at c_55; exact absurd c_55 (by decide)
          first | refine j_aload_n (pc := 58) hX dX3_doAddReference_58 rfl rfl ?_ | refine j_aload_nq (pc := 58) hX dX3_doAddReference_58 rfl rfl ?_
          refine j_iconst (pc := 59) (v := 3) hX dX3_doAddReference_59 (by decide) ?_
          refine j_runi (pc := 60) (jr_V (pc := 60) hX kv_X3_82 (by first | assumption | exact jow.r (by assumption)) (c_X3_fails _ _ _ hT _) (by decide) dX3_doAddReference_60 rfl rfl (Nat.le_of_ble_eq_true rfl)) (fun r_60 H_60 p_60 z_60 => ?_) jno_x
          obtain ⟨hR, rfl⟩ := p_60
          have hF := JFr.trans hF hR.1
          have hT := hR.2
          exact j_iret hX hQ hr dX3_doAddReference_63 ⟨_, rfl, twU_no (t := 3) (by simp [refD, c_14, c_19, c_30, c_55']) hF hT⟩
      · first | refine j_aload_n (pc := 33) hX dX3_doAddReference_33 rfl rfl ?_ | refine j_aload_nq (pc := 33) hX dX3_doAddReference_33 rfl rfl ?_
        refine j_iconst (pc := 34) (v := 2) hX dX3_doAddReference_34 (by decide) ?_
        refine j_runi (pc := 35) (jr_V (pc := 35) hX kv_X3_82 (by first | assumption | exact jow.r (by assumption)) (c_X3_fails _ _ _ hT _) (by decide) dX3_doAddReference_35 rfl rfl (Nat.le_of_ble_eq_true rfl)) (fun r_35 H_35 p_35 z_35 => ?_) jno_x
        obtain ⟨hR, rfl⟩ := p_35
        have hF := JFr.trans hF hR.1
        have hT := hR.2
        exact j_iret hX hQ hr dX3_doAddReference_38 ⟨_, rfl, twU_no (t := 2) (by simp [refD, c_14, c_19, c_30]) hF hT⟩
    · rw [Int32.not_le, oI_neg' (fun _ => slotN_lt) (by omega)] at c_19
      first | refine j_aload_n (pc := 22) hX dX3_doAddReference_22 rfl rfl ?_ | refine j_aload_nq (pc := 22) hX dX3_doAddReference_22 rfl rfl ?_
      refine j_iconst (pc := 23) (v := 1) hX dX3_doAddReference_23 (by decide) ?_
      refine j_runi (pc := 24) (jr_V (pc := 24) hX kv_X3_82 (by first | assumption | exact jow.r (by assumption)) (c_X3_fails _ _ _ hT _) (by decide) dX3_doAddReference_24 rfl rfl (Nat.le_of_ble_eq_true rfl)) (fun r_24 H_24 p_24 z_24 => ?_) jno_x
      obtain ⟨hR, rfl⟩ := p_24
      have hF := JFr.trans hF hR.1
      have hT := hR.2
      exact j_iret hX hQ hr dX3_doAddReference_27 ⟨_, rfl, twU_no (t := 1) (by simp [refD, c_14, c_19]) hF hT⟩
def unrefD (s : Nat → Nat) (x y : Int32) : Nat × Int32 × (Nat → Nat) :=
  match slotN s x, slotN s y with
  | some a, some b => if (aGv s b).testBit a then (0, nI (bitN (clrB (aGv s b) a)), jup s (3 + 6 * b + 5) (clrB (aGv s b) a)) else (1, 0, s)
  | _, _ => (1, 0, s)
theorem unref_no {s : Nat → Nat} {x y : Int32} (h : givN s x y = false) : unrefD s x y = (1, 0, s) := by
  unfold givN at h; unfold unrefD
  split <;> simp_all
theorem giv_yes {s : Nat → Nat} {x y : Int32} (h : givN s x y = true) : ∃ a b, slotN s x = some a ∧ slotN s y = some b ∧ (aGv s b).testBit a = true := by
  unfold givN at h
  split at h
  · next a b e1 e2 => exact ⟨a, b, e1, e2, h⟩
  · cases h
theorem c_X3_doRemoveReference (l : Launch) (G : JG) (H : Heap) {g : Nat → Nat} {ar : Nat → Nat → Nat} {cm fs : Nat → Int32} (hT : jtw G H g ar cm fs) (hB : Bs (ar 0)) (h6 : fs 6 = 0) (x y : Int32) : JMet l yX3_doRemoveReference (ws_ yX3_doRemoveReference cX3_doRemoveReference 4 (some .int)) 4 0 G H [.ref (g 100), .int x, .int y] (twU G H g ar cm fs (unrefD (ar 0) x y)) (jno) := by
  refine JMet.of [(0, .inr (some (g 100))), (1, .inl (.int x)), (2, .inl (.int y))] (by decide) (Nat.le_of_ble_eq_true rfl) rfl (fun X hl hX hQ hEx hr hnm hH => ?_)
  subst hl
  obtain ⟨h0, ho, hs, hbf, hsv, hpa, hou, hip, hcm⟩ := id hT
  have hi2 : vp_in (2 : Int32) 93 := vp_in_nI (n := 2) (by omega) (by decide)
  obtain ⟨h2, hb, hf, hg⟩ := id hB
  have hF : JFr (twP g) H H := JFr.rfl'
  first | refine j_aload_n (pc := 0) hX dX3_doRemoveReference_0 rfl rfl ?_ | refine j_aload_nq (pc := 0) hX dX3_doRemoveReference_0 rfl rfl ?_
  refine j_iload_n (pc := 1) hX dX3_doRemoveReference_1 rfl rfl ?_
  refine j_iload_n (pc := 2) hX dX3_doRemoveReference_2 rfl rfl ?_
  refine j_rune (pc := 3) (jr_V (pc := 3) hX kv_X3_133 (by first | assumption | exact jow.r (by assumption)) (c_X3_isGiven _ _ _ hT hB x y) (by decide) dX3_doRemoveReference_3 rfl rfl (Nat.le_of_ble_eq_true rfl)) ?_ jno_x
  refine j_if_ne (pc := 6) (tgt := 15) hX dX3_doRemoveReference_6 (by decide) (fun c_6 => ?_) (fun c_6 => ?_)
  · rw [jb_n] at c_6
    obtain ⟨a, b, ea, eb, eg⟩ := giv_yes c_6
    have ha := slotN_lt ea
    have hb' := slotN_lt eb
    first | refine j_aload_n (pc := 15) hX dX3_doRemoveReference_15 rfl rfl ?_ | refine j_aload_nq (pc := 15) hX dX3_doRemoveReference_15 rfl rfl ?_
    refine j_iload_n (pc := 16) hX dX3_doRemoveReference_16 rfl rfl ?_
    refine j_rune (pc := 17) (jr_V (pc := 17) hX kv_X3_103 (by first | assumption | exact jow.r (by assumption)) (c_X3_slotOf _ _ _ hT y) (by decide) dX3_doRemoveReference_17 rfl rfl (Nat.le_of_ble_eq_true rfl)) ?_ jno_x
    rw [oI_some eb]
    refine j_istore_n (pc := 20) hX dX3_doRemoveReference_20 rfl (by decide) rfl ?_
    first | refine j_aload_n (pc := 21) hX dX3_doRemoveReference_21 rfl rfl ?_ | refine j_aload_nq (pc := 21) hX dX3_doRemoveReference_21 rfl rfl ?_
    refine j_iload_n (pc := 22) hX dX3_doRemoveReference_22 rfl rfl ?_
    refine j_iconst (pc := 23) (v := 5) hX dX3_doRemoveReference_23 (by decide) ?_
    first | refine j_aload_n (pc := 24) hX dX3_doRemoveReference_24 rfl rfl ?_ | refine j_aload_nq (pc := 24) hX dX3_doRemoveReference_24 rfl rfl ?_
    refine j_iload_n (pc := 25) hX dX3_doRemoveReference_25 rfl rfl ?_
    refine j_iconst (pc := 26) (v := 5) hX dX3_doRemoveReference_26 (by decide) ?_
    refine j_rune (pc := 27) (jr_V (pc := 27) hX kv_X3_55 (by first | assumption | exact jow.r (by assumption)) (c_X3_of _ _ _ hT b 5 hb' (by omega)) (by decide) dX3_doRemoveReference_27 rfl rfl (Nat.le_of_ble_eq_true rfl)) ?_ jno_x
    refine j_iconst (pc := 30) (v := 1) hX dX3_doRemoveReference_30 (by decide) ?_
    first | refine j_aload_n (pc := 31) hX dX3_doRemoveReference_31 rfl rfl ?_ | refine j_aload_nq (pc := 31) hX dX3_doRemoveReference_31 rfl rfl ?_
    refine j_iload_n (pc := 32) hX dX3_doRemoveReference_32 rfl rfl ?_
    refine j_rune (pc := 33) (jr_V (pc := 33) hX kv_X3_103 (by first | assumption | exact jow.r (by assumption)) (c_X3_slotOf _ _ _ hT x) (by decide) dX3_doRemoveReference_33 rfl rfl (Nat.le_of_ble_eq_true rfl)) ?_ jno_x
    rw [oI_some ea]
    refine j_ishl (pc := 36) hX dX3_doRemoveReference_36 ?_
    refine j_iconst (pc := 37) (v := -1) hX dX3_doRemoveReference_37 (by decide) ?_
    refine j_ixor (pc := 38) hX dX3_doRemoveReference_38 ?_
    refine j_iand (pc := 39) hX dX3_doRemoveReference_39 ?_
    rw [clr_bit a ha (ar 0 (3 + 6 * b + 5)) (hg b hb')]
    refine j_runv (pc := 40) (jr_V (pc := 40) hX kv_X3_89 (by first | assumption | exact jow.r (by assumption)) (c_X3_sets _ _ _ hT b 5 _ hb' (by omega)) (by decide) dX3_doRemoveReference_40 rfl rfl (Nat.le_of_ble_eq_true rfl)) (fun H_40 p_40 z_40 => ?_) jno_x
    have hF := JFr.trans hF p_40.1
    have hT := p_40.2
    obtain ⟨h0, ho, hs, hbf, hsv, hpa, hou, hip, hcm⟩ := id hT
    first | refine j_aload_n (pc := 43) hX dX3_doRemoveReference_43 rfl rfl ?_ | refine j_aload_nq (pc := 43) hX dX3_doRemoveReference_43 rfl rfl ?_
    refine j_iload_n (pc := 44) hX dX3_doRemoveReference_44 rfl rfl ?_
    refine j_iconst (pc := 45) (v := 5) hX dX3_doRemoveReference_45 (by decide) ?_
    refine j_rune (pc := 46) (jr_V (pc := 46) hX kv_X3_55 (by first | assumption | exact jow.r (by assumption)) (c_X3_of _ _ _ hT b 5 hb' (by omega)) (by decide) dX3_doRemoveReference_46 rfl rfl (Nat.le_of_ble_eq_true rfl)) ?_ jno_x
    rw [show jup ar 0 (jup (ar 0) (3 + 6 * b + 5) (clrB (ar 0 (3 + 6 * b + 5)) a)) 0 (3 + 6 * b + 5) = clrB (aGv (ar 0) b) a from jup_same]
    refine j_rune (pc := 49) (jr_S (pc := 49) hX ks_X3_70 (c_X3_bits _ _ _ _ (Nat.lt_of_le_of_lt (clrB_le _ _) (bsL hb (by omega)))) (by decide) dX3_doRemoveReference_49 rfl rfl (Nat.le_of_ble_eq_true rfl)) ?_ jno_x
    exact j_iret hX hQ hr dX3_doRemoveReference_52 ⟨_, rfl, twU_ok h6 (by simp [unrefD, ea, eb, eg]) hF hT⟩
  · rw [jb_z] at c_6
    first | refine j_aload_n (pc := 9) hX dX3_doRemoveReference_9 rfl rfl ?_ | refine j_aload_nq (pc := 9) hX dX3_doRemoveReference_9 rfl rfl ?_
    refine j_iconst (pc := 10) (v := 1) hX dX3_doRemoveReference_10 (by decide) ?_
    refine j_runi (pc := 11) (jr_V (pc := 11) hX kv_X3_82 (by first | assumption | exact jow.r (by assumption)) (c_X3_fails _ _ _ hT _) (by decide) dX3_doRemoveReference_11 rfl rfl (Nat.le_of_ble_eq_true rfl)) (fun r_11 H_11 p_11 z_11 => ?_) jno_x
    obtain ⟨hR, rfl⟩ := p_11
    have hF := JFr.trans hF hR.1
    have hT := hR.2
    exact j_iret hX hQ hr dX3_doRemoveReference_14 ⟨_, rfl, twU_no (t := 1) (unref_no c_6) hF hT⟩
def closeD (s : Nat → Nat) (x : Int32) : Nat × Int32 × (Nat → Nat) :=
  match postN s x with
  | none => (1, 0, s)
  | some p => (0, if 0 < pFl s p then 1 else 0, jup (cpN s s (63 + 5 * p + 5) (63 + 5 * p) (5 * (s 2 - 1 - p))) 2 (s 2 - 1))
theorem c_X3_doClosePost (l : Launch) (G : JG) (H : Heap) {g : Nat → Nat} {ar : Nat → Nat → Nat} {cm fs : Nat → Int32} (hT : jtw G H g ar cm fs) (hB : Bs (ar 0)) (h6 : fs 6 = 0) (x : Int32) : JMet l yX3_doClosePost (ws_ yX3_doClosePost cX3_doClosePost 5 (some .int)) 3 0 G H [.ref (g 100), .int x] (twU G H g ar cm fs (closeD (ar 0) x)) (jno) := by
  refine JMet.of [(0, .inr (some (g 100))), (1, .inl (.int x))] (by decide) (Nat.le_of_ble_eq_true rfl) rfl (fun X hl hX hQ hEx hr hnm hH => ?_)
  subst hl
  obtain ⟨h0, ho, hs, hbf, hsv, hpa, hou, hip, hcm⟩ := id hT
  have hi2 : vp_in (2 : Int32) 93 := vp_in_nI (n := 2) (by omega) (by decide)
  obtain ⟨h2, hb, hf, hg⟩ := id hB
  have hF : JFr (twP g) H H := JFr.rfl'
  first | refine j_aload_n (pc := 0) hX dX3_doClosePost_0 rfl rfl ?_ | refine j_aload_nq (pc := 0) hX dX3_doClosePost_0 rfl rfl ?_
  refine j_iload_n (pc := 1) hX dX3_doClosePost_1 rfl rfl ?_
  refine j_rune (pc := 2) (jr_V (pc := 2) hX kv_X3_143 (by first | assumption | exact jow.r (by assumption)) (c_X3_isP _ _ _ hT x) (by decide) dX3_doClosePost_2 rfl rfl (Nat.le_of_ble_eq_true rfl)) ?_ jno_x
  refine j_if_ne (pc := 5) (tgt := 14) hX dX3_doClosePost_5 (by decide) (fun c_5 => ?_) (fun c_5 => ?_)
  · rw [jb_n, Option.isSome_iff_exists] at c_5
    obtain ⟨p, c_5⟩ := c_5
    obtain ⟨hp, ex⟩ := postN_ex h2 c_5
    obtain ⟨n, hn⟩ : ∃ n, ar 0 2 = n + 1 := ⟨ar 0 2 - 1, by omega⟩
    first | refine j_aload_n (pc := 14) hX dX3_doClosePost_14 rfl rfl ?_ | refine j_aload_nq (pc := 14) hX dX3_doClosePost_14 rfl rfl ?_
    refine j_iload_n (pc := 15) hX dX3_doClosePost_15 rfl rfl ?_
    refine j_iconst (pc := 16) (v := 4) hX dX3_doClosePost_16 (by decide) ?_
    rw [ex]
    refine j_rune (pc := 17) (jr_V (pc := 17) hX kv_X3_59 (by first | assumption | exact jow.r (by assumption)) (c_X3_ofPost _ _ _ hT p 4 (by omega) (by omega)) (by decide) dX3_doClosePost_17 rfl rfl (Nat.le_of_ble_eq_true rfl)) ?_ jno_x
    refine j_istore_n (pc := 20) hX dX3_doClosePost_20 rfl (by decide) rfl ?_
    first | refine j_aload_n (pc := 21) hX dX3_doClosePost_21 rfl rfl ?_ | refine j_aload_nq (pc := 21) hX dX3_doClosePost_21 rfl rfl ?_
    refine j_get (pc := 22) hX kg_X3_9 dX3_doClosePost_22 (by first | assumption | exact jow.r (by assumption)) (by rfl) ?_
    refine j_iconst (pc := 25) (v := 2) hX dX3_doClosePost_25 (by decide) ?_
    refine j_iald (pc := 26) hX dX3_doClosePost_26 (by first | assumption | exact jaw.r hX (by decide) (by assumption)) (by assumption) ?_
    refine j_iconst (pc := 27) (v := 1) hX dX3_doClosePost_27 (by decide) ?_
    refine j_isub (pc := 28) hX dX3_doClosePost_28 ?_
    change JW X G H 0 29 _ [.int (nI (ar 0 2) - 1)]
    rw [hn, nI_pred]
    refine j_istore_n (pc := 29) hX dX3_doClosePost_29 rfl (by decide) rfl ?_
    refine j_bipush (pc := 30) (v := 63) hX dX3_doClosePost_30 (by decide) ?_
    refine j_iconst (pc := 32) (v := 5) hX dX3_doClosePost_32 (by decide) ?_
    refine j_iload_n (pc := 33) hX dX3_doClosePost_33 rfl rfl ?_
    refine j_imul (pc := 34) hX dX3_doClosePost_34 ?_
    refine j_iadd (pc := 35) hX dX3_doClosePost_35 ?_
    rw [show (63 : Int32) + 5 * nI p = nI (63 + 5 * p) from by rw [show (63 : Int32) = nI 63 from rfl, show (5 : Int32) = nI 5 from rfl, pk_mul, nI_add]]
    refine j_istore (pc := 36) hX dX3_doClosePost_36 (by decide) rfl ?_
    first | refine j_aload_n (pc := 38) hX dX3_doClosePost_38 rfl rfl ?_ | refine j_aload_nq (pc := 38) hX dX3_doClosePost_38 rfl rfl ?_
    refine j_get (pc := 39) hX kg_X3_9 dX3_doClosePost_39 (by first | assumption | exact jow.r (by assumption)) (by rfl) ?_
    refine j_iload (pc := 42) hX dX3_doClosePost_42 rfl ?_
    refine j_iconst (pc := 44) (v := 5) hX dX3_doClosePost_44 (by decide) ?_
    refine j_iadd (pc := 45) hX dX3_doClosePost_45 ?_
    rw [show nI (63 + 5 * p) + 5 = nI (63 + 5 * p + 5) from nI_add _ 5]
    first | refine j_aload_n (pc := 46) hX dX3_doClosePost_46 rfl rfl ?_ | refine j_aload_nq (pc := 46) hX dX3_doClosePost_46 rfl rfl ?_
    refine j_get (pc := 47) hX kg_X3_9 dX3_doClosePost_47 (by first | assumption | exact jow.r (by assumption)) (by rfl) ?_
    refine j_iload (pc := 50) hX dX3_doClosePost_50 rfl ?_
    refine j_iconst (pc := 52) (v := 5) hX dX3_doClosePost_52 (by decide) ?_
    refine j_iload_n (pc := 53) hX dX3_doClosePost_53 rfl rfl ?_
    refine j_iload_n (pc := 54) hX dX3_doClosePost_54 rfl rfl ?_
    refine j_isub (pc := 55) hX dX3_doClosePost_55 ?_
    refine j_imul (pc := 56) hX dX3_doClosePost_56 ?_
    rw [nI_subN (show p ≤ n by omega), show (5 : Int32) = nI 5 from rfl, pk_mul]
    refine j_acopy (pc := 57) (t := 0) hX kcp_X3_42 (by decide) (63+5*p+5) (63+5*p) (5*(n-p)) rfl rfl rfl dX3_doClosePost_57 (by first | assumption | exact jaw.r (t := 0) hX (by decide) (by assumption)) (by assumption) (h0.1 _ (by decide)) (by omega) (by omega) (by omega) (by omega) (fun i hi => ⟨rfl, fun a h => by cases h⟩) (by decide) (Nat.le_of_ble_eq_true rfl) (fun H_57 w_57 n_57 => ?_)
    have hT := tw_arr0 (s2 := (cpN (ar 0) (ar 0) (63 + 5 * p + 5) (63 + 5 * p) (5 * (n - p)))) hT w_57 (jaw_cpy n_57) (fun j hj => rfl)
    have hF := JFr.put hF w_57 (fun _ => ⟨0, by decide, rfl⟩)
    obtain ⟨h0, ho, hs, hbf, hsv, hpa, hou, hip, hcm⟩ := id hT
    first | refine j_aload_n (pc := 60) hX dX3_doClosePost_60 rfl rfl ?_ | refine j_aload_nq (pc := 60) hX dX3_doClosePost_60 rfl rfl ?_
    refine j_get (pc := 61) hX kg_X3_9 dX3_doClosePost_61 (by first | assumption | exact jow.r (by assumption)) (by rfl) ?_
    refine j_iconst (pc := 64) (v := 2) hX dX3_doClosePost_64 (by decide) ?_
    refine j_iload_n (pc := 65) hX dX3_doClosePost_65 rfl rfl ?_
    refine j_iast (pc := 66) hX dX3_doClosePost_66 (by assumption) (h0.1 _ (by decide)) (by assumption) (fun H_66 w_66 n_66 => ?_)
    have hT := tw_arr0 hT w_66 n_66 (tw_hf _ _ _ _)
    have hF := JFr.put hF w_66 (fun _ => ⟨0, by decide, rfl⟩)
    obtain ⟨h0, ho, hs, hbf, hsv, hpa, hou, hip, hcm⟩ := id hT
    refine j_iload_n (pc := 67) hX dX3_doClosePost_67 rfl rfl ?_
    refine j_if_le (pc := 68) (tgt := 75) hX dX3_doClosePost_68 (by decide) (fun c_68 => ?_) (fun c_68 => ?_)
    · rw [show (0 : Int32) = nI 0 from rfl, nI_leI (bsL hb (by omega)) (by omega)] at c_68
      refine j_iconst (pc := 75) (v := 0) hX dX3_doClosePost_75 (by decide) ?_
      exact j_iret hX hQ hr dX3_doClosePost_76 ⟨_, rfl, twU_ok (s' := jup (cpN (ar 0) (ar 0) (63 + 5 * p + 5) (63 + 5 * p) (5 * (ar 0 2 - 1 - p))) 2 (ar 0 2 - 1)) h6 (by first | (have c_68' : ¬ 0 < pFl (ar 0) p := by (show ¬ 0 < ar 0 (63 + 5 * p + 4)); omega); simp [closeD, c_5, c_68'] | (have c_68' : 0 < pFl (ar 0) p := by (show 0 < ar 0 (63 + 5 * p + 4)); omega); simp [closeD, c_5, c_68']) hF (by rw [jup_jup, jup_same] at hT; rw [hn, Nat.add_sub_cancel]; exact hT)⟩
    · rw [show (0 : Int32) = nI 0 from rfl, nI_leI (bsL hb (by omega)) (by omega)] at c_68
      refine j_iconst (pc := 71) (v := 1) hX dX3_doClosePost_71 (by decide) ?_
      refine j_goto (pc := 72) (tgt := 76) hX dX3_doClosePost_72 (by decide) ?_
      exact j_iret hX hQ hr dX3_doClosePost_76 ⟨_, rfl, twU_ok (s' := jup (cpN (ar 0) (ar 0) (63 + 5 * p + 5) (63 + 5 * p) (5 * (ar 0 2 - 1 - p))) 2 (ar 0 2 - 1)) h6 (by first | (have c_68' : ¬ 0 < pFl (ar 0) p := by (show ¬ 0 < ar 0 (63 + 5 * p + 4)); omega); simp [closeD, c_5, c_68'] | (have c_68' : 0 < pFl (ar 0) p := by (show 0 < ar 0 (63 + 5 * p + 4)); omega); simp [closeD, c_5, c_68']) hF (by rw [jup_jup, jup_same] at hT; rw [hn, Nat.add_sub_cancel]; exact hT)⟩
  · rw [jb_z, Option.isSome_eq_false_iff, Option.isNone_iff_eq_none] at c_5
    first | refine j_aload_n (pc := 8) hX dX3_doClosePost_8 rfl rfl ?_ | refine j_aload_nq (pc := 8) hX dX3_doClosePost_8 rfl rfl ?_
    refine j_iconst (pc := 9) (v := 1) hX dX3_doClosePost_9 (by decide) ?_
    refine j_runi (pc := 10) (jr_V (pc := 10) hX kv_X3_82 (by first | assumption | exact jow.r (by assumption)) (c_X3_fails _ _ _ hT _) (by decide) dX3_doClosePost_10 rfl rfl (Nat.le_of_ble_eq_true rfl)) (fun r_10 H_10 p_10 z_10 => ?_) jno_x
    obtain ⟨hR, rfl⟩ := p_10
    have hF := JFr.trans hF hR.1
    have hT := hR.2
    exact j_iret hX hQ hr dX3_doClosePost_13 ⟨_, rfl, twU_no (t := 1) (by rw [closeD, c_5]) hF hT⟩
def fillS (s : Nat → Nat) (p k : Nat) : Nat → Nat := jup s (63 + 5 * p + 4) (k + 1)
def hireD (s : Nat → Nat) (x y : Int32) : Nat × Int32 × (Nat → Nat) :=
  match postN s x with
  | none => (1, 0, s)
  | some p => match slotN s y with
    | none => (2, 0, s)
    | some k => if 0 < pFl s p ∨ waitN s k = false then (3, 0, s) else if fitN s k p = false then (4, 0, s) else (0, nI (vacN (fillS s p k)), fillS s p k)
theorem fillS_B {s : Nat → Nat} {p k : Nat} (h : Bs s) (hk : k < 10) : Bs (fillS s p k) := h.up (by omega) (fun z => by omega) (fun _ _ _ => by omega) (fun _ _ z => by omega)
theorem c_X3_doHire (l : Launch) (G : JG) (H : Heap) {g : Nat → Nat} {ar : Nat → Nat → Nat} {cm fs : Nat → Int32} (hT : jtw G H g ar cm fs) (hB : Bs (ar 0)) (h6 : fs 6 = 0) (x y : Int32) : JMet l yX3_doHire (ws_ yX3_doHire cX3_doHire 4 (some .int)) 4 0 G H [.ref (g 100), .int x, .int y] (twU G H g ar cm fs (hireD (ar 0) x y)) (jno) := by
  refine JMet.of [(0, .inr (some (g 100))), (1, .inl (.int x)), (2, .inl (.int y))] (by decide) (Nat.le_of_ble_eq_true rfl) rfl (fun X hl hX hQ hEx hr hnm hH => ?_)
  subst hl
  obtain ⟨h0, ho, hs, hbf, hsv, hpa, hou, hip, hcm⟩ := id hT
  have hi2 : vp_in (2 : Int32) 93 := vp_in_nI (n := 2) (by omega) (by decide)
  obtain ⟨h2, hb, hf, hg⟩ := id hB
  have hF : JFr (twP g) H H := JFr.rfl'
  first | refine j_aload_n (pc := 0) hX dX3_doHire_0 rfl rfl ?_ | refine j_aload_nq (pc := 0) hX dX3_doHire_0 rfl rfl ?_
  refine j_iload_n (pc := 1) hX dX3_doHire_1 rfl rfl ?_
  refine j_rune (pc := 2) (jr_V (pc := 2) hX kv_X3_103 (by first | assumption | exact jow.r (by assumption)) (c_X3_slotOf _ _ _ hT y) (by decide) dX3_doHire_2 rfl rfl (Nat.le_of_ble_eq_true rfl)) ?_ jno_x
  refine j_istore_n (pc := 5) hX dX3_doHire_5 rfl (by decide) rfl ?_
  first | refine j_aload_n (pc := 6) hX dX3_doHire_6 rfl rfl ?_ | refine j_aload_nq (pc := 6) hX dX3_doHire_6 rfl rfl ?_
  refine j_iload_n (pc := 7) hX dX3_doHire_7 rfl rfl ?_
  refine j_rune (pc := 8) (jr_V (pc := 8) hX kv_X3_143 (by first | assumption | exact jow.r (by assumption)) (c_X3_isP _ _ _ hT x) (by decide) dX3_doHire_8 rfl rfl (Nat.le_of_ble_eq_true rfl)) ?_ jno_x
  refine j_if_ne (pc := 11) (tgt := 20) hX dX3_doHire_11 (by decide) (fun c_11 => ?_) (fun c_11 => ?_)
  · rw [jb_n, Option.isSome_iff_exists] at c_11
    obtain ⟨p, c_11⟩ := c_11
    obtain ⟨hp, ex⟩ := postN_ex h2 c_11
    refine j_iload_n (pc := 20) hX dX3_doHire_20 rfl rfl ?_
    refine j_if_ge (pc := 21) (tgt := 30) hX dX3_doHire_21 (by decide) (fun c_21 => ?_) (fun c_21 => ?_)
    · rw [oI_pos' (fun _ => slotN_lt) (by omega)] at c_21
      obtain ⟨k, c_21, hk⟩ := c_21
      first | refine j_aload_n (pc := 30) hX dX3_doHire_30 rfl rfl ?_ | refine j_aload_nq (pc := 30) hX dX3_doHire_30 rfl rfl ?_
      refine j_iload_n (pc := 31) hX dX3_doHire_31 rfl rfl ?_
      refine j_iconst (pc := 32) (v := 4) hX dX3_doHire_32 (by decide) ?_
      rw [ex]
      refine j_rune (pc := 33) (jr_V (pc := 33) hX kv_X3_59 (by first | assumption | exact jow.r (by assumption)) (c_X3_ofPost _ _ _ hT p 4 (by omega) (by omega)) (by decide) dX3_doHire_33 rfl rfl (Nat.le_of_ble_eq_true rfl)) ?_ jno_x
      refine j_if_gt (pc := 36) (tgt := 47) hX dX3_doHire_36 (by decide) (fun c_36 => ?_) (fun c_36 => ?_)
      · rw [show (0 : Int32) = nI 0 from rfl, nI_ltI (by omega) (bsL hb (by omega))] at c_36
        first | refine j_aload_n (pc := 47) hX dX3_doHire_47 rfl rfl ?_ | refine j_aload_nq (pc := 47) hX dX3_doHire_47 rfl rfl ?_
        refine j_iconst (pc := 48) (v := 3) hX dX3_doHire_48 (by decide) ?_
        refine j_runi (pc := 49) (jr_V (pc := 49) hX kv_X3_82 (by first | assumption | exact jow.r (by assumption)) (c_X3_fails _ _ _ hT _) (by decide) dX3_doHire_49 rfl rfl (Nat.le_of_ble_eq_true rfl)) (fun r_49 H_49 p_49 z_49 => ?_) jno_x
        obtain ⟨hR, rfl⟩ := p_49
        have hF := JFr.trans hF hR.1
        have hT := hR.2
        exact j_iret hX hQ hr dX3_doHire_52 ⟨_, rfl, twU_no (t := 3) (by simp [hireD, pFl, c_11, c_21, c_36]) hF hT⟩
      · rw [show (0 : Int32) = nI 0 from rfl, nI_ltI (by omega) (bsL hb (by omega))] at c_36
        first | refine j_aload_n (pc := 39) hX dX3_doHire_39 rfl rfl ?_ | refine j_aload_nq (pc := 39) hX dX3_doHire_39 rfl rfl ?_
        refine j_iload_n (pc := 40) hX dX3_doHire_40 rfl rfl ?_
        rw [oI_some c_21]
        refine j_rune (pc := 41) (jr_V (pc := 41) hX kv_X3_113 (by first | assumption | exact jow.r (by assumption)) (c_X3_isWaiting _ _ _ hT hB k hk) (by decide) dX3_doHire_41 rfl rfl (Nat.le_of_ble_eq_true rfl)) ?_ jno_x
        refine j_if_ne (pc := 44) (tgt := 53) hX dX3_doHire_44 (by decide) (fun c_44 => ?_) (fun c_44 => ?_)
        · rw [jb_n] at c_44
          first | refine j_aload_n (pc := 53) hX dX3_doHire_53 rfl rfl ?_ | refine j_aload_nq (pc := 53) hX dX3_doHire_53 rfl rfl ?_
          refine j_iload_n (pc := 54) hX dX3_doHire_54 rfl rfl ?_
          refine j_iload_n (pc := 55) hX dX3_doHire_55 rfl rfl ?_
          refine j_rune (pc := 56) (jr_V (pc := 56) hX kv_X3_152 (by first | assumption | exact jow.r (by assumption)) (c_X3_fits _ _ _ hT hB k p hk (by omega)) (by decide) dX3_doHire_56 rfl rfl (Nat.le_of_ble_eq_true rfl)) ?_ jno_x
          refine j_if_ne (pc := 59) (tgt := 68) hX dX3_doHire_59 (by decide) (fun c_59 => ?_) (fun c_59 => ?_)
          · rw [jb_n] at c_59
            first | refine j_aload_n (pc := 68) hX dX3_doHire_68 rfl rfl ?_ | refine j_aload_nq (pc := 68) hX dX3_doHire_68 rfl rfl ?_
            refine j_iload_n (pc := 69) hX dX3_doHire_69 rfl rfl ?_
            refine j_iload_n (pc := 70) hX dX3_doHire_70 rfl rfl ?_
            refine j_runv (pc := 71) (jr_V (pc := 71) hX kv_X3_165 (by first | assumption | exact jow.r (by assumption)) (c_X3_fills _ _ _ hT p k (by omega) hk) (by decide) dX3_doHire_71 rfl rfl (Nat.le_of_ble_eq_true rfl)) (fun H_71 p_71 z_71 => ?_) jno_x
            have hF := JFr.trans hF p_71.1
            have hT := p_71.2
            obtain ⟨h0, ho, hs, hbf, hsv, hpa, hou, hip, hcm⟩ := id hT
            first | refine j_aload_n (pc := 74) hX dX3_doHire_74 rfl rfl ?_ | refine j_aload_nq (pc := 74) hX dX3_doHire_74 rfl rfl ?_
            refine j_rune (pc := 75) (jr_V (pc := 75) hX kv_X3_149 (by first | assumption | exact jow.r (by assumption)) (c_X3_vacancies _ _ _ hT (fillS_B hB hk)) (by decide) dX3_doHire_75 rfl rfl (Nat.le_of_ble_eq_true rfl)) ?_ jno_x
            exact j_iret hX hQ hr dX3_doHire_78 ⟨_, rfl, twU_ok (s' := fillS (ar 0) p k) h6 (by simp [hireD, pFl, c_11, c_21, c_36, c_44, c_59]; rfl) hF hT⟩
          · rw [jb_z] at c_59
            first | refine j_aload_n (pc := 62) hX dX3_doHire_62 rfl rfl ?_ | refine j_aload_nq (pc := 62) hX dX3_doHire_62 rfl rfl ?_
            refine j_iconst (pc := 63) (v := 4) hX dX3_doHire_63 (by decide) ?_
            refine j_runi (pc := 64) (jr_V (pc := 64) hX kv_X3_82 (by first | assumption | exact jow.r (by assumption)) (c_X3_fails _ _ _ hT _) (by decide) dX3_doHire_64 rfl rfl (Nat.le_of_ble_eq_true rfl)) (fun r_64 H_64 p_64 z_64 => ?_) jno_x
            obtain ⟨hR, rfl⟩ := p_64
            have hF := JFr.trans hF hR.1
            have hT := hR.2
            exact j_iret hX hQ hr dX3_doHire_67 ⟨_, rfl, twU_no (t := 4) (by simp [hireD, pFl, c_11, c_21, c_36, c_44, c_59]) hF hT⟩
        · rw [jb_z] at c_44
          first | refine j_aload_n (pc := 47) hX dX3_doHire_47 rfl rfl ?_ | refine j_aload_nq (pc := 47) hX dX3_doHire_47 rfl rfl ?_
          refine j_iconst (pc := 48) (v := 3) hX dX3_doHire_48 (by decide) ?_
          refine j_runi (pc := 49) (jr_V (pc := 49) hX kv_X3_82 (by first | assumption | exact jow.r (by assumption)) (c_X3_fails _ _ _ hT _) (by decide) dX3_doHire_49 rfl rfl (Nat.le_of_ble_eq_true rfl)) (fun r_49 H_49 p_49 z_49 => ?_) jno_x
          obtain ⟨hR, rfl⟩ := p_49
          have hF := JFr.trans hF hR.1
          have hT := hR.2
          exact j_iret hX hQ hr dX3_doHire_52 ⟨_, rfl, twU_no (t := 3) (by simp [hireD, pFl, c_11, c_21, c_36, c_44]) hF hT⟩
    · rw [Int32.not_le, oI_neg' (fun _ => slotN_lt) (by omega)] at c_21
      first | refine j_aload_n (pc := 24) hX dX3_doHire_24 rfl rfl ?_ | refine j_aload_nq (pc := 24) hX dX3_doHire_24 rfl rfl ?_
      refine j_iconst (pc := 25) (v := 2) hX dX3_doHire_25 (by decide) ?_
      refine j_runi (pc := 26) (jr_V (pc := 26) hX kv_X3_82 (by first | assumption | exact jow.r (by assumption)) (c_X3_fails _ _ _ hT _) (by decide) dX3_doHire_26 rfl rfl (Nat.le_of_ble_eq_true rfl)) (fun r_26 H_26 p_26 z_26 => ?_) jno_x
      obtain ⟨hR, rfl⟩ := p_26
      have hF := JFr.trans hF hR.1
      have hT := hR.2
      exact j_iret hX hQ hr dX3_doHire_29 ⟨_, rfl, twU_no (t := 2) (by simp [hireD, c_11, c_21]) hF hT⟩
  · rw [jb_z, Option.isSome_eq_false_iff, Option.isNone_iff_eq_none] at c_11
    first | refine j_aload_n (pc := 14) hX dX3_doHire_14 rfl rfl ?_ | refine j_aload_nq (pc := 14) hX dX3_doHire_14 rfl rfl ?_
    refine j_iconst (pc := 15) (v := 1) hX dX3_doHire_15 (by decide) ?_
    refine j_runi (pc := 16) (jr_V (pc := 16) hX kv_X3_82 (by first | assumption | exact jow.r (by assumption)) (c_X3_fails _ _ _ hT _) (by decide) dX3_doHire_16 rfl rfl (Nat.le_of_ble_eq_true rfl)) (fun r_16 H_16 p_16 z_16 => ?_) jno_x
    obtain ⟨hR, rfl⟩ := p_16
    have hF := JFr.trans hF hR.1
    have hT := hR.2
    exact j_iret hX hQ hr dX3_doHire_19 ⟨_, rfl, twU_no (t := 1) (by simp [hireD, c_11]) hF hT⟩
def hireBestD (s : Nat → Nat) (x : Int32) : Nat × Int32 × (Nat → Nat) :=
  match postN s x with
  | none => (1, 0, s)
  | some p => if 0 < pFl s p then (2, 0, s) else match candN s p with
    | none => (3, 0, s)
    | some k => (0, nI (aId s k) - 1, fillS s p k)
theorem c_X3_doHireBest (l : Launch) (G : JG) (H : Heap) {g : Nat → Nat} {ar : Nat → Nat → Nat} {cm fs : Nat → Int32} (hT : jtw G H g ar cm fs) (hB : Bs (ar 0)) (h6 : fs 6 = 0) (x : Int32) : JMet l yX3_doHireBest (ws_ yX3_doHireBest cX3_doHireBest 3 (some .int)) 5 0 G H [.ref (g 100), .int x] (twU G H g ar cm fs (hireBestD (ar 0) x)) (jno) := by
  refine JMet.of [(0, .inr (some (g 100))), (1, .inl (.int x))] (by decide) (Nat.le_of_ble_eq_true rfl) rfl (fun X hl hX hQ hEx hr hnm hH => ?_)
  subst hl
  obtain ⟨h0, ho, hs, hbf, hsv, hpa, hou, hip, hcm⟩ := id hT
  have hi2 : vp_in (2 : Int32) 93 := vp_in_nI (n := 2) (by omega) (by decide)
  obtain ⟨h2, hb, hf, hg⟩ := id hB
  have hF : JFr (twP g) H H := JFr.rfl'
  first | refine j_aload_n (pc := 0) hX dX3_doHireBest_0 rfl rfl ?_ | refine j_aload_nq (pc := 0) hX dX3_doHireBest_0 rfl rfl ?_
  refine j_iload_n (pc := 1) hX dX3_doHireBest_1 rfl rfl ?_
  refine j_rune (pc := 2) (jr_V (pc := 2) hX kv_X3_143 (by first | assumption | exact jow.r (by assumption)) (c_X3_isP _ _ _ hT x) (by decide) dX3_doHireBest_2 rfl rfl (Nat.le_of_ble_eq_true rfl)) ?_ jno_x
  refine j_if_ne (pc := 5) (tgt := 14) hX dX3_doHireBest_5 (by decide) (fun c_5 => ?_) (fun c_5 => ?_)
  · rw [jb_n, Option.isSome_iff_exists] at c_5
    obtain ⟨p, c_5⟩ := c_5
    obtain ⟨hp, ex⟩ := postN_ex h2 c_5
    first | refine j_aload_n (pc := 14) hX dX3_doHireBest_14 rfl rfl ?_ | refine j_aload_nq (pc := 14) hX dX3_doHireBest_14 rfl rfl ?_
    refine j_iload_n (pc := 15) hX dX3_doHireBest_15 rfl rfl ?_
    refine j_iconst (pc := 16) (v := 4) hX dX3_doHireBest_16 (by decide) ?_
    rw [ex]
    refine j_rune (pc := 17) (jr_V (pc := 17) hX kv_X3_59 (by first | assumption | exact jow.r (by assumption)) (c_X3_ofPost _ _ _ hT p 4 (by omega) (by omega)) (by decide) dX3_doHireBest_17 rfl rfl (Nat.le_of_ble_eq_true rfl)) ?_ jno_x
    refine j_if_le (pc := 20) (tgt := 29) hX dX3_doHireBest_20 (by decide) (fun c_20 => ?_) (fun c_20 => ?_)
    · rw [show (0 : Int32) = nI 0 from rfl, nI_leI (bsL hb (by omega)) (by omega)] at c_20
      have c_20' : ¬ 0 < pFl (ar 0) p := by (show ¬ 0 < ar 0 (63 + 5 * p + 4)); omega
      first | refine j_aload_n (pc := 29) hX dX3_doHireBest_29 rfl rfl ?_ | refine j_aload_nq (pc := 29) hX dX3_doHireBest_29 rfl rfl ?_
      refine j_iload_n (pc := 30) hX dX3_doHireBest_30 rfl rfl ?_
      refine j_rune (pc := 31) (jr_V (pc := 31) hX kv_X3_162 (by first | assumption | exact jow.r (by assumption)) (c_X3_candidate _ _ _ hT hB p (by omega)) (by decide) dX3_doHireBest_31 rfl rfl (Nat.le_of_ble_eq_true rfl)) ?_ jno_x
      refine j_istore_n (pc := 34) hX dX3_doHireBest_34 rfl (by decide) rfl ?_
      refine j_iload_n (pc := 35) hX dX3_doHireBest_35 rfl rfl ?_
      refine j_if_ge (pc := 36) (tgt := 45) hX dX3_doHireBest_36 (by decide) (fun c_36 => ?_) (fun c_36 => ?_)
      · rw [oI_pos' (fun _ => candN_lt) (by omega)] at c_36
        obtain ⟨k, c_36, hk⟩ := c_36
        first | refine j_aload_n (pc := 45) hX dX3_doHireBest_45 rfl rfl ?_ | refine j_aload_nq (pc := 45) hX dX3_doHireBest_45 rfl rfl ?_
        refine j_iload_n (pc := 46) hX dX3_doHireBest_46 rfl rfl ?_
        refine j_iload_n (pc := 47) hX dX3_doHireBest_47 rfl rfl ?_
        rw [oI_some c_36]
        refine j_runv (pc := 48) (jr_V (pc := 48) hX kv_X3_165 (by first | assumption | exact jow.r (by assumption)) (c_X3_fills _ _ _ hT p k (by omega) hk) (by decide) dX3_doHireBest_48 rfl rfl (Nat.le_of_ble_eq_true rfl)) (fun H_48 p_48 z_48 => ?_) jno_x
        have hF := JFr.trans hF p_48.1
        have hT := p_48.2
        obtain ⟨h0, ho, hs, hbf, hsv, hpa, hou, hip, hcm⟩ := id hT
        first | refine j_aload_n (pc := 51) hX dX3_doHireBest_51 rfl rfl ?_ | refine j_aload_nq (pc := 51) hX dX3_doHireBest_51 rfl rfl ?_
        refine j_iload_n (pc := 52) hX dX3_doHireBest_52 rfl rfl ?_
        refine j_rune (pc := 53) (jr_V (pc := 53) hX kv_X3_76 (by first | assumption | exact jow.r (by assumption)) (c_X3_idOf _ _ _ hT k hk) (by decide) dX3_doHireBest_53 rfl rfl (Nat.le_of_ble_eq_true rfl)) ?_ jno_x
        exact j_iret hX hQ hr dX3_doHireBest_56 ⟨_, rfl, twU_ok (s' := fillS (ar 0) p k) h6 (by simp [hireBestD, c_5, c_20', c_36, aId, fillS, jup_same, jup_ne (show 3 + 6 * k ≠ 63 + 5 * p + 4 by omega)]) hF hT⟩
      · rw [Int32.not_le, oI_neg' (fun _ => candN_lt) (by omega)] at c_36
        first | refine j_aload_n (pc := 39) hX dX3_doHireBest_39 rfl rfl ?_ | refine j_aload_nq (pc := 39) hX dX3_doHireBest_39 rfl rfl ?_
        refine j_iconst (pc := 40) (v := 3) hX dX3_doHireBest_40 (by decide) ?_
        refine j_runi (pc := 41) (jr_V (pc := 41) hX kv_X3_82 (by first | assumption | exact jow.r (by assumption)) (c_X3_fails _ _ _ hT _) (by decide) dX3_doHireBest_41 rfl rfl (Nat.le_of_ble_eq_true rfl)) (fun r_41 H_41 p_41 z_41 => ?_) jno_x
        obtain ⟨hR, rfl⟩ := p_41
        have hF := JFr.trans hF hR.1
        have hT := hR.2
        exact j_iret hX hQ hr dX3_doHireBest_44 ⟨_, rfl, twU_no (t := 3) (by simp [hireBestD, c_5, c_20', c_36]) hF hT⟩
    · rw [show (0 : Int32) = nI 0 from rfl, nI_leI (bsL hb (by omega)) (by omega)] at c_20
      have c_20' : 0 < pFl (ar 0) p := by (show 0 < ar 0 (63 + 5 * p + 4)); omega
      first | refine j_aload_n (pc := 23) hX dX3_doHireBest_23 rfl rfl ?_ | refine j_aload_nq (pc := 23) hX dX3_doHireBest_23 rfl rfl ?_
      refine j_iconst (pc := 24) (v := 2) hX dX3_doHireBest_24 (by decide) ?_
      refine j_runi (pc := 25) (jr_V (pc := 25) hX kv_X3_82 (by first | assumption | exact jow.r (by assumption)) (c_X3_fails _ _ _ hT _) (by decide) dX3_doHireBest_25 rfl rfl (Nat.le_of_ble_eq_true rfl)) (fun r_25 H_25 p_25 z_25 => ?_) jno_x
      obtain ⟨hR, rfl⟩ := p_25
      have hF := JFr.trans hF hR.1
      have hT := hR.2
      exact j_iret hX hQ hr dX3_doHireBest_28 ⟨_, rfl, twU_no (t := 2) (by simp [hireBestD, c_5, c_20']) hF hT⟩
  · rw [jb_z, Option.isSome_eq_false_iff, Option.isNone_iff_eq_none] at c_5
    first | refine j_aload_n (pc := 8) hX dX3_doHireBest_8 rfl rfl ?_ | refine j_aload_nq (pc := 8) hX dX3_doHireBest_8 rfl rfl ?_
    refine j_iconst (pc := 9) (v := 1) hX dX3_doHireBest_9 (by decide) ?_
    refine j_runi (pc := 10) (jr_V (pc := 10) hX kv_X3_82 (by first | assumption | exact jow.r (by assumption)) (c_X3_fails _ _ _ hT _) (by decide) dX3_doHireBest_10 rfl rfl (Nat.le_of_ble_eq_true rfl)) (fun r_10 H_10 p_10 z_10 => ?_) jno_x
    obtain ⟨hR, rfl⟩ := p_10
    have hF := JFr.trans hF hR.1
    have hT := hR.2
    exact j_iret hX hQ hr dX3_doHireBest_13 ⟨_, rfl, twU_no (t := 1) (by simp [hireBestD, c_5]) hF hT⟩
def dismissD (s : Nat → Nat) (x : Int32) : Nat × Int32 × (Nat → Nat) :=
  match postN s x with
  | none => (1, 0, s)
  | some p => if pFl s p = 0 then (2, 0, s) else (0, nI (aId s (pFl s p - 1)) - 1, jup s (63 + 5 * p + 4) 0)
theorem c_X3_doDismiss (l : Launch) (G : JG) (H : Heap) {g : Nat → Nat} {ar : Nat → Nat → Nat} {cm fs : Nat → Int32} (hT : jtw G H g ar cm fs) (hB : Bs (ar 0)) (h6 : fs 6 = 0) (x : Int32) : JMet l yX3_doDismiss (ws_ yX3_doDismiss cX3_doDismiss 3 (some .int)) 3 0 G H [.ref (g 100), .int x] (twU G H g ar cm fs (dismissD (ar 0) x)) (jno) := by
  refine JMet.of [(0, .inr (some (g 100))), (1, .inl (.int x))] (by decide) (Nat.le_of_ble_eq_true rfl) rfl (fun X hl hX hQ hEx hr hnm hH => ?_)
  subst hl
  obtain ⟨h0, ho, hs, hbf, hsv, hpa, hou, hip, hcm⟩ := id hT
  have hi2 : vp_in (2 : Int32) 93 := vp_in_nI (n := 2) (by omega) (by decide)
  obtain ⟨h2, hb, hf, hg⟩ := id hB
  have hF : JFr (twP g) H H := JFr.rfl'
  first | refine j_aload_n (pc := 0) hX dX3_doDismiss_0 rfl rfl ?_ | refine j_aload_nq (pc := 0) hX dX3_doDismiss_0 rfl rfl ?_
  refine j_iload_n (pc := 1) hX dX3_doDismiss_1 rfl rfl ?_
  refine j_rune (pc := 2) (jr_V (pc := 2) hX kv_X3_143 (by first | assumption | exact jow.r (by assumption)) (c_X3_isP _ _ _ hT x) (by decide) dX3_doDismiss_2 rfl rfl (Nat.le_of_ble_eq_true rfl)) ?_ jno_x
  refine j_if_ne (pc := 5) (tgt := 14) hX dX3_doDismiss_5 (by decide) (fun c_5 => ?_) (fun c_5 => ?_)
  · rw [jb_n, Option.isSome_iff_exists] at c_5
    obtain ⟨p, c_5⟩ := c_5
    obtain ⟨hp, ex⟩ := postN_ex h2 c_5
    have hk1 := hf p (by omega)
    first | refine j_aload_n (pc := 14) hX dX3_doDismiss_14 rfl rfl ?_ | refine j_aload_nq (pc := 14) hX dX3_doDismiss_14 rfl rfl ?_
    refine j_iload_n (pc := 15) hX dX3_doDismiss_15 rfl rfl ?_
    refine j_iconst (pc := 16) (v := 4) hX dX3_doDismiss_16 (by decide) ?_
    rw [ex]
    refine j_rune (pc := 17) (jr_V (pc := 17) hX kv_X3_59 (by first | assumption | exact jow.r (by assumption)) (c_X3_ofPost _ _ _ hT p 4 (by omega) (by omega)) (by decide) dX3_doDismiss_17 rfl rfl (Nat.le_of_ble_eq_true rfl)) ?_ jno_x
    refine j_iconst (pc := 20) (v := 1) hX dX3_doDismiss_20 (by decide) ?_
    refine j_isub (pc := 21) hX dX3_doDismiss_21 ?_
    refine j_istore_n (pc := 22) hX dX3_doDismiss_22 rfl (by decide) rfl ?_
    refine j_iload_n (pc := 23) hX dX3_doDismiss_23 rfl rfl ?_
    refine j_if_ge (pc := 24) (tgt := 33) hX dX3_doDismiss_24 (by decide) (fun c_24 => ?_) (fun c_24 => ?_)
    · have c_24' : 0 < pFl (ar 0) p := by rcases Nat.eq_zero_or_pos (pFl (ar 0) p) with e | e; exact absurd c_24 (by rw [show ar 0 (63 + 5 * p + 4) = 0 from e]; decide); exact e
      obtain ⟨k, hk⟩ : ∃ k, ar 0 (63 + 5 * p + 4) = k + 1 := ⟨pFl (ar 0) p - 1, (Nat.sub_add_cancel c_24').symm⟩
      have hk2 : ar 0 (63 + 5 * p + 4) ≤ 10 := hf p (by omega)
      have hk3 : k < 10 := by omega
      first | refine j_aload_n (pc := 33) hX dX3_doDismiss_33 rfl rfl ?_ | refine j_aload_nq (pc := 33) hX dX3_doDismiss_33 rfl rfl ?_
      have hin : vp_in (nI (63 + 5 * p + 4)) 93 := vp_in_nI (by omega) (by decide)
      refine j_get (pc := 34) hX kg_X3_9 dX3_doDismiss_34 (by first | assumption | exact jow.r (by assumption)) (by rfl) ?_
      refine j_bipush (pc := 37) (v := 63) hX dX3_doDismiss_37 (by decide) ?_
      refine j_iconst (pc := 39) (v := 5) hX dX3_doDismiss_39 (by decide) ?_
      refine j_iload_n (pc := 40) hX dX3_doDismiss_40 rfl rfl ?_
      refine j_imul (pc := 41) hX dX3_doDismiss_41 ?_
      refine j_iadd (pc := 42) hX dX3_doDismiss_42 ?_
      refine j_iconst (pc := 43) (v := 4) hX dX3_doDismiss_43 (by decide) ?_
      refine j_iadd (pc := 44) hX dX3_doDismiss_44 ?_
      change JW X G H 0 45 _ [.int (63 + 5 * nI p + nI 4), _]
      rw [tw_px]
      refine j_iconst (pc := 45) (v := 0) hX dX3_doDismiss_45 (by decide) ?_
      refine j_iast (pc := 46) hX dX3_doDismiss_46 (by assumption) (h0.1 _ (by decide)) (by assumption) (fun H_46 w_46 n_46 => ?_)
      rw [nI_clamp (by omega)] at n_46
      have hT := tw_arr0 hT w_46 n_46 (tw_hf _ _ _ _)
      have hF := JFr.put hF w_46 (fun _ => ⟨0, by decide, rfl⟩)
      obtain ⟨h0, ho, hs, hbf, hsv, hpa, hou, hip, hcm⟩ := id hT
      first | refine j_aload_n (pc := 47) hX dX3_doDismiss_47 rfl rfl ?_ | refine j_aload_nq (pc := 47) hX dX3_doDismiss_47 rfl rfl ?_
      refine j_iload_n (pc := 48) hX dX3_doDismiss_48 rfl rfl ?_
      rw [hk, nI_pred]
      refine j_rune (pc := 49) (jr_V (pc := 49) hX kv_X3_76 (by first | assumption | exact jow.r (by assumption)) (c_X3_idOf _ _ _ hT k hk3) (by decide) dX3_doDismiss_49 rfl rfl (Nat.le_of_ble_eq_true rfl)) ?_ jno_x
      exact j_iret hX hQ hr dX3_doDismiss_52 ⟨_, rfl, twU_ok (s' := jup (ar 0) (63 + 5 * p + 4) 0) h6 (by simp [dismissD, c_5, Nat.pos_iff_ne_zero.mp c_24', hk, aId, pFl, jup_same, jup_ne (show 3 + 6 * k ≠ 63 + 5 * p + 4 by omega)]) hF hT⟩
    · have c_24' : pFl (ar 0) p = 0 := by rcases Nat.eq_zero_or_pos (pFl (ar 0) p) with e | e; exact e; exact absurd (by rw [show ar 0 (63 + 5 * p + 4) = (pFl (ar 0) p - 1) + 1 from (Nat.sub_add_cancel e).symm, nI_pred]; exact nI_pos' (by omega)) c_24
      first | refine j_aload_n (pc := 27) hX dX3_doDismiss_27 rfl rfl ?_ | refine j_aload_nq (pc := 27) hX dX3_doDismiss_27 rfl rfl ?_
      refine j_iconst (pc := 28) (v := 2) hX dX3_doDismiss_28 (by decide) ?_
      refine j_runi (pc := 29) (jr_V (pc := 29) hX kv_X3_82 (by first | assumption | exact jow.r (by assumption)) (c_X3_fails _ _ _ hT _) (by decide) dX3_doDismiss_29 rfl rfl (Nat.le_of_ble_eq_true rfl)) (fun r_29 H_29 p_29 z_29 => ?_) jno_x
      obtain ⟨hR, rfl⟩ := p_29
      have hF := JFr.trans hF hR.1
      have hT := hR.2
      exact j_iret hX hQ hr dX3_doDismiss_32 ⟨_, rfl, twU_no (t := 2) (by simp [dismissD, c_5, c_24']) hF hT⟩
  · rw [jb_z, Option.isSome_eq_false_iff, Option.isNone_iff_eq_none] at c_5
    first | refine j_aload_n (pc := 8) hX dX3_doDismiss_8 rfl rfl ?_ | refine j_aload_nq (pc := 8) hX dX3_doDismiss_8 rfl rfl ?_
    refine j_iconst (pc := 9) (v := 1) hX dX3_doDismiss_9 (by decide) ?_
    refine j_runi (pc := 10) (jr_V (pc := 10) hX kv_X3_82 (by first | assumption | exact jow.r (by assumption)) (c_X3_fails _ _ _ hT _) (by decide) dX3_doDismiss_10 rfl rfl (Nat.le_of_ble_eq_true rfl)) (fun r_10 H_10 p_10 z_10 => ?_) jno_x
    obtain ⟨hR, rfl⟩ := p_10
    have hF := JFr.trans hF hR.1
    have hT := hR.2
    exact j_iret hX hQ hr dX3_doDismiss_13 ⟨_, rfl, twU_no (t := 1) (by simp [dismissD, c_5]) hF hT⟩
