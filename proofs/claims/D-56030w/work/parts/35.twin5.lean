/-! the reference: more answers -/
set_option maxRecDepth 100000
theorem nI_c {a : Nat} (h : a < 2 ^ 24) : ((nI a).toUInt32 % 65536).toInt32 = nI (a % 65536) := by
  rw [pk_char]
  congr 2
  exact Nat.mod_eq_of_lt (by omega)
theorem nI_narC (a : Nat) : narrow .char (.int (nI (a % 65536))) = .int (nI (a % 65536)) := (pk_charN (Nat.mod_lt _ (by decide))).1
def shapeQ' (s : Nat → Nat) (x : Int32) : Nat × Int32 := match slotN s x with | none => (1, 0) | some k => (0, nI (aSh s k % 65536))
theorem bsL' {s : Nat → Nat} (hb : ∀ j, j < 93 → s j < 2 ^ 24) {j : Nat} (hj : j < 93) : s j < 2 ^ 24 := hb j hj
theorem nI_t1 {t : Nat} (ht : t < 3) : nI t ≤ 0 ↔ t = 0 := by rw [show (0 : Int32) = nI 0 from rfl, nI_leI (by omega) (by omega)]; omega
theorem toldQ_t (s : Nat → Nat) (x : Int32) (w : Nat) : (toldQ s x w).1 < 3 := by unfold toldQ; split; exact (by decide : 1 < 3); exact (by decide : 0 < 3)
theorem c_X3_shape (l : Launch) (G : JG) (H : Heap) {g : Nat → Nat} {ar : Nat → Nat → Nat} {cm fs : Nat → Int32} (hT : jtw G H g ar cm fs) (hB : Bs (ar 0)) (x : Int32) : JMet l yX3_shape (ws_ yX3_shape cX3_shape 3 (some .char)) 4 0 G H [.ref (g 100), .int x] (twQ G H g ar cm fs (shapeQ' (ar 0) x)) jno := by
  refine JMet.of [(0, .inr (some (g 100))), (1, .inl (.int x))] (by decide) (Nat.le_of_ble_eq_true rfl) rfl (fun X hl hX hQ hEx hr hnm hH => ?_)
  subst hl
  obtain ⟨h2, hb, hf, hg⟩ := id hB
  first | refine j_aload_n (pc := 0) hX dX3_shape_0 rfl rfl ?_ | refine j_aload_nq (pc := 0) hX dX3_shape_0 rfl rfl ?_
  refine j_iload_n (pc := 1) hX dX3_shape_1 rfl rfl ?_
  refine j_iconst (pc := 2) (v := 1) hX dX3_shape_2 (by decide) ?_
  have ho := hT.2.1
  refine j_runi (pc := 3) (jr_V (pc := 3) hX kv_X3_123 (by first | assumption | exact jow.r (by assumption)) (c_X3_told _ _ _ hT x 1 (by omega)) (by decide) dX3_shape_3 rfl rfl (Nat.le_of_ble_eq_true rfl)) (fun r_3 H_3 p_3 z_3 => ?_) jno_x
  obtain ⟨⟨hF, hT⟩, pe⟩ := p_3
  have ho := hT.2.1
  refine j_istore_n (pc := 6) hX dX3_shape_6 rfl (by decide) rfl ?_
  first | refine j_aload_n (pc := 7) hX dX3_shape_7 rfl rfl ?_ | refine j_aload_nq (pc := 7) hX dX3_shape_7 rfl rfl ?_
  refine j_get (pc := 8) hX kg_X3_39 dX3_shape_8 (by first | assumption | exact jow.r (by assumption)) (by rfl) ?_
  have e6 : (jup fs 6 (nI (toldQ (ar 0) x 1).1)) 6 = nI (toldQ (ar 0) x 1).1 := rfl
  rw [e6]
  cases e : slotN (ar 0) x with
  | none =>
    have et : toldQ (ar 0) x 1 = (1, 0) := by simp [toldQ, e]
    rw [et] at hT pe ⊢
    refine j_if_le (pc := 11) (tgt := 19) hX dX3_shape_11 (by decide) (fun c_11 => ?_) (fun c_11 => ?_)
    · exact absurd c_11 (by decide)
    · refine j_bipush (pc := 14) (v := 32) hX dX3_shape_14 (by decide) ?_
      refine j_goto (pc := 16) (tgt := 21) hX dX3_shape_16 (by decide) ?_
      exact j_zret hX hQ hr rfl dX3_shape_21 ⟨_, rfl, ⟨hF, by simpa [shapeQ', e] using hT⟩, by simp [shapeQ', e]⟩
  | some k =>
    have et : toldQ (ar 0) x 1 = (0, nI (aSh (ar 0) k)) := by simp [toldQ, e, aSh]
    have hk := slotN_lt e
    rw [et] at hT pe ⊢
    rw [pe rfl]
    refine j_if_le (pc := 11) (tgt := 19) hX dX3_shape_11 (by decide) (fun c_11 => ?_) (fun c_11 => ?_)
    · refine j_iload_n (pc := 19) hX dX3_shape_19 rfl rfl ?_
      refine j_i2c (pc := 20) hX dX3_shape_20 (nI_c (hb _ (by omega))) ?_
      exact j_zret hX hQ hr (nI_narC _) dX3_shape_21 ⟨_, rfl, ⟨hF, by simpa [shapeQ', e] using hT⟩, by simp [shapeQ', e]⟩
    · exact absurd (show nI 0 ≤ 0 by decide) c_11
theorem c_X3_whiteness (l : Launch) (G : JG) (H : Heap) {g : Nat → Nat} {ar : Nat → Nat → Nat} {cm fs : Nat → Int32} (hT : jtw G H g ar cm fs) (hB : Bs (ar 0)) (x : Int32) : JMet l yX3_whiteness (ws_ yX3_whiteness cX3_whiteness 2 (some .int)) 4 0 G H [.ref (g 100), .int x] (twQ G H g ar cm fs (toldQ (ar 0) x 2)) (jno) := by
  refine JMet.of [(0, .inr (some (g 100))), (1, .inl (.int x))] (by decide) (Nat.le_of_ble_eq_true rfl) rfl (fun X hl hX hQ hEx hr hnm hH => ?_)
  subst hl
  obtain ⟨h0, ho, hs, hbf, hsv, hpa, hou, hip, hcm⟩ := id hT
  have hi2 : vp_in (2 : Int32) 93 := vp_in_nI (n := 2) (by omega) (by decide)
  obtain ⟨h2, hb, hf, hg⟩ := id hB
  first | refine j_aload_n (pc := 0) hX dX3_whiteness_0 rfl rfl ?_ | refine j_aload_nq (pc := 0) hX dX3_whiteness_0 rfl rfl ?_
  refine j_iload_n (pc := 1) hX dX3_whiteness_1 rfl rfl ?_
  refine j_iconst (pc := 2) (v := 2) hX dX3_whiteness_2 (by decide) ?_
  refine j_runi (pc := 3) (jr_V (pc := 3) hX kv_X3_123 (by first | assumption | exact jow.r (by assumption)) (c_X3_told _ _ _ hT x 2 (by omega)) (by decide) dX3_whiteness_3 rfl rfl (Nat.le_of_ble_eq_true rfl)) (fun r_3 H_3 p_3 z_3 => ?_) jno_x
  exact j_iret hX hQ hr dX3_whiteness_6 ⟨_, rfl, p_3⟩
theorem c_X3_rain (l : Launch) (G : JG) (H : Heap) {g : Nat → Nat} {ar : Nat → Nat → Nat} {cm fs : Nat → Int32} (hT : jtw G H g ar cm fs) (hB : Bs (ar 0)) (x : Int32) : JMet l yX3_rain (ws_ yX3_rain cX3_rain 2 (some .int)) 4 0 G H [.ref (g 100), .int x] (twQ G H g ar cm fs (toldQ (ar 0) x 3)) (jno) := by
  refine JMet.of [(0, .inr (some (g 100))), (1, .inl (.int x))] (by decide) (Nat.le_of_ble_eq_true rfl) rfl (fun X hl hX hQ hEx hr hnm hH => ?_)
  subst hl
  obtain ⟨h0, ho, hs, hbf, hsv, hpa, hou, hip, hcm⟩ := id hT
  have hi2 : vp_in (2 : Int32) 93 := vp_in_nI (n := 2) (by omega) (by decide)
  obtain ⟨h2, hb, hf, hg⟩ := id hB
  first | refine j_aload_n (pc := 0) hX dX3_rain_0 rfl rfl ?_ | refine j_aload_nq (pc := 0) hX dX3_rain_0 rfl rfl ?_
  refine j_iload_n (pc := 1) hX dX3_rain_1 rfl rfl ?_
  refine j_iconst (pc := 2) (v := 3) hX dX3_rain_2 (by decide) ?_
  refine j_runi (pc := 3) (jr_V (pc := 3) hX kv_X3_123 (by first | assumption | exact jow.r (by assumption)) (c_X3_told _ _ _ hT x 3 (by omega)) (by decide) dX3_rain_3 rfl rfl (Nat.le_of_ble_eq_true rfl)) (fun r_3 H_3 p_3 z_3 => ?_) jno_x
  exact j_iret hX hQ hr dX3_rain_6 ⟨_, rfl, p_3⟩
theorem c_X3_coins (l : Launch) (G : JG) (H : Heap) {g : Nat → Nat} {ar : Nat → Nat → Nat} {cm fs : Nat → Int32} (hT : jtw G H g ar cm fs) (hB : Bs (ar 0)) (x : Int32) : JMet l yX3_coins (ws_ yX3_coins cX3_coins 2 (some .int)) 4 0 G H [.ref (g 100), .int x] (twQ G H g ar cm fs (toldQ (ar 0) x 4)) (jno) := by
  refine JMet.of [(0, .inr (some (g 100))), (1, .inl (.int x))] (by decide) (Nat.le_of_ble_eq_true rfl) rfl (fun X hl hX hQ hEx hr hnm hH => ?_)
  subst hl
  obtain ⟨h0, ho, hs, hbf, hsv, hpa, hou, hip, hcm⟩ := id hT
  have hi2 : vp_in (2 : Int32) 93 := vp_in_nI (n := 2) (by omega) (by decide)
  obtain ⟨h2, hb, hf, hg⟩ := id hB
  first | refine j_aload_n (pc := 0) hX dX3_coins_0 rfl rfl ?_ | refine j_aload_nq (pc := 0) hX dX3_coins_0 rfl rfl ?_
  refine j_iload_n (pc := 1) hX dX3_coins_1 rfl rfl ?_
  refine j_iconst (pc := 2) (v := 4) hX dX3_coins_2 (by decide) ?_
  refine j_runi (pc := 3) (jr_V (pc := 3) hX kv_X3_123 (by first | assumption | exact jow.r (by assumption)) (c_X3_told _ _ _ hT x 4 (by omega)) (by decide) dX3_coins_3 rfl rfl (Nat.le_of_ble_eq_true rfl)) (fun r_3 H_3 p_3 z_3 => ?_) jno_x
  exact j_iret hX hQ hr dX3_coins_6 ⟨_, rfl, p_3⟩
def reqQ (s : Nat → Nat) (x : Int32) : Nat × Int32 := match postN s x with | none => (1, 0) | some p => (0, nI (pSh s p % 65536))
theorem c_X3_requiredShape (l : Launch) (G : JG) (H : Heap) {g : Nat → Nat} {ar : Nat → Nat → Nat} {cm fs : Nat → Int32} (hT : jtw G H g ar cm fs) (hB : Bs (ar 0)) (x : Int32) : JMet l yX3_requiredShape (ws_ yX3_requiredShape cX3_requiredShape 2 (some .char)) 3 0 G H [.ref (g 100), .int x] (twQ G H g ar cm fs (reqQ (ar 0) x)) (jno) := by
  refine JMet.of [(0, .inr (some (g 100))), (1, .inl (.int x))] (by decide) (Nat.le_of_ble_eq_true rfl) rfl (fun X hl hX hQ hEx hr hnm hH => ?_)
  subst hl
  obtain ⟨h0, ho, hs, hbf, hsv, hpa, hou, hip, hcm⟩ := id hT
  have hi2 : vp_in (2 : Int32) 93 := vp_in_nI (n := 2) (by omega) (by decide)
  obtain ⟨h2, hb, hf, hg⟩ := id hB
  first | refine j_aload_n (pc := 0) hX dX3_requiredShape_0 rfl rfl ?_ | refine j_aload_nq (pc := 0) hX dX3_requiredShape_0 rfl rfl ?_
  first | refine j_aload_n (pc := 1) hX dX3_requiredShape_1 rfl rfl ?_ | refine j_aload_nq (pc := 1) hX dX3_requiredShape_1 rfl rfl ?_
  refine j_iload_n (pc := 2) hX dX3_requiredShape_2 rfl rfl ?_
  refine j_rune (pc := 3) (jr_V (pc := 3) hX kv_X3_143 (by first | assumption | exact jow.r (by assumption)) (c_X3_isP _ _ _ hT x) (by decide) dX3_requiredShape_3 rfl rfl (Nat.le_of_ble_eq_true rfl)) ?_ jno_x
  refine j_runi (pc := 6) (jr_V (pc := 6) hX kv_X3_119 (by first | assumption | exact jow.r (by assumption)) (c_X3_isThere _ _ _ hT _ (jb_nar _)) (by decide) dX3_requiredShape_6 rfl rfl (Nat.le_of_ble_eq_true rfl)) (fun r_6 H_6 p_6 z_6 => ?_) jno_x
  obtain ⟨⟨hF, hT⟩, rfl⟩ := p_6
  have ho := hT.2.1
  refine j_if_eq (pc := 9) (tgt := 22) hX dX3_requiredShape_9 (by decide) (fun c_9 => ?_) (fun c_9 => ?_)
  · rw [jb_z, Option.isSome_eq_false_iff, Option.isNone_iff_eq_none] at c_9
    refine j_bipush (pc := 22) (v := 32) hX dX3_requiredShape_22 (by decide) ?_
    exact j_zret hX hQ hr (by first | rfl | exact jb_nar _ | exact nI_narC _ | assumption) dX3_requiredShape_24 ⟨_, rfl, ⟨hF, by simpa [reqQ, jb, c_9] using hT⟩, by simp [reqQ, jb, c_9]⟩
  · rw [jb_n, Option.isSome_iff_exists] at c_9
    obtain ⟨p, c_9⟩ := c_9
    obtain ⟨hp, ex⟩ := postN_ex h2 c_9
    first | refine j_aload_n (pc := 12) hX dX3_requiredShape_12 rfl rfl ?_ | refine j_aload_nq (pc := 12) hX dX3_requiredShape_12 rfl rfl ?_
    refine j_iload_n (pc := 13) hX dX3_requiredShape_13 rfl rfl ?_
    refine j_iconst (pc := 14) (v := 0) hX dX3_requiredShape_14 (by decide) ?_
    rw [ex]
    refine j_rune (pc := 15) (jr_V (pc := 15) hX kv_X3_59 (by first | assumption | exact jow.r (by assumption)) (c_X3_ofPost _ _ _ hT p 0 (by omega) (by omega)) (by decide) dX3_requiredShape_15 rfl rfl (Nat.le_of_ble_eq_true rfl)) ?_ jno_x
    refine j_i2c (pc := 18) hX dX3_requiredShape_18 (nI_c (bsL' hb (by omega))) ?_
    refine j_goto (pc := 19) (tgt := 24) hX dX3_requiredShape_19 (by decide) ?_
    exact j_zret hX hQ hr (by first | rfl | exact jb_nar _ | exact nI_narC _ | assumption) dX3_requiredShape_24 ⟨_, rfl, ⟨hF, by simpa [reqQ, jb, c_9] using hT⟩, by simp [reqQ, jb, c_9]⟩
def candCQ' (s : Nat → Nat) (x : Int32) : Nat × Int32 := match postN s x with | none => (1, 0) | some p => (0, nI (jfold (candCF s p) 10 0))
theorem c_X3_candidateCount (l : Launch) (G : JG) (H : Heap) {g : Nat → Nat} {ar : Nat → Nat → Nat} {cm fs : Nat → Int32} (hT : jtw G H g ar cm fs) (hB : Bs (ar 0)) (x : Int32) : JMet l yX3_candidateCount (ws_ yX3_candidateCount cX3_candidateCount 5 (some .int)) 4 0 G H [.ref (g 100), .int x] (twQ G H g ar cm fs (candCQ' (ar 0) x)) (jno) := by
  refine JMet.of [(0, .inr (some (g 100))), (1, .inl (.int x))] (by decide) (Nat.le_of_ble_eq_true rfl) rfl (fun X hl hX hQ hEx hr hnm hH => ?_)
  subst hl
  obtain ⟨h0, ho, hs, hbf, hsv, hpa, hou, hip, hcm⟩ := id hT
  have hi2 : vp_in (2 : Int32) 93 := vp_in_nI (n := 2) (by omega) (by decide)
  obtain ⟨h2, hb, hf, hg⟩ := id hB
  cases e : postN (ar 0) x with
  | none =>
    refine j_iconst (pc := 0) (v := 0) hX dX3_candidateCount_0 (by decide) ?_
    refine j_istore_n (pc := 1) hX dX3_candidateCount_1 rfl (by decide) rfl ?_
    first | refine j_aload_n (pc := 2) hX dX3_candidateCount_2 rfl rfl ?_ | refine j_aload_nq (pc := 2) hX dX3_candidateCount_2 rfl rfl ?_
    first | refine j_aload_n (pc := 3) hX dX3_candidateCount_3 rfl rfl ?_ | refine j_aload_nq (pc := 3) hX dX3_candidateCount_3 rfl rfl ?_
    refine j_iload_n (pc := 4) hX dX3_candidateCount_4 rfl rfl ?_
    refine j_rune (pc := 5) (jr_V (pc := 5) hX kv_X3_143 (by first | assumption | exact jow.r (by assumption)) (c_X3_isP _ _ _ hT x) (by decide) dX3_candidateCount_5 rfl rfl (Nat.le_of_ble_eq_true rfl)) ?_ jno_x
    skip
    rw [e]
    refine j_runi (pc := 8) (jr_V (pc := 8) hX kv_X3_119 (by first | assumption | exact jow.r (by assumption)) (c_X3_isThere _ _ _ hT _ (jb_nar _)) (by decide) dX3_candidateCount_8 rfl rfl (Nat.le_of_ble_eq_true rfl)) (fun r_8 H_8 p_8 z_8 => ?_) jno_x
    obtain ⟨⟨hF, hT⟩, rfl⟩ := p_8
    have ho := hT.2.1
    refine j_istore_n (pc := 11) hX dX3_candidateCount_11 rfl (by decide) rfl ?_
    refine j_iconst (pc := 12) (v := 0) hX dX3_candidateCount_12 (by decide) ?_
    refine j_istore (pc := 13) hX dX3_candidateCount_13 (by decide) rfl ?_
    refine j_iload (pc := 15) hX dX3_candidateCount_15 rfl ?_
    refine j_bipush (pc := 17) (v := 10) hX dX3_candidateCount_17 (by decide) ?_
    refine j_icmp_ge (pc := 19) (tgt := 59) hX dX3_candidateCount_19 (by decide) (fun c_19 => ?_) (fun c_19 => ?_)
    · exact absurd c_19 (by decide)
    refine j_iload_n (pc := 22) hX dX3_candidateCount_22 rfl rfl ?_
    refine j_if_eq (pc := 23) (tgt := 59) hX dX3_candidateCount_23 (by decide) (fun c_23 => ?_) (fun c_23 => ?_)
    rotate_left
    · exact absurd rfl c_23
    refine j_iload_n (pc := 59) hX dX3_candidateCount_59 rfl rfl ?_
    exact j_iret hX hQ hr dX3_candidateCount_60 ⟨_, rfl, ⟨hF, by simpa [candCQ', e, jb, nI_l1] using hT⟩, by simp [candCQ', e]⟩
  | some p =>
    obtain ⟨hp, ex⟩ := postN_ex h2 e
    refine j_iconst (pc := 0) (v := 0) hX dX3_candidateCount_0 (by decide) ?_
    refine j_istore_n (pc := 1) hX dX3_candidateCount_1 rfl (by decide) rfl ?_
    first | refine j_aload_n (pc := 2) hX dX3_candidateCount_2 rfl rfl ?_ | refine j_aload_nq (pc := 2) hX dX3_candidateCount_2 rfl rfl ?_
    first | refine j_aload_n (pc := 3) hX dX3_candidateCount_3 rfl rfl ?_ | refine j_aload_nq (pc := 3) hX dX3_candidateCount_3 rfl rfl ?_
    refine j_iload_n (pc := 4) hX dX3_candidateCount_4 rfl rfl ?_
    refine j_rune (pc := 5) (jr_V (pc := 5) hX kv_X3_143 (by first | assumption | exact jow.r (by assumption)) (c_X3_isP _ _ _ hT x) (by decide) dX3_candidateCount_5 rfl rfl (Nat.le_of_ble_eq_true rfl)) ?_ jno_x
    skip
    rw [e]
    refine j_runi (pc := 8) (jr_V (pc := 8) hX kv_X3_119 (by first | assumption | exact jow.r (by assumption)) (c_X3_isThere _ _ _ hT _ (jb_nar _)) (by decide) dX3_candidateCount_8 rfl rfl (Nat.le_of_ble_eq_true rfl)) (fun r_8 H_8 p_8 z_8 => ?_) jno_x
    obtain ⟨⟨hF, hT⟩, rfl⟩ := p_8
    have ho := hT.2.1
    refine j_istore_n (pc := 11) hX dX3_candidateCount_11 rfl (by decide) rfl ?_
    refine j_iconst (pc := 12) (v := 0) hX dX3_candidateCount_12 (by decide) ?_
    refine j_istore (pc := 13) hX dX3_candidateCount_13 (by decide) rfl ?_
    skip
    subst ex
    refine jloop (P := fun i => JW X G H_8 0 15 [(0, .inr (some (g 100))), (1, .inl (.int (nI p))), (2, .inl (.int (nI (jfold (candCF (ar 0) p) i 0)))), (3, .inl (.int (jb (some p).isSome))), (4, .inl (.int (nI i)))] []) 10 ?_ (fun i hi ih => ?_) 0 (by omega)
    · refine j_iload (pc := 15) hX dX3_candidateCount_15 rfl ?_
      refine j_bipush (pc := 17) (v := 10) hX dX3_candidateCount_17 (by decide) ?_
      refine j_icmp_ge (pc := 19) (tgt := 59) hX dX3_candidateCount_19 (by decide) (fun c_19 => ?_) (fun c_19 => ?_)
      rotate_left
      · exact absurd (jge_no (a := 10) c_19 (by omega) (by omega)) (by omega)
      refine j_iload_n (pc := 59) hX dX3_candidateCount_59 rfl rfl ?_
      exact j_iret hX hQ hr dX3_candidateCount_60 ⟨_, rfl, ⟨hF, by simpa [candCQ', e, jb, nI_0] using hT⟩, by simp [candCQ', e]⟩
    · refine j_iload (pc := 15) hX dX3_candidateCount_15 rfl ?_
      refine j_bipush (pc := 17) (v := 10) hX dX3_candidateCount_17 (by decide) ?_
      refine j_icmp_ge (pc := 19) (tgt := 59) hX dX3_candidateCount_19 (by decide) (fun c_19 => ?_) (fun c_19 => ?_)
      · exact absurd (jge_yes (a := 10) c_19 (by omega) (by omega)) (by omega)
      refine j_iload_n (pc := 22) hX dX3_candidateCount_22 rfl rfl ?_
      refine j_if_eq (pc := 23) (tgt := 59) hX dX3_candidateCount_23 (by decide) (fun c_23 => ?_) (fun c_23 => ?_)
      · exact absurd (show (1 : Int32) = 0 from c_23) (by decide)
      refine j_iload_n (pc := 26) hX dX3_candidateCount_26 rfl rfl ?_
      first | refine j_aload_n (pc := 27) hX dX3_candidateCount_27 rfl rfl ?_ | refine j_aload_nq (pc := 27) hX dX3_candidateCount_27 rfl rfl ?_
      refine j_iload (pc := 28) hX dX3_candidateCount_28 rfl ?_
      refine j_rune (pc := 30) (jr_V (pc := 30) hX kv_X3_113 (by first | assumption | exact jow.r (by assumption)) (c_X3_isWaiting _ _ _ hT hB i hi) (by decide) dX3_candidateCount_30 rfl rfl (Nat.le_of_ble_eq_true rfl)) ?_ jno_x
      refine j_if_eq (pc := 33) (tgt := 50) hX dX3_candidateCount_33 (by decide) (fun c_33 => ?_) (fun c_33 => ?_)
      · rw [jb_z] at c_33
        refine j_iconst (pc := 50) (v := 0) hX dX3_candidateCount_50 (by decide) ?_
        refine j_iadd (pc := 51) hX dX3_candidateCount_51 ?_
        refine j_istore_n (pc := 52) hX dX3_candidateCount_52 rfl (by decide) rfl ?_
        refine j_iincc (pc := 53) (m := 1) hX dX3_candidateCount_53 rfl (by decide) (by decide) rfl ?_
        refine j_goto (pc := 56) (tgt := 15) hX dX3_candidateCount_56 (by decide) ?_
        first | exact absurd rfl (by assumption) | exact absurd (by assumption) (by decide : ¬ (1 : Int32) = 0) | exact j_lv (by simp [jsb, jget, jval, jfold_succ, nI_1, candCF, c_23, c_33]) ih
      · rw [jb_n] at c_33
        first | refine j_aload_n (pc := 36) hX dX3_candidateCount_36 rfl rfl ?_ | refine j_aload_nq (pc := 36) hX dX3_candidateCount_36 rfl rfl ?_
        refine j_iload (pc := 37) hX dX3_candidateCount_37 rfl ?_
        refine j_iload_n (pc := 39) hX dX3_candidateCount_39 rfl rfl ?_
        refine j_rune (pc := 40) (jr_V (pc := 40) hX kv_X3_152 (by first | assumption | exact jow.r (by assumption)) (c_X3_fits _ _ _ hT hB i p hi (by omega)) (by decide) dX3_candidateCount_40 rfl rfl (Nat.le_of_ble_eq_true rfl)) ?_ jno_x
        refine j_if_eq (pc := 43) (tgt := 50) hX dX3_candidateCount_43 (by decide) (fun c_43 => ?_) (fun c_43 => ?_)
        · rw [jb_z] at c_43
          refine j_iconst (pc := 50) (v := 0) hX dX3_candidateCount_50 (by decide) ?_
          refine j_iadd (pc := 51) hX dX3_candidateCount_51 ?_
          refine j_istore_n (pc := 52) hX dX3_candidateCount_52 rfl (by decide) rfl ?_
          refine j_iincc (pc := 53) (m := 1) hX dX3_candidateCount_53 rfl (by decide) (by decide) rfl ?_
          refine j_goto (pc := 56) (tgt := 15) hX dX3_candidateCount_56 (by decide) ?_
          first | exact absurd rfl (by assumption) | exact absurd (by assumption) (by decide : ¬ (1 : Int32) = 0) | exact j_lv (by simp [jsb, jget, jval, jfold_succ, nI_1, candCF, c_23, c_33, c_43]) ih
        · rw [jb_n] at c_43
          refine j_iconst (pc := 46) (v := 1) hX dX3_candidateCount_46 (by decide) ?_
          refine j_goto (pc := 47) (tgt := 51) hX dX3_candidateCount_47 (by decide) ?_
          refine j_iadd (pc := 51) hX dX3_candidateCount_51 ?_
          refine j_istore_n (pc := 52) hX dX3_candidateCount_52 rfl (by decide) rfl ?_
          refine j_iincc (pc := 53) (m := 1) hX dX3_candidateCount_53 rfl (by decide) (by decide) rfl ?_
          refine j_goto (pc := 56) (tgt := 15) hX dX3_candidateCount_56 (by decide) ?_
          first | exact absurd rfl (by assumption) | exact absurd (by assumption) (by decide : ¬ (1 : Int32) = 0) | exact j_lv (by simp [jsb, jget, jval, jfold_succ, nI_1, candCF, c_23, c_33, c_43]) ih
/-- a rank: how many are ahead -/
def aheadF (s : Nat → Nat) (c : Nat → Nat → Bool) (k o a : Nat) : Nat := a + if usedN s o && c o k then 1 else 0
def aheadN (s : Nat → Nat) (c : Nat → Nat → Bool) (k : Nat) : Nat := jfold (aheadF s c k) 10 0
def rankF (s : Nat → Nat) (c : Nat → Nat → Bool) (x : Int32) (k : Nat) (o : Int32) : Int32 := if usedN s k && decide (nI (aheadN s c k) = x) then nI (aId s k) - 1 else o
def rankQ (s : Nat → Nat) (c : Nat → Nat → Bool) (x : Int32) : Nat × Int32 := if decide (0 ≤ x) && decide (x ≤ nI (appsN s) - 1) then (0, jfold (rankF s c x) 10 0) else (1, 0)
theorem rank_succ {s : Nat → Nat} {c : Nat → Nat → Bool} {x : Int32} {k : Nat} {a : Int32} : jfold (rankF s c x) (k + 1) a = if usedN s k && decide (nI (aheadN s c k) = x) then nI (aId s k) - 1 else jfold (rankF s c x) k a := rfl
theorem ahead_all {s : Nat → Nat} {c : Nat → Nat → Bool} {k : Nat} : jfold (aheadF s c k) 10 0 = aheadN s c k := rfl
def idLt (s : Nat → Nat) (a b : Nat) : Bool := decide (aId s a < aId s b)
theorem c_X3_applicant (l : Launch) (G : JG) (H : Heap) {g : Nat → Nat} {ar : Nat → Nat → Nat} {cm fs : Nat → Int32} (hT : jtw G H g ar cm fs) (hB : Bs (ar 0)) (x : Int32) : JMet l yX3_applicant (ws_ yX3_applicant cX3_applicant 7 (some .int)) 4 0 G H [.ref (g 100), .int x] (twQ G H g ar cm fs (rankQ (ar 0) (idLt (ar 0)) x)) (jno) := by
  refine JMet.of [(0, .inr (some (g 100))), (1, .inl (.int x))] (by decide) (Nat.le_of_ble_eq_true rfl) rfl (fun X hl hX hQ hEx hr hnm hH => ?_)
  subst hl
  obtain ⟨h0, ho, hs, hbf, hsv, hpa, hou, hip, hcm⟩ := id hT
  have hi2 : vp_in (2 : Int32) 93 := vp_in_nI (n := 2) (by omega) (by decide)
  obtain ⟨h2, hb, hf, hg⟩ := id hB
  refine j_iconst (pc := 0) (v := 0) hX dX3_applicant_0 (by decide) ?_
  refine j_istore_n (pc := 1) hX dX3_applicant_1 rfl (by decide) rfl ?_
  first | refine j_aload_n (pc := 2) hX dX3_applicant_2 rfl rfl ?_ | refine j_aload_nq (pc := 2) hX dX3_applicant_2 rfl rfl ?_
  refine j_iload_n (pc := 3) hX dX3_applicant_3 rfl rfl ?_
  refine j_iconst (pc := 4) (v := 0) hX dX3_applicant_4 (by decide) ?_
  first | refine j_aload_n (pc := 5) hX dX3_applicant_5 rfl rfl ?_ | refine j_aload_nq (pc := 5) hX dX3_applicant_5 rfl rfl ?_
  refine j_rune (pc := 6) (jr_V (pc := 6) hX kv_X3_85 (by first | assumption | exact jow.r (by assumption)) (c_X3_applicants _ _ _ hT hB) (by decide) dX3_applicant_6 rfl rfl (Nat.le_of_ble_eq_true rfl)) ?_ jno_x
  refine j_iconst (pc := 9) (v := 1) hX dX3_applicant_9 (by decide) ?_
  refine j_isub (pc := 10) hX dX3_applicant_10 ?_
  refine j_rune (pc := 11) (jr_S (pc := 11) hX ks_X3_51 (c_X3_in _ _ _ _ _ _) (by decide) dX3_applicant_11 rfl rfl (Nat.le_of_ble_eq_true rfl)) ?_ jno_x
  refine j_runi (pc := 14) (jr_V (pc := 14) hX kv_X3_119 (by first | assumption | exact jow.r (by assumption)) (c_X3_isThere _ _ _ hT _ (jb_nar _)) (by decide) dX3_applicant_14 rfl rfl (Nat.le_of_ble_eq_true rfl)) (fun r_14 H_14 p_14 z_14 => ?_) jno_x
  obtain ⟨⟨hF, hT⟩, rfl⟩ := p_14
  have ho := hT.2.1
  refine j_istore_n (pc := 17) hX dX3_applicant_17 rfl (by decide) rfl ?_
  refine j_iconst (pc := 18) (v := 0) hX dX3_applicant_18 (by decide) ?_
  refine j_istore (pc := 19) hX dX3_applicant_19 (by decide) rfl ?_
  skip
  generalize ez : (decide (0 ≤ x) && decide (x ≤ nI (appsN (ar 0)) - 1)) = z at *
  cases z with
  | false =>
    refine j_iload (pc := 21) hX dX3_applicant_21 rfl ?_
    refine j_bipush (pc := 23) (v := 10) hX dX3_applicant_23 (by decide) ?_
    refine j_icmp_ge (pc := 25) (tgt := 117) hX dX3_applicant_25 (by decide) (fun c_25 => ?_) (fun c_25 => ?_)
    · exact absurd c_25 (by decide)
    refine j_iload_n (pc := 28) hX dX3_applicant_28 rfl rfl ?_
    refine j_if_eq (pc := 29) (tgt := 117) hX dX3_applicant_29 (by decide) (fun c_29 => ?_) (fun c_29 => ?_)
    rotate_left
    · exact absurd rfl c_29
    refine j_iload_n (pc := 117) hX dX3_applicant_117 rfl rfl ?_
    exact j_iret hX hQ hr dX3_applicant_118 ⟨_, rfl, ⟨hF, by simpa [rankQ, ez, jb, nI_l1] using hT⟩, by simp [rankQ, ez]⟩
  | true =>
    refine jloop (P := fun i => JW X G H_14 0 21 [(0, .inr (some (g 100))), (1, .inl (.int x)), (2, .inl (.int (jfold (rankF (ar 0) (idLt (ar 0)) x) i 0))), (3, .inl (.int (jb true))), (4, .inl (.int (nI i)))] []) 10 ?_ (fun k hk ihk => ?_) 0 (by omega)
    · refine j_iload (pc := 21) hX dX3_applicant_21 rfl ?_
      refine j_bipush (pc := 23) (v := 10) hX dX3_applicant_23 (by decide) ?_
      refine j_icmp_ge (pc := 25) (tgt := 117) hX dX3_applicant_25 (by decide) (fun c_25 => ?_) (fun c_25 => ?_)
      rotate_left
      · exact absurd (jge_no (a := 10) c_25 (by omega) (by omega)) (by omega)
      refine j_iload_n (pc := 117) hX dX3_applicant_117 rfl rfl ?_
      exact j_iret hX hQ hr dX3_applicant_118 ⟨_, rfl, ⟨hF, by simpa [rankQ, ez, jb, nI_0] using hT⟩, by simp [rankQ, ez]⟩
    · refine j_iload (pc := 21) hX dX3_applicant_21 rfl ?_
      refine j_bipush (pc := 23) (v := 10) hX dX3_applicant_23 (by decide) ?_
      refine j_icmp_ge (pc := 25) (tgt := 117) hX dX3_applicant_25 (by decide) (fun c_25 => ?_) (fun c_25 => ?_)
      · exact absurd (jge_yes (a := 10) c_25 (by omega) (by omega)) (by omega)
      refine j_iload_n (pc := 28) hX dX3_applicant_28 rfl rfl ?_
      refine j_if_eq (pc := 29) (tgt := 117) hX dX3_applicant_29 (by decide) (fun c_29 => ?_) (fun c_29 => ?_)
      · exact absurd c_29 (by decide)
      refine j_iconst (pc := 32) (v := 0) hX dX3_applicant_32 (by decide) ?_
      refine j_istore (pc := 33) hX dX3_applicant_33 (by decide) rfl ?_
      refine j_iconst (pc := 35) (v := 0) hX dX3_applicant_35 (by decide) ?_
      refine j_istore (pc := 36) hX dX3_applicant_36 (by decide) rfl ?_
      skip
      refine jloop (P := fun i => JW X G H_14 0 38 [(0, .inr (some (g 100))), (1, .inl (.int x)), (2, .inl (.int (jfold (rankF (ar 0) (idLt (ar 0)) x) k 0))), (3, .inl (.int (jb true))), (4, .inl (.int (nI k))), (5, .inl (.int (nI (jfold (aheadF (ar 0) (idLt (ar 0)) k) i 0)))), (6, .inl (.int (nI i)))] []) 10 ?_ (fun i hi ih => ?_) 0 (by omega)
      · refine j_iload (pc := 38) hX dX3_applicant_38 rfl ?_
        refine j_bipush (pc := 40) (v := 10) hX dX3_applicant_40 (by decide) ?_
        refine j_icmp_ge (pc := 42) (tgt := 85) hX dX3_applicant_42 (by decide) (fun c_42 => ?_) (fun c_42 => ?_)
        rotate_left
        · exact absurd (jge_no (a := 10) c_42 (by omega) (by omega)) (by omega)
        first | refine j_aload_n (pc := 85) hX dX3_applicant_85 rfl rfl ?_ | refine j_aload_nq (pc := 85) hX dX3_applicant_85 rfl rfl ?_
        refine j_iload (pc := 86) hX dX3_applicant_86 rfl ?_
        refine j_rune (pc := 88) (jr_V (pc := 88) hX kv_X3_62 (by first | assumption | exact jow.r (by assumption)) (c_X3_isUsed _ _ _ hT (fun j hj => bsL hb hj) k hk) (by decide) dX3_applicant_88 rfl rfl (Nat.le_of_ble_eq_true rfl)) ?_ jno_x
        refine j_if_eq (pc := 91) (tgt := 109) hX dX3_applicant_91 (by decide) (fun c_91 => ?_) (fun c_91 => ?_)
        · rw [jb_z] at c_91
          refine j_iload_n (pc := 109) hX dX3_applicant_109 rfl rfl ?_
          refine j_istore_n (pc := 110) hX dX3_applicant_110 rfl (by decide) rfl ?_
          refine j_iincc (pc := 111) (m := 1) hX dX3_applicant_111 rfl (by decide) (by decide) rfl ?_
          refine j_goto (pc := 114) (tgt := 21) hX dX3_applicant_114 (by decide) ?_
          exact j_lv (by simp [jsb, jget, jval, rank_succ, nI_1, usedN, c_91]) ihk
        · rw [jb_n] at c_91
          refine j_iload (pc := 94) hX dX3_applicant_94 rfl ?_
          refine j_iload_n (pc := 96) hX dX3_applicant_96 rfl rfl ?_
          refine j_icmp_ne (pc := 97) (tgt := 109) hX dX3_applicant_97 (by decide) (fun c_97 => ?_) (fun c_97 => ?_)
          · rw [ahead_all] at c_97
            refine j_iload_n (pc := 109) hX dX3_applicant_109 rfl rfl ?_
            refine j_istore_n (pc := 110) hX dX3_applicant_110 rfl (by decide) rfl ?_
            refine j_iincc (pc := 111) (m := 1) hX dX3_applicant_111 rfl (by decide) (by decide) rfl ?_
            refine j_goto (pc := 114) (tgt := 21) hX dX3_applicant_114 (by decide) ?_
            exact j_lv (by simp [jsb, jget, jval, rank_succ, nI_1, usedN, c_91, c_97]) ihk
          · rw [ahead_all] at c_97
            first | refine j_aload_n (pc := 100) hX dX3_applicant_100 rfl rfl ?_ | refine j_aload_nq (pc := 100) hX dX3_applicant_100 rfl rfl ?_
            refine j_iload (pc := 101) hX dX3_applicant_101 rfl ?_
            refine j_rune (pc := 103) (jr_V (pc := 103) hX kv_X3_76 (by first | assumption | exact jow.r (by assumption)) (c_X3_idOf _ _ _ hT k hk) (by decide) dX3_applicant_103 rfl rfl (Nat.le_of_ble_eq_true rfl)) ?_ jno_x
            refine j_goto (pc := 106) (tgt := 110) hX dX3_applicant_106 (by decide) ?_
            refine j_istore_n (pc := 110) hX dX3_applicant_110 rfl (by decide) rfl ?_
            refine j_iincc (pc := 111) (m := 1) hX dX3_applicant_111 rfl (by decide) (by decide) rfl ?_
            refine j_goto (pc := 114) (tgt := 21) hX dX3_applicant_114 (by decide) ?_
            exact j_lv (by simp [jsb, jget, jval, rank_succ, nI_1, usedN, c_91, c_97]) ihk
      · refine j_iload (pc := 38) hX dX3_applicant_38 rfl ?_
        refine j_bipush (pc := 40) (v := 10) hX dX3_applicant_40 (by decide) ?_
        refine j_icmp_ge (pc := 42) (tgt := 85) hX dX3_applicant_42 (by decide) (fun c_42 => ?_) (fun c_42 => ?_)
        · exact absurd (jge_yes (a := 10) c_42 (by omega) (by omega)) (by omega)
        refine j_iload (pc := 45) hX dX3_applicant_45 rfl ?_
        first | refine j_aload_n (pc := 47) hX dX3_applicant_47 rfl rfl ?_ | refine j_aload_nq (pc := 47) hX dX3_applicant_47 rfl rfl ?_
        refine j_iload (pc := 48) hX dX3_applicant_48 rfl ?_
        refine j_rune (pc := 50) (jr_V (pc := 50) hX kv_X3_62 (by first | assumption | exact jow.r (by assumption)) (c_X3_isUsed _ _ _ hT (fun j hj => bsL hb hj) i hi) (by decide) dX3_applicant_50 rfl rfl (Nat.le_of_ble_eq_true rfl)) ?_ jno_x
        refine j_if_eq (pc := 53) (tgt := 75) hX dX3_applicant_53 (by decide) (fun c_53 => ?_) (fun c_53 => ?_)
        · rw [jb_z] at c_53
          change decide (0 < aId (ar 0) i) = _ at c_53
          refine j_iconst (pc := 75) (v := 0) hX dX3_applicant_75 (by decide) ?_
          refine j_iadd (pc := 76) hX dX3_applicant_76 ?_
          refine j_istore (pc := 77) hX dX3_applicant_77 (by decide) rfl ?_
          refine j_iincc (pc := 79) (m := 1) hX dX3_applicant_79 rfl (by decide) (by decide) rfl ?_
          refine j_goto (pc := 82) (tgt := 38) hX dX3_applicant_82 (by decide) ?_
          first | exact absurd rfl (by assumption) | exact absurd (by assumption) (by decide : ¬ (1 : Int32) = 0) | exact j_lv (by simp [jsb, jget, jval, jfold_succ, nI_1, aheadF, usedN, c_53]) ih
        · rw [jb_n] at c_53
          change decide (0 < aId (ar 0) i) = _ at c_53
          first | refine j_aload_n (pc := 56) hX dX3_applicant_56 rfl rfl ?_ | refine j_aload_nq (pc := 56) hX dX3_applicant_56 rfl rfl ?_
          refine j_iload (pc := 57) hX dX3_applicant_57 rfl ?_
          refine j_rune (pc := 59) (jr_V (pc := 59) hX kv_X3_76 (by first | assumption | exact jow.r (by assumption)) (c_X3_idOf _ _ _ hT i hi) (by decide) dX3_applicant_59 rfl rfl (Nat.le_of_ble_eq_true rfl)) ?_ jno_x
          first | refine j_aload_n (pc := 62) hX dX3_applicant_62 rfl rfl ?_ | refine j_aload_nq (pc := 62) hX dX3_applicant_62 rfl rfl ?_
          refine j_iload (pc := 63) hX dX3_applicant_63 rfl ?_
          refine j_rune (pc := 65) (jr_V (pc := 65) hX kv_X3_76 (by first | assumption | exact jow.r (by assumption)) (c_X3_idOf _ _ _ hT k hk) (by decide) dX3_applicant_65 rfl rfl (Nat.le_of_ble_eq_true rfl)) ?_ jno_x
          refine j_icmp_ge (pc := 68) (tgt := 75) hX dX3_applicant_68 (by decide) (fun c_68 => ?_) (fun c_68 => ?_)
          · have u1 := hb (3 + 6 * i) (by omega)
            have u2 := hb (3 + 6 * k) (by omega)
            simp only [aId, aSh, aWh, aRn, aCo, aGv, pSh, pLo, pHi, pWg, pFl, Nat.add_zero] at c_68
            rw [nI_zI, nI_zI, show (1 : Int32) = zI 1 from rfl, zI_sub, zI_sub, zI_le (by omega) (by omega)] at c_68
            have c_68 : idLt (ar 0) i k = false := by unfold idLt; simp only [aId, aSh, aWh, aRn, aCo, aGv, pSh, pLo, pHi, pWg, pFl, Nat.add_zero]; simp only [Bool.or_eq_true, Bool.and_eq_true, decide_eq_true_eq, Bool.or_eq_false_iff, Bool.and_eq_false_iff, decide_eq_false_iff_not, Bool.not_eq_true, Bool.not_eq_false]; omega
            refine j_iconst (pc := 75) (v := 0) hX dX3_applicant_75 (by decide) ?_
            refine j_iadd (pc := 76) hX dX3_applicant_76 ?_
            refine j_istore (pc := 77) hX dX3_applicant_77 (by decide) rfl ?_
            refine j_iincc (pc := 79) (m := 1) hX dX3_applicant_79 rfl (by decide) (by decide) rfl ?_
            refine j_goto (pc := 82) (tgt := 38) hX dX3_applicant_82 (by decide) ?_
            first | exact absurd rfl (by assumption) | exact absurd (by assumption) (by decide : ¬ (1 : Int32) = 0) | exact j_lv (by simp [jsb, jget, jval, jfold_succ, nI_1, aheadF, usedN, c_53, c_68]) ih
          · have u1 := hb (3 + 6 * i) (by omega)
            have u2 := hb (3 + 6 * k) (by omega)
            simp only [aId, aSh, aWh, aRn, aCo, aGv, pSh, pLo, pHi, pWg, pFl, Nat.add_zero] at c_68
            rw [nI_zI, nI_zI, show (1 : Int32) = zI 1 from rfl, zI_sub, zI_sub, zI_le (by omega) (by omega)] at c_68
            have c_68 : idLt (ar 0) i k = true := by unfold idLt; simp only [aId, aSh, aWh, aRn, aCo, aGv, pSh, pLo, pHi, pWg, pFl, Nat.add_zero]; simp only [Bool.or_eq_true, Bool.and_eq_true, decide_eq_true_eq, Bool.or_eq_false_iff, Bool.and_eq_false_iff, decide_eq_false_iff_not, Bool.not_eq_true, Bool.not_eq_false]; omega
            refine j_iconst (pc := 71) (v := 1) hX dX3_applicant_71 (by decide) ?_
            refine j_goto (pc := 72) (tgt := 76) hX dX3_applicant_72 (by decide) ?_
            refine j_iadd (pc := 76) hX dX3_applicant_76 ?_
            refine j_istore (pc := 77) hX dX3_applicant_77 (by decide) rfl ?_
            refine j_iincc (pc := 79) (m := 1) hX dX3_applicant_79 rfl (by decide) (by decide) rfl ?_
            refine j_goto (pc := 82) (tgt := 38) hX dX3_applicant_82 (by decide) ?_
            first | exact absurd rfl (by assumption) | exact absurd (by assumption) (by decide : ¬ (1 : Int32) = 0) | exact j_lv (by simp [jsb, jget, jval, jfold_succ, nI_1, aheadF, usedN, c_53, c_68]) ih
theorem c_X3_applicantByScore (l : Launch) (G : JG) (H : Heap) {g : Nat → Nat} {ar : Nat → Nat → Nat} {cm fs : Nat → Int32} (hT : jtw G H g ar cm fs) (hB : Bs (ar 0)) (x : Int32) : JMet l yX3_applicantByScore (ws_ yX3_applicantByScore cX3_applicantByScore 7 (some .int)) 4 0 G H [.ref (g 100), .int x] (twQ G H g ar cm fs (rankQ (ar 0) (betN (ar 0)) x)) (jno) := by
  refine JMet.of [(0, .inr (some (g 100))), (1, .inl (.int x))] (by decide) (Nat.le_of_ble_eq_true rfl) rfl (fun X hl hX hQ hEx hr hnm hH => ?_)
  subst hl
  obtain ⟨h0, ho, hs, hbf, hsv, hpa, hou, hip, hcm⟩ := id hT
  have hi2 : vp_in (2 : Int32) 93 := vp_in_nI (n := 2) (by omega) (by decide)
  obtain ⟨h2, hb, hf, hg⟩ := id hB
  refine j_iconst (pc := 0) (v := 0) hX dX3_applicantByScore_0 (by decide) ?_
  refine j_istore_n (pc := 1) hX dX3_applicantByScore_1 rfl (by decide) rfl ?_
  first | refine j_aload_n (pc := 2) hX dX3_applicantByScore_2 rfl rfl ?_ | refine j_aload_nq (pc := 2) hX dX3_applicantByScore_2 rfl rfl ?_
  refine j_iload_n (pc := 3) hX dX3_applicantByScore_3 rfl rfl ?_
  refine j_iconst (pc := 4) (v := 0) hX dX3_applicantByScore_4 (by decide) ?_
  first | refine j_aload_n (pc := 5) hX dX3_applicantByScore_5 rfl rfl ?_ | refine j_aload_nq (pc := 5) hX dX3_applicantByScore_5 rfl rfl ?_
  refine j_rune (pc := 6) (jr_V (pc := 6) hX kv_X3_85 (by first | assumption | exact jow.r (by assumption)) (c_X3_applicants _ _ _ hT hB) (by decide) dX3_applicantByScore_6 rfl rfl (Nat.le_of_ble_eq_true rfl)) ?_ jno_x
  refine j_iconst (pc := 9) (v := 1) hX dX3_applicantByScore_9 (by decide) ?_
  refine j_isub (pc := 10) hX dX3_applicantByScore_10 ?_
  refine j_rune (pc := 11) (jr_S (pc := 11) hX ks_X3_51 (c_X3_in _ _ _ _ _ _) (by decide) dX3_applicantByScore_11 rfl rfl (Nat.le_of_ble_eq_true rfl)) ?_ jno_x
  refine j_runi (pc := 14) (jr_V (pc := 14) hX kv_X3_119 (by first | assumption | exact jow.r (by assumption)) (c_X3_isThere _ _ _ hT _ (jb_nar _)) (by decide) dX3_applicantByScore_14 rfl rfl (Nat.le_of_ble_eq_true rfl)) (fun r_14 H_14 p_14 z_14 => ?_) jno_x
  obtain ⟨⟨hF, hT⟩, rfl⟩ := p_14
  have ho := hT.2.1
  refine j_istore_n (pc := 17) hX dX3_applicantByScore_17 rfl (by decide) rfl ?_
  refine j_iconst (pc := 18) (v := 0) hX dX3_applicantByScore_18 (by decide) ?_
  refine j_istore (pc := 19) hX dX3_applicantByScore_19 (by decide) rfl ?_
  skip
  generalize ez : (decide (0 ≤ x) && decide (x ≤ nI (appsN (ar 0)) - 1)) = z at *
  cases z with
  | false =>
    refine j_iload (pc := 21) hX dX3_applicantByScore_21 rfl ?_
    refine j_bipush (pc := 23) (v := 10) hX dX3_applicantByScore_23 (by decide) ?_
    refine j_icmp_ge (pc := 25) (tgt := 113) hX dX3_applicantByScore_25 (by decide) (fun c_25 => ?_) (fun c_25 => ?_)
    · exact absurd c_25 (by decide)
    refine j_iload_n (pc := 28) hX dX3_applicantByScore_28 rfl rfl ?_
    refine j_if_eq (pc := 29) (tgt := 113) hX dX3_applicantByScore_29 (by decide) (fun c_29 => ?_) (fun c_29 => ?_)
    rotate_left
    · exact absurd rfl c_29
    refine j_iload_n (pc := 113) hX dX3_applicantByScore_113 rfl rfl ?_
    exact j_iret hX hQ hr dX3_applicantByScore_114 ⟨_, rfl, ⟨hF, by simpa [rankQ, ez, jb, nI_l1] using hT⟩, by simp [rankQ, ez]⟩
  | true =>
    refine jloop (P := fun i => JW X G H_14 0 21 [(0, .inr (some (g 100))), (1, .inl (.int x)), (2, .inl (.int (jfold (rankF (ar 0) (betN (ar 0)) x) i 0))), (3, .inl (.int (jb true))), (4, .inl (.int (nI i)))] []) 10 ?_ (fun k hk ihk => ?_) 0 (by omega)
    · refine j_iload (pc := 21) hX dX3_applicantByScore_21 rfl ?_
      refine j_bipush (pc := 23) (v := 10) hX dX3_applicantByScore_23 (by decide) ?_
      refine j_icmp_ge (pc := 25) (tgt := 113) hX dX3_applicantByScore_25 (by decide) (fun c_25 => ?_) (fun c_25 => ?_)
      rotate_left
      · exact absurd (jge_no (a := 10) c_25 (by omega) (by omega)) (by omega)
      refine j_iload_n (pc := 113) hX dX3_applicantByScore_113 rfl rfl ?_
      exact j_iret hX hQ hr dX3_applicantByScore_114 ⟨_, rfl, ⟨hF, by simpa [rankQ, ez, jb, nI_0] using hT⟩, by simp [rankQ, ez]⟩
    · refine j_iload (pc := 21) hX dX3_applicantByScore_21 rfl ?_
      refine j_bipush (pc := 23) (v := 10) hX dX3_applicantByScore_23 (by decide) ?_
      refine j_icmp_ge (pc := 25) (tgt := 113) hX dX3_applicantByScore_25 (by decide) (fun c_25 => ?_) (fun c_25 => ?_)
      · exact absurd (jge_yes (a := 10) c_25 (by omega) (by omega)) (by omega)
      refine j_iload_n (pc := 28) hX dX3_applicantByScore_28 rfl rfl ?_
      refine j_if_eq (pc := 29) (tgt := 113) hX dX3_applicantByScore_29 (by decide) (fun c_29 => ?_) (fun c_29 => ?_)
      · exact absurd c_29 (by decide)
      refine j_iconst (pc := 32) (v := 0) hX dX3_applicantByScore_32 (by decide) ?_
      refine j_istore (pc := 33) hX dX3_applicantByScore_33 (by decide) rfl ?_
      refine j_iconst (pc := 35) (v := 0) hX dX3_applicantByScore_35 (by decide) ?_
      refine j_istore (pc := 36) hX dX3_applicantByScore_36 (by decide) rfl ?_
      skip
      refine jloop (P := fun i => JW X G H_14 0 38 [(0, .inr (some (g 100))), (1, .inl (.int x)), (2, .inl (.int (jfold (rankF (ar 0) (betN (ar 0)) x) k 0))), (3, .inl (.int (jb true))), (4, .inl (.int (nI k))), (5, .inl (.int (nI (jfold (aheadF (ar 0) (betN (ar 0)) k) i 0)))), (6, .inl (.int (nI i)))] []) 10 ?_ (fun i hi ih => ?_) 0 (by omega)
      · refine j_iload (pc := 38) hX dX3_applicantByScore_38 rfl ?_
        refine j_bipush (pc := 40) (v := 10) hX dX3_applicantByScore_40 (by decide) ?_
        refine j_icmp_ge (pc := 42) (tgt := 81) hX dX3_applicantByScore_42 (by decide) (fun c_42 => ?_) (fun c_42 => ?_)
        rotate_left
        · exact absurd (jge_no (a := 10) c_42 (by omega) (by omega)) (by omega)
        first | refine j_aload_n (pc := 81) hX dX3_applicantByScore_81 rfl rfl ?_ | refine j_aload_nq (pc := 81) hX dX3_applicantByScore_81 rfl rfl ?_
        refine j_iload (pc := 82) hX dX3_applicantByScore_82 rfl ?_
        refine j_rune (pc := 84) (jr_V (pc := 84) hX kv_X3_62 (by first | assumption | exact jow.r (by assumption)) (c_X3_isUsed _ _ _ hT (fun j hj => bsL hb hj) k hk) (by decide) dX3_applicantByScore_84 rfl rfl (Nat.le_of_ble_eq_true rfl)) ?_ jno_x
        refine j_if_eq (pc := 87) (tgt := 105) hX dX3_applicantByScore_87 (by decide) (fun c_87 => ?_) (fun c_87 => ?_)
        · rw [jb_z] at c_87
          refine j_iload_n (pc := 105) hX dX3_applicantByScore_105 rfl rfl ?_
          refine j_istore_n (pc := 106) hX dX3_applicantByScore_106 rfl (by decide) rfl ?_
          refine j_iincc (pc := 107) (m := 1) hX dX3_applicantByScore_107 rfl (by decide) (by decide) rfl ?_
          refine j_goto (pc := 110) (tgt := 21) hX dX3_applicantByScore_110 (by decide) ?_
          exact j_lv (by simp [jsb, jget, jval, rank_succ, nI_1, usedN, c_87]) ihk
        · rw [jb_n] at c_87
          refine j_iload (pc := 90) hX dX3_applicantByScore_90 rfl ?_
          refine j_iload_n (pc := 92) hX dX3_applicantByScore_92 rfl rfl ?_
          refine j_icmp_ne (pc := 93) (tgt := 105) hX dX3_applicantByScore_93 (by decide) (fun c_93 => ?_) (fun c_93 => ?_)
          · rw [ahead_all] at c_93
            refine j_iload_n (pc := 105) hX dX3_applicantByScore_105 rfl rfl ?_
            refine j_istore_n (pc := 106) hX dX3_applicantByScore_106 rfl (by decide) rfl ?_
            refine j_iincc (pc := 107) (m := 1) hX dX3_applicantByScore_107 rfl (by decide) (by decide) rfl ?_
            refine j_goto (pc := 110) (tgt := 21) hX dX3_applicantByScore_110 (by decide) ?_
            exact j_lv (by simp [jsb, jget, jval, rank_succ, nI_1, usedN, c_87, c_93]) ihk
          · rw [ahead_all] at c_93
            first | refine j_aload_n (pc := 96) hX dX3_applicantByScore_96 rfl rfl ?_ | refine j_aload_nq (pc := 96) hX dX3_applicantByScore_96 rfl rfl ?_
            refine j_iload (pc := 97) hX dX3_applicantByScore_97 rfl ?_
            refine j_rune (pc := 99) (jr_V (pc := 99) hX kv_X3_76 (by first | assumption | exact jow.r (by assumption)) (c_X3_idOf _ _ _ hT k hk) (by decide) dX3_applicantByScore_99 rfl rfl (Nat.le_of_ble_eq_true rfl)) ?_ jno_x
            refine j_goto (pc := 102) (tgt := 106) hX dX3_applicantByScore_102 (by decide) ?_
            refine j_istore_n (pc := 106) hX dX3_applicantByScore_106 rfl (by decide) rfl ?_
            refine j_iincc (pc := 107) (m := 1) hX dX3_applicantByScore_107 rfl (by decide) (by decide) rfl ?_
            refine j_goto (pc := 110) (tgt := 21) hX dX3_applicantByScore_110 (by decide) ?_
            exact j_lv (by simp [jsb, jget, jval, rank_succ, nI_1, usedN, c_87, c_93]) ihk
      · refine j_iload (pc := 38) hX dX3_applicantByScore_38 rfl ?_
        refine j_bipush (pc := 40) (v := 10) hX dX3_applicantByScore_40 (by decide) ?_
        refine j_icmp_ge (pc := 42) (tgt := 81) hX dX3_applicantByScore_42 (by decide) (fun c_42 => ?_) (fun c_42 => ?_)
        · exact absurd (jge_yes (a := 10) c_42 (by omega) (by omega)) (by omega)
        refine j_iload (pc := 45) hX dX3_applicantByScore_45 rfl ?_
        first | refine j_aload_n (pc := 47) hX dX3_applicantByScore_47 rfl rfl ?_ | refine j_aload_nq (pc := 47) hX dX3_applicantByScore_47 rfl rfl ?_
        refine j_iload (pc := 48) hX dX3_applicantByScore_48 rfl ?_
        refine j_rune (pc := 50) (jr_V (pc := 50) hX kv_X3_62 (by first | assumption | exact jow.r (by assumption)) (c_X3_isUsed _ _ _ hT (fun j hj => bsL hb hj) i hi) (by decide) dX3_applicantByScore_50 rfl rfl (Nat.le_of_ble_eq_true rfl)) ?_ jno_x
        refine j_if_eq (pc := 53) (tgt := 71) hX dX3_applicantByScore_53 (by decide) (fun c_53 => ?_) (fun c_53 => ?_)
        · rw [jb_z] at c_53
          change decide (0 < aId (ar 0) i) = _ at c_53
          refine j_iconst (pc := 71) (v := 0) hX dX3_applicantByScore_71 (by decide) ?_
          refine j_iadd (pc := 72) hX dX3_applicantByScore_72 ?_
          refine j_istore (pc := 73) hX dX3_applicantByScore_73 (by decide) rfl ?_
          refine j_iincc (pc := 75) (m := 1) hX dX3_applicantByScore_75 rfl (by decide) (by decide) rfl ?_
          refine j_goto (pc := 78) (tgt := 38) hX dX3_applicantByScore_78 (by decide) ?_
          first | exact absurd rfl (by assumption) | exact absurd (by assumption) (by decide : ¬ (1 : Int32) = 0) | exact j_lv (by simp [jsb, jget, jval, jfold_succ, nI_1, aheadF, usedN, c_53]) ih
        · rw [jb_n] at c_53
          change decide (0 < aId (ar 0) i) = _ at c_53
          first | refine j_aload_n (pc := 56) hX dX3_applicantByScore_56 rfl rfl ?_ | refine j_aload_nq (pc := 56) hX dX3_applicantByScore_56 rfl rfl ?_
          refine j_iload (pc := 57) hX dX3_applicantByScore_57 rfl ?_
          refine j_iload (pc := 59) hX dX3_applicantByScore_59 rfl ?_
          refine j_rune (pc := 61) (jr_V (pc := 61) hX kv_X3_126 (by first | assumption | exact jow.r (by assumption)) (c_X3_isBetter _ _ _ hT hB i k hi hk) (by decide) dX3_applicantByScore_61 rfl rfl (Nat.le_of_ble_eq_true rfl)) ?_ jno_x
          refine j_if_eq (pc := 64) (tgt := 71) hX dX3_applicantByScore_64 (by decide) (fun c_64 => ?_) (fun c_64 => ?_)
          · rw [jb_z] at c_64
            refine j_iconst (pc := 71) (v := 0) hX dX3_applicantByScore_71 (by decide) ?_
            refine j_iadd (pc := 72) hX dX3_applicantByScore_72 ?_
            refine j_istore (pc := 73) hX dX3_applicantByScore_73 (by decide) rfl ?_
            refine j_iincc (pc := 75) (m := 1) hX dX3_applicantByScore_75 rfl (by decide) (by decide) rfl ?_
            refine j_goto (pc := 78) (tgt := 38) hX dX3_applicantByScore_78 (by decide) ?_
            first | exact absurd rfl (by assumption) | exact absurd (by assumption) (by decide : ¬ (1 : Int32) = 0) | exact j_lv (by simp [jsb, jget, jval, jfold_succ, nI_1, aheadF, usedN, c_53, c_64]) ih
          · rw [jb_n] at c_64
            refine j_iconst (pc := 67) (v := 1) hX dX3_applicantByScore_67 (by decide) ?_
            refine j_goto (pc := 68) (tgt := 72) hX dX3_applicantByScore_68 (by decide) ?_
            refine j_iadd (pc := 72) hX dX3_applicantByScore_72 ?_
            refine j_istore (pc := 73) hX dX3_applicantByScore_73 (by decide) rfl ?_
            refine j_iincc (pc := 75) (m := 1) hX dX3_applicantByScore_75 rfl (by decide) (by decide) rfl ?_
            refine j_goto (pc := 78) (tgt := 38) hX dX3_applicantByScore_78 (by decide) ?_
            first | exact absurd rfl (by assumption) | exact absurd (by assumption) (by decide : ¬ (1 : Int32) = 0) | exact j_lv (by simp [jsb, jget, jval, jfold_succ, nI_1, aheadF, usedN, c_53, c_64]) ih
