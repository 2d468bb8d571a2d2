/-! the reference: the posts written, a sign of the output, a sign of the input -/
set_option maxRecDepth 100000
def postsF (s : Nat → Nat) (p : Nat) (L : List Nat) : List Nat := (if 0 < p then L ++ [32] else L) ++ (if pFl s p = 0 then [45] else digs (aId s (pFl s p - 1) - 1))
def postsN (s : Nat → Nat) : List Nat := jfold (postsF s) (s 2) []
theorem c_X3_writePosts (l : Launch) (G : JG) (H : Heap) {g : Nat → Nat} {ar : Nat → Nat → Nat} {cm fs : Nat → Int32} (hT : jtw G H g ar cm fs) (hB : Bs (ar 0)) (hU : ∀ p, p < ar 0 2 → 0 < pFl (ar 0) p → 0 < aId (ar 0) (pFl (ar 0) p - 1)) : JMet l yX3_writePosts (ws_ yX3_writePosts cX3_writePosts 3 (some .int)) 11 0 G H [.ref (g 100)] (jpi (fun r H1 => r = nI (postsN (ar 0)).length ∧ ∃ o, Ou o (postsN (ar 0)) ∧ twR G H H1 g (jup ar 7 o) cm (jup (jup fs 6 0) 8 (nI (postsN (ar 0)).length)))) (jno) := by
  refine JMet.of [(0, .inr (some (g 100)))] (by decide) (Nat.le_of_ble_eq_true rfl) rfl (fun X hl hX hQ hEx hr hnm hH => ?_)
  subst hl
  obtain ⟨h0, ho, hs, hbf, hsv, hpa, hou, hip, hcm⟩ := id hT
  have hi2 : vp_in (2 : Int32) 93 := vp_in_nI (n := 2) (by omega) (by decide)
  obtain ⟨h2, hb, hf, hg⟩ := id hB
  have hF : JFr (twP g) H H := JFr.rfl'
  first | refine j_aload_n (pc := 0) hX dX3_writePosts_0 rfl rfl ?_ | refine j_aload_nq (pc := 0) hX dX3_writePosts_0 rfl rfl ?_
  refine j_iconst (pc := 1) (v := 0) hX dX3_writePosts_1 (by decide) ?_
  refine j_put (pc := 2) hX kp_X3_39 dX3_writePosts_2 (by assumption) (by first | assumption | omega | exact h0.1 _ (by decide)) rfl rfl rfl (fun H_2 w_2 n_2 => ?_)
  have hT := tw_put6 hT w_2 n_2
  have hF := hF.put w_2 (fun _ => ⟨100, by decide, rfl⟩)
  have ho := hT.2.1
  first | refine j_aload_n (pc := 5) hX dX3_writePosts_5 rfl rfl ?_ | refine j_aload_nq (pc := 5) hX dX3_writePosts_5 rfl rfl ?_
  refine j_iconst (pc := 6) (v := 0) hX dX3_writePosts_6 (by decide) ?_
  refine j_put (pc := 7) hX kp_X3_207 dX3_writePosts_7 (by assumption) (by first | assumption | omega | exact h0.1 _ (by decide)) rfl rfl rfl (fun H_7 w_7 n_7 => ?_)
  have hT := tw_put8 hT w_7 n_7
  have hF := hF.put w_7 (fun _ => ⟨100, by decide, rfl⟩)
  refine j_iconst (pc := 10) (v := 0) hX dX3_writePosts_10 (by decide) ?_
  refine j_istore_n (pc := 11) hX dX3_writePosts_11 rfl (by decide) rfl ?_
  skip
  refine jloop (P := fun i => ∀ (H1 : Heap) (o : Nat → Nat), JFr (twP g) H H1 → OuB (11 * i) o (jfold (postsF (ar 0)) i []) → jtw G H1 g (jup ar 7 o) cm (jup (jup fs 6 0) 8 (nI (jfold (postsF (ar 0)) i []).length)) → JW X G H1 0 12 [(0, .inr (some (g 100))), (1, .inl (.int (nI i)))] []) (ar 0 2) (fun H1 o hF hO hT => ?_) (fun i hi ih H1 o hF hO hT => ?_) 0 (by omega) H_7 (ar 7) hF OuB_nil (by rw [jup_id]; exact hT)
  · change OuB _ o (postsN (ar 0)) at hO
    change jtw G H1 g (jup ar 7 o) cm (jup (jup fs 6 0) 8 (nI (postsN (ar 0)).length)) at hT
    obtain ⟨h0, ho, hs, hbf, hsv, hpa, hou, hip, hcm⟩ := id hT
    refine j_iload_n (pc := 12) hX dX3_writePosts_12 rfl rfl ?_
    first | refine j_aload_n (pc := 13) hX dX3_writePosts_13 rfl rfl ?_ | refine j_aload_nq (pc := 13) hX dX3_writePosts_13 rfl rfl ?_
    refine j_get (pc := 14) hX kg_X3_9 dX3_writePosts_14 (by first | assumption | exact jow.r (by assumption)) (by rfl) ?_
    refine j_iconst (pc := 17) (v := 2) hX dX3_writePosts_17 (by decide) ?_
    refine j_iald (pc := 18) hX dX3_writePosts_18 (by first | assumption | exact jaw.r hX (by decide) (by assumption)) (by assumption) ?_
    refine j_icmp_ge (pc := 19) (tgt := 69) hX dX3_writePosts_19 (by decide) (fun c_19 => ?_) (fun c_19 => ?_)
    rotate_left
    · exact absurd (jge_no (a := ar 0 2) c_19 (by omega) (by omega)) (by omega)
    first | refine j_aload_n (pc := 69) hX dX3_writePosts_69 rfl rfl ?_ | refine j_aload_nq (pc := 69) hX dX3_writePosts_69 rfl rfl ?_
    refine j_get (pc := 70) hX kg_X3_207 dX3_writePosts_70 (by first | assumption | exact jow.r (by assumption)) (by rfl) ?_
    exact j_iret hX hQ hr dX3_writePosts_73 ⟨_, rfl, rfl, o, hO.1, hF, hT⟩
  · have es : jfold (postsF (ar 0)) (i + 1) [] = postsF (ar 0) i (jfold (postsF (ar 0)) i []) := rfl
    rw [es] at ih
    generalize jfold (postsF (ar 0)) i [] = L at *
    obtain ⟨h0, ho, hs, hbf, hsv, hpa, hou, hip, hcm⟩ := id hT
    have hf' := hf i (by omega)
    have hU' := hU i hi
    have rest : ∀ (H1 : Heap) (o : Nat → Nat) (L' : List Nat), (if 0 < i then L ++ [32] else L) = L' → JFr (twP g) H H1 → OuB (11 * i + 1) o L' → jtw G H1 g (jup ar 7 o) cm (jup (jup fs 6 0) 8 (nI L'.length)) → JW X G H1 0 41 [(0, .inr (some (g 100))), (1, .inl (.int (nI i))), (2, .inl (.int (nI (pFl (ar 0) i) - 1)))] [] := by
      intro H1 o L' eL hF hO hT
      obtain ⟨h0, ho, hs, hbf, hsv, hpa, hou, hip, hcm⟩ := id hT
      unfold postsF at ih
      rw [eL] at ih
      refine j_iload_n (pc := 41) hX dX3_writePosts_41 rfl rfl ?_
      refine j_if_ge (pc := 42) (tgt := 54) hX dX3_writePosts_42 (by decide) (fun c_42 => ?_) (fun c_42 => ?_)
      · have c_24' : 0 < pFl (ar 0) i := by rcases Nat.eq_zero_or_pos (pFl (ar 0) i) with e | e; exact absurd c_42 (by rw [e]; decide); exact e
        rw [if_neg (by omega)] at ih
        obtain ⟨k, hk⟩ : ∃ k, pFl (ar 0) i = k + 1 := ⟨pFl (ar 0) i - 1, (Nat.sub_add_cancel c_24').symm⟩
        rw [hk, Nat.add_sub_cancel] at ih
        have hu := hU' c_24'
        rw [hk, Nat.add_sub_cancel] at hu
        obtain ⟨v, hv⟩ : ∃ v, aId (ar 0) k = v + 1 := ⟨aId (ar 0) k - 1, (Nat.sub_add_cancel hu).symm⟩
        rw [hv, Nat.add_sub_cancel] at ih
        have hv2 : aId (ar 0) k < 2 ^ 24 := hb _ (by omega)
        first | refine j_aload_n (pc := 54) hX dX3_writePosts_54 rfl rfl ?_ | refine j_aload_nq (pc := 54) hX dX3_writePosts_54 rfl rfl ?_
        first | refine j_aload_n (pc := 55) hX dX3_writePosts_55 rfl rfl ?_ | refine j_aload_nq (pc := 55) hX dX3_writePosts_55 rfl rfl ?_
        refine j_iload_n (pc := 56) hX dX3_writePosts_56 rfl rfl ?_
        rw [hk, nI_pred]
        refine j_rune (pc := 57) (jr_V (pc := 57) hX kv_X3_76 (by first | assumption | exact jow.r (by assumption)) (c_X3_idOf _ _ _ hT k (by omega)) (by decide) dX3_writePosts_57 rfl rfl (Nat.le_of_ble_eq_true rfl)) ?_ jno_x
        change JW X G H1 0 60 _ [.int (nI (aId (ar 0) k) - 1), _]
        rw [hv, nI_pred]
        refine j_runv (pc := 60) (jr_V (pc := 60) hX kv_X3_210 (by first | assumption | exact jow.r (by assumption)) (c_X3_sayD _ _ _ hT hO (by omega) rfl v (by omega)) (by decide) dX3_writePosts_60 rfl rfl (Nat.le_of_ble_eq_true rfl)) (fun H_60 p_60 z_60 => ?_) jno_x
        obtain ⟨o2, hO, hR⟩ := p_60
        have hF := JFr.trans hF hR.1
        have hT := hR.2
        rw [jup_jup, jup_jup] at hT
        refine j_iincc (pc := 63) (m := 1) hX dX3_writePosts_63 rfl (by decide) (by decide) rfl ?_
        refine j_goto (pc := 66) (tgt := 12) hX dX3_writePosts_66 (by decide) ?_
        exact j_lv (by simp [jsb, jget, jval, nI_1]) (ih _ _ hF ⟨hO.1, Nat.le_trans hO.2 (by omega)⟩ hT)
      · have c_24' : pFl (ar 0) i = 0 := by rcases Nat.eq_zero_or_pos (pFl (ar 0) i) with e | e; exact e; exact absurd (by rw [(Nat.sub_add_cancel e).symm, nI_pred]; exact nI_pos' (by omega)) c_42
        rw [if_pos c_24'] at ih
        first | refine j_aload_n (pc := 45) hX dX3_writePosts_45 rfl rfl ?_ | refine j_aload_nq (pc := 45) hX dX3_writePosts_45 rfl rfl ?_
        refine j_bipush (pc := 46) (v := 45) hX dX3_writePosts_46 (by decide) ?_
        refine j_runv (pc := 48) (jr_V (pc := 48) hX kv_X3_213 (by first | assumption | exact jow.r (by assumption)) (c_X3_say1 _ _ _ hT hO (by omega) rfl 45 (by decide)) (by decide) dX3_writePosts_48 rfl rfl (Nat.le_of_ble_eq_true rfl)) (fun H_48 p_48 z_48 => ?_) jno_x
        obtain ⟨o2, hO, hR⟩ := p_48
        have hF := JFr.trans hF hR.1
        have hT := hR.2
        rw [jup_jup, jup_jup] at hT
        refine j_goto (pc := 51) (tgt := 63) hX dX3_writePosts_51 (by decide) ?_
        refine j_iincc (pc := 63) (m := 1) hX dX3_writePosts_63 rfl (by decide) (by decide) rfl ?_
        refine j_goto (pc := 66) (tgt := 12) hX dX3_writePosts_66 (by decide) ?_
        exact j_lv (by simp [jsb, jget, jval, nI_1]) (ih _ _ hF ⟨hO.1, Nat.le_trans hO.2 (by omega)⟩ hT)
    refine j_iload_n (pc := 12) hX dX3_writePosts_12 rfl rfl ?_
    first | refine j_aload_n (pc := 13) hX dX3_writePosts_13 rfl rfl ?_ | refine j_aload_nq (pc := 13) hX dX3_writePosts_13 rfl rfl ?_
    refine j_get (pc := 14) hX kg_X3_9 dX3_writePosts_14 (by first | assumption | exact jow.r (by assumption)) (by rfl) ?_
    refine j_iconst (pc := 17) (v := 2) hX dX3_writePosts_17 (by decide) ?_
    refine j_iald (pc := 18) hX dX3_writePosts_18 (by first | assumption | exact jaw.r hX (by decide) (by assumption)) (by assumption) ?_
    refine j_icmp_ge (pc := 19) (tgt := 69) hX dX3_writePosts_19 (by decide) (fun c_19 => ?_) (fun c_19 => ?_)
    · exact absurd (jge_yes (a := ar 0 2) c_19 (by omega) (by omega)) (by omega)
    first | refine j_aload_n (pc := 22) hX dX3_writePosts_22 rfl rfl ?_ | refine j_aload_nq (pc := 22) hX dX3_writePosts_22 rfl rfl ?_
    refine j_iload_n (pc := 23) hX dX3_writePosts_23 rfl rfl ?_
    refine j_iconst (pc := 24) (v := 4) hX dX3_writePosts_24 (by decide) ?_
    refine j_rune (pc := 25) (jr_V (pc := 25) hX kv_X3_59 (by first | assumption | exact jow.r (by assumption)) (c_X3_ofPost _ _ _ hT i 4 (by omega) (by omega)) (by decide) dX3_writePosts_25 rfl rfl (Nat.le_of_ble_eq_true rfl)) ?_ jno_x
    refine j_iconst (pc := 28) (v := 1) hX dX3_writePosts_28 (by decide) ?_
    refine j_isub (pc := 29) hX dX3_writePosts_29 ?_
    refine j_istore_n (pc := 30) hX dX3_writePosts_30 rfl (by decide) rfl ?_
    refine j_iload_n (pc := 31) hX dX3_writePosts_31 rfl rfl ?_
    refine j_if_le (pc := 32) (tgt := 41) hX dX3_writePosts_32 (by decide) (fun c_32 => ?_) (fun c_32 => ?_)
    · rw [show (0 : Int32) = nI 0 from rfl, nI_leI (by omega) (by omega)] at c_32
      first | exact rest _ _ _ (if_neg (by omega)) hF ⟨hO.1, Nat.le_trans hO.2 (by omega)⟩ hT | exact rest _ _ _ (if_pos (by omega)) hF hO hT
    · rw [show (0 : Int32) = nI 0 from rfl, nI_leI (by omega) (by omega)] at c_32
      first | refine j_aload_n (pc := 35) hX dX3_writePosts_35 rfl rfl ?_ | refine j_aload_nq (pc := 35) hX dX3_writePosts_35 rfl rfl ?_
      refine j_bipush (pc := 36) (v := 32) hX dX3_writePosts_36 (by decide) ?_
      refine j_runv (pc := 38) (jr_V (pc := 38) hX kv_X3_213 (by first | assumption | exact jow.r (by assumption)) (c_X3_say1 _ _ _ hT hO (by omega) rfl 32 (by decide)) (by decide) dX3_writePosts_38 rfl rfl (Nat.le_of_ble_eq_true rfl)) (fun H_38 p_38 z_38 => ?_) jno_x
      obtain ⟨o2, hO, hR⟩ := p_38
      have hF := JFr.trans hF hR.1
      have hT := hR.2
      rw [jup_jup, jup_jup] at hT
      first | exact rest _ _ _ (if_neg (by omega)) hF ⟨hO.1, Nat.le_trans hO.2 (by omega)⟩ hT | exact rest _ _ _ (if_pos (by omega)) hF hO hT
def outQ (L : List Nat) (x : Int32) : Nat × Int32 := if (decide (0 ≤ x) && decide (x ≤ nI L.length - 1)) = true then (0, nI (L.getD x.toNatClampNeg 0)) else (1, 0)
theorem c_X3_outputCharacter (l : Launch) (G : JG) (H : Heap) {g : Nat → Nat} {ar : Nat → Nat → Nat} {cm fs : Nat → Int32} (hT : jtw G H g ar cm fs) (L : List Nat) (hL : L.length < 90) (e8 : fs 8 = nI L.length) (hO : Ou (ar 7) L) (hc : ∀ j, j < L.length → L.getD j 0 < 65536) (x : Int32) : JMet l yX3_outputCharacter (ws_ yX3_outputCharacter cX3_outputCharacter 2 (some .char)) 2 0 G H [.ref (g 100), .int x] (twQ G H g ar cm fs (outQ L x)) (jno) := by
  refine JMet.of [(0, .inr (some (g 100))), (1, .inl (.int x))] (by decide) (Nat.le_of_ble_eq_true rfl) rfl (fun X hl hX hQ hEx hr hnm hH => ?_)
  subst hl
  obtain ⟨h0, ho, hs, hbf, hsv, hpa, hou, hip, hcm⟩ := id hT
  have hi2 : vp_in (2 : Int32) 93 := vp_in_nI (n := 2) (by omega) (by decide)
  first | refine j_aload_n (pc := 0) hX dX3_outputCharacter_0 rfl rfl ?_ | refine j_aload_nq (pc := 0) hX dX3_outputCharacter_0 rfl rfl ?_
  refine j_iload_n (pc := 1) hX dX3_outputCharacter_1 rfl rfl ?_
  refine j_iconst (pc := 2) (v := 0) hX dX3_outputCharacter_2 (by decide) ?_
  first | refine j_aload_n (pc := 3) hX dX3_outputCharacter_3 rfl rfl ?_ | refine j_aload_nq (pc := 3) hX dX3_outputCharacter_3 rfl rfl ?_
  refine j_get (pc := 4) hX kg_X3_207 dX3_outputCharacter_4 (by first | assumption | exact jow.r (by assumption)) (by rfl) ?_
  refine j_iconst (pc := 7) (v := 1) hX dX3_outputCharacter_7 (by decide) ?_
  refine j_isub (pc := 8) hX dX3_outputCharacter_8 ?_
  refine j_rune (pc := 9) (jr_S (pc := 9) hX ks_X3_51 (c_X3_in _ _ _ _ _ _) (by decide) dX3_outputCharacter_9 rfl rfl (Nat.le_of_ble_eq_true rfl)) ?_ jno_x
  skip
  change JW X G H 0 12 _ [.int (jb (decide (0 ≤ x) && decide (x ≤ fs 8 - 1))), _]
  rw [e8]
  have hP := postN_is (s := fun _ => L.length) (x := x)
  have hS : ∀ p, postN (fun _ => L.length) x = some p → p < L.length ∧ x = nI p := by
    intro p h
    have hh : (decide (0 ≤ x) && decide (x ≤ nI L.length - 1)) = true := by rw [hP, h]; rfl
    unfold postN at h
    simp only [Bool.and_eq_true, decide_eq_true_eq] at hh
    rw [if_pos hh] at h
    obtain ⟨q, hq, rfl⟩ := nI_of (Int32.not_lt.mpr hh.1)
    rw [nI_clamp hq] at h; cases h
    refine ⟨?_, rfl⟩
    rcases Nat.eq_zero_or_pos L.length with e | e
    · rw [e] at hh
      exact absurd (Int32.le_trans hh.1 hh.2) (by decide)
    · obtain ⟨n, hn⟩ : ∃ n, L.length = n + 1 := ⟨L.length - 1, by omega⟩
      have q2 := hh.2
      rw [hn, nI_pred, nI_leI hq (by omega)] at q2
      omega
  rw [hP]
  cases e : postN (fun _ => L.length) x with
  | none =>
    have eq : outQ L x = (1, 0) := by unfold outQ; rw [hP, e]; rfl
    refine j_runi (pc := 12) (jr_V (pc := 12) hX kv_X3_119 (by first | assumption | exact jow.r (by assumption)) (c_X3_isThere _ _ _ hT _ rfl) (by decide) dX3_outputCharacter_12 rfl rfl (Nat.le_of_ble_eq_true rfl)) (fun r_12 H_12 p_12 z_12 => ?_) jno_x
    obtain ⟨⟨hF, hT⟩, rfl⟩ := p_12
    have ho := hT.2.1
    refine j_if_eq (pc := 15) (tgt := 27) hX dX3_outputCharacter_15 (by decide) (fun c_15 => ?_) (fun c_15 => ?_)
    rotate_left
    · exact absurd rfl c_15
    refine j_bipush (pc := 27) (v := 32) hX dX3_outputCharacter_27 (by decide) ?_
    exact j_zret hX hQ hr (by first | rfl | exact jb_nar _ | exact nI_narC _ | assumption) dX3_outputCharacter_29 ⟨_, rfl, ⟨hF, by rw [eq]; simpa [nI_l1, jb] using hT⟩, fun z => by rw [eq] at z; cases z⟩
  | some p =>
    obtain ⟨hp, ex⟩ := hS p e
    have eq : outQ L x = (0, nI (L.getD p 0)) := by unfold outQ; rw [hP, e, ex, nI_clamp (by omega)]; rfl
    subst ex
    have hin : vp_in (nI p) 90 := vp_in_nI (by omega) (by decide)
    refine j_runi (pc := 12) (jr_V (pc := 12) hX kv_X3_119 (by first | assumption | exact jow.r (by assumption)) (c_X3_isThere _ _ _ hT _ (jb_nar _)) (by decide) dX3_outputCharacter_12 rfl rfl (Nat.le_of_ble_eq_true rfl)) (fun r_12 H_12 p_12 z_12 => ?_) jno_x
    obtain ⟨⟨hF, hT⟩, rfl⟩ := p_12
    obtain ⟨h0, ho, hs, hbf, hsv, hpa, hou, hip, hcm⟩ := id hT
    refine j_if_eq (pc := 15) (tgt := 27) hX dX3_outputCharacter_15 (by decide) (fun c_15 => ?_) (fun c_15 => ?_)
    · exact absurd (show (1 : Int32) = 0 from c_15) (by decide)
    first | refine j_aload_n (pc := 18) hX dX3_outputCharacter_18 rfl rfl ?_ | refine j_aload_nq (pc := 18) hX dX3_outputCharacter_18 rfl rfl ?_
    refine j_get (pc := 19) hX kg_X3_22 dX3_outputCharacter_19 (by first | assumption | exact jow.r (by assumption)) (by rfl) ?_
    refine j_iload_n (pc := 22) hX dX3_outputCharacter_22 rfl rfl ?_
    refine j_cald (pc := 23) hX dX3_outputCharacter_23 (by first | assumption | exact jaw.r hX (by decide) (by assumption)) (by assumption) ?_
    refine j_goto (pc := 24) (tgt := 29) hX dX3_outputCharacter_24 (by decide) ?_
    skip
    rw [show twA ar 7 (nI p).toNatClampNeg = nI (L.getD p 0) from by rw [nI_clamp (by omega)]; exact congrArg nI (hO p hp)]
    exact j_zret hX hQ hr (pk_charN (hc p hp)).1 dX3_outputCharacter_29 ⟨_, rfl, ⟨hF, by rw [eq]; simpa [nI_0, jb] using hT⟩, fun _ => by rw [eq]⟩
theorem c_X3_feed (l : Launch) (G : JG) (H : Heap) {g : Nat → Nat} {ar : Nat → Nat → Nat} {cm fs : Nat → Int32} (hT : jtw G H g ar cm fs) (L : List Nat) (hL : L.length < 60) (e10 : fs 10 = nI L.length) (hO : Ou (ar 9) L) (c : Nat) (hc : c < 65536) : JMet l yX3_feed (ws_ yX3_feed cX3_feed 2 (some .int)) 1 0 G H [.ref (g 100), .int (nI c)] (jpi (fun r H1 => r = nI (L.length + 1) ∧ ∃ o, Ou o (L ++ [c]) ∧ twR G H H1 g (jup ar 9 o) cm (jup (jup fs 6 0) 10 (nI (L.length + 1))))) (jno) := by
  refine JMet.of [(0, .inr (some (g 100))), (1, .inl (.int (nI c)))] (by decide) (Nat.le_of_ble_eq_true rfl) rfl (fun X hl hX hQ hEx hr hnm hH => ?_)
  subst hl
  obtain ⟨h0, ho, hs, hbf, hsv, hpa, hou, hip, hcm⟩ := id hT
  have hi2 : vp_in (2 : Int32) 93 := vp_in_nI (n := 2) (by omega) (by decide)
  have hF : JFr (twP g) H H := JFr.rfl'
  have hin : vp_in (nI L.length) 60 := vp_in_nI hL (by decide)
  first | refine j_aload_n (pc := 0) hX dX3_feed_0 rfl rfl ?_ | refine j_aload_nq (pc := 0) hX dX3_feed_0 rfl rfl ?_
  first | refine j_aload_n (pc := 1) hX dX3_feed_1 rfl rfl ?_ | refine j_aload_nq (pc := 1) hX dX3_feed_1 rfl rfl ?_
  refine j_get (pc := 2) hX kg_X3_220 dX3_feed_2 (by first | assumption | exact jow.r (by assumption)) (by rfl) ?_
  rw [e10]
  refine j_bipush (pc := 5) (v := 60) hX dX3_feed_5 (by decide) ?_
  refine j_icmp_ne (pc := 7) (tgt := 14) hX dX3_feed_7 (by decide) (fun c_7 => ?_) (fun c_7 => ?_)
  rotate_left
  · rw [show (60 : Int32) = nI 60 from rfl, nI_eq (by omega) (by omega)] at c_7
    omega
  rw [show (60 : Int32) = nI 60 from rfl, nI_eq (by omega) (by omega)] at c_7
  refine j_iconst (pc := 14) (v := 0) hX dX3_feed_14 (by decide) ?_
  refine j_put (pc := 15) hX kp_X3_39 dX3_feed_15 (by assumption) (by first | assumption | omega | exact h0.1 _ (by decide)) rfl rfl rfl (fun H_15 w_15 n_15 => ?_)
  have hT := tw_put6 hT w_15 n_15
  have hF := hF.put w_15 (fun _ => ⟨100, by decide, rfl⟩)
  obtain ⟨h0, ho, hs, hbf, hsv, hpa, hou, hip, hcm⟩ := id hT
  first | refine j_aload_n (pc := 18) hX dX3_feed_18 rfl rfl ?_ | refine j_aload_nq (pc := 18) hX dX3_feed_18 rfl rfl ?_
  refine j_get (pc := 19) hX kg_X3_39 dX3_feed_19 (by first | assumption | exact jow.r (by assumption)) (by rfl) ?_
  refine j_if_le (pc := 22) (tgt := 27) hX dX3_feed_22 (by decide) (fun c_22 => ?_) (fun c_22 => ?_)
  rotate_left
  · first | exact absurd c_22 (by decide) | (change ¬ (0 : Int32) ≤ 0 at c_22; exact absurd c_22 (by decide))
  first | refine j_aload_n (pc := 27) hX dX3_feed_27 rfl rfl ?_ | refine j_aload_nq (pc := 27) hX dX3_feed_27 rfl rfl ?_
  refine j_get (pc := 28) hX kg_X3_26 dX3_feed_28 (by first | assumption | exact jow.r (by assumption)) (by rfl) ?_
  first | refine j_aload_n (pc := 31) hX dX3_feed_31 rfl rfl ?_ | refine j_aload_nq (pc := 31) hX dX3_feed_31 rfl rfl ?_
  refine j_get (pc := 32) hX kg_X3_220 dX3_feed_32 (by first | assumption | exact jow.r (by assumption)) (by rfl) ?_
  change JW X G H_15 0 35 _ [.int (fs 10), _]
  rw [e10]
  refine j_iload_n (pc := 35) hX dX3_feed_35 rfl rfl ?_
  refine j_cast (pc := 36) hX dX3_feed_36 (by assumption) (h0.1 _ (by decide)) (by assumption) (pk_charN hc).1 (fun H_36 w_36 n_36 => ?_)
  rw [nI_clamp (by omega)] at n_36
  have hT := tw_arr9 (s2 := jup (ar 9) L.length c) hT w_36 n_36 (fun j hj => by unfold jup twA; split <;> rfl)
  have hF := JFr.put hF w_36 (fun _ => ⟨9, by decide, rfl⟩)
  obtain ⟨h0, ho, hs, hbf, hsv, hpa, hou, hip, hcm⟩ := id hT
  first | refine j_aload_n (pc := 37) hX dX3_feed_37 rfl rfl ?_ | refine j_aload_nq (pc := 37) hX dX3_feed_37 rfl rfl ?_
  refine j_dup (pc := 38) hX dX3_feed_38 (by first | rfl | exact jrf_cat _) ?_
  refine j_get (pc := 39) hX kg_X3_220 dX3_feed_39 (by first | assumption | exact jow.r (by assumption)) (by rfl) ?_
  refine j_iconst (pc := 42) (v := 1) hX dX3_feed_42 (by decide) ?_
  refine j_iadd (pc := 43) hX dX3_feed_43 ?_
  change JW X G H_36 0 44 _ [.int (fs 10 + 1), _]
  rw [e10, nI_1]
  refine j_put (pc := 44) hX kp_X3_220 dX3_feed_44 (by assumption) (by first | assumption | omega | exact h0.1 _ (by decide)) rfl rfl rfl (fun H_44 w_44 n_44 => ?_)
  have hT := tw_put10 hT w_44 n_44
  have hF := hF.put w_44 (fun _ => ⟨100, by decide, rfl⟩)
  have ho := hT.2.1
  first | refine j_aload_n (pc := 47) hX dX3_feed_47 rfl rfl ?_ | refine j_aload_nq (pc := 47) hX dX3_feed_47 rfl rfl ?_
  refine j_get (pc := 48) hX kg_X3_220 dX3_feed_48 (by first | assumption | exact jow.r (by assumption)) (by rfl) ?_
  exact j_iret hX hQ hr dX3_feed_51 ⟨_, rfl, rfl, _, hO.snoc, hF, hT⟩
