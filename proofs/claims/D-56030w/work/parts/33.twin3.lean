/-! the reference: searches -/
set_option maxRecDepth 100000
theorem jsb_nil {lv : JL} : jsb lv [] := trivial
theorem jsb_cons {lv t : JL} {q : Nat × (Value ⊕ Option Nat)} (h : jget lv q.1 = some (jval q.2)) (k : jsb lv t) : jsb lv (q :: t) := ⟨h, k⟩
theorem favN_i {s : Nat → Nat} {x q i : Nat} {v : Bool} (h : jfold (favF s x v) i none = some q) : q < i := jfold_lt (favF_or s x v) _ q h
theorem bestN_i {s : Nat → Nat} {c : Nat → Bool} {q i : Nat} (h : jfold (bestF s c) i none = some q) : q < i := jfold_lt (bestF_or s c) _ q h
theorem oI_eq {o : Option Nat} {N p : Nat} (h : ∀ q, o = some q → q < N) (hN : N ≤ 93) (hp : p < 93) : oI o = nI p ↔ o = some p := by
  cases o with
  | none => exact ⟨fun z => absurd (show nI p < 0 by rw [← z]; decide) (nI_pos (by omega)), fun z => by cases z⟩
  | some q =>
    have := h q rfl
    exact (nI_eq (by omega) (by omega)).trans (by simp)
theorem oI_some {o : Option Nat} {q : Nat} (h : o = some q) : oI o = nI q := by rw [h]; rfl
theorem c_X3_favourite (l : Launch) (G : JG) (H : Heap) {g : Nat → Nat} {ar : Nat → Nat → Nat} {cm fs : Nat → Int32} (hT : jtw G H g ar cm fs) (hB : Bs (ar 0)) (k : Nat) (v : Bool) (hk : k < 10) : JMet l yX3_favourite (ws_ yX3_favourite cX3_favourite 6 (some .int)) 3 0 G H [.ref (g 100), .int (nI k), .int (jb v)] (jpe H (oI (favN (ar 0) k v))) (jno) := by
  refine JMet.of [(0, .inr (some (g 100))), (1, .inl (.int (nI k))), (2, .inl (.int (jb v)))] (by decide) (Nat.le_of_ble_eq_true rfl) rfl (fun X hl hX hQ hEx hr hnm hH => ?_)
  subst hl
  obtain ⟨h0, ho, hs, hbf, hsv, hpa, hou, hip, hcm⟩ := id hT
  have hi2 : vp_in (2 : Int32) 93 := vp_in_nI (n := 2) (by omega) (by decide)
  obtain ⟨h2, hb, hf, hg⟩ := id hB
  refine j_iconst (pc := 0) (v := -1) hX dX3_favourite_0 (by decide) ?_
  refine j_istore_n (pc := 1) hX dX3_favourite_1 rfl (by decide) rfl ?_
  refine j_iconst (pc := 2) (v := 0) hX dX3_favourite_2 (by decide) ?_
  refine j_istore (pc := 3) hX dX3_favourite_3 (by decide) rfl ?_
  refine jloop (P := fun i => JW X G H 0 5 [(0, .inr (some (g 100))), (1, .inl (.int (nI k))), (2, .inl (.int (jb v))), (3, .inl (.int (oI (jfold (favF (ar 0) k v) i none)))), (4, .inl (.int (nI i)))] []) (ar 0 2) ?_ (fun i hi ih => ?_) 0 (by omega)
  · refine j_iload (pc := 5) hX dX3_favourite_5 rfl ?_
    first | refine j_aload_n (pc := 7) hX dX3_favourite_7 rfl rfl ?_ | refine j_aload_nq (pc := 7) hX dX3_favourite_7 rfl rfl ?_
    refine j_get (pc := 8) hX kg_X3_9 dX3_favourite_8 (by first | assumption | exact jow.r (by assumption)) (by rfl) ?_
    refine j_iconst (pc := 11) (v := 2) hX dX3_favourite_11 (by decide) ?_
    refine j_iald (pc := 12) hX dX3_favourite_12 (by first | assumption | exact jaw.r hX (by decide) (by assumption)) (by assumption) ?_
    refine j_icmp_ge (pc := 13) (tgt := 79) hX dX3_favourite_13 (by decide) (fun c_13 => ?_) (fun c_13 => ?_)
    rotate_left
    · exact absurd (jge_no (a := ar 0 2) c_13 (by omega) (by omega)) (by omega)
    refine j_iload_n (pc := 79) hX dX3_favourite_79 rfl rfl ?_
    exact j_iret hX hQ hr dX3_favourite_80 ⟨_, rfl, rfl, by rfl⟩
  · refine j_iload (pc := 5) hX dX3_favourite_5 rfl ?_
    first | refine j_aload_n (pc := 7) hX dX3_favourite_7 rfl rfl ?_ | refine j_aload_nq (pc := 7) hX dX3_favourite_7 rfl rfl ?_
    refine j_get (pc := 8) hX kg_X3_9 dX3_favourite_8 (by first | assumption | exact jow.r (by assumption)) (by rfl) ?_
    refine j_iconst (pc := 11) (v := 2) hX dX3_favourite_11 (by decide) ?_
    refine j_iald (pc := 12) hX dX3_favourite_12 (by first | assumption | exact jaw.r hX (by decide) (by assumption)) (by assumption) ?_
    refine j_icmp_ge (pc := 13) (tgt := 79) hX dX3_favourite_13 (by decide) (fun c_13 => ?_) (fun c_13 => ?_)
    · exact absurd (jge_yes (a := ar 0 2) c_13 (by omega) (by omega)) (by omega)
    first | refine j_aload_n (pc := 16) hX dX3_favourite_16 rfl rfl ?_ | refine j_aload_nq (pc := 16) hX dX3_favourite_16 rfl rfl ?_
    refine j_iload_n (pc := 17) hX dX3_favourite_17 rfl rfl ?_
    refine j_iload (pc := 18) hX dX3_favourite_18 rfl ?_
    refine j_rune (pc := 20) (jr_V (pc := 20) hX kv_X3_152 (by first | assumption | exact jow.r (by assumption)) (c_X3_fits _ _ _ hT hB k i hk (by omega)) (by decide) dX3_favourite_20 rfl rfl (Nat.le_of_ble_eq_true rfl)) ?_ jno_x
    refine j_if_eq (pc := 23) (tgt := 44) hX dX3_favourite_23 (by decide) (fun c_23 => ?_) (fun c_23 => ?_)
    · rw [jb_z] at c_23
      refine j_iconst (pc := 44) (v := 0) hX dX3_favourite_44 (by decide) ?_
      refine j_istore (pc := 45) hX dX3_favourite_45 (by decide) rfl ?_
      refine j_iload (pc := 47) hX dX3_favourite_47 rfl ?_
      refine j_if_eq (pc := 49) (tgt := 71) hX dX3_favourite_49 (by decide) (fun c_49 => ?_) (fun c_49 => ?_)
      rotate_left
      · first | exact absurd c_49 (by decide) | (change ¬ (0 : Int32) = 0 at c_49; exact absurd c_49 (by decide))
      refine j_iload_n (pc := 71) hX dX3_favourite_71 rfl rfl ?_
      refine j_istore_n (pc := 72) hX dX3_favourite_72 rfl (by decide) rfl ?_
      refine j_iincc (pc := 73) (m := 1) hX dX3_favourite_73 rfl (by decide) (by decide) rfl ?_
      refine j_goto (pc := 76) (tgt := 5) hX dX3_favourite_76 (by decide) ?_
      first | exact absurd rfl (by assumption) | exact absurd (by assumption) (by decide : ¬ (1 : Int32) = 0) | exact j_lv (by simp [jsb, jget, jval, jfold_succ, nI_1, favF, oI, pFl, c_23]) ih
    · rw [jb_n] at c_23
      refine j_iload_n (pc := 26) hX dX3_favourite_26 rfl rfl ?_
      refine j_if_eq (pc := 27) (tgt := 40) hX dX3_favourite_27 (by decide) (fun c_27 => ?_) (fun c_27 => ?_)
      · rw [jb_z] at c_27
        subst c_27
        have c_27 := True.intro
        refine j_iconst (pc := 40) (v := 1) hX dX3_favourite_40 (by decide) ?_
        refine j_goto (pc := 41) (tgt := 45) hX dX3_favourite_41 (by decide) ?_
        refine j_istore (pc := 45) hX dX3_favourite_45 (by decide) rfl ?_
        refine j_iload (pc := 47) hX dX3_favourite_47 rfl ?_
        refine j_if_eq (pc := 49) (tgt := 71) hX dX3_favourite_49 (by decide) (fun c_49 => ?_) (fun c_49 => ?_)
        · first | exact absurd c_49 (by decide) | (change (1 : Int32) = 0 at c_49; exact absurd c_49 (by decide))
        refine j_iload_n (pc := 52) hX dX3_favourite_52 rfl rfl ?_
        refine j_if_lt (pc := 53) (tgt := 66) hX dX3_favourite_53 (by decide) (fun c_53 => ?_) (fun c_53 => ?_)
        · have e0 : ∀ v q, jfold (favF (ar 0) k v) i none = some q → q < 6 := fun v q e => Nat.lt_of_lt_of_le (Nat.lt_trans (favN_i e) hi) h2
          rw [oI_neg' (e0 _) (by omega)] at c_53
          refine j_iload (pc := 66) hX dX3_favourite_66 rfl ?_
          refine j_goto (pc := 68) (tgt := 72) hX dX3_favourite_68 (by decide) ?_
          refine j_istore_n (pc := 72) hX dX3_favourite_72 rfl (by decide) rfl ?_
          refine j_iincc (pc := 73) (m := 1) hX dX3_favourite_73 rfl (by decide) (by decide) rfl ?_
          refine j_goto (pc := 76) (tgt := 5) hX dX3_favourite_76 (by decide) ?_
          first | exact absurd rfl (by assumption) | exact absurd (by assumption) (by decide : ¬ (1 : Int32) = 0) | exact j_lv (by simp [jsb, jget, jval, jfold_succ, nI_1, favF, oI, pFl, c_23, c_27, c_53]) ih
        · have e0 : ∀ v q, jfold (favF (ar 0) k v) i none = some q → q < 6 := fun v q e => Nat.lt_of_lt_of_le (Nat.lt_trans (favN_i e) hi) h2
          rw [Int32.not_lt, oI_pos' (e0 _) (by omega)] at c_53
          obtain ⟨q, c_53, hq⟩ := c_53
          first | refine j_aload_n (pc := 56) hX dX3_favourite_56 rfl rfl ?_ | refine j_aload_nq (pc := 56) hX dX3_favourite_56 rfl rfl ?_
          refine j_iload (pc := 57) hX dX3_favourite_57 rfl ?_
          refine j_iload_n (pc := 59) hX dX3_favourite_59 rfl rfl ?_
          rw [oI_some c_53]
          refine j_rune (pc := 60) (jr_V (pc := 60) hX kv_X3_155 (by first | assumption | exact jow.r (by assumption)) (c_X3_isPreferred _ _ _ hT hB i q (by omega) hq) (by decide) dX3_favourite_60 rfl rfl (Nat.le_of_ble_eq_true rfl)) ?_ jno_x
          refine j_if_eq (pc := 63) (tgt := 71) hX dX3_favourite_63 (by decide) (fun c_63 => ?_) (fun c_63 => ?_)
          · rw [jb_z] at c_63
            refine j_iload_n (pc := 71) hX dX3_favourite_71 rfl rfl ?_
            refine j_istore_n (pc := 72) hX dX3_favourite_72 rfl (by decide) rfl ?_
            refine j_iincc (pc := 73) (m := 1) hX dX3_favourite_73 rfl (by decide) (by decide) rfl ?_
            refine j_goto (pc := 76) (tgt := 5) hX dX3_favourite_76 (by decide) ?_
            first | exact absurd rfl (by assumption) | exact absurd (by assumption) (by decide : ¬ (1 : Int32) = 0) | exact j_lv (by simp [jsb, jget, jval, jfold_succ, nI_1, favF, oI, pFl, c_23, c_27, c_53, c_63]) ih
          · rw [jb_n] at c_63
            refine j_iload (pc := 66) hX dX3_favourite_66 rfl ?_
            refine j_goto (pc := 68) (tgt := 72) hX dX3_favourite_68 (by decide) ?_
            refine j_istore_n (pc := 72) hX dX3_favourite_72 rfl (by decide) rfl ?_
            refine j_iincc (pc := 73) (m := 1) hX dX3_favourite_73 rfl (by decide) (by decide) rfl ?_
            refine j_goto (pc := 76) (tgt := 5) hX dX3_favourite_76 (by decide) ?_
            first | exact absurd rfl (by assumption) | exact absurd (by assumption) (by decide : ¬ (1 : Int32) = 0) | exact j_lv (by simp [jsb, jget, jval, jfold_succ, nI_1, favF, oI, pFl, c_23, c_27, c_53, c_63]) ih
      · rw [jb_n] at c_27
        subst c_27
        have c_27 := True.intro
        first | refine j_aload_n (pc := 30) hX dX3_favourite_30 rfl rfl ?_ | refine j_aload_nq (pc := 30) hX dX3_favourite_30 rfl rfl ?_
        refine j_iload (pc := 31) hX dX3_favourite_31 rfl ?_
        refine j_iconst (pc := 33) (v := 4) hX dX3_favourite_33 (by decide) ?_
        refine j_rune (pc := 34) (jr_V (pc := 34) hX kv_X3_59 (by first | assumption | exact jow.r (by assumption)) (c_X3_ofPost _ _ _ hT i 4 (by omega) (by omega)) (by decide) dX3_favourite_34 rfl rfl (Nat.le_of_ble_eq_true rfl)) ?_ jno_x
        refine j_if_ne (pc := 37) (tgt := 44) hX dX3_favourite_37 (by decide) (fun c_37 => ?_) (fun c_37 => ?_)
        · rw [nI_eq0 (bsL hb (by omega))] at c_37
          refine j_iconst (pc := 44) (v := 0) hX dX3_favourite_44 (by decide) ?_
          refine j_istore (pc := 45) hX dX3_favourite_45 (by decide) rfl ?_
          refine j_iload (pc := 47) hX dX3_favourite_47 rfl ?_
          refine j_if_eq (pc := 49) (tgt := 71) hX dX3_favourite_49 (by decide) (fun c_49 => ?_) (fun c_49 => ?_)
          rotate_left
          · first | exact absurd c_49 (by decide) | (change ¬ (0 : Int32) = 0 at c_49; exact absurd c_49 (by decide))
          refine j_iload_n (pc := 71) hX dX3_favourite_71 rfl rfl ?_
          refine j_istore_n (pc := 72) hX dX3_favourite_72 rfl (by decide) rfl ?_
          refine j_iincc (pc := 73) (m := 1) hX dX3_favourite_73 rfl (by decide) (by decide) rfl ?_
          refine j_goto (pc := 76) (tgt := 5) hX dX3_favourite_76 (by decide) ?_
          first | exact absurd rfl (by assumption) | exact absurd (by assumption) (by decide : ¬ (1 : Int32) = 0) | exact j_lv (by simp [jsb, jget, jval, jfold_succ, nI_1, favF, oI, pFl, c_23, c_27, c_37]) ih
        · rw [nI_eq0 (bsL hb (by omega))] at c_37
          refine j_iconst (pc := 40) (v := 1) hX dX3_favourite_40 (by decide) ?_
          refine j_goto (pc := 41) (tgt := 45) hX dX3_favourite_41 (by decide) ?_
          refine j_istore (pc := 45) hX dX3_favourite_45 (by decide) rfl ?_
          refine j_iload (pc := 47) hX dX3_favourite_47 rfl ?_
          refine j_if_eq (pc := 49) (tgt := 71) hX dX3_favourite_49 (by decide) (fun c_49 => ?_) (fun c_49 => ?_)
          · first | exact absurd c_49 (by decide) | (change (1 : Int32) = 0 at c_49; exact absurd c_49 (by decide))
          refine j_iload_n (pc := 52) hX dX3_favourite_52 rfl rfl ?_
          refine j_if_lt (pc := 53) (tgt := 66) hX dX3_favourite_53 (by decide) (fun c_53 => ?_) (fun c_53 => ?_)
          · have e0 : ∀ v q, jfold (favF (ar 0) k v) i none = some q → q < 6 := fun v q e => Nat.lt_of_lt_of_le (Nat.lt_trans (favN_i e) hi) h2
            rw [oI_neg' (e0 _) (by omega)] at c_53
            refine j_iload (pc := 66) hX dX3_favourite_66 rfl ?_
            refine j_goto (pc := 68) (tgt := 72) hX dX3_favourite_68 (by decide) ?_
            refine j_istore_n (pc := 72) hX dX3_favourite_72 rfl (by decide) rfl ?_
            refine j_iincc (pc := 73) (m := 1) hX dX3_favourite_73 rfl (by decide) (by decide) rfl ?_
            refine j_goto (pc := 76) (tgt := 5) hX dX3_favourite_76 (by decide) ?_
            first | exact absurd rfl (by assumption) | exact absurd (by assumption) (by decide : ¬ (1 : Int32) = 0) | exact j_lv (by simp [jsb, jget, jval, jfold_succ, nI_1, favF, oI, pFl, c_23, c_27, c_37, c_53]) ih
          · have e0 : ∀ v q, jfold (favF (ar 0) k v) i none = some q → q < 6 := fun v q e => Nat.lt_of_lt_of_le (Nat.lt_trans (favN_i e) hi) h2
            rw [Int32.not_lt, oI_pos' (e0 _) (by omega)] at c_53
            obtain ⟨q, c_53, hq⟩ := c_53
            first | refine j_aload_n (pc := 56) hX dX3_favourite_56 rfl rfl ?_ | refine j_aload_nq (pc := 56) hX dX3_favourite_56 rfl rfl ?_
            refine j_iload (pc := 57) hX dX3_favourite_57 rfl ?_
            refine j_iload_n (pc := 59) hX dX3_favourite_59 rfl rfl ?_
            rw [oI_some c_53]
            refine j_rune (pc := 60) (jr_V (pc := 60) hX kv_X3_155 (by first | assumption | exact jow.r (by assumption)) (c_X3_isPreferred _ _ _ hT hB i q (by omega) hq) (by decide) dX3_favourite_60 rfl rfl (Nat.le_of_ble_eq_true rfl)) ?_ jno_x
            refine j_if_eq (pc := 63) (tgt := 71) hX dX3_favourite_63 (by decide) (fun c_63 => ?_) (fun c_63 => ?_)
            · rw [jb_z] at c_63
              refine j_iload_n (pc := 71) hX dX3_favourite_71 rfl rfl ?_
              refine j_istore_n (pc := 72) hX dX3_favourite_72 rfl (by decide) rfl ?_
              refine j_iincc (pc := 73) (m := 1) hX dX3_favourite_73 rfl (by decide) (by decide) rfl ?_
              refine j_goto (pc := 76) (tgt := 5) hX dX3_favourite_76 (by decide) ?_
              first | exact absurd rfl (by assumption) | exact absurd (by assumption) (by decide : ¬ (1 : Int32) = 0) | exact j_lv (by simp [jsb, jget, jval, jfold_succ, nI_1, favF, oI, pFl, c_23, c_27, c_37, c_53, c_63]) ih
            · rw [jb_n] at c_63
              refine j_iload (pc := 66) hX dX3_favourite_66 rfl ?_
              refine j_goto (pc := 68) (tgt := 72) hX dX3_favourite_68 (by decide) ?_
              refine j_istore_n (pc := 72) hX dX3_favourite_72 rfl (by decide) rfl ?_
              refine j_iincc (pc := 73) (m := 1) hX dX3_favourite_73 rfl (by decide) (by decide) rfl ?_
              refine j_goto (pc := 76) (tgt := 5) hX dX3_favourite_76 (by decide) ?_
              first | exact absurd rfl (by assumption) | exact absurd (by assumption) (by decide : ¬ (1 : Int32) = 0) | exact j_lv (by simp [jsb, jget, jval, jfold_succ, nI_1, favF, oI, pFl, c_23, c_27, c_37, c_53, c_63]) ih
theorem c_X3_candidate (l : Launch) (G : JG) (H : Heap) {g : Nat → Nat} {ar : Nat → Nat → Nat} {cm fs : Nat → Int32} (hT : jtw G H g ar cm fs) (hB : Bs (ar 0)) (p : Nat) (hp : p < 6) : JMet l yX3_candidate (ws_ yX3_candidate cX3_candidate 5 (some .int)) 4 0 G H [.ref (g 100), .int (nI p)] (jpe H (oI (candN (ar 0) p))) (jno) := by
  refine JMet.of [(0, .inr (some (g 100))), (1, .inl (.int (nI p)))] (by decide) (Nat.le_of_ble_eq_true rfl) rfl (fun X hl hX hQ hEx hr hnm hH => ?_)
  subst hl
  obtain ⟨h0, ho, hs, hbf, hsv, hpa, hou, hip, hcm⟩ := id hT
  have hi2 : vp_in (2 : Int32) 93 := vp_in_nI (n := 2) (by omega) (by decide)
  obtain ⟨h2, hb, hf, hg⟩ := id hB
  refine j_iconst (pc := 0) (v := -1) hX dX3_candidate_0 (by decide) ?_
  refine j_istore_n (pc := 1) hX dX3_candidate_1 rfl (by decide) rfl ?_
  refine j_iconst (pc := 2) (v := 0) hX dX3_candidate_2 (by decide) ?_
  refine j_istore_n (pc := 3) hX dX3_candidate_3 rfl (by decide) rfl ?_
  refine jloop (P := fun i => JW X G H 0 4 [(0, .inr (some (g 100))), (1, .inl (.int (nI p))), (2, .inl (.int (oI (jfold (bestF (ar 0) (fun k => waitN (ar 0) k && fitN (ar 0) k p)) i none)))), (3, .inl (.int (nI i)))] []) 10 ?_ (fun i hi ih => ?_) 0 (by omega)
  · refine j_iload_n (pc := 4) hX dX3_candidate_4 rfl rfl ?_
    refine j_bipush (pc := 5) (v := 10) hX dX3_candidate_5 (by decide) ?_
    refine j_icmp_ge (pc := 7) (tgt := 64) hX dX3_candidate_7 (by decide) (fun c_7 => ?_) (fun c_7 => ?_)
    rotate_left
    · exact absurd (jge_no (a := 10) c_7 (by omega) (by omega)) (by omega)
    refine j_iload_n (pc := 64) hX dX3_candidate_64 rfl rfl ?_
    exact j_iret hX hQ hr dX3_candidate_65 ⟨_, rfl, rfl, by rfl⟩
  · refine j_iload_n (pc := 4) hX dX3_candidate_4 rfl rfl ?_
    refine j_bipush (pc := 5) (v := 10) hX dX3_candidate_5 (by decide) ?_
    refine j_icmp_ge (pc := 7) (tgt := 64) hX dX3_candidate_7 (by decide) (fun c_7 => ?_) (fun c_7 => ?_)
    · exact absurd (jge_yes (a := 10) c_7 (by omega) (by omega)) (by omega)
    first | refine j_aload_n (pc := 10) hX dX3_candidate_10 rfl rfl ?_ | refine j_aload_nq (pc := 10) hX dX3_candidate_10 rfl rfl ?_
    refine j_iload_n (pc := 11) hX dX3_candidate_11 rfl rfl ?_
    refine j_rune (pc := 12) (jr_V (pc := 12) hX kv_X3_113 (by first | assumption | exact jow.r (by assumption)) (c_X3_isWaiting _ _ _ hT hB i hi) (by decide) dX3_candidate_12 rfl rfl (Nat.le_of_ble_eq_true rfl)) ?_ jno_x
    refine j_if_eq (pc := 15) (tgt := 31) hX dX3_candidate_15 (by decide) (fun c_15 => ?_) (fun c_15 => ?_)
    · rw [jb_z] at c_15
      refine j_iconst (pc := 31) (v := 0) hX dX3_candidate_31 (by decide) ?_
      refine j_istore (pc := 32) hX dX3_candidate_32 (by decide) rfl ?_
      refine j_iload (pc := 34) hX dX3_candidate_34 rfl ?_
      refine j_if_eq (pc := 36) (tgt := 56) hX dX3_candidate_36 (by decide) (fun c_36 => ?_) (fun c_36 => ?_)
      rotate_left
      · first | exact absurd c_36 (by decide) | (change ¬ (0 : Int32) = 0 at c_36; exact absurd c_36 (by decide))
      refine j_iload_n (pc := 56) hX dX3_candidate_56 rfl rfl ?_
      refine j_istore_n (pc := 57) hX dX3_candidate_57 rfl (by decide) rfl ?_
      refine j_iincc (pc := 58) (m := 1) hX dX3_candidate_58 rfl (by decide) (by decide) rfl ?_
      refine j_goto (pc := 61) (tgt := 4) hX dX3_candidate_61 (by decide) ?_
      first | exact absurd rfl (by assumption) | exact absurd (by assumption) (by decide : ¬ (1 : Int32) = 0) | exact j_lv (by simp [jsb, jget, jval, jfold_succ, nI_1, bestF, oI, c_15]) ih
    · rw [jb_n] at c_15
      first | refine j_aload_n (pc := 18) hX dX3_candidate_18 rfl rfl ?_ | refine j_aload_nq (pc := 18) hX dX3_candidate_18 rfl rfl ?_
      refine j_iload_n (pc := 19) hX dX3_candidate_19 rfl rfl ?_
      refine j_iload_n (pc := 20) hX dX3_candidate_20 rfl rfl ?_
      refine j_rune (pc := 21) (jr_V (pc := 21) hX kv_X3_152 (by first | assumption | exact jow.r (by assumption)) (c_X3_fits _ _ _ hT hB i p hi hp) (by decide) dX3_candidate_21 rfl rfl (Nat.le_of_ble_eq_true rfl)) ?_ jno_x
      refine j_if_eq (pc := 24) (tgt := 31) hX dX3_candidate_24 (by decide) (fun c_24 => ?_) (fun c_24 => ?_)
      · rw [jb_z] at c_24
        refine j_iconst (pc := 31) (v := 0) hX dX3_candidate_31 (by decide) ?_
        refine j_istore (pc := 32) hX dX3_candidate_32 (by decide) rfl ?_
        refine j_iload (pc := 34) hX dX3_candidate_34 rfl ?_
        refine j_if_eq (pc := 36) (tgt := 56) hX dX3_candidate_36 (by decide) (fun c_36 => ?_) (fun c_36 => ?_)
        rotate_left
        · first | exact absurd c_36 (by decide) | (change ¬ (0 : Int32) = 0 at c_36; exact absurd c_36 (by decide))
        refine j_iload_n (pc := 56) hX dX3_candidate_56 rfl rfl ?_
        refine j_istore_n (pc := 57) hX dX3_candidate_57 rfl (by decide) rfl ?_
        refine j_iincc (pc := 58) (m := 1) hX dX3_candidate_58 rfl (by decide) (by decide) rfl ?_
        refine j_goto (pc := 61) (tgt := 4) hX dX3_candidate_61 (by decide) ?_
        first | exact absurd rfl (by assumption) | exact absurd (by assumption) (by decide : ¬ (1 : Int32) = 0) | exact j_lv (by simp [jsb, jget, jval, jfold_succ, nI_1, bestF, oI, c_15, c_24]) ih
      · rw [jb_n] at c_24
        refine j_iconst (pc := 27) (v := 1) hX dX3_candidate_27 (by decide) ?_
        refine j_goto (pc := 28) (tgt := 32) hX dX3_candidate_28 (by decide) ?_
        refine j_istore (pc := 32) hX dX3_candidate_32 (by decide) rfl ?_
        refine j_iload (pc := 34) hX dX3_candidate_34 rfl ?_
        refine j_if_eq (pc := 36) (tgt := 56) hX dX3_candidate_36 (by decide) (fun c_36 => ?_) (fun c_36 => ?_)
        · first | exact absurd c_36 (by decide) | (change (1 : Int32) = 0 at c_36; exact absurd c_36 (by decide))
        refine j_iload_n (pc := 39) hX dX3_candidate_39 rfl rfl ?_
        refine j_if_lt (pc := 40) (tgt := 52) hX dX3_candidate_40 (by decide) (fun c_40 => ?_) (fun c_40 => ?_)
        · have e0 : ∀ q, jfold (bestF (ar 0) (fun k => waitN (ar 0) k && fitN (ar 0) k p)) i none = some q → q < 10 := fun q e => Nat.lt_trans (bestN_i e) hi
          rw [oI_neg' e0 (by omega)] at c_40
          refine j_iload_n (pc := 52) hX dX3_candidate_52 rfl rfl ?_
          refine j_goto (pc := 53) (tgt := 57) hX dX3_candidate_53 (by decide) ?_
          refine j_istore_n (pc := 57) hX dX3_candidate_57 rfl (by decide) rfl ?_
          refine j_iincc (pc := 58) (m := 1) hX dX3_candidate_58 rfl (by decide) (by decide) rfl ?_
          refine j_goto (pc := 61) (tgt := 4) hX dX3_candidate_61 (by decide) ?_
          first | exact absurd rfl (by assumption) | exact absurd (by assumption) (by decide : ¬ (1 : Int32) = 0) | exact j_lv (by simp [jsb, jget, jval, jfold_succ, nI_1, bestF, oI, c_15, c_24, c_40]) ih
        · have e0 : ∀ q, jfold (bestF (ar 0) (fun k => waitN (ar 0) k && fitN (ar 0) k p)) i none = some q → q < 10 := fun q e => Nat.lt_trans (bestN_i e) hi
          rw [Int32.not_lt, oI_pos' e0 (by omega)] at c_40
          obtain ⟨q, c_40, hq⟩ := c_40
          first | refine j_aload_n (pc := 43) hX dX3_candidate_43 rfl rfl ?_ | refine j_aload_nq (pc := 43) hX dX3_candidate_43 rfl rfl ?_
          refine j_iload_n (pc := 44) hX dX3_candidate_44 rfl rfl ?_
          refine j_iload_n (pc := 45) hX dX3_candidate_45 rfl rfl ?_
          rw [oI_some c_40]
          refine j_rune (pc := 46) (jr_V (pc := 46) hX kv_X3_126 (by first | assumption | exact jow.r (by assumption)) (c_X3_isBetter _ _ _ hT hB i q hi hq) (by decide) dX3_candidate_46 rfl rfl (Nat.le_of_ble_eq_true rfl)) ?_ jno_x
          refine j_if_eq (pc := 49) (tgt := 56) hX dX3_candidate_49 (by decide) (fun c_49 => ?_) (fun c_49 => ?_)
          · rw [jb_z] at c_49
            refine j_iload_n (pc := 56) hX dX3_candidate_56 rfl rfl ?_
            refine j_istore_n (pc := 57) hX dX3_candidate_57 rfl (by decide) rfl ?_
            refine j_iincc (pc := 58) (m := 1) hX dX3_candidate_58 rfl (by decide) (by decide) rfl ?_
            refine j_goto (pc := 61) (tgt := 4) hX dX3_candidate_61 (by decide) ?_
            first | exact absurd rfl (by assumption) | exact absurd (by assumption) (by decide : ¬ (1 : Int32) = 0) | exact j_lv (by simp [jsb, jget, jval, jfold_succ, nI_1, bestF, oI, c_15, c_24, c_40, c_49]) ih
          · rw [jb_n] at c_49
            refine j_iload_n (pc := 52) hX dX3_candidate_52 rfl rfl ?_
            refine j_goto (pc := 53) (tgt := 57) hX dX3_candidate_53 (by decide) ?_
            refine j_istore_n (pc := 57) hX dX3_candidate_57 rfl (by decide) rfl ?_
            refine j_iincc (pc := 58) (m := 1) hX dX3_candidate_58 rfl (by decide) (by decide) rfl ?_
            refine j_goto (pc := 61) (tgt := 4) hX dX3_candidate_61 (by decide) ?_
            first | exact absurd rfl (by assumption) | exact absurd (by assumption) (by decide : ¬ (1 : Int32) = 0) | exact j_lv (by simp [jsb, jget, jval, jfold_succ, nI_1, bestF, oI, c_15, c_24, c_40, c_49]) ih
theorem c_X3_nextToHire (l : Launch) (G : JG) (H : Heap) {g : Nat → Nat} {ar : Nat → Nat → Nat} {cm fs : Nat → Int32} (hT : jtw G H g ar cm fs) (hB : Bs (ar 0)) : JMet l yX3_nextToHire (ws_ yX3_nextToHire cX3_nextToHire 4 (some .int)) 4 0 G H [.ref (g 100)] (jpe H (oI (nextN (ar 0)))) (jno) := by
  refine JMet.of [(0, .inr (some (g 100)))] (by decide) (Nat.le_of_ble_eq_true rfl) rfl (fun X hl hX hQ hEx hr hnm hH => ?_)
  subst hl
  obtain ⟨h0, ho, hs, hbf, hsv, hpa, hou, hip, hcm⟩ := id hT
  have hi2 : vp_in (2 : Int32) 93 := vp_in_nI (n := 2) (by omega) (by decide)
  obtain ⟨h2, hb, hf, hg⟩ := id hB
  refine j_iconst (pc := 0) (v := -1) hX dX3_nextToHire_0 (by decide) ?_
  refine j_istore_n (pc := 1) hX dX3_nextToHire_1 rfl (by decide) rfl ?_
  refine j_iconst (pc := 2) (v := 0) hX dX3_nextToHire_2 (by decide) ?_
  refine j_istore_n (pc := 3) hX dX3_nextToHire_3 rfl (by decide) rfl ?_
  refine jloop (P := fun i => JW X G H 0 4 [(0, .inr (some (g 100))), (1, .inl (.int (oI (jfold (bestF (ar 0) (fun k => waitN (ar 0) k && (favN (ar 0) k true).isSome)) i none)))), (2, .inl (.int (nI i)))] []) 10 ?_ (fun i hi ih => ?_) 0 (by omega)
  · refine j_iload_n (pc := 4) hX dX3_nextToHire_4 rfl rfl ?_
    refine j_bipush (pc := 5) (v := 10) hX dX3_nextToHire_5 (by decide) ?_
    refine j_icmp_ge (pc := 7) (tgt := 62) hX dX3_nextToHire_7 (by decide) (fun c_7 => ?_) (fun c_7 => ?_)
    rotate_left
    · exact absurd (jge_no (a := 10) c_7 (by omega) (by omega)) (by omega)
    refine j_iload_n (pc := 62) hX dX3_nextToHire_62 rfl rfl ?_
    exact j_iret hX hQ hr dX3_nextToHire_63 ⟨_, rfl, rfl, by rfl⟩
  · refine j_iload_n (pc := 4) hX dX3_nextToHire_4 rfl rfl ?_
    refine j_bipush (pc := 5) (v := 10) hX dX3_nextToHire_5 (by decide) ?_
    refine j_icmp_ge (pc := 7) (tgt := 62) hX dX3_nextToHire_7 (by decide) (fun c_7 => ?_) (fun c_7 => ?_)
    · exact absurd (jge_yes (a := 10) c_7 (by omega) (by omega)) (by omega)
    first | refine j_aload_n (pc := 10) hX dX3_nextToHire_10 rfl rfl ?_ | refine j_aload_nq (pc := 10) hX dX3_nextToHire_10 rfl rfl ?_
    refine j_iload_n (pc := 11) hX dX3_nextToHire_11 rfl rfl ?_
    refine j_rune (pc := 12) (jr_V (pc := 12) hX kv_X3_113 (by first | assumption | exact jow.r (by assumption)) (c_X3_isWaiting _ _ _ hT hB i hi) (by decide) dX3_nextToHire_12 rfl rfl (Nat.le_of_ble_eq_true rfl)) ?_ jno_x
    refine j_if_eq (pc := 15) (tgt := 31) hX dX3_nextToHire_15 (by decide) (fun c_15 => ?_) (fun c_15 => ?_)
    · rw [jb_z] at c_15
      refine j_iconst (pc := 31) (v := 0) hX dX3_nextToHire_31 (by decide) ?_
      refine j_istore_n (pc := 32) hX dX3_nextToHire_32 rfl (by decide) rfl ?_
      refine j_iload_n (pc := 33) hX dX3_nextToHire_33 rfl rfl ?_
      refine j_if_eq (pc := 34) (tgt := 54) hX dX3_nextToHire_34 (by decide) (fun c_34 => ?_) (fun c_34 => ?_)
      rotate_left
      · first | exact absurd c_34 (by decide) | (change ¬ (0 : Int32) = 0 at c_34; exact absurd c_34 (by decide))
      refine j_iload_n (pc := 54) hX dX3_nextToHire_54 rfl rfl ?_
      refine j_istore_n (pc := 55) hX dX3_nextToHire_55 rfl (by decide) rfl ?_
      refine j_iincc (pc := 56) (m := 1) hX dX3_nextToHire_56 rfl (by decide) (by decide) rfl ?_
      refine j_goto (pc := 59) (tgt := 4) hX dX3_nextToHire_59 (by decide) ?_
      first | exact absurd rfl (by assumption) | exact absurd (by assumption) (by decide : ¬ (1 : Int32) = 0) | exact j_lv (by simp [jsb, jget, jval, jfold_succ, nI_1, bestF, oI, c_15]) ih
    · rw [jb_n] at c_15
      first | refine j_aload_n (pc := 18) hX dX3_nextToHire_18 rfl rfl ?_ | refine j_aload_nq (pc := 18) hX dX3_nextToHire_18 rfl rfl ?_
      refine j_iload_n (pc := 19) hX dX3_nextToHire_19 rfl rfl ?_
      refine j_iconst (pc := 20) (v := 1) hX dX3_nextToHire_20 (by decide) ?_
      refine j_rune (pc := 21) (jr_V (pc := 21) hX kv_X3_158 (by first | assumption | exact jow.r (by assumption)) (c_X3_favourite _ _ _ hT hB i true hi) (by decide) dX3_nextToHire_21 rfl rfl (Nat.le_of_ble_eq_true rfl)) ?_ jno_x
      refine j_if_lt (pc := 24) (tgt := 31) hX dX3_nextToHire_24 (by decide) (fun c_24 => ?_) (fun c_24 => ?_)
      · rw [oI_neg' (fun _ => favN_lt) (by omega)] at c_24
        refine j_iconst (pc := 31) (v := 0) hX dX3_nextToHire_31 (by decide) ?_
        refine j_istore_n (pc := 32) hX dX3_nextToHire_32 rfl (by decide) rfl ?_
        refine j_iload_n (pc := 33) hX dX3_nextToHire_33 rfl rfl ?_
        refine j_if_eq (pc := 34) (tgt := 54) hX dX3_nextToHire_34 (by decide) (fun c_34 => ?_) (fun c_34 => ?_)
        rotate_left
        · first | exact absurd c_34 (by decide) | (change ¬ (0 : Int32) = 0 at c_34; exact absurd c_34 (by decide))
        refine j_iload_n (pc := 54) hX dX3_nextToHire_54 rfl rfl ?_
        refine j_istore_n (pc := 55) hX dX3_nextToHire_55 rfl (by decide) rfl ?_
        refine j_iincc (pc := 56) (m := 1) hX dX3_nextToHire_56 rfl (by decide) (by decide) rfl ?_
        refine j_goto (pc := 59) (tgt := 4) hX dX3_nextToHire_59 (by decide) ?_
        first | exact absurd rfl (by assumption) | exact absurd (by assumption) (by decide : ¬ (1 : Int32) = 0) | exact j_lv (by simp [jsb, jget, jval, jfold_succ, nI_1, bestF, oI, c_15, c_24]) ih
      · rw [Int32.not_lt, oI_pos' (fun _ => favN_lt) (by omega)] at c_24
        obtain ⟨f, c_24, -⟩ := c_24
        refine j_iconst (pc := 27) (v := 1) hX dX3_nextToHire_27 (by decide) ?_
        refine j_goto (pc := 28) (tgt := 32) hX dX3_nextToHire_28 (by decide) ?_
        refine j_istore_n (pc := 32) hX dX3_nextToHire_32 rfl (by decide) rfl ?_
        refine j_iload_n (pc := 33) hX dX3_nextToHire_33 rfl rfl ?_
        refine j_if_eq (pc := 34) (tgt := 54) hX dX3_nextToHire_34 (by decide) (fun c_34 => ?_) (fun c_34 => ?_)
        · first | exact absurd c_34 (by decide) | (change (1 : Int32) = 0 at c_34; exact absurd c_34 (by decide))
        refine j_iload_n (pc := 37) hX dX3_nextToHire_37 rfl rfl ?_
        refine j_if_lt (pc := 38) (tgt := 50) hX dX3_nextToHire_38 (by decide) (fun c_38 => ?_) (fun c_38 => ?_)
        · have e0 : ∀ q, jfold (bestF (ar 0) (fun k => waitN (ar 0) k && (favN (ar 0) k true).isSome)) i none = some q → q < 10 := fun q e => Nat.lt_trans (bestN_i e) hi
          rw [oI_neg' e0 (by omega)] at c_38
          refine j_iload_n (pc := 50) hX dX3_nextToHire_50 rfl rfl ?_
          refine j_goto (pc := 51) (tgt := 55) hX dX3_nextToHire_51 (by decide) ?_
          refine j_istore_n (pc := 55) hX dX3_nextToHire_55 rfl (by decide) rfl ?_
          refine j_iincc (pc := 56) (m := 1) hX dX3_nextToHire_56 rfl (by decide) (by decide) rfl ?_
          refine j_goto (pc := 59) (tgt := 4) hX dX3_nextToHire_59 (by decide) ?_
          first | exact absurd rfl (by assumption) | exact absurd (by assumption) (by decide : ¬ (1 : Int32) = 0) | exact j_lv (by simp [jsb, jget, jval, jfold_succ, nI_1, bestF, oI, c_15, c_24, c_38]) ih
        · have e0 : ∀ q, jfold (bestF (ar 0) (fun k => waitN (ar 0) k && (favN (ar 0) k true).isSome)) i none = some q → q < 10 := fun q e => Nat.lt_trans (bestN_i e) hi
          rw [Int32.not_lt, oI_pos' e0 (by omega)] at c_38
          obtain ⟨q, c_38, hq⟩ := c_38
          first | refine j_aload_n (pc := 41) hX dX3_nextToHire_41 rfl rfl ?_ | refine j_aload_nq (pc := 41) hX dX3_nextToHire_41 rfl rfl ?_
          refine j_iload_n (pc := 42) hX dX3_nextToHire_42 rfl rfl ?_
          refine j_iload_n (pc := 43) hX dX3_nextToHire_43 rfl rfl ?_
          rw [oI_some c_38]
          refine j_rune (pc := 44) (jr_V (pc := 44) hX kv_X3_126 (by first | assumption | exact jow.r (by assumption)) (c_X3_isBetter _ _ _ hT hB i q hi hq) (by decide) dX3_nextToHire_44 rfl rfl (Nat.le_of_ble_eq_true rfl)) ?_ jno_x
          refine j_if_eq (pc := 47) (tgt := 54) hX dX3_nextToHire_47 (by decide) (fun c_47 => ?_) (fun c_47 => ?_)
          · rw [jb_z] at c_47
            refine j_iload_n (pc := 54) hX dX3_nextToHire_54 rfl rfl ?_
            refine j_istore_n (pc := 55) hX dX3_nextToHire_55 rfl (by decide) rfl ?_
            refine j_iincc (pc := 56) (m := 1) hX dX3_nextToHire_56 rfl (by decide) (by decide) rfl ?_
            refine j_goto (pc := 59) (tgt := 4) hX dX3_nextToHire_59 (by decide) ?_
            first | exact absurd rfl (by assumption) | exact absurd (by assumption) (by decide : ¬ (1 : Int32) = 0) | exact j_lv (by simp [jsb, jget, jval, jfold_succ, nI_1, bestF, oI, c_15, c_24, c_38, c_47]) ih
          · rw [jb_n] at c_47
            refine j_iload_n (pc := 50) hX dX3_nextToHire_50 rfl rfl ?_
            refine j_goto (pc := 51) (tgt := 55) hX dX3_nextToHire_51 (by decide) ?_
            refine j_istore_n (pc := 55) hX dX3_nextToHire_55 rfl (by decide) rfl ?_
            refine j_iincc (pc := 56) (m := 1) hX dX3_nextToHire_56 rfl (by decide) (by decide) rfl ?_
            refine j_goto (pc := 59) (tgt := 4) hX dX3_nextToHire_59 (by decide) ?_
            first | exact absurd rfl (by assumption) | exact absurd (by assumption) (by decide : ¬ (1 : Int32) = 0) | exact j_lv (by simp [jsb, jget, jval, jfold_succ, nI_1, bestF, oI, c_15, c_24, c_38, c_47]) ih
def givN (s : Nat → Nat) (x y : Int32) : Bool := match slotN s x, slotN s y with | some a, some b => (aGv s b).testBit a | _, _ => false
theorem c_X3_isGiven (l : Launch) (G : JG) (H : Heap) {g : Nat → Nat} {ar : Nat → Nat → Nat} {cm fs : Nat → Int32} (hT : jtw G H g ar cm fs) (hB : Bs (ar 0)) (x y : Int32) : JMet l yX3_isGiven (ws_ yX3_isGiven cX3_isGiven 5 (some .boolean)) 3 0 G H [.ref (g 100), .int x, .int y] (jpe H (jb (givN (ar 0) x y))) (jno) := by
  refine JMet.of [(0, .inr (some (g 100))), (1, .inl (.int x)), (2, .inl (.int y))] (by decide) (Nat.le_of_ble_eq_true rfl) rfl (fun X hl hX hQ hEx hr hnm hH => ?_)
  subst hl
  obtain ⟨h0, ho, hs, hbf, hsv, hpa, hou, hip, hcm⟩ := id hT
  have hi2 : vp_in (2 : Int32) 93 := vp_in_nI (n := 2) (by omega) (by decide)
  obtain ⟨h2, hb, hf, hg⟩ := id hB
  first | refine j_aload_n (pc := 0) hX dX3_isGiven_0 rfl rfl ?_ | refine j_aload_nq (pc := 0) hX dX3_isGiven_0 rfl rfl ?_
  refine j_iload_n (pc := 1) hX dX3_isGiven_1 rfl rfl ?_
  refine j_rune (pc := 2) (jr_V (pc := 2) hX kv_X3_103 (by first | assumption | exact jow.r (by assumption)) (c_X3_slotOf _ _ _ hT x) (by decide) dX3_isGiven_2 rfl rfl (Nat.le_of_ble_eq_true rfl)) ?_ jno_x
  refine j_istore_n (pc := 5) hX dX3_isGiven_5 rfl (by decide) rfl ?_
  first | refine j_aload_n (pc := 6) hX dX3_isGiven_6 rfl rfl ?_ | refine j_aload_nq (pc := 6) hX dX3_isGiven_6 rfl rfl ?_
  refine j_iload_n (pc := 7) hX dX3_isGiven_7 rfl rfl ?_
  refine j_rune (pc := 8) (jr_V (pc := 8) hX kv_X3_103 (by first | assumption | exact jow.r (by assumption)) (c_X3_slotOf _ _ _ hT y) (by decide) dX3_isGiven_8 rfl rfl (Nat.le_of_ble_eq_true rfl)) ?_ jno_x
  refine j_istore (pc := 11) hX dX3_isGiven_11 (by decide) rfl ?_
  refine j_iload_n (pc := 13) hX dX3_isGiven_13 rfl rfl ?_
  refine j_if_lt (pc := 14) (tgt := 41) hX dX3_isGiven_14 (by decide) (fun c_14 => ?_) (fun c_14 => ?_)
  · rw [oI_neg' (fun _ => slotN_lt) (by omega)] at c_14
    refine j_iconst (pc := 41) (v := 0) hX dX3_isGiven_41 (by decide) ?_
    exact j_zret hX hQ hr (by first | rfl | exact jb_nar _ | exact nI_narC _ | assumption) dX3_isGiven_42 ⟨_, rfl, rfl, by simp_all [givN, jb, aGv]⟩
  · rw [Int32.not_lt, oI_pos' (fun _ => slotN_lt) (by omega)] at c_14
    obtain ⟨a, c_14, ha⟩ := c_14
    refine j_iload (pc := 17) hX dX3_isGiven_17 rfl ?_
    refine j_if_lt (pc := 19) (tgt := 41) hX dX3_isGiven_19 (by decide) (fun c_19 => ?_) (fun c_19 => ?_)
    · rw [oI_neg' (fun _ => slotN_lt) (by omega)] at c_19
      refine j_iconst (pc := 41) (v := 0) hX dX3_isGiven_41 (by decide) ?_
      exact j_zret hX hQ hr (by first | rfl | exact jb_nar _ | exact nI_narC _ | assumption) dX3_isGiven_42 ⟨_, rfl, rfl, by simp_all [givN, jb, aGv]⟩
    · rw [Int32.not_lt, oI_pos' (fun _ => slotN_lt) (by omega)] at c_19
      obtain ⟨b, c_19, hb'⟩ := c_19
      first | refine j_aload_n (pc := 22) hX dX3_isGiven_22 rfl rfl ?_ | refine j_aload_nq (pc := 22) hX dX3_isGiven_22 rfl rfl ?_
      refine j_iload (pc := 23) hX dX3_isGiven_23 rfl ?_
      refine j_iconst (pc := 25) (v := 5) hX dX3_isGiven_25 (by decide) ?_
      rw [oI_some c_19]
      refine j_rune (pc := 26) (jr_V (pc := 26) hX kv_X3_55 (by first | assumption | exact jow.r (by assumption)) (c_X3_of _ _ _ hT b 5 hb' (by omega)) (by decide) dX3_isGiven_26 rfl rfl (Nat.le_of_ble_eq_true rfl)) ?_ jno_x
      refine j_iload_n (pc := 29) hX dX3_isGiven_29 rfl rfl ?_
      rw [oI_some c_14]
      refine j_ishr (pc := 30) hX dX3_isGiven_30 ?_
      refine j_iconst (pc := 31) (v := 1) hX dX3_isGiven_31 (by decide) ?_
      refine j_iand (pc := 32) hX dX3_isGiven_32 ?_
      rw [nI_bit (bsL hb (by omega)) (by omega)]
      refine j_iconst (pc := 33) (v := 1) hX dX3_isGiven_33 (by decide) ?_
      refine j_icmp_ne (pc := 34) (tgt := 41) hX dX3_isGiven_34 (by decide) (fun c_34 => ?_) (fun c_34 => ?_)
      · rw [show (1 : Int32) = nI 1 from rfl, nI_eq (by split <;> omega) (by omega)] at c_34
        refine j_iconst (pc := 41) (v := 0) hX dX3_isGiven_41 (by decide) ?_
        exact j_zret hX hQ hr (by first | rfl | exact jb_nar _ | exact nI_narC _ | assumption) dX3_isGiven_42 ⟨_, rfl, rfl, by simp_all [givN, jb, aGv]⟩
      · rw [show (1 : Int32) = nI 1 from rfl, nI_eq (by split <;> omega) (by omega)] at c_34
        refine j_iconst (pc := 37) (v := 1) hX dX3_isGiven_37 (by decide) ?_
        refine j_goto (pc := 38) (tgt := 42) hX dX3_isGiven_38 (by decide) ?_
        exact j_zret hX hQ hr (by first | rfl | exact jb_nar _ | exact nI_narC _ | assumption) dX3_isGiven_42 ⟨_, rfl, rfl, by simp_all [givN, jb, aGv]⟩
def blkN (s : Nat → Nat) (k p : Nat) : Bool := fitN s k p && !(fillN s k == some p) && (match fillN s k with | none => true | some q => preN s p q) && (decide (pFl s p = 0) || betN s k (pFl s p - 1))
theorem c_X3_isBlocking (l : Launch) (G : JG) (H : Heap) {g : Nat → Nat} {ar : Nat → Nat → Nat} {cm fs : Nat → Int32} (hT : jtw G H g ar cm fs) (hB : Bs (ar 0)) (k p : Nat) (hk : k < 10) (hp : p < 6) : JMet l yX3_isBlocking (ws_ yX3_isBlocking cX3_isBlocking 5 (some .boolean)) 4 0 G H [.ref (g 100), .int (nI k), .int (nI p)] (jpe H (jb (blkN (ar 0) k p))) (jno) := by
  refine JMet.of [(0, .inr (some (g 100))), (1, .inl (.int (nI k))), (2, .inl (.int (nI p)))] (by decide) (Nat.le_of_ble_eq_true rfl) rfl (fun X hl hX hQ hEx hr hnm hH => ?_)
  subst hl
  obtain ⟨h0, ho, hs, hbf, hsv, hpa, hou, hip, hcm⟩ := id hT
  have hi2 : vp_in (2 : Int32) 93 := vp_in_nI (n := 2) (by omega) (by decide)
  obtain ⟨h2, hb, hf, hg⟩ := id hB
  have i1 := hf p hp
  first | refine j_aload_n (pc := 0) hX dX3_isBlocking_0 rfl rfl ?_ | refine j_aload_nq (pc := 0) hX dX3_isBlocking_0 rfl rfl ?_
  refine j_iload_n (pc := 1) hX dX3_isBlocking_1 rfl rfl ?_
  refine j_rune (pc := 2) (jr_V (pc := 2) hX kv_X3_66 (by first | assumption | exact jow.r (by assumption)) (c_X3_filledWith _ _ _ hT hB k hk) (by decide) dX3_isBlocking_2 rfl rfl (Nat.le_of_ble_eq_true rfl)) ?_ jno_x
  refine j_istore_n (pc := 5) hX dX3_isBlocking_5 rfl (by decide) rfl ?_
  first | refine j_aload_n (pc := 6) hX dX3_isBlocking_6 rfl rfl ?_ | refine j_aload_nq (pc := 6) hX dX3_isBlocking_6 rfl rfl ?_
  refine j_iload_n (pc := 7) hX dX3_isBlocking_7 rfl rfl ?_
  refine j_iconst (pc := 8) (v := 4) hX dX3_isBlocking_8 (by decide) ?_
  refine j_rune (pc := 9) (jr_V (pc := 9) hX kv_X3_59 (by first | assumption | exact jow.r (by assumption)) (c_X3_ofPost _ _ _ hT p 4 hp (by omega)) (by decide) dX3_isBlocking_9 rfl rfl (Nat.le_of_ble_eq_true rfl)) ?_ jno_x
  refine j_iconst (pc := 12) (v := 1) hX dX3_isBlocking_12 (by decide) ?_
  refine j_isub (pc := 13) hX dX3_isBlocking_13 ?_
  refine j_istore (pc := 14) hX dX3_isBlocking_14 (by decide) rfl ?_
  first | refine j_aload_n (pc := 16) hX dX3_isBlocking_16 rfl rfl ?_ | refine j_aload_nq (pc := 16) hX dX3_isBlocking_16 rfl rfl ?_
  refine j_iload_n (pc := 17) hX dX3_isBlocking_17 rfl rfl ?_
  refine j_iload_n (pc := 18) hX dX3_isBlocking_18 rfl rfl ?_
  refine j_rune (pc := 19) (jr_V (pc := 19) hX kv_X3_152 (by first | assumption | exact jow.r (by assumption)) (c_X3_fits _ _ _ hT hB k p hk hp) (by decide) dX3_isBlocking_19 rfl rfl (Nat.le_of_ble_eq_true rfl)) ?_ jno_x
  refine j_if_eq (pc := 22) (tgt := 62) hX dX3_isBlocking_22 (by decide) (fun c_22 => ?_) (fun c_22 => ?_)
  · rw [jb_z] at c_22
    refine j_iconst (pc := 62) (v := 0) hX dX3_isBlocking_62 (by decide) ?_
    exact j_zret hX hQ hr (by first | rfl | exact jb_nar _ | exact nI_narC _ | assumption) dX3_isBlocking_63 ⟨_, rfl, rfl, by unfold blkN; (first | refine jb_one ?_ | refine jb_zero ?_) <;> simp_all <;> omega⟩
  · rw [jb_n] at c_22
    refine j_iload_n (pc := 25) hX dX3_isBlocking_25 rfl rfl ?_
    refine j_iload_n (pc := 26) hX dX3_isBlocking_26 rfl rfl ?_
    refine j_icmp_eq (pc := 27) (tgt := 62) hX dX3_isBlocking_27 (by decide) (fun c_27 => ?_) (fun c_27 => ?_)
    · rw [oI_eq (fun _ => fillN_lt) (by omega) (by omega)] at c_27
      refine j_iconst (pc := 62) (v := 0) hX dX3_isBlocking_62 (by decide) ?_
      exact j_zret hX hQ hr (by first | rfl | exact jb_nar _ | exact nI_narC _ | assumption) dX3_isBlocking_63 ⟨_, rfl, rfl, by unfold blkN; (first | refine jb_one ?_ | refine jb_zero ?_) <;> simp_all <;> omega⟩
    · rw [oI_eq (fun _ => fillN_lt) (by omega) (by omega)] at c_27
      refine j_iload_n (pc := 30) hX dX3_isBlocking_30 rfl rfl ?_
      refine j_if_lt (pc := 31) (tgt := 43) hX dX3_isBlocking_31 (by decide) (fun c_31 => ?_) (fun c_31 => ?_)
      · rw [oI_neg' (fun _ => fillN_lt) (by omega)] at c_31
        refine j_iload (pc := 43) hX dX3_isBlocking_43 rfl ?_
        refine j_if_lt (pc := 45) (tgt := 58) hX dX3_isBlocking_45 (by decide) (fun c_45 => ?_) (fun c_45 => ?_)
        · have c_45' : pFl (ar 0) p = 0 := by rcases Nat.eq_zero_or_pos (pFl (ar 0) p) with e | e; exact e; exact absurd c_45 (by rw [show ar 0 (63 + 5 * p + 4) = (pFl (ar 0) p - 1) + 1 from (Nat.sub_add_cancel e).symm, nI_pred]; exact nI_pos (by omega))
          refine j_iconst (pc := 58) (v := 1) hX dX3_isBlocking_58 (by decide) ?_
          refine j_goto (pc := 59) (tgt := 63) hX dX3_isBlocking_59 (by decide) ?_
          exact j_zret hX hQ hr (by first | rfl | exact jb_nar _ | exact nI_narC _ | assumption) dX3_isBlocking_63 ⟨_, rfl, rfl, by unfold blkN; (first | refine jb_one ?_ | refine jb_zero ?_) <;> simp_all <;> omega⟩
        · have c_45'' : 0 < pFl (ar 0) p := by rcases Nat.eq_zero_or_pos (pFl (ar 0) p) with e | e; exact absurd (by rw [show ar 0 (63 + 5 * p + 4) = 0 from e]; decide) c_45; exact e
          have c_45' : nI (ar 0 (63 + 5 * p + 4)) - 1 = nI (pFl (ar 0) p - 1) := by rw [show ar 0 (63 + 5 * p + 4) = (pFl (ar 0) p - 1) + 1 from (Nat.sub_add_cancel c_45'').symm, nI_pred]
          first | refine j_aload_n (pc := 48) hX dX3_isBlocking_48 rfl rfl ?_ | refine j_aload_nq (pc := 48) hX dX3_isBlocking_48 rfl rfl ?_
          refine j_iload_n (pc := 49) hX dX3_isBlocking_49 rfl rfl ?_
          refine j_iload (pc := 50) hX dX3_isBlocking_50 rfl ?_
          rw [c_45']
          refine j_rune (pc := 52) (jr_V (pc := 52) hX kv_X3_126 (by first | assumption | exact jow.r (by assumption)) (c_X3_isBetter _ _ _ hT hB k (pFl (ar 0) p - 1) hk (by omega)) (by decide) dX3_isBlocking_52 rfl rfl (Nat.le_of_ble_eq_true rfl)) ?_ jno_x
          refine j_if_eq (pc := 55) (tgt := 62) hX dX3_isBlocking_55 (by decide) (fun c_55 => ?_) (fun c_55 => ?_)
          · rw [jb_z] at c_55
            refine j_iconst (pc := 62) (v := 0) hX dX3_isBlocking_62 (by decide) ?_
            exact j_zret hX hQ hr (by first | rfl | exact jb_nar _ | exact nI_narC _ | assumption) dX3_isBlocking_63 ⟨_, rfl, rfl, by unfold blkN; (first | refine jb_one ?_ | refine jb_zero ?_) <;> simp_all <;> omega⟩
          · rw [jb_n] at c_55
            refine j_iconst (pc := 58) (v := 1) hX dX3_isBlocking_58 (by decide) ?_
            refine j_goto (pc := 59) (tgt := 63) hX dX3_isBlocking_59 (by decide) ?_
            exact j_zret hX hQ hr (by first | rfl | exact jb_nar _ | exact nI_narC _ | assumption) dX3_isBlocking_63 ⟨_, rfl, rfl, by unfold blkN; (first | refine jb_one ?_ | refine jb_zero ?_) <;> simp_all <;> omega⟩
      · rw [Int32.not_lt, oI_pos' (fun _ => fillN_lt) (by omega)] at c_31
        obtain ⟨q, c_31, hq⟩ := c_31
        first | refine j_aload_n (pc := 34) hX dX3_isBlocking_34 rfl rfl ?_ | refine j_aload_nq (pc := 34) hX dX3_isBlocking_34 rfl rfl ?_
        refine j_iload_n (pc := 35) hX dX3_isBlocking_35 rfl rfl ?_
        refine j_iload_n (pc := 36) hX dX3_isBlocking_36 rfl rfl ?_
        rw [oI_some c_31]
        refine j_rune (pc := 37) (jr_V (pc := 37) hX kv_X3_155 (by first | assumption | exact jow.r (by assumption)) (c_X3_isPreferred _ _ _ hT hB p q hp (by omega)) (by decide) dX3_isBlocking_37 rfl rfl (Nat.le_of_ble_eq_true rfl)) ?_ jno_x
        refine j_if_eq (pc := 40) (tgt := 62) hX dX3_isBlocking_40 (by decide) (fun c_40 => ?_) (fun c_40 => ?_)
        · rw [jb_z] at c_40
          refine j_iconst (pc := 62) (v := 0) hX dX3_isBlocking_62 (by decide) ?_
          exact j_zret hX hQ hr (by first | rfl | exact jb_nar _ | exact nI_narC _ | assumption) dX3_isBlocking_63 ⟨_, rfl, rfl, by unfold blkN; (first | refine jb_one ?_ | refine jb_zero ?_) <;> simp_all <;> omega⟩
        · rw [jb_n] at c_40
          refine j_iload (pc := 43) hX dX3_isBlocking_43 rfl ?_
          refine j_if_lt (pc := 45) (tgt := 58) hX dX3_isBlocking_45 (by decide) (fun c_45 => ?_) (fun c_45 => ?_)
          · have c_45' : pFl (ar 0) p = 0 := by rcases Nat.eq_zero_or_pos (pFl (ar 0) p) with e | e; exact e; exact absurd c_45 (by rw [show ar 0 (63 + 5 * p + 4) = (pFl (ar 0) p - 1) + 1 from (Nat.sub_add_cancel e).symm, nI_pred]; exact nI_pos (by omega))
            refine j_iconst (pc := 58) (v := 1) hX dX3_isBlocking_58 (by decide) ?_
            refine j_goto (pc := 59) (tgt := 63) hX dX3_isBlocking_59 (by decide) ?_
            exact j_zret hX hQ hr (by first | rfl | exact jb_nar _ | exact nI_narC _ | assumption) dX3_isBlocking_63 ⟨_, rfl, rfl, by unfold blkN; (first | refine jb_one ?_ | refine jb_zero ?_) <;> simp_all <;> omega⟩
          · have c_45'' : 0 < pFl (ar 0) p := by rcases Nat.eq_zero_or_pos (pFl (ar 0) p) with e | e; exact absurd (by rw [show ar 0 (63 + 5 * p + 4) = 0 from e]; decide) c_45; exact e
            have c_45' : nI (ar 0 (63 + 5 * p + 4)) - 1 = nI (pFl (ar 0) p - 1) := by rw [show ar 0 (63 + 5 * p + 4) = (pFl (ar 0) p - 1) + 1 from (Nat.sub_add_cancel c_45'').symm, nI_pred]
            first | refine j_aload_n (pc := 48) hX dX3_isBlocking_48 rfl rfl ?_ | refine j_aload_nq (pc := 48) hX dX3_isBlocking_48 rfl rfl ?_
            refine j_iload_n (pc := 49) hX dX3_isBlocking_49 rfl rfl ?_
            refine j_iload (pc := 50) hX dX3_isBlocking_50 rfl ?_
            rw [c_45']
            refine j_rune (pc := 52) (jr_V (pc := 52) hX kv_X3_126 (by first | assumption | exact jow.r (by assumption)) (c_X3_isBetter _ _ _ hT hB k (pFl (ar 0) p - 1) hk (by omega)) (by decide) dX3_isBlocking_52 rfl rfl (Nat.le_of_ble_eq_true rfl)) ?_ jno_x
            refine j_if_eq (pc := 55) (tgt := 62) hX dX3_isBlocking_55 (by decide) (fun c_55 => ?_) (fun c_55 => ?_)
            · rw [jb_z] at c_55
              refine j_iconst (pc := 62) (v := 0) hX dX3_isBlocking_62 (by decide) ?_
              exact j_zret hX hQ hr (by first | rfl | exact jb_nar _ | exact nI_narC _ | assumption) dX3_isBlocking_63 ⟨_, rfl, rfl, by unfold blkN; (first | refine jb_one ?_ | refine jb_zero ?_) <;> simp_all <;> omega⟩
            · rw [jb_n] at c_55
              refine j_iconst (pc := 58) (v := 1) hX dX3_isBlocking_58 (by decide) ?_
              refine j_goto (pc := 59) (tgt := 63) hX dX3_isBlocking_59 (by decide) ?_
              exact j_zret hX hQ hr (by first | rfl | exact jb_nar _ | exact nI_narC _ | assumption) dX3_isBlocking_63 ⟨_, rfl, rfl, by unfold blkN; (first | refine jb_one ?_ | refine jb_zero ?_) <;> simp_all <;> omega⟩
