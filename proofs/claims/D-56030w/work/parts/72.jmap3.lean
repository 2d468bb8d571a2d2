/-! the map: getNode, get, containsKey -/
set_option maxRecDepth 100000
theorem c_J6e (l : Launch) (G : JG) (H : Heap) (q q2 : Nat) {x y : Int32 × Int32} (h : kA kdR G H q x) (h2 : kA kdR G H q2 y) : JMet l yX6_equals (ws_ yX6_equals cX6_equals 3 (some .boolean)) 1 0 G H [.ref q, .ref q2] (jpe H (jb (decide (x = y)))) jno := by
  have e : decide (x = y) = (decide (x.1 = y.1) && decide (x.2 = y.2)) := by rw [← Bool.decide_and]; exact decide_eq_decide.mpr Prod.ext_iff
  rw [e]; exact c_X6_equals l G H q q2 h h2
theorem c_J1_hkI (l : Launch) (G : JG) (H : Heap) (q : Nat) {k : Int32} (h : kA kdI G H q k) : JMet l yJ1_hash (ws_ yJ1_hash cJ1_hash 2 (some .int)) 3 0 G H [.ref q] (jpe H (hK kdI k)) jno := c_J1_hashI l G H q h
theorem c_J1_hkR (l : Launch) (G : JG) (H : Heap) (q : Nat) {k : Int32 × Int32} (h : kA kdR G H q k) : JMet l yJ1_hash (ws_ yJ1_hash cJ1_hash 2 (some .int)) 3 0 G H [.ref q] (jpe H (hK kdR k)) jno := c_J1_hashR l G H q h
theorem c_J1_getNodeI (l : Launch) (G : JG) (H : Heap) (q kq : Nat) (k : Int32) {tab : Option Nat} {cap sz : Nat} {mc : Int32} {B : Nat → List (ND (Int32))} (h : hmA kdI G H q tab cap sz mc B) (hk : kA kdI G H kq k) : JMet l yJ1_getNode (ws_ yJ1_getNode cJ1_getNode 8 (some (.object "java/util/HashMap$Node"))) 4 0 G H [.ref q, .ref kq] (jpqe H (if tab = none then none else getN k (B (ixN cap (hK kdI k))))) (jno) := by
  refine JMet.of [(0, .inr (some q)), (1, .inr (some kq))] (by decide) (Nat.le_of_ble_eq_true rfl) rfl (fun X hl hX hQ hEx hr hnm hH => ?_)
  subst hl
  obtain ⟨hq, hsz, ho, hnone, htab⟩ := h
  cases tab with
  | none =>
    first | refine j_aload_n (pc := 0) hX dJ1_getNode_0 rfl rfl ?_ | refine j_aload_nq (pc := 0) hX dJ1_getNode_0 rfl rfl ?_
    refine j_get (pc := 1) hX kg_J1_105 dJ1_getNode_1 (by first | assumption | exact jow.r (by assumption)) (by rfl) ?_
    refine j_dup (pc := 4) hX dJ1_getNode_4 (by first | rfl | exact jrf_cat _) ?_
    first | refine j_astore_n (pc := 5) hX dJ1_getNode_5 rfl (by decide) rfl ?_ | refine j_astore_nN (pc := 5) hX dJ1_getNode_5 rfl (by decide) rfl ?_ | refine j_astore_nq (pc := 5) hX dJ1_getNode_5 rfl (by decide) rfl ?_
    refine j_ifnullN (pc := 6) (tgt := 148) hX dJ1_getNode_6 (by decide) ?_
    refine j_null (pc := 148) hX dJ1_getNode_148 ?_
    first | exact j_aret hX hQ hr (by first | exact Or.inl ⟨_, rfl⟩ | exact Or.inr ⟨_, rfl⟩) dJ1_getNode_149 ⟨none, rfl, rfl, rfl⟩ | exact j_aretN hX hQ hr (by first | exact Or.inl ⟨_, rfl⟩ | exact Or.inr ⟨_, rfl⟩) dJ1_getNode_149 ⟨none, rfl, rfl, rfl⟩ | exact j_aretq hX hQ hr (by first | exact Or.inl ⟨_, rfl⟩ | exact Or.inr ⟨_, rfl⟩) dJ1_getNode_149 ⟨none, rfl, rfl, rfl⟩
  | some t =>
    obtain ⟨hcap, ht, ha, hch, -, -⟩ := htab t rfl
    have hlt := ix_lt hcap (hK kdI k)
    have hin : vp_in (nI (ixN cap (hK kdI k))) cap := vp_in_nI hlt (by omega)
    have hc := hch _ hlt
    rw [if_neg (by simp)] at hQ
    obtain ⟨L, hL⟩ : ∃ L, L = B (ixN cap (hK kdI k)) := ⟨_, rfl⟩
    rw [← hL] at hQ hc
    first | refine j_aload_n (pc := 0) hX dJ1_getNode_0 rfl rfl ?_ | refine j_aload_nq (pc := 0) hX dJ1_getNode_0 rfl rfl ?_
    refine j_get (pc := 1) hX kg_J1_105 dJ1_getNode_1 (by first | assumption | exact jow.r (by assumption)) (by rfl) ?_
    refine j_dup (pc := 4) hX dJ1_getNode_4 (by first | rfl | exact jrf_cat _) ?_
    first | refine j_astore_n (pc := 5) hX dJ1_getNode_5 rfl (by decide) rfl ?_ | refine j_astore_nN (pc := 5) hX dJ1_getNode_5 rfl (by decide) rfl ?_ | refine j_astore_nq (pc := 5) hX dJ1_getNode_5 rfl (by decide) rfl ?_
    refine j_ifnull (pc := 6) hX dJ1_getNode_6 ?_
    first | refine j_aload_n (pc := 9) hX dJ1_getNode_9 rfl rfl ?_ | refine j_aload_nq (pc := 9) hX dJ1_getNode_9 rfl rfl ?_
    refine j_alen (pc := 10) hX dJ1_getNode_10 (jaw.r (t := 8) hX (by decide) ha) ?_
    refine j_dup (pc := 11) hX dJ1_getNode_11 (by first | rfl | exact jrf_cat _) ?_
    refine j_istore (pc := 12) hX dJ1_getNode_12 (by decide) rfl ?_
    refine j_if_le (pc := 14) (tgt := 148) hX dJ1_getNode_14 (by decide) (fun c_14 => ?_) (fun c_14 => ?_)
    · exact absurd c_14 (nI_nle (show 0 < cap by omega) (by omega))
    first | refine j_aload_n (pc := 17) hX dJ1_getNode_17 rfl rfl ?_ | refine j_aload_nq (pc := 17) hX dJ1_getNode_17 rfl rfl ?_
    refine j_iload (pc := 18) hX dJ1_getNode_18 rfl ?_
    refine j_iconst (pc := 20) (v := 1) hX dJ1_getNode_20 (by decide) ?_
    refine j_isub (pc := 21) hX dJ1_getNode_21 ?_
    first | refine j_aload_n (pc := 22) hX dJ1_getNode_22 rfl rfl ?_ | refine j_aload_nq (pc := 22) hX dJ1_getNode_22 rfl rfl ?_
    refine j_rune (pc := 23) (jr_S (pc := 23) hX ks_J1_149 (c_J1_hkI _ _ _ kq hk) (by decide) dJ1_getNode_23 rfl rfl (Nat.le_of_ble_eq_true rfl)) ?_ jno_x
    refine j_dup (pc := 26) hX dJ1_getNode_26 (by first | rfl | exact jrf_cat _) ?_
    refine j_istore (pc := 27) hX dJ1_getNode_27 (by decide) rfl ?_
    refine j_iand (pc := 29) hX dJ1_getNode_29 ?_
    skip
    rw [show (Int32.ofNat cap - 1) &&& hK kdI k = nI (ixN cap (hK kdI k)) from ix_and hcap _]
    refine j_aald (pc := 30) hX (t := 8) (by decide) dJ1_getNode_30 (jaw.r (t := 8) hX (by decide) ha) hin ?_
    rw [nI_clamp (by omega)]
    rw [← hL]
    have loop : ∀ (t' : List (ND (Int32))) (n' : ND (Int32)), chE kdI G H none (n' :: t') → getN k L = getN k (n' :: t') → JW X G H 0 99 [(0, .inr (some q)), (1, .inr (some kq)), (4, .inr (some n'.1)), (6, .inl (.int (hK kdI k)))] [] := by
      intro t'
      induction t' with
      | nil =>
        intro n' hn he
        obtain ⟨hno, hng, hnk, hnt⟩ := id hn
        have nx : ¬ n'.2.1 = k → JW X G H 0 137 [(0, .inr (some q)), (1, .inr (some kq)), (4, .inr (some n'.1)), (6, .inl (.int (hK kdI k)))] [] := by
          intro hne
          rw [getN_no hne] at he
          first | refine j_aload (pc := 137) hX dJ1_getNode_137 rfl ?_ | refine j_aloadq (pc := 137) hX dJ1_getNode_137 rfl ?_
          refine j_get (pc := 139) hX kg_J1_177 dJ1_getNode_139 (by first | assumption | exact jow.r (by assumption)) (by rfl) ?_
          refine j_dup (pc := 142) hX dJ1_getNode_142 (by first | rfl | exact jrf_cat _) ?_
          first | refine j_astore (pc := 143) hX dJ1_getNode_143 (by decide) rfl ?_ | refine j_astoreN (pc := 143) hX dJ1_getNode_143 (by decide) rfl ?_ | refine j_astoreq (pc := 143) hX dJ1_getNode_143 (by decide) rfl ?_
          refine j_ifnonnullN (pc := 145) hX dJ1_getNode_145 ?_
          refine j_null (pc := 148) hX dJ1_getNode_148 ?_
          first | exact j_aret hX hQ hr (by first | exact Or.inl ⟨_, rfl⟩ | exact Or.inr ⟨_, rfl⟩) dJ1_getNode_149 ⟨none, rfl, rfl, he.symm⟩ | exact j_aretN hX hQ hr (by first | exact Or.inl ⟨_, rfl⟩ | exact Or.inr ⟨_, rfl⟩) dJ1_getNode_149 ⟨none, rfl, rfl, he.symm⟩ | exact j_aretq hX hQ hr (by first | exact Or.inl ⟨_, rfl⟩ | exact Or.inr ⟨_, rfl⟩) dJ1_getNode_149 ⟨none, rfl, rfl, he.symm⟩
        first | refine j_aload (pc := 99) hX dJ1_getNode_99 rfl ?_ | refine j_aloadq (pc := 99) hX dJ1_getNode_99 rfl ?_
        refine j_get (pc := 101) hX kg_J1_168 dJ1_getNode_101 (by first | assumption | exact jow.r (by assumption)) (by rfl) ?_
        refine j_iload (pc := 104) hX dJ1_getNode_104 rfl ?_
        refine j_icmp_ne (pc := 106) (tgt := 137) hX dJ1_getNode_106 (by decide) (fun c_106 => ?_) (fun c_106 => ?_)
        · have key := fun e => c_106 (congrArg (fun z => hK kdI z) e)
          exact j_lv (by simp [jsb, jget, jval]) (nx key)
        · first | refine j_aload (pc := 109) hX dJ1_getNode_109 rfl ?_ | refine j_aloadq (pc := 109) hX dJ1_getNode_109 rfl ?_
          refine j_get (pc := 111) hX kg_J1_170 dJ1_getNode_111 (by first | assumption | exact jow.r (by assumption)) (by rfl) ?_
          refine j_dup (pc := 114) hX dJ1_getNode_114 (by first | rfl | exact jrf_cat _) ?_
          first | refine j_astore (pc := 115) hX dJ1_getNode_115 (by decide) rfl ?_ | refine j_astoreN (pc := 115) hX dJ1_getNode_115 (by decide) rfl ?_ | refine j_astoreq (pc := 115) hX dJ1_getNode_115 (by decide) rfl ?_
          first | refine j_aload_n (pc := 117) hX dJ1_getNode_117 rfl rfl ?_ | refine j_aload_nq (pc := 117) hX dJ1_getNode_117 rfl rfl ?_
          refine j_acmp_eq (pc := 118) (rx := (some _)) (ry := (some _)) (tgt := 134) hX dJ1_getNode_118 (by decide) (fun c_118 => ?_) (fun c_118 => ?_)
          · have key := kdI_ok.2.2 _ _ _ _ _ (by rw [← Option.some.inj c_118] at hk; exact hk) hnk
            first | refine j_aload (pc := 134) hX dJ1_getNode_134 rfl ?_ | refine j_aloadq (pc := 134) hX dJ1_getNode_134 rfl ?_
            first | exact j_aret hX hQ hr (by first | exact Or.inl ⟨_, rfl⟩ | exact Or.inr ⟨_, rfl⟩) dJ1_getNode_136 ⟨some n'.1, rfl, rfl, (he.trans (getN_yes key.symm)).symm⟩ | exact j_aretN hX hQ hr (by first | exact Or.inl ⟨_, rfl⟩ | exact Or.inr ⟨_, rfl⟩) dJ1_getNode_136 ⟨some n'.1, rfl, rfl, (he.trans (getN_yes key.symm)).symm⟩ | exact j_aretq hX hQ hr (by first | exact Or.inl ⟨_, rfl⟩ | exact Or.inr ⟨_, rfl⟩) dJ1_getNode_136 ⟨some n'.1, rfl, rfl, (he.trans (getN_yes key.symm)).symm⟩
          · first | refine j_aload_n (pc := 121) hX dJ1_getNode_121 rfl rfl ?_ | refine j_aload_nq (pc := 121) hX dJ1_getNode_121 rfl rfl ?_
            refine j_ifnull (pc := 122) hX dJ1_getNode_122 ?_
            first | refine j_aload_n (pc := 125) hX dJ1_getNode_125 rfl rfl ?_ | refine j_aload_nq (pc := 125) hX dJ1_getNode_125 rfl rfl ?_
            first | refine j_aload (pc := 126) hX dJ1_getNode_126 rfl ?_ | refine j_aloadq (pc := 126) hX dJ1_getNode_126 rfl ?_
            refine j_rune (pc := 128) (jr_U (pc := 128) hX ku_J1_173_16 hk (c_J19_equals _ _ _ kq n'.2.2.1 hk hnk) (by decide) dJ1_getNode_128 rfl rfl (Nat.le_of_ble_eq_true rfl)) ?_ jno_x
            refine j_if_eq (pc := 131) (tgt := 137) hX dJ1_getNode_131 (by decide) (fun c_131 => ?_) (fun c_131 => ?_)
            · have key := fun e => of_decide_eq_false (jb_z.mp c_131) (Eq.symm e)
              exact j_lv (by simp [jsb, jget, jval]) (nx key)
            · have key := of_decide_eq_true (jb_n.mp c_131)
              first | refine j_aload (pc := 134) hX dJ1_getNode_134 rfl ?_ | refine j_aloadq (pc := 134) hX dJ1_getNode_134 rfl ?_
              first | exact j_aret hX hQ hr (by first | exact Or.inl ⟨_, rfl⟩ | exact Or.inr ⟨_, rfl⟩) dJ1_getNode_136 ⟨some n'.1, rfl, rfl, (he.trans (getN_yes key.symm)).symm⟩ | exact j_aretN hX hQ hr (by first | exact Or.inl ⟨_, rfl⟩ | exact Or.inr ⟨_, rfl⟩) dJ1_getNode_136 ⟨some n'.1, rfl, rfl, (he.trans (getN_yes key.symm)).symm⟩ | exact j_aretq hX hQ hr (by first | exact Or.inl ⟨_, rfl⟩ | exact Or.inr ⟨_, rfl⟩) dJ1_getNode_136 ⟨some n'.1, rfl, rfl, (he.trans (getN_yes key.symm)).symm⟩
      | cons m u ih =>
        intro n' hn he
        obtain ⟨hno, hng, hnk, hnt⟩ := id hn
        have nx : ¬ n'.2.1 = k → JW X G H 0 137 [(0, .inr (some q)), (1, .inr (some kq)), (4, .inr (some n'.1)), (6, .inl (.int (hK kdI k)))] [] := by
          intro hne
          rw [getN_no hne] at he
          first | refine j_aload (pc := 137) hX dJ1_getNode_137 rfl ?_ | refine j_aloadq (pc := 137) hX dJ1_getNode_137 rfl ?_
          refine j_get (pc := 139) hX kg_J1_177 dJ1_getNode_139 (by first | assumption | exact jow.r (by assumption)) (by rfl) ?_
          refine j_dup (pc := 142) hX dJ1_getNode_142 (by first | rfl | exact jrf_cat _) ?_
          first | refine j_astore (pc := 143) hX dJ1_getNode_143 (by decide) rfl ?_ | refine j_astoreN (pc := 143) hX dJ1_getNode_143 (by decide) rfl ?_ | refine j_astoreq (pc := 143) hX dJ1_getNode_143 (by decide) rfl ?_
          refine j_ifnonnull (pc := 145) (tgt := 99) hX dJ1_getNode_145 (by decide) ?_
          exact j_lv (by simp [jsb, jget, jval]) (ih m hnt he)
        first | refine j_aload (pc := 99) hX dJ1_getNode_99 rfl ?_ | refine j_aloadq (pc := 99) hX dJ1_getNode_99 rfl ?_
        refine j_get (pc := 101) hX kg_J1_168 dJ1_getNode_101 (by first | assumption | exact jow.r (by assumption)) (by rfl) ?_
        refine j_iload (pc := 104) hX dJ1_getNode_104 rfl ?_
        refine j_icmp_ne (pc := 106) (tgt := 137) hX dJ1_getNode_106 (by decide) (fun c_106 => ?_) (fun c_106 => ?_)
        · have key := fun e => c_106 (congrArg (fun z => hK kdI z) e)
          exact j_lv (by simp [jsb, jget, jval]) (nx key)
        · first | refine j_aload (pc := 109) hX dJ1_getNode_109 rfl ?_ | refine j_aloadq (pc := 109) hX dJ1_getNode_109 rfl ?_
          refine j_get (pc := 111) hX kg_J1_170 dJ1_getNode_111 (by first | assumption | exact jow.r (by assumption)) (by rfl) ?_
          refine j_dup (pc := 114) hX dJ1_getNode_114 (by first | rfl | exact jrf_cat _) ?_
          first | refine j_astore (pc := 115) hX dJ1_getNode_115 (by decide) rfl ?_ | refine j_astoreN (pc := 115) hX dJ1_getNode_115 (by decide) rfl ?_ | refine j_astoreq (pc := 115) hX dJ1_getNode_115 (by decide) rfl ?_
          first | refine j_aload_n (pc := 117) hX dJ1_getNode_117 rfl rfl ?_ | refine j_aload_nq (pc := 117) hX dJ1_getNode_117 rfl rfl ?_
          refine j_acmp_eq (pc := 118) (rx := (some _)) (ry := (some _)) (tgt := 134) hX dJ1_getNode_118 (by decide) (fun c_118 => ?_) (fun c_118 => ?_)
          · have key := kdI_ok.2.2 _ _ _ _ _ (by rw [← Option.some.inj c_118] at hk; exact hk) hnk
            first | refine j_aload (pc := 134) hX dJ1_getNode_134 rfl ?_ | refine j_aloadq (pc := 134) hX dJ1_getNode_134 rfl ?_
            first | exact j_aret hX hQ hr (by first | exact Or.inl ⟨_, rfl⟩ | exact Or.inr ⟨_, rfl⟩) dJ1_getNode_136 ⟨some n'.1, rfl, rfl, (he.trans (getN_yes key.symm)).symm⟩ | exact j_aretN hX hQ hr (by first | exact Or.inl ⟨_, rfl⟩ | exact Or.inr ⟨_, rfl⟩) dJ1_getNode_136 ⟨some n'.1, rfl, rfl, (he.trans (getN_yes key.symm)).symm⟩ | exact j_aretq hX hQ hr (by first | exact Or.inl ⟨_, rfl⟩ | exact Or.inr ⟨_, rfl⟩) dJ1_getNode_136 ⟨some n'.1, rfl, rfl, (he.trans (getN_yes key.symm)).symm⟩
          · first | refine j_aload_n (pc := 121) hX dJ1_getNode_121 rfl rfl ?_ | refine j_aload_nq (pc := 121) hX dJ1_getNode_121 rfl rfl ?_
            refine j_ifnull (pc := 122) hX dJ1_getNode_122 ?_
            first | refine j_aload_n (pc := 125) hX dJ1_getNode_125 rfl rfl ?_ | refine j_aload_nq (pc := 125) hX dJ1_getNode_125 rfl rfl ?_
            first | refine j_aload (pc := 126) hX dJ1_getNode_126 rfl ?_ | refine j_aloadq (pc := 126) hX dJ1_getNode_126 rfl ?_
            refine j_rune (pc := 128) (jr_U (pc := 128) hX ku_J1_173_16 hk (c_J19_equals _ _ _ kq n'.2.2.1 hk hnk) (by decide) dJ1_getNode_128 rfl rfl (Nat.le_of_ble_eq_true rfl)) ?_ jno_x
            refine j_if_eq (pc := 131) (tgt := 137) hX dJ1_getNode_131 (by decide) (fun c_131 => ?_) (fun c_131 => ?_)
            · have key := fun e => of_decide_eq_false (jb_z.mp c_131) (Eq.symm e)
              exact j_lv (by simp [jsb, jget, jval]) (nx key)
            · have key := of_decide_eq_true (jb_n.mp c_131)
              first | refine j_aload (pc := 134) hX dJ1_getNode_134 rfl ?_ | refine j_aloadq (pc := 134) hX dJ1_getNode_134 rfl ?_
              first | exact j_aret hX hQ hr (by first | exact Or.inl ⟨_, rfl⟩ | exact Or.inr ⟨_, rfl⟩) dJ1_getNode_136 ⟨some n'.1, rfl, rfl, (he.trans (getN_yes key.symm)).symm⟩ | exact j_aretN hX hQ hr (by first | exact Or.inl ⟨_, rfl⟩ | exact Or.inr ⟨_, rfl⟩) dJ1_getNode_136 ⟨some n'.1, rfl, rfl, (he.trans (getN_yes key.symm)).symm⟩ | exact j_aretq hX hQ hr (by first | exact Or.inl ⟨_, rfl⟩ | exact Or.inr ⟨_, rfl⟩) dJ1_getNode_136 ⟨some n'.1, rfl, rfl, (he.trans (getN_yes key.symm)).symm⟩
    match L, hc, loop, hQ with
    | [], hc, loop, hQ =>
      change JW X G H 0 31 _ [.null]
      refine j_dup (pc := 31) hX dJ1_getNode_31 (by first | rfl | exact jrf_cat _) ?_
      first | refine j_astore_n (pc := 32) hX dJ1_getNode_32 rfl (by decide) rfl ?_ | refine j_astore_nN (pc := 32) hX dJ1_getNode_32 rfl (by decide) rfl ?_ | refine j_astore_nq (pc := 32) hX dJ1_getNode_32 rfl (by decide) rfl ?_
      refine j_ifnullN (pc := 33) (tgt := 148) hX dJ1_getNode_33 (by decide) ?_
      refine j_null (pc := 148) hX dJ1_getNode_148 ?_
      first | exact j_aret hX hQ hr (by first | exact Or.inl ⟨_, rfl⟩ | exact Or.inr ⟨_, rfl⟩) dJ1_getNode_149 ⟨none, rfl, rfl, rfl⟩ | exact j_aretN hX hQ hr (by first | exact Or.inl ⟨_, rfl⟩ | exact Or.inr ⟨_, rfl⟩) dJ1_getNode_149 ⟨none, rfl, rfl, rfl⟩ | exact j_aretq hX hQ hr (by first | exact Or.inl ⟨_, rfl⟩ | exact Or.inr ⟨_, rfl⟩) dJ1_getNode_149 ⟨none, rfl, rfl, rfl⟩
    | n :: L2, hc, loop, hQ =>
      change JW X G H 0 31 _ [.ref n.1]
      obtain ⟨hno, hng, hnk, hnt⟩ := id hc
      have nx : ¬ n.2.1 = k → JW X G H 0 71 [(0, .inr (some q)), (1, .inr (some kq)), (3, .inr (some n.1)), (6, .inl (.int (hK kdI k)))] [] := by
        intro hne
        match L2, hc, loop, hQ, hno, hnt with
        | [], hc, loop, hQ, hno, hnt =>
          first | refine j_aload_n (pc := 71) hX dJ1_getNode_71 rfl rfl ?_ | refine j_aload_nq (pc := 71) hX dJ1_getNode_71 rfl rfl ?_
          refine j_get (pc := 72) hX kg_J1_177 dJ1_getNode_72 (by first | assumption | exact jow.r (by assumption)) (by rfl) ?_
          refine j_dup (pc := 75) hX dJ1_getNode_75 (by first | rfl | exact jrf_cat _) ?_
          first | refine j_astore (pc := 76) hX dJ1_getNode_76 (by decide) rfl ?_ | refine j_astoreN (pc := 76) hX dJ1_getNode_76 (by decide) rfl ?_ | refine j_astoreq (pc := 76) hX dJ1_getNode_76 (by decide) rfl ?_
          refine j_ifnullN (pc := 78) (tgt := 148) hX dJ1_getNode_78 (by decide) ?_
          refine j_null (pc := 148) hX dJ1_getNode_148 ?_
          first | exact j_aret hX hQ hr (by first | exact Or.inl ⟨_, rfl⟩ | exact Or.inr ⟨_, rfl⟩) dJ1_getNode_149 ⟨none, rfl, rfl, (getN_no (L := []) hne).symm⟩ | exact j_aretN hX hQ hr (by first | exact Or.inl ⟨_, rfl⟩ | exact Or.inr ⟨_, rfl⟩) dJ1_getNode_149 ⟨none, rfl, rfl, (getN_no (L := []) hne).symm⟩ | exact j_aretq hX hQ hr (by first | exact Or.inl ⟨_, rfl⟩ | exact Or.inr ⟨_, rfl⟩) dJ1_getNode_149 ⟨none, rfl, rfl, (getN_no (L := []) hne).symm⟩
        | m :: L3, hc, loop, hQ, hno, hnt =>
          first | refine j_aload_n (pc := 71) hX dJ1_getNode_71 rfl rfl ?_ | refine j_aload_nq (pc := 71) hX dJ1_getNode_71 rfl rfl ?_
          refine j_get (pc := 72) hX kg_J1_177 dJ1_getNode_72 (by first | assumption | exact jow.r (by assumption)) (by rfl) ?_
          refine j_dup (pc := 75) hX dJ1_getNode_75 (by first | rfl | exact jrf_cat _) ?_
          first | refine j_astore (pc := 76) hX dJ1_getNode_76 (by decide) rfl ?_ | refine j_astoreN (pc := 76) hX dJ1_getNode_76 (by decide) rfl ?_ | refine j_astoreq (pc := 76) hX dJ1_getNode_76 (by decide) rfl ?_
          refine j_ifnull (pc := 78) hX dJ1_getNode_78 ?_
          first | refine j_aload_n (pc := 81) hX dJ1_getNode_81 rfl rfl ?_ | refine j_aload_nq (pc := 81) hX dJ1_getNode_81 rfl rfl ?_
          refine j_instNo (pc := 82) hX kd_J1_180 dJ1_getNode_82 hno.r ?_
          refine j_if_eq (pc := 85) (tgt := 99) hX dJ1_getNode_85 (by decide) (fun c_85 => ?_) (fun c_85 => ?_)
          rotate_left
          · exact absurd rfl c_85
          exact j_lv (by simp [jsb, jget, jval]) (loop L3 m hnt (getN_no hne))
      refine j_dup (pc := 31) hX dJ1_getNode_31 (by first | rfl | exact jrf_cat _) ?_
      first | refine j_astore_n (pc := 32) hX dJ1_getNode_32 rfl (by decide) rfl ?_ | refine j_astore_nN (pc := 32) hX dJ1_getNode_32 rfl (by decide) rfl ?_ | refine j_astore_nq (pc := 32) hX dJ1_getNode_32 rfl (by decide) rfl ?_
      refine j_ifnull (pc := 33) hX dJ1_getNode_33 ?_
      first | refine j_aload_n (pc := 36) hX dJ1_getNode_36 rfl rfl ?_ | refine j_aload_nq (pc := 36) hX dJ1_getNode_36 rfl rfl ?_
      refine j_get (pc := 37) hX kg_J1_168 dJ1_getNode_37 (by first | assumption | exact jow.r (by assumption)) (by rfl) ?_
      refine j_iload (pc := 40) hX dJ1_getNode_40 rfl ?_
      refine j_icmp_ne (pc := 42) (tgt := 71) hX dJ1_getNode_42 (by decide) (fun c_42 => ?_) (fun c_42 => ?_)
      · have key := fun e => c_42 (congrArg (fun z => hK kdI z) e)
        exact j_lv (by simp [jsb, jget, jval]) (nx key)
      · first | refine j_aload_n (pc := 45) hX dJ1_getNode_45 rfl rfl ?_ | refine j_aload_nq (pc := 45) hX dJ1_getNode_45 rfl rfl ?_
        refine j_get (pc := 46) hX kg_J1_170 dJ1_getNode_46 (by first | assumption | exact jow.r (by assumption)) (by rfl) ?_
        refine j_dup (pc := 49) hX dJ1_getNode_49 (by first | rfl | exact jrf_cat _) ?_
        first | refine j_astore (pc := 50) hX dJ1_getNode_50 (by decide) rfl ?_ | refine j_astoreN (pc := 50) hX dJ1_getNode_50 (by decide) rfl ?_ | refine j_astoreq (pc := 50) hX dJ1_getNode_50 (by decide) rfl ?_
        first | refine j_aload_n (pc := 52) hX dJ1_getNode_52 rfl rfl ?_ | refine j_aload_nq (pc := 52) hX dJ1_getNode_52 rfl rfl ?_
        refine j_acmp_eq (pc := 53) (rx := (some _)) (ry := (some _)) (tgt := 69) hX dJ1_getNode_53 (by decide) (fun c_53 => ?_) (fun c_53 => ?_)
        · have key := kdI_ok.2.2 _ _ _ _ _ (by rw [← Option.some.inj c_53] at hk; exact hk) hnk
          first | refine j_aload_n (pc := 69) hX dJ1_getNode_69 rfl rfl ?_ | refine j_aload_nq (pc := 69) hX dJ1_getNode_69 rfl rfl ?_
          first | exact j_aret hX hQ hr (by first | exact Or.inl ⟨_, rfl⟩ | exact Or.inr ⟨_, rfl⟩) dJ1_getNode_70 ⟨some n.1, rfl, rfl, (getN_yes key.symm).symm⟩ | exact j_aretN hX hQ hr (by first | exact Or.inl ⟨_, rfl⟩ | exact Or.inr ⟨_, rfl⟩) dJ1_getNode_70 ⟨some n.1, rfl, rfl, (getN_yes key.symm).symm⟩ | exact j_aretq hX hQ hr (by first | exact Or.inl ⟨_, rfl⟩ | exact Or.inr ⟨_, rfl⟩) dJ1_getNode_70 ⟨some n.1, rfl, rfl, (getN_yes key.symm).symm⟩
        · first | refine j_aload_n (pc := 56) hX dJ1_getNode_56 rfl rfl ?_ | refine j_aload_nq (pc := 56) hX dJ1_getNode_56 rfl rfl ?_
          refine j_ifnull (pc := 57) hX dJ1_getNode_57 ?_
          first | refine j_aload_n (pc := 60) hX dJ1_getNode_60 rfl rfl ?_ | refine j_aload_nq (pc := 60) hX dJ1_getNode_60 rfl rfl ?_
          first | refine j_aload (pc := 61) hX dJ1_getNode_61 rfl ?_ | refine j_aloadq (pc := 61) hX dJ1_getNode_61 rfl ?_
          refine j_rune (pc := 63) (jr_U (pc := 63) hX ku_J1_173_16 hk (c_J19_equals _ _ _ kq n.2.2.1 hk hnk) (by decide) dJ1_getNode_63 rfl rfl (Nat.le_of_ble_eq_true rfl)) ?_ jno_x
          refine j_if_eq (pc := 66) (tgt := 71) hX dJ1_getNode_66 (by decide) (fun c_66 => ?_) (fun c_66 => ?_)
          · have key := fun e => of_decide_eq_false (jb_z.mp c_66) (Eq.symm e)
            exact j_lv (by simp [jsb, jget, jval]) (nx key)
          · have key := of_decide_eq_true (jb_n.mp c_66)
            first | refine j_aload_n (pc := 69) hX dJ1_getNode_69 rfl rfl ?_ | refine j_aload_nq (pc := 69) hX dJ1_getNode_69 rfl rfl ?_
            first | exact j_aret hX hQ hr (by first | exact Or.inl ⟨_, rfl⟩ | exact Or.inr ⟨_, rfl⟩) dJ1_getNode_70 ⟨some n.1, rfl, rfl, (getN_yes key.symm).symm⟩ | exact j_aretN hX hQ hr (by first | exact Or.inl ⟨_, rfl⟩ | exact Or.inr ⟨_, rfl⟩) dJ1_getNode_70 ⟨some n.1, rfl, rfl, (getN_yes key.symm).symm⟩ | exact j_aretq hX hQ hr (by first | exact Or.inl ⟨_, rfl⟩ | exact Or.inr ⟨_, rfl⟩) dJ1_getNode_70 ⟨some n.1, rfl, rfl, (getN_yes key.symm).symm⟩
theorem c_J1_getNodeR (l : Launch) (G : JG) (H : Heap) (q kq : Nat) (k : Int32 × Int32) {tab : Option Nat} {cap sz : Nat} {mc : Int32} {B : Nat → List (ND (Int32 × Int32))} (h : hmA kdR G H q tab cap sz mc B) (hk : kA kdR G H kq k) : JMet l yJ1_getNode (ws_ yJ1_getNode cJ1_getNode 8 (some (.object "java/util/HashMap$Node"))) 4 0 G H [.ref q, .ref kq] (jpqe H (if tab = none then none else getN k (B (ixN cap (hK kdR k))))) (jno) := by
  refine JMet.of [(0, .inr (some q)), (1, .inr (some kq))] (by decide) (Nat.le_of_ble_eq_true rfl) rfl (fun X hl hX hQ hEx hr hnm hH => ?_)
  subst hl
  obtain ⟨hq, hsz, ho, hnone, htab⟩ := h
  cases tab with
  | none =>
    first | refine j_aload_n (pc := 0) hX dJ1_getNode_0 rfl rfl ?_ | refine j_aload_nq (pc := 0) hX dJ1_getNode_0 rfl rfl ?_
    refine j_get (pc := 1) hX kg_J1_105 dJ1_getNode_1 (by first | assumption | exact jow.r (by assumption)) (by rfl) ?_
    refine j_dup (pc := 4) hX dJ1_getNode_4 (by first | rfl | exact jrf_cat _) ?_
    first | refine j_astore_n (pc := 5) hX dJ1_getNode_5 rfl (by decide) rfl ?_ | refine j_astore_nN (pc := 5) hX dJ1_getNode_5 rfl (by decide) rfl ?_ | refine j_astore_nq (pc := 5) hX dJ1_getNode_5 rfl (by decide) rfl ?_
    refine j_ifnullN (pc := 6) (tgt := 148) hX dJ1_getNode_6 (by decide) ?_
    refine j_null (pc := 148) hX dJ1_getNode_148 ?_
    first | exact j_aret hX hQ hr (by first | exact Or.inl ⟨_, rfl⟩ | exact Or.inr ⟨_, rfl⟩) dJ1_getNode_149 ⟨none, rfl, rfl, rfl⟩ | exact j_aretN hX hQ hr (by first | exact Or.inl ⟨_, rfl⟩ | exact Or.inr ⟨_, rfl⟩) dJ1_getNode_149 ⟨none, rfl, rfl, rfl⟩ | exact j_aretq hX hQ hr (by first | exact Or.inl ⟨_, rfl⟩ | exact Or.inr ⟨_, rfl⟩) dJ1_getNode_149 ⟨none, rfl, rfl, rfl⟩
  | some t =>
    obtain ⟨hcap, ht, ha, hch, -, -⟩ := htab t rfl
    have hlt := ix_lt hcap (hK kdR k)
    have hin : vp_in (nI (ixN cap (hK kdR k))) cap := vp_in_nI hlt (by omega)
    have hc := hch _ hlt
    rw [if_neg (by simp)] at hQ
    obtain ⟨L, hL⟩ : ∃ L, L = B (ixN cap (hK kdR k)) := ⟨_, rfl⟩
    rw [← hL] at hQ hc
    first | refine j_aload_n (pc := 0) hX dJ1_getNode_0 rfl rfl ?_ | refine j_aload_nq (pc := 0) hX dJ1_getNode_0 rfl rfl ?_
    refine j_get (pc := 1) hX kg_J1_105 dJ1_getNode_1 (by first | assumption | exact jow.r (by assumption)) (by rfl) ?_
    refine j_dup (pc := 4) hX dJ1_getNode_4 (by first | rfl | exact jrf_cat _) ?_
    first | refine j_astore_n (pc := 5) hX dJ1_getNode_5 rfl (by decide) rfl ?_ | refine j_astore_nN (pc := 5) hX dJ1_getNode_5 rfl (by decide) rfl ?_ | refine j_astore_nq (pc := 5) hX dJ1_getNode_5 rfl (by decide) rfl ?_
    refine j_ifnull (pc := 6) hX dJ1_getNode_6 ?_
    first | refine j_aload_n (pc := 9) hX dJ1_getNode_9 rfl rfl ?_ | refine j_aload_nq (pc := 9) hX dJ1_getNode_9 rfl rfl ?_
    refine j_alen (pc := 10) hX dJ1_getNode_10 (jaw.r (t := 8) hX (by decide) ha) ?_
    refine j_dup (pc := 11) hX dJ1_getNode_11 (by first | rfl | exact jrf_cat _) ?_
    refine j_istore (pc := 12) hX dJ1_getNode_12 (by decide) rfl ?_
    refine j_if_le (pc := 14) (tgt := 148) hX dJ1_getNode_14 (by decide) (fun c_14 => ?_) (fun c_14 => ?_)
    · exact absurd c_14 (nI_nle (show 0 < cap by omega) (by omega))
    first | refine j_aload_n (pc := 17) hX dJ1_getNode_17 rfl rfl ?_ | refine j_aload_nq (pc := 17) hX dJ1_getNode_17 rfl rfl ?_
    refine j_iload (pc := 18) hX dJ1_getNode_18 rfl ?_
    refine j_iconst (pc := 20) (v := 1) hX dJ1_getNode_20 (by decide) ?_
    refine j_isub (pc := 21) hX dJ1_getNode_21 ?_
    first | refine j_aload_n (pc := 22) hX dJ1_getNode_22 rfl rfl ?_ | refine j_aload_nq (pc := 22) hX dJ1_getNode_22 rfl rfl ?_
    refine j_rune (pc := 23) (jr_S (pc := 23) hX ks_J1_149 (c_J1_hkR _ _ _ kq hk) (by decide) dJ1_getNode_23 rfl rfl (Nat.le_of_ble_eq_true rfl)) ?_ jno_x
    refine j_dup (pc := 26) hX dJ1_getNode_26 (by first | rfl | exact jrf_cat _) ?_
    refine j_istore (pc := 27) hX dJ1_getNode_27 (by decide) rfl ?_
    refine j_iand (pc := 29) hX dJ1_getNode_29 ?_
    skip
    rw [show (Int32.ofNat cap - 1) &&& hK kdR k = nI (ixN cap (hK kdR k)) from ix_and hcap _]
    refine j_aald (pc := 30) hX (t := 8) (by decide) dJ1_getNode_30 (jaw.r (t := 8) hX (by decide) ha) hin ?_
    rw [nI_clamp (by omega)]
    rw [← hL]
    have loop : ∀ (t' : List (ND (Int32 × Int32))) (n' : ND (Int32 × Int32)), chE kdR G H none (n' :: t') → getN k L = getN k (n' :: t') → JW X G H 0 99 [(0, .inr (some q)), (1, .inr (some kq)), (4, .inr (some n'.1)), (6, .inl (.int (hK kdR k)))] [] := by
      intro t'
      induction t' with
      | nil =>
        intro n' hn he
        obtain ⟨hno, hng, hnk, hnt⟩ := id hn
        have nx : ¬ n'.2.1 = k → JW X G H 0 137 [(0, .inr (some q)), (1, .inr (some kq)), (4, .inr (some n'.1)), (6, .inl (.int (hK kdR k)))] [] := by
          intro hne
          rw [getN_no hne] at he
          first | refine j_aload (pc := 137) hX dJ1_getNode_137 rfl ?_ | refine j_aloadq (pc := 137) hX dJ1_getNode_137 rfl ?_
          refine j_get (pc := 139) hX kg_J1_177 dJ1_getNode_139 (by first | assumption | exact jow.r (by assumption)) (by rfl) ?_
          refine j_dup (pc := 142) hX dJ1_getNode_142 (by first | rfl | exact jrf_cat _) ?_
          first | refine j_astore (pc := 143) hX dJ1_getNode_143 (by decide) rfl ?_ | refine j_astoreN (pc := 143) hX dJ1_getNode_143 (by decide) rfl ?_ | refine j_astoreq (pc := 143) hX dJ1_getNode_143 (by decide) rfl ?_
          refine j_ifnonnullN (pc := 145) hX dJ1_getNode_145 ?_
          refine j_null (pc := 148) hX dJ1_getNode_148 ?_
          first | exact j_aret hX hQ hr (by first | exact Or.inl ⟨_, rfl⟩ | exact Or.inr ⟨_, rfl⟩) dJ1_getNode_149 ⟨none, rfl, rfl, he.symm⟩ | exact j_aretN hX hQ hr (by first | exact Or.inl ⟨_, rfl⟩ | exact Or.inr ⟨_, rfl⟩) dJ1_getNode_149 ⟨none, rfl, rfl, he.symm⟩ | exact j_aretq hX hQ hr (by first | exact Or.inl ⟨_, rfl⟩ | exact Or.inr ⟨_, rfl⟩) dJ1_getNode_149 ⟨none, rfl, rfl, he.symm⟩
        first | refine j_aload (pc := 99) hX dJ1_getNode_99 rfl ?_ | refine j_aloadq (pc := 99) hX dJ1_getNode_99 rfl ?_
        refine j_get (pc := 101) hX kg_J1_168 dJ1_getNode_101 (by first | assumption | exact jow.r (by assumption)) (by rfl) ?_
        refine j_iload (pc := 104) hX dJ1_getNode_104 rfl ?_
        refine j_icmp_ne (pc := 106) (tgt := 137) hX dJ1_getNode_106 (by decide) (fun c_106 => ?_) (fun c_106 => ?_)
        · have key := fun e => c_106 (congrArg (fun z => hK kdR z) e)
          exact j_lv (by simp [jsb, jget, jval]) (nx key)
        · first | refine j_aload (pc := 109) hX dJ1_getNode_109 rfl ?_ | refine j_aloadq (pc := 109) hX dJ1_getNode_109 rfl ?_
          refine j_get (pc := 111) hX kg_J1_170 dJ1_getNode_111 (by first | assumption | exact jow.r (by assumption)) (by rfl) ?_
          refine j_dup (pc := 114) hX dJ1_getNode_114 (by first | rfl | exact jrf_cat _) ?_
          first | refine j_astore (pc := 115) hX dJ1_getNode_115 (by decide) rfl ?_ | refine j_astoreN (pc := 115) hX dJ1_getNode_115 (by decide) rfl ?_ | refine j_astoreq (pc := 115) hX dJ1_getNode_115 (by decide) rfl ?_
          first | refine j_aload_n (pc := 117) hX dJ1_getNode_117 rfl rfl ?_ | refine j_aload_nq (pc := 117) hX dJ1_getNode_117 rfl rfl ?_
          refine j_acmp_eq (pc := 118) (rx := (some _)) (ry := (some _)) (tgt := 134) hX dJ1_getNode_118 (by decide) (fun c_118 => ?_) (fun c_118 => ?_)
          · have key := kdR_ok.2.2 _ _ _ _ _ (by rw [← Option.some.inj c_118] at hk; exact hk) hnk
            first | refine j_aload (pc := 134) hX dJ1_getNode_134 rfl ?_ | refine j_aloadq (pc := 134) hX dJ1_getNode_134 rfl ?_
            first | exact j_aret hX hQ hr (by first | exact Or.inl ⟨_, rfl⟩ | exact Or.inr ⟨_, rfl⟩) dJ1_getNode_136 ⟨some n'.1, rfl, rfl, (he.trans (getN_yes key.symm)).symm⟩ | exact j_aretN hX hQ hr (by first | exact Or.inl ⟨_, rfl⟩ | exact Or.inr ⟨_, rfl⟩) dJ1_getNode_136 ⟨some n'.1, rfl, rfl, (he.trans (getN_yes key.symm)).symm⟩ | exact j_aretq hX hQ hr (by first | exact Or.inl ⟨_, rfl⟩ | exact Or.inr ⟨_, rfl⟩) dJ1_getNode_136 ⟨some n'.1, rfl, rfl, (he.trans (getN_yes key.symm)).symm⟩
          · first | refine j_aload_n (pc := 121) hX dJ1_getNode_121 rfl rfl ?_ | refine j_aload_nq (pc := 121) hX dJ1_getNode_121 rfl rfl ?_
            refine j_ifnull (pc := 122) hX dJ1_getNode_122 ?_
            first | refine j_aload_n (pc := 125) hX dJ1_getNode_125 rfl rfl ?_ | refine j_aload_nq (pc := 125) hX dJ1_getNode_125 rfl rfl ?_
            first | refine j_aload (pc := 126) hX dJ1_getNode_126 rfl ?_ | refine j_aloadq (pc := 126) hX dJ1_getNode_126 rfl ?_
            refine j_rune (pc := 128) (jr_U (pc := 128) hX ku_J1_173_4 hk (c_J6e _ _ _ kq n'.2.2.1 hk hnk) (by decide) dJ1_getNode_128 rfl rfl (Nat.le_of_ble_eq_true rfl)) ?_ jno_x
            refine j_if_eq (pc := 131) (tgt := 137) hX dJ1_getNode_131 (by decide) (fun c_131 => ?_) (fun c_131 => ?_)
            · have key := fun e => of_decide_eq_false (jb_z.mp c_131) (Eq.symm e)
              exact j_lv (by simp [jsb, jget, jval]) (nx key)
            · have key := of_decide_eq_true (jb_n.mp c_131)
              first | refine j_aload (pc := 134) hX dJ1_getNode_134 rfl ?_ | refine j_aloadq (pc := 134) hX dJ1_getNode_134 rfl ?_
              first | exact j_aret hX hQ hr (by first | exact Or.inl ⟨_, rfl⟩ | exact Or.inr ⟨_, rfl⟩) dJ1_getNode_136 ⟨some n'.1, rfl, rfl, (he.trans (getN_yes key.symm)).symm⟩ | exact j_aretN hX hQ hr (by first | exact Or.inl ⟨_, rfl⟩ | exact Or.inr ⟨_, rfl⟩) dJ1_getNode_136 ⟨some n'.1, rfl, rfl, (he.trans (getN_yes key.symm)).symm⟩ | exact j_aretq hX hQ hr (by first | exact Or.inl ⟨_, rfl⟩ | exact Or.inr ⟨_, rfl⟩) dJ1_getNode_136 ⟨some n'.1, rfl, rfl, (he.trans (getN_yes key.symm)).symm⟩
      | cons m u ih =>
        intro n' hn he
        obtain ⟨hno, hng, hnk, hnt⟩ := id hn
        have nx : ¬ n'.2.1 = k → JW X G H 0 137 [(0, .inr (some q)), (1, .inr (some kq)), (4, .inr (some n'.1)), (6, .inl (.int (hK kdR k)))] [] := by
          intro hne
          rw [getN_no hne] at he
          first | refine j_aload (pc := 137) hX dJ1_getNode_137 rfl ?_ | refine j_aloadq (pc := 137) hX dJ1_getNode_137 rfl ?_
          refine j_get (pc := 139) hX kg_J1_177 dJ1_getNode_139 (by first | assumption | exact jow.r (by assumption)) (by rfl) ?_
          refine j_dup (pc := 142) hX dJ1_getNode_142 (by first | rfl | exact jrf_cat _) ?_
          first | refine j_astore (pc := 143) hX dJ1_getNode_143 (by decide) rfl ?_ | refine j_astoreN (pc := 143) hX dJ1_getNode_143 (by decide) rfl ?_ | refine j_astoreq (pc := 143) hX dJ1_getNode_143 (by decide) rfl ?_
          refine j_ifnonnull (pc := 145) (tgt := 99) hX dJ1_getNode_145 (by decide) ?_
          exact j_lv (by simp [jsb, jget, jval]) (ih m hnt he)
        first | refine j_aload (pc := 99) hX dJ1_getNode_99 rfl ?_ | refine j_aloadq (pc := 99) hX dJ1_getNode_99 rfl ?_
        refine j_get (pc := 101) hX kg_J1_168 dJ1_getNode_101 (by first | assumption | exact jow.r (by assumption)) (by rfl) ?_
        refine j_iload (pc := 104) hX dJ1_getNode_104 rfl ?_
        refine j_icmp_ne (pc := 106) (tgt := 137) hX dJ1_getNode_106 (by decide) (fun c_106 => ?_) (fun c_106 => ?_)
        · have key := fun e => c_106 (congrArg (fun z => hK kdR z) e)
          exact j_lv (by simp [jsb, jget, jval]) (nx key)
        · first | refine j_aload (pc := 109) hX dJ1_getNode_109 rfl ?_ | refine j_aloadq (pc := 109) hX dJ1_getNode_109 rfl ?_
          refine j_get (pc := 111) hX kg_J1_170 dJ1_getNode_111 (by first | assumption | exact jow.r (by assumption)) (by rfl) ?_
          refine j_dup (pc := 114) hX dJ1_getNode_114 (by first | rfl | exact jrf_cat _) ?_
          first | refine j_astore (pc := 115) hX dJ1_getNode_115 (by decide) rfl ?_ | refine j_astoreN (pc := 115) hX dJ1_getNode_115 (by decide) rfl ?_ | refine j_astoreq (pc := 115) hX dJ1_getNode_115 (by decide) rfl ?_
          first | refine j_aload_n (pc := 117) hX dJ1_getNode_117 rfl rfl ?_ | refine j_aload_nq (pc := 117) hX dJ1_getNode_117 rfl rfl ?_
          refine j_acmp_eq (pc := 118) (rx := (some _)) (ry := (some _)) (tgt := 134) hX dJ1_getNode_118 (by decide) (fun c_118 => ?_) (fun c_118 => ?_)
          · have key := kdR_ok.2.2 _ _ _ _ _ (by rw [← Option.some.inj c_118] at hk; exact hk) hnk
            first | refine j_aload (pc := 134) hX dJ1_getNode_134 rfl ?_ | refine j_aloadq (pc := 134) hX dJ1_getNode_134 rfl ?_
            first | exact j_aret hX hQ hr (by first | exact Or.inl ⟨_, rfl⟩ | exact Or.inr ⟨_, rfl⟩) dJ1_getNode_136 ⟨some n'.1, rfl, rfl, (he.trans (getN_yes key.symm)).symm⟩ | exact j_aretN hX hQ hr (by first | exact Or.inl ⟨_, rfl⟩ | exact Or.inr ⟨_, rfl⟩) dJ1_getNode_136 ⟨some n'.1, rfl, rfl, (he.trans (getN_yes key.symm)).symm⟩ | exact j_aretq hX hQ hr (by first | exact Or.inl ⟨_, rfl⟩ | exact Or.inr ⟨_, rfl⟩) dJ1_getNode_136 ⟨some n'.1, rfl, rfl, (he.trans (getN_yes key.symm)).symm⟩
          · first | refine j_aload_n (pc := 121) hX dJ1_getNode_121 rfl rfl ?_ | refine j_aload_nq (pc := 121) hX dJ1_getNode_121 rfl rfl ?_
            refine j_ifnull (pc := 122) hX dJ1_getNode_122 ?_
            first | refine j_aload_n (pc := 125) hX dJ1_getNode_125 rfl rfl ?_ | refine j_aload_nq (pc := 125) hX dJ1_getNode_125 rfl rfl ?_
            first | refine j_aload (pc := 126) hX dJ1_getNode_126 rfl ?_ | refine j_aloadq (pc := 126) hX dJ1_getNode_126 rfl ?_
            refine j_rune (pc := 128) (jr_U (pc := 128) hX ku_J1_173_4 hk (c_J6e _ _ _ kq n'.2.2.1 hk hnk) (by decide) dJ1_getNode_128 rfl rfl (Nat.le_of_ble_eq_true rfl)) ?_ jno_x
            refine j_if_eq (pc := 131) (tgt := 137) hX dJ1_getNode_131 (by decide) (fun c_131 => ?_) (fun c_131 => ?_)
            · have key := fun e => of_decide_eq_false (jb_z.mp c_131) (Eq.symm e)
              exact j_lv (by simp [jsb, jget, jval]) (nx key)
            · have key := of_decide_eq_true (jb_n.mp c_131)
              first | refine j_aload (pc := 134) hX dJ1_getNode_134 rfl ?_ | refine j_aloadq (pc := 134) hX dJ1_getNode_134 rfl ?_
              first | exact j_aret hX hQ hr (by first | exact Or.inl ⟨_, rfl⟩ | exact Or.inr ⟨_, rfl⟩) dJ1_getNode_136 ⟨some n'.1, rfl, rfl, (he.trans (getN_yes key.symm)).symm⟩ | exact j_aretN hX hQ hr (by first | exact Or.inl ⟨_, rfl⟩ | exact Or.inr ⟨_, rfl⟩) dJ1_getNode_136 ⟨some n'.1, rfl, rfl, (he.trans (getN_yes key.symm)).symm⟩ | exact j_aretq hX hQ hr (by first | exact Or.inl ⟨_, rfl⟩ | exact Or.inr ⟨_, rfl⟩) dJ1_getNode_136 ⟨some n'.1, rfl, rfl, (he.trans (getN_yes key.symm)).symm⟩
    match L, hc, loop, hQ with
    | [], hc, loop, hQ =>
      change JW X G H 0 31 _ [.null]
      refine j_dup (pc := 31) hX dJ1_getNode_31 (by first | rfl | exact jrf_cat _) ?_
      first | refine j_astore_n (pc := 32) hX dJ1_getNode_32 rfl (by decide) rfl ?_ | refine j_astore_nN (pc := 32) hX dJ1_getNode_32 rfl (by decide) rfl ?_ | refine j_astore_nq (pc := 32) hX dJ1_getNode_32 rfl (by decide) rfl ?_
      refine j_ifnullN (pc := 33) (tgt := 148) hX dJ1_getNode_33 (by decide) ?_
      refine j_null (pc := 148) hX dJ1_getNode_148 ?_
      first | exact j_aret hX hQ hr (by first | exact Or.inl ⟨_, rfl⟩ | exact Or.inr ⟨_, rfl⟩) dJ1_getNode_149 ⟨none, rfl, rfl, rfl⟩ | exact j_aretN hX hQ hr (by first | exact Or.inl ⟨_, rfl⟩ | exact Or.inr ⟨_, rfl⟩) dJ1_getNode_149 ⟨none, rfl, rfl, rfl⟩ | exact j_aretq hX hQ hr (by first | exact Or.inl ⟨_, rfl⟩ | exact Or.inr ⟨_, rfl⟩) dJ1_getNode_149 ⟨none, rfl, rfl, rfl⟩
    | n :: L2, hc, loop, hQ =>
      change JW X G H 0 31 _ [.ref n.1]
      obtain ⟨hno, hng, hnk, hnt⟩ := id hc
      have nx : ¬ n.2.1 = k → JW X G H 0 71 [(0, .inr (some q)), (1, .inr (some kq)), (3, .inr (some n.1)), (6, .inl (.int (hK kdR k)))] [] := by
        intro hne
        match L2, hc, loop, hQ, hno, hnt with
        | [], hc, loop, hQ, hno, hnt =>
          first | refine j_aload_n (pc := 71) hX dJ1_getNode_71 rfl rfl ?_ | refine j_aload_nq (pc := 71) hX dJ1_getNode_71 rfl rfl ?_
          refine j_get (pc := 72) hX kg_J1_177 dJ1_getNode_72 (by first | assumption | exact jow.r (by assumption)) (by rfl) ?_
          refine j_dup (pc := 75) hX dJ1_getNode_75 (by first | rfl | exact jrf_cat _) ?_
          first | refine j_astore (pc := 76) hX dJ1_getNode_76 (by decide) rfl ?_ | refine j_astoreN (pc := 76) hX dJ1_getNode_76 (by decide) rfl ?_ | refine j_astoreq (pc := 76) hX dJ1_getNode_76 (by decide) rfl ?_
          refine j_ifnullN (pc := 78) (tgt := 148) hX dJ1_getNode_78 (by decide) ?_
          refine j_null (pc := 148) hX dJ1_getNode_148 ?_
          first | exact j_aret hX hQ hr (by first | exact Or.inl ⟨_, rfl⟩ | exact Or.inr ⟨_, rfl⟩) dJ1_getNode_149 ⟨none, rfl, rfl, (getN_no (L := []) hne).symm⟩ | exact j_aretN hX hQ hr (by first | exact Or.inl ⟨_, rfl⟩ | exact Or.inr ⟨_, rfl⟩) dJ1_getNode_149 ⟨none, rfl, rfl, (getN_no (L := []) hne).symm⟩ | exact j_aretq hX hQ hr (by first | exact Or.inl ⟨_, rfl⟩ | exact Or.inr ⟨_, rfl⟩) dJ1_getNode_149 ⟨none, rfl, rfl, (getN_no (L := []) hne).symm⟩
        | m :: L3, hc, loop, hQ, hno, hnt =>
          first | refine j_aload_n (pc := 71) hX dJ1_getNode_71 rfl rfl ?_ | refine j_aload_nq (pc := 71) hX dJ1_getNode_71 rfl rfl ?_
          refine j_get (pc := 72) hX kg_J1_177 dJ1_getNode_72 (by first | assumption | exact jow.r (by assumption)) (by rfl) ?_
          refine j_dup (pc := 75) hX dJ1_getNode_75 (by first | rfl | exact jrf_cat _) ?_
          first | refine j_astore (pc := 76) hX dJ1_getNode_76 (by decide) rfl ?_ | refine j_astoreN (pc := 76) hX dJ1_getNode_76 (by decide) rfl ?_ | refine j_astoreq (pc := 76) hX dJ1_getNode_76 (by decide) rfl ?_
          refine j_ifnull (pc := 78) hX dJ1_getNode_78 ?_
          first | refine j_aload_n (pc := 81) hX dJ1_getNode_81 rfl rfl ?_ | refine j_aload_nq (pc := 81) hX dJ1_getNode_81 rfl rfl ?_
          refine j_instNo (pc := 82) hX kd_J1_180 dJ1_getNode_82 hno.r ?_
          refine j_if_eq (pc := 85) (tgt := 99) hX dJ1_getNode_85 (by decide) (fun c_85 => ?_) (fun c_85 => ?_)
          rotate_left
          · exact absurd rfl c_85
          exact j_lv (by simp [jsb, jget, jval]) (loop L3 m hnt (getN_no hne))
      refine j_dup (pc := 31) hX dJ1_getNode_31 (by first | rfl | exact jrf_cat _) ?_
      first | refine j_astore_n (pc := 32) hX dJ1_getNode_32 rfl (by decide) rfl ?_ | refine j_astore_nN (pc := 32) hX dJ1_getNode_32 rfl (by decide) rfl ?_ | refine j_astore_nq (pc := 32) hX dJ1_getNode_32 rfl (by decide) rfl ?_
      refine j_ifnull (pc := 33) hX dJ1_getNode_33 ?_
      first | refine j_aload_n (pc := 36) hX dJ1_getNode_36 rfl rfl ?_ | refine j_aload_nq (pc := 36) hX dJ1_getNode_36 rfl rfl ?_
      refine j_get (pc := 37) hX kg_J1_168 dJ1_getNode_37 (by first | assumption | exact jow.r (by assumption)) (by rfl) ?_
      refine j_iload (pc := 40) hX dJ1_getNode_40 rfl ?_
      refine j_icmp_ne (pc := 42) (tgt := 71) hX dJ1_getNode_42 (by decide) (fun c_42 => ?_) (fun c_42 => ?_)
      · have key := fun e => c_42 (congrArg (fun z => hK kdR z) e)
        exact j_lv (by simp [jsb, jget, jval]) (nx key)
      · first | refine j_aload_n (pc := 45) hX dJ1_getNode_45 rfl rfl ?_ | refine j_aload_nq (pc := 45) hX dJ1_getNode_45 rfl rfl ?_
        refine j_get (pc := 46) hX kg_J1_170 dJ1_getNode_46 (by first | assumption | exact jow.r (by assumption)) (by rfl) ?_
        refine j_dup (pc := 49) hX dJ1_getNode_49 (by first | rfl | exact jrf_cat _) ?_
        first | refine j_astore (pc := 50) hX dJ1_getNode_50 (by decide) rfl ?_ | refine j_astoreN (pc := 50) hX dJ1_getNode_50 (by decide) rfl ?_ | refine j_astoreq (pc := 50) hX dJ1_getNode_50 (by decide) rfl ?_
        first | refine j_aload_n (pc := 52) hX dJ1_getNode_52 rfl rfl ?_ | refine j_aload_nq (pc := 52) hX dJ1_getNode_52 rfl rfl ?_
        refine j_acmp_eq (pc := 53) (rx := (some _)) (ry := (some _)) (tgt := 69) hX dJ1_getNode_53 (by decide) (fun c_53 => ?_) (fun c_53 => ?_)
        · have key := kdR_ok.2.2 _ _ _ _ _ (by rw [← Option.some.inj c_53] at hk; exact hk) hnk
          first | refine j_aload_n (pc := 69) hX dJ1_getNode_69 rfl rfl ?_ | refine j_aload_nq (pc := 69) hX dJ1_getNode_69 rfl rfl ?_
          first | exact j_aret hX hQ hr (by first | exact Or.inl ⟨_, rfl⟩ | exact Or.inr ⟨_, rfl⟩) dJ1_getNode_70 ⟨some n.1, rfl, rfl, (getN_yes key.symm).symm⟩ | exact j_aretN hX hQ hr (by first | exact Or.inl ⟨_, rfl⟩ | exact Or.inr ⟨_, rfl⟩) dJ1_getNode_70 ⟨some n.1, rfl, rfl, (getN_yes key.symm).symm⟩ | exact j_aretq hX hQ hr (by first | exact Or.inl ⟨_, rfl⟩ | exact Or.inr ⟨_, rfl⟩) dJ1_getNode_70 ⟨some n.1, rfl, rfl, (getN_yes key.symm).symm⟩
        · first | refine j_aload_n (pc := 56) hX dJ1_getNode_56 rfl rfl ?_ | refine j_aload_nq (pc := 56) hX dJ1_getNode_56 rfl rfl ?_
          refine j_ifnull (pc := 57) hX dJ1_getNode_57 ?_
          first | refine j_aload_n (pc := 60) hX dJ1_getNode_60 rfl rfl ?_ | refine j_aload_nq (pc := 60) hX dJ1_getNode_60 rfl rfl ?_
          first | refine j_aload (pc := 61) hX dJ1_getNode_61 rfl ?_ | refine j_aloadq (pc := 61) hX dJ1_getNode_61 rfl ?_
          refine j_rune (pc := 63) (jr_U (pc := 63) hX ku_J1_173_4 hk (c_J6e _ _ _ kq n.2.2.1 hk hnk) (by decide) dJ1_getNode_63 rfl rfl (Nat.le_of_ble_eq_true rfl)) ?_ jno_x
          refine j_if_eq (pc := 66) (tgt := 71) hX dJ1_getNode_66 (by decide) (fun c_66 => ?_) (fun c_66 => ?_)
          · have key := fun e => of_decide_eq_false (jb_z.mp c_66) (Eq.symm e)
            exact j_lv (by simp [jsb, jget, jval]) (nx key)
          · have key := of_decide_eq_true (jb_n.mp c_66)
            first | refine j_aload_n (pc := 69) hX dJ1_getNode_69 rfl rfl ?_ | refine j_aload_nq (pc := 69) hX dJ1_getNode_69 rfl rfl ?_
            first | exact j_aret hX hQ hr (by first | exact Or.inl ⟨_, rfl⟩ | exact Or.inr ⟨_, rfl⟩) dJ1_getNode_70 ⟨some n.1, rfl, rfl, (getN_yes key.symm).symm⟩ | exact j_aretN hX hQ hr (by first | exact Or.inl ⟨_, rfl⟩ | exact Or.inr ⟨_, rfl⟩) dJ1_getNode_70 ⟨some n.1, rfl, rfl, (getN_yes key.symm).symm⟩ | exact j_aretq hX hQ hr (by first | exact Or.inl ⟨_, rfl⟩ | exact Or.inr ⟨_, rfl⟩) dJ1_getNode_70 ⟨some n.1, rfl, rfl, (getN_yes key.symm).symm⟩
