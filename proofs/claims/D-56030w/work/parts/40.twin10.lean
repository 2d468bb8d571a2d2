/-! the reference: new applicants and posts, matching, days -/
set_option maxRecDepth 100000
def freeF (s : Nat → Nat) : Nat → Nat → Nat
  | 0, i => i
  | n + 1, i => if usedN s i then freeF s n (i + 1) else i
def freeN (s : Nat → Nat) : Nat := freeF s 10 0
theorem free_ok {s : Nat → Nat} : ∀ n i, (∃ j, i ≤ j ∧ j < i + n ∧ usedN s j = false) → freeF s n i < i + n ∧ usedN s (freeF s n i) = false := by
  intro n
  induction n with
  | zero => intro i h; obtain ⟨j, h1, h2, -⟩ := h; omega
  | succ n ih =>
    intro i h
    unfold freeF
    cases e : usedN s i with
    | false => exact ⟨by simp, e⟩
    | true =>
      obtain ⟨j, h1, h2, h3⟩ := h
      have : i ≠ j := fun z => by rw [← z, e] at h3; cases h3
      have q := ih (i + 1) ⟨j, by omega, by omega, h3⟩
      exact ⟨by have := q.1; simp; omega, q.2⟩
theorem apps_all {s : Nat → Nat} (h : ∀ k, k < 10 → usedN s k = true) : appsN s = 10 := by
  have : ∀ i, i ≤ 10 → jfold (appsF s) i 0 = i := by
    intro i
    induction i with
    | zero => intro _; rfl
    | succ i ih => intro hi; rw [jfold_succ, ih (by omega)]; unfold appsF; rw [if_pos (h i (by omega))]
  exact this 10 (by omega)
theorem apps_some {s : Nat → Nat} (h : appsN s ≠ 10) : ∃ j, 0 ≤ j ∧ j < 0 + 10 ∧ usedN s j = false := by
  refine Classical.byContradiction fun z => h (apps_all fun k hk => ?_)
  cases e : usedN s k with
  | true => rfl
  | false => exact absurd ⟨k, by omega, by omega, e⟩ z
def shI (v : Int32) : Bool := decide (v = 99) || (decide (v = 115) || decide (v = 110))
theorem inI_nat {v hi : Int32} {n : Nat} (hn : hi.toInt = n) (h : inI v 0 hi = true) : ∃ j : Nat, j ≤ n ∧ v = nI j := by
  unfold inI at h
  simp only [Bool.and_eq_true, decide_eq_true_eq] at h
  exact nI_of2 hn (Int32.not_lt.mpr h.1) h.2
theorem shI_nat {v : Int32} (h : shI v = true) : ∃ j : Nat, isSh j = true ∧ j < 128 ∧ v = nI j := by
  unfold shI at h
  simp only [Bool.or_eq_true, decide_eq_true_eq] at h
  rcases h with rfl | rfl | rfl
  · exact ⟨99, rfl, by omega, rfl⟩
  · exact ⟨115, rfl, by omega, rfl⟩
  · exact ⟨110, rfl, by omega, rfl⟩
def addS6 (s : Nat → Nat) (k sh wh rn : Nat) : Nat → Nat := jup (jup (jup (jup (jup (jup s (3 + 6 * k + 0) (s 0 + 1)) (3 + 6 * k + 1) sh) (3 + 6 * k + 2) wh) (3 + 6 * k + 3) rn) (3 + 6 * k + 4) 0) (3 + 6 * k + 5) 0
def addS (s : Nat → Nat) (k sh wh rn : Nat) : Nat → Nat := jup (addS6 s k sh wh rn) 0 (addS6 s k sh wh rn 0 + 1)
def addD (s : Nat → Nat) (sh wh rn : Int32) : Nat × Int32 × (Nat → Nat) :=
  if (shI sh && (inI wh 0 100 && inI rn 0 50)) = false then (1, 0, s) else if appsN s = 10 then (2, 0, s) else (0, nI (s 0), addS s (freeN s) sh.toNatClampNeg wh.toNatClampNeg rn.toNatClampNeg)
theorem c_X3_doAddApplicant (l : Launch) (G : JG) (H : Heap) {g : Nat → Nat} {ar : Nat → Nat → Nat} {cm fs : Nat → Int32} (hT : jtw G H g ar cm fs) (hB : Bs (ar 0)) (h6 : fs 6 = 0) (sh wh rn : Int32) : JMet l yX3_doAddApplicant (ws_ yX3_doAddApplicant cX3_doAddApplicant 6 (some .int)) 4 0 G H [.ref (g 100), .int sh, .int wh, .int rn] (twU G H g ar cm fs (addD (ar 0) sh wh rn)) (jno) := by
  refine JMet.of [(0, .inr (some (g 100))), (1, .inl (.int sh)), (2, .inl (.int wh)), (3, .inl (.int rn))] (by decide) (Nat.le_of_ble_eq_true rfl) rfl (fun X hl hX hQ hEx hr hnm hH => ?_)
  subst hl
  obtain ⟨h0, ho, hs, hbf, hsv, hpa, hou, hip, hcm⟩ := id hT
  have hi2 : vp_in (2 : Int32) 93 := vp_in_nI (n := 2) (by omega) (by decide)
  obtain ⟨h2, hb, hf, hg⟩ := id hB
  have hF : JFr (twP g) H H := JFr.rfl'
  have hi0 : vp_in (0 : Int32) 93 := vp_in_nI (n := 0) (by omega) (by decide)
  have l1 := appsN_le (ar 0)
  have main : ∀ a b c : Nat, sh = nI a → wh = nI b → rn = nI c → addD (ar 0) sh wh rn = (0, nI (ar 0 0), addS (ar 0) (freeN (ar 0)) a b c) → appsN (ar 0) ≠ 10 → JW X G H 0 51 [(0, .inr (some (g 100))), (1, .inl (.int sh)), (2, .inl (.int wh)), (3, .inl (.int rn)), (4, .inl (.int 0))] [] := by
    intro a b c ea eb ec ed en
    obtain ⟨hk, hu⟩ := free_ok 10 0 (apps_some en)
    have hk : freeN (ar 0) < 10 := by simpa [freeN] using hk
    have last : JW X G H 0 66 [(0, .inr (some (g 100))), (1, .inl (.int sh)), (2, .inl (.int wh)), (3, .inl (.int rn)), (4, .inl (.int (nI (freeN (ar 0)))))] [] := by
      generalize freeN (ar 0) = k at *
      subst ea eb ec
      first | refine j_aload_n (pc := 66) hX dX3_doAddApplicant_66 rfl rfl ?_ | refine j_aload_nq (pc := 66) hX dX3_doAddApplicant_66 rfl rfl ?_
      refine j_get (pc := 67) hX kg_X3_9 dX3_doAddApplicant_67 (by first | assumption | exact jow.r (by assumption)) (by rfl) ?_
      refine j_iconst (pc := 70) (v := 0) hX dX3_doAddApplicant_70 (by decide) ?_
      refine j_iald (pc := 71) hX dX3_doAddApplicant_71 (by first | assumption | exact jaw.r hX (by decide) (by assumption)) (by assumption) ?_
      change JW X G H 0 72 _ [.int (nI (ar 0 0))]
      refine j_istore (pc := 72) hX dX3_doAddApplicant_72 (by decide) rfl ?_
      first | refine j_aload_n (pc := 74) hX dX3_doAddApplicant_74 rfl rfl ?_ | refine j_aload_nq (pc := 74) hX dX3_doAddApplicant_74 rfl rfl ?_
      refine j_iload (pc := 75) hX dX3_doAddApplicant_75 rfl ?_
      refine j_iconst (pc := 77) (v := 0) hX dX3_doAddApplicant_77 (by decide) ?_
      refine j_iload (pc := 78) hX dX3_doAddApplicant_78 rfl ?_
      refine j_iconst (pc := 80) (v := 1) hX dX3_doAddApplicant_80 (by decide) ?_
      refine j_iadd (pc := 81) hX dX3_doAddApplicant_81 ?_
      rw [nI_1]
      refine j_runv (pc := 82) (jr_V (pc := 82) hX kv_X3_89 (by first | assumption | exact jow.r (by assumption)) (c_X3_sets _ _ _ hT k 0 (ar 0 0 + 1) hk (by omega)) (by decide) dX3_doAddApplicant_82 rfl rfl (Nat.le_of_ble_eq_true rfl)) (fun H_82 p_82 z_82 => ?_) jno_x
      have hF := JFr.trans hF p_82.1
      have hT := p_82.2
      obtain ⟨h0, ho, hs, hbf, hsv, hpa, hou, hip, hcm⟩ := id hT
      first | refine j_aload_n (pc := 85) hX dX3_doAddApplicant_85 rfl rfl ?_ | refine j_aload_nq (pc := 85) hX dX3_doAddApplicant_85 rfl rfl ?_
      refine j_iload (pc := 86) hX dX3_doAddApplicant_86 rfl ?_
      refine j_iconst (pc := 88) (v := 1) hX dX3_doAddApplicant_88 (by decide) ?_
      refine j_iload_n (pc := 89) hX dX3_doAddApplicant_89 rfl rfl ?_
      refine j_runv (pc := 90) (jr_V (pc := 90) hX kv_X3_89 (by first | assumption | exact jow.r (by assumption)) (c_X3_sets _ _ _ hT k 1 a hk (by omega)) (by decide) dX3_doAddApplicant_90 rfl rfl (Nat.le_of_ble_eq_true rfl)) (fun H_90 p_90 z_90 => ?_) jno_x
      have hF := JFr.trans hF p_90.1
      have hT := p_90.2
      obtain ⟨h0, ho, hs, hbf, hsv, hpa, hou, hip, hcm⟩ := id hT
      first | refine j_aload_n (pc := 93) hX dX3_doAddApplicant_93 rfl rfl ?_ | refine j_aload_nq (pc := 93) hX dX3_doAddApplicant_93 rfl rfl ?_
      refine j_iload (pc := 94) hX dX3_doAddApplicant_94 rfl ?_
      refine j_iconst (pc := 96) (v := 2) hX dX3_doAddApplicant_96 (by decide) ?_
      refine j_iload_n (pc := 97) hX dX3_doAddApplicant_97 rfl rfl ?_
      refine j_runv (pc := 98) (jr_V (pc := 98) hX kv_X3_89 (by first | assumption | exact jow.r (by assumption)) (c_X3_sets _ _ _ hT k 2 b hk (by omega)) (by decide) dX3_doAddApplicant_98 rfl rfl (Nat.le_of_ble_eq_true rfl)) (fun H_98 p_98 z_98 => ?_) jno_x
      have hF := JFr.trans hF p_98.1
      have hT := p_98.2
      obtain ⟨h0, ho, hs, hbf, hsv, hpa, hou, hip, hcm⟩ := id hT
      first | refine j_aload_n (pc := 101) hX dX3_doAddApplicant_101 rfl rfl ?_ | refine j_aload_nq (pc := 101) hX dX3_doAddApplicant_101 rfl rfl ?_
      refine j_iload (pc := 102) hX dX3_doAddApplicant_102 rfl ?_
      refine j_iconst (pc := 104) (v := 3) hX dX3_doAddApplicant_104 (by decide) ?_
      refine j_iload_n (pc := 105) hX dX3_doAddApplicant_105 rfl rfl ?_
      refine j_runv (pc := 106) (jr_V (pc := 106) hX kv_X3_89 (by first | assumption | exact jow.r (by assumption)) (c_X3_sets _ _ _ hT k 3 c hk (by omega)) (by decide) dX3_doAddApplicant_106 rfl rfl (Nat.le_of_ble_eq_true rfl)) (fun H_106 p_106 z_106 => ?_) jno_x
      have hF := JFr.trans hF p_106.1
      have hT := p_106.2
      obtain ⟨h0, ho, hs, hbf, hsv, hpa, hou, hip, hcm⟩ := id hT
      first | refine j_aload_n (pc := 109) hX dX3_doAddApplicant_109 rfl rfl ?_ | refine j_aload_nq (pc := 109) hX dX3_doAddApplicant_109 rfl rfl ?_
      refine j_iload (pc := 110) hX dX3_doAddApplicant_110 rfl ?_
      refine j_iconst (pc := 112) (v := 4) hX dX3_doAddApplicant_112 (by decide) ?_
      refine j_iconst (pc := 113) (v := 0) hX dX3_doAddApplicant_113 (by decide) ?_
      refine j_runv (pc := 114) (jr_V (pc := 114) hX kv_X3_89 (by first | assumption | exact jow.r (by assumption)) (c_X3_sets _ _ _ hT k 4 0 hk (by omega)) (by decide) dX3_doAddApplicant_114 rfl rfl (Nat.le_of_ble_eq_true rfl)) (fun H_114 p_114 z_114 => ?_) jno_x
      have hF := JFr.trans hF p_114.1
      have hT := p_114.2
      obtain ⟨h0, ho, hs, hbf, hsv, hpa, hou, hip, hcm⟩ := id hT
      first | refine j_aload_n (pc := 117) hX dX3_doAddApplicant_117 rfl rfl ?_ | refine j_aload_nq (pc := 117) hX dX3_doAddApplicant_117 rfl rfl ?_
      refine j_iload (pc := 118) hX dX3_doAddApplicant_118 rfl ?_
      refine j_iconst (pc := 120) (v := 5) hX dX3_doAddApplicant_120 (by decide) ?_
      refine j_iconst (pc := 121) (v := 0) hX dX3_doAddApplicant_121 (by decide) ?_
      refine j_runv (pc := 122) (jr_V (pc := 122) hX kv_X3_89 (by first | assumption | exact jow.r (by assumption)) (c_X3_sets _ _ _ hT k 5 0 hk (by omega)) (by decide) dX3_doAddApplicant_122 rfl rfl (Nat.le_of_ble_eq_true rfl)) (fun H_122 p_122 z_122 => ?_) jno_x
      have hF := JFr.trans hF p_122.1
      have hT := p_122.2
      obtain ⟨h0, ho, hs, hbf, hsv, hpa, hou, hip, hcm⟩ := id hT
      simp only [jup_jup, jup_same] at hT
      obtain ⟨h0, ho, hs, hbf, hsv, hpa, hou, hip, hcm⟩ := id hT
      generalize eS : jup (jup (jup (jup (jup (jup (ar 0) (3 + 6 * k + 0) (ar 0 0 + 1)) (3 + 6 * k + 1) a) (3 + 6 * k + 2) b) (3 + 6 * k + 3) c) (3 + 6 * k + 4) 0) (3 + 6 * k + 5) 0 = S at *
      first | refine j_aload_n (pc := 125) hX dX3_doAddApplicant_125 rfl rfl ?_ | refine j_aload_nq (pc := 125) hX dX3_doAddApplicant_125 rfl rfl ?_
      refine j_get (pc := 126) hX kg_X3_9 dX3_doAddApplicant_126 (by first | assumption | exact jow.r (by assumption)) (by rfl) ?_
      refine j_iconst (pc := 129) (v := 0) hX dX3_doAddApplicant_129 (by decide) ?_
      refine j_dup2_11 (pc := 130) hX dX3_doAddApplicant_130 (by first | rfl | exact jrf_cat _) (by first | rfl | exact jrf_cat _) ?_
      refine j_iald (pc := 131) hX dX3_doAddApplicant_131 (by first | assumption | exact jaw.r hX (by decide) (by assumption)) (by assumption) ?_
      change JW X _ _ 0 132 _ [.int (nI (S 0)), _, _]
      refine j_iconst (pc := 132) (v := 1) hX dX3_doAddApplicant_132 (by decide) ?_
      refine j_iadd (pc := 133) hX dX3_doAddApplicant_133 ?_
      rw [nI_1]
      refine j_iast (pc := 134) hX dX3_doAddApplicant_134 (by assumption) (h0.1 _ (by decide)) (by assumption) (fun H_134 w_134 n_134 => ?_)
      have hT := tw_arr0 hT w_134 n_134 (tw_hf _ _ _ _)
      have hF := JFr.put hF w_134 (fun _ => ⟨0, by decide, rfl⟩)
      obtain ⟨h0, ho, hs, hbf, hsv, hpa, hou, hip, hcm⟩ := id hT
      refine j_iload (pc := 135) hX dX3_doAddApplicant_135 rfl ?_
      exact j_iret hX hQ hr dX3_doAddApplicant_137 ⟨_, rfl, twU_ok h6 ed hF (by simp only [jup_jup, jup_same] at hT; unfold addS addS6; rw [eS]; exact hT)⟩
    have loop : ∀ n i, i + n = 10 → freeF (ar 0) n i = freeN (ar 0) → JW X G H 0 51 [(0, .inr (some (g 100))), (1, .inl (.int sh)), (2, .inl (.int wh)), (3, .inl (.int rn)), (4, .inl (.int (nI i)))] [] := by
      intro n
      induction n with
      | zero =>
        intro i hi he
        exfalso
        simp [freeF] at he
        omega
      | succ n ih =>
        intro i hi he
        unfold freeF at he
        first | refine j_aload_n (pc := 51) hX dX3_doAddApplicant_51 rfl rfl ?_ | refine j_aload_nq (pc := 51) hX dX3_doAddApplicant_51 rfl rfl ?_
        refine j_iload (pc := 52) hX dX3_doAddApplicant_52 rfl ?_
        refine j_rune (pc := 54) (jr_V (pc := 54) hX kv_X3_62 (by first | assumption | exact jow.r (by assumption)) (c_X3_isUsed _ _ _ hT (fun j hj => bsL hb hj) i (by omega)) (by decide) dX3_doAddApplicant_54 rfl rfl (Nat.le_of_ble_eq_true rfl)) ?_ jno_x
        refine j_if_eq (pc := 57) (tgt := 66) hX dX3_doAddApplicant_57 (by decide) (fun c_57 => ?_) (fun c_57 => ?_)
        · rw [jb_z] at c_57
          rw [if_neg (by unfold usedN; rw [c_57]; decide)] at he
          exact jw_cast (by rw [he]) rfl last
        · rw [jb_n] at c_57
          rw [if_pos (by unfold usedN; exact c_57)] at he
          refine j_iincc (pc := 60) (m := 1) hX dX3_doAddApplicant_60 rfl (by decide) (by decide) rfl ?_
          refine j_goto (pc := 63) (tgt := 51) hX dX3_doAddApplicant_63 (by decide) ?_
          exact j_lv (by simp [jsb, jget, jval, nI_1]) (ih (i + 1) (by omega) he)
    exact loop 10 0 (by omega) rfl
  refine j_iload_n (pc := 0) hX dX3_doAddApplicant_0 rfl rfl ?_
  refine j_rune (pc := 1) (jr_S (pc := 1) hX ks_X3_79 (c_X3_isShape _ _ _ _) (by decide) dX3_doAddApplicant_1 rfl rfl (Nat.le_of_ble_eq_true rfl)) ?_ jno_x
  refine j_if_eq (pc := 4) (tgt := 27) hX dX3_doAddApplicant_4 (by decide) (fun c_4 => ?_) (fun c_4 => ?_)
  · rw [jb_z] at c_4
    change shI sh = _ at c_4
    first | refine j_aload_n (pc := 27) hX dX3_doAddApplicant_27 rfl rfl ?_ | refine j_aload_nq (pc := 27) hX dX3_doAddApplicant_27 rfl rfl ?_
    refine j_iconst (pc := 28) (v := 1) hX dX3_doAddApplicant_28 (by decide) ?_
    refine j_runi (pc := 29) (jr_V (pc := 29) hX kv_X3_82 (by first | assumption | exact jow.r (by assumption)) (c_X3_fails _ _ _ hT _) (by decide) dX3_doAddApplicant_29 rfl rfl (Nat.le_of_ble_eq_true rfl)) (fun r_29 H_29 p_29 z_29 => ?_) jno_x
    obtain ⟨hR, rfl⟩ := p_29
    have hF := JFr.trans hF hR.1
    have hT := hR.2
    exact j_iret hX hQ hr dX3_doAddApplicant_32 ⟨_, rfl, twU_no (t := 1) (by simp [addD, c_4]) hF hT⟩
  · rw [jb_n] at c_4
    change shI sh = _ at c_4
    refine j_iload_n (pc := 7) hX dX3_doAddApplicant_7 rfl rfl ?_
    refine j_iconst (pc := 8) (v := 0) hX dX3_doAddApplicant_8 (by decide) ?_
    refine j_bipush (pc := 9) (v := 100) hX dX3_doAddApplicant_9 (by decide) ?_
    refine j_rune (pc := 11) (jr_S (pc := 11) hX ks_X3_51 (c_X3_in _ _ _ _ _ _) (by decide) dX3_doAddApplicant_11 rfl rfl (Nat.le_of_ble_eq_true rfl)) ?_ jno_x
    refine j_if_eq (pc := 14) (tgt := 27) hX dX3_doAddApplicant_14 (by decide) (fun c_14 => ?_) (fun c_14 => ?_)
    · rw [jb_z] at c_14
      change inI wh 0 100 = _ at c_14
      first | refine j_aload_n (pc := 27) hX dX3_doAddApplicant_27 rfl rfl ?_ | refine j_aload_nq (pc := 27) hX dX3_doAddApplicant_27 rfl rfl ?_
      refine j_iconst (pc := 28) (v := 1) hX dX3_doAddApplicant_28 (by decide) ?_
      refine j_runi (pc := 29) (jr_V (pc := 29) hX kv_X3_82 (by first | assumption | exact jow.r (by assumption)) (c_X3_fails _ _ _ hT _) (by decide) dX3_doAddApplicant_29 rfl rfl (Nat.le_of_ble_eq_true rfl)) (fun r_29 H_29 p_29 z_29 => ?_) jno_x
      obtain ⟨hR, rfl⟩ := p_29
      have hF := JFr.trans hF hR.1
      have hT := hR.2
      exact j_iret hX hQ hr dX3_doAddApplicant_32 ⟨_, rfl, twU_no (t := 1) (by simp [addD, c_4, c_14]) hF hT⟩
    · rw [jb_n] at c_14
      change inI wh 0 100 = _ at c_14
      refine j_iload_n (pc := 17) hX dX3_doAddApplicant_17 rfl rfl ?_
      refine j_iconst (pc := 18) (v := 0) hX dX3_doAddApplicant_18 (by decide) ?_
      refine j_bipush (pc := 19) (v := 50) hX dX3_doAddApplicant_19 (by decide) ?_
      refine j_rune (pc := 21) (jr_S (pc := 21) hX ks_X3_51 (c_X3_in _ _ _ _ _ _) (by decide) dX3_doAddApplicant_21 rfl rfl (Nat.le_of_ble_eq_true rfl)) ?_ jno_x
      refine j_if_ne (pc := 24) (tgt := 33) hX dX3_doAddApplicant_24 (by decide) (fun c_24 => ?_) (fun c_24 => ?_)
      · rw [jb_n] at c_24
        change inI rn 0 50 = _ at c_24
        first | refine j_aload_n (pc := 33) hX dX3_doAddApplicant_33 rfl rfl ?_ | refine j_aload_nq (pc := 33) hX dX3_doAddApplicant_33 rfl rfl ?_
        refine j_rune (pc := 34) (jr_V (pc := 34) hX kv_X3_85 (by first | assumption | exact jow.r (by assumption)) (c_X3_applicants _ _ _ hT hB) (by decide) dX3_doAddApplicant_34 rfl rfl (Nat.le_of_ble_eq_true rfl)) ?_ jno_x
        refine j_bipush (pc := 37) (v := 10) hX dX3_doAddApplicant_37 (by decide) ?_
        refine j_icmp_ne (pc := 39) (tgt := 48) hX dX3_doAddApplicant_39 (by decide) (fun c_39 => ?_) (fun c_39 => ?_)
        · rw [show (10 : Int32) = nI 10 from rfl, nI_eq (by omega) (by omega)] at c_39
          refine j_iconst (pc := 48) (v := 0) hX dX3_doAddApplicant_48 (by decide) ?_
          refine j_istore (pc := 49) hX dX3_doAddApplicant_49 (by decide) rfl ?_
          obtain ⟨a, -, ha, ea⟩ := shI_nat c_4
          obtain ⟨b, hb1, eb⟩ := inI_nat (n := 100) rfl c_14
          obtain ⟨c, hc1, ec⟩ := inI_nat (n := 50) rfl c_24
          exact main a b c ea eb ec (by rw [addD, if_neg (by rw [c_4, c_14, c_24]; decide), if_neg c_39, ea, eb, ec, nI_clamp (by omega), nI_clamp (by omega), nI_clamp (by omega)]) c_39
        · rw [show (10 : Int32) = nI 10 from rfl, nI_eq (by omega) (by omega)] at c_39
          first | refine j_aload_n (pc := 42) hX dX3_doAddApplicant_42 rfl rfl ?_ | refine j_aload_nq (pc := 42) hX dX3_doAddApplicant_42 rfl rfl ?_
          refine j_iconst (pc := 43) (v := 2) hX dX3_doAddApplicant_43 (by decide) ?_
          refine j_runi (pc := 44) (jr_V (pc := 44) hX kv_X3_82 (by first | assumption | exact jow.r (by assumption)) (c_X3_fails _ _ _ hT _) (by decide) dX3_doAddApplicant_44 rfl rfl (Nat.le_of_ble_eq_true rfl)) (fun r_44 H_44 p_44 z_44 => ?_) jno_x
          obtain ⟨hR, rfl⟩ := p_44
          have hF := JFr.trans hF hR.1
          have hT := hR.2
          exact j_iret hX hQ hr dX3_doAddApplicant_47 ⟨_, rfl, twU_no (t := 2) (by simp [addD, c_4, c_14, c_24, c_39]) hF hT⟩
      · rw [jb_z] at c_24
        change inI rn 0 50 = _ at c_24
        first | refine j_aload_n (pc := 27) hX dX3_doAddApplicant_27 rfl rfl ?_ | refine j_aload_nq (pc := 27) hX dX3_doAddApplicant_27 rfl rfl ?_
        refine j_iconst (pc := 28) (v := 1) hX dX3_doAddApplicant_28 (by decide) ?_
        refine j_runi (pc := 29) (jr_V (pc := 29) hX kv_X3_82 (by first | assumption | exact jow.r (by assumption)) (c_X3_fails _ _ _ hT _) (by decide) dX3_doAddApplicant_29 rfl rfl (Nat.le_of_ble_eq_true rfl)) (fun r_29 H_29 p_29 z_29 => ?_) jno_x
        obtain ⟨hR, rfl⟩ := p_29
        have hF := JFr.trans hF hR.1
        have hT := hR.2
        exact j_iret hX hQ hr dX3_doAddApplicant_32 ⟨_, rfl, twU_no (t := 1) (by simp [addD, c_4, c_14, c_24]) hF hT⟩
def openS (s : Nat → Nat) (n sh lo hi wg : Nat) : Nat → Nat := jup (jup (jup (jup (jup (jup s (63 + 5 * n) sh) (63 + 5 * n + 1) lo) (63 + 5 * n + 2) hi) (63 + 5 * n + 3) wg) (63 + 5 * n + 4) 0) 2 (s 2 + 1)
def openD (s : Nat → Nat) (sh lo hi wg : Int32) : Nat × Int32 × (Nat → Nat) :=
  if ((shI sh || decide (sh = 42)) && (inI lo 0 100 && (inI hi 0 50 && inI wg 1 99))) = false then (1, 0, s) else if s 2 = 6 then (2, 0, s) else (0, nI (s 2), openS s (s 2) sh.toNatClampNeg lo.toNatClampNeg hi.toNatClampNeg wg.toNatClampNeg)
theorem inI_nat1 {v hi : Int32} {n : Nat} (hn : hi.toInt = n) (h : inI v 1 hi = true) : ∃ j : Nat, 1 ≤ j ∧ j ≤ n ∧ v = nI j := by
  unfold inI at h
  simp only [Bool.and_eq_true, decide_eq_true_eq] at h
  have h0 : ¬ v < 0 := Int32.not_lt.mpr (Int32.le_trans (by decide) h.1)
  obtain ⟨j, hj, rfl⟩ := nI_of2 hn h0 h.2
  refine ⟨j, ?_, hj, rfl⟩
  rcases Nat.eq_zero_or_pos j with e | e
  · rw [e] at h; exact absurd h.1 (by decide)
  · exact e
theorem shA_nat {v : Int32} (h : (shI v || decide (v = 42)) = true) : ∃ j : Nat, (isSh j = true ∨ j = 42) ∧ j < 128 ∧ v = nI j := by
  cases e : shI v with
  | true => obtain ⟨j, a, b, c⟩ := shI_nat e; exact ⟨j, Or.inl a, b, c⟩
  | false => rw [e] at h; simp at h; exact ⟨42, Or.inr rfl, by omega, h⟩
theorem c_X3_doOpenPost (l : Launch) (G : JG) (H : Heap) {g : Nat → Nat} {ar : Nat → Nat → Nat} {cm fs : Nat → Int32} (hT : jtw G H g ar cm fs) (hB : Bs (ar 0)) (h6 : fs 6 = 0) (sh lo hi wg : Int32) : JMet l yX3_doOpenPost (ws_ yX3_doOpenPost cX3_doOpenPost 8 (some .int)) 2 0 G H [.ref (g 100), .int sh, .int lo, .int hi, .int wg] (twU G H g ar cm fs (openD (ar 0) sh lo hi wg)) (jno) := by
  refine JMet.of [(0, .inr (some (g 100))), (1, .inl (.int sh)), (2, .inl (.int lo)), (3, .inl (.int hi)), (4, .inl (.int wg))] (by decide) (Nat.le_of_ble_eq_true rfl) rfl (fun X hl hX hQ hEx hr hnm hH => ?_)
  subst hl
  obtain ⟨h0, ho, hs, hbf, hsv, hpa, hou, hip, hcm⟩ := id hT
  have hi2 : vp_in (2 : Int32) 93 := vp_in_nI (n := 2) (by omega) (by decide)
  obtain ⟨h2, hb, hf, hg⟩ := id hB
  have hF : JFr (twP g) H H := JFr.rfl'
  have main : ∀ a b c d : Nat, sh = nI a → lo = nI b → hi = nI c → wg = nI d → openD (ar 0) sh lo hi wg = (0, nI (ar 0 2), openS (ar 0) (ar 0 2) a b c d) → ar 0 2 < 6 → ∀ z : Int32, JW X G H 0 83 [(0, .inr (some (g 100))), (1, .inl (.int sh)), (2, .inl (.int lo)), (3, .inl (.int hi)), (4, .inl (.int wg)), (5, .inl (.int (nI (ar 0 2)))), (6, .inl (.int z))] [] := by
    intro a b c d ea eb ec ee ed en z
    subst ea eb ec ee
    have hn0 : vp_in (nI (63 + 5 * ar 0 2)) 93 := vp_in_nI (by omega) (by decide)
    have hn1 : vp_in (nI (63 + 5 * ar 0 2 + 1)) 93 := vp_in_nI (by omega) (by decide)
    have hn2 : vp_in (nI (63 + 5 * ar 0 2 + 2)) 93 := vp_in_nI (by omega) (by decide)
    have hn3 : vp_in (nI (63 + 5 * ar 0 2 + 3)) 93 := vp_in_nI (by omega) (by decide)
    have hn4 : vp_in (nI (63 + 5 * ar 0 2 + 4)) 93 := vp_in_nI (by omega) (by decide)
    refine j_bipush (pc := 83) (v := 63) hX dX3_doOpenPost_83 (by decide) ?_
    refine j_iconst (pc := 85) (v := 5) hX dX3_doOpenPost_85 (by decide) ?_
    refine j_iload (pc := 86) hX dX3_doOpenPost_86 rfl ?_
    refine j_imul (pc := 88) hX dX3_doOpenPost_88 ?_
    refine j_iadd (pc := 89) hX dX3_doOpenPost_89 ?_
    rw [show (63 : Int32) + 5 * nI (ar 0 2) = nI (63 + 5 * ar 0 2) from by rw [show (63 : Int32) = nI 63 from rfl, show (5 : Int32) = nI 5 from rfl, pk_mul, nI_add]]
    refine j_istore (pc := 90) hX dX3_doOpenPost_90 (by decide) rfl ?_
    first | refine j_aload_n (pc := 92) hX dX3_doOpenPost_92 rfl rfl ?_ | refine j_aload_nq (pc := 92) hX dX3_doOpenPost_92 rfl rfl ?_
    refine j_get (pc := 93) hX kg_X3_9 dX3_doOpenPost_93 (by first | assumption | exact jow.r (by assumption)) (by rfl) ?_
    refine j_iload (pc := 96) hX dX3_doOpenPost_96 rfl ?_
    refine j_iload_n (pc := 98) hX dX3_doOpenPost_98 rfl rfl ?_
    refine j_iast (pc := 99) hX dX3_doOpenPost_99 (by assumption) (h0.1 _ (by decide)) (by assumption) (fun H_99 w_99 n_99 => ?_)
    rw [nI_clamp (by omega)] at n_99
    have hT := tw_arr0 hT w_99 n_99 (tw_hf _ _ _ _)
    have hF := JFr.put hF w_99 (fun _ => ⟨0, by decide, rfl⟩)
    obtain ⟨h0, ho, hs, hbf, hsv, hpa, hou, hip, hcm⟩ := id hT
    first | refine j_aload_n (pc := 100) hX dX3_doOpenPost_100 rfl rfl ?_ | refine j_aload_nq (pc := 100) hX dX3_doOpenPost_100 rfl rfl ?_
    refine j_get (pc := 101) hX kg_X3_9 dX3_doOpenPost_101 (by first | assumption | exact jow.r (by assumption)) (by rfl) ?_
    refine j_iload (pc := 104) hX dX3_doOpenPost_104 rfl ?_
    refine j_iconst (pc := 106) (v := 1) hX dX3_doOpenPost_106 (by decide) ?_
    refine j_iadd (pc := 107) hX dX3_doOpenPost_107 ?_
    rw [show nI (63 + 5 * ar 0 2) + 1 = nI (63 + 5 * ar 0 2 + 1) from nI_add _ 1]
    refine j_iload_n (pc := 108) hX dX3_doOpenPost_108 rfl rfl ?_
    refine j_iast (pc := 109) hX dX3_doOpenPost_109 (by assumption) (h0.1 _ (by decide)) (by assumption) (fun H_109 w_109 n_109 => ?_)
    rw [nI_clamp (by omega)] at n_109
    have hT := tw_arr0 hT w_109 n_109 (tw_hf _ _ _ _)
    have hF := JFr.put hF w_109 (fun _ => ⟨0, by decide, rfl⟩)
    obtain ⟨h0, ho, hs, hbf, hsv, hpa, hou, hip, hcm⟩ := id hT
    first | refine j_aload_n (pc := 110) hX dX3_doOpenPost_110 rfl rfl ?_ | refine j_aload_nq (pc := 110) hX dX3_doOpenPost_110 rfl rfl ?_
    refine j_get (pc := 111) hX kg_X3_9 dX3_doOpenPost_111 (by first | assumption | exact jow.r (by assumption)) (by rfl) ?_
    refine j_iload (pc := 114) hX dX3_doOpenPost_114 rfl ?_
    refine j_iconst (pc := 116) (v := 2) hX dX3_doOpenPost_116 (by decide) ?_
    refine j_iadd (pc := 117) hX dX3_doOpenPost_117 ?_
    rw [show nI (63 + 5 * ar 0 2) + 2 = nI (63 + 5 * ar 0 2 + 2) from nI_add _ 2]
    refine j_iload_n (pc := 118) hX dX3_doOpenPost_118 rfl rfl ?_
    refine j_iast (pc := 119) hX dX3_doOpenPost_119 (by assumption) (h0.1 _ (by decide)) (by assumption) (fun H_119 w_119 n_119 => ?_)
    rw [nI_clamp (by omega)] at n_119
    have hT := tw_arr0 hT w_119 n_119 (tw_hf _ _ _ _)
    have hF := JFr.put hF w_119 (fun _ => ⟨0, by decide, rfl⟩)
    obtain ⟨h0, ho, hs, hbf, hsv, hpa, hou, hip, hcm⟩ := id hT
    first | refine j_aload_n (pc := 120) hX dX3_doOpenPost_120 rfl rfl ?_ | refine j_aload_nq (pc := 120) hX dX3_doOpenPost_120 rfl rfl ?_
    refine j_get (pc := 121) hX kg_X3_9 dX3_doOpenPost_121 (by first | assumption | exact jow.r (by assumption)) (by rfl) ?_
    refine j_iload (pc := 124) hX dX3_doOpenPost_124 rfl ?_
    refine j_iconst (pc := 126) (v := 3) hX dX3_doOpenPost_126 (by decide) ?_
    refine j_iadd (pc := 127) hX dX3_doOpenPost_127 ?_
    rw [show nI (63 + 5 * ar 0 2) + 3 = nI (63 + 5 * ar 0 2 + 3) from nI_add _ 3]
    refine j_iload (pc := 128) hX dX3_doOpenPost_128 rfl ?_
    refine j_iast (pc := 130) hX dX3_doOpenPost_130 (by assumption) (h0.1 _ (by decide)) (by assumption) (fun H_130 w_130 n_130 => ?_)
    rw [nI_clamp (by omega)] at n_130
    have hT := tw_arr0 hT w_130 n_130 (tw_hf _ _ _ _)
    have hF := JFr.put hF w_130 (fun _ => ⟨0, by decide, rfl⟩)
    obtain ⟨h0, ho, hs, hbf, hsv, hpa, hou, hip, hcm⟩ := id hT
    first | refine j_aload_n (pc := 131) hX dX3_doOpenPost_131 rfl rfl ?_ | refine j_aload_nq (pc := 131) hX dX3_doOpenPost_131 rfl rfl ?_
    refine j_get (pc := 132) hX kg_X3_9 dX3_doOpenPost_132 (by first | assumption | exact jow.r (by assumption)) (by rfl) ?_
    refine j_iload (pc := 135) hX dX3_doOpenPost_135 rfl ?_
    refine j_iconst (pc := 137) (v := 4) hX dX3_doOpenPost_137 (by decide) ?_
    refine j_iadd (pc := 138) hX dX3_doOpenPost_138 ?_
    rw [show nI (63 + 5 * ar 0 2) + 4 = nI (63 + 5 * ar 0 2 + 4) from nI_add _ 4]
    refine j_iconst (pc := 139) (v := 0) hX dX3_doOpenPost_139 (by decide) ?_
    refine j_iast (pc := 140) hX dX3_doOpenPost_140 (by assumption) (h0.1 _ (by decide)) (by assumption) (fun H_140 w_140 n_140 => ?_)
    rw [nI_clamp (by omega)] at n_140
    have hT := tw_arr0 hT w_140 n_140 (tw_hf _ _ _ _)
    have hF := JFr.put hF w_140 (fun _ => ⟨0, by decide, rfl⟩)
    obtain ⟨h0, ho, hs, hbf, hsv, hpa, hou, hip, hcm⟩ := id hT
    simp only [jup_jup, jup_same] at hT
    obtain ⟨h0, ho, hs, hbf, hsv, hpa, hou, hip, hcm⟩ := id hT
    have eS2 : jup (jup (jup (jup (jup (ar 0) (63 + 5 * ar 0 2) a) (63 + 5 * ar 0 2 + 1) b) (63 + 5 * ar 0 2 + 2) c) (63 + 5 * ar 0 2 + 3) d) (63 + 5 * ar 0 2 + 4) 0 2 = ar 0 2 := by rw [jup_ne (by omega), jup_ne (by omega), jup_ne (by omega), jup_ne (by omega), jup_ne (by omega)]
    generalize eS : jup (jup (jup (jup (jup (ar 0) (63 + 5 * ar 0 2) a) (63 + 5 * ar 0 2 + 1) b) (63 + 5 * ar 0 2 + 2) c) (63 + 5 * ar 0 2 + 3) d) (63 + 5 * ar 0 2 + 4) 0 = S at *
    first | refine j_aload_n (pc := 141) hX dX3_doOpenPost_141 rfl rfl ?_ | refine j_aload_nq (pc := 141) hX dX3_doOpenPost_141 rfl rfl ?_
    refine j_get (pc := 142) hX kg_X3_9 dX3_doOpenPost_142 (by first | assumption | exact jow.r (by assumption)) (by rfl) ?_
    refine j_iconst (pc := 145) (v := 2) hX dX3_doOpenPost_145 (by decide) ?_
    refine j_dup2_11 (pc := 146) hX dX3_doOpenPost_146 (by first | rfl | exact jrf_cat _) (by first | rfl | exact jrf_cat _) ?_
    refine j_iald (pc := 147) hX dX3_doOpenPost_147 (by first | assumption | exact jaw.r hX (by decide) (by assumption)) (by assumption) ?_
    change JW X _ _ 0 148 _ [.int (nI (S 2)), _, _]
    refine j_iconst (pc := 148) (v := 1) hX dX3_doOpenPost_148 (by decide) ?_
    refine j_iadd (pc := 149) hX dX3_doOpenPost_149 ?_
    rw [nI_1, eS2]
    refine j_iast (pc := 150) hX dX3_doOpenPost_150 (by assumption) (h0.1 _ (by decide)) (by assumption) (fun H_150 w_150 n_150 => ?_)
    have hT := tw_arr0 hT w_150 n_150 (tw_hf _ _ _ _)
    have hF := JFr.put hF w_150 (fun _ => ⟨0, by decide, rfl⟩)
    obtain ⟨h0, ho, hs, hbf, hsv, hpa, hou, hip, hcm⟩ := id hT
    refine j_iload (pc := 151) hX dX3_doOpenPost_151 rfl ?_
    exact j_iret hX hQ hr dX3_doOpenPost_153 ⟨_, rfl, twU_ok h6 ed hF (by simp only [jup_jup, jup_same] at hT; unfold openS; rw [eS]; exact hT)⟩
  first | refine j_aload_n (pc := 0) hX dX3_doOpenPost_0 rfl rfl ?_ | refine j_aload_nq (pc := 0) hX dX3_doOpenPost_0 rfl rfl ?_
  refine j_get (pc := 1) hX kg_X3_9 dX3_doOpenPost_1 (by first | assumption | exact jow.r (by assumption)) (by rfl) ?_
  refine j_iconst (pc := 4) (v := 2) hX dX3_doOpenPost_4 (by decide) ?_
  refine j_iald (pc := 5) hX dX3_doOpenPost_5 (by first | assumption | exact jaw.r hX (by decide) (by assumption)) (by assumption) ?_
  change JW X G H 0 6 _ [.int (nI (ar 0 2))]
  refine j_istore (pc := 6) hX dX3_doOpenPost_6 (by decide) rfl ?_
  refine j_iload_n (pc := 8) hX dX3_doOpenPost_8 rfl rfl ?_
  refine j_rune (pc := 9) (jr_S (pc := 9) hX ks_X3_79 (c_X3_isShape _ _ _ _) (by decide) dX3_doOpenPost_9 rfl rfl (Nat.le_of_ble_eq_true rfl)) ?_ jno_x
  refine j_if_ne (pc := 12) (tgt := 21) hX dX3_doOpenPost_12 (by decide) (fun c_12 => ?_) (fun c_12 => ?_)
  · rw [jb_n] at c_12
    change shI sh = _ at c_12
    have c_18 := True.intro
    refine j_iload_n (pc := 21) hX dX3_doOpenPost_21 rfl rfl ?_
    refine j_iconst (pc := 22) (v := 0) hX dX3_doOpenPost_22 (by decide) ?_
    refine j_bipush (pc := 23) (v := 100) hX dX3_doOpenPost_23 (by decide) ?_
    refine j_rune (pc := 25) (jr_S (pc := 25) hX ks_X3_51 (c_X3_in _ _ _ _ _ _) (by decide) dX3_doOpenPost_25 rfl rfl (Nat.le_of_ble_eq_true rfl)) ?_ jno_x
    refine j_if_eq (pc := 28) (tgt := 56) hX dX3_doOpenPost_28 (by decide) (fun c_28 => ?_) (fun c_28 => ?_)
    · rw [jb_z] at c_28
      change inI lo 0 100 = _ at c_28
      refine j_iconst (pc := 56) (v := 0) hX dX3_doOpenPost_56 (by decide) ?_
      refine j_istore (pc := 57) hX dX3_doOpenPost_57 (by decide) rfl ?_
      refine j_iload (pc := 59) hX dX3_doOpenPost_59 rfl ?_
      refine j_if_ne (pc := 61) (tgt := 70) hX dX3_doOpenPost_61 (by decide) (fun c_61 => ?_) (fun c_61 => ?_)
      · first | exact absurd c_61 (by decide) | (change ¬ (0 : Int32) = 0 at c_61; exact absurd c_61 (by decide))
      first | refine j_aload_n (pc := 64) hX dX3_doOpenPost_64 rfl rfl ?_ | refine j_aload_nq (pc := 64) hX dX3_doOpenPost_64 rfl rfl ?_
      refine j_iconst (pc := 65) (v := 1) hX dX3_doOpenPost_65 (by decide) ?_
      refine j_runi (pc := 66) (jr_V (pc := 66) hX kv_X3_82 (by first | assumption | exact jow.r (by assumption)) (c_X3_fails _ _ _ hT _) (by decide) dX3_doOpenPost_66 rfl rfl (Nat.le_of_ble_eq_true rfl)) (fun r_66 H_66 p_66 z_66 => ?_) jno_x
      obtain ⟨hR, rfl⟩ := p_66
      have hF := JFr.trans hF hR.1
      have hT := hR.2
      exact j_iret hX hQ hr dX3_doOpenPost_69 ⟨_, rfl, twU_no (t := 1) (by simp [openD, c_12, c_28]) hF hT⟩
    · rw [jb_n] at c_28
      change inI lo 0 100 = _ at c_28
      refine j_iload_n (pc := 31) hX dX3_doOpenPost_31 rfl rfl ?_
      refine j_iconst (pc := 32) (v := 0) hX dX3_doOpenPost_32 (by decide) ?_
      refine j_bipush (pc := 33) (v := 50) hX dX3_doOpenPost_33 (by decide) ?_
      refine j_rune (pc := 35) (jr_S (pc := 35) hX ks_X3_51 (c_X3_in _ _ _ _ _ _) (by decide) dX3_doOpenPost_35 rfl rfl (Nat.le_of_ble_eq_true rfl)) ?_ jno_x
      refine j_if_eq (pc := 38) (tgt := 56) hX dX3_doOpenPost_38 (by decide) (fun c_38 => ?_) (fun c_38 => ?_)
      · rw [jb_z] at c_38
        change inI hi 0 50 = _ at c_38
        refine j_iconst (pc := 56) (v := 0) hX dX3_doOpenPost_56 (by decide) ?_
        refine j_istore (pc := 57) hX dX3_doOpenPost_57 (by decide) rfl ?_
        refine j_iload (pc := 59) hX dX3_doOpenPost_59 rfl ?_
        refine j_if_ne (pc := 61) (tgt := 70) hX dX3_doOpenPost_61 (by decide) (fun c_61 => ?_) (fun c_61 => ?_)
        · first | exact absurd c_61 (by decide) | (change ¬ (0 : Int32) = 0 at c_61; exact absurd c_61 (by decide))
        first | refine j_aload_n (pc := 64) hX dX3_doOpenPost_64 rfl rfl ?_ | refine j_aload_nq (pc := 64) hX dX3_doOpenPost_64 rfl rfl ?_
        refine j_iconst (pc := 65) (v := 1) hX dX3_doOpenPost_65 (by decide) ?_
        refine j_runi (pc := 66) (jr_V (pc := 66) hX kv_X3_82 (by first | assumption | exact jow.r (by assumption)) (c_X3_fails _ _ _ hT _) (by decide) dX3_doOpenPost_66 rfl rfl (Nat.le_of_ble_eq_true rfl)) (fun r_66 H_66 p_66 z_66 => ?_) jno_x
        obtain ⟨hR, rfl⟩ := p_66
        have hF := JFr.trans hF hR.1
        have hT := hR.2
        exact j_iret hX hQ hr dX3_doOpenPost_69 ⟨_, rfl, twU_no (t := 1) (by simp [openD, c_12, c_28, c_38]) hF hT⟩
      · rw [jb_n] at c_38
        change inI hi 0 50 = _ at c_38
        refine j_iload (pc := 41) hX dX3_doOpenPost_41 rfl ?_
        refine j_iconst (pc := 43) (v := 1) hX dX3_doOpenPost_43 (by decide) ?_
        refine j_bipush (pc := 44) (v := 99) hX dX3_doOpenPost_44 (by decide) ?_
        refine j_rune (pc := 46) (jr_S (pc := 46) hX ks_X3_51 (c_X3_in _ _ _ _ _ _) (by decide) dX3_doOpenPost_46 rfl rfl (Nat.le_of_ble_eq_true rfl)) ?_ jno_x
        refine j_if_eq (pc := 49) (tgt := 56) hX dX3_doOpenPost_49 (by decide) (fun c_49 => ?_) (fun c_49 => ?_)
        · rw [jb_z] at c_49
          change inI wg 1 99 = _ at c_49
          refine j_iconst (pc := 56) (v := 0) hX dX3_doOpenPost_56 (by decide) ?_
          refine j_istore (pc := 57) hX dX3_doOpenPost_57 (by decide) rfl ?_
          refine j_iload (pc := 59) hX dX3_doOpenPost_59 rfl ?_
          refine j_if_ne (pc := 61) (tgt := 70) hX dX3_doOpenPost_61 (by decide) (fun c_61 => ?_) (fun c_61 => ?_)
          · first | exact absurd c_61 (by decide) | (change ¬ (0 : Int32) = 0 at c_61; exact absurd c_61 (by decide))
          first | refine j_aload_n (pc := 64) hX dX3_doOpenPost_64 rfl rfl ?_ | refine j_aload_nq (pc := 64) hX dX3_doOpenPost_64 rfl rfl ?_
          refine j_iconst (pc := 65) (v := 1) hX dX3_doOpenPost_65 (by decide) ?_
          refine j_runi (pc := 66) (jr_V (pc := 66) hX kv_X3_82 (by first | assumption | exact jow.r (by assumption)) (c_X3_fails _ _ _ hT _) (by decide) dX3_doOpenPost_66 rfl rfl (Nat.le_of_ble_eq_true rfl)) (fun r_66 H_66 p_66 z_66 => ?_) jno_x
          obtain ⟨hR, rfl⟩ := p_66
          have hF := JFr.trans hF hR.1
          have hT := hR.2
          exact j_iret hX hQ hr dX3_doOpenPost_69 ⟨_, rfl, twU_no (t := 1) (by simp [openD, c_12, c_28, c_38, c_49]) hF hT⟩
        · rw [jb_n] at c_49
          change inI wg 1 99 = _ at c_49
          refine j_iconst (pc := 52) (v := 1) hX dX3_doOpenPost_52 (by decide) ?_
          refine j_goto (pc := 53) (tgt := 57) hX dX3_doOpenPost_53 (by decide) ?_
          refine j_istore (pc := 57) hX dX3_doOpenPost_57 (by decide) rfl ?_
          refine j_iload (pc := 59) hX dX3_doOpenPost_59 rfl ?_
          refine j_if_ne (pc := 61) (tgt := 70) hX dX3_doOpenPost_61 (by decide) (fun c_61 => ?_) (fun c_61 => ?_)
          rotate_left
          · first | exact absurd c_61 (by decide) | (change (1 : Int32) = 0 at c_61; exact absurd c_61 (by decide))
          refine j_iload (pc := 70) hX dX3_doOpenPost_70 rfl ?_
          refine j_bipush (pc := 72) (v := 6) hX dX3_doOpenPost_72 (by decide) ?_
          refine j_icmp_ne (pc := 74) (tgt := 83) hX dX3_doOpenPost_74 (by decide) (fun c_74 => ?_) (fun c_74 => ?_)
          · rw [show (6 : Int32) = nI 6 from rfl, nI_eq (by omega) (by omega)] at c_74
            have c_ok : (shI sh || decide (sh = 42)) = true := by simp [c_12, c_18]
            obtain ⟨a, -, ha, ea⟩ := shA_nat c_ok
            obtain ⟨b, hb1, eb⟩ := inI_nat (n := 100) rfl c_28
            obtain ⟨c, hc1, ec⟩ := inI_nat (n := 50) rfl c_38
            obtain ⟨d, -, hd1, ee⟩ := inI_nat1 (n := 99) rfl c_49
            exact main a b c d ea eb ec ee (by rw [openD, if_neg (by rw [c_ok, c_28, c_38, c_49]; decide), if_neg c_74, ea, eb, ec, ee, nI_clamp (by omega), nI_clamp (by omega), nI_clamp (by omega), nI_clamp (by omega)]) (by omega) _
          · rw [show (6 : Int32) = nI 6 from rfl, nI_eq (by omega) (by omega)] at c_74
            first | refine j_aload_n (pc := 77) hX dX3_doOpenPost_77 rfl rfl ?_ | refine j_aload_nq (pc := 77) hX dX3_doOpenPost_77 rfl rfl ?_
            refine j_iconst (pc := 78) (v := 2) hX dX3_doOpenPost_78 (by decide) ?_
            refine j_runi (pc := 79) (jr_V (pc := 79) hX kv_X3_82 (by first | assumption | exact jow.r (by assumption)) (c_X3_fails _ _ _ hT _) (by decide) dX3_doOpenPost_79 rfl rfl (Nat.le_of_ble_eq_true rfl)) (fun r_79 H_79 p_79 z_79 => ?_) jno_x
            obtain ⟨hR, rfl⟩ := p_79
            have hF := JFr.trans hF hR.1
            have hT := hR.2
            exact j_iret hX hQ hr dX3_doOpenPost_82 ⟨_, rfl, twU_no (t := 2) (by simp [openD, c_12, c_28, c_38, c_49, c_74]) hF hT⟩
  · rw [jb_z] at c_12
    change shI sh = _ at c_12
    refine j_iload_n (pc := 15) hX dX3_doOpenPost_15 rfl rfl ?_
    refine j_bipush (pc := 16) (v := 42) hX dX3_doOpenPost_16 (by decide) ?_
    refine j_icmp_ne (pc := 18) (tgt := 56) hX dX3_doOpenPost_18 (by decide) (fun c_18 => ?_) (fun c_18 => ?_)
    · refine j_iconst (pc := 56) (v := 0) hX dX3_doOpenPost_56 (by decide) ?_
      refine j_istore (pc := 57) hX dX3_doOpenPost_57 (by decide) rfl ?_
      refine j_iload (pc := 59) hX dX3_doOpenPost_59 rfl ?_
      refine j_if_ne (pc := 61) (tgt := 70) hX dX3_doOpenPost_61 (by decide) (fun c_61 => ?_) (fun c_61 => ?_)
      · first | exact absurd c_61 (by decide) | (change ¬ (0 : Int32) = 0 at c_61; exact absurd c_61 (by decide))
      first | refine j_aload_n (pc := 64) hX dX3_doOpenPost_64 rfl rfl ?_ | refine j_aload_nq (pc := 64) hX dX3_doOpenPost_64 rfl rfl ?_
      refine j_iconst (pc := 65) (v := 1) hX dX3_doOpenPost_65 (by decide) ?_
      refine j_runi (pc := 66) (jr_V (pc := 66) hX kv_X3_82 (by first | assumption | exact jow.r (by assumption)) (c_X3_fails _ _ _ hT _) (by decide) dX3_doOpenPost_66 rfl rfl (Nat.le_of_ble_eq_true rfl)) (fun r_66 H_66 p_66 z_66 => ?_) jno_x
      obtain ⟨hR, rfl⟩ := p_66
      have hF := JFr.trans hF hR.1
      have hT := hR.2
      exact j_iret hX hQ hr dX3_doOpenPost_69 ⟨_, rfl, twU_no (t := 1) (by simp [openD, c_12, c_18]) hF hT⟩
    · refine j_iload_n (pc := 21) hX dX3_doOpenPost_21 rfl rfl ?_
      refine j_iconst (pc := 22) (v := 0) hX dX3_doOpenPost_22 (by decide) ?_
      refine j_bipush (pc := 23) (v := 100) hX dX3_doOpenPost_23 (by decide) ?_
      refine j_rune (pc := 25) (jr_S (pc := 25) hX ks_X3_51 (c_X3_in _ _ _ _ _ _) (by decide) dX3_doOpenPost_25 rfl rfl (Nat.le_of_ble_eq_true rfl)) ?_ jno_x
      refine j_if_eq (pc := 28) (tgt := 56) hX dX3_doOpenPost_28 (by decide) (fun c_28 => ?_) (fun c_28 => ?_)
      · rw [jb_z] at c_28
        change inI lo 0 100 = _ at c_28
        refine j_iconst (pc := 56) (v := 0) hX dX3_doOpenPost_56 (by decide) ?_
        refine j_istore (pc := 57) hX dX3_doOpenPost_57 (by decide) rfl ?_
        refine j_iload (pc := 59) hX dX3_doOpenPost_59 rfl ?_
        refine j_if_ne (pc := 61) (tgt := 70) hX dX3_doOpenPost_61 (by decide) (fun c_61 => ?_) (fun c_61 => ?_)
        · first | exact absurd c_61 (by decide) | (change ¬ (0 : Int32) = 0 at c_61; exact absurd c_61 (by decide))
        first | refine j_aload_n (pc := 64) hX dX3_doOpenPost_64 rfl rfl ?_ | refine j_aload_nq (pc := 64) hX dX3_doOpenPost_64 rfl rfl ?_
        refine j_iconst (pc := 65) (v := 1) hX dX3_doOpenPost_65 (by decide) ?_
        refine j_runi (pc := 66) (jr_V (pc := 66) hX kv_X3_82 (by first | assumption | exact jow.r (by assumption)) (c_X3_fails _ _ _ hT _) (by decide) dX3_doOpenPost_66 rfl rfl (Nat.le_of_ble_eq_true rfl)) (fun r_66 H_66 p_66 z_66 => ?_) jno_x
        obtain ⟨hR, rfl⟩ := p_66
        have hF := JFr.trans hF hR.1
        have hT := hR.2
        exact j_iret hX hQ hr dX3_doOpenPost_69 ⟨_, rfl, twU_no (t := 1) (by simp [openD, c_12, c_18, c_28]) hF hT⟩
      · rw [jb_n] at c_28
        change inI lo 0 100 = _ at c_28
        refine j_iload_n (pc := 31) hX dX3_doOpenPost_31 rfl rfl ?_
        refine j_iconst (pc := 32) (v := 0) hX dX3_doOpenPost_32 (by decide) ?_
        refine j_bipush (pc := 33) (v := 50) hX dX3_doOpenPost_33 (by decide) ?_
        refine j_rune (pc := 35) (jr_S (pc := 35) hX ks_X3_51 (c_X3_in _ _ _ _ _ _) (by decide) dX3_doOpenPost_35 rfl rfl (Nat.le_of_ble_eq_true rfl)) ?_ jno_x
        refine j_if_eq (pc := 38) (tgt := 56) hX dX3_doOpenPost_38 (by decide) (fun c_38 => ?_) (fun c_38 => ?_)
        · rw [jb_z] at c_38
          change inI hi 0 50 = _ at c_38
          refine j_iconst (pc := 56) (v := 0) hX dX3_doOpenPost_56 (by decide) ?_
          refine j_istore (pc := 57) hX dX3_doOpenPost_57 (by decide) rfl ?_
          refine j_iload (pc := 59) hX dX3_doOpenPost_59 rfl ?_
          refine j_if_ne (pc := 61) (tgt := 70) hX dX3_doOpenPost_61 (by decide) (fun c_61 => ?_) (fun c_61 => ?_)
          · first | exact absurd c_61 (by decide) | (change ¬ (0 : Int32) = 0 at c_61; exact absurd c_61 (by decide))
          first | refine j_aload_n (pc := 64) hX dX3_doOpenPost_64 rfl rfl ?_ | refine j_aload_nq (pc := 64) hX dX3_doOpenPost_64 rfl rfl ?_
          refine j_iconst (pc := 65) (v := 1) hX dX3_doOpenPost_65 (by decide) ?_
          refine j_runi (pc := 66) (jr_V (pc := 66) hX kv_X3_82 (by first | assumption | exact jow.r (by assumption)) (c_X3_fails _ _ _ hT _) (by decide) dX3_doOpenPost_66 rfl rfl (Nat.le_of_ble_eq_true rfl)) (fun r_66 H_66 p_66 z_66 => ?_) jno_x
          obtain ⟨hR, rfl⟩ := p_66
          have hF := JFr.trans hF hR.1
          have hT := hR.2
          exact j_iret hX hQ hr dX3_doOpenPost_69 ⟨_, rfl, twU_no (t := 1) (by simp [openD, c_12, c_18, c_28, c_38]) hF hT⟩
        · rw [jb_n] at c_38
          change inI hi 0 50 = _ at c_38
          refine j_iload (pc := 41) hX dX3_doOpenPost_41 rfl ?_
          refine j_iconst (pc := 43) (v := 1) hX dX3_doOpenPost_43 (by decide) ?_
          refine j_bipush (pc := 44) (v := 99) hX dX3_doOpenPost_44 (by decide) ?_
          refine j_rune (pc := 46) (jr_S (pc := 46) hX ks_X3_51 (c_X3_in _ _ _ _ _ _) (by decide) dX3_doOpenPost_46 rfl rfl (Nat.le_of_ble_eq_true rfl)) ?_ jno_x
          refine j_if_eq (pc := 49) (tgt := 56) hX dX3_doOpenPost_49 (by decide) (fun c_49 => ?_) (fun c_49 => ?_)
          · rw [jb_z] at c_49
            change inI wg 1 99 = _ at c_49
            refine j_iconst (pc := 56) (v := 0) hX dX3_doOpenPost_56 (by decide) ?_
            refine j_istore (pc := 57) hX dX3_doOpenPost_57 (by decide) rfl ?_
            refine j_iload (pc := 59) hX dX3_doOpenPost_59 rfl ?_
            refine j_if_ne (pc := 61) (tgt := 70) hX dX3_doOpenPost_61 (by decide) (fun c_61 => ?_) (fun c_61 => ?_)
            · first | exact absurd c_61 (by decide) | (change ¬ (0 : Int32) = 0 at c_61; exact absurd c_61 (by decide))
            first | refine j_aload_n (pc := 64) hX dX3_doOpenPost_64 rfl rfl ?_ | refine j_aload_nq (pc := 64) hX dX3_doOpenPost_64 rfl rfl ?_
            refine j_iconst (pc := 65) (v := 1) hX dX3_doOpenPost_65 (by decide) ?_
            refine j_runi (pc := 66) (jr_V (pc := 66) hX kv_X3_82 (by first | assumption | exact jow.r (by assumption)) (c_X3_fails _ _ _ hT _) (by decide) dX3_doOpenPost_66 rfl rfl (Nat.le_of_ble_eq_true rfl)) (fun r_66 H_66 p_66 z_66 => ?_) jno_x
            obtain ⟨hR, rfl⟩ := p_66
            have hF := JFr.trans hF hR.1
            have hT := hR.2
            exact j_iret hX hQ hr dX3_doOpenPost_69 ⟨_, rfl, twU_no (t := 1) (by simp [openD, c_12, c_18, c_28, c_38, c_49]) hF hT⟩
          · rw [jb_n] at c_49
            change inI wg 1 99 = _ at c_49
            refine j_iconst (pc := 52) (v := 1) hX dX3_doOpenPost_52 (by decide) ?_
            refine j_goto (pc := 53) (tgt := 57) hX dX3_doOpenPost_53 (by decide) ?_
            refine j_istore (pc := 57) hX dX3_doOpenPost_57 (by decide) rfl ?_
            refine j_iload (pc := 59) hX dX3_doOpenPost_59 rfl ?_
            refine j_if_ne (pc := 61) (tgt := 70) hX dX3_doOpenPost_61 (by decide) (fun c_61 => ?_) (fun c_61 => ?_)
            rotate_left
            · first | exact absurd c_61 (by decide) | (change (1 : Int32) = 0 at c_61; exact absurd c_61 (by decide))
            refine j_iload (pc := 70) hX dX3_doOpenPost_70 rfl ?_
            refine j_bipush (pc := 72) (v := 6) hX dX3_doOpenPost_72 (by decide) ?_
            refine j_icmp_ne (pc := 74) (tgt := 83) hX dX3_doOpenPost_74 (by decide) (fun c_74 => ?_) (fun c_74 => ?_)
            · rw [show (6 : Int32) = nI 6 from rfl, nI_eq (by omega) (by omega)] at c_74
              have c_ok : (shI sh || decide (sh = 42)) = true := by simp [c_12, c_18]
              obtain ⟨a, -, ha, ea⟩ := shA_nat c_ok
              obtain ⟨b, hb1, eb⟩ := inI_nat (n := 100) rfl c_28
              obtain ⟨c, hc1, ec⟩ := inI_nat (n := 50) rfl c_38
              obtain ⟨d, -, hd1, ee⟩ := inI_nat1 (n := 99) rfl c_49
              exact main a b c d ea eb ec ee (by rw [openD, if_neg (by rw [c_ok, c_28, c_38, c_49]; decide), if_neg c_74, ea, eb, ec, ee, nI_clamp (by omega), nI_clamp (by omega), nI_clamp (by omega), nI_clamp (by omega)]) (by omega) _
            · rw [show (6 : Int32) = nI 6 from rfl, nI_eq (by omega) (by omega)] at c_74
              first | refine j_aload_n (pc := 77) hX dX3_doOpenPost_77 rfl rfl ?_ | refine j_aload_nq (pc := 77) hX dX3_doOpenPost_77 rfl rfl ?_
              refine j_iconst (pc := 78) (v := 2) hX dX3_doOpenPost_78 (by decide) ?_
              refine j_runi (pc := 79) (jr_V (pc := 79) hX kv_X3_82 (by first | assumption | exact jow.r (by assumption)) (c_X3_fails _ _ _ hT _) (by decide) dX3_doOpenPost_79 rfl rfl (Nat.le_of_ble_eq_true rfl)) (fun r_79 H_79 p_79 z_79 => ?_) jno_x
              obtain ⟨hR, rfl⟩ := p_79
              have hF := JFr.trans hF hR.1
              have hT := hR.2
              exact j_iret hX hQ hr dX3_doOpenPost_82 ⟨_, rfl, twU_no (t := 2) (by simp [openD, c_12, c_18, c_28, c_38, c_49, c_74]) hF hT⟩
