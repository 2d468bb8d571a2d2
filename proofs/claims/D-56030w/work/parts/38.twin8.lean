/-! the reference: changes of applicants and references -/
set_option maxRecDepth 100000
theorem Bs.up {s : Nat → Nat} {i v : Nat} (h : Bs s) (h1 : v < 2 ^ 24) (h2 : i = 2 → v ≤ 6) (h3 : ∀ p, p < 6 → i = 63 + 5 * p + 4 → v ≤ 10) (h4 : ∀ k, k < 10 → i = 3 + 6 * k + 5 → v < 1024) : Bs (jup s i v) := by
  obtain ⟨a, b, c, d⟩ := h
  refine ⟨?_, fun j hj => ?_, fun p hp => ?_, fun k hk => ?_⟩
  · unfold jup; split
    · next e => exact h2 e.symm
    · exact a
  · unfold jup; split
    · exact h1
    · exact b j hj
  · have := c p hp
    unfold pFl jup at *; split
    · next e => exact h3 p hp e.symm
    · exact this
  · have := d k hk
    unfold aGv jup at *; split
    · next e => exact h4 k hk e.symm
    · exact this
theorem Bs.up0 {s : Nat → Nat} {i : Nat} (h : Bs s) : Bs (jup s i 0) := h.up (by decide) (fun _ => by decide) (fun _ _ _ => by decide) (fun _ _ _ => by decide)
def clrF (k o : Nat) (s : Nat → Nat) : Nat → Nat := jup s (3 + 6 * o + 5) (clrB (aGv s o) k)
def zerF (k w : Nat) (s : Nat → Nat) : Nat → Nat := jup s (3 + 6 * k + w) 0
def emptyN (s : Nat → Nat) (k : Nat) : Nat → Nat := match fillN s k with | none => s | some p => jup s (63 + 5 * p + 4) 0
def goesN (s : Nat → Nat) (k : Nat) : Nat → Nat := jfold (zerF k) 6 (jfold (clrF k) 10 (emptyN s k))
theorem emptyN_B {s : Nat → Nat} {k : Nat} (h : Bs s) : Bs (emptyN s k) := by
  unfold emptyN; split
  · exact h
  · exact h.up0
theorem clrF_B {s : Nat → Nat} {k : Nat} (h : Bs s) : ∀ i, i ≤ 10 → Bs (jfold (clrF k) i s) := by
  intro i
  induction i with
  | zero => intro _; exact h
  | succ i ih =>
    intro hi
    have q := ih (by omega)
    have b := q.2.2.2 i (by omega)
    have c := clrB_le (aGv (jfold (clrF k) i s) i) k
    exact q.up (by omega) (fun z => by omega) (fun p _ z => by omega) (fun o _ z => by omega)
theorem zerF_B {s : Nat → Nat} {k : Nat} (h : Bs s) : ∀ i, Bs (jfold (zerF k) i s) := by
  intro i
  induction i with
  | zero => exact h
  | succ i ih => exact ih.up0
theorem goesN_B {s : Nat → Nat} {k : Nat} (h : Bs s) : Bs (goesN s k) := zerF_B (clrF_B (emptyN_B h) 10 (by omega)) 6
theorem c_X3_goes (l : Launch) (G : JG) (H : Heap) {g : Nat → Nat} {ar : Nat → Nat → Nat} {cm fs : Nat → Int32} (hT : jtw G H g ar cm fs) (hB : Bs (ar 0)) (k : Nat) (hk : k < 10) : JMet l yX3_goes (ws_ yX3_goes cX3_goes 4 none) 3 0 G H [.ref (g 100), .int (nI k)] (twV G H g (jup ar 0 (goesN (ar 0) k)) cm fs) (jno) := by
  refine JMet.of [(0, .inr (some (g 100))), (1, .inl (.int (nI k)))] (by decide) (Nat.le_of_ble_eq_true rfl) rfl (fun X hl hX hQ hEx hr hnm hH => ?_)
  subst hl
  obtain ⟨h0, ho, hs, hbf, hsv, hpa, hou, hip, hcm⟩ := id hT
  have hi2 : vp_in (2 : Int32) 93 := vp_in_nI (n := 2) (by omega) (by decide)
  obtain ⟨h2, hb, hf, hg⟩ := id hB
  have hF : JFr (twP g) H H := JFr.rfl'
  have part3 : ∀ (x3 : Int32) (H1 : Heap), JFr (twP g) H H1 → jtw G H1 g (jup ar 0 (jfold (clrF k) 10 (emptyN (ar 0) k))) cm fs → JW X G H1 0 56 [(0, .inr (some (g 100))), (1, .inl (.int (nI k))), (2, .inl (.int (oI (fillN (ar 0) k)))), (3, .inl (.int x3))] [] := by
    intro x3 H1 hF hT
    refine j_iconst (pc := 56) (v := 0) hX dX3_goes_56 (by decide) ?_
    refine j_istore_n (pc := 57) hX dX3_goes_57 rfl (by decide) rfl ?_
    refine jloop (P := fun i => ∀ H1, JFr (twP g) H H1 → jtw G H1 g (jup ar 0 (jfold (zerF k) i (jfold (clrF k) 10 (emptyN (ar 0) k)))) cm fs → JW X G H1 0 58 [(0, .inr (some (g 100))), (1, .inl (.int (nI k))), (2, .inl (.int (oI (fillN (ar 0) k)))), (3, .inl (.int (nI i)))] []) 6 (fun H1 hF hT => ?_) (fun i hi ih H1 hF hT => ?_) 0 (by omega) _ hF hT
    · refine j_iload_n (pc := 58) hX dX3_goes_58 rfl rfl ?_
      refine j_bipush (pc := 59) (v := 6) hX dX3_goes_59 (by decide) ?_
      refine j_icmp_ge (pc := 61) (tgt := 77) hX dX3_goes_61 (by decide) (fun c_61 => ?_) (fun c_61 => ?_)
      rotate_left
      · exact absurd (jge_no (a := 6) c_61 (by omega) (by omega)) (by omega)
      exact j_vret hX hQ hr dX3_goes_77 ⟨rfl, hF, hT⟩
    · have ho := hT.2.1
      refine j_iload_n (pc := 58) hX dX3_goes_58 rfl rfl ?_
      refine j_bipush (pc := 59) (v := 6) hX dX3_goes_59 (by decide) ?_
      refine j_icmp_ge (pc := 61) (tgt := 77) hX dX3_goes_61 (by decide) (fun c_61 => ?_) (fun c_61 => ?_)
      · exact absurd (jge_yes (a := 6) c_61 (by omega) (by omega)) (by omega)
      first | refine j_aload_n (pc := 64) hX dX3_goes_64 rfl rfl ?_ | refine j_aload_nq (pc := 64) hX dX3_goes_64 rfl rfl ?_
      refine j_iload_n (pc := 65) hX dX3_goes_65 rfl rfl ?_
      refine j_iload_n (pc := 66) hX dX3_goes_66 rfl rfl ?_
      refine j_iconst (pc := 67) (v := 0) hX dX3_goes_67 (by decide) ?_
      refine j_runv (pc := 68) (jr_V (pc := 68) hX kv_X3_89 (by first | assumption | exact jow.r (by assumption)) (c_X3_sets _ _ _ hT k i 0 hk hi) (by decide) dX3_goes_68 rfl rfl (Nat.le_of_ble_eq_true rfl)) (fun H_68 p_68 z_68 => ?_) jno_x
      have hF := JFr.trans hF p_68.1
      have hT := p_68.2
      obtain ⟨h0, ho, hs, hbf, hsv, hpa, hou, hip, hcm⟩ := id hT
      refine j_iincc (pc := 71) (m := 1) hX dX3_goes_71 rfl (by decide) (by decide) rfl ?_
      refine j_goto (pc := 74) (tgt := 58) hX dX3_goes_74 (by decide) ?_
      simp only [jup_jup, jup_same] at hT
      exact j_lv (by simp [jsb, jget, jval, nI_1]) (ih _ hF hT)
  have part2 : ∀ (H1 : Heap), JFr (twP g) H H1 → jtw G H1 g (jup ar 0 (emptyN (ar 0) k)) cm fs → JW X G H1 0 24 [(0, .inr (some (g 100))), (1, .inl (.int (nI k))), (2, .inl (.int (oI (fillN (ar 0) k))))] [] := by
    intro H1 hF hT
    refine j_iconst (pc := 24) (v := 0) hX dX3_goes_24 (by decide) ?_
    refine j_istore_n (pc := 25) hX dX3_goes_25 rfl (by decide) rfl ?_
    refine jloop (P := fun i => ∀ H1, JFr (twP g) H H1 → jtw G H1 g (jup ar 0 (jfold (clrF k) i (emptyN (ar 0) k))) cm fs → JW X G H1 0 26 [(0, .inr (some (g 100))), (1, .inl (.int (nI k))), (2, .inl (.int (oI (fillN (ar 0) k)))), (3, .inl (.int (nI i)))] []) 10 (fun H1 hF hT => ?_) (fun i hi ih H1 hF hT => ?_) 0 (by omega) _ hF hT
    · refine j_iload_n (pc := 26) hX dX3_goes_26 rfl rfl ?_
      refine j_bipush (pc := 27) (v := 10) hX dX3_goes_27 (by decide) ?_
      refine j_icmp_ge (pc := 29) (tgt := 56) hX dX3_goes_29 (by decide) (fun c_29 => ?_) (fun c_29 => ?_)
      rotate_left
      · exact absurd (jge_no (a := 10) c_29 (by omega) (by omega)) (by omega)
      exact part3 _ _ hF hT
    · have ho := hT.2.1
      refine j_iload_n (pc := 26) hX dX3_goes_26 rfl rfl ?_
      refine j_bipush (pc := 27) (v := 10) hX dX3_goes_27 (by decide) ?_
      refine j_icmp_ge (pc := 29) (tgt := 56) hX dX3_goes_29 (by decide) (fun c_29 => ?_) (fun c_29 => ?_)
      · exact absurd (jge_yes (a := 10) c_29 (by omega) (by omega)) (by omega)
      first | refine j_aload_n (pc := 32) hX dX3_goes_32 rfl rfl ?_ | refine j_aload_nq (pc := 32) hX dX3_goes_32 rfl rfl ?_
      refine j_iload_n (pc := 33) hX dX3_goes_33 rfl rfl ?_
      refine j_iconst (pc := 34) (v := 5) hX dX3_goes_34 (by decide) ?_
      first | refine j_aload_n (pc := 35) hX dX3_goes_35 rfl rfl ?_ | refine j_aload_nq (pc := 35) hX dX3_goes_35 rfl rfl ?_
      refine j_iload_n (pc := 36) hX dX3_goes_36 rfl rfl ?_
      refine j_iconst (pc := 37) (v := 5) hX dX3_goes_37 (by decide) ?_
      refine j_rune (pc := 38) (jr_V (pc := 38) hX kv_X3_55 (by first | assumption | exact jow.r (by assumption)) (c_X3_of _ _ _ hT i 5 hi (by omega)) (by decide) dX3_goes_38 rfl rfl (Nat.le_of_ble_eq_true rfl)) ?_ jno_x
      refine j_iconst (pc := 41) (v := 1) hX dX3_goes_41 (by decide) ?_
      refine j_iload_n (pc := 42) hX dX3_goes_42 rfl rfl ?_
      refine j_ishl (pc := 43) hX dX3_goes_43 ?_
      refine j_iconst (pc := 44) (v := -1) hX dX3_goes_44 (by decide) ?_
      refine j_ixor (pc := 45) hX dX3_goes_45 ?_
      refine j_iand (pc := 46) hX dX3_goes_46 ?_
      simp only [jup_same]
      rw [clr_bit k hk _ ((clrF_B (emptyN_B hB) i (by omega)).2.2.2 i hi)]
      refine j_runv (pc := 47) (jr_V (pc := 47) hX kv_X3_89 (by first | assumption | exact jow.r (by assumption)) (c_X3_sets _ _ _ hT i 5 _ hi (by omega)) (by decide) dX3_goes_47 rfl rfl (Nat.le_of_ble_eq_true rfl)) (fun H_47 p_47 z_47 => ?_) jno_x
      have hF := JFr.trans hF p_47.1
      have hT := p_47.2
      obtain ⟨h0, ho, hs, hbf, hsv, hpa, hou, hip, hcm⟩ := id hT
      refine j_iincc (pc := 50) (m := 1) hX dX3_goes_50 rfl (by decide) (by decide) rfl ?_
      refine j_goto (pc := 53) (tgt := 26) hX dX3_goes_53 (by decide) ?_
      simp only [jup_jup, jup_same] at hT
      exact j_lv (by simp [jsb, jget, jval, nI_1]) (ih _ hF hT)
  first | refine j_aload_n (pc := 0) hX dX3_goes_0 rfl rfl ?_ | refine j_aload_nq (pc := 0) hX dX3_goes_0 rfl rfl ?_
  refine j_iload_n (pc := 1) hX dX3_goes_1 rfl rfl ?_
  refine j_rune (pc := 2) (jr_V (pc := 2) hX kv_X3_66 (by first | assumption | exact jow.r (by assumption)) (c_X3_filledWith _ _ _ hT hB k hk) (by decide) dX3_goes_2 rfl rfl (Nat.le_of_ble_eq_true rfl)) ?_ jno_x
  refine j_istore_n (pc := 5) hX dX3_goes_5 rfl (by decide) rfl ?_
  refine j_iload_n (pc := 6) hX dX3_goes_6 rfl rfl ?_
  refine j_if_lt (pc := 7) (tgt := 24) hX dX3_goes_7 (by decide) (fun c_7 => ?_) (fun c_7 => ?_)
  · rw [oI_neg' (fun _ => fillN_lt) (by omega)] at c_7
    first | exact part2 _ hF (by simpa [emptyN, jup_id, c_7] using hT) | exact jw_cast (by rw [oI_some c_7]; rfl) rfl (part2 _ hF (by simpa [emptyN, jup_id, c_7] using hT))
  · rw [Int32.not_lt, oI_pos' (fun _ => fillN_lt) (by omega)] at c_7
    obtain ⟨p, c_7, hp⟩ := c_7
    have hin : vp_in (nI (63 + 5 * p + 4)) 93 := vp_in_nI (by omega) (by decide)
    first | refine j_aload_n (pc := 10) hX dX3_goes_10 rfl rfl ?_ | refine j_aload_nq (pc := 10) hX dX3_goes_10 rfl rfl ?_
    refine j_get (pc := 11) hX kg_X3_9 dX3_goes_11 (by first | assumption | exact jow.r (by assumption)) (by rfl) ?_
    refine j_bipush (pc := 14) (v := 63) hX dX3_goes_14 (by decide) ?_
    refine j_iconst (pc := 16) (v := 5) hX dX3_goes_16 (by decide) ?_
    refine j_iload_n (pc := 17) hX dX3_goes_17 rfl rfl ?_
    refine j_imul (pc := 18) hX dX3_goes_18 ?_
    refine j_iadd (pc := 19) hX dX3_goes_19 ?_
    rw [oI_some c_7]
    refine j_iconst (pc := 20) (v := 4) hX dX3_goes_20 (by decide) ?_
    refine j_iadd (pc := 21) hX dX3_goes_21 ?_
    change JW X G H 0 22 _ [.int (63 + 5 * nI p + nI 4), _]
    rw [tw_px]
    refine j_iconst (pc := 22) (v := 0) hX dX3_goes_22 (by decide) ?_
    refine j_iast (pc := 23) hX dX3_goes_23 (by assumption) (h0.1 _ (by decide)) (by assumption) (fun H_23 w_23 n_23 => ?_)
    rw [nI_clamp (by omega)] at n_23
    have hT := tw_arr0 hT w_23 n_23 (tw_hf _ _ _ _)
    have hF := JFr.put hF w_23 (fun _ => ⟨0, by decide, rfl⟩)
    obtain ⟨h0, ho, hs, hbf, hsv, hpa, hou, hip, hcm⟩ := id hT
    first | exact part2 _ hF (by simpa [emptyN, jup_id, c_7] using hT) | exact jw_cast (by rw [oI_some c_7]; rfl) rfl (part2 _ hF (by simpa [emptyN, jup_id, c_7] using hT))
/-- a change's step: which exception, the answer, the row behind it -/
abbrev twU (G : JG) (H : Heap) (g : Nat → Nat) (ar : Nat → Nat → Nat) (cm fs : Nat → Int32) (q : Nat × Int32 × (Nat → Nat)) : Option Value → Heap → Prop := jpi (fun r H1 => twR G H H1 g (jup ar 0 q.2.2) cm (jup fs 6 (nI q.1)) ∧ r = q.2.1)
theorem twU_ok {G : JG} {H H1 : Heap} {g : Nat → Nat} {ar : Nat → Nat → Nat} {cm fs : Nat → Int32} {q : Nat × Int32 × (Nat → Nat)} {e : Int32} {s' : Nat → Nat} (h6 : fs 6 = 0) (hq : q = (0, e, s')) (hF : JFr (twP g) H H1) (hT : jtw G H1 g (jup ar 0 s') cm fs) : twR G H H1 g (jup ar 0 q.2.2) cm (jup fs 6 (nI q.1)) ∧ e = q.2.1 := by
  subst hq
  exact ⟨⟨hF, by rw [nI_0, jup_id' h6]; exact hT⟩, rfl⟩
theorem twU_no {G : JG} {H H1 : Heap} {g : Nat → Nat} {ar : Nat → Nat → Nat} {cm fs : Nat → Int32} {q : Nat × Int32 × (Nat → Nat)} {t : Nat} (hq : q = (t, 0, ar 0)) (hF : JFr (twP g) H H1) (hT : jtw G H1 g ar cm (jup fs 6 (nI t))) : twR G H H1 g (jup ar 0 q.2.2) cm (jup fs 6 (nI q.1)) ∧ 0 = q.2.1 := by
  subst hq
  exact ⟨⟨hF, by rw [jup_id]; exact hT⟩, rfl⟩
theorem nI_l3 : nI 3 = 3 := rfl
theorem nI_l4 : nI 4 = 4 := rfl
def remD (s : Nat → Nat) (x : Int32) : Nat × Int32 × (Nat → Nat) := match slotN s x with | none => (1, 0, s) | some k => (0, nI (aCo s k), goesN s k)
theorem c_X3_doRemoveApplicant (l : Launch) (G : JG) (H : Heap) {g : Nat → Nat} {ar : Nat → Nat → Nat} {cm fs : Nat → Int32} (hT : jtw G H g ar cm fs) (hB : Bs (ar 0)) (h6 : fs 6 = 0) (x : Int32) : JMet l yX3_doRemoveApplicant (ws_ yX3_doRemoveApplicant cX3_doRemoveApplicant 4 (some .int)) 4 0 G H [.ref (g 100), .int x] (twU G H g ar cm fs (remD (ar 0) x)) (jno) := by
  refine JMet.of [(0, .inr (some (g 100))), (1, .inl (.int x))] (by decide) (Nat.le_of_ble_eq_true rfl) rfl (fun X hl hX hQ hEx hr hnm hH => ?_)
  subst hl
  obtain ⟨h0, ho, hs, hbf, hsv, hpa, hou, hip, hcm⟩ := id hT
  have hi2 : vp_in (2 : Int32) 93 := vp_in_nI (n := 2) (by omega) (by decide)
  obtain ⟨h2, hb, hf, hg⟩ := id hB
  have hF : JFr (twP g) H H := JFr.rfl'
  have e6 : jup fs 6 0 = fs := jup_id' h6
  first | refine j_aload_n (pc := 0) hX dX3_doRemoveApplicant_0 rfl rfl ?_ | refine j_aload_nq (pc := 0) hX dX3_doRemoveApplicant_0 rfl rfl ?_
  refine j_iload_n (pc := 1) hX dX3_doRemoveApplicant_1 rfl rfl ?_
  refine j_rune (pc := 2) (jr_V (pc := 2) hX kv_X3_103 (by first | assumption | exact jow.r (by assumption)) (c_X3_slotOf _ _ _ hT x) (by decide) dX3_doRemoveApplicant_2 rfl rfl (Nat.le_of_ble_eq_true rfl)) ?_ jno_x
  refine j_istore_n (pc := 5) hX dX3_doRemoveApplicant_5 rfl (by decide) rfl ?_
  refine j_iload_n (pc := 6) hX dX3_doRemoveApplicant_6 rfl rfl ?_
  refine j_if_ge (pc := 7) (tgt := 16) hX dX3_doRemoveApplicant_7 (by decide) (fun c_7 => ?_) (fun c_7 => ?_)
  · rw [oI_pos' (fun _ => slotN_lt) (by omega)] at c_7
    obtain ⟨k, c_7, hk⟩ := c_7
    first | refine j_aload_n (pc := 16) hX dX3_doRemoveApplicant_16 rfl rfl ?_ | refine j_aload_nq (pc := 16) hX dX3_doRemoveApplicant_16 rfl rfl ?_
    refine j_iload_n (pc := 17) hX dX3_doRemoveApplicant_17 rfl rfl ?_
    refine j_iconst (pc := 18) (v := 4) hX dX3_doRemoveApplicant_18 (by decide) ?_
    rw [oI_some c_7]
    refine j_rune (pc := 19) (jr_V (pc := 19) hX kv_X3_55 (by first | assumption | exact jow.r (by assumption)) (c_X3_of _ _ _ hT k 4 hk (by omega)) (by decide) dX3_doRemoveApplicant_19 rfl rfl (Nat.le_of_ble_eq_true rfl)) ?_ jno_x
    refine j_istore_n (pc := 22) hX dX3_doRemoveApplicant_22 rfl (by decide) rfl ?_
    first | refine j_aload_n (pc := 23) hX dX3_doRemoveApplicant_23 rfl rfl ?_ | refine j_aload_nq (pc := 23) hX dX3_doRemoveApplicant_23 rfl rfl ?_
    refine j_iload_n (pc := 24) hX dX3_doRemoveApplicant_24 rfl rfl ?_
    refine j_runv (pc := 25) (jr_V (pc := 25) hX kv_X3_106 (by first | assumption | exact jow.r (by assumption)) (c_X3_goes _ _ _ hT hB k hk) (by decide) dX3_doRemoveApplicant_25 rfl rfl (Nat.le_of_ble_eq_true rfl)) (fun H_25 p_25 z_25 => ?_) jno_x
    have hF := JFr.trans hF p_25.1
    have hT := p_25.2
    obtain ⟨h0, ho, hs, hbf, hsv, hpa, hou, hip, hcm⟩ := id hT
    refine j_iload_n (pc := 28) hX dX3_doRemoveApplicant_28 rfl rfl ?_
    exact j_iret hX hQ hr dX3_doRemoveApplicant_29 ⟨_, rfl, twU_ok h6 (by rw [remD, c_7]) hF hT⟩
  · rw [Int32.not_le, oI_neg' (fun _ => slotN_lt) (by omega)] at c_7
    first | refine j_aload_n (pc := 10) hX dX3_doRemoveApplicant_10 rfl rfl ?_ | refine j_aload_nq (pc := 10) hX dX3_doRemoveApplicant_10 rfl rfl ?_
    refine j_iconst (pc := 11) (v := 1) hX dX3_doRemoveApplicant_11 (by decide) ?_
    refine j_runi (pc := 12) (jr_V (pc := 12) hX kv_X3_82 (by first | assumption | exact jow.r (by assumption)) (c_X3_fails _ _ _ hT _) (by decide) dX3_doRemoveApplicant_12 rfl rfl (Nat.le_of_ble_eq_true rfl)) (fun r_12 H_12 p_12 z_12 => ?_) jno_x
    obtain ⟨hR, rfl⟩ := p_12
    have hF := JFr.trans hF hR.1
    have hT := hR.2
    exact j_iret hX hQ hr dX3_doRemoveApplicant_15 ⟨_, rfl, twU_no (t := 1) (by rw [remD, c_7]) hF hT⟩
def rejF (lim : Int32) (k : Nat) (q : (Nat → Nat) × Nat) : (Nat → Nat) × Nat := if waitN q.1 k && decide (lim < nI (aRn q.1 k)) then (goesN q.1 k, q.2 + 1) else q
def inI (v lo hi : Int32) : Bool := decide (lo ≤ v) && decide (v ≤ hi)
def rejD (s : Nat → Nat) (lim : Int32) : Nat × Int32 × (Nat → Nat) := if inI lim 0 50 then (0, nI (jfold (rejF lim) 10 (s, 0)).2, (jfold (rejF lim) 10 (s, 0)).1) else (1, 0, s)
theorem rejF_B {s : Nat → Nat} {lim : Int32} (h : Bs s) : ∀ i, Bs (jfold (rejF lim) i (s, 0)).1 := by
  intro i
  induction i with
  | zero => exact h
  | succ i ih =>
    rw [jfold_succ]
    unfold rejF; split
    · exact goesN_B ih
    · exact ih
theorem rej_no {lim : Int32} {k : Nat} {q : (Nat → Nat) × Nat} (h : (waitN q.1 k && decide (lim < nI (aRn q.1 k))) = false) : rejF lim k q = q := by unfold rejF; rw [h]; rfl
theorem rej_yes {lim : Int32} {k : Nat} {q : (Nat → Nat) × Nat} (h : (waitN q.1 k && decide (lim < nI (aRn q.1 k))) = true) : rejF lim k q = (goesN q.1 k, q.2 + 1) := by unfold rejF; rw [h]; rfl
theorem c_X3_doRejectRainy (l : Launch) (G : JG) (H : Heap) {g : Nat → Nat} {ar : Nat → Nat → Nat} {cm fs : Nat → Int32} (hT : jtw G H g ar cm fs) (hB : Bs (ar 0)) (h6 : fs 6 = 0) (x : Int32) : JMet l yX3_doRejectRainy (ws_ yX3_doRejectRainy cX3_doRejectRainy 4 (some .int)) 4 0 G H [.ref (g 100), .int x] (twU G H g ar cm fs (rejD (ar 0) x)) (jno) := by
  refine JMet.of [(0, .inr (some (g 100))), (1, .inl (.int x))] (by decide) (Nat.le_of_ble_eq_true rfl) rfl (fun X hl hX hQ hEx hr hnm hH => ?_)
  subst hl
  obtain ⟨h0, ho, hs, hbf, hsv, hpa, hou, hip, hcm⟩ := id hT
  have hi2 : vp_in (2 : Int32) 93 := vp_in_nI (n := 2) (by omega) (by decide)
  obtain ⟨h2, hb, hf, hg⟩ := id hB
  have hF : JFr (twP g) H H := JFr.rfl'
  have e6 : jup fs 6 0 = fs := jup_id' h6
  have main : inI x 0 50 = true → JW X G H 0 20 [(0, .inr (some (g 100))), (1, .inl (.int x)), (2, .inl (.int 0)), (3, .inl (.int 0))] [] := by
    intro e7
    refine jloop (P := fun i => ∀ H1, JFr (twP g) H H1 → jtw G H1 g (jup ar 0 (jfold (rejF x) i (ar 0, 0)).1) cm fs → JW X G H1 0 20 [(0, .inr (some (g 100))), (1, .inl (.int x)), (2, .inl (.int (nI (jfold (rejF x) i (ar 0, 0)).2))), (3, .inl (.int (nI i)))] []) 10 (fun H1 hF hT => ?_) (fun i hi ih H1 hF hT => ?_) 0 (by omega) _ hF (by rw [show (jfold (rejF x) 0 (ar 0, 0)).1 = ar 0 from rfl, jup_id]; exact hT)
    · have z1 : fs = jup fs 6 (nI 0) := (jup_id' h6).symm
      refine j_iload_n (pc := 20) hX dX3_doRejectRainy_20 rfl rfl ?_
      refine j_bipush (pc := 21) (v := 10) hX dX3_doRejectRainy_21 (by decide) ?_
      refine j_icmp_ge (pc := 23) (tgt := 58) hX dX3_doRejectRainy_23 (by decide) (fun c_23 => ?_) (fun c_23 => ?_)
      · refine j_iload_n (pc := 58) hX dX3_doRejectRainy_58 rfl rfl ?_
        exact j_iret hX hQ hr dX3_doRejectRainy_59 ⟨_, rfl, twU_ok h6 (by rw [rejD, if_pos e7]) hF hT⟩
      · exact absurd (jge_no (a := 10) c_23 (by omega) (by omega)) (by omega)
    · have ho := hT.2.1
      have hB' := rejF_B (lim := x) hB i
      have e0 : jup ar 0 (jfold (rejF x) i (ar 0, 0)).1 0 = (jfold (rejF x) i (ar 0, 0)).1 := rfl
      generalize eS : jfold (rejF x) i (ar 0, 0) = S at *
      have es : jfold (rejF x) (i + 1) (ar 0, 0) = rejF x i S := by rw [jfold_succ, eS]
      rw [es] at ih
      refine j_iload_n (pc := 20) hX dX3_doRejectRainy_20 rfl rfl ?_
      refine j_bipush (pc := 21) (v := 10) hX dX3_doRejectRainy_21 (by decide) ?_
      refine j_icmp_ge (pc := 23) (tgt := 58) hX dX3_doRejectRainy_23 (by decide) (fun c_23 => ?_) (fun c_23 => ?_)
      · exact absurd (jge_yes (a := 10) c_23 (by omega) (by omega)) (by omega)
      first | refine j_aload_n (pc := 26) hX dX3_doRejectRainy_26 rfl rfl ?_ | refine j_aload_nq (pc := 26) hX dX3_doRejectRainy_26 rfl rfl ?_
      refine j_iload_n (pc := 27) hX dX3_doRejectRainy_27 rfl rfl ?_
      refine j_rune (pc := 28) (jr_V (pc := 28) hX kv_X3_113 (by first | assumption | exact jow.r (by assumption)) (c_X3_isWaiting _ _ _ hT hB' i hi) (by decide) dX3_doRejectRainy_28 rfl rfl (Nat.le_of_ble_eq_true rfl)) ?_ jno_x
      refine j_if_eq (pc := 31) (tgt := 52) hX dX3_doRejectRainy_31 (by decide) (fun c_31 => ?_) (fun c_31 => ?_)
      · rw [jb_z] at c_31
        have en := rej_no (lim := x) (k := i) (q := S) (by rw [← e0, c_31]; rfl)
        rw [en] at ih
        refine j_iincc (pc := 52) (m := 1) hX dX3_doRejectRainy_52 rfl (by decide) (by decide) rfl ?_
        refine j_goto (pc := 55) (tgt := 20) hX dX3_doRejectRainy_55 (by decide) ?_
        exact j_lv (by simp [jsb, jget, jval, nI_1, en]) (ih _ hF hT)
      · rw [jb_n] at c_31
        first | refine j_aload_n (pc := 34) hX dX3_doRejectRainy_34 rfl rfl ?_ | refine j_aload_nq (pc := 34) hX dX3_doRejectRainy_34 rfl rfl ?_
        refine j_iload_n (pc := 35) hX dX3_doRejectRainy_35 rfl rfl ?_
        refine j_iconst (pc := 36) (v := 3) hX dX3_doRejectRainy_36 (by decide) ?_
        refine j_rune (pc := 37) (jr_V (pc := 37) hX kv_X3_55 (by first | assumption | exact jow.r (by assumption)) (c_X3_of _ _ _ hT i 3 hi (by omega)) (by decide) dX3_doRejectRainy_37 rfl rfl (Nat.le_of_ble_eq_true rfl)) ?_ jno_x
        refine j_iload_n (pc := 40) hX dX3_doRejectRainy_40 rfl rfl ?_
        refine j_icmp_le (pc := 41) (tgt := 52) hX dX3_doRejectRainy_41 (by decide) (fun c_41 => ?_) (fun c_41 => ?_)
        · have en := rej_no (lim := x) (k := i) (q := S) (by rw [← e0, c_31, decide_eq_false (Int32.not_lt.mpr c_41)]; rfl)
          rw [en] at ih
          refine j_iincc (pc := 52) (m := 1) hX dX3_doRejectRainy_52 rfl (by decide) (by decide) rfl ?_
          refine j_goto (pc := 55) (tgt := 20) hX dX3_doRejectRainy_55 (by decide) ?_
          exact j_lv (by simp [jsb, jget, jval, nI_1, en]) (ih _ hF hT)
        · have en := rej_yes (lim := x) (k := i) (q := S) (by rw [← e0, c_31, decide_eq_true (Int32.not_le.mp c_41)]; rfl)
          rw [en] at ih
          first | refine j_aload_n (pc := 44) hX dX3_doRejectRainy_44 rfl rfl ?_ | refine j_aload_nq (pc := 44) hX dX3_doRejectRainy_44 rfl rfl ?_
          refine j_iload_n (pc := 45) hX dX3_doRejectRainy_45 rfl rfl ?_
          refine j_runv (pc := 46) (jr_V (pc := 46) hX kv_X3_106 (by first | assumption | exact jow.r (by assumption)) (c_X3_goes _ _ _ hT hB' i hi) (by decide) dX3_doRejectRainy_46 rfl rfl (Nat.le_of_ble_eq_true rfl)) (fun H_46 p_46 z_46 => ?_) jno_x
          have hF := JFr.trans hF p_46.1
          have hT := p_46.2
          obtain ⟨h0, ho, hs, hbf, hsv, hpa, hou, hip, hcm⟩ := id hT
          simp only [jup_jup, jup_same] at hT
          refine j_iincc (pc := 49) (m := 1) hX dX3_doRejectRainy_49 rfl (by decide) (by decide) rfl ?_
          refine j_iincc (pc := 52) (m := 1) hX dX3_doRejectRainy_52 rfl (by decide) (by decide) rfl ?_
          refine j_goto (pc := 55) (tgt := 20) hX dX3_doRejectRainy_55 (by decide) ?_
          exact j_lv (by simp [jsb, jget, jval, nI_1, en]) (ih _ hF hT)
  refine j_iload_n (pc := 0) hX dX3_doRejectRainy_0 rfl rfl ?_
  refine j_iconst (pc := 1) (v := 0) hX dX3_doRejectRainy_1 (by decide) ?_
  refine j_bipush (pc := 2) (v := 50) hX dX3_doRejectRainy_2 (by decide) ?_
  refine j_rune (pc := 4) (jr_S (pc := 4) hX ks_X3_51 (c_X3_in _ _ _ _ _ _) (by decide) dX3_doRejectRainy_4 rfl rfl (Nat.le_of_ble_eq_true rfl)) ?_ jno_x
  refine j_if_ne (pc := 7) (tgt := 16) hX dX3_doRejectRainy_7 (by decide) (fun c_7 => ?_) (fun c_7 => ?_)
  · rw [jb_n] at c_7
    change inI x 0 50 = _ at c_7
    refine j_iconst (pc := 16) (v := 0) hX dX3_doRejectRainy_16 (by decide) ?_
    refine j_istore_n (pc := 17) hX dX3_doRejectRainy_17 rfl (by decide) rfl ?_
    refine j_iconst (pc := 18) (v := 0) hX dX3_doRejectRainy_18 (by decide) ?_
    refine j_istore_n (pc := 19) hX dX3_doRejectRainy_19 rfl (by decide) rfl ?_
    exact main c_7
  · rw [jb_z] at c_7
    change inI x 0 50 = _ at c_7
    first | refine j_aload_n (pc := 10) hX dX3_doRejectRainy_10 rfl rfl ?_ | refine j_aload_nq (pc := 10) hX dX3_doRejectRainy_10 rfl rfl ?_
    refine j_iconst (pc := 11) (v := 1) hX dX3_doRejectRainy_11 (by decide) ?_
    refine j_runi (pc := 12) (jr_V (pc := 12) hX kv_X3_82 (by first | assumption | exact jow.r (by assumption)) (c_X3_fails _ _ _ hT _) (by decide) dX3_doRejectRainy_12 rfl rfl (Nat.le_of_ble_eq_true rfl)) (fun r_12 H_12 p_12 z_12 => ?_) jno_x
    obtain ⟨hR, rfl⟩ := p_12
    have hF := JFr.trans hF hR.1
    have hT := hR.2
    exact j_iret hX hQ hr dX3_doRejectRainy_15 ⟨_, rfl, twU_no (t := 1) (by rw [rejD, c_7]; rfl) hF hT⟩
