/-! hiring by hand -/
set_option maxRecDepth 100000
/-- thrown by a change: its place among the method's exceptions; only cells from n0 on are written -/
abbrev pxD (L : List String) (c n0 : Nat) (H : Heap) : String → Nat → Heap → Prop := fun E _ H1 => 0 < c ∧ L[c - 1]? = some E ∧ JFr (fun a => n0 ≤ a) H H1
/-- what a change of a board does -/
abbrev pD (G : JG) (H : Heap) (n0 : Nat) (b : BG) (q : Nat × Int32 × (Nat → Nat)) : Option Value → Heap → Prop := jpi (fun r H1 => q.1 = 0 ∧ r = q.2.1 ∧ JFr (fun a => n0 ≤ a) H H1 ∧ ∃ b', bg b' 0 = bg b 0 ∧ jbd G H1 n0 b' q.2.2)
section
variable {G : JG} {H H1 : Heap} {n0 : Nat} {b : BG} {s : Nat → Nat}
theorem jbd.fl {p k v : Nat} {ho : Option Nat} {po : Option Nat} (hC : JC G) (h : jbd G H n0 b s) (hp : p < s 2) (hk : k ∈ bL b)
    (hfill : ∀ k', fillN (jup s (63 + 5 * p + 4) v) k' = if k' = k then po else fillN s k') (hho : ho = hldN b (jup s (63 + 5 * p + 4) v) p)
    (a1 : jow G H1 (bpo b p) 3 (oPost (nI (pSh s p)) (nI (pLo s p)) (nI (pHi s p)) (nI (pWg s p)) ho)) (a2 : jow G H1 (bap b k) 2 (oApp (idI s k) (nI (aSh s k)) (nI (aWh s k)) (nI (aRn s k)) (nI (aCo s k)) (po.map (bpo b)))) (hF : JFr (fun x => x = bpo b p ∨ x = bap b k) H H1) : jbd G H1 n0 b (jup s (63 + 5 * p + 4) v) := by
  have off : ∀ j, (∀ q, j ≠ 63 + 5 * q + 4) → jup s (63 + 5 * p + 4) v j = s j := fun j hj => jup_off hj
  have oa : ∀ k w, k < 10 → w < 6 → jup s (63 + 5 * p + 4) v (3 + 6 * k + w) = s (3 + 6 * k + w) := fun k w hk hw => off _ (fun q => by omega)
  have ow : ∀ q w, w < 4 → jup s (63 + 5 * p + 4) v (63 + 5 * q + w) = s (63 + 5 * q + w) := fun q w hw => off _ (fun q => by omega)
  have o2 := off 2 (fun q => by omega)
  refine h.refill hC off (hF.weak (fun x _ hx => by
    rcases hx with rfl | rfl
    · exact Or.inr (h.Y.1 p hp).2
    · exact Or.inl (h.X.1 k hk).2)) ⟨fun k' hk' => ⟨?_, (h.X.1 k' hk').2⟩, h.X.2⟩ ⟨fun q hq => ⟨?_, (h.Y.1 q (by rw [← o2]; exact hq)).2⟩, fun a c ha hc => h.Y.2 a c (by rw [← o2]; exact ha) (by rw [← o2]; exact hc)⟩
  · have l10 := (h.S.lt hk').1
    show jow G H1 (bap b k') 2 (oApp (nI (jup s _ v (3 + 6 * k' + 0)) - 1) (nI (jup s _ v (3 + 6 * k' + 1))) (nI (jup s _ v (3 + 6 * k' + 2))) (nI (jup s _ v (3 + 6 * k' + 3))) (nI (jup s _ v (3 + 6 * k' + 4))) ((fillN (jup s _ v) k').map (bpo b)))
    rw [oa k' 0 l10 (by omega), oa k' 1 l10 (by omega), oa k' 2 l10 (by omega), oa k' 3 l10 (by omega), oa k' 4 l10 (by omega), hfill]
    by_cases e : k' = k
    · subst e; rw [if_pos rfl]; exact a2
    · rw [if_neg e]
      exact (h.X.1 k' hk').1.fr hF (fun z => by
        rcases z with z | z
        · exact hC.ne (h.X.1 k' hk').1.r (h.Y.1 p hp).1.r (by decide) z
        · exact e (h.X.2 k' hk' k hk z))
  · rw [o2] at hq
    show jow G H1 (bpo b q) 3 (oPost (nI (jup s _ v (63 + 5 * q + 0))) (nI (jup s _ v (63 + 5 * q + 1))) (nI (jup s _ v (63 + 5 * q + 2))) (nI (jup s _ v (63 + 5 * q + 3))) (hldN b (jup s _ v) q))
    rw [ow q 0 (by omega), ow q 1 (by omega), ow q 2 (by omega), ow q 3 (by omega)]
    by_cases e : q = p
    · subst e; rw [← hho]; exact a1
    · have hh : hldN b (jup s (63 + 5 * p + 4) v) q = hldN b s q := by unfold hldN; rw [jup_pFl, if_neg e]
      rw [hh]
      exact (h.Y.1 q hq).1.fr hF (fun z => by
        rcases z with z | z
        · exact e (h.Y.2 q p hq hp z)
        · exact hC.ne (h.X.1 k hk).1.r (h.Y.1 q hq).1.r (by decide) z.symm)
theorem jbd.fill {p k : Nat} (hC : JC G) (h : jbd G H n0 b s) (hU : UFl s) (hp : p < s 2) (hk : k ∈ bL b) (hv : pFl s p = 0) (hw : fillN s k = none)
    (a1 : jow G H1 (bpo b p) 3 (oPost (nI (pSh s p)) (nI (pLo s p)) (nI (pHi s p)) (nI (pWg s p)) (some (bap b k)))) (a2 : jow G H1 (bap b k) 2 (oApp (idI s k) (nI (aSh s k)) (nI (aWh s k)) (nI (aRn s k)) (nI (aCo s k)) (some (bpo b p)))) (hF : JFr (fun x => x = bpo b p ∨ x = bap b k) H H1) : jbd G H1 n0 b (fillS s p k) :=
  h.fl hC hp hk (po := some p) (fillS_fill hU hp hv hw) (by unfold hldN; rw [jup_pFl, if_pos rfl, if_neg (by omega)]; rfl) a1 a2 hF
theorem jbd.empt {p k : Nat} (hC : JC G) (h : jbd G H n0 b s) (hU : UFl s) (hp : p < s 2) (hk : k ∈ bL b) (hv : pFl s p = k + 1)
    (a1 : jow G H1 (bpo b p) 3 (oPost (nI (pSh s p)) (nI (pLo s p)) (nI (pHi s p)) (nI (pWg s p)) none)) (a2 : jow G H1 (bap b k) 2 (oApp (idI s k) (nI (aSh s k)) (nI (aWh s k)) (nI (aRn s k)) (nI (aCo s k)) none)) (hF : JFr (fun x => x = bpo b p ∨ x = bap b k) H H1) : jbd G H1 n0 b (jup s (63 + 5 * p + 4) 0) :=
  h.fl hC hp hk (po := none) (emptS_fill hU hp hv) (by unfold hldN; rw [jup_pFl, if_pos rfl, if_pos rfl]) a1 a2 hF
theorem jbd.og (h : jbd G H n0 b s) {a : Nat} (ha : bow b a ≠ 0) : (gs G).heap.size ≤ a := Nat.le_trans h.O.1 (h.O.2.1 a ha).1
theorem jbd.gA (h : jbd G H n0 b s) {k : Nat} (hk : k ∈ bL b) : (gs G).heap.size ≤ bap b k := h.og (by rw [(h.X.1 k hk).2]; decide)
theorem jbd.gP (h : jbd G H n0 b s) {p : Nat} (hp : p < s 2) : (gs G).heap.size ≤ bpo b p := h.og (by rw [(h.Y.1 p hp).2]; decide)
theorem jbd.frA {p k : Nat} (h : jbd G H n0 b s) (hp : p < s 2) (hk : k ∈ bL b) (hF : JFr (fun x => x = bpo b p ∨ x = bap b k) H H1) : JFr (fun a => n0 ≤ a) H H1 := hF.weak (fun x _ hx => by
  rcases hx with rfl | rfl
  · exact (h.O.2.1 _ (by rw [(h.Y.1 p hp).2]; decide)).1
  · exact (h.O.2.1 _ (by rw [(h.X.1 k hk).2]; decide)).1)
end
/-- the post's applicant filled in -/
theorem c_fillN (l : Launch) (G : JG) (H : Heap) {n0 : Nat} {b : BG} {s : Nat → Nat} (hC : JC G) (h : jbd G H n0 b s) (hU : UFl s) (p k : Nat) (hp : p < s 2) (hk : k ∈ bL b) (hv : pFl s p = 0) (hw : fillN s k = none) : JMet l yX4_fill (ws_ yX4_fill cX4_fill 2 none) 1 0 G H [.ref (bpo b p), .ref (bap b k)] (jpv (fun H1 => jbd G H1 n0 b (fillS s p k) ∧ JFr (fun x => x = bpo b p ∨ x = bap b k) H H1)) jno :=
  JMet.post (c_X4_fill l G H (bpo b p) (bap b k) (h.Y.1 p hp).1 (h.gP hp) (h.X.1 k hk).1 (h.gA hk)) (fun r H1 hr => by
    obtain ⟨rfl, a1, a2, a3⟩ := hr
    exact ⟨rfl, h.fill hC hU hp hk hv hw a1 a2 a3, a3⟩) (fun _ _ _ h => h)
/-- the post emptied -/
theorem c_emptN (l : Launch) (G : JG) (H : Heap) {n0 : Nat} {b : BG} {s : Nat → Nat} (hC : JC G) (h : jbd G H n0 b s) (hU : UFl s) (p k : Nat) (hp : p < s 2) (hk : k ∈ bL b) (hv : pFl s p = k + 1) : JMet l yX4_empty (ws_ yX4_empty cX4_empty 2 (some (.object "CloudInterviews$Applicant"))) 1 0 G H [.ref (bpo b p)] (jpa (fun r H1 => r = bap b k ∧ jbd G H1 n0 b (jup s (63 + 5 * p + 4) 0) ∧ JFr (fun x => x = bpo b p ∨ x = bap b k) H H1)) jno := by
  have hh : hldN b s p = some (bap b k) := by unfold hldN; rw [if_neg (by omega), hv]; rfl
  have hY := (h.Y.1 p hp).1
  unfold posV at hY
  rw [hh] at hY
  exact JMet.post (c_X4_empty l G H (bpo b p) (bap b k) hY (h.gP hp) (h.X.1 k hk).1 (h.gA hk)) (fun r H1 hr => by
    obtain ⟨r, rfl, rfl, a1, a2, a3⟩ := hr
    exact ⟨_, rfl, rfl, h.empt hC hU hp hk hv a1 a2 a3, a3⟩) (fun _ _ _ h => h)
theorem c_X2_hire (l : Launch) (G : JG) (H : Heap) {n0 : Nat} {b : BG} {s : Nat → Nat} (h : jbd G H n0 b s) (hW : WFs s) (hB : Bs s) (x y : Int32) : JMet l yX2_hire (ws_ yX2_hire cX2_hire 5 (some .int)) 9 10 G H [.ref (bg b 0), .int x, .int y] (pD G H n0 b (hireD s x y)) (pxD [eIdx, eEle, eSta, eSup] (hireD s x y).1 n0 H) := by
  refine JMet.of [(0, .inr (some (bg b 0))), (1, .inl (.int x)), (2, .inl (.int y))] (by decide) (Nat.le_of_ble_eq_true rfl) rfl (fun X hl hX hQ hEx hr hnm hH => ?_)
  subst hl
  have hC := hX.C
  have hoB := h.B.1
  first | refine j_aload_n (pc := 0) hX dX2_hire_0 rfl rfl ?_ | refine j_aload_nq (pc := 0) hX dX2_hire_0 rfl rfl ?_
  refine j_iload_n (pc := 1) hX dX2_hire_1 rfl rfl ?_
  change JW X G H (8 + 2) 2 _ _
  refine j_runa (pc := 2) (jr_V (pc := 2) hX kv_X2_205 (by first | assumption | exact jow.r (by assumption)) (c_X2_post _ _ _ h hB.1 x) (by decide) dX2_hire_2 rfl rfl (Nat.le_of_ble_eq_true rfl)) (fun r_2 H_2 p_2 z_2 => ?_) (fun E q H1 hx _ => jt_out hX hQ hEx (by obtain ⟨rfl, h1, h2⟩ := hx; unfold hireD; rw [h1]; exact ⟨Nat.succ_pos _, rfl, h2.fr⟩))
  obtain ⟨rfl, p, hpx, rfl⟩ := p_2
  obtain ⟨hp, -⟩ := postN_ex hB.1 hpx
  first | refine j_astore_n (pc := 5) hX dX2_hire_5 rfl (by decide) rfl ?_ | refine j_astore_nN (pc := 5) hX dX2_hire_5 rfl (by decide) rfl ?_ | refine j_astore_nq (pc := 5) hX dX2_hire_5 rfl (by decide) rfl ?_
  first | refine j_aload_n (pc := 6) hX dX2_hire_6 rfl rfl ?_ | refine j_aload_nq (pc := 6) hX dX2_hire_6 rfl rfl ?_
  refine j_iload_n (pc := 7) hX dX2_hire_7 rfl rfl ?_
  change JW X G H_2 (5 + 3) 8 _ _
  refine j_runa (pc := 8) (jr_V (pc := 8) hX kv_X2_144 (by first | assumption | exact jow.r (by assumption)) (c_X2_applicant _ _ _ h hB y) (by decide) dX2_hire_8 rfl rfl (Nat.le_of_ble_eq_true rfl)) (fun r_8 H_8 p_8 z_8 => ?_) (fun E q H1 hx _ => jt_out hX hQ hEx (by obtain ⟨rfl, h1, h2⟩ := hx; unfold hireD; rw [hpx]; simp only [h1]; exact ⟨Nat.succ_pos _, rfl, h2.fr⟩))
  obtain ⟨⟨k, hky, rfl⟩, e8⟩ := p_8
  have h8 := h.ext hC e8
  obtain ⟨hk, -⟩ := slotN_in h.S hB hky
  have hxa := (h8.X.1 k hk).1
  have hxp := (h8.Y.1 p hp).1
  first | refine j_astore (pc := 11) hX dX2_hire_11 (by decide) rfl ?_ | refine j_astoreN (pc := 11) hX dX2_hire_11 (by decide) rfl ?_ | refine j_astoreq (pc := 11) hX dX2_hire_11 (by decide) rfl ?_
  skip
  have hD : hireD s x y = if 0 < pFl s p ∨ waitN s k = false then (3, 0, s) else if fitN s k p = false then (4, 0, s) else (0, nI (vacN (fillS s p k)), fillS s p k) := by unfold hireD; rw [hpx]; simp only [hky]
  have used : usedN s k = true := by unfold usedN; exact decide_eq_true (h.S.lt hk).2
  have wt : waitN s k = (fillN s k).isNone := by unfold waitN; rw [used]; rfl
  have thr : (0 < pFl s p ∨ waitN s k = false) → JW X G H_8 5 33 [(0, .inr (some (bg b 0))), (3, .inr (some (bpo b p))), (4, .inr (some (bap b k)))] [.int (jb false)] := by
    intro hc
    change JW X G H_8 (3 + 2) 33 _ _
    refine j_runv (pc := 33) (jr_SN (pc := 33) hX ks_X2_151 (c_X1_checkState _ _ _ false) (by decide) dX2_hire_33 rfl rfl (Nat.le_of_ble_eq_true rfl)) (fun H_33 p_33 z_33 => ?_) (fun E q H1 hx _ => jt_out hX hQ hEx (by rw [hD, if_pos hc]; exact ⟨Nat.succ_pos _, by rw [hx.1]; rfl, (e8.trans hx.2.2).fr⟩))
    exact absurd p_33.2 (by decide)
  have go : pFl s p = 0 → fillN s k = none → JW X G H_8 5 33 [(0, .inr (some (bg b 0))), (3, .inr (some (bpo b p))), (4, .inr (some (bap b k)))] [.int (jb true)] := by
    intro hv hw
    have hn : ¬ (0 < pFl s p ∨ waitN s k = false) := by rw [wt, hw]; simp; omega
    change JW X G H_8 (3 + 2) 33 _ _
    refine j_runv (pc := 33) (jr_SN (pc := 33) hX ks_X2_151 (c_X1_checkState _ _ _ true) (by decide) dX2_hire_33 rfl rfl (Nat.le_of_ble_eq_true rfl)) (fun H_33 p_33 z_33 => ?_) (fun E q H1 hx _ => absurd hx.2.1 (by decide))
    obtain ⟨rfl, -⟩ := p_33
    first | refine j_aload_n (pc := 36) hX dX2_hire_36 rfl rfl ?_ | refine j_aload_nq (pc := 36) hX dX2_hire_36 rfl rfl ?_
    first | refine j_aload (pc := 37) hX dX2_hire_37 rfl ?_ | refine j_aloadq (pc := 37) hX dX2_hire_37 rfl ?_
    refine j_rune (pc := 39) (jr_V (pc := 39) hX kv_X2_210 hxp.r (c_X4_fitsN _ _ _ h8 hB p k hp hk) (by decide) dX2_hire_39 rfl rfl (Nat.le_of_ble_eq_true rfl)) ?_ jno_x
    skip
    cases hf : fitN s k p with
    | false =>
      change JW X G H_33 (1 + 2) 42 _ _
      refine j_runv (pc := 42) (jr_SN (pc := 42) hX ks_X2_218 (c_X1_checkSupported _ _ _ false) (by decide) dX2_hire_42 rfl rfl (Nat.le_of_ble_eq_true rfl)) (fun H_42 p_42 z_42 => ?_) (fun E q H1 hx _ => jt_out hX hQ hEx (by rw [hD, if_neg hn, if_pos hf]; exact ⟨Nat.succ_pos _, by rw [hx.1]; rfl, (e8.trans hx.2.2).fr⟩))
      exact absurd p_42.2 (by decide)
    | true =>
      change JW X G H_33 (1 + 2) 42 _ _
      refine j_runv (pc := 42) (jr_SN (pc := 42) hX ks_X2_218 (c_X1_checkSupported _ _ _ true) (by decide) dX2_hire_42 rfl rfl (Nat.le_of_ble_eq_true rfl)) (fun H_42 p_42 z_42 => ?_) (fun E q H1 hx _ => absurd hx.2.1 (by decide))
      obtain ⟨rfl, -⟩ := p_42
      first | refine j_aload_n (pc := 45) hX dX2_hire_45 rfl rfl ?_ | refine j_aload_nq (pc := 45) hX dX2_hire_45 rfl rfl ?_
      first | refine j_aload (pc := 46) hX dX2_hire_46 rfl ?_ | refine j_aloadq (pc := 46) hX dX2_hire_46 rfl ?_
      refine j_runv (pc := 48) (jr_V (pc := 48) hX kv_X2_87 hxp.r (c_fillN _ _ _ hC h8 hW.U p k hp hk hv hw) (by decide) dX2_hire_48 rfl rfl (Nat.le_of_ble_eq_true rfl)) (fun H_48 p_48 z_48 => ?_) jno_x
      obtain ⟨h48, hF48⟩ := p_48
      have hoB := h48.B.1
      first | refine j_aload_n (pc := 51) hX dX2_hire_51 rfl rfl ?_ | refine j_aload_nq (pc := 51) hX dX2_hire_51 rfl rfl ?_
      change JW X G H_48 (0 + 1) 52 _ _
      refine j_runi (pc := 52) (jr_V (pc := 52) hX kv_X2_221 (by first | assumption | exact jow.r (by assumption)) (c_X2_vacant _ _ _ h48) (by decide) dX2_hire_52 rfl rfl (Nat.le_of_ble_eq_true rfl)) (fun r_52 H_52 p_52 z_52 => ?_) jno_x
      obtain ⟨rfl, e52⟩ := p_52
      exact j_iret hX hQ hr dX2_hire_55 ⟨_, rfl, by rw [hD, if_neg hn, if_neg (by rw [hf]; decide)], by rw [hD, if_neg hn, if_neg (by rw [hf]; decide)], (JFr.trans e8.fr (h8.frA hp hk hF48)).trans e52.fr, b, rfl, by rw [hD, if_neg hn, if_neg (by rw [hf]; decide)]; exact h48.ext hC e52⟩
  first | refine j_aload_n (pc := 13) hX dX2_hire_13 rfl rfl ?_ | refine j_aload_nq (pc := 13) hX dX2_hire_13 rfl rfl ?_
  refine j_rune (pc := 14) (jr_V (pc := 14) hX kv_X2_126 hxp.r (c_X4_isVacant _ _ _ _ hxp) (by decide) dX2_hire_14 rfl rfl (Nat.le_of_ble_eq_true rfl)) ?_ jno_x
  refine j_if_eq (pc := 17) (tgt := 32) hX dX2_hire_17 (by decide) (fun c_17 => ?_) (fun c_17 => ?_)
  · rw [jb_z, hldN_z, decide_eq_false_iff_not] at c_17
    have fin := thr (Or.inl (Nat.pos_of_ne_zero c_17))
    refine j_iconst (pc := 32) (v := 0) hX dX2_hire_32 (by decide) ?_
    exact j_lv (by simp [jsb, jget, jval]) fin
  · rw [jb_n, hldN_z, decide_eq_true_eq] at c_17
    first | refine j_aload (pc := 20) hX dX2_hire_20 rfl ?_ | refine j_aloadq (pc := 20) hX dX2_hire_20 rfl ?_
    refine j_rune (pc := 22) (jr_V (pc := 22) hX kv_X2_72 hxa.r (c_X5_isHired _ _ _ _ hxa) (by decide) dX2_hire_22 rfl rfl (Nat.le_of_ble_eq_true rfl)) ?_ jno_x
    refine j_if_ne (pc := 25) (tgt := 32) hX dX2_hire_25 (by decide) (fun c_25 => ?_) (fun c_25 => ?_)
    · rw [jb_n, Option.isSome_map] at c_25
      have fin := thr (Or.inr (by rw [wt]; cases e : fillN s k with | none => rw [e] at c_25; cases c_25 | some q => rfl))
      refine j_iconst (pc := 32) (v := 0) hX dX2_hire_32 (by decide) ?_
      exact j_lv (by simp [jsb, jget, jval]) fin
    · rw [jb_z, Option.isSome_map] at c_25
      have fin := go c_17 (Option.not_isSome_iff_eq_none.mp (by rw [c_25]; decide))
      refine j_iconst (pc := 28) (v := 1) hX dX2_hire_28 (by decide) ?_
      refine j_goto (pc := 29) (tgt := 33) hX dX2_hire_29 (by decide) ?_
      exact j_lv (by simp [jsb, jget, jval]) fin
theorem best_c {s : Nat → Nat} {c : Nat → Bool} : ∀ (n k : Nat), jfold (bestF s c) n none = some k → k < n ∧ c k = true := by
  intro n
  induction n with
  | zero => intro k h; cases h
  | succ n ih =>
    intro k h
    rw [jfold_succ] at h
    unfold bestF at h
    split at h
    · rename_i z; cases Option.some.inj h; exact ⟨Nat.lt_succ_self _, z.1⟩
    · have := ih k h; exact ⟨Nat.lt_succ_of_lt this.1, this.2⟩
theorem wait_in {s : Nat → Nat} {L : List Nat} (hS : SlL s L) {k : Nat} (hk : k < 10) (h : waitN s k = true) : k ∈ L ∧ fillN s k = none := by
  unfold waitN usedN at h
  rw [Bool.and_eq_true, decide_eq_true_eq, Option.isNone_iff_eq_none] at h
  exact ⟨(hS.1 k).mpr ⟨hk, h.1⟩, h.2⟩
theorem c_X2_hireBest (l : Launch) (G : JG) (H : Heap) {n0 : Nat} {b : BG} {s : Nat → Nat} (h : jbd G H n0 b s) (hW : WFs s) (hB : Bs s) (x : Int32) : JMet l yX2_hireBest (ws_ yX2_hireBest cX2_hireBest 4 (some .int)) 12 227 G H [.ref (bg b 0), .int x] (pD G H n0 b (hireBestD s x)) (pxD [eIdx, eSta, eEle] (hireBestD s x).1 n0 H) := by
  refine JMet.of [(0, .inr (some (bg b 0))), (1, .inl (.int x))] (by decide) (Nat.le_of_ble_eq_true rfl) rfl (fun X hl hX hQ hEx hr hnm hH => ?_)
  subst hl
  have hC := hX.C
  have hoB := h.B.1
  first | refine j_aload_n (pc := 0) hX dX2_hireBest_0 rfl rfl ?_ | refine j_aload_nq (pc := 0) hX dX2_hireBest_0 rfl rfl ?_
  refine j_iload_n (pc := 1) hX dX2_hireBest_1 rfl rfl ?_
  change JW X G H (225 + 2) 2 _ _
  refine j_runa (pc := 2) (jr_V (pc := 2) hX kv_X2_205 (by first | assumption | exact jow.r (by assumption)) (c_X2_post _ _ _ h hB.1 x) (by decide) dX2_hireBest_2 rfl rfl (Nat.le_of_ble_eq_true rfl)) (fun r_2 H_2 p_2 z_2 => ?_) (fun E q H1 hx _ => jt_out hX hQ hEx (by obtain ⟨rfl, h1, h2⟩ := hx; unfold hireBestD; rw [h1]; exact ⟨Nat.succ_pos _, rfl, h2.fr⟩))
  obtain ⟨rfl, p, hpx, rfl⟩ := p_2
  obtain ⟨hp, -⟩ := postN_ex hB.1 hpx
  have hxp := (h.Y.1 p hp).1
  first | refine j_astore_n (pc := 5) hX dX2_hireBest_5 rfl (by decide) rfl ?_ | refine j_astore_nN (pc := 5) hX dX2_hireBest_5 rfl (by decide) rfl ?_ | refine j_astore_nq (pc := 5) hX dX2_hireBest_5 rfl (by decide) rfl ?_
  first | refine j_aload_n (pc := 6) hX dX2_hireBest_6 rfl rfl ?_ | refine j_aload_nq (pc := 6) hX dX2_hireBest_6 rfl rfl ?_
  refine j_rune (pc := 7) (jr_V (pc := 7) hX kv_X2_126 hxp.r (c_X4_isVacant _ _ _ _ hxp) (by decide) dX2_hireBest_7 rfl rfl (Nat.le_of_ble_eq_true rfl)) ?_ jno_x
  skip
  have hD : hireBestD s x = if 0 < pFl s p then (2, 0, s) else match candN s p with | none => (3, 0, s) | some k => (0, nI (aId s k) - 1, fillS s p k) := by unfold hireBestD; rw [hpx]; rfl
  rw [hldN_z]
  by_cases hv : pFl s p = 0
  · rw [decide_eq_true hv]
    rw [if_neg (by omega)] at hD
    change JW X G H_2 (223 + 2) 10 _ _
    refine j_runv (pc := 10) (jr_SN (pc := 10) hX ks_X2_151 (c_X1_checkState _ _ _ true) (by decide) dX2_hireBest_10 rfl rfl (Nat.le_of_ble_eq_true rfl)) (fun H_10 p_10 z_10 => ?_) (fun E q H1 hx _ => absurd hx.2.1 (by decide))
    obtain ⟨rfl, -⟩ := p_10
    first | refine j_aload_n (pc := 13) hX dX2_hireBest_13 rfl rfl ?_ | refine j_aload_nq (pc := 13) hX dX2_hireBest_13 rfl rfl ?_
    first | refine j_aload_n (pc := 14) hX dX2_hireBest_14 rfl rfl ?_ | refine j_aload_nq (pc := 14) hX dX2_hireBest_14 rfl rfl ?_
    change JW X G H_10 (2 + 221) 15 _ _
    refine j_runq (pc := 15) (jr_V (pc := 15) hX kv_X2_224 (by first | assumption | exact jow.r (by assumption)) (c_X2_candidate _ _ _ h hW hB p hp) (by decide) dX2_hireBest_15 rfl rfl (Nat.le_of_ble_eq_true rfl)) (fun r_15 H_15 p_15 z_15 => ?_) jno_x
    obtain ⟨rfl, e15⟩ := p_15
    have h15 := h.ext hC e15
    skip
    cases hc : candN s p with
    | none =>
      rw [hc] at hD
      first | refine j_astore_n (pc := 18) hX dX2_hireBest_18 rfl (by decide) rfl ?_ | refine j_astore_nN (pc := 18) hX dX2_hireBest_18 rfl (by decide) rfl ?_ | refine j_astore_nq (pc := 18) hX dX2_hireBest_18 rfl (by decide) rfl ?_
      first | refine j_aload_n (pc := 19) hX dX2_hireBest_19 rfl rfl ?_ | refine j_aload_nq (pc := 19) hX dX2_hireBest_19 rfl rfl ?_
      refine j_ifnullN (pc := 20) (tgt := 27) hX dX2_hireBest_20 (by decide) ?_
      refine j_iconst (pc := 27) (v := 0) hX dX2_hireBest_27 (by decide) ?_
      change JW X G H_15 (0 + 2) 28 _ [.int (jb false)]
      refine j_runv (pc := 28) (jr_SN (pc := 28) hX ks_X2_114 (c_X1_checkElement _ _ _ false) (by decide) dX2_hireBest_28 rfl rfl (Nat.le_of_ble_eq_true rfl)) (fun H_28 p_28 z_28 => ?_) (fun E q H1 hx _ => jt_out hX hQ hEx (by rw [hD]; exact ⟨Nat.succ_pos _, by rw [hx.1]; rfl, (e15.trans hx.2.2).fr⟩))
      exact absurd p_28.2 (by decide)
    | some k =>
      rw [hc] at hD
      obtain ⟨k10, kc⟩ := best_c 10 k hc
      obtain ⟨hk, hw⟩ := wait_in h.S k10 (Bool.and_eq_true_iff.mp kc).1
      first | refine j_astore_n (pc := 18) hX dX2_hireBest_18 rfl (by decide) rfl ?_ | refine j_astore_nN (pc := 18) hX dX2_hireBest_18 rfl (by decide) rfl ?_ | refine j_astore_nq (pc := 18) hX dX2_hireBest_18 rfl (by decide) rfl ?_
      first | refine j_aload_n (pc := 19) hX dX2_hireBest_19 rfl rfl ?_ | refine j_aload_nq (pc := 19) hX dX2_hireBest_19 rfl rfl ?_
      refine j_ifnull (pc := 20) hX dX2_hireBest_20 ?_
      refine j_iconst (pc := 23) (v := 1) hX dX2_hireBest_23 (by decide) ?_
      refine j_goto (pc := 24) (tgt := 28) hX dX2_hireBest_24 (by decide) ?_
      change JW X G H_15 (0 + 2) 28 _ [.int (jb true)]
      refine j_runv (pc := 28) (jr_SN (pc := 28) hX ks_X2_114 (c_X1_checkElement _ _ _ true) (by decide) dX2_hireBest_28 rfl rfl (Nat.le_of_ble_eq_true rfl)) (fun H_28 p_28 z_28 => ?_) (fun E q H1 hx _ => absurd hx.2.1 (by decide))
      obtain ⟨rfl, -⟩ := p_28
      have hxp := (h15.Y.1 p hp).1
      first | refine j_aload_n (pc := 31) hX dX2_hireBest_31 rfl rfl ?_ | refine j_aload_nq (pc := 31) hX dX2_hireBest_31 rfl rfl ?_
      first | refine j_aload_n (pc := 32) hX dX2_hireBest_32 rfl rfl ?_ | refine j_aload_nq (pc := 32) hX dX2_hireBest_32 rfl rfl ?_
      refine j_runv (pc := 33) (jr_V (pc := 33) hX kv_X2_87 hxp.r (c_fillN _ _ _ hC h15 hW.U p k hp hk hv hw) (by decide) dX2_hireBest_33 rfl rfl (Nat.le_of_ble_eq_true rfl)) (fun H_33 p_33 z_33 => ?_) jno_x
      obtain ⟨h33, hF33⟩ := p_33
      have hxa := (h33.X.1 k hk).1
      have eI : idI (fillS s p k) k = idI s k := by unfold idI; rw [show aId (fillS s p k) k = aId s k from jup_off (fun q => by omega)]
      first | refine j_aload_n (pc := 36) hX dX2_hireBest_36 rfl rfl ?_ | refine j_aload_nq (pc := 36) hX dX2_hireBest_36 rfl rfl ?_
      refine j_get (pc := 37) hX kg_X2_91 dX2_hireBest_37 hxa.r (by rfl) ?_
      exact j_iret hX hQ hr dX2_hireBest_40 ⟨_, rfl, by rw [hD], by rw [hD]; exact eI, JFr.trans e15.fr (h15.frA hp hk hF33), b, rfl, by rw [hD]; exact h33⟩
  · rw [decide_eq_false hv]
    rw [if_pos (by omega)] at hD
    change JW X G H_2 (223 + 2) 10 _ _
    refine j_runv (pc := 10) (jr_SN (pc := 10) hX ks_X2_151 (c_X1_checkState _ _ _ false) (by decide) dX2_hireBest_10 rfl rfl (Nat.le_of_ble_eq_true rfl)) (fun H_10 p_10 z_10 => ?_) (fun E q H1 hx _ => jt_out hX hQ hEx (by rw [hD]; exact ⟨Nat.succ_pos _, by rw [hx.1]; rfl, hx.2.2.fr⟩))
    exact absurd p_10.2 (by decide)
theorem c_X2_dismiss (l : Launch) (G : JG) (H : Heap) {n0 : Nat} {b : BG} {s : Nat → Nat} (h : jbd G H n0 b s) (hW : WFs s) (hB : Bs s) (x : Int32) : JMet l yX2_dismiss (ws_ yX2_dismiss cX2_dismiss 3 (some .int)) 8 4 G H [.ref (bg b 0), .int x] (pD G H n0 b (dismissD s x)) (pxD [eIdx, eSta] (dismissD s x).1 n0 H) := by
  refine JMet.of [(0, .inr (some (bg b 0))), (1, .inl (.int x))] (by decide) (Nat.le_of_ble_eq_true rfl) rfl (fun X hl hX hQ hEx hr hnm hH => ?_)
  subst hl
  have hC := hX.C
  have hoB := h.B.1
  first | refine j_aload_n (pc := 0) hX dX2_dismiss_0 rfl rfl ?_ | refine j_aload_nq (pc := 0) hX dX2_dismiss_0 rfl rfl ?_
  refine j_iload_n (pc := 1) hX dX2_dismiss_1 rfl rfl ?_
  change JW X G H (2 + 2) 2 _ _
  refine j_runa (pc := 2) (jr_V (pc := 2) hX kv_X2_205 (by first | assumption | exact jow.r (by assumption)) (c_X2_post _ _ _ h hB.1 x) (by decide) dX2_dismiss_2 rfl rfl (Nat.le_of_ble_eq_true rfl)) (fun r_2 H_2 p_2 z_2 => ?_) (fun E q H1 hx _ => jt_out hX hQ hEx (by obtain ⟨rfl, h1, h2⟩ := hx; unfold dismissD; rw [h1]; exact ⟨Nat.succ_pos _, rfl, h2.fr⟩))
  obtain ⟨rfl, p, hpx, rfl⟩ := p_2
  obtain ⟨hp, -⟩ := postN_ex hB.1 hpx
  have hxp := (h.Y.1 p hp).1
  first | refine j_astore_n (pc := 5) hX dX2_dismiss_5 rfl (by decide) rfl ?_ | refine j_astore_nN (pc := 5) hX dX2_dismiss_5 rfl (by decide) rfl ?_ | refine j_astore_nq (pc := 5) hX dX2_dismiss_5 rfl (by decide) rfl ?_
  skip
  have hD : dismissD s x = if pFl s p = 0 then (2, 0, s) else (0, nI (aId s (pFl s p - 1)) - 1, jup s (63 + 5 * p + 4) 0) := by unfold dismissD; rw [hpx]
  by_cases hv : pFl s p = 0
  · rw [if_pos hv] at hD
    have hh : (hldN b s p).isNone = true := by rw [hldN_z]; exact decide_eq_true hv
    first | refine j_aload_n (pc := 6) hX dX2_dismiss_6 rfl rfl ?_ | refine j_aload_nq (pc := 6) hX dX2_dismiss_6 rfl rfl ?_
    refine j_rune (pc := 7) (jr_V (pc := 7) hX kv_X2_126 hxp.r (c_X4_isVacant _ _ _ _ hxp) (by decide) dX2_dismiss_7 rfl rfl (Nat.le_of_ble_eq_true rfl)) ?_ jno_x
    rw [hh]
    refine j_if_ne (pc := 10) (tgt := 17) hX dX2_dismiss_10 (by decide) (fun c_10 => ?_) (fun c_10 => ?_)
    rotate_left
    · exact absurd c_10 (by decide)
    refine j_iconst (pc := 17) (v := 0) hX dX2_dismiss_17 (by decide) ?_
    change JW X G H_2 (0 + 2) 18 _ [.int (jb false)]
    refine j_runv (pc := 18) (jr_SN (pc := 18) hX ks_X2_151 (c_X1_checkState _ _ _ false) (by decide) dX2_dismiss_18 rfl rfl (Nat.le_of_ble_eq_true rfl)) (fun H_18 p_18 z_18 => ?_) (fun E q H1 hx _ => jt_out hX hQ hEx (by rw [hD]; exact ⟨Nat.succ_pos _, by rw [hx.1]; rfl, hx.2.2.fr⟩))
    exact absurd p_18.2 (by decide)
  · rw [if_neg hv] at hD
    have hh : (hldN b s p).isNone = false := by rw [hldN_z]; exact decide_eq_false hv
    obtain ⟨hk, -⟩ := hld_in h hW hp hv
    have l10 := (h.S.lt hk).1
    have hv2 : pFl s p = (pFl s p - 1) + 1 := by omega
    first | refine j_aload_n (pc := 6) hX dX2_dismiss_6 rfl rfl ?_ | refine j_aload_nq (pc := 6) hX dX2_dismiss_6 rfl rfl ?_
    refine j_rune (pc := 7) (jr_V (pc := 7) hX kv_X2_126 hxp.r (c_X4_isVacant _ _ _ _ hxp) (by decide) dX2_dismiss_7 rfl rfl (Nat.le_of_ble_eq_true rfl)) ?_ jno_x
    rw [hh]
    refine j_if_ne (pc := 10) (tgt := 17) hX dX2_dismiss_10 (by decide) (fun c_10 => ?_) (fun c_10 => ?_)
    · exact absurd rfl c_10
    refine j_iconst (pc := 13) (v := 1) hX dX2_dismiss_13 (by decide) ?_
    refine j_goto (pc := 14) (tgt := 18) hX dX2_dismiss_14 (by decide) ?_
    change JW X G H_2 (0 + 2) 18 _ [.int (jb true)]
    refine j_runv (pc := 18) (jr_SN (pc := 18) hX ks_X2_151 (c_X1_checkState _ _ _ true) (by decide) dX2_dismiss_18 rfl rfl (Nat.le_of_ble_eq_true rfl)) (fun H_18 p_18 z_18 => ?_) (fun E q H1 hx _ => absurd hx.2.1 (by decide))
    obtain ⟨rfl, -⟩ := p_18
    first | refine j_aload_n (pc := 21) hX dX2_dismiss_21 rfl rfl ?_ | refine j_aload_nq (pc := 21) hX dX2_dismiss_21 rfl rfl ?_
    refine j_runa (pc := 22) (jr_V (pc := 22) hX kv_X2_190 hxp.r (c_emptN _ _ _ hC h hW.U p (pFl s p - 1) hp hk hv2) (by decide) dX2_dismiss_22 rfl rfl (Nat.le_of_ble_eq_true rfl)) (fun r_22 H_22 p_22 z_22 => ?_) jno_x
    obtain ⟨rfl, h22, hF22⟩ := p_22
    have hxa := (h22.X.1 _ hk).1
    have eI : idI (jup s (63 + 5 * p + 4) 0) (pFl s p - 1) = idI s (pFl s p - 1) := by unfold idI; rw [show aId (jup s (63 + 5 * p + 4) 0) (pFl s p - 1) = aId s (pFl s p - 1) from jup_off (fun q => by omega)]
    refine j_get (pc := 25) hX kg_X2_91 dX2_dismiss_25 hxa.r (by rfl) ?_
    exact j_iret hX hQ hr dX2_dismiss_28 ⟨_, rfl, by rw [hD], by rw [hD]; exact eI, h.frA hp hk hF22, b, rfl, by rw [hD]; exact h22⟩
