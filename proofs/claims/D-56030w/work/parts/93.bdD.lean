/-! a new applicant; a new post -/
set_option maxRecDepth 100000
section
variable {G : JG} {H H1 : Heap} {n0 : Nat} {b : BG} {s : Nat → Nat}
/-- the next id or the day written -/
theorem jbd.hd {i w : Nat} (hC : JC G) (hi : i < 2) (h : jbd G H n0 b s) (hw : JPut H H1 (bg b 0)) (hn : jow G H1 (bg b 0) 1 [.ref (bg b 1), .ref (bg b 2), .ref (bg b 4), .ref (bg b 5), .int (nI (jup s i w 0)), .int (nI (jup s i w 1))]) : jbd G H1 n0 b (jup s i w) := by
  have hf : ∀ j, 2 ≤ j → jup s i w j = s j := fun j hj => jup_ne (by omega)
  have kp : ∀ x, bow b x ≠ 1 → H1[x]? = H[x]? := fun x hx => hw.2 x (fun e => by rw [e] at hx; exact hx h.B.2)
  have e0 : ∀ k, k < 10 → aId (jup s i w) k = aId s k := fun k _ => hf _ (by omega)
  have og : ∀ x, x < (gs G).heap.size → bow b x = 0 := fun x hx => Classical.byContradiction fun z => by have h1 := (h.O.2.1 x z).1; have h2 := h.O.1; omega
  obtain ⟨h0, h1, h2, h3, h4, h5, h6, h7, h8⟩ := h
  have hid : ∀ k, idI (jup s i w) k = idI s k := fun k => by unfold idI; rw [show aId (jup s i w) k = aId s k from hf _ (by omega)]
  have hgv : ∀ k, aGv (jup s i w) k = aGv s k := fun k => hf _ (by omega)
  have hfi : ∀ k, fillN (jup s i w) k = fillN s k := fun k => fillN_congr (hf 2 (by omega)) (fun p _ => hf _ (by omega)) k
  refine ⟨h0.keep (Nat.le_of_eq hw.1.symm), ⟨fun k => ?_, ?_⟩, ⟨hn, h2.2⟩, ?_, ?_, h5.keep hC (fun a ha => kp a (by rw [ha]; decide)), by rw [hf 2 (by omega)]; exact h6.keep hC (fun a ha => kp a (by rw [ha]; decide)), ⟨fun k hk => ?_, h7.2⟩, ⟨fun p hp => ?_, fun p q hp hq => h8.2 p q (by rw [← hf 2 (by omega)]; exact hp) (by rw [← hf 2 (by omega)]; exact hq)⟩⟩
  · rw [h1.1 k, show aId (jup s i w) k = aId s k from hf _ (by omega)]
  · refine h1.2.imp ?_
    intro a c hlt
    rw [show aId (jup s i w) a = aId s a from hf _ (by omega), show aId (jup s i w) c = aId s c from hf _ (by omega)]; exact hlt
  · obtain ⟨E, a1, a2⟩ := h3.keep (H1 := H1) (fun a ha => kp a (by
      rcases ha with ha | ha | ha
      · rw [ha]; decide
      · rw [ha]; decide
      · rw [og a ha]; decide))
    refine ⟨E, a1, fun k v => ?_⟩
    rw [a2]; simp only [hid]
  · obtain ⟨E, a1, a2⟩ := h4.keep (H1 := H1) (fun a ha => kp a (by rcases ha with ha | ha <;> rw [ha] <;> decide))
    refine ⟨E, a1, fun k v => ?_⟩
    rw [a2]; simp only [hid, hgv]
  · have := (h7.keep (H1 := H1) (fun a ha => kp a (by rw [ha]; decide))).1 k hk
    unfold appV at *
    rw [hid, hfi, show aSh (jup s i w) k = aSh s k from hf _ (by omega), show aWh (jup s i w) k = aWh s k from hf _ (by omega), show aRn (jup s i w) k = aRn s k from hf _ (by omega), show aCo (jup s i w) k = aCo s k from hf _ (by omega)]
    exact this
  · have := (h8.keep (H1 := H1) (fun a ha => kp a (by rw [ha]; decide))).1 p (by rw [← hf 2 (by omega)]; exact hp)
    have hh : hldN b (jup s i w) p = hldN b s p := by unfold hldN; rw [show pFl (jup s i w) p = pFl s p from hf _ (by omega)]
    unfold posV at *
    rw [hh, show pSh (jup s i w) p = pSh s p from hf _ (by omega), show pLo (jup s i w) p = pLo s p from hf _ (by omega), show pHi (jup s i w) p = pHi s p from hf _ (by omega), show pWg (jup s i w) p = pWg s p from hf _ (by omega)]
    exact this
end
theorem c_X1_inR (l : Launch) (G : JG) (H : Heap) (x lo hi : Int32) (a c : Int64) (ha : lo.toInt64 = a) (hc : hi.toInt64 = c) : JMet l yX1_inRange (ws_ yX1_inRange cX1_inRange 6 (some .boolean)) 1 0 G H [.long x.toInt64, .long a, .long c] (jpe H (jb (inI x lo hi))) jno := by
  have e : inI x lo hi = (decide (a ≤ x.toInt64) && decide (x.toInt64 ≤ c)) := by
    unfold inI; subst ha; subst hc
    rw [decide_eq_decide.mpr (i2l_le (a := lo) (b := x)), decide_eq_decide.mpr (i2l_le (a := x) (b := hi))]
  rw [e]; exact c_X1_inRange l G H x.toInt64 a c
def vS (a b c d e f : Nat) : Nat → Nat := fun w => if w = 0 then a else if w = 1 then b else if w = 2 then c else if w = 3 then d else if w = 4 then e else f
theorem addS_put {s : Nat → Nat} (k sh wh rn : Nat) : addS s k sh wh rn = jup (putS s k (vS (s 0 + 1) sh wh rn 0 0)) 0 (s 0 + 1) := by
  have e6 : addS6 s k sh wh rn = putS s k (vS (s 0 + 1) sh wh rn 0 0) := by
    funext j
    unfold addS6 putS vS jup
    by_cases h : 3 + 6 * k ≤ j ∧ j < 9 + 6 * k
    · rw [if_pos h]
      obtain ⟨w, hw, rfl⟩ : ∃ w, w < 6 ∧ j = 3 + 6 * k + w := ⟨j - (3 + 6 * k), by omega, by omega⟩
      rw [show 3 + 6 * k + w - (3 + 6 * k) = w by omega]
      rcases (show w = 0 ∨ w = 1 ∨ w = 2 ∨ w = 3 ∨ w = 4 ∨ w = 5 by omega) with rfl | rfl | rfl | rfl | rfl | rfl <;> simp <;> omega
    · rw [if_neg h, if_neg (by omega), if_neg (by omega), if_neg (by omega), if_neg (by omega), if_neg (by omega), if_neg (by omega)]
  have e0 : addS6 s k sh wh rn 0 = s 0 := by rw [e6]; exact putS_lo (by omega)
  unfold addS
  rw [e0, e6]
theorem c_X2_addApplicant (l : Launch) (G : JG) (H : Heap) {n0 : Nat} {b : BG} {s : Nat → Nat} (h : jbd G H n0 b s) (hW : WFs s) (hB : Bs s) (h31 : s 0 < 31) (sh wh rn : Int32) : JMet l yX2_addApplicant (ws_ yX2_addApplicant cX2_addApplicant 5 (some .int)) 10 31 G H [.ref (bg b 0), .int sh, .int wh, .int rn] (pD G H n0 b (addD s sh wh rn)) (pxD [eArg, eSta] (addD s sh wh rn).1 n0 H) := by
  refine JMet.of [(0, .inr (some (bg b 0))), (1, .inl (.int sh)), (2, .inl (.int wh)), (3, .inl (.int rn))] (by decide) (Nat.le_of_ble_eq_true rfl) rfl (fun X hl hX hQ hEx hr hnm hH => ?_)
  subst hl
  have hC := hX.C
  have hoB := h.B.1
  have hA := h.A.1
  have hlen0 : ((bL b).map (bap b)).length = (bL b).length := List.length_map ..
  have hsz := c_J4_size (jl X) G H (bg b 2) (bg b 3) hA
  rw [hlen0] at hsz
  have ap := apps_law h.S
  have l10 := h.S.len
  have thr : (shI sh && (inI wh 0 100 && inI rn 0 50)) = false → JW X G H 31 36 [] [.int (jb false)] := by
    intro hc
    have hD : addD s sh wh rn = (1, 0, s) := by unfold addD; rw [if_pos hc]
    change JW X G H (29 + 2) 36 _ _
    refine j_runv (pc := 36) (jr_SN (pc := 36) hX ks_X2_148 (c_X1_checkArgument _ _ _ false) (by decide) dX2_addApplicant_36 rfl rfl (Nat.le_of_ble_eq_true rfl)) (fun H_36 p_36 z_36 => ?_) (fun E q H1 hx _ => jt_out hX hQ hEx (by rw [hD]; exact ⟨Nat.succ_pos _, by rw [hx.1]; rfl, hx.2.2.fr⟩))
    exact absurd p_36.2 (by decide)
  have go : (shI sh && (inI wh 0 100 && inI rn 0 50)) = true → JW X G H 31 36 [(0, .inr (some (bg b 0))), (1, .inl (.int sh)), (2, .inl (.int wh)), (3, .inl (.int rn))] [.int (jb true)] := by
    intro hc
    rw [Bool.and_eq_true, Bool.and_eq_true] at hc
    obtain ⟨c1, c2, c3⟩ := hc
    obtain ⟨shn, hs1, hs2, rfl⟩ := shI_nat c1
    obtain ⟨whn, hw2, rfl⟩ := inI_nat (n := 100) rfl c2
    obtain ⟨rnn, hr2, rfl⟩ := inI_nat (n := 50) rfl c3
    have hD : addD s (nI shn) (nI whn) (nI rnn) = if (bL b).length = 10 then (2, 0, s) else (0, nI (s 0), addS s (freeN s) shn whn rnn) := by
      unfold addD
      rw [if_neg (by rw [c1, c2, c3]; decide), ap, nI_clamp (by omega), nI_clamp (by omega), nI_clamp (by omega)]
    by_cases hf : (bL b).length = 10
    · rw [if_pos hf] at hD
      change JW X G H (29 + 2) 36 _ _
      refine j_runv (pc := 36) (jr_SN (pc := 36) hX ks_X2_148 (c_X1_checkArgument _ _ _ true) (by decide) dX2_addApplicant_36 rfl rfl (Nat.le_of_ble_eq_true rfl)) (fun H_36 p_36 z_36 => ?_) (fun E q H1 hx _ => absurd hx.2.1 (by decide))
      obtain ⟨rfl, -⟩ := p_36
      first | refine j_aload_n (pc := 39) hX dX2_addApplicant_39 rfl rfl ?_ | refine j_aload_nq (pc := 39) hX dX2_addApplicant_39 rfl rfl ?_
      refine j_get (pc := 40) hX kg_X2_21 dX2_addApplicant_40 (by first | assumption | exact jow.r (by assumption)) (by rfl) ?_
      refine j_rune (pc := 43) (jr_V (pc := 43) hX kv_X2_118 hA.1.r (hsz) (by decide) dX2_addApplicant_43 rfl rfl (Nat.le_of_ble_eq_true rfl)) ?_ jno_x
      refine j_bipush (pc := 46) (v := 10) hX dX2_addApplicant_46 (by decide) ?_
      rw [hf]
      refine j_icmp_ge (pc := 48) (tgt := 55) hX dX2_addApplicant_48 (by decide) (fun c_48 => ?_) (fun c_48 => ?_)
      rotate_left
      · exact absurd (show (10 : Int32) ≤ nI 10 from by decide) c_48
      refine j_iconst (pc := 55) (v := 0) hX dX2_addApplicant_55 (by decide) ?_
      change JW X G H_36 (27 + 2) 56 _ [.int (jb false)]
      refine j_runv (pc := 56) (jr_SN (pc := 56) hX ks_X2_151 (c_X1_checkState _ _ _ false) (by decide) dX2_addApplicant_56 rfl rfl (Nat.le_of_ble_eq_true rfl)) (fun H_56 p_56 z_56 => ?_) (fun E q H1 hx _ => jt_out hX hQ hEx (by rw [hD]; exact ⟨Nat.succ_pos _, by rw [hx.1]; rfl, hx.2.2.fr⟩))
      exact absurd p_56.2 (by decide)
    · rw [if_neg hf] at hD
      have hap : appsN s ≠ 10 := by rw [ap]; exact hf
      obtain ⟨hk, hku⟩ := free_ok 10 0 (apps_some hap)
      have hk : freeN s < 10 := by simpa [freeN] using hk
      have hku : aId s (freeN s) = 0 := by
        have : usedN s (freeN s) = false := hku
        unfold usedN at this
        have := of_decide_eq_false this
        omega
      have hsh := pk_charN (q := shn) (by omega)
      change JW X G H (29 + 2) 36 _ _
      refine j_runv (pc := 36) (jr_SN (pc := 36) hX ks_X2_148 (c_X1_checkArgument _ _ _ true) (by decide) dX2_addApplicant_36 rfl rfl (Nat.le_of_ble_eq_true rfl)) (fun H_36 p_36 z_36 => ?_) (fun E q H1 hx _ => absurd hx.2.1 (by decide))
      obtain ⟨rfl, -⟩ := p_36
      first | refine j_aload_n (pc := 39) hX dX2_addApplicant_39 rfl rfl ?_ | refine j_aload_nq (pc := 39) hX dX2_addApplicant_39 rfl rfl ?_
      refine j_get (pc := 40) hX kg_X2_21 dX2_addApplicant_40 (by first | assumption | exact jow.r (by assumption)) (by rfl) ?_
      refine j_rune (pc := 43) (jr_V (pc := 43) hX kv_X2_118 hA.1.r (hsz) (by decide) dX2_addApplicant_43 rfl rfl (Nat.le_of_ble_eq_true rfl)) ?_ jno_x
      refine j_bipush (pc := 46) (v := 10) hX dX2_addApplicant_46 (by decide) ?_
      refine j_icmp_ge (pc := 48) (tgt := 55) hX dX2_addApplicant_48 (by decide) (fun c_48 => ?_) (fun c_48 => ?_)
      · exact absurd c_48 (by rw [show (10 : Int32) = nI 10 from rfl]; exact nI_ge (show (bL b).length < 10 by omega) (by omega))
      refine j_iconst (pc := 51) (v := 1) hX dX2_addApplicant_51 (by decide) ?_
      refine j_goto (pc := 52) (tgt := 56) hX dX2_addApplicant_52 (by decide) ?_
      change JW X G H_36 (27 + 2) 56 _ [.int (jb true)]
      refine j_runv (pc := 56) (jr_SN (pc := 56) hX ks_X2_151 (c_X1_checkState _ _ _ true) (by decide) dX2_addApplicant_56 rfl rfl (Nat.le_of_ble_eq_true rfl)) (fun H_56 p_56 z_56 => ?_) (fun E q H1 hx _ => absurd hx.2.1 (by decide))
      obtain ⟨rfl, -⟩ := p_56
      first | refine j_aload_n (pc := 59) hX dX2_addApplicant_59 rfl rfl ?_ | refine j_aload_nq (pc := 59) hX dX2_addApplicant_59 rfl rfl ?_
      change JW X G H_56 (25 + 2) 60 _ _
      refine j_new (pc := 60) hX kn_X2_63 2 jw_X5 dX2_addApplicant_60 (fun H_60 z_60 e_60 n_60 b_60 => ?_)
      have hoB := hoB.ext e_60
      refine j_dup (pc := 63) hX dX2_addApplicant_63 (by first | rfl | exact jrf_cat _) ?_
      first | refine j_aload_n (pc := 64) hX dX2_addApplicant_64 rfl rfl ?_ | refine j_aload_nq (pc := 64) hX dX2_addApplicant_64 rfl rfl ?_
      refine j_get (pc := 65) hX kg_X2_32 dX2_addApplicant_65 (by first | assumption | exact jow.r (by assumption)) (by rfl) ?_
      refine j_iload_n (pc := 68) hX dX2_addApplicant_68 rfl rfl ?_
      refine j_iload_n (pc := 69) hX dX2_addApplicant_69 rfl rfl ?_
      refine j_iload_n (pc := 70) hX dX2_addApplicant_70 rfl rfl ?_
      refine j_iconst (pc := 71) (v := 0) hX dX2_addApplicant_71 (by decide) ?_
      refine j_runv (pc := 72) (jr_I (pc := 72) hX ki_X2_187 (c_X5_init _ _ _ _ (nI (s 0)) (nI shn) (nI whn) (nI rnn) 0 n_60 b_60 hsh) (by decide) dX2_addApplicant_72 rfl rfl (Nat.le_of_ble_eq_true rfl)) (fun H_72 p_72 z_72 => ?_) jno_x
      obtain ⟨w1, n1⟩ := p_72
      have e72 := e_60.put w1 (Nat.le_refl _)
      skip
      have h72 := h.ext hC e72
      have hao : bow b H_56.size = 0 := Classical.byContradiction fun z => Nat.lt_irrefl _ (h.O.2.1 _ z).2
      have hput := c_X2_put (jl X) G H_72 h72 hB H_56.size (freeN s) (vS (s 0 + 1) shn whn rnn 0 0) hk hku (by show jow G H_72 H_56.size 2 (oApp (nI (s 0 + 1) - 1) (nI shn) (nI whn) (nI rnn) (nI 0) none); rw [nI_pred]; exact n1) h.O.2.2 hao (Nat.succ_pos _) (fun j hj => by have := (hW.2.2.2.1 j (h.S.lt hj).1).1; show aId s j < s 0 + 1; omega) (by show s 0 + 1 ≤ 31; omega) rfl (by omega)
        (fun p hp e => by have h1 := hW.2.2.2.2.2.2.2.2.2.1 p hp (by omega); rw [e] at h1; rw [show freeN s + 1 - 1 = freeN s by omega, hku] at h1; exact Nat.lt_irrefl _ h1)
        (fun j hj => by
          cases e : (aGv s j).testBit (freeN s) with
          | false => rfl
          | true => have := gv_in hW (h.S.lt hj).1 e; rw [hku] at this; exact absurd this (Nat.lt_irrefl _))
      change JW X G H_72 (0 + 25) 75 _ _
      refine j_runa (pc := 75) (jr_V (pc := 75) hX kv_X2_68 h72.B.1.r (hput) (by decide) dX2_addApplicant_75 rfl rfl (Nat.le_of_ble_eq_true rfl)) (fun r_75 H_75 p_75 z_75 => ?_) jno_x
      obtain ⟨rfl, hF75, b', q0, qL, qa, qp, h75⟩ := p_75
      skip
      have hoB2 := h75.B.1
      have hgB := h75.og (a := bg b' 0) (by rw [h75.B.2]; decide)
      rw [q0] at hoB2 hgB
      rw [putS_lo (show 0 < 3 by decide), putS_lo (show 1 < 3 by decide)] at hoB2
      have hx75 := (h75.X.1 (freeN s) (by rw [qL]; exact List.mem_append_right _ List.mem_cons_self)).1
      have ea : bap b' (freeN s) = H_56.size := by rw [qa]; exact jup_same
      rw [ea] at hx75
      have hne : H_56.size ≠ bg b 0 := hC.ne hx75.r hoB2.r (by decide)
      first | refine j_astore (pc := 78) hX dX2_addApplicant_78 (by decide) rfl ?_ | refine j_astoreN (pc := 78) hX dX2_addApplicant_78 (by decide) rfl ?_ | refine j_astoreq (pc := 78) hX dX2_addApplicant_78 (by decide) rfl ?_
      first | refine j_aload_n (pc := 80) hX dX2_addApplicant_80 rfl rfl ?_ | refine j_aload_nq (pc := 80) hX dX2_addApplicant_80 rfl rfl ?_
      refine j_dup (pc := 81) hX dX2_addApplicant_81 (by first | rfl | exact jrf_cat _) ?_
      refine j_get (pc := 82) hX kg_X2_32 dX2_addApplicant_82 hoB2.r (by rfl) ?_
      refine j_iconst (pc := 85) (v := 1) hX dX2_addApplicant_85 (by decide) ?_
      refine j_iadd (pc := 86) hX dX2_addApplicant_86 ?_
      refine j_put (pc := 87) hX kp_X2_32 dX2_addApplicant_87 hoB2 hgB rfl rfl rfl (fun H_87 w_87 n_87 => ?_)
      have hx87 := hx75.put w_87 hne
      first | refine j_aload (pc := 90) hX dX2_addApplicant_90 rfl ?_ | refine j_aloadq (pc := 90) hX dX2_addApplicant_90 rfl ?_
      refine j_get (pc := 92) hX kg_X2_91 dX2_addApplicant_92 hx87.r (by rfl) ?_
      skip
      have hid : idI (putS s (freeN s) (vS (s 0 + 1) shn whn rnn 0 0)) (freeN s) = nI (s 0) := by unfold idI; rw [putS_id, if_pos rfl]; exact nI_pred (s 0)
      have hfin : jbd G H_87 n0 b' (addS s (freeN s) shn whn rnn) := by
        rw [addS_put]
        refine h75.hd hC (by decide) (by rw [q0]; exact w_87) ?_
        rw [q0, jup_same, jup_ne (by decide), putS_lo (show 1 < 3 by decide)]
        rw [nI_1] at n_87
        exact n_87
      exact j_iret hX hQ hr dX2_addApplicant_95 ⟨_, rfl, by rw [hD], by rw [hD]; exact hid, (JFr.trans e72.fr hF75).put w_87 (fun _ => (h.O.2.1 _ (by rw [h.B.2]; decide)).1), b', q0, by rw [hD]; exact hfin⟩
  refine j_iload_n (pc := 0) hX dX2_addApplicant_0 rfl rfl ?_
  refine j_rune (pc := 1) (jr_SN (pc := 1) hX ks_X2_175 (c_X1_isShape _ _ _ sh) (by decide) dX2_addApplicant_1 rfl rfl (Nat.le_of_ble_eq_true rfl)) ?_ jno_x
  refine j_if_eq (pc := 4) (tgt := 35) hX dX2_addApplicant_4 (by decide) (fun c_4 => ?_) (fun c_4 => ?_)
  · rw [jb_z] at c_4
    have fin := thr (by rw [c_4]; rfl)
    refine j_iconst (pc := 35) (v := 0) hX dX2_addApplicant_35 (by decide) ?_
    exact j_lv (by simp [jsb, jget, jval]) fin
  · rw [jb_n] at c_4
    refine j_iload_n (pc := 7) hX dX2_addApplicant_7 rfl rfl ?_
    refine j_i2l (pc := 8) hX dX2_addApplicant_8 rfl ?_
    refine j_lconst (pc := 9) (v := 0) hX dX2_addApplicant_9 (by decide) ?_
    refine j_ldc2 (pc := 10) hX q1496 dX2_addApplicant_10 ?_
    refine j_rune (pc := 13) (jr_SN (pc := 13) hX ks_X2_181 (c_X1_inR _ _ _ wh 0 100 0 100 (by decide) (by decide)) (by decide) dX2_addApplicant_13 rfl rfl (Nat.le_of_ble_eq_true rfl)) ?_ jno_x
    refine j_if_eq (pc := 16) (tgt := 35) hX dX2_addApplicant_16 (by decide) (fun c_16 => ?_) (fun c_16 => ?_)
    · rw [jb_z] at c_16
      have fin := thr (by rw [c_4, c_16]; rfl)
      refine j_iconst (pc := 35) (v := 0) hX dX2_addApplicant_35 (by decide) ?_
      exact j_lv (by simp [jsb, jget, jval]) fin
    · rw [jb_n] at c_16
      refine j_iload_n (pc := 19) hX dX2_addApplicant_19 rfl rfl ?_
      refine j_i2l (pc := 20) hX dX2_addApplicant_20 rfl ?_
      refine j_lconst (pc := 21) (v := 0) hX dX2_addApplicant_21 (by decide) ?_
      refine j_ldc2 (pc := 22) hX q1500 dX2_addApplicant_22 ?_
      refine j_rune (pc := 25) (jr_SN (pc := 25) hX ks_X2_181 (c_X1_inR _ _ _ rn 0 50 0 50 (by decide) (by decide)) (by decide) dX2_addApplicant_25 rfl rfl (Nat.le_of_ble_eq_true rfl)) ?_ jno_x
      refine j_if_eq (pc := 28) (tgt := 35) hX dX2_addApplicant_28 (by decide) (fun c_28 => ?_) (fun c_28 => ?_)
      · rw [jb_z] at c_28
        have fin := thr (by rw [c_4, c_16, c_28]; rfl)
        refine j_iconst (pc := 35) (v := 0) hX dX2_addApplicant_35 (by decide) ?_
        exact j_lv (by simp [jsb, jget, jval]) fin
      · rw [jb_n] at c_28
        have fin := go (by rw [c_4, c_16, c_28]; rfl)
        refine j_iconst (pc := 31) (v := 1) hX dX2_addApplicant_31 (by decide) ?_
        refine j_goto (pc := 32) (tgt := 36) hX dX2_addApplicant_32 (by decide) ?_
        exact j_lv (by simp [jsb, jget, jval]) fin
