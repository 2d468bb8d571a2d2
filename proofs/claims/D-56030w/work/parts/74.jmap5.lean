/-! the map: resize -/
set_option maxRecDepth 100000
theorem c_J1_resize0 (l : Launch) (G : JG) (H : Heap) (q : Nat) {mc : Int32} (h : jow G H q 9 (hmF 0 mc 0 none)) (hq : (gs G).heap.size ≤ q) : JMet l yJ1_resize (ws_ yJ1_resize cJ1_resize 14 (some (.array (.object "java/util/HashMap$Node")))) 1 4 G H [.ref q] (jpa (fun r H1 => H.size ≤ r ∧ jow G H1 q 9 (hmF 0 mc 16 (some r)) ∧ (gs G).heap.size ≤ r ∧ jaw G H1 r 8 16 (fun _ => va_rf none) ∧ JFr (fun a => a = q) H H1)) (jno) := by
  refine JMet.of [(0, .inr (some q))] (by decide) (Nat.le_of_ble_eq_true rfl) rfl (fun X hl hX hQ hEx hr hnm hH => ?_)
  subst hl
  first | refine j_aload_n (pc := 0) hX dJ1_resize_0 rfl rfl ?_ | refine j_aload_nq (pc := 0) hX dJ1_resize_0 rfl rfl ?_
  refine j_get (pc := 1) hX kg_J1_105 dJ1_resize_1 (by first | assumption | exact jow.r (by assumption)) (by rfl) ?_
  first | refine j_astore_n (pc := 4) hX dJ1_resize_4 rfl (by decide) rfl ?_ | refine j_astore_nN (pc := 4) hX dJ1_resize_4 rfl (by decide) rfl ?_ | refine j_astore_nq (pc := 4) hX dJ1_resize_4 rfl (by decide) rfl ?_
  first | refine j_aload_n (pc := 5) hX dJ1_resize_5 rfl rfl ?_ | refine j_aload_nq (pc := 5) hX dJ1_resize_5 rfl rfl ?_
  refine j_ifnonnullN (pc := 6) hX dJ1_resize_6 ?_
  refine j_iconst (pc := 9) (v := 0) hX dJ1_resize_9 (by decide) ?_
  refine j_goto (pc := 10) (tgt := 15) hX dJ1_resize_10 (by decide) ?_
  refine j_istore_n (pc := 15) hX dJ1_resize_15 rfl (by decide) rfl ?_
  first | refine j_aload_n (pc := 16) hX dJ1_resize_16 rfl rfl ?_ | refine j_aload_nq (pc := 16) hX dJ1_resize_16 rfl rfl ?_
  refine j_get (pc := 17) hX kg_J1_88 dJ1_resize_17 (by first | assumption | exact jow.r (by assumption)) (by rfl) ?_
  refine j_istore_n (pc := 20) hX dJ1_resize_20 rfl (by decide) rfl ?_
  refine j_iconst (pc := 21) (v := 0) hX dJ1_resize_21 (by decide) ?_
  refine j_istore (pc := 22) hX dJ1_resize_22 (by decide) rfl ?_
  refine j_iload_n (pc := 24) hX dJ1_resize_24 rfl rfl ?_
  refine j_if_le (pc := 25) (tgt := 67) hX dJ1_resize_25 (by decide) (fun c_25 => ?_) (fun c_25 => ?_)
  rotate_left
  · first | exact absurd c_25 (by decide) | (change ¬ (0 : Int32) ≤ 0 at c_25; exact absurd c_25 (by decide))
  refine j_iload_n (pc := 67) hX dJ1_resize_67 rfl rfl ?_
  refine j_if_le (pc := 68) (tgt := 77) hX dJ1_resize_68 (by decide) (fun c_68 => ?_) (fun c_68 => ?_)
  rotate_left
  · exact absurd (show nI (0 / 4 * 3) ≤ 0 from by decide) c_68
  refine j_bipush (pc := 77) (v := 16) hX dJ1_resize_77 (by decide) ?_
  refine j_istore (pc := 79) hX dJ1_resize_79 (by decide) rfl ?_
  refine j_bipush (pc := 81) (v := 12) hX dJ1_resize_81 (by decide) ?_
  refine j_istore (pc := 83) hX dJ1_resize_83 (by decide) rfl ?_
  refine j_iload (pc := 85) hX dJ1_resize_85 rfl ?_
  refine j_if_ne (pc := 87) (tgt := 125) hX dJ1_resize_87 (by decide) (fun c_87 => ?_) (fun c_87 => ?_)
  rotate_left
  · first | exact absurd c_87 (by decide) | (change (12 : Int32) = 0 at c_87; exact absurd c_87 (by decide))
  first | refine j_aload_n (pc := 125) hX dJ1_resize_125 rfl rfl ?_ | refine j_aload_nq (pc := 125) hX dJ1_resize_125 rfl rfl ?_
  refine j_iload (pc := 126) hX dJ1_resize_126 rfl ?_
  refine j_put (pc := 128) hX kp_J1_88 dJ1_resize_128 (by assumption) hq rfl rfl rfl (fun H_128 w_128 n_128 => ?_)
  refine j_iload (pc := 131) hX dJ1_resize_131 rfl ?_
  refine j_anew (pc := 133) hX kr_J1_163 16 4 rfl (by omega) (by omega) dJ1_resize_133 (fun H_133 z_133 e_133 n_133 b_133 => ?_)
  have n_128 := n_128.ext e_133
  first | refine j_astore (pc := 136) hX dJ1_resize_136 (by decide) rfl ?_ | refine j_astoreN (pc := 136) hX dJ1_resize_136 (by decide) rfl ?_ | refine j_astoreq (pc := 136) hX dJ1_resize_136 (by decide) rfl ?_
  first | refine j_aload_n (pc := 138) hX dJ1_resize_138 rfl rfl ?_ | refine j_aload_nq (pc := 138) hX dJ1_resize_138 rfl rfl ?_
  first | refine j_aload (pc := 139) hX dJ1_resize_139 rfl ?_ | refine j_aloadq (pc := 139) hX dJ1_resize_139 rfl ?_
  refine j_put (pc := 141) hX kp_J1_105 dJ1_resize_141 n_128 hq rfl rfl rfl (fun H_141 w_141 n_141 => ?_)
  first | refine j_aload_n (pc := 144) hX dJ1_resize_144 rfl rfl ?_ | refine j_aload_nq (pc := 144) hX dJ1_resize_144 rfl rfl ?_
  refine j_ifnullN (pc := 145) (tgt := 353) hX dJ1_resize_145 (by decide) ?_
  first | refine j_aload (pc := 353) hX dJ1_resize_353 rfl ?_ | refine j_aloadq (pc := 353) hX dJ1_resize_353 rfl ?_
  first | exact j_aret hX hQ hr (by first | exact Or.inl ⟨_, rfl⟩ | exact Or.inr ⟨_, rfl⟩) dJ1_resize_355 ⟨_, rfl, Nat.le_of_eq w_128.1.symm, n_141, b_133, n_133.put w_141 (fun e => Nat.ne_of_lt h.lt (e.symm.trans w_128.1)), JFr.trans (w_128.fr rfl) ((e_133.fr).put w_141 (fun _ => rfl))⟩ | exact j_aretN hX hQ hr (by first | exact Or.inl ⟨_, rfl⟩ | exact Or.inr ⟨_, rfl⟩) dJ1_resize_355 ⟨_, rfl, Nat.le_of_eq w_128.1.symm, n_141, b_133, n_133.put w_141 (fun e => Nat.ne_of_lt h.lt (e.symm.trans w_128.1)), JFr.trans (w_128.fr rfl) ((e_133.fr).put w_141 (fun _ => rfl))⟩ | exact j_aretq hX hQ hr (by first | exact Or.inl ⟨_, rfl⟩ | exact Or.inr ⟨_, rfl⟩) dJ1_resize_355 ⟨_, rfl, Nat.le_of_eq w_128.1.symm, n_141, b_133, n_133.put w_141 (fun e => Nat.ne_of_lt h.lt (e.symm.trans w_128.1)), JFr.trans (w_128.fr rfl) ((e_133.fr).put w_141 (fun _ => rfl))⟩
section
variable {K : Type} {d : KD K} {B : Nat → List (ND K)} {j : Nat}
theorem rs0 (hL : B j = []) (i : Nat) (_ : i < 16) : (if i < j + 1 then none else nxN (B i) none) = (if i < j then none else nxN (B i) none) := by
  by_cases e : i = j
  · subst e; rw [if_pos (by omega), if_neg (by omega), hL]; rfl
  · by_cases h : i < j
    · rw [if_pos h, if_pos (by omega)]
    · rw [if_neg h, if_neg (by omega)]
theorem rs1 (hL : B j = []) (i : Nat) (_ : i < 32) : nxN (spl d B (j + 1) i) none = nxN (spl d B j i) none := by
  by_cases e : i % 16 = j
  · rw [spl_at e, hL]; unfold spl; rw [if_neg (by omega)]; rfl
  · rw [spl_off e]
theorem rs2 (i : Nat) : (if i < j + 1 then none else nxN (B i) none) = jup (fun i => if i < j then none else nxN (B i) none) j none i := by
  unfold jup
  by_cases e : i = j
  · rw [if_pos e, if_pos (by omega)]
  · rw [if_neg e]
    show _ = (if i < j then none else nxN (B i) none)
    by_cases h : i < j
    · rw [if_pos h, if_pos (by omega)]
    · rw [if_neg h, if_neg (by omega)]
theorem rs3 {e : ND K} (hL : B j = [e]) (hix : ixN 32 (hK d e.2.1) % 16 = j) (i : Nat) : nxN (spl d B (j + 1) i) none = jup (fun i => nxN (spl d B j i) none) (ixN 32 (hK d e.2.1)) (some e.1) i := by
  unfold jup
  by_cases c : i % 16 = j
  · rw [spl_at c, hL, List.filter_cons]
    by_cases c2 : i = ixN 32 (hK d e.2.1)
    · rw [if_pos c2, if_pos (by rw [decide_eq_true_eq]; exact c2.symm)]; rfl
    · rw [if_neg c2, if_neg (by rw [decide_eq_true_eq]; exact fun z => c2 z.symm)]
      show _ = nxN (spl d B j i) none
      unfold spl; rw [if_neg (show ¬ i % 16 < j by omega)]; rfl
  · rw [spl_off c, if_neg (fun z => c (by rw [z]; exact hix))]
end
theorem c_J1_resize32 (l : Launch) (G : JG) (H : Heap) {K : Type} {d : KD K} (hd : KOK d) (q t : Nat) {sz : Nat} {mc : Int32} {B : Nat → List (ND K)} (h : hmA d G H q (some t) 16 sz mc B) : JMet l yJ1_resize (ws_ yJ1_resize cJ1_resize 14 (some (.array (.object "java/util/HashMap$Node")))) 1 8 G H [.ref q] (jpa (fun r H1 => H.size ≤ r ∧ (∃ B', hmA d G H1 q (some r) 32 sz mc B' ∧ ∀ n, inN B' 32 n ↔ inN B 16 n) ∧ JFr (fpN q (some t) B 16) H H1)) (jno) := by
  refine JMet.of [(0, .inr (some q))] (by decide) (Nat.le_of_ble_eq_true rfl) rfl (fun X hl hX hQ hEx hr hnm hH => ?_)
  subst hl
  obtain ⟨hq, hsz, ho, -, htb⟩ := h
  have hT := htb t rfl
  have hC := hX.C
  have fin : ∀ (nt : Nat) (H1 : Heap), H.size ≤ nt → rsA d G H H1 q t nt sz mc B 16 → JW X G H1 0 353 [(6, .inr (some nt))] [] := by
    intro nt H1 hnt hR
    obtain ⟨r1, r2, r3, r4, r5, r6⟩ := hR
    have hgs := Nat.le_trans (Nat.le_of_lt (Nat.lt_of_le_of_lt hq ho.lt)) hnt
    first | refine j_aload (pc := 353) hX dJ1_resize_353 rfl ?_ | refine j_aloadq (pc := 353) hX dJ1_resize_353 rfl ?_
    first | exact j_aret hX hQ hr (by first | exact Or.inl ⟨_, rfl⟩ | exact Or.inr ⟨_, rfl⟩) dJ1_resize_355 ⟨_, rfl, hnt, ⟨spl d B 16, ⟨hq, hsz, r1, (fun e => by cases e), (fun t' e => by cases e; exact hT.dbl hgs r3 r5)⟩, fun n => inN_spl hT⟩, r6⟩ | exact j_aretN hX hQ hr (by first | exact Or.inl ⟨_, rfl⟩ | exact Or.inr ⟨_, rfl⟩) dJ1_resize_355 ⟨_, rfl, hnt, ⟨spl d B 16, ⟨hq, hsz, r1, (fun e => by cases e), (fun t' e => by cases e; exact hT.dbl hgs r3 r5)⟩, fun n => inN_spl hT⟩, r6⟩ | exact j_aretq hX hQ hr (by first | exact Or.inl ⟨_, rfl⟩ | exact Or.inr ⟨_, rfl⟩) dJ1_resize_355 ⟨_, rfl, hnt, ⟨spl d B 16, ⟨hq, hsz, r1, (fun e => by cases e), (fun t' e => by cases e; exact hT.dbl hgs r3 r5)⟩, fun n => inN_spl hT⟩, r6⟩
  have one : ∀ (j : Nat), j < 16 → (∀ (nt : Nat) (H1 : Heap), H.size ≤ nt → rsA d G H H1 q t nt sz mc B (j + 1) → JW X G H1 0 151 [(0, .inr (some q)), (1, .inr (some t)), (2, .inl (.int (nI 16))), (4, .inl (.int (nI 32))), (6, .inr (some nt)), (7, .inl (.int (nI (j + 1))))] []) → ∀ (nt : Nat) (H1 : Heap), H.size ≤ nt → rsA d G H H1 q t nt sz mc B j → JW X G H1 0 151 [(0, .inr (some q)), (1, .inr (some t)), (2, .inl (.int (nI 16))), (4, .inl (.int (nI 32))), (6, .inr (some nt)), (7, .inl (.int (nI j)))] [] := by
    intro j hj ih nt H1 hnt hR
    obtain ⟨r1, r2, r3, r4, r5, r6⟩ := id hR
    have hgs := Nat.le_trans (Nat.le_of_lt (Nat.lt_of_le_of_lt hq ho.lt)) hnt
    have hc := r4 j (Nat.le_refl _) hj
    have hin : vp_in (nI j) 16 := vp_in_nI hj (by decide)
    have hin2 : vp_in (nI j) 32 := vp_in_nI (by omega) (by decide)
    have hin3 : vp_in (nI (j + 16)) 32 := vp_in_nI (by omega) (by decide)
    have htn : t ≠ nt := Nat.ne_of_lt (Nat.lt_of_lt_of_le hT.2.2.1.lt hnt)
    -- the next j
    have next : ∀ H2 : Heap, rsA d G H H2 q t nt sz mc B (j + 1) → JW X G H2 0 347 [(0, .inr (some q)), (1, .inr (some t)), (2, .inl (.int (nI 16))), (4, .inl (.int (nI 32))), (6, .inr (some nt)), (7, .inl (.int (nI j)))] [] := by
      intro H2 hR2
      refine j_iincc (pc := 347) (m := 1) hX dJ1_resize_347 rfl (by decide) (by decide) rfl ?_
      refine j_goto (pc := 350) (tgt := 151) hX dJ1_resize_350 (by decide) ?_
      exact j_lv (by simp [jsb, jget, jval, nI_1]) (ih nt H2 hnt hR2)
    refine j_iload (pc := 151) hX dJ1_resize_151 rfl ?_
    refine j_iload_n (pc := 153) hX dJ1_resize_153 rfl rfl ?_
    refine j_icmp_ge (pc := 154) (tgt := 353) hX dJ1_resize_154 (by decide) (fun c_154 => ?_) (fun c_154 => ?_)
    · exact absurd c_154 (nI_ge hj (by omega))
    first | refine j_aload_n (pc := 157) hX dJ1_resize_157 rfl rfl ?_ | refine j_aload_nq (pc := 157) hX dJ1_resize_157 rfl rfl ?_
    refine j_iload (pc := 158) hX dJ1_resize_158 rfl ?_
    refine j_aald (pc := 160) hX (by decide) dJ1_resize_160 (jaw.r (t := 8) hX (by decide) r2) (by assumption) ?_
    skip
    rw [nI_clamp (by omega)]
    rw [if_neg (Nat.lt_irrefl j)]
    cases hL : B j with
    | nil =>
      change JW X G H1 0 161 _ [.null]
      refine j_dup (pc := 161) hX dJ1_resize_161 (by first | rfl | exact jrf_cat _) ?_
      first | refine j_astore (pc := 162) hX dJ1_resize_162 (by decide) rfl ?_ | refine j_astoreN (pc := 162) hX dJ1_resize_162 (by decide) rfl ?_ | refine j_astoreq (pc := 162) hX dJ1_resize_162 (by decide) rfl ?_
      refine j_ifnullN (pc := 164) (tgt := 347) hX dJ1_resize_164 (by decide) ?_
      exact j_lv (by simp [jsb, jget, jval]) (next H1 (rsA.step hC hd hT hR hj hnt JFr.rfl' (r2.congr (fun i hi => congrArg va_rf (rs0 hL i hi))) (r3.congr (fun i hi => congrArg va_rf (rs1 hL i hi))) (by rw [hL]; trivial) (by rw [hL]; trivial)))
    | cons e r =>
      change JW X G H1 0 161 _ [.ref e.1]
      rw [hL] at hc
      refine j_dup (pc := 161) hX dJ1_resize_161 (by first | rfl | exact jrf_cat _) ?_
      first | refine j_astore (pc := 162) hX dJ1_resize_162 (by decide) rfl ?_ | refine j_astoreN (pc := 162) hX dJ1_resize_162 (by decide) rfl ?_ | refine j_astoreq (pc := 162) hX dJ1_resize_162 (by decide) rfl ?_
      refine j_ifnull (pc := 164) hX dJ1_resize_164 ?_
      first | refine j_aload_n (pc := 167) hX dJ1_resize_167 rfl rfl ?_ | refine j_aload_nq (pc := 167) hX dJ1_resize_167 rfl rfl ?_
      refine j_iload (pc := 168) hX dJ1_resize_168 rfl ?_
      refine j_null (pc := 170) hX dJ1_resize_170 ?_
      skip
      refine j_aastN (pc := 171) hX ⟨by decide, by decide⟩ dJ1_resize_171 (t := 8) (n := 16) (f := fun i => if i < j then none else nxN (B i) none) r2 hT.2.1 hin (fun H2 w2 n2 => ?_)
      rw [nI_clamp (by omega)] at n2
      have hce : chE d G H2 none (e :: r) := hc.fr (P := fun a => a = t) (w2.fr rfl) (fun n hn => hC.neA (hc.get hn).1.choose_spec.r r2 (by decide)) (fun n hn => hC.neA (hc.get hn).2.2 r2 (by decide))
      have ht2 : jaw G H2 t 8 16 (fun i => va_rf (if i < j + 1 then none else nxN (B i) none)) := n2.congr (fun i hi => congrArg va_rf (rs2 i))
      have hn2 := r3.put w2 (Ne.symm htn)
      have fin2 : ∀ (H3 : Heap), JFr (fun a => a = nt ∨ ∃ n ∈ e :: r, n.1 = a) H2 H3 → jaw G H3 nt 8 32 (fun i => va_rf (nxN (spl d B (j + 1) i) none)) → chE d G H3 none ((e :: r).filter (fun n => decide (ixN 32 (hK d n.2.1) = j))) → chE d G H3 none ((e :: r).filter (fun n => decide (ixN 32 (hK d n.2.1) = j + 16))) → JW X G H3 0 347 [(0, .inr (some q)), (1, .inr (some t)), (2, .inl (.int (nI 16))), (4, .inl (.int (nI 32))), (6, .inr (some nt)), (7, .inl (.int (nI j)))] [] := by
        intro H3 hF hn hl hh
        refine next H3 (rsA.step hC hd hT hR hj hnt ?_ (ht2.fr hF ?_) hn (by rw [hL]; exact hl) (by rw [hL]; exact hh))
        · refine JFr.call (w2.fr (Or.inl rfl)) hF ?_
          rintro a - (rfl | ⟨n, hn, ha⟩)
          · exact Or.inr (Or.inl rfl)
          · exact Or.inr (Or.inr ⟨n, by rw [hL]; exact hn, ha⟩)
        · rintro (z | ⟨n, hn, ha⟩)
          · exact htn z
          · exact hC.neA (hce.get hn).1.choose_spec.r ht2 (by decide) ha
      cases r with
      | nil =>
        first | refine j_aload (pc := 172) hX dJ1_resize_172 rfl ?_ | refine j_aloadq (pc := 172) hX dJ1_resize_172 rfl ?_
        refine j_get (pc := 174) hX kg_J1_177 dJ1_resize_174 hce.1.r (by rfl) ?_
        refine j_ifnonnullN (pc := 177) hX dJ1_resize_177 ?_
        first | refine j_aload (pc := 180) hX dJ1_resize_180 rfl ?_ | refine j_aloadq (pc := 180) hX dJ1_resize_180 rfl ?_
        first | refine j_aload (pc := 182) hX dJ1_resize_182 rfl ?_ | refine j_aloadq (pc := 182) hX dJ1_resize_182 rfl ?_
        refine j_get (pc := 184) hX kg_J1_168 dJ1_resize_184 hce.1.r (by rfl) ?_
        refine j_iload (pc := 187) hX dJ1_resize_187 rfl ?_
        refine j_iconst (pc := 189) (v := 1) hX dJ1_resize_189 (by decide) ?_
        refine j_isub (pc := 190) hX dJ1_resize_190 ?_
        refine j_iand (pc := 191) hX dJ1_resize_191 ?_
        first | refine j_aload (pc := 192) hX dJ1_resize_192 rfl ?_ | refine j_aloadq (pc := 192) hX dJ1_resize_192 rfl ?_
        skip
        have hix : ixN 32 (hK d e.2.1) % 16 = j := by rw [ix_m]; exact hT.2.2.2.2.1 j hj e (by rw [hL]; exact List.mem_cons_self)
        have hlt := Nat.mod_lt (hK d e.2.1).toBitVec.toNat (show 0 < 32 by decide)
        rw [show hK d e.2.1 &&& (nI 32 - 1) = nI (ixN 32 (hK d e.2.1)) from pk_and _ 5 (by decide)]
        have hin4 : vp_in (nI (ixN 32 (hK d e.2.1))) 32 := vp_in_nI hlt (by decide)
        refine j_aast (pc := 194) hX ⟨by decide, by decide, _, _, rfl, rfl, Or.inl rfl⟩ dJ1_resize_194 (t := 8) (n := 32) (f := fun i => nxN (spl d B j i) none) hn2 hce.1.r hgs hin4 (fun H3 w3 n3 => ?_)
        rw [nI_clamp (by unfold ixN; omega)] at n3
        have hce3 : chE d G H3 none [e] := hce.fr (P := fun a => a = nt) (w3.fr rfl) (fun n hn => hC.neA (hce.get hn).1.choose_spec.r hn2 (by decide)) (fun n hn => hC.neA (hce.get hn).2.2 hn2 (by decide))
        have hfil : ∀ i, chE d G H3 none ([e].filter (fun n => decide (ixN 32 (hK d n.2.1) = i))) := fun i => by
          rw [List.filter_cons]
          split
          · exact hce3
          · trivial
        refine j_goto (pc := 195) (tgt := 347) hX dJ1_resize_195 (by decide) ?_
        exact j_lv (by simp [jsb, jget, jval]) (fin2 H3 (w3.fr (Or.inl rfl)) (n3.congr (fun i hi => congrArg va_rf (rs3 hL hix i))) (hfil _) (hfil _))
      | cons m r2' =>
        have hno : ∀ n m', n ∈ e :: m :: r2' → m' ∈ e :: m :: r2' → n.1 = m'.1 → n = m' := fun n m' hn hm => hT.eq hd ⟨j, hj, by rw [hL]; exact hn⟩ ⟨j, hj, by rw [hL]; exact hm⟩
        have hnd : (e :: m :: r2').Nodup := by rw [← hL]; exact hT.nodup hj
        have hix : ∀ n ∈ e :: m :: r2', ixN 16 (hK d n.2.1) = j := fun n hn => hT.2.2.2.2.1 j hj n (by rw [hL]; exact hn)
        have hsp : SP d G H2 [] [] (e :: m :: r2') := ⟨⟨none, trivial⟩, ⟨none, trivial⟩, hce, fun n m' hn hm => hno n m' (by simpa using hn) (by simpa using hm), fun n m' hn hm z => hC.ne (hce.get (by simpa using hn)).2.2 (hce.get (by simpa using hm)).1.choose_spec.r hd.2.1 z, List.nodup_nil, List.nodup_nil, hnd, (fun n hn => by cases hn), (fun n hn => by cases hn)⟩
        have hnno : ∀ n ∈ e :: m :: r2', n.1 ≠ nt := fun n hn => hC.neA (hce.get hn).1.choose_spec.r hn2 (by decide)
        -- both chains closed and hung in
        have fin3 : ∀ (H3 : Heap) (A C : List (ND K)), A = (e :: m :: r2').filter (fun n => decide (ixN 32 (hK d n.2.1) = j)) → C = (e :: m :: r2').filter (fun n => decide (ixN 32 (hK d n.2.1) = j + 16)) → SP d G H3 A C [] → JFr (fun a => a = nt ∨ ∃ n ∈ e :: m :: r2', n.1 = a) H2 H3 → chE d G H3 none A → jaw G H3 nt 8 32 (fun i => va_rf (if i = j then nxN A none else nxN (spl d B j i) none)) → JW X G H3 0 327 [(0, .inr (some q)), (1, .inr (some t)), (2, .inl (.int (nI 16))), (4, .inl (.int (nI 32))), (6, .inr (some nt)), (7, .inl (.int (nI j))), (11, .inr (nxN C none)), (12, .inr (lsN C))] [] := by
          intro H3 A C hA hC2 hS hF hcA hn
          have hA2 : ∀ i, i < 32 → i ≠ j + 16 → nxN (spl d B (j + 1) i) none = (if i = j then nxN A none else nxN (spl d B j i) none) := fun i hi hne => by
            by_cases c : i % 16 = j
            · have : i = j := by omega
              subst this
              rw [if_pos rfl, spl_at c, hL, hA]
            · rw [if_neg (fun z => c (by rw [z]; omega)), spl_off c]
          have hC3 : nxN (spl d B (j + 1) (j + 16)) none = nxN C none := by rw [spl_at (by omega), hL, hC2]
          have hsplC : spl d B j (j + 16) = [] := by unfold spl; rw [if_neg (by omega)]
          rcases nil_or_app C with rfl | ⟨C0, x, rfl⟩
          · skip
            first | refine j_aload (pc := 327) hX dJ1_resize_327 rfl ?_ | refine j_aloadq (pc := 327) hX dJ1_resize_327 rfl ?_
            refine j_ifnullN (pc := 329) (tgt := 347) hX dJ1_resize_329 (by decide) ?_
            exact j_lv (by simp [jsb, jget, jval]) (fin2 H3 hF (hn.congr (fun i hi => congrArg va_rf (by by_cases z : i = j + 16; rw [z, hC3, if_neg (by omega), hsplC]; exact hA2 i hi z))) (by rw [← hA]; exact hcA) (by rw [← hC2]; trivial))
          · rw [lsN_app]
            have hxm : x ∈ C0 ++ [x] := List.mem_append_right _ List.mem_cons_self
            obtain ⟨nx, hox⟩ := (hS.2.1.choose_spec.get hxm).1
            have hxg := (hS.2.1.choose_spec.get hxm).2.1
            have hxL : ∀ y ∈ C0 ++ [x], y ∈ e :: m :: r2' := fun y hy => (List.mem_filter.mp (hC2 ▸ hy)).1
            obtain ⟨y, hy, hys⟩ := nxN_some C0 x
            rw [hys]
            first | refine j_aload (pc := 327) hX dJ1_resize_327 rfl ?_ | refine j_aloadq (pc := 327) hX dJ1_resize_327 rfl ?_
            refine j_ifnull (pc := 329) hX dJ1_resize_329 ?_
            first | refine j_aload (pc := 332) hX dJ1_resize_332 rfl ?_ | refine j_aloadq (pc := 332) hX dJ1_resize_332 rfl ?_
            refine j_null (pc := 334) hX dJ1_resize_334 ?_
            refine j_put (pc := 335) hX kp_J1_177 dJ1_resize_335 hox hxg rfl rfl rfl (fun H_335 w_335 n_335 => ?_)
            skip
            obtain ⟨hS4, hcC⟩ := hS.swap.end w_335 n_335
            have hcA4 : chE d G H_335 none A := hcA.keep (fun n hn => ⟨w_335.2 _ (fun z => (hS.2.2.2.2.2.2.2.2.1 n hn).1 ((hS.2.2.2.1 n x (Or.inl hn) (Or.inr (Or.inl hxm)) z) ▸ hxm)), w_335.2 _ (hS.2.2.2.2.1 n x (Or.inl hn) (Or.inr (Or.inl hxm)))⟩)
            have hn4 := hn.put w_335 (fun z => hnno x (hxL x hxm) z.symm)
            have hF4 := hF.put w_335 (fun _ => Or.inr ⟨x, hxL x hxm, rfl⟩)
            first | refine j_aload (pc := 338) hX dJ1_resize_338 rfl ?_ | refine j_aloadq (pc := 338) hX dJ1_resize_338 rfl ?_
            refine j_iload (pc := 340) hX dJ1_resize_340 rfl ?_
            refine j_iload_n (pc := 342) hX dJ1_resize_342 rfl rfl ?_
            refine j_iadd (pc := 343) hX dJ1_resize_343 ?_
            first | refine j_aload (pc := 344) hX dJ1_resize_344 rfl ?_ | refine j_aloadq (pc := 344) hX dJ1_resize_344 rfl ?_
            skip
            rw [show nI j + nI 16 = nI (j + 16) from nI_add _ _]
            refine j_aast (pc := 346) hX ⟨by decide, by decide, _, _, rfl, rfl, Or.inl rfl⟩ dJ1_resize_346 (t := 8) (n := 32) (f := fun i => if i = j then nxN A none else nxN (spl d B j i) none) hn4 (hcC.get hy).1.choose_spec.r hgs hin3 (fun H5 w5 n5 => ?_)
            rw [nI_clamp (by omega)] at n5
            have hk5 : ∀ (L : List (ND K)), (∀ n ∈ L, n ∈ A ∨ n ∈ C0 ++ [x]) → chE d G H_335 none L → chE d G H5 none L := fun L hL5 hc5 => hc5.fr (P := fun a => a = nt) (w5.fr rfl) (fun n hn => hC.neA (hc5.get hn).1.choose_spec.r hn4 (by decide)) (fun n hn => hC.neA (hc5.get hn).2.2 hn4 (by decide))
            exact j_lv (by simp [jsb, jget, jval]) (fin2 H5 (hF4.put w5 (fun _ => Or.inl rfl)) (n5.congr (fun i hi => congrArg va_rf (by unfold jup; by_cases z : i = j + 16; rw [z, hC3, if_pos rfl, hys]; rw [if_neg z]; exact hA2 i hi z))) (by rw [← hA]; exact hk5 _ (fun n hn => Or.inl hn) hcA4) (by rw [← hC2]; exact hk5 _ (fun n hn => Or.inr hn) hcC))
        have fin4 : ∀ (H3 : Heap) (A C : List (ND K)), A = (e :: m :: r2').filter (fun n => decide (ixN 32 (hK d n.2.1) = j)) → C = (e :: m :: r2').filter (fun n => decide (ixN 32 (hK d n.2.1) = j + 16)) → SP d G H3 A C [] → JFr (fun a => ∃ n ∈ e :: m :: r2', n.1 = a) H2 H3 → JW X G H3 0 309 [(0, .inr (some q)), (1, .inr (some t)), (2, .inl (.int (nI 16))), (4, .inl (.int (nI 32))), (6, .inr (some nt)), (7, .inl (.int (nI j))), (8, .inr (none)), (9, .inr (nxN A none)), (10, .inr (lsN A)), (11, .inr (nxN C none)), (12, .inr (lsN C))] [] := by
          intro H3 A C hA hC2 hS hF
          have hn := hn2.fr hF (by rintro ⟨n, hn, z⟩; exact hnno n hn z)
          have hF' : JFr (fun a => a = nt ∨ ∃ n ∈ e :: m :: r2', n.1 = a) H2 H3 := hF.weak (fun a _ z => Or.inr z)
          have hsplA : spl d B j j = [] := by unfold spl; rw [if_neg (by omega)]
          rcases nil_or_app A with rfl | ⟨A0, x, rfl⟩
          · skip
            first | refine j_aload (pc := 309) hX dJ1_resize_309 rfl ?_ | refine j_aloadq (pc := 309) hX dJ1_resize_309 rfl ?_
            refine j_ifnullN (pc := 311) (tgt := 327) hX dJ1_resize_311 (by decide) ?_
            exact j_lv (by simp [jsb, jget, jval]) (fin3 H3 [] C hA hC2 hS hF' trivial (hn.congr (fun i hi => congrArg va_rf (by by_cases z : i = j; rw [z, if_pos rfl, hsplA]; rw [if_neg z]))))
          · rw [lsN_app]
            have hxm : x ∈ A0 ++ [x] := List.mem_append_right _ List.mem_cons_self
            obtain ⟨nx, hox⟩ := (hS.1.choose_spec.get hxm).1
            have hxg := (hS.1.choose_spec.get hxm).2.1
            have hxL : ∀ y ∈ A0 ++ [x], y ∈ e :: m :: r2' := fun y hy => (List.mem_filter.mp (hA ▸ hy)).1
            obtain ⟨y, hy, hys⟩ := nxN_some A0 x
            rw [hys]
            first | refine j_aload (pc := 309) hX dJ1_resize_309 rfl ?_ | refine j_aloadq (pc := 309) hX dJ1_resize_309 rfl ?_
            refine j_ifnull (pc := 311) hX dJ1_resize_311 ?_
            first | refine j_aload (pc := 314) hX dJ1_resize_314 rfl ?_ | refine j_aloadq (pc := 314) hX dJ1_resize_314 rfl ?_
            refine j_null (pc := 316) hX dJ1_resize_316 ?_
            refine j_put (pc := 317) hX kp_J1_177 dJ1_resize_317 hox hxg rfl rfl rfl (fun H_317 w_317 n_317 => ?_)
            skip
            obtain ⟨hS4, hcA⟩ := hS.end w_317 n_317
            have hn4 := hn.put w_317 (fun z => hnno x (hxL x hxm) z.symm)
            have hF4 := hF'.put w_317 (fun _ => Or.inr ⟨x, hxL x hxm, rfl⟩)
            first | refine j_aload (pc := 320) hX dJ1_resize_320 rfl ?_ | refine j_aloadq (pc := 320) hX dJ1_resize_320 rfl ?_
            refine j_iload (pc := 322) hX dJ1_resize_322 rfl ?_
            first | refine j_aload (pc := 324) hX dJ1_resize_324 rfl ?_ | refine j_aloadq (pc := 324) hX dJ1_resize_324 rfl ?_
            skip
            refine j_aast (pc := 326) hX ⟨by decide, by decide, _, _, rfl, rfl, Or.inl rfl⟩ dJ1_resize_326 (t := 8) (n := 32) (f := fun i => nxN (spl d B j i) none) hn4 (hcA.get hy).1.choose_spec.r hgs hin2 (fun H5 w5 n5 => ?_)
            rw [nI_clamp (by omega)] at n5
            have hne5 : ∀ n, n ∈ A0 ++ [x] ∨ n ∈ C → n.1 ≠ nt ∧ n.2.2.1 ≠ nt := fun n hn => by
              rcases hn with hn | hn
              · exact ⟨hC.neA (hcA.get hn).1.choose_spec.r hn4 (by decide), hC.neA (hcA.get hn).2.2 hn4 (by decide)⟩
              · exact ⟨hC.neA (hS4.2.1.choose_spec.get hn).1.choose_spec.r hn4 (by decide), hC.neA (hS4.2.1.choose_spec.get hn).2.2 hn4 (by decide)⟩
            have hcA5 : chE d G H5 none (A0 ++ [x]) := hcA.keep (fun n hn => ⟨w5.2 _ (hne5 n (Or.inl hn)).1, w5.2 _ (hne5 n (Or.inl hn)).2⟩)
            have hS5 : SP d G H5 (A0 ++ [x]) C [] := ⟨⟨none, hcA5⟩, ⟨_, hS4.2.1.choose_spec.keep (fun n hn => ⟨w5.2 _ (hne5 n (Or.inr hn)).1, w5.2 _ (hne5 n (Or.inr hn)).2⟩)⟩, trivial, hS4.2.2.2⟩
            exact j_lv (by simp [jsb, jget, jval]) (fin3 H5 (A0 ++ [x]) C hA hC2 hS5 (hF4.put w5 (fun _ => Or.inl rfl)) hcA5 (n5.congr (fun i hi => congrArg va_rf (by unfold jup; by_cases z : i = j; rw [if_pos z, if_pos z, hys]; rw [if_neg z, if_neg z]))))
        have walk : ∀ (R : List (ND K)) (e0 : ND K) (A C : List (ND K)) (H3 : Heap), SP d G H3 A C (e0 :: R) → JFr (fun a => ∃ n ∈ e :: m :: r2', n.1 = a) H2 H3 → (∀ n, n ∈ A ∨ n ∈ C ∨ n ∈ e0 :: R → n ∈ e :: m :: r2') →
            (∀ (A' C' : List (ND K)) (H' : Heap), SP d G H' A' C' R → JFr (fun a => ∃ n ∈ e :: m :: r2', n.1 = a) H2 H' → (hK d e0.2.1 &&& 16 = 0 ∧ A' = A ++ [e0] ∧ C' = C) ∨ (¬ hK d e0.2.1 &&& 16 = 0 ∧ A' = A ∧ C' = C ++ [e0]) → JW X G H' 0 301 [(0, .inr (some q)), (1, .inr (some t)), (2, .inl (.int (nI 16))), (4, .inl (.int (nI 32))), (6, .inr (some nt)), (7, .inl (.int (nI j))), (8, .inr (some e0.1)), (9, .inr (nxN A' none)), (10, .inr (lsN A')), (11, .inr (nxN C' none)), (12, .inr (lsN C')), (13, .inr (nxN R none))] []) →
            JW X G H3 0 235 [(0, .inr (some q)), (1, .inr (some t)), (2, .inl (.int (nI 16))), (4, .inl (.int (nI 32))), (6, .inr (some nt)), (7, .inl (.int (nI j))), (8, .inr (some e0.1)), (9, .inr (nxN A none)), (10, .inr (lsN A)), (11, .inr (nxN C none)), (12, .inr (lsN C))] [] := by
          intro R e0 A C H3 hS hF hin k
          obtain ⟨ho0, hg0, hk0, hR0⟩ := id hS.2.2.1
          have lo : hK d e0.2.1 &&& 16 = 0 → JW X G H3 0 252 [(0, .inr (some q)), (1, .inr (some t)), (2, .inl (.int (nI 16))), (4, .inl (.int (nI 32))), (6, .inr (some nt)), (7, .inl (.int (nI j))), (8, .inr (some e0.1)), (9, .inr (nxN A none)), (10, .inr (lsN A)), (11, .inr (nxN C none)), (12, .inr (lsN C)), (13, .inr (nxN R none))] [] := by
            intro hz
            rcases nil_or_app A with rfl | ⟨B0, x, rfl⟩
            · skip
              first | refine j_aload (pc := 252) hX dJ1_resize_252 rfl ?_ | refine j_aloadq (pc := 252) hX dJ1_resize_252 rfl ?_
              refine j_ifnonnullN (pc := 254) hX dJ1_resize_254 ?_
              first | refine j_aload (pc := 257) hX dJ1_resize_257 rfl ?_ | refine j_aloadq (pc := 257) hX dJ1_resize_257 rfl ?_
              first | refine j_astore (pc := 259) hX dJ1_resize_259 (by decide) rfl ?_ | refine j_astoreN (pc := 259) hX dJ1_resize_259 (by decide) rfl ?_ | refine j_astoreq (pc := 259) hX dJ1_resize_259 (by decide) rfl ?_
              refine j_goto (pc := 261) (tgt := 271) hX dJ1_resize_261 (by decide) ?_
              first | refine j_aload (pc := 271) hX dJ1_resize_271 rfl ?_ | refine j_aloadq (pc := 271) hX dJ1_resize_271 rfl ?_
              first | refine j_astore (pc := 273) hX dJ1_resize_273 (by decide) rfl ?_ | refine j_astoreN (pc := 273) hX dJ1_resize_273 (by decide) rfl ?_ | refine j_astoreq (pc := 273) hX dJ1_resize_273 (by decide) rfl ?_
              refine j_goto (pc := 275) (tgt := 301) hX dJ1_resize_275 (by decide) ?_
              exact j_lv (by simp [jsb, jget, jval, nxN, lsN]) (k [e0] C H3 hS.first hF (Or.inl ⟨hz, rfl, rfl⟩))
            · rw [lsN_app]
              have hxm : x ∈ B0 ++ [x] := List.mem_append_right _ List.mem_cons_self
              obtain ⟨nx, hox⟩ := (hS.1.choose_spec.get hxm).1
              have hxg := (hS.1.choose_spec.get hxm).2.1
              have hxL := hin x (Or.inl hxm)
              first | refine j_aload (pc := 252) hX dJ1_resize_252 rfl ?_ | refine j_aloadq (pc := 252) hX dJ1_resize_252 rfl ?_
              refine j_ifnonnull (pc := 254) (tgt := 264) hX dJ1_resize_254 (by decide) ?_
              first | refine j_aload (pc := 264) hX dJ1_resize_264 rfl ?_ | refine j_aloadq (pc := 264) hX dJ1_resize_264 rfl ?_
              first | refine j_aload (pc := 266) hX dJ1_resize_266 rfl ?_ | refine j_aloadq (pc := 266) hX dJ1_resize_266 rfl ?_
              refine j_put (pc := 268) hX kp_J1_177 dJ1_resize_268 hox hxg rfl rfl rfl (fun H_268 w_268 n_268 => ?_)
              first | refine j_aload (pc := 271) hX dJ1_resize_271 rfl ?_ | refine j_aloadq (pc := 271) hX dJ1_resize_271 rfl ?_
              first | refine j_astore (pc := 273) hX dJ1_resize_273 (by decide) rfl ?_ | refine j_astoreN (pc := 273) hX dJ1_resize_273 (by decide) rfl ?_ | refine j_astoreq (pc := 273) hX dJ1_resize_273 (by decide) rfl ?_
              refine j_goto (pc := 275) (tgt := 301) hX dJ1_resize_275 (by decide) ?_
              exact j_lv (by simp only [jsb, jget, jval, Nat.beq, and_true, true_and, nxN_grow B0 x e0 none none, lsN_app]) (k (B0 ++ [x] ++ [e0]) C H_268 (hS.app w_268 n_268) (hF.put w_268 (fun _ => ⟨x, hxL, rfl⟩)) (Or.inl ⟨hz, rfl, rfl⟩))
          have hi : ¬ hK d e0.2.1 &&& 16 = 0 → JW X G H3 0 278 [(0, .inr (some q)), (1, .inr (some t)), (2, .inl (.int (nI 16))), (4, .inl (.int (nI 32))), (6, .inr (some nt)), (7, .inl (.int (nI j))), (8, .inr (some e0.1)), (9, .inr (nxN A none)), (10, .inr (lsN A)), (11, .inr (nxN C none)), (12, .inr (lsN C)), (13, .inr (nxN R none))] [] := by
            intro hz
            rcases nil_or_app C with rfl | ⟨B0, x, rfl⟩
            · skip
              first | refine j_aload (pc := 278) hX dJ1_resize_278 rfl ?_ | refine j_aloadq (pc := 278) hX dJ1_resize_278 rfl ?_
              refine j_ifnonnullN (pc := 280) hX dJ1_resize_280 ?_
              first | refine j_aload (pc := 283) hX dJ1_resize_283 rfl ?_ | refine j_aloadq (pc := 283) hX dJ1_resize_283 rfl ?_
              first | refine j_astore (pc := 285) hX dJ1_resize_285 (by decide) rfl ?_ | refine j_astoreN (pc := 285) hX dJ1_resize_285 (by decide) rfl ?_ | refine j_astoreq (pc := 285) hX dJ1_resize_285 (by decide) rfl ?_
              refine j_goto (pc := 287) (tgt := 297) hX dJ1_resize_287 (by decide) ?_
              first | refine j_aload (pc := 297) hX dJ1_resize_297 rfl ?_ | refine j_aloadq (pc := 297) hX dJ1_resize_297 rfl ?_
              first | refine j_astore (pc := 299) hX dJ1_resize_299 (by decide) rfl ?_ | refine j_astoreN (pc := 299) hX dJ1_resize_299 (by decide) rfl ?_ | refine j_astoreq (pc := 299) hX dJ1_resize_299 (by decide) rfl ?_
              exact j_lv (by simp [jsb, jget, jval, nxN, lsN]) (k A [e0] H3 hS.swap.first.swap hF (Or.inr ⟨hz, rfl, rfl⟩))
            · rw [lsN_app]
              have hxm : x ∈ B0 ++ [x] := List.mem_append_right _ List.mem_cons_self
              obtain ⟨nx, hox⟩ := (hS.2.1.choose_spec.get hxm).1
              have hxg := (hS.2.1.choose_spec.get hxm).2.1
              have hxL := hin x (Or.inr (Or.inl hxm))
              first | refine j_aload (pc := 278) hX dJ1_resize_278 rfl ?_ | refine j_aloadq (pc := 278) hX dJ1_resize_278 rfl ?_
              refine j_ifnonnull (pc := 280) (tgt := 290) hX dJ1_resize_280 (by decide) ?_
              first | refine j_aload (pc := 290) hX dJ1_resize_290 rfl ?_ | refine j_aloadq (pc := 290) hX dJ1_resize_290 rfl ?_
              first | refine j_aload (pc := 292) hX dJ1_resize_292 rfl ?_ | refine j_aloadq (pc := 292) hX dJ1_resize_292 rfl ?_
              refine j_put (pc := 294) hX kp_J1_177 dJ1_resize_294 hox hxg rfl rfl rfl (fun H_294 w_294 n_294 => ?_)
              first | refine j_aload (pc := 297) hX dJ1_resize_297 rfl ?_ | refine j_aloadq (pc := 297) hX dJ1_resize_297 rfl ?_
              first | refine j_astore (pc := 299) hX dJ1_resize_299 (by decide) rfl ?_ | refine j_astoreN (pc := 299) hX dJ1_resize_299 (by decide) rfl ?_ | refine j_astoreq (pc := 299) hX dJ1_resize_299 (by decide) rfl ?_
              exact j_lv (by simp only [jsb, jget, jval, Nat.beq, and_true, true_and, nxN_grow B0 x e0 none none, lsN_app]) (k A (B0 ++ [x] ++ [e0]) H_294 ((hS.swap.app w_294 n_294).swap) (hF.put w_294 (fun _ => ⟨x, hxL, rfl⟩)) (Or.inr ⟨hz, rfl, rfl⟩))
          first | refine j_aload (pc := 235) hX dJ1_resize_235 rfl ?_ | refine j_aloadq (pc := 235) hX dJ1_resize_235 rfl ?_
          refine j_get (pc := 237) hX kg_J1_177 dJ1_resize_237 ho0.r (by rfl) ?_
          first | refine j_astore (pc := 240) hX dJ1_resize_240 (by decide) rfl ?_ | refine j_astoreN (pc := 240) hX dJ1_resize_240 (by decide) rfl ?_ | refine j_astoreq (pc := 240) hX dJ1_resize_240 (by decide) rfl ?_
          first | refine j_aload (pc := 242) hX dJ1_resize_242 rfl ?_ | refine j_aloadq (pc := 242) hX dJ1_resize_242 rfl ?_
          refine j_get (pc := 244) hX kg_J1_168 dJ1_resize_244 ho0.r (by rfl) ?_
          refine j_iload_n (pc := 247) hX dJ1_resize_247 rfl rfl ?_
          refine j_iand (pc := 248) hX dJ1_resize_248 ?_
          refine j_if_ne (pc := 249) (tgt := 278) hX dJ1_resize_249 (by decide) (fun c_249 => ?_) (fun c_249 => ?_)
          · exact j_lv (by simp [jsb, jget, jval]) (hi c_249)
          · exact j_lv (by simp [jsb, jget, jval]) (lo c_249)
        have hpq : ∀ n ∈ e :: m :: r2', (hK d n.2.1 &&& 16 = 0 → ixN 32 (hK d n.2.1) = j ∧ ¬ ixN 32 (hK d n.2.1) = j + 16) ∧ (¬ hK d n.2.1 &&& 16 = 0 → ¬ ixN 32 (hK d n.2.1) = j ∧ ixN 32 (hK d n.2.1) = j + 16) := fun n hn => by
          have := ix_2 (hK d n.2.1)
          have e1 := hix n hn
          constructor
          · intro z; have := this.1.mp z; omega
          · intro z; have := this.2.mp z; omega
        have loop : ∀ (R : List (ND K)) (e0 : ND K) (D : List (ND K)) (H3 : Heap), D ++ e0 :: R = e :: m :: r2' → SP d G H3 (D.filter (fun n => decide (ixN 32 (hK d n.2.1) = j))) (D.filter (fun n => decide (ixN 32 (hK d n.2.1) = j + 16))) (e0 :: R) → JFr (fun a => ∃ n ∈ e :: m :: r2', n.1 = a) H2 H3 → JW X G H3 0 235 [(0, .inr (some q)), (1, .inr (some t)), (2, .inl (.int (nI 16))), (4, .inl (.int (nI 32))), (6, .inr (some nt)), (7, .inl (.int (nI j))), (8, .inr (some e0.1)), (9, .inr (nxN (D.filter (fun n => decide (ixN 32 (hK d n.2.1) = j))) none)), (10, .inr (lsN (D.filter (fun n => decide (ixN 32 (hK d n.2.1) = j))))), (11, .inr (nxN (D.filter (fun n => decide (ixN 32 (hK d n.2.1) = j + 16))) none)), (12, .inr (lsN (D.filter (fun n => decide (ixN 32 (hK d n.2.1) = j + 16)))))] [] := by
          have mem : ∀ (R : List (ND K)) (e0 : ND K) (D : List (ND K)), D ++ e0 :: R = e :: m :: r2' → ∀ n, n ∈ D.filter (fun n => decide (ixN 32 (hK d n.2.1) = j)) ∨ n ∈ D.filter (fun n => decide (ixN 32 (hK d n.2.1) = j + 16)) ∨ n ∈ e0 :: R → n ∈ e :: m :: r2' := by
            intro R e0 D hD n hn
            rw [← hD, List.mem_append]
            rcases hn with hn | hn | hn
            · exact Or.inl (List.mem_filter.mp hn).1
            · exact Or.inl (List.mem_filter.mp hn).1
            · exact Or.inr hn
          have grow : ∀ (R : List (ND K)) (e0 : ND K) (D A' C' : List (ND K)), D ++ e0 :: R = e :: m :: r2' → (hK d e0.2.1 &&& 16 = 0 ∧ A' = D.filter (fun n => decide (ixN 32 (hK d n.2.1) = j)) ++ [e0] ∧ C' = D.filter (fun n => decide (ixN 32 (hK d n.2.1) = j + 16))) ∨ (¬ hK d e0.2.1 &&& 16 = 0 ∧ A' = D.filter (fun n => decide (ixN 32 (hK d n.2.1) = j)) ∧ C' = D.filter (fun n => decide (ixN 32 (hK d n.2.1) = j + 16)) ++ [e0]) → A' = (D ++ [e0]).filter (fun n => decide (ixN 32 (hK d n.2.1) = j)) ∧ C' = (D ++ [e0]).filter (fun n => decide (ixN 32 (hK d n.2.1) = j + 16)) := by
            intro R e0 D A' C' hD h
            have h0 := hpq e0 (by rw [← hD]; simp)
            rw [List.filter_append, List.filter_append]
            rcases h with ⟨z, rfl, rfl⟩ | ⟨z, rfl, rfl⟩
            · obtain ⟨z1, z2⟩ := h0.1 z
              simp [List.filter_cons, z1, z2]
            · obtain ⟨z1, z2⟩ := h0.2 z
              simp [List.filter_cons, z1, z2]
          intro R
          induction R with
          | nil =>
            intro e0 D H3 hD hS hF
            refine walk [] e0 _ _ H3 hS hF (mem _ _ _ hD) (fun A' C' H' hS' hF' hor => ?_)
            obtain ⟨g1, g2⟩ := grow [] e0 D A' C' hD hor
            rw [hD] at g1 g2
            first | refine j_aload (pc := 301) hX dJ1_resize_301 rfl ?_ | refine j_aloadq (pc := 301) hX dJ1_resize_301 rfl ?_
            refine j_dup (pc := 303) hX dJ1_resize_303 (by first | rfl | exact jrf_cat _) ?_
            first | refine j_astore (pc := 304) hX dJ1_resize_304 (by decide) rfl ?_ | refine j_astoreN (pc := 304) hX dJ1_resize_304 (by decide) rfl ?_ | refine j_astoreq (pc := 304) hX dJ1_resize_304 (by decide) rfl ?_
            refine j_ifnonnullN (pc := 306) hX dJ1_resize_306 ?_
            exact j_lv (by simp [jsb, jget, jval, nxN]) (fin4 H' A' C' g1 g2 hS' hF')
          | cons e1 R ih =>
            intro e0 D H3 hD hS hF
            refine walk (e1 :: R) e0 _ _ H3 hS hF (mem _ _ _ hD) (fun A' C' H' hS' hF' hor => ?_)
            obtain ⟨g1, g2⟩ := grow _ e0 D A' C' hD hor
            first | refine j_aload (pc := 301) hX dJ1_resize_301 rfl ?_ | refine j_aloadq (pc := 301) hX dJ1_resize_301 rfl ?_
            refine j_dup (pc := 303) hX dJ1_resize_303 (by first | rfl | exact jrf_cat _) ?_
            first | refine j_astore (pc := 304) hX dJ1_resize_304 (by decide) rfl ?_ | refine j_astoreN (pc := 304) hX dJ1_resize_304 (by decide) rfl ?_ | refine j_astoreq (pc := 304) hX dJ1_resize_304 (by decide) rfl ?_
            refine j_ifnonnull (pc := 306) (tgt := 235) hX dJ1_resize_306 (by decide) ?_
            exact j_lv (by simp [jsb, jget, jval, nxN, g1, g2]) (ih e1 (D ++ [e0]) H' (by rw [List.append_assoc]; exact hD) (by rw [← g1, ← g2]; exact hS') hF')
        first | refine j_aload (pc := 172) hX dJ1_resize_172 rfl ?_ | refine j_aloadq (pc := 172) hX dJ1_resize_172 rfl ?_
        refine j_get (pc := 174) hX kg_J1_177 dJ1_resize_174 hce.1.r (by rfl) ?_
        refine j_ifnonnull (pc := 177) (tgt := 198) hX dJ1_resize_177 (by decide) ?_
        first | refine j_aload (pc := 198) hX dJ1_resize_198 rfl ?_ | refine j_aloadq (pc := 198) hX dJ1_resize_198 rfl ?_
        refine j_instNo (pc := 200) hX kd_J1_180 dJ1_resize_200 hce.1.r ?_
        refine j_if_eq (pc := 203) (tgt := 223) hX dJ1_resize_203 (by decide) (fun c_203 => ?_) (fun c_203 => ?_)
        rotate_left
        · exact absurd rfl c_203
        refine j_null (pc := 223) hX dJ1_resize_223 ?_
        first | refine j_astore (pc := 224) hX dJ1_resize_224 (by decide) rfl ?_ | refine j_astoreN (pc := 224) hX dJ1_resize_224 (by decide) rfl ?_ | refine j_astoreq (pc := 224) hX dJ1_resize_224 (by decide) rfl ?_
        refine j_null (pc := 226) hX dJ1_resize_226 ?_
        first | refine j_astore (pc := 227) hX dJ1_resize_227 (by decide) rfl ?_ | refine j_astoreN (pc := 227) hX dJ1_resize_227 (by decide) rfl ?_ | refine j_astoreq (pc := 227) hX dJ1_resize_227 (by decide) rfl ?_
        refine j_null (pc := 229) hX dJ1_resize_229 ?_
        first | refine j_astore (pc := 230) hX dJ1_resize_230 (by decide) rfl ?_ | refine j_astoreN (pc := 230) hX dJ1_resize_230 (by decide) rfl ?_ | refine j_astoreq (pc := 230) hX dJ1_resize_230 (by decide) rfl ?_
        refine j_null (pc := 232) hX dJ1_resize_232 ?_
        first | refine j_astore (pc := 233) hX dJ1_resize_233 (by decide) rfl ?_ | refine j_astoreN (pc := 233) hX dJ1_resize_233 (by decide) rfl ?_ | refine j_astoreq (pc := 233) hX dJ1_resize_233 (by decide) rfl ?_
        exact j_lv (by simp [jsb, jget, jval, nxN, lsN]) (loop (m :: r2') e [] H2 rfl hsp JFr.rfl')
  refine (fun (K0 : ∀ (nt : Nat) (H1 : Heap), H.size ≤ nt → rsA d G H H1 q t nt sz mc B 0 → JW X G H1 0 151 [(0, .inr (some q)), (1, .inr (some t)), (2, .inl (.int (nI 16))), (4, .inl (.int (nI 32))), (6, .inr (some nt)), (7, .inl (.int (nI 0)))] []) => ?_) (jloop (P := fun j => ∀ (nt : Nat) (H1 : Heap), H.size ≤ nt → rsA d G H H1 q t nt sz mc B j → JW X G H1 0 151 [(0, .inr (some q)), (1, .inr (some t)), (2, .inl (.int (nI 16))), (4, .inl (.int (nI 32))), (6, .inr (some nt)), (7, .inl (.int (nI j)))] []) 16 ?_ one 0 (by omega))
  · skip
    first | refine j_aload_n (pc := 0) hX dJ1_resize_0 rfl rfl ?_ | refine j_aload_nq (pc := 0) hX dJ1_resize_0 rfl rfl ?_
    refine j_get (pc := 1) hX kg_J1_105 dJ1_resize_1 (by first | assumption | exact jow.r (by assumption)) (by rfl) ?_
    first | refine j_astore_n (pc := 4) hX dJ1_resize_4 rfl (by decide) rfl ?_ | refine j_astore_nN (pc := 4) hX dJ1_resize_4 rfl (by decide) rfl ?_ | refine j_astore_nq (pc := 4) hX dJ1_resize_4 rfl (by decide) rfl ?_
    first | refine j_aload_n (pc := 5) hX dJ1_resize_5 rfl rfl ?_ | refine j_aload_nq (pc := 5) hX dJ1_resize_5 rfl rfl ?_
    refine j_ifnonnull (pc := 6) (tgt := 13) hX dJ1_resize_6 (by decide) ?_
    first | refine j_aload_n (pc := 13) hX dJ1_resize_13 rfl rfl ?_ | refine j_aload_nq (pc := 13) hX dJ1_resize_13 rfl rfl ?_
    refine j_alen (pc := 14) hX dJ1_resize_14 (jaw.r (t := 8) hX (by decide) hT.2.2.1) ?_
    refine j_istore_n (pc := 15) hX dJ1_resize_15 rfl (by decide) rfl ?_
    first | refine j_aload_n (pc := 16) hX dJ1_resize_16 rfl rfl ?_ | refine j_aload_nq (pc := 16) hX dJ1_resize_16 rfl rfl ?_
    refine j_get (pc := 17) hX kg_J1_88 dJ1_resize_17 (by first | assumption | exact jow.r (by assumption)) (by rfl) ?_
    refine j_istore_n (pc := 20) hX dJ1_resize_20 rfl (by decide) rfl ?_
    refine j_iconst (pc := 21) (v := 0) hX dJ1_resize_21 (by decide) ?_
    refine j_istore (pc := 22) hX dJ1_resize_22 (by decide) rfl ?_
    refine j_iload_n (pc := 24) hX dJ1_resize_24 rfl rfl ?_
    refine j_if_le (pc := 25) (tgt := 67) hX dJ1_resize_25 (by decide) (fun c_25 => ?_) (fun c_25 => ?_)
    · exact absurd c_25 (by decide)
    refine j_iload_n (pc := 28) hX dJ1_resize_28 rfl rfl ?_
    refine j_ldc (pc := 29) hX q974 dJ1_resize_29 ?_
    refine j_icmp_lt (pc := 31) (tgt := 42) hX dJ1_resize_31 (by decide) (fun c_31 => ?_) (fun c_31 => ?_)
    rotate_left
    · exact absurd (show (Int32.ofNat 16) < _ from by decide) c_31
    refine j_iload_n (pc := 42) hX dJ1_resize_42 rfl rfl ?_
    refine j_iconst (pc := 43) (v := 1) hX dJ1_resize_43 (by decide) ?_
    refine j_ishl (pc := 44) hX dJ1_resize_44 ?_
    refine j_dup (pc := 45) hX dJ1_resize_45 (by first | rfl | exact jrf_cat _) ?_
    refine j_istore (pc := 46) hX dJ1_resize_46 (by decide) rfl ?_
    refine j_ldc (pc := 48) hX q974 dJ1_resize_48 ?_
    refine j_icmp_ge (pc := 50) (tgt := 85) hX dJ1_resize_50 (by decide) (fun c_50 => ?_) (fun c_50 => ?_)
    · exact absurd c_50 (by decide)
    refine j_iload_n (pc := 53) hX dJ1_resize_53 rfl rfl ?_
    refine j_bipush (pc := 54) (v := 16) hX dJ1_resize_54 (by decide) ?_
    refine j_icmp_lt (pc := 56) (tgt := 85) hX dJ1_resize_56 (by decide) (fun c_56 => ?_) (fun c_56 => ?_)
    · exact absurd c_56 (by decide)
    refine j_iload_n (pc := 59) hX dJ1_resize_59 rfl rfl ?_
    refine j_iconst (pc := 60) (v := 1) hX dJ1_resize_60 (by decide) ?_
    refine j_ishl (pc := 61) hX dJ1_resize_61 ?_
    refine j_istore (pc := 62) hX dJ1_resize_62 (by decide) rfl ?_
    refine j_goto (pc := 64) (tgt := 85) hX dJ1_resize_64 (by decide) ?_
    refine j_iload (pc := 85) hX dJ1_resize_85 rfl ?_
    refine j_if_ne (pc := 87) (tgt := 125) hX dJ1_resize_87 (by decide) (fun c_87 => ?_) (fun c_87 => ?_)
    rotate_left
    · exact absurd c_87 (by decide)
    first | refine j_aload_n (pc := 125) hX dJ1_resize_125 rfl rfl ?_ | refine j_aload_nq (pc := 125) hX dJ1_resize_125 rfl rfl ?_
    refine j_iload (pc := 126) hX dJ1_resize_126 rfl ?_
    refine j_put (pc := 128) hX kp_J1_88 dJ1_resize_128 (by assumption) hq rfl rfl rfl (fun H_128 w_128 n_128 => ?_)
    refine j_iload (pc := 131) hX dJ1_resize_131 rfl ?_
    refine j_anew (pc := 133) hX kr_J1_163 32 8 rfl (by omega) (by omega) dJ1_resize_133 (fun H_133 z_133 e_133 n_133 b_133 => ?_)
    have n_128 := n_128.ext e_133
    first | refine j_astore (pc := 136) hX dJ1_resize_136 (by decide) rfl ?_ | refine j_astoreN (pc := 136) hX dJ1_resize_136 (by decide) rfl ?_ | refine j_astoreq (pc := 136) hX dJ1_resize_136 (by decide) rfl ?_
    first | refine j_aload_n (pc := 138) hX dJ1_resize_138 rfl rfl ?_ | refine j_aload_nq (pc := 138) hX dJ1_resize_138 rfl rfl ?_
    first | refine j_aload (pc := 139) hX dJ1_resize_139 rfl ?_ | refine j_aloadq (pc := 139) hX dJ1_resize_139 rfl ?_
    refine j_put (pc := 141) hX kp_J1_105 dJ1_resize_141 n_128 hq rfl rfl rfl (fun H_141 w_141 n_141 => ?_)
    first | refine j_aload_n (pc := 144) hX dJ1_resize_144 rfl rfl ?_ | refine j_aload_nq (pc := 144) hX dJ1_resize_144 rfl rfl ?_
    refine j_ifnull (pc := 145) hX dJ1_resize_145 ?_
    refine j_iconst (pc := 148) (v := 0) hX dJ1_resize_148 (by decide) ?_
    refine j_istore (pc := 149) hX dJ1_resize_149 (by decide) rfl ?_
    skip
    have hnt : H.size ≤ H_128.size := Nat.le_of_eq w_128.1.symm
    have hFr : JFr (fun a => a = q) H H_141 := JFr.trans (w_128.fr rfl) ((e_133.fr).put w_141 (fun _ => rfl))
    refine j_lv (by simp [jsb, jget, jval] <;> decide) (K0 H_128.size H_141 hnt ⟨n_141, (hT.2.2.1.fr hFr (Ne.symm (hC.neA ho.r hT.2.2.1 (by decide)))).congr (fun i hi => by rw [if_neg (Nat.not_lt_zero i)]), (n_133.put w_141 (fun z => Nat.ne_of_lt ho.lt (z.symm.trans w_128.1))).congr (fun i hi => by unfold spl; rw [if_neg (Nat.not_lt_zero _)]; rfl), fun i _ hi => (hT.2.2.2.1 i hi).fr hFr (fun n hn z => hC.ne ho.r ((hT.2.2.2.1 i hi).get hn).1.choose_spec.r (by decide) z.symm) (fun n hn z => hC.ne ((hT.2.2.2.1 i hi).get hn).2.2 ho.r hd.1 z), fun i hi => by unfold spl; rw [if_neg (Nat.not_lt_zero _)]; trivial, hFr.weak (fun a _ z => Or.inl z)⟩)
  · intro nt H1 hnt hR
    refine j_iload (pc := 151) hX dJ1_resize_151 rfl ?_
    refine j_iload_n (pc := 153) hX dJ1_resize_153 rfl rfl ?_
    refine j_icmp_ge (pc := 154) (tgt := 353) hX dJ1_resize_154 (by decide) (fun c_154 => ?_) (fun c_154 => ?_)
    rotate_left
    · exact absurd (show nI 16 ≤ nI 16 from by decide) c_154
    exact j_lv (by simp [jsb, jget, jval]) (fin nt H1 hnt hR)
