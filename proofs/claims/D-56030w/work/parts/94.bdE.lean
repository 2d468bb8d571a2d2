/-! a new post -/
set_option maxRecDepth 100000
section
variable {s : Nat → Nat} {n sh lo hi wg : Nat}
theorem openS_f (j : Nat) (h2 : j ≠ 2) (h : j < 63 + 5 * n ∨ 63 + 5 * n + 5 ≤ j) : openS s n sh lo hi wg j = s j := by
  unfold openS jup
  rw [if_neg h2, if_neg (by omega), if_neg (by omega), if_neg (by omega), if_neg (by omega), if_neg (by omega)]
theorem openS_2 : openS s n sh lo hi wg 2 = s 2 + 1 := by unfold openS; exact jup_same
theorem openS_n : pSh (openS s n sh lo hi wg) n = sh ∧ pLo (openS s n sh lo hi wg) n = lo ∧ pHi (openS s n sh lo hi wg) n = hi ∧ pWg (openS s n sh lo hi wg) n = wg ∧ pFl (openS s n sh lo hi wg) n = 0 := by
  unfold pSh pLo pHi pWg pFl openS jup
  refine ⟨?_, ?_, ?_, ?_, ?_⟩ <;> simp <;> omega
theorem openS_fill (hn : n = s 2) (k : Nat) : fillN (openS s n sh lo hi wg) k = fillN s k := by
  subst hn
  unfold fillN
  rw [openS_2, jfold_succ]
  unfold fillF
  rw [if_neg (by rw [openS_n.2.2.2.2]; omega)]
  refine fold_ext _ _ (fun p a hp => ?_)
  rw [show pFl (openS s (s 2) sh lo hi wg) p = pFl s p from openS_f _ (by omega) (Or.inl (by omega))]
end
section
variable {G : JG} {H H1 : Heap} {n0 : Nat} {b : BG} {s : Nat → Nat}
/-- the list of posts has one more -/
theorem jbd.posted {a arr' : Nat} {sh lo hi wg : Nat} (hC : JC G) (h : jbd G H n0 b s) (ha : jow G H a 3 (oPost (nI sh) (nI lo) (nI hi) (nI wg) none)) (hag : n0 ≤ a) (hao : bow b a = 0)
    (hA5 : alA G H1 (bg b 5) arr' (bmc b 1 + 1) ((List.range (s 2)).map (bpo b) ++ [a])) (harr : arr' = bg b 6 ∨ H.size ≤ arr') (hF : JFr (fun x => x = bg b 5 ∨ x = bg b 6) H H1) (hold : ∀ x, x < (gs G).heap.size → H1[x]? = H[x]?) :
    JFr (fun x => n0 ≤ x) H H1 ∧ ∃ b', bg b' 0 = bg b 0 ∧ bg b' 5 = bg b 5 ∧ (∀ p, p < s 2 → bpo b' p = bpo b p) ∧ bap b' = bap b ∧ bL b' = bL b ∧ jbd G H1 n0 b' (openS s (s 2) sh lo hi wg) := by
  have hP := h.P
  have hga := hC.gC0
  have hag2 : (gs G).heap.size ≤ a := Nat.le_trans h.O.1 hag
  have ne : ∀ w x, w ≠ 0 → w ≠ 5 → bow b x = w → x ≠ bg b 5 ∧ x ≠ bg b 6 := fun w x w0 w4 hx => ⟨fun e => by subst e; exact w4 (hx.symm.trans hP.2.1), fun e => by
    rcases hP.2.2 with z | z
    · subst e; exact w4 (hx.symm.trans z)
    · have h1 := (h.O.2.1 x (by rw [hx]; exact w0)).1
      have h2 := h.O.1
      rw [e, z] at h1
      omega⟩
  have kw : ∀ w x, w ≠ 0 → w ≠ 5 → bow b x = w → H1[x]? = H[x]? := fun w x w0 w4 hx => hF.2 x (h.O.2.1 x (by rw [hx]; exact w0)).2 (fun z => z.elim (ne w x w0 w4 hx).1 (ne w x w0 w4 hx).2)
  have z5 := hF.1
  have hal := ha.lt
  have n02 := h.O.2.2
  obtain ⟨o', ho'⟩ : ∃ o' : Nat → Nat, o' = fun x => if x = a then 7 else if H.size ≤ x ∧ x < H1.size then 5 else bow b x := ⟨_, rfl⟩
  have o_a : o' a = 7 := by rw [ho']; exact if_pos rfl
  have o_old : ∀ x, bow b x ≠ 0 → o' x = bow b x := fun x hx => by
    have hl := (h.O.2.1 x hx).2
    have hxa : x ≠ a := fun e => by subst e; exact hx hao
    rw [ho']; show (if x = a then 7 else _) = _
    rw [if_neg hxa, if_neg (by omega)]
  have o_w : ∀ w x, w ≠ 0 → bow b x = w → o' x = w := fun w x w0 hx => (o_old x (by rw [hx]; exact w0)).trans hx
  have o_5 : ∀ x, H.size ≤ x → x < H1.size → o' x = 5 := fun x h1 h2 => by
    rw [ho']; show (if x = a then 7 else _) = _; rw [if_neg (by omega), if_pos ⟨h1, h2⟩]
  have o_lt : ∀ x, o' x ≠ 0 → n0 ≤ x ∧ x < H1.size := fun x hx => by
    by_cases hb : bow b x = 0
    · by_cases e : x = a
      · subst e; exact ⟨hag, by omega⟩
      · by_cases hl : H.size ≤ x ∧ x < H1.size
        · exact ⟨by omega, hl.2⟩
        · exfalso; apply hx; rw [ho']; show (if x = a then 7 else _) = _
          rw [if_neg e, if_neg hl]; exact hb
    · have := h.O.2.1 x hb; exact ⟨this.1, by omega⟩
  have harr' : o' arr' = 5 ∨ arr' = gC G 0 := by
    rcases harr with z | z
    · rw [z]; exact hP.2.2.imp (o_w 5 _ (by decide)) (fun q => q)
    · rcases hA5.2.2.2 with ⟨-, q⟩ | ⟨-, -, q⟩
      · exact Or.inr q
      · exact Or.inl (o_5 _ z q.lt)
  have haq : a ≠ bg b 5 := fun e => by have := hP.2.1; rw [← e, hao] at this; cases this
  have haq3 : a ≠ bg b 6 := fun e => by
    rcases hP.2.2 with z | z
    · rw [← e, hao] at z; cases z
    · rw [← e] at z; omega
  have ha1 : H1[a]? = H[a]? := hF.2 a hal (fun z => z.elim haq haq3)
  have lo_ : ∀ j, j ≠ 2 → j < 63 → openS s (s 2) sh lo hi wg j = s j := fun j h1 h2 => openS_f j h1 (Or.inl (by omega))
  have po_ : ∀ p w, p < s 2 → w < 5 → openS s (s 2) sh lo hi wg (63 + 5 * p + w) = s (63 + 5 * p + w) := fun p w h1 h2 => openS_f _ (by omega) (Or.inl (by omega))
  have l10 : ∀ k ∈ bL b, k < 10 := fun k hk => (h.S.lt hk).1
  have oI : ∀ k, k < 10 → aId (openS s (s 2) sh lo hi wg) k = aId s k := fun k hk => lo_ _ (by omega) (by omega)
  have oI2 : ∀ k ∈ bL b, idI (openS s (s 2) sh lo hi wg) k = idI s k := fun k hk => by unfold idI; rw [oI k (l10 k hk)]
  have ow : ∀ k w, k < 10 → w < 6 → openS s (s 2) sh lo hi wg (3 + 6 * k + w) = s (3 + 6 * k + w) := fun k w hk hw => lo_ _ (by omega) (by omega)
  have ogv : ∀ k ∈ bL b, aGv (openS s (s 2) sh lo hi wg) k = aGv s k := fun k hk => ow k 5 (l10 k hk) (by omega)
  have hmap : (List.range (s 2 + 1)).map (jup (bpo b) (s 2) a) = (List.range (s 2)).map (bpo b) ++ [a] := by
    rw [List.range_succ, List.map_append, List.map_singleton, jup_same]
    congr 1
    exact List.map_congr_left (fun p hp => jup_ne (by have := List.mem_range.mp hp; omega))
  have pj : ∀ p, p < s 2 → jup (bpo b) (s 2) a p = bpo b p := fun p hp => jup_ne (by omega)
  have hne : ∀ p, p < s 2 → bpo b p ≠ a := fun p hp e => by have := (h.Y.1 p hp).2; rw [e, hao] at this; cases this
  refine ⟨⟨z5, fun x hl hx => ?_⟩, (jup (bg b) 6 arr', bap b, jup (bpo b) (s 2) a, o', bL b, jup (bmc b) 1 (bmc b 1 + 1)), rfl, rfl, pj, rfl, rfl, ⟨h.O.1, o_lt, by omega⟩, ⟨fun j => ?_, ?_⟩, ⟨?_, o_w 1 _ (by decide) h.B.2⟩, ?_, ?_, ?_, ⟨?_, o_w 5 _ (by decide) hP.2.1, harr'⟩, ⟨fun j hj => ?_, h.X.2⟩, ⟨fun p hp => ?_, fun p q hp hq e => ?_⟩⟩
  · have hb0 : bow b x = 0 := Classical.byContradiction fun z => hx (h.O.2.1 x z).1
    by_cases hg : x < (gs G).heap.size
    · exact hold x hg
    · exact hF.2 x hl (fun z => z.elim (fun e => by rw [e, hP.2.1] at hb0; cases hb0) (fun e => by
        rcases hP.2.2 with z | z
        · rw [e, z] at hb0; cases hb0
        · rw [e, z] at hg; omega))
  · show j ∈ bL b ↔ _
    rw [h.S.1 j]
    constructor
    · rintro ⟨q1, q2⟩; exact ⟨q1, by rw [oI j q1]; exact q2⟩
    · rintro ⟨q1, q2⟩; exact ⟨q1, by rw [← oI j q1]; exact q2⟩
  · refine List.Pairwise.imp_of_mem ?_ h.S.2
    intro i j hi hj hlt
    rw [oI i (l10 i hi), oI j (l10 j hj)]; exact hlt
  · show jow G H1 (bg b 0) 1 [.ref (bg b 1), .ref (bg b 2), .ref (bg b 4), .ref (bg b 5), .int (nI (openS s (s 2) sh lo hi wg 0)), .int (nI (openS s (s 2) sh lo hi wg 1))]
    rw [lo_ 0 (by omega) (by omega), lo_ 1 (by omega) (by omega)]
    exact h.B.1.kept (kw 1 _ (by decide) (by decide) h.B.2)
  · obtain ⟨E, a1, a2⟩ := h.I.keep (H1 := H1) (fun x hx => by
      rcases hx with hx | hx | hx
      · exact kw 2 x (by decide) (by decide) hx
      · exact kw 8 x (by decide) (by decide) hx
      · exact hold x hx)
    refine ⟨E, a1.mono (F2 := fun x => o' x = 2) (Kp2 := fun x => x < (gs G).heap.size ∨ o' x = 8) (fun x hx => o_w 2 x (by decide) hx) (fun x hx => hx.imp (fun z => z) (o_w 8 x (by decide))), fun y w => ?_⟩
    rw [a2]
    constructor
    · rintro ⟨i, hi, rfl, rfl⟩; exact ⟨i, hi, (oI2 i hi).symm, rfl⟩
    · rintro ⟨i, hi, rfl, rfl⟩; exact ⟨i, hi, oI2 i hi, rfl⟩
  · obtain ⟨E, a1, a2⟩ := h.R.keep (H1 := H1) (fun x hx => hx.elim (kw 3 x (by decide) (by decide)) (kw 8 x (by decide) (by decide)))
    refine ⟨E, a1.mono (F2 := fun x => o' x = 3) (Kp2 := fun x => o' x = 8) (fun x hx => o_w 3 x (by decide) hx) (fun x hx => o_w 8 x (by decide) hx), fun y w => ?_⟩
    rw [a2]
    constructor
    · rintro ⟨hv, i, hii, j, hj, rfl, hb⟩; exact ⟨hv, i, hii, j, hj, by rw [oI2 i hii, oI2 j hj], by rw [ogv j hj]; exact hb⟩
    · rintro ⟨hv, i, hii, j, hj, rfl, hb⟩; exact ⟨hv, i, hii, j, hj, by rw [oI2 i hii, oI2 j hj], by rw [← ogv j hj]; exact hb⟩
  · have := h.A.keep (H1 := H1) hC (fun x => kw 4 x (by decide) (by decide))
    exact ⟨this.1, o_w 4 _ (by decide) this.2.1, this.2.2.imp (o_w 4 _ (by decide)) (fun z => z)⟩
  · show alA G H1 (bg b 5) arr' (bmc b 1 + 1) ((List.range (openS s (s 2) sh lo hi wg 2)).map (jup (bpo b) (s 2) a))
    rw [openS_2, hmap]; exact hA5
  · show jow G H1 (bap b j) 2 (oApp (idI (openS s (s 2) sh lo hi wg) j) (nI (openS s (s 2) sh lo hi wg (3 + 6 * j + 1))) (nI (openS s (s 2) sh lo hi wg (3 + 6 * j + 2))) (nI (openS s (s 2) sh lo hi wg (3 + 6 * j + 3))) (nI (openS s (s 2) sh lo hi wg (3 + 6 * j + 4))) ((fillN (openS s (s 2) sh lo hi wg) j).map (jup (bpo b) (s 2) a))) ∧ o' (bap b j) = 6
    have q := l10 j hj
    rw [oI2 j hj, ow j 1 q (by omega), ow j 2 q (by omega), ow j 3 q (by omega), ow j 4 q (by omega), openS_fill rfl]
    have hf : (fillN s j).map (jup (bpo b) (s 2) a) = (fillN s j).map (bpo b) := by
      cases e : fillN s j with
      | none => rfl
      | some p => exact congrArg some (pj p (fillN_lt e))
    rw [hf]
    have := h.X.1 j hj
    exact ⟨this.1.kept (kw 6 _ (by decide) (by decide) this.2), o_w 6 _ (by decide) this.2⟩
  · rw [openS_2] at hp
    show jow G H1 (jup (bpo b) (s 2) a p) 3 (oPost (nI (pSh (openS s (s 2) sh lo hi wg) p)) (nI (pLo (openS s (s 2) sh lo hi wg) p)) (nI (pHi (openS s (s 2) sh lo hi wg) p)) (nI (pWg (openS s (s 2) sh lo hi wg) p)) (if pFl (openS s (s 2) sh lo hi wg) p = 0 then none else some (bap b (pFl (openS s (s 2) sh lo hi wg) p - 1)))) ∧ o' (jup (bpo b) (s 2) a p) = 7
    by_cases e : p = s 2
    · subst e
      obtain ⟨q1, q2, q3, q4, q5⟩ := openS_n (s := s) (n := s 2) (sh := sh) (lo := lo) (hi := hi) (wg := wg)
      rw [q1, q2, q3, q4, q5, jup_same, if_pos rfl]
      exact ⟨ha.kept ha1, o_a⟩
    · have hp2 : p < s 2 := by omega
      have q0 : pSh (openS s (s 2) sh lo hi wg) p = pSh s p := po_ p 0 hp2 (by omega)
      have q1 : pLo (openS s (s 2) sh lo hi wg) p = pLo s p := po_ p 1 hp2 (by omega)
      have q2 : pHi (openS s (s 2) sh lo hi wg) p = pHi s p := po_ p 2 hp2 (by omega)
      have q3 : pWg (openS s (s 2) sh lo hi wg) p = pWg s p := po_ p 3 hp2 (by omega)
      have q4 : pFl (openS s (s 2) sh lo hi wg) p = pFl s p := po_ p 4 hp2 (by omega)
      rw [pj p hp2, q0, q1, q2, q3, q4]
      have := h.Y.1 p hp2
      exact ⟨this.1.kept (kw 7 _ (by decide) (by decide) this.2), o_w 7 _ (by decide) this.2⟩
  · rw [openS_2] at hp hq
    have e2 : jup (bpo b) (s 2) a p = jup (bpo b) (s 2) a q := e
    by_cases ep : p = s 2 <;> by_cases eq : q = s 2
    · omega
    · rw [ep, jup_same, pj q (by omega)] at e2; exact absurd e2.symm (hne q (by omega))
    · rw [eq, jup_same, pj p (by omega)] at e2; exact absurd e2 (hne p (by omega))
    · rw [pj p (by omega), pj q (by omega)] at e2; exact h.Y.2 p q (by omega) (by omega) e2
end
theorem c_X2_opens (l : Launch) (G : JG) (H : Heap) {n0 : Nat} {b : BG} {s : Nat → Nat} (h : jbd G H n0 b s) (hW : WFs s) (hB : Bs s) (sh lo hi wg : Int32) : JMet l yX2_open (ws_ yX2_open cX2_open 6 (some .int)) 10 14 G H [.ref (bg b 0), .int sh, .int lo, .int hi, .int wg] (pD G H n0 b (openD s sh lo hi wg)) (pxD [eArg, eSta] (openD s sh lo hi wg).1 n0 H) := by
  refine JMet.of [(0, .inr (some (bg b 0))), (1, .inl (.int sh)), (2, .inl (.int lo)), (3, .inl (.int hi)), (4, .inl (.int wg))] (by decide) (Nat.le_of_ble_eq_true rfl) rfl (fun X hl hX hQ hEx hr hnm hH => ?_)
  subst hl
  have hC := hX.C
  have hoB := h.B.1
  have hP := h.P.1
  have h6 := hB.1
  have hlen0 : ((List.range (s 2)).map (bpo b)).length = s 2 := by simp
  have hsz := c_J4_size (jl X) G H (bg b 5) (bg b 6) hP
  rw [hlen0] at hsz
  -- what fails
  have bad : ∀ pc, pc = 18 ∨ pc = 30 ∨ pc = 63 → ((shI sh || decide (sh = 42)) && (inI lo 0 100 && (inI hi 0 50 && inI wg 1 99))) = false → ∀ (E : String) (q : Nat) (H1 : Heap), pxO eArg (false = false) H E q H1 → pxD [eArg, eSta] (openD s sh lo hi wg).1 n0 H E q H1 := by
    intro pc _ hc E q H1 hx
    have hD : openD s sh lo hi wg = (1, 0, s) := by unfold openD; rw [if_pos hc]
    rw [hD]; exact ⟨Nat.succ_pos _, by rw [hx.1]; rfl, hx.2.2.fr⟩
  have t18 : (shI sh || decide (sh = 42)) = false → JW X G H 14 18 [] [.int (jb false)] := by
    intro hc
    change JW X G H (12 + 2) 18 _ _
    refine j_runv (pc := 18) (jr_SN (pc := 18) hX ks_X2_148 (c_X1_checkArgument _ _ _ false) (by decide) dX2_open_18 rfl rfl (Nat.le_of_ble_eq_true rfl)) (fun H_18 p_18 z_18 => ?_) (fun E q H1 hx _ => jt_out hX hQ hEx (bad 18 (Or.inl rfl) (by rw [hc]; rfl) E q H1 hx))
    exact absurd p_18.2 (by decide)
  have t30 : inI lo 0 100 = false → JW X G H 12 30 [] [.int (jb false)] := by
    intro hc
    change JW X G H (10 + 2) 30 _ _
    refine j_runv (pc := 30) (jr_SN (pc := 30) hX ks_X2_148 (c_X1_checkArgument _ _ _ false) (by decide) dX2_open_30 rfl rfl (Nat.le_of_ble_eq_true rfl)) (fun H_30 p_30 z_30 => ?_) (fun E q H1 hx _ => jt_out hX hQ hEx (bad 30 (Or.inr (Or.inl rfl)) (by rw [hc]; cases (shI sh || decide (sh = 42)) <;> rfl) E q H1 hx))
    exact absurd p_30.2 (by decide)
  have t63 : (inI hi 0 50 && inI wg 1 99) = false → JW X G H 10 63 [] [.int (jb false)] := by
    intro hc
    change JW X G H (8 + 2) 63 _ _
    refine j_runv (pc := 63) (jr_SN (pc := 63) hX ks_X2_148 (c_X1_checkArgument _ _ _ false) (by decide) dX2_open_63 rfl rfl (Nat.le_of_ble_eq_true rfl)) (fun H_63 p_63 z_63 => ?_) (fun E q H1 hx _ => jt_out hX hQ hEx (bad 63 (Or.inr (Or.inr rfl)) (by rw [hc]; cases (shI sh || decide (sh = 42)) <;> cases inI lo 0 100 <;> rfl) E q H1 hx))
    exact absurd p_63.2 (by decide)
  have go : (shI sh || decide (sh = 42)) = true → inI lo 0 100 = true → (inI hi 0 50 && inI wg 1 99) = true → JW X G H 10 63 [(0, .inr (some (bg b 0))), (1, .inl (.int sh)), (2, .inl (.int lo)), (3, .inl (.int hi)), (4, .inl (.int wg))] [.int (jb true)] := by
    intro c1 c2 c3
    rw [Bool.and_eq_true] at c3
    obtain ⟨c3, c4⟩ := c3
    obtain ⟨shn, hs2, rfl⟩ : ∃ j, j < 128 ∧ sh = nI j := by
      rw [Bool.or_eq_true, decide_eq_true_eq] at c1
      rcases c1 with c1 | c1
      · obtain ⟨j, -, h2, h3⟩ := shI_nat c1; exact ⟨j, h2, h3⟩
      · exact ⟨42, by omega, c1⟩
    obtain ⟨lon, hl2, rfl⟩ := inI_nat (n := 100) rfl c2
    obtain ⟨hin, hh2, rfl⟩ := inI_nat (n := 50) rfl c3
    obtain ⟨wgn, hw1, hw2, rfl⟩ := inI_nat1 (n := 99) rfl c4
    have hD : openD s (nI shn) (nI lon) (nI hin) (nI wgn) = if s 2 = 6 then (2, 0, s) else (0, nI (s 2), openS s (s 2) shn lon hin wgn) := by
      unfold openD
      rw [if_neg (by rw [c1, c2, c3, c4]; decide), nI_clamp (by omega), nI_clamp (by omega), nI_clamp (by omega), nI_clamp (by omega)]
    by_cases hf : s 2 = 6
    · rw [if_pos hf] at hD
      change JW X G H (8 + 2) 63 _ _
      refine j_runv (pc := 63) (jr_SN (pc := 63) hX ks_X2_148 (c_X1_checkArgument _ _ _ true) (by decide) dX2_open_63 rfl rfl (Nat.le_of_ble_eq_true rfl)) (fun H_63 p_63 z_63 => ?_) (fun E q H1 hx _ => absurd hx.2.1 (by decide))
      obtain ⟨rfl, -⟩ := p_63
      first | refine j_aload_n (pc := 66) hX dX2_open_66 rfl rfl ?_ | refine j_aload_nq (pc := 66) hX dX2_open_66 rfl rfl ?_
      refine j_get (pc := 67) hX kg_X2_28 dX2_open_67 (by first | assumption | exact jow.r (by assumption)) (by rfl) ?_
      refine j_rune (pc := 70) (jr_V (pc := 70) hX kv_X2_118 hP.1.r (hsz) (by decide) dX2_open_70 rfl rfl (Nat.le_of_ble_eq_true rfl)) ?_ jno_x
      refine j_bipush (pc := 73) (v := 6) hX dX2_open_73 (by decide) ?_
      rw [hf]
      refine j_icmp_ge (pc := 75) (tgt := 82) hX dX2_open_75 (by decide) (fun c_75 => ?_) (fun c_75 => ?_)
      rotate_left
      · exact absurd (show (6 : Int32) ≤ nI 6 from by decide) c_75
      refine j_iconst (pc := 82) (v := 0) hX dX2_open_82 (by decide) ?_
      change JW X G H_63 (6 + 2) 83 _ [.int (jb false)]
      refine j_runv (pc := 83) (jr_SN (pc := 83) hX ks_X2_151 (c_X1_checkState _ _ _ false) (by decide) dX2_open_83 rfl rfl (Nat.le_of_ble_eq_true rfl)) (fun H_83 p_83 z_83 => ?_) (fun E q H1 hx _ => jt_out hX hQ hEx (by rw [hD]; exact ⟨Nat.succ_pos _, by rw [hx.1]; rfl, hx.2.2.fr⟩))
      exact absurd p_83.2 (by decide)
    · rw [if_neg hf] at hD
      have hsh := pk_charN (q := shn) (by omega)
      change JW X G H (8 + 2) 63 _ _
      refine j_runv (pc := 63) (jr_SN (pc := 63) hX ks_X2_148 (c_X1_checkArgument _ _ _ true) (by decide) dX2_open_63 rfl rfl (Nat.le_of_ble_eq_true rfl)) (fun H_63 p_63 z_63 => ?_) (fun E q H1 hx _ => absurd hx.2.1 (by decide))
      obtain ⟨rfl, -⟩ := p_63
      first | refine j_aload_n (pc := 66) hX dX2_open_66 rfl rfl ?_ | refine j_aload_nq (pc := 66) hX dX2_open_66 rfl rfl ?_
      refine j_get (pc := 67) hX kg_X2_28 dX2_open_67 (by first | assumption | exact jow.r (by assumption)) (by rfl) ?_
      refine j_rune (pc := 70) (jr_V (pc := 70) hX kv_X2_118 hP.1.r (hsz) (by decide) dX2_open_70 rfl rfl (Nat.le_of_ble_eq_true rfl)) ?_ jno_x
      refine j_bipush (pc := 73) (v := 6) hX dX2_open_73 (by decide) ?_
      refine j_icmp_ge (pc := 75) (tgt := 82) hX dX2_open_75 (by decide) (fun c_75 => ?_) (fun c_75 => ?_)
      · exact absurd c_75 (by rw [show (6 : Int32) = nI 6 from rfl]; exact nI_ge (show s 2 < 6 by omega) (by omega))
      refine j_iconst (pc := 78) (v := 1) hX dX2_open_78 (by decide) ?_
      refine j_goto (pc := 79) (tgt := 83) hX dX2_open_79 (by decide) ?_
      change JW X G H_63 (6 + 2) 83 _ [.int (jb true)]
      refine j_runv (pc := 83) (jr_SN (pc := 83) hX ks_X2_151 (c_X1_checkState _ _ _ true) (by decide) dX2_open_83 rfl rfl (Nat.le_of_ble_eq_true rfl)) (fun H_83 p_83 z_83 => ?_) (fun E q H1 hx _ => absurd hx.2.1 (by decide))
      obtain ⟨rfl, -⟩ := p_83
      first | refine j_aload_n (pc := 86) hX dX2_open_86 rfl rfl ?_ | refine j_aload_nq (pc := 86) hX dX2_open_86 rfl rfl ?_
      refine j_get (pc := 87) hX kg_X2_28 dX2_open_87 (by first | assumption | exact jow.r (by assumption)) (by rfl) ?_
      change JW X G H_83 (4 + 2) 90 _ _
      refine j_new (pc := 90) hX kn_X2_53 2 jw_X4 dX2_open_90 (fun H_90 z_90 e_90 n_90 b_90 => ?_)
      have hoB := hoB.ext e_90
      refine j_dup (pc := 93) hX dX2_open_93 (by first | rfl | exact jrf_cat _) ?_
      refine j_iload_n (pc := 94) hX dX2_open_94 rfl rfl ?_
      refine j_iload_n (pc := 95) hX dX2_open_95 rfl rfl ?_
      refine j_iload_n (pc := 96) hX dX2_open_96 rfl rfl ?_
      refine j_iload (pc := 97) hX dX2_open_97 rfl ?_
      refine j_runv (pc := 99) (jr_I (pc := 99) hX ki_X2_202 (c_X4_init _ _ _ _ (nI shn) (nI lon) (nI hin) (nI wgn) n_90 b_90 hsh) (by decide) dX2_open_99 rfl rfl (Nat.le_of_ble_eq_true rfl)) (fun H_99 p_99 z_99 => ?_) jno_x
      obtain ⟨w1, n1⟩ := p_99
      have e99 := e_90.put w1 (Nat.le_refl _)
      skip
      have h99 := h.ext hC e99
      have hao : bow b H_83.size = 0 := Classical.byContradiction fun z => Nat.lt_irrefl _ (h.O.2.1 _ z).2
      have hne : H_83.size ≠ bg b 5 := hC.ne n1.r h99.P.1.1.r (by decide)
      refine j_start hX fun hK0 => ?_
      change JW X G H_99 (1 + 3) 102 _ _
      refine j_runi (pc := 102) (jr_V (pc := 102) hX kv_X2_59 h99.P.1.1.r (c_J4_add _ _ _ (bg b 5) (bg b 6) h99.P.1 (by simp; omega) H_83.size n1.r kas_6_3 hne) (by decide) dX2_open_102 rfl rfl (Nat.le_of_ble_eq_true rfl)) (fun r_102 H_102 p_102 z_102 => ?_) jno_x
      obtain ⟨rfl, arr', hA5, harr, hF5⟩ := p_102
      skip
      refine j_start hX fun hK5 => ?_
      obtain ⟨hFr, b', q0, q5, -, -, -, hb⟩ := h99.posted hC n1 h.O.2.2 hao hA5 harr hF5 (fun x hx => (hK5.old hx).trans (hK0.old hx).symm)
      have hoB2 := hb.B.1
      rw [q0, q5] at hoB2
      have hs3 := c_J4_size (jl X) G H_102 (bg b 5) arr' hA5
      rw [show ((List.range (s 2)).map (bpo b) ++ [H_83.size]).length = s 2 + 1 by simp] at hs3
      refine j_istore (pc := 105) hX dX2_open_105 (by decide) rfl ?_
      first | refine j_aload_n (pc := 107) hX dX2_open_107 rfl rfl ?_ | refine j_aload_nq (pc := 107) hX dX2_open_107 rfl rfl ?_
      refine j_get (pc := 108) hX kg_X2_28 dX2_open_108 hoB2.r (by rfl) ?_
      refine j_rune (pc := 111) (jr_V (pc := 111) hX kv_X2_118 hA5.1.r (hs3) (by decide) dX2_open_111 rfl rfl (Nat.le_of_ble_eq_true rfl)) ?_ jno_x
      refine j_iconst (pc := 114) (v := 1) hX dX2_open_114 (by decide) ?_
      refine j_isub (pc := 115) hX dX2_open_115 ?_
      exact j_iret hX hQ hr dX2_open_116 ⟨_, rfl, by rw [hD], by rw [hD]; exact nI_pred (s 2), JFr.trans e99.fr hFr, b', q0, by rw [hD]; exact hb⟩
  have s33 : (shI sh || decide (sh = 42)) = true → inI lo 0 100 = true → JW X G H 10 33 [(0, .inr (some (bg b 0))), (1, .inl (.int sh)), (2, .inl (.int lo)), (3, .inl (.int hi)), (4, .inl (.int wg))] [] := by
    intro c1 c2
    refine j_iload_n (pc := 33) hX dX2_open_33 rfl rfl ?_
    refine j_i2l (pc := 34) hX dX2_open_34 rfl ?_
    refine j_lconst (pc := 35) (v := 0) hX dX2_open_35 (by decide) ?_
    refine j_ldc2 (pc := 36) hX q1500 dX2_open_36 ?_
    refine j_rune (pc := 39) (jr_SN (pc := 39) hX ks_X2_181 (c_X1_inR _ _ _ hi 0 50 0 50 (by decide) (by decide)) (by decide) dX2_open_39 rfl rfl (Nat.le_of_ble_eq_true rfl)) ?_ jno_x
    refine j_if_eq (pc := 42) (tgt := 62) hX dX2_open_42 (by decide) (fun c_42 => ?_) (fun c_42 => ?_)
    · rw [jb_z] at c_42
      have fin := t63 (by rw [c_42]; rfl)
      refine j_iconst (pc := 62) (v := 0) hX dX2_open_62 (by decide) ?_
      exact j_lv (by simp [jsb, jget, jval]) fin
    · rw [jb_n] at c_42
      refine j_iload (pc := 45) hX dX2_open_45 rfl ?_
      refine j_i2l (pc := 47) hX dX2_open_47 rfl ?_
      refine j_lconst (pc := 48) (v := 1) hX dX2_open_48 (by decide) ?_
      refine j_ldc2 (pc := 49) hX q1564 dX2_open_49 ?_
      refine j_rune (pc := 52) (jr_SN (pc := 52) hX ks_X2_181 (c_X1_inR _ _ _ wg 1 99 1 99 (by decide) (by decide)) (by decide) dX2_open_52 rfl rfl (Nat.le_of_ble_eq_true rfl)) ?_ jno_x
      refine j_if_eq (pc := 55) (tgt := 62) hX dX2_open_55 (by decide) (fun c_55 => ?_) (fun c_55 => ?_)
      · rw [jb_z] at c_55
        have fin := t63 (by rw [c_42, c_55]; rfl)
        refine j_iconst (pc := 62) (v := 0) hX dX2_open_62 (by decide) ?_
        exact j_lv (by simp [jsb, jget, jval]) fin
      · rw [jb_n] at c_55
        have fin := go c1 c2 (by rw [c_42, c_55]; rfl)
        refine j_iconst (pc := 58) (v := 1) hX dX2_open_58 (by decide) ?_
        refine j_goto (pc := 59) (tgt := 63) hX dX2_open_59 (by decide) ?_
        exact j_lv (by simp [jsb, jget, jval]) fin
  have s21 : (shI sh || decide (sh = 42)) = true → JW X G H 12 21 [(0, .inr (some (bg b 0))), (1, .inl (.int sh)), (2, .inl (.int lo)), (3, .inl (.int hi)), (4, .inl (.int wg))] [] := by
    intro c1
    refine j_iload_n (pc := 21) hX dX2_open_21 rfl rfl ?_
    refine j_i2l (pc := 22) hX dX2_open_22 rfl ?_
    refine j_lconst (pc := 23) (v := 0) hX dX2_open_23 (by decide) ?_
    refine j_ldc2 (pc := 24) hX q1496 dX2_open_24 ?_
    refine j_rune (pc := 27) (jr_SN (pc := 27) hX ks_X2_181 (c_X1_inR _ _ _ lo 0 100 0 100 (by decide) (by decide)) (by decide) dX2_open_27 rfl rfl (Nat.le_of_ble_eq_true rfl)) ?_ jno_x
    skip
    cases c2 : inI lo 0 100 with
    | false => exact j_lv (by simp [jsb]) (t30 c2)
    | true =>
      change JW X G H (10 + 2) 30 _ _
      refine j_runv (pc := 30) (jr_SN (pc := 30) hX ks_X2_148 (c_X1_checkArgument _ _ _ true) (by decide) dX2_open_30 rfl rfl (Nat.le_of_ble_eq_true rfl)) (fun H_30 p_30 z_30 => ?_) (fun E q H1 hx _ => absurd hx.2.1 (by decide))
      obtain ⟨e30, -⟩ := p_30
      subst e30
      exact s33 c1 c2
  have s18 : (shI sh || decide (sh = 42)) = true → JW X G H 14 18 [(0, .inr (some (bg b 0))), (1, .inl (.int sh)), (2, .inl (.int lo)), (3, .inl (.int hi)), (4, .inl (.int wg))] [.int (jb true)] := by
    intro c1
    change JW X G H (12 + 2) 18 _ _
    refine j_runv (pc := 18) (jr_SN (pc := 18) hX ks_X2_148 (c_X1_checkArgument _ _ _ true) (by decide) dX2_open_18 rfl rfl (Nat.le_of_ble_eq_true rfl)) (fun H_18 p_18 z_18 => ?_) (fun E q H1 hx _ => absurd hx.2.1 (by decide))
    obtain ⟨e18, -⟩ := p_18
    subst e18
    exact s21 c1
  refine j_iload_n (pc := 0) hX dX2_open_0 rfl rfl ?_
  refine j_rune (pc := 1) (jr_SN (pc := 1) hX ks_X2_175 (c_X1_isShape _ _ _ sh) (by decide) dX2_open_1 rfl rfl (Nat.le_of_ble_eq_true rfl)) ?_ jno_x
  refine j_if_ne (pc := 4) (tgt := 13) hX dX2_open_4 (by decide) (fun c_4 => ?_) (fun c_4 => ?_)
  · rw [jb_n] at c_4
    have fin := s18 (by rw [c_4]; rfl)
    refine j_iconst (pc := 13) (v := 1) hX dX2_open_13 (by decide) ?_
    refine j_goto (pc := 14) (tgt := 18) hX dX2_open_14 (by decide) ?_
    exact j_lv (by simp [jsb, jget, jval]) fin
  · rw [jb_z] at c_4
    refine j_iload_n (pc := 7) hX dX2_open_7 rfl rfl ?_
    refine j_bipush (pc := 8) (v := 42) hX dX2_open_8 (by decide) ?_
    refine j_icmp_ne (pc := 10) (tgt := 17) hX dX2_open_10 (by decide) (fun c_10 => ?_) (fun c_10 => ?_)
    · have fin := t18 (by rw [c_4, decide_eq_false c_10]; rfl)
      refine j_iconst (pc := 17) (v := 0) hX dX2_open_17 (by decide) ?_
      exact j_lv (by simp [jsb, jget, jval]) fin
    · have fin := s18 (by rw [c_4, decide_eq_true c_10]; rfl)
      refine j_iconst (pc := 13) (v := 1) hX dX2_open_13 (by decide) ?_
      refine j_goto (pc := 14) (tgt := 18) hX dX2_open_14 (by decide) ?_
      exact j_lv (by simp [jsb, jget, jval]) fin
