/-! one more applicant -/
set_option maxRecDepth 100000
/-- a row with slot k written anew -/
def putS (s : Nat → Nat) (k : Nat) (v : Nat → Nat) : Nat → Nat := fun j => if 3 + 6 * k ≤ j ∧ j < 9 + 6 * k then v (j - (3 + 6 * k)) else s j
section
variable {s v : Nat → Nat} {k : Nat}
theorem putS_at {w : Nat} (hw : w < 6) : putS s k v (3 + 6 * k + w) = v w := by
  unfold putS; rw [if_pos (by omega)]; congr 1; omega
theorem putS_ne {j w : Nat} (hw : w < 6) (hj : j ≠ k) : putS s k v (3 + 6 * j + w) = s (3 + 6 * j + w) := by
  unfold putS; rw [if_neg (by omega)]
theorem putS_lo {j : Nat} (hj : j < 3) : putS s k v j = s j := by unfold putS; rw [if_neg (by omega)]
theorem putS_hi {j : Nat} (hk : k < 10) (hj : 63 ≤ j) : putS s k v j = s j := by unfold putS; rw [if_neg (by omega)]
theorem putS_fill (hk : k < 10) (j : Nat) : fillN (putS s k v) j = fillN s j := fillN_congr (putS_lo (by omega)) (fun p _ => putS_hi hk (by omega)) j
theorem putS_id (j : Nat) : aId (putS s k v) j = if j = k then v 0 else aId s j := by
  split
  · next e => subst e; exact putS_at (w := 0) (by omega)
  · next e => exact putS_ne (w := 0) (by omega) e
theorem putS_gv (j : Nat) : aGv (putS s k v) j = if j = k then v 5 else aGv s j := by
  split
  · next e => subst e; exact putS_at (w := 5) (by omega)
  · next e => exact putS_ne (w := 5) (by omega) e
end
theorem ix_small : ∀ m, m < 31 → ixN 32 (hsh (nI (m + 1) - 1)) = m := by decide +kernel
/-- few keys that are small ids are in one bin -/
theorem bin_small {L : List Int32} {c : Nat} (hn : L.Nodup) (h : ∀ x ∈ L, (∃ m, m < 31 ∧ x = nI (m + 1) - 1) ∧ ixN 32 (hK kdI x) = c) : L.length ≤ 7 := by
  match L, hn, h with
  | [], _, _ => simp
  | [_], _, _ => simp
  | x :: y :: t, hn, h =>
    exfalso
    obtain ⟨⟨m, hm, rfl⟩, e1⟩ := h x List.mem_cons_self
    obtain ⟨⟨n, hn2, rfl⟩, e2⟩ := h y (List.mem_cons_of_mem _ List.mem_cons_self)
    have a1 : ixN 32 (hK kdI (nI (m + 1) - 1)) = m := ix_small m hm
    have a2 : ixN 32 (hK kdI (nI (n + 1) - 1)) = n := ix_small n hn2
    have : m = n := by rw [← a1, ← a2, e1, e2]
    subst this
    rw [List.nodup_cons] at hn
    exact hn.1 List.mem_cons_self
theorem len_I {b : BG} {s : Nat → Nat} {E : List (Int32 × Nat)} (hS : SlL s (bL b)) (hB : Bs s) (hn : (E.map (·.1)).Nodup) (h : bMI b s E) : E.length = (bL b).length := by
  have hn2 : ((bL b).map (idI s)).Nodup := by
    unfold List.Nodup
    rw [List.pairwise_map]
    refine List.Pairwise.imp_of_mem ?_ hS.nodup
    intro i j hi hj hne e
    exact hne (idI_inj hS hB hi hj e)
  have hp : (E.map (·.1)).Perm ((bL b).map (idI s)) := (List.perm_ext_iff_of_nodup hn hn2).mpr (fun x => by
    rw [List.mem_map, List.mem_map]
    constructor
    · rintro ⟨⟨y, w⟩, he, rfl⟩
      obtain ⟨i, hi, e, -⟩ := (h y w).mp he
      exact ⟨i, hi, e.symm⟩
    · rintro ⟨i, hi, rfl⟩
      exact ⟨(idI s i, bap b i), (h _ _).mpr ⟨i, hi, rfl, rfl⟩, rfl⟩)
  have := hp.length_eq
  rwa [List.length_map, List.length_map] at this
theorem c_X2_put (l : Launch) (G : JG) (H : Heap) {n0 : Nat} {b : BG} {s : Nat → Nat} (h : jbd G H n0 b s) (hB : Bs s) (a k : Nat) (v : Nat → Nat) (hk : k < 10) (hku : aId s k = 0) (ha : jow G H a 2 (oApp (nI (v 0) - 1) (nI (v 1)) (nI (v 2)) (nI (v 3)) (nI (v 4)) none)) (hag : n0 ≤ a) (hao : bow b a = 0) (he : 0 < v 0) (he2 : ∀ j ∈ bL b, aId s j < v 0) (he3 : v 0 ≤ 31) (hv5 : v 5 = 0) (hlen : (bL b).length < 10) (hfl : ∀ p, p < s 2 → pFl s p ≠ k + 1) (hgv : ∀ j ∈ bL b, (aGv s j).testBit k = false) : JMet l yX2_put (ws_ yX2_put cX2_put 4 (some (.object "CloudInterviews$Applicant"))) 8 25 G H [.ref (bg b 0), .ref a] (jpa (fun r H1 => r = a ∧ JFr (fun x => n0 ≤ x) H H1 ∧ ∃ b', bg b' 0 = bg b 0 ∧ bL b' = bL b ++ [k] ∧ bap b' = jup (bap b) k a ∧ bpo b' = bpo b ∧ jbd G H1 n0 b' (putS s k v))) (jno) := by
  refine JMet.of [(0, .inr (some (bg b 0))), (1, .inr (some a))] (by decide) (Nat.le_of_ble_eq_true rfl) rfl (fun X hl hX hQ hEx hr hnm hH => ?_)
  subst hl
  have hC := hX.C
  have hoB := h.B.1
  have hA := h.A
  have haq : a ≠ bg b 2 := fun e => by have := hA.2.1; rw [← e, hao] at this; cases this
  have hle : ((bL b).map (bap b)).length < 10 := by simpa using hlen
  have hag2 : (gs G).heap.size ≤ a := Nat.le_trans h.O.1 hag
  have hga := hC.gC0
  have haq3 : a ≠ bg b 3 := fun e => by
    rcases hA.2.2 with z | z
    · rw [← e, hao] at z; cases z
    · rw [← e] at z; omega
  have ne : ∀ w x, w ≠ 0 → w ≠ 4 → bow b x = w → x ≠ bg b 2 ∧ x ≠ bg b 3 := fun w x w0 w4 hx => ⟨fun e => by subst e; exact w4 (hx.symm.trans hA.2.1), fun e => by
    rcases hA.2.2 with z | z
    · subst e; exact w4 (hx.symm.trans z)
    · have h1 := (h.O.2.1 x (by rw [hx]; exact w0)).1
      have h2 := h.O.1
      rw [e, z] at h1
      omega⟩
  refine j_start hX fun hK0 => ?_
  first | refine j_aload_n (pc := 0) hX dX2_put_0 rfl rfl ?_ | refine j_aload_nq (pc := 0) hX dX2_put_0 rfl rfl ?_
  refine j_get (pc := 1) hX kg_X2_21 dX2_put_1 (by first | assumption | exact jow.r (by assumption)) (by rfl) ?_
  first | refine j_aload_n (pc := 4) hX dX2_put_4 rfl rfl ?_ | refine j_aload_nq (pc := 4) hX dX2_put_4 rfl rfl ?_
  change JW X G H (22 + 3) 5 _ _
  refine j_runi (pc := 5) (jr_V (pc := 5) hX kv_X2_59 hA.1.1.r (c_J4_add _ _ _ (bg b 2) (bg b 3) hA.1 hle a ha.r kas_6_2 haq) (by decide) dX2_put_5 rfl rfl (Nat.le_of_ble_eq_true rfl)) (fun r_5 H_5 p_5 z_5 => ?_) jno_x
  obtain ⟨rfl, arr', hA5, harr, hF5⟩ := p_5
  have ha5 := ha.fr hF5 (fun z => z.elim haq haq3)
  have hoB5 := hoB.fr hF5 (fun z => z.elim (ne 1 _ (by decide) (by decide) h.B.2).1 (ne 1 _ (by decide) (by decide) h.B.2).2)
  refine j_start hX fun hK5 => ?_
  refine j_istore_n (pc := 8) hX dX2_put_8 rfl (by decide) rfl ?_
  first | refine j_aload_n (pc := 9) hX dX2_put_9 rfl rfl ?_ | refine j_aload_nq (pc := 9) hX dX2_put_9 rfl rfl ?_
  refine j_get (pc := 10) hX kg_X2_12 dX2_put_10 (by first | assumption | exact jow.r (by assumption)) (by rfl) ?_
  first | refine j_aload_n (pc := 13) hX dX2_put_13 rfl rfl ?_ | refine j_aload_nq (pc := 13) hX dX2_put_13 rfl rfl ?_
  refine j_get (pc := 14) hX kg_X2_91 dX2_put_14 ha5.r (by rfl) ?_
  change JW X G H_5 (21 + 1) 17 _ _
  refine j_runa (pc := 17) (jr_S (pc := 17) hX ks_X2_102 (c_J19_valueOf _ _ _ (nI (v 0) - 1)) (by decide) dX2_put_17 rfl rfl (Nat.le_of_ble_eq_true rfl)) (fun r_17 H_17 p_17 z_17 => ?_) jno_x
  obtain ⟨hin17, e17, hw17⟩ := p_17
  first | refine j_aload_n (pc := 20) hX dX2_put_20 rfl rfl ?_ | refine j_aload_nq (pc := 20) hX dX2_put_20 rfl rfl ?_
  skip
  have hold : ∀ x, x < (gs G).heap.size → H_5[x]? = H[x]? := fun x hx => (hK5.old hx).trans (hK0.old hx).symm
  have k5 : ∀ w x, w ≠ 0 → w ≠ 4 → bow b x = w → H_5[x]? = H[x]? := fun w x w0 w4 hx => hF5.2 x (h.O.2.1 x (by rw [hx]; exact w0)).2 (fun z => by have := ne w x w0 w4 hx; rcases z with z | z; exact this.1 z; exact this.2 z)
  obtain ⟨E, hE, hbI⟩ := h.I
  have hE5 : jmA kdI G H_5 (bg b 1) (fpB b 2) (kpI G b) E := hE.keep (fun x hx => by
    rcases hx with hx | hx | hx
    · exact k5 2 x (by decide) (by decide) hx
    · exact hold x hx
    · exact k5 8 x (by decide) (by decide) hx)
  have hgs5 : (gs G).heap.size ≤ H_5.size := Nat.le_trans (Nat.le_trans h.O.1 h.O.2.2) hF5.1
  have hlt5 : ∀ x, bow b x ≠ 0 → x < H_5.size := fun x hx => Nat.lt_of_lt_of_le (h.O.2.1 x hx).2 hF5.1
  have hE17 : jmA kdI G H_17 (bg b 1) (fpB b 2) (fun x => kpI G b x ∨ (H_5.size ≤ x ∧ x < H_17.size)) E := (hE5.keep (fun x hx => e17.2 x (by
    rcases hx with hx | hx | hx
    · exact hlt5 x (by rw [show bow b x = 2 from hx]; decide)
    · omega
    · exact hlt5 x (by rw [show bow b x = 8 from hx]; decide)))).mono (fun _ z => z) (fun _ z => Or.inl z)
  have hKp : kpI G b r_17 ∨ (H_5.size ≤ r_17 ∧ r_17 < H_17.size) := by
    rcases hw17 with z | z
    · exact Or.inl (Or.inl z)
    · exact Or.inr ⟨z, job.lt hin17⟩
  have idm : ∀ j ∈ bL b, ∃ m, m < 31 ∧ aId s j = m + 1 := fun j hj => by
    have h1 := (h.S.lt hj).2
    have h2 := he2 j hj
    exact ⟨aId s j - 1, by omega, by omega⟩
  have hEl : E.length = (bL b).length := len_I h.S hB hE.nd hbI
  have hput := c_J1_putIA (jl X) G H_17 (bg b 1) r_17 a (nI (v 0) - 1) hE17 hin17 hKp (fun w hw => by
    obtain ⟨i, hi, e1, -⟩ := (hbI _ _).mp hw
    have h1 := he2 i hi
    obtain ⟨m, hm, em⟩ := idm i hi
    unfold idI at e1
    obtain ⟨n, hn⟩ : ∃ n, v 0 = n + 1 := ⟨v 0 - 1, by omega⟩
    rw [em, hn, nI_pred, nI_pred, nI_eq (by omega) (by omega)] at e1
    omega) (by omega) (fun L hn hL => bin_small (c := ixN 32 (hK kdI (nI (v 0) - 1))) hn (fun x hx => by
      obtain ⟨⟨w, hw⟩, e⟩ := hL x hx
      obtain ⟨i, hi, e1, -⟩ := (hbI _ _).mp hw
      obtain ⟨m, hm, em⟩ := idm i hi
      refine ⟨⟨m, hm, ?_⟩, e⟩
      rw [e1]; unfold idI; rw [em]))
  change JW X G H_17 (0 + 21) 21 _ _
  refine j_runq (pc := 21) (jr_V (pc := 21) hX kv_X2_108 hE17.ho.choose_spec.r (hput) (by decide) dX2_put_21 rfl rfl (Nat.le_of_ble_eq_true rfl)) (fun r_21 H_21 p_21 z_21 => ?_) jno_x
  obtain ⟨rfl, hE21, hF21⟩ := p_21
  refine j_castN (pc := 24) hX dX2_put_24 ?_
  first | refine j_astore_n (pc := 27) hX dX2_put_27 rfl (by decide) rfl ?_ | refine j_astore_nN (pc := 27) hX dX2_put_27 rfl (by decide) rfl ?_ | refine j_astore_nq (pc := 27) hX dX2_put_27 rfl (by decide) rfl ?_
  skip
  have hkn : ∀ j ∈ bL b, j ≠ k := fun j hj e => by subst e; have := (h.S.lt hj).2; omega
  have z5 := hF5.1
  have z17 := e17.1
  have z21 := hF21.1
  have n02 := h.O.2.2
  have f21 : ∀ x, x < H.size → bow b x ≠ 2 → x ≠ bg b 2 → x ≠ bg b 3 → H_21[x]? = H[x]? := fun x hl h2 a1 a2 => ((hF21.2 x (by omega) h2).trans (e17.2 x (by omega))).trans (hF5.2 x hl (fun z => z.elim a1 a2))
  have kw : ∀ w x, w ≠ 0 → w ≠ 4 → w ≠ 2 → bow b x = w → H_21[x]? = H[x]? := fun w x w0 w4 w2 hx => f21 x (h.O.2.1 x (by rw [hx]; exact w0)).2 (by rw [hx]; exact w2) (ne w x w0 w4 hx).1 (ne w x w0 w4 hx).2
  have old0 : ∀ x, x < (gs G).heap.size → bow b x = 0 := fun x hx => Classical.byContradiction fun z => by have h1 := (h.O.2.1 x z).1; have h2 := h.O.1; omega
  have hold21 : ∀ x, x < (gs G).heap.size → H_21[x]? = H[x]? := fun x hx => ((hF21.2 x (by omega) (by show ¬ bow b x = 2; rw [old0 x hx]; decide)).trans (e17.2 x (by omega))).trans (hold x hx)
  have hal := ha.lt
  obtain ⟨o', ho'⟩ : ∃ o' : Nat → Nat, o' = fun x => if x = a then 6 else if H.size ≤ x ∧ x < H_5.size then 4 else if H_5.size ≤ x ∧ x < H_17.size then 8 else if H_17.size ≤ x ∧ x < H_21.size then 2 else bow b x := ⟨_, rfl⟩
  have o_a : o' a = 6 := by rw [ho']; exact if_pos rfl
  have o_old : ∀ x, bow b x ≠ 0 → o' x = bow b x := fun x hx => by
    have hl := (h.O.2.1 x hx).2
    have hxa : x ≠ a := fun e => by subst e; exact hx hao
    rw [ho']
    show (if x = a then 6 else _) = _
    rw [if_neg hxa, if_neg (by omega), if_neg (by omega), if_neg (by omega)]
  have o_w : ∀ w x, w ≠ 0 → bow b x = w → o' x = w := fun w x w0 hx => (o_old x (by rw [hx]; exact w0)).trans hx
  have o_5 : ∀ x, H.size ≤ x → x < H_5.size → o' x = 4 := fun x h1 h2 => by
    rw [ho']; show (if x = a then 6 else _) = _; rw [if_neg (by omega), if_pos ⟨h1, h2⟩]
  have o_17 : ∀ x, H_5.size ≤ x → x < H_17.size → o' x = 8 := fun x h1 h2 => by
    rw [ho']; show (if x = a then 6 else _) = _; rw [if_neg (by omega), if_neg (by omega), if_pos ⟨h1, h2⟩]
  have o_21 : ∀ x, H_17.size ≤ x → x < H_21.size → o' x = 2 := fun x h1 h2 => by
    rw [ho']; show (if x = a then 6 else _) = _; rw [if_neg (by omega), if_neg (by omega), if_neg (by omega), if_pos ⟨h1, h2⟩]
  have o_lt : ∀ x, o' x ≠ 0 → n0 ≤ x ∧ x < H_21.size := fun x hx => by
    by_cases hb : bow b x = 0
    · by_cases e : x = a
      · subst e; exact ⟨hag, by omega⟩
      · by_cases hl : x < H.size
        · exfalso; apply hx; rw [ho']; show (if x = a then 6 else _) = _
          rw [if_neg e, if_neg (by omega), if_neg (by omega), if_neg (by omega)]; exact hb
        · by_cases hu : x < H_21.size
          · exact ⟨by omega, hu⟩
          · exfalso; apply hx; rw [ho']; show (if x = a then 6 else _) = _
            rw [if_neg e, if_neg (by omega), if_neg (by omega), if_neg (by omega)]; exact hb
    · have := h.O.2.1 x hb; exact ⟨this.1, by omega⟩
  have s2 : putS s k v 2 = s 2 := putS_lo (by omega)
  have ap_k : jup (bap b) k a k = a := jup_same
  have ap_j : ∀ j ∈ bL b, jup (bap b) k a j = bap b j := fun j hj => jup_ne (hkn j hj)
  have id_j : ∀ j ∈ bL b, idI (putS s k v) j = idI s j := fun j hj => by unfold idI; rw [putS_id, if_neg (hkn j hj)]
  have id_k : idI (putS s k v) k = nI (v 0) - 1 := by unfold idI; rw [putS_id, if_pos rfl]
  have harr' : o' arr' = 4 ∨ arr' = gC G 0 := by
    rcases harr with z | z
    · rw [z]; exact hA.2.2.imp (o_w 4 _ (by decide)) (fun q => q)
    · rcases hA5.2.2.2 with ⟨-, q⟩ | ⟨-, -, q⟩
      · exact Or.inr q
      · exact Or.inl (o_5 _ z q.lt)
  have hA21 : alA G H_21 (bg b 2) arr' (bmc b 0 + 1) ((bL b).map (bap b) ++ [a]) := by
    have k1 : ∀ x, x < H_5.size → bow b x ≠ 2 → H_21[x]? = H_5[x]? := fun x hl h2 => (hF21.2 x (by omega) h2).trans (e17.2 x hl)
    refine hA5.kept (k1 _ hA5.lt (by rw [hA.2.1]; decide)) (fun hg => ?_)
    rcases hA5.2.2.2 with ⟨-, q⟩ | ⟨-, -, q⟩
    · rw [q] at hg; omega
    · refine k1 _ q.lt (fun z => ?_)
      rcases harr with y | y
      · rcases hA.2.2 with u | u
        · rw [← y, z] at u; cases u
        · rw [y, u] at hg; omega
      · have := (h.O.2.1 arr' (by rw [z]; decide)).2; omega
  have hmap : (bL b ++ [k]).map (jup (bap b) k a) = (bL b).map (bap b) ++ [a] := by
    rw [List.map_append, List.map_singleton, ap_k]
    congr 1
    exact List.map_congr_left ap_j
  have ha21 : H_21[a]? = H[a]? := f21 a hal (by rw [hao]; decide) haq haq3
  have hjbd : jbd G H_21 n0 (jup (bg b) 3 arr', jup (bap b) k a, bpo b, o', bL b ++ [k], jup (bmc b) 0 (bmc b 0 + 1)) (putS s k v) := by
    refine ⟨⟨h.O.1, o_lt, by omega⟩, ⟨fun j => ?_, ?_⟩, ⟨?_, o_w 1 _ (by decide) h.B.2⟩, ?_, ?_, ⟨?_, o_w 4 _ (by decide) hA.2.1, harr'⟩, ?_, ⟨fun j hj => ?_, fun i hi j hj e => ?_⟩, ⟨fun p hp => ?_, fun p q hp hq e => ?_⟩⟩
    · show j ∈ bL b ++ [k] ↔ _
      rw [List.mem_append, List.mem_singleton, h.S.1 j, putS_id]
      constructor
      · rintro (⟨q1, q2⟩ | rfl)
        · refine ⟨q1, ?_⟩; split
          · exact he
          · exact q2
        · exact ⟨hk, by rw [if_pos rfl]; exact he⟩
      · rintro ⟨q1, q2⟩
        by_cases e : j = k
        · exact Or.inr e
        · rw [if_neg e] at q2; exact Or.inl ⟨q1, q2⟩
    · show (bL b ++ [k]).Pairwise _
      rw [List.pairwise_append]
      refine ⟨List.Pairwise.imp_of_mem ?_ h.S.2, by simp, fun i hi j hj => ?_⟩
      · intro i j hi hj hlt
        rw [putS_id, putS_id, if_neg (hkn i hi), if_neg (hkn j hj)]; exact hlt
      · rw [List.mem_singleton] at hj
        subst hj
        rw [putS_id, putS_id, if_neg (hkn i hi), if_pos rfl]; exact he2 i hi
    · show jow G H_21 (bg b 0) 1 [.ref (bg b 1), .ref (bg b 2), .ref (bg b 4), .ref (bg b 5), .int (nI (putS s k v 0)), .int (nI (putS s k v 1))]
      rw [putS_lo (by omega), putS_lo (by omega)]
      exact h.B.1.kept (kw 1 _ (by decide) (by decide) (by decide) h.B.2)
    · refine ⟨_, hE21.mono (F2 := fun x => o' x = 2) (Kp2 := fun x => x < (gs G).heap.size ∨ o' x = 8) (fun x hx => ?_) (fun x hx => ?_), fun y w => ?_⟩
      · rcases hx with hx | hx
        · exact o_w 2 x (by decide) hx
        · exact o_21 x hx.1 hx.2
      · rcases hx with (hx | hx) | hx
        · exact Or.inl hx
        · exact Or.inr (o_w 8 x (by decide) hx)
        · exact Or.inr (o_17 x hx.1 hx.2)
      · show (y, w) ∈ _ ↔ ∃ i ∈ bL b ++ [k], y = idI (putS s k v) i ∧ w = jup (bap b) k a i
        rw [List.mem_cons, hbI]
        constructor
        · rintro (e | ⟨i, hi, rfl, rfl⟩)
          · cases e; exact ⟨k, List.mem_append_right _ List.mem_cons_self, id_k.symm, ap_k.symm⟩
          · exact ⟨i, List.mem_append_left _ hi, (id_j i hi).symm, (ap_j i hi).symm⟩
        · rintro ⟨i, hi, rfl, rfl⟩
          rcases List.mem_append.mp hi with hi | hi
          · exact Or.inr ⟨i, hi, id_j i hi, ap_j i hi⟩
          · rw [List.mem_singleton] at hi; subst hi
            exact Or.inl (by rw [id_k, ap_k])
    · obtain ⟨ER, r1, r2⟩ := h.R
      refine ⟨ER, (r1.keep (fun x hx => hx.elim (kw 3 x (by decide) (by decide) (by decide)) (kw 8 x (by decide) (by decide) (by decide)))).mono (F2 := fun x => o' x = 3) (Kp2 := fun x => o' x = 8) (fun x hx => o_w 3 x (by decide) hx) (fun x hx => o_w 8 x (by decide) hx), fun y w => ?_⟩
      show (y, w) ∈ ER ↔ w = gC G 2 ∧ ∃ i ∈ bL b ++ [k], ∃ j ∈ bL b ++ [k], y = (idI (putS s k v) i, idI (putS s k v) j) ∧ (aGv (putS s k v) j).testBit i = true
      rw [r2]
      constructor
      · rintro ⟨hw, i, hi, j, hj, rfl, hb⟩
        exact ⟨hw, i, List.mem_append_left _ hi, j, List.mem_append_left _ hj, by rw [id_j i hi, id_j j hj], by rw [putS_gv, if_neg (hkn j hj)]; exact hb⟩
      · rintro ⟨hw, i, hi, j, hj, rfl, hb⟩
        rw [putS_gv] at hb
        split at hb
        · rw [hv5, Nat.zero_testBit] at hb; cases hb
        · next hjk =>
          have hj2 : j ∈ bL b := (List.mem_append.mp hj).resolve_right (fun z => hjk (List.mem_singleton.mp z))
          rcases List.mem_append.mp hi with hi | hi
          · exact ⟨hw, i, hi, j, hj2, by rw [id_j i hi, id_j j hj2], hb⟩
          · rw [List.mem_singleton] at hi; subst hi
            rw [hgv j hj2] at hb; cases hb
    · show alA G H_21 (bg b 2) arr' (bmc b 0 + 1) ((bL b ++ [k]).map (jup (bap b) k a))
      rw [hmap]; exact hA21
    · rw [s2]
      have := h.P.keep (H1 := H_21) hC (fun x => kw 5 x (by decide) (by decide) (by decide))
      exact ⟨this.1, o_w 5 _ (by decide) this.2.1, this.2.2.imp (o_w 5 _ (by decide)) (fun z => z)⟩
    · show jow G H_21 (jup (bap b) k a j) 2 (oApp (idI (putS s k v) j) (nI (putS s k v (3 + 6 * j + 1))) (nI (putS s k v (3 + 6 * j + 2))) (nI (putS s k v (3 + 6 * j + 3))) (nI (putS s k v (3 + 6 * j + 4))) ((fillN (putS s k v) j).map (bpo b))) ∧ o' (jup (bap b) k a j) = 6
      rw [putS_fill hk]
      rcases List.mem_append.mp hj with hj | hj
      · rw [ap_j j hj, id_j j hj, putS_ne (by omega) (hkn j hj), putS_ne (by omega) (hkn j hj), putS_ne (by omega) (hkn j hj), putS_ne (by omega) (hkn j hj)]
        have := h.X.1 j hj
        exact ⟨this.1.kept (kw 6 _ (by decide) (by decide) (by decide) this.2), o_w 6 _ (by decide) this.2⟩
      · rw [List.mem_singleton] at hj; subst hj
        rw [ap_k, id_k, putS_at (by omega), putS_at (by omega), putS_at (by omega), putS_at (by omega), fillN_no hfl]
        exact ⟨ha.kept ha21, o_a⟩
    · have hne : ∀ j ∈ bL b, bap b j ≠ a := fun j hj e => by have := (h.X.1 j hj).2; rw [e, hao] at this; cases this
      rcases List.mem_append.mp hi with hi | hi <;> rcases List.mem_append.mp hj with hj | hj
      · exact h.X.2 i hi j hj (by rw [← ap_j i hi, ← ap_j j hj]; exact e)
      · have e2 : jup (bap b) k a i = jup (bap b) k a k := Eq.trans e (congrArg (jup (bap b) k a) (List.mem_singleton.mp hj))
        exact absurd ((ap_j i hi).symm.trans (e2.trans ap_k)) (hne i hi)
      · have e2 : jup (bap b) k a k = jup (bap b) k a j := Eq.trans (congrArg (jup (bap b) k a) (List.mem_singleton.mp hi)).symm e
        exact absurd ((ap_j j hj).symm.trans (e2.symm.trans ap_k)) (hne j hj)
      · rw [List.mem_singleton] at hi hj; rw [hi, hj]
    · rw [s2] at hp
      have hw : ∀ w, putS s k v (63 + 5 * p + w) = s (63 + 5 * p + w) := fun w => putS_hi hk (by omega)
      show jow G H_21 (bpo b p) 3 (oPost (nI (putS s k v (63 + 5 * p + 0))) (nI (putS s k v (63 + 5 * p + 1))) (nI (putS s k v (63 + 5 * p + 2))) (nI (putS s k v (63 + 5 * p + 3))) (if putS s k v (63 + 5 * p + 4) = 0 then none else some (jup (bap b) k a (putS s k v (63 + 5 * p + 4) - 1)))) ∧ o' (bpo b p) = 7
      rw [hw, hw, hw, hw, hw]
      have hh : (if pFl s p = 0 then none else some (jup (bap b) k a (pFl s p - 1))) = hldN b s p := by
        unfold hldN
        split
        · rfl
        · rw [jup_ne (fun z => hfl p hp (by omega))]
      have := h.Y.1 p hp
      have h3 := this.1.kept (kw 7 _ (by decide) (by decide) (by decide) this.2)
      unfold posV at h3
      rw [← hh] at h3
      exact ⟨h3, o_w 7 _ (by decide) this.2⟩
    · rw [s2] at hp hq
      exact h.Y.2 p q hp hq e
  have hFr : JFr (fun x => n0 ≤ x) H H_21 := ⟨by omega, fun x hl hx => by
    have hb0 : bow b x = 0 := Classical.byContradiction fun z => hx (h.O.2.1 x z).1
    by_cases hg : x < (gs G).heap.size
    · exact hold21 x hg
    · exact f21 x hl (by rw [hb0]; decide) (fun e => by rw [e, hA.2.1] at hb0; cases hb0) (fun e => by
        rcases hA.2.2 with z | z
        · rw [e, z] at hb0; cases hb0
        · rw [e, z] at hg; omega)⟩
  first | refine j_aload_n (pc := 28) hX dX2_put_28 rfl rfl ?_ | refine j_aload_nq (pc := 28) hX dX2_put_28 rfl rfl ?_
  first | exact j_aret hX hQ hr (by first | exact Or.inl ⟨_, rfl⟩ | exact Or.inr ⟨_, rfl⟩) dX2_put_29 ⟨_, rfl, rfl, hFr, (jup (bg b) 3 arr', jup (bap b) k a, bpo b, o', bL b ++ [k], jup (bmc b) 0 (bmc b 0 + 1)), rfl, rfl, rfl, rfl, hjbd⟩ | exact j_aretN hX hQ hr (by first | exact Or.inl ⟨_, rfl⟩ | exact Or.inr ⟨_, rfl⟩) dX2_put_29 ⟨_, rfl, rfl, hFr, (jup (bg b) 3 arr', jup (bap b) k a, bpo b, o', bL b ++ [k], jup (bmc b) 0 (bmc b 0 + 1)), rfl, rfl, rfl, rfl, hjbd⟩ | exact j_aretq hX hQ hr (by first | exact Or.inl ⟨_, rfl⟩ | exact Or.inr ⟨_, rfl⟩) dX2_put_29 ⟨_, rfl, rfl, hFr, (jup (bg b) 3 arr', jup (bap b) k a, bpo b, o', bL b ++ [k], jup (bmc b) 0 (bmc b 0 + 1)), rfl, rfl, rfl, rfl, hjbd⟩
