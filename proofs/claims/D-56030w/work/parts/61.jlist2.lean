/-! lists: what is put in -/
set_option maxRecDepth 100000
theorem jup_snoc {E : List Nat} {x : Nat} (j : Nat) : jup (fun j => E[j]?) E.length (some x) j = (E ++ [x])[j]? := by
  unfold jup
  by_cases e : j = E.length
  · rw [if_pos e, e]; simp
  · rw [if_neg e]
    by_cases h : j < E.length
    · rw [List.getElem?_append_left h]
    · show E[j]? = (E ++ [x])[j]?
      rw [List.getElem?_eq_none (by omega), List.getElem?_eq_none (by rw [List.length_append]; simp; omega)]
theorem c_J4_grow_2 (l : Launch) (G : JG) (H : Heap) (q : Nat) {mc : Int32} (h : alA G H q (gC G 0) mc []) : JMet l yJ4_grow_2 (ws_ yJ4_grow_2 cJ4_grow_2 4 (some (.array (.object "java/lang/Object")))) 1 3 G H [.ref q, .int (nI 1)] (jpa (fun r H1 => r = H.size ∧ JFr (fun a => a = q) H H1 ∧ jow G H1 q 11 [.int mc, .ref H.size, .int (nI 0)] ∧ jaw G H1 H.size 6 10 (fun _ => va_rf none))) (jno) := by
  refine JMet.of [(0, .inr (some q)), (1, .inl (.int (nI 1)))] (by decide) (Nat.le_of_ble_eq_true rfl) rfl (fun X hl hX hQ hEx hr hnm hH => ?_)
  subst hl
  obtain ⟨ho, hq, -⟩ := h
  have z := hX.C.emp
  have hlt := ho.lt
  refine j_start hX fun hK => ?_
  have he := hK.emp
  first | refine j_aload_n (pc := 0) hX dJ4_grow_2_0 rfl rfl ?_ | refine j_aload_nq (pc := 0) hX dJ4_grow_2_0 rfl rfl ?_
  refine j_get (pc := 1) hX kg_J4_9 dJ4_grow_2_1 (by first | assumption | exact jow.r (by assumption)) (by rfl) ?_
  refine j_alen (pc := 4) hX dJ4_grow_2_4 he ?_
  refine j_istore_n (pc := 5) hX dJ4_grow_2_5 rfl (by decide) rfl ?_
  refine j_iload_n (pc := 6) hX dJ4_grow_2_6 rfl rfl ?_
  refine j_if_gt (pc := 7) (tgt := 20) hX dJ4_grow_2_7 (by decide) (fun c_7 => ?_) (fun c_7 => ?_)
  · exact absurd c_7 (by decide)
  first | refine j_aload_n (pc := 10) hX dJ4_grow_2_10 rfl rfl ?_ | refine j_aload_nq (pc := 10) hX dJ4_grow_2_10 rfl rfl ?_
  refine j_get (pc := 11) hX kg_J4_9 dJ4_grow_2_11 (by first | assumption | exact jow.r (by assumption)) (by rfl) ?_
  refine j_gets (pc := 14) hX kst_J4_39 z dJ4_grow_2_14 ?_
  first | refine j_acmp_eq (pc := 17) (rx := (some _)) (ry := (some _)) (tgt := 45) hX dJ4_grow_2_17 (by decide) (fun c_17 => ?_) (fun c_17 => ?_) | refine j_acmp_eq (pc := 17) (rx := (some _)) (ry := none) (tgt := 45) hX dJ4_grow_2_17 (by decide) (fun c_17 => ?_) (fun c_17 => ?_) | refine j_acmp_eq (pc := 17) (rx := (some _)) (ry := _) (tgt := 45) hX dJ4_grow_2_17 (by decide) (fun c_17 => ?_) (fun c_17 => ?_) | refine j_acmp_eq (pc := 17) (rx := none) (ry := (some _)) (tgt := 45) hX dJ4_grow_2_17 (by decide) (fun c_17 => ?_) (fun c_17 => ?_) | refine j_acmp_eq (pc := 17) (rx := none) (ry := none) (tgt := 45) hX dJ4_grow_2_17 (by decide) (fun c_17 => ?_) (fun c_17 => ?_) | refine j_acmp_eq (pc := 17) (rx := none) (ry := _) (tgt := 45) hX dJ4_grow_2_17 (by decide) (fun c_17 => ?_) (fun c_17 => ?_) | refine j_acmp_eq (pc := 17) (rx := _) (ry := (some _)) (tgt := 45) hX dJ4_grow_2_17 (by decide) (fun c_17 => ?_) (fun c_17 => ?_) | refine j_acmp_eq (pc := 17) (rx := _) (ry := none) (tgt := 45) hX dJ4_grow_2_17 (by decide) (fun c_17 => ?_) (fun c_17 => ?_) | refine j_acmp_eq (pc := 17) (rx := _) (ry := _) (tgt := 45) hX dJ4_grow_2_17 (by decide) (fun c_17 => ?_) (fun c_17 => ?_)
  rotate_left
  · exact absurd rfl c_17
  first | refine j_aload_n (pc := 45) hX dJ4_grow_2_45 rfl rfl ?_ | refine j_aload_nq (pc := 45) hX dJ4_grow_2_45 rfl rfl ?_
  refine j_bipush (pc := 46) (v := 10) hX dJ4_grow_2_46 (by decide) ?_
  refine j_iload_n (pc := 48) hX dJ4_grow_2_48 rfl rfl ?_
  refine j_mmax (pc := 49) hX km_J4_79 dJ4_grow_2_49 (by decide) (Nat.le_of_ble_eq_true rfl) ?_
  refine j_anew (pc := 52) hX kr_J4_7 10 3 rfl (by omega) (by omega) dJ4_grow_2_52 (fun H_52 z_52 e_52 n_52 b_52 => ?_)
  refine j_dup_x1 (pc := 55) hX dJ4_grow_2_55 (by first | rfl | exact jrf_cat _) (by first | rfl | exact jrf_cat _) ?_
  refine j_put (pc := 56) hX kp_J4_9 dJ4_grow_2_56 (ho.ext e_52) hq rfl rfl rfl (fun H_56 w_56 n_56 => ?_)
  first | exact j_aret hX hQ hr (by first | exact Or.inl ⟨_, rfl⟩ | exact Or.inr ⟨_, rfl⟩) dJ4_grow_2_59 ⟨_, rfl, rfl, (e_52.fr).put w_56 (fun _ => rfl), n_56, n_52.put w_56 (by omega)⟩ | exact j_aretN hX hQ hr (by first | exact Or.inl ⟨_, rfl⟩ | exact Or.inr ⟨_, rfl⟩) dJ4_grow_2_59 ⟨_, rfl, rfl, (e_52.fr).put w_56 (fun _ => rfl), n_56, n_52.put w_56 (by omega)⟩ | exact j_aretq hX hQ hr (by first | exact Or.inl ⟨_, rfl⟩ | exact Or.inr ⟨_, rfl⟩) dJ4_grow_2_59 ⟨_, rfl, rfl, (e_52.fr).put w_56 (fun _ => rfl), n_56, n_52.put w_56 (by omega)⟩
theorem c_J4_grow (l : Launch) (G : JG) (H : Heap) (q : Nat) {mc : Int32} (h : alA G H q (gC G 0) mc []) : JMet l yJ4_grow (ws_ yJ4_grow cJ4_grow 1 (some (.array (.object "java/lang/Object")))) 2 3 G H [.ref q] (jpa (fun r H1 => r = H.size ∧ JFr (fun a => a = q) H H1 ∧ jow G H1 q 11 [.int mc, .ref H.size, .int (nI 0)] ∧ jaw G H1 H.size 6 10 (fun _ => va_rf none))) (jno) := by
  refine JMet.of [(0, .inr (some q))] (by decide) (Nat.le_of_ble_eq_true rfl) rfl (fun X hl hX hQ hEx hr hnm hH => ?_)
  subst hl
  have ho := h.1
  first | refine j_aload_n (pc := 0) hX dJ4_grow_0 rfl rfl ?_ | refine j_aload_nq (pc := 0) hX dJ4_grow_0 rfl rfl ?_
  first | refine j_aload_n (pc := 1) hX dJ4_grow_1 rfl rfl ?_ | refine j_aload_nq (pc := 1) hX dJ4_grow_1 rfl rfl ?_
  refine j_get (pc := 2) hX kg_J4_48 dJ4_grow_2 (by first | assumption | exact jow.r (by assumption)) (by rfl) ?_
  refine j_iconst (pc := 5) (v := 1) hX dJ4_grow_5 (by decide) ?_
  refine j_iadd (pc := 6) hX dJ4_grow_6 ?_
  rw [show (3 : Nat) = 0 + 3 from rfl]
  refine j_runa (pc := 7) (jr_V (pc := 7) hX kv_J4_69 (by first | assumption | exact jow.r (by assumption)) (c_J4_grow_2 _ _ _ q h) (by decide) dJ4_grow_7 rfl rfl (Nat.le_of_ble_eq_true rfl)) (fun r_7 H_7 p_7 z_7 => ?_) jno_x
  first | exact j_aret hX hQ hr (by first | exact Or.inl ⟨_, rfl⟩ | exact Or.inr ⟨_, rfl⟩) dJ4_grow_10 ⟨_, rfl, p_7⟩ | exact j_aretN hX hQ hr (by first | exact Or.inl ⟨_, rfl⟩ | exact Or.inr ⟨_, rfl⟩) dJ4_grow_10 ⟨_, rfl, p_7⟩ | exact j_aretq hX hQ hr (by first | exact Or.inl ⟨_, rfl⟩ | exact Or.inr ⟨_, rfl⟩) dJ4_grow_10 ⟨_, rfl, p_7⟩
theorem c_J4_add_2 (l : Launch) (G : JG) (H : Heap) (q arr : Nat) {mc : Int32} {E : List Nat} (h : alA G H q arr mc E) (hl : E.length < 10) (x : Nat) {ci : Nat} {vs : List Value} (hx : job G H x ci vs) (ks : JAs 6 ci) (hxq : x ≠ q) : JMet l yJ4_add_2 (ws_ yJ4_add_2 cJ4_add_2 4 none) 3 3 G H [.ref q, .ref x, .ref arr, .int (nI E.length)] (jpv (fun H1 => ∃ arr', alA G H1 q arr' mc (E ++ [x]) ∧ (arr' = arr ∨ H.size ≤ arr') ∧ JFr (fun a => a = q ∨ a = arr) H H1)) (jno) := by
  refine JMet.of [(0, .inr (some q)), (1, .inr (some x)), (2, .inr (some arr)), (3, .inl (.int (nI E.length)))] (by decide) (Nat.le_of_ble_eq_true rfl) rfl (fun X hl hX hQ hEx hr hnm hH => ?_)
  subst hl
  obtain ⟨ho, hq, h3, h4⟩ := id h
  have hlt := ho.lt
  have hin : vp_in (nI E.length) 10 := vp_in_nI hl (by decide)
  have hlen : (E ++ [x]).length = E.length + 1 := by simp
  rcases h4 with ⟨e, ea⟩ | ⟨h4, h5, h6⟩
  · subst e ea
    refine j_start hX fun hK => ?_
    have he := hK.emp
    have hg : gC G 0 < (gs G).heap.size := hX.C.2.2.2.2.1.lt
    refine j_iload_n (pc := 0) hX dJ4_add_2_0 rfl rfl ?_
    first | refine j_aload_n (pc := 1) hX dJ4_add_2_1 rfl rfl ?_ | refine j_aload_nq (pc := 1) hX dJ4_add_2_1 rfl rfl ?_
    refine j_alen (pc := 2) hX dJ4_add_2_2 he ?_
    refine j_icmp_ne (pc := 3) (tgt := 11) hX dJ4_add_2_3 (by decide) (fun c_3 => ?_) (fun c_3 => ?_)
    · exact absurd rfl c_3
    first | refine j_aload_n (pc := 6) hX dJ4_add_2_6 rfl rfl ?_ | refine j_aload_nq (pc := 6) hX dJ4_add_2_6 rfl rfl ?_
    skip
    rw [show (3 : Nat) = 0 + 3 from rfl]
    refine j_runa (pc := 7) (jr_V (pc := 7) hX kv_J4_129 (by first | assumption | exact jow.r (by assumption)) (c_J4_grow _ _ _ q h) (by decide) dJ4_add_2_7 rfl rfl (Nat.le_of_ble_eq_true rfl)) (fun r_7 H_7 p_7 z_7 => ?_) jno_x
    obtain ⟨rfl, hF, ho, ha⟩ := p_7
    have hx' := hx.fr hF hxq
    first | refine j_astore_n (pc := 10) hX dJ4_add_2_10 rfl (by decide) rfl ?_ | refine j_astore_nN (pc := 10) hX dJ4_add_2_10 rfl (by decide) rfl ?_ | refine j_astore_nq (pc := 10) hX dJ4_add_2_10 rfl (by decide) rfl ?_
    first | refine j_aload_n (pc := 11) hX dJ4_add_2_11 rfl rfl ?_ | refine j_aload_nq (pc := 11) hX dJ4_add_2_11 rfl rfl ?_
    refine j_iload_n (pc := 12) hX dJ4_add_2_12 rfl rfl ?_
    first | refine j_aload_n (pc := 13) hX dJ4_add_2_13 rfl rfl ?_ | refine j_aload_nq (pc := 13) hX dJ4_add_2_13 rfl rfl ?_
    skip
    have hsz : (gs G).heap.size ≤ H.size := by omega
    refine j_aast (pc := 14) hX ks dJ4_add_2_14 (t := 6) (n := 10) (f := fun _ => none) ha hx' hsz hin (fun H_14 w_14 n_14 => ?_)
    rw [nI_clamp (by decide)] at n_14
    have ho2 := ho.put w_14 (by omega)
    first | refine j_aload_n (pc := 15) hX dJ4_add_2_15 rfl rfl ?_ | refine j_aload_nq (pc := 15) hX dJ4_add_2_15 rfl rfl ?_
    refine j_iload_n (pc := 16) hX dJ4_add_2_16 rfl rfl ?_
    refine j_iconst (pc := 17) (v := 1) hX dJ4_add_2_17 (by decide) ?_
    refine j_iadd (pc := 18) hX dJ4_add_2_18 ?_
    rw [nI_1]
    refine j_put (pc := 19) hX kp_J4_48 dJ4_add_2_19 ho2 hq rfl rfl rfl (fun H_19 w_19 n_19 => ?_)
    exact j_vret hX hQ hr dJ4_add_2_22 ⟨rfl, H.size, ⟨by rw [hlen]; exact n_19, hq, by rw [hlen]; omega, Or.inr ⟨by omega, hsz, (n_14.put w_19 (by omega)).congr (fun j _ => congrArg va_rf (jup_snoc (E := []) (x := x) j).symm)⟩⟩, Or.inr (Nat.le_refl _), ((hF.weak (fun a _ e => Or.inl e)).put w_14 (fun z => absurd z (by omega))).put w_19 (fun _ => Or.inl rfl)⟩
  · refine j_iload_n (pc := 0) hX dJ4_add_2_0 rfl rfl ?_
    first | refine j_aload_n (pc := 1) hX dJ4_add_2_1 rfl rfl ?_ | refine j_aload_nq (pc := 1) hX dJ4_add_2_1 rfl rfl ?_
    refine j_alen (pc := 2) hX dJ4_add_2_2 (jaw.r (t := 6) hX (by decide) h6) ?_
    refine j_icmp_ne (pc := 3) (tgt := 11) hX dJ4_add_2_3 (by decide) (fun c_3 => ?_) (fun c_3 => ?_)
    rotate_left
    · exact absurd ((nI_eq (b := 10) (by omega) (by omega)).mp c_3) (by omega)
    first | refine j_aload_n (pc := 11) hX dJ4_add_2_11 rfl rfl ?_ | refine j_aload_nq (pc := 11) hX dJ4_add_2_11 rfl rfl ?_
    refine j_iload_n (pc := 12) hX dJ4_add_2_12 rfl rfl ?_
    first | refine j_aload_n (pc := 13) hX dJ4_add_2_13 rfl rfl ?_ | refine j_aload_nq (pc := 13) hX dJ4_add_2_13 rfl rfl ?_
    skip
    refine j_aast (pc := 14) hX ks dJ4_add_2_14 (t := 6) (n := 10) (f := fun j => E[j]?) h6 hx h5 hin (fun H_14 w_14 n_14 => ?_)
    rw [nI_clamp (by omega)] at n_14
    have ho2 := ho.put w_14 (fun e => h4 e.symm)
    first | refine j_aload_n (pc := 15) hX dJ4_add_2_15 rfl rfl ?_ | refine j_aload_nq (pc := 15) hX dJ4_add_2_15 rfl rfl ?_
    refine j_iload_n (pc := 16) hX dJ4_add_2_16 rfl rfl ?_
    refine j_iconst (pc := 17) (v := 1) hX dJ4_add_2_17 (by decide) ?_
    refine j_iadd (pc := 18) hX dJ4_add_2_18 ?_
    rw [nI_1]
    refine j_put (pc := 19) hX kp_J4_48 dJ4_add_2_19 ho2 hq rfl rfl rfl (fun H_19 w_19 n_19 => ?_)
    exact j_vret hX hQ hr dJ4_add_2_22 ⟨rfl, arr, ⟨by rw [hlen]; exact n_19, hq, by rw [hlen]; omega, Or.inr ⟨h4, h5, (n_14.put w_19 h4).congr (fun j _ => congrArg va_rf (jup_snoc (E := E) (x := x) j).symm)⟩⟩, Or.inl rfl, (w_14.fr (Or.inr rfl)).put w_19 (fun _ => Or.inl rfl)⟩
theorem c_J4_add (l : Launch) (G : JG) (H : Heap) (q arr : Nat) {mc : Int32} {E : List Nat} (h : alA G H q arr mc E) (hl : E.length < 10) (x : Nat) {ci : Nat} {vs : List Value} (hx : job G H x ci vs) (ks : JAs 6 ci) (hxq : x ≠ q) : JMet l yJ4_add (ws_ yJ4_add cJ4_add 2 (some .boolean)) 4 3 G H [.ref q, .ref x] (jpi (fun r H1 => r = 1 ∧ ∃ arr', alA G H1 q arr' (mc + 1) (E ++ [x]) ∧ (arr' = arr ∨ H.size ≤ arr') ∧ JFr (fun a => a = q ∨ a = arr) H H1)) (jno) := by
  refine JMet.of [(0, .inr (some q)), (1, .inr (some x))] (by decide) (Nat.le_of_ble_eq_true rfl) rfl (fun X hl hX hQ hEx hr hnm hH => ?_)
  subst hl
  obtain ⟨ho, hq, h3, h4⟩ := id h
  first | refine j_aload_n (pc := 0) hX dJ4_add_0 rfl rfl ?_ | refine j_aload_nq (pc := 0) hX dJ4_add_0 rfl rfl ?_
  refine j_dup (pc := 1) hX dJ4_add_1 (by first | rfl | exact jrf_cat _) ?_
  refine j_get (pc := 2) hX kg_J4_63 dJ4_add_2 (by first | assumption | exact jow.r (by assumption)) (by rfl) ?_
  refine j_iconst (pc := 5) (v := 1) hX dJ4_add_5 (by decide) ?_
  refine j_iadd (pc := 6) hX dJ4_add_6 ?_
  refine j_put (pc := 7) hX kp_J4_63 dJ4_add_7 (by assumption) hq rfl rfl rfl (fun H_7 w_7 n_7 => ?_)
  have h7 : alA G H_7 q arr (mc + 1) E := ⟨n_7, hq, h3, h4.imp id (fun z => ⟨z.1, z.2.1, z.2.2.put w_7 z.1⟩)⟩
  have hx7 := hx.put w_7 hxq
  have ho := n_7
  first | refine j_aload_n (pc := 10) hX dJ4_add_10 rfl rfl ?_ | refine j_aload_nq (pc := 10) hX dJ4_add_10 rfl rfl ?_
  first | refine j_aload_n (pc := 11) hX dJ4_add_11 rfl rfl ?_ | refine j_aload_nq (pc := 11) hX dJ4_add_11 rfl rfl ?_
  first | refine j_aload_n (pc := 12) hX dJ4_add_12 rfl rfl ?_ | refine j_aload_nq (pc := 12) hX dJ4_add_12 rfl rfl ?_
  refine j_get (pc := 13) hX kg_J4_9 dJ4_add_13 (by first | assumption | exact jow.r (by assumption)) (by rfl) ?_
  first | refine j_aload_n (pc := 16) hX dJ4_add_16 rfl rfl ?_ | refine j_aload_nq (pc := 16) hX dJ4_add_16 rfl rfl ?_
  refine j_get (pc := 17) hX kg_J4_48 dJ4_add_17 (by first | assumption | exact jow.r (by assumption)) (by rfl) ?_
  skip
  rw [show (3 : Nat) = 0 + 3 from rfl]
  refine j_runv (pc := 20) (jr_V (pc := 20) hX kv_J4_131 (by first | assumption | exact jow.r (by assumption)) (c_J4_add_2 _ _ _ q arr h7 hl x hx7 ks hxq) (by decide) dJ4_add_20 rfl rfl (Nat.le_of_ble_eq_true rfl)) (fun H_20 p_20 z_20 => ?_) jno_x
  obtain ⟨arr', a1, a2, a3⟩ := p_20
  refine j_iconst (pc := 23) (v := 1) hX dJ4_add_23 (by decide) ?_
  exact j_zret hX hQ hr (by first | rfl | exact jb_nar _ | exact nI_narC _ | assumption) dJ4_add_24 ⟨_, rfl, rfl, arr', a1, a2.imp id (fun z => by rw [← w_7.1]; exact z), (w_7.fr (Or.inl rfl)).trans a3⟩
