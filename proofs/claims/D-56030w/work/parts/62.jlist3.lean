/-! lists: what is taken out, or put between -/
set_option maxRecDepth 100000
/-- the elements are objects that a row of objects may hold -/
def elOK (G : JG) (H : Heap) (E : List Nat) : Prop := ∀ x ∈ E, ∃ (ci : Nat) (vs : List Value), job G H x ci vs ∧ JAs 6 ci
theorem elOK.tk {G : JG} {H : Heap} {E : List Nat} (h : elOK G H E) (j : Nat) : JTk G H 6 (va_rf (E[j]?)) := by
  cases e : E[j]? with
  | none => exact ⟨rfl, fun a z => by cases z⟩
  | some x =>
    refine ⟨rfl, fun a z => ?_⟩
    cases z
    exact h x (List.mem_of_getElem? e)
theorem elOK.kept {G : JG} {H H1 : Heap} {E : List Nat} (h : elOK G H E) (e : ∀ x ∈ E, H1[x]? = H[x]?) : elOK G H1 E := fun x hx => by
  obtain ⟨ci, vs, h1, h2⟩ := h x hx
  exact ⟨ci, vs, h1.kept (e x hx), h2⟩
theorem erase_at {E : List Nat} {i : Nat} (hi : i < E.length) (j : Nat) : jup (fun j => if i ≤ j ∧ j < i + (E.length - 1 - i) then E[i + 1 + (j - i)]? else E[j]?) (E.length - 1) none j = (E.eraseIdx i)[j]? := by
  rw [List.getElem?_eraseIdx]
  unfold jup
  by_cases h1 : j = E.length - 1
  · rw [if_pos h1, if_neg (by omega), List.getElem?_eq_none (by omega)]
  · rw [if_neg h1]
    show (if i ≤ j ∧ j < i + (E.length - 1 - i) then E[i + 1 + (j - i)]? else E[j]?) = _
    by_cases h2 : j < i
    · rw [if_pos h2, if_neg (by omega)]
    · rw [if_neg h2]
      by_cases h3 : j < E.length - 1
      · rw [if_pos (by omega), show i + 1 + (j - i) = j + 1 by omega]
      · rw [if_neg (by omega), List.getElem?_eq_none (by omega), List.getElem?_eq_none (by omega)]
theorem erase_lt {E : List Nat} {i n : Nat} (hn : E.length = n + 1) (hi : i < E.length) (h : n ≤ i) (j : Nat) : jup (fun j => E[j]?) n none j = (E.eraseIdx i)[j]? := by
  rw [List.getElem?_eraseIdx]
  unfold jup
  by_cases h1 : j = n
  · rw [if_pos h1]
    by_cases h2 : j < i
    · omega
    · rw [if_neg h2, List.getElem?_eq_none (by omega)]
  · rw [if_neg h1]
    show E[j]? = _
    by_cases h2 : j < i
    · rw [if_pos h2]
    · rw [if_neg h2, List.getElem?_eq_none (by omega), List.getElem?_eq_none (by omega)]
theorem c_J4_fastRemove (l : Launch) (G : JG) (H : Heap) (q arr : Nat) {mc : Int32} {E : List Nat} (h : alA G H q arr mc E) (i : Nat) (hi : i < E.length) (hE : elOK G H E) (hqE : ∀ x ∈ E, x ≠ q ∧ x ≠ arr) : JMet l yJ4_fastRemove (ws_ yJ4_fastRemove cJ4_fastRemove 4 none) 2 0 G H [.ref q, .ref arr, .int (nI i)] (jpv (fun H1 => alA G H1 q arr (mc + 1) (E.eraseIdx i) ∧ JFr (fun a => a = q ∨ a = arr) H H1)) (jno) := by
  refine JMet.of [(0, .inr (some q)), (1, .inr (some arr)), (2, .inl (.int (nI i)))] (by decide) (Nat.le_of_ble_eq_true rfl) rfl (fun X hl hX hQ hEx hr hnm hH => ?_)
  subst hl
  obtain ⟨ho, hq, h3, h4⟩ := id h
  rcases h4 with ⟨e, -⟩ | ⟨h4, h5, h6⟩
  · rw [e] at hi; cases hi
  · obtain ⟨n, hn⟩ : ∃ n, E.length = n + 1 := ⟨E.length - 1, by omega⟩
    have hlen : (E.eraseIdx i).length = n := by rw [List.length_eraseIdx, if_pos hi]; omega
    have hin : vp_in (nI n) 10 := vp_in_nI (by omega) (by decide)
    have last : ∀ (H1 : Heap) (f : Nat → Option Nat), JFr (fun a => a = q ∨ a = arr) H H1 → jow G H1 q 11 [.int (mc + 1), .ref arr, .int (nI (n + 1))] → jaw G H1 arr 6 10 (fun j => va_rf (f j)) → (∀ j, j < 10 → jup f n none j = (E.eraseIdx i)[j]?) → JW X G H1 0 34 [(0, .inr (some q)), (1, .inr (some arr)), (2, .inl (.int (nI i))), (3, .inl (.int (nI n)))] [] := by
      intro H1 f hF ho ha hf
      first | refine j_aload_n (pc := 34) hX dJ4_fastRemove_34 rfl rfl ?_ | refine j_aload_nq (pc := 34) hX dJ4_fastRemove_34 rfl rfl ?_
      first | refine j_aload_n (pc := 35) hX dJ4_fastRemove_35 rfl rfl ?_ | refine j_aload_nq (pc := 35) hX dJ4_fastRemove_35 rfl rfl ?_
      refine j_iload_n (pc := 36) hX dJ4_fastRemove_36 rfl rfl ?_
      refine j_dup_x1 (pc := 37) hX dJ4_fastRemove_37 (by first | rfl | exact jrf_cat _) (by first | rfl | exact jrf_cat _) ?_
      refine j_put (pc := 38) hX kp_J4_48 dJ4_fastRemove_38 ho hq rfl rfl rfl (fun H_38 w_38 n_38 => ?_)
      refine j_null (pc := 41) hX dJ4_fastRemove_41 ?_
      skip
      refine j_aastN (pc := 42) hX ⟨by decide, by decide⟩ dJ4_fastRemove_42 (t := 6) (n := 10) (f := f) (ha.put w_38 h4) h5 hin (fun H_42 w_42 n_42 => ?_)
      rw [nI_clamp (by omega)] at n_42
      exact j_vret hX hQ hr dJ4_fastRemove_43 ⟨rfl, ⟨by rw [hlen]; exact n_38.put w_42 (fun e => h4 e.symm), hq, by omega, Or.inr ⟨h4, h5, n_42.congr (fun j hj => congrArg va_rf (hf j hj).symm)⟩⟩, (hF.put w_38 (fun _ => Or.inl rfl)).put w_42 (fun _ => Or.inr rfl)⟩
    first | refine j_aload_n (pc := 0) hX dJ4_fastRemove_0 rfl rfl ?_ | refine j_aload_nq (pc := 0) hX dJ4_fastRemove_0 rfl rfl ?_
    refine j_dup (pc := 1) hX dJ4_fastRemove_1 (by first | rfl | exact jrf_cat _) ?_
    refine j_get (pc := 2) hX kg_J4_63 dJ4_fastRemove_2 (by first | assumption | exact jow.r (by assumption)) (by rfl) ?_
    refine j_iconst (pc := 5) (v := 1) hX dJ4_fastRemove_5 (by decide) ?_
    refine j_iadd (pc := 6) hX dJ4_fastRemove_6 ?_
    skip
    refine j_put (pc := 7) hX kp_J4_63 dJ4_fastRemove_7 (by assumption) hq rfl rfl rfl (fun H_7 w_7 n_7 => ?_)
    have ha := h6.put w_7 h4
    have hE7 := hE.kept (fun x hx => w_7.2 x (hqE x hx).1)
    have hF : JFr (fun a => a = q ∨ a = arr) H H_7 := w_7.fr (Or.inl rfl)
    have ho := n_7
    first | refine j_aload_n (pc := 10) hX dJ4_fastRemove_10 rfl rfl ?_ | refine j_aload_nq (pc := 10) hX dJ4_fastRemove_10 rfl rfl ?_
    refine j_get (pc := 11) hX kg_J4_48 dJ4_fastRemove_11 (by first | assumption | exact jow.r (by assumption)) (by rfl) ?_
    refine j_iconst (pc := 14) (v := 1) hX dJ4_fastRemove_14 (by decide) ?_
    refine j_isub (pc := 15) hX dJ4_fastRemove_15 ?_
    rw [hn, nI_pred]
    refine j_dup (pc := 16) hX dJ4_fastRemove_16 (by first | rfl | exact jrf_cat _) ?_
    refine j_istore_n (pc := 17) hX dJ4_fastRemove_17 rfl (by decide) rfl ?_
    refine j_iload_n (pc := 18) hX dJ4_fastRemove_18 rfl rfl ?_
    refine j_icmp_le (pc := 19) (tgt := 34) hX dJ4_fastRemove_19 (by decide) (fun c_19 => ?_) (fun c_19 => ?_)
    · rw [nI_leI (by omega) (by omega)] at c_19
      first | exact last _ (fun j => E[j]?) hF (by rw [← hn]; exact n_7) ha (fun j hj => erase_lt hn hi c_19 j) | exact last _ (fun j => if i ≤ j ∧ j < i + (n - i) then E[i + 1 + (j - i)]? else E[j]?) (hF.put w_31 (fun _ => Or.inr rfl)) ((by rw [← hn]; exact n_7 : jow G H_7 q 11 [.int (mc + 1), .ref arr, .int (nI (n + 1))]).put w_31 (fun e => h4 e.symm)) (n_31.congr (fun j _ => by split <;> rfl)) (fun j hj => by have := erase_at hi j; rw [show E.length - 1 = n by omega] at this; exact this)
    · rw [nI_leI (by omega) (by omega)] at c_19
      first | refine j_aload_n (pc := 22) hX dJ4_fastRemove_22 rfl rfl ?_ | refine j_aload_nq (pc := 22) hX dJ4_fastRemove_22 rfl rfl ?_
      refine j_iload_n (pc := 23) hX dJ4_fastRemove_23 rfl rfl ?_
      refine j_iconst (pc := 24) (v := 1) hX dJ4_fastRemove_24 (by decide) ?_
      refine j_iadd (pc := 25) hX dJ4_fastRemove_25 ?_
      rw [nI_1]
      first | refine j_aload_n (pc := 26) hX dJ4_fastRemove_26 rfl rfl ?_ | refine j_aload_nq (pc := 26) hX dJ4_fastRemove_26 rfl rfl ?_
      refine j_iload_n (pc := 27) hX dJ4_fastRemove_27 rfl rfl ?_
      refine j_iload_n (pc := 28) hX dJ4_fastRemove_28 rfl rfl ?_
      refine j_iload_n (pc := 29) hX dJ4_fastRemove_29 rfl rfl ?_
      refine j_isub (pc := 30) hX dJ4_fastRemove_30 ?_
      rw [nI_subN (by omega)]
      refine j_acopy (pc := 31) (t := 6) hX kcp_J4_112 (by decide) (i+1) i (n-i) rfl rfl rfl dJ4_fastRemove_31 (jaw.r (t := 6) hX (by decide) ha) ha h5 (by omega) (by omega) (by omega) (by omega) (fun z hz => hE7.tk _) (by decide) (Nat.le_of_ble_eq_true rfl) (fun H_31 w_31 n_31 => ?_)
      first | exact last _ (fun j => E[j]?) hF (by rw [← hn]; exact n_7) ha (fun j hj => erase_lt hn hi c_19 j) | exact last _ (fun j => if i ≤ j ∧ j < i + (n - i) then E[i + 1 + (j - i)]? else E[j]?) (hF.put w_31 (fun _ => Or.inr rfl)) ((by rw [← hn]; exact n_7 : jow G H_7 q 11 [.int (mc + 1), .ref arr, .int (nI (n + 1))]).put w_31 (fun e => h4 e.symm)) (n_31.congr (fun j _ => by split <;> rfl)) (fun j hj => by have := erase_at hi j; rw [show E.length - 1 = n by omega] at this; exact this)
theorem c_J4_remove_2 (l : Launch) (G : JG) (H : Heap) (q arr : Nat) {mc : Int32} {E : List Nat} (h : alA G H q arr mc E) (i : Nat) (hi : i < E.length) (hE : elOK G H E) (hqE : ∀ x ∈ E, x ≠ q ∧ x ≠ arr) : JMet l yJ4_remove_2 (ws_ yJ4_remove_2 cJ4_remove_2 4 (some (.object "java/lang/Object"))) 3 0 G H [.ref q, .int (nI i)] (jpa (fun r H1 => r = E.getD i 0 ∧ alA G H1 q arr (mc + 1) (E.eraseIdx i) ∧ JFr (fun a => a = q ∨ a = arr) H H1)) (jno) := by
  refine JMet.of [(0, .inr (some q)), (1, .inl (.int (nI i)))] (by decide) (Nat.le_of_ble_eq_true rfl) rfl (fun X hl hX hQ hEx hr hnm hH => ?_)
  subst hl
  obtain ⟨ho, hq, h3, h4⟩ := id h
  rcases h4 with ⟨e, -⟩ | ⟨h4, h5, h6⟩
  · rw [e] at hi; cases hi
  · have hin : vp_in (nI i) 10 := vp_in_nI (by omega) (by decide)
    have eg : E[i]? = some (E.getD i 0) := by rw [List.getD_eq_getElem?_getD, List.getElem?_eq_getElem hi]; rfl
    refine j_iload_n (pc := 0) hX dJ4_remove_2_0 rfl rfl ?_
    first | refine j_aload_n (pc := 1) hX dJ4_remove_2_1 rfl rfl ?_ | refine j_aload_nq (pc := 1) hX dJ4_remove_2_1 rfl rfl ?_
    refine j_get (pc := 2) hX kg_J4_48 dJ4_remove_2_2 (by first | assumption | exact jow.r (by assumption)) (by rfl) ?_
    refine j_rune (pc := 5) (jr_S (pc := 5) hX ks_J4_118 (c_J29_checkIndex _ _ _ i E.length hi (by omega)) (by decide) dJ4_remove_2_5 rfl rfl (Nat.le_of_ble_eq_true rfl)) ?_ jno_x
    refine j_pop (pc := 8) hX dJ4_remove_2_8 (by first | rfl | exact jrf_cat _) ?_
    first | refine j_aload_n (pc := 9) hX dJ4_remove_2_9 rfl rfl ?_ | refine j_aload_nq (pc := 9) hX dJ4_remove_2_9 rfl rfl ?_
    refine j_get (pc := 10) hX kg_J4_9 dJ4_remove_2_10 (by first | assumption | exact jow.r (by assumption)) (by rfl) ?_
    first | refine j_astore_n (pc := 13) hX dJ4_remove_2_13 rfl (by decide) rfl ?_ | refine j_astore_nN (pc := 13) hX dJ4_remove_2_13 rfl (by decide) rfl ?_ | refine j_astore_nq (pc := 13) hX dJ4_remove_2_13 rfl (by decide) rfl ?_
    first | refine j_aload_n (pc := 14) hX dJ4_remove_2_14 rfl rfl ?_ | refine j_aload_nq (pc := 14) hX dJ4_remove_2_14 rfl rfl ?_
    refine j_iload_n (pc := 15) hX dJ4_remove_2_15 rfl rfl ?_
    refine j_aald (pc := 16) hX (by decide) dJ4_remove_2_16 (jaw.r (t := 6) hX (by decide) h6) (by assumption) ?_
    rw [nI_clamp (by omega), eg]
    change JW X G H 0 17 _ [.ref (E.getD i 0)]
    first | refine j_astore_n (pc := 17) hX dJ4_remove_2_17 rfl (by decide) rfl ?_ | refine j_astore_nN (pc := 17) hX dJ4_remove_2_17 rfl (by decide) rfl ?_ | refine j_astore_nq (pc := 17) hX dJ4_remove_2_17 rfl (by decide) rfl ?_
    first | refine j_aload_n (pc := 18) hX dJ4_remove_2_18 rfl rfl ?_ | refine j_aload_nq (pc := 18) hX dJ4_remove_2_18 rfl rfl ?_
    first | refine j_aload_n (pc := 19) hX dJ4_remove_2_19 rfl rfl ?_ | refine j_aload_nq (pc := 19) hX dJ4_remove_2_19 rfl rfl ?_
    refine j_iload_n (pc := 20) hX dJ4_remove_2_20 rfl rfl ?_
    refine j_runv (pc := 21) (jr_V (pc := 21) hX kv_J4_144 (by first | assumption | exact jow.r (by assumption)) (c_J4_fastRemove _ _ _ q arr h i hi hE hqE) (by decide) dJ4_remove_2_21 rfl rfl (Nat.le_of_ble_eq_true rfl)) (fun H_21 p_21 z_21 => ?_) jno_x
    first | refine j_aload_n (pc := 24) hX dJ4_remove_2_24 rfl rfl ?_ | refine j_aload_nq (pc := 24) hX dJ4_remove_2_24 rfl rfl ?_
    first | exact j_aret hX hQ hr (by first | exact Or.inl ⟨_, rfl⟩ | exact Or.inr ⟨_, rfl⟩) dJ4_remove_2_25 ⟨_, rfl, rfl, p_21⟩ | exact j_aretN hX hQ hr (by first | exact Or.inl ⟨_, rfl⟩ | exact Or.inr ⟨_, rfl⟩) dJ4_remove_2_25 ⟨_, rfl, rfl, p_21⟩ | exact j_aretq hX hQ hr (by first | exact Or.inl ⟨_, rfl⟩ | exact Or.inr ⟨_, rfl⟩) dJ4_remove_2_25 ⟨_, rfl, rfl, p_21⟩
theorem ins_at {E : List Nat} {k x : Nat} (hk : k ≤ E.length) (j : Nat) : jup (fun j => if k + 1 ≤ j ∧ j < k + 1 + (E.length - k) then E[k + (j - (k + 1))]? else E[j]?) k (some x) j = (E.take k ++ x :: E.drop k)[j]? := by
  have hl : (E.take k).length = k := by rw [List.length_take]; omega
  unfold jup
  by_cases h1 : j = k
  · rw [if_pos h1, h1, List.getElem?_append_right (by omega), hl, Nat.sub_self]; rfl
  · rw [if_neg h1]
    show (if k + 1 ≤ j ∧ j < k + 1 + (E.length - k) then E[k + (j - (k + 1))]? else E[j]?) = _
    by_cases h2 : j < k
    · rw [if_neg (by omega), List.getElem?_append_left (by omega), List.getElem?_take_of_lt h2]
    · rw [List.getElem?_append_right (by omega), hl, show j - k = (j - (k + 1)) + 1 by omega, List.getElem?_cons_succ, List.getElem?_drop]
      by_cases h3 : j < k + 1 + (E.length - k)
      · rw [if_pos (by omega)]
      · rw [if_neg (by omega), List.getElem?_eq_none (by omega), List.getElem?_eq_none (by omega)]
theorem c_J4_rangeCheckForAdd (l : Launch) (G : JG) (H : Heap) (q arr : Nat) {mc : Int32} {E : List Nat} (h : alA G H q arr mc E) (k : Nat) (hk : k ≤ E.length) : JMet l yJ4_rangeCheckForAdd (ws_ yJ4_rangeCheckForAdd cJ4_rangeCheckForAdd 2 none) 1 0 G H [.ref q, .int (nI k)] (jpve H) (jno) := by
  refine JMet.of [(0, .inr (some q)), (1, .inl (.int (nI k)))] (by decide) (Nat.le_of_ble_eq_true rfl) rfl (fun X hl hX hQ hEx hr hnm hH => ?_)
  subst hl
  have ho := h.1
  have h3 := h.2.2.1
  refine j_iload_n (pc := 0) hX dJ4_rangeCheckForAdd_0 rfl rfl ?_
  first | refine j_aload_n (pc := 1) hX dJ4_rangeCheckForAdd_1 rfl rfl ?_ | refine j_aload_nq (pc := 1) hX dJ4_rangeCheckForAdd_1 rfl rfl ?_
  refine j_get (pc := 2) hX kg_J4_48 dJ4_rangeCheckForAdd_2 (by first | assumption | exact jow.r (by assumption)) (by rfl) ?_
  refine j_icmp_gt (pc := 5) (tgt := 12) hX dJ4_rangeCheckForAdd_5 (by decide) (fun c_5 => ?_) (fun c_5 => ?_)
  · exact absurd c_5 (fun z => absurd ((nI_ltI (by omega) (by omega)).mp z) (by omega))
  refine j_iload_n (pc := 8) hX dJ4_rangeCheckForAdd_8 rfl rfl ?_
  refine j_if_ge (pc := 9) (tgt := 25) hX dJ4_rangeCheckForAdd_9 (by decide) (fun c_9 => ?_) (fun c_9 => ?_)
  rotate_left
  · exact absurd (nI_pos' (by omega)) c_9
  exact j_vret hX hQ hr dJ4_rangeCheckForAdd_25 ⟨rfl, rfl⟩
