/-! the deque: taken out at both ends; emptied -/
set_option maxRecDepth 100000
theorem c_J5_elementAt (l : Launch) (G : JG) (H : Heap) (arr k : Nat) {f : Nat → Option Nat} (h : jar G H arr 6 17 (fun j => va_rf (f j))) (hk : k < 17) : JMet l yJ5_elementAt (ws_ yJ5_elementAt cJ5_elementAt 2 (some (.object "java/lang/Object"))) 1 0 G H [.ref arr, .int (nI k)] (jpqe H (f k)) (jno) := by
  refine JMet.of [(0, .inr (some arr)), (1, .inl (.int (nI k)))] (by decide) (Nat.le_of_ble_eq_true rfl) rfl (fun X hl hX hQ hEx hr hnm hH => ?_)
  subst hl
  have hin : vp_in (nI k) 17 := vp_in_nI hk (by decide)
  first | refine j_aload_n (pc := 0) hX dJ5_elementAt_0 rfl rfl ?_ | refine j_aload_nq (pc := 0) hX dJ5_elementAt_0 rfl rfl ?_
  refine j_iload_n (pc := 1) hX dJ5_elementAt_1 rfl rfl ?_
  refine j_aald (pc := 2) hX (by decide) dJ5_elementAt_2 h (by assumption) ?_
  skip
  rw [nI_clamp (by omega)]
  exact j_aretq hX hQ hr (by first | exact Or.inl ⟨_, rfl⟩ | exact Or.inr ⟨_, rfl⟩) dJ5_elementAt_3 ⟨_, rfl, rfl, rfl⟩
theorem dqF_first {hd x : Nat} {E : List Nat} (h5 : hd < 17) (h6 : E.length < 16) (j : Nat) (hj : j < 17) : jup (dqF hd (x :: E)) hd none j = dqF ((hd + 1) % 17) E j := by
  unfold jup dqF
  by_cases e : j = hd
  · rw [if_pos e, List.getElem?_eq_none (by omega)]
  · rw [if_neg e, show (j + 17 - hd) % 17 = (j + 17 - (hd + 1) % 17) % 17 + 1 by omega, List.getElem?_cons_succ]
theorem dqF_last {hd x : Nat} {E : List Nat} (h5 : hd < 17) (h6 : E.length < 16) (j : Nat) (hj : j < 17) : jup (dqF hd (E ++ [x])) ((hd + E.length) % 17) none j = dqF hd E j := by
  unfold jup dqF
  by_cases e : j = (hd + E.length) % 17
  · rw [if_pos e, List.getElem?_eq_none (by omega)]
  · rw [if_neg e]
    by_cases h : (j + 17 - hd) % 17 < E.length
    · rw [List.getElem?_append_left h]
    · rw [List.getElem?_eq_none (by rw [List.length_append]; simp; omega), List.getElem?_eq_none (by omega)]
theorem c_J5_pollFirst (l : Launch) (G : JG) (H : Heap) (q arr hd x : Nat) {E : List Nat} (h : dqA G H q arr hd (x :: E)) : JMet l yJ5_pollFirst (ws_ yJ5_pollFirst cJ5_pollFirst 4 (some (.object "java/lang/Object"))) 2 0 G H [.ref q] (jpa (fun r H1 => r = x ∧ dqA G H1 q arr ((hd + 1) % 17) E ∧ JFr (fun a => a = q ∨ a = arr) H H1)) (jno) := by
  refine JMet.of [(0, .inr (some q))] (by decide) (Nat.le_of_ble_eq_true rfl) rfl (fun X hl hX hQ hEx hr hnm hH => ?_)
  subst hl
  obtain ⟨ho, h2, h3, h4, h5, h6, h7⟩ := h
  rw [List.length_cons] at h6 ho
  have hin : vp_in (nI hd) 17 := vp_in_nI h5 (by decide)
  have e0 : dqF hd (x :: E) hd = some x := by unfold dqF; rw [show (hd + 17 - hd) % 17 = 0 by omega]; rfl
  first | refine j_aload_n (pc := 0) hX dJ5_pollFirst_0 rfl rfl ?_ | refine j_aload_nq (pc := 0) hX dJ5_pollFirst_0 rfl rfl ?_
  refine j_get (pc := 1) hX kg_J5_3 dJ5_pollFirst_1 (by first | assumption | exact jow.r (by assumption)) (by rfl) ?_
  refine j_dup (pc := 4) hX dJ5_pollFirst_4 (by first | rfl | exact jrf_cat _) ?_
  first | refine j_astore_n (pc := 5) hX dJ5_pollFirst_5 rfl (by decide) rfl ?_ | refine j_astore_nN (pc := 5) hX dJ5_pollFirst_5 rfl (by decide) rfl ?_ | refine j_astore_nq (pc := 5) hX dJ5_pollFirst_5 rfl (by decide) rfl ?_
  first | refine j_aload_n (pc := 6) hX dJ5_pollFirst_6 rfl rfl ?_ | refine j_aload_nq (pc := 6) hX dJ5_pollFirst_6 rfl rfl ?_
  refine j_get (pc := 7) hX kg_J5_24 dJ5_pollFirst_7 (by first | assumption | exact jow.r (by assumption)) (by rfl) ?_
  refine j_dup (pc := 10) hX dJ5_pollFirst_10 (by first | rfl | exact jrf_cat _) ?_
  refine j_istore_n (pc := 11) hX dJ5_pollFirst_11 rfl (by decide) rfl ?_
  refine j_runqe (pc := 12) (jr_S (pc := 12) hX ks_J5_103 (c_J5_elementAt _ _ _ arr hd (jaw.r (t := 6) hX (by decide) h7) h5) (by decide) dJ5_pollFirst_12 rfl rfl (Nat.le_of_ble_eq_true rfl)) ?_ jno_x
  skip
  rw [e0]
  first | refine j_astore_n (pc := 15) hX dJ5_pollFirst_15 rfl (by decide) rfl ?_ | refine j_astore_nN (pc := 15) hX dJ5_pollFirst_15 rfl (by decide) rfl ?_ | refine j_astore_nq (pc := 15) hX dJ5_pollFirst_15 rfl (by decide) rfl ?_
  first | refine j_aload_n (pc := 16) hX dJ5_pollFirst_16 rfl rfl ?_ | refine j_aload_nq (pc := 16) hX dJ5_pollFirst_16 rfl rfl ?_
  refine j_ifnull (pc := 17) hX dJ5_pollFirst_17 ?_
  first | refine j_aload_n (pc := 20) hX dJ5_pollFirst_20 rfl rfl ?_ | refine j_aload_nq (pc := 20) hX dJ5_pollFirst_20 rfl rfl ?_
  refine j_iload_n (pc := 21) hX dJ5_pollFirst_21 rfl rfl ?_
  refine j_null (pc := 22) hX dJ5_pollFirst_22 ?_
  skip
  refine j_aastN (pc := 23) hX ⟨by decide, by decide⟩ dJ5_pollFirst_23 (t := 6) (n := 17) (f := dqF hd (x :: E)) h7 h3 hin (fun H_23 w_23 n_23 => ?_)
  rw [nI_clamp (by omega)] at n_23
  have ho := ho.put w_23 (fun e => h4 e.symm)
  first | refine j_aload_n (pc := 24) hX dJ5_pollFirst_24 rfl rfl ?_ | refine j_aload_nq (pc := 24) hX dJ5_pollFirst_24 rfl rfl ?_
  refine j_iload_n (pc := 25) hX dJ5_pollFirst_25 rfl rfl ?_
  first | refine j_aload_n (pc := 26) hX dJ5_pollFirst_26 rfl rfl ?_ | refine j_aload_nq (pc := 26) hX dJ5_pollFirst_26 rfl rfl ?_
  refine j_alen (pc := 27) hX dJ5_pollFirst_27 (jaw.r (t := 6) hX (by decide) n_23) ?_
  refine j_rune (pc := 28) (jr_S (pc := 28) hX ks_J5_74 (c_J5_inc _ _ _ hd h5) (by decide) dJ5_pollFirst_28 rfl rfl (Nat.le_of_ble_eq_true rfl)) ?_ jno_x
  refine j_put (pc := 31) hX kp_J5_24 dJ5_pollFirst_31 ho h2 rfl rfl rfl (fun H_31 w_31 n_31 => ?_)
  first | refine j_aload_n (pc := 34) hX dJ5_pollFirst_34 rfl rfl ?_ | refine j_aload_nq (pc := 34) hX dJ5_pollFirst_34 rfl rfl ?_
  first | exact j_aret hX hQ hr (by first | exact Or.inl ⟨_, rfl⟩ | exact Or.inr ⟨_, rfl⟩) dJ5_pollFirst_35 ⟨_, rfl, rfl, ⟨by rw [show (hd + 1) % 17 + E.length = (hd + 1) % 17 + E.length from rfl, show ((hd + 1) % 17 + E.length) % 17 = (hd + (E.length + 1)) % 17 by omega]; exact n_31, h2, h3, h4, Nat.mod_lt _ (by decide), by omega, (n_23.put w_31 h4).congr (fun j hj => congrArg va_rf (dqF_first h5 (by omega) j hj).symm)⟩, (w_23.fr (Or.inr rfl)).put w_31 (fun _ => Or.inl rfl)⟩ | exact j_aretN hX hQ hr (by first | exact Or.inl ⟨_, rfl⟩ | exact Or.inr ⟨_, rfl⟩) dJ5_pollFirst_35 ⟨_, rfl, rfl, ⟨by rw [show (hd + 1) % 17 + E.length = (hd + 1) % 17 + E.length from rfl, show ((hd + 1) % 17 + E.length) % 17 = (hd + (E.length + 1)) % 17 by omega]; exact n_31, h2, h3, h4, Nat.mod_lt _ (by decide), by omega, (n_23.put w_31 h4).congr (fun j hj => congrArg va_rf (dqF_first h5 (by omega) j hj).symm)⟩, (w_23.fr (Or.inr rfl)).put w_31 (fun _ => Or.inl rfl)⟩ | exact j_aretq hX hQ hr (by first | exact Or.inl ⟨_, rfl⟩ | exact Or.inr ⟨_, rfl⟩) dJ5_pollFirst_35 ⟨_, rfl, rfl, ⟨by rw [show (hd + 1) % 17 + E.length = (hd + 1) % 17 + E.length from rfl, show ((hd + 1) % 17 + E.length) % 17 = (hd + (E.length + 1)) % 17 by omega]; exact n_31, h2, h3, h4, Nat.mod_lt _ (by decide), by omega, (n_23.put w_31 h4).congr (fun j hj => congrArg va_rf (dqF_first h5 (by omega) j hj).symm)⟩, (w_23.fr (Or.inr rfl)).put w_31 (fun _ => Or.inl rfl)⟩
theorem c_J5_removeFirst (l : Launch) (G : JG) (H : Heap) (q arr hd x : Nat) {E : List Nat} (h : dqA G H q arr hd (x :: E)) : JMet l yJ5_removeFirst (ws_ yJ5_removeFirst cJ5_removeFirst 2 (some (.object "java/lang/Object"))) 3 0 G H [.ref q] (jpa (fun r H1 => r = x ∧ dqA G H1 q arr ((hd + 1) % 17) E ∧ JFr (fun a => a = q ∨ a = arr) H H1)) (jno) := by
  refine JMet.of [(0, .inr (some q))] (by decide) (Nat.le_of_ble_eq_true rfl) rfl (fun X hl hX hQ hEx hr hnm hH => ?_)
  subst hl
  have ho := h.1
  first | refine j_aload_n (pc := 0) hX dJ5_removeFirst_0 rfl rfl ?_ | refine j_aload_nq (pc := 0) hX dJ5_removeFirst_0 rfl rfl ?_
  refine j_runa (pc := 1) (jr_V (pc := 1) hX kv_J5_93 (by first | assumption | exact jow.r (by assumption)) (c_J5_pollFirst _ _ _ q arr hd x h) (by decide) dJ5_removeFirst_1 rfl rfl (Nat.le_of_ble_eq_true rfl)) (fun r_1 H_1 p_1 z_1 => ?_) jno_x
  first | refine j_astore_n (pc := 4) hX dJ5_removeFirst_4 rfl (by decide) rfl ?_ | refine j_astore_nN (pc := 4) hX dJ5_removeFirst_4 rfl (by decide) rfl ?_ | refine j_astore_nq (pc := 4) hX dJ5_removeFirst_4 rfl (by decide) rfl ?_
  first | refine j_aload_n (pc := 5) hX dJ5_removeFirst_5 rfl rfl ?_ | refine j_aload_nq (pc := 5) hX dJ5_removeFirst_5 rfl rfl ?_
  refine j_ifnonnull (pc := 6) (tgt := 17) hX dJ5_removeFirst_6 (by decide) ?_
  first | refine j_aload_n (pc := 17) hX dJ5_removeFirst_17 rfl rfl ?_ | refine j_aload_nq (pc := 17) hX dJ5_removeFirst_17 rfl rfl ?_
  first | exact j_aret hX hQ hr (by first | exact Or.inl ⟨_, rfl⟩ | exact Or.inr ⟨_, rfl⟩) dJ5_removeFirst_18 ⟨_, rfl, p_1⟩ | exact j_aretN hX hQ hr (by first | exact Or.inl ⟨_, rfl⟩ | exact Or.inr ⟨_, rfl⟩) dJ5_removeFirst_18 ⟨_, rfl, p_1⟩ | exact j_aretq hX hQ hr (by first | exact Or.inl ⟨_, rfl⟩ | exact Or.inr ⟨_, rfl⟩) dJ5_removeFirst_18 ⟨_, rfl, p_1⟩
theorem c_J5_pollLast (l : Launch) (G : JG) (H : Heap) (q arr hd x : Nat) {E : List Nat} (h : dqA G H q arr hd (E ++ [x])) : JMet l yJ5_pollLast (ws_ yJ5_pollLast cJ5_pollLast 4 (some (.object "java/lang/Object"))) 2 0 G H [.ref q] (jpa (fun r H1 => r = x ∧ dqA G H1 q arr hd E ∧ JFr (fun a => a = q ∨ a = arr) H H1)) (jno) := by
  refine JMet.of [(0, .inr (some q))] (by decide) (Nat.le_of_ble_eq_true rfl) rfl (fun X hl hX hQ hEx hr hnm hH => ?_)
  subst hl
  obtain ⟨ho, h2, h3, h4, h5, h6, h7⟩ := h
  rw [List.length_append, List.length_singleton] at h6 ho
  have ht : ((hd + (E.length + 1)) % 17 + 16) % 17 = (hd + E.length) % 17 := by omega
  have ht2 : (hd + E.length) % 17 < 17 := Nat.mod_lt _ (by decide)
  have hin : vp_in (nI ((hd + E.length) % 17)) 17 := vp_in_nI ht2 (by decide)
  have e0 : dqF hd (E ++ [x]) ((hd + E.length) % 17) = some x := by unfold dqF; rw [show ((hd + E.length) % 17 + 17 - hd) % 17 = E.length by omega]; simp
  first | refine j_aload_n (pc := 0) hX dJ5_pollLast_0 rfl rfl ?_ | refine j_aload_nq (pc := 0) hX dJ5_pollLast_0 rfl rfl ?_
  refine j_get (pc := 1) hX kg_J5_3 dJ5_pollLast_1 (by first | assumption | exact jow.r (by assumption)) (by rfl) ?_
  refine j_dup (pc := 4) hX dJ5_pollLast_4 (by first | rfl | exact jrf_cat _) ?_
  first | refine j_astore_n (pc := 5) hX dJ5_pollLast_5 rfl (by decide) rfl ?_ | refine j_astore_nN (pc := 5) hX dJ5_pollLast_5 rfl (by decide) rfl ?_ | refine j_astore_nq (pc := 5) hX dJ5_pollLast_5 rfl (by decide) rfl ?_
  first | refine j_aload_n (pc := 6) hX dJ5_pollLast_6 rfl rfl ?_ | refine j_aload_nq (pc := 6) hX dJ5_pollLast_6 rfl rfl ?_
  refine j_get (pc := 7) hX kg_J5_20 dJ5_pollLast_7 (by first | assumption | exact jow.r (by assumption)) (by rfl) ?_
  first | refine j_aload_n (pc := 10) hX dJ5_pollLast_10 rfl rfl ?_ | refine j_aload_nq (pc := 10) hX dJ5_pollLast_10 rfl rfl ?_
  refine j_alen (pc := 11) hX dJ5_pollLast_11 (jaw.r (t := 6) hX (by decide) h7) ?_
  refine j_rune (pc := 12) (jr_S (pc := 12) hX ks_J5_68 (c_J5_dec _ _ _ ((hd + (E.length + 1)) % 17) (Nat.mod_lt _ (by decide))) (by decide) dJ5_pollLast_12 rfl rfl (Nat.le_of_ble_eq_true rfl)) ?_ jno_x
  rw [ht]
  refine j_dup (pc := 15) hX dJ5_pollLast_15 (by first | rfl | exact jrf_cat _) ?_
  refine j_istore_n (pc := 16) hX dJ5_pollLast_16 rfl (by decide) rfl ?_
  refine j_runqe (pc := 17) (jr_S (pc := 17) hX ks_J5_103 (c_J5_elementAt _ _ _ arr ((hd + E.length) % 17) (jaw.r (t := 6) hX (by decide) h7) ht2) (by decide) dJ5_pollLast_17 rfl rfl (Nat.le_of_ble_eq_true rfl)) ?_ jno_x
  skip
  rw [e0]
  first | refine j_astore_n (pc := 20) hX dJ5_pollLast_20 rfl (by decide) rfl ?_ | refine j_astore_nN (pc := 20) hX dJ5_pollLast_20 rfl (by decide) rfl ?_ | refine j_astore_nq (pc := 20) hX dJ5_pollLast_20 rfl (by decide) rfl ?_
  first | refine j_aload_n (pc := 21) hX dJ5_pollLast_21 rfl rfl ?_ | refine j_aload_nq (pc := 21) hX dJ5_pollLast_21 rfl rfl ?_
  refine j_ifnull (pc := 22) hX dJ5_pollLast_22 ?_
  first | refine j_aload_n (pc := 25) hX dJ5_pollLast_25 rfl rfl ?_ | refine j_aload_nq (pc := 25) hX dJ5_pollLast_25 rfl rfl ?_
  first | refine j_aload_n (pc := 26) hX dJ5_pollLast_26 rfl rfl ?_ | refine j_aload_nq (pc := 26) hX dJ5_pollLast_26 rfl rfl ?_
  refine j_iload_n (pc := 27) hX dJ5_pollLast_27 rfl rfl ?_
  refine j_dup_x1 (pc := 28) hX dJ5_pollLast_28 (by first | rfl | exact jrf_cat _) (by first | rfl | exact jrf_cat _) ?_
  refine j_put (pc := 29) hX kp_J5_20 dJ5_pollLast_29 (by assumption) h2 rfl rfl rfl (fun H_29 w_29 n_29 => ?_)
  refine j_null (pc := 32) hX dJ5_pollLast_32 ?_
  skip
  refine j_aastN (pc := 33) hX ⟨by decide, by decide⟩ dJ5_pollLast_33 (t := 6) (n := 17) (f := dqF hd (E ++ [x])) (h7.put w_29 h4) h3 hin (fun H_33 w_33 n_33 => ?_)
  rw [nI_clamp (by omega)] at n_33
  first | refine j_aload_n (pc := 34) hX dJ5_pollLast_34 rfl rfl ?_ | refine j_aload_nq (pc := 34) hX dJ5_pollLast_34 rfl rfl ?_
  first | exact j_aret hX hQ hr (by first | exact Or.inl ⟨_, rfl⟩ | exact Or.inr ⟨_, rfl⟩) dJ5_pollLast_35 ⟨_, rfl, rfl, ⟨n_29.put w_33 (fun e => h4 e.symm), h2, h3, h4, h5, by omega, n_33.congr (fun j hj => congrArg va_rf (dqF_last h5 (by omega) j hj).symm)⟩, (w_29.fr (Or.inl rfl)).put w_33 (fun _ => Or.inr rfl)⟩ | exact j_aretN hX hQ hr (by first | exact Or.inl ⟨_, rfl⟩ | exact Or.inr ⟨_, rfl⟩) dJ5_pollLast_35 ⟨_, rfl, rfl, ⟨n_29.put w_33 (fun e => h4 e.symm), h2, h3, h4, h5, by omega, n_33.congr (fun j hj => congrArg va_rf (dqF_last h5 (by omega) j hj).symm)⟩, (w_29.fr (Or.inl rfl)).put w_33 (fun _ => Or.inr rfl)⟩ | exact j_aretq hX hQ hr (by first | exact Or.inl ⟨_, rfl⟩ | exact Or.inr ⟨_, rfl⟩) dJ5_pollLast_35 ⟨_, rfl, rfl, ⟨n_29.put w_33 (fun e => h4 e.symm), h2, h3, h4, h5, by omega, n_33.congr (fun j hj => congrArg va_rf (dqF_last h5 (by omega) j hj).symm)⟩, (w_29.fr (Or.inl rfl)).put w_33 (fun _ => Or.inr rfl)⟩
theorem c_J5_removeLast (l : Launch) (G : JG) (H : Heap) (q arr hd x : Nat) {E : List Nat} (h : dqA G H q arr hd (E ++ [x])) : JMet l yJ5_removeLast (ws_ yJ5_removeLast cJ5_removeLast 2 (some (.object "java/lang/Object"))) 3 0 G H [.ref q] (jpa (fun r H1 => r = x ∧ dqA G H1 q arr hd E ∧ JFr (fun a => a = q ∨ a = arr) H H1)) (jno) := by
  refine JMet.of [(0, .inr (some q))] (by decide) (Nat.le_of_ble_eq_true rfl) rfl (fun X hl hX hQ hEx hr hnm hH => ?_)
  subst hl
  have ho := h.1
  first | refine j_aload_n (pc := 0) hX dJ5_removeLast_0 rfl rfl ?_ | refine j_aload_nq (pc := 0) hX dJ5_removeLast_0 rfl rfl ?_
  refine j_runa (pc := 1) (jr_V (pc := 1) hX kv_J5_100 (by first | assumption | exact jow.r (by assumption)) (c_J5_pollLast _ _ _ q arr hd x h) (by decide) dJ5_removeLast_1 rfl rfl (Nat.le_of_ble_eq_true rfl)) (fun r_1 H_1 p_1 z_1 => ?_) jno_x
  first | refine j_astore_n (pc := 4) hX dJ5_removeLast_4 rfl (by decide) rfl ?_ | refine j_astore_nN (pc := 4) hX dJ5_removeLast_4 rfl (by decide) rfl ?_ | refine j_astore_nq (pc := 4) hX dJ5_removeLast_4 rfl (by decide) rfl ?_
  first | refine j_aload_n (pc := 5) hX dJ5_removeLast_5 rfl rfl ?_ | refine j_aload_nq (pc := 5) hX dJ5_removeLast_5 rfl rfl ?_
  refine j_ifnonnull (pc := 6) (tgt := 17) hX dJ5_removeLast_6 (by decide) ?_
  first | refine j_aload_n (pc := 17) hX dJ5_removeLast_17 rfl rfl ?_ | refine j_aload_nq (pc := 17) hX dJ5_removeLast_17 rfl rfl ?_
  first | exact j_aret hX hQ hr (by first | exact Or.inl ⟨_, rfl⟩ | exact Or.inr ⟨_, rfl⟩) dJ5_removeLast_18 ⟨_, rfl, p_1⟩ | exact j_aretN hX hQ hr (by first | exact Or.inl ⟨_, rfl⟩ | exact Or.inr ⟨_, rfl⟩) dJ5_removeLast_18 ⟨_, rfl, p_1⟩ | exact j_aretq hX hQ hr (by first | exact Or.inl ⟨_, rfl⟩ | exact Or.inr ⟨_, rfl⟩) dJ5_removeLast_18 ⟨_, rfl, p_1⟩
theorem c_J5_circularClear (l : Launch) (G : JG) (H : Heap) (arr i e : Nat) {f : Nat → Option Nat} (h : jaw G H arr 6 17 (fun j => va_rf (f j))) (h3 : (gs G).heap.size ≤ arr) (hi : i < 17) (he : e < 17) (hf : ∀ j, j < 17 → f j ≠ none → (i ≤ e → i ≤ j ∧ j < e) ∧ (e < i → i ≤ j ∨ j < e)) : JMet l yJ5_circularClear (ws_ yJ5_circularClear cJ5_circularClear 4 none) 1 0 G H [.ref arr, .int (nI i), .int (nI e)] (jpv (fun H1 => jaw G H1 arr 6 17 (fun _ => va_rf none) ∧ JFr (fun a => a = arr) H H1)) (jno) := by
  refine JMet.of [(0, .inr (some arr)), (1, .inl (.int (nI i))), (2, .inl (.int (nI e)))] (by decide) (Nat.le_of_ble_eq_true rfl) rfl (fun X hl hX hQ hEx hr hnm hH => ?_)
  subst hl
  have run : ∀ (n i to : Nat) (f : Nat → Option Nat) (H1 : Heap), n + i = to → to ≤ 17 → jaw G H1 arr 6 17 (fun j => va_rf (f j)) → JFr (fun a => a = arr) H H1 → (∀ (f : Nat → Option Nat) (H1 : Heap), jaw G H1 arr 6 17 (fun j => va_rf (f j)) → JFr (fun a => a = arr) H H1 → (∀ j, j < 17 → f j ≠ none → to ≠ e ∧ j < e) → JW X G H1 0 27 [(0, .inr (some arr)), (1, .inl (.int (nI to))), (2, .inl (.int (nI e))), (3, .inl (.int (nI to)))] []) → (∀ j, j < 17 → f j ≠ none → (i ≤ j ∧ j < to) ∨ (to ≠ e ∧ j < e)) → JW X G H1 0 12 [(0, .inr (some arr)), (1, .inl (.int (nI i))), (2, .inl (.int (nI e))), (3, .inl (.int (nI to)))] [] := by
    intro n
    induction n with
    | zero =>
      intro i to f H1 hn ht h hF k hf
      have : i = to := by omega
      subst this
      refine j_iload_n (pc := 12) hX dJ5_circularClear_12 rfl rfl ?_
      refine j_iload_n (pc := 13) hX dJ5_circularClear_13 rfl rfl ?_
      refine j_icmp_ge (pc := 14) (tgt := 27) hX dJ5_circularClear_14 (by decide) (fun c_14 => ?_) (fun c_14 => ?_)
      rotate_left
      · exact absurd (nI_le (Nat.le_refl i) (by omega)) c_14
      exact k f H1 h hF (fun j hj hne => (hf j hj hne).resolve_left (fun z => by omega))
    | succ n ih =>
      intro i to f H1 hn ht h hF k hf
      have hin : vp_in (nI i) 17 := vp_in_nI (by omega) (by decide)
      refine j_iload_n (pc := 12) hX dJ5_circularClear_12 rfl rfl ?_
      refine j_iload_n (pc := 13) hX dJ5_circularClear_13 rfl rfl ?_
      refine j_icmp_ge (pc := 14) (tgt := 27) hX dJ5_circularClear_14 (by decide) (fun c_14 => ?_) (fun c_14 => ?_)
      · exact absurd c_14 (nI_ge (show i < to by omega) (by omega))
      first | refine j_aload_n (pc := 17) hX dJ5_circularClear_17 rfl rfl ?_ | refine j_aload_nq (pc := 17) hX dJ5_circularClear_17 rfl rfl ?_
      refine j_iload_n (pc := 18) hX dJ5_circularClear_18 rfl rfl ?_
      refine j_null (pc := 19) hX dJ5_circularClear_19 ?_
      skip
      refine j_aastN (pc := 20) hX ⟨by decide, by decide⟩ dJ5_circularClear_20 (t := 6) (n := 17) (f := f) h h3 hin (fun H_20 w_20 n_20 => ?_)
      rw [nI_clamp (by omega)] at n_20
      refine j_iincc (pc := 21) (m := 1) hX dJ5_circularClear_21 rfl (by decide) (by decide) rfl ?_
      refine j_goto (pc := 24) (tgt := 12) hX dJ5_circularClear_24 (by decide) ?_
      exact j_lv (by simp [jsb, jget, jval, nI_1]) (ih (i + 1) to _ H_20 (by omega) ht n_20 (hF.put w_20 (fun _ => rfl)) k (fun j hj hne => by unfold jup at hne; split at hne; exact absurd rfl hne; rcases hf j hj hne with z | z; exact Or.inl (by omega); exact Or.inr z))
  have fin : ∀ (f : Nat → Option Nat) (H1 : Heap), jaw G H1 arr 6 17 (fun j => va_rf (f j)) → JFr (fun a => a = arr) H H1 → (∀ j, j < 17 → f j = none) → JW X G H1 0 42 [] [] := by
    intro f H1 h hF hf
    exact j_vret hX hQ hr dJ5_circularClear_42 ⟨rfl, h.congr (fun j hj => by rw [hf j hj]), hF⟩
  have again : ∀ (f : Nat → Option Nat) (H1 : Heap), jaw G H1 arr 6 17 (fun j => va_rf (f j)) → JFr (fun a => a = arr) H H1 → (∀ j, j < 17 → f j ≠ none → e ≠ e ∧ j < e) → JW X G H1 0 27 [(0, .inr (some arr)), (1, .inl (.int (nI e))), (2, .inl (.int (nI e))), (3, .inl (.int (nI e)))] [] := by
    intro f H1 h hF hf
    refine j_iload_n (pc := 27) hX dJ5_circularClear_27 rfl rfl ?_
    refine j_iload_n (pc := 28) hX dJ5_circularClear_28 rfl rfl ?_
    refine j_icmp_ne (pc := 29) (tgt := 35) hX dJ5_circularClear_29 (by decide) (fun c_29 => ?_) (fun c_29 => ?_)
    · exact absurd rfl c_29
    refine j_goto (pc := 32) (tgt := 42) hX dJ5_circularClear_32 (by decide) ?_
    exact j_lv (by simp [jsb]) (fin f H1 h hF (fun j hj => Classical.byContradiction fun z => (hf j hj z).1 rfl))
  have start : ∀ to : Nat, to ≤ 17 → i ≤ to → (to = e ∨ (to = 17 ∧ e < i)) → JW X G H 0 12 [(0, .inr (some arr)), (1, .inl (.int (nI i))), (2, .inl (.int (nI e))), (3, .inl (.int (nI to)))] [] := by
    intro to ht hit hor
    refine run (to - i) i to f H (by omega) ht h JFr.rfl' (fun f H1 h hF hf => ?_) (fun j hj hne => ?_)
    · refine j_iload_n (pc := 27) hX dJ5_circularClear_27 rfl rfl ?_
      refine j_iload_n (pc := 28) hX dJ5_circularClear_28 rfl rfl ?_
      refine j_icmp_ne (pc := 29) (tgt := 35) hX dJ5_circularClear_29 (by decide) (fun c_29 => ?_) (fun c_29 => ?_)
      · rw [nI_eq (by omega) (by omega)] at c_29
        refine j_iconst (pc := 35) (v := 0) hX dJ5_circularClear_35 (by decide) ?_
        refine j_istore_n (pc := 36) hX dJ5_circularClear_36 rfl (by decide) rfl ?_
        refine j_iload_n (pc := 37) hX dJ5_circularClear_37 rfl rfl ?_
        refine j_istore_n (pc := 38) hX dJ5_circularClear_38 rfl (by decide) rfl ?_
        refine j_goto (pc := 39) (tgt := 12) hX dJ5_circularClear_39 (by decide) ?_
        exact j_lv (by simp [jsb, jget, jval, nI_0]) (run e 0 e f H1 (by omega) (by omega) h hF again (fun j hj hne => Or.inl ⟨Nat.zero_le _, (hf j hj hne).2⟩))
      · rw [nI_eq (by omega) (by omega)] at c_29
        refine j_goto (pc := 32) (tgt := 42) hX dJ5_circularClear_32 (by decide) ?_
        exact j_lv (by simp [jsb]) (fin f H1 h hF (fun j hj => Classical.byContradiction fun z => (hf j hj z).1 c_29))
    · have := hf j hj hne
      rcases hor with z | z <;> omega
  refine j_iload_n (pc := 0) hX dJ5_circularClear_0 rfl rfl ?_
  refine j_iload_n (pc := 1) hX dJ5_circularClear_1 rfl rfl ?_
  refine j_icmp_gt (pc := 2) (tgt := 9) hX dJ5_circularClear_2 (by decide) (fun c_2 => ?_) (fun c_2 => ?_)
  · rw [nI_ltI (by omega) (by omega)] at c_2
    first | refine j_aload_n (pc := 9) hX dJ5_circularClear_9 rfl rfl ?_ | refine j_aload_nq (pc := 9) hX dJ5_circularClear_9 rfl rfl ?_
    refine j_alen (pc := 10) hX dJ5_circularClear_10 (jaw.r (t := 6) hX (by decide) h) ?_
    refine j_istore_n (pc := 11) hX dJ5_circularClear_11 rfl (by decide) rfl ?_
    first | exact start e (by omega) (by omega) (Or.inl rfl) | exact start 17 (by omega) (by omega) (Or.inr ⟨rfl, c_2⟩)
  · rw [nI_ltI (by omega) (by omega)] at c_2
    refine j_iload_n (pc := 5) hX dJ5_circularClear_5 rfl rfl ?_
    refine j_goto (pc := 6) (tgt := 11) hX dJ5_circularClear_6 (by decide) ?_
    refine j_istore_n (pc := 11) hX dJ5_circularClear_11 rfl (by decide) rfl ?_
    first | exact start e (by omega) (by omega) (Or.inl rfl) | exact start 17 (by omega) (by omega) (Or.inr ⟨rfl, c_2⟩)
theorem c_J5_clear (l : Launch) (G : JG) (H : Heap) (q arr hd : Nat) {E : List Nat} (h : dqA G H q arr hd E) : JMet l yJ5_clear (ws_ yJ5_clear cJ5_clear 1 none) 2 0 G H [.ref q] (jpv (fun H1 => dqA G H1 q arr 0 [] ∧ JFr (fun a => a = q ∨ a = arr) H H1)) (jno) := by
  refine JMet.of [(0, .inr (some q))] (by decide) (Nat.le_of_ble_eq_true rfl) rfl (fun X hl hX hQ hEx hr hnm hH => ?_)
  subst hl
  obtain ⟨ho, h2, h3, h4, h5, h6, h7⟩ := h
  first | refine j_aload_n (pc := 0) hX dJ5_clear_0 rfl rfl ?_ | refine j_aload_nq (pc := 0) hX dJ5_clear_0 rfl rfl ?_
  refine j_get (pc := 1) hX kg_J5_3 dJ5_clear_1 (by first | assumption | exact jow.r (by assumption)) (by rfl) ?_
  first | refine j_aload_n (pc := 4) hX dJ5_clear_4 rfl rfl ?_ | refine j_aload_nq (pc := 4) hX dJ5_clear_4 rfl rfl ?_
  refine j_get (pc := 5) hX kg_J5_24 dJ5_clear_5 (by first | assumption | exact jow.r (by assumption)) (by rfl) ?_
  first | refine j_aload_n (pc := 8) hX dJ5_clear_8 rfl rfl ?_ | refine j_aload_nq (pc := 8) hX dJ5_clear_8 rfl rfl ?_
  refine j_get (pc := 9) hX kg_J5_20 dJ5_clear_9 (by first | assumption | exact jow.r (by assumption)) (by rfl) ?_
  refine j_runv (pc := 12) (jr_S (pc := 12) hX ks_J5_181 (c_J5_circularClear _ _ _ arr hd ((hd + E.length) % 17) h7 h3 h5 (Nat.mod_lt _ (by decide)) (fun j hj hne => by have hlt : (j + 17 - hd) % 17 < E.length := Nat.lt_of_not_le (fun z => hne (List.getElem?_eq_none z)); omega)) (by decide) dJ5_clear_12 rfl rfl (Nat.le_of_ble_eq_true rfl)) (fun H_12 p_12 z_12 => ?_) jno_x
  obtain ⟨ha, hF⟩ := p_12
  have ho := ho.fr hF (fun e => h4 e.symm)
  first | refine j_aload_n (pc := 15) hX dJ5_clear_15 rfl rfl ?_ | refine j_aload_nq (pc := 15) hX dJ5_clear_15 rfl rfl ?_
  first | refine j_aload_n (pc := 16) hX dJ5_clear_16 rfl rfl ?_ | refine j_aload_nq (pc := 16) hX dJ5_clear_16 rfl rfl ?_
  refine j_iconst (pc := 17) (v := 0) hX dJ5_clear_17 (by decide) ?_
  refine j_dup_x1 (pc := 18) hX dJ5_clear_18 (by first | rfl | exact jrf_cat _) (by first | rfl | exact jrf_cat _) ?_
  refine j_put (pc := 19) hX kp_J5_20 dJ5_clear_19 (by assumption) h2 rfl rfl rfl (fun H_19 w_19 n_19 => ?_)
  refine j_put (pc := 22) hX kp_J5_24 dJ5_clear_22 n_19 h2 rfl rfl rfl (fun H_22 w_22 n_22 => ?_)
  exact j_vret hX hQ hr dJ5_clear_25 ⟨rfl, ⟨n_22, h2, h3, h4, by omega, by simp, ((ha.put w_19 h4).put w_22 h4).congr (fun j _ => by simp [dqF])⟩, ((hF.weak (Q := fun a => a = q ∨ a = arr) (fun a _ e => Or.inr e)).put w_19 (fun _ => Or.inl rfl)).put w_22 (fun _ => Or.inl rfl)⟩
