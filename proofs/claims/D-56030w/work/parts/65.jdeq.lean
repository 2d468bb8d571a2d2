/-! the deque: a ring of seventeen places, at most eight filled -/
set_option maxRecDepth 100000
def dqF (hd : Nat) (E : List Nat) (j : Nat) : Option Nat := E[(j + 17 - hd) % 17]?
def dqA (G : JG) (H : Heap) (q arr hd : Nat) (E : List Nat) : Prop := jow G H q 13 [.ref arr, .int (nI hd), .int (nI ((hd + E.length) % 17))] ∧ (gs G).heap.size ≤ q ∧ (gs G).heap.size ≤ arr ∧ arr ≠ q ∧ hd < 17 ∧ E.length ≤ 8 ∧ jaw G H arr 6 17 (fun j => va_rf (dqF hd E j))
theorem dqA.kept {G : JG} {H H1 : Heap} {q arr hd : Nat} {E : List Nat} (h : dqA G H q arr hd E) (e1 : H1[q]? = H[q]?) (e2 : H1[arr]? = H[arr]?) : dqA G H1 q arr hd E := by
  obtain ⟨h1, h2, h3, h4, h5, h6, h7⟩ := h
  exact ⟨h1.kept e1, h2, h3, h4, h5, h6, h7.kept e2⟩
theorem c_J5_sub (l : Launch) (G : JG) (H : Heap) (t h : Nat) (ht : t < 17) (hh : h < 17) : JMet l yJ5_sub (ws_ yJ5_sub cJ5_sub 3 (some .int)) 1 0 G H [.int (nI t), .int (nI h), .int (nI 17)] (jpe H (nI ((t + 17 - h) % 17))) (jno) := by
  refine JMet.of [(0, .inl (.int (nI t))), (1, .inl (.int (nI h))), (2, .inl (.int (nI 17)))] (by decide) (Nat.le_of_ble_eq_true rfl) rfl (fun X hl hX hQ hEx hr hnm hH => ?_)
  subst hl
  rcases Nat.lt_or_ge t h with c | c
  · have e : nI t - nI h = zI ((t : Int) - h) := by rw [nI_zI, nI_zI, zI_sub]
    refine j_iload_n (pc := 0) hX dJ5_sub_0 rfl rfl ?_
    refine j_iload_n (pc := 1) hX dJ5_sub_1 rfl rfl ?_
    refine j_isub (pc := 2) hX dJ5_sub_2 ?_
    rw [e]
    refine j_dup (pc := 3) hX dJ5_sub_3 (by first | rfl | exact jrf_cat _) ?_
    refine j_istore_n (pc := 4) hX dJ5_sub_4 rfl (by decide) rfl ?_
    refine j_if_ge (pc := 5) (tgt := 12) hX dJ5_sub_5 (by decide) (fun c_5 => ?_) (fun c_5 => ?_)
    · exact absurd (show zI 0 ≤ zI ((t : Int) - h) from c_5) (by rw [zI_le (by omega) (by omega)]; omega)
    refine j_iload_n (pc := 8) hX dJ5_sub_8 rfl rfl ?_
    refine j_iload_n (pc := 9) hX dJ5_sub_9 rfl rfl ?_
    refine j_iadd (pc := 10) hX dJ5_sub_10 ?_
    rw [show zI ((t : Int) - h) + nI 17 = nI (t + 17 - h) from by rw [nI_zI, nI_zI, zI_add]; congr 1; omega]
    refine j_istore_n (pc := 11) hX dJ5_sub_11 rfl (by decide) rfl ?_
    refine j_iload_n (pc := 12) hX dJ5_sub_12 rfl rfl ?_
    exact j_iret hX hQ hr dJ5_sub_13 ⟨_, rfl, rfl, by rw [Nat.mod_eq_of_lt (by omega)]⟩
  · refine j_iload_n (pc := 0) hX dJ5_sub_0 rfl rfl ?_
    refine j_iload_n (pc := 1) hX dJ5_sub_1 rfl rfl ?_
    refine j_isub (pc := 2) hX dJ5_sub_2 ?_
    rw [nI_subN c]
    refine j_dup (pc := 3) hX dJ5_sub_3 (by first | rfl | exact jrf_cat _) ?_
    refine j_istore_n (pc := 4) hX dJ5_sub_4 rfl (by decide) rfl ?_
    refine j_if_ge (pc := 5) (tgt := 12) hX dJ5_sub_5 (by decide) (fun c_5 => ?_) (fun c_5 => ?_)
    rotate_left
    · exact absurd (show 0 ≤ nI (t - h) from nI_pos' (by omega)) c_5
    refine j_iload_n (pc := 12) hX dJ5_sub_12 rfl rfl ?_
    exact j_iret hX hQ hr dJ5_sub_13 ⟨_, rfl, rfl, by rw [show t + 17 - h = (t - h) + 17 by omega, Nat.add_mod_right, Nat.mod_eq_of_lt (by omega)]⟩
theorem c_J5_inc (l : Launch) (G : JG) (H : Heap) (i : Nat) (hi : i < 17) : JMet l yJ5_inc (ws_ yJ5_inc cJ5_inc 2 (some .int)) 1 0 G H [.int (nI i), .int (nI 17)] (jpe H (nI ((i + 1) % 17))) (jno) := by
  refine JMet.of [(0, .inl (.int (nI i))), (1, .inl (.int (nI 17)))] (by decide) (Nat.le_of_ble_eq_true rfl) rfl (fun X hl hX hQ hEx hr hnm hH => ?_)
  subst hl
  refine j_iincc (pc := 0) (m := 1) hX dJ5_inc_0 rfl (by decide) (by decide) rfl ?_
  rw [nI_1]
  refine j_iload_n (pc := 3) hX dJ5_inc_3 rfl rfl ?_
  refine j_iload_n (pc := 4) hX dJ5_inc_4 rfl rfl ?_
  refine j_icmp_lt (pc := 5) (tgt := 10) hX dJ5_inc_5 (by decide) (fun c_5 => ?_) (fun c_5 => ?_)
  · rw [nI_ltI (by omega) (by omega)] at c_5
    refine j_iload_n (pc := 10) hX dJ5_inc_10 rfl rfl ?_
    exact j_iret hX hQ hr dJ5_inc_11 ⟨_, rfl, rfl, by first | (rw [Nat.mod_eq_of_lt c_5]; done) | (rw [show i + 1 = 17 by omega]; rfl)⟩
  · rw [nI_ltI (by omega) (by omega)] at c_5
    refine j_iconst (pc := 8) (v := 0) hX dJ5_inc_8 (by decide) ?_
    refine j_istore_n (pc := 9) hX dJ5_inc_9 rfl (by decide) rfl ?_
    refine j_iload_n (pc := 10) hX dJ5_inc_10 rfl rfl ?_
    exact j_iret hX hQ hr dJ5_inc_11 ⟨_, rfl, rfl, by first | (rw [Nat.mod_eq_of_lt c_5]; done) | (rw [show i + 1 = 17 by omega]; rfl)⟩
theorem c_J5_dec (l : Launch) (G : JG) (H : Heap) (i : Nat) (hi : i < 17) : JMet l yJ5_dec (ws_ yJ5_dec cJ5_dec 2 (some .int)) 1 0 G H [.int (nI i), .int (nI 17)] (jpe H (nI ((i + 16) % 17))) (jno) := by
  refine JMet.of [(0, .inl (.int (nI i))), (1, .inl (.int (nI 17)))] (by decide) (Nat.le_of_ble_eq_true rfl) rfl (fun X hl hX hQ hEx hr hnm hH => ?_)
  subst hl
  rcases Nat.eq_zero_or_pos i with c | c
  · subst c
    refine j_iincc (pc := 0) (m := -1) hX dJ5_dec_0 rfl (by decide) (by decide) rfl ?_
    refine j_iload_n (pc := 3) hX dJ5_dec_3 rfl rfl ?_
    refine j_if_ge (pc := 4) (tgt := 11) hX dJ5_dec_4 (by decide) (fun c_4 => ?_) (fun c_4 => ?_)
    · exact absurd c_4 (by decide)
    refine j_iload_n (pc := 7) hX dJ5_dec_7 rfl rfl ?_
    refine j_iconst (pc := 8) (v := 1) hX dJ5_dec_8 (by decide) ?_
    refine j_isub (pc := 9) hX dJ5_dec_9 ?_
    refine j_istore_n (pc := 10) hX dJ5_dec_10 rfl (by decide) rfl ?_
    refine j_iload_n (pc := 11) hX dJ5_dec_11 rfl rfl ?_
    exact j_iret hX hQ hr dJ5_dec_12 ⟨_, rfl, rfl, by rfl⟩
  · obtain ⟨n, rfl⟩ : ∃ n, i = n + 1 := ⟨i - 1, by omega⟩
    refine j_iincc (pc := 0) (m := -1) hX dJ5_dec_0 rfl (by decide) (by decide) rfl ?_
    rw [nI_dec, nI_pred]
    refine j_iload_n (pc := 3) hX dJ5_dec_3 rfl rfl ?_
    refine j_if_ge (pc := 4) (tgt := 11) hX dJ5_dec_4 (by decide) (fun c_4 => ?_) (fun c_4 => ?_)
    rotate_left
    · exact absurd (nI_pos' (by omega)) c_4
    refine j_iload_n (pc := 11) hX dJ5_dec_11 rfl rfl ?_
    exact j_iret hX hQ hr dJ5_dec_12 ⟨_, rfl, rfl, by rw [show n + 1 + 16 = n + 17 by omega, Nat.add_mod_right, Nat.mod_eq_of_lt (by omega)]⟩
theorem c_J5_init (l : Launch) (G : JG) (H : Heap) (q : Nat) (h : jow G H q 13 [.null, .int 0, .int 0]) (hq : (gs G).heap.size ≤ q) : JMet l yJ5_init (ws_ yJ5_init cJ5_init 1 none) 3 5 G H [.ref q] (jpv (fun H1 => ∃ arr, H.size ≤ arr ∧ dqA G H1 q arr 0 [] ∧ JFr (fun a => a = q) H H1)) (jno) := by
  refine JMet.of [(0, .inr (some q))] (by decide) (Nat.le_of_ble_eq_true rfl) rfl (fun X hl hX hQ hEx hr hnm hH => ?_)
  subst hl
  have hlt := h.lt
  first | refine j_aload_n (pc := 0) hX dJ5_init_0 rfl rfl ?_ | refine j_aload_nq (pc := 0) hX dJ5_init_0 rfl rfl ?_
  change JW X G H (5 + 0) 1 _ _
  refine j_runve (pc := 1) (jr_I (pc := 1) hX ki_J5_42 (c_J2_init _ _ _ q h.r) (by decide) dJ5_init_1 rfl rfl (Nat.le_of_ble_eq_true rfl)) ?_ jno_x
  first | refine j_aload_n (pc := 4) hX dJ5_init_4 rfl rfl ?_ | refine j_aload_nq (pc := 4) hX dJ5_init_4 rfl rfl ?_
  refine j_bipush (pc := 5) (v := 17) hX dJ5_init_5 (by decide) ?_
  refine j_anew (pc := 7) hX kr_J5_47 17 5 rfl (by omega) (by omega) dJ5_init_7 (fun H_7 z_7 e_7 n_7 b_7 => ?_)
  refine j_put (pc := 10) hX kp_J5_3 dJ5_init_10 (h.ext e_7) hq rfl rfl rfl (fun H_10 w_10 n_10 => ?_)
  exact j_vret hX hQ hr dJ5_init_13 ⟨rfl, H.size, Nat.le_refl _, ⟨n_10, hq, by omega, by omega, by omega, by simp, (n_7.put w_10 (by omega)).congr (fun j _ => by simp [dqF])⟩, e_7.fr.put w_10 (fun _ => rfl)⟩
theorem c_J5_size (l : Launch) (G : JG) (H : Heap) (q arr hd : Nat) {E : List Nat} (h : dqA G H q arr hd E) : JMet l yJ5_size (ws_ yJ5_size cJ5_size 1 (some .int)) 2 0 G H [.ref q] (jpe H (nI E.length)) (jno) := by
  refine JMet.of [(0, .inr (some q))] (by decide) (Nat.le_of_ble_eq_true rfl) rfl (fun X hl hX hQ hEx hr hnm hH => ?_)
  subst hl
  obtain ⟨ho, h2, h3, h4, h5, h6, h7⟩ := h
  first | refine j_aload_n (pc := 0) hX dJ5_size_0 rfl rfl ?_ | refine j_aload_nq (pc := 0) hX dJ5_size_0 rfl rfl ?_
  refine j_get (pc := 1) hX kg_J5_20 dJ5_size_1 (by first | assumption | exact jow.r (by assumption)) (by rfl) ?_
  first | refine j_aload_n (pc := 4) hX dJ5_size_4 rfl rfl ?_ | refine j_aload_nq (pc := 4) hX dJ5_size_4 rfl rfl ?_
  refine j_get (pc := 5) hX kg_J5_24 dJ5_size_5 (by first | assumption | exact jow.r (by assumption)) (by rfl) ?_
  first | refine j_aload_n (pc := 8) hX dJ5_size_8 rfl rfl ?_ | refine j_aload_nq (pc := 8) hX dJ5_size_8 rfl rfl ?_
  refine j_get (pc := 9) hX kg_J5_3 dJ5_size_9 (by first | assumption | exact jow.r (by assumption)) (by rfl) ?_
  refine j_alen (pc := 12) hX dJ5_size_12 (jaw.r (t := 6) hX (by decide) h7) ?_
  refine j_rune (pc := 13) (jr_S (pc := 13) hX ks_J5_127 (c_J5_sub _ _ _ ((hd + E.length) % 17) hd (Nat.mod_lt _ (by decide)) h5) (by decide) dJ5_size_13 rfl rfl (Nat.le_of_ble_eq_true rfl)) ?_ jno_x
  exact j_iret hX hQ hr dJ5_size_16 ⟨_, rfl, rfl, by congr 1; omega⟩
theorem c_J5_isEmpty (l : Launch) (G : JG) (H : Heap) (q arr hd : Nat) {E : List Nat} (h : dqA G H q arr hd E) : JMet l yJ5_isEmpty (ws_ yJ5_isEmpty cJ5_isEmpty 1 (some .boolean)) 1 0 G H [.ref q] (jpe H (jb (decide (E.length = 0)))) (jno) := by
  refine JMet.of [(0, .inr (some q))] (by decide) (Nat.le_of_ble_eq_true rfl) rfl (fun X hl hX hQ hEx hr hnm hH => ?_)
  subst hl
  obtain ⟨ho, h2, h3, h4, h5, h6, h7⟩ := h
  first | refine j_aload_n (pc := 0) hX dJ5_isEmpty_0 rfl rfl ?_ | refine j_aload_nq (pc := 0) hX dJ5_isEmpty_0 rfl rfl ?_
  refine j_get (pc := 1) hX kg_J5_24 dJ5_isEmpty_1 (by first | assumption | exact jow.r (by assumption)) (by rfl) ?_
  first | refine j_aload_n (pc := 4) hX dJ5_isEmpty_4 rfl rfl ?_ | refine j_aload_nq (pc := 4) hX dJ5_isEmpty_4 rfl rfl ?_
  refine j_get (pc := 5) hX kg_J5_20 dJ5_isEmpty_5 (by first | assumption | exact jow.r (by assumption)) (by rfl) ?_
  refine j_icmp_ne (pc := 8) (tgt := 15) hX dJ5_isEmpty_8 (by decide) (fun c_8 => ?_) (fun c_8 => ?_)
  · rw [nI_eq (by omega) (by omega)] at c_8
    refine j_iconst (pc := 15) (v := 0) hX dJ5_isEmpty_15 (by decide) ?_
    exact j_zret hX hQ hr (by first | rfl | exact jb_nar _ | exact nI_narC _ | assumption) dJ5_isEmpty_16 ⟨_, rfl, rfl, by rw [jb]; first | (rw [if_pos (by rw [decide_eq_true_eq]; omega)]; done) | (rw [if_neg (by rw [decide_eq_true_eq]; omega)]; done)⟩
  · rw [nI_eq (by omega) (by omega)] at c_8
    refine j_iconst (pc := 11) (v := 1) hX dJ5_isEmpty_11 (by decide) ?_
    refine j_goto (pc := 12) (tgt := 16) hX dJ5_isEmpty_12 (by decide) ?_
    exact j_zret hX hQ hr (by first | rfl | exact jb_nar _ | exact nI_narC _ | assumption) dJ5_isEmpty_16 ⟨_, rfl, rfl, by rw [jb]; first | (rw [if_pos (by rw [decide_eq_true_eq]; omega)]; done) | (rw [if_neg (by rw [decide_eq_true_eq]; omega)]; done)⟩
theorem dqF_snoc {hd x : Nat} {E : List Nat} (h5 : hd < 17) (h6 : E.length < 16) (j : Nat) (hj : j < 17) : jup (dqF hd E) ((hd + E.length) % 17) (some x) j = dqF hd (E ++ [x]) j := by
  unfold jup dqF
  by_cases e : j = (hd + E.length) % 17
  · rw [if_pos e, show (j + 17 - hd) % 17 = E.length by omega]; simp
  · rw [if_neg e]
    by_cases h : (j + 17 - hd) % 17 < E.length
    · rw [List.getElem?_append_left h]
    · rw [List.getElem?_eq_none (by omega), List.getElem?_eq_none (by rw [List.length_append]; simp; omega)]
theorem c_J5_addLast (l : Launch) (G : JG) (H : Heap) (q arr hd : Nat) {E : List Nat} (h : dqA G H q arr hd E) (hl : E.length < 8) (x : Nat) {ci : Nat} {vs : List Value} (hx : job G H x ci vs) (ks : JAs 6 ci) : JMet l yJ5_addLast (ws_ yJ5_addLast cJ5_addLast 3 none) 2 0 G H [.ref q, .ref x] (jpv (fun H1 => dqA G H1 q arr hd (E ++ [x]) ∧ JFr (fun a => a = q ∨ a = arr) H H1)) (jno) := by
  refine JMet.of [(0, .inr (some q)), (1, .inr (some x))] (by decide) (Nat.le_of_ble_eq_true rfl) rfl (fun X hl hX hQ hEx hr hnm hH => ?_)
  subst hl
  obtain ⟨ho, h2, h3, h4, h5, h6, h7⟩ := h
  have hin : vp_in (nI ((hd + E.length) % 17)) 17 := vp_in_nI (Nat.mod_lt _ (by decide)) (by decide)
  first | refine j_aload_n (pc := 0) hX dJ5_addLast_0 rfl rfl ?_ | refine j_aload_nq (pc := 0) hX dJ5_addLast_0 rfl rfl ?_
  refine j_ifnonnull (pc := 1) (tgt := 12) hX dJ5_addLast_1 (by decide) ?_
  first | refine j_aload_n (pc := 12) hX dJ5_addLast_12 rfl rfl ?_ | refine j_aload_nq (pc := 12) hX dJ5_addLast_12 rfl rfl ?_
  refine j_get (pc := 13) hX kg_J5_3 dJ5_addLast_13 (by first | assumption | exact jow.r (by assumption)) (by rfl) ?_
  first | refine j_astore_n (pc := 16) hX dJ5_addLast_16 rfl (by decide) rfl ?_ | refine j_astore_nN (pc := 16) hX dJ5_addLast_16 rfl (by decide) rfl ?_ | refine j_astore_nq (pc := 16) hX dJ5_addLast_16 rfl (by decide) rfl ?_
  first | refine j_aload_n (pc := 17) hX dJ5_addLast_17 rfl rfl ?_ | refine j_aload_nq (pc := 17) hX dJ5_addLast_17 rfl rfl ?_
  first | refine j_aload_n (pc := 18) hX dJ5_addLast_18 rfl rfl ?_ | refine j_aload_nq (pc := 18) hX dJ5_addLast_18 rfl rfl ?_
  refine j_get (pc := 19) hX kg_J5_20 dJ5_addLast_19 (by first | assumption | exact jow.r (by assumption)) (by rfl) ?_
  first | refine j_aload_n (pc := 22) hX dJ5_addLast_22 rfl rfl ?_ | refine j_aload_nq (pc := 22) hX dJ5_addLast_22 rfl rfl ?_
  skip
  refine j_aast (pc := 23) hX ks dJ5_addLast_23 (t := 6) (n := 17) (f := dqF hd E) h7 hx h3 hin (fun H_23 w_23 n_23 => ?_)
  rw [nI_clamp (by omega)] at n_23
  have ho := ho.put w_23 (fun e => h4 e.symm)
  first | refine j_aload_n (pc := 24) hX dJ5_addLast_24 rfl rfl ?_ | refine j_aload_nq (pc := 24) hX dJ5_addLast_24 rfl rfl ?_
  refine j_get (pc := 25) hX kg_J5_24 dJ5_addLast_25 (by first | assumption | exact jow.r (by assumption)) (by rfl) ?_
  first | refine j_aload_n (pc := 28) hX dJ5_addLast_28 rfl rfl ?_ | refine j_aload_nq (pc := 28) hX dJ5_addLast_28 rfl rfl ?_
  first | refine j_aload_n (pc := 29) hX dJ5_addLast_29 rfl rfl ?_ | refine j_aload_nq (pc := 29) hX dJ5_addLast_29 rfl rfl ?_
  refine j_get (pc := 30) hX kg_J5_20 dJ5_addLast_30 (by first | assumption | exact jow.r (by assumption)) (by rfl) ?_
  first | refine j_aload_n (pc := 33) hX dJ5_addLast_33 rfl rfl ?_ | refine j_aload_nq (pc := 33) hX dJ5_addLast_33 rfl rfl ?_
  refine j_alen (pc := 34) hX dJ5_addLast_34 (jaw.r (t := 6) hX (by decide) n_23) ?_
  refine j_rune (pc := 35) (jr_S (pc := 35) hX ks_J5_74 (c_J5_inc _ _ _ ((hd + E.length) % 17) (Nat.mod_lt _ (by decide))) (by decide) dJ5_addLast_35 rfl rfl (Nat.le_of_ble_eq_true rfl)) ?_ jno_x
  refine j_dup_x1 (pc := 38) hX dJ5_addLast_38 (by first | rfl | exact jrf_cat _) (by first | rfl | exact jrf_cat _) ?_
  refine j_put (pc := 39) hX kp_J5_20 dJ5_addLast_39 ho h2 rfl rfl rfl (fun H_39 w_39 n_39 => ?_)
  refine j_icmp_ne (pc := 42) (tgt := 50) hX dJ5_addLast_42 (by decide) (fun c_42 => ?_) (fun c_42 => ?_)
  rotate_left
  · rw [nI_eq (by omega) (by omega)] at c_42
    omega
  rw [nI_eq (by omega) (by omega)] at c_42
  exact j_vret hX hQ hr dJ5_addLast_50 ⟨rfl, ⟨by rw [List.length_append, show hd + (E.length + [x].length) = hd + E.length + 1 by simp; omega, Nat.add_mod (hd + E.length) 1 17]; rw [show ((hd + E.length) % 17 + 1 % 17) % 17 = ((hd + E.length) % 17 + 1) % 17 by rfl]; exact n_39, h2, h3, h4, h5, by rw [List.length_append]; simp; omega, (n_23.put w_39 h4).congr (fun j hj => congrArg va_rf (dqF_snoc h5 (by omega) j hj).symm)⟩, (w_23.fr (Or.inr rfl)).put w_39 (fun _ => Or.inl rfl)⟩
