/-! strings of one-byte signs: length, charAt -/
set_option maxRecDepth 100000
theorem JC.cs {G : JG} (h : JC G) : va_Z "java/lang/String" "COMPACT_STRINGS" "Z" (.int 1) (jA G) (gs G) (gs G).heap := h.2.2.2.1.1 ("java/lang/String", "COMPACT_STRINGS", "Z", 1) (by simp [jsti])
theorem JC.fmt {G : JG} (h : JC G) : ∃ o : Option Nat, va_Z "jdk/internal/util/Preconditions" "SIOOBE_FORMATTER" "Ljava/util/function/BiFunction;" (va_rf o) (jA G) (gs G) (gs G).heap := by
  rcases h.2.2.2.1.2.2.2.2 with e | ⟨t, e⟩
  · exact ⟨none, e⟩
  · exact ⟨some t, e⟩
/-- a string, its signs one byte each -/
def jls (G : JG) (H : Heap) (q : Nat) (L : List Nat) : Prop := ∃ (v : Nat) (h hz : Int32), job G H q 15 [.ref v, .int 0, .int h, .int hz] ∧ jar G H v 4 L.length (fun j => .int (nI (L.getD j 0))) ∧ (∀ j, j < L.length → L.getD j 0 < 128) ∧ L.length < 1000
theorem jls.kept {G : JG} {H H1 : Heap} {q : Nat} {L : List Nat} (h : jls G H q L) (e : ∀ a, a < H.size → H1[a]? = H[a]? ∨ False → H1[a]? = H[a]?) (e2 : ∀ a, a < H.size → H1[a]? = H[a]?) : jls G H1 q L := by
  obtain ⟨v, x, y, h1, h2, h3⟩ := h
  exact ⟨v, x, y, h1.kept (e2 _ h1.lt), h2.kept (e2 _ h2.lt), h3⟩
theorem c_J8_coder (l : Launch) (G : JG) (H : Heap) (q : Nat) {v : Nat} {h hz : Int32} (hS : job G H q 15 [.ref v, .int 0, .int h, .int hz]) : JMet l yJ8_coder (ws_ yJ8_coder cJ8_coder 1 (some .byte)) 1 0 G H [.ref q] (jpe H 0) (jno) := by
  refine JMet.of [(0, .inr (some q))] (by decide) (Nat.le_of_ble_eq_true rfl) rfl (fun X hl hX hQ hEx hr hnm hH => ?_)
  subst hl
  have z := hX.C.cs
  refine j_gets (pc := 0) hX kst_J8_38 z dJ8_coder_0 ?_
  refine j_if_eq (pc := 3) (tgt := 13) hX dJ8_coder_3 (by decide) (fun c_3 => ?_) (fun c_3 => ?_)
  · exact absurd c_3 (by decide)
  first | refine j_aload_n (pc := 6) hX dJ8_coder_6 rfl rfl ?_ | refine j_aload_nq (pc := 6) hX dJ8_coder_6 rfl rfl ?_
  refine j_get (pc := 7) hX kg_J8_15 dJ8_coder_7 (by first | assumption | exact jow.r (by assumption)) (by rfl) ?_
  refine j_goto (pc := 10) (tgt := 14) hX dJ8_coder_10 (by decide) ?_
  exact j_zret hX hQ hr (by first | rfl | exact jb_nar _ | exact nI_narC _ | assumption) dJ8_coder_14 ⟨_, rfl, rfl, by rfl⟩
theorem c_J8_isLatin1 (l : Launch) (G : JG) (H : Heap) (q : Nat) {v : Nat} {h hz : Int32} (hS : job G H q 15 [.ref v, .int 0, .int h, .int hz]) : JMet l yJ8_isLatin1 (ws_ yJ8_isLatin1 cJ8_isLatin1 1 (some .boolean)) 1 0 G H [.ref q] (jpe H 1) (jno) := by
  refine JMet.of [(0, .inr (some q))] (by decide) (Nat.le_of_ble_eq_true rfl) rfl (fun X hl hX hQ hEx hr hnm hH => ?_)
  subst hl
  have z := hX.C.cs
  refine j_gets (pc := 0) hX kst_J8_38 z dJ8_isLatin1_0 ?_
  refine j_if_eq (pc := 3) (tgt := 17) hX dJ8_isLatin1_3 (by decide) (fun c_3 => ?_) (fun c_3 => ?_)
  · exact absurd c_3 (by decide)
  first | refine j_aload_n (pc := 6) hX dJ8_isLatin1_6 rfl rfl ?_ | refine j_aload_nq (pc := 6) hX dJ8_isLatin1_6 rfl rfl ?_
  refine j_get (pc := 7) hX kg_J8_15 dJ8_isLatin1_7 (by first | assumption | exact jow.r (by assumption)) (by rfl) ?_
  refine j_if_ne (pc := 10) (tgt := 17) hX dJ8_isLatin1_10 (by decide) (fun c_10 => ?_) (fun c_10 => ?_)
  · exact absurd rfl c_10
  refine j_iconst (pc := 13) (v := 1) hX dJ8_isLatin1_13 (by decide) ?_
  refine j_goto (pc := 14) (tgt := 18) hX dJ8_isLatin1_14 (by decide) ?_
  exact j_zret hX hQ hr (by first | rfl | exact jb_nar _ | exact nI_narC _ | assumption) dJ8_isLatin1_18 ⟨_, rfl, rfl, by rfl⟩
theorem c_J8_length (l : Launch) (G : JG) (H : Heap) (q : Nat) {L : List Nat} (hS : jls G H q L) : JMet l yJ8_length (ws_ yJ8_length cJ8_length 1 (some .int)) 2 0 G H [.ref q] (jpe H (nI L.length)) (jno) := by
  refine JMet.of [(0, .inr (some q))] (by decide) (Nat.le_of_ble_eq_true rfl) rfl (fun X hl hX hQ hEx hr hnm hH => ?_)
  subst hl
  obtain ⟨v, h, hz, h1, h2, h3, h4⟩ := hS
  first | refine j_aload_n (pc := 0) hX dJ8_length_0 rfl rfl ?_ | refine j_aload_nq (pc := 0) hX dJ8_length_0 rfl rfl ?_
  refine j_get (pc := 1) hX kg_J8_9 dJ8_length_1 (by first | assumption | exact jow.r (by assumption)) (by rfl) ?_
  refine j_alen (pc := 4) hX dJ8_length_4 (by first | assumption | exact jaw.r hX (by decide) (by assumption)) ?_
  first | refine j_aload_n (pc := 5) hX dJ8_length_5 rfl rfl ?_ | refine j_aload_nq (pc := 5) hX dJ8_length_5 rfl rfl ?_
  refine j_rune (pc := 6) (jr_V (pc := 6) hX kv_J8_335 (by first | assumption | exact jow.r (by assumption)) (c_J8_coder _ _ _ q h1) (by decide) dJ8_length_6 rfl rfl (Nat.le_of_ble_eq_true rfl)) ?_ jno_x
  refine j_ishr (pc := 9) hX dJ8_length_9 ?_
  rw [show Int32.ofNat L.length = nI L.length from rfl, pk_shrN (by omega) _ 0 rfl, Nat.pow_zero, Nat.div_one]
  exact j_iret hX hQ hr dJ8_length_10 ⟨_, rfl, rfl, by rfl⟩
theorem c_J23_checkIndex (l : Launch) (G : JG) (H : Heap) (i n : Nat) (hi : i < n) (hn : n < 2 ^ 31) (o : Option Nat) : JMet l yJ23_checkIndex (ws_ yJ23_checkIndex cJ23_checkIndex 3 (some .int)) 1 0 G H [.int (nI i), .int (nI n), va_rf o] (jpe H (nI i)) (jno) := by
  refine JMet.of [(0, .inl (.int (nI i))), (1, .inl (.int (nI n))), (2, .inr o)] (by decide) (by cases o <;> exact Nat.le_of_ble_eq_true rfl) (by cases o <;> rfl) (fun X hl hX hQ hEx hr hnm hH => ?_)
  subst hl
  refine j_iload_n (pc := 0) hX dJ23_checkIndex_0 rfl rfl ?_
  refine j_if_lt (pc := 1) (tgt := 9) hX dJ23_checkIndex_1 (by decide) (fun c_1 => ?_) (fun c_1 => ?_)
  · exact absurd c_1 (nI_pos (by omega))
  refine j_iload_n (pc := 4) hX dJ23_checkIndex_4 rfl rfl ?_
  refine j_iload_n (pc := 5) hX dJ23_checkIndex_5 rfl rfl ?_
  refine j_icmp_lt (pc := 6) (tgt := 16) hX dJ23_checkIndex_6 (by decide) (fun c_6 => ?_) (fun c_6 => ?_)
  rotate_left
  · exact absurd (nI_lt hi hn) c_6
  refine j_iload_n (pc := 16) hX dJ23_checkIndex_16 rfl rfl ?_
  exact j_iret hX hQ hr dJ23_checkIndex_17 ⟨_, rfl, rfl, by rfl⟩
theorem c_J8_checkIndex (l : Launch) (G : JG) (H : Heap) (i n : Nat) (hi : i < n) (hn : n < 2 ^ 31) : JMet l yJ8_checkIndex (ws_ yJ8_checkIndex cJ8_checkIndex 2 none) 2 0 G H [.int (nI i), .int (nI n)] (jpve H) (jno) := by
  refine JMet.of [(0, .inl (.int (nI i))), (1, .inl (.int (nI n)))] (by decide) (Nat.le_of_ble_eq_true rfl) rfl (fun X hl hX hQ hEx hr hnm hH => ?_)
  subst hl
  obtain ⟨o, z⟩ := hX.C.fmt
  refine j_iload_n (pc := 0) hX dJ8_checkIndex_0 rfl rfl ?_
  refine j_iload_n (pc := 1) hX dJ8_checkIndex_1 rfl rfl ?_
  refine j_gets (pc := 2) hX kst_J8_1053 z dJ8_checkIndex_2 ?_
  refine j_rune (pc := 5) (jr_S (pc := 5) hX ks_J8_1059 (c_J23_checkIndex _ _ _ i n hi hn o) (by decide) dJ8_checkIndex_5 rfl rfl (Nat.le_of_ble_eq_true rfl)) ?_ jno_x
  refine j_pop (pc := 8) hX dJ8_checkIndex_8 (by first | rfl | exact jrf_cat _) ?_
  exact j_vret hX hQ hr dJ8_checkIndex_9 ⟨rfl, rfl⟩
theorem c_J21_charAt (l : Launch) (G : JG) (H : Heap) (v : Nat) {L : List Nat} (h2 : jar G H v 4 L.length (fun j => .int (nI (L.getD j 0)))) (hc : ∀ j, j < L.length → L.getD j 0 < 128) (hL : L.length < 1000) (k : Nat) (hk : k < L.length) : JMet l yJ21_charAt (ws_ yJ21_charAt cJ21_charAt 2 (some .char)) 3 0 G H [.ref v, .int (nI k)] (jpe H (nI (L.getD k 0))) (jno) := by
  refine JMet.of [(0, .inr (some v)), (1, .inl (.int (nI k)))] (by decide) (Nat.le_of_ble_eq_true rfl) rfl (fun X hl hX hQ hEx hr hnm hH => ?_)
  subst hl
  have hin : vp_in (nI k) L.length := vp_in_nI hk (by omega)
  have hck := hc k hk
  refine j_iload_n (pc := 0) hX dJ21_charAt_0 rfl rfl ?_
  first | refine j_aload_n (pc := 1) hX dJ21_charAt_1 rfl rfl ?_ | refine j_aload_nq (pc := 1) hX dJ21_charAt_1 rfl rfl ?_
  refine j_alen (pc := 2) hX dJ21_charAt_2 (by first | assumption | exact jaw.r hX (by decide) (by assumption)) ?_
  refine j_runve (pc := 3) (jr_S (pc := 3) hX ks_J21_9 (c_J8_checkIndex _ _ _ k L.length hk (by omega)) (by decide) dJ21_charAt_3 rfl rfl (Nat.le_of_ble_eq_true rfl)) ?_ jno_x
  first | refine j_aload_n (pc := 6) hX dJ21_charAt_6 rfl rfl ?_ | refine j_aload_nq (pc := 6) hX dJ21_charAt_6 rfl rfl ?_
  refine j_iload_n (pc := 7) hX dJ21_charAt_7 rfl rfl ?_
  refine j_bald (pc := 8) hX dJ21_charAt_8 (by first | assumption | exact jaw.r hX (by decide) (by assumption)) (by assumption) ?_
  skip
  rw [nI_clamp (by omega)]
  generalize L.getD k 0 = c at *
  refine j_sipush (pc := 9) (v := 255) hX dJ21_charAt_9 (by decide) ?_
  refine j_iand (pc := 12) hX dJ21_charAt_12 ?_
  rw [show nI c &&& 255 = nI c from by rw [pk_andN (by omega) 8 (by decide), Nat.mod_eq_of_lt (by omega)]]
  refine j_i2c (pc := 13) hX dJ21_charAt_13 (nI_c (by omega)) ?_
  skip
  rw [Nat.mod_eq_of_lt (by omega)]
  exact j_zret hX hQ hr (pk_charN (by omega)).1 dJ21_charAt_14 ⟨_, rfl, rfl, rfl⟩
theorem c_J8_charAt (l : Launch) (G : JG) (H : Heap) (q : Nat) {L : List Nat} (hS : jls G H q L) (k : Nat) (hk : k < L.length) : JMet l yJ8_charAt (ws_ yJ8_charAt cJ8_charAt 2 (some .char)) 4 0 G H [.ref q, .int (nI k)] (jpe H (nI (L.getD k 0))) (jno) := by
  refine JMet.of [(0, .inr (some q)), (1, .inl (.int (nI k)))] (by decide) (Nat.le_of_ble_eq_true rfl) rfl (fun X hl hX hQ hEx hr hnm hH => ?_)
  subst hl
  obtain ⟨v, h, hz, h1, h2, h3, h4⟩ := hS
  have hck := h3 k hk
  first | refine j_aload_n (pc := 0) hX dJ8_charAt_0 rfl rfl ?_ | refine j_aload_nq (pc := 0) hX dJ8_charAt_0 rfl rfl ?_
  refine j_rune (pc := 1) (jr_V (pc := 1) hX kv_J8_492 (by first | assumption | exact jow.r (by assumption)) (c_J8_isLatin1 _ _ _ q h1) (by decide) dJ8_charAt_1 rfl rfl (Nat.le_of_ble_eq_true rfl)) ?_ jno_x
  refine j_if_eq (pc := 4) (tgt := 16) hX dJ8_charAt_4 (by decide) (fun c_4 => ?_) (fun c_4 => ?_)
  · exact absurd c_4 (by decide)
  first | refine j_aload_n (pc := 7) hX dJ8_charAt_7 rfl rfl ?_ | refine j_aload_nq (pc := 7) hX dJ8_charAt_7 rfl rfl ?_
  refine j_get (pc := 8) hX kg_J8_9 dJ8_charAt_8 (by first | assumption | exact jow.r (by assumption)) (by rfl) ?_
  refine j_iload_n (pc := 11) hX dJ8_charAt_11 rfl rfl ?_
  refine j_rune (pc := 12) (jr_S (pc := 12) hX ks_J8_495 (c_J21_charAt _ _ _ v h2 h3 h4 k hk) (by decide) dJ8_charAt_12 rfl rfl (Nat.le_of_ble_eq_true rfl)) ?_ jno_x
  exact j_zret hX hQ hr (pk_charN (by omega)).1 dJ8_charAt_15 ⟨_, rfl, rfl, rfl⟩
