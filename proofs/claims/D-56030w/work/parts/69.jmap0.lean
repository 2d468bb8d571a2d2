/-! the map: hashes of keys -/
set_option maxRecDepth 100000
def hsh (x : Int32) : Int32 := x ^^^ (x.toUInt32 >>> (16 : Int32).toUInt32).toInt32
theorem c_J1_hashI (l : Launch) (G : JG) (H : Heap) (q : Nat) {x : Int32} (h : inA G H q x) : JMet l yJ1_hash (ws_ yJ1_hash cJ1_hash 2 (some .int)) 3 0 G H [.ref q] (jpe H (hsh x)) (jno) := by
  refine JMet.of [(0, .inr (some q))] (by decide) (Nat.le_of_ble_eq_true rfl) rfl (fun X hl hX hQ hEx hr hnm hH => ?_)
  subst hl
  have ho : job G H q 16 [.int x] := h
  first | refine j_aload_n (pc := 0) hX dJ1_hash_0 rfl rfl ?_ | refine j_aload_nq (pc := 0) hX dJ1_hash_0 rfl rfl ?_
  refine j_ifnonnull (pc := 1) (tgt := 8) hX dJ1_hash_1 (by decide) ?_
  first | refine j_aload_n (pc := 8) hX dJ1_hash_8 rfl rfl ?_ | refine j_aload_nq (pc := 8) hX dJ1_hash_8 rfl rfl ?_
  refine j_rune (pc := 9) (jr_U (pc := 9) hX ku_J1_1_16 ho (c_J19_hashCode _ _ _ q h) (by decide) dJ1_hash_9 rfl rfl (Nat.le_of_ble_eq_true rfl)) ?_ jno_x
  refine j_dup (pc := 12) hX dJ1_hash_12 (by first | rfl | exact jrf_cat _) ?_
  refine j_istore_n (pc := 13) hX dJ1_hash_13 rfl (by decide) rfl ?_
  refine j_iload_n (pc := 14) hX dJ1_hash_14 rfl rfl ?_
  refine j_bipush (pc := 15) (v := 16) hX dJ1_hash_15 (by decide) ?_
  refine j_iushr (pc := 17) hX dJ1_hash_17 rfl ?_
  refine j_ixor (pc := 18) hX dJ1_hash_18 ?_
  exact j_iret hX hQ hr dJ1_hash_19 ⟨_, rfl, rfl, by rfl⟩
theorem c_J1_hashR (l : Launch) (G : JG) (H : Heap) (q : Nat) {a b : Int32} (h : rfA G H q a b) : JMet l yJ1_hash (ws_ yJ1_hash cJ1_hash 2 (some .int)) 3 0 G H [.ref q] (jpe H (hsh (1000 * a + b))) (jno) := by
  refine JMet.of [(0, .inr (some q))] (by decide) (Nat.le_of_ble_eq_true rfl) rfl (fun X hl hX hQ hEx hr hnm hH => ?_)
  subst hl
  have ho : job G H q 4 [.int a, .int b] := h
  first | refine j_aload_n (pc := 0) hX dJ1_hash_0 rfl rfl ?_ | refine j_aload_nq (pc := 0) hX dJ1_hash_0 rfl rfl ?_
  refine j_ifnonnull (pc := 1) (tgt := 8) hX dJ1_hash_1 (by decide) ?_
  first | refine j_aload_n (pc := 8) hX dJ1_hash_8 rfl rfl ?_ | refine j_aload_nq (pc := 8) hX dJ1_hash_8 rfl rfl ?_
  refine j_rune (pc := 9) (jr_U (pc := 9) hX ku_J1_1_4 ho (c_X6_hashCode _ _ _ q h) (by decide) dJ1_hash_9 rfl rfl (Nat.le_of_ble_eq_true rfl)) ?_ jno_x
  refine j_dup (pc := 12) hX dJ1_hash_12 (by first | rfl | exact jrf_cat _) ?_
  refine j_istore_n (pc := 13) hX dJ1_hash_13 rfl (by decide) rfl ?_
  refine j_iload_n (pc := 14) hX dJ1_hash_14 rfl rfl ?_
  refine j_bipush (pc := 15) (v := 16) hX dJ1_hash_15 (by decide) ?_
  refine j_iushr (pc := 17) hX dJ1_hash_17 rfl ?_
  refine j_ixor (pc := 18) hX dJ1_hash_18 ?_
  exact j_iret hX hQ hr dJ1_hash_19 ⟨_, rfl, rfl, by rfl⟩
