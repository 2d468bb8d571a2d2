/-! the reference: made anew; the other count of hires -/
set_option maxRecDepth 100000
theorem c_X3_mostHiresBySets (l : Launch) (G : JG) (H : Heap) {g : Nat → Nat} {ar : Nat → Nat → Nat} {cm fs : Nat → Int32} (hT : jtw G H g ar cm fs) (hB : Bs (ar 0)) : JMet l yX3_mostHiresBySets (ws_ yX3_mostHiresBySets cX3_mostHiresBySets 1 (some .int)) 5 16 G H [.ref (g 100)] (twQ G H g ar cm fs (0, nI (mostN (ar 0)))) (jno) := by
  refine JMet.of [(0, .inr (some (g 100)))] (by decide) (Nat.le_of_ble_eq_true rfl) rfl (fun X hl hX hQ hEx hr hnm hH => ?_)
  subst hl
  obtain ⟨h0, ho, hs, hbf, hsv, hpa, hou, hip, hcm⟩ := id hT
  have hi2 : vp_in (2 : Int32) 93 := vp_in_nI (n := 2) (by omega) (by decide)
  obtain ⟨h2, hb, hf, hg⟩ := id hB
  first | refine j_aload_n (pc := 0) hX dX3_mostHiresBySets_0 rfl rfl ?_ | refine j_aload_nq (pc := 0) hX dX3_mostHiresBySets_0 rfl rfl ?_
  rw [show (16 : Nat) = 0 + 16 from rfl]
  refine j_runi (pc := 1) (jr_V (pc := 1) hX kv_X3_189 (by first | assumption | exact jow.r (by assumption)) (c_X3_mostHires _ _ _ hT hB) (by decide) dX3_mostHiresBySets_1 rfl rfl (Nat.le_of_ble_eq_true rfl)) (fun r_1 H_1 p_1 z_1 => ?_) jno_x
  exact j_iret hX hQ hr dX3_mostHiresBySets_4 ⟨_, rfl, p_1⟩
def fs0 : Nat → Int32 := fun j => if j = 13 then -1 else if j = 14 then -1 else 0
theorem c_X3_init (l : Launch) (G : JG) (H : Heap) (a : Nat) (ha : jow G H a 8 [.null, .null, .null, .int 0, .null, .int 0, .int 0, .null, .int 0, .null, .int 0, .int 0, .int 0, .int 0, .int 0, .null, .int 0]) (hga : (gs G).heap.size ≤ a) : JMet l yX3_init (ws_ yX3_init cX3_init 1 none) 2 371 G H [.ref a] (jpv (fun H1 => ∃ g : Nat → Nat, g 100 = a ∧ jtw G H1 g (fun _ _ => 0) (fun _ => 0) fs0 ∧ JFr (fun q => q = a) H H1)) (jno) := by
  refine JMet.of [(0, .inr (some a))] (by decide) (Nat.le_of_ble_eq_true rfl) rfl (fun X hl hX hQ hEx hr hnm hH => ?_)
  subst hl
  have l0 := ha.lt
  first | refine j_aload_n (pc := 0) hX dX3_init_0 rfl rfl ?_ | refine j_aload_nq (pc := 0) hX dX3_init_0 rfl rfl ?_
  refine j_objInit (pc := 1) hX ko_X3_3 (by decide) (Nat.le_of_ble_eq_true rfl) dX3_init_1 ?_
  first | refine j_aload_n (pc := 4) hX dX3_init_4 rfl rfl ?_ | refine j_aload_nq (pc := 4) hX dX3_init_4 rfl rfl ?_
  refine j_bipush (pc := 5) (v := 93) hX dX3_init_5 (by decide) ?_
  refine j_newa (pc := 7) hX ka_0 93 24 rfl (by omega) (by omega) dX3_init_7 (fun H_7 z_7 e_7 n_7 b_7 => ?_)
  have z7' : H_7.size = H.size + 1 := z_7
  have o_7 := ha.ext e_7
  have l_7 := e_7.fr (P := fun q => q = a)
  refine j_putF (pc := 9) hX hnm kp_X3_9 dX3_init_9 o_7 hga rfl rfl rfl (fun H_9 w_9 n_9 => ?_)
  have z9' : H_9.size = H_7.size := w_9.1
  have o_9 := n_9
  have l_9 := l_7.put w_9 (fun _ => rfl)
  first | refine j_aload_n (pc := 12) hX dX3_init_12 rfl rfl ?_ | refine j_aload_nq (pc := 12) hX dX3_init_12 rfl rfl ?_
  refine j_bipush (pc := 13) (v := 93) hX dX3_init_13 (by decide) ?_
  refine j_newa (pc := 15) hX ka_0 93 24 rfl (by omega) (by omega) dX3_init_15 (fun H_15 z_15 e_15 n_15 b_15 => ?_)
  have z15' : H_15.size = H_9.size + 1 := z_15
  have o_15 := o_9.ext e_15
  have l_15 := l_9.trans e_15.fr
  refine j_putF (pc := 17) hX hnm kp_X3_13 dX3_init_17 o_15 hga rfl rfl rfl (fun H_17 w_17 n_17 => ?_)
  have z17' : H_17.size = H_15.size := w_17.1
  have o_17 := n_17
  have l_17 := l_15.put w_17 (fun _ => rfl)
  first | refine j_aload_n (pc := 20) hX dX3_init_20 rfl rfl ?_ | refine j_aload_nq (pc := 20) hX dX3_init_20 rfl rfl ?_
  refine j_bipush (pc := 21) (v := 93) hX dX3_init_21 (by decide) ?_
  refine j_newa (pc := 23) hX ka_0 93 24 rfl (by omega) (by omega) dX3_init_23 (fun H_23 z_23 e_23 n_23 b_23 => ?_)
  have z23' : H_23.size = H_17.size + 1 := z_23
  have o_23 := o_17.ext e_23
  have l_23 := l_17.trans e_23.fr
  refine j_putF (pc := 25) hX hnm kp_X3_16 dX3_init_25 o_23 hga rfl rfl rfl (fun H_25 w_25 n_25 => ?_)
  have z25' : H_25.size = H_23.size := w_25.1
  have o_25 := n_25
  have l_25 := l_23.put w_25 (fun _ => rfl)
  first | refine j_aload_n (pc := 28) hX dX3_init_28 rfl rfl ?_ | refine j_aload_nq (pc := 28) hX dX3_init_28 rfl rfl ?_
  refine j_sipush (pc := 29) (v := 744) hX dX3_init_29 (by decide) ?_
  refine j_newa (pc := 32) hX ka_0 744 186 rfl (by omega) (by omega) dX3_init_32 (fun H_32 z_32 e_32 n_32 b_32 => ?_)
  have z32' : H_32.size = H_25.size + 1 := z_32
  have o_32 := o_25.ext e_32
  have l_32 := l_25.trans e_32.fr
  refine j_putF (pc := 34) hX hnm kp_X3_19 dX3_init_34 o_32 hga rfl rfl rfl (fun H_34 w_34 n_34 => ?_)
  have z34' : H_34.size = H_32.size := w_34.1
  have o_34 := n_34
  have l_34 := l_32.put w_34 (fun _ => rfl)
  first | refine j_aload_n (pc := 37) hX dX3_init_37 rfl rfl ?_ | refine j_aload_nq (pc := 37) hX dX3_init_37 rfl rfl ?_
  refine j_bipush (pc := 38) (v := 90) hX dX3_init_38 (by decide) ?_
  refine j_newa (pc := 40) hX ka_5 90 23 rfl (by omega) (by omega) dX3_init_40 (fun H_40 z_40 e_40 n_40 b_40 => ?_)
  have z40' : H_40.size = H_34.size + 1 := z_40
  have o_40 := o_34.ext e_40
  have l_40 := l_34.trans e_40.fr
  refine j_putF (pc := 42) hX hnm kp_X3_22 dX3_init_42 o_40 hga rfl rfl rfl (fun H_42 w_42 n_42 => ?_)
  have z42' : H_42.size = H_40.size := w_42.1
  have o_42 := n_42
  have l_42 := l_40.put w_42 (fun _ => rfl)
  first | refine j_aload_n (pc := 45) hX dX3_init_45 rfl rfl ?_ | refine j_aload_nq (pc := 45) hX dX3_init_45 rfl rfl ?_
  refine j_bipush (pc := 46) (v := 60) hX dX3_init_46 (by decide) ?_
  refine j_newa (pc := 48) hX ka_5 60 15 rfl (by omega) (by omega) dX3_init_48 (fun H_48 z_48 e_48 n_48 b_48 => ?_)
  have z48' : H_48.size = H_42.size + 1 := z_48
  have o_48 := o_42.ext e_48
  have l_48 := l_42.trans e_48.fr
  refine j_putF (pc := 50) hX hnm kp_X3_26 dX3_init_50 o_48 hga rfl rfl rfl (fun H_50 w_50 n_50 => ?_)
  have z50' : H_50.size = H_48.size := w_50.1
  have o_50 := n_50
  have l_50 := l_48.put w_50 (fun _ => rfl)
  first | refine j_aload_n (pc := 53) hX dX3_init_53 rfl rfl ?_ | refine j_aload_nq (pc := 53) hX dX3_init_53 rfl rfl ?_
  refine j_iconst (pc := 54) (v := -1) hX dX3_init_54 (by decide) ?_
  refine j_put (pc := 55) hX kp_X3_29 dX3_init_55 o_50 hga rfl rfl rfl (fun H_55 w_55 n_55 => ?_)
  have z55' : H_55.size = H_50.size := w_55.1
  have o_55 := n_55
  have l_55 := l_50.put w_55 (fun _ => rfl)
  first | refine j_aload_n (pc := 58) hX dX3_init_58 rfl rfl ?_ | refine j_aload_nq (pc := 58) hX dX3_init_58 rfl rfl ?_
  refine j_iconst (pc := 59) (v := -1) hX dX3_init_59 (by decide) ?_
  refine j_put (pc := 60) hX kp_X3_33 dX3_init_60 o_55 hga rfl rfl rfl (fun H_60 w_60 n_60 => ?_)
  have z60' : H_60.size = H_55.size := w_60.1
  have o_60 := n_60
  have l_60 := l_55.put w_60 (fun _ => rfl)
  first | refine j_aload_n (pc := 63) hX dX3_init_63 rfl rfl ?_ | refine j_aload_nq (pc := 63) hX dX3_init_63 rfl rfl ?_
  refine j_sipush (pc := 64) (v := 300) hX dX3_init_64 (by decide) ?_
  refine j_newa (pc := 67) hX ka_0 300 75 rfl (by omega) (by omega) dX3_init_67 (fun H_67 z_67 e_67 n_67 b_67 => ?_)
  have z67' : H_67.size = H_60.size + 1 := z_67
  have o_67 := o_60.ext e_67
  have l_67 := l_60.trans e_67.fr
  refine j_putF (pc := 69) hX hnm kp_X3_36 dX3_init_69 o_67 hga rfl rfl rfl (fun H_69 w_69 n_69 => ?_)
  have z69' : H_69.size = H_67.size := w_69.1
  have o_69 := n_69
  have l_69 := l_67.put w_69 (fun _ => rfl)
  skip
  refine j_vret hX hQ hr dX3_init_72 ⟨rfl, (fun i => if i = 100 then a else if i = 0 then H.size else if i = 1 then H_9.size else if i = 2 then H_17.size else if i = 4 then H_25.size else if i = 7 then H_34.size else if i = 9 then H_42.size else if i = 15 then H_60.size else 0), rfl, ⟨⟨fun i hi => ?_, fun i hi j hj e => ?_⟩, o_69, (((((((((((((((n_7.put w_9 (by omega)).ext e_15).put w_17 (by omega)).ext e_23).put w_25 (by omega)).ext e_32).put w_34 (by omega)).ext e_40).put w_42 (by omega)).ext e_48).put w_50 (by omega)).put w_55 (by omega)).put w_60 (by omega)).ext e_67).put w_69 (by omega)), (((((((((((((n_15.put w_17 (by omega)).ext e_23).put w_25 (by omega)).ext e_32).put w_34 (by omega)).ext e_40).put w_42 (by omega)).ext e_48).put w_50 (by omega)).put w_55 (by omega)).put w_60 (by omega)).ext e_67).put w_69 (by omega)), (((((((((((n_23.put w_25 (by omega)).ext e_32).put w_34 (by omega)).ext e_40).put w_42 (by omega)).ext e_48).put w_50 (by omega)).put w_55 (by omega)).put w_60 (by omega)).ext e_67).put w_69 (by omega)), (((((((((n_32.put w_34 (by omega)).ext e_40).put w_42 (by omega)).ext e_48).put w_50 (by omega)).put w_55 (by omega)).put w_60 (by omega)).ext e_67).put w_69 (by omega)), (((((((n_40.put w_42 (by omega)).ext e_48).put w_50 (by omega)).put w_55 (by omega)).put w_60 (by omega)).ext e_67).put w_69 (by omega)), (((((n_48.put w_50 (by omega)).put w_55 (by omega)).put w_60 (by omega)).ext e_67).put w_69 (by omega)), (n_67.put w_69 (by omega))⟩, l_69⟩
  · have hall : (gs G).heap.size ≤ a ∧ (gs G).heap.size ≤ H.size ∧ (gs G).heap.size ≤ H_9.size ∧ (gs G).heap.size ≤ H_17.size ∧ (gs G).heap.size ≤ H_25.size ∧ (gs G).heap.size ≤ H_34.size ∧ (gs G).heap.size ≤ H_42.size ∧ (gs G).heap.size ≤ H_60.size := by omega
    simp only [twL, List.mem_cons, List.not_mem_nil, or_false] at hi
    rcases hi with rfl | rfl | rfl | rfl | rfl | rfl | rfl | rfl
    · exact hall.1
    · exact hall.2.1
    · exact hall.2.2.1
    · exact hall.2.2.2.1
    · exact hall.2.2.2.2.1
    · exact hall.2.2.2.2.2.1
    · exact hall.2.2.2.2.2.2.1
    · exact hall.2.2.2.2.2.2.2
  · simp only [twL, List.mem_cons, List.not_mem_nil, or_false] at hi hj
    rcases hi with rfl | rfl | rfl | rfl | rfl | rfl | rfl | rfl <;> rcases hj with rfl | rfl | rfl | rfl | rfl | rfl | rfl | rfl <;> first | rfl | (exfalso; simp at e; omega)
