/-! lists: an object taken out; one put between others -/
set_option maxRecDepth 100000
theorem JMet.ofF {l : Launch} {y : MethodName} {cc : ByteArray} {nL : Nat} {ret : Option FieldType} {d b : Nat} {G : JG} {H : Heap} {args : List Value} {post : Option Value → Heap → Prop} {px : String → Nat → Heap → Prop} (lv : JL) (hy : plainFor y = true) (hlen : (lg_sl args).length ≤ nL) (hlv : jmap lv = lv_args 0 args)
    (body : ∀ X : JX, jl X = l → JOK X G y.cls cc nL d → JRet X G b post px → (jc X).exceptionTable.toList = [] → (jme X).sig.returnType = ret → (jme X).name = y.name → (js X).heap = H → JW X G H b 0 lv []) : JMet l y (ws_ y cc nL ret) d b G H args post px := by
  intro hl0
  refine MetFree.of_bodySF (code := cc) (maxLocals := nL) (ret := ret) hy ?_ ?_
  · intro args' s m h hn
    obtain ⟨meth, c, h1, h2, h3, h4, h5, h6, -⟩ := Cond.code_spec hn (atoms_spec (ws := ws_ y cc nL ret) h _ List.mem_cons_self)
    exact ⟨meth, c, h1, h2, h3, h4, h5, h6⟩
  · intro p e s m args' below meth c s₁ B hml hP _
    have hh0 : s₁.heap = s.heap := by rw [B.state]; rfl
    have hts := atoms_spec (ws := ws_ y cc nL ret) B.pre
    have hemp : c.exceptionTable.toList = [] := by
      obtain ⟨m9, c9, h1, h2, -, -, -, -, h7, -⟩ := Cond.code_spec B.named (hts _ List.mem_cons_self)
      cases Option.some.inj (h1.symm.trans B.method)
      cases Option.some.inj (h2.symm.trans (Stand.of_body B).code)
      rw [Array.isEmpty_iff.mp h7]
    obtain ⟨rfl, hh, hK⟩ := hP
    have hown : s.vm.findClass y.cls = some m.cls := findClass_of_methodNamed B.named
    subst hh
    have key := body (p, l, e, (headSpec (ws_ y cc nL ret) (jrm d b)).room, s, m, args.toArray, below, meth, c, vx_MQ below (jQc G post) (jXC G px) args.toArray s b (4 * b) (jA G)) rfl
      ⟨⟨B.exec, B.bytes, hml, hown, fun w h => hts w (List.mem_cons_of_mem _ h)⟩, hK, B.notSynchronized, Nat.le_refl _, Nat.le_refl _, hl0⟩ ⟨rfl, rfl, rfl⟩ hemp B.returns (name_of_methodNamed B.named B.method).1 rfl
    have k2 : W p l e (headSpec (ws_ y cc nL ret) (jrm d b)).room s m args.toArray below meth c s.heap [] 0 0 (vx_MQ below (jQc G post) (jXC G px) args.toArray s b (4 * b) (jA G)) (entryFrame m args.toArray nL) := by
      rw [lg_entry_eq]
      refine key [] 0 0 _ va_S.rf (Nat.le_of_eq (Nat.zero_add _)) (Nat.le_of_eq (Nat.zero_add _)) ?_
      rw [hlv]
      show lv_has _ c.maxLocals _
      rw [hml]
      exact lv_entry args hlen
    obtain ⟨t, a1, o, b1, b2, b3⟩ := k2 s₁ hh0 (Stand.of_body B)
    exact ⟨t, o, a1, b1, b2, b3⟩
theorem c_J35_equals (l : Launch) (G : JG) (H : Heap) (x y : Nat) : JMet l yJ35_equals (ws_ yJ35_equals cJ35_equals 2 (some .boolean)) 1 0 G H [.ref x, .ref y] (jpe H (jb (decide (x = y)))) (jno) := by
  refine JMet.ofF [(0, .inr (some x)), (1, .inr (some y))] (by decide +kernel) (Nat.le_of_ble_eq_true rfl) rfl (fun X hl hX hQ hEx hr hnm hH => ?_)
  subst hl
  first | refine j_aload_n (pc := 0) hX dJ35_equals_0 rfl rfl ?_ | refine j_aload_nq (pc := 0) hX dJ35_equals_0 rfl rfl ?_
  first | refine j_aload_n (pc := 1) hX dJ35_equals_1 rfl rfl ?_ | refine j_aload_nq (pc := 1) hX dJ35_equals_1 rfl rfl ?_
  refine j_acmp_ne (pc := 2) (rx := (some x)) (ry := (some y)) (tgt := 9) hX dJ35_equals_2 (by decide) (fun c_2 => ?_) (fun c_2 => ?_)
  · refine j_iconst (pc := 9) (v := 0) hX dJ35_equals_9 (by decide) ?_
    exact j_zret hX hQ hr (by first | rfl | exact jb_nar _ | exact nI_narC _ | assumption) dJ35_equals_10 ⟨_, rfl, rfl, by rw [jb]; first | (rw [if_pos (by rw [decide_eq_true_eq]; exact Option.some.inj c_2)]; done) | (rw [if_neg (by rw [decide_eq_true_eq]; exact fun e => c_2 (congrArg some e))]; done)⟩
  · refine j_iconst (pc := 5) (v := 1) hX dJ35_equals_5 (by decide) ?_
    refine j_goto (pc := 6) (tgt := 10) hX dJ35_equals_6 (by decide) ?_
    exact j_zret hX hQ hr (by first | rfl | exact jb_nar _ | exact nI_narC _ | assumption) dJ35_equals_10 ⟨_, rfl, rfl, by rw [jb]; first | (rw [if_pos (by rw [decide_eq_true_eq]; exact Option.some.inj c_2)]; done) | (rw [if_neg (by rw [decide_eq_true_eq]; exact fun e => c_2 (congrArg some e))]; done)⟩
theorem list_at {E : List Nat} {i : Nat} (hi : i < E.length) : E[i]? = some (E.getD i 0) := by rw [List.getD_eq_getElem?_getD, List.getElem?_eq_getElem hi]; rfl
theorem c_J4_remove (l : Launch) (G : JG) (H : Heap) (q arr : Nat) {mc : Int32} {E : List Nat} (h : alA G H q arr mc E) (i : Nat) (hi : i < E.length) (hE : elOK G H E) (hqE : ∀ x ∈ E, x ≠ q ∧ x ≠ arr) (x : Nat) (hx : E.getD i 0 = x) (hne : ∀ j, j < i → E.getD j 0 ≠ x) {vs : List Value} (hx2 : job G H x 2 vs) : JMet l yJ4_remove (ws_ yJ4_remove cJ4_remove 5 (some .boolean)) 3 0 G H [.ref q, .ref x] (jpi (fun r H1 => r = 1 ∧ alA G H1 q arr (mc + 1) (E.eraseIdx i) ∧ JFr (fun a => a = q ∨ a = arr) H H1)) (jno) := by
  refine JMet.of [(0, .inr (some q)), (1, .inr (some x))] (by decide) (Nat.le_of_ble_eq_true rfl) rfl (fun X hl hX hQ hEx hr hnm hH => ?_)
  subst hl
  obtain ⟨ho, hq, h3, h4⟩ := id h
  rcases h4 with ⟨e, -⟩ | ⟨h4, h5, h6⟩
  · rw [e] at hi; cases hi
  · first | refine j_aload_n (pc := 0) hX dJ4_remove_0 rfl rfl ?_ | refine j_aload_nq (pc := 0) hX dJ4_remove_0 rfl rfl ?_
    refine j_get (pc := 1) hX kg_J4_9 dJ4_remove_1 (by first | assumption | exact jow.r (by assumption)) (by rfl) ?_
    first | refine j_astore_n (pc := 4) hX dJ4_remove_4 rfl (by decide) rfl ?_ | refine j_astore_nN (pc := 4) hX dJ4_remove_4 rfl (by decide) rfl ?_ | refine j_astore_nq (pc := 4) hX dJ4_remove_4 rfl (by decide) rfl ?_
    first | refine j_aload_n (pc := 5) hX dJ4_remove_5 rfl rfl ?_ | refine j_aload_nq (pc := 5) hX dJ4_remove_5 rfl rfl ?_
    refine j_get (pc := 6) hX kg_J4_48 dJ4_remove_6 (by first | assumption | exact jow.r (by assumption)) (by rfl) ?_
    refine j_istore_n (pc := 9) hX dJ4_remove_9 rfl (by decide) rfl ?_
    refine j_iconst (pc := 10) (v := 0) hX dJ4_remove_10 (by decide) ?_
    refine j_istore (pc := 11) hX dJ4_remove_11 (by decide) rfl ?_
    first | refine j_aload_n (pc := 13) hX dJ4_remove_13 rfl rfl ?_ | refine j_aload_nq (pc := 13) hX dJ4_remove_13 rfl rfl ?_
    refine j_ifnonnull (pc := 14) (tgt := 39) hX dJ4_remove_14 (by decide) ?_
    skip
    have last : JW X G H 0 67 [(0, .inr (some q)), (1, .inr (some x)), (2, .inr (some arr)), (3, .inl (.int (nI E.length))), (4, .inl (.int (nI i)))] [] := by
      first | refine j_aload_n (pc := 67) hX dJ4_remove_67 rfl rfl ?_ | refine j_aload_nq (pc := 67) hX dJ4_remove_67 rfl rfl ?_
      first | refine j_aload_n (pc := 68) hX dJ4_remove_68 rfl rfl ?_ | refine j_aload_nq (pc := 68) hX dJ4_remove_68 rfl rfl ?_
      refine j_iload (pc := 69) hX dJ4_remove_69 rfl ?_
      refine j_runv (pc := 71) (jr_V (pc := 71) hX kv_J4_144 (by first | assumption | exact jow.r (by assumption)) (c_J4_fastRemove _ _ _ q arr h i hi hE hqE) (by decide) dJ4_remove_71 rfl rfl (Nat.le_of_ble_eq_true rfl)) (fun H_71 p_71 z_71 => ?_) jno_x
      refine j_iconst (pc := 74) (v := 1) hX dJ4_remove_74 (by decide) ?_
      exact j_zret hX hQ hr (by first | rfl | exact jb_nar _ | exact nI_narC _ | assumption) dJ4_remove_75 ⟨_, rfl, rfl, p_71⟩
    refine jloop (P := fun j => JW X G H 0 39 [(0, .inr (some q)), (1, .inr (some x)), (2, .inr (some arr)), (3, .inl (.int (nI E.length))), (4, .inl (.int (nI j)))] []) i ?_ (fun j hj ih => ?_) 0 (by omega)
    · have hin : vp_in (nI i) 10 := vp_in_nI (by omega) (by decide)
      refine j_iload (pc := 39) hX dJ4_remove_39 rfl ?_
      refine j_iload_n (pc := 41) hX dJ4_remove_41 rfl rfl ?_
      refine j_icmp_ge (pc := 42) (tgt := 65) hX dJ4_remove_42 (by decide) (fun c_42 => ?_) (fun c_42 => ?_)
      · exact absurd (jge_yes (a := E.length) c_42 (by omega) (by omega)) (by omega)
      first | refine j_aload_n (pc := 45) hX dJ4_remove_45 rfl rfl ?_ | refine j_aload_nq (pc := 45) hX dJ4_remove_45 rfl rfl ?_
      first | refine j_aload_n (pc := 46) hX dJ4_remove_46 rfl rfl ?_ | refine j_aload_nq (pc := 46) hX dJ4_remove_46 rfl rfl ?_
      refine j_iload (pc := 47) hX dJ4_remove_47 rfl ?_
      refine j_aald (pc := 49) hX (by decide) dJ4_remove_49 (jaw.r (t := 6) hX (by decide) h6) (by assumption) ?_
      skip
      rw [nI_clamp (by omega), list_at hi, hx]
      change JW X G H 0 50 _ [.ref x, .ref x]
      refine j_rune (pc := 50) (jr_U (pc := 50) hX ku_J4_93_2 (by first | assumption | exact jow.r (by assumption)) (c_J35_equals _ _ _ x x) (by decide) dJ4_remove_50 rfl rfl (Nat.le_of_ble_eq_true rfl)) ?_ jno_x
      refine j_if_eq (pc := 53) (tgt := 59) hX dJ4_remove_53 (by decide) (fun c_53 => ?_) (fun c_53 => ?_)
      · rw [jb_z] at c_53; simp at c_53
      refine j_goto (pc := 56) (tgt := 67) hX dJ4_remove_56 (by decide) ?_
      exact last
    · have hin : vp_in (nI j) 10 := vp_in_nI (by omega) (by decide)
      have hj2 := hne j hj
      refine j_iload (pc := 39) hX dJ4_remove_39 rfl ?_
      refine j_iload_n (pc := 41) hX dJ4_remove_41 rfl rfl ?_
      refine j_icmp_ge (pc := 42) (tgt := 65) hX dJ4_remove_42 (by decide) (fun c_42 => ?_) (fun c_42 => ?_)
      · exact absurd (jge_yes (a := E.length) c_42 (by omega) (by omega)) (by omega)
      first | refine j_aload_n (pc := 45) hX dJ4_remove_45 rfl rfl ?_ | refine j_aload_nq (pc := 45) hX dJ4_remove_45 rfl rfl ?_
      first | refine j_aload_n (pc := 46) hX dJ4_remove_46 rfl rfl ?_ | refine j_aload_nq (pc := 46) hX dJ4_remove_46 rfl rfl ?_
      refine j_iload (pc := 47) hX dJ4_remove_47 rfl ?_
      refine j_aald (pc := 49) hX (by decide) dJ4_remove_49 (jaw.r (t := 6) hX (by decide) h6) (by assumption) ?_
      skip
      rw [nI_clamp (by omega), list_at (show j < E.length by omega)]
      change JW X G H 0 50 _ [.ref (E.getD j 0), .ref x]
      refine j_rune (pc := 50) (jr_U (pc := 50) hX ku_J4_93_2 (by first | assumption | exact jow.r (by assumption)) (c_J35_equals _ _ _ x (E.getD j 0)) (by decide) dJ4_remove_50 rfl rfl (Nat.le_of_ble_eq_true rfl)) ?_ jno_x
      refine j_if_eq (pc := 53) (tgt := 59) hX dJ4_remove_53 (by decide) (fun c_53 => ?_) (fun c_53 => ?_)
      rotate_left
      · rw [jb_n, decide_eq_true_eq] at c_53; exact absurd c_53.symm hj2
      refine j_iincc (pc := 59) (m := 1) hX dJ4_remove_59 rfl (by decide) (by decide) rfl ?_
      refine j_goto (pc := 62) (tgt := 39) hX dJ4_remove_62 (by decide) ?_
      exact j_lv (by simp [jsb, jget, jval, nI_1]) ih
