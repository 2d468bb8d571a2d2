/-! Integer, Boolean, Reference, Node -/
set_option maxRecDepth 100000
theorem j_aaldT {X : JX} {G : JG} {own : String} {cc : ByteArray} {nL d : Nat} {H : Heap} {b pc : Nat} {lv : JL} {rest : List Value} (hX : JOK X G own cc nL d) {ty : FieldType} {t N : Nat} {f : Nat → Value} {i : Int32} (hT : va_T ty t N f (jA G) (gs G) (gs G).heap) (href : ty.isReference = true) (hdg : decode cc pc = .ok (.aaload, 1)) (hin : vp_in i N)
    (kk : JW X G H b (pc + 1) lv (f i.toNatClampNeg :: rest)) : JW X G H b pc lv (.int i :: .ref t :: rest) := by
  refine j_start hX fun hK => ?_
  intro locs cells slots ls hS hc hs hlv
  obtain ⟨cell, h1, h2, h3, h4, h5, h6, h7⟩ := (va_T.moved hK.1.alike hT).kept (H1 := H) (fun a h1 h2 => hK.2.1.2 a h1)
  exact W.aald (v := f i.toNatClampNeg) hX.1.1 hX.1.2.1 h1 h2 href h3 (jar_in hin h4) (h6 _ (jar_lt hin)) rfl rfl hdg (kk locs cells slots ls hS hc hs hlv)
theorem JC.hi {G : JG} (h : JC G) : va_Z "java/lang/Integer$IntegerCache" "high" "I" (.int 127) (jA G) (gs G) (gs G).heap := h.2.2.2.1.1 ("java/lang/Integer$IntegerCache", "high", "I", 127) (by simp [jsti])
theorem JC.cac {G : JG} (h : JC G) : va_Z "java/lang/Integer$IntegerCache" "cache" "[Ljava/lang/Integer;" (.ref (gC G 1)) (jA G) (gs G) (gs G).heap := h.2.2.2.1.2.1 ("java/lang/Integer$IntegerCache", "cache", "[Ljava/lang/Integer;", 1) (by simp [jstr])
theorem c_J18_init (l : Launch) (G : JG) (H : Heap) (q : Nat) {ci : Nat} {fs : List Value} (h : job G H q ci fs) : JMet l yJ18_init (ws_ yJ18_init cJ18_init 1 none) 2 0 G H [.ref q] (jpve H) (jno) := by
  refine JMet.of [(0, .inr (some q))] (by decide) (Nat.le_of_ble_eq_true rfl) rfl (fun X hl hX hQ hEx hr hnm hH => ?_)
  subst hl
  first | refine j_aload_n (pc := 0) hX dJ18_init_0 rfl rfl ?_ | refine j_aload_nq (pc := 0) hX dJ18_init_0 rfl rfl ?_
  refine j_objInit (pc := 1) hX ko_J18_1 (by decide) (Nat.le_of_ble_eq_true rfl) dJ18_init_1 ?_
  exact j_vret hX hQ hr dJ18_init_4 ⟨rfl, rfl⟩
theorem c_J19_init (l : Launch) (G : JG) (H : Heap) (q : Nat) (x : Int32) (h : jow G H q 16 [.int 0]) (hq : (gs G).heap.size ≤ q) : JMet l yJ19_init (ws_ yJ19_init cJ19_init 2 none) 3 0 G H [.ref q, .int x] (jpv (fun H1 => JPut H H1 q ∧ jow G H1 q 16 [.int x])) (jno) := by
  refine JMet.of [(0, .inr (some q)), (1, .inl (.int x))] (by decide) (Nat.le_of_ble_eq_true rfl) rfl (fun X hl hX hQ hEx hr hnm hH => ?_)
  subst hl
  first | refine j_aload_n (pc := 0) hX dJ19_init_0 rfl rfl ?_ | refine j_aload_nq (pc := 0) hX dJ19_init_0 rfl rfl ?_
  refine j_runve (pc := 1) (jr_I (pc := 1) hX ki_J19_202 (c_J18_init _ _ _ q h.r) (by decide) dJ19_init_1 rfl rfl (Nat.le_of_ble_eq_true rfl)) ?_ jno_x
  first | refine j_aload_n (pc := 4) hX dJ19_init_4 rfl rfl ?_ | refine j_aload_nq (pc := 4) hX dJ19_init_4 rfl rfl ?_
  refine j_iload_n (pc := 5) hX dJ19_init_5 rfl rfl ?_
  refine j_putF (pc := 6) hX hnm kp_J19_205 dJ19_init_6 (by assumption) hq rfl rfl rfl (fun H_6 w_6 n_6 => ?_)
  exact j_vret hX hQ hr dJ19_init_9 ⟨rfl, w_6, n_6⟩
/-- an Integer of this value -/
def inA (G : JG) (H : Heap) (q : Nat) (x : Int32) : Prop := job G H q 16 [.int x]
theorem c_J19_valueOf (l : Launch) (G : JG) (H : Heap) (x : Int32) : JMet l yJ19_valueOf (ws_ yJ19_valueOf cJ19_valueOf 1 (some (.object "java/lang/Integer"))) 4 1 G H [.int x] (jpa (fun r H1 => inA G H1 r x ∧ JExt H H1 ∧ (r < (gs G).heap.size ∨ H.size ≤ r))) (jno) := by
  refine JMet.of [(0, .inl (.int x))] (by decide) (Nat.le_of_ble_eq_true rfl) rfl (fun X hl hX hQ hEx hr hnm hH => ?_)
  subst hl
  have zh := hX.C.hi
  have zc := hX.C.cac
  have hlt : (gC G 1) < (gs G).heap.size ∨ True := Or.inr True.intro
  have cached : -128 ≤ x → x ≤ 127 → JW X G H 1 21 [(0, .inl (.int x))] [.int (x + 128), .ref (gC G 1)] := by
    intro h1 h2
    have t1 : (-128 : Int32).toInt = -128 := by decide
    have t2 : (127 : Int32).toInt = 127 := by decide
    rw [Int32.le_iff_toInt_le, t1] at h1
    rw [Int32.le_iff_toInt_le, t2] at h2
    obtain ⟨k, hk⟩ : ∃ k : Nat, x.toInt + 128 = (k : Int) := ⟨(x.toInt + 128).toNat, by omega⟩
    have ex : x = nI k - 128 := by
      rw [nI_zI, show (128 : Int32) = zI 128 from rfl, zI_sub]
      apply Int32.toInt_inj.mp
      rw [zI_toInt (by omega) (by omega)]; omega
    have e2 : x + 128 = nI k := by rw [ex, Int32.sub_add_cancel]
    have hin : vp_in (nI k) 256 := vp_in_nI (by omega) (by decide)
    rw [e2]
    refine j_start hX fun hK => ?_
    have hj := hX.C.2.2.2.2.2.1 k (by omega)
    refine j_aaldT (pc := 21) hX hX.C.2.2.2.2.2.2.1 rfl dJ19_valueOf_21 hin ?_
    rw [nI_clamp (by omega)]
    exact j_aret hX hQ hr (by first | exact Or.inl ⟨_, rfl⟩ | exact Or.inr ⟨_, rfl⟩) dJ19_valueOf_22 ⟨_, rfl, by rw [ex]; exact hj.kept (hK.old hj.lt), JFr.rfl'.ext, Or.inl hj.lt⟩
  refine j_iload_n (pc := 0) hX dJ19_valueOf_0 rfl rfl ?_
  refine j_bipush (pc := 1) (v := -128) hX dJ19_valueOf_1 (by decide) ?_
  refine j_icmp_lt (pc := 3) (tgt := 23) hX dJ19_valueOf_3 (by decide) (fun c_3 => ?_) (fun c_3 => ?_)
  · refine j_new (pc := 23) hX kn_J19_1 1 jw_J19 dJ19_valueOf_23 (fun H_23 z_23 e_23 n_23 b_23 => ?_)
    refine j_dup (pc := 26) hX dJ19_valueOf_26 (by first | rfl | exact jrf_cat _) ?_
    refine j_iload_n (pc := 27) hX dJ19_valueOf_27 rfl rfl ?_
    refine j_runv (pc := 28) (jr_I (pc := 28) hX ki_J19_199 (c_J19_init _ _ _ _ x n_23 b_23) (by decide) dJ19_valueOf_28 rfl rfl (Nat.le_of_ble_eq_true rfl)) (fun H_28 p_28 z_28 => ?_) jno_x
    obtain ⟨w1, n1⟩ := p_28
    first | exact j_aret hX hQ hr (by first | exact Or.inl ⟨_, rfl⟩ | exact Or.inr ⟨_, rfl⟩) dJ19_valueOf_31 ⟨_, rfl, n1.r, e_23.put w1 (Nat.le_refl _), Or.inr (Nat.le_refl _)⟩ | exact j_aretN hX hQ hr (by first | exact Or.inl ⟨_, rfl⟩ | exact Or.inr ⟨_, rfl⟩) dJ19_valueOf_31 ⟨_, rfl, n1.r, e_23.put w1 (Nat.le_refl _), Or.inr (Nat.le_refl _)⟩ | exact j_aretq hX hQ hr (by first | exact Or.inl ⟨_, rfl⟩ | exact Or.inr ⟨_, rfl⟩) dJ19_valueOf_31 ⟨_, rfl, n1.r, e_23.put w1 (Nat.le_refl _), Or.inr (Nat.le_refl _)⟩
  · refine j_iload_n (pc := 6) hX dJ19_valueOf_6 rfl rfl ?_
    refine j_gets (pc := 7) hX kst_J19_191 zh dJ19_valueOf_7 ?_
    refine j_icmp_gt (pc := 10) (tgt := 23) hX dJ19_valueOf_10 (by decide) (fun c_10 => ?_) (fun c_10 => ?_)
    · refine j_new (pc := 23) hX kn_J19_1 1 jw_J19 dJ19_valueOf_23 (fun H_23 z_23 e_23 n_23 b_23 => ?_)
      refine j_dup (pc := 26) hX dJ19_valueOf_26 (by first | rfl | exact jrf_cat _) ?_
      refine j_iload_n (pc := 27) hX dJ19_valueOf_27 rfl rfl ?_
      refine j_runv (pc := 28) (jr_I (pc := 28) hX ki_J19_199 (c_J19_init _ _ _ _ x n_23 b_23) (by decide) dJ19_valueOf_28 rfl rfl (Nat.le_of_ble_eq_true rfl)) (fun H_28 p_28 z_28 => ?_) jno_x
      obtain ⟨w1, n1⟩ := p_28
      first | exact j_aret hX hQ hr (by first | exact Or.inl ⟨_, rfl⟩ | exact Or.inr ⟨_, rfl⟩) dJ19_valueOf_31 ⟨_, rfl, n1.r, e_23.put w1 (Nat.le_refl _), Or.inr (Nat.le_refl _)⟩ | exact j_aretN hX hQ hr (by first | exact Or.inl ⟨_, rfl⟩ | exact Or.inr ⟨_, rfl⟩) dJ19_valueOf_31 ⟨_, rfl, n1.r, e_23.put w1 (Nat.le_refl _), Or.inr (Nat.le_refl _)⟩ | exact j_aretq hX hQ hr (by first | exact Or.inl ⟨_, rfl⟩ | exact Or.inr ⟨_, rfl⟩) dJ19_valueOf_31 ⟨_, rfl, n1.r, e_23.put w1 (Nat.le_refl _), Or.inr (Nat.le_refl _)⟩
    · refine j_gets (pc := 13) hX kst_J19_195 zc dJ19_valueOf_13 ?_
      refine j_iload_n (pc := 16) hX dJ19_valueOf_16 rfl rfl ?_
      refine j_sipush (pc := 17) (v := 128) hX dJ19_valueOf_17 (by decide) ?_
      refine j_iadd (pc := 20) hX dJ19_valueOf_20 ?_
      exact cached (Int32.not_lt.mp c_3) (Int32.not_lt.mp c_10)
theorem c_J19_hashCode_2 (l : Launch) (G : JG) (H : Heap) (x : Int32) : JMet l yJ19_hashCode_2 (ws_ yJ19_hashCode_2 cJ19_hashCode_2 1 (some .int)) 1 0 G H [.int x] (jpe H x) (jno) := by
  refine JMet.of [(0, .inl (.int x))] (by decide) (Nat.le_of_ble_eq_true rfl) rfl (fun X hl hX hQ hEx hr hnm hH => ?_)
  subst hl
  refine j_iload_n (pc := 0) hX dJ19_hashCode_2_0 rfl rfl ?_
  exact j_iret hX hQ hr dJ19_hashCode_2_1 ⟨_, rfl, rfl, by rfl⟩
theorem c_J19_hashCode (l : Launch) (G : JG) (H : Heap) (q : Nat) {x : Int32} (h : inA G H q x) : JMet l yJ19_hashCode (ws_ yJ19_hashCode cJ19_hashCode 1 (some .int)) 2 0 G H [.ref q] (jpe H x) (jno) := by
  refine JMet.of [(0, .inr (some q))] (by decide) (Nat.le_of_ble_eq_true rfl) rfl (fun X hl hX hQ hEx hr hnm hH => ?_)
  subst hl
  have ho : job G H q 16 [.int x] := h
  first | refine j_aload_n (pc := 0) hX dJ19_hashCode_0 rfl rfl ?_ | refine j_aload_nq (pc := 0) hX dJ19_hashCode_0 rfl rfl ?_
  refine j_get (pc := 1) hX kg_J19_205 dJ19_hashCode_1 (by first | assumption | exact jow.r (by assumption)) (by rfl) ?_
  refine j_rune (pc := 4) (jr_S (pc := 4) hX ks_J19_208 (c_J19_hashCode_2 _ _ _ x) (by decide) dJ19_hashCode_4 rfl rfl (Nat.le_of_ble_eq_true rfl)) ?_ jno_x
  exact j_iret hX hQ hr dJ19_hashCode_7 ⟨_, rfl, rfl, by rfl⟩
theorem c_J19_intValue (l : Launch) (G : JG) (H : Heap) (q : Nat) {x : Int32} (h : inA G H q x) : JMet l yJ19_intValue (ws_ yJ19_intValue cJ19_intValue 1 (some .int)) 1 0 G H [.ref q] (jpe H x) (jno) := by
  refine JMet.of [(0, .inr (some q))] (by decide) (Nat.le_of_ble_eq_true rfl) rfl (fun X hl hX hQ hEx hr hnm hH => ?_)
  subst hl
  have ho : job G H q 16 [.int x] := h
  first | refine j_aload_n (pc := 0) hX dJ19_intValue_0 rfl rfl ?_ | refine j_aload_nq (pc := 0) hX dJ19_intValue_0 rfl rfl ?_
  refine j_get (pc := 1) hX kg_J19_205 dJ19_intValue_1 (by first | assumption | exact jow.r (by assumption)) (by rfl) ?_
  exact j_iret hX hQ hr dJ19_intValue_4 ⟨_, rfl, rfl, by rfl⟩
