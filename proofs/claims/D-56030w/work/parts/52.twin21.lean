/-! the reference executes its input -/
set_option maxRecDepth 100000
theorem sk_ge {L S : List Nat} {q : Nat × Bool} : ∀ i, q.1 ≤ (jfold (skF L S) i q).1 := by
  intro i
  induction i with
  | zero => exact Nat.le_refl _
  | succ i ih =>
    rw [jfold_succ]
    generalize jfold (skF L S) i q = z at *
    unfold skF; split
    · exact ih
    · split
      · exact Nat.le_succ_of_le ih
      · exact ih
theorem skT_ge {L : List Nat} {tx : String} {q : Nat × Bool} : q.1 ≤ (skT L tx q).1 := sk_ge _
theorem rn_ge {L : List Nat} {z : (Nat × Bool) × Nat} : ∀ i, z.1.1 ≤ (jfold (rnF L) i z).1.1 := by
  intro i
  induction i with
  | zero => exact Nat.le_refl _
  | succ i ih =>
    rw [jfold_succ]
    generalize jfold (rnF L) i z = y at *
    unfold rnF; split
    · exact Nat.le_succ_of_le ih
    · exact ih
theorem rnN_ge {L : List Nat} {m : Nat} {q : Nat × Bool} : q.1 ≤ (rnN L m q).1.1 := rn_ge (z := (rn0 L q, 0)) m
theorem shN_ge {L : List Nat} {any : Bool} {q : Nat × Bool} : q.1 ≤ (shN L any q).1 := by
  unfold shN; cases shW L any q with
  | true => exact Nat.le_refl _
  | false => exact Nat.le_succ _
theorem rcN_all {L : List Nat} (hc : ∀ j, j < L.length → L.getD j 0 < 65536) {z : PC} (hz : z.1.1 ≤ L.length) : z.1.1 ≤ (rcN L z).1.1 ∧ (rcN L z).1.1 ≤ L.length ∧ (rcN L z).2.2 ≤ z.2.2 + 1 := by
  have one : ∀ tx m cm, txOK tx → m ≤ 3 → z.1.1 ≤ (rcOne L tx m z.1 cm z.2.2).1.1 ∧ (rcOne L tx m z.1 cm z.2.2).1.1 ≤ L.length ∧ (rcOne L tx m z.1 cm z.2.2).2.2 ≤ z.2.2 + 1 := fun tx m cm ht hm =>
    ⟨Nat.le_trans skT_ge rnN_ge, rnN_le hc hm (skT_le ht hz), Nat.le_refl _⟩
  have two : ∀ tx m t2 cm, txOK tx → txOK t2 → m ≤ 3 → z.1.1 ≤ (rcTwo L tx m t2 z.1 cm z.2.2).1.1 ∧ (rcTwo L tx m t2 z.1 cm z.2.2).1.1 ≤ L.length ∧ (rcTwo L tx m t2 z.1 cm z.2.2).2.2 ≤ z.2.2 + 1 := fun tx m t2 cm ht ht2 hm =>
    ⟨Nat.le_trans (Nat.le_trans (Nat.le_trans skT_ge rnN_ge) skT_ge) rnN_ge, rnN_le hc (by omega) (skT_le ht2 (rnN_le hc hm (skT_le ht hz))), Nat.le_refl _⟩
  have shp : ∀ tx any cm, txOK tx → z.1.1 ≤ (rcShp L tx any z.1 cm z.2.2).1.1 ∧ (rcShp L tx any z.1 cm z.2.2).1.1 ≤ L.length ∧ (rcShp L tx any z.1 cm z.2.2).2.2 ≤ z.2.2 + 1 := fun tx any cm ht =>
    ⟨Nat.le_trans (Nat.le_trans (Nat.le_trans (Nat.le_trans skT_ge shN_ge) rnN_ge) skT_ge) rnN_ge, rnN_le hc (by omega) (skT_le tx_sl (rnN_le hc (by omega) (shN_le (skT_le ht hz)))), Nat.le_refl _⟩
  unfold rcN
  split
  · exact ⟨Nat.le_refl _, hz, Nat.le_succ _⟩
  split
  · exact one _ _ _ (by split; exact tx_dismiss; exact tx_day) (by omega)
  split
  · exact shp _ _ _ tx_apply
  split
  · have h := shp "post " true (jup z.2.1 (5 * z.2.2) (kindN L z.1.1)) tx_post
    exact ⟨Nat.le_trans (Nat.le_trans h.1 skT_ge) rnN_ge, rnN_le hc (by omega) (skT_le tx_eq h.2.1), Nat.le_refl _⟩
  split
  · exact one _ _ _ tx_leave (by omega)
  split
  · exact one _ _ _ tx_close (by omega)
  split
  · exact two _ _ _ _ tx_hire tx_lt (by omega)
  split
  · exact two _ _ _ _ tx_refer tx_gt (by omega)
  · exact ⟨skT_ge, skT_le (by split; exact tx_match; exact tx_day) hz, Nat.le_refl _⟩
/-- the commands behind the first one -/
def exF (L : List Nat) : Nat → PC → PC
  | 0, z => z
  | f + 1, z => if z.1.2 = false ∧ chI L z.1.1 = 59 then exF L f (rcN L ((z.1.1 + 1, z.1.2), z.2)) else z
def exZ (L : List Nat) (cm : Nat → Int32) : PC := exF L (L.length + 1) (rcN L ((0, false), cm, 0))
def exW (L : List Nat) (cm : Nat → Int32) : Bool := (exZ L cm).1.2 || decide ((exZ L cm).1.1 < L.length)
def doesK (s : Nat → Nat) (cm : Nat → Int32) (k : Nat) : Nat × Int32 × (Nat → Nat) := doesD s (cm (5 * k)) (chr16 (cm (5 * k + 1))) (cm (5 * k + 2)) (cm (5 * k + 3)) (cm (5 * k + 4))
def runN (cm : Nat → Int32) : Nat → Nat → (Nat → Nat) → Option Nat × (Nat → Nat)
  | 0, _, s => (none, s)
  | f + 1, k, s => if (doesK s cm k).1 = 0 then runN cm f (k + 1) (doesK s cm k).2.2 else (some k, s)
theorem doesK_t {s : Nat → Nat} {cm : Nat → Int32} {k : Nat} : (doesK s cm k).1 < 10 := by
  unfold doesK doesD
  split
  · exact dismissD_t
  split
  · exact addD_t
  split
  · exact openD_t
  split
  · exact remD_t
  split
  · exact closeD_t
  split
  · exact hireD_t
  split
  · exact refD_t
  split
  · exact matchD_t
  · exact daysD_t
/-- what execution leaves -/
def exP (G : JG) (H H1 : Heap) (g : Nat → Nat) (ar : Nat → Nat → Nat) (cm fs : Nat → Int32) (n0 : Nat) (L : List Nat) (r : Int32) : Prop :=
  ∃ ar' cm' fs', twR G H H1 g ar' cm' fs' ∧ ar' 2 = ar 2 ∧ ar' 7 = ar 7 ∧ ar' 9 = ar 9 ∧ fs' 3 = fs 3 ∧ fs' 8 = fs 8 ∧ fs' 10 = 0 ∧
    (exW L cm = true → fs' 6 = 1 ∧ fs' 13 = nI (exZ L cm).1.1 ∧ fs' 14 = fs 14 ∧ ar' 0 = ar 0 ∧ ar' 4 = ar 4 ∧ fs' 5 = fs 5) ∧
    (exW L cm = false → fs' 13 = fs 13 ∧
      (∀ k, (runN (exZ L cm).2.1 (exZ L cm).2.2 0 (ar 0)).1 = some k → fs' 6 = 2 ∧ fs' 14 = nI k ∧ ar' 0 = ar 0 ∧ ar' 4 = ar 4 ∧ fs' 5 = fs 5) ∧
      ((runN (exZ L cm).2.1 (exZ L cm).2.2 0 (ar 0)).1 = none → fs' 6 = 0 ∧ fs' 14 = fs 14 ∧ ar' 0 = (runN (exZ L cm).2.1 (exZ L cm).2.2 0 (ar 0)).2 ∧ ar' 4 = pastPush (ar 4) (ar 0) n0 ∧ fs' 5 = nI (pastN n0) ∧ r = nI (exZ L cm).2.2))
theorem c_X3_execute (l : Launch) (G : JG) (H : Heap) {g : Nat → Nat} {ar : Nat → Nat → Nat} {cm fs : Nat → Int32} (hT : jtw G H g ar cm fs) (n0 : Nat) (hn0 : n0 ≤ 8) (e5 : fs 5 = nI n0) (L : List Nat) (hI0 : Inp ar fs L) (P : Nat → (Nat → Nat) → Prop) (hP0 : P 0 (ar 0)) (hP1 : ∀ k s, P k s → DoesOK s) (hP2 : ∀ k s, k < 52 → P k s → (doesK s (exZ L cm).2.1 k).1 = 0 → P (k + 1) (doesK s (exZ L cm).2.1 k).2.2) : JMet l yX3_execute (ws_ yX3_execute cX3_execute 2 (some .int)) 7 0 G H [.ref (g 100)] (jpi (fun r H1 => exP G H H1 g ar cm fs n0 L r)) (jno) := by
  refine JMet.of [(0, .inr (some (g 100)))] (by decide) (Nat.le_of_ble_eq_true rfl) rfl (fun X hl hX hQ hEx hr hnm hH => ?_)
  subst hl
  obtain ⟨h0, ho, hs, hbf, hsv, hpa, hou, hip, hcm⟩ := id hT
  have hi2 : vp_in (2 : Int32) 93 := vp_in_nI (n := 2) (by omega) (by decide)
  have hF : JFr (twP g) H H := JFr.rfl'
  have hL := hI0.2.2.1
  have hc := hI0.2.2.2
  have runs : ∀ (H1 : Heap) (cm1 F : Nat → Int32) (n : Nat), n ≤ 52 → exW L cm = false → cm1 = (exZ L cm).2.1 → n = (exZ L cm).2.2 → F 16 = nI n → F 3 = fs 3 → F 5 = fs 5 → F 8 = fs 8 → F 10 = 0 → F 13 = fs 13 → F 14 = fs 14 → F 6 = 0 → JFr (twP g) H H1 → jtw G H1 g (jup ar 1 (ar 0)) cm1 F → JW X G H1 0 126 [(0, .inr (some (g 100))), (1, .inl (.int 0))] [] := by
    intro H1 cm1 F n hn hw ecm en f16 f3 f5 f8 f10 f13 f14 f6 hF hT
    have loop : ∀ f k s (H1 : Heap), k + f = n → P k s → runN cm1 f k s = runN cm1 n 0 (ar 0) → JFr (twP g) H H1 → jtw G H1 g (jup (jup ar 1 (ar 0)) 0 s) cm1 F → JW X G H1 0 126 [(0, .inr (some (g 100))), (1, .inl (.int (nI k)))] [] := by
      intro f
      induction f with
      | zero =>
        intro k s H1 hk hPk er hF hT
        have ho := hT.2.1
        have er : runN cm1 n 0 (ar 0) = (none, s) := er.symm
        refine j_iload_n (pc := 126) hX dX3_execute_126 rfl rfl ?_
        first | refine j_aload_n (pc := 127) hX dX3_execute_127 rfl rfl ?_ | refine j_aload_nq (pc := 127) hX dX3_execute_127 rfl rfl ?_
        refine j_get (pc := 128) hX kg_X3_245 dX3_execute_128 (by first | assumption | exact jow.r (by assumption)) (by rfl) ?_
        change JW X G H1 0 131 _ [.int (F 16), _]
        rw [f16]
        refine j_icmp_ge (pc := 131) (tgt := 167) hX dX3_execute_131 (by decide) (fun c_131 => ?_) (fun c_131 => ?_)
        rotate_left
        · exact absurd (jge_no (a := n) c_131 (by omega) (by omega)) (by omega)
        first | refine j_aload_n (pc := 167) hX dX3_execute_167 rfl rfl ?_ | refine j_aload_nq (pc := 167) hX dX3_execute_167 rfl rfl ?_
        first | refine j_aload_n (pc := 168) hX dX3_execute_168 rfl rfl ?_ | refine j_aload_nq (pc := 168) hX dX3_execute_168 rfl rfl ?_
        refine j_get (pc := 169) hX kg_X3_245 dX3_execute_169 (by first | assumption | exact jow.r (by assumption)) (by rfl) ?_
        change JW X G H1 0 172 _ [.int (F 16), _]
        rw [f16]
        refine j_runi (pc := 172) (jr_V (pc := 172) hX kv_X3_100 (by first | assumption | exact jow.r (by assumption)) (c_X3_ends_0 _ _ _ hT n0 hn0 (f5.trans e5) f6 _) (by decide) dX3_execute_172 rfl rfl (Nat.le_of_ble_eq_true rfl)) (fun r_172 H_172 p_172 z_172 => ?_) jno_x
        obtain ⟨hR, rfl⟩ := p_172
        have hF := JFr.trans hF hR.1
        have hT := hR.2
        exact j_iret hX hQ hr dX3_execute_175 ⟨_, rfl, _, _, _, ⟨hF, hT⟩, rfl, rfl, rfl, f3, f8, f10, (fun z => absurd (hw.symm.trans z) (by decide)), fun _ => ⟨f13, (fun j hj => by rw [← ecm, ← en, er] at hj; cases hj), fun _ => ⟨f6, f14, by rw [← ecm, ← en, er]; rfl, rfl, rfl, by rw [en]⟩⟩⟩
      | succ f ih =>
        intro k s H1 hk hPk er hF hT
        have ho := hT.2.1
        have hD := hP1 k s hPk
        have ht := doesK_t (s := s) (cm := cm1) (k := k)
        have es : runN cm1 (f + 1) k s = if (doesK s cm1 k).1 = 0 then runN cm1 f (k + 1) (doesK s cm1 k).2.2 else (some k, s) := rfl
        have hP3 := hP2 k s (by omega) hPk
        rw [← ecm] at hP3
        rw [es] at er
        refine j_iload_n (pc := 126) hX dX3_execute_126 rfl rfl ?_
        first | refine j_aload_n (pc := 127) hX dX3_execute_127 rfl rfl ?_ | refine j_aload_nq (pc := 127) hX dX3_execute_127 rfl rfl ?_
        refine j_get (pc := 128) hX kg_X3_245 dX3_execute_128 (by first | assumption | exact jow.r (by assumption)) (by rfl) ?_
        change JW X G H1 0 131 _ [.int (F 16), _]
        rw [f16]
        refine j_icmp_ge (pc := 131) (tgt := 167) hX dX3_execute_131 (by decide) (fun c_131 => ?_) (fun c_131 => ?_)
        · exact absurd (jge_yes (a := n) c_131 (by omega) (by omega)) (by omega)
        first | refine j_aload_n (pc := 134) hX dX3_execute_134 rfl rfl ?_ | refine j_aload_nq (pc := 134) hX dX3_execute_134 rfl rfl ?_
        refine j_iload_n (pc := 135) hX dX3_execute_135 rfl rfl ?_
        refine j_runv (pc := 136) (jr_V (pc := 136) hX kv_X3_288 (by first | assumption | exact jow.r (by assumption)) (c_X3_does _ _ _ hT hD f6 k (by omega)) (by decide) dX3_execute_136 rfl rfl (Nat.le_of_ble_eq_true rfl)) (fun H_136 p_136 z_136 => ?_) jno_x
        have hF := JFr.trans hF p_136.1
        have hT := p_136.2
        change jtw G H_136 g (jup (jup (jup ar 1 (ar 0)) 0 s) 0 (doesK s cm1 k).2.2) cm1 (jup F 6 (nI (doesK s cm1 k).1)) at hT
        rw [jup_jup] at hT
        have ho := hT.2.1
        first | refine j_aload_n (pc := 139) hX dX3_execute_139 rfl rfl ?_ | refine j_aload_nq (pc := 139) hX dX3_execute_139 rfl rfl ?_
        refine j_get (pc := 140) hX kg_X3_39 dX3_execute_140 (by first | assumption | exact jow.r (by assumption)) (by rfl) ?_
        change JW X G H_136 0 143 _ [.int (nI (doesK s cm1 k).1)]
        refine j_if_le (pc := 143) (tgt := 161) hX dX3_execute_143 (by decide) (fun c_143 => ?_) (fun c_143 => ?_)
        · rw [show (0 : Int32) = nI 0 from rfl, nI_leI (by omega) (by omega)] at c_143
          have c0 : (doesK s cm1 k).1 = 0 := by omega
          rw [if_pos c0] at er
          rw [c0, nI_0, jup_id' f6] at hT
          refine j_iincc (pc := 161) (m := 1) hX dX3_execute_161 rfl (by decide) (by decide) rfl ?_
          refine j_goto (pc := 164) (tgt := 126) hX dX3_execute_164 (by decide) ?_
          exact j_lv (by simp [jsb, jget, jval, nI_1]) (ih (k + 1) _ _ (by omega) (hP3 c0) er hF hT)
        · rw [show (0 : Int32) = nI 0 from rfl, nI_leI (by omega) (by omega)] at c_143
          have c0 : ¬ (doesK s cm1 k).1 = 0 := by omega
          rw [if_neg c0] at er
          have er := er.symm
          first | refine j_aload_n (pc := 146) hX dX3_execute_146 rfl rfl ?_ | refine j_aload_nq (pc := 146) hX dX3_execute_146 rfl rfl ?_
          refine j_iload_n (pc := 147) hX dX3_execute_147 rfl rfl ?_
          refine j_put (pc := 148) hX kp_X3_33 dX3_execute_148 (by assumption) (by first | assumption | omega | exact h0.1 _ (by decide)) rfl rfl rfl (fun H_148 w_148 n_148 => ?_)
          have hT := tw_put14 hT w_148 n_148
          have hF := hF.put w_148 (fun _ => ⟨100, by decide, rfl⟩)
          have ho := hT.2.1
          first | refine j_aload_n (pc := 151) hX dX3_execute_151 rfl rfl ?_ | refine j_aload_nq (pc := 151) hX dX3_execute_151 rfl rfl ?_
          first | refine j_aload_n (pc := 152) hX dX3_execute_152 rfl rfl ?_ | refine j_aload_nq (pc := 152) hX dX3_execute_152 rfl rfl ?_
          refine j_iconst (pc := 153) (v := 2) hX dX3_execute_153 (by decide) ?_
          refine j_runi (pc := 154) (jr_V (pc := 154) hX kv_X3_82 (by first | assumption | exact jow.r (by assumption)) (c_X3_fails _ _ _ hT _) (by decide) dX3_execute_154 rfl rfl (Nat.le_of_ble_eq_true rfl)) (fun r_154 H_154 p_154 z_154 => ?_) jno_x
          obtain ⟨hR, rfl⟩ := p_154
          have hF := JFr.trans hF hR.1
          have hT := hR.2
          have ho := hT.2.1
          refine j_runi (pc := 157) (jr_V (pc := 157) hX kv_X3_100 (by first | assumption | exact jow.r (by assumption)) (c_X3_ends_t _ _ _ hT 2 (by omega) (by omega) rfl _) (by decide) dX3_execute_157 rfl rfl (Nat.le_of_ble_eq_true rfl)) (fun r_157 H_157 p_157 z_157 => ?_) jno_x
          obtain ⟨hR, rfl⟩ := p_157
          have hF := JFr.trans hF hR.1
          have hT := hR.2
          exact j_iret hX hQ hr dX3_execute_160 ⟨_, rfl, _, _, _, ⟨hF, hT⟩, rfl, rfl, rfl, f3, f8, f10, (fun z => absurd (hw.symm.trans z) (by decide)), fun _ => ⟨f13, (fun j hj => by rw [← ecm, ← en, er] at hj; cases hj; exact ⟨rfl, rfl, rfl, rfl, f5⟩), fun z => by rw [← ecm, ← en, er] at z; cases z⟩⟩
    exact loop n 0 (ar 0) H1 (by omega) hP0 rfl hF (by rw [jup_id' (f := jup ar 1 (ar 0)) (k := 0) (a := ar 0) rfl]; exact hT)
  have tail : ∀ (H1 : Heap) (z : PC), z = exZ L cm → z.1.1 ≤ L.length → z.2.2 ≤ 52 → JFr (twP g) H H1 → jtw G H1 g ar z.2.1 (psF (jup fs 16 (nI z.2.2)) z.1.1 z.1.2) → JW X G H1 0 53 [(0, .inr (some (g 100)))] [] := by
    intro H1 z ez hz hn hF hT
    have p80 : ∀ (H1 : Heap) (W : Bool), W = exW L cm → JFr (twP g) H H1 → jtw G H1 g ar z.2.1 (psF (jup fs 16 (nI z.2.2)) z.1.1 W) → JW X G H1 0 80 [(0, .inr (some (g 100)))] [] := by
      intro H1 W eW hF hT
      have ho := hT.2.1
      cases W with
      | true =>
        first | refine j_aload_n (pc := 80) hX dX3_execute_80 rfl rfl ?_ | refine j_aload_nq (pc := 80) hX dX3_execute_80 rfl rfl ?_
        first | refine j_aload_n (pc := 81) hX dX3_execute_81 rfl rfl ?_ | refine j_aload_nq (pc := 81) hX dX3_execute_81 rfl rfl ?_
        refine j_get (pc := 82) hX kg_X3_230 dX3_execute_82 (by first | assumption | exact jow.r (by assumption)) (by rfl) ?_
        refine j_if_eq (pc := 85) (tgt := 95) hX dX3_execute_85 (by decide) (fun c_85 => ?_) (fun c_85 => ?_)
        · exact absurd (show (1 : Int32) = 0 from c_85) (by decide)
        first | refine j_aload_n (pc := 88) hX dX3_execute_88 rfl rfl ?_ | refine j_aload_nq (pc := 88) hX dX3_execute_88 rfl rfl ?_
        refine j_get (pc := 89) hX kg_X3_223 dX3_execute_89 (by first | assumption | exact jow.r (by assumption)) (by rfl) ?_
        refine j_goto (pc := 92) (tgt := 99) hX dX3_execute_92 (by decide) ?_
        refine j_put (pc := 99) hX kp_X3_29 dX3_execute_99 (by assumption) (by first | assumption | omega | exact h0.1 _ (by decide)) rfl rfl rfl (fun H_99 w_99 n_99 => ?_)
        have hT := tw_put13 hT w_99 n_99
        have hF := hF.put w_99 (fun _ => ⟨100, by decide, rfl⟩)
        have ho := hT.2.1
        first | refine j_aload_n (pc := 102) hX dX3_execute_102 rfl rfl ?_ | refine j_aload_nq (pc := 102) hX dX3_execute_102 rfl rfl ?_
        refine j_iconst (pc := 103) (v := 0) hX dX3_execute_103 (by decide) ?_
        refine j_put (pc := 104) hX kp_X3_220 dX3_execute_104 (by assumption) (by first | assumption | omega | exact h0.1 _ (by decide)) rfl rfl rfl (fun H_104 w_104 n_104 => ?_)
        have hT := tw_put10 hT w_104 n_104
        have hF := hF.put w_104 (fun _ => ⟨100, by decide, rfl⟩)
        have ho := hT.2.1
        first | refine j_aload_n (pc := 107) hX dX3_execute_107 rfl rfl ?_ | refine j_aload_nq (pc := 107) hX dX3_execute_107 rfl rfl ?_
        refine j_get (pc := 108) hX kg_X3_230 dX3_execute_108 (by first | assumption | exact jow.r (by assumption)) (by rfl) ?_
        refine j_if_eq (pc := 111) (tgt := 120) hX dX3_execute_111 (by decide) (fun c_111 => ?_) (fun c_111 => ?_)
        · exact absurd (show (1 : Int32) = 0 from c_111) (by decide)
        first | refine j_aload_n (pc := 114) hX dX3_execute_114 rfl rfl ?_ | refine j_aload_nq (pc := 114) hX dX3_execute_114 rfl rfl ?_
        refine j_iconst (pc := 115) (v := 1) hX dX3_execute_115 (by decide) ?_
        refine j_runi (pc := 116) (jr_V (pc := 116) hX kv_X3_82 (by first | assumption | exact jow.r (by assumption)) (c_X3_fails _ _ _ hT _) (by decide) dX3_execute_116 rfl rfl (Nat.le_of_ble_eq_true rfl)) (fun r_116 H_116 p_116 z_116 => ?_) jno_x
        obtain ⟨hR, rfl⟩ := p_116
        have hF := JFr.trans hF hR.1
        have hT := hR.2
        exact j_iret hX hQ hr dX3_execute_119 ⟨_, rfl, _, _, _, ⟨hF, hT⟩, rfl, rfl, rfl, rfl, rfl, rfl, (fun _ => ⟨rfl, by rw [← ez]; rfl, rfl, rfl, rfl, rfl⟩), fun q => absurd (eW.trans q) (by decide)⟩
      | false =>
        first | refine j_aload_n (pc := 80) hX dX3_execute_80 rfl rfl ?_ | refine j_aload_nq (pc := 80) hX dX3_execute_80 rfl rfl ?_
        first | refine j_aload_n (pc := 81) hX dX3_execute_81 rfl rfl ?_ | refine j_aload_nq (pc := 81) hX dX3_execute_81 rfl rfl ?_
        refine j_get (pc := 82) hX kg_X3_230 dX3_execute_82 (by first | assumption | exact jow.r (by assumption)) (by rfl) ?_
        refine j_if_eq (pc := 85) (tgt := 95) hX dX3_execute_85 (by decide) (fun c_85 => ?_) (fun c_85 => ?_)
        rotate_left
        · exact absurd (show (0 : Int32) = 0 from rfl) c_85
        first | refine j_aload_n (pc := 95) hX dX3_execute_95 rfl rfl ?_ | refine j_aload_nq (pc := 95) hX dX3_execute_95 rfl rfl ?_
        refine j_get (pc := 96) hX kg_X3_29 dX3_execute_96 (by first | assumption | exact jow.r (by assumption)) (by rfl) ?_
        refine j_put (pc := 99) hX kp_X3_29 dX3_execute_99 (by assumption) (by first | assumption | omega | exact h0.1 _ (by decide)) rfl rfl rfl (fun H_99 w_99 n_99 => ?_)
        have hT := tw_put13 hT w_99 n_99
        have hF := hF.put w_99 (fun _ => ⟨100, by decide, rfl⟩)
        have ho := hT.2.1
        first | refine j_aload_n (pc := 102) hX dX3_execute_102 rfl rfl ?_ | refine j_aload_nq (pc := 102) hX dX3_execute_102 rfl rfl ?_
        refine j_iconst (pc := 103) (v := 0) hX dX3_execute_103 (by decide) ?_
        refine j_put (pc := 104) hX kp_X3_220 dX3_execute_104 (by assumption) (by first | assumption | omega | exact h0.1 _ (by decide)) rfl rfl rfl (fun H_104 w_104 n_104 => ?_)
        have hT := tw_put10 hT w_104 n_104
        have hF := hF.put w_104 (fun _ => ⟨100, by decide, rfl⟩)
        have ho := hT.2.1
        first | refine j_aload_n (pc := 107) hX dX3_execute_107 rfl rfl ?_ | refine j_aload_nq (pc := 107) hX dX3_execute_107 rfl rfl ?_
        refine j_get (pc := 108) hX kg_X3_230 dX3_execute_108 (by first | assumption | exact jow.r (by assumption)) (by rfl) ?_
        refine j_if_eq (pc := 111) (tgt := 120) hX dX3_execute_111 (by decide) (fun c_111 => ?_) (fun c_111 => ?_)
        rotate_left
        · exact absurd (show (0 : Int32) = 0 from rfl) c_111
        first | refine j_aload_n (pc := 120) hX dX3_execute_120 rfl rfl ?_ | refine j_aload_nq (pc := 120) hX dX3_execute_120 rfl rfl ?_
        refine j_runv (pc := 121) (jr_V (pc := 121) hX kv_X3_93 (by first | assumption | exact jow.r (by assumption)) (c_X3_keep _ _ _ hT) (by decide) dX3_execute_121 rfl rfl (Nat.le_of_ble_eq_true rfl)) (fun H_121 p_121 z_121 => ?_) jno_x
        have hF := JFr.trans hF p_121.1
        have hT := p_121.2
        refine j_iconst (pc := 124) (v := 0) hX dX3_execute_124 (by decide) ?_
        refine j_istore_n (pc := 125) hX dX3_execute_125 rfl (by decide) rfl ?_
        exact runs _ z.2.1 (jup (jup (jup (psF (jup fs 16 (nI z.2.2)) z.1.1 false) 13 (psF (jup fs 16 (nI z.2.2)) z.1.1 false 13)) 10 0) 6 0) z.2.2 hn eW.symm (by rw [ez]) (by rw [ez]) rfl rfl rfl rfl rfl rfl rfl rfl hF hT
    have ho := hT.2.1
    have hw : z.1.2 = true → true = exW L cm := fun h => by unfold exW; rw [← ez, h]; rfl
    have hw2 : z.1.2 = false → z.1.1 < L.length → true = exW L cm := fun h h2 => by unfold exW; rw [← ez, h, decide_eq_true h2]; rfl
    have hw3 : z.1.2 = false → ¬ z.1.1 < L.length → false = exW L cm := fun h h2 => by unfold exW; rw [← ez, h, decide_eq_false h2]; rfl
    first | refine j_aload_n (pc := 53) hX dX3_execute_53 rfl rfl ?_ | refine j_aload_nq (pc := 53) hX dX3_execute_53 rfl rfl ?_
    first | refine j_aload_n (pc := 54) hX dX3_execute_54 rfl rfl ?_ | refine j_aload_nq (pc := 54) hX dX3_execute_54 rfl rfl ?_
    refine j_get (pc := 55) hX kg_X3_230 dX3_execute_55 (by first | assumption | exact jow.r (by assumption)) (by rfl) ?_
    change JW X G H1 0 58 _ [.int (jb z.1.2), _]
    refine j_if_ne (pc := 58) (tgt := 72) hX dX3_execute_58 (by decide) (fun c_58 => ?_) (fun c_58 => ?_)
    · rw [jb_n] at c_58
      refine j_iconst (pc := 72) (v := 1) hX dX3_execute_72 (by decide) ?_
      refine j_goto (pc := 73) (tgt := 77) hX dX3_execute_73 (by decide) ?_
      refine j_put (pc := 77) hX kp_X3_230 dX3_execute_77 (by assumption) (by first | assumption | omega | exact h0.1 _ (by decide)) rfl rfl rfl (fun H_77 w_77 n_77 => ?_)
      have hT := tw_put12 hT w_77 n_77
      have hF := hF.put w_77 (fun _ => ⟨100, by decide, rfl⟩)
      first | replace hT := psF_12t hT | replace hT := psF_12f hT
      first | exact p80 _ true (hw c_58) hF hT | exact p80 _ false (hw3 c_58 (Nat.not_lt.mpr c_69)) hF hT | exact p80 _ true (hw2 c_58 (Nat.not_le.mp c_69)) hF hT
    · rw [jb_z] at c_58
      first | refine j_aload_n (pc := 61) hX dX3_execute_61 rfl rfl ?_ | refine j_aload_nq (pc := 61) hX dX3_execute_61 rfl rfl ?_
      refine j_get (pc := 62) hX kg_X3_223 dX3_execute_62 (by first | assumption | exact jow.r (by assumption)) (by rfl) ?_
      first | refine j_aload_n (pc := 65) hX dX3_execute_65 rfl rfl ?_ | refine j_aload_nq (pc := 65) hX dX3_execute_65 rfl rfl ?_
      refine j_get (pc := 66) hX kg_X3_220 dX3_execute_66 (by first | assumption | exact jow.r (by assumption)) (by rfl) ?_
      change JW X G H1 0 69 _ [.int (fs 10), .int (nI z.1.1), _]
      rw [hI0.2.1]
      refine j_icmp_ge (pc := 69) (tgt := 76) hX dX3_execute_69 (by decide) (fun c_69 => ?_) (fun c_69 => ?_)
      · rw [nI_leI (by omega) (by omega)] at c_69
        refine j_iconst (pc := 76) (v := 0) hX dX3_execute_76 (by decide) ?_
        refine j_put (pc := 77) hX kp_X3_230 dX3_execute_77 (by assumption) (by first | assumption | omega | exact h0.1 _ (by decide)) rfl rfl rfl (fun H_77 w_77 n_77 => ?_)
        have hT := tw_put12 hT w_77 n_77
        have hF := hF.put w_77 (fun _ => ⟨100, by decide, rfl⟩)
        first | replace hT := psF_12t hT | replace hT := psF_12f hT
        first | exact p80 _ true (hw c_58) hF hT | exact p80 _ false (hw3 c_58 (Nat.not_lt.mpr c_69)) hF hT | exact p80 _ true (hw2 c_58 (Nat.not_le.mp c_69)) hF hT
      · rw [nI_leI (by omega) (by omega)] at c_69
        refine j_iconst (pc := 72) (v := 1) hX dX3_execute_72 (by decide) ?_
        refine j_goto (pc := 73) (tgt := 77) hX dX3_execute_73 (by decide) ?_
        refine j_put (pc := 77) hX kp_X3_230 dX3_execute_77 (by assumption) (by first | assumption | omega | exact h0.1 _ (by decide)) rfl rfl rfl (fun H_77 w_77 n_77 => ?_)
        have hT := tw_put12 hT w_77 n_77
        have hF := hF.put w_77 (fun _ => ⟨100, by decide, rfl⟩)
        first | replace hT := psF_12t hT | replace hT := psF_12f hT
        first | exact p80 _ true (hw c_58) hF hT | exact p80 _ false (hw3 c_58 (Nat.not_lt.mpr c_69)) hF hT | exact p80 _ true (hw2 c_58 (Nat.not_le.mp c_69)) hF hT
  have loop : ∀ f (z : PC) (H1 : Heap), L.length + 1 ≤ f + z.1.1 → z.1.1 ≤ L.length → z.2.2 ≤ z.1.1 + 1 → exF L f z = exZ L cm → JFr (twP g) H H1 → jtw G H1 g ar z.2.1 (psF (jup fs 16 (nI z.2.2)) z.1.1 z.1.2) → JW X G H1 0 19 [(0, .inr (some (g 100)))] [] := by
    intro f
    induction f with
    | zero => intro z H1 h1 h2; omega
    | succ f ih =>
      intro z H1 h1 h2 h3 he hF hT
      have ho := hT.2.1
      have es : exF L (f + 1) z = if z.1.2 = false ∧ chI L z.1.1 = 59 then exF L f (rcN L ((z.1.1 + 1, z.1.2), z.2)) else z := rfl
      rw [es] at he
      first | refine j_aload_n (pc := 19) hX dX3_execute_19 rfl rfl ?_ | refine j_aload_nq (pc := 19) hX dX3_execute_19 rfl rfl ?_
      refine j_get (pc := 20) hX kg_X3_230 dX3_execute_20 (by first | assumption | exact jow.r (by assumption)) (by rfl) ?_
      change JW X G H1 0 23 _ [.int (jb z.1.2)]
      refine j_if_ne (pc := 23) (tgt := 53) hX dX3_execute_23 (by decide) (fun c_23 => ?_) (fun c_23 => ?_)
      · rw [jb_n] at c_23
        rw [if_neg (fun q => by rw [c_23] at q; cases q.1)] at he
        exact tail _ z he h2 (by omega) hF hT
      · rw [jb_z] at c_23
        first | refine j_aload_n (pc := 26) hX dX3_execute_26 rfl rfl ?_ | refine j_aload_nq (pc := 26) hX dX3_execute_26 rfl rfl ?_
        refine j_iconst (pc := 27) (v := 0) hX dX3_execute_27 (by decide) ?_
        refine j_rune (pc := 28) (jr_V (pc := 28) hX kv_X3_234 (by first | assumption | exact jow.r (by assumption)) (c_X3_behind _ _ _ hT z.1.1 0 z.1.2 (by omega) (by omega) _ rfl L hI0) (by decide) dX3_execute_28 rfl rfl (Nat.le_of_ble_eq_true rfl)) ?_ jno_x
        refine j_bipush (pc := 31) (v := 59) hX dX3_execute_31 (by decide) ?_
        refine j_icmp_ne (pc := 33) (tgt := 53) hX dX3_execute_33 (by decide) (fun c_33 => ?_) (fun c_33 => ?_)
        · rw [Nat.add_zero] at c_33
          rw [if_neg (fun q => c_33 q.2)] at he
          exact tail _ z he h2 (by omega) hF hT
        · rw [Nat.add_zero] at c_33
          rw [if_pos ⟨c_23, c_33⟩] at he
          have hlt := chI_in (c := 59) c_33 (by omega)
          have hall := rcN_all hc (z := ((z.1.1 + 1, z.1.2), z.2)) hlt
          first | refine j_aload_n (pc := 36) hX dX3_execute_36 rfl rfl ?_ | refine j_aload_nq (pc := 36) hX dX3_execute_36 rfl rfl ?_
          refine j_dup (pc := 37) hX dX3_execute_37 (by first | rfl | exact jrf_cat _) ?_
          refine j_get (pc := 38) hX kg_X3_223 dX3_execute_38 (by first | assumption | exact jow.r (by assumption)) (by rfl) ?_
          refine j_iconst (pc := 41) (v := 1) hX dX3_execute_41 (by decide) ?_
          refine j_iadd (pc := 42) hX dX3_execute_42 ?_
          change JW X G H1 0 43 _ [.int (nI z.1.1 + 1), _]
          rw [nI_1]
          refine j_put (pc := 43) hX kp_X3_223 dX3_execute_43 (by assumption) (by first | assumption | omega | exact h0.1 _ (by decide)) rfl rfl rfl (fun H_43 w_43 n_43 => ?_)
          have hT := tw_put11 hT w_43 n_43
          have hF := hF.put w_43 (fun _ => ⟨100, by decide, rfl⟩)
          rw [psF_11] at hT
          have ho := hT.2.1
          first | refine j_aload_n (pc := 46) hX dX3_execute_46 rfl rfl ?_ | refine j_aload_nq (pc := 46) hX dX3_execute_46 rfl rfl ?_
          refine j_runv (pc := 47) (jr_V (pc := 47) hX kv_X3_285 (by first | assumption | exact jow.r (by assumption)) (c_X3_readCommand _ _ _ hT (z.1.1 + 1, z.1.2) z.2.2 (jup fs 16 (nI z.2.2)) rfl rfl (by omega) L hI0 hlt) (by decide) dX3_execute_47 rfl rfl (Nat.le_of_ble_eq_true rfl)) (fun H_47 p_47 z_47 => ?_) jno_x
          have hF := JFr.trans hF p_47.1
          have hT := p_47.2
          rw [jup_jup] at hT
          refine j_goto (pc := 50) (tgt := 19) hX dX3_execute_50 (by decide) ?_
          exact ih _ _ (by have := hall.1; simp only at this; omega) hall.2.1 (by have h4 := hall.1; have h5 := hall.2.2; simp only at h4 h5; omega) he hF hT
  have hall := rcN_all hc (z := ((0, false), cm, 0)) (Nat.zero_le _)
  first | refine j_aload_n (pc := 0) hX dX3_execute_0 rfl rfl ?_ | refine j_aload_nq (pc := 0) hX dX3_execute_0 rfl rfl ?_
  refine j_iconst (pc := 1) (v := 0) hX dX3_execute_1 (by decide) ?_
  refine j_put (pc := 2) hX kp_X3_223 dX3_execute_2 (by assumption) (by first | assumption | omega | exact h0.1 _ (by decide)) rfl rfl rfl (fun H_2 w_2 n_2 => ?_)
  have hT := tw_put11 hT w_2 n_2
  have hF := hF.put w_2 (fun _ => ⟨100, by decide, rfl⟩)
  have ho := hT.2.1
  first | refine j_aload_n (pc := 5) hX dX3_execute_5 rfl rfl ?_ | refine j_aload_nq (pc := 5) hX dX3_execute_5 rfl rfl ?_
  refine j_iconst (pc := 6) (v := 0) hX dX3_execute_6 (by decide) ?_
  refine j_put (pc := 7) hX kp_X3_230 dX3_execute_7 (by assumption) (by first | assumption | omega | exact h0.1 _ (by decide)) rfl rfl rfl (fun H_7 w_7 n_7 => ?_)
  have hT := tw_put12 hT w_7 n_7
  have hF := hF.put w_7 (fun _ => ⟨100, by decide, rfl⟩)
  have ho := hT.2.1
  first | refine j_aload_n (pc := 10) hX dX3_execute_10 rfl rfl ?_ | refine j_aload_nq (pc := 10) hX dX3_execute_10 rfl rfl ?_
  refine j_iconst (pc := 11) (v := 0) hX dX3_execute_11 (by decide) ?_
  refine j_put (pc := 12) hX kp_X3_245 dX3_execute_12 (by assumption) (by first | assumption | omega | exact h0.1 _ (by decide)) rfl rfl rfl (fun H_12 w_12 n_12 => ?_)
  have hT := tw_put16 hT w_12 n_12
  have hF := hF.put w_12 (fun _ => ⟨100, by decide, rfl⟩)
  have hT : jtw G H_12 g ar cm (psF (jup fs 16 0) 0 false) := (by rw [← psF_16]; exact hT)
  have ho := hT.2.1
  first | refine j_aload_n (pc := 15) hX dX3_execute_15 rfl rfl ?_ | refine j_aload_nq (pc := 15) hX dX3_execute_15 rfl rfl ?_
  refine j_runv (pc := 16) (jr_V (pc := 16) hX kv_X3_285 (by first | assumption | exact jow.r (by assumption)) (c_X3_readCommand _ _ _ hT (0, false) 0 (jup fs 16 0) rfl rfl (by omega) L hI0 (Nat.zero_le _)) (by decide) dX3_execute_16 rfl rfl (Nat.le_of_ble_eq_true rfl)) (fun H_16 p_16 z_16 => ?_) jno_x
  have hF := JFr.trans hF p_16.1
  have hT := p_16.2
  rw [jup_jup] at hT
  exact loop (L.length + 1) _ _ (by omega) hall.2.1 (by have h5 := hall.2.2; simp only at h5; omega) rfl hF hT
