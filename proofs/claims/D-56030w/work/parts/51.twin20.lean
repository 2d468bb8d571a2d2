/-! the reference carries out a command -/
set_option maxRecDepth 100000
def chr16 (x : Int32) : Int32 := (x.toUInt32 % 65536).toInt32
def doesD (s : Nat → Nat) (kd sh a b c : Int32) : Nat × Int32 × (Nat → Nat) :=
  if kd = 105 then dismissD s a else if kd = 97 then addD s sh a b else if kd = 112 then openD s sh a b c else if kd = 108 then remD s a else if kd = 99 then closeD s a else
  if kd = 104 then hireD s a b else if kd = 114 then refD s a b else if kd = 109 then matchD s else daysD s 1
/-- what a command may rest on -/
def DoesOK (s : Nat → Nat) : Prop := ∃ c, Bd c s ∧ c + 594 * 30 < 2 ^ 24 ∧ s 1 + 30 < 2 ^ 24
theorem c_X3_does (l : Launch) (G : JG) (H : Heap) {g : Nat → Nat} {ar : Nat → Nat → Nat} {cm fs : Nat → Int32} (hT : jtw G H g ar cm fs) (hD : DoesOK (ar 0)) (h6 : fs 6 = 0) (k : Nat) (hk : k < 60) : JMet l yX3_does (ws_ yX3_does cX3_does 6 none) 6 0 G H [.ref (g 100), .int (nI k)] (jpv (fun H1 => twR G H H1 g (jup ar 0 (doesD (ar 0) (cm (5 * k)) (chr16 (cm (5 * k + 1))) (cm (5 * k + 2)) (cm (5 * k + 3)) (cm (5 * k + 4))).2.2) cm (jup fs 6 (nI (doesD (ar 0) (cm (5 * k)) (chr16 (cm (5 * k + 1))) (cm (5 * k + 2)) (cm (5 * k + 3)) (cm (5 * k + 4))).1)))) (jno) := by
  refine JMet.of [(0, .inr (some (g 100))), (1, .inl (.int (nI k)))] (by decide) (Nat.le_of_ble_eq_true rfl) rfl (fun X hl hX hQ hEx hr hnm hH => ?_)
  subst hl
  obtain ⟨h0, ho, hs, hbf, hsv, hpa, hou, hip, hcm⟩ := id hT
  have hi2 : vp_in (2 : Int32) 93 := vp_in_nI (n := 2) (by omega) (by decide)
  obtain ⟨c0, hD, hc0, hd0⟩ := hD
  have hB := hD.1
  have e5 : (5 : Int32) * nI k = nI (5 * k) := pk_mul 5 k
  have hin0 : vp_in (nI (5 * k)) 300 := vp_in_nI (by omega) (by decide)
  have hin1 : vp_in (nI (5 * k + 1)) 300 := vp_in_nI (by omega) (by decide)
  have hin2 : vp_in (nI (5 * k + 2)) 300 := vp_in_nI (by omega) (by decide)
  have hin3 : vp_in (nI (5 * k + 3)) 300 := vp_in_nI (by omega) (by decide)
  have hin4 : vp_in (nI (5 * k + 4)) 300 := vp_in_nI (by omega) (by decide)
  first | refine j_aload_n (pc := 0) hX dX3_does_0 rfl rfl ?_ | refine j_aload_nq (pc := 0) hX dX3_does_0 rfl rfl ?_
  refine j_get (pc := 1) hX kg_X3_36 dX3_does_1 (by first | assumption | exact jow.r (by assumption)) (by rfl) ?_
  refine j_iconst (pc := 4) (v := 5) hX dX3_does_4 (by decide) ?_
  refine j_iload_n (pc := 5) hX dX3_does_5 rfl rfl ?_
  refine j_imul (pc := 6) hX dX3_does_6 ?_
  refine j_iconst (pc := 7) (v := 1) hX dX3_does_7 (by decide) ?_
  refine j_iadd (pc := 8) hX dX3_does_8 ?_
  rw [e5, show nI (5 * k) + 1 = nI (5 * k + 1) from nI_add _ 1]
  refine j_iald (pc := 9) hX dX3_does_9 (by first | assumption | exact jaw.r hX (by decide) (by assumption)) (by assumption) ?_
  rw [nI_clamp (by omega)]
  refine j_i2c (pc := 10) hX dX3_does_10 (rfl) ?_
  refine j_istore_n (pc := 11) hX dX3_does_11 rfl (by decide) rfl ?_
  first | refine j_aload_n (pc := 12) hX dX3_does_12 rfl rfl ?_ | refine j_aload_nq (pc := 12) hX dX3_does_12 rfl rfl ?_
  refine j_get (pc := 13) hX kg_X3_36 dX3_does_13 (by first | assumption | exact jow.r (by assumption)) (by rfl) ?_
  refine j_iconst (pc := 16) (v := 5) hX dX3_does_16 (by decide) ?_
  refine j_iload_n (pc := 17) hX dX3_does_17 rfl rfl ?_
  refine j_imul (pc := 18) hX dX3_does_18 ?_
  refine j_iconst (pc := 19) (v := 2) hX dX3_does_19 (by decide) ?_
  refine j_iadd (pc := 20) hX dX3_does_20 ?_
  rw [e5, show nI (5 * k) + 2 = nI (5 * k + 2) from nI_add _ 2]
  refine j_iald (pc := 21) hX dX3_does_21 (by first | assumption | exact jaw.r hX (by decide) (by assumption)) (by assumption) ?_
  rw [nI_clamp (by omega)]
  refine j_istore_n (pc := 22) hX dX3_does_22 rfl (by decide) rfl ?_
  first | refine j_aload_n (pc := 23) hX dX3_does_23 rfl rfl ?_ | refine j_aload_nq (pc := 23) hX dX3_does_23 rfl rfl ?_
  refine j_get (pc := 24) hX kg_X3_36 dX3_does_24 (by first | assumption | exact jow.r (by assumption)) (by rfl) ?_
  refine j_iconst (pc := 27) (v := 5) hX dX3_does_27 (by decide) ?_
  refine j_iload_n (pc := 28) hX dX3_does_28 rfl rfl ?_
  refine j_imul (pc := 29) hX dX3_does_29 ?_
  refine j_iconst (pc := 30) (v := 3) hX dX3_does_30 (by decide) ?_
  refine j_iadd (pc := 31) hX dX3_does_31 ?_
  rw [e5, show nI (5 * k) + 3 = nI (5 * k + 3) from nI_add _ 3]
  refine j_iald (pc := 32) hX dX3_does_32 (by first | assumption | exact jaw.r hX (by decide) (by assumption)) (by assumption) ?_
  rw [nI_clamp (by omega)]
  refine j_istore (pc := 33) hX dX3_does_33 (by decide) rfl ?_
  first | refine j_aload_n (pc := 35) hX dX3_does_35 rfl rfl ?_ | refine j_aload_nq (pc := 35) hX dX3_does_35 rfl rfl ?_
  refine j_get (pc := 36) hX kg_X3_36 dX3_does_36 (by first | assumption | exact jow.r (by assumption)) (by rfl) ?_
  refine j_iconst (pc := 39) (v := 5) hX dX3_does_39 (by decide) ?_
  refine j_iload_n (pc := 40) hX dX3_does_40 rfl rfl ?_
  refine j_imul (pc := 41) hX dX3_does_41 ?_
  rw [e5]
  refine j_iald (pc := 42) hX dX3_does_42 (by first | assumption | exact jaw.r hX (by decide) (by assumption)) (by assumption) ?_
  skip
  rw [nI_clamp (by omega)]
  change JW X G H 0 43 [(0, .inr (some (g 100))), (1, .inl (.int (nI k))), (2, .inl (.int (chr16 (cm (5 * k + 1))))), (3, .inl (.int (cm (5 * k + 2)))), (4, .inl (.int (cm (5 * k + 3))))] [.int (cm (5 * k))]
  generalize chr16 (cm (5 * k + 1)) = sh at *
  generalize cm (5 * k + 2) = a at *
  generalize cm (5 * k + 3) = b at *
  generalize ecc : cm (5 * k + 4) = c at *
  generalize cm (5 * k) = kd at *
  have dflt : doesD (ar 0) kd sh a b c = daysD (ar 0) 1 → JW X G H 0 227 [(0, .inr (some (g 100))), (1, .inl (.int (nI k))), (2, .inl (.int sh)), (3, .inl (.int a)), (4, .inl (.int b))] [] := by
    intro e
    first | refine j_aload_n (pc := 227) hX dX3_does_227 rfl rfl ?_ | refine j_aload_nq (pc := 227) hX dX3_does_227 rfl rfl ?_
    refine j_iconst (pc := 228) (v := 1) hX dX3_does_228 (by decide) ?_
    refine j_runi (pc := 229) (jr_V (pc := 229) hX kv_X3_204 (by first | assumption | exact jow.r (by assumption)) (c_X3_doPassDays _ _ _ hT c0 hD hc0 hd0 h6 1) (by decide) dX3_does_229 rfl rfl (Nat.le_of_ble_eq_true rfl)) (fun r_229 H_229 p_229 z_229 => ?_) jno_x
    refine j_istore (pc := 232) hX dX3_does_232 (by decide) rfl ?_
    exact j_vret hX hQ hr dX3_does_234 ⟨rfl, by rw [e]; exact p_229.1⟩
  rcases Decidable.em (kd.toInt < 97 ∨ 114 < kd.toInt) with h | h
  · refine j_tableOut (tgt := 227) hX dX3_does_43 h (by decide) (dflt ?_)
    unfold doesD
    rw [if_neg (fun e => by rw [e] at h; revert h; decide), if_neg (fun e => by rw [e] at h; revert h; decide), if_neg (fun e => by rw [e] at h; revert h; decide), if_neg (fun e => by rw [e] at h; revert h; decide), if_neg (fun e => by rw [e] at h; revert h; decide), if_neg (fun e => by rw [e] at h; revert h; decide), if_neg (fun e => by rw [e] at h; revert h; decide), if_neg (fun e => by rw [e] at h; revert h; decide)]
  · obtain ⟨v, hv, ev⟩ : ∃ v : Nat, v < 2 ^ 31 ∧ kd = nI v := nI_of (fun z => by rw [Int32.lt_iff_toInt_lt] at z; have : (0 : Int32).toInt = 0 := rfl; omega)
    have hv2 : kd.toInt = v := by rw [ev, nI_toInt hv]
    have hv3 : v = 97 ∨ v = 98 ∨ v = 99 ∨ v = 100 ∨ v = 101 ∨ v = 102 ∨ v = 103 ∨ v = 104 ∨ v = 105 ∨ v = 106 ∨ v = 107 ∨ v = 108 ∨ v = 109 ∨ v = 110 ∨ v = 111 ∨ v = 112 ∨ v = 113 ∨ v = 114 := by omega
    clear hv hv2 h
    subst ev
    rcases hv3 with rfl | rfl | rfl | rfl | rfl | rfl | rfl | rfl | rfl | rfl | rfl | rfl | rfl | rfl | rfl | rfl | rfl | rfl
    · refine j_tableIn (tgt := 138) hX dX3_does_43 (by decide) (by decide) rfl (by decide) ?_
      first | refine j_aload_n (pc := 138) hX dX3_does_138 rfl rfl ?_ | refine j_aload_nq (pc := 138) hX dX3_does_138 rfl rfl ?_
      refine j_iload_n (pc := 139) hX dX3_does_139 rfl rfl ?_
      refine j_iload_n (pc := 140) hX dX3_does_140 rfl rfl ?_
      refine j_iload (pc := 141) hX dX3_does_141 rfl ?_
      refine j_runi (pc := 143) (jr_V (pc := 143) hX kv_X3_96 (by first | assumption | exact jow.r (by assumption)) (c_X3_doAddApplicant _ _ _ hT hB h6 sh a b) (by decide) dX3_does_143 rfl rfl (Nat.le_of_ble_eq_true rfl)) (fun r_143 H_143 p_143 z_143 => ?_) jno_x
      refine j_istore (pc := 146) hX dX3_does_146 (by decide) rfl ?_
      refine j_goto (pc := 148) (tgt := 234) hX dX3_does_148 (by decide) ?_
      exact j_vret hX hQ hr dX3_does_234 ⟨rfl, p_143.1⟩
    · exact j_tableIn (tgt := 227) hX dX3_does_43 (by decide) (by decide) rfl (by decide) (dflt rfl)
    · refine j_tableIn (tgt := 184) hX dX3_does_43 (by decide) (by decide) rfl (by decide) ?_
      first | refine j_aload_n (pc := 184) hX dX3_does_184 rfl rfl ?_ | refine j_aload_nq (pc := 184) hX dX3_does_184 rfl rfl ?_
      refine j_iload_n (pc := 185) hX dX3_does_185 rfl rfl ?_
      refine j_runi (pc := 186) (jr_V (pc := 186) hX kv_X3_146 (by first | assumption | exact jow.r (by assumption)) (c_X3_doClosePost _ _ _ hT hB h6 a) (by decide) dX3_does_186 rfl rfl (Nat.le_of_ble_eq_true rfl)) (fun r_186 H_186 p_186 z_186 => ?_) jno_x
      refine j_istore (pc := 189) hX dX3_does_189 (by decide) rfl ?_
      refine j_goto (pc := 191) (tgt := 234) hX dX3_does_191 (by decide) ?_
      exact j_vret hX hQ hr dX3_does_234 ⟨rfl, p_186.1⟩
    · exact j_tableIn (tgt := 227) hX dX3_does_43 (by decide) (by decide) rfl (by decide) (dflt rfl)
    · exact j_tableIn (tgt := 227) hX dX3_does_43 (by decide) (by decide) rfl (by decide) (dflt rfl)
    · exact j_tableIn (tgt := 227) hX dX3_does_43 (by decide) (by decide) rfl (by decide) (dflt rfl)
    · exact j_tableIn (tgt := 227) hX dX3_does_43 (by decide) (by decide) rfl (by decide) (dflt rfl)
    · refine j_tableIn (tgt := 194) hX dX3_does_43 (by decide) (by decide) rfl (by decide) ?_
      first | refine j_aload_n (pc := 194) hX dX3_does_194 rfl rfl ?_ | refine j_aload_nq (pc := 194) hX dX3_does_194 rfl rfl ?_
      refine j_iload_n (pc := 195) hX dX3_does_195 rfl rfl ?_
      refine j_iload (pc := 196) hX dX3_does_196 rfl ?_
      refine j_runi (pc := 198) (jr_V (pc := 198) hX kv_X3_169 (by first | assumption | exact jow.r (by assumption)) (c_X3_doHire _ _ _ hT hB h6 a b) (by decide) dX3_does_198 rfl rfl (Nat.le_of_ble_eq_true rfl)) (fun r_198 H_198 p_198 z_198 => ?_) jno_x
      refine j_istore (pc := 201) hX dX3_does_201 (by decide) rfl ?_
      refine j_goto (pc := 203) (tgt := 234) hX dX3_does_203 (by decide) ?_
      exact j_vret hX hQ hr dX3_does_234 ⟨rfl, p_198.1⟩
    · refine j_tableIn (tgt := 128) hX dX3_does_43 (by decide) (by decide) rfl (by decide) ?_
      first | refine j_aload_n (pc := 128) hX dX3_does_128 rfl rfl ?_ | refine j_aload_nq (pc := 128) hX dX3_does_128 rfl rfl ?_
      refine j_iload_n (pc := 129) hX dX3_does_129 rfl rfl ?_
      refine j_runi (pc := 130) (jr_V (pc := 130) hX kv_X3_175 (by first | assumption | exact jow.r (by assumption)) (c_X3_doDismiss _ _ _ hT hB h6 a) (by decide) dX3_does_130 rfl rfl (Nat.le_of_ble_eq_true rfl)) (fun r_130 H_130 p_130 z_130 => ?_) jno_x
      refine j_istore (pc := 133) hX dX3_does_133 (by decide) rfl ?_
      refine j_goto (pc := 135) (tgt := 234) hX dX3_does_135 (by decide) ?_
      exact j_vret hX hQ hr dX3_does_234 ⟨rfl, p_130.1⟩
    · exact j_tableIn (tgt := 227) hX dX3_does_43 (by decide) (by decide) rfl (by decide) (dflt rfl)
    · exact j_tableIn (tgt := 227) hX dX3_does_43 (by decide) (by decide) rfl (by decide) (dflt rfl)
    · refine j_tableIn (tgt := 174) hX dX3_does_43 (by decide) (by decide) rfl (by decide) ?_
      first | refine j_aload_n (pc := 174) hX dX3_does_174 rfl rfl ?_ | refine j_aload_nq (pc := 174) hX dX3_does_174 rfl rfl ?_
      refine j_iload_n (pc := 175) hX dX3_does_175 rfl rfl ?_
      refine j_runi (pc := 176) (jr_V (pc := 176) hX kv_X3_110 (by first | assumption | exact jow.r (by assumption)) (c_X3_doRemoveApplicant _ _ _ hT hB h6 a) (by decide) dX3_does_176 rfl rfl (Nat.le_of_ble_eq_true rfl)) (fun r_176 H_176 p_176 z_176 => ?_) jno_x
      refine j_istore (pc := 179) hX dX3_does_179 (by decide) rfl ?_
      refine j_goto (pc := 181) (tgt := 234) hX dX3_does_181 (by decide) ?_
      exact j_vret hX hQ hr dX3_does_234 ⟨rfl, p_176.1⟩
    · refine j_tableIn (tgt := 218) hX dX3_does_43 (by decide) (by decide) rfl (by decide) ?_
      first | refine j_aload_n (pc := 218) hX dX3_does_218 rfl rfl ?_ | refine j_aload_nq (pc := 218) hX dX3_does_218 rfl rfl ?_
      refine j_runi (pc := 219) (jr_V (pc := 219) hX kv_X3_181 (by first | assumption | exact jow.r (by assumption)) (c_X3_doMatch _ _ _ hT hB h6) (by decide) dX3_does_219 rfl rfl (Nat.le_of_ble_eq_true rfl)) (fun r_219 H_219 p_219 z_219 => ?_) jno_x
      refine j_istore (pc := 222) hX dX3_does_222 (by decide) rfl ?_
      refine j_goto (pc := 224) (tgt := 234) hX dX3_does_224 (by decide) ?_
      exact j_vret hX hQ hr dX3_does_234 ⟨rfl, p_219.1⟩
    · exact j_tableIn (tgt := 227) hX dX3_does_43 (by decide) (by decide) rfl (by decide) (dflt rfl)
    · exact j_tableIn (tgt := 227) hX dX3_does_43 (by decide) (by decide) rfl (by decide) (dflt rfl)
    · refine j_tableIn (tgt := 151) hX dX3_does_43 (by decide) (by decide) rfl (by decide) ?_
      first | refine j_aload_n (pc := 151) hX dX3_does_151 rfl rfl ?_ | refine j_aload_nq (pc := 151) hX dX3_does_151 rfl rfl ?_
      refine j_iload_n (pc := 152) hX dX3_does_152 rfl rfl ?_
      refine j_iload_n (pc := 153) hX dX3_does_153 rfl rfl ?_
      refine j_iload (pc := 154) hX dX3_does_154 rfl ?_
      first | refine j_aload_n (pc := 156) hX dX3_does_156 rfl rfl ?_ | refine j_aload_nq (pc := 156) hX dX3_does_156 rfl rfl ?_
      refine j_get (pc := 157) hX kg_X3_36 dX3_does_157 (by first | assumption | exact jow.r (by assumption)) (by rfl) ?_
      refine j_iconst (pc := 160) (v := 5) hX dX3_does_160 (by decide) ?_
      refine j_iload_n (pc := 161) hX dX3_does_161 rfl rfl ?_
      refine j_imul (pc := 162) hX dX3_does_162 ?_
      refine j_iconst (pc := 163) (v := 4) hX dX3_does_163 (by decide) ?_
      refine j_iadd (pc := 164) hX dX3_does_164 ?_
      rw [e5, show nI (5 * k) + 4 = nI (5 * k + 4) from nI_add _ 4]
      refine j_iald (pc := 165) hX dX3_does_165 (by first | assumption | exact jaw.r hX (by decide) (by assumption)) (by assumption) ?_
      rw [nI_clamp (by omega), ecc]
      refine j_runi (pc := 166) (jr_V (pc := 166) hX kv_X3_139 (by first | assumption | exact jow.r (by assumption)) (c_X3_doOpenPost _ _ _ hT hB h6 sh a b c) (by decide) dX3_does_166 rfl rfl (Nat.le_of_ble_eq_true rfl)) (fun r_166 H_166 p_166 z_166 => ?_) jno_x
      refine j_istore (pc := 169) hX dX3_does_169 (by decide) rfl ?_
      refine j_goto (pc := 171) (tgt := 234) hX dX3_does_171 (by decide) ?_
      exact j_vret hX hQ hr dX3_does_234 ⟨rfl, p_166.1⟩
    · exact j_tableIn (tgt := 227) hX dX3_does_43 (by decide) (by decide) rfl (by decide) (dflt rfl)
    · refine j_tableIn (tgt := 206) hX dX3_does_43 (by decide) (by decide) rfl (by decide) ?_
      first | refine j_aload_n (pc := 206) hX dX3_does_206 rfl rfl ?_ | refine j_aload_nq (pc := 206) hX dX3_does_206 rfl rfl ?_
      refine j_iload_n (pc := 207) hX dX3_does_207 rfl rfl ?_
      refine j_iload (pc := 208) hX dX3_does_208 rfl ?_
      refine j_runi (pc := 210) (jr_V (pc := 210) hX kv_X3_130 (by first | assumption | exact jow.r (by assumption)) (c_X3_doAddReference _ _ _ hT hB h6 a b) (by decide) dX3_does_210 rfl rfl (Nat.le_of_ble_eq_true rfl)) (fun r_210 H_210 p_210 z_210 => ?_) jno_x
      refine j_istore (pc := 213) hX dX3_does_213 (by decide) rfl ?_
      refine j_goto (pc := 215) (tgt := 234) hX dX3_does_215 (by decide) ?_
      exact j_vret hX hQ hr dX3_does_234 ⟨rfl, p_210.1⟩
