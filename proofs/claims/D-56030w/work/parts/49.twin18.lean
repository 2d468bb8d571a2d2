/-! the reference reads numbers and shapes -/
set_option maxRecDepth 100000
def digN (L : List Nat) (q : Nat × Bool) : Bool := !q.2 && inI (chI L q.1) 48 57
theorem digN_in {L : List Nat} (hL : ∀ j, j < L.length → L.getD j 0 < 65536) {q : Nat × Bool} (h : digN L q = true) : q.2 = false ∧ q.1 < L.length ∧ 48 ≤ L.getD q.1 0 ∧ L.getD q.1 0 ≤ 57 := by
  unfold digN inI chI at h
  simp only [Bool.and_eq_true, Bool.not_eq_true', decide_eq_true_eq] at h
  obtain ⟨h1, h2, h3⟩ := h
  by_cases e : q.1 < L.length
  · rw [if_pos e] at h2 h3
    have := hL _ e
    rw [show (48 : Int32) = nI 48 from rfl, nI_leI (by omega) (by omega)] at h2
    rw [show (57 : Int32) = nI 57 from rfl, nI_leI (by omega) (by omega)] at h3
    exact ⟨h1, e, h2, h3⟩
  · rw [if_neg e] at h2
    exact absurd h2 (by decide)
theorem c_X3_isDigit (l : Launch) (G : JG) (H : Heap) {g : Nat → Nat} {ar : Nat → Nat → Nat} {cm fs : Nat → Int32} (hT : jtw G H g ar cm fs) (i : Nat) (w : Bool) (fs' : Nat → Int32) (ef : fs = psF fs' i w) (L : List Nat) (hI : Inp ar fs' L) (hi : i ≤ L.length) : JMet l yX3_isDigit (ws_ yX3_isDigit cX3_isDigit 1 (some .boolean)) 2 0 G H [.ref (g 100)] (jpe H (jb (digN L (i, w)))) (jno) := by
  refine JMet.of [(0, .inr (some (g 100)))] (by decide) (Nat.le_of_ble_eq_true rfl) rfl (fun X hl hX hQ hEx hr hnm hH => ?_)
  subst hl
  obtain ⟨h0, ho, hs, hbf, hsv, hpa, hou, hip, hcm⟩ := id hT
  have hi2 : vp_in (2 : Int32) 93 := vp_in_nI (n := 2) (by omega) (by decide)
  subst ef
  have hL := hI.2.2.1
  first | refine j_aload_n (pc := 0) hX dX3_isDigit_0 rfl rfl ?_ | refine j_aload_nq (pc := 0) hX dX3_isDigit_0 rfl rfl ?_
  refine j_get (pc := 1) hX kg_X3_230 dX3_isDigit_1 (by first | assumption | exact jow.r (by assumption)) (by rfl) ?_
  change JW X G H 0 4 _ [.int (jb w)]
  refine j_if_ne (pc := 4) (tgt := 26) hX dX3_isDigit_4 (by decide) (fun c_4 => ?_) (fun c_4 => ?_)
  · rw [jb_n] at c_4
    refine j_iconst (pc := 26) (v := 0) hX dX3_isDigit_26 (by decide) ?_
    exact j_zret hX hQ hr (by first | rfl | exact jb_nar _ | exact nI_narC _ | assumption) dX3_isDigit_27 ⟨_, rfl, rfl, by simp [digN, jb, c_4]⟩
  · rw [jb_z] at c_4
    first | refine j_aload_n (pc := 7) hX dX3_isDigit_7 rfl rfl ?_ | refine j_aload_nq (pc := 7) hX dX3_isDigit_7 rfl rfl ?_
    refine j_iconst (pc := 8) (v := 0) hX dX3_isDigit_8 (by decide) ?_
    refine j_rune (pc := 9) (jr_V (pc := 9) hX kv_X3_234 (by first | assumption | exact jow.r (by assumption)) (c_X3_behind _ _ _ hT i 0 w (by omega) (by omega) fs' rfl L hI) (by decide) dX3_isDigit_9 rfl rfl (Nat.le_of_ble_eq_true rfl)) ?_ jno_x
    refine j_bipush (pc := 12) (v := 48) hX dX3_isDigit_12 (by decide) ?_
    refine j_bipush (pc := 14) (v := 57) hX dX3_isDigit_14 (by decide) ?_
    refine j_rune (pc := 16) (jr_S (pc := 16) hX ks_X3_51 (c_X3_in _ _ _ _ _ _) (by decide) dX3_isDigit_16 rfl rfl (Nat.le_of_ble_eq_true rfl)) ?_ jno_x
    refine j_if_eq (pc := 19) (tgt := 26) hX dX3_isDigit_19 (by decide) (fun c_19 => ?_) (fun c_19 => ?_)
    · rw [jb_z] at c_19
      change inI (chI L i) 48 57 = _ at c_19
      refine j_iconst (pc := 26) (v := 0) hX dX3_isDigit_26 (by decide) ?_
      exact j_zret hX hQ hr (by first | rfl | exact jb_nar _ | exact nI_narC _ | assumption) dX3_isDigit_27 ⟨_, rfl, rfl, by simp [digN, jb, c_4, c_19]⟩
    · rw [jb_n] at c_19
      change inI (chI L i) 48 57 = _ at c_19
      refine j_iconst (pc := 22) (v := 1) hX dX3_isDigit_22 (by decide) ?_
      refine j_goto (pc := 23) (tgt := 27) hX dX3_isDigit_23 (by decide) ?_
      exact j_zret hX hQ hr (by first | rfl | exact jb_nar _ | exact nI_narC _ | assumption) dX3_isDigit_27 ⟨_, rfl, rfl, by simp [digN, jb, c_4, c_19]⟩
/-- a number is read, at most so many digits -/
def rnF (L : List Nat) (_ : Nat) (z : (Nat × Bool) × Nat) : (Nat × Bool) × Nat := if digN L z.1 then ((z.1.1 + 1, z.1.2), 10 * z.2 + (L.getD z.1.1 0 - 48)) else z
def rn0 (L : List Nat) (q : Nat × Bool) : Nat × Bool := (q.1, q.2 || !digN L q)
def rnN (L : List Nat) (m : Nat) (q : Nat × Bool) : (Nat × Bool) × Nat := jfold (rnF L) m (rn0 L q, 0)
theorem rn_stay {L : List Nat} {z : (Nat × Bool) × Nat} {i : Nat} (h : digN L (jfold (rnF L) i z).1 = false) : ∀ n, i ≤ n → jfold (rnF L) n z = jfold (rnF L) i z := by
  intro n hn
  obtain ⟨m, rfl⟩ : ∃ m, n = i + m := ⟨n - i, by omega⟩
  clear hn
  induction m with
  | zero => rfl
  | succ m ih => rw [← Nat.add_assoc, jfold_succ, ih]; exact if_neg (by rw [h]; decide)
theorem rn_le {L : List Nat} (hL : ∀ j, j < L.length → L.getD j 0 < 65536) {z : (Nat × Bool) × Nat} (hz : z.1.1 ≤ L.length) (hz2 : z.2 = 0) : ∀ i, i ≤ 3 → (jfold (rnF L) i z).1.1 ≤ L.length ∧ (jfold (rnF L) i z).2 < 10 ^ i := by
  intro i
  induction i with
  | zero => intro _; exact ⟨hz, by show z.2 < 1; omega⟩
  | succ i ih =>
    intro hi
    have := ih (by omega)
    rw [jfold_succ]
    generalize jfold (rnF L) i z = y at *
    unfold rnF; split
    · next e =>
      obtain ⟨-, a, b, c⟩ := digN_in hL e
      refine ⟨a, ?_⟩
      rw [Nat.pow_succ]
      show 10 * y.2 + (L.getD y.1.1 0 - 48) < 10 ^ i * 10
      omega
    · exact ⟨this.1, Nat.lt_of_lt_of_le this.2 (Nat.pow_le_pow_right (by decide) (by omega))⟩
theorem c_X3_readNumber (l : Launch) (G : JG) (H : Heap) {g : Nat → Nat} {ar : Nat → Nat → Nat} {cm fs : Nat → Int32} (hT : jtw G H g ar cm fs) (i : Nat) (w : Bool) (fs' : Nat → Int32) (ef : fs = psF fs' i w) (L : List Nat) (hI : Inp ar fs' L) (hi : i ≤ L.length) (m : Nat) (hm : m ≤ 3) : JMet l yX3_readNumber (ws_ yX3_readNumber cX3_readNumber 4 (some .int)) 3 0 G H [.ref (g 100), .int (nI m)] (jpi (fun r H1 => twR G H H1 g ar cm (psF fs' (rnN L m (i, w)).1.1 (rnN L m (i, w)).1.2) ∧ r = nI (rnN L m (i, w)).2)) (jno) := by
  refine JMet.of [(0, .inr (some (g 100))), (1, .inl (.int (nI m)))] (by decide) (Nat.le_of_ble_eq_true rfl) rfl (fun X hl hX hQ hEx hr hnm hH => ?_)
  subst hl
  obtain ⟨h0, ho, hs, hbf, hsv, hpa, hou, hip, hcm⟩ := id hT
  have hi2 : vp_in (2 : Int32) 93 := vp_in_nI (n := 2) (by omega) (by decide)
  have hF : JFr (twP g) H H := JFr.rfl'
  subst ef
  have hL := hI.2.2.1
  have hLc := hI.2.2.2
  have eN : rnN L m (i, w) = jfold (rnF L) m (rn0 L (i, w), 0) := rfl
  rw [eN] at hQ
  have main : ∀ H1, JFr (twP g) H H1 → jtw G H1 g ar cm (psF fs' i (w || !digN L (i, w))) → JW X G H1 0 23 [(0, .inr (some (g 100))), (1, .inl (.int (nI m)))] [] := by
    intro H1 hF hT
    refine j_iconst (pc := 23) (v := 0) hX dX3_readNumber_23 (by decide) ?_
    refine j_istore_n (pc := 24) hX dX3_readNumber_24 rfl (by decide) rfl ?_
    refine j_iconst (pc := 25) (v := 0) hX dX3_readNumber_25 (by decide) ?_
    refine j_istore_n (pc := 26) hX dX3_readNumber_26 rfl (by decide) rfl ?_
    refine jloop (P := fun k => ∀ H1, JFr (twP g) H H1 → jtw G H1 g ar cm (psF fs' (jfold (rnF L) k (rn0 L (i, w), 0)).1.1 (jfold (rnF L) k (rn0 L (i, w), 0)).1.2) → JW X G H1 0 27 [(0, .inr (some (g 100))), (1, .inl (.int (nI m))), (2, .inl (.int (nI (jfold (rnF L) k (rn0 L (i, w), 0)).2))), (3, .inl (.int (nI k)))] []) m (fun H1 hF hT => ?_) (fun k hk ih H1 hF hT => ?_) 0 (by omega) _ hF hT
    · refine j_iload_n (pc := 27) hX dX3_readNumber_27 rfl rfl ?_
      refine j_iload_n (pc := 28) hX dX3_readNumber_28 rfl rfl ?_
      refine j_icmp_ge (pc := 29) (tgt := 73) hX dX3_readNumber_29 (by decide) (fun c_29 => ?_) (fun c_29 => ?_)
      · refine j_iload_n (pc := 73) hX dX3_readNumber_73 rfl rfl ?_
        exact j_iret hX hQ hr dX3_readNumber_74 ⟨_, rfl, ⟨hF, hT⟩, rfl⟩
      · exact absurd (jge_no (a := m) c_29 (by omega) (by omega)) (by omega)
    · have hle := rn_le hLc (z := (rn0 L (i, w), 0)) hi rfl k (by omega)
      have hst := rn_stay (L := L) (z := (rn0 L (i, w), 0)) (i := k)
      have es : jfold (rnF L) (k + 1) (rn0 L (i, w), 0) = rnF L k (jfold (rnF L) k (rn0 L (i, w), 0)) := rfl
      rw [es] at ih
      generalize jfold (rnF L) k (rn0 L (i, w), 0) = y at *
      obtain ⟨h0, ho, hs, hbf, hsv, hpa, hou, hip, hcm⟩ := id hT
      have hp10 : 10 ^ k ≤ 1000 := Nat.le_trans (Nat.pow_le_pow_right (by decide) (show k ≤ 3 by omega)) (by decide)
      refine j_iload_n (pc := 27) hX dX3_readNumber_27 rfl rfl ?_
      refine j_iload_n (pc := 28) hX dX3_readNumber_28 rfl rfl ?_
      refine j_icmp_ge (pc := 29) (tgt := 73) hX dX3_readNumber_29 (by decide) (fun c_29 => ?_) (fun c_29 => ?_)
      · exact absurd (jge_yes (a := m) c_29 (by omega) (by omega)) (by omega)
      first | refine j_aload_n (pc := 32) hX dX3_readNumber_32 rfl rfl ?_ | refine j_aload_nq (pc := 32) hX dX3_readNumber_32 rfl rfl ?_
      refine j_rune (pc := 33) (jr_V (pc := 33) hX kv_X3_241 (by first | assumption | exact jow.r (by assumption)) (c_X3_isDigit _ _ _ hT y.1.1 y.1.2 fs' rfl L hI hle.1) (by decide) dX3_readNumber_33 rfl rfl (Nat.le_of_ble_eq_true rfl)) ?_ jno_x
      refine j_if_eq (pc := 36) (tgt := 73) hX dX3_readNumber_36 (by decide) (fun c_36 => ?_) (fun c_36 => ?_)
      · rw [jb_z] at c_36
        have hst := hst c_36 m (by omega)
        rw [hst] at hQ
        refine j_iload_n (pc := 73) hX dX3_readNumber_73 rfl rfl ?_
        exact j_iret hX hQ hr dX3_readNumber_74 ⟨_, rfl, ⟨hF, hT⟩, rfl⟩
      · rw [jb_n] at c_36
        obtain ⟨y1, y2, y3, y4⟩ := digN_in (q := y.1) hLc c_36
        have en : rnF L k y = ((y.1.1 + 1, y.1.2), 10 * y.2 + (L.getD y.1.1 0 - 48)) := by unfold rnF; exact if_pos c_36
        rw [en] at ih
        have hin : vp_in (nI y.1.1) 60 := vp_in_nI (by omega) (by decide)
        refine j_bipush (pc := 39) (v := 10) hX dX3_readNumber_39 (by decide) ?_
        refine j_iload_n (pc := 41) hX dX3_readNumber_41 rfl rfl ?_
        refine j_imul (pc := 42) hX dX3_readNumber_42 ?_
        first | refine j_aload_n (pc := 43) hX dX3_readNumber_43 rfl rfl ?_ | refine j_aload_nq (pc := 43) hX dX3_readNumber_43 rfl rfl ?_
        refine j_get (pc := 44) hX kg_X3_26 dX3_readNumber_44 (by first | assumption | exact jow.r (by assumption)) (by rfl) ?_
        first | refine j_aload_n (pc := 47) hX dX3_readNumber_47 rfl rfl ?_ | refine j_aload_nq (pc := 47) hX dX3_readNumber_47 rfl rfl ?_
        refine j_get (pc := 48) hX kg_X3_223 dX3_readNumber_48 (by first | assumption | exact jow.r (by assumption)) (by rfl) ?_
        change JW X G H1 0 51 _ [.int (nI y.1.1), _, _]
        refine j_cald (pc := 51) hX dX3_readNumber_51 (by first | assumption | exact jaw.r hX (by decide) (by assumption)) (by assumption) ?_
        rw [nI_clamp (by omega), show twA ar 9 y.1.1 = nI (L.getD y.1.1 0) from congrArg nI (hI.1 _ y2)]
        refine j_iadd (pc := 52) hX dX3_readNumber_52 ?_
        refine j_bipush (pc := 53) (v := 48) hX dX3_readNumber_53 (by decide) ?_
        refine j_isub (pc := 55) hX dX3_readNumber_55 ?_
        rw [show (10 : Int32) = nI 10 from rfl, pk_mul, nI_add, show (48 : Int32) = nI 48 from rfl, nI_subN (by omega), show 10 * y.2 + L.getD y.1.1 0 - 48 = 10 * y.2 + (L.getD y.1.1 0 - 48) by omega]
        refine j_istore_n (pc := 56) hX dX3_readNumber_56 rfl (by decide) rfl ?_
        first | refine j_aload_n (pc := 57) hX dX3_readNumber_57 rfl rfl ?_ | refine j_aload_nq (pc := 57) hX dX3_readNumber_57 rfl rfl ?_
        refine j_dup (pc := 58) hX dX3_readNumber_58 (by first | rfl | exact jrf_cat _) ?_
        refine j_get (pc := 59) hX kg_X3_223 dX3_readNumber_59 (by first | assumption | exact jow.r (by assumption)) (by rfl) ?_
        refine j_iconst (pc := 62) (v := 1) hX dX3_readNumber_62 (by decide) ?_
        refine j_iadd (pc := 63) hX dX3_readNumber_63 ?_
        change JW X G H1 0 64 _ [.int (nI y.1.1 + 1), _]
        rw [nI_1]
        refine j_put (pc := 64) hX kp_X3_223 dX3_readNumber_64 (by assumption) (by first | assumption | omega | exact h0.1 _ (by decide)) rfl rfl rfl (fun H_64 w_64 n_64 => ?_)
        have hT := tw_put11 hT w_64 n_64
        have hF := hF.put w_64 (fun _ => ⟨100, by decide, rfl⟩)
        rw [psF_11] at hT
        refine j_iincc (pc := 67) (m := 1) hX dX3_readNumber_67 rfl (by decide) (by decide) rfl ?_
        refine j_goto (pc := 70) (tgt := 27) hX dX3_readNumber_70 (by decide) ?_
        exact j_lv (by simp [jsb, jget, jval, nI_1]) (ih _ hF hT)
  first | refine j_aload_n (pc := 0) hX dX3_readNumber_0 rfl rfl ?_ | refine j_aload_nq (pc := 0) hX dX3_readNumber_0 rfl rfl ?_
  first | refine j_aload_n (pc := 1) hX dX3_readNumber_1 rfl rfl ?_ | refine j_aload_nq (pc := 1) hX dX3_readNumber_1 rfl rfl ?_
  refine j_get (pc := 2) hX kg_X3_230 dX3_readNumber_2 (by first | assumption | exact jow.r (by assumption)) (by rfl) ?_
  change JW X G H 0 5 _ [.int (jb w), _]
  refine j_if_ne (pc := 5) (tgt := 15) hX dX3_readNumber_5 (by decide) (fun c_5 => ?_) (fun c_5 => ?_)
  · rw [jb_n] at c_5
    refine j_iconst (pc := 15) (v := 1) hX dX3_readNumber_15 (by decide) ?_
    refine j_goto (pc := 16) (tgt := 20) hX dX3_readNumber_16 (by decide) ?_
    refine j_put (pc := 20) hX kp_X3_230 dX3_readNumber_20 (by assumption) (by first | assumption | omega | exact h0.1 _ (by decide)) rfl rfl rfl (fun H_20 w_20 n_20 => ?_)
    have hT := tw_put12 hT w_20 n_20
    have hF := hF.put w_20 (fun _ => ⟨100, by decide, rfl⟩)
    first | replace hT := psF_12t hT | replace hT := psF_12f hT
    first | exact main _ hF (by rw [show (w || !digN L (i, w)) = true from by subst c_5; first | rfl | (simp [c_12]; done)]; exact hT) | exact main _ hF (by rw [show (w || !digN L (i, w)) = false from by subst c_5; first | rfl | (simp [c_12]; done)]; exact hT)
  · rw [jb_z] at c_5
    first | refine j_aload_n (pc := 8) hX dX3_readNumber_8 rfl rfl ?_ | refine j_aload_nq (pc := 8) hX dX3_readNumber_8 rfl rfl ?_
    refine j_rune (pc := 9) (jr_V (pc := 9) hX kv_X3_241 (by first | assumption | exact jow.r (by assumption)) (c_X3_isDigit _ _ _ hT i w fs' rfl L hI hi) (by decide) dX3_readNumber_9 rfl rfl (Nat.le_of_ble_eq_true rfl)) ?_ jno_x
    refine j_if_ne (pc := 12) (tgt := 19) hX dX3_readNumber_12 (by decide) (fun c_12 => ?_) (fun c_12 => ?_)
    · rw [jb_n] at c_12
      refine j_iconst (pc := 19) (v := 0) hX dX3_readNumber_19 (by decide) ?_
      refine j_put (pc := 20) hX kp_X3_230 dX3_readNumber_20 (by assumption) (by first | assumption | omega | exact h0.1 _ (by decide)) rfl rfl rfl (fun H_20 w_20 n_20 => ?_)
      have hT := tw_put12 hT w_20 n_20
      have hF := hF.put w_20 (fun _ => ⟨100, by decide, rfl⟩)
      first | replace hT := psF_12t hT | replace hT := psF_12f hT
      first | exact main _ hF (by rw [show (w || !digN L (i, w)) = true from by subst c_5; first | rfl | (simp [c_12]; done)]; exact hT) | exact main _ hF (by rw [show (w || !digN L (i, w)) = false from by subst c_5; first | rfl | (simp [c_12]; done)]; exact hT)
    · rw [jb_z] at c_12
      refine j_iconst (pc := 15) (v := 1) hX dX3_readNumber_15 (by decide) ?_
      refine j_goto (pc := 16) (tgt := 20) hX dX3_readNumber_16 (by decide) ?_
      refine j_put (pc := 20) hX kp_X3_230 dX3_readNumber_20 (by assumption) (by first | assumption | omega | exact h0.1 _ (by decide)) rfl rfl rfl (fun H_20 w_20 n_20 => ?_)
      have hT := tw_put12 hT w_20 n_20
      have hF := hF.put w_20 (fun _ => ⟨100, by decide, rfl⟩)
      first | replace hT := psF_12t hT | replace hT := psF_12f hT
      first | exact main _ hF (by rw [show (w || !digN L (i, w)) = true from by subst c_5; first | rfl | (simp [c_12]; done)]; exact hT) | exact main _ hF (by rw [show (w || !digN L (i, w)) = false from by subst c_5; first | rfl | (simp [c_12]; done)]; exact hT)
theorem sh42 : shI 42 = false := by decide
/-- a shape is read -/
def shW (L : List Nat) (any : Bool) (q : Nat × Bool) : Bool := q.2 || (!shI (chI L q.1) && !(any && decide (chI L q.1 = 42)))
def shN (L : List Nat) (any : Bool) (q : Nat × Bool) : Nat × Bool := (if shW L any q then q.1 else q.1 + 1, shW L any q)
theorem shW_in {L : List Nat} {any : Bool} {q : Nat × Bool} (h : shW L any q = false) : q.1 < L.length := by
  unfold shW at h
  simp only [Bool.or_eq_false_iff, Bool.and_eq_false_iff, Bool.not_eq_false', Bool.and_eq_true, decide_eq_true_eq] at h
  by_cases e : q.1 < L.length
  · exact e
  · exfalso
    have ec : chI L q.1 = -1 := if_neg e
    rw [ec] at h
    rcases h.2 with h2 | h2
    · exact absurd h2 (by decide)
    · exact absurd h2.2 (by decide)
theorem c_X3_readShape (l : Launch) (G : JG) (H : Heap) {g : Nat → Nat} {ar : Nat → Nat → Nat} {cm fs : Nat → Int32} (hT : jtw G H g ar cm fs) (i : Nat) (w : Bool) (fs' : Nat → Int32) (ef : fs = psF fs' i w) (L : List Nat) (hI : Inp ar fs' L) (hi : i ≤ L.length) (any : Bool) : JMet l yX3_readShape (ws_ yX3_readShape cX3_readShape 3 (some .int)) 2 0 G H [.ref (g 100), .int (jb any)] (jpi (fun r H1 => twR G H H1 g ar cm (psF fs' (shN L any (i, w)).1 (shN L any (i, w)).2) ∧ r = chI L i)) (jno) := by
  refine JMet.of [(0, .inr (some (g 100))), (1, .inl (.int (jb any)))] (by decide) (Nat.le_of_ble_eq_true rfl) rfl (fun X hl hX hQ hEx hr hnm hH => ?_)
  subst hl
  obtain ⟨h0, ho, hs, hbf, hsv, hpa, hou, hip, hcm⟩ := id hT
  have hi2 : vp_in (2 : Int32) 93 := vp_in_nI (n := 2) (by omega) (by decide)
  have hF : JFr (twP g) H H := JFr.rfl'
  subst ef
  have hL := hI.2.2.1
  have main : ∀ H1, JFr (twP g) H H1 → jtw G H1 g ar cm (psF fs' i (shW L any (i, w))) → JW X G H1 0 39 [(0, .inr (some (g 100))), (1, .inl (.int (jb any))), (2, .inl (.int (chI L i)))] [] := by
    intro H1 hF hT
    have ho := hT.2.1
    obtain ⟨z, ez⟩ : ∃ z, shW L any (i, w) = z := ⟨_, rfl⟩
    have hin := shW_in (L := L) (any := any) (q := (i, w))
    unfold shN at hQ
    rw [ez] at hT hQ ho
    first | refine j_aload_n (pc := 39) hX dX3_readShape_39 rfl rfl ?_ | refine j_aload_nq (pc := 39) hX dX3_readShape_39 rfl rfl ?_
    refine j_dup (pc := 40) hX dX3_readShape_40 (by first | rfl | exact jrf_cat _) ?_
    refine j_get (pc := 41) hX kg_X3_223 dX3_readShape_41 (by first | assumption | exact jow.r (by assumption)) (by rfl) ?_
    first | refine j_aload_n (pc := 44) hX dX3_readShape_44 rfl rfl ?_ | refine j_aload_nq (pc := 44) hX dX3_readShape_44 rfl rfl ?_
    refine j_get (pc := 45) hX kg_X3_230 dX3_readShape_45 (by first | assumption | exact jow.r (by assumption)) (by rfl) ?_
    change JW X G H1 0 48 _ [.int (jb z), _, _]
    refine j_if_eq (pc := 48) (tgt := 55) hX dX3_readShape_48 (by decide) (fun c_48 => ?_) (fun c_48 => ?_)
    · rw [jb_z] at c_48
      subst c_48
      refine j_iconst (pc := 55) (v := 1) hX dX3_readShape_55 (by decide) ?_
      refine j_iadd (pc := 56) hX dX3_readShape_56 ?_
      first | change JW X G H1 0 57 _ [.int (nI i + 1), _] | change JW X G H1 0 57 _ [.int (nI i + 0), _]
      first | rw [nI_1] | rw [Int32.add_zero]
      refine j_put (pc := 57) hX kp_X3_223 dX3_readShape_57 (by assumption) (by first | assumption | omega | exact h0.1 _ (by decide)) rfl rfl rfl (fun H_57 w_57 n_57 => ?_)
      have hT := tw_put11 hT w_57 n_57
      have hF := hF.put w_57 (fun _ => ⟨100, by decide, rfl⟩)
      rw [psF_11] at hT
      refine j_iload_n (pc := 60) hX dX3_readShape_60 rfl rfl ?_
      exact j_iret hX hQ hr dX3_readShape_61 ⟨_, rfl, ⟨hF, hT⟩, rfl⟩
    · rw [jb_n] at c_48
      subst c_48
      refine j_iconst (pc := 51) (v := 0) hX dX3_readShape_51 (by decide) ?_
      refine j_goto (pc := 52) (tgt := 56) hX dX3_readShape_52 (by decide) ?_
      refine j_iadd (pc := 56) hX dX3_readShape_56 ?_
      first | change JW X G H1 0 57 _ [.int (nI i + 1), _] | change JW X G H1 0 57 _ [.int (nI i + 0), _]
      first | rw [nI_1] | rw [Int32.add_zero]
      refine j_put (pc := 57) hX kp_X3_223 dX3_readShape_57 (by assumption) (by first | assumption | omega | exact h0.1 _ (by decide)) rfl rfl rfl (fun H_57 w_57 n_57 => ?_)
      have hT := tw_put11 hT w_57 n_57
      have hF := hF.put w_57 (fun _ => ⟨100, by decide, rfl⟩)
      rw [psF_11] at hT
      refine j_iload_n (pc := 60) hX dX3_readShape_60 rfl rfl ?_
      exact j_iret hX hQ hr dX3_readShape_61 ⟨_, rfl, ⟨hF, hT⟩, rfl⟩
  first | refine j_aload_n (pc := 0) hX dX3_readShape_0 rfl rfl ?_ | refine j_aload_nq (pc := 0) hX dX3_readShape_0 rfl rfl ?_
  refine j_iconst (pc := 1) (v := 0) hX dX3_readShape_1 (by decide) ?_
  refine j_rune (pc := 2) (jr_V (pc := 2) hX kv_X3_234 (by first | assumption | exact jow.r (by assumption)) (c_X3_behind _ _ _ hT i 0 w (by omega) (by omega) fs' rfl L hI) (by decide) dX3_readShape_2 rfl rfl (Nat.le_of_ble_eq_true rfl)) ?_ jno_x
  rw [Nat.add_zero]
  refine j_istore_n (pc := 5) hX dX3_readShape_5 rfl (by decide) rfl ?_
  first | refine j_aload_n (pc := 6) hX dX3_readShape_6 rfl rfl ?_ | refine j_aload_nq (pc := 6) hX dX3_readShape_6 rfl rfl ?_
  first | refine j_aload_n (pc := 7) hX dX3_readShape_7 rfl rfl ?_ | refine j_aload_nq (pc := 7) hX dX3_readShape_7 rfl rfl ?_
  refine j_get (pc := 8) hX kg_X3_230 dX3_readShape_8 (by first | assumption | exact jow.r (by assumption)) (by rfl) ?_
  change JW X G H 0 11 _ [.int (jb w), _]
  refine j_if_ne (pc := 11) (tgt := 31) hX dX3_readShape_11 (by decide) (fun c_11 => ?_) (fun c_11 => ?_)
  · rw [jb_n] at c_11
    refine j_iconst (pc := 31) (v := 1) hX dX3_readShape_31 (by decide) ?_
    refine j_goto (pc := 32) (tgt := 36) hX dX3_readShape_32 (by decide) ?_
    refine j_put (pc := 36) hX kp_X3_230 dX3_readShape_36 (by assumption) (by first | assumption | omega | exact h0.1 _ (by decide)) rfl rfl rfl (fun H_36 w_36 n_36 => ?_)
    have hT := tw_put12 hT w_36 n_36
    have hF := hF.put w_36 (fun _ => ⟨100, by decide, rfl⟩)
    first | replace hT := psF_12t hT | replace hT := psF_12f hT
    first | exact main _ hF (by rw [show shW L any (i, w) = true from by subst c_11; first | rfl | (simp [shW, c_18]; done) | (simp [shW, c_18, c_22]; done) | (simp [shW, sh42, c_18, c_22, c_28]; done)]; exact hT) | exact main _ hF (by rw [show shW L any (i, w) = false from by subst c_11; first | rfl | (simp [shW, c_18]; done) | (simp [shW, c_18, c_22]; done) | (simp [shW, sh42, c_18, c_22, c_28]; done)]; exact hT)
  · rw [jb_z] at c_11
    refine j_iload_n (pc := 14) hX dX3_readShape_14 rfl rfl ?_
    refine j_rune (pc := 15) (jr_S (pc := 15) hX ks_X3_79 (c_X3_isShape _ _ _ _) (by decide) dX3_readShape_15 rfl rfl (Nat.le_of_ble_eq_true rfl)) ?_ jno_x
    refine j_if_ne (pc := 18) (tgt := 35) hX dX3_readShape_18 (by decide) (fun c_18 => ?_) (fun c_18 => ?_)
    · rw [jb_n] at c_18
      change shI (chI L i) = _ at c_18
      refine j_iconst (pc := 35) (v := 0) hX dX3_readShape_35 (by decide) ?_
      refine j_put (pc := 36) hX kp_X3_230 dX3_readShape_36 (by assumption) (by first | assumption | omega | exact h0.1 _ (by decide)) rfl rfl rfl (fun H_36 w_36 n_36 => ?_)
      have hT := tw_put12 hT w_36 n_36
      have hF := hF.put w_36 (fun _ => ⟨100, by decide, rfl⟩)
      first | replace hT := psF_12t hT | replace hT := psF_12f hT
      first | exact main _ hF (by rw [show shW L any (i, w) = true from by subst c_11; first | rfl | (simp [shW, c_18]; done) | (simp [shW, c_18, c_22]; done) | (simp [shW, sh42, c_18, c_22, c_28]; done)]; exact hT) | exact main _ hF (by rw [show shW L any (i, w) = false from by subst c_11; first | rfl | (simp [shW, c_18]; done) | (simp [shW, c_18, c_22]; done) | (simp [shW, sh42, c_18, c_22, c_28]; done)]; exact hT)
    · rw [jb_z] at c_18
      change shI (chI L i) = _ at c_18
      refine j_iload_n (pc := 21) hX dX3_readShape_21 rfl rfl ?_
      refine j_if_eq (pc := 22) (tgt := 31) hX dX3_readShape_22 (by decide) (fun c_22 => ?_) (fun c_22 => ?_)
      · rw [jb_z] at c_22
        refine j_iconst (pc := 31) (v := 1) hX dX3_readShape_31 (by decide) ?_
        refine j_goto (pc := 32) (tgt := 36) hX dX3_readShape_32 (by decide) ?_
        refine j_put (pc := 36) hX kp_X3_230 dX3_readShape_36 (by assumption) (by first | assumption | omega | exact h0.1 _ (by decide)) rfl rfl rfl (fun H_36 w_36 n_36 => ?_)
        have hT := tw_put12 hT w_36 n_36
        have hF := hF.put w_36 (fun _ => ⟨100, by decide, rfl⟩)
        first | replace hT := psF_12t hT | replace hT := psF_12f hT
        first | exact main _ hF (by rw [show shW L any (i, w) = true from by subst c_11; first | rfl | (simp [shW, c_18]; done) | (simp [shW, c_18, c_22]; done) | (simp [shW, sh42, c_18, c_22, c_28]; done)]; exact hT) | exact main _ hF (by rw [show shW L any (i, w) = false from by subst c_11; first | rfl | (simp [shW, c_18]; done) | (simp [shW, c_18, c_22]; done) | (simp [shW, sh42, c_18, c_22, c_28]; done)]; exact hT)
      · rw [jb_n] at c_22
        refine j_iload_n (pc := 25) hX dX3_readShape_25 rfl rfl ?_
        refine j_bipush (pc := 26) (v := 42) hX dX3_readShape_26 (by decide) ?_
        refine j_icmp_eq (pc := 28) (tgt := 35) hX dX3_readShape_28 (by decide) (fun c_28 => ?_) (fun c_28 => ?_)
        · rw [Nat.add_zero] at c_28
          refine j_iconst (pc := 35) (v := 0) hX dX3_readShape_35 (by decide) ?_
          refine j_put (pc := 36) hX kp_X3_230 dX3_readShape_36 (by assumption) (by first | assumption | omega | exact h0.1 _ (by decide)) rfl rfl rfl (fun H_36 w_36 n_36 => ?_)
          have hT := tw_put12 hT w_36 n_36
          have hF := hF.put w_36 (fun _ => ⟨100, by decide, rfl⟩)
          first | replace hT := psF_12t hT | replace hT := psF_12f hT
          first | exact main _ hF (by rw [show shW L any (i, w) = true from by subst c_11; first | rfl | (simp [shW, c_18]; done) | (simp [shW, c_18, c_22]; done) | (simp [shW, sh42, c_18, c_22, c_28]; done)]; exact hT) | exact main _ hF (by rw [show shW L any (i, w) = false from by subst c_11; first | rfl | (simp [shW, c_18]; done) | (simp [shW, c_18, c_22]; done) | (simp [shW, sh42, c_18, c_22, c_28]; done)]; exact hT)
        · rw [Nat.add_zero] at c_28
          refine j_iconst (pc := 31) (v := 1) hX dX3_readShape_31 (by decide) ?_
          refine j_goto (pc := 32) (tgt := 36) hX dX3_readShape_32 (by decide) ?_
          refine j_put (pc := 36) hX kp_X3_230 dX3_readShape_36 (by assumption) (by first | assumption | omega | exact h0.1 _ (by decide)) rfl rfl rfl (fun H_36 w_36 n_36 => ?_)
          have hT := tw_put12 hT w_36 n_36
          have hF := hF.put w_36 (fun _ => ⟨100, by decide, rfl⟩)
          first | replace hT := psF_12t hT | replace hT := psF_12f hT
          first | exact main _ hF (by rw [show shW L any (i, w) = true from by subst c_11; first | rfl | (simp [shW, c_18]; done) | (simp [shW, c_18, c_22]; done) | (simp [shW, sh42, c_18, c_22, c_28]; done)]; exact hT) | exact main _ hF (by rw [show shW L any (i, w) = false from by subst c_11; first | rfl | (simp [shW, c_18]; done) | (simp [shW, c_18, c_22]; done) | (simp [shW, sh42, c_18, c_22, c_28]; done)]; exact hT)
