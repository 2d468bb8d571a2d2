/-! Post, Applicant, Reference, and the class' own checks -/
set_option maxRecDepth 100000
def jb (x : Bool) : Int32 := if x = true then 1 else 0
theorem jb_t : jb true = 1 := rfl
theorem jb_nar (x : Bool) : narrow .boolean (.int (jb x)) = .int (jb x) := by cases x <;> rfl
theorem jb_f : jb false = 0 := rfl
theorem jb_z {x : Bool} : jb x = 0 ↔ x = false := by cases x <;> decide
theorem jb_n {x : Bool} : ¬ jb x = 0 ↔ x = true := by cases x <;> decide
theorem jb_one {x : Bool} (h : x = true) : (1 : Int32) = jb x := by rw [h]; rfl
theorem jb_zero {x : Bool} (h : x = false) : (0 : Int32) = jb x := by rw [h]; rfl
abbrev oPost (sh lo hi wg : Int32) (ho : Option Nat) : List Value := [.int sh, .int lo, .int hi, .int wg, va_rf ho]
abbrev oApp (id sh wh rn co : Int32) (po : Option Nat) : List Value := [.int id, .int sh, .int wh, .int rn, .int co, va_rf po]
abbrev oRef (f t : Int32) : List Value := [.int f, .int t]
/-- a post fits an applicant -/
def jfits (sh lo hi ash aw ar : Int32) : Bool := (decide (sh = 42) || decide (sh = ash)) && (decide (lo ≤ aw) && decide (ar ≤ hi))
theorem c_X4_isVacant (l : Launch) (G : JG) (H : Heap) (a : Nat) {sh lo hi wg : Int32} {ho : Option Nat} (h : jow G H a 3 (oPost sh lo hi wg ho)) : JMet l yX4_isVacant (ws_ yX4_isVacant cX4_isVacant 1 (some .boolean)) 1 0 G H [.ref a] (jpi (fun r H1 => H1 = H ∧ r = jb ho.isNone)) jno := by
  refine JMet.of [(0, .inr (some a))] (by decide) (Nat.le_of_ble_eq_true rfl) rfl (fun X hl hX hQ hT hr hnm hH => ?_)
  subst hl
  first | refine j_aload_n (pc := 0) hX dX4_isVacant_0 rfl rfl ?_ | refine j_aload_nq (pc := 0) hX dX4_isVacant_0 rfl rfl ?_
  refine j_get (pc := 1) hX kg_X4_25 dX4_isVacant_1 (by first | assumption | exact jow.r (by assumption)) (by rfl) ?_
  refine j_ifnonnullq (pc := 4) (tgt := 11) hX dX4_isVacant_4 (by decide) (fun a_4 c_4 => ?_) (fun c_4 => ?_)
  · refine j_iconst (pc := 11) (v := 0) hX dX4_isVacant_11 (by decide) ?_
    exact j_zret hX hQ hr rfl dX4_isVacant_12 ⟨_, rfl, rfl, by rw [c_4]; rfl⟩
  · refine j_iconst (pc := 7) (v := 1) hX dX4_isVacant_7 (by decide) ?_
    refine j_goto (pc := 8) (tgt := 12) hX dX4_isVacant_8 (by decide) ?_
    exact j_zret hX hQ hr rfl dX4_isVacant_12 ⟨_, rfl, rfl, by rw [c_4]; rfl⟩
theorem c_X5_isHired (l : Launch) (G : JG) (H : Heap) (a : Nat) {id sh wh rn co : Int32} {po : Option Nat} (h : jow G H a 2 (oApp id sh wh rn co po)) : JMet l yX5_isHired (ws_ yX5_isHired cX5_isHired 1 (some .boolean)) 1 0 G H [.ref a] (jpi (fun r H1 => H1 = H ∧ r = jb po.isSome)) jno := by
  refine JMet.of [(0, .inr (some a))] (by decide) (Nat.le_of_ble_eq_true rfl) rfl (fun X hl hX hQ hT hr hnm hH => ?_)
  subst hl
  first | refine j_aload_n (pc := 0) hX dX5_isHired_0 rfl rfl ?_ | refine j_aload_nq (pc := 0) hX dX5_isHired_0 rfl rfl ?_
  refine j_get (pc := 1) hX kg_X5_26 dX5_isHired_1 (by first | assumption | exact jow.r (by assumption)) (by rfl) ?_
  refine j_ifnullq (pc := 4) (tgt := 11) hX dX5_isHired_4 (by decide) (fun c_4 => ?_) (fun a_4 c_4 => ?_)
  · refine j_iconst (pc := 11) (v := 0) hX dX5_isHired_11 (by decide) ?_
    exact j_zret hX hQ hr rfl dX5_isHired_12 ⟨_, rfl, rfl, by rw [c_4]; rfl⟩
  · refine j_iconst (pc := 7) (v := 1) hX dX5_isHired_7 (by decide) ?_
    refine j_goto (pc := 8) (tgt := 12) hX dX5_isHired_8 (by decide) ?_
    exact j_zret hX hQ hr rfl dX5_isHired_12 ⟨_, rfl, rfl, by rw [c_4]; rfl⟩
theorem c_X4_fits (l : Launch) (G : JG) (H : Heap) (a q : Nat) {sh lo hi wg : Int32} {ho : Option Nat} (h : jow G H a 3 (oPost sh lo hi wg ho)) {id ash wh rn co : Int32} {po : Option Nat} (h2 : jow G H q 2 (oApp id ash wh rn co po)) : JMet l yX4_fits (ws_ yX4_fits cX4_fits 3 (some .boolean)) 1 0 G H [.ref a, .ref q] (jpi (fun r H1 => H1 = H ∧ r = jb (jfits sh lo hi ash wh rn))) jno := by
  refine JMet.of [(0, .inr (some a)), (1, .inr (some q))] (by decide) (Nat.le_of_ble_eq_true rfl) rfl (fun X hl hX hQ hT hr hnm hH => ?_)
  subst hl
  have rest : ∀ x2 : Bool, x2 = (decide (sh = 42) || decide (sh = ash)) → JW X G H 0 25 [(0, .inr (some a)), (1, .inr (some q))] [.int (jb x2)] := by
    intro x2 e2
    refine j_istore_n (pc := 25) hX dX4_fits_25 rfl (by decide) rfl ?_
    refine j_iload_n (pc := 26) hX dX4_fits_26 rfl rfl ?_
    refine j_if_eq (pc := 27) (tgt := 56) hX dX4_fits_27 (by decide) (fun c_27 => ?_) (fun c_27 => ?_)
    · refine j_iconst (pc := 56) (v := 0) hX dX4_fits_56 (by decide) ?_
      exact j_zret hX hQ hr rfl dX4_fits_57 ⟨_, rfl, rfl, by rw [jb_z] at c_27; simp [jfits, ← e2, c_27, jb]⟩
    · first | refine j_aload_n (pc := 30) hX dX4_fits_30 rfl rfl ?_ | refine j_aload_nq (pc := 30) hX dX4_fits_30 rfl rfl ?_
      refine j_get (pc := 31) hX kg_X4_32 dX4_fits_31 (by first | assumption | exact jow.r (by assumption)) (by rfl) ?_
      first | refine j_aload_n (pc := 34) hX dX4_fits_34 rfl rfl ?_ | refine j_aload_nq (pc := 34) hX dX4_fits_34 rfl rfl ?_
      refine j_get (pc := 35) hX kg_X4_15 dX4_fits_35 (by first | assumption | exact jow.r (by assumption)) (by rfl) ?_
      rw [jb_n] at c_27
      refine j_icmp_lt (pc := 38) (tgt := 56) hX dX4_fits_38 (by decide) (fun c_38 => ?_) (fun c_38 => ?_)
      · refine j_iconst (pc := 56) (v := 0) hX dX4_fits_56 (by decide) ?_
        exact j_zret hX hQ hr rfl dX4_fits_57 ⟨_, rfl, rfl, by simp [jfits, Int32.not_le.mpr c_38, jb]⟩
      · first | refine j_aload_n (pc := 41) hX dX4_fits_41 rfl rfl ?_ | refine j_aload_nq (pc := 41) hX dX4_fits_41 rfl rfl ?_
        refine j_get (pc := 42) hX kg_X4_35 dX4_fits_42 (by first | assumption | exact jow.r (by assumption)) (by rfl) ?_
        first | refine j_aload_n (pc := 45) hX dX4_fits_45 rfl rfl ?_ | refine j_aload_nq (pc := 45) hX dX4_fits_45 rfl rfl ?_
        refine j_get (pc := 46) hX kg_X4_19 dX4_fits_46 (by first | assumption | exact jow.r (by assumption)) (by rfl) ?_
        refine j_icmp_gt (pc := 49) (tgt := 56) hX dX4_fits_49 (by decide) (fun c_49 => ?_) (fun c_49 => ?_)
        · refine j_iconst (pc := 56) (v := 0) hX dX4_fits_56 (by decide) ?_
          exact j_zret hX hQ hr rfl dX4_fits_57 ⟨_, rfl, rfl, by simp [jfits, Int32.not_le.mpr c_49, jb]⟩
        · refine j_iconst (pc := 52) (v := 1) hX dX4_fits_52 (by decide) ?_
          refine j_goto (pc := 53) (tgt := 57) hX dX4_fits_53 (by decide) ?_
          exact j_zret hX hQ hr rfl dX4_fits_57 ⟨_, rfl, rfl, by simp [jfits, ← e2, c_27, Int32.not_lt.mp c_38, Int32.not_lt.mp c_49, jb]⟩
  first | refine j_aload_n (pc := 0) hX dX4_fits_0 rfl rfl ?_ | refine j_aload_nq (pc := 0) hX dX4_fits_0 rfl rfl ?_
  refine j_get (pc := 1) hX kg_X4_9 dX4_fits_1 (by first | assumption | exact jow.r (by assumption)) (by rfl) ?_
  refine j_bipush (pc := 4) (v := 42) hX dX4_fits_4 (by decide) ?_
  refine j_icmp_eq (pc := 6) (tgt := 20) hX dX4_fits_6 (by decide) (fun c_6 => ?_) (fun c_6 => ?_)
  · refine j_iconst (pc := 20) (v := 1) hX dX4_fits_20 (by decide) ?_
    refine j_goto (pc := 21) (tgt := 25) hX dX4_fits_21 (by decide) ?_
    exact rest true (by simp [c_6])
  · first | refine j_aload_n (pc := 9) hX dX4_fits_9 rfl rfl ?_ | refine j_aload_nq (pc := 9) hX dX4_fits_9 rfl rfl ?_
    refine j_get (pc := 10) hX kg_X4_9 dX4_fits_10 (by first | assumption | exact jow.r (by assumption)) (by rfl) ?_
    first | refine j_aload_n (pc := 13) hX dX4_fits_13 rfl rfl ?_ | refine j_aload_nq (pc := 13) hX dX4_fits_13 rfl rfl ?_
    refine j_get (pc := 14) hX kg_X4_29 dX4_fits_14 (by first | assumption | exact jow.r (by assumption)) (by rfl) ?_
    refine j_icmp_ne (pc := 17) (tgt := 24) hX dX4_fits_17 (by decide) (fun c_17 => ?_) (fun c_17 => ?_)
    · refine j_iconst (pc := 24) (v := 0) hX dX4_fits_24 (by decide) ?_
      exact rest false (by simp [c_6, c_17])
    · refine j_iconst (pc := 20) (v := 1) hX dX4_fits_20 (by decide) ?_
      refine j_goto (pc := 21) (tgt := 25) hX dX4_fits_21 (by decide) ?_
      exact rest true (by simp [c_17])
