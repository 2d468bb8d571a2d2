/-! the reference: questions, with what they answer -/
set_option maxRecDepth 100000
theorem jw_cast {X : JX} {G : JG} {H : Heap} {b pc : Nat} {lv lv' : JL} {st st' : List Value} (h : lv = lv') (h' : st = st') (k : JW X G H b pc lv' st') : JW X G H b pc lv st := by rw [h, h']; exact k
/-- bounds of the row of numbers -/
def Bs (s : Nat → Nat) : Prop := s 2 ≤ 6 ∧ (∀ j, j < 93 → s j < 2 ^ 24) ∧ (∀ p, p < 6 → pFl s p ≤ 10) ∧ ∀ k, k < 10 → aGv s k < 1024
theorem Bs.lt {s : Nat → Nat} (h : Bs s) {j : Nat} (hj : j < 93) : s j < 2 ^ 24 := h.2.1 j hj
def usedN (s : Nat → Nat) (k : Nat) : Bool := decide (0 < aId s k)
def slotF (s : Nat → Nat) (x : Int32) (k : Nat) (o : Option Nat) : Option Nat := if ¬ x < 0 ∧ nI (aId s k) = x + 1 then some k else o
def slotN (s : Nat → Nat) (x : Int32) : Option Nat := jfold (slotF s x) 10 none
def fillF (s : Nat → Nat) (k p : Nat) (o : Option Nat) : Option Nat := if pFl s p = k + 1 then some p else o
def fillN (s : Nat → Nat) (k : Nat) : Option Nat := jfold (fillF s k) (s 2) none
def waitN (s : Nat → Nat) (k : Nat) : Bool := usedN s k && (fillN s k).isNone
def appsF (s : Nat → Nat) (k a : Nat) : Nat := a + if usedN s k then 1 else 0
def appsN (s : Nat → Nat) : Nat := jfold (appsF s) 10 0
def ptsN (s : Nat → Nat) (k : Nat) : Int := (aWh s k : Int) - aRn s k + 10 * bitN (aGv s k)
def betN (s : Nat → Nat) (a b : Nat) : Bool := decide (ptsN s b < ptsN s a) || (decide (ptsN s a = ptsN s b) && decide (aId s a < aId s b))
def preN (s : Nat → Nat) (p q : Nat) : Bool := decide (pWg s q < pWg s p) || (decide (pWg s p = pWg s q) && decide (p < q))
def fitN (s : Nat → Nat) (k p : Nat) : Bool := (decide (pSh s p = 42) || decide (pSh s p = aSh s k)) && (decide (pLo s p ≤ aWh s k) && decide (aRn s k ≤ pHi s p))
def vacF (s : Nat → Nat) (p a : Nat) : Nat := a + if pFl s p = 0 then 1 else 0
def vacN (s : Nat → Nat) : Nat := jfold (vacF s) (s 2) 0
def favF (s : Nat → Nat) (k : Nat) (v : Bool) (p : Nat) (o : Option Nat) : Option Nat := if fitN s k p = true ∧ (v = true → pFl s p = 0) ∧ (∀ q, o = some q → preN s p q = true) then some p else o
def favN (s : Nat → Nat) (k : Nat) (v : Bool) : Option Nat := jfold (favF s k v) (s 2) none
def bestF (s : Nat → Nat) (c : Nat → Bool) (k : Nat) (o : Option Nat) : Option Nat := if c k = true ∧ (∀ q, o = some q → betN s k q = true) then some k else o
def candN (s : Nat → Nat) (p : Nat) : Option Nat := jfold (bestF s (fun k => waitN s k && fitN s k p)) 10 none
def nextN (s : Nat → Nat) : Option Nat := jfold (bestF s (fun k => waitN s k && (favN s k true).isSome)) 10 none
theorem bitN_le (n : Nat) : bitN n ≤ 10 := by
  have : ∀ i, jfold (fun k acc => acc + (if n.testBit k then 1 else 0)) i 0 ≤ i := by
    intro i
    induction i with
    | zero => exact Nat.le_refl _
    | succ i ih => rw [jfold_succ]; split <;> omega
  exact this 10
/-- a search's answer lies below the bound -/
theorem jfold_lt {f : Nat → Option Nat → Option Nat} (hf : ∀ k o, f k o = some k ∨ f k o = o) : ∀ n q, jfold f n none = some q → q < n := by
  intro n
  induction n with
  | zero => intro q h; cases h
  | succ n ih =>
    intro q h
    rw [jfold_succ] at h
    rcases hf n (jfold f n none) with e | e
    · rw [e] at h; cases h; omega
    · rw [e] at h; have := ih q h; omega
theorem slotF_or (s : Nat → Nat) (x : Int32) (k : Nat) (o : Option Nat) : slotF s x k o = some k ∨ slotF s x k o = o := by unfold slotF; split <;> simp
theorem fillF_or (s : Nat → Nat) (x : Nat) (k : Nat) (o : Option Nat) : fillF s x k o = some k ∨ fillF s x k o = o := by unfold fillF; split <;> simp
theorem favF_or (s : Nat → Nat) (x : Nat) (v : Bool) (k : Nat) (o : Option Nat) : favF s x v k o = some k ∨ favF s x v k o = o := by unfold favF; split <;> simp
theorem bestF_or (s : Nat → Nat) (c : Nat → Bool) (k : Nat) (o : Option Nat) : bestF s c k o = some k ∨ bestF s c k o = o := by unfold bestF; split <;> simp
theorem slotN_lt {s : Nat → Nat} {x : Int32} {q : Nat} (h : slotN s x = some q) : q < 10 := jfold_lt (slotF_or s x) 10 q h
theorem fillN_lt {s : Nat → Nat} {x q : Nat} (h : fillN s x = some q) : q < s 2 := jfold_lt (fillF_or s x) _ q h
theorem favN_lt {s : Nat → Nat} {x q : Nat} {v : Bool} (h : favN s x v = some q) : q < s 2 := jfold_lt (favF_or s x v) _ q h
theorem candN_lt {s : Nat → Nat} {x q : Nat} (h : candN s x = some q) : q < 10 := jfold_lt (bestF_or s _) _ q h
theorem nextN_lt {s : Nat → Nat} {q : Nat} (h : nextN s = some q) : q < 10 := jfold_lt (bestF_or s _) _ q h
theorem oI_neg' {o : Option Nat} {N : Nat} (h : ∀ q, o = some q → q < N) (hN : N ≤ 93) : oI o < 0 ↔ o = none := oI_neg (fun k e => by have := h k e; omega)
theorem oI_pos' {o : Option Nat} {N : Nat} (h : ∀ q, o = some q → q < N) (hN : N ≤ 93) : 0 ≤ oI o ↔ ∃ q, o = some q ∧ q < N := by
  rw [← Int32.not_lt, oI_neg' h hN]
  cases o with
  | none => simp
  | some q => simp; exact h q rfl
theorem nI_eq1 {a b : Nat} (ha : a < 2 ^ 31) (hb : b < 2 ^ 30) : nI a = nI b + 1 ↔ a = b + 1 := by rw [nI_1, nI_eq ha (by omega)]
theorem nI_eq0 {a : Nat} (ha : a < 2 ^ 31) : nI a = 0 ↔ a = 0 := nI_eq (b := 0) ha (by omega)
theorem bsL {s : Nat → Nat} (hb : ∀ j, j < 93 → s j < 2 ^ 24) {j : Nat} (hj : j < 93) : s j < 2 ^ 31 := Nat.lt_trans (hb j hj) (by decide)
theorem nI_zw (a b c : Nat) : nI a - nI b + 10 * nI c = zI ((a : Int) - b + 10 * (c : Nat)) := by
  rw [nI_zI, nI_zI, nI_zI, zI_sub, show (10 : Int32) = zI 10 from rfl, zI_mul, zI_add]
theorem ptsN_b {s : Nat → Nat} (hb : ∀ j, j < 93 → s j < 2 ^ 24) {k : Nat} (hk : k < 10) : -(2 ^ 25) < ptsN s k ∧ ptsN s k < 2 ^ 25 := by
  have h1 := hb (3 + 6 * k + 2) (by omega)
  have h2 := hb (3 + 6 * k + 3) (by omega)
  have h3 := bitN_le (aGv s k)
  unfold ptsN aWh aRn
  omega
theorem c_X3_slotOf (l : Launch) (G : JG) (H : Heap) {g : Nat → Nat} {ar : Nat → Nat → Nat} {cm fs : Nat → Int32} (hT : jtw G H g ar cm fs) (x : Int32) : JMet l yX3_slotOf (ws_ yX3_slotOf cX3_slotOf 4 (some .int)) 2 0 G H [.ref (g 100), .int x] (jpe H (oI (slotN (ar 0) x))) (jno) := by
  refine JMet.of [(0, .inr (some (g 100))), (1, .inl (.int x))] (by decide) (Nat.le_of_ble_eq_true rfl) rfl (fun X hl hX hQ hEx hr hnm hH => ?_)
  subst hl
  obtain ⟨h0, ho, hs, hbf, hsv, hpa, hou, hip, hcm⟩ := id hT
  have hi2 : vp_in (2 : Int32) 93 := vp_in_nI (n := 2) (by omega) (by decide)
  refine j_iconst (pc := 0) (v := -1) hX dX3_slotOf_0 (by decide) ?_
  refine j_istore_n (pc := 1) hX dX3_slotOf_1 rfl (by decide) rfl ?_
  refine j_iconst (pc := 2) (v := 0) hX dX3_slotOf_2 (by decide) ?_
  refine j_istore_n (pc := 3) hX dX3_slotOf_3 rfl (by decide) rfl ?_
  refine jloop (P := fun i => JW X G H 0 4 [(0, .inr (some (g 100))), (1, .inl (.int x)), (2, .inl (.int (oI (jfold (slotF (ar 0) x) i none)))), (3, .inl (.int (nI i)))] []) 10 ?_ (fun i hi ih => ?_) 0 (by omega)
  · refine j_iload_n (pc := 4) hX dX3_slotOf_4 rfl rfl ?_
    refine j_bipush (pc := 5) (v := 10) hX dX3_slotOf_5 (by decide) ?_
    refine j_icmp_ge (pc := 7) (tgt := 38) hX dX3_slotOf_7 (by decide) (fun c_7 => ?_) (fun c_7 => ?_)
    rotate_left
    · exact absurd (jge_no (a := 10) c_7 (by omega) (by omega)) (by omega)
    refine j_iload_n (pc := 38) hX dX3_slotOf_38 rfl rfl ?_
    exact j_iret hX hQ hr dX3_slotOf_39 ⟨_, rfl, rfl, by rfl⟩
  · refine j_iload_n (pc := 4) hX dX3_slotOf_4 rfl rfl ?_
    refine j_bipush (pc := 5) (v := 10) hX dX3_slotOf_5 (by decide) ?_
    refine j_icmp_ge (pc := 7) (tgt := 38) hX dX3_slotOf_7 (by decide) (fun c_7 => ?_) (fun c_7 => ?_)
    · exact absurd (jge_yes (a := 10) c_7 (by omega) (by omega)) (by omega)
    refine j_iload_n (pc := 10) hX dX3_slotOf_10 rfl rfl ?_
    refine j_if_lt (pc := 11) (tgt := 30) hX dX3_slotOf_11 (by decide) (fun c_11 => ?_) (fun c_11 => ?_)
    · refine j_iload_n (pc := 30) hX dX3_slotOf_30 rfl rfl ?_
      refine j_istore_n (pc := 31) hX dX3_slotOf_31 rfl (by decide) rfl ?_
      refine j_iincc (pc := 32) (m := 1) hX dX3_slotOf_32 rfl (by decide) (by decide) rfl ?_
      refine j_goto (pc := 35) (tgt := 4) hX dX3_slotOf_35 (by decide) ?_
      exact jw_cast (by simp_all [jfold_succ, slotF, oI, nI_1, aId]) rfl ih
    · first | refine j_aload_n (pc := 14) hX dX3_slotOf_14 rfl rfl ?_ | refine j_aload_nq (pc := 14) hX dX3_slotOf_14 rfl rfl ?_
      refine j_iload_n (pc := 15) hX dX3_slotOf_15 rfl rfl ?_
      refine j_iconst (pc := 16) (v := 0) hX dX3_slotOf_16 (by decide) ?_
      refine j_rune (pc := 17) (jr_V (pc := 17) hX kv_X3_55 (by first | assumption | exact jow.r (by assumption)) (c_X3_of _ _ _ hT i 0 hi (by omega)) (by decide) dX3_slotOf_17 rfl rfl (Nat.le_of_ble_eq_true rfl)) ?_ jno_x
      refine j_iload_n (pc := 20) hX dX3_slotOf_20 rfl rfl ?_
      refine j_iconst (pc := 21) (v := 1) hX dX3_slotOf_21 (by decide) ?_
      refine j_iadd (pc := 22) hX dX3_slotOf_22 ?_
      refine j_icmp_ne (pc := 23) (tgt := 30) hX dX3_slotOf_23 (by decide) (fun c_23 => ?_) (fun c_23 => ?_)
      · refine j_iload_n (pc := 30) hX dX3_slotOf_30 rfl rfl ?_
        refine j_istore_n (pc := 31) hX dX3_slotOf_31 rfl (by decide) rfl ?_
        refine j_iincc (pc := 32) (m := 1) hX dX3_slotOf_32 rfl (by decide) (by decide) rfl ?_
        refine j_goto (pc := 35) (tgt := 4) hX dX3_slotOf_35 (by decide) ?_
        exact jw_cast (by simp_all [jfold_succ, slotF, oI, nI_1, aId]) rfl ih
      · refine j_iload_n (pc := 26) hX dX3_slotOf_26 rfl rfl ?_
        refine j_goto (pc := 27) (tgt := 31) hX dX3_slotOf_27 (by decide) ?_
        refine j_istore_n (pc := 31) hX dX3_slotOf_31 rfl (by decide) rfl ?_
        refine j_iincc (pc := 32) (m := 1) hX dX3_slotOf_32 rfl (by decide) (by decide) rfl ?_
        refine j_goto (pc := 35) (tgt := 4) hX dX3_slotOf_35 (by decide) ?_
        exact jw_cast (by simp_all [jfold_succ, slotF, oI, nI_1, aId]) rfl ih
theorem c_X3_filledWith (l : Launch) (G : JG) (H : Heap) {g : Nat → Nat} {ar : Nat → Nat → Nat} {cm fs : Nat → Int32} (hT : jtw G H g ar cm fs) (hB : Bs (ar 0)) (k : Nat) (hk : k < 10) : JMet l yX3_filledWith (ws_ yX3_filledWith cX3_filledWith 4 (some .int)) 2 0 G H [.ref (g 100), .int (nI k)] (jpe H (oI (fillN (ar 0) k))) (jno) := by
  refine JMet.of [(0, .inr (some (g 100))), (1, .inl (.int (nI k)))] (by decide) (Nat.le_of_ble_eq_true rfl) rfl (fun X hl hX hQ hEx hr hnm hH => ?_)
  subst hl
  obtain ⟨h0, ho, hs, hbf, hsv, hpa, hou, hip, hcm⟩ := id hT
  have hi2 : vp_in (2 : Int32) 93 := vp_in_nI (n := 2) (by omega) (by decide)
  obtain ⟨h2, hb, hf, hg⟩ := id hB
  refine j_iconst (pc := 0) (v := -1) hX dX3_filledWith_0 (by decide) ?_
  refine j_istore_n (pc := 1) hX dX3_filledWith_1 rfl (by decide) rfl ?_
  refine j_iconst (pc := 2) (v := 0) hX dX3_filledWith_2 (by decide) ?_
  refine j_istore_n (pc := 3) hX dX3_filledWith_3 rfl (by decide) rfl ?_
  refine jloop (P := fun i => JW X G H 0 4 [(0, .inr (some (g 100))), (1, .inl (.int (nI k))), (2, .inl (.int (oI (jfold (fillF (ar 0) k) i none)))), (3, .inl (.int (nI i)))] []) (ar 0 2) ?_ (fun i hi ih => ?_) 0 (by omega)
  · refine j_iload_n (pc := 4) hX dX3_filledWith_4 rfl rfl ?_
    first | refine j_aload_n (pc := 5) hX dX3_filledWith_5 rfl rfl ?_ | refine j_aload_nq (pc := 5) hX dX3_filledWith_5 rfl rfl ?_
    refine j_get (pc := 6) hX kg_X3_9 dX3_filledWith_6 (by first | assumption | exact jow.r (by assumption)) (by rfl) ?_
    refine j_iconst (pc := 9) (v := 2) hX dX3_filledWith_9 (by decide) ?_
    refine j_iald (pc := 10) hX dX3_filledWith_10 (by first | assumption | exact jaw.r hX (by decide) (by assumption)) (by assumption) ?_
    refine j_icmp_ge (pc := 11) (tgt := 38) hX dX3_filledWith_11 (by decide) (fun c_11 => ?_) (fun c_11 => ?_)
    rotate_left
    · exact absurd (jge_no (a := ar 0 2) c_11 (by omega) (by omega)) (by omega)
    refine j_iload_n (pc := 38) hX dX3_filledWith_38 rfl rfl ?_
    exact j_iret hX hQ hr dX3_filledWith_39 ⟨_, rfl, rfl, by rfl⟩
  · refine j_iload_n (pc := 4) hX dX3_filledWith_4 rfl rfl ?_
    first | refine j_aload_n (pc := 5) hX dX3_filledWith_5 rfl rfl ?_ | refine j_aload_nq (pc := 5) hX dX3_filledWith_5 rfl rfl ?_
    refine j_get (pc := 6) hX kg_X3_9 dX3_filledWith_6 (by first | assumption | exact jow.r (by assumption)) (by rfl) ?_
    refine j_iconst (pc := 9) (v := 2) hX dX3_filledWith_9 (by decide) ?_
    refine j_iald (pc := 10) hX dX3_filledWith_10 (by first | assumption | exact jaw.r hX (by decide) (by assumption)) (by assumption) ?_
    refine j_icmp_ge (pc := 11) (tgt := 38) hX dX3_filledWith_11 (by decide) (fun c_11 => ?_) (fun c_11 => ?_)
    · exact absurd (jge_yes (a := ar 0 2) c_11 (by omega) (by omega)) (by omega)
    first | refine j_aload_n (pc := 14) hX dX3_filledWith_14 rfl rfl ?_ | refine j_aload_nq (pc := 14) hX dX3_filledWith_14 rfl rfl ?_
    refine j_iload_n (pc := 15) hX dX3_filledWith_15 rfl rfl ?_
    refine j_iconst (pc := 16) (v := 4) hX dX3_filledWith_16 (by decide) ?_
    refine j_rune (pc := 17) (jr_V (pc := 17) hX kv_X3_59 (by first | assumption | exact jow.r (by assumption)) (c_X3_ofPost _ _ _ hT i 4 (by omega) (by omega)) (by decide) dX3_filledWith_17 rfl rfl (Nat.le_of_ble_eq_true rfl)) ?_ jno_x
    refine j_iload_n (pc := 20) hX dX3_filledWith_20 rfl rfl ?_
    refine j_iconst (pc := 21) (v := 1) hX dX3_filledWith_21 (by decide) ?_
    refine j_iadd (pc := 22) hX dX3_filledWith_22 ?_
    refine j_icmp_ne (pc := 23) (tgt := 30) hX dX3_filledWith_23 (by decide) (fun c_23 => ?_) (fun c_23 => ?_)
    · rw [nI_eq1 (bsL hb (by omega)) (by omega)] at c_23
      refine j_iload_n (pc := 30) hX dX3_filledWith_30 rfl rfl ?_
      refine j_istore_n (pc := 31) hX dX3_filledWith_31 rfl (by decide) rfl ?_
      refine j_iincc (pc := 32) (m := 1) hX dX3_filledWith_32 rfl (by decide) (by decide) rfl ?_
      refine j_goto (pc := 35) (tgt := 4) hX dX3_filledWith_35 (by decide) ?_
      exact jw_cast (by simp [jfold_succ, fillF, oI, nI_1, c_23]) rfl ih
    · rw [nI_eq1 (bsL hb (by omega)) (by omega)] at c_23
      refine j_iload_n (pc := 26) hX dX3_filledWith_26 rfl rfl ?_
      refine j_goto (pc := 27) (tgt := 31) hX dX3_filledWith_27 (by decide) ?_
      refine j_istore_n (pc := 31) hX dX3_filledWith_31 rfl (by decide) rfl ?_
      refine j_iincc (pc := 32) (m := 1) hX dX3_filledWith_32 rfl (by decide) (by decide) rfl ?_
      refine j_goto (pc := 35) (tgt := 4) hX dX3_filledWith_35 (by decide) ?_
      exact jw_cast (by simp [jfold_succ, fillF, oI, nI_1, c_23]) rfl ih
theorem c_X3_isWaiting (l : Launch) (G : JG) (H : Heap) {g : Nat → Nat} {ar : Nat → Nat → Nat} {cm fs : Nat → Int32} (hT : jtw G H g ar cm fs) (hB : Bs (ar 0)) (k : Nat) (hk : k < 10) : JMet l yX3_isWaiting (ws_ yX3_isWaiting cX3_isWaiting 2 (some .boolean)) 3 0 G H [.ref (g 100), .int (nI k)] (jpe H (jb (waitN (ar 0) k))) (jno) := by
  refine JMet.of [(0, .inr (some (g 100))), (1, .inl (.int (nI k)))] (by decide) (Nat.le_of_ble_eq_true rfl) rfl (fun X hl hX hQ hEx hr hnm hH => ?_)
  subst hl
  obtain ⟨h0, ho, hs, hbf, hsv, hpa, hou, hip, hcm⟩ := id hT
  have hi2 : vp_in (2 : Int32) 93 := vp_in_nI (n := 2) (by omega) (by decide)
  obtain ⟨h2, hb, hf, hg⟩ := id hB
  first | refine j_aload_n (pc := 0) hX dX3_isWaiting_0 rfl rfl ?_ | refine j_aload_nq (pc := 0) hX dX3_isWaiting_0 rfl rfl ?_
  refine j_iload_n (pc := 1) hX dX3_isWaiting_1 rfl rfl ?_
  refine j_rune (pc := 2) (jr_V (pc := 2) hX kv_X3_62 (by first | assumption | exact jow.r (by assumption)) (c_X3_isUsed _ _ _ hT (fun j hj => bsL hb hj) k hk) (by decide) dX3_isWaiting_2 rfl rfl (Nat.le_of_ble_eq_true rfl)) ?_ jno_x
  refine j_if_eq (pc := 5) (tgt := 20) hX dX3_isWaiting_5 (by decide) (fun c_5 => ?_) (fun c_5 => ?_)
  · rw [jb_z] at c_5
    refine j_iconst (pc := 20) (v := 0) hX dX3_isWaiting_20 (by decide) ?_
    exact j_zret hX hQ hr (by first | rfl | exact jb_nar _ | exact nI_narC _ | assumption) dX3_isWaiting_21 ⟨_, rfl, rfl, by simp_all [waitN, usedN, jb]⟩
  · rw [jb_n] at c_5
    first | refine j_aload_n (pc := 8) hX dX3_isWaiting_8 rfl rfl ?_ | refine j_aload_nq (pc := 8) hX dX3_isWaiting_8 rfl rfl ?_
    refine j_iload_n (pc := 9) hX dX3_isWaiting_9 rfl rfl ?_
    refine j_rune (pc := 10) (jr_V (pc := 10) hX kv_X3_66 (by first | assumption | exact jow.r (by assumption)) (c_X3_filledWith _ _ _ hT hB k hk) (by decide) dX3_isWaiting_10 rfl rfl (Nat.le_of_ble_eq_true rfl)) ?_ jno_x
    refine j_if_ge (pc := 13) (tgt := 20) hX dX3_isWaiting_13 (by decide) (fun c_13 => ?_) (fun c_13 => ?_)
    · obtain ⟨q, c_13, -⟩ := (oI_pos' (fun _ => fillN_lt) (by omega)).mp c_13
      refine j_iconst (pc := 20) (v := 0) hX dX3_isWaiting_20 (by decide) ?_
      exact j_zret hX hQ hr (by first | rfl | exact jb_nar _ | exact nI_narC _ | assumption) dX3_isWaiting_21 ⟨_, rfl, rfl, by simp_all [waitN, usedN, jb]⟩
    · rw [Int32.not_le, oI_neg' (fun _ => fillN_lt) (by omega)] at c_13
      refine j_iconst (pc := 16) (v := 1) hX dX3_isWaiting_16 (by decide) ?_
      refine j_goto (pc := 17) (tgt := 21) hX dX3_isWaiting_17 (by decide) ?_
      exact j_zret hX hQ hr (by first | rfl | exact jb_nar _ | exact nI_narC _ | assumption) dX3_isWaiting_21 ⟨_, rfl, rfl, by simp_all [waitN, usedN, jb]⟩
theorem c_X3_applicants (l : Launch) (G : JG) (H : Heap) {g : Nat → Nat} {ar : Nat → Nat → Nat} {cm fs : Nat → Int32} (hT : jtw G H g ar cm fs) (hB : Bs (ar 0)) : JMet l yX3_applicants (ws_ yX3_applicants cX3_applicants 3 (some .int)) 3 0 G H [.ref (g 100)] (jpe H (nI (appsN (ar 0)))) (jno) := by
  refine JMet.of [(0, .inr (some (g 100)))] (by decide) (Nat.le_of_ble_eq_true rfl) rfl (fun X hl hX hQ hEx hr hnm hH => ?_)
  subst hl
  obtain ⟨h0, ho, hs, hbf, hsv, hpa, hou, hip, hcm⟩ := id hT
  have hi2 : vp_in (2 : Int32) 93 := vp_in_nI (n := 2) (by omega) (by decide)
  obtain ⟨h2, hb, hf, hg⟩ := id hB
  refine j_iconst (pc := 0) (v := 0) hX dX3_applicants_0 (by decide) ?_
  refine j_istore_n (pc := 1) hX dX3_applicants_1 rfl (by decide) rfl ?_
  refine j_iconst (pc := 2) (v := 0) hX dX3_applicants_2 (by decide) ?_
  refine j_istore_n (pc := 3) hX dX3_applicants_3 rfl (by decide) rfl ?_
  refine jloop (P := fun i => JW X G H 0 4 [(0, .inr (some (g 100))), (1, .inl (.int (nI (jfold (appsF (ar 0)) i 0)))), (2, .inl (.int (nI i)))] []) 10 ?_ (fun i hi ih => ?_) 0 (by omega)
  · refine j_iload_n (pc := 4) hX dX3_applicants_4 rfl rfl ?_
    refine j_bipush (pc := 5) (v := 10) hX dX3_applicants_5 (by decide) ?_
    refine j_icmp_ge (pc := 7) (tgt := 32) hX dX3_applicants_7 (by decide) (fun c_7 => ?_) (fun c_7 => ?_)
    rotate_left
    · exact absurd (jge_no (a := 10) c_7 (by omega) (by omega)) (by omega)
    refine j_iload_n (pc := 32) hX dX3_applicants_32 rfl rfl ?_
    exact j_iret hX hQ hr dX3_applicants_33 ⟨_, rfl, rfl, by rfl⟩
  · refine j_iload_n (pc := 4) hX dX3_applicants_4 rfl rfl ?_
    refine j_bipush (pc := 5) (v := 10) hX dX3_applicants_5 (by decide) ?_
    refine j_icmp_ge (pc := 7) (tgt := 32) hX dX3_applicants_7 (by decide) (fun c_7 => ?_) (fun c_7 => ?_)
    · exact absurd (jge_yes (a := 10) c_7 (by omega) (by omega)) (by omega)
    refine j_iload_n (pc := 10) hX dX3_applicants_10 rfl rfl ?_
    first | refine j_aload_n (pc := 11) hX dX3_applicants_11 rfl rfl ?_ | refine j_aload_nq (pc := 11) hX dX3_applicants_11 rfl rfl ?_
    refine j_iload_n (pc := 12) hX dX3_applicants_12 rfl rfl ?_
    refine j_rune (pc := 13) (jr_V (pc := 13) hX kv_X3_62 (by first | assumption | exact jow.r (by assumption)) (c_X3_isUsed _ _ _ hT (fun j hj => bsL hb hj) i hi) (by decide) dX3_applicants_13 rfl rfl (Nat.le_of_ble_eq_true rfl)) ?_ jno_x
    refine j_if_eq (pc := 16) (tgt := 23) hX dX3_applicants_16 (by decide) (fun c_16 => ?_) (fun c_16 => ?_)
    · rw [jb_z] at c_16
      refine j_iconst (pc := 23) (v := 0) hX dX3_applicants_23 (by decide) ?_
      refine j_iadd (pc := 24) hX dX3_applicants_24 ?_
      refine j_istore_n (pc := 25) hX dX3_applicants_25 rfl (by decide) rfl ?_
      refine j_iincc (pc := 26) (m := 1) hX dX3_applicants_26 rfl (by decide) (by decide) rfl ?_
      refine j_goto (pc := 29) (tgt := 4) hX dX3_applicants_29 (by decide) ?_
      exact jw_cast (by simp_all [jfold_succ, appsF, usedN, nI_1]) rfl ih
    · rw [jb_n] at c_16
      refine j_iconst (pc := 19) (v := 1) hX dX3_applicants_19 (by decide) ?_
      refine j_goto (pc := 20) (tgt := 24) hX dX3_applicants_20 (by decide) ?_
      refine j_iadd (pc := 24) hX dX3_applicants_24 ?_
      refine j_istore_n (pc := 25) hX dX3_applicants_25 rfl (by decide) rfl ?_
      refine j_iincc (pc := 26) (m := 1) hX dX3_applicants_26 rfl (by decide) (by decide) rfl ?_
      refine j_goto (pc := 29) (tgt := 4) hX dX3_applicants_29 (by decide) ?_
      exact jw_cast (by simp_all [jfold_succ, appsF, usedN, nI_1]) rfl ih
theorem c_X3_points (l : Launch) (G : JG) (H : Heap) {g : Nat → Nat} {ar : Nat → Nat → Nat} {cm fs : Nat → Int32} (hT : jtw G H g ar cm fs) (hB : Bs (ar 0)) (k : Nat) (hk : k < 10) : JMet l yX3_points (ws_ yX3_points cX3_points 2 (some .int)) 2 0 G H [.ref (g 100), .int (nI k)] (jpe H (zI (ptsN (ar 0) k))) (jno) := by
  refine JMet.of [(0, .inr (some (g 100))), (1, .inl (.int (nI k)))] (by decide) (Nat.le_of_ble_eq_true rfl) rfl (fun X hl hX hQ hEx hr hnm hH => ?_)
  subst hl
  obtain ⟨h0, ho, hs, hbf, hsv, hpa, hou, hip, hcm⟩ := id hT
  have hi2 : vp_in (2 : Int32) 93 := vp_in_nI (n := 2) (by omega) (by decide)
  obtain ⟨h2, hb, hf, hg⟩ := id hB
  first | refine j_aload_n (pc := 0) hX dX3_points_0 rfl rfl ?_ | refine j_aload_nq (pc := 0) hX dX3_points_0 rfl rfl ?_
  refine j_iload_n (pc := 1) hX dX3_points_1 rfl rfl ?_
  refine j_iconst (pc := 2) (v := 2) hX dX3_points_2 (by decide) ?_
  refine j_rune (pc := 3) (jr_V (pc := 3) hX kv_X3_55 (by first | assumption | exact jow.r (by assumption)) (c_X3_of _ _ _ hT k 2 hk (by omega)) (by decide) dX3_points_3 rfl rfl (Nat.le_of_ble_eq_true rfl)) ?_ jno_x
  first | refine j_aload_n (pc := 6) hX dX3_points_6 rfl rfl ?_ | refine j_aload_nq (pc := 6) hX dX3_points_6 rfl rfl ?_
  refine j_iload_n (pc := 7) hX dX3_points_7 rfl rfl ?_
  refine j_iconst (pc := 8) (v := 3) hX dX3_points_8 (by decide) ?_
  refine j_rune (pc := 9) (jr_V (pc := 9) hX kv_X3_55 (by first | assumption | exact jow.r (by assumption)) (c_X3_of _ _ _ hT k 3 hk (by omega)) (by decide) dX3_points_9 rfl rfl (Nat.le_of_ble_eq_true rfl)) ?_ jno_x
  refine j_isub (pc := 12) hX dX3_points_12 ?_
  refine j_bipush (pc := 13) (v := 10) hX dX3_points_13 (by decide) ?_
  first | refine j_aload_n (pc := 15) hX dX3_points_15 rfl rfl ?_ | refine j_aload_nq (pc := 15) hX dX3_points_15 rfl rfl ?_
  refine j_iload_n (pc := 16) hX dX3_points_16 rfl rfl ?_
  refine j_iconst (pc := 17) (v := 5) hX dX3_points_17 (by decide) ?_
  refine j_rune (pc := 18) (jr_V (pc := 18) hX kv_X3_55 (by first | assumption | exact jow.r (by assumption)) (c_X3_of _ _ _ hT k 5 hk (by omega)) (by decide) dX3_points_18 rfl rfl (Nat.le_of_ble_eq_true rfl)) ?_ jno_x
  refine j_rune (pc := 21) (jr_S (pc := 21) hX ks_X3_70 (c_X3_bits _ _ _ _ (bsL hb (by omega))) (by decide) dX3_points_21 rfl rfl (Nat.le_of_ble_eq_true rfl)) ?_ jno_x
  refine j_imul (pc := 24) hX dX3_points_24 ?_
  refine j_iadd (pc := 25) hX dX3_points_25 ?_
  exact j_iret hX hQ hr dX3_points_26 ⟨_, rfl, rfl, by rw [nI_zw]; rfl⟩
theorem c_X3_isBetter (l : Launch) (G : JG) (H : Heap) {g : Nat → Nat} {ar : Nat → Nat → Nat} {cm fs : Nat → Int32} (hT : jtw G H g ar cm fs) (hB : Bs (ar 0)) (a b : Nat) (ha : a < 10) (hb' : b < 10) : JMet l yX3_isBetter (ws_ yX3_isBetter cX3_isBetter 4 (some .boolean)) 3 0 G H [.ref (g 100), .int (nI a), .int (nI b)] (jpe H (jb (betN (ar 0) a b))) (jno) := by
  refine JMet.of [(0, .inr (some (g 100))), (1, .inl (.int (nI a))), (2, .inl (.int (nI b)))] (by decide) (Nat.le_of_ble_eq_true rfl) rfl (fun X hl hX hQ hEx hr hnm hH => ?_)
  subst hl
  obtain ⟨h0, ho, hs, hbf, hsv, hpa, hou, hip, hcm⟩ := id hT
  have hi2 : vp_in (2 : Int32) 93 := vp_in_nI (n := 2) (by omega) (by decide)
  obtain ⟨h2, hb, hf, hg⟩ := id hB
  have p1 := ptsN_b hb ha
  have p2 := ptsN_b hb hb'
  have i1 := hb (3 + 6 * a) (by omega)
  have i2 := hb (3 + 6 * b) (by omega)
  first | refine j_aload_n (pc := 0) hX dX3_isBetter_0 rfl rfl ?_ | refine j_aload_nq (pc := 0) hX dX3_isBetter_0 rfl rfl ?_
  refine j_iload_n (pc := 1) hX dX3_isBetter_1 rfl rfl ?_
  refine j_rune (pc := 2) (jr_V (pc := 2) hX kv_X3_73 (by first | assumption | exact jow.r (by assumption)) (c_X3_points _ _ _ hT hB a ha) (by decide) dX3_isBetter_2 rfl rfl (Nat.le_of_ble_eq_true rfl)) ?_ jno_x
  first | refine j_aload_n (pc := 5) hX dX3_isBetter_5 rfl rfl ?_ | refine j_aload_nq (pc := 5) hX dX3_isBetter_5 rfl rfl ?_
  refine j_iload_n (pc := 6) hX dX3_isBetter_6 rfl rfl ?_
  refine j_rune (pc := 7) (jr_V (pc := 7) hX kv_X3_73 (by first | assumption | exact jow.r (by assumption)) (c_X3_points _ _ _ hT hB b hb') (by decide) dX3_isBetter_7 rfl rfl (Nat.le_of_ble_eq_true rfl)) ?_ jno_x
  refine j_isub (pc := 10) hX dX3_isBetter_10 ?_
  rw [zI_sub]
  refine j_istore_n (pc := 11) hX dX3_isBetter_11 rfl (by decide) rfl ?_
  refine j_iload_n (pc := 12) hX dX3_isBetter_12 rfl rfl ?_
  refine j_if_gt (pc := 13) (tgt := 33) hX dX3_isBetter_13 (by decide) (fun c_13 => ?_) (fun c_13 => ?_)
  · rw [zI_0, zI_lt (by omega) (by omega)] at c_13
    refine j_iconst (pc := 33) (v := 1) hX dX3_isBetter_33 (by decide) ?_
    refine j_goto (pc := 34) (tgt := 38) hX dX3_isBetter_34 (by decide) ?_
    exact j_zret hX hQ hr (by first | rfl | exact jb_nar _ | exact nI_narC _ | assumption) dX3_isBetter_38 ⟨_, rfl, rfl, by unfold betN; simp only [aId, aSh, aWh, aRn, aCo, aGv, pSh, pLo, pHi, pWg, pFl, Nat.add_zero]; (first | refine jb_one ?_ | refine jb_zero ?_) <;> simp only [Bool.or_eq_true, Bool.and_eq_true, decide_eq_true_eq, Bool.or_eq_false_iff, Bool.and_eq_false_iff, decide_eq_false_iff_not, Bool.not_eq_true, Bool.not_eq_false] <;> omega⟩
  · rw [zI_0, zI_lt (by omega) (by omega)] at c_13
    refine j_iload_n (pc := 16) hX dX3_isBetter_16 rfl rfl ?_
    refine j_if_ne (pc := 17) (tgt := 37) hX dX3_isBetter_17 (by decide) (fun c_17 => ?_) (fun c_17 => ?_)
    · rw [zI_0, zI_inj (by omega) (by omega)] at c_17
      refine j_iconst (pc := 37) (v := 0) hX dX3_isBetter_37 (by decide) ?_
      exact j_zret hX hQ hr (by first | rfl | exact jb_nar _ | exact nI_narC _ | assumption) dX3_isBetter_38 ⟨_, rfl, rfl, by unfold betN; simp only [aId, aSh, aWh, aRn, aCo, aGv, pSh, pLo, pHi, pWg, pFl, Nat.add_zero]; (first | refine jb_one ?_ | refine jb_zero ?_) <;> simp only [Bool.or_eq_true, Bool.and_eq_true, decide_eq_true_eq, Bool.or_eq_false_iff, Bool.and_eq_false_iff, decide_eq_false_iff_not, Bool.not_eq_true, Bool.not_eq_false] <;> omega⟩
    · rw [zI_0, zI_inj (by omega) (by omega)] at c_17
      first | refine j_aload_n (pc := 20) hX dX3_isBetter_20 rfl rfl ?_ | refine j_aload_nq (pc := 20) hX dX3_isBetter_20 rfl rfl ?_
      refine j_iload_n (pc := 21) hX dX3_isBetter_21 rfl rfl ?_
      refine j_rune (pc := 22) (jr_V (pc := 22) hX kv_X3_76 (by first | assumption | exact jow.r (by assumption)) (c_X3_idOf _ _ _ hT a ha) (by decide) dX3_isBetter_22 rfl rfl (Nat.le_of_ble_eq_true rfl)) ?_ jno_x
      first | refine j_aload_n (pc := 25) hX dX3_isBetter_25 rfl rfl ?_ | refine j_aload_nq (pc := 25) hX dX3_isBetter_25 rfl rfl ?_
      refine j_iload_n (pc := 26) hX dX3_isBetter_26 rfl rfl ?_
      refine j_rune (pc := 27) (jr_V (pc := 27) hX kv_X3_76 (by first | assumption | exact jow.r (by assumption)) (c_X3_idOf _ _ _ hT b hb') (by decide) dX3_isBetter_27 rfl rfl (Nat.le_of_ble_eq_true rfl)) ?_ jno_x
      refine j_icmp_ge (pc := 30) (tgt := 37) hX dX3_isBetter_30 (by decide) (fun c_30 => ?_) (fun c_30 => ?_)
      · simp only [aId, aSh, aWh, aRn, aCo, aGv, pSh, pLo, pHi, pWg, pFl, Nat.add_zero] at c_30
        rw [nI_zI, nI_zI, show (1 : Int32) = zI 1 from rfl, zI_sub, zI_sub, zI_le (by omega) (by omega)] at c_30
        refine j_iconst (pc := 37) (v := 0) hX dX3_isBetter_37 (by decide) ?_
        exact j_zret hX hQ hr (by first | rfl | exact jb_nar _ | exact nI_narC _ | assumption) dX3_isBetter_38 ⟨_, rfl, rfl, by unfold betN; simp only [aId, aSh, aWh, aRn, aCo, aGv, pSh, pLo, pHi, pWg, pFl, Nat.add_zero]; (first | refine jb_one ?_ | refine jb_zero ?_) <;> simp only [Bool.or_eq_true, Bool.and_eq_true, decide_eq_true_eq, Bool.or_eq_false_iff, Bool.and_eq_false_iff, decide_eq_false_iff_not, Bool.not_eq_true, Bool.not_eq_false] <;> omega⟩
      · simp only [aId, aSh, aWh, aRn, aCo, aGv, pSh, pLo, pHi, pWg, pFl, Nat.add_zero] at c_30
        rw [nI_zI, nI_zI, show (1 : Int32) = zI 1 from rfl, zI_sub, zI_sub, zI_le (by omega) (by omega)] at c_30
        refine j_iconst (pc := 33) (v := 1) hX dX3_isBetter_33 (by decide) ?_
        refine j_goto (pc := 34) (tgt := 38) hX dX3_isBetter_34 (by decide) ?_
        exact j_zret hX hQ hr (by first | rfl | exact jb_nar _ | exact nI_narC _ | assumption) dX3_isBetter_38 ⟨_, rfl, rfl, by unfold betN; simp only [aId, aSh, aWh, aRn, aCo, aGv, pSh, pLo, pHi, pWg, pFl, Nat.add_zero]; (first | refine jb_one ?_ | refine jb_zero ?_) <;> simp only [Bool.or_eq_true, Bool.and_eq_true, decide_eq_true_eq, Bool.or_eq_false_iff, Bool.and_eq_false_iff, decide_eq_false_iff_not, Bool.not_eq_true, Bool.not_eq_false] <;> omega⟩
theorem c_X3_isPreferred (l : Launch) (G : JG) (H : Heap) {g : Nat → Nat} {ar : Nat → Nat → Nat} {cm fs : Nat → Int32} (hT : jtw G H g ar cm fs) (hB : Bs (ar 0)) (a b : Nat) (ha : a < 6) (hb' : b < 6) : JMet l yX3_isPreferred (ws_ yX3_isPreferred cX3_isPreferred 4 (some .boolean)) 2 0 G H [.ref (g 100), .int (nI a), .int (nI b)] (jpe H (jb (preN (ar 0) a b))) (jno) := by
  refine JMet.of [(0, .inr (some (g 100))), (1, .inl (.int (nI a))), (2, .inl (.int (nI b)))] (by decide) (Nat.le_of_ble_eq_true rfl) rfl (fun X hl hX hQ hEx hr hnm hH => ?_)
  subst hl
  obtain ⟨h0, ho, hs, hbf, hsv, hpa, hou, hip, hcm⟩ := id hT
  have hi2 : vp_in (2 : Int32) 93 := vp_in_nI (n := 2) (by omega) (by decide)
  obtain ⟨h2, hb, hf, hg⟩ := id hB
  have i1 := hb (63 + 5 * a + 3) (by omega)
  have i2 := hb (63 + 5 * b + 3) (by omega)
  first | refine j_aload_n (pc := 0) hX dX3_isPreferred_0 rfl rfl ?_ | refine j_aload_nq (pc := 0) hX dX3_isPreferred_0 rfl rfl ?_
  refine j_iload_n (pc := 1) hX dX3_isPreferred_1 rfl rfl ?_
  refine j_iconst (pc := 2) (v := 3) hX dX3_isPreferred_2 (by decide) ?_
  refine j_rune (pc := 3) (jr_V (pc := 3) hX kv_X3_59 (by first | assumption | exact jow.r (by assumption)) (c_X3_ofPost _ _ _ hT a 3 ha (by omega)) (by decide) dX3_isPreferred_3 rfl rfl (Nat.le_of_ble_eq_true rfl)) ?_ jno_x
  first | refine j_aload_n (pc := 6) hX dX3_isPreferred_6 rfl rfl ?_ | refine j_aload_nq (pc := 6) hX dX3_isPreferred_6 rfl rfl ?_
  refine j_iload_n (pc := 7) hX dX3_isPreferred_7 rfl rfl ?_
  refine j_iconst (pc := 8) (v := 3) hX dX3_isPreferred_8 (by decide) ?_
  refine j_rune (pc := 9) (jr_V (pc := 9) hX kv_X3_59 (by first | assumption | exact jow.r (by assumption)) (c_X3_ofPost _ _ _ hT b 3 hb' (by omega)) (by decide) dX3_isPreferred_9 rfl rfl (Nat.le_of_ble_eq_true rfl)) ?_ jno_x
  refine j_isub (pc := 12) hX dX3_isPreferred_12 ?_
  rw [nI_zI (ar 0 (63 + 5 * a + 3)), nI_zI (ar 0 (63 + 5 * b + 3)), zI_sub]
  refine j_istore_n (pc := 13) hX dX3_isPreferred_13 rfl (by decide) rfl ?_
  refine j_iload_n (pc := 14) hX dX3_isPreferred_14 rfl rfl ?_
  refine j_if_gt (pc := 15) (tgt := 27) hX dX3_isPreferred_15 (by decide) (fun c_15 => ?_) (fun c_15 => ?_)
  · rw [zI_0, zI_lt (by omega) (by omega)] at c_15
    refine j_iconst (pc := 27) (v := 1) hX dX3_isPreferred_27 (by decide) ?_
    refine j_goto (pc := 28) (tgt := 32) hX dX3_isPreferred_28 (by decide) ?_
    exact j_zret hX hQ hr (by first | rfl | exact jb_nar _ | exact nI_narC _ | assumption) dX3_isPreferred_32 ⟨_, rfl, rfl, by unfold preN; simp only [aId, aSh, aWh, aRn, aCo, aGv, pSh, pLo, pHi, pWg, pFl, Nat.add_zero]; (first | refine jb_one ?_ | refine jb_zero ?_) <;> simp only [Bool.or_eq_true, Bool.and_eq_true, decide_eq_true_eq, Bool.or_eq_false_iff, Bool.and_eq_false_iff, decide_eq_false_iff_not, Bool.not_eq_true, Bool.not_eq_false] <;> omega⟩
  · rw [zI_0, zI_lt (by omega) (by omega)] at c_15
    refine j_iload_n (pc := 18) hX dX3_isPreferred_18 rfl rfl ?_
    refine j_if_ne (pc := 19) (tgt := 31) hX dX3_isPreferred_19 (by decide) (fun c_19 => ?_) (fun c_19 => ?_)
    · rw [zI_0, zI_inj (by omega) (by omega)] at c_19
      refine j_iconst (pc := 31) (v := 0) hX dX3_isPreferred_31 (by decide) ?_
      exact j_zret hX hQ hr (by first | rfl | exact jb_nar _ | exact nI_narC _ | assumption) dX3_isPreferred_32 ⟨_, rfl, rfl, by unfold preN; simp only [aId, aSh, aWh, aRn, aCo, aGv, pSh, pLo, pHi, pWg, pFl, Nat.add_zero]; (first | refine jb_one ?_ | refine jb_zero ?_) <;> simp only [Bool.or_eq_true, Bool.and_eq_true, decide_eq_true_eq, Bool.or_eq_false_iff, Bool.and_eq_false_iff, decide_eq_false_iff_not, Bool.not_eq_true, Bool.not_eq_false] <;> omega⟩
    · rw [zI_0, zI_inj (by omega) (by omega)] at c_19
      refine j_iload_n (pc := 22) hX dX3_isPreferred_22 rfl rfl ?_
      refine j_iload_n (pc := 23) hX dX3_isPreferred_23 rfl rfl ?_
      refine j_icmp_ge (pc := 24) (tgt := 31) hX dX3_isPreferred_24 (by decide) (fun c_24 => ?_) (fun c_24 => ?_)
      · rw [nI_leI (by omega) (by omega)] at c_24
        refine j_iconst (pc := 31) (v := 0) hX dX3_isPreferred_31 (by decide) ?_
        exact j_zret hX hQ hr (by first | rfl | exact jb_nar _ | exact nI_narC _ | assumption) dX3_isPreferred_32 ⟨_, rfl, rfl, by unfold preN; simp only [aId, aSh, aWh, aRn, aCo, aGv, pSh, pLo, pHi, pWg, pFl, Nat.add_zero]; (first | refine jb_one ?_ | refine jb_zero ?_) <;> simp only [Bool.or_eq_true, Bool.and_eq_true, decide_eq_true_eq, Bool.or_eq_false_iff, Bool.and_eq_false_iff, decide_eq_false_iff_not, Bool.not_eq_true, Bool.not_eq_false] <;> omega⟩
      · rw [nI_leI (by omega) (by omega)] at c_24
        refine j_iconst (pc := 27) (v := 1) hX dX3_isPreferred_27 (by decide) ?_
        refine j_goto (pc := 28) (tgt := 32) hX dX3_isPreferred_28 (by decide) ?_
        exact j_zret hX hQ hr (by first | rfl | exact jb_nar _ | exact nI_narC _ | assumption) dX3_isPreferred_32 ⟨_, rfl, rfl, by unfold preN; simp only [aId, aSh, aWh, aRn, aCo, aGv, pSh, pLo, pHi, pWg, pFl, Nat.add_zero]; (first | refine jb_one ?_ | refine jb_zero ?_) <;> simp only [Bool.or_eq_true, Bool.and_eq_true, decide_eq_true_eq, Bool.or_eq_false_iff, Bool.and_eq_false_iff, decide_eq_false_iff_not, Bool.not_eq_true, Bool.not_eq_false] <;> omega⟩
theorem c_X3_fits (l : Launch) (G : JG) (H : Heap) {g : Nat → Nat} {ar : Nat → Nat → Nat} {cm fs : Nat → Int32} (hT : jtw G H g ar cm fs) (hB : Bs (ar 0)) (k p : Nat) (hk : k < 10) (hp : p < 6) : JMet l yX3_fits (ws_ yX3_fits cX3_fits 4 (some .boolean)) 2 0 G H [.ref (g 100), .int (nI k), .int (nI p)] (jpe H (jb (fitN (ar 0) k p))) (jno) := by
  refine JMet.of [(0, .inr (some (g 100))), (1, .inl (.int (nI k))), (2, .inl (.int (nI p)))] (by decide) (Nat.le_of_ble_eq_true rfl) rfl (fun X hl hX hQ hEx hr hnm hH => ?_)
  subst hl
  obtain ⟨h0, ho, hs, hbf, hsv, hpa, hou, hip, hcm⟩ := id hT
  have hi2 : vp_in (2 : Int32) 93 := vp_in_nI (n := 2) (by omega) (by decide)
  obtain ⟨h2, hb, hf, hg⟩ := id hB
  have i1 := hb (63 + 5 * p) (by omega)
  have i2 := hb (63 + 5 * p + 1) (by omega)
  have i3 := hb (63 + 5 * p + 2) (by omega)
  have i4 := hb (3 + 6 * k + 1) (by omega)
  have i5 := hb (3 + 6 * k + 2) (by omega)
  have i6 := hb (3 + 6 * k + 3) (by omega)
  first | refine j_aload_n (pc := 0) hX dX3_fits_0 rfl rfl ?_ | refine j_aload_nq (pc := 0) hX dX3_fits_0 rfl rfl ?_
  refine j_iload_n (pc := 1) hX dX3_fits_1 rfl rfl ?_
  refine j_iconst (pc := 2) (v := 0) hX dX3_fits_2 (by decide) ?_
  refine j_rune (pc := 3) (jr_V (pc := 3) hX kv_X3_59 (by first | assumption | exact jow.r (by assumption)) (c_X3_ofPost _ _ _ hT p 0 hp (by omega)) (by decide) dX3_fits_3 rfl rfl (Nat.le_of_ble_eq_true rfl)) ?_ jno_x
  refine j_istore_n (pc := 6) hX dX3_fits_6 rfl (by decide) rfl ?_
  refine j_iload_n (pc := 7) hX dX3_fits_7 rfl rfl ?_
  refine j_bipush (pc := 8) (v := 42) hX dX3_fits_8 (by decide) ?_
  refine j_icmp_eq (pc := 10) (tgt := 23) hX dX3_fits_10 (by decide) (fun c_10 => ?_) (fun c_10 => ?_)
  · rw [Nat.add_zero, show (42 : Int32) = nI 42 from rfl, nI_eq (by omega) (by omega)] at c_10
    first | refine j_aload_n (pc := 23) hX dX3_fits_23 rfl rfl ?_ | refine j_aload_nq (pc := 23) hX dX3_fits_23 rfl rfl ?_
    refine j_iload_n (pc := 24) hX dX3_fits_24 rfl rfl ?_
    refine j_iconst (pc := 25) (v := 2) hX dX3_fits_25 (by decide) ?_
    refine j_rune (pc := 26) (jr_V (pc := 26) hX kv_X3_55 (by first | assumption | exact jow.r (by assumption)) (c_X3_of _ _ _ hT k 2 hk (by omega)) (by decide) dX3_fits_26 rfl rfl (Nat.le_of_ble_eq_true rfl)) ?_ jno_x
    first | refine j_aload_n (pc := 29) hX dX3_fits_29 rfl rfl ?_ | refine j_aload_nq (pc := 29) hX dX3_fits_29 rfl rfl ?_
    refine j_iload_n (pc := 30) hX dX3_fits_30 rfl rfl ?_
    refine j_iconst (pc := 31) (v := 1) hX dX3_fits_31 (by decide) ?_
    refine j_rune (pc := 32) (jr_V (pc := 32) hX kv_X3_59 (by first | assumption | exact jow.r (by assumption)) (c_X3_ofPost _ _ _ hT p 1 hp (by omega)) (by decide) dX3_fits_32 rfl rfl (Nat.le_of_ble_eq_true rfl)) ?_ jno_x
    refine j_icmp_lt (pc := 35) (tgt := 57) hX dX3_fits_35 (by decide) (fun c_35 => ?_) (fun c_35 => ?_)
    · rw [nI_ltI (by omega) (by omega)] at c_35
      refine j_iconst (pc := 57) (v := 0) hX dX3_fits_57 (by decide) ?_
      exact j_zret hX hQ hr (by first | rfl | exact jb_nar _ | exact nI_narC _ | assumption) dX3_fits_58 ⟨_, rfl, rfl, by unfold fitN; simp only [aId, aSh, aWh, aRn, aCo, aGv, pSh, pLo, pHi, pWg, pFl, Nat.add_zero]; (first | refine jb_one ?_ | refine jb_zero ?_) <;> simp only [Bool.or_eq_true, Bool.and_eq_true, decide_eq_true_eq, Bool.or_eq_false_iff, Bool.and_eq_false_iff, decide_eq_false_iff_not, Bool.not_eq_true, Bool.not_eq_false] <;> omega⟩
    · rw [nI_ltI (by omega) (by omega)] at c_35
      first | refine j_aload_n (pc := 38) hX dX3_fits_38 rfl rfl ?_ | refine j_aload_nq (pc := 38) hX dX3_fits_38 rfl rfl ?_
      refine j_iload_n (pc := 39) hX dX3_fits_39 rfl rfl ?_
      refine j_iconst (pc := 40) (v := 3) hX dX3_fits_40 (by decide) ?_
      refine j_rune (pc := 41) (jr_V (pc := 41) hX kv_X3_55 (by first | assumption | exact jow.r (by assumption)) (c_X3_of _ _ _ hT k 3 hk (by omega)) (by decide) dX3_fits_41 rfl rfl (Nat.le_of_ble_eq_true rfl)) ?_ jno_x
      first | refine j_aload_n (pc := 44) hX dX3_fits_44 rfl rfl ?_ | refine j_aload_nq (pc := 44) hX dX3_fits_44 rfl rfl ?_
      refine j_iload_n (pc := 45) hX dX3_fits_45 rfl rfl ?_
      refine j_iconst (pc := 46) (v := 2) hX dX3_fits_46 (by decide) ?_
      refine j_rune (pc := 47) (jr_V (pc := 47) hX kv_X3_59 (by first | assumption | exact jow.r (by assumption)) (c_X3_ofPost _ _ _ hT p 2 hp (by omega)) (by decide) dX3_fits_47 rfl rfl (Nat.le_of_ble_eq_true rfl)) ?_ jno_x
      refine j_icmp_gt (pc := 50) (tgt := 57) hX dX3_fits_50 (by decide) (fun c_50 => ?_) (fun c_50 => ?_)
      · rw [nI_ltI (by omega) (by omega)] at c_50
        refine j_iconst (pc := 57) (v := 0) hX dX3_fits_57 (by decide) ?_
        exact j_zret hX hQ hr (by first | rfl | exact jb_nar _ | exact nI_narC _ | assumption) dX3_fits_58 ⟨_, rfl, rfl, by unfold fitN; simp only [aId, aSh, aWh, aRn, aCo, aGv, pSh, pLo, pHi, pWg, pFl, Nat.add_zero]; (first | refine jb_one ?_ | refine jb_zero ?_) <;> simp only [Bool.or_eq_true, Bool.and_eq_true, decide_eq_true_eq, Bool.or_eq_false_iff, Bool.and_eq_false_iff, decide_eq_false_iff_not, Bool.not_eq_true, Bool.not_eq_false] <;> omega⟩
      · rw [nI_ltI (by omega) (by omega)] at c_50
        refine j_iconst (pc := 53) (v := 1) hX dX3_fits_53 (by decide) ?_
        refine j_goto (pc := 54) (tgt := 58) hX dX3_fits_54 (by decide) ?_
        exact j_zret hX hQ hr (by first | rfl | exact jb_nar _ | exact nI_narC _ | assumption) dX3_fits_58 ⟨_, rfl, rfl, by unfold fitN; simp only [aId, aSh, aWh, aRn, aCo, aGv, pSh, pLo, pHi, pWg, pFl, Nat.add_zero]; (first | refine jb_one ?_ | refine jb_zero ?_) <;> simp only [Bool.or_eq_true, Bool.and_eq_true, decide_eq_true_eq, Bool.or_eq_false_iff, Bool.and_eq_false_iff, decide_eq_false_iff_not, Bool.not_eq_true, Bool.not_eq_false] <;> omega⟩
  · rw [Nat.add_zero, show (42 : Int32) = nI 42 from rfl, nI_eq (by omega) (by omega)] at c_10
    refine j_iload_n (pc := 13) hX dX3_fits_13 rfl rfl ?_
    first | refine j_aload_n (pc := 14) hX dX3_fits_14 rfl rfl ?_ | refine j_aload_nq (pc := 14) hX dX3_fits_14 rfl rfl ?_
    refine j_iload_n (pc := 15) hX dX3_fits_15 rfl rfl ?_
    refine j_iconst (pc := 16) (v := 1) hX dX3_fits_16 (by decide) ?_
    refine j_rune (pc := 17) (jr_V (pc := 17) hX kv_X3_55 (by first | assumption | exact jow.r (by assumption)) (c_X3_of _ _ _ hT k 1 hk (by omega)) (by decide) dX3_fits_17 rfl rfl (Nat.le_of_ble_eq_true rfl)) ?_ jno_x
    refine j_icmp_ne (pc := 20) (tgt := 57) hX dX3_fits_20 (by decide) (fun c_20 => ?_) (fun c_20 => ?_)
    · rw [Nat.add_zero, nI_eq (by omega) (by omega)] at c_20
      refine j_iconst (pc := 57) (v := 0) hX dX3_fits_57 (by decide) ?_
      exact j_zret hX hQ hr (by first | rfl | exact jb_nar _ | exact nI_narC _ | assumption) dX3_fits_58 ⟨_, rfl, rfl, by unfold fitN; simp only [aId, aSh, aWh, aRn, aCo, aGv, pSh, pLo, pHi, pWg, pFl, Nat.add_zero]; (first | refine jb_one ?_ | refine jb_zero ?_) <;> simp only [Bool.or_eq_true, Bool.and_eq_true, decide_eq_true_eq, Bool.or_eq_false_iff, Bool.and_eq_false_iff, decide_eq_false_iff_not, Bool.not_eq_true, Bool.not_eq_false] <;> omega⟩
    · rw [Nat.add_zero, nI_eq (by omega) (by omega)] at c_20
      first | refine j_aload_n (pc := 23) hX dX3_fits_23 rfl rfl ?_ | refine j_aload_nq (pc := 23) hX dX3_fits_23 rfl rfl ?_
      refine j_iload_n (pc := 24) hX dX3_fits_24 rfl rfl ?_
      refine j_iconst (pc := 25) (v := 2) hX dX3_fits_25 (by decide) ?_
      refine j_rune (pc := 26) (jr_V (pc := 26) hX kv_X3_55 (by first | assumption | exact jow.r (by assumption)) (c_X3_of _ _ _ hT k 2 hk (by omega)) (by decide) dX3_fits_26 rfl rfl (Nat.le_of_ble_eq_true rfl)) ?_ jno_x
      first | refine j_aload_n (pc := 29) hX dX3_fits_29 rfl rfl ?_ | refine j_aload_nq (pc := 29) hX dX3_fits_29 rfl rfl ?_
      refine j_iload_n (pc := 30) hX dX3_fits_30 rfl rfl ?_
      refine j_iconst (pc := 31) (v := 1) hX dX3_fits_31 (by decide) ?_
      refine j_rune (pc := 32) (jr_V (pc := 32) hX kv_X3_59 (by first | assumption | exact jow.r (by assumption)) (c_X3_ofPost _ _ _ hT p 1 hp (by omega)) (by decide) dX3_fits_32 rfl rfl (Nat.le_of_ble_eq_true rfl)) ?_ jno_x
      refine j_icmp_lt (pc := 35) (tgt := 57) hX dX3_fits_35 (by decide) (fun c_35 => ?_) (fun c_35 => ?_)
      · rw [nI_ltI (by omega) (by omega)] at c_35
        refine j_iconst (pc := 57) (v := 0) hX dX3_fits_57 (by decide) ?_
        exact j_zret hX hQ hr (by first | rfl | exact jb_nar _ | exact nI_narC _ | assumption) dX3_fits_58 ⟨_, rfl, rfl, by unfold fitN; simp only [aId, aSh, aWh, aRn, aCo, aGv, pSh, pLo, pHi, pWg, pFl, Nat.add_zero]; (first | refine jb_one ?_ | refine jb_zero ?_) <;> simp only [Bool.or_eq_true, Bool.and_eq_true, decide_eq_true_eq, Bool.or_eq_false_iff, Bool.and_eq_false_iff, decide_eq_false_iff_not, Bool.not_eq_true, Bool.not_eq_false] <;> omega⟩
      · rw [nI_ltI (by omega) (by omega)] at c_35
        first | refine j_aload_n (pc := 38) hX dX3_fits_38 rfl rfl ?_ | refine j_aload_nq (pc := 38) hX dX3_fits_38 rfl rfl ?_
        refine j_iload_n (pc := 39) hX dX3_fits_39 rfl rfl ?_
        refine j_iconst (pc := 40) (v := 3) hX dX3_fits_40 (by decide) ?_
        refine j_rune (pc := 41) (jr_V (pc := 41) hX kv_X3_55 (by first | assumption | exact jow.r (by assumption)) (c_X3_of _ _ _ hT k 3 hk (by omega)) (by decide) dX3_fits_41 rfl rfl (Nat.le_of_ble_eq_true rfl)) ?_ jno_x
        first | refine j_aload_n (pc := 44) hX dX3_fits_44 rfl rfl ?_ | refine j_aload_nq (pc := 44) hX dX3_fits_44 rfl rfl ?_
        refine j_iload_n (pc := 45) hX dX3_fits_45 rfl rfl ?_
        refine j_iconst (pc := 46) (v := 2) hX dX3_fits_46 (by decide) ?_
        refine j_rune (pc := 47) (jr_V (pc := 47) hX kv_X3_59 (by first | assumption | exact jow.r (by assumption)) (c_X3_ofPost _ _ _ hT p 2 hp (by omega)) (by decide) dX3_fits_47 rfl rfl (Nat.le_of_ble_eq_true rfl)) ?_ jno_x
        refine j_icmp_gt (pc := 50) (tgt := 57) hX dX3_fits_50 (by decide) (fun c_50 => ?_) (fun c_50 => ?_)
        · rw [nI_ltI (by omega) (by omega)] at c_50
          refine j_iconst (pc := 57) (v := 0) hX dX3_fits_57 (by decide) ?_
          exact j_zret hX hQ hr (by first | rfl | exact jb_nar _ | exact nI_narC _ | assumption) dX3_fits_58 ⟨_, rfl, rfl, by unfold fitN; simp only [aId, aSh, aWh, aRn, aCo, aGv, pSh, pLo, pHi, pWg, pFl, Nat.add_zero]; (first | refine jb_one ?_ | refine jb_zero ?_) <;> simp only [Bool.or_eq_true, Bool.and_eq_true, decide_eq_true_eq, Bool.or_eq_false_iff, Bool.and_eq_false_iff, decide_eq_false_iff_not, Bool.not_eq_true, Bool.not_eq_false] <;> omega⟩
        · rw [nI_ltI (by omega) (by omega)] at c_50
          refine j_iconst (pc := 53) (v := 1) hX dX3_fits_53 (by decide) ?_
          refine j_goto (pc := 54) (tgt := 58) hX dX3_fits_54 (by decide) ?_
          exact j_zret hX hQ hr (by first | rfl | exact jb_nar _ | exact nI_narC _ | assumption) dX3_fits_58 ⟨_, rfl, rfl, by unfold fitN; simp only [aId, aSh, aWh, aRn, aCo, aGv, pSh, pLo, pHi, pWg, pFl, Nat.add_zero]; (first | refine jb_one ?_ | refine jb_zero ?_) <;> simp only [Bool.or_eq_true, Bool.and_eq_true, decide_eq_true_eq, Bool.or_eq_false_iff, Bool.and_eq_false_iff, decide_eq_false_iff_not, Bool.not_eq_true, Bool.not_eq_false] <;> omega⟩
theorem c_X3_vacancies (l : Launch) (G : JG) (H : Heap) {g : Nat → Nat} {ar : Nat → Nat → Nat} {cm fs : Nat → Int32} (hT : jtw G H g ar cm fs) (hB : Bs (ar 0)) : JMet l yX3_vacancies (ws_ yX3_vacancies cX3_vacancies 3 (some .int)) 2 0 G H [.ref (g 100)] (jpe H (nI (vacN (ar 0)))) (jno) := by
  refine JMet.of [(0, .inr (some (g 100)))] (by decide) (Nat.le_of_ble_eq_true rfl) rfl (fun X hl hX hQ hEx hr hnm hH => ?_)
  subst hl
  obtain ⟨h0, ho, hs, hbf, hsv, hpa, hou, hip, hcm⟩ := id hT
  have hi2 : vp_in (2 : Int32) 93 := vp_in_nI (n := 2) (by omega) (by decide)
  obtain ⟨h2, hb, hf, hg⟩ := id hB
  refine j_iconst (pc := 0) (v := 0) hX dX3_vacancies_0 (by decide) ?_
  refine j_istore_n (pc := 1) hX dX3_vacancies_1 rfl (by decide) rfl ?_
  refine j_iconst (pc := 2) (v := 0) hX dX3_vacancies_2 (by decide) ?_
  refine j_istore_n (pc := 3) hX dX3_vacancies_3 rfl (by decide) rfl ?_
  refine jloop (P := fun i => JW X G H 0 4 [(0, .inr (some (g 100))), (1, .inl (.int (nI (jfold (vacF (ar 0)) i 0)))), (2, .inl (.int (nI i)))] []) (ar 0 2) ?_ (fun i hi ih => ?_) 0 (by omega)
  · refine j_iload_n (pc := 4) hX dX3_vacancies_4 rfl rfl ?_
    first | refine j_aload_n (pc := 5) hX dX3_vacancies_5 rfl rfl ?_ | refine j_aload_nq (pc := 5) hX dX3_vacancies_5 rfl rfl ?_
    refine j_get (pc := 6) hX kg_X3_9 dX3_vacancies_6 (by first | assumption | exact jow.r (by assumption)) (by rfl) ?_
    refine j_iconst (pc := 9) (v := 2) hX dX3_vacancies_9 (by decide) ?_
    refine j_iald (pc := 10) hX dX3_vacancies_10 (by first | assumption | exact jaw.r hX (by decide) (by assumption)) (by assumption) ?_
    refine j_icmp_ge (pc := 11) (tgt := 37) hX dX3_vacancies_11 (by decide) (fun c_11 => ?_) (fun c_11 => ?_)
    rotate_left
    · exact absurd (jge_no (a := ar 0 2) c_11 (by omega) (by omega)) (by omega)
    refine j_iload_n (pc := 37) hX dX3_vacancies_37 rfl rfl ?_
    exact j_iret hX hQ hr dX3_vacancies_38 ⟨_, rfl, rfl, by rfl⟩
  · refine j_iload_n (pc := 4) hX dX3_vacancies_4 rfl rfl ?_
    first | refine j_aload_n (pc := 5) hX dX3_vacancies_5 rfl rfl ?_ | refine j_aload_nq (pc := 5) hX dX3_vacancies_5 rfl rfl ?_
    refine j_get (pc := 6) hX kg_X3_9 dX3_vacancies_6 (by first | assumption | exact jow.r (by assumption)) (by rfl) ?_
    refine j_iconst (pc := 9) (v := 2) hX dX3_vacancies_9 (by decide) ?_
    refine j_iald (pc := 10) hX dX3_vacancies_10 (by first | assumption | exact jaw.r hX (by decide) (by assumption)) (by assumption) ?_
    refine j_icmp_ge (pc := 11) (tgt := 37) hX dX3_vacancies_11 (by decide) (fun c_11 => ?_) (fun c_11 => ?_)
    · exact absurd (jge_yes (a := ar 0 2) c_11 (by omega) (by omega)) (by omega)
    refine j_iload_n (pc := 14) hX dX3_vacancies_14 rfl rfl ?_
    first | refine j_aload_n (pc := 15) hX dX3_vacancies_15 rfl rfl ?_ | refine j_aload_nq (pc := 15) hX dX3_vacancies_15 rfl rfl ?_
    refine j_iload_n (pc := 16) hX dX3_vacancies_16 rfl rfl ?_
    refine j_iconst (pc := 17) (v := 4) hX dX3_vacancies_17 (by decide) ?_
    refine j_rune (pc := 18) (jr_V (pc := 18) hX kv_X3_59 (by first | assumption | exact jow.r (by assumption)) (c_X3_ofPost _ _ _ hT i 4 (by omega) (by omega)) (by decide) dX3_vacancies_18 rfl rfl (Nat.le_of_ble_eq_true rfl)) ?_ jno_x
    refine j_if_ne (pc := 21) (tgt := 28) hX dX3_vacancies_21 (by decide) (fun c_21 => ?_) (fun c_21 => ?_)
    · rw [nI_eq0 (bsL hb (by omega))] at c_21
      refine j_iconst (pc := 28) (v := 0) hX dX3_vacancies_28 (by decide) ?_
      refine j_iadd (pc := 29) hX dX3_vacancies_29 ?_
      refine j_istore_n (pc := 30) hX dX3_vacancies_30 rfl (by decide) rfl ?_
      refine j_iincc (pc := 31) (m := 1) hX dX3_vacancies_31 rfl (by decide) (by decide) rfl ?_
      refine j_goto (pc := 34) (tgt := 4) hX dX3_vacancies_34 (by decide) ?_
      exact jw_cast (by simp [jfold_succ, vacF, nI_1, c_21]) rfl ih
    · rw [nI_eq0 (bsL hb (by omega))] at c_21
      refine j_iconst (pc := 24) (v := 1) hX dX3_vacancies_24 (by decide) ?_
      refine j_goto (pc := 25) (tgt := 29) hX dX3_vacancies_25 (by decide) ?_
      refine j_iadd (pc := 29) hX dX3_vacancies_29 ?_
      refine j_istore_n (pc := 30) hX dX3_vacancies_30 rfl (by decide) rfl ?_
      refine j_iincc (pc := 31) (m := 1) hX dX3_vacancies_31 rfl (by decide) (by decide) rfl ?_
      refine j_goto (pc := 34) (tgt := 4) hX dX3_vacancies_34 (by decide) ?_
      exact jw_cast (by simp [jfold_succ, vacF, nI_1, c_21]) rfl ih
