/-! the reference reads its input -/
set_option maxRecDepth 100000
def codes (tx : String) : List Nat := tx.toList.map Char.toNat
theorem jls_const {G : JG} {s : State} {H : Heap} (hK : JK G s H) {tx : String} {h hz : Int32} (hm : (tx, h, hz) ∈ jtexts) (hc : ∀ j, j < (codes tx).length → (codes tx).getD j 0 < 128) (hl : (codes tx).length < 1000) : jls G H (gS G tx) (codes tx) := by
  obtain ⟨h1, h2⟩ := hK.2.2.2.2.1.2.1 _ hm
  have e : tx.length = (codes tx).length := by unfold codes; rw [List.length_map]; exact String.length_toList.symm
  refine ⟨_, _, _, h1.kept (hK.old h1.lt), ?_, hc, hl⟩
  rw [← e]
  refine (h2.kept (hK.old h2.lt)).congr (fun j hj => ?_)
  show Value.int (nI ((codes tx).getD j 0)) = Value.int (jbyte tx j)
  unfold jbyte codes nI
  rw [List.getD_eq_getElem?_getD, List.getElem?_map, List.getD_eq_getElem?_getD]
  rw [e] at hj
  unfold codes at hj
  rw [List.length_map] at hj
  rw [List.getElem?_eq_getElem hj]
  rfl
/-- where the reading is: the place, and whether it went wrong -/
def psF (fs : Nat → Int32) (i : Nat) (w : Bool) : Nat → Int32 := jup (jup fs 11 (nI i)) 12 (jb w)
theorem psF_11 (fs : Nat → Int32) (i j : Nat) (w : Bool) : jup (psF fs i w) 11 (nI j) = psF fs j w := by
  unfold psF; rw [jup_comm (by decide), jup_jup]
theorem psF_12 (fs : Nat → Int32) (i : Nat) (w z : Bool) : jup (psF fs i w) 12 (jb z) = psF fs i z := by
  unfold psF; rw [jup_jup]
theorem psF_12t {G : JG} {H : Heap} {g : Nat → Nat} {ar : Nat → Nat → Nat} {cm fs : Nat → Int32} {i : Nat} {w : Bool} (h : jtw G H g ar cm (jup (psF fs i w) 12 1)) : jtw G H g ar cm (psF fs i true) := by rw [← psF_12 fs i w true]; exact h
theorem psF_12f {G : JG} {H : Heap} {g : Nat → Nat} {ar : Nat → Nat → Nat} {cm fs : Nat → Int32} {i : Nat} {w : Bool} (h : jtw G H g ar cm (jup (psF fs i w) 12 0)) : jtw G H g ar cm (psF fs i false) := by rw [← psF_12 fs i w false]; exact h
/-- the input -/
def Inp (ar : Nat → Nat → Nat) (fs : Nat → Int32) (L : List Nat) : Prop := Ou (ar 9) L ∧ fs 10 = nI L.length ∧ L.length ≤ 50 ∧ ∀ j, j < L.length → L.getD j 0 < 65536
def chI (L : List Nat) (j : Nat) : Int32 := if j < L.length then nI (L.getD j 0) else -1
theorem chI_in {L : List Nat} {j c : Nat} (h : chI L j = nI c) (hc : c < 2 ^ 31) : j < L.length := by
  unfold chI at h; split at h
  · assumption
  · exact absurd (show nI c < 0 by rw [← h]; decide) (nI_pos hc)
theorem c_X3_behind (l : Launch) (G : JG) (H : Heap) {g : Nat → Nat} {ar : Nat → Nat → Nat} {cm fs : Nat → Int32} (hT : jtw G H g ar cm fs) (i f : Nat) (w : Bool) (hi : i ≤ 50) (hf : f ≤ 50) (fs' : Nat → Int32) (ef : fs = psF fs' i w) (L : List Nat) (hI : Inp ar fs' L) : JMet l yX3_behind (ws_ yX3_behind cX3_behind 2 (some .int)) 1 0 G H [.ref (g 100), .int (nI f)] (jpe H (chI L (i + f))) (jno) := by
  refine JMet.of [(0, .inr (some (g 100))), (1, .inl (.int (nI f)))] (by decide) (Nat.le_of_ble_eq_true rfl) rfl (fun X hl hX hQ hEx hr hnm hH => ?_)
  subst hl
  obtain ⟨h0, ho, hs, hbf, hsv, hpa, hou, hip, hcm⟩ := id hT
  have hi2 : vp_in (2 : Int32) 93 := vp_in_nI (n := 2) (by omega) (by decide)
  subst ef
  obtain ⟨i1, i2, i3, i4⟩ := hI
  first | refine j_aload_n (pc := 0) hX dX3_behind_0 rfl rfl ?_ | refine j_aload_nq (pc := 0) hX dX3_behind_0 rfl rfl ?_
  refine j_get (pc := 1) hX kg_X3_223 dX3_behind_1 (by first | assumption | exact jow.r (by assumption)) (by rfl) ?_
  refine j_iload_n (pc := 4) hX dX3_behind_4 rfl rfl ?_
  refine j_iadd (pc := 5) hX dX3_behind_5 ?_
  first | refine j_aload_n (pc := 6) hX dX3_behind_6 rfl rfl ?_ | refine j_aload_nq (pc := 6) hX dX3_behind_6 rfl rfl ?_
  refine j_get (pc := 7) hX kg_X3_220 dX3_behind_7 (by first | assumption | exact jow.r (by assumption)) (by rfl) ?_
  change JW X G H 0 10 _ [.int (fs' 10), .int (nI i + nI f)]
  rw [i2, nI_add]
  refine j_icmp_ge (pc := 10) (tgt := 27) hX dX3_behind_10 (by decide) (fun c_10 => ?_) (fun c_10 => ?_)
  · rw [nI_leI (by omega) (by omega)] at c_10
    refine j_iconst (pc := 27) (v := -1) hX dX3_behind_27 (by decide) ?_
    exact j_iret hX hQ hr dX3_behind_28 ⟨_, rfl, rfl, by unfold chI; rw [if_neg (by omega)]⟩
  · rw [nI_leI (by omega) (by omega)] at c_10
    have hin : vp_in (nI (i + f)) 60 := vp_in_nI (by omega) (by decide)
    first | refine j_aload_n (pc := 13) hX dX3_behind_13 rfl rfl ?_ | refine j_aload_nq (pc := 13) hX dX3_behind_13 rfl rfl ?_
    refine j_get (pc := 14) hX kg_X3_26 dX3_behind_14 (by first | assumption | exact jow.r (by assumption)) (by rfl) ?_
    first | refine j_aload_n (pc := 17) hX dX3_behind_17 rfl rfl ?_ | refine j_aload_nq (pc := 17) hX dX3_behind_17 rfl rfl ?_
    refine j_get (pc := 18) hX kg_X3_223 dX3_behind_18 (by first | assumption | exact jow.r (by assumption)) (by rfl) ?_
    refine j_iload_n (pc := 21) hX dX3_behind_21 rfl rfl ?_
    refine j_iadd (pc := 22) hX dX3_behind_22 ?_
    change JW X G H 0 23 _ [.int (nI i + nI f), _]
    rw [nI_add]
    refine j_cald (pc := 23) hX dX3_behind_23 (by first | assumption | exact jaw.r hX (by decide) (by assumption)) (by assumption) ?_
    refine j_goto (pc := 24) (tgt := 28) hX dX3_behind_24 (by decide) ?_
    exact j_iret hX hQ hr dX3_behind_28 ⟨_, rfl, rfl, by unfold chI; rw [if_pos (by omega), nI_clamp (by omega)]; exact congrArg nI (i1 _ (by omega))⟩
def skF (L S : List Nat) (k : Nat) (q : Nat × Bool) : Nat × Bool := if q.2 = true then q else if chI L q.1 = nI (S.getD k 0) then (q.1 + 1, false) else (q.1, true)
def skN (L S : List Nat) (q : Nat × Bool) : Nat × Bool := jfold (skF L S) S.length q
theorem sk_stay {L S : List Nat} {q : Nat × Bool} {i : Nat} (h : (jfold (skF L S) i q).2 = true) : ∀ n, i ≤ n → jfold (skF L S) n q = jfold (skF L S) i q := by
  intro n hn
  obtain ⟨m, rfl⟩ : ∃ m, n = i + m := ⟨n - i, by omega⟩
  clear hn
  induction m with
  | zero => rfl
  | succ m ih => rw [← Nat.add_assoc, jfold_succ, ih]; exact if_pos h
theorem sk_le {L S : List Nat} {q : Nat × Bool} (hS : ∀ j, j < S.length → S.getD j 0 < 128) (hq : q.1 ≤ L.length) : ∀ i, i ≤ S.length → (jfold (skF L S) i q).1 ≤ L.length := by
  intro i
  induction i with
  | zero => intro _; exact hq
  | succ i ih =>
    intro hi
    have := ih (by omega)
    have c := hS i (by omega)
    rw [jfold_succ]
    generalize jfold (skF L S) i q = z at *
    unfold skF; split
    · exact this
    · split
      · next e => exact chI_in e (by omega)
      · exact this
def txOK (tx : String) : Prop := (∃ h hz : Int32, (tx, h, hz) ∈ jtexts) ∧ (∀ j, j < (codes tx).length → (codes tx).getD j 0 < 128) ∧ (codes tx).length < 1000
theorem txOK.jls {G : JG} {s : State} {H : Heap} (hK : JK G s H) {tx : String} (h : txOK tx) : jls G H (gS G tx) (codes tx) := by
  obtain ⟨⟨_, _, hm⟩, h2, h3⟩ := h
  exact jls_const hK hm h2 h3
theorem c_X3_skip (l : Launch) (G : JG) (H : Heap) {g : Nat → Nat} {ar : Nat → Nat → Nat} {cm fs : Nat → Int32} (hT : jtw G H g ar cm fs) (i : Nat) (w : Bool) (fs' : Nat → Int32) (ef : fs = psF fs' i w) (L : List Nat) (hI : Inp ar fs' L) (hi : i ≤ L.length) (tx : String) (hS : txOK tx) : JMet l yX3_skip (ws_ yX3_skip cX3_skip 3 none) 5 0 G H [.ref (g 100), .ref (gS G tx)] (jpv (fun H1 => twR G H H1 g ar cm (psF fs' (skN L (codes tx) (i, w)).1 (skN L (codes tx) (i, w)).2))) (jno) := by
  refine JMet.of [(0, .inr (some (g 100))), (1, .inr (some (gS G tx)))] (by decide) (Nat.le_of_ble_eq_true rfl) rfl (fun X hl hX hQ hEx hr hnm hH => ?_)
  subst hl
  obtain ⟨h0, ho, hs, hbf, hsv, hpa, hou, hip, hcm⟩ := id hT
  have hi2 : vp_in (2 : Int32) 93 := vp_in_nI (n := 2) (by omega) (by decide)
  have hF : JFr (twP g) H H := JFr.rfl'
  subst ef
  have hL := hI.2.2.1
  have hSl := hS.2.2
  have hSc := hS.2.1
  have eN : skN L (codes tx) (i, w) = jfold (skF L (codes tx)) (codes tx).length (i, w) := rfl
  rw [eN] at hQ
  refine j_iconst (pc := 0) (v := 0) hX dX3_skip_0 (by decide) ?_
  refine j_istore_n (pc := 1) hX dX3_skip_1 rfl (by decide) rfl ?_
  refine jloop (P := fun k => ∀ H1, JFr (twP g) H H1 → jtw G H1 g ar cm (psF fs' (jfold (skF L (codes tx)) k (i, w)).1 (jfold (skF L (codes tx)) k (i, w)).2) → JW X G H1 0 2 [(0, .inr (some (g 100))), (1, .inr (some (gS G tx))), (2, .inl (.int (nI k)))] []) (codes tx).length (fun H1 hF hT => ?_) (fun k hk ih H1 hF hT => ?_) 0 (by omega) _ hF hT
  · refine j_start hX fun hK => ?_
    have hst := hS.jls hK
    refine j_iload_n (pc := 2) hX dX3_skip_2 rfl rfl ?_
    first | refine j_aload_n (pc := 3) hX dX3_skip_3 rfl rfl ?_ | refine j_aload_nq (pc := 3) hX dX3_skip_3 rfl rfl ?_
    refine j_rune (pc := 4) (jr_V (pc := 4) hX kv_X3_226 hst.choose_spec.choose_spec.choose_spec.1 (c_J8_length _ _ _ _ hst) (by decide) dX3_skip_4 rfl rfl (Nat.le_of_ble_eq_true rfl)) ?_ jno_x
    refine j_icmp_ge (pc := 7) (tgt := 66) hX dX3_skip_7 (by decide) (fun c_7 => ?_) (fun c_7 => ?_)
    rotate_left
    · exact absurd (jge_no (a := (codes tx).length) c_7 (by omega) (by omega)) (by omega)
    exact j_vret hX hQ hr dX3_skip_66 ⟨rfl, hF, hT⟩
  · refine j_start hX fun hK => ?_
    have hst := hS.jls hK
    have hle := sk_le (L := L) (S := codes tx) (q := (i, w)) hSc hi k (by omega)
    have hck := hSc k hk
    have es : jfold (skF L (codes tx)) (k + 1) (i, w) = skF L (codes tx) k (jfold (skF L (codes tx)) k (i, w)) := rfl
    have hstay := sk_stay (L := L) (S := codes tx) (q := (i, w)) (i := k)
    rw [es] at ih
    obtain ⟨q, eq⟩ : ∃ q, jfold (skF L (codes tx)) k (i, w) = q := ⟨_, rfl⟩
    rw [eq] at ih hT hle hstay
    have ho := hT.2.1
    refine j_iload_n (pc := 2) hX dX3_skip_2 rfl rfl ?_
    first | refine j_aload_n (pc := 3) hX dX3_skip_3 rfl rfl ?_ | refine j_aload_nq (pc := 3) hX dX3_skip_3 rfl rfl ?_
    refine j_rune (pc := 4) (jr_V (pc := 4) hX kv_X3_226 hst.choose_spec.choose_spec.choose_spec.1 (c_J8_length _ _ _ _ hst) (by decide) dX3_skip_4 rfl rfl (Nat.le_of_ble_eq_true rfl)) ?_ jno_x
    refine j_icmp_ge (pc := 7) (tgt := 66) hX dX3_skip_7 (by decide) (fun c_7 => ?_) (fun c_7 => ?_)
    · exact absurd (jge_yes (a := (codes tx).length) c_7 (by omega) (by omega)) (by omega)
    first | refine j_aload_n (pc := 10) hX dX3_skip_10 rfl rfl ?_ | refine j_aload_nq (pc := 10) hX dX3_skip_10 rfl rfl ?_
    refine j_get (pc := 11) hX kg_X3_230 dX3_skip_11 (by first | assumption | exact jow.r (by assumption)) (by rfl) ?_
    change JW X G H1 0 14 _ [.int (jb q.2)]
    refine j_if_ne (pc := 14) (tgt := 66) hX dX3_skip_14 (by decide) (fun c_14 => ?_) (fun c_14 => ?_)
    · rw [jb_n] at c_14
      exact j_vret hX hQ hr dX3_skip_66 ⟨rfl, hF, by rw [hstay c_14 _ (by omega)]; exact hT⟩
    · rw [jb_z] at c_14
      first | refine j_aload_n (pc := 17) hX dX3_skip_17 rfl rfl ?_ | refine j_aload_nq (pc := 17) hX dX3_skip_17 rfl rfl ?_
      first | refine j_aload_n (pc := 18) hX dX3_skip_18 rfl rfl ?_ | refine j_aload_nq (pc := 18) hX dX3_skip_18 rfl rfl ?_
      refine j_iconst (pc := 19) (v := 0) hX dX3_skip_19 (by decide) ?_
      refine j_rune (pc := 20) (jr_V (pc := 20) hX kv_X3_234 (by first | assumption | exact jow.r (by assumption)) (c_X3_behind _ _ _ hT q.1 0 q.2 (by omega) (by omega) fs' rfl L hI) (by decide) dX3_skip_20 rfl rfl (Nat.le_of_ble_eq_true rfl)) ?_ jno_x
      first | refine j_aload_n (pc := 23) hX dX3_skip_23 rfl rfl ?_ | refine j_aload_nq (pc := 23) hX dX3_skip_23 rfl rfl ?_
      refine j_iload_n (pc := 24) hX dX3_skip_24 rfl rfl ?_
      refine j_rune (pc := 25) (jr_V (pc := 25) hX kv_X3_237 hst.choose_spec.choose_spec.choose_spec.1 (c_J8_charAt _ _ _ _ hst k hk) (by decide) dX3_skip_25 rfl rfl (Nat.le_of_ble_eq_true rfl)) ?_ jno_x
      refine j_icmp_eq (pc := 28) (tgt := 35) hX dX3_skip_28 (by decide) (fun c_28 => ?_) (fun c_28 => ?_)
      · rw [Nat.add_zero] at c_28
        have en : skF L (codes tx) k q = (q.1 + 1, false) := by unfold skF; rw [if_neg (by rw [c_14]; decide), if_pos c_28]
        rw [en] at ih
        refine j_iconst (pc := 35) (v := 0) hX dX3_skip_35 (by decide) ?_
        refine j_put (pc := 36) hX kp_X3_230 dX3_skip_36 (by assumption) (by first | assumption | omega | exact h0.1 _ (by decide)) rfl rfl rfl (fun H_36 w_36 n_36 => ?_)
        have hT := tw_put12 hT w_36 n_36
        have hF := hF.put w_36 (fun _ => ⟨100, by decide, rfl⟩)
        have ho := hT.2.1
        first | replace hT := psF_12t hT | replace hT := psF_12f hT
        have ho := hT.2.1
        first | refine j_aload_n (pc := 39) hX dX3_skip_39 rfl rfl ?_ | refine j_aload_nq (pc := 39) hX dX3_skip_39 rfl rfl ?_
        refine j_dup (pc := 40) hX dX3_skip_40 (by first | rfl | exact jrf_cat _) ?_
        refine j_get (pc := 41) hX kg_X3_223 dX3_skip_41 (by first | assumption | exact jow.r (by assumption)) (by rfl) ?_
        first | refine j_aload_n (pc := 44) hX dX3_skip_44 rfl rfl ?_ | refine j_aload_nq (pc := 44) hX dX3_skip_44 rfl rfl ?_
        refine j_get (pc := 45) hX kg_X3_230 dX3_skip_45 (by first | assumption | exact jow.r (by assumption)) (by rfl) ?_
        refine j_if_eq (pc := 48) (tgt := 55) hX dX3_skip_48 (by decide) (fun c_48 => ?_) (fun c_48 => ?_)
        rotate_left
        · first | exact absurd c_48 (by decide) | (change ¬ (0 : Int32) = 0 at c_48; exact absurd c_48 (by decide))
        refine j_iconst (pc := 55) (v := 1) hX dX3_skip_55 (by decide) ?_
        refine j_iadd (pc := 56) hX dX3_skip_56 ?_
        first | change JW X _ _ 0 57 _ [.int (nI q.1 + 1), _] | change JW X _ _ 0 57 _ [.int (nI q.1 + 0), _]
        first | rw [nI_1] | rw [Int32.add_zero]
        refine j_put (pc := 57) hX kp_X3_223 dX3_skip_57 (by assumption) (by first | assumption | omega | exact h0.1 _ (by decide)) rfl rfl rfl (fun H_57 w_57 n_57 => ?_)
        have hT := tw_put11 hT w_57 n_57
        have hF := hF.put w_57 (fun _ => ⟨100, by decide, rfl⟩)
        rw [psF_11] at hT
        refine j_iincc (pc := 60) (m := 1) hX dX3_skip_60 rfl (by decide) (by decide) rfl ?_
        refine j_goto (pc := 63) (tgt := 2) hX dX3_skip_63 (by decide) ?_
        exact j_lv (by simp [jsb, jget, jval, nI_1]) (ih _ hF hT)
      · rw [Nat.add_zero] at c_28
        have en : skF L (codes tx) k q = (q.1, true) := by unfold skF; rw [if_neg (by rw [c_14]; decide), if_neg c_28]
        rw [en] at ih
        refine j_iconst (pc := 31) (v := 1) hX dX3_skip_31 (by decide) ?_
        refine j_goto (pc := 32) (tgt := 36) hX dX3_skip_32 (by decide) ?_
        refine j_put (pc := 36) hX kp_X3_230 dX3_skip_36 (by assumption) (by first | assumption | omega | exact h0.1 _ (by decide)) rfl rfl rfl (fun H_36 w_36 n_36 => ?_)
        have hT := tw_put12 hT w_36 n_36
        have hF := hF.put w_36 (fun _ => ⟨100, by decide, rfl⟩)
        have ho := hT.2.1
        first | replace hT := psF_12t hT | replace hT := psF_12f hT
        have ho := hT.2.1
        first | refine j_aload_n (pc := 39) hX dX3_skip_39 rfl rfl ?_ | refine j_aload_nq (pc := 39) hX dX3_skip_39 rfl rfl ?_
        refine j_dup (pc := 40) hX dX3_skip_40 (by first | rfl | exact jrf_cat _) ?_
        refine j_get (pc := 41) hX kg_X3_223 dX3_skip_41 (by first | assumption | exact jow.r (by assumption)) (by rfl) ?_
        first | refine j_aload_n (pc := 44) hX dX3_skip_44 rfl rfl ?_ | refine j_aload_nq (pc := 44) hX dX3_skip_44 rfl rfl ?_
        refine j_get (pc := 45) hX kg_X3_230 dX3_skip_45 (by first | assumption | exact jow.r (by assumption)) (by rfl) ?_
        refine j_if_eq (pc := 48) (tgt := 55) hX dX3_skip_48 (by decide) (fun c_48 => ?_) (fun c_48 => ?_)
        · first | exact absurd c_48 (by decide) | (change (1 : Int32) = 0 at c_48; exact absurd c_48 (by decide))
        refine j_iconst (pc := 51) (v := 0) hX dX3_skip_51 (by decide) ?_
        refine j_goto (pc := 52) (tgt := 56) hX dX3_skip_52 (by decide) ?_
        refine j_iadd (pc := 56) hX dX3_skip_56 ?_
        first | change JW X _ _ 0 57 _ [.int (nI q.1 + 1), _] | change JW X _ _ 0 57 _ [.int (nI q.1 + 0), _]
        first | rw [nI_1] | rw [Int32.add_zero]
        refine j_put (pc := 57) hX kp_X3_223 dX3_skip_57 (by assumption) (by first | assumption | omega | exact h0.1 _ (by decide)) rfl rfl rfl (fun H_57 w_57 n_57 => ?_)
        have hT := tw_put11 hT w_57 n_57
        have hF := hF.put w_57 (fun _ => ⟨100, by decide, rfl⟩)
        rw [psF_11] at hT
        refine j_iincc (pc := 60) (m := 1) hX dX3_skip_60 rfl (by decide) (by decide) rfl ?_
        refine j_goto (pc := 63) (tgt := 2) hX dX3_skip_63 (by decide) ?_
        exact j_lv (by simp [jsb, jget, jval, nI_1]) (ih _ hF hT)
