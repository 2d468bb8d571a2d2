/-! the reference: the steps that write -/
set_option maxRecDepth 100000
theorem jup_jup {α : Type} {f : Nat → α} {k : Nat} {a b : α} : jup (jup f k a) k b = jup f k b := by
  funext j; unfold jup; split <;> rfl
theorem jup_id {α : Type} {f : Nat → α} {k : Nat} : jup f k (f k) = f := by
  funext j; unfold jup; split
  · next h => rw [h]
  · rfl
theorem jup_id' {α : Type} {f : Nat → α} {k : Nat} {a : α} (h : f k = a) : jup f k a = f := h ▸ jup_id
theorem jup_comm {α : Type} {f : Nat → α} {k l : Nat} {a b : α} (h : k ≠ l) : jup (jup f k a) l b = jup (jup f l b) k a := by
  funext j; unfold jup; split
  · next e => rw [if_neg (fun z => h (z.symm.trans e))]
  · rfl
theorem tw_hf (ar : Nat → Nat → Nat) (k i v : Nat) : ∀ j, j < 93 → jup (twA ar k) i (nI v) j = nI (jup (ar k) i v j) := by
  intro j _; unfold jup twA; split <;> rfl
def cpN (A B : Nat → Nat) (sp dp n j : Nat) : Nat := if dp ≤ j ∧ j < dp + n then A (sp + (j - dp)) else B j
theorem jaw_cpy {G : JG} {H : Heap} {a n1 sp dp n : Nat} {A B : Nat → Nat} (h : jaw G H a 0 n1 (fun j => if dp ≤ j ∧ j < dp + n then Value.int (nI (A (sp + (j - dp)))) else Value.int (nI (B j)))) : jaw G H a 0 n1 (fun j => .int (nI (cpN A B sp dp n j))) :=
  h.congr (fun j _ => by unfold cpN; split <;> rfl)
abbrev twV (G : JG) (H : Heap) (g : Nat → Nat) (ar : Nat → Nat → Nat) (cm fs : Nat → Int32) : Option Value → Heap → Prop := jpv (fun H1 => twR G H H1 g ar cm fs)
theorem c_X3_keep (l : Launch) (G : JG) (H : Heap) {g : Nat → Nat} {ar : Nat → Nat → Nat} {cm fs : Nat → Int32} (hT : jtw G H g ar cm fs) : JMet l yX3_keep (ws_ yX3_keep cX3_keep 1 none) 2 0 G H [.ref (g 100)] (twV G H g (jup ar 1 (ar 0)) cm (jup fs 6 0)) (jno) := by
  refine JMet.of [(0, .inr (some (g 100)))] (by decide) (Nat.le_of_ble_eq_true rfl) rfl (fun X hl hX hQ hEx hr hnm hH => ?_)
  subst hl
  obtain ⟨h0, ho, hs, hbf, hsv, hpa, hou, hip, hcm⟩ := id hT
  have hi2 : vp_in (2 : Int32) 93 := vp_in_nI (n := 2) (by omega) (by decide)
  have hF : JFr (twP g) H H := JFr.rfl'
  first | refine j_aload_n (pc := 0) hX dX3_keep_0 rfl rfl ?_ | refine j_aload_nq (pc := 0) hX dX3_keep_0 rfl rfl ?_
  refine j_iconst (pc := 1) (v := 0) hX dX3_keep_1 (by decide) ?_
  refine j_put (pc := 2) hX kp_X3_39 dX3_keep_2 (by assumption) (by first | assumption | omega | exact h0.1 _ (by decide)) rfl rfl rfl (fun H_2 w_2 n_2 => ?_)
  have hT := tw_put6 hT w_2 n_2
  have hF := hF.put w_2 (fun _ => ⟨100, by decide, rfl⟩)
  obtain ⟨h0, ho, hs, hbf, hsv, hpa, hou, hip, hcm⟩ := id hT
  first | refine j_aload_n (pc := 5) hX dX3_keep_5 rfl rfl ?_ | refine j_aload_nq (pc := 5) hX dX3_keep_5 rfl rfl ?_
  refine j_get (pc := 6) hX kg_X3_9 dX3_keep_6 (by first | assumption | exact jow.r (by assumption)) (by rfl) ?_
  refine j_iconst (pc := 9) (v := 0) hX dX3_keep_9 (by decide) ?_
  first | refine j_aload_n (pc := 10) hX dX3_keep_10 rfl rfl ?_ | refine j_aload_nq (pc := 10) hX dX3_keep_10 rfl rfl ?_
  refine j_get (pc := 11) hX kg_X3_13 dX3_keep_11 (by first | assumption | exact jow.r (by assumption)) (by rfl) ?_
  refine j_iconst (pc := 14) (v := 0) hX dX3_keep_14 (by decide) ?_
  refine j_bipush (pc := 15) (v := 93) hX dX3_keep_15 (by decide) ?_
  refine j_acopy (pc := 17) (t := 0) hX kcp_X3_42 (by decide) 0 0 93 rfl rfl rfl dX3_keep_17 (by first | assumption | exact jaw.r (t := 0) hX (by decide) (by assumption)) (by assumption) (h0.1 _ (by decide)) (by omega) (by omega) (by omega) (by omega) (fun i hi => ⟨rfl, fun a h => by cases h⟩) (by decide) (Nat.le_of_ble_eq_true rfl) (fun H_17 w_17 n_17 => ?_)
  have hT := tw_arr1 (s2 := (ar 0)) hT w_17 (jaw_cpy n_17) (fun j hj => by simp [cpN, hj])
  have hF := JFr.put hF w_17 (fun _ => ⟨1, by decide, rfl⟩)
  obtain ⟨h0, ho, hs, hbf, hsv, hpa, hou, hip, hcm⟩ := id hT
  exact j_vret hX hQ hr dX3_keep_20 ⟨rfl, hF, hT⟩
theorem c_X3_fails (l : Launch) (G : JG) (H : Heap) {g : Nat → Nat} {ar : Nat → Nat → Nat} {cm fs : Nat → Int32} (hT : jtw G H g ar cm fs) (z : Int32) : JMet l yX3_fails (ws_ yX3_fails cX3_fails 2 (some .int)) 1 0 G H [.ref (g 100), .int z] (jpi (fun r H1 => twR G H H1 g ar cm (jup fs 6 z) ∧ r = 0)) (jno) := by
  refine JMet.of [(0, .inr (some (g 100))), (1, .inl (.int z))] (by decide) (Nat.le_of_ble_eq_true rfl) rfl (fun X hl hX hQ hEx hr hnm hH => ?_)
  subst hl
  obtain ⟨h0, ho, hs, hbf, hsv, hpa, hou, hip, hcm⟩ := id hT
  have hi2 : vp_in (2 : Int32) 93 := vp_in_nI (n := 2) (by omega) (by decide)
  first | refine j_aload_n (pc := 0) hX dX3_fails_0 rfl rfl ?_ | refine j_aload_nq (pc := 0) hX dX3_fails_0 rfl rfl ?_
  refine j_iload_n (pc := 1) hX dX3_fails_1 rfl rfl ?_
  refine j_put (pc := 2) hX kp_X3_39 dX3_fails_2 (by assumption) (by first | assumption | omega | exact h0.1 _ (by decide)) rfl rfl rfl (fun H_2 w_2 n_2 => ?_)
  have w1 := tw_put6 hT w_2 n_2
  refine j_iconst (pc := 5) (v := 0) hX dX3_fails_5 (by decide) ?_
  exact j_iret hX hQ hr dX3_fails_6 ⟨_, rfl, twR.put w_2 w1, rfl⟩
theorem c_X3_sets (l : Launch) (G : JG) (H : Heap) {g : Nat → Nat} {ar : Nat → Nat → Nat} {cm fs : Nat → Int32} (hT : jtw G H g ar cm fs) (k w v : Nat) (hk : k < 10) (hw : w < 6) : JMet l yX3_sets (ws_ yX3_sets cX3_sets 4 none) 1 0 G H [.ref (g 100), .int (nI k), .int (nI w), .int (nI v)] (twV G H g (jup ar 0 (jup (ar 0) (3 + 6 * k + w) v)) cm fs) (jno) := by
  refine JMet.of [(0, .inr (some (g 100))), (1, .inl (.int (nI k))), (2, .inl (.int (nI w))), (3, .inl (.int (nI v)))] (by decide) (Nat.le_of_ble_eq_true rfl) rfl (fun X hl hX hQ hEx hr hnm hH => ?_)
  subst hl
  obtain ⟨h0, ho, hs, hbf, hsv, hpa, hou, hip, hcm⟩ := id hT
  have hi2 : vp_in (2 : Int32) 93 := vp_in_nI (n := 2) (by omega) (by decide)
  have hF : JFr (twP g) H H := JFr.rfl'
  have hin : vp_in (nI (3 + 6 * k + w)) 93 := vp_in_nI (by omega) (by decide)
  first | refine j_aload_n (pc := 0) hX dX3_sets_0 rfl rfl ?_ | refine j_aload_nq (pc := 0) hX dX3_sets_0 rfl rfl ?_
  refine j_get (pc := 1) hX kg_X3_9 dX3_sets_1 (by first | assumption | exact jow.r (by assumption)) (by rfl) ?_
  refine j_iconst (pc := 4) (v := 3) hX dX3_sets_4 (by decide) ?_
  refine j_bipush (pc := 5) (v := 6) hX dX3_sets_5 (by decide) ?_
  refine j_iload_n (pc := 7) hX dX3_sets_7 rfl rfl ?_
  refine j_imul (pc := 8) hX dX3_sets_8 ?_
  refine j_iadd (pc := 9) hX dX3_sets_9 ?_
  refine j_iload_n (pc := 10) hX dX3_sets_10 rfl rfl ?_
  refine j_iadd (pc := 11) hX dX3_sets_11 ?_
  rw [tw_ix]
  refine j_iload_n (pc := 12) hX dX3_sets_12 rfl rfl ?_
  refine j_iast (pc := 13) hX dX3_sets_13 (by assumption) (h0.1 _ (by decide)) (by assumption) (fun H_13 w_13 n_13 => ?_)
  rw [nI_clamp (by omega)] at n_13
  have hT := tw_arr0 hT w_13 n_13 (tw_hf _ _ _ _)
  have hF := JFr.put hF w_13 (fun _ => ⟨0, by decide, rfl⟩)
  obtain ⟨h0, ho, hs, hbf, hsv, hpa, hou, hip, hcm⟩ := id hT
  exact j_vret hX hQ hr dX3_sets_14 ⟨rfl, hF, hT⟩
theorem c_X3_fills (l : Launch) (G : JG) (H : Heap) {g : Nat → Nat} {ar : Nat → Nat → Nat} {cm fs : Nat → Int32} (hT : jtw G H g ar cm fs) (p k : Nat) (hp : p < 6) (hk : k < 10) : JMet l yX3_fills (ws_ yX3_fills cX3_fills 3 none) 1 0 G H [.ref (g 100), .int (nI p), .int (nI k)] (twV G H g (jup ar 0 (jup (ar 0) (63 + 5 * p + 4) (k + 1))) cm fs) (jno) := by
  refine JMet.of [(0, .inr (some (g 100))), (1, .inl (.int (nI p))), (2, .inl (.int (nI k)))] (by decide) (Nat.le_of_ble_eq_true rfl) rfl (fun X hl hX hQ hEx hr hnm hH => ?_)
  subst hl
  obtain ⟨h0, ho, hs, hbf, hsv, hpa, hou, hip, hcm⟩ := id hT
  have hi2 : vp_in (2 : Int32) 93 := vp_in_nI (n := 2) (by omega) (by decide)
  have hF : JFr (twP g) H H := JFr.rfl'
  have hin : vp_in (nI (63 + 5 * p + 4)) 93 := vp_in_nI (by omega) (by decide)
  first | refine j_aload_n (pc := 0) hX dX3_fills_0 rfl rfl ?_ | refine j_aload_nq (pc := 0) hX dX3_fills_0 rfl rfl ?_
  refine j_get (pc := 1) hX kg_X3_9 dX3_fills_1 (by first | assumption | exact jow.r (by assumption)) (by rfl) ?_
  refine j_bipush (pc := 4) (v := 63) hX dX3_fills_4 (by decide) ?_
  refine j_iconst (pc := 6) (v := 5) hX dX3_fills_6 (by decide) ?_
  refine j_iload_n (pc := 7) hX dX3_fills_7 rfl rfl ?_
  refine j_imul (pc := 8) hX dX3_fills_8 ?_
  refine j_iadd (pc := 9) hX dX3_fills_9 ?_
  refine j_iconst (pc := 10) (v := 4) hX dX3_fills_10 (by decide) ?_
  refine j_iadd (pc := 11) hX dX3_fills_11 ?_
  change JW X G H 0 12 _ [.int (63 + 5 * nI p + nI 4), _]
  rw [tw_px]
  refine j_iload_n (pc := 12) hX dX3_fills_12 rfl rfl ?_
  refine j_iconst (pc := 13) (v := 1) hX dX3_fills_13 (by decide) ?_
  refine j_iadd (pc := 14) hX dX3_fills_14 ?_
  rw [nI_1]
  refine j_iast (pc := 15) hX dX3_fills_15 (by assumption) (h0.1 _ (by decide)) (by assumption) (fun H_15 w_15 n_15 => ?_)
  rw [nI_clamp (by omega)] at n_15
  have hT := tw_arr0 hT w_15 n_15 (tw_hf _ _ _ _)
  have hF := JFr.put hF w_15 (fun _ => ⟨0, by decide, rfl⟩)
  obtain ⟨h0, ho, hs, hbf, hsv, hpa, hou, hip, hcm⟩ := id hT
  exact j_vret hX hQ hr dX3_fills_16 ⟨rfl, hF, hT⟩
/-- what was before a change, put behind the past -/
def pastPush (ps bf : Nat → Nat) (n : Nat) : Nat → Nat := cpN bf (if n = 8 then cpN ps ps 93 0 651 else ps) 0 (93 * (if n = 8 then 7 else n)) 93
def pastN (n : Nat) : Nat := if n = 8 then 8 else n + 1
theorem c_X3_ends_t (l : Launch) (G : JG) (H : Heap) {g : Nat → Nat} {ar : Nat → Nat → Nat} {cm fs : Nat → Int32} (hT : jtw G H g ar cm fs) (t : Nat) (ht : 0 < t) (ht2 : t < 10) (e6 : fs 6 = nI t) (x : Int32) : JMet l yX3_ends (ws_ yX3_ends cX3_ends 2 (some .int)) 2 0 G H [.ref (g 100), .int x] (jpi (fun r H1 => twR G H H1 g (jup ar 0 (ar 1)) cm fs ∧ r = 0)) (jno) := by
  refine JMet.of [(0, .inr (some (g 100))), (1, .inl (.int x))] (by decide) (Nat.le_of_ble_eq_true rfl) rfl (fun X hl hX hQ hEx hr hnm hH => ?_)
  subst hl
  obtain ⟨h0, ho, hs, hbf, hsv, hpa, hou, hip, hcm⟩ := id hT
  have hi2 : vp_in (2 : Int32) 93 := vp_in_nI (n := 2) (by omega) (by decide)
  have hF : JFr (twP g) H H := JFr.rfl'
  first | refine j_aload_n (pc := 0) hX dX3_ends_0 rfl rfl ?_ | refine j_aload_nq (pc := 0) hX dX3_ends_0 rfl rfl ?_
  refine j_get (pc := 1) hX kg_X3_39 dX3_ends_1 (by first | assumption | exact jow.r (by assumption)) (by rfl) ?_
  rw [e6]
  refine j_if_le (pc := 4) (tgt := 24) hX dX3_ends_4 (by decide) (fun c_4 => ?_) (fun c_4 => ?_)
  · exact absurd c_4 (nI_nle ht (by omega))
  first | refine j_aload_n (pc := 7) hX dX3_ends_7 rfl rfl ?_ | refine j_aload_nq (pc := 7) hX dX3_ends_7 rfl rfl ?_
  refine j_get (pc := 8) hX kg_X3_13 dX3_ends_8 (by first | assumption | exact jow.r (by assumption)) (by rfl) ?_
  refine j_iconst (pc := 11) (v := 0) hX dX3_ends_11 (by decide) ?_
  first | refine j_aload_n (pc := 12) hX dX3_ends_12 rfl rfl ?_ | refine j_aload_nq (pc := 12) hX dX3_ends_12 rfl rfl ?_
  refine j_get (pc := 13) hX kg_X3_9 dX3_ends_13 (by first | assumption | exact jow.r (by assumption)) (by rfl) ?_
  refine j_iconst (pc := 16) (v := 0) hX dX3_ends_16 (by decide) ?_
  refine j_bipush (pc := 17) (v := 93) hX dX3_ends_17 (by decide) ?_
  refine j_acopy (pc := 19) (t := 0) hX kcp_X3_42 (by decide) 0 0 93 rfl rfl rfl dX3_ends_19 (by first | assumption | exact jaw.r (t := 0) hX (by decide) (by assumption)) (by assumption) (h0.1 _ (by decide)) (by omega) (by omega) (by omega) (by omega) (fun i hi => ⟨rfl, fun a h => by cases h⟩) (by decide) (Nat.le_of_ble_eq_true rfl) (fun H_19 w_19 n_19 => ?_)
  have hT := tw_arr0 (s2 := (ar 1)) hT w_19 (jaw_cpy n_19) (fun j hj => by simp [cpN, hj])
  have hF := JFr.put hF w_19 (fun _ => ⟨0, by decide, rfl⟩)
  obtain ⟨h0, ho, hs, hbf, hsv, hpa, hou, hip, hcm⟩ := id hT
  refine j_iconst (pc := 22) (v := 0) hX dX3_ends_22 (by decide) ?_
  exact j_iret hX hQ hr dX3_ends_23 ⟨_, rfl, ⟨hF, hT⟩, rfl⟩
theorem c_X3_ends_0 (l : Launch) (G : JG) (H : Heap) {g : Nat → Nat} {ar : Nat → Nat → Nat} {cm fs : Nat → Int32} (hT : jtw G H g ar cm fs) (n : Nat) (hn : n ≤ 8) (e5 : fs 5 = nI n) (e6 : fs 6 = 0) (x : Int32) : JMet l yX3_ends (ws_ yX3_ends cX3_ends 2 (some .int)) 2 0 G H [.ref (g 100), .int x] (jpi (fun r H1 => twR G H H1 g (jup ar 4 (pastPush (ar 4) (ar 1) n)) cm (jup fs 5 (nI (pastN n))) ∧ r = x)) (jno) := by
  refine JMet.of [(0, .inr (some (g 100))), (1, .inl (.int x))] (by decide) (Nat.le_of_ble_eq_true rfl) rfl (fun X hl hX hQ hEx hr hnm hH => ?_)
  subst hl
  obtain ⟨h0, ho, hs, hbf, hsv, hpa, hou, hip, hcm⟩ := id hT
  have hi2 : vp_in (2 : Int32) 93 := vp_in_nI (n := 2) (by omega) (by decide)
  have last : ∀ (H1 : Heap) (m : Nat) (ps : Nat → Nat), JFr (twP g) H H1 → m < 8 → jtw G H1 g (jup ar 4 ps) cm (jup fs 5 (nI m)) → cpN (ar 1) ps 0 (93 * m) 93 = pastPush (ar 4) (ar 1) n → m + 1 = pastN n → JW X G H1 0 60 [(0, .inr (some (g 100))), (1, .inl (.int x))] [] := by
    intro H1 m ps hF hm hT e1 e2
    obtain ⟨h0, ho, hs, hbf, hsv, hpa, hou, hip, hcm⟩ := id hT
    have hbf' : jaw G H1 (g 1) 0 93 (fun j => .int (twA ar 1 j)) := hbf
    have hpa' : jaw G H1 (g 4) 0 744 (fun j => .int (nI (ps j))) := hpa
    have e93 : (93 : Int32) * jup fs 5 (nI m) 5 = nI (93 * m) := pk_mul 93 m
    first | refine j_aload_n (pc := 60) hX dX3_ends_60 rfl rfl ?_ | refine j_aload_nq (pc := 60) hX dX3_ends_60 rfl rfl ?_
    refine j_get (pc := 61) hX kg_X3_13 dX3_ends_61 (by first | assumption | exact jow.r (by assumption)) (by rfl) ?_
    refine j_iconst (pc := 64) (v := 0) hX dX3_ends_64 (by decide) ?_
    first | refine j_aload_n (pc := 65) hX dX3_ends_65 rfl rfl ?_ | refine j_aload_nq (pc := 65) hX dX3_ends_65 rfl rfl ?_
    refine j_get (pc := 66) hX kg_X3_19 dX3_ends_66 (by first | assumption | exact jow.r (by assumption)) (by rfl) ?_
    refine j_bipush (pc := 69) (v := 93) hX dX3_ends_69 (by decide) ?_
    first | refine j_aload_n (pc := 71) hX dX3_ends_71 rfl rfl ?_ | refine j_aload_nq (pc := 71) hX dX3_ends_71 rfl rfl ?_
    refine j_get (pc := 72) hX kg_X3_48 dX3_ends_72 (by first | assumption | exact jow.r (by assumption)) (by rfl) ?_
    refine j_imul (pc := 75) hX dX3_ends_75 ?_
    refine j_bipush (pc := 76) (v := 93) hX dX3_ends_76 (by decide) ?_
    refine j_acopy (pc := 78) (t := 0) hX kcp_X3_42 (by decide) 0 (93 * m) 93 rfl e93 rfl dX3_ends_78 (by first | assumption | exact jaw.r (t := 0) hX (by decide) (by assumption)) (by assumption) (h0.1 _ (by decide)) (by omega) (by omega) (by omega) (by omega) (fun i hi => ⟨rfl, fun a h => by cases h⟩) (by decide) (Nat.le_of_ble_eq_true rfl) (fun H_78 w_78 n_78 => ?_)
    have hT := tw_arr4 (s2 := pastPush (ar 4) (ar 1) n) hT w_78 (jaw_cpy n_78) (fun j hj => congrArg nI (congrFun e1 j))
    have hF := JFr.put hF w_78 (fun _ => ⟨4, by decide, rfl⟩)
    obtain ⟨h0, ho, hs, hbf, hsv, hpa, hou, hip, hcm⟩ := id hT
    first | refine j_aload_n (pc := 81) hX dX3_ends_81 rfl rfl ?_ | refine j_aload_nq (pc := 81) hX dX3_ends_81 rfl rfl ?_
    refine j_dup (pc := 82) hX dX3_ends_82 (by first | rfl | exact jrf_cat _) ?_
    refine j_get (pc := 83) hX kg_X3_48 dX3_ends_83 (by first | assumption | exact jow.r (by assumption)) (by rfl) ?_
    refine j_iconst (pc := 86) (v := 1) hX dX3_ends_86 (by decide) ?_
    refine j_iadd (pc := 87) hX dX3_ends_87 ?_
    change JW X G H_78 0 88 _ [.int (nI m + 1), _]
    rw [nI_1, e2]
    refine j_put (pc := 88) hX kp_X3_48 dX3_ends_88 (by assumption) (by first | assumption | omega | exact h0.1 _ (by decide)) rfl rfl rfl (fun H_88 w_88 n_88 => ?_)
    have hT := tw_put5 hT w_88 n_88
    have hF := hF.put w_88 (fun _ => ⟨100, by decide, rfl⟩)
    rw [jup_jup, jup_jup] at hT
    refine j_iload_n (pc := 91) hX dX3_ends_91 rfl rfl ?_
    exact j_iret hX hQ hr dX3_ends_92 ⟨_, rfl, ⟨hF, hT⟩, rfl⟩
  have hF : JFr (twP g) H H := JFr.rfl'
  first | refine j_aload_n (pc := 0) hX dX3_ends_0 rfl rfl ?_ | refine j_aload_nq (pc := 0) hX dX3_ends_0 rfl rfl ?_
  refine j_get (pc := 1) hX kg_X3_39 dX3_ends_1 (by first | assumption | exact jow.r (by assumption)) (by rfl) ?_
  rw [e6]
  refine j_if_le (pc := 4) (tgt := 24) hX dX3_ends_4 (by decide) (fun c_4 => ?_) (fun c_4 => ?_)
  rotate_left
  · exact absurd (by decide) c_4
  first | refine j_aload_n (pc := 24) hX dX3_ends_24 rfl rfl ?_ | refine j_aload_nq (pc := 24) hX dX3_ends_24 rfl rfl ?_
  skip
  refine j_get (pc := 25) hX kg_X3_48 dX3_ends_25 (by first | assumption | exact jow.r (by assumption)) (by rfl) ?_
  rw [e5]
  refine j_bipush (pc := 28) (v := 8) hX dX3_ends_28 (by decide) ?_
  refine j_icmp_ne (pc := 30) (tgt := 60) hX dX3_ends_30 (by decide) (fun c_30 => ?_) (fun c_30 => ?_)
  · rw [show (8 : Int32) = nI 8 from rfl, nI_eq (by omega) (by omega)] at c_30
    first | exact last _ 7 _ hF (by omega) hT (by subst c_30; rfl) (by subst c_30; rfl) | exact last _ n (ar 4) hF (by omega) (by rw [jup_id, ← e5, jup_id]; exact hT) (by unfold pastPush; rw [if_neg c_30, if_neg c_30]) (by unfold pastN; rw [if_neg c_30])
  · rw [show (8 : Int32) = nI 8 from rfl, nI_eq (by omega) (by omega)] at c_30
    first | refine j_aload_n (pc := 33) hX dX3_ends_33 rfl rfl ?_ | refine j_aload_nq (pc := 33) hX dX3_ends_33 rfl rfl ?_
    refine j_get (pc := 34) hX kg_X3_19 dX3_ends_34 (by first | assumption | exact jow.r (by assumption)) (by rfl) ?_
    refine j_bipush (pc := 37) (v := 93) hX dX3_ends_37 (by decide) ?_
    first | refine j_aload_n (pc := 39) hX dX3_ends_39 rfl rfl ?_ | refine j_aload_nq (pc := 39) hX dX3_ends_39 rfl rfl ?_
    refine j_get (pc := 40) hX kg_X3_19 dX3_ends_40 (by first | assumption | exact jow.r (by assumption)) (by rfl) ?_
    refine j_iconst (pc := 43) (v := 0) hX dX3_ends_43 (by decide) ?_
    refine j_sipush (pc := 44) (v := 651) hX dX3_ends_44 (by decide) ?_
    refine j_acopy (pc := 47) (t := 0) hX kcp_X3_42 (by decide) 93 0 651 rfl rfl rfl dX3_ends_47 (by first | assumption | exact jaw.r (t := 0) hX (by decide) (by assumption)) (by assumption) (h0.1 _ (by decide)) (by omega) (by omega) (by omega) (by omega) (fun i hi => ⟨rfl, fun a h => by cases h⟩) (by decide) (Nat.le_of_ble_eq_true rfl) (fun H_47 w_47 n_47 => ?_)
    have hT := tw_arr4 (s2 := (cpN (ar 4) (ar 4) 93 0 651)) hT w_47 (jaw_cpy n_47) (fun j hj => rfl)
    have hF := JFr.put hF w_47 (fun _ => ⟨4, by decide, rfl⟩)
    obtain ⟨h0, ho, hs, hbf, hsv, hpa, hou, hip, hcm⟩ := id hT
    first | refine j_aload_n (pc := 50) hX dX3_ends_50 rfl rfl ?_ | refine j_aload_nq (pc := 50) hX dX3_ends_50 rfl rfl ?_
    refine j_dup (pc := 51) hX dX3_ends_51 (by first | rfl | exact jrf_cat _) ?_
    refine j_get (pc := 52) hX kg_X3_48 dX3_ends_52 (by first | assumption | exact jow.r (by assumption)) (by rfl) ?_
    refine j_iconst (pc := 55) (v := 1) hX dX3_ends_55 (by decide) ?_
    refine j_isub (pc := 56) hX dX3_ends_56 ?_
    change JW X G H_47 0 57 _ [.int (fs 5 - 1), _]
    rw [e5, c_30, nI_pred]
    refine j_put (pc := 57) hX kp_X3_48 dX3_ends_57 (by assumption) (by first | assumption | omega | exact h0.1 _ (by decide)) rfl rfl rfl (fun H_57 w_57 n_57 => ?_)
    have hT := tw_put5 hT w_57 n_57
    have hF := hF.put w_57 (fun _ => ⟨100, by decide, rfl⟩)
    first | exact last _ 7 _ hF (by omega) hT (by subst c_30; rfl) (by subst c_30; rfl) | exact last _ n (ar 4) hF (by omega) (by rw [jup_id, ← e5, jup_id]; exact hT) (by unfold pastPush; rw [if_neg c_30, if_neg c_30]) (by unfold pastN; rw [if_neg c_30])
