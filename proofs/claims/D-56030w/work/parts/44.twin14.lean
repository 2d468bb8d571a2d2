/-! the reference: what it writes; what it is fed -/
set_option maxRecDepth 100000
def OuB (n : Nat) (o : Nat → Nat) (L : List Nat) : Prop := Ou o L ∧ L.length ≤ n
theorem OuB_nil {o : Nat → Nat} : OuB 0 o [] := ⟨fun j hj => absurd hj (by simp), Nat.le_refl _⟩
theorem digs_len (v : Nat) : (digs v).length ≤ 9 := digF_len 8 v
def sayIf (L : List Nat) (z : Int32) (c v : Nat) : List Nat := if z = 0 then L else L ++ [c] ++ digs v
abbrev twB (G : JG) (H : Heap) (g : Nat → Nat) (ar : Nat → Nat → Nat) (cm fs : Nat → Int32) (n : Nat) (L : List Nat) : Option Value → Heap → Prop := jpv (fun H1 => ∃ o, OuB n o L ∧ twR G H H1 g (jup ar 7 o) cm (jup fs 8 (nI L.length)))
theorem c_X3_say1 (l : Launch) (G : JG) (H : Heap) {g : Nat → Nat} {ar : Nat → Nat → Nat} {cm fs : Nat → Int32} (hT : jtw G H g ar cm fs) {n : Nat} {L : List Nat} (hO : OuB n (ar 7) L) (hn : n < 90) (e8 : fs 8 = nI L.length) (c : Nat) (hc : c < 65536) : JMet l yX3_says (ws_ yX3_says cX3_says 2 none) 1 0 G H [.ref (g 100), .int (nI c)] (twB G H g ar cm fs (n + 1) (L ++ [c])) jno := by
  have hL : L.length ≤ n := hO.2
  refine (c_X3_says l G H hT L (by omega) e8 hO.1 c hc).post (fun v H1 h => ?_) (fun _ _ _ h => h)
  obtain ⟨h1, o, h2, h3⟩ := h
  exact ⟨h1, o, ⟨h2, by rw [List.length_append]; simp; omega⟩, h3⟩
theorem c_X3_sayD (l : Launch) (G : JG) (H : Heap) {g : Nat → Nat} {ar : Nat → Nat → Nat} {cm fs : Nat → Int32} (hT : jtw G H g ar cm fs) {n : Nat} {L : List Nat} (hO : OuB n (ar 7) L) (hn : n + 9 < 90) (e8 : fs 8 = nI L.length) (v : Nat) (hv : v < 2 ^ 24) : JMet l yX3_saysNumber (ws_ yX3_saysNumber cX3_saysNumber 2 none) 10 0 G H [.ref (g 100), .int (nI v)] (twB G H g ar cm fs (n + 9) (L ++ digs v)) jno := by
  have hL : L.length ≤ n := hO.2
  refine (c_X3_sayN l G 8 v (by omega) hv H hT L (by omega) e8 hO.1).post (fun _ H1 h => ?_) (fun _ _ _ h => h)
  obtain ⟨h1, o, h2, h3⟩ := h
  exact ⟨h1, o, ⟨h2, by have := digs_len v; rw [List.length_append]; show L.length + (digs v).length ≤ n + 9; omega⟩, h3⟩
theorem c_X3_saysIf (l : Launch) (G : JG) (H : Heap) {g : Nat → Nat} {ar : Nat → Nat → Nat} {cm fs : Nat → Int32} (hT : jtw G H g ar cm fs) {n : Nat} {L : List Nat} (hO : OuB n (ar 7) L) (hn : n + 10 < 90) (e8 : fs 8 = nI L.length) (z : Int32) (c v : Nat) (hc : c < 65536) (hv : v < 2 ^ 24) : JMet l yX3_saysIf (ws_ yX3_saysIf cX3_saysIf 4 none) 11 0 G H [.ref (g 100), .int z, .int (nI c), .int (nI v)] (twB G H g ar cm fs (n + 10) (sayIf L z c v)) (jno) := by
  refine JMet.of [(0, .inr (some (g 100))), (1, .inl (.int z)), (2, .inl (.int (nI c))), (3, .inl (.int (nI v)))] (by decide) (Nat.le_of_ble_eq_true rfl) rfl (fun X hl hX hQ hEx hr hnm hH => ?_)
  subst hl
  obtain ⟨h0, ho, hs, hbf, hsv, hpa, hou, hip, hcm⟩ := id hT
  have hi2 : vp_in (2 : Int32) 93 := vp_in_nI (n := 2) (by omega) (by decide)
  have hF : JFr (twP g) H H := JFr.rfl'
  refine j_iload_n (pc := 0) hX dX3_saysIf_0 rfl rfl ?_
  refine j_if_eq (pc := 1) (tgt := 14) hX dX3_saysIf_1 (by decide) (fun c_1 => ?_) (fun c_1 => ?_)
  · exact j_vret hX hQ hr dX3_saysIf_14 ⟨rfl, ar 7, ⟨by unfold sayIf; rw [if_pos c_1]; exact hO.1, by unfold sayIf; rw [if_pos c_1]; exact Nat.le_trans hO.2 (by omega)⟩, hF, by rw [jup_id]; unfold sayIf; rw [if_pos c_1, jup_id' e8]; exact hT⟩
  · first | refine j_aload_n (pc := 4) hX dX3_saysIf_4 rfl rfl ?_ | refine j_aload_nq (pc := 4) hX dX3_saysIf_4 rfl rfl ?_
    refine j_iload_n (pc := 5) hX dX3_saysIf_5 rfl rfl ?_
    refine j_runv (pc := 6) (jr_V (pc := 6) hX kv_X3_213 (by first | assumption | exact jow.r (by assumption)) (c_X3_say1 _ _ _ hT hO (by omega) e8 c hc) (by decide) dX3_saysIf_6 rfl rfl (Nat.le_of_ble_eq_true rfl)) (fun H_6 p_6 z_6 => ?_) jno_x
    obtain ⟨o, hO, hR⟩ := p_6
    have hF := JFr.trans hF hR.1
    have hT := hR.2
    have ho := hT.2.1
    first | refine j_aload_n (pc := 9) hX dX3_saysIf_9 rfl rfl ?_ | refine j_aload_nq (pc := 9) hX dX3_saysIf_9 rfl rfl ?_
    refine j_iload_n (pc := 10) hX dX3_saysIf_10 rfl rfl ?_
    refine j_runv (pc := 11) (jr_V (pc := 11) hX kv_X3_210 (by first | assumption | exact jow.r (by assumption)) (c_X3_sayD _ _ _ hT hO (by omega) rfl v hv) (by decide) dX3_saysIf_11 rfl rfl (Nat.le_of_ble_eq_true rfl)) (fun H_11 p_11 z_11 => ?_) jno_x
    obtain ⟨o2, hO, hR⟩ := p_11
    have hF := JFr.trans hF hR.1
    have hT := hR.2
    rw [jup_jup, jup_jup] at hT
    exact j_vret hX hQ hr dX3_saysIf_14 ⟨rfl, o2, by unfold sayIf; rw [if_neg c_1]; exact hO, hF, by unfold sayIf; rw [if_neg c_1]; exact hT⟩
/-- what is written of an applicant, and of the posts -/
def tellN (s : Nat → Nat) (k : Nat) : List Nat :=
  sayIf (sayIf (sayIf ([] ++ [aSh s k] ++ digs (aWh s k) ++ [47] ++ digs (aRn s k)) (if bitN (aGv s k) = 0 then 0 else 1) 43 (bitN (aGv s k))) (if aCo s k = 0 then 0 else 1) 36 (aCo s k)) (match fillN s k with | none => 0 | some _ => 1) 64 ((fillN s k).getD 0)
theorem c_X3_saysIfO (l : Launch) (G : JG) (H : Heap) {g : Nat → Nat} {ar : Nat → Nat → Nat} {cm fs : Nat → Int32} (hT : jtw G H g ar cm fs) {n : Nat} {L : List Nat} (hO : OuB n (ar 7) L) (hn : n + 10 < 90) (e8 : fs 8 = nI L.length) (z : Int32) (c : Nat) (o : Option Nat) (hc : c < 65536) (hv : ∀ q, o = some q → q < 2 ^ 24) (hz : z = 0 ∨ ∃ q, o = some q) : JMet l yX3_saysIf (ws_ yX3_saysIf cX3_saysIf 4 none) 11 0 G H [.ref (g 100), .int z, .int (nI c), .int (oI o)] (twB G H g ar cm fs (n + 10) (sayIf L z c (o.getD 0))) jno := by
  cases o with
  | some q => exact c_X3_saysIf l G H hT hO hn e8 z c q hc (hv q rfl)
  | none =>
    have hz : z = 0 := by rcases hz with e | ⟨q, e⟩; exact e; cases e
    subst hz
    refine JMet.of [(0, .inr (some (g 100))), (1, .inl (.int 0)), (2, .inl (.int (nI c))), (3, .inl (.int (oI none)))] (by decide) (Nat.le_of_ble_eq_true rfl) rfl (fun X hl hX hQ hEx hr hnm hH => ?_)
    subst hl
    refine j_iload_n (pc := 0) hX dX3_saysIf_0 rfl rfl ?_
    refine j_if_eq (pc := 1) (tgt := 14) hX dX3_saysIf_1 (by decide) (fun c_1 => ?_) (fun c_1 => ?_)
    · exact j_vret hX hQ hr dX3_saysIf_14 ⟨rfl, ar 7, ⟨hO.1, Nat.le_trans hO.2 (by omega)⟩, JFr.rfl', by rw [jup_id]; show jtw G H g ar cm (jup fs 8 (nI L.length)); rw [jup_id' e8]; exact hT⟩
    · exact absurd rfl c_1
/-- what writing of an applicant leaves -/
def wrP (G : JG) (H H1 : Heap) (g : Nat → Nat) (ar : Nat → Nat → Nat) (cm fs : Nat → Int32) (x r : Int32) : Prop := match slotN (ar 0) x with
  | none => twR G H H1 g ar cm (jup fs 6 1)
  | some k => r = nI (tellN (ar 0) k).length ∧ ∃ o, Ou o (tellN (ar 0) k) ∧ twR G H H1 g (jup ar 7 o) cm (jup (jup fs 6 0) 8 (nI (tellN (ar 0) k).length))
theorem tell_end {G : JG} {H H1 : Heap} {g : Nat → Nat} {ar : Nat → Nat → Nat} {cm fs : Nat → Int32} {L M : List Nat} {o : Nat → Nat} (e : M = L) (hO : Ou o L) (h : twR G H H1 g (jup ar 7 o) cm (jup (jup fs 6 0) 8 (nI L.length))) : nI L.length = nI M.length ∧ ∃ o, Ou o M ∧ twR G H H1 g (jup ar 7 o) cm (jup (jup fs 6 0) 8 (nI M.length)) := by
  subst e; exact ⟨rfl, o, hO, h⟩
theorem c_X3_writeApplicant (l : Launch) (G : JG) (H : Heap) {g : Nat → Nat} {ar : Nat → Nat → Nat} {cm fs : Nat → Int32} (hT : jtw G H g ar cm fs) (hB : Bs (ar 0)) (hs2 : ∀ k, k < 10 → aSh (ar 0) k < 65536) (x : Int32) : JMet l yX3_writeApplicant (ws_ yX3_writeApplicant cX3_writeApplicant 4 (some .int)) 12 0 G H [.ref (g 100), .int x] (jpi (fun r H1 => wrP G H H1 g ar cm fs x r)) (jno) := by
  refine JMet.of [(0, .inr (some (g 100))), (1, .inl (.int x))] (by decide) (Nat.le_of_ble_eq_true rfl) rfl (fun X hl hX hQ hEx hr hnm hH => ?_)
  subst hl
  obtain ⟨h0, ho, hs, hbf, hsv, hpa, hou, hip, hcm⟩ := id hT
  have hi2 : vp_in (2 : Int32) 93 := vp_in_nI (n := 2) (by omega) (by decide)
  obtain ⟨h2, hb, hf, hg⟩ := id hB
  have hb10 := fun k => bitN_le (aGv (ar 0) k)
  first | refine j_aload_n (pc := 0) hX dX3_writeApplicant_0 rfl rfl ?_ | refine j_aload_nq (pc := 0) hX dX3_writeApplicant_0 rfl rfl ?_
  refine j_iload_n (pc := 1) hX dX3_writeApplicant_1 rfl rfl ?_
  refine j_rune (pc := 2) (jr_V (pc := 2) hX kv_X3_103 (by first | assumption | exact jow.r (by assumption)) (c_X3_slotOf _ _ _ hT x) (by decide) dX3_writeApplicant_2 rfl rfl (Nat.le_of_ble_eq_true rfl)) ?_ jno_x
  refine j_istore_n (pc := 5) hX dX3_writeApplicant_5 rfl (by decide) rfl ?_
  first | refine j_aload_n (pc := 6) hX dX3_writeApplicant_6 rfl rfl ?_ | refine j_aload_nq (pc := 6) hX dX3_writeApplicant_6 rfl rfl ?_
  refine j_iload_n (pc := 7) hX dX3_writeApplicant_7 rfl rfl ?_
  refine j_if_lt (pc := 8) (tgt := 15) hX dX3_writeApplicant_8 (by decide) (fun c_8 => ?_) (fun c_8 => ?_)
  · rw [oI_neg' (fun _ => slotN_lt) (by omega)] at c_8
    refine j_iconst (pc := 15) (v := 0) hX dX3_writeApplicant_15 (by decide) ?_
    refine j_runi (pc := 16) (jr_V (pc := 16) hX kv_X3_119 (by first | assumption | exact jow.r (by assumption)) (c_X3_isThere _ _ _ hT _ rfl) (by decide) dX3_writeApplicant_16 rfl rfl (Nat.le_of_ble_eq_true rfl)) (fun r_16 H_16 p_16 z_16 => ?_) jno_x
    obtain ⟨⟨hF, hT⟩, rfl⟩ := p_16
    have ho := hT.2.1
    refine j_if_ne (pc := 19) (tgt := 24) hX dX3_writeApplicant_19 (by decide) (fun c_19 => ?_) (fun c_19 => ?_)
    · first | exact absurd c_19 (by decide) | (change ¬ (0 : Int32) = 0 at c_19; exact absurd c_19 (by decide))
    refine j_iconst (pc := 22) (v := 0) hX dX3_writeApplicant_22 (by decide) ?_
    exact j_iret hX hQ hr dX3_writeApplicant_23 ⟨_, rfl, by unfold wrP; rw [c_8]; exact ⟨hF, by simpa [nI_l1] using hT⟩⟩
  · rw [Int32.not_lt, oI_pos' (fun _ => slotN_lt) (by omega)] at c_8
    obtain ⟨k, c_8, hk⟩ := c_8
    have i1 := hb (3 + 6 * k + 2) (by omega)
    have i2 := hb (3 + 6 * k + 3) (by omega)
    have i3 := hb (3 + 6 * k + 4) (by omega)
    have i4 := hb10 k
    have i5 := hs2 k hk
    refine j_iconst (pc := 11) (v := 1) hX dX3_writeApplicant_11 (by decide) ?_
    refine j_goto (pc := 12) (tgt := 16) hX dX3_writeApplicant_12 (by decide) ?_
    refine j_runi (pc := 16) (jr_V (pc := 16) hX kv_X3_119 (by first | assumption | exact jow.r (by assumption)) (c_X3_isThere _ _ _ hT _ rfl) (by decide) dX3_writeApplicant_16 rfl rfl (Nat.le_of_ble_eq_true rfl)) (fun r_16 H_16 p_16 z_16 => ?_) jno_x
    obtain ⟨⟨hF, hT⟩, rfl⟩ := p_16
    have ho := hT.2.1
    refine j_if_ne (pc := 19) (tgt := 24) hX dX3_writeApplicant_19 (by decide) (fun c_19 => ?_) (fun c_19 => ?_)
    rotate_left
    · first | exact absurd c_19 (by decide) | (change (1 : Int32) = 0 at c_19; exact absurd c_19 (by decide))
    rw [show nI (if (1 : Int32) = 0 then 1 else 0) = 0 from rfl] at hT
    first | refine j_aload_n (pc := 24) hX dX3_writeApplicant_24 rfl rfl ?_ | refine j_aload_nq (pc := 24) hX dX3_writeApplicant_24 rfl rfl ?_
    refine j_iconst (pc := 25) (v := 0) hX dX3_writeApplicant_25 (by decide) ?_
    refine j_put (pc := 26) hX kp_X3_207 dX3_writeApplicant_26 (by assumption) (by first | assumption | omega | exact h0.1 _ (by decide)) rfl rfl rfl (fun H_26 w_26 n_26 => ?_)
    have hT := tw_put8 hT w_26 n_26
    have hF := hF.put w_26 (fun _ => ⟨100, by decide, rfl⟩)
    have ho := hT.2.1
    have hO : OuB 0 (ar 7) [] := OuB_nil
    rw [oI_some c_8]
    first | refine j_aload_n (pc := 29) hX dX3_writeApplicant_29 rfl rfl ?_ | refine j_aload_nq (pc := 29) hX dX3_writeApplicant_29 rfl rfl ?_
    refine j_iload_n (pc := 30) hX dX3_writeApplicant_30 rfl rfl ?_
    refine j_iconst (pc := 31) (v := 5) hX dX3_writeApplicant_31 (by decide) ?_
    refine j_rune (pc := 32) (jr_V (pc := 32) hX kv_X3_55 (by first | assumption | exact jow.r (by assumption)) (c_X3_of _ _ _ hT k 5 hk (by omega)) (by decide) dX3_writeApplicant_32 rfl rfl (Nat.le_of_ble_eq_true rfl)) ?_ jno_x
    refine j_rune (pc := 35) (jr_S (pc := 35) hX ks_X3_70 (c_X3_bits _ _ _ _ (bsL hb (by omega))) (by decide) dX3_writeApplicant_35 rfl rfl (Nat.le_of_ble_eq_true rfl)) ?_ jno_x
    refine j_istore_n (pc := 38) hX dX3_writeApplicant_38 rfl (by decide) rfl ?_
    first | refine j_aload_n (pc := 39) hX dX3_writeApplicant_39 rfl rfl ?_ | refine j_aload_nq (pc := 39) hX dX3_writeApplicant_39 rfl rfl ?_
    first | refine j_aload_n (pc := 40) hX dX3_writeApplicant_40 rfl rfl ?_ | refine j_aload_nq (pc := 40) hX dX3_writeApplicant_40 rfl rfl ?_
    refine j_iload_n (pc := 41) hX dX3_writeApplicant_41 rfl rfl ?_
    refine j_iconst (pc := 42) (v := 1) hX dX3_writeApplicant_42 (by decide) ?_
    refine j_rune (pc := 43) (jr_V (pc := 43) hX kv_X3_55 (by first | assumption | exact jow.r (by assumption)) (c_X3_of _ _ _ hT k 1 hk (by omega)) (by decide) dX3_writeApplicant_43 rfl rfl (Nat.le_of_ble_eq_true rfl)) ?_ jno_x
    refine j_runv (pc := 46) (jr_V (pc := 46) hX kv_X3_213 (by first | assumption | exact jow.r (by assumption)) (c_X3_say1 _ _ _ hT hO (by decide) rfl (aSh (ar 0) k) i5) (by decide) dX3_writeApplicant_46 rfl rfl (Nat.le_of_ble_eq_true rfl)) (fun H_46 p_46 z_46 => ?_) jno_x
    obtain ⟨o_46, hO, hR⟩ := p_46
    have hF := JFr.trans hF hR.1
    have hT := hR.2
    have hT : jtw G _ g (jup ar 7 _) cm (jup (jup fs 6 0) 8 _) := (by rw [jup_jup] at hT; exact hT)
    have ho := hT.2.1
    first | refine j_aload_n (pc := 49) hX dX3_writeApplicant_49 rfl rfl ?_ | refine j_aload_nq (pc := 49) hX dX3_writeApplicant_49 rfl rfl ?_
    first | refine j_aload_n (pc := 50) hX dX3_writeApplicant_50 rfl rfl ?_ | refine j_aload_nq (pc := 50) hX dX3_writeApplicant_50 rfl rfl ?_
    refine j_iload_n (pc := 51) hX dX3_writeApplicant_51 rfl rfl ?_
    refine j_iconst (pc := 52) (v := 2) hX dX3_writeApplicant_52 (by decide) ?_
    refine j_rune (pc := 53) (jr_V (pc := 53) hX kv_X3_55 (by first | assumption | exact jow.r (by assumption)) (c_X3_of _ _ _ hT k 2 hk (by omega)) (by decide) dX3_writeApplicant_53 rfl rfl (Nat.le_of_ble_eq_true rfl)) ?_ jno_x
    refine j_runv (pc := 56) (jr_V (pc := 56) hX kv_X3_210 (by first | assumption | exact jow.r (by assumption)) (c_X3_sayD _ _ _ hT hO (by decide) rfl (aWh (ar 0) k) i1) (by decide) dX3_writeApplicant_56 rfl rfl (Nat.le_of_ble_eq_true rfl)) (fun H_56 p_56 z_56 => ?_) jno_x
    obtain ⟨o_56, hO, hR⟩ := p_56
    have hF := JFr.trans hF hR.1
    have hT := hR.2
    rw [jup_jup, jup_jup] at hT
    have ho := hT.2.1
    first | refine j_aload_n (pc := 59) hX dX3_writeApplicant_59 rfl rfl ?_ | refine j_aload_nq (pc := 59) hX dX3_writeApplicant_59 rfl rfl ?_
    refine j_bipush (pc := 60) (v := 47) hX dX3_writeApplicant_60 (by decide) ?_
    refine j_runv (pc := 62) (jr_V (pc := 62) hX kv_X3_213 (by first | assumption | exact jow.r (by assumption)) (c_X3_say1 _ _ _ hT hO (by decide) rfl 47 (by decide)) (by decide) dX3_writeApplicant_62 rfl rfl (Nat.le_of_ble_eq_true rfl)) (fun H_62 p_62 z_62 => ?_) jno_x
    obtain ⟨o_62, hO, hR⟩ := p_62
    have hF := JFr.trans hF hR.1
    have hT := hR.2
    rw [jup_jup, jup_jup] at hT
    have ho := hT.2.1
    first | refine j_aload_n (pc := 65) hX dX3_writeApplicant_65 rfl rfl ?_ | refine j_aload_nq (pc := 65) hX dX3_writeApplicant_65 rfl rfl ?_
    first | refine j_aload_n (pc := 66) hX dX3_writeApplicant_66 rfl rfl ?_ | refine j_aload_nq (pc := 66) hX dX3_writeApplicant_66 rfl rfl ?_
    refine j_iload_n (pc := 67) hX dX3_writeApplicant_67 rfl rfl ?_
    refine j_iconst (pc := 68) (v := 3) hX dX3_writeApplicant_68 (by decide) ?_
    refine j_rune (pc := 69) (jr_V (pc := 69) hX kv_X3_55 (by first | assumption | exact jow.r (by assumption)) (c_X3_of _ _ _ hT k 3 hk (by omega)) (by decide) dX3_writeApplicant_69 rfl rfl (Nat.le_of_ble_eq_true rfl)) ?_ jno_x
    refine j_runv (pc := 72) (jr_V (pc := 72) hX kv_X3_210 (by first | assumption | exact jow.r (by assumption)) (c_X3_sayD _ _ _ hT hO (by decide) rfl (aRn (ar 0) k) i2) (by decide) dX3_writeApplicant_72 rfl rfl (Nat.le_of_ble_eq_true rfl)) (fun H_72 p_72 z_72 => ?_) jno_x
    obtain ⟨o_72, hO, hR⟩ := p_72
    have hF := JFr.trans hF hR.1
    have hT := hR.2
    rw [jup_jup, jup_jup] at hT
    have ho := hT.2.1
    first | refine j_aload_n (pc := 75) hX dX3_writeApplicant_75 rfl rfl ?_ | refine j_aload_nq (pc := 75) hX dX3_writeApplicant_75 rfl rfl ?_
    refine j_iload_n (pc := 76) hX dX3_writeApplicant_76 rfl rfl ?_
    refine j_if_le (pc := 77) (tgt := 84) hX dX3_writeApplicant_77 (by decide) (fun c_77 => ?_) (fun c_77 => ?_)
    · rw [show (0 : Int32) = nI 0 from rfl, nI_leI (by unfold aGv at i4; omega) (by omega)] at c_77
      have c_77' : bitN (ar 0 (3 + 6 * k + 5)) = 0 := by omega
      refine j_iconst (pc := 84) (v := 0) hX dX3_writeApplicant_84 (by decide) ?_
      refine j_bipush (pc := 85) (v := 43) hX dX3_writeApplicant_85 (by decide) ?_
      refine j_iload_n (pc := 87) hX dX3_writeApplicant_87 rfl rfl ?_
      refine j_runv (pc := 88) (jr_V (pc := 88) hX kv_X3_216 (by first | assumption | exact jow.r (by assumption)) (c_X3_saysIf _ _ _ hT hO (by decide) rfl _ 43 (bitN (aGv (ar 0) k)) (by decide) (by omega)) (by decide) dX3_writeApplicant_88 rfl rfl (Nat.le_of_ble_eq_true rfl)) (fun H_88 p_88 z_88 => ?_) jno_x
      obtain ⟨o_88, hO, hR⟩ := p_88
      have hF := JFr.trans hF hR.1
      have hT := hR.2
      rw [jup_jup, jup_jup] at hT
      have ho := hT.2.1
      first | refine j_aload_n (pc := 91) hX dX3_writeApplicant_91 rfl rfl ?_ | refine j_aload_nq (pc := 91) hX dX3_writeApplicant_91 rfl rfl ?_
      first | refine j_aload_n (pc := 92) hX dX3_writeApplicant_92 rfl rfl ?_ | refine j_aload_nq (pc := 92) hX dX3_writeApplicant_92 rfl rfl ?_
      refine j_iload_n (pc := 93) hX dX3_writeApplicant_93 rfl rfl ?_
      refine j_iconst (pc := 94) (v := 4) hX dX3_writeApplicant_94 (by decide) ?_
      refine j_rune (pc := 95) (jr_V (pc := 95) hX kv_X3_55 (by first | assumption | exact jow.r (by assumption)) (c_X3_of _ _ _ hT k 4 hk (by omega)) (by decide) dX3_writeApplicant_95 rfl rfl (Nat.le_of_ble_eq_true rfl)) ?_ jno_x
      change JW X _ _ 0 98 _ (.int (nI (ar 0 (3 + 6 * k + 4))) :: _)
      refine j_if_le (pc := 98) (tgt := 105) hX dX3_writeApplicant_98 (by decide) (fun c_98 => ?_) (fun c_98 => ?_)
      · rw [show (0 : Int32) = nI 0 from rfl, nI_leI (bsL hb (by omega)) (by omega)] at c_98
        have c_98' : ar 0 (3 + 6 * k + 4) = 0 := by omega
        refine j_iconst (pc := 105) (v := 0) hX dX3_writeApplicant_105 (by decide) ?_
        refine j_bipush (pc := 106) (v := 36) hX dX3_writeApplicant_106 (by decide) ?_
        first | refine j_aload_n (pc := 108) hX dX3_writeApplicant_108 rfl rfl ?_ | refine j_aload_nq (pc := 108) hX dX3_writeApplicant_108 rfl rfl ?_
        refine j_iload_n (pc := 109) hX dX3_writeApplicant_109 rfl rfl ?_
        refine j_iconst (pc := 110) (v := 4) hX dX3_writeApplicant_110 (by decide) ?_
        refine j_rune (pc := 111) (jr_V (pc := 111) hX kv_X3_55 (by first | assumption | exact jow.r (by assumption)) (c_X3_of _ _ _ hT k 4 hk (by omega)) (by decide) dX3_writeApplicant_111 rfl rfl (Nat.le_of_ble_eq_true rfl)) ?_ jno_x
        refine j_runv (pc := 114) (jr_V (pc := 114) hX kv_X3_216 (by first | assumption | exact jow.r (by assumption)) (c_X3_saysIf _ _ _ hT hO (by decide) rfl _ 36 (aCo (ar 0) k) (by decide) i3) (by decide) dX3_writeApplicant_114 rfl rfl (Nat.le_of_ble_eq_true rfl)) (fun H_114 p_114 z_114 => ?_) jno_x
        obtain ⟨o_114, hO, hR⟩ := p_114
        have hF := JFr.trans hF hR.1
        have hT := hR.2
        rw [jup_jup, jup_jup] at hT
        have ho := hT.2.1
        first | refine j_aload_n (pc := 117) hX dX3_writeApplicant_117 rfl rfl ?_ | refine j_aload_nq (pc := 117) hX dX3_writeApplicant_117 rfl rfl ?_
        first | refine j_aload_n (pc := 118) hX dX3_writeApplicant_118 rfl rfl ?_ | refine j_aload_nq (pc := 118) hX dX3_writeApplicant_118 rfl rfl ?_
        refine j_iload_n (pc := 119) hX dX3_writeApplicant_119 rfl rfl ?_
        refine j_rune (pc := 120) (jr_V (pc := 120) hX kv_X3_66 (by first | assumption | exact jow.r (by assumption)) (c_X3_filledWith _ _ _ hT hB k hk) (by decide) dX3_writeApplicant_120 rfl rfl (Nat.le_of_ble_eq_true rfl)) ?_ jno_x
        change JW X _ _ 0 123 _ (.int (oI (fillN (ar 0) k)) :: _)
        refine j_if_lt (pc := 123) (tgt := 130) hX dX3_writeApplicant_123 (by decide) (fun c_123 => ?_) (fun c_123 => ?_)
        · rw [oI_neg' (fun _ => fillN_lt) (by omega)] at c_123
          have ev : nI ((fillN (ar 0) k).getD 0) = 0 ∨ True := Or.inr True.intro
          refine j_iconst (pc := 130) (v := 0) hX dX3_writeApplicant_130 (by decide) ?_
          refine j_bipush (pc := 131) (v := 64) hX dX3_writeApplicant_131 (by decide) ?_
          first | refine j_aload_n (pc := 133) hX dX3_writeApplicant_133 rfl rfl ?_ | refine j_aload_nq (pc := 133) hX dX3_writeApplicant_133 rfl rfl ?_
          refine j_iload_n (pc := 134) hX dX3_writeApplicant_134 rfl rfl ?_
          refine j_rune (pc := 135) (jr_V (pc := 135) hX kv_X3_66 (by first | assumption | exact jow.r (by assumption)) (c_X3_filledWith _ _ _ hT hB k hk) (by decide) dX3_writeApplicant_135 rfl rfl (Nat.le_of_ble_eq_true rfl)) ?_ jno_x
          change JW X _ _ 0 138 _ (.int (oI (fillN (ar 0) k)) :: _)
          refine j_runv (pc := 138) (jr_V (pc := 138) hX kv_X3_216 (by first | assumption | exact jow.r (by assumption)) (c_X3_saysIfO _ _ _ hT hO (by decide) rfl _ 64 (fillN (ar 0) k) (by decide) (fun q hq => by have := fillN_lt hq; omega) (by simp [c_123])) (by decide) dX3_writeApplicant_138 rfl rfl (Nat.le_of_ble_eq_true rfl)) (fun H_138 p_138 z_138 => ?_) jno_x
          obtain ⟨o_138, hO, hR⟩ := p_138
          have hF := JFr.trans hF hR.1
          have hT := hR.2
          rw [jup_jup, jup_jup] at hT
          have ho := hT.2.1
          first | refine j_aload_n (pc := 141) hX dX3_writeApplicant_141 rfl rfl ?_ | refine j_aload_nq (pc := 141) hX dX3_writeApplicant_141 rfl rfl ?_
          skip
          refine j_get (pc := 142) hX kg_X3_207 dX3_writeApplicant_142 (by first | assumption | exact jow.r (by assumption)) (by rfl) ?_
          exact j_iret hX hQ hr dX3_writeApplicant_145 ⟨_, rfl, by unfold wrP; rw [c_8]; exact tell_end (by simp [tellN, aGv, aCo, c_77', c_98', c_123]) hO.1 ⟨hF, hT⟩⟩
        · rw [Int32.not_lt, oI_pos' (fun _ => fillN_lt) (by omega)] at c_123
          obtain ⟨p, c_123, hp⟩ := c_123
          refine j_iconst (pc := 126) (v := 1) hX dX3_writeApplicant_126 (by decide) ?_
          refine j_goto (pc := 127) (tgt := 131) hX dX3_writeApplicant_127 (by decide) ?_
          refine j_bipush (pc := 131) (v := 64) hX dX3_writeApplicant_131 (by decide) ?_
          first | refine j_aload_n (pc := 133) hX dX3_writeApplicant_133 rfl rfl ?_ | refine j_aload_nq (pc := 133) hX dX3_writeApplicant_133 rfl rfl ?_
          refine j_iload_n (pc := 134) hX dX3_writeApplicant_134 rfl rfl ?_
          refine j_rune (pc := 135) (jr_V (pc := 135) hX kv_X3_66 (by first | assumption | exact jow.r (by assumption)) (c_X3_filledWith _ _ _ hT hB k hk) (by decide) dX3_writeApplicant_135 rfl rfl (Nat.le_of_ble_eq_true rfl)) ?_ jno_x
          change JW X _ _ 0 138 _ (.int (oI (fillN (ar 0) k)) :: _)
          refine j_runv (pc := 138) (jr_V (pc := 138) hX kv_X3_216 (by first | assumption | exact jow.r (by assumption)) (c_X3_saysIfO _ _ _ hT hO (by decide) rfl _ 64 (fillN (ar 0) k) (by decide) (fun q hq => by have := fillN_lt hq; omega) (by simp [c_123])) (by decide) dX3_writeApplicant_138 rfl rfl (Nat.le_of_ble_eq_true rfl)) (fun H_138 p_138 z_138 => ?_) jno_x
          obtain ⟨o_138, hO, hR⟩ := p_138
          have hF := JFr.trans hF hR.1
          have hT := hR.2
          rw [jup_jup, jup_jup] at hT
          have ho := hT.2.1
          first | refine j_aload_n (pc := 141) hX dX3_writeApplicant_141 rfl rfl ?_ | refine j_aload_nq (pc := 141) hX dX3_writeApplicant_141 rfl rfl ?_
          skip
          refine j_get (pc := 142) hX kg_X3_207 dX3_writeApplicant_142 (by first | assumption | exact jow.r (by assumption)) (by rfl) ?_
          exact j_iret hX hQ hr dX3_writeApplicant_145 ⟨_, rfl, by unfold wrP; rw [c_8]; exact tell_end (by simp [tellN, aGv, aCo, c_77', c_98', c_123]) hO.1 ⟨hF, hT⟩⟩
      · rw [show (0 : Int32) = nI 0 from rfl, nI_leI (bsL hb (by omega)) (by omega)] at c_98
        have c_98' : ¬ ar 0 (3 + 6 * k + 4) = 0 := by omega
        refine j_iconst (pc := 101) (v := 1) hX dX3_writeApplicant_101 (by decide) ?_
        refine j_goto (pc := 102) (tgt := 106) hX dX3_writeApplicant_102 (by decide) ?_
        refine j_bipush (pc := 106) (v := 36) hX dX3_writeApplicant_106 (by decide) ?_
        first | refine j_aload_n (pc := 108) hX dX3_writeApplicant_108 rfl rfl ?_ | refine j_aload_nq (pc := 108) hX dX3_writeApplicant_108 rfl rfl ?_
        refine j_iload_n (pc := 109) hX dX3_writeApplicant_109 rfl rfl ?_
        refine j_iconst (pc := 110) (v := 4) hX dX3_writeApplicant_110 (by decide) ?_
        refine j_rune (pc := 111) (jr_V (pc := 111) hX kv_X3_55 (by first | assumption | exact jow.r (by assumption)) (c_X3_of _ _ _ hT k 4 hk (by omega)) (by decide) dX3_writeApplicant_111 rfl rfl (Nat.le_of_ble_eq_true rfl)) ?_ jno_x
        refine j_runv (pc := 114) (jr_V (pc := 114) hX kv_X3_216 (by first | assumption | exact jow.r (by assumption)) (c_X3_saysIf _ _ _ hT hO (by decide) rfl _ 36 (aCo (ar 0) k) (by decide) i3) (by decide) dX3_writeApplicant_114 rfl rfl (Nat.le_of_ble_eq_true rfl)) (fun H_114 p_114 z_114 => ?_) jno_x
        obtain ⟨o_114, hO, hR⟩ := p_114
        have hF := JFr.trans hF hR.1
        have hT := hR.2
        rw [jup_jup, jup_jup] at hT
        have ho := hT.2.1
        first | refine j_aload_n (pc := 117) hX dX3_writeApplicant_117 rfl rfl ?_ | refine j_aload_nq (pc := 117) hX dX3_writeApplicant_117 rfl rfl ?_
        first | refine j_aload_n (pc := 118) hX dX3_writeApplicant_118 rfl rfl ?_ | refine j_aload_nq (pc := 118) hX dX3_writeApplicant_118 rfl rfl ?_
        refine j_iload_n (pc := 119) hX dX3_writeApplicant_119 rfl rfl ?_
        refine j_rune (pc := 120) (jr_V (pc := 120) hX kv_X3_66 (by first | assumption | exact jow.r (by assumption)) (c_X3_filledWith _ _ _ hT hB k hk) (by decide) dX3_writeApplicant_120 rfl rfl (Nat.le_of_ble_eq_true rfl)) ?_ jno_x
        change JW X _ _ 0 123 _ (.int (oI (fillN (ar 0) k)) :: _)
        refine j_if_lt (pc := 123) (tgt := 130) hX dX3_writeApplicant_123 (by decide) (fun c_123 => ?_) (fun c_123 => ?_)
        · rw [oI_neg' (fun _ => fillN_lt) (by omega)] at c_123
          have ev : nI ((fillN (ar 0) k).getD 0) = 0 ∨ True := Or.inr True.intro
          refine j_iconst (pc := 130) (v := 0) hX dX3_writeApplicant_130 (by decide) ?_
          refine j_bipush (pc := 131) (v := 64) hX dX3_writeApplicant_131 (by decide) ?_
          first | refine j_aload_n (pc := 133) hX dX3_writeApplicant_133 rfl rfl ?_ | refine j_aload_nq (pc := 133) hX dX3_writeApplicant_133 rfl rfl ?_
          refine j_iload_n (pc := 134) hX dX3_writeApplicant_134 rfl rfl ?_
          refine j_rune (pc := 135) (jr_V (pc := 135) hX kv_X3_66 (by first | assumption | exact jow.r (by assumption)) (c_X3_filledWith _ _ _ hT hB k hk) (by decide) dX3_writeApplicant_135 rfl rfl (Nat.le_of_ble_eq_true rfl)) ?_ jno_x
          change JW X _ _ 0 138 _ (.int (oI (fillN (ar 0) k)) :: _)
          refine j_runv (pc := 138) (jr_V (pc := 138) hX kv_X3_216 (by first | assumption | exact jow.r (by assumption)) (c_X3_saysIfO _ _ _ hT hO (by decide) rfl _ 64 (fillN (ar 0) k) (by decide) (fun q hq => by have := fillN_lt hq; omega) (by simp [c_123])) (by decide) dX3_writeApplicant_138 rfl rfl (Nat.le_of_ble_eq_true rfl)) (fun H_138 p_138 z_138 => ?_) jno_x
          obtain ⟨o_138, hO, hR⟩ := p_138
          have hF := JFr.trans hF hR.1
          have hT := hR.2
          rw [jup_jup, jup_jup] at hT
          have ho := hT.2.1
          first | refine j_aload_n (pc := 141) hX dX3_writeApplicant_141 rfl rfl ?_ | refine j_aload_nq (pc := 141) hX dX3_writeApplicant_141 rfl rfl ?_
          skip
          refine j_get (pc := 142) hX kg_X3_207 dX3_writeApplicant_142 (by first | assumption | exact jow.r (by assumption)) (by rfl) ?_
          exact j_iret hX hQ hr dX3_writeApplicant_145 ⟨_, rfl, by unfold wrP; rw [c_8]; exact tell_end (by simp [tellN, aGv, aCo, c_77', c_98', c_123]) hO.1 ⟨hF, hT⟩⟩
        · rw [Int32.not_lt, oI_pos' (fun _ => fillN_lt) (by omega)] at c_123
          obtain ⟨p, c_123, hp⟩ := c_123
          refine j_iconst (pc := 126) (v := 1) hX dX3_writeApplicant_126 (by decide) ?_
          refine j_goto (pc := 127) (tgt := 131) hX dX3_writeApplicant_127 (by decide) ?_
          refine j_bipush (pc := 131) (v := 64) hX dX3_writeApplicant_131 (by decide) ?_
          first | refine j_aload_n (pc := 133) hX dX3_writeApplicant_133 rfl rfl ?_ | refine j_aload_nq (pc := 133) hX dX3_writeApplicant_133 rfl rfl ?_
          refine j_iload_n (pc := 134) hX dX3_writeApplicant_134 rfl rfl ?_
          refine j_rune (pc := 135) (jr_V (pc := 135) hX kv_X3_66 (by first | assumption | exact jow.r (by assumption)) (c_X3_filledWith _ _ _ hT hB k hk) (by decide) dX3_writeApplicant_135 rfl rfl (Nat.le_of_ble_eq_true rfl)) ?_ jno_x
          change JW X _ _ 0 138 _ (.int (oI (fillN (ar 0) k)) :: _)
          refine j_runv (pc := 138) (jr_V (pc := 138) hX kv_X3_216 (by first | assumption | exact jow.r (by assumption)) (c_X3_saysIfO _ _ _ hT hO (by decide) rfl _ 64 (fillN (ar 0) k) (by decide) (fun q hq => by have := fillN_lt hq; omega) (by simp [c_123])) (by decide) dX3_writeApplicant_138 rfl rfl (Nat.le_of_ble_eq_true rfl)) (fun H_138 p_138 z_138 => ?_) jno_x
          obtain ⟨o_138, hO, hR⟩ := p_138
          have hF := JFr.trans hF hR.1
          have hT := hR.2
          rw [jup_jup, jup_jup] at hT
          have ho := hT.2.1
          first | refine j_aload_n (pc := 141) hX dX3_writeApplicant_141 rfl rfl ?_ | refine j_aload_nq (pc := 141) hX dX3_writeApplicant_141 rfl rfl ?_
          skip
          refine j_get (pc := 142) hX kg_X3_207 dX3_writeApplicant_142 (by first | assumption | exact jow.r (by assumption)) (by rfl) ?_
          exact j_iret hX hQ hr dX3_writeApplicant_145 ⟨_, rfl, by unfold wrP; rw [c_8]; exact tell_end (by simp [tellN, aGv, aCo, c_77', c_98', c_123]) hO.1 ⟨hF, hT⟩⟩
    · rw [show (0 : Int32) = nI 0 from rfl, nI_leI (by unfold aGv at i4; omega) (by omega)] at c_77
      have c_77' : ¬ bitN (ar 0 (3 + 6 * k + 5)) = 0 := by omega
      refine j_iconst (pc := 80) (v := 1) hX dX3_writeApplicant_80 (by decide) ?_
      refine j_goto (pc := 81) (tgt := 85) hX dX3_writeApplicant_81 (by decide) ?_
      refine j_bipush (pc := 85) (v := 43) hX dX3_writeApplicant_85 (by decide) ?_
      refine j_iload_n (pc := 87) hX dX3_writeApplicant_87 rfl rfl ?_
      refine j_runv (pc := 88) (jr_V (pc := 88) hX kv_X3_216 (by first | assumption | exact jow.r (by assumption)) (c_X3_saysIf _ _ _ hT hO (by decide) rfl _ 43 (bitN (aGv (ar 0) k)) (by decide) (by omega)) (by decide) dX3_writeApplicant_88 rfl rfl (Nat.le_of_ble_eq_true rfl)) (fun H_88 p_88 z_88 => ?_) jno_x
      obtain ⟨o_88, hO, hR⟩ := p_88
      have hF := JFr.trans hF hR.1
      have hT := hR.2
      rw [jup_jup, jup_jup] at hT
      have ho := hT.2.1
      first | refine j_aload_n (pc := 91) hX dX3_writeApplicant_91 rfl rfl ?_ | refine j_aload_nq (pc := 91) hX dX3_writeApplicant_91 rfl rfl ?_
      first | refine j_aload_n (pc := 92) hX dX3_writeApplicant_92 rfl rfl ?_ | refine j_aload_nq (pc := 92) hX dX3_writeApplicant_92 rfl rfl ?_
      refine j_iload_n (pc := 93) hX dX3_writeApplicant_93 rfl rfl ?_
      refine j_iconst (pc := 94) (v := 4) hX dX3_writeApplicant_94 (by decide) ?_
      refine j_rune (pc := 95) (jr_V (pc := 95) hX kv_X3_55 (by first | assumption | exact jow.r (by assumption)) (c_X3_of _ _ _ hT k 4 hk (by omega)) (by decide) dX3_writeApplicant_95 rfl rfl (Nat.le_of_ble_eq_true rfl)) ?_ jno_x
      change JW X _ _ 0 98 _ (.int (nI (ar 0 (3 + 6 * k + 4))) :: _)
      refine j_if_le (pc := 98) (tgt := 105) hX dX3_writeApplicant_98 (by decide) (fun c_98 => ?_) (fun c_98 => ?_)
      · rw [show (0 : Int32) = nI 0 from rfl, nI_leI (bsL hb (by omega)) (by omega)] at c_98
        have c_98' : ar 0 (3 + 6 * k + 4) = 0 := by omega
        refine j_iconst (pc := 105) (v := 0) hX dX3_writeApplicant_105 (by decide) ?_
        refine j_bipush (pc := 106) (v := 36) hX dX3_writeApplicant_106 (by decide) ?_
        first | refine j_aload_n (pc := 108) hX dX3_writeApplicant_108 rfl rfl ?_ | refine j_aload_nq (pc := 108) hX dX3_writeApplicant_108 rfl rfl ?_
        refine j_iload_n (pc := 109) hX dX3_writeApplicant_109 rfl rfl ?_
        refine j_iconst (pc := 110) (v := 4) hX dX3_writeApplicant_110 (by decide) ?_
        refine j_rune (pc := 111) (jr_V (pc := 111) hX kv_X3_55 (by first | assumption | exact jow.r (by assumption)) (c_X3_of _ _ _ hT k 4 hk (by omega)) (by decide) dX3_writeApplicant_111 rfl rfl (Nat.le_of_ble_eq_true rfl)) ?_ jno_x
        refine j_runv (pc := 114) (jr_V (pc := 114) hX kv_X3_216 (by first | assumption | exact jow.r (by assumption)) (c_X3_saysIf _ _ _ hT hO (by decide) rfl _ 36 (aCo (ar 0) k) (by decide) i3) (by decide) dX3_writeApplicant_114 rfl rfl (Nat.le_of_ble_eq_true rfl)) (fun H_114 p_114 z_114 => ?_) jno_x
        obtain ⟨o_114, hO, hR⟩ := p_114
        have hF := JFr.trans hF hR.1
        have hT := hR.2
        rw [jup_jup, jup_jup] at hT
        have ho := hT.2.1
        first | refine j_aload_n (pc := 117) hX dX3_writeApplicant_117 rfl rfl ?_ | refine j_aload_nq (pc := 117) hX dX3_writeApplicant_117 rfl rfl ?_
        first | refine j_aload_n (pc := 118) hX dX3_writeApplicant_118 rfl rfl ?_ | refine j_aload_nq (pc := 118) hX dX3_writeApplicant_118 rfl rfl ?_
        refine j_iload_n (pc := 119) hX dX3_writeApplicant_119 rfl rfl ?_
        refine j_rune (pc := 120) (jr_V (pc := 120) hX kv_X3_66 (by first | assumption | exact jow.r (by assumption)) (c_X3_filledWith _ _ _ hT hB k hk) (by decide) dX3_writeApplicant_120 rfl rfl (Nat.le_of_ble_eq_true rfl)) ?_ jno_x
        change JW X _ _ 0 123 _ (.int (oI (fillN (ar 0) k)) :: _)
        refine j_if_lt (pc := 123) (tgt := 130) hX dX3_writeApplicant_123 (by decide) (fun c_123 => ?_) (fun c_123 => ?_)
        · rw [oI_neg' (fun _ => fillN_lt) (by omega)] at c_123
          have ev : nI ((fillN (ar 0) k).getD 0) = 0 ∨ True := Or.inr True.intro
          refine j_iconst (pc := 130) (v := 0) hX dX3_writeApplicant_130 (by decide) ?_
          refine j_bipush (pc := 131) (v := 64) hX dX3_writeApplicant_131 (by decide) ?_
          first | refine j_aload_n (pc := 133) hX dX3_writeApplicant_133 rfl rfl ?_ | refine j_aload_nq (pc := 133) hX dX3_writeApplicant_133 rfl rfl ?_
          refine j_iload_n (pc := 134) hX dX3_writeApplicant_134 rfl rfl ?_
          refine j_rune (pc := 135) (jr_V (pc := 135) hX kv_X3_66 (by first | assumption | exact jow.r (by assumption)) (c_X3_filledWith _ _ _ hT hB k hk) (by decide) dX3_writeApplicant_135 rfl rfl (Nat.le_of_ble_eq_true rfl)) ?_ jno_x
          change JW X _ _ 0 138 _ (.int (oI (fillN (ar 0) k)) :: _)
          refine j_runv (pc := 138) (jr_V (pc := 138) hX kv_X3_216 (by first | assumption | exact jow.r (by assumption)) (c_X3_saysIfO _ _ _ hT hO (by decide) rfl _ 64 (fillN (ar 0) k) (by decide) (fun q hq => by have := fillN_lt hq; omega) (by simp [c_123])) (by decide) dX3_writeApplicant_138 rfl rfl (Nat.le_of_ble_eq_true rfl)) (fun H_138 p_138 z_138 => ?_) jno_x
          obtain ⟨o_138, hO, hR⟩ := p_138
          have hF := JFr.trans hF hR.1
          have hT := hR.2
          rw [jup_jup, jup_jup] at hT
          have ho := hT.2.1
          first | refine j_aload_n (pc := 141) hX dX3_writeApplicant_141 rfl rfl ?_ | refine j_aload_nq (pc := 141) hX dX3_writeApplicant_141 rfl rfl ?_
          skip
          refine j_get (pc := 142) hX kg_X3_207 dX3_writeApplicant_142 (by first | assumption | exact jow.r (by assumption)) (by rfl) ?_
          exact j_iret hX hQ hr dX3_writeApplicant_145 ⟨_, rfl, by unfold wrP; rw [c_8]; exact tell_end (by simp [tellN, aGv, aCo, c_77', c_98', c_123]) hO.1 ⟨hF, hT⟩⟩
        · rw [Int32.not_lt, oI_pos' (fun _ => fillN_lt) (by omega)] at c_123
          obtain ⟨p, c_123, hp⟩ := c_123
          refine j_iconst (pc := 126) (v := 1) hX dX3_writeApplicant_126 (by decide) ?_
          refine j_goto (pc := 127) (tgt := 131) hX dX3_writeApplicant_127 (by decide) ?_
          refine j_bipush (pc := 131) (v := 64) hX dX3_writeApplicant_131 (by decide) ?_
          first | refine j_aload_n (pc := 133) hX dX3_writeApplicant_133 rfl rfl ?_ | refine j_aload_nq (pc := 133) hX dX3_writeApplicant_133 rfl rfl ?_
          refine j_iload_n (pc := 134) hX dX3_writeApplicant_134 rfl rfl ?_
          refine j_rune (pc := 135) (jr_V (pc := 135) hX kv_X3_66 (by first | assumption | exact jow.r (by assumption)) (c_X3_filledWith _ _ _ hT hB k hk) (by decide) dX3_writeApplicant_135 rfl rfl (Nat.le_of_ble_eq_true rfl)) ?_ jno_x
          change JW X _ _ 0 138 _ (.int (oI (fillN (ar 0) k)) :: _)
          refine j_runv (pc := 138) (jr_V (pc := 138) hX kv_X3_216 (by first | assumption | exact jow.r (by assumption)) (c_X3_saysIfO _ _ _ hT hO (by decide) rfl _ 64 (fillN (ar 0) k) (by decide) (fun q hq => by have := fillN_lt hq; omega) (by simp [c_123])) (by decide) dX3_writeApplicant_138 rfl rfl (Nat.le_of_ble_eq_true rfl)) (fun H_138 p_138 z_138 => ?_) jno_x
          obtain ⟨o_138, hO, hR⟩ := p_138
          have hF := JFr.trans hF hR.1
          have hT := hR.2
          rw [jup_jup, jup_jup] at hT
          have ho := hT.2.1
          first | refine j_aload_n (pc := 141) hX dX3_writeApplicant_141 rfl rfl ?_ | refine j_aload_nq (pc := 141) hX dX3_writeApplicant_141 rfl rfl ?_
          skip
          refine j_get (pc := 142) hX kg_X3_207 dX3_writeApplicant_142 (by first | assumption | exact jow.r (by assumption)) (by rfl) ?_
          exact j_iret hX hQ hr dX3_writeApplicant_145 ⟨_, rfl, by unfold wrP; rw [c_8]; exact tell_end (by simp [tellN, aGv, aCo, c_77', c_98', c_123]) hO.1 ⟨hF, hT⟩⟩
      · rw [show (0 : Int32) = nI 0 from rfl, nI_leI (bsL hb (by omega)) (by omega)] at c_98
        have c_98' : ¬ ar 0 (3 + 6 * k + 4) = 0 := by omega
        refine j_iconst (pc := 101) (v := 1) hX dX3_writeApplicant_101 (by decide) ?_
        refine j_goto (pc := 102) (tgt := 106) hX dX3_writeApplicant_102 (by decide) ?_
        refine j_bipush (pc := 106) (v := 36) hX dX3_writeApplicant_106 (by decide) ?_
        first | refine j_aload_n (pc := 108) hX dX3_writeApplicant_108 rfl rfl ?_ | refine j_aload_nq (pc := 108) hX dX3_writeApplicant_108 rfl rfl ?_
        refine j_iload_n (pc := 109) hX dX3_writeApplicant_109 rfl rfl ?_
        refine j_iconst (pc := 110) (v := 4) hX dX3_writeApplicant_110 (by decide) ?_
        refine j_rune (pc := 111) (jr_V (pc := 111) hX kv_X3_55 (by first | assumption | exact jow.r (by assumption)) (c_X3_of _ _ _ hT k 4 hk (by omega)) (by decide) dX3_writeApplicant_111 rfl rfl (Nat.le_of_ble_eq_true rfl)) ?_ jno_x
        refine j_runv (pc := 114) (jr_V (pc := 114) hX kv_X3_216 (by first | assumption | exact jow.r (by assumption)) (c_X3_saysIf _ _ _ hT hO (by decide) rfl _ 36 (aCo (ar 0) k) (by decide) i3) (by decide) dX3_writeApplicant_114 rfl rfl (Nat.le_of_ble_eq_true rfl)) (fun H_114 p_114 z_114 => ?_) jno_x
        obtain ⟨o_114, hO, hR⟩ := p_114
        have hF := JFr.trans hF hR.1
        have hT := hR.2
        rw [jup_jup, jup_jup] at hT
        have ho := hT.2.1
        first | refine j_aload_n (pc := 117) hX dX3_writeApplicant_117 rfl rfl ?_ | refine j_aload_nq (pc := 117) hX dX3_writeApplicant_117 rfl rfl ?_
        first | refine j_aload_n (pc := 118) hX dX3_writeApplicant_118 rfl rfl ?_ | refine j_aload_nq (pc := 118) hX dX3_writeApplicant_118 rfl rfl ?_
        refine j_iload_n (pc := 119) hX dX3_writeApplicant_119 rfl rfl ?_
        refine j_rune (pc := 120) (jr_V (pc := 120) hX kv_X3_66 (by first | assumption | exact jow.r (by assumption)) (c_X3_filledWith _ _ _ hT hB k hk) (by decide) dX3_writeApplicant_120 rfl rfl (Nat.le_of_ble_eq_true rfl)) ?_ jno_x
        change JW X _ _ 0 123 _ (.int (oI (fillN (ar 0) k)) :: _)
        refine j_if_lt (pc := 123) (tgt := 130) hX dX3_writeApplicant_123 (by decide) (fun c_123 => ?_) (fun c_123 => ?_)
        · rw [oI_neg' (fun _ => fillN_lt) (by omega)] at c_123
          have ev : nI ((fillN (ar 0) k).getD 0) = 0 ∨ True := Or.inr True.intro
          refine j_iconst (pc := 130) (v := 0) hX dX3_writeApplicant_130 (by decide) ?_
          refine j_bipush (pc := 131) (v := 64) hX dX3_writeApplicant_131 (by decide) ?_
          first | refine j_aload_n (pc := 133) hX dX3_writeApplicant_133 rfl rfl ?_ | refine j_aload_nq (pc := 133) hX dX3_writeApplicant_133 rfl rfl ?_
          refine j_iload_n (pc := 134) hX dX3_writeApplicant_134 rfl rfl ?_
          refine j_rune (pc := 135) (jr_V (pc := 135) hX kv_X3_66 (by first | assumption | exact jow.r (by assumption)) (c_X3_filledWith _ _ _ hT hB k hk) (by decide) dX3_writeApplicant_135 rfl rfl (Nat.le_of_ble_eq_true rfl)) ?_ jno_x
          change JW X _ _ 0 138 _ (.int (oI (fillN (ar 0) k)) :: _)
          refine j_runv (pc := 138) (jr_V (pc := 138) hX kv_X3_216 (by first | assumption | exact jow.r (by assumption)) (c_X3_saysIfO _ _ _ hT hO (by decide) rfl _ 64 (fillN (ar 0) k) (by decide) (fun q hq => by have := fillN_lt hq; omega) (by simp [c_123])) (by decide) dX3_writeApplicant_138 rfl rfl (Nat.le_of_ble_eq_true rfl)) (fun H_138 p_138 z_138 => ?_) jno_x
          obtain ⟨o_138, hO, hR⟩ := p_138
          have hF := JFr.trans hF hR.1
          have hT := hR.2
          rw [jup_jup, jup_jup] at hT
          have ho := hT.2.1
          first | refine j_aload_n (pc := 141) hX dX3_writeApplicant_141 rfl rfl ?_ | refine j_aload_nq (pc := 141) hX dX3_writeApplicant_141 rfl rfl ?_
          skip
          refine j_get (pc := 142) hX kg_X3_207 dX3_writeApplicant_142 (by first | assumption | exact jow.r (by assumption)) (by rfl) ?_
          exact j_iret hX hQ hr dX3_writeApplicant_145 ⟨_, rfl, by unfold wrP; rw [c_8]; exact tell_end (by simp [tellN, aGv, aCo, c_77', c_98', c_123]) hO.1 ⟨hF, hT⟩⟩
        · rw [Int32.not_lt, oI_pos' (fun _ => fillN_lt) (by omega)] at c_123
          obtain ⟨p, c_123, hp⟩ := c_123
          refine j_iconst (pc := 126) (v := 1) hX dX3_writeApplicant_126 (by decide) ?_
          refine j_goto (pc := 127) (tgt := 131) hX dX3_writeApplicant_127 (by decide) ?_
          refine j_bipush (pc := 131) (v := 64) hX dX3_writeApplicant_131 (by decide) ?_
          first | refine j_aload_n (pc := 133) hX dX3_writeApplicant_133 rfl rfl ?_ | refine j_aload_nq (pc := 133) hX dX3_writeApplicant_133 rfl rfl ?_
          refine j_iload_n (pc := 134) hX dX3_writeApplicant_134 rfl rfl ?_
          refine j_rune (pc := 135) (jr_V (pc := 135) hX kv_X3_66 (by first | assumption | exact jow.r (by assumption)) (c_X3_filledWith _ _ _ hT hB k hk) (by decide) dX3_writeApplicant_135 rfl rfl (Nat.le_of_ble_eq_true rfl)) ?_ jno_x
          change JW X _ _ 0 138 _ (.int (oI (fillN (ar 0) k)) :: _)
          refine j_runv (pc := 138) (jr_V (pc := 138) hX kv_X3_216 (by first | assumption | exact jow.r (by assumption)) (c_X3_saysIfO _ _ _ hT hO (by decide) rfl _ 64 (fillN (ar 0) k) (by decide) (fun q hq => by have := fillN_lt hq; omega) (by simp [c_123])) (by decide) dX3_writeApplicant_138 rfl rfl (Nat.le_of_ble_eq_true rfl)) (fun H_138 p_138 z_138 => ?_) jno_x
          obtain ⟨o_138, hO, hR⟩ := p_138
          have hF := JFr.trans hF hR.1
          have hT := hR.2
          rw [jup_jup, jup_jup] at hT
          have ho := hT.2.1
          first | refine j_aload_n (pc := 141) hX dX3_writeApplicant_141 rfl rfl ?_ | refine j_aload_nq (pc := 141) hX dX3_writeApplicant_141 rfl rfl ?_
          skip
          refine j_get (pc := 142) hX kg_X3_207 dX3_writeApplicant_142 (by first | assumption | exact jow.r (by assumption)) (by rfl) ?_
          exact j_iret hX hQ hr dX3_writeApplicant_145 ⟨_, rfl, by unfold wrP; rw [c_8]; exact tell_end (by simp [tellN, aGv, aCo, c_77', c_98', c_123]) hO.1 ⟨hF, hT⟩⟩
