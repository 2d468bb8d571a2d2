/-! the reference: the most hires, by sets of posts -/
set_option maxRecDepth 100000
def dpP (s : Nat → Nat) (k set p : Nat) (can : Nat → Bool) : Nat → Bool := if can set = true then can else jup can set (set.testBit p && (decide (pFl s p = 0) && (fitN s k p && can (clrB set p))))
def dpS (s : Nat → Nat) (k j : Nat) (can : Nat → Bool) : Nat → Bool := jfold (dpP s k (63 - j)) (s 2) can
def dpK (s : Nat → Nat) (k : Nat) (can : Nat → Bool) : Nat → Bool := if waitN s k = true then jfold (dpS s k) 64 can else can
def dp0 : Nat → Bool := fun j => decide (j = 0)
def dpN (s : Nat → Nat) : Nat → Bool := jfold (dpK s) 10 dp0
def mostF (can : Nat → Bool) (set a : Nat) : Nat := if can set = true then max a (bitN set) else a
def mostN (s : Nat → Nat) : Nat := jfold (mostF (dpN s)) 64 0
theorem dp_stay {s : Nat → Nat} {k set : Nat} {can : Nat → Bool} {i : Nat} (h : jfold (dpP s k set) i can set = true) : ∀ n, i ≤ n → jfold (dpP s k set) n can = jfold (dpP s k set) i can := by
  intro n hn
  obtain ⟨m, rfl⟩ : ∃ m, n = i + m := ⟨n - i, by omega⟩
  clear hn
  induction m with
  | zero => rfl
  | succ m ih => rw [← Nat.add_assoc, jfold_succ, ih]; exact if_pos h
theorem dp_go {s : Nat → Nat} {k set p : Nat} {can : Nat → Bool} (h : can set = false) : dpP s k set p can = jup can set (set.testBit p && (decide (pFl s p = 0) && (fitN s k p && can (clrB set p)))) := by unfold dpP; rw [if_neg (by rw [h]; decide)]
def CA (G : JG) (H : Heap) (a : Nat) (C : Nat → Bool) : Prop := jaw G H a 3 64 (fun j => .int (jb (C j)))
theorem CA.set {G : JG} {H1 : Heap} {a : Nat} {C : Nat → Bool} {i : Nat} {b : Bool} (h : jaw G H1 a 3 64 (fun j => .int (jup (fun j => jb (C j)) i (jb b) j))) : CA G H1 a (jup C i b) :=
  jaw.congr h (fun j _ => by unfold jup; split <;> rfl)
theorem nI_dec (m : Nat) : nI m + (-1) = nI m - 1 := by rw [Int32.sub_eq_add_neg]
theorem nI_max {a b : Nat} (ha : a < 2 ^ 31) (hb : b < 2 ^ 31) : (if nI a < nI b then nI b else nI a) = nI (max a b) := by
  have e : nI a < nI b ↔ a < b := nI_ltI ha hb
  by_cases q : a < b
  · rw [if_pos (e.mpr q), Nat.max_eq_right (by omega)]
  · rw [if_neg (fun z => q (e.mp z)), Nat.max_eq_left (by omega)]
theorem mostF_le {can : Nat → Bool} : ∀ i, jfold (mostF can) i 0 ≤ 10 := by
  intro i
  induction i with
  | zero => exact Nat.zero_le _
  | succ i ih => rw [jfold_succ]; have := bitN_le i; generalize jfold (mostF can) i 0 = z at *; unfold mostF; split <;> omega
theorem c_X3_mostHires (l : Launch) (G : JG) (H : Heap) {g : Nat → Nat} {ar : Nat → Nat → Nat} {cm fs : Nat → Int32} (hT : jtw G H g ar cm fs) (hB : Bs (ar 0)) : JMet l yX3_mostHires (ws_ yX3_mostHires cX3_mostHires 7 (some .int)) 4 16 G H [.ref (g 100)] (twQ G H g ar cm fs (0, nI (mostN (ar 0)))) (jno) := by
  refine JMet.of [(0, .inr (some (g 100)))] (by decide) (Nat.le_of_ble_eq_true rfl) rfl (fun X hl hX hQ hEx hr hnm hH => ?_)
  subst hl
  obtain ⟨h0, ho, hs, hbf, hsv, hpa, hou, hip, hcm⟩ := id hT
  have hi2 : vp_in (2 : Int32) 93 := vp_in_nI (n := 2) (by omega) (by decide)
  obtain ⟨h2, hb, hf, hg⟩ := id hB
  first | refine j_aload_n (pc := 0) hX dX3_mostHires_0 rfl rfl ?_ | refine j_aload_nq (pc := 0) hX dX3_mostHires_0 rfl rfl ?_
  refine j_iconst (pc := 1) (v := 0) hX dX3_mostHires_1 (by decide) ?_
  refine j_put (pc := 2) hX kp_X3_39 dX3_mostHires_2 (by assumption) (by first | assumption | omega | exact h0.1 _ (by decide)) rfl rfl rfl (fun H_2 w_2 n_2 => ?_)
  have hT := tw_put6 hT w_2 n_2
  have hF : JFr (twP g) H H_2 := w_2.fr ⟨100, by decide, rfl⟩
  refine j_bipush (pc := 5) (v := 64) hX dX3_mostHires_5 (by decide) ?_
  skip
  refine j_newa (pc := 7) hX ka_3 64 16 rfl (by omega) (by omega) dX3_mostHires_7 (fun H_7 z_7 e_7 n_7 b_7 => ?_)
  have hT := hT.ext e_7
  have hF := hF.trans e_7.fr
  first | refine j_astore_n (pc := 9) hX dX3_mostHires_9 rfl (by decide) rfl ?_ | refine j_astore_nN (pc := 9) hX dX3_mostHires_9 rfl (by decide) rfl ?_ | refine j_astore_nq (pc := 9) hX dX3_mostHires_9 rfl (by decide) rfl ?_
  skip
  have hlt := (jtw.lt (g := g) (hT.kept (H1 := H_7) (fun _ _ => rfl)))
  obtain ⟨a, ea⟩ : ∃ a, H_2.size = a := ⟨_, rfl⟩
  have hga : ∀ i ∈ twL, g i ≠ a := fun i hi => by
    have hT2 : jtw G H_2 g ar cm (jup fs 6 0) := tw_put6 (by assumption) w_2 n_2
    have := hT2.lt i hi
    omega
  rw [ea] at n_7 ⊢
  have ha0 : (gs G).heap.size ≤ a := by rw [← ea]; exact b_7
  have haH : H.size ≤ a := by rw [← ea, w_2.1]; exact Nat.le_refl _
  have hi0 : vp_in (0 : Int32) 64 := vp_in_nI (n := 0) (by omega) (by decide)
  clear hs hbf hsv hpa hou hip hcm ho
  first | refine j_aload_n (pc := 10) hX dX3_mostHires_10 rfl rfl ?_ | refine j_aload_nq (pc := 10) hX dX3_mostHires_10 rfl rfl ?_
  refine j_iconst (pc := 11) (v := 0) hX dX3_mostHires_11 (by decide) ?_
  refine j_iconst (pc := 12) (v := 1) hX dX3_mostHires_12 (by decide) ?_
  refine j_zast (pc := 13) hX dX3_mostHires_13 n_7 ha0 (by assumption) rfl (fun H_13 w_13 n_13 => ?_)
  skip
  have hT := hT.kept (H1 := H_13) (fun i hi => w_13.2 _ (hga i hi))
  have hF := hF.put w_13 (fun z => absurd z (by omega))
  have hC : CA G H_13 a dp0 := jaw.congr n_13 (fun j _ => by show Value.int (jb (decide (j = 0))) = Value.int (jup (fun _ => (0 : Int32)) 0 1 j); unfold jup; by_cases e : j = 0 <;> simp [e, jb])
  have final : ∀ (H1 : Heap), JFr (twP g) H H1 → jtw G H1 g ar cm (jup fs 6 0) → CA G H1 a (dpN (ar 0)) → ∀ z : Int32, JW X G H1 0 148 [(0, .inr (some (g 100))), (1, .inr (some a)), (2, .inl (.int 0)), (3, .inl (.int z))] [] := by
    intro H1 hF hT hC z
    have ho := hT.2.1
    unfold CA at hC
    have hq := hQ
    change JRet X G 16 (twQ G H g ar cm fs (0, nI (jfold (mostF (dpN (ar 0))) 64 0))) jno at hq
    generalize dpN (ar 0) = C at *
    refine j_iconst (pc := 148) (v := 0) hX dX3_mostHires_148 (by decide) ?_
    refine j_istore_n (pc := 149) hX dX3_mostHires_149 rfl (by decide) rfl ?_
    refine jloop (P := fun i => JW X G H1 0 150 [(0, .inr (some (g 100))), (1, .inr (some a)), (2, .inl (.int (nI (jfold (mostF C) i 0)))), (3, .inl (.int (nI i)))] []) 64 ?_ (fun i hi ih => ?_) 0 (by omega)
    · refine j_iload_n (pc := 150) hX dX3_mostHires_150 rfl rfl ?_
      first | refine j_aload_n (pc := 151) hX dX3_mostHires_151 rfl rfl ?_ | refine j_aload_nq (pc := 151) hX dX3_mostHires_151 rfl rfl ?_
      refine j_alen (pc := 152) hX dX3_mostHires_152 (jaw.r (t := 3) hX (by decide) hC) ?_
      refine j_icmp_ge (pc := 153) (tgt := 181) hX dX3_mostHires_153 (by decide) (fun c_153 => ?_) (fun c_153 => ?_)
      · refine j_iload_n (pc := 181) hX dX3_mostHires_181 rfl rfl ?_
        exact j_iret hX hq hr dX3_mostHires_182 ⟨_, rfl, ⟨hF, hT⟩, fun _ => rfl⟩
      · exact absurd (jge_no (a := 64) c_153 (by omega) (by omega)) (by omega)
    · have hm := mostF_le (can := C) i
      have hin : vp_in (nI i) 64 := vp_in_nI hi (by decide)
      have es : jfold (mostF C) (i + 1) 0 = mostF C i (jfold (mostF C) i 0) := rfl
      rw [es] at ih
      generalize jfold (mostF C) i 0 = M at *
      refine j_iload_n (pc := 150) hX dX3_mostHires_150 rfl rfl ?_
      first | refine j_aload_n (pc := 151) hX dX3_mostHires_151 rfl rfl ?_ | refine j_aload_nq (pc := 151) hX dX3_mostHires_151 rfl rfl ?_
      refine j_alen (pc := 152) hX dX3_mostHires_152 (jaw.r (t := 3) hX (by decide) hC) ?_
      refine j_icmp_ge (pc := 153) (tgt := 181) hX dX3_mostHires_153 (by decide) (fun c_153 => ?_) (fun c_153 => ?_)
      · exact absurd (jge_yes (a := 64) c_153 (by omega) (by omega)) (by omega)
      first | refine j_aload_n (pc := 156) hX dX3_mostHires_156 rfl rfl ?_ | refine j_aload_nq (pc := 156) hX dX3_mostHires_156 rfl rfl ?_
      refine j_iload_n (pc := 157) hX dX3_mostHires_157 rfl rfl ?_
      refine j_zald (pc := 158) hX dX3_mostHires_158 (by first | assumption | exact jaw.r hX (by decide) (by assumption)) (by assumption) ?_
      change JW X G H1 0 159 _ [.int (jb (C (nI i).toNatClampNeg))]
      rw [nI_clamp (by omega)]
      refine j_if_eq (pc := 159) (tgt := 173) hX dX3_mostHires_159 (by decide) (fun c_159 => ?_) (fun c_159 => ?_)
      · rw [jb_z] at c_159
        refine j_iload_n (pc := 173) hX dX3_mostHires_173 rfl rfl ?_
        first | rw [nI_max (by omega) (by have := bitN_le i; omega)] | skip
        refine j_istore_n (pc := 174) hX dX3_mostHires_174 rfl (by decide) rfl ?_
        refine j_iincc (pc := 175) (m := 1) hX dX3_mostHires_175 rfl (by decide) (by decide) rfl ?_
        refine j_goto (pc := 178) (tgt := 150) hX dX3_mostHires_178 (by decide) ?_
        exact j_lv (by simp [jsb, jget, jval, nI_1, mostF, c_153, c_159]) ih
      · rw [jb_n] at c_159
        refine j_iload_n (pc := 162) hX dX3_mostHires_162 rfl rfl ?_
        refine j_iload_n (pc := 163) hX dX3_mostHires_163 rfl rfl ?_
        refine j_rune (pc := 164) (jr_S (pc := 164) hX ks_X3_70 (c_X3_bits _ _ _ i (by omega)) (by decide) dX3_mostHires_164 rfl rfl (Nat.le_of_ble_eq_true rfl)) ?_ jno_x
        refine j_mmax (pc := 167) hX km_X3_184 dX3_mostHires_167 (by decide) (Nat.le_of_ble_eq_true rfl) ?_
        refine j_goto (pc := 170) (tgt := 174) hX dX3_mostHires_170 (by decide) ?_
        first | rw [nI_max (by omega) (by have := bitN_le i; omega)] | skip
        refine j_istore_n (pc := 174) hX dX3_mostHires_174 rfl (by decide) rfl ?_
        refine j_iincc (pc := 175) (m := 1) hX dX3_mostHires_175 rfl (by decide) (by decide) rfl ?_
        refine j_goto (pc := 178) (tgt := 150) hX dX3_mostHires_178 (by decide) ?_
        exact j_lv (by simp [jsb, jget, jval, nI_1, mostF, c_153, c_159]) ih
  refine j_iconst (pc := 14) (v := 0) hX dX3_mostHires_14 (by decide) ?_
  refine j_istore_n (pc := 15) hX dX3_mostHires_15 rfl (by decide) rfl ?_
  refine j_iconst (pc := 16) (v := 0) hX dX3_mostHires_16 (by decide) ?_
  refine j_istore_n (pc := 17) hX dX3_mostHires_17 rfl (by decide) rfl ?_
  refine jloop (P := fun k => ∀ (H1 : Heap), JFr (twP g) H H1 → jtw G H1 g ar cm (jup fs 6 0) → CA G H1 a (jfold (dpK (ar 0)) k dp0) → JW X G H1 0 18 [(0, .inr (some (g 100))), (1, .inr (some a)), (2, .inl (.int 0)), (3, .inl (.int (nI k)))] []) 10 (fun H1 hF hT hC => ?_) (fun k hk ihk H1 hF hT hC => ?_) 0 (by omega) _ hF hT hC
  · refine j_iload_n (pc := 18) hX dX3_mostHires_18 rfl rfl ?_
    refine j_bipush (pc := 19) (v := 10) hX dX3_mostHires_19 (by decide) ?_
    refine j_icmp_ge (pc := 21) (tgt := 148) hX dX3_mostHires_21 (by decide) (fun c_21 => ?_) (fun c_21 => ?_)
    · exact final _ hF hT hC _
    · exact absurd (jge_no (a := 10) c_21 (by omega) (by omega)) (by omega)
  · have es : jfold (dpK (ar 0)) (k + 1) dp0 = dpK (ar 0) k (jfold (dpK (ar 0)) k dp0) := rfl
    rw [es] at ihk
    generalize jfold (dpK (ar 0)) k dp0 = C0 at *
    have hC' := hC
    unfold CA at hC'
    have go : waitN (ar 0) k = true → ∀ j, j ≤ 64 → ∀ (H1 : Heap) (C : Nat → Bool), JFr (twP g) H H1 → jtw G H1 g ar cm (jup fs 6 0) → CA G H1 a C → jfold (dpS (ar 0) k) (64 - j) C0 = C → JW X G H1 0 30 [(0, .inr (some (g 100))), (1, .inr (some a)), (2, .inl (.int 0)), (3, .inl (.int (nI k))), (4, .inl (.int (nI j - 1)))] [] := by
      intro hw j
      induction j with
      | zero =>
        intro _ H1 C hF hT hC eC
        unfold dpK at ihk
        rw [if_pos hw] at ihk
        rw [Nat.sub_zero] at eC
        rw [eC] at ihk
        refine j_iload (pc := 30) hX dX3_mostHires_30 rfl ?_
        refine j_if_lt (pc := 32) (tgt := 142) hX dX3_mostHires_32 (by decide) (fun c_32 => ?_) (fun c_32 => ?_)
        rotate_left
        · exact absurd (show (nI 0 - 1 : Int32) < 0 by decide) c_32
        refine j_iincc (pc := 142) (m := 1) hX dX3_mostHires_142 rfl (by decide) (by decide) rfl ?_
        refine j_goto (pc := 145) (tgt := 18) hX dX3_mostHires_145 (by decide) ?_
        exact j_lv (by simp [jsb, jget, jval, nI_1]) (ihk _ hF hT hC)
      | succ m ihm =>
        intro hm H1 C hF hT hC eC
        rw [nI_pred]
        have ho := hT.2.1
        have hin : vp_in (nI m) 64 := vp_in_nI (by omega) (by decide)
        have eC2 : jfold (dpS (ar 0) k) (64 - m) C0 = jfold (dpP (ar 0) k m) (ar 0 2) C := by
          rw [show 64 - m = (64 - (m + 1)) + 1 by omega, jfold_succ, eC]
          unfold dpS
          rw [show 63 - (64 - (m + 1)) = m by omega]
        have at136 : ∀ (H1 : Heap), JFr (twP g) H H1 → jtw G H1 g ar cm (jup fs 6 0) → CA G H1 a (jfold (dpP (ar 0) k m) (ar 0 2) C) → JW X G H1 0 136 [(0, .inr (some (g 100))), (1, .inr (some a)), (2, .inl (.int 0)), (3, .inl (.int (nI k))), (4, .inl (.int (nI m)))] [] := by
          intro H1 hF hT hC
          refine j_iincc (pc := 136) (m := -1) hX dX3_mostHires_136 rfl (by decide) (by decide) rfl ?_
          refine j_goto (pc := 139) (tgt := 30) hX dX3_mostHires_139 (by decide) ?_
          rw [nI_dec]
          exact ihm (by omega) H1 _ hF hT hC eC2
        have posts : ∀ i, i ≤ ar 0 2 → ∀ (H1 : Heap), JFr (twP g) H H1 → jtw G H1 g ar cm (jup fs 6 0) → CA G H1 a (jfold (dpP (ar 0) k m) i C) → JW X G H1 0 46 [(0, .inr (some (g 100))), (1, .inr (some a)), (2, .inl (.int 0)), (3, .inl (.int (nI k))), (4, .inl (.int (nI m))), (5, .inl (.int (nI i)))] [] := by
          refine jloop (ar 0 2) (fun H1 hF hT hC => ?_) (fun i hi ih H1 hF hT hC => ?_)
          · obtain ⟨h0, ho, hs, -⟩ := id hT
            refine j_iload (pc := 46) hX dX3_mostHires_46 rfl ?_
            first | refine j_aload_n (pc := 48) hX dX3_mostHires_48 rfl rfl ?_ | refine j_aload_nq (pc := 48) hX dX3_mostHires_48 rfl rfl ?_
            refine j_get (pc := 49) hX kg_X3_9 dX3_mostHires_49 (by first | assumption | exact jow.r (by assumption)) (by rfl) ?_
            refine j_iconst (pc := 52) (v := 2) hX dX3_mostHires_52 (by decide) ?_
            refine j_iald (pc := 53) hX dX3_mostHires_53 (by first | assumption | exact jaw.r hX (by decide) (by assumption)) (by assumption) ?_
            refine j_icmp_ge (pc := 54) (tgt := 136) hX dX3_mostHires_54 (by decide) (fun c_54 => ?_) (fun c_54 => ?_)
            rotate_left
            · exact absurd (jge_no (a := ar 0 2) c_54 (by omega) (by omega)) (by omega)
            exact j_lv (by simp [jsb, jget, jval]) (at136 _ hF hT hC)
          · obtain ⟨h0, ho, hs, -⟩ := id hT
            have es : jfold (dpP (ar 0) k m) (i + 1) C = dpP (ar 0) k m i (jfold (dpP (ar 0) k m) i C) := rfl
            rw [es] at ih
            generalize eD : jfold (dpP (ar 0) k m) i C = D at *
            have hC' := hC
            unfold CA at hC'
            have hin2 : vp_in (nI (clrB m i)) 64 := vp_in_nI (Nat.lt_of_le_of_lt (clrB_le m i) (by omega)) (by decide)
            refine j_iload (pc := 46) hX dX3_mostHires_46 rfl ?_
            first | refine j_aload_n (pc := 48) hX dX3_mostHires_48 rfl rfl ?_ | refine j_aload_nq (pc := 48) hX dX3_mostHires_48 rfl rfl ?_
            refine j_get (pc := 49) hX kg_X3_9 dX3_mostHires_49 (by first | assumption | exact jow.r (by assumption)) (by rfl) ?_
            refine j_iconst (pc := 52) (v := 2) hX dX3_mostHires_52 (by decide) ?_
            refine j_iald (pc := 53) hX dX3_mostHires_53 (by first | assumption | exact jaw.r hX (by decide) (by assumption)) (by assumption) ?_
            refine j_icmp_ge (pc := 54) (tgt := 136) hX dX3_mostHires_54 (by decide) (fun c_54 => ?_) (fun c_54 => ?_)
            · exact absurd (jge_yes (a := ar 0 2) c_54 (by omega) (by omega)) (by omega)
            first | refine j_aload_n (pc := 57) hX dX3_mostHires_57 rfl rfl ?_ | refine j_aload_nq (pc := 57) hX dX3_mostHires_57 rfl rfl ?_
            refine j_iload (pc := 58) hX dX3_mostHires_58 rfl ?_
            refine j_zald (pc := 60) hX dX3_mostHires_60 (by first | assumption | exact jaw.r hX (by decide) (by assumption)) (by assumption) ?_
            change JW X G H1 0 61 _ [.int (jb (D (nI m).toNatClampNeg))]
            rw [nI_clamp (by omega)]
            refine j_if_ne (pc := 61) (tgt := 136) hX dX3_mostHires_61 (by decide) (fun c_61 => ?_) (fun c_61 => ?_)
            · rw [jb_n] at c_61
              exact j_lv (by simp [jsb, jget, jval]) (at136 _ hF hT (by rw [dp_stay (i := i) (by rw [eD]; exact c_61) _ (by omega), eD]; exact hC))
            · rw [jb_z] at c_61
              refine j_iload (pc := 64) hX dX3_mostHires_64 rfl ?_
              refine j_iload (pc := 66) hX dX3_mostHires_66 rfl ?_
              refine j_ishr (pc := 68) hX dX3_mostHires_68 ?_
              refine j_iconst (pc := 69) (v := 1) hX dX3_mostHires_69 (by decide) ?_
              refine j_iand (pc := 70) hX dX3_mostHires_70 ?_
              rw [nI_bit (by omega) (by omega)]
              refine j_iconst (pc := 71) (v := 1) hX dX3_mostHires_71 (by decide) ?_
              refine j_icmp_ne (pc := 72) (tgt := 99) hX dX3_mostHires_72 (by decide) (fun c_72 => ?_) (fun c_72 => ?_)
              · rw [show (1 : Int32) = nI 1 from rfl, nI_eq (by split <;> omega) (by omega)] at c_72
                have c_72 : m.testBit i = false := by cases e : m.testBit i with | false => rfl | true => rw [e] at c_72; exact absurd rfl c_72
                refine j_iconst (pc := 99) (v := 0) hX dX3_mostHires_99 (by decide) ?_
                refine j_istore (pc := 100) hX dX3_mostHires_100 (by decide) rfl ?_
                first | refine j_aload_n (pc := 102) hX dX3_mostHires_102 rfl rfl ?_ | refine j_aload_nq (pc := 102) hX dX3_mostHires_102 rfl rfl ?_
                refine j_iload (pc := 103) hX dX3_mostHires_103 rfl ?_
                refine j_iload (pc := 105) hX dX3_mostHires_105 rfl ?_
                refine j_if_eq (pc := 107) (tgt := 128) hX dX3_mostHires_107 (by decide) (fun c_107 => ?_) (fun c_107 => ?_)
                rotate_left
                · first | exact absurd c_107 (by decide) | (change ¬ (0 : Int32) = 0 at c_107; exact absurd c_107 (by decide))
                refine j_iconst (pc := 128) (v := 0) hX dX3_mostHires_128 (by decide) ?_
                refine j_zast (pc := 129) hX dX3_mostHires_129 hC' ha0 (by assumption) rfl (fun H_129 w_129 n_129 => ?_)
                rw [nI_clamp (by omega)] at n_129
                have hT := hT.kept (fun q hq => w_129.2 _ (hga q hq))
                have hF := hF.put w_129 (fun z => absurd z (by omega))
                refine j_iincc (pc := 130) (m := 1) hX dX3_mostHires_130 rfl (by decide) (by decide) rfl ?_
                refine j_goto (pc := 133) (tgt := 46) hX dX3_mostHires_133 (by decide) ?_
                refine j_lv (by simp [jsb, jget, jval, nI_1]) (ih _ hF hT ?_)
                rw [dp_go c_61]
                first | (rw [show (m.testBit i && (decide (pFl (ar 0) i = 0) && (fitN (ar 0) k i && D (clrB m i)))) = true from by simp [pFl, c_54, c_61, c_72]]; exact CA.set (b := true) n_129) | (rw [show (m.testBit i && (decide (pFl (ar 0) i = 0) && (fitN (ar 0) k i && D (clrB m i)))) = false from by simp [pFl, c_54, c_61, c_72]]; exact CA.set (b := false) n_129)
              · rw [show (1 : Int32) = nI 1 from rfl, nI_eq (by split <;> omega) (by omega)] at c_72
                have c_72 : m.testBit i = true := by cases e : m.testBit i with | true => rfl | false => rw [e] at c_72; cases c_72
                first | refine j_aload_n (pc := 75) hX dX3_mostHires_75 rfl rfl ?_ | refine j_aload_nq (pc := 75) hX dX3_mostHires_75 rfl rfl ?_
                refine j_iload (pc := 76) hX dX3_mostHires_76 rfl ?_
                refine j_iconst (pc := 78) (v := 4) hX dX3_mostHires_78 (by decide) ?_
                refine j_rune (pc := 79) (jr_V (pc := 79) hX kv_X3_59 (by first | assumption | exact jow.r (by assumption)) (c_X3_ofPost _ _ _ hT i 4 (by omega) (by omega)) (by decide) dX3_mostHires_79 rfl rfl (Nat.le_of_ble_eq_true rfl)) ?_ jno_x
                refine j_if_ne (pc := 82) (tgt := 99) hX dX3_mostHires_82 (by decide) (fun c_82 => ?_) (fun c_82 => ?_)
                · rw [nI_eq0 (bsL hb (by omega))] at c_82
                  refine j_iconst (pc := 99) (v := 0) hX dX3_mostHires_99 (by decide) ?_
                  refine j_istore (pc := 100) hX dX3_mostHires_100 (by decide) rfl ?_
                  first | refine j_aload_n (pc := 102) hX dX3_mostHires_102 rfl rfl ?_ | refine j_aload_nq (pc := 102) hX dX3_mostHires_102 rfl rfl ?_
                  refine j_iload (pc := 103) hX dX3_mostHires_103 rfl ?_
                  refine j_iload (pc := 105) hX dX3_mostHires_105 rfl ?_
                  refine j_if_eq (pc := 107) (tgt := 128) hX dX3_mostHires_107 (by decide) (fun c_107 => ?_) (fun c_107 => ?_)
                  rotate_left
                  · first | exact absurd c_107 (by decide) | (change ¬ (0 : Int32) = 0 at c_107; exact absurd c_107 (by decide))
                  refine j_iconst (pc := 128) (v := 0) hX dX3_mostHires_128 (by decide) ?_
                  refine j_zast (pc := 129) hX dX3_mostHires_129 hC' ha0 (by assumption) rfl (fun H_129 w_129 n_129 => ?_)
                  rw [nI_clamp (by omega)] at n_129
                  have hT := hT.kept (fun q hq => w_129.2 _ (hga q hq))
                  have hF := hF.put w_129 (fun z => absurd z (by omega))
                  refine j_iincc (pc := 130) (m := 1) hX dX3_mostHires_130 rfl (by decide) (by decide) rfl ?_
                  refine j_goto (pc := 133) (tgt := 46) hX dX3_mostHires_133 (by decide) ?_
                  refine j_lv (by simp [jsb, jget, jval, nI_1]) (ih _ hF hT ?_)
                  rw [dp_go c_61]
                  first | (rw [show (m.testBit i && (decide (pFl (ar 0) i = 0) && (fitN (ar 0) k i && D (clrB m i)))) = true from by simp [pFl, c_54, c_61, c_72, c_82]]; exact CA.set (b := true) n_129) | (rw [show (m.testBit i && (decide (pFl (ar 0) i = 0) && (fitN (ar 0) k i && D (clrB m i)))) = false from by simp [pFl, c_54, c_61, c_72, c_82]]; exact CA.set (b := false) n_129)
                · rw [nI_eq0 (bsL hb (by omega))] at c_82
                  first | refine j_aload_n (pc := 85) hX dX3_mostHires_85 rfl rfl ?_ | refine j_aload_nq (pc := 85) hX dX3_mostHires_85 rfl rfl ?_
                  refine j_iload_n (pc := 86) hX dX3_mostHires_86 rfl rfl ?_
                  refine j_iload (pc := 87) hX dX3_mostHires_87 rfl ?_
                  refine j_rune (pc := 89) (jr_V (pc := 89) hX kv_X3_152 (by first | assumption | exact jow.r (by assumption)) (c_X3_fits _ _ _ hT hB k i hk (by omega)) (by decide) dX3_mostHires_89 rfl rfl (Nat.le_of_ble_eq_true rfl)) ?_ jno_x
                  refine j_if_eq (pc := 92) (tgt := 99) hX dX3_mostHires_92 (by decide) (fun c_92 => ?_) (fun c_92 => ?_)
                  · rw [jb_z] at c_92
                    refine j_iconst (pc := 99) (v := 0) hX dX3_mostHires_99 (by decide) ?_
                    refine j_istore (pc := 100) hX dX3_mostHires_100 (by decide) rfl ?_
                    first | refine j_aload_n (pc := 102) hX dX3_mostHires_102 rfl rfl ?_ | refine j_aload_nq (pc := 102) hX dX3_mostHires_102 rfl rfl ?_
                    refine j_iload (pc := 103) hX dX3_mostHires_103 rfl ?_
                    refine j_iload (pc := 105) hX dX3_mostHires_105 rfl ?_
                    refine j_if_eq (pc := 107) (tgt := 128) hX dX3_mostHires_107 (by decide) (fun c_107 => ?_) (fun c_107 => ?_)
                    rotate_left
                    · first | exact absurd c_107 (by decide) | (change ¬ (0 : Int32) = 0 at c_107; exact absurd c_107 (by decide))
                    refine j_iconst (pc := 128) (v := 0) hX dX3_mostHires_128 (by decide) ?_
                    refine j_zast (pc := 129) hX dX3_mostHires_129 hC' ha0 (by assumption) rfl (fun H_129 w_129 n_129 => ?_)
                    rw [nI_clamp (by omega)] at n_129
                    have hT := hT.kept (fun q hq => w_129.2 _ (hga q hq))
                    have hF := hF.put w_129 (fun z => absurd z (by omega))
                    refine j_iincc (pc := 130) (m := 1) hX dX3_mostHires_130 rfl (by decide) (by decide) rfl ?_
                    refine j_goto (pc := 133) (tgt := 46) hX dX3_mostHires_133 (by decide) ?_
                    refine j_lv (by simp [jsb, jget, jval, nI_1]) (ih _ hF hT ?_)
                    rw [dp_go c_61]
                    first | (rw [show (m.testBit i && (decide (pFl (ar 0) i = 0) && (fitN (ar 0) k i && D (clrB m i)))) = true from by simp [pFl, c_54, c_61, c_72, c_82, c_92]]; exact CA.set (b := true) n_129) | (rw [show (m.testBit i && (decide (pFl (ar 0) i = 0) && (fitN (ar 0) k i && D (clrB m i)))) = false from by simp [pFl, c_54, c_61, c_72, c_82, c_92]]; exact CA.set (b := false) n_129)
                  · rw [jb_n] at c_92
                    refine j_iconst (pc := 95) (v := 1) hX dX3_mostHires_95 (by decide) ?_
                    refine j_goto (pc := 96) (tgt := 100) hX dX3_mostHires_96 (by decide) ?_
                    refine j_istore (pc := 100) hX dX3_mostHires_100 (by decide) rfl ?_
                    first | refine j_aload_n (pc := 102) hX dX3_mostHires_102 rfl rfl ?_ | refine j_aload_nq (pc := 102) hX dX3_mostHires_102 rfl rfl ?_
                    refine j_iload (pc := 103) hX dX3_mostHires_103 rfl ?_
                    refine j_iload (pc := 105) hX dX3_mostHires_105 rfl ?_
                    refine j_if_eq (pc := 107) (tgt := 128) hX dX3_mostHires_107 (by decide) (fun c_107 => ?_) (fun c_107 => ?_)
                    · first | exact absurd c_107 (by decide) | (change (1 : Int32) = 0 at c_107; exact absurd c_107 (by decide))
                    first | refine j_aload_n (pc := 110) hX dX3_mostHires_110 rfl rfl ?_ | refine j_aload_nq (pc := 110) hX dX3_mostHires_110 rfl rfl ?_
                    refine j_iload (pc := 111) hX dX3_mostHires_111 rfl ?_
                    refine j_iconst (pc := 113) (v := 1) hX dX3_mostHires_113 (by decide) ?_
                    refine j_iload (pc := 114) hX dX3_mostHires_114 rfl ?_
                    refine j_ishl (pc := 116) hX dX3_mostHires_116 ?_
                    refine j_iconst (pc := 117) (v := -1) hX dX3_mostHires_117 (by decide) ?_
                    refine j_ixor (pc := 118) hX dX3_mostHires_118 ?_
                    refine j_iand (pc := 119) hX dX3_mostHires_119 ?_
                    rw [clr_bit i (by omega) m (by omega)]
                    refine j_zald (pc := 120) hX dX3_mostHires_120 (by first | assumption | exact jaw.r hX (by decide) (by assumption)) (by assumption) ?_
                    change JW X G H1 0 121 _ (.int (jb (D (nI (clrB m i)).toNatClampNeg)) :: _)
                    rw [nI_clamp (Nat.lt_of_le_of_lt (clrB_le m i) (by omega))]
                    refine j_if_eq (pc := 121) (tgt := 128) hX dX3_mostHires_121 (by decide) (fun c_121 => ?_) (fun c_121 => ?_)
                    · rw [jb_z] at c_121
                      refine j_iconst (pc := 128) (v := 0) hX dX3_mostHires_128 (by decide) ?_
                      refine j_zast (pc := 129) hX dX3_mostHires_129 hC' ha0 (by assumption) rfl (fun H_129 w_129 n_129 => ?_)
                      rw [nI_clamp (by omega)] at n_129
                      have hT := hT.kept (fun q hq => w_129.2 _ (hga q hq))
                      have hF := hF.put w_129 (fun z => absurd z (by omega))
                      refine j_iincc (pc := 130) (m := 1) hX dX3_mostHires_130 rfl (by decide) (by decide) rfl ?_
                      refine j_goto (pc := 133) (tgt := 46) hX dX3_mostHires_133 (by decide) ?_
                      refine j_lv (by simp [jsb, jget, jval, nI_1]) (ih _ hF hT ?_)
                      rw [dp_go c_61]
                      first | (rw [show (m.testBit i && (decide (pFl (ar 0) i = 0) && (fitN (ar 0) k i && D (clrB m i)))) = true from by simp [pFl, c_54, c_61, c_72, c_82, c_92, c_121]]; exact CA.set (b := true) n_129) | (rw [show (m.testBit i && (decide (pFl (ar 0) i = 0) && (fitN (ar 0) k i && D (clrB m i)))) = false from by simp [pFl, c_54, c_61, c_72, c_82, c_92, c_121]]; exact CA.set (b := false) n_129)
                    · rw [jb_n] at c_121
                      refine j_iconst (pc := 124) (v := 1) hX dX3_mostHires_124 (by decide) ?_
                      refine j_goto (pc := 125) (tgt := 129) hX dX3_mostHires_125 (by decide) ?_
                      refine j_zast (pc := 129) hX dX3_mostHires_129 hC' ha0 (by assumption) rfl (fun H_129 w_129 n_129 => ?_)
                      rw [nI_clamp (by omega)] at n_129
                      have hT := hT.kept (fun q hq => w_129.2 _ (hga q hq))
                      have hF := hF.put w_129 (fun z => absurd z (by omega))
                      refine j_iincc (pc := 130) (m := 1) hX dX3_mostHires_130 rfl (by decide) (by decide) rfl ?_
                      refine j_goto (pc := 133) (tgt := 46) hX dX3_mostHires_133 (by decide) ?_
                      refine j_lv (by simp [jsb, jget, jval, nI_1]) (ih _ hF hT ?_)
                      rw [dp_go c_61]
                      first | (rw [show (m.testBit i && (decide (pFl (ar 0) i = 0) && (fitN (ar 0) k i && D (clrB m i)))) = true from by simp [pFl, c_54, c_61, c_72, c_82, c_92, c_121]]; exact CA.set (b := true) n_129) | (rw [show (m.testBit i && (decide (pFl (ar 0) i = 0) && (fitN (ar 0) k i && D (clrB m i)))) = false from by simp [pFl, c_54, c_61, c_72, c_82, c_92, c_121]]; exact CA.set (b := false) n_129)
        refine j_iload (pc := 30) hX dX3_mostHires_30 rfl ?_
        refine j_if_lt (pc := 32) (tgt := 142) hX dX3_mostHires_32 (by decide) (fun c_32 => ?_) (fun c_32 => ?_)
        · exact absurd c_32 (nI_pos (by omega))
        first | refine j_aload_n (pc := 35) hX dX3_mostHires_35 rfl rfl ?_ | refine j_aload_nq (pc := 35) hX dX3_mostHires_35 rfl rfl ?_
        refine j_iload_n (pc := 36) hX dX3_mostHires_36 rfl rfl ?_
        refine j_rune (pc := 37) (jr_V (pc := 37) hX kv_X3_113 (by first | assumption | exact jow.r (by assumption)) (c_X3_isWaiting _ _ _ hT hB k hk) (by decide) dX3_mostHires_37 rfl rfl (Nat.le_of_ble_eq_true rfl)) ?_ jno_x
        refine j_if_eq (pc := 40) (tgt := 142) hX dX3_mostHires_40 (by decide) (fun c_40 => ?_) (fun c_40 => ?_)
        · rw [hw] at c_40; exact absurd c_40 (by decide)
        refine j_iconst (pc := 43) (v := 0) hX dX3_mostHires_43 (by decide) ?_
        refine j_istore (pc := 44) hX dX3_mostHires_44 (by decide) rfl ?_
        exact posts 0 (by omega) _ hF hT hC
    cases hw : waitN (ar 0) k with
    | true =>
      have ho := hT.2.1
      refine j_iload_n (pc := 18) hX dX3_mostHires_18 rfl rfl ?_
      refine j_bipush (pc := 19) (v := 10) hX dX3_mostHires_19 (by decide) ?_
      refine j_icmp_ge (pc := 21) (tgt := 148) hX dX3_mostHires_21 (by decide) (fun c_21 => ?_) (fun c_21 => ?_)
      · exact absurd (jge_yes (a := 10) c_21 (by omega) (by omega)) (by omega)
      first | refine j_aload_n (pc := 24) hX dX3_mostHires_24 rfl rfl ?_ | refine j_aload_nq (pc := 24) hX dX3_mostHires_24 rfl rfl ?_
      refine j_alen (pc := 25) hX dX3_mostHires_25 (jaw.r (t := 3) hX (by decide) hC') ?_
      refine j_iconst (pc := 26) (v := 1) hX dX3_mostHires_26 (by decide) ?_
      refine j_isub (pc := 27) hX dX3_mostHires_27 ?_
      refine j_istore (pc := 28) hX dX3_mostHires_28 (by decide) rfl ?_
      exact go hw 64 (by omega) _ _ hF hT hC rfl
    | false =>
      have ho := hT.2.1
      unfold dpK at ihk
      rw [if_neg (by rw [hw]; decide)] at ihk
      refine j_iload_n (pc := 18) hX dX3_mostHires_18 rfl rfl ?_
      refine j_bipush (pc := 19) (v := 10) hX dX3_mostHires_19 (by decide) ?_
      refine j_icmp_ge (pc := 21) (tgt := 148) hX dX3_mostHires_21 (by decide) (fun c_21 => ?_) (fun c_21 => ?_)
      · exact absurd (jge_yes (a := 10) c_21 (by omega) (by omega)) (by omega)
      first | refine j_aload_n (pc := 24) hX dX3_mostHires_24 rfl rfl ?_ | refine j_aload_nq (pc := 24) hX dX3_mostHires_24 rfl rfl ?_
      refine j_alen (pc := 25) hX dX3_mostHires_25 (jaw.r (t := 3) hX (by decide) hC') ?_
      refine j_iconst (pc := 26) (v := 1) hX dX3_mostHires_26 (by decide) ?_
      refine j_isub (pc := 27) hX dX3_mostHires_27 ?_
      refine j_istore (pc := 28) hX dX3_mostHires_28 (by decide) rfl ?_
      refine j_iload (pc := 30) hX dX3_mostHires_30 rfl ?_
      refine j_if_lt (pc := 32) (tgt := 142) hX dX3_mostHires_32 (by decide) (fun c_32 => ?_) (fun c_32 => ?_)
      · exact absurd c_32 (by decide)
      first | refine j_aload_n (pc := 35) hX dX3_mostHires_35 rfl rfl ?_ | refine j_aload_nq (pc := 35) hX dX3_mostHires_35 rfl rfl ?_
      refine j_iload_n (pc := 36) hX dX3_mostHires_36 rfl rfl ?_
      refine j_rune (pc := 37) (jr_V (pc := 37) hX kv_X3_113 (by first | assumption | exact jow.r (by assumption)) (c_X3_isWaiting _ _ _ hT hB k hk) (by decide) dX3_mostHires_37 rfl rfl (Nat.le_of_ble_eq_true rfl)) ?_ jno_x
      refine j_if_eq (pc := 40) (tgt := 142) hX dX3_mostHires_40 (by decide) (fun c_40 => ?_) (fun c_40 => ?_)
      rotate_left
      · rw [hw] at c_40; exact absurd rfl c_40
      refine j_iincc (pc := 142) (m := 1) hX dX3_mostHires_142 rfl (by decide) (by decide) rfl ?_
      refine j_goto (pc := 145) (tgt := 18) hX dX3_mostHires_145 (by decide) ?_
      exact j_lv (by simp [jsb, jget, jval, nI_1]) (ihk _ hF hT hC)
