/-! lists: one put between others -/
set_option maxRecDepth 100000
theorem c_J4_add_3 (l : Launch) (G : JG) (H : Heap) (q arr : Nat) {mc : Int32} {E : List Nat} (h : alA G H q arr mc E) (hl : E.length < 10) (k : Nat) (hk : k ≤ E.length) (hE : elOK G H E) (hqE : ∀ x ∈ E, x ≠ q ∧ x ≠ arr) (x : Nat) {ci : Nat} {vs : List Value} (hx : job G H x ci vs) (ks : JAs 6 ci) (hxq : x ≠ q ∧ x ≠ arr) : JMet l yJ4_add_3 (ws_ yJ4_add_3 cJ4_add_3 5 none) 3 3 G H [.ref q, .int (nI k), .ref x] (jpv (fun H1 => ∃ arr', alA G H1 q arr' (mc + 1) (E.take k ++ x :: E.drop k) ∧ (arr' = arr ∨ H.size ≤ arr') ∧ JFr (fun a => a = q ∨ a = arr) H H1)) (jno) := by
  refine JMet.of [(0, .inr (some q)), (1, .inl (.int (nI k))), (2, .inr (some x))] (by decide) (Nat.le_of_ble_eq_true rfl) rfl (fun X hl hX hQ hEx hr hnm hH => ?_)
  subst hl
  obtain ⟨ho, hq, h3, h4⟩ := id h
  have hlt := ho.lt
  have hlen : (E.take k ++ x :: E.drop k).length = E.length + 1 := by rw [List.length_append, List.length_cons, List.length_take, List.length_drop]; omega
  have hin : vp_in (nI k) 10 := vp_in_nI (by omega) (by decide)
  have last : ∀ (H1 : Heap) (A : Nat) (f : Nat → Option Nat) (b : Nat), A ≠ q → (gs G).heap.size ≤ A → (A = arr ∨ H.size ≤ A) → JFr (fun a => a = q ∨ a = arr) H H1 → jow G H1 q 11 [.int (mc + 1), .ref A, .int (nI E.length)] → jaw G H1 A 6 10 (fun j => va_rf (f j)) → job G H1 x ci vs → (∀ j, j < 10 → jup f k (some x) j = (E.take k ++ x :: E.drop k)[j]?) → (A < H.size → A = arr) → JW X G H1 b 52 [(0, .inr (some q)), (1, .inl (.int (nI k))), (2, .inr (some x)), (3, .inl (.int (nI E.length))), (4, .inr (some A))] [] := by
    intro H1 A f b hA1 hA2 hA3 hF ho ha hx hf hA4
    first | refine j_aload (pc := 52) hX dJ4_add_3_52 rfl ?_ | refine j_aloadq (pc := 52) hX dJ4_add_3_52 rfl ?_
    refine j_iload_n (pc := 54) hX dJ4_add_3_54 rfl rfl ?_
    first | refine j_aload_n (pc := 55) hX dJ4_add_3_55 rfl rfl ?_ | refine j_aload_nq (pc := 55) hX dJ4_add_3_55 rfl rfl ?_
    skip
    refine j_aast (pc := 56) hX ks dJ4_add_3_56 (t := 6) (n := 10) (f := f) ha hx hA2 hin (fun H_56 w_56 n_56 => ?_)
    rw [nI_clamp (by omega)] at n_56
    have ho2 := ho.put w_56 (fun e => hA1 e.symm)
    first | refine j_aload_n (pc := 57) hX dJ4_add_3_57 rfl rfl ?_ | refine j_aload_nq (pc := 57) hX dJ4_add_3_57 rfl rfl ?_
    refine j_iload_n (pc := 58) hX dJ4_add_3_58 rfl rfl ?_
    refine j_iconst (pc := 59) (v := 1) hX dJ4_add_3_59 (by decide) ?_
    refine j_iadd (pc := 60) hX dJ4_add_3_60 ?_
    rw [nI_1]
    refine j_put (pc := 61) hX kp_J4_48 dJ4_add_3_61 ho2 hq rfl rfl rfl (fun H_61 w_61 n_61 => ?_)
    exact j_vret hX hQ hr dJ4_add_3_64 ⟨rfl, A, ⟨by rw [hlen]; exact n_61, hq, by omega, Or.inr ⟨hA1, hA2, (n_56.put w_61 hA1).congr (fun j hj => congrArg va_rf (hf j hj).symm)⟩⟩, hA3, (hF.put w_56 (fun z => Or.inr (hA4 z))).put w_61 (fun _ => Or.inl rfl)⟩
  first | refine j_aload_n (pc := 0) hX dJ4_add_3_0 rfl rfl ?_ | refine j_aload_nq (pc := 0) hX dJ4_add_3_0 rfl rfl ?_
  refine j_iload_n (pc := 1) hX dJ4_add_3_1 rfl rfl ?_
  rw [show (3 : Nat) = 3 + 0 from rfl]
  refine j_runve (pc := 2) (jr_V (pc := 2) hX kv_J4_135 (by first | assumption | exact jow.r (by assumption)) (c_J4_rangeCheckForAdd _ _ _ q arr h k hk) (by decide) dJ4_add_3_2 rfl rfl (Nat.le_of_ble_eq_true rfl)) ?_ jno_x
  first | refine j_aload_n (pc := 5) hX dJ4_add_3_5 rfl rfl ?_ | refine j_aload_nq (pc := 5) hX dJ4_add_3_5 rfl rfl ?_
  refine j_dup (pc := 6) hX dJ4_add_3_6 (by first | rfl | exact jrf_cat _) ?_
  refine j_get (pc := 7) hX kg_J4_63 dJ4_add_3_7 (by first | assumption | exact jow.r (by assumption)) (by rfl) ?_
  refine j_iconst (pc := 10) (v := 1) hX dJ4_add_3_10 (by decide) ?_
  refine j_iadd (pc := 11) hX dJ4_add_3_11 ?_
  refine j_put (pc := 12) hX kp_J4_63 dJ4_add_3_12 (by assumption) hq rfl rfl rfl (fun H_12 w_12 n_12 => ?_)
  have h7 : alA G H_12 q arr (mc + 1) E := ⟨n_12, hq, h3, h4.imp id (fun z => ⟨z.1, z.2.1, z.2.2.put w_12 z.1⟩)⟩
  have hx7 := hx.put w_12 hxq.1
  have hF : JFr (fun a => a = q ∨ a = arr) H H_12 := w_12.fr (Or.inl rfl)
  have ho := n_12
  have hE7 := hE.kept (fun x hx => w_12.2 x (hqE x hx).1)
  skip
  rcases h4 with ⟨e, ea⟩ | ⟨h4, h5, h6⟩
  · subst e ea
    have k0 : k = 0 := by simp at hk; exact hk
    subst k0
    refine j_start hX fun hK => ?_
    have he := hK.emp
    have hg : gC G 0 < (gs G).heap.size := hX.C.2.2.2.2.1.lt
    first | refine j_aload_n (pc := 15) hX dJ4_add_3_15 rfl rfl ?_ | refine j_aload_nq (pc := 15) hX dJ4_add_3_15 rfl rfl ?_
    refine j_get (pc := 16) hX kg_J4_48 dJ4_add_3_16 (by first | assumption | exact jow.r (by assumption)) (by rfl) ?_
    refine j_dup (pc := 19) hX dJ4_add_3_19 (by first | rfl | exact jrf_cat _) ?_
    refine j_istore_n (pc := 20) hX dJ4_add_3_20 rfl (by decide) rfl ?_
    first | refine j_aload_n (pc := 21) hX dJ4_add_3_21 rfl rfl ?_ | refine j_aload_nq (pc := 21) hX dJ4_add_3_21 rfl rfl ?_
    refine j_get (pc := 22) hX kg_J4_9 dJ4_add_3_22 (by first | assumption | exact jow.r (by assumption)) (by rfl) ?_
    refine j_dup (pc := 25) hX dJ4_add_3_25 (by first | rfl | exact jrf_cat _) ?_
    first | refine j_astore (pc := 26) hX dJ4_add_3_26 (by decide) rfl ?_ | refine j_astoreN (pc := 26) hX dJ4_add_3_26 (by decide) rfl ?_ | refine j_astoreq (pc := 26) hX dJ4_add_3_26 (by decide) rfl ?_
    refine j_alen (pc := 28) hX dJ4_add_3_28 he ?_
    refine j_icmp_ne (pc := 29) (tgt := 38) hX dJ4_add_3_29 (by decide) (fun c_29 => ?_) (fun c_29 => ?_)
    · exact absurd rfl c_29
    first | refine j_aload_n (pc := 32) hX dJ4_add_3_32 rfl rfl ?_ | refine j_aload_nq (pc := 32) hX dJ4_add_3_32 rfl rfl ?_
    skip
    change JW X G H_12 (0 + 3) 33 _ _
    refine j_runa (pc := 33) (jr_V (pc := 33) hX kv_J4_129 (by first | assumption | exact jow.r (by assumption)) (c_J4_grow _ _ _ q h7) (by decide) dJ4_add_3_33 rfl rfl (Nat.le_of_ble_eq_true rfl)) (fun r_33 H_33 p_33 z_33 => ?_) jno_x
    obtain ⟨rfl, hF2, ho, ha⟩ := p_33
    have hx8 := hx7.fr hF2 hxq.1
    first | refine j_astore (pc := 36) hX dJ4_add_3_36 (by decide) rfl ?_ | refine j_astoreN (pc := 36) hX dJ4_add_3_36 (by decide) rfl ?_ | refine j_astoreq (pc := 36) hX dJ4_add_3_36 (by decide) rfl ?_
    first | refine j_aload (pc := 38) hX dJ4_add_3_38 rfl ?_ | refine j_aloadq (pc := 38) hX dJ4_add_3_38 rfl ?_
    refine j_iload_n (pc := 40) hX dJ4_add_3_40 rfl rfl ?_
    first | refine j_aload (pc := 41) hX dJ4_add_3_41 rfl ?_ | refine j_aloadq (pc := 41) hX dJ4_add_3_41 rfl ?_
    refine j_iload_n (pc := 43) hX dJ4_add_3_43 rfl rfl ?_
    refine j_iconst (pc := 44) (v := 1) hX dJ4_add_3_44 (by decide) ?_
    refine j_iadd (pc := 45) hX dJ4_add_3_45 ?_
    refine j_iload_n (pc := 46) hX dJ4_add_3_46 rfl rfl ?_
    refine j_iload_n (pc := 47) hX dJ4_add_3_47 rfl rfl ?_
    refine j_isub (pc := 48) hX dJ4_add_3_48 ?_
    skip
    have hsz : (gs G).heap.size ≤ H_12.size := by rw [w_12.1]; omega
    refine j_acopy (pc := 49) (t := 6) hX kcp_J4_112 (by decide) 0 1 0 rfl rfl rfl dJ4_add_3_49 (jaw.r (t := 6) hX (by decide) ha) ha hsz (by omega) (by omega) (by omega) (by omega) (fun i hi => absurd hi (by omega)) (by decide) (Nat.le_of_ble_eq_true rfl) (fun H_49 w_49 n_49 => ?_)
    exact last H_49 H_12.size (fun _ => none) 0 (by rw [w_12.1]; omega) hsz (Or.inr (by rw [w_12.1]; exact Nat.le_refl _)) ((hF.trans (hF2.weak (fun a _ e => Or.inl e))).put w_49 (fun z => absurd z (by rw [w_12.1]; omega))) (ho.put w_49 (by rw [w_12.1]; omega)) (n_49.congr (fun j _ => by split <;> rfl)) (hx8.put w_49 (by have := hx.lt; rw [w_12.1]; omega)) (fun j _ => jup_snoc (E := []) (x := x) j) (fun z => absurd z (by rw [w_12.1]; omega))
  · have ha := h6.put w_12 h4
    first | refine j_aload_n (pc := 15) hX dJ4_add_3_15 rfl rfl ?_ | refine j_aload_nq (pc := 15) hX dJ4_add_3_15 rfl rfl ?_
    refine j_get (pc := 16) hX kg_J4_48 dJ4_add_3_16 (by first | assumption | exact jow.r (by assumption)) (by rfl) ?_
    refine j_dup (pc := 19) hX dJ4_add_3_19 (by first | rfl | exact jrf_cat _) ?_
    refine j_istore_n (pc := 20) hX dJ4_add_3_20 rfl (by decide) rfl ?_
    first | refine j_aload_n (pc := 21) hX dJ4_add_3_21 rfl rfl ?_ | refine j_aload_nq (pc := 21) hX dJ4_add_3_21 rfl rfl ?_
    refine j_get (pc := 22) hX kg_J4_9 dJ4_add_3_22 (by first | assumption | exact jow.r (by assumption)) (by rfl) ?_
    refine j_dup (pc := 25) hX dJ4_add_3_25 (by first | rfl | exact jrf_cat _) ?_
    first | refine j_astore (pc := 26) hX dJ4_add_3_26 (by decide) rfl ?_ | refine j_astoreN (pc := 26) hX dJ4_add_3_26 (by decide) rfl ?_ | refine j_astoreq (pc := 26) hX dJ4_add_3_26 (by decide) rfl ?_
    refine j_alen (pc := 28) hX dJ4_add_3_28 (jaw.r (t := 6) hX (by decide) ha) ?_
    refine j_icmp_ne (pc := 29) (tgt := 38) hX dJ4_add_3_29 (by decide) (fun c_29 => ?_) (fun c_29 => ?_)
    rotate_left
    · exact absurd ((nI_eq (b := 10) (by omega) (by omega)).mp c_29) (by omega)
    first | refine j_aload (pc := 38) hX dJ4_add_3_38 rfl ?_ | refine j_aloadq (pc := 38) hX dJ4_add_3_38 rfl ?_
    refine j_iload_n (pc := 40) hX dJ4_add_3_40 rfl rfl ?_
    first | refine j_aload (pc := 41) hX dJ4_add_3_41 rfl ?_ | refine j_aloadq (pc := 41) hX dJ4_add_3_41 rfl ?_
    refine j_iload_n (pc := 43) hX dJ4_add_3_43 rfl rfl ?_
    refine j_iconst (pc := 44) (v := 1) hX dJ4_add_3_44 (by decide) ?_
    refine j_iadd (pc := 45) hX dJ4_add_3_45 ?_
    rw [nI_1]
    refine j_iload_n (pc := 46) hX dJ4_add_3_46 rfl rfl ?_
    refine j_iload_n (pc := 47) hX dJ4_add_3_47 rfl rfl ?_
    refine j_isub (pc := 48) hX dJ4_add_3_48 ?_
    skip
    rw [nI_subN hk]
    refine j_acopy (pc := 49) (t := 6) hX kcp_J4_112 (by decide) k (k + 1) (E.length - k) rfl rfl rfl dJ4_add_3_49 (jaw.r (t := 6) hX (by decide) ha) ha h5 (by omega) (by omega) (by omega) (by omega) (fun i hi => hE7.tk _) (by decide) (Nat.le_of_ble_eq_true rfl) (fun H_49 w_49 n_49 => ?_)
    exact last H_49 arr (fun j => if k + 1 ≤ j ∧ j < k + 1 + (E.length - k) then E[k + (j - (k + 1))]? else E[j]?) 3 h4 h5 (Or.inl rfl) (hF.put w_49 (fun _ => Or.inr rfl)) (ho.put w_49 (fun e => h4 e.symm)) (n_49.congr (fun j _ => by split <;> rfl)) (hx7.put w_49 hxq.2) (fun j _ => ins_at hk j) (fun _ => rfl)
