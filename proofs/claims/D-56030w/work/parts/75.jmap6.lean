/-! the map: treeifyBin, putVal, put -/
set_option maxRecDepth 100000
theorem tbA.fr {K : Type} {d : KD K} {G : JG} {H H1 : Heap} {t cap : Nat} {B : Nat → List (ND K)} {P : Nat → Prop} (h : tbA d G H t cap B) (e : JFr P H H1) (n0 : ¬ P t) (n1 : ∀ n, inN B cap n → ¬ P n.1) (n2 : ∀ n, inN B cap n → ¬ P n.2.2.1) : tbA d G H1 t cap B := by
  obtain ⟨h1, h2, h3, h4, h5, h6⟩ := h
  exact ⟨h1, h2, h3.fr e n0, fun j hj => (h4 j hj).fr e (fun n hn => n1 n ⟨j, hj, hn⟩) (fun n hn => n2 n ⟨j, hj, hn⟩), h5, h6⟩
/-- a write to the map's own object -/
theorem tbA.own {K : Type} {d : KD K} {G : JG} {H H1 : Heap} {t cap q : Nat} {B : Nat → List (ND K)} {fs : List Value} (hC : JC G) (hd : KOK d) (h : tbA d G H t cap B) (hq : jow G H q 9 fs) (w : JPut H H1 q) : tbA d G H1 t cap B :=
  h.fr (P := fun a => a = q) (w.fr rfl) (fun e => hC.neA hq.r h.2.2.1 (by decide) e.symm) (fun n hn e => hC.ne hq.r (h.nd hn).1.choose_spec.r (by decide) e.symm) (fun n hn e => hC.ne (h.nd hn).2.2 hq.r hd.1 e)
theorem c_J1_treeifyBin (l : Launch) (G : JG) (H : Heap) {K : Type} {d : KD K} (hd : KOK d) (q t : Nat) (x : Int32) {sz : Nat} {mc : Int32} {B : Nat → List (ND K)} (h : hmA d G H q (some t) 16 sz mc B) : JMet l yJ1_treeifyBin (ws_ yJ1_treeifyBin cJ1_treeifyBin 9 none) 2 8 G H [.ref q, .ref t, .int x] (jpv (fun H1 => ∃ r, H.size ≤ r ∧ (∃ B', hmA d G H1 q (some r) 32 sz mc B' ∧ ∀ n, inN B' 32 n ↔ inN B 16 n) ∧ JFr (fpN q (some t) B 16) H H1)) (jno) := by
  refine JMet.of [(0, .inr (some q)), (1, .inr (some t)), (2, .inl (.int x))] (by decide) (Nat.le_of_ble_eq_true rfl) rfl (fun X hl hX hQ hEx hr hnm hH => ?_)
  subst hl
  have hT := h.2.2.2.2 t rfl
  first | refine j_aload_n (pc := 0) hX dJ1_treeifyBin_0 rfl rfl ?_ | refine j_aload_nq (pc := 0) hX dJ1_treeifyBin_0 rfl rfl ?_
  refine j_ifnull (pc := 1) hX dJ1_treeifyBin_1 ?_
  first | refine j_aload_n (pc := 4) hX dJ1_treeifyBin_4 rfl rfl ?_ | refine j_aload_nq (pc := 4) hX dJ1_treeifyBin_4 rfl rfl ?_
  refine j_alen (pc := 5) hX dJ1_treeifyBin_5 (jaw.r (t := 8) hX (by decide) hT.2.2.1) ?_
  refine j_dup (pc := 6) hX dJ1_treeifyBin_6 (by first | rfl | exact jrf_cat _) ?_
  refine j_istore_n (pc := 7) hX dJ1_treeifyBin_7 rfl (by decide) rfl ?_
  refine j_bipush (pc := 8) (v := 64) hX dJ1_treeifyBin_8 (by decide) ?_
  refine j_icmp_ge (pc := 10) (tgt := 21) hX dJ1_treeifyBin_10 (by decide) (fun c_10 => ?_) (fun c_10 => ?_)
  · exact absurd c_10 (by decide)
  first | refine j_aload_n (pc := 13) hX dJ1_treeifyBin_13 rfl rfl ?_ | refine j_aload_nq (pc := 13) hX dJ1_treeifyBin_13 rfl rfl ?_
  change JW X G H (0 + 8) 14 _ _
  refine j_runa (pc := 14) (jr_V (pc := 14) hX kv_J1_117 h.2.2.1.r (c_J1_resize32 _ _ _ hd q t h) (by decide) dJ1_treeifyBin_14 rfl rfl (Nat.le_of_ble_eq_true rfl)) (fun r_14 H_14 p_14 z_14 => ?_) jno_x
  refine j_pop (pc := 17) hX dJ1_treeifyBin_17 (by first | rfl | exact jrf_cat _) ?_
  refine j_goto (pc := 18) (tgt := 109) hX dJ1_treeifyBin_18 (by decide) ?_
  exact j_vret hX hQ hr dJ1_treeifyBin_109 ⟨rfl, _, p_14⟩
theorem c_J1_afterNodeInsertion (l : Launch) (G : JG) (H : Heap) (q : Nat) : JMet l yJ1_afterNodeInsertion (ws_ yJ1_afterNodeInsertion cJ1_afterNodeInsertion 2 none) 1 0 G H [.ref q, .int 1] (jpve H) (jno) := by
  refine JMet.of [(0, .inr (some q)), (1, .inl (.int 1))] (by decide) (Nat.le_of_ble_eq_true rfl) rfl (fun X hl hX hQ hEx hr hnm hH => ?_)
  subst hl
  exact j_vret hX hQ hr dJ1_afterNodeInsertion_0 ⟨rfl, rfl⟩
theorem c_J1_afterNodeRemoval (l : Launch) (G : JG) (H : Heap) (q x : Nat) : JMet l yJ1_afterNodeRemoval (ws_ yJ1_afterNodeRemoval cJ1_afterNodeRemoval 2 none) 1 0 G H [.ref q, .ref x] (jpve H) (jno) := by
  refine JMet.of [(0, .inr (some q)), (1, .inr (some x))] (by decide) (Nat.le_of_ble_eq_true rfl) rfl (fun X hl hX hQ hEx hr hnm hH => ?_)
  subst hl
  exact j_vret hX hQ hr dJ1_afterNodeRemoval_0 ⟨rfl, rfl⟩
/-- what putting a key that is not there does -/
def PutP {K : Type} (d : KD K) (G : JG) (H H1 : Heap) (q kq v : Nat) (k : K) (tab : Option Nat) (cap sz : Nat) (mc : Int32) (B : Nat → List (ND K)) : Prop :=
  ∃ (t' cap' a : Nat) (B' : Nat → List (ND K)), hmA d G H1 q (some t') cap' (sz + 1) (mc + 1) B' ∧ (∀ n, inN B' cap' n ↔ inN B cap n ∨ n = (a, k, kq, v)) ∧ H.size ≤ a ∧ (tab = some t' ∨ H.size ≤ t') ∧ JFr (fpN q tab B cap) H H1
theorem c_J1_putValI (l : Launch) (G : JG) (H : Heap) (q kq v : Nat) (k : Int32) {tab : Option Nat} {cap sz : Nat} {mc : Int32} {B : Nat → List (ND (Int32))} (h : hmA kdI G H q tab cap sz mc B) (hk : kA kdI G H kq k) (hno : ∀ n, inN B cap n → n.2.1 ≠ k) (hs : sz < 24) (hb : cap = 32 → (B (ixN 32 (hK kdI k))).length ≤ 7) : JMet l yJ1_putVal (ws_ yJ1_putVal cJ1_putVal 13 (some (.object "java/lang/Object"))) 4 21 G H [.ref q, .int (hK kdI k), .ref kq, .ref v, .int 0, .int 1] (jpq (fun r H1 => r = none ∧ PutP kdI G H H1 q kq v k tab cap sz mc B)) (jno) := by
  refine JMet.of [(0, .inr (some q)), (1, .inl (.int (hK kdI k))), (2, .inr (some kq)), (3, .inr (some v)), (4, .inl (.int 0)), (5, .inl (.int 1))] (by decide) (Nat.le_of_ble_eq_true rfl) rfl (fun X hl hX hQ hEx hr hnm hH => ?_)
  subst hl
  obtain ⟨hq, hsz, ho, hnone, htab⟩ := id h
  have hC := hX.C
  have hd := kdI_ok
  have ret : ∀ Hc : Heap, PutP kdI G H Hc q kq v k tab cap sz mc B → JW X G Hc 0 292 [(0, .inr (some q)), (5, .inl (.int 1))] [] := by
    intro Hc hP
    have hoq : ∃ fs, jow G Hc q 9 fs := by obtain ⟨t', cap', a, B', hm, -⟩ := hP; exact ⟨_, hm.2.2.1⟩
    obtain ⟨fs, hoq⟩ := hoq
    first | refine j_aload_n (pc := 292) hX dJ1_putVal_292 rfl rfl ?_ | refine j_aload_nq (pc := 292) hX dJ1_putVal_292 rfl rfl ?_
    refine j_iload (pc := 293) hX dJ1_putVal_293 rfl ?_
    refine j_runve (pc := 295) (jr_V (pc := 295) hX kv_J1_205 hoq.r (c_J1_afterNodeInsertion _ _ _ q) (by decide) dJ1_putVal_295 rfl rfl (Nat.le_of_ble_eq_true rfl)) ?_ jno_x
    refine j_null (pc := 298) hX dJ1_putVal_298 ?_
    first | exact j_aret hX hQ hr (by first | exact Or.inl ⟨_, rfl⟩ | exact Or.inr ⟨_, rfl⟩) dJ1_putVal_299 ⟨none, rfl, rfl, hP⟩ | exact j_aretN hX hQ hr (by first | exact Or.inl ⟨_, rfl⟩ | exact Or.inr ⟨_, rfl⟩) dJ1_putVal_299 ⟨none, rfl, rfl, hP⟩ | exact j_aretq hX hQ hr (by first | exact Or.inl ⟨_, rfl⟩ | exact Or.inr ⟨_, rfl⟩) dJ1_putVal_299 ⟨none, rfl, rfl, hP⟩
  have tail : ∀ (Hc : Heap) (t cap' a : Nat) (Bc : Nat → List (ND (Int32))), jow G Hc q 9 (hmF sz mc cap' (some t)) → tbA kdI G Hc t cap' Bc → (∀ n, inN Bc cap' n ↔ inN B cap n ∨ n = (a, k, kq, v)) → H.size ≤ a → (tab = some t ∨ H.size ≤ t) → JFr (fpN q tab B cap) H Hc → (∀ n, inN Bc cap' n → n.1 < H.size → fpN q tab B cap n.1) → JW X G Hc 8 259 [(0, .inr (some q)), (5, .inl (.int 1))] [] := by
    intro Hc t cap' a Bc hoc tb hin ha ht hF hfp
    have hcap := tb.1
    rcases hcap with rfl | rfl
    · skip
      first | refine j_aload_n (pc := 259) hX dJ1_putVal_259 rfl rfl ?_ | refine j_aload_nq (pc := 259) hX dJ1_putVal_259 rfl rfl ?_
      refine j_dup (pc := 260) hX dJ1_putVal_260 (by first | rfl | exact jrf_cat _) ?_
      refine j_get (pc := 261) hX kg_J1_202 dJ1_putVal_261 (by first | assumption | exact jow.r (by assumption)) (by rfl) ?_
      refine j_iconst (pc := 264) (v := 1) hX dJ1_putVal_264 (by decide) ?_
      refine j_iadd (pc := 265) hX dJ1_putVal_265 ?_
      refine j_put (pc := 266) hX kp_J1_202 dJ1_putVal_266 (by assumption) hq rfl rfl rfl (fun H_266 w_266 n_266 => ?_)
      first | refine j_aload_n (pc := 269) hX dJ1_putVal_269 rfl rfl ?_ | refine j_aload_nq (pc := 269) hX dJ1_putVal_269 rfl rfl ?_
      refine j_dup (pc := 270) hX dJ1_putVal_270 (by first | rfl | exact jrf_cat _) ?_
      refine j_get (pc := 271) hX kg_J1_156 dJ1_putVal_271 (by first | assumption | exact jow.r (by assumption)) (by rfl) ?_
      refine j_iconst (pc := 274) (v := 1) hX dJ1_putVal_274 (by decide) ?_
      refine j_iadd (pc := 275) hX dJ1_putVal_275 ?_
      rw [nI_1]
      refine j_dup_x1 (pc := 276) hX dJ1_putVal_276 (by first | rfl | exact jrf_cat _) (by first | rfl | exact jrf_cat _) ?_
      refine j_put (pc := 277) hX kp_J1_156 dJ1_putVal_277 (by assumption) hq rfl rfl rfl (fun H_277 w_277 n_277 => ?_)
      have hm : hmA kdI G H_277 q (some t) 16 (sz + 1) (mc + 1) Bc := ⟨hq, by omega, n_277, (fun e => by cases e), fun t' e => by cases e; exact (tb.own hC hd hoc w_266).own hC hd n_266 w_277⟩
      have hF2 := (hF.put w_266 (fun _ => Or.inl rfl)).put w_277 (fun _ => Or.inl rfl)
      first | refine j_aload_n (pc := 280) hX dJ1_putVal_280 rfl rfl ?_ | refine j_aload_nq (pc := 280) hX dJ1_putVal_280 rfl rfl ?_
      refine j_get (pc := 281) hX kg_J1_88 dJ1_putVal_281 (by first | assumption | exact jow.r (by assumption)) (by rfl) ?_
      refine j_icmp_le (pc := 284) (tgt := 292) hX dJ1_putVal_284 (by decide) (fun c_284 => ?_) (fun c_284 => ?_)
      · first | exact j_lv (by simp [jsb, jget, jval]) (ret _ ⟨_, _, a, B', hm', fun n => (hB' n).trans (hin n), ha, Or.inr (Nat.le_trans hsz2 hr1), JFr.call hF2 hF3 (fun x hx hP => by rcases hP with z | z | ⟨n, hn, z⟩; exact Or.inl z; rcases ht with ht | ht; exact Or.inr (Or.inl (ht.trans z)); cases z; omega; rw [← z]; exact hfp n hn (by rw [z]; exact hx))⟩) | exact j_lv (by simp [jsb, jget, jval]) (j_weak (Nat.zero_le _) (ret _ ⟨_, _, a, Bc, hm, hin, ha, ht, hF2⟩))
      · first | refine j_aload_n (pc := 287) hX dJ1_putVal_287 rfl rfl ?_ | refine j_aload_nq (pc := 287) hX dJ1_putVal_287 rfl rfl ?_
        change JW X G H_277 (0 + 8) 288 _ _
        refine j_runa (pc := 288) (jr_V (pc := 288) hX kv_J1_117 n_277.r (c_J1_resize32 _ _ _ hd q t hm) (by decide) dJ1_putVal_288 rfl rfl (Nat.le_of_ble_eq_true rfl)) (fun r_288 H_288 p_288 z_288 => ?_) jno_x
        obtain ⟨hr1, ⟨B', hm', hB'⟩, hF3⟩ := p_288
        have hsz2 : H.size ≤ H_277.size := hF2.1
        refine j_pop (pc := 291) hX dJ1_putVal_291 (by first | rfl | exact jrf_cat _) ?_
        first | exact j_lv (by simp [jsb, jget, jval]) (ret _ ⟨_, _, a, B', hm', fun n => (hB' n).trans (hin n), ha, Or.inr (Nat.le_trans hsz2 hr1), JFr.call hF2 hF3 (fun x hx hP => by rcases hP with z | z | ⟨n, hn, z⟩; exact Or.inl z; rcases ht with ht | ht; exact Or.inr (Or.inl (ht.trans z)); cases z; omega; rw [← z]; exact hfp n hn (by rw [z]; exact hx))⟩) | exact j_lv (by simp [jsb, jget, jval]) (j_weak (Nat.zero_le _) (ret _ ⟨_, _, a, Bc, hm, hin, ha, ht, hF2⟩))
    · skip
      first | refine j_aload_n (pc := 259) hX dJ1_putVal_259 rfl rfl ?_ | refine j_aload_nq (pc := 259) hX dJ1_putVal_259 rfl rfl ?_
      refine j_dup (pc := 260) hX dJ1_putVal_260 (by first | rfl | exact jrf_cat _) ?_
      refine j_get (pc := 261) hX kg_J1_202 dJ1_putVal_261 (by first | assumption | exact jow.r (by assumption)) (by rfl) ?_
      refine j_iconst (pc := 264) (v := 1) hX dJ1_putVal_264 (by decide) ?_
      refine j_iadd (pc := 265) hX dJ1_putVal_265 ?_
      refine j_put (pc := 266) hX kp_J1_202 dJ1_putVal_266 (by assumption) hq rfl rfl rfl (fun H_266 w_266 n_266 => ?_)
      first | refine j_aload_n (pc := 269) hX dJ1_putVal_269 rfl rfl ?_ | refine j_aload_nq (pc := 269) hX dJ1_putVal_269 rfl rfl ?_
      refine j_dup (pc := 270) hX dJ1_putVal_270 (by first | rfl | exact jrf_cat _) ?_
      refine j_get (pc := 271) hX kg_J1_156 dJ1_putVal_271 (by first | assumption | exact jow.r (by assumption)) (by rfl) ?_
      refine j_iconst (pc := 274) (v := 1) hX dJ1_putVal_274 (by decide) ?_
      refine j_iadd (pc := 275) hX dJ1_putVal_275 ?_
      rw [nI_1]
      refine j_dup_x1 (pc := 276) hX dJ1_putVal_276 (by first | rfl | exact jrf_cat _) (by first | rfl | exact jrf_cat _) ?_
      refine j_put (pc := 277) hX kp_J1_156 dJ1_putVal_277 (by assumption) hq rfl rfl rfl (fun H_277 w_277 n_277 => ?_)
      have hm : hmA kdI G H_277 q (some t) 32 (sz + 1) (mc + 1) Bc := ⟨hq, by omega, n_277, (fun e => by cases e), fun t' e => by cases e; exact (tb.own hC hd hoc w_266).own hC hd n_266 w_277⟩
      have hF2 := (hF.put w_266 (fun _ => Or.inl rfl)).put w_277 (fun _ => Or.inl rfl)
      first | refine j_aload_n (pc := 280) hX dJ1_putVal_280 rfl rfl ?_ | refine j_aload_nq (pc := 280) hX dJ1_putVal_280 rfl rfl ?_
      refine j_get (pc := 281) hX kg_J1_88 dJ1_putVal_281 (by first | assumption | exact jow.r (by assumption)) (by rfl) ?_
      refine j_icmp_le (pc := 284) (tgt := 292) hX dJ1_putVal_284 (by decide) (fun c_284 => ?_) (fun c_284 => ?_)
      rotate_left
      · exact absurd (nI_le (show sz + 1 ≤ 32 / 4 * 3 by omega) (by omega)) c_284
      exact j_lv (by simp [jsb, jget, jval]) (j_weak (Nat.zero_le _) (ret _ ⟨_, _, a, Bc, hm, hin, ha, ht, hF2⟩))
  have main : ∀ (Hc : Heap) (t cap1 : Nat) (Bc : Nat → List (ND (Int32))), hmA kdI G Hc q (some t) cap1 sz mc Bc → kA kdI G Hc kq k → (cap1 = 32 → (Bc (ixN 32 (hK kdI k))).length ≤ 7) → (∀ n, inN Bc cap1 n ↔ inN B cap n) → (tab = some t ∨ H.size ≤ t) → JFr (fpN q tab B cap) H Hc → (∀ n, inN Bc cap1 n → n.1 < H.size → fpN q tab B cap n.1) → JW X G Hc 17 29 [(0, .inr (some q)), (1, .inl (.int (hK kdI k))), (2, .inr (some kq)), (3, .inr (some v)), (5, .inl (.int 1)), (6, .inr (some t)), (8, .inl (.int (nI cap1)))] [] := by
    intro Hc t cap1 Bc hm hk hb hin0 htt hF hfp
    obtain ⟨-, -, hoc, -, htb⟩ := id hm
    have tb := htb t rfl
    obtain ⟨hcap, ht, ha, hch, hix, hnd⟩ := id tb
    have hlt := ix_lt hcap (hK kdI k)
    have hin : vp_in (nI (ixN cap1 (hK kdI k))) cap1 := vp_in_nI hlt (by omega)
    have hc := hch _ hlt
    have hne : ∀ n ∈ Bc (ixN cap1 (hK kdI k)), n.2.1 ≠ k := fun n hn => hno n ((hin0 n).mp ⟨_, hlt, hn⟩)
    have hHc : H.size ≤ Hc.size := hF.1
    have hin1 : ∀ (a : Nat) (n : ND (Int32)), inN (jup Bc (ixN cap1 (hK kdI k)) (Bc (ixN cap1 (hK kdI k)) ++ [(a, k, kq, v)])) cap1 n ↔ inN B cap n ∨ n = (a, k, kq, v) := fun a n => (inN_add hlt).trans (or_congr (hin0 n) Iff.rfl)
    have hfp1 : ∀ (a : Nat), H.size ≤ a → ∀ n : ND (Int32), inN (jup Bc (ixN cap1 (hK kdI k)) (Bc (ixN cap1 (hK kdI k)) ++ [(a, k, kq, v)])) cap1 n → n.1 < H.size → fpN q tab B cap n.1 := fun a hga n hn hl => by
      rcases (inN_add hlt).mp hn with hn | rfl
      · exact hfp n hn hl
      · exact absurd hl (by show ¬ a < H.size; omega)
    first | refine j_aload (pc := 29) hX dJ1_putVal_29 rfl ?_ | refine j_aloadq (pc := 29) hX dJ1_putVal_29 rfl ?_
    refine j_iload (pc := 31) hX dJ1_putVal_31 rfl ?_
    refine j_iconst (pc := 33) (v := 1) hX dJ1_putVal_33 (by decide) ?_
    refine j_isub (pc := 34) hX dJ1_putVal_34 ?_
    refine j_iload_n (pc := 35) hX dJ1_putVal_35 rfl rfl ?_
    refine j_iand (pc := 36) hX dJ1_putVal_36 ?_
    refine j_dup (pc := 37) hX dJ1_putVal_37 (by first | rfl | exact jrf_cat _) ?_
    refine j_istore (pc := 38) hX dJ1_putVal_38 (by decide) rfl ?_
    skip
    rw [show (nI cap1 - 1) &&& hK kdI k = nI (ixN cap1 (hK kdI k)) from ix_and hcap _]
    refine j_aald (pc := 40) hX (t := 8) (by decide) dJ1_putVal_40 (jaw.r (t := 8) hX (by decide) ha) hin ?_
    rw [nI_clamp (by omega)]
    cases hL : Bc (ixN cap1 (hK kdI k)) with
    | nil =>
      change JW X G Hc 17 41 _ [.null]
      refine j_dup (pc := 41) hX dJ1_putVal_41 (by first | rfl | exact jrf_cat _) ?_
      first | refine j_astore (pc := 42) hX dJ1_putVal_42 (by decide) rfl ?_ | refine j_astoreN (pc := 42) hX dJ1_putVal_42 (by decide) rfl ?_ | refine j_astoreq (pc := 42) hX dJ1_putVal_42 (by decide) rfl ?_
      refine j_ifnonnullN (pc := 44) hX dJ1_putVal_44 ?_
      first | refine j_aload (pc := 47) hX dJ1_putVal_47 rfl ?_ | refine j_aloadq (pc := 47) hX dJ1_putVal_47 rfl ?_
      refine j_iload (pc := 49) hX dJ1_putVal_49 rfl ?_
      first | refine j_aload_n (pc := 51) hX dJ1_putVal_51 rfl rfl ?_ | refine j_aload_nq (pc := 51) hX dJ1_putVal_51 rfl rfl ?_
      refine j_iload_n (pc := 52) hX dJ1_putVal_52 rfl rfl ?_
      first | refine j_aload_n (pc := 53) hX dJ1_putVal_53 rfl rfl ?_ | refine j_aload_nq (pc := 53) hX dJ1_putVal_53 rfl rfl ?_
      first | refine j_aload_n (pc := 54) hX dJ1_putVal_54 rfl rfl ?_ | refine j_aload_nq (pc := 54) hX dJ1_putVal_54 rfl rfl ?_
      refine j_null (pc := 55) hX dJ1_putVal_55 ?_
      skip
      change JW X G Hc (16 + 1) 56 _ _
      refine j_runa (pc := 56) (jr_V (pc := 56) hX kv_J1_186 hoc.r (c_J1_newNode _ _ _ q (hK kdI k) kq v none) (by decide) dJ1_putVal_56 rfl rfl (Nat.le_of_ble_eq_true rfl)) (fun r_56 H_56 p_56 z_56 => ?_) jno_x
      obtain ⟨ea, hga, hna, hex⟩ := p_56
      skip
      have ha2 := ha.ext hex
      refine j_aast (pc := 59) hX ⟨by decide, by decide, _, _, rfl, rfl, Or.inl rfl⟩ dJ1_putVal_59 (t := 8) (n := cap1) (f := fun i => nxN (Bc i) none) ha2 hna.r ht hin (fun H3 w3 n3 => ?_)
      rw [nI_clamp (by omega)] at n3
      have tb2 : tbA kdI G H_56 t cap1 Bc := tb.fr (P := fun _ => False) hex.fr (fun z => z) (fun _ _ z => z) (fun _ _ z => z)
      have keep : ∀ (L : List (ND (Int32))), chE kdI G H_56 none L → chE kdI G H3 none L := fun L h5 => h5.fr (P := fun a => a = t) (w3.fr rfl) (fun n hn => hC.neA (h5.get hn).1.choose_spec.r ha2 (by decide)) (fun n hn => hC.neA (h5.get hn).2.2 ha2 (by decide))
      have hx1 : chE kdI G H_56 none [(r_56, k, kq, v)] := ⟨hna, hga, hk.ext hex, trivial⟩
      have tb3 := tbA.add (x := (r_56, k, kq, v)) tb2 rfl hne (n3.congr (fun j hj => by unfold jup; by_cases e : j = ixN cap1 (hK kdI k); rw [if_pos e, if_pos e, hL]; rfl; rw [if_neg e, if_neg e])) (keep _ (by rw [hL]; exact hx1)) (fun j hj e => keep _ (tb2.2.2.2.1 j hj))
      have ho3 := (hoc.ext hex).put w3 (hC.neA (hoc.ext hex).r ha2 (by decide))
      have hra : H.size ≤ r_56 := by omega
      refine j_goto (pc := 60) (tgt := 259) hX dJ1_putVal_60 (by decide) ?_
      exact j_lv (by simp [jsb, jget, jval]) (j_weak (by omega) (tail H3 t cap1 r_56 _ ho3 tb3 (hin1 r_56) hra htt ((JFr.trans hF hex.fr).put w3 (fun hl => by rcases htt with z | z; exact Or.inr (Or.inl z); omega)) (hfp1 r_56 hra)))
    | cons n0 t0 =>
      change JW X G Hc 17 41 _ [.ref n0.1]
      rw [hL] at hc hne
      have hcap7 : cap1 = 32 → (n0 :: t0).length ≤ 7 := fun e => by subst e; rw [← hL]; exact hb rfl
      have loop : ∀ (R : List (ND (Int32))) (e : ND (Int32)) (A : List (ND (Int32))), A ++ e :: R = n0 :: t0 → JW X G Hc 17 134 [(0, .inr (some q)), (1, .inl (.int (hK kdI k))), (2, .inr (some kq)), (3, .inr (some v)), (5, .inl (.int 1)), (6, .inr (some t)), (7, .inr (some e.1)), (12, .inl (.int (nI A.length)))] [] := by
        intro R
        induction R with
        | nil =>
          intro e A hA
          have hA2 : A ++ [e] = n0 :: t0 := hA
          have hlen : (n0 :: t0).length = A.length + 1 := by rw [← hA2]; simp
          have hcA : chE kdI G Hc none (A ++ [e]) := by rw [hA2]; exact hc
          obtain ⟨hcA1, hoe, hge, hke, -⟩ := chE_app.mp hcA
          have hndA : (A ++ [e]).Nodup := by rw [hA2, ← hL]; exact tb.nodup hlt
          have hinA : ∀ n ∈ A ++ [e], inN Bc cap1 n := fun n hn => ⟨_, hlt, by rw [hL, ← hA2]; exact hn⟩
          have hem : e ∈ A ++ [e] := List.mem_append_right _ List.mem_cons_self
          first | refine j_aload (pc := 134) hX dJ1_putVal_134 rfl ?_ | refine j_aloadq (pc := 134) hX dJ1_putVal_134 rfl ?_
          refine j_get (pc := 136) hX kg_J1_177 dJ1_putVal_136 hoe.r (by rfl) ?_
          refine j_dup (pc := 139) hX dJ1_putVal_139 (by first | rfl | exact jrf_cat _) ?_
          first | refine j_astore (pc := 140) hX dJ1_putVal_140 (by decide) rfl ?_ | refine j_astoreN (pc := 140) hX dJ1_putVal_140 (by decide) rfl ?_ | refine j_astoreq (pc := 140) hX dJ1_putVal_140 (by decide) rfl ?_
          refine j_ifnonnullN (pc := 142) hX dJ1_putVal_142 ?_
          first | refine j_aload (pc := 145) hX dJ1_putVal_145 rfl ?_ | refine j_aloadq (pc := 145) hX dJ1_putVal_145 rfl ?_
          first | refine j_aload_n (pc := 147) hX dJ1_putVal_147 rfl rfl ?_ | refine j_aload_nq (pc := 147) hX dJ1_putVal_147 rfl rfl ?_
          refine j_iload_n (pc := 148) hX dJ1_putVal_148 rfl rfl ?_
          first | refine j_aload_n (pc := 149) hX dJ1_putVal_149 rfl rfl ?_ | refine j_aload_nq (pc := 149) hX dJ1_putVal_149 rfl rfl ?_
          first | refine j_aload_n (pc := 150) hX dJ1_putVal_150 rfl rfl ?_ | refine j_aload_nq (pc := 150) hX dJ1_putVal_150 rfl rfl ?_
          refine j_null (pc := 151) hX dJ1_putVal_151 ?_
          skip
          change JW X G Hc (16 + 1) 152 _ _
          refine j_runa (pc := 152) (jr_V (pc := 152) hX kv_J1_186 hoc.r (c_J1_newNode _ _ _ q (hK kdI k) kq v none) (by decide) dJ1_putVal_152 rfl rfl (Nat.le_of_ble_eq_true rfl)) (fun r_152 H_152 p_152 z_152 => ?_) jno_x
          obtain ⟨ea, hga, hna, hex⟩ := p_152
          refine j_put (pc := 155) hX kp_J1_177 dJ1_putVal_155 (hoe.ext hex) hge rfl rfl rfl (fun H_155 w_155 n_155 => ?_)
          skip
          have ha2 := ha.ext hex
          have tb2 : tbA kdI G H_152 t cap1 Bc := tb.fr (P := fun _ => False) hex.fr (fun z => z) (fun _ _ z => z) (fun _ _ z => z)
          have hra : H.size ≤ r_152 := by omega
          have hre : r_152 ≠ e.1 := fun z => by have := hoe.lt; omega
          have inj := fun n (hn : inN Bc cap1 n) (z : n.1 = e.1) => tb.eq hd hn (hinA e hem) z
          have kne : ∀ n, inN Bc cap1 n → n.2.2.1 ≠ e.1 := fun n hn z => hC.ne (tb.nd hn).2.2 hoe.r hd.2.1 z
          obtain ⟨-, -, g3⟩ := List.nodup_append.mp hndA
          have hb1 : chE kdI G H_155 none (Bc (ixN cap1 (hK kdI k)) ++ [(r_152, k, kq, v)]) := by
            rw [hL, ← hA2]
            refine chE_app.mpr ⟨(hcA.ext hex).close w_155 n_155 (fun n hn z => g3 n hn e List.mem_cons_self (inj n (hinA n (List.mem_append_left _ hn)) z)) (fun n hn => kne n (hinA n hn)), hna.put w_155 hre, hga, (hk.ext hex).put w_155 (hC.ne (hk.ext hex) (hoe.ext hex).r hd.2.1), trivial⟩
          have tb3 := tbA.add (H1 := H_155) (x := (r_152, k, kq, v)) tb2 rfl (fun n hn => hne n (hL ▸ hn)) ((ha2.put w_155 (fun z => hC.neA hoe.r ha (by decide) z.symm)).congr (fun j hj => by unfold jup; by_cases z : j = ixN cap1 (hK kdI k); rw [if_pos z, z, hL]; rfl; rw [if_neg z])) hb1 (fun j hj z => (tb2.2.2.2.1 j hj).keep (fun n hn => ⟨w_155.2 _ (fun y => z (tb.bin hj hlt hn (by rw [hL, ← hA2, inj n ⟨j, hj, hn⟩ y]; exact hem))), w_155.2 _ (kne n ⟨j, hj, hn⟩)⟩))
          have ho3 := (hoc.ext hex).put w_155 (hC.ne hoc.r hoe.r (by decide))
          have hF3 := (JFr.trans hF hex.fr).put w_155 (fun hl => hfp e (hinA e hem) hl)
          have small : ∀ b, JW X G H_155 (8 + b) 222 [(0, .inr (some q)), (5, .inl (.int 1)), (10, .inr none)] [] := by
            intro b
            first | refine j_aload (pc := 222) hX dJ1_putVal_222 rfl ?_ | refine j_aloadq (pc := 222) hX dJ1_putVal_222 rfl ?_
            refine j_ifnullN (pc := 224) (tgt := 259) hX dJ1_putVal_224 (by decide) ?_
            exact j_lv (by simp [jsb, jget, jval]) (j_weak (by omega) (tail H_155 t cap1 r_152 _ ho3 tb3 (hin1 r_152) hra htt hF3 (hfp1 r_152 hra)))
          rcases hcap with hcap | hcap
          · subst hcap
            have hm3 : hmA kdI G H_155 q (some t) 16 sz mc _ := ⟨hq, hsz, ho3, (fun z => by cases z), (fun t' z => by cases z; exact tb3)⟩
            have big : ¬ nI A.length < 7 → JW X G H_155 16 165 [(0, .inr (some q)), (1, .inl (.int (hK kdI k))), (5, .inl (.int 1)), (6, .inr (some t)), (10, .inr none)] [] := by
              intro _
              first | refine j_aload_n (pc := 165) hX dJ1_putVal_165 rfl rfl ?_ | refine j_aload_nq (pc := 165) hX dJ1_putVal_165 rfl rfl ?_
              first | refine j_aload (pc := 166) hX dJ1_putVal_166 rfl ?_ | refine j_aloadq (pc := 166) hX dJ1_putVal_166 rfl ?_
              refine j_iload_n (pc := 168) hX dJ1_putVal_168 rfl rfl ?_
              change JW X G H_155 (8 + 8) 169 _ _
              refine j_runv (pc := 169) (jr_V (pc := 169) hX kv_J1_194 ho3.r (c_J1_treeifyBin _ _ _ hd q t (hK kdI k) hm3) (by decide) dJ1_putVal_169 rfl rfl (Nat.le_of_ble_eq_true rfl)) (fun H_169 p_169 z_169 => ?_) jno_x
              obtain ⟨r5, hr5, ⟨B5, hm5, hB5⟩, hF5⟩ := p_169
              have hsz5 : H.size ≤ H_155.size := hF3.1
              refine j_goto (pc := 172) (tgt := 222) hX dJ1_putVal_172 (by decide) ?_
              first | refine j_aload (pc := 222) hX dJ1_putVal_222 rfl ?_ | refine j_aloadq (pc := 222) hX dJ1_putVal_222 rfl ?_
              refine j_ifnullN (pc := 224) (tgt := 259) hX dJ1_putVal_224 (by decide) ?_
              exact j_lv (by simp [jsb, jget, jval]) (tail _ r5 32 r_152 B5 hm5.2.2.1 (hm5.2.2.2.2 r5 rfl) (fun n => (hB5 n).trans (hin1 r_152 n)) hra (Or.inr (Nat.le_trans hsz5 hr5)) (JFr.call hF3 hF5 (fun x hx hP => by rcases hP with z | z | ⟨n, hn, z⟩; exact Or.inl z; rcases htt with ht | ht; exact Or.inr (Or.inl (ht.trans z)); cases z; omega; rw [← z]; exact hfp1 r_152 hra n hn (by rw [z]; exact hx))) (fun n hn hl => hfp1 r_152 hra n ((hB5 n).mp hn) hl))
            refine j_iload (pc := 158) hX dJ1_putVal_158 rfl ?_
            refine j_bipush (pc := 160) (v := 7) hX dJ1_putVal_160 (by decide) ?_
            refine j_icmp_lt (pc := 162) (tgt := 222) hX dJ1_putVal_162 (by decide) (fun c_162 => ?_) (fun c_162 => ?_)
            · exact j_lv (by simp [jsb, jget, jval]) (small 8)
            · exact j_lv (by simp [jsb, jget, jval]) (big c_162)
          · subst hcap
            have h7 := hcap7 rfl
            refine j_iload (pc := 158) hX dJ1_putVal_158 rfl ?_
            refine j_bipush (pc := 160) (v := 7) hX dJ1_putVal_160 (by decide) ?_
            refine j_icmp_lt (pc := 162) (tgt := 222) hX dJ1_putVal_162 (by decide) (fun c_162 => ?_) (fun c_162 => ?_)
            rotate_left
            · exact absurd (nI_lt (show A.length < 7 by omega) (by omega)) c_162
            exact j_lv (by simp [jsb, jget, jval]) (small 8)
        | cons e1 R ih =>
          intro e A hA
          have hcA : chE kdI G Hc none (A ++ e :: e1 :: R) := by rw [hA]; exact hc
          obtain ⟨hcA1, hoe, hge, hke, hoe1, hge1, hke1, -⟩ := chE_app.mp hcA
          have hne1 : e1.2.1 ≠ k := hne e1 (by rw [← hA]; simp)
          first | refine j_aload (pc := 134) hX dJ1_putVal_134 rfl ?_ | refine j_aloadq (pc := 134) hX dJ1_putVal_134 rfl ?_
          refine j_get (pc := 136) hX kg_J1_177 dJ1_putVal_136 hoe.r (by rfl) ?_
          refine j_dup (pc := 139) hX dJ1_putVal_139 (by first | rfl | exact jrf_cat _) ?_
          first | refine j_astore (pc := 140) hX dJ1_putVal_140 (by decide) rfl ?_ | refine j_astoreN (pc := 140) hX dJ1_putVal_140 (by decide) rfl ?_ | refine j_astoreq (pc := 140) hX dJ1_putVal_140 (by decide) rfl ?_
          refine j_ifnonnull (pc := 142) (tgt := 175) hX dJ1_putVal_142 (by decide) ?_
          first | refine j_aload (pc := 175) hX dJ1_putVal_175 rfl ?_ | refine j_aloadq (pc := 175) hX dJ1_putVal_175 rfl ?_
          refine j_get (pc := 177) hX kg_J1_168 dJ1_putVal_177 hoe1.r (by rfl) ?_
          refine j_iload_n (pc := 180) hX dJ1_putVal_180 rfl rfl ?_
          refine j_icmp_ne (pc := 181) (tgt := 212) hX dJ1_putVal_181 (by decide) (fun c_181 => ?_) (fun c_181 => ?_)
          · first | refine j_aload (pc := 212) hX dJ1_putVal_212 rfl ?_ | refine j_aloadq (pc := 212) hX dJ1_putVal_212 rfl ?_
            first | refine j_astore (pc := 214) hX dJ1_putVal_214 (by decide) rfl ?_ | refine j_astoreN (pc := 214) hX dJ1_putVal_214 (by decide) rfl ?_ | refine j_astoreq (pc := 214) hX dJ1_putVal_214 (by decide) rfl ?_
            refine j_iincc (pc := 216) (m := 1) hX dJ1_putVal_216 rfl (by decide) (by decide) rfl ?_
            refine j_goto (pc := 219) (tgt := 134) hX dJ1_putVal_219 (by decide) ?_
            exact j_lv (by simp [jsb, jget, jval, nI_1]) (ih e1 (A ++ [e]) (by rw [List.append_assoc]; exact hA))
          · first | refine j_aload (pc := 184) hX dJ1_putVal_184 rfl ?_ | refine j_aloadq (pc := 184) hX dJ1_putVal_184 rfl ?_
            refine j_get (pc := 186) hX kg_J1_170 dJ1_putVal_186 hoe1.r (by rfl) ?_
            refine j_dup (pc := 189) hX dJ1_putVal_189 (by first | rfl | exact jrf_cat _) ?_
            first | refine j_astore (pc := 190) hX dJ1_putVal_190 (by decide) rfl ?_ | refine j_astoreN (pc := 190) hX dJ1_putVal_190 (by decide) rfl ?_ | refine j_astoreq (pc := 190) hX dJ1_putVal_190 (by decide) rfl ?_
            first | refine j_aload_n (pc := 192) hX dJ1_putVal_192 rfl rfl ?_ | refine j_aload_nq (pc := 192) hX dJ1_putVal_192 rfl rfl ?_
            refine j_acmp_eq (pc := 193) (rx := (some _)) (ry := (some _)) (tgt := 222) hX dJ1_putVal_193 (by decide) (fun c_193 => ?_) (fun c_193 => ?_)
            · exact absurd (hd.2.2 _ _ _ _ _ hke1 (by rw [← Option.some.inj c_193] at hk; exact hk)) hne1
            first | refine j_aload_n (pc := 196) hX dJ1_putVal_196 rfl rfl ?_ | refine j_aload_nq (pc := 196) hX dJ1_putVal_196 rfl rfl ?_
            refine j_ifnull (pc := 197) hX dJ1_putVal_197 ?_
            first | refine j_aload_n (pc := 200) hX dJ1_putVal_200 rfl rfl ?_ | refine j_aload_nq (pc := 200) hX dJ1_putVal_200 rfl rfl ?_
            first | refine j_aload (pc := 201) hX dJ1_putVal_201 rfl ?_ | refine j_aloadq (pc := 201) hX dJ1_putVal_201 rfl ?_
            refine j_rune (pc := 203) (jr_U (pc := 203) hX ku_J1_173_16 hk (c_J19_equals _ _ _ kq e1.2.2.1 hk hke1) (by decide) dJ1_putVal_203 rfl rfl (Nat.le_of_ble_eq_true rfl)) ?_ jno_x
            refine j_if_eq (pc := 206) (tgt := 212) hX dJ1_putVal_206 (by decide) (fun c_206 => ?_) (fun c_206 => ?_)
            rotate_left
            · exact absurd (of_decide_eq_true (jb_n.mp c_206)).symm hne1
            first | refine j_aload (pc := 212) hX dJ1_putVal_212 rfl ?_ | refine j_aloadq (pc := 212) hX dJ1_putVal_212 rfl ?_
            first | refine j_astore (pc := 214) hX dJ1_putVal_214 (by decide) rfl ?_ | refine j_astoreN (pc := 214) hX dJ1_putVal_214 (by decide) rfl ?_ | refine j_astoreq (pc := 214) hX dJ1_putVal_214 (by decide) rfl ?_
            refine j_iincc (pc := 216) (m := 1) hX dJ1_putVal_216 rfl (by decide) (by decide) rfl ?_
            refine j_goto (pc := 219) (tgt := 134) hX dJ1_putVal_219 (by decide) ?_
            exact j_lv (by simp [jsb, jget, jval, nI_1]) (ih e1 (A ++ [e]) (by rw [List.append_assoc]; exact hA))
      obtain ⟨hoe, hge, hke, -⟩ := id hc
      have hne1 : n0.2.1 ≠ k := hne n0 List.mem_cons_self
      refine j_dup (pc := 41) hX dJ1_putVal_41 (by first | rfl | exact jrf_cat _) ?_
      first | refine j_astore (pc := 42) hX dJ1_putVal_42 (by decide) rfl ?_ | refine j_astoreN (pc := 42) hX dJ1_putVal_42 (by decide) rfl ?_ | refine j_astoreq (pc := 42) hX dJ1_putVal_42 (by decide) rfl ?_
      refine j_ifnonnull (pc := 44) (tgt := 63) hX dJ1_putVal_44 (by decide) ?_
      first | refine j_aload (pc := 63) hX dJ1_putVal_63 rfl ?_ | refine j_aloadq (pc := 63) hX dJ1_putVal_63 rfl ?_
      refine j_get (pc := 65) hX kg_J1_168 dJ1_putVal_65 hoe.r (by rfl) ?_
      refine j_iload_n (pc := 68) hX dJ1_putVal_68 rfl rfl ?_
      refine j_icmp_ne (pc := 69) (tgt := 104) hX dJ1_putVal_69 (by decide) (fun c_69 => ?_) (fun c_69 => ?_)
      · first | refine j_aload (pc := 104) hX dJ1_putVal_104 rfl ?_ | refine j_aloadq (pc := 104) hX dJ1_putVal_104 rfl ?_
        refine j_instNo (pc := 106) hX kd_J1_180 dJ1_putVal_106 hoe.r ?_
        refine j_if_eq (pc := 109) (tgt := 131) hX dJ1_putVal_109 (by decide) (fun c_109 => ?_) (fun c_109 => ?_)
        rotate_left
        · exact absurd rfl c_109
        refine j_iconst (pc := 131) (v := 0) hX dJ1_putVal_131 (by decide) ?_
        refine j_istore (pc := 132) hX dJ1_putVal_132 (by decide) rfl ?_
        exact j_lv (by simp [jsb, jget, jval, nI_0]) (loop t0 n0 [] rfl)
      · first | refine j_aload (pc := 72) hX dJ1_putVal_72 rfl ?_ | refine j_aloadq (pc := 72) hX dJ1_putVal_72 rfl ?_
        refine j_get (pc := 74) hX kg_J1_170 dJ1_putVal_74 hoe.r (by rfl) ?_
        refine j_dup (pc := 77) hX dJ1_putVal_77 (by first | rfl | exact jrf_cat _) ?_
        first | refine j_astore (pc := 78) hX dJ1_putVal_78 (by decide) rfl ?_ | refine j_astoreN (pc := 78) hX dJ1_putVal_78 (by decide) rfl ?_ | refine j_astoreq (pc := 78) hX dJ1_putVal_78 (by decide) rfl ?_
        first | refine j_aload_n (pc := 80) hX dJ1_putVal_80 rfl rfl ?_ | refine j_aload_nq (pc := 80) hX dJ1_putVal_80 rfl rfl ?_
        refine j_acmp_eq (pc := 81) (rx := (some _)) (ry := (some _)) (tgt := 97) hX dJ1_putVal_81 (by decide) (fun c_81 => ?_) (fun c_81 => ?_)
        · exact absurd (hd.2.2 _ _ _ _ _ hke (by rw [← Option.some.inj c_81] at hk; exact hk)) hne1
        first | refine j_aload_n (pc := 84) hX dJ1_putVal_84 rfl rfl ?_ | refine j_aload_nq (pc := 84) hX dJ1_putVal_84 rfl rfl ?_
        refine j_ifnull (pc := 85) hX dJ1_putVal_85 ?_
        first | refine j_aload_n (pc := 88) hX dJ1_putVal_88 rfl rfl ?_ | refine j_aload_nq (pc := 88) hX dJ1_putVal_88 rfl rfl ?_
        first | refine j_aload (pc := 89) hX dJ1_putVal_89 rfl ?_ | refine j_aloadq (pc := 89) hX dJ1_putVal_89 rfl ?_
        refine j_rune (pc := 91) (jr_U (pc := 91) hX ku_J1_173_16 hk (c_J19_equals _ _ _ kq n0.2.2.1 hk hke) (by decide) dJ1_putVal_91 rfl rfl (Nat.le_of_ble_eq_true rfl)) ?_ jno_x
        refine j_if_eq (pc := 94) (tgt := 104) hX dJ1_putVal_94 (by decide) (fun c_94 => ?_) (fun c_94 => ?_)
        rotate_left
        · exact absurd (of_decide_eq_true (jb_n.mp c_94)).symm hne1
        first | refine j_aload (pc := 104) hX dJ1_putVal_104 rfl ?_ | refine j_aloadq (pc := 104) hX dJ1_putVal_104 rfl ?_
        refine j_instNo (pc := 106) hX kd_J1_180 dJ1_putVal_106 hoe.r ?_
        refine j_if_eq (pc := 109) (tgt := 131) hX dJ1_putVal_109 (by decide) (fun c_109 => ?_) (fun c_109 => ?_)
        rotate_left
        · exact absurd rfl c_109
        refine j_iconst (pc := 131) (v := 0) hX dJ1_putVal_131 (by decide) ?_
        refine j_istore (pc := 132) hX dJ1_putVal_132 (by decide) rfl ?_
        exact j_lv (by simp [jsb, jget, jval, nI_0]) (loop t0 n0 [] rfl)
  cases tab with
  | none =>
    obtain ⟨rfl, rfl⟩ := hnone rfl
    first | refine j_aload_n (pc := 0) hX dJ1_putVal_0 rfl rfl ?_ | refine j_aload_nq (pc := 0) hX dJ1_putVal_0 rfl rfl ?_
    refine j_get (pc := 1) hX kg_J1_105 dJ1_putVal_1 (by first | assumption | exact jow.r (by assumption)) (by rfl) ?_
    refine j_dup (pc := 4) hX dJ1_putVal_4 (by first | rfl | exact jrf_cat _) ?_
    first | refine j_astore (pc := 5) hX dJ1_putVal_5 (by decide) rfl ?_ | refine j_astoreN (pc := 5) hX dJ1_putVal_5 (by decide) rfl ?_ | refine j_astoreq (pc := 5) hX dJ1_putVal_5 (by decide) rfl ?_
    refine j_ifnullN (pc := 7) (tgt := 19) hX dJ1_putVal_7 (by decide) ?_
    first | refine j_aload_n (pc := 19) hX dJ1_putVal_19 rfl rfl ?_ | refine j_aload_nq (pc := 19) hX dJ1_putVal_19 rfl rfl ?_
    skip
    change JW X G H (17 + 4) 20 _ _
    refine j_runa (pc := 20) (jr_V (pc := 20) hX kv_J1_117 ho.r (c_J1_resize0 _ _ _ q ho hq) (by decide) dJ1_putVal_20 rfl rfl (Nat.le_of_ble_eq_true rfl)) (fun r_20 H_20 p_20 z_20 => ?_) jno_x
    obtain ⟨hr0, ho1, hg1, ha1, hF1⟩ := p_20
    refine j_dup (pc := 23) hX dJ1_putVal_23 (by first | rfl | exact jrf_cat _) ?_
    first | refine j_astore (pc := 24) hX dJ1_putVal_24 (by decide) rfl ?_ | refine j_astoreN (pc := 24) hX dJ1_putVal_24 (by decide) rfl ?_ | refine j_astoreq (pc := 24) hX dJ1_putVal_24 (by decide) rfl ?_
    refine j_alen (pc := 26) hX dJ1_putVal_26 (jaw.r (t := 8) hX (by decide) ha1) ?_
    refine j_istore (pc := 27) hX dJ1_putVal_27 (by decide) rfl ?_
    skip
    have e0 : ∀ n : ND (Int32), inN (fun _ => []) 16 n ↔ inN B 0 n := fun n => ⟨fun ⟨j, _, z⟩ => (by cases z), fun ⟨j, z, _⟩ => absurd z (Nat.not_lt_zero j)⟩
    refine j_lv (by exact ⟨rfl, rfl, rfl, rfl, rfl, rfl, rfl, trivial⟩) (main H_20 r_20 16 (fun _ => []) ⟨hq, hsz, ho1, (fun z => by cases z), (fun t' z => by cases z; exact ⟨Or.inl rfl, hg1, ha1, (fun _ _ => trivial), (fun _ _ n hn => by cases hn), (fun _ _ => List.nodup_nil)⟩)⟩ (hk.fr hF1 (fun z => hC.ne hk ho.r hd.1 z)) (fun _ => by simp) e0 (Or.inr hr0) (hF1.weak (fun a _ z => Or.inl z)) (fun n ⟨j, _, z⟩ => (by cases z)))
  | some t =>
    have tb := htab t rfl
    first | refine j_aload_n (pc := 0) hX dJ1_putVal_0 rfl rfl ?_ | refine j_aload_nq (pc := 0) hX dJ1_putVal_0 rfl rfl ?_
    refine j_get (pc := 1) hX kg_J1_105 dJ1_putVal_1 (by first | assumption | exact jow.r (by assumption)) (by rfl) ?_
    refine j_dup (pc := 4) hX dJ1_putVal_4 (by first | rfl | exact jrf_cat _) ?_
    first | refine j_astore (pc := 5) hX dJ1_putVal_5 (by decide) rfl ?_ | refine j_astoreN (pc := 5) hX dJ1_putVal_5 (by decide) rfl ?_ | refine j_astoreq (pc := 5) hX dJ1_putVal_5 (by decide) rfl ?_
    refine j_ifnull (pc := 7) hX dJ1_putVal_7 ?_
    first | refine j_aload (pc := 10) hX dJ1_putVal_10 rfl ?_ | refine j_aloadq (pc := 10) hX dJ1_putVal_10 rfl ?_
    refine j_alen (pc := 12) hX dJ1_putVal_12 (jaw.r (t := 8) hX (by decide) tb.2.2.1) ?_
    refine j_dup (pc := 13) hX dJ1_putVal_13 (by first | rfl | exact jrf_cat _) ?_
    refine j_istore (pc := 14) hX dJ1_putVal_14 (by decide) rfl ?_
    refine j_if_ne (pc := 16) (tgt := 29) hX dJ1_putVal_16 (by decide) (fun c_16 => ?_) (fun c_16 => ?_)
    rotate_left
    · exact absurd c_16 (fun z => by rcases tb.1 with rfl | rfl <;> cases z)
    skip
    exact j_lv (by exact ⟨rfl, rfl, rfl, rfl, rfl, rfl, rfl, trivial⟩) (j_weak (by omega) (main H t cap B h hk hb (fun n => Iff.rfl) (Or.inl rfl) JFr.rfl' (fun n hn _ => Or.inr (Or.inr ⟨n, hn, rfl⟩))))
theorem c_J1_putI (l : Launch) (G : JG) (H : Heap) (q kq v : Nat) (k : Int32) {tab : Option Nat} {cap sz : Nat} {mc : Int32} {B : Nat → List (ND (Int32))} (h : hmA kdI G H q tab cap sz mc B) (hk : kA kdI G H kq k) (hno : ∀ n, inN B cap n → n.2.1 ≠ k) (hs : sz < 24) (hb : cap = 32 → (B (ixN 32 (hK kdI k))).length ≤ 7) : JMet l yJ1_put (ws_ yJ1_put cJ1_put 3 (some (.object "java/lang/Object"))) 5 21 G H [.ref q, .ref kq, .ref v] (jpq (fun r H1 => r = none ∧ PutP kdI G H H1 q kq v k tab cap sz mc B)) (jno) := by
  refine JMet.of [(0, .inr (some q)), (1, .inr (some kq)), (2, .inr (some v))] (by decide) (Nat.le_of_ble_eq_true rfl) rfl (fun X hl hX hQ hEx hr hnm hH => ?_)
  subst hl
  have ho := h.2.2.1
  first | refine j_aload_n (pc := 0) hX dJ1_put_0 rfl rfl ?_ | refine j_aload_nq (pc := 0) hX dJ1_put_0 rfl rfl ?_
  first | refine j_aload_n (pc := 1) hX dJ1_put_1 rfl rfl ?_ | refine j_aload_nq (pc := 1) hX dJ1_put_1 rfl rfl ?_
  refine j_rune (pc := 2) (jr_S (pc := 2) hX ks_J1_149 (c_J1_hkI _ _ _ kq hk) (by decide) dJ1_put_2 rfl rfl (Nat.le_of_ble_eq_true rfl)) ?_ jno_x
  first | refine j_aload_n (pc := 5) hX dJ1_put_5 rfl rfl ?_ | refine j_aload_nq (pc := 5) hX dJ1_put_5 rfl rfl ?_
  first | refine j_aload_n (pc := 6) hX dJ1_put_6 rfl rfl ?_ | refine j_aload_nq (pc := 6) hX dJ1_put_6 rfl rfl ?_
  refine j_iconst (pc := 7) (v := 0) hX dJ1_put_7 (by decide) ?_
  refine j_iconst (pc := 8) (v := 1) hX dJ1_put_8 (by decide) ?_
  change JW X G H (0 + 21) 9 _ _
  refine j_runq (pc := 9) (jr_V (pc := 9) hX kv_J1_152 (by first | assumption | exact jow.r (by assumption)) (c_J1_putValI _ _ _ q kq v k h hk hno hs hb) (by decide) dJ1_put_9 rfl rfl (Nat.le_of_ble_eq_true rfl)) (fun r_9 H_9 p_9 z_9 => ?_) jno_x
  first | exact j_aret hX hQ hr (by first | exact Or.inl ⟨_, rfl⟩ | exact Or.inr ⟨_, rfl⟩) dJ1_put_12 ⟨_, rfl, p_9⟩ | exact j_aretN hX hQ hr (by first | exact Or.inl ⟨_, rfl⟩ | exact Or.inr ⟨_, rfl⟩) dJ1_put_12 ⟨_, rfl, p_9⟩ | exact j_aretq hX hQ hr (by first | exact Or.inl ⟨_, rfl⟩ | exact Or.inr ⟨_, rfl⟩) dJ1_put_12 ⟨_, rfl, p_9⟩
theorem c_J1_putValR (l : Launch) (G : JG) (H : Heap) (q kq v : Nat) (k : Int32 × Int32) {tab : Option Nat} {cap sz : Nat} {mc : Int32} {B : Nat → List (ND (Int32 × Int32))} (h : hmA kdR G H q tab cap sz mc B) (hk : kA kdR G H kq k) (hno : ∀ n, inN B cap n → n.2.1 ≠ k) (hs : sz < 24) (hb : cap = 32 → (B (ixN 32 (hK kdR k))).length ≤ 7) : JMet l yJ1_putVal (ws_ yJ1_putVal cJ1_putVal 13 (some (.object "java/lang/Object"))) 4 21 G H [.ref q, .int (hK kdR k), .ref kq, .ref v, .int 0, .int 1] (jpq (fun r H1 => r = none ∧ PutP kdR G H H1 q kq v k tab cap sz mc B)) (jno) := by
  refine JMet.of [(0, .inr (some q)), (1, .inl (.int (hK kdR k))), (2, .inr (some kq)), (3, .inr (some v)), (4, .inl (.int 0)), (5, .inl (.int 1))] (by decide) (Nat.le_of_ble_eq_true rfl) rfl (fun X hl hX hQ hEx hr hnm hH => ?_)
  subst hl
  obtain ⟨hq, hsz, ho, hnone, htab⟩ := id h
  have hC := hX.C
  have hd := kdR_ok
  have ret : ∀ Hc : Heap, PutP kdR G H Hc q kq v k tab cap sz mc B → JW X G Hc 0 292 [(0, .inr (some q)), (5, .inl (.int 1))] [] := by
    intro Hc hP
    have hoq : ∃ fs, jow G Hc q 9 fs := by obtain ⟨t', cap', a, B', hm, -⟩ := hP; exact ⟨_, hm.2.2.1⟩
    obtain ⟨fs, hoq⟩ := hoq
    first | refine j_aload_n (pc := 292) hX dJ1_putVal_292 rfl rfl ?_ | refine j_aload_nq (pc := 292) hX dJ1_putVal_292 rfl rfl ?_
    refine j_iload (pc := 293) hX dJ1_putVal_293 rfl ?_
    refine j_runve (pc := 295) (jr_V (pc := 295) hX kv_J1_205 hoq.r (c_J1_afterNodeInsertion _ _ _ q) (by decide) dJ1_putVal_295 rfl rfl (Nat.le_of_ble_eq_true rfl)) ?_ jno_x
    refine j_null (pc := 298) hX dJ1_putVal_298 ?_
    first | exact j_aret hX hQ hr (by first | exact Or.inl ⟨_, rfl⟩ | exact Or.inr ⟨_, rfl⟩) dJ1_putVal_299 ⟨none, rfl, rfl, hP⟩ | exact j_aretN hX hQ hr (by first | exact Or.inl ⟨_, rfl⟩ | exact Or.inr ⟨_, rfl⟩) dJ1_putVal_299 ⟨none, rfl, rfl, hP⟩ | exact j_aretq hX hQ hr (by first | exact Or.inl ⟨_, rfl⟩ | exact Or.inr ⟨_, rfl⟩) dJ1_putVal_299 ⟨none, rfl, rfl, hP⟩
  have tail : ∀ (Hc : Heap) (t cap' a : Nat) (Bc : Nat → List (ND (Int32 × Int32))), jow G Hc q 9 (hmF sz mc cap' (some t)) → tbA kdR G Hc t cap' Bc → (∀ n, inN Bc cap' n ↔ inN B cap n ∨ n = (a, k, kq, v)) → H.size ≤ a → (tab = some t ∨ H.size ≤ t) → JFr (fpN q tab B cap) H Hc → (∀ n, inN Bc cap' n → n.1 < H.size → fpN q tab B cap n.1) → JW X G Hc 8 259 [(0, .inr (some q)), (5, .inl (.int 1))] [] := by
    intro Hc t cap' a Bc hoc tb hin ha ht hF hfp
    have hcap := tb.1
    rcases hcap with rfl | rfl
    · skip
      first | refine j_aload_n (pc := 259) hX dJ1_putVal_259 rfl rfl ?_ | refine j_aload_nq (pc := 259) hX dJ1_putVal_259 rfl rfl ?_
      refine j_dup (pc := 260) hX dJ1_putVal_260 (by first | rfl | exact jrf_cat _) ?_
      refine j_get (pc := 261) hX kg_J1_202 dJ1_putVal_261 (by first | assumption | exact jow.r (by assumption)) (by rfl) ?_
      refine j_iconst (pc := 264) (v := 1) hX dJ1_putVal_264 (by decide) ?_
      refine j_iadd (pc := 265) hX dJ1_putVal_265 ?_
      refine j_put (pc := 266) hX kp_J1_202 dJ1_putVal_266 (by assumption) hq rfl rfl rfl (fun H_266 w_266 n_266 => ?_)
      first | refine j_aload_n (pc := 269) hX dJ1_putVal_269 rfl rfl ?_ | refine j_aload_nq (pc := 269) hX dJ1_putVal_269 rfl rfl ?_
      refine j_dup (pc := 270) hX dJ1_putVal_270 (by first | rfl | exact jrf_cat _) ?_
      refine j_get (pc := 271) hX kg_J1_156 dJ1_putVal_271 (by first | assumption | exact jow.r (by assumption)) (by rfl) ?_
      refine j_iconst (pc := 274) (v := 1) hX dJ1_putVal_274 (by decide) ?_
      refine j_iadd (pc := 275) hX dJ1_putVal_275 ?_
      rw [nI_1]
      refine j_dup_x1 (pc := 276) hX dJ1_putVal_276 (by first | rfl | exact jrf_cat _) (by first | rfl | exact jrf_cat _) ?_
      refine j_put (pc := 277) hX kp_J1_156 dJ1_putVal_277 (by assumption) hq rfl rfl rfl (fun H_277 w_277 n_277 => ?_)
      have hm : hmA kdR G H_277 q (some t) 16 (sz + 1) (mc + 1) Bc := ⟨hq, by omega, n_277, (fun e => by cases e), fun t' e => by cases e; exact (tb.own hC hd hoc w_266).own hC hd n_266 w_277⟩
      have hF2 := (hF.put w_266 (fun _ => Or.inl rfl)).put w_277 (fun _ => Or.inl rfl)
      first | refine j_aload_n (pc := 280) hX dJ1_putVal_280 rfl rfl ?_ | refine j_aload_nq (pc := 280) hX dJ1_putVal_280 rfl rfl ?_
      refine j_get (pc := 281) hX kg_J1_88 dJ1_putVal_281 (by first | assumption | exact jow.r (by assumption)) (by rfl) ?_
      refine j_icmp_le (pc := 284) (tgt := 292) hX dJ1_putVal_284 (by decide) (fun c_284 => ?_) (fun c_284 => ?_)
      · first | exact j_lv (by simp [jsb, jget, jval]) (ret _ ⟨_, _, a, B', hm', fun n => (hB' n).trans (hin n), ha, Or.inr (Nat.le_trans hsz2 hr1), JFr.call hF2 hF3 (fun x hx hP => by rcases hP with z | z | ⟨n, hn, z⟩; exact Or.inl z; rcases ht with ht | ht; exact Or.inr (Or.inl (ht.trans z)); cases z; omega; rw [← z]; exact hfp n hn (by rw [z]; exact hx))⟩) | exact j_lv (by simp [jsb, jget, jval]) (j_weak (Nat.zero_le _) (ret _ ⟨_, _, a, Bc, hm, hin, ha, ht, hF2⟩))
      · first | refine j_aload_n (pc := 287) hX dJ1_putVal_287 rfl rfl ?_ | refine j_aload_nq (pc := 287) hX dJ1_putVal_287 rfl rfl ?_
        change JW X G H_277 (0 + 8) 288 _ _
        refine j_runa (pc := 288) (jr_V (pc := 288) hX kv_J1_117 n_277.r (c_J1_resize32 _ _ _ hd q t hm) (by decide) dJ1_putVal_288 rfl rfl (Nat.le_of_ble_eq_true rfl)) (fun r_288 H_288 p_288 z_288 => ?_) jno_x
        obtain ⟨hr1, ⟨B', hm', hB'⟩, hF3⟩ := p_288
        have hsz2 : H.size ≤ H_277.size := hF2.1
        refine j_pop (pc := 291) hX dJ1_putVal_291 (by first | rfl | exact jrf_cat _) ?_
        first | exact j_lv (by simp [jsb, jget, jval]) (ret _ ⟨_, _, a, B', hm', fun n => (hB' n).trans (hin n), ha, Or.inr (Nat.le_trans hsz2 hr1), JFr.call hF2 hF3 (fun x hx hP => by rcases hP with z | z | ⟨n, hn, z⟩; exact Or.inl z; rcases ht with ht | ht; exact Or.inr (Or.inl (ht.trans z)); cases z; omega; rw [← z]; exact hfp n hn (by rw [z]; exact hx))⟩) | exact j_lv (by simp [jsb, jget, jval]) (j_weak (Nat.zero_le _) (ret _ ⟨_, _, a, Bc, hm, hin, ha, ht, hF2⟩))
    · skip
      first | refine j_aload_n (pc := 259) hX dJ1_putVal_259 rfl rfl ?_ | refine j_aload_nq (pc := 259) hX dJ1_putVal_259 rfl rfl ?_
      refine j_dup (pc := 260) hX dJ1_putVal_260 (by first | rfl | exact jrf_cat _) ?_
      refine j_get (pc := 261) hX kg_J1_202 dJ1_putVal_261 (by first | assumption | exact jow.r (by assumption)) (by rfl) ?_
      refine j_iconst (pc := 264) (v := 1) hX dJ1_putVal_264 (by decide) ?_
      refine j_iadd (pc := 265) hX dJ1_putVal_265 ?_
      refine j_put (pc := 266) hX kp_J1_202 dJ1_putVal_266 (by assumption) hq rfl rfl rfl (fun H_266 w_266 n_266 => ?_)
      first | refine j_aload_n (pc := 269) hX dJ1_putVal_269 rfl rfl ?_ | refine j_aload_nq (pc := 269) hX dJ1_putVal_269 rfl rfl ?_
      refine j_dup (pc := 270) hX dJ1_putVal_270 (by first | rfl | exact jrf_cat _) ?_
      refine j_get (pc := 271) hX kg_J1_156 dJ1_putVal_271 (by first | assumption | exact jow.r (by assumption)) (by rfl) ?_
      refine j_iconst (pc := 274) (v := 1) hX dJ1_putVal_274 (by decide) ?_
      refine j_iadd (pc := 275) hX dJ1_putVal_275 ?_
      rw [nI_1]
      refine j_dup_x1 (pc := 276) hX dJ1_putVal_276 (by first | rfl | exact jrf_cat _) (by first | rfl | exact jrf_cat _) ?_
      refine j_put (pc := 277) hX kp_J1_156 dJ1_putVal_277 (by assumption) hq rfl rfl rfl (fun H_277 w_277 n_277 => ?_)
      have hm : hmA kdR G H_277 q (some t) 32 (sz + 1) (mc + 1) Bc := ⟨hq, by omega, n_277, (fun e => by cases e), fun t' e => by cases e; exact (tb.own hC hd hoc w_266).own hC hd n_266 w_277⟩
      have hF2 := (hF.put w_266 (fun _ => Or.inl rfl)).put w_277 (fun _ => Or.inl rfl)
      first | refine j_aload_n (pc := 280) hX dJ1_putVal_280 rfl rfl ?_ | refine j_aload_nq (pc := 280) hX dJ1_putVal_280 rfl rfl ?_
      refine j_get (pc := 281) hX kg_J1_88 dJ1_putVal_281 (by first | assumption | exact jow.r (by assumption)) (by rfl) ?_
      refine j_icmp_le (pc := 284) (tgt := 292) hX dJ1_putVal_284 (by decide) (fun c_284 => ?_) (fun c_284 => ?_)
      rotate_left
      · exact absurd (nI_le (show sz + 1 ≤ 32 / 4 * 3 by omega) (by omega)) c_284
      exact j_lv (by simp [jsb, jget, jval]) (j_weak (Nat.zero_le _) (ret _ ⟨_, _, a, Bc, hm, hin, ha, ht, hF2⟩))
  have main : ∀ (Hc : Heap) (t cap1 : Nat) (Bc : Nat → List (ND (Int32 × Int32))), hmA kdR G Hc q (some t) cap1 sz mc Bc → kA kdR G Hc kq k → (cap1 = 32 → (Bc (ixN 32 (hK kdR k))).length ≤ 7) → (∀ n, inN Bc cap1 n ↔ inN B cap n) → (tab = some t ∨ H.size ≤ t) → JFr (fpN q tab B cap) H Hc → (∀ n, inN Bc cap1 n → n.1 < H.size → fpN q tab B cap n.1) → JW X G Hc 17 29 [(0, .inr (some q)), (1, .inl (.int (hK kdR k))), (2, .inr (some kq)), (3, .inr (some v)), (5, .inl (.int 1)), (6, .inr (some t)), (8, .inl (.int (nI cap1)))] [] := by
    intro Hc t cap1 Bc hm hk hb hin0 htt hF hfp
    obtain ⟨-, -, hoc, -, htb⟩ := id hm
    have tb := htb t rfl
    obtain ⟨hcap, ht, ha, hch, hix, hnd⟩ := id tb
    have hlt := ix_lt hcap (hK kdR k)
    have hin : vp_in (nI (ixN cap1 (hK kdR k))) cap1 := vp_in_nI hlt (by omega)
    have hc := hch _ hlt
    have hne : ∀ n ∈ Bc (ixN cap1 (hK kdR k)), n.2.1 ≠ k := fun n hn => hno n ((hin0 n).mp ⟨_, hlt, hn⟩)
    have hHc : H.size ≤ Hc.size := hF.1
    have hin1 : ∀ (a : Nat) (n : ND (Int32 × Int32)), inN (jup Bc (ixN cap1 (hK kdR k)) (Bc (ixN cap1 (hK kdR k)) ++ [(a, k, kq, v)])) cap1 n ↔ inN B cap n ∨ n = (a, k, kq, v) := fun a n => (inN_add hlt).trans (or_congr (hin0 n) Iff.rfl)
    have hfp1 : ∀ (a : Nat), H.size ≤ a → ∀ n : ND (Int32 × Int32), inN (jup Bc (ixN cap1 (hK kdR k)) (Bc (ixN cap1 (hK kdR k)) ++ [(a, k, kq, v)])) cap1 n → n.1 < H.size → fpN q tab B cap n.1 := fun a hga n hn hl => by
      rcases (inN_add hlt).mp hn with hn | rfl
      · exact hfp n hn hl
      · exact absurd hl (by show ¬ a < H.size; omega)
    first | refine j_aload (pc := 29) hX dJ1_putVal_29 rfl ?_ | refine j_aloadq (pc := 29) hX dJ1_putVal_29 rfl ?_
    refine j_iload (pc := 31) hX dJ1_putVal_31 rfl ?_
    refine j_iconst (pc := 33) (v := 1) hX dJ1_putVal_33 (by decide) ?_
    refine j_isub (pc := 34) hX dJ1_putVal_34 ?_
    refine j_iload_n (pc := 35) hX dJ1_putVal_35 rfl rfl ?_
    refine j_iand (pc := 36) hX dJ1_putVal_36 ?_
    refine j_dup (pc := 37) hX dJ1_putVal_37 (by first | rfl | exact jrf_cat _) ?_
    refine j_istore (pc := 38) hX dJ1_putVal_38 (by decide) rfl ?_
    skip
    rw [show (nI cap1 - 1) &&& hK kdR k = nI (ixN cap1 (hK kdR k)) from ix_and hcap _]
    refine j_aald (pc := 40) hX (t := 8) (by decide) dJ1_putVal_40 (jaw.r (t := 8) hX (by decide) ha) hin ?_
    rw [nI_clamp (by omega)]
    cases hL : Bc (ixN cap1 (hK kdR k)) with
    | nil =>
      change JW X G Hc 17 41 _ [.null]
      refine j_dup (pc := 41) hX dJ1_putVal_41 (by first | rfl | exact jrf_cat _) ?_
      first | refine j_astore (pc := 42) hX dJ1_putVal_42 (by decide) rfl ?_ | refine j_astoreN (pc := 42) hX dJ1_putVal_42 (by decide) rfl ?_ | refine j_astoreq (pc := 42) hX dJ1_putVal_42 (by decide) rfl ?_
      refine j_ifnonnullN (pc := 44) hX dJ1_putVal_44 ?_
      first | refine j_aload (pc := 47) hX dJ1_putVal_47 rfl ?_ | refine j_aloadq (pc := 47) hX dJ1_putVal_47 rfl ?_
      refine j_iload (pc := 49) hX dJ1_putVal_49 rfl ?_
      first | refine j_aload_n (pc := 51) hX dJ1_putVal_51 rfl rfl ?_ | refine j_aload_nq (pc := 51) hX dJ1_putVal_51 rfl rfl ?_
      refine j_iload_n (pc := 52) hX dJ1_putVal_52 rfl rfl ?_
      first | refine j_aload_n (pc := 53) hX dJ1_putVal_53 rfl rfl ?_ | refine j_aload_nq (pc := 53) hX dJ1_putVal_53 rfl rfl ?_
      first | refine j_aload_n (pc := 54) hX dJ1_putVal_54 rfl rfl ?_ | refine j_aload_nq (pc := 54) hX dJ1_putVal_54 rfl rfl ?_
      refine j_null (pc := 55) hX dJ1_putVal_55 ?_
      skip
      change JW X G Hc (16 + 1) 56 _ _
      refine j_runa (pc := 56) (jr_V (pc := 56) hX kv_J1_186 hoc.r (c_J1_newNode _ _ _ q (hK kdR k) kq v none) (by decide) dJ1_putVal_56 rfl rfl (Nat.le_of_ble_eq_true rfl)) (fun r_56 H_56 p_56 z_56 => ?_) jno_x
      obtain ⟨ea, hga, hna, hex⟩ := p_56
      skip
      have ha2 := ha.ext hex
      refine j_aast (pc := 59) hX ⟨by decide, by decide, _, _, rfl, rfl, Or.inl rfl⟩ dJ1_putVal_59 (t := 8) (n := cap1) (f := fun i => nxN (Bc i) none) ha2 hna.r ht hin (fun H3 w3 n3 => ?_)
      rw [nI_clamp (by omega)] at n3
      have tb2 : tbA kdR G H_56 t cap1 Bc := tb.fr (P := fun _ => False) hex.fr (fun z => z) (fun _ _ z => z) (fun _ _ z => z)
      have keep : ∀ (L : List (ND (Int32 × Int32))), chE kdR G H_56 none L → chE kdR G H3 none L := fun L h5 => h5.fr (P := fun a => a = t) (w3.fr rfl) (fun n hn => hC.neA (h5.get hn).1.choose_spec.r ha2 (by decide)) (fun n hn => hC.neA (h5.get hn).2.2 ha2 (by decide))
      have hx1 : chE kdR G H_56 none [(r_56, k, kq, v)] := ⟨hna, hga, hk.ext hex, trivial⟩
      have tb3 := tbA.add (x := (r_56, k, kq, v)) tb2 rfl hne (n3.congr (fun j hj => by unfold jup; by_cases e : j = ixN cap1 (hK kdR k); rw [if_pos e, if_pos e, hL]; rfl; rw [if_neg e, if_neg e])) (keep _ (by rw [hL]; exact hx1)) (fun j hj e => keep _ (tb2.2.2.2.1 j hj))
      have ho3 := (hoc.ext hex).put w3 (hC.neA (hoc.ext hex).r ha2 (by decide))
      have hra : H.size ≤ r_56 := by omega
      refine j_goto (pc := 60) (tgt := 259) hX dJ1_putVal_60 (by decide) ?_
      exact j_lv (by simp [jsb, jget, jval]) (j_weak (by omega) (tail H3 t cap1 r_56 _ ho3 tb3 (hin1 r_56) hra htt ((JFr.trans hF hex.fr).put w3 (fun hl => by rcases htt with z | z; exact Or.inr (Or.inl z); omega)) (hfp1 r_56 hra)))
    | cons n0 t0 =>
      change JW X G Hc 17 41 _ [.ref n0.1]
      rw [hL] at hc hne
      have hcap7 : cap1 = 32 → (n0 :: t0).length ≤ 7 := fun e => by subst e; rw [← hL]; exact hb rfl
      have loop : ∀ (R : List (ND (Int32 × Int32))) (e : ND (Int32 × Int32)) (A : List (ND (Int32 × Int32))), A ++ e :: R = n0 :: t0 → JW X G Hc 17 134 [(0, .inr (some q)), (1, .inl (.int (hK kdR k))), (2, .inr (some kq)), (3, .inr (some v)), (5, .inl (.int 1)), (6, .inr (some t)), (7, .inr (some e.1)), (12, .inl (.int (nI A.length)))] [] := by
        intro R
        induction R with
        | nil =>
          intro e A hA
          have hA2 : A ++ [e] = n0 :: t0 := hA
          have hlen : (n0 :: t0).length = A.length + 1 := by rw [← hA2]; simp
          have hcA : chE kdR G Hc none (A ++ [e]) := by rw [hA2]; exact hc
          obtain ⟨hcA1, hoe, hge, hke, -⟩ := chE_app.mp hcA
          have hndA : (A ++ [e]).Nodup := by rw [hA2, ← hL]; exact tb.nodup hlt
          have hinA : ∀ n ∈ A ++ [e], inN Bc cap1 n := fun n hn => ⟨_, hlt, by rw [hL, ← hA2]; exact hn⟩
          have hem : e ∈ A ++ [e] := List.mem_append_right _ List.mem_cons_self
          first | refine j_aload (pc := 134) hX dJ1_putVal_134 rfl ?_ | refine j_aloadq (pc := 134) hX dJ1_putVal_134 rfl ?_
          refine j_get (pc := 136) hX kg_J1_177 dJ1_putVal_136 hoe.r (by rfl) ?_
          refine j_dup (pc := 139) hX dJ1_putVal_139 (by first | rfl | exact jrf_cat _) ?_
          first | refine j_astore (pc := 140) hX dJ1_putVal_140 (by decide) rfl ?_ | refine j_astoreN (pc := 140) hX dJ1_putVal_140 (by decide) rfl ?_ | refine j_astoreq (pc := 140) hX dJ1_putVal_140 (by decide) rfl ?_
          refine j_ifnonnullN (pc := 142) hX dJ1_putVal_142 ?_
          first | refine j_aload (pc := 145) hX dJ1_putVal_145 rfl ?_ | refine j_aloadq (pc := 145) hX dJ1_putVal_145 rfl ?_
          first | refine j_aload_n (pc := 147) hX dJ1_putVal_147 rfl rfl ?_ | refine j_aload_nq (pc := 147) hX dJ1_putVal_147 rfl rfl ?_
          refine j_iload_n (pc := 148) hX dJ1_putVal_148 rfl rfl ?_
          first | refine j_aload_n (pc := 149) hX dJ1_putVal_149 rfl rfl ?_ | refine j_aload_nq (pc := 149) hX dJ1_putVal_149 rfl rfl ?_
          first | refine j_aload_n (pc := 150) hX dJ1_putVal_150 rfl rfl ?_ | refine j_aload_nq (pc := 150) hX dJ1_putVal_150 rfl rfl ?_
          refine j_null (pc := 151) hX dJ1_putVal_151 ?_
          skip
          change JW X G Hc (16 + 1) 152 _ _
          refine j_runa (pc := 152) (jr_V (pc := 152) hX kv_J1_186 hoc.r (c_J1_newNode _ _ _ q (hK kdR k) kq v none) (by decide) dJ1_putVal_152 rfl rfl (Nat.le_of_ble_eq_true rfl)) (fun r_152 H_152 p_152 z_152 => ?_) jno_x
          obtain ⟨ea, hga, hna, hex⟩ := p_152
          refine j_put (pc := 155) hX kp_J1_177 dJ1_putVal_155 (hoe.ext hex) hge rfl rfl rfl (fun H_155 w_155 n_155 => ?_)
          skip
          have ha2 := ha.ext hex
          have tb2 : tbA kdR G H_152 t cap1 Bc := tb.fr (P := fun _ => False) hex.fr (fun z => z) (fun _ _ z => z) (fun _ _ z => z)
          have hra : H.size ≤ r_152 := by omega
          have hre : r_152 ≠ e.1 := fun z => by have := hoe.lt; omega
          have inj := fun n (hn : inN Bc cap1 n) (z : n.1 = e.1) => tb.eq hd hn (hinA e hem) z
          have kne : ∀ n, inN Bc cap1 n → n.2.2.1 ≠ e.1 := fun n hn z => hC.ne (tb.nd hn).2.2 hoe.r hd.2.1 z
          obtain ⟨-, -, g3⟩ := List.nodup_append.mp hndA
          have hb1 : chE kdR G H_155 none (Bc (ixN cap1 (hK kdR k)) ++ [(r_152, k, kq, v)]) := by
            rw [hL, ← hA2]
            refine chE_app.mpr ⟨(hcA.ext hex).close w_155 n_155 (fun n hn z => g3 n hn e List.mem_cons_self (inj n (hinA n (List.mem_append_left _ hn)) z)) (fun n hn => kne n (hinA n hn)), hna.put w_155 hre, hga, (hk.ext hex).put w_155 (hC.ne (hk.ext hex) (hoe.ext hex).r hd.2.1), trivial⟩
          have tb3 := tbA.add (H1 := H_155) (x := (r_152, k, kq, v)) tb2 rfl (fun n hn => hne n (hL ▸ hn)) ((ha2.put w_155 (fun z => hC.neA hoe.r ha (by decide) z.symm)).congr (fun j hj => by unfold jup; by_cases z : j = ixN cap1 (hK kdR k); rw [if_pos z, z, hL]; rfl; rw [if_neg z])) hb1 (fun j hj z => (tb2.2.2.2.1 j hj).keep (fun n hn => ⟨w_155.2 _ (fun y => z (tb.bin hj hlt hn (by rw [hL, ← hA2, inj n ⟨j, hj, hn⟩ y]; exact hem))), w_155.2 _ (kne n ⟨j, hj, hn⟩)⟩))
          have ho3 := (hoc.ext hex).put w_155 (hC.ne hoc.r hoe.r (by decide))
          have hF3 := (JFr.trans hF hex.fr).put w_155 (fun hl => hfp e (hinA e hem) hl)
          have small : ∀ b, JW X G H_155 (8 + b) 222 [(0, .inr (some q)), (5, .inl (.int 1)), (10, .inr none)] [] := by
            intro b
            first | refine j_aload (pc := 222) hX dJ1_putVal_222 rfl ?_ | refine j_aloadq (pc := 222) hX dJ1_putVal_222 rfl ?_
            refine j_ifnullN (pc := 224) (tgt := 259) hX dJ1_putVal_224 (by decide) ?_
            exact j_lv (by simp [jsb, jget, jval]) (j_weak (by omega) (tail H_155 t cap1 r_152 _ ho3 tb3 (hin1 r_152) hra htt hF3 (hfp1 r_152 hra)))
          rcases hcap with hcap | hcap
          · subst hcap
            have hm3 : hmA kdR G H_155 q (some t) 16 sz mc _ := ⟨hq, hsz, ho3, (fun z => by cases z), (fun t' z => by cases z; exact tb3)⟩
            have big : ¬ nI A.length < 7 → JW X G H_155 16 165 [(0, .inr (some q)), (1, .inl (.int (hK kdR k))), (5, .inl (.int 1)), (6, .inr (some t)), (10, .inr none)] [] := by
              intro _
              first | refine j_aload_n (pc := 165) hX dJ1_putVal_165 rfl rfl ?_ | refine j_aload_nq (pc := 165) hX dJ1_putVal_165 rfl rfl ?_
              first | refine j_aload (pc := 166) hX dJ1_putVal_166 rfl ?_ | refine j_aloadq (pc := 166) hX dJ1_putVal_166 rfl ?_
              refine j_iload_n (pc := 168) hX dJ1_putVal_168 rfl rfl ?_
              change JW X G H_155 (8 + 8) 169 _ _
              refine j_runv (pc := 169) (jr_V (pc := 169) hX kv_J1_194 ho3.r (c_J1_treeifyBin _ _ _ hd q t (hK kdR k) hm3) (by decide) dJ1_putVal_169 rfl rfl (Nat.le_of_ble_eq_true rfl)) (fun H_169 p_169 z_169 => ?_) jno_x
              obtain ⟨r5, hr5, ⟨B5, hm5, hB5⟩, hF5⟩ := p_169
              have hsz5 : H.size ≤ H_155.size := hF3.1
              refine j_goto (pc := 172) (tgt := 222) hX dJ1_putVal_172 (by decide) ?_
              first | refine j_aload (pc := 222) hX dJ1_putVal_222 rfl ?_ | refine j_aloadq (pc := 222) hX dJ1_putVal_222 rfl ?_
              refine j_ifnullN (pc := 224) (tgt := 259) hX dJ1_putVal_224 (by decide) ?_
              exact j_lv (by simp [jsb, jget, jval]) (tail _ r5 32 r_152 B5 hm5.2.2.1 (hm5.2.2.2.2 r5 rfl) (fun n => (hB5 n).trans (hin1 r_152 n)) hra (Or.inr (Nat.le_trans hsz5 hr5)) (JFr.call hF3 hF5 (fun x hx hP => by rcases hP with z | z | ⟨n, hn, z⟩; exact Or.inl z; rcases htt with ht | ht; exact Or.inr (Or.inl (ht.trans z)); cases z; omega; rw [← z]; exact hfp1 r_152 hra n hn (by rw [z]; exact hx))) (fun n hn hl => hfp1 r_152 hra n ((hB5 n).mp hn) hl))
            refine j_iload (pc := 158) hX dJ1_putVal_158 rfl ?_
            refine j_bipush (pc := 160) (v := 7) hX dJ1_putVal_160 (by decide) ?_
            refine j_icmp_lt (pc := 162) (tgt := 222) hX dJ1_putVal_162 (by decide) (fun c_162 => ?_) (fun c_162 => ?_)
            · exact j_lv (by simp [jsb, jget, jval]) (small 8)
            · exact j_lv (by simp [jsb, jget, jval]) (big c_162)
          · subst hcap
            have h7 := hcap7 rfl
            refine j_iload (pc := 158) hX dJ1_putVal_158 rfl ?_
            refine j_bipush (pc := 160) (v := 7) hX dJ1_putVal_160 (by decide) ?_
            refine j_icmp_lt (pc := 162) (tgt := 222) hX dJ1_putVal_162 (by decide) (fun c_162 => ?_) (fun c_162 => ?_)
            rotate_left
            · exact absurd (nI_lt (show A.length < 7 by omega) (by omega)) c_162
            exact j_lv (by simp [jsb, jget, jval]) (small 8)
        | cons e1 R ih =>
          intro e A hA
          have hcA : chE kdR G Hc none (A ++ e :: e1 :: R) := by rw [hA]; exact hc
          obtain ⟨hcA1, hoe, hge, hke, hoe1, hge1, hke1, -⟩ := chE_app.mp hcA
          have hne1 : e1.2.1 ≠ k := hne e1 (by rw [← hA]; simp)
          first | refine j_aload (pc := 134) hX dJ1_putVal_134 rfl ?_ | refine j_aloadq (pc := 134) hX dJ1_putVal_134 rfl ?_
          refine j_get (pc := 136) hX kg_J1_177 dJ1_putVal_136 hoe.r (by rfl) ?_
          refine j_dup (pc := 139) hX dJ1_putVal_139 (by first | rfl | exact jrf_cat _) ?_
          first | refine j_astore (pc := 140) hX dJ1_putVal_140 (by decide) rfl ?_ | refine j_astoreN (pc := 140) hX dJ1_putVal_140 (by decide) rfl ?_ | refine j_astoreq (pc := 140) hX dJ1_putVal_140 (by decide) rfl ?_
          refine j_ifnonnull (pc := 142) (tgt := 175) hX dJ1_putVal_142 (by decide) ?_
          first | refine j_aload (pc := 175) hX dJ1_putVal_175 rfl ?_ | refine j_aloadq (pc := 175) hX dJ1_putVal_175 rfl ?_
          refine j_get (pc := 177) hX kg_J1_168 dJ1_putVal_177 hoe1.r (by rfl) ?_
          refine j_iload_n (pc := 180) hX dJ1_putVal_180 rfl rfl ?_
          refine j_icmp_ne (pc := 181) (tgt := 212) hX dJ1_putVal_181 (by decide) (fun c_181 => ?_) (fun c_181 => ?_)
          · first | refine j_aload (pc := 212) hX dJ1_putVal_212 rfl ?_ | refine j_aloadq (pc := 212) hX dJ1_putVal_212 rfl ?_
            first | refine j_astore (pc := 214) hX dJ1_putVal_214 (by decide) rfl ?_ | refine j_astoreN (pc := 214) hX dJ1_putVal_214 (by decide) rfl ?_ | refine j_astoreq (pc := 214) hX dJ1_putVal_214 (by decide) rfl ?_
            refine j_iincc (pc := 216) (m := 1) hX dJ1_putVal_216 rfl (by decide) (by decide) rfl ?_
            refine j_goto (pc := 219) (tgt := 134) hX dJ1_putVal_219 (by decide) ?_
            exact j_lv (by simp [jsb, jget, jval, nI_1]) (ih e1 (A ++ [e]) (by rw [List.append_assoc]; exact hA))
          · first | refine j_aload (pc := 184) hX dJ1_putVal_184 rfl ?_ | refine j_aloadq (pc := 184) hX dJ1_putVal_184 rfl ?_
            refine j_get (pc := 186) hX kg_J1_170 dJ1_putVal_186 hoe1.r (by rfl) ?_
            refine j_dup (pc := 189) hX dJ1_putVal_189 (by first | rfl | exact jrf_cat _) ?_
            first | refine j_astore (pc := 190) hX dJ1_putVal_190 (by decide) rfl ?_ | refine j_astoreN (pc := 190) hX dJ1_putVal_190 (by decide) rfl ?_ | refine j_astoreq (pc := 190) hX dJ1_putVal_190 (by decide) rfl ?_
            first | refine j_aload_n (pc := 192) hX dJ1_putVal_192 rfl rfl ?_ | refine j_aload_nq (pc := 192) hX dJ1_putVal_192 rfl rfl ?_
            refine j_acmp_eq (pc := 193) (rx := (some _)) (ry := (some _)) (tgt := 222) hX dJ1_putVal_193 (by decide) (fun c_193 => ?_) (fun c_193 => ?_)
            · exact absurd (hd.2.2 _ _ _ _ _ hke1 (by rw [← Option.some.inj c_193] at hk; exact hk)) hne1
            first | refine j_aload_n (pc := 196) hX dJ1_putVal_196 rfl rfl ?_ | refine j_aload_nq (pc := 196) hX dJ1_putVal_196 rfl rfl ?_
            refine j_ifnull (pc := 197) hX dJ1_putVal_197 ?_
            first | refine j_aload_n (pc := 200) hX dJ1_putVal_200 rfl rfl ?_ | refine j_aload_nq (pc := 200) hX dJ1_putVal_200 rfl rfl ?_
            first | refine j_aload (pc := 201) hX dJ1_putVal_201 rfl ?_ | refine j_aloadq (pc := 201) hX dJ1_putVal_201 rfl ?_
            refine j_rune (pc := 203) (jr_U (pc := 203) hX ku_J1_173_4 hk (c_J6e _ _ _ kq e1.2.2.1 hk hke1) (by decide) dJ1_putVal_203 rfl rfl (Nat.le_of_ble_eq_true rfl)) ?_ jno_x
            refine j_if_eq (pc := 206) (tgt := 212) hX dJ1_putVal_206 (by decide) (fun c_206 => ?_) (fun c_206 => ?_)
            rotate_left
            · exact absurd (of_decide_eq_true (jb_n.mp c_206)).symm hne1
            first | refine j_aload (pc := 212) hX dJ1_putVal_212 rfl ?_ | refine j_aloadq (pc := 212) hX dJ1_putVal_212 rfl ?_
            first | refine j_astore (pc := 214) hX dJ1_putVal_214 (by decide) rfl ?_ | refine j_astoreN (pc := 214) hX dJ1_putVal_214 (by decide) rfl ?_ | refine j_astoreq (pc := 214) hX dJ1_putVal_214 (by decide) rfl ?_
            refine j_iincc (pc := 216) (m := 1) hX dJ1_putVal_216 rfl (by decide) (by decide) rfl ?_
            refine j_goto (pc := 219) (tgt := 134) hX dJ1_putVal_219 (by decide) ?_
            exact j_lv (by simp [jsb, jget, jval, nI_1]) (ih e1 (A ++ [e]) (by rw [List.append_assoc]; exact hA))
      obtain ⟨hoe, hge, hke, -⟩ := id hc
      have hne1 : n0.2.1 ≠ k := hne n0 List.mem_cons_self
      refine j_dup (pc := 41) hX dJ1_putVal_41 (by first | rfl | exact jrf_cat _) ?_
      first | refine j_astore (pc := 42) hX dJ1_putVal_42 (by decide) rfl ?_ | refine j_astoreN (pc := 42) hX dJ1_putVal_42 (by decide) rfl ?_ | refine j_astoreq (pc := 42) hX dJ1_putVal_42 (by decide) rfl ?_
      refine j_ifnonnull (pc := 44) (tgt := 63) hX dJ1_putVal_44 (by decide) ?_
      first | refine j_aload (pc := 63) hX dJ1_putVal_63 rfl ?_ | refine j_aloadq (pc := 63) hX dJ1_putVal_63 rfl ?_
      refine j_get (pc := 65) hX kg_J1_168 dJ1_putVal_65 hoe.r (by rfl) ?_
      refine j_iload_n (pc := 68) hX dJ1_putVal_68 rfl rfl ?_
      refine j_icmp_ne (pc := 69) (tgt := 104) hX dJ1_putVal_69 (by decide) (fun c_69 => ?_) (fun c_69 => ?_)
      · first | refine j_aload (pc := 104) hX dJ1_putVal_104 rfl ?_ | refine j_aloadq (pc := 104) hX dJ1_putVal_104 rfl ?_
        refine j_instNo (pc := 106) hX kd_J1_180 dJ1_putVal_106 hoe.r ?_
        refine j_if_eq (pc := 109) (tgt := 131) hX dJ1_putVal_109 (by decide) (fun c_109 => ?_) (fun c_109 => ?_)
        rotate_left
        · exact absurd rfl c_109
        refine j_iconst (pc := 131) (v := 0) hX dJ1_putVal_131 (by decide) ?_
        refine j_istore (pc := 132) hX dJ1_putVal_132 (by decide) rfl ?_
        exact j_lv (by simp [jsb, jget, jval, nI_0]) (loop t0 n0 [] rfl)
      · first | refine j_aload (pc := 72) hX dJ1_putVal_72 rfl ?_ | refine j_aloadq (pc := 72) hX dJ1_putVal_72 rfl ?_
        refine j_get (pc := 74) hX kg_J1_170 dJ1_putVal_74 hoe.r (by rfl) ?_
        refine j_dup (pc := 77) hX dJ1_putVal_77 (by first | rfl | exact jrf_cat _) ?_
        first | refine j_astore (pc := 78) hX dJ1_putVal_78 (by decide) rfl ?_ | refine j_astoreN (pc := 78) hX dJ1_putVal_78 (by decide) rfl ?_ | refine j_astoreq (pc := 78) hX dJ1_putVal_78 (by decide) rfl ?_
        first | refine j_aload_n (pc := 80) hX dJ1_putVal_80 rfl rfl ?_ | refine j_aload_nq (pc := 80) hX dJ1_putVal_80 rfl rfl ?_
        refine j_acmp_eq (pc := 81) (rx := (some _)) (ry := (some _)) (tgt := 97) hX dJ1_putVal_81 (by decide) (fun c_81 => ?_) (fun c_81 => ?_)
        · exact absurd (hd.2.2 _ _ _ _ _ hke (by rw [← Option.some.inj c_81] at hk; exact hk)) hne1
        first | refine j_aload_n (pc := 84) hX dJ1_putVal_84 rfl rfl ?_ | refine j_aload_nq (pc := 84) hX dJ1_putVal_84 rfl rfl ?_
        refine j_ifnull (pc := 85) hX dJ1_putVal_85 ?_
        first | refine j_aload_n (pc := 88) hX dJ1_putVal_88 rfl rfl ?_ | refine j_aload_nq (pc := 88) hX dJ1_putVal_88 rfl rfl ?_
        first | refine j_aload (pc := 89) hX dJ1_putVal_89 rfl ?_ | refine j_aloadq (pc := 89) hX dJ1_putVal_89 rfl ?_
        refine j_rune (pc := 91) (jr_U (pc := 91) hX ku_J1_173_4 hk (c_J6e _ _ _ kq n0.2.2.1 hk hke) (by decide) dJ1_putVal_91 rfl rfl (Nat.le_of_ble_eq_true rfl)) ?_ jno_x
        refine j_if_eq (pc := 94) (tgt := 104) hX dJ1_putVal_94 (by decide) (fun c_94 => ?_) (fun c_94 => ?_)
        rotate_left
        · exact absurd (of_decide_eq_true (jb_n.mp c_94)).symm hne1
        first | refine j_aload (pc := 104) hX dJ1_putVal_104 rfl ?_ | refine j_aloadq (pc := 104) hX dJ1_putVal_104 rfl ?_
        refine j_instNo (pc := 106) hX kd_J1_180 dJ1_putVal_106 hoe.r ?_
        refine j_if_eq (pc := 109) (tgt := 131) hX dJ1_putVal_109 (by decide) (fun c_109 => ?_) (fun c_109 => ?_)
        rotate_left
        · exact absurd rfl c_109
        refine j_iconst (pc := 131) (v := 0) hX dJ1_putVal_131 (by decide) ?_
        refine j_istore (pc := 132) hX dJ1_putVal_132 (by decide) rfl ?_
        exact j_lv (by simp [jsb, jget, jval, nI_0]) (loop t0 n0 [] rfl)
  cases tab with
  | none =>
    obtain ⟨rfl, rfl⟩ := hnone rfl
    first | refine j_aload_n (pc := 0) hX dJ1_putVal_0 rfl rfl ?_ | refine j_aload_nq (pc := 0) hX dJ1_putVal_0 rfl rfl ?_
    refine j_get (pc := 1) hX kg_J1_105 dJ1_putVal_1 (by first | assumption | exact jow.r (by assumption)) (by rfl) ?_
    refine j_dup (pc := 4) hX dJ1_putVal_4 (by first | rfl | exact jrf_cat _) ?_
    first | refine j_astore (pc := 5) hX dJ1_putVal_5 (by decide) rfl ?_ | refine j_astoreN (pc := 5) hX dJ1_putVal_5 (by decide) rfl ?_ | refine j_astoreq (pc := 5) hX dJ1_putVal_5 (by decide) rfl ?_
    refine j_ifnullN (pc := 7) (tgt := 19) hX dJ1_putVal_7 (by decide) ?_
    first | refine j_aload_n (pc := 19) hX dJ1_putVal_19 rfl rfl ?_ | refine j_aload_nq (pc := 19) hX dJ1_putVal_19 rfl rfl ?_
    skip
    change JW X G H (17 + 4) 20 _ _
    refine j_runa (pc := 20) (jr_V (pc := 20) hX kv_J1_117 ho.r (c_J1_resize0 _ _ _ q ho hq) (by decide) dJ1_putVal_20 rfl rfl (Nat.le_of_ble_eq_true rfl)) (fun r_20 H_20 p_20 z_20 => ?_) jno_x
    obtain ⟨hr0, ho1, hg1, ha1, hF1⟩ := p_20
    refine j_dup (pc := 23) hX dJ1_putVal_23 (by first | rfl | exact jrf_cat _) ?_
    first | refine j_astore (pc := 24) hX dJ1_putVal_24 (by decide) rfl ?_ | refine j_astoreN (pc := 24) hX dJ1_putVal_24 (by decide) rfl ?_ | refine j_astoreq (pc := 24) hX dJ1_putVal_24 (by decide) rfl ?_
    refine j_alen (pc := 26) hX dJ1_putVal_26 (jaw.r (t := 8) hX (by decide) ha1) ?_
    refine j_istore (pc := 27) hX dJ1_putVal_27 (by decide) rfl ?_
    skip
    have e0 : ∀ n : ND (Int32 × Int32), inN (fun _ => []) 16 n ↔ inN B 0 n := fun n => ⟨fun ⟨j, _, z⟩ => (by cases z), fun ⟨j, z, _⟩ => absurd z (Nat.not_lt_zero j)⟩
    refine j_lv (by exact ⟨rfl, rfl, rfl, rfl, rfl, rfl, rfl, trivial⟩) (main H_20 r_20 16 (fun _ => []) ⟨hq, hsz, ho1, (fun z => by cases z), (fun t' z => by cases z; exact ⟨Or.inl rfl, hg1, ha1, (fun _ _ => trivial), (fun _ _ n hn => by cases hn), (fun _ _ => List.nodup_nil)⟩)⟩ (hk.fr hF1 (fun z => hC.ne hk ho.r hd.1 z)) (fun _ => by simp) e0 (Or.inr hr0) (hF1.weak (fun a _ z => Or.inl z)) (fun n ⟨j, _, z⟩ => (by cases z)))
  | some t =>
    have tb := htab t rfl
    first | refine j_aload_n (pc := 0) hX dJ1_putVal_0 rfl rfl ?_ | refine j_aload_nq (pc := 0) hX dJ1_putVal_0 rfl rfl ?_
    refine j_get (pc := 1) hX kg_J1_105 dJ1_putVal_1 (by first | assumption | exact jow.r (by assumption)) (by rfl) ?_
    refine j_dup (pc := 4) hX dJ1_putVal_4 (by first | rfl | exact jrf_cat _) ?_
    first | refine j_astore (pc := 5) hX dJ1_putVal_5 (by decide) rfl ?_ | refine j_astoreN (pc := 5) hX dJ1_putVal_5 (by decide) rfl ?_ | refine j_astoreq (pc := 5) hX dJ1_putVal_5 (by decide) rfl ?_
    refine j_ifnull (pc := 7) hX dJ1_putVal_7 ?_
    first | refine j_aload (pc := 10) hX dJ1_putVal_10 rfl ?_ | refine j_aloadq (pc := 10) hX dJ1_putVal_10 rfl ?_
    refine j_alen (pc := 12) hX dJ1_putVal_12 (jaw.r (t := 8) hX (by decide) tb.2.2.1) ?_
    refine j_dup (pc := 13) hX dJ1_putVal_13 (by first | rfl | exact jrf_cat _) ?_
    refine j_istore (pc := 14) hX dJ1_putVal_14 (by decide) rfl ?_
    refine j_if_ne (pc := 16) (tgt := 29) hX dJ1_putVal_16 (by decide) (fun c_16 => ?_) (fun c_16 => ?_)
    rotate_left
    · exact absurd c_16 (fun z => by rcases tb.1 with rfl | rfl <;> cases z)
    skip
    exact j_lv (by exact ⟨rfl, rfl, rfl, rfl, rfl, rfl, rfl, trivial⟩) (j_weak (by omega) (main H t cap B h hk hb (fun n => Iff.rfl) (Or.inl rfl) JFr.rfl' (fun n hn _ => Or.inr (Or.inr ⟨n, hn, rfl⟩))))
theorem c_J1_putR (l : Launch) (G : JG) (H : Heap) (q kq v : Nat) (k : Int32 × Int32) {tab : Option Nat} {cap sz : Nat} {mc : Int32} {B : Nat → List (ND (Int32 × Int32))} (h : hmA kdR G H q tab cap sz mc B) (hk : kA kdR G H kq k) (hno : ∀ n, inN B cap n → n.2.1 ≠ k) (hs : sz < 24) (hb : cap = 32 → (B (ixN 32 (hK kdR k))).length ≤ 7) : JMet l yJ1_put (ws_ yJ1_put cJ1_put 3 (some (.object "java/lang/Object"))) 5 21 G H [.ref q, .ref kq, .ref v] (jpq (fun r H1 => r = none ∧ PutP kdR G H H1 q kq v k tab cap sz mc B)) (jno) := by
  refine JMet.of [(0, .inr (some q)), (1, .inr (some kq)), (2, .inr (some v))] (by decide) (Nat.le_of_ble_eq_true rfl) rfl (fun X hl hX hQ hEx hr hnm hH => ?_)
  subst hl
  have ho := h.2.2.1
  first | refine j_aload_n (pc := 0) hX dJ1_put_0 rfl rfl ?_ | refine j_aload_nq (pc := 0) hX dJ1_put_0 rfl rfl ?_
  first | refine j_aload_n (pc := 1) hX dJ1_put_1 rfl rfl ?_ | refine j_aload_nq (pc := 1) hX dJ1_put_1 rfl rfl ?_
  refine j_rune (pc := 2) (jr_S (pc := 2) hX ks_J1_149 (c_J1_hkR _ _ _ kq hk) (by decide) dJ1_put_2 rfl rfl (Nat.le_of_ble_eq_true rfl)) ?_ jno_x
  first | refine j_aload_n (pc := 5) hX dJ1_put_5 rfl rfl ?_ | refine j_aload_nq (pc := 5) hX dJ1_put_5 rfl rfl ?_
  first | refine j_aload_n (pc := 6) hX dJ1_put_6 rfl rfl ?_ | refine j_aload_nq (pc := 6) hX dJ1_put_6 rfl rfl ?_
  refine j_iconst (pc := 7) (v := 0) hX dJ1_put_7 (by decide) ?_
  refine j_iconst (pc := 8) (v := 1) hX dJ1_put_8 (by decide) ?_
  change JW X G H (0 + 21) 9 _ _
  refine j_runq (pc := 9) (jr_V (pc := 9) hX kv_J1_152 (by first | assumption | exact jow.r (by assumption)) (c_J1_putValR _ _ _ q kq v k h hk hno hs hb) (by decide) dJ1_put_9 rfl rfl (Nat.le_of_ble_eq_true rfl)) (fun r_9 H_9 p_9 z_9 => ?_) jno_x
  first | exact j_aret hX hQ hr (by first | exact Or.inl ⟨_, rfl⟩ | exact Or.inr ⟨_, rfl⟩) dJ1_put_12 ⟨_, rfl, p_9⟩ | exact j_aretN hX hQ hr (by first | exact Or.inl ⟨_, rfl⟩ | exact Or.inr ⟨_, rfl⟩) dJ1_put_12 ⟨_, rfl, p_9⟩ | exact j_aretq hX hQ hr (by first | exact Or.inl ⟨_, rfl⟩ | exact Or.inr ⟨_, rfl⟩) dJ1_put_12 ⟨_, rfl, p_9⟩
