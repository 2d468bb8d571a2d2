/-! the map: removeNode, remove -/
set_option maxRecDepth 100000
theorem rem_mem {K : Type} {A R : List (ND K)} {x : ND K} {k : K} (hnd : ((A ++ x :: R).map (·.2.1)).Nodup) (hx : x.2.1 = k) (n : ND K) : n ∈ A ++ R ↔ n ∈ A ++ x :: R ∧ n.2.1 ≠ k := by
  rw [List.map_append, List.map_cons, List.nodup_append, List.nodup_cons] at hnd
  obtain ⟨-, ⟨h2, -⟩, h3⟩ := hnd
  subst hx
  constructor
  · intro hn
    rcases List.mem_append.mp hn with hn | hn
    · exact ⟨List.mem_append_left _ hn, h3 _ (List.mem_map.mpr ⟨n, hn, rfl⟩) _ List.mem_cons_self⟩
    · exact ⟨List.mem_append_right _ (List.mem_cons_of_mem _ hn), fun e => h2 (e ▸ List.mem_map.mpr ⟨n, hn, rfl⟩)⟩
  · rintro ⟨hn, hne⟩
    rcases List.mem_append.mp hn with hn | hn
    · exact List.mem_append_left _ hn
    · rcases List.mem_cons.mp hn with rfl | hn
      · exact absurd rfl hne
      · exact List.mem_append_right _ hn
section
variable {K : Type} {d : KD K} {G : JG} {H H1 : Heap} {q t cap : Nat} {B : Nat → List (ND K)}
theorem inN_rem (h : tbA d G H t cap B) {A R : List (ND K)} {x : ND K} {k : K} {ix : Nat} (hi : ix < cap) (hix : ix = ixN cap (hK d k)) (hL : B ix = A ++ x :: R) (hx : x.2.1 = k) (n : ND K) : inN (jup B ix (A ++ R)) cap n ↔ inN B cap n ∧ n.2.1 ≠ k := by
  have hm := rem_mem (by rw [← hL]; exact h.2.2.2.2.2 ix hi) hx n
  constructor
  · rintro ⟨j, hj, hn⟩
    by_cases e : j = ix
    · subst e; rw [jup_same] at hn
      exact ⟨⟨j, hj, by rw [hL]; exact (hm.mp hn).1⟩, (hm.mp hn).2⟩
    · rw [jup_ne e] at hn
      exact ⟨⟨j, hj, hn⟩, fun z => e (by rw [hix, ← z]; exact (h.2.2.2.2.1 j hj n hn).symm)⟩
  · rintro ⟨⟨j, hj, hn⟩, hne⟩
    by_cases e : j = ix
    · subst e; exact ⟨j, hj, by rw [jup_same]; exact hm.mpr ⟨by rw [← hL]; exact hn, hne⟩⟩
    · exact ⟨j, hj, by rw [jup_ne e]; exact hn⟩
theorem tbA.sub (h : tbA d G H t cap B) {ix : Nat} {A R : List (ND K)} {x : ND K} (hi : ix < cap) (hL : B ix = A ++ x :: R) (ha : jaw G H1 t 8 cap (fun j => va_rf (nxN (jup B ix (A ++ R) j) none))) (hb : chE d G H1 none (A ++ R)) (ho : ∀ j, j < cap → j ≠ ix → chE d G H1 none (B j)) : tbA d G H1 t cap (jup B ix (A ++ R)) := by
  obtain ⟨h1, h2, h3, h4, h5, h6⟩ := h
  have hs : (A ++ R).Sublist (B ix) := by rw [hL]; exact List.Sublist.append_left (List.sublist_cons_self _ _) _
  refine ⟨h1, h2, ha, fun j hj => ?_, fun j hj => ?_, fun j hj => ?_⟩
  · by_cases e : j = ix
    · subst e; rw [jup_same]; exact hb
    · rw [jup_ne e]; exact ho j hj e
  · by_cases e : j = ix
    · subst e; rw [jup_same]; exact fun n hn => h5 j hj n (hs.subset hn)
    · rw [jup_ne e]; exact h5 j hj
  · by_cases e : j = ix
    · subst e; rw [jup_same]; exact List.Pairwise.sublist (List.Sublist.map _ hs) (h6 j hj)
    · rw [jup_ne e]; exact h6 j hj
end
/-- what taking a key out does -/
def RemP {K : Type} (d : KD K) (G : JG) (H H1 : Heap) (q : Nat) (k : K) (tab : Option Nat) (cap sz : Nat) (mc : Int32) (B : Nat → List (ND K)) : Prop :=
  ∃ (sz' : Nat) (mc' : Int32) (B' : Nat → List (ND K)), hmA d G H1 q tab cap sz' mc' B' ∧ (∀ n, inN B' cap n ↔ inN B cap n ∧ n.2.1 ≠ k) ∧ (((∃ n, inN B cap n ∧ n.2.1 = k) ∧ sz' + 1 = sz) ∨ ((∀ n, inN B cap n → n.2.1 ≠ k) ∧ sz' = sz)) ∧ JFr (fpN q tab B cap) H H1
def RemR {K : Type} (d : KD K) (G : JG) (H1 : Heap) (k : K) (cap : Nat) (B : Nat → List (ND K)) (r : Option Nat) : Prop :=
  (r = none ∧ ∀ n, inN B cap n → n.2.1 ≠ k) ∨ ∃ n, inN B cap n ∧ n.2.1 = k ∧ r = some n.1 ∧ ∃ nx, jow G H1 n.1 10 (ndF (hK d k) n.2.2.1 n.2.2.2 nx)
theorem c_J1_removeNodeI (l : Launch) (G : JG) (H : Heap) (q kq : Nat) (k : Int32) {tab : Option Nat} {cap sz : Nat} {mc : Int32} {B : Nat → List (ND (Int32))} (h : hmA kdI G H q tab cap sz mc B) (hk : kA kdI G H kq k) (hs : ∀ n, inN B cap n → n.2.1 = k → 0 < sz) : JMet l yJ1_removeNode (ws_ yJ1_removeNode cJ1_removeNode 14 (some (.object "java/util/HashMap$Node"))) 4 0 G H [.ref q, .int (hK kdI k), .ref kq, .null, .int 0, .int 1] (jpq (fun r H1 => RemR kdI G H1 k cap B r ∧ RemP kdI G H H1 q k tab cap sz mc B)) (jno) := by
  refine JMet.of [(0, .inr (some q)), (1, .inl (.int (hK kdI k))), (2, .inr (some kq)), (3, .inr none), (4, .inl (.int 0)), (5, .inl (.int 1))] (by decide) (Nat.le_of_ble_eq_true rfl) rfl (fun X hl hX hQ hEx hr hnm hH => ?_)
  subst hl
  obtain ⟨hq, hsz, ho, hnone, htab⟩ := id h
  have hC := hX.C
  have hd := kdI_ok
  have nope : (∀ n, inN B cap n → n.2.1 ≠ k) → JW X G H 0 289 [] [] := by
    intro hno
    refine j_null (pc := 289) hX dJ1_removeNode_289 ?_
    first | exact j_aret hX hQ hr (by first | exact Or.inl ⟨_, rfl⟩ | exact Or.inr ⟨_, rfl⟩) dJ1_removeNode_290 ⟨none, rfl, Or.inl ⟨rfl, hno⟩, sz, mc, B, h, fun n => ⟨fun hn => ⟨hn, hno n hn⟩, fun hn => hn.1⟩, Or.inr ⟨hno, rfl⟩, JFr.rfl'⟩ | exact j_aretN hX hQ hr (by first | exact Or.inl ⟨_, rfl⟩ | exact Or.inr ⟨_, rfl⟩) dJ1_removeNode_290 ⟨none, rfl, Or.inl ⟨rfl, hno⟩, sz, mc, B, h, fun n => ⟨fun hn => ⟨hn, hno n hn⟩, fun hn => hn.1⟩, Or.inr ⟨hno, rfl⟩, JFr.rfl'⟩ | exact j_aretq hX hQ hr (by first | exact Or.inl ⟨_, rfl⟩ | exact Or.inr ⟨_, rfl⟩) dJ1_removeNode_290 ⟨none, rfl, Or.inl ⟨rfl, hno⟩, sz, mc, B, h, fun n => ⟨fun hn => ⟨hn, hno n hn⟩, fun hn => hn.1⟩, Or.inr ⟨hno, rfl⟩, JFr.rfl'⟩
  cases tab with
  | none =>
    obtain ⟨rfl, rfl⟩ := hnone rfl
    first | refine j_aload_n (pc := 0) hX dJ1_removeNode_0 rfl rfl ?_ | refine j_aload_nq (pc := 0) hX dJ1_removeNode_0 rfl rfl ?_
    refine j_get (pc := 1) hX kg_J1_105 dJ1_removeNode_1 (by first | assumption | exact jow.r (by assumption)) (by rfl) ?_
    refine j_dup (pc := 4) hX dJ1_removeNode_4 (by first | rfl | exact jrf_cat _) ?_
    first | refine j_astore (pc := 5) hX dJ1_removeNode_5 (by decide) rfl ?_ | refine j_astoreN (pc := 5) hX dJ1_removeNode_5 (by decide) rfl ?_ | refine j_astoreq (pc := 5) hX dJ1_removeNode_5 (by decide) rfl ?_
    refine j_ifnullN (pc := 7) (tgt := 289) hX dJ1_removeNode_7 (by decide) ?_
    exact j_lv (by simp [jsb]) (nope (fun n ⟨j, z, _⟩ => absurd z (Nat.not_lt_zero j)))
  | some t =>
    have tb := htab t rfl
    obtain ⟨hcap, ht, ha, hch, hix, hnd⟩ := id tb
    have hlt := ix_lt hcap (hK kdI k)
    have hin : vp_in (nI (ixN cap (hK kdI k))) cap := vp_in_nI hlt (by omega)
    have hc := hch _ hlt
    obtain ⟨ix, hixe⟩ : ∃ ix, ix = ixN cap (hK kdI k) := ⟨_, rfl⟩
    have miss : (∀ n ∈ B ix, n.2.1 ≠ k) → ∀ n, inN B cap n → n.2.1 ≠ k := fun hno n ⟨j, hj, hn⟩ e => by
      have := hix j hj n hn
      rw [e, ← hixe] at this
      subst this
      exact hno n hn e
    -- behind the unlinking
    have tail : ∀ (Hc : Heap) (Bc : Nat → List (ND (Int32))) (x : ND (Int32)), jow G Hc q 9 (hmF sz mc cap (some t)) → tbA kdI G Hc t cap Bc → (∀ n, inN Bc cap n ↔ inN B cap n ∧ n.2.1 ≠ k) → inN B cap x → x.2.1 = k → (∃ nx, jow G Hc x.1 10 (ndF (hK kdI x.2.1) x.2.2.1 x.2.2.2 nx)) → JFr (fpN q (some t) B cap) H Hc → JW X G Hc 0 260 [(0, .inr (some q)), (10, .inr (some x.1))] [] := by
      intro Hc Bc x hoc tbc hin hx hxk hxo hF
      obtain ⟨nx, hxo⟩ := hxo
      have h0 := hs x hx hxk
      have hqx : q ≠ x.1 := hC.ne hoc.r hxo.r (by decide)
      obtain ⟨sz1, rfl⟩ : ∃ m, sz = m + 1 := ⟨sz - 1, by omega⟩
      first | refine j_aload_n (pc := 260) hX dJ1_removeNode_260 rfl rfl ?_ | refine j_aload_nq (pc := 260) hX dJ1_removeNode_260 rfl rfl ?_
      refine j_dup (pc := 261) hX dJ1_removeNode_261 (by first | rfl | exact jrf_cat _) ?_
      refine j_get (pc := 262) hX kg_J1_202 dJ1_removeNode_262 (by first | assumption | exact jow.r (by assumption)) (by rfl) ?_
      refine j_iconst (pc := 265) (v := 1) hX dJ1_removeNode_265 (by decide) ?_
      refine j_iadd (pc := 266) hX dJ1_removeNode_266 ?_
      refine j_put (pc := 267) hX kp_J1_202 dJ1_removeNode_267 (by assumption) hq rfl rfl rfl (fun H_267 w_267 n_267 => ?_)
      first | refine j_aload_n (pc := 270) hX dJ1_removeNode_270 rfl rfl ?_ | refine j_aload_nq (pc := 270) hX dJ1_removeNode_270 rfl rfl ?_
      refine j_dup (pc := 271) hX dJ1_removeNode_271 (by first | rfl | exact jrf_cat _) ?_
      refine j_get (pc := 272) hX kg_J1_156 dJ1_removeNode_272 (by first | assumption | exact jow.r (by assumption)) (by rfl) ?_
      refine j_iconst (pc := 275) (v := 1) hX dJ1_removeNode_275 (by decide) ?_
      refine j_isub (pc := 276) hX dJ1_removeNode_276 ?_
      rw [nI_pred]
      refine j_put (pc := 277) hX kp_J1_156 dJ1_removeNode_277 (by assumption) hq rfl rfl rfl (fun H_277 w_277 n_277 => ?_)
      first | refine j_aload_n (pc := 280) hX dJ1_removeNode_280 rfl rfl ?_ | refine j_aload_nq (pc := 280) hX dJ1_removeNode_280 rfl rfl ?_
      first | refine j_aload (pc := 281) hX dJ1_removeNode_281 rfl ?_ | refine j_aloadq (pc := 281) hX dJ1_removeNode_281 rfl ?_
      refine j_runve (pc := 283) (jr_V (pc := 283) hX kv_J1_236 n_277.r (c_J1_afterNodeRemoval _ _ _ q x.1) (by decide) dJ1_removeNode_283 rfl rfl (Nat.le_of_ble_eq_true rfl)) ?_ jno_x
      first | refine j_aload (pc := 286) hX dJ1_removeNode_286 rfl ?_ | refine j_aloadq (pc := 286) hX dJ1_removeNode_286 rfl ?_
      first | exact j_aret hX hQ hr (by first | exact Or.inl ⟨_, rfl⟩ | exact Or.inr ⟨_, rfl⟩) dJ1_removeNode_288 ⟨some x.1, rfl, Or.inr ⟨x, hx, hxk, rfl, nx, by rw [← hxk]; exact (hxo.put w_267 (Ne.symm hqx)).put w_277 (Ne.symm hqx)⟩, sz1, mc + 1, Bc, ⟨hq, by omega, n_277, (fun e => by cases e), fun t' e => by cases e; exact (tbc.own hC hd hoc w_267).own hC hd n_267 w_277⟩, hin, Or.inl ⟨⟨x, hx, hxk⟩, rfl⟩, (hF.put w_267 (fun _ => Or.inl rfl)).put w_277 (fun _ => Or.inl rfl)⟩ | exact j_aretN hX hQ hr (by first | exact Or.inl ⟨_, rfl⟩ | exact Or.inr ⟨_, rfl⟩) dJ1_removeNode_288 ⟨some x.1, rfl, Or.inr ⟨x, hx, hxk, rfl, nx, by rw [← hxk]; exact (hxo.put w_267 (Ne.symm hqx)).put w_277 (Ne.symm hqx)⟩, sz1, mc + 1, Bc, ⟨hq, by omega, n_277, (fun e => by cases e), fun t' e => by cases e; exact (tbc.own hC hd hoc w_267).own hC hd n_267 w_277⟩, hin, Or.inl ⟨⟨x, hx, hxk⟩, rfl⟩, (hF.put w_267 (fun _ => Or.inl rfl)).put w_277 (fun _ => Or.inl rfl)⟩ | exact j_aretq hX hQ hr (by first | exact Or.inl ⟨_, rfl⟩ | exact Or.inr ⟨_, rfl⟩) dJ1_removeNode_288 ⟨some x.1, rfl, Or.inr ⟨x, hx, hxk, rfl, nx, by rw [← hxk]; exact (hxo.put w_267 (Ne.symm hqx)).put w_277 (Ne.symm hqx)⟩, sz1, mc + 1, Bc, ⟨hq, by omega, n_277, (fun e => by cases e), fun t' e => by cases e; exact (tbc.own hC hd hoc w_267).own hC hd n_267 w_277⟩, hin, Or.inl ⟨⟨x, hx, hxk⟩, rfl⟩, (hF.put w_267 (fun _ => Or.inl rfl)).put w_277 (fun _ => Or.inl rfl)⟩
    first | refine j_aload_n (pc := 0) hX dJ1_removeNode_0 rfl rfl ?_ | refine j_aload_nq (pc := 0) hX dJ1_removeNode_0 rfl rfl ?_
    refine j_get (pc := 1) hX kg_J1_105 dJ1_removeNode_1 (by first | assumption | exact jow.r (by assumption)) (by rfl) ?_
    refine j_dup (pc := 4) hX dJ1_removeNode_4 (by first | rfl | exact jrf_cat _) ?_
    first | refine j_astore (pc := 5) hX dJ1_removeNode_5 (by decide) rfl ?_ | refine j_astoreN (pc := 5) hX dJ1_removeNode_5 (by decide) rfl ?_ | refine j_astoreq (pc := 5) hX dJ1_removeNode_5 (by decide) rfl ?_
    refine j_ifnull (pc := 7) hX dJ1_removeNode_7 ?_
    first | refine j_aload (pc := 10) hX dJ1_removeNode_10 rfl ?_ | refine j_aloadq (pc := 10) hX dJ1_removeNode_10 rfl ?_
    refine j_alen (pc := 12) hX dJ1_removeNode_12 (jaw.r (t := 8) hX (by decide) ha) ?_
    refine j_dup (pc := 13) hX dJ1_removeNode_13 (by first | rfl | exact jrf_cat _) ?_
    refine j_istore (pc := 14) hX dJ1_removeNode_14 (by decide) rfl ?_
    refine j_if_le (pc := 16) (tgt := 289) hX dJ1_removeNode_16 (by decide) (fun c_16 => ?_) (fun c_16 => ?_)
    · exact absurd c_16 (nI_nle (show 0 < cap by omega) (by omega))
    first | refine j_aload (pc := 19) hX dJ1_removeNode_19 rfl ?_ | refine j_aloadq (pc := 19) hX dJ1_removeNode_19 rfl ?_
    refine j_iload (pc := 21) hX dJ1_removeNode_21 rfl ?_
    refine j_iconst (pc := 23) (v := 1) hX dJ1_removeNode_23 (by decide) ?_
    refine j_isub (pc := 24) hX dJ1_removeNode_24 ?_
    refine j_iload_n (pc := 25) hX dJ1_removeNode_25 rfl rfl ?_
    refine j_iand (pc := 26) hX dJ1_removeNode_26 ?_
    refine j_dup (pc := 27) hX dJ1_removeNode_27 (by first | rfl | exact jrf_cat _) ?_
    refine j_istore (pc := 28) hX dJ1_removeNode_28 (by decide) rfl ?_
    skip
    rw [show (Int32.ofNat cap - 1) &&& hK kdI k = nI (ixN cap (hK kdI k)) from ix_and hcap _]
    refine j_aald (pc := 30) hX (t := 8) (by decide) dJ1_removeNode_30 (jaw.r (t := 8) hX (by decide) ha) hin ?_
    rw [nI_clamp (by omega)]
    rw [← hixe] at hc hlt hin ⊢
    cases hL : B ix with
    | nil =>
      change JW X G H 0 31 _ [.null]
      refine j_dup (pc := 31) hX dJ1_removeNode_31 (by first | rfl | exact jrf_cat _) ?_
      first | refine j_astore (pc := 32) hX dJ1_removeNode_32 (by decide) rfl ?_ | refine j_astoreN (pc := 32) hX dJ1_removeNode_32 (by decide) rfl ?_ | refine j_astoreq (pc := 32) hX dJ1_removeNode_32 (by decide) rfl ?_
      refine j_ifnullN (pc := 34) (tgt := 289) hX dJ1_removeNode_34 (by decide) ?_
      exact j_lv (by simp [jsb]) (nope (miss (fun n hn => by rw [hL] at hn; cases hn)))
    | cons n0 t0 =>
      change JW X G H 0 31 _ [.ref n0.1]
      rw [hL] at hc
      have hndk := hnd ix hlt
      have inL : ∀ n ∈ n0 :: t0, inN B cap n := fun n hn => ⟨ix, hlt, by rw [hL]; exact hn⟩
      -- a node behind p found
      have found : ∀ (R : List (ND (Int32))) (e p : ND (Int32)) (A : List (ND (Int32))), A ++ p :: e :: R = n0 :: t0 → e.2.1 = k → JW X G H 0 171 [(0, .inr (some q)), (4, .inl (.int 0)), (5, .inl (.int 1)), (6, .inr (some t)), (7, .inr (some p.1)), (9, .inl (.int (nI ix))), (10, .inr (some e.1))] [] := by
        intro R e p A hA he
        have hcA : chE kdI G H none (A ++ p :: e :: R) := by rw [hA]; exact hc
        obtain ⟨hcA1, hop, hgp, hkp, hoe, hge, hke, hcR⟩ := chE_app.mp hcA
        have hLA : B ix = (A ++ [p]) ++ e :: R := by rw [hL, ← hA]; simp
        have hndL : ((A ++ [p]) ++ e :: R).Nodup := by rw [← hLA]; exact tb.nodup hlt
        have pe : p.1 ≠ e.1 := fun z => by
          have := tb.eq hd (inL p (by rw [← hA]; simp)) (inL e (by rw [← hA]; simp)) z
          subst this
          rw [List.nodup_append] at hndL
          exact hndL.2.2 p (by simp) p List.mem_cons_self rfl
        have hcs : chE kdI G H (some e.1) (A ++ [p]) := (chE_app (C := e :: R)).mp (by rw [← hLA, hL]; exact hc) |>.1
        have inj := fun n (hn : inN B cap n) (z : n.1 = p.1) => tb.eq hd hn (inL p (by rw [← hA]; simp)) z
        have kne : ∀ n, inN B cap n → n.2.2.1 ≠ p.1 := fun n hn z => hC.ne (tb.nd hn).2.2 hop.r hd.2.1 z
        first | refine j_aload (pc := 171) hX dJ1_removeNode_171 rfl ?_ | refine j_aloadq (pc := 171) hX dJ1_removeNode_171 rfl ?_
        refine j_ifnull (pc := 173) hX dJ1_removeNode_173 ?_
        refine j_iload (pc := 176) hX dJ1_removeNode_176 rfl ?_
        refine j_if_eq (pc := 178) (tgt := 206) hX dJ1_removeNode_178 (by decide) (fun c_178 => ?_) (fun c_178 => ?_)
        rotate_left
        · exact absurd rfl c_178
        first | refine j_aload (pc := 206) hX dJ1_removeNode_206 rfl ?_ | refine j_aloadq (pc := 206) hX dJ1_removeNode_206 rfl ?_
        refine j_instNo (pc := 208) hX kd_J1_180 dJ1_removeNode_208 hoe.r ?_
        refine j_if_eq (pc := 211) (tgt := 230) hX dJ1_removeNode_211 (by decide) (fun c_211 => ?_) (fun c_211 => ?_)
        rotate_left
        · exact absurd rfl c_211
        first | refine j_aload (pc := 230) hX dJ1_removeNode_230 rfl ?_ | refine j_aloadq (pc := 230) hX dJ1_removeNode_230 rfl ?_
        first | refine j_aload (pc := 232) hX dJ1_removeNode_232 rfl ?_ | refine j_aloadq (pc := 232) hX dJ1_removeNode_232 rfl ?_
        refine j_acmp_ne (pc := 234) (rx := (some e.1)) (ry := (some p.1)) (tgt := 250) hX dJ1_removeNode_234 (by decide) (fun c_234 => ?_) (fun c_234 => ?_)
        rotate_left
        · exact absurd (Option.some.inj c_234).symm pe
        skip
        first | refine j_aload (pc := 250) hX dJ1_removeNode_250 rfl ?_ | refine j_aloadq (pc := 250) hX dJ1_removeNode_250 rfl ?_
        first | refine j_aload (pc := 252) hX dJ1_removeNode_252 rfl ?_ | refine j_aloadq (pc := 252) hX dJ1_removeNode_252 rfl ?_
        refine j_get (pc := 254) hX kg_J1_177 dJ1_removeNode_254 hoe.r (by rfl) ?_
        refine j_put (pc := 257) hX kp_J1_177 dJ1_removeNode_257 hop hgp (by cases R <;> rfl) (by cases R <;> rfl) rfl (fun H_257 w_257 n_257 => ?_)
        skip
        have hb3 : chE kdI G H_257 none ((A ++ [p]) ++ R) := by
          have hR1 : chE kdI G H_257 none R := hcR.keep (fun n hn => ⟨w_257.2 _ (fun z => by
            have := inj n (inL n (by rw [← hA]; simp [hn])) z
            subst this
            rw [List.nodup_append] at hndL
            exact hndL.2.2 n (by simp) n (List.mem_cons_of_mem _ hn) rfl), w_257.2 _ (kne n (inL n (by rw [← hA]; simp [hn])))⟩)
          refine chE_app.mpr ⟨hcs.close w_257 n_257 (fun n hn z => ?_) (fun n hn => kne n (inL n (by rw [← hL, hLA]; exact List.mem_append_left _ hn))), hR1⟩
          have := inj n (inL n (by rw [← hA]; simp [hn])) z
          subst this
          rw [List.append_assoc, List.nodup_append] at hndL
          exact hndL.2.2 n hn n (by simp) rfl
        have tb3 : tbA kdI G H_257 t cap (jup B ix ((A ++ [p]) ++ R)) := tb.sub hlt hLA ((ha.put w_257 (fun z => hC.neA hop.r ha (by decide) z.symm)).congr (fun j hj => by unfold jup; by_cases z : j = ix; rw [if_pos z, z, hLA]; cases A <;> rfl; rw [if_neg z])) hb3 (fun j hj z => (hch j hj).keep (fun n hn => ⟨w_257.2 _ (fun y => z (tb.bin hj hlt hn (by rw [hL, ← hA, inj n ⟨j, hj, hn⟩ y]; simp))), w_257.2 _ (kne n ⟨j, hj, hn⟩)⟩))
        exact j_lv (by simp [jsb, jget, jval]) (tail H_257 _ e (ho.put w_257 (hC.ne ho.r hop.r (by decide))) tb3 (inN_rem tb hlt hixe hLA he) (inL e (by rw [← hA]; simp)) he ⟨_, hoe.put w_257 (Ne.symm pe)⟩ (w_257.fr (Or.inr (Or.inr ⟨p, inL p (by rw [← hA]; simp), rfl⟩))))
      -- the search behind the first
      have loop : ∀ (R : List (ND (Int32))) (e p : ND (Int32)) (A : List (ND (Int32))), A ++ p :: e :: R = n0 :: t0 → (∀ n ∈ A ++ [p], n.2.1 ≠ k) → JW X G H 0 115 [(0, .inr (some q)), (1, .inl (.int (hK kdI k))), (2, .inr (some kq)), (4, .inl (.int 0)), (5, .inl (.int 1)), (6, .inr (some t)), (7, .inr (some p.1)), (9, .inl (.int (nI ix))), (10, .inr none), (11, .inr (some e.1))] [] := by
        intro R
        induction R with
        | nil =>
          intro e p A hA hpre
          have hcA : chE kdI G H none (A ++ p :: e :: []) := by rw [hA]; exact hc
          obtain ⟨hcA1, hop, hgp, hkp, hoe, hge, hke, hcR⟩ := chE_app.mp hcA
          have nx : e.2.1 ≠ k → JW X G H 0 156 [(0, .inr (some q)), (1, .inl (.int (hK kdI k))), (2, .inr (some kq)), (4, .inl (.int 0)), (5, .inl (.int 1)), (6, .inr (some t)), (9, .inl (.int (nI ix))), (10, .inr none), (11, .inr (some e.1))] [] := by
            intro hne
            first | refine j_aload (pc := 156) hX dJ1_removeNode_156 rfl ?_ | refine j_aloadq (pc := 156) hX dJ1_removeNode_156 rfl ?_
            first | refine j_astore (pc := 158) hX dJ1_removeNode_158 (by decide) rfl ?_ | refine j_astoreN (pc := 158) hX dJ1_removeNode_158 (by decide) rfl ?_ | refine j_astoreq (pc := 158) hX dJ1_removeNode_158 (by decide) rfl ?_
            first | refine j_aload (pc := 160) hX dJ1_removeNode_160 rfl ?_ | refine j_aloadq (pc := 160) hX dJ1_removeNode_160 rfl ?_
            refine j_get (pc := 162) hX kg_J1_177 dJ1_removeNode_162 hoe.r (by rfl) ?_
            refine j_dup (pc := 165) hX dJ1_removeNode_165 (by first | rfl | exact jrf_cat _) ?_
            first | refine j_astore (pc := 166) hX dJ1_removeNode_166 (by decide) rfl ?_ | refine j_astoreN (pc := 166) hX dJ1_removeNode_166 (by decide) rfl ?_ | refine j_astoreq (pc := 166) hX dJ1_removeNode_166 (by decide) rfl ?_
            refine j_ifnonnullN (pc := 168) hX dJ1_removeNode_168 ?_
            first | refine j_aload (pc := 171) hX dJ1_removeNode_171 rfl ?_ | refine j_aloadq (pc := 171) hX dJ1_removeNode_171 rfl ?_
            refine j_ifnullN (pc := 173) (tgt := 289) hX dJ1_removeNode_173 (by decide) ?_
            exact j_lv (by simp [jsb]) (nope (miss (fun n hn => by rw [hL, ← hA] at hn; rcases List.mem_append.mp hn with hn | hn; exact hpre n (List.mem_append_left _ hn); rcases List.mem_cons.mp hn with rfl | hn; exact hpre n (by simp); rw [List.mem_singleton.mp hn]; exact hne)))
          first | refine j_aload (pc := 115) hX dJ1_removeNode_115 rfl ?_ | refine j_aloadq (pc := 115) hX dJ1_removeNode_115 rfl ?_
          refine j_get (pc := 117) hX kg_J1_168 dJ1_removeNode_117 hoe.r (by rfl) ?_
          refine j_iload_n (pc := 120) hX dJ1_removeNode_120 rfl rfl ?_
          refine j_icmp_ne (pc := 121) (tgt := 156) hX dJ1_removeNode_121 (by decide) (fun c_121 => ?_) (fun c_121 => ?_)
          · have key := fun z => c_121 (congrArg (fun z => hK kdI z) z)
            exact j_lv (by simp [jsb, jget, jval]) (nx key)
          · first | refine j_aload (pc := 124) hX dJ1_removeNode_124 rfl ?_ | refine j_aloadq (pc := 124) hX dJ1_removeNode_124 rfl ?_
            refine j_get (pc := 126) hX kg_J1_170 dJ1_removeNode_126 hoe.r (by rfl) ?_
            refine j_dup (pc := 129) hX dJ1_removeNode_129 (by first | rfl | exact jrf_cat _) ?_
            first | refine j_astore (pc := 130) hX dJ1_removeNode_130 (by decide) rfl ?_ | refine j_astoreN (pc := 130) hX dJ1_removeNode_130 (by decide) rfl ?_ | refine j_astoreq (pc := 130) hX dJ1_removeNode_130 (by decide) rfl ?_
            first | refine j_aload_n (pc := 132) hX dJ1_removeNode_132 rfl rfl ?_ | refine j_aload_nq (pc := 132) hX dJ1_removeNode_132 rfl rfl ?_
            refine j_acmp_eq (pc := 133) (rx := (some _)) (ry := (some _)) (tgt := 149) hX dJ1_removeNode_133 (by decide) (fun c_133 => ?_) (fun c_133 => ?_)
            · have key := hd.2.2 _ _ _ _ _ (by rw [← Option.some.inj c_133] at hk; exact hk) hke
              first | refine j_aload (pc := 149) hX dJ1_removeNode_149 rfl ?_ | refine j_aloadq (pc := 149) hX dJ1_removeNode_149 rfl ?_
              first | refine j_astore (pc := 151) hX dJ1_removeNode_151 (by decide) rfl ?_ | refine j_astoreN (pc := 151) hX dJ1_removeNode_151 (by decide) rfl ?_ | refine j_astoreq (pc := 151) hX dJ1_removeNode_151 (by decide) rfl ?_
              refine j_goto (pc := 153) (tgt := 171) hX dJ1_removeNode_153 (by decide) ?_
              exact j_lv (by simp [jsb, jget, jval]) (found _ e p A hA key.symm)
            · first | refine j_aload_n (pc := 136) hX dJ1_removeNode_136 rfl rfl ?_ | refine j_aload_nq (pc := 136) hX dJ1_removeNode_136 rfl rfl ?_
              refine j_ifnull (pc := 137) hX dJ1_removeNode_137 ?_
              first | refine j_aload_n (pc := 140) hX dJ1_removeNode_140 rfl rfl ?_ | refine j_aload_nq (pc := 140) hX dJ1_removeNode_140 rfl rfl ?_
              first | refine j_aload (pc := 141) hX dJ1_removeNode_141 rfl ?_ | refine j_aloadq (pc := 141) hX dJ1_removeNode_141 rfl ?_
              refine j_rune (pc := 143) (jr_U (pc := 143) hX ku_J1_173_16 hk (c_J19_equals _ _ _ kq e.2.2.1 hk hke) (by decide) dJ1_removeNode_143 rfl rfl (Nat.le_of_ble_eq_true rfl)) ?_ jno_x
              refine j_if_eq (pc := 146) (tgt := 156) hX dJ1_removeNode_146 (by decide) (fun c_146 => ?_) (fun c_146 => ?_)
              · have key := fun z => of_decide_eq_false (jb_z.mp c_146) (Eq.symm z)
                exact j_lv (by simp [jsb, jget, jval]) (nx key)
              · have key := of_decide_eq_true (jb_n.mp c_146)
                first | refine j_aload (pc := 149) hX dJ1_removeNode_149 rfl ?_ | refine j_aloadq (pc := 149) hX dJ1_removeNode_149 rfl ?_
                first | refine j_astore (pc := 151) hX dJ1_removeNode_151 (by decide) rfl ?_ | refine j_astoreN (pc := 151) hX dJ1_removeNode_151 (by decide) rfl ?_ | refine j_astoreq (pc := 151) hX dJ1_removeNode_151 (by decide) rfl ?_
                refine j_goto (pc := 153) (tgt := 171) hX dJ1_removeNode_153 (by decide) ?_
                exact j_lv (by simp [jsb, jget, jval]) (found _ e p A hA key.symm)
        | cons m u ih =>
          intro e p A hA hpre
          have hcA : chE kdI G H none (A ++ p :: e :: (m :: u)) := by rw [hA]; exact hc
          obtain ⟨hcA1, hop, hgp, hkp, hoe, hge, hke, hcR⟩ := chE_app.mp hcA
          have nx : e.2.1 ≠ k → JW X G H 0 156 [(0, .inr (some q)), (1, .inl (.int (hK kdI k))), (2, .inr (some kq)), (4, .inl (.int 0)), (5, .inl (.int 1)), (6, .inr (some t)), (9, .inl (.int (nI ix))), (10, .inr none), (11, .inr (some e.1))] [] := by
            intro hne
            first | refine j_aload (pc := 156) hX dJ1_removeNode_156 rfl ?_ | refine j_aloadq (pc := 156) hX dJ1_removeNode_156 rfl ?_
            first | refine j_astore (pc := 158) hX dJ1_removeNode_158 (by decide) rfl ?_ | refine j_astoreN (pc := 158) hX dJ1_removeNode_158 (by decide) rfl ?_ | refine j_astoreq (pc := 158) hX dJ1_removeNode_158 (by decide) rfl ?_
            first | refine j_aload (pc := 160) hX dJ1_removeNode_160 rfl ?_ | refine j_aloadq (pc := 160) hX dJ1_removeNode_160 rfl ?_
            refine j_get (pc := 162) hX kg_J1_177 dJ1_removeNode_162 hoe.r (by rfl) ?_
            refine j_dup (pc := 165) hX dJ1_removeNode_165 (by first | rfl | exact jrf_cat _) ?_
            first | refine j_astore (pc := 166) hX dJ1_removeNode_166 (by decide) rfl ?_ | refine j_astoreN (pc := 166) hX dJ1_removeNode_166 (by decide) rfl ?_ | refine j_astoreq (pc := 166) hX dJ1_removeNode_166 (by decide) rfl ?_
            refine j_ifnonnull (pc := 168) (tgt := 115) hX dJ1_removeNode_168 (by decide) ?_
            exact j_lv (by simp [jsb, jget, jval, nxN]) (ih m e (A ++ [p]) (by rw [← hA]; simp) (fun n hn => by rcases List.mem_append.mp hn with hn | hn; exact hpre n hn; rw [List.mem_singleton.mp hn]; exact hne))
          first | refine j_aload (pc := 115) hX dJ1_removeNode_115 rfl ?_ | refine j_aloadq (pc := 115) hX dJ1_removeNode_115 rfl ?_
          refine j_get (pc := 117) hX kg_J1_168 dJ1_removeNode_117 hoe.r (by rfl) ?_
          refine j_iload_n (pc := 120) hX dJ1_removeNode_120 rfl rfl ?_
          refine j_icmp_ne (pc := 121) (tgt := 156) hX dJ1_removeNode_121 (by decide) (fun c_121 => ?_) (fun c_121 => ?_)
          · have key := fun z => c_121 (congrArg (fun z => hK kdI z) z)
            exact j_lv (by simp [jsb, jget, jval]) (nx key)
          · first | refine j_aload (pc := 124) hX dJ1_removeNode_124 rfl ?_ | refine j_aloadq (pc := 124) hX dJ1_removeNode_124 rfl ?_
            refine j_get (pc := 126) hX kg_J1_170 dJ1_removeNode_126 hoe.r (by rfl) ?_
            refine j_dup (pc := 129) hX dJ1_removeNode_129 (by first | rfl | exact jrf_cat _) ?_
            first | refine j_astore (pc := 130) hX dJ1_removeNode_130 (by decide) rfl ?_ | refine j_astoreN (pc := 130) hX dJ1_removeNode_130 (by decide) rfl ?_ | refine j_astoreq (pc := 130) hX dJ1_removeNode_130 (by decide) rfl ?_
            first | refine j_aload_n (pc := 132) hX dJ1_removeNode_132 rfl rfl ?_ | refine j_aload_nq (pc := 132) hX dJ1_removeNode_132 rfl rfl ?_
            refine j_acmp_eq (pc := 133) (rx := (some _)) (ry := (some _)) (tgt := 149) hX dJ1_removeNode_133 (by decide) (fun c_133 => ?_) (fun c_133 => ?_)
            · have key := hd.2.2 _ _ _ _ _ (by rw [← Option.some.inj c_133] at hk; exact hk) hke
              first | refine j_aload (pc := 149) hX dJ1_removeNode_149 rfl ?_ | refine j_aloadq (pc := 149) hX dJ1_removeNode_149 rfl ?_
              first | refine j_astore (pc := 151) hX dJ1_removeNode_151 (by decide) rfl ?_ | refine j_astoreN (pc := 151) hX dJ1_removeNode_151 (by decide) rfl ?_ | refine j_astoreq (pc := 151) hX dJ1_removeNode_151 (by decide) rfl ?_
              refine j_goto (pc := 153) (tgt := 171) hX dJ1_removeNode_153 (by decide) ?_
              exact j_lv (by simp [jsb, jget, jval]) (found _ e p A hA key.symm)
            · first | refine j_aload_n (pc := 136) hX dJ1_removeNode_136 rfl rfl ?_ | refine j_aload_nq (pc := 136) hX dJ1_removeNode_136 rfl rfl ?_
              refine j_ifnull (pc := 137) hX dJ1_removeNode_137 ?_
              first | refine j_aload_n (pc := 140) hX dJ1_removeNode_140 rfl rfl ?_ | refine j_aload_nq (pc := 140) hX dJ1_removeNode_140 rfl rfl ?_
              first | refine j_aload (pc := 141) hX dJ1_removeNode_141 rfl ?_ | refine j_aloadq (pc := 141) hX dJ1_removeNode_141 rfl ?_
              refine j_rune (pc := 143) (jr_U (pc := 143) hX ku_J1_173_16 hk (c_J19_equals _ _ _ kq e.2.2.1 hk hke) (by decide) dJ1_removeNode_143 rfl rfl (Nat.le_of_ble_eq_true rfl)) ?_ jno_x
              refine j_if_eq (pc := 146) (tgt := 156) hX dJ1_removeNode_146 (by decide) (fun c_146 => ?_) (fun c_146 => ?_)
              · have key := fun z => of_decide_eq_false (jb_z.mp c_146) (Eq.symm z)
                exact j_lv (by simp [jsb, jget, jval]) (nx key)
              · have key := of_decide_eq_true (jb_n.mp c_146)
                first | refine j_aload (pc := 149) hX dJ1_removeNode_149 rfl ?_ | refine j_aloadq (pc := 149) hX dJ1_removeNode_149 rfl ?_
                first | refine j_astore (pc := 151) hX dJ1_removeNode_151 (by decide) rfl ?_ | refine j_astoreN (pc := 151) hX dJ1_removeNode_151 (by decide) rfl ?_ | refine j_astoreq (pc := 151) hX dJ1_removeNode_151 (by decide) rfl ?_
                refine j_goto (pc := 153) (tgt := 171) hX dJ1_removeNode_153 (by decide) ?_
                exact j_lv (by simp [jsb, jget, jval]) (found _ e p A hA key.symm)
      obtain ⟨hoe, hge, hke, hcR⟩ := id hc
      -- the first one found
      have first : n0.2.1 = k → JW X G H 0 171 [(0, .inr (some q)), (4, .inl (.int 0)), (5, .inl (.int 1)), (6, .inr (some t)), (7, .inr (some n0.1)), (9, .inl (.int (nI ix))), (10, .inr (some n0.1))] [] := by
        intro he
        first | refine j_aload (pc := 171) hX dJ1_removeNode_171 rfl ?_ | refine j_aloadq (pc := 171) hX dJ1_removeNode_171 rfl ?_
        refine j_ifnull (pc := 173) hX dJ1_removeNode_173 ?_
        refine j_iload (pc := 176) hX dJ1_removeNode_176 rfl ?_
        refine j_if_eq (pc := 178) (tgt := 206) hX dJ1_removeNode_178 (by decide) (fun c_178 => ?_) (fun c_178 => ?_)
        rotate_left
        · exact absurd rfl c_178
        first | refine j_aload (pc := 206) hX dJ1_removeNode_206 rfl ?_ | refine j_aloadq (pc := 206) hX dJ1_removeNode_206 rfl ?_
        refine j_instNo (pc := 208) hX kd_J1_180 dJ1_removeNode_208 hoe.r ?_
        refine j_if_eq (pc := 211) (tgt := 230) hX dJ1_removeNode_211 (by decide) (fun c_211 => ?_) (fun c_211 => ?_)
        rotate_left
        · exact absurd rfl c_211
        first | refine j_aload (pc := 230) hX dJ1_removeNode_230 rfl ?_ | refine j_aloadq (pc := 230) hX dJ1_removeNode_230 rfl ?_
        first | refine j_aload (pc := 232) hX dJ1_removeNode_232 rfl ?_ | refine j_aloadq (pc := 232) hX dJ1_removeNode_232 rfl ?_
        refine j_acmp_ne (pc := 234) (rx := (some n0.1)) (ry := (some n0.1)) (tgt := 250) hX dJ1_removeNode_234 (by decide) (fun c_234 => ?_) (fun c_234 => ?_)
        · exact absurd rfl c_234
        first | refine j_aload (pc := 237) hX dJ1_removeNode_237 rfl ?_ | refine j_aloadq (pc := 237) hX dJ1_removeNode_237 rfl ?_
        refine j_iload (pc := 239) hX dJ1_removeNode_239 rfl ?_
        first | refine j_aload (pc := 241) hX dJ1_removeNode_241 rfl ?_ | refine j_aloadq (pc := 241) hX dJ1_removeNode_241 rfl ?_
        refine j_get (pc := 243) hX kg_J1_177 dJ1_removeNode_243 hoe.r (by rfl) ?_
        skip
        have fin : ∀ H3 : Heap, JPut H H3 t → jaw G H3 t 8 cap (fun j => va_rf (jup (fun i => nxN (B i) none) ix (nxN t0 none) j)) → JW X G H3 0 247 [(0, .inr (some q)), (10, .inr (some n0.1))] [] := by
          intro H3 w3 n3
          have keep : ∀ (L : List (ND (Int32))), chE kdI G H none L → chE kdI G H3 none L := fun L h5 => h5.fr (P := fun a => a = t) (w3.fr rfl) (fun n hn => hC.neA (h5.get hn).1.choose_spec.r ha (by decide)) (fun n hn => hC.neA (h5.get hn).2.2 ha (by decide))
          have tb3 : tbA kdI G H3 t cap (jup B ix ([] ++ t0)) := tb.sub (A := []) hlt hL (n3.congr (fun j hj => by unfold jup; by_cases z : j = ix; rw [if_pos z, if_pos z]; rfl; rw [if_neg z, if_neg z])) (keep _ hcR) (fun j hj _ => keep _ (hch j hj))
          refine j_goto (pc := 247) (tgt := 260) hX dJ1_removeNode_247 (by decide) ?_
          exact j_lv (by simp [jsb, jget, jval]) (tail H3 _ n0 (ho.put w3 (hC.neA ho.r ha (by decide))) tb3 (inN_rem (A := []) tb hlt hixe hL he) (inL n0 List.mem_cons_self) he ⟨_, hoe.put w3 (hC.neA hoe.r ha (by decide))⟩ (w3.fr (Or.inr (Or.inl rfl))))
        cases t0 with
        | nil =>
          refine j_aastN (pc := 246) hX ⟨by decide, by decide⟩ dJ1_removeNode_246 (t := 8) (n := cap) (f := fun i => nxN (B i) none) ha ht hin (fun H3 w3 n3 => ?_)
          rw [nI_clamp (by omega)] at n3
          exact j_lv (by simp [jsb, jget, jval]) (fin H3 w3 n3)
        | cons m u =>
          refine j_aast (pc := 246) hX ⟨by decide, by decide, _, _, rfl, rfl, Or.inl rfl⟩ dJ1_removeNode_246 (t := 8) (n := cap) (f := fun i => nxN (B i) none) ha hcR.1.r ht hin (fun H3 w3 n3 => ?_)
          rw [nI_clamp (by omega)] at n3
          exact j_lv (by simp [jsb, jget, jval]) (fin H3 w3 n3)
      have nx : n0.2.1 ≠ k → JW X G H 0 81 [(0, .inr (some q)), (1, .inl (.int (hK kdI k))), (2, .inr (some kq)), (4, .inl (.int 0)), (5, .inl (.int 1)), (6, .inr (some t)), (7, .inr (some n0.1)), (9, .inl (.int (nI ix))), (10, .inr none)] [] := by
        intro hne
        cases t0 with
        | nil =>
          first | refine j_aload (pc := 81) hX dJ1_removeNode_81 rfl ?_ | refine j_aloadq (pc := 81) hX dJ1_removeNode_81 rfl ?_
          refine j_get (pc := 83) hX kg_J1_177 dJ1_removeNode_83 hoe.r (by rfl) ?_
          refine j_dup (pc := 86) hX dJ1_removeNode_86 (by first | rfl | exact jrf_cat _) ?_
          first | refine j_astore (pc := 87) hX dJ1_removeNode_87 (by decide) rfl ?_ | refine j_astoreN (pc := 87) hX dJ1_removeNode_87 (by decide) rfl ?_ | refine j_astoreq (pc := 87) hX dJ1_removeNode_87 (by decide) rfl ?_
          refine j_ifnullN (pc := 89) (tgt := 171) hX dJ1_removeNode_89 (by decide) ?_
          first | refine j_aload (pc := 171) hX dJ1_removeNode_171 rfl ?_ | refine j_aloadq (pc := 171) hX dJ1_removeNode_171 rfl ?_
          refine j_ifnullN (pc := 173) (tgt := 289) hX dJ1_removeNode_173 (by decide) ?_
          exact j_lv (by simp [jsb]) (nope (miss (fun n hn => by rw [hL] at hn; rw [List.mem_singleton.mp hn]; exact hne)))
        | cons m u =>
          first | refine j_aload (pc := 81) hX dJ1_removeNode_81 rfl ?_ | refine j_aloadq (pc := 81) hX dJ1_removeNode_81 rfl ?_
          refine j_get (pc := 83) hX kg_J1_177 dJ1_removeNode_83 hoe.r (by rfl) ?_
          refine j_dup (pc := 86) hX dJ1_removeNode_86 (by first | rfl | exact jrf_cat _) ?_
          first | refine j_astore (pc := 87) hX dJ1_removeNode_87 (by decide) rfl ?_ | refine j_astoreN (pc := 87) hX dJ1_removeNode_87 (by decide) rfl ?_ | refine j_astoreq (pc := 87) hX dJ1_removeNode_87 (by decide) rfl ?_
          refine j_ifnull (pc := 89) hX dJ1_removeNode_89 ?_
          first | refine j_aload (pc := 92) hX dJ1_removeNode_92 rfl ?_ | refine j_aloadq (pc := 92) hX dJ1_removeNode_92 rfl ?_
          refine j_instNo (pc := 94) hX kd_J1_180 dJ1_removeNode_94 hoe.r ?_
          refine j_if_eq (pc := 97) (tgt := 115) hX dJ1_removeNode_97 (by decide) (fun c_97 => ?_) (fun c_97 => ?_)
          rotate_left
          · exact absurd rfl c_97
          exact j_lv (by simp [jsb, jget, jval, nxN]) (loop u m n0 [] rfl (fun n hn => by rw [List.mem_singleton.mp hn]; exact hne))
      refine j_dup (pc := 31) hX dJ1_removeNode_31 (by first | rfl | exact jrf_cat _) ?_
      first | refine j_astore (pc := 32) hX dJ1_removeNode_32 (by decide) rfl ?_ | refine j_astoreN (pc := 32) hX dJ1_removeNode_32 (by decide) rfl ?_ | refine j_astoreq (pc := 32) hX dJ1_removeNode_32 (by decide) rfl ?_
      refine j_ifnull (pc := 34) hX dJ1_removeNode_34 ?_
      refine j_null (pc := 37) hX dJ1_removeNode_37 ?_
      first | refine j_astore (pc := 38) hX dJ1_removeNode_38 (by decide) rfl ?_ | refine j_astoreN (pc := 38) hX dJ1_removeNode_38 (by decide) rfl ?_ | refine j_astoreq (pc := 38) hX dJ1_removeNode_38 (by decide) rfl ?_
      first | refine j_aload (pc := 40) hX dJ1_removeNode_40 rfl ?_ | refine j_aloadq (pc := 40) hX dJ1_removeNode_40 rfl ?_
      refine j_get (pc := 42) hX kg_J1_168 dJ1_removeNode_42 hoe.r (by rfl) ?_
      refine j_iload_n (pc := 45) hX dJ1_removeNode_45 rfl rfl ?_
      refine j_icmp_ne (pc := 46) (tgt := 81) hX dJ1_removeNode_46 (by decide) (fun c_46 => ?_) (fun c_46 => ?_)
      · have key := fun z => c_46 (congrArg (fun z => hK kdI z) z)
        exact j_lv (by simp [jsb, jget, jval]) (nx key)
      · first | refine j_aload (pc := 49) hX dJ1_removeNode_49 rfl ?_ | refine j_aloadq (pc := 49) hX dJ1_removeNode_49 rfl ?_
        refine j_get (pc := 51) hX kg_J1_170 dJ1_removeNode_51 hoe.r (by rfl) ?_
        refine j_dup (pc := 54) hX dJ1_removeNode_54 (by first | rfl | exact jrf_cat _) ?_
        first | refine j_astore (pc := 55) hX dJ1_removeNode_55 (by decide) rfl ?_ | refine j_astoreN (pc := 55) hX dJ1_removeNode_55 (by decide) rfl ?_ | refine j_astoreq (pc := 55) hX dJ1_removeNode_55 (by decide) rfl ?_
        first | refine j_aload_n (pc := 57) hX dJ1_removeNode_57 rfl rfl ?_ | refine j_aload_nq (pc := 57) hX dJ1_removeNode_57 rfl rfl ?_
        refine j_acmp_eq (pc := 58) (rx := (some _)) (ry := (some _)) (tgt := 74) hX dJ1_removeNode_58 (by decide) (fun c_58 => ?_) (fun c_58 => ?_)
        · have key := hd.2.2 _ _ _ _ _ (by rw [← Option.some.inj c_58] at hk; exact hk) hke
          first | refine j_aload (pc := 74) hX dJ1_removeNode_74 rfl ?_ | refine j_aloadq (pc := 74) hX dJ1_removeNode_74 rfl ?_
          first | refine j_astore (pc := 76) hX dJ1_removeNode_76 (by decide) rfl ?_ | refine j_astoreN (pc := 76) hX dJ1_removeNode_76 (by decide) rfl ?_ | refine j_astoreq (pc := 76) hX dJ1_removeNode_76 (by decide) rfl ?_
          refine j_goto (pc := 78) (tgt := 171) hX dJ1_removeNode_78 (by decide) ?_
          exact j_lv (by simp [jsb, jget, jval]) (first key.symm)
        · first | refine j_aload_n (pc := 61) hX dJ1_removeNode_61 rfl rfl ?_ | refine j_aload_nq (pc := 61) hX dJ1_removeNode_61 rfl rfl ?_
          refine j_ifnull (pc := 62) hX dJ1_removeNode_62 ?_
          first | refine j_aload_n (pc := 65) hX dJ1_removeNode_65 rfl rfl ?_ | refine j_aload_nq (pc := 65) hX dJ1_removeNode_65 rfl rfl ?_
          first | refine j_aload (pc := 66) hX dJ1_removeNode_66 rfl ?_ | refine j_aloadq (pc := 66) hX dJ1_removeNode_66 rfl ?_
          refine j_rune (pc := 68) (jr_U (pc := 68) hX ku_J1_173_16 hk (c_J19_equals _ _ _ kq n0.2.2.1 hk hke) (by decide) dJ1_removeNode_68 rfl rfl (Nat.le_of_ble_eq_true rfl)) ?_ jno_x
          refine j_if_eq (pc := 71) (tgt := 81) hX dJ1_removeNode_71 (by decide) (fun c_71 => ?_) (fun c_71 => ?_)
          · have key := fun z => of_decide_eq_false (jb_z.mp c_71) (Eq.symm z)
            exact j_lv (by simp [jsb, jget, jval]) (nx key)
          · have key := of_decide_eq_true (jb_n.mp c_71)
            first | refine j_aload (pc := 74) hX dJ1_removeNode_74 rfl ?_ | refine j_aloadq (pc := 74) hX dJ1_removeNode_74 rfl ?_
            first | refine j_astore (pc := 76) hX dJ1_removeNode_76 (by decide) rfl ?_ | refine j_astoreN (pc := 76) hX dJ1_removeNode_76 (by decide) rfl ?_ | refine j_astoreq (pc := 76) hX dJ1_removeNode_76 (by decide) rfl ?_
            refine j_goto (pc := 78) (tgt := 171) hX dJ1_removeNode_78 (by decide) ?_
            exact j_lv (by simp [jsb, jget, jval]) (first key.symm)
theorem c_J1_removeI (l : Launch) (G : JG) (H : Heap) (q kq : Nat) (k : Int32) {tab : Option Nat} {cap sz : Nat} {mc : Int32} {B : Nat → List (ND (Int32))} (h : hmA kdI G H q tab cap sz mc B) (hk : kA kdI G H kq k) (hs : ∀ n, inN B cap n → n.2.1 = k → 0 < sz) : JMet l yJ1_remove (ws_ yJ1_remove cJ1_remove 3 (some (.object "java/lang/Object"))) 5 0 G H [.ref q, .ref kq] (jpq (fun r H1 => ((r = none ∧ ∀ n, inN B cap n → n.2.1 ≠ k) ∨ ∃ n, inN B cap n ∧ n.2.1 = k ∧ r = some n.2.2.2) ∧ RemP kdI G H H1 q k tab cap sz mc B)) (jno) := by
  refine JMet.of [(0, .inr (some q)), (1, .inr (some kq))] (by decide) (Nat.le_of_ble_eq_true rfl) rfl (fun X hl hX hQ hEx hr hnm hH => ?_)
  subst hl
  have ho := h.2.2.1
  first | refine j_aload_n (pc := 0) hX dJ1_remove_0 rfl rfl ?_ | refine j_aload_nq (pc := 0) hX dJ1_remove_0 rfl rfl ?_
  first | refine j_aload_n (pc := 1) hX dJ1_remove_1 rfl rfl ?_ | refine j_aload_nq (pc := 1) hX dJ1_remove_1 rfl rfl ?_
  refine j_rune (pc := 2) (jr_S (pc := 2) hX ks_J1_149 (c_J1_hkI _ _ _ kq hk) (by decide) dJ1_remove_2 rfl rfl (Nat.le_of_ble_eq_true rfl)) ?_ jno_x
  first | refine j_aload_n (pc := 5) hX dJ1_remove_5 rfl rfl ?_ | refine j_aload_nq (pc := 5) hX dJ1_remove_5 rfl rfl ?_
  refine j_null (pc := 6) hX dJ1_remove_6 ?_
  refine j_iconst (pc := 7) (v := 0) hX dJ1_remove_7 (by decide) ?_
  refine j_iconst (pc := 8) (v := 1) hX dJ1_remove_8 (by decide) ?_
  refine j_runq (pc := 9) (jr_V (pc := 9) hX kv_J1_228 (by first | assumption | exact jow.r (by assumption)) (c_J1_removeNodeI _ _ _ q kq k h hk hs) (by decide) dJ1_remove_9 rfl rfl (Nat.le_of_ble_eq_true rfl)) (fun r_9 H_9 p_9 z_9 => ?_) jno_x
  skip
  obtain ⟨hR, hP⟩ := p_9
  rcases hR with ⟨rfl, hno⟩ | ⟨n, hn, hnk, rfl, nx, hon⟩
  · skip
    refine j_dup (pc := 12) hX dJ1_remove_12 (by first | rfl | exact jrf_cat _) ?_
    first | refine j_astore_n (pc := 13) hX dJ1_remove_13 rfl (by decide) rfl ?_ | refine j_astore_nN (pc := 13) hX dJ1_remove_13 rfl (by decide) rfl ?_ | refine j_astore_nq (pc := 13) hX dJ1_remove_13 rfl (by decide) rfl ?_
    refine j_ifnonnullN (pc := 14) hX dJ1_remove_14 ?_
    refine j_null (pc := 17) hX dJ1_remove_17 ?_
    refine j_goto (pc := 18) (tgt := 25) hX dJ1_remove_18 (by decide) ?_
    first | exact j_aret hX hQ hr (by first | exact Or.inl ⟨_, rfl⟩ | exact Or.inr ⟨_, rfl⟩) dJ1_remove_25 ⟨none, rfl, Or.inl ⟨rfl, hno⟩, hP⟩ | exact j_aretN hX hQ hr (by first | exact Or.inl ⟨_, rfl⟩ | exact Or.inr ⟨_, rfl⟩) dJ1_remove_25 ⟨none, rfl, Or.inl ⟨rfl, hno⟩, hP⟩ | exact j_aretq hX hQ hr (by first | exact Or.inl ⟨_, rfl⟩ | exact Or.inr ⟨_, rfl⟩) dJ1_remove_25 ⟨none, rfl, Or.inl ⟨rfl, hno⟩, hP⟩
  · skip
    refine j_dup (pc := 12) hX dJ1_remove_12 (by first | rfl | exact jrf_cat _) ?_
    first | refine j_astore_n (pc := 13) hX dJ1_remove_13 rfl (by decide) rfl ?_ | refine j_astore_nN (pc := 13) hX dJ1_remove_13 rfl (by decide) rfl ?_ | refine j_astore_nq (pc := 13) hX dJ1_remove_13 rfl (by decide) rfl ?_
    refine j_ifnonnull (pc := 14) (tgt := 21) hX dJ1_remove_14 (by decide) ?_
    first | refine j_aload_n (pc := 21) hX dJ1_remove_21 rfl rfl ?_ | refine j_aload_nq (pc := 21) hX dJ1_remove_21 rfl rfl ?_
    refine j_get (pc := 22) hX kg_J1_162 dJ1_remove_22 hon.r (by rfl) ?_
    first | exact j_aret hX hQ hr (by first | exact Or.inl ⟨_, rfl⟩ | exact Or.inr ⟨_, rfl⟩) dJ1_remove_25 ⟨some n.2.2.2, rfl, Or.inr ⟨n, hn, hnk, rfl⟩, hP⟩ | exact j_aretN hX hQ hr (by first | exact Or.inl ⟨_, rfl⟩ | exact Or.inr ⟨_, rfl⟩) dJ1_remove_25 ⟨some n.2.2.2, rfl, Or.inr ⟨n, hn, hnk, rfl⟩, hP⟩ | exact j_aretq hX hQ hr (by first | exact Or.inl ⟨_, rfl⟩ | exact Or.inr ⟨_, rfl⟩) dJ1_remove_25 ⟨some n.2.2.2, rfl, Or.inr ⟨n, hn, hnk, rfl⟩, hP⟩
theorem c_J1_removeNodeR (l : Launch) (G : JG) (H : Heap) (q kq : Nat) (k : Int32 × Int32) {tab : Option Nat} {cap sz : Nat} {mc : Int32} {B : Nat → List (ND (Int32 × Int32))} (h : hmA kdR G H q tab cap sz mc B) (hk : kA kdR G H kq k) (hs : ∀ n, inN B cap n → n.2.1 = k → 0 < sz) : JMet l yJ1_removeNode (ws_ yJ1_removeNode cJ1_removeNode 14 (some (.object "java/util/HashMap$Node"))) 4 0 G H [.ref q, .int (hK kdR k), .ref kq, .null, .int 0, .int 1] (jpq (fun r H1 => RemR kdR G H1 k cap B r ∧ RemP kdR G H H1 q k tab cap sz mc B)) (jno) := by
  refine JMet.of [(0, .inr (some q)), (1, .inl (.int (hK kdR k))), (2, .inr (some kq)), (3, .inr none), (4, .inl (.int 0)), (5, .inl (.int 1))] (by decide) (Nat.le_of_ble_eq_true rfl) rfl (fun X hl hX hQ hEx hr hnm hH => ?_)
  subst hl
  obtain ⟨hq, hsz, ho, hnone, htab⟩ := id h
  have hC := hX.C
  have hd := kdR_ok
  have nope : (∀ n, inN B cap n → n.2.1 ≠ k) → JW X G H 0 289 [] [] := by
    intro hno
    refine j_null (pc := 289) hX dJ1_removeNode_289 ?_
    first | exact j_aret hX hQ hr (by first | exact Or.inl ⟨_, rfl⟩ | exact Or.inr ⟨_, rfl⟩) dJ1_removeNode_290 ⟨none, rfl, Or.inl ⟨rfl, hno⟩, sz, mc, B, h, fun n => ⟨fun hn => ⟨hn, hno n hn⟩, fun hn => hn.1⟩, Or.inr ⟨hno, rfl⟩, JFr.rfl'⟩ | exact j_aretN hX hQ hr (by first | exact Or.inl ⟨_, rfl⟩ | exact Or.inr ⟨_, rfl⟩) dJ1_removeNode_290 ⟨none, rfl, Or.inl ⟨rfl, hno⟩, sz, mc, B, h, fun n => ⟨fun hn => ⟨hn, hno n hn⟩, fun hn => hn.1⟩, Or.inr ⟨hno, rfl⟩, JFr.rfl'⟩ | exact j_aretq hX hQ hr (by first | exact Or.inl ⟨_, rfl⟩ | exact Or.inr ⟨_, rfl⟩) dJ1_removeNode_290 ⟨none, rfl, Or.inl ⟨rfl, hno⟩, sz, mc, B, h, fun n => ⟨fun hn => ⟨hn, hno n hn⟩, fun hn => hn.1⟩, Or.inr ⟨hno, rfl⟩, JFr.rfl'⟩
  cases tab with
  | none =>
    obtain ⟨rfl, rfl⟩ := hnone rfl
    first | refine j_aload_n (pc := 0) hX dJ1_removeNode_0 rfl rfl ?_ | refine j_aload_nq (pc := 0) hX dJ1_removeNode_0 rfl rfl ?_
    refine j_get (pc := 1) hX kg_J1_105 dJ1_removeNode_1 (by first | assumption | exact jow.r (by assumption)) (by rfl) ?_
    refine j_dup (pc := 4) hX dJ1_removeNode_4 (by first | rfl | exact jrf_cat _) ?_
    first | refine j_astore (pc := 5) hX dJ1_removeNode_5 (by decide) rfl ?_ | refine j_astoreN (pc := 5) hX dJ1_removeNode_5 (by decide) rfl ?_ | refine j_astoreq (pc := 5) hX dJ1_removeNode_5 (by decide) rfl ?_
    refine j_ifnullN (pc := 7) (tgt := 289) hX dJ1_removeNode_7 (by decide) ?_
    exact j_lv (by simp [jsb]) (nope (fun n ⟨j, z, _⟩ => absurd z (Nat.not_lt_zero j)))
  | some t =>
    have tb := htab t rfl
    obtain ⟨hcap, ht, ha, hch, hix, hnd⟩ := id tb
    have hlt := ix_lt hcap (hK kdR k)
    have hin : vp_in (nI (ixN cap (hK kdR k))) cap := vp_in_nI hlt (by omega)
    have hc := hch _ hlt
    obtain ⟨ix, hixe⟩ : ∃ ix, ix = ixN cap (hK kdR k) := ⟨_, rfl⟩
    have miss : (∀ n ∈ B ix, n.2.1 ≠ k) → ∀ n, inN B cap n → n.2.1 ≠ k := fun hno n ⟨j, hj, hn⟩ e => by
      have := hix j hj n hn
      rw [e, ← hixe] at this
      subst this
      exact hno n hn e
    -- behind the unlinking
    have tail : ∀ (Hc : Heap) (Bc : Nat → List (ND (Int32 × Int32))) (x : ND (Int32 × Int32)), jow G Hc q 9 (hmF sz mc cap (some t)) → tbA kdR G Hc t cap Bc → (∀ n, inN Bc cap n ↔ inN B cap n ∧ n.2.1 ≠ k) → inN B cap x → x.2.1 = k → (∃ nx, jow G Hc x.1 10 (ndF (hK kdR x.2.1) x.2.2.1 x.2.2.2 nx)) → JFr (fpN q (some t) B cap) H Hc → JW X G Hc 0 260 [(0, .inr (some q)), (10, .inr (some x.1))] [] := by
      intro Hc Bc x hoc tbc hin hx hxk hxo hF
      obtain ⟨nx, hxo⟩ := hxo
      have h0 := hs x hx hxk
      have hqx : q ≠ x.1 := hC.ne hoc.r hxo.r (by decide)
      obtain ⟨sz1, rfl⟩ : ∃ m, sz = m + 1 := ⟨sz - 1, by omega⟩
      first | refine j_aload_n (pc := 260) hX dJ1_removeNode_260 rfl rfl ?_ | refine j_aload_nq (pc := 260) hX dJ1_removeNode_260 rfl rfl ?_
      refine j_dup (pc := 261) hX dJ1_removeNode_261 (by first | rfl | exact jrf_cat _) ?_
      refine j_get (pc := 262) hX kg_J1_202 dJ1_removeNode_262 (by first | assumption | exact jow.r (by assumption)) (by rfl) ?_
      refine j_iconst (pc := 265) (v := 1) hX dJ1_removeNode_265 (by decide) ?_
      refine j_iadd (pc := 266) hX dJ1_removeNode_266 ?_
      refine j_put (pc := 267) hX kp_J1_202 dJ1_removeNode_267 (by assumption) hq rfl rfl rfl (fun H_267 w_267 n_267 => ?_)
      first | refine j_aload_n (pc := 270) hX dJ1_removeNode_270 rfl rfl ?_ | refine j_aload_nq (pc := 270) hX dJ1_removeNode_270 rfl rfl ?_
      refine j_dup (pc := 271) hX dJ1_removeNode_271 (by first | rfl | exact jrf_cat _) ?_
      refine j_get (pc := 272) hX kg_J1_156 dJ1_removeNode_272 (by first | assumption | exact jow.r (by assumption)) (by rfl) ?_
      refine j_iconst (pc := 275) (v := 1) hX dJ1_removeNode_275 (by decide) ?_
      refine j_isub (pc := 276) hX dJ1_removeNode_276 ?_
      rw [nI_pred]
      refine j_put (pc := 277) hX kp_J1_156 dJ1_removeNode_277 (by assumption) hq rfl rfl rfl (fun H_277 w_277 n_277 => ?_)
      first | refine j_aload_n (pc := 280) hX dJ1_removeNode_280 rfl rfl ?_ | refine j_aload_nq (pc := 280) hX dJ1_removeNode_280 rfl rfl ?_
      first | refine j_aload (pc := 281) hX dJ1_removeNode_281 rfl ?_ | refine j_aloadq (pc := 281) hX dJ1_removeNode_281 rfl ?_
      refine j_runve (pc := 283) (jr_V (pc := 283) hX kv_J1_236 n_277.r (c_J1_afterNodeRemoval _ _ _ q x.1) (by decide) dJ1_removeNode_283 rfl rfl (Nat.le_of_ble_eq_true rfl)) ?_ jno_x
      first | refine j_aload (pc := 286) hX dJ1_removeNode_286 rfl ?_ | refine j_aloadq (pc := 286) hX dJ1_removeNode_286 rfl ?_
      first | exact j_aret hX hQ hr (by first | exact Or.inl ⟨_, rfl⟩ | exact Or.inr ⟨_, rfl⟩) dJ1_removeNode_288 ⟨some x.1, rfl, Or.inr ⟨x, hx, hxk, rfl, nx, by rw [← hxk]; exact (hxo.put w_267 (Ne.symm hqx)).put w_277 (Ne.symm hqx)⟩, sz1, mc + 1, Bc, ⟨hq, by omega, n_277, (fun e => by cases e), fun t' e => by cases e; exact (tbc.own hC hd hoc w_267).own hC hd n_267 w_277⟩, hin, Or.inl ⟨⟨x, hx, hxk⟩, rfl⟩, (hF.put w_267 (fun _ => Or.inl rfl)).put w_277 (fun _ => Or.inl rfl)⟩ | exact j_aretN hX hQ hr (by first | exact Or.inl ⟨_, rfl⟩ | exact Or.inr ⟨_, rfl⟩) dJ1_removeNode_288 ⟨some x.1, rfl, Or.inr ⟨x, hx, hxk, rfl, nx, by rw [← hxk]; exact (hxo.put w_267 (Ne.symm hqx)).put w_277 (Ne.symm hqx)⟩, sz1, mc + 1, Bc, ⟨hq, by omega, n_277, (fun e => by cases e), fun t' e => by cases e; exact (tbc.own hC hd hoc w_267).own hC hd n_267 w_277⟩, hin, Or.inl ⟨⟨x, hx, hxk⟩, rfl⟩, (hF.put w_267 (fun _ => Or.inl rfl)).put w_277 (fun _ => Or.inl rfl)⟩ | exact j_aretq hX hQ hr (by first | exact Or.inl ⟨_, rfl⟩ | exact Or.inr ⟨_, rfl⟩) dJ1_removeNode_288 ⟨some x.1, rfl, Or.inr ⟨x, hx, hxk, rfl, nx, by rw [← hxk]; exact (hxo.put w_267 (Ne.symm hqx)).put w_277 (Ne.symm hqx)⟩, sz1, mc + 1, Bc, ⟨hq, by omega, n_277, (fun e => by cases e), fun t' e => by cases e; exact (tbc.own hC hd hoc w_267).own hC hd n_267 w_277⟩, hin, Or.inl ⟨⟨x, hx, hxk⟩, rfl⟩, (hF.put w_267 (fun _ => Or.inl rfl)).put w_277 (fun _ => Or.inl rfl)⟩
    first | refine j_aload_n (pc := 0) hX dJ1_removeNode_0 rfl rfl ?_ | refine j_aload_nq (pc := 0) hX dJ1_removeNode_0 rfl rfl ?_
    refine j_get (pc := 1) hX kg_J1_105 dJ1_removeNode_1 (by first | assumption | exact jow.r (by assumption)) (by rfl) ?_
    refine j_dup (pc := 4) hX dJ1_removeNode_4 (by first | rfl | exact jrf_cat _) ?_
    first | refine j_astore (pc := 5) hX dJ1_removeNode_5 (by decide) rfl ?_ | refine j_astoreN (pc := 5) hX dJ1_removeNode_5 (by decide) rfl ?_ | refine j_astoreq (pc := 5) hX dJ1_removeNode_5 (by decide) rfl ?_
    refine j_ifnull (pc := 7) hX dJ1_removeNode_7 ?_
    first | refine j_aload (pc := 10) hX dJ1_removeNode_10 rfl ?_ | refine j_aloadq (pc := 10) hX dJ1_removeNode_10 rfl ?_
    refine j_alen (pc := 12) hX dJ1_removeNode_12 (jaw.r (t := 8) hX (by decide) ha) ?_
    refine j_dup (pc := 13) hX dJ1_removeNode_13 (by first | rfl | exact jrf_cat _) ?_
    refine j_istore (pc := 14) hX dJ1_removeNode_14 (by decide) rfl ?_
    refine j_if_le (pc := 16) (tgt := 289) hX dJ1_removeNode_16 (by decide) (fun c_16 => ?_) (fun c_16 => ?_)
    · exact absurd c_16 (nI_nle (show 0 < cap by omega) (by omega))
    first | refine j_aload (pc := 19) hX dJ1_removeNode_19 rfl ?_ | refine j_aloadq (pc := 19) hX dJ1_removeNode_19 rfl ?_
    refine j_iload (pc := 21) hX dJ1_removeNode_21 rfl ?_
    refine j_iconst (pc := 23) (v := 1) hX dJ1_removeNode_23 (by decide) ?_
    refine j_isub (pc := 24) hX dJ1_removeNode_24 ?_
    refine j_iload_n (pc := 25) hX dJ1_removeNode_25 rfl rfl ?_
    refine j_iand (pc := 26) hX dJ1_removeNode_26 ?_
    refine j_dup (pc := 27) hX dJ1_removeNode_27 (by first | rfl | exact jrf_cat _) ?_
    refine j_istore (pc := 28) hX dJ1_removeNode_28 (by decide) rfl ?_
    skip
    rw [show (Int32.ofNat cap - 1) &&& hK kdR k = nI (ixN cap (hK kdR k)) from ix_and hcap _]
    refine j_aald (pc := 30) hX (t := 8) (by decide) dJ1_removeNode_30 (jaw.r (t := 8) hX (by decide) ha) hin ?_
    rw [nI_clamp (by omega)]
    rw [← hixe] at hc hlt hin ⊢
    cases hL : B ix with
    | nil =>
      change JW X G H 0 31 _ [.null]
      refine j_dup (pc := 31) hX dJ1_removeNode_31 (by first | rfl | exact jrf_cat _) ?_
      first | refine j_astore (pc := 32) hX dJ1_removeNode_32 (by decide) rfl ?_ | refine j_astoreN (pc := 32) hX dJ1_removeNode_32 (by decide) rfl ?_ | refine j_astoreq (pc := 32) hX dJ1_removeNode_32 (by decide) rfl ?_
      refine j_ifnullN (pc := 34) (tgt := 289) hX dJ1_removeNode_34 (by decide) ?_
      exact j_lv (by simp [jsb]) (nope (miss (fun n hn => by rw [hL] at hn; cases hn)))
    | cons n0 t0 =>
      change JW X G H 0 31 _ [.ref n0.1]
      rw [hL] at hc
      have hndk := hnd ix hlt
      have inL : ∀ n ∈ n0 :: t0, inN B cap n := fun n hn => ⟨ix, hlt, by rw [hL]; exact hn⟩
      -- a node behind p found
      have found : ∀ (R : List (ND (Int32 × Int32))) (e p : ND (Int32 × Int32)) (A : List (ND (Int32 × Int32))), A ++ p :: e :: R = n0 :: t0 → e.2.1 = k → JW X G H 0 171 [(0, .inr (some q)), (4, .inl (.int 0)), (5, .inl (.int 1)), (6, .inr (some t)), (7, .inr (some p.1)), (9, .inl (.int (nI ix))), (10, .inr (some e.1))] [] := by
        intro R e p A hA he
        have hcA : chE kdR G H none (A ++ p :: e :: R) := by rw [hA]; exact hc
        obtain ⟨hcA1, hop, hgp, hkp, hoe, hge, hke, hcR⟩ := chE_app.mp hcA
        have hLA : B ix = (A ++ [p]) ++ e :: R := by rw [hL, ← hA]; simp
        have hndL : ((A ++ [p]) ++ e :: R).Nodup := by rw [← hLA]; exact tb.nodup hlt
        have pe : p.1 ≠ e.1 := fun z => by
          have := tb.eq hd (inL p (by rw [← hA]; simp)) (inL e (by rw [← hA]; simp)) z
          subst this
          rw [List.nodup_append] at hndL
          exact hndL.2.2 p (by simp) p List.mem_cons_self rfl
        have hcs : chE kdR G H (some e.1) (A ++ [p]) := (chE_app (C := e :: R)).mp (by rw [← hLA, hL]; exact hc) |>.1
        have inj := fun n (hn : inN B cap n) (z : n.1 = p.1) => tb.eq hd hn (inL p (by rw [← hA]; simp)) z
        have kne : ∀ n, inN B cap n → n.2.2.1 ≠ p.1 := fun n hn z => hC.ne (tb.nd hn).2.2 hop.r hd.2.1 z
        first | refine j_aload (pc := 171) hX dJ1_removeNode_171 rfl ?_ | refine j_aloadq (pc := 171) hX dJ1_removeNode_171 rfl ?_
        refine j_ifnull (pc := 173) hX dJ1_removeNode_173 ?_
        refine j_iload (pc := 176) hX dJ1_removeNode_176 rfl ?_
        refine j_if_eq (pc := 178) (tgt := 206) hX dJ1_removeNode_178 (by decide) (fun c_178 => ?_) (fun c_178 => ?_)
        rotate_left
        · exact absurd rfl c_178
        first | refine j_aload (pc := 206) hX dJ1_removeNode_206 rfl ?_ | refine j_aloadq (pc := 206) hX dJ1_removeNode_206 rfl ?_
        refine j_instNo (pc := 208) hX kd_J1_180 dJ1_removeNode_208 hoe.r ?_
        refine j_if_eq (pc := 211) (tgt := 230) hX dJ1_removeNode_211 (by decide) (fun c_211 => ?_) (fun c_211 => ?_)
        rotate_left
        · exact absurd rfl c_211
        first | refine j_aload (pc := 230) hX dJ1_removeNode_230 rfl ?_ | refine j_aloadq (pc := 230) hX dJ1_removeNode_230 rfl ?_
        first | refine j_aload (pc := 232) hX dJ1_removeNode_232 rfl ?_ | refine j_aloadq (pc := 232) hX dJ1_removeNode_232 rfl ?_
        refine j_acmp_ne (pc := 234) (rx := (some e.1)) (ry := (some p.1)) (tgt := 250) hX dJ1_removeNode_234 (by decide) (fun c_234 => ?_) (fun c_234 => ?_)
        rotate_left
        · exact absurd (Option.some.inj c_234).symm pe
        skip
        first | refine j_aload (pc := 250) hX dJ1_removeNode_250 rfl ?_ | refine j_aloadq (pc := 250) hX dJ1_removeNode_250 rfl ?_
        first | refine j_aload (pc := 252) hX dJ1_removeNode_252 rfl ?_ | refine j_aloadq (pc := 252) hX dJ1_removeNode_252 rfl ?_
        refine j_get (pc := 254) hX kg_J1_177 dJ1_removeNode_254 hoe.r (by rfl) ?_
        refine j_put (pc := 257) hX kp_J1_177 dJ1_removeNode_257 hop hgp (by cases R <;> rfl) (by cases R <;> rfl) rfl (fun H_257 w_257 n_257 => ?_)
        skip
        have hb3 : chE kdR G H_257 none ((A ++ [p]) ++ R) := by
          have hR1 : chE kdR G H_257 none R := hcR.keep (fun n hn => ⟨w_257.2 _ (fun z => by
            have := inj n (inL n (by rw [← hA]; simp [hn])) z
            subst this
            rw [List.nodup_append] at hndL
            exact hndL.2.2 n (by simp) n (List.mem_cons_of_mem _ hn) rfl), w_257.2 _ (kne n (inL n (by rw [← hA]; simp [hn])))⟩)
          refine chE_app.mpr ⟨hcs.close w_257 n_257 (fun n hn z => ?_) (fun n hn => kne n (inL n (by rw [← hL, hLA]; exact List.mem_append_left _ hn))), hR1⟩
          have := inj n (inL n (by rw [← hA]; simp [hn])) z
          subst this
          rw [List.append_assoc, List.nodup_append] at hndL
          exact hndL.2.2 n hn n (by simp) rfl
        have tb3 : tbA kdR G H_257 t cap (jup B ix ((A ++ [p]) ++ R)) := tb.sub hlt hLA ((ha.put w_257 (fun z => hC.neA hop.r ha (by decide) z.symm)).congr (fun j hj => by unfold jup; by_cases z : j = ix; rw [if_pos z, z, hLA]; cases A <;> rfl; rw [if_neg z])) hb3 (fun j hj z => (hch j hj).keep (fun n hn => ⟨w_257.2 _ (fun y => z (tb.bin hj hlt hn (by rw [hL, ← hA, inj n ⟨j, hj, hn⟩ y]; simp))), w_257.2 _ (kne n ⟨j, hj, hn⟩)⟩))
        exact j_lv (by simp [jsb, jget, jval]) (tail H_257 _ e (ho.put w_257 (hC.ne ho.r hop.r (by decide))) tb3 (inN_rem tb hlt hixe hLA he) (inL e (by rw [← hA]; simp)) he ⟨_, hoe.put w_257 (Ne.symm pe)⟩ (w_257.fr (Or.inr (Or.inr ⟨p, inL p (by rw [← hA]; simp), rfl⟩))))
      -- the search behind the first
      have loop : ∀ (R : List (ND (Int32 × Int32))) (e p : ND (Int32 × Int32)) (A : List (ND (Int32 × Int32))), A ++ p :: e :: R = n0 :: t0 → (∀ n ∈ A ++ [p], n.2.1 ≠ k) → JW X G H 0 115 [(0, .inr (some q)), (1, .inl (.int (hK kdR k))), (2, .inr (some kq)), (4, .inl (.int 0)), (5, .inl (.int 1)), (6, .inr (some t)), (7, .inr (some p.1)), (9, .inl (.int (nI ix))), (10, .inr none), (11, .inr (some e.1))] [] := by
        intro R
        induction R with
        | nil =>
          intro e p A hA hpre
          have hcA : chE kdR G H none (A ++ p :: e :: []) := by rw [hA]; exact hc
          obtain ⟨hcA1, hop, hgp, hkp, hoe, hge, hke, hcR⟩ := chE_app.mp hcA
          have nx : e.2.1 ≠ k → JW X G H 0 156 [(0, .inr (some q)), (1, .inl (.int (hK kdR k))), (2, .inr (some kq)), (4, .inl (.int 0)), (5, .inl (.int 1)), (6, .inr (some t)), (9, .inl (.int (nI ix))), (10, .inr none), (11, .inr (some e.1))] [] := by
            intro hne
            first | refine j_aload (pc := 156) hX dJ1_removeNode_156 rfl ?_ | refine j_aloadq (pc := 156) hX dJ1_removeNode_156 rfl ?_
            first | refine j_astore (pc := 158) hX dJ1_removeNode_158 (by decide) rfl ?_ | refine j_astoreN (pc := 158) hX dJ1_removeNode_158 (by decide) rfl ?_ | refine j_astoreq (pc := 158) hX dJ1_removeNode_158 (by decide) rfl ?_
            first | refine j_aload (pc := 160) hX dJ1_removeNode_160 rfl ?_ | refine j_aloadq (pc := 160) hX dJ1_removeNode_160 rfl ?_
            refine j_get (pc := 162) hX kg_J1_177 dJ1_removeNode_162 hoe.r (by rfl) ?_
            refine j_dup (pc := 165) hX dJ1_removeNode_165 (by first | rfl | exact jrf_cat _) ?_
            first | refine j_astore (pc := 166) hX dJ1_removeNode_166 (by decide) rfl ?_ | refine j_astoreN (pc := 166) hX dJ1_removeNode_166 (by decide) rfl ?_ | refine j_astoreq (pc := 166) hX dJ1_removeNode_166 (by decide) rfl ?_
            refine j_ifnonnullN (pc := 168) hX dJ1_removeNode_168 ?_
            first | refine j_aload (pc := 171) hX dJ1_removeNode_171 rfl ?_ | refine j_aloadq (pc := 171) hX dJ1_removeNode_171 rfl ?_
            refine j_ifnullN (pc := 173) (tgt := 289) hX dJ1_removeNode_173 (by decide) ?_
            exact j_lv (by simp [jsb]) (nope (miss (fun n hn => by rw [hL, ← hA] at hn; rcases List.mem_append.mp hn with hn | hn; exact hpre n (List.mem_append_left _ hn); rcases List.mem_cons.mp hn with rfl | hn; exact hpre n (by simp); rw [List.mem_singleton.mp hn]; exact hne)))
          first | refine j_aload (pc := 115) hX dJ1_removeNode_115 rfl ?_ | refine j_aloadq (pc := 115) hX dJ1_removeNode_115 rfl ?_
          refine j_get (pc := 117) hX kg_J1_168 dJ1_removeNode_117 hoe.r (by rfl) ?_
          refine j_iload_n (pc := 120) hX dJ1_removeNode_120 rfl rfl ?_
          refine j_icmp_ne (pc := 121) (tgt := 156) hX dJ1_removeNode_121 (by decide) (fun c_121 => ?_) (fun c_121 => ?_)
          · have key := fun z => c_121 (congrArg (fun z => hK kdR z) z)
            exact j_lv (by simp [jsb, jget, jval]) (nx key)
          · first | refine j_aload (pc := 124) hX dJ1_removeNode_124 rfl ?_ | refine j_aloadq (pc := 124) hX dJ1_removeNode_124 rfl ?_
            refine j_get (pc := 126) hX kg_J1_170 dJ1_removeNode_126 hoe.r (by rfl) ?_
            refine j_dup (pc := 129) hX dJ1_removeNode_129 (by first | rfl | exact jrf_cat _) ?_
            first | refine j_astore (pc := 130) hX dJ1_removeNode_130 (by decide) rfl ?_ | refine j_astoreN (pc := 130) hX dJ1_removeNode_130 (by decide) rfl ?_ | refine j_astoreq (pc := 130) hX dJ1_removeNode_130 (by decide) rfl ?_
            first | refine j_aload_n (pc := 132) hX dJ1_removeNode_132 rfl rfl ?_ | refine j_aload_nq (pc := 132) hX dJ1_removeNode_132 rfl rfl ?_
            refine j_acmp_eq (pc := 133) (rx := (some _)) (ry := (some _)) (tgt := 149) hX dJ1_removeNode_133 (by decide) (fun c_133 => ?_) (fun c_133 => ?_)
            · have key := hd.2.2 _ _ _ _ _ (by rw [← Option.some.inj c_133] at hk; exact hk) hke
              first | refine j_aload (pc := 149) hX dJ1_removeNode_149 rfl ?_ | refine j_aloadq (pc := 149) hX dJ1_removeNode_149 rfl ?_
              first | refine j_astore (pc := 151) hX dJ1_removeNode_151 (by decide) rfl ?_ | refine j_astoreN (pc := 151) hX dJ1_removeNode_151 (by decide) rfl ?_ | refine j_astoreq (pc := 151) hX dJ1_removeNode_151 (by decide) rfl ?_
              refine j_goto (pc := 153) (tgt := 171) hX dJ1_removeNode_153 (by decide) ?_
              exact j_lv (by simp [jsb, jget, jval]) (found _ e p A hA key.symm)
            · first | refine j_aload_n (pc := 136) hX dJ1_removeNode_136 rfl rfl ?_ | refine j_aload_nq (pc := 136) hX dJ1_removeNode_136 rfl rfl ?_
              refine j_ifnull (pc := 137) hX dJ1_removeNode_137 ?_
              first | refine j_aload_n (pc := 140) hX dJ1_removeNode_140 rfl rfl ?_ | refine j_aload_nq (pc := 140) hX dJ1_removeNode_140 rfl rfl ?_
              first | refine j_aload (pc := 141) hX dJ1_removeNode_141 rfl ?_ | refine j_aloadq (pc := 141) hX dJ1_removeNode_141 rfl ?_
              refine j_rune (pc := 143) (jr_U (pc := 143) hX ku_J1_173_4 hk (c_J6e _ _ _ kq e.2.2.1 hk hke) (by decide) dJ1_removeNode_143 rfl rfl (Nat.le_of_ble_eq_true rfl)) ?_ jno_x
              refine j_if_eq (pc := 146) (tgt := 156) hX dJ1_removeNode_146 (by decide) (fun c_146 => ?_) (fun c_146 => ?_)
              · have key := fun z => of_decide_eq_false (jb_z.mp c_146) (Eq.symm z)
                exact j_lv (by simp [jsb, jget, jval]) (nx key)
              · have key := of_decide_eq_true (jb_n.mp c_146)
                first | refine j_aload (pc := 149) hX dJ1_removeNode_149 rfl ?_ | refine j_aloadq (pc := 149) hX dJ1_removeNode_149 rfl ?_
                first | refine j_astore (pc := 151) hX dJ1_removeNode_151 (by decide) rfl ?_ | refine j_astoreN (pc := 151) hX dJ1_removeNode_151 (by decide) rfl ?_ | refine j_astoreq (pc := 151) hX dJ1_removeNode_151 (by decide) rfl ?_
                refine j_goto (pc := 153) (tgt := 171) hX dJ1_removeNode_153 (by decide) ?_
                exact j_lv (by simp [jsb, jget, jval]) (found _ e p A hA key.symm)
        | cons m u ih =>
          intro e p A hA hpre
          have hcA : chE kdR G H none (A ++ p :: e :: (m :: u)) := by rw [hA]; exact hc
          obtain ⟨hcA1, hop, hgp, hkp, hoe, hge, hke, hcR⟩ := chE_app.mp hcA
          have nx : e.2.1 ≠ k → JW X G H 0 156 [(0, .inr (some q)), (1, .inl (.int (hK kdR k))), (2, .inr (some kq)), (4, .inl (.int 0)), (5, .inl (.int 1)), (6, .inr (some t)), (9, .inl (.int (nI ix))), (10, .inr none), (11, .inr (some e.1))] [] := by
            intro hne
            first | refine j_aload (pc := 156) hX dJ1_removeNode_156 rfl ?_ | refine j_aloadq (pc := 156) hX dJ1_removeNode_156 rfl ?_
            first | refine j_astore (pc := 158) hX dJ1_removeNode_158 (by decide) rfl ?_ | refine j_astoreN (pc := 158) hX dJ1_removeNode_158 (by decide) rfl ?_ | refine j_astoreq (pc := 158) hX dJ1_removeNode_158 (by decide) rfl ?_
            first | refine j_aload (pc := 160) hX dJ1_removeNode_160 rfl ?_ | refine j_aloadq (pc := 160) hX dJ1_removeNode_160 rfl ?_
            refine j_get (pc := 162) hX kg_J1_177 dJ1_removeNode_162 hoe.r (by rfl) ?_
            refine j_dup (pc := 165) hX dJ1_removeNode_165 (by first | rfl | exact jrf_cat _) ?_
            first | refine j_astore (pc := 166) hX dJ1_removeNode_166 (by decide) rfl ?_ | refine j_astoreN (pc := 166) hX dJ1_removeNode_166 (by decide) rfl ?_ | refine j_astoreq (pc := 166) hX dJ1_removeNode_166 (by decide) rfl ?_
            refine j_ifnonnull (pc := 168) (tgt := 115) hX dJ1_removeNode_168 (by decide) ?_
            exact j_lv (by simp [jsb, jget, jval, nxN]) (ih m e (A ++ [p]) (by rw [← hA]; simp) (fun n hn => by rcases List.mem_append.mp hn with hn | hn; exact hpre n hn; rw [List.mem_singleton.mp hn]; exact hne))
          first | refine j_aload (pc := 115) hX dJ1_removeNode_115 rfl ?_ | refine j_aloadq (pc := 115) hX dJ1_removeNode_115 rfl ?_
          refine j_get (pc := 117) hX kg_J1_168 dJ1_removeNode_117 hoe.r (by rfl) ?_
          refine j_iload_n (pc := 120) hX dJ1_removeNode_120 rfl rfl ?_
          refine j_icmp_ne (pc := 121) (tgt := 156) hX dJ1_removeNode_121 (by decide) (fun c_121 => ?_) (fun c_121 => ?_)
          · have key := fun z => c_121 (congrArg (fun z => hK kdR z) z)
            exact j_lv (by simp [jsb, jget, jval]) (nx key)
          · first | refine j_aload (pc := 124) hX dJ1_removeNode_124 rfl ?_ | refine j_aloadq (pc := 124) hX dJ1_removeNode_124 rfl ?_
            refine j_get (pc := 126) hX kg_J1_170 dJ1_removeNode_126 hoe.r (by rfl) ?_
            refine j_dup (pc := 129) hX dJ1_removeNode_129 (by first | rfl | exact jrf_cat _) ?_
            first | refine j_astore (pc := 130) hX dJ1_removeNode_130 (by decide) rfl ?_ | refine j_astoreN (pc := 130) hX dJ1_removeNode_130 (by decide) rfl ?_ | refine j_astoreq (pc := 130) hX dJ1_removeNode_130 (by decide) rfl ?_
            first | refine j_aload_n (pc := 132) hX dJ1_removeNode_132 rfl rfl ?_ | refine j_aload_nq (pc := 132) hX dJ1_removeNode_132 rfl rfl ?_
            refine j_acmp_eq (pc := 133) (rx := (some _)) (ry := (some _)) (tgt := 149) hX dJ1_removeNode_133 (by decide) (fun c_133 => ?_) (fun c_133 => ?_)
            · have key := hd.2.2 _ _ _ _ _ (by rw [← Option.some.inj c_133] at hk; exact hk) hke
              first | refine j_aload (pc := 149) hX dJ1_removeNode_149 rfl ?_ | refine j_aloadq (pc := 149) hX dJ1_removeNode_149 rfl ?_
              first | refine j_astore (pc := 151) hX dJ1_removeNode_151 (by decide) rfl ?_ | refine j_astoreN (pc := 151) hX dJ1_removeNode_151 (by decide) rfl ?_ | refine j_astoreq (pc := 151) hX dJ1_removeNode_151 (by decide) rfl ?_
              refine j_goto (pc := 153) (tgt := 171) hX dJ1_removeNode_153 (by decide) ?_
              exact j_lv (by simp [jsb, jget, jval]) (found _ e p A hA key.symm)
            · first | refine j_aload_n (pc := 136) hX dJ1_removeNode_136 rfl rfl ?_ | refine j_aload_nq (pc := 136) hX dJ1_removeNode_136 rfl rfl ?_
              refine j_ifnull (pc := 137) hX dJ1_removeNode_137 ?_
              first | refine j_aload_n (pc := 140) hX dJ1_removeNode_140 rfl rfl ?_ | refine j_aload_nq (pc := 140) hX dJ1_removeNode_140 rfl rfl ?_
              first | refine j_aload (pc := 141) hX dJ1_removeNode_141 rfl ?_ | refine j_aloadq (pc := 141) hX dJ1_removeNode_141 rfl ?_
              refine j_rune (pc := 143) (jr_U (pc := 143) hX ku_J1_173_4 hk (c_J6e _ _ _ kq e.2.2.1 hk hke) (by decide) dJ1_removeNode_143 rfl rfl (Nat.le_of_ble_eq_true rfl)) ?_ jno_x
              refine j_if_eq (pc := 146) (tgt := 156) hX dJ1_removeNode_146 (by decide) (fun c_146 => ?_) (fun c_146 => ?_)
              · have key := fun z => of_decide_eq_false (jb_z.mp c_146) (Eq.symm z)
                exact j_lv (by simp [jsb, jget, jval]) (nx key)
              · have key := of_decide_eq_true (jb_n.mp c_146)
                first | refine j_aload (pc := 149) hX dJ1_removeNode_149 rfl ?_ | refine j_aloadq (pc := 149) hX dJ1_removeNode_149 rfl ?_
                first | refine j_astore (pc := 151) hX dJ1_removeNode_151 (by decide) rfl ?_ | refine j_astoreN (pc := 151) hX dJ1_removeNode_151 (by decide) rfl ?_ | refine j_astoreq (pc := 151) hX dJ1_removeNode_151 (by decide) rfl ?_
                refine j_goto (pc := 153) (tgt := 171) hX dJ1_removeNode_153 (by decide) ?_
                exact j_lv (by simp [jsb, jget, jval]) (found _ e p A hA key.symm)
      obtain ⟨hoe, hge, hke, hcR⟩ := id hc
      -- the first one found
      have first : n0.2.1 = k → JW X G H 0 171 [(0, .inr (some q)), (4, .inl (.int 0)), (5, .inl (.int 1)), (6, .inr (some t)), (7, .inr (some n0.1)), (9, .inl (.int (nI ix))), (10, .inr (some n0.1))] [] := by
        intro he
        first | refine j_aload (pc := 171) hX dJ1_removeNode_171 rfl ?_ | refine j_aloadq (pc := 171) hX dJ1_removeNode_171 rfl ?_
        refine j_ifnull (pc := 173) hX dJ1_removeNode_173 ?_
        refine j_iload (pc := 176) hX dJ1_removeNode_176 rfl ?_
        refine j_if_eq (pc := 178) (tgt := 206) hX dJ1_removeNode_178 (by decide) (fun c_178 => ?_) (fun c_178 => ?_)
        rotate_left
        · exact absurd rfl c_178
        first | refine j_aload (pc := 206) hX dJ1_removeNode_206 rfl ?_ | refine j_aloadq (pc := 206) hX dJ1_removeNode_206 rfl ?_
        refine j_instNo (pc := 208) hX kd_J1_180 dJ1_removeNode_208 hoe.r ?_
        refine j_if_eq (pc := 211) (tgt := 230) hX dJ1_removeNode_211 (by decide) (fun c_211 => ?_) (fun c_211 => ?_)
        rotate_left
        · exact absurd rfl c_211
        first | refine j_aload (pc := 230) hX dJ1_removeNode_230 rfl ?_ | refine j_aloadq (pc := 230) hX dJ1_removeNode_230 rfl ?_
        first | refine j_aload (pc := 232) hX dJ1_removeNode_232 rfl ?_ | refine j_aloadq (pc := 232) hX dJ1_removeNode_232 rfl ?_
        refine j_acmp_ne (pc := 234) (rx := (some n0.1)) (ry := (some n0.1)) (tgt := 250) hX dJ1_removeNode_234 (by decide) (fun c_234 => ?_) (fun c_234 => ?_)
        · exact absurd rfl c_234
        first | refine j_aload (pc := 237) hX dJ1_removeNode_237 rfl ?_ | refine j_aloadq (pc := 237) hX dJ1_removeNode_237 rfl ?_
        refine j_iload (pc := 239) hX dJ1_removeNode_239 rfl ?_
        first | refine j_aload (pc := 241) hX dJ1_removeNode_241 rfl ?_ | refine j_aloadq (pc := 241) hX dJ1_removeNode_241 rfl ?_
        refine j_get (pc := 243) hX kg_J1_177 dJ1_removeNode_243 hoe.r (by rfl) ?_
        skip
        have fin : ∀ H3 : Heap, JPut H H3 t → jaw G H3 t 8 cap (fun j => va_rf (jup (fun i => nxN (B i) none) ix (nxN t0 none) j)) → JW X G H3 0 247 [(0, .inr (some q)), (10, .inr (some n0.1))] [] := by
          intro H3 w3 n3
          have keep : ∀ (L : List (ND (Int32 × Int32))), chE kdR G H none L → chE kdR G H3 none L := fun L h5 => h5.fr (P := fun a => a = t) (w3.fr rfl) (fun n hn => hC.neA (h5.get hn).1.choose_spec.r ha (by decide)) (fun n hn => hC.neA (h5.get hn).2.2 ha (by decide))
          have tb3 : tbA kdR G H3 t cap (jup B ix ([] ++ t0)) := tb.sub (A := []) hlt hL (n3.congr (fun j hj => by unfold jup; by_cases z : j = ix; rw [if_pos z, if_pos z]; rfl; rw [if_neg z, if_neg z])) (keep _ hcR) (fun j hj _ => keep _ (hch j hj))
          refine j_goto (pc := 247) (tgt := 260) hX dJ1_removeNode_247 (by decide) ?_
          exact j_lv (by simp [jsb, jget, jval]) (tail H3 _ n0 (ho.put w3 (hC.neA ho.r ha (by decide))) tb3 (inN_rem (A := []) tb hlt hixe hL he) (inL n0 List.mem_cons_self) he ⟨_, hoe.put w3 (hC.neA hoe.r ha (by decide))⟩ (w3.fr (Or.inr (Or.inl rfl))))
        cases t0 with
        | nil =>
          refine j_aastN (pc := 246) hX ⟨by decide, by decide⟩ dJ1_removeNode_246 (t := 8) (n := cap) (f := fun i => nxN (B i) none) ha ht hin (fun H3 w3 n3 => ?_)
          rw [nI_clamp (by omega)] at n3
          exact j_lv (by simp [jsb, jget, jval]) (fin H3 w3 n3)
        | cons m u =>
          refine j_aast (pc := 246) hX ⟨by decide, by decide, _, _, rfl, rfl, Or.inl rfl⟩ dJ1_removeNode_246 (t := 8) (n := cap) (f := fun i => nxN (B i) none) ha hcR.1.r ht hin (fun H3 w3 n3 => ?_)
          rw [nI_clamp (by omega)] at n3
          exact j_lv (by simp [jsb, jget, jval]) (fin H3 w3 n3)
      have nx : n0.2.1 ≠ k → JW X G H 0 81 [(0, .inr (some q)), (1, .inl (.int (hK kdR k))), (2, .inr (some kq)), (4, .inl (.int 0)), (5, .inl (.int 1)), (6, .inr (some t)), (7, .inr (some n0.1)), (9, .inl (.int (nI ix))), (10, .inr none)] [] := by
        intro hne
        cases t0 with
        | nil =>
          first | refine j_aload (pc := 81) hX dJ1_removeNode_81 rfl ?_ | refine j_aloadq (pc := 81) hX dJ1_removeNode_81 rfl ?_
          refine j_get (pc := 83) hX kg_J1_177 dJ1_removeNode_83 hoe.r (by rfl) ?_
          refine j_dup (pc := 86) hX dJ1_removeNode_86 (by first | rfl | exact jrf_cat _) ?_
          first | refine j_astore (pc := 87) hX dJ1_removeNode_87 (by decide) rfl ?_ | refine j_astoreN (pc := 87) hX dJ1_removeNode_87 (by decide) rfl ?_ | refine j_astoreq (pc := 87) hX dJ1_removeNode_87 (by decide) rfl ?_
          refine j_ifnullN (pc := 89) (tgt := 171) hX dJ1_removeNode_89 (by decide) ?_
          first | refine j_aload (pc := 171) hX dJ1_removeNode_171 rfl ?_ | refine j_aloadq (pc := 171) hX dJ1_removeNode_171 rfl ?_
          refine j_ifnullN (pc := 173) (tgt := 289) hX dJ1_removeNode_173 (by decide) ?_
          exact j_lv (by simp [jsb]) (nope (miss (fun n hn => by rw [hL] at hn; rw [List.mem_singleton.mp hn]; exact hne)))
        | cons m u =>
          first | refine j_aload (pc := 81) hX dJ1_removeNode_81 rfl ?_ | refine j_aloadq (pc := 81) hX dJ1_removeNode_81 rfl ?_
          refine j_get (pc := 83) hX kg_J1_177 dJ1_removeNode_83 hoe.r (by rfl) ?_
          refine j_dup (pc := 86) hX dJ1_removeNode_86 (by first | rfl | exact jrf_cat _) ?_
          first | refine j_astore (pc := 87) hX dJ1_removeNode_87 (by decide) rfl ?_ | refine j_astoreN (pc := 87) hX dJ1_removeNode_87 (by decide) rfl ?_ | refine j_astoreq (pc := 87) hX dJ1_removeNode_87 (by decide) rfl ?_
          refine j_ifnull (pc := 89) hX dJ1_removeNode_89 ?_
          first | refine j_aload (pc := 92) hX dJ1_removeNode_92 rfl ?_ | refine j_aloadq (pc := 92) hX dJ1_removeNode_92 rfl ?_
          refine j_instNo (pc := 94) hX kd_J1_180 dJ1_removeNode_94 hoe.r ?_
          refine j_if_eq (pc := 97) (tgt := 115) hX dJ1_removeNode_97 (by decide) (fun c_97 => ?_) (fun c_97 => ?_)
          rotate_left
          · exact absurd rfl c_97
          exact j_lv (by simp [jsb, jget, jval, nxN]) (loop u m n0 [] rfl (fun n hn => by rw [List.mem_singleton.mp hn]; exact hne))
      refine j_dup (pc := 31) hX dJ1_removeNode_31 (by first | rfl | exact jrf_cat _) ?_
      first | refine j_astore (pc := 32) hX dJ1_removeNode_32 (by decide) rfl ?_ | refine j_astoreN (pc := 32) hX dJ1_removeNode_32 (by decide) rfl ?_ | refine j_astoreq (pc := 32) hX dJ1_removeNode_32 (by decide) rfl ?_
      refine j_ifnull (pc := 34) hX dJ1_removeNode_34 ?_
      refine j_null (pc := 37) hX dJ1_removeNode_37 ?_
      first | refine j_astore (pc := 38) hX dJ1_removeNode_38 (by decide) rfl ?_ | refine j_astoreN (pc := 38) hX dJ1_removeNode_38 (by decide) rfl ?_ | refine j_astoreq (pc := 38) hX dJ1_removeNode_38 (by decide) rfl ?_
      first | refine j_aload (pc := 40) hX dJ1_removeNode_40 rfl ?_ | refine j_aloadq (pc := 40) hX dJ1_removeNode_40 rfl ?_
      refine j_get (pc := 42) hX kg_J1_168 dJ1_removeNode_42 hoe.r (by rfl) ?_
      refine j_iload_n (pc := 45) hX dJ1_removeNode_45 rfl rfl ?_
      refine j_icmp_ne (pc := 46) (tgt := 81) hX dJ1_removeNode_46 (by decide) (fun c_46 => ?_) (fun c_46 => ?_)
      · have key := fun z => c_46 (congrArg (fun z => hK kdR z) z)
        exact j_lv (by simp [jsb, jget, jval]) (nx key)
      · first | refine j_aload (pc := 49) hX dJ1_removeNode_49 rfl ?_ | refine j_aloadq (pc := 49) hX dJ1_removeNode_49 rfl ?_
        refine j_get (pc := 51) hX kg_J1_170 dJ1_removeNode_51 hoe.r (by rfl) ?_
        refine j_dup (pc := 54) hX dJ1_removeNode_54 (by first | rfl | exact jrf_cat _) ?_
        first | refine j_astore (pc := 55) hX dJ1_removeNode_55 (by decide) rfl ?_ | refine j_astoreN (pc := 55) hX dJ1_removeNode_55 (by decide) rfl ?_ | refine j_astoreq (pc := 55) hX dJ1_removeNode_55 (by decide) rfl ?_
        first | refine j_aload_n (pc := 57) hX dJ1_removeNode_57 rfl rfl ?_ | refine j_aload_nq (pc := 57) hX dJ1_removeNode_57 rfl rfl ?_
        refine j_acmp_eq (pc := 58) (rx := (some _)) (ry := (some _)) (tgt := 74) hX dJ1_removeNode_58 (by decide) (fun c_58 => ?_) (fun c_58 => ?_)
        · have key := hd.2.2 _ _ _ _ _ (by rw [← Option.some.inj c_58] at hk; exact hk) hke
          first | refine j_aload (pc := 74) hX dJ1_removeNode_74 rfl ?_ | refine j_aloadq (pc := 74) hX dJ1_removeNode_74 rfl ?_
          first | refine j_astore (pc := 76) hX dJ1_removeNode_76 (by decide) rfl ?_ | refine j_astoreN (pc := 76) hX dJ1_removeNode_76 (by decide) rfl ?_ | refine j_astoreq (pc := 76) hX dJ1_removeNode_76 (by decide) rfl ?_
          refine j_goto (pc := 78) (tgt := 171) hX dJ1_removeNode_78 (by decide) ?_
          exact j_lv (by simp [jsb, jget, jval]) (first key.symm)
        · first | refine j_aload_n (pc := 61) hX dJ1_removeNode_61 rfl rfl ?_ | refine j_aload_nq (pc := 61) hX dJ1_removeNode_61 rfl rfl ?_
          refine j_ifnull (pc := 62) hX dJ1_removeNode_62 ?_
          first | refine j_aload_n (pc := 65) hX dJ1_removeNode_65 rfl rfl ?_ | refine j_aload_nq (pc := 65) hX dJ1_removeNode_65 rfl rfl ?_
          first | refine j_aload (pc := 66) hX dJ1_removeNode_66 rfl ?_ | refine j_aloadq (pc := 66) hX dJ1_removeNode_66 rfl ?_
          refine j_rune (pc := 68) (jr_U (pc := 68) hX ku_J1_173_4 hk (c_J6e _ _ _ kq n0.2.2.1 hk hke) (by decide) dJ1_removeNode_68 rfl rfl (Nat.le_of_ble_eq_true rfl)) ?_ jno_x
          refine j_if_eq (pc := 71) (tgt := 81) hX dJ1_removeNode_71 (by decide) (fun c_71 => ?_) (fun c_71 => ?_)
          · have key := fun z => of_decide_eq_false (jb_z.mp c_71) (Eq.symm z)
            exact j_lv (by simp [jsb, jget, jval]) (nx key)
          · have key := of_decide_eq_true (jb_n.mp c_71)
            first | refine j_aload (pc := 74) hX dJ1_removeNode_74 rfl ?_ | refine j_aloadq (pc := 74) hX dJ1_removeNode_74 rfl ?_
            first | refine j_astore (pc := 76) hX dJ1_removeNode_76 (by decide) rfl ?_ | refine j_astoreN (pc := 76) hX dJ1_removeNode_76 (by decide) rfl ?_ | refine j_astoreq (pc := 76) hX dJ1_removeNode_76 (by decide) rfl ?_
            refine j_goto (pc := 78) (tgt := 171) hX dJ1_removeNode_78 (by decide) ?_
            exact j_lv (by simp [jsb, jget, jval]) (first key.symm)
theorem c_J1_removeR (l : Launch) (G : JG) (H : Heap) (q kq : Nat) (k : Int32 × Int32) {tab : Option Nat} {cap sz : Nat} {mc : Int32} {B : Nat → List (ND (Int32 × Int32))} (h : hmA kdR G H q tab cap sz mc B) (hk : kA kdR G H kq k) (hs : ∀ n, inN B cap n → n.2.1 = k → 0 < sz) : JMet l yJ1_remove (ws_ yJ1_remove cJ1_remove 3 (some (.object "java/lang/Object"))) 5 0 G H [.ref q, .ref kq] (jpq (fun r H1 => ((r = none ∧ ∀ n, inN B cap n → n.2.1 ≠ k) ∨ ∃ n, inN B cap n ∧ n.2.1 = k ∧ r = some n.2.2.2) ∧ RemP kdR G H H1 q k tab cap sz mc B)) (jno) := by
  refine JMet.of [(0, .inr (some q)), (1, .inr (some kq))] (by decide) (Nat.le_of_ble_eq_true rfl) rfl (fun X hl hX hQ hEx hr hnm hH => ?_)
  subst hl
  have ho := h.2.2.1
  first | refine j_aload_n (pc := 0) hX dJ1_remove_0 rfl rfl ?_ | refine j_aload_nq (pc := 0) hX dJ1_remove_0 rfl rfl ?_
  first | refine j_aload_n (pc := 1) hX dJ1_remove_1 rfl rfl ?_ | refine j_aload_nq (pc := 1) hX dJ1_remove_1 rfl rfl ?_
  refine j_rune (pc := 2) (jr_S (pc := 2) hX ks_J1_149 (c_J1_hkR _ _ _ kq hk) (by decide) dJ1_remove_2 rfl rfl (Nat.le_of_ble_eq_true rfl)) ?_ jno_x
  first | refine j_aload_n (pc := 5) hX dJ1_remove_5 rfl rfl ?_ | refine j_aload_nq (pc := 5) hX dJ1_remove_5 rfl rfl ?_
  refine j_null (pc := 6) hX dJ1_remove_6 ?_
  refine j_iconst (pc := 7) (v := 0) hX dJ1_remove_7 (by decide) ?_
  refine j_iconst (pc := 8) (v := 1) hX dJ1_remove_8 (by decide) ?_
  refine j_runq (pc := 9) (jr_V (pc := 9) hX kv_J1_228 (by first | assumption | exact jow.r (by assumption)) (c_J1_removeNodeR _ _ _ q kq k h hk hs) (by decide) dJ1_remove_9 rfl rfl (Nat.le_of_ble_eq_true rfl)) (fun r_9 H_9 p_9 z_9 => ?_) jno_x
  skip
  obtain ⟨hR, hP⟩ := p_9
  rcases hR with ⟨rfl, hno⟩ | ⟨n, hn, hnk, rfl, nx, hon⟩
  · skip
    refine j_dup (pc := 12) hX dJ1_remove_12 (by first | rfl | exact jrf_cat _) ?_
    first | refine j_astore_n (pc := 13) hX dJ1_remove_13 rfl (by decide) rfl ?_ | refine j_astore_nN (pc := 13) hX dJ1_remove_13 rfl (by decide) rfl ?_ | refine j_astore_nq (pc := 13) hX dJ1_remove_13 rfl (by decide) rfl ?_
    refine j_ifnonnullN (pc := 14) hX dJ1_remove_14 ?_
    refine j_null (pc := 17) hX dJ1_remove_17 ?_
    refine j_goto (pc := 18) (tgt := 25) hX dJ1_remove_18 (by decide) ?_
    first | exact j_aret hX hQ hr (by first | exact Or.inl ⟨_, rfl⟩ | exact Or.inr ⟨_, rfl⟩) dJ1_remove_25 ⟨none, rfl, Or.inl ⟨rfl, hno⟩, hP⟩ | exact j_aretN hX hQ hr (by first | exact Or.inl ⟨_, rfl⟩ | exact Or.inr ⟨_, rfl⟩) dJ1_remove_25 ⟨none, rfl, Or.inl ⟨rfl, hno⟩, hP⟩ | exact j_aretq hX hQ hr (by first | exact Or.inl ⟨_, rfl⟩ | exact Or.inr ⟨_, rfl⟩) dJ1_remove_25 ⟨none, rfl, Or.inl ⟨rfl, hno⟩, hP⟩
  · skip
    refine j_dup (pc := 12) hX dJ1_remove_12 (by first | rfl | exact jrf_cat _) ?_
    first | refine j_astore_n (pc := 13) hX dJ1_remove_13 rfl (by decide) rfl ?_ | refine j_astore_nN (pc := 13) hX dJ1_remove_13 rfl (by decide) rfl ?_ | refine j_astore_nq (pc := 13) hX dJ1_remove_13 rfl (by decide) rfl ?_
    refine j_ifnonnull (pc := 14) (tgt := 21) hX dJ1_remove_14 (by decide) ?_
    first | refine j_aload_n (pc := 21) hX dJ1_remove_21 rfl rfl ?_ | refine j_aload_nq (pc := 21) hX dJ1_remove_21 rfl rfl ?_
    refine j_get (pc := 22) hX kg_J1_162 dJ1_remove_22 hon.r (by rfl) ?_
    first | exact j_aret hX hQ hr (by first | exact Or.inl ⟨_, rfl⟩ | exact Or.inr ⟨_, rfl⟩) dJ1_remove_25 ⟨some n.2.2.2, rfl, Or.inr ⟨n, hn, hnk, rfl⟩, hP⟩ | exact j_aretN hX hQ hr (by first | exact Or.inl ⟨_, rfl⟩ | exact Or.inr ⟨_, rfl⟩) dJ1_remove_25 ⟨some n.2.2.2, rfl, Or.inr ⟨n, hn, hnk, rfl⟩, hP⟩ | exact j_aretq hX hQ hr (by first | exact Or.inl ⟨_, rfl⟩ | exact Or.inr ⟨_, rfl⟩) dJ1_remove_25 ⟨some n.2.2.2, rfl, Or.inr ⟨n, hn, hnk, rfl⟩, hP⟩
