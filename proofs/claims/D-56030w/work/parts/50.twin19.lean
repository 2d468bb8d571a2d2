/-! the reference reads a command -/
set_option maxRecDepth 100000
theorem tx_dismiss : txOK "dismiss " := ⟨⟨282238678, 0, by simp [jtexts]⟩, by decide, by decide⟩
theorem tx_day : txOK "day" := ⟨⟨99228, 0, by simp [jtexts]⟩, by decide, by decide⟩
theorem tx_apply : txOK "apply " := ⟨⟨-1411061134, 0, by simp [jtexts]⟩, by decide, by decide⟩
theorem tx_post : txOK "post " := ⟨⟨106855296, 0, by simp [jtexts]⟩, by decide, by decide⟩
theorem tx_leave : txOK "leave " := ⟨⟨-1106737079, 0, by simp [jtexts]⟩, by decide, by decide⟩
theorem tx_close : txOK "close " := ⟨⟨-1357520600, 0, by simp [jtexts]⟩, by decide, by decide⟩
theorem tx_hire : txOK "hire " := ⟨⟨99286956, 0, by simp [jtexts]⟩, by decide, by decide⟩
theorem tx_refer : txOK "refer " := ⟨⟨-934829152, 0, by simp [jtexts]⟩, by decide, by decide⟩
theorem tx_match : txOK "match" := ⟨⟨103668165, 0, by simp [jtexts]⟩, by decide, by decide⟩
theorem tx_sl : txOK "/" := ⟨⟨47, 0, by simp [jtexts]⟩, by decide, by decide⟩
theorem tx_eq : txOK "=" := ⟨⟨61, 0, by simp [jtexts]⟩, by decide, by decide⟩
theorem tx_lt : txOK "<" := ⟨⟨60, 0, by simp [jtexts]⟩, by decide, by decide⟩
theorem tx_gt : txOK ">" := ⟨⟨62, 0, by simp [jtexts]⟩, by decide, by decide⟩
def skT (L : List Nat) (tx : String) (q : Nat × Bool) : Nat × Bool := skN L (codes tx) q
theorem skT_le {L : List Nat} {tx : String} {q : Nat × Bool} (h : txOK tx) (hq : q.1 ≤ L.length) : (skT L tx q).1 ≤ L.length := sk_le h.2.1 hq _ (Nat.le_refl _)
theorem rnN_le {L : List Nat} (hL : ∀ j, j < L.length → L.getD j 0 < 65536) {m : Nat} (hm : m ≤ 3) {q : Nat × Bool} (hq : q.1 ≤ L.length) : (rnN L m q).1.1 ≤ L.length := (rn_le hL (z := (rn0 L q, 0)) hq rfl m hm).1
theorem shN_le {L : List Nat} {any : Bool} {q : Nat × Bool} (hq : q.1 ≤ L.length) : (shN L any q).1 ≤ L.length := by
  have h := shW_in (L := L) (any := any) (q := q)
  unfold shN
  cases e : shW L any q with
  | true => exact hq
  | false => exact h e
abbrev PC : Type := (Nat × Bool) × (Nat → Int32) × Nat
def kindN (L : List Nat) (i : Nat) : Int32 := if chI L i = 100 ∧ chI L (i + 1) = 105 then 105 else chI L i
def rcOne (L : List Nat) (tx : String) (m : Nat) (q : Nat × Bool) (cm : Nat → Int32) (n : Nat) : PC :=
  ((rnN L m (skT L tx q)).1, jup cm (5 * n + 2) (nI (rnN L m (skT L tx q)).2), n + 1)
def rcTwo (L : List Nat) (tx : String) (m : Nat) (t2 : String) (q : Nat × Bool) (cm : Nat → Int32) (n : Nat) : PC :=
  ((rnN L 3 (skT L t2 (rnN L m (skT L tx q)).1)).1, jup (jup cm (5 * n + 2) (nI (rnN L m (skT L tx q)).2)) (5 * n + 3) (nI (rnN L 3 (skT L t2 (rnN L m (skT L tx q)).1)).2), n + 1)
def rcShp (L : List Nat) (tx : String) (any : Bool) (q : Nat × Bool) (cm : Nat → Int32) (n : Nat) : PC :=
  ((rnN L 3 (skT L "/" (rnN L 3 (shN L any (skT L tx q))).1)).1, jup (jup (jup cm (5 * n + 1) (chI L (skT L tx q).1)) (5 * n + 2) (nI (rnN L 3 (shN L any (skT L tx q))).2)) (5 * n + 3) (nI (rnN L 3 (skT L "/" (rnN L 3 (shN L any (skT L tx q))).1)).2), n + 1)
def rcEq (L : List Nat) (z : PC) (n : Nat) : PC := ((rnN L 3 (skT L "=" z.1)).1, jup z.2.1 (5 * n + 4) (nI (rnN L 3 (skT L "=" z.1)).2), n + 1)
def rcN (L : List Nat) (z : PC) : PC :=
  if z.1.2 = true then z else
  if kindN L z.1.1 = 105 then rcOne L (if chI L z.1.1 = 100 then "dismiss " else "day") 1 z.1 (jup z.2.1 (5 * z.2.2) (kindN L z.1.1)) z.2.2 else
  if kindN L z.1.1 = 97 then rcShp L "apply " false z.1 (jup z.2.1 (5 * z.2.2) (kindN L z.1.1)) z.2.2 else
  if kindN L z.1.1 = 112 then rcEq L (rcShp L "post " true z.1 (jup z.2.1 (5 * z.2.2) (kindN L z.1.1)) z.2.2) z.2.2 else
  if kindN L z.1.1 = 108 then rcOne L "leave " 3 z.1 (jup z.2.1 (5 * z.2.2) (kindN L z.1.1)) z.2.2 else
  if kindN L z.1.1 = 99 then rcOne L "close " 1 z.1 (jup z.2.1 (5 * z.2.2) (kindN L z.1.1)) z.2.2 else
  if kindN L z.1.1 = 104 then rcTwo L "hire " 1 "<" z.1 (jup z.2.1 (5 * z.2.2) (kindN L z.1.1)) z.2.2 else
  if kindN L z.1.1 = 114 then rcTwo L "refer " 3 ">" z.1 (jup z.2.1 (5 * z.2.2) (kindN L z.1.1)) z.2.2 else
  (skT L (if kindN L z.1.1 = 109 then "match" else "day") z.1, jup z.2.1 (5 * z.2.2) (kindN L z.1.1), z.2.2 + 1)
theorem psF_16 (fs : Nat → Int32) (i : Nat) (w : Bool) (v : Int32) : jup (psF fs i w) 16 v = psF (jup fs 16 v) i w := by
  unfold psF; rw [jup_comm (by decide), jup_comm (k := 11) (l := 16) (by decide)]
theorem txP {tx : String} (h : tx ∈ ["dismiss ", "day", "apply ", "post ", "leave ", "close ", "hire ", "refer ", "match", "/", "=", "<", ">"]) : txOK tx := by
  simp only [List.mem_cons, List.not_mem_nil, or_false] at h
  rcases h with rfl | rfl | rfl | rfl | rfl | rfl | rfl | rfl | rfl | rfl | rfl | rfl | rfl
  · exact tx_dismiss
  · exact tx_day
  · exact tx_apply
  · exact tx_post
  · exact tx_leave
  · exact tx_close
  · exact tx_hire
  · exact tx_refer
  · exact tx_match
  · exact tx_sl
  · exact tx_eq
  · exact tx_lt
  · exact tx_gt
theorem kind_1 {L : List Nat} {i : Nat} (h1 : chI L i = 100) (h2 : chI L (i + 1) = 105) : kindN L i = 105 := if_pos ⟨h1, h2⟩
theorem kind_2 {L : List Nat} {i : Nat} (h : ¬ chI L (i + 1) = 105) : kindN L i = chI L i := if_neg (fun z => h z.2)
theorem kind_3 {L : List Nat} {i : Nat} (h : ¬ chI L i = 100) : kindN L i = chI L i := if_neg (fun z => h z.1)
theorem c_skipQ (l : Launch) (G : JG) (H : Heap) {g : Nat → Nat} {ar : Nat → Nat → Nat} {cm F : Nat → Int32} (q : Nat × Bool) (hT : jtw G H g ar cm (psF F q.1 q.2)) (L : List Nat) (hI : Inp ar F L) (hi : q.1 ≤ L.length) (tx : String) (hS : txOK tx) : JMet l yX3_skip (ws_ yX3_skip cX3_skip 3 none) 5 0 G H [.ref (g 100), .ref (gS G tx)] (jpv (fun H1 => twR G H H1 g ar cm (psF F (skT L tx q).1 (skT L tx q).2))) jno :=
  c_X3_skip l G H hT q.1 q.2 F rfl L hI hi tx hS
theorem c_numQ (l : Launch) (G : JG) (H : Heap) {g : Nat → Nat} {ar : Nat → Nat → Nat} {cm F : Nat → Int32} (q : Nat × Bool) (hT : jtw G H g ar cm (psF F q.1 q.2)) (L : List Nat) (hI : Inp ar F L) (hi : q.1 ≤ L.length) (m : Nat) (hm : m ≤ 3) : JMet l yX3_readNumber (ws_ yX3_readNumber cX3_readNumber 4 (some .int)) 3 0 G H [.ref (g 100), .int (nI m)] (jpi (fun r H1 => twR G H H1 g ar cm (psF F (rnN L m q).1.1 (rnN L m q).1.2) ∧ r = nI (rnN L m q).2)) jno :=
  c_X3_readNumber l G H hT q.1 q.2 F rfl L hI hi m hm
theorem c_shpQ (l : Launch) (G : JG) (H : Heap) {g : Nat → Nat} {ar : Nat → Nat → Nat} {cm F : Nat → Int32} (q : Nat × Bool) (hT : jtw G H g ar cm (psF F q.1 q.2)) (L : List Nat) (hI : Inp ar F L) (hi : q.1 ≤ L.length) (any : Bool) : JMet l yX3_readShape (ws_ yX3_readShape cX3_readShape 3 (some .int)) 2 0 G H [.ref (g 100), .int (jb any)] (jpi (fun r H1 => twR G H H1 g ar cm (psF F (shN L any q).1 (shN L any q).2) ∧ r = chI L q.1)) jno :=
  c_X3_readShape l G H hT q.1 q.2 F rfl L hI hi any
theorem c_X3_readCommand (l : Launch) (G : JG) (H : Heap) {g : Nat → Nat} {ar : Nat → Nat → Nat} {cm fs : Nat → Int32} (hT : jtw G H g ar cm fs) (q : Nat × Bool) (n : Nat) (F0 : Nat → Int32) (ef : fs = psF F0 q.1 q.2) (en : F0 16 = nI n) (hn : n ≤ 55) (L : List Nat) (hI0 : Inp ar F0 L) (hi : q.1 ≤ L.length) : JMet l yX3_readCommand (ws_ yX3_readCommand cX3_readCommand 3 none) 6 0 G H [.ref (g 100)] (jpv (fun H1 => twR G H H1 g ar (rcN L (q, cm, n)).2.1 (psF (jup F0 16 (nI (rcN L (q, cm, n)).2.2)) (rcN L (q, cm, n)).1.1 (rcN L (q, cm, n)).1.2))) (jno) := by
  refine JMet.of [(0, .inr (some (g 100)))] (by decide) (Nat.le_of_ble_eq_true rfl) rfl (fun X hl hX hQ hEx hr hnm hH => ?_)
  subst hl
  obtain ⟨h0, ho, hs, hbf, hsv, hpa, hou, hip, hcm⟩ := id hT
  have hi2 : vp_in (2 : Int32) 93 := vp_in_nI (n := 2) (by omega) (by decide)
  have hF : JFr (twP g) H H := JFr.rfl'
  subst ef
  have hL := hI0.2.2.1
  have hc := hI0.2.2.2
  have hin0 : vp_in (nI (5 * n)) 300 := vp_in_nI (by omega) (by decide)
  have hin1 : vp_in (nI (5 * n + 1)) 300 := vp_in_nI (by omega) (by decide)
  have hin2 : vp_in (nI (5 * n + 2)) 300 := vp_in_nI (by omega) (by decide)
  have hin3 : vp_in (nI (5 * n + 3)) 300 := vp_in_nI (by omega) (by decide)
  have hin4 : vp_in (nI (5 * n + 4)) 300 := vp_in_nI (by omega) (by decide)
  have rest : q.2 = false → ∀ (H1 : Heap), JFr (twP g) H H1 → jtw G H1 g ar cm (psF (jup F0 16 (nI (n + 1))) q.1 q.2) → JW X G H1 0 55 [(0, .inr (some (g 100))), (1, .inl (.int (nI (5 * n))))] [.int (kindN L q.1)] := by
    intro hw H1 hF hT
    obtain ⟨h0, ho, hs, hbf, hsv, hpa, hou, hip, hcm⟩ := id hT
    have hI : Inp ar (jup F0 16 (nI (n + 1))) L := hI0
    have hw' : ¬ q.2 = true := by rw [hw]; decide
    unfold rcN at hQ
    simp only [if_neg hw'] at hQ
    refine j_istore_n (pc := 55) hX dX3_readCommand_55 rfl (by decide) rfl ?_
    first | refine j_aload_n (pc := 56) hX dX3_readCommand_56 rfl rfl ?_ | refine j_aload_nq (pc := 56) hX dX3_readCommand_56 rfl rfl ?_
    refine j_get (pc := 57) hX kg_X3_36 dX3_readCommand_57 (by first | assumption | exact jow.r (by assumption)) (by rfl) ?_
    refine j_iload_n (pc := 60) hX dX3_readCommand_60 rfl rfl ?_
    refine j_iload_n (pc := 61) hX dX3_readCommand_61 rfl rfl ?_
    refine j_iast (pc := 62) hX dX3_readCommand_62 (by assumption) (h0.1 _ (by decide)) (by assumption) (fun H_62 w_62 n_62 => ?_)
    rw [nI_clamp (by omega)] at n_62
    have hT := tw_cmd hT w_62 n_62
    have hF := JFr.put hF w_62 (fun _ => ⟨15, by decide, rfl⟩)
    obtain ⟨h0, ho, hs, hbf, hsv, hpa, hou, hip, hcm⟩ := id hT
    refine j_iload_n (pc := 63) hX dX3_readCommand_63 rfl rfl ?_
    refine j_bipush (pc := 64) (v := 105) hX dX3_readCommand_64 (by decide) ?_
    refine j_icmp_ne (pc := 66) (tgt := 106) hX dX3_readCommand_66 (by decide) (fun c_66 => ?_) (fun c_66 => ?_)
    · rw [if_neg c_66] at hQ
      refine j_iload_n (pc := 106) hX dX3_readCommand_106 rfl rfl ?_
      refine j_bipush (pc := 107) (v := 97) hX dX3_readCommand_107 (by decide) ?_
      refine j_icmp_ne (pc := 109) (tgt := 168) hX dX3_readCommand_109 (by decide) (fun c_109 => ?_) (fun c_109 => ?_)
      · rw [if_neg c_109] at hQ
        refine j_iload_n (pc := 168) hX dX3_readCommand_168 rfl rfl ?_
        refine j_bipush (pc := 169) (v := 112) hX dX3_readCommand_169 (by decide) ?_
        refine j_icmp_ne (pc := 171) (tgt := 250) hX dX3_readCommand_171 (by decide) (fun c_171 => ?_) (fun c_171 => ?_)
        · rw [if_neg c_171] at hQ
          refine j_iload_n (pc := 250) hX dX3_readCommand_250 rfl rfl ?_
          refine j_bipush (pc := 251) (v := 108) hX dX3_readCommand_251 (by decide) ?_
          refine j_icmp_ne (pc := 253) (tgt := 279) hX dX3_readCommand_253 (by decide) (fun c_253 => ?_) (fun c_253 => ?_)
          · rw [if_neg c_253] at hQ
            refine j_iload_n (pc := 279) hX dX3_readCommand_279 rfl rfl ?_
            refine j_bipush (pc := 280) (v := 99) hX dX3_readCommand_280 (by decide) ?_
            refine j_icmp_ne (pc := 282) (tgt := 308) hX dX3_readCommand_282 (by decide) (fun c_282 => ?_) (fun c_282 => ?_)
            · rw [if_neg c_282] at hQ
              refine j_iload_n (pc := 308) hX dX3_readCommand_308 rfl rfl ?_
              refine j_bipush (pc := 309) (v := 104) hX dX3_readCommand_309 (by decide) ?_
              refine j_icmp_ne (pc := 311) (tgt := 357) hX dX3_readCommand_311 (by decide) (fun c_311 => ?_) (fun c_311 => ?_)
              · rw [if_neg c_311] at hQ
                refine j_iload_n (pc := 357) hX dX3_readCommand_357 rfl rfl ?_
                refine j_bipush (pc := 358) (v := 114) hX dX3_readCommand_358 (by decide) ?_
                refine j_icmp_ne (pc := 360) (tgt := 406) hX dX3_readCommand_360 (by decide) (fun c_360 => ?_) (fun c_360 => ?_)
                · rw [if_neg c_360] at hQ
                  first | refine j_aload_n (pc := 406) hX dX3_readCommand_406 rfl rfl ?_ | refine j_aload_nq (pc := 406) hX dX3_readCommand_406 rfl rfl ?_
                  refine j_iload_n (pc := 407) hX dX3_readCommand_407 rfl rfl ?_
                  refine j_bipush (pc := 408) (v := 109) hX dX3_readCommand_408 (by decide) ?_
                  refine j_icmp_ne (pc := 410) (tgt := 419) hX dX3_readCommand_410 (by decide) (fun c_410 => ?_) (fun c_410 => ?_)
                  · rw [if_neg c_410] at hQ
                    refine j_ldcS (pc := 419) hX q2920 dX3_readCommand_419 ?_
                    refine j_runv (pc := 421) (jr_V (pc := 421) hX kv_X3_252 (by first | assumption | exact jow.r (by assumption)) (c_skipQ _ _ _ (q) hT L hI (hi) _ (txP (by simp))) (by decide) dX3_readCommand_421 rfl rfl (Nat.le_of_ble_eq_true rfl)) (fun H_421 p_421 z_421 => ?_) jno_x
                    have hF := JFr.trans hF p_421.1
                    have hT := p_421.2
                    obtain ⟨h0, ho, hs, hbf, hsv, hpa, hou, hip, hcm⟩ := id hT
                    exact j_vret hX hQ hr dX3_readCommand_424 ⟨rfl, hF, hT⟩
                  · rw [if_pos c_410] at hQ
                    refine j_ldcSW (pc := 413) hX q2949 dX3_readCommand_413 ?_
                    refine j_goto (pc := 416) (tgt := 421) hX dX3_readCommand_416 (by decide) ?_
                    refine j_runv (pc := 421) (jr_V (pc := 421) hX kv_X3_252 (by first | assumption | exact jow.r (by assumption)) (c_skipQ _ _ _ (q) hT L hI (hi) _ (txP (by simp))) (by decide) dX3_readCommand_421 rfl rfl (Nat.le_of_ble_eq_true rfl)) (fun H_421 p_421 z_421 => ?_) jno_x
                    have hF := JFr.trans hF p_421.1
                    have hT := p_421.2
                    obtain ⟨h0, ho, hs, hbf, hsv, hpa, hou, hip, hcm⟩ := id hT
                    exact j_vret hX hQ hr dX3_readCommand_424 ⟨rfl, hF, hT⟩
                · rw [if_pos c_360] at hQ
                  first | refine j_aload_n (pc := 363) hX dX3_readCommand_363 rfl rfl ?_ | refine j_aload_nq (pc := 363) hX dX3_readCommand_363 rfl rfl ?_
                  refine j_ldcSW (pc := 364) hX q2947 dX3_readCommand_364 ?_
                  refine j_runv (pc := 367) (jr_V (pc := 367) hX kv_X3_252 (by first | assumption | exact jow.r (by assumption)) (c_skipQ _ _ _ (q) hT L hI (hi) _ (txP (by simp))) (by decide) dX3_readCommand_367 rfl rfl (Nat.le_of_ble_eq_true rfl)) (fun H_367 p_367 z_367 => ?_) jno_x
                  have hF := JFr.trans hF p_367.1
                  have hT := p_367.2
                  obtain ⟨h0, ho, hs, hbf, hsv, hpa, hou, hip, hcm⟩ := id hT
                  first | refine j_aload_n (pc := 370) hX dX3_readCommand_370 rfl rfl ?_ | refine j_aload_nq (pc := 370) hX dX3_readCommand_370 rfl rfl ?_
                  refine j_get (pc := 371) hX kg_X3_36 dX3_readCommand_371 (by first | assumption | exact jow.r (by assumption)) (by rfl) ?_
                  refine j_iload_n (pc := 374) hX dX3_readCommand_374 rfl rfl ?_
                  refine j_iconst (pc := 375) (v := 2) hX dX3_readCommand_375 (by decide) ?_
                  refine j_iadd (pc := 376) hX dX3_readCommand_376 ?_
                  rw [show nI (5 * n) + 2 = nI (5 * n + 2) from nI_add _ 2]
                  first | refine j_aload_n (pc := 377) hX dX3_readCommand_377 rfl rfl ?_ | refine j_aload_nq (pc := 377) hX dX3_readCommand_377 rfl rfl ?_
                  refine j_iconst (pc := 378) (v := 3) hX dX3_readCommand_378 (by decide) ?_
                  refine j_runi (pc := 379) (jr_V (pc := 379) hX kv_X3_256 (by first | assumption | exact jow.r (by assumption)) (c_numQ _ _ _ ((skT L "refer " q)) hT L hI (skT_le (txP (by simp)) (hi)) 3 (by omega)) (by decide) dX3_readCommand_379 rfl rfl (Nat.le_of_ble_eq_true rfl)) (fun r_379 H_379 p_379 z_379 => ?_) jno_x
                  obtain ⟨hR, rfl⟩ := p_379
                  have hF := JFr.trans hF hR.1
                  have hT := hR.2
                  obtain ⟨h0, ho, hs, hbf, hsv, hpa, hou, hip, hcm⟩ := id hT
                  refine j_iast (pc := 382) hX dX3_readCommand_382 (by assumption) (h0.1 _ (by decide)) (by assumption) (fun H_382 w_382 n_382 => ?_)
                  rw [nI_clamp (by omega)] at n_382
                  have hT := tw_cmd hT w_382 n_382
                  have hF := JFr.put hF w_382 (fun _ => ⟨15, by decide, rfl⟩)
                  obtain ⟨h0, ho, hs, hbf, hsv, hpa, hou, hip, hcm⟩ := id hT
                  first | refine j_aload_n (pc := 383) hX dX3_readCommand_383 rfl rfl ?_ | refine j_aload_nq (pc := 383) hX dX3_readCommand_383 rfl rfl ?_
                  refine j_ldcSW (pc := 384) hX q2948 dX3_readCommand_384 ?_
                  refine j_runv (pc := 387) (jr_V (pc := 387) hX kv_X3_252 (by first | assumption | exact jow.r (by assumption)) (c_skipQ _ _ _ ((rnN L 3 (skT L "refer " q)).1) hT L hI (rnN_le hc (by omega) (skT_le (txP (by simp)) (hi))) _ (txP (by simp))) (by decide) dX3_readCommand_387 rfl rfl (Nat.le_of_ble_eq_true rfl)) (fun H_387 p_387 z_387 => ?_) jno_x
                  have hF := JFr.trans hF p_387.1
                  have hT := p_387.2
                  obtain ⟨h0, ho, hs, hbf, hsv, hpa, hou, hip, hcm⟩ := id hT
                  first | refine j_aload_n (pc := 390) hX dX3_readCommand_390 rfl rfl ?_ | refine j_aload_nq (pc := 390) hX dX3_readCommand_390 rfl rfl ?_
                  refine j_get (pc := 391) hX kg_X3_36 dX3_readCommand_391 (by first | assumption | exact jow.r (by assumption)) (by rfl) ?_
                  refine j_iload_n (pc := 394) hX dX3_readCommand_394 rfl rfl ?_
                  refine j_iconst (pc := 395) (v := 3) hX dX3_readCommand_395 (by decide) ?_
                  refine j_iadd (pc := 396) hX dX3_readCommand_396 ?_
                  rw [show nI (5 * n) + 3 = nI (5 * n + 3) from nI_add _ 3]
                  first | refine j_aload_n (pc := 397) hX dX3_readCommand_397 rfl rfl ?_ | refine j_aload_nq (pc := 397) hX dX3_readCommand_397 rfl rfl ?_
                  refine j_iconst (pc := 398) (v := 3) hX dX3_readCommand_398 (by decide) ?_
                  refine j_runi (pc := 399) (jr_V (pc := 399) hX kv_X3_256 (by first | assumption | exact jow.r (by assumption)) (c_numQ _ _ _ ((skT L ">" (rnN L 3 (skT L "refer " q)).1)) hT L hI (skT_le (txP (by simp)) (rnN_le hc (by omega) (skT_le (txP (by simp)) (hi)))) 3 (by omega)) (by decide) dX3_readCommand_399 rfl rfl (Nat.le_of_ble_eq_true rfl)) (fun r_399 H_399 p_399 z_399 => ?_) jno_x
                  obtain ⟨hR, rfl⟩ := p_399
                  have hF := JFr.trans hF hR.1
                  have hT := hR.2
                  obtain ⟨h0, ho, hs, hbf, hsv, hpa, hou, hip, hcm⟩ := id hT
                  refine j_iast (pc := 402) hX dX3_readCommand_402 (by assumption) (h0.1 _ (by decide)) (by assumption) (fun H_402 w_402 n_402 => ?_)
                  rw [nI_clamp (by omega)] at n_402
                  have hT := tw_cmd hT w_402 n_402
                  have hF := JFr.put hF w_402 (fun _ => ⟨15, by decide, rfl⟩)
                  obtain ⟨h0, ho, hs, hbf, hsv, hpa, hou, hip, hcm⟩ := id hT
                  refine j_goto (pc := 403) (tgt := 424) hX dX3_readCommand_403 (by decide) ?_
                  exact j_vret hX hQ hr dX3_readCommand_424 ⟨rfl, hF, hT⟩
              · rw [if_pos c_311] at hQ
                first | refine j_aload_n (pc := 314) hX dX3_readCommand_314 rfl rfl ?_ | refine j_aload_nq (pc := 314) hX dX3_readCommand_314 rfl rfl ?_
                refine j_ldcSW (pc := 315) hX q2945 dX3_readCommand_315 ?_
                refine j_runv (pc := 318) (jr_V (pc := 318) hX kv_X3_252 (by first | assumption | exact jow.r (by assumption)) (c_skipQ _ _ _ (q) hT L hI (hi) _ (txP (by simp))) (by decide) dX3_readCommand_318 rfl rfl (Nat.le_of_ble_eq_true rfl)) (fun H_318 p_318 z_318 => ?_) jno_x
                have hF := JFr.trans hF p_318.1
                have hT := p_318.2
                obtain ⟨h0, ho, hs, hbf, hsv, hpa, hou, hip, hcm⟩ := id hT
                first | refine j_aload_n (pc := 321) hX dX3_readCommand_321 rfl rfl ?_ | refine j_aload_nq (pc := 321) hX dX3_readCommand_321 rfl rfl ?_
                refine j_get (pc := 322) hX kg_X3_36 dX3_readCommand_322 (by first | assumption | exact jow.r (by assumption)) (by rfl) ?_
                refine j_iload_n (pc := 325) hX dX3_readCommand_325 rfl rfl ?_
                refine j_iconst (pc := 326) (v := 2) hX dX3_readCommand_326 (by decide) ?_
                refine j_iadd (pc := 327) hX dX3_readCommand_327 ?_
                rw [show nI (5 * n) + 2 = nI (5 * n + 2) from nI_add _ 2]
                first | refine j_aload_n (pc := 328) hX dX3_readCommand_328 rfl rfl ?_ | refine j_aload_nq (pc := 328) hX dX3_readCommand_328 rfl rfl ?_
                refine j_iconst (pc := 329) (v := 1) hX dX3_readCommand_329 (by decide) ?_
                refine j_runi (pc := 330) (jr_V (pc := 330) hX kv_X3_256 (by first | assumption | exact jow.r (by assumption)) (c_numQ _ _ _ ((skT L "hire " q)) hT L hI (skT_le (txP (by simp)) (hi)) 1 (by omega)) (by decide) dX3_readCommand_330 rfl rfl (Nat.le_of_ble_eq_true rfl)) (fun r_330 H_330 p_330 z_330 => ?_) jno_x
                obtain ⟨hR, rfl⟩ := p_330
                have hF := JFr.trans hF hR.1
                have hT := hR.2
                obtain ⟨h0, ho, hs, hbf, hsv, hpa, hou, hip, hcm⟩ := id hT
                refine j_iast (pc := 333) hX dX3_readCommand_333 (by assumption) (h0.1 _ (by decide)) (by assumption) (fun H_333 w_333 n_333 => ?_)
                rw [nI_clamp (by omega)] at n_333
                have hT := tw_cmd hT w_333 n_333
                have hF := JFr.put hF w_333 (fun _ => ⟨15, by decide, rfl⟩)
                obtain ⟨h0, ho, hs, hbf, hsv, hpa, hou, hip, hcm⟩ := id hT
                first | refine j_aload_n (pc := 334) hX dX3_readCommand_334 rfl rfl ?_ | refine j_aload_nq (pc := 334) hX dX3_readCommand_334 rfl rfl ?_
                refine j_ldcSW (pc := 335) hX q2946 dX3_readCommand_335 ?_
                refine j_runv (pc := 338) (jr_V (pc := 338) hX kv_X3_252 (by first | assumption | exact jow.r (by assumption)) (c_skipQ _ _ _ ((rnN L 1 (skT L "hire " q)).1) hT L hI (rnN_le hc (by omega) (skT_le (txP (by simp)) (hi))) _ (txP (by simp))) (by decide) dX3_readCommand_338 rfl rfl (Nat.le_of_ble_eq_true rfl)) (fun H_338 p_338 z_338 => ?_) jno_x
                have hF := JFr.trans hF p_338.1
                have hT := p_338.2
                obtain ⟨h0, ho, hs, hbf, hsv, hpa, hou, hip, hcm⟩ := id hT
                first | refine j_aload_n (pc := 341) hX dX3_readCommand_341 rfl rfl ?_ | refine j_aload_nq (pc := 341) hX dX3_readCommand_341 rfl rfl ?_
                refine j_get (pc := 342) hX kg_X3_36 dX3_readCommand_342 (by first | assumption | exact jow.r (by assumption)) (by rfl) ?_
                refine j_iload_n (pc := 345) hX dX3_readCommand_345 rfl rfl ?_
                refine j_iconst (pc := 346) (v := 3) hX dX3_readCommand_346 (by decide) ?_
                refine j_iadd (pc := 347) hX dX3_readCommand_347 ?_
                rw [show nI (5 * n) + 3 = nI (5 * n + 3) from nI_add _ 3]
                first | refine j_aload_n (pc := 348) hX dX3_readCommand_348 rfl rfl ?_ | refine j_aload_nq (pc := 348) hX dX3_readCommand_348 rfl rfl ?_
                refine j_iconst (pc := 349) (v := 3) hX dX3_readCommand_349 (by decide) ?_
                refine j_runi (pc := 350) (jr_V (pc := 350) hX kv_X3_256 (by first | assumption | exact jow.r (by assumption)) (c_numQ _ _ _ ((skT L "<" (rnN L 1 (skT L "hire " q)).1)) hT L hI (skT_le (txP (by simp)) (rnN_le hc (by omega) (skT_le (txP (by simp)) (hi)))) 3 (by omega)) (by decide) dX3_readCommand_350 rfl rfl (Nat.le_of_ble_eq_true rfl)) (fun r_350 H_350 p_350 z_350 => ?_) jno_x
                obtain ⟨hR, rfl⟩ := p_350
                have hF := JFr.trans hF hR.1
                have hT := hR.2
                obtain ⟨h0, ho, hs, hbf, hsv, hpa, hou, hip, hcm⟩ := id hT
                refine j_iast (pc := 353) hX dX3_readCommand_353 (by assumption) (h0.1 _ (by decide)) (by assumption) (fun H_353 w_353 n_353 => ?_)
                rw [nI_clamp (by omega)] at n_353
                have hT := tw_cmd hT w_353 n_353
                have hF := JFr.put hF w_353 (fun _ => ⟨15, by decide, rfl⟩)
                obtain ⟨h0, ho, hs, hbf, hsv, hpa, hou, hip, hcm⟩ := id hT
                refine j_goto (pc := 354) (tgt := 424) hX dX3_readCommand_354 (by decide) ?_
                exact j_vret hX hQ hr dX3_readCommand_424 ⟨rfl, hF, hT⟩
            · rw [if_pos c_282] at hQ
              first | refine j_aload_n (pc := 285) hX dX3_readCommand_285 rfl rfl ?_ | refine j_aload_nq (pc := 285) hX dX3_readCommand_285 rfl rfl ?_
              refine j_ldcSW (pc := 286) hX q2944 dX3_readCommand_286 ?_
              refine j_runv (pc := 289) (jr_V (pc := 289) hX kv_X3_252 (by first | assumption | exact jow.r (by assumption)) (c_skipQ _ _ _ (q) hT L hI (hi) _ (txP (by simp))) (by decide) dX3_readCommand_289 rfl rfl (Nat.le_of_ble_eq_true rfl)) (fun H_289 p_289 z_289 => ?_) jno_x
              have hF := JFr.trans hF p_289.1
              have hT := p_289.2
              obtain ⟨h0, ho, hs, hbf, hsv, hpa, hou, hip, hcm⟩ := id hT
              first | refine j_aload_n (pc := 292) hX dX3_readCommand_292 rfl rfl ?_ | refine j_aload_nq (pc := 292) hX dX3_readCommand_292 rfl rfl ?_
              refine j_get (pc := 293) hX kg_X3_36 dX3_readCommand_293 (by first | assumption | exact jow.r (by assumption)) (by rfl) ?_
              refine j_iload_n (pc := 296) hX dX3_readCommand_296 rfl rfl ?_
              refine j_iconst (pc := 297) (v := 2) hX dX3_readCommand_297 (by decide) ?_
              refine j_iadd (pc := 298) hX dX3_readCommand_298 ?_
              rw [show nI (5 * n) + 2 = nI (5 * n + 2) from nI_add _ 2]
              first | refine j_aload_n (pc := 299) hX dX3_readCommand_299 rfl rfl ?_ | refine j_aload_nq (pc := 299) hX dX3_readCommand_299 rfl rfl ?_
              refine j_iconst (pc := 300) (v := 1) hX dX3_readCommand_300 (by decide) ?_
              refine j_runi (pc := 301) (jr_V (pc := 301) hX kv_X3_256 (by first | assumption | exact jow.r (by assumption)) (c_numQ _ _ _ ((skT L "close " q)) hT L hI (skT_le (txP (by simp)) (hi)) 1 (by omega)) (by decide) dX3_readCommand_301 rfl rfl (Nat.le_of_ble_eq_true rfl)) (fun r_301 H_301 p_301 z_301 => ?_) jno_x
              obtain ⟨hR, rfl⟩ := p_301
              have hF := JFr.trans hF hR.1
              have hT := hR.2
              obtain ⟨h0, ho, hs, hbf, hsv, hpa, hou, hip, hcm⟩ := id hT
              refine j_iast (pc := 304) hX dX3_readCommand_304 (by assumption) (h0.1 _ (by decide)) (by assumption) (fun H_304 w_304 n_304 => ?_)
              rw [nI_clamp (by omega)] at n_304
              have hT := tw_cmd hT w_304 n_304
              have hF := JFr.put hF w_304 (fun _ => ⟨15, by decide, rfl⟩)
              obtain ⟨h0, ho, hs, hbf, hsv, hpa, hou, hip, hcm⟩ := id hT
              refine j_goto (pc := 305) (tgt := 424) hX dX3_readCommand_305 (by decide) ?_
              exact j_vret hX hQ hr dX3_readCommand_424 ⟨rfl, hF, hT⟩
          · rw [if_pos c_253] at hQ
            first | refine j_aload_n (pc := 256) hX dX3_readCommand_256 rfl rfl ?_ | refine j_aload_nq (pc := 256) hX dX3_readCommand_256 rfl rfl ?_
            refine j_ldcSW (pc := 257) hX q2943 dX3_readCommand_257 ?_
            refine j_runv (pc := 260) (jr_V (pc := 260) hX kv_X3_252 (by first | assumption | exact jow.r (by assumption)) (c_skipQ _ _ _ (q) hT L hI (hi) _ (txP (by simp))) (by decide) dX3_readCommand_260 rfl rfl (Nat.le_of_ble_eq_true rfl)) (fun H_260 p_260 z_260 => ?_) jno_x
            have hF := JFr.trans hF p_260.1
            have hT := p_260.2
            obtain ⟨h0, ho, hs, hbf, hsv, hpa, hou, hip, hcm⟩ := id hT
            first | refine j_aload_n (pc := 263) hX dX3_readCommand_263 rfl rfl ?_ | refine j_aload_nq (pc := 263) hX dX3_readCommand_263 rfl rfl ?_
            refine j_get (pc := 264) hX kg_X3_36 dX3_readCommand_264 (by first | assumption | exact jow.r (by assumption)) (by rfl) ?_
            refine j_iload_n (pc := 267) hX dX3_readCommand_267 rfl rfl ?_
            refine j_iconst (pc := 268) (v := 2) hX dX3_readCommand_268 (by decide) ?_
            refine j_iadd (pc := 269) hX dX3_readCommand_269 ?_
            rw [show nI (5 * n) + 2 = nI (5 * n + 2) from nI_add _ 2]
            first | refine j_aload_n (pc := 270) hX dX3_readCommand_270 rfl rfl ?_ | refine j_aload_nq (pc := 270) hX dX3_readCommand_270 rfl rfl ?_
            refine j_iconst (pc := 271) (v := 3) hX dX3_readCommand_271 (by decide) ?_
            refine j_runi (pc := 272) (jr_V (pc := 272) hX kv_X3_256 (by first | assumption | exact jow.r (by assumption)) (c_numQ _ _ _ ((skT L "leave " q)) hT L hI (skT_le (txP (by simp)) (hi)) 3 (by omega)) (by decide) dX3_readCommand_272 rfl rfl (Nat.le_of_ble_eq_true rfl)) (fun r_272 H_272 p_272 z_272 => ?_) jno_x
            obtain ⟨hR, rfl⟩ := p_272
            have hF := JFr.trans hF hR.1
            have hT := hR.2
            obtain ⟨h0, ho, hs, hbf, hsv, hpa, hou, hip, hcm⟩ := id hT
            refine j_iast (pc := 275) hX dX3_readCommand_275 (by assumption) (h0.1 _ (by decide)) (by assumption) (fun H_275 w_275 n_275 => ?_)
            rw [nI_clamp (by omega)] at n_275
            have hT := tw_cmd hT w_275 n_275
            have hF := JFr.put hF w_275 (fun _ => ⟨15, by decide, rfl⟩)
            obtain ⟨h0, ho, hs, hbf, hsv, hpa, hou, hip, hcm⟩ := id hT
            refine j_goto (pc := 276) (tgt := 424) hX dX3_readCommand_276 (by decide) ?_
            exact j_vret hX hQ hr dX3_readCommand_424 ⟨rfl, hF, hT⟩
        · rw [if_pos c_171] at hQ
          first | refine j_aload_n (pc := 174) hX dX3_readCommand_174 rfl rfl ?_ | refine j_aload_nq (pc := 174) hX dX3_readCommand_174 rfl rfl ?_
          refine j_ldcSW (pc := 175) hX q2941 dX3_readCommand_175 ?_
          refine j_runv (pc := 178) (jr_V (pc := 178) hX kv_X3_252 (by first | assumption | exact jow.r (by assumption)) (c_skipQ _ _ _ (q) hT L hI (hi) _ (txP (by simp))) (by decide) dX3_readCommand_178 rfl rfl (Nat.le_of_ble_eq_true rfl)) (fun H_178 p_178 z_178 => ?_) jno_x
          have hF := JFr.trans hF p_178.1
          have hT := p_178.2
          obtain ⟨h0, ho, hs, hbf, hsv, hpa, hou, hip, hcm⟩ := id hT
          first | refine j_aload_n (pc := 181) hX dX3_readCommand_181 rfl rfl ?_ | refine j_aload_nq (pc := 181) hX dX3_readCommand_181 rfl rfl ?_
          refine j_get (pc := 182) hX kg_X3_36 dX3_readCommand_182 (by first | assumption | exact jow.r (by assumption)) (by rfl) ?_
          refine j_iload_n (pc := 185) hX dX3_readCommand_185 rfl rfl ?_
          refine j_iconst (pc := 186) (v := 1) hX dX3_readCommand_186 (by decide) ?_
          refine j_iadd (pc := 187) hX dX3_readCommand_187 ?_
          rw [show nI (5 * n) + 1 = nI (5 * n + 1) from nI_add _ 1]
          first | refine j_aload_n (pc := 188) hX dX3_readCommand_188 rfl rfl ?_ | refine j_aload_nq (pc := 188) hX dX3_readCommand_188 rfl rfl ?_
          refine j_iconst (pc := 189) (v := 1) hX dX3_readCommand_189 (by decide) ?_
          refine j_runi (pc := 190) (jr_V (pc := 190) hX kv_X3_261 (by first | assumption | exact jow.r (by assumption)) (c_shpQ _ _ _ ((skT L "post " q)) hT L hI (skT_le (txP (by simp)) (hi)) true) (by decide) dX3_readCommand_190 rfl rfl (Nat.le_of_ble_eq_true rfl)) (fun r_190 H_190 p_190 z_190 => ?_) jno_x
          obtain ⟨hR, rfl⟩ := p_190
          have hF := JFr.trans hF hR.1
          have hT := hR.2
          obtain ⟨h0, ho, hs, hbf, hsv, hpa, hou, hip, hcm⟩ := id hT
          refine j_iast (pc := 193) hX dX3_readCommand_193 (by assumption) (h0.1 _ (by decide)) (by assumption) (fun H_193 w_193 n_193 => ?_)
          rw [nI_clamp (by omega)] at n_193
          have hT := tw_cmd hT w_193 n_193
          have hF := JFr.put hF w_193 (fun _ => ⟨15, by decide, rfl⟩)
          obtain ⟨h0, ho, hs, hbf, hsv, hpa, hou, hip, hcm⟩ := id hT
          first | refine j_aload_n (pc := 194) hX dX3_readCommand_194 rfl rfl ?_ | refine j_aload_nq (pc := 194) hX dX3_readCommand_194 rfl rfl ?_
          refine j_get (pc := 195) hX kg_X3_36 dX3_readCommand_195 (by first | assumption | exact jow.r (by assumption)) (by rfl) ?_
          refine j_iload_n (pc := 198) hX dX3_readCommand_198 rfl rfl ?_
          refine j_iconst (pc := 199) (v := 2) hX dX3_readCommand_199 (by decide) ?_
          refine j_iadd (pc := 200) hX dX3_readCommand_200 ?_
          rw [show nI (5 * n) + 2 = nI (5 * n + 2) from nI_add _ 2]
          first | refine j_aload_n (pc := 201) hX dX3_readCommand_201 rfl rfl ?_ | refine j_aload_nq (pc := 201) hX dX3_readCommand_201 rfl rfl ?_
          refine j_iconst (pc := 202) (v := 3) hX dX3_readCommand_202 (by decide) ?_
          refine j_runi (pc := 203) (jr_V (pc := 203) hX kv_X3_256 (by first | assumption | exact jow.r (by assumption)) (c_numQ _ _ _ ((shN L true (skT L "post " q))) hT L hI (shN_le (skT_le (txP (by simp)) (hi))) 3 (by omega)) (by decide) dX3_readCommand_203 rfl rfl (Nat.le_of_ble_eq_true rfl)) (fun r_203 H_203 p_203 z_203 => ?_) jno_x
          obtain ⟨hR, rfl⟩ := p_203
          have hF := JFr.trans hF hR.1
          have hT := hR.2
          obtain ⟨h0, ho, hs, hbf, hsv, hpa, hou, hip, hcm⟩ := id hT
          refine j_iast (pc := 206) hX dX3_readCommand_206 (by assumption) (h0.1 _ (by decide)) (by assumption) (fun H_206 w_206 n_206 => ?_)
          rw [nI_clamp (by omega)] at n_206
          have hT := tw_cmd hT w_206 n_206
          have hF := JFr.put hF w_206 (fun _ => ⟨15, by decide, rfl⟩)
          obtain ⟨h0, ho, hs, hbf, hsv, hpa, hou, hip, hcm⟩ := id hT
          first | refine j_aload_n (pc := 207) hX dX3_readCommand_207 rfl rfl ?_ | refine j_aload_nq (pc := 207) hX dX3_readCommand_207 rfl rfl ?_
          refine j_ldcSW (pc := 208) hX q2940 dX3_readCommand_208 ?_
          refine j_runv (pc := 211) (jr_V (pc := 211) hX kv_X3_252 (by first | assumption | exact jow.r (by assumption)) (c_skipQ _ _ _ ((rnN L 3 (shN L true (skT L "post " q))).1) hT L hI (rnN_le hc (by omega) (shN_le (skT_le (txP (by simp)) (hi)))) _ (txP (by simp))) (by decide) dX3_readCommand_211 rfl rfl (Nat.le_of_ble_eq_true rfl)) (fun H_211 p_211 z_211 => ?_) jno_x
          have hF := JFr.trans hF p_211.1
          have hT := p_211.2
          obtain ⟨h0, ho, hs, hbf, hsv, hpa, hou, hip, hcm⟩ := id hT
          first | refine j_aload_n (pc := 214) hX dX3_readCommand_214 rfl rfl ?_ | refine j_aload_nq (pc := 214) hX dX3_readCommand_214 rfl rfl ?_
          refine j_get (pc := 215) hX kg_X3_36 dX3_readCommand_215 (by first | assumption | exact jow.r (by assumption)) (by rfl) ?_
          refine j_iload_n (pc := 218) hX dX3_readCommand_218 rfl rfl ?_
          refine j_iconst (pc := 219) (v := 3) hX dX3_readCommand_219 (by decide) ?_
          refine j_iadd (pc := 220) hX dX3_readCommand_220 ?_
          rw [show nI (5 * n) + 3 = nI (5 * n + 3) from nI_add _ 3]
          first | refine j_aload_n (pc := 221) hX dX3_readCommand_221 rfl rfl ?_ | refine j_aload_nq (pc := 221) hX dX3_readCommand_221 rfl rfl ?_
          refine j_iconst (pc := 222) (v := 3) hX dX3_readCommand_222 (by decide) ?_
          refine j_runi (pc := 223) (jr_V (pc := 223) hX kv_X3_256 (by first | assumption | exact jow.r (by assumption)) (c_numQ _ _ _ ((skT L "/" (rnN L 3 (shN L true (skT L "post " q))).1)) hT L hI (skT_le (txP (by simp)) (rnN_le hc (by omega) (shN_le (skT_le (txP (by simp)) (hi))))) 3 (by omega)) (by decide) dX3_readCommand_223 rfl rfl (Nat.le_of_ble_eq_true rfl)) (fun r_223 H_223 p_223 z_223 => ?_) jno_x
          obtain ⟨hR, rfl⟩ := p_223
          have hF := JFr.trans hF hR.1
          have hT := hR.2
          obtain ⟨h0, ho, hs, hbf, hsv, hpa, hou, hip, hcm⟩ := id hT
          refine j_iast (pc := 226) hX dX3_readCommand_226 (by assumption) (h0.1 _ (by decide)) (by assumption) (fun H_226 w_226 n_226 => ?_)
          rw [nI_clamp (by omega)] at n_226
          have hT := tw_cmd hT w_226 n_226
          have hF := JFr.put hF w_226 (fun _ => ⟨15, by decide, rfl⟩)
          obtain ⟨h0, ho, hs, hbf, hsv, hpa, hou, hip, hcm⟩ := id hT
          first | refine j_aload_n (pc := 227) hX dX3_readCommand_227 rfl rfl ?_ | refine j_aload_nq (pc := 227) hX dX3_readCommand_227 rfl rfl ?_
          refine j_ldcSW (pc := 228) hX q2942 dX3_readCommand_228 ?_
          refine j_runv (pc := 231) (jr_V (pc := 231) hX kv_X3_252 (by first | assumption | exact jow.r (by assumption)) (c_skipQ _ _ _ ((rnN L 3 (skT L "/" (rnN L 3 (shN L true (skT L "post " q))).1)).1) hT L hI (rnN_le hc (by omega) (skT_le (txP (by simp)) (rnN_le hc (by omega) (shN_le (skT_le (txP (by simp)) (hi)))))) _ (txP (by simp))) (by decide) dX3_readCommand_231 rfl rfl (Nat.le_of_ble_eq_true rfl)) (fun H_231 p_231 z_231 => ?_) jno_x
          have hF := JFr.trans hF p_231.1
          have hT := p_231.2
          obtain ⟨h0, ho, hs, hbf, hsv, hpa, hou, hip, hcm⟩ := id hT
          first | refine j_aload_n (pc := 234) hX dX3_readCommand_234 rfl rfl ?_ | refine j_aload_nq (pc := 234) hX dX3_readCommand_234 rfl rfl ?_
          refine j_get (pc := 235) hX kg_X3_36 dX3_readCommand_235 (by first | assumption | exact jow.r (by assumption)) (by rfl) ?_
          refine j_iload_n (pc := 238) hX dX3_readCommand_238 rfl rfl ?_
          refine j_iconst (pc := 239) (v := 4) hX dX3_readCommand_239 (by decide) ?_
          refine j_iadd (pc := 240) hX dX3_readCommand_240 ?_
          rw [show nI (5 * n) + 4 = nI (5 * n + 4) from nI_add _ 4]
          first | refine j_aload_n (pc := 241) hX dX3_readCommand_241 rfl rfl ?_ | refine j_aload_nq (pc := 241) hX dX3_readCommand_241 rfl rfl ?_
          refine j_iconst (pc := 242) (v := 3) hX dX3_readCommand_242 (by decide) ?_
          refine j_runi (pc := 243) (jr_V (pc := 243) hX kv_X3_256 (by first | assumption | exact jow.r (by assumption)) (c_numQ _ _ _ ((skT L "=" (rnN L 3 (skT L "/" (rnN L 3 (shN L true (skT L "post " q))).1)).1)) hT L hI (skT_le (txP (by simp)) (rnN_le hc (by omega) (skT_le (txP (by simp)) (rnN_le hc (by omega) (shN_le (skT_le (txP (by simp)) (hi))))))) 3 (by omega)) (by decide) dX3_readCommand_243 rfl rfl (Nat.le_of_ble_eq_true rfl)) (fun r_243 H_243 p_243 z_243 => ?_) jno_x
          obtain ⟨hR, rfl⟩ := p_243
          have hF := JFr.trans hF hR.1
          have hT := hR.2
          obtain ⟨h0, ho, hs, hbf, hsv, hpa, hou, hip, hcm⟩ := id hT
          refine j_iast (pc := 246) hX dX3_readCommand_246 (by assumption) (h0.1 _ (by decide)) (by assumption) (fun H_246 w_246 n_246 => ?_)
          rw [nI_clamp (by omega)] at n_246
          have hT := tw_cmd hT w_246 n_246
          have hF := JFr.put hF w_246 (fun _ => ⟨15, by decide, rfl⟩)
          obtain ⟨h0, ho, hs, hbf, hsv, hpa, hou, hip, hcm⟩ := id hT
          refine j_goto (pc := 247) (tgt := 424) hX dX3_readCommand_247 (by decide) ?_
          exact j_vret hX hQ hr dX3_readCommand_424 ⟨rfl, hF, hT⟩
      · rw [if_pos c_109] at hQ
        first | refine j_aload_n (pc := 112) hX dX3_readCommand_112 rfl rfl ?_ | refine j_aload_nq (pc := 112) hX dX3_readCommand_112 rfl rfl ?_
        refine j_ldcSW (pc := 113) hX q2935 dX3_readCommand_113 ?_
        refine j_runv (pc := 116) (jr_V (pc := 116) hX kv_X3_252 (by first | assumption | exact jow.r (by assumption)) (c_skipQ _ _ _ (q) hT L hI (hi) _ (txP (by simp))) (by decide) dX3_readCommand_116 rfl rfl (Nat.le_of_ble_eq_true rfl)) (fun H_116 p_116 z_116 => ?_) jno_x
        have hF := JFr.trans hF p_116.1
        have hT := p_116.2
        obtain ⟨h0, ho, hs, hbf, hsv, hpa, hou, hip, hcm⟩ := id hT
        first | refine j_aload_n (pc := 119) hX dX3_readCommand_119 rfl rfl ?_ | refine j_aload_nq (pc := 119) hX dX3_readCommand_119 rfl rfl ?_
        refine j_get (pc := 120) hX kg_X3_36 dX3_readCommand_120 (by first | assumption | exact jow.r (by assumption)) (by rfl) ?_
        refine j_iload_n (pc := 123) hX dX3_readCommand_123 rfl rfl ?_
        refine j_iconst (pc := 124) (v := 1) hX dX3_readCommand_124 (by decide) ?_
        refine j_iadd (pc := 125) hX dX3_readCommand_125 ?_
        rw [show nI (5 * n) + 1 = nI (5 * n + 1) from nI_add _ 1]
        first | refine j_aload_n (pc := 126) hX dX3_readCommand_126 rfl rfl ?_ | refine j_aload_nq (pc := 126) hX dX3_readCommand_126 rfl rfl ?_
        refine j_iconst (pc := 127) (v := 0) hX dX3_readCommand_127 (by decide) ?_
        refine j_runi (pc := 128) (jr_V (pc := 128) hX kv_X3_261 (by first | assumption | exact jow.r (by assumption)) (c_shpQ _ _ _ ((skT L "apply " q)) hT L hI (skT_le (txP (by simp)) (hi)) false) (by decide) dX3_readCommand_128 rfl rfl (Nat.le_of_ble_eq_true rfl)) (fun r_128 H_128 p_128 z_128 => ?_) jno_x
        obtain ⟨hR, rfl⟩ := p_128
        have hF := JFr.trans hF hR.1
        have hT := hR.2
        obtain ⟨h0, ho, hs, hbf, hsv, hpa, hou, hip, hcm⟩ := id hT
        refine j_iast (pc := 131) hX dX3_readCommand_131 (by assumption) (h0.1 _ (by decide)) (by assumption) (fun H_131 w_131 n_131 => ?_)
        rw [nI_clamp (by omega)] at n_131
        have hT := tw_cmd hT w_131 n_131
        have hF := JFr.put hF w_131 (fun _ => ⟨15, by decide, rfl⟩)
        obtain ⟨h0, ho, hs, hbf, hsv, hpa, hou, hip, hcm⟩ := id hT
        first | refine j_aload_n (pc := 132) hX dX3_readCommand_132 rfl rfl ?_ | refine j_aload_nq (pc := 132) hX dX3_readCommand_132 rfl rfl ?_
        refine j_get (pc := 133) hX kg_X3_36 dX3_readCommand_133 (by first | assumption | exact jow.r (by assumption)) (by rfl) ?_
        refine j_iload_n (pc := 136) hX dX3_readCommand_136 rfl rfl ?_
        refine j_iconst (pc := 137) (v := 2) hX dX3_readCommand_137 (by decide) ?_
        refine j_iadd (pc := 138) hX dX3_readCommand_138 ?_
        rw [show nI (5 * n) + 2 = nI (5 * n + 2) from nI_add _ 2]
        first | refine j_aload_n (pc := 139) hX dX3_readCommand_139 rfl rfl ?_ | refine j_aload_nq (pc := 139) hX dX3_readCommand_139 rfl rfl ?_
        refine j_iconst (pc := 140) (v := 3) hX dX3_readCommand_140 (by decide) ?_
        refine j_runi (pc := 141) (jr_V (pc := 141) hX kv_X3_256 (by first | assumption | exact jow.r (by assumption)) (c_numQ _ _ _ ((shN L false (skT L "apply " q))) hT L hI (shN_le (skT_le (txP (by simp)) (hi))) 3 (by omega)) (by decide) dX3_readCommand_141 rfl rfl (Nat.le_of_ble_eq_true rfl)) (fun r_141 H_141 p_141 z_141 => ?_) jno_x
        obtain ⟨hR, rfl⟩ := p_141
        have hF := JFr.trans hF hR.1
        have hT := hR.2
        obtain ⟨h0, ho, hs, hbf, hsv, hpa, hou, hip, hcm⟩ := id hT
        refine j_iast (pc := 144) hX dX3_readCommand_144 (by assumption) (h0.1 _ (by decide)) (by assumption) (fun H_144 w_144 n_144 => ?_)
        rw [nI_clamp (by omega)] at n_144
        have hT := tw_cmd hT w_144 n_144
        have hF := JFr.put hF w_144 (fun _ => ⟨15, by decide, rfl⟩)
        obtain ⟨h0, ho, hs, hbf, hsv, hpa, hou, hip, hcm⟩ := id hT
        first | refine j_aload_n (pc := 145) hX dX3_readCommand_145 rfl rfl ?_ | refine j_aload_nq (pc := 145) hX dX3_readCommand_145 rfl rfl ?_
        refine j_ldcSW (pc := 146) hX q2940 dX3_readCommand_146 ?_
        refine j_runv (pc := 149) (jr_V (pc := 149) hX kv_X3_252 (by first | assumption | exact jow.r (by assumption)) (c_skipQ _ _ _ ((rnN L 3 (shN L false (skT L "apply " q))).1) hT L hI (rnN_le hc (by omega) (shN_le (skT_le (txP (by simp)) (hi)))) _ (txP (by simp))) (by decide) dX3_readCommand_149 rfl rfl (Nat.le_of_ble_eq_true rfl)) (fun H_149 p_149 z_149 => ?_) jno_x
        have hF := JFr.trans hF p_149.1
        have hT := p_149.2
        obtain ⟨h0, ho, hs, hbf, hsv, hpa, hou, hip, hcm⟩ := id hT
        first | refine j_aload_n (pc := 152) hX dX3_readCommand_152 rfl rfl ?_ | refine j_aload_nq (pc := 152) hX dX3_readCommand_152 rfl rfl ?_
        refine j_get (pc := 153) hX kg_X3_36 dX3_readCommand_153 (by first | assumption | exact jow.r (by assumption)) (by rfl) ?_
        refine j_iload_n (pc := 156) hX dX3_readCommand_156 rfl rfl ?_
        refine j_iconst (pc := 157) (v := 3) hX dX3_readCommand_157 (by decide) ?_
        refine j_iadd (pc := 158) hX dX3_readCommand_158 ?_
        rw [show nI (5 * n) + 3 = nI (5 * n + 3) from nI_add _ 3]
        first | refine j_aload_n (pc := 159) hX dX3_readCommand_159 rfl rfl ?_ | refine j_aload_nq (pc := 159) hX dX3_readCommand_159 rfl rfl ?_
        refine j_iconst (pc := 160) (v := 3) hX dX3_readCommand_160 (by decide) ?_
        refine j_runi (pc := 161) (jr_V (pc := 161) hX kv_X3_256 (by first | assumption | exact jow.r (by assumption)) (c_numQ _ _ _ ((skT L "/" (rnN L 3 (shN L false (skT L "apply " q))).1)) hT L hI (skT_le (txP (by simp)) (rnN_le hc (by omega) (shN_le (skT_le (txP (by simp)) (hi))))) 3 (by omega)) (by decide) dX3_readCommand_161 rfl rfl (Nat.le_of_ble_eq_true rfl)) (fun r_161 H_161 p_161 z_161 => ?_) jno_x
        obtain ⟨hR, rfl⟩ := p_161
        have hF := JFr.trans hF hR.1
        have hT := hR.2
        obtain ⟨h0, ho, hs, hbf, hsv, hpa, hou, hip, hcm⟩ := id hT
        refine j_iast (pc := 164) hX dX3_readCommand_164 (by assumption) (h0.1 _ (by decide)) (by assumption) (fun H_164 w_164 n_164 => ?_)
        rw [nI_clamp (by omega)] at n_164
        have hT := tw_cmd hT w_164 n_164
        have hF := JFr.put hF w_164 (fun _ => ⟨15, by decide, rfl⟩)
        obtain ⟨h0, ho, hs, hbf, hsv, hpa, hou, hip, hcm⟩ := id hT
        refine j_goto (pc := 165) (tgt := 424) hX dX3_readCommand_165 (by decide) ?_
        exact j_vret hX hQ hr dX3_readCommand_424 ⟨rfl, hF, hT⟩
    · have e77 := True.intro
      rw [if_pos c_66] at hQ
      first | refine j_aload_n (pc := 69) hX dX3_readCommand_69 rfl rfl ?_ | refine j_aload_nq (pc := 69) hX dX3_readCommand_69 rfl rfl ?_
      first | refine j_aload_n (pc := 70) hX dX3_readCommand_70 rfl rfl ?_ | refine j_aload_nq (pc := 70) hX dX3_readCommand_70 rfl rfl ?_
      refine j_iconst (pc := 71) (v := 0) hX dX3_readCommand_71 (by decide) ?_
      refine j_rune (pc := 72) (jr_V (pc := 72) hX kv_X3_234 (by first | assumption | exact jow.r (by assumption)) (c_X3_behind _ _ _ hT q.1 0 q.2 (by omega) (by omega) _ rfl L hI) (by decide) dX3_readCommand_72 rfl rfl (Nat.le_of_ble_eq_true rfl)) ?_ jno_x
      refine j_bipush (pc := 75) (v := 100) hX dX3_readCommand_75 (by decide) ?_
      refine j_icmp_ne (pc := 77) (tgt := 85) hX dX3_readCommand_77 (by decide) (fun c_77 => ?_) (fun c_77 => ?_)
      · rw [Nat.add_zero] at c_77
        rw [if_neg c_77] at hQ
        refine j_ldcS (pc := 85) hX q2920 dX3_readCommand_85 ?_
        refine j_runv (pc := 87) (jr_V (pc := 87) hX kv_X3_252 (by first | assumption | exact jow.r (by assumption)) (c_skipQ _ _ _ (q) hT L hI (hi) _ (txP (by simp))) (by decide) dX3_readCommand_87 rfl rfl (Nat.le_of_ble_eq_true rfl)) (fun H_87 p_87 z_87 => ?_) jno_x
        have hF := JFr.trans hF p_87.1
        have hT := p_87.2
        obtain ⟨h0, ho, hs, hbf, hsv, hpa, hou, hip, hcm⟩ := id hT
        first | refine j_aload_n (pc := 90) hX dX3_readCommand_90 rfl rfl ?_ | refine j_aload_nq (pc := 90) hX dX3_readCommand_90 rfl rfl ?_
        refine j_get (pc := 91) hX kg_X3_36 dX3_readCommand_91 (by first | assumption | exact jow.r (by assumption)) (by rfl) ?_
        refine j_iload_n (pc := 94) hX dX3_readCommand_94 rfl rfl ?_
        refine j_iconst (pc := 95) (v := 2) hX dX3_readCommand_95 (by decide) ?_
        refine j_iadd (pc := 96) hX dX3_readCommand_96 ?_
        rw [show nI (5 * n) + 2 = nI (5 * n + 2) from nI_add _ 2]
        first | refine j_aload_n (pc := 97) hX dX3_readCommand_97 rfl rfl ?_ | refine j_aload_nq (pc := 97) hX dX3_readCommand_97 rfl rfl ?_
        refine j_iconst (pc := 98) (v := 1) hX dX3_readCommand_98 (by decide) ?_
        refine j_runi (pc := 99) (jr_V (pc := 99) hX kv_X3_256 (by first | assumption | exact jow.r (by assumption)) (c_numQ _ _ _ _ hT L hI (skT_le (txP (by simp)) hi) 1 (by omega)) (by decide) dX3_readCommand_99 rfl rfl (Nat.le_of_ble_eq_true rfl)) (fun r_99 H_99 p_99 z_99 => ?_) jno_x
        obtain ⟨hR, rfl⟩ := p_99
        have hF := JFr.trans hF hR.1
        have hT := hR.2
        obtain ⟨h0, ho, hs, hbf, hsv, hpa, hou, hip, hcm⟩ := id hT
        refine j_iast (pc := 102) hX dX3_readCommand_102 (by assumption) (h0.1 _ (by decide)) (by assumption) (fun H_102 w_102 n_102 => ?_)
        rw [nI_clamp (by omega)] at n_102
        have hT := tw_cmd hT w_102 n_102
        have hF := JFr.put hF w_102 (fun _ => ⟨15, by decide, rfl⟩)
        obtain ⟨h0, ho, hs, hbf, hsv, hpa, hou, hip, hcm⟩ := id hT
        refine j_goto (pc := 103) (tgt := 424) hX dX3_readCommand_103 (by decide) ?_
        exact j_vret hX hQ hr dX3_readCommand_424 ⟨rfl, hF, hT⟩
      · rw [Nat.add_zero] at c_77
        rw [if_pos c_77] at hQ
        refine j_ldcS (pc := 80) hX q2919 dX3_readCommand_80 ?_
        refine j_goto (pc := 82) (tgt := 87) hX dX3_readCommand_82 (by decide) ?_
        refine j_runv (pc := 87) (jr_V (pc := 87) hX kv_X3_252 (by first | assumption | exact jow.r (by assumption)) (c_skipQ _ _ _ (q) hT L hI (hi) _ (txP (by simp))) (by decide) dX3_readCommand_87 rfl rfl (Nat.le_of_ble_eq_true rfl)) (fun H_87 p_87 z_87 => ?_) jno_x
        have hF := JFr.trans hF p_87.1
        have hT := p_87.2
        obtain ⟨h0, ho, hs, hbf, hsv, hpa, hou, hip, hcm⟩ := id hT
        first | refine j_aload_n (pc := 90) hX dX3_readCommand_90 rfl rfl ?_ | refine j_aload_nq (pc := 90) hX dX3_readCommand_90 rfl rfl ?_
        refine j_get (pc := 91) hX kg_X3_36 dX3_readCommand_91 (by first | assumption | exact jow.r (by assumption)) (by rfl) ?_
        refine j_iload_n (pc := 94) hX dX3_readCommand_94 rfl rfl ?_
        refine j_iconst (pc := 95) (v := 2) hX dX3_readCommand_95 (by decide) ?_
        refine j_iadd (pc := 96) hX dX3_readCommand_96 ?_
        rw [show nI (5 * n) + 2 = nI (5 * n + 2) from nI_add _ 2]
        first | refine j_aload_n (pc := 97) hX dX3_readCommand_97 rfl rfl ?_ | refine j_aload_nq (pc := 97) hX dX3_readCommand_97 rfl rfl ?_
        refine j_iconst (pc := 98) (v := 1) hX dX3_readCommand_98 (by decide) ?_
        refine j_runi (pc := 99) (jr_V (pc := 99) hX kv_X3_256 (by first | assumption | exact jow.r (by assumption)) (c_numQ _ _ _ _ hT L hI (skT_le (txP (by simp)) hi) 1 (by omega)) (by decide) dX3_readCommand_99 rfl rfl (Nat.le_of_ble_eq_true rfl)) (fun r_99 H_99 p_99 z_99 => ?_) jno_x
        obtain ⟨hR, rfl⟩ := p_99
        have hF := JFr.trans hF hR.1
        have hT := hR.2
        obtain ⟨h0, ho, hs, hbf, hsv, hpa, hou, hip, hcm⟩ := id hT
        refine j_iast (pc := 102) hX dX3_readCommand_102 (by assumption) (h0.1 _ (by decide)) (by assumption) (fun H_102 w_102 n_102 => ?_)
        rw [nI_clamp (by omega)] at n_102
        have hT := tw_cmd hT w_102 n_102
        have hF := JFr.put hF w_102 (fun _ => ⟨15, by decide, rfl⟩)
        obtain ⟨h0, ho, hs, hbf, hsv, hpa, hou, hip, hcm⟩ := id hT
        refine j_goto (pc := 103) (tgt := 424) hX dX3_readCommand_103 (by decide) ?_
        exact j_vret hX hQ hr dX3_readCommand_424 ⟨rfl, hF, hT⟩
  have hw1 : q.2 = true → rcN L (q, cm, n) = (q, cm, n) := fun h => by unfold rcN; exact if_pos h
  first | refine j_aload_n (pc := 0) hX dX3_readCommand_0 rfl rfl ?_ | refine j_aload_nq (pc := 0) hX dX3_readCommand_0 rfl rfl ?_
  refine j_get (pc := 1) hX kg_X3_230 dX3_readCommand_1 (by first | assumption | exact jow.r (by assumption)) (by rfl) ?_
  change JW X G H 0 4 _ [.int (jb q.2)]
  refine j_if_eq (pc := 4) (tgt := 8) hX dX3_readCommand_4 (by decide) (fun c_4 => ?_) (fun c_4 => ?_)
  · rw [jb_z] at c_4
    refine j_iconst (pc := 8) (v := 5) hX dX3_readCommand_8 (by decide) ?_
    first | refine j_aload_n (pc := 9) hX dX3_readCommand_9 rfl rfl ?_ | refine j_aload_nq (pc := 9) hX dX3_readCommand_9 rfl rfl ?_
    refine j_get (pc := 10) hX kg_X3_245 dX3_readCommand_10 (by first | assumption | exact jow.r (by assumption)) (by rfl) ?_
    refine j_imul (pc := 13) hX dX3_readCommand_13 ?_
    change JW X G H 0 14 _ [.int (5 * F0 16)]
    rw [en, show (5 : Int32) * nI n = nI (5 * n) from pk_mul 5 n]
    refine j_istore_n (pc := 14) hX dX3_readCommand_14 rfl (by decide) rfl ?_
    first | refine j_aload_n (pc := 15) hX dX3_readCommand_15 rfl rfl ?_ | refine j_aload_nq (pc := 15) hX dX3_readCommand_15 rfl rfl ?_
    refine j_dup (pc := 16) hX dX3_readCommand_16 (by first | rfl | exact jrf_cat _) ?_
    refine j_get (pc := 17) hX kg_X3_245 dX3_readCommand_17 (by first | assumption | exact jow.r (by assumption)) (by rfl) ?_
    refine j_iconst (pc := 20) (v := 1) hX dX3_readCommand_20 (by decide) ?_
    refine j_iadd (pc := 21) hX dX3_readCommand_21 ?_
    change JW X G H 0 22 _ [.int (F0 16 + 1), _]
    rw [en, nI_1]
    refine j_put (pc := 22) hX kp_X3_245 dX3_readCommand_22 (by assumption) (by first | assumption | omega | exact h0.1 _ (by decide)) rfl rfl rfl (fun H_22 w_22 n_22 => ?_)
    have hT := tw_put16 hT w_22 n_22
    have hF := hF.put w_22 (fun _ => ⟨100, by decide, rfl⟩)
    rw [psF_16] at hT
    have ho := hT.2.1
    have hI : Inp ar (jup F0 16 (nI (n + 1))) L := hI0
    first | refine j_aload_n (pc := 25) hX dX3_readCommand_25 rfl rfl ?_ | refine j_aload_nq (pc := 25) hX dX3_readCommand_25 rfl rfl ?_
    refine j_iconst (pc := 26) (v := 0) hX dX3_readCommand_26 (by decide) ?_
    refine j_rune (pc := 27) (jr_V (pc := 27) hX kv_X3_234 (by first | assumption | exact jow.r (by assumption)) (c_X3_behind _ _ _ hT q.1 0 q.2 (by omega) (by omega) _ rfl L hI) (by decide) dX3_readCommand_27 rfl rfl (Nat.le_of_ble_eq_true rfl)) ?_ jno_x
    refine j_bipush (pc := 30) (v := 100) hX dX3_readCommand_30 (by decide) ?_
    refine j_icmp_ne (pc := 32) (tgt := 50) hX dX3_readCommand_32 (by decide) (fun c_32 => ?_) (fun c_32 => ?_)
    · rw [Nat.add_zero] at c_32
      first | refine j_aload_n (pc := 50) hX dX3_readCommand_50 rfl rfl ?_ | refine j_aload_nq (pc := 50) hX dX3_readCommand_50 rfl rfl ?_
      refine j_iconst (pc := 51) (v := 0) hX dX3_readCommand_51 (by decide) ?_
      refine j_rune (pc := 52) (jr_V (pc := 52) hX kv_X3_234 (by first | assumption | exact jow.r (by assumption)) (c_X3_behind _ _ _ hT q.1 0 q.2 (by omega) (by omega) _ rfl L hI) (by decide) dX3_readCommand_52 rfl rfl (Nat.le_of_ble_eq_true rfl)) ?_ jno_x
      first | exact jw_cast rfl (congrArg (fun z => [Value.int z]) (kind_1 c_32 c_42).symm) (rest c_4 _ hF hT) | exact jw_cast rfl (congrArg (fun z => [Value.int z]) (kind_2 c_42).symm) (rest c_4 _ hF hT) | exact jw_cast rfl (congrArg (fun z => [Value.int z]) (kind_3 c_32).symm) (rest c_4 _ hF hT)
    · rw [Nat.add_zero] at c_32
      first | refine j_aload_n (pc := 35) hX dX3_readCommand_35 rfl rfl ?_ | refine j_aload_nq (pc := 35) hX dX3_readCommand_35 rfl rfl ?_
      refine j_iconst (pc := 36) (v := 1) hX dX3_readCommand_36 (by decide) ?_
      refine j_rune (pc := 37) (jr_V (pc := 37) hX kv_X3_234 (by first | assumption | exact jow.r (by assumption)) (c_X3_behind _ _ _ hT q.1 1 q.2 (by omega) (by omega) _ rfl L hI) (by decide) dX3_readCommand_37 rfl rfl (Nat.le_of_ble_eq_true rfl)) ?_ jno_x
      refine j_bipush (pc := 40) (v := 105) hX dX3_readCommand_40 (by decide) ?_
      refine j_icmp_ne (pc := 42) (tgt := 50) hX dX3_readCommand_42 (by decide) (fun c_42 => ?_) (fun c_42 => ?_)
      · first | refine j_aload_n (pc := 50) hX dX3_readCommand_50 rfl rfl ?_ | refine j_aload_nq (pc := 50) hX dX3_readCommand_50 rfl rfl ?_
        refine j_iconst (pc := 51) (v := 0) hX dX3_readCommand_51 (by decide) ?_
        refine j_rune (pc := 52) (jr_V (pc := 52) hX kv_X3_234 (by first | assumption | exact jow.r (by assumption)) (c_X3_behind _ _ _ hT q.1 0 q.2 (by omega) (by omega) _ rfl L hI) (by decide) dX3_readCommand_52 rfl rfl (Nat.le_of_ble_eq_true rfl)) ?_ jno_x
        first | exact jw_cast rfl (congrArg (fun z => [Value.int z]) (kind_1 c_32 c_42).symm) (rest c_4 _ hF hT) | exact jw_cast rfl (congrArg (fun z => [Value.int z]) (kind_2 c_42).symm) (rest c_4 _ hF hT) | exact jw_cast rfl (congrArg (fun z => [Value.int z]) (kind_3 c_32).symm) (rest c_4 _ hF hT)
      · refine j_bipush (pc := 45) (v := 105) hX dX3_readCommand_45 (by decide) ?_
        refine j_goto (pc := 47) (tgt := 55) hX dX3_readCommand_47 (by decide) ?_
        first | exact jw_cast rfl (congrArg (fun z => [Value.int z]) (kind_1 c_32 c_42).symm) (rest c_4 _ hF hT) | exact jw_cast rfl (congrArg (fun z => [Value.int z]) (kind_2 c_42).symm) (rest c_4 _ hF hT) | exact jw_cast rfl (congrArg (fun z => [Value.int z]) (kind_3 c_32).symm) (rest c_4 _ hF hT)
  · rw [jb_n] at c_4
    exact j_vret hX hQ hr dX3_readCommand_7 ⟨rfl, hF, by rw [hw1 c_4]; rw [jup_id' en]; exact hT⟩
