/-! the map as a list of keys with their values -/
set_option maxRecDepth 100000
theorem c_J0_init (l : Launch) (G : JG) (H : Heap) (q : Nat) {ci : Nat} {fs : List Value} (h : job G H q ci fs) : JMet l yJ0_init (ws_ yJ0_init cJ0_init 1 none) 2 0 G H [.ref q] (jpve H) (jno) := by
  refine JMet.of [(0, .inr (some q))] (by decide) (Nat.le_of_ble_eq_true rfl) rfl (fun X hl hX hQ hEx hr hnm hH => ?_)
  subst hl
  first | refine j_aload_n (pc := 0) hX dJ0_init_0 rfl rfl ?_ | refine j_aload_nq (pc := 0) hX dJ0_init_0 rfl rfl ?_
  refine j_objInit (pc := 1) hX ko_J0_1 (by decide) (Nat.le_of_ble_eq_true rfl) dJ0_init_1 ?_
  exact j_vret hX hQ hr dJ0_init_4 ⟨rfl, rfl⟩
theorem c_J1_init (l : Launch) (G : JG) (H : Heap) (q : Nat) (h : jow G H q 9 [.null, .null, .null, .null, .int 0, .int 0, .int 0, .float 0]) (hq : (gs G).heap.size ≤ q) : JMet l yJ1_init (ws_ yJ1_init cJ1_init 1 none) 3 0 G H [.ref q] (jpv (fun H1 => JPut H H1 q ∧ jow G H1 q 9 (hmF 0 0 0 none))) (jno) := by
  refine JMet.of [(0, .inr (some q))] (by decide) (Nat.le_of_ble_eq_true rfl) rfl (fun X hl hX hQ hEx hr hnm hH => ?_)
  subst hl
  first | refine j_aload_n (pc := 0) hX dJ1_init_0 rfl rfl ?_ | refine j_aload_nq (pc := 0) hX dJ1_init_0 rfl rfl ?_
  refine j_runve (pc := 1) (jr_I (pc := 1) hX ki_J1_43 (c_J0_init _ _ _ q h.r) (by decide) dJ1_init_1 rfl rfl (Nat.le_of_ble_eq_true rfl)) ?_ jno_x
  first | refine j_aload_n (pc := 4) hX dJ1_init_4 rfl rfl ?_ | refine j_aload_nq (pc := 4) hX dJ1_init_4 rfl rfl ?_
  refine j_ldcf (pc := 5) hX q151 dJ1_init_5 ?_
  refine j_putF (pc := 7) hX hnm kp_J1_81 dJ1_init_7 (by assumption) hq rfl rfl rfl (fun H_7 w_7 n_7 => ?_)
  exact j_vret hX hQ hr dJ1_init_10 ⟨rfl, w_7, n_7⟩
def lookE {K : Type} [DecidableEq K] (k : K) : List (K × Nat) → Option Nat
  | [] => none
  | e :: t => if e.1 = k then some e.2 else lookE k t
theorem lookE_none {K : Type} [DecidableEq K] {k : K} : ∀ {E : List (K × Nat)}, (∀ v, (k, v) ∉ E) → lookE k E = none := by
  intro E
  induction E with
  | nil => intro _; rfl
  | cons e t ih =>
    intro h
    unfold lookE
    rw [if_neg (fun z => h e.2 (by rw [← z]; exact List.mem_cons_self))]
    exact ih (fun v hv => h v (List.mem_cons_of_mem _ hv))
theorem lookE_some {K : Type} [DecidableEq K] {k : K} {v : Nat} : ∀ {E : List (K × Nat)}, (E.map (·.1)).Nodup → (k, v) ∈ E → lookE k E = some v := by
  intro E
  induction E with
  | nil => intro _ h; cases h
  | cons e t ih =>
    intro hn h
    rw [List.map_cons, List.nodup_cons] at hn
    unfold lookE
    rcases List.mem_cons.mp h with rfl | h
    · rw [if_pos rfl]
    · rw [if_neg (fun z => hn.1 (by rw [z]; exact List.mem_map.mpr ⟨(k, v), h, rfl⟩))]
      exact ih hn.2 h
theorem lookE_mem {K : Type} [DecidableEq K] {k : K} {v : Nat} : ∀ {E : List (K × Nat)}, lookE k E = some v → (k, v) ∈ E := by
  intro E
  induction E with
  | nil => intro h; cases h
  | cons e t ih =>
    intro h
    unfold lookE at h
    split at h
    · rename_i z; cases Option.some.inj h; rw [← z]; exact List.mem_cons_self
    · exact List.mem_cons_of_mem _ (ih h)
abbrev dropE {K : Type} [DecidableEq K] (k : K) (E : List (K × Nat)) : List (K × Nat) := E.filter (fun e => decide (e.1 ≠ k))
theorem dropE_no {K : Type} [DecidableEq K] {k : K} {E : List (K × Nat)} (h : ∀ v, (k, v) ∉ E) : dropE k E = E :=
  List.filter_eq_self.mpr fun e he => decide_eq_true (fun z => h e.2 (by rw [← z]; exact he))
theorem dropE_len {K : Type} [DecidableEq K] {k : K} {v : Nat} : ∀ {E : List (K × Nat)}, (E.map (·.1)).Nodup → (k, v) ∈ E → (dropE k E).length + 1 = E.length := by
  intro E
  induction E with
  | nil => intro _ h; cases h
  | cons e t ih =>
    intro hn h
    rw [List.map_cons, List.nodup_cons] at hn
    unfold dropE
    rw [List.filter_cons]
    rcases List.mem_cons.mp h with rfl | h
    · rw [if_neg (by simp)]
      have := dropE_no (k := k) (E := t) (fun v hv => hn.1 (List.mem_map.mpr ⟨(k, v), hv, rfl⟩))
      unfold dropE at this
      rw [this]; rfl
    · rw [if_pos (by rw [decide_eq_true_eq]; exact fun z => hn.1 (by rw [z]; exact List.mem_map.mpr ⟨(k, v), h, rfl⟩))]
      have := ih hn.2 h
      unfold dropE at this
      rw [List.length_cons, List.length_cons, this]
/-- a map at q with these keys and values; it may write F; its keys lie in Kp -/
def jmA {K : Type} (d : KD K) (G : JG) (H : Heap) (q : Nat) (F Kp : Nat → Prop) (E : List (K × Nat)) : Prop :=
  ∃ (tab : Option Nat) (cap : Nat) (mc : Int32) (B : Nat → List (ND K)), hmA d G H q tab cap E.length mc B ∧ (E.map (·.1)).Nodup ∧ (∀ k v, (k, v) ∈ E ↔ ∃ n, inN B cap n ∧ n.2.1 = k ∧ n.2.2.2 = v) ∧ (∀ a, fpN q tab B cap a → F a) ∧ ∀ n, inN B cap n → Kp n.2.2.1
section
variable {K : Type} {d : KD K} {G : JG} {H H1 : Heap} {q : Nat} {F Kp F2 Kp2 : Nat → Prop} {E : List (K × Nat)}
theorem jmA.mono (h : jmA d G H q F Kp E) (f : ∀ a, F a → F2 a) (g : ∀ a, Kp a → Kp2 a) : jmA d G H q F2 Kp2 E := by
  obtain ⟨tab, cap, mc, B, h1, h2, h3, h4, h5⟩ := h
  exact ⟨tab, cap, mc, B, h1, h2, h3, fun a ha => f a (h4 a ha), fun n hn => g _ (h5 n hn)⟩
theorem jmA.keep (h : jmA d G H q F Kp E) (e : ∀ a, F a ∨ Kp a → H1[a]? = H[a]?) : jmA d G H1 q F Kp E := by
  obtain ⟨tab, cap, mc, B, h1, h2, h3, h4, h5⟩ := h
  refine ⟨tab, cap, mc, B, ⟨h1.1, h1.2.1, h1.2.2.1.kept (e _ (Or.inl (h4 _ (Or.inl rfl)))), h1.2.2.2.1, fun t ht => ?_⟩, h2, h3, h4, h5⟩
  obtain ⟨a1, a2, a3, a4, a5, a6⟩ := h1.2.2.2.2 t ht
  exact ⟨a1, a2, a3.kept (e _ (Or.inl (h4 _ (Or.inr (Or.inl ht))))), fun j hj => (a4 j hj).keep (fun n hn => ⟨e _ (Or.inl (h4 _ (Or.inr (Or.inr ⟨n, ⟨j, hj, hn⟩, rfl⟩)))), e _ (Or.inr (h5 n ⟨j, hj, hn⟩))⟩), a5, a6⟩
theorem jmA.ho (h : jmA d G H q F Kp E) : ∃ fs, jow G H q 9 fs := by
  obtain ⟨tab, cap, mc, B, h1, h2, h3, h4, h5⟩ := h
  exact ⟨_, h1.2.2.1⟩
theorem jmA.own (h : jmA d G H q F Kp E) : F q := by
  obtain ⟨tab, cap, mc, B, h1, h2, h3, h4, h5⟩ := h
  exact h4 _ (Or.inl rfl)
theorem jmA.new (h : jow G H q 9 (hmF 0 0 0 none)) (hq : (gs G).heap.size ≤ q) : jmA d G H q (fun a => a = q) Kp [] :=
  ⟨none, 0, 0, fun _ => [], ⟨hq, by simp, h, fun _ => ⟨rfl, rfl⟩, (fun t e => by cases e)⟩, List.nodup_nil, fun k v => ⟨(fun h => by cases h), fun ⟨n, ⟨j, hj, _⟩, _⟩ => absurd hj (Nat.not_lt_zero j)⟩, fun a ha => by
    rcases ha with z | z | ⟨n, ⟨j, hj, _⟩, _⟩
    · exact z
    · cases z
    · exact absurd hj (Nat.not_lt_zero j), fun n ⟨j, hj, _⟩ => absurd hj (Nat.not_lt_zero j)⟩
theorem hm_find [DecidableEq K] {tab : Option Nat} {cap sz : Nat} {mc : Int32} {B : Nat → List (ND K)} (h : hmA d G H q tab cap sz mc B) (k : K) :
    ((if tab = none then none else getN k (B (ixN cap (hK d k)))) = none ∧ ∀ n, inN B cap n → n.2.1 ≠ k) ∨ ∃ n nx, inN B cap n ∧ n.2.1 = k ∧ (if tab = none then none else getN k (B (ixN cap (hK d k)))) = some n.1 ∧ jow G H n.1 10 (ndF (hK d n.2.1) n.2.2.1 n.2.2.2 nx) := by
  cases tab with
  | none =>
    obtain ⟨rfl, -⟩ := h.2.2.2.1 rfl
    exact Or.inl ⟨if_pos rfl, fun n ⟨j, hj, _⟩ => absurd hj (Nat.not_lt_zero j)⟩
  | some t =>
    have tb := h.2.2.2.2 t rfl
    rw [if_neg (by simp)]
    unfold getN
    cases e : findN k (B (ixN cap (hK d k))) with
    | none =>
      refine Or.inl ⟨rfl, fun n ⟨j, hj, hn⟩ z => findN_none e n ?_ z⟩
      have := tb.2.2.2.2.1 j hj n hn
      rw [z] at this
      rw [this]; exact hn
    | some n =>
      obtain ⟨hn, hk⟩ := findN_some e
      have hin : inN B cap n := ⟨_, ix_lt tb.1 _, hn⟩
      obtain ⟨⟨nx, ho⟩, -⟩ := tb.nd hin
      exact Or.inr ⟨n, nx, hin, hk, rfl, ho⟩
end
theorem c_J1_getI (l : Launch) (G : JG) (H : Heap) (q kq : Nat) (k : Int32) {F Kp : Nat → Prop} {E : List ((Int32) × Nat)} (h : jmA kdI G H q F Kp E) (hk : kA kdI G H kq k) : JMet l yJ1_get (ws_ yJ1_get cJ1_get 3 (some (.object "java/lang/Object"))) 5 0 G H [.ref q, .ref kq] (jpqe H (lookE k E)) (jno) := by
  refine JMet.of [(0, .inr (some q)), (1, .inr (some kq))] (by decide) (Nat.le_of_ble_eq_true rfl) rfl (fun X hl hX hQ hEx hr hnm hH => ?_)
  subst hl
  obtain ⟨tab, cap, mc, B, h1, h2, h3, h4, h5⟩ := id h
  have ho := h1.2.2.1
  rcases hm_find h1 k with ⟨e, hno⟩ | ⟨n, nx, hn, hnk, e, hon⟩
  · have hl : lookE k E = none := lookE_none (fun v hv => by obtain ⟨n, hn, z, -⟩ := (h3 k v).mp hv; exact hno n hn z)
    first | refine j_aload_n (pc := 0) hX dJ1_get_0 rfl rfl ?_ | refine j_aload_nq (pc := 0) hX dJ1_get_0 rfl rfl ?_
    first | refine j_aload_n (pc := 1) hX dJ1_get_1 rfl rfl ?_ | refine j_aload_nq (pc := 1) hX dJ1_get_1 rfl rfl ?_
    refine j_runqe (pc := 2) (jr_V (pc := 2) hX kv_J1_158 (by first | assumption | exact jow.r (by assumption)) (c_J1_getNodeI _ _ _ q kq k h1 hk) (by decide) dJ1_get_2 rfl rfl (Nat.le_of_ble_eq_true rfl)) ?_ jno_x
    rw [e]
    refine j_dup (pc := 5) hX dJ1_get_5 (by first | rfl | exact jrf_cat _) ?_
    first | refine j_astore_n (pc := 6) hX dJ1_get_6 rfl (by decide) rfl ?_ | refine j_astore_nN (pc := 6) hX dJ1_get_6 rfl (by decide) rfl ?_ | refine j_astore_nq (pc := 6) hX dJ1_get_6 rfl (by decide) rfl ?_
    refine j_ifnonnullN (pc := 7) hX dJ1_get_7 ?_
    refine j_null (pc := 10) hX dJ1_get_10 ?_
    refine j_goto (pc := 11) (tgt := 18) hX dJ1_get_11 (by decide) ?_
    first | exact j_aret hX hQ hr (by first | exact Or.inl ⟨_, rfl⟩ | exact Or.inr ⟨_, rfl⟩) dJ1_get_18 ⟨none, rfl, rfl, hl.symm⟩ | exact j_aretN hX hQ hr (by first | exact Or.inl ⟨_, rfl⟩ | exact Or.inr ⟨_, rfl⟩) dJ1_get_18 ⟨none, rfl, rfl, hl.symm⟩ | exact j_aretq hX hQ hr (by first | exact Or.inl ⟨_, rfl⟩ | exact Or.inr ⟨_, rfl⟩) dJ1_get_18 ⟨none, rfl, rfl, hl.symm⟩
  · have hl : lookE k E = some n.2.2.2 := lookE_some h2 ((h3 _ _).mpr ⟨n, hn, hnk, rfl⟩)
    first | refine j_aload_n (pc := 0) hX dJ1_get_0 rfl rfl ?_ | refine j_aload_nq (pc := 0) hX dJ1_get_0 rfl rfl ?_
    first | refine j_aload_n (pc := 1) hX dJ1_get_1 rfl rfl ?_ | refine j_aload_nq (pc := 1) hX dJ1_get_1 rfl rfl ?_
    refine j_runqe (pc := 2) (jr_V (pc := 2) hX kv_J1_158 (by first | assumption | exact jow.r (by assumption)) (c_J1_getNodeI _ _ _ q kq k h1 hk) (by decide) dJ1_get_2 rfl rfl (Nat.le_of_ble_eq_true rfl)) ?_ jno_x
    rw [e]
    refine j_dup (pc := 5) hX dJ1_get_5 (by first | rfl | exact jrf_cat _) ?_
    first | refine j_astore_n (pc := 6) hX dJ1_get_6 rfl (by decide) rfl ?_ | refine j_astore_nN (pc := 6) hX dJ1_get_6 rfl (by decide) rfl ?_ | refine j_astore_nq (pc := 6) hX dJ1_get_6 rfl (by decide) rfl ?_
    refine j_ifnonnull (pc := 7) (tgt := 14) hX dJ1_get_7 (by decide) ?_
    first | refine j_aload_n (pc := 14) hX dJ1_get_14 rfl rfl ?_ | refine j_aload_nq (pc := 14) hX dJ1_get_14 rfl rfl ?_
    refine j_get (pc := 15) hX kg_J1_162 dJ1_get_15 hon.r (by rfl) ?_
    first | exact j_aret hX hQ hr (by first | exact Or.inl ⟨_, rfl⟩ | exact Or.inr ⟨_, rfl⟩) dJ1_get_18 ⟨some n.2.2.2, rfl, rfl, hl.symm⟩ | exact j_aretN hX hQ hr (by first | exact Or.inl ⟨_, rfl⟩ | exact Or.inr ⟨_, rfl⟩) dJ1_get_18 ⟨some n.2.2.2, rfl, rfl, hl.symm⟩ | exact j_aretq hX hQ hr (by first | exact Or.inl ⟨_, rfl⟩ | exact Or.inr ⟨_, rfl⟩) dJ1_get_18 ⟨some n.2.2.2, rfl, rfl, hl.symm⟩
theorem c_J1_hasI (l : Launch) (G : JG) (H : Heap) (q kq : Nat) (k : Int32) {F Kp : Nat → Prop} {E : List ((Int32) × Nat)} (h : jmA kdI G H q F Kp E) (hk : kA kdI G H kq k) : JMet l yJ1_containsKey (ws_ yJ1_containsKey cJ1_containsKey 2 (some .boolean)) 5 0 G H [.ref q, .ref kq] (jpe H (jb (lookE k E).isSome)) (jno) := by
  refine JMet.of [(0, .inr (some q)), (1, .inr (some kq))] (by decide) (Nat.le_of_ble_eq_true rfl) rfl (fun X hl hX hQ hEx hr hnm hH => ?_)
  subst hl
  obtain ⟨tab, cap, mc, B, h1, h2, h3, h4, h5⟩ := id h
  have ho := h1.2.2.1
  rcases hm_find h1 k with ⟨e, hno⟩ | ⟨n, nx, hn, hnk, e, hon⟩
  · have hl : lookE k E = none := lookE_none (fun v hv => by obtain ⟨n, hn, z, -⟩ := (h3 k v).mp hv; exact hno n hn z)
    first | refine j_aload_n (pc := 0) hX dJ1_containsKey_0 rfl rfl ?_ | refine j_aload_nq (pc := 0) hX dJ1_containsKey_0 rfl rfl ?_
    first | refine j_aload_n (pc := 1) hX dJ1_containsKey_1 rfl rfl ?_ | refine j_aload_nq (pc := 1) hX dJ1_containsKey_1 rfl rfl ?_
    refine j_runqe (pc := 2) (jr_V (pc := 2) hX kv_J1_158 (by first | assumption | exact jow.r (by assumption)) (c_J1_getNodeI _ _ _ q kq k h1 hk) (by decide) dJ1_containsKey_2 rfl rfl (Nat.le_of_ble_eq_true rfl)) ?_ jno_x
    rw [e]
    refine j_ifnullN (pc := 5) (tgt := 12) hX dJ1_containsKey_5 (by decide) ?_
    refine j_iconst (pc := 12) (v := 0) hX dJ1_containsKey_12 (by decide) ?_
    exact j_zret hX hQ hr (by first | rfl | exact jb_nar _ | exact nI_narC _ | assumption) dJ1_containsKey_13 ⟨_, rfl, rfl, by rw [hl]; rfl⟩
  · have hl : lookE k E = some n.2.2.2 := lookE_some h2 ((h3 _ _).mpr ⟨n, hn, hnk, rfl⟩)
    first | refine j_aload_n (pc := 0) hX dJ1_containsKey_0 rfl rfl ?_ | refine j_aload_nq (pc := 0) hX dJ1_containsKey_0 rfl rfl ?_
    first | refine j_aload_n (pc := 1) hX dJ1_containsKey_1 rfl rfl ?_ | refine j_aload_nq (pc := 1) hX dJ1_containsKey_1 rfl rfl ?_
    refine j_runqe (pc := 2) (jr_V (pc := 2) hX kv_J1_158 (by first | assumption | exact jow.r (by assumption)) (c_J1_getNodeI _ _ _ q kq k h1 hk) (by decide) dJ1_containsKey_2 rfl rfl (Nat.le_of_ble_eq_true rfl)) ?_ jno_x
    rw [e]
    refine j_ifnull (pc := 5) hX dJ1_containsKey_5 ?_
    refine j_iconst (pc := 8) (v := 1) hX dJ1_containsKey_8 (by decide) ?_
    refine j_goto (pc := 9) (tgt := 13) hX dJ1_containsKey_9 (by decide) ?_
    exact j_zret hX hQ hr (by first | rfl | exact jb_nar _ | exact nI_narC _ | assumption) dJ1_containsKey_13 ⟨_, rfl, rfl, by rw [hl]; rfl⟩
theorem c_J1_putIA (l : Launch) (G : JG) (H : Heap) (q kq v : Nat) (k : Int32) {F Kp : Nat → Prop} {E : List ((Int32) × Nat)} (h : jmA kdI G H q F Kp E) (hk : kA kdI G H kq k) (hKp : Kp kq) (hno : ∀ v, (k, v) ∉ E) (hs : E.length < 24)
    (hb : ∀ L : List (Int32), L.Nodup → (∀ x ∈ L, (∃ v, (x, v) ∈ E) ∧ ixN 32 (hK kdI x) = ixN 32 (hK kdI k)) → L.length ≤ 7) :
    JMet l yJ1_put (ws_ yJ1_put cJ1_put 3 (some (.object "java/lang/Object"))) 5 21 G H [.ref q, .ref kq, .ref v] (jpq (fun r H1 => r = none ∧ jmA kdI G H1 q (fun a => F a ∨ (H.size ≤ a ∧ a < H1.size)) Kp ((k, v) :: E) ∧ JFr F H H1)) jno := by
  obtain ⟨tab, cap, mc, B, h1, h2, h3, h4, h5⟩ := id h
  refine JMet.post (c_J1_putI l G H q kq v k h1 hk (fun n hn z => hno n.2.2.2 ((h3 _ _).mpr ⟨n, hn, z, rfl⟩)) hs (fun e => ?_)) ?_ (fun _ _ _ h => h)
  · subst e
    have : (B (ixN 32 (hK kdI k))).length = ((B (ixN 32 (hK kdI k))).map (·.2.1)).length := (List.length_map ..).symm
    cases tab with
    | none => have := (h1.2.2.2.1 rfl).1; omega
    | some t =>
      have tb := h1.2.2.2.2 t rfl
      have hlt : ixN 32 (hK kdI k) < 32 := Nat.mod_lt _ (by decide)
      rw [this]
      refine hb _ (tb.2.2.2.2.2 _ hlt) (fun x hx => ?_)
      obtain ⟨n, hn, rfl⟩ := List.mem_map.mp hx
      exact ⟨⟨n.2.2.2, (h3 _ _).mpr ⟨n, ⟨_, hlt, hn⟩, rfl, rfl⟩⟩, tb.2.2.2.2.1 _ hlt n hn⟩
  · rintro r H1 ⟨rr, rfl, rfl, t', cap', a, B', m1, m2, m3, m4, m5⟩
    have hsz : H.size ≤ H1.size := m5.1
    have hin : inN B' cap' (a, k, kq, v) := (m2 _).mpr (Or.inr rfl)
    have tb := m1.2.2.2.2 t' rfl
    refine ⟨none, rfl, rfl, ⟨some t', cap', mc + 1, B', m1, ?_, fun k' v' => ?_, fun x hx => ?_, fun n hn => ?_⟩, m5.weak (fun x _ hx => h4 x hx)⟩
    · rw [List.map_cons, List.nodup_cons]
      refine ⟨fun hm => ?_, h2⟩
      obtain ⟨⟨k1, v1⟩, he, rfl⟩ := List.mem_map.mp hm
      exact hno v1 he
    · rw [List.mem_cons, h3]
      constructor
      · rintro (e | ⟨n, hn, e1, e2⟩)
        · cases e; exact ⟨_, hin, rfl, rfl⟩
        · exact ⟨n, (m2 n).mpr (Or.inl hn), e1, e2⟩
      · rintro ⟨n, hn, e1, e2⟩
        rcases (m2 n).mp hn with hn | rfl
        · exact Or.inr ⟨n, hn, e1, e2⟩
        · exact Or.inl (by rw [← e1, ← e2])
    · rcases hx with z | z | ⟨n, hn, z⟩
      · exact Or.inl (h4 x (Or.inl z))
      · rcases m4 with y | y
        · exact Or.inl (h4 x (Or.inr (Or.inl (y.trans z))))
        · cases z; exact Or.inr ⟨y, tb.2.2.1.lt⟩
      · have hl := (tb.nd hn).1.choose_spec.lt
        rcases (m2 n).mp hn with hn | rfl
        · exact Or.inl (h4 x (Or.inr (Or.inr ⟨n, hn, z⟩)))
        · rw [← z]; exact Or.inr ⟨m3, hl⟩
    · rcases (m2 n).mp hn with hn | rfl
      · exact h5 n hn
      · exact hKp
theorem c_J1_remIA (l : Launch) (G : JG) (H : Heap) (q kq : Nat) (k : Int32) {F Kp : Nat → Prop} {E : List ((Int32) × Nat)} (h : jmA kdI G H q F Kp E) (hk : kA kdI G H kq k) :
    JMet l yJ1_remove (ws_ yJ1_remove cJ1_remove 3 (some (.object "java/lang/Object"))) 5 0 G H [.ref q, .ref kq] (jpq (fun r H1 => r = lookE k E ∧ jmA kdI G H1 q F Kp (dropE k E) ∧ JFr F H H1)) jno := by
  obtain ⟨tab, cap, mc, B, h1, h2, h3, h4, h5⟩ := id h
  refine JMet.post (c_J1_removeI l G H q kq k h1 hk (fun n hn z => List.length_pos_of_mem ((h3 k n.2.2.2).mpr ⟨n, hn, z, rfl⟩))) ?_ (fun _ _ _ h => h)
  rintro r H1 ⟨rr, rfl, hr, sz', mc', B', m1, m2, m3, m5⟩
  have hlen : sz' = (dropE k E).length := by
    rcases m3 with ⟨⟨n, hn, z⟩, e⟩ | ⟨hno, e⟩
    · have := dropE_len h2 ((h3 k n.2.2.2).mpr ⟨n, hn, z, rfl⟩)
      omega
    · rw [e, dropE_no (fun v hv => by obtain ⟨n, hn, z, -⟩ := (h3 k v).mp hv; exact hno n hn z)]
  refine ⟨rr, rfl, ?_, ⟨tab, cap, mc', B', by rw [← hlen]; exact m1, List.Pairwise.sublist (List.Sublist.map _ List.filter_sublist) h2, fun k' v' => ?_, fun x hx => ?_, fun n hn => h5 n ((m2 n).mp hn).1⟩, m5.weak (fun x _ hx => h4 x hx)⟩
  · rcases hr with ⟨rfl, hno⟩ | ⟨n, hn, z, rfl⟩
    · exact (lookE_none (fun v hv => by obtain ⟨n, hn, z, -⟩ := (h3 k v).mp hv; exact hno n hn z)).symm
    · exact (lookE_some h2 ((h3 _ _).mpr ⟨n, hn, z, rfl⟩)).symm
  · rw [List.mem_filter, decide_eq_true_eq, h3]
    constructor
    · rintro ⟨⟨n, hn, e1, e2⟩, hne⟩
      exact ⟨n, (m2 n).mpr ⟨hn, by rw [e1]; exact hne⟩, e1, e2⟩
    · rintro ⟨n, hn, e1, e2⟩
      obtain ⟨y1, y2⟩ := (m2 n).mp hn
      exact ⟨⟨n, y1, e1, e2⟩, by rw [← e1]; exact y2⟩
  · rcases hx with z | z | ⟨n, hn, z⟩
    · exact h4 x (Or.inl z)
    · exact h4 x (Or.inr (Or.inl z))
    · exact h4 x (Or.inr (Or.inr ⟨n, ((m2 n).mp hn).1, z⟩))
theorem c_J1_getR (l : Launch) (G : JG) (H : Heap) (q kq : Nat) (k : Int32 × Int32) {F Kp : Nat → Prop} {E : List ((Int32 × Int32) × Nat)} (h : jmA kdR G H q F Kp E) (hk : kA kdR G H kq k) : JMet l yJ1_get (ws_ yJ1_get cJ1_get 3 (some (.object "java/lang/Object"))) 5 0 G H [.ref q, .ref kq] (jpqe H (lookE k E)) (jno) := by
  refine JMet.of [(0, .inr (some q)), (1, .inr (some kq))] (by decide) (Nat.le_of_ble_eq_true rfl) rfl (fun X hl hX hQ hEx hr hnm hH => ?_)
  subst hl
  obtain ⟨tab, cap, mc, B, h1, h2, h3, h4, h5⟩ := id h
  have ho := h1.2.2.1
  rcases hm_find h1 k with ⟨e, hno⟩ | ⟨n, nx, hn, hnk, e, hon⟩
  · have hl : lookE k E = none := lookE_none (fun v hv => by obtain ⟨n, hn, z, -⟩ := (h3 k v).mp hv; exact hno n hn z)
    first | refine j_aload_n (pc := 0) hX dJ1_get_0 rfl rfl ?_ | refine j_aload_nq (pc := 0) hX dJ1_get_0 rfl rfl ?_
    first | refine j_aload_n (pc := 1) hX dJ1_get_1 rfl rfl ?_ | refine j_aload_nq (pc := 1) hX dJ1_get_1 rfl rfl ?_
    refine j_runqe (pc := 2) (jr_V (pc := 2) hX kv_J1_158 (by first | assumption | exact jow.r (by assumption)) (c_J1_getNodeR _ _ _ q kq k h1 hk) (by decide) dJ1_get_2 rfl rfl (Nat.le_of_ble_eq_true rfl)) ?_ jno_x
    rw [e]
    refine j_dup (pc := 5) hX dJ1_get_5 (by first | rfl | exact jrf_cat _) ?_
    first | refine j_astore_n (pc := 6) hX dJ1_get_6 rfl (by decide) rfl ?_ | refine j_astore_nN (pc := 6) hX dJ1_get_6 rfl (by decide) rfl ?_ | refine j_astore_nq (pc := 6) hX dJ1_get_6 rfl (by decide) rfl ?_
    refine j_ifnonnullN (pc := 7) hX dJ1_get_7 ?_
    refine j_null (pc := 10) hX dJ1_get_10 ?_
    refine j_goto (pc := 11) (tgt := 18) hX dJ1_get_11 (by decide) ?_
    first | exact j_aret hX hQ hr (by first | exact Or.inl ⟨_, rfl⟩ | exact Or.inr ⟨_, rfl⟩) dJ1_get_18 ⟨none, rfl, rfl, hl.symm⟩ | exact j_aretN hX hQ hr (by first | exact Or.inl ⟨_, rfl⟩ | exact Or.inr ⟨_, rfl⟩) dJ1_get_18 ⟨none, rfl, rfl, hl.symm⟩ | exact j_aretq hX hQ hr (by first | exact Or.inl ⟨_, rfl⟩ | exact Or.inr ⟨_, rfl⟩) dJ1_get_18 ⟨none, rfl, rfl, hl.symm⟩
  · have hl : lookE k E = some n.2.2.2 := lookE_some h2 ((h3 _ _).mpr ⟨n, hn, hnk, rfl⟩)
    first | refine j_aload_n (pc := 0) hX dJ1_get_0 rfl rfl ?_ | refine j_aload_nq (pc := 0) hX dJ1_get_0 rfl rfl ?_
    first | refine j_aload_n (pc := 1) hX dJ1_get_1 rfl rfl ?_ | refine j_aload_nq (pc := 1) hX dJ1_get_1 rfl rfl ?_
    refine j_runqe (pc := 2) (jr_V (pc := 2) hX kv_J1_158 (by first | assumption | exact jow.r (by assumption)) (c_J1_getNodeR _ _ _ q kq k h1 hk) (by decide) dJ1_get_2 rfl rfl (Nat.le_of_ble_eq_true rfl)) ?_ jno_x
    rw [e]
    refine j_dup (pc := 5) hX dJ1_get_5 (by first | rfl | exact jrf_cat _) ?_
    first | refine j_astore_n (pc := 6) hX dJ1_get_6 rfl (by decide) rfl ?_ | refine j_astore_nN (pc := 6) hX dJ1_get_6 rfl (by decide) rfl ?_ | refine j_astore_nq (pc := 6) hX dJ1_get_6 rfl (by decide) rfl ?_
    refine j_ifnonnull (pc := 7) (tgt := 14) hX dJ1_get_7 (by decide) ?_
    first | refine j_aload_n (pc := 14) hX dJ1_get_14 rfl rfl ?_ | refine j_aload_nq (pc := 14) hX dJ1_get_14 rfl rfl ?_
    refine j_get (pc := 15) hX kg_J1_162 dJ1_get_15 hon.r (by rfl) ?_
    first | exact j_aret hX hQ hr (by first | exact Or.inl ⟨_, rfl⟩ | exact Or.inr ⟨_, rfl⟩) dJ1_get_18 ⟨some n.2.2.2, rfl, rfl, hl.symm⟩ | exact j_aretN hX hQ hr (by first | exact Or.inl ⟨_, rfl⟩ | exact Or.inr ⟨_, rfl⟩) dJ1_get_18 ⟨some n.2.2.2, rfl, rfl, hl.symm⟩ | exact j_aretq hX hQ hr (by first | exact Or.inl ⟨_, rfl⟩ | exact Or.inr ⟨_, rfl⟩) dJ1_get_18 ⟨some n.2.2.2, rfl, rfl, hl.symm⟩
theorem c_J1_hasR (l : Launch) (G : JG) (H : Heap) (q kq : Nat) (k : Int32 × Int32) {F Kp : Nat → Prop} {E : List ((Int32 × Int32) × Nat)} (h : jmA kdR G H q F Kp E) (hk : kA kdR G H kq k) : JMet l yJ1_containsKey (ws_ yJ1_containsKey cJ1_containsKey 2 (some .boolean)) 5 0 G H [.ref q, .ref kq] (jpe H (jb (lookE k E).isSome)) (jno) := by
  refine JMet.of [(0, .inr (some q)), (1, .inr (some kq))] (by decide) (Nat.le_of_ble_eq_true rfl) rfl (fun X hl hX hQ hEx hr hnm hH => ?_)
  subst hl
  obtain ⟨tab, cap, mc, B, h1, h2, h3, h4, h5⟩ := id h
  have ho := h1.2.2.1
  rcases hm_find h1 k with ⟨e, hno⟩ | ⟨n, nx, hn, hnk, e, hon⟩
  · have hl : lookE k E = none := lookE_none (fun v hv => by obtain ⟨n, hn, z, -⟩ := (h3 k v).mp hv; exact hno n hn z)
    first | refine j_aload_n (pc := 0) hX dJ1_containsKey_0 rfl rfl ?_ | refine j_aload_nq (pc := 0) hX dJ1_containsKey_0 rfl rfl ?_
    first | refine j_aload_n (pc := 1) hX dJ1_containsKey_1 rfl rfl ?_ | refine j_aload_nq (pc := 1) hX dJ1_containsKey_1 rfl rfl ?_
    refine j_runqe (pc := 2) (jr_V (pc := 2) hX kv_J1_158 (by first | assumption | exact jow.r (by assumption)) (c_J1_getNodeR _ _ _ q kq k h1 hk) (by decide) dJ1_containsKey_2 rfl rfl (Nat.le_of_ble_eq_true rfl)) ?_ jno_x
    rw [e]
    refine j_ifnullN (pc := 5) (tgt := 12) hX dJ1_containsKey_5 (by decide) ?_
    refine j_iconst (pc := 12) (v := 0) hX dJ1_containsKey_12 (by decide) ?_
    exact j_zret hX hQ hr (by first | rfl | exact jb_nar _ | exact nI_narC _ | assumption) dJ1_containsKey_13 ⟨_, rfl, rfl, by rw [hl]; rfl⟩
  · have hl : lookE k E = some n.2.2.2 := lookE_some h2 ((h3 _ _).mpr ⟨n, hn, hnk, rfl⟩)
    first | refine j_aload_n (pc := 0) hX dJ1_containsKey_0 rfl rfl ?_ | refine j_aload_nq (pc := 0) hX dJ1_containsKey_0 rfl rfl ?_
    first | refine j_aload_n (pc := 1) hX dJ1_containsKey_1 rfl rfl ?_ | refine j_aload_nq (pc := 1) hX dJ1_containsKey_1 rfl rfl ?_
    refine j_runqe (pc := 2) (jr_V (pc := 2) hX kv_J1_158 (by first | assumption | exact jow.r (by assumption)) (c_J1_getNodeR _ _ _ q kq k h1 hk) (by decide) dJ1_containsKey_2 rfl rfl (Nat.le_of_ble_eq_true rfl)) ?_ jno_x
    rw [e]
    refine j_ifnull (pc := 5) hX dJ1_containsKey_5 ?_
    refine j_iconst (pc := 8) (v := 1) hX dJ1_containsKey_8 (by decide) ?_
    refine j_goto (pc := 9) (tgt := 13) hX dJ1_containsKey_9 (by decide) ?_
    exact j_zret hX hQ hr (by first | rfl | exact jb_nar _ | exact nI_narC _ | assumption) dJ1_containsKey_13 ⟨_, rfl, rfl, by rw [hl]; rfl⟩
theorem c_J1_putRA (l : Launch) (G : JG) (H : Heap) (q kq v : Nat) (k : Int32 × Int32) {F Kp : Nat → Prop} {E : List ((Int32 × Int32) × Nat)} (h : jmA kdR G H q F Kp E) (hk : kA kdR G H kq k) (hKp : Kp kq) (hno : ∀ v, (k, v) ∉ E) (hs : E.length < 24)
    (hb : ∀ L : List (Int32 × Int32), L.Nodup → (∀ x ∈ L, (∃ v, (x, v) ∈ E) ∧ ixN 32 (hK kdR x) = ixN 32 (hK kdR k)) → L.length ≤ 7) :
    JMet l yJ1_put (ws_ yJ1_put cJ1_put 3 (some (.object "java/lang/Object"))) 5 21 G H [.ref q, .ref kq, .ref v] (jpq (fun r H1 => r = none ∧ jmA kdR G H1 q (fun a => F a ∨ (H.size ≤ a ∧ a < H1.size)) Kp ((k, v) :: E) ∧ JFr F H H1)) jno := by
  obtain ⟨tab, cap, mc, B, h1, h2, h3, h4, h5⟩ := id h
  refine JMet.post (c_J1_putR l G H q kq v k h1 hk (fun n hn z => hno n.2.2.2 ((h3 _ _).mpr ⟨n, hn, z, rfl⟩)) hs (fun e => ?_)) ?_ (fun _ _ _ h => h)
  · subst e
    have : (B (ixN 32 (hK kdR k))).length = ((B (ixN 32 (hK kdR k))).map (·.2.1)).length := (List.length_map ..).symm
    cases tab with
    | none => have := (h1.2.2.2.1 rfl).1; omega
    | some t =>
      have tb := h1.2.2.2.2 t rfl
      have hlt : ixN 32 (hK kdR k) < 32 := Nat.mod_lt _ (by decide)
      rw [this]
      refine hb _ (tb.2.2.2.2.2 _ hlt) (fun x hx => ?_)
      obtain ⟨n, hn, rfl⟩ := List.mem_map.mp hx
      exact ⟨⟨n.2.2.2, (h3 _ _).mpr ⟨n, ⟨_, hlt, hn⟩, rfl, rfl⟩⟩, tb.2.2.2.2.1 _ hlt n hn⟩
  · rintro r H1 ⟨rr, rfl, rfl, t', cap', a, B', m1, m2, m3, m4, m5⟩
    have hsz : H.size ≤ H1.size := m5.1
    have hin : inN B' cap' (a, k, kq, v) := (m2 _).mpr (Or.inr rfl)
    have tb := m1.2.2.2.2 t' rfl
    refine ⟨none, rfl, rfl, ⟨some t', cap', mc + 1, B', m1, ?_, fun k' v' => ?_, fun x hx => ?_, fun n hn => ?_⟩, m5.weak (fun x _ hx => h4 x hx)⟩
    · rw [List.map_cons, List.nodup_cons]
      refine ⟨fun hm => ?_, h2⟩
      obtain ⟨⟨k1, v1⟩, he, rfl⟩ := List.mem_map.mp hm
      exact hno v1 he
    · rw [List.mem_cons, h3]
      constructor
      · rintro (e | ⟨n, hn, e1, e2⟩)
        · cases e; exact ⟨_, hin, rfl, rfl⟩
        · exact ⟨n, (m2 n).mpr (Or.inl hn), e1, e2⟩
      · rintro ⟨n, hn, e1, e2⟩
        rcases (m2 n).mp hn with hn | rfl
        · exact Or.inr ⟨n, hn, e1, e2⟩
        · exact Or.inl (by rw [← e1, ← e2])
    · rcases hx with z | z | ⟨n, hn, z⟩
      · exact Or.inl (h4 x (Or.inl z))
      · rcases m4 with y | y
        · exact Or.inl (h4 x (Or.inr (Or.inl (y.trans z))))
        · cases z; exact Or.inr ⟨y, tb.2.2.1.lt⟩
      · have hl := (tb.nd hn).1.choose_spec.lt
        rcases (m2 n).mp hn with hn | rfl
        · exact Or.inl (h4 x (Or.inr (Or.inr ⟨n, hn, z⟩)))
        · rw [← z]; exact Or.inr ⟨m3, hl⟩
    · rcases (m2 n).mp hn with hn | rfl
      · exact h5 n hn
      · exact hKp
theorem c_J1_remRA (l : Launch) (G : JG) (H : Heap) (q kq : Nat) (k : Int32 × Int32) {F Kp : Nat → Prop} {E : List ((Int32 × Int32) × Nat)} (h : jmA kdR G H q F Kp E) (hk : kA kdR G H kq k) :
    JMet l yJ1_remove (ws_ yJ1_remove cJ1_remove 3 (some (.object "java/lang/Object"))) 5 0 G H [.ref q, .ref kq] (jpq (fun r H1 => r = lookE k E ∧ jmA kdR G H1 q F Kp (dropE k E) ∧ JFr F H H1)) jno := by
  obtain ⟨tab, cap, mc, B, h1, h2, h3, h4, h5⟩ := id h
  refine JMet.post (c_J1_removeR l G H q kq k h1 hk (fun n hn z => List.length_pos_of_mem ((h3 k n.2.2.2).mpr ⟨n, hn, z, rfl⟩))) ?_ (fun _ _ _ h => h)
  rintro r H1 ⟨rr, rfl, hr, sz', mc', B', m1, m2, m3, m5⟩
  have hlen : sz' = (dropE k E).length := by
    rcases m3 with ⟨⟨n, hn, z⟩, e⟩ | ⟨hno, e⟩
    · have := dropE_len h2 ((h3 k n.2.2.2).mpr ⟨n, hn, z, rfl⟩)
      omega
    · rw [e, dropE_no (fun v hv => by obtain ⟨n, hn, z, -⟩ := (h3 k v).mp hv; exact hno n hn z)]
  refine ⟨rr, rfl, ?_, ⟨tab, cap, mc', B', by rw [← hlen]; exact m1, List.Pairwise.sublist (List.Sublist.map _ List.filter_sublist) h2, fun k' v' => ?_, fun x hx => ?_, fun n hn => h5 n ((m2 n).mp hn).1⟩, m5.weak (fun x _ hx => h4 x hx)⟩
  · rcases hr with ⟨rfl, hno⟩ | ⟨n, hn, z, rfl⟩
    · exact (lookE_none (fun v hv => by obtain ⟨n, hn, z, -⟩ := (h3 k v).mp hv; exact hno n hn z)).symm
    · exact (lookE_some h2 ((h3 _ _).mpr ⟨n, hn, z, rfl⟩)).symm
  · rw [List.mem_filter, decide_eq_true_eq, h3]
    constructor
    · rintro ⟨⟨n, hn, e1, e2⟩, hne⟩
      exact ⟨n, (m2 n).mpr ⟨hn, by rw [e1]; exact hne⟩, e1, e2⟩
    · rintro ⟨n, hn, e1, e2⟩
      obtain ⟨y1, y2⟩ := (m2 n).mp hn
      exact ⟨⟨n, y1, e1, e2⟩, by rw [← e1]; exact y2⟩
  · rcases hx with z | z | ⟨n, hn, z⟩
    · exact h4 x (Or.inl z)
    · exact h4 x (Or.inr (Or.inl z))
    · exact h4 x (Or.inr (Or.inr ⟨n, ((m2 n).mp hn).1, z⟩))
