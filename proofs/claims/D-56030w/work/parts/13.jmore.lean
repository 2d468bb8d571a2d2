/-! J: arraycopy, Math.max and min, throws, handlers -/
set_option maxRecDepth 100000
section
variable {X : JX} {G : JG} {own : String} {cc : ByteArray} {nL d : Nat} {H : Heap} {b b0 pc : Nat} {lv : JL} {rest : List Value} {post : Option Value → Heap → Prop} {px : String → Nat → Heap → Prop}
def JCp (own : String) (idx : Nat) : Prop := Cond.methodLink own idx arraycopyName ∈ lw_all ∧ Cond.native arraycopyName ∈ lw_all ∧ Cond.static arraycopyName ∈ lw_all ∧ Cond.initialized "java/lang/System" ∈ lw_all
/-- v may stand in an array of kind t -/
def JTk (G : JG) (H : Heap) (t : Nat) (v : Value) : Prop := fits (jty t) v = true ∧ ∀ a : Nat, v = .ref a → ∃ (ci : Nat) (fs : List Value), job G H a ci fs ∧ JAs t ci
theorem j_asg (hX : JOK X G own cc nL d) {t ci a : Nat} {fs : List Value} (ho : job G H a ci fs) (ks : JAs t ci) {kA : Class} {comp : ClassId} {C : String} (hty : jty t = .object C) (k3 : (js X).vm.findClass C = some comp) : ∃ cv : Cell, H[a]? = some cv ∧ (∀ k, cv.vm ≠ .statics k) ∧ (∃ k, (js X).vm.classes[cv.cls]? = some k) ∧ (js X).vm.assignable cv.cls comp = true := by
  obtain ⟨ht6, ht, C', r, hty', hr, hcast⟩ := ks
  cases hty.symm.trans hty'
  obtain ⟨r', cv, hr', g1, g2, g3, g4, -⟩ := ho
  cases Option.some.inj (hr.symm.trans hr')
  have hK := hX.2.1
  have hcls := (hK.K.1 ci r hr).2
  obtain ⟨kC, hkC, hkind⟩ := hcls.2
  refine ⟨cv, g1, (fun q e => by rw [e] at g3; cases g3), ⟨kC, by rw [g2]; exact hkC⟩, ?_⟩
  rcases hcast with e | e
  · have e2 : comp = (gD G).1 ci := Option.some.inj (k3.symm.trans (by rw [← e]; exact hcls.1))
    rw [g2, e2]
    exact va_assign hcls
  · obtain ⟨c0, t0, f1, f2, f3⟩ := Cond.castable_spec (va_Nw.use (A := ja X) rfl (jnwk_warm rfl hK.1 (hK.2.2.2.1.1 _ e rfl)))
    cases Option.some.inj (f1.symm.trans hcls.1)
    cases Option.some.inj (f2.symm.trans k3)
    rw [g2]
    exact f3
theorem j_acopy (hX : JOK X G own cc nL d) {idx src dst t n0 n1 : Nat} {f g : Nat → Value} {x y z : Int32} (kc : JCp own idx) (ht : t < 10) (sp dp n : Nat) (ex : x = nI sp) (ey : y = nI dp) (ez : z = nI n) (hdg : decode cc pc = .ok (.invokestatic idx, 3)) (hs : jar G H src t n0 f) (hd : jaw G H dst t n1 g) (hdst : (gs G).heap.size ≤ dst) (h4 : sp + n ≤ n0) (h5 : dp + n ≤ n1) (h6 : n0 < 2 ^ 31) (h7 : n1 < 2 ^ 31) (hel : ∀ i, i < n → JTk G H t (f (sp + i))) (hd1 : 1 ≤ d) (hcat : (rest.map fun v => v.category).sum ≤ 8)
    (kk : ∀ H1 : Heap, JPut H H1 dst → jaw G H1 dst t n1 (fun j => if dp ≤ j ∧ j < dp + n then f (sp + (j - dp)) else g j) → JW X G H1 b (pc + 3) lv rest) : JW X G H b pc lv (.int z :: .int y :: .ref dst :: .int x :: .ref src :: rest) := by
  intro locs cells slots ls hS hc hsl hlv
  subst ex; subst ey; subst ez
  obtain ⟨cs, s1, s2, s3, s4, s5, s6⟩ := hs.of hX
  have hd' := hd
  obtain ⟨cd, d1, d2, d3, d4, d5⟩ := hd'
  obtain ⟨s20, ks, hks, cms, hkks⟩ := s2
  obtain ⟨-, kd, hkd, cmd, hkkd⟩ := (hX.2.1.K.2 t _ (jtys_at ht)).1 0 (fun _ => .null)
  have hkd' : (js X).vm.classes[cd.cls]? = some kd := by rw [d2]; exact hkd
  obtain ⟨e1, e2, e3⟩ : (nI sp).toNatClampNeg = sp ∧ (nI dp).toNatClampNeg = dp ∧ (nI n).toNatClampNeg = n := ⟨nI_clamp (by omega), nI_clamp (by omega), nI_clamp (by omega)⟩
  obtain ⟨i1, i2, i3⟩ : (nI sp).toInt = (sp : Int) ∧ (nI dp).toInt = (dp : Int) ∧ (nI n).toInt = (n : Int) := ⟨nI_toInt (by omega), nI_toInt (by omega), nI_toInt (by omega)⟩
  intro T hT Xs
  obtain ⟨hx, hb, hml, hown, hts⟩ := hX.1
  obtain ⟨vm', X', step⟩ := Xs.arraycopy hx hown (hts _ kc.1) (hts _ kc.2.1) (hts _ kc.2.2.1) (hts _ kc.2.2.2) (src := src) (dst := dst) (cs := cs) (cd := cd) (srcPos := nI sp) (destPos := nI dp) (n := nI n) (by rw [hT]; exact s1) (by rw [hT]; exact d1)
    s20 (fun q e => by rw [d3] at e; cases e) s3 (by rw [d3]; exact (fun e => by cases e)) hks hkd' hkks hkkd (by simp) (nI_pos (by omega)) (nI_pos (by omega)) (nI_pos (by omega)) (by rw [i1, i3]; omega) (by rw [i2, i3, d4]; omega)
    (fun vm₁ hal i hi => by
      rw [e1, e3] at *
      have e : cs.slots.getD (sp + i) .null = f (sp + i) := by
        rw [Array.getD_eq_getD_getElem?, s6 _ (by omega)]
        rfl
      rw [e]
      obtain ⟨hf, ho⟩ := hel i hi
      refine ⟨hf, ?_⟩
      cases hv : f (sp + i) with
      | ref a =>
        obtain ⟨ci, fs, ho1, ks⟩ := ho a hv
        obtain ⟨C, hty⟩ : ∃ C : String, jty t = .object C := by
          obtain ⟨_, _, C, _, h, _⟩ := ks
          exact ⟨C, h⟩
        have hra := (hX.2.1.K.2 t _ (jtys_at ht)).2
        rw [hty] at hra
        obtain ⟨kA, comp, r1, r2, r3, -⟩ := hra
        cases hkd.symm.trans r1
        have hcm : cmd = comp := by
          have h9 : Kind.array cmd (jty t) = Kind.array comp (.object C) := hkkd.symm.trans r2
          injection h9
        subst hcm
        obtain ⟨cv, v1, v2, ⟨kv, v3⟩, v4⟩ := j_asg (kA := kd) hX ho1 ks hty r3
        obtain ⟨kE, hkE, -⟩ := Vm.findClass_spec r3
        obtain ⟨kv', v3', -⟩ := hal.2.2 _ _ v3
        obtain ⟨kE', hkE', -⟩ := hal.2.2 _ _ hkE
        exact ⟨cv, by show T.heap[a]? = _; rw [hT]; exact v1, v2, ⟨kv', v3'⟩, ⟨kE', hkE'⟩, by show vm₁.assignable _ _ = true; rw [hal.assignable]; exact v4⟩
      | _ => exact trivial)
    (g := F0 (jm X) pc ls (.int (nI n) :: .int (nI dp) :: .ref dst :: .int (nI sp) :: .ref src :: rest)) rfl hlv.1 (rest := rest) rfl (by rw [hb]; exact hdg) (by have := hX.2.2.2.1; omega) (by
      have h9 := hX.2.2.2.2.1
      show 2 * 0 + _ + (nativeFrameWords "java/lang/System" "arraycopy" 5 + 11) ≤ _
      have h10 : nativeFrameWords "java/lang/System" "arraycopy" 5 = 7 := by decide +kernel
      omega)
  rw [e1, e2, e3] at X'
  have hl : dst < H.size := (Array.getElem?_eq_some_iff.mp d1).1
  have hcp : copied cs cd (nI sp) (nI dp) (nI n) = cd.storeRun dp (cs.stretch sp n) := by unfold copied; rw [e1, e2, e3]
  rw [hcp] at X' step
  obtain ⟨q1, q2, q3, -, -⟩ := Cell.storeRun_facts cd dp (cs.stretch sp n)
  have hlen : (cs.stretch sp n).length = n := by simp [Cell.stretch]
  have hheap : ((T.setVm vm').setCell dst (cd.storeRun dp (cs.stretch sp n))).heap = H.setIfInBounds dst (cd.storeRun dp (cs.stretch sp n)) := by rw [← hT]; rfl
  have oq : ∀ q : Nat, q ≠ dst → (H.setIfInBounds dst (cd.storeRun dp (cs.stretch sp n)))[q]? = H[q]? := fun q hq => by simp [Array.getElem?_setIfInBounds, Ne.symm hq]
  have o1 : (H.setIfInBounds dst (cd.storeRun dp (cs.stretch sp n)))[dst]? = some (cd.storeRun dp (cs.stretch sp n)) := by simp [Array.getElem?_setIfInBounds, hl]
  obtain ⟨t2, a1, b1⟩ := kk (H.setIfInBounds dst (cd.storeRun dp (cs.stretch sp n))) ⟨by simp, oq⟩ ⟨_, o1, q1.trans d2, q2.trans d3, q3.trans d4, fun j hj => by
      rw [Cell.storeRun_get _ _ _ _ (by rw [hlen, d4]; omega), hlen]
      show _ = some (if dp ≤ j ∧ j < dp + n then f (sp + (j - dp)) else g j)
      by_cases hj2 : dp ≤ j ∧ j < dp + n
      · rw [if_pos hj2, if_pos hj2]
        simp only [Cell.stretch, List.getElem?_map]
        rw [List.getElem?_range (by omega)]
        simp only [Option.map_some, Array.getD_eq_getD_getElem?]
        rw [s6 _ (by omega)]
        rfl
      · rw [if_neg hj2, if_neg hj2]
        exact d5 j hj⟩ (locs ++ (cs.stretch sp n).zipIdx.map fun q => ⟨dst, dp + q.2⟩) cells slots ls ⟨by simp; exact hS.1, fun q g1 g2 => by
      rw [oq q (fun e => g2 (by rw [e]; exact hdst))]
      exact hS.2.1 q g1 g2, fun q hq => by
      rcases List.mem_append.mp hq with h | h
      · exact hS.2.2 q h
      · obtain ⟨z, -, hz⟩ := List.mem_map.mp h
        rw [← hz]
        exact hdst⟩ hc hsl hlv _ hheap X'
  exact ⟨t2, step t2 a1, b1⟩
/-- Math.max, Math.min of ints -/
def JMx (own : String) (idx : Nat) : Prop := Cond.methodLink own idx Lib.Math.max.name ∈ lw_all ∧ Cond.static Lib.Math.max.name ∈ lw_all ∧ Cond.initialized "java/lang/Math" ∈ lw_all ∧ Cond.code Lib.Math.max.name Lib.Math.max.code 2 (some .int) ∈ lw_all
def JMn (own : String) (idx : Nat) : Prop := Cond.methodLink own idx Lib.Math.min.name ∈ lw_all ∧ Cond.static Lib.Math.min.name ∈ lw_all ∧ Cond.initialized "java/lang/Math" ∈ lw_all ∧ Cond.code Lib.Math.min.name Lib.Math.min.code 2 (some .int) ∈ lw_all
theorem j_mmax (hX : JOK X G own cc nL d) {idx : Nat} (kc : JMx own idx) {x y : Int32} (hdg : decode cc pc = .ok (.invokestatic idx, 3)) (hd : 1 ≤ d) (hcat : (rest.map fun v => v.category).sum ≤ 8)
    (kk : JW X G H b (pc + 3) lv (.int (if x < y then y else x) :: rest)) : JW X G H b pc lv (.int y :: .int x :: rest) := by
  intro locs cells slots ls hS hc hsl hlv
  obtain ⟨⟨hx, hb, hml, hown, hts⟩, hK, -, hf, hl, -⟩ := hX
  exact va_mmax hx hb hlv.1.symm hown (hts _ kc.1) (hts _ kc.2.1) (hts _ kc.2.2.1) (hts _ kc.2.2.2) (by omega) (by omega) (by omega) (by omega) hdg (kk locs cells slots ls hS hc hsl hlv)
theorem j_mmin (hX : JOK X G own cc nL d) {idx : Nat} (kc : JMn own idx) {x y : Int32} (hdg : decode cc pc = .ok (.invokestatic idx, 3)) (hd : 1 ≤ d) (hcat : (rest.map fun v => v.category).sum ≤ 8)
    (kk : JW X G H b (pc + 3) lv (.int (if y < x then y else x) :: rest)) : JW X G H b pc lv (.int y :: .int x :: rest) := by
  intro locs cells slots ls hS hc hsl hlv
  obtain ⟨⟨hx, hb, hml, hown, hts⟩, hK, -, hf, hl, -⟩ := hX
  exact va_mmin hx hb hlv.1.symm hown (hts _ kc.1) (hts _ kc.2.1) (hts _ kc.2.2.1) (hts _ kc.2.2.2) (by omega) (by omega) (by omega) (by omega) hdg (kk locs cells slots ls hS hc hsl hlv)
/-- 'throw new E()' -/
def JTh (own : String) (ik ic : Nat) (E : String) (names : List String) : Prop := Cond.classLink own ik E ∈ lw_all ∧ Cond.initialized E ∈ lw_all ∧ (∀ w ∈ vx_at0 own ic E names, w ∈ lw_tbl ∧ (goodWord w = true ∨ jnwk w = true)) ∧ Bundle.fit E = true ∧ (∀ n ∈ names, Bundle.fit n = true) ∧ (∀ w ∈ Cond.classLink own ik E :: Cond.initialized E :: vx_at0 own ic E names, vx_ot w = true) ∧ names.length = 2
theorem JTh.of {own : String} {ik ic : Nat} {E : String} {names : List String} (ps : List Nat) (h1 : Cond.classLink own ik E ∈ lw_all) (h2 : Cond.initialized E ∈ lw_all) (h3 : vx_at0 own ic E names = ps.filterMap (fun i => lw_tbl[i]?)) (h4 : (vx_at0 own ic E names).all (fun w => goodWord w || jnwk w) = true) (h5 : Bundle.fit E = true) (h6 : names.all Bundle.fit = true) (h7 : (Cond.classLink own ik E :: Cond.initialized E :: vx_at0 own ic E names).all vx_ot = true) (h8 : names.length = 2) : JTh own ik ic E names := by
  refine ⟨h1, h2, fun w hw => ⟨?_, ?_⟩, h5, fun n hn => List.all_eq_true.mp h6 n hn, fun w hw => List.all_eq_true.mp h7 w hw, h8⟩
  · rw [h3] at hw
    obtain ⟨i, -, hi⟩ := List.mem_filterMap.mp hw
    exact List.mem_of_getElem? hi
  · have h9 := List.all_eq_true.mp h4 w hw
    rcases Bool.or_eq_true_iff.mp h9 with h | h
    · exact Or.inl h
    · exact Or.inr h
theorem j_throw0 (hX : JOK X G own cc nL d) (hQ : JRet X G b0 post px) {hh : List (Nat × Nat × Nat × Nat)} (hT : (jc X).exceptionTable.toList = tableOf hh) {ik ic : Nat} {E : String} {names : List String} (kt : JTh own ik ic E names) (hout : ∀ x ∈ tableOf hh, covers x (pc + 7) = false)
    (d0 : decode cc pc = .ok (.new ik, 3)) (d3 : decode cc (pc + 3) = .ok (.dup, 1)) (d4 : decode cc (pc + 4) = .ok (.invokespecial ic, 3)) (d7 : decode cc (pc + 7) = .ok (.athrow, 1)) (hd : 6 ≤ d) (hcat : (rest.map fun v => v.category).sum ≤ 8) (hp : ∀ (q : Nat) (H1 : Heap), JExt H H1 → px E q H1) : JW X G H (b + 2) pc lv rest := by
  intro locs cells slots ls hS hc hsl hlv
  obtain ⟨q1, q2, q3⟩ := hQ
  rw [q1]
  obtain ⟨⟨hx, hb, hml, hown, hts⟩, hK, hlk, hf, hl, htr⟩ := hX
  obtain ⟨k1, k2, k3, k4, k5, k6, k7⟩ := kt
  have hU := (vx_Zq.moved hK.1.alike hK.2.2.2.2.2.1.2.2.1).kept (H1 := (js X).heap) (fun a h1 h2 => hK.2.1.2 a h1)
  have hN := (vx_Zq.moved hK.1.alike hK.2.2.2.2.2.1.2.2.2.1).kept (H1 := (js X).heap) (fun a h1 h2 => hK.2.1.2 a h1)
  exact vx_throw0 hx hb htr hown k4 k5 (hts _ k1) (hts _ k2) (fun w hw => by
      obtain ⟨h1, h2⟩ := k3 w hw
      rcases h2 with h2 | h2
      · exact hts _ (List.mem_filter.mpr ⟨h1, h2⟩)
      · exact va_Nw.use (by cases w <;> first | rfl | (simp [jnwk] at h2; done)) (jnwk_warm h2 hK.1 (hK.2.2.2.1.1 _ h1 h2))) k6 hU hN hS hlv.1 d0 d3 d4 d7 (by rw [hT]; exact hout) (by omega) (by omega) (by omega) (by omega) hlk
    (fun q9 t hvm h1 h2 => ⟨hp q9 t.heap ⟨h1, h2⟩, ⟨Nat.le_trans hS.1 h1, fun q g1 g2 => (h2 q (Nat.lt_of_lt_of_le g1 hS.1)).trans (hS.2.1 q g1 g2)⟩⟩) hS.2.2 (by omega) (by omega)
/-- caught by the row x of the table: the rows ahead don't cover, or name classes that E is none of -/
theorem jt_catch (hX : JOK X G own cc nL d) {hh pre suf : List (Nat × Nat × Nat × Nat)} {x : Nat × Nat × Nat × Nat} (hT : (jc X).exceptionTable.toList = tableOf hh) (hsplit : hh = pre ++ x :: suf) {E name : String}
    (hpass : ∀ z ∈ pre, covers ⟨z.1, z.2.1, z.2.2.1, z.2.2.2⟩ pc = false ∨ (z.2.2.2 ≠ 0 ∧ ∃ nm : String, Cond.classLink own z.2.2.2 nm ∈ lw_all ∧ (E, nm) ∈ jncl)) (hx : covers ⟨x.1, x.2.1, x.2.2.1, x.2.2.2⟩ pc = true) (h0 : x.2.2.2 ≠ 0) (hlink : Cond.classLink own x.2.2.2 name ∈ lw_all) (hcast : Cond.castable E name ∈ lw_tbl) {q : Nat}
    (kk : JW X G H b x.2.2.1 lv [.ref q]) : JT X G H b pc lv rest E q := by
  intro locs cells slots ls ce hS hc hsl hlv h1 h2 h3
  have hts := hX.1.2.2.2.2
  refine vx_catch hX.1.2.2.2.1 (tableOf pre) ⟨x.1, x.2.1, x.2.2.1, x.2.2.2⟩ (tableOf suf) ?_ ?_ hx h0 (hts _ hlink) (va_Nw.use rfl (jnwk_warm rfl hX.2.1.1 (hX.C.2.1.1 _ hcast rfl))) h1 h2 h3 (kk locs cells slots ls hS hc hsl hlv)
  · rw [hT, hsplit]
    simp [tableOf]
  · intro z hz
    obtain ⟨w, hw, rfl⟩ := List.mem_map.mp hz
    rcases hpass w hw with h | ⟨h, nm, h4, h5⟩
    · exact Or.inl h
    · exact Or.inr ⟨h, nm, hts _ h4, va_Nc.moved hX.2.1.1.alike (hX.C.2.1.2.2.2 _ h5)⟩
/-- not caught by this method's table -/
theorem jt_outP (hX : JOK X G own cc nL d) (hQ : JRet X G b0 post px) {hh : List (Nat × Nat × Nat × Nat)} (hT : (jc X).exceptionTable.toList = tableOf hh) {E : String}
    (hpass : ∀ z ∈ hh, covers ⟨z.1, z.2.1, z.2.2.1, z.2.2.2⟩ pc = false ∨ (z.2.2.2 ≠ 0 ∧ ∃ nm : String, Cond.classLink own z.2.2.2 nm ∈ lw_all ∧ (E, nm) ∈ jncl)) {q : Nat} (hp : px E q H) : JT X G H b pc lv rest E q := by
  intro locs cells slots ls ce hS hc hsl hlv h1 h2 h3
  have hts := hX.1.2.2.2.2
  obtain ⟨e1, e2, e3⟩ := hQ
  rw [e1]
  refine vx_outP hX.1.2.2.2.1 hX.2.2.1 ?_ h1 h2 h3 (fun t ht hvm => ⟨by rw [ht]; exact hp, hS.F ht⟩) hS.2.2 (by omega) (by omega)
  rw [hT]
  intro z hz
  obtain ⟨w, hw, rfl⟩ := List.mem_map.mp hz
  rcases hpass w hw with h | ⟨h, nm, h4, h5⟩
  · exact Or.inl h
  · exact Or.inr ⟨h, nm, hts _ h4, va_Nc.moved hX.2.1.1.alike (hX.C.2.1.2.2.2 _ h5)⟩
end
theorem j_iincc {X : JX} {G : JG} {own : String} {cc : ByteArray} {nL d : Nat} {H : Heap} {b pc : Nat} {lv : JL} {rest : List Value} (hX : JOK X G own cc nL d) {i : Nat} {n : Int} {x m : Int32} {lv' : JL} (hdg : decode cc pc = .ok (.iinc i n, 3)) (hk : jget lv i = some (.int x)) (hm : Int32.ofInt n = m) (hn : i < nL) (hs9 : jset1 false lv i (.inl (.int (x + m))) some = some lv') (k : JW X G H b (pc + 3) lv' rest) : JW X G H b pc lv rest := j_iinc hX hdg hk (by rw [hm]) hn hs9 k
theorem jrf_cat (o : Option Nat) : (va_rf o).category = 1 := by cases o <;> rfl
