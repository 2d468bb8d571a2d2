/-! J: statics, constants, casts, returns, throws -/
set_option maxRecDepth 100000
def JLS (own : String) (index : Nat) (C n d : String) : Prop := ∃ ref : String, Cond.fieldLink own index ref n d ∈ lw_all ∧ (ref = C ∨ Cond.sameField ref C n d ∈ lw_all)
theorem j_gets {X : JX} {G : JG} {own : String} {cc : ByteArray} {nL d : Nat} {H : Heap} {b pc : Nat} {lv : JL} {rest : List Value} (hX : JOK X G own cc nL d) {index : Nat} {C n ds : String} {v : Value} (kl : JLS own index C n ds) (hZ : va_Z C n ds v (jA G) (gs G) (gs G).heap) (hdg : decode cc pc = .ok (.getstatic index, 3))
    (kk : JW X G H b (pc + 3) lv (v :: rest)) : JW X G H b pc lv rest := by
  intro locs cells slots ls hS hc hs hlv
  obtain ⟨⟨hx, hb, -, hown, hts⟩, hK, -⟩ := hX
  obtain ⟨ref, hl, hsm⟩ := kl
  have hZ' : va_Z C n ds v (jA G) (js X) (js X).heap := (va_Z.moved hK.1.alike hZ).kept (fun a h1 h2 => hK.2.1.2 a h1)
  refine va_gets hx hb hZ' hS hown (hts _ hl) (fun x hx' => ?_) hdg (kk locs cells slots ls hS hc hs hlv)
  rcases hsm with e | e
  · rw [e]; exact hx'
  · exact u_same (hts _ e) _ hx'
theorem JOK.C {X : JX} {G : JG} {own : String} {cc : ByteArray} {nL d : Nat} (hX : JOK X G own cc nL d) : JC G := hX.2.1.2.2
theorem j_ldc {X : JX} {G : JG} {own : String} {cc : ByteArray} {nL d : Nat} {H : Heap} {b pc : Nat} {lv : JL} {rest : List Value} (hX : JOK X G own cc nL d) {index : Nat} {v : Int32} (kc : Jvm.Cond.constant own index v ∈ lw_all) (hdg : decode cc pc = .ok (.ldc index, 2)) (kk : JW X G H b (pc + 2) lv (.int v :: rest)) : JW X G H b pc lv rest :=
  fun locs cells slots ls hS hc hs hlv => lv_ldc hX.1.1 hX.1.2.1 hX.1.2.2.2.1 (hX.1.2.2.2.2 _ kc) hdg (kk locs cells slots ls hS hc hs hlv)
theorem j_ldcw {X : JX} {G : JG} {own : String} {cc : ByteArray} {nL d : Nat} {H : Heap} {b pc : Nat} {lv : JL} {rest : List Value} (hX : JOK X G own cc nL d) {index : Nat} {v : Int32} (kc : Jvm.Cond.constant own index v ∈ lw_all) (hdg : decode cc pc = .ok (.ldc_w index, 3)) (kk : JW X G H b (pc + 3) lv (.int v :: rest)) : JW X G H b pc lv rest :=
  fun locs cells slots ls hS hc hs hlv => lv_ldcw hX.1.1 hX.1.2.1 hX.1.2.2.2.1 (hX.1.2.2.2.2 _ kc) hdg (kk locs cells slots ls hS hc hs hlv)
theorem j_ldc2 {X : JX} {G : JG} {own : String} {cc : ByteArray} {nL d : Nat} {H : Heap} {b pc : Nat} {lv : JL} {rest : List Value} (hX : JOK X G own cc nL d) {index : Nat} {v : Int64} (kc : Jvm.Cond.constantLong own index v ∈ lw_all) (hdg : decode cc pc = .ok (.ldc2_w index, 3)) (kk : JW X G H b (pc + 3) lv (.long v :: rest)) : JW X G H b pc lv rest :=
  fun locs cells slots ls hS hc hs hlv => lv_ldc2 hX.1.1 hX.1.2.1 hX.1.2.2.2.1 (hX.1.2.2.2.2 _ kc) hdg (kk locs cells slots ls hS hc hs hlv)
theorem j_ldcf {X : JX} {G : JG} {own : String} {cc : ByteArray} {nL d : Nat} {H : Heap} {b pc : Nat} {lv : JL} {rest : List Value} (hX : JOK X G own cc nL d) {index : Nat} {v : UInt32} (kc : Jvm.Cond.constantFloat own index v ∈ lw_all) (hdg : decode cc pc = .ok (.ldc index, 2)) (kk : JW X G H b (pc + 2) lv (.float v :: rest)) : JW X G H b pc lv rest :=
  fun locs cells slots ls hS hc hs hlv => lv_ldcf hX.1.1 hX.1.2.1 hX.1.2.2.2.1 (hX.1.2.2.2.2 _ kc) hdg (kk locs cells slots ls hS hc hs hlv)
/-- a String constant -/
theorem j_ldcS {X : JX} {G : JG} {own : String} {cc : ByteArray} {nL d : Nat} {H : Heap} {b pc : Nat} {lv : JL} {rest : List Value} (hX : JOK X G own cc nL d) {index : Nat} {tx : String} (kc : Jvm.Cond.stringRef own index tx ∈ lw_tbl) (hdg : decode cc pc = .ok (.ldc index, 2)) (kk : JW X G H b (pc + 2) lv (.ref (gS G tx) :: rest)) : JW X G H b pc lv rest :=
  fun locs cells slots ls hS hc hs hlv => va_ldcS hX.1.1 hX.1.2.1 hX.1.2.2.2.1 (vk_R.warm hX.2.1.1 (hX.C.2.2.1.1 _ _ _ kc)) hdg (kk locs cells slots ls hS hc hs hlv)
theorem j_ldcSW {X : JX} {G : JG} {own : String} {cc : ByteArray} {nL d : Nat} {H : Heap} {b pc : Nat} {lv : JL} {rest : List Value} (hX : JOK X G own cc nL d) {index : Nat} {tx : String} (kc : Jvm.Cond.stringRef own index tx ∈ lw_tbl) (hdg : decode cc pc = .ok (.ldc_w index, 3)) (kk : JW X G H b (pc + 3) lv (.ref (gS G tx) :: rest)) : JW X G H b pc lv rest := by
  intro locs cells slots ls hS hc hs hlv T hT Xs
  have hZ := vk_R.warm hX.2.1.1 (hX.C.2.2.1.1 _ _ _ kc)
  obtain ⟨t, a1, b1⟩ := kk locs cells slots ls hS hc hs hlv T hT Xs
  exact ⟨t, Xs.ldcStringW hX.1.1 hX.1.2.2.2.1 (text := tx) (a := gS G tx) hZ.1 hZ.2 (g := F0 (jm X) pc ls rest) rfl (by rw [hX.1.2.1]; exact hdg) t a1, b1⟩
/-- the receiver's class -/
theorem job.cls {X : JX} {G : JG} {own : String} {cc : ByteArray} {nL d : Nat} (hX : JOK X G own cc nL d) {H : Heap} {a ci : Nat} {fs : List Value} (h : job G H a ci fs) {r : vw_C} (hr : jcl[ci]? = some r) : ∃ cell : Cell, H[a]? = some cell ∧ cell.vm.isStatics = false ∧ (js X).vm.findClass r.1 = some cell.cls := by
  obtain ⟨r', cell, hr', h1, h2, h3, -⟩ := h
  cases Option.some.inj (hr.symm.trans hr')
  exact ⟨cell, h1, h3, by rw [h2]; exact (hX.2.1.K.1 ci r hr).2.1⟩
/-- class number ci is castable to what own names at index -/
def JLC (own : String) (index ci : Nat) : Prop := ∃ (nm : String) (r : vw_C), jcl[ci]? = some r ∧ Cond.classLink own index nm ∈ lw_all ∧ (r.1 = nm ∨ Cond.castable r.1 nm ∈ lw_tbl)
theorem j_ccast {X : JX} {G : JG} {own : String} {cc : ByteArray} {nL d : Nat} {H : Heap} {b pc : Nat} {lv : JL} {rest : List Value} (hX : JOK X G own cc nL d) {index ci a : Nat} {fs : List Value} (kc : JLC own index ci) (hdg : decode cc pc = .ok (.checkcast index, 3)) (h : job G H a ci fs) (kk : JW X G H b (pc + 3) lv (.ref a :: rest)) : JW X G H b pc lv (.ref a :: rest) := by
  intro locs cells slots ls hS hc hs hlv
  obtain ⟨nm, r, hr, hl, hcast⟩ := kc
  have hrc := h.cls hX hr
  obtain ⟨⟨hx, hb, -, hown, hts⟩, hK, -⟩ := hX
  rcases hcast with e | e
  · subst e
    exact va_castS hx hb hown (hts _ hl) (hK.K.1 ci r hr).2 hrc hdg (kk locs cells slots ls hS hc hs hlv)
  · exact va_castY hx hb hown (hts _ hl) (jnwk_warm rfl hK.1 (hK.2.2.2.1.1 _ e rfl)) hrc hdg (kk locs cells slots ls hS hc hs hlv)
theorem j_inst {X : JX} {G : JG} {own : String} {cc : ByteArray} {nL d : Nat} {H : Heap} {b pc : Nat} {lv : JL} {rest : List Value} (hX : JOK X G own cc nL d) {index ci a : Nat} {fs : List Value} (kc : JLC own index ci) (hdg : decode cc pc = .ok (.instanceof index, 3)) (h : job G H a ci fs) (kk : JW X G H b (pc + 3) lv (.int 1 :: rest)) : JW X G H b pc lv (.ref a :: rest) := by
  intro locs cells slots ls hS hc hs hlv
  obtain ⟨nm, r, hr, hl, hcast⟩ := kc
  have hrc := h.cls hX hr
  obtain ⟨⟨hx, hb, -, hown, hts⟩, hK, -⟩ := hX
  rcases hcast with e | e
  · subst e
    exact va_instS hx hb hown (hts _ hl) (hK.K.1 ci r hr).2 hrc hdg (kk locs cells slots ls hS hc hs hlv)
  · exact va_instY hx hb hown (hts _ hl) (jnwk_warm rfl hK.1 (hK.2.2.2.1.1 _ e rfl)) hrc hdg (kk locs cells slots ls hS hc hs hlv)
/-- .. and not -/
def JLD (own : String) (index ci : Nat) : Prop := ∃ (nm : String) (r : vw_C), jcl[ci]? = some r ∧ Cond.classLink own index nm ∈ lw_all ∧ (r.1, nm) ∈ jncl
theorem j_instNo {X : JX} {G : JG} {own : String} {cc : ByteArray} {nL d : Nat} {H : Heap} {b pc : Nat} {lv : JL} {rest : List Value} (hX : JOK X G own cc nL d) {index ci a : Nat} {fs : List Value} (kc : JLD own index ci) (hdg : decode cc pc = .ok (.instanceof index, 3)) (h : job G H a ci fs) (kk : JW X G H b (pc + 3) lv (.int 0 :: rest)) : JW X G H b pc lv (.ref a :: rest) := by
  intro locs cells slots ls hS hc hs hlv
  obtain ⟨nm, r, hr, hl, hn⟩ := kc
  have hrc := h.cls hX hr
  obtain ⟨⟨hx, hb, -, hown, hts⟩, hK, -⟩ := hX
  exact va_instNo hx hb hown (hts _ hl) (va_Nc.moved hK.1.alike (hK.2.2.2.1.2.2.2 _ hn)) hrc hdg (kk locs cells slots ls hS hc hs hlv)
/-! returns -/
section
variable {X : JX} {G : JG} {own : String} {cc : ByteArray} {nL d : Nat} {H : Heap} {b b0 pc : Nat} {lv : JL} {post : Option Value → Heap → Prop} {px : String → Nat → Heap → Prop}
theorem j_ret0 {st : List Value} (hQ : JRet X G b0 post px) (k : ∀ (locs : List Loc) (ls : Array Slot), va_S (jA G) (js X).heap H locs → W (jp X) (jl X) (je X) (jR X) (js X) (jm X) (ja X) (jbl X) (jme X) (jc X) H locs b0 (4 * b0) (MQ (jbl X) (jQc G post) (ja X) (js X) b0 (4 * b0) (jA G)) (F0 (jm X) pc ls st)) : JW X G H b pc lv st := by
  intro locs cells slots ls hS hc hs hlv
  obtain ⟨h1, h2, h3⟩ := hQ
  rw [h1]
  refine vx_ret ?_
  exact W.widen (k := b0) (n := 4 * b0) (by omega) (by omega) (k locs ls hS)
theorem j_iret (hX : JOK X G own cc nL d) (hQ : JRet X G b0 post px) (hr : (jme X).sig.returnType = some .int) {v : Int32} (hdg : decode cc pc = .ok (.ireturn, 1)) (hp : post (some (.int v)) H) : JW X G H b pc lv [.int v] :=
  j_ret0 hQ fun locs ls hS => W.iret hX.1.1 hX.1.2.1 hr (fun t ht hW => ⟨⟨_, rfl, by rw [ht]; exact hp⟩, hS.F ht⟩) hS.2.2 hdg hX.2.2.1
theorem j_zret (hX : JOK X G own cc nL d) (hQ : JRet X G b0 post px) {ty : FieldType} (hr : (jme X).sig.returnType = some ty) {v : Int32} (hn : narrow ty (.int v) = .int v) (hdg : decode cc pc = .ok (.ireturn, 1)) (hp : post (some (.int v)) H) : JW X G H b pc lv [.int v] :=
  j_ret0 hQ fun locs ls hS => W.zret hX.1.1 hX.1.2.1 hr hn (fun t ht hW => ⟨⟨_, rfl, by rw [ht]; exact hp⟩, hS.F ht⟩) hS.2.2 hdg hX.2.2.1
theorem j_vret (hX : JOK X G own cc nL d) (hQ : JRet X G b0 post px) (hr : (jme X).sig.returnType = none) (hdg : decode cc pc = .ok (.return_, 1)) (hp : post none H) : JW X G H b pc lv [] :=
  j_ret0 hQ fun locs ls hS => W.vret hX.1.1 hX.1.2.1 hr (fun t ht hW => ⟨⟨_, rfl, by rw [ht]; exact hp⟩, hS.F ht⟩) hS.2.2 hdg hX.2.2.1
theorem j_lret (hX : JOK X G own cc nL d) (hQ : JRet X G b0 post px) (hr : (jme X).sig.returnType = some .long) {v : Int64} (hdg : decode cc pc = .ok (.lreturn, 1)) (hp : post (some (.long v)) H) : JW X G H b pc lv [.long v] :=
  j_ret0 hQ fun locs ls hS => W.lret hX.1.1 hX.1.2.1 hr (fun t ht hW => ⟨⟨_, rfl, by rw [ht]; exact hp⟩, hS.F ht⟩) hS.2.2 hdg hX.2.2.1
theorem j_dret (hX : JOK X G own cc nL d) (hQ : JRet X G b0 post px) (hr : (jme X).sig.returnType = some .double) {v : UInt64} (hdg : decode cc pc = .ok (.dreturn, 1)) (hp : post (some (.double v)) H) : JW X G H b pc lv [.double v] :=
  j_ret0 hQ fun locs ls hS => W.dret hX.1.1 hX.1.2.1 hr (fun t ht hW => ⟨⟨_, rfl, by rw [ht]; exact hp⟩, hS.F ht⟩) hS.2.2 hdg hX.2.2.1
theorem j_fret (hX : JOK X G own cc nL d) (hQ : JRet X G b0 post px) (hr : (jme X).sig.returnType = some .float) {v : UInt32} (hdg : decode cc pc = .ok (.freturn, 1)) (hp : post (some (.float v)) H) : JW X G H b pc lv [.float v] :=
  j_ret0 hQ fun locs ls hS => W.fret hX.1.1 hX.1.2.1 hr (fun t ht hW => ⟨⟨_, rfl, by rw [ht]; exact hp⟩, hS.F ht⟩) hS.2.2 hdg hX.2.2.1
theorem j_aretv (hX : JOK X G own cc nL d) (hQ : JRet X G b0 post px) {rt : FieldType} (hr : (jme X).sig.returnType = some rt) (hrt : (∃ n, rt = .object n) ∨ ∃ t, rt = .array t) {v : Value} (hv : v = .null ∨ ∃ a, v = .ref a) (hdg : decode cc pc = .ok (.areturn, 1)) (hp : post (some v) H) : JW X G H b pc lv [v] :=
  j_ret0 hQ fun locs ls hS => W.aret hX.1.1 hX.1.2.1 hr hrt hv (fun t ht hW => ⟨⟨_, rfl, by rw [ht]; exact hp⟩, hS.F ht⟩) hS.2.2 hdg hX.2.2.1
theorem j_aret (hX : JOK X G own cc nL d) (hQ : JRet X G b0 post px) {rt : FieldType} (hr : (jme X).sig.returnType = some rt) (hrt : (∃ n, rt = .object n) ∨ ∃ t, rt = .array t) {a : Nat} (hdg : decode cc pc = .ok (.areturn, 1)) (hp : post (some (.ref a)) H) : JW X G H b pc lv [.ref a] := j_aretv hX hQ hr hrt (Or.inr ⟨_, rfl⟩) hdg hp
theorem j_aretN (hX : JOK X G own cc nL d) (hQ : JRet X G b0 post px) {rt : FieldType} (hr : (jme X).sig.returnType = some rt) (hrt : (∃ n, rt = .object n) ∨ ∃ t, rt = .array t) (hdg : decode cc pc = .ok (.areturn, 1)) (hp : post (some .null) H) : JW X G H b pc lv [.null] := j_aretv hX hQ hr hrt (Or.inl rfl) hdg hp
theorem j_aretq (hX : JOK X G own cc nL d) (hQ : JRet X G b0 post px) {rt : FieldType} (hr : (jme X).sig.returnType = some rt) (hrt : (∃ n, rt = .object n) ∨ ∃ t, rt = .array t) {o : Option Nat} (hdg : decode cc pc = .ok (.areturn, 1)) (hp : post (some (va_rf o)) H) : JW X G H b pc lv [va_rf o] :=
  j_aretv hX hQ hr hrt (by cases o with | none => exact Or.inl rfl | some a => exact Or.inr ⟨_, rfl⟩) hdg hp
theorem j_lcmp {x y : Int64} {rest : List Value} (hX : JOK X G own cc nL d) (hdg : decode cc pc = .ok (.lcmp, 1)) (k : JW X G H b (pc + 1) lv (.int (lg_cmp x y) :: rest)) : JW X G H b pc lv (.long y :: .long x :: rest) :=
  fun locs cells slots ls hS hc hs hlv => W.lcmp hX.1.1 hX.1.2.1 hdg (k locs cells slots ls hS hc hs hlv)
/-- thrown on to the caller -/
theorem jt_out (hX : JOK X G own cc nL d) (hQ : JRet X G b0 post px) (hT : (jc X).exceptionTable.toList = []) {rest : List Value} {E : String} {q : Nat} (hp : px E q H) : JT X G H b pc lv rest E q := by
  intro locs cells slots ls ce hS hc hs hlv h1 h2 h3
  obtain ⟨e1, e2, e3⟩ := hQ
  rw [e1]
  exact vx_out (by rw [hT]; exact fun x hx => by cases hx) hX.2.2.1 h1 h2 h3 (fun t ht hvm => ⟨by rw [ht]; exact hp, hS.F ht⟩) hS.2.2 (by omega) (by omega)
theorem j_athrow (hX : JOK X G own cc nL d) {rest : List Value} {q ci : Nat} {fs : List Value} (hdg : decode cc pc = .ok (.athrow, 1)) (h : jow G H q ci fs) {r : vw_C} (hr : jcl[ci]? = some r) (k : JT X G H b pc lv rest r.1 q) : JW X G H b pc lv (.ref q :: rest) := by
  intro locs cells slots ls hS hc hs hlv
  obtain ⟨r', hr', cell, q1, q2, q3, -⟩ := h
  cases Option.some.inj (hr.symm.trans hr')
  exact vx_athrow hX.1.1 hX.1.2.1 hdg (k locs cells slots ls cell hS hc hs hlv q1 q3 (by rw [q2]; exact (hX.2.1.K.1 ci r hr).2.1))
end
/-! calls -/
section
variable {X : JX} {G : JG} {own : String} {cc : ByteArray} {nL d : Nat} {H : Heap} {b b' d' pc : Nat} {lv : JL} {rest : List Value}
/-- a call's run, for every frame of the walk -/
def JRun (X : JX) (G : JG) (H : Heap) (b' pc : Nat) (st0 rest : List Value) (post : Option Value → Heap → Prop) (px : String → Nat → Heap → Prop) : Prop :=
  ∀ (locs : List Loc) (cells slots : Nat) (ls : Array Slot), va_S (jA G) (js X).heap H locs → cells + b' ≤ (jR X).cells → slots + 4 * b' ≤ (jR X).slots → ls.size = (jc X).maxLocals →
    vx_Run (jp X) (jl X) (je X) (jR X) (js X) (jm X) (ja X) (jbl X) (jme X) (jc X) H locs cells slots b' (4 * b') (F0 (jm X) pc ls st0) rest (jQc G post #[]) (jXC G px) (jA G)
def JRun5 (X : JX) (G : JG) (H : Heap) (b' pc : Nat) (st0 rest : List Value) (post : Option Value → Heap → Prop) (px : String → Nat → Heap → Prop) : Prop :=
  ∀ (locs : List Loc) (cells slots : Nat) (ls : Array Slot), va_S (jA G) (js X).heap H locs → cells + b' ≤ (jR X).cells → slots + 4 * b' ≤ (jR X).slots → ls.size = (jc X).maxLocals →
    vx_Run5 (jp X) (jl X) (je X) (jR X) (js X) (jm X) (ja X) (jbl X) (jme X) (jc X) H locs cells slots b' (4 * b') (F0 (jm X) pc ls st0) rest (jQc G post #[]) (jXC G px) (jA G)
theorem j_run {st0 : List Value} {post : Option Value → Heap → Prop} {px : String → Nat → Heap → Prop} (hr : JRun X G H b' pc st0 rest post px)
    (kk : ∀ (v : Option Value) (H1 : Heap), post v H1 → H.size ≤ H1.size → JW X G H1 b (pc + 3) lv (v.toList ++ rest)) (kx : ∀ (E : String) (q : Nat) (H1 : Heap), px E q H1 → H.size ≤ H1.size → JT X G H1 b pc lv rest E q) : JW X G H (b + b') pc lv st0 := by
  intro locs cells slots ls hS hc hs hlv T hT Xs
  rcases hr locs cells slots ls hS (by omega) (by omega) hlv.1 T hT Xs with ⟨v, st₀, t, T', L, h0, X', hL, e1, e2, ⟨⟨v', hv, hp⟩, hF⟩, st⟩ | ⟨q, st₀, t, T', L, E, ce, h0, X', hL, e1, e2, ⟨hp, hF⟩, hce, hcv, hcl, st⟩
  · cases hv
    obtain ⟨k1, k2, k3⟩ := vx_keep h0 e1 hS (fun q _ h => h) (fun q h => h) hL hF
    rw [e1] at k1 k3
    obtain ⟨t2, a1, b1⟩ := kk v t.heap hp k1 (locs ++ L) _ _ ls k3 (by omega) (by omega) hlv T' e1 X'
    exact ⟨t2, st t2 a1, b1⟩
  · obtain ⟨k1, k2, k3⟩ := vx_keep h0 e1 hS (fun q _ h => h) (fun q h => h) hL hF
    rw [e1] at k1 k3
    obtain ⟨t2, a1, b1⟩ := kx E q t.heap hp k1 (locs ++ L) _ _ ls ce k3 (by omega) (by omega) hlv hce hcv hcl T' e1 X'
    exact ⟨t2, st.trans a1, b1⟩
theorem j_run5 {st0 : List Value} {post : Option Value → Heap → Prop} {px : String → Nat → Heap → Prop} (hr : JRun5 X G H b' pc st0 rest post px)
    (kk : ∀ (v : Option Value) (H1 : Heap), post v H1 → H.size ≤ H1.size → JW X G H1 b (pc + 5) lv (v.toList ++ rest)) (kx : ∀ (E : String) (q : Nat) (H1 : Heap), px E q H1 → H.size ≤ H1.size → JT X G H1 b pc lv rest E q) : JW X G H (b + b') pc lv st0 := by
  intro locs cells slots ls hS hc hs hlv T hT Xs
  rcases hr locs cells slots ls hS (by omega) (by omega) hlv.1 T hT Xs with ⟨v, st₀, t, T', L, h0, X', hL, e1, e2, ⟨⟨v', hv, hp⟩, hF⟩, st⟩ | ⟨q, st₀, t, T', L, E, ce, h0, X', hL, e1, e2, ⟨hp, hF⟩, hce, hcv, hcl, st⟩
  · cases hv
    obtain ⟨k1, k2, k3⟩ := vx_keep h0 e1 hS (fun q _ h => h) (fun q h => h) hL hF
    rw [e1] at k1 k3
    obtain ⟨t2, a1, b1⟩ := kk v t.heap hp k1 (locs ++ L) _ _ ls k3 (by omega) (by omega) hlv T' e1 X'
    exact ⟨t2, st t2 a1, b1⟩
  · obtain ⟨k1, k2, k3⟩ := vx_keep h0 e1 hS (fun q _ h => h) (fun q h => h) hL hF
    rw [e1] at k1 k3
    obtain ⟨t2, a1, b1⟩ := kx E q t.heap hp k1 (locs ++ L) _ _ ls ce k3 (by omega) (by omega) hlv hce hcv hcl T' e1 X'
    exact ⟨t2, st.trans a1, b1⟩
theorem jno_x {X : JX} {G : JG} {H : Heap} {b pc : Nat} {lv : JL} {rest : List Value} : ∀ (E : String) (q : Nat) (H1 : Heap), jno E q H1 → H.size ≤ H1.size → JT X G H1 b pc lv rest E q := fun _ _ _ h => h.elim
theorem j_runi {st0 : List Value} {P : Int32 → Heap → Prop} {px : String → Nat → Heap → Prop} (hr : JRun X G H b' pc st0 rest (jpi P) px)
    (kk : ∀ (r : Int32) (H1 : Heap), P r H1 → H.size ≤ H1.size → JW X G H1 b (pc + 3) lv (.int r :: rest)) (kx : ∀ (E : String) (q : Nat) (H1 : Heap), px E q H1 → H.size ≤ H1.size → JT X G H1 b pc lv rest E q) : JW X G H (b + b') pc lv st0 :=
  j_run hr (fun v H1 hp hz => by obtain ⟨r, rfl, hp⟩ := hp; exact kk r H1 hp hz) kx
theorem j_runl {st0 : List Value} {P : Int64 → Heap → Prop} {px : String → Nat → Heap → Prop} (hr : JRun X G H b' pc st0 rest (jpl P) px)
    (kk : ∀ (r : Int64) (H1 : Heap), P r H1 → H.size ≤ H1.size → JW X G H1 b (pc + 3) lv (.long r :: rest)) (kx : ∀ (E : String) (q : Nat) (H1 : Heap), px E q H1 → H.size ≤ H1.size → JT X G H1 b pc lv rest E q) : JW X G H (b + b') pc lv st0 :=
  j_run hr (fun v H1 hp hz => by obtain ⟨r, rfl, hp⟩ := hp; exact kk r H1 hp hz) kx
theorem j_rund {st0 : List Value} {P : UInt64 → Heap → Prop} {px : String → Nat → Heap → Prop} (hr : JRun X G H b' pc st0 rest (jpd P) px)
    (kk : ∀ (r : UInt64) (H1 : Heap), P r H1 → H.size ≤ H1.size → JW X G H1 b (pc + 3) lv (.double r :: rest)) (kx : ∀ (E : String) (q : Nat) (H1 : Heap), px E q H1 → H.size ≤ H1.size → JT X G H1 b pc lv rest E q) : JW X G H (b + b') pc lv st0 :=
  j_run hr (fun v H1 hp hz => by obtain ⟨r, rfl, hp⟩ := hp; exact kk r H1 hp hz) kx
theorem j_runf {st0 : List Value} {P : UInt32 → Heap → Prop} {px : String → Nat → Heap → Prop} (hr : JRun X G H b' pc st0 rest (jpf P) px)
    (kk : ∀ (r : UInt32) (H1 : Heap), P r H1 → H.size ≤ H1.size → JW X G H1 b (pc + 3) lv (.float r :: rest)) (kx : ∀ (E : String) (q : Nat) (H1 : Heap), px E q H1 → H.size ≤ H1.size → JT X G H1 b pc lv rest E q) : JW X G H (b + b') pc lv st0 :=
  j_run hr (fun v H1 hp hz => by obtain ⟨r, rfl, hp⟩ := hp; exact kk r H1 hp hz) kx
theorem j_runa {st0 : List Value} {P : Nat → Heap → Prop} {px : String → Nat → Heap → Prop} (hr : JRun X G H b' pc st0 rest (jpa P) px)
    (kk : ∀ (r : Nat) (H1 : Heap), P r H1 → H.size ≤ H1.size → JW X G H1 b (pc + 3) lv (.ref r :: rest)) (kx : ∀ (E : String) (q : Nat) (H1 : Heap), px E q H1 → H.size ≤ H1.size → JT X G H1 b pc lv rest E q) : JW X G H (b + b') pc lv st0 :=
  j_run hr (fun v H1 hp hz => by obtain ⟨r, rfl, hp⟩ := hp; exact kk r H1 hp hz) kx
theorem j_runq {st0 : List Value} {P : Option Nat → Heap → Prop} {px : String → Nat → Heap → Prop} (hr : JRun X G H b' pc st0 rest (jpq P) px)
    (kk : ∀ (r : Option Nat) (H1 : Heap), P r H1 → H.size ≤ H1.size → JW X G H1 b (pc + 3) lv (va_rf r :: rest)) (kx : ∀ (E : String) (q : Nat) (H1 : Heap), px E q H1 → H.size ≤ H1.size → JT X G H1 b pc lv rest E q) : JW X G H (b + b') pc lv st0 :=
  j_run hr (fun v H1 hp hz => by obtain ⟨r, rfl, hp⟩ := hp; exact kk r H1 hp hz) kx
theorem j_runv {st0 : List Value} {P : Heap → Prop} {px : String → Nat → Heap → Prop} (hr : JRun X G H b' pc st0 rest (jpv P) px)
    (kk : ∀ (H1 : Heap), P H1 → H.size ≤ H1.size → JW X G H1 b (pc + 3) lv rest) (kx : ∀ (E : String) (q : Nat) (H1 : Heap), px E q H1 → H.size ≤ H1.size → JT X G H1 b pc lv rest E q) : JW X G H (b + b') pc lv st0 :=
  j_run hr (fun v H1 hp hz => by obtain ⟨rfl, hp⟩ := hp; exact kk H1 hp hz) kx
theorem j_run5i {st0 : List Value} {P : Int32 → Heap → Prop} {px : String → Nat → Heap → Prop} (hr : JRun5 X G H b' pc st0 rest (jpi P) px)
    (kk : ∀ (r : Int32) (H1 : Heap), P r H1 → H.size ≤ H1.size → JW X G H1 b (pc + 5) lv (.int r :: rest)) (kx : ∀ (E : String) (q : Nat) (H1 : Heap), px E q H1 → H.size ≤ H1.size → JT X G H1 b pc lv rest E q) : JW X G H (b + b') pc lv st0 :=
  j_run5 hr (fun v H1 hp hz => by obtain ⟨r, rfl, hp⟩ := hp; exact kk r H1 hp hz) kx
theorem j_run5l {st0 : List Value} {P : Int64 → Heap → Prop} {px : String → Nat → Heap → Prop} (hr : JRun5 X G H b' pc st0 rest (jpl P) px)
    (kk : ∀ (r : Int64) (H1 : Heap), P r H1 → H.size ≤ H1.size → JW X G H1 b (pc + 5) lv (.long r :: rest)) (kx : ∀ (E : String) (q : Nat) (H1 : Heap), px E q H1 → H.size ≤ H1.size → JT X G H1 b pc lv rest E q) : JW X G H (b + b') pc lv st0 :=
  j_run5 hr (fun v H1 hp hz => by obtain ⟨r, rfl, hp⟩ := hp; exact kk r H1 hp hz) kx
theorem j_run5d {st0 : List Value} {P : UInt64 → Heap → Prop} {px : String → Nat → Heap → Prop} (hr : JRun5 X G H b' pc st0 rest (jpd P) px)
    (kk : ∀ (r : UInt64) (H1 : Heap), P r H1 → H.size ≤ H1.size → JW X G H1 b (pc + 5) lv (.double r :: rest)) (kx : ∀ (E : String) (q : Nat) (H1 : Heap), px E q H1 → H.size ≤ H1.size → JT X G H1 b pc lv rest E q) : JW X G H (b + b') pc lv st0 :=
  j_run5 hr (fun v H1 hp hz => by obtain ⟨r, rfl, hp⟩ := hp; exact kk r H1 hp hz) kx
theorem j_run5f {st0 : List Value} {P : UInt32 → Heap → Prop} {px : String → Nat → Heap → Prop} (hr : JRun5 X G H b' pc st0 rest (jpf P) px)
    (kk : ∀ (r : UInt32) (H1 : Heap), P r H1 → H.size ≤ H1.size → JW X G H1 b (pc + 5) lv (.float r :: rest)) (kx : ∀ (E : String) (q : Nat) (H1 : Heap), px E q H1 → H.size ≤ H1.size → JT X G H1 b pc lv rest E q) : JW X G H (b + b') pc lv st0 :=
  j_run5 hr (fun v H1 hp hz => by obtain ⟨r, rfl, hp⟩ := hp; exact kk r H1 hp hz) kx
theorem j_run5a {st0 : List Value} {P : Nat → Heap → Prop} {px : String → Nat → Heap → Prop} (hr : JRun5 X G H b' pc st0 rest (jpa P) px)
    (kk : ∀ (r : Nat) (H1 : Heap), P r H1 → H.size ≤ H1.size → JW X G H1 b (pc + 5) lv (.ref r :: rest)) (kx : ∀ (E : String) (q : Nat) (H1 : Heap), px E q H1 → H.size ≤ H1.size → JT X G H1 b pc lv rest E q) : JW X G H (b + b') pc lv st0 :=
  j_run5 hr (fun v H1 hp hz => by obtain ⟨r, rfl, hp⟩ := hp; exact kk r H1 hp hz) kx
theorem j_run5q {st0 : List Value} {P : Option Nat → Heap → Prop} {px : String → Nat → Heap → Prop} (hr : JRun5 X G H b' pc st0 rest (jpq P) px)
    (kk : ∀ (r : Option Nat) (H1 : Heap), P r H1 → H.size ≤ H1.size → JW X G H1 b (pc + 5) lv (va_rf r :: rest)) (kx : ∀ (E : String) (q : Nat) (H1 : Heap), px E q H1 → H.size ≤ H1.size → JT X G H1 b pc lv rest E q) : JW X G H (b + b') pc lv st0 :=
  j_run5 hr (fun v H1 hp hz => by obtain ⟨r, rfl, hp⟩ := hp; exact kk r H1 hp hz) kx
theorem j_run5v {st0 : List Value} {P : Heap → Prop} {px : String → Nat → Heap → Prop} (hr : JRun5 X G H b' pc st0 rest (jpv P) px)
    (kk : ∀ (H1 : Heap), P H1 → H.size ≤ H1.size → JW X G H1 b (pc + 5) lv rest) (kx : ∀ (E : String) (q : Nat) (H1 : Heap), px E q H1 → H.size ≤ H1.size → JT X G H1 b pc lv rest E q) : JW X G H (b + b') pc lv st0 :=
  j_run5 hr (fun v H1 hp hz => by obtain ⟨rfl, hp⟩ := hp; exact kk H1 hp hz) kx
end
