/-! J: calls by the links of the tables -/
set_option maxRecDepth 100000
def JPl (y : MethodName) (n : Nat) : Prop := y.cls ≠ "java/lang/invoke/MethodHandle" ∧ y.cls ≠ "java/lang/invoke/VarHandle" ∧ (parseMethodDescriptor y.desc).map (fun d => d.parameters.length) = some n
/-- through an object of class number ci, its own method -/
def JV (own : String) (idx ci : Nat) (y : MethodName) (bytes : ByteArray) (maxL : Nat) (ret : Option FieldType) (n : Nat) : Prop :=
  ∃ r : vw_C, jcl[ci]? = some r ∧ y.cls = r.1 ∧ Cond.methodLink own idx y ∈ lw_all ∧ Cond.instanceMethod y ∈ lw_all ∧ Cond.selects r.1 y y ∈ lw_all ∧ Cond.initialized r.1 ∈ lw_all ∧ Cond.code y bytes maxL ret ∈ lw_all ∧ JPl y n ∧ maxL ≤ 80
/-- static -/
def JS (own : String) (idx : Nat) (y : MethodName) (bytes : ByteArray) (maxL : Nat) (ret : Option FieldType) (n : Nat) : Prop :=
  Cond.methodLink own idx y ∈ lw_all ∧ Cond.static y ∈ lw_all ∧ Cond.initialized y.cls ∈ lw_all ∧ Cond.code y bytes maxL ret ∈ lw_all ∧ JPl y n ∧ maxL ≤ 80
/-- a constructor -/
def JI (own : String) (idx : Nat) (y : MethodName) (bytes : ByteArray) (maxL n : Nat) : Prop :=
  Cond.methodLink own idx y ∈ lw_all ∧ Cond.instanceMethod y ∈ lw_all ∧ Cond.initialized y.cls ∈ lw_all ∧ Cond.code y bytes maxL none ∈ lw_all ∧ y.name = "<init>" ∧ JPl y n ∧ maxL ≤ 80
/-- nest mates' static methods and constructors -/
def JSN (own : String) (idx : Nat) (y : MethodName) (bytes : ByteArray) (maxL : Nat) (ret : Option FieldType) (n : Nat) : Prop :=
  (∃ host : String, Cond.methodLinkNest own idx y host ∈ lw_tbl) ∧ Cond.static y ∈ lw_all ∧ Cond.initialized y.cls ∈ lw_all ∧ Cond.code y bytes maxL ret ∈ lw_all ∧ JPl y n ∧ maxL ≤ 80
def JIN (own : String) (idx : Nat) (y : MethodName) (bytes : ByteArray) (maxL n : Nat) : Prop :=
  (∃ host : String, Cond.methodLinkNest own idx y host ∈ lw_tbl) ∧ Cond.instanceMethod y ∈ lw_all ∧ Cond.initialized y.cls ∈ lw_all ∧ Cond.code y bytes maxL none ∈ lw_all ∧ y.name = "<init>" ∧ JPl y n ∧ maxL ≤ 80
/-- inherited or overriding: named x, run y -/
def JU (own : String) (idx ci : Nat) (x y : MethodName) (bytes : ByteArray) (maxL : Nat) (ret : Option FieldType) (n : Nat) : Prop :=
  ∃ (r : vw_C) (owner : String), jcl[ci]? = some r ∧ Cond.methodLink own idx x ∈ lw_all ∧ Cond.sameMethod x.cls owner x.name x.desc ∈ lw_all ∧ Cond.selects r.1 x y ∈ lw_all ∧ Cond.instanceMethod y ∈ lw_all ∧ Cond.initialized y.cls ∈ lw_all ∧ Cond.code y bytes maxL ret ∈ lw_all ∧
    (y = ⟨owner, x.name, x.desc⟩ ∨ (Cond.instanceMethod ⟨owner, x.name, x.desc⟩ ∈ lw_all ∧ ∃ (b0 : ByteArray) (m0 : Nat) (r0 : Option FieldType), Cond.code ⟨owner, x.name, x.desc⟩ b0 m0 r0 ∈ lw_all) ∨ Cond.declares ⟨owner, x.name, x.desc⟩ ∈ lw_tbl) ∧
    (owner ≠ "java/lang/invoke/MethodHandle" ∧ owner ≠ "java/lang/invoke/VarHandle" ∧ (parseMethodDescriptor x.desc).map (fun d => d.parameters.length) = some n) ∧ maxL ≤ 80
/-- super.m -/
def JSU (own : String) (idx ci : Nat) (y : MethodName) (bytes : ByteArray) (maxL : Nat) (ret : Option FieldType) (n : Nat) : Prop :=
  ∃ r : vw_C, jcl[ci]? = some r ∧ Cond.methodLink own idx y ∈ lw_all ∧ Cond.sameMethod y.cls y.cls y.name y.desc ∈ lw_all ∧ Cond.superclass own y.cls ∈ lw_all ∧ Cond.instanceMethod y ∈ lw_all ∧ Cond.initialized y.cls ∈ lw_all ∧ Cond.code y bytes maxL ret ∈ lw_all ∧ y.name ≠ "<init>" ∧ (parseMethodDescriptor y.desc).map (fun d => d.parameters.length) = some n ∧ maxL ≤ 80
/-- through an interface -/
def JF (own : String) (idx ci : Nat) (x y : MethodName) (bytes : ByteArray) (maxL : Nat) (ret : Option FieldType) (n : Nat) : Prop :=
  ∃ r : vw_C, jcl[ci]? = some r ∧ Cond.methodLink own idx x ∈ lw_all ∧ Cond.selects r.1 x y ∈ lw_all ∧ Cond.instanceMethod y ∈ lw_all ∧ Cond.initialized y.cls ∈ lw_all ∧ Cond.code y bytes maxL ret ∈ lw_all ∧
    (Cond.declares x ∈ lw_tbl ∧ Cond.interfaceMethod x.cls x.cls x.name x.desc ∈ lw_tbl ∧ Cond.publicMethod y ∈ lw_tbl ∧ Cond.unhidden r.1 x.name x.desc ∈ lw_tbl ∧ Cond.castable r.1 x.cls ∈ lw_tbl) ∧ JPl x n ∧ maxL ≤ 80
/-- methods with handlers of their own -/
def JVX (own : String) (idx ci : Nat) (y : MethodName) (bytes : ByteArray) (maxL : Nat) (ret : Option FieldType) (hh : List (Nat × Nat × Nat × Nat)) (n : Nat) : Prop :=
  ∃ r : vw_C, jcl[ci]? = some r ∧ y.cls = r.1 ∧ Cond.methodLink own idx y ∈ lw_all ∧ Cond.instanceMethod y ∈ lw_all ∧ Cond.selects r.1 y y ∈ lw_all ∧ Cond.initialized r.1 ∈ lw_all ∧ Cond.codeWith y bytes maxL ret hh ∈ lw_all ∧ JPl y n ∧ maxL ≤ 80
def JSX (own : String) (idx : Nat) (y : MethodName) (bytes : ByteArray) (maxL : Nat) (ret : Option FieldType) (hh : List (Nat × Nat × Nat × Nat)) (n : Nat) : Prop :=
  Cond.methodLink own idx y ∈ lw_all ∧ Cond.static y ∈ lw_all ∧ Cond.initialized y.cls ∈ lw_all ∧ Cond.codeWith y bytes maxL ret hh ∈ lw_all ∧ JPl y n ∧ maxL ≤ 80
section
variable {X : JX} {G : JG} {own : String} {cc : ByteArray} {nL d : Nat} {H : Heap} {b b' d' pc : Nat} {lv : JL} {st0 rest : List Value} {idx ci : Nat} {x y : MethodName} {bytes : ByteArray} {maxL : Nat} {ret : Option FieldType} {n : Nat} {a : Nat} {fs As : List Value} {post : Option Value → Heap → Prop} {px : String → Nat → Heap → Prop}
theorem jR_fit (hX : JOK X G own cc nL d) (hd : d' < d) (hm : maxL ≤ 80) : (jrm d' b').frames + 1 ≤ (jR X).frames ∧ 8 + (maxL + 11) + (jrm d' b').locals ≤ (jR X).locals := by
  obtain ⟨-, -, -, h1, h2, -⟩ := hX
  refine ⟨by show d' + 1 ≤ _; omega, ?_⟩
  show 8 + (maxL + 11) + 100 * d' ≤ _
  omega
theorem j_preV (hX : JOK X G own cc nL d) {r : vw_C} (hr : jcl[ci]? = some r) (ho : job G H a ci fs) {locs : List Loc} (hS : va_S (jA G) (js X).heap H locs) : PreV (js X) H r.1 a (jPc G H (.ref a :: As)) As :=
  ⟨jPc_blind, ho.cls hX hr, jPc_here hX hS (.ref a :: As)⟩
theorem j_preS (hX : JOK X G own cc nL d) {locs : List Loc} (hS : va_S (jA G) (js X).heap H locs) : PreS (js X) H (jPc G H As) As :=
  ⟨jPc_blind, jPc_here hX hS As⟩
theorem jr_V (hX : JOK X G own cc nL d) (kl : JV own idx ci y bytes maxL ret n) (ho : job G H a ci fs) (hM : JMet (jl X) y (ws_ y bytes maxL ret) d' b' G H (.ref a :: As) post px) (hd : d' < d) (hdg : decode cc pc = .ok (.invokevirtual idx, 3)) (hst : st0 = As.reverse ++ .ref a :: rest) (hn : As.length = n) (hcat : (rest.map fun v => v.category).sum ≤ 8) : JRun X G H b' pc st0 rest post px := by
  intro locs cells slots ls hS hc hs hsz
  obtain ⟨r, hr, hy, k1, k2, k3, k4, k5, ⟨p1, p2, p3⟩, hm⟩ := kl
  exact vx_runV (As := As) hX.1 (hM hX.2.2.2.2.2) (cwV n hX.1.2.2.2.2 (lw_V k1 k2 k3 k4 k5) rfl rfl rfl ⟨hy, p1, p2, p3⟩ (jR_fit hX hd hm)) (j_preV hX hr ho hS) rfl hn (hsz.trans hX.1.2.2.1) hst (by show 2 * 0 + _ ≤ 8; omega) hdg ⟨hc, hs⟩
theorem jr_S (hX : JOK X G own cc nL d) (kl : JS own idx y bytes maxL ret n) (hM : JMet (jl X) y (ws_ y bytes maxL ret) d' b' G H As post px) (hd : d' < d) (hdg : decode cc pc = .ok (.invokestatic idx, 3)) (hst : st0 = As.reverse ++ rest) (hn : As.length = n) (hcat : (rest.map fun v => v.category).sum ≤ 8) : JRun X G H b' pc st0 rest post px := by
  intro locs cells slots ls hS hc hs hsz
  obtain ⟨k1, k2, k3, k4, ⟨p1, p2, p3⟩, hm⟩ := kl
  exact vx_runS (As := As) hX.1 (hM hX.2.2.2.2.2) (va_cwS n hX.1.2.2.2.2 (lw_S k1 k2 k3 k4) rfl rfl rfl ⟨p1, p2, p3⟩ (jR_fit hX hd hm)) (j_preS hX hS) rfl hn (hsz.trans hX.1.2.2.1) hst (by show 2 * 0 + _ ≤ 8; omega) hdg ⟨hc, hs⟩
theorem jr_I (hX : JOK X G own cc nL d) (kl : JI own idx y bytes maxL n) (hM : JMet (jl X) y (ws_ y bytes maxL none) d' b' G H (.ref a :: As) post px) (hd : d' < d) (hdg : decode cc pc = .ok (.invokespecial idx, 3)) (hst : st0 = As.reverse ++ .ref a :: rest) (hn : As.length = n) (hcat : (rest.map fun v => v.category).sum ≤ 8) : JRun X G H b' pc st0 rest post px := by
  intro locs cells slots ls hS hc hs hsz
  obtain ⟨k1, k2, k3, k4, hi, ⟨p1, p2, p3⟩, hm⟩ := kl
  have hts := hX.1.2.2.2.2
  exact vx_runI (As := As) hX.1 (hM hX.2.2.2.2.2) (cwI n hts (lw_meth k4) rfl rfl rfl (hts _ k3) (hts _ k1) (hts _ k2) hi ⟨p1, p2, p3⟩ (jR_fit hX hd hm)) (j_preS hX hS) rfl hn (hsz.trans hX.1.2.2.1) hst (by show 2 * 0 + _ ≤ 8; omega) hdg ⟨hc, hs⟩
theorem jr_SN (hX : JOK X G own cc nL d) (kl : JSN own idx y bytes maxL ret n) (hM : JMet (jl X) y (ws_ y bytes maxL ret) d' b' G H As post px) (hd : d' < d) (hdg : decode cc pc = .ok (.invokestatic idx, 3)) (hst : st0 = As.reverse ++ rest) (hn : As.length = n) (hcat : (rest.map fun v => v.category).sum ≤ 8) : JRun X G H b' pc st0 rest post px := by
  intro locs cells slots ls hS hc hs hsz
  obtain ⟨⟨host, k1⟩, k2, k3, k4, ⟨p1, p2, p3⟩, hm⟩ := kl
  have hts := hX.1.2.2.2.2
  exact vx_runSN (As := As) hX.1 (hM hX.2.2.2.2.2) ⟨va_cnB n hts (lw_meth k4) rfl rfl rfl (jnwk_warm rfl hX.2.1.1 (hX.C.2.1.1 _ k1 rfl)) (hts _ k3) ⟨p1, p2, p3⟩ (jR_fit hX hd hm), hts _ k2, trivial⟩ (j_preS hX hS) rfl hn (hsz.trans hX.1.2.2.1) hst (by show 2 * 0 + _ ≤ 8; omega) hdg ⟨hc, hs⟩
theorem jr_IN (hX : JOK X G own cc nL d) (kl : JIN own idx y bytes maxL n) (hM : JMet (jl X) y (ws_ y bytes maxL none) d' b' G H (.ref a :: As) post px) (hd : d' < d) (hdg : decode cc pc = .ok (.invokespecial idx, 3)) (hst : st0 = As.reverse ++ .ref a :: rest) (hn : As.length = n) (hcat : (rest.map fun v => v.category).sum ≤ 8) : JRun X G H b' pc st0 rest post px := by
  intro locs cells slots ls hS hc hs hsz
  obtain ⟨⟨host, k1⟩, k2, k3, k4, hi, ⟨p1, p2, p3⟩, hm⟩ := kl
  have hts := hX.1.2.2.2.2
  exact vx_runIN (As := As) hX.1 (hM hX.2.2.2.2.2) ⟨va_cnB n hts (lw_meth k4) rfl rfl rfl (jnwk_warm rfl hX.2.1.1 (hX.C.2.1.1 _ k1 rfl)) (hts _ k3) ⟨p1, p2, p3⟩ (jR_fit hX hd hm), hi, hts _ k2⟩ (j_preS hX hS) rfl hn (hsz.trans hX.1.2.2.1) hst (by show 2 * 0 + _ ≤ 8; omega) hdg ⟨hc, hs⟩
theorem j_wsU {C owner : String} (h1 : Cond.methodLink own idx x ∈ lw_all) (h2 : Cond.sameMethod x.cls owner x.name x.desc ∈ lw_all) (h3 : Cond.selects C x y ∈ lw_all) (h4 : Cond.instanceMethod y ∈ lw_all) (h5 : Cond.initialized y.cls ∈ lw_all) (h6 : Cond.code y bytes maxL ret ∈ lw_all) : GoodIn lw_all (va_wsU own idx C owner x y (ws_ y bytes maxL ret)) := by
  refine lw_app ?_ (lw_meth h6)
  intro w hw
  simp only [List.mem_cons, List.not_mem_nil, or_false] at hw
  rcases hw with e | e | e | e | e <;> rw [e] <;> assumption
theorem j_wsO {C owner : String} (h1 : Cond.methodLink own idx x ∈ lw_all) (h2 : Cond.sameMethod x.cls owner x.name x.desc ∈ lw_all) (h7 : Cond.instanceMethod ⟨owner, x.name, x.desc⟩ ∈ lw_all) (h3 : Cond.selects C x y ∈ lw_all) (h4 : Cond.instanceMethod y ∈ lw_all) (h5 : Cond.initialized y.cls ∈ lw_all) (h6 : Cond.code y bytes maxL ret ∈ lw_all) : GoodIn lw_all (va_wsO own idx C owner x y (ws_ y bytes maxL ret)) := by
  refine lw_app ?_ (lw_meth h6)
  intro w hw
  simp only [List.mem_cons, List.not_mem_nil, or_false] at hw
  rcases hw with e | e | e | e | e | e <;> rw [e] <;> assumption
theorem jr_U (hX : JOK X G own cc nL d) (kl : JU own idx ci x y bytes maxL ret n) (ho : job G H a ci fs) (hM : JMet (jl X) y (ws_ y bytes maxL ret) d' b' G H (.ref a :: As) post px) (hd : d' < d) (hdg : decode cc pc = .ok (.invokevirtual idx, 3)) (hst : st0 = As.reverse ++ .ref a :: rest) (hn : As.length = n) (hcat : (rest.map fun v => v.category).sum ≤ 8) : JRun X G H b' pc st0 rest post px := by
  intro locs cells slots ls hS hc hs hsz
  obtain ⟨r, owner, hr, k1, k2, k3, k4, k5, k6, hz, hp, hm⟩ := kl
  have hts := hX.1.2.2.2.2
  have cw : va_CU (jR X) (js X) (ja X) own r.1 owner idx x y bytes maxL ret (ws_ y bytes maxL ret) (jrm d' b') b' (4 * b') n := by
    rcases hz with e | ⟨e, b0, m0, r0, e2⟩ | e
    · exact va_cwU n hts (j_wsU k1 k2 k3 k4 k5 k6) rfl rfl rfl e hp (jR_fit hX hd hm)
    · exact va_cwO n hts (j_wsO k1 k2 e k3 k4 k5 k6) rfl rfl rfl e2 hp (jR_fit hX hd hm)
    · exact va_cwA n hts (j_wsU k1 k2 k3 k4 k5 k6) rfl rfl rfl (jnwk_warm rfl hX.2.1.1 (hX.C.2.1.1 _ e rfl)) hp (jR_fit hX hd hm)
  exact vx_runU (As := As) hX.1 (hM hX.2.2.2.2.2) cw (j_preV hX hr ho hS) rfl hn (hsz.trans hX.1.2.2.1) hst (by show 2 * 0 + _ ≤ 8; omega) hdg ⟨hc, hs⟩
theorem j_wsSU (h1 : Cond.methodLink own idx y ∈ lw_all) (h2 : Cond.sameMethod y.cls y.cls y.name y.desc ∈ lw_all) (h3 : Cond.superclass own y.cls ∈ lw_all) (h4 : Cond.instanceMethod y ∈ lw_all) (h5 : Cond.initialized y.cls ∈ lw_all) (h6 : Cond.code y bytes maxL ret ∈ lw_all) : GoodIn lw_all (va_wsSU own idx y (ws_ y bytes maxL ret)) := by
  refine lw_app ?_ (lw_meth h6)
  intro w hw
  simp only [List.mem_cons, List.not_mem_nil, or_false] at hw
  rcases hw with e | e | e | e | e <;> rw [e] <;> assumption
theorem jr_SU (hX : JOK X G own cc nL d) (kl : JSU own idx ci y bytes maxL ret n) (ho : job G H a ci fs) (hM : JMet (jl X) y (ws_ y bytes maxL ret) d' b' G H (.ref a :: As) post px) (hd : d' < d) (hdg : decode cc pc = .ok (.invokespecial idx, 3)) (hst : st0 = As.reverse ++ .ref a :: rest) (hn : As.length = n) (hcat : (rest.map fun v => v.category).sum ≤ 8) : JRun X G H b' pc st0 rest post px := by
  intro locs cells slots ls hS hc hs hsz
  obtain ⟨r, hr, k1, k2, k3, k4, k5, k6, hi, hp, hm⟩ := kl
  have hts := hX.1.2.2.2.2
  exact vx_runSU (hX.2.1.K.1 ci r hr).2 hX.1 (hM hX.2.2.2.2.2) (va_cwSU n hts (j_wsSU k1 k2 k3 k4 k5 k6) rfl rfl rfl ⟨hi, hp⟩ (jR_fit hX hd hm)) (j_preV hX hr ho hS) rfl hn (hsz.trans hX.1.2.2.1) hst (by show 2 * 0 + _ ≤ 8; omega) hdg ⟨hc, hs⟩
theorem j_wsF {C : String} (h1 : Cond.methodLink own idx x ∈ lw_all) (h3 : Cond.selects C x y ∈ lw_all) (h4 : Cond.instanceMethod y ∈ lw_all) (h5 : Cond.initialized y.cls ∈ lw_all) (h6 : Cond.code y bytes maxL ret ∈ lw_all) : GoodIn lw_all (va_wsF own idx C x y (ws_ y bytes maxL ret)) := by
  refine lw_app ?_ (lw_meth h6)
  intro w hw
  simp only [List.mem_cons, List.not_mem_nil, or_false] at hw
  rcases hw with e | e | e | e <;> rw [e] <;> assumption
theorem jr_F (hX : JOK X G own cc nL d) (kl : JF own idx ci x y bytes maxL ret n) {count : Nat} (ho : job G H a ci fs) (hM : JMet (jl X) y (ws_ y bytes maxL ret) d' b' G H (.ref a :: As) post px) (hd : d' < d) (hdg : decode cc pc = .ok (.invokeinterface idx count, 5)) (hst : st0 = As.reverse ++ .ref a :: rest) (hn : As.length = n) (hcat : (rest.map fun v => v.category).sum ≤ 8) : JRun5 X G H b' pc st0 rest post px := by
  intro locs cells slots ls hS hc hs hsz
  obtain ⟨r, hr, k1, k3, k4, k5, k6, ⟨f1, f2, f3, f4, f5⟩, ⟨p1, p2, p3⟩, hm⟩ := kl
  have hts := hX.1.2.2.2.2
  exact vx_runF (hX.2.1.K.1 ci r hr).2 hX.1 (hM hX.2.2.2.2.2) (va_cwF n hts (j_wsF k1 k3 k4 k5 k6) rfl rfl rfl ((hX.C.2.1.2.1 _ _ _ f1 f2 f3 f4 f5).moved ⟨p1, p2⟩ hX.2.1.1.alike) ⟨p1, p2, p3⟩ (jR_fit hX hd hm)) (j_preV hX hr ho hS) rfl hn (hsz.trans hX.1.2.2.1) hst (by show 2 * 0 + _ ≤ 8; omega) hdg ⟨hc, hs⟩
theorem jr_VX {hh : List (Nat × Nat × Nat × Nat)} (hX : JOK X G own cc nL d) (kl : JVX own idx ci y bytes maxL ret hh n) (ho : job G H a ci fs) (hM : JMet (jl X) y (wsW_ y bytes maxL ret hh) d' b' G H (.ref a :: As) post px) (hd : d' < d) (hdg : decode cc pc = .ok (.invokevirtual idx, 3)) (hst : st0 = As.reverse ++ .ref a :: rest) (hn : As.length = n) (hcat : (rest.map fun v => v.category).sum ≤ 8) : JRun X G H b' pc st0 rest post px := by
  intro locs cells slots ls hS hc hs hsz
  obtain ⟨r, hr, hy, k1, k2, k3, k4, k5, ⟨p1, p2, p3⟩, hm⟩ := kl
  exact vx_runVX (As := As) hX.1 (hM hX.2.2.2.2.2) (vx_cwVW n hX.1.2.2.2.2 (lw_VW k1 k2 k3 k4 k5) rfl rfl rfl ⟨hy, p1, p2, p3⟩ (jR_fit hX hd hm)) (j_preV hX hr ho hS) rfl hn (hsz.trans hX.1.2.2.1) hst (by show 2 * 0 + _ ≤ 8; omega) hdg ⟨hc, hs⟩
theorem jr_SX {hh : List (Nat × Nat × Nat × Nat)} (hX : JOK X G own cc nL d) (kl : JSX own idx y bytes maxL ret hh n) (hM : JMet (jl X) y (wsW_ y bytes maxL ret hh) d' b' G H As post px) (hd : d' < d) (hdg : decode cc pc = .ok (.invokestatic idx, 3)) (hst : st0 = As.reverse ++ rest) (hn : As.length = n) (hcat : (rest.map fun v => v.category).sum ≤ 8) : JRun X G H b' pc st0 rest post px := by
  intro locs cells slots ls hS hc hs hsz
  obtain ⟨k1, k2, k3, k4, ⟨p1, p2, p3⟩, hm⟩ := kl
  exact vx_runSX (As := As) hX.1 (hM hX.2.2.2.2.2) (vx_cwSW n hX.1.2.2.2.2 (lw_SW k1 k2 k3 k4) rfl rfl rfl ⟨p1, p2, p3⟩ (jR_fit hX hd hm)) (j_preS hX hS) rfl hn (hsz.trans hX.1.2.2.1) hst (by show 2 * 0 + _ ≤ 8; omega) hdg ⟨hc, hs⟩
end
