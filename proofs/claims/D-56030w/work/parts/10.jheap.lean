/-! J: fields, arrays, objects, statics, casts, returns -/
set_option maxRecDepth 100000
/-- field k of class number ci, as the class own names it at its entry 'index' (its own, or a nest mate's) -/
def JLG (own : String) (index ci k : Nat) : Prop := ∃ (ref : String) (r : vw_C), jcl[ci]? = some r ∧ (∀ w ∈ u_ws r.1 r.2.1 r.2.2, w ∈ lw_all) ∧ k < r.2.2 ∧
  (Cond.fieldLink own index ref (r.2.1 k).2.1 (r.2.1 k).2.2.1 ∈ lw_all ∨ ∃ host : String, Cond.fieldLinkNest own index ref (r.2.1 k).2.1 (r.2.1 k).2.2.1 host ∈ lw_tbl) ∧
  (ref = (r.2.1 k).1 ∨ Cond.sameField ref (r.2.1 k).1 (r.2.1 k).2.1 (r.2.1 k).2.2.1 ∈ lw_all)
theorem JK.K {G : JG} {s : State} {H : Heap} (h : JK G s H) : va_K (gD G) jcl (jtys (gT G)) s := va_K.moved h.1.alike h.2.2.1
theorem j_get {X : JX} {G : JG} {own : String} {cc : ByteArray} {nL d : Nat} {H : Heap} {b pc : Nat} {lv : JL} {rest : List Value} (hX : JOK X G own cc nL d) {index ci k a : Nat} (kg : JLG own index ci k) {fs : List Value} {v : Value} (hdg : decode cc pc = .ok (.getfield index, 3)) (h : job G H a ci fs) (hv : fs[k]? = some v)
    (kk : JW X G H b (pc + 3) lv (v :: rest)) : JW X G H b pc lv (.ref a :: rest) := by
  intro locs cells slots ls hS hc hs hlv
  obtain ⟨⟨hx, hb, -, hown, hts⟩, hK, -⟩ := hX
  obtain ⟨ref, r, hr, hin, hk, hlink, hsame⟩ := kg
  obtain ⟨r', cell, hr', h1, h2, h3, h4, h5⟩ := h
  cases Option.some.inj (hr.symm.trans hr')
  obtain ⟨hSl, hfc, kC, hkC, hkind⟩ := hK.K.1 ci _ hr
  obtain ⟨cf, kf, fi, f, hi, hsl⟩ := hSl k hk
  have hsm : (js X).fieldFound? ref (r.2.1 k).2.1 (r.2.1 k).2.2.1 = some (cf, kf, fi, f) := by
    rcases hsame with e | e
    · rw [e]; exact hi
    · exact u_same (hts _ e) _ hi
  have hst := (u_facts hfc hkC (u_lays hts hin hk) hi).1
  have hv' : cell.slots[f.slot]? = some v := by rw [hsl, h5 k hk]; simp [vp_V, hv]
  rcases hlink with hl | ⟨host, hl⟩
  · exact W.getf hx hb hown (hts _ hl) hsm hst h1 h4 hv' rfl rfl hdg (kk locs cells slots ls hS hc hs hlv)
  · exact va_Wgetf hx hb hown (va_Nw.use rfl (jnwk_warm rfl hK.1 (hK.2.2.2.1.1 _ hl rfl))) hsm hst h1 h4 hv' rfl rfl hdg (kk locs cells slots ls hS hc hs hlv)
/-- the fields with one changed, spelled out -/
def jlset : List Value → Nat → Value → (List Value → Option (List Value)) → Option (List Value)
  | [], _, _, _ => none
  | _ :: t, 0, v, k => k (v :: t)
  | x :: t, i + 1, v, k => jlset t i v (fun t' => k (x :: t'))
theorem jlset_in : ∀ {fs : List Value} {i : Nat} {v : Value} {k : List Value → Option (List Value)} {r : List Value}, jlset fs i v k = some r → i < fs.length ∧ k (fs.set i v) = some r := by
  intro fs
  induction fs with
  | nil => intro i v k r h; cases h
  | cons x t ih =>
    intro i v k r h
    cases i with
    | zero => exact ⟨Nat.zero_lt_succ _, h⟩
    | succ i =>
      obtain ⟨h1, h2⟩ := ih (i := i) (v := v) (k := fun t' => k (x :: t')) h
      exact ⟨Nat.succ_lt_succ h1, h2⟩
/-- the same for a write: the field's type, and what tells the fields apart; a final one in its own constructor -/
def JLP (own : String) (index ci k : Nat) (ty : FieldType) (fin : Bool) : Prop := JLG own index ci k ∧ ∀ r : vw_C, jcl[ci]? = some r →
  (∃ ty0 : Nat → FieldType, (∀ k, k < r.2.2 → parseFieldDescriptor (r.2.1 k).2.2.1 = some (ty0 k)) ∧ ty0 k = ty) ∧ (∀ a, a < r.2.2 → ∀ b, b < r.2.2 → a ≠ b → (r.2.1 a).2.1 ≠ (r.2.1 b).2.1) ∧ (r.2.1 k).2.2.2 = fin ∧ (fin = true → (r.2.1 k).1 = own)
theorem j_put {X : JX} {G : JG} {own : String} {cc : ByteArray} {nL d : Nat} {H : Heap} {b pc : Nat} {lv : JL} {rest : List Value} (hX : JOK X G own cc nL d) {index ci k a : Nat} {ty : FieldType} (kp : JLP own index ci k ty false) {fs fs' : List Value} {v : Value} (hdg : decode cc pc = .ok (.putfield index, 3)) (h : jow G H a ci fs) (ha : (gs G).heap.size ≤ a) (hn : narrow ty v = v) (hf : fits ty v = true) (hset : jlset fs k v some = some fs')
    (kk : ∀ H1 : Heap, JPut H H1 a → jow G H1 a ci fs' → JW X G H1 b (pc + 3) lv rest) : JW X G H b pc lv (v :: .ref a :: rest) := by
  intro locs cells slots ls hS hc hs hlv
  obtain ⟨⟨hx, hb, -, hown, hts⟩, hK, -⟩ := hX
  obtain ⟨⟨ref, r, hr, hin, hk, hlink, hsame⟩, hP⟩ := kp
  obtain ⟨⟨ty0, hty, hty1⟩, hnm, hfin, -⟩ := hP r hr
  obtain ⟨hl, hset⟩ := jlset_in hset
  cases hset
  have hap := va_apart (own := own) hts hin ty0 hty hnm hK.K hr
  obtain ⟨r', hr', cell, q1, q2, q3, q4⟩ := h
  cases Option.some.inj (hr.symm.trans hr')
  obtain ⟨hSl, hfc, kC, hkC, hkind⟩ := hK.K.1 ci _ hr
  obtain ⟨cf, kf, fi, f, hi, hsl⟩ := hSl k hk
  have hsm : (js X).fieldFound? ref (r.2.1 k).2.1 (r.2.1 k).2.2.1 = some (cf, kf, fi, f) := by
    rcases hsame with e | e
    · rw [e]; exact hi
    · exact u_same (hts _ e) _ hi
  have hlay := hts _ (hin _ (u_in_lay hk))
  unfold u_lay at hlay
  rw [if_neg (by rw [hfin]; decide)] at hlay
  have hst := (u_facts hfc hkC (u_lays hts hin hk) hi).1
  have h6 := u_store hfc hkC hkind hlay hi (by rw [hty k hk, hty1]) hn hf
  have fin' : ∀ H' : Heap, H'[a]? = some (cell.setSlot f.slot v) → jow G H' a ci (fs.set k v) := fun H' e1 => by
    rw [hsl] at e1
    exact ⟨r, hr, t_OB.to (V := updV (vp_V fs) k v) ⟨_, e1, q2, q3, t_set q4 hap hk v⟩ (fun j _ => vp_updV_set hl v j)⟩
  have hlt : f.slot < cell.slots.size := by rw [hsl]; exact k2_hasslot (q4 k hk)
  rcases hlink with hl | ⟨host, hl⟩
  · exact W.putK hx hb (f := f) ⟨hown, hts _ hl, ⟨_, _, _, hsm⟩, hst⟩ (by rw [q2]; exact h6) q1 q3 hlt rfl rfl hdg fun H' e1 e2 e3 => kk H' ⟨e2, e3⟩ (fin' H' e1) _ cells slots ls (hS.put e2 e3 ha) hc hs hlv
  · exact va_WputK hx hb (f := f) hown (va_Nw.use rfl (jnwk_warm rfl hK.1 (hK.2.2.2.1.1 _ hl rfl))) hsm hst (by rw [q2]; exact h6) q1 q3 hlt rfl rfl hdg fun H' e1 e2 e3 => kk H' ⟨e2, e3⟩ (fin' H' e1) _ cells slots ls (hS.put e2 e3 ha) hc hs hlv
/-- a final field, in the constructor -/
theorem j_putF {X : JX} {G : JG} {own : String} {cc : ByteArray} {nL d : Nat} {H : Heap} {b pc : Nat} {lv : JL} {rest : List Value} (hX : JOK X G own cc nL d) (hin2 : (jme X).name = "<init>") {index ci k a : Nat} {ty : FieldType} (kp : JLP own index ci k ty true) {fs fs' : List Value} {v : Value} (hdg : decode cc pc = .ok (.putfield index, 3)) (h : jow G H a ci fs) (ha : (gs G).heap.size ≤ a) (hn : narrow ty v = v) (hf : fits ty v = true) (hset : jlset fs k v some = some fs')
    (kk : ∀ H1 : Heap, JPut H H1 a → jow G H1 a ci fs' → JW X G H1 b (pc + 3) lv rest) : JW X G H b pc lv (v :: .ref a :: rest) := by
  intro locs cells slots ls hS hc hs hlv
  obtain ⟨⟨hx, hb, -, hown, hts⟩, hK, -⟩ := hX
  obtain ⟨⟨ref, r, hr, hin, hk, hlink, hsame⟩, hP⟩ := kp
  obtain ⟨⟨ty0, hty, hty1⟩, hnm, hfin, hdecl⟩ := hP r hr
  obtain ⟨hl, hset⟩ := jlset_in hset
  cases hset
  have hap := va_apart (own := own) hts hin ty0 hty hnm hK.K hr
  obtain ⟨r', hr', cell, q1, q2, q3, q4⟩ := h
  cases Option.some.inj (hr.symm.trans hr')
  obtain ⟨hSl, hfc, kC, hkC, hkind⟩ := hK.K.1 ci _ hr
  obtain ⟨cf, kf, fi, f, hi, hsl⟩ := hSl k hk
  have hsm : (js X).fieldFound? ref (r.2.1 k).2.1 (r.2.1 k).2.2.1 = some (cf, kf, fi, f) := by
    rcases hsame with e | e
    · rw [e]; exact hi
    · exact u_same (hts _ e) _ hi
  have hlay := hts _ (hin _ (u_in_lay hk))
  unfold u_lay at hlay
  rw [if_pos hfin] at hlay
  have hst := (u_facts hfc hkC (u_lays hts hin hk) hi).1
  have hcf : (jm X).cls = cf := by
    obtain ⟨_, _, c', _, _, _, -, -, hf', -, -, -, hown2, -⟩ := Cond.laysFinal_spec hlay
    have e1 : c' = cf := by have := hi.symm.trans hf'; simp at this; exact this.1.symm
    rw [hdecl rfl] at hown2
    rw [← e1]; exact Option.some.inj (hown.symm.trans hown2)
  have h6 := u_fits hfc hkC hkind (Or.inr hlay) hi (by rw [hty k hk, hty1]) hn hf
  have fin' : ∀ H' : Heap, H'[a]? = some (cell.setSlot f.slot v) → jow G H' a ci (fs.set k v) := fun H' e1 => by
    rw [hsl] at e1
    exact ⟨r, hr, t_OB.to (V := updV (vp_V fs) k v) ⟨_, e1, q2, q3, t_set q4 hap hk v⟩ (fun j _ => vp_updV_set hl v j)⟩
  have hlt : f.slot < cell.slots.size := by rw [hsl]; exact k2_hasslot (q4 k hk)
  rcases hlink with hl | ⟨host, hl⟩
  · exact W.putFinK hx hb hown (hts _ hl) hsm hst hcf hin2 (by rw [q2]; exact h6) q1 q3 hlt rfl rfl hdg fun H' e1 e2 e3 => kk H' ⟨e2, e3⟩ (fin' H' e1) _ cells slots ls (hS.put e2 e3 ha) hc hs hlv
  · have ha9 : a < H.size := (Array.getElem?_eq_some_iff.mp q1).1
    refine va_Wputf hx hb hown (va_Nw.use rfl (jnwk_warm rfl hK.1 (hK.2.2.2.1.1 _ hl rfl))) hsm hst (Or.inr ⟨hcf, hin2⟩) q1 (by rw [q3]; exact fun h => by cases h) hlt h6.1 (by rw [q3, q2]; exact h6.2) rfl rfl hdg ?_
    have e1 : (H.setIfInBounds a (cell.setSlot f.slot v))[a]? = some (cell.setSlot f.slot v) := by simp [Array.getElem?_setIfInBounds, ha9]
    have e2 : (H.setIfInBounds a (cell.setSlot f.slot v)).size = H.size := by simp
    have e3 : ∀ q, q ≠ a → (H.setIfInBounds a (cell.setSlot f.slot v))[q]? = H[q]? := fun q hq => by simp [Array.getElem?_setIfInBounds, Ne.symm hq]
    exact kk _ ⟨e2, e3⟩ (fin' _ e1) _ cells slots ls (hS.put e2 e3 ha) hc hs hlv
/-- 'new' of class number ci at the entry index; the fields' first values -/
def JLN (own : String) (index ci : Nat) (fs : List Value) : Prop := ∃ r : vw_C, jcl[ci]? = some r ∧ (∀ w ∈ u_ws r.1 r.2.1 r.2.2, w ∈ lw_all) ∧ (∃ ty0 : Nat → FieldType, (∀ k, k < r.2.2 → parseFieldDescriptor (r.2.1 k).2.2.1 = some (ty0 k)) ∧ ∀ j, j < r.2.2 → defaultValue (ty0 j) = vp_V fs j) ∧
  Cond.classLink own index r.1 ∈ lw_all ∧ Cond.instantiable r.1 r.2.2 ∈ lw_all ∧ Cond.initialized r.1 ∈ lw_all
def jsz (n : Nat) : Nat := (n + 3) / 4
theorem j_new {X : JX} {G : JG} {own : String} {cc : ByteArray} {nL d : Nat} {H : Heap} {b pc : Nat} {lv : JL} {rest : List Value} (hX : JOK X G own cc nL d) {index ci : Nat} {fs : List Value} (kn : JLN own index ci fs) (w : Nat) (hw : ∀ r : vw_C, jcl[ci]? = some r → 1 ≤ w ∧ r.2.2 ≤ 4 * w) (hdg : decode cc pc = .ok (.new index, 3))
    (kk : ∀ H1 : Heap, H1.size = H.size + 1 → JExt H H1 → jow G H1 H.size ci fs → (gs G).heap.size ≤ H.size → JW X G H1 b (pc + 3) lv (.ref H.size :: rest)) : JW X G H (b + w) pc lv rest := by
  intro locs cells slots ls hS hc hs hlv
  obtain ⟨⟨hx, hb, -, hown, hts⟩, hK, -⟩ := hX
  obtain ⟨r, hr, hin, ⟨ty0, hty, hfs⟩, hcl, hinst, hini⟩ := kn
  obtain ⟨hw1, hw2⟩ := hw r hr
  have hKn := hK.K.1 ci _ hr
  refine W.newcK hx hb hown (hts _ hcl) (hts _ hinst) (hts _ hini) rfl hdg (by omega) (by omega) hKn.2.1 rfl fun H1 kC hkC e1 z1 o1 => ?_
  refine kk H1 z1 ⟨by omega, o1⟩ ⟨r, hr, (u_born ty0 hts hin hKn hkC e1 hty).to hfs⟩ (Nat.le_trans hK.2.1.1 hS.1) locs _ _ ls ⟨Nat.le_trans hS.1 (by omega), fun q h1 h2 => (o1 q (Nat.lt_of_lt_of_le h1 hS.1)).trans (hS.2.1 q h1 h2), hS.2.2⟩ (by omega) (by omega) hlv
/-- Object's constructor -/
def JLO (own : String) (idx : Nat) : Prop := Cond.methodLink own idx Lib.objectInit ∈ lw_all ∧ Cond.instanceMethod Lib.objectInit ∈ lw_all ∧ Cond.code Lib.objectInit ⟨#[0xb1]⟩ 1 none ∈ lw_all
theorem j_objInit {X : JX} {G : JG} {own : String} {cc : ByteArray} {nL d : Nat} {H : Heap} {b pc : Nat} {lv : JL} {rest : List Value} (hX : JOK X G own cc nL d) {idx a : Nat} (ko : JLO own idx) (hd : 1 ≤ d) (hcat : (rest.map fun v => v.category).sum ≤ 8) (hdg : decode cc pc = .ok (.invokespecial idx, 3))
    (kk : JW X G H b (pc + 3) lv rest) : JW X G H b pc lv (.ref a :: rest) := by
  intro locs cells slots ls hS hc hs hlv
  obtain ⟨⟨hx, hb, -, hown, hts⟩, hK, -, hf, hl, -⟩ := hX
  exact W.objInit hx hb hown (hts _ ko.1) (hts _ ko.2.1) (hts _ ko.2.2) rfl hlv.1 rfl hdg (by omega) (by show 2 * 0 + _ + 12 ≤ _; omega) (kk locs cells slots ls hS hc hs hlv)
/-! arrays -/
theorem jaw.r {X : JX} {G : JG} {own : String} {cc : ByteArray} {nL d : Nat} (hX : JOK X G own cc nL d) {H : Heap} {a t n : Nat} {f : Nat → Value} (ht : t < 10) (h : jaw G H a t n f) : jar G H a t n f := by
  obtain ⟨cell, h1, h2, h3, h4, h5⟩ := h
  obtain ⟨-, k, hk, hkd⟩ := (hX.2.1.2.2.1.2 t _ (jtys_at ht)).1 0 (fun _ => .null)
  exact ⟨cell, h1, ⟨(fun q e => by rw [h3] at e; cases e), k, by rw [h2]; exact hk, hkd⟩, by rw [h3]; exact (fun e => by cases e), by omega, by rw [h4], h5⟩
theorem jar.of {X : JX} {G : JG} {own : String} {cc : ByteArray} {nL d : Nat} (hX : JOK X G own cc nL d) {H : Heap} {a t n : Nat} {f : Nat → Value} (h : jar G H a t n f) : ∃ cell : Cell, H[a]? = some cell ∧ (js X).isArrayOf cell (jty t) ∧ cell.vm ≠ .unknown ∧ n ≤ cell.slots.size ∧ cell.slots.size.toInt32 = Int32.ofNat n ∧ ∀ j, j < n → cell.slots[j]? = some (f j) := by
  obtain ⟨cell, h1, h2, h3⟩ := h
  exact ⟨cell, h1, State.isArrayOf_alike hX.2.1.1.alike h2, h3⟩
theorem j_alen {X : JX} {G : JG} {own : String} {cc : ByteArray} {nL d : Nat} {H : Heap} {b pc : Nat} {lv : JL} {rest : List Value} (hX : JOK X G own cc nL d) {a t n : Nat} {f : Nat → Value} (hdg : decode cc pc = .ok (.arraylength, 1)) (h : jar G H a t n f)
    (kk : JW X G H b (pc + 1) lv (.int (Int32.ofNat n) :: rest)) : JW X G H b pc lv (.ref a :: rest) := by
  intro locs cells slots ls hS hc hs hlv
  obtain ⟨cell, h1, h2, h3, h4, h5, h6⟩ := h.of hX
  exact W.alen hX.1.1 hX.1.2.1 h1 h2 h5 rfl rfl hdg (kk locs cells slots ls hS hc hs hlv)
theorem jar_in {i : Int32} {n m : Nat} (hin : vp_in i n) (h : n ≤ m) : ¬ (i < 0 ∨ m ≤ i.toNatClampNeg) := fun z => z.elim (fun q => hin (Or.inl q)) (fun q => hin (Or.inr (Nat.le_trans h q)))
theorem jar_lt {i : Int32} {n : Nat} (hin : vp_in i n) : i.toNatClampNeg < n := Nat.not_le.mp fun q => hin (Or.inr q)
theorem j_iald {X : JX} {G : JG} {own : String} {cc : ByteArray} {nL d : Nat} {H : Heap} {b pc : Nat} {lv : JL} {rest : List Value} (hX : JOK X G own cc nL d) {a n : Nat} {f : Nat → Int32} {i : Int32} (hdg : decode cc pc = .ok (.iaload, 1)) (h : jar G H a 0 n (fun j => .int (f j))) (hin : vp_in i n)
    (kk : JW X G H b (pc + 1) lv (.int (f i.toNatClampNeg) :: rest)) : JW X G H b pc lv (.int i :: .ref a :: rest) := by
  intro locs cells slots ls hS hc hs hlv
  obtain ⟨cell, h1, h2, h3, h4, h5, h6⟩ := h.of hX
  exact W.iald (v := .int (f i.toNatClampNeg)) hX.1.1 hX.1.2.1 h1 h2 h3 (jar_in hin h4) (h6 _ (jar_lt hin)) rfl rfl hdg (kk locs cells slots ls hS hc hs hlv)
theorem j_lald {X : JX} {G : JG} {own : String} {cc : ByteArray} {nL d : Nat} {H : Heap} {b pc : Nat} {lv : JL} {rest : List Value} (hX : JOK X G own cc nL d) {a n : Nat} {f : Nat → Int64} {i : Int32} (hdg : decode cc pc = .ok (.laload, 1)) (h : jar G H a 1 n (fun j => .long (f j))) (hin : vp_in i n)
    (kk : JW X G H b (pc + 1) lv (.long (f i.toNatClampNeg) :: rest)) : JW X G H b pc lv (.int i :: .ref a :: rest) := by
  intro locs cells slots ls hS hc hs hlv
  obtain ⟨cell, h1, h2, h3, h4, h5, h6⟩ := h.of hX
  exact W.lald (v := .long (f i.toNatClampNeg)) hX.1.1 hX.1.2.1 h1 h2 h3 (jar_in hin h4) (h6 _ (jar_lt hin)) rfl rfl hdg (kk locs cells slots ls hS hc hs hlv)
theorem j_dald {X : JX} {G : JG} {own : String} {cc : ByteArray} {nL d : Nat} {H : Heap} {b pc : Nat} {lv : JL} {rest : List Value} (hX : JOK X G own cc nL d) {a n : Nat} {f : Nat → UInt64} {i : Int32} (hdg : decode cc pc = .ok (.daload, 1)) (h : jar G H a 2 n (fun j => .double (f j))) (hin : vp_in i n)
    (kk : JW X G H b (pc + 1) lv (.double (f i.toNatClampNeg) :: rest)) : JW X G H b pc lv (.int i :: .ref a :: rest) := by
  intro locs cells slots ls hS hc hs hlv
  obtain ⟨cell, h1, h2, h3, h4, h5, h6⟩ := h.of hX
  exact W.dald (v := .double (f i.toNatClampNeg)) hX.1.1 hX.1.2.1 h1 h2 h3 (jar_in hin h4) (h6 _ (jar_lt hin)) rfl rfl hdg (kk locs cells slots ls hS hc hs hlv)
theorem j_zald {X : JX} {G : JG} {own : String} {cc : ByteArray} {nL d : Nat} {H : Heap} {b pc : Nat} {lv : JL} {rest : List Value} (hX : JOK X G own cc nL d) {a n : Nat} {f : Nat → Int32} {i : Int32} (hdg : decode cc pc = .ok (.baload, 1)) (h : jar G H a 3 n (fun j => .int (f j))) (hin : vp_in i n)
    (kk : JW X G H b (pc + 1) lv (.int (f i.toNatClampNeg) :: rest)) : JW X G H b pc lv (.int i :: .ref a :: rest) := by
  intro locs cells slots ls hS hc hs hlv
  obtain ⟨cell, h1, h2, h3, h4, h5, h6⟩ := h.of hX
  exact W.zald (v := .int (f i.toNatClampNeg)) hX.1.1 hX.1.2.1 h1 h2 h3 (jar_in hin h4) (h6 _ (jar_lt hin)) rfl rfl hdg (kk locs cells slots ls hS hc hs hlv)
theorem j_bald {X : JX} {G : JG} {own : String} {cc : ByteArray} {nL d : Nat} {H : Heap} {b pc : Nat} {lv : JL} {rest : List Value} (hX : JOK X G own cc nL d) {a n : Nat} {f : Nat → Int32} {i : Int32} (hdg : decode cc pc = .ok (.baload, 1)) (h : jar G H a 4 n (fun j => .int (f j))) (hin : vp_in i n)
    (kk : JW X G H b (pc + 1) lv (.int (f i.toNatClampNeg) :: rest)) : JW X G H b pc lv (.int i :: .ref a :: rest) := by
  intro locs cells slots ls hS hc hs hlv
  obtain ⟨cell, h1, h2, h3, h4, h5, h6⟩ := h.of hX
  exact W.bald (v := .int (f i.toNatClampNeg)) hX.1.1 hX.1.2.1 h1 h2 h3 (jar_in hin h4) (h6 _ (jar_lt hin)) rfl rfl hdg (kk locs cells slots ls hS hc hs hlv)
theorem j_cald {X : JX} {G : JG} {own : String} {cc : ByteArray} {nL d : Nat} {H : Heap} {b pc : Nat} {lv : JL} {rest : List Value} (hX : JOK X G own cc nL d) {a n : Nat} {f : Nat → Int32} {i : Int32} (hdg : decode cc pc = .ok (.caload, 1)) (h : jar G H a 5 n (fun j => .int (f j))) (hin : vp_in i n)
    (kk : JW X G H b (pc + 1) lv (.int (f i.toNatClampNeg) :: rest)) : JW X G H b pc lv (.int i :: .ref a :: rest) := by
  intro locs cells slots ls hS hc hs hlv
  obtain ⟨cell, h1, h2, h3, h4, h5, h6⟩ := h.of hX
  exact W.cald (v := .int (f i.toNatClampNeg)) hX.1.1 hX.1.2.1 h1 h2 h3 (jar_in hin h4) (h6 _ (jar_lt hin)) rfl rfl hdg (kk locs cells slots ls hS hc hs hlv)
theorem jty_ref {t : Nat} (h : 9 ≤ t) : (jty t).isReference = true := by
  obtain ⟨k, rfl⟩ : ∃ k, t = k + 9 := ⟨t - 9, by omega⟩
  rfl
theorem j_aald {X : JX} {G : JG} {own : String} {cc : ByteArray} {nL d : Nat} {H : Heap} {b pc : Nat} {lv : JL} {rest : List Value} (hX : JOK X G own cc nL d) {a t n : Nat} {f : Nat → Option Nat} {i : Int32} (ht : 6 ≤ t) (hdg : decode cc pc = .ok (.aaload, 1)) (h : jar G H a t n (fun j => va_rf (f j))) (hin : vp_in i n)
    (kk : JW X G H b (pc + 1) lv (va_rf (f i.toNatClampNeg) :: rest)) : JW X G H b pc lv (.int i :: .ref a :: rest) := by
  intro locs cells slots ls hS hc hs hlv
  obtain ⟨cell, h1, h2, h3, h4, h5, h6⟩ := h.of hX
  have hrf : (jty t).isReference = true := by
    by_cases h6 : t = 6
    · subst h6; rfl
    by_cases h7 : t = 7
    · subst h7; rfl
    by_cases h8 : t = 8
    · subst h8; rfl
    exact jty_ref (by omega)
  exact W.aald (v := va_rf (f i.toNatClampNeg)) hX.1.1 hX.1.2.1 h1 h2 hrf h3 (jar_in hin h4) (h6 _ (jar_lt hin)) rfl rfl hdg (kk locs cells slots ls hS hc hs hlv)
/-- an array's contents with one changed -/
def jup {α : Type} (f : Nat → α) (k : Nat) (v : α) : Nat → α := fun j => if j = k then v else f j
theorem jup_same {α : Type} {f : Nat → α} {k : Nat} {v : α} : jup f k v k = v := if_pos rfl
theorem jup_ne {α : Type} {f : Nat → α} {k j : Nat} {v : α} (h : j ≠ k) : jup f k v j = f j := if_neg h
theorem jaw_st {G : JG} {H H1 : Heap} {a t n k : Nat} {f g : Nat → Value} {v : Value} {cell : Cell} (h : jaw G H a t n f) (hc : H[a]? = some cell) (hk : k < n) (e : H1[a]? = some (cell.setSlot k v)) (hg : ∀ j, g j = if j = k then v else f j) : jaw G H1 a t n g := by
  obtain ⟨cell', h1, h2, h3, h4, h5⟩ := h
  have ec : cell' = cell := Option.some.inj (h1.symm.trans hc)
  subst ec
  refine ⟨_, e, h2, h3, by show (cell'.slots.setIfInBounds k v).size = n; rw [Array.size_setIfInBounds]; exact h4, fun j hj => ?_⟩
  show (cell'.slots.setIfInBounds k v)[j]? = _
  rw [hg j]
  by_cases hjk : j = k
  · subst hjk
    rw [if_pos rfl, Array.getElem?_setIfInBounds_self_of_lt (by omega)]
  · rw [if_neg hjk, Array.getElem?_setIfInBounds_ne (fun q => hjk q.symm)]
    exact h5 j hj
theorem j_iast {X : JX} {G : JG} {own : String} {cc : ByteArray} {nL d : Nat} {H : Heap} {b pc : Nat} {lv : JL} {rest : List Value} (hX : JOK X G own cc nL d) {a n : Nat} {f : Nat → Int32} {i : Int32} {x : Int32} (hdg : decode cc pc = .ok (.iastore, 1)) (h : jaw G H a 0 n (fun j => .int (f j))) (ha : (gs G).heap.size ≤ a) (hin : vp_in i n) 
    (kk : ∀ H1 : Heap, JPut H H1 a → jaw G H1 a 0 n (fun j => .int (jup f i.toNatClampNeg x j)) → JW X G H1 b (pc + 1) lv rest) : JW X G H b pc lv (.int x :: .int i :: .ref a :: rest) := by
  intro locs cells slots ls hS hc hs hlv
  obtain ⟨cell, h1, h2, h3, h4, h5, h6⟩ := (h.r hX (by decide)).of hX
  refine W.iast hX.1.1 hX.1.2.1 h1 h2 h3 (jar_in hin h4) rfl rfl hdg fun H' e1 e2 e3 => ?_
  refine kk H' ⟨e2, e3⟩ (jaw_st h h1 (jar_lt hin) e1 (fun j => ?_)) _ cells slots ls (hS.put e2 e3 ha) hc hs hlv
  show Value.int (if j = _ then _ else _) = _
  split <;> rfl
theorem j_last {X : JX} {G : JG} {own : String} {cc : ByteArray} {nL d : Nat} {H : Heap} {b pc : Nat} {lv : JL} {rest : List Value} (hX : JOK X G own cc nL d) {a n : Nat} {f : Nat → Int64} {i : Int32} {x : Int64} (hdg : decode cc pc = .ok (.lastore, 1)) (h : jaw G H a 1 n (fun j => .long (f j))) (ha : (gs G).heap.size ≤ a) (hin : vp_in i n) 
    (kk : ∀ H1 : Heap, JPut H H1 a → jaw G H1 a 1 n (fun j => .long (jup f i.toNatClampNeg x j)) → JW X G H1 b (pc + 1) lv rest) : JW X G H b pc lv (.long x :: .int i :: .ref a :: rest) := by
  intro locs cells slots ls hS hc hs hlv
  obtain ⟨cell, h1, h2, h3, h4, h5, h6⟩ := (h.r hX (by decide)).of hX
  refine W.last hX.1.1 hX.1.2.1 h1 h2 h3 (jar_in hin h4) rfl rfl hdg fun H' e1 e2 e3 => ?_
  refine kk H' ⟨e2, e3⟩ (jaw_st h h1 (jar_lt hin) e1 (fun j => ?_)) _ cells slots ls (hS.put e2 e3 ha) hc hs hlv
  show Value.long (if j = _ then _ else _) = _
  split <;> rfl
theorem j_dast {X : JX} {G : JG} {own : String} {cc : ByteArray} {nL d : Nat} {H : Heap} {b pc : Nat} {lv : JL} {rest : List Value} (hX : JOK X G own cc nL d) {a n : Nat} {f : Nat → UInt64} {i : Int32} {x : UInt64} (hdg : decode cc pc = .ok (.dastore, 1)) (h : jaw G H a 2 n (fun j => .double (f j))) (ha : (gs G).heap.size ≤ a) (hin : vp_in i n) 
    (kk : ∀ H1 : Heap, JPut H H1 a → jaw G H1 a 2 n (fun j => .double (jup f i.toNatClampNeg x j)) → JW X G H1 b (pc + 1) lv rest) : JW X G H b pc lv (.double x :: .int i :: .ref a :: rest) := by
  intro locs cells slots ls hS hc hs hlv
  obtain ⟨cell, h1, h2, h3, h4, h5, h6⟩ := (h.r hX (by decide)).of hX
  refine W.dast hX.1.1 hX.1.2.1 h1 h2 h3 (jar_in hin h4) rfl rfl hdg fun H' e1 e2 e3 => ?_
  refine kk H' ⟨e2, e3⟩ (jaw_st h h1 (jar_lt hin) e1 (fun j => ?_)) _ cells slots ls (hS.put e2 e3 ha) hc hs hlv
  show Value.double (if j = _ then _ else _) = _
  split <;> rfl
theorem j_zast {X : JX} {G : JG} {own : String} {cc : ByteArray} {nL d : Nat} {H : Heap} {b pc : Nat} {lv : JL} {rest : List Value} (hX : JOK X G own cc nL d) {a n : Nat} {f : Nat → Int32} {i : Int32} {x y : Int32} (hdg : decode cc pc = .ok (.bastore, 1)) (h : jaw G H a 3 n (fun j => .int (f j))) (ha : (gs G).heap.size ≤ a) (hin : vp_in i n) (hy : narrow .boolean (.int x) = .int y) 
    (kk : ∀ H1 : Heap, JPut H H1 a → jaw G H1 a 3 n (fun j => .int (jup f i.toNatClampNeg y j)) → JW X G H1 b (pc + 1) lv rest) : JW X G H b pc lv (.int x :: .int i :: .ref a :: rest) := by
  intro locs cells slots ls hS hc hs hlv
  obtain ⟨cell, h1, h2, h3, h4, h5, h6⟩ := (h.r hX (by decide)).of hX
  refine W.zast hX.1.1 hX.1.2.1 h1 h2 h3 (jar_in hin h4) rfl rfl hdg fun H' e1 e2 e3 => ?_
  refine kk H' ⟨e2, e3⟩ (jaw_st h h1 (jar_lt hin) e1 (fun j => ?_)) _ cells slots ls (hS.put e2 e3 ha) hc hs hlv
  show Value.int (if j = _ then _ else _) = _
  split
  · exact hy.symm
  · rfl
theorem j_bast {X : JX} {G : JG} {own : String} {cc : ByteArray} {nL d : Nat} {H : Heap} {b pc : Nat} {lv : JL} {rest : List Value} (hX : JOK X G own cc nL d) {a n : Nat} {f : Nat → Int32} {i : Int32} {x y : Int32} (hdg : decode cc pc = .ok (.bastore, 1)) (h : jaw G H a 4 n (fun j => .int (f j))) (ha : (gs G).heap.size ≤ a) (hin : vp_in i n) (hy : narrow .byte (.int x) = .int y) 
    (kk : ∀ H1 : Heap, JPut H H1 a → jaw G H1 a 4 n (fun j => .int (jup f i.toNatClampNeg y j)) → JW X G H1 b (pc + 1) lv rest) : JW X G H b pc lv (.int x :: .int i :: .ref a :: rest) := by
  intro locs cells slots ls hS hc hs hlv
  obtain ⟨cell, h1, h2, h3, h4, h5, h6⟩ := (h.r hX (by decide)).of hX
  refine W.bast hX.1.1 hX.1.2.1 h1 h2 h3 (jar_in hin h4) rfl rfl hdg fun H' e1 e2 e3 => ?_
  refine kk H' ⟨e2, e3⟩ (jaw_st h h1 (jar_lt hin) e1 (fun j => ?_)) _ cells slots ls (hS.put e2 e3 ha) hc hs hlv
  show Value.int (if j = _ then _ else _) = _
  split
  · exact hy.symm
  · rfl
theorem j_cast {X : JX} {G : JG} {own : String} {cc : ByteArray} {nL d : Nat} {H : Heap} {b pc : Nat} {lv : JL} {rest : List Value} (hX : JOK X G own cc nL d) {a n : Nat} {f : Nat → Int32} {i : Int32} {x y : Int32} (hdg : decode cc pc = .ok (.castore, 1)) (h : jaw G H a 5 n (fun j => .int (f j))) (ha : (gs G).heap.size ≤ a) (hin : vp_in i n) (hy : narrow .char (.int x) = .int y) 
    (kk : ∀ H1 : Heap, JPut H H1 a → jaw G H1 a 5 n (fun j => .int (jup f i.toNatClampNeg y j)) → JW X G H1 b (pc + 1) lv rest) : JW X G H b pc lv (.int x :: .int i :: .ref a :: rest) := by
  intro locs cells slots ls hS hc hs hlv
  obtain ⟨cell, h1, h2, h3, h4, h5, h6⟩ := (h.r hX (by decide)).of hX
  refine W.cast hX.1.1 hX.1.2.1 h1 h2 h3 (jar_in hin h4) rfl rfl hdg fun H' e1 e2 e3 => ?_
  refine kk H' ⟨e2, e3⟩ (jaw_st h h1 (jar_lt hin) e1 (fun j => ?_)) _ cells slots ls (hS.put e2 e3 ha) hc hs hlv
  show Value.int (if j = _ then _ else _) = _
  split
  · exact hy.symm
  · rfl
/-- newarray of kind t -/
def JLA (t : Nat) (at' : ArrayType) (dv : Value) : Prop := t < 6 ∧ newarray.typeOf at' = jty t ∧ defaultValue (jty t) = dv ∧ Cond.arrayClass (jty t) ∈ lw_all ∧ componentBytes (jty t) ≤ 8
theorem j_newa {X : JX} {G : JG} {own : String} {cc : ByteArray} {nL d : Nat} {H : Heap} {b pc : Nat} {lv : JL} {rest : List Value} (hX : JOK X G own cc nL d) {t : Nat} {at' : ArrayType} {dv : Value} (ka : JLA t at' dv) {n : Int32} (N w : Nat) (hn : n = nI N) (hN : N ≤ 60000000) (hw : 1 ≤ w ∧ N ≤ 4 * w) (hdg : decode cc pc = .ok (.newarray at', 2))
    (kk : ∀ H1 : Heap, H1.size = H.size + 1 → JExt H H1 → jaw G H1 H.size t N (fun _ => dv) → (gs G).heap.size ≤ H.size → JW X G H1 b (pc + 2) lv (.ref H.size :: rest)) : JW X G H (b + w) pc lv (.int n :: rest) := by
  intro locs cells slots ls hS hc hs hlv
  obtain ⟨⟨hx, hb, -, hown, hts⟩, hK, -⟩ := hX
  obtain ⟨ht, hty, hdv, harr, hcb⟩ := ka
  subst hn
  have hcl : (nI N).toNatClampNeg = N := nI_clamp (by omega)
  refine va_newaK hx hb (by rw [hty]; exact hts _ harr) rfl hdg rfl (nI_pos (by omega)) hcl (by rw [hty]; exact Nat.le_trans (Nat.mul_le_mul (Nat.le_refl N) hcb) (by omega)) (by omega) (by omega) rfl fun H1 cA e1 z1 o1 hAr hNm => ?_
  have hra := (hK.K.2 t _ (jtys_at (by omega))).2
  have hcA : gT G t = cA := by
    have h1 : (js X).vm.findClass ("[" ++ (jty t).toString) = some (gT G t) := by
      rcases (show t = 0 ∨ t = 1 ∨ t = 2 ∨ t = 3 ∨ t = 4 ∨ t = 5 by omega) with rfl | rfl | rfl | rfl | rfl | rfl <;> exact hra
    rw [hty, h1] at hNm
    exact Option.some.inj hNm
  refine kk H1 z1 ⟨by omega, o1⟩ ⟨_, e1, hcA.symm, rfl, arrV_size _ _ _, fun j hj => ?_⟩ (Nat.le_trans hK.2.1.1 hS.1) locs _ _ ls ⟨Nat.le_trans hS.1 (by omega), fun q h1 h2 => (o1 q (Nat.lt_of_lt_of_le h1 hS.1)).trans (hS.2.1 q h1 h2), hS.2.2⟩ (by omega) (by omega) hlv
  rw [arrV_read _ _ hj, hty, hdv]
/-- anewarray of kind t -/
def JLR (own : String) (index t : Nat) (C : String) : Prop := 6 ≤ t ∧ t < 10 ∧ jty t = .object C ∧ Cond.classLink own index C ∈ lw_all ∧ Cond.arrayOver (.object C) ∈ lw_tbl
theorem j_anew {X : JX} {G : JG} {own : String} {cc : ByteArray} {nL d : Nat} {H : Heap} {b pc : Nat} {lv : JL} {rest : List Value} (hX : JOK X G own cc nL d) {index t : Nat} {C : String} (ka : JLR own index t C) {n : Int32} (N w : Nat) (hn : n = nI N) (hN : N ≤ 60000000) (hw : 1 ≤ w ∧ N ≤ 4 * w) (hdg : decode cc pc = .ok (.anewarray index, 3))
    (kk : ∀ H1 : Heap, H1.size = H.size + 1 → JExt H H1 → jaw G H1 H.size t N (fun _ => va_rf none) → (gs G).heap.size ≤ H.size → JW X G H1 b (pc + 3) lv (.ref H.size :: rest)) : JW X G H (b + w) pc lv (.int n :: rest) := by
  intro locs cells slots ls hS hc hs hlv
  obtain ⟨⟨hx, hb, -, hown, hts⟩, hK, -⟩ := hX
  obtain ⟨ht6, ht, hty, hlink, hover⟩ := ka
  subst hn
  have hcl : (nI N).toNatClampNeg = N := nI_clamp (by omega)
  refine W.anew hx hb hown (hts _ hlink) (va_AO.use ((hK.2.2.2.1.2.2.1 C hover).moved hK.1.alike)) rfl hdg rfl (nI_pos (by omega)) (by rw [hcl]; omega) (by omega) (by rw [hcl]; omega) fun cA kA comp h1 h2 h3 h4 => ?_
  have hra := (hK.K.2 t _ (jtys_at ht)).2
  rw [hty] at hra
  obtain ⟨kA', comp', g1, g2, g3, g4⟩ := hra
  have hcA : gT G t = cA := Option.some.inj (g4.symm.trans h1)
  have e1 : (H.push ({ cls := cA, slots := Array.replicate (nI N).toNatClampNeg .null, vm := .none } : Cell))[H.size]? = some { cls := cA, slots := Array.replicate (nI N).toNatClampNeg .null, vm := .none } := by simp
  have z1 : (H.push ({ cls := cA, slots := Array.replicate (nI N).toNatClampNeg .null, vm := .none } : Cell)).size = H.size + 1 := by simp
  have o1 : ∀ q, q < H.size → (H.push ({ cls := cA, slots := Array.replicate (nI N).toNatClampNeg .null, vm := .none } : Cell))[q]? = H[q]? := fun q hq => by rw [Array.getElem?_push, if_neg (Nat.ne_of_lt hq)]
  generalize (H.push ({ cls := cA, slots := Array.replicate (nI N).toNatClampNeg .null, vm := .none } : Cell)) = H1 at e1 z1 o1 ⊢
  refine kk H1 z1 ⟨by omega, o1⟩ ⟨_, e1, hcA.symm, rfl, by simp [hcl], fun j hj => ?_⟩ (Nat.le_trans hK.2.1.1 hS.1) locs _ _ ls ⟨Nat.le_trans hS.1 (by omega), fun q h1 h2 => (o1 q (Nat.lt_of_lt_of_le h1 hS.1)).trans (hS.2.1 q h1 h2), hS.2.2⟩ (by omega) (by rw [hcl]; omega) hlv
  show (Array.replicate _ Value.null)[j]? = some Value.null
  rw [hcl]
  simp [hj]
/-- an object of class number ci may stand in an array of kind t -/
def JAs (t ci : Nat) : Prop := 6 ≤ t ∧ t < 10 ∧ ∃ (C : String) (r : vw_C), jty t = .object C ∧ jcl[ci]? = some r ∧ (r.1 = C ∨ Cond.castable r.1 C ∈ lw_tbl)
theorem j_aast {X : JX} {G : JG} {own : String} {cc : ByteArray} {nL d : Nat} {H : Heap} {b pc : Nat} {lv : JL} {rest : List Value} (hX : JOK X G own cc nL d) {a t n v ci : Nat} {vs : List Value} {f : Nat → Option Nat} {i : Int32} (ks : JAs t ci) (hdg : decode cc pc = .ok (.aastore, 1)) (h : jaw G H a t n (fun j => va_rf (f j))) (ho : job G H v ci vs) (ha : (gs G).heap.size ≤ a) (hin : vp_in i n)
    (kk : ∀ H1 : Heap, JPut H H1 a → jaw G H1 a t n (fun j => va_rf (jup f i.toNatClampNeg (some v) j)) → JW X G H1 b (pc + 1) lv rest) : JW X G H b pc lv (.ref v :: .int i :: .ref a :: rest) := by
  intro locs cells slots ls hS hc hs hlv
  have hlt := jar_lt hin
  have h0 : ¬ i < 0 := fun q => hin (Or.inl q)
  obtain ⟨ht6, ht, C, r, hty, hr, hcast⟩ := ks
  have h' := h
  obtain ⟨cell, h1, h2, h3, h4, h5⟩ := h'
  obtain ⟨r', cv, hr', g1, g2, g3, g4, -⟩ := ho
  cases Option.some.inj (hr.symm.trans hr')
  have hK := hX.2.1
  have hcls := (hK.K.1 ci r hr).2
  have hra := (hK.K.2 t _ (jtys_at ht)).2
  rw [hty] at hra
  obtain ⟨kA, comp, k1, k2, k3, -⟩ := hra
  obtain ⟨kC, hkC, hkind⟩ := hcls.2
  have hcomp : ∃ kc : Class, (js X).vm.classes[comp]? = some kc := by
    obtain ⟨k9, h9, -⟩ := Vm.findClass_spec k3
    exact ⟨k9, h9⟩
  obtain ⟨kc, hkc⟩ := hcomp
  have hasg : (js X).vm.assignable cv.cls comp = true := by
    rcases hcast with e | e
    · have e2 : comp = (gD G).1 ci := Option.some.inj (k3.symm.trans (by rw [← e]; exact hcls.1))
      rw [g2, e2]
      exact va_assign hcls
    · obtain ⟨c0, t0, f1, f2, f3⟩ := Cond.castable_spec (va_Nw.use (A := ja X) rfl (jnwk_warm rfl hK.1 (hK.2.2.2.1.1 _ e rfl)))
      cases Option.some.inj (f1.symm.trans hcls.1)
      cases Option.some.inj (f2.symm.trans k3)
      rw [g2]
      exact f3
  refine W.aast hX.1.1 hX.1.2.1 h1 (fun q e => by rw [h3] at e; cases e) (by rw [h3]; exact (fun e => by cases e)) (by rw [h2]; exact k1) k2 rfl hkc ⟨h0, by omega⟩ g1 (fun q e => by rw [e] at g3; cases g3) (by rw [g2]; exact hkC) hasg rfl rfl hdg fun H' e1 e2 e3 => ?_
  refine kk H' ⟨e2, e3⟩ (jaw_st h h1 hlt e1 (fun j => ?_)) _ cells slots ls (hS.put e2 e3 ha) hc hs hlv
  show va_rf (if j = _ then _ else _) = _
  split <;> rfl
theorem j_aastN {X : JX} {G : JG} {own : String} {cc : ByteArray} {nL d : Nat} {H : Heap} {b pc : Nat} {lv : JL} {rest : List Value} (hX : JOK X G own cc nL d) {a t n : Nat} {f : Nat → Option Nat} {i : Int32} (ht : 6 ≤ t ∧ t < 10) (hdg : decode cc pc = .ok (.aastore, 1)) (h : jaw G H a t n (fun j => va_rf (f j))) (ha : (gs G).heap.size ≤ a) (hin : vp_in i n)
    (kk : ∀ H1 : Heap, JPut H H1 a → jaw G H1 a t n (fun j => va_rf (jup f i.toNatClampNeg none j)) → JW X G H1 b (pc + 1) lv rest) : JW X G H b pc lv (.null :: .int i :: .ref a :: rest) := by
  intro locs cells slots ls hS hc hs hlv
  obtain ⟨cell, h1, h2, h3, h4, h5, h6⟩ := (h.r hX ht.2).of hX
  have hty : ∃ C : String, jty t = .object C := by
    rcases (show t = 6 ∨ t = 7 ∨ t = 8 ∨ t = 9 by omega) with rfl | rfl | rfl | rfl <;> exact ⟨_, rfl⟩
  obtain ⟨C, hty⟩ := hty
  rw [hty] at h2
  refine va_WaastN (C := C) hX.1.1 hX.1.2.1 h1 h2 h3 (jar_in hin h4) rfl rfl hdg fun H' e1 e2 e3 => ?_
  refine kk H' ⟨e2, e3⟩ (jaw_st h h1 (jar_lt hin) e1 (fun j => ?_)) _ cells slots ls (hS.put e2 e3 ha) hc hs hlv
  show va_rf (if j = _ then _ else _) = _
  split <;> rfl
