/-! an op is sound: kit rows behind every op -/
/-- a method: name, code, locals, answer, handlers, whether it's the law, its receiver's class -/
abbrev AMI : Type := MethodName × ByteArray × Nat × Option FieldType × Option (List (Nat × Nat × Nat × Nat)) × Bool × Option Nat
def isO (h : AH) (a ci : Nat) : Bool := match aget h a with
  | some (.inl o) => o.1 == ci
  | _ => false
def aRc (X : AMI) (as : List Value) (h : AH) : Bool := match X.2.2.2.2.2.2 with
  | none => true
  | some ci => match as with
    | .ref a :: _ => bif ci == 98 then true else isO h a ci
    | .retAddr i :: _ => ci == 99 && decide (i < 20)
    | _ => false
def mWs (X : AMI) : List Cond := match X.2.2.2.2.1 with
  | none => ws_ X.1 X.2.1 X.2.2.1 X.2.2.2.1
  | some hh => wsW_ X.1 X.2.1 X.2.2.1 X.2.2.2.1 hh
abbrev HP (w : AW) (h : AH) (H : Heap) : Prop := va_P w.2.2.2.1 aCl (wsl w h) H
def QC (w : AW) (r : ARes) : Array Value → State → Outcome → State → Prop := fun _ st oc t => (∃ v, r.1 = .inl v ∧ oc = .returned (v.map (cv w))) ∧ HP w r.2 t.heap ∧ va_F (aA w) st t
def XCa (w : AW) (r : ARes) : Addr → String → State → State → Prop := fun q E st t => (∃ k, r.1 = .inr k ∧ q = w.2.1 + k) ∧ E = RX3 ∧ HP w r.2 t.heap ∧ va_F (aA w) st t
def CT (w : AW) (X : AMI) (d : Nat) (as : List Value) (h : AH) (r : ARes) : Prop := h.1 ≤ r.2.1 ∧ h.2.1 ≤ r.2.2.1 ∧ ∀ mc ms, r.2.1 = h.1 + mc → r.2.2.1 = h.2.1 + ms →
  vx_Met w.1 X.1 (mWs X) { frames := d, cells := mc, slots := ms, locals := 64 * d } (va_Pc (as.map (cv w)) (fun U => U.heap.size = w.2.1 + h.1 ∧ HP w h U.heap ∧ AEnv w U)) (QC w r) (XCa w r) mc ms (aA w)
def ESnd (MI : Nat → AMI) (w : AW) (d : Nat) (E : AEn) : Prop := ∀ y as h r, E y as h = some r → aRc (MI y) as h = true ∧ CT w (MI y) d as h r
def Ctx (w : AW) (X : AMI) (d : Nat) (p : Program) (R : Room) (s : State) (m : MethodId) (args : Array Value) (below : List Frame) (meth : Method) (c : Code) (Q : State → Prop) (n0 s0 : Nat) (res : ARes) : Prop :=
  p.tables.exec = Jvm.exec ∧ c.code = X.2.1 ∧ meth.sig.returnType = X.2.2.2.1 ∧ c.maxLocals = X.2.2.1 ∧ s.vm.findClass X.1.cls = some m.cls ∧ meth.locks = false ∧ (∀ x ∈ lw_all, x.before args s = true) ∧ AEnv w s ∧ s.heap.size = w.2.1 + n0 ∧ meth.name = X.1.name ∧
  d + 1 ≤ R.frames ∧ 64 * (d + 1) ≤ R.locals ∧ res.2.1 ≤ n0 + R.cells ∧ res.2.2.1 ≤ s0 + R.slots ∧
  (X.2.2.2.2.2.1 = false → ∃ mc ms, res.2.1 = n0 + mc ∧ res.2.2.1 = s0 + ms ∧ Q = vx_MQ below (QC w res) (XCa w res) args s mc ms (aA w)) ∧
  (c.exceptionTable.toList = match X.2.2.2.2.1 with
    | none => []
    | some hh => tableOf hh)
def GW (w : AW) (X : AMI) (p : Program) (e : Env) (R : Room) (s : State) (m : MethodId) (args : Array Value) (below : List Frame) (meth : Method) (c : Code) (Q : State → Prop) (n0 s0 : Nat) (pc : Nat) (cf : ACf) : Prop :=
  ∀ (H : Heap) (locs : List Loc) (cells slots : Nat) (ls : Array Slot), HP w cf.2.2 H → va_S (aA w) s.heap H locs → cf.2.2.1 = n0 + cells → cf.2.2.2.1 = s0 + slots → lv_has ls X.2.2.1 (cf.1.map fun q => (q.1, cv w q.2)) →
    W p w.1 e R s m args below meth c H locs cells slots Q (F0 m pc ls (cf.2.1.map (cv w)))
def GB (w : AW) (X : AMI) (p : Program) (e : Env) (R : Room) (s : State) (m : MethodId) (args : Array Value) (below : List Frame) (meth : Method) (c : Code) (Q : State → Prop) (n0 s0 : Nat) (res : ARes) (pc : Nat) (cf : ACf) : Prop :=
  cf.2.2.1 ≤ res.2.1 ∧ cf.2.2.2.1 ≤ res.2.2.1 ∧ GW w X p e R s m args below meth c Q n0 s0 pc cf
def Snd (MI : Nat → AMI) (w : AW) (X : AMI) (d pc nx : Nat) (o : AOp) : Prop := ∀ (p : Program) (e : Env) (R : Room) (s : State) (m : MethodId) (args : Array Value) (below : List Frame) (meth : Method) (c : Code) (Q : State → Prop) (n0 s0 : Nat) (res : ARes),
  Ctx w X d p R s m args below meth c Q n0 s0 res → ∀ E, ESnd MI w d E → ∀ K J cf, o E K J cf = some res →
  (∀ cf', K cf' = some res → GB w X p e R s m args below meth c Q n0 s0 res nx cf') →
  (∀ pc' cf', J pc' cf' = some res → GB w X p e R s m args below meth c Q n0 s0 res pc' cf') → GB w X p e R s m args below meth c Q n0 s0 res pc cf
theorem lget_mem {L : ALv} {k : Nat} {v : Value} (h : lget L k = some v) : (k, v) ∈ L := by
  induction L with
  | nil => cases h
  | cons q L ih =>
    obtain ⟨i, u⟩ := q
    unfold lget at h
    by_cases hi : i = k
    · subst hi
      simp at h
      subst h
      exact List.mem_cons_self
    · have hb : (i == k) = false := by simp [hi]
      rw [hb] at h
      exact List.mem_cons_of_mem _ (ih h)
theorem lget_has {w : AW} {L : ALv} {ls : Array Slot} {nL k : Nat} {v : Value} (hl : lv_has ls nL (L.map fun q => (q.1, cv w q.2))) (h : lget L k = some v) : ls[k]? = some (.val (cv w v)) :=
  hl.2.2 (k, cv w v) (List.mem_map.mpr ⟨(k, v), lget_mem h, rfl⟩)
theorem lkeep_mem {L : ALv} {ks : List Nat} {q : Nat × Value} (h : q ∈ lkeep L ks) : q ∈ L := by
  induction ks with
  | nil => cases h
  | cons k ks ih =>
    unfold lkeep at h
    cases hg : lget L k with
    | none => rw [hg] at h; exact ih h
    | some v =>
      rw [hg] at h
      rcases List.mem_cons.mp h with rfl | h
      · exact lget_mem hg
      · exact ih h
theorem lkeep_has {w : AW} {L : ALv} {ls : Array Slot} {nL : Nat} (ks : List Nat) (hl : lv_has ls nL (L.map fun q => (q.1, cv w q.2))) : lv_has ls nL ((lkeep L ks).map fun q => (q.1, cv w q.2)) := by
  refine ⟨hl.1, hl.2.1, fun q hq => ?_⟩
  obtain ⟨q', h1, h2⟩ := List.mem_map.mp hq
  exact hl.2.2 q (List.mem_map.mpr ⟨q', lkeep_mem h1, h2⟩)
theorem lset1_map {w : AW} (hp : ∀ i, (w.2.2.1 i).category = 1) (L : ALv) (i : Nat) (v : Value) : (i, cv w v) :: (L.map fun q => (q.1, cv w q.2)).filter (fun q => !(q.1 == i) && !(q.1 + 1 == i && q.2.category == 2)) = (lset1 L i v).map fun q => (q.1, cv w q.2) := by
  simp only [lset1, List.map_cons, List.filter_map]
  congr 2
  apply List.filter_congr
  intro q hq
  simp [Function.comp, cv_cat hp]
theorem lset2_map {w : AW} (hp : ∀ i, (w.2.2.1 i).category = 1) (L : ALv) (i : Nat) (v : Value) : (i, cv w v) :: (L.map fun q => (q.1, cv w q.2)).filter (fun q => !(q.1 == i) && (!(q.1 == i + 1) && !(q.1 + 1 == i && q.2.category == 2))) = (lset2 L i v).map fun q => (q.1, cv w q.2) := by
  simp only [lset2, List.map_cons, List.filter_map]
  congr 2
  apply List.filter_congr
  intro q hq
  simp [Function.comp, cv_cat hp]
theorem og_inv {α : Type} {acc : ACf → Option α} {f : ACf → α → ACf} {E K J cf r} (h : og acc f E K J cf = some r) : ∃ a, acc cf = some a ∧ K (f cf a) = some r := by
  unfold og at h
  cases ha : acc cf with
  | none => rw [ha] at h; cases h
  | some a => rw [ha] at h; exact ⟨a, rfl, h⟩
def t1I (cf : ACf) : Option (Int32 × List Value) := match cf.2.1 with
  | .int x :: S => some (x, S)
  | _ => none
def t1L (cf : ACf) : Option (Int64 × List Value) := match cf.2.1 with
  | .long x :: S => some (x, S)
  | _ => none
def t1R (cf : ACf) : Option (Nat × List Value) := match cf.2.1 with
  | .ref x :: S => some (x, S)
  | _ => none
def t1P (cf : ACf) : Option (Nat × List Value) := match cf.2.1 with
  | .retAddr x :: S => some (x, S)
  | _ => none
def t2I (cf : ACf) : Option (Int32 × Int32 × List Value) := match cf.2.1 with
  | .int y :: .int x :: S => some (x, y, S)
  | _ => none
def t2L (cf : ACf) : Option (Int64 × Int64 × List Value) := match cf.2.1 with
  | .long y :: .long x :: S => some (x, y, S)
  | _ => none
def tLI (cf : ACf) : Option (Int64 × Int32 × List Value) := match cf.2.1 with
  | .int y :: .long x :: S => some (x, y, S)
  | _ => none
/-- a value of one word on the top -/
def t1V (cf : ACf) : Option (Value × List Value) := match cf.2.1 with
  | v :: S => bif v.category == 1 then some (v, S) else none
  | _ => none
def t2V (cf : ACf) : Option (Value × Value × List Value) := match cf.2.1 with
  | v :: u :: S => bif v.category == 1 && u.category == 1 then some (v, u, S) else none
  | _ => none
theorem t1I_inv {cf : ACf} {a} (h : t1I cf = some a) : cf.2.1 = .int a.1 :: a.2 := by
  unfold t1I at h
  split at h
  next e => cases h; exact e
  next => cases h
theorem t1L_inv {cf : ACf} {a} (h : t1L cf = some a) : cf.2.1 = .long a.1 :: a.2 := by
  unfold t1L at h
  split at h
  next e => cases h; exact e
  next => cases h
theorem t1R_inv {cf : ACf} {a} (h : t1R cf = some a) : cf.2.1 = .ref a.1 :: a.2 := by
  unfold t1R at h
  split at h
  next e => cases h; exact e
  next => cases h
theorem t1P_inv {cf : ACf} {a} (h : t1P cf = some a) : cf.2.1 = .retAddr a.1 :: a.2 := by
  unfold t1P at h
  split at h
  next e => cases h; exact e
  next => cases h
theorem t2I_inv {cf : ACf} {a} (h : t2I cf = some a) : cf.2.1 = .int a.2.1 :: .int a.1 :: a.2.2 := by
  unfold t2I at h
  split at h
  next e => cases h; exact e
  next => cases h
theorem t2L_inv {cf : ACf} {a} (h : t2L cf = some a) : cf.2.1 = .long a.2.1 :: .long a.1 :: a.2.2 := by
  unfold t2L at h
  split at h
  next e => cases h; exact e
  next => cases h
theorem tLI_inv {cf : ACf} {a} (h : tLI cf = some a) : cf.2.1 = .int a.2.1 :: .long a.1 :: a.2.2 := by
  unfold tLI at h
  split at h
  next e => cases h; exact e
  next => cases h
theorem t1V_inv {cf : ACf} {a} (h : t1V cf = some a) : cf.2.1 = a.1 :: a.2 ∧ a.1.category = 1 := by
  unfold t1V at h
  split at h
  next v S e =>
    cases hc : (v.category == 1) with
    | true => rw [hc] at h; cases h; exact ⟨e, by simpa using hc⟩
    | false => rw [hc] at h; cases h
  next => cases h
theorem t2V_inv {cf : ACf} {a} (h : t2V cf = some a) : cf.2.1 = a.1 :: a.2.1 :: a.2.2 ∧ a.1.category = 1 ∧ a.2.1.category = 1 := by
  unfold t2V at h
  split at h
  next v u S e =>
    cases hc : (v.category == 1 && u.category == 1) with
    | true => rw [hc] at h; cases h; exact ⟨e, by simpa using hc⟩
    | false => rw [hc] at h; cases h
  next => cases h
section SND
variable {MI : Nat → AMI} {w : AW} {X : AMI} {d pc : Nat}
def o_iconst (v : Int32) : AOp := og (α := Unit) (fun _ => some ()) (fun cf a => (cf.1, .int v :: cf.2.1, cf.2.2))
theorem snd_iconst {v : Int32} {n : Int} (hv : Int32.ofInt n = v) (hd : decode X.2.1 pc = .ok (.iconst n, 1)) : Snd MI w X d pc (pc + 1) (o_iconst v) := by
  intro p e R s m args below meth c Q n0 s0 res C E hE K J cf h hK hJ
  obtain ⟨a, ha, hk⟩ := og_inv h
  obtain ⟨b1, b2, g⟩ := hK _ hk
  refine ⟨b1, b2, fun H locs cells slots ls hP hS hn hs hl => ?_⟩
  exact lv_iconst C.1 C.2.1 hd hv (g H locs cells slots ls hP hS hn hs hl)
def o_bipush (v : Int32) : AOp := og (α := Unit) (fun _ => some ()) (fun cf a => (cf.1, .int v :: cf.2.1, cf.2.2))
theorem snd_bipush {v : Int32} {n : Int} (hv : (Int8.ofInt n).toInt32 = v) (hd : decode X.2.1 pc = .ok (.bipush n, 2)) : Snd MI w X d pc (pc + 2) (o_bipush v) := by
  intro p e R s m args below meth c Q n0 s0 res C E hE K J cf h hK hJ
  obtain ⟨a, ha, hk⟩ := og_inv h
  obtain ⟨b1, b2, g⟩ := hK _ hk
  refine ⟨b1, b2, fun H locs cells slots ls hP hS hn hs hl => ?_⟩
  exact lv_bipush C.1 C.2.1 hd hv (g H locs cells slots ls hP hS hn hs hl)
def o_sipush (v : Int32) : AOp := og (α := Unit) (fun _ => some ()) (fun cf a => (cf.1, .int v :: cf.2.1, cf.2.2))
theorem snd_sipush {v : Int32} {n : Int} (hv : (Int16.ofInt n).toInt32 = v) (hd : decode X.2.1 pc = .ok (.sipush n, 3)) : Snd MI w X d pc (pc + 3) (o_sipush v) := by
  intro p e R s m args below meth c Q n0 s0 res C E hE K J cf h hK hJ
  obtain ⟨a, ha, hk⟩ := og_inv h
  obtain ⟨b1, b2, g⟩ := hK _ hk
  refine ⟨b1, b2, fun H locs cells slots ls hP hS hn hs hl => ?_⟩
  exact lv_sipush C.1 C.2.1 hd hv (g H locs cells slots ls hP hS hn hs hl)
def o_lconst (v : Int64) : AOp := og (α := Unit) (fun _ => some ()) (fun cf a => (cf.1, .long v :: cf.2.1, cf.2.2))
theorem snd_lconst {v : Int64} {n : Fin 2} (hv : Int64.ofNat (n : Nat) = v) (hd : decode X.2.1 pc = .ok (.lconst n, 1)) : Snd MI w X d pc (pc + 1) (o_lconst v) := by
  intro p e R s m args below meth c Q n0 s0 res C E hE K J cf h hK hJ
  obtain ⟨a, ha, hk⟩ := og_inv h
  obtain ⟨b1, b2, g⟩ := hK _ hk
  refine ⟨b1, b2, fun H locs cells slots ls hP hS hn hs hl => ?_⟩
  exact lv_lconst C.1 C.2.1 hd hv (g H locs cells slots ls hP hS hn hs hl)
def o_ldc (v : Int32) : AOp := og (α := Unit) (fun _ => some ()) (fun cf a => (cf.1, .int v :: cf.2.1, cf.2.2))
theorem snd_ldc {v : Int32} {index : Nat} (hq : Jvm.Cond.constant X.1.cls index v ∈ lw_all) (hd : decode X.2.1 pc = .ok (.ldc index, 2)) : Snd MI w X d pc (pc + 2) (o_ldc v) := by
  intro p e R s m args below meth c Q n0 s0 res C E hE K J cf h hK hJ
  obtain ⟨a, ha, hk⟩ := og_inv h
  obtain ⟨b1, b2, g⟩ := hK _ hk
  refine ⟨b1, b2, fun H locs cells slots ls hP hS hn hs hl => ?_⟩
  exact lv_ldc C.1 C.2.1 C.2.2.2.2.1 (C.2.2.2.2.2.2.1 _ hq) hd (g H locs cells slots ls hP hS hn hs hl)
def o_ldcw (v : Int32) : AOp := og (α := Unit) (fun _ => some ()) (fun cf a => (cf.1, .int v :: cf.2.1, cf.2.2))
theorem snd_ldcw {v : Int32} {index : Nat} (hq : Jvm.Cond.constant X.1.cls index v ∈ lw_all) (hd : decode X.2.1 pc = .ok (.ldc_w index, 3)) : Snd MI w X d pc (pc + 3) (o_ldcw v) := by
  intro p e R s m args below meth c Q n0 s0 res C E hE K J cf h hK hJ
  obtain ⟨a, ha, hk⟩ := og_inv h
  obtain ⟨b1, b2, g⟩ := hK _ hk
  refine ⟨b1, b2, fun H locs cells slots ls hP hS hn hs hl => ?_⟩
  exact lv_ldcw C.1 C.2.1 C.2.2.2.2.1 (C.2.2.2.2.2.2.1 _ hq) hd (g H locs cells slots ls hP hS hn hs hl)
def o_ldc2 (v : Int64) : AOp := og (α := Unit) (fun _ => some ()) (fun cf a => (cf.1, .long v :: cf.2.1, cf.2.2))
theorem snd_ldc2 {v : Int64} {index : Nat} (hq : Jvm.Cond.constantLong X.1.cls index v ∈ lw_all) (hd : decode X.2.1 pc = .ok (.ldc2_w index, 3)) : Snd MI w X d pc (pc + 3) (o_ldc2 v) := by
  intro p e R s m args below meth c Q n0 s0 res C E hE K J cf h hK hJ
  obtain ⟨a, ha, hk⟩ := og_inv h
  obtain ⟨b1, b2, g⟩ := hK _ hk
  refine ⟨b1, b2, fun H locs cells slots ls hP hS hn hs hl => ?_⟩
  exact lv_ldc2 C.1 C.2.1 C.2.2.2.2.1 (C.2.2.2.2.2.2.1 _ hq) hd (g H locs cells slots ls hP hS hn hs hl)
def o_null : AOp := og (α := Unit) (fun _ => some ()) (fun cf a => (cf.1, .null :: cf.2.1, cf.2.2))
theorem snd_null (hd : decode X.2.1 pc = .ok (.aconst_null, 1)) : Snd MI w X d pc (pc + 1) (o_null) := by
  intro p e R s m args below meth c Q n0 s0 res C E hE K J cf h hK hJ
  obtain ⟨a, ha, hk⟩ := og_inv h
  obtain ⟨b1, b2, g⟩ := hK _ hk
  refine ⟨b1, b2, fun H locs cells slots ls hP hS hn hs hl => ?_⟩
  exact lv_null C.1 C.2.1 hd (g H locs cells slots ls hP hS hn hs hl)
def o_iadd : AOp := og t2I (fun cf a => (cf.1, .int (a.1 + a.2.1) :: a.2.2, cf.2.2))
theorem snd_iadd (hd : decode X.2.1 pc = .ok (.iadd, 1)) : Snd MI w X d pc (pc + 1) (o_iadd) := by
  intro p e R s m args below meth c Q n0 s0 res C E hE K J cf h hK hJ
  obtain ⟨a, ha, hk⟩ := og_inv h
  obtain ⟨b1, b2, g⟩ := hK _ hk
  refine ⟨b1, b2, fun H locs cells slots ls hP hS hn hs hl => ?_⟩
  rw [t2I_inv ha]
  exact lv_iadd C.1 C.2.1 hd (g H locs cells slots ls hP hS hn hs hl)
def o_isub : AOp := og t2I (fun cf a => (cf.1, .int (a.1 - a.2.1) :: a.2.2, cf.2.2))
theorem snd_isub (hd : decode X.2.1 pc = .ok (.isub, 1)) : Snd MI w X d pc (pc + 1) (o_isub) := by
  intro p e R s m args below meth c Q n0 s0 res C E hE K J cf h hK hJ
  obtain ⟨a, ha, hk⟩ := og_inv h
  obtain ⟨b1, b2, g⟩ := hK _ hk
  refine ⟨b1, b2, fun H locs cells slots ls hP hS hn hs hl => ?_⟩
  rw [t2I_inv ha]
  exact lv_isub C.1 C.2.1 hd (g H locs cells slots ls hP hS hn hs hl)
def o_imul : AOp := og t2I (fun cf a => (cf.1, .int (a.1 * a.2.1) :: a.2.2, cf.2.2))
theorem snd_imul (hd : decode X.2.1 pc = .ok (.imul, 1)) : Snd MI w X d pc (pc + 1) (o_imul) := by
  intro p e R s m args below meth c Q n0 s0 res C E hE K J cf h hK hJ
  obtain ⟨a, ha, hk⟩ := og_inv h
  obtain ⟨b1, b2, g⟩ := hK _ hk
  refine ⟨b1, b2, fun H locs cells slots ls hP hS hn hs hl => ?_⟩
  rw [t2I_inv ha]
  exact lv_imul C.1 C.2.1 hd (g H locs cells slots ls hP hS hn hs hl)
def o_iand : AOp := og t2I (fun cf a => (cf.1, .int (a.1 &&& a.2.1) :: a.2.2, cf.2.2))
theorem snd_iand (hd : decode X.2.1 pc = .ok (.iand, 1)) : Snd MI w X d pc (pc + 1) (o_iand) := by
  intro p e R s m args below meth c Q n0 s0 res C E hE K J cf h hK hJ
  obtain ⟨a, ha, hk⟩ := og_inv h
  obtain ⟨b1, b2, g⟩ := hK _ hk
  refine ⟨b1, b2, fun H locs cells slots ls hP hS hn hs hl => ?_⟩
  rw [t2I_inv ha]
  exact lv_iand C.1 C.2.1 hd (g H locs cells slots ls hP hS hn hs hl)
def o_ior : AOp := og t2I (fun cf a => (cf.1, .int (a.1 ||| a.2.1) :: a.2.2, cf.2.2))
theorem snd_ior (hd : decode X.2.1 pc = .ok (.ior, 1)) : Snd MI w X d pc (pc + 1) (o_ior) := by
  intro p e R s m args below meth c Q n0 s0 res C E hE K J cf h hK hJ
  obtain ⟨a, ha, hk⟩ := og_inv h
  obtain ⟨b1, b2, g⟩ := hK _ hk
  refine ⟨b1, b2, fun H locs cells slots ls hP hS hn hs hl => ?_⟩
  rw [t2I_inv ha]
  exact lv_ior C.1 C.2.1 hd (g H locs cells slots ls hP hS hn hs hl)
def o_ixor : AOp := og t2I (fun cf a => (cf.1, .int (a.1 ^^^ a.2.1) :: a.2.2, cf.2.2))
theorem snd_ixor (hd : decode X.2.1 pc = .ok (.ixor, 1)) : Snd MI w X d pc (pc + 1) (o_ixor) := by
  intro p e R s m args below meth c Q n0 s0 res C E hE K J cf h hK hJ
  obtain ⟨a, ha, hk⟩ := og_inv h
  obtain ⟨b1, b2, g⟩ := hK _ hk
  refine ⟨b1, b2, fun H locs cells slots ls hP hS hn hs hl => ?_⟩
  rw [t2I_inv ha]
  exact lv_ixor C.1 C.2.1 hd (g H locs cells slots ls hP hS hn hs hl)
def o_ishl : AOp := og t2I (fun cf a => (cf.1, .int (a.1 <<< (a.2.1 &&& 31)) :: a.2.2, cf.2.2))
theorem snd_ishl (hd : decode X.2.1 pc = .ok (.ishl, 1)) : Snd MI w X d pc (pc + 1) (o_ishl) := by
  intro p e R s m args below meth c Q n0 s0 res C E hE K J cf h hK hJ
  obtain ⟨a, ha, hk⟩ := og_inv h
  obtain ⟨b1, b2, g⟩ := hK _ hk
  refine ⟨b1, b2, fun H locs cells slots ls hP hS hn hs hl => ?_⟩
  rw [t2I_inv ha]
  exact lv_ishl C.1 C.2.1 hd (g H locs cells slots ls hP hS hn hs hl)
def o_ishr : AOp := og t2I (fun cf a => (cf.1, .int (a.1 >>> (a.2.1 &&& 31)) :: a.2.2, cf.2.2))
theorem snd_ishr (hd : decode X.2.1 pc = .ok (.ishr, 1)) : Snd MI w X d pc (pc + 1) (o_ishr) := by
  intro p e R s m args below meth c Q n0 s0 res C E hE K J cf h hK hJ
  obtain ⟨a, ha, hk⟩ := og_inv h
  obtain ⟨b1, b2, g⟩ := hK _ hk
  refine ⟨b1, b2, fun H locs cells slots ls hP hS hn hs hl => ?_⟩
  rw [t2I_inv ha]
  exact lv_ishr C.1 C.2.1 hd (g H locs cells slots ls hP hS hn hs hl)
def o_iushr : AOp := og t2I (fun cf a => (cf.1, .int ((a.1.toUInt32 >>> (a.2.1.toUInt32 &&& Int32.toUInt32 31)).toInt32) :: a.2.2, cf.2.2))
theorem snd_iushr (hd : decode X.2.1 pc = .ok (.iushr, 1)) : Snd MI w X d pc (pc + 1) (o_iushr) := by
  intro p e R s m args below meth c Q n0 s0 res C E hE K J cf h hK hJ
  obtain ⟨a, ha, hk⟩ := og_inv h
  obtain ⟨b1, b2, g⟩ := hK _ hk
  refine ⟨b1, b2, fun H locs cells slots ls hP hS hn hs hl => ?_⟩
  rw [t2I_inv ha]
  exact lv_iushr C.1 C.2.1 hd rfl (g H locs cells slots ls hP hS hn hs hl)
def o_ladd : AOp := og t2L (fun cf a => (cf.1, .long (a.1 + a.2.1) :: a.2.2, cf.2.2))
theorem snd_ladd (hd : decode X.2.1 pc = .ok (.ladd, 1)) : Snd MI w X d pc (pc + 1) (o_ladd) := by
  intro p e R s m args below meth c Q n0 s0 res C E hE K J cf h hK hJ
  obtain ⟨a, ha, hk⟩ := og_inv h
  obtain ⟨b1, b2, g⟩ := hK _ hk
  refine ⟨b1, b2, fun H locs cells slots ls hP hS hn hs hl => ?_⟩
  rw [t2L_inv ha]
  exact lv_ladd C.1 C.2.1 hd (g H locs cells slots ls hP hS hn hs hl)
def o_lsub : AOp := og t2L (fun cf a => (cf.1, .long (a.1 - a.2.1) :: a.2.2, cf.2.2))
theorem snd_lsub (hd : decode X.2.1 pc = .ok (.lsub, 1)) : Snd MI w X d pc (pc + 1) (o_lsub) := by
  intro p e R s m args below meth c Q n0 s0 res C E hE K J cf h hK hJ
  obtain ⟨a, ha, hk⟩ := og_inv h
  obtain ⟨b1, b2, g⟩ := hK _ hk
  refine ⟨b1, b2, fun H locs cells slots ls hP hS hn hs hl => ?_⟩
  rw [t2L_inv ha]
  exact lv_lsub C.1 C.2.1 hd (g H locs cells slots ls hP hS hn hs hl)
def o_lmul : AOp := og t2L (fun cf a => (cf.1, .long (a.1 * a.2.1) :: a.2.2, cf.2.2))
theorem snd_lmul (hd : decode X.2.1 pc = .ok (.lmul, 1)) : Snd MI w X d pc (pc + 1) (o_lmul) := by
  intro p e R s m args below meth c Q n0 s0 res C E hE K J cf h hK hJ
  obtain ⟨a, ha, hk⟩ := og_inv h
  obtain ⟨b1, b2, g⟩ := hK _ hk
  refine ⟨b1, b2, fun H locs cells slots ls hP hS hn hs hl => ?_⟩
  rw [t2L_inv ha]
  exact lv_lmul C.1 C.2.1 hd (g H locs cells slots ls hP hS hn hs hl)
def o_land : AOp := og t2L (fun cf a => (cf.1, .long (a.1 &&& a.2.1) :: a.2.2, cf.2.2))
theorem snd_land (hd : decode X.2.1 pc = .ok (.land, 1)) : Snd MI w X d pc (pc + 1) (o_land) := by
  intro p e R s m args below meth c Q n0 s0 res C E hE K J cf h hK hJ
  obtain ⟨a, ha, hk⟩ := og_inv h
  obtain ⟨b1, b2, g⟩ := hK _ hk
  refine ⟨b1, b2, fun H locs cells slots ls hP hS hn hs hl => ?_⟩
  rw [t2L_inv ha]
  exact lv_land C.1 C.2.1 hd (g H locs cells slots ls hP hS hn hs hl)
def o_lor : AOp := og t2L (fun cf a => (cf.1, .long (a.1 ||| a.2.1) :: a.2.2, cf.2.2))
theorem snd_lor (hd : decode X.2.1 pc = .ok (.lor, 1)) : Snd MI w X d pc (pc + 1) (o_lor) := by
  intro p e R s m args below meth c Q n0 s0 res C E hE K J cf h hK hJ
  obtain ⟨a, ha, hk⟩ := og_inv h
  obtain ⟨b1, b2, g⟩ := hK _ hk
  refine ⟨b1, b2, fun H locs cells slots ls hP hS hn hs hl => ?_⟩
  rw [t2L_inv ha]
  exact lv_lor C.1 C.2.1 hd (g H locs cells slots ls hP hS hn hs hl)
def o_lcmp : AOp := og t2L (fun cf a => (cf.1, .int (lg_cmp a.1 a.2.1) :: a.2.2, cf.2.2))
theorem snd_lcmp (hd : decode X.2.1 pc = .ok (.lcmp, 1)) : Snd MI w X d pc (pc + 1) (o_lcmp) := by
  intro p e R s m args below meth c Q n0 s0 res C E hE K J cf h hK hJ
  obtain ⟨a, ha, hk⟩ := og_inv h
  obtain ⟨b1, b2, g⟩ := hK _ hk
  refine ⟨b1, b2, fun H locs cells slots ls hP hS hn hs hl => ?_⟩
  rw [t2L_inv ha]
  exact W.lcmp C.1 C.2.1 hd (g H locs cells slots ls hP hS hn hs hl)
def o_lshl : AOp := og tLI (fun cf a => (cf.1, .long (a.1 <<< (a.2.1.toInt64 &&& 63)) :: a.2.2, cf.2.2))
theorem snd_lshl (hd : decode X.2.1 pc = .ok (.lshl, 1)) : Snd MI w X d pc (pc + 1) (o_lshl) := by
  intro p e R s m args below meth c Q n0 s0 res C E hE K J cf h hK hJ
  obtain ⟨a, ha, hk⟩ := og_inv h
  obtain ⟨b1, b2, g⟩ := hK _ hk
  refine ⟨b1, b2, fun H locs cells slots ls hP hS hn hs hl => ?_⟩
  rw [tLI_inv ha]
  exact lv_lshl C.1 C.2.1 hd rfl (g H locs cells slots ls hP hS hn hs hl)
def o_i2l : AOp := og t1I (fun cf a => (cf.1, .long a.1.toInt64 :: a.2, cf.2.2))
theorem snd_i2l (hd : decode X.2.1 pc = .ok (.i2l, 1)) : Snd MI w X d pc (pc + 1) (o_i2l) := by
  intro p e R s m args below meth c Q n0 s0 res C E hE K J cf h hK hJ
  obtain ⟨a, ha, hk⟩ := og_inv h
  obtain ⟨b1, b2, g⟩ := hK _ hk
  refine ⟨b1, b2, fun H locs cells slots ls hP hS hn hs hl => ?_⟩
  rw [t1I_inv ha]
  exact lv_i2l C.1 C.2.1 hd rfl (g H locs cells slots ls hP hS hn hs hl)
def o_l2i : AOp := og t1L (fun cf a => (cf.1, .int a.1.toInt32 :: a.2, cf.2.2))
theorem snd_l2i (hd : decode X.2.1 pc = .ok (.l2i, 1)) : Snd MI w X d pc (pc + 1) (o_l2i) := by
  intro p e R s m args below meth c Q n0 s0 res C E hE K J cf h hK hJ
  obtain ⟨a, ha, hk⟩ := og_inv h
  obtain ⟨b1, b2, g⟩ := hK _ hk
  refine ⟨b1, b2, fun H locs cells slots ls hP hS hn hs hl => ?_⟩
  rw [t1L_inv ha]
  exact lv_l2i C.1 C.2.1 hd rfl (g H locs cells slots ls hP hS hn hs hl)
def o_i2b : AOp := og t1I (fun cf a => (cf.1, .int a.1.toInt8.toInt32 :: a.2, cf.2.2))
theorem snd_i2b (hd : decode X.2.1 pc = .ok (.i2b, 1)) : Snd MI w X d pc (pc + 1) (o_i2b) := by
  intro p e R s m args below meth c Q n0 s0 res C E hE K J cf h hK hJ
  obtain ⟨a, ha, hk⟩ := og_inv h
  obtain ⟨b1, b2, g⟩ := hK _ hk
  refine ⟨b1, b2, fun H locs cells slots ls hP hS hn hs hl => ?_⟩
  rw [t1I_inv ha]
  exact lv_i2b C.1 C.2.1 hd rfl (g H locs cells slots ls hP hS hn hs hl)
def o_i2c : AOp := og t1I (fun cf a => (cf.1, .int (a.1.toUInt32 % 65536).toInt32 :: a.2, cf.2.2))
theorem snd_i2c (hd : decode X.2.1 pc = .ok (.i2c, 1)) : Snd MI w X d pc (pc + 1) (o_i2c) := by
  intro p e R s m args below meth c Q n0 s0 res C E hE K J cf h hK hJ
  obtain ⟨a, ha, hk⟩ := og_inv h
  obtain ⟨b1, b2, g⟩ := hK _ hk
  refine ⟨b1, b2, fun H locs cells slots ls hP hS hn hs hl => ?_⟩
  rw [t1I_inv ha]
  exact lv_i2c C.1 C.2.1 hd rfl (g H locs cells slots ls hP hS hn hs hl)
def nzI (y : Int32) : Option Unit := bif y == 0 then none else some ()
def nzL (y : Int64) : Option Unit := bif y == 0 then none else some ()
def tdI (cf : ACf) : Option Unit := match cf.2.1 with
  | .int y :: .int _ :: _ => nzI y
  | _ => none
def tdL (cf : ACf) : Option Unit := match cf.2.1 with
  | .long y :: .long _ :: _ => nzL y
  | _ => none
def fbI (F : Int32 → Int32 → Int32) (S : List Value) : List Value := match S with
  | .int y :: .int x :: T => .int (F x y) :: T
  | S => S
def fbL (F : Int64 → Int64 → Int64) (S : List Value) : List Value := match S with
  | .long y :: .long x :: T => .long (F x y) :: T
  | S => S
theorem tdI_inv {cf : ACf} {u} (h : tdI cf = some u) : ∃ x y T, cf.2.1 = .int y :: .int x :: T ∧ ¬ y = 0 := by
  unfold tdI at h
  split at h
  next y x T e =>
    refine ⟨x, y, T, e, fun hy => ?_⟩
    subst hy
    cases h
  next => cases h
theorem tdL_inv {cf : ACf} {u} (h : tdL cf = some u) : ∃ x y T, cf.2.1 = .long y :: .long x :: T ∧ ¬ y = 0 := by
  unfold tdL at h
  split at h
  next y x T e =>
    refine ⟨x, y, T, e, fun hy => ?_⟩
    subst hy
    cases h
  next => cases h
def o_idiv : AOp := og tdI (fun cf _ => (cf.1, fbI (fun x y => x / y) cf.2.1, cf.2.2))
theorem snd_idiv (hd : decode X.2.1 pc = .ok (.idiv, 1)) : Snd MI w X d pc (pc + 1) o_idiv := by
  intro p e R s m args below meth c Q n0 s0 res C E hE K J cf h hK hJ
  obtain ⟨a, ha, hk⟩ := og_inv h
  obtain ⟨b1, b2, g⟩ := hK _ hk
  refine ⟨b1, b2, fun H locs cells slots ls hP hS hn hs hl => ?_⟩
  obtain ⟨x, y, T, hst, hy⟩ := tdI_inv ha
  have g9 := (g H locs cells slots ls hP hS hn hs hl)
  simp only [hst, fbI, List.map_cons] at g9
  rw [hst]
  exact lv_idiv C.1 C.2.1 hd hy g9
def o_irem : AOp := og tdI (fun cf _ => (cf.1, fbI (fun x y => x - x / y * y) cf.2.1, cf.2.2))
theorem snd_irem (hd : decode X.2.1 pc = .ok (.irem, 1)) : Snd MI w X d pc (pc + 1) o_irem := by
  intro p e R s m args below meth c Q n0 s0 res C E hE K J cf h hK hJ
  obtain ⟨a, ha, hk⟩ := og_inv h
  obtain ⟨b1, b2, g⟩ := hK _ hk
  refine ⟨b1, b2, fun H locs cells slots ls hP hS hn hs hl => ?_⟩
  obtain ⟨x, y, T, hst, hy⟩ := tdI_inv ha
  have g9 := (g H locs cells slots ls hP hS hn hs hl)
  simp only [hst, fbI, List.map_cons] at g9
  rw [hst]
  exact lv_irem C.1 C.2.1 hd hy g9
def o_ldiv : AOp := og tdL (fun cf _ => (cf.1, fbL (fun x y => x / y) cf.2.1, cf.2.2))
theorem snd_ldiv (hd : decode X.2.1 pc = .ok (.ldiv, 1)) : Snd MI w X d pc (pc + 1) o_ldiv := by
  intro p e R s m args below meth c Q n0 s0 res C E hE K J cf h hK hJ
  obtain ⟨a, ha, hk⟩ := og_inv h
  obtain ⟨b1, b2, g⟩ := hK _ hk
  refine ⟨b1, b2, fun H locs cells slots ls hP hS hn hs hl => ?_⟩
  obtain ⟨x, y, T, hst, hy⟩ := tdL_inv ha
  have g9 := (g H locs cells slots ls hP hS hn hs hl)
  simp only [hst, fbL, List.map_cons] at g9
  rw [hst]
  exact lv_ldiv C.1 C.2.1 hd hy g9
def o_lrem : AOp := og tdL (fun cf _ => (cf.1, fbL (fun x y => x - x / y * y) cf.2.1, cf.2.2))
theorem snd_lrem (hd : decode X.2.1 pc = .ok (.lrem, 1)) : Snd MI w X d pc (pc + 1) o_lrem := by
  intro p e R s m args below meth c Q n0 s0 res C E hE K J cf h hK hJ
  obtain ⟨a, ha, hk⟩ := og_inv h
  obtain ⟨b1, b2, g⟩ := hK _ hk
  refine ⟨b1, b2, fun H locs cells slots ls hP hS hn hs hl => ?_⟩
  obtain ⟨x, y, T, hst, hy⟩ := tdL_inv ha
  have g9 := (g H locs cells slots ls hP hS hn hs hl)
  simp only [hst, fbL, List.map_cons] at g9
  rw [hst]
  exact lv_lrem C.1 C.2.1 hd hy g9
def lI (k : Nat) (cf : ACf) : Option Int32 := match lget cf.1 k with
  | some (.int x) => some x
  | _ => none
theorem lI_inv {k : Nat} {cf : ACf} {a} (h : lI k cf = some a) : lget cf.1 k = some (.int a) := by
  unfold lI at h
  split at h
  next e => cases h; exact e
  next => cases h
def o_iload (k : Nat) : AOp := og (lI k) (fun cf a => (cf.1, .int a :: cf.2.1, cf.2.2))
theorem snd_iload_n {k : Fin 4} {i : Nat} (hi : (k : Nat) = i) (hd : decode X.2.1 pc = .ok (.iload_n k, 1)) : Snd MI w X d pc (pc + 1) (o_iload i) := by
  intro p e R s m args below meth c Q n0 s0 res C E hE K J cf h hK hJ
  obtain ⟨a, ha, hk⟩ := og_inv h
  obtain ⟨b1, b2, g⟩ := hK _ hk
  refine ⟨b1, b2, fun H locs cells slots ls hP hS hn hs hl => ?_⟩
  have e9 := lget_has hl (lI_inv ha)
  exact lv_iload_n C.1 C.2.1 hd hi e9 (g H locs cells slots ls hP hS hn hs hl)
theorem snd_iload {i : Nat} (hd : decode X.2.1 pc = .ok (.iload i, 2)) : Snd MI w X d pc (pc + 2) (o_iload i) := by
  intro p e R s m args below meth c Q n0 s0 res C E hE K J cf h hK hJ
  obtain ⟨a, ha, hk⟩ := og_inv h
  obtain ⟨b1, b2, g⟩ := hK _ hk
  refine ⟨b1, b2, fun H locs cells slots ls hP hS hn hs hl => ?_⟩
  have e9 := lget_has hl (lI_inv ha)
  exact lv_iload C.1 C.2.1 hd e9 (g H locs cells slots ls hP hS hn hs hl)
def lL (k : Nat) (cf : ACf) : Option Int64 := match lget cf.1 k with
  | some (.long x) => some x
  | _ => none
theorem lL_inv {k : Nat} {cf : ACf} {a} (h : lL k cf = some a) : lget cf.1 k = some (.long a) := by
  unfold lL at h
  split at h
  next e => cases h; exact e
  next => cases h
def o_lload (k : Nat) : AOp := og (lL k) (fun cf a => (cf.1, .long a :: cf.2.1, cf.2.2))
theorem snd_lload_n {k : Fin 4} {i : Nat} (hi : (k : Nat) = i) (hd : decode X.2.1 pc = .ok (.lload_n k, 1)) : Snd MI w X d pc (pc + 1) (o_lload i) := by
  intro p e R s m args below meth c Q n0 s0 res C E hE K J cf h hK hJ
  obtain ⟨a, ha, hk⟩ := og_inv h
  obtain ⟨b1, b2, g⟩ := hK _ hk
  refine ⟨b1, b2, fun H locs cells slots ls hP hS hn hs hl => ?_⟩
  have e9 := lget_has hl (lL_inv ha)
  exact lv_lload_n C.1 C.2.1 hd hi e9 (g H locs cells slots ls hP hS hn hs hl)
theorem snd_lload {i : Nat} (hd : decode X.2.1 pc = .ok (.lload i, 2)) : Snd MI w X d pc (pc + 2) (o_lload i) := by
  intro p e R s m args below meth c Q n0 s0 res C E hE K J cf h hK hJ
  obtain ⟨a, ha, hk⟩ := og_inv h
  obtain ⟨b1, b2, g⟩ := hK _ hk
  refine ⟨b1, b2, fun H locs cells slots ls hP hS hn hs hl => ?_⟩
  have e9 := lget_has hl (lL_inv ha)
  exact lv_lload C.1 C.2.1 hd e9 (g H locs cells slots ls hP hS hn hs hl)
def lR (k : Nat) (cf : ACf) : Option Nat := match lget cf.1 k with
  | some (.ref x) => some x
  | _ => none
theorem lR_inv {k : Nat} {cf : ACf} {a} (h : lR k cf = some a) : lget cf.1 k = some (.ref a) := by
  unfold lR at h
  split at h
  next e => cases h; exact e
  next => cases h
def o_aload (k : Nat) : AOp := og (lR k) (fun cf a => (cf.1, .ref a :: cf.2.1, cf.2.2))
theorem snd_aload_n {k : Fin 4} {i : Nat} (hi : (k : Nat) = i) (hd : decode X.2.1 pc = .ok (.aload_n k, 1)) : Snd MI w X d pc (pc + 1) (o_aload i) := by
  intro p e R s m args below meth c Q n0 s0 res C E hE K J cf h hK hJ
  obtain ⟨a, ha, hk⟩ := og_inv h
  obtain ⟨b1, b2, g⟩ := hK _ hk
  refine ⟨b1, b2, fun H locs cells slots ls hP hS hn hs hl => ?_⟩
  have e9 := lget_has hl (lR_inv ha)
  exact lv_aload_n C.1 C.2.1 hd hi e9 (g H locs cells slots ls hP hS hn hs hl)
theorem snd_aload {i : Nat} (hd : decode X.2.1 pc = .ok (.aload i, 2)) : Snd MI w X d pc (pc + 2) (o_aload i) := by
  intro p e R s m args below meth c Q n0 s0 res C E hE K J cf h hK hJ
  obtain ⟨a, ha, hk⟩ := og_inv h
  obtain ⟨b1, b2, g⟩ := hK _ hk
  refine ⟨b1, b2, fun H locs cells slots ls hP hS hn hs hl => ?_⟩
  have e9 := lget_has hl (lR_inv ha)
  exact lv_aload C.1 C.2.1 hd e9 (g H locs cells slots ls hP hS hn hs hl)
def lP (k : Nat) (cf : ACf) : Option Nat := match lget cf.1 k with
  | some (.retAddr x) => some x
  | _ => none
theorem lP_inv {k : Nat} {cf : ACf} {a} (h : lP k cf = some a) : lget cf.1 k = some (.retAddr a) := by
  unfold lP at h
  split at h
  next e => cases h; exact e
  next => cases h
/-- which of the values from before are surely references -/
def isP (i : Nat) : Bool := decide (i < 20) || i == 300 || i == 301
theorem isP_ref {U : State} (h : AEnv w U) {i : Nat} (hi : isP i = true) : ∃ a, w.2.2.1 i = .ref a := by
  simp only [isP, Bool.or_eq_true, decide_eq_true_eq, beq_iff_eq] at hi
  rcases hi with (hi | hi) | hi
  · obtain ⟨a, b, h1, -⟩ := h.2.2.2.2.1 i hi
    exact ⟨a, h1⟩
  · subst hi
    obtain ⟨a, h1, -⟩ := h.2.2.2.2.2.1
    exact ⟨a, h1⟩
  · subst hi
    obtain ⟨a, h1, -⟩ := h.2.2.2.2.2.2.1
    exact ⟨a, h1⟩
def prP (i : Nat) : Option Unit := bif isP i then some () else none
def aPk (k : Nat) (cf : ACf) : Option Unit := match lget cf.1 k with
  | some (.retAddr x) => prP x
  | _ => none
theorem aPk_inv {k : Nat} {cf : ACf} {u} (h : aPk k cf = some u) : ∃ a, lget cf.1 k = some (.retAddr a) ∧ isP a = true := by
  unfold aPk at h
  split at h
  next x e =>
    unfold prP at h
    cases hb : isP x with
    | false => rw [hb] at h; cases h
    | true => exact ⟨x, e, hb⟩
  next => cases h
def o_aloadP (k : Nat) : AOp := og (aPk k) (fun cf _ => (cf.1, (lget cf.1 k).getD .null :: cf.2.1, cf.2.2))
theorem snd_aloadP_n {k : Fin 4} {i : Nat} (hi : (k : Nat) = i) (hd : decode X.2.1 pc = .ok (.aload_n k, 1)) : Snd MI w X d pc (pc + 1) (o_aloadP i) := by
  intro p e R s m args below meth c Q n0 s0 res C E hE K J cf h hK hJ
  obtain ⟨a, ha, hk⟩ := og_inv h
  obtain ⟨b1, b2, g⟩ := hK _ hk
  refine ⟨b1, b2, fun H locs cells slots ls hP hS hn hs hl => ?_⟩
  obtain ⟨x, ha1, ha2⟩ := aPk_inv ha
  obtain ⟨q, hq⟩ := isP_ref C.2.2.2.2.2.2.2.1 ha2
  have e9 := lget_has hl ha1
  have hcv : cv w (.retAddr x) = .ref q := hq
  rw [hcv] at e9
  have g9 := (g H locs cells slots ls hP hS hn hs hl)
  simp only [List.map_cons, ha1, Option.getD_some, hcv] at g9
  exact lv_aload_n C.1 C.2.1 hd hi e9 g9
def qV (v : Value) : Option (Option Nat) := match v with
  | .ref a => some (some a)
  | .null => some none
  | _ => none
theorem qV_inv {v : Value} {q : Option Nat} (h : qV v = some q) : v = va_rf q := by
  unfold qV at h
  split at h
  next => cases h; rfl
  next => cases h; rfl
  next => cases h
theorem qV_rf (q : Option Nat) : qV (va_rf q) = some q := by cases q <;> rfl
def lQ (k : Nat) (cf : ACf) : Option (Option Nat) := match lget cf.1 k with
  | some v => qV v
  | none => none
theorem lQ_inv {k : Nat} {cf : ACf} {a} (h : lQ k cf = some a) : lget cf.1 k = some (va_rf a) := by
  unfold lQ at h
  split at h
  next v e => rw [e, qV_inv h]
  next => cases h
def o_aloadQ (k : Nat) : AOp := og (lQ k) (fun cf a => (cf.1, va_rf a :: cf.2.1, cf.2.2))
theorem snd_aloadQ_n {k : Fin 4} {i : Nat} (hi : (k : Nat) = i) (hd : decode X.2.1 pc = .ok (.aload_n k, 1)) : Snd MI w X d pc (pc + 1) (o_aloadQ i) := by
  intro p e R s m args below meth c Q n0 s0 res C E hE K J cf h hK hJ
  obtain ⟨a, ha, hk⟩ := og_inv h
  obtain ⟨b1, b2, g⟩ := hK _ hk
  refine ⟨b1, b2, fun H locs cells slots ls hP hS hn hs hl => ?_⟩
  have e9 := lget_has hl (lQ_inv ha)
  cases a with
  | some z => exact lv_aload_n C.1 C.2.1 hd hi e9 (g H locs cells slots ls hP hS hn hs hl)
  | none => exact lv_aload_nN C.1 C.2.1 hd hi e9 (g H locs cells slots ls hP hS hn hs hl)
def o_istore (k : Nat) : AOp := og t1I (fun cf a => (lset1 cf.1 k (.int a.1), a.2, cf.2.2))
theorem snd_istore_n {k : Fin 4} {i : Nat} (hi : (k : Nat) = i) (hb : i < X.2.2.1) (hd : decode X.2.1 pc = .ok (.istore_n k, 1)) : Snd MI w X d pc (pc + 1) (o_istore i) := by
  intro p e R s m args below meth c Q n0 s0 res C E hE K J cf h hK hJ
  obtain ⟨a, ha, hk⟩ := og_inv h
  obtain ⟨b1, b2, g⟩ := hK _ hk
  refine ⟨b1, b2, fun H locs cells slots ls hP hS hn hs hl => ?_⟩
  rw [t1I_inv ha]
  exact lv_istore_n C.1 C.2.1 hd hi hl hb (lset1_map (v := .int _) C.2.2.2.2.2.2.2.1.2.1 cf.1 i) (fun ls' hl' => g H locs cells slots ls' hP hS hn hs hl')
theorem snd_istore {i : Nat} (hb : i < X.2.2.1) (hd : decode X.2.1 pc = .ok (.istore i, 2)) : Snd MI w X d pc (pc + 2) (o_istore i) := by
  intro p e R s m args below meth c Q n0 s0 res C E hE K J cf h hK hJ
  obtain ⟨a, ha, hk⟩ := og_inv h
  obtain ⟨b1, b2, g⟩ := hK _ hk
  refine ⟨b1, b2, fun H locs cells slots ls hP hS hn hs hl => ?_⟩
  rw [t1I_inv ha]
  exact lv_istore C.1 C.2.1 hd hl hb (lset1_map (v := .int _) C.2.2.2.2.2.2.2.1.2.1 cf.1 i) (fun ls' hl' => g H locs cells slots ls' hP hS hn hs hl')
def o_lstore (k : Nat) : AOp := og t1L (fun cf a => (lset2 cf.1 k (.long a.1), a.2, cf.2.2))
theorem snd_lstore_n {k : Fin 4} {i : Nat} (hi : (k : Nat) = i) (hb : i + 1 < X.2.2.1) (hd : decode X.2.1 pc = .ok (.lstore_n k, 1)) : Snd MI w X d pc (pc + 1) (o_lstore i) := by
  intro p e R s m args below meth c Q n0 s0 res C E hE K J cf h hK hJ
  obtain ⟨a, ha, hk⟩ := og_inv h
  obtain ⟨b1, b2, g⟩ := hK _ hk
  refine ⟨b1, b2, fun H locs cells slots ls hP hS hn hs hl => ?_⟩
  rw [t1L_inv ha]
  exact lv_lstore_n C.1 C.2.1 hd hi hl hb (lset2_map (v := .long _) C.2.2.2.2.2.2.2.1.2.1 cf.1 i) (fun ls' hl' => g H locs cells slots ls' hP hS hn hs hl')
theorem snd_lstore {i : Nat} (hb : i + 1 < X.2.2.1) (hd : decode X.2.1 pc = .ok (.lstore i, 2)) : Snd MI w X d pc (pc + 2) (o_lstore i) := by
  intro p e R s m args below meth c Q n0 s0 res C E hE K J cf h hK hJ
  obtain ⟨a, ha, hk⟩ := og_inv h
  obtain ⟨b1, b2, g⟩ := hK _ hk
  refine ⟨b1, b2, fun H locs cells slots ls hP hS hn hs hl => ?_⟩
  rw [t1L_inv ha]
  exact lv_lstore C.1 C.2.1 hd hl hb (lset2_map (v := .long _) C.2.2.2.2.2.2.2.1.2.1 cf.1 i) (fun ls' hl' => g H locs cells slots ls' hP hS hn hs hl')
def o_astore (k : Nat) : AOp := og t1R (fun cf a => (lset1 cf.1 k (.ref a.1), a.2, cf.2.2))
theorem snd_astore_n {k : Fin 4} {i : Nat} (hi : (k : Nat) = i) (hb : i < X.2.2.1) (hd : decode X.2.1 pc = .ok (.astore_n k, 1)) : Snd MI w X d pc (pc + 1) (o_astore i) := by
  intro p e R s m args below meth c Q n0 s0 res C E hE K J cf h hK hJ
  obtain ⟨a, ha, hk⟩ := og_inv h
  obtain ⟨b1, b2, g⟩ := hK _ hk
  refine ⟨b1, b2, fun H locs cells slots ls hP hS hn hs hl => ?_⟩
  rw [t1R_inv ha]
  exact lv_astore_n C.1 C.2.1 hd hi hl hb (lset1_map (v := .ref _) C.2.2.2.2.2.2.2.1.2.1 cf.1 i) (fun ls' hl' => g H locs cells slots ls' hP hS hn hs hl')
theorem snd_astore {i : Nat} (hb : i < X.2.2.1) (hd : decode X.2.1 pc = .ok (.astore i, 2)) : Snd MI w X d pc (pc + 2) (o_astore i) := by
  intro p e R s m args below meth c Q n0 s0 res C E hE K J cf h hK hJ
  obtain ⟨a, ha, hk⟩ := og_inv h
  obtain ⟨b1, b2, g⟩ := hK _ hk
  refine ⟨b1, b2, fun H locs cells slots ls hP hS hn hs hl => ?_⟩
  rw [t1R_inv ha]
  exact lv_astore C.1 C.2.1 hd hl hb (lset1_map (v := .ref _) C.2.2.2.2.2.2.2.1.2.1 cf.1 i) (fun ls' hl' => g H locs cells slots ls' hP hS hn hs hl')
def o_iinc (k : Nat) (v : Int32) : AOp := og (lI k) (fun cf a => (lset1 cf.1 k (.int (a + v)), cf.2.1, cf.2.2))
theorem snd_iinc {i : Nat} {n : Int} {v : Int32} (hv : Int32.ofInt n = v) (hb : i < X.2.2.1) (hd : decode X.2.1 pc = .ok (.iinc i n, 3)) : Snd MI w X d pc (pc + 3) (o_iinc i v) := by
  intro p e R s m args below meth c Q n0 s0 res C E hE K J cf h hK hJ
  obtain ⟨a, ha, hk⟩ := og_inv h
  obtain ⟨b1, b2, g⟩ := hK _ hk
  refine ⟨b1, b2, fun H locs cells slots ls hP hS hn hs hl => ?_⟩
  obtain ⟨k, hk9⟩ := List.getElem?_of_mem (List.mem_map.mpr ⟨_, lget_mem (lI_inv ha), rfl⟩ : ((i, cv w (.int a)) : Nat × Value) ∈ cf.1.map fun q => (q.1, cv w q.2))
  subst hv
  exact lv_iinc C.1 C.2.1 hd hl hk9 rfl hb (lset1_map (v := .int _) C.2.2.2.2.2.2.2.1.2.1 cf.1 i) (fun ls' hl' => g H locs cells slots ls' hP hS hn hs hl')
def o_dup : AOp := og t1V (fun cf a => (cf.1, a.1 :: a.1 :: a.2, cf.2.2))
theorem snd_dup (hd : decode X.2.1 pc = .ok (.dup, 1)) : Snd MI w X d pc (pc + 1) o_dup := by
  intro p e R s m args below meth c Q n0 s0 res C E hE K J cf h hK hJ
  obtain ⟨a, ha, hk⟩ := og_inv h
  obtain ⟨b1, b2, g⟩ := hK _ hk
  refine ⟨b1, b2, fun H locs cells slots ls hP hS hn hs hl => ?_⟩
  rw [(t1V_inv ha).1]
  exact lv_dup C.1 C.2.1 hd (by rw [cv_cat C.2.2.2.2.2.2.2.1.2.1]; exact (t1V_inv ha).2) (g H locs cells slots ls hP hS hn hs hl)
def o_pop : AOp := og t1V (fun cf a => (cf.1, a.2, cf.2.2))
theorem snd_pop (hd : decode X.2.1 pc = .ok (.pop, 1)) : Snd MI w X d pc (pc + 1) o_pop := by
  intro p e R s m args below meth c Q n0 s0 res C E hE K J cf h hK hJ
  obtain ⟨a, ha, hk⟩ := og_inv h
  obtain ⟨b1, b2, g⟩ := hK _ hk
  refine ⟨b1, b2, fun H locs cells slots ls hP hS hn hs hl => ?_⟩
  rw [(t1V_inv ha).1]
  exact lv_pop C.1 C.2.1 hd (by rw [cv_cat C.2.2.2.2.2.2.2.1.2.1]; exact (t1V_inv ha).2) (g H locs cells slots ls hP hS hn hs hl)
def o_dup_x1 : AOp := og t2V (fun cf a => (cf.1, a.1 :: a.2.1 :: a.1 :: a.2.2, cf.2.2))
theorem snd_dup_x1 (hd : decode X.2.1 pc = .ok (.dup_x1, 1)) : Snd MI w X d pc (pc + 1) o_dup_x1 := by
  intro p e R s m args below meth c Q n0 s0 res C E hE K J cf h hK hJ
  obtain ⟨a, ha, hk⟩ := og_inv h
  obtain ⟨b1, b2, g⟩ := hK _ hk
  refine ⟨b1, b2, fun H locs cells slots ls hP hS hn hs hl => ?_⟩
  rw [(t2V_inv ha).1]
  exact lv_dup_x1 C.1 C.2.1 hd (by rw [cv_cat C.2.2.2.2.2.2.2.1.2.1]; exact (t2V_inv ha).2.1) (by rw [cv_cat C.2.2.2.2.2.2.2.1.2.1]; exact (t2V_inv ha).2.2) (g H locs cells slots ls hP hS hn hs hl)
def o_dup2 : AOp := og t2V (fun cf a => (cf.1, a.1 :: a.2.1 :: a.1 :: a.2.1 :: a.2.2, cf.2.2))
theorem snd_dup2 (hd : decode X.2.1 pc = .ok (.dup2, 1)) : Snd MI w X d pc (pc + 1) o_dup2 := by
  intro p e R s m args below meth c Q n0 s0 res C E hE K J cf h hK hJ
  obtain ⟨a, ha, hk⟩ := og_inv h
  obtain ⟨b1, b2, g⟩ := hK _ hk
  refine ⟨b1, b2, fun H locs cells slots ls hP hS hn hs hl => ?_⟩
  rw [(t2V_inv ha).1]
  exact lv_dup2_11 C.1 C.2.1 hd (by rw [cv_cat C.2.2.2.2.2.2.2.1.2.1]; exact (t2V_inv ha).2.1) (by rw [cv_cat C.2.2.2.2.2.2.2.1.2.1]; exact (t2V_inv ha).2.2) (g H locs cells slots ls hP hS hn hs hl)
/-- no instruction: the block ends here, the next one begins -/
def o_fall (t : Nat) (ks : List Nat) : AOp := fun _ _ J cf => J t (kp ks cf)
theorem o_fall_loc (t : Nat) (ks : List Nat) : ALoc (o_fall t ks) := fun E K J cf r h => Or.inr (Or.inl ⟨t, _, h, fun K' J' hk => hk⟩)
theorem GW.kp {p : Program} {e : Env} {R : Room} {s : State} {m : MethodId} {args : Array Value} {below : List Frame} {meth : Method} {c : Code} {Q : State → Prop} {n0 s0 : Nat} {cf : ACf} {ks : List Nat} (h : GW w X p e R s m args below meth c Q n0 s0 pc (kp ks cf)) : GW w X p e R s m args below meth c Q n0 s0 pc cf :=
  fun H locs cells slots ls hP hS hn hs hl => h H locs cells slots ls hP hS hn hs (lkeep_has ks hl)
theorem snd_fall (ks : List Nat) : Snd MI w X d pc pc (o_fall pc ks) := by
  intro p e R s m args below meth c Q n0 s0 res C E hE K J cf h hK hJ
  obtain ⟨b1, b2, g⟩ := hJ _ _ h
  exact ⟨b1, b2, g.kp⟩
def o_goto (t : Nat) (ks : List Nat) : AOp := fun _ _ J cf => J t (kp ks cf)
theorem o_goto_loc (t : Nat) (ks : List Nat) : ALoc (o_goto t ks) := fun E K J cf r h => Or.inr (Or.inl ⟨t, _, h, fun K' J' hk => hk⟩)
theorem snd_goto {off : Int} {t : Nat} (ks : List Nat) (ht : (pc : Int) + off = (t : Int)) (hd : decode X.2.1 pc = .ok (.goto off, 3)) : Snd MI w X d pc pc (o_goto t ks) := by
  intro p e R s m args below meth c Q n0 s0 res C E hE K J cf h hK hJ
  obtain ⟨b1, b2, g⟩ := hJ _ _ h
  refine ⟨b1, b2, fun H locs cells slots ls hP hS hn hs hl => ?_⟩
  exact lv_goto C.1 C.2.1 hd ht (g.kp H locs cells slots ls hP hS hn hs hl)
theorem oif_inv {α : Type} {acc : ACf → Option α} {p : α → Bool} {f : ACf → α → ACf} {t : Nat} {kt : List Nat} {n : Nat} {kn : List Nat} {E K J cf r} (h : oif acc p f t kt n kn E K J cf = some r) : ∃ a, acc cf = some a ∧ ((p a = true ∧ J t (kp kt (f cf a)) = some r) ∨ (p a = false ∧ J n (kp kn (f cf a)) = some r)) := by
  unfold oif at h
  cases ha : acc cf with
  | none => rw [ha] at h; cases h
  | some a =>
    rw [ha] at h
    simp only [Option.bind_some] at h
    cases hp : p a with
    | true => rw [hp] at h; exact ⟨a, rfl, Or.inl ⟨hp, h⟩⟩
    | false => rw [hp] at h; exact ⟨a, rfl, Or.inr ⟨hp, h⟩⟩
def o_if_eq (t : Nat) (kt : List Nat) (n : Nat) (kn : List Nat) : AOp := oif t1I (fun a => a.1 == 0) (fun cf a => (cf.1, a.2, cf.2.2)) t kt n kn
theorem snd_if_eq {off : Int} {t : Nat} (kt kn : List Nat) (ht : (pc : Int) + off = (t : Int)) (hd : decode X.2.1 pc = .ok (.ifCond .eq off, 3)) : Snd MI w X d pc pc (o_if_eq t kt (pc + 3) kn) := by
  intro p e R s m args below meth c Q n0 s0 res C E hE K J cf h hK hJ
  obtain ⟨a, ha, ⟨hc, h⟩ | ⟨hc, h⟩⟩ := oif_inv h
  · obtain ⟨b1, b2, g⟩ := hJ _ _ h
    refine ⟨b1, b2, fun H locs cells slots ls hP hS hn hs hl => ?_⟩
    rw [t1I_inv ha]
    exact lv_if_eq C.1 C.2.1 hd ht (fun _ => g.kp H locs cells slots ls hP hS hn hs hl) (fun hx => absurd (show (a.1 == 0) = true from hc) (by simpa using hx))
  · obtain ⟨b1, b2, g⟩ := hJ _ _ h
    refine ⟨b1, b2, fun H locs cells slots ls hP hS hn hs hl => ?_⟩
    rw [t1I_inv ha]
    exact lv_if_eq C.1 C.2.1 hd ht (fun hx => absurd (show (a.1 == 0) = false from hc) (by simpa using hx)) (fun _ => g.kp H locs cells slots ls hP hS hn hs hl)
def o_icmp_eq (t : Nat) (kt : List Nat) (n : Nat) (kn : List Nat) : AOp := oif t2I (fun a => a.1 == a.2.1) (fun cf a => (cf.1, a.2.2, cf.2.2)) t kt n kn
theorem snd_icmp_eq {off : Int} {t : Nat} (kt kn : List Nat) (ht : (pc : Int) + off = (t : Int)) (hd : decode X.2.1 pc = .ok (.if_icmp .eq off, 3)) : Snd MI w X d pc pc (o_icmp_eq t kt (pc + 3) kn) := by
  intro p e R s m args below meth c Q n0 s0 res C E hE K J cf h hK hJ
  obtain ⟨a, ha, ⟨hc, h⟩ | ⟨hc, h⟩⟩ := oif_inv h
  · obtain ⟨b1, b2, g⟩ := hJ _ _ h
    refine ⟨b1, b2, fun H locs cells slots ls hP hS hn hs hl => ?_⟩
    rw [t2I_inv ha]
    exact lv_icmp_eq C.1 C.2.1 hd ht (fun _ => g.kp H locs cells slots ls hP hS hn hs hl) (fun hx => absurd (show (a.1 == a.2.1) = true from hc) (by simpa using hx))
  · obtain ⟨b1, b2, g⟩ := hJ _ _ h
    refine ⟨b1, b2, fun H locs cells slots ls hP hS hn hs hl => ?_⟩
    rw [t2I_inv ha]
    exact lv_icmp_eq C.1 C.2.1 hd ht (fun hx => absurd (show (a.1 == a.2.1) = false from hc) (by simpa using hx)) (fun _ => g.kp H locs cells slots ls hP hS hn hs hl)
def o_if_ne (t : Nat) (kt : List Nat) (n : Nat) (kn : List Nat) : AOp := oif t1I (fun a => !(a.1 == 0)) (fun cf a => (cf.1, a.2, cf.2.2)) t kt n kn
theorem snd_if_ne {off : Int} {t : Nat} (kt kn : List Nat) (ht : (pc : Int) + off = (t : Int)) (hd : decode X.2.1 pc = .ok (.ifCond .ne off, 3)) : Snd MI w X d pc pc (o_if_ne t kt (pc + 3) kn) := by
  intro p e R s m args below meth c Q n0 s0 res C E hE K J cf h hK hJ
  obtain ⟨a, ha, ⟨hc, h⟩ | ⟨hc, h⟩⟩ := oif_inv h
  · obtain ⟨b1, b2, g⟩ := hJ _ _ h
    refine ⟨b1, b2, fun H locs cells slots ls hP hS hn hs hl => ?_⟩
    rw [t1I_inv ha]
    exact lv_if_ne C.1 C.2.1 hd ht (fun _ => g.kp H locs cells slots ls hP hS hn hs hl) (fun hx => absurd (show (!(a.1 == 0)) = true from hc) (by simpa using hx))
  · obtain ⟨b1, b2, g⟩ := hJ _ _ h
    refine ⟨b1, b2, fun H locs cells slots ls hP hS hn hs hl => ?_⟩
    rw [t1I_inv ha]
    exact lv_if_ne C.1 C.2.1 hd ht (fun hx => absurd (show (!(a.1 == 0)) = false from hc) (by simpa using hx)) (fun _ => g.kp H locs cells slots ls hP hS hn hs hl)
def o_icmp_ne (t : Nat) (kt : List Nat) (n : Nat) (kn : List Nat) : AOp := oif t2I (fun a => !(a.1 == a.2.1)) (fun cf a => (cf.1, a.2.2, cf.2.2)) t kt n kn
theorem snd_icmp_ne {off : Int} {t : Nat} (kt kn : List Nat) (ht : (pc : Int) + off = (t : Int)) (hd : decode X.2.1 pc = .ok (.if_icmp .ne off, 3)) : Snd MI w X d pc pc (o_icmp_ne t kt (pc + 3) kn) := by
  intro p e R s m args below meth c Q n0 s0 res C E hE K J cf h hK hJ
  obtain ⟨a, ha, ⟨hc, h⟩ | ⟨hc, h⟩⟩ := oif_inv h
  · obtain ⟨b1, b2, g⟩ := hJ _ _ h
    refine ⟨b1, b2, fun H locs cells slots ls hP hS hn hs hl => ?_⟩
    rw [t2I_inv ha]
    exact lv_icmp_ne C.1 C.2.1 hd ht (fun _ => g.kp H locs cells slots ls hP hS hn hs hl) (fun hx => absurd (show (!(a.1 == a.2.1)) = true from hc) (by simpa using hx))
  · obtain ⟨b1, b2, g⟩ := hJ _ _ h
    refine ⟨b1, b2, fun H locs cells slots ls hP hS hn hs hl => ?_⟩
    rw [t2I_inv ha]
    exact lv_icmp_ne C.1 C.2.1 hd ht (fun hx => absurd (show (!(a.1 == a.2.1)) = false from hc) (by simpa using hx)) (fun _ => g.kp H locs cells slots ls hP hS hn hs hl)
def o_if_lt (t : Nat) (kt : List Nat) (n : Nat) (kn : List Nat) : AOp := oif t1I (fun a => decide (a.1 < 0)) (fun cf a => (cf.1, a.2, cf.2.2)) t kt n kn
theorem snd_if_lt {off : Int} {t : Nat} (kt kn : List Nat) (ht : (pc : Int) + off = (t : Int)) (hd : decode X.2.1 pc = .ok (.ifCond .lt off, 3)) : Snd MI w X d pc pc (o_if_lt t kt (pc + 3) kn) := by
  intro p e R s m args below meth c Q n0 s0 res C E hE K J cf h hK hJ
  obtain ⟨a, ha, ⟨hc, h⟩ | ⟨hc, h⟩⟩ := oif_inv h
  · obtain ⟨b1, b2, g⟩ := hJ _ _ h
    refine ⟨b1, b2, fun H locs cells slots ls hP hS hn hs hl => ?_⟩
    rw [t1I_inv ha]
    exact lv_if_lt C.1 C.2.1 hd ht (fun _ => g.kp H locs cells slots ls hP hS hn hs hl) (fun hx => absurd (show (decide (a.1 < 0)) = true from hc) (by simpa using hx))
  · obtain ⟨b1, b2, g⟩ := hJ _ _ h
    refine ⟨b1, b2, fun H locs cells slots ls hP hS hn hs hl => ?_⟩
    rw [t1I_inv ha]
    exact lv_if_lt C.1 C.2.1 hd ht (fun hx => absurd (show (decide (a.1 < 0)) = false from hc) (by simpa using hx)) (fun _ => g.kp H locs cells slots ls hP hS hn hs hl)
def o_icmp_lt (t : Nat) (kt : List Nat) (n : Nat) (kn : List Nat) : AOp := oif t2I (fun a => decide (a.1 < a.2.1)) (fun cf a => (cf.1, a.2.2, cf.2.2)) t kt n kn
theorem snd_icmp_lt {off : Int} {t : Nat} (kt kn : List Nat) (ht : (pc : Int) + off = (t : Int)) (hd : decode X.2.1 pc = .ok (.if_icmp .lt off, 3)) : Snd MI w X d pc pc (o_icmp_lt t kt (pc + 3) kn) := by
  intro p e R s m args below meth c Q n0 s0 res C E hE K J cf h hK hJ
  obtain ⟨a, ha, ⟨hc, h⟩ | ⟨hc, h⟩⟩ := oif_inv h
  · obtain ⟨b1, b2, g⟩ := hJ _ _ h
    refine ⟨b1, b2, fun H locs cells slots ls hP hS hn hs hl => ?_⟩
    rw [t2I_inv ha]
    exact lv_icmp_lt C.1 C.2.1 hd ht (fun _ => g.kp H locs cells slots ls hP hS hn hs hl) (fun hx => absurd (show (decide (a.1 < a.2.1)) = true from hc) (by simpa using hx))
  · obtain ⟨b1, b2, g⟩ := hJ _ _ h
    refine ⟨b1, b2, fun H locs cells slots ls hP hS hn hs hl => ?_⟩
    rw [t2I_inv ha]
    exact lv_icmp_lt C.1 C.2.1 hd ht (fun hx => absurd (show (decide (a.1 < a.2.1)) = false from hc) (by simpa using hx)) (fun _ => g.kp H locs cells slots ls hP hS hn hs hl)
def o_if_ge (t : Nat) (kt : List Nat) (n : Nat) (kn : List Nat) : AOp := oif t1I (fun a => decide (0 ≤ a.1)) (fun cf a => (cf.1, a.2, cf.2.2)) t kt n kn
theorem snd_if_ge {off : Int} {t : Nat} (kt kn : List Nat) (ht : (pc : Int) + off = (t : Int)) (hd : decode X.2.1 pc = .ok (.ifCond .ge off, 3)) : Snd MI w X d pc pc (o_if_ge t kt (pc + 3) kn) := by
  intro p e R s m args below meth c Q n0 s0 res C E hE K J cf h hK hJ
  obtain ⟨a, ha, ⟨hc, h⟩ | ⟨hc, h⟩⟩ := oif_inv h
  · obtain ⟨b1, b2, g⟩ := hJ _ _ h
    refine ⟨b1, b2, fun H locs cells slots ls hP hS hn hs hl => ?_⟩
    rw [t1I_inv ha]
    exact lv_if_ge C.1 C.2.1 hd ht (fun _ => g.kp H locs cells slots ls hP hS hn hs hl) (fun hx => absurd (show (decide (0 ≤ a.1)) = true from hc) (by simpa using hx))
  · obtain ⟨b1, b2, g⟩ := hJ _ _ h
    refine ⟨b1, b2, fun H locs cells slots ls hP hS hn hs hl => ?_⟩
    rw [t1I_inv ha]
    exact lv_if_ge C.1 C.2.1 hd ht (fun hx => absurd (show (decide (0 ≤ a.1)) = false from hc) (by simpa using hx)) (fun _ => g.kp H locs cells slots ls hP hS hn hs hl)
def o_icmp_ge (t : Nat) (kt : List Nat) (n : Nat) (kn : List Nat) : AOp := oif t2I (fun a => decide (a.2.1 ≤ a.1)) (fun cf a => (cf.1, a.2.2, cf.2.2)) t kt n kn
theorem snd_icmp_ge {off : Int} {t : Nat} (kt kn : List Nat) (ht : (pc : Int) + off = (t : Int)) (hd : decode X.2.1 pc = .ok (.if_icmp .ge off, 3)) : Snd MI w X d pc pc (o_icmp_ge t kt (pc + 3) kn) := by
  intro p e R s m args below meth c Q n0 s0 res C E hE K J cf h hK hJ
  obtain ⟨a, ha, ⟨hc, h⟩ | ⟨hc, h⟩⟩ := oif_inv h
  · obtain ⟨b1, b2, g⟩ := hJ _ _ h
    refine ⟨b1, b2, fun H locs cells slots ls hP hS hn hs hl => ?_⟩
    rw [t2I_inv ha]
    exact lv_icmp_ge C.1 C.2.1 hd ht (fun _ => g.kp H locs cells slots ls hP hS hn hs hl) (fun hx => absurd (show (decide (a.2.1 ≤ a.1)) = true from hc) (by simpa using hx))
  · obtain ⟨b1, b2, g⟩ := hJ _ _ h
    refine ⟨b1, b2, fun H locs cells slots ls hP hS hn hs hl => ?_⟩
    rw [t2I_inv ha]
    exact lv_icmp_ge C.1 C.2.1 hd ht (fun hx => absurd (show (decide (a.2.1 ≤ a.1)) = false from hc) (by simpa using hx)) (fun _ => g.kp H locs cells slots ls hP hS hn hs hl)
def o_if_gt (t : Nat) (kt : List Nat) (n : Nat) (kn : List Nat) : AOp := oif t1I (fun a => decide (0 < a.1)) (fun cf a => (cf.1, a.2, cf.2.2)) t kt n kn
theorem snd_if_gt {off : Int} {t : Nat} (kt kn : List Nat) (ht : (pc : Int) + off = (t : Int)) (hd : decode X.2.1 pc = .ok (.ifCond .gt off, 3)) : Snd MI w X d pc pc (o_if_gt t kt (pc + 3) kn) := by
  intro p e R s m args below meth c Q n0 s0 res C E hE K J cf h hK hJ
  obtain ⟨a, ha, ⟨hc, h⟩ | ⟨hc, h⟩⟩ := oif_inv h
  · obtain ⟨b1, b2, g⟩ := hJ _ _ h
    refine ⟨b1, b2, fun H locs cells slots ls hP hS hn hs hl => ?_⟩
    rw [t1I_inv ha]
    exact lv_if_gt C.1 C.2.1 hd ht (fun _ => g.kp H locs cells slots ls hP hS hn hs hl) (fun hx => absurd (show (decide (0 < a.1)) = true from hc) (by simpa using hx))
  · obtain ⟨b1, b2, g⟩ := hJ _ _ h
    refine ⟨b1, b2, fun H locs cells slots ls hP hS hn hs hl => ?_⟩
    rw [t1I_inv ha]
    exact lv_if_gt C.1 C.2.1 hd ht (fun hx => absurd (show (decide (0 < a.1)) = false from hc) (by simpa using hx)) (fun _ => g.kp H locs cells slots ls hP hS hn hs hl)
def o_icmp_gt (t : Nat) (kt : List Nat) (n : Nat) (kn : List Nat) : AOp := oif t2I (fun a => decide (a.2.1 < a.1)) (fun cf a => (cf.1, a.2.2, cf.2.2)) t kt n kn
theorem snd_icmp_gt {off : Int} {t : Nat} (kt kn : List Nat) (ht : (pc : Int) + off = (t : Int)) (hd : decode X.2.1 pc = .ok (.if_icmp .gt off, 3)) : Snd MI w X d pc pc (o_icmp_gt t kt (pc + 3) kn) := by
  intro p e R s m args below meth c Q n0 s0 res C E hE K J cf h hK hJ
  obtain ⟨a, ha, ⟨hc, h⟩ | ⟨hc, h⟩⟩ := oif_inv h
  · obtain ⟨b1, b2, g⟩ := hJ _ _ h
    refine ⟨b1, b2, fun H locs cells slots ls hP hS hn hs hl => ?_⟩
    rw [t2I_inv ha]
    exact lv_icmp_gt C.1 C.2.1 hd ht (fun _ => g.kp H locs cells slots ls hP hS hn hs hl) (fun hx => absurd (show (decide (a.2.1 < a.1)) = true from hc) (by simpa using hx))
  · obtain ⟨b1, b2, g⟩ := hJ _ _ h
    refine ⟨b1, b2, fun H locs cells slots ls hP hS hn hs hl => ?_⟩
    rw [t2I_inv ha]
    exact lv_icmp_gt C.1 C.2.1 hd ht (fun hx => absurd (show (decide (a.2.1 < a.1)) = false from hc) (by simpa using hx)) (fun _ => g.kp H locs cells slots ls hP hS hn hs hl)
def o_if_le (t : Nat) (kt : List Nat) (n : Nat) (kn : List Nat) : AOp := oif t1I (fun a => decide (a.1 ≤ 0)) (fun cf a => (cf.1, a.2, cf.2.2)) t kt n kn
theorem snd_if_le {off : Int} {t : Nat} (kt kn : List Nat) (ht : (pc : Int) + off = (t : Int)) (hd : decode X.2.1 pc = .ok (.ifCond .le off, 3)) : Snd MI w X d pc pc (o_if_le t kt (pc + 3) kn) := by
  intro p e R s m args below meth c Q n0 s0 res C E hE K J cf h hK hJ
  obtain ⟨a, ha, ⟨hc, h⟩ | ⟨hc, h⟩⟩ := oif_inv h
  · obtain ⟨b1, b2, g⟩ := hJ _ _ h
    refine ⟨b1, b2, fun H locs cells slots ls hP hS hn hs hl => ?_⟩
    rw [t1I_inv ha]
    exact lv_if_le C.1 C.2.1 hd ht (fun _ => g.kp H locs cells slots ls hP hS hn hs hl) (fun hx => absurd (show (decide (a.1 ≤ 0)) = true from hc) (by simpa using hx))
  · obtain ⟨b1, b2, g⟩ := hJ _ _ h
    refine ⟨b1, b2, fun H locs cells slots ls hP hS hn hs hl => ?_⟩
    rw [t1I_inv ha]
    exact lv_if_le C.1 C.2.1 hd ht (fun hx => absurd (show (decide (a.1 ≤ 0)) = false from hc) (by simpa using hx)) (fun _ => g.kp H locs cells slots ls hP hS hn hs hl)
def o_icmp_le (t : Nat) (kt : List Nat) (n : Nat) (kn : List Nat) : AOp := oif t2I (fun a => decide (a.1 ≤ a.2.1)) (fun cf a => (cf.1, a.2.2, cf.2.2)) t kt n kn
theorem snd_icmp_le {off : Int} {t : Nat} (kt kn : List Nat) (ht : (pc : Int) + off = (t : Int)) (hd : decode X.2.1 pc = .ok (.if_icmp .le off, 3)) : Snd MI w X d pc pc (o_icmp_le t kt (pc + 3) kn) := by
  intro p e R s m args below meth c Q n0 s0 res C E hE K J cf h hK hJ
  obtain ⟨a, ha, ⟨hc, h⟩ | ⟨hc, h⟩⟩ := oif_inv h
  · obtain ⟨b1, b2, g⟩ := hJ _ _ h
    refine ⟨b1, b2, fun H locs cells slots ls hP hS hn hs hl => ?_⟩
    rw [t2I_inv ha]
    exact lv_icmp_le C.1 C.2.1 hd ht (fun _ => g.kp H locs cells slots ls hP hS hn hs hl) (fun hx => absurd (show (decide (a.1 ≤ a.2.1)) = true from hc) (by simpa using hx))
  · obtain ⟨b1, b2, g⟩ := hJ _ _ h
    refine ⟨b1, b2, fun H locs cells slots ls hP hS hn hs hl => ?_⟩
    rw [t2I_inv ha]
    exact lv_icmp_le C.1 C.2.1 hd ht (fun hx => absurd (show (decide (a.1 ≤ a.2.1)) = false from hc) (by simpa using hx)) (fun _ => g.kp H locs cells slots ls hP hS hn hs hl)
end SND
