/-! calls of methods with handlers, of abstract methods; arraycopy -/
section SNDD
variable {MI : Nat → AMI} {w : AW} {X : AMI} {d pc : Nat}
def YOKW (Y : AMI) (hh : List (Nat × Nat × Nat × Nat)) (n : Nat) : Prop := Y.2.2.2.2.1 = some hh ∧ Cond.initialized Y.1.cls ∈ lw_all ∧ Cond.codeWith Y.1 Y.2.1 Y.2.2.1 Y.2.2.2.1 hh ∈ lw_all ∧ (Y.1.cls ≠ "java/lang/invoke/MethodHandle" ∧ Y.1.cls ≠ "java/lang/invoke/VarHandle" ∧ (parseMethodDescriptor Y.1.desc).map (fun z => z.parameters.length) = some n) ∧ Y.2.2.1 ≤ 45
theorem callVX_ok {Y : AMI} {C : String} {index n : Nat} {hh : List (Nat × Nat × Nat × Nat)} (hY : YOKW Y hh n) (hC : Y.1.cls = C) (hN : RcN Y C) (hl : Cond.methodLink X.1.cls index Y.1 ∈ lw_all) (hi : Cond.instanceMethod Y.1 ∈ lw_all) (hs : Cond.selects C Y.1 Y.1 ∈ lw_all) (hd : decode X.2.1 pc = .ok (.invokevirtual index, 3)) : CallK w X Y d pc (n + 1) := by
  intro p e R s m args below meth c Q n0 s0 res Cx S h r mc ms hw hrc hct hmc hms hr1 hr2 H locs cells slots ls hP hS hn hs0 hls
  obtain ⟨y0, y1, y2, y3, y4⟩ := hY
  have hE := Cx.2.2.2.2.2.2.2.1
  have hts := Cx.2.2.2.2.2.2.1
  obtain ⟨hlen, hsum⟩ := okW_inv (w := w) hE.2.1 hw
  obtain ⟨b, T9, a, e9, hb, hcell⟩ := rc_split hN hrc hE hP hS
  have hmet := hct.2.2 mc ms hmc hms
  have hws : mWs Y = wsW_ Y.1 Y.2.1 Y.2.2.1 Y.2.2.2.1 hh := by unfold mWs; rw [y0]
  rw [hws, e9] at hmet
  have hTl : T9.length = n := by
    have := take_len hlen
    rw [e9] at this
    simpa using this
  intro T0 hT0 XX
  have hsz := HP_size XX hT0 Cx.2.2.2.2.2.2.2.2.1 hn hP hS
  have hf := Cx.2.2.2.2.2.2.2.2.2.2.1
  have hlo := Cx.2.2.2.2.2.2.2.2.2.2.2.1
  refine vx_runVX (As := T9.map (cv w)) (b := a) (C := C) ⟨Cx.1, Cx.2.1, Cx.2.2.2.1, Cx.2.2.2.2.1, hts⟩ hmet (vx_cwVW n hts (lw_VW hl hi hs (hC ▸ y1) y2) rfl rfl rfl ⟨hC, y3⟩ ⟨by show d + 1 ≤ _; omega, by show 8 + (_ + 11) + 64 * d ≤ _; omega⟩)
    ⟨PcA_blind, hcell, fun U hU hW => ?_⟩ rfl (by rw [List.length_map]; exact hTl) hls ?_ (lv_room hsum) hd ⟨by omega, by omega⟩ T0 hT0 XX
  · have := PcA_here (as := b :: T9) hE hS hP hsz U hU hW
    rw [List.map_cons, hb] at this
    exact this
  · show S.map (cv w) = _
    conv => lhs; rw [take_split e9]
    rw [List.map_append, List.map_reverse, List.map_cons, hb]
/-- x: the abstract method that is named; Y: the receiver's own -/
theorem callA_ok {Y : AMI} {x : MethodName} {C : String} {index n : Nat} (hY : YOK Y n) (hN : RcN Y C) (hl : Cond.methodLink X.1.cls index x ∈ lw_all) (hsm : Cond.sameMethod x.cls x.cls x.name x.desc ∈ lw_all) (hi : Cond.instanceMethod Y.1 ∈ lw_all) (hs : Cond.selects C x Y.1 ∈ lw_all) (hz : Cond.declares ⟨x.cls, x.name, x.desc⟩ ∈ lw_tbl)
    (hx : x.cls ≠ "java/lang/invoke/MethodHandle" ∧ x.cls ≠ "java/lang/invoke/VarHandle" ∧ (parseMethodDescriptor x.desc).map (fun z => z.parameters.length) = some n) (hd : decode X.2.1 pc = .ok (.invokevirtual index, 3)) : CallK w X Y d pc (n + 1) := by
  intro p e R s m args below meth c Q n0 s0 res Cx S h r mc ms hw hrc hct hmc hms hr1 hr2 H locs cells slots ls hP hS hn hs0 hls
  obtain ⟨y0, y1, y2, y3, y4⟩ := hY
  have hE := Cx.2.2.2.2.2.2.2.1
  have hts := Cx.2.2.2.2.2.2.1
  obtain ⟨hlen, hsum⟩ := okW_inv (w := w) hE.2.1 hw
  obtain ⟨b, T9, a, e9, hb, hcell⟩ := rc_split hN hrc hE hP hS
  have hmet := hct.2.2 mc ms hmc hms
  have hws : mWs Y = ws_ Y.1 Y.2.1 Y.2.2.1 Y.2.2.2.1 := by unfold mWs; rw [y0]
  rw [hws, e9] at hmet
  have hTl : T9.length = n := by
    have := take_len hlen
    rw [e9] at this
    simpa using this
  have hT9 : GoodIn lw_all (va_wsU X.1.cls index C x.cls x Y.1 (ws_ Y.1 Y.2.1 Y.2.2.1 Y.2.2.2.1)) := by
    refine lw_app (fun z hz => ?_) (lw_meth y2)
    simp only [List.mem_cons, List.not_mem_nil, or_false] at hz
    rcases hz with e | e | e | e | e <;> rw [e] <;> assumption
  intro T0 hT0 XX
  have hsz := HP_size XX hT0 Cx.2.2.2.2.2.2.2.2.1 hn hP hS
  have hf := Cx.2.2.2.2.2.2.2.2.2.2.1
  have hlo := Cx.2.2.2.2.2.2.2.2.2.2.2.1
  refine vx_runU (As := T9.map (cv w)) (b := a) (C := C) ⟨Cx.1, Cx.2.1, Cx.2.2.2.1, Cx.2.2.2.2.1, hts⟩ hmet (va_cwA n hts hT9 rfl rfl rfl (hE.2.2.1 _ hz rfl) hx ⟨by show d + 1 ≤ _; omega, by show 8 + (_ + 11) + 64 * d ≤ _; omega⟩)
    ⟨PcA_blind, hcell, fun U hU hW => ?_⟩ rfl (by rw [List.length_map]; exact hTl) hls ?_ (lv_room hsum) hd ⟨by omega, by omega⟩ T0 hT0 XX
  · have := PcA_here (as := b :: T9) hE hS hP hsz U hU hW
    rw [List.map_cons, hb] at this
    exact this
  · show S.map (cv w) = _
    conv => lhs; rw [take_split e9]
    rw [List.map_append, List.map_reverse, List.map_cons, hb]
def dlk (c : Nat) : List (Nat × Nat) → Option Nat
  | [] => none
  | (c', y) :: r => bif c == c' then some y else dlk c r
theorem dlk_mem {c y : Nat} {tb : List (Nat × Nat)} (h : dlk c tb = some y) : ∃ c', (c', y) ∈ tb := by
  induction tb with
  | nil => cases h
  | cons q r ih =>
    obtain ⟨c', y'⟩ := q
    unfold dlk at h
    cases hb : c == c' with
    | true => rw [hb] at h; cases h; exact ⟨c', List.mem_cons_self⟩
    | false =>
      rw [hb] at h
      obtain ⟨c2, h2⟩ := ih h
      exact ⟨c2, List.mem_cons_of_mem _ h2⟩
/-- the receiver's class says which method is run -/
def vdis (h : AH) (as : List Value) (tb : List (Nat × Nat)) : Option Nat := match as with
  | .ref a :: _ => match aget h a with
    | some (.inl o) => dlk o.1 tb
    | _ => none
  | _ => none
theorem vdis_mem {h : AH} {as : List Value} {tb : List (Nat × Nat)} {y : Nat} (e : vdis h as tb = some y) : ∃ c', (c', y) ∈ tb := by
  unfold vdis at e
  split at e
  next =>
    split at e
    next => exact dlk_mem e
    next => cases e
  next => cases e
def odis (tb : List (Nat × Nat)) (n : Nat) (o : Nat → AOp) : AOp := fun E K J cf => (vdis cf.2.2 (cf.2.1.take n).reverse tb).bind fun y => okw n (o y) E K J cf
theorem odis_inv {tb : List (Nat × Nat)} {n : Nat} {o : Nat → AOp} {E K J cf res} (h : odis tb n o E K J cf = some res) : ∃ c y, (c, y) ∈ tb ∧ vdis cf.2.2 (cf.2.1.take n).reverse tb = some y ∧ okw n (o y) E K J cf = some res := by
  unfold odis at h
  cases hv : vdis cf.2.2 (cf.2.1.take n).reverse tb with
  | none => rw [hv] at h; cases h
  | some y =>
    rw [hv] at h
    obtain ⟨c, hc⟩ := vdis_mem hv
    exact ⟨c, y, hc, rfl, h⟩
theorem odis_ok {tb : List (Nat × Nat)} {n : Nat} {o : Nat → AOp} (ho : ∀ y, AOk (okw n (o y))) : AOk (odis tb n o) := by
  refine ⟨fun E K J cf res h => ?_, fun E hE K J cf res h hK hJ => ?_⟩
  · obtain ⟨c, y, -, hv, h2⟩ := odis_inv h
    unfold odis
    rw [hv]
    exact (ho y).1 E K J cf res h2
  · obtain ⟨c, y, -, hv, h2⟩ := odis_inv h
    exact (ho y).2 E hE K J cf res h2 hK hJ
theorem snd_dis {tb : List (Nat × Nat)} {n : Nat} {x : AX} {o : Nat → AOp} (hC : ∀ y, CR y n x (o y)) (hk : ∀ q ∈ tb, CallK w X (MI q.2) d pc n) (hx : XOK w X d pc x) : Snd MI w X d pc (pc + 3) (odis tb n o) := by
  intro p e R s m args below meth c Q n0 s0 res C E hE K J cf h hK hJ
  obtain ⟨c', y, hm, hv, h2⟩ := odis_inv h
  exact snd_call (hC y) (hk _ hm) hx p e R s m args below meth c Q n0 s0 res C E hE K J cf h2 hK hJ
/-! arraycopy between arrays of Object, of elements of one class -/
def cpOk (h : AH) (f : Nat → Option Nat) (sp n c : Nat) : Bool := (List.range n).all fun i => match f (sp + i) with
  | none => true
  | some y => isO h y c
def cpQ (h : AH) (a0 : Nat) (sp : Int32) (a1 : Nat) (dp n : Int32) : Option AH := match aget h a0, aget h a1 with
  | some (.inr (t0, n0, .inr (.inr f))), some (.inr (t1, n1, .inr (.inr g))) =>
    bif t0 == 4 && t1 == 4 && !decide (sp < 0) && !decide (dp < 0) && !decide (n < 0) && decide (sp.toNatClampNeg + n.toNatClampNeg ≤ n0) && decide (dp.toNatClampNeg + n.toNatClampNeg ≤ n1) && (cpOk h f sp.toNatClampNeg n.toNatClampNeg 6 || cpOk h f sp.toNatClampNeg n.toNatClampNeg 7 || cpOk h f sp.toNatClampNeg n.toNatClampNeg 12)
    then some (hset h a1 (.inr (t1, n1, .inr (.inr (va_cpy f g sp.toNatClampNeg dp.toNatClampNeg n.toNatClampNeg))))) else none
  | _, _ => none
theorem cpQ_inv {h h' : AH} {a0 a1 : Nat} {sp dp n : Int32} (e : cpQ h a0 sp a1 dp n = some h') : ∃ n0 f n1 g c, aget h a0 = some (.inr (4, n0, .inr (.inr f))) ∧ aget h a1 = some (.inr (4, n1, .inr (.inr g))) ∧ ¬ sp < 0 ∧ ¬ dp < 0 ∧ ¬ n < 0 ∧ sp.toNatClampNeg + n.toNatClampNeg ≤ n0 ∧ dp.toNatClampNeg + n.toNatClampNeg ≤ n1 ∧ (c = 6 ∨ c = 7 ∨ c = 12) ∧ cpOk h f sp.toNatClampNeg n.toNatClampNeg c = true ∧
    h' = hset h a1 (.inr (4, n1, .inr (.inr (va_cpy f g sp.toNatClampNeg dp.toNatClampNeg n.toNatClampNeg)))) := by
  unfold cpQ at e
  split at e
  next t0 n0 f t1 n1 g e0 e1 =>
    generalize hb : (t0 == 4 && t1 == 4 && !decide (sp < 0) && !decide (dp < 0) && !decide (n < 0) && decide (sp.toNatClampNeg + n.toNatClampNeg ≤ n0) && decide (dp.toNatClampNeg + n.toNatClampNeg ≤ n1) && (cpOk h f sp.toNatClampNeg n.toNatClampNeg 6 || cpOk h f sp.toNatClampNeg n.toNatClampNeg 7 || cpOk h f sp.toNatClampNeg n.toNatClampNeg 12)) = bb at e
    cases bb with
    | false => cases e
    | true =>
      simp only [Bool.and_eq_true, Bool.or_eq_true, Bool.not_eq_true', beq_iff_eq, decide_eq_true_eq, decide_eq_false_iff_not] at hb
      obtain ⟨⟨⟨⟨⟨⟨⟨rfl, rfl⟩, q1⟩, q2⟩, q3⟩, q4⟩, q5⟩, q6⟩ := hb
      have hh := (Option.some.inj e).symm
      rcases q6 with (q6 | q6) | q6
      · exact ⟨n0, f, n1, g, 6, e0, e1, q1, q2, q3, q4, q5, Or.inl rfl, q6, hh⟩
      · exact ⟨n0, f, n1, g, 7, e0, e1, q1, q2, q3, q4, q5, Or.inr (Or.inl rfl), q6, hh⟩
      · exact ⟨n0, f, n1, g, 12, e0, e1, q1, q2, q3, q4, q5, Or.inr (Or.inr rfl), q6, hh⟩
  next => cases e
def o_copyq : AOp := og (fun cf => bif okW 5 cf.2.1 then (match cf.2.1 with
  | .int n :: .int dp :: .ref a1 :: .int sp :: .ref a0 :: _ => cpQ cf.2.2 a0 sp a1 dp n
  | _ => none) else none) (fun cf a => (cf.1, cf.2.1.drop 5, a))
theorem o_copyq_inv {cf : ACf} {a : AH} (h : (bif okW 5 cf.2.1 then (match cf.2.1 with
  | .int n :: .int dp :: .ref a1 :: .int sp :: .ref a0 :: _ => cpQ cf.2.2 a0 sp a1 dp n
  | _ => none) else none) = some a) : okW 5 cf.2.1 = true ∧ ∃ n dp a1 sp a0 T, cf.2.1 = .int n :: .int dp :: .ref a1 :: .int sp :: .ref a0 :: T ∧ cpQ cf.2.2 a0 sp a1 dp n = some a := by
  cases hb : okW 5 cf.2.1 with
  | false => rw [hb] at h; cases h
  | true =>
    rw [hb] at h
    simp only [cond_true] at h
    split at h
    next n dp a1 sp a0 T e => exact ⟨rfl, n, dp, a1, sp, a0, T, e, h⟩
    next => cases h
theorem ok_copyq : AOk o_copyq := og_ok fun cf a h => by
  obtain ⟨-, n, dp, a1, sp, a0, T, -, h2⟩ := o_copyq_inv h
  obtain ⟨n0, f, n1, g, c, -, -, -, -, -, -, -, -, -, rfl⟩ := cpQ_inv h2
  exact hset_le
theorem cast_asg {s : State} {C T : String} (h : (Cond.castable C T).before #[] s = true) : ∀ comp c0 : ClassId, s.vm.findClass T = some comp → s.vm.findClass C = some c0 → s.vm.assignable c0 comp = true := by
  intro comp c0 h1 h2
  obtain ⟨c3, c4, hc3, hc4, hasg⟩ := Cond.castable_spec h
  cases Option.some.inj (hc3.symm.trans h2)
  cases Option.some.inj (hc4.symm.trans h1)
  exact hasg
theorem snd_copyq {index : Nat} (hq : Cond.methodLink X.1.cls index arraycopyName ∈ lw_all) (hnat : Cond.native arraycopyName ∈ lw_all) (hst : Cond.static arraycopyName ∈ lw_all) (hini : Cond.initialized "java/lang/System" ∈ lw_all) (hd : decode X.2.1 pc = .ok (.invokestatic index, 3)) : Snd MI w X d pc (pc + 3) o_copyq := by
  intro p e R s m args below meth c Q n0 s0 res C E hE K J cf h hK hJ
  obtain ⟨a, ha, hk⟩ := og_inv h
  obtain ⟨b1, b2, g⟩ := hK _ hk
  obtain ⟨hw, n, dp, a1, sp, a0, T, hcf, h2⟩ := o_copyq_inv ha
  obtain ⟨m0, f, m1, g0, ci, e0, e1, q1, q2, q3, q4, q5, q6, q7, rfl⟩ := cpQ_inv h2
  have hEn := C.2.2.2.2.2.2.2.1
  have hts := C.2.2.2.2.2.2.1
  have hsum := (okW_inv (w := w) hEn.2.1 hw).2
  obtain ⟨Cn, Tn, Nn, hcl, hcs⟩ : ∃ Cn Tn Nn, aCl[ci]? = some (Cn, Tn, Nn) ∧ va_Nw (.castable Cn "java/lang/Object") s := by
    rcases q6 with rfl | rfl | rfl
    · exact ⟨_, _, _, rfl, hEn.2.2.1 _ q1896 rfl⟩
    · exact ⟨_, _, _, rfl, hEn.2.2.1 _ q1897 rfl⟩
    · exact ⟨_, _, _, rfl, hEn.2.2.1 _ q1901 rfl⟩
  refine ⟨b1, b2, fun H locs cells slots ls hP hS hn hs hl => ?_⟩
  simp only [hcf, List.drop_succ_cons, List.drop_zero] at hsum
  rw [hcf]
  refine va_copyq (C := Cn) (E0 := "java/lang/Object") (E1 := "java/lang/Object") C.1 C.2.1 (C.2.2.2.1.trans hl.1.symm) C.2.2.2.2.1 (hts _ hq) (hts _ hnat) (hts _ hst) (hts _ hini) hEn.1 hP (wsl_D w cf.2.2) hS a0 a1 4 4 (wsl_get e0) (wsl_get e1) (tysL_get w (t := 4) (by decide)) (tysL_get w (t := 4) (by decide)) q1 q2 q3 q4 q5 (fun i hi y hy => ?_) (cast_asg hcs) ?_ ?_ hd fun H1 locs1 hP1 _ hS1 => ?_
  · cases hfy : f (sp.toNatClampNeg + i) with
    | none => rw [hfy] at hy; cases hy
    | some z =>
      rw [hfy] at hy
      cases hy
      have hz := List.all_eq_true.mp q7 i (List.mem_range.mpr hi)
      rw [hfy] at hz
      obtain ⟨fs, hg⟩ := isO_inv hz
      exact va_recv hEn.1 hP hcl (wsl_get hg)
  · have := C.2.2.2.2.2.2.2.2.2.2.1
    omega
  · have := C.2.2.2.2.2.2.2.2.2.2.2.1
    have h9 : nativeFrameWords "java/lang/System" "arraycopy" 5 + 11 ≤ 50 := by decide
    omega
  · have hfg : va_cpy (fun j => (f j).map fun k => w.2.1 + k) (fun j => (g0 j).map fun k => w.2.1 + k) sp.toNatClampNeg dp.toNatClampNeg n.toNatClampNeg = fun j => (va_cpy f g0 sp.toNatClampNeg dp.toNatClampNeg n.toNatClampNeg j).map fun k => w.2.1 + k := by
      funext j
      unfold va_cpy
      split <;> rfl
    rw [hfg] at hP1
    have e9 := wsl_set (w := w) (o' := .inr (4, m1, .inr (.inr (va_cpy f g0 sp.toNatClampNeg dp.toNatClampNeg n.toNatClampNeg)))) e1
    have g9 := g H1 locs1 cells slots ls (HP_eq e9 hP1) hS1 hn hs hl
    simp only [hcf, List.drop_succ_cons, List.drop_zero] at g9
    exact g9
end SNDD
section SNDM
variable {MI : Nat → AMI} {w : AW} {X : AMI} {d pc : Nat}
def t2W (cf : ACf) : Option (Int32 × Int32 × List Value) := bif okW 2 cf.2.1 then t2I cf else none
theorem t2W_inv {cf : ACf} {a} (h : t2W cf = some a) : okW 2 cf.2.1 = true ∧ cf.2.1 = .int a.2.1 :: .int a.1 :: a.2.2 := by
  unfold t2W at h
  cases hb : okW 2 cf.2.1 with
  | false => rw [hb] at h; cases h
  | true => rw [hb] at h; exact ⟨rfl, t2I_inv h⟩
def o_mmax : AOp := og t2W (fun cf a => (cf.1, .int (if a.1 < a.2.1 then a.2.1 else a.1) :: a.2.2, cf.2.2))
def o_mmin : AOp := og t2W (fun cf a => (cf.1, .int (if a.2.1 < a.1 then a.2.1 else a.1) :: a.2.2, cf.2.2))
theorem ok_mmax : AOk o_mmax := og_ok fun cf a h => LeH.rf
theorem ok_mmin : AOk o_mmin := og_ok fun cf a h => LeH.rf
theorem snd_mmax {index : Nat} (hq : Cond.methodLink X.1.cls index Lib.Math.max.name ∈ lw_all) (hst : Cond.static Lib.Math.max.name ∈ lw_all) (hini : Cond.initialized "java/lang/Math" ∈ lw_all) (hcode : Cond.code Lib.Math.max.name Lib.Math.max.code 2 (some .int) ∈ lw_all) (hd : decode X.2.1 pc = .ok (.invokestatic index, 3)) : Snd MI w X d pc (pc + 3) o_mmax := by
  intro p e R s m args below meth c Q n0 s0 res C E hE K J cf h hK hJ
  obtain ⟨a, ha, hk⟩ := og_inv h
  obtain ⟨b1, b2, g⟩ := hK _ hk
  obtain ⟨hw, hst9⟩ := t2W_inv ha
  have hsum := (okW_inv (w := w) C.2.2.2.2.2.2.2.1.2.1 hw).2
  have b1' : cf.2.2.1 ≤ res.2.1 := b1
  have b2' : cf.2.2.2.1 ≤ res.2.2.1 := b2
  have r1 := C.2.2.2.2.2.2.2.2.2.2.1
  have r2 := C.2.2.2.2.2.2.2.2.2.2.2.1
  have r3 := C.2.2.2.2.2.2.2.2.2.2.2.2.1
  have r4 := C.2.2.2.2.2.2.2.2.2.2.2.2.2.1
  refine ⟨b1, b2, fun H locs cells slots ls hP hS hn hs hl => ?_⟩
  simp only [hst9, List.drop_succ_cons, List.drop_zero] at hsum
  rw [hst9]
  have hts := C.2.2.2.2.2.2.1
  exact va_mmax C.1 C.2.1 (C.2.2.2.1.trans hl.1.symm) C.2.2.2.2.1 (hts _ hq) (hts _ hst) (hts _ hini) (hts _ hcode) (by omega) (by omega) (by omega) (by omega) hd (g H locs cells slots ls hP hS hn hs hl)
theorem snd_mmin {index : Nat} (hq : Cond.methodLink X.1.cls index Lib.Math.min.name ∈ lw_all) (hst : Cond.static Lib.Math.min.name ∈ lw_all) (hini : Cond.initialized "java/lang/Math" ∈ lw_all) (hcode : Cond.code Lib.Math.min.name Lib.Math.min.code 2 (some .int) ∈ lw_all) (hd : decode X.2.1 pc = .ok (.invokestatic index, 3)) : Snd MI w X d pc (pc + 3) o_mmin := by
  intro p e R s m args below meth c Q n0 s0 res C E hE K J cf h hK hJ
  obtain ⟨a, ha, hk⟩ := og_inv h
  obtain ⟨b1, b2, g⟩ := hK _ hk
  obtain ⟨hw, hst9⟩ := t2W_inv ha
  have hsum := (okW_inv (w := w) C.2.2.2.2.2.2.2.1.2.1 hw).2
  have b1' : cf.2.2.1 ≤ res.2.1 := b1
  have b2' : cf.2.2.2.1 ≤ res.2.2.1 := b2
  have r1 := C.2.2.2.2.2.2.2.2.2.2.1
  have r2 := C.2.2.2.2.2.2.2.2.2.2.2.1
  have r3 := C.2.2.2.2.2.2.2.2.2.2.2.2.1
  have r4 := C.2.2.2.2.2.2.2.2.2.2.2.2.2.1
  refine ⟨b1, b2, fun H locs cells slots ls hP hS hn hs hl => ?_⟩
  simp only [hst9, List.drop_succ_cons, List.drop_zero] at hsum
  rw [hst9]
  have hts := C.2.2.2.2.2.2.1
  exact va_mmin C.1 C.2.1 (C.2.2.2.1.trans hl.1.symm) C.2.2.2.2.1 (hts _ hq) (hts _ hst) (hts _ hini) (hts _ hcode) (by omega) (by omega) (by omega) (by omega) hd (g H locs cells slots ls hP hS hn hs hl)
end SNDM
