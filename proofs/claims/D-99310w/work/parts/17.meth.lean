/-! every op goes on at one place at most, and cells are never lost -/
def LeH (h h' : AH) : Prop := h.1 ≤ h'.1 ∧ h.2.1 ≤ h'.2.1
theorem LeH.rf {h : AH} : LeH h h := ⟨Nat.le_refl _, Nat.le_refl _⟩
theorem LeH.tr {a b c : AH} (h1 : LeH a b) (h2 : LeH b c) : LeH a c := ⟨Nat.le_trans h1.1 h2.1, Nat.le_trans h1.2 h2.2⟩
def EMn (E : AEn) : Prop := ∀ y as h r, E y as h = some r → LeH h r.2
def AMn (o : AOp) : Prop := ∀ E, EMn E → ∀ (K : ACf → Option ARes) (J : Nat → ACf → Option ARes) cf (res : ARes), o E K J cf = some res → (∀ c, K c = some res → LeH c.2.2 res.2) → (∀ pc c, J pc c = some res → LeH c.2.2 res.2) → LeH cf.2.2 res.2
def AOk (o : AOp) : Prop := ALoc o ∧ AMn o
theorem og_ok {α : Type} {acc : ACf → Option α} {f : ACf → α → ACf} (h : ∀ cf a, acc cf = some a → LeH cf.2.2 (f cf a).2.2) : AOk (og acc f) := by
  refine ⟨og_loc acc f, fun E hE K J cf res ho hK hJ => ?_⟩
  obtain ⟨a, ha, hk⟩ := og_inv ho
  exact (h cf a ha).tr (hK _ hk)
theorem oif_ok {α : Type} {acc : ACf → Option α} {p : α → Bool} {f : ACf → α → ACf} {t : Nat} {kt : List Nat} {n : Nat} {kn : List Nat} (h : ∀ cf a, LeH cf.2.2 (f cf a).2.2) : AOk (oif acc p f t kt n kn) := by
  refine ⟨oif_loc acc p f t kt n kn, fun E hE K J cf res ho hK hJ => ?_⟩
  obtain ⟨a, ha, ⟨-, hk⟩ | ⟨-, hk⟩⟩ := oif_inv ho
  · have h9 := hJ _ _ hk
    exact (h cf a).tr h9
  · have h9 := hJ _ _ hk
    exact (h cf a).tr h9
theorem oend_ok {α : Type} {acc : ACf → Option α} {f : ACf → α → ARes} (h : ∀ cf a, LeH cf.2.2 (f cf a).2) : AOk (oend acc f) := by
  refine ⟨oend_loc acc f, fun E hE K J cf res ho hK hJ => ?_⟩
  obtain ⟨a, ha, hr⟩ := oend_inv ho
  subst hr
  exact h cf a
theorem okw_ok {y n : Nat} {x : AX} {o : AOp} (hC : CR y n x o) (hL : ALoc o) : AOk (okw n o) := by
  refine ⟨okw_loc hL, fun E hE K J cf res ho hK hJ => ?_⟩
  obtain ⟨-, rr, hy, hc⟩ := hC E K J cf res ho
  refine (hE _ _ _ _ hy).tr ?_
  rcases hc with ⟨v, -, hk⟩ | ⟨q, -, hx⟩
  · exact hK _ hk
  · match x, hx with
    | none, hx => have := Option.some.inj hx; subst this; exact LeH.rf
    | some (0, _), hx => exact absurd hx (fun h => nomatch h)
    | some (t + 1, ks), hx => exact hJ _ _ hx
theorem ok_cI (y n : Nat) (x : AX) : AOk (okw n (ocI y n x)) := okw_ok (ocI_CR y n x) (ocI_loc y n x)
theorem ok_cL (y n : Nat) (x : AX) : AOk (okw n (ocL y n x)) := okw_ok (ocL_CR y n x) (ocL_loc y n x)
theorem ok_cR (y n : Nat) (x : AX) : AOk (okw n (ocR y n x)) := okw_ok (ocR_CR y n x) (ocR_loc y n x)
theorem ok_cV (y n : Nat) (x : AX) : AOk (okw n (ocV y n x)) := okw_ok (ocV_CR y n x) (ocV_loc y n x)
theorem ok_fall (t : Nat) (ks : List Nat) : AOk (o_fall t ks) := ⟨o_fall_loc t ks, fun E hE K J cf res ho hK hJ => by
  have h9 := hJ _ _ ho
  exact h9⟩
theorem ok_goto (t : Nat) (ks : List Nat) : AOk (o_goto t ks) := ⟨o_goto_loc t ks, fun E hE K J cf res ho hK hJ => by
  have h9 := hJ _ _ ho
  exact h9⟩
theorem ok_stuck : AOk o_stuck := ⟨o_stuck_loc, fun E hE K J cf res ho hK hJ => nomatch ho⟩
theorem ok_switch (d : Nat × List Nat) (cs : List (Int32 × Nat × List Nat)) : AOk (o_switch d cs) := by
  refine ⟨osw_loc t1I d cs, fun E hE K J cf res ho hK hJ => ?_⟩
  obtain ⟨a, ha, t, ks, hj, -⟩ := osw_inv ho
  have h9 := hJ _ _ hj
  exact h9
theorem hset_le {h : AH} {a : Nat} {o : AO} : LeH h (hset h a o) := ⟨Nat.le_refl _, Nat.le_refl _⟩
theorem hpush_le {h : AH} {n : Nat} {o : AO} : LeH h (hpush h n o) := ⟨Nat.le_succ _, Nat.le_add_right _ _⟩
theorem ok_iconst (v : Int32) : AOk (o_iconst v) := og_ok fun cf a h => LeH.rf
theorem ok_bipush (v : Int32) : AOk (o_bipush v) := og_ok fun cf a h => LeH.rf
theorem ok_sipush (v : Int32) : AOk (o_sipush v) := og_ok fun cf a h => LeH.rf
theorem ok_lconst (v : Int64) : AOk (o_lconst v) := og_ok fun cf a h => LeH.rf
theorem ok_ldc (v : Int32) : AOk (o_ldc v) := og_ok fun cf a h => LeH.rf
theorem ok_ldcw (v : Int32) : AOk (o_ldcw v) := og_ok fun cf a h => LeH.rf
theorem ok_ldc2 (v : Int64) : AOk (o_ldc2 v) := og_ok fun cf a h => LeH.rf
theorem ok_null : AOk (o_null) := og_ok fun cf a h => LeH.rf
theorem ok_iadd : AOk (o_iadd) := og_ok fun cf a h => LeH.rf
theorem ok_isub : AOk (o_isub) := og_ok fun cf a h => LeH.rf
theorem ok_imul : AOk (o_imul) := og_ok fun cf a h => LeH.rf
theorem ok_iand : AOk (o_iand) := og_ok fun cf a h => LeH.rf
theorem ok_ior : AOk (o_ior) := og_ok fun cf a h => LeH.rf
theorem ok_ixor : AOk (o_ixor) := og_ok fun cf a h => LeH.rf
theorem ok_ishl : AOk (o_ishl) := og_ok fun cf a h => LeH.rf
theorem ok_ishr : AOk (o_ishr) := og_ok fun cf a h => LeH.rf
theorem ok_iushr : AOk (o_iushr) := og_ok fun cf a h => LeH.rf
theorem ok_ladd : AOk (o_ladd) := og_ok fun cf a h => LeH.rf
theorem ok_lsub : AOk (o_lsub) := og_ok fun cf a h => LeH.rf
theorem ok_lmul : AOk (o_lmul) := og_ok fun cf a h => LeH.rf
theorem ok_land : AOk (o_land) := og_ok fun cf a h => LeH.rf
theorem ok_lor : AOk (o_lor) := og_ok fun cf a h => LeH.rf
theorem ok_lcmp : AOk (o_lcmp) := og_ok fun cf a h => LeH.rf
theorem ok_lshl : AOk (o_lshl) := og_ok fun cf a h => LeH.rf
theorem ok_i2l : AOk (o_i2l) := og_ok fun cf a h => LeH.rf
theorem ok_l2i : AOk (o_l2i) := og_ok fun cf a h => LeH.rf
theorem ok_i2b : AOk (o_i2b) := og_ok fun cf a h => LeH.rf
theorem ok_i2c : AOk (o_i2c) := og_ok fun cf a h => LeH.rf
theorem ok_idiv : AOk (o_idiv) := og_ok fun cf a h => LeH.rf
theorem ok_irem : AOk (o_irem) := og_ok fun cf a h => LeH.rf
theorem ok_ldiv : AOk (o_ldiv) := og_ok fun cf a h => LeH.rf
theorem ok_lrem : AOk (o_lrem) := og_ok fun cf a h => LeH.rf
theorem ok_iload (k : Nat) : AOk (o_iload k) := og_ok fun cf a h => LeH.rf
theorem ok_lload (k : Nat) : AOk (o_lload k) := og_ok fun cf a h => LeH.rf
theorem ok_aload (k : Nat) : AOk (o_aload k) := og_ok fun cf a h => LeH.rf
theorem ok_aloadP (k : Nat) : AOk (o_aloadP k) := og_ok fun cf a h => LeH.rf
theorem ok_aloadQ (k : Nat) : AOk (o_aloadQ k) := og_ok fun cf a h => LeH.rf
theorem ok_istore (k : Nat) : AOk (o_istore k) := og_ok fun cf a h => LeH.rf
theorem ok_lstore (k : Nat) : AOk (o_lstore k) := og_ok fun cf a h => LeH.rf
theorem ok_astore (k : Nat) : AOk (o_astore k) := og_ok fun cf a h => LeH.rf
theorem ok_iinc (k : Nat) (v : Int32) : AOk (o_iinc k v) := og_ok fun cf a h => LeH.rf
theorem ok_dup : AOk (o_dup) := og_ok fun cf a h => LeH.rf
theorem ok_pop : AOk (o_pop) := og_ok fun cf a h => LeH.rf
theorem ok_dup_x1 : AOk (o_dup_x1) := og_ok fun cf a h => LeH.rf
theorem ok_dup2 : AOk (o_dup2) := og_ok fun cf a h => LeH.rf
theorem ok_if_eq (t : Nat) (kt : List Nat) (n : Nat) (kn : List Nat) : AOk (o_if_eq t kt n kn) := oif_ok fun cf a => LeH.rf
theorem ok_icmp_eq (t : Nat) (kt : List Nat) (n : Nat) (kn : List Nat) : AOk (o_icmp_eq t kt n kn) := oif_ok fun cf a => LeH.rf
theorem ok_if_ne (t : Nat) (kt : List Nat) (n : Nat) (kn : List Nat) : AOk (o_if_ne t kt n kn) := oif_ok fun cf a => LeH.rf
theorem ok_icmp_ne (t : Nat) (kt : List Nat) (n : Nat) (kn : List Nat) : AOk (o_icmp_ne t kt n kn) := oif_ok fun cf a => LeH.rf
theorem ok_if_lt (t : Nat) (kt : List Nat) (n : Nat) (kn : List Nat) : AOk (o_if_lt t kt n kn) := oif_ok fun cf a => LeH.rf
theorem ok_icmp_lt (t : Nat) (kt : List Nat) (n : Nat) (kn : List Nat) : AOk (o_icmp_lt t kt n kn) := oif_ok fun cf a => LeH.rf
theorem ok_if_ge (t : Nat) (kt : List Nat) (n : Nat) (kn : List Nat) : AOk (o_if_ge t kt n kn) := oif_ok fun cf a => LeH.rf
theorem ok_icmp_ge (t : Nat) (kt : List Nat) (n : Nat) (kn : List Nat) : AOk (o_icmp_ge t kt n kn) := oif_ok fun cf a => LeH.rf
theorem ok_if_gt (t : Nat) (kt : List Nat) (n : Nat) (kn : List Nat) : AOk (o_if_gt t kt n kn) := oif_ok fun cf a => LeH.rf
theorem ok_icmp_gt (t : Nat) (kt : List Nat) (n : Nat) (kn : List Nat) : AOk (o_icmp_gt t kt n kn) := oif_ok fun cf a => LeH.rf
theorem ok_if_le (t : Nat) (kt : List Nat) (n : Nat) (kn : List Nat) : AOk (o_if_le t kt n kn) := oif_ok fun cf a => LeH.rf
theorem ok_icmp_le (t : Nat) (kt : List Nat) (n : Nat) (kn : List Nat) : AOk (o_icmp_le t kt n kn) := oif_ok fun cf a => LeH.rf
theorem ok_getI (ci k : Nat) : AOk (o_getI ci k) := og_ok fun cf a h => LeH.rf
theorem ok_getL (ci k : Nat) : AOk (o_getL ci k) := og_ok fun cf a h => LeH.rf
theorem ok_getR (ci k : Nat) : AOk (o_getR ci k) := og_ok fun cf a h => LeH.rf
theorem ok_getP (ci k : Nat) : AOk (o_getP ci k) := og_ok fun cf a h => LeH.rf
theorem ok_getQ (ci k : Nat) : AOk (o_getQ ci k) := og_ok fun cf a h => LeH.rf
theorem ok_put (ty : FieldType) (ci k : Nat) : AOk (o_put ty ci k) := og_ok fun cf a h => by
  obtain ⟨v, b, T9, hst, hr⟩ := aVR_inv h
  cases hv : okV ty v with
  | false => simp only [hv, cond_false] at hr; cases hr
  | true =>
    simp only [hv, cond_true] at hr
    obtain ⟨fs, h1, h2, h3⟩ := wrF_inv hr
    subst h3
    exact hset_le
theorem ok_iald : AOk (o_iald) := og_ok fun cf a h => LeH.rf
theorem ok_bald : AOk (o_bald) := og_ok fun cf a h => LeH.rf
theorem ok_zald : AOk (o_zald) := og_ok fun cf a h => LeH.rf
theorem ok_lald : AOk (o_lald) := og_ok fun cf a h => LeH.rf
theorem ok_aaldQ (t : Nat) : AOk (o_aaldQ t) := og_ok fun cf a h => LeH.rf
theorem ok_aald (t : Nat) : AOk (o_aald t) := og_ok fun cf a h => LeH.rf
theorem ok_iast : AOk (o_iast) := og_ok fun cf a h => by
  obtain ⟨v, i, b, T9, hst, hr⟩ := aVIR_inv h
  cases v <;> first | (cases hr; done) | skip
  obtain ⟨n, f, h1, h2, h3⟩ := stI_inv hr
  subst h3
  exact hset_le
theorem ok_bast : AOk (o_bast) := og_ok fun cf a h => by
  obtain ⟨v, i, b, T9, hst, hr⟩ := aVIR_inv h
  cases v <;> first | (cases hr; done) | skip
  obtain ⟨n, f, h1, h2, h3⟩ := stI_inv hr
  subst h3
  exact hset_le
theorem ok_zast : AOk (o_zast) := og_ok fun cf a h => by
  obtain ⟨v, i, b, T9, hst, hr⟩ := aVIR_inv h
  cases v <;> first | (cases hr; done) | skip
  obtain ⟨n, f, h1, h2, h3⟩ := stI_inv hr
  subst h3
  exact hset_le
theorem ok_last : AOk (o_last) := og_ok fun cf a h => by
  obtain ⟨v, i, b, T9, hst, hr⟩ := aVIR_inv h
  cases v <;> first | (cases hr; done) | skip
  obtain ⟨n, f, h1, h2, h3⟩ := stL_inv hr
  subst h3
  exact hset_le
theorem ok_aast (t : Nat) : AOk (o_aast t) := og_ok fun cf a h => by
  obtain ⟨v, i, b, T9, hst, hr⟩ := aVIR_inv h
  cases v <;> first | (cases hr; done) | skip
  obtain ⟨n, f, o, h1, hx, h2, hok, h3⟩ := stR_inv hr
  subst h3
  exact hset_le
theorem ok_alen : AOk (o_alen) := og_ok fun cf a h => LeH.rf
theorem ok_new (ci n : Nat) (fs : List Value) : AOk (o_new ci n fs) := og_ok fun cf a h => hpush_le
theorem ok_newa0 : AOk (o_newa0) := og_ok fun cf a h => hpush_le
theorem ok_newa1 : AOk (o_newa1) := og_ok fun cf a h => hpush_le
theorem ok_newa2 : AOk (o_newa2) := og_ok fun cf a h => hpush_le
theorem ok_newa3 : AOk (o_newa3) := og_ok fun cf a h => hpush_le
theorem ok_newq (t : Nat) : AOk (o_newq t) := og_ok fun cf a h => hpush_le
theorem ok_ifnull (t : Nat) (kt : List Nat) (n : Nat) (kn : List Nat) : AOk (o_ifnull t kt n kn) := oif_ok fun cf a => LeH.rf
theorem ok_ifnonnull (t : Nat) (kt : List Nat) (n : Nat) (kn : List Nat) : AOk (o_ifnonnull t kt n kn) := oif_ok fun cf a => LeH.rf
theorem ok_acmpne : AOk (o_acmpne) := og_ok fun cf a h => LeH.rf
theorem ok_push (v : Value) : AOk (o_push v) := og_ok fun cf a h => LeH.rf
theorem ok_strV : AOk (o_strV) := og_ok fun cf a h => LeH.rf
theorem ok_strC : AOk (o_strC) := og_ok fun cf a h => LeH.rf
theorem ok_plen : AOk (o_plen) := og_ok fun cf a h => LeH.rf
theorem ok_pbald : AOk (o_pbald) := og_ok fun cf a h => LeH.rf
theorem ok_paald : AOk (o_paald) := og_ok fun cf a h => LeH.rf
theorem ok_cast (ci : Nat) : AOk (o_cast ci) := og_ok fun cf a h => LeH.rf
theorem ok_iret (ret : Option FieldType) : AOk (o_iret ret) := oend_ok fun cf a => LeH.rf
theorem ok_lret : AOk (o_lret) := oend_ok fun cf a => LeH.rf
theorem ok_aret : AOk (o_aret) := oend_ok fun cf a => LeH.rf
theorem ok_pret : AOk (o_pret) := oend_ok fun cf a => LeH.rf
theorem ok_vret : AOk (o_vret) := oend_ok fun cf a => LeH.rf
theorem ok_throw : AOk (o_throw) := oend_ok fun cf a => LeH.rf
theorem ok_objInit : AOk (o_objInit) := og_ok fun cf a h => LeH.rf
theorem ok_getC : AOk (o_getC) := og_ok fun cf a h => LeH.rf
theorem runB_mn : ∀ (ops : List AOp), (∀ o ∈ ops, AMn o) → ∀ E, EMn E → ∀ (J : Nat → ACf → Option ARes) cf (res : ARes), runB ops E J cf = some res → (∀ pc c, J pc c = some res → LeH c.2.2 res.2) → LeH cf.2.2 res.2
  | [], _, _, _, _, _, _, h, _ => by cases h
  | o :: os, ho, E, hE, J, cf, res, h, hJ => ho o List.mem_cons_self E hE _ J cf res h (fun c hc => runB_mn os (fun x hx => ho x (List.mem_cons_of_mem _ hx)) E hE J c res hc hJ) hJ
def TOk (T : ATb) : Prop := ∀ pc ops, T pc = some ops → ∀ o ∈ ops, AOk o
theorem TOk.loc {T : ATb} (h : TOk T) : TLoc T := fun pc ops hp o ho => (h pc ops hp o ho).1
theorem evN_mn {T : ATb} {E : AEn} (hT : TOk T) (hE : EMn E) : ∀ n pc cf res, evN T E n pc cf = some res → LeH cf.2.2 res.2
  | 0, _, _, _, h => by cases h
  | n + 1, pc, cf, res, h => by
    unfold evN at h
    cases hp : T pc with
    | none => rw [hp] at h; cases h
    | some ops =>
      rw [hp] at h
      exact runB_mn ops (fun o ho => (hT pc ops hp o ho).2) E hE _ cf res h (fun pc' c hc => evN_mn hT hE n pc' c res hc)
theorem evR_mn {T : ATb} {E : AEn} (hT : TOk T) (hE : EMn E) {pc cf res} (h : evR T E pc cf = some res) : LeH cf.2.2 res.2 := by
  obtain ⟨n, hn⟩ := (evR_iff hT.loc).mp h
  exact evN_mn hT hE n pc cf res hn
/-! a block's chain of sound ops; a method -/
def Chn (MI : Nat → AMI) (w : AW) (X : AMI) (d : Nat) : Nat → List AOp → Prop
  | _, [] => True
  | pc, o :: os => ∃ nx, Snd MI w X d pc nx o ∧ Chn MI w X d nx os
section METH
variable {MI : Nat → AMI} {w : AW} {X : AMI} {d : Nat}
theorem runB_snd {p : Program} {e : Env} {R : Room} {s : State} {m : MethodId} {args : Array Value} {below : List Frame} {meth : Method} {c : Code} {Q : State → Prop} {n0 s0 : Nat} {res : ARes} (C : Ctx w X d p R s m args below meth c Q n0 s0 res) {E : AEn} (hE : ESnd MI w d E) {J : Nat → ACf → Option ARes}
    (hJ : ∀ pc' cf', J pc' cf' = some res → GB w X p e R s m args below meth c Q n0 s0 res pc' cf') : ∀ (ops : List AOp) (pc : Nat) (cf : ACf), Chn MI w X d pc ops → runB ops E J cf = some res → GB w X p e R s m args below meth c Q n0 s0 res pc cf
  | [], _, _, _, h => by cases h
  | o :: os, pc, cf, ⟨nx, h1, h2⟩, h => h1 p e R s m args below meth c Q n0 s0 res C E hE _ J cf h (fun cf' hc => runB_snd C hE hJ os nx cf' h2 hc) hJ
theorem evN_snd {p : Program} {e : Env} {R : Room} {s : State} {m : MethodId} {args : Array Value} {below : List Frame} {meth : Method} {c : Code} {Q : State → Prop} {n0 s0 : Nat} {res : ARes} (C : Ctx w X d p R s m args below meth c Q n0 s0 res) {E : AEn} (hE : ESnd MI w d E) {T : ATb}
    (hT : ∀ pc ops, T pc = some ops → Chn MI w X d pc ops) : ∀ n pc cf, evN T E n pc cf = some res → GB w X p e R s m args below meth c Q n0 s0 res pc cf
  | 0, _, _, h => by cases h
  | n + 1, pc, cf, h => by
    unfold evN at h
    cases hp : T pc with
    | none => rw [hp] at h; cases h
    | some ops =>
      rw [hp] at h
      exact runB_snd C hE (fun pc' cf' hc => evN_snd C hE hT n pc' cf' hc) ops pc cf (hT pc ops hp) h
theorem lv_args_map (hp : ∀ i, (w.2.2.1 i).category = 1) : ∀ (k : Nat) (as : List Value), lv_args k (as.map (cv w)) = (lv_args k as).map fun q => (q.1, cv w q.2)
  | _, [] => rfl
  | k, v :: as => by
    simp only [List.map_cons, lv_args, cv_cat hp]
    rw [lv_args_map hp]
/-- how many words the arguments take -/
def aWd (as : List Value) : Nat := (lg_sl as).length
theorem aWd_map (hp : ∀ i, (w.2.2.1 i).category = 1) : ∀ as : List Value, (lg_sl (as.map (cv w))).length = aWd as
  | [] => rfl
  | v :: as => by
    have h1 := aWd_map hp as
    unfold aWd at h1 ⊢
    simp only [lg_sl, List.map_cons, List.flatMap_cons, List.length_append, cv_cat hp] at h1 ⊢
    rw [h1]
    by_cases hc : v.category = 2
    · simp [hc]
    · simp [hc]
theorem meth_sound {T : ATb} {ks0 : List Nat} {E : AEn} (hE : ESnd MI w d E) (hMn : EMn E) (hTo : TOk T) (hT : ∀ pc ops, T pc = some ops → Chn MI w X d pc ops) (hlaw : X.2.2.2.2.2.1 = false) (hpn : plainName X.1.cls = true)
    {as : List Value} {h : AH} {r : ARes} (hwd : aWd as ≤ X.2.2.1) (hr : evR T E 0 (kp ks0 (lv_args 0 as, [], h)) = some r) : CT w X (d + 1) as h r := by
  have hle := evR_mn hTo hMn hr
  obtain ⟨n, hn⟩ := (evR_iff hTo.loc).mp hr
  refine ⟨hle.1, hle.2, fun mc ms hmc hms => ?_⟩
  have body : ∀ p e s m args below meth c s₁, BodyLoose p w.1 X.1 (headSpec (mWs X) { frames := d + 1, cells := mc, slots := ms, locals := 64 * (d + 1) }) X.2.1 X.2.2.1 X.2.2.2.1 e s m args below meth c s₁ → c.maxLocals = X.2.2.1 → (c.exceptionTable.toList = match X.2.2.2.2.1 with
    | none => []
    | some hh => tableOf hh) → PcA w h as args s → W p w.1 e (headSpec (mWs X) { frames := d + 1, cells := mc, slots := ms, locals := 64 * (d + 1) }).room s m args below meth c s.heap [] 0 0 (vx_MQ below (QC w r) (XCa w r) args s mc ms (aA w)) (entryFrame m args X.2.2.1) := by
    intro p e s m args below meth c s₁ B hml hxt hpc
    obtain ⟨rfl, hsz, hP, hEnv⟩ := hpc
    have hts0 := atoms_spec (ws := mWs X) B.pre
    have hts : ∀ x ∈ lw_all, x.before (as.map (cv w)).toArray s = true := fun x hx => hts0 x (by
      unfold mWs
      split
      · exact List.mem_cons_of_mem _ hx
      · exact List.mem_cons_of_mem _ hx)
    have C : Ctx w X d p (headSpec (mWs X) { frames := d + 1, cells := mc, slots := ms, locals := 64 * (d + 1) }).room s m (as.map (cv w)).toArray below meth c (vx_MQ below (QC w r) (XCa w r) (as.map (cv w)).toArray s mc ms (aA w)) h.1 h.2.1 r :=
      ⟨B.exec, B.bytes, B.returns, hml, findClass_of_methodNamed B.named, B.notSynchronized, hts, hEnv, hsz, (name_of_methodNamed B.named B.method).1, Nat.le_refl _, Nat.le_refl _, by rw [hmc]; exact Nat.le_refl _, by rw [hms]; exact Nat.le_refl _, fun _ => ⟨mc, ms, hmc, hms, rfl⟩, hxt⟩
    have g := evN_snd (e := e) C hE hT n 0 _ hn
    have hcat := hEnv.2.1
    have hl := lv_entry (as.map (cv w)) (n := X.2.2.1) (by rw [aWd_map hcat]; exact hwd)
    rw [lv_args_map hcat] at hl
    rw [lg_entry_eq]
    exact g.2.2.kp s.heap [] 0 0 _ hP va_S.rf rfl rfl hl
  cases hx : X.2.2.2.2.1 with
  | none =>
    have hw : mWs X = ws_ X.1 X.2.1 X.2.2.1 X.2.2.2.1 := by unfold mWs; rw [hx]
    rw [hw] at body ⊢
    rw [hx] at body
    refine vx_ofW hpn rfl fun p e s m args below meth c s₁ B hml ht hpc => ?_
    exact body p e s m args below meth c s₁ B hml (by
      cases hq : c.exceptionTable.toList with
      | nil => rfl
      | cons z l => exact (ht z (by rw [hq]; exact List.mem_cons_self)).elim) hpc
  | some hh =>
    have hw : mWs X = wsW_ X.1 X.2.1 X.2.2.1 X.2.2.2.1 hh := by unfold mWs; rw [hx]
    rw [hw] at body ⊢
    rw [hx] at body
    refine vx_ofWH hpn rfl fun p e s m args below meth c s₁ B hml hpc => ?_
    exact body p e s m args below meth c s₁ B hml (vx_table (x := X.1) B (atoms_spec (ws := wsW_ X.1 X.2.1 X.2.2.1 X.2.2.2.1 hh) B.pre _ List.mem_cons_self)) hpc
end METH
