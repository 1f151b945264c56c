/-! null, statics, texts, casts, switches, ends -/
def nlV (v : Value) : Option Bool := match v with
  | .null => some true
  | .ref _ => some false
  | _ => none
def tNl (cf : ACf) : Option Bool := match cf.2.1 with
  | v :: _ => nlV v
  | [] => none
theorem tNl_inv {cf : ACf} {b : Bool} (h : tNl cf = some b) : (b = true ∧ ∃ T, cf.2.1 = .null :: T) ∨ (b = false ∧ ∃ a T, cf.2.1 = .ref a :: T) := by
  unfold tNl at h
  split at h
  next v T e =>
    cases v <;> first | (cases h; done) | skip
    · cases h; exact Or.inl ⟨rfl, T, e⟩
    · cases h; exact Or.inr ⟨rfl, _, T, e⟩
  next => cases h
theorem nlV_rf (r : Option Nat) : nlV (va_rf r) = some r.isNone := by cases r <;> rfl
section SND3
variable {MI : Nat → AMI} {w : AW} {X : AMI} {d pc : Nat}
def o_ifnull (t : Nat) (kt : List Nat) (n : Nat) (kn : List Nat) : AOp := oif tNl (fun b => b) (fun cf _ => (cf.1, cf.2.1.tail, cf.2.2)) t kt n kn
def o_ifnonnull (t : Nat) (kt : List Nat) (n : Nat) (kn : List Nat) : AOp := oif tNl (fun b => !b) (fun cf _ => (cf.1, cf.2.1.tail, cf.2.2)) t kt n kn
theorem snd_ifnull {off : Int} {t : Nat} (kt kn : List Nat) (ht : (pc : Int) + off = (t : Int)) (hd : decode X.2.1 pc = .ok (.ifnull off, 3)) : Snd MI w X d pc pc (o_ifnull t kt (pc + 3) kn) := by
  intro p e R s m args below meth c Q n0 s0 res C E hE K J cf h hK hJ
  obtain ⟨a, ha, h⟩ := oif_inv h
  rcases tNl_inv ha with ⟨rfl, T, hst⟩ | ⟨rfl, z, T, hst⟩ <;> rcases h with ⟨hc, h⟩ | ⟨hc, h⟩ <;> first | (cases hc; done) | skip
  · obtain ⟨b1, b2, g⟩ := hJ _ _ h
    refine ⟨b1, b2, fun H locs cells slots ls hP hS hn hs hl => ?_⟩
    have g9 := g.kp H locs cells slots ls hP hS hn hs hl
    simp only [hst, List.tail_cons] at g9
    rw [hst]
    exact lv_ifnullN C.1 C.2.1 hd ht g9
  · obtain ⟨b1, b2, g⟩ := hJ _ _ h
    refine ⟨b1, b2, fun H locs cells slots ls hP hS hn hs hl => ?_⟩
    have g9 := g.kp H locs cells slots ls hP hS hn hs hl
    simp only [hst, List.tail_cons] at g9
    rw [hst]
    exact lv_ifnull C.1 C.2.1 hd g9
theorem snd_ifnonnull {off : Int} {t : Nat} (kt kn : List Nat) (ht : (pc : Int) + off = (t : Int)) (hd : decode X.2.1 pc = .ok (.ifnonnull off, 3)) : Snd MI w X d pc pc (o_ifnonnull t kt (pc + 3) kn) := by
  intro p e R s m args below meth c Q n0 s0 res C E hE K J cf h hK hJ
  obtain ⟨a, ha, h⟩ := oif_inv h
  rcases tNl_inv ha with ⟨rfl, T, hst⟩ | ⟨rfl, z, T, hst⟩ <;> rcases h with ⟨hc, h⟩ | ⟨hc, h⟩ <;> first | (cases hc; done) | skip
  · obtain ⟨b1, b2, g⟩ := hJ _ _ h
    refine ⟨b1, b2, fun H locs cells slots ls hP hS hn hs hl => ?_⟩
    have g9 := g.kp H locs cells slots ls hP hS hn hs hl
    simp only [hst, List.tail_cons] at g9
    rw [hst]
    exact lv_ifnonnullN C.1 C.2.1 hd g9
  · obtain ⟨b1, b2, g⟩ := hJ _ _ h
    refine ⟨b1, b2, fun H locs cells slots ls hP hS hn hs hl => ?_⟩
    have g9 := g.kp H locs cells slots ls hP hS hn hs hl
    simp only [hst, List.tail_cons] at g9
    rw [hst]
    exact lv_ifnonnull C.1 C.2.1 hd ht g9
/-- two class objects that are one: 'not equal' isn't taken -/
def o_acmpne : AOp := og (fun cf => match cf.2.1 with
  | .retAddr i :: .retAddr j :: _ => bif i == j && isP i then some () else none
  | _ => none) (fun cf _ => (cf.1, cf.2.1.tail.tail, cf.2.2))
theorem snd_acmpne {off : Int} {t : Nat} (ht : (pc : Int) + off = (t : Int)) (hd : decode X.2.1 pc = .ok (.if_acmp .ne off, 3)) : Snd MI w X d pc (pc + 3) o_acmpne := by
  intro p e R s m args below meth c Q n0 s0 res C E hE K J cf h hK hJ
  obtain ⟨a, ha, hk⟩ := og_inv h
  obtain ⟨b1, b2, g⟩ := hK _ hk
  obtain ⟨i, T, hst, hi⟩ : ∃ i T, cf.2.1 = .retAddr i :: .retAddr i :: T ∧ isP i = true := by
    split at ha
    next i j T e =>
      cases hb : (i == j && isP i) with
      | false => simp only [hb, cond_false] at ha; cases ha
      | true =>
        simp only [Bool.and_eq_true, beq_iff_eq] at hb
        obtain ⟨rfl, hb⟩ := hb
        exact ⟨i, T, e, hb⟩
    next => cases ha
  obtain ⟨q, hq⟩ := isP_ref C.2.2.2.2.2.2.2.1 hi
  refine ⟨b1, b2, fun H locs cells slots ls hP hS hn hs hl => ?_⟩
  have g9 := (g H locs cells slots ls hP hS hn hs hl)
  simp only [hst, List.tail_cons] at g9
  rw [hst]
  have hcv : cv w (.retAddr i) = va_rf (some q) := hq
  simp only [List.map_cons, hcv]
  exact lv_acmp_ne C.1 C.2.1 hd ht (fun hne => absurd rfl hne) (fun _ => g9)
def o_push (v : Value) : AOp := og (α := Unit) (fun _ => some ()) (fun cf _ => (cf.1, v :: cf.2.1, cf.2.2))
theorem snd_gets {index : Nat} {Cn n dd ref : String} {v : Value} (hZ : ∀ U, AEnv w U → va_Z Cn n dd (cv w v) (aA w) U U.heap) (href : ref = Cn) (hq : Cond.fieldLink X.1.cls index ref n dd ∈ lw_all) (hd : decode X.2.1 pc = .ok (.getstatic index, 3)) : Snd MI w X d pc (pc + 3) (o_push v) := by
  intro p e R s m args below meth c Q n0 s0 res C E hE K J cf h hK hJ
  obtain ⟨a, ha, hk⟩ := og_inv h
  obtain ⟨b1, b2, g⟩ := hK _ hk
  refine ⟨b1, b2, fun H locs cells slots ls hP hS hn hs hl => ?_⟩
  subst href
  exact va_gets C.1 C.2.1 (hZ s C.2.2.2.2.2.2.2.1) hS C.2.2.2.2.1 (C.2.2.2.2.2.2.1 _ hq) (fun x hx => hx) hd (g H locs cells slots ls hP hS hn hs hl)
theorem snd_ldcS {i index : Nat} {own tx : String} (hi : i < 20) (hown : aTx i = (own, index, tx)) (ho : X.1.cls = own) (hd : decode X.2.1 pc = .ok (.ldc index, 2)) : Snd MI w X d pc (pc + 2) (o_push (.retAddr i)) := by
  intro p e R s m args below meth c Q n0 s0 res C E hE K J cf h hK hJ
  obtain ⟨a, ha, hk⟩ := og_inv h
  obtain ⟨b1, b2, g⟩ := hK _ hk
  refine ⟨b1, b2, fun H locs cells slots ls hP hS hn hs hl => ?_⟩
  obtain ⟨q, b, h1, h2, h3, -⟩ := C.2.2.2.2.2.2.2.1.2.2.2.2.1 i hi
  rw [hown] at h3
  dsimp only at h3
  rw [← ho] at h3
  have hcv : cv w (.retAddr i) = .ref q := h1
  have g9 := (g H locs cells slots ls hP hS hn hs hl)
  simp only [List.map_cons, hcv] at g9
  exact va_ldcS C.1 C.2.1 C.2.2.2.2.1 h3 hd g9
theorem snd_ldcM {index : Nat} (hq : Cond.classLink X.1.cls index "[Ljava/lang/Object;" ∈ lw_all) (hd : decode X.2.1 pc = .ok (.ldc index, 2)) : Snd MI w X d pc (pc + 2) (o_push (.retAddr 301)) := by
  intro p e R s m args below meth c Q n0 s0 res C E hE K J cf h hK hJ
  obtain ⟨a, ha, hk⟩ := og_inv h
  obtain ⟨b1, b2, g⟩ := hK _ hk
  refine ⟨b1, b2, fun H locs cells slots ls hP hS hn hs hl => ?_⟩
  obtain ⟨q, h1, h2⟩ := C.2.2.2.2.2.2.2.1.2.2.2.2.2.2.1
  have hcv : cv w (.retAddr 301) = .ref q := h1
  have g9 := (g H locs cells slots ls hP hS hn hs hl)
  simp only [List.map_cons, hcv] at g9
  exact va_ldcM C.1 C.2.1 C.2.2.2.2.1 (C.2.2.2.2.2.2.1 _ hq) h2 hd g9
/-! texts -/
def aPp {α : Type} (g : Nat → Option α) (S : List Value) : Option α := match S with
  | .retAddr i :: _ => g i
  | _ => none
theorem aPp_inv {α : Type} {g : Nat → Option α} {S : List Value} {x : α} (h : aPp g S = some x) : ∃ i T, S = .retAddr i :: T ∧ g i = some x := by
  unfold aPp at h
  split at h
  next i T => exact ⟨i, T, rfl, h⟩
  next => cases h
def aIPp {α : Type} (g : Nat → Int32 → Option α) (S : List Value) : Option α := match S with
  | .int j :: .retAddr i :: _ => g i j
  | _ => none
theorem aIPp_inv {α : Type} {g : Nat → Int32 → Option α} {S : List Value} {x : α} (h : aIPp g S = some x) : ∃ i j T, S = .int j :: .retAddr i :: T ∧ g i j = some x := by
  unfold aIPp at h
  split at h
  next j i T => exact ⟨i, j, T, rfl, h⟩
  next => cases h
def txV (i : Nat) : Option Nat := bif decide (i < 20) then some (100 + i) else none
def o_strV : AOp := og (fun cf => aPp txV cf.2.1) (fun cf a => (cf.1, .retAddr a :: cf.2.1.tail, cf.2.2))
theorem snd_strV {index : Nat} (hq : Cond.fieldLink X.1.cls index "java/lang/String" "value" "[B" ∈ lw_all) (hd : decode X.2.1 pc = .ok (.getfield index, 3)) : Snd MI w X d pc (pc + 3) o_strV := by
  intro p e R s m args below meth c Q n0 s0 res C E hE K J cf h hK hJ
  obtain ⟨a, ha, hk⟩ := og_inv h
  obtain ⟨b1, b2, g⟩ := hK _ hk
  obtain ⟨i, T, hst, hr⟩ := aPp_inv ha
  have hi : i < 20 ∧ a = 100 + i := by
    unfold txV at hr
    cases hb : decide (i < 20) with
    | false => rw [hb] at hr; cases hr
    | true => rw [hb] at hr; cases hr; exact ⟨by simpa using hb, rfl⟩
  obtain ⟨hi, rfl⟩ := hi
  obtain ⟨q, b, h1, h2, h3, h4, h5, h6, h7⟩ := C.2.2.2.2.2.2.2.1.2.2.2.2.1 i hi
  refine ⟨b1, b2, fun H locs cells slots ls hP hS hn hs hl => ?_⟩
  have g9 := (g H locs cells slots ls hP hS hn hs hl)
  have hcv : cv w (.retAddr i) = .ref q := h1
  have hcv2 : cv w (.retAddr (100 + i)) = .ref b := h2
  simp only [hst, List.tail_cons, List.map_cons, hcv2] at g9
  rw [hst]
  simp only [List.map_cons, hcv]
  exact vk_getf C.1 C.2.1 h6 hS C.2.2.2.2.1 (C.2.2.2.2.2.2.1 _ hq) (fun x hx => hx) hd g9
def txC (i : Nat) : Option Unit := bif decide (i < 20) then some () else none
def o_strC : AOp := og (fun cf => aPp txC cf.2.1) (fun cf _ => (cf.1, .int 0 :: cf.2.1.tail, cf.2.2))
theorem snd_strC {index : Nat} (hq : Cond.fieldLink X.1.cls index "java/lang/String" "coder" "B" ∈ lw_all) (hd : decode X.2.1 pc = .ok (.getfield index, 3)) : Snd MI w X d pc (pc + 3) o_strC := by
  intro p e R s m args below meth c Q n0 s0 res C E hE K J cf h hK hJ
  obtain ⟨a, ha, hk⟩ := og_inv h
  obtain ⟨b1, b2, g⟩ := hK _ hk
  obtain ⟨i, T, hst, hr⟩ := aPp_inv ha
  have hi : i < 20 := by
    unfold txC at hr
    cases hb : decide (i < 20) with
    | false => rw [hb] at hr; cases hr
    | true => simpa using hb
  obtain ⟨q, b, h1, h2, h3, h4, h5, h6, h7⟩ := C.2.2.2.2.2.2.2.1.2.2.2.2.1 i hi
  refine ⟨b1, b2, fun H locs cells slots ls hP hS hn hs hl => ?_⟩
  have g9 := (g H locs cells slots ls hP hS hn hs hl)
  have hcv : cv w (.retAddr i) = .ref q := h1
  simp only [hst, List.tail_cons, List.map_cons] at g9
  rw [hst]
  simp only [List.map_cons, hcv]
  exact vk_getf C.1 C.2.1 h5 hS C.2.2.2.2.1 (C.2.2.2.2.2.2.1 _ hq) (fun x hx => hx) hd g9
def plen (i : Nat) : Option Int32 := bif i == 300 then some 11 else bif decide (100 ≤ i) && decide (i < 120) then some (Int32.ofNat (aBy (i - 100)).length) else none
def o_plen : AOp := og (fun cf => aPp plen cf.2.1) (fun cf a => (cf.1, .int a :: cf.2.1.tail, cf.2.2))
theorem snd_plen (hd : decode X.2.1 pc = .ok (.arraylength, 1)) : Snd MI w X d pc (pc + 1) o_plen := by
  intro p e R s m args below meth c Q n0 s0 res C E hE K J cf h hK hJ
  obtain ⟨a, ha, hk⟩ := og_inv h
  obtain ⟨b1, b2, g⟩ := hK _ hk
  obtain ⟨i, T, hst, hr⟩ := aPp_inv ha
  refine ⟨b1, b2, fun H locs cells slots ls hP hS hn hs hl => ?_⟩
  have g9 := (g H locs cells slots ls hP hS hn hs hl)
  simp only [hst, List.tail_cons, List.map_cons] at g9
  rw [hst]
  unfold plen at hr
  cases hb : i == 300 with
  | true =>
    rw [hb] at hr
    cases hr
    have hi : i = 300 := by simpa using hb
    subst hi
    obtain ⟨q, h1, h2, h3⟩ := C.2.2.2.2.2.2.2.1.2.2.2.2.2.1
    have hcv : cv w (.retAddr 300) = .ref q := h1
    simp only [List.map_cons, hcv]
    exact va_tlen C.1 C.2.1 h3 hS rfl hd g9
  | false =>
    rw [hb] at hr
    cases hb2 : (decide (100 ≤ i) && decide (i < 120)) with
    | false => simp only [hb2, cond_false] at hr; cases hr
    | true =>
      simp only [hb2, cond_false, cond_true] at hr
      cases hr
      simp only [Bool.and_eq_true, decide_eq_true_eq] at hb2
      obtain ⟨q, b, h1, h2, h3, h4, h5, h6, h7⟩ := C.2.2.2.2.2.2.2.1.2.2.2.2.1 (i - 100) (by omega)
      rw [show 100 + (i - 100) = i by omega] at h2
      have hcv : cv w (.retAddr i) = .ref b := h2
      simp only [List.map_cons, hcv]
      exact va_tlen C.1 C.2.1 h7 hS rfl hd g9
def pld (i : Nat) (j : Int32) : Option Int32 := bif decide (100 ≤ i) && decide (i < 120) && inb j (aBy (i - 100)).length then some ((aBy (i - 100)).getD j.toNatClampNeg 0) else none
def o_pbald : AOp := og (fun cf => aIPp pld cf.2.1) (fun cf a => (cf.1, .int a :: cf.2.1.tail.tail, cf.2.2))
theorem snd_pbald (hd : decode X.2.1 pc = .ok (.baload, 1)) : Snd MI w X d pc (pc + 1) o_pbald := by
  intro p e R s m args below meth c Q n0 s0 res C E hE K J cf h hK hJ
  obtain ⟨a, ha, hk⟩ := og_inv h
  obtain ⟨b1, b2, g⟩ := hK _ hk
  obtain ⟨i, j, T, hst, hr⟩ := aIPp_inv ha
  refine ⟨b1, b2, fun H locs cells slots ls hP hS hn hs hl => ?_⟩
  have g9 := (g H locs cells slots ls hP hS hn hs hl)
  simp only [hst, List.tail_cons, List.map_cons] at g9
  rw [hst]
  unfold pld at hr
  cases hb2 : (decide (100 ≤ i) && decide (i < 120) && inb j (aBy (i - 100)).length) with
  | false => simp only [hb2, cond_false] at hr; cases hr
  | true =>
    simp only [hb2, cond_true] at hr
    cases hr
    simp only [Bool.and_eq_true, decide_eq_true_eq] at hb2
    obtain ⟨q, b, h1, h2, h3, h4, h5, h6, h7⟩ := C.2.2.2.2.2.2.2.1.2.2.2.2.1 (i - 100) (by omega)
    rw [show 100 + (i - 100) = i by omega] at h2
    have hcv : cv w (.retAddr i) = .ref b := h2
    simp only [List.map_cons, hcv]
    exact va_tb C.1 C.2.1 h7 hS (inb_in hb2.2) rfl hd g9
def pnm (i : Nat) (j : Int32) : Option Nat := bif i == 300 && inb j 11 then some j.toNatClampNeg else none
def o_paald : AOp := og (fun cf => aIPp pnm cf.2.1) (fun cf a => (cf.1, .retAddr a :: cf.2.1.tail.tail, cf.2.2))
theorem snd_paald (hd : decode X.2.1 pc = .ok (.aaload, 1)) : Snd MI w X d pc (pc + 1) o_paald := by
  intro p e R s m args below meth c Q n0 s0 res C E hE K J cf h hK hJ
  obtain ⟨a, ha, hk⟩ := og_inv h
  obtain ⟨b1, b2, g⟩ := hK _ hk
  obtain ⟨i, j, T, hst, hr⟩ := aIPp_inv ha
  refine ⟨b1, b2, fun H locs cells slots ls hP hS hn hs hl => ?_⟩
  have g9 := (g H locs cells slots ls hP hS hn hs hl)
  simp only [hst, List.tail_cons, List.map_cons] at g9
  rw [hst]
  unfold pnm at hr
  cases hb2 : (i == 300 && inb j 11) with
  | false => simp only [hb2, cond_false] at hr; cases hr
  | true =>
    simp only [hb2, cond_true] at hr
    cases hr
    simp only [Bool.and_eq_true, beq_iff_eq] at hb2
    obtain ⟨rfl, hb2⟩ := hb2
    obtain ⟨q, h1, h2, h3⟩ := C.2.2.2.2.2.2.2.1.2.2.2.2.2.1
    have hcv : cv w (.retAddr 300) = .ref q := h1
    simp only [List.map_cons, hcv]
    exact vb_tq C.1 C.2.1 h3 hS (inb_in hb2) rfl hd g9
/-! casts -/
def okC (h : AH) (a ci : Nat) : Option Unit := bif isO h a ci then some () else none
theorem okC_inv {h : AH} {a ci : Nat} {u : Unit} (e : okC h a ci = some u) : ∃ fs, aget h a = some (.inl (ci, fs)) := by
  unfold okC isO at e
  split at e
  next o ho =>
    obtain ⟨c0, fs⟩ := o
    cases hb : c0 == ci with
    | false => rw [hb] at e; cases e
    | true =>
      have hc : c0 = ci := by simpa using hb
      subst hc
      exact ⟨fs, ho⟩
  next => cases e
theorem isO_inv {h : AH} {a ci : Nat} (e : isO h a ci = true) : ∃ fs, aget h a = some (.inl (ci, fs)) := okC_inv (u := ()) (by unfold okC; rw [e]; rfl)
def o_cast (ci : Nat) : AOp := og (fun cf => aR (fun a => okC cf.2.2 a ci) cf.2.1) (fun cf _ => cf)
theorem snd_cast {index ci N : Nat} {Cn : String} {T : u_T} (hc : aCl[ci]? = some (Cn, T, N)) (hq : Cond.classLink X.1.cls index Cn ∈ lw_all) (hd : decode X.2.1 pc = .ok (.checkcast index, 3)) : Snd MI w X d pc (pc + 3) (o_cast ci) := by
  intro p e R s m args below meth c Q n0 s0 res C E hE K J cf h hK hJ
  obtain ⟨a, ha, hk⟩ := og_inv h
  obtain ⟨b1, b2, g⟩ := hK _ hk
  obtain ⟨b, T9, hst, hr⟩ := aR_inv ha
  obtain ⟨fs, h1⟩ := okC_inv hr
  refine ⟨b1, b2, fun H locs cells slots ls hP hS hn hs hl => ?_⟩
  have g9 := (g H locs cells slots ls hP hS hn hs hl)
  simp only [hst, List.map_cons] at g9
  rw [hst]
  exact va_castS C.1 C.2.1 C.2.2.2.2.1 (C.2.2.2.2.2.2.1 _ hq) (C.2.2.2.2.2.2.2.1.1.1 ci _ hc).2 (va_recv C.2.2.2.2.2.2.2.1.1 hP hc (wsl_get h1)) hd g9
/-! switch -/
theorem osw_inv {acc : ACf → Option (Int32 × List Value)} {dd : Nat × List Nat} {cs : List (Int32 × Nat × List Nat)} {E K J cf r} (h : osw acc dd cs E K J cf = some r) : ∃ a, acc cf = some a ∧ ∃ t ks, J t (kp ks (cf.1, a.2, cf.2.2)) = some r ∧ ((t, ks) = dd ∧ (∀ q ∈ cs, q.1 ≠ a.1) ∨ (a.1, t, ks) ∈ cs) := by
  unfold osw at h
  cases ha : acc cf with
  | none => rw [ha] at h; cases h
  | some a =>
    rw [ha] at h
    simp only [Option.bind_some] at h
    obtain ⟨t, ks, h1, h2⟩ := swJ_at (cf.1, a.2, cf.2.2) a.1 dd cs
    rw [h1] at h
    exact ⟨a, rfl, t, ks, h, h2⟩
def o_switch (dd : Nat × List Nat) (cs : List (Int32 × Nat × List Nat)) : AOp := osw t1I dd cs
/-- the table's rows are the cases, one a number from lo on -/
theorem snd_switch {dflt lo hi : Int} {offs : Array Int} {len : Nat} {dd : Nat × List Nat} {cs : List (Int32 × Nat × List Nat)} (hdd : (pc : Int) + dflt = (dd.1 : Int))
    (hin : ∀ q ∈ cs, ¬ q.1.toInt < lo ∧ ¬ hi < q.1.toInt ∧ ∃ off, offs[(q.1.toInt - lo).toNat]? = some off ∧ (pc : Int) + off = (q.2.1 : Int))
    (hall : ∀ x : Int32, (∀ q ∈ cs, q.1 ≠ x) → x.toInt < lo ∨ hi < x.toInt) (hd : decode X.2.1 pc = .ok (.tableswitch dflt lo hi offs, len)) : Snd MI w X d pc pc (o_switch dd cs) := by
  intro p e R s m args below meth c Q n0 s0 res C E hE K J cf h hK hJ
  obtain ⟨a, ha, t, ks, h, h2⟩ := osw_inv h
  obtain ⟨b1, b2, g⟩ := hJ _ _ h
  refine ⟨b1, b2, fun H locs cells slots ls hP hS hn hs hl => ?_⟩
  rw [t1I_inv ha]
  have g9 := g.kp H locs cells slots ls hP hS hn hs hl
  rcases h2 with ⟨e, h2⟩ | h2
  · subst e
    exact lv_tableOut C.1 C.2.1 hd (hall _ h2) hdd g9
  · obtain ⟨i1, i2, off, i3, i4⟩ := hin _ h2
    exact lv_tableIn C.1 C.2.1 hd i1 i2 i3 i4 g9
/-! ends -/
def okR (ret : Option FieldType) (x : Int32) : Bool := match ret with
  | some .int => true
  | some .boolean => x == 0 || x == 1
  | some .byte => x.toInt8.toInt32 == x
  | some .char => x.toUInt32.toUInt16.toUInt32.toInt32 == x
  | _ => false
theorem okR_ok {ret : Option FieldType} {x : Int32} (h : okR ret x = true) : ∃ ty, ret = some ty ∧ narrow ty (.int x) = .int x := by
  cases ret with
  | none => cases h
  | some ty =>
    refine ⟨ty, rfl, ?_⟩
    cases ty <;> first | (cases h; done) | skip
    · simp only [okR, beq_iff_eq] at h
      show Value.int _ = _
      rw [h]
    · simp only [okR, beq_iff_eq] at h
      show Value.int _ = _
      rw [h]
    · rfl
    · simp only [okR, Bool.or_eq_true, beq_iff_eq] at h
      rcases h with rfl | rfl <;> rfl
theorem oend_inv {α : Type} {acc : ACf → Option α} {f : ACf → α → ARes} {E K J cf r} (h : oend acc f E K J cf = some r) : ∃ a, acc cf = some a ∧ r = f cf a := by
  unfold oend at h
  cases ha : acc cf with
  | none => rw [ha] at h; cases h
  | some a => rw [ha] at h; exact ⟨a, rfl, (Option.some.inj h).symm⟩
def o_iret (ret : Option FieldType) : AOp := oend (fun cf => match cf.2.1 with
  | [.int x] => bif okR ret x then some x else none
  | _ => none) (fun cf x => (.inl (some (.int x)), cf.2.2))
def o_lret : AOp := oend (fun cf => match cf.2.1 with
  | [.long x] => some x
  | _ => none) (fun cf x => (.inl (some (.long x)), cf.2.2))
def o_aret : AOp := oend (fun cf => match cf.2.1 with
  | [.ref x] => some x
  | _ => none) (fun cf x => (.inl (some (.ref x)), cf.2.2))
def o_pret : AOp := oend (fun cf => match cf.2.1 with
  | [.retAddr x] => bif isP x then some x else none
  | _ => none) (fun cf x => (.inl (some (.retAddr x)), cf.2.2))
def o_vret : AOp := oend (fun cf => match cf.2.1 with
  | [] => some ()
  | _ => none) (fun cf _ => (.inl none, cf.2.2))
theorem snd_iret (hlaw : X.2.2.2.2.2.1 = false) (hd : decode X.2.1 pc = .ok (.ireturn, 1)) : Snd MI w X d pc pc (o_iret X.2.2.2.1) := by
  intro p e R s m args below meth c Q n0 s0 res C E hE K J cf h hK hJ
  obtain ⟨a, ha, hr⟩ := oend_inv h
  subst hr
  obtain ⟨mc, ms, e1, e2, e3⟩ := C.2.2.2.2.2.2.2.2.2.2.2.2.2.2.1 hlaw
  refine ⟨Nat.le_refl _, Nat.le_refl _, fun H locs cells slots ls hP hS hn hs hl => ?_⟩
  have c1 : cells = mc := by
    have : cf.2.2.1 = n0 + mc := e1
    omega
  have c2 : slots = ms := by
    have : cf.2.2.2.1 = s0 + ms := e2
    omega
  subst c1
  subst c2
  rw [e3]
  obtain ⟨hst, hok⟩ : cf.2.1 = [.int a] ∧ okR X.2.2.2.1 a = true := by
    split at ha
    next x e =>
      cases hb : okR X.2.2.2.1 x with
      | false => rw [hb] at ha; cases ha
      | true => rw [hb] at ha; cases ha; exact ⟨e, hb⟩
    next => cases ha
  obtain ⟨ty, hty, hnw⟩ := okR_ok hok
  rw [hst]
  refine vx_ret ?_
  exact W.zret C.1 C.2.1 (C.2.2.1.trans hty) hnw (fun t ht hW => ⟨⟨_, rfl, rfl⟩, by rw [ht]; exact hP, hS.F ht⟩) hS.2.2 hd C.2.2.2.2.2.1
theorem snd_lret (hlaw : X.2.2.2.2.2.1 = false) (hret : X.2.2.2.1 = some .long) (hd : decode X.2.1 pc = .ok (.lreturn, 1)) : Snd MI w X d pc pc (o_lret) := by
  intro p e R s m args below meth c Q n0 s0 res C E hE K J cf h hK hJ
  obtain ⟨a, ha, hr⟩ := oend_inv h
  subst hr
  obtain ⟨mc, ms, e1, e2, e3⟩ := C.2.2.2.2.2.2.2.2.2.2.2.2.2.2.1 hlaw
  refine ⟨Nat.le_refl _, Nat.le_refl _, fun H locs cells slots ls hP hS hn hs hl => ?_⟩
  have c1 : cells = mc := by
    have : cf.2.2.1 = n0 + mc := e1
    omega
  have c2 : slots = ms := by
    have : cf.2.2.2.1 = s0 + ms := e2
    omega
  subst c1
  subst c2
  rw [e3]
  have hst : cf.2.1 = [.long a] := by
    split at ha
    next x e => cases ha; exact e
    next => cases ha
  rw [hst]
  refine vx_ret ?_
  exact W.lret C.1 C.2.1 (C.2.2.1.trans hret) (fun t ht hW => ⟨⟨_, rfl, rfl⟩, by rw [ht]; exact hP, hS.F ht⟩) hS.2.2 hd C.2.2.2.2.2.1
theorem snd_aret (hlaw : X.2.2.2.2.2.1 = false) {rt : FieldType} (hret : X.2.2.2.1 = some rt) (hrt : (∃ n, rt = .object n) ∨ ∃ t, rt = .array t) (hd : decode X.2.1 pc = .ok (.areturn, 1)) : Snd MI w X d pc pc (o_aret) := by
  intro p e R s m args below meth c Q n0 s0 res C E hE K J cf h hK hJ
  obtain ⟨a, ha, hr⟩ := oend_inv h
  subst hr
  obtain ⟨mc, ms, e1, e2, e3⟩ := C.2.2.2.2.2.2.2.2.2.2.2.2.2.2.1 hlaw
  refine ⟨Nat.le_refl _, Nat.le_refl _, fun H locs cells slots ls hP hS hn hs hl => ?_⟩
  have c1 : cells = mc := by
    have : cf.2.2.1 = n0 + mc := e1
    omega
  have c2 : slots = ms := by
    have : cf.2.2.2.1 = s0 + ms := e2
    omega
  subst c1
  subst c2
  rw [e3]
  have hst : cf.2.1 = [.ref a] := by
    split at ha
    next x e => cases ha; exact e
    next => cases ha
  rw [hst]
  refine vx_ret ?_
  exact W.aret (v := .ref (w.2.1 + a)) C.1 C.2.1 (C.2.2.1.trans hret) hrt (Or.inr ⟨_, rfl⟩) (fun t ht hW => ⟨⟨_, rfl, rfl⟩, by rw [ht]; exact hP, hS.F ht⟩) hS.2.2 hd C.2.2.2.2.2.1
theorem snd_vret (hlaw : X.2.2.2.2.2.1 = false) (hret : X.2.2.2.1 = none) (hd : decode X.2.1 pc = .ok (.return_, 1)) : Snd MI w X d pc pc (o_vret) := by
  intro p e R s m args below meth c Q n0 s0 res C E hE K J cf h hK hJ
  obtain ⟨a, ha, hr⟩ := oend_inv h
  subst hr
  obtain ⟨mc, ms, e1, e2, e3⟩ := C.2.2.2.2.2.2.2.2.2.2.2.2.2.2.1 hlaw
  refine ⟨Nat.le_refl _, Nat.le_refl _, fun H locs cells slots ls hP hS hn hs hl => ?_⟩
  have c1 : cells = mc := by
    have : cf.2.2.1 = n0 + mc := e1
    omega
  have c2 : slots = ms := by
    have : cf.2.2.2.1 = s0 + ms := e2
    omega
  subst c1
  subst c2
  rw [e3]
  have hst : cf.2.1 = [] := by
    split at ha
    next e => exact e
    next => cases ha
  rw [hst]
  refine vx_ret ?_
  exact W.vret C.1 C.2.1 (C.2.2.1.trans hret) (fun t ht hW => ⟨⟨_, rfl, rfl⟩, by rw [ht]; exact hP, hS.F ht⟩) hS.2.2 hd C.2.2.2.2.2.1
/-- an instruction that isn't reached -/
def o_stuck : AOp := fun _ _ _ _ => none
theorem o_stuck_loc : ALoc o_stuck := fun _ _ _ _ _ h => nomatch h
theorem snd_stuck {nx : Nat} : Snd MI w X d pc nx o_stuck := by
  intro p e R s m args below meth c Q n0 s0 res C E hE K J cf h hK hJ
  cases h
/-- 'throw' of the one exception there is, out of a method without handlers -/
def o_throw : AOp := oend (fun cf => aR (fun a => bif isO cf.2.2 a 3 then some a else none) cf.2.1) (fun cf a => (.inr a, cf.2.2))
theorem snd_throw (hlaw : X.2.2.2.2.2.1 = false) (hnoh : X.2.2.2.2.1 = none) (hd : decode X.2.1 pc = .ok (.athrow, 1)) : Snd MI w X d pc pc o_throw := by
  intro p e R s m args below meth c Q n0 s0 res C E hE K J cf h hK hJ
  obtain ⟨a, ha, hr⟩ := oend_inv h
  obtain ⟨b, T9, hst, hb⟩ := aR_inv ha
  have hb2 : isO cf.2.2 b 3 = true ∧ b = a := by
    cases hx : isO cf.2.2 b 3 with
    | false => rw [hx] at hb; cases hb
    | true => rw [hx] at hb; cases hb; exact ⟨rfl, rfl⟩
  obtain ⟨hx, rfl⟩ := hb2
  subst hr
  obtain ⟨fs, h1⟩ := isO_inv hx
  obtain ⟨mc, ms, e1, e2, e3⟩ := C.2.2.2.2.2.2.2.2.2.2.2.2.2.2.1 hlaw
  refine ⟨Nat.le_refl _, Nat.le_refl _, fun H locs cells slots ls hP hS hn hs hl => ?_⟩
  have c1 : cells = mc := by
    have : cf.2.2.1 = n0 + mc := e1
    omega
  have c2 : slots = ms := by
    have : cf.2.2.2.1 = s0 + ms := e2
    omega
  subst c1
  subst c2
  rw [e3, hst]
  have hxt : ∀ x ∈ c.exceptionTable.toList, covers x pc = false := by
    have := C.2.2.2.2.2.2.2.2.2.2.2.2.2.2.2
    rw [hnoh] at this
    intro x hx
    rw [this] at hx
    cases hx
  obtain ⟨r, g0, ce, g1, g2, g3, -⟩ := hP b _ (wsl_get h1)
  have g1 : H[w.2.1 + b]? = some ce := g1
  have hr : r = (RX3, TWr, 1) := Option.some.inj (g0.symm.trans rfl)
  subst hr
  have hcl : s.vm.findClass RX3 = some ce.cls := by
    rw [g2]
    exact (C.2.2.2.2.2.2.2.1.1.1 3 _ rfl).2.1
  refine vx_athrow C.1 C.2.1 hd (vx_out hxt C.2.2.2.2.2.1 g1 g3 hcl (fun t ht hA => ⟨⟨b, rfl, rfl⟩, rfl, by rw [ht]; exact hP, hS.F ht⟩) hS.2.2 (Nat.le_refl _) (Nat.le_refl _))
/-! Object's constructor; getClass of Object[]; arraycopy -/
def okW (n : Nat) (S : List Value) : Bool := decide (n ≤ S.length) && (decide (S.length ≤ n + 4) || (decide (S.length ≤ n + 8) && (S.drop n).all (fun v => v.category == 1)))
theorem cat_sum_le : ∀ (S : List Value), (S.map fun v => v.category).sum ≤ 2 * S.length
  | [] => Nat.le_refl _
  | v :: S => by
    have h1 := cat_sum_le S
    have h2 : v.category ≤ 2 := by cases v <;> simp [Value.category]
    simp only [List.map_cons, List.sum_cons, List.length_cons]
    omega
theorem cat_sum_one : ∀ (S : List Value), S.all (fun v => v.category == 1) = true → (S.map fun v => v.category).sum = S.length
  | [], _ => rfl
  | v :: S, h => by
    simp only [List.all_cons, Bool.and_eq_true, beq_iff_eq] at h
    have h1 := cat_sum_one S h.2
    simp only [List.map_cons, List.sum_cons, List.length_cons, h.1]
    omega
theorem okW_inv {n : Nat} {S : List Value} (hp : ∀ i, (w.2.2.1 i).category = 1) (h : okW n S = true) : n ≤ S.length ∧ (((S.drop n).map (cv w)).map fun v => v.category).sum ≤ 8 := by
  have hm : ((S.drop n).map (cv w)).map (fun v => v.category) = (S.drop n).map fun v => v.category := by
    rw [List.map_map]
    apply List.map_congr_left
    intro v _
    exact cv_cat hp v
  simp only [okW, Bool.and_eq_true, Bool.or_eq_true, decide_eq_true_eq] at h
  refine ⟨h.1, ?_⟩
  rw [hm]
  rcases h.2 with h2 | ⟨h2, h3⟩
  · have := cat_sum_le (S.drop n)
    simp only [List.length_drop] at this
    omega
  · have := cat_sum_one (S.drop n) h3
    simp only [List.length_drop] at this
    omega
def o_objInit : AOp := og (fun cf => bif okW 1 cf.2.1 then aR (fun a => some a) cf.2.1 else none) (fun cf _ => (cf.1, cf.2.1.tail, cf.2.2))
theorem snd_objInit {index : Nat} (hq : Cond.methodLink X.1.cls index Lib.objectInit ∈ lw_all) (hd : decode X.2.1 pc = .ok (.invokespecial index, 3)) : Snd MI w X d pc (pc + 3) o_objInit := by
  intro p e R s m args below meth c Q n0 s0 res C E hE K J cf h hK hJ
  obtain ⟨a, ha, hk⟩ := og_inv h
  obtain ⟨b1, b2, g⟩ := hK _ hk
  cases hw : okW 1 cf.2.1 with
  | false => rw [hw] at ha; cases ha
  | true =>
    rw [hw] at ha
    obtain ⟨b, T9, hst, hr⟩ := aR_inv ha
    have hsum := (okW_inv C.2.2.2.2.2.2.2.1.2.1 hw).2
    refine ⟨b1, b2, fun H locs cells slots ls hP hS hn hs hl => ?_⟩
    have g9 := (g H locs cells slots ls hP hS hn hs hl)
    simp only [hst, List.tail_cons] at g9
    simp only [hst, List.drop_succ_cons, List.drop_zero] at hsum
    rw [hst]
    refine W.objInit C.1 C.2.1 C.2.2.2.2.1 (C.2.2.2.2.2.2.1 _ hq) (C.2.2.2.2.2.2.1 _ q168) (C.2.2.2.2.2.2.1 _ q169) rfl (by rw [C.2.2.2.1]; exact hl.1) rfl hd ?_ ?_ (W.eq rfl g9)
    · have := C.2.2.2.2.2.2.2.2.2.2.1
      omega
    · have := C.2.2.2.2.2.2.2.2.2.2.2.1
      show 2 * 0 + _ + 12 ≤ _
      omega
def clP (h : AH) (a : Nat) : Option Nat := match aget h a with
  | some (.inr (t, _, _)) => bif t == 4 then some 301 else none
  | _ => none
def o_getC : AOp := og (fun cf => bif okW 1 cf.2.1 then aR (fun a => clP cf.2.2 a) cf.2.1 else none) (fun cf a => (cf.1, .retAddr a :: cf.2.1.tail, cf.2.2))
theorem snd_getC {index : Nat} (hq : Cond.methodLink X.1.cls index ⟨"java/lang/Object", "getClass", "()Ljava/lang/Class;"⟩ ∈ lw_all) (hsel : Cond.selects "[Ljava/lang/Object;" ⟨"java/lang/Object", "getClass", "()Ljava/lang/Class;"⟩ ⟨"java/lang/Object", "getClass", "()Ljava/lang/Class;"⟩ ∈ lw_all) (hinst : Cond.instanceMethod ⟨"java/lang/Object", "getClass", "()Ljava/lang/Class;"⟩ ∈ lw_all) (hnat : Cond.native ⟨"java/lang/Object", "getClass", "()Ljava/lang/Class;"⟩ ∈ lw_all)
    (hdec : Cond.declares ⟨"java/lang/Object", "getClass", "()Ljava/lang/Class;"⟩ ∈ lw_tbl) (hd : decode X.2.1 pc = .ok (.invokevirtual index, 3)) : Snd MI w X d pc (pc + 3) o_getC := by
  intro p e R s m args below meth c Q n0 s0 res C E hE K J cf h hK hJ
  obtain ⟨a, ha, hk⟩ := og_inv h
  obtain ⟨b1, b2, g⟩ := hK _ hk
  cases hw : okW 1 cf.2.1 with
  | false => rw [hw] at ha; cases ha
  | true =>
    rw [hw] at ha
    obtain ⟨b, T9, hst, hr⟩ := aR_inv ha
    obtain ⟨n, c9, h1, rfl⟩ : ∃ n c9, aget cf.2.2 b = some (.inr (4, n, c9)) ∧ a = 301 := by
      unfold clP at hr
      split at hr
      next t n c9 ho =>
        cases hb : t == 4 with
        | false => rw [hb] at hr; cases hr
        | true =>
          have ht : t = 4 := by simpa using hb
          subst ht
          rw [hb] at hr
          cases hr
          exact ⟨n, c9, ho, rfl⟩
      next => cases hr
    have hsum := (okW_inv C.2.2.2.2.2.2.2.1.2.1 hw).2
    obtain ⟨q, k1, k2⟩ := C.2.2.2.2.2.2.2.1.2.2.2.2.2.2.1
    have hcv : cv w (.retAddr 301) = .ref q := k1
    refine ⟨b1, b2, fun H locs cells slots ls hP hS hn hs hl => ?_⟩
    have g9 := (g H locs cells slots ls hP hS hn hs hl)
    simp only [hst, List.tail_cons, List.map_cons, hcv] at g9
    simp only [hst, List.drop_succ_cons, List.drop_zero] at hsum
    rw [hst]
    have hcell : H[w.2.1 + b]? = some (vp_cell (w.2.2.2.2 4) (n, czA w c9)) := hP b _ (wsl_get h1)
    obtain ⟨kA, comp, -, -, -, hfc⟩ := (C.2.2.2.2.2.2.2.1.1.2 4 _ (tysL_get w (t := 4) (by decide))).2
    have hvm : (vp_cell (w.2.2.2.2 4) (n, czA w c9)).vm.isStatics = false ∧ (vp_cell (w.2.2.2.2 4) (n, czA w c9)).cls = w.2.2.2.2 4 := by
      rcases c9 with f | f | f <;> exact ⟨rfl, rfl⟩
    refine va_getC C.1 C.2.1 (C.2.2.2.1.trans hl.1.symm) C.2.2.2.2.1 (C.2.2.2.2.2.2.1 _ hq) (va_Nw.use rfl (C.2.2.2.2.2.2.2.1.2.2.1 _ hdec rfl)) (C.2.2.2.2.2.2.1 _ hsel) (C.2.2.2.2.2.2.1 _ hinst) (C.2.2.2.2.2.2.1 _ hnat) k2 ⟨_, hcell, hvm.1, by rw [hvm.2]; exact hfc⟩ ?_ ?_ hd g9
    · have := C.2.2.2.2.2.2.2.2.2.2.1
      omega
    · have := C.2.2.2.2.2.2.2.2.2.2.2.1
      omega
end SND3
