/-! ops over cells -/
theorem HP_eq {w : AW} {h : AH} {H : Heap} {ws : va_W} (e : ws = wsl w h) (hP : va_P w.2.2.2.1 aCl ws H) : HP w h H := by
  subst e
  exact hP
def rdF (h : AH) (a ci k : Nat) : Option Value := match aget h a with
  | some (.inl o) => bif o.1 == ci then o.2[k]? else none
  | _ => none
def rdI (h : AH) (a ci k : Nat) : Option Int32 := match rdF h a ci k with
  | some (.int i) => some i
  | _ => none
def rdL (h : AH) (a ci k : Nat) : Option Int64 := match rdF h a ci k with
  | some (.long i) => some i
  | _ => none
def rdR (h : AH) (a ci k : Nat) : Option Nat := match rdF h a ci k with
  | some (.ref i) => some i
  | _ => none
def rdP (h : AH) (a ci k : Nat) : Option Nat := match rdF h a ci k with
  | some (.retAddr i) => some i
  | _ => none
/-- a reference or null -/
def rdQ (h : AH) (a ci k : Nat) : Option (Option Nat) := match rdF h a ci k with
  | some (.ref i) => some (some i)
  | some .null => some none
  | _ => none
theorem rdF_inv {h : AH} {a ci k : Nat} {v : Value} (e : rdF h a ci k = some v) : ∃ fs, aget h a = some (.inl (ci, fs)) ∧ fs[k]? = some v := by
  unfold rdF at e
  split at e
  next o ho =>
    obtain ⟨c0, fs⟩ := o
    cases hb : c0 == ci with
    | false => rw [hb] at e; cases e
    | true =>
      have hc : c0 = ci := by simpa using hb
      subst hc
      rw [hb] at e
      exact ⟨fs, ho, e⟩
  next => cases e
theorem rdI_inv {h : AH} {a ci k : Nat} {i} (e : rdI h a ci k = some i) : rdF h a ci k = some (.int i) := by
  unfold rdI at e
  split at e
  next e2 => cases e; exact e2
  next => cases e
theorem rdL_inv {h : AH} {a ci k : Nat} {i} (e : rdL h a ci k = some i) : rdF h a ci k = some (.long i) := by
  unfold rdL at e
  split at e
  next e2 => cases e; exact e2
  next => cases e
theorem rdR_inv {h : AH} {a ci k : Nat} {i} (e : rdR h a ci k = some i) : rdF h a ci k = some (.ref i) := by
  unfold rdR at e
  split at e
  next e2 => cases e; exact e2
  next => cases e
theorem rdP_inv {h : AH} {a ci k : Nat} {i} (e : rdP h a ci k = some i) : rdF h a ci k = some (.retAddr i) := by
  unfold rdP at e
  split at e
  next e2 => cases e; exact e2
  next => cases e
theorem rdQ_inv {h : AH} {a ci k : Nat} {i} (e : rdQ h a ci k = some i) : rdF h a ci k = some (va_rf i) := by
  unfold rdQ at e
  split at e
  next e2 => cases e; exact e2
  next e2 => cases e; exact e2
  next => cases e
def okV (ty : FieldType) (v : Value) : Bool := match ty, v with
  | .int, .int _ => true
  | .boolean, .int x => x == 0 || x == 1
  | .long, .long _ => true
  | .object _, .ref _ => true
  | .object _, .null => true
  | .array _, .ref _ => true
  | .array _, .null => true
  | .array _, .retAddr i => isP i
  | _, _ => false
def wrF (h : AH) (a ci k : Nat) (v : Value) : Option AH := match aget h a with
  | some (.inl o) => bif o.1 == ci && decide (k < o.2.length) then some (hset h a (.inl (o.1, o.2.set k v))) else none
  | _ => none
theorem wrF_inv {h h' : AH} {a ci k : Nat} {v : Value} (e : wrF h a ci k v = some h') : ∃ fs, aget h a = some (.inl (ci, fs)) ∧ k < fs.length ∧ h' = hset h a (.inl (ci, fs.set k v)) := by
  unfold wrF at e
  split at e
  next o ho =>
    obtain ⟨c0, fs⟩ := o
    cases hb : (c0 == ci && decide (k < fs.length)) with
    | false => simp only [hb, cond_false] at e; cases e
    | true =>
      simp only [Bool.and_eq_true, beq_iff_eq, decide_eq_true_eq] at hb
      obtain ⟨hb1, hb2⟩ := hb
      subst hb1
      simp only [beq_self_eq_true, hb2, decide_true, Bool.and_self, cond_true] at e
      cases e
      exact ⟨fs, ho, hb2, rfl⟩
  next => cases e
def aR {α : Type} (g : Nat → Option α) (S : List Value) : Option α := match S with
  | .ref a :: _ => g a
  | _ => none
theorem aR_inv {α : Type} {g : Nat → Option α} {S : List Value} {x : α} (h : aR g S = some x) : ∃ a T, S = .ref a :: T ∧ g a = some x := by
  unfold aR at h
  split at h
  next a T => exact ⟨a, T, rfl, h⟩
  next => cases h
def aVR {α : Type} (g : Nat → Value → Option α) (S : List Value) : Option α := match S with
  | v :: .ref a :: _ => g a v
  | _ => none
theorem aVR_inv {α : Type} {g : Nat → Value → Option α} {S : List Value} {x : α} (h : aVR g S = some x) : ∃ v a T, S = v :: .ref a :: T ∧ g a v = some x := by
  unfold aVR at h
  split at h
  next v a T => exact ⟨v, a, T, rfl, h⟩
  next => cases h
def aIR {α : Type} (g : Nat → Int32 → Option α) (S : List Value) : Option α := match S with
  | .int i :: .ref a :: _ => g a i
  | _ => none
theorem aIR_inv {α : Type} {g : Nat → Int32 → Option α} {S : List Value} {x : α} (h : aIR g S = some x) : ∃ i a T, S = .int i :: .ref a :: T ∧ g a i = some x := by
  unfold aIR at h
  split at h
  next i a T => exact ⟨i, a, T, rfl, h⟩
  next => cases h
def aVIR {α : Type} (g : Nat → Int32 → Value → Option α) (S : List Value) : Option α := match S with
  | v :: .int i :: .ref a :: _ => g a i v
  | _ => none
theorem aVIR_inv {α : Type} {g : Nat → Int32 → Value → Option α} {S : List Value} {x : α} (h : aVIR g S = some x) : ∃ v i a T, S = v :: .int i :: .ref a :: T ∧ g a i v = some x := by
  unfold aVIR at h
  split at h
  next v i a T => exact ⟨v, i, a, T, rfl, h⟩
  next => cases h
theorem okV_ok {w : AW} {U : State} (hE : AEnv w U) {ty : FieldType} {v : Value} (h : okV ty v = true) : narrow ty (cv w v) = cv w v ∧ fits ty (cv w v) = true := by
  cases ty <;> cases v <;> first | (cases h; done) | exact ⟨rfl, rfl⟩ | skip
  · rename_i x
    simp only [okV, Bool.or_eq_true, beq_iff_eq] at h
    rcases h with rfl | rfl <;> exact ⟨rfl, rfl⟩
  · rename_i i
    obtain ⟨a, ha⟩ := isP_ref hE (i := i) h
    show narrow _ (w.2.2.1 i) = w.2.2.1 i ∧ fits _ (w.2.2.1 i) = true
    rw [ha]
    exact ⟨rfl, rfl⟩
section SND2
variable {MI : Nat → AMI} {w : AW} {X : AMI} {d pc : Nat}
/-- which name a field row uses: the declarer's, or another that finds the same field -/
def FSame (ref : String) (q : String × String × String × Bool) : Prop := q.1 = ref ∨ Cond.sameField ref q.1 q.2.1 q.2.2.1 ∈ lw_all
theorem FSame.use {ref : String} {q : String × String × String × Bool} {args : Array Value} {s : State} (h : FSame ref q) (hts : ∀ x ∈ lw_all, x.before args s = true) : ∀ x, s.fieldFound? q.1 q.2.1 q.2.2.1 = some x → s.fieldFound? ref q.2.1 q.2.2.1 = some x := by
  rcases h with h | h
  · intro x hx
    rw [← h]
    exact hx
  · intro x hx
    exact u_same (hts _ h) x hx
def o_getI (ci k : Nat) : AOp := og (fun cf => aR (fun a => rdI cf.2.2 a ci k) cf.2.1) (fun cf a => (cf.1, .int a :: cf.2.1.tail, cf.2.2))
theorem snd_getI {index ci k N : Nat} {ref Cn : String} {T : u_T} (hin : ∀ x ∈ u_ws Cn T N, x ∈ lw_all) (hc : aCl[ci]? = some (Cn, T, N)) (hkN : k < N) (hsame : FSame ref (T k)) (hq : Cond.fieldLink X.1.cls index ref (T k).2.1 (T k).2.2.1 ∈ lw_all) (hd : decode X.2.1 pc = .ok (.getfield index, 3)) : Snd MI w X d pc (pc + 3) (o_getI ci k) := by
  intro p e R s m args below meth c Q n0 s0 res C E hE K J cf h hK hJ
  obtain ⟨a, ha, hk⟩ := og_inv h
  obtain ⟨b1, b2, g⟩ := hK _ hk
  obtain ⟨b, T9, hst, hr⟩ := aR_inv ha
  obtain ⟨fs, h1, h2⟩ := rdF_inv (rdI_inv hr)
  refine ⟨b1, b2, fun H locs cells slots ls hP hS hn hs hl => ?_⟩
  have g9 := (g H locs cells slots ls hP hS hn hs hl)
  simp only [hst, List.tail_cons, List.map_cons] at g9
  rw [hst]
  exact va_get C.1 C.2.1 C.2.2.2.2.2.2.1 hin C.2.2.2.2.1 C.2.2.2.2.2.2.2.1.1 hP b (wsl_get h1) hc k hkN (C.2.2.2.2.2.2.1 _ hq) (hsame.use C.2.2.2.2.2.2.1) (v := cv w _) (by rw [List.getElem?_map, h2]; rfl) hd g9
theorem snd_getIN {index ci k N : Nat} {ref Cn : String} {T : u_T} (hin : ∀ x ∈ u_ws Cn T N, x ∈ lw_all) (hc : aCl[ci]? = some (Cn, T, N)) (hkN : k < N) (hsame : FSame ref (T k)) {host : String} (hq : Cond.fieldLinkNest X.1.cls index ref (T k).2.1 (T k).2.2.1 host ∈ lw_tbl) (hd : decode X.2.1 pc = .ok (.getfield index, 3)) : Snd MI w X d pc (pc + 3) (o_getI ci k) := by
  intro p e R s m args below meth c Q n0 s0 res C E hE K J cf h hK hJ
  obtain ⟨a, ha, hk⟩ := og_inv h
  obtain ⟨b1, b2, g⟩ := hK _ hk
  obtain ⟨b, T9, hst, hr⟩ := aR_inv ha
  obtain ⟨fs, h1, h2⟩ := rdF_inv (rdI_inv hr)
  refine ⟨b1, b2, fun H locs cells slots ls hP hS hn hs hl => ?_⟩
  have g9 := (g H locs cells slots ls hP hS hn hs hl)
  simp only [hst, List.tail_cons, List.map_cons] at g9
  rw [hst]
  exact va_getN C.1 C.2.1 C.2.2.2.2.2.2.1 hin C.2.2.2.2.1 C.2.2.2.2.2.2.2.1.1 hP b (wsl_get h1) hc k hkN (va_Nw.use rfl (C.2.2.2.2.2.2.2.1.2.2.1 _ hq rfl)) (hsame.use C.2.2.2.2.2.2.1) (v := cv w _) (by rw [List.getElem?_map, h2]; rfl) hd g9
def o_getL (ci k : Nat) : AOp := og (fun cf => aR (fun a => rdL cf.2.2 a ci k) cf.2.1) (fun cf a => (cf.1, .long a :: cf.2.1.tail, cf.2.2))
theorem snd_getL {index ci k N : Nat} {ref Cn : String} {T : u_T} (hin : ∀ x ∈ u_ws Cn T N, x ∈ lw_all) (hc : aCl[ci]? = some (Cn, T, N)) (hkN : k < N) (hsame : FSame ref (T k)) (hq : Cond.fieldLink X.1.cls index ref (T k).2.1 (T k).2.2.1 ∈ lw_all) (hd : decode X.2.1 pc = .ok (.getfield index, 3)) : Snd MI w X d pc (pc + 3) (o_getL ci k) := by
  intro p e R s m args below meth c Q n0 s0 res C E hE K J cf h hK hJ
  obtain ⟨a, ha, hk⟩ := og_inv h
  obtain ⟨b1, b2, g⟩ := hK _ hk
  obtain ⟨b, T9, hst, hr⟩ := aR_inv ha
  obtain ⟨fs, h1, h2⟩ := rdF_inv (rdL_inv hr)
  refine ⟨b1, b2, fun H locs cells slots ls hP hS hn hs hl => ?_⟩
  have g9 := (g H locs cells slots ls hP hS hn hs hl)
  simp only [hst, List.tail_cons, List.map_cons] at g9
  rw [hst]
  exact va_get C.1 C.2.1 C.2.2.2.2.2.2.1 hin C.2.2.2.2.1 C.2.2.2.2.2.2.2.1.1 hP b (wsl_get h1) hc k hkN (C.2.2.2.2.2.2.1 _ hq) (hsame.use C.2.2.2.2.2.2.1) (v := cv w _) (by rw [List.getElem?_map, h2]; rfl) hd g9
theorem snd_getLN {index ci k N : Nat} {ref Cn : String} {T : u_T} (hin : ∀ x ∈ u_ws Cn T N, x ∈ lw_all) (hc : aCl[ci]? = some (Cn, T, N)) (hkN : k < N) (hsame : FSame ref (T k)) {host : String} (hq : Cond.fieldLinkNest X.1.cls index ref (T k).2.1 (T k).2.2.1 host ∈ lw_tbl) (hd : decode X.2.1 pc = .ok (.getfield index, 3)) : Snd MI w X d pc (pc + 3) (o_getL ci k) := by
  intro p e R s m args below meth c Q n0 s0 res C E hE K J cf h hK hJ
  obtain ⟨a, ha, hk⟩ := og_inv h
  obtain ⟨b1, b2, g⟩ := hK _ hk
  obtain ⟨b, T9, hst, hr⟩ := aR_inv ha
  obtain ⟨fs, h1, h2⟩ := rdF_inv (rdL_inv hr)
  refine ⟨b1, b2, fun H locs cells slots ls hP hS hn hs hl => ?_⟩
  have g9 := (g H locs cells slots ls hP hS hn hs hl)
  simp only [hst, List.tail_cons, List.map_cons] at g9
  rw [hst]
  exact va_getN C.1 C.2.1 C.2.2.2.2.2.2.1 hin C.2.2.2.2.1 C.2.2.2.2.2.2.2.1.1 hP b (wsl_get h1) hc k hkN (va_Nw.use rfl (C.2.2.2.2.2.2.2.1.2.2.1 _ hq rfl)) (hsame.use C.2.2.2.2.2.2.1) (v := cv w _) (by rw [List.getElem?_map, h2]; rfl) hd g9
def o_getR (ci k : Nat) : AOp := og (fun cf => aR (fun a => rdR cf.2.2 a ci k) cf.2.1) (fun cf a => (cf.1, .ref a :: cf.2.1.tail, cf.2.2))
theorem snd_getR {index ci k N : Nat} {ref Cn : String} {T : u_T} (hin : ∀ x ∈ u_ws Cn T N, x ∈ lw_all) (hc : aCl[ci]? = some (Cn, T, N)) (hkN : k < N) (hsame : FSame ref (T k)) (hq : Cond.fieldLink X.1.cls index ref (T k).2.1 (T k).2.2.1 ∈ lw_all) (hd : decode X.2.1 pc = .ok (.getfield index, 3)) : Snd MI w X d pc (pc + 3) (o_getR ci k) := by
  intro p e R s m args below meth c Q n0 s0 res C E hE K J cf h hK hJ
  obtain ⟨a, ha, hk⟩ := og_inv h
  obtain ⟨b1, b2, g⟩ := hK _ hk
  obtain ⟨b, T9, hst, hr⟩ := aR_inv ha
  obtain ⟨fs, h1, h2⟩ := rdF_inv (rdR_inv hr)
  refine ⟨b1, b2, fun H locs cells slots ls hP hS hn hs hl => ?_⟩
  have g9 := (g H locs cells slots ls hP hS hn hs hl)
  simp only [hst, List.tail_cons, List.map_cons] at g9
  rw [hst]
  exact va_get C.1 C.2.1 C.2.2.2.2.2.2.1 hin C.2.2.2.2.1 C.2.2.2.2.2.2.2.1.1 hP b (wsl_get h1) hc k hkN (C.2.2.2.2.2.2.1 _ hq) (hsame.use C.2.2.2.2.2.2.1) (v := cv w _) (by rw [List.getElem?_map, h2]; rfl) hd g9
theorem snd_getRN {index ci k N : Nat} {ref Cn : String} {T : u_T} (hin : ∀ x ∈ u_ws Cn T N, x ∈ lw_all) (hc : aCl[ci]? = some (Cn, T, N)) (hkN : k < N) (hsame : FSame ref (T k)) {host : String} (hq : Cond.fieldLinkNest X.1.cls index ref (T k).2.1 (T k).2.2.1 host ∈ lw_tbl) (hd : decode X.2.1 pc = .ok (.getfield index, 3)) : Snd MI w X d pc (pc + 3) (o_getR ci k) := by
  intro p e R s m args below meth c Q n0 s0 res C E hE K J cf h hK hJ
  obtain ⟨a, ha, hk⟩ := og_inv h
  obtain ⟨b1, b2, g⟩ := hK _ hk
  obtain ⟨b, T9, hst, hr⟩ := aR_inv ha
  obtain ⟨fs, h1, h2⟩ := rdF_inv (rdR_inv hr)
  refine ⟨b1, b2, fun H locs cells slots ls hP hS hn hs hl => ?_⟩
  have g9 := (g H locs cells slots ls hP hS hn hs hl)
  simp only [hst, List.tail_cons, List.map_cons] at g9
  rw [hst]
  exact va_getN C.1 C.2.1 C.2.2.2.2.2.2.1 hin C.2.2.2.2.1 C.2.2.2.2.2.2.2.1.1 hP b (wsl_get h1) hc k hkN (va_Nw.use rfl (C.2.2.2.2.2.2.2.1.2.2.1 _ hq rfl)) (hsame.use C.2.2.2.2.2.2.1) (v := cv w _) (by rw [List.getElem?_map, h2]; rfl) hd g9
def o_getP (ci k : Nat) : AOp := og (fun cf => aR (fun a => rdP cf.2.2 a ci k) cf.2.1) (fun cf a => (cf.1, .retAddr a :: cf.2.1.tail, cf.2.2))
theorem snd_getP {index ci k N : Nat} {ref Cn : String} {T : u_T} (hin : ∀ x ∈ u_ws Cn T N, x ∈ lw_all) (hc : aCl[ci]? = some (Cn, T, N)) (hkN : k < N) (hsame : FSame ref (T k)) (hq : Cond.fieldLink X.1.cls index ref (T k).2.1 (T k).2.2.1 ∈ lw_all) (hd : decode X.2.1 pc = .ok (.getfield index, 3)) : Snd MI w X d pc (pc + 3) (o_getP ci k) := by
  intro p e R s m args below meth c Q n0 s0 res C E hE K J cf h hK hJ
  obtain ⟨a, ha, hk⟩ := og_inv h
  obtain ⟨b1, b2, g⟩ := hK _ hk
  obtain ⟨b, T9, hst, hr⟩ := aR_inv ha
  obtain ⟨fs, h1, h2⟩ := rdF_inv (rdP_inv hr)
  refine ⟨b1, b2, fun H locs cells slots ls hP hS hn hs hl => ?_⟩
  have g9 := (g H locs cells slots ls hP hS hn hs hl)
  simp only [hst, List.tail_cons, List.map_cons] at g9
  rw [hst]
  exact va_get C.1 C.2.1 C.2.2.2.2.2.2.1 hin C.2.2.2.2.1 C.2.2.2.2.2.2.2.1.1 hP b (wsl_get h1) hc k hkN (C.2.2.2.2.2.2.1 _ hq) (hsame.use C.2.2.2.2.2.2.1) (v := cv w _) (by rw [List.getElem?_map, h2]; rfl) hd g9
theorem snd_getPN {index ci k N : Nat} {ref Cn : String} {T : u_T} (hin : ∀ x ∈ u_ws Cn T N, x ∈ lw_all) (hc : aCl[ci]? = some (Cn, T, N)) (hkN : k < N) (hsame : FSame ref (T k)) {host : String} (hq : Cond.fieldLinkNest X.1.cls index ref (T k).2.1 (T k).2.2.1 host ∈ lw_tbl) (hd : decode X.2.1 pc = .ok (.getfield index, 3)) : Snd MI w X d pc (pc + 3) (o_getP ci k) := by
  intro p e R s m args below meth c Q n0 s0 res C E hE K J cf h hK hJ
  obtain ⟨a, ha, hk⟩ := og_inv h
  obtain ⟨b1, b2, g⟩ := hK _ hk
  obtain ⟨b, T9, hst, hr⟩ := aR_inv ha
  obtain ⟨fs, h1, h2⟩ := rdF_inv (rdP_inv hr)
  refine ⟨b1, b2, fun H locs cells slots ls hP hS hn hs hl => ?_⟩
  have g9 := (g H locs cells slots ls hP hS hn hs hl)
  simp only [hst, List.tail_cons, List.map_cons] at g9
  rw [hst]
  exact va_getN C.1 C.2.1 C.2.2.2.2.2.2.1 hin C.2.2.2.2.1 C.2.2.2.2.2.2.2.1.1 hP b (wsl_get h1) hc k hkN (va_Nw.use rfl (C.2.2.2.2.2.2.2.1.2.2.1 _ hq rfl)) (hsame.use C.2.2.2.2.2.2.1) (v := cv w _) (by rw [List.getElem?_map, h2]; rfl) hd g9
def o_getQ (ci k : Nat) : AOp := og (fun cf => aR (fun a => rdQ cf.2.2 a ci k) cf.2.1) (fun cf a => (cf.1, va_rf a :: cf.2.1.tail, cf.2.2))
theorem snd_getQ {index ci k N : Nat} {ref Cn : String} {T : u_T} (hin : ∀ x ∈ u_ws Cn T N, x ∈ lw_all) (hc : aCl[ci]? = some (Cn, T, N)) (hkN : k < N) (hsame : FSame ref (T k)) (hq : Cond.fieldLink X.1.cls index ref (T k).2.1 (T k).2.2.1 ∈ lw_all) (hd : decode X.2.1 pc = .ok (.getfield index, 3)) : Snd MI w X d pc (pc + 3) (o_getQ ci k) := by
  intro p e R s m args below meth c Q n0 s0 res C E hE K J cf h hK hJ
  obtain ⟨a, ha, hk⟩ := og_inv h
  obtain ⟨b1, b2, g⟩ := hK _ hk
  obtain ⟨b, T9, hst, hr⟩ := aR_inv ha
  obtain ⟨fs, h1, h2⟩ := rdF_inv (rdQ_inv hr)
  refine ⟨b1, b2, fun H locs cells slots ls hP hS hn hs hl => ?_⟩
  have g9 := (g H locs cells slots ls hP hS hn hs hl)
  simp only [hst, List.tail_cons, List.map_cons] at g9
  rw [hst]
  exact va_get C.1 C.2.1 C.2.2.2.2.2.2.1 hin C.2.2.2.2.1 C.2.2.2.2.2.2.2.1.1 hP b (wsl_get h1) hc k hkN (C.2.2.2.2.2.2.1 _ hq) (hsame.use C.2.2.2.2.2.2.1) (v := cv w _) (by rw [List.getElem?_map, h2]; rfl) hd g9
theorem snd_getQN {index ci k N : Nat} {ref Cn : String} {T : u_T} (hin : ∀ x ∈ u_ws Cn T N, x ∈ lw_all) (hc : aCl[ci]? = some (Cn, T, N)) (hkN : k < N) (hsame : FSame ref (T k)) {host : String} (hq : Cond.fieldLinkNest X.1.cls index ref (T k).2.1 (T k).2.2.1 host ∈ lw_tbl) (hd : decode X.2.1 pc = .ok (.getfield index, 3)) : Snd MI w X d pc (pc + 3) (o_getQ ci k) := by
  intro p e R s m args below meth c Q n0 s0 res C E hE K J cf h hK hJ
  obtain ⟨a, ha, hk⟩ := og_inv h
  obtain ⟨b1, b2, g⟩ := hK _ hk
  obtain ⟨b, T9, hst, hr⟩ := aR_inv ha
  obtain ⟨fs, h1, h2⟩ := rdF_inv (rdQ_inv hr)
  refine ⟨b1, b2, fun H locs cells slots ls hP hS hn hs hl => ?_⟩
  have g9 := (g H locs cells slots ls hP hS hn hs hl)
  simp only [hst, List.tail_cons, List.map_cons] at g9
  rw [hst]
  exact va_getN C.1 C.2.1 C.2.2.2.2.2.2.1 hin C.2.2.2.2.1 C.2.2.2.2.2.2.2.1.1 hP b (wsl_get h1) hc k hkN (va_Nw.use rfl (C.2.2.2.2.2.2.2.1.2.2.1 _ hq rfl)) (hsame.use C.2.2.2.2.2.2.1) (v := cv w _) (by rw [List.getElem?_map, h2]; rfl) hd g9
def o_put (ty : FieldType) (ci k : Nat) : AOp := og (fun cf => aVR (fun a v => bif okV ty v then wrF cf.2.2 a ci k v else none) cf.2.1) (fun cf a => (cf.1, cf.2.1.tail.tail, a))
theorem snd_put {index ci k N : Nat} {ref Cn : String} {T : u_T} (hin : ∀ x ∈ u_ws Cn T N, x ∈ lw_all) (hc : aCl[ci]? = some (Cn, T, N)) (hkN : k < N) (hsame : FSame ref (T k)) (ty0 : Nat → FieldType) (hty : ∀ k, k < N → parseFieldDescriptor (T k).2.2.1 = some (ty0 k)) (hnm : ∀ a, a < N → ∀ b, b < N → a ≠ b → (T a).2.1 ≠ (T b).2.1) {ty : FieldType} (hd0 : parseFieldDescriptor (T k).2.2.1 = some ty) (hfin : (T k).2.2.2 = false) (hq : Cond.fieldLink X.1.cls index ref (T k).2.1 (T k).2.2.1 ∈ lw_all) (hd : decode X.2.1 pc = .ok (.putfield index, 3)) : Snd MI w X d pc (pc + 3) (o_put ty ci k) := by
  intro p e R s m args below meth c Q n0 s0 res C E hE K J cf h hK hJ
  obtain ⟨a, ha, hk⟩ := og_inv h
  obtain ⟨b1, b2, g⟩ := hK _ hk
  obtain ⟨v, b, T9, hst, hr⟩ := aVR_inv ha
  cases hv : okV ty v with
  | false => simp only [hv, cond_false] at hr; cases hr
  | true =>
    simp only [hv, cond_true] at hr
    obtain ⟨fs, h1, h2, h3⟩ := wrF_inv hr
    subst h3
    obtain ⟨k1, k2⟩ := okV_ok C.2.2.2.2.2.2.2.1 hv
    refine ⟨b1, b2, fun H locs cells slots ls hP hS hn hs hl => ?_⟩
    rw [hst]
    refine va_put C.1 C.2.1 C.2.2.2.2.2.2.1 hin ty0 hty hnm C.2.2.2.2.1 C.2.2.2.2.2.2.2.1.1 hP (wsl_D w cf.2.2) hS b (wsl_get h1) hc k hkN (C.2.2.2.2.2.2.1 _ hq) (hsame.use C.2.2.2.2.2.2.1) hfin hd0 k1 k2 (by simpa using h2) hd fun H1 locs1 hP1 _ hS1 => ?_
    rw [← List.map_set, show (Sum.inr (ci, (fs.set k v).map (cv w)) : va_E) = cz w (.inl (ci, fs.set k v)) from rfl, wsl_set h1] at hP1
    have g9 := g H1 locs1 cells slots ls hP1 hS1 hn hs hl
    simp only [hst, List.tail_cons] at g9
    exact g9
theorem snd_putN {index ci k N : Nat} {ref Cn : String} {T : u_T} (hin : ∀ x ∈ u_ws Cn T N, x ∈ lw_all) (hc : aCl[ci]? = some (Cn, T, N)) (hkN : k < N) (hsame : FSame ref (T k)) (ty0 : Nat → FieldType) (hty : ∀ k, k < N → parseFieldDescriptor (T k).2.2.1 = some (ty0 k)) (hnm : ∀ a, a < N → ∀ b, b < N → a ≠ b → (T a).2.1 ≠ (T b).2.1) {ty : FieldType} (hd0 : parseFieldDescriptor (T k).2.2.1 = some ty) (hfin : (T k).2.2.2 = false) {host : String} (hq : Cond.fieldLinkNest X.1.cls index ref (T k).2.1 (T k).2.2.1 host ∈ lw_tbl) (hd : decode X.2.1 pc = .ok (.putfield index, 3)) : Snd MI w X d pc (pc + 3) (o_put ty ci k) := by
  intro p e R s m args below meth c Q n0 s0 res C E hE K J cf h hK hJ
  obtain ⟨a, ha, hk⟩ := og_inv h
  obtain ⟨b1, b2, g⟩ := hK _ hk
  obtain ⟨v, b, T9, hst, hr⟩ := aVR_inv ha
  cases hv : okV ty v with
  | false => simp only [hv, cond_false] at hr; cases hr
  | true =>
    simp only [hv, cond_true] at hr
    obtain ⟨fs, h1, h2, h3⟩ := wrF_inv hr
    subst h3
    obtain ⟨k1, k2⟩ := okV_ok C.2.2.2.2.2.2.2.1 hv
    refine ⟨b1, b2, fun H locs cells slots ls hP hS hn hs hl => ?_⟩
    rw [hst]
    refine va_putN C.1 C.2.1 C.2.2.2.2.2.2.1 hin ty0 hty hnm C.2.2.2.2.1 C.2.2.2.2.2.2.2.1.1 hP (wsl_D w cf.2.2) hS b (wsl_get h1) hc k hkN (va_Nw.use rfl (C.2.2.2.2.2.2.2.1.2.2.1 _ hq rfl)) (hsame.use C.2.2.2.2.2.2.1) hfin hd0 k1 k2 (by simpa using h2) hd fun H1 locs1 hP1 _ hS1 => ?_
    rw [← List.map_set, show (Sum.inr (ci, (fs.set k v).map (cv w)) : va_E) = cz w (.inl (ci, fs.set k v)) from rfl, wsl_set h1] at hP1
    have g9 := g H1 locs1 cells slots ls hP1 hS1 hn hs hl
    simp only [hst, List.tail_cons] at g9
    exact g9
theorem snd_putF {index ci k N : Nat} {ref Cn : String} {T : u_T} (hin : ∀ x ∈ u_ws Cn T N, x ∈ lw_all) (hc : aCl[ci]? = some (Cn, T, N)) (hkN : k < N) (hsame : FSame ref (T k)) (ty0 : Nat → FieldType) (hty : ∀ k, k < N → parseFieldDescriptor (T k).2.2.1 = some (ty0 k)) (hnm : ∀ a, a < N → ∀ b, b < N → a ≠ b → (T a).2.1 ≠ (T b).2.1) {ty : FieldType} (hd0 : parseFieldDescriptor (T k).2.2.1 = some ty) (hfin : (T k).2.2.2 = true) (hin2 : X.1.name = "<init>") (hdecl : (T k).1 = X.1.cls) (hq : Cond.fieldLink X.1.cls index ref (T k).2.1 (T k).2.2.1 ∈ lw_all) (hd : decode X.2.1 pc = .ok (.putfield index, 3)) : Snd MI w X d pc (pc + 3) (o_put ty ci k) := by
  intro p e R s m args below meth c Q n0 s0 res C E hE K J cf h hK hJ
  obtain ⟨a, ha, hk⟩ := og_inv h
  obtain ⟨b1, b2, g⟩ := hK _ hk
  obtain ⟨v, b, T9, hst, hr⟩ := aVR_inv ha
  cases hv : okV ty v with
  | false => simp only [hv, cond_false] at hr; cases hr
  | true =>
    simp only [hv, cond_true] at hr
    obtain ⟨fs, h1, h2, h3⟩ := wrF_inv hr
    subst h3
    obtain ⟨k1, k2⟩ := okV_ok C.2.2.2.2.2.2.2.1 hv
    refine ⟨b1, b2, fun H locs cells slots ls hP hS hn hs hl => ?_⟩
    rw [hst]
    refine va_putF C.1 C.2.1 C.2.2.2.2.2.2.1 hin ty0 hty hnm C.2.2.2.2.1 C.2.2.2.2.2.2.2.1.1 hP (wsl_D w cf.2.2) hS b (wsl_get h1) hc k hkN (C.2.2.2.2.2.2.1 _ hq) (hsame.use C.2.2.2.2.2.2.1) hfin (C.2.2.2.2.2.2.2.2.2.1.trans hin2) hdecl hd0 k1 k2 (by simpa using h2) hd fun H1 locs1 hP1 _ hS1 => ?_
    rw [← List.map_set, show (Sum.inr (ci, (fs.set k v).map (cv w)) : va_E) = cz w (.inl (ci, fs.set k v)) from rfl, wsl_set h1] at hP1
    have g9 := g H1 locs1 cells slots ls hP1 hS1 hn hs hl
    simp only [hst, List.tail_cons] at g9
    exact g9
def inb (i : Int32) (n : Nat) : Bool := !(decide (i < 0) || decide (n ≤ i.toNatClampNeg))
theorem inb_in {i : Int32} {n : Nat} (h : inb i n = true) : vp_in i n := by
  simp only [inb, Bool.not_eq_true', Bool.or_eq_false_iff, decide_eq_false_iff_not] at h
  intro hx
  rcases hx with hx | hx
  · exact h.1 hx
  · exact h.2 hx
def ldI (h : AH) (a t : Nat) (i : Int32) : Option Int32 := match aget h a with
  | some (.inr (t', n, .inl f)) => bif t' == t && inb i n then some (f i.toNatClampNeg) else none
  | _ => none
def ldL (h : AH) (a : Nat) (i : Int32) : Option Int64 := match aget h a with
  | some (.inr (t', n, .inr (.inl f))) => bif t' == 2 && inb i n then some (f i.toNatClampNeg) else none
  | _ => none
def ldQ (h : AH) (a t : Nat) (i : Int32) : Option (Option Nat) := match aget h a with
  | some (.inr (t', n, .inr (.inr f))) => bif t' == t && inb i n then some (f i.toNatClampNeg) else none
  | _ => none
def ldR (h : AH) (a t : Nat) (i : Int32) : Option Nat := match ldQ h a t i with
  | some (some r) => some r
  | _ => none
def stI (h : AH) (a t : Nat) (i x : Int32) : Option AH := match aget h a with
  | some (.inr (t', n, .inl f)) => bif t' == t && inb i n then some (hset h a (.inr (t', n, .inl (va_up f i.toNatClampNeg x)))) else none
  | _ => none
def stL (h : AH) (a : Nat) (i : Int32) (x : Int64) : Option AH := match aget h a with
  | some (.inr (t', n, .inr (.inl f))) => bif t' == 2 && inb i n then some (hset h a (.inr (t', n, .inr (.inl (va_up f i.toNatClampNeg x))))) else none
  | _ => none
/-- which classes' objects go into which arrays: State, Image into their own, others into Object[] -/
def okE (t c : Nat) : Bool := (t == 5 && c == 2) || (t == 6 && c == 13) || (t == 4 && (c == 6 || c == 7 || c == 12))
def stR (h : AH) (a t : Nat) (i : Int32) (x : Nat) : Option AH := match aget h a with
  | some (.inr (t', n, .inr (.inr f))) => match aget h x with
    | some (.inl o) => bif t' == t && inb i n && okE t o.1 then some (hset h a (.inr (t', n, .inr (.inr (va_up f i.toNatClampNeg (some x)))))) else none
    | _ => none
  | _ => none
def alen (h : AH) (a : Nat) : Option Int32 := match aget h a with
  | some (.inr (t, n, _)) => bif decide (t < 7) then some (Int32.ofNat n) else none
  | _ => none
def mkN (n : Int32) : Option Nat := bif decide (n < 0) || decide (10000 < n.toNatClampNeg) then none else some n.toNatClampNeg
theorem mkN_inv {n : Int32} {N : Nat} (h : mkN n = some N) : ¬ n < 0 ∧ n.toNatClampNeg = N ∧ N ≤ 10000 := by
  unfold mkN at h
  cases hb : (decide (n < 0) || decide (10000 < n.toNatClampNeg)) with
  | true => rw [hb] at h; cases h
  | false =>
    rw [hb] at h
    cases h
    simp only [Bool.or_eq_false_iff, decide_eq_false_iff_not] at hb
    exact ⟨hb.1, rfl, by omega⟩
theorem ldI_inv {h : AH} {a t : Nat} {i x : Int32} (e : ldI h a t i = some x) : ∃ n f, aget h a = some (.inr (t, n, .inl f)) ∧ vp_in i n ∧ f i.toNatClampNeg = x := by
  unfold ldI at e
  split at e
  next t' n f ho =>
    cases hb : (t' == t && inb i n) with
    | false => simp only [hb, cond_false] at e; cases e
    | true =>
      simp only [hb, cond_true] at e
      simp only [Bool.and_eq_true, beq_iff_eq] at hb
      obtain ⟨rfl, hb⟩ := hb
      exact ⟨n, f, ho, inb_in hb, Option.some.inj e⟩
  next => cases e
theorem ldL_inv {h : AH} {a : Nat} {i : Int32} {x : Int64} (e : ldL h a i = some x) : ∃ n f, aget h a = some (.inr (2, n, .inr (.inl f))) ∧ vp_in i n ∧ f i.toNatClampNeg = x := by
  unfold ldL at e
  split at e
  next t' n f ho =>
    cases hb : (t' == 2 && inb i n) with
    | false => simp only [hb, cond_false] at e; cases e
    | true =>
      simp only [hb, cond_true] at e
      simp only [Bool.and_eq_true, beq_iff_eq] at hb
      obtain ⟨rfl, hb⟩ := hb
      exact ⟨n, f, ho, inb_in hb, Option.some.inj e⟩
  next => cases e
theorem ldQ_inv {h : AH} {a t : Nat} {i : Int32} {x : Option Nat} (e : ldQ h a t i = some x) : ∃ n f, aget h a = some (.inr (t, n, .inr (.inr f))) ∧ vp_in i n ∧ f i.toNatClampNeg = x := by
  unfold ldQ at e
  split at e
  next t' n f ho =>
    cases hb : (t' == t && inb i n) with
    | false => simp only [hb, cond_false] at e; cases e
    | true =>
      simp only [hb, cond_true] at e
      simp only [Bool.and_eq_true, beq_iff_eq] at hb
      obtain ⟨rfl, hb⟩ := hb
      exact ⟨n, f, ho, inb_in hb, Option.some.inj e⟩
  next => cases e
theorem ldR_inv {h : AH} {a t : Nat} {i : Int32} {x : Nat} (e : ldR h a t i = some x) : ldQ h a t i = some (some x) := by
  unfold ldR at e
  split at e
  next r hr => cases e; exact hr
  next => cases e
theorem stI_inv {h h' : AH} {a t : Nat} {i x : Int32} (e : stI h a t i x = some h') : ∃ n f, aget h a = some (.inr (t, n, .inl f)) ∧ vp_in i n ∧ h' = hset h a (.inr (t, n, .inl (va_up f i.toNatClampNeg x))) := by
  unfold stI at e
  split at e
  next t' n f ho =>
    cases hb : (t' == t && inb i n) with
    | false => simp only [hb, cond_false] at e; cases e
    | true =>
      simp only [hb, cond_true] at e
      simp only [Bool.and_eq_true, beq_iff_eq] at hb
      obtain ⟨rfl, hb⟩ := hb
      exact ⟨n, f, ho, inb_in hb, (Option.some.inj e).symm⟩
  next => cases e
theorem stL_inv {h h' : AH} {a : Nat} {i : Int32} {x : Int64} (e : stL h a i x = some h') : ∃ n f, aget h a = some (.inr (2, n, .inr (.inl f))) ∧ vp_in i n ∧ h' = hset h a (.inr (2, n, .inr (.inl (va_up f i.toNatClampNeg x)))) := by
  unfold stL at e
  split at e
  next t' n f ho =>
    cases hb : (t' == 2 && inb i n) with
    | false => simp only [hb, cond_false] at e; cases e
    | true =>
      simp only [hb, cond_true] at e
      simp only [Bool.and_eq_true, beq_iff_eq] at hb
      obtain ⟨rfl, hb⟩ := hb
      exact ⟨n, f, ho, inb_in hb, (Option.some.inj e).symm⟩
  next => cases e
theorem stR_inv {h h' : AH} {a t : Nat} {i : Int32} {x : Nat} (e : stR h a t i x = some h') : ∃ n f o, aget h a = some (.inr (t, n, .inr (.inr f))) ∧ aget h x = some (.inl o) ∧ vp_in i n ∧ okE t o.1 = true ∧ h' = hset h a (.inr (t, n, .inr (.inr (va_up f i.toNatClampNeg (some x))))) := by
  unfold stR at e
  split at e
  next t' n f ho =>
    split at e
    next o hx =>
      cases hb : (t' == t && inb i n && okE t o.1) with
      | false => simp only [hb, cond_false] at e; cases e
      | true =>
        simp only [hb, cond_true] at e
        simp only [Bool.and_eq_true, beq_iff_eq] at hb
        obtain ⟨⟨rfl, hb⟩, hb2⟩ := hb
        exact ⟨n, f, o, ho, hx, inb_in hb, hb2, (Option.some.inj e).symm⟩
    next => cases e
  next => cases e
theorem alen_inv {h : AH} {a : Nat} {x : Int32} (e : alen h a = some x) : ∃ t n c, aget h a = some (.inr (t, n, c)) ∧ t < 7 ∧ Int32.ofNat n = x := by
  unfold alen at e
  split at e
  next t n c ho =>
    cases hb : decide (t < 7) with
    | false => rw [hb] at e; cases e
    | true => rw [hb] at e; cases e; exact ⟨t, n, c, ho, by simpa using hb, rfl⟩
  next => cases e
def o_iald : AOp := og (fun cf => aIR (fun a i => ldI cf.2.2 a 0 i) cf.2.1) (fun cf a => (cf.1, .int a :: cf.2.1.tail.tail, cf.2.2))
theorem snd_iald (hd : decode X.2.1 pc = .ok (.iaload, 1)) : Snd MI w X d pc (pc + 1) o_iald := by
  intro p e R s m args below meth c Q n0 s0 res C E hE K J cf h hK hJ
  obtain ⟨a, ha, hk⟩ := og_inv h
  obtain ⟨b1, b2, g⟩ := hK _ hk
  obtain ⟨i, b, T9, hst, hr⟩ := aIR_inv ha
  obtain ⟨n, f, h1, h2, h3⟩ := ldI_inv hr
  refine ⟨b1, b2, fun H locs cells slots ls hP hS hn hs hl => ?_⟩
  have g9 := (g H locs cells slots ls hP hS hn hs hl)
  simp only [hst, List.tail_cons, List.map_cons, ← h3] at g9
  rw [hst]
  exact va_iald C.1 C.2.1 C.2.2.2.2.2.2.2.1.1 hP b 0 (wsl_get h1) (tysL_get w (by decide)) h2 hd g9
def o_bald : AOp := og (fun cf => aIR (fun a i => ldI cf.2.2 a 1 i) cf.2.1) (fun cf a => (cf.1, .int a :: cf.2.1.tail.tail, cf.2.2))
theorem snd_bald (hd : decode X.2.1 pc = .ok (.baload, 1)) : Snd MI w X d pc (pc + 1) o_bald := by
  intro p e R s m args below meth c Q n0 s0 res C E hE K J cf h hK hJ
  obtain ⟨a, ha, hk⟩ := og_inv h
  obtain ⟨b1, b2, g⟩ := hK _ hk
  obtain ⟨i, b, T9, hst, hr⟩ := aIR_inv ha
  obtain ⟨n, f, h1, h2, h3⟩ := ldI_inv hr
  refine ⟨b1, b2, fun H locs cells slots ls hP hS hn hs hl => ?_⟩
  have g9 := (g H locs cells slots ls hP hS hn hs hl)
  simp only [hst, List.tail_cons, List.map_cons, ← h3] at g9
  rw [hst]
  exact va_bald C.1 C.2.1 C.2.2.2.2.2.2.2.1.1 hP b 1 (wsl_get h1) (tysL_get w (by decide)) h2 hd g9
def o_zald : AOp := og (fun cf => aIR (fun a i => ldI cf.2.2 a 3 i) cf.2.1) (fun cf a => (cf.1, .int a :: cf.2.1.tail.tail, cf.2.2))
theorem snd_zald (hd : decode X.2.1 pc = .ok (.baload, 1)) : Snd MI w X d pc (pc + 1) o_zald := by
  intro p e R s m args below meth c Q n0 s0 res C E hE K J cf h hK hJ
  obtain ⟨a, ha, hk⟩ := og_inv h
  obtain ⟨b1, b2, g⟩ := hK _ hk
  obtain ⟨i, b, T9, hst, hr⟩ := aIR_inv ha
  obtain ⟨n, f, h1, h2, h3⟩ := ldI_inv hr
  refine ⟨b1, b2, fun H locs cells slots ls hP hS hn hs hl => ?_⟩
  have g9 := (g H locs cells slots ls hP hS hn hs hl)
  simp only [hst, List.tail_cons, List.map_cons, ← h3] at g9
  rw [hst]
  exact va_zald C.1 C.2.1 C.2.2.2.2.2.2.2.1.1 hP b 3 (wsl_get h1) (tysL_get w (by decide)) h2 hd g9
def o_lald : AOp := og (fun cf => aIR (fun a i => ldL cf.2.2 a i) cf.2.1) (fun cf a => (cf.1, .long a :: cf.2.1.tail.tail, cf.2.2))
theorem snd_lald (hd : decode X.2.1 pc = .ok (.laload, 1)) : Snd MI w X d pc (pc + 1) o_lald := by
  intro p e R s m args below meth c Q n0 s0 res C E hE K J cf h hK hJ
  obtain ⟨a, ha, hk⟩ := og_inv h
  obtain ⟨b1, b2, g⟩ := hK _ hk
  obtain ⟨i, b, T9, hst, hr⟩ := aIR_inv ha
  obtain ⟨n, f, h1, h2, h3⟩ := ldL_inv hr
  refine ⟨b1, b2, fun H locs cells slots ls hP hS hn hs hl => ?_⟩
  have g9 := (g H locs cells slots ls hP hS hn hs hl)
  simp only [hst, List.tail_cons, List.map_cons, ← h3] at g9
  rw [hst]
  exact va_lald C.1 C.2.1 C.2.2.2.2.2.2.2.1.1 hP b 2 (wsl_get h1) (tysL_get w (by decide)) h2 hd g9
def aTo (t : Nat) : Option String := match aTy t with
  | .object C => some C
  | _ => none
theorem aTo_ok {t : Nat} (h4 : 4 ≤ t) (h7 : t < 7) : ∃ Cn, aTy t = .object Cn := by
  match t, h4, h7 with
  | 4, _, _ => exact ⟨_, rfl⟩
  | 5, _, _ => exact ⟨_, rfl⟩
  | 6, _, _ => exact ⟨_, rfl⟩
theorem cv_rf (w : AW) (r : Option Nat) : cv w (va_rf r) = va_rf (r.map fun k => w.2.1 + k) := by cases r <;> rfl
def o_aaldQ (t : Nat) : AOp := og (fun cf => aIR (fun a i => ldQ cf.2.2 a t i) cf.2.1) (fun cf a => (cf.1, va_rf a :: cf.2.1.tail.tail, cf.2.2))
theorem snd_aaldQ {t : Nat} (h4 : 4 ≤ t) (h7 : t < 7) (hd : decode X.2.1 pc = .ok (.aaload, 1)) : Snd MI w X d pc (pc + 1) (o_aaldQ t) := by
  intro p e R s m args below meth c Q n0 s0 res C E hE K J cf h hK hJ
  obtain ⟨a, ha, hk⟩ := og_inv h
  obtain ⟨b1, b2, g⟩ := hK _ hk
  obtain ⟨i, b, T9, hst, hr⟩ := aIR_inv ha
  obtain ⟨n, f, h1, h2, h3⟩ := ldQ_inv hr
  obtain ⟨Cn, hCn⟩ := aTo_ok h4 h7
  have ht := tysL_get w h7
  rw [hCn] at ht
  refine ⟨b1, b2, fun H locs cells slots ls hP hS hn hs hl => ?_⟩
  have g9 := (g H locs cells slots ls hP hS hn hs hl)
  simp only [hst, List.tail_cons, List.map_cons, ← h3, cv_rf] at g9
  rw [hst]
  exact va_aldq C.1 C.2.1 C.2.2.2.2.2.2.2.1.1 hP b t (wsl_get h1) ht h2 hd g9
def o_aald (t : Nat) : AOp := og (fun cf => aIR (fun a i => ldR cf.2.2 a t i) cf.2.1) (fun cf a => (cf.1, .ref a :: cf.2.1.tail.tail, cf.2.2))
theorem snd_aald {t : Nat} (h4 : 4 ≤ t) (h7 : t < 7) (hd : decode X.2.1 pc = .ok (.aaload, 1)) : Snd MI w X d pc (pc + 1) (o_aald t) := by
  intro p e R s m args below meth c Q n0 s0 res C E hE K J cf h hK hJ
  obtain ⟨a, ha, hk⟩ := og_inv h
  obtain ⟨b1, b2, g⟩ := hK _ hk
  obtain ⟨i, b, T9, hst, hr⟩ := aIR_inv ha
  obtain ⟨n, f, h1, h2, h3⟩ := ldQ_inv (ldR_inv hr)
  obtain ⟨Cn, hCn⟩ := aTo_ok h4 h7
  have ht := tysL_get w h7
  rw [hCn] at ht
  refine ⟨b1, b2, fun H locs cells slots ls hP hS hn hs hl => ?_⟩
  have g9 := (g H locs cells slots ls hP hS hn hs hl)
  simp only [hst, List.tail_cons, List.map_cons] at g9
  rw [hst]
  refine va_aldq C.1 C.2.1 C.2.2.2.2.2.2.2.1.1 hP b t (wsl_get h1) ht h2 hd ?_
  simp only [h3]
  exact g9
def o_iast : AOp := og (fun cf => aVIR (fun a i v => match v with
  | .int x => stI cf.2.2 a 0 i (x)
  | _ => none) cf.2.1) (fun cf a => (cf.1, cf.2.1.tail.tail.tail, a))
theorem snd_iast (hd : decode X.2.1 pc = .ok (.iastore, 1)) : Snd MI w X d pc (pc + 1) o_iast := by
  intro p e R s m args below meth c Q n0 s0 res C E hE K J cf h hK hJ
  obtain ⟨a, ha, hk⟩ := og_inv h
  obtain ⟨b1, b2, g⟩ := hK _ hk
  obtain ⟨v, i, b, T9, hst, hr⟩ := aVIR_inv ha
  cases v <;> first | (cases hr; done) | skip
  rename_i x0
  obtain ⟨n, f, h1, h2, h3⟩ := stI_inv hr
  subst h3
  refine ⟨b1, b2, fun H locs cells slots ls hP hS hn hs hl => ?_⟩
  rw [hst]
  refine va_iast C.1 C.2.1 C.2.2.2.2.2.2.2.1.1 hP (wsl_D w cf.2.2) hS b 0 (wsl_get h1) (tysL_get w (by decide)) h2 hd fun H1 locs1 hP1 _ hS1 => ?_
  have e1 := wsl_set (w := w) (o' := .inr (0, n, .inl (va_up f i.toNatClampNeg (x0)))) h1
  have g9 := g H1 locs1 cells slots ls (HP_eq e1 hP1) hS1 hn hs hl
  simp only [hst, List.tail_cons] at g9
  exact g9
def o_bast : AOp := og (fun cf => aVIR (fun a i v => match v with
  | .int x => stI cf.2.2 a 1 i (vp_nar .byte x)
  | _ => none) cf.2.1) (fun cf a => (cf.1, cf.2.1.tail.tail.tail, a))
theorem snd_bast (hd : decode X.2.1 pc = .ok (.bastore, 1)) : Snd MI w X d pc (pc + 1) o_bast := by
  intro p e R s m args below meth c Q n0 s0 res C E hE K J cf h hK hJ
  obtain ⟨a, ha, hk⟩ := og_inv h
  obtain ⟨b1, b2, g⟩ := hK _ hk
  obtain ⟨v, i, b, T9, hst, hr⟩ := aVIR_inv ha
  cases v <;> first | (cases hr; done) | skip
  rename_i x0
  obtain ⟨n, f, h1, h2, h3⟩ := stI_inv hr
  subst h3
  refine ⟨b1, b2, fun H locs cells slots ls hP hS hn hs hl => ?_⟩
  rw [hst]
  refine va_bast C.1 C.2.1 C.2.2.2.2.2.2.2.1.1 hP (wsl_D w cf.2.2) hS b 1 (wsl_get h1) (tysL_get w (by decide)) h2 hd fun H1 locs1 hP1 _ hS1 => ?_
  have e1 := wsl_set (w := w) (o' := .inr (1, n, .inl (va_up f i.toNatClampNeg (vp_nar .byte x0)))) h1
  have g9 := g H1 locs1 cells slots ls (HP_eq e1 hP1) hS1 hn hs hl
  simp only [hst, List.tail_cons] at g9
  exact g9
def o_zast : AOp := og (fun cf => aVIR (fun a i v => match v with
  | .int x => stI cf.2.2 a 3 i (vp_nar .boolean x)
  | _ => none) cf.2.1) (fun cf a => (cf.1, cf.2.1.tail.tail.tail, a))
theorem snd_zast (hd : decode X.2.1 pc = .ok (.bastore, 1)) : Snd MI w X d pc (pc + 1) o_zast := by
  intro p e R s m args below meth c Q n0 s0 res C E hE K J cf h hK hJ
  obtain ⟨a, ha, hk⟩ := og_inv h
  obtain ⟨b1, b2, g⟩ := hK _ hk
  obtain ⟨v, i, b, T9, hst, hr⟩ := aVIR_inv ha
  cases v <;> first | (cases hr; done) | skip
  rename_i x0
  obtain ⟨n, f, h1, h2, h3⟩ := stI_inv hr
  subst h3
  refine ⟨b1, b2, fun H locs cells slots ls hP hS hn hs hl => ?_⟩
  rw [hst]
  refine va_zast C.1 C.2.1 C.2.2.2.2.2.2.2.1.1 hP (wsl_D w cf.2.2) hS b 3 (wsl_get h1) (tysL_get w (by decide)) h2 hd fun H1 locs1 hP1 _ hS1 => ?_
  have e1 := wsl_set (w := w) (o' := .inr (3, n, .inl (va_up f i.toNatClampNeg (vp_nar .boolean x0)))) h1
  have g9 := g H1 locs1 cells slots ls (HP_eq e1 hP1) hS1 hn hs hl
  simp only [hst, List.tail_cons] at g9
  exact g9
def o_last : AOp := og (fun cf => aVIR (fun a i v => match v with
  | .long x => stL cf.2.2 a i x
  | _ => none) cf.2.1) (fun cf a => (cf.1, cf.2.1.tail.tail.tail, a))
theorem snd_last (hd : decode X.2.1 pc = .ok (.lastore, 1)) : Snd MI w X d pc (pc + 1) o_last := by
  intro p e R s m args below meth c Q n0 s0 res C E hE K J cf h hK hJ
  obtain ⟨a, ha, hk⟩ := og_inv h
  obtain ⟨b1, b2, g⟩ := hK _ hk
  obtain ⟨v, i, b, T9, hst, hr⟩ := aVIR_inv ha
  cases v <;> first | (cases hr; done) | skip
  rename_i x0
  obtain ⟨n, f, h1, h2, h3⟩ := stL_inv hr
  subst h3
  refine ⟨b1, b2, fun H locs cells slots ls hP hS hn hs hl => ?_⟩
  rw [hst]
  refine va_last C.1 C.2.1 C.2.2.2.2.2.2.2.1.1 hP (wsl_D w cf.2.2) hS b 2 (wsl_get h1) (tysL_get w (by decide)) h2 hd fun H1 locs1 hP1 _ hS1 => ?_
  have e1 := wsl_set (w := w) (o' := .inr (2, n, .inr (.inl (va_up f i.toNatClampNeg x0)))) h1
  have g9 := g H1 locs1 cells slots ls (HP_eq e1 hP1) hS1 hn hs hl
  simp only [hst, List.tail_cons] at g9
  exact g9
theorem rf_up (w : AW) (f : Nat → Option Nat) (i x : Nat) : va_up (fun j => (f j).map fun k => w.2.1 + k) i (some (w.2.1 + x)) = fun j => (va_up f i (some x) j).map fun k => w.2.1 + k := by
  funext j
  unfold va_up
  split <;> rfl
def o_aast (t : Nat) : AOp := og (fun cf => aVIR (fun a i v => match v with
  | .ref x => stR cf.2.2 a t i x
  | _ => none) cf.2.1) (fun cf a => (cf.1, cf.2.1.tail.tail.tail, a))
theorem okE_ok {t c : Nat} (h : okE t c = true) : (t = 5 ∧ c = 2) ∨ (t = 6 ∧ c = 13) ∨ (t = 4 ∧ c = 6) ∨ (t = 4 ∧ c = 7) ∨ (t = 4 ∧ c = 12) := by
  simp only [okE, Bool.or_eq_true, Bool.and_eq_true, beq_iff_eq] at h
  omega
theorem snd_aast {t : Nat} (hd : decode X.2.1 pc = .ok (.aastore, 1)) : Snd MI w X d pc (pc + 1) (o_aast t) := by
  intro p e R s m args below meth c Q n0 s0 res C E hE K J cf h hK hJ
  obtain ⟨a, ha, hk⟩ := og_inv h
  obtain ⟨b1, b2, g⟩ := hK _ hk
  obtain ⟨v, i, b, T9, hst, hr⟩ := aVIR_inv ha
  cases v <;> first | (cases hr; done) | skip
  rename_i x
  obtain ⟨n, f, ⟨ci, fs⟩, h1, hx, h2, hok, h3⟩ := stR_inv hr
  subst h3
  refine ⟨b1, b2, fun H locs cells slots ls hP hS hn hs hl => ?_⟩
  rw [hst]
  have key : ∀ (H1 : Heap) (locs1 : List Loc), va_P w.2.2.2.1 aCl ((wsl w cf.2.2).set b (w.2.1 + b, .inl (w.2.2.2.2 t, n, .inr (.inr (.inr (.inr (va_up (fun j => (f j).map fun k => w.2.1 + k) i.toNatClampNeg (some (w.2.1 + x))))))))) H1 → va_S (aA w) s.heap H1 locs1 → W p w.1 e R s m args below meth c H1 locs1 cells slots Q (F0 m (pc + 1) ls (T9.map (cv w))) := by
    intro H1 locs1 hP1 hS1
    rw [rf_up] at hP1
    have e1 := wsl_set (w := w) (o' := .inr (t, n, .inr (.inr (va_up f i.toNatClampNeg (some x))))) h1
    have g9 := g H1 locs1 cells slots ls (HP_eq e1 hP1) hS1 hn hs hl
    simp only [hst, List.tail_cons] at g9
    exact g9
  rcases okE_ok hok with ⟨ht, hc⟩ | ⟨ht, hc⟩ | ⟨ht, hc⟩ | ⟨ht, hc⟩ | ⟨ht, hc⟩ <;> (try dsimp only at hc) <;> subst ht <;> subst hc
  · exact va_astq (r := (RX2, TX2, 10)) C.1 C.2.1 C.2.2.2.2.2.2.2.1.1 hP (wsl_D w cf.2.2) hS b 5 x 2 (wsl_get h1) (tysL_get w (t := 5) (by decide)) (wsl_get hx) rfl h2 hd fun H1 locs1 hP1 _ hS1 => key H1 locs1 hP1 hS1
  · exact va_astq (r := (RX17, TX17, 8)) C.1 C.2.1 C.2.2.2.2.2.2.2.1.1 hP (wsl_D w cf.2.2) hS b 6 x 13 (wsl_get h1) (tysL_get w (t := 6) (by decide)) (wsl_get hx) rfl h2 hd fun H1 locs1 hP1 _ hS1 => key H1 locs1 hP1 hS1
  · exact va_astqO (r := (RX6, TX6, 3)) (E := "java/lang/Object") C.1 C.2.1 C.2.2.2.2.2.2.2.1.1 hP (wsl_D w cf.2.2) hS b 4 x 6 (wsl_get h1) (tysL_get w (t := 4) (by decide)) (C.2.2.2.2.2.2.2.1.2.2.1 _ q1896 rfl) (wsl_get hx) rfl h2 hd fun H1 locs1 hP1 _ hS1 => key H1 locs1 hP1 hS1
  · exact va_astqO (r := (RX7, TX7, 1)) (E := "java/lang/Object") C.1 C.2.1 C.2.2.2.2.2.2.2.1.1 hP (wsl_D w cf.2.2) hS b 4 x 7 (wsl_get h1) (tysL_get w (t := 4) (by decide)) (C.2.2.2.2.2.2.2.1.2.2.1 _ q1897 rfl) (wsl_get hx) rfl h2 hd fun H1 locs1 hP1 _ hS1 => key H1 locs1 hP1 hS1
  · exact va_astqO (r := (RX12, TX12, 2)) (E := "java/lang/Object") C.1 C.2.1 C.2.2.2.2.2.2.2.1.1 hP (wsl_D w cf.2.2) hS b 4 x 12 (wsl_get h1) (tysL_get w (t := 4) (by decide)) (C.2.2.2.2.2.2.2.1.2.2.1 _ q1901 rfl) (wsl_get hx) rfl h2 hd fun H1 locs1 hP1 _ hS1 => key H1 locs1 hP1 hS1
def o_alen : AOp := og (fun cf => aR (fun a => alen cf.2.2 a) cf.2.1) (fun cf a => (cf.1, .int a :: cf.2.1.tail, cf.2.2))
theorem snd_alen (hd : decode X.2.1 pc = .ok (.arraylength, 1)) : Snd MI w X d pc (pc + 1) o_alen := by
  intro p e R s m args below meth c Q n0 s0 res C E hE K J cf h hK hJ
  obtain ⟨a, ha, hk⟩ := og_inv h
  obtain ⟨b1, b2, g⟩ := hK _ hk
  obtain ⟨b, T9, hst, hr⟩ := aR_inv ha
  obtain ⟨t, n, cc, h1, h2, h3⟩ := alen_inv hr
  refine ⟨b1, b2, fun H locs cells slots ls hP hS hn hs hl => ?_⟩
  have g9 := (g H locs cells slots ls hP hS hn hs hl)
  simp only [hst, List.tail_cons, List.map_cons] at g9
  rw [hst]
  exact va_alen C.1 C.2.1 C.2.2.2.2.2.2.2.1.1 hP b t (wsl_get h1) (tysL_get w h2) h3 hd g9
/-- the heap's size: all that is new is in the picture -/
theorem va_newq_at {p : Program} {e : Env} {R : Room} {s : State} {m : MethodId} {args : Array Value} {below : List Frame} {meth : Method} {c : Code} {Q : State → Prop} {H1 : Heap} {locs : List Loc} {cells slots n0 : Nat} {g : JFrame} {h : AH} {q : Nat} {x : va_E}
    (hsz : s.heap.size = w.2.1 + n0) (hn : h.1 = n0 + cells) (hP : va_P w.2.2.2.1 aCl (wsl w h ++ [(q, x)]) H1) (hD : va_D (aA w) (wsl w h ++ [(q, x)]))
    (k : q = w.2.1 + h.1 → W p w.1 e R s m args below meth c H1 locs (cells + 1) slots Q g) : W p w.1 e R s m args below meth c H1 locs (cells + 1) slots Q g := by
  intro T hT XX
  have h1 : T.heap.size ≤ s.heap.size + (cells + 1) := XX.heapSize
  have hlen : (wsl w h).length = h.1 := by simp [wsl]
  have hq : (wsl w h ++ [(q, x)])[h.1]? = some (q, x) := by rw [List.getElem?_append_right (by omega), hlen]; simp
  have h2 : q < H1.size := (hP h.1 _ hq).lt
  have h3 : w.2.1 ≤ q := hD.2 h.1 _ hq
  rw [hT] at h1
  refine k ?_ T hT XX
  by_cases hlt : q < w.2.1 + h.1
  · exfalso
    have h4 : (wsl w h ++ [(q, x)])[q - w.2.1]? = some (w.2.1 + (q - w.2.1), cz w (h.2.2 (q - w.2.1))) := by
      rw [List.getElem?_append_left (by omega)]
      have : q - w.2.1 < h.1 := by omega
      simp [wsl, this]
    have := hD.1 (q - w.2.1) h.1 _ _ h4 hq (by show w.2.1 + (q - w.2.1) = q; omega)
    omega
  · omega
def o_new (ci n : Nat) (fs : List Value) : AOp := og (α := Unit) (fun _ => some ()) (fun cf _ => (cf.1, .ref cf.2.2.1 :: cf.2.1, hpush cf.2.2 n (.inl (ci, fs))))
theorem snd_new {index ci N : Nat} {Cn : String} {T : u_T} {fs : List Value} (hin : ∀ x ∈ u_ws Cn T N, x ∈ lw_all) (ty : Nat → FieldType) (hty : ∀ k, k < N → parseFieldDescriptor (T k).2.2.1 = some (ty k)) (hc : aCl[ci]? = some (Cn, T, N)) (hcl : Cond.classLink X.1.cls index Cn ∈ lw_all) (hinst : Cond.instantiable Cn N ∈ lw_all) (hini : Cond.initialized Cn ∈ lw_all)
    (hfs : ∀ j, j < N → defaultValue (ty j) = vp_V fs j) (hid : ∀ w : AW, fs.map (cv w) = fs) (hd : decode X.2.1 pc = .ok (.new index, 3)) : Snd MI w X d pc (pc + 3) (o_new ci N fs) := by
  intro p e R s m args below meth c Q n0 s0 res C E hE K J cf h hK hJ
  obtain ⟨a, ha, hk⟩ := og_inv h
  obtain ⟨b1, b2, g⟩ := hK _ hk
  refine ⟨Nat.le_trans (Nat.le_succ _) b1, Nat.le_trans (Nat.le_add_right _ _) b2, fun H locs cells slots ls hP hS hn hs hl => ?_⟩
  have c1 : cells + 1 ≤ R.cells := by
    have : cf.2.2.1 + 1 ≤ res.2.1 := b1
    have := C.2.2.2.2.2.2.2.2.2.2.2.2.1
    omega
  have c2 : slots + N ≤ R.slots := by
    have : cf.2.2.2.1 + N ≤ res.2.2.1 := b2
    have := C.2.2.2.2.2.2.2.2.2.2.2.2.2.1
    omega
  have hsz : s.heap.size = w.2.1 + n0 := C.2.2.2.2.2.2.2.2.1
  refine va_new C.1 C.2.1 C.2.2.2.2.2.2.1 hin ty hty C.2.2.2.2.1 (C.2.2.2.2.2.2.1 _ hcl) (C.2.2.2.2.2.2.1 _ hinst) (C.2.2.2.2.2.2.1 _ hini) C.2.2.2.2.2.2.2.1.1 hP (wsl_D w cf.2.2) hS (fun q hq => by show w.2.1 ≤ q; omega) hc hfs c1 c2 hd fun q H1 hP1 hD1 hS1 => ?_
  refine va_newq_at hsz hn hP1 hD1 fun hq => ?_
  subst hq
  have e1 := wsl_push (w := w) (h := cf.2.2) (n := N) (o := .inl (ci, fs))
  have hcz : cz w (.inl (ci, fs)) = .inr (ci, fs) := by show (Sum.inr (ci, fs.map (cv w)) : va_E) = _; rw [hid]
  rw [hcz] at e1
  exact g H1 locs (cells + 1) (slots + N) ls (HP_eq e1 hP1) hS1 (by show cf.2.2.1 + 1 = _; omega) (by show cf.2.2.2.1 + N = _; omega) hl
theorem ra_uniq {U : State} {c1 c2 : ClassId} {ty : FieldType} (h1 : va_RA U c1 ty) (h2 : va_RA U c2 ty) : c1 = c2 := by
  cases ty with
  | object Cn =>
    obtain ⟨_, _, _, _, _, a⟩ := h1
    obtain ⟨_, _, _, _, _, b⟩ := h2
    exact Option.some.inj (a.symm.trans b)
  | _ => exact Option.some.inj (h1.symm.trans h2)
theorem ra_last {U : State} {D : va_G} {cl : List vw_C} {cA : ClassId} {ty : FieldType} {t : Nat} (ht : t < 7) (hty : aTy t = ty) (h0 : va_K D cl (tysL w) U) (h : va_K D cl (tysL w ++ [(cA, ty)]) U) : cA = w.2.2.2.2 t := by
  have h1 := (h.2 7 (cA, ty) (by simp [tysL])).2
  have h2 := (h0.2 t _ (tysL_get w ht)).2
  rw [← hty] at h1
  exact ra_uniq h1 h2
def o_newa0 : AOp := og (fun cf => match cf.2.1 with
  | .int n :: _ => mkN n
  | _ => none) (fun cf a => (cf.1, .ref cf.2.2.1 :: cf.2.1.tail, hpush cf.2.2 a (.inr (0, a, .inl (fun _ => 0)))))
theorem snd_newa0 (hq : Cond.arrayClass (aTy 0) ∈ lw_all) (hd : decode X.2.1 pc = .ok (.newarray .int, 2)) : Snd MI w X d pc (pc + 2) o_newa0 := by
  intro p e R s m args below meth c Q n0 s0 res C E hE K J cf h hK hJ
  obtain ⟨a, ha, hk⟩ := og_inv h
  obtain ⟨b1, b2, g⟩ := hK _ hk
  obtain ⟨n, T9, hst, hr⟩ : ∃ n T9, cf.2.1 = .int n :: T9 ∧ mkN n = some a := by
    split at ha
    next n T9 e => exact ⟨n, T9, e, ha⟩
    next => cases ha
  obtain ⟨m1, m2, m3⟩ := mkN_inv hr
  refine ⟨Nat.le_trans (Nat.le_succ _) b1, Nat.le_trans (Nat.le_add_right _ _) b2, fun H locs cells slots ls hP hS hn hs hl => ?_⟩
  have c1 : cells + 1 ≤ R.cells := by
    have : cf.2.2.1 + 1 ≤ res.2.1 := b1
    have := C.2.2.2.2.2.2.2.2.2.2.2.2.1
    omega
  have c2 : slots + a ≤ R.slots := by
    have : cf.2.2.2.1 + a ≤ res.2.2.1 := b2
    have := C.2.2.2.2.2.2.2.2.2.2.2.2.2.1
    omega
  have hsz : s.heap.size = w.2.1 + n0 := C.2.2.2.2.2.2.2.2.1
  have hby : (a, (.inl (fun _ => 0) : (Nat → Int32) ⊕ (Nat → Int64) ⊕ (Nat → UInt32) ⊕ (Nat → UInt64) ⊕ (Nat → Option Nat))).1 * componentBytes (aTy 0) ≤ 536870912 := by
    have h8 : componentBytes (aTy 0) ≤ 8 := by decide
    have h9 := Nat.mul_le_mul m3 h8
    show a * componentBytes (aTy 0) ≤ 536870912
    omega
  rw [hst]
  refine va_newa (a0 := (a, .inl (fun _ => 0))) (atype := .int) (ty := aTy 0) C.1 C.2.1 (C.2.2.2.2.2.2.1 _ hq) rfl C.2.2.2.2.2.2.2.1.1 hP (wsl_D w cf.2.2) hS (fun q hq => by show w.2.1 ≤ q; omega) (fun cA => rfl) m1 m2 hby c1 c2 hd fun q cA H1 hK1 hP1 hD1 hS1 => ?_
  have hcA : cA = w.2.2.2.2 0 := ra_last (by decide) rfl C.2.2.2.2.2.2.2.1.1 hK1
  subst hcA
  refine va_newq_at hsz hn hP1 hD1 fun hq => ?_
  subst hq
  have e1 := wsl_push (w := w) (h := cf.2.2) (n := a) (o := .inr (0, a, .inl (fun _ => 0)))
  have g9 := g H1 locs (cells + 1) (slots + a) ls (HP_eq e1 hP1) hS1 (by show cf.2.2.1 + 1 = _; omega) (by show cf.2.2.2.1 + a = _; omega) hl
  simp only [hst, List.tail_cons, List.map_cons] at g9
  exact g9
def o_newa1 : AOp := og (fun cf => match cf.2.1 with
  | .int n :: _ => mkN n
  | _ => none) (fun cf a => (cf.1, .ref cf.2.2.1 :: cf.2.1.tail, hpush cf.2.2 a (.inr (1, a, .inl (fun _ => 0)))))
theorem snd_newa1 (hq : Cond.arrayClass (aTy 1) ∈ lw_all) (hd : decode X.2.1 pc = .ok (.newarray .byte, 2)) : Snd MI w X d pc (pc + 2) o_newa1 := by
  intro p e R s m args below meth c Q n0 s0 res C E hE K J cf h hK hJ
  obtain ⟨a, ha, hk⟩ := og_inv h
  obtain ⟨b1, b2, g⟩ := hK _ hk
  obtain ⟨n, T9, hst, hr⟩ : ∃ n T9, cf.2.1 = .int n :: T9 ∧ mkN n = some a := by
    split at ha
    next n T9 e => exact ⟨n, T9, e, ha⟩
    next => cases ha
  obtain ⟨m1, m2, m3⟩ := mkN_inv hr
  refine ⟨Nat.le_trans (Nat.le_succ _) b1, Nat.le_trans (Nat.le_add_right _ _) b2, fun H locs cells slots ls hP hS hn hs hl => ?_⟩
  have c1 : cells + 1 ≤ R.cells := by
    have : cf.2.2.1 + 1 ≤ res.2.1 := b1
    have := C.2.2.2.2.2.2.2.2.2.2.2.2.1
    omega
  have c2 : slots + a ≤ R.slots := by
    have : cf.2.2.2.1 + a ≤ res.2.2.1 := b2
    have := C.2.2.2.2.2.2.2.2.2.2.2.2.2.1
    omega
  have hsz : s.heap.size = w.2.1 + n0 := C.2.2.2.2.2.2.2.2.1
  have hby : (a, (.inl (fun _ => 0) : (Nat → Int32) ⊕ (Nat → Int64) ⊕ (Nat → UInt32) ⊕ (Nat → UInt64) ⊕ (Nat → Option Nat))).1 * componentBytes (aTy 1) ≤ 536870912 := by
    have h8 : componentBytes (aTy 1) ≤ 8 := by decide
    have h9 := Nat.mul_le_mul m3 h8
    show a * componentBytes (aTy 1) ≤ 536870912
    omega
  rw [hst]
  refine va_newa (a0 := (a, .inl (fun _ => 0))) (atype := .byte) (ty := aTy 1) C.1 C.2.1 (C.2.2.2.2.2.2.1 _ hq) rfl C.2.2.2.2.2.2.2.1.1 hP (wsl_D w cf.2.2) hS (fun q hq => by show w.2.1 ≤ q; omega) (fun cA => rfl) m1 m2 hby c1 c2 hd fun q cA H1 hK1 hP1 hD1 hS1 => ?_
  have hcA : cA = w.2.2.2.2 1 := ra_last (by decide) rfl C.2.2.2.2.2.2.2.1.1 hK1
  subst hcA
  refine va_newq_at hsz hn hP1 hD1 fun hq => ?_
  subst hq
  have e1 := wsl_push (w := w) (h := cf.2.2) (n := a) (o := .inr (1, a, .inl (fun _ => 0)))
  have g9 := g H1 locs (cells + 1) (slots + a) ls (HP_eq e1 hP1) hS1 (by show cf.2.2.1 + 1 = _; omega) (by show cf.2.2.2.1 + a = _; omega) hl
  simp only [hst, List.tail_cons, List.map_cons] at g9
  exact g9
def o_newa2 : AOp := og (fun cf => match cf.2.1 with
  | .int n :: _ => mkN n
  | _ => none) (fun cf a => (cf.1, .ref cf.2.2.1 :: cf.2.1.tail, hpush cf.2.2 a (.inr (2, a, .inr (.inl (fun _ => 0))))))
theorem snd_newa2 (hq : Cond.arrayClass (aTy 2) ∈ lw_all) (hd : decode X.2.1 pc = .ok (.newarray .long, 2)) : Snd MI w X d pc (pc + 2) o_newa2 := by
  intro p e R s m args below meth c Q n0 s0 res C E hE K J cf h hK hJ
  obtain ⟨a, ha, hk⟩ := og_inv h
  obtain ⟨b1, b2, g⟩ := hK _ hk
  obtain ⟨n, T9, hst, hr⟩ : ∃ n T9, cf.2.1 = .int n :: T9 ∧ mkN n = some a := by
    split at ha
    next n T9 e => exact ⟨n, T9, e, ha⟩
    next => cases ha
  obtain ⟨m1, m2, m3⟩ := mkN_inv hr
  refine ⟨Nat.le_trans (Nat.le_succ _) b1, Nat.le_trans (Nat.le_add_right _ _) b2, fun H locs cells slots ls hP hS hn hs hl => ?_⟩
  have c1 : cells + 1 ≤ R.cells := by
    have : cf.2.2.1 + 1 ≤ res.2.1 := b1
    have := C.2.2.2.2.2.2.2.2.2.2.2.2.1
    omega
  have c2 : slots + a ≤ R.slots := by
    have : cf.2.2.2.1 + a ≤ res.2.2.1 := b2
    have := C.2.2.2.2.2.2.2.2.2.2.2.2.2.1
    omega
  have hsz : s.heap.size = w.2.1 + n0 := C.2.2.2.2.2.2.2.2.1
  have hby : (a, (.inr (.inl (fun _ => 0)) : (Nat → Int32) ⊕ (Nat → Int64) ⊕ (Nat → UInt32) ⊕ (Nat → UInt64) ⊕ (Nat → Option Nat))).1 * componentBytes (aTy 2) ≤ 536870912 := by
    have h8 : componentBytes (aTy 2) ≤ 8 := by decide
    have h9 := Nat.mul_le_mul m3 h8
    show a * componentBytes (aTy 2) ≤ 536870912
    omega
  rw [hst]
  refine va_newa (a0 := (a, .inr (.inl (fun _ => 0)))) (atype := .long) (ty := aTy 2) C.1 C.2.1 (C.2.2.2.2.2.2.1 _ hq) rfl C.2.2.2.2.2.2.2.1.1 hP (wsl_D w cf.2.2) hS (fun q hq => by show w.2.1 ≤ q; omega) (fun cA => rfl) m1 m2 hby c1 c2 hd fun q cA H1 hK1 hP1 hD1 hS1 => ?_
  have hcA : cA = w.2.2.2.2 2 := ra_last (by decide) rfl C.2.2.2.2.2.2.2.1.1 hK1
  subst hcA
  refine va_newq_at hsz hn hP1 hD1 fun hq => ?_
  subst hq
  have e1 := wsl_push (w := w) (h := cf.2.2) (n := a) (o := .inr (2, a, .inr (.inl (fun _ => 0))))
  have g9 := g H1 locs (cells + 1) (slots + a) ls (HP_eq e1 hP1) hS1 (by show cf.2.2.1 + 1 = _; omega) (by show cf.2.2.2.1 + a = _; omega) hl
  simp only [hst, List.tail_cons, List.map_cons] at g9
  exact g9
def o_newa3 : AOp := og (fun cf => match cf.2.1 with
  | .int n :: _ => mkN n
  | _ => none) (fun cf a => (cf.1, .ref cf.2.2.1 :: cf.2.1.tail, hpush cf.2.2 a (.inr (3, a, .inl (fun _ => 0)))))
theorem snd_newa3 (hq : Cond.arrayClass (aTy 3) ∈ lw_all) (hd : decode X.2.1 pc = .ok (.newarray .boolean, 2)) : Snd MI w X d pc (pc + 2) o_newa3 := by
  intro p e R s m args below meth c Q n0 s0 res C E hE K J cf h hK hJ
  obtain ⟨a, ha, hk⟩ := og_inv h
  obtain ⟨b1, b2, g⟩ := hK _ hk
  obtain ⟨n, T9, hst, hr⟩ : ∃ n T9, cf.2.1 = .int n :: T9 ∧ mkN n = some a := by
    split at ha
    next n T9 e => exact ⟨n, T9, e, ha⟩
    next => cases ha
  obtain ⟨m1, m2, m3⟩ := mkN_inv hr
  refine ⟨Nat.le_trans (Nat.le_succ _) b1, Nat.le_trans (Nat.le_add_right _ _) b2, fun H locs cells slots ls hP hS hn hs hl => ?_⟩
  have c1 : cells + 1 ≤ R.cells := by
    have : cf.2.2.1 + 1 ≤ res.2.1 := b1
    have := C.2.2.2.2.2.2.2.2.2.2.2.2.1
    omega
  have c2 : slots + a ≤ R.slots := by
    have : cf.2.2.2.1 + a ≤ res.2.2.1 := b2
    have := C.2.2.2.2.2.2.2.2.2.2.2.2.2.1
    omega
  have hsz : s.heap.size = w.2.1 + n0 := C.2.2.2.2.2.2.2.2.1
  have hby : (a, (.inl (fun _ => 0) : (Nat → Int32) ⊕ (Nat → Int64) ⊕ (Nat → UInt32) ⊕ (Nat → UInt64) ⊕ (Nat → Option Nat))).1 * componentBytes (aTy 3) ≤ 536870912 := by
    have h8 : componentBytes (aTy 3) ≤ 8 := by decide
    have h9 := Nat.mul_le_mul m3 h8
    show a * componentBytes (aTy 3) ≤ 536870912
    omega
  rw [hst]
  refine va_newa (a0 := (a, .inl (fun _ => 0))) (atype := .boolean) (ty := aTy 3) C.1 C.2.1 (C.2.2.2.2.2.2.1 _ hq) rfl C.2.2.2.2.2.2.2.1.1 hP (wsl_D w cf.2.2) hS (fun q hq => by show w.2.1 ≤ q; omega) (fun cA => rfl) m1 m2 hby c1 c2 hd fun q cA H1 hK1 hP1 hD1 hS1 => ?_
  have hcA : cA = w.2.2.2.2 3 := ra_last (by decide) rfl C.2.2.2.2.2.2.2.1.1 hK1
  subst hcA
  refine va_newq_at hsz hn hP1 hD1 fun hq => ?_
  subst hq
  have e1 := wsl_push (w := w) (h := cf.2.2) (n := a) (o := .inr (3, a, .inl (fun _ => 0)))
  have g9 := g H1 locs (cells + 1) (slots + a) ls (HP_eq e1 hP1) hS1 (by show cf.2.2.1 + 1 = _; omega) (by show cf.2.2.2.1 + a = _; omega) hl
  simp only [hst, List.tail_cons, List.map_cons] at g9
  exact g9
def o_newq (t : Nat) : AOp := og (fun cf => match cf.2.1 with
  | .int n :: _ => mkN n
  | _ => none) (fun cf a => (cf.1, .ref cf.2.2.1 :: cf.2.1.tail, hpush cf.2.2 a (.inr (t, a, .inr (.inr (fun _ => none))))))
theorem snd_newq {t index : Nat} {Cn : String} (ht : t < 7) (hty : aTy t = .object Cn) (hAO : ∀ U, AEnv w U → va_AO Cn U) (hq : Cond.classLink X.1.cls index Cn ∈ lw_all) (hd : decode X.2.1 pc = .ok (.anewarray index, 3)) : Snd MI w X d pc (pc + 3) (o_newq t) := by
  intro p e R s m args below meth c Q n0 s0 res C E hE K J cf h hK hJ
  obtain ⟨a, ha, hk⟩ := og_inv h
  obtain ⟨b1, b2, g⟩ := hK _ hk
  obtain ⟨n, T9, hst, hr⟩ : ∃ n T9, cf.2.1 = .int n :: T9 ∧ mkN n = some a := by
    split at ha
    next n T9 e => exact ⟨n, T9, e, ha⟩
    next => cases ha
  obtain ⟨m1, m2, m3⟩ := mkN_inv hr
  refine ⟨Nat.le_trans (Nat.le_succ _) b1, Nat.le_trans (Nat.le_add_right _ _) b2, fun H locs cells slots ls hP hS hn hs hl => ?_⟩
  have c1 : cells + 1 ≤ R.cells := by
    have : cf.2.2.1 + 1 ≤ res.2.1 := b1
    have := C.2.2.2.2.2.2.2.2.2.2.2.2.1
    omega
  have c2 : slots + a ≤ R.slots := by
    have : cf.2.2.2.1 + a ≤ res.2.2.1 := b2
    have := C.2.2.2.2.2.2.2.2.2.2.2.2.2.1
    omega
  have hsz : s.heap.size = w.2.1 + n0 := C.2.2.2.2.2.2.2.2.1
  rw [hst]
  refine va_newq C.1 C.2.1 C.2.2.2.2.1 (C.2.2.2.2.2.2.1 _ hq) (hAO s C.2.2.2.2.2.2.2.1) C.2.2.2.2.2.2.2.1.1 hP (wsl_D w cf.2.2) hS (fun q hq => by show w.2.1 ≤ q; omega) m1 m2 (by omega) c1 c2 hd fun q cA H1 hK1 hP1 hD1 hS1 => ?_
  have hcA : cA = w.2.2.2.2 t := ra_last ht hty C.2.2.2.2.2.2.2.1.1 hK1
  subst hcA
  refine va_newq_at hsz hn hP1 hD1 fun hq => ?_
  subst hq
  have e1 := wsl_push (w := w) (h := cf.2.2) (n := a) (o := .inr (t, a, .inr (.inr (fun _ => none))))
  have g9 := g H1 locs (cells + 1) (slots + a) ls (HP_eq e1 hP1) hS1 (by show cf.2.2.1 + 1 = _; omega) (by show cf.2.2.2.1 + a = _; omega) hl
  simp only [hst, List.tail_cons, List.map_cons] at g9
  exact g9
end SND2
