/-! AM: a small machine over cells that are numbered as they are made. A cell is an object (class number, fields) or an array (type number, length, contents). -/
abbrev AO : Type := (Nat × List Value) ⊕ (Nat × Nat × ((Nat → Int32) ⊕ (Nat → Int64) ⊕ (Nat → Option Nat)))
/-- cells made, places used, contents -/
abbrev AH : Type := Nat × Nat × (Nat → AO)
abbrev ARes : Type := (Option Value ⊕ Nat) × AH
abbrev AEn : Type := Nat → List Value → AH → Option ARes
abbrev ALv : Type := List (Nat × Value)
abbrev ACf : Type := ALv × List Value × AH
abbrev AOp : Type := AEn → (ACf → Option ARes) → (Nat → ACf → Option ARes) → ACf → Option ARes
abbrev ATb : Type := Nat → Option (List AOp)
def lget : ALv → Nat → Option Value
  | [], _ => none
  | (i, v) :: L, k => bif i == k then some v else lget L k
def lkeep (L : ALv) : List Nat → ALv
  | [] => []
  | k :: ks => match lget L k with
    | some v => (k, v) :: lkeep L ks
    | none => lkeep L ks
abbrev lset1 (L : ALv) (i : Nat) (v : Value) : ALv := (i, v) :: L.filter (fun q => !(q.1 == i) && !(q.1 + 1 == i && q.2.category == 2))
abbrev lset2 (L : ALv) (i : Nat) (v : Value) : ALv := (i, v) :: L.filter (fun q => !(q.1 == i) && (!(q.1 == i + 1) && !(q.1 + 1 == i && q.2.category == 2)))
abbrev kp (ks : List Nat) (cf : ACf) : ACf := (lkeep cf.1 ks, cf.2.1, cf.2.2)
def thr : Nat → AH → Option ARes := fun q h => some (.inr q, h)
def rI (x : Option ARes) (k : Int32 → AH → Option ARes) (kx : Nat → AH → Option ARes) : Option ARes := match x with
  | some (.inl (some (.int i)), h) => k i h
  | some (.inr q, h) => kx q h
  | _ => none
def rL (x : Option ARes) (k : Int64 → AH → Option ARes) (kx : Nat → AH → Option ARes) : Option ARes := match x with
  | some (.inl (some (.long i)), h) => k i h
  | some (.inr q, h) => kx q h
  | _ => none
def rR (x : Option ARes) (k : Nat → AH → Option ARes) (kx : Nat → AH → Option ARes) : Option ARes := match x with
  | some (.inl (some (.ref i)), h) => k i h
  | some (.inr q, h) => kx q h
  | _ => none
def rV (x : Option ARes) (k : AH → Option ARes) (kx : Nat → AH → Option ARes) : Option ARes := match x with
  | some (.inl none, h) => k h
  | some (.inr q, h) => kx q h
  | _ => none
def aget (h : AH) (a : Nat) : Option AO := if a < h.1 then some (h.2.2 a) else none
/-! ops by shapes -/
def og {α : Type} (acc : ACf → Option α) (f : ACf → α → ACf) : AOp := fun _ K _ cf => (acc cf).bind fun a => K (f cf a)
def ojmp {α : Type} (acc : ACf → Option α) (f : ACf → α → ACf) (t : Nat) (ks : List Nat) : AOp := fun _ _ J cf => (acc cf).bind fun a => J t (kp ks (f cf a))
def oif {α : Type} (acc : ACf → Option α) (p : α → Bool) (f : ACf → α → ACf) (t : Nat) (kt : List Nat) (n : Nat) (kn : List Nat) : AOp := fun _ _ J cf => (acc cf).bind fun a => bif p a then J t (kp kt (f cf a)) else J n (kp kn (f cf a))
def swJ (J : Nat → ACf → Option ARes) (cf : ACf) (x : Int32) (d : Nat × List Nat) : List (Int32 × Nat × List Nat) → Option ARes
  | [] => J d.1 (kp d.2 cf)
  | (v, t, ks) :: r => bif x == v then J t (kp ks cf) else swJ J cf x d r
def osw (acc : ACf → Option (Int32 × List Value)) (d : Nat × List Nat) (cs : List (Int32 × Nat × List Nat)) : AOp := fun _ _ J cf => (acc cf).bind fun a => swJ J (cf.1, a.2, cf.2.2) a.1 d cs
def oend {α : Type} (acc : ACf → Option α) (f : ACf → α → ARes) : AOp := fun _ _ _ cf => (acc cf).bind fun a => some (f cf a)
/-- what a call does with an exception: it goes on to the caller, or to a handler (0: there is none) -/
abbrev AX : Type := Option (Nat × List Nat)
def onx (x : AX) (J : Nat → ACf → Option ARes) (L : ALv) : Nat → AH → Option ARes := match x with
  | none => thr
  | some (0, _) => fun _ _ => none
  | some (t + 1, ks) => fun q h => J (t + 1) (kp ks (L, [.ref q], h))
def ocI (y n : Nat) (x : AX) : AOp := fun E K J cf => rI (E y (cf.2.1.take n).reverse cf.2.2) (fun i h => K (cf.1, .int i :: cf.2.1.drop n, h)) (onx x J cf.1)
def ocL (y n : Nat) (x : AX) : AOp := fun E K J cf => rL (E y (cf.2.1.take n).reverse cf.2.2) (fun i h => K (cf.1, .long i :: cf.2.1.drop n, h)) (onx x J cf.1)
def ocR (y n : Nat) (x : AX) : AOp := fun E K J cf => rR (E y (cf.2.1.take n).reverse cf.2.2) (fun i h => K (cf.1, .ref i :: cf.2.1.drop n, h)) (onx x J cf.1)
def ocV (y n : Nat) (x : AX) : AOp := fun E K J cf => rV (E y (cf.2.1.take n).reverse cf.2.2) (fun h => K (cf.1, cf.2.1.drop n, h)) (onx x J cf.1)
/-- an op goes on at one place at most -/
def ALoc (o : AOp) : Prop := ∀ E K J cf r, o E K J cf = some r → (∃ c, K c = some r ∧ ∀ K' J', K' c = some r → o E K' J' cf = some r) ∨ (∃ pc c, J pc c = some r ∧ ∀ K' J', J' pc c = some r → o E K' J' cf = some r) ∨ (∀ K' J', o E K' J' cf = some r)
theorem og_loc {α : Type} (acc : ACf → Option α) (f : ACf → α → ACf) : ALoc (og acc f) := by
  intro E K J cf r h
  unfold og at h ⊢
  cases ha : acc cf with
  | none => rw [ha] at h; cases h
  | some a => rw [ha] at h; exact Or.inl ⟨f cf a, h, fun K' J' hk => hk⟩
theorem ojmp_loc {α : Type} (acc : ACf → Option α) (f : ACf → α → ACf) (t : Nat) (ks : List Nat) : ALoc (ojmp acc f t ks) := by
  intro E K J cf r h
  unfold ojmp at h ⊢
  cases ha : acc cf with
  | none => rw [ha] at h; cases h
  | some a => rw [ha] at h; exact Or.inr (Or.inl ⟨t, _, h, fun K' J' hk => hk⟩)
theorem oif_loc {α : Type} (acc : ACf → Option α) (p : α → Bool) (f : ACf → α → ACf) (t : Nat) (kt : List Nat) (n : Nat) (kn : List Nat) : ALoc (oif acc p f t kt n kn) := by
  intro E K J cf r h
  unfold oif at h ⊢
  cases ha : acc cf with
  | none => rw [ha] at h; cases h
  | some a =>
    rw [ha] at h
    simp only [Option.bind_some] at h ⊢
    cases hp : p a with
    | true => rw [hp] at h; exact Or.inr (Or.inl ⟨t, _, h, fun K' J' hk => hk⟩)
    | false => rw [hp] at h; exact Or.inr (Or.inl ⟨n, _, h, fun K' J' hk => hk⟩)
theorem swJ_at (cf : ACf) (x : Int32) (d : Nat × List Nat) (cs : List (Int32 × Nat × List Nat)) : ∃ t ks, (∀ J, swJ J cf x d cs = J t (kp ks cf)) ∧ ((t, ks) = d ∧ (∀ q ∈ cs, q.1 ≠ x) ∨ (x, t, ks) ∈ cs) := by
  induction cs with
  | nil => exact ⟨d.1, d.2, fun J => rfl, Or.inl ⟨rfl, fun q h => nomatch h⟩⟩
  | cons q r ih =>
    obtain ⟨v, t, ks⟩ := q
    by_cases hx : x = v
    · subst hx
      exact ⟨t, ks, fun J => by simp [swJ], Or.inr List.mem_cons_self⟩
    · obtain ⟨t', ks', h1, h2⟩ := ih
      refine ⟨t', ks', fun J => ?_, ?_⟩
      · have hb : (x == v) = false := by simp [hx]
        simp only [swJ, hb, cond_false]
        exact h1 J
      · rcases h2 with ⟨e, h2⟩ | h2
        · exact Or.inl ⟨e, fun q hq => by
            rcases List.mem_cons.mp hq with rfl | hq
            · exact fun e => hx e.symm
            · exact h2 q hq⟩
        · exact Or.inr (List.mem_cons_of_mem _ h2)
theorem osw_loc (acc : ACf → Option (Int32 × List Value)) (d : Nat × List Nat) (cs : List (Int32 × Nat × List Nat)) : ALoc (osw acc d cs) := by
  intro E K J cf r h
  unfold osw at h ⊢
  cases ha : acc cf with
  | none => rw [ha] at h; cases h
  | some a =>
    rw [ha] at h
    simp only [Option.bind_some] at h ⊢
    obtain ⟨t, ks, h1, -⟩ := swJ_at (cf.1, a.2, cf.2.2) a.1 d cs
    rw [h1] at h
    exact Or.inr (Or.inl ⟨t, _, h, fun K' J' hk => by rw [h1]; exact hk⟩)
theorem oend_loc {α : Type} (acc : ACf → Option α) (f : ACf → α → ARes) : ALoc (oend acc f) := by
  intro E K J cf r h
  exact Or.inr (Or.inr fun K' J' => h)
theorem onx_loc {x : AX} {J : Nat → ACf → Option ARes} {L : ALv} {q : Nat} {h : AH} {r : ARes} (e : onx x J L q h = some r) : (∃ pc c, J pc c = some r ∧ ∀ J' : Nat → ACf → Option ARes, J' pc c = some r → onx x J' L q h = some r) ∨ (∀ J', onx x J' L q h = some r) := by
  match x, e with
  | none, e => exact Or.inr fun J' => e
  | some (0, _), e => exact absurd e (fun h => nomatch h)
  | some (t + 1, ks), e => exact Or.inl ⟨t + 1, _, e, fun J' h => h⟩
theorem ocI_loc (y n : Nat) (x : AX) : ALoc (ocI y n x) := by
  intro E K J cf r h
  unfold ocI at h ⊢
  rcases hE : E y (cf.2.1.take n).reverse cf.2.2 with _ | ⟨(_ | (v | v | v | v | _ | v | v)) | q, h'⟩ <;> rw [hE] at h <;> try (simp [rI] at h; done)
  · exact Or.inl ⟨_, h, fun K' J' hk => hk⟩
  · rcases onx_loc (show onx x J cf.1 q h' = some r from h) with ⟨pc, c, h1, h2⟩ | h2
    · exact Or.inr (Or.inl ⟨pc, c, h1, fun K' J' hk => h2 J' hk⟩)
    · exact Or.inr (Or.inr fun K' J' => h2 J')
theorem ocL_loc (y n : Nat) (x : AX) : ALoc (ocL y n x) := by
  intro E K J cf r h
  unfold ocL at h ⊢
  rcases hE : E y (cf.2.1.take n).reverse cf.2.2 with _ | ⟨(_ | (v | v | v | v | _ | v | v)) | q, h'⟩ <;> rw [hE] at h <;> try (simp [rL] at h; done)
  · exact Or.inl ⟨_, h, fun K' J' hk => hk⟩
  · rcases onx_loc (show onx x J cf.1 q h' = some r from h) with ⟨pc, c, h1, h2⟩ | h2
    · exact Or.inr (Or.inl ⟨pc, c, h1, fun K' J' hk => h2 J' hk⟩)
    · exact Or.inr (Or.inr fun K' J' => h2 J')
theorem ocR_loc (y n : Nat) (x : AX) : ALoc (ocR y n x) := by
  intro E K J cf r h
  unfold ocR at h ⊢
  rcases hE : E y (cf.2.1.take n).reverse cf.2.2 with _ | ⟨(_ | (v | v | v | v | _ | v | v)) | q, h'⟩ <;> rw [hE] at h <;> try (simp [rR] at h; done)
  · exact Or.inl ⟨_, h, fun K' J' hk => hk⟩
  · rcases onx_loc (show onx x J cf.1 q h' = some r from h) with ⟨pc, c, h1, h2⟩ | h2
    · exact Or.inr (Or.inl ⟨pc, c, h1, fun K' J' hk => h2 J' hk⟩)
    · exact Or.inr (Or.inr fun K' J' => h2 J')
theorem ocV_loc (y n : Nat) (x : AX) : ALoc (ocV y n x) := by
  intro E K J cf r h
  unfold ocV at h ⊢
  rcases hE : E y (cf.2.1.take n).reverse cf.2.2 with _ | ⟨(_ | (v | v | v | v | _ | v | v)) | q, h'⟩ <;> rw [hE] at h <;> try (simp [rV] at h; done)
  · exact Or.inl ⟨_, h, fun K' J' hk => hk⟩
  · rcases onx_loc (show onx x J cf.1 q h' = some r from h) with ⟨pc, c, h1, h2⟩ | h2
    · exact Or.inr (Or.inl ⟨pc, c, h1, fun K' J' hk => h2 J' hk⟩)
    · exact Or.inr (Or.inr fun K' J' => h2 J')
/-! blocks, methods -/
def runB : List AOp → AEn → (Nat → ACf → Option ARes) → ACf → Option ARes
  | [], _, _, _ => none
  | o :: os, E, J, cf => o E (fun c => runB os E J c) J cf
theorem runB_loc : ∀ (ops : List AOp), (∀ o ∈ ops, ALoc o) → ∀ E J cf r, runB ops E J cf = some r → (∃ pc c, J pc c = some r ∧ ∀ J', J' pc c = some r → runB ops E J' cf = some r) ∨ (∀ J', runB ops E J' cf = some r)
  | [], _, _, _, _, _, h => by cases h
  | o :: os, ho, E, J, cf, r, h => by
    rcases ho o List.mem_cons_self E _ J cf r h with ⟨c, h1, h2⟩ | ⟨pc, c, h1, h2⟩ | h2
    · rcases runB_loc os (fun x hx => ho x (List.mem_cons_of_mem _ hx)) E J c r h1 with ⟨pc, c', g1, g2⟩ | g2
      · exact Or.inl ⟨pc, c', g1, fun J' hJ => h2 _ J' (g2 J' hJ)⟩
      · exact Or.inr fun J' => h2 _ J' (g2 J')
    · exact Or.inl ⟨pc, c, h1, fun J' hJ => h2 _ J' hJ⟩
    · exact Or.inr fun J' => h2 _ J'
def evN (T : ATb) (E : AEn) : Nat → Nat → ACf → Option ARes
  | 0, _, _ => none
  | n + 1, pc, cf => match T pc with
    | none => none
    | some ops => runB ops E (evN T E n) cf
def TLoc (T : ATb) : Prop := ∀ pc ops, T pc = some ops → ∀ o ∈ ops, ALoc o
theorem evN_succ {T : ATb} {E : AEn} (hT : TLoc T) : ∀ n pc cf r, evN T E n pc cf = some r → evN T E (n + 1) pc cf = some r
  | 0, _, _, _, h => by cases h
  | n + 1, pc, cf, r, h => by
    unfold evN at h ⊢
    cases hp : T pc with
    | none => rw [hp] at h; cases h
    | some ops =>
      rw [hp] at h
      rcases runB_loc ops (hT pc ops hp) E _ cf r h with ⟨pc', c, h1, h2⟩ | h2
      · exact h2 _ (evN_succ hT n pc' c r h1)
      · exact h2 _
theorem evN_mono {T : ATb} {E : AEn} (hT : TLoc T) {n pc cf r} (h : evN T E n pc cf = some r) : ∀ k, evN T E (n + k) pc cf = some r
  | 0 => h
  | k + 1 => evN_succ hT _ _ _ _ (evN_mono hT h k)
theorem evN_det {T : ATb} {E : AEn} (hT : TLoc T) {n m pc cf r r'} (h : evN T E n pc cf = some r) (h' : evN T E m pc cf = some r') : r = r' := by
  have a := evN_mono hT h m
  have b := evN_mono hT h' n
  rw [Nat.add_comm] at b
  exact Option.some.inj (a.symm.trans b)

noncomputable def evR (T : ATb) (E : AEn) (pc : Nat) (cf : ACf) : Option ARes := letI := Classical.propDecidable; if h : ∃ r, ∃ n, evN T E n pc cf = some r then some h.choose else none
theorem evR_iff {T : ATb} {E : AEn} (hT : TLoc T) {pc : Nat} {cf : ACf} {r : ARes} : evR T E pc cf = some r ↔ ∃ n, evN T E n pc cf = some r := by
  unfold evR
  constructor
  · intro h
    split at h
    next hx =>
      cases h
      exact hx.choose_spec
    next => cases h
  · intro h
    have hx : ∃ r, ∃ n, evN T E n pc cf = some r := ⟨r, h⟩
    rw [dif_pos hx]
    obtain ⟨n, hn⟩ := h
    obtain ⟨m, hm⟩ := hx.choose_spec
    rw [evN_det hT hm hn]
theorem evR_eq {T : ATb} {E : AEn} (hT : TLoc T) {pc : Nat} {ops : List AOp} (hp : T pc = some ops) (cf : ACf) : evR T E pc cf = runB ops E (evR T E) cf := by
  apply Option.ext
  intro r
  rw [evR_iff hT]
  constructor
  · rintro ⟨n, h⟩
    cases n with
    | zero => cases h
    | succ n =>
      unfold evN at h
      rw [hp] at h
      rcases runB_loc ops (hT pc ops hp) E _ cf r h with ⟨pc', c, h1, h2⟩ | h2
      · exact h2 _ ((evR_iff hT).mpr ⟨n, h1⟩)
      · exact h2 _
  · intro h
    rcases runB_loc ops (hT pc ops hp) E _ cf r h with ⟨pc', c, h1, h2⟩ | h2
    · obtain ⟨n, hn⟩ := (evR_iff hT).mp h1
      exact ⟨n + 1, by unfold evN; rw [hp]; exact h2 _ hn⟩
    · exact ⟨1, by unfold evN; rw [hp]; exact h2 _⟩
