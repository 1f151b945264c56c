/-! the small machine's cells among the real ones: cell k lies at base + k; .retAddr i stands for a value that was there before -/
/-- launch, base, values from before, class numbers and places of fields, array classes by type number -/
abbrev AW : Type := Launch × Nat × (Nat → Value) × va_G × (Nat → ClassId)
def TWr : u_T := fun k => match k with
  | _ => ("SmokeWord$Wrong", "number", "I", false)
abbrev aCl : List vw_C := [(RX0, TX0, 28), (RX1, TX1, 5), (RX2, TX2, 10), (RX3, TWr, 1), (RX4, TX4, 43), (RX5, TX5, 7), (RX6, TX6, 3), (RX7, TX7, 1), (RJ2, TJ2, 3), (RX9, TX9, 1), (RX10, TX10, 1), (RX11, TX11, 3), (RX12, TX12, 2), (RX17, TX17, 8), (RX14, TX14, 1), (RX15, TX15, 4), (RX16, TX16, 3)]
def aTy : Nat → FieldType := fun t => match t with
  | 0 => .int
  | 1 => .byte
  | 2 => .long
  | 3 => .boolean
  | 4 => .object "java/lang/Object"
  | 5 => .object "SmokeWord$State"
  | _ => .object "SmokeWord$Image"
def tysL (w : AW) : List (ClassId × FieldType) := (List.range 7).map fun t => (w.2.2.2.2 t, aTy t)
def cv (w : AW) (v : Value) : Value := match v with
  | .ref k => .ref (w.2.1 + k)
  | .retAddr i => w.2.2.1 i
  | v => v
def czA (w : AW) (c : (Nat → Int32) ⊕ (Nat → Int64) ⊕ (Nat → Option Nat)) : (Nat → Int32) ⊕ (Nat → Int64) ⊕ (Nat → UInt32) ⊕ (Nat → UInt64) ⊕ (Nat → Option Nat) := match c with
  | .inl f => .inl f
  | .inr (.inl f) => .inr (.inl f)
  | .inr (.inr g) => .inr (.inr (.inr (.inr (fun j => (g j).map (fun k => w.2.1 + k)))))
def cz (w : AW) (o : AO) : va_E := match o with
  | .inl (ci, fs) => .inr (ci, fs.map (cv w))
  | .inr (t, n, c) => .inl (w.2.2.2.2 t, n, czA w c)
def wsl (w : AW) (h : AH) : va_W := (List.range h.1).map fun k => (w.2.1 + k, cz w (h.2.2 k))
def aA (w : AW) : Nat → Prop := fun q => w.2.1 ≤ q
def hset (h : AH) (a : Nat) (o : AO) : AH := (h.1, h.2.1, va_up h.2.2 a o)
def hpush (h : AH) (n : Nat) (o : AO) : AH := (h.1 + 1, h.2.1 + n, va_up h.2.2 h.1 o)
theorem wsl_get {w : AW} {h : AH} {a : Nat} {o : AO} (e : aget h a = some o) : (wsl w h)[a]? = some (w.2.1 + a, cz w o) := by
  unfold aget at e
  split at e
  next hlt =>
    cases e
    simp [wsl, hlt]
  next => cases e
theorem aget_lt {h : AH} {a : Nat} {o : AO} (e : aget h a = some o) : a < h.1 ∧ h.2.2 a = o := by
  unfold aget at e
  split at e
  next hlt =>
    cases e
    exact ⟨hlt, rfl⟩
  next => cases e
theorem wsl_set {w : AW} {h : AH} {a : Nat} {o o' : AO} (e : aget h a = some o) : (wsl w h).set a (w.2.1 + a, cz w o') = wsl w (hset h a o') := by
  apply List.ext_getElem?
  intro i
  have hlt := (aget_lt e).1
  rw [List.getElem?_set]
  by_cases hi : a = i
  · subst hi
    simp [wsl, hset, hlt, va_up]
  · rw [if_neg hi]
    have hi' : ¬ i = a := fun q => hi q.symm
    by_cases hl : i < h.1
    · simp [wsl, hset, hl, va_up, hi']
    · simp [wsl, hset, hl]
theorem wsl_push {w : AW} {h : AH} {n : Nat} {o : AO} : wsl w h ++ [(w.2.1 + h.1, cz w o)] = wsl w (hpush h n o) := by
  apply List.ext_getElem?
  intro i
  rw [List.getElem?_append]
  by_cases hl : i < h.1
  · have hl2 : i < h.1 + 1 := by omega
    have hi' : ¬ i = h.1 := by omega
    simp [wsl, hpush, hl, hl2, va_up, hi']
  · by_cases hi : i = h.1
    · subst hi
      simp [wsl, hpush, va_up]
    · have h3 : ¬ i < h.1 + 1 := by omega
      have h4 : ¬ i - h.1 = 0 := by omega
      simp [wsl, hpush, hl, h3, h4]
theorem wsl_D (w : AW) (h : AH) : va_D (aA w) (wsl w h) := by
  have key : ∀ (i : Nat) (q : Nat × va_E), (wsl w h)[i]? = some q → q.1 = w.2.1 + i := by
    intro i q hq
    unfold wsl at hq
    rw [List.getElem?_map] at hq
    by_cases hl : i < h.1
    · rw [List.getElem?_range hl] at hq
      cases hq
      rfl
    · rw [List.getElem?_eq_none (by simpa using hl)] at hq
      cases hq
  refine ⟨fun i j p q hp hq hpq => ?_, fun k q hq => ?_⟩
  · have := key i p hp
    have := key j q hq
    omega
  · have := key k q hq
    show w.2.1 ≤ q.1
    omega
theorem tysL_get (w : AW) {t : Nat} (ht : t < 7) : (tysL w)[t]? = some (w.2.2.2.2 t, aTy t) := by simp [tysL, ht]
theorem cv_cat {w : AW} (hp : ∀ i, (w.2.2.1 i).category = 1) (v : Value) : (cv w v).category = v.category := by
  cases v with
  | retAddr i => exact hp i
  | _ => rfl
/-- the words that don't ride in lw_all -/
def aXw (x : Cond) : Bool := match x with
  | .fieldLinkNest .. => true
  | .methodLinkNest .. => true
  | .castable .. => true
  | .declares .. => true
  | _ => false
/-- texts: class and place in its pool, bytes -/
def aTx : Nat → String × Nat × String := fun i => match i with
  | 0 => ("SmokeWord", 371, "house")
  | 1 => ("SmokeWord", 373, "says")
  | 2 => ("SmokeWord", 374, "worth")
  | 3 => ("SmokeWord", 375, "smoke")
  | 4 => ("SmokeWord", 377, "far")
  | 5 => ("SmokeWord", 378, "near")
  | 6 => ("SmokeWord", 380, "fires")
  | 7 => ("SmokeWord", 381, "lost")
  | 8 => ("SmokeWord", 382, "been")
  | 9 => ("SmokeWord", 383, "water")
  | 10 => ("SmokeWord", 384, "hour")
  | 11 => ("SmokeWord$Parser", 182, "valley")
  | 12 => ("SmokeWord$Parser", 191, "house")
  | 13 => ("SmokeWord$Parser", 196, "road")
  | 14 => ("SmokeWord$Parser", 200, "beside")
  | 15 => ("SmokeWord$Parser", 203, "go")
  | 16 => ("SmokeWord$Parser", 212, "if")
  | 17 => ("SmokeWord$Parser", 107, "not")
  | 18 => ("SmokeWord$Parser", 132, "and")
  | _ => ("SmokeWord$Parser", 145, "or")
def aBy : Nat → List Int32 := fun i => match i with
  | 0 => [104, 111, 117, 115, 101]
  | 1 => [115, 97, 121, 115]
  | 2 => [119, 111, 114, 116, 104]
  | 3 => [115, 109, 111, 107, 101]
  | 4 => [102, 97, 114]
  | 5 => [110, 101, 97, 114]
  | 6 => [102, 105, 114, 101, 115]
  | 7 => [108, 111, 115, 116]
  | 8 => [98, 101, 101, 110]
  | 9 => [119, 97, 116, 101, 114]
  | 10 => [104, 111, 117, 114]
  | 11 => [118, 97, 108, 108, 101, 121]
  | 12 => [104, 111, 117, 115, 101]
  | 13 => [114, 111, 97, 100]
  | 14 => [98, 101, 115, 105, 100, 101]
  | 15 => [103, 111]
  | 16 => [105, 102]
  | 17 => [110, 111, 116]
  | 18 => [97, 110, 100]
  | _ => [111, 114]
/-- text i is .retAddr i, its bytes .retAddr (100 + i) -/
def AStr (w : AW) (i : Nat) (U : State) : Prop := ∃ a b : Nat, w.2.2.1 i = .ref a ∧ w.2.2.1 (100 + i) = .ref b ∧ vk_R (aTx i).1 (aTx i).2.1 (aTx i).2.2 a U ∧ va_O "java/lang/String" a (aA w) U U.heap ∧ va_OF "java/lang/String" "coder" "B" (.int 0) a (aA w) U U.heap ∧ va_OF "java/lang/String" "value" "[B" (.ref b) a (aA w) U U.heap ∧ va_T .byte b (aBy i).length (fun j => .int ((aBy i).getD j 0)) (aA w) U U.heap
/-- all that stands from before: .retAddr 300 the static array of names, 301 the class object of Object[], 302 what Preconditions hands to its formatter -/
def AEnv (w : AW) (U : State) : Prop :=
  va_K w.2.2.2.1 aCl (tysL w) U ∧ (∀ i, (w.2.2.1 i).category = 1) ∧ (∀ x ∈ lw_tbl, aXw x = true → va_Nw x U) ∧
  (va_AO "java/lang/Object" U ∧ va_AO "SmokeWord$State" U ∧ va_AO "SmokeWord$Image" U) ∧
  (∀ i, i < 20 → AStr w i U) ∧
  (∃ a : Nat, w.2.2.1 300 = .ref a ∧ va_Z "SmokeWord" "NAMES" "[Ljava/lang/String;" (.ref a) (aA w) U U.heap ∧ va_T (.object "java/lang/String") a 11 (fun j => w.2.2.1 j) (aA w) U U.heap) ∧
  (∃ a : Nat, w.2.2.1 301 = .ref a ∧ va_Mi "[Ljava/lang/Object;" a U) ∧
  va_Z "jdk/internal/util/Preconditions" "SIOOBE_FORMATTER" "Ljava/util/function/BiFunction;" (w.2.2.1 302) (aA w) U U.heap ∧
  va_Z "java/lang/String" "COMPACT_STRINGS" "Z" (.int 1) (aA w) U U.heap ∧
  vx_Zq Bundle.tN "UNASSIGNED_STACK" Bundle.steD (aA w) U U.heap ∧ vx_Zq Bundle.tN "SUPPRESSED_SENTINEL" Bundle.listD (aA w) U U.heap
theorem aXw_warm {s U : State} {x : Cond} (hx : aXw x = true) (hW : s.WarmedH U.vm) (h : va_Nw x s) : va_Nw x U := by
  cases x <;> first | (cases hx; done) | exact va_Nw.warmF hW h | exact va_Nw.warmM hW h | exact va_Nw.warmC hW h | exact va_Nw.warmD hW h
theorem AStr.go {w : AW} {i : Nat} {s U : State} (hW : s.WarmedH U.vm) (hq : ∀ a : Nat, a < s.heap.size → ¬ aA w a → U.heap[a]? = s.heap[a]?) (h : AStr w i s) : AStr w i U := by
  obtain ⟨a, b, h1, h2, h3, h4, h5, h6, h7⟩ := h
  exact ⟨a, b, h1, h2, h3.warm hW, va_O.moved hW.alike (h4.kept hq), va_OF.moved hW.alike (h5.kept hq), va_OF.moved hW.alike (h6.kept hq), va_T.moved hW.alike (h7.kept hq)⟩
theorem AEnv.go {w : AW} {s U : State} (hW : s.WarmedH U.vm) (hq : ∀ a : Nat, a < s.heap.size → ¬ aA w a → U.heap[a]? = s.heap[a]?) (h : AEnv w s) : AEnv w U := by
  obtain ⟨h1, h2, h3, ⟨h4a, h4b, h4c⟩, h5, ⟨a, h6a, h6b, h6c⟩, ⟨b, h7a, h7b⟩, h8, h9, h10, h11⟩ := h
  exact ⟨va_K.moved hW.alike h1, h2, fun x hx hb => aXw_warm hb hW (h3 x hx hb), ⟨va_AO.moved hW.alike h4a, va_AO.moved hW.alike h4b, va_AO.moved hW.alike h4c⟩, fun i hi => (h5 i hi).go hW hq,
    ⟨a, h6a, va_Z.moved hW.alike (h6b.kept hq), va_T.moved hW.alike (h6c.kept hq)⟩, ⟨b, h7a, va_Mi.moved hW.alike h7b⟩, va_Z.moved hW.alike (h8.kept hq), va_Z.moved hW.alike (h9.kept hq), vx_Zq.moved hW.alike (h10.kept hq), vx_Zq.moved hW.alike (h11.kept hq)⟩
theorem AEnv.calling {w : AW} {U : State} (g : JFrame) (mk : MethodId) (a : Array Value) (h : AEnv w U) : AEnv w (U.calling g mk a) :=
  h.go (U := U.calling g mk a) (State.WarmedH.refl U) (fun _ _ _ => rfl)
