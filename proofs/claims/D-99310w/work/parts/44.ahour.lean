/-! what goes on, in plain terms: arrays (0 worth, 1 heat, 2 says, 3 been, 4 lost), numbers (0 hours to go, 1 hour, 2 water, 3 gone), places (0 place, 1 where to, 2 where in the row) -/
abbrev AA : Type := (Nat → Nat → Int32) × (Nat → Int32) × (Nat → Nat)
/-- houses, ways (none: -2), beside, leap, what is wanted (none: no rule), a row -/
abbrev AC : Type := Nat × (Nat → Nat → Int32) × (Nat → Int32) × Int32 × Option ((Nat → Int64) → Int64) × Option (Nat × (Nat → Nat))
def wdA (C : AC) (A : AA) (h : Nat) : Nat → Int64 := fun i => match i with
  | 0 => (nI h).toInt64
  | 1 => (A.1 2 h).toInt64
  | 2 => (A.1 0 h).toInt64
  | 3 => if 0 < A.1 1 h then 1 else 0
  | 4 => (C.2.1 (A.2.2 0) (h + 1)).toInt64
  | 5 => (pcI (C.2.2.1 h &&& orI (hotB (A.1 1)) C.1)).toInt64
  | 6 => (pcI (orI (hotB (A.1 1)) C.1)).toInt64
  | 7 => (A.2.1 3).toInt64
  | 8 => (A.1 3 h).toInt64
  | 9 => (A.2.1 2).toInt64
  | 10 => (A.2.1 1).toInt64
  | _ => 0
def wA (C : AC) (A : AA) (h : Nat) : Int64 := match C.2.2.2.2.1 with
  | none => if 0 < A.1 1 h then (A.1 2 h).toInt64 else 0
  | some F => F (wdA C A h)
def rA (C : AC) (A : AA) (h : Nat) : Bool := decide (0 ≤ C.2.1 (A.2.2 0) (h + 1))
def chF (R : Nat → Bool) (w : Nat → Int64) : Nat → Option Nat × Int64
  | 0 => (none, 0)
  | h + 1 => if R h = true then (if (chF R w h).2 < w h then (some h, w h) else chF R w h) else chF R w h
theorem chF_lt (R : Nat → Bool) (w : Nat → Int64) : ∀ n h, (chF R w n).1 = some h → h < n
  | 0, _, e => by cases e
  | n + 1, h, e => by
    unfold chF at e
    split at e
    · split at e
      · cases e; omega
      · have := chF_lt R w n h e; omega
    · have := chF_lt R w n h e; omega
theorem chF_c {R R' : Nat → Bool} {w w' : Nat → Int64} : ∀ n, (∀ h, h < n → R h = R' h ∧ (R h = true → w h = w' h)) → chF R w n = chF R' w' n
  | 0, _ => rfl
  | n + 1, e => by
    unfold chF
    rw [chF_c n fun h hh => e h (by omega), (e n (by omega)).1]
    by_cases hr : R' n = true
    · rw [if_pos hr, if_pos hr, (e n (by omega)).2 (by rw [(e n (by omega)).1]; exact hr)]
    · rw [if_neg hr, if_neg hr]
theorem nextR_lt {R : Nat → Bool} {row : Nat → Nat} {k : Nat} : ∀ r i, (∀ j, j < i + r → row j < k) → (∀ h, (nextR R row r i).1 = some h → h < k) ∧ i ≤ (nextR R row r i).2 ∧ (nextR R row r i).2 ≤ i + r
  | 0, i, _ => ⟨fun h e => (by cases e), Nat.le_refl _, Nat.le_refl _⟩
  | r + 1, i, hr => by
    unfold nextR
    split
    · refine ⟨fun h e => ?_, by simp, by simp⟩
      cases e
      exact hr i (by omega)
    · have := nextR_lt (R := R) (row := row) (k := k) r (i + 1) (fun j hj => hr j (by omega))
      exact ⟨this.1, by omega, by omega⟩
theorem nextR_c {R R' : Nat → Bool} {row : Nat → Nat} : ∀ r i, (∀ j, j < i + r → R (row j) = R' (row j)) → nextR R row r i = nextR R' row r i
  | 0, _, _ => rfl
  | r + 1, i, e => by
    unfold nextR
    rw [nextR_c r (i + 1) fun j hj => e j (by omega), e i (by omega)]
/-- whither: a house, and where the row is then -/
def tgA (C : AC) (A : AA) : Option Nat × Nat := match C.2.2.2.2.2 with
  | none => ((chF (rA C A) (wA C A) C.1).1, A.2.2 2)
  | some q => nextR (rA C A) q.2 (q.1 - A.2.2 2) (A.2.2 2)
def sendA (C : AC) (A : AA) (o : Option Nat) : AA := match o with
  | none => A
  | some h => if h + 1 = A.2.2 0 then A else (A.1, va_up A.2.1 0 (C.2.1 (A.2.2 0) (h + 1)), va_up A.2.2 1 (h + 1))
def rowA (A : AA) (i : Nat) : AA := (A.1, A.2.1, va_up A.2.2 2 i)
def busyA (A : AA) : Bool := decide (0 < A.2.1 0 ∨ (A.2.2 0 ≠ 0 ∧ 0 < A.1 1 (A.2.2 0 - 1)))
def stepA (A : AA) : AA := if 0 < A.2.1 0 then (if 0 < A.2.1 0 - 1 then (A.1, va_up A.2.1 0 (A.2.1 0 - 1), A.2.2) else (A.1, va_up A.2.1 0 (A.2.1 0 - 1), va_up A.2.2 0 (A.2.2 1))) else A
def goA (C : AC) (A : AA) : AA := stepA (if busyA A = true then A else sendA C (rowA A (tgA C A).2) (tgA C A).1)
def comeA (A : AA) : AA × Int32 := if 0 < A.2.1 0 ∨ A.2.2 0 = 0 then (A, -1) else
  ((va_up (va_up A.1 3 (va_up (A.1 3) (A.2.2 0 - 1) (A.1 3 (A.2.2 0 - 1) + 1))) 1 (va_up (A.1 1) (A.2.2 0 - 1) (if A.1 1 (A.2.2 0 - 1) - A.2.1 2 < 0 then 0 else A.1 1 (A.2.2 0 - 1) - A.2.1 2)), A.2.1, A.2.2), if 0 < A.1 1 (A.2.2 0 - 1) then nI (A.2.2 0 - 1) else -1)
def mnA (A : AA) (h : Nat) : Int32 := if A.1 1 h < A.1 0 h then A.1 1 h else A.1 0 h
def leapB (C : AC) (A : AA) (h : Nat) : Int32 := if 0 < A.1 0 h - mnA A h ∧ C.2.2.2.1 ≤ A.1 1 h then (1 : Int32) <<< (nI h &&& 31) else 0
def heatN (C : AC) (A : AA) (h : Nat) : Int32 := if A.1 0 h - mnA A h = 0 then 0 else if 0 < A.1 1 h then (if A.1 1 h < 9 then A.1 1 h + 1 else A.1 1 h) else if C.2.2.1 h &&& orI (leapB C A) C.1 = 0 then 0 else 1
def burnA (C : AC) (A : AA) : AA := ((fun j h => if j = 0 then A.1 0 h - mnA A h else if j = 1 then heatN C A h else if j = 4 then A.1 4 h + mnA A h else A.1 j h), va_up A.2.1 3 (A.2.1 3 + sumI (mnA A) C.1), A.2.2)
def tickA (A : AA) : AA := (A.1, va_up A.2.1 1 (A.2.1 1 + 1), A.2.2)
def hourA (C : AC) (A : AA) : AA := tickA (burnA C (comeA (goA C A)).1)
def cameA (C : AC) (A : AA) : Int32 := (comeA (goA C A)).2
def lossA (C : AC) (A : AA) : Int32 := sumI (mnA (comeA (goA C A)).1) C.1
/-- bounds that hold -/
def WA (C : AC) (A : AA) : Prop := (∀ h, h < C.1 → 0 ≤ A.1 1 h ∧ A.1 1 h ≤ 9) ∧ 0 ≤ A.2.1 2 ∧ A.2.2 0 ≤ C.1 ∧ (0 < A.2.1 0 → 1 ≤ A.2.2 1 ∧ A.2.2 1 ≤ C.1) ∧ (∀ q, C.2.2.2.2.2 = some q → A.2.2 2 ≤ q.1 ∧ ∀ i, i < q.1 → q.2 i < C.1)
