/-! the heap of the law: cells 0..152 are x's, 153..174 m's, the others (from 175 on) are made later -/
abbrev MS : Type := (Nat → Int32) × (Nat → Nat → Int32) × (Nat → Nat → Int64) × Int64
abbrev SS : Type := (Nat → Nat → Int32) × (Nat → Int32)
abbrev XS : Type := (Nat → Int32) × (Nat → Nat → Int32) × (Nat → Int64) × (Nat → SS) × (Nat → Nat) × (Nat → Nat → Option Nat)
def mF (m : MS) (k : Nat) (v : Int32) : MS := (va_up m.1 k v, m.2.1, m.2.2.1, m.2.2.2)
def mA (m : MS) (j i : Nat) (v : Int32) : MS := (m.1, va_up m.2.1 j (va_up (m.2.1 j) i v), m.2.2.1, m.2.2.2)
def mL (m : MS) (j i : Nat) (v : Int64) : MS := (m.1, m.2.1, va_up m.2.2.1 j (va_up (m.2.2.1 j) i v), m.2.2.2)
def mD (m : MS) (v : Int64) : MS := (m.1, m.2.1, m.2.2.1, v)
def xF (x : XS) (k : Nat) (v : Int32) : XS := (va_up x.1 k v, x.2.1, x.2.2.1, x.2.2.2.1, x.2.2.2.2.1, x.2.2.2.2.2)
def xA (x : XS) (j i : Nat) (v : Int32) : XS := (x.1, va_up x.2.1 j (va_up (x.2.1 j) i v), x.2.2.1, x.2.2.2.1, x.2.2.2.2.1, x.2.2.2.2.2)
def xW (x : XS) (i : Nat) (v : Int64) : XS := (x.1, x.2.1, va_up x.2.2.1 i v, x.2.2.2.1, x.2.2.2.2.1, x.2.2.2.2.2)
def xS (x : XS) (t : Nat) (s : SS) : XS := (x.1, x.2.1, x.2.2.1, va_up x.2.2.2.1 t s, x.2.2.2.2.1, x.2.2.2.2.2)
def xR (x : XS) (k : Nat) (r : Nat) : XS := (x.1, x.2.1, x.2.2.1, x.2.2.2.1, va_up x.2.2.2.2.1 k r, x.2.2.2.2.2)
def xQ (x : XS) (j i : Nat) (r : Option Nat) : XS := (x.1, x.2.1, x.2.2.1, x.2.2.2.1, x.2.2.2.2.1, va_up x.2.2.2.2.2 j (va_up (x.2.2.2.2.2 j) i r))
def sF (s : SS) (k : Nat) (v : Int32) : SS := (s.1, va_up s.2 k v)
def sA (s : SS) (j i : Nat) (v : Int32) : SS := (va_up s.1 j (va_up (s.1 j) i v), s.2)
def mfl (m : MS) : List Value := [.ref 154, .int (m.1 1), .int (m.1 2), .ref 155, .ref 156, .ref 157, .ref 158, .ref 159, .int (m.1 8), .int (m.1 9), .int (m.1 10), .int (m.1 11), .int (m.1 12), .int (m.1 13), .int (m.1 14), .ref 160, .int (m.1 16), .int (m.1 17), .ref 161, .int (m.1 19), .ref 162, .ref 163, .int (m.1 22), .int (m.1 23), .ref 164, .int (m.1 25), .int (m.1 26), .int (m.1 27), .int (m.1 28), .int (m.1 29), .ref 165, .int (m.1 31), .ref 166, .ref 167, .int (m.1 34), .ref 168, .ref 169, .ref 170, .long m.2.2.2, .ref 171, .ref 172, .ref 173, .ref 174]
def mTL (j : Nat) : Nat × Nat := match j with
  | 1 => (1, 400)
  | 2 => (0, 2400)
  | 3 => (0, 7)
  | 4 => (0, 288)
  | 5 => (0, 6)
  | 6 => (0, 111)
  | 7 => (0, 400)
  | 8 => (2, 64)
  | 9 => (2, 11)
  | 10 => (0, 132)
  | 11 => (0, 6)
  | 12 => (0, 560)
  | 13 => (0, 28)
  | 14 => (0, 6)
  | 15 => (0, 50)
  | 16 => (3, 7)
  | 17 => (0, 427)
  | 18 => (0, 528)
  | 19 => (0, 4)
  | 20 => (0, 4)
  | 21 => (3, 4)
  | _ => (0, 0)
def mCell (m : MS) (j : Nat) : AO := if j = 0 then .inl (4, mfl m) else if j = 8 ∨ j = 9 then .inr ((mTL j).1, (mTL j).2, .inr (.inl (m.2.2.1 j))) else .inr ((mTL j).1, (mTL j).2, .inl (m.2.1 j))
def xfl (x : XS) : List Value := [.ref (x.2.2.2.2.1 0), .ref 6, .ref 12, .ref 18, .int (x.1 4), .ref 20, .ref 21, .int (x.1 7), .ref 22, .ref 23, .int (x.1 10), .int (x.1 11), .ref 24, .ref 25, .ref 26, .int (x.1 15), .int (x.1 16), .int (x.1 17), .int (x.1 18), .ref 27, .int (x.1 20), .int (x.1 21), .int (x.1 22), .ref 148, .ref 149, .ref 150, .ref 151, .ref 152]
def sCell (b : Nat) (s : SS) (r : Nat) : AO := if r = 0 then .inl (2, [.ref (b + 1), .ref (b + 2), .ref (b + 3), .ref (b + 4), .ref (b + 5), .int (s.2 5), .int (s.2 6), .int (s.2 7), .int (s.2 8), .int (s.2 9)]) else .inr (0, 6, .inl (s.1 (r - 1)))
def V0far (i : Nat) : Int32 := if i < 49 then (if i / 7 = i % 7 then 0 else 10000) else 0
def xCell (x : XS) (a : Nat) : AO :=
  if a = 0 then .inl (0, xfl x) else
  if a = 1 then .inl (1, [.ref 2, .ref 4, .ref 5, .int 0, .int 0]) else
  if a = 2 then .inl (8, [.int 0, .ref 3, .int 0]) else
  if a = 3 then .inr (4, 2, .inr (.inr fun _ => none)) else
  if a = 4 then .inr (0, 49, .inl V0far) else
  if a = 5 then .inr (0, 6, .inl fun _ => 0) else
  if a < 12 then sCell 6 (x.2.2.2.1 0) (a - 6) else
  if a < 18 then sCell 12 (x.2.2.2.1 1) (a - 12) else
  if a = 18 then .inl (8, [.int (x.1 101), .ref (x.2.2.2.2.1 1), .int (x.1 102)]) else
  if a = 19 then .inr (4, 2, .inr (.inr (x.2.2.2.2.2 a))) else
  if a = 20 then .inl (3, [.int (x.1 100)]) else
  if a = 21 then .inr (1, 400, .inl (x.2.1 a)) else
  if a < 24 then .inr (0, 10, .inl (x.2.1 a)) else
  if a = 24 then .inr (2, 11, .inr (.inl x.2.2.1)) else
  if a < 27 then .inr (0, 6, .inl (x.2.1 a)) else
  if a = 27 then .inr (5, 20, .inr (.inr fun t => if t < 20 then some (28 + 6 * t) else none)) else
  if a < 148 then sCell (28 + 6 * ((a - 28) / 6)) (x.2.2.2.1 (2 + (a - 28) / 6)) ((a - 28) % 6) else
  if a < 150 then .inr (0, 25, .inl (x.2.1 a)) else
  if a = 150 then .inr (0, 61, .inl (x.2.1 a)) else
  if a = 151 then .inr (0, 427, .inl (x.2.1 a)) else
  .inr (6, 4, .inr (.inr (x.2.2.2.2.2 a)))
def P (d : AH) (x : XS) (m : MS) : AH := (d.1 + 175, d.2.1, fun a => if a < 153 then xCell x a else if a < 175 then mCell m (a - 153) else d.2.2 a)
theorem aget_P (d : AH) (x : XS) (m : MS) (a : Nat) (h : a < 175) : aget (P d x m) a = some (if a < 153 then xCell x a else mCell m (a - 153)) := by
  unfold aget P
  rw [if_pos (by show a < d.1 + 175; omega)]
  show some (if a < 153 then xCell x a else if a < 175 then mCell m (a - 153) else d.2.2 a) = _
  rw [if_pos h]
theorem aget_Px (d : AH) (x : XS) (m : MS) (a : Nat) (h : a < 153) : aget (P d x m) a = some (xCell x a) := by
  rw [aget_P d x m a (by omega), if_pos h]
theorem aget_Pm (d : AH) (x : XS) (m : MS) (j : Nat) (h : j < 22) : aget (P d x m) (153 + j) = some (mCell m j) := by
  rw [aget_P d x m _ (by omega), if_neg (by omega), show 153 + j - 153 = j by omega]
theorem P_m (d : AH) (x : XS) (m m' : MS) (j : Nat) (hj : j < 22) (o : AO) (ho : mCell m' j = o) (hn : ∀ i, i ≠ j → mCell m' i = mCell m i) : hset (P d x m) (153 + j) o = P d x m' := by
  unfold hset P
  refine Prod.ext rfl (Prod.ext rfl ?_)
  funext a
  show va_up _ _ _ a = (if a < 153 then _ else if a < 175 then _ else _)
  unfold va_up
  by_cases ha : a = 153 + j
  · subst ha
    rw [if_pos rfl, if_neg (by omega), if_pos (by omega), show 153 + j - 153 = j by omega, ho]
  · rw [if_neg ha]
    show (if a < 153 then _ else if a < 175 then _ else _) = (if a < 153 then _ else if a < 175 then _ else _)
    by_cases h1 : a < 153
    · rw [if_pos h1, if_pos h1]
    · rw [if_neg h1, if_neg h1]
      by_cases h2 : a < 175
      · rw [if_pos h2, if_pos h2, hn _ (by omega)]
      · rw [if_neg h2, if_neg h2]
theorem P_x (d : AH) (x x' : XS) (m : MS) (j : Nat) (hj : j < 153) (o : AO) (ho : xCell x' j = o) (hn : ∀ i, i < 153 → i ≠ j → xCell x' i = xCell x i) : hset (P d x m) j o = P d x' m := by
  unfold hset P
  refine Prod.ext rfl (Prod.ext rfl ?_)
  funext a
  show va_up _ _ _ a = (if a < 153 then _ else if a < 175 then _ else _)
  unfold va_up
  by_cases ha : a = j
  · subst ha
    rw [if_pos rfl, if_pos hj, ho]
  · rw [if_neg ha]
    show (if a < 153 then _ else if a < 175 then _ else _) = (if a < 153 then _ else if a < 175 then _ else _)
    by_cases h1 : a < 153
    · rw [if_pos h1, if_pos h1, hn _ h1 ha]
    · rw [if_neg h1, if_neg h1]
theorem inb_nI {k n : Nat} (h : k < n) (hn : n < 2 ^ 31) : inb (nI k) n = true := by
  unfold inb
  have h1 := nI_in h hn
  rw [nI_clamp (by omega)] at h1 ⊢
  simp only [not_or] at h1
  simp [h1.1, h]
theorem mTL_lt (j : Nat) : (mTL j).2 < 2 ^ 31 := by
  unfold mTL
  split <;> decide
theorem ldI_M (d : AH) (x : XS) (m : MS) (j k : Nat) (hj : j < 22) (h0 : j ≠ 0) (h8 : j ≠ 8) (h9 : j ≠ 9) (hk : k < (mTL j).2) : ldI (P d x m) (153 + j) (mTL j).1 (nI k) = some (m.2.1 j k) := by
  unfold ldI
  rw [aget_Pm d x m j hj]
  have hl := mTL_lt j
  simp only [mCell, if_neg h0, h8, h9, or_self, if_false, beq_self_eq_true, inb_nI hk hl, Bool.and_self, cond_true, nI_clamp (show k < 2 ^ 31 by omega)]
theorem stI_M (d : AH) (x : XS) (m : MS) (j k : Nat) (v : Int32) (hj : j < 22) (h0 : j ≠ 0) (h8 : j ≠ 8) (h9 : j ≠ 9) (hk : k < (mTL j).2) : stI (P d x m) (153 + j) (mTL j).1 (nI k) v = some (P d x (mA m j k v)) := by
  unfold stI
  rw [aget_Pm d x m j hj]
  have hl := mTL_lt j
  simp only [mCell, if_neg h0, h8, h9, or_self, if_false, beq_self_eq_true, inb_nI hk hl, Bool.and_self, cond_true, nI_clamp (show k < 2 ^ 31 by omega)]
  congr 1
  apply P_m d x m _ j hj
  · simp [mCell, h0, h8, h9, mA, va_up_self]
  · intro i hi
    simp only [mCell, mA, va_up_ne _ _ hi, mfl]
theorem ldL_M (d : AH) (x : XS) (m : MS) (j k : Nat) (h8 : j = 8 ∨ j = 9) (hk : k < (mTL j).2) : ldL (P d x m) (153 + j) (nI k) = some (m.2.2.1 j k) := by
  unfold ldL
  rw [aget_Pm d x m j (by omega)]
  have hl := mTL_lt j
  have ht : (mTL j).1 = 2 := by rcases h8 with rfl | rfl <;> rfl
  simp only [mCell, if_neg (show j ≠ 0 by omega), h8, if_true, ht, beq_self_eq_true, inb_nI hk hl, Bool.and_self, cond_true, nI_clamp (show k < 2 ^ 31 by omega)]
theorem stL_M (d : AH) (x : XS) (m : MS) (j k : Nat) (v : Int64) (h8 : j = 8 ∨ j = 9) (hk : k < (mTL j).2) : stL (P d x m) (153 + j) (nI k) v = some (P d x (mL m j k v)) := by
  unfold stL
  rw [aget_Pm d x m j (by omega)]
  have hl := mTL_lt j
  have ht : (mTL j).1 = 2 := by rcases h8 with rfl | rfl <;> rfl
  simp only [mCell, if_neg (show j ≠ 0 by omega), h8, if_true, ht, beq_self_eq_true, inb_nI hk hl, Bool.and_self, cond_true, nI_clamp (show k < 2 ^ 31 by omega)]
  congr 1
  apply P_m d x m _ j (by omega)
  · simp [mCell, h8, (show j ≠ 0 by omega), mL, va_up_self, ht]
  · intro i hi
    simp only [mCell, mL, va_up_ne _ _ hi, mfl]
theorem rdF_M (d : AH) (x : XS) (m : MS) (k : Nat) : rdF (P d x m) 153 4 k = (mfl m)[k]? := by
  unfold rdF
  rw [aget_Pm d x m 0 (by omega)]
  rfl
theorem isO_M (d : AH) (x : XS) (m : MS) : isO (P d x m) 153 4 = true := by
  unfold isO
  rw [aget_Pm d x m 0 (by omega)]
  rfl
theorem isO_X (d : AH) (x : XS) (m : MS) : isO (P d x m) 0 0 = true := by
  unfold isO
  rw [aget_Px d x m 0 (by omega)]
  rfl
theorem wrF_M (d : AH) (x : XS) (m m' : MS) (k : Nat) (v : Value) (hl : k < 43) (h1 : mfl m' = (mfl m).set k v) (h2 : m'.2.1 = m.2.1) (h3 : m'.2.2.1 = m.2.2.1) : wrF (P d x m) 153 4 k v = some (P d x m') := by
  unfold wrF
  rw [aget_Pm d x m 0 (by omega)]
  show (bif (4 == 4) && decide (k < 43) then some (hset _ _ _) else none) = _
  rw [show decide (k < 43) = true by simp [hl]]
  show some (hset _ (153 + 0) _) = _
  congr 1
  apply P_m d x m _ 0 (by omega)
  · simp [mCell, h1]
  · intro i hi
    simp [mCell, hi, h2, h3]
theorem lm_1 (d : AH) (x : XS) (m : MS) (k : Nat) (hk : k < 400) : ldI (P d x m) 154 1 (nI k) = some (m.2.1 1 k) := ldI_M d x m 1 k (by omega) (by omega) (by omega) (by omega) hk
theorem sm_1 (d : AH) (x : XS) (m : MS) (k : Nat) (v : Int32) (hk : k < 400) : stI (P d x m) 154 1 (nI k) v = some (P d x (mA m 1 k v)) := stI_M d x m 1 k v (by omega) (by omega) (by omega) (by omega) hk
theorem lm_2 (d : AH) (x : XS) (m : MS) (k : Nat) (hk : k < 2400) : ldI (P d x m) 155 0 (nI k) = some (m.2.1 2 k) := ldI_M d x m 2 k (by omega) (by omega) (by omega) (by omega) hk
theorem sm_2 (d : AH) (x : XS) (m : MS) (k : Nat) (v : Int32) (hk : k < 2400) : stI (P d x m) 155 0 (nI k) v = some (P d x (mA m 2 k v)) := stI_M d x m 2 k v (by omega) (by omega) (by omega) (by omega) hk
theorem lm_3 (d : AH) (x : XS) (m : MS) (k : Nat) (hk : k < 7) : ldI (P d x m) 156 0 (nI k) = some (m.2.1 3 k) := ldI_M d x m 3 k (by omega) (by omega) (by omega) (by omega) hk
theorem sm_3 (d : AH) (x : XS) (m : MS) (k : Nat) (v : Int32) (hk : k < 7) : stI (P d x m) 156 0 (nI k) v = some (P d x (mA m 3 k v)) := stI_M d x m 3 k v (by omega) (by omega) (by omega) (by omega) hk
theorem lm_4 (d : AH) (x : XS) (m : MS) (k : Nat) (hk : k < 288) : ldI (P d x m) 157 0 (nI k) = some (m.2.1 4 k) := ldI_M d x m 4 k (by omega) (by omega) (by omega) (by omega) hk
theorem sm_4 (d : AH) (x : XS) (m : MS) (k : Nat) (v : Int32) (hk : k < 288) : stI (P d x m) 157 0 (nI k) v = some (P d x (mA m 4 k v)) := stI_M d x m 4 k v (by omega) (by omega) (by omega) (by omega) hk
theorem lm_5 (d : AH) (x : XS) (m : MS) (k : Nat) (hk : k < 6) : ldI (P d x m) 158 0 (nI k) = some (m.2.1 5 k) := ldI_M d x m 5 k (by omega) (by omega) (by omega) (by omega) hk
theorem sm_5 (d : AH) (x : XS) (m : MS) (k : Nat) (v : Int32) (hk : k < 6) : stI (P d x m) 158 0 (nI k) v = some (P d x (mA m 5 k v)) := stI_M d x m 5 k v (by omega) (by omega) (by omega) (by omega) hk
theorem lm_6 (d : AH) (x : XS) (m : MS) (k : Nat) (hk : k < 111) : ldI (P d x m) 159 0 (nI k) = some (m.2.1 6 k) := ldI_M d x m 6 k (by omega) (by omega) (by omega) (by omega) hk
theorem sm_6 (d : AH) (x : XS) (m : MS) (k : Nat) (v : Int32) (hk : k < 111) : stI (P d x m) 159 0 (nI k) v = some (P d x (mA m 6 k v)) := stI_M d x m 6 k v (by omega) (by omega) (by omega) (by omega) hk
theorem lm_7 (d : AH) (x : XS) (m : MS) (k : Nat) (hk : k < 400) : ldI (P d x m) 160 0 (nI k) = some (m.2.1 7 k) := ldI_M d x m 7 k (by omega) (by omega) (by omega) (by omega) hk
theorem sm_7 (d : AH) (x : XS) (m : MS) (k : Nat) (v : Int32) (hk : k < 400) : stI (P d x m) 160 0 (nI k) v = some (P d x (mA m 7 k v)) := stI_M d x m 7 k v (by omega) (by omega) (by omega) (by omega) hk
theorem lm_8 (d : AH) (x : XS) (m : MS) (k : Nat) (hk : k < 64) : ldL (P d x m) 161 (nI k) = some (m.2.2.1 8 k) := ldL_M d x m 8 k (by omega) hk
theorem sm_8 (d : AH) (x : XS) (m : MS) (k : Nat) (v : Int64) (hk : k < 64) : stL (P d x m) 161 (nI k) v = some (P d x (mL m 8 k v)) := stL_M d x m 8 k v (by omega) hk
theorem lm_9 (d : AH) (x : XS) (m : MS) (k : Nat) (hk : k < 11) : ldL (P d x m) 162 (nI k) = some (m.2.2.1 9 k) := ldL_M d x m 9 k (by omega) hk
theorem sm_9 (d : AH) (x : XS) (m : MS) (k : Nat) (v : Int64) (hk : k < 11) : stL (P d x m) 162 (nI k) v = some (P d x (mL m 9 k v)) := stL_M d x m 9 k v (by omega) hk
theorem lm_10 (d : AH) (x : XS) (m : MS) (k : Nat) (hk : k < 132) : ldI (P d x m) 163 0 (nI k) = some (m.2.1 10 k) := ldI_M d x m 10 k (by omega) (by omega) (by omega) (by omega) hk
theorem sm_10 (d : AH) (x : XS) (m : MS) (k : Nat) (v : Int32) (hk : k < 132) : stI (P d x m) 163 0 (nI k) v = some (P d x (mA m 10 k v)) := stI_M d x m 10 k v (by omega) (by omega) (by omega) (by omega) hk
theorem lm_11 (d : AH) (x : XS) (m : MS) (k : Nat) (hk : k < 6) : ldI (P d x m) 164 0 (nI k) = some (m.2.1 11 k) := ldI_M d x m 11 k (by omega) (by omega) (by omega) (by omega) hk
theorem sm_11 (d : AH) (x : XS) (m : MS) (k : Nat) (v : Int32) (hk : k < 6) : stI (P d x m) 164 0 (nI k) v = some (P d x (mA m 11 k v)) := stI_M d x m 11 k v (by omega) (by omega) (by omega) (by omega) hk
theorem lm_12 (d : AH) (x : XS) (m : MS) (k : Nat) (hk : k < 560) : ldI (P d x m) 165 0 (nI k) = some (m.2.1 12 k) := ldI_M d x m 12 k (by omega) (by omega) (by omega) (by omega) hk
theorem sm_12 (d : AH) (x : XS) (m : MS) (k : Nat) (v : Int32) (hk : k < 560) : stI (P d x m) 165 0 (nI k) v = some (P d x (mA m 12 k v)) := stI_M d x m 12 k v (by omega) (by omega) (by omega) (by omega) hk
theorem lm_13 (d : AH) (x : XS) (m : MS) (k : Nat) (hk : k < 28) : ldI (P d x m) 166 0 (nI k) = some (m.2.1 13 k) := ldI_M d x m 13 k (by omega) (by omega) (by omega) (by omega) hk
theorem sm_13 (d : AH) (x : XS) (m : MS) (k : Nat) (v : Int32) (hk : k < 28) : stI (P d x m) 166 0 (nI k) v = some (P d x (mA m 13 k v)) := stI_M d x m 13 k v (by omega) (by omega) (by omega) (by omega) hk
theorem lm_14 (d : AH) (x : XS) (m : MS) (k : Nat) (hk : k < 6) : ldI (P d x m) 167 0 (nI k) = some (m.2.1 14 k) := ldI_M d x m 14 k (by omega) (by omega) (by omega) (by omega) hk
theorem sm_14 (d : AH) (x : XS) (m : MS) (k : Nat) (v : Int32) (hk : k < 6) : stI (P d x m) 167 0 (nI k) v = some (P d x (mA m 14 k v)) := stI_M d x m 14 k v (by omega) (by omega) (by omega) (by omega) hk
theorem lm_15 (d : AH) (x : XS) (m : MS) (k : Nat) (hk : k < 50) : ldI (P d x m) 168 0 (nI k) = some (m.2.1 15 k) := ldI_M d x m 15 k (by omega) (by omega) (by omega) (by omega) hk
theorem sm_15 (d : AH) (x : XS) (m : MS) (k : Nat) (v : Int32) (hk : k < 50) : stI (P d x m) 168 0 (nI k) v = some (P d x (mA m 15 k v)) := stI_M d x m 15 k v (by omega) (by omega) (by omega) (by omega) hk
theorem lm_16 (d : AH) (x : XS) (m : MS) (k : Nat) (hk : k < 7) : ldI (P d x m) 169 3 (nI k) = some (m.2.1 16 k) := ldI_M d x m 16 k (by omega) (by omega) (by omega) (by omega) hk
theorem sm_16 (d : AH) (x : XS) (m : MS) (k : Nat) (v : Int32) (hk : k < 7) : stI (P d x m) 169 3 (nI k) v = some (P d x (mA m 16 k v)) := stI_M d x m 16 k v (by omega) (by omega) (by omega) (by omega) hk
theorem lm_17 (d : AH) (x : XS) (m : MS) (k : Nat) (hk : k < 427) : ldI (P d x m) 170 0 (nI k) = some (m.2.1 17 k) := ldI_M d x m 17 k (by omega) (by omega) (by omega) (by omega) hk
theorem sm_17 (d : AH) (x : XS) (m : MS) (k : Nat) (v : Int32) (hk : k < 427) : stI (P d x m) 170 0 (nI k) v = some (P d x (mA m 17 k v)) := stI_M d x m 17 k v (by omega) (by omega) (by omega) (by omega) hk
theorem lm_18 (d : AH) (x : XS) (m : MS) (k : Nat) (hk : k < 528) : ldI (P d x m) 171 0 (nI k) = some (m.2.1 18 k) := ldI_M d x m 18 k (by omega) (by omega) (by omega) (by omega) hk
theorem sm_18 (d : AH) (x : XS) (m : MS) (k : Nat) (v : Int32) (hk : k < 528) : stI (P d x m) 171 0 (nI k) v = some (P d x (mA m 18 k v)) := stI_M d x m 18 k v (by omega) (by omega) (by omega) (by omega) hk
theorem lm_19 (d : AH) (x : XS) (m : MS) (k : Nat) (hk : k < 4) : ldI (P d x m) 172 0 (nI k) = some (m.2.1 19 k) := ldI_M d x m 19 k (by omega) (by omega) (by omega) (by omega) hk
theorem sm_19 (d : AH) (x : XS) (m : MS) (k : Nat) (v : Int32) (hk : k < 4) : stI (P d x m) 172 0 (nI k) v = some (P d x (mA m 19 k v)) := stI_M d x m 19 k v (by omega) (by omega) (by omega) (by omega) hk
theorem lm_20 (d : AH) (x : XS) (m : MS) (k : Nat) (hk : k < 4) : ldI (P d x m) 173 0 (nI k) = some (m.2.1 20 k) := ldI_M d x m 20 k (by omega) (by omega) (by omega) (by omega) hk
theorem sm_20 (d : AH) (x : XS) (m : MS) (k : Nat) (v : Int32) (hk : k < 4) : stI (P d x m) 173 0 (nI k) v = some (P d x (mA m 20 k v)) := stI_M d x m 20 k v (by omega) (by omega) (by omega) (by omega) hk
theorem lm_21 (d : AH) (x : XS) (m : MS) (k : Nat) (hk : k < 4) : ldI (P d x m) 174 3 (nI k) = some (m.2.1 21 k) := ldI_M d x m 21 k (by omega) (by omega) (by omega) (by omega) hk
theorem sm_21 (d : AH) (x : XS) (m : MS) (k : Nat) (v : Int32) (hk : k < 4) : stI (P d x m) 174 3 (nI k) v = some (P d x (mA m 21 k v)) := stI_M d x m 21 k v (by omega) (by omega) (by omega) (by omega) hk
theorem rm_0 (d : AH) (x : XS) (m : MS) : rdR (P d x m) 153 4 0 = some 154 := by unfold rdR; rw [rdF_M]; rfl
theorem rm_1 (d : AH) (x : XS) (m : MS) : rdI (P d x m) 153 4 1 = some (m.1 1) := by unfold rdI; rw [rdF_M]; rfl
theorem wm_1 (d : AH) (x : XS) (m : MS) (v : Int32) : wrF (P d x m) 153 4 1 (.int v) = some (P d x (mF m 1 v)) := wrF_M d x m _ 1 _ (by omega) rfl rfl rfl
theorem rm_2 (d : AH) (x : XS) (m : MS) : rdI (P d x m) 153 4 2 = some (m.1 2) := by unfold rdI; rw [rdF_M]; rfl
theorem wm_2 (d : AH) (x : XS) (m : MS) (v : Int32) : wrF (P d x m) 153 4 2 (.int v) = some (P d x (mF m 2 v)) := wrF_M d x m _ 2 _ (by omega) rfl rfl rfl
theorem rm_3 (d : AH) (x : XS) (m : MS) : rdR (P d x m) 153 4 3 = some 155 := by unfold rdR; rw [rdF_M]; rfl
theorem rm_4 (d : AH) (x : XS) (m : MS) : rdR (P d x m) 153 4 4 = some 156 := by unfold rdR; rw [rdF_M]; rfl
theorem rm_5 (d : AH) (x : XS) (m : MS) : rdR (P d x m) 153 4 5 = some 157 := by unfold rdR; rw [rdF_M]; rfl
theorem rm_6 (d : AH) (x : XS) (m : MS) : rdR (P d x m) 153 4 6 = some 158 := by unfold rdR; rw [rdF_M]; rfl
theorem rm_7 (d : AH) (x : XS) (m : MS) : rdR (P d x m) 153 4 7 = some 159 := by unfold rdR; rw [rdF_M]; rfl
theorem rm_8 (d : AH) (x : XS) (m : MS) : rdI (P d x m) 153 4 8 = some (m.1 8) := by unfold rdI; rw [rdF_M]; rfl
theorem wm_8 (d : AH) (x : XS) (m : MS) (v : Int32) : wrF (P d x m) 153 4 8 (.int v) = some (P d x (mF m 8 v)) := wrF_M d x m _ 8 _ (by omega) rfl rfl rfl
theorem rm_9 (d : AH) (x : XS) (m : MS) : rdI (P d x m) 153 4 9 = some (m.1 9) := by unfold rdI; rw [rdF_M]; rfl
theorem wm_9 (d : AH) (x : XS) (m : MS) (v : Int32) : wrF (P d x m) 153 4 9 (.int v) = some (P d x (mF m 9 v)) := wrF_M d x m _ 9 _ (by omega) rfl rfl rfl
theorem rm_10 (d : AH) (x : XS) (m : MS) : rdI (P d x m) 153 4 10 = some (m.1 10) := by unfold rdI; rw [rdF_M]; rfl
theorem wm_10 (d : AH) (x : XS) (m : MS) (v : Int32) : wrF (P d x m) 153 4 10 (.int v) = some (P d x (mF m 10 v)) := wrF_M d x m _ 10 _ (by omega) rfl rfl rfl
theorem rm_11 (d : AH) (x : XS) (m : MS) : rdI (P d x m) 153 4 11 = some (m.1 11) := by unfold rdI; rw [rdF_M]; rfl
theorem wm_11 (d : AH) (x : XS) (m : MS) (v : Int32) : wrF (P d x m) 153 4 11 (.int v) = some (P d x (mF m 11 v)) := wrF_M d x m _ 11 _ (by omega) rfl rfl rfl
theorem rm_12 (d : AH) (x : XS) (m : MS) : rdI (P d x m) 153 4 12 = some (m.1 12) := by unfold rdI; rw [rdF_M]; rfl
theorem wm_12 (d : AH) (x : XS) (m : MS) (v : Int32) : wrF (P d x m) 153 4 12 (.int v) = some (P d x (mF m 12 v)) := wrF_M d x m _ 12 _ (by omega) rfl rfl rfl
theorem rm_13 (d : AH) (x : XS) (m : MS) : rdI (P d x m) 153 4 13 = some (m.1 13) := by unfold rdI; rw [rdF_M]; rfl
theorem wm_13 (d : AH) (x : XS) (m : MS) (v : Int32) : wrF (P d x m) 153 4 13 (.int v) = some (P d x (mF m 13 v)) := wrF_M d x m _ 13 _ (by omega) rfl rfl rfl
theorem rm_14 (d : AH) (x : XS) (m : MS) : rdI (P d x m) 153 4 14 = some (m.1 14) := by unfold rdI; rw [rdF_M]; rfl
theorem wm_14 (d : AH) (x : XS) (m : MS) (v : Int32) : wrF (P d x m) 153 4 14 (.int v) = some (P d x (mF m 14 v)) := wrF_M d x m _ 14 _ (by omega) rfl rfl rfl
theorem rm_15 (d : AH) (x : XS) (m : MS) : rdR (P d x m) 153 4 15 = some 160 := by unfold rdR; rw [rdF_M]; rfl
theorem rm_16 (d : AH) (x : XS) (m : MS) : rdI (P d x m) 153 4 16 = some (m.1 16) := by unfold rdI; rw [rdF_M]; rfl
theorem wm_16 (d : AH) (x : XS) (m : MS) (v : Int32) : wrF (P d x m) 153 4 16 (.int v) = some (P d x (mF m 16 v)) := wrF_M d x m _ 16 _ (by omega) rfl rfl rfl
theorem rm_17 (d : AH) (x : XS) (m : MS) : rdI (P d x m) 153 4 17 = some (m.1 17) := by unfold rdI; rw [rdF_M]; rfl
theorem wm_17 (d : AH) (x : XS) (m : MS) (v : Int32) : wrF (P d x m) 153 4 17 (.int v) = some (P d x (mF m 17 v)) := wrF_M d x m _ 17 _ (by omega) rfl rfl rfl
theorem rm_18 (d : AH) (x : XS) (m : MS) : rdR (P d x m) 153 4 18 = some 161 := by unfold rdR; rw [rdF_M]; rfl
theorem rm_19 (d : AH) (x : XS) (m : MS) : rdI (P d x m) 153 4 19 = some (m.1 19) := by unfold rdI; rw [rdF_M]; rfl
theorem wm_19 (d : AH) (x : XS) (m : MS) (v : Int32) : wrF (P d x m) 153 4 19 (.int v) = some (P d x (mF m 19 v)) := wrF_M d x m _ 19 _ (by omega) rfl rfl rfl
theorem rm_20 (d : AH) (x : XS) (m : MS) : rdR (P d x m) 153 4 20 = some 162 := by unfold rdR; rw [rdF_M]; rfl
theorem rm_21 (d : AH) (x : XS) (m : MS) : rdR (P d x m) 153 4 21 = some 163 := by unfold rdR; rw [rdF_M]; rfl
theorem rm_22 (d : AH) (x : XS) (m : MS) : rdI (P d x m) 153 4 22 = some (m.1 22) := by unfold rdI; rw [rdF_M]; rfl
theorem wm_22 (d : AH) (x : XS) (m : MS) (v : Int32) : wrF (P d x m) 153 4 22 (.int v) = some (P d x (mF m 22 v)) := wrF_M d x m _ 22 _ (by omega) rfl rfl rfl
theorem rm_23 (d : AH) (x : XS) (m : MS) : rdI (P d x m) 153 4 23 = some (m.1 23) := by unfold rdI; rw [rdF_M]; rfl
theorem wm_23 (d : AH) (x : XS) (m : MS) (v : Int32) : wrF (P d x m) 153 4 23 (.int v) = some (P d x (mF m 23 v)) := wrF_M d x m _ 23 _ (by omega) rfl rfl rfl
theorem rm_24 (d : AH) (x : XS) (m : MS) : rdR (P d x m) 153 4 24 = some 164 := by unfold rdR; rw [rdF_M]; rfl
theorem rm_25 (d : AH) (x : XS) (m : MS) : rdI (P d x m) 153 4 25 = some (m.1 25) := by unfold rdI; rw [rdF_M]; rfl
theorem wm_25 (d : AH) (x : XS) (m : MS) (v : Int32) : wrF (P d x m) 153 4 25 (.int v) = some (P d x (mF m 25 v)) := wrF_M d x m _ 25 _ (by omega) rfl rfl rfl
theorem rm_26 (d : AH) (x : XS) (m : MS) : rdI (P d x m) 153 4 26 = some (m.1 26) := by unfold rdI; rw [rdF_M]; rfl
theorem wm_26 (d : AH) (x : XS) (m : MS) (v : Int32) : wrF (P d x m) 153 4 26 (.int v) = some (P d x (mF m 26 v)) := wrF_M d x m _ 26 _ (by omega) rfl rfl rfl
theorem rm_27 (d : AH) (x : XS) (m : MS) : rdI (P d x m) 153 4 27 = some (m.1 27) := by unfold rdI; rw [rdF_M]; rfl
theorem wm_27 (d : AH) (x : XS) (m : MS) (v : Int32) : wrF (P d x m) 153 4 27 (.int v) = some (P d x (mF m 27 v)) := wrF_M d x m _ 27 _ (by omega) rfl rfl rfl
theorem rm_28 (d : AH) (x : XS) (m : MS) : rdI (P d x m) 153 4 28 = some (m.1 28) := by unfold rdI; rw [rdF_M]; rfl
theorem wm_28 (d : AH) (x : XS) (m : MS) (v : Int32) : wrF (P d x m) 153 4 28 (.int v) = some (P d x (mF m 28 v)) := wrF_M d x m _ 28 _ (by omega) rfl rfl rfl
theorem rm_29 (d : AH) (x : XS) (m : MS) : rdI (P d x m) 153 4 29 = some (m.1 29) := by unfold rdI; rw [rdF_M]; rfl
theorem wm_29 (d : AH) (x : XS) (m : MS) (v : Int32) : wrF (P d x m) 153 4 29 (.int v) = some (P d x (mF m 29 v)) := wrF_M d x m _ 29 _ (by omega) rfl rfl rfl
theorem rm_30 (d : AH) (x : XS) (m : MS) : rdR (P d x m) 153 4 30 = some 165 := by unfold rdR; rw [rdF_M]; rfl
theorem rm_31 (d : AH) (x : XS) (m : MS) : rdI (P d x m) 153 4 31 = some (m.1 31) := by unfold rdI; rw [rdF_M]; rfl
theorem wm_31 (d : AH) (x : XS) (m : MS) (v : Int32) : wrF (P d x m) 153 4 31 (.int v) = some (P d x (mF m 31 v)) := wrF_M d x m _ 31 _ (by omega) rfl rfl rfl
theorem rm_32 (d : AH) (x : XS) (m : MS) : rdR (P d x m) 153 4 32 = some 166 := by unfold rdR; rw [rdF_M]; rfl
theorem rm_33 (d : AH) (x : XS) (m : MS) : rdR (P d x m) 153 4 33 = some 167 := by unfold rdR; rw [rdF_M]; rfl
theorem rm_34 (d : AH) (x : XS) (m : MS) : rdI (P d x m) 153 4 34 = some (m.1 34) := by unfold rdI; rw [rdF_M]; rfl
theorem wm_34 (d : AH) (x : XS) (m : MS) (v : Int32) : wrF (P d x m) 153 4 34 (.int v) = some (P d x (mF m 34 v)) := wrF_M d x m _ 34 _ (by omega) rfl rfl rfl
theorem rm_35 (d : AH) (x : XS) (m : MS) : rdR (P d x m) 153 4 35 = some 168 := by unfold rdR; rw [rdF_M]; rfl
theorem rm_36 (d : AH) (x : XS) (m : MS) : rdR (P d x m) 153 4 36 = some 169 := by unfold rdR; rw [rdF_M]; rfl
theorem rm_37 (d : AH) (x : XS) (m : MS) : rdR (P d x m) 153 4 37 = some 170 := by unfold rdR; rw [rdF_M]; rfl
theorem rm_38 (d : AH) (x : XS) (m : MS) : rdL (P d x m) 153 4 38 = some m.2.2.2 := by unfold rdL; rw [rdF_M]; rfl
theorem wm_38 (d : AH) (x : XS) (m : MS) (v : Int64) : wrF (P d x m) 153 4 38 (.long v) = some (P d x (mD m v)) := wrF_M d x m _ 38 _ (by omega) rfl rfl rfl
theorem rm_39 (d : AH) (x : XS) (m : MS) : rdR (P d x m) 153 4 39 = some 171 := by unfold rdR; rw [rdF_M]; rfl
theorem rm_40 (d : AH) (x : XS) (m : MS) : rdR (P d x m) 153 4 40 = some 172 := by unfold rdR; rw [rdF_M]; rfl
theorem rm_41 (d : AH) (x : XS) (m : MS) : rdR (P d x m) 153 4 41 = some 173 := by unfold rdR; rw [rdF_M]; rfl
theorem rm_42 (d : AH) (x : XS) (m : MS) : rdR (P d x m) 153 4 42 = some 174 := by unfold rdR; rw [rdF_M]; rfl
