/-! what is made later: d's cells, from 175 on -/
def dpush (d : AH) (n : Nat) (o : AO) : AH := (d.1 + 1, d.2.1 + n, va_up d.2.2 (d.1 + 175) o)
def dset (d : AH) (a : Nat) (o : AO) : AH := (d.1, d.2.1, va_up d.2.2 a o)
def dget (d : AH) (a : Nat) : Option AO := if 175 ≤ a ∧ a < d.1 + 175 then some (d.2.2 a) else none
theorem P_1 (d : AH) (x : XS) (m : MS) : (P d x m).1 = d.1 + 175 := rfl
theorem dget_a {d : AH} {a : Nat} {o : AO} (x : XS) (m : MS) (h : dget d a = some o) : aget (P d x m) a = some o := by
  unfold dget at h
  split at h
  next c =>
    cases h
    unfold aget
    rw [if_pos (by show a < d.1 + 175; omega)]
    show some (if a < 153 then xCell x a else if a < 175 then mCell m (a - 153) else d.2.2 a) = _
    rw [if_neg (by omega), if_neg (by omega)]
  next => cases h
theorem dget_r {d : AH} {a : Nat} {o : AO} (h : dget d a = some o) : 175 ≤ a ∧ a < d.1 + 175 ∧ d.2.2 a = o := by
  unfold dget at h
  split at h
  next c => cases h; exact ⟨c.1, c.2, rfl⟩
  next => cases h
theorem dget_i {d : AH} {a : Nat} {o : AO} (h1 : 175 ≤ a) (h2 : a < d.1 + 175) (h : d.2.2 a = o) : dget d a = some o := by
  unfold dget
  rw [if_pos ⟨h1, h2⟩, h]
theorem P_push (d : AH) (x : XS) (m : MS) (n : Nat) (o : AO) : hpush (P d x m) n o = P (dpush d n o) x m := by
  unfold hpush P dpush
  refine Prod.ext (by show d.1 + 175 + 1 = d.1 + 1 + 175; omega) (Prod.ext rfl ?_)
  funext a
  show va_up _ (d.1 + 175) o a = (if a < 153 then _ else if a < 175 then _ else va_up d.2.2 (d.1 + 175) o a)
  unfold va_up
  by_cases c : a = d.1 + 175
  · rw [if_pos c, if_neg (by omega), if_neg (by omega), if_pos c]
  · rw [if_neg c, if_neg c]
theorem P_hset (d : AH) (x : XS) (m : MS) (a : Nat) (o : AO) (ha : 175 ≤ a) : hset (P d x m) a o = P (dset d a o) x m := by
  unfold hset P dset
  refine Prod.ext rfl (Prod.ext rfl ?_)
  funext q
  show va_up _ a o q = (if q < 153 then _ else if q < 175 then _ else va_up d.2.2 a o q)
  unfold va_up
  by_cases c : q = a
  · rw [if_pos c, if_neg (by omega), if_neg (by omega), if_pos c]
  · rw [if_neg c, if_neg c]
theorem dget_new (d : AH) (n : Nat) (o : AO) : dget (dpush d n o) (d.1 + 175) = some o := dget_i (by omega) (by show d.1 + 175 < d.1 + 1 + 175; omega) (va_up_self _ _ _)
theorem dget_push {d : AH} {a : Nat} {o : AO} (n : Nat) (o' : AO) (h : dget d a = some o) : dget (dpush d n o') a = some o := by
  obtain ⟨h1, h2, h3⟩ := dget_r h
  exact dget_i h1 (by show a < d.1 + 1 + 175; omega) (by show va_up d.2.2 (d.1 + 175) o' a = o; rw [va_up_ne _ _ (by omega)]; exact h3)
theorem dget_set {d : AH} {a : Nat} {o : AO} (o' : AO) (h : dget d a = some o) : dget (dset d a o') a = some o' := by
  obtain ⟨h1, h2, h3⟩ := dget_r h
  exact dget_i h1 h2 (va_up_self _ _ _)
theorem dget_set_ne {d : AH} {a b : Nat} {o : AO} (o' : AO) (h : dget d b = some o) (hn : b ≠ a) : dget (dset d a o') b = some o := by
  obtain ⟨h1, h2, h3⟩ := dget_r h
  exact dget_i h1 h2 (by show va_up d.2.2 a o' b = o; rw [va_up_ne _ _ hn]; exact h3)
theorem wrF_of {h : AH} {a ci : Nat} {fs : List Value} (e : aget h a = some (.inl (ci, fs))) (k : Nat) (v : Value) (hk : k < fs.length) : wrF h a ci k v = some (hset h a (.inl (ci, fs.set k v))) := by
  unfold wrF
  rw [e]
  show (bif (ci == ci) && decide (k < fs.length) then _ else _) = _
  rw [beq_self_eq_true, decide_eq_true hk]
  rfl
theorem wrF_d {d : AH} {a ci : Nat} {fs : List Value} (x : XS) (m : MS) (k : Nat) (v : Value) (e : dget d a = some (.inl (ci, fs))) (hk : k < fs.length) : wrF (P d x m) a ci k v = some (P (dset d a (.inl (ci, fs.set k v))) x m) := by
  rw [wrF_of (dget_a x m e) k v hk, P_hset _ _ _ _ _ (dget_r e).1]
theorem stI_of {h : AH} {a t n : Nat} {f : Nat → Int32} (e : aget h a = some (.inr (t, n, .inl f))) (k : Nat) (v : Int32) (hk : k < n) (hn : n < 2 ^ 31) : stI h a t (nI k) v = some (hset h a (.inr (t, n, .inl (va_up f k v)))) := by
  unfold stI
  rw [e]
  show (bif (t == t) && inb (nI k) n then some (hset h a (.inr (t, n, .inl (va_up f (nI k).toNatClampNeg v)))) else none) = _
  rw [beq_self_eq_true, inb_nI hk hn, nI_clamp (by omega)]
  rfl
theorem ldI_of' {h : AH} {a t n : Nat} {f : Nat → Int32} (e : aget h a = some (.inr (t, n, .inl f))) (k : Nat) (hk : k < n) (hn : n < 2 ^ 31) : ldI h a t (nI k) = some (f k) := by
  unfold ldI
  rw [e]
  show (bif (t == t) && inb (nI k) n then some (f (nI k).toNatClampNeg) else none) = _
  rw [beq_self_eq_true, inb_nI hk hn, nI_clamp (by omega)]
  rfl
/-! a State made -/
def nst (d : AH) (a : Nat) : AH := (d.1 + 5, d.2.1 + 30, fun q => if q = a then .inl (2, [.ref (d.1 + 175), .ref (d.1 + 176), .ref (d.1 + 177), .ref (d.1 + 178), .ref (d.1 + 179), .int 0, .int 0, .int 0, .int 0, .int 0]) else if d.1 + 175 ≤ q ∧ q < d.1 + 180 then .inr (0, 6, .inl fun _ => 0) else d.2.2 q)
theorem X2_init (k : Nat) (d : AH) (x : XS) (m : MS) (a : Nat) (h : dget d a = some (.inl (2, dF2))) : callR (k + 1) n_X2_init [.ref a] (P d x m) = some (.inl none, P (nst d a) x m) := by
  have hi : isO (P d x m) a 2 = true := isO_of (dget_a x m h)
  have hr := dget_r h
  have g1 := dget_push 6 (.inr (0, 6, .inl fun _ => 0)) h
  have w1 := wrF_d x m 0 (.ref (d.1 + 175)) g1 (by decide)
  have g2 := dget_push 6 (.inr (0, 6, .inl fun _ => 0)) (dget_set (.inl (2, dF2.set 0 (.ref (d.1 + 175)))) g1)
  have w2 := wrF_d x m 1 (.ref (d.1 + 1 + 175)) g2 (by simp [dF2])
  have g3 := dget_push 6 (.inr (0, 6, .inl fun _ => 0)) (dget_set (.inl (2, (dF2.set 0 (.ref (d.1 + 175))).set 1 (.ref (d.1 + 1 + 175)))) g2)
  have w3 := wrF_d x m 2 (.ref (d.1 + 1 + 1 + 175)) g3 (by simp [dF2])
  have g4 := dget_push 6 (.inr (0, 6, .inl fun _ => 0)) (dget_set (.inl (2, ((dF2.set 0 (.ref (d.1 + 175))).set 1 (.ref (d.1 + 1 + 175))).set 2 (.ref (d.1 + 1 + 1 + 175)))) g3)
  have w4 := wrF_d x m 3 (.ref (d.1 + 1 + 1 + 1 + 175)) g4 (by simp [dF2])
  have g5 := dget_push 6 (.inr (0, 6, .inl fun _ => 0)) (dget_set (.inl (2, (((dF2.set 0 (.ref (d.1 + 175))).set 1 (.ref (d.1 + 1 + 175))).set 2 (.ref (d.1 + 1 + 1 + 175))).set 3 (.ref (d.1 + 1 + 1 + 1 + 175)))) g4)
  have w5 := wrF_d x m 4 (.ref (d.1 + 1 + 1 + 1 + 1 + 175)) g5 (by simp [dF2])
  simp only [c_X2_init, e_X2_init_0, hi, cond_true, P_push, P_1, w1, Option.bind_some, show ∀ (d : AH) (a : Nat) (o : AO), (dset d a o).1 = d.1 from fun _ _ _ => rfl, show ∀ (d : AH) (n : Nat) (o : AO), (dpush d n o).1 = d.1 + 1 from fun _ _ _ => rfl, w2, w3, w4, w5]
  congr 3
  refine Prod.ext rfl (Prod.ext (by show d.2.1 + 6 + 6 + 6 + 6 + 6 = d.2.1 + 30; omega) ?_)
  funext q
  show va_up (va_up (va_up (va_up (va_up (va_up (va_up (va_up (va_up (va_up d.2.2 (d.1 + 175) _) a _) (d.1 + 1 + 175) _) a _) (d.1 + 1 + 1 + 175) _) a _) (d.1 + 1 + 1 + 1 + 175) _) a _) (d.1 + 1 + 1 + 1 + 1 + 175) _) a _ q = (if q = a then _ else if d.1 + 175 ≤ q ∧ q < d.1 + 180 then _ else d.2.2 q)
  unfold va_up
  by_cases c : q = a
  · rw [if_pos c, if_pos c]; rfl
  · simp only [if_neg c]
    by_cases c2 : d.1 + 175 ≤ q ∧ q < d.1 + 180
    · rw [if_pos c2]
      by_cases q4 : q = d.1 + 1 + 1 + 1 + 1 + 175
      · rw [if_pos q4]
      · rw [if_neg q4]
        by_cases q3 : q = d.1 + 1 + 1 + 1 + 175
        · rw [if_pos q3]
        · rw [if_neg q3]
          by_cases q2 : q = d.1 + 1 + 1 + 175
          · rw [if_pos q2]
          · rw [if_neg q2]
            by_cases q1 : q = d.1 + 1 + 175
            · rw [if_pos q1]
            · rw [if_neg q1, if_pos (by omega)]
    · rw [if_neg c2, if_neg (by omega), if_neg (by omega), if_neg (by omega), if_neg (by omega), if_neg (by omega)]
