/-! an image at i -/
def iC (i : Nat) (v : Value) (s : SS) (nw nwh : Nat → Int32) (nn fo dr : Int32) (r : Nat) : AO := if r = 0 then .inl (13, [v, .ref (i + 1), .ref (i + 7), .ref (i + 8), .int nn, .int fo, .int dr, .ref 0]) else if r < 7 then sCell (i + 1) s (r - 1) else if r = 7 then .inr (0, 10, .inl nw) else .inr (0, 10, .inl nwh)
def IP (d : AH) (i : Nat) (v : Value) (s : SS) (nw nwh : Nat → Int32) (nn fo dr : Int32) : AH := (d.1, d.2.1, fun a => if i ≤ a ∧ a < i + 9 then iC i v s nw nwh nn fo dr (a - i) else d.2.2 a)
theorem IP_get {d : AH} {i : Nat} (h1 : 175 ≤ i) (h2 : i + 9 ≤ d.1 + 175) (v : Value) (s : SS) (nw nwh : Nat → Int32) (nn fo dr : Int32) (r : Nat) (hr : r < 9) : dget (IP d i v s nw nwh nn fo dr) (i + r) = some (iC i v s nw nwh nn fo dr r) := dget_i (by omega) (by show i + r < d.1 + 175; omega) (by
  show (if i ≤ i + r ∧ i + r < i + 9 then iC i v s nw nwh nn fo dr (i + r - i) else _) = _
  rw [if_pos (by omega), show i + r - i = r by omega])
theorem IP_set {d : AH} {i : Nat} {v v' : Value} {s s' : SS} {nw nwh nw' nwh' : Nat → Int32} {nn fo dr nn' fo' dr' : Int32} (r : Nat) (hr : r < 9) (o : AO) (ho : iC i v' s' nw' nwh' nn' fo' dr' r = o) (hn : ∀ q, q ≠ r → iC i v' s' nw' nwh' nn' fo' dr' q = iC i v s nw nwh nn fo dr q) : dset (IP d i v s nw nwh nn fo dr) (i + r) o = IP d i v' s' nw' nwh' nn' fo' dr' := by
  unfold dset IP
  refine Prod.ext rfl (Prod.ext rfl ?_)
  funext a
  show va_up _ (i + r) o a = (if i ≤ a ∧ a < i + 9 then _ else _)
  unfold va_up
  by_cases c : a = i + r
  · rw [if_pos c, if_pos (by omega), ← ho, show a - i = r by omega]
  · rw [if_neg c]
    show (if i ≤ a ∧ a < i + 9 then _ else _) = _
    by_cases c2 : i ≤ a ∧ a < i + 9
    · rw [if_pos c2, if_pos c2, hn _ (by omega)]
    · rw [if_neg c2, if_neg c2]
theorem IP_sput {d : AH} {i : Nat} (h1 : 175 ≤ i) (x : XS) (m : MS) (v : Value) (s s' : SS) (nw nwh : Nat → Int32) (nn fo dr : Int32) : sput (P (IP d i v s nw nwh nn fo dr) x m) (i + 1) s' = P (IP d i v s' nw nwh nn fo dr) x m := by
  unfold sput P IP
  refine Prod.ext rfl (Prod.ext rfl ?_)
  funext a
  show (if i + 1 ≤ a ∧ a < i + 1 + 6 then sCell (i + 1) s' (a - (i + 1)) else if a < 153 then _ else if a < 175 then _ else if i ≤ a ∧ a < i + 9 then _ else _) = (if a < 153 then _ else if a < 175 then _ else if i ≤ a ∧ a < i + 9 then _ else _)
  by_cases c : i + 1 ≤ a ∧ a < i + 1 + 6
  · rw [if_pos c, if_neg (by omega), if_neg (by omega), if_pos (by omega)]
    unfold iC
    rw [if_neg (by omega), if_pos (by omega), show a - (i + 1) = a - i - 1 by omega]
  · rw [if_neg c]
    by_cases c1 : a < 153
    · rw [if_pos c1, if_pos c1]
    · rw [if_neg c1, if_neg c1]
      by_cases c2 : a < 175
      · rw [if_pos c2, if_pos c2]
      · rw [if_neg c2, if_neg c2]
        by_cases c3 : i ≤ a ∧ a < i + 9
        · rw [if_pos c3, if_pos c3]
          unfold iC
          by_cases c4 : a - i = 0
          · rw [if_pos c4, if_pos c4]
          · rw [if_neg c4, if_neg c4, if_neg (show ¬ a - i < 7 by omega), if_neg (show ¬ a - i < 7 by omega)]
        · rw [if_neg c3, if_neg c3]
theorem IP_StAt {d : AH} {i : Nat} (h1 : 175 ≤ i) (h2 : i + 9 ≤ d.1 + 175) (x : XS) (m : MS) (v : Value) (s : SS) (nw nwh : Nat → Int32) (nn fo dr : Int32) : StAt (P (IP d i v s nw nwh nn fo dr) x m) (i + 1) s := by
  rw [← IP_sput h1 x m v s s]
  exact StAt_sput _ (by show i + 1 + 6 ≤ d.1 + 175; omega)
theorem IP_f {d : AH} {i : Nat} (h1 : 175 ≤ i) (h2 : i + 9 ≤ d.1 + 175) (x : XS) (m : MS) (v : Value) (s : SS) (nw nwh : Nat → Int32) (nn fo dr : Int32) : aget (P (IP d i v s nw nwh nn fo dr) x m) i = some (.inl (13, [v, .ref (i + 1), .ref (i + 7), .ref (i + 8), .int nn, .int fo, .int dr, .ref 0])) := dget_a x m (IP_get h1 h2 v s nw nwh nn fo dr 0 (by omega))
theorem IP_a7 {d : AH} {i : Nat} (h1 : 175 ≤ i) (h2 : i + 9 ≤ d.1 + 175) (x : XS) (m : MS) (v : Value) (s : SS) (nw nwh : Nat → Int32) (nn fo dr : Int32) : aget (P (IP d i v s nw nwh nn fo dr) x m) (i + 7) = some (.inr (0, 10, .inl nw)) := dget_a x m (IP_get h1 h2 v s nw nwh nn fo dr 7 (by omega))
theorem IP_a8 {d : AH} {i : Nat} (h1 : 175 ≤ i) (h2 : i + 9 ≤ d.1 + 175) (x : XS) (m : MS) (v : Value) (s : SS) (nw nwh : Nat → Int32) (nn fo dr : Int32) : aget (P (IP d i v s nw nwh nn fo dr) x m) (i + 8) = some (.inr (0, 10, .inl nwh)) := dget_a x m (IP_get h1 h2 v s nw nwh nn fo dr 8 (by omega))
theorem IP_w {d : AH} {i : Nat} (h1 : 175 ≤ i) (h2 : i + 9 ≤ d.1 + 175) (x : XS) (m : MS) (v v' : Value) (s : SS) (nw nwh : Nat → Int32) (nn fo dr nn' fo' dr' : Int32) (k : Nat) (w : Value) (hk : k < 8) (e : [v, .ref (i + 1), .ref (i + 7), .ref (i + 8), .int nn, .int fo, .int dr, .ref 0].set k w = [v', .ref (i + 1), .ref (i + 7), .ref (i + 8), .int nn', .int fo', .int dr', .ref 0]) : wrF (P (IP d i v s nw nwh nn fo dr) x m) i 13 k w = some (P (IP d i v' s nw nwh nn' fo' dr') x m) := by
  have g : dget (IP d i v s nw nwh nn fo dr) i = some (.inl (13, [v, .ref (i + 1), .ref (i + 7), .ref (i + 8), .int nn, .int fo, .int dr, .ref 0])) := IP_get h1 h2 v s nw nwh nn fo dr 0 (by omega)
  rw [wrF_d x m k w g hk, e]
  congr 2
  exact IP_set 0 (by omega) _ rfl fun q hq => by unfold iC; rw [if_neg hq, if_neg hq]
theorem IP_s7 {d : AH} {i : Nat} (h1 : 175 ≤ i) (h2 : i + 9 ≤ d.1 + 175) (x : XS) (m : MS) (v : Value) (s : SS) (nw nwh : Nat → Int32) (nn fo dr : Int32) (k : Nat) (w : Int32) (hk : k < 10) : stI (P (IP d i v s nw nwh nn fo dr) x m) (i + 7) 0 (nI k) w = some (P (IP d i v s (va_up nw k w) nwh nn fo dr) x m) := by
  rw [stI_of (IP_a7 h1 h2 x m v s nw nwh nn fo dr) k w hk (by omega), P_hset _ _ _ _ _ (by omega)]
  congr 2
  exact IP_set 7 (by omega) _ rfl fun q hq => by
    unfold iC
    by_cases c : q = 0
    · rw [if_pos c, if_pos c]
    · by_cases c2 : q < 7
      · rw [if_neg c, if_neg c, if_pos c2, if_pos c2]
      · rw [if_neg c, if_neg c, if_neg c2, if_neg c2, if_neg hq, if_neg hq]
theorem IP_s8 {d : AH} {i : Nat} (h1 : 175 ≤ i) (h2 : i + 9 ≤ d.1 + 175) (x : XS) (m : MS) (v : Value) (s : SS) (nw nwh : Nat → Int32) (nn fo dr : Int32) (k : Nat) (w : Int32) (hk : k < 10) : stI (P (IP d i v s nw nwh nn fo dr) x m) (i + 8) 0 (nI k) w = some (P (IP d i v s nw (va_up nwh k w) nn fo dr) x m) := by
  rw [stI_of (IP_a8 h1 h2 x m v s nw nwh nn fo dr) k w hk (by omega), P_hset _ _ _ _ _ (by omega)]
  unfold P
  refine congrArg some (Prod.ext rfl (Prod.ext rfl ?_))
  funext a
  show (if a < 153 then _ else if a < 175 then _ else va_up _ (i + 8) _ a) = (if a < 153 then _ else if a < 175 then _ else if i ≤ a ∧ a < i + 9 then _ else _)
  by_cases c1 : a < 153
  · rw [if_pos c1, if_pos c1]
  · rw [if_neg c1, if_neg c1]
    by_cases c2 : a < 175
    · rw [if_pos c2, if_pos c2]
    · rw [if_neg c2, if_neg c2]
      unfold va_up
      by_cases c3 : a = i + 8
      · rw [if_pos c3, if_pos (by omega)]
        unfold iC
        rw [if_neg (by omega), if_neg (by omega), if_neg (by omega)]
      · rw [if_neg c3]
        show (if i ≤ a ∧ a < i + 9 then _ else _) = _
        by_cases c4 : i ≤ a ∧ a < i + 9
        · rw [if_pos c4, if_pos c4]
          unfold iC
          by_cases c5 : a - i = 0
          · rw [if_pos c5, if_pos c5]
          · rw [if_neg c5, if_neg c5]
            by_cases c6 : a - i < 7
            · rw [if_pos c6, if_pos c6]
            · rw [if_neg c6, if_neg c6, if_pos (by omega), if_pos (by omega)]
        · rw [if_neg c4, if_neg c4]
theorem X17_keepL (E : AEn) {d : AH} {i : Nat} (h1 : 175 ≤ i) (h2 : i + 9 ≤ d.1 + 175) (x : XS) (m : MS) (v : Value) (s : SS) (nn fo dr : Int32) : ∀ (r q : Nat) (nw nwh : Nat → Int32), q + r = 10 → (∀ j, j < q → nw j = x.2.1 22 j ∧ nwh j = x.2.1 23 j) → ∃ nw' nwh', evR T_X17_keep E 27 ([(0, .ref i), (1, .int (nI q))], [], P (IP d i v s nw nwh nn fo dr) x m) = evR T_X17_keep E 69 ([(0, .ref i)], [], P (IP d i v s nw' nwh' nn fo dr) x m) ∧ ∀ j, j < 10 → nw' j = x.2.1 22 j ∧ nwh' j = x.2.1 23 j
  | 0, q, nw, nwh, hq, h => by
    have e : q = 10 := by omega
    subst e
    refine ⟨nw, nwh, ?_, h⟩
    rw [e_X17_keep_27]
    simp (disch := omega) only [cond_true, cond_false, Option.bind_some, rI_s, rL_s, rR_s, rV_s, cnd_d, cnd_ne, cnd_eq, bI_d0, bI_t0, ite_not, decide_eq_false_iff_not, decide_eq_true_eq, lg_cmp_ge, lg_cmp_le, lg_cmp_gt, lg_cmp_lt, lg_cmp_eq, okb_1, okb_0, okb_b, eq_self, if_true, if_false, Bool.true_eq_false, Bool.false_eq_true, li_10, le_rT]
  | r + 1, q, nw, nwh, hq, h => by
    have hn : ¬ (10 : Int32) ≤ nI q := by rw [show (10 : Int32) = nI 10 from rfl, nI_leP (by omega) (by omega)]; omega
    obtain ⟨nw', nwh', e', a'⟩ := X17_keepL E h1 h2 x m v s nn fo dr r (q + 1) (va_up nw q (x.2.1 22 q)) (va_up nwh q (x.2.1 23 q)) (by omega) (fun j hj => by
      by_cases c : j = q
      · rw [c, va_up_self, va_up_self]; exact ⟨rfl, rfl⟩
      · rw [va_up_ne _ _ c, va_up_ne _ _ c]; exact h j (by omega))
    refine ⟨nw', nwh', ?_, a'⟩
    have r2 : ∀ nw nwh, rdR (P (IP d i v s nw nwh nn fo dr) x m) i 13 2 = some (i + 7) := fun nw nwh => rdR_of (IP_f h1 h2 x m v s nw nwh nn fo dr) 2 _ rfl
    have r3 : ∀ nw nwh, rdR (P (IP d i v s nw nwh nn fo dr) x m) i 13 3 = some (i + 8) := fun nw nwh => rdR_of (IP_f h1 h2 x m v s nw nwh nn fo dr) 3 _ rfl
    have r7 : ∀ nw nwh, rdR (P (IP d i v s nw nwh nn fo dr) x m) i 13 7 = some 0 := fun nw nwh => rdR_of (IP_f h1 h2 x m v s nw nwh nn fo dr) 7 _ rfl
    rw [← e', e_X17_keep_27]
    simp (disch := omega) only [e_X17_keep_33, cond_true, cond_false, Option.bind_some, rI_s, rL_s, rR_s, rV_s, cnd_d, cnd_ne, cnd_eq, bI_d0, bI_t0, ite_not, decide_eq_false_iff_not, decide_eq_true_eq, lg_cmp_ge, lg_cmp_le, lg_cmp_gt, lg_cmp_lt, lg_cmp_eq, okb_1, okb_0, okb_b, eq_self, if_true, if_false, Bool.true_eq_false, Bool.false_eq_true, hn, r2, r3, r7, rx_8, rx_9, lx_22, lx_23, IP_s7 h1 h2, IP_s8 h1 h2, nI_1]
theorem X17_keep (k : Nat) {d : AH} {i : Nat} (h1 : 175 ≤ i) (h2 : i + 9 ≤ d.1 + 175) (x : XS) (m : MS) (v : Value) (s : SS) (nw nwh : Nat → Int32) (nn fo dr : Int32) : ∃ s' nw' nwh', callR (k + 2) n_X17_keep [.ref i] (P (IP d i v s nw nwh nn fo dr) x m) = some (.inl none, P (IP d i (.ref (x.2.2.2.2.1 0)) s' nw' nwh' (x.1 10) (x.1 4) (x.1 11)) x m) ∧ EqS (x.2.2.2.1 0) s' ∧ ∀ j, j < 10 → nw' j = x.2.1 22 j ∧ nwh' j = x.2.1 23 j := by
  have w0 := IP_w h1 h2 x m v (.ref (x.2.2.2.2.1 0)) s nw nwh nn fo dr nn fo dr 0 (.ref (x.2.2.2.2.1 0)) (by omega) rfl
  obtain ⟨s', e1, q1⟩ := X_copyFrom k (P (IP d i (.ref (x.2.2.2.2.1 0)) s nw nwh nn fo dr) x m) (i + 1) 6 s (x.2.2.2.1 0) (IP_StAt h1 h2 x m _ s nw nwh nn fo dr) (StAt_P _ x m 0 (by omega)) (by omega)
  rw [IP_sput h1] at e1
  obtain ⟨nw', nwh', e2, a2⟩ := X17_keepL (callR (k + 1)) h1 h2 x m (.ref (x.2.2.2.2.1 0)) s' nn fo dr 10 0 nw nwh (by omega) (fun j hj => absurd hj (by omega))
  refine ⟨s', nw', nwh', ?_, q1, a2⟩
  have hi : ∀ (v : Value) (s : SS) (nw nwh : Nat → Int32) (nn fo dr : Int32), isO (P (IP d i v s nw nwh nn fo dr) x m) i 13 = true := fun v s nw nwh nn fo dr => isO_of (IP_f h1 h2 x m v s nw nwh nn fo dr)
  have r7 : ∀ (v : Value) (s : SS) (nw nwh : Nat → Int32) (nn fo dr : Int32), rdR (P (IP d i v s nw nwh nn fo dr) x m) i 13 7 = some 0 := fun v s nw nwh nn fo dr => rdR_of (IP_f h1 h2 x m v s nw nwh nn fo dr) 7 _ rfl
  have r1 : ∀ (v : Value) (s : SS) (nw nwh : Nat → Int32) (nn fo dr : Int32), rdR (P (IP d i v s nw nwh nn fo dr) x m) i 13 1 = some (i + 1) := fun v s nw nwh nn fo dr => rdR_of (IP_f h1 h2 x m v s nw nwh nn fo dr) 1 _ rfl
  have w4 := IP_w h1 h2 x m (.ref (x.2.2.2.2.1 0)) (.ref (x.2.2.2.2.1 0)) s' nw' nwh' nn fo dr (x.1 10) fo dr 4 (.int (x.1 10)) (by omega) rfl
  have w5 := IP_w h1 h2 x m (.ref (x.2.2.2.2.1 0)) (.ref (x.2.2.2.2.1 0)) s' nw' nwh' (x.1 10) fo dr (x.1 10) (x.1 4) dr 5 (.int (x.1 4)) (by omega) rfl
  have w6 := IP_w h1 h2 x m (.ref (x.2.2.2.2.1 0)) (.ref (x.2.2.2.2.1 0)) s' nw' nwh' (x.1 10) (x.1 4) dr (x.1 10) (x.1 4) (x.1 11) 6 (.int (x.1 11)) (by omega) rfl
  rw [nI_0] at e2
  simp (disch := omega) only [c_X17_keep, e_X17_keep_0, cond_true, cond_false, Option.bind_some, rI_s, rL_s, rR_s, rV_s, cnd_d, cnd_ne, cnd_eq, bI_d0, bI_t0, ite_not, decide_eq_false_iff_not, decide_eq_true_eq, lg_cmp_ge, lg_cmp_le, lg_cmp_gt, lg_cmp_lt, lg_cmp_eq, okb_1, okb_0, okb_b, eq_self, if_true, if_false, Bool.true_eq_false, Bool.false_eq_true, hi, r7, rx_0, w0, r1, rx_1, e1, e2]
  rw [e_X17_keep_69]
  simp (disch := omega) only [cond_true, cond_false, Option.bind_some, rI_s, rL_s, rR_s, rV_s, cnd_d, cnd_ne, cnd_eq, bI_d0, bI_t0, ite_not, decide_eq_false_iff_not, decide_eq_true_eq, lg_cmp_ge, lg_cmp_le, lg_cmp_gt, lg_cmp_lt, lg_cmp_eq, okb_1, okb_0, okb_b, eq_self, if_true, if_false, Bool.true_eq_false, Bool.false_eq_true, r7, rx_10, rx_4, rx_11, w4, w5, w6]
theorem X17_backL (E : AEn) {d : AH} {i : Nat} (h1 : 175 ≤ i) (h2 : i + 9 ≤ d.1 + 175) (m : MS) (v : Value) (s : SS) (nw nwh : Nat → Int32) (nn fo dr : Int32) (x0 : XS) : ∀ (r q : Nat) (x : XS), q + r = 10 → (∀ j, j < q → x.2.1 22 j = nw j ∧ x.2.1 23 j = nwh j) → x.1 = x0.1 → x.2.2 = x0.2.2 → (∀ j, j ≠ 22 → j ≠ 23 → x.2.1 j = x0.2.1 j) → ∃ x', evR T_X17_back E 27 ([(0, .ref i), (1, .int (nI q))], [], P (IP d i v s nw nwh nn fo dr) x m) = evR T_X17_back E 69 ([(0, .ref i)], [], P (IP d i v s nw nwh nn fo dr) x' m) ∧ (∀ j, j < 10 → x'.2.1 22 j = nw j ∧ x'.2.1 23 j = nwh j) ∧ x'.1 = x0.1 ∧ x'.2.2 = x0.2.2 ∧ ∀ j, j ≠ 22 → j ≠ 23 → x'.2.1 j = x0.2.1 j
  | 0, q, x, hq, h, a, b, c => by
    have e : q = 10 := by omega
    subst e
    refine ⟨x, ?_, h, a, b, c⟩
    rw [e_X17_back_27]
    simp (disch := omega) only [cond_true, cond_false, Option.bind_some, rI_s, rL_s, rR_s, rV_s, cnd_d, cnd_ne, cnd_eq, bI_d0, bI_t0, ite_not, decide_eq_false_iff_not, decide_eq_true_eq, lg_cmp_ge, lg_cmp_le, lg_cmp_gt, lg_cmp_lt, lg_cmp_eq, okb_1, okb_0, okb_b, eq_self, if_true, if_false, Bool.true_eq_false, Bool.false_eq_true, li_10, le_rT]
  | r + 1, q, x, hq, h, a, b, c => by
    have hn : ¬ (10 : Int32) ≤ nI q := by rw [show (10 : Int32) = nI 10 from rfl, nI_leP (by omega) (by omega)]; omega
    obtain ⟨x', e', r'⟩ := X17_backL E h1 h2 m v s nw nwh nn fo dr x0 r (q + 1) (xA (xA x 22 q (nw q)) 23 q (nwh q)) (by omega) (fun j hj => by
      rw [xA_o _ _ _ _ _ (show (22 : Nat) ≠ 23 by omega)]
      by_cases z : j = q
      · rw [z, xA_s, xA_s]; exact ⟨rfl, rfl⟩
      · rw [xA_n _ _ _ _ _ z, xA_n _ _ _ _ _ z, xA_o _ _ _ _ _ (show (23 : Nat) ≠ 22 by omega)]; exact h j (by omega)) a b (fun j p q => by rw [xA_o _ _ _ _ _ q, xA_o _ _ _ _ _ p]; exact c j p q)
    refine ⟨x', ?_, r'⟩
    have r2 : ∀ x, rdR (P (IP d i v s nw nwh nn fo dr) x m) i 13 2 = some (i + 7) := fun x => rdR_of (IP_f h1 h2 x m v s nw nwh nn fo dr) 2 _ rfl
    have r3 : ∀ x, rdR (P (IP d i v s nw nwh nn fo dr) x m) i 13 3 = some (i + 8) := fun x => rdR_of (IP_f h1 h2 x m v s nw nwh nn fo dr) 3 _ rfl
    have r7 : ∀ x, rdR (P (IP d i v s nw nwh nn fo dr) x m) i 13 7 = some 0 := fun x => rdR_of (IP_f h1 h2 x m v s nw nwh nn fo dr) 7 _ rfl
    have l7 : ∀ x, ldI (P (IP d i v s nw nwh nn fo dr) x m) (i + 7) 0 (nI q) = some (nw q) := fun x => ldI_of (IP_a7 h1 h2 x m v s nw nwh nn fo dr) (by omega) q (by omega)
    have l8 : ∀ x, ldI (P (IP d i v s nw nwh nn fo dr) x m) (i + 8) 0 (nI q) = some (nwh q) := fun x => ldI_of (IP_a8 h1 h2 x m v s nw nwh nn fo dr) (by omega) q (by omega)
    rw [← e', e_X17_back_27]
    simp (disch := omega) only [e_X17_back_33, cond_true, cond_false, Option.bind_some, rI_s, rL_s, rR_s, rV_s, cnd_d, cnd_ne, cnd_eq, bI_d0, bI_t0, ite_not, decide_eq_false_iff_not, decide_eq_true_eq, lg_cmp_ge, lg_cmp_le, lg_cmp_gt, lg_cmp_lt, lg_cmp_eq, okb_1, okb_0, okb_b, eq_self, if_true, if_false, Bool.true_eq_false, Bool.false_eq_true, hn, r2, r3, r7, l7, l8, rx_8, rx_9, sx_22, sx_23, nI_1]
theorem X17_back (k : Nat) {d : AH} {i : Nat} (h1 : 175 ≤ i) (h2 : i + 9 ≤ d.1 + 175) (x : XS) (m : MS) (v : Nat) (s : SS) (nw nwh : Nat → Int32) (nn fo dr : Int32) : ∃ x', callR (k + 2) n_X17_back [.ref i] (P (IP d i (.ref v) s nw nwh nn fo dr) x m) = some (.inl none, P (IP d i (.ref v) s nw nwh nn fo dr) x' m) ∧ EqS s (x'.2.2.2.1 0) ∧ (∀ j, j < 10 → x'.2.1 22 j = nw j ∧ x'.2.1 23 j = nwh j) ∧ (∀ q, q ≠ 4 → q ≠ 10 → q ≠ 11 → q ≠ 20 → x'.1 q = x.1 q) ∧ (x'.1 4 = fo ∧ x'.1 10 = nn ∧ x'.1 11 = dr ∧ x'.1 20 = 0) ∧ (∀ j, j ≠ 22 → j ≠ 23 → x'.2.1 j = x.2.1 j) ∧ x'.2.2.2.2.1 0 = v ∧ x'.2.2.2.2.1 1 = x.2.2.2.2.1 1 ∧ x'.2.2.2.2.2 = x.2.2.2.2.2 := by
  obtain ⟨s', e1, q1⟩ := X_copyFrom k (P (IP d i (.ref v) s nw nwh nn fo dr) (xR x 0 v) m) 6 (i + 1) (x.2.2.2.1 0) s (StAt_P _ (xR x 0 v) m 0 (by omega)) (IP_StAt h1 h2 (xR x 0 v) m (.ref v) s nw nwh nn fo dr) (by omega)
  have ep : sput (P (IP d i (.ref v) s nw nwh nn fo dr) (xR x 0 v) m) 6 s' = P (IP d i (.ref v) s nw nwh nn fo dr) (xS (xR x 0 v) 0 s') m := P_s _ (xR x 0 v) m 0 (by omega) s'
  rw [ep] at e1
  obtain ⟨x2, e2, a2, b2, c2, d2⟩ := X17_backL (callR (k + 1)) h1 h2 m (.ref v) s nw nwh nn fo dr (xS (xR x 0 v) 0 s') 10 0 (xS (xR x 0 v) 0 s') (by omega) (fun j hj => absurd hj (by omega)) rfl rfl (fun _ _ _ => rfl)
  refine ⟨xF (xF (xF (xF x2 10 nn) 4 fo) 11 dr) 20 0, ?_, ?_, a2, fun q z1 z2 z3 z4 => ?_, ⟨?_, ?_, ?_, xF_s _ _ _⟩, d2, ?_, ?_, ?_⟩
  · have hi : ∀ x, isO (P (IP d i (.ref v) s nw nwh nn fo dr) x m) i 13 = true := fun x => isO_of (IP_f h1 h2 x m (.ref v) s nw nwh nn fo dr)
    have r0 : ∀ x, rdR (P (IP d i (.ref v) s nw nwh nn fo dr) x m) i 13 0 = some v := fun x => rdR_of (IP_f h1 h2 x m (.ref v) s nw nwh nn fo dr) 0 _ rfl
    have r1 : ∀ x, rdR (P (IP d i (.ref v) s nw nwh nn fo dr) x m) i 13 1 = some (i + 1) := fun x => rdR_of (IP_f h1 h2 x m (.ref v) s nw nwh nn fo dr) 1 _ rfl
    have r7 : ∀ x, rdR (P (IP d i (.ref v) s nw nwh nn fo dr) x m) i 13 7 = some 0 := fun x => rdR_of (IP_f h1 h2 x m (.ref v) s nw nwh nn fo dr) 7 _ rfl
    have r4 : ∀ x, rdI (P (IP d i (.ref v) s nw nwh nn fo dr) x m) i 13 4 = some nn := fun x => rdI_of (IP_f h1 h2 x m (.ref v) s nw nwh nn fo dr) 4 _ rfl
    have r5 : ∀ x, rdI (P (IP d i (.ref v) s nw nwh nn fo dr) x m) i 13 5 = some fo := fun x => rdI_of (IP_f h1 h2 x m (.ref v) s nw nwh nn fo dr) 5 _ rfl
    have r6 : ∀ x, rdI (P (IP d i (.ref v) s nw nwh nn fo dr) x m) i 13 6 = some dr := fun x => rdI_of (IP_f h1 h2 x m (.ref v) s nw nwh nn fo dr) 6 _ rfl
    rw [nI_0] at e2
    simp (disch := omega) only [c_X17_back, e_X17_back_0, cond_true, cond_false, Option.bind_some, rI_s, rL_s, rR_s, rV_s, cnd_d, cnd_ne, cnd_eq, bI_d0, bI_t0, ite_not, decide_eq_false_iff_not, decide_eq_true_eq, lg_cmp_ge, lg_cmp_le, lg_cmp_gt, lg_cmp_lt, lg_cmp_eq, okb_1, okb_0, okb_b, eq_self, if_true, if_false, Bool.true_eq_false, Bool.false_eq_true, hi, r7, r0, wx_0, r1, rx_1, e1, e2]
    rw [e_X17_back_69]
    simp (disch := omega) only [cond_true, cond_false, Option.bind_some, rI_s, rL_s, rR_s, rV_s, cnd_d, cnd_ne, cnd_eq, bI_d0, bI_t0, ite_not, decide_eq_false_iff_not, decide_eq_true_eq, lg_cmp_ge, lg_cmp_le, lg_cmp_gt, lg_cmp_lt, lg_cmp_eq, okb_1, okb_0, okb_b, eq_self, if_true, if_false, Bool.true_eq_false, Bool.false_eq_true, r7, r4, r5, r6, wx_10, wx_4, wx_11, wx_20]
  · show EqS s (x2.2.2.2.1 0)
    rw [show x2.2.2.2.1 = (xS (xR x 0 v) 0 s').2.2.2.1 by rw [c2], xS_s]
    exact q1
  · rw [xF_n _ _ _ _ z4, xF_n _ _ _ _ z3, xF_n _ _ _ _ z1, xF_n _ _ _ _ z2, b2]; rfl
  · rw [xF_n _ _ _ _ (by omega), xF_n _ _ _ _ (by omega), xF_s]
  · rw [xF_n _ _ _ _ (by omega), xF_n _ _ _ _ (by omega), xF_n _ _ _ _ (by omega), xF_s]
  · rw [xF_n _ _ _ _ (by omega), xF_s]
  · show x2.2.2.2.2.1 0 = v
    rw [c2]
    show va_up x.2.2.2.2.1 0 v 0 = v
    rw [va_up_self]
  · show x2.2.2.2.2.1 1 = _
    rw [c2]
    show va_up x.2.2.2.2.1 0 v 1 = _
    rw [va_up_ne _ _ (by omega)]
  · show x2.2.2.2.2.2 = _
    rw [c2]
    rfl
