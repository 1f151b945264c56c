/-! the best row to go round -/
theorem pc6 : ∀ s, s < 64 → pcI (nI s) = nI (bc s) := by decide
theorem sb6 : ∀ h, h < 6 → ∀ s, s < 64 → hsB s h = true → 2 ^ h ≤ s ∧ bc (s - 2 ^ h) + 1 = bc s ∧ nI s &&& (((1 : Int32) <<< (nI h &&& 31)) ^^^ (-1)) = nI (s - 2 ^ h) := by decide
theorem sg6 : ∀ h, h < 6 → ∀ g, g < 6 → ∀ s, s < 64 → hsB s h = true → (hsB (s - 2 ^ h) g = (hsB s g && !decide (g = h))) := by decide
theorem ex6 : ∀ n, n < 7 → ∀ s, s < 2 ^ n → 0 < bc s → ∃ h, h < n ∧ hsB s h = true := by decide
theorem bc_0 : ∀ s, s < 64 → (bc s = 0 ↔ s = 0) := by decide
abbrev OB : Type := Int32 × (Nat → Nat)
def orV (C : AC) (A : AA) (n many : Nat) (rw0 : Nat → Nat) : Int32 := sumI ((itA (C.1, C.2.1, C.2.2.1, C.2.2.2.1, C.2.2.2.2.1, some (many, rw0)) n (rowA A 0)).1 0) C.1
def orT (C : AC) (A : AA) (n many : Nat) (r : Nat → Nat) (B : OB) : OB := if B.1 < orV C A n many r then (orV C A n many r, r) else B
def scF (f : Nat → OB → OB) (ok : Nat → Bool) : Nat → Nat → OB → OB
  | 0, _, B => B
  | r + 1, h, B => scF f ok r (h + 1) (if ok h = true then f h B else B)
def lvF (T : (Nat → Nat) → OB → OB) (n : Nat) : Nat → Nat → (Nat → Nat) → Nat → OB → OB
  | 0, _, r, _, B => T r B
  | e + 1, k, r, s, B => scF (fun h B => lvF T n e (k + 1) (va_up r k h) (s - 2 ^ h) B) (hsB s) n 0 B
theorem orT_pos {C : AC} {A : AA} {n many : Nat} {r : Nat → Nat} {B : OB} (h : 0 ≤ orV C A n many r) : 0 ≤ (orT C A n many r B).1 := by
  unfold orT
  split
  · exact h
  next c => exact Int32.le_trans h (Int32.not_lt.mp c)
theorem orT_mono {C : AC} {A : AA} {n many : Nat} {r : Nat → Nat} {B : OB} (h : 0 ≤ B.1) : 0 ≤ (orT C A n many r B).1 := by
  unfold orT
  split
  next c => exact Int32.le_of_lt (Int32.lt_of_le_of_lt h c)
  · exact h
theorem scF_mono {f : Nat → OB → OB} {ok : Nat → Bool} (hf : ∀ h B, ok h = true → 0 ≤ B.1 → 0 ≤ (f h B).1) : ∀ r h B, 0 ≤ B.1 → 0 ≤ (scF f ok r h B).1
  | 0, _, _, hB => hB
  | r + 1, h, B, hB => by
    refine scF_mono hf r (h + 1) _ ?_
    split
    next c => exact hf h B c hB
    · exact hB
theorem scF_pos {f : Nat → OB → OB} {ok : Nat → Bool} (hf : ∀ h B, ok h = true → 0 ≤ (f h B).1) : ∀ r h B, (∃ g, h ≤ g ∧ g < h + r ∧ ok g = true) → 0 ≤ (scF f ok r h B).1
  | 0, h, _, ⟨g, h1, h2, _⟩ => absurd h1 (by omega)
  | r + 1, h, B, ⟨g, h1, h2, h3⟩ => by
    show 0 ≤ (scF f ok r (h + 1) (if ok h = true then f h B else B)).1
    by_cases c : ok h = true
    · rw [if_pos c]
      exact scF_mono (fun h B c _ => hf h B c) r (h + 1) _ (hf h B c)
    · have : g ≠ h := fun e => c (e ▸ h3)
      exact scF_pos hf r (h + 1) _ ⟨g, by omega, by omega, h3⟩
def RwOK (n k : Nat) (r : Nat → Nat) : Prop := ∀ i, i < k → r i < n
theorem RwOK_up {n k h : Nat} {r : Nat → Nat} (hr : RwOK n k r) (hh : h < n) : RwOK n (k + 1) (va_up r k h) := fun i hi => by
  by_cases c : i = k
  · rw [c, va_up_self]; exact hh
  · rw [va_up_ne _ _ c]; exact hr i (by omega)
theorem lvF_pos {T : (Nat → Nat) → OB → OB} {n many : Nat} (hn : n ≤ 6) (hT : ∀ r B, RwOK n many r → 0 ≤ (T r B).1) : ∀ e k r s B, k + e = many → s < 2 ^ n → bc s = e → RwOK n k r → 0 ≤ (lvF T n e k r s B).1
  | 0, k, r, s, B, hk, hs, hb, hr => hT r B (by rw [← hk]; exact hr)
  | e + 1, k, r, s, B, hk, hs, hb, hr => by
    have h64 : 2 ^ n ≤ 2 ^ 6 := Nat.pow_le_pow_right (by omega) hn
    refine scF_pos (fun h B c => ?_) n 0 B ?_
    · by_cases hh : h < n
      · obtain ⟨h1, h2, h3⟩ := sb6 h (by omega) s (by omega) c
        have hp := Nat.two_pow_pos h
        exact lvF_pos hn hT e (k + 1) (va_up r k h) (s - 2 ^ h) B (by omega) (by omega) (by omega) (RwOK_up hr hh)
      · exfalso
        have hz : s / 2 ^ h = 0 := Nat.div_eq_of_lt (Nat.lt_of_lt_of_le hs (Nat.pow_le_pow_right (by omega) (by omega)))
        have hc := of_decide_eq_true c
        rw [hz] at hc
        omega
    · obtain ⟨h, h1, h2⟩ := ex6 n (by omega) s hs (by omega)
      exact ⟨h, by omega, by omega, h2⟩
/-! x's -/
def BX (many : Nat) (B : OB) (x : XS) : Prop := x.1 22 = B.1 ∧ (0 ≤ B.1 → ∀ i, i < many → x.2.1 26 i = nI (B.2 i))
theorem WA_row {C : AC} {A : AA} {fo F} (hW : WA (CW C fo F none) A) {many : Nat} {r : Nat → Nat} (hr : RwOK C.1 many r) : WA (CW C fo F (some (many, r))) (rowA A 0) := by
  obtain ⟨w1, w2, w3, w4, w5⟩ := hW
  refine ⟨w1, w2, w3, w4, fun q e => ?_⟩
  cases e
  exact ⟨by show va_up A.2.2 2 0 2 ≤ many; rw [va_up_self]; exact Nat.zero_le _, hr⟩
theorem VX_row {C : AC} {A : AA} {s : SS} (h : VX C A s) (i : Nat) : VX C (rowA A i) s := h
theorem X_bestL (k : Nat) (d : AH) (m : MS) (many : Nat) (hm : many ≤ 6) (r : Nat → Nat) : ∀ (q i : Nat) (x : XS), i + q = many → x.1 15 = nI many → (∀ j, j < many → x.2.1 25 j = nI (r j)) → (∀ j, j < i → x.2.1 26 j = nI (r j)) → ∃ x', evR T_X0_triesRow (callR k) 59 ([(0, .ref 0), (2, .int (nI i))], [], P d x m) = some (.inl none, P d x' m) ∧ (∀ j, j < many → x'.2.1 26 j = nI (r j)) ∧ x'.1 = x.1 ∧ (∀ j, j ≠ 26 → x'.2.1 j = x.2.1 j) ∧ x'.2.2 = x.2.2
  | 0, i, x, hi, h15, h25, h26 => by
    have e : i = many := by omega
    subst e
    refine ⟨x, ?_, h26, rfl, fun _ _ => rfl, rfl⟩
    rw [e_X0_triesRow_59]
    simp (disch := omega) only [e_X0_triesRow_85, cond_true, cond_false, Option.bind_some, rI_s, rL_s, rR_s, rV_s, cnd_d, cnd_ne, cnd_eq, bI_d0, bI_t0, ite_not, decide_eq_false_iff_not, decide_eq_true_eq, lg_cmp_ge, lg_cmp_le, lg_cmp_gt, lg_cmp_lt, lg_cmp_eq, okb_1, okb_0, okb_b, eq_self, if_true, if_false, Bool.true_eq_false, Bool.false_eq_true, rx_15, h15, le_rT]
  | q + 1, i, x, hi, h15, h25, h26 => by
    obtain ⟨x', e', a', b', c', d'⟩ := X_bestL k d m many hm r q (i + 1) (xA x 26 i (nI (r i))) (by omega) h15 (fun j hj => by rw [xA_o _ _ _ _ _ (by omega)]; exact h25 j hj) (fun j hj => by
      by_cases z : j = i
      · rw [z, xA_s]
      · rw [xA_n _ _ _ _ _ z]; exact h26 j (by omega))
    refine ⟨x', ?_, a', b', fun j hj => by rw [c' j hj, xA_o _ _ _ _ _ hj], d'⟩
    rw [← e', e_X0_triesRow_59]
    simp (disch := omega) only [e_X0_triesRow_67, cond_true, cond_false, Option.bind_some, rI_s, rL_s, rR_s, rV_s, cnd_d, cnd_ne, cnd_eq, bI_d0, bI_t0, ite_not, decide_eq_false_iff_not, decide_eq_true_eq, lg_cmp_ge, lg_cmp_le, lg_cmp_gt, lg_cmp_lt, lg_cmp_eq, okb_1, okb_0, okb_b, eq_self, if_true, if_false, Bool.true_eq_false, Bool.false_eq_true, rx_15, h15, nI_leP, if_neg (show ¬ many ≤ i by omega), rx_13, rx_14, lx_25, h25, sx_26, nI_1]
theorem X_triesRow (k : Nat) (d : AH) (m : MS) (C : AC) (h6 : C.1 ≤ 6) (fo : Option Nat) (F : Nat → (Nat → Int64) → Int64) (A : AA) (hW : WA (CW C fo F none) A) (x0 : XS) (hC : XC d (CW C fo F none) x0) (hX : VX C A (x0.2.2.2.1 0)) (n many : Nat) (hn : n ≤ 60) (hm : many ≤ 6) (r : Nat → Nat) (hr : RwOK C.1 many r) (B : OB) (x : XS) (hs : SimX x0 x) (h15 : x.1 15 = nI many) (h25 : ∀ j, j < many → x.2.1 25 j = nI (r j)) (hB : BX many B x) : ∃ x', callR (k + 206) n_X0_triesRow [.ref 0, .int (nI n)] (P d x m) = some (.inl none, P d x' m) ∧ SimX x0 x' ∧ x'.1 15 = nI many ∧ x'.2.1 25 = x.2.1 25 ∧ BX many (orT (CW C fo F none) A n many r B) x' := by
  obtain ⟨x1, e1, f1, v1, -⟩ := X_keep (k + 204) d x m C A h6 (by rw [hs.2.2.1 0 (by omega)]; exact hX)
  have hs1 := SimX_trans hs (FX_Sim f1)
  have hC1 := SimX_XC hs1 hC
  have hCr : XC d (CW C fo F (some (many, r))) (xF (xF x1 16 0) 17 1) := by
    obtain ⟨c1, c2, c3, c4, c5⟩ := hC1
    refine ⟨c1, c2, ?_, ⟨hm, xF_s _ _ _, ?_, fun i hi => ⟨?_, by show r i < 6; have := hr i hi; omega⟩⟩, c5⟩
    · cases fo with
      | none => show (xF (xF x1 16 0) 17 1).1 4 = -1; rw [xF_n _ _ _ _ (by omega), xF_n _ _ _ _ (by omega)]; exact c3
      | some q =>
        obtain ⟨q', hq, a, b⟩ := c3
        exact ⟨q', hq, by rw [xF_n _ _ _ _ (by omega), xF_n _ _ _ _ (by omega)]; exact a, RuX_fr b rfl (by rw [xF_n _ _ _ _ (by omega), xF_n _ _ _ _ (by omega)])⟩
    · show (xF (xF x1 16 0) 17 1).1 15 = nI many
      rw [xF_n _ _ _ _ (by omega), xF_n _ _ _ _ (by omega), f1.1 15 (by omega) (by omega)]; exact h15
    · show x1.2.1 25 i = nI (r i)
      rw [f1.2.1]; exact h25 i hi
  obtain ⟨x2, e2, f2, v2⟩ := X_goesTill k d m (CW C fo F (some (many, r))) n (by omega) (rowA A 0) (xF (xF x1 16 0) 17 1) (WA_row hW hr) hCr ⟨VX_row v1 0, fun _ => by
    rw [xF_n _ _ _ _ (by omega), xF_s]
    show (0 : Int32) = nI (va_up A.2.2 2 0 2)
    rw [va_up_self, nI_0]⟩
  have hV : sumI ((itA (CW C fo F (some (many, r))) n (rowA A 0)).1 0) C.1 = orV (CW C fo F none) A n many r := rfl
  have e3 : callR (k + 205) n_X2_left [.ref 12] (P d (xF x2 17 0) m) = some (.inl (some (.int (orV (CW C fo F none) A n many r))), P d (xF x2 17 0) m) := by rw [← hV]; exact X_left0 (k + 204) d (xF x2 17 0) m 1 (by omega) C _ h6 v2.1
  have hfld : ∀ q, q ≠ 16 → q ≠ 17 → q ≠ 18 → (xF x2 17 0).1 q = x.1 q := fun q a b c => by rw [xF_n _ _ _ _ b, f2.1 q a c, xF_n _ _ _ _ b, xF_n _ _ _ _ a, f1.1 q a c]
  have h17 : x.1 17 = 0 := (SimX_XC hs hC).2.2.2.1
  have hs4 : SimX x (xF x2 17 0) := ⟨fun q a b c e => by
    by_cases z : q = 17
    · rw [z, xF_s, h17]
    · exact hfld q b z c, fun j _ => by show x2.2.1 j = _; rw [f2.2.1]; show x1.2.1 j = _; rw [f1.2.1], fun t ht => by show x2.2.2.2.1 t = _; rw [f2.2.2.1 t ht]; exact f1.2.2.1 t ht, by show x2.2.2.2.2 = _; rw [f2.2.2.2]; exact f1.2.2.2⟩
  have hr4 : (xF x2 17 0).2.1 = x.2.1 := by show x2.2.1 = _; rw [f2.2.1]; exact f1.2.1
  have r22 : (xF x2 17 0).1 22 = B.1 := by rw [hfld 22 (by omega) (by omega) (by omega)]; exact hB.1
  unfold orT
  by_cases c : B.1 < orV (CW C fo F none) A n many r
  · rw [if_pos c]
    obtain ⟨x5, e5, a5, b5, c5, d5⟩ := X_bestL (k + 205) d m many hm r many 0 (xF (xF x2 17 0) 22 (orV (CW C fo F none) A n many r)) (by omega) (by rw [xF_n _ _ _ _ (by omega), hfld 15 (by omega) (by omega) (by omega)]; exact h15) (fun j hj => by show x2.2.1 25 j = _; have := congrFun (congrFun hr4 25) j; rw [show x2.2.1 25 j = x.2.1 25 j from this]; exact h25 j hj) (fun j hj => absurd hj (by omega))
    have hs5 : SimX (xF x2 17 0) x5 := ⟨fun q a b c e => by rw [b5, xF_n _ _ _ _ e], fun j hj => by rw [c5 j (by omega)]; rfl, fun t _ => by rw [d5]; rfl, by rw [d5]; rfl⟩
    refine ⟨x5, ?_, SimX_trans hs (SimX_trans hs4 hs5), ?_, ?_, ⟨?_, fun _ => a5⟩⟩
    · rw [nI_0] at e5
      simp (disch := omega) only [c_X0_triesRow, e_X0_triesRow_0, cond_true, cond_false, Option.bind_some, rI_s, rL_s, rR_s, rV_s, cnd_d, cnd_ne, cnd_eq, bI_d0, bI_t0, ite_not, decide_eq_false_iff_not, decide_eq_true_eq, lg_cmp_ge, lg_cmp_le, lg_cmp_gt, lg_cmp_lt, lg_cmp_eq, okb_1, okb_0, okb_b, eq_self, if_true, if_false, Bool.true_eq_false, Bool.false_eq_true, isO_X, rx_1, rx_2, e1, wx_16, wx_17, e2, e3, rx_22, r22, c, e_X0_triesRow_46, wx_22, e5]
    · rw [b5, xF_n _ _ _ _ (by omega), hfld 15 (by omega) (by omega) (by omega)]; exact h15
    · rw [c5 25 (by omega)]; show x2.2.1 25 = _; exact congrFun hr4 25
    · rw [b5, xF_s]
  · rw [if_neg c]
    refine ⟨xF x2 17 0, ?_, SimX_trans hs hs4, ?_, by rw [hr4], ⟨r22, fun h i hi => by rw [hr4]; exact hB.2 h i hi⟩⟩
    · simp (disch := omega) only [c_X0_triesRow, e_X0_triesRow_0, cond_true, cond_false, Option.bind_some, rI_s, rL_s, rR_s, rV_s, cnd_d, cnd_ne, cnd_eq, bI_d0, bI_t0, ite_not, decide_eq_false_iff_not, decide_eq_true_eq, lg_cmp_ge, lg_cmp_le, lg_cmp_gt, lg_cmp_lt, lg_cmp_eq, okb_1, okb_0, okb_b, eq_self, if_true, if_false, Bool.true_eq_false, Bool.false_eq_true, isO_X, rx_1, rx_2, e1, wx_16, wx_17, e2, e3, rx_22, r22, c, e_X0_triesRow_45]
    · rw [hfld 15 (by omega) (by omega) (by omega)]; exact h15
theorem X_rowsFrom (k : Nat) (d : AH) (m : MS) (C : AC) (h6 : C.1 ≤ 6) (fo : Option Nat) (F : Nat → (Nat → Int64) → Int64) (A : AA) (hW : WA (CW C fo F none) A) (x0 : XS) (hC : XC d (CW C fo F none) x0) (hX : VX C A (x0.2.2.2.1 0)) (n many : Nat) (hn : n ≤ 60) (hm : many ≤ 6) : ∀ (e kk : Nat) (r : Nat → Nat) (s : Nat) (B : OB) (x : XS), kk + e = many → s < 64 → bc s = e → RwOK C.1 kk r → SimX x0 x → x.1 15 = nI many → (∀ j, j < kk → x.2.1 25 j = nI (r j)) → BX many B x → ∃ x', callR (k + 207 + e) n_X0_rowsFrom [.ref 0, .int (nI kk), .int (nI s), .int (nI n)] (P d x m) = some (.inl none, P d x' m) ∧ SimX x0 x' ∧ x'.1 15 = nI many ∧ (∀ j, j < kk → x'.2.1 25 j = nI (r j)) ∧ BX many (lvF (orT (CW C fo F none) A n many) C.1 e kk r s B) x'
  | 0, kk, r, s, B, x, hk, hs6, hb, hr, hs, h15, h25, hB => by
    have e : kk = many := by omega
    subst e
    have hs0 : nI s = 0 := by rw [(bc_0 s hs6).mp hb, nI_0]
    obtain ⟨x1, e1, s1, f1, g1, b1⟩ := X_triesRow k d m C h6 fo F A hW x0 hC hX n kk hn hm r hr B x hs h15 h25 hB
    refine ⟨x1, ?_, s1, f1, fun j hj => by rw [g1]; exact h25 j hj, b1⟩
    simp (disch := omega) only [c_X0_rowsFrom, e_X0_rowsFrom_0, e_X0_rowsFrom_4, cond_true, cond_false, Option.bind_some, rI_s, rL_s, rR_s, rV_s, cnd_d, cnd_ne, cnd_eq, bI_d0, bI_t0, ite_not, decide_eq_false_iff_not, decide_eq_true_eq, lg_cmp_ge, lg_cmp_le, lg_cmp_gt, lg_cmp_lt, lg_cmp_eq, okb_1, okb_0, okb_b, eq_self, if_true, if_false, Bool.true_eq_false, Bool.false_eq_true, Nat.add_zero, hs0, e1]
  | e + 1, kk, r, s, B, x, hk, hs6, hb, hr, hs, h15, h25, hB => by
    have hsn : ¬ nI s = 0 := by
      rw [← nI_0, nI_eqP (by omega) (by omega)]
      intro z
      rw [z] at hb
      exact absurd hb (by show ¬ (0 : Nat) = e + 1; omega)
    have loop : ∀ q h (B : OB) (x : XS), h + q = C.1 → SimX x0 x → x.1 15 = nI many → (∀ j, j < kk → x.2.1 25 j = nI (r j)) → BX many B x → ∃ x', evR T_X0_rowsFrom (callR (k + 207 + e)) 13 ([(0, .ref 0), (1, .int (nI kk)), (2, .int (nI s)), (3, .int (nI n)), (4, .int (nI h))], [], P d x m) = some (.inl none, P d x' m) ∧ SimX x0 x' ∧ x'.1 15 = nI many ∧ (∀ j, j < kk → x'.2.1 25 j = nI (r j)) ∧ BX many (scF (fun h B => lvF (orT (CW C fo F none) A n many) C.1 e (kk + 1) (va_up r kk h) (s - 2 ^ h) B) (hsB s) q h B) x' := by
      intro q
      induction q with
      | zero =>
        intro h B x hq hs h15 h25 hB
        have e' : h = C.1 := by omega
        subst e'
        refine ⟨x, ?_, hs, h15, h25, hB⟩
        have hv : VL (P d x m) (x.2.2.2.2.1 0) C := (SimX_XC hs hC).1.1 x m
        have hh : callR (k + 207 + e) n_X1_houses [.ref (x.2.2.2.2.1 0)] (P d x m) = some (.inl (some (.int (nI C.1))), P d x m) := by
          rw [show k + 207 + e = k + 205 + e + 2 by omega]; exact X_houses (k + 205 + e) hv
        rw [e_X0_rowsFrom_13]
        simp (disch := omega) only [e_X0_rowsFrom_67, cond_true, cond_false, Option.bind_some, rI_s, rL_s, rR_s, rV_s, cnd_d, cnd_ne, cnd_eq, bI_d0, bI_t0, ite_not, decide_eq_false_iff_not, decide_eq_true_eq, lg_cmp_ge, lg_cmp_le, lg_cmp_gt, lg_cmp_lt, lg_cmp_eq, okb_1, okb_0, okb_b, eq_self, if_true, if_false, Bool.true_eq_false, Bool.false_eq_true, rx_0, hh, le_rT]
      | succ q ih =>
        intro h B x hq hs h15 h25 hB
        have hv : VL (P d x m) (x.2.2.2.2.1 0) C := (SimX_XC hs hC).1.1 x m
        have hh : callR (k + 207 + e) n_X1_houses [.ref (x.2.2.2.2.1 0)] (P d x m) = some (.inl (some (.int (nI C.1))), P d x m) := by
          rw [show k + 207 + e = k + 205 + e + 2 by omega]; exact X_houses (k + 205 + e) hv
        have hH : callR (k + 207 + e) n_X0_has [.int (nI s), .int (nI h)] (P d x m) = some (.inl (some (.int (bI (hsB s h)))), P d x m) := by
          rw [show k + 207 + e = k + 206 + e + 1 by omega]; exact X_has (k + 206 + e) (P d x m) s h hs6 (by omega)
        show ∃ x', _ ∧ _ ∧ _ ∧ _ ∧ BX many (scF _ (hsB s) q (h + 1) (if hsB s h = true then lvF (orT (CW C fo F none) A n many) C.1 e (kk + 1) (va_up r kk h) (s - 2 ^ h) B else B)) x'
        cases c : hsB s h with
        | false =>
          rw [c] at hH
          obtain ⟨x1, e1, r1⟩ := ih (h + 1) B x (by omega) hs h15 h25 hB
          refine ⟨x1, ?_, ?_⟩
          · rw [← e1, e_X0_rowsFrom_13]
            simp (disch := omega) only [e_X0_rowsFrom_25, e_X0_rowsFrom_34, e_X0_rowsFrom_61, cond_true, cond_false, Option.bind_some, rI_s, rL_s, rR_s, rV_s, cnd_d, cnd_ne, cnd_eq, bI_d0, bI_t0, ite_not, decide_eq_false_iff_not, decide_eq_true_eq, lg_cmp_ge, lg_cmp_le, lg_cmp_gt, lg_cmp_lt, lg_cmp_eq, okb_1, okb_0, okb_b, eq_self, if_true, if_false, Bool.true_eq_false, Bool.false_eq_true, rx_0, hh, nI_leP, if_neg (show ¬ C.1 ≤ h by omega), hH, nI_1]
          · rw [if_neg (by decide)]; exact r1
        | true =>
          rw [c] at hH
          obtain ⟨q1, q2, q3⟩ := sb6 h (by omega) s hs6 c
          have hp := Nat.two_pow_pos h
          have hsA := SimX_trans hs (xA_Sim x 25 kk (nI h) (by omega))
          obtain ⟨x1, e1, s1, f1, g1, b1⟩ := X_rowsFrom k d m C h6 fo F A hW x0 hC hX n many hn hm e (kk + 1) (va_up r kk h) (s - 2 ^ h) B (xA x 25 kk (nI h)) (by omega) (by omega) (by omega) (RwOK_up hr (by omega)) hsA h15 (fun j hj => by
            by_cases z : j = kk
            · rw [z, xA_s, va_up_self]
            · rw [xA_n _ _ _ _ _ z, va_up_ne _ _ z]; exact h25 j (by omega)) ⟨hB.1, fun hz i hi => by rw [xA_o _ _ _ _ _ (by omega)]; exact hB.2 hz i hi⟩
          obtain ⟨x2, e2, r2⟩ := ih (h + 1) _ x1 (by omega) s1 f1 (fun j hj => by have := g1 j (by omega); rw [va_up_ne _ _ (by omega)] at this; exact this) b1
          refine ⟨x2, ?_, ?_⟩
          · rw [← e2, e_X0_rowsFrom_13]
            simp (disch := omega) only [e_X0_rowsFrom_25, e_X0_rowsFrom_37, e_X0_rowsFrom_61, cond_true, cond_false, Option.bind_some, rI_s, rL_s, rR_s, rV_s, cnd_d, cnd_ne, cnd_eq, bI_d0, bI_t0, ite_not, decide_eq_false_iff_not, decide_eq_true_eq, lg_cmp_ge, lg_cmp_le, lg_cmp_gt, lg_cmp_lt, lg_cmp_eq, okb_1, okb_0, okb_b, eq_self, if_true, if_false, Bool.true_eq_false, Bool.false_eq_true, rx_0, hh, nI_leP, if_neg (show ¬ C.1 ≤ h by omega), hH, rx_13, sx_25, q3, nI_1, e1]
          · rw [if_pos rfl]; exact r2
    obtain ⟨x1, e1, r1⟩ := loop C.1 0 B x (by omega) hs h15 h25 hB
    refine ⟨x1, ?_, r1⟩
    rw [nI_0] at e1
    rw [show k + 207 + (e + 1) = k + 207 + e + 1 by omega]
    simp (disch := omega) only [c_X0_rowsFrom, e_X0_rowsFrom_0, e_X0_rowsFrom_10, cond_true, cond_false, Option.bind_some, rI_s, rL_s, rR_s, rV_s, cnd_d, cnd_ne, cnd_eq, bI_d0, bI_t0, ite_not, decide_eq_false_iff_not, decide_eq_true_eq, lg_cmp_ge, lg_cmp_le, lg_cmp_gt, lg_cmp_lt, lg_cmp_eq, okb_1, okb_0, okb_b, eq_self, if_true, if_false, Bool.true_eq_false, Bool.false_eq_true, hsn, e1]
