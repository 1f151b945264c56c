/-! silent -/
def hsB (s i : Nat) : Bool := decide (s / 2 ^ i % 2 = 1)
theorem has6 : ∀ i, i < 6 → ∀ s, s < 64 → decide (((nI s >>> (nI i &&& 31)) &&& (1 : Int32)) = 1) = hsB s i := by decide
theorem bit7 : ∀ h, h < 7 → (1 : Int32) <<< (nI h &&& 31) = nI (2 ^ h) := by decide
theorem X_has (k : Nat) (h : AH) (s i : Nat) (hs : s < 64) (hi : i < 6) : callR (k + 1) n_X0_has [.int (nI s), .int (nI i)] h = some (.inl (some (.int (bI (hsB s i)))), h) := by
  rw [← has6 i hi s hs]
  by_cases c : ((nI s >>> (nI i &&& 31)) &&& (1 : Int32)) = 1
  · simp (disch := omega) only [e_X0_has_0, e_X0_has_9, e_X0_has_13, e_X0_has_14, c_X0_has, cond_true, cond_false, Option.bind_some, rI_s, rL_s, rR_s, rV_s, cnd_d, cnd_ne, cnd_eq, bI_d0, bI_t0, ite_not, decide_eq_false_iff_not, decide_eq_true_eq, lg_cmp_ge, lg_cmp_le, lg_cmp_gt, lg_cmp_lt, lg_cmp_eq, okb_1, okb_0, okb_b, eq_self, if_true, if_false, Bool.true_eq_false, Bool.false_eq_true, c]
    simp [bI]
  · simp (disch := omega) only [e_X0_has_0, e_X0_has_9, e_X0_has_13, e_X0_has_14, c_X0_has, cond_true, cond_false, Option.bind_some, rI_s, rL_s, rR_s, rV_s, cnd_d, cnd_ne, cnd_eq, bI_d0, bI_t0, ite_not, decide_eq_false_iff_not, decide_eq_true_eq, lg_cmp_ge, lg_cmp_le, lg_cmp_gt, lg_cmp_lt, lg_cmp_eq, okb_1, okb_0, okb_b, eq_self, if_true, if_false, Bool.true_eq_false, Bool.false_eq_true, c]
    simp [bI]
theorem M_isOf (k : Nat) (h : AH) (s i : Nat) (hs : s < 64) (hi : i < 6) : callR (k + 1) n_X4_isOf [.int (nI s), .int (nI i)] h = some (.inl (some (.int (bI (hsB s i)))), h) := by
  rw [← has6 i hi s hs]
  by_cases c : ((nI s >>> (nI i &&& 31)) &&& (1 : Int32)) = 1
  · simp (disch := omega) only [e_X4_isOf_0, e_X4_isOf_9, e_X4_isOf_13, e_X4_isOf_14, c_X4_isOf, cond_true, cond_false, Option.bind_some, rI_s, rL_s, rR_s, rV_s, cnd_d, cnd_ne, cnd_eq, bI_d0, bI_t0, ite_not, decide_eq_false_iff_not, decide_eq_true_eq, lg_cmp_ge, lg_cmp_le, lg_cmp_gt, lg_cmp_lt, lg_cmp_eq, okb_1, okb_0, okb_b, eq_self, if_true, if_false, Bool.true_eq_false, Bool.false_eq_true, c]
    simp [bI]
  · simp (disch := omega) only [e_X4_isOf_0, e_X4_isOf_9, e_X4_isOf_13, e_X4_isOf_14, c_X4_isOf, cond_true, cond_false, Option.bind_some, rI_s, rL_s, rR_s, rV_s, cnd_d, cnd_ne, cnd_eq, bI_d0, bI_t0, ite_not, decide_eq_false_iff_not, decide_eq_true_eq, lg_cmp_ge, lg_cmp_le, lg_cmp_gt, lg_cmp_lt, lg_cmp_eq, okb_1, okb_0, okb_b, eq_self, if_true, if_false, Bool.true_eq_false, Bool.false_eq_true, c]
    simp [bI]
def muA (A : AA) (s : Nat) : Nat → AA
  | 0 => A
  | i + 1 => if hsB s i = true then setA (muA A s i) 2 i 0 else muA A s i
theorem WA_mu {C : AC} {A : AA} (h : WA C A) (s : Nat) : ∀ i, WA C (muA A s i)
  | 0 => h
  | i + 1 => by
    unfold muA
    split
    · exact WA_says (WA_mu h s i) i 0
    · exact WA_mu h s i
theorem mu_w (A : AA) (s : Nat) : ∀ i, (muA A s i).1 0 = A.1 0
  | 0 => rfl
  | i + 1 => by
    unfold muA
    split
    · show va_up (muA A s i).1 2 (va_up ((muA A s i).1 2) i 0) 0 = _
      rw [va_up_ne _ _ (by omega)]
      exact mu_w A s i
    · exact mu_w A s i
def slV (C : AC) (A : AA) (n s : Nat) : Int32 := sumI ((itA C n (muA A s C.1)).1 0) C.1
def slB (C : AC) (A : AA) (n : Nat) : Nat → Nat × Int32
  | 0 => (0, -1)
  | s + 1 => if (slB C A n s).2 < slV C A n s ∨ (slV C A n s = (slB C A n s).2 ∧ pcI (nI s) < pcI (nI (slB C A n s).1)) then (s, slV C A n s) else slB C A n s
def slR (C : AC) (A : AA) (n : Nat) (w : Int32) : Int32 := if w = 0 then pcI (nI (slB C A n (2 ^ C.1)).1) else if w = 1 then nI (slB C A n (2 ^ C.1)).1 else (slB C A n (2 ^ C.1)).2
theorem slB_lt (C : AC) (A : AA) (n : Nat) : ∀ s, s ≤ 64 → (slB C A n s).1 < 64
  | 0, _ => by show 0 < 64; omega
  | s + 1, h => by
    unfold slB
    split
    · show s < 64; omega
    · exact slB_lt C A n s (by omega)
theorem slB_bd (C : AC) (A : AA) (n : Nat) (hv : ∀ s, ∃ j, j ≤ 1000 ∧ slV C A n s = nI j) : ∀ s, (slB C A n s).2 = -1 ∨ ∃ j, j ≤ 1000 ∧ (slB C A n s).2 = nI j
  | 0 => Or.inl rfl
  | s + 1 => by
    unfold slB
    split
    · exact Or.inr (hv s)
    · exact slB_bd C A n hv s
/-- a difference of two small numbers: its sign -/
theorem sub_sg {v o : Int32} (hv : ∃ j, j ≤ 1000 ∧ v = nI j) (ho : o = -1 ∨ ∃ j, j ≤ 1000 ∧ o = nI j) : (v - o < 0 ↔ v < o) ∧ (v - o = 0 ↔ v = o) := by
  obtain ⟨j, hj, rfl⟩ := hv
  have hz : nI j - o = 0 ↔ nI j = o := by
    constructor
    · intro h
      have e : nI j = (nI j - o) + o := by grind
      rw [e, h]
      grind
    · intro h
      rw [h]
      grind
  refine ⟨?_, hz⟩
  rcases ho with rfl | ⟨q, hq, rfl⟩
  · have e : nI j - -1 = nI (j + 1) := by rw [← nI_1]; grind
    rw [e]
    constructor
    · intro h; exact absurd h (nI_pos (by omega))
    · intro h; exact absurd (Int32.lt_of_lt_of_le h (by decide : (-1 : Int32) ≤ 0)) (nI_pos (by omega))
  · by_cases c : q ≤ j
    · rw [pk_sub c]
      constructor
      · intro h; exact absurd h (nI_pos (by omega))
      · intro h; have := (nI_ltI (by omega) (by omega)).mp h; omega
    · have e2 : nI j - nI q = -nI (q - j) := by
        have : nI q = nI j + nI (q - j) := by rw [nI_add, show j + (q - j) = q by omega]
        rw [this]; grind
      constructor
      · intro _; exact (nI_ltI (by omega) (by omega)).mpr (by omega)
      · intro _
        rw [e2, Int32.lt_iff_toInt_lt, sb_negT (by omega)]
        show -((q - j : Nat) : Int) < 0
        omega
theorem X_muL (k : Nat) (d : AH) (m : MS) (C : AC) (A : AA) (h6 : C.1 ≤ 6) (n w b mo : Int32) (s : Nat) (hs : s < 64) : ∀ (r i : Nat) (x : XS), i + r = C.1 → VP d (x.2.2.2.2.1 0) C → VX C (muA A s i) (x.2.2.2.1 1) → ∃ x', evR T_X0_silent (callR (k + 2)) 69 ([(0, .ref 0), (1, .int n), (2, .int w), (3, .int b), (4, .int mo), (5, .int (nI s)), (6, .int (nI i))], [], P d x m) = evR T_X0_silent (callR (k + 2)) 108 ([(0, .ref 0), (1, .int n), (2, .int w), (3, .int b), (4, .int mo), (5, .int (nI s))], [], P d x' m) ∧ FX 1 x x' ∧ VX C (muA A s C.1) (x'.2.2.2.1 1)
  | 0, i, x, hi, hv, hX => by
    have e : i = C.1 := by omega
    subst e
    refine ⟨x, ?_, FX_refl 1 x, hX⟩
    rw [e_X0_silent_69]
    simp (disch := omega) only [cond_true, cond_false, Option.bind_some, rI_s, rL_s, rR_s, rV_s, cnd_d, cnd_ne, cnd_eq, bI_d0, bI_t0, ite_not, decide_eq_false_iff_not, decide_eq_true_eq, lg_cmp_ge, lg_cmp_le, lg_cmp_gt, lg_cmp_lt, lg_cmp_eq, okb_1, okb_0, okb_b, eq_self, if_true, if_false, Bool.true_eq_false, Bool.false_eq_true, rx_0, X_houses k (hv.1 x m), le_rT]
  | r + 1, i, x, hi, hv, hX => by
    have hh := X_has (k + 1) (P d x m) s i hs (by omega)
    have hm : muA A s (i + 1) = if hsB s i = true then setA (muA A s i) 2 i 0 else muA A s i := rfl
    cases c : hsB s i with
    | true =>
      rw [c] at hh
      rw [if_pos c] at hm
      have r5 : rdR (P d x m) 12 2 2 = some 15 := rp_2 d x m 1 (by omega)
      have s5 : stI (P d x m) 15 0 (nI i) 0 = some (P d (xS x 1 (sA (x.2.2.2.1 1) 2 i 0)) m) := sp_2 d x m 1 (by omega) i 0 (by omega)
      obtain ⟨x2, e2, f2, v2⟩ := X_muL k d m C A h6 n w b mo s hs r (i + 1) (xS x 1 (sA (x.2.2.2.1 1) 2 i 0)) (by omega) hv (by rw [xS_s, hm]; exact VX_says hX i (by omega) 0)
      refine ⟨x2, ?_, FX_trans (xS_FX _ _ _) f2, v2⟩
      rw [← e2, e_X0_silent_69]
      simp (disch := omega) only [e_X0_silent_81, e_X0_silent_91, e_X0_silent_102, cond_true, cond_false, Option.bind_some, rI_s, rL_s, rR_s, rV_s, cnd_d, cnd_ne, cnd_eq, bI_d0, bI_t0, ite_not, decide_eq_false_iff_not, decide_eq_true_eq, lg_cmp_ge, lg_cmp_le, lg_cmp_gt, lg_cmp_lt, lg_cmp_eq, okb_1, okb_0, okb_b, eq_self, if_true, if_false, Bool.true_eq_false, Bool.false_eq_true, rx_0, rx_2, X_houses k (hv.1 x m), nI_leP, if_neg (show ¬ C.1 ≤ i by omega), hh, r5, s5, nI_1]
    | false =>
      rw [c] at hh
      rw [if_neg (by rw [c]; decide)] at hm
      obtain ⟨x2, e2, f2, v2⟩ := X_muL k d m C A h6 n w b mo s hs r (i + 1) x (by omega) hv (by rw [hm]; exact hX)
      refine ⟨x2, ?_, f2, v2⟩
      rw [← e2, e_X0_silent_69]
      simp (disch := omega) only [e_X0_silent_81, e_X0_silent_102, cond_true, cond_false, Option.bind_some, rI_s, rL_s, rR_s, rV_s, cnd_d, cnd_ne, cnd_eq, bI_d0, bI_t0, ite_not, decide_eq_false_iff_not, decide_eq_true_eq, lg_cmp_ge, lg_cmp_le, lg_cmp_gt, lg_cmp_lt, lg_cmp_eq, okb_1, okb_0, okb_b, eq_self, if_true, if_false, Bool.true_eq_false, Bool.false_eq_true, rx_0, X_houses k (hv.1 x m), nI_leP, if_neg (show ¬ C.1 ≤ i by omega), hh, nI_1]
theorem X_silentL (k : Nat) (d : AH) (m : MS) (C : AC) (fo : Option Nat) (F : Nat → (Nat → Int64) → Int64) (n : Nat) (hn : n ≤ 60) (h6 : C.1 ≤ 6) (A : AA) (hW : WA (CW C fo F none) A) (x0 : XS) (hC : XC d (CW C fo F none) x0) (hX : VX C A (x0.2.2.2.1 0)) (hv : ∀ s, ∃ j, j ≤ 1000 ∧ slV (CW C fo F none) A n s = nI j) (w : Int32) : ∀ (r i : Nat) (x : XS), i + r = 2 ^ C.1 → SimX x0 x → ∃ x', evR T_X0_silent (callR (k + 205)) 41 ([(0, .ref 0), (1, .int (nI n)), (2, .int w), (3, .int (nI (slB (CW C fo F none) A n i).1)), (4, .int (slB (CW C fo F none) A n i).2), (5, .int (nI i))], [], P d x m) = some (.inl (some (.int (slR (CW C fo F none) A n w))), P d x' m) ∧ SimX x0 x'
  | 0, i, x, hi, hs => by
    have hp : 2 ^ C.1 ≤ 2 ^ 6 := Nat.pow_le_pow_right (by omega) h6
    have e : i = 2 ^ C.1 := by omega
    subst e
    have hvv : VL (P d x m) (x.2.2.2.2.1 0) C := (SimX_XC hs hC).1.1 x m
    have hb := pc_all (k + 204) (P d x m)
    refine ⟨x, ?_, hs⟩
    rw [e_X0_silent_41]
    rw [show slR (CW C fo F none) A n w = if w = 0 then pcI (nI (slB (CW C fo F none) A n (2 ^ C.1)).1) else if w = 1 then nI (slB (CW C fo F none) A n (2 ^ C.1)).1 else (slB (CW C fo F none) A n (2 ^ C.1)).2 from rfl]
    by_cases c : w = 0
    · simp (disch := omega) only [e_X0_silent_168, e_X0_silent_172, e_X0_silent_190, cond_true, cond_false, Option.bind_some, rI_s, rL_s, rR_s, rV_s, cnd_d, cnd_ne, cnd_eq, bI_d0, bI_t0, ite_not, decide_eq_false_iff_not, decide_eq_true_eq, lg_cmp_ge, lg_cmp_le, lg_cmp_gt, lg_cmp_lt, lg_cmp_eq, okb_1, okb_0, okb_b, eq_self, if_true, if_false, Bool.true_eq_false, Bool.false_eq_true, rx_0, X_houses (k + 203) hvv, bit7, le_rT, c, hb]
    · by_cases c2 : w = 1
      · simp (disch := omega) only [e_X0_silent_168, e_X0_silent_179, e_X0_silent_184, e_X0_silent_190, cond_true, cond_false, Option.bind_some, rI_s, rL_s, rR_s, rV_s, cnd_d, cnd_ne, cnd_eq, bI_d0, bI_t0, ite_not, decide_eq_false_iff_not, decide_eq_true_eq, lg_cmp_ge, lg_cmp_le, lg_cmp_gt, lg_cmp_lt, lg_cmp_eq, okb_1, okb_0, okb_b, eq_self, if_true, if_false, Bool.true_eq_false, Bool.false_eq_true, rx_0, X_houses (k + 203) hvv, bit7, le_rT, c, c2, show ¬ (1 : Int32) = 0 by decide]
      · simp (disch := omega) only [e_X0_silent_168, e_X0_silent_179, e_X0_silent_188, e_X0_silent_190, cond_true, cond_false, Option.bind_some, rI_s, rL_s, rR_s, rV_s, cnd_d, cnd_ne, cnd_eq, bI_d0, bI_t0, ite_not, decide_eq_false_iff_not, decide_eq_true_eq, lg_cmp_ge, lg_cmp_le, lg_cmp_gt, lg_cmp_lt, lg_cmp_eq, okb_1, okb_0, okb_b, eq_self, if_true, if_false, Bool.true_eq_false, Bool.false_eq_true, rx_0, X_houses (k + 203) hvv, bit7, le_rT, c, c2]
  | r + 1, i, x, hi, hs => by
    have hp : 2 ^ C.1 ≤ 2 ^ 6 := Nat.pow_le_pow_right (by omega) h6
    have hi64 : i < 64 := by omega
    have hC1 := SimX_XC hs hC
    obtain ⟨x1, e1, f1, v1, -⟩ := X_keep (k + 204) d x m C A h6 (by rw [hs.2.2.1 0 (by omega)]; exact hX)
    have hs1 := SimX_trans hs (FX_Sim f1)
    obtain ⟨x2, e2, f2, v2⟩ := X_muL (k + 203) d m C A h6 (nI n) w (nI (slB (CW C fo F none) A n i).1) (slB (CW C fo F none) A n i).2 i hi64 C.1 0 x1 (by omega) (SimX_XC hs1 hC).1 v1
    have hs2 := SimX_trans hs1 (FX_Sim f2)
    obtain ⟨x3, e3, f3, v3⟩ := X_goesTill k d m (CW C fo F none) n (by omega) (muA A i C.1) x2 (WA_mu hW i C.1) (SimX_XC hs2 hC) (Rel_XA v2)
    have hs3 := SimX_trans hs2 (FX_Sim f3)
    have e4 : callR (k + 205) n_X2_left [.ref 12] (P d x3 m) = some (.inl (some (.int (slV (CW C fo F none) A n i))), P d x3 m) := X_left0 (k + 204) d x3 m 1 (by omega) C _ h6 v3.1
    obtain ⟨x5, e5, hs5⟩ := X_silentL k d m C fo F n hn h6 A hW x0 hC hX hv w r (i + 1) x3 (by omega) hs3
    refine ⟨x5, ?_, hs5⟩
    rw [← e5]
    have hB : slB (CW C fo F none) A n (i + 1) = if (slB (CW C fo F none) A n i).2 < slV (CW C fo F none) A n i ∨ (slV (CW C fo F none) A n i = (slB (CW C fo F none) A n i).2 ∧ pcI (nI i) < pcI (nI (slB (CW C fo F none) A n i).1)) then (i, slV (CW C fo F none) A n i) else slB (CW C fo F none) A n i := rfl
    have hsg := sub_sg (hv i) (slB_bd (CW C fo F none) A n hv i)
    have hb := fun s => pc_all (k + 204) (P d x3 m) s
    rw [nI_0] at e2
    have hnle : ¬ nI (2 ^ C.1) ≤ nI i := by rw [nI_leP (by omega) (by omega)]; omega
    rw [hB]
    generalize slV (CW C fo F none) A n i = v at e4 hsg ⊢
    generalize hq : slB (CW C fo F none) A n i = q at e2 hsg ⊢
    by_cases c1 : v < q.2
    · have c1' : v - q.2 < 0 := hsg.1.mpr c1
      rw [if_neg (show ¬ (q.2 < v ∨ (v = q.2 ∧ pcI (nI i) < pcI (nI q.1))) from fun h => h.elim (fun h => Int32.lt_asymm c1 h) (fun h => by rw [h.1] at c1; exact Int32.lt_irrefl c1))]
      rw [e_X0_silent_41]
      simp (disch := omega) only [e_X0_silent_55, e_X0_silent_108, e_X0_silent_162, cond_true, cond_false, Option.bind_some, rI_s, rL_s, rR_s, rV_s, cnd_d, cnd_ne, cnd_eq, bI_d0, bI_t0, ite_not, decide_eq_false_iff_not, decide_eq_true_eq, lg_cmp_ge, lg_cmp_le, lg_cmp_gt, lg_cmp_lt, lg_cmp_eq, okb_1, okb_0, okb_b, eq_self, if_true, if_false, Bool.true_eq_false, Bool.false_eq_true, rx_0, rx_1, rx_2, X_houses (k + 203) (hC1.1.1 x m), show (CW C fo F none).1 = C.1 from rfl, bit7, hnle, e1, e2, e3, e4, c1', nI_1]
    · have c1' : ¬ v - q.2 < 0 := fun h => c1 (hsg.1.mp h)
      by_cases c2 : v = q.2
      · have c2' : v - q.2 = 0 := hsg.2.mpr c2
        by_cases c3 : pcI (nI i) < pcI (nI q.1)
        · rw [if_pos (Or.inr ⟨c2, c3⟩), e_X0_silent_41]
          simp (disch := omega) only [e_X0_silent_55, e_X0_silent_108, e_X0_silent_130, e_X0_silent_135, e_X0_silent_150, e_X0_silent_162, cond_true, cond_false, Option.bind_some, rI_s, rL_s, rR_s, rV_s, cnd_d, cnd_ne, cnd_eq, bI_d0, bI_t0, ite_not, decide_eq_false_iff_not, decide_eq_true_eq, lg_cmp_ge, lg_cmp_le, lg_cmp_gt, lg_cmp_lt, lg_cmp_eq, okb_1, okb_0, okb_b, eq_self, if_true, if_false, Bool.true_eq_false, Bool.false_eq_true, rx_0, rx_1, rx_2, X_houses (k + 203) (hC1.1.1 x m), show (CW C fo F none).1 = C.1 from rfl, bit7, hnle, e1, e2, e3, e4, c1', c2', lt_rF, hb, c3, nI_1]
        · rw [if_neg (fun h => h.elim (fun h => by rw [c2] at h; exact Int32.lt_irrefl h) (fun h => c3 h.2)), e_X0_silent_41]
          simp (disch := omega) only [e_X0_silent_55, e_X0_silent_108, e_X0_silent_130, e_X0_silent_135, e_X0_silent_147, e_X0_silent_162, cond_true, cond_false, Option.bind_some, rI_s, rL_s, rR_s, rV_s, cnd_d, cnd_ne, cnd_eq, bI_d0, bI_t0, ite_not, decide_eq_false_iff_not, decide_eq_true_eq, lg_cmp_ge, lg_cmp_le, lg_cmp_gt, lg_cmp_lt, lg_cmp_eq, okb_1, okb_0, okb_b, eq_self, if_true, if_false, Bool.true_eq_false, Bool.false_eq_true, rx_0, rx_1, rx_2, X_houses (k + 203) (hC1.1.1 x m), show (CW C fo F none).1 = C.1 from rfl, bit7, hnle, e1, e2, e3, e4, c1', c2', lt_rF, hb, c3, nI_1]
      · have c2' : ¬ v - q.2 = 0 := fun h => c2 (hsg.2.mp h)
        have c4 : q.2 < v := Int32.lt_of_le_of_ne (Int32.not_lt.mp c1) (fun h => c2 h.symm)
        rw [if_pos (Or.inl c4), e_X0_silent_41]
        simp (disch := omega) only [e_X0_silent_55, e_X0_silent_108, e_X0_silent_130, e_X0_silent_150, e_X0_silent_162, cond_true, cond_false, Option.bind_some, rI_s, rL_s, rR_s, rV_s, cnd_d, cnd_ne, cnd_eq, bI_d0, bI_t0, ite_not, decide_eq_false_iff_not, decide_eq_true_eq, lg_cmp_ge, lg_cmp_le, lg_cmp_gt, lg_cmp_lt, lg_cmp_eq, okb_1, okb_0, okb_b, eq_self, if_true, if_false, Bool.true_eq_false, Bool.false_eq_true, rx_0, rx_1, rx_2, X_houses (k + 203) (hC1.1.1 x m), show (CW C fo F none).1 = C.1 from rfl, bit7, hnle, e1, e2, e3, e4, c1', c2', nI_1]
