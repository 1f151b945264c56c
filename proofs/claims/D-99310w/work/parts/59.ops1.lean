/-! small questions -/
theorem l_le (a b : Int32) : (a.toInt64 ≤ b.toInt64) = (a ≤ b) := by
  apply propext
  rw [Int64.le_iff_toInt_le, Int32.le_iff_toInt_le, Int32.toInt_toInt64, Int32.toInt_toInt64]
theorem l_lt (a b : Int32) : (a.toInt64 < b.toInt64) = (a < b) := by
  apply propext
  rw [Int64.lt_iff_toInt_lt, Int32.lt_iff_toInt_lt, Int32.toInt_toInt64, Int32.toInt_toInt64]
theorem X_in (k : Nat) (h : AH) (v lo hi : Int64) : callR (k + 1) n_X0_in [.long v, .long lo, .long hi] h = some (.inl (some (.int (bI (decide (lo ≤ v ∧ v ≤ hi))))), h) := by
  simp (disch := omega) only [e_X0_in_0, e_X0_in_6, e_X0_in_13, e_X0_in_17, e_X0_in_18, c_X0_in, cond_true, cond_false, Option.bind_some, rI_s, rL_s, rR_s, rV_s, cnd_d, cnd_ne, cnd_eq, bI_d0, bI_t0, ite_not, decide_eq_false_iff_not, decide_eq_true_eq, lg_cmp_ge, lg_cmp_le, lg_cmp_gt, lg_cmp_lt, lg_cmp_eq, okb_1, okb_0, okb_b]
  by_cases c1 : v < lo
  · rw [if_pos c1, show decide (lo ≤ v ∧ v ≤ hi) = false from decide_eq_false fun h => absurd c1 (Int64.not_lt.mpr h.1)]; rfl
  · rw [if_neg c1]
    by_cases c2 : hi < v
    · rw [if_pos c2, show decide (lo ≤ v ∧ v ≤ hi) = false from decide_eq_false fun h => absurd c2 (Int64.not_lt.mpr h.2)]; rfl
    · rw [if_neg c2, show decide (lo ≤ v ∧ v ≤ hi) = true from decide_eq_true ⟨Int64.not_lt.mp c1, Int64.not_lt.mp c2⟩]; rfl
theorem M_in (k : Nat) (h : AH) (v lo hi : Int64) : callR (k + 1) n_X4_in [.long v, .long lo, .long hi] h = some (.inl (some (.int (bI (decide (lo ≤ v ∧ v ≤ hi))))), h) := by
  simp (disch := omega) only [e_X4_in_0, e_X4_in_6, e_X4_in_13, e_X4_in_17, e_X4_in_18, c_X4_in, cond_true, cond_false, Option.bind_some, rI_s, rL_s, rR_s, rV_s, cnd_d, cnd_ne, cnd_eq, bI_d0, bI_t0, ite_not, decide_eq_false_iff_not, decide_eq_true_eq, lg_cmp_ge, lg_cmp_le, lg_cmp_gt, lg_cmp_lt, lg_cmp_eq, okb_1, okb_0, okb_b]
  by_cases c1 : v < lo
  · rw [if_pos c1, show decide (lo ≤ v ∧ v ≤ hi) = false from decide_eq_false fun h => absurd c1 (Int64.not_lt.mpr h.1)]; rfl
  · rw [if_neg c1]
    by_cases c2 : hi < v
    · rw [if_pos c2, show decide (lo ≤ v ∧ v ≤ hi) = false from decide_eq_false fun h => absurd c2 (Int64.not_lt.mpr h.2)]; rfl
    · rw [if_neg c2, show decide (lo ≤ v ∧ v ≤ hi) = true from decide_eq_true ⟨Int64.not_lt.mp c1, Int64.not_lt.mp c2⟩]; rfl
/-- v is the number of one of n -/
def hB (n : Nat) (v : Int32) : Bool := decide (0 ≤ v ∧ v < nI n)
theorem hB_of {n : Nat} {v : Int32} (hn : n < 2 ^ 31) (h : hB n v = true) : ∃ j, j < n ∧ v = nI j := by
  obtain ⟨h1, h2⟩ := of_decide_eq_true h
  obtain ⟨j, hj, rfl⟩ := nI_of (Int32.not_lt.mpr h1)
  exact ⟨j, (nI_ltI hj hn).mp h2, rfl⟩
theorem le_pred {n : Nat} (hn : n < 2 ^ 31) (v : Int32) : (0 ≤ v ∧ v ≤ nI n - 1) = (0 ≤ v ∧ v < nI n) := by
  apply propext
  constructor
  · rintro ⟨h1, h2⟩
    refine ⟨h1, ?_⟩
    obtain ⟨j, hj, rfl⟩ := nI_of (Int32.not_lt.mpr h1)
    cases n with
    | zero => exact absurd (Int32.le_trans h1 h2) (by decide)
    | succ n => rw [nI_pred] at h2; exact (nI_ltI hj hn).mpr (by have := (nI_leI hj (by omega)).mp h2; omega)
  · rintro ⟨h1, h2⟩
    refine ⟨h1, ?_⟩
    obtain ⟨j, hj, rfl⟩ := nI_of (Int32.not_lt.mpr h1)
    have h3 := (nI_ltI hj hn).mp h2
    cases n with
    | zero => omega
    | succ n => rw [nI_pred]; exact (nI_leI hj (by omega)).mpr (by omega)
theorem lt_succ' {n : Nat} (hn : n + 1 < 2 ^ 31) (v : Int32) : (0 ≤ v ∧ v ≤ nI n) = (0 ≤ v ∧ v < nI (n + 1)) := by
  rw [← le_pred hn, nI_pred]
theorem X_isHouse (k : Nat) (d : AH) (x : XS) (m : MS) (C : AC) (hv : VL (P d x m) (x.2.2.2.2.1 0) C) (h6 : C.1 ≤ 6) (v : Int32) : callR (k + 3) n_X0_isHouse [.ref 0, .int v] (P d x m) = some (.inl (some (.int (bI (hB C.1 v)))), P d x m) := by
  have hd : decide ((0 : Int64) ≤ v.toInt64 ∧ v.toInt64 ≤ (nI C.1 - 1).toInt64) = hB C.1 v := by
    unfold hB
    rw [show (0 : Int64) = (0 : Int32).toInt64 from rfl]
    simp only [l_le]
    simp only [le_pred (show C.1 < 2 ^ 31 by omega)]
  simp only [e_X0_isHouse_0, c_X0_isHouse, cond_true, cond_false, Option.bind_some, rI_s, rL_s, rR_s, rV_s, cnd_d, cnd_ne, cnd_eq, bI_d0, bI_t0, ite_not, decide_eq_false_iff_not, decide_eq_true_eq, lg_cmp_ge, lg_cmp_le, lg_cmp_gt, lg_cmp_lt, lg_cmp_eq, okb_1, okb_0, okb_b, isO_X, rx_0, X_houses k hv, X_in, hd]
theorem M_isHouse (k : Nat) (d : AH) (x : XS) (m : MS) (n : Nat) (h6 : n ≤ 6) (h3 : m.2.1 10 3 = nI n) (v : Int32) : callR (k + 1) n_X4_isHouse [.ref 153, .int v] (P d x m) = some (.inl (some (.int (bI (hB n v)))), P d x m) := by
  simp (disch := omega) only [e_X4_isHouse_0, e_X4_isHouse_4, e_X4_isHouse_14, e_X4_isHouse_18, e_X4_isHouse_19, c_X4_isHouse, cond_true, cond_false, Option.bind_some, rI_s, rL_s, rR_s, rV_s, cnd_d, cnd_ne, cnd_eq, bI_d0, bI_t0, ite_not, decide_eq_false_iff_not, decide_eq_true_eq, lg_cmp_ge, lg_cmp_le, lg_cmp_gt, lg_cmp_lt, lg_cmp_eq, okb_1, okb_0, okb_b, li_2, li_3, li_4, li_5, li_6, li_7, li_8, li_9, li_10, li_11, li_12, li_13, li_14, li_15, li_16, li_18, li_20, li_22, li_24, li_25, li_26, li_28, li_32, li_38, li_40, li_43, li_44, li_45, li_46, li_47, li_48, li_49, li_50, li_54, li_56, li_59, li_60, li_61, li_64, li_91, li_93, li_99, li_100, li_111, li_112, li_117, li_122, li_123, li_131, li_132, li_200, li_255, li_256, li_400, li_560, li_9999, li_10000, li_99999, li_65536, pk_mul, nI_add, nI_1, neg_lt0, neg_le0, nI_nn, nI_nlt0, isO_M, lm_1, sm_1, lm_2, sm_2, lm_3, sm_3, lm_4, sm_4, lm_5, sm_5, lm_6, sm_6, lm_7, sm_7, lm_8, sm_8, lm_9, sm_9, lm_10, sm_10, lm_11, sm_11, lm_12, sm_12, lm_13, sm_13, lm_14, sm_14, lm_15, sm_15, lm_16, sm_16, lm_17, sm_17, lm_18, sm_18, lm_19, sm_19, lm_20, sm_20, lm_21, sm_21, rm_0, rm_1, wm_1, rm_2, wm_2, rm_3, rm_4, rm_5, rm_6, rm_7, rm_8, wm_8, rm_9, wm_9, rm_10, wm_10, rm_11, wm_11, rm_12, wm_12, rm_13, wm_13, rm_14, wm_14, rm_15, rm_16, wm_16, rm_17, wm_17, rm_18, rm_19, wm_19, rm_20, rm_21, rm_22, wm_22, rm_23, wm_23, rm_24, rm_25, wm_25, rm_26, wm_26, rm_27, wm_27, rm_28, wm_28, rm_29, wm_29, rm_30, rm_31, wm_31, rm_32, rm_33, rm_34, wm_34, rm_35, rm_36, rm_37, rm_38, wm_38, rm_39, rm_40, rm_41, rm_42, h3]
  unfold hB
  by_cases c1 : v < 0
  · rw [if_pos c1, show decide (0 ≤ v ∧ v < nI n) = false from decide_eq_false fun h => absurd c1 (Int32.not_lt.mpr h.1)]; rfl
  · rw [if_neg c1]
    by_cases c2 : nI n ≤ v
    · rw [if_pos c2, show decide (0 ≤ v ∧ v < nI n) = false from decide_eq_false fun h => absurd h.2 (Int32.not_lt.mpr c2)]; rfl
    · rw [if_neg c2, show decide (0 ≤ v ∧ v < nI n) = true from decide_eq_true ⟨Int32.not_lt.mp c1, Int32.not_le.mp c2⟩]; rfl
theorem X_isValley (k : Nat) (d : AH) (x : XS) (m : MS) (C : AC) (hv : VL (P d x m) (x.2.2.2.2.1 0) C) : callR (k + 1) n_X0_isValley [.ref 0] (P d x m) = some (.inl (some (.int (bI (decide (0 < C.2.2.2.1))))), P d x m) := by
  simp only [e_X0_isValley_0, e_X0_isValley_10, e_X0_isValley_14, e_X0_isValley_15, c_X0_isValley, cond_true, cond_false, Option.bind_some, rI_s, rL_s, rR_s, rV_s, cnd_d, cnd_ne, cnd_eq, bI_d0, bI_t0, ite_not, decide_eq_false_iff_not, decide_eq_true_eq, lg_cmp_ge, lg_cmp_le, lg_cmp_gt, lg_cmp_lt, lg_cmp_eq, okb_1, okb_0, okb_b, isO_X, rx_0, VL_leap hv]
  by_cases e : 0 < C.2.2.2.1
  · rw [if_neg (Int32.not_le.mpr e)]; simp [e, bI]
  · rw [if_pos (Int32.not_lt.mp e)]; simp [e, bI]
theorem M_isValley (k : Nat) (d : AH) (x : XS) (m : MS) : callR (k + 1) n_X4_isValley [.ref 153] (P d x m) = some (.inl (some (.int (bI (decide (m.2.1 10 0 = 1))))), P d x m) := by
  have hl0 : ldI (P d x m) 163 0 (0 : Int32) = some (m.2.1 10 0) := lm_10 d x m 0 (by omega)
  simp only [e_X4_isValley_0, e_X4_isValley_10, e_X4_isValley_14, e_X4_isValley_15, c_X4_isValley, cond_true, cond_false, Option.bind_some, rI_s, rL_s, rR_s, rV_s, cnd_d, cnd_ne, cnd_eq, bI_d0, bI_t0, ite_not, decide_eq_false_iff_not, decide_eq_true_eq, lg_cmp_ge, lg_cmp_le, lg_cmp_gt, lg_cmp_lt, lg_cmp_eq, okb_1, okb_0, okb_b, isO_M, rm_21, hl0]
  by_cases e : m.2.1 10 0 = 1
  · rw [if_pos e]; simp [e, bI]
  · rw [if_neg e]; simp [e, bI]
theorem X_isPlace (k : Nat) (d : AH) (x : XS) (m : MS) (C : AC) (hv : VL (P d x m) (x.2.2.2.2.1 0) C) (h6 : C.1 ≤ 6) (v : Int32) : callR (k + 3) n_X0_isPlace [.ref 0, .int v] (P d x m) = some (.inl (some (.int (bI (decide (0 < C.2.2.2.1) && hB (C.1 + 1) v)))), P d x m) := by
  have hd : decide ((0 : Int64) ≤ v.toInt64 ∧ v.toInt64 ≤ (nI C.1).toInt64) = hB (C.1 + 1) v := by
    unfold hB
    rw [show (0 : Int64) = (0 : Int32).toInt64 from rfl]
    simp only [l_le]
    simp only [lt_succ' (show C.1 + 1 < 2 ^ 31 by omega)]
  have hd' : ((0 : Int64) ≤ v.toInt64 ∧ v.toInt64 ≤ (nI C.1).toInt64) = (hB (C.1 + 1) v = true) := by rw [← hd, decide_eq_true_eq]
  simp only [e_X0_isPlace_0, e_X0_isPlace_7, e_X0_isPlace_24, e_X0_isPlace_28, e_X0_isPlace_29, c_X0_isPlace, cond_true, cond_false, Option.bind_some, rI_s, rL_s, rR_s, rV_s, cnd_d, cnd_ne, cnd_eq, bI_d0, bI_t0, ite_not, decide_eq_false_iff_not, decide_eq_true_eq, lg_cmp_ge, lg_cmp_le, lg_cmp_gt, lg_cmp_lt, lg_cmp_eq, okb_1, okb_0, okb_b, isO_X, rx_0, X_houses k hv, X_in, X_isValley (k + 1) d x m C hv]
  by_cases e : 0 < C.2.2.2.1
  · rw [if_pos e]
    simp only [e, decide_true, Bool.true_and, hd']
    cases hB (C.1 + 1) v <;> rfl
  · rw [if_neg e]
    simp [e, bI]
theorem M_isPlace (k : Nat) (d : AH) (x : XS) (m : MS) (n : Nat) (h6 : n ≤ 6) (h3 : m.2.1 10 3 = nI n) (v : Int32) : callR (k + 2) n_X4_isPlace [.ref 153, .int v] (P d x m) = some (.inl (some (.int (bI (decide (m.2.1 10 0 = 1) && hB (n + 1) v)))), P d x m) := by
  simp (disch := omega) only [e_X4_isPlace_0, e_X4_isPlace_7, e_X4_isPlace_11, e_X4_isPlace_21, e_X4_isPlace_25, e_X4_isPlace_26, c_X4_isPlace, cond_true, cond_false, Option.bind_some, rI_s, rL_s, rR_s, rV_s, cnd_d, cnd_ne, cnd_eq, bI_d0, bI_t0, ite_not, decide_eq_false_iff_not, decide_eq_true_eq, lg_cmp_ge, lg_cmp_le, lg_cmp_gt, lg_cmp_lt, lg_cmp_eq, okb_1, okb_0, okb_b, li_2, li_3, li_4, li_5, li_6, li_7, li_8, li_9, li_10, li_11, li_12, li_13, li_14, li_15, li_16, li_18, li_20, li_22, li_24, li_25, li_26, li_28, li_32, li_38, li_40, li_43, li_44, li_45, li_46, li_47, li_48, li_49, li_50, li_54, li_56, li_59, li_60, li_61, li_64, li_91, li_93, li_99, li_100, li_111, li_112, li_117, li_122, li_123, li_131, li_132, li_200, li_255, li_256, li_400, li_560, li_9999, li_10000, li_99999, li_65536, pk_mul, nI_add, nI_1, neg_lt0, neg_le0, nI_nn, nI_nlt0, isO_M, lm_1, sm_1, lm_2, sm_2, lm_3, sm_3, lm_4, sm_4, lm_5, sm_5, lm_6, sm_6, lm_7, sm_7, lm_8, sm_8, lm_9, sm_9, lm_10, sm_10, lm_11, sm_11, lm_12, sm_12, lm_13, sm_13, lm_14, sm_14, lm_15, sm_15, lm_16, sm_16, lm_17, sm_17, lm_18, sm_18, lm_19, sm_19, lm_20, sm_20, lm_21, sm_21, rm_0, rm_1, wm_1, rm_2, wm_2, rm_3, rm_4, rm_5, rm_6, rm_7, rm_8, wm_8, rm_9, wm_9, rm_10, wm_10, rm_11, wm_11, rm_12, wm_12, rm_13, wm_13, rm_14, wm_14, rm_15, rm_16, wm_16, rm_17, wm_17, rm_18, rm_19, wm_19, rm_20, rm_21, rm_22, wm_22, rm_23, wm_23, rm_24, rm_25, wm_25, rm_26, wm_26, rm_27, wm_27, rm_28, wm_28, rm_29, wm_29, rm_30, rm_31, wm_31, rm_32, rm_33, rm_34, wm_34, rm_35, rm_36, rm_37, rm_38, wm_38, rm_39, rm_40, rm_41, rm_42, h3, M_isValley]
  by_cases e : m.2.1 10 0 = 1
  · rw [if_pos e]
    simp only [e, decide_true, Bool.true_and]
    unfold hB
    by_cases c1 : v < 0
    · rw [if_pos c1, show decide (0 ≤ v ∧ v < nI (n + 1)) = false from decide_eq_false fun h => absurd c1 (Int32.not_lt.mpr h.1)]; rfl
    · rw [if_neg c1]
      by_cases c2 : nI n < v
      · rw [if_pos c2, show decide (0 ≤ v ∧ v < nI (n + 1)) = false from decide_eq_false fun h => by
          rw [← lt_succ' (by omega)] at h
          exact absurd c2 (Int32.not_lt.mpr h.2)]; rfl
      · rw [if_neg c2, show decide (0 ≤ v ∧ v < nI (n + 1)) = true from decide_eq_true (by
          rw [← lt_succ' (by omega)]
          exact ⟨Int32.not_lt.mp c1, Int32.not_lt.mp c2⟩)]; rfl
  · rw [if_neg e]
    simp [e, bI]
theorem flag_eq {Z : Nat → Bool} {d : AH} {v : Nat} {sd : Nat → Int32} {C : AC} (h : VR Z d v sd C) : decide (sd 0 = 1) = decide (0 < C.2.2.2.1) := by
  rcases h.2.2.1 with h | h
  · rw [h.1]; simp [h.2]
  · rw [h.1, h.2.1]; decide
theorem op_house (v w : Int32) : OpS n_X0_house n_X4_house [.int v, .int w] := by
  intro Z d x m hR k
  obtain ⟨hZ, C, A, n, u, a, t, nr, F, fo, hV, hA, hX, hW, -⟩ := id hR
  have hvp := (hV.2.1 d (Ext_refl Z d)).1
  have h6 := hV.1.1.2
  have h3 := hV.1.1.1
  by_cases hb : hB C.1 v = true
  · obtain ⟨j, hj, rfl⟩ := hB_of (by omega) hb
    obtain ⟨a0, a1, a2, a3⟩ := hA.1 j hj
    obtain ⟨b0, b1, b2, b3⟩ := hX.1 j hj
    obtain ⟨bes, hb1, hb2⟩ := hvp.2
    have hl : ∀ (w : Int32) (j' : Nat), (14 + 4 * j + j' < 132) → ∀ x, w = nI j' → ldI (P d x m) 163 0 (nI (14 + 4 * j) + w) = some (m.2.1 10 (14 + 4 * j + j')) := by
      intro w j' h x e
      rw [e, nI_add]; exact lm_10 d x m _ h
    have hbe : ∀ m, ∀ β : Type, ∀ f : Int32 → Option β, ((rdR (P d x m) (x.2.2.2.2.1 0) 1 2).bind fun r => (ldI (P d x m) r 0 (nI j)).bind f) = f (C.2.2.1 j) := by
      intro m β f
      obtain ⟨be, e1, e2⟩ := hb1 x m
      rw [e1, Option.bind_some, e2 j (by omega), Option.bind_some, hb2 j hj]
    have r0 : ∀ m, rdR (P d x m) 6 2 0 = some 7 ∧ ldI (P d x m) 7 0 (nI j) = some ((x.2.2.2.1 0).1 0 j) := fun m => ⟨rp_0 d x m 0 (by omega), lp_0 d x m 0 (by omega) j (by omega)⟩
    have r1 : ∀ m, rdR (P d x m) 6 2 1 = some 8 ∧ ldI (P d x m) 8 0 (nI j) = some ((x.2.2.2.1 0).1 1 j) := fun m => ⟨rp_1 d x m 0 (by omega), lp_1 d x m 0 (by omega) j (by omega)⟩
    have r2 : ∀ m, rdR (P d x m) 6 2 2 = some 9 ∧ ldI (P d x m) 9 0 (nI j) = some ((x.2.2.2.1 0).1 2 j) := fun m => ⟨rp_2 d x m 0 (by omega), lp_2 d x m 0 (by omega) j (by omega)⟩
    have r4 : ∀ m, rdR (P d x m) 6 2 4 = some 11 ∧ ldI (P d x m) 11 0 (nI j) = some ((x.2.2.2.1 0).1 4 j) := fun m => ⟨rp_4 d x m 0 (by omega), lp_4 d x m 0 (by omega) j (by omega)⟩
    have hXb : ∀ m, callR (k + 999) n_X0_isHouse [.ref 0, .int (nI j)] (P d x m) = some (.inl (some (.int (bI true))), P d x m) := fun m => by rw [← hb]; exact X_isHouse (k + 996) d x m C (hvp.1 x m) h6 (nI j)
    have hMb : ∀ x, callR (k + 999) n_X4_isHouse [.ref 153, .int (nI j)] (P d x m) = some (.inl (some (.int (bI true))), P d x m) := fun x => by rw [← hb]; exact M_isHouse (k + 998) d x m C.1 h6 h3 (nI j)
    have go : ∀ r : Int32, (∀ m, callR (k + 1000) n_X0_house [.ref 0, .int (nI j), .int w] (P d x m) = some (.inl (some (.int r)), P d x m)) → (∀ x, callR (k + 1000) n_X4_house [.ref 153, .int (nI j), .int w] (P d x m) = some (.inl (some (.int r)), P d x m)) → ∃ (r : Int32) (x' : XS) (m' : MS), (∀ m, callR (k + 1000) n_X0_house [.ref 0, .int (nI j), .int w] (P d x m) = some (.inl (some (.int r)), P d x' m)) ∧ (∀ x, callR (k + 1000) n_X4_house [.ref 153, .int (nI j), .int w] (P d x m) = some (.inl (some (.int r)), P d x m')) ∧ Rel Z d x' m' := fun r e1 e2 => ⟨r, x, m, e1, e2, hR⟩
    by_cases w0 : w = 0
    · subst w0
      exact go (A.1 0 j) (fun m => by
        simp (disch := omega) only [e_X0_house_0, e_X0_house_8, e_X0_house_10, e_X0_house_44, e_X0_house_54, e_X0_house_64, e_X0_house_74, e_X0_house_84, e_X0_house_94, c_X0_house, cond_true, cond_false, Option.bind_some, rI_s, rL_s, rR_s, rV_s, cnd_d, cnd_ne, cnd_eq, bI_d0, bI_t0, ite_not, decide_eq_false_iff_not, decide_eq_true_eq, lg_cmp_ge, lg_cmp_le, lg_cmp_gt, lg_cmp_lt, lg_cmp_eq, okb_1, okb_0, okb_b, eq_self, if_true, if_false, Bool.true_eq_false, Bool.false_eq_true, isO_X, hXb, rx_1, (r0 m).1, (r0 m).2, b0, nI_0]) (fun x => by
        simp (disch := omega) only [e_X4_house_0, e_X4_house_8, e_X4_house_10, e_X4_house_44, e_X4_house_58, e_X4_house_68, e_X4_house_82, c_X4_house, cond_true, cond_false, Option.bind_some, rI_s, rL_s, rR_s, rV_s, cnd_d, cnd_ne, cnd_eq, bI_d0, bI_t0, ite_not, decide_eq_false_iff_not, decide_eq_true_eq, lg_cmp_ge, lg_cmp_le, lg_cmp_gt, lg_cmp_lt, lg_cmp_eq, okb_1, okb_0, okb_b, eq_self, if_true, if_false, Bool.true_eq_false, Bool.false_eq_true, isO_M, hMb, rm_21, li_14, li_4, pk_mul, nI_add, hl 0 0 (by omega) x rfl]
        rw [Nat.add_zero, a0])
    · by_cases w1 : w = 1
      · subst w1
        exact go (A.1 1 j) (fun m => by
          simp (disch := omega) only [e_X0_house_0, e_X0_house_8, e_X0_house_10, e_X0_house_44, e_X0_house_54, e_X0_house_64, e_X0_house_74, e_X0_house_84, e_X0_house_94, c_X0_house, cond_true, cond_false, Option.bind_some, rI_s, rL_s, rR_s, rV_s, cnd_d, cnd_ne, cnd_eq, bI_d0, bI_t0, ite_not, decide_eq_false_iff_not, decide_eq_true_eq, lg_cmp_ge, lg_cmp_le, lg_cmp_gt, lg_cmp_lt, lg_cmp_eq, okb_1, okb_0, okb_b, eq_self, if_true, if_false, Bool.true_eq_false, Bool.false_eq_true, isO_X, hXb, rx_1, (r1 m).1, (r1 m).2, b1, show ¬ (1 : Int32) = 0 by decide]) (fun x => by
          simp (disch := omega) only [e_X4_house_0, e_X4_house_8, e_X4_house_10, e_X4_house_44, e_X4_house_58, e_X4_house_68, e_X4_house_82, c_X4_house, cond_true, cond_false, Option.bind_some, rI_s, rL_s, rR_s, rV_s, cnd_d, cnd_ne, cnd_eq, bI_d0, bI_t0, ite_not, decide_eq_false_iff_not, decide_eq_true_eq, lg_cmp_ge, lg_cmp_le, lg_cmp_gt, lg_cmp_lt, lg_cmp_eq, okb_1, okb_0, okb_b, eq_self, if_true, if_false, Bool.true_eq_false, Bool.false_eq_true, isO_M, hMb, rm_21, li_14, li_4, pk_mul, nI_add, show ¬ (1 : Int32) = 0 by decide, hl 1 1 (by omega) x rfl]
          rw [show 14 + 4 * j + 1 = 15 + 4 * j by omega, a1])
      · by_cases w2 : w = 2
        · subst w2
          exact go (A.1 2 j) (fun m => by
            simp (disch := omega) only [e_X0_house_0, e_X0_house_8, e_X0_house_10, e_X0_house_44, e_X0_house_54, e_X0_house_64, e_X0_house_74, e_X0_house_84, e_X0_house_94, c_X0_house, cond_true, cond_false, Option.bind_some, rI_s, rL_s, rR_s, rV_s, cnd_d, cnd_ne, cnd_eq, bI_d0, bI_t0, ite_not, decide_eq_false_iff_not, decide_eq_true_eq, lg_cmp_ge, lg_cmp_le, lg_cmp_gt, lg_cmp_lt, lg_cmp_eq, okb_1, okb_0, okb_b, eq_self, if_true, if_false, Bool.true_eq_false, Bool.false_eq_true, isO_X, hXb, rx_1, (r2 m).1, (r2 m).2, b2, show ¬ (2 : Int32) = 0 by decide, show ¬ (2 : Int32) = 1 by decide]) (fun x => by
            simp (disch := omega) only [e_X4_house_0, e_X4_house_8, e_X4_house_10, e_X4_house_44, e_X4_house_58, e_X4_house_68, e_X4_house_82, c_X4_house, cond_true, cond_false, Option.bind_some, rI_s, rL_s, rR_s, rV_s, cnd_d, cnd_ne, cnd_eq, bI_d0, bI_t0, ite_not, decide_eq_false_iff_not, decide_eq_true_eq, lg_cmp_ge, lg_cmp_le, lg_cmp_gt, lg_cmp_lt, lg_cmp_eq, okb_1, okb_0, okb_b, eq_self, if_true, if_false, Bool.true_eq_false, Bool.false_eq_true, isO_M, hMb, rm_21, li_14, li_4, pk_mul, nI_add, show ¬ (2 : Int32) = 0 by decide, show ¬ (2 : Int32) = 1 by decide, hl 2 2 (by omega) x rfl]
            rw [show 14 + 4 * j + 2 = 16 + 4 * j by omega, a2])
        · by_cases w3 : w = 3
          · subst w3
            exact go (C.2.2.1 j) (fun m => by
              simp (disch := omega) only [e_X0_house_0, e_X0_house_8, e_X0_house_10, e_X0_house_44, e_X0_house_54, e_X0_house_64, e_X0_house_74, e_X0_house_84, e_X0_house_94, c_X0_house, cond_true, cond_false, Option.bind_some, rI_s, rL_s, rR_s, rV_s, cnd_d, cnd_ne, cnd_eq, bI_d0, bI_t0, ite_not, decide_eq_false_iff_not, decide_eq_true_eq, lg_cmp_ge, lg_cmp_le, lg_cmp_gt, lg_cmp_lt, lg_cmp_eq, okb_1, okb_0, okb_b, eq_self, if_true, if_false, Bool.true_eq_false, Bool.false_eq_true, isO_X, hXb, rx_0, hbe, show ¬ (3 : Int32) = 0 by decide, show ¬ (3 : Int32) = 1 by decide, show ¬ (3 : Int32) = 2 by decide]) (fun x => by
              simp (disch := omega) only [e_X4_house_0, e_X4_house_8, e_X4_house_10, e_X4_house_44, e_X4_house_58, e_X4_house_68, e_X4_house_82, c_X4_house, cond_true, cond_false, Option.bind_some, rI_s, rL_s, rR_s, rV_s, cnd_d, cnd_ne, cnd_eq, bI_d0, bI_t0, ite_not, decide_eq_false_iff_not, decide_eq_true_eq, lg_cmp_ge, lg_cmp_le, lg_cmp_gt, lg_cmp_lt, lg_cmp_eq, okb_1, okb_0, okb_b, eq_self, if_true, if_false, Bool.true_eq_false, Bool.false_eq_true, isO_M, hMb, rm_21, show ¬ (3 : Int32) = 0 by decide, show ¬ (3 : Int32) = 1 by decide, show ¬ (3 : Int32) = 2 by decide, li_38, nI_add, lm_10, hV.1.2.2.1 j hj])
          · by_cases w4 : w = 4
            · subst w4
              exact go (A.1 3 j) (fun m => by
                simp (disch := omega) only [e_X0_house_0, e_X0_house_8, e_X0_house_10, e_X0_house_44, e_X0_house_54, e_X0_house_64, e_X0_house_74, e_X0_house_84, e_X0_house_94, c_X0_house, cond_true, cond_false, Option.bind_some, rI_s, rL_s, rR_s, rV_s, cnd_d, cnd_ne, cnd_eq, bI_d0, bI_t0, ite_not, decide_eq_false_iff_not, decide_eq_true_eq, lg_cmp_ge, lg_cmp_le, lg_cmp_gt, lg_cmp_lt, lg_cmp_eq, okb_1, okb_0, okb_b, eq_self, if_true, if_false, Bool.true_eq_false, Bool.false_eq_true, isO_X, hXb, rx_1, (r4 m).1, (r4 m).2, b3, show ¬ (4 : Int32) = 0 by decide, show ¬ (4 : Int32) = 1 by decide, show ¬ (4 : Int32) = 2 by decide, show ¬ (4 : Int32) = 3 by decide]) (fun x => by
                simp (disch := omega) only [e_X4_house_0, e_X4_house_8, e_X4_house_44, e_X4_house_58, e_X4_house_68, e_X4_house_82, c_X4_house, e_X4_house_10, cond_true, cond_false, Option.bind_some, rI_s, rL_s, rR_s, rV_s, cnd_d, cnd_ne, cnd_eq, bI_d0, bI_t0, ite_not, decide_eq_false_iff_not, decide_eq_true_eq, lg_cmp_ge, lg_cmp_le, lg_cmp_gt, lg_cmp_lt, lg_cmp_eq, okb_1, okb_0, okb_b, eq_self, if_true, if_false, Bool.true_eq_false, Bool.false_eq_true, isO_M, hMb, rm_21, show ¬ (4 : Int32) = 0 by decide, show ¬ (4 : Int32) = 1 by decide, show ¬ (4 : Int32) = 2 by decide, show ¬ (4 : Int32) = 3 by decide]
                simp (disch := omega) only [cond_true, cond_false, Option.bind_some, rI_s, rL_s, rR_s, rV_s, cnd_d, cnd_ne, cnd_eq, bI_d0, bI_t0, ite_not, decide_eq_false_iff_not, decide_eq_true_eq, lg_cmp_ge, lg_cmp_le, lg_cmp_gt, lg_cmp_lt, lg_cmp_eq, okb_1, okb_0, okb_b, eq_self, if_true, if_false, Bool.true_eq_false, Bool.false_eq_true, li_2, li_3, li_4, li_5, li_6, li_7, li_8, li_9, li_10, li_11, li_12, li_13, li_14, li_15, li_16, li_18, li_20, li_22, li_24, li_25, li_26, li_28, li_32, li_38, li_40, li_43, li_44, li_45, li_46, li_47, li_48, li_49, li_50, li_54, li_56, li_59, li_60, li_61, li_64, li_91, li_93, li_99, li_100, li_111, li_112, li_117, li_122, li_123, li_131, li_132, li_200, li_255, li_256, li_400, li_560, li_9999, li_10000, li_99999, li_65536, pk_mul, nI_add, nI_1, neg_lt0, neg_le0, nI_nn, nI_nlt0, lm_10]
                rw [show 14 + 4 * j + 3 = 17 + 4 * j by omega, a3])
            · exact go (-1) (fun m => by
                simp (disch := omega) only [e_X0_house_0, e_X0_house_8, e_X0_house_10, e_X0_house_44, e_X0_house_54, e_X0_house_64, e_X0_house_74, e_X0_house_84, e_X0_house_94, c_X0_house, cond_true, cond_false, Option.bind_some, rI_s, rL_s, rR_s, rV_s, cnd_d, cnd_ne, cnd_eq, bI_d0, bI_t0, ite_not, decide_eq_false_iff_not, decide_eq_true_eq, lg_cmp_ge, lg_cmp_le, lg_cmp_gt, lg_cmp_lt, lg_cmp_eq, okb_1, okb_0, okb_b, eq_self, if_true, if_false, Bool.true_eq_false, Bool.false_eq_true, isO_X, hXb, w0, w1, w2, w3, w4]) (fun x => by
                simp (disch := omega) only [e_X4_house_0, e_X4_house_8, e_X4_house_10, e_X4_house_44, e_X4_house_58, e_X4_house_68, e_X4_house_82, c_X4_house, cond_true, cond_false, Option.bind_some, rI_s, rL_s, rR_s, rV_s, cnd_d, cnd_ne, cnd_eq, bI_d0, bI_t0, ite_not, decide_eq_false_iff_not, decide_eq_true_eq, lg_cmp_ge, lg_cmp_le, lg_cmp_gt, lg_cmp_lt, lg_cmp_eq, okb_1, okb_0, okb_b, eq_self, if_true, if_false, Bool.true_eq_false, Bool.false_eq_true, isO_M, hMb, w0, w1, w2, w3, w4])
  · have hb' : hB C.1 v = false := by simpa using hb
    refine ⟨-1, x, m, fun m => ?_, fun x => ?_, hR⟩
    · simp (disch := omega) only [e_X0_house_0, e_X0_house_8, e_X0_house_10, e_X0_house_44, e_X0_house_54, e_X0_house_64, e_X0_house_74, e_X0_house_84, e_X0_house_94, c_X0_house, cond_true, cond_false, Option.bind_some, rI_s, rL_s, rR_s, rV_s, cnd_d, cnd_ne, cnd_eq, bI_d0, bI_t0, ite_not, decide_eq_false_iff_not, decide_eq_true_eq, lg_cmp_ge, lg_cmp_le, lg_cmp_gt, lg_cmp_lt, lg_cmp_eq, okb_1, okb_0, okb_b, eq_self, if_true, if_false, Bool.true_eq_false, Bool.false_eq_true, isO_X, X_isHouse (k + 996) d x m C (hvp.1 x m) h6 v, hb']
    · simp (disch := omega) only [e_X4_house_0, e_X4_house_8, e_X4_house_10, e_X4_house_44, e_X4_house_58, e_X4_house_68, e_X4_house_82, c_X4_house, cond_true, cond_false, Option.bind_some, rI_s, rL_s, rR_s, rV_s, cnd_d, cnd_ne, cnd_eq, bI_d0, bI_t0, ite_not, decide_eq_false_iff_not, decide_eq_true_eq, lg_cmp_ge, lg_cmp_le, lg_cmp_gt, lg_cmp_lt, lg_cmp_eq, okb_1, okb_0, okb_b, eq_self, if_true, if_false, Bool.true_eq_false, Bool.false_eq_true, isO_M, M_isHouse (k + 998) d x m C.1 h6 h3 v, hb']
