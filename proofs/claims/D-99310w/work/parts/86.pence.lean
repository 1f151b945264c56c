/-! pence -/
def pnB (u all own : Int32) (l : Nat → Int32) (q i : Nat) : Bool := decide (own - own / all * all < u * l i - u * l i / all * all ∨ (u * l i - u * l i / all * all = own - own / all * all ∧ i < q))
def pnL (u all : Int32) (l : Nat → Int32) : Nat → Int32
  | 0 => u
  | i + 1 => pnL u all l i - u * l i / all
def pnH (u all own : Int32) (l : Nat → Int32) (q : Nat) : Nat → Int32
  | 0 => 0
  | i + 1 => pnH u all own l q i + bI (pnB u all own l q i)
def pnR (u all own : Int32) (l : Nat → Int32) (q n : Nat) : Int32 := own / all + (if pnL u all l n ≤ pnH u all own l q n then 0 else 1)
theorem lt_rF (a : Int32) : (a < a) = False := eq_false (Int32.lt_irrefl)
theorem nz_ok {y : Int32} (h : ¬ y = 0) : nzI y = some () := by
  unfold nzI
  rw [beq_false_of_ne h]
  rfl
theorem X_penceL (k : Nat) (d : AH) (x : XS) (m : MS) (C : AC) (A : AA) (h6 : C.1 ≤ 6) (hv : VL (P d x m) (x.2.2.2.2.1 0) C) (hX : VX C A (x.2.2.2.1 0)) (u all own : Int32) (q : Nat) (hq : q < C.1) (ha : ¬ all = 0) : ∀ r i : Nat, i + r = C.1 → evR T_X0_pence (callR (k + 2)) 58 ([(0, .ref 0), (1, .int u), (2, .int (nI q)), (3, .int all), (4, .int (pnL u all (A.1 4) i)), (5, .int (pnH u all own (A.1 4) q i)), (6, .int own), (7, .int (nI i))], [], P d x m) = some (.inl (some (.int (pnR u all own (A.1 4) q C.1))), P d x m)
  | 0, i, hi => by
    have e : i = C.1 := by omega
    subst e
    have hb0 : ∀ h, callR (k + 2) n_X0_bit [.int 0] h = some (.inl (some (.int 0)), h) := fun h => X_bit (k + 1) h false
    have hb1 : ∀ h, callR (k + 2) n_X0_bit [.int 1] h = some (.inl (some (.int 1)), h) := fun h => X_bit (k + 1) h true
    have nz := nz_ok ha
    rw [e_X0_pence_58]
    unfold pnR
    by_cases c : pnL u all (A.1 4) C.1 ≤ pnH u all own (A.1 4) q C.1
    · simp (disch := omega) only [e_X0_pence_140, e_X0_pence_155, e_X0_pence_156, cond_true, cond_false, Option.bind_some, rI_s, rL_s, rR_s, rV_s, cnd_d, cnd_ne, cnd_eq, bI_d0, bI_t0, ite_not, decide_eq_false_iff_not, decide_eq_true_eq, lg_cmp_ge, lg_cmp_le, lg_cmp_gt, lg_cmp_lt, lg_cmp_eq, okb_1, okb_0, okb_b, eq_self, if_true, if_false, Bool.true_eq_false, Bool.false_eq_true, rx_0, X_houses k hv, le_rT, nz, c, hb0]
    · simp (disch := omega) only [e_X0_pence_140, e_X0_pence_151, e_X0_pence_156, cond_true, cond_false, Option.bind_some, rI_s, rL_s, rR_s, rV_s, cnd_d, cnd_ne, cnd_eq, bI_d0, bI_t0, ite_not, decide_eq_false_iff_not, decide_eq_true_eq, lg_cmp_ge, lg_cmp_le, lg_cmp_gt, lg_cmp_lt, lg_cmp_eq, okb_1, okb_0, okb_b, eq_self, if_true, if_false, Bool.true_eq_false, Bool.false_eq_true, rx_0, X_houses k hv, le_rT, nz, c, hb1]
  | r + 1, i, hi => by
    have hb0 : ∀ h, callR (k + 2) n_X0_bit [.int 0] h = some (.inl (some (.int 0)), h) := fun h => X_bit (k + 1) h false
    have hb1 : ∀ h, callR (k + 2) n_X0_bit [.int 1] h = some (.inl (some (.int 1)), h) := fun h => X_bit (k + 1) h true
    have nz := nz_ok ha
    have hr := X_penceL k d x m C A h6 hv hX u all own q hq ha r (i + 1) (by omega)
    have r3 : rdR (P d x m) 6 2 3 = some 10 := rp_3 d x m 0 (by omega)
    have l3 : ldI (P d x m) 10 0 (nI i) = some (A.1 4 i) := by rw [← hX.2.2.2.2.2.2 i (by omega)]; exact lp_3 d x m 0 (by omega) i (by omega)
    have hp : pnH u all own (A.1 4) q (i + 1) = pnH u all own (A.1 4) q i + bI (pnB u all own (A.1 4) q i) := rfl
    have hl : pnL u all (A.1 4) (i + 1) = pnL u all (A.1 4) i - u * A.1 4 i / all := rfl
    rw [hp, hl] at hr
    rw [e_X0_pence_58]
    by_cases c1 : own - own / all * all < u * A.1 4 i - u * A.1 4 i / all * all
    · have hb : pnB u all own (A.1 4) q i = true := decide_eq_true (Or.inl c1)
      rw [hb, show bI true = 1 from rfl] at hr
      simp (disch := omega) only [e_X0_pence_70, e_X0_pence_123, e_X0_pence_128, cond_true, cond_false, Option.bind_some, rI_s, rL_s, rR_s, rV_s, cnd_d, cnd_ne, cnd_eq, bI_d0, bI_t0, ite_not, decide_eq_false_iff_not, decide_eq_true_eq, lg_cmp_ge, lg_cmp_le, lg_cmp_gt, lg_cmp_lt, lg_cmp_eq, okb_1, okb_0, okb_b, eq_self, if_true, if_false, Bool.true_eq_false, Bool.false_eq_true, rx_0, rx_1, X_houses k hv, nI_leP, if_neg (show ¬ C.1 ≤ i by omega), r3, l3, nz, c1, hb1, nI_1]
      exact hr
    · by_cases c2 : u * A.1 4 i - u * A.1 4 i / all * all = own - own / all * all
      · by_cases c3 : q ≤ i
        · have hb : pnB u all own (A.1 4) q i = false := decide_eq_false (fun h => h.elim c1 (fun h => by omega))
          rw [hb, show bI false = 0 from rfl] at hr
          simp (disch := omega) only [e_X0_pence_70, e_X0_pence_106, e_X0_pence_117, e_X0_pence_127, e_X0_pence_128, cond_true, cond_false, Option.bind_some, rI_s, rL_s, rR_s, rV_s, cnd_d, cnd_ne, cnd_eq, bI_d0, bI_t0, ite_not, decide_eq_false_iff_not, decide_eq_true_eq, lg_cmp_ge, lg_cmp_le, lg_cmp_gt, lg_cmp_lt, lg_cmp_eq, okb_1, okb_0, okb_b, eq_self, if_true, if_false, Bool.true_eq_false, Bool.false_eq_true, rx_0, rx_1, X_houses k hv, nI_leP, if_neg (show ¬ C.1 ≤ i by omega), r3, l3, nz, lt_rF, c1, c2, c3, hb0, nI_1]
          exact hr
        · have hb : pnB u all own (A.1 4) q i = true := decide_eq_true (Or.inr ⟨c2, by omega⟩)
          rw [hb, show bI true = 1 from rfl] at hr
          simp (disch := omega) only [e_X0_pence_70, e_X0_pence_106, e_X0_pence_117, e_X0_pence_123, e_X0_pence_128, cond_true, cond_false, Option.bind_some, rI_s, rL_s, rR_s, rV_s, cnd_d, cnd_ne, cnd_eq, bI_d0, bI_t0, ite_not, decide_eq_false_iff_not, decide_eq_true_eq, lg_cmp_ge, lg_cmp_le, lg_cmp_gt, lg_cmp_lt, lg_cmp_eq, okb_1, okb_0, okb_b, eq_self, if_true, if_false, Bool.true_eq_false, Bool.false_eq_true, rx_0, rx_1, X_houses k hv, nI_leP, if_neg (show ¬ C.1 ≤ i by omega), r3, l3, nz, lt_rF, c1, c2, c3, hb1, nI_1]
          exact hr
      · have hb : pnB u all own (A.1 4) q i = false := decide_eq_false (fun h => h.elim c1 (fun h => c2 h.1))
        rw [hb, show bI false = 0 from rfl] at hr
        simp (disch := omega) only [e_X0_pence_70, e_X0_pence_106, e_X0_pence_127, e_X0_pence_128, cond_true, cond_false, Option.bind_some, rI_s, rL_s, rR_s, rV_s, cnd_d, cnd_ne, cnd_eq, bI_d0, bI_t0, ite_not, decide_eq_false_iff_not, decide_eq_true_eq, lg_cmp_ge, lg_cmp_le, lg_cmp_gt, lg_cmp_lt, lg_cmp_eq, okb_1, okb_0, okb_b, eq_self, if_true, if_false, Bool.true_eq_false, Bool.false_eq_true, rx_0, rx_1, X_houses k hv, nI_leP, if_neg (show ¬ C.1 ≤ i by omega), r3, l3, nz, c1, c2, hb0, nI_1]
        exact hr
theorem M_penceL (k : Nat) (d : AH) (x : XS) (m : MS) (C : AC) (l : Nat → Int32) (h6 : C.1 ≤ 6) (h3 : m.2.1 10 3 = nI C.1) (hL : ∀ i, i < C.1 → m.2.1 10 (93 + 3 * i) - m.2.1 10 (14 + 4 * i) = l i) (u all own : Int32) (q : Nat) (hq : q < C.1) (ha : ¬ all = 0) : ∀ r i : Nat, i + r = C.1 → evR T_X4_pence (callR (k + 2)) 51 ([(0, .ref 153), (1, .int u), (2, .int (nI q)), (3, .int all), (4, .int own), (5, .int (pnL u all l i)), (6, .int (pnH u all own l q i)), (7, .int (nI i))], [], P d x m) = some (.inl (some (.int (pnR u all own l q C.1))), P d x m)
  | 0, i, hi => by
    have e : i = C.1 := by omega
    subst e
    have nz := nz_ok ha
    rw [e_X4_pence_51]
    unfold pnR
    by_cases c : pnL u all l C.1 ≤ pnH u all own l q C.1
    · simp (disch := omega) only [e_X4_pence_125, e_X4_pence_140, e_X4_pence_141, cond_true, cond_false, Option.bind_some, rI_s, rL_s, rR_s, rV_s, cnd_d, cnd_ne, cnd_eq, bI_d0, bI_t0, ite_not, decide_eq_false_iff_not, decide_eq_true_eq, lg_cmp_ge, lg_cmp_le, lg_cmp_gt, lg_cmp_lt, lg_cmp_eq, okb_1, okb_0, okb_b, eq_self, if_true, if_false, Bool.true_eq_false, Bool.false_eq_true, li_3, rm_21, lm_10, h3, le_rT, nz, c]
    · simp (disch := omega) only [e_X4_pence_125, e_X4_pence_136, e_X4_pence_141, cond_true, cond_false, Option.bind_some, rI_s, rL_s, rR_s, rV_s, cnd_d, cnd_ne, cnd_eq, bI_d0, bI_t0, ite_not, decide_eq_false_iff_not, decide_eq_true_eq, lg_cmp_ge, lg_cmp_le, lg_cmp_gt, lg_cmp_lt, lg_cmp_eq, okb_1, okb_0, okb_b, eq_self, if_true, if_false, Bool.true_eq_false, Bool.false_eq_true, li_3, rm_21, lm_10, h3, le_rT, nz, c]
  | r + 1, i, hi => by
    have nz := nz_ok ha
    have hr := M_penceL k d x m C l h6 h3 hL u all own q hq ha r (i + 1) (by omega)
    have eL : callR (k + 2) n_X4_lostOf [.ref 153, .int (nI i)] (P d x m) = some (.inl (some (.int (l i))), P d x m) := by rw [M_lostOf k d x m i (by omega), hL i (by omega)]
    have hp : pnH u all own l q (i + 1) = pnH u all own l q i + bI (pnB u all own l q i) := rfl
    have hl : pnL u all l (i + 1) = pnL u all l i - u * l i / all := rfl
    rw [hp, hl] at hr
    rw [e_X4_pence_51]
    by_cases c1 : own - own / all * all < u * l i - u * l i / all * all
    · have hb : pnB u all own l q i = true := decide_eq_true (Or.inl c1)
      rw [hb, show bI true = 1 from rfl] at hr
      simp (disch := omega) only [e_X4_pence_62, e_X4_pence_111, e_X4_pence_116, cond_true, cond_false, Option.bind_some, rI_s, rL_s, rR_s, rV_s, cnd_d, cnd_ne, cnd_eq, bI_d0, bI_t0, ite_not, decide_eq_false_iff_not, decide_eq_true_eq, lg_cmp_ge, lg_cmp_le, lg_cmp_gt, lg_cmp_lt, lg_cmp_eq, okb_1, okb_0, okb_b, eq_self, if_true, if_false, Bool.true_eq_false, Bool.false_eq_true, li_3, rm_21, lm_10, h3, nI_leP, if_neg (show ¬ C.1 ≤ i by omega), eL, nz, c1, nI_1]
      exact hr
    · by_cases c2 : u * l i - u * l i / all * all = own - own / all * all
      · by_cases c3 : q ≤ i
        · have hb : pnB u all own l q i = false := decide_eq_false (fun h => h.elim c1 (fun h => by omega))
          rw [hb, show bI false = 0 from rfl] at hr
          simp (disch := omega) only [e_X4_pence_62, e_X4_pence_94, e_X4_pence_105, e_X4_pence_115, e_X4_pence_116, cond_true, cond_false, Option.bind_some, rI_s, rL_s, rR_s, rV_s, cnd_d, cnd_ne, cnd_eq, bI_d0, bI_t0, ite_not, decide_eq_false_iff_not, decide_eq_true_eq, lg_cmp_ge, lg_cmp_le, lg_cmp_gt, lg_cmp_lt, lg_cmp_eq, okb_1, okb_0, okb_b, eq_self, if_true, if_false, Bool.true_eq_false, Bool.false_eq_true, li_3, rm_21, lm_10, h3, nI_leP, if_neg (show ¬ C.1 ≤ i by omega), eL, nz, lt_rF, c1, c2, c3, nI_1]
          exact hr
        · have hb : pnB u all own l q i = true := decide_eq_true (Or.inr ⟨c2, by omega⟩)
          rw [hb, show bI true = 1 from rfl] at hr
          simp (disch := omega) only [e_X4_pence_62, e_X4_pence_94, e_X4_pence_105, e_X4_pence_111, e_X4_pence_116, cond_true, cond_false, Option.bind_some, rI_s, rL_s, rR_s, rV_s, cnd_d, cnd_ne, cnd_eq, bI_d0, bI_t0, ite_not, decide_eq_false_iff_not, decide_eq_true_eq, lg_cmp_ge, lg_cmp_le, lg_cmp_gt, lg_cmp_lt, lg_cmp_eq, okb_1, okb_0, okb_b, eq_self, if_true, if_false, Bool.true_eq_false, Bool.false_eq_true, li_3, rm_21, lm_10, h3, nI_leP, if_neg (show ¬ C.1 ≤ i by omega), eL, nz, lt_rF, c1, c2, c3, nI_1]
          exact hr
      · have hb : pnB u all own l q i = false := decide_eq_false (fun h => h.elim c1 (fun h => c2 h.1))
        rw [hb, show bI false = 0 from rfl] at hr
        simp (disch := omega) only [e_X4_pence_62, e_X4_pence_94, e_X4_pence_115, e_X4_pence_116, cond_true, cond_false, Option.bind_some, rI_s, rL_s, rR_s, rV_s, cnd_d, cnd_ne, cnd_eq, bI_d0, bI_t0, ite_not, decide_eq_false_iff_not, decide_eq_true_eq, lg_cmp_ge, lg_cmp_le, lg_cmp_gt, lg_cmp_lt, lg_cmp_eq, okb_1, okb_0, okb_b, eq_self, if_true, if_false, Bool.true_eq_false, Bool.false_eq_true, li_3, rm_21, lm_10, h3, nI_leP, if_neg (show ¬ C.1 ≤ i by omega), eL, nz, c1, c2, nI_1]
        exact hr
theorem op_pence (v g : Int32) : AskOK n_X0_pence n_X4_pence [.int v, .int g] := by
  intro Z d x m hR k
  obtain ⟨C, A, n, u, a, t, nr, F, fo, hP, hS⟩ := Rel_to hR
  obtain ⟨hZ, hV, hN, hPR, hT, hRR, hF, hD, hBr, hI⟩ := id hP
  have hvp := (hV.2.1 d (Ext_refl Z d)).1
  have h6 := hV.1.1.2
  have h3 := hV.1.1.1
  have xh := X_isHouse (k + 996) d x m C (hvp.1 x m) h6 g
  have mh : ∀ x, _ := fun x => M_isHouse (k + 998) d x m C.1 h6 hV.1.1.1 g
  cases c1 : hB C.1 g with
  | false =>
    rw [c1] at xh mh
    refine ask_n (-1) ?_ ?_
    · simp (disch := omega) only [c_X0_pence, e_X0_pence_0, e_X0_pence_20, cond_true, cond_false, Option.bind_some, rI_s, rL_s, rR_s, rV_s, cnd_d, cnd_ne, cnd_eq, bI_d0, bI_t0, ite_not, decide_eq_false_iff_not, decide_eq_true_eq, lg_cmp_ge, lg_cmp_le, lg_cmp_gt, lg_cmp_lt, lg_cmp_eq, okb_1, okb_0, okb_b, eq_self, if_true, if_false, Bool.true_eq_false, Bool.false_eq_true, isO_X, xh]
    · simp (disch := omega) only [c_X4_pence, e_X4_pence_0, e_X4_pence_20, cond_true, cond_false, Option.bind_some, rI_s, rL_s, rR_s, rV_s, cnd_d, cnd_ne, cnd_eq, bI_d0, bI_t0, ite_not, decide_eq_false_iff_not, decide_eq_true_eq, lg_cmp_ge, lg_cmp_le, lg_cmp_gt, lg_cmp_lt, lg_cmp_eq, okb_1, okb_0, okb_b, eq_self, if_true, if_false, Bool.true_eq_false, Bool.false_eq_true, isO_M, mh]
  | true =>
    obtain ⟨q, hq, rfl⟩ := hB_of (by omega) c1
    rw [c1] at xh mh
    cases c2 : inI 0 9999 v with
    | false =>
      refine ask_n (-1) ?_ ?_
      · simp (disch := omega) only [c_X0_pence, e_X0_pence_0, e_X0_pence_8, e_X0_pence_20, cond_true, cond_false, Option.bind_some, rI_s, rL_s, rR_s, rV_s, cnd_d, cnd_ne, cnd_eq, bI_d0, bI_t0, ite_not, decide_eq_false_iff_not, decide_eq_true_eq, lg_cmp_ge, lg_cmp_le, lg_cmp_gt, lg_cmp_lt, lg_cmp_eq, okb_1, okb_0, okb_b, eq_self, if_true, if_false, Bool.true_eq_false, Bool.false_eq_true, isO_X, xh, X_in, in_0_9999, c2]
      · simp (disch := omega) only [c_X4_pence, e_X4_pence_0, e_X4_pence_8, e_X4_pence_20, cond_true, cond_false, Option.bind_some, rI_s, rL_s, rR_s, rV_s, cnd_d, cnd_ne, cnd_eq, bI_d0, bI_t0, ite_not, decide_eq_false_iff_not, decide_eq_true_eq, lg_cmp_ge, lg_cmp_le, lg_cmp_gt, lg_cmp_lt, lg_cmp_eq, okb_1, okb_0, okb_b, eq_self, if_true, if_false, Bool.true_eq_false, Bool.false_eq_true, isO_M, mh, M_in, in_0_9999, c2]
    | true =>
      have xg : callR (k + 999) n_X2_gone [.ref 6] (P d x m) = _ := X_gone0 (k + 998) d x m 0 (by omega) C A hS.2.1
      have mg : ∀ x', callR (k + 999) n_X4_lostAll [.ref 153] (P d x' m) = some (.inl (some (.int (A.2.1 3))), P d x' m) := fun x' => by
        rw [M_lostAll (k + 996) d x' m C.1 h6 h3, hBr.2.2, Int32.sub_zero, hS.1.2.2.2.2.1]
      by_cases c3 : A.2.1 3 = 0
      · refine ask_n 0 ?_ ?_
        · simp (disch := omega) only [c_X0_pence, e_X0_pence_0, e_X0_pence_8, e_X0_pence_22, e_X0_pence_34, cond_true, cond_false, Option.bind_some, rI_s, rL_s, rR_s, rV_s, cnd_d, cnd_ne, cnd_eq, bI_d0, bI_t0, ite_not, decide_eq_false_iff_not, decide_eq_true_eq, lg_cmp_ge, lg_cmp_le, lg_cmp_gt, lg_cmp_lt, lg_cmp_eq, okb_1, okb_0, okb_b, eq_self, if_true, if_false, Bool.true_eq_false, Bool.false_eq_true, isO_X, xh, X_in, in_0_9999, c2, rx_1, xg, c3]
        · simp (disch := omega) only [c_X4_pence, e_X4_pence_0, e_X4_pence_8, e_X4_pence_22, e_X4_pence_31, cond_true, cond_false, Option.bind_some, rI_s, rL_s, rR_s, rV_s, cnd_d, cnd_ne, cnd_eq, bI_d0, bI_t0, ite_not, decide_eq_false_iff_not, decide_eq_true_eq, lg_cmp_ge, lg_cmp_le, lg_cmp_gt, lg_cmp_lt, lg_cmp_eq, okb_1, okb_0, okb_b, eq_self, if_true, if_false, Bool.true_eq_false, Bool.false_eq_true, isO_M, mh, M_in, in_0_9999, c2, mg, c3]
      · have hL : ∀ i, i < C.1 → m.2.1 10 (93 + 3 * i) - m.2.1 10 (14 + 4 * i) = A.1 4 i := fun i hi => by
          rw [hS.1.2.2.2.2.2 i hi, (hS.1.1 i hi).1]
          grind
        have r3 : rdR (P d x m) 6 2 3 = some 10 := rp_3 d x m 0 (by omega)
        have l3 : ldI (P d x m) 10 0 (nI q) = some (A.1 4 q) := by rw [← hS.2.1.2.2.2.2.2.2 q hq]; exact lp_3 d x m 0 (by omega) q (by omega)
        have ex := X_penceL (k + 997) d x m C A h6 (hvp.1 x m) hS.2.1 v (A.2.1 3) (v * A.1 4 q) q hq c3 C.1 0 (by omega)
        have em := M_penceL (k + 997) d x m C (A.1 4) h6 h3 hL v (A.2.1 3) (v * A.1 4 q) q hq c3 C.1 0 (by omega)
        have eL : callR (k + 999) n_X4_lostOf [.ref 153, .int (nI q)] (P d x m) = some (.inl (some (.int (A.1 4 q))), P d x m) := by rw [M_lostOf (k + 997) d x m q (by omega), hL q hq]
        rw [nI_0] at ex em
        refine ask_n (pnR v (A.2.1 3) (v * A.1 4 q) (A.1 4) q C.1) ?_ ?_
        · simp (disch := omega) only [c_X0_pence, e_X0_pence_0, e_X0_pence_8, e_X0_pence_22, e_X0_pence_36, cond_true, cond_false, Option.bind_some, rI_s, rL_s, rR_s, rV_s, cnd_d, cnd_ne, cnd_eq, bI_d0, bI_t0, ite_not, decide_eq_false_iff_not, decide_eq_true_eq, lg_cmp_ge, lg_cmp_le, lg_cmp_gt, lg_cmp_lt, lg_cmp_eq, okb_1, okb_0, okb_b, eq_self, if_true, if_false, Bool.true_eq_false, Bool.false_eq_true, isO_X, xh, X_in, in_0_9999, c2, rx_1, xg, c3, r3, l3]
          exact ex
        · simp (disch := omega) only [c_X4_pence, e_X4_pence_0, e_X4_pence_8, e_X4_pence_22, e_X4_pence_33, cond_true, cond_false, Option.bind_some, rI_s, rL_s, rR_s, rV_s, cnd_d, cnd_ne, cnd_eq, bI_d0, bI_t0, ite_not, decide_eq_false_iff_not, decide_eq_true_eq, lg_cmp_ge, lg_cmp_le, lg_cmp_gt, lg_cmp_lt, lg_cmp_eq, okb_1, okb_0, okb_b, eq_self, if_true, if_false, Bool.true_eq_false, Bool.false_eq_true, isO_M, mh, M_in, in_0_9999, c2, mg, c3, eL]
          exact em
