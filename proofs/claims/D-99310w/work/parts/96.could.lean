/-! whether by a rule all notes are so -/
theorem it_succ (C : AC) : ∀ n A, itA C (n + 1) A = hourA C (itA C n A)
  | 0, _ => rfl
  | n + 1, A => it_succ C n (hourA C A)
def pr : Nat → Option Nat
  | 0 => none
  | r + 1 => some r
theorem pr_s (r : Nat) : oI (pr r) + 1 = oI (pr (r + 1)) := by
  cases r with
  | zero => decide
  | succ r => exact nI_1 r
theorem pr_p (r : Nat) : nI r - 1 = oI (pr r) := by
  cases r with
  | zero => decide
  | succ r => show nI (r + 1) - 1 = nI r; rw [← nI_1]; grind
theorem pr_le {n : Nat} (hn : n ≤ 6) {r : Nat} (hr : r ≤ 8) : (nI n ≤ oI (pr r)) = (n + 1 ≤ r) := by
  cases r with
  | zero =>
    apply propext
    constructor
    · intro h
      exact absurd (Int32.lt_of_lt_of_le (by decide) (nI_pos' (n := n) (by omega)) : (-1 : Int32) < nI n) (Int32.not_lt.mpr h)
    · intro h; omega
  | succ r =>
    show (nI n ≤ nI r) = _
    rw [nI_leP (by omega) (by omega)]
    apply propext
    omega
def crs (C : AC) (sd : Nat → Int32) (n : Nat) : Nat := (itA C n (begA sd)).2.2 0
def ntB (c w : Nat → Nat) (q : Nat → Int32) : Nat → Nat → Bool
  | 0, _ => true
  | r + 1, i => if nI (c (w i)) = q i then ntB c w q r (i + 1) else false
theorem Sim4 {x x' : XS} {v : Int32} (h : SimX (xF x 4 v) x') : SimX x (xF x' 4 (x.1 4)) := ⟨fun k p q r s => by
  by_cases c : k = 4
  · rw [c, xF_s]
  · rw [xF_n _ _ _ _ c, h.1 k p q r s, xF_n _ _ _ _ c], h.2⟩
theorem Sim4b {x x' : XS} {v : Int32} (h : SimX x x') : SimX (xF x 4 v) (xF x' 4 v) := ⟨fun k p q r s => by
  by_cases c : k = 4
  · rw [c, xF_s, xF_s]
  · rw [xF_n _ _ _ _ c, xF_n _ _ _ _ c, h.1 k p q r s], h.2⟩
theorem X_crsL (k : Nat) (d : AH) (m : MS) (C : AC) (fo : Option Nat) (F : Nat → (Nat → Int64) → Int64) (sd : Nat → Int32) (was : Int32) (x0 : XS) (hC : XC d (CW C fo F none) x0) (hW : WA (CW C fo F none) (begA sd)) : ∀ (r i : Nat) (x : XS), i + r = 61 → SimX x0 x → XA (CW C fo F none) (itA (CW C fo F none) i (begA sd)) x 1 → (∀ j, j < i → x.2.1 150 j = nI (crs (CW C fo F none) sd j)) → x.2.1 151 = x0.2.1 151 → ∃ x', evR T_X0_couldRule (callR (k + 204)) 23 ([(0, .ref 0), (2, .int was), (3, .int (nI i))], [], P d x m) = evR T_X0_couldRule (callR (k + 204)) 57 ([(0, .ref 0), (2, .int was)], [], P d x' m) ∧ SimX x0 x' ∧ (∀ j, j < 61 → x'.2.1 150 j = nI (crs (CW C fo F none) sd j)) ∧ x'.2.1 151 = x0.2.1 151
  | 0, i, x, hi, hs, hX, hc, h151 => by
    have e : i = 61 := by omega
    subst e
    refine ⟨x, ?_, hs, hc, h151⟩
    rw [e_X0_couldRule_23]
    simp (disch := omega) only [cond_true, cond_false, Option.bind_some, rI_s, rL_s, rR_s, rV_s, cnd_d, cnd_ne, cnd_eq, bI_d0, bI_t0, ite_not, decide_eq_false_iff_not, decide_eq_true_eq, lg_cmp_ge, lg_cmp_le, lg_cmp_gt, lg_cmp_lt, lg_cmp_eq, okb_1, okb_0, okb_b, eq_self, if_true, if_false, Bool.true_eq_false, Bool.false_eq_true, show ((60 : Int32) < nI 61) = True from eq_true (by decide)]
  | r + 1, i, x, hi, hs, hX, hc, h151 => by
    have hW1 := WA_it i hW
    have r6 : rdI (P d x m) 12 2 6 = some (nI (crs (CW C fo F none) sd i)) := by rw [show nI (crs (CW C fo F none) sd i) = (x.2.2.2.1 1).2 6 from hX.1.2.2.2.1.symm]; exact rp_6 d x m 1 (by omega)
    have s1 : stI (P d x m) 150 0 (nI i) (nI (crs (CW C fo F none) sd i)) = some (P d (xA x 150 i (nI (crs (CW C fo F none) sd i))) m) := sx_150 d x m i _ (by omega)
    have hs1 := SimX_trans hs (xA_Sim x 150 i (nI (crs (CW C fo F none) sd i)) (by omega))
    obtain ⟨x2, e2, f2, -, v2⟩ := X_hour k d (xA x 150 i (nI (crs (CW C fo F none) sd i))) m 1 (by omega) (CW C fo F none) _ hW1 (SimX_XC hs1 hC) hX
    have e2' : callR (k + 204) n_X0_goesOn [.ref 0, .ref 12] (P d (xA x 150 i (nI (crs (CW C fo F none) sd i))) m) = _ := e2
    rw [← it_succ] at v2
    obtain ⟨x3, e3, hs3, hc3, h3⟩ := X_crsL k d m C fo F sd was x0 hC hW r (i + 1) x2 (by omega) (SimX_trans hs1 (FX_Sim f2)) v2 (fun j hj => by
      rw [f2.2.1]
      by_cases c : j = i
      · subst c; rw [xA_s]
      · rw [xA_n _ _ _ _ _ c]; exact hc j (by omega)) (by rw [f2.2.1, xA_o _ _ _ _ _ (by omega)]; exact h151)
    refine ⟨x3, ?_, hs3, hc3, h3⟩
    have hlt : ((60 : Int32) < nI i) = False := eq_false (by rw [show (60 : Int32) = nI 60 from rfl, nI_ltP (by omega) (by omega)]; omega)
    rw [← e3, e_X0_couldRule_23]
    simp (disch := omega) only [e_X0_couldRule_29, cond_true, cond_false, Option.bind_some, rI_s, rL_s, rR_s, rV_s, cnd_d, cnd_ne, cnd_eq, bI_d0, bI_t0, ite_not, decide_eq_false_iff_not, decide_eq_true_eq, lg_cmp_ge, lg_cmp_le, lg_cmp_gt, lg_cmp_lt, lg_cmp_eq, okb_1, okb_0, okb_b, eq_self, if_true, if_false, Bool.true_eq_false, Bool.false_eq_true, hlt, rx_2, rx_25, r6, s1, e2', nI_1]
theorem X_ntL (k : Nat) (d : AH) (x : XS) (m : MS) (c w : Nat → Nat) (q : Nat → Int32) (n : Nat) (hn : n ≤ 10) (h10 : x.1 10 = nI n) (hc : ∀ j, j < 61 → x.2.1 150 j = nI (c j)) (hw : ∀ i, i < n → w i ≤ 60 ∧ x.2.1 22 i = nI (w i)) (hq : ∀ i, i < n → x.2.1 23 i = q i) : ∀ r i : Nat, i + r = n → evR T_X0_couldRule (callR k) 64 ([(0, .ref 0), (3, .int (nI i))], [], P d x m) = some (.inl (some (.int (bI (ntB c w q r i)))), P d x m)
  | 0, i, hi => by
    have e : i = n := by omega
    subst e
    rw [e_X0_couldRule_64]
    simp (disch := omega) only [e_X0_couldRule_100, cond_true, cond_false, Option.bind_some, rI_s, rL_s, rR_s, rV_s, cnd_d, cnd_ne, cnd_eq, bI_d0, bI_t0, ite_not, decide_eq_false_iff_not, decide_eq_true_eq, lg_cmp_ge, lg_cmp_le, lg_cmp_gt, lg_cmp_lt, lg_cmp_eq, okb_1, okb_0, okb_b, eq_self, if_true, if_false, Bool.true_eq_false, Bool.false_eq_true, rx_10, h10, le_rT]
    rfl
  | r + 1, i, hi => by
    obtain ⟨w1, w2⟩ := hw i (by omega)
    have hr := X_ntL k d x m c w q n hn h10 hc hw hq r (i + 1) (by omega)
    have hu : ntB c w q (r + 1) i = if nI (c (w i)) = q i then ntB c w q r (i + 1) else false := rfl
    rw [hu, e_X0_couldRule_64]
    by_cases z : nI (c (w i)) = q i
    · rw [if_pos z, ← hr]
      simp (disch := omega) only [e_X0_couldRule_72, e_X0_couldRule_94, cond_true, cond_false, Option.bind_some, rI_s, rL_s, rR_s, rV_s, cnd_d, cnd_ne, cnd_eq, bI_d0, bI_t0, ite_not, decide_eq_false_iff_not, decide_eq_true_eq, lg_cmp_ge, lg_cmp_le, lg_cmp_gt, lg_cmp_lt, lg_cmp_eq, okb_1, okb_0, okb_b, eq_self, if_true, if_false, Bool.true_eq_false, Bool.false_eq_true, rx_10, h10, nI_leP, if_neg (show ¬ n ≤ i by omega), rx_25, rx_8, rx_9, lx_22, lx_23, w2, lx_150, hc, hq, z, nI_1]
    · rw [if_neg z]
      simp (disch := omega) only [e_X0_couldRule_72, e_X0_couldRule_92, cond_true, cond_false, Option.bind_some, rI_s, rL_s, rR_s, rV_s, cnd_d, cnd_ne, cnd_eq, bI_d0, bI_t0, ite_not, decide_eq_false_iff_not, decide_eq_true_eq, lg_cmp_ge, lg_cmp_le, lg_cmp_gt, lg_cmp_lt, lg_cmp_eq, okb_1, okb_0, okb_b, eq_self, if_true, if_false, Bool.true_eq_false, Bool.false_eq_true, rx_10, h10, nI_leP, if_neg (show ¬ n ≤ i by omega), rx_25, rx_8, rx_9, lx_22, lx_23, w2, lx_150, hc, hq, z]
      rfl
theorem X_couldRule (k : Nat) (d : AH) (m : MS) (C : AC) (h6 : C.1 ≤ 6) (fo : Option Nat) (F : Nat → (Nat → Int64) → Int64) (sd : Nat → Int32) (x0 x : XS) (hs : SimX x0 x) (hC : XC d (CW C fo F none) (xF x0 4 (oI fo))) (hT : Told d (x0.2.2.2.2.1 0) C sd) (h1 : 0 ≤ sd 1) (w : Nat → Nat) (q : Nat → Int32) (n : Nat) (hn : n ≤ 10) (h10 : x0.1 10 = nI n) (hw : ∀ i, i < n → w i ≤ 60 ∧ x0.2.1 22 i = nI (w i)) (hq : ∀ i, i < n → x0.2.1 23 i = q i) : ∃ x', callR (k + 205) n_X0_couldRule [.ref 0, .int (oI fo)] (P d x m) = some (.inl (some (.int (bI (ntB (crs (CW C fo F none) sd) w q n 0)))), P d x' m) ∧ SimX x0 x' ∧ (∀ j, j < 61 → x'.2.1 150 j = nI (crs (CW C fo F none) sd j)) ∧ x'.2.1 151 = x.2.1 151 := by
  have hs4 : SimX (xF x0 4 (oI fo)) (xF x 4 (oI fo)) := Sim4b hs
  have hC4 := SimX_XC hs4 hC
  obtain ⟨s', e1, v1⟩ := X_begin (k + 3) d (xF x 4 (oI fo)) m 1 (by omega) C sd (x0.2.2.2.2.1 0) h6 hT
  have e1' : callR (k + 204) n_X2_begin [.ref 12, .ref (x0.2.2.2.2.1 0)] (P d (xF x 4 (oI fo)) m) = _ := e1
  have hW : WA (CW C fo F none) (begA sd) := WA_beg x m hT h1
  obtain ⟨x2, e2, s2, c2, g2⟩ := X_crsL k d m C fo F sd (x.1 4) (xS (xF x 4 (oI fo)) 1 s') (XC_fr hC4 (xS_FX _ _ _)) hW 61 0 (xS (xF x 4 (oI fo)) 1 s') (by omega) (SimX_refl _) (Rel_XA (by rw [xS_s]; exact v1)) (fun j hj => absurd hj (by omega)) rfl
  have s3 : SimX (xF x 4 (oI fo)) x2 := SimX_trans (FX_Sim (xS_FX _ 1 s')) s2
  have s4 : SimX x (xF x2 4 (x.1 4)) := Sim4 s3
  have s5 := SimX_trans hs s4
  have e3 := X_ntL (k + 204) d (xF x2 4 (x.1 4)) m (crs (CW C fo F none) sd) w q n hn (by rw [s5.1 10 (by omega) (by omega) (by omega) (by omega)]; exact h10) c2 (fun i hi => by rw [s5.2.1 22 (by omega)]; exact hw i hi) (fun i hi => by rw [s5.2.1 23 (by omega)]; exact hq i hi) n 0 (by omega)
  refine ⟨xF x2 4 (x.1 4), ?_, s5, c2, g2⟩
  have hv : (xF x 4 (oI fo)).2.2.2.2.1 0 = x0.2.2.2.2.1 0 := by show x.2.2.2.2.1 0 = _; rw [hs.2.2.2]
  rw [nI_0] at e2 e3
  simp (disch := omega) only [c_X0_couldRule, e_X0_couldRule_0, cond_true, cond_false, Option.bind_some, rI_s, rL_s, rR_s, rV_s, cnd_d, cnd_ne, cnd_eq, bI_d0, bI_t0, ite_not, decide_eq_false_iff_not, decide_eq_true_eq, lg_cmp_ge, lg_cmp_le, lg_cmp_gt, lg_cmp_lt, lg_cmp_eq, okb_1, okb_0, okb_b, eq_self, if_true, if_false, Bool.true_eq_false, Bool.false_eq_true, isO_X, rx_4, wx_4, rx_2, rx_0, hv, e1', e2]
  rw [e_X0_couldRule_57]
  simp (disch := omega) only [cond_true, cond_false, Option.bind_some, rI_s, rL_s, rR_s, rV_s, cnd_d, cnd_ne, cnd_eq, bI_d0, bI_t0, ite_not, decide_eq_false_iff_not, decide_eq_true_eq, lg_cmp_ge, lg_cmp_le, lg_cmp_gt, lg_cmp_lt, lg_cmp_eq, okb_1, okb_0, okb_b, eq_self, if_true, if_false, Bool.true_eq_false, Bool.false_eq_true, wx_4, e3]
