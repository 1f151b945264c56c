/-! ruled -/
def ruR (w : Int32) (c : Nat) (o : Option Nat) : Int32 := if w = 0 then nI c else match o with
  | none => -2
  | some r => oI (pr r)
def foV (o : Option Nat) : Int32 := match o with
  | none => -2
  | some r => oI (pr r)
/-- what a question by rules needs -/
theorem could_pre {Z : Nat → Bool} {d : AH} {x : XS} {m : MS} {C : AC} {A : AA} {n u a t nr : Nat} {F : Nat → (Nat → Int64) → Int64} {fo : Option Nat} (hP : RelP Z d x m C n u a t nr F fo) : Told d (x.2.2.2.2.1 0) C (m.2.1 10) ∧ 0 ≤ m.2.1 10 1 ∧ nr ≤ 6 ∧ (∀ r, r ≤ nr → XC d (CW C (pr r) F none) (xF x 4 (oI (pr r))) ∧ VC (CW C (pr r) F none) (mF m 22 (oI (pr r)))) ∧ ∃ w : Nat → Nat, (∀ i, i < n → w i ≤ 60 ∧ m.2.1 10 (111 + 2 * i) = nI (w i)) := by
  obtain ⟨hZ, hV, hN, hPR, hT, hRR, hF, hD, hBr, hI⟩ := hP
  have hT0 := hV.2.1 d (Ext_refl Z d)
  refine ⟨hT0, hV.2.2.2.1, hRR.1, fun r hr => ?_, ?_⟩
  · have hR' : RR Z d (xF x 4 (oI (pr r))) (mF m 22 (oI (pr r))) nr F := RR_fr hRR (xF_n _ _ _ _ (by omega)) rfl (mF_n _ _ _ _ (by omega)) fun _ _ => rfl
    have hF' : (xF x 4 (oI (pr r))).1 4 = oI (pr r) ∧ (mF m 22 (oI (pr r))).1 22 = oI (pr r) ∧ ∀ q, pr r = some q → q < nr := ⟨xF_s _ _ _, mF_s _ _ _, fun q e => by
      cases r with
      | zero => cases e
      | succ r => cases e; omega⟩
    exact ⟨Rel_XC (sd := m.2.1 10) hV hR' hF' (by rw [xF_n _ _ _ _ (by omega)]; exact hBr.1), Rel_VC (m := mF m 22 (oI (pr r))) hV.1 hR' hF' (by rw [mF_n _ _ _ _ (by omega)]; exact hBr.2.1)⟩
  · have h : ∀ i, ∃ w, i < n → w ≤ 60 ∧ m.2.1 10 (111 + 2 * i) = nI w := fun i => by
      by_cases c : i < n
      · obtain ⟨-, -, w, hw, e⟩ := hN.2.2.2 i c
        exact ⟨w, fun _ => ⟨hw, e⟩⟩
      · exact ⟨0, fun h => absurd h c⟩
    exact ⟨fun i => (h i).choose, fun i hi => (h i).choose_spec hi⟩
theorem X_ruledL (k : Nat) (d : AH) (m : MS) (C : AC) (h6 : C.1 ≤ 6) (F : Nat → (Nat → Int64) → Int64) (sd : Nat → Int32) (nr : Nat) (hnr : nr ≤ 6) (x0 : XS) (h102 : x0.1 102 = nI nr) (hC : ∀ r, r ≤ nr → XC d (CW C (pr r) F none) (xF x0 4 (oI (pr r)))) (hT : Told d (x0.2.2.2.2.1 0) C sd) (h1 : 0 ≤ sd 1) (wf : Nat → Nat) (q : Nat → Int32) (n : Nat) (hn : n ≤ 10) (h10 : x0.1 10 = nI n) (hw : ∀ i, i < n → wf i ≤ 60 ∧ x0.2.1 22 i = nI (wf i)) (hq : ∀ i, i < n → x0.2.1 23 i = q i) (w : Int32) (ft : Nat → Bool) (hft : ∀ r, ft r = ntB (crs (CW C (pr r) F none) sd) wf q n 0) : ∀ (r i c : Nat) (o : Option Nat) (x : XS), i + r = nr + 1 → c ≤ i → (c = 0 ↔ o = none) → SimX x0 x → ∃ x', evR T_X0_ruled (callR (k + 205)) 28 ([(0, .ref 0), (1, .int w), (2, .int (nI c)), (3, .int (foV o)), (4, .int (oI (pr i)))], [], P d x m) = some (.inl (some (.int (ruR w (c + dn ft i r) (oE o (fd ft i r))))), P d x' m) ∧ SimX x0 x'
  | 0, i, c, o, x, hi, hci, hco, hs => by
    have e : i = nr + 1 := by omega
    subst e
    have hd : dn ft (nr + 1) 0 = 0 := rfl
    have hfd : fd ft (nr + 1) 0 = none := rfl
    have hoo : oE o none = o := by cases o <;> rfl
    have hsz : callR (k + 205) n_J2_size [.ref 18] (P d x m) = some (.inl (some (.int (nI nr))), P d x m) := by rw [X_size (k + 204) d x m, hs.1 102 (by omega) (by omega) (by omega) (by omega), h102]
    refine ⟨x, ?_, hs⟩
    rw [hd, hfd, hoo, Nat.add_zero c, e_X0_ruled_28]
    by_cases cw : w = 0
    · have hr : ruR w c o = nI c := if_pos cw
      rw [hr]
      simp (disch := omega) only [e_X0_ruled_72, e_X0_ruled_76, e_X0_ruled_81, cond_true, cond_false, Option.bind_some, rI_s, rL_s, rR_s, rV_s, cnd_d, cnd_ne, cnd_eq, bI_d0, bI_t0, ite_not, decide_eq_false_iff_not, decide_eq_true_eq, lg_cmp_ge, lg_cmp_le, lg_cmp_gt, lg_cmp_lt, lg_cmp_eq, okb_1, okb_0, okb_b, eq_self, if_true, if_false, Bool.true_eq_false, Bool.false_eq_true, rx_3, hsz, pr_le, show nr + 1 ≤ nr + 1 from Nat.le_refl _, cw]
    · have hr : ruR w c o = foV o := by
        unfold ruR foV
        rw [if_neg cw]
      rw [hr]
      simp (disch := omega) only [e_X0_ruled_72, e_X0_ruled_80, e_X0_ruled_81, cond_true, cond_false, Option.bind_some, rI_s, rL_s, rR_s, rV_s, cnd_d, cnd_ne, cnd_eq, bI_d0, bI_t0, ite_not, decide_eq_false_iff_not, decide_eq_true_eq, lg_cmp_ge, lg_cmp_le, lg_cmp_gt, lg_cmp_lt, lg_cmp_eq, okb_1, okb_0, okb_b, eq_self, if_true, if_false, Bool.true_eq_false, Bool.false_eq_true, rx_3, hsz, pr_le, show nr + 1 ≤ nr + 1 from Nat.le_refl _, cw]
  | r + 1, i, c, o, x, hi, hci, hco, hs => by
    have hsz : callR (k + 205) n_J2_size [.ref 18] (P d x m) = some (.inl (some (.int (nI nr))), P d x m) := by rw [X_size (k + 204) d x m, hs.1 102 (by omega) (by omega) (by omega) (by omega), h102]
    obtain ⟨x1, e1, s1, -, -⟩ := X_couldRule k d m C h6 (pr i) F sd x0 x hs (hC i (by omega)) hT h1 wf q n hn h10 hw hq
    rw [← hft] at e1
    have hd : dn ft i (r + 1) = dn ft (i + 1) r + (if ft i = true then 1 else 0) := rfl
    have hfd : fd ft i (r + 1) = if ft i = true then some i else fd ft (i + 1) r := rfl
    have hnl : ¬ nI nr ≤ oI (pr i) := by rw [pr_le hnr (by omega)]; omega
    rw [hd, hfd]
    cases cb : ft i with
    | false =>
      rw [cb] at e1
      obtain ⟨x2, e2, s2⟩ := X_ruledL k d m C h6 F sd nr hnr x0 h102 hC hT h1 wf q n hn h10 hw hq w ft hft r (i + 1) c o x1 (by omega) (by omega) hco s1
      refine ⟨x2, ?_, s2⟩
      rw [if_neg (by decide), if_neg (by decide), Nat.add_zero (dn ft (i + 1) r), ← e2, e_X0_ruled_28]
      simp (disch := omega) only [e_X0_ruled_40, e_X0_ruled_49, e_X0_ruled_66, cond_true, cond_false, Option.bind_some, rI_s, rL_s, rR_s, rV_s, cnd_d, cnd_ne, cnd_eq, bI_d0, bI_t0, ite_not, decide_eq_false_iff_not, decide_eq_true_eq, lg_cmp_ge, lg_cmp_le, lg_cmp_gt, lg_cmp_lt, lg_cmp_eq, okb_1, okb_0, okb_b, eq_self, if_true, if_false, Bool.true_eq_false, Bool.false_eq_true, rx_3, hsz, hnl, e1, pr_s]
    | true =>
      rw [cb] at e1
      rw [if_pos rfl, if_pos rfl]
      cases o with
      | none =>
        have hc0 : c = 0 := hco.mpr rfl
        subst hc0
        obtain ⟨x2, e2, s2⟩ := X_ruledL k d m C h6 F sd nr hnr x0 h102 hC hT h1 wf q n hn h10 hw hq w ft hft r (i + 1) 1 (some i) x1 (by omega) (by omega) (by simp) s1
        refine ⟨x2, ?_, s2⟩
        rw [show 0 + (dn ft (i + 1) r + 1) = 1 + dn ft (i + 1) r by omega, show oE none (some i) = oE (some i) (fd ft (i + 1) r) from rfl, ← e2, e_X0_ruled_28]
        simp (disch := omega) only [e_X0_ruled_40, e_X0_ruled_52, e_X0_ruled_56, e_X0_ruled_62, e_X0_ruled_66, cond_true, cond_false, Option.bind_some, rI_s, rL_s, rR_s, rV_s, cnd_d, cnd_ne, cnd_eq, bI_d0, bI_t0, ite_not, decide_eq_false_iff_not, decide_eq_true_eq, lg_cmp_ge, lg_cmp_le, lg_cmp_gt, lg_cmp_lt, lg_cmp_eq, okb_1, okb_0, okb_b, eq_self, if_true, if_false, Bool.true_eq_false, Bool.false_eq_true, rx_3, hsz, hnl, e1, pr_s, nI_0, show nI 1 = (0 : Int32) + 1 from rfl, show foV (some i) = oI (pr i) from rfl]
      | some j =>
        have hc0 : ¬ c = 0 := fun h => nomatch hco.mp h
        have hcn : ¬ nI c = 0 := by rw [← nI_0, nI_eqP (by omega) (by omega)]; exact hc0
        obtain ⟨x2, e2, s2⟩ := X_ruledL k d m C h6 F sd nr hnr x0 h102 hC hT h1 wf q n hn h10 hw hq w ft hft r (i + 1) (c + 1) (some j) x1 (by omega) (by omega) (by simp) s1
        refine ⟨x2, ?_, s2⟩
        rw [show c + (dn ft (i + 1) r + 1) = c + 1 + dn ft (i + 1) r by omega, show oE (some j) (some i) = oE (some j) (fd ft (i + 1) r) from rfl, ← e2, e_X0_ruled_28]
        simp (disch := omega) only [e_X0_ruled_40, e_X0_ruled_52, e_X0_ruled_61, e_X0_ruled_62, e_X0_ruled_66, cond_true, cond_false, Option.bind_some, rI_s, rL_s, rR_s, rV_s, cnd_d, cnd_ne, cnd_eq, bI_d0, bI_t0, ite_not, decide_eq_false_iff_not, decide_eq_true_eq, lg_cmp_ge, lg_cmp_le, lg_cmp_gt, lg_cmp_lt, lg_cmp_eq, okb_1, okb_0, okb_b, eq_self, if_true, if_false, Bool.true_eq_false, Bool.false_eq_true, rx_3, hsz, hnl, e1, pr_s, hcn, nI_1]
theorem M_ruledL (k : Nat) (d : AH) (x : XS) (m : MS) (nr : Nat) (hnr : nr ≤ 6) (ft : Nat → Bool) (hb : ∀ j, j < nr + 1 → m.2.1 16 j = bI (ft j)) (w : Int32) : ∀ (i r : Nat), i + r = nr + 1 → evR T_X4_ruled (callR k) 35 ([(0, .ref 153), (1, .int w), (2, .int (nI (dn ft i r))), (3, .int (foV (fd ft i r))), (4, .int (oI (pr i)))], [], P d x m) = some (.inl (some (.int (ruR w (dn ft 0 (nr + 1)) (fd ft 0 (nr + 1))))), P d x m)
  | 0, r, hi => by
    have e : r = nr + 1 := by omega
    subst e
    generalize dn ft 0 (nr + 1) = c
    generalize fd ft 0 (nr + 1) = o
    rw [e_X4_ruled_35]
    by_cases cw : w = 0
    · have hr : ruR w c o = nI c := if_pos cw
      rw [hr]
      simp (disch := omega) only [e_X4_ruled_67, e_X4_ruled_71, e_X4_ruled_76, cond_true, cond_false, Option.bind_some, rI_s, rL_s, rR_s, rV_s, cnd_d, cnd_ne, cnd_eq, bI_d0, bI_t0, ite_not, decide_eq_false_iff_not, decide_eq_true_eq, lg_cmp_ge, lg_cmp_le, lg_cmp_gt, lg_cmp_lt, lg_cmp_eq, okb_1, okb_0, okb_b, eq_self, if_true, if_false, Bool.true_eq_false, Bool.false_eq_true, show oI (pr 0) < 0 by decide, cw]
    · have hr : ruR w c o = foV o := by
        unfold ruR foV
        rw [if_neg cw]
      rw [hr]
      simp (disch := omega) only [e_X4_ruled_67, e_X4_ruled_75, e_X4_ruled_76, cond_true, cond_false, Option.bind_some, rI_s, rL_s, rR_s, rV_s, cnd_d, cnd_ne, cnd_eq, bI_d0, bI_t0, ite_not, decide_eq_false_iff_not, decide_eq_true_eq, lg_cmp_ge, lg_cmp_le, lg_cmp_gt, lg_cmp_lt, lg_cmp_eq, okb_1, okb_0, okb_b, eq_self, if_true, if_false, Bool.true_eq_false, Bool.false_eq_true, show oI (pr 0) < 0 by decide, cw]
  | i + 1, r, hi => by
    have hr := M_ruledL k d x m nr hnr ft hb w i (r + 1) (by omega)
    have hd : dn ft i (r + 1) = dn ft (i + 1) r + (if ft i = true then 1 else 0) := rfl
    have hfd : fd ft i (r + 1) = if ft i = true then some i else fd ft (i + 1) r := rfl
    have hp : oI (pr (i + 1)) = nI i := rfl
    have hm : nI i + (-1) = oI (pr i) := by rw [← pr_p]; grind
    have l1 : ldI (P d x m) 169 3 (nI i) = some (bI (ft i)) := by rw [← hb i (by omega)]; exact lm_16 d x m i (by omega)
    rw [hd, hfd] at hr
    rw [← hr, hp, e_X4_ruled_35]
    cases cb : ft i with
    | false =>
      rw [cb] at l1
      rw [if_neg (by decide), if_neg (by decide), Nat.add_zero (dn ft (i + 1) r)]
      simp (disch := omega) only [e_X4_ruled_40, e_X4_ruled_50, e_X4_ruled_61, cond_true, cond_false, Option.bind_some, rI_s, rL_s, rR_s, rV_s, cnd_d, cnd_ne, cnd_eq, bI_d0, bI_t0, ite_not, decide_eq_false_iff_not, decide_eq_true_eq, lg_cmp_ge, lg_cmp_le, lg_cmp_gt, lg_cmp_lt, lg_cmp_eq, okb_1, okb_0, okb_b, eq_self, if_true, if_false, Bool.true_eq_false, Bool.false_eq_true, nI_nlt0, rm_36, l1, hm]
    | true =>
      rw [cb] at l1
      rw [if_pos rfl, if_pos rfl]
      simp (disch := omega) only [e_X4_ruled_40, e_X4_ruled_53, e_X4_ruled_61, cond_true, cond_false, Option.bind_some, rI_s, rL_s, rR_s, rV_s, cnd_d, cnd_ne, cnd_eq, bI_d0, bI_t0, ite_not, decide_eq_false_iff_not, decide_eq_true_eq, lg_cmp_ge, lg_cmp_le, lg_cmp_gt, lg_cmp_lt, lg_cmp_eq, okb_1, okb_0, okb_b, eq_self, if_true, if_false, Bool.true_eq_false, Bool.false_eq_true, nI_nlt0, rm_36, l1, hm, nI_1, pr_p, show foV (some i) = oI (pr i) from rfl]
theorem op_ruled (w : Int32) : AskOK n_X0_ruled n_X4_ruled [.int w] := by
  intro Z d x m hR k
  obtain ⟨C, A, n, u, a, t, nr, F, fo, hP, hS⟩ := Rel_to hR
  obtain ⟨hZ, hV, hN, hPR, hT, hRR, hF, hD, hBr, hI⟩ := id hP
  have hvp := (hV.2.1 d (Ext_refl Z d)).1
  have h6 := hV.1.1.2
  have hfl := flag_eq hV
  have xv := X_isValley (k + 998) d x m C (hvp.1 x m)
  have mv : ∀ x, _ := fun x => M_isValley (k + 998) d x m
  rw [hfl] at mv
  by_cases c1 : 0 < C.2.2.2.1
  · cases c2 : inI 0 1 w with
    | true =>
      obtain ⟨hTo, h1, hnr, hCC, wf, hwf⟩ := could_pre (A := A) hP
      have hWb : ∀ r, WA (CW C (pr r) F none) (begA (m.2.1 10)) := fun r => WA_beg x m hTo h1
      obtain ⟨ft, hft⟩ : ∃ ft : Nat → Bool, ∀ r, ft r = ntB (crs (CW C (pr r) F none) (m.2.1 10)) wf (fun i => m.2.1 10 (112 + 2 * i)) n 0 := ⟨_, fun r => rfl⟩
      obtain ⟨x1, e1, s1⟩ := X_ruledL (k + 794) d m C h6 F (m.2.1 10) nr hnr x hRR.2.1 (fun r hr => (hCC r hr).1) hTo h1 wf (fun i => m.2.1 10 (112 + 2 * i)) n hN.1 hN.2.1 (fun i hi => ⟨(hwf i hi).1, by rw [(hN.2.2.2 i hi).1]; exact (hwf i hi).2⟩) (fun i hi => (hN.2.2.2 i hi).2.1) w ft hft (nr + 1) 0 0 none x (by omega) (by omega) (by simp) (SimX_refl x)
      obtain ⟨m1, g1, k1, he1, -, b1⟩ := M_fillsFits (k + 991) d x1 C h6 F nr hnr m hRR.2.2.1 (fun r hr => (hCC r hr).2) hBr.2.2 hWb wf (fun i => m.2.1 10 (112 + 2 * i)) n hN.1 hN.2.2.1 hwf (fun i hi => rfl)
      have g2 := M_ruledL (k + 999) d x1 m1 nr hnr ft (fun i hi => by rw [hft]; exact b1 i hi) w (nr + 1) 0 (by omega)
      have e1' : evR T_X0_ruled (callR (k + 999)) 28 ([(0, .ref 0), (1, .int w), (2, .int 0), (3, .int (-2)), (4, .int (-1))], [], P d x m) = some (.inl (some (.int (ruR w (dn ft 0 (nr + 1)) (fd ft 0 (nr + 1))))), P d x1 m) := by
        rw [Nat.zero_add] at e1
        exact e1
      have g2' : evR T_X4_ruled (callR (k + 999)) 35 ([(0, .ref 153), (1, .int w), (2, .int 0), (3, .int (-2)), (4, .int (nI nr))], [], P d x1 m1) = _ := g2
      have h2m : m1.1 2 = nI nr := by rw [k1.2.2.2 2 (by omega) (by omega) (by omega) (by omega) (by omega)]; exact hRR.2.2.1
      refine ⟨ruR w (dn ft 0 (nr + 1)) (fd ft 0 (nr + 1)), x1, ?_, s1, m1, ?_, KM_sim k1 he1⟩
      · simp (disch := omega) only [c_X0_ruled, e_X0_ruled_0, e_X0_ruled_7, e_X0_ruled_20, cond_true, cond_false, Option.bind_some, rI_s, rL_s, rR_s, rV_s, cnd_d, cnd_ne, cnd_eq, bI_d0, bI_t0, ite_not, decide_eq_false_iff_not, decide_eq_true_eq, lg_cmp_ge, lg_cmp_le, lg_cmp_gt, lg_cmp_lt, lg_cmp_eq, okb_1, okb_0, okb_b, eq_self, if_true, if_false, Bool.true_eq_false, Bool.false_eq_true, isO_X, xv, c1, X_in, in_0_1, c2, e1']
      · simp (disch := omega) only [c_X4_ruled, e_X4_ruled_0, e_X4_ruled_7, e_X4_ruled_20, cond_true, cond_false, Option.bind_some, rI_s, rL_s, rR_s, rV_s, cnd_d, cnd_ne, cnd_eq, bI_d0, bI_t0, ite_not, decide_eq_false_iff_not, decide_eq_true_eq, lg_cmp_ge, lg_cmp_le, lg_cmp_gt, lg_cmp_lt, lg_cmp_eq, okb_1, okb_0, okb_b, eq_self, if_true, if_false, Bool.true_eq_false, Bool.false_eq_true, isO_M, mv, c1, M_in, in_0_1, c2, g1, rm_2, h2m, g2']
    | false =>
      refine ask_n (-3) ?_ ?_
      · simp (disch := omega) only [c_X0_ruled, e_X0_ruled_0, e_X0_ruled_7, e_X0_ruled_17, cond_true, cond_false, Option.bind_some, rI_s, rL_s, rR_s, rV_s, cnd_d, cnd_ne, cnd_eq, bI_d0, bI_t0, ite_not, decide_eq_false_iff_not, decide_eq_true_eq, lg_cmp_ge, lg_cmp_le, lg_cmp_gt, lg_cmp_lt, lg_cmp_eq, okb_1, okb_0, okb_b, eq_self, if_true, if_false, Bool.true_eq_false, Bool.false_eq_true, isO_X, xv, c1, X_in, in_0_1, c2]
      · simp (disch := omega) only [c_X4_ruled, e_X4_ruled_0, e_X4_ruled_7, e_X4_ruled_17, cond_true, cond_false, Option.bind_some, rI_s, rL_s, rR_s, rV_s, cnd_d, cnd_ne, cnd_eq, bI_d0, bI_t0, ite_not, decide_eq_false_iff_not, decide_eq_true_eq, lg_cmp_ge, lg_cmp_le, lg_cmp_gt, lg_cmp_lt, lg_cmp_eq, okb_1, okb_0, okb_b, eq_self, if_true, if_false, Bool.true_eq_false, Bool.false_eq_true, isO_M, mv, c1, M_in, in_0_1, c2]
  · refine ask_n (-3) ?_ ?_
    · simp (disch := omega) only [c_X0_ruled, e_X0_ruled_0, e_X0_ruled_17, cond_true, cond_false, Option.bind_some, rI_s, rL_s, rR_s, rV_s, cnd_d, cnd_ne, cnd_eq, bI_d0, bI_t0, ite_not, decide_eq_false_iff_not, decide_eq_true_eq, lg_cmp_ge, lg_cmp_le, lg_cmp_gt, lg_cmp_lt, lg_cmp_eq, okb_1, okb_0, okb_b, eq_self, if_true, if_false, Bool.true_eq_false, Bool.false_eq_true, isO_X, xv, c1]
    · simp (disch := omega) only [c_X4_ruled, e_X4_ruled_0, e_X4_ruled_17, cond_true, cond_false, Option.bind_some, rI_s, rL_s, rR_s, rV_s, cnd_d, cnd_ne, cnd_eq, bI_d0, bI_t0, ite_not, decide_eq_false_iff_not, decide_eq_true_eq, lg_cmp_ge, lg_cmp_le, lg_cmp_gt, lg_cmp_lt, lg_cmp_eq, okb_1, okb_0, okb_b, eq_self, if_true, if_false, Bool.true_eq_false, Bool.false_eq_true, isO_M, mv, c1]
