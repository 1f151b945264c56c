theorem X17_init (k : Nat) (d : AH) (x : XS) (m : MS) : callR (k + 2) n_X17_init [.ref (d.1 + 175), .ref 0] (P (dpush d 8 (.inl (13, dF13))) x m) = some (.inl none, P (IP (d.1 + 9, d.2.1 + 68, d.2.2) (d.1 + 175) .null (fun _ _ => 0, fun _ => 0) (fun _ => 0) (fun _ => 0) 0 0 0) x m) := by
  have g0 := dget_new d 8 (.inl (13, dF13))
  have hi : isO (P (dpush d 8 (.inl (13, dF13))) x m) (d.1 + 175) 13 = true := isO_of (dget_a x m g0)
  have w1 := wrF_d x m 7 (.ref 0) g0 (by decide)
  have g1 := dget_set (.inl (13, dF13.set 7 (.ref 0))) g0
  have g2 := dget_push 10 (.inl (2, dF2)) g1
  have n2 := dget_new (dset (dpush d 8 (.inl (13, dF13))) (d.1 + 175) (.inl (13, dF13.set 7 (.ref 0)))) 10 (.inl (2, dF2))
  have e2 := X2_init k (dpush (dset (dpush d 8 (.inl (13, dF13))) (d.1 + 175) (.inl (13, dF13.set 7 (.ref 0)))) 10 (.inl (2, dF2))) x m (d.1 + 1 + 175) n2
  have g3 : dget (nst (dpush (dset (dpush d 8 (.inl (13, dF13))) (d.1 + 175) (.inl (13, dF13.set 7 (.ref 0)))) 10 (.inl (2, dF2))) (d.1 + 1 + 175)) (d.1 + 175) = some (.inl (13, dF13.set 7 (.ref 0))) := by
    obtain ⟨a, b, c⟩ := dget_r g2
    refine dget_i (by omega) (by show d.1 + 175 < d.1 + 1 + 1 + 5 + 175; omega) ?_
    show (if d.1 + 175 = d.1 + 1 + 175 then _ else if d.1 + 1 + 1 + 175 ≤ d.1 + 175 ∧ d.1 + 175 < d.1 + 1 + 1 + 180 then _ else _) = _
    rw [if_neg (by omega), if_neg (by omega)]
    exact c
  have w3 := wrF_d x m 1 (.ref (d.1 + 1 + 175)) g3 (by simp [dF13])
  have g4 := dget_push 10 (.inr (0, 10, .inl fun _ => 0)) (dget_set (.inl (13, (dF13.set 7 (.ref 0)).set 1 (.ref (d.1 + 1 + 175)))) g3)
  have w4 := wrF_d x m 2 (.ref (d.1 + 1 + 1 + 5 + 175)) g4 (by simp [dF13])
  have g5 := dget_push 10 (.inr (0, 10, .inl fun _ => 0)) (dget_set (.inl (13, ((dF13.set 7 (.ref 0)).set 1 (.ref (d.1 + 1 + 175))).set 2 (.ref (d.1 + 1 + 1 + 5 + 175)))) g4)
  have w5 := wrF_d x m 3 (.ref (d.1 + 1 + 1 + 5 + 1 + 175)) g5 (by simp [dF13])
  simp only [c_X17_init, e_X17_init_0, hi, cond_true, w1, P_push, P_1, Option.bind_some, rV_s, show ∀ (d : AH) (a : Nat) (o : AO), (dset d a o).1 = d.1 from fun _ _ _ => rfl, show ∀ (d : AH) (n : Nat) (o : AO), (dpush d n o).1 = d.1 + 1 from fun _ _ _ => rfl, show ∀ (d : AH) (a : Nat), (nst d a).1 = d.1 + 5 from fun _ _ => rfl, e2, w3, w4, w5]
  congr 3
  refine Prod.ext rfl (Prod.ext (by show d.2.1 + 8 + 10 + 30 + 10 + 10 = d.2.1 + 68; omega) ?_)
  funext q
  show va_up (va_up (va_up (va_up (va_up (fun q => if q = d.1 + 1 + 175 then _ else if d.1 + 1 + 1 + 175 ≤ q ∧ q < d.1 + 1 + 1 + 180 then _ else va_up (va_up (va_up d.2.2 (d.1 + 175) _) (d.1 + 175) _) (d.1 + 1 + 175) _ q) (d.1 + 175) _) (d.1 + 1 + 1 + 5 + 175) _) (d.1 + 175) _) (d.1 + 1 + 1 + 5 + 1 + 175) _) (d.1 + 175) _ q = (if d.1 + 175 ≤ q ∧ q < d.1 + 175 + 9 then iC _ _ _ _ _ _ _ _ (q - (d.1 + 175)) else d.2.2 q)
  unfold va_up
  by_cases c : q = d.1 + 175
  · rw [if_pos c, if_pos (by omega), show q - (d.1 + 175) = 0 by omega]
    rfl
  · simp only [if_neg c]
    by_cases c8 : q = d.1 + 1 + 1 + 5 + 1 + 175
    · rw [if_pos c8, if_pos (by omega), show q - (d.1 + 175) = 8 by omega]
      rfl
    · rw [if_neg c8]
      by_cases c7 : q = d.1 + 1 + 1 + 5 + 175
      · rw [if_pos c7, if_pos (by omega), show q - (d.1 + 175) = 7 by omega]
        rfl
      · rw [if_neg c7]
        by_cases c1 : q = d.1 + 1 + 175
        · rw [if_pos c1, if_pos (by omega), show q - (d.1 + 175) = 1 by omega]
          rfl
        · rw [if_neg c1]
          by_cases c2 : d.1 + 1 + 1 + 175 ≤ q ∧ q < d.1 + 1 + 1 + 180
          · rw [if_pos c2, if_pos (by omega)]
            unfold iC sCell
            rw [if_neg (by omega), if_pos (by omega), if_neg (by omega)]
          · rw [if_neg c2, if_neg c1, if_neg (by omega)]
theorem M_imageL (E : AEn) (d : AH) (x : XS) (m0 : MS) (kk : Nat) (hk : kk < 4) : ∀ (r q : Nat) (m : MS), q + r = 132 → CpM 18 (132 * kk) q (fun c => m0.2.1 10 c) m0 m → ∃ m', evR T_X4_image E 43 ([(0, .ref 153), (1, .int (nI kk)), (2, .int (nI q))], [], P d x m) = some (.inl (some (.int (m0.2.1 10 10))), P d x m') ∧ CpM 18 (132 * kk) 132 (fun c => m0.2.1 10 c) m0 m'
  | 0, q, m, hq, h => by
    have e : q = 132 := by omega
    subst e
    refine ⟨m, ?_, h⟩
    have l1 : ldI (P d x m) 163 0 (10 : Int32) = some (m0.2.1 10 10) := by rw [← h.2.2.1 10 (by omega)]; exact lm_10 d x m 10 (by omega)
    rw [e_X4_image_43]
    simp (disch := omega) only [e_X4_image_74, cond_true, cond_false, Option.bind_some, rI_s, rL_s, rR_s, rV_s, cnd_d, cnd_ne, cnd_eq, bI_d0, bI_t0, ite_not, decide_eq_false_iff_not, decide_eq_true_eq, lg_cmp_ge, lg_cmp_le, lg_cmp_gt, lg_cmp_lt, lg_cmp_eq, okb_1, okb_0, okb_b, eq_self, if_true, if_false, Bool.true_eq_false, Bool.false_eq_true, li_132, le_rT, rm_21, l1]
  | r + 1, q, m, hq, h => by
    have hn : ¬ (132 : Int32) ≤ nI q := by rw [show (132 : Int32) = nI 132 from rfl, nI_leP (by omega) (by omega)]; omega
    have hs := CpM_s h
    obtain ⟨m', e', h'⟩ := M_imageL E d x m0 kk hk r (q + 1) _ (by omega) hs
    refine ⟨m', ?_, h'⟩
    have l1 : ldI (P d x m) 163 0 (nI q) = some (m0.2.1 10 q) := by rw [← h.2.2.1 10 (by omega)]; exact lm_10 d x m q (by omega)
    rw [← e', e_X4_image_43]
    simp (disch := omega) only [e_X4_image_50, cond_true, cond_false, Option.bind_some, rI_s, rL_s, rR_s, rV_s, cnd_d, cnd_ne, cnd_eq, bI_d0, bI_t0, ite_not, decide_eq_false_iff_not, decide_eq_true_eq, lg_cmp_ge, lg_cmp_le, lg_cmp_gt, lg_cmp_lt, lg_cmp_eq, okb_1, okb_0, okb_b, eq_self, if_true, if_false, Bool.true_eq_false, Bool.false_eq_true, hn, rm_39, rm_21, l1, show (132 : Int32) * nI kk = nI (132 * kk) from pk_mul 132 kk, nI_add, sm_18, nI_1]
theorem M_backL (E : AEn) (d : AH) (x : XS) (m0 : MS) (kk : Nat) (hk : kk < 4) : ∀ (r q : Nat) (m : MS), q + r = 132 → CpM 10 0 q (fun c => m0.2.1 18 (132 * kk + c)) m0 m → ∃ m', evR T_X4_back E 50 ([(0, .ref 153), (1, .int (nI kk)), (2, .int (nI q))], [], P d x m) = some (.inl (some (.int (m0.2.1 18 (132 * kk + 10)))), P d x m') ∧ CpM 10 0 132 (fun c => m0.2.1 18 (132 * kk + c)) m0 m'
  | 0, q, m, hq, h => by
    have e : q = 132 := by omega
    subst e
    refine ⟨m, ?_, h⟩
    have l1 : ldI (P d x m) 163 0 (10 : Int32) = some (m0.2.1 18 (132 * kk + 10)) := by
      rw [← show m.2.1 10 (0 + 10) = m0.2.1 18 (132 * kk + 10) from h.1 10 (by omega)]
      exact lm_10 d x m 10 (by omega)
    rw [e_X4_back_50]
    simp (disch := omega) only [e_X4_back_81, cond_true, cond_false, Option.bind_some, rI_s, rL_s, rR_s, rV_s, cnd_d, cnd_ne, cnd_eq, bI_d0, bI_t0, ite_not, decide_eq_false_iff_not, decide_eq_true_eq, lg_cmp_ge, lg_cmp_le, lg_cmp_gt, lg_cmp_lt, lg_cmp_eq, okb_1, okb_0, okb_b, eq_self, if_true, if_false, Bool.true_eq_false, Bool.false_eq_true, li_132, le_rT, rm_21, l1]
  | r + 1, q, m, hq, h => by
    have hn : ¬ (132 : Int32) ≤ nI q := by rw [show (132 : Int32) = nI 132 from rfl, nI_leP (by omega) (by omega)]; omega
    have hs := CpM_s h
    rw [Nat.zero_add] at hs
    obtain ⟨m', e', h'⟩ := M_backL E d x m0 kk hk r (q + 1) _ (by omega) hs
    refine ⟨m', ?_, h'⟩
    have l1 : ldI (P d x m) 171 0 (nI (132 * kk + q)) = some (m0.2.1 18 (132 * kk + q)) := by rw [← h.2.2.1 18 (by omega)]; exact lm_18 d x m _ (by omega)
    rw [← e', e_X4_back_50]
    simp (disch := omega) only [e_X4_back_57, cond_true, cond_false, Option.bind_some, rI_s, rL_s, rR_s, rV_s, cnd_d, cnd_ne, cnd_eq, bI_d0, bI_t0, ite_not, decide_eq_false_iff_not, decide_eq_true_eq, lg_cmp_ge, lg_cmp_le, lg_cmp_gt, lg_cmp_lt, lg_cmp_eq, okb_1, okb_0, okb_b, eq_self, if_true, if_false, Bool.true_eq_false, Bool.false_eq_true, hn, rm_39, rm_21, l1, show (132 : Int32) * nI kk = nI (132 * kk) from pk_mul 132 kk, nI_add, sm_10, nI_1]
/-! Rel over a longer heap -/
theorem VR_ext {Z Z' : Nat → Bool} {d d' : AH} {v : Nat} {sd : Nat → Int32} {C : AC} (hz : ∀ i, i < d.1 + 175 → Z' i = Z i) (h : Ext Z d d') (hV : VR Z d v sd C) : VR Z' d' v sd C := ⟨hV.1, fun d'' g => hV.2.1 d'' (Ext_trans hz h g), hV.2.2⟩
theorem RuX_fr2 {d : AH} {x x' : XS} {r : Nat} {F : (Nat → Int64) → Int64} (h : RuX d x r F) (e1 : x'.2.2.2.2.1 1 = x.2.2.2.2.1 1) (e2 : x'.1 102 = x.1 102) (e3 : x'.2.2.2.2.2 19 = x.2.2.2.2.2 19) : RuX d x' r F := fun k x'' m a b c => h k x'' m (a.trans e1) (b.trans e2) (c.trans e3)
theorem RR_ext {Z Z' : Nat → Bool} {d d' : AH} {x x' : XS} {m m' : MS} {nr : Nat} {F : Nat → (Nat → Int64) → Int64} (hz : ∀ i, i < d.1 + 175 → Z' i = Z i) (g : Ext Z d d') (h : RR Z d x m nr F) (e1 : x'.2.2.2.2.1 1 = x.2.2.2.2.1 1) (e2 : x'.1 102 = x.1 102) (e3 : x'.2.2.2.2.2 19 = x.2.2.2.2.2 19) (e4 : m'.1 2 = m.1 2) (e5 : ∀ j, j = 2 ∨ j = 4 ∨ j = 5 → m'.2.1 j = m.2.1 j) : RR Z' d' x' m' nr F := by
  obtain ⟨p1, p2, p3, p4, p5⟩ := h
  refine ⟨p1, by rw [e2]; exact p2, by rw [e4]; exact p3, fun r hr => ⟨fun d'' hd => RuX_fr2 ((p4 r hr).1 d'' (Ext_trans hz g hd)) e1 e2 e3, RuM_fr (p4 r hr).2 e5⟩, ?_⟩
  obtain ⟨cap, q1, q2, q3, q4⟩ := p5
  refine ⟨cap, q1, q2, q3, ?_⟩
  rw [e1]
  rcases q4 with q4 | ⟨a, b, c, f, e⟩
  · exact Or.inl q4
  · have := g.1
    exact Or.inr ⟨a, by omega, by rw [hz _ b]; exact c, f, by rw [g.2 _ b c]; exact e⟩
theorem NR_c {nw nwh : Nat → Int32} {nn : Int32} {sd sd' : Nat → Int32} {n : Nat} (h : NR nw nwh nn sd n) (e : ∀ i, i < 132 → sd' i = sd i) : NR nw nwh nn sd' n := by
  obtain ⟨h1, h2, h3, h4⟩ := h
  refine ⟨h1, h2, by rw [e 131 (by omega)]; exact h3, fun i hi => ?_⟩
  rw [e _ (by omega), e _ (by omega)]
  exact h4 i hi
theorem NR_w {nw nwh nw' nwh' : Nat → Int32} {nn : Int32} {sd : Nat → Int32} {n : Nat} (h : NR nw nwh nn sd n) (e : ∀ i, i < 10 → nw' i = nw i ∧ nwh' i = nwh i) : NR nw' nwh' nn sd n := by
  obtain ⟨h1, h2, h3, h4⟩ := h
  refine ⟨h1, h2, h3, fun i hi => ?_⟩
  rw [(e i (by omega)).1, (e i (by omega)).2]
  exact h4 i hi
theorem IM_ext {Z Z' : Nat → Bool} {d d' : AH} {i : Nat} {m m' : MS} {k nr : Nat} (hz : ∀ i, i < d.1 + 175 → Z' i = Z i) (g : Ext Z d d') (hc : ∀ r, r < 9 → d'.2.2 (i + r) = d.2.2 (i + r)) (h18 : ∀ c, c < 132 → m'.2.1 18 (132 * k + c) = m.2.1 18 (132 * k + c)) (h19 : m'.2.1 19 k = m.2.1 19 k) (h20 : m'.2.1 20 k = m.2.1 20 k) (h : IM Z d i m k nr) : IM Z' d' i m' k nr := by
  obtain ⟨h1, h2, h3, v, s, nw, nwh, nn, fo, dr, C, A, n, a1, a2, a3, a4, a5, a6, a7, a8, a9, b1, b2, b3, b4⟩ := h
  have hl := g.1
  have h6 := a5.1.1.2
  refine ⟨h1, by omega, fun r hr => by rw [hz _ (by omega)]; exact h3 r hr, v, s, nw, nwh, nn, fo, dr, C, A, n, by rw [← a1]; exact hc 0 (by omega), fun r hr => by rw [← a2 r hr, show i + 1 + r = i + (1 + r) by omega]; exact hc _ (by omega), by rw [← a3]; exact hc 7 (by omega), by rw [← a4]; exact hc 8 (by omega), VR_c (VR_ext hz g a5) fun i hi => h18 i (by omega), VAs_c h6 a6 fun i hi => h18 i (by omega), a7, a8, NR_c a9 fun i hi => h18 i hi, by rw [h19]; exact b1, b2, by rw [h20]; exact b3, b4⟩
