def BM (many : Nat) (B : OB) (m : MS) : Prop := m.1 34 = B.1 ∧ (0 ≤ B.1 → ∀ i, i < many → m.2.1 14 i = nI (B.2 i))
theorem M_bestL (k : Nat) (d : AH) (x : XS) (many : Nat) (hm : many ≤ 6) (r : Nat → Nat) : ∀ (q i : Nat) (m : MS), i + q = many → (∀ j, j < many → m.2.1 11 j = nI (r j)) → (∀ j, j < i → m.2.1 14 j = nI (r j)) → ∃ m', evR T_X4_weighsRow (callR k) 38 ([(0, .ref 153), (2, .int (nI many)), (4, .int (nI i))], [], P d x m) = some (.inl none, P d x m') ∧ (∀ j, j < many → m'.2.1 14 j = nI (r j)) ∧ m'.1 = m.1 ∧ (∀ j, j ≠ 14 → m'.2.1 j = m.2.1 j) ∧ m'.2.2 = m.2.2
  | 0, i, m, hi, h11, h14 => by
    have e : i = many := by omega
    subst e
    refine ⟨m, ?_, h14, rfl, fun _ _ => rfl, rfl⟩
    rw [e_X4_weighsRow_38]
    simp (disch := omega) only [e_X4_weighsRow_64, cond_true, cond_false, Option.bind_some, rI_s, rL_s, rR_s, rV_s, cnd_d, cnd_ne, cnd_eq, bI_d0, bI_t0, ite_not, decide_eq_false_iff_not, decide_eq_true_eq, lg_cmp_ge, lg_cmp_le, lg_cmp_gt, lg_cmp_lt, lg_cmp_eq, okb_1, okb_0, okb_b, eq_self, if_true, if_false, Bool.true_eq_false, Bool.false_eq_true, le_rT]
  | q + 1, i, m, hi, h11, h14 => by
    have hu : ∀ z v j, (mA m 14 z v).2.1 14 j = if j = z then v else m.2.1 14 j := fun z v j => by simp [mA, va_up]
    obtain ⟨m', e', a', b', c', d'⟩ := M_bestL k d x many hm r q (i + 1) (mA m 14 i (nI (r i))) (by omega) (fun j hj => by rw [show (mA m 14 i (nI (r i))).2.1 11 = m.2.1 11 from mA_o _ _ _ _ _ (by omega)]; exact h11 j hj) (fun j hj => by
      rw [hu]
      by_cases z : j = i
      · rw [if_pos z, z]
      · rw [if_neg z]; exact h14 j (by omega))
    refine ⟨m', ?_, a', b', fun j hj => by rw [c' j hj]; exact mA_o _ _ _ _ _ hj, d'⟩
    rw [← e', e_X4_weighsRow_38]
    simp (disch := omega) only [e_X4_weighsRow_44, cond_true, cond_false, Option.bind_some, rI_s, rL_s, rR_s, rV_s, cnd_d, cnd_ne, cnd_eq, bI_d0, bI_t0, ite_not, decide_eq_false_iff_not, decide_eq_true_eq, lg_cmp_ge, lg_cmp_le, lg_cmp_gt, lg_cmp_lt, lg_cmp_eq, okb_1, okb_0, okb_b, eq_self, if_true, if_false, Bool.true_eq_false, Bool.false_eq_true, nI_leP, if_neg (show ¬ many ≤ i by omega), rm_24, rm_33, lm_11, h11, sm_14, nI_1]
theorem M_weighsRow (k : Nat) (d : AH) (x : XS) (C : AC) (h6 : C.1 ≤ 6) (fo : Option Nat) (F : Nat → (Nat → Int64) → Int64) (A : AA) (hW : WA (CW C fo F none) A) (m0 : MS) (hC : VC (CW C fo F none) m0) (hA : VA (CW C fo F none) A m0) (h25 : m0.1 25 = -1) (n many : Nat) (hn : n ≤ 60) (hm : many ≤ 6) (r : Nat → Nat) (hr : RwOK C.1 many r) (B : OB) (m : MS) (hk : KM m0 m) (he : m.2.1 10 = m0.2.1 10) (h11 : ∀ j, j < many → m.2.1 11 j = nI (r j)) (hB : BM many B m) : ∃ m', callR (k + 10) n_X4_weighsRow [.ref 153, .int (nI n), .int (nI many)] (P d x m) = some (.inl none, P d x m') ∧ KM m0 m' ∧ m'.2.1 10 = m0.2.1 10 ∧ m'.2.1 11 = m.2.1 11 ∧ BM many (orT (CW C fo F none) A n many r B) m' := by
  have hC1 := KM_VC hk hC
  have hA1 := KM_VA hk he hA
  have hCr : VC (CW C fo F (some (many, r))) (mF (mF m 25 (nI many)) 26 0) := by
    obtain ⟨c1, c2, c3, c4, c5, c6, c7⟩ := hC1
    refine ⟨c1, c2, c3, c4, ?_, ⟨hm, ?_, fun i hi => ⟨h11 i hi, by show r i < 6; have := hr i hi; omega⟩⟩, c7⟩
    · cases fo with
      | none => show (mF (mF m 25 (nI many)) 26 0).1 22 < 0; rw [mF_n _ _ _ _ (by omega), mF_n _ _ _ _ (by omega)]; exact c5
      | some q =>
        obtain ⟨q', hq, a, b⟩ := c5
        exact ⟨q', hq, by rw [mF_n _ _ _ _ (by omega), mF_n _ _ _ _ (by omega)]; exact a, RuM_fr b fun _ _ => rfl⟩
    · rw [mF_n _ _ _ _ (by omega), mF_s]
  have hAr : VA (CW C fo F (some (many, r))) (rowA A 0) (mF (mF m 25 (nI many)) 26 0) := by
    obtain ⟨a1, a2, a3, a4, a5, -⟩ := hA1
    refine ⟨a1, a2, a3, a4, ?_, fun _ => ?_⟩
    · rw [mF_n _ _ _ _ (by omega), mF_n _ _ _ _ (by omega)]; exact a5
    · rw [mF_s]
      show (0 : Int32) = nI (va_up A.2.2 2 0 2)
      rw [va_up_self, nI_0]
  obtain ⟨m2, g2, p10, pj, pq⟩ := M_worthIn k d x (CW C fo F (some (many, r))) n (by omega) (rowA A 0) m0 (mF (mF m 25 (nI many)) 26 0) (WA_row hW hr) hCr hAr hk.1 hk.2.1
  have g2' : callR (k + 9) n_X4_worthIn [.ref 153, .int (nI n)] (P d x (mF (mF m 25 (nI many)) 26 0)) = some (.inl (some (.int (orV (CW C fo F none) A n many r))), P d x m2) := g2
  have hfld : ∀ q, q ≠ 19 → q ≠ 25 → q ≠ 26 → q ≠ 28 → q ≠ 29 → (mF m2 25 (-1)).1 q = m.1 q := fun q a b c e f => by rw [mF_n _ _ _ _ b, pq q a c e f, mF_n _ _ _ _ c, mF_n _ _ _ _ b]
  have hk3 : KM m0 (mF m2 25 (-1)) := ⟨fun c hc => by show m2.2.1 13 c = _; rw [pj 13 (by omega)]; exact hk.1 c hc, fun i _ => by show m2.2.1 10 i = _; rw [p10], fun j hj => by show m2.2.1 j = _; rw [pj j (by omega)]; exact hk.2.2.1 j hj, fun q a b c e f => by
    by_cases z : q = 25
    · rw [z, mF_s, h25]
    · rw [hfld q a z b c e]; exact hk.2.2.2 q a b c e f⟩
  have r34 : (mF m2 25 (-1)).1 34 = B.1 := by rw [hfld 34 (by omega) (by omega) (by omega) (by omega) (by omega)]; exact hB.1
  have e11 : (mF m2 25 (-1)).2.1 11 = m.2.1 11 := pj 11 (by omega)
  have e14 : (mF m2 25 (-1)).2.1 14 = m.2.1 14 := pj 14 (by omega)
  unfold orT
  by_cases c : B.1 < orV (CW C fo F none) A n many r
  · rw [if_pos c]
    obtain ⟨m5, e5, a5, b5, c5, d5⟩ := M_bestL (k + 9) d x many hm r many 0 (mF (mF m2 25 (-1)) 34 (orV (CW C fo F none) A n many r)) (by omega) (fun j hj => by show (mF m2 25 (-1)).2.1 11 j = _; rw [e11]; exact h11 j hj) (fun j hj => absurd hj (by omega))
    refine ⟨m5, ?_, ⟨fun c hc => by rw [c5 13 (by omega)]; exact hk3.1 c hc, fun i hi => by rw [c5 10 (by omega)]; exact hk3.2.1 i hi, fun j hj => by rw [c5 j (by omega)]; exact hk3.2.2.1 j hj, fun q a b c e f => by rw [b5, mF_n _ _ _ _ f]; exact hk3.2.2.2 q a b c e f⟩, by rw [c5 10 (by omega)]; exact p10, by rw [c5 11 (by omega)]; exact e11, ⟨by rw [b5, mF_s], fun _ => a5⟩⟩
    rw [nI_0] at e5
    simp (disch := omega) only [c_X4_weighsRow, e_X4_weighsRow_0, cond_true, cond_false, Option.bind_some, rI_s, rL_s, rR_s, rV_s, cnd_d, cnd_ne, cnd_eq, bI_d0, bI_t0, ite_not, decide_eq_false_iff_not, decide_eq_true_eq, lg_cmp_ge, lg_cmp_le, lg_cmp_gt, lg_cmp_lt, lg_cmp_eq, okb_1, okb_0, okb_b, eq_self, if_true, if_false, Bool.true_eq_false, Bool.false_eq_true, isO_M, wm_25, wm_26, g2', rm_34, r34, c, e_X4_weighsRow_30, wm_34, e5]
  · rw [if_neg c]
    refine ⟨mF m2 25 (-1), ?_, hk3, p10, e11, ⟨r34, fun h i hi => by rw [e14]; exact hB.2 h i hi⟩⟩
    simp (disch := omega) only [c_X4_weighsRow, e_X4_weighsRow_0, cond_true, cond_false, Option.bind_some, rI_s, rL_s, rR_s, rV_s, cnd_d, cnd_ne, cnd_eq, bI_d0, bI_t0, ite_not, decide_eq_false_iff_not, decide_eq_true_eq, lg_cmp_ge, lg_cmp_le, lg_cmp_gt, lg_cmp_lt, lg_cmp_eq, okb_1, okb_0, okb_b, eq_self, if_true, if_false, Bool.true_eq_false, Bool.false_eq_true, isO_M, wm_25, wm_26, g2', rm_34, r34, c, e_X4_weighsRow_29]
def inR (r : Nat → Nat) (h : Nat) : Nat → Bool
  | 0 => false
  | k + 1 => inR r h k || decide (r k = h)
theorem inR_t {r : Nat → Nat} {h : Nat} : ∀ k j, j < k → r j = h → inR r h k = true
  | 0, j, hj, _ => absurd hj (by omega)
  | k + 1, j, hj, e => by
    show (inR r h k || decide (r k = h)) = true
    by_cases c : j = k
    · rw [c] at e; rw [decide_eq_true e, Bool.or_true]
    · rw [inR_t k j (by omega) e, Bool.true_or]
theorem inR_f {r : Nat → Nat} {h : Nat} : ∀ k, (∀ j, j < k → r j ≠ h) → inR r h k = false
  | 0, _ => rfl
  | k + 1, e => by
    show (inR r h k || decide (r k = h)) = false
    rw [inR_f k (fun j hj => e j (by omega)), decide_eq_false (e k (by omega))]
    rfl
theorem inR_c {r r' : Nat → Nat} {h : Nat} : ∀ k, (∀ j, j < k → r' j = r j) → inR r' h k = inR r h k
  | 0, _ => rfl
  | k + 1, e => by
    show (inR r' h k || decide (r' k = h)) = (inR r h k || decide (r k = h))
    rw [inR_c k (fun j hj => e j (by omega)), e k (by omega)]
theorem inR_up (r : Nat → Nat) (k h g : Nat) : inR (va_up r k h) g (k + 1) = (inR r g k || decide (h = g)) := by
  show (inR (va_up r k h) g k || decide (va_up r k h k = g)) = _
  rw [inR_c k (fun j hj => va_up_ne _ _ (by omega)), va_up_self]
theorem M_isInRow (k : Nat) (d : AH) (x : XS) (m : MS) (kk h : Nat) (r : Nat → Nat) (hk : kk ≤ 6) (hh : h < 6) (hr : ∀ j, j < kk → m.2.1 11 j = nI (r j) ∧ r j < 6) : callR (k + 1) n_X4_isInRow [.ref 153, .int (nI kk), .int (nI h)] (P d x m) = some (.inl (some (.int (bI (inR r h kk)))), P d x m) := by
  have loop : ∀ q i : Nat, i + q = kk → (∀ j, j < i → r j ≠ h) → evR T_X4_isInRow (callR k) 2 ([(0, .ref 153), (1, .int (nI kk)), (2, .int (nI h)), (3, .int (nI i))], [], P d x m) = some (.inl (some (.int (bI (inR r h kk)))), P d x m) := by
    intro q
    induction q with
    | zero =>
      intro i hi hn
      have e : i = kk := by omega
      subst e
      rw [e_X4_isInRow_2, inR_f i hn]
      simp (disch := omega) only [e_X4_isInRow_25, cond_true, cond_false, Option.bind_some, rI_s, rL_s, rR_s, rV_s, cnd_d, cnd_ne, cnd_eq, bI_d0, bI_t0, ite_not, decide_eq_false_iff_not, decide_eq_true_eq, lg_cmp_ge, lg_cmp_le, lg_cmp_gt, lg_cmp_lt, lg_cmp_eq, okb_1, okb_0, okb_b, eq_self, if_true, if_false, Bool.true_eq_false, Bool.false_eq_true, le_rT]
      rfl
    | succ q ih =>
      intro i hi hn
      obtain ⟨h1, h2⟩ := hr i (by omega)
      rw [e_X4_isInRow_2]
      by_cases c : r i = h
      · rw [inR_t kk i (by omega) c]
        simp (disch := omega) only [e_X4_isInRow_7, e_X4_isInRow_17, cond_true, cond_false, Option.bind_some, rI_s, rL_s, rR_s, rV_s, cnd_d, cnd_ne, cnd_eq, bI_d0, bI_t0, ite_not, decide_eq_false_iff_not, decide_eq_true_eq, lg_cmp_ge, lg_cmp_le, lg_cmp_gt, lg_cmp_lt, lg_cmp_eq, okb_1, okb_0, okb_b, eq_self, if_true, if_false, Bool.true_eq_false, Bool.false_eq_true, nI_leP, if_neg (show ¬ kk ≤ i by omega), rm_24, lm_11, h1, c]
        rfl
      · rw [← ih (i + 1) (by omega) (fun j hj => by
          by_cases z : j = i
          · rw [z]; exact c
          · exact hn j (by omega))]
        simp (disch := omega) only [e_X4_isInRow_7, e_X4_isInRow_19, cond_true, cond_false, Option.bind_some, rI_s, rL_s, rR_s, rV_s, cnd_d, cnd_ne, cnd_eq, bI_d0, bI_t0, ite_not, decide_eq_false_iff_not, decide_eq_true_eq, lg_cmp_ge, lg_cmp_le, lg_cmp_gt, lg_cmp_lt, lg_cmp_eq, okb_1, okb_0, okb_b, eq_self, if_true, if_false, Bool.true_eq_false, Bool.false_eq_true, nI_leP, if_neg (show ¬ kk ≤ i by omega), rm_24, lm_11, h1, nI_eqP, c, nI_1]
  have := loop kk 0 (by omega) (fun j hj => absurd hj (by omega))
  rw [nI_0] at this
  simp (disch := omega) only [c_X4_isInRow, e_X4_isInRow_0, cond_true, cond_false, Option.bind_some, rI_s, rL_s, rR_s, rV_s, cnd_d, cnd_ne, cnd_eq, bI_d0, bI_t0, ite_not, decide_eq_false_iff_not, decide_eq_true_eq, lg_cmp_ge, lg_cmp_le, lg_cmp_gt, lg_cmp_lt, lg_cmp_eq, okb_1, okb_0, okb_b, eq_self, if_true, if_false, Bool.true_eq_false, Bool.false_eq_true, isO_M, this]
theorem KM_11 {m0 m : MS} (h : KM m0 m) (i : Nat) (v : Int32) : KM m0 (mA m 11 i v) := ⟨fun k hk => by rw [show (mA m 11 i v).2.1 13 = m.2.1 13 from mA_o _ _ _ _ _ (by omega)]; exact h.1 k hk, fun k hk => by rw [show (mA m 11 i v).2.1 10 = m.2.1 10 from mA_o _ _ _ _ _ (by omega)]; exact h.2.1 k hk, fun k hk => by rw [show (mA m 11 i v).2.1 k = m.2.1 k from mA_o _ _ _ _ _ (by omega)]; exact h.2.2.1 k hk, h.2.2.2⟩
theorem M_scan (k : Nat) (d : AH) (x : XS) (C : AC) (h6 : C.1 ≤ 6) (fo : Option Nat) (F : Nat → (Nat → Int64) → Int64) (A : AA) (hW : WA (CW C fo F none) A) (m0 : MS) (hC : VC (CW C fo F none) m0) (hA : VA (CW C fo F none) A m0) (h25 : m0.1 25 = -1) (n many all : Nat) (hn : n ≤ 60) (hm : many ≤ 6) (hall : all < 64) : ∀ (e kk : Nat) (r : Nat → Nat) (s : Nat), kk + (e + 1) = many → s < 64 → RwOK C.1 kk r → (∀ g, g < 6 → hsB s g = (hsB all g && !inR r g kk)) → ∀ (q h : Nat) (B : OB) (m : MS), h + q = C.1 → KM m0 m → m.2.1 10 = m0.2.1 10 → (∀ j, j < kk → m.2.1 11 j = nI (r j)) → m.2.1 11 kk = nI h - 1 → BM many B m → ∃ m', evR T_X4_findsOrder (callR (k + 10)) 31 ([(0, .ref 153), (1, .int (nI n)), (2, .int (nI all)), (3, .int (nI many)), (4, .int (nI kk))], [], P d x m) = evR T_X4_findsOrder (callR (k + 10)) 31 ([(0, .ref 153), (1, .int (nI n)), (2, .int (nI all)), (3, .int (nI many)), (4, .int (nI kk + -1))], [], P d x m') ∧ KM m0 m' ∧ m'.2.1 10 = m0.2.1 10 ∧ (∀ j, j < kk → m'.2.1 11 j = nI (r j)) ∧ BM many (scF (fun h B => lvF (orT (CW C fo F none) A n many) C.1 e (kk + 1) (va_up r kk h) (s - 2 ^ h) B) (hsB s) q h B) m' := by
  intro e
  induction e with
  | zero => ?_
  | succ e ihe => ?_
  all_goals intro kk r s hke hs hr hss q
  all_goals induction q with
  | zero =>
    intro h B m hq hk he h11 hkk hB
    have e' : h = C.1 := by omega
    subst e'
    have h3 : m.2.1 10 3 = nI C.1 := (KM_VC hk hC).1.1
    have hp : nI C.1 - 1 + 1 = nI C.1 := by grind
    refine ⟨mA m 11 kk (nI C.1), ?_, KM_11 hk _ _, by rw [show (mA m 11 kk (nI C.1)).2.1 10 = m.2.1 10 from mA_o _ _ _ _ _ (by omega)]; exact he, fun j hj => by rw [show (mA m 11 kk (nI C.1)).2.1 11 j = m.2.1 11 j by simp [mA, va_up, show j ≠ kk by omega]]; exact h11 j hj, ⟨hB.1, fun hz i hi => by rw [show (mA m 11 kk (nI C.1)).2.1 14 = m.2.1 14 from mA_o _ _ _ _ _ (by omega)]; exact hB.2 hz i hi⟩⟩
    have l2 : (mA m 11 kk (nI C.1)).2.1 11 kk = nI C.1 := by simp [mA, va_up]
    have l3 : (mA m 11 kk (nI C.1)).2.1 10 3 = nI C.1 := by rw [show (mA m 11 kk (nI C.1)).2.1 10 = m.2.1 10 from mA_o _ _ _ _ _ (by omega)]; exact h3
    rw [e_X4_findsOrder_31]
    simp (disch := omega) only [e_X4_findsOrder_36, e_X4_findsOrder_63, cond_true, cond_false, Option.bind_some, rI_s, rL_s, rR_s, rV_s, cnd_d, cnd_ne, cnd_eq, bI_d0, bI_t0, ite_not, decide_eq_false_iff_not, decide_eq_true_eq, lg_cmp_ge, lg_cmp_le, lg_cmp_gt, lg_cmp_lt, lg_cmp_eq, okb_1, okb_0, okb_b, eq_self, if_true, if_false, Bool.true_eq_false, Bool.false_eq_true, nI_nlt0, rm_24, lm_11, hkk, hp, sm_11, l2, rm_21, show (3 : Int32) = nI 3 from rfl, lm_10, l3, show (nI C.1 < nI C.1) = False from eq_false (Int32.lt_irrefl)]
  | succ q ihq => ?_
  all_goals
    intro h B m hq hk he h11 hkk hB
    have h3 : m.2.1 10 3 = nI C.1 := (KM_VC hk hC).1.1
    have hp : nI h - 1 + 1 = nI h := by grind
    have hp1 : nI h = nI (h + 1) - 1 := by rw [← nI_1]; grind
    have l2 : (mA m 11 kk (nI h)).2.1 11 kk = nI h := by simp [mA, va_up]
    have l3 : (mA m 11 kk (nI h)).2.1 10 3 = nI C.1 := by rw [show (mA m 11 kk (nI h)).2.1 10 = m.2.1 10 from mA_o _ _ _ _ _ (by omega)]; exact h3
    have hk1 := KM_11 hk kk (nI h)
    have he1 : (mA m 11 kk (nI h)).2.1 10 = m0.2.1 10 := by rw [show (mA m 11 kk (nI h)).2.1 10 = m.2.1 10 from mA_o _ _ _ _ _ (by omega)]; exact he
    have h111 : ∀ j, j < kk → (mA m 11 kk (nI h)).2.1 11 j = nI (r j) := fun j hj => by rw [show (mA m 11 kk (nI h)).2.1 11 j = m.2.1 11 j by simp [mA, va_up, show j ≠ kk by omega]]; exact h11 j hj
    have hB1 : BM many B (mA m 11 kk (nI h)) := ⟨hB.1, fun hz i hi => by rw [show (mA m 11 kk (nI h)).2.1 14 = m.2.1 14 from mA_o _ _ _ _ _ (by omega)]; exact hB.2 hz i hi⟩
    have hO := M_isOf (k + 9) (P d x (mA m 11 kk (nI h))) all h hall (by omega)
    have hI := M_isInRow (k + 9) d x (mA m 11 kk (nI h)) kk h r (by omega) (by omega) (fun j hj => ⟨h111 j hj, by have := hr j hj; omega⟩)
    have start : evR T_X4_findsOrder (callR (k + 10)) 31 ([(0, .ref 153), (1, .int (nI n)), (2, .int (nI all)), (3, .int (nI many)), (4, .int (nI kk))], [], P d x m) = evR T_X4_findsOrder (callR (k + 10)) 69 ([(0, .ref 153), (1, .int (nI n)), (2, .int (nI all)), (3, .int (nI many)), (4, .int (nI kk))], [], P d x (mA m 11 kk (nI h))) := by
      rw [e_X4_findsOrder_31]
      simp (disch := omega) only [e_X4_findsOrder_36, cond_true, cond_false, Option.bind_some, rI_s, rL_s, rR_s, rV_s, cnd_d, cnd_ne, cnd_eq, bI_d0, bI_t0, ite_not, decide_eq_false_iff_not, decide_eq_true_eq, lg_cmp_ge, lg_cmp_le, lg_cmp_gt, lg_cmp_lt, lg_cmp_eq, okb_1, okb_0, okb_b, eq_self, if_true, if_false, Bool.true_eq_false, Bool.false_eq_true, nI_nlt0, rm_24, lm_11, hkk, hp, sm_11, l2, rm_21, show (3 : Int32) = nI 3 from rfl, lm_10, l3, nI_ltP, show h < C.1 by omega]
    have hsh := hss h (by omega)
  · show ∃ m', _ ∧ _ ∧ _ ∧ _ ∧ BM many (scF _ (hsB s) q (h + 1) (if hsB s h = true then lvF (orT (CW C fo F none) A n many) C.1 0 (kk + 1) (va_up r kk h) (s - 2 ^ h) B else B)) m'
    cases c1 : hsB all h with
    | false =>
      rw [c1] at hO hsh
      obtain ⟨m1, e1, r1⟩ := ihq (h + 1) B (mA m 11 kk (nI h)) (by omega) hk1 he1 h111 (by rw [l2]; exact hp1) hB1
      refine ⟨m1, ?_, by rw [if_neg (by rw [hsh]; simp)]; exact r1⟩
      rw [← e1, start, e_X4_findsOrder_69]
      simp (disch := omega) only [cond_true, cond_false, Option.bind_some, rI_s, rL_s, rR_s, rV_s, cnd_d, cnd_ne, cnd_eq, bI_d0, bI_t0, ite_not, decide_eq_false_iff_not, decide_eq_true_eq, lg_cmp_ge, lg_cmp_le, lg_cmp_gt, lg_cmp_lt, lg_cmp_eq, okb_1, okb_0, okb_b, eq_self, if_true, if_false, Bool.true_eq_false, Bool.false_eq_true, rm_24, lm_11, l2, hO]
    | true =>
      rw [c1] at hO hsh
      by_cases c2 : inR r h kk = true
      · rw [c2] at hI hsh
        obtain ⟨m1, e1, r1⟩ := ihq (h + 1) B (mA m 11 kk (nI h)) (by omega) hk1 he1 h111 (by rw [l2]; exact hp1) hB1
        refine ⟨m1, ?_, by rw [if_neg (by rw [hsh]; simp)]; exact r1⟩
        rw [← e1, start, e_X4_findsOrder_69]
        simp (disch := omega) only [e_X4_findsOrder_83, cond_true, cond_false, Option.bind_some, rI_s, rL_s, rR_s, rV_s, cnd_d, cnd_ne, cnd_eq, bI_d0, bI_t0, ite_not, decide_eq_false_iff_not, decide_eq_true_eq, lg_cmp_ge, lg_cmp_le, lg_cmp_gt, lg_cmp_lt, lg_cmp_eq, okb_1, okb_0, okb_b, eq_self, if_true, if_false, Bool.true_eq_false, Bool.false_eq_true, rm_24, lm_11, l2, hO, hI]
      · rw [Bool.eq_false_iff.mpr c2] at hI hsh
        have hc : hsB s h = true := hsh
        obtain ⟨m2, e2, k2, he2, g2, b2⟩ := M_weighsRow k d x C h6 fo F A hW m0 hC hA h25 n many hn hm (va_up r kk h) (by rw [← hke]; exact RwOK_up hr (by omega)) B (mA m 11 kk (nI h)) hk1 he1 (fun j hj => by
          by_cases z : j = kk
          · rw [z, l2, va_up_self]
          · rw [va_up_ne _ _ z]; exact h111 j (by omega)) hB1
        obtain ⟨m1, e1, r1⟩ := ihq (h + 1) _ m2 (by omega) k2 he2 (fun j hj => by rw [g2]; exact h111 j hj) (by rw [g2, l2]; exact hp1) b2
        refine ⟨m1, ?_, by rw [if_pos hc]; exact r1⟩
        rw [← e1, start, e_X4_findsOrder_69]
        simp (disch := omega) only [e_X4_findsOrder_83, e_X4_findsOrder_99, e_X4_findsOrder_107, cond_true, cond_false, Option.bind_some, rI_s, rL_s, rR_s, rV_s, cnd_d, cnd_ne, cnd_eq, bI_d0, bI_t0, ite_not, decide_eq_false_iff_not, decide_eq_true_eq, lg_cmp_ge, lg_cmp_le, lg_cmp_gt, lg_cmp_lt, lg_cmp_eq, okb_1, okb_0, okb_b, eq_self, if_true, if_false, Bool.true_eq_false, Bool.false_eq_true, rm_24, lm_11, l2, hO, hI, nI_1, show kk + 1 = many by omega, e2]
  · show ∃ m', _ ∧ _ ∧ _ ∧ _ ∧ BM many (scF _ (hsB s) q (h + 1) (if hsB s h = true then lvF (orT (CW C fo F none) A n many) C.1 (e + 1) (kk + 1) (va_up r kk h) (s - 2 ^ h) B else B)) m'
    cases c1 : hsB all h with
    | false =>
      rw [c1] at hO hsh
      obtain ⟨m1, e1, r1⟩ := ihq (h + 1) B (mA m 11 kk (nI h)) (by omega) hk1 he1 h111 (by rw [l2]; exact hp1) hB1
      refine ⟨m1, ?_, by rw [if_neg (by rw [hsh]; simp)]; exact r1⟩
      rw [← e1, start, e_X4_findsOrder_69]
      simp (disch := omega) only [cond_true, cond_false, Option.bind_some, rI_s, rL_s, rR_s, rV_s, cnd_d, cnd_ne, cnd_eq, bI_d0, bI_t0, ite_not, decide_eq_false_iff_not, decide_eq_true_eq, lg_cmp_ge, lg_cmp_le, lg_cmp_gt, lg_cmp_lt, lg_cmp_eq, okb_1, okb_0, okb_b, eq_self, if_true, if_false, Bool.true_eq_false, Bool.false_eq_true, rm_24, lm_11, l2, hO]
    | true =>
      rw [c1] at hO hsh
      by_cases c2 : inR r h kk = true
      · rw [c2] at hI hsh
        obtain ⟨m1, e1, r1⟩ := ihq (h + 1) B (mA m 11 kk (nI h)) (by omega) hk1 he1 h111 (by rw [l2]; exact hp1) hB1
        refine ⟨m1, ?_, by rw [if_neg (by rw [hsh]; simp)]; exact r1⟩
        rw [← e1, start, e_X4_findsOrder_69]
        simp (disch := omega) only [e_X4_findsOrder_83, cond_true, cond_false, Option.bind_some, rI_s, rL_s, rR_s, rV_s, cnd_d, cnd_ne, cnd_eq, bI_d0, bI_t0, ite_not, decide_eq_false_iff_not, decide_eq_true_eq, lg_cmp_ge, lg_cmp_le, lg_cmp_gt, lg_cmp_lt, lg_cmp_eq, okb_1, okb_0, okb_b, eq_self, if_true, if_false, Bool.true_eq_false, Bool.false_eq_true, rm_24, lm_11, l2, hO, hI]
      · rw [Bool.eq_false_iff.mpr c2] at hI hsh
        have hc : hsB s h = true := hsh
        obtain ⟨q1, q2, -⟩ := sb6 h (by omega) s hs hc
        have hp := Nat.two_pow_pos h
        have hk2 := KM_11 hk1 (kk + 1) (-1)
        have l4 : ∀ j, j < kk + 1 → (mA (mA m 11 kk (nI h)) 11 (kk + 1) (-1)).2.1 11 j = nI (va_up r kk h j) := fun j hj => by
          rw [show (mA (mA m 11 kk (nI h)) 11 (kk + 1) (-1)).2.1 11 j = (mA m 11 kk (nI h)).2.1 11 j by simp [mA, va_up, show j ≠ kk + 1 by omega]]
          by_cases z : j = kk
          · rw [z, l2, va_up_self]
          · rw [va_up_ne _ _ z]; exact h111 j (by omega)
        obtain ⟨m2, e2, k2, he2, g2, b2⟩ := ihe (kk + 1) (va_up r kk h) (s - 2 ^ h) (by omega) (by omega) (RwOK_up hr (by omega)) (fun g hg => by
          rw [sg6 h (by omega) g hg s hs hc, hss g hg]
          rw [inR_up]
          by_cases z : g = h
          · rw [decide_eq_true z, decide_eq_true z.symm]; simp
          · rw [decide_eq_false z, decide_eq_false (fun y => z y.symm)]; simp) C.1 0 B (mA (mA m 11 kk (nI h)) 11 (kk + 1) (-1)) (by omega) hk2 (by rw [show (mA (mA m 11 kk (nI h)) 11 (kk + 1) (-1)).2.1 10 = (mA m 11 kk (nI h)).2.1 10 from mA_o _ _ _ _ _ (by omega)]; exact he1) l4 (by rw [show (mA (mA m 11 kk (nI h)) 11 (kk + 1) (-1)).2.1 11 (kk + 1) = -1 by simp [mA, va_up]]; decide) ⟨hB1.1, fun hz i hi => by rw [show (mA (mA m 11 kk (nI h)) 11 (kk + 1) (-1)).2.1 14 = (mA m 11 kk (nI h)).2.1 14 from mA_o _ _ _ _ _ (by omega)]; exact hB1.2 hz i hi⟩
        have hkk1 : nI (kk + 1) + -1 = nI kk := by rw [← nI_1]; grind
        rw [hkk1] at e2
        obtain ⟨m1, e1, r1⟩ := ihq (h + 1) _ m2 (by omega) k2 he2 (fun j hj => by have := g2 j (by omega); rw [va_up_ne _ _ (by omega)] at this; exact this) (by rw [g2 kk (by omega), va_up_self]; exact hp1) b2
        refine ⟨m1, ?_, by rw [if_pos hc]; exact r1⟩
        have hne : ¬ kk + 1 = many := by omega
        rw [← e1, start, e_X4_findsOrder_69]
        simp (disch := omega) only [e_X4_findsOrder_83, e_X4_findsOrder_99, e_X4_findsOrder_116, cond_true, cond_false, Option.bind_some, rI_s, rL_s, rR_s, rV_s, cnd_d, cnd_ne, cnd_eq, bI_d0, bI_t0, ite_not, decide_eq_false_iff_not, decide_eq_true_eq, lg_cmp_ge, lg_cmp_le, lg_cmp_gt, lg_cmp_lt, lg_cmp_eq, okb_1, okb_0, okb_b, eq_self, if_true, if_false, Bool.true_eq_false, Bool.false_eq_true, rm_24, lm_11, l2, hO, hI, nI_1, nI_eqP, hne, sm_11, e2]
theorem op_order (v w : Int32) : AskOK n_X0_order n_X4_order [.int v, .int w] := by
  intro Z d x m hR k
  obtain ⟨C, A, n, u, a, t, nr, F, fo, hP, hS⟩ := Rel_to hR
  obtain ⟨hZ, hV, hN, hPR, hT, hRR, hF, hD, hBr, hI⟩ := id hP
  have hvp := (hV.2.1 d (Ext_refl Z d)).1
  have h6 := hV.1.1.2
  have hfl := flag_eq hV
  have xv := X_isValley (k + 998) d x m C (hvp.1 x m)
  have mv : ∀ x, _ := fun x => M_isValley (k + 998) d x m
  rw [hfl] at mv
  by_cases c1 : 0 < C.2.2.2.1
  · cases c2 : inI 1 60 v with
    | true =>
      cases c3 : inI (-1) 5 w with
      | true =>
        obtain ⟨j, hj1, hj, rfl⟩ := inI_1 (n := 60) (by omega) c2
        have hC := Rel_XC hV hRR hF hBr.1
        have hCm := Rel_VC hV.1 hRR hF hBr.2.1
        have hAm := Rel_VA (fo := fo) (F := F) hS.1 hBr.2.2
        have hWw := Rel_WA (fo := fo) (F := F) hS.2.2
        have h64 : 2 ^ C.1 ≤ 2 ^ 6 := Nat.pow_le_pow_right (by omega) h6
        obtain ⟨s, es, hs⟩ : ∃ s, orI (hotB (A.1 1)) C.1 = nI s ∧ s < 2 ^ C.1 := ⟨_, hot_bm (A.1 1) C.1 h6, bm_lt _ _⟩
        have hs64 : s < 64 := by omega
        have hb6 := (bc_6 s hs64).1
        have ef : ∀ x, x.2.2.2.1 0 = (show XS from x).2.2.2.1 0 := fun _ => rfl
        have xf : ∀ x' : XS, x'.2.2.2.1 0 = x.2.2.2.1 0 → callR (k + 999) n_X2_fires [.ref 6] (P d x' m) = some (.inl (some (.int (nI s))), P d x' m) := fun x' e => by
          rw [← es]; exact X_fires0 (k + 998) d x' m 0 (by omega) C A h6 (by rw [e]; exact hS.2.1)
        have hs15 : SimX x (xF (xF x 15 (nI (bc s))) 22 (-1)) := ⟨fun q a b c e => by rw [xF_n _ _ _ _ e, xF_n _ _ _ _ a], fun _ _ => rfl, fun _ _ => rfl, rfl⟩
        obtain ⟨x1, e1, s1, f1, -, b1⟩ := X_rowsFrom (k + 792 - bc s) d m C h6 fo F A hWw x hC hS.2.1 j (bc s) hj hb6 (bc s) 0 (fun _ => 0) s (-1, fun _ => 0) (xF (xF x 15 (nI (bc s))) 22 (-1)) (by omega) hs64 rfl (fun i hi => absurd hi (by omega)) hs15 (by rw [xF_n _ _ _ _ (by omega), xF_s]) (fun j hj => absurd hj (by omega)) ⟨xF_s _ _ _, fun h => absurd h (by decide)⟩
        rw [show k + 792 - bc s + 207 + bc s = k + 999 by omega, nI_0] at e1
        have hvpos : ∀ r B, RwOK C.1 (bc s) r → 0 ≤ (orT (CW C fo F none) A j (bc s) r B).1 := fun r B hr => orT_pos (by
          obtain ⟨z, hz, ez⟩ := sum_bd C.1 h6 fun h hh => (it_w j (WA_row hWw hr) hS.2.2.2.2.2.2.1 h hh).1
          show 0 ≤ sumI ((itA (CW C fo F (some (bc s, r))) j (rowA A 0)).1 0) C.1
          rw [ez]; exact nI_pos' (by omega))
        have hpos := lvF_pos h6 hvpos (bc s) 0 (fun _ => 0) s (-1, fun _ => 0) (by omega) hs rfl (fun i hi => absurd hi (by omega))
        have mf : callR (k + 999) n_X4_fires [.ref 153] (P d x1 m) = some (.inl (some (.int (nI s))), P d x1 m) := by
          rw [M_fires (k + 997) d x1 m C.1 h6 hV.1.1.1, orI_c fun i hi => hotB_c (hS.1.1 i hi).2.1, es]
        obtain ⟨m1, g1, q1⟩ := M_keeps (k + 998) d x1 m
        obtain ⟨km, ke⟩ := KM_keep q1
        have mb := fun m => M_bits (k + 997) (P d x1 m) s hs64
        have mb2 := fun m => M_bits (k + 998) (P d x1 m) s hs64
        have hk34 : KM m (mF m1 34 (-1)) := ⟨km.1, km.2.1, km.2.2.1, fun q a b c e f => by rw [mF_n _ _ _ _ f]; exact km.2.2.2 q a b c e f⟩
        have hB34 : BM (bc s) (-1, fun _ => 0) (mF m1 34 (-1)) := ⟨mF_s _ _ _, fun h => absurd h (by decide)⟩
        obtain ⟨m2, g2, k2, he2, b2⟩ : ∃ m2, callR (k + 999) n_X4_findsOrder [.ref 153, .int (nI j), .int (nI s)] (P d x1 m1) = some (.inl none, P d x1 m2) ∧ KM m m2 ∧ m2.2.1 10 = m.2.1 10 ∧ BM (bc s) (lvF (orT (CW C fo F none) A j (bc s)) C.1 (bc s) 0 (fun _ => 0) s (-1, fun _ => 0)) m2 := by
          cases hbc : bc s with
          | zero =>
            rw [hbc] at hB34
            obtain ⟨m3, g3, k3, he3, -, b3⟩ := M_weighsRow (k + 988) d x1 C h6 fo F A hWw m hCm hAm hBr.2.1 j 0 hj (by omega) (fun _ => 0) (fun i hi => absurd hi (by omega)) (-1, fun _ => 0) (mF m1 34 (-1)) hk34 ke (fun i hi => absurd hi (by omega)) hB34
            refine ⟨m3, ?_, k3, he3, b3⟩
            have hp0 : pcI (nI s) = 0 := by rw [pc6 s hs64, hbc, nI_0]
            rw [nI_0] at g3
            simp (disch := omega) only [c_X4_findsOrder, e_X4_findsOrder_0, e_X4_findsOrder_14, cond_true, cond_false, Option.bind_some, rI_s, rL_s, rR_s, rV_s, cnd_d, cnd_ne, cnd_eq, bI_d0, bI_t0, ite_not, decide_eq_false_iff_not, decide_eq_true_eq, lg_cmp_ge, lg_cmp_le, lg_cmp_gt, lg_cmp_lt, lg_cmp_eq, okb_1, okb_0, okb_b, eq_self, if_true, if_false, Bool.true_eq_false, Bool.false_eq_true, isO_M, mb, hp0, wm_34, g3]
          | succ e =>
            rw [hbc] at hB34
            have hss : ∀ g, g < 6 → hsB s g = (hsB s g && !inR (fun _ : Nat => 0) g 0) := fun g _ => by
              show hsB s g = (hsB s g && !false); simp
            obtain ⟨m3, g3, k3, he3, -, b3⟩ := M_scan (k + 988) d x1 C h6 fo F A hWw m hCm hAm hBr.2.1 j (e + 1) s hj (by omega) hs64 e 0 (fun _ => 0) s (by omega) hs64 (fun i hi => absurd hi (by omega)) hss C.1 0 (-1, fun _ => 0) (mA (mF m1 34 (-1)) 11 0 (-1)) (by omega) (KM_11 hk34 _ _) (by rw [show (mA (mF m1 34 (-1)) 11 0 (-1)).2.1 10 = m1.2.1 10 from mA_o _ _ _ _ _ (by omega)]; exact ke) (fun i hi => absurd hi (by omega)) (by rw [show (mA (mF m1 34 (-1)) 11 0 (-1)).2.1 11 0 = -1 by simp [mA, va_up]]; decide) ⟨hB34.1, fun h => absurd h (by decide)⟩
            refine ⟨m3, ?_, k3, he3, b3⟩
            have hp0 : pcI (nI s) = nI (e + 1) := by rw [pc6 s hs64, hbc]
            have hpn : ¬ nI (e + 1) = 0 := by rw [← nI_0, nI_eqP (by omega) (by omega)]; omega
            have s0 : stI (P d x1 (mF m1 34 (-1))) 164 0 (0 : Int32) (-1) = some (P d x1 (mA (mF m1 34 (-1)) 11 0 (-1))) := sm_11 d x1 _ 0 (-1) (by omega)
            rw [nI_0] at g3
            simp (disch := omega) only [c_X4_findsOrder, e_X4_findsOrder_0, e_X4_findsOrder_21, cond_true, cond_false, Option.bind_some, rI_s, rL_s, rR_s, rV_s, cnd_d, cnd_ne, cnd_eq, bI_d0, bI_t0, ite_not, decide_eq_false_iff_not, decide_eq_true_eq, lg_cmp_ge, lg_cmp_le, lg_cmp_gt, lg_cmp_lt, lg_cmp_eq, okb_1, okb_0, okb_b, eq_self, if_true, if_false, Bool.true_eq_false, Bool.false_eq_true, isO_M, mb, hp0, hpn, wm_34, rm_24, s0]
            rw [g3, e_X4_findsOrder_31]
            simp (disch := omega) only [e_X4_findsOrder_130, cond_true, cond_false, Option.bind_some, rI_s, rL_s, rR_s, rV_s, cnd_d, cnd_ne, cnd_eq, bI_d0, bI_t0, ite_not, decide_eq_false_iff_not, decide_eq_true_eq, lg_cmp_ge, lg_cmp_le, lg_cmp_gt, lg_cmp_lt, lg_cmp_eq, okb_1, okb_0, okb_b, eq_self, if_true, if_false, Bool.true_eq_false, Bool.false_eq_true, show (0 : Int32) + -1 < 0 by decide]
        generalize lvF (orT (CW C fo F none) A j (bc s)) C.1 (bc s) 0 (fun _ => 0) s (-1, fun _ => 0) = B at hpos b1 b2
        have hx36 : callR (k + 1000) n_X0_order [.ref 0, .int (nI j), .int w] (P d x m) = (bif !(w == (-1 : Int32)) then evR T_X0_order (callR (k + 999)) 80 ([(0, .ref 0), (2, .int w)], [], P d x1 m) else evR T_X0_order (callR (k + 999)) 73 ([(0, .ref 0)], [], P d x1 m)) := by
          have hpc := pc_all (k + 998) (P d x m) (nI s)
          rw [pc6 s hs64] at hpc
          have xf1 := xf x rfl
          have xf2 := xf (xF (xF x 15 (nI (bc s))) 22 (-1)) rfl
          simp (disch := omega) only [c_X0_order, e_X0_order_0, e_X0_order_7, e_X0_order_19, e_X0_order_36, isO_X, xv, c1, X_in, in_1_60, c2, in_m1_5, c3, rx_1, xf1, xf2, hpc, wx_15, wx_22, e1, cond_true, cond_false, Option.bind_some, rI_s, rV_s, bI_d0, bI_t0, cnd_ne, cnd_eq, if_true, if_false, not_true, Bool.true_eq_false, decide_true, not_false_iff]
        have hm36 : callR (k + 1000) n_X4_order [.ref 153, .int (nI j), .int w] (P d x1 m) = (bif !(w == (-1 : Int32)) then evR T_X4_order (callR (k + 999)) 63 ([(0, .ref 153), (2, .int w), (3, .int (nI s))], [], P d x1 m2) else evR T_X4_order (callR (k + 999)) 56 ([(0, .ref 153)], [], P d x1 m2)) := by
          simp (disch := omega) only [c_X4_order, e_X4_order_0, e_X4_order_7, e_X4_order_19, e_X4_order_36, isO_M, mv, c1, M_in, in_1_60, c2, in_m1_5, c3, mf, g1, g2, cond_true, cond_false, Option.bind_some, rI_s, rV_s, bI_d0, bI_t0, cnd_ne, cnd_eq, if_true, if_false, not_true, Bool.true_eq_false, decide_true, not_false_iff]
        by_cases cw : w = -1
        · refine ⟨B.1, x1, ?_, s1, m2, ?_, KM_sim k2 he2⟩
          · rw [hx36, cw]
            simp (disch := omega) only [cond_true, cond_false, Option.bind_some, rI_s, rL_s, rR_s, rV_s, cnd_d, cnd_ne, cnd_eq, bI_d0, bI_t0, ite_not, decide_eq_false_iff_not, decide_eq_true_eq, lg_cmp_ge, lg_cmp_le, lg_cmp_gt, lg_cmp_lt, lg_cmp_eq, okb_1, okb_0, okb_b, eq_self, if_true, if_false, Bool.true_eq_false, Bool.false_eq_true, e_X0_order_73, e_X0_order_99, rx_22, b1.1]
          · rw [hm36, cw]
            simp (disch := omega) only [cond_true, cond_false, Option.bind_some, rI_s, rL_s, rR_s, rV_s, cnd_d, cnd_ne, cnd_eq, bI_d0, bI_t0, ite_not, decide_eq_false_iff_not, decide_eq_true_eq, lg_cmp_ge, lg_cmp_le, lg_cmp_gt, lg_cmp_lt, lg_cmp_eq, okb_1, okb_0, okb_b, eq_self, if_true, if_false, Bool.true_eq_false, Bool.false_eq_true, e_X4_order_56, e_X4_order_82, rm_34, b2.1]
        · obtain ⟨h1, h2⟩ := of_decide_eq_true c3
          have hw0 : ¬ w < 0 := fun h => cw (by
            have h3 : w.toInt < 0 := Int32.lt_iff_toInt_lt.mp h
            have h4 : -1 ≤ w.toInt := Int32.le_iff_toInt_le.mp h1
            exact Int32.toInt_inj.mp (show w.toInt = -1 by omega))
          obtain ⟨z, hz, rfl⟩ := nI_of hw0
          have hz5 : z ≤ 5 := (nI_leI hz (by omega)).mp h2
          by_cases cz : bc s ≤ z
          · refine ⟨-2, x1, ?_, s1, m2, ?_, KM_sim k2 he2⟩
            · rw [hx36]
              simp (disch := omega) only [cond_true, cond_false, Option.bind_some, rI_s, rL_s, rR_s, rV_s, cnd_d, cnd_ne, cnd_eq, bI_d0, bI_t0, ite_not, decide_eq_false_iff_not, decide_eq_true_eq, lg_cmp_ge, lg_cmp_le, lg_cmp_gt, lg_cmp_lt, lg_cmp_eq, okb_1, okb_0, okb_b, eq_self, if_true, if_false, Bool.true_eq_false, Bool.false_eq_true, cw, e_X0_order_80, e_X0_order_97, e_X0_order_99, rx_15, f1, nI_leP, cz]
            · rw [hm36]
              simp (disch := omega) only [cond_true, cond_false, Option.bind_some, rI_s, rL_s, rR_s, rV_s, cnd_d, cnd_ne, cnd_eq, bI_d0, bI_t0, ite_not, decide_eq_false_iff_not, decide_eq_true_eq, lg_cmp_ge, lg_cmp_le, lg_cmp_gt, lg_cmp_lt, lg_cmp_eq, okb_1, okb_0, okb_b, eq_self, if_true, if_false, Bool.true_eq_false, Bool.false_eq_true, cw, e_X4_order_63, e_X4_order_80, e_X4_order_82, mb2, pc6 s hs64, nI_leP, cz]
          · refine ⟨nI (B.2 z), x1, ?_, s1, m2, ?_, KM_sim k2 he2⟩
            · rw [hx36]
              simp (disch := omega) only [cond_true, cond_false, Option.bind_some, rI_s, rL_s, rR_s, rV_s, cnd_d, cnd_ne, cnd_eq, bI_d0, bI_t0, ite_not, decide_eq_false_iff_not, decide_eq_true_eq, lg_cmp_ge, lg_cmp_le, lg_cmp_gt, lg_cmp_lt, lg_cmp_eq, okb_1, okb_0, okb_b, eq_self, if_true, if_false, Bool.true_eq_false, Bool.false_eq_true, cw, e_X0_order_80, e_X0_order_88, e_X0_order_99, rx_15, f1, nI_leP, cz, rx_14, lx_26, b1.2 hpos]
            · rw [hm36]
              simp (disch := omega) only [cond_true, cond_false, Option.bind_some, rI_s, rL_s, rR_s, rV_s, cnd_d, cnd_ne, cnd_eq, bI_d0, bI_t0, ite_not, decide_eq_false_iff_not, decide_eq_true_eq, lg_cmp_ge, lg_cmp_le, lg_cmp_gt, lg_cmp_lt, lg_cmp_eq, okb_1, okb_0, okb_b, eq_self, if_true, if_false, Bool.true_eq_false, Bool.false_eq_true, cw, e_X4_order_63, e_X4_order_71, e_X4_order_82, mb2, pc6 s hs64, nI_leP, cz, rm_33, lm_14, b2.2 hpos]
      | false =>
        refine ask_n (-3) ?_ ?_
        · simp (disch := omega) only [c_X0_order, e_X0_order_0, e_X0_order_7, e_X0_order_19, e_X0_order_33, cond_true, cond_false, Option.bind_some, rI_s, rL_s, rR_s, rV_s, cnd_d, cnd_ne, cnd_eq, bI_d0, bI_t0, ite_not, decide_eq_false_iff_not, decide_eq_true_eq, lg_cmp_ge, lg_cmp_le, lg_cmp_gt, lg_cmp_lt, lg_cmp_eq, okb_1, okb_0, okb_b, eq_self, if_true, if_false, Bool.true_eq_false, Bool.false_eq_true, isO_X, xv, c1, X_in, in_1_60, c2, in_m1_5, c3]
        · simp (disch := omega) only [c_X4_order, e_X4_order_0, e_X4_order_7, e_X4_order_19, e_X4_order_33, cond_true, cond_false, Option.bind_some, rI_s, rL_s, rR_s, rV_s, cnd_d, cnd_ne, cnd_eq, bI_d0, bI_t0, ite_not, decide_eq_false_iff_not, decide_eq_true_eq, lg_cmp_ge, lg_cmp_le, lg_cmp_gt, lg_cmp_lt, lg_cmp_eq, okb_1, okb_0, okb_b, eq_self, if_true, if_false, Bool.true_eq_false, Bool.false_eq_true, isO_M, mv, c1, M_in, in_1_60, c2, in_m1_5, c3]
    | false =>
      refine ask_n (-3) ?_ ?_
      · simp (disch := omega) only [c_X0_order, e_X0_order_0, e_X0_order_7, e_X0_order_33, cond_true, cond_false, Option.bind_some, rI_s, rL_s, rR_s, rV_s, cnd_d, cnd_ne, cnd_eq, bI_d0, bI_t0, ite_not, decide_eq_false_iff_not, decide_eq_true_eq, lg_cmp_ge, lg_cmp_le, lg_cmp_gt, lg_cmp_lt, lg_cmp_eq, okb_1, okb_0, okb_b, eq_self, if_true, if_false, Bool.true_eq_false, Bool.false_eq_true, isO_X, xv, c1, X_in, in_1_60, c2]
      · simp (disch := omega) only [c_X4_order, e_X4_order_0, e_X4_order_7, e_X4_order_33, cond_true, cond_false, Option.bind_some, rI_s, rL_s, rR_s, rV_s, cnd_d, cnd_ne, cnd_eq, bI_d0, bI_t0, ite_not, decide_eq_false_iff_not, decide_eq_true_eq, lg_cmp_ge, lg_cmp_le, lg_cmp_gt, lg_cmp_lt, lg_cmp_eq, okb_1, okb_0, okb_b, eq_self, if_true, if_false, Bool.true_eq_false, Bool.false_eq_true, isO_M, mv, c1, M_in, in_1_60, c2]
  · refine ask_n (-3) ?_ ?_
    · simp (disch := omega) only [c_X0_order, e_X0_order_0, e_X0_order_33, cond_true, cond_false, Option.bind_some, rI_s, rL_s, rR_s, rV_s, cnd_d, cnd_ne, cnd_eq, bI_d0, bI_t0, ite_not, decide_eq_false_iff_not, decide_eq_true_eq, lg_cmp_ge, lg_cmp_le, lg_cmp_gt, lg_cmp_lt, lg_cmp_eq, okb_1, okb_0, okb_b, eq_self, if_true, if_false, Bool.true_eq_false, Bool.false_eq_true, isO_X, xv, c1]
    · simp (disch := omega) only [c_X4_order, e_X4_order_0, e_X4_order_33, cond_true, cond_false, Option.bind_some, rI_s, rL_s, rR_s, rV_s, cnd_d, cnd_ne, cnd_eq, bI_d0, bI_t0, ite_not, decide_eq_false_iff_not, decide_eq_true_eq, lg_cmp_ge, lg_cmp_le, lg_cmp_gt, lg_cmp_lt, lg_cmp_eq, okb_1, okb_0, okb_b, eq_self, if_true, if_false, Bool.true_eq_false, Bool.false_eq_true, isO_M, mv, c1]
