/-! what can burn -/
def bc (s : Nat) : Nat := s % 2 + s / 2 % 2 + s / 4 % 2 + s / 8 % 2 + s / 16 % 2 + s / 32 % 2
theorem or64 : ∀ i, i < 6 → ∀ s, s < 64 → (hsB s i = true → s ||| 2 ^ i = s) ∧ (hsB s i = false → s < s ||| 2 ^ i ∧ bc (s ||| 2 ^ i) = bc s + 1) ∧ s ||| 2 ^ i < 64 := by decide
theorem bc_6 : ∀ s, s < 64 → bc s ≤ 6 ∧ (6 ≤ bc s → s = 63) := by decide
theorem hs63 : ∀ i, i < 6 → hsB 63 i = true := by decide
def psS (be wo : Nat → Int32) (i s : Nat) : Nat := if 0 < wo i ∧ ¬ be i &&& nI s = 0 then s ||| 2 ^ i else s
def psF (be wo : Nat → Int32) : Nat → Nat → Nat → Nat
  | 0, _, s => s
  | r + 1, i, s => psF be wo r (i + 1) (psS be wo i s)
theorem psS_p {be wo : Nat → Int32} {i s : Nat} (hi : i < 6) (hs : s < 64) : psS be wo i s < 64 ∧ (psS be wo i s = s ∨ (s < psS be wo i s ∧ bc (psS be wo i s) = bc s + 1)) := by
  unfold psS
  have := or64 i hi s hs
  split
  · refine ⟨this.2.2, ?_⟩
    cases c : hsB s i with
    | true => exact Or.inl (this.1 c)
    | false => exact Or.inr (this.2.1 c)
  · exact ⟨hs, Or.inl rfl⟩
theorem psF_p {be wo : Nat → Int32} : ∀ r i s, i + r ≤ 6 → s < 64 → psF be wo r i s < 64 ∧ (psF be wo r i s = s ∨ (s < psF be wo r i s ∧ bc s + 1 ≤ bc (psF be wo r i s)))
  | 0, _, s, _, hs => ⟨hs, Or.inl rfl⟩
  | r + 1, i, s, hi, hs => by
    obtain ⟨h1, h2⟩ := psS_p (be := be) (wo := wo) (i := i) (s := s) (by omega) hs
    obtain ⟨h3, h4⟩ := psF_p r (i + 1) (psS be wo i s) (by omega) h1
    rw [show psF be wo (r + 1) i s = psF be wo r (i + 1) (psS be wo i s) from rfl]
    refine ⟨h3, ?_⟩
    rcases h2 with h2 | h2
    · rw [h2] at h4 ⊢; exact h4
    · rcases h4 with h4 | h4
      · rw [h4]; exact Or.inr ⟨h2.1, by omega⟩
      · exact Or.inr ⟨by omega, by omega⟩
theorem psF_63 {be wo : Nat → Int32} : ∀ r i, i + r ≤ 6 → psF be wo r i 63 = 63
  | 0, _, _ => rfl
  | r + 1, i, hi => by
    have : psS be wo i 63 = 63 := by
      unfold psS
      split
      · exact (or64 i (by omega) 63 (by omega)).1 (hs63 i (by omega))
      · rfl
    show psF be wo r (i + 1) (psS be wo i 63) = 63
    rw [this]
    exact psF_63 r (i + 1) (by omega)
def itN (P : Nat → Nat) : Nat → Nat → Nat
  | 0, s => s
  | k + 1, s => itN P k (P s)
theorem itN_fix {P : Nat → Nat} {s : Nat} (h : P s = s) : ∀ k, itN P k s = s
  | 0 => rfl
  | k + 1 => by show itN P k (P s) = s; rw [h]; exact itN_fix h k
theorem ps_fix {be wo : Nat → Int32} {n : Nat} (hn : n ≤ 6) : ∀ k s, s < 64 → 6 ≤ bc s + k → psF be wo n 0 (itN (psF be wo n 0) k s) = itN (psF be wo n 0) k s
  | 0, s, hs, hb => by
    have : s = 63 := (bc_6 s hs).2 (by omega)
    subst this
    exact psF_63 n 0 (by omega)
  | k + 1, s, hs, hb => by
    obtain ⟨h1, h2⟩ := psF_p (be := be) (wo := wo) n 0 s (by omega) hs
    rcases h2 with h2 | h2
    · rw [itN_fix h2]; exact h2
    · exact ps_fix hn k (psF be wo n 0 s) h1 (by omega)
theorem or_nI {i s : Nat} (hi : i < 6) (hs : s < 64) : nI s ||| (1 : Int32) <<< (nI i &&& 31) = nI (s ||| 2 ^ i) := by
  have h2 : 2 ^ i < 64 := Nat.lt_of_le_of_lt (Nat.pow_le_pow_right (by omega) (show i ≤ 5 by omega)) (by omega)
  rw [bit6 i hi, or63 s hs _ h2]
theorem X_cbI (k : Nat) (d : AH) (x : XS) (m : MS) (C : AC) (A : AA) (h6 : C.1 ≤ 6) (hv : VP d (x.2.2.2.2.1 0) C) (hX : VX C A (x.2.2.2.1 0)) (o : Int32) : ∀ (r i s : Nat), i + r = C.1 → s < 64 → evR T_X0_canBurn (callR (k + 2)) 27 ([(0, .ref 0), (1, .int (nI s)), (2, .int o), (3, .int (nI i))], [], P d x m) = evR T_X0_canBurn (callR (k + 2)) 76 ([(0, .ref 0), (1, .int (nI (psF C.2.2.1 (A.1 0) r i s))), (2, .int o)], [], P d x m)
  | 0, i, s, hi, hs => by
    have e : i = C.1 := by omega
    subst e
    rw [e_X0_canBurn_27]
    simp (disch := omega) only [cond_true, cond_false, Option.bind_some, rI_s, rL_s, rR_s, rV_s, cnd_d, cnd_ne, cnd_eq, bI_d0, bI_t0, ite_not, decide_eq_false_iff_not, decide_eq_true_eq, lg_cmp_ge, lg_cmp_le, lg_cmp_gt, lg_cmp_lt, lg_cmp_eq, okb_1, okb_0, okb_b, eq_self, if_true, if_false, Bool.true_eq_false, Bool.false_eq_true, rx_0, X_houses k (hv.1 x m), le_rT]
    rfl
  | r + 1, i, s, hi, hs => by
    obtain ⟨bes, hb1, hb2⟩ := hv.2
    obtain ⟨be, e1, e2⟩ := hb1 x m
    have r0 : rdR (P d x m) 6 2 0 = some 7 := rp_0 d x m 0 (by omega)
    have l0 : ldI (P d x m) 7 0 (nI i) = some (A.1 0 i) := by rw [← (hX.1 i (by omega)).1]; exact lp_0 d x m 0 (by omega) i (by omega)
    have l1 : ldI (P d x m) be 0 (nI i) = some (C.2.2.1 i) := by rw [e2 i (by omega), hb2 i (by omega)]
    have hps := psS_p (be := C.2.2.1) (wo := A.1 0) (i := i) (s := s) (by omega) hs
    have hr := X_cbI k d x m C A h6 hv hX o r (i + 1) (psS C.2.2.1 (A.1 0) i s) (by omega) hps.1
    show _ = evR T_X0_canBurn (callR (k + 2)) 76 ([(0, .ref 0), (1, .int (nI (psF C.2.2.1 (A.1 0) r (i + 1) (psS C.2.2.1 (A.1 0) i s)))), (2, .int o)], [], P d x m)
    rw [← hr, e_X0_canBurn_27]
    unfold psS
    by_cases c1 : 0 < A.1 0 i
    · by_cases c2 : C.2.2.1 i &&& nI s = 0
      · rw [if_neg (fun q => q.2 c2)]
        simp (disch := omega) only [e_X0_canBurn_38, e_X0_canBurn_50, e_X0_canBurn_70, cond_true, cond_false, Option.bind_some, rI_s, rL_s, rR_s, rV_s, cnd_d, cnd_ne, cnd_eq, bI_d0, bI_t0, ite_not, decide_eq_false_iff_not, decide_eq_true_eq, lg_cmp_ge, lg_cmp_le, lg_cmp_gt, lg_cmp_lt, lg_cmp_eq, okb_1, okb_0, okb_b, eq_self, if_true, if_false, Bool.true_eq_false, Bool.false_eq_true, rx_0, rx_1, X_houses k (hv.1 x m), nI_leP, if_neg (show ¬ C.1 ≤ i by omega), r0, l0, e1, l1, Int32.not_le.mpr c1, c2, nI_1]
      · rw [if_pos ⟨c1, c2⟩]
        simp (disch := omega) only [e_X0_canBurn_38, e_X0_canBurn_50, e_X0_canBurn_64, e_X0_canBurn_70, cond_true, cond_false, Option.bind_some, rI_s, rL_s, rR_s, rV_s, cnd_d, cnd_ne, cnd_eq, bI_d0, bI_t0, ite_not, decide_eq_false_iff_not, decide_eq_true_eq, lg_cmp_ge, lg_cmp_le, lg_cmp_gt, lg_cmp_lt, lg_cmp_eq, okb_1, okb_0, okb_b, eq_self, if_true, if_false, Bool.true_eq_false, Bool.false_eq_true, rx_0, rx_1, X_houses k (hv.1 x m), nI_leP, if_neg (show ¬ C.1 ≤ i by omega), r0, l0, e1, l1, Int32.not_le.mpr c1, c2, nI_1, or_nI]
    · rw [if_neg (fun q => c1 q.1)]
      simp (disch := omega) only [e_X0_canBurn_38, e_X0_canBurn_70, cond_true, cond_false, Option.bind_some, rI_s, rL_s, rR_s, rV_s, cnd_d, cnd_ne, cnd_eq, bI_d0, bI_t0, ite_not, decide_eq_false_iff_not, decide_eq_true_eq, lg_cmp_ge, lg_cmp_le, lg_cmp_gt, lg_cmp_lt, lg_cmp_eq, okb_1, okb_0, okb_b, eq_self, if_true, if_false, Bool.true_eq_false, Bool.false_eq_true, rx_0, rx_1, X_houses k (hv.1 x m), nI_leP, if_neg (show ¬ C.1 ≤ i by omega), r0, l0, Int32.not_lt.mp c1, nI_1]
theorem X_cbO (k : Nat) (d : AH) (x : XS) (m : MS) (C : AC) (A : AA) (h6 : C.1 ≤ 6) (hv : VP d (x.2.2.2.2.1 0) C) (hX : VX C A (x.2.2.2.1 0)) : ∀ (r i s : Nat), i + r = 6 → s < 64 → evR T_X0_canBurn (callR (k + 2)) 19 ([(0, .ref 0), (1, .int (nI s)), (2, .int (nI i))], [], P d x m) = some (.inl (some (.int (nI (itN (psF C.2.2.1 (A.1 0) C.1 0) r s)))), P d x m)
  | 0, i, s, hi, hs => by
    have e : i = 6 := by omega
    subst e
    rw [e_X0_canBurn_19]
    simp (disch := omega) only [e_X0_canBurn_82, cond_true, cond_false, Option.bind_some, rI_s, rL_s, rR_s, rV_s, cnd_d, cnd_ne, cnd_eq, bI_d0, bI_t0, ite_not, decide_eq_false_iff_not, decide_eq_true_eq, lg_cmp_ge, lg_cmp_le, lg_cmp_gt, lg_cmp_lt, lg_cmp_eq, okb_1, okb_0, okb_b, eq_self, if_true, if_false, Bool.true_eq_false, Bool.false_eq_true, li_6, le_rT]
    rfl
  | r + 1, i, s, hi, hs => by
    have hn6 : ¬ (6 : Int32) ≤ nI i := by rw [show (6 : Int32) = nI 6 from rfl, nI_leP (by omega) (by omega)]; omega
    have e1 := X_cbI k d x m C A h6 hv hX (nI i) C.1 0 s (by omega) hs
    have hp := (psF_p (be := C.2.2.1) (wo := A.1 0) C.1 0 s (by omega) hs).1
    have hr := X_cbO k d x m C A h6 hv hX r (i + 1) (psF C.2.2.1 (A.1 0) C.1 0 s) (by omega) hp
    rw [show itN (psF C.2.2.1 (A.1 0) C.1 0) (r + 1) s = itN (psF C.2.2.1 (A.1 0) C.1 0) r (psF C.2.2.1 (A.1 0) C.1 0 s) from rfl]
    rw [nI_0] at e1
    rw [← hr, e_X0_canBurn_19]
    simp (disch := omega) only [e_X0_canBurn_25, cond_true, cond_false, Option.bind_some, rI_s, rL_s, rR_s, rV_s, cnd_d, cnd_ne, cnd_eq, bI_d0, bI_t0, ite_not, decide_eq_false_iff_not, decide_eq_true_eq, lg_cmp_ge, lg_cmp_le, lg_cmp_gt, lg_cmp_lt, lg_cmp_eq, okb_1, okb_0, okb_b, eq_self, if_true, if_false, Bool.true_eq_false, Bool.false_eq_true, hn6, e1, e_X0_canBurn_76, nI_1]
theorem M_cbI (k : Nat) (d : AH) (x : XS) (m : MS) (C : AC) (wo : Nat → Int32) (h6 : C.1 ≤ 6) (h3 : m.2.1 10 3 = nI C.1) (hb : ∀ h, h < C.1 → m.2.1 10 (38 + h) = C.2.2.1 h) (hw : ∀ h, h < C.1 → m.2.1 10 (14 + 4 * h) = wo h ∧ 0 ≤ wo h) : ∀ (r i s : Nat) (f : Int32), i + r = C.1 → s < 64 → evR T_X4_canBurn (callR (k + 1)) 24 ([(0, .ref 153), (1, .int (nI s)), (2, .int f), (3, .int (nI i))], [], P d x m) = evR T_X4_canBurn (callR (k + 1)) 81 ([(0, .ref 153), (1, .int (nI (psF C.2.2.1 wo r i s))), (2, .int (if psF C.2.2.1 wo r i s = s then f else 1))], [], P d x m)
  | 0, i, s, f, hi, hs => by
    have e : i = C.1 := by omega
    subst e
    rw [e_X4_canBurn_24]
    simp (disch := omega) only [cond_true, cond_false, Option.bind_some, rI_s, rL_s, rR_s, rV_s, cnd_d, cnd_ne, cnd_eq, bI_d0, bI_t0, ite_not, decide_eq_false_iff_not, decide_eq_true_eq, lg_cmp_ge, lg_cmp_le, lg_cmp_gt, lg_cmp_lt, lg_cmp_eq, okb_1, okb_0, okb_b, eq_self, if_true, if_false, Bool.true_eq_false, Bool.false_eq_true, li_3, rm_21, lm_10, h3, le_rT]
    rw [if_pos (show psF C.2.2.1 wo 0 C.1 s = s from rfl)]
    rfl
  | r + 1, i, s, f, hi, hs => by
    have hh := M_isOf k (P d x m) s i hs (by omega)
    have hwi := hw i (by omega)
    have w0 : callR (k + 1) n_X4_worthOf [.ref 153, .int (nI i)] (P d x m) = some (.inl (some (.int (wo i))), P d x m) := by rw [M_worthOf k d x m i (by omega), hwi.1]
    have l1 : ldI (P d x m) 163 0 (nI (38 + i)) = some (C.2.2.1 i) := by rw [← hb i (by omega)]; exact lm_10 d x m _ (by omega)
    have e38 : (38 : Int32) + nI i = nI (38 + i) := nI_add 38 i
    have h64 := or64 i (by omega) s hs
    have hps := psS_p (be := C.2.2.1) (wo := wo) (i := i) (s := s) (by omega) hs
    have hpf := psF_p (be := C.2.2.1) (wo := wo) r (i + 1) (psS C.2.2.1 wo i s) (by omega) hps.1
    have hu : psF C.2.2.1 wo (r + 1) i s = psF C.2.2.1 wo r (i + 1) (psS C.2.2.1 wo i s) := rfl
    rw [hu]
    by_cases c : 0 < wo i ∧ ¬ C.2.2.1 i &&& nI s = 0
    · have hS : psS C.2.2.1 wo i s = s ||| 2 ^ i := if_pos c
      cases hB : hsB s i with
      | true =>
        rw [hB] at hh
        have hr := M_cbI k d x m C wo h6 h3 hb hw r (i + 1) s f (by omega) hs
        rw [hS, h64.1 hB, ← hr, e_X4_canBurn_24]
        simp (disch := omega) only [e_X4_canBurn_34, e_X4_canBurn_75, cond_true, cond_false, Option.bind_some, rI_s, rL_s, rR_s, rV_s, cnd_d, cnd_ne, cnd_eq, bI_d0, bI_t0, ite_not, decide_eq_false_iff_not, decide_eq_true_eq, lg_cmp_ge, lg_cmp_le, lg_cmp_gt, lg_cmp_lt, lg_cmp_eq, okb_1, okb_0, okb_b, eq_self, if_true, if_false, Bool.true_eq_false, Bool.false_eq_true, li_3, rm_21, lm_10, h3, nI_leP, if_neg (show ¬ C.1 ≤ i by omega), hh, nI_1]
      | false =>
        rw [hB] at hh
        have hgt := (h64.2.1 hB).1
        rw [hS] at hpf ⊢
        have hr := M_cbI k d x m C wo h6 h3 hb hw r (i + 1) (s ||| 2 ^ i) 1 (by omega) h64.2.2
        have hne : ¬ psF C.2.2.1 wo r (i + 1) (s ||| 2 ^ i) = s := by
          rcases hpf.2 with h | h <;> omega
        rw [if_neg hne]
        have hnz : ¬ wo i = 0 := fun q => by rw [q] at c; exact absurd c.1 (by decide)
        have h1 : (if psF C.2.2.1 wo r (i + 1) (s ||| 2 ^ i) = s ||| 2 ^ i then (1 : Int32) else 1) = 1 := by split <;> rfl
        rw [h1] at hr
        rw [← hr, e_X4_canBurn_24]
        simp (disch := omega) only [e_X4_canBurn_34, e_X4_canBurn_42, e_X4_canBurn_50, e_X4_canBurn_67, e_X4_canBurn_75, cond_true, cond_false, Option.bind_some, rI_s, rL_s, rR_s, rV_s, cnd_d, cnd_ne, cnd_eq, bI_d0, bI_t0, ite_not, decide_eq_false_iff_not, decide_eq_true_eq, lg_cmp_ge, lg_cmp_le, lg_cmp_gt, lg_cmp_lt, lg_cmp_eq, okb_1, okb_0, okb_b, eq_self, if_true, if_false, Bool.true_eq_false, Bool.false_eq_true, show (3 : Int32) = nI 3 from rfl, rm_21, lm_10 d x m 3, h3, nI_leP, if_neg (show ¬ C.1 ≤ i by omega), hh, w0, hnz, e38, l1, c.2, or_nI, nI_1]
    · have hS : psS C.2.2.1 wo i s = s := if_neg c
      have hr := M_cbI k d x m C wo h6 h3 hb hw r (i + 1) s f (by omega) hs
      rw [hS, ← hr, e_X4_canBurn_24]
      cases hB : hsB s i with
      | true =>
        rw [hB] at hh
        simp (disch := omega) only [e_X4_canBurn_34, e_X4_canBurn_75, cond_true, cond_false, Option.bind_some, rI_s, rL_s, rR_s, rV_s, cnd_d, cnd_ne, cnd_eq, bI_d0, bI_t0, ite_not, decide_eq_false_iff_not, decide_eq_true_eq, lg_cmp_ge, lg_cmp_le, lg_cmp_gt, lg_cmp_lt, lg_cmp_eq, okb_1, okb_0, okb_b, eq_self, if_true, if_false, Bool.true_eq_false, Bool.false_eq_true, show (3 : Int32) = nI 3 from rfl, rm_21, lm_10 d x m 3, h3, nI_leP, if_neg (show ¬ C.1 ≤ i by omega), hh, nI_1]
      | false =>
        rw [hB] at hh
        by_cases c1 : wo i = 0
        · simp (disch := omega) only [e_X4_canBurn_34, e_X4_canBurn_42, e_X4_canBurn_75, cond_true, cond_false, Option.bind_some, rI_s, rL_s, rR_s, rV_s, cnd_d, cnd_ne, cnd_eq, bI_d0, bI_t0, ite_not, decide_eq_false_iff_not, decide_eq_true_eq, lg_cmp_ge, lg_cmp_le, lg_cmp_gt, lg_cmp_lt, lg_cmp_eq, okb_1, okb_0, okb_b, eq_self, if_true, if_false, Bool.true_eq_false, Bool.false_eq_true, show (3 : Int32) = nI 3 from rfl, rm_21, lm_10 d x m 3, h3, nI_leP, if_neg (show ¬ C.1 ≤ i by omega), hh, w0, c1, nI_1]
        · have c2 : C.2.2.1 i &&& nI s = 0 := by
            by_cases z : C.2.2.1 i &&& nI s = 0
            · exact z
            · exact absurd ⟨by by_cases y : 0 < wo i; exact y; exact absurd (by rw [i_ne0 hwi.2]; exact y) c1, z⟩ c
          simp (disch := omega) only [e_X4_canBurn_34, e_X4_canBurn_42, e_X4_canBurn_50, e_X4_canBurn_64, e_X4_canBurn_75, cond_true, cond_false, Option.bind_some, rI_s, rL_s, rR_s, rV_s, cnd_d, cnd_ne, cnd_eq, bI_d0, bI_t0, ite_not, decide_eq_false_iff_not, decide_eq_true_eq, lg_cmp_ge, lg_cmp_le, lg_cmp_gt, lg_cmp_lt, lg_cmp_eq, okb_1, okb_0, okb_b, eq_self, if_true, if_false, Bool.true_eq_false, Bool.false_eq_true, show (3 : Int32) = nI 3 from rfl, rm_21, lm_10 d x m 3, h3, nI_leP, if_neg (show ¬ C.1 ≤ i by omega), hh, w0, c1, e38, l1, c2, nI_1]
theorem M_cbO (k : Nat) (d : AH) (x : XS) (m : MS) (C : AC) (wo : Nat → Int32) (h6 : C.1 ≤ 6) (h3 : m.2.1 10 3 = nI C.1) (hb : ∀ h, h < C.1 → m.2.1 10 (38 + h) = C.2.2.1 h) (hw : ∀ h, h < C.1 → m.2.1 10 (14 + 4 * h) = wo h ∧ 0 ≤ wo h) : ∀ (r s : Nat), s < 64 → psF C.2.2.1 wo C.1 0 (itN (psF C.2.2.1 wo C.1 0) r s) = itN (psF C.2.2.1 wo C.1 0) r s → evR T_X4_canBurn (callR (k + 1)) 16 ([(0, .ref 153), (1, .int (nI s)), (2, .int 1)], [], P d x m) = some (.inl (some (.int (nI (itN (psF C.2.2.1 wo C.1 0) r s)))), P d x m) := by
  have one : ∀ s, s < 64 → evR T_X4_canBurn (callR (k + 1)) 16 ([(0, .ref 153), (1, .int (nI s)), (2, .int 1)], [], P d x m) = evR T_X4_canBurn (callR (k + 1)) 16 ([(0, .ref 153), (1, .int (nI (psF C.2.2.1 wo C.1 0 s))), (2, .int (if psF C.2.2.1 wo C.1 0 s = s then 0 else 1))], [], P d x m) := by
    intro s hs
    have e1 := M_cbI k d x m C wo h6 h3 hb hw C.1 0 s 0 (by omega) hs
    rw [nI_0] at e1
    rw [e_X4_canBurn_16]
    simp (disch := omega) only [cond_true, cond_false, Option.bind_some, rI_s, rL_s, rR_s, rV_s, cnd_d, cnd_ne, cnd_eq, bI_d0, bI_t0, ite_not, decide_eq_false_iff_not, decide_eq_true_eq, lg_cmp_ge, lg_cmp_le, lg_cmp_gt, lg_cmp_lt, lg_cmp_eq, okb_1, okb_0, okb_b, eq_self, if_true, if_false, Bool.true_eq_false, Bool.false_eq_true, e_X4_canBurn_20, show ¬ (1 : Int32) = 0 by decide, e1, e_X4_canBurn_81]
  have stop : ∀ s, s < 64 → psF C.2.2.1 wo C.1 0 s = s → evR T_X4_canBurn (callR (k + 1)) 16 ([(0, .ref 153), (1, .int (nI s)), (2, .int 1)], [], P d x m) = some (.inl (some (.int (nI s))), P d x m) := by
    intro s hs hf
    rw [one s hs, if_pos hf, hf, e_X4_canBurn_16]
    simp (disch := omega) only [cond_true, cond_false, Option.bind_some, rI_s, rL_s, rR_s, rV_s, cnd_d, cnd_ne, cnd_eq, bI_d0, bI_t0, ite_not, decide_eq_false_iff_not, decide_eq_true_eq, lg_cmp_ge, lg_cmp_le, lg_cmp_gt, lg_cmp_lt, lg_cmp_eq, okb_1, okb_0, okb_b, eq_self, if_true, if_false, Bool.true_eq_false, Bool.false_eq_true, e_X4_canBurn_84]
  intro r
  induction r with
  | zero =>
    intro s hs hf
    exact stop s hs hf
  | succ r ih =>
    intro s hs hf
    by_cases c : psF C.2.2.1 wo C.1 0 s = s
    · rw [stop s hs c, itN_fix c]
    · rw [one s hs, if_neg c]
      exact ih _ (psF_p (be := C.2.2.1) (wo := wo) C.1 0 s (by omega) hs).1 hf
theorem op_canBurn : AskOK n_X0_canBurn n_X4_canBurn [] := by
  intro Z d x m hR k
  obtain ⟨C, A, n, u, a, t, nr, F, fo, hP, hS⟩ := Rel_to hR
  obtain ⟨hZ, hV, hN, hPR, hT, hRR, hF, hD, hBr, hI⟩ := id hP
  have hvp := (hV.2.1 d (Ext_refl Z d)).1
  have h6 := hV.1.1.2
  have hfl := flag_eq hV
  have xv := X_isValley (k + 998) d x m C (hvp.1 x m)
  have mv : ∀ x, _ := fun x => M_isValley (k + 998) d x m
  rw [hfl] at mv
  by_cases c1 : 0 < C.2.2.2.1
  · obtain ⟨s, hs, es⟩ := hot_nI (A.1 1) C.1 h6
    have ef : callR (k + 999) n_X2_fires [.ref 6] (P d x m) = some (.inl (some (.int (nI s))), P d x m) := by
      rw [← es]; exact X_fires0 (k + 998) d x m 0 (by omega) C A h6 hS.2.1
    have mf : callR (k + 999) n_X4_fires [.ref 153] (P d x m) = some (.inl (some (.int (nI s))), P d x m) := by
      rw [M_fires (k + 997) d x m C.1 h6 hV.1.1.1, orI_c fun i hi => hotB_c (hS.1.1 i hi).2.1, es]
    have e1 := X_cbO (k + 997) d x m C A h6 hvp hS.2.1 6 0 s (by omega) hs
    have e2 := M_cbO (k + 998) d x m C (A.1 0) h6 hV.1.1.1 hV.1.2.2.1 (fun h hh => ⟨(hS.1.1 h hh).1, (hS.2.2.2.2.2.2.1 h hh).1⟩) 6 s hs (ps_fix h6 6 s hs (by omega))
    rw [nI_0] at e1
    refine ask_n (nI (itN (psF C.2.2.1 (A.1 0) C.1 0) 6 s)) ?_ ?_
    · simp (disch := omega) only [c_X0_canBurn, e_X0_canBurn_0, e_X0_canBurn_9, cond_true, cond_false, Option.bind_some, rI_s, rL_s, rR_s, rV_s, cnd_d, cnd_ne, cnd_eq, bI_d0, bI_t0, ite_not, decide_eq_false_iff_not, decide_eq_true_eq, lg_cmp_ge, lg_cmp_le, lg_cmp_gt, lg_cmp_lt, lg_cmp_eq, okb_1, okb_0, okb_b, eq_self, if_true, if_false, Bool.true_eq_false, Bool.false_eq_true, isO_X, xv, c1, rx_1, ef, e1]
    · simp (disch := omega) only [c_X4_canBurn, e_X4_canBurn_0, e_X4_canBurn_9, cond_true, cond_false, Option.bind_some, rI_s, rL_s, rR_s, rV_s, cnd_d, cnd_ne, cnd_eq, bI_d0, bI_t0, ite_not, decide_eq_false_iff_not, decide_eq_true_eq, lg_cmp_ge, lg_cmp_le, lg_cmp_gt, lg_cmp_lt, lg_cmp_eq, okb_1, okb_0, okb_b, eq_self, if_true, if_false, Bool.true_eq_false, Bool.false_eq_true, isO_M, mv, c1, mf, e2]
  · refine ask_n (-1) ?_ ?_
    · simp (disch := omega) only [c_X0_canBurn, e_X0_canBurn_0, e_X0_canBurn_7, cond_true, cond_false, Option.bind_some, rI_s, rL_s, rR_s, rV_s, cnd_d, cnd_ne, cnd_eq, bI_d0, bI_t0, ite_not, decide_eq_false_iff_not, decide_eq_true_eq, lg_cmp_ge, lg_cmp_le, lg_cmp_gt, lg_cmp_lt, lg_cmp_eq, okb_1, okb_0, okb_b, eq_self, if_true, if_false, Bool.true_eq_false, Bool.false_eq_true, isO_X, xv, c1]
    · simp (disch := omega) only [c_X4_canBurn, e_X4_canBurn_0, e_X4_canBurn_7, cond_true, cond_false, Option.bind_some, rI_s, rL_s, rR_s, rV_s, cnd_d, cnd_ne, cnd_eq, bI_d0, bI_t0, ite_not, decide_eq_false_iff_not, decide_eq_true_eq, lg_cmp_ge, lg_cmp_le, lg_cmp_gt, lg_cmp_lt, lg_cmp_eq, okb_1, okb_0, okb_b, eq_self, if_true, if_false, Bool.true_eq_false, Bool.false_eq_true, isO_M, mv, c1]
