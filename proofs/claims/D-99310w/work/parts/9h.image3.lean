theorem lr_152 (d : AH) (x : XS) (m : MS) (k i : Nat) (hk : k < 4) (h : x.2.2.2.2.2 152 k = some i) : ldR (P d x m) 152 6 (nI k) = some i := by
  unfold ldR
  rw [lq_152 d x m k hk, h]
theorem image_fin {Z Z' : Nat → Bool} {d dd : AH} {x x1 : XS} {m : MS} {C : AC} {A : AA} {n u a t nr : Nat} {F : Nat → (Nat → Int64) → Int64} {fo : Option Nat} (hP : RelP Z d x m C n u a t nr F fo) (hS : RelS x m C A) (kk : Nat) (hk : kk < 4) (i : Nat) (e1 : x1.1 = x.1) (e2 : x1.2.1 = x.2.1) (e4 : x1.2.2.2.1 = x.2.2.2.1) (e5 : x1.2.2.2.2.1 = x.2.2.2.2.1) (e6 : ∀ j, j ≠ 152 → x1.2.2.2.2.2 j = x.2.2.2.2.2 j) (e7 : x1.2.2.2.2.2 152 = va_up (x.2.2.2.2.2 152) kk (some i)) (h1 : 175 ≤ i) (h2 : i + 9 ≤ dd.1 + 175) (hz : ∀ q, q < d.1 + 175 → Z' q = Z q) (hzi : ∀ r, r < 9 → Z' (i + r) = true) (hzb : ∀ a, Z' a = true → 175 ≤ a ∧ a < dd.1 + 175) (hd : d.1 ≤ dd.1) (hd2 : dd.2.2 = d.2.2) (hdis : ∀ k', k' < 4 → k' ≠ kk → ∀ i', x.2.2.2.2.2 152 k' = some i' → i' + 9 ≤ i ∨ i + 9 ≤ i') (w : Value) (s0 : SS) (nw0 nwh0 : Nat → Int32) (nn0 fo0 dr0 : Int32) (k : Nat) : ∃ (r : Int32) (d' : AH) (m' : MS), evR T_X0_image (callR (k + 999)) 37 ([(0, .ref 0), (1, .int (nI kk))], [], P (IP dd i w s0 nw0 nwh0 nn0 fo0 dr0) x1 m) = some (.inl (some (.int r)), P d' x1 m) ∧ callR (k + 1000) n_X4_image [.ref 153, .int (nI kk)] (P d' x1 m) = some (.inl (some (.int r)), P d' x1 m') ∧ Rel Z' d' x1 m' ∧ d'.1 = dd.1 ∧ d'.2.1 = dd.2.1 := by
  obtain ⟨hZ, hV, hN, hPR, hT, hRR, hF, hD, hBr, hI⟩ := hP
  obtain ⟨hA, hX, hW⟩ := hS
  have h6 := hV.1.1.2
  obtain ⟨s', nw', nwh', g1, q1, q2⟩ := X17_keep (k + 997) h1 h2 x1 m w s0 nw0 nwh0 nn0 fo0 dr0
  have hext : ∀ s nw nwh nn fo dr, Ext Z d (IP dd i (.ref (x1.2.2.2.2.1 0)) s nw nwh nn fo dr) := fun s nw nwh nn fo dr => ⟨hd, fun q hq hZq => by
    show (if i ≤ q ∧ q < i + 9 then _ else dd.2.2 q) = d.2.2 q
    have : ¬ (i ≤ q ∧ q < i + 9) := fun c => by
      have := hzi (q - i) (by omega)
      rw [show i + (q - i) = q by omega, hz q hq, hZq] at this
      exact absurd this (by decide)
    rw [if_neg this, hd2]⟩
  have hE := hext s' nw' nwh' (x1.1 10) (x1.1 4) (x1.1 11)
  have z1 := mA_o m 21 kk 1
  obtain ⟨m', g2, c2⟩ := M_imageL (callR (k + 999)) (IP dd i (.ref (x1.2.2.2.2.1 0)) s' nw' nwh' (x1.1 10) (x1.1 4) (x1.1 11)) x1 (mA (mA (mA m 21 kk 1) 19 kk (m.1 22)) 20 kk (m.1 23)) kk hk 132 0 _ (by omega) (CpM_0 _ _ _ _)
  have ej : ∀ j, j ≠ 18 → j ≠ 19 → j ≠ 20 → j ≠ 21 → m'.2.1 j = m.2.1 j := fun j a b c f => by rw [c2.2.2.1 j a, mA_o _ _ _ _ _ c, mA_o _ _ _ _ _ b, mA_o _ _ _ _ _ f]
  have ef : m'.1 = m.1 := c2.2.2.2.1
  have eL : ∀ c, c < 132 → m'.2.1 18 (132 * kk + c) = m.2.1 10 c := fun c hc => by
    rw [c2.1 c hc, mA_o _ _ _ _ _ (by omega), mA_o _ _ _ _ _ (by omega), mA_o _ _ _ _ _ (by omega)]
  have eN : ∀ k', k' < 4 → k' ≠ kk → ∀ c, c < 132 → m'.2.1 18 (132 * k' + c) = m.2.1 18 (132 * k' + c) := fun k' hk' hne c hc => by
    rw [c2.2.1 _ (by omega), mA_o _ _ _ _ _ (by omega), mA_o _ _ _ _ _ (by omega), mA_o _ _ _ _ _ (by omega)]
  have hu : ∀ (m : MS) j z v q, (mA m j z v).2.1 j q = if q = z then v else m.2.1 j q := fun m j z v q => by simp [mA, va_up]
  have e19 : ∀ q, m'.2.1 19 q = if q = kk then m.1 22 else m.2.1 19 q := fun q => by rw [c2.2.2.1 19 (by omega), mA_o _ _ _ _ _ (by omega), hu, mA_o _ _ _ _ _ (by omega)]
  have e20 : ∀ q, m'.2.1 20 q = if q = kk then m.1 23 else m.2.1 20 q := fun q => by rw [c2.2.2.1 20 (by omega), hu, mA_o _ _ _ _ _ (by omega), mA_o _ _ _ _ _ (by omega)]
  have e21 : ∀ q, m'.2.1 21 q = if q = kk then 1 else m.2.1 21 q := fun q => by rw [c2.2.2.1 21 (by omega), mA_o _ _ _ _ _ (by omega), mA_o _ _ _ _ _ (by omega), hu]
  refine ⟨A.2.1 1, IP dd i (.ref (x1.2.2.2.2.1 0)) s' nw' nwh' (x1.1 10) (x1.1 4) (x1.1 11), m', ?_, ?_, ?_, rfl, rfl⟩
  · have hl := lr_152 (IP dd i w s0 nw0 nwh0 nn0 fo0 dr0) x1 m kk i hk (by rw [e7, va_up_self])
    have g1' : callR (k + 999) n_X17_keep [.ref i] (P (IP dd i w s0 nw0 nwh0 nn0 fo0 dr0) x1 m) = _ := g1
    have r9 : rdI (P (IP dd i (.ref (x1.2.2.2.2.1 0)) s' nw' nwh' (x1.1 10) (x1.1 4) (x1.1 11)) x1 m) 6 2 9 = some (A.2.1 1) := by rw [← hX.2.2.1.2.1, ← e4]; exact rp_9 _ x1 m 0 (by omega)
    rw [e_X0_image_37]
    simp (disch := omega) only [cond_true, cond_false, Option.bind_some, rI_s, rL_s, rR_s, rV_s, cnd_d, cnd_ne, cnd_eq, bI_d0, bI_t0, ite_not, decide_eq_false_iff_not, decide_eq_true_eq, lg_cmp_ge, lg_cmp_le, lg_cmp_gt, lg_cmp_lt, lg_cmp_eq, okb_1, okb_0, okb_b, eq_self, if_true, if_false, Bool.true_eq_false, Bool.false_eq_true, rx_27, hl, g1', rx_1, r9]
  · have hin := in_0_3 (nI kk)
    have hiT : inI 0 3 (nI kk) = true := decide_eq_true ⟨nI_pos' (by omega), (nI_leI (b := 3) (by omega) (by omega)).mpr (by omega)⟩
    have g2' : evR T_X4_image (callR (k + 999)) 43 ([(0, .ref 153), (1, .int (nI kk)), (2, .int 0)], [], P (IP dd i (.ref (x1.2.2.2.2.1 0)) s' nw' nwh' (x1.1 10) (x1.1 4) (x1.1 11)) x1 (mA (mA (mA m 21 kk 1) 19 kk (m.1 22)) 20 kk (m.1 23))) = some (.inl (some (.int (A.2.1 1))), P (IP dd i (.ref (x1.2.2.2.2.1 0)) s' nw' nwh' (x1.1 10) (x1.1 4) (x1.1 11)) x1 m') := by
      rw [show A.2.1 1 = (mA (mA (mA m 21 kk 1) 19 kk (m.1 22)) 20 kk (m.1 23)).2.1 10 10 by rw [mA_o _ _ _ _ _ (by omega), mA_o _ _ _ _ _ (by omega), mA_o _ _ _ _ _ (by omega)]; exact hA.2.1.2.1.symm]
      exact g2
    simp (disch := omega) only [c_X4_image, e_X4_image_0, e_X4_image_14, cond_true, cond_false, Option.bind_some, rI_s, rL_s, rR_s, rV_s, cnd_d, cnd_ne, cnd_eq, bI_d0, bI_t0, ite_not, decide_eq_false_iff_not, decide_eq_true_eq, lg_cmp_ge, lg_cmp_le, lg_cmp_gt, lg_cmp_lt, lg_cmp_eq, okb_1, okb_0, okb_b, eq_self, if_true, if_false, Bool.true_eq_false, Bool.false_eq_true, isO_M, M_in, hin, hiT, rm_42, rm_40, rm_41, rm_22, rm_23, show vp_nar .boolean (1 : Int32) = 1 from rfl, sm_21, sm_19, sm_20, show ∀ (m : MS) (j i : Nat) (v : Int32), (mA m j i v).1 = m.1 from fun _ _ _ _ => rfl, g2']
  · have hV' : VR Z' (IP dd i (.ref (x1.2.2.2.2.1 0)) s' nw' nwh' (x1.1 10) (x1.1 4) (x1.1 11)) (x1.2.2.2.2.1 0) (m'.2.1 10) C := by rw [ej 10 (by omega) (by omega) (by omega) (by omega), e5]; rw [e5] at hE; exact VR_ext hz hE hV
    have hVI : VR Z' (IP dd i (.ref (x1.2.2.2.2.1 0)) s' nw' nwh' (x1.1 10) (x1.1 4) (x1.1 11)) (x1.2.2.2.2.1 0) (fun c => m'.2.1 18 (132 * kk + c)) C := VR_c hV' fun i hi => by rw [ej 10 (by omega) (by omega) (by omega) (by omega)]; exact eL i (by omega)
    have hAI : VAs C A (fun c => m'.2.1 18 (132 * kk + c)) := VAs_c h6 hA fun i hi => eL i (by omega)
    have hNI : NR nw' nwh' (x1.1 10) (fun c => m'.2.1 18 (132 * kk + c)) n := by
      rw [e1]
      exact NR_c (NR_w hN fun i hi => by rw [(q2 i hi).1, (q2 i hi).2, e2]; exact ⟨rfl, rfl⟩) fun i hi => eL i hi
    have hXI : VX C A s' := VX_EqS h6 hX (by rw [← e4]; exact q1)
    refine Rel_of (C := C) (A := A) (n := n) (u := u) (a := a) (t := t) (nr := nr) (F := F) (fo := fo) ⟨hzb, hV', ?_, ?_, ?_, ?_, ?_, ?_, ?_, ?_⟩ ⟨?_, ?_, hW⟩
    · rw [e2, e1, ej 10 (by omega) (by omega) (by omega) (by omega)]; exact hN
    · obtain ⟨p1, p2, p3, p4, p5, p6⟩ := hPR
      refine ⟨p1, p2, by rw [e1]; exact p3, by rw [ef]; exact p4, by rw [e1]; exact p5, fun j hj => ?_⟩
      rw [e4, ej 10 (by omega) (by omega) (by omega) (by omega), ej 12 (by omega) (by omega) (by omega) (by omega)]
      exact p6 j hj
    · obtain ⟨p1, p2, p3, p4⟩ := hT
      exact ⟨p1, by rw [e1]; exact p2, by rw [ef]; exact p3, fun i hi => by rw [e2, ej 1 (by omega) (by omega) (by omega) (by omega)]; exact p4 i hi⟩
    · exact RR_ext hz hE hRR (by rw [e5]) (by rw [e1]) (e6 19 (by omega)) (by rw [ef]) fun j hj => ej j (by omega) (by omega) (by omega) (by omega)
    · rw [e1, ef]; exact hF
    · rw [e1, ef]; exact hD
    · rw [e1, ef]; exact hBr
    · intro k' hk'
      by_cases c : k' = kk
      · subst c
        refine Or.inr ⟨i, by rw [e7, va_up_self], by rw [e21, if_pos rfl], ?_, fun k2 hk2 i' hi' hne => ?_⟩
        · refine ⟨h1, h2, hzi, x1.2.2.2.2.1 0, s', nw', nwh', x1.1 10, fo, x1.1 11, C, A, n, ?_, fun r hr => ?_, ?_, ?_, hVI, hAI, hXI, hW, hNI, by rw [e19, if_pos rfl]; exact hF.2.1, hF.2.2, by rw [e20, if_pos rfl, e1]; exact hD.1.symm, by rw [e1, hD.1]; exact hD.2⟩
          · have := (dget_r (IP_get h1 h2 (.ref (x1.2.2.2.2.1 0)) s' nw' nwh' (x1.1 10) (x1.1 4) (x1.1 11) 0 (by omega))).2.2
            rw [show x1.1 4 = oI fo by rw [e1]; exact hF.1] at this ⊢
            exact this
          · have := (dget_r (IP_get h1 h2 (.ref (x1.2.2.2.2.1 0)) s' nw' nwh' (x1.1 10) (x1.1 4) (x1.1 11) (1 + r) (by omega))).2.2
            rw [show i + (1 + r) = i + 1 + r by omega] at this
            rw [this]
            unfold iC
            rw [if_neg (by omega), if_pos (by omega), show 1 + r - 1 = r by omega]
          · exact (dget_r (IP_get h1 h2 (.ref (x1.2.2.2.2.1 0)) s' nw' nwh' (x1.1 10) (x1.1 4) (x1.1 11) 7 (by omega))).2.2
          · exact (dget_r (IP_get h1 h2 (.ref (x1.2.2.2.2.1 0)) s' nw' nwh' (x1.1 10) (x1.1 4) (x1.1 11) 8 (by omega))).2.2
        · rw [e7, va_up_ne _ _ hne] at hi'
          exact hdis k2 hk2 hne i' hi'
      · have hs : x1.2.2.2.2.2 152 k' = x.2.2.2.2.2 152 k' := by rw [e7, va_up_ne _ _ c]
        rw [hs, e21, if_neg c]
        rcases hI k' hk' with h | ⟨i', a1, a2, a3, a4⟩
        · exact Or.inl h
        · refine Or.inr ⟨i', a1, a2, IM_ext hz hE (fun r hr => ?_) (eN k' hk' c) (by rw [e19, if_neg c]) (by rw [e20, if_neg c]) a3, fun k2 hk2 i2 hi2 hne => ?_⟩
          · have := hdis k' hk' c i' a1
            show (if i ≤ i' + r ∧ i' + r < i + 9 then _ else dd.2.2 (i' + r)) = d.2.2 (i' + r)
            rw [if_neg (by omega), hd2]
          · by_cases c3 : k2 = kk
            · subst c3
              rw [e7, va_up_self] at hi2
              cases hi2
              have := hdis k' hk' c i' a1
              omega
            · rw [e7, va_up_ne _ _ c3] at hi2
              exact a4 k2 hk2 i2 hi2 hne
    · rw [ej 10 (by omega) (by omega) (by omega) (by omega)]; exact hA
    · rw [e4]; exact hX
theorem op_image (v : Int32) : OpOK n_X0_image n_X4_image [.int v] := by
  intro Z d x m hR k
  obtain ⟨C, A, n, u, a, t, nr, F, fo, hP, hS⟩ := Rel_to hR
  have hI := hP.2.2.2.2.2.2.2.2.2
  cases c1 : inI 0 3 v with
  | false =>
    refine OpOK_n hR (-1) ?_ ?_
    · simp (disch := omega) only [c_X0_image, e_X0_image_0, e_X0_image_12, cond_true, cond_false, Option.bind_some, rI_s, rL_s, rR_s, rV_s, cnd_d, cnd_ne, cnd_eq, bI_d0, bI_t0, ite_not, decide_eq_false_iff_not, decide_eq_true_eq, lg_cmp_ge, lg_cmp_le, lg_cmp_gt, lg_cmp_lt, lg_cmp_eq, okb_1, okb_0, okb_b, eq_self, if_true, if_false, Bool.true_eq_false, Bool.false_eq_true, isO_X, X_in, in_0_3, c1]
    · simp (disch := omega) only [c_X4_image, e_X4_image_0, e_X4_image_12, cond_true, cond_false, Option.bind_some, rI_s, rL_s, rR_s, rV_s, cnd_d, cnd_ne, cnd_eq, bI_d0, bI_t0, ite_not, decide_eq_false_iff_not, decide_eq_true_eq, lg_cmp_ge, lg_cmp_le, lg_cmp_gt, lg_cmp_lt, lg_cmp_eq, okb_1, okb_0, okb_b, eq_self, if_true, if_false, Bool.true_eq_false, Bool.false_eq_true, isO_M, M_in, in_0_3, c1]
  | true =>
    obtain ⟨kk, hk, rfl⟩ := inI_0 (n := 3) (by omega) c1
    rcases hI kk (by omega) with ⟨h0, -⟩ | ⟨i, hi, -, hIM, hdis⟩
    · obtain ⟨r, d', m', g1, g2, g3, g4, g5⟩ := image_fin (Z' := fun q => if d.1 + 175 ≤ q ∧ q < d.1 + 184 then true else Z q) (dd := (d.1 + 9, d.2.1 + 68, d.2.2)) (x1 := xQ x 152 kk (some (d.1 + 175))) hP hS kk (by omega) (d.1 + 175) rfl rfl rfl rfl (fun j hj => va_up_ne _ _ hj) (show va_up x.2.2.2.2.2 152 (va_up (x.2.2.2.2.2 152) kk (some (d.1 + 175))) 152 = _ from va_up_self _ _ _) (by omega) (by show d.1 + 175 + 9 ≤ d.1 + 9 + 175; omega) (fun q hq => by rw [if_neg (by omega)]) (fun r hr => if_pos (by omega)) (fun q hq => by
        by_cases z : d.1 + 175 ≤ q ∧ q < d.1 + 184
        · exact ⟨by omega, by show q < d.1 + 9 + 175; omega⟩
        · rw [if_neg z] at hq
          have := hP.1 q hq
          exact ⟨this.1, by show q < d.1 + 9 + 175; omega⟩) (Nat.le_add_right _ _) rfl (fun k' hk' hne i' hi' => by
        rcases hI k' hk' with h | ⟨i2, a1, a2, a3, a4⟩
        · rw [h.1] at hi'; cases hi'
        · rw [a1] at hi'
          cases hi'
          have := a3.2.1
          omega) .null (fun _ _ => 0, fun _ => 0) (fun _ => 0) (fun _ => 0) 0 0 0 k
      refine ⟨r, _, d', _, m', ?_, g2, g3, by rw [g4]; show d.1 + 9 ≤ _; omega, by rw [g5]; show d.2.1 + 68 ≤ _; omega⟩
      have e1 := X17_init (k + 997) d x m
      have e1' : callR (k + 999) n_X17_init [.ref (d.1 + 175), .ref 0] (P (dpush d 8 (.inl (13, dF13))) x m) = _ := e1
      have s1 := sq_152 (IP (d.1 + 9, d.2.1 + 68, d.2.2) (d.1 + 175) .null (fun _ _ => 0, fun _ => 0) (fun _ => 0) (fun _ => 0) 0 0 0) x m kk (d.1 + 175) _ (by omega) (IP_f (by omega) (by show d.1 + 175 + 9 ≤ d.1 + 9 + 175; omega) x m _ _ _ _ _ _ _)
      simp (disch := omega) only [c_X0_image, e_X0_image_0, e_X0_image_14, e_X0_image_23, cond_true, cond_false, Option.bind_some, rI_s, rL_s, rR_s, rV_s, cnd_d, cnd_ne, cnd_eq, bI_d0, bI_t0, ite_not, decide_eq_false_iff_not, decide_eq_true_eq, lg_cmp_ge, lg_cmp_le, lg_cmp_gt, lg_cmp_lt, lg_cmp_eq, okb_1, okb_0, okb_b, eq_self, if_true, if_false, Bool.true_eq_false, Bool.false_eq_true, isO_X, X_in, in_0_3, c1, rx_27, lq_152, h0, show nlV (va_rf none) = some true from rfl, Bool.not_true, P_1, P_push, e1', s1, g1]
    · obtain ⟨b1, b2, b3, v, s, nw, nwh, nn, fo', dr, C', A', n', a1, a2, a3, a4, -⟩ := hIM
      have hIP : IP d i (.ref v) s nw nwh nn (oI fo') dr = d := by
        unfold IP
        refine Prod.ext rfl (Prod.ext rfl ?_)
        funext q
        show (if i ≤ q ∧ q < i + 9 then _ else d.2.2 q) = d.2.2 q
        by_cases z : i ≤ q ∧ q < i + 9
        · rw [if_pos z]
          unfold iC
          by_cases z0 : q - i = 0
          · rw [if_pos z0, ← a1, show q = i by omega]
          · rw [if_neg z0]
            by_cases z1 : q - i < 7
            · rw [if_pos z1, ← a2 (q - i - 1) (by omega), show i + 1 + (q - i - 1) = q by omega]
            · rw [if_neg z1]
              by_cases z2 : q - i = 7
              · rw [if_pos z2, ← a3, show i + 7 = q by omega]
              · rw [if_neg z2, ← a4, show i + 8 = q by omega]
        · rw [if_neg z]
      obtain ⟨r, d', m', g1, g2, g3, g4, g5⟩ := image_fin (Z' := Z) (dd := d) (x1 := x) hP hS kk (by omega) i rfl rfl rfl rfl (fun j hj => rfl) (by rw [← hi]; exact (va_up_id _ _).symm) b1 b2 (fun q hq => rfl) b3 hP.1 (Nat.le_refl _) rfl (fun k' hk' hne i' hi' => by have := hdis k' hk' i' hi' hne; omega) (.ref v) s nw nwh nn (oI fo') dr k
      rw [hIP] at g1
      refine ⟨r, Z, d', x, m', ?_, g2, g3, by omega, by omega⟩
      simp (disch := omega) only [c_X0_image, e_X0_image_0, e_X0_image_14, cond_true, cond_false, Option.bind_some, rI_s, rL_s, rR_s, rV_s, cnd_d, cnd_ne, cnd_eq, bI_d0, bI_t0, ite_not, decide_eq_false_iff_not, decide_eq_true_eq, lg_cmp_ge, lg_cmp_le, lg_cmp_gt, lg_cmp_lt, lg_cmp_eq, okb_1, okb_0, okb_b, eq_self, if_true, if_false, Bool.true_eq_false, Bool.false_eq_true, isO_X, X_in, in_0_3, c1, rx_27, lq_152, hi, show nlV (va_rf (some i)) = some false from rfl, Bool.not_false, g1]
