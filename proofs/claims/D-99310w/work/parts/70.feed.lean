/-! the tape -/
def xT (x : XS) (f : Nat → Int32) (t : Nat) : XS := (va_up x.1 7 (nI t), va_up x.2.1 21 f, x.2.2)
def mT (m : MS) (f : Nat → Int32) (t : Nat) : MS := (va_up m.1 1 (nI t), va_up m.2.1 1 f, m.2.2)
theorem xT_A (x : XS) (f : Nat → Int32) (t i : Nat) (v : Int32) : xA (xT x f t) 21 i v = xT x (va_up f i v) t := by
  unfold xA xT
  simp only [va_up_self, bx_uu]
theorem xT_F (x : XS) (f : Nat → Int32) (t s : Nat) : xF (xT x f t) 7 (nI s) = xT x f s := by
  unfold xF xT
  simp only [bx_uu]
theorem xT_7 (x : XS) (f : Nat → Int32) (t : Nat) : (xT x f t).1 7 = nI t := by
  show va_up x.1 7 (nI t) 7 = nI t
  rw [va_up_self]
theorem mT_A (m : MS) (f : Nat → Int32) (t i : Nat) (v : Int32) : mA (mT m f t) 1 i v = mT m (va_up f i v) t := by
  unfold mA mT
  simp only [va_up_self, bx_uu]
theorem mT_F (m : MS) (f : Nat → Int32) (t s : Nat) : mF (mT m f t) 1 (nI s) = mT m f s := by
  unfold mF mT
  simp only [bx_uu]
theorem mT_1 (m : MS) (f : Nat → Int32) (t : Nat) : (mT m f t).1 1 = nI t := by
  show va_up m.1 1 (nI t) 1 = nI t
  rw [va_up_self]
def bY (v s : Int32) : Int32 := vp_nar .byte (v >>> (s &&& 31)).toInt8.toInt32
def pt (f : Nat → Int32) (t : Nat) (v : Int32) : Nat → Int32 := va_up (va_up (va_up (va_up f t (bY v 24)) (t + 1) (bY v 16)) (t + 2) (bY v 8)) (t + 3) (bY v 0)
theorem bY_b (v s : Int32) : (bY v s).toInt8.toInt32 = bY v s := by
  unfold bY
  show (((v >>> (s &&& 31)).toInt8.toInt32).toInt8.toInt32).toInt8.toInt32 = ((v >>> (s &&& 31)).toInt8.toInt32).toInt8.toInt32
  rw [Int8.toInt8_toInt32, Int8.toInt8_toInt32]
theorem pt_c {f g : Nat → Int32} {t : Nat} {v : Int32} (h : ∀ i, i < 400 → f i = g i ∧ (g i).toInt8.toInt32 = g i) : ∀ i, i < 400 → pt f t v i = pt g t v i ∧ (pt g t v i).toInt8.toInt32 = pt g t v i := by
  intro i hi
  have hu : ∀ (f g : Nat → Int32) (a : Nat) (w : Int32), w.toInt8.toInt32 = w → (f i = g i ∧ (g i).toInt8.toInt32 = g i) → (va_up f a w i = va_up g a w i ∧ (va_up g a w i).toInt8.toInt32 = va_up g a w i) := by
    intro f g a w hw h
    unfold va_up
    by_cases e : i = a
    · rw [if_pos e, if_pos e]; exact ⟨rfl, hw⟩
    · rw [if_neg e, if_neg e]; exact h
  exact hu _ _ _ _ (bY_b _ _) (hu _ _ _ _ (bY_b _ _) (hu _ _ _ _ (bY_b _ _) (hu _ _ _ _ (bY_b _ _) (h i hi))))
theorem X_put (k : Nat) (d : AH) (x : XS) (m : MS) (f : Nat → Int32) (t : Nat) (v : Int32) (ht : t + 4 ≤ 400) : callR (k + 1) n_X0_put [.ref 0, .int v] (P d (xT x f t) m) = some (.inl none, P d (xT x (pt f t v) (t + 4)) m) := by
  have st : ∀ (s : Int32) (f : Nat → Int32) (t : Nat), t < 400 → evR T_X0_put (callR k) 7 ([(0, .ref 0), (1, .int v), (2, .int s)], [], P d (xT x f t) m) = evR T_X0_put (callR k) 3 ([(0, .ref 0), (1, .int v), (2, .int (s + (-8)))], [], P d (xT x (va_up f t (bY v s)) (t + 1)) m) := by
    intro s f t ht
    simp (disch := omega) only [e_X0_put_7, cond_true, cond_false, Option.bind_some, rI_s, rL_s, rR_s, rV_s, cnd_d, cnd_ne, cnd_eq, bI_d0, bI_t0, ite_not, decide_eq_false_iff_not, decide_eq_true_eq, lg_cmp_ge, lg_cmp_le, lg_cmp_gt, lg_cmp_lt, lg_cmp_eq, okb_1, okb_0, okb_b, eq_self, if_true, if_false, Bool.true_eq_false, Bool.false_eq_true, rx_6, rx_7, wx_7, xT_7, sx_21, xT_A, nI_1, xT_F]
    rfl
  simp (disch := omega) only [c_X0_put, e_X0_put_0, e_X0_put_3, e_X0_put_36, cond_true, cond_false, Option.bind_some, rI_s, rL_s, rR_s, rV_s, cnd_d, cnd_ne, cnd_eq, bI_d0, bI_t0, ite_not, decide_eq_false_iff_not, decide_eq_true_eq, lg_cmp_ge, lg_cmp_le, lg_cmp_gt, lg_cmp_lt, lg_cmp_eq, okb_1, okb_0, okb_b, eq_self, if_true, if_false, Bool.true_eq_false, Bool.false_eq_true, isO_X, st, show ¬ (24 : Int32) < 0 by decide, show (24 : Int32) + -8 = 16 by decide, show ¬ (16 : Int32) < 0 by decide, show (16 : Int32) + -8 = 8 by decide, show ¬ (8 : Int32) < 0 by decide, show (8 : Int32) + -8 = 0 by decide, show ¬ (0 : Int32) < 0 by decide, show (0 : Int32) + -8 < 0 by decide]
  rfl
theorem M_four (k : Nat) (d : AH) (x : XS) (m : MS) (f : Nat → Int32) (t : Nat) (v : Int32) (ht : t + 4 ≤ 400) : callR (k + 1) n_X4_four [.ref 153, .int v] (P d x (mT m f t)) = some (.inl none, P d x (mT m (pt f t v) (t + 4))) := by
  have st : ∀ (s : Int32) (f : Nat → Int32) (t : Nat), t < 400 → evR T_X4_four (callR k) 7 ([(0, .ref 153), (1, .int v), (2, .int s)], [], P d x (mT m f t)) = evR T_X4_four (callR k) 3 ([(0, .ref 153), (1, .int v), (2, .int (s + (-8)))], [], P d x (mT m (va_up f t (bY v s)) (t + 1))) := by
    intro s f t ht
    simp (disch := omega) only [e_X4_four_7, cond_true, cond_false, Option.bind_some, rI_s, rL_s, rR_s, rV_s, cnd_d, cnd_ne, cnd_eq, bI_d0, bI_t0, ite_not, decide_eq_false_iff_not, decide_eq_true_eq, lg_cmp_ge, lg_cmp_le, lg_cmp_gt, lg_cmp_lt, lg_cmp_eq, okb_1, okb_0, okb_b, eq_self, if_true, if_false, Bool.true_eq_false, Bool.false_eq_true, rm_0, rm_1, wm_1, mT_1, sm_1, mT_A, nI_1, mT_F]
    rfl
  simp (disch := omega) only [c_X4_four, e_X4_four_0, e_X4_four_3, e_X4_four_36, cond_true, cond_false, Option.bind_some, rI_s, rL_s, rR_s, rV_s, cnd_d, cnd_ne, cnd_eq, bI_d0, bI_t0, ite_not, decide_eq_false_iff_not, decide_eq_true_eq, lg_cmp_ge, lg_cmp_le, lg_cmp_gt, lg_cmp_lt, lg_cmp_eq, okb_1, okb_0, okb_b, eq_self, if_true, if_false, Bool.true_eq_false, Bool.false_eq_true, isO_M, st, show ¬ (24 : Int32) < 0 by decide, show (24 : Int32) + -8 = 16 by decide, show ¬ (16 : Int32) < 0 by decide, show (16 : Int32) + -8 = 8 by decide, show ¬ (8 : Int32) < 0 by decide, show (8 : Int32) + -8 = 0 by decide, show ¬ (0 : Int32) < 0 by decide, show (0 : Int32) + -8 < 0 by decide]
  rfl
theorem Rel_tape {Z : Nat → Bool} {d : AH} {x : XS} {m : MS} (h : Rel Z d x m) (f g : Nat → Int32) (t : Nat) (ht : t ≤ 400) (hf : ∀ i, i < 400 → f i = g i ∧ (g i).toInt8.toInt32 = g i) : Rel Z d (xT x f t) (mT m g t) := by
  obtain ⟨C, A, n, u, a, t0, nr, F, fo, ⟨hZ, hV, hN, hPR, hT, hRR, hF, hD, hBr, hI⟩, hS⟩ := Rel_to h
  refine Rel_of (C := C) (A := A) (n := n) (u := u) (a := a) (t := t) (nr := nr) (F := F) (fo := fo) ⟨hZ, hV, hN, hPR, ⟨ht, xT_7 _ _ _, mT_1 _ _ _, fun i hi => ?_⟩, RR_fr hRR rfl rfl rfl (fun j hj => va_up_ne _ _ (by omega)), hF, hD, hBr, hI⟩ hS
  show va_up x.2.1 21 f 21 i = va_up m.2.1 1 g 1 i ∧ (va_up m.2.1 1 g 1 i).toInt8.toInt32 = va_up m.2.1 1 g 1 i
  rw [va_up_self, va_up_self]
  exact hf i hi
theorem op_feed (v1 v2 v3 v4 v5 : Int32) : OpOK n_X0_feed n_X4_feed [.int v1, .int v2, .int v3, .int v4, .int v5] := by
  intro Z d x m hR k
  obtain ⟨C, A, n, u, a, t, nr, F, fo, hP, hS⟩ := Rel_to hR
  have hT := hP.2.2.2.2.1
  obtain ⟨t1, t2, t3, t4⟩ := hT
  by_cases c : t + 20 ≤ 400
  · have ex : xT x (x.2.1 21) t = x := by
      unfold xT
      rw [← t2, va_up_id, va_up_id]
    have em : mT m (m.2.1 1) t = m := by
      unfold mT
      rw [← t3, va_up_id, va_up_id]
    have x1 := X_put (k + 998) d x m (x.2.1 21) t v1 (by omega)
    rw [ex] at x1
    have x2 := fun f => X_put (k + 998) d x m f (t + 4) v2 (by omega)
    have x3 := fun f => X_put (k + 998) d x m f (t + 4 + 4) v3 (by omega)
    have x4 := fun f => X_put (k + 998) d x m f (t + 4 + 4 + 4) v4 (by omega)
    have x5 := fun f => X_put (k + 998) d x m f (t + 4 + 4 + 4 + 4) v5 (by omega)
    have m1 := fun x => M_four (k + 998) d x m (m.2.1 1) t v1 (by omega)
    rw [em] at m1
    have m2 := fun x f => M_four (k + 998) d x m f (t + 4) v2 (by omega)
    have m3 := fun x f => M_four (k + 998) d x m f (t + 4 + 4) v3 (by omega)
    have m4 := fun x f => M_four (k + 998) d x m f (t + 4 + 4 + 4) v4 (by omega)
    have m5 := fun x f => M_four (k + 998) d x m f (t + 4 + 4 + 4 + 4) v5 (by omega)
    have hR2 := Rel_tape hR (pt (pt (pt (pt (pt (x.2.1 21) t v1) (t + 4) v2) (t + 4 + 4) v3) (t + 4 + 4 + 4) v4) (t + 4 + 4 + 4 + 4) v5) (pt (pt (pt (pt (pt (m.2.1 1) t v1) (t + 4) v2) (t + 4 + 4) v3) (t + 4 + 4 + 4) v4) (t + 4 + 4 + 4 + 4) v5) (t + 4 + 4 + 4 + 4 + 4) (by omega) (pt_c (pt_c (pt_c (pt_c (pt_c t4)))))
    refine ⟨nI (t + 4 + 4 + 4 + 4 + 4), Z, d, _, _, ?_, ?_, hR2, by omega, by omega⟩
    · simp (disch := omega) only [c_X0_feed, e_X0_feed_0, e_X0_feed_15, cond_true, cond_false, Option.bind_some, rI_s, rL_s, rR_s, rV_s, cnd_d, cnd_ne, cnd_eq, bI_d0, bI_t0, ite_not, decide_eq_false_iff_not, decide_eq_true_eq, lg_cmp_ge, lg_cmp_le, lg_cmp_gt, lg_cmp_lt, lg_cmp_eq, okb_1, okb_0, okb_b, eq_self, if_true, if_false, Bool.true_eq_false, Bool.false_eq_true, isO_X, rx_7, t2, li_20, li_400, nI_add, nI_leP, c, x1, x2, x3, x4, x5, xT_7]
    · simp (disch := omega) only [c_X4_feed, e_X4_feed_0, e_X4_feed_15, cond_true, cond_false, Option.bind_some, rI_s, rL_s, rR_s, rV_s, cnd_d, cnd_ne, cnd_eq, bI_d0, bI_t0, ite_not, decide_eq_false_iff_not, decide_eq_true_eq, lg_cmp_ge, lg_cmp_le, lg_cmp_gt, lg_cmp_lt, lg_cmp_eq, okb_1, okb_0, okb_b, eq_self, if_true, if_false, Bool.true_eq_false, Bool.false_eq_true, isO_M, rm_1, t3, li_20, li_400, nI_add, nI_leP, c, m1, m2, m3, m4, m5, mT_1]
  · refine OpOK_n hR (-1) ?_ ?_
    · simp (disch := omega) only [c_X0_feed, e_X0_feed_0, e_X0_feed_13, cond_true, cond_false, Option.bind_some, rI_s, rL_s, rR_s, rV_s, cnd_d, cnd_ne, cnd_eq, bI_d0, bI_t0, ite_not, decide_eq_false_iff_not, decide_eq_true_eq, lg_cmp_ge, lg_cmp_le, lg_cmp_gt, lg_cmp_lt, lg_cmp_eq, okb_1, okb_0, okb_b, eq_self, if_true, if_false, Bool.true_eq_false, Bool.false_eq_true, isO_X, rx_7, t2, li_20, li_400, nI_add, nI_leP, c]
    · simp (disch := omega) only [c_X4_feed, e_X4_feed_0, e_X4_feed_13, cond_true, cond_false, Option.bind_some, rI_s, rL_s, rR_s, rV_s, cnd_d, cnd_ne, cnd_eq, bI_d0, bI_t0, ite_not, decide_eq_false_iff_not, decide_eq_true_eq, lg_cmp_ge, lg_cmp_le, lg_cmp_gt, lg_cmp_lt, lg_cmp_eq, okb_1, okb_0, okb_b, eq_self, if_true, if_false, Bool.true_eq_false, Bool.false_eq_true, isO_M, rm_1, t3, li_20, li_400, nI_add, nI_leP, c]
