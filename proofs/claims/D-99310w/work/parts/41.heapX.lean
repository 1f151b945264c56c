/-! reads and writes of x's cells -/
theorem lx_21 (d : AH) (x : XS) (m : MS) (k : Nat) (hk : k < 400) : ldI (P d x m) 21 1 (nI k) = some (x.2.1 21 k) := by
  unfold ldI
  rw [aget_Px d x m 21 (by omega)]
  show (bif (1 == 1) && inb (nI k) 400 then some (x.2.1 21 (nI k).toNatClampNeg) else none) = _
  rw [inb_nI hk (by decide), nI_clamp (by omega)]
  rfl
theorem sx_21 (d : AH) (x : XS) (m : MS) (k : Nat) (v : Int32) (hk : k < 400) : stI (P d x m) 21 1 (nI k) v = some (P d (xA x 21 k v) m) := by
  unfold stI
  rw [aget_Px d x m 21 (by omega)]
  show (bif (1 == 1) && inb (nI k) 400 then some (hset _ 21 (.inr (1, 400, .inl (va_up (x.2.1 21) (nI k).toNatClampNeg v)))) else none) = _
  rw [inb_nI hk (by decide), nI_clamp (by omega)]
  show some (hset _ _ _) = _
  rw [P_x d x (xA x 21 k v) m 21 (by omega)]
  · show xCell (xA x 21 k v) 21 = .inr (1, 400, .inl ((xA x 21 k v).2.1 21))
    rfl
  · intro i _ hi
    simp only [xCell, xA, va_up_ne _ _ hi, xfl]
theorem lx_22 (d : AH) (x : XS) (m : MS) (k : Nat) (hk : k < 10) : ldI (P d x m) 22 0 (nI k) = some (x.2.1 22 k) := by
  unfold ldI
  rw [aget_Px d x m 22 (by omega)]
  show (bif (0 == 0) && inb (nI k) 10 then some (x.2.1 22 (nI k).toNatClampNeg) else none) = _
  rw [inb_nI hk (by decide), nI_clamp (by omega)]
  rfl
theorem sx_22 (d : AH) (x : XS) (m : MS) (k : Nat) (v : Int32) (hk : k < 10) : stI (P d x m) 22 0 (nI k) v = some (P d (xA x 22 k v) m) := by
  unfold stI
  rw [aget_Px d x m 22 (by omega)]
  show (bif (0 == 0) && inb (nI k) 10 then some (hset _ 22 (.inr (0, 10, .inl (va_up (x.2.1 22) (nI k).toNatClampNeg v)))) else none) = _
  rw [inb_nI hk (by decide), nI_clamp (by omega)]
  show some (hset _ _ _) = _
  rw [P_x d x (xA x 22 k v) m 22 (by omega)]
  · show xCell (xA x 22 k v) 22 = .inr (0, 10, .inl ((xA x 22 k v).2.1 22))
    rfl
  · intro i _ hi
    simp only [xCell, xA, va_up_ne _ _ hi, xfl]
theorem lx_23 (d : AH) (x : XS) (m : MS) (k : Nat) (hk : k < 10) : ldI (P d x m) 23 0 (nI k) = some (x.2.1 23 k) := by
  unfold ldI
  rw [aget_Px d x m 23 (by omega)]
  show (bif (0 == 0) && inb (nI k) 10 then some (x.2.1 23 (nI k).toNatClampNeg) else none) = _
  rw [inb_nI hk (by decide), nI_clamp (by omega)]
  rfl
theorem sx_23 (d : AH) (x : XS) (m : MS) (k : Nat) (v : Int32) (hk : k < 10) : stI (P d x m) 23 0 (nI k) v = some (P d (xA x 23 k v) m) := by
  unfold stI
  rw [aget_Px d x m 23 (by omega)]
  show (bif (0 == 0) && inb (nI k) 10 then some (hset _ 23 (.inr (0, 10, .inl (va_up (x.2.1 23) (nI k).toNatClampNeg v)))) else none) = _
  rw [inb_nI hk (by decide), nI_clamp (by omega)]
  show some (hset _ _ _) = _
  rw [P_x d x (xA x 23 k v) m 23 (by omega)]
  · show xCell (xA x 23 k v) 23 = .inr (0, 10, .inl ((xA x 23 k v).2.1 23))
    rfl
  · intro i _ hi
    simp only [xCell, xA, va_up_ne _ _ hi, xfl]
theorem lx_25 (d : AH) (x : XS) (m : MS) (k : Nat) (hk : k < 6) : ldI (P d x m) 25 0 (nI k) = some (x.2.1 25 k) := by
  unfold ldI
  rw [aget_Px d x m 25 (by omega)]
  show (bif (0 == 0) && inb (nI k) 6 then some (x.2.1 25 (nI k).toNatClampNeg) else none) = _
  rw [inb_nI hk (by decide), nI_clamp (by omega)]
  rfl
theorem sx_25 (d : AH) (x : XS) (m : MS) (k : Nat) (v : Int32) (hk : k < 6) : stI (P d x m) 25 0 (nI k) v = some (P d (xA x 25 k v) m) := by
  unfold stI
  rw [aget_Px d x m 25 (by omega)]
  show (bif (0 == 0) && inb (nI k) 6 then some (hset _ 25 (.inr (0, 6, .inl (va_up (x.2.1 25) (nI k).toNatClampNeg v)))) else none) = _
  rw [inb_nI hk (by decide), nI_clamp (by omega)]
  show some (hset _ _ _) = _
  rw [P_x d x (xA x 25 k v) m 25 (by omega)]
  · show xCell (xA x 25 k v) 25 = .inr (0, 6, .inl ((xA x 25 k v).2.1 25))
    rfl
  · intro i _ hi
    simp only [xCell, xA, va_up_ne _ _ hi, xfl]
theorem lx_26 (d : AH) (x : XS) (m : MS) (k : Nat) (hk : k < 6) : ldI (P d x m) 26 0 (nI k) = some (x.2.1 26 k) := by
  unfold ldI
  rw [aget_Px d x m 26 (by omega)]
  show (bif (0 == 0) && inb (nI k) 6 then some (x.2.1 26 (nI k).toNatClampNeg) else none) = _
  rw [inb_nI hk (by decide), nI_clamp (by omega)]
  rfl
theorem sx_26 (d : AH) (x : XS) (m : MS) (k : Nat) (v : Int32) (hk : k < 6) : stI (P d x m) 26 0 (nI k) v = some (P d (xA x 26 k v) m) := by
  unfold stI
  rw [aget_Px d x m 26 (by omega)]
  show (bif (0 == 0) && inb (nI k) 6 then some (hset _ 26 (.inr (0, 6, .inl (va_up (x.2.1 26) (nI k).toNatClampNeg v)))) else none) = _
  rw [inb_nI hk (by decide), nI_clamp (by omega)]
  show some (hset _ _ _) = _
  rw [P_x d x (xA x 26 k v) m 26 (by omega)]
  · show xCell (xA x 26 k v) 26 = .inr (0, 6, .inl ((xA x 26 k v).2.1 26))
    rfl
  · intro i _ hi
    simp only [xCell, xA, va_up_ne _ _ hi, xfl]
theorem lx_148 (d : AH) (x : XS) (m : MS) (k : Nat) (hk : k < 25) : ldI (P d x m) 148 0 (nI k) = some (x.2.1 148 k) := by
  unfold ldI
  rw [aget_Px d x m 148 (by omega)]
  show (bif (0 == 0) && inb (nI k) 25 then some (x.2.1 148 (nI k).toNatClampNeg) else none) = _
  rw [inb_nI hk (by decide), nI_clamp (by omega)]
  rfl
theorem sx_148 (d : AH) (x : XS) (m : MS) (k : Nat) (v : Int32) (hk : k < 25) : stI (P d x m) 148 0 (nI k) v = some (P d (xA x 148 k v) m) := by
  unfold stI
  rw [aget_Px d x m 148 (by omega)]
  show (bif (0 == 0) && inb (nI k) 25 then some (hset _ 148 (.inr (0, 25, .inl (va_up (x.2.1 148) (nI k).toNatClampNeg v)))) else none) = _
  rw [inb_nI hk (by decide), nI_clamp (by omega)]
  show some (hset _ _ _) = _
  rw [P_x d x (xA x 148 k v) m 148 (by omega)]
  · show xCell (xA x 148 k v) 148 = .inr (0, 25, .inl ((xA x 148 k v).2.1 148))
    rfl
  · intro i _ hi
    simp only [xCell, xA, va_up_ne _ _ hi, xfl]
theorem lx_149 (d : AH) (x : XS) (m : MS) (k : Nat) (hk : k < 25) : ldI (P d x m) 149 0 (nI k) = some (x.2.1 149 k) := by
  unfold ldI
  rw [aget_Px d x m 149 (by omega)]
  show (bif (0 == 0) && inb (nI k) 25 then some (x.2.1 149 (nI k).toNatClampNeg) else none) = _
  rw [inb_nI hk (by decide), nI_clamp (by omega)]
  rfl
theorem sx_149 (d : AH) (x : XS) (m : MS) (k : Nat) (v : Int32) (hk : k < 25) : stI (P d x m) 149 0 (nI k) v = some (P d (xA x 149 k v) m) := by
  unfold stI
  rw [aget_Px d x m 149 (by omega)]
  show (bif (0 == 0) && inb (nI k) 25 then some (hset _ 149 (.inr (0, 25, .inl (va_up (x.2.1 149) (nI k).toNatClampNeg v)))) else none) = _
  rw [inb_nI hk (by decide), nI_clamp (by omega)]
  show some (hset _ _ _) = _
  rw [P_x d x (xA x 149 k v) m 149 (by omega)]
  · show xCell (xA x 149 k v) 149 = .inr (0, 25, .inl ((xA x 149 k v).2.1 149))
    rfl
  · intro i _ hi
    simp only [xCell, xA, va_up_ne _ _ hi, xfl]
theorem lx_150 (d : AH) (x : XS) (m : MS) (k : Nat) (hk : k < 61) : ldI (P d x m) 150 0 (nI k) = some (x.2.1 150 k) := by
  unfold ldI
  rw [aget_Px d x m 150 (by omega)]
  show (bif (0 == 0) && inb (nI k) 61 then some (x.2.1 150 (nI k).toNatClampNeg) else none) = _
  rw [inb_nI hk (by decide), nI_clamp (by omega)]
  rfl
theorem sx_150 (d : AH) (x : XS) (m : MS) (k : Nat) (v : Int32) (hk : k < 61) : stI (P d x m) 150 0 (nI k) v = some (P d (xA x 150 k v) m) := by
  unfold stI
  rw [aget_Px d x m 150 (by omega)]
  show (bif (0 == 0) && inb (nI k) 61 then some (hset _ 150 (.inr (0, 61, .inl (va_up (x.2.1 150) (nI k).toNatClampNeg v)))) else none) = _
  rw [inb_nI hk (by decide), nI_clamp (by omega)]
  show some (hset _ _ _) = _
  rw [P_x d x (xA x 150 k v) m 150 (by omega)]
  · show xCell (xA x 150 k v) 150 = .inr (0, 61, .inl ((xA x 150 k v).2.1 150))
    rfl
  · intro i _ hi
    simp only [xCell, xA, va_up_ne _ _ hi, xfl]
theorem lx_151 (d : AH) (x : XS) (m : MS) (k : Nat) (hk : k < 427) : ldI (P d x m) 151 0 (nI k) = some (x.2.1 151 k) := by
  unfold ldI
  rw [aget_Px d x m 151 (by omega)]
  show (bif (0 == 0) && inb (nI k) 427 then some (x.2.1 151 (nI k).toNatClampNeg) else none) = _
  rw [inb_nI hk (by decide), nI_clamp (by omega)]
  rfl
theorem sx_151 (d : AH) (x : XS) (m : MS) (k : Nat) (v : Int32) (hk : k < 427) : stI (P d x m) 151 0 (nI k) v = some (P d (xA x 151 k v) m) := by
  unfold stI
  rw [aget_Px d x m 151 (by omega)]
  show (bif (0 == 0) && inb (nI k) 427 then some (hset _ 151 (.inr (0, 427, .inl (va_up (x.2.1 151) (nI k).toNatClampNeg v)))) else none) = _
  rw [inb_nI hk (by decide), nI_clamp (by omega)]
  show some (hset _ _ _) = _
  rw [P_x d x (xA x 151 k v) m 151 (by omega)]
  · show xCell (xA x 151 k v) 151 = .inr (0, 427, .inl ((xA x 151 k v).2.1 151))
    rfl
  · intro i _ hi
    simp only [xCell, xA, va_up_ne _ _ hi, xfl]
theorem lx_24 (d : AH) (x : XS) (m : MS) (k : Nat) (hk : k < 11) : ldL (P d x m) 24 (nI k) = some (x.2.2.1 k) := by
  unfold ldL
  rw [aget_Px d x m 24 (by omega)]
  show (bif (2 == 2) && inb (nI k) 11 then some (x.2.2.1 (nI k).toNatClampNeg) else none) = _
  rw [inb_nI hk (by decide), nI_clamp (by omega)]
  rfl
theorem sx_24 (d : AH) (x : XS) (m : MS) (k : Nat) (v : Int64) (hk : k < 11) : stL (P d x m) 24 (nI k) v = some (P d (xW x k v) m) := by
  unfold stL
  rw [aget_Px d x m 24 (by omega)]
  show (bif (2 == 2) && inb (nI k) 11 then some (hset _ 24 (.inr (2, 11, .inr (.inl (va_up x.2.2.1 (nI k).toNatClampNeg v))))) else none) = _
  rw [inb_nI hk (by decide), nI_clamp (by omega)]
  show some (hset _ _ _) = _
  rw [P_x d x (xW x k v) m 24 (by omega)]
  · show xCell (xW x k v) 24 = .inr (2, 11, .inr (.inl ((xW x k v).2.2.1)))
    rfl
  · intro i _ hi
    simp only [xCell, xW, if_neg hi, xfl]
theorem rdF_X (d : AH) (x : XS) (m : MS) (k : Nat) : rdF (P d x m) 0 0 k = (xfl x)[k]? := by
  unfold rdF
  rw [aget_Px d x m 0 (by omega)]
  rfl
theorem wrF_X (d : AH) (x x' : XS) (m : MS) (k : Nat) (v : Value) (hl : k < 28) (h1 : xfl x' = (xfl x).set k v) (h2 : ∀ i, i ≠ 0 → xCell x' i = xCell x i) : wrF (P d x m) 0 0 k v = some (P d x' m) := by
  unfold wrF
  rw [aget_Px d x m 0 (by omega)]
  show (bif (0 == 0) && decide (k < 28) then some (hset _ _ _) else none) = _
  rw [show decide (k < 28) = true by simp [hl]]
  show some (hset _ 0 _) = _
  rw [P_x d x x' m 0 (by omega)]
  · show Sum.inl (0, xfl x') = Sum.inl (0, (xfl x).set k v)
    rw [h1]
  · intro i _ hi
    exact h2 i hi
theorem xF_ne (x : XS) (k : Nat) (v : Int32) (hk : k < 100) (i : Nat) (hi : i ≠ 0) : xCell (xF x k v) i = xCell x i := by
  simp only [xCell, xF, if_neg hi, va_up_ne _ _ (show 100 ≠ k by omega), va_up_ne _ _ (show 101 ≠ k by omega), va_up_ne _ _ (show 102 ≠ k by omega)]
theorem xR0_ne (x : XS) (r : Nat) (i : Nat) (hi : i ≠ 0) : xCell (xR x 0 r) i = xCell x i := by
  simp only [xCell, xR, if_neg hi, va_up_ne _ _ (show 1 ≠ 0 by omega)]
theorem rx_0 (d : AH) (x : XS) (m : MS) : rdR (P d x m) 0 0 0 = some (x.2.2.2.2.1 0) := by unfold rdR; rw [rdF_X]; rfl
theorem wx_0 (d : AH) (x : XS) (m : MS) (r : Nat) : wrF (P d x m) 0 0 0 (.ref r) = some (P d (xR x 0 r) m) := wrF_X d x _ m 0 _ (by omega) rfl (xR0_ne x r)
theorem rx_1 (d : AH) (x : XS) (m : MS) : rdR (P d x m) 0 0 1 = some 6 := by unfold rdR; rw [rdF_X]; rfl
theorem rx_2 (d : AH) (x : XS) (m : MS) : rdR (P d x m) 0 0 2 = some 12 := by unfold rdR; rw [rdF_X]; rfl
theorem rx_3 (d : AH) (x : XS) (m : MS) : rdR (P d x m) 0 0 3 = some 18 := by unfold rdR; rw [rdF_X]; rfl
theorem rx_4 (d : AH) (x : XS) (m : MS) : rdI (P d x m) 0 0 4 = some (x.1 4) := by unfold rdI; rw [rdF_X]; rfl
theorem wx_4 (d : AH) (x : XS) (m : MS) (v : Int32) : wrF (P d x m) 0 0 4 (.int v) = some (P d (xF x 4 v) m) := wrF_X d x _ m 4 _ (by omega) rfl (xF_ne x 4 v (by omega))
theorem rx_5 (d : AH) (x : XS) (m : MS) : rdR (P d x m) 0 0 5 = some 20 := by unfold rdR; rw [rdF_X]; rfl
theorem rx_6 (d : AH) (x : XS) (m : MS) : rdR (P d x m) 0 0 6 = some 21 := by unfold rdR; rw [rdF_X]; rfl
theorem rx_7 (d : AH) (x : XS) (m : MS) : rdI (P d x m) 0 0 7 = some (x.1 7) := by unfold rdI; rw [rdF_X]; rfl
theorem wx_7 (d : AH) (x : XS) (m : MS) (v : Int32) : wrF (P d x m) 0 0 7 (.int v) = some (P d (xF x 7 v) m) := wrF_X d x _ m 7 _ (by omega) rfl (xF_ne x 7 v (by omega))
theorem rx_8 (d : AH) (x : XS) (m : MS) : rdR (P d x m) 0 0 8 = some 22 := by unfold rdR; rw [rdF_X]; rfl
theorem rx_9 (d : AH) (x : XS) (m : MS) : rdR (P d x m) 0 0 9 = some 23 := by unfold rdR; rw [rdF_X]; rfl
theorem rx_10 (d : AH) (x : XS) (m : MS) : rdI (P d x m) 0 0 10 = some (x.1 10) := by unfold rdI; rw [rdF_X]; rfl
theorem wx_10 (d : AH) (x : XS) (m : MS) (v : Int32) : wrF (P d x m) 0 0 10 (.int v) = some (P d (xF x 10 v) m) := wrF_X d x _ m 10 _ (by omega) rfl (xF_ne x 10 v (by omega))
theorem rx_11 (d : AH) (x : XS) (m : MS) : rdI (P d x m) 0 0 11 = some (x.1 11) := by unfold rdI; rw [rdF_X]; rfl
theorem wx_11 (d : AH) (x : XS) (m : MS) (v : Int32) : wrF (P d x m) 0 0 11 (.int v) = some (P d (xF x 11 v) m) := wrF_X d x _ m 11 _ (by omega) rfl (xF_ne x 11 v (by omega))
theorem rx_12 (d : AH) (x : XS) (m : MS) : rdR (P d x m) 0 0 12 = some 24 := by unfold rdR; rw [rdF_X]; rfl
theorem rx_13 (d : AH) (x : XS) (m : MS) : rdR (P d x m) 0 0 13 = some 25 := by unfold rdR; rw [rdF_X]; rfl
theorem rx_14 (d : AH) (x : XS) (m : MS) : rdR (P d x m) 0 0 14 = some 26 := by unfold rdR; rw [rdF_X]; rfl
theorem rx_15 (d : AH) (x : XS) (m : MS) : rdI (P d x m) 0 0 15 = some (x.1 15) := by unfold rdI; rw [rdF_X]; rfl
theorem wx_15 (d : AH) (x : XS) (m : MS) (v : Int32) : wrF (P d x m) 0 0 15 (.int v) = some (P d (xF x 15 v) m) := wrF_X d x _ m 15 _ (by omega) rfl (xF_ne x 15 v (by omega))
theorem rx_16 (d : AH) (x : XS) (m : MS) : rdI (P d x m) 0 0 16 = some (x.1 16) := by unfold rdI; rw [rdF_X]; rfl
theorem wx_16 (d : AH) (x : XS) (m : MS) (v : Int32) : wrF (P d x m) 0 0 16 (.int v) = some (P d (xF x 16 v) m) := wrF_X d x _ m 16 _ (by omega) rfl (xF_ne x 16 v (by omega))
theorem rx_17 (d : AH) (x : XS) (m : MS) : rdI (P d x m) 0 0 17 = some (x.1 17) := by unfold rdI; rw [rdF_X]; rfl
theorem wx_17 (d : AH) (x : XS) (m : MS) (v : Int32) : wrF (P d x m) 0 0 17 (.int v) = some (P d (xF x 17 v) m) := wrF_X d x _ m 17 _ (by omega) rfl (xF_ne x 17 v (by omega))
theorem rx_18 (d : AH) (x : XS) (m : MS) : rdI (P d x m) 0 0 18 = some (x.1 18) := by unfold rdI; rw [rdF_X]; rfl
theorem wx_18 (d : AH) (x : XS) (m : MS) (v : Int32) : wrF (P d x m) 0 0 18 (.int v) = some (P d (xF x 18 v) m) := wrF_X d x _ m 18 _ (by omega) rfl (xF_ne x 18 v (by omega))
theorem rx_19 (d : AH) (x : XS) (m : MS) : rdR (P d x m) 0 0 19 = some 27 := by unfold rdR; rw [rdF_X]; rfl
theorem rx_20 (d : AH) (x : XS) (m : MS) : rdI (P d x m) 0 0 20 = some (x.1 20) := by unfold rdI; rw [rdF_X]; rfl
theorem wx_20 (d : AH) (x : XS) (m : MS) (v : Int32) : wrF (P d x m) 0 0 20 (.int v) = some (P d (xF x 20 v) m) := wrF_X d x _ m 20 _ (by omega) rfl (xF_ne x 20 v (by omega))
theorem rx_21 (d : AH) (x : XS) (m : MS) : rdI (P d x m) 0 0 21 = some (x.1 21) := by unfold rdI; rw [rdF_X]; rfl
theorem wx_21 (d : AH) (x : XS) (m : MS) (v : Int32) : wrF (P d x m) 0 0 21 (.int v) = some (P d (xF x 21 v) m) := wrF_X d x _ m 21 _ (by omega) rfl (xF_ne x 21 v (by omega))
theorem rx_22 (d : AH) (x : XS) (m : MS) : rdI (P d x m) 0 0 22 = some (x.1 22) := by unfold rdI; rw [rdF_X]; rfl
theorem wx_22 (d : AH) (x : XS) (m : MS) (v : Int32) : wrF (P d x m) 0 0 22 (.int v) = some (P d (xF x 22 v) m) := wrF_X d x _ m 22 _ (by omega) rfl (xF_ne x 22 v (by omega))
theorem rx_23 (d : AH) (x : XS) (m : MS) : rdR (P d x m) 0 0 23 = some 148 := by unfold rdR; rw [rdF_X]; rfl
theorem rx_24 (d : AH) (x : XS) (m : MS) : rdR (P d x m) 0 0 24 = some 149 := by unfold rdR; rw [rdF_X]; rfl
theorem rx_25 (d : AH) (x : XS) (m : MS) : rdR (P d x m) 0 0 25 = some 150 := by unfold rdR; rw [rdF_X]; rfl
theorem rx_26 (d : AH) (x : XS) (m : MS) : rdR (P d x m) 0 0 26 = some 151 := by unfold rdR; rw [rdF_X]; rfl
theorem rx_27 (d : AH) (x : XS) (m : MS) : rdR (P d x m) 0 0 27 = some 152 := by unfold rdR; rw [rdF_X]; rfl
theorem ri_20 (d : AH) (x : XS) (m : MS) : rdI (P d x m) 20 3 0 = some (x.1 100) := by
  unfold rdI rdF
  rw [aget_Px d x m 20 (by omega)]
  rfl
theorem wi_20 (d : AH) (x : XS) (m : MS) (v : Int32) : wrF (P d x m) 20 3 0 (.int v) = some (P d (xF x 100 v) m) := by
  unfold wrF
  rw [aget_Px d x m 20 (by omega)]
  show some (hset _ 20 _) = _
  rw [P_x d x (xF x 100 v) m 20 (by omega)]
  · rfl
  · intro i _ hi
    simp only [xCell, xF, if_neg hi, xfl, va_up_ne _ _ (show 101 ≠ 100 by omega), va_up_ne _ _ (show 102 ≠ 100 by omega)]
    simp [va_up]
theorem isO_20 (d : AH) (x : XS) (m : MS) : isO (P d x m) 20 3 = true := by
  unfold isO
  rw [aget_Px d x m 20 (by omega)]
  rfl
theorem lq_27 (d : AH) (x : XS) (m : MS) (k : Nat) (hk : k < 20) : ldR (P d x m) 27 5 (nI k) = some (28 + 6 * k) := by
  unfold ldR ldQ
  rw [aget_Px d x m 27 (by omega)]
  show (match (bif (5 == 5) && inb (nI k) 20 then some (if (nI k).toNatClampNeg < 20 then some (28 + 6 * (nI k).toNatClampNeg) else none) else none) with | some (some r) => some r | _ => none) = _
  rw [inb_nI hk (by decide), nI_clamp (by omega), if_pos hk]
  rfl
theorem lq_152 (d : AH) (x : XS) (m : MS) (k : Nat) (hk : k < 4) : ldQ (P d x m) 152 6 (nI k) = some (x.2.2.2.2.2 152 k) := by
  unfold ldQ
  rw [aget_Px d x m 152 (by omega)]
  show (bif (6 == 6) && inb (nI k) 4 then some (x.2.2.2.2.2 152 (nI k).toNatClampNeg) else none) = _
  rw [inb_nI hk (by decide), nI_clamp (by omega)]
  rfl
theorem sq_152 (d : AH) (x : XS) (m : MS) (k r : Nat) (fs : List Value) (hk : k < 4) (hr : aget (P d x m) r = some (.inl (13, fs))) : stR (P d x m) 152 6 (nI k) r = some (P d (xQ x 152 k (some r)) m) := by
  unfold stR
  rw [aget_Px d x m 152 (by omega), hr]
  show (bif (6 == 6) && inb (nI k) 4 && okE 6 13 then some (hset _ 152 (.inr (6, 4, .inr (.inr (va_up (x.2.2.2.2.2 152) (nI k).toNatClampNeg (some r)))))) else none) = _
  rw [inb_nI hk (by decide), nI_clamp (by omega)]
  show some (hset _ _ _) = _
  rw [P_x d x (xQ x 152 k (some r)) m 152 (by omega)]
  · rfl
  · intro i _ hi
    simp only [xCell, xQ, xfl, va_up_ne _ _ hi]
/-! a State at b -/
def sput (h : AH) (b : Nat) (s : SS) : AH := (h.1, h.2.1, fun a => if b ≤ a ∧ a < b + 6 then sCell b s (a - b) else h.2.2 a)
theorem aget_sput (h : AH) (b : Nat) (s : SS) (j : Nat) (hj : j < 6) (hb : b + 6 ≤ h.1) : aget (sput h b s) (b + j) = some (sCell b s j) := by
  unfold aget sput
  rw [if_pos (by show b + j < h.1; omega)]
  show some (if b ≤ b + j ∧ b + j < b + 6 then sCell b s (b + j - b) else _) = _
  rw [if_pos (by omega), show b + j - b = j by omega]
theorem aget_sput_ne (h : AH) (b : Nat) (s : SS) (a : Nat) (ha : a < b ∨ b + 6 ≤ a) : aget (sput h b s) a = aget h a := by
  unfold aget sput
  show (if a < h.1 then some (if b ≤ a ∧ a < b + 6 then sCell b s (a - b) else h.2.2 a) else none) = _
  split
  · rw [if_neg (by omega)]
  · rfl
theorem sput_set (h : AH) (b : Nat) (s s' : SS) (j : Nat) (hj : j < 6) (o : AO) (ho : sCell b s' j = o) (hn : ∀ i, i ≠ j → sCell b s' i = sCell b s i) : hset (sput h b s) (b + j) o = sput h b s' := by
  unfold hset sput
  refine Prod.ext rfl (Prod.ext rfl ?_)
  funext a
  show va_up _ _ _ a = (if b ≤ a ∧ a < b + 6 then _ else _)
  unfold va_up
  by_cases ha : a = b + j
  · subst ha
    rw [if_pos rfl, if_pos (by omega), show b + j - b = j by omega, ho]
  · rw [if_neg ha]
    show (if b ≤ a ∧ a < b + 6 then _ else _) = _
    by_cases h1 : b ≤ a ∧ a < b + 6
    · rw [if_pos h1, if_pos h1, hn _ (by omega)]
    · rw [if_neg h1, if_neg h1]
theorem isO_s (h : AH) (b : Nat) (s : SS) (hb : b + 6 ≤ h.1) : isO (sput h b s) b 2 = true := by
  unfold isO
  rw [show aget (sput h b s) b = aget (sput h b s) (b + 0) from rfl, aget_sput h b s 0 (by omega) hb]
  rfl
theorem rdF_s (h : AH) (b : Nat) (s : SS) (hb : b + 6 ≤ h.1) (k : Nat) : rdF (sput h b s) b 2 k = ([.ref (b + 1), .ref (b + 2), .ref (b + 3), .ref (b + 4), .ref (b + 5), .int (s.2 5), .int (s.2 6), .int (s.2 7), .int (s.2 8), .int (s.2 9)] : List Value)[k]? := by
  unfold rdF
  rw [show aget (sput h b s) b = aget (sput h b s) (b + 0) from rfl, aget_sput h b s 0 (by omega) hb]
  rfl
theorem ls_j (h : AH) (b : Nat) (s : SS) (hb : b + 6 ≤ h.1) (j k : Nat) (hj : j < 5) (hk : k < 6) : ldI (sput h b s) (b + (j + 1)) 0 (nI k) = some (s.1 j k) := by
  unfold ldI
  rw [aget_sput h b s (j + 1) (by omega) hb]
  show (bif (0 == 0) && inb (nI k) 6 then some (s.1 (j + 1 - 1) (nI k).toNatClampNeg) else none) = _
  rw [inb_nI hk (by decide), nI_clamp (by omega)]
  rfl
theorem ss_j (h : AH) (b : Nat) (s : SS) (hb : b + 6 ≤ h.1) (j k : Nat) (v : Int32) (hj : j < 5) (hk : k < 6) : stI (sput h b s) (b + (j + 1)) 0 (nI k) v = some (sput h b (sA s j k v)) := by
  unfold stI
  rw [aget_sput h b s (j + 1) (by omega) hb]
  show (bif (0 == 0) && inb (nI k) 6 then some (hset _ (b + (j + 1)) (.inr (0, 6, .inl (va_up (s.1 j) (nI k).toNatClampNeg v)))) else none) = _
  rw [inb_nI hk (by decide), nI_clamp (by omega)]
  show some (hset _ _ _) = _
  rw [sput_set h b s (sA s j k v) (j + 1) (by omega)]
  · simp [sCell, sA, va_up_self]
  · intro i hi
    unfold sCell
    by_cases h0 : i = 0
    · simp [h0, sA]
    · rw [if_neg h0, if_neg h0]
      simp only [sA, va_up_ne _ _ (show i - 1 ≠ j by omega)]
theorem ws_k (h : AH) (b : Nat) (s : SS) (hb : b + 6 ≤ h.1) (k : Nat) (v : Int32) (hk : k < 10) (hl : sCell b (sF s k v) 0 = .inl (2, ([.ref (b + 1), .ref (b + 2), .ref (b + 3), .ref (b + 4), .ref (b + 5), .int (s.2 5), .int (s.2 6), .int (s.2 7), .int (s.2 8), .int (s.2 9)] : List Value).set k (.int v))) : wrF (sput h b s) b 2 k (.int v) = some (sput h b (sF s k v)) := by
  unfold wrF
  rw [show aget (sput h b s) b = aget (sput h b s) (b + 0) from rfl, aget_sput h b s 0 (by omega) hb]
  show (bif (2 == 2) && decide (k < 10) then some (hset _ (b + 0) _) else none) = _
  rw [show decide (k < 10) = true by simp [hk]]
  show some (hset _ _ _) = _
  rw [sput_set h b s (sF s k v) 0 (by omega) _ hl]
  intro i hi
  simp only [sCell, if_neg hi, sF]
theorem rs_0 (h : AH) (b : Nat) (s : SS) (hb : b + 6 ≤ h.1) : rdR (sput h b s) b 2 0 = some (b + 1) := by unfold rdR; rw [rdF_s h b s hb]; rfl
theorem ls_0 (h : AH) (b : Nat) (s : SS) (hb : b + 6 ≤ h.1) (k : Nat) (hk : k < 6) : ldI (sput h b s) (b + 1) 0 (nI k) = some (s.1 0 k) := ls_j h b s hb 0 k (by omega) hk
theorem ss_0 (h : AH) (b : Nat) (s : SS) (hb : b + 6 ≤ h.1) (k : Nat) (v : Int32) (hk : k < 6) : stI (sput h b s) (b + 1) 0 (nI k) v = some (sput h b (sA s 0 k v)) := ss_j h b s hb 0 k v (by omega) hk
theorem rs_1 (h : AH) (b : Nat) (s : SS) (hb : b + 6 ≤ h.1) : rdR (sput h b s) b 2 1 = some (b + 2) := by unfold rdR; rw [rdF_s h b s hb]; rfl
theorem ls_1 (h : AH) (b : Nat) (s : SS) (hb : b + 6 ≤ h.1) (k : Nat) (hk : k < 6) : ldI (sput h b s) (b + 2) 0 (nI k) = some (s.1 1 k) := ls_j h b s hb 1 k (by omega) hk
theorem ss_1 (h : AH) (b : Nat) (s : SS) (hb : b + 6 ≤ h.1) (k : Nat) (v : Int32) (hk : k < 6) : stI (sput h b s) (b + 2) 0 (nI k) v = some (sput h b (sA s 1 k v)) := ss_j h b s hb 1 k v (by omega) hk
theorem rs_2 (h : AH) (b : Nat) (s : SS) (hb : b + 6 ≤ h.1) : rdR (sput h b s) b 2 2 = some (b + 3) := by unfold rdR; rw [rdF_s h b s hb]; rfl
theorem ls_2 (h : AH) (b : Nat) (s : SS) (hb : b + 6 ≤ h.1) (k : Nat) (hk : k < 6) : ldI (sput h b s) (b + 3) 0 (nI k) = some (s.1 2 k) := ls_j h b s hb 2 k (by omega) hk
theorem ss_2 (h : AH) (b : Nat) (s : SS) (hb : b + 6 ≤ h.1) (k : Nat) (v : Int32) (hk : k < 6) : stI (sput h b s) (b + 3) 0 (nI k) v = some (sput h b (sA s 2 k v)) := ss_j h b s hb 2 k v (by omega) hk
theorem rs_3 (h : AH) (b : Nat) (s : SS) (hb : b + 6 ≤ h.1) : rdR (sput h b s) b 2 3 = some (b + 4) := by unfold rdR; rw [rdF_s h b s hb]; rfl
theorem ls_3 (h : AH) (b : Nat) (s : SS) (hb : b + 6 ≤ h.1) (k : Nat) (hk : k < 6) : ldI (sput h b s) (b + 4) 0 (nI k) = some (s.1 3 k) := ls_j h b s hb 3 k (by omega) hk
theorem ss_3 (h : AH) (b : Nat) (s : SS) (hb : b + 6 ≤ h.1) (k : Nat) (v : Int32) (hk : k < 6) : stI (sput h b s) (b + 4) 0 (nI k) v = some (sput h b (sA s 3 k v)) := ss_j h b s hb 3 k v (by omega) hk
theorem rs_4 (h : AH) (b : Nat) (s : SS) (hb : b + 6 ≤ h.1) : rdR (sput h b s) b 2 4 = some (b + 5) := by unfold rdR; rw [rdF_s h b s hb]; rfl
theorem ls_4 (h : AH) (b : Nat) (s : SS) (hb : b + 6 ≤ h.1) (k : Nat) (hk : k < 6) : ldI (sput h b s) (b + 5) 0 (nI k) = some (s.1 4 k) := ls_j h b s hb 4 k (by omega) hk
theorem ss_4 (h : AH) (b : Nat) (s : SS) (hb : b + 6 ≤ h.1) (k : Nat) (v : Int32) (hk : k < 6) : stI (sput h b s) (b + 5) 0 (nI k) v = some (sput h b (sA s 4 k v)) := ss_j h b s hb 4 k v (by omega) hk
theorem rs_5 (h : AH) (b : Nat) (s : SS) (hb : b + 6 ≤ h.1) : rdI (sput h b s) b 2 5 = some (s.2 5) := by unfold rdI; rw [rdF_s h b s hb]; rfl
theorem ws_5 (h : AH) (b : Nat) (s : SS) (hb : b + 6 ≤ h.1) (v : Int32) : wrF (sput h b s) b 2 5 (.int v) = some (sput h b (sF s 5 v)) := ws_k h b s hb 5 v (by omega) rfl
theorem rs_6 (h : AH) (b : Nat) (s : SS) (hb : b + 6 ≤ h.1) : rdI (sput h b s) b 2 6 = some (s.2 6) := by unfold rdI; rw [rdF_s h b s hb]; rfl
theorem ws_6 (h : AH) (b : Nat) (s : SS) (hb : b + 6 ≤ h.1) (v : Int32) : wrF (sput h b s) b 2 6 (.int v) = some (sput h b (sF s 6 v)) := ws_k h b s hb 6 v (by omega) rfl
theorem rs_7 (h : AH) (b : Nat) (s : SS) (hb : b + 6 ≤ h.1) : rdI (sput h b s) b 2 7 = some (s.2 7) := by unfold rdI; rw [rdF_s h b s hb]; rfl
theorem ws_7 (h : AH) (b : Nat) (s : SS) (hb : b + 6 ≤ h.1) (v : Int32) : wrF (sput h b s) b 2 7 (.int v) = some (sput h b (sF s 7 v)) := ws_k h b s hb 7 v (by omega) rfl
theorem rs_8 (h : AH) (b : Nat) (s : SS) (hb : b + 6 ≤ h.1) : rdI (sput h b s) b 2 8 = some (s.2 8) := by unfold rdI; rw [rdF_s h b s hb]; rfl
theorem ws_8 (h : AH) (b : Nat) (s : SS) (hb : b + 6 ≤ h.1) (v : Int32) : wrF (sput h b s) b 2 8 (.int v) = some (sput h b (sF s 8 v)) := ws_k h b s hb 8 v (by omega) rfl
theorem rs_9 (h : AH) (b : Nat) (s : SS) (hb : b + 6 ≤ h.1) : rdI (sput h b s) b 2 9 = some (s.2 9) := by unfold rdI; rw [rdF_s h b s hb]; rfl
theorem ws_9 (h : AH) (b : Nat) (s : SS) (hb : b + 6 ≤ h.1) (v : Int32) : wrF (sput h b s) b 2 9 (.int v) = some (sput h b (sF s 9 v)) := ws_k h b s hb 9 v (by omega) rfl
def sAd (t : Nat) : Nat := if t = 0 then 6 else if t = 1 then 12 else 16 + 6 * t
theorem P_s (d : AH) (x : XS) (m : MS) (t : Nat) (ht : t < 22) (s : SS) : sput (P d x m) (sAd t) s = P d (xS x t s) m := by
  unfold sput P
  refine Prod.ext rfl (Prod.ext rfl ?_)
  funext a
  show (if sAd t ≤ a ∧ a < sAd t + 6 then sCell (sAd t) s (a - sAd t) else if a < 153 then _ else if a < 175 then _ else _) = (if a < 153 then _ else if a < 175 then _ else _)
  have hs : sAd t + 6 ≤ 148 ∧ 6 ≤ sAd t := by unfold sAd; split <;> (try split) <;> omega
  by_cases h1 : sAd t ≤ a ∧ a < sAd t + 6
  · rw [if_pos h1, if_pos (by omega)]
    unfold sAd at h1 ⊢
    unfold xCell xS
    by_cases h0 : t = 0
    · subst h0
      simp only [if_true] at h1 ⊢
      rw [if_neg (by omega), if_neg (by omega), if_neg (by omega), if_neg (by omega), if_neg (by omega), if_neg (by omega), if_pos (by omega), va_up_self]
    · simp only [if_neg h0] at h1 ⊢
      by_cases h2 : t = 1
      · subst h2
        simp only [if_true] at h1 ⊢
        rw [if_neg (by omega), if_neg (by omega), if_neg (by omega), if_neg (by omega), if_neg (by omega), if_neg (by omega), if_neg (by omega), if_pos (by omega), va_up_self]
      · simp only [if_neg h2] at h1 ⊢
        rw [if_neg (by omega), if_neg (by omega), if_neg (by omega), if_neg (by omega), if_neg (by omega), if_neg (by omega), if_neg (by omega), if_neg (by omega), if_neg (by omega), if_neg (by omega), if_neg (by omega), if_neg (by omega), if_neg (by omega), if_neg (by omega), if_neg (by omega), if_neg (by omega), if_pos (by omega)]
        rw [show 2 + (a - 28) / 6 = t by omega, show 28 + 6 * ((a - 28) / 6) = 16 + 6 * t by omega, show (a - 28) % 6 = a - (16 + 6 * t) by omega, va_up_self]
  · rw [if_neg h1]
    by_cases h3 : a < 153
    · rw [if_pos h3, if_pos h3]
      have g0 : a < 12 → 6 ≤ a → 0 ≠ t := by intro _ _ e; subst e; simp [sAd] at h1; omega
      have g1 : a < 18 → 12 ≤ a → 1 ≠ t := by intro _ _ e; subst e; simp [sAd] at h1; omega
      have g2 : 28 ≤ a → a < 148 → 2 + (a - 28) / 6 ≠ t := by
        intro _ _ e
        unfold sAd at h1
        rw [if_neg (by omega), if_neg (by omega)] at h1
        omega
      unfold xCell
      refine ite_congr rfl (fun _ => rfl) fun e0 => ?_
      refine ite_congr rfl (fun _ => rfl) fun e1 => ?_
      refine ite_congr rfl (fun _ => rfl) fun e2 => ?_
      refine ite_congr rfl (fun _ => rfl) fun e3 => ?_
      refine ite_congr rfl (fun _ => rfl) fun e4 => ?_
      refine ite_congr rfl (fun _ => rfl) fun e5 => ?_
      refine ite_congr rfl (fun h => congrArg (fun q => sCell 6 q (a - 6)) (va_up_ne _ _ (g0 h (by omega))).symm) fun e6 => ?_
      refine ite_congr rfl (fun h => congrArg (fun q => sCell 12 q (a - 12)) (va_up_ne _ _ (g1 h (by omega))).symm) fun e7 => ?_
      refine ite_congr rfl (fun _ => rfl) fun e8 => ?_
      refine ite_congr rfl (fun _ => rfl) fun e9 => ?_
      refine ite_congr rfl (fun _ => rfl) fun e10 => ?_
      refine ite_congr rfl (fun _ => rfl) fun e11 => ?_
      refine ite_congr rfl (fun _ => rfl) fun e12 => ?_
      refine ite_congr rfl (fun _ => rfl) fun e13 => ?_
      refine ite_congr rfl (fun _ => rfl) fun e14 => ?_
      refine ite_congr rfl (fun _ => rfl) fun e15 => ?_
      refine ite_congr rfl (fun h => congrArg (fun q => sCell (28 + 6 * ((a - 28) / 6)) q ((a - 28) % 6)) (va_up_ne _ _ (g2 (by omega) h)).symm) fun e17 => ?_
      rfl
    · rw [if_neg h3, if_neg h3]
theorem P_g (d : AH) (x : XS) (m : MS) (t : Nat) (ht : t < 22) : sput (P d x m) (sAd t) (x.2.2.2.1 t) = P d x m := by
  rw [P_s d x m t ht]
  congr 1
  show (x.1, x.2.1, x.2.2.1, va_up x.2.2.2.1 t (x.2.2.2.1 t), x.2.2.2.2.1, x.2.2.2.2.2) = x
  have : va_up x.2.2.2.1 t (x.2.2.2.1 t) = x.2.2.2.1 := by
    funext j
    unfold va_up
    split
    next h => rw [h]
    next => rfl
  rw [this]
