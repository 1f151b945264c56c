/-! a State of x in P d x m -/
theorem P_len (d : AH) (x : XS) (m : MS) (t : Nat) (ht : t < 22) : sAd t + 6 ≤ (P d x m).1 := by
  show sAd t + 6 ≤ d.1 + 175
  unfold sAd
  split <;> (try split) <;> omega
theorem P_isO (d : AH) (x : XS) (m : MS) (t : Nat) (ht : t < 22) : isO (P d x m) (sAd t) 2 = true := by
  have := isO_s (P d x m) (sAd t) (x.2.2.2.1 t) (P_len d x m t ht)
  rwa [P_g d x m t ht] at this
theorem rp_0 (d : AH) (x : XS) (m : MS) (t : Nat) (ht : t < 22) : rdR (P d x m) (sAd t) 2 0 = some (sAd t + 1) := by
  have := rs_0 (P d x m) (sAd t) (x.2.2.2.1 t) (P_len d x m t ht)
  rwa [P_g d x m t ht] at this
theorem lp_0 (d : AH) (x : XS) (m : MS) (t : Nat) (ht : t < 22) (k : Nat) (hk : k < 6) : ldI (P d x m) (sAd t + 1) 0 (nI k) = some ((x.2.2.2.1 t).1 0 k) := by
  have := ls_0 (P d x m) (sAd t) (x.2.2.2.1 t) (P_len d x m t ht) k hk
  rwa [P_g d x m t ht] at this
theorem sp_0 (d : AH) (x : XS) (m : MS) (t : Nat) (ht : t < 22) (k : Nat) (v : Int32) (hk : k < 6) : stI (P d x m) (sAd t + 1) 0 (nI k) v = some (P d (xS x t (sA (x.2.2.2.1 t) 0 k v)) m) := by
  have := ss_0 (P d x m) (sAd t) (x.2.2.2.1 t) (P_len d x m t ht) k v hk
  rwa [P_g d x m t ht, P_s d x m t ht] at this
theorem rp_1 (d : AH) (x : XS) (m : MS) (t : Nat) (ht : t < 22) : rdR (P d x m) (sAd t) 2 1 = some (sAd t + 2) := by
  have := rs_1 (P d x m) (sAd t) (x.2.2.2.1 t) (P_len d x m t ht)
  rwa [P_g d x m t ht] at this
theorem lp_1 (d : AH) (x : XS) (m : MS) (t : Nat) (ht : t < 22) (k : Nat) (hk : k < 6) : ldI (P d x m) (sAd t + 2) 0 (nI k) = some ((x.2.2.2.1 t).1 1 k) := by
  have := ls_1 (P d x m) (sAd t) (x.2.2.2.1 t) (P_len d x m t ht) k hk
  rwa [P_g d x m t ht] at this
theorem sp_1 (d : AH) (x : XS) (m : MS) (t : Nat) (ht : t < 22) (k : Nat) (v : Int32) (hk : k < 6) : stI (P d x m) (sAd t + 2) 0 (nI k) v = some (P d (xS x t (sA (x.2.2.2.1 t) 1 k v)) m) := by
  have := ss_1 (P d x m) (sAd t) (x.2.2.2.1 t) (P_len d x m t ht) k v hk
  rwa [P_g d x m t ht, P_s d x m t ht] at this
theorem rp_2 (d : AH) (x : XS) (m : MS) (t : Nat) (ht : t < 22) : rdR (P d x m) (sAd t) 2 2 = some (sAd t + 3) := by
  have := rs_2 (P d x m) (sAd t) (x.2.2.2.1 t) (P_len d x m t ht)
  rwa [P_g d x m t ht] at this
theorem lp_2 (d : AH) (x : XS) (m : MS) (t : Nat) (ht : t < 22) (k : Nat) (hk : k < 6) : ldI (P d x m) (sAd t + 3) 0 (nI k) = some ((x.2.2.2.1 t).1 2 k) := by
  have := ls_2 (P d x m) (sAd t) (x.2.2.2.1 t) (P_len d x m t ht) k hk
  rwa [P_g d x m t ht] at this
theorem sp_2 (d : AH) (x : XS) (m : MS) (t : Nat) (ht : t < 22) (k : Nat) (v : Int32) (hk : k < 6) : stI (P d x m) (sAd t + 3) 0 (nI k) v = some (P d (xS x t (sA (x.2.2.2.1 t) 2 k v)) m) := by
  have := ss_2 (P d x m) (sAd t) (x.2.2.2.1 t) (P_len d x m t ht) k v hk
  rwa [P_g d x m t ht, P_s d x m t ht] at this
theorem rp_3 (d : AH) (x : XS) (m : MS) (t : Nat) (ht : t < 22) : rdR (P d x m) (sAd t) 2 3 = some (sAd t + 4) := by
  have := rs_3 (P d x m) (sAd t) (x.2.2.2.1 t) (P_len d x m t ht)
  rwa [P_g d x m t ht] at this
theorem lp_3 (d : AH) (x : XS) (m : MS) (t : Nat) (ht : t < 22) (k : Nat) (hk : k < 6) : ldI (P d x m) (sAd t + 4) 0 (nI k) = some ((x.2.2.2.1 t).1 3 k) := by
  have := ls_3 (P d x m) (sAd t) (x.2.2.2.1 t) (P_len d x m t ht) k hk
  rwa [P_g d x m t ht] at this
theorem sp_3 (d : AH) (x : XS) (m : MS) (t : Nat) (ht : t < 22) (k : Nat) (v : Int32) (hk : k < 6) : stI (P d x m) (sAd t + 4) 0 (nI k) v = some (P d (xS x t (sA (x.2.2.2.1 t) 3 k v)) m) := by
  have := ss_3 (P d x m) (sAd t) (x.2.2.2.1 t) (P_len d x m t ht) k v hk
  rwa [P_g d x m t ht, P_s d x m t ht] at this
theorem rp_4 (d : AH) (x : XS) (m : MS) (t : Nat) (ht : t < 22) : rdR (P d x m) (sAd t) 2 4 = some (sAd t + 5) := by
  have := rs_4 (P d x m) (sAd t) (x.2.2.2.1 t) (P_len d x m t ht)
  rwa [P_g d x m t ht] at this
theorem lp_4 (d : AH) (x : XS) (m : MS) (t : Nat) (ht : t < 22) (k : Nat) (hk : k < 6) : ldI (P d x m) (sAd t + 5) 0 (nI k) = some ((x.2.2.2.1 t).1 4 k) := by
  have := ls_4 (P d x m) (sAd t) (x.2.2.2.1 t) (P_len d x m t ht) k hk
  rwa [P_g d x m t ht] at this
theorem sp_4 (d : AH) (x : XS) (m : MS) (t : Nat) (ht : t < 22) (k : Nat) (v : Int32) (hk : k < 6) : stI (P d x m) (sAd t + 5) 0 (nI k) v = some (P d (xS x t (sA (x.2.2.2.1 t) 4 k v)) m) := by
  have := ss_4 (P d x m) (sAd t) (x.2.2.2.1 t) (P_len d x m t ht) k v hk
  rwa [P_g d x m t ht, P_s d x m t ht] at this
theorem rp_5 (d : AH) (x : XS) (m : MS) (t : Nat) (ht : t < 22) : rdI (P d x m) (sAd t) 2 5 = some ((x.2.2.2.1 t).2 5) := by
  have := rs_5 (P d x m) (sAd t) (x.2.2.2.1 t) (P_len d x m t ht)
  rwa [P_g d x m t ht] at this
theorem wp_5 (d : AH) (x : XS) (m : MS) (t : Nat) (ht : t < 22) (v : Int32) : wrF (P d x m) (sAd t) 2 5 (.int v) = some (P d (xS x t (sF (x.2.2.2.1 t) 5 v)) m) := by
  have := ws_5 (P d x m) (sAd t) (x.2.2.2.1 t) (P_len d x m t ht) v
  rwa [P_g d x m t ht, P_s d x m t ht] at this
theorem rp_6 (d : AH) (x : XS) (m : MS) (t : Nat) (ht : t < 22) : rdI (P d x m) (sAd t) 2 6 = some ((x.2.2.2.1 t).2 6) := by
  have := rs_6 (P d x m) (sAd t) (x.2.2.2.1 t) (P_len d x m t ht)
  rwa [P_g d x m t ht] at this
theorem wp_6 (d : AH) (x : XS) (m : MS) (t : Nat) (ht : t < 22) (v : Int32) : wrF (P d x m) (sAd t) 2 6 (.int v) = some (P d (xS x t (sF (x.2.2.2.1 t) 6 v)) m) := by
  have := ws_6 (P d x m) (sAd t) (x.2.2.2.1 t) (P_len d x m t ht) v
  rwa [P_g d x m t ht, P_s d x m t ht] at this
theorem rp_7 (d : AH) (x : XS) (m : MS) (t : Nat) (ht : t < 22) : rdI (P d x m) (sAd t) 2 7 = some ((x.2.2.2.1 t).2 7) := by
  have := rs_7 (P d x m) (sAd t) (x.2.2.2.1 t) (P_len d x m t ht)
  rwa [P_g d x m t ht] at this
theorem wp_7 (d : AH) (x : XS) (m : MS) (t : Nat) (ht : t < 22) (v : Int32) : wrF (P d x m) (sAd t) 2 7 (.int v) = some (P d (xS x t (sF (x.2.2.2.1 t) 7 v)) m) := by
  have := ws_7 (P d x m) (sAd t) (x.2.2.2.1 t) (P_len d x m t ht) v
  rwa [P_g d x m t ht, P_s d x m t ht] at this
theorem rp_8 (d : AH) (x : XS) (m : MS) (t : Nat) (ht : t < 22) : rdI (P d x m) (sAd t) 2 8 = some ((x.2.2.2.1 t).2 8) := by
  have := rs_8 (P d x m) (sAd t) (x.2.2.2.1 t) (P_len d x m t ht)
  rwa [P_g d x m t ht] at this
theorem wp_8 (d : AH) (x : XS) (m : MS) (t : Nat) (ht : t < 22) (v : Int32) : wrF (P d x m) (sAd t) 2 8 (.int v) = some (P d (xS x t (sF (x.2.2.2.1 t) 8 v)) m) := by
  have := ws_8 (P d x m) (sAd t) (x.2.2.2.1 t) (P_len d x m t ht) v
  rwa [P_g d x m t ht, P_s d x m t ht] at this
theorem rp_9 (d : AH) (x : XS) (m : MS) (t : Nat) (ht : t < 22) : rdI (P d x m) (sAd t) 2 9 = some ((x.2.2.2.1 t).2 9) := by
  have := rs_9 (P d x m) (sAd t) (x.2.2.2.1 t) (P_len d x m t ht)
  rwa [P_g d x m t ht] at this
theorem wp_9 (d : AH) (x : XS) (m : MS) (t : Nat) (ht : t < 22) (v : Int32) : wrF (P d x m) (sAd t) 2 9 (.int v) = some (P d (xS x t (sF (x.2.2.2.1 t) 9 v)) m) := by
  have := ws_9 (P d x m) (sAd t) (x.2.2.2.1 t) (P_len d x m t ht) v
  rwa [P_g d x m t ht, P_s d x m t ht] at this
theorem xS_s (x : XS) (t : Nat) (s : SS) : (xS x t s).2.2.2.1 t = s := va_up_self _ _ _
theorem xS_n (x : XS) (t : Nat) (s : SS) (u : Nat) (h : u ≠ t) : (xS x t s).2.2.2.1 u = x.2.2.2.1 u := va_up_ne _ _ h
theorem xS_1 (x : XS) (t : Nat) (s : SS) : (xS x t s).1 = x.1 := rfl
theorem xS_A (x : XS) (t : Nat) (s : SS) : (xS x t s).2.1 = x.2.1 := rfl
theorem xS_W (x : XS) (t : Nat) (s : SS) : (xS x t s).2.2.1 = x.2.2.1 := rfl
theorem xS_R (x : XS) (t : Nat) (s : SS) : (xS x t s).2.2.2.2 = x.2.2.2.2 := rfl
theorem xS_S (x : XS) (t : Nat) (s s' : SS) : xS (xS x t s) t s' = xS x t s' := by
  unfold xS
  simp only [bx_uu]
theorem xS_id (x : XS) (t : Nat) : xS x t (x.2.2.2.1 t) = x := by
  unfold xS
  simp only [va_up_id]
theorem xW_1 (x : XS) (i : Nat) (v : Int64) : (xW x i v).1 = x.1 := rfl
theorem xW_A (x : XS) (i : Nat) (v : Int64) : (xW x i v).2.1 = x.2.1 := rfl
theorem xW_S (x : XS) (i : Nat) (v : Int64) : (xW x i v).2.2.2 = x.2.2.2 := rfl
theorem xF_s (x : XS) (k : Nat) (v : Int32) : (xF x k v).1 k = v := va_up_self _ _ _
theorem xF_n (x : XS) (k : Nat) (v : Int32) (j : Nat) (h : j ≠ k) : (xF x k v).1 j = x.1 j := va_up_ne _ _ h
theorem xF_2 (x : XS) (k : Nat) (v : Int32) : (xF x k v).2 = x.2 := rfl
theorem xA_s (x : XS) (j i : Nat) (v : Int32) : (xA x j i v).2.1 j i = v := by simp [xA, va_up_self]
theorem xA_n (x : XS) (j i : Nat) (v : Int32) (h : Nat) (e : h ≠ i) : (xA x j i v).2.1 j h = x.2.1 j h := by simp [xA, va_up_self, va_up_ne _ _ e]
theorem xA_o (x : XS) (j i : Nat) (v : Int32) (j' : Nat) (e : j' ≠ j) : (xA x j i v).2.1 j' = x.2.1 j' := by simp [xA, va_up_ne _ _ e]
theorem xA_1 (x : XS) (j i : Nat) (v : Int32) : (xA x j i v).1 = x.1 := rfl
theorem xA_2 (x : XS) (j i : Nat) (v : Int32) : (xA x j i v).2.2 = x.2.2 := rfl
