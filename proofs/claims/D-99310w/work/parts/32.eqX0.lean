set_option maxRecDepth 100000
theorem e_X0_init_0 (E : AEn) (a_0 : Nat) (h : AH) : evR T_X0_init E 0 ([(0, .ref a_0)], [], h) =
  rV (E n_X1_init [.ref h.1] (hpush h 5 (.inl (1, dF1)))) (fun h1 =>
  (wrF h1 a_0 0 0 (.ref h.1)).bind fun h2 =>
  rV (E n_X2_init [.ref h2.1] (hpush h2 10 (.inl (2, dF2)))) (fun h3 =>
  (wrF h3 a_0 0 1 (.ref h2.1)).bind fun h4 =>
  rV (E n_X2_init [.ref h4.1] (hpush h4 10 (.inl (2, dF2)))) (fun h5 =>
  (wrF h5 a_0 0 2 (.ref h4.1)).bind fun h6 =>
  rV (E n_J2_init [.ref h6.1, .int (2 : Int32)] (hpush h6 3 (.inl (8, dF8)))) (fun h7 =>
  (wrF h7 a_0 0 3 (.ref h6.1)).bind fun h8 =>
  (wrF h8 a_0 0 4 (.int (-1 : Int32))).bind fun h9 =>
  (wrF (hpush h9 7 (.inl (3, [.int 0]))) a_0 0 5 (.ref h9.1)).bind fun h10 =>
  (wrF (hpush h10 400 (.inr (1, 400, .inl (fun _ => 0)))) a_0 0 6 (.ref h10.1)).bind fun h11 =>
  (wrF (hpush h11 10 (.inr (0, 10, .inl (fun _ => 0)))) a_0 0 8 (.ref h11.1)).bind fun h12 =>
  (wrF (hpush h12 10 (.inr (0, 10, .inl (fun _ => 0)))) a_0 0 9 (.ref h12.1)).bind fun h13 =>
  (plen 300).bind fun i14 =>
  (mkN i14).bind fun n15 =>
  (wrF (hpush h13 n15 (.inr (2, n15, .inr (.inl (fun _ => 0))))) a_0 0 12 (.ref h13.1)).bind fun h16 =>
  (wrF (hpush h16 6 (.inr (0, 6, .inl (fun _ => 0)))) a_0 0 13 (.ref h16.1)).bind fun h17 =>
  (wrF (hpush h17 6 (.inr (0, 6, .inl (fun _ => 0)))) a_0 0 14 (.ref h17.1)).bind fun h18 =>
  rR (E n_X0_newStates [.int (20 : Int32)] h18) (fun r20 h19 =>
  (wrF h19 a_0 0 19 (.ref r20)).bind fun h21 =>
  (wrF (hpush h21 25 (.inr (0, 25, .inl (fun _ => 0)))) a_0 0 23 (.ref h21.1)).bind fun h22 =>
  (wrF (hpush h22 25 (.inr (0, 25, .inl (fun _ => 0)))) a_0 0 24 (.ref h22.1)).bind fun h23 =>
  (wrF (hpush h23 61 (.inr (0, 61, .inl (fun _ => 0)))) a_0 0 25 (.ref h23.1)).bind fun h24 =>
  (wrF (hpush h24 427 (.inr (0, 427, .inl (fun _ => 0)))) a_0 0 26 (.ref h24.1)).bind fun h25 =>
  (wrF (hpush h25 4 (.inr (6, 4, .inr (.inr (fun _ => none))))) a_0 0 27 (.ref h25.1)).bind fun h26 =>
  some (.inl none, h26)) thr) thr) thr) thr) thr := by
  rw [evR_eq ok_T_X0_init.loc (ops := b_X0_init_0) rfl]; rfl
theorem c_X0_init (d : Nat) (a_0 : Nat) (h : AH) : callR (d + 1) n_X0_init [.ref a_0] h =
  bif isO h a_0 0 then evR T_X0_init (callR d) 0 ([(0, .ref a_0)], [], h) else none := by
  rw [callR_succ, show aMTl[n_X0_init]? = some (T_X0_init, [0]) from rfl]; show (bif (isO h a_0 0) && true then _ else _) = _; rw [Bool.and_true]; rfl
theorem e_X0_newStates_0 (E : AEn) (i_0 : Int32) (h : AH) : evR T_X0_newStates E 0 ([(0, .int i_0)], [], h) =
  (mkN i_0).bind fun n1 =>
  evR T_X0_newStates E 7 ([(0, .int i_0), (1, .ref h.1), (2, .int (0 : Int32))], [], (hpush h n1 (.inr (5, n1, .inr (.inr (fun _ => none)))))) := by
  rw [evR_eq ok_T_X0_newStates.loc (ops := b_X0_newStates_0) rfl]; rfl
theorem e_X0_newStates_7 (E : AEn) (i_0 : Int32) (a_1 : Nat) (i_2 : Int32) (h : AH) : evR T_X0_newStates E 7 ([(0, .int i_0), (1, .ref a_1), (2, .int i_2)], [], h) =
  bif decide (i_0 ≤ i_2) then evR T_X0_newStates E 28 ([(1, .ref a_1)], [], h) else
  evR T_X0_newStates E 12 ([(0, .int i_0), (1, .ref a_1), (2, .int i_2)], [], h) := by
  rw [evR_eq ok_T_X0_newStates.loc (ops := b_X0_newStates_7) rfl]; rfl
theorem e_X0_newStates_12 (E : AEn) (i_0 : Int32) (a_1 : Nat) (i_2 : Int32) (h : AH) : evR T_X0_newStates E 12 ([(0, .int i_0), (1, .ref a_1), (2, .int i_2)], [], h) =
  rV (E n_X2_init [.ref h.1] (hpush h 10 (.inl (2, dF2)))) (fun h1 =>
  (stR h1 a_1 5 i_2 h.1).bind fun h2 =>
  evR T_X0_newStates E 7 ([(0, .int i_0), (1, .ref a_1), (2, .int (i_2 + (1 : Int32)))], [], h2)) thr := by
  rw [evR_eq ok_T_X0_newStates.loc (ops := b_X0_newStates_12) rfl]; rfl
theorem e_X0_newStates_28 (E : AEn) (a_1 : Nat) (h : AH) : evR T_X0_newStates E 28 ([(1, .ref a_1)], [], h) =
  some (.inl (some (.ref a_1)), h) := by
  rw [evR_eq ok_T_X0_newStates.loc (ops := b_X0_newStates_28) rfl]; rfl
theorem c_X0_newStates (d : Nat) (i_0 : Int32) (h : AH) : callR (d + 1) n_X0_newStates [.int i_0] h =
  evR T_X0_newStates (callR d) 0 ([(0, .int i_0)], [], h) := by
  rw [callR_succ, show aMTl[n_X0_newStates]? = some (T_X0_newStates, [0]) from rfl]; rfl
theorem e_X0_feed_0 (E : AEn) (a_0 : Nat) (i_1 : Int32) (i_2 : Int32) (i_3 : Int32) (i_4 : Int32) (i_5 : Int32) (h : AH) : evR T_X0_feed E 0 ([(0, .ref a_0), (1, .int i_1), (2, .int i_2), (3, .int i_3), (4, .int i_4), (5, .int i_5)], [], h) =
  (rdI h a_0 0 7).bind fun i1 =>
  bif decide ((i1 + (20 : Int32)) ≤ (400 : Int32)) then evR T_X0_feed E 15 ([(0, .ref a_0), (1, .int i_1), (2, .int i_2), (3, .int i_3), (4, .int i_4), (5, .int i_5)], [], h) else
  evR T_X0_feed E 13 ([], [], h) := by
  rw [evR_eq ok_T_X0_feed.loc (ops := b_X0_feed_0) rfl]; rfl
theorem e_X0_feed_13 (E : AEn)  (h : AH) : evR T_X0_feed E 13 ([], [], h) =
  some (.inl (some (.int (-1 : Int32))), h) := by
  rw [evR_eq ok_T_X0_feed.loc (ops := b_X0_feed_13) rfl]; rfl
theorem e_X0_feed_15 (E : AEn) (a_0 : Nat) (i_1 : Int32) (i_2 : Int32) (i_3 : Int32) (i_4 : Int32) (i_5 : Int32) (h : AH) : evR T_X0_feed E 15 ([(0, .ref a_0), (1, .int i_1), (2, .int i_2), (3, .int i_3), (4, .int i_4), (5, .int i_5)], [], h) =
  rV (E n_X0_put [.ref a_0, .int i_1] h) (fun h1 =>
  rV (E n_X0_put [.ref a_0, .int i_2] h1) (fun h2 =>
  rV (E n_X0_put [.ref a_0, .int i_3] h2) (fun h3 =>
  rV (E n_X0_put [.ref a_0, .int i_4] h3) (fun h4 =>
  rV (E n_X0_put [.ref a_0, .int i_5] h4) (fun h5 =>
  (rdI h5 a_0 0 7).bind fun i6 =>
  some (.inl (some (.int i6)), h5)) thr) thr) thr) thr) thr := by
  rw [evR_eq ok_T_X0_feed.loc (ops := b_X0_feed_15) rfl]; rfl
theorem c_X0_feed (d : Nat) (a_0 : Nat) (i_1 : Int32) (i_2 : Int32) (i_3 : Int32) (i_4 : Int32) (i_5 : Int32) (h : AH) : callR (d + 1) n_X0_feed [.ref a_0, .int i_1, .int i_2, .int i_3, .int i_4, .int i_5] h =
  bif isO h a_0 0 then evR T_X0_feed (callR d) 0 ([(0, .ref a_0), (1, .int i_1), (2, .int i_2), (3, .int i_3), (4, .int i_4), (5, .int i_5)], [], h) else none := by
  rw [callR_succ, show aMTl[n_X0_feed]? = some (T_X0_feed, [0, 1, 2, 3, 4, 5]) from rfl]; show (bif (isO h a_0 0) && true then _ else _) = _; rw [Bool.and_true]; rfl
theorem e_X0_put_0 (E : AEn) (a_0 : Nat) (i_1 : Int32) (h : AH) : evR T_X0_put E 0 ([(0, .ref a_0), (1, .int i_1)], [], h) =
  evR T_X0_put E 3 ([(0, .ref a_0), (1, .int i_1), (2, .int (24 : Int32))], [], h) := by
  rw [evR_eq ok_T_X0_put.loc (ops := b_X0_put_0) rfl]; rfl
theorem e_X0_put_3 (E : AEn) (a_0 : Nat) (i_1 : Int32) (i_2 : Int32) (h : AH) : evR T_X0_put E 3 ([(0, .ref a_0), (1, .int i_1), (2, .int i_2)], [], h) =
  bif decide (i_2 < 0) then evR T_X0_put E 36 ([], [], h) else
  evR T_X0_put E 7 ([(0, .ref a_0), (1, .int i_1), (2, .int i_2)], [], h) := by
  rw [evR_eq ok_T_X0_put.loc (ops := b_X0_put_3) rfl]; rfl
theorem e_X0_put_7 (E : AEn) (a_0 : Nat) (i_1 : Int32) (i_2 : Int32) (h : AH) : evR T_X0_put E 7 ([(0, .ref a_0), (1, .int i_1), (2, .int i_2)], [], h) =
  (rdR h a_0 0 6).bind fun r1 =>
  (rdI h a_0 0 7).bind fun i2 =>
  (stI h r1 1 i2 (vp_nar .byte (i_1 >>> (i_2 &&& 31)).toInt8.toInt32)).bind fun h3 =>
  (rdI h3 a_0 0 7).bind fun i4 =>
  (wrF h3 a_0 0 7 (.int (i4 + (1 : Int32)))).bind fun h5 =>
  evR T_X0_put E 3 ([(0, .ref a_0), (1, .int i_1), (2, .int (i_2 + (-8 : Int32)))], [], h5) := by
  rw [evR_eq ok_T_X0_put.loc (ops := b_X0_put_7) rfl]; rfl
theorem e_X0_put_36 (E : AEn)  (h : AH) : evR T_X0_put E 36 ([], [], h) =
  some (.inl none, h) := by
  rw [evR_eq ok_T_X0_put.loc (ops := b_X0_put_36) rfl]; rfl
theorem c_X0_put (d : Nat) (a_0 : Nat) (i_1 : Int32) (h : AH) : callR (d + 1) n_X0_put [.ref a_0, .int i_1] h =
  bif isO h a_0 0 then evR T_X0_put (callR d) 0 ([(0, .ref a_0), (1, .int i_1)], [], h) else none := by
  rw [callR_succ, show aMTl[n_X0_put]? = some (T_X0_put, [0, 1]) from rfl]; show (bif (isO h a_0 0) && true then _ else _) = _; rw [Bool.and_true]; rfl
theorem e_X0_end_0 (E : AEn) (a_0 : Nat) (i_1 : Int32) (h : AH) : evR T_X0_end E 0 ([(0, .ref a_0), (1, .int i_1)], [], h) =
  bif decide (i_1 < 0) then evR T_X0_end E 12 ([], [], h) else
  evR T_X0_end E 4 ([(0, .ref a_0), (1, .int i_1)], [], h) := by
  rw [evR_eq ok_T_X0_end.loc (ops := b_X0_end_0) rfl]; rfl
theorem e_X0_end_4 (E : AEn) (a_0 : Nat) (i_1 : Int32) (h : AH) : evR T_X0_end E 4 ([(0, .ref a_0), (1, .int i_1)], [], h) =
  (rdI h a_0 0 7).bind fun i1 =>
  bif decide (i_1 ≤ i1) then evR T_X0_end E 14 ([(0, .ref a_0), (1, .int i_1)], [], h) else
  evR T_X0_end E 12 ([], [], h) := by
  rw [evR_eq ok_T_X0_end.loc (ops := b_X0_end_4) rfl]; rfl
theorem e_X0_end_12 (E : AEn)  (h : AH) : evR T_X0_end E 12 ([], [], h) =
  some (.inl (some (.int (-1 : Int32))), h) := by
  rw [evR_eq ok_T_X0_end.loc (ops := b_X0_end_12) rfl]; rfl
theorem e_X0_end_14 (E : AEn) (a_0 : Nat) (i_1 : Int32) (h : AH) : evR T_X0_end E 14 ([(0, .ref a_0), (1, .int i_1)], [], h) =
  (wrF h a_0 0 7 (.int i_1)).bind fun h1 =>
  some (.inl (some (.int i_1)), h1) := by
  rw [evR_eq ok_T_X0_end.loc (ops := b_X0_end_14) rfl]; rfl
theorem c_X0_end (d : Nat) (a_0 : Nat) (i_1 : Int32) (h : AH) : callR (d + 1) n_X0_end [.ref a_0, .int i_1] h =
  bif isO h a_0 0 then evR T_X0_end (callR d) 0 ([(0, .ref a_0), (1, .int i_1)], [], h) else none := by
  rw [callR_succ, show aMTl[n_X0_end]? = some (T_X0_end, [0, 1]) from rfl]; show (bif (isO h a_0 0) && true then _ else _) = _; rw [Bool.and_true]; rfl
theorem e_X0_valley_0 (E : AEn) (a_0 : Nat) (h : AH) : evR T_X0_valley E 0 ([(0, .ref a_0)], [], h) =
  rV (E n_X5_init [.ref h.1, .ref a_0, .retAddr 300, .int (40 : Int32)] (hpush h 7 (.inl (5, dF5)))) (fun h1 =>
  rR (E n_X5_valley [.ref h.1] h1) (fun r3 h2 =>
  (wrF h2 a_0 0 0 (.ref r3)).bind fun h4 =>
  (rdR h4 a_0 0 1).bind fun r5 =>
  (rdR h4 a_0 0 0).bind fun r6 =>
  rV (E n_X2_begin [.ref r5, .ref r6] h4) (fun h7 =>
  (wrF h7 a_0 0 10 (.int (0 : Int32))).bind fun h8 =>
  (wrF h8 a_0 0 20 (.int (0 : Int32))).bind fun h9 =>
  (rdR h9 a_0 0 0).bind fun r10 =>
  rI (E n_X1_houses [.ref r10] h9) (fun i12 h11 =>
  (wrF h11 a_0 0 7 (.int (0 : Int32))).bind fun h13 =>
  some (.inl (some (.int i12)), h13)) (fun q h => evR T_X0_valley E 56 ([(0, .ref a_0)], [.ref q], h))) (fun q h => evR T_X0_valley E 56 ([(0, .ref a_0)], [.ref q], h))) (fun q h => evR T_X0_valley E 56 ([(0, .ref a_0)], [.ref q], h))) (fun q h => evR T_X0_valley E 56 ([(0, .ref a_0)], [.ref q], h)) := by
  rw [evR_eq ok_T_X0_valley.loc (ops := b_X0_valley_0) rfl]; rfl
theorem e_X0_valley_56 (E : AEn) (a_0 : Nat) (sa_0 : Nat) (h : AH) : evR T_X0_valley E 56 ([(0, .ref a_0)], [.ref sa_0], h) =
  (rdI h sa_0 3 0).bind fun i1 =>
  (wrF h a_0 0 7 (.int (0 : Int32))).bind fun h2 =>
  some (.inl (some (.int ((-2 : Int32) - i1))), h2) := by
  rw [evR_eq ok_T_X0_valley.loc (ops := b_X0_valley_56) rfl]; rfl
theorem c_X0_valley (d : Nat) (a_0 : Nat) (h : AH) : callR (d + 1) n_X0_valley [.ref a_0] h =
  bif isO h a_0 0 then evR T_X0_valley (callR d) 0 ([(0, .ref a_0)], [], h) else none := by
  rw [callR_succ, show aMTl[n_X0_valley]? = some (T_X0_valley, [0]) from rfl]; show (bif (isO h a_0 0) && true then _ else _) = _; rw [Bool.and_true]; rfl
theorem e_X0_in_0 (E : AEn) (l_0 : Int64) (l_2 : Int64) (l_4 : Int64) (h : AH) : evR T_X0_in E 0 ([(0, .long l_0), (2, .long l_2), (4, .long l_4)], [], h) =
  bif decide ((lg_cmp l_0 l_2) < 0) then evR T_X0_in E 17 ([], [], h) else
  evR T_X0_in E 6 ([(0, .long l_0), (4, .long l_4)], [], h) := by
  rw [evR_eq ok_T_X0_in.loc (ops := b_X0_in_0) rfl]; rfl
theorem e_X0_in_6 (E : AEn) (l_0 : Int64) (l_4 : Int64) (h : AH) : evR T_X0_in E 6 ([(0, .long l_0), (4, .long l_4)], [], h) =
  bif decide (0 < (lg_cmp l_0 l_4)) then evR T_X0_in E 17 ([], [], h) else
  evR T_X0_in E 13 ([], [], h) := by
  rw [evR_eq ok_T_X0_in.loc (ops := b_X0_in_6) rfl]; rfl
theorem e_X0_in_13 (E : AEn)  (h : AH) : evR T_X0_in E 13 ([], [], h) =
  evR T_X0_in E 18 ([], [.int (1 : Int32)], h) := by
  rw [evR_eq ok_T_X0_in.loc (ops := b_X0_in_13) rfl]; rfl
theorem e_X0_in_17 (E : AEn)  (h : AH) : evR T_X0_in E 17 ([], [], h) =
  evR T_X0_in E 18 ([], [.int (0 : Int32)], h) := by
  rw [evR_eq ok_T_X0_in.loc (ops := b_X0_in_17) rfl]; rfl
theorem e_X0_in_18 (E : AEn) (si_0 : Int32) (h : AH) : evR T_X0_in E 18 ([], [.int si_0], h) =
  (bif si_0 == 0 || si_0 == 1 then some si_0 else none).bind fun i1 => some (.inl (some (.int i1)), h) := by
  rw [evR_eq ok_T_X0_in.loc (ops := b_X0_in_18) rfl]; rfl
theorem c_X0_in (d : Nat) (l_0 : Int64) (l_2 : Int64) (l_4 : Int64) (h : AH) : callR (d + 1) n_X0_in [.long l_0, .long l_2, .long l_4] h =
  evR T_X0_in (callR d) 0 ([(0, .long l_0), (2, .long l_2), (4, .long l_4)], [], h) := by
  rw [callR_succ, show aMTl[n_X0_in]? = some (T_X0_in, [0, 2, 4]) from rfl]; rfl
theorem e_X0_fails_0 (E : AEn) (a_0 : Nat) (i_1 : Int32) (i_2 : Int32) (h : AH) : evR T_X0_fails E 0 ([(0, .ref a_0), (1, .int i_1), (2, .int i_2)], [], h) =
  (rdR h a_0 0 5).bind fun r1 =>
  (wrF h r1 3 0 (.int (((1 : Int32) + ((8 : Int32) * i_2)) + i_1))).bind fun h2 =>
  (rdR h2 a_0 0 5).bind fun r3 =>
  some (.inl (some (.ref r3)), h2) := by
  rw [evR_eq ok_T_X0_fails.loc (ops := b_X0_fails_0) rfl]; rfl
theorem c_X0_fails (d : Nat) (a_0 : Nat) (i_1 : Int32) (i_2 : Int32) (h : AH) : callR (d + 1) n_X0_fails [.ref a_0, .int i_1, .int i_2] h =
  bif isO h a_0 0 then evR T_X0_fails (callR d) 0 ([(0, .ref a_0), (1, .int i_1), (2, .int i_2)], [], h) else none := by
  rw [callR_succ, show aMTl[n_X0_fails]? = some (T_X0_fails, [0, 1, 2]) from rfl]; show (bif (isO h a_0 0) && true then _ else _) = _; rw [Bool.and_true]; rfl
theorem e_X0_rule_0 (E : AEn) (a_0 : Nat) (h : AH) : evR T_X0_rule E 0 ([(0, .ref a_0)], [], h) =
  (rdR h a_0 0 3).bind fun r1 =>
  rI (E n_J2_size [.ref r1] h) (fun i3 h2 =>
  bif !(i3 == (6 : Int32)) then evR T_X0_rule E 14 ([(0, .ref a_0)], [], h2) else
  evR T_X0_rule E 12 ([], [], h2)) thr := by
  rw [evR_eq ok_T_X0_rule.loc (ops := b_X0_rule_0) rfl]; rfl
theorem e_X0_rule_12 (E : AEn)  (h : AH) : evR T_X0_rule E 12 ([], [], h) =
  some (.inl (some (.int (-1 : Int32))), h) := by
  rw [evR_eq ok_T_X0_rule.loc (ops := b_X0_rule_12) rfl]; rfl
theorem e_X0_rule_14 (E : AEn) (a_0 : Nat) (h : AH) : evR T_X0_rule E 14 ([(0, .ref a_0)], [], h) =
  rV (E n_X5_init [.ref h.1, .ref a_0, .retAddr 300, .int (12 : Int32)] (hpush h 7 (.inl (5, dF5)))) (fun h1 =>
  rI (E n_X5_rule [.ref h.1] h1) (fun i3 h2 =>
  (wrF h2 a_0 0 7 (.int (0 : Int32))).bind fun h4 =>
  some (.inl (some (.int i3)), h4)) (fun q h => evR T_X0_rule E 38 ([(0, .ref a_0)], [.ref q], h))) (fun q h => evR T_X0_rule E 38 ([(0, .ref a_0)], [.ref q], h)) := by
  rw [evR_eq ok_T_X0_rule.loc (ops := b_X0_rule_14) rfl]; rfl
theorem e_X0_rule_38 (E : AEn) (a_0 : Nat) (sa_0 : Nat) (h : AH) : evR T_X0_rule E 38 ([(0, .ref a_0)], [.ref sa_0], h) =
  (rdI h sa_0 3 0).bind fun i1 =>
  (wrF h a_0 0 7 (.int (0 : Int32))).bind fun h2 =>
  some (.inl (some (.int ((-2 : Int32) - i1))), h2) := by
  rw [evR_eq ok_T_X0_rule.loc (ops := b_X0_rule_38) rfl]; rfl
theorem c_X0_rule (d : Nat) (a_0 : Nat) (h : AH) : callR (d + 1) n_X0_rule [.ref a_0] h =
  bif isO h a_0 0 then evR T_X0_rule (callR d) 0 ([(0, .ref a_0)], [], h) else none := by
  rw [callR_succ, show aMTl[n_X0_rule]? = some (T_X0_rule, [0]) from rfl]; show (bif (isO h a_0 0) && true then _ else _) = _; rw [Bool.and_true]; rfl
theorem e_X0_force_0 (E : AEn) (a_0 : Nat) (i_1 : Int32) (h : AH) : evR T_X0_force E 0 ([(0, .ref a_0), (1, .int i_1)], [], h) =
  (rdR h a_0 0 3).bind fun r1 =>
  rI (E n_J2_size [.ref r1] h) (fun i3 h2 =>
  rI (E n_X0_in [.long i_1.toInt64, .long (-1 : Int64), .long (i3 - (1 : Int32)).toInt64] h2) (fun i5 h4 =>
  bif !(i5 == 0) then evR T_X0_force E 24 ([(0, .ref a_0), (1, .int i_1)], [], h4) else
  evR T_X0_force E 21 ([], [], h4)) thr) thr := by
  rw [evR_eq ok_T_X0_force.loc (ops := b_X0_force_0) rfl]; rfl
theorem e_X0_force_21 (E : AEn)  (h : AH) : evR T_X0_force E 21 ([], [], h) =
  some (.inl (some (.int (-2 : Int32))), h) := by
  rw [evR_eq ok_T_X0_force.loc (ops := b_X0_force_21) rfl]; rfl
theorem e_X0_force_24 (E : AEn) (a_0 : Nat) (i_1 : Int32) (h : AH) : evR T_X0_force E 24 ([(0, .ref a_0), (1, .int i_1)], [], h) =
  (rdI h a_0 0 4).bind fun i1 =>
  (wrF h a_0 0 4 (.int i_1)).bind fun h2 =>
  some (.inl (some (.int i1)), h2) := by
  rw [evR_eq ok_T_X0_force.loc (ops := b_X0_force_24) rfl]; rfl
theorem c_X0_force (d : Nat) (a_0 : Nat) (i_1 : Int32) (h : AH) : callR (d + 1) n_X0_force [.ref a_0, .int i_1] h =
  bif isO h a_0 0 then evR T_X0_force (callR d) 0 ([(0, .ref a_0), (1, .int i_1)], [], h) else none := by
  rw [callR_succ, show aMTl[n_X0_force]? = some (T_X0_force, [0, 1]) from rfl]; show (bif (isO h a_0 0) && true then _ else _) = _; rw [Bool.and_true]; rfl
theorem e_X0_house_0 (E : AEn) (a_0 : Nat) (i_1 : Int32) (i_2 : Int32) (h : AH) : evR T_X0_house E 0 ([(0, .ref a_0), (1, .int i_1), (2, .int i_2)], [], h) =
  rI (E n_X0_isHouse [.ref a_0, .int i_1] h) (fun i2 h1 =>
  bif !(i2 == 0) then evR T_X0_house E 10 ([(0, .ref a_0), (1, .int i_1), (2, .int i_2)], [], h1) else
  evR T_X0_house E 8 ([], [], h1)) thr := by
  rw [evR_eq ok_T_X0_house.loc (ops := b_X0_house_0) rfl]; rfl
theorem e_X0_house_8 (E : AEn)  (h : AH) : evR T_X0_house E 8 ([], [], h) =
  some (.inl (some (.int (-1 : Int32))), h) := by
  rw [evR_eq ok_T_X0_house.loc (ops := b_X0_house_8) rfl]; rfl
theorem e_X0_house_10 (E : AEn) (a_0 : Nat) (i_1 : Int32) (i_2 : Int32) (h : AH) : evR T_X0_house E 10 ([(0, .ref a_0), (1, .int i_1), (2, .int i_2)], [], h) =
  bif i_2 == (0 : Int32) then evR T_X0_house E 44 ([(0, .ref a_0), (1, .int i_1)], [], h) else
  bif i_2 == (1 : Int32) then evR T_X0_house E 54 ([(0, .ref a_0), (1, .int i_1)], [], h) else
  bif i_2 == (2 : Int32) then evR T_X0_house E 64 ([(0, .ref a_0), (1, .int i_1)], [], h) else
  bif i_2 == (3 : Int32) then evR T_X0_house E 74 ([(0, .ref a_0), (1, .int i_1)], [], h) else
  bif i_2 == (4 : Int32) then evR T_X0_house E 84 ([(0, .ref a_0), (1, .int i_1)], [], h) else
  evR T_X0_house E 94 ([], [], h) := by
  rw [evR_eq ok_T_X0_house.loc (ops := b_X0_house_10) rfl]; rfl
theorem e_X0_house_44 (E : AEn) (a_0 : Nat) (i_1 : Int32) (h : AH) : evR T_X0_house E 44 ([(0, .ref a_0), (1, .int i_1)], [], h) =
  (rdR h a_0 0 1).bind fun r1 =>
  (rdR h r1 2 0).bind fun r2 =>
  (ldI h r2 0 i_1).bind fun i3 =>
  some (.inl (some (.int i3)), h) := by
  rw [evR_eq ok_T_X0_house.loc (ops := b_X0_house_44) rfl]; rfl
theorem e_X0_house_54 (E : AEn) (a_0 : Nat) (i_1 : Int32) (h : AH) : evR T_X0_house E 54 ([(0, .ref a_0), (1, .int i_1)], [], h) =
  (rdR h a_0 0 1).bind fun r1 =>
  (rdR h r1 2 1).bind fun r2 =>
  (ldI h r2 0 i_1).bind fun i3 =>
  some (.inl (some (.int i3)), h) := by
  rw [evR_eq ok_T_X0_house.loc (ops := b_X0_house_54) rfl]; rfl
theorem e_X0_house_64 (E : AEn) (a_0 : Nat) (i_1 : Int32) (h : AH) : evR T_X0_house E 64 ([(0, .ref a_0), (1, .int i_1)], [], h) =
  (rdR h a_0 0 1).bind fun r1 =>
  (rdR h r1 2 2).bind fun r2 =>
  (ldI h r2 0 i_1).bind fun i3 =>
  some (.inl (some (.int i3)), h) := by
  rw [evR_eq ok_T_X0_house.loc (ops := b_X0_house_64) rfl]; rfl
theorem e_X0_house_74 (E : AEn) (a_0 : Nat) (i_1 : Int32) (h : AH) : evR T_X0_house E 74 ([(0, .ref a_0), (1, .int i_1)], [], h) =
  (rdR h a_0 0 0).bind fun r1 =>
  (rdR h r1 1 2).bind fun r2 =>
  (ldI h r2 0 i_1).bind fun i3 =>
  some (.inl (some (.int i3)), h) := by
  rw [evR_eq ok_T_X0_house.loc (ops := b_X0_house_74) rfl]; rfl
theorem e_X0_house_84 (E : AEn) (a_0 : Nat) (i_1 : Int32) (h : AH) : evR T_X0_house E 84 ([(0, .ref a_0), (1, .int i_1)], [], h) =
  (rdR h a_0 0 1).bind fun r1 =>
  (rdR h r1 2 4).bind fun r2 =>
  (ldI h r2 0 i_1).bind fun i3 =>
  some (.inl (some (.int i3)), h) := by
  rw [evR_eq ok_T_X0_house.loc (ops := b_X0_house_84) rfl]; rfl
theorem e_X0_house_94 (E : AEn)  (h : AH) : evR T_X0_house E 94 ([], [], h) =
  some (.inl (some (.int (-1 : Int32))), h) := by
  rw [evR_eq ok_T_X0_house.loc (ops := b_X0_house_94) rfl]; rfl
theorem c_X0_house (d : Nat) (a_0 : Nat) (i_1 : Int32) (i_2 : Int32) (h : AH) : callR (d + 1) n_X0_house [.ref a_0, .int i_1, .int i_2] h =
  bif isO h a_0 0 then evR T_X0_house (callR d) 0 ([(0, .ref a_0), (1, .int i_1), (2, .int i_2)], [], h) else none := by
  rw [callR_succ, show aMTl[n_X0_house]? = some (T_X0_house, [0, 1, 2]) from rfl]; show (bif (isO h a_0 0) && true then _ else _) = _; rw [Bool.and_true]; rfl
theorem e_X0_isHouse_0 (E : AEn) (a_0 : Nat) (i_1 : Int32) (h : AH) : evR T_X0_isHouse E 0 ([(0, .ref a_0), (1, .int i_1)], [], h) =
  (rdR h a_0 0 0).bind fun r1 =>
  rI (E n_X1_houses [.ref r1] h) (fun i3 h2 =>
  rI (E n_X0_in [.long i_1.toInt64, .long (0 : Int64), .long (i3 - (1 : Int32)).toInt64] h2) (fun i5 h4 =>
  (bif i5 == 0 || i5 == 1 then some i5 else none).bind fun i6 => some (.inl (some (.int i6)), h4)) thr) thr := by
  rw [evR_eq ok_T_X0_isHouse.loc (ops := b_X0_isHouse_0) rfl]; rfl
theorem c_X0_isHouse (d : Nat) (a_0 : Nat) (i_1 : Int32) (h : AH) : callR (d + 1) n_X0_isHouse [.ref a_0, .int i_1] h =
  bif isO h a_0 0 then evR T_X0_isHouse (callR d) 0 ([(0, .ref a_0), (1, .int i_1)], [], h) else none := by
  rw [callR_succ, show aMTl[n_X0_isHouse]? = some (T_X0_isHouse, [0, 1]) from rfl]; show (bif (isO h a_0 0) && true then _ else _) = _; rw [Bool.and_true]; rfl
theorem e_X0_far_0 (E : AEn) (a_0 : Nat) (i_1 : Int32) (i_2 : Int32) (h : AH) : evR T_X0_far E 0 ([(0, .ref a_0), (1, .int i_1), (2, .int i_2)], [], h) =
  rI (E n_X0_isPlace [.ref a_0, .int i_1] h) (fun i2 h1 =>
  bif i2 == 0 then evR T_X0_far E 16 ([], [], h1) else
  evR T_X0_far E 8 ([(0, .ref a_0), (1, .int i_1), (2, .int i_2)], [], h1)) thr := by
  rw [evR_eq ok_T_X0_far.loc (ops := b_X0_far_0) rfl]; rfl
theorem e_X0_far_8 (E : AEn) (a_0 : Nat) (i_1 : Int32) (i_2 : Int32) (h : AH) : evR T_X0_far E 8 ([(0, .ref a_0), (1, .int i_1), (2, .int i_2)], [], h) =
  rI (E n_X0_isPlace [.ref a_0, .int i_2] h) (fun i2 h1 =>
  bif !(i2 == 0) then evR T_X0_far E 18 ([(0, .ref a_0), (1, .int i_1), (2, .int i_2)], [], h1) else
  evR T_X0_far E 16 ([], [], h1)) thr := by
  rw [evR_eq ok_T_X0_far.loc (ops := b_X0_far_8) rfl]; rfl
theorem e_X0_far_16 (E : AEn)  (h : AH) : evR T_X0_far E 16 ([], [], h) =
  some (.inl (some (.int (-1 : Int32))), h) := by
  rw [evR_eq ok_T_X0_far.loc (ops := b_X0_far_16) rfl]; rfl
theorem e_X0_far_18 (E : AEn) (a_0 : Nat) (i_1 : Int32) (i_2 : Int32) (h : AH) : evR T_X0_far E 18 ([(0, .ref a_0), (1, .int i_1), (2, .int i_2)], [], h) =
  (rdR h a_0 0 0).bind fun r1 =>
  rI (E n_X1_far [.ref r1, .int i_1, .int i_2] h) (fun i3 h2 =>
  bif decide (i3 < (10000 : Int32)) then evR T_X0_far E 38 ([(0, .ref a_0), (1, .int i_1), (2, .int i_2)], [], h2) else
  evR T_X0_far E 33 ([], [], h2)) thr := by
  rw [evR_eq ok_T_X0_far.loc (ops := b_X0_far_18) rfl]; rfl
theorem e_X0_far_33 (E : AEn)  (h : AH) : evR T_X0_far E 33 ([], [], h) =
  evR T_X0_far E 47 ([], [.int (-2 : Int32)], h) := by
  rw [evR_eq ok_T_X0_far.loc (ops := b_X0_far_33) rfl]; rfl
theorem e_X0_far_38 (E : AEn) (a_0 : Nat) (i_1 : Int32) (i_2 : Int32) (h : AH) : evR T_X0_far E 38 ([(0, .ref a_0), (1, .int i_1), (2, .int i_2)], [], h) =
  (rdR h a_0 0 0).bind fun r1 =>
  rI (E n_X1_far [.ref r1, .int i_1, .int i_2] h) (fun i3 h2 =>
  evR T_X0_far E 47 ([], [.int i3], h2)) thr := by
  rw [evR_eq ok_T_X0_far.loc (ops := b_X0_far_38) rfl]; rfl
theorem e_X0_far_47 (E : AEn) (si_0 : Int32) (h : AH) : evR T_X0_far E 47 ([], [.int si_0], h) =
  some (.inl (some (.int si_0)), h) := by
  rw [evR_eq ok_T_X0_far.loc (ops := b_X0_far_47) rfl]; rfl
theorem c_X0_far (d : Nat) (a_0 : Nat) (i_1 : Int32) (i_2 : Int32) (h : AH) : callR (d + 1) n_X0_far [.ref a_0, .int i_1, .int i_2] h =
  bif isO h a_0 0 then evR T_X0_far (callR d) 0 ([(0, .ref a_0), (1, .int i_1), (2, .int i_2)], [], h) else none := by
  rw [callR_succ, show aMTl[n_X0_far]? = some (T_X0_far, [0, 1, 2]) from rfl]; show (bif (isO h a_0 0) && true then _ else _) = _; rw [Bool.and_true]; rfl
theorem e_X0_isPlace_0 (E : AEn) (a_0 : Nat) (i_1 : Int32) (h : AH) : evR T_X0_isPlace E 0 ([(0, .ref a_0), (1, .int i_1)], [], h) =
  rI (E n_X0_isValley [.ref a_0] h) (fun i2 h1 =>
  bif i2 == 0 then evR T_X0_isPlace E 28 ([], [], h1) else
  evR T_X0_isPlace E 7 ([(0, .ref a_0), (1, .int i_1)], [], h1)) thr := by
  rw [evR_eq ok_T_X0_isPlace.loc (ops := b_X0_isPlace_0) rfl]; rfl
theorem e_X0_isPlace_7 (E : AEn) (a_0 : Nat) (i_1 : Int32) (h : AH) : evR T_X0_isPlace E 7 ([(0, .ref a_0), (1, .int i_1)], [], h) =
  (rdR h a_0 0 0).bind fun r1 =>
  rI (E n_X1_houses [.ref r1] h) (fun i3 h2 =>
  rI (E n_X0_in [.long i_1.toInt64, .long (0 : Int64), .long i3.toInt64] h2) (fun i5 h4 =>
  bif i5 == 0 then evR T_X0_isPlace E 28 ([], [], h4) else
  evR T_X0_isPlace E 24 ([], [], h4)) thr) thr := by
  rw [evR_eq ok_T_X0_isPlace.loc (ops := b_X0_isPlace_7) rfl]; rfl
theorem e_X0_isPlace_24 (E : AEn)  (h : AH) : evR T_X0_isPlace E 24 ([], [], h) =
  evR T_X0_isPlace E 29 ([], [.int (1 : Int32)], h) := by
  rw [evR_eq ok_T_X0_isPlace.loc (ops := b_X0_isPlace_24) rfl]; rfl
theorem e_X0_isPlace_28 (E : AEn)  (h : AH) : evR T_X0_isPlace E 28 ([], [], h) =
  evR T_X0_isPlace E 29 ([], [.int (0 : Int32)], h) := by
  rw [evR_eq ok_T_X0_isPlace.loc (ops := b_X0_isPlace_28) rfl]; rfl
theorem e_X0_isPlace_29 (E : AEn) (si_0 : Int32) (h : AH) : evR T_X0_isPlace E 29 ([], [.int si_0], h) =
  (bif si_0 == 0 || si_0 == 1 then some si_0 else none).bind fun i1 => some (.inl (some (.int i1)), h) := by
  rw [evR_eq ok_T_X0_isPlace.loc (ops := b_X0_isPlace_29) rfl]; rfl
theorem c_X0_isPlace (d : Nat) (a_0 : Nat) (i_1 : Int32) (h : AH) : callR (d + 1) n_X0_isPlace [.ref a_0, .int i_1] h =
  bif isO h a_0 0 then evR T_X0_isPlace (callR d) 0 ([(0, .ref a_0), (1, .int i_1)], [], h) else none := by
  rw [callR_succ, show aMTl[n_X0_isPlace]? = some (T_X0_isPlace, [0, 1]) from rfl]; show (bif (isO h a_0 0) && true then _ else _) = _; rw [Bool.and_true]; rfl
theorem e_X0_isValley_0 (E : AEn) (a_0 : Nat) (h : AH) : evR T_X0_isValley E 0 ([(0, .ref a_0)], [], h) =
  (rdR h a_0 0 0).bind fun r1 =>
  (rdI h r1 1 4).bind fun i2 =>
  bif decide (i2 ≤ 0) then evR T_X0_isValley E 14 ([], [], h) else
  evR T_X0_isValley E 10 ([], [], h) := by
  rw [evR_eq ok_T_X0_isValley.loc (ops := b_X0_isValley_0) rfl]; rfl
theorem e_X0_isValley_10 (E : AEn)  (h : AH) : evR T_X0_isValley E 10 ([], [], h) =
  evR T_X0_isValley E 15 ([], [.int (1 : Int32)], h) := by
  rw [evR_eq ok_T_X0_isValley.loc (ops := b_X0_isValley_10) rfl]; rfl
theorem e_X0_isValley_14 (E : AEn)  (h : AH) : evR T_X0_isValley E 14 ([], [], h) =
  evR T_X0_isValley E 15 ([], [.int (0 : Int32)], h) := by
  rw [evR_eq ok_T_X0_isValley.loc (ops := b_X0_isValley_14) rfl]; rfl
theorem e_X0_isValley_15 (E : AEn) (si_0 : Int32) (h : AH) : evR T_X0_isValley E 15 ([], [.int si_0], h) =
  (bif si_0 == 0 || si_0 == 1 then some si_0 else none).bind fun i1 => some (.inl (some (.int i1)), h) := by
  rw [evR_eq ok_T_X0_isValley.loc (ops := b_X0_isValley_15) rfl]; rfl
theorem c_X0_isValley (d : Nat) (a_0 : Nat) (h : AH) : callR (d + 1) n_X0_isValley [.ref a_0] h =
  bif isO h a_0 0 then evR T_X0_isValley (callR d) 0 ([(0, .ref a_0)], [], h) else none := by
  rw [callR_succ, show aMTl[n_X0_isValley]? = some (T_X0_isValley, [0]) from rfl]; show (bif (isO h a_0 0) && true then _ else _) = _; rw [Bool.and_true]; rfl
theorem e_X0_undo_0 (E : AEn) (a_0 : Nat) (h : AH) : evR T_X0_undo E 0 ([(0, .ref a_0)], [], h) =
  (rdI h a_0 0 20).bind fun i1 =>
  bif !(i1 == 0) then evR T_X0_undo E 9 ([(0, .ref a_0)], [], h) else
  evR T_X0_undo E 7 ([], [], h) := by
  rw [evR_eq ok_T_X0_undo.loc (ops := b_X0_undo_0) rfl]; rfl
theorem e_X0_undo_7 (E : AEn)  (h : AH) : evR T_X0_undo E 7 ([], [], h) =
  some (.inl (some (.int (-1 : Int32))), h) := by
  rw [evR_eq ok_T_X0_undo.loc (ops := b_X0_undo_7) rfl]; rfl
theorem e_X0_undo_9 (E : AEn) (a_0 : Nat) (h : AH) : evR T_X0_undo E 9 ([(0, .ref a_0)], [], h) =
  (rdI h a_0 0 21).bind fun i1 =>
  (wrF h a_0 0 21 (.int (((i1 + (20 : Int32)) - (1 : Int32)) - ((i1 + (20 : Int32)) - (1 : Int32)) / (20 : Int32) * (20 : Int32)))).bind fun h2 =>
  (rdI h2 a_0 0 20).bind fun i3 =>
  (wrF h2 a_0 0 20 (.int (i3 - (1 : Int32)))).bind fun h4 =>
  (rdR h4 a_0 0 1).bind fun r5 =>
  (rdR h4 a_0 0 19).bind fun r6 =>
  (rdI h4 a_0 0 21).bind fun i7 =>
  (ldR h4 r6 5 i7).bind fun r8 =>
  rV (E n_X2_copyFrom [.ref r5, .ref r8] h4) (fun h9 =>
  (rdI h9 a_0 0 20).bind fun i10 =>
  some (.inl (some (.int i10)), h9)) thr := by
  rw [evR_eq ok_T_X0_undo.loc (ops := b_X0_undo_9) rfl]; rfl
theorem c_X0_undo (d : Nat) (a_0 : Nat) (h : AH) : callR (d + 1) n_X0_undo [.ref a_0] h =
  bif isO h a_0 0 then evR T_X0_undo (callR d) 0 ([(0, .ref a_0)], [], h) else none := by
  rw [callR_succ, show aMTl[n_X0_undo]? = some (T_X0_undo, [0]) from rfl]; show (bif (isO h a_0 0) && true then _ else _) = _; rw [Bool.and_true]; rfl
theorem e_X0_hour_0 (E : AEn) (a_0 : Nat) (h : AH) : evR T_X0_hour E 0 ([(0, .ref a_0)], [], h) =
  rI (E n_X0_isValley [.ref a_0] h) (fun i2 h1 =>
  bif i2 == 0 then evR T_X0_hour E 20 ([], [], h1) else
  evR T_X0_hour E 7 ([(0, .ref a_0)], [], h1)) thr := by
  rw [evR_eq ok_T_X0_hour.loc (ops := b_X0_hour_0) rfl]; rfl
theorem e_X0_hour_7 (E : AEn) (a_0 : Nat) (h : AH) : evR T_X0_hour E 7 ([(0, .ref a_0)], [], h) =
  (rdR h a_0 0 1).bind fun r1 =>
  (rdI h r1 2 9).bind fun i2 =>
  bif !(i2 == (999 : Int32)) then evR T_X0_hour E 22 ([(0, .ref a_0)], [], h) else
  evR T_X0_hour E 20 ([], [], h) := by
  rw [evR_eq ok_T_X0_hour.loc (ops := b_X0_hour_7) rfl]; rfl
theorem e_X0_hour_20 (E : AEn)  (h : AH) : evR T_X0_hour E 20 ([], [], h) =
  some (.inl (some (.int (-1 : Int32))), h) := by
  rw [evR_eq ok_T_X0_hour.loc (ops := b_X0_hour_20) rfl]; rfl
theorem e_X0_hour_22 (E : AEn) (a_0 : Nat) (h : AH) : evR T_X0_hour E 22 ([(0, .ref a_0)], [], h) =
  rV (E n_X0_keeps [.ref a_0] h) (fun h1 =>
  (rdR h1 a_0 0 1).bind fun r2 =>
  rI (E n_X0_goesOn [.ref a_0, .ref r2] h1) (fun i4 h3 =>
  some (.inl (some (.int i4)), h3)) thr) thr := by
  rw [evR_eq ok_T_X0_hour.loc (ops := b_X0_hour_22) rfl]; rfl
theorem c_X0_hour (d : Nat) (a_0 : Nat) (h : AH) : callR (d + 1) n_X0_hour [.ref a_0] h =
  bif isO h a_0 0 then evR T_X0_hour (callR d) 0 ([(0, .ref a_0)], [], h) else none := by
  rw [callR_succ, show aMTl[n_X0_hour]? = some (T_X0_hour, [0]) from rfl]; show (bif (isO h a_0 0) && true then _ else _) = _; rw [Bool.and_true]; rfl
theorem e_X0_keeps_0 (E : AEn) (a_0 : Nat) (h : AH) : evR T_X0_keeps E 0 ([(0, .ref a_0)], [], h) =
  (rdR h a_0 0 19).bind fun r1 =>
  (rdI h a_0 0 21).bind fun i2 =>
  (ldR h r1 5 i2).bind fun r3 =>
  (rdR h a_0 0 1).bind fun r4 =>
  rV (E n_X2_copyFrom [.ref r3, .ref r4] h) (fun h5 =>
  (rdI h5 a_0 0 21).bind fun i6 =>
  (wrF h5 a_0 0 21 (.int ((i6 + (1 : Int32)) - (i6 + (1 : Int32)) / (20 : Int32) * (20 : Int32)))).bind fun h7 =>
  (rdI h7 a_0 0 20).bind fun i8 =>
  (wrF h7 a_0 0 20 (.int (if (i8 + (1 : Int32)) < (20 : Int32) then (i8 + (1 : Int32)) else (20 : Int32)))).bind fun h9 =>
  some (.inl none, h9)) thr := by
  rw [evR_eq ok_T_X0_keeps.loc (ops := b_X0_keeps_0) rfl]; rfl
theorem c_X0_keeps (d : Nat) (a_0 : Nat) (h : AH) : callR (d + 1) n_X0_keeps [.ref a_0] h =
  bif isO h a_0 0 then evR T_X0_keeps (callR d) 0 ([(0, .ref a_0)], [], h) else none := by
  rw [callR_succ, show aMTl[n_X0_keeps]? = some (T_X0_keeps, [0]) from rfl]; show (bif (isO h a_0 0) && true then _ else _) = _; rw [Bool.and_true]; rfl
theorem e_X0_goesOn_0 (E : AEn) (a_0 : Nat) (a_1 : Nat) (h : AH) : evR T_X0_goesOn E 0 ([(0, .ref a_0), (1, .ref a_1)], [], h) =
  rI (E n_X0_brigade [.ref a_0, .ref a_1] h) (fun i2 h1 =>
  (wrF h1 a_0 0 18 (.int i2)).bind fun h3 =>
  (rdR h3 a_0 0 0).bind fun r4 =>
  rI (E n_X2_burn [.ref a_1, .ref r4] h3) (fun i6 h5 =>
  (rdI h5 a_1 2 9).bind fun i7 =>
  (wrF h5 a_1 2 9 (.int (i7 + (1 : Int32)))).bind fun h8 =>
  some (.inl (some (.int i6)), h8)) thr) thr := by
  rw [evR_eq ok_T_X0_goesOn.loc (ops := b_X0_goesOn_0) rfl]; rfl
theorem c_X0_goesOn (d : Nat) (a_0 : Nat) (a_1 : Nat) (h : AH) : callR (d + 1) n_X0_goesOn [.ref a_0, .ref a_1] h =
  bif isO h a_0 0 then evR T_X0_goesOn (callR d) 0 ([(0, .ref a_0), (1, .ref a_1)], [], h) else none := by
  rw [callR_succ, show aMTl[n_X0_goesOn]? = some (T_X0_goesOn, [0, 1]) from rfl]; show (bif (isO h a_0 0) && true then _ else _) = _; rw [Bool.and_true]; rfl
theorem e_X0_brigade_0 (E : AEn) (a_0 : Nat) (a_1 : Nat) (h : AH) : evR T_X0_brigade E 0 ([(0, .ref a_0), (1, .ref a_1)], [], h) =
  rI (E n_X2_isAway [.ref a_1] h) (fun i2 h1 =>
  bif !(i2 == 0) then evR T_X0_brigade E 49 ([(1, .ref a_1)], [], h1) else
  evR T_X0_brigade E 7 ([(0, .ref a_0), (1, .ref a_1)], [], h1)) thr := by
  rw [evR_eq ok_T_X0_brigade.loc (ops := b_X0_brigade_0) rfl]; rfl
theorem e_X0_brigade_7 (E : AEn) (a_0 : Nat) (a_1 : Nat) (h : AH) : evR T_X0_brigade E 7 ([(0, .ref a_0), (1, .ref a_1)], [], h) =
  rI (E n_X2_isAtFire [.ref a_1] h) (fun i2 h1 =>
  bif !(i2 == 0) then evR T_X0_brigade E 49 ([(1, .ref a_1)], [], h1) else
  evR T_X0_brigade E 14 ([(0, .ref a_0), (1, .ref a_1)], [], h1)) thr := by
  rw [evR_eq ok_T_X0_brigade.loc (ops := b_X0_brigade_7) rfl]; rfl
theorem e_X0_brigade_14 (E : AEn) (a_0 : Nat) (a_1 : Nat) (h : AH) : evR T_X0_brigade E 14 ([(0, .ref a_0), (1, .ref a_1)], [], h) =
  (rdI h a_0 0 17).bind fun i1 =>
  bif i1 == 0 then evR T_X0_brigade E 29 ([(0, .ref a_0), (1, .ref a_1)], [], h) else
  evR T_X0_brigade E 21 ([(0, .ref a_0), (1, .ref a_1)], [], h) := by
  rw [evR_eq ok_T_X0_brigade.loc (ops := b_X0_brigade_14) rfl]; rfl
theorem e_X0_brigade_21 (E : AEn) (a_0 : Nat) (a_1 : Nat) (h : AH) : evR T_X0_brigade E 21 ([(0, .ref a_0), (1, .ref a_1)], [], h) =
  rI (E n_X0_nextOf [.ref a_0, .ref a_1] h) (fun i2 h1 =>
  evR T_X0_brigade E 34 ([(0, .ref a_0), (1, .ref a_1)], [.int i2], h1)) thr := by
  rw [evR_eq ok_T_X0_brigade.loc (ops := b_X0_brigade_21) rfl]; rfl
theorem e_X0_brigade_29 (E : AEn) (a_0 : Nat) (a_1 : Nat) (h : AH) : evR T_X0_brigade E 29 ([(0, .ref a_0), (1, .ref a_1)], [], h) =
  rI (E n_X0_choiceOf [.ref a_0, .ref a_1] h) (fun i2 h1 =>
  evR T_X0_brigade E 34 ([(0, .ref a_0), (1, .ref a_1)], [.int i2], h1)) thr := by
  rw [evR_eq ok_T_X0_brigade.loc (ops := b_X0_brigade_29) rfl]; rfl
theorem e_X0_brigade_34 (E : AEn) (a_0 : Nat) (a_1 : Nat) (si_0 : Int32) (h : AH) : evR T_X0_brigade E 34 ([(0, .ref a_0), (1, .ref a_1)], [.int si_0], h) =
  bif si_0 == (-1 : Int32) then evR T_X0_brigade E 49 ([(1, .ref a_1)], [], h) else
  evR T_X0_brigade E 40 ([(0, .ref a_0), (1, .ref a_1), (2, .int si_0)], [], h) := by
  rw [evR_eq ok_T_X0_brigade.loc (ops := b_X0_brigade_34) rfl]; rfl
theorem e_X0_brigade_40 (E : AEn) (a_0 : Nat) (a_1 : Nat) (i_2 : Int32) (h : AH) : evR T_X0_brigade E 40 ([(0, .ref a_0), (1, .ref a_1), (2, .int i_2)], [], h) =
  (rdR h a_0 0 0).bind fun r1 =>
  rV (E n_X2_sends [.ref a_1, .ref r1, .int i_2] h) (fun h2 =>
  evR T_X0_brigade E 49 ([(1, .ref a_1)], [], h2)) thr := by
  rw [evR_eq ok_T_X0_brigade.loc (ops := b_X0_brigade_40) rfl]; rfl
theorem e_X0_brigade_49 (E : AEn) (a_1 : Nat) (h : AH) : evR T_X0_brigade E 49 ([(1, .ref a_1)], [], h) =
  rV (E n_X2_goesOn [.ref a_1] h) (fun h1 =>
  rI (E n_X2_isAway [.ref a_1] h1) (fun i3 h2 =>
  bif !(i3 == 0) then evR T_X0_brigade E 67 ([], [], h2) else
  evR T_X0_brigade E 60 ([(1, .ref a_1)], [], h2)) thr) thr := by
  rw [evR_eq ok_T_X0_brigade.loc (ops := b_X0_brigade_49) rfl]; rfl
theorem e_X0_brigade_60 (E : AEn) (a_1 : Nat) (h : AH) : evR T_X0_brigade E 60 ([(1, .ref a_1)], [], h) =
  (rdI h a_1 2 6).bind fun i1 =>
  bif !(i1 == 0) then evR T_X0_brigade E 69 ([(1, .ref a_1)], [], h) else
  evR T_X0_brigade E 67 ([], [], h) := by
  rw [evR_eq ok_T_X0_brigade.loc (ops := b_X0_brigade_60) rfl]; rfl
theorem e_X0_brigade_67 (E : AEn)  (h : AH) : evR T_X0_brigade E 67 ([], [], h) =
  some (.inl (some (.int (-1 : Int32))), h) := by
  rw [evR_eq ok_T_X0_brigade.loc (ops := b_X0_brigade_67) rfl]; rfl
theorem e_X0_brigade_69 (E : AEn) (a_1 : Nat) (h : AH) : evR T_X0_brigade E 69 ([(1, .ref a_1)], [], h) =
  (rdI h a_1 2 6).bind fun i1 =>
  (rdR h a_1 2 1).bind fun r2 =>
  (ldI h r2 0 (i1 - (1 : Int32))).bind fun i3 =>
  bif decide (i3 ≤ 0) then evR T_X0_brigade E 89 ([(1, .ref a_1), (2, .int (i1 - (1 : Int32)))], [], h) else
  evR T_X0_brigade E 85 ([(1, .ref a_1), (2, .int (i1 - (1 : Int32)))], [], h) := by
  rw [evR_eq ok_T_X0_brigade.loc (ops := b_X0_brigade_69) rfl]; rfl
theorem e_X0_brigade_85 (E : AEn) (a_1 : Nat) (i_2 : Int32) (h : AH) : evR T_X0_brigade E 85 ([(1, .ref a_1), (2, .int i_2)], [], h) =
  evR T_X0_brigade E 90 ([(1, .ref a_1), (2, .int i_2)], [.int i_2], h) := by
  rw [evR_eq ok_T_X0_brigade.loc (ops := b_X0_brigade_85) rfl]; rfl
theorem e_X0_brigade_89 (E : AEn) (a_1 : Nat) (i_2 : Int32) (h : AH) : evR T_X0_brigade E 89 ([(1, .ref a_1), (2, .int i_2)], [], h) =
  evR T_X0_brigade E 90 ([(1, .ref a_1), (2, .int i_2)], [.int (-1 : Int32)], h) := by
  rw [evR_eq ok_T_X0_brigade.loc (ops := b_X0_brigade_89) rfl]; rfl
theorem e_X0_brigade_90 (E : AEn) (a_1 : Nat) (i_2 : Int32) (si_0 : Int32) (h : AH) : evR T_X0_brigade E 90 ([(1, .ref a_1), (2, .int i_2)], [.int si_0], h) =
  (rdR h a_1 2 1).bind fun r1 =>
  (rdR h a_1 2 1).bind fun r2 =>
  (ldI h r2 0 i_2).bind fun i3 =>
  (rdI h a_1 2 5).bind fun i4 =>
  (stI h r1 0 i_2 (if (0 : Int32) < (i3 - i4) then (i3 - i4) else (0 : Int32))).bind fun h5 =>
  (rdR h5 a_1 2 4).bind fun r6 =>
  (ldI h5 r6 0 i_2).bind fun i7 =>
  (stI h5 r6 0 i_2 (i7 + (1 : Int32))).bind fun h8 =>
  some (.inl (some (.int si_0)), h8) := by
  rw [evR_eq ok_T_X0_brigade.loc (ops := b_X0_brigade_90) rfl]; rfl
theorem c_X0_brigade (d : Nat) (a_0 : Nat) (a_1 : Nat) (h : AH) : callR (d + 1) n_X0_brigade [.ref a_0, .ref a_1] h =
  bif isO h a_0 0 then evR T_X0_brigade (callR d) 0 ([(0, .ref a_0), (1, .ref a_1)], [], h) else none := by
  rw [callR_succ, show aMTl[n_X0_brigade]? = some (T_X0_brigade, [0, 1]) from rfl]; show (bif (isO h a_0 0) && true then _ else _) = _; rw [Bool.and_true]; rfl
theorem e_X0_nextOf_0 (E : AEn) (a_0 : Nat) (a_1 : Nat) (h : AH) : evR T_X0_nextOf E 0 ([(0, .ref a_0), (1, .ref a_1)], [], h) =
  (rdI h a_0 0 16).bind fun i1 =>
  (rdI h a_0 0 15).bind fun i2 =>
  bif decide (i2 ≤ i1) then evR T_X0_nextOf E 52 ([], [], h) else
  evR T_X0_nextOf E 11 ([(0, .ref a_0), (1, .ref a_1)], [], h) := by
  rw [evR_eq ok_T_X0_nextOf.loc (ops := b_X0_nextOf_0) rfl]; rfl
theorem e_X0_nextOf_11 (E : AEn) (a_0 : Nat) (a_1 : Nat) (h : AH) : evR T_X0_nextOf E 11 ([(0, .ref a_0), (1, .ref a_1)], [], h) =
  (rdI h a_0 0 16).bind fun i1 =>
  (wrF h a_0 0 16 (.int (i1 + (1 : Int32)))).bind fun h2 =>
  (rdR h2 a_0 0 13).bind fun r3 =>
  (rdI h2 a_0 0 16).bind fun i4 =>
  (ldI h2 r3 0 (i4 - (1 : Int32))).bind fun i5 =>
  rI (E n_X0_isReached [.ref a_0, .ref a_1, .int i5] h2) (fun i7 h6 =>
  bif i7 == 0 then evR T_X0_nextOf E 0 ([(0, .ref a_0), (1, .ref a_1)], [], h6) else
  evR T_X0_nextOf E 40 ([(0, .ref a_0)], [], h6)) thr := by
  rw [evR_eq ok_T_X0_nextOf.loc (ops := b_X0_nextOf_11) rfl]; rfl
theorem e_X0_nextOf_40 (E : AEn) (a_0 : Nat) (h : AH) : evR T_X0_nextOf E 40 ([(0, .ref a_0)], [], h) =
  (rdR h a_0 0 13).bind fun r1 =>
  (rdI h a_0 0 16).bind fun i2 =>
  (ldI h r1 0 (i2 - (1 : Int32))).bind fun i3 =>
  some (.inl (some (.int i3)), h) := by
  rw [evR_eq ok_T_X0_nextOf.loc (ops := b_X0_nextOf_40) rfl]; rfl
theorem e_X0_nextOf_52 (E : AEn)  (h : AH) : evR T_X0_nextOf E 52 ([], [], h) =
  some (.inl (some (.int (-1 : Int32))), h) := by
  rw [evR_eq ok_T_X0_nextOf.loc (ops := b_X0_nextOf_52) rfl]; rfl
theorem c_X0_nextOf (d : Nat) (a_0 : Nat) (a_1 : Nat) (h : AH) : callR (d + 1) n_X0_nextOf [.ref a_0, .ref a_1] h =
  bif isO h a_0 0 then evR T_X0_nextOf (callR d) 0 ([(0, .ref a_0), (1, .ref a_1)], [], h) else none := by
  rw [callR_succ, show aMTl[n_X0_nextOf]? = some (T_X0_nextOf, [0, 1]) from rfl]; show (bif (isO h a_0 0) && true then _ else _) = _; rw [Bool.and_true]; rfl
theorem e_X0_isReached_0 (E : AEn) (a_0 : Nat) (a_1 : Nat) (i_2 : Int32) (h : AH) : evR T_X0_isReached E 0 ([(0, .ref a_0), (1, .ref a_1), (2, .int i_2)], [], h) =
  (rdR h a_0 0 0).bind fun r1 =>
  (rdI h a_1 2 6).bind fun i2 =>
  rI (E n_X1_far [.ref r1, .int i2, .int (i_2 + (1 : Int32))] h) (fun i4 h3 =>
  bif decide ((10000 : Int32) ≤ i4) then evR T_X0_isReached E 24 ([], [], h3) else
  evR T_X0_isReached E 20 ([], [], h3)) thr := by
  rw [evR_eq ok_T_X0_isReached.loc (ops := b_X0_isReached_0) rfl]; rfl
theorem e_X0_isReached_20 (E : AEn)  (h : AH) : evR T_X0_isReached E 20 ([], [], h) =
  evR T_X0_isReached E 25 ([], [.int (1 : Int32)], h) := by
  rw [evR_eq ok_T_X0_isReached.loc (ops := b_X0_isReached_20) rfl]; rfl
theorem e_X0_isReached_24 (E : AEn)  (h : AH) : evR T_X0_isReached E 24 ([], [], h) =
  evR T_X0_isReached E 25 ([], [.int (0 : Int32)], h) := by
  rw [evR_eq ok_T_X0_isReached.loc (ops := b_X0_isReached_24) rfl]; rfl
theorem e_X0_isReached_25 (E : AEn) (si_0 : Int32) (h : AH) : evR T_X0_isReached E 25 ([], [.int si_0], h) =
  (bif si_0 == 0 || si_0 == 1 then some si_0 else none).bind fun i1 => some (.inl (some (.int i1)), h) := by
  rw [evR_eq ok_T_X0_isReached.loc (ops := b_X0_isReached_25) rfl]; rfl
theorem c_X0_isReached (d : Nat) (a_0 : Nat) (a_1 : Nat) (i_2 : Int32) (h : AH) : callR (d + 1) n_X0_isReached [.ref a_0, .ref a_1, .int i_2] h =
  bif isO h a_0 0 then evR T_X0_isReached (callR d) 0 ([(0, .ref a_0), (1, .ref a_1), (2, .int i_2)], [], h) else none := by
  rw [callR_succ, show aMTl[n_X0_isReached]? = some (T_X0_isReached, [0, 1, 2]) from rfl]; show (bif (isO h a_0 0) && true then _ else _) = _; rw [Bool.and_true]; rfl
theorem e_X0_choiceOf_0 (E : AEn) (a_0 : Nat) (a_1 : Nat) (h : AH) : evR T_X0_choiceOf E 0 ([(0, .ref a_0), (1, .ref a_1)], [], h) =
  evR T_X0_choiceOf E 7 ([(0, .ref a_0), (1, .ref a_1), (2, .int (-1 : Int32)), (3, .long (0 : Int64)), (5, .int (0 : Int32))], [], h) := by
  rw [evR_eq ok_T_X0_choiceOf.loc (ops := b_X0_choiceOf_0) rfl]; rfl
theorem e_X0_choiceOf_7 (E : AEn) (a_0 : Nat) (a_1 : Nat) (i_2 : Int32) (l_3 : Int64) (i_5 : Int32) (h : AH) : evR T_X0_choiceOf E 7 ([(0, .ref a_0), (1, .ref a_1), (2, .int i_2), (3, .long l_3), (5, .int i_5)], [], h) =
  (rdR h a_0 0 0).bind fun r1 =>
  rI (E n_X1_houses [.ref r1] h) (fun i3 h2 =>
  bif decide (i3 ≤ i_5) then evR T_X0_choiceOf E 63 ([(2, .int i_2)], [], h2) else
  evR T_X0_choiceOf E 19 ([(0, .ref a_0), (1, .ref a_1), (2, .int i_2), (3, .long l_3), (5, .int i_5)], [], h2)) thr := by
  rw [evR_eq ok_T_X0_choiceOf.loc (ops := b_X0_choiceOf_7) rfl]; rfl
theorem e_X0_choiceOf_19 (E : AEn) (a_0 : Nat) (a_1 : Nat) (i_2 : Int32) (l_3 : Int64) (i_5 : Int32) (h : AH) : evR T_X0_choiceOf E 19 ([(0, .ref a_0), (1, .ref a_1), (2, .int i_2), (3, .long l_3), (5, .int i_5)], [], h) =
  rI (E n_X0_isReached [.ref a_0, .ref a_1, .int i_5] h) (fun i2 h1 =>
  bif !(i2 == 0) then evR T_X0_choiceOf E 32 ([(0, .ref a_0), (1, .ref a_1), (2, .int i_2), (3, .long l_3), (5, .int i_5)], [], h1) else
  evR T_X0_choiceOf E 29 ([(0, .ref a_0), (1, .ref a_1), (2, .int i_2), (3, .long l_3), (5, .int i_5)], [], h1)) thr := by
  rw [evR_eq ok_T_X0_choiceOf.loc (ops := b_X0_choiceOf_19) rfl]; rfl
theorem e_X0_choiceOf_29 (E : AEn) (a_0 : Nat) (a_1 : Nat) (i_2 : Int32) (l_3 : Int64) (i_5 : Int32) (h : AH) : evR T_X0_choiceOf E 29 ([(0, .ref a_0), (1, .ref a_1), (2, .int i_2), (3, .long l_3), (5, .int i_5)], [], h) =
  evR T_X0_choiceOf E 57 ([(0, .ref a_0), (1, .ref a_1), (2, .int i_2), (3, .long l_3), (5, .int i_5)], [], h) := by
  rw [evR_eq ok_T_X0_choiceOf.loc (ops := b_X0_choiceOf_29) rfl]; rfl
theorem e_X0_choiceOf_32 (E : AEn) (a_0 : Nat) (a_1 : Nat) (i_2 : Int32) (l_3 : Int64) (i_5 : Int32) (h : AH) : evR T_X0_choiceOf E 32 ([(0, .ref a_0), (1, .ref a_1), (2, .int i_2), (3, .long l_3), (5, .int i_5)], [], h) =
  rL (E n_X0_wants [.ref a_0, .ref a_1, .int i_5] h) (fun l2 h1 =>
  bif decide (0 < (lg_cmp l2 l_3)) then evR T_X0_choiceOf E 51 ([(0, .ref a_0), (1, .ref a_1), (5, .int i_5), (6, .long l2)], [], h1) else
  evR T_X0_choiceOf E 48 ([(0, .ref a_0), (1, .ref a_1), (2, .int i_2), (3, .long l_3), (5, .int i_5)], [], h1)) thr := by
  rw [evR_eq ok_T_X0_choiceOf.loc (ops := b_X0_choiceOf_32) rfl]; rfl
theorem e_X0_choiceOf_48 (E : AEn) (a_0 : Nat) (a_1 : Nat) (i_2 : Int32) (l_3 : Int64) (i_5 : Int32) (h : AH) : evR T_X0_choiceOf E 48 ([(0, .ref a_0), (1, .ref a_1), (2, .int i_2), (3, .long l_3), (5, .int i_5)], [], h) =
  evR T_X0_choiceOf E 57 ([(0, .ref a_0), (1, .ref a_1), (2, .int i_2), (3, .long l_3), (5, .int i_5)], [], h) := by
  rw [evR_eq ok_T_X0_choiceOf.loc (ops := b_X0_choiceOf_48) rfl]; rfl
theorem e_X0_choiceOf_51 (E : AEn) (a_0 : Nat) (a_1 : Nat) (i_5 : Int32) (l_6 : Int64) (h : AH) : evR T_X0_choiceOf E 51 ([(0, .ref a_0), (1, .ref a_1), (5, .int i_5), (6, .long l_6)], [], h) =
  evR T_X0_choiceOf E 57 ([(0, .ref a_0), (1, .ref a_1), (2, .int i_5), (3, .long l_6), (5, .int i_5)], [], h) := by
  rw [evR_eq ok_T_X0_choiceOf.loc (ops := b_X0_choiceOf_51) rfl]; rfl
theorem e_X0_choiceOf_57 (E : AEn) (a_0 : Nat) (a_1 : Nat) (i_2 : Int32) (l_3 : Int64) (i_5 : Int32) (h : AH) : evR T_X0_choiceOf E 57 ([(0, .ref a_0), (1, .ref a_1), (2, .int i_2), (3, .long l_3), (5, .int i_5)], [], h) =
  evR T_X0_choiceOf E 7 ([(0, .ref a_0), (1, .ref a_1), (2, .int i_2), (3, .long l_3), (5, .int (i_5 + (1 : Int32)))], [], h) := by
  rw [evR_eq ok_T_X0_choiceOf.loc (ops := b_X0_choiceOf_57) rfl]; rfl
theorem e_X0_choiceOf_63 (E : AEn) (i_2 : Int32) (h : AH) : evR T_X0_choiceOf E 63 ([(2, .int i_2)], [], h) =
  some (.inl (some (.int i_2)), h) := by
  rw [evR_eq ok_T_X0_choiceOf.loc (ops := b_X0_choiceOf_63) rfl]; rfl
theorem c_X0_choiceOf (d : Nat) (a_0 : Nat) (a_1 : Nat) (h : AH) : callR (d + 1) n_X0_choiceOf [.ref a_0, .ref a_1] h =
  bif isO h a_0 0 then evR T_X0_choiceOf (callR d) 0 ([(0, .ref a_0), (1, .ref a_1)], [], h) else none := by
  rw [callR_succ, show aMTl[n_X0_choiceOf]? = some (T_X0_choiceOf, [0, 1]) from rfl]; show (bif (isO h a_0 0) && true then _ else _) = _; rw [Bool.and_true]; rfl
theorem e_X0_wants_0 (E : AEn) (a_0 : Nat) (a_1 : Nat) (i_2 : Int32) (h : AH) : evR T_X0_wants E 0 ([(0, .ref a_0), (1, .ref a_1), (2, .int i_2)], [], h) =
  (rdI h a_0 0 4).bind fun i1 =>
  bif !(i1 == (-1 : Int32)) then evR T_X0_wants E 29 ([(0, .ref a_0), (1, .ref a_1), (2, .int i_2)], [], h) else
  evR T_X0_wants E 8 ([(1, .ref a_1), (2, .int i_2)], [], h) := by
  rw [evR_eq ok_T_X0_wants.loc (ops := b_X0_wants_0) rfl]; rfl
theorem e_X0_wants_8 (E : AEn) (a_1 : Nat) (i_2 : Int32) (h : AH) : evR T_X0_wants E 8 ([(1, .ref a_1), (2, .int i_2)], [], h) =
  (rdR h a_1 2 1).bind fun r1 =>
  (ldI h r1 0 i_2).bind fun i2 =>
  bif decide (i2 ≤ 0) then evR T_X0_wants E 27 ([], [], h) else
  evR T_X0_wants E 17 ([(1, .ref a_1), (2, .int i_2)], [], h) := by
  rw [evR_eq ok_T_X0_wants.loc (ops := b_X0_wants_8) rfl]; rfl
theorem e_X0_wants_17 (E : AEn) (a_1 : Nat) (i_2 : Int32) (h : AH) : evR T_X0_wants E 17 ([(1, .ref a_1), (2, .int i_2)], [], h) =
  (rdR h a_1 2 2).bind fun r1 =>
  (ldI h r1 0 i_2).bind fun i2 =>
  evR T_X0_wants E 28 ([], [.long i2.toInt64], h) := by
  rw [evR_eq ok_T_X0_wants.loc (ops := b_X0_wants_17) rfl]; rfl
theorem e_X0_wants_27 (E : AEn)  (h : AH) : evR T_X0_wants E 27 ([], [], h) =
  evR T_X0_wants E 28 ([], [.long (0 : Int64)], h) := by
  rw [evR_eq ok_T_X0_wants.loc (ops := b_X0_wants_27) rfl]; rfl
theorem e_X0_wants_28 (E : AEn) (sl_0 : Int64) (h : AH) : evR T_X0_wants E 28 ([], [.long sl_0], h) =
  some (.inl (some (.long sl_0)), h) := by
  rw [evR_eq ok_T_X0_wants.loc (ops := b_X0_wants_28) rfl]; rfl
theorem e_X0_wants_29 (E : AEn) (a_0 : Nat) (a_1 : Nat) (i_2 : Int32) (h : AH) : evR T_X0_wants E 29 ([(0, .ref a_0), (1, .ref a_1), (2, .int i_2)], [], h) =
  rV (E n_X0_asks [.ref a_0, .ref a_1, .int i_2] h) (fun h1 =>
  (rdR h1 a_0 0 3).bind fun r2 =>
  (rdI h1 a_0 0 4).bind fun i3 =>
  rR (E n_J2_get [.ref r2, .int i3] h1) (fun r5 h4 =>
  (okC h4 r5 7).bind fun _ =>
  (rdR h4 a_0 0 12).bind fun r6 =>
  rL (E n_X7_wants [.ref r5, .ref r6] h4) (fun l8 h7 =>
  some (.inl (some (.long l8)), h7)) thr) thr) thr := by
  rw [evR_eq ok_T_X0_wants.loc (ops := b_X0_wants_29) rfl]; rfl
theorem c_X0_wants (d : Nat) (a_0 : Nat) (a_1 : Nat) (i_2 : Int32) (h : AH) : callR (d + 1) n_X0_wants [.ref a_0, .ref a_1, .int i_2] h =
  bif isO h a_0 0 then evR T_X0_wants (callR d) 0 ([(0, .ref a_0), (1, .ref a_1), (2, .int i_2)], [], h) else none := by
  rw [callR_succ, show aMTl[n_X0_wants]? = some (T_X0_wants, [0, 1, 2]) from rfl]; show (bif (isO h a_0 0) && true then _ else _) = _; rw [Bool.and_true]; rfl
theorem e_X0_asks_0 (E : AEn) (a_0 : Nat) (a_1 : Nat) (i_2 : Int32) (h : AH) : evR T_X0_asks E 0 ([(0, .ref a_0), (1, .ref a_1), (2, .int i_2)], [], h) =
  (rdR h a_0 0 12).bind fun r1 =>
  (stL h r1 (0 : Int32) i_2.toInt64).bind fun h2 =>
  (rdR h2 a_0 0 12).bind fun r3 =>
  (rdR h2 a_1 2 2).bind fun r4 =>
  (ldI h2 r4 0 i_2).bind fun i5 =>
  (stL h2 r3 (1 : Int32) i5.toInt64).bind fun h6 =>
  (rdR h6 a_0 0 12).bind fun r7 =>
  (rdR h6 a_1 2 0).bind fun r8 =>
  (ldI h6 r8 0 i_2).bind fun i9 =>
  (stL h6 r7 (2 : Int32) i9.toInt64).bind fun h10 =>
  (rdR h10 a_0 0 12).bind fun r11 =>
  (rdR h10 a_1 2 1).bind fun r12 =>
  (ldI h10 r12 0 i_2).bind fun i13 =>
  bif decide (i13 ≤ 0) then evR T_X0_asks E 52 ([(0, .ref a_0), (1, .ref a_1), (2, .int i_2)], [.int (3 : Int32), .ref r11], h10) else
  evR T_X0_asks E 48 ([(0, .ref a_0), (1, .ref a_1), (2, .int i_2)], [.int (3 : Int32), .ref r11], h10) := by
  rw [evR_eq ok_T_X0_asks.loc (ops := b_X0_asks_0) rfl]; rfl
theorem e_X0_asks_48 (E : AEn) (a_0 : Nat) (a_1 : Nat) (i_2 : Int32) (si_0 : Int32) (sa_1 : Nat) (h : AH) : evR T_X0_asks E 48 ([(0, .ref a_0), (1, .ref a_1), (2, .int i_2)], [.int si_0, .ref sa_1], h) =
  evR T_X0_asks E 53 ([(0, .ref a_0), (1, .ref a_1), (2, .int i_2)], [.int (1 : Int32), .int si_0, .ref sa_1], h) := by
  rw [evR_eq ok_T_X0_asks.loc (ops := b_X0_asks_48) rfl]; rfl
theorem e_X0_asks_52 (E : AEn) (a_0 : Nat) (a_1 : Nat) (i_2 : Int32) (si_0 : Int32) (sa_1 : Nat) (h : AH) : evR T_X0_asks E 52 ([(0, .ref a_0), (1, .ref a_1), (2, .int i_2)], [.int si_0, .ref sa_1], h) =
  evR T_X0_asks E 53 ([(0, .ref a_0), (1, .ref a_1), (2, .int i_2)], [.int (0 : Int32), .int si_0, .ref sa_1], h) := by
  rw [evR_eq ok_T_X0_asks.loc (ops := b_X0_asks_52) rfl]; rfl
theorem e_X0_asks_53 (E : AEn) (a_0 : Nat) (a_1 : Nat) (i_2 : Int32) (si_0 : Int32) (si_1 : Int32) (sa_2 : Nat) (h : AH) : evR T_X0_asks E 53 ([(0, .ref a_0), (1, .ref a_1), (2, .int i_2)], [.int si_0, .int si_1, .ref sa_2], h) =
  rI (E n_X0_bit [.int si_0] h) (fun i2 h1 =>
  (stL h1 sa_2 si_1 i2.toInt64).bind fun h3 =>
  (rdR h3 a_0 0 12).bind fun r4 =>
  (rdR h3 a_0 0 0).bind fun r5 =>
  (rdI h3 a_1 2 6).bind fun i6 =>
  rI (E n_X1_far [.ref r5, .int i6, .int (i_2 + (1 : Int32))] h3) (fun i8 h7 =>
  (stL h7 r4 (4 : Int32) i8.toInt64).bind fun h9 =>
  (rdR h9 a_0 0 12).bind fun r10 =>
  (rdR h9 a_0 0 0).bind fun r11 =>
  (rdR h9 r11 1 2).bind fun r12 =>
  (ldI h9 r12 0 i_2).bind fun i13 =>
  rI (E n_X2_fires [.ref a_1] h9) (fun i15 h14 =>
  rI (E n_J14_bitCount [.int (i13 &&& i15)] h14) (fun i17 h16 =>
  (stL h16 r10 (5 : Int32) i17.toInt64).bind fun h18 =>
  (rdR h18 a_0 0 12).bind fun r19 =>
  rI (E n_X2_fires [.ref a_1] h18) (fun i21 h20 =>
  rI (E n_J14_bitCount [.int i21] h20) (fun i23 h22 =>
  (stL h22 r19 (6 : Int32) i23.toInt64).bind fun h24 =>
  (rdR h24 a_0 0 12).bind fun r25 =>
  rI (E n_X2_gone [.ref a_1] h24) (fun i27 h26 =>
  (stL h26 r25 (7 : Int32) i27.toInt64).bind fun h28 =>
  (rdR h28 a_0 0 12).bind fun r29 =>
  (rdR h28 a_1 2 4).bind fun r30 =>
  (ldI h28 r30 0 i_2).bind fun i31 =>
  (stL h28 r29 (8 : Int32) i31.toInt64).bind fun h32 =>
  (rdR h32 a_0 0 12).bind fun r33 =>
  (rdI h32 a_1 2 5).bind fun i34 =>
  (stL h32 r33 (9 : Int32) i34.toInt64).bind fun h35 =>
  (rdR h35 a_0 0 12).bind fun r36 =>
  (rdI h35 a_1 2 9).bind fun i37 =>
  (stL h35 r36 (10 : Int32) i37.toInt64).bind fun h38 =>
  some (.inl none, h38)) thr) thr) thr) thr) thr) thr) thr := by
  rw [evR_eq ok_T_X0_asks.loc (ops := b_X0_asks_53) rfl]; rfl
theorem c_X0_asks (d : Nat) (a_0 : Nat) (a_1 : Nat) (i_2 : Int32) (h : AH) : callR (d + 1) n_X0_asks [.ref a_0, .ref a_1, .int i_2] h =
  bif isO h a_0 0 then evR T_X0_asks (callR d) 0 ([(0, .ref a_0), (1, .ref a_1), (2, .int i_2)], [], h) else none := by
  rw [callR_succ, show aMTl[n_X0_asks]? = some (T_X0_asks, [0, 1, 2]) from rfl]; show (bif (isO h a_0 0) && true then _ else _) = _; rw [Bool.and_true]; rfl
theorem e_X0_bit_0 (E : AEn) (i_0 : Int32) (h : AH) : evR T_X0_bit E 0 ([(0, .int i_0)], [], h) =
  bif i_0 == 0 then evR T_X0_bit E 8 ([], [], h) else
  evR T_X0_bit E 4 ([], [], h) := by
  rw [evR_eq ok_T_X0_bit.loc (ops := b_X0_bit_0) rfl]; rfl
theorem e_X0_bit_4 (E : AEn)  (h : AH) : evR T_X0_bit E 4 ([], [], h) =
  evR T_X0_bit E 9 ([], [.int (1 : Int32)], h) := by
  rw [evR_eq ok_T_X0_bit.loc (ops := b_X0_bit_4) rfl]; rfl
theorem e_X0_bit_8 (E : AEn)  (h : AH) : evR T_X0_bit E 8 ([], [], h) =
  evR T_X0_bit E 9 ([], [.int (0 : Int32)], h) := by
  rw [evR_eq ok_T_X0_bit.loc (ops := b_X0_bit_8) rfl]; rfl
theorem e_X0_bit_9 (E : AEn) (si_0 : Int32) (h : AH) : evR T_X0_bit E 9 ([], [.int si_0], h) =
  some (.inl (some (.int si_0)), h) := by
  rw [evR_eq ok_T_X0_bit.loc (ops := b_X0_bit_9) rfl]; rfl
theorem c_X0_bit (d : Nat) (i_0 : Int32) (h : AH) : callR (d + 1) n_X0_bit [.int i_0] h =
  evR T_X0_bit (callR d) 0 ([(0, .int i_0)], [], h) := by
  rw [callR_succ, show aMTl[n_X0_bit]? = some (T_X0_bit, [0]) from rfl]; rfl
theorem e_X0_light_0 (E : AEn) (a_0 : Nat) (i_1 : Int32) (h : AH) : evR T_X0_light E 0 ([(0, .ref a_0), (1, .int i_1)], [], h) =
  rI (E n_X0_isHouse [.ref a_0, .int i_1] h) (fun i2 h1 =>
  bif i2 == 0 then evR T_X0_light E 32 ([], [], h1) else
  evR T_X0_light E 8 ([(0, .ref a_0), (1, .int i_1)], [], h1)) thr := by
  rw [evR_eq ok_T_X0_light.loc (ops := b_X0_light_0) rfl]; rfl
theorem e_X0_light_8 (E : AEn) (a_0 : Nat) (i_1 : Int32) (h : AH) : evR T_X0_light E 8 ([(0, .ref a_0), (1, .int i_1)], [], h) =
  (rdR h a_0 0 1).bind fun r1 =>
  (rdR h r1 2 0).bind fun r2 =>
  (ldI h r2 0 i_1).bind fun i3 =>
  bif i3 == 0 then evR T_X0_light E 32 ([], [], h) else
  evR T_X0_light E 20 ([(0, .ref a_0), (1, .int i_1)], [], h) := by
  rw [evR_eq ok_T_X0_light.loc (ops := b_X0_light_8) rfl]; rfl
theorem e_X0_light_20 (E : AEn) (a_0 : Nat) (i_1 : Int32) (h : AH) : evR T_X0_light E 20 ([(0, .ref a_0), (1, .int i_1)], [], h) =
  (rdR h a_0 0 1).bind fun r1 =>
  (rdR h r1 2 1).bind fun r2 =>
  (ldI h r2 0 i_1).bind fun i3 =>
  bif decide (i3 ≤ 0) then evR T_X0_light E 34 ([(0, .ref a_0), (1, .int i_1)], [], h) else
  evR T_X0_light E 32 ([], [], h) := by
  rw [evR_eq ok_T_X0_light.loc (ops := b_X0_light_20) rfl]; rfl
theorem e_X0_light_32 (E : AEn)  (h : AH) : evR T_X0_light E 32 ([], [], h) =
  some (.inl (some (.int (-1 : Int32))), h) := by
  rw [evR_eq ok_T_X0_light.loc (ops := b_X0_light_32) rfl]; rfl
theorem e_X0_light_34 (E : AEn) (a_0 : Nat) (i_1 : Int32) (h : AH) : evR T_X0_light E 34 ([(0, .ref a_0), (1, .int i_1)], [], h) =
  rV (E n_X0_keeps [.ref a_0] h) (fun h1 =>
  (rdR h1 a_0 0 1).bind fun r2 =>
  (rdR h1 r2 2 1).bind fun r3 =>
  (stI h1 r3 0 i_1 (1 : Int32)).bind fun h4 =>
  (rdR h4 a_0 0 1).bind fun r5 =>
  (rdR h4 r5 2 0).bind fun r6 =>
  (ldI h4 r6 0 i_1).bind fun i7 =>
  some (.inl (some (.int i7)), h4)) thr := by
  rw [evR_eq ok_T_X0_light.loc (ops := b_X0_light_34) rfl]; rfl
theorem c_X0_light (d : Nat) (a_0 : Nat) (i_1 : Int32) (h : AH) : callR (d + 1) n_X0_light [.ref a_0, .int i_1] h =
  bif isO h a_0 0 then evR T_X0_light (callR d) 0 ([(0, .ref a_0), (1, .int i_1)], [], h) else none := by
  rw [callR_succ, show aMTl[n_X0_light]? = some (T_X0_light, [0, 1]) from rfl]; show (bif (isO h a_0 0) && true then _ else _) = _; rw [Bool.and_true]; rfl
theorem e_X0_douse_0 (E : AEn) (a_0 : Nat) (i_1 : Int32) (h : AH) : evR T_X0_douse E 0 ([(0, .ref a_0), (1, .int i_1)], [], h) =
  rI (E n_X0_isHouse [.ref a_0, .int i_1] h) (fun i2 h1 =>
  bif i2 == 0 then evR T_X0_douse E 20 ([], [], h1) else
  evR T_X0_douse E 8 ([(0, .ref a_0), (1, .int i_1)], [], h1)) thr := by
  rw [evR_eq ok_T_X0_douse.loc (ops := b_X0_douse_0) rfl]; rfl
theorem e_X0_douse_8 (E : AEn) (a_0 : Nat) (i_1 : Int32) (h : AH) : evR T_X0_douse E 8 ([(0, .ref a_0), (1, .int i_1)], [], h) =
  (rdR h a_0 0 1).bind fun r1 =>
  (rdR h r1 2 1).bind fun r2 =>
  (ldI h r2 0 i_1).bind fun i3 =>
  bif !(i3 == 0) then evR T_X0_douse E 22 ([(0, .ref a_0), (1, .int i_1)], [], h) else
  evR T_X0_douse E 20 ([], [], h) := by
  rw [evR_eq ok_T_X0_douse.loc (ops := b_X0_douse_8) rfl]; rfl
theorem e_X0_douse_20 (E : AEn)  (h : AH) : evR T_X0_douse E 20 ([], [], h) =
  some (.inl (some (.int (-1 : Int32))), h) := by
  rw [evR_eq ok_T_X0_douse.loc (ops := b_X0_douse_20) rfl]; rfl
theorem e_X0_douse_22 (E : AEn) (a_0 : Nat) (i_1 : Int32) (h : AH) : evR T_X0_douse E 22 ([(0, .ref a_0), (1, .int i_1)], [], h) =
  rV (E n_X0_keeps [.ref a_0] h) (fun h1 =>
  (rdR h1 a_0 0 1).bind fun r2 =>
  (rdR h1 r2 2 1).bind fun r3 =>
  (ldI h1 r3 0 i_1).bind fun i4 =>
  (rdR h1 a_0 0 1).bind fun r5 =>
  (rdR h1 r5 2 1).bind fun r6 =>
  (stI h1 r6 0 i_1 (0 : Int32)).bind fun h7 =>
  some (.inl (some (.int i4)), h7)) thr := by
  rw [evR_eq ok_T_X0_douse.loc (ops := b_X0_douse_22) rfl]; rfl
theorem c_X0_douse (d : Nat) (a_0 : Nat) (i_1 : Int32) (h : AH) : callR (d + 1) n_X0_douse [.ref a_0, .int i_1] h =
  bif isO h a_0 0 then evR T_X0_douse (callR d) 0 ([(0, .ref a_0), (1, .int i_1)], [], h) else none := by
  rw [callR_succ, show aMTl[n_X0_douse]? = some (T_X0_douse, [0, 1]) from rfl]; show (bif (isO h a_0 0) && true then _ else _) = _; rw [Bool.and_true]; rfl
theorem e_X0_say_0 (E : AEn) (a_0 : Nat) (i_1 : Int32) (i_2 : Int32) (h : AH) : evR T_X0_say E 0 ([(0, .ref a_0), (1, .int i_1), (2, .int i_2)], [], h) =
  rI (E n_X0_isHouse [.ref a_0, .int i_1] h) (fun i2 h1 =>
  bif i2 == 0 then evR T_X0_say E 33 ([], [], h1) else
  evR T_X0_say E 8 ([(0, .ref a_0), (1, .int i_1), (2, .int i_2)], [], h1)) thr := by
  rw [evR_eq ok_T_X0_say.loc (ops := b_X0_say_0) rfl]; rfl
theorem e_X0_say_8 (E : AEn) (a_0 : Nat) (i_1 : Int32) (i_2 : Int32) (h : AH) : evR T_X0_say E 8 ([(0, .ref a_0), (1, .int i_1), (2, .int i_2)], [], h) =
  rI (E n_X0_in [.long i_2.toInt64, .long (0 : Int64), .long (20 : Int64)] h) (fun i2 h1 =>
  bif i2 == 0 then evR T_X0_say E 33 ([], [], h1) else
  evR T_X0_say E 20 ([(0, .ref a_0), (1, .int i_1), (2, .int i_2)], [], h1)) thr := by
  rw [evR_eq ok_T_X0_say.loc (ops := b_X0_say_8) rfl]; rfl
theorem e_X0_say_20 (E : AEn) (a_0 : Nat) (i_1 : Int32) (i_2 : Int32) (h : AH) : evR T_X0_say E 20 ([(0, .ref a_0), (1, .int i_1), (2, .int i_2)], [], h) =
  (rdR h a_0 0 1).bind fun r1 =>
  (rdR h r1 2 2).bind fun r2 =>
  (ldI h r2 0 i_1).bind fun i3 =>
  bif !(i3 == i_2) then evR T_X0_say E 35 ([(0, .ref a_0), (1, .int i_1), (2, .int i_2)], [], h) else
  evR T_X0_say E 33 ([], [], h) := by
  rw [evR_eq ok_T_X0_say.loc (ops := b_X0_say_20) rfl]; rfl
theorem e_X0_say_33 (E : AEn)  (h : AH) : evR T_X0_say E 33 ([], [], h) =
  some (.inl (some (.int (-1 : Int32))), h) := by
  rw [evR_eq ok_T_X0_say.loc (ops := b_X0_say_33) rfl]; rfl
theorem e_X0_say_35 (E : AEn) (a_0 : Nat) (i_1 : Int32) (i_2 : Int32) (h : AH) : evR T_X0_say E 35 ([(0, .ref a_0), (1, .int i_1), (2, .int i_2)], [], h) =
  rV (E n_X0_keeps [.ref a_0] h) (fun h1 =>
  (rdR h1 a_0 0 1).bind fun r2 =>
  (rdR h1 r2 2 2).bind fun r3 =>
  (ldI h1 r3 0 i_1).bind fun i4 =>
  (rdR h1 a_0 0 1).bind fun r5 =>
  (rdR h1 r5 2 2).bind fun r6 =>
  (stI h1 r6 0 i_1 i_2).bind fun h7 =>
  some (.inl (some (.int i4)), h7)) thr := by
  rw [evR_eq ok_T_X0_say.loc (ops := b_X0_say_35) rfl]; rfl
theorem c_X0_say (d : Nat) (a_0 : Nat) (i_1 : Int32) (i_2 : Int32) (h : AH) : callR (d + 1) n_X0_say [.ref a_0, .int i_1, .int i_2] h =
  bif isO h a_0 0 then evR T_X0_say (callR d) 0 ([(0, .ref a_0), (1, .int i_1), (2, .int i_2)], [], h) else none := by
  rw [callR_succ, show aMTl[n_X0_say]? = some (T_X0_say, [0, 1, 2]) from rfl]; show (bif (isO h a_0 0) && true then _ else _) = _; rw [Bool.and_true]; rfl
theorem e_X0_send_0 (E : AEn) (a_0 : Nat) (i_1 : Int32) (h : AH) : evR T_X0_send E 0 ([(0, .ref a_0), (1, .int i_1)], [], h) =
  rI (E n_X0_isHouse [.ref a_0, .int i_1] h) (fun i2 h1 =>
  bif i2 == 0 then evR T_X0_send E 43 ([], [], h1) else
  evR T_X0_send E 8 ([(0, .ref a_0), (1, .int i_1)], [], h1)) thr := by
  rw [evR_eq ok_T_X0_send.loc (ops := b_X0_send_0) rfl]; rfl
theorem e_X0_send_8 (E : AEn) (a_0 : Nat) (i_1 : Int32) (h : AH) : evR T_X0_send E 8 ([(0, .ref a_0), (1, .int i_1)], [], h) =
  (rdR h a_0 0 1).bind fun r1 =>
  rI (E n_X2_isAway [.ref r1] h) (fun i3 h2 =>
  bif !(i3 == 0) then evR T_X0_send E 43 ([], [], h2) else
  evR T_X0_send E 18 ([(0, .ref a_0), (1, .int i_1)], [], h2)) thr := by
  rw [evR_eq ok_T_X0_send.loc (ops := b_X0_send_8) rfl]; rfl
theorem e_X0_send_18 (E : AEn) (a_0 : Nat) (i_1 : Int32) (h : AH) : evR T_X0_send E 18 ([(0, .ref a_0), (1, .int i_1)], [], h) =
  (rdR h a_0 0 1).bind fun r1 =>
  (rdI h r1 2 6).bind fun i2 =>
  bif (i_1 + (1 : Int32)) == i2 then evR T_X0_send E 43 ([], [], h) else
  evR T_X0_send E 31 ([(0, .ref a_0), (1, .int i_1)], [], h) := by
  rw [evR_eq ok_T_X0_send.loc (ops := b_X0_send_18) rfl]; rfl
theorem e_X0_send_31 (E : AEn) (a_0 : Nat) (i_1 : Int32) (h : AH) : evR T_X0_send E 31 ([(0, .ref a_0), (1, .int i_1)], [], h) =
  (rdR h a_0 0 1).bind fun r1 =>
  rI (E n_X0_isReached [.ref a_0, .ref r1, .int i_1] h) (fun i3 h2 =>
  bif !(i3 == 0) then evR T_X0_send E 45 ([(0, .ref a_0), (1, .int i_1)], [], h2) else
  evR T_X0_send E 43 ([], [], h2)) thr := by
  rw [evR_eq ok_T_X0_send.loc (ops := b_X0_send_31) rfl]; rfl
theorem e_X0_send_43 (E : AEn)  (h : AH) : evR T_X0_send E 43 ([], [], h) =
  some (.inl (some (.int (-1 : Int32))), h) := by
  rw [evR_eq ok_T_X0_send.loc (ops := b_X0_send_43) rfl]; rfl
theorem e_X0_send_45 (E : AEn) (a_0 : Nat) (i_1 : Int32) (h : AH) : evR T_X0_send E 45 ([(0, .ref a_0), (1, .int i_1)], [], h) =
  rV (E n_X0_keeps [.ref a_0] h) (fun h1 =>
  (rdR h1 a_0 0 1).bind fun r2 =>
  (rdR h1 a_0 0 0).bind fun r3 =>
  rV (E n_X2_sends [.ref r2, .ref r3, .int i_1] h1) (fun h4 =>
  (rdR h4 a_0 0 1).bind fun r5 =>
  (rdI h4 r5 2 8).bind fun i6 =>
  some (.inl (some (.int i6)), h4)) thr) thr := by
  rw [evR_eq ok_T_X0_send.loc (ops := b_X0_send_45) rfl]; rfl
theorem c_X0_send (d : Nat) (a_0 : Nat) (i_1 : Int32) (h : AH) : callR (d + 1) n_X0_send [.ref a_0, .int i_1] h =
  bif isO h a_0 0 then evR T_X0_send (callR d) 0 ([(0, .ref a_0), (1, .int i_1)], [], h) else none := by
  rw [callR_succ, show aMTl[n_X0_send]? = some (T_X0_send, [0, 1]) from rfl]; show (bif (isO h a_0 0) && true then _ else _) = _; rw [Bool.and_true]; rfl
theorem e_X0_ahead_0 (E : AEn) (a_0 : Nat) (i_1 : Int32) (i_2 : Int32) (i_3 : Int32) (h : AH) : evR T_X0_ahead E 0 ([(0, .ref a_0), (1, .int i_1), (2, .int i_2), (3, .int i_3)], [], h) =
  rI (E n_X0_isValley [.ref a_0] h) (fun i2 h1 =>
  bif i2 == 0 then evR T_X0_ahead E 44 ([], [], h1) else
  evR T_X0_ahead E 7 ([(0, .ref a_0), (1, .int i_1), (2, .int i_2), (3, .int i_3)], [], h1)) thr := by
  rw [evR_eq ok_T_X0_ahead.loc (ops := b_X0_ahead_0) rfl]; rfl
theorem e_X0_ahead_7 (E : AEn) (a_0 : Nat) (i_1 : Int32) (i_2 : Int32) (i_3 : Int32) (h : AH) : evR T_X0_ahead E 7 ([(0, .ref a_0), (1, .int i_1), (2, .int i_2), (3, .int i_3)], [], h) =
  rI (E n_X0_in [.long i_3.toInt64, .long (0 : Int64), .long (2 : Int64)] h) (fun i2 h1 =>
  bif i2 == 0 then evR T_X0_ahead E 44 ([], [], h1) else
  evR T_X0_ahead E 19 ([(0, .ref a_0), (1, .int i_1), (2, .int i_2), (3, .int i_3)], [], h1)) thr := by
  rw [evR_eq ok_T_X0_ahead.loc (ops := b_X0_ahead_7) rfl]; rfl
theorem e_X0_ahead_19 (E : AEn) (a_0 : Nat) (i_1 : Int32) (i_2 : Int32) (i_3 : Int32) (h : AH) : evR T_X0_ahead E 19 ([(0, .ref a_0), (1, .int i_1), (2, .int i_2), (3, .int i_3)], [], h) =
  bif decide ((2 : Int32) ≤ i_3) then evR T_X0_ahead E 32 ([(0, .ref a_0), (1, .int i_1), (2, .int i_2), (3, .int i_3)], [], h) else
  evR T_X0_ahead E 24 ([(0, .ref a_0), (1, .int i_1), (2, .int i_2), (3, .int i_3)], [], h) := by
  rw [evR_eq ok_T_X0_ahead.loc (ops := b_X0_ahead_19) rfl]; rfl
theorem e_X0_ahead_24 (E : AEn) (a_0 : Nat) (i_1 : Int32) (i_2 : Int32) (i_3 : Int32) (h : AH) : evR T_X0_ahead E 24 ([(0, .ref a_0), (1, .int i_1), (2, .int i_2), (3, .int i_3)], [], h) =
  rI (E n_X0_isHouse [.ref a_0, .int i_1] h) (fun i2 h1 =>
  bif i2 == 0 then evR T_X0_ahead E 44 ([], [], h1) else
  evR T_X0_ahead E 32 ([(0, .ref a_0), (1, .int i_1), (2, .int i_2), (3, .int i_3)], [], h1)) thr := by
  rw [evR_eq ok_T_X0_ahead.loc (ops := b_X0_ahead_24) rfl]; rfl
theorem e_X0_ahead_32 (E : AEn) (a_0 : Nat) (i_1 : Int32) (i_2 : Int32) (i_3 : Int32) (h : AH) : evR T_X0_ahead E 32 ([(0, .ref a_0), (1, .int i_1), (2, .int i_2), (3, .int i_3)], [], h) =
  rI (E n_X0_in [.long i_2.toInt64, .long (0 : Int64), .long (100 : Int64)] h) (fun i2 h1 =>
  bif !(i2 == 0) then evR T_X0_ahead E 46 ([(0, .ref a_0), (1, .int i_1), (2, .int i_2), (3, .int i_3)], [], h1) else
  evR T_X0_ahead E 44 ([], [], h1)) thr := by
  rw [evR_eq ok_T_X0_ahead.loc (ops := b_X0_ahead_32) rfl]; rfl
theorem e_X0_ahead_44 (E : AEn)  (h : AH) : evR T_X0_ahead E 44 ([], [], h) =
  some (.inl (some (.int (-1 : Int32))), h) := by
  rw [evR_eq ok_T_X0_ahead.loc (ops := b_X0_ahead_44) rfl]; rfl
theorem e_X0_ahead_46 (E : AEn) (a_0 : Nat) (i_1 : Int32) (i_2 : Int32) (i_3 : Int32) (h : AH) : evR T_X0_ahead E 46 ([(0, .ref a_0), (1, .int i_1), (2, .int i_2), (3, .int i_3)], [], h) =
  (rdR h a_0 0 2).bind fun r1 =>
  (rdR h a_0 0 1).bind fun r2 =>
  rV (E n_X2_copyFrom [.ref r1, .ref r2] h) (fun h3 =>
  rV (E n_X0_goesTill [.ref a_0, .int i_2] h3) (fun h4 =>
  bif !(i_3 == 0) then evR T_X0_ahead E 78 ([(0, .ref a_0), (1, .int i_1), (3, .int i_3)], [], h4) else
  evR T_X0_ahead E 66 ([(0, .ref a_0), (1, .int i_1)], [], h4)) thr) thr := by
  rw [evR_eq ok_T_X0_ahead.loc (ops := b_X0_ahead_46) rfl]; rfl
theorem e_X0_ahead_66 (E : AEn) (a_0 : Nat) (i_1 : Int32) (h : AH) : evR T_X0_ahead E 66 ([(0, .ref a_0), (1, .int i_1)], [], h) =
  (rdR h a_0 0 2).bind fun r1 =>
  (rdR h r1 2 1).bind fun r2 =>
  (ldI h r2 0 i_1).bind fun i3 =>
  evR T_X0_ahead E 102 ([], [.int i3], h) := by
  rw [evR_eq ok_T_X0_ahead.loc (ops := b_X0_ahead_66) rfl]; rfl
theorem e_X0_ahead_78 (E : AEn) (a_0 : Nat) (i_1 : Int32) (i_3 : Int32) (h : AH) : evR T_X0_ahead E 78 ([(0, .ref a_0), (1, .int i_1), (3, .int i_3)], [], h) =
  bif !(i_3 == (1 : Int32)) then evR T_X0_ahead E 95 ([(0, .ref a_0)], [], h) else
  evR T_X0_ahead E 83 ([(0, .ref a_0), (1, .int i_1)], [], h) := by
  rw [evR_eq ok_T_X0_ahead.loc (ops := b_X0_ahead_78) rfl]; rfl
theorem e_X0_ahead_83 (E : AEn) (a_0 : Nat) (i_1 : Int32) (h : AH) : evR T_X0_ahead E 83 ([(0, .ref a_0), (1, .int i_1)], [], h) =
  (rdR h a_0 0 2).bind fun r1 =>
  (rdR h r1 2 0).bind fun r2 =>
  (ldI h r2 0 i_1).bind fun i3 =>
  evR T_X0_ahead E 102 ([], [.int i3], h) := by
  rw [evR_eq ok_T_X0_ahead.loc (ops := b_X0_ahead_83) rfl]; rfl
theorem e_X0_ahead_95 (E : AEn) (a_0 : Nat) (h : AH) : evR T_X0_ahead E 95 ([(0, .ref a_0)], [], h) =
  (rdR h a_0 0 2).bind fun r1 =>
  (rdI h r1 2 6).bind fun i2 =>
  evR T_X0_ahead E 102 ([], [.int i2], h) := by
  rw [evR_eq ok_T_X0_ahead.loc (ops := b_X0_ahead_95) rfl]; rfl
theorem e_X0_ahead_102 (E : AEn) (si_0 : Int32) (h : AH) : evR T_X0_ahead E 102 ([], [.int si_0], h) =
  some (.inl (some (.int si_0)), h) := by
  rw [evR_eq ok_T_X0_ahead.loc (ops := b_X0_ahead_102) rfl]; rfl
theorem c_X0_ahead (d : Nat) (a_0 : Nat) (i_1 : Int32) (i_2 : Int32) (i_3 : Int32) (h : AH) : callR (d + 1) n_X0_ahead [.ref a_0, .int i_1, .int i_2, .int i_3] h =
  bif isO h a_0 0 then evR T_X0_ahead (callR d) 0 ([(0, .ref a_0), (1, .int i_1), (2, .int i_2), (3, .int i_3)], [], h) else none := by
  rw [callR_succ, show aMTl[n_X0_ahead]? = some (T_X0_ahead, [0, 1, 2, 3]) from rfl]; show (bif (isO h a_0 0) && true then _ else _) = _; rw [Bool.and_true]; rfl
theorem e_X0_goesTill_0 (E : AEn) (a_0 : Nat) (i_1 : Int32) (h : AH) : evR T_X0_goesTill E 0 ([(0, .ref a_0), (1, .int i_1)], [], h) =
  evR T_X0_goesTill E 2 ([(0, .ref a_0), (1, .int i_1), (2, .int (0 : Int32))], [], h) := by
  rw [evR_eq ok_T_X0_goesTill.loc (ops := b_X0_goesTill_0) rfl]; rfl
theorem e_X0_goesTill_2 (E : AEn) (a_0 : Nat) (i_1 : Int32) (i_2 : Int32) (h : AH) : evR T_X0_goesTill E 2 ([(0, .ref a_0), (1, .int i_1), (2, .int i_2)], [], h) =
  bif decide (i_1 ≤ i_2) then evR T_X0_goesTill E 22 ([], [], h) else
  evR T_X0_goesTill E 7 ([(0, .ref a_0), (1, .int i_1), (2, .int i_2)], [], h) := by
  rw [evR_eq ok_T_X0_goesTill.loc (ops := b_X0_goesTill_2) rfl]; rfl
theorem e_X0_goesTill_7 (E : AEn) (a_0 : Nat) (i_1 : Int32) (i_2 : Int32) (h : AH) : evR T_X0_goesTill E 7 ([(0, .ref a_0), (1, .int i_1), (2, .int i_2)], [], h) =
  (rdR h a_0 0 2).bind fun r1 =>
  rI (E n_X0_goesOn [.ref a_0, .ref r1] h) (fun i3 h2 =>
  evR T_X0_goesTill E 2 ([(0, .ref a_0), (1, .int i_1), (2, .int (i_2 + (1 : Int32)))], [], h2)) thr := by
  rw [evR_eq ok_T_X0_goesTill.loc (ops := b_X0_goesTill_7) rfl]; rfl
theorem e_X0_goesTill_22 (E : AEn)  (h : AH) : evR T_X0_goesTill E 22 ([], [], h) =
  some (.inl none, h) := by
  rw [evR_eq ok_T_X0_goesTill.loc (ops := b_X0_goesTill_22) rfl]; rfl
theorem c_X0_goesTill (d : Nat) (a_0 : Nat) (i_1 : Int32) (h : AH) : callR (d + 1) n_X0_goesTill [.ref a_0, .int i_1] h =
  bif isO h a_0 0 then evR T_X0_goesTill (callR d) 0 ([(0, .ref a_0), (1, .int i_1)], [], h) else none := by
  rw [callR_succ, show aMTl[n_X0_goesTill]? = some (T_X0_goesTill, [0, 1]) from rfl]; show (bif (isO h a_0 0) && true then _ else _) = _; rw [Bool.and_true]; rfl
theorem e_X0_left_0 (E : AEn) (a_0 : Nat) (i_1 : Int32) (h : AH) : evR T_X0_left E 0 ([(0, .ref a_0), (1, .int i_1)], [], h) =
  rI (E n_X0_isValley [.ref a_0] h) (fun i2 h1 =>
  bif i2 == 0 then evR T_X0_left E 19 ([], [], h1) else
  evR T_X0_left E 7 ([(0, .ref a_0), (1, .int i_1)], [], h1)) thr := by
  rw [evR_eq ok_T_X0_left.loc (ops := b_X0_left_0) rfl]; rfl
theorem e_X0_left_7 (E : AEn) (a_0 : Nat) (i_1 : Int32) (h : AH) : evR T_X0_left E 7 ([(0, .ref a_0), (1, .int i_1)], [], h) =
  rI (E n_X0_in [.long i_1.toInt64, .long (0 : Int64), .long (100 : Int64)] h) (fun i2 h1 =>
  bif !(i2 == 0) then evR T_X0_left E 21 ([(0, .ref a_0), (1, .int i_1)], [], h1) else
  evR T_X0_left E 19 ([], [], h1)) thr := by
  rw [evR_eq ok_T_X0_left.loc (ops := b_X0_left_7) rfl]; rfl
theorem e_X0_left_19 (E : AEn)  (h : AH) : evR T_X0_left E 19 ([], [], h) =
  some (.inl (some (.int (-1 : Int32))), h) := by
  rw [evR_eq ok_T_X0_left.loc (ops := b_X0_left_19) rfl]; rfl
theorem e_X0_left_21 (E : AEn) (a_0 : Nat) (i_1 : Int32) (h : AH) : evR T_X0_left E 21 ([(0, .ref a_0), (1, .int i_1)], [], h) =
  (rdR h a_0 0 2).bind fun r1 =>
  (rdR h a_0 0 1).bind fun r2 =>
  rV (E n_X2_copyFrom [.ref r1, .ref r2] h) (fun h3 =>
  rV (E n_X0_goesTill [.ref a_0, .int i_1] h3) (fun h4 =>
  (rdR h4 a_0 0 2).bind fun r5 =>
  rI (E n_X2_left [.ref r5] h4) (fun i7 h6 =>
  some (.inl (some (.int i7)), h6)) thr) thr) thr := by
  rw [evR_eq ok_T_X0_left.loc (ops := b_X0_left_21) rfl]; rfl
theorem c_X0_left (d : Nat) (a_0 : Nat) (i_1 : Int32) (h : AH) : callR (d + 1) n_X0_left [.ref a_0, .int i_1] h =
  bif isO h a_0 0 then evR T_X0_left (callR d) 0 ([(0, .ref a_0), (1, .int i_1)], [], h) else none := by
  rw [callR_succ, show aMTl[n_X0_left]? = some (T_X0_left, [0, 1]) from rfl]; show (bif (isO h a_0 0) && true then _ else _) = _; rw [Bool.and_true]; rfl
theorem e_X0_out_0 (E : AEn) (a_0 : Nat) (h : AH) : evR T_X0_out E 0 ([(0, .ref a_0)], [], h) =
  rI (E n_X0_isValley [.ref a_0] h) (fun i2 h1 =>
  bif !(i2 == 0) then evR T_X0_out E 9 ([(0, .ref a_0)], [], h1) else
  evR T_X0_out E 7 ([], [], h1)) thr := by
  rw [evR_eq ok_T_X0_out.loc (ops := b_X0_out_0) rfl]; rfl
theorem e_X0_out_7 (E : AEn)  (h : AH) : evR T_X0_out E 7 ([], [], h) =
  some (.inl (some (.int (-1 : Int32))), h) := by
  rw [evR_eq ok_T_X0_out.loc (ops := b_X0_out_7) rfl]; rfl
theorem e_X0_out_9 (E : AEn) (a_0 : Nat) (h : AH) : evR T_X0_out E 9 ([(0, .ref a_0)], [], h) =
  (rdR h a_0 0 2).bind fun r1 =>
  (rdR h a_0 0 1).bind fun r2 =>
  rV (E n_X2_copyFrom [.ref r1, .ref r2] h) (fun h3 =>
  evR T_X0_out E 22 ([(0, .ref a_0), (1, .int (0 : Int32))], [], h3)) thr := by
  rw [evR_eq ok_T_X0_out.loc (ops := b_X0_out_9) rfl]; rfl
theorem e_X0_out_22 (E : AEn) (a_0 : Nat) (i_1 : Int32) (h : AH) : evR T_X0_out E 22 ([(0, .ref a_0), (1, .int i_1)], [], h) =
  bif decide ((200 : Int32) ≤ i_1) then evR T_X0_out E 62 ([], [], h) else
  evR T_X0_out E 29 ([(0, .ref a_0), (1, .int i_1)], [], h) := by
  rw [evR_eq ok_T_X0_out.loc (ops := b_X0_out_22) rfl]; rfl
theorem e_X0_out_29 (E : AEn) (a_0 : Nat) (i_1 : Int32) (h : AH) : evR T_X0_out E 29 ([(0, .ref a_0), (1, .int i_1)], [], h) =
  (rdR h a_0 0 2).bind fun r1 =>
  rI (E n_X2_fires [.ref r1] h) (fun i3 h2 =>
  bif !(i3 == 0) then evR T_X0_out E 47 ([(0, .ref a_0), (1, .int i_1)], [], h2) else
  evR T_X0_out E 39 ([(0, .ref a_0)], [], h2)) thr := by
  rw [evR_eq ok_T_X0_out.loc (ops := b_X0_out_29) rfl]; rfl
theorem e_X0_out_39 (E : AEn) (a_0 : Nat) (h : AH) : evR T_X0_out E 39 ([(0, .ref a_0)], [], h) =
  (rdR h a_0 0 2).bind fun r1 =>
  (rdI h r1 2 9).bind fun i2 =>
  some (.inl (some (.int i2)), h) := by
  rw [evR_eq ok_T_X0_out.loc (ops := b_X0_out_39) rfl]; rfl
theorem e_X0_out_47 (E : AEn) (a_0 : Nat) (i_1 : Int32) (h : AH) : evR T_X0_out E 47 ([(0, .ref a_0), (1, .int i_1)], [], h) =
  (rdR h a_0 0 2).bind fun r1 =>
  rI (E n_X0_goesOn [.ref a_0, .ref r1] h) (fun i3 h2 =>
  evR T_X0_out E 22 ([(0, .ref a_0), (1, .int (i_1 + (1 : Int32)))], [], h2)) thr := by
  rw [evR_eq ok_T_X0_out.loc (ops := b_X0_out_47) rfl]; rfl
theorem e_X0_out_62 (E : AEn)  (h : AH) : evR T_X0_out E 62 ([], [], h) =
  some (.inl (some (.int (-2 : Int32))), h) := by
  rw [evR_eq ok_T_X0_out.loc (ops := b_X0_out_62) rfl]; rfl
theorem c_X0_out (d : Nat) (a_0 : Nat) (h : AH) : callR (d + 1) n_X0_out [.ref a_0] h =
  bif isO h a_0 0 then evR T_X0_out (callR d) 0 ([(0, .ref a_0)], [], h) else none := by
  rw [callR_succ, show aMTl[n_X0_out]? = some (T_X0_out, [0]) from rfl]; show (bif (isO h a_0 0) && true then _ else _) = _; rw [Bool.and_true]; rfl
theorem e_X0_canBurn_0 (E : AEn) (a_0 : Nat) (h : AH) : evR T_X0_canBurn E 0 ([(0, .ref a_0)], [], h) =
  rI (E n_X0_isValley [.ref a_0] h) (fun i2 h1 =>
  bif !(i2 == 0) then evR T_X0_canBurn E 9 ([(0, .ref a_0)], [], h1) else
  evR T_X0_canBurn E 7 ([], [], h1)) thr := by
  rw [evR_eq ok_T_X0_canBurn.loc (ops := b_X0_canBurn_0) rfl]; rfl
theorem e_X0_canBurn_7 (E : AEn)  (h : AH) : evR T_X0_canBurn E 7 ([], [], h) =
  some (.inl (some (.int (-1 : Int32))), h) := by
  rw [evR_eq ok_T_X0_canBurn.loc (ops := b_X0_canBurn_7) rfl]; rfl
theorem e_X0_canBurn_9 (E : AEn) (a_0 : Nat) (h : AH) : evR T_X0_canBurn E 9 ([(0, .ref a_0)], [], h) =
  (rdR h a_0 0 1).bind fun r1 =>
  rI (E n_X2_fires [.ref r1] h) (fun i3 h2 =>
  evR T_X0_canBurn E 19 ([(0, .ref a_0), (1, .int i3), (2, .int (0 : Int32))], [], h2)) thr := by
  rw [evR_eq ok_T_X0_canBurn.loc (ops := b_X0_canBurn_9) rfl]; rfl
theorem e_X0_canBurn_19 (E : AEn) (a_0 : Nat) (i_1 : Int32) (i_2 : Int32) (h : AH) : evR T_X0_canBurn E 19 ([(0, .ref a_0), (1, .int i_1), (2, .int i_2)], [], h) =
  bif decide ((6 : Int32) ≤ i_2) then evR T_X0_canBurn E 82 ([(1, .int i_1)], [], h) else
  evR T_X0_canBurn E 25 ([(0, .ref a_0), (1, .int i_1), (2, .int i_2)], [], h) := by
  rw [evR_eq ok_T_X0_canBurn.loc (ops := b_X0_canBurn_19) rfl]; rfl
theorem e_X0_canBurn_25 (E : AEn) (a_0 : Nat) (i_1 : Int32) (i_2 : Int32) (h : AH) : evR T_X0_canBurn E 25 ([(0, .ref a_0), (1, .int i_1), (2, .int i_2)], [], h) =
  evR T_X0_canBurn E 27 ([(0, .ref a_0), (1, .int i_1), (2, .int i_2), (3, .int (0 : Int32))], [], h) := by
  rw [evR_eq ok_T_X0_canBurn.loc (ops := b_X0_canBurn_25) rfl]; rfl
theorem e_X0_canBurn_27 (E : AEn) (a_0 : Nat) (i_1 : Int32) (i_2 : Int32) (i_3 : Int32) (h : AH) : evR T_X0_canBurn E 27 ([(0, .ref a_0), (1, .int i_1), (2, .int i_2), (3, .int i_3)], [], h) =
  (rdR h a_0 0 0).bind fun r1 =>
  rI (E n_X1_houses [.ref r1] h) (fun i3 h2 =>
  bif decide (i3 ≤ i_3) then evR T_X0_canBurn E 76 ([(0, .ref a_0), (1, .int i_1), (2, .int i_2)], [], h2) else
  evR T_X0_canBurn E 38 ([(0, .ref a_0), (1, .int i_1), (2, .int i_2), (3, .int i_3)], [], h2)) thr := by
  rw [evR_eq ok_T_X0_canBurn.loc (ops := b_X0_canBurn_27) rfl]; rfl
theorem e_X0_canBurn_38 (E : AEn) (a_0 : Nat) (i_1 : Int32) (i_2 : Int32) (i_3 : Int32) (h : AH) : evR T_X0_canBurn E 38 ([(0, .ref a_0), (1, .int i_1), (2, .int i_2), (3, .int i_3)], [], h) =
  (rdR h a_0 0 1).bind fun r1 =>
  (rdR h r1 2 0).bind fun r2 =>
  (ldI h r2 0 i_3).bind fun i3 =>
  bif decide (i3 ≤ 0) then evR T_X0_canBurn E 70 ([(0, .ref a_0), (1, .int i_1), (2, .int i_2), (3, .int i_3)], [], h) else
  evR T_X0_canBurn E 50 ([(0, .ref a_0), (1, .int i_1), (2, .int i_2), (3, .int i_3)], [], h) := by
  rw [evR_eq ok_T_X0_canBurn.loc (ops := b_X0_canBurn_38) rfl]; rfl
theorem e_X0_canBurn_50 (E : AEn) (a_0 : Nat) (i_1 : Int32) (i_2 : Int32) (i_3 : Int32) (h : AH) : evR T_X0_canBurn E 50 ([(0, .ref a_0), (1, .int i_1), (2, .int i_2), (3, .int i_3)], [], h) =
  (rdR h a_0 0 0).bind fun r1 =>
  (rdR h r1 1 2).bind fun r2 =>
  (ldI h r2 0 i_3).bind fun i3 =>
  bif (i3 &&& i_1) == 0 then evR T_X0_canBurn E 70 ([(0, .ref a_0), (1, .int i_1), (2, .int i_2), (3, .int i_3)], [], h) else
  evR T_X0_canBurn E 64 ([(0, .ref a_0), (1, .int i_1), (2, .int i_2), (3, .int i_3)], [], h) := by
  rw [evR_eq ok_T_X0_canBurn.loc (ops := b_X0_canBurn_50) rfl]; rfl
theorem e_X0_canBurn_64 (E : AEn) (a_0 : Nat) (i_1 : Int32) (i_2 : Int32) (i_3 : Int32) (h : AH) : evR T_X0_canBurn E 64 ([(0, .ref a_0), (1, .int i_1), (2, .int i_2), (3, .int i_3)], [], h) =
  evR T_X0_canBurn E 70 ([(0, .ref a_0), (1, .int (i_1 ||| ((1 : Int32) <<< (i_3 &&& 31)))), (2, .int i_2), (3, .int i_3)], [], h) := by
  rw [evR_eq ok_T_X0_canBurn.loc (ops := b_X0_canBurn_64) rfl]; rfl
theorem e_X0_canBurn_70 (E : AEn) (a_0 : Nat) (i_1 : Int32) (i_2 : Int32) (i_3 : Int32) (h : AH) : evR T_X0_canBurn E 70 ([(0, .ref a_0), (1, .int i_1), (2, .int i_2), (3, .int i_3)], [], h) =
  evR T_X0_canBurn E 27 ([(0, .ref a_0), (1, .int i_1), (2, .int i_2), (3, .int (i_3 + (1 : Int32)))], [], h) := by
  rw [evR_eq ok_T_X0_canBurn.loc (ops := b_X0_canBurn_70) rfl]; rfl
theorem e_X0_canBurn_76 (E : AEn) (a_0 : Nat) (i_1 : Int32) (i_2 : Int32) (h : AH) : evR T_X0_canBurn E 76 ([(0, .ref a_0), (1, .int i_1), (2, .int i_2)], [], h) =
  evR T_X0_canBurn E 19 ([(0, .ref a_0), (1, .int i_1), (2, .int (i_2 + (1 : Int32)))], [], h) := by
  rw [evR_eq ok_T_X0_canBurn.loc (ops := b_X0_canBurn_76) rfl]; rfl
theorem e_X0_canBurn_82 (E : AEn) (i_1 : Int32) (h : AH) : evR T_X0_canBurn E 82 ([(1, .int i_1)], [], h) =
  some (.inl (some (.int i_1)), h) := by
  rw [evR_eq ok_T_X0_canBurn.loc (ops := b_X0_canBurn_82) rfl]; rfl
theorem c_X0_canBurn (d : Nat) (a_0 : Nat) (h : AH) : callR (d + 1) n_X0_canBurn [.ref a_0] h =
  bif isO h a_0 0 then evR T_X0_canBurn (callR d) 0 ([(0, .ref a_0)], [], h) else none := by
  rw [callR_succ, show aMTl[n_X0_canBurn]? = some (T_X0_canBurn, [0]) from rfl]; show (bif (isO h a_0 0) && true then _ else _) = _; rw [Bool.and_true]; rfl
theorem e_X0_order_0 (E : AEn) (a_0 : Nat) (i_1 : Int32) (i_2 : Int32) (h : AH) : evR T_X0_order E 0 ([(0, .ref a_0), (1, .int i_1), (2, .int i_2)], [], h) =
  rI (E n_X0_isValley [.ref a_0] h) (fun i2 h1 =>
  bif i2 == 0 then evR T_X0_order E 33 ([], [], h1) else
  evR T_X0_order E 7 ([(0, .ref a_0), (1, .int i_1), (2, .int i_2)], [], h1)) thr := by
  rw [evR_eq ok_T_X0_order.loc (ops := b_X0_order_0) rfl]; rfl
theorem e_X0_order_7 (E : AEn) (a_0 : Nat) (i_1 : Int32) (i_2 : Int32) (h : AH) : evR T_X0_order E 7 ([(0, .ref a_0), (1, .int i_1), (2, .int i_2)], [], h) =
  rI (E n_X0_in [.long i_1.toInt64, .long (1 : Int64), .long (60 : Int64)] h) (fun i2 h1 =>
  bif i2 == 0 then evR T_X0_order E 33 ([], [], h1) else
  evR T_X0_order E 19 ([(0, .ref a_0), (1, .int i_1), (2, .int i_2)], [], h1)) thr := by
  rw [evR_eq ok_T_X0_order.loc (ops := b_X0_order_7) rfl]; rfl
theorem e_X0_order_19 (E : AEn) (a_0 : Nat) (i_1 : Int32) (i_2 : Int32) (h : AH) : evR T_X0_order E 19 ([(0, .ref a_0), (1, .int i_1), (2, .int i_2)], [], h) =
  rI (E n_X0_in [.long i_2.toInt64, .long (-1 : Int64), .long (5 : Int64)] h) (fun i2 h1 =>
  bif !(i2 == 0) then evR T_X0_order E 36 ([(0, .ref a_0), (1, .int i_1), (2, .int i_2)], [], h1) else
  evR T_X0_order E 33 ([], [], h1)) thr := by
  rw [evR_eq ok_T_X0_order.loc (ops := b_X0_order_19) rfl]; rfl
theorem e_X0_order_33 (E : AEn)  (h : AH) : evR T_X0_order E 33 ([], [], h) =
  some (.inl (some (.int (-3 : Int32))), h) := by
  rw [evR_eq ok_T_X0_order.loc (ops := b_X0_order_33) rfl]; rfl
theorem e_X0_order_36 (E : AEn) (a_0 : Nat) (i_1 : Int32) (i_2 : Int32) (h : AH) : evR T_X0_order E 36 ([(0, .ref a_0), (1, .int i_1), (2, .int i_2)], [], h) =
  (rdR h a_0 0 1).bind fun r1 =>
  rI (E n_X2_fires [.ref r1] h) (fun i3 h2 =>
  rI (E n_J14_bitCount [.int i3] h2) (fun i5 h4 =>
  (wrF h4 a_0 0 15 (.int i5)).bind fun h6 =>
  (wrF h6 a_0 0 22 (.int (-1 : Int32))).bind fun h7 =>
  (rdR h7 a_0 0 1).bind fun r8 =>
  rI (E n_X2_fires [.ref r8] h7) (fun i10 h9 =>
  rV (E n_X0_rowsFrom [.ref a_0, .int (0 : Int32), .int i10, .int i_1] h9) (fun h11 =>
  bif !(i_2 == (-1 : Int32)) then evR T_X0_order E 80 ([(0, .ref a_0), (2, .int i_2)], [], h11) else
  evR T_X0_order E 73 ([(0, .ref a_0)], [], h11)) thr) thr) thr) thr := by
  rw [evR_eq ok_T_X0_order.loc (ops := b_X0_order_36) rfl]; rfl
theorem e_X0_order_73 (E : AEn) (a_0 : Nat) (h : AH) : evR T_X0_order E 73 ([(0, .ref a_0)], [], h) =
  (rdI h a_0 0 22).bind fun i1 =>
  evR T_X0_order E 99 ([], [.int i1], h) := by
  rw [evR_eq ok_T_X0_order.loc (ops := b_X0_order_73) rfl]; rfl
theorem e_X0_order_80 (E : AEn) (a_0 : Nat) (i_2 : Int32) (h : AH) : evR T_X0_order E 80 ([(0, .ref a_0), (2, .int i_2)], [], h) =
  (rdI h a_0 0 15).bind fun i1 =>
  bif decide (i1 ≤ i_2) then evR T_X0_order E 97 ([], [], h) else
  evR T_X0_order E 88 ([(0, .ref a_0), (2, .int i_2)], [], h) := by
  rw [evR_eq ok_T_X0_order.loc (ops := b_X0_order_80) rfl]; rfl
theorem e_X0_order_88 (E : AEn) (a_0 : Nat) (i_2 : Int32) (h : AH) : evR T_X0_order E 88 ([(0, .ref a_0), (2, .int i_2)], [], h) =
  (rdR h a_0 0 14).bind fun r1 =>
  (ldI h r1 0 i_2).bind fun i2 =>
  evR T_X0_order E 99 ([], [.int i2], h) := by
  rw [evR_eq ok_T_X0_order.loc (ops := b_X0_order_88) rfl]; rfl
theorem e_X0_order_97 (E : AEn)  (h : AH) : evR T_X0_order E 97 ([], [], h) =
  evR T_X0_order E 99 ([], [.int (-2 : Int32)], h) := by
  rw [evR_eq ok_T_X0_order.loc (ops := b_X0_order_97) rfl]; rfl
theorem e_X0_order_99 (E : AEn) (si_0 : Int32) (h : AH) : evR T_X0_order E 99 ([], [.int si_0], h) =
  some (.inl (some (.int si_0)), h) := by
  rw [evR_eq ok_T_X0_order.loc (ops := b_X0_order_99) rfl]; rfl
theorem c_X0_order (d : Nat) (a_0 : Nat) (i_1 : Int32) (i_2 : Int32) (h : AH) : callR (d + 1) n_X0_order [.ref a_0, .int i_1, .int i_2] h =
  bif isO h a_0 0 then evR T_X0_order (callR d) 0 ([(0, .ref a_0), (1, .int i_1), (2, .int i_2)], [], h) else none := by
  rw [callR_succ, show aMTl[n_X0_order]? = some (T_X0_order, [0, 1, 2]) from rfl]; show (bif (isO h a_0 0) && true then _ else _) = _; rw [Bool.and_true]; rfl
theorem e_X0_rowsFrom_0 (E : AEn) (a_0 : Nat) (i_1 : Int32) (i_2 : Int32) (i_3 : Int32) (h : AH) : evR T_X0_rowsFrom E 0 ([(0, .ref a_0), (1, .int i_1), (2, .int i_2), (3, .int i_3)], [], h) =
  bif !(i_2 == 0) then evR T_X0_rowsFrom E 10 ([(0, .ref a_0), (1, .int i_1), (2, .int i_2), (3, .int i_3)], [], h) else
  evR T_X0_rowsFrom E 4 ([(0, .ref a_0), (3, .int i_3)], [], h) := by
  rw [evR_eq ok_T_X0_rowsFrom.loc (ops := b_X0_rowsFrom_0) rfl]; rfl
theorem e_X0_rowsFrom_4 (E : AEn) (a_0 : Nat) (i_3 : Int32) (h : AH) : evR T_X0_rowsFrom E 4 ([(0, .ref a_0), (3, .int i_3)], [], h) =
  rV (E n_X0_triesRow [.ref a_0, .int i_3] h) (fun h1 =>
  some (.inl none, h1)) thr := by
  rw [evR_eq ok_T_X0_rowsFrom.loc (ops := b_X0_rowsFrom_4) rfl]; rfl
theorem e_X0_rowsFrom_10 (E : AEn) (a_0 : Nat) (i_1 : Int32) (i_2 : Int32) (i_3 : Int32) (h : AH) : evR T_X0_rowsFrom E 10 ([(0, .ref a_0), (1, .int i_1), (2, .int i_2), (3, .int i_3)], [], h) =
  evR T_X0_rowsFrom E 13 ([(0, .ref a_0), (1, .int i_1), (2, .int i_2), (3, .int i_3), (4, .int (0 : Int32))], [], h) := by
  rw [evR_eq ok_T_X0_rowsFrom.loc (ops := b_X0_rowsFrom_10) rfl]; rfl
theorem e_X0_rowsFrom_13 (E : AEn) (a_0 : Nat) (i_1 : Int32) (i_2 : Int32) (i_3 : Int32) (i_4 : Int32) (h : AH) : evR T_X0_rowsFrom E 13 ([(0, .ref a_0), (1, .int i_1), (2, .int i_2), (3, .int i_3), (4, .int i_4)], [], h) =
  (rdR h a_0 0 0).bind fun r1 =>
  rI (E n_X1_houses [.ref r1] h) (fun i3 h2 =>
  bif decide (i3 ≤ i_4) then evR T_X0_rowsFrom E 67 ([], [], h2) else
  evR T_X0_rowsFrom E 25 ([(0, .ref a_0), (1, .int i_1), (2, .int i_2), (3, .int i_3), (4, .int i_4)], [], h2)) thr := by
  rw [evR_eq ok_T_X0_rowsFrom.loc (ops := b_X0_rowsFrom_13) rfl]; rfl
theorem e_X0_rowsFrom_25 (E : AEn) (a_0 : Nat) (i_1 : Int32) (i_2 : Int32) (i_3 : Int32) (i_4 : Int32) (h : AH) : evR T_X0_rowsFrom E 25 ([(0, .ref a_0), (1, .int i_1), (2, .int i_2), (3, .int i_3), (4, .int i_4)], [], h) =
  rI (E n_X0_has [.int i_2, .int i_4] h) (fun i2 h1 =>
  bif !(i2 == 0) then evR T_X0_rowsFrom E 37 ([(0, .ref a_0), (1, .int i_1), (2, .int i_2), (3, .int i_3), (4, .int i_4)], [], h1) else
  evR T_X0_rowsFrom E 34 ([(0, .ref a_0), (1, .int i_1), (2, .int i_2), (3, .int i_3), (4, .int i_4)], [], h1)) thr := by
  rw [evR_eq ok_T_X0_rowsFrom.loc (ops := b_X0_rowsFrom_25) rfl]; rfl
theorem e_X0_rowsFrom_34 (E : AEn) (a_0 : Nat) (i_1 : Int32) (i_2 : Int32) (i_3 : Int32) (i_4 : Int32) (h : AH) : evR T_X0_rowsFrom E 34 ([(0, .ref a_0), (1, .int i_1), (2, .int i_2), (3, .int i_3), (4, .int i_4)], [], h) =
  evR T_X0_rowsFrom E 61 ([(0, .ref a_0), (1, .int i_1), (2, .int i_2), (3, .int i_3), (4, .int i_4)], [], h) := by
  rw [evR_eq ok_T_X0_rowsFrom.loc (ops := b_X0_rowsFrom_34) rfl]; rfl
theorem e_X0_rowsFrom_37 (E : AEn) (a_0 : Nat) (i_1 : Int32) (i_2 : Int32) (i_3 : Int32) (i_4 : Int32) (h : AH) : evR T_X0_rowsFrom E 37 ([(0, .ref a_0), (1, .int i_1), (2, .int i_2), (3, .int i_3), (4, .int i_4)], [], h) =
  (rdR h a_0 0 13).bind fun r1 =>
  (stI h r1 0 i_1 i_4).bind fun h2 =>
  rV (E n_X0_rowsFrom [.ref a_0, .int (i_1 + (1 : Int32)), .int (i_2 &&& (((1 : Int32) <<< (i_4 &&& 31)) ^^^ (-1 : Int32))), .int i_3] h2) (fun h3 =>
  evR T_X0_rowsFrom E 61 ([(0, .ref a_0), (1, .int i_1), (2, .int i_2), (3, .int i_3), (4, .int i_4)], [], h3)) thr := by
  rw [evR_eq ok_T_X0_rowsFrom.loc (ops := b_X0_rowsFrom_37) rfl]; rfl
theorem e_X0_rowsFrom_61 (E : AEn) (a_0 : Nat) (i_1 : Int32) (i_2 : Int32) (i_3 : Int32) (i_4 : Int32) (h : AH) : evR T_X0_rowsFrom E 61 ([(0, .ref a_0), (1, .int i_1), (2, .int i_2), (3, .int i_3), (4, .int i_4)], [], h) =
  evR T_X0_rowsFrom E 13 ([(0, .ref a_0), (1, .int i_1), (2, .int i_2), (3, .int i_3), (4, .int (i_4 + (1 : Int32)))], [], h) := by
  rw [evR_eq ok_T_X0_rowsFrom.loc (ops := b_X0_rowsFrom_61) rfl]; rfl
theorem e_X0_rowsFrom_67 (E : AEn)  (h : AH) : evR T_X0_rowsFrom E 67 ([], [], h) =
  some (.inl none, h) := by
  rw [evR_eq ok_T_X0_rowsFrom.loc (ops := b_X0_rowsFrom_67) rfl]; rfl
theorem c_X0_rowsFrom (d : Nat) (a_0 : Nat) (i_1 : Int32) (i_2 : Int32) (i_3 : Int32) (h : AH) : callR (d + 1) n_X0_rowsFrom [.ref a_0, .int i_1, .int i_2, .int i_3] h =
  evR T_X0_rowsFrom (callR d) 0 ([(0, .ref a_0), (1, .int i_1), (2, .int i_2), (3, .int i_3)], [], h) := by
  rw [callR_succ, show aMTl[n_X0_rowsFrom]? = some (T_X0_rowsFrom, [0, 1, 2, 3]) from rfl]; rfl
theorem e_X0_triesRow_0 (E : AEn) (a_0 : Nat) (i_1 : Int32) (h : AH) : evR T_X0_triesRow E 0 ([(0, .ref a_0), (1, .int i_1)], [], h) =
  (rdR h a_0 0 2).bind fun r1 =>
  (rdR h a_0 0 1).bind fun r2 =>
  rV (E n_X2_copyFrom [.ref r1, .ref r2] h) (fun h3 =>
  (wrF h3 a_0 0 16 (.int (0 : Int32))).bind fun h4 =>
  (wrF h4 a_0 0 17 (.int (1 : Int32))).bind fun h5 =>
  rV (E n_X0_goesTill [.ref a_0, .int i_1] h5) (fun h6 =>
  (wrF h6 a_0 0 17 (.int (0 : Int32))).bind fun h7 =>
  (rdR h7 a_0 0 2).bind fun r8 =>
  rI (E n_X2_left [.ref r8] h7) (fun i10 h9 =>
  (rdI h9 a_0 0 22).bind fun i11 =>
  bif decide (i11 < i10) then evR T_X0_triesRow E 46 ([(0, .ref a_0)], [], h9) else
  evR T_X0_triesRow E 45 ([], [], h9)) thr) thr) thr := by
  rw [evR_eq ok_T_X0_triesRow.loc (ops := b_X0_triesRow_0) rfl]; rfl
theorem e_X0_triesRow_45 (E : AEn)  (h : AH) : evR T_X0_triesRow E 45 ([], [], h) =
  some (.inl none, h) := by
  rw [evR_eq ok_T_X0_triesRow.loc (ops := b_X0_triesRow_45) rfl]; rfl
theorem e_X0_triesRow_46 (E : AEn) (a_0 : Nat) (h : AH) : evR T_X0_triesRow E 46 ([(0, .ref a_0)], [], h) =
  (rdR h a_0 0 2).bind fun r1 =>
  rI (E n_X2_left [.ref r1] h) (fun i3 h2 =>
  (wrF h2 a_0 0 22 (.int i3)).bind fun h4 =>
  evR T_X0_triesRow E 59 ([(0, .ref a_0), (2, .int (0 : Int32))], [], h4)) thr := by
  rw [evR_eq ok_T_X0_triesRow.loc (ops := b_X0_triesRow_46) rfl]; rfl
theorem e_X0_triesRow_59 (E : AEn) (a_0 : Nat) (i_2 : Int32) (h : AH) : evR T_X0_triesRow E 59 ([(0, .ref a_0), (2, .int i_2)], [], h) =
  (rdI h a_0 0 15).bind fun i1 =>
  bif decide (i1 ≤ i_2) then evR T_X0_triesRow E 85 ([], [], h) else
  evR T_X0_triesRow E 67 ([(0, .ref a_0), (2, .int i_2)], [], h) := by
  rw [evR_eq ok_T_X0_triesRow.loc (ops := b_X0_triesRow_59) rfl]; rfl
theorem e_X0_triesRow_67 (E : AEn) (a_0 : Nat) (i_2 : Int32) (h : AH) : evR T_X0_triesRow E 67 ([(0, .ref a_0), (2, .int i_2)], [], h) =
  (rdR h a_0 0 14).bind fun r1 =>
  (rdR h a_0 0 13).bind fun r2 =>
  (ldI h r2 0 i_2).bind fun i3 =>
  (stI h r1 0 i_2 i3).bind fun h4 =>
  evR T_X0_triesRow E 59 ([(0, .ref a_0), (2, .int (i_2 + (1 : Int32)))], [], h4) := by
  rw [evR_eq ok_T_X0_triesRow.loc (ops := b_X0_triesRow_67) rfl]; rfl
theorem e_X0_triesRow_85 (E : AEn)  (h : AH) : evR T_X0_triesRow E 85 ([], [], h) =
  some (.inl none, h) := by
  rw [evR_eq ok_T_X0_triesRow.loc (ops := b_X0_triesRow_85) rfl]; rfl
theorem c_X0_triesRow (d : Nat) (a_0 : Nat) (i_1 : Int32) (h : AH) : callR (d + 1) n_X0_triesRow [.ref a_0, .int i_1] h =
  bif isO h a_0 0 then evR T_X0_triesRow (callR d) 0 ([(0, .ref a_0), (1, .int i_1)], [], h) else none := by
  rw [callR_succ, show aMTl[n_X0_triesRow]? = some (T_X0_triesRow, [0, 1]) from rfl]; show (bif (isO h a_0 0) && true then _ else _) = _; rw [Bool.and_true]; rfl
theorem e_X0_has_0 (E : AEn) (i_0 : Int32) (i_1 : Int32) (h : AH) : evR T_X0_has E 0 ([(0, .int i_0), (1, .int i_1)], [], h) =
  bif !(((i_0 >>> (i_1 &&& 31)) &&& (1 : Int32)) == (1 : Int32)) then evR T_X0_has E 13 ([], [], h) else
  evR T_X0_has E 9 ([], [], h) := by
  rw [evR_eq ok_T_X0_has.loc (ops := b_X0_has_0) rfl]; rfl
theorem e_X0_has_9 (E : AEn)  (h : AH) : evR T_X0_has E 9 ([], [], h) =
  evR T_X0_has E 14 ([], [.int (1 : Int32)], h) := by
  rw [evR_eq ok_T_X0_has.loc (ops := b_X0_has_9) rfl]; rfl
theorem e_X0_has_13 (E : AEn)  (h : AH) : evR T_X0_has E 13 ([], [], h) =
  evR T_X0_has E 14 ([], [.int (0 : Int32)], h) := by
  rw [evR_eq ok_T_X0_has.loc (ops := b_X0_has_13) rfl]; rfl
theorem e_X0_has_14 (E : AEn) (si_0 : Int32) (h : AH) : evR T_X0_has E 14 ([], [.int si_0], h) =
  (bif si_0 == 0 || si_0 == 1 then some si_0 else none).bind fun i1 => some (.inl (some (.int i1)), h) := by
  rw [evR_eq ok_T_X0_has.loc (ops := b_X0_has_14) rfl]; rfl
theorem c_X0_has (d : Nat) (i_0 : Int32) (i_1 : Int32) (h : AH) : callR (d + 1) n_X0_has [.int i_0, .int i_1] h =
  evR T_X0_has (callR d) 0 ([(0, .int i_0), (1, .int i_1)], [], h) := by
  rw [callR_succ, show aMTl[n_X0_has]? = some (T_X0_has, [0, 1]) from rfl]; rfl
theorem e_X0_heard_0 (E : AEn) (a_0 : Nat) (i_1 : Int32) (h : AH) : evR T_X0_heard E 0 ([(0, .ref a_0), (1, .int i_1)], [], h) =
  rI (E n_X0_isHouse [.ref a_0, .int i_1] h) (fun i2 h1 =>
  bif !(i2 == 0) then evR T_X0_heard E 10 ([(0, .ref a_0), (1, .int i_1)], [], h1) else
  evR T_X0_heard E 8 ([], [], h1)) thr := by
  rw [evR_eq ok_T_X0_heard.loc (ops := b_X0_heard_0) rfl]; rfl
theorem e_X0_heard_8 (E : AEn)  (h : AH) : evR T_X0_heard E 8 ([], [], h) =
  some (.inl (some (.int (-1 : Int32))), h) := by
  rw [evR_eq ok_T_X0_heard.loc (ops := b_X0_heard_8) rfl]; rfl
theorem e_X0_heard_10 (E : AEn) (a_0 : Nat) (i_1 : Int32) (h : AH) : evR T_X0_heard E 10 ([(0, .ref a_0), (1, .int i_1)], [], h) =
  evR T_X0_heard E 12 ([(0, .ref a_0), (1, .int i_1), (2, .int (0 : Int32))], [], h) := by
  rw [evR_eq ok_T_X0_heard.loc (ops := b_X0_heard_10) rfl]; rfl
theorem e_X0_heard_12 (E : AEn) (a_0 : Nat) (i_1 : Int32) (i_2 : Int32) (h : AH) : evR T_X0_heard E 12 ([(0, .ref a_0), (1, .int i_1), (2, .int i_2)], [], h) =
  bif decide ((20 : Int32) < i_2) then evR T_X0_heard E 57 ([], [], h) else
  evR T_X0_heard E 18 ([(0, .ref a_0), (1, .int i_1), (2, .int i_2)], [], h) := by
  rw [evR_eq ok_T_X0_heard.loc (ops := b_X0_heard_12) rfl]; rfl
theorem e_X0_heard_18 (E : AEn) (a_0 : Nat) (i_1 : Int32) (i_2 : Int32) (h : AH) : evR T_X0_heard E 18 ([(0, .ref a_0), (1, .int i_1), (2, .int i_2)], [], h) =
  (rdR h a_0 0 2).bind fun r1 =>
  (rdR h a_0 0 1).bind fun r2 =>
  rV (E n_X2_copyFrom [.ref r1, .ref r2] h) (fun h3 =>
  (rdR h3 a_0 0 2).bind fun r4 =>
  (rdR h3 r4 2 2).bind fun r5 =>
  (stI h3 r5 0 i_1 i_2).bind fun h6 =>
  rI (E n_X0_isComeTo [.ref a_0, .int i_1, .int (20 : Int32)] h6) (fun i8 h7 =>
  bif i8 == 0 then evR T_X0_heard E 51 ([(0, .ref a_0), (1, .int i_1), (2, .int i_2)], [], h7) else
  evR T_X0_heard E 49 ([(2, .int i_2)], [], h7)) thr) thr := by
  rw [evR_eq ok_T_X0_heard.loc (ops := b_X0_heard_18) rfl]; rfl
theorem e_X0_heard_49 (E : AEn) (i_2 : Int32) (h : AH) : evR T_X0_heard E 49 ([(2, .int i_2)], [], h) =
  some (.inl (some (.int i_2)), h) := by
  rw [evR_eq ok_T_X0_heard.loc (ops := b_X0_heard_49) rfl]; rfl
theorem e_X0_heard_51 (E : AEn) (a_0 : Nat) (i_1 : Int32) (i_2 : Int32) (h : AH) : evR T_X0_heard E 51 ([(0, .ref a_0), (1, .int i_1), (2, .int i_2)], [], h) =
  evR T_X0_heard E 12 ([(0, .ref a_0), (1, .int i_1), (2, .int (i_2 + (1 : Int32)))], [], h) := by
  rw [evR_eq ok_T_X0_heard.loc (ops := b_X0_heard_51) rfl]; rfl
theorem e_X0_heard_57 (E : AEn)  (h : AH) : evR T_X0_heard E 57 ([], [], h) =
  some (.inl (some (.int (-2 : Int32))), h) := by
  rw [evR_eq ok_T_X0_heard.loc (ops := b_X0_heard_57) rfl]; rfl
theorem c_X0_heard (d : Nat) (a_0 : Nat) (i_1 : Int32) (h : AH) : callR (d + 1) n_X0_heard [.ref a_0, .int i_1] h =
  bif isO h a_0 0 then evR T_X0_heard (callR d) 0 ([(0, .ref a_0), (1, .int i_1)], [], h) else none := by
  rw [callR_succ, show aMTl[n_X0_heard]? = some (T_X0_heard, [0, 1]) from rfl]; show (bif (isO h a_0 0) && true then _ else _) = _; rw [Bool.and_true]; rfl
theorem e_X0_isComeTo_0 (E : AEn) (a_0 : Nat) (i_1 : Int32) (i_2 : Int32) (h : AH) : evR T_X0_isComeTo E 0 ([(0, .ref a_0), (1, .int i_1), (2, .int i_2)], [], h) =
  evR T_X0_isComeTo E 5 ([(0, .ref a_0), (1, .int i_1), (2, .int i_2), (3, .int (0 : Int32)), (4, .int (0 : Int32))], [], h) := by
  rw [evR_eq ok_T_X0_isComeTo.loc (ops := b_X0_isComeTo_0) rfl]; rfl
theorem e_X0_isComeTo_5 (E : AEn) (a_0 : Nat) (i_1 : Int32) (i_2 : Int32) (i_3 : Int32) (i_4 : Int32) (h : AH) : evR T_X0_isComeTo E 5 ([(0, .ref a_0), (1, .int i_1), (2, .int i_2), (3, .int i_3), (4, .int i_4)], [], h) =
  bif decide (i_2 ≤ i_4) then evR T_X0_isComeTo E 44 ([(3, .int i_3)], [], h) else
  evR T_X0_isComeTo E 11 ([(0, .ref a_0), (1, .int i_1), (2, .int i_2), (3, .int i_3), (4, .int i_4)], [], h) := by
  rw [evR_eq ok_T_X0_isComeTo.loc (ops := b_X0_isComeTo_5) rfl]; rfl
theorem e_X0_isComeTo_11 (E : AEn) (a_0 : Nat) (i_1 : Int32) (i_2 : Int32) (i_3 : Int32) (i_4 : Int32) (h : AH) : evR T_X0_isComeTo E 11 ([(0, .ref a_0), (1, .int i_1), (2, .int i_2), (3, .int i_3), (4, .int i_4)], [], h) =
  bif !(i_3 == 0) then evR T_X0_isComeTo E 44 ([(3, .int i_3)], [], h) else
  evR T_X0_isComeTo E 15 ([(0, .ref a_0), (1, .int i_1), (2, .int i_2), (4, .int i_4)], [], h) := by
  rw [evR_eq ok_T_X0_isComeTo.loc (ops := b_X0_isComeTo_11) rfl]; rfl
theorem e_X0_isComeTo_15 (E : AEn) (a_0 : Nat) (i_1 : Int32) (i_2 : Int32) (i_4 : Int32) (h : AH) : evR T_X0_isComeTo E 15 ([(0, .ref a_0), (1, .int i_1), (2, .int i_2), (4, .int i_4)], [], h) =
  (rdR h a_0 0 2).bind fun r1 =>
  rI (E n_X0_goesOn [.ref a_0, .ref r1] h) (fun i3 h2 =>
  (rdI h2 a_0 0 18).bind fun i4 =>
  bif !(i4 == i_1) then evR T_X0_isComeTo E 36 ([(0, .ref a_0), (1, .int i_1), (2, .int i_2), (4, .int i_4)], [], h2) else
  evR T_X0_isComeTo E 32 ([(0, .ref a_0), (1, .int i_1), (2, .int i_2), (4, .int i_4)], [], h2)) thr := by
  rw [evR_eq ok_T_X0_isComeTo.loc (ops := b_X0_isComeTo_15) rfl]; rfl
theorem e_X0_isComeTo_32 (E : AEn) (a_0 : Nat) (i_1 : Int32) (i_2 : Int32) (i_4 : Int32) (h : AH) : evR T_X0_isComeTo E 32 ([(0, .ref a_0), (1, .int i_1), (2, .int i_2), (4, .int i_4)], [], h) =
  evR T_X0_isComeTo E 37 ([(0, .ref a_0), (1, .int i_1), (2, .int i_2), (4, .int i_4)], [.int (1 : Int32)], h) := by
  rw [evR_eq ok_T_X0_isComeTo.loc (ops := b_X0_isComeTo_32) rfl]; rfl
theorem e_X0_isComeTo_36 (E : AEn) (a_0 : Nat) (i_1 : Int32) (i_2 : Int32) (i_4 : Int32) (h : AH) : evR T_X0_isComeTo E 36 ([(0, .ref a_0), (1, .int i_1), (2, .int i_2), (4, .int i_4)], [], h) =
  evR T_X0_isComeTo E 37 ([(0, .ref a_0), (1, .int i_1), (2, .int i_2), (4, .int i_4)], [.int (0 : Int32)], h) := by
  rw [evR_eq ok_T_X0_isComeTo.loc (ops := b_X0_isComeTo_36) rfl]; rfl
theorem e_X0_isComeTo_37 (E : AEn) (a_0 : Nat) (i_1 : Int32) (i_2 : Int32) (i_4 : Int32) (si_0 : Int32) (h : AH) : evR T_X0_isComeTo E 37 ([(0, .ref a_0), (1, .int i_1), (2, .int i_2), (4, .int i_4)], [.int si_0], h) =
  evR T_X0_isComeTo E 5 ([(0, .ref a_0), (1, .int i_1), (2, .int i_2), (3, .int si_0), (4, .int (i_4 + (1 : Int32)))], [], h) := by
  rw [evR_eq ok_T_X0_isComeTo.loc (ops := b_X0_isComeTo_37) rfl]; rfl
theorem e_X0_isComeTo_44 (E : AEn) (i_3 : Int32) (h : AH) : evR T_X0_isComeTo E 44 ([(3, .int i_3)], [], h) =
  (bif i_3 == 0 || i_3 == 1 then some i_3 else none).bind fun i1 => some (.inl (some (.int i1)), h) := by
  rw [evR_eq ok_T_X0_isComeTo.loc (ops := b_X0_isComeTo_44) rfl]; rfl
theorem c_X0_isComeTo (d : Nat) (a_0 : Nat) (i_1 : Int32) (i_2 : Int32) (h : AH) : callR (d + 1) n_X0_isComeTo [.ref a_0, .int i_1, .int i_2] h =
  bif isO h a_0 0 then evR T_X0_isComeTo (callR d) 0 ([(0, .ref a_0), (1, .int i_1), (2, .int i_2)], [], h) else none := by
  rw [callR_succ, show aMTl[n_X0_isComeTo]? = some (T_X0_isComeTo, [0, 1, 2]) from rfl]; show (bif (isO h a_0 0) && true then _ else _) = _; rw [Bool.and_true]; rfl
theorem e_X0_water_0 (E : AEn) (a_0 : Nat) (i_1 : Int32) (h : AH) : evR T_X0_water E 0 ([(0, .ref a_0), (1, .int i_1)], [], h) =
  rI (E n_X0_isValley [.ref a_0] h) (fun i2 h1 =>
  bif i2 == 0 then evR T_X0_water E 19 ([], [], h1) else
  evR T_X0_water E 7 ([(0, .ref a_0), (1, .int i_1)], [], h1)) thr := by
  rw [evR_eq ok_T_X0_water.loc (ops := b_X0_water_0) rfl]; rfl
theorem e_X0_water_7 (E : AEn) (a_0 : Nat) (i_1 : Int32) (h : AH) : evR T_X0_water E 7 ([(0, .ref a_0), (1, .int i_1)], [], h) =
  rI (E n_X0_in [.long i_1.toInt64, .long (1 : Int64), .long (60 : Int64)] h) (fun i2 h1 =>
  bif !(i2 == 0) then evR T_X0_water E 21 ([(0, .ref a_0), (1, .int i_1)], [], h1) else
  evR T_X0_water E 19 ([], [], h1)) thr := by
  rw [evR_eq ok_T_X0_water.loc (ops := b_X0_water_7) rfl]; rfl
theorem e_X0_water_19 (E : AEn)  (h : AH) : evR T_X0_water E 19 ([], [], h) =
  some (.inl (some (.int (-1 : Int32))), h) := by
  rw [evR_eq ok_T_X0_water.loc (ops := b_X0_water_19) rfl]; rfl
theorem e_X0_water_21 (E : AEn) (a_0 : Nat) (i_1 : Int32) (h : AH) : evR T_X0_water E 21 ([(0, .ref a_0), (1, .int i_1)], [], h) =
  evR T_X0_water E 23 ([(0, .ref a_0), (1, .int i_1), (2, .int (0 : Int32))], [], h) := by
  rw [evR_eq ok_T_X0_water.loc (ops := b_X0_water_21) rfl]; rfl
theorem e_X0_water_23 (E : AEn) (a_0 : Nat) (i_1 : Int32) (i_2 : Int32) (h : AH) : evR T_X0_water E 23 ([(0, .ref a_0), (1, .int i_1), (2, .int i_2)], [], h) =
  bif decide ((9 : Int32) < i_2) then evR T_X0_water E 68 ([], [], h) else
  evR T_X0_water E 29 ([(0, .ref a_0), (1, .int i_1), (2, .int i_2)], [], h) := by
  rw [evR_eq ok_T_X0_water.loc (ops := b_X0_water_23) rfl]; rfl
theorem e_X0_water_29 (E : AEn) (a_0 : Nat) (i_1 : Int32) (i_2 : Int32) (h : AH) : evR T_X0_water E 29 ([(0, .ref a_0), (1, .int i_1), (2, .int i_2)], [], h) =
  (rdR h a_0 0 2).bind fun r1 =>
  (rdR h a_0 0 1).bind fun r2 =>
  rV (E n_X2_copyFrom [.ref r1, .ref r2] h) (fun h3 =>
  (rdR h3 a_0 0 2).bind fun r4 =>
  (wrF h3 r4 2 5 (.int i_2)).bind fun h5 =>
  rV (E n_X0_goesTill [.ref a_0, .int i_1] h5) (fun h6 =>
  rI (E n_X0_doesNobodyLoseAll [.ref a_0] h6) (fun i8 h7 =>
  bif i8 == 0 then evR T_X0_water E 62 ([(0, .ref a_0), (1, .int i_1), (2, .int i_2)], [], h7) else
  evR T_X0_water E 60 ([(2, .int i_2)], [], h7)) thr) thr) thr := by
  rw [evR_eq ok_T_X0_water.loc (ops := b_X0_water_29) rfl]; rfl
theorem e_X0_water_60 (E : AEn) (i_2 : Int32) (h : AH) : evR T_X0_water E 60 ([(2, .int i_2)], [], h) =
  some (.inl (some (.int i_2)), h) := by
  rw [evR_eq ok_T_X0_water.loc (ops := b_X0_water_60) rfl]; rfl
theorem e_X0_water_62 (E : AEn) (a_0 : Nat) (i_1 : Int32) (i_2 : Int32) (h : AH) : evR T_X0_water E 62 ([(0, .ref a_0), (1, .int i_1), (2, .int i_2)], [], h) =
  evR T_X0_water E 23 ([(0, .ref a_0), (1, .int i_1), (2, .int (i_2 + (1 : Int32)))], [], h) := by
  rw [evR_eq ok_T_X0_water.loc (ops := b_X0_water_62) rfl]; rfl
theorem e_X0_water_68 (E : AEn)  (h : AH) : evR T_X0_water E 68 ([], [], h) =
  some (.inl (some (.int (-2 : Int32))), h) := by
  rw [evR_eq ok_T_X0_water.loc (ops := b_X0_water_68) rfl]; rfl
theorem c_X0_water (d : Nat) (a_0 : Nat) (i_1 : Int32) (h : AH) : callR (d + 1) n_X0_water [.ref a_0, .int i_1] h =
  bif isO h a_0 0 then evR T_X0_water (callR d) 0 ([(0, .ref a_0), (1, .int i_1)], [], h) else none := by
  rw [callR_succ, show aMTl[n_X0_water]? = some (T_X0_water, [0, 1]) from rfl]; show (bif (isO h a_0 0) && true then _ else _) = _; rw [Bool.and_true]; rfl
theorem e_X0_doesNobodyLoseAll_0 (E : AEn) (a_0 : Nat) (h : AH) : evR T_X0_doesNobodyLoseAll E 0 ([(0, .ref a_0)], [], h) =
  evR T_X0_doesNobodyLoseAll E 2 ([(0, .ref a_0), (1, .int (0 : Int32))], [], h) := by
  rw [evR_eq ok_T_X0_doesNobodyLoseAll.loc (ops := b_X0_doesNobodyLoseAll_0) rfl]; rfl
theorem e_X0_doesNobodyLoseAll_2 (E : AEn) (a_0 : Nat) (i_1 : Int32) (h : AH) : evR T_X0_doesNobodyLoseAll E 2 ([(0, .ref a_0), (1, .int i_1)], [], h) =
  (rdR h a_0 0 0).bind fun r1 =>
  rI (E n_X1_houses [.ref r1] h) (fun i3 h2 =>
  bif decide (i3 ≤ i_1) then evR T_X0_doesNobodyLoseAll E 45 ([], [], h2) else
  evR T_X0_doesNobodyLoseAll E 13 ([(0, .ref a_0), (1, .int i_1)], [], h2)) thr := by
  rw [evR_eq ok_T_X0_doesNobodyLoseAll.loc (ops := b_X0_doesNobodyLoseAll_2) rfl]; rfl
theorem e_X0_doesNobodyLoseAll_13 (E : AEn) (a_0 : Nat) (i_1 : Int32) (h : AH) : evR T_X0_doesNobodyLoseAll E 13 ([(0, .ref a_0), (1, .int i_1)], [], h) =
  (rdR h a_0 0 1).bind fun r1 =>
  (rdR h r1 2 0).bind fun r2 =>
  (ldI h r2 0 i_1).bind fun i3 =>
  bif decide (i3 ≤ 0) then evR T_X0_doesNobodyLoseAll E 39 ([(0, .ref a_0), (1, .int i_1)], [], h) else
  evR T_X0_doesNobodyLoseAll E 25 ([(0, .ref a_0), (1, .int i_1)], [], h) := by
  rw [evR_eq ok_T_X0_doesNobodyLoseAll.loc (ops := b_X0_doesNobodyLoseAll_13) rfl]; rfl
theorem e_X0_doesNobodyLoseAll_25 (E : AEn) (a_0 : Nat) (i_1 : Int32) (h : AH) : evR T_X0_doesNobodyLoseAll E 25 ([(0, .ref a_0), (1, .int i_1)], [], h) =
  (rdR h a_0 0 2).bind fun r1 =>
  (rdR h r1 2 0).bind fun r2 =>
  (ldI h r2 0 i_1).bind fun i3 =>
  bif !(i3 == 0) then evR T_X0_doesNobodyLoseAll E 39 ([(0, .ref a_0), (1, .int i_1)], [], h) else
  evR T_X0_doesNobodyLoseAll E 37 ([], [], h) := by
  rw [evR_eq ok_T_X0_doesNobodyLoseAll.loc (ops := b_X0_doesNobodyLoseAll_25) rfl]; rfl
theorem e_X0_doesNobodyLoseAll_37 (E : AEn)  (h : AH) : evR T_X0_doesNobodyLoseAll E 37 ([], [], h) =
  some (.inl (some (.int (0 : Int32))), h) := by
  rw [evR_eq ok_T_X0_doesNobodyLoseAll.loc (ops := b_X0_doesNobodyLoseAll_37) rfl]; rfl
theorem e_X0_doesNobodyLoseAll_39 (E : AEn) (a_0 : Nat) (i_1 : Int32) (h : AH) : evR T_X0_doesNobodyLoseAll E 39 ([(0, .ref a_0), (1, .int i_1)], [], h) =
  evR T_X0_doesNobodyLoseAll E 2 ([(0, .ref a_0), (1, .int (i_1 + (1 : Int32)))], [], h) := by
  rw [evR_eq ok_T_X0_doesNobodyLoseAll.loc (ops := b_X0_doesNobodyLoseAll_39) rfl]; rfl
theorem e_X0_doesNobodyLoseAll_45 (E : AEn)  (h : AH) : evR T_X0_doesNobodyLoseAll E 45 ([], [], h) =
  some (.inl (some (.int (1 : Int32))), h) := by
  rw [evR_eq ok_T_X0_doesNobodyLoseAll.loc (ops := b_X0_doesNobodyLoseAll_45) rfl]; rfl
theorem c_X0_doesNobodyLoseAll (d : Nat) (a_0 : Nat) (h : AH) : callR (d + 1) n_X0_doesNobodyLoseAll [.ref a_0] h =
  bif isO h a_0 0 then evR T_X0_doesNobodyLoseAll (callR d) 0 ([(0, .ref a_0)], [], h) else none := by
  rw [callR_succ, show aMTl[n_X0_doesNobodyLoseAll]? = some (T_X0_doesNobodyLoseAll, [0]) from rfl]; show (bif (isO h a_0 0) && true then _ else _) = _; rw [Bool.and_true]; rfl
theorem e_X0_clear_0 (E : AEn) (a_0 : Nat) (i_1 : Int32) (i_2 : Int32) (h : AH) : evR T_X0_clear E 0 ([(0, .ref a_0), (1, .int i_1), (2, .int i_2)], [], h) =
  rI (E n_X0_isValley [.ref a_0] h) (fun i2 h1 =>
  bif i2 == 0 then evR T_X0_clear E 29 ([], [], h1) else
  evR T_X0_clear E 7 ([(0, .ref a_0), (1, .int i_1), (2, .int i_2)], [], h1)) thr := by
  rw [evR_eq ok_T_X0_clear.loc (ops := b_X0_clear_0) rfl]; rfl
theorem e_X0_clear_7 (E : AEn) (a_0 : Nat) (i_1 : Int32) (i_2 : Int32) (h : AH) : evR T_X0_clear E 7 ([(0, .ref a_0), (1, .int i_1), (2, .int i_2)], [], h) =
  rI (E n_X0_in [.long i_1.toInt64, .long (1 : Int64), .long (60 : Int64)] h) (fun i2 h1 =>
  bif i2 == 0 then evR T_X0_clear E 29 ([], [], h1) else
  evR T_X0_clear E 19 ([(0, .ref a_0), (1, .int i_1), (2, .int i_2)], [], h1)) thr := by
  rw [evR_eq ok_T_X0_clear.loc (ops := b_X0_clear_7) rfl]; rfl
theorem e_X0_clear_19 (E : AEn) (a_0 : Nat) (i_1 : Int32) (i_2 : Int32) (h : AH) : evR T_X0_clear E 19 ([(0, .ref a_0), (1, .int i_1), (2, .int i_2)], [], h) =
  rI (E n_X0_in [.long i_2.toInt64, .long (0 : Int64), .long (1 : Int64)] h) (fun i2 h1 =>
  bif !(i2 == 0) then evR T_X0_clear E 32 ([(0, .ref a_0), (1, .int i_1), (2, .int i_2)], [], h1) else
  evR T_X0_clear E 29 ([], [], h1)) thr := by
  rw [evR_eq ok_T_X0_clear.loc (ops := b_X0_clear_19) rfl]; rfl
theorem e_X0_clear_29 (E : AEn)  (h : AH) : evR T_X0_clear E 29 ([], [], h) =
  some (.inl (some (.int (-2 : Int32))), h) := by
  rw [evR_eq ok_T_X0_clear.loc (ops := b_X0_clear_29) rfl]; rfl
theorem e_X0_clear_32 (E : AEn) (a_0 : Nat) (i_1 : Int32) (i_2 : Int32) (h : AH) : evR T_X0_clear E 32 ([(0, .ref a_0), (1, .int i_1), (2, .int i_2)], [], h) =
  evR T_X0_clear E 40 ([(0, .ref a_0), (1, .int i_1), (2, .int i_2), (3, .int (-1 : Int32)), (4, .int (-1 : Int32)), (5, .int (-1 : Int32))], [], h) := by
  rw [evR_eq ok_T_X0_clear.loc (ops := b_X0_clear_32) rfl]; rfl
theorem e_X0_clear_40 (E : AEn) (a_0 : Nat) (i_1 : Int32) (i_2 : Int32) (i_3 : Int32) (i_4 : Int32) (i_5 : Int32) (h : AH) : evR T_X0_clear E 40 ([(0, .ref a_0), (1, .int i_1), (2, .int i_2), (3, .int i_3), (4, .int i_4), (5, .int i_5)], [], h) =
  (rdR h a_0 0 0).bind fun r1 =>
  rI (E n_X1_houses [.ref r1] h) (fun i3 h2 =>
  bif decide (i3 ≤ i_5) then evR T_X0_clear E 157 ([(2, .int i_2), (3, .int i_3), (4, .int i_4)], [], h2) else
  evR T_X0_clear E 52 ([(0, .ref a_0), (1, .int i_1), (2, .int i_2), (3, .int i_3), (4, .int i_4), (5, .int i_5)], [], h2)) thr := by
  rw [evR_eq ok_T_X0_clear.loc (ops := b_X0_clear_40) rfl]; rfl
theorem e_X0_clear_52 (E : AEn) (a_0 : Nat) (i_1 : Int32) (i_2 : Int32) (i_3 : Int32) (i_4 : Int32) (i_5 : Int32) (h : AH) : evR T_X0_clear E 52 ([(0, .ref a_0), (1, .int i_1), (2, .int i_2), (3, .int i_3), (4, .int i_4), (5, .int i_5)], [], h) =
  (rdR h a_0 0 2).bind fun r1 =>
  (rdR h a_0 0 1).bind fun r2 =>
  rV (E n_X2_copyFrom [.ref r1, .ref r2] h) (fun h3 =>
  bif !(i_5 == (-1 : Int32)) then evR T_X0_clear E 73 ([(0, .ref a_0), (1, .int i_1), (2, .int i_2), (3, .int i_3), (4, .int i_4), (5, .int i_5)], [], h3) else
  evR T_X0_clear E 69 ([(0, .ref a_0), (1, .int i_1), (2, .int i_2), (3, .int i_3), (4, .int i_4), (5, .int i_5)], [], h3)) thr := by
  rw [evR_eq ok_T_X0_clear.loc (ops := b_X0_clear_52) rfl]; rfl
theorem e_X0_clear_69 (E : AEn) (a_0 : Nat) (i_1 : Int32) (i_2 : Int32) (i_3 : Int32) (i_4 : Int32) (i_5 : Int32) (h : AH) : evR T_X0_clear E 69 ([(0, .ref a_0), (1, .int i_1), (2, .int i_2), (3, .int i_3), (4, .int i_4), (5, .int i_5)], [], h) =
  evR T_X0_clear E 83 ([(0, .ref a_0), (1, .int i_1), (2, .int i_2), (3, .int i_3), (4, .int i_4), (5, .int i_5)], [.int (0 : Int32)], h) := by
  rw [evR_eq ok_T_X0_clear.loc (ops := b_X0_clear_69) rfl]; rfl
theorem e_X0_clear_73 (E : AEn) (a_0 : Nat) (i_1 : Int32) (i_2 : Int32) (i_3 : Int32) (i_4 : Int32) (i_5 : Int32) (h : AH) : evR T_X0_clear E 73 ([(0, .ref a_0), (1, .int i_1), (2, .int i_2), (3, .int i_3), (4, .int i_4), (5, .int i_5)], [], h) =
  (rdR h a_0 0 2).bind fun r1 =>
  (rdR h r1 2 0).bind fun r2 =>
  (ldI h r2 0 i_5).bind fun i3 =>
  evR T_X0_clear E 83 ([(0, .ref a_0), (1, .int i_1), (2, .int i_2), (3, .int i_3), (4, .int i_4), (5, .int i_5)], [.int i3], h) := by
  rw [evR_eq ok_T_X0_clear.loc (ops := b_X0_clear_73) rfl]; rfl
theorem e_X0_clear_83 (E : AEn) (a_0 : Nat) (i_1 : Int32) (i_2 : Int32) (i_3 : Int32) (i_4 : Int32) (i_5 : Int32) (si_0 : Int32) (h : AH) : evR T_X0_clear E 83 ([(0, .ref a_0), (1, .int i_1), (2, .int i_2), (3, .int i_3), (4, .int i_4), (5, .int i_5)], [.int si_0], h) =
  bif i_5 == (-1 : Int32) then evR T_X0_clear E 113 ([(0, .ref a_0), (1, .int i_1), (2, .int i_2), (3, .int i_3), (4, .int i_4), (5, .int i_5), (6, .int si_0)], [], h) else
  evR T_X0_clear E 91 ([(0, .ref a_0), (1, .int i_1), (2, .int i_2), (3, .int i_3), (4, .int i_4), (5, .int i_5), (6, .int si_0)], [], h) := by
  rw [evR_eq ok_T_X0_clear.loc (ops := b_X0_clear_83) rfl]; rfl
theorem e_X0_clear_91 (E : AEn) (a_0 : Nat) (i_1 : Int32) (i_2 : Int32) (i_3 : Int32) (i_4 : Int32) (i_5 : Int32) (i_6 : Int32) (h : AH) : evR T_X0_clear E 91 ([(0, .ref a_0), (1, .int i_1), (2, .int i_2), (3, .int i_3), (4, .int i_4), (5, .int i_5), (6, .int i_6)], [], h) =
  (rdR h a_0 0 2).bind fun r1 =>
  (rdR h r1 2 0).bind fun r2 =>
  (stI h r2 0 i_5 (0 : Int32)).bind fun h3 =>
  (rdR h3 a_0 0 2).bind fun r4 =>
  (rdR h3 r4 2 1).bind fun r5 =>
  (stI h3 r5 0 i_5 (0 : Int32)).bind fun h6 =>
  evR T_X0_clear E 113 ([(0, .ref a_0), (1, .int i_1), (2, .int i_2), (3, .int i_3), (4, .int i_4), (5, .int i_5), (6, .int i_6)], [], h6) := by
  rw [evR_eq ok_T_X0_clear.loc (ops := b_X0_clear_91) rfl]; rfl
theorem e_X0_clear_113 (E : AEn) (a_0 : Nat) (i_1 : Int32) (i_2 : Int32) (i_3 : Int32) (i_4 : Int32) (i_5 : Int32) (i_6 : Int32) (h : AH) : evR T_X0_clear E 113 ([(0, .ref a_0), (1, .int i_1), (2, .int i_2), (3, .int i_3), (4, .int i_4), (5, .int i_5), (6, .int i_6)], [], h) =
  rV (E n_X0_goesTill [.ref a_0, .int i_1] h) (fun h1 =>
  (rdR h1 a_0 0 2).bind fun r2 =>
  rI (E n_X2_left [.ref r2] h1) (fun i4 h3 =>
  bif decide (i_4 < (i_6 + i4)) then evR T_X0_clear E 136 ([(0, .ref a_0), (1, .int i_1), (2, .int i_2), (5, .int i_5), (6, .int i_6)], [], h3) else
  evR T_X0_clear E 133 ([(0, .ref a_0), (1, .int i_1), (2, .int i_2), (3, .int i_3), (4, .int i_4), (5, .int i_5)], [], h3)) thr) thr := by
  rw [evR_eq ok_T_X0_clear.loc (ops := b_X0_clear_113) rfl]; rfl
theorem e_X0_clear_133 (E : AEn) (a_0 : Nat) (i_1 : Int32) (i_2 : Int32) (i_3 : Int32) (i_4 : Int32) (i_5 : Int32) (h : AH) : evR T_X0_clear E 133 ([(0, .ref a_0), (1, .int i_1), (2, .int i_2), (3, .int i_3), (4, .int i_4), (5, .int i_5)], [], h) =
  evR T_X0_clear E 151 ([(0, .ref a_0), (1, .int i_1), (2, .int i_2), (3, .int i_3), (4, .int i_4), (5, .int i_5)], [], h) := by
  rw [evR_eq ok_T_X0_clear.loc (ops := b_X0_clear_133) rfl]; rfl
theorem e_X0_clear_136 (E : AEn) (a_0 : Nat) (i_1 : Int32) (i_2 : Int32) (i_5 : Int32) (i_6 : Int32) (h : AH) : evR T_X0_clear E 136 ([(0, .ref a_0), (1, .int i_1), (2, .int i_2), (5, .int i_5), (6, .int i_6)], [], h) =
  (rdR h a_0 0 2).bind fun r1 =>
  rI (E n_X2_left [.ref r1] h) (fun i3 h2 =>
  evR T_X0_clear E 151 ([(0, .ref a_0), (1, .int i_1), (2, .int i_2), (3, .int i_5), (4, .int (i_6 + i3)), (5, .int i_5)], [], h2)) thr := by
  rw [evR_eq ok_T_X0_clear.loc (ops := b_X0_clear_136) rfl]; rfl
theorem e_X0_clear_151 (E : AEn) (a_0 : Nat) (i_1 : Int32) (i_2 : Int32) (i_3 : Int32) (i_4 : Int32) (i_5 : Int32) (h : AH) : evR T_X0_clear E 151 ([(0, .ref a_0), (1, .int i_1), (2, .int i_2), (3, .int i_3), (4, .int i_4), (5, .int i_5)], [], h) =
  evR T_X0_clear E 40 ([(0, .ref a_0), (1, .int i_1), (2, .int i_2), (3, .int i_3), (4, .int i_4), (5, .int (i_5 + (1 : Int32)))], [], h) := by
  rw [evR_eq ok_T_X0_clear.loc (ops := b_X0_clear_151) rfl]; rfl
theorem e_X0_clear_157 (E : AEn) (i_2 : Int32) (i_3 : Int32) (i_4 : Int32) (h : AH) : evR T_X0_clear E 157 ([(2, .int i_2), (3, .int i_3), (4, .int i_4)], [], h) =
  bif !(i_2 == 0) then evR T_X0_clear E 165 ([(4, .int i_4)], [], h) else
  evR T_X0_clear E 161 ([(3, .int i_3)], [], h) := by
  rw [evR_eq ok_T_X0_clear.loc (ops := b_X0_clear_157) rfl]; rfl
theorem e_X0_clear_161 (E : AEn) (i_3 : Int32) (h : AH) : evR T_X0_clear E 161 ([(3, .int i_3)], [], h) =
  evR T_X0_clear E 167 ([], [.int i_3], h) := by
  rw [evR_eq ok_T_X0_clear.loc (ops := b_X0_clear_161) rfl]; rfl
theorem e_X0_clear_165 (E : AEn) (i_4 : Int32) (h : AH) : evR T_X0_clear E 165 ([(4, .int i_4)], [], h) =
  evR T_X0_clear E 167 ([], [.int i_4], h) := by
  rw [evR_eq ok_T_X0_clear.loc (ops := b_X0_clear_165) rfl]; rfl
theorem e_X0_clear_167 (E : AEn) (si_0 : Int32) (h : AH) : evR T_X0_clear E 167 ([], [.int si_0], h) =
  some (.inl (some (.int si_0)), h) := by
  rw [evR_eq ok_T_X0_clear.loc (ops := b_X0_clear_167) rfl]; rfl
theorem c_X0_clear (d : Nat) (a_0 : Nat) (i_1 : Int32) (i_2 : Int32) (h : AH) : callR (d + 1) n_X0_clear [.ref a_0, .int i_1, .int i_2] h =
  bif isO h a_0 0 then evR T_X0_clear (callR d) 0 ([(0, .ref a_0), (1, .int i_1), (2, .int i_2)], [], h) else none := by
  rw [callR_succ, show aMTl[n_X0_clear]? = some (T_X0_clear, [0, 1, 2]) from rfl]; show (bif (isO h a_0 0) && true then _ else _) = _; rw [Bool.and_true]; rfl
theorem e_X0_silent_0 (E : AEn) (a_0 : Nat) (i_1 : Int32) (i_2 : Int32) (h : AH) : evR T_X0_silent E 0 ([(0, .ref a_0), (1, .int i_1), (2, .int i_2)], [], h) =
  rI (E n_X0_isValley [.ref a_0] h) (fun i2 h1 =>
  bif i2 == 0 then evR T_X0_silent E 31 ([], [], h1) else
  evR T_X0_silent E 7 ([(0, .ref a_0), (1, .int i_1), (2, .int i_2)], [], h1)) thr := by
  rw [evR_eq ok_T_X0_silent.loc (ops := b_X0_silent_0) rfl]; rfl
theorem e_X0_silent_7 (E : AEn) (a_0 : Nat) (i_1 : Int32) (i_2 : Int32) (h : AH) : evR T_X0_silent E 7 ([(0, .ref a_0), (1, .int i_1), (2, .int i_2)], [], h) =
  rI (E n_X0_in [.long i_1.toInt64, .long (1 : Int64), .long (60 : Int64)] h) (fun i2 h1 =>
  bif i2 == 0 then evR T_X0_silent E 31 ([], [], h1) else
  evR T_X0_silent E 19 ([(0, .ref a_0), (1, .int i_1), (2, .int i_2)], [], h1)) thr := by
  rw [evR_eq ok_T_X0_silent.loc (ops := b_X0_silent_7) rfl]; rfl
theorem e_X0_silent_19 (E : AEn) (a_0 : Nat) (i_1 : Int32) (i_2 : Int32) (h : AH) : evR T_X0_silent E 19 ([(0, .ref a_0), (1, .int i_1), (2, .int i_2)], [], h) =
  rI (E n_X0_in [.long i_2.toInt64, .long (0 : Int64), .long (2 : Int64)] h) (fun i2 h1 =>
  bif !(i2 == 0) then evR T_X0_silent E 33 ([(0, .ref a_0), (1, .int i_1), (2, .int i_2)], [], h1) else
  evR T_X0_silent E 31 ([], [], h1)) thr := by
  rw [evR_eq ok_T_X0_silent.loc (ops := b_X0_silent_19) rfl]; rfl
theorem e_X0_silent_31 (E : AEn)  (h : AH) : evR T_X0_silent E 31 ([], [], h) =
  some (.inl (some (.int (-1 : Int32))), h) := by
  rw [evR_eq ok_T_X0_silent.loc (ops := b_X0_silent_31) rfl]; rfl
theorem e_X0_silent_33 (E : AEn) (a_0 : Nat) (i_1 : Int32) (i_2 : Int32) (h : AH) : evR T_X0_silent E 33 ([(0, .ref a_0), (1, .int i_1), (2, .int i_2)], [], h) =
  evR T_X0_silent E 41 ([(0, .ref a_0), (1, .int i_1), (2, .int i_2), (3, .int (0 : Int32)), (4, .int (-1 : Int32)), (5, .int (0 : Int32))], [], h) := by
  rw [evR_eq ok_T_X0_silent.loc (ops := b_X0_silent_33) rfl]; rfl
theorem e_X0_silent_41 (E : AEn) (a_0 : Nat) (i_1 : Int32) (i_2 : Int32) (i_3 : Int32) (i_4 : Int32) (i_5 : Int32) (h : AH) : evR T_X0_silent E 41 ([(0, .ref a_0), (1, .int i_1), (2, .int i_2), (3, .int i_3), (4, .int i_4), (5, .int i_5)], [], h) =
  (rdR h a_0 0 0).bind fun r1 =>
  rI (E n_X1_houses [.ref r1] h) (fun i3 h2 =>
  bif decide (((1 : Int32) <<< (i3 &&& 31)) ≤ i_5) then evR T_X0_silent E 168 ([(2, .int i_2), (3, .int i_3), (4, .int i_4)], [], h2) else
  evR T_X0_silent E 55 ([(0, .ref a_0), (1, .int i_1), (2, .int i_2), (3, .int i_3), (4, .int i_4), (5, .int i_5)], [], h2)) thr := by
  rw [evR_eq ok_T_X0_silent.loc (ops := b_X0_silent_41) rfl]; rfl
theorem e_X0_silent_55 (E : AEn) (a_0 : Nat) (i_1 : Int32) (i_2 : Int32) (i_3 : Int32) (i_4 : Int32) (i_5 : Int32) (h : AH) : evR T_X0_silent E 55 ([(0, .ref a_0), (1, .int i_1), (2, .int i_2), (3, .int i_3), (4, .int i_4), (5, .int i_5)], [], h) =
  (rdR h a_0 0 2).bind fun r1 =>
  (rdR h a_0 0 1).bind fun r2 =>
  rV (E n_X2_copyFrom [.ref r1, .ref r2] h) (fun h3 =>
  evR T_X0_silent E 69 ([(0, .ref a_0), (1, .int i_1), (2, .int i_2), (3, .int i_3), (4, .int i_4), (5, .int i_5), (6, .int (0 : Int32))], [], h3)) thr := by
  rw [evR_eq ok_T_X0_silent.loc (ops := b_X0_silent_55) rfl]; rfl
theorem e_X0_silent_69 (E : AEn) (a_0 : Nat) (i_1 : Int32) (i_2 : Int32) (i_3 : Int32) (i_4 : Int32) (i_5 : Int32) (i_6 : Int32) (h : AH) : evR T_X0_silent E 69 ([(0, .ref a_0), (1, .int i_1), (2, .int i_2), (3, .int i_3), (4, .int i_4), (5, .int i_5), (6, .int i_6)], [], h) =
  (rdR h a_0 0 0).bind fun r1 =>
  rI (E n_X1_houses [.ref r1] h) (fun i3 h2 =>
  bif decide (i3 ≤ i_6) then evR T_X0_silent E 108 ([(0, .ref a_0), (1, .int i_1), (2, .int i_2), (3, .int i_3), (4, .int i_4), (5, .int i_5)], [], h2) else
  evR T_X0_silent E 81 ([(0, .ref a_0), (1, .int i_1), (2, .int i_2), (3, .int i_3), (4, .int i_4), (5, .int i_5), (6, .int i_6)], [], h2)) thr := by
  rw [evR_eq ok_T_X0_silent.loc (ops := b_X0_silent_69) rfl]; rfl
theorem e_X0_silent_81 (E : AEn) (a_0 : Nat) (i_1 : Int32) (i_2 : Int32) (i_3 : Int32) (i_4 : Int32) (i_5 : Int32) (i_6 : Int32) (h : AH) : evR T_X0_silent E 81 ([(0, .ref a_0), (1, .int i_1), (2, .int i_2), (3, .int i_3), (4, .int i_4), (5, .int i_5), (6, .int i_6)], [], h) =
  rI (E n_X0_has [.int i_5, .int i_6] h) (fun i2 h1 =>
  bif i2 == 0 then evR T_X0_silent E 102 ([(0, .ref a_0), (1, .int i_1), (2, .int i_2), (3, .int i_3), (4, .int i_4), (5, .int i_5), (6, .int i_6)], [], h1) else
  evR T_X0_silent E 91 ([(0, .ref a_0), (1, .int i_1), (2, .int i_2), (3, .int i_3), (4, .int i_4), (5, .int i_5), (6, .int i_6)], [], h1)) thr := by
  rw [evR_eq ok_T_X0_silent.loc (ops := b_X0_silent_81) rfl]; rfl
theorem e_X0_silent_91 (E : AEn) (a_0 : Nat) (i_1 : Int32) (i_2 : Int32) (i_3 : Int32) (i_4 : Int32) (i_5 : Int32) (i_6 : Int32) (h : AH) : evR T_X0_silent E 91 ([(0, .ref a_0), (1, .int i_1), (2, .int i_2), (3, .int i_3), (4, .int i_4), (5, .int i_5), (6, .int i_6)], [], h) =
  (rdR h a_0 0 2).bind fun r1 =>
  (rdR h r1 2 2).bind fun r2 =>
  (stI h r2 0 i_6 (0 : Int32)).bind fun h3 =>
  evR T_X0_silent E 102 ([(0, .ref a_0), (1, .int i_1), (2, .int i_2), (3, .int i_3), (4, .int i_4), (5, .int i_5), (6, .int i_6)], [], h3) := by
  rw [evR_eq ok_T_X0_silent.loc (ops := b_X0_silent_91) rfl]; rfl
theorem e_X0_silent_102 (E : AEn) (a_0 : Nat) (i_1 : Int32) (i_2 : Int32) (i_3 : Int32) (i_4 : Int32) (i_5 : Int32) (i_6 : Int32) (h : AH) : evR T_X0_silent E 102 ([(0, .ref a_0), (1, .int i_1), (2, .int i_2), (3, .int i_3), (4, .int i_4), (5, .int i_5), (6, .int i_6)], [], h) =
  evR T_X0_silent E 69 ([(0, .ref a_0), (1, .int i_1), (2, .int i_2), (3, .int i_3), (4, .int i_4), (5, .int i_5), (6, .int (i_6 + (1 : Int32)))], [], h) := by
  rw [evR_eq ok_T_X0_silent.loc (ops := b_X0_silent_102) rfl]; rfl
theorem e_X0_silent_108 (E : AEn) (a_0 : Nat) (i_1 : Int32) (i_2 : Int32) (i_3 : Int32) (i_4 : Int32) (i_5 : Int32) (h : AH) : evR T_X0_silent E 108 ([(0, .ref a_0), (1, .int i_1), (2, .int i_2), (3, .int i_3), (4, .int i_4), (5, .int i_5)], [], h) =
  rV (E n_X0_goesTill [.ref a_0, .int i_1] h) (fun h1 =>
  (rdR h1 a_0 0 2).bind fun r2 =>
  rI (E n_X2_left [.ref r2] h1) (fun i4 h3 =>
  bif decide ((i4 - i_4) < 0) then evR T_X0_silent E 162 ([(0, .ref a_0), (1, .int i_1), (2, .int i_2), (3, .int i_3), (4, .int i_4), (5, .int i_5)], [], h3) else
  evR T_X0_silent E 130 ([(0, .ref a_0), (1, .int i_1), (2, .int i_2), (3, .int i_3), (4, .int i_4), (5, .int i_5), (6, .int (i4 - i_4))], [], h3)) thr) thr := by
  rw [evR_eq ok_T_X0_silent.loc (ops := b_X0_silent_108) rfl]; rfl
theorem e_X0_silent_130 (E : AEn) (a_0 : Nat) (i_1 : Int32) (i_2 : Int32) (i_3 : Int32) (i_4 : Int32) (i_5 : Int32) (i_6 : Int32) (h : AH) : evR T_X0_silent E 130 ([(0, .ref a_0), (1, .int i_1), (2, .int i_2), (3, .int i_3), (4, .int i_4), (5, .int i_5), (6, .int i_6)], [], h) =
  bif !(i_6 == 0) then evR T_X0_silent E 150 ([(0, .ref a_0), (1, .int i_1), (2, .int i_2), (5, .int i_5)], [], h) else
  evR T_X0_silent E 135 ([(0, .ref a_0), (1, .int i_1), (2, .int i_2), (3, .int i_3), (4, .int i_4), (5, .int i_5)], [], h) := by
  rw [evR_eq ok_T_X0_silent.loc (ops := b_X0_silent_130) rfl]; rfl
theorem e_X0_silent_135 (E : AEn) (a_0 : Nat) (i_1 : Int32) (i_2 : Int32) (i_3 : Int32) (i_4 : Int32) (i_5 : Int32) (h : AH) : evR T_X0_silent E 135 ([(0, .ref a_0), (1, .int i_1), (2, .int i_2), (3, .int i_3), (4, .int i_4), (5, .int i_5)], [], h) =
  rI (E n_J14_bitCount [.int i_5] h) (fun i2 h1 =>
  rI (E n_J14_bitCount [.int i_3] h1) (fun i4 h3 =>
  bif decide (i2 < i4) then evR T_X0_silent E 150 ([(0, .ref a_0), (1, .int i_1), (2, .int i_2), (5, .int i_5)], [], h3) else
  evR T_X0_silent E 147 ([(0, .ref a_0), (1, .int i_1), (2, .int i_2), (3, .int i_3), (4, .int i_4), (5, .int i_5)], [], h3)) thr) thr := by
  rw [evR_eq ok_T_X0_silent.loc (ops := b_X0_silent_135) rfl]; rfl
theorem e_X0_silent_147 (E : AEn) (a_0 : Nat) (i_1 : Int32) (i_2 : Int32) (i_3 : Int32) (i_4 : Int32) (i_5 : Int32) (h : AH) : evR T_X0_silent E 147 ([(0, .ref a_0), (1, .int i_1), (2, .int i_2), (3, .int i_3), (4, .int i_4), (5, .int i_5)], [], h) =
  evR T_X0_silent E 162 ([(0, .ref a_0), (1, .int i_1), (2, .int i_2), (3, .int i_3), (4, .int i_4), (5, .int i_5)], [], h) := by
  rw [evR_eq ok_T_X0_silent.loc (ops := b_X0_silent_147) rfl]; rfl
theorem e_X0_silent_150 (E : AEn) (a_0 : Nat) (i_1 : Int32) (i_2 : Int32) (i_5 : Int32) (h : AH) : evR T_X0_silent E 150 ([(0, .ref a_0), (1, .int i_1), (2, .int i_2), (5, .int i_5)], [], h) =
  (rdR h a_0 0 2).bind fun r1 =>
  rI (E n_X2_left [.ref r1] h) (fun i3 h2 =>
  evR T_X0_silent E 162 ([(0, .ref a_0), (1, .int i_1), (2, .int i_2), (3, .int i_5), (4, .int i3), (5, .int i_5)], [], h2)) thr := by
  rw [evR_eq ok_T_X0_silent.loc (ops := b_X0_silent_150) rfl]; rfl
theorem e_X0_silent_162 (E : AEn) (a_0 : Nat) (i_1 : Int32) (i_2 : Int32) (i_3 : Int32) (i_4 : Int32) (i_5 : Int32) (h : AH) : evR T_X0_silent E 162 ([(0, .ref a_0), (1, .int i_1), (2, .int i_2), (3, .int i_3), (4, .int i_4), (5, .int i_5)], [], h) =
  evR T_X0_silent E 41 ([(0, .ref a_0), (1, .int i_1), (2, .int i_2), (3, .int i_3), (4, .int i_4), (5, .int (i_5 + (1 : Int32)))], [], h) := by
  rw [evR_eq ok_T_X0_silent.loc (ops := b_X0_silent_162) rfl]; rfl
theorem e_X0_silent_168 (E : AEn) (i_2 : Int32) (i_3 : Int32) (i_4 : Int32) (h : AH) : evR T_X0_silent E 168 ([(2, .int i_2), (3, .int i_3), (4, .int i_4)], [], h) =
  bif !(i_2 == 0) then evR T_X0_silent E 179 ([(2, .int i_2), (3, .int i_3), (4, .int i_4)], [], h) else
  evR T_X0_silent E 172 ([(3, .int i_3)], [], h) := by
  rw [evR_eq ok_T_X0_silent.loc (ops := b_X0_silent_168) rfl]; rfl
theorem e_X0_silent_172 (E : AEn) (i_3 : Int32) (h : AH) : evR T_X0_silent E 172 ([(3, .int i_3)], [], h) =
  rI (E n_J14_bitCount [.int i_3] h) (fun i2 h1 =>
  evR T_X0_silent E 190 ([], [.int i2], h1)) thr := by
  rw [evR_eq ok_T_X0_silent.loc (ops := b_X0_silent_172) rfl]; rfl
theorem e_X0_silent_179 (E : AEn) (i_2 : Int32) (i_3 : Int32) (i_4 : Int32) (h : AH) : evR T_X0_silent E 179 ([(2, .int i_2), (3, .int i_3), (4, .int i_4)], [], h) =
  bif !(i_2 == (1 : Int32)) then evR T_X0_silent E 188 ([(4, .int i_4)], [], h) else
  evR T_X0_silent E 184 ([(3, .int i_3)], [], h) := by
  rw [evR_eq ok_T_X0_silent.loc (ops := b_X0_silent_179) rfl]; rfl
theorem e_X0_silent_184 (E : AEn) (i_3 : Int32) (h : AH) : evR T_X0_silent E 184 ([(3, .int i_3)], [], h) =
  evR T_X0_silent E 190 ([], [.int i_3], h) := by
  rw [evR_eq ok_T_X0_silent.loc (ops := b_X0_silent_184) rfl]; rfl
theorem e_X0_silent_188 (E : AEn) (i_4 : Int32) (h : AH) : evR T_X0_silent E 188 ([(4, .int i_4)], [], h) =
  evR T_X0_silent E 190 ([], [.int i_4], h) := by
  rw [evR_eq ok_T_X0_silent.loc (ops := b_X0_silent_188) rfl]; rfl
theorem e_X0_silent_190 (E : AEn) (si_0 : Int32) (h : AH) : evR T_X0_silent E 190 ([], [.int si_0], h) =
  some (.inl (some (.int si_0)), h) := by
  rw [evR_eq ok_T_X0_silent.loc (ops := b_X0_silent_190) rfl]; rfl
theorem c_X0_silent (d : Nat) (a_0 : Nat) (i_1 : Int32) (i_2 : Int32) (h : AH) : callR (d + 1) n_X0_silent [.ref a_0, .int i_1, .int i_2] h =
  bif isO h a_0 0 then evR T_X0_silent (callR d) 0 ([(0, .ref a_0), (1, .int i_1), (2, .int i_2)], [], h) else none := by
  rw [callR_succ, show aMTl[n_X0_silent]? = some (T_X0_silent, [0, 1, 2]) from rfl]; show (bif (isO h a_0 0) && true then _ else _) = _; rw [Bool.and_true]; rfl
theorem e_X0_pence_0 (E : AEn) (a_0 : Nat) (i_1 : Int32) (i_2 : Int32) (h : AH) : evR T_X0_pence E 0 ([(0, .ref a_0), (1, .int i_1), (2, .int i_2)], [], h) =
  rI (E n_X0_isHouse [.ref a_0, .int i_2] h) (fun i2 h1 =>
  bif i2 == 0 then evR T_X0_pence E 20 ([], [], h1) else
  evR T_X0_pence E 8 ([(0, .ref a_0), (1, .int i_1), (2, .int i_2)], [], h1)) thr := by
  rw [evR_eq ok_T_X0_pence.loc (ops := b_X0_pence_0) rfl]; rfl
theorem e_X0_pence_8 (E : AEn) (a_0 : Nat) (i_1 : Int32) (i_2 : Int32) (h : AH) : evR T_X0_pence E 8 ([(0, .ref a_0), (1, .int i_1), (2, .int i_2)], [], h) =
  rI (E n_X0_in [.long i_1.toInt64, .long (0 : Int64), .long (9999 : Int64)] h) (fun i2 h1 =>
  bif !(i2 == 0) then evR T_X0_pence E 22 ([(0, .ref a_0), (1, .int i_1), (2, .int i_2)], [], h1) else
  evR T_X0_pence E 20 ([], [], h1)) thr := by
  rw [evR_eq ok_T_X0_pence.loc (ops := b_X0_pence_8) rfl]; rfl
theorem e_X0_pence_20 (E : AEn)  (h : AH) : evR T_X0_pence E 20 ([], [], h) =
  some (.inl (some (.int (-1 : Int32))), h) := by
  rw [evR_eq ok_T_X0_pence.loc (ops := b_X0_pence_20) rfl]; rfl
theorem e_X0_pence_22 (E : AEn) (a_0 : Nat) (i_1 : Int32) (i_2 : Int32) (h : AH) : evR T_X0_pence E 22 ([(0, .ref a_0), (1, .int i_1), (2, .int i_2)], [], h) =
  (rdR h a_0 0 1).bind fun r1 =>
  rI (E n_X2_gone [.ref r1] h) (fun i3 h2 =>
  bif !(i3 == 0) then evR T_X0_pence E 36 ([(0, .ref a_0), (1, .int i_1), (2, .int i_2), (3, .int i3)], [], h2) else
  evR T_X0_pence E 34 ([], [], h2)) thr := by
  rw [evR_eq ok_T_X0_pence.loc (ops := b_X0_pence_22) rfl]; rfl
theorem e_X0_pence_34 (E : AEn)  (h : AH) : evR T_X0_pence E 34 ([], [], h) =
  some (.inl (some (.int (0 : Int32))), h) := by
  rw [evR_eq ok_T_X0_pence.loc (ops := b_X0_pence_34) rfl]; rfl
theorem e_X0_pence_36 (E : AEn) (a_0 : Nat) (i_1 : Int32) (i_2 : Int32) (i_3 : Int32) (h : AH) : evR T_X0_pence E 36 ([(0, .ref a_0), (1, .int i_1), (2, .int i_2), (3, .int i_3)], [], h) =
  (rdR h a_0 0 1).bind fun r1 =>
  (rdR h r1 2 3).bind fun r2 =>
  (ldI h r2 0 i_2).bind fun i3 =>
  evR T_X0_pence E 58 ([(0, .ref a_0), (1, .int i_1), (2, .int i_2), (3, .int i_3), (4, .int i_1), (5, .int (0 : Int32)), (6, .int (i_1 * i3)), (7, .int (0 : Int32))], [], h) := by
  rw [evR_eq ok_T_X0_pence.loc (ops := b_X0_pence_36) rfl]; rfl
theorem e_X0_pence_58 (E : AEn) (a_0 : Nat) (i_1 : Int32) (i_2 : Int32) (i_3 : Int32) (i_4 : Int32) (i_5 : Int32) (i_6 : Int32) (i_7 : Int32) (h : AH) : evR T_X0_pence E 58 ([(0, .ref a_0), (1, .int i_1), (2, .int i_2), (3, .int i_3), (4, .int i_4), (5, .int i_5), (6, .int i_6), (7, .int i_7)], [], h) =
  (rdR h a_0 0 0).bind fun r1 =>
  rI (E n_X1_houses [.ref r1] h) (fun i3 h2 =>
  bif decide (i3 ≤ i_7) then evR T_X0_pence E 140 ([(3, .int i_3), (4, .int i_4), (5, .int i_5), (6, .int i_6)], [], h2) else
  evR T_X0_pence E 70 ([(0, .ref a_0), (1, .int i_1), (2, .int i_2), (3, .int i_3), (4, .int i_4), (5, .int i_5), (6, .int i_6), (7, .int i_7)], [], h2)) thr := by
  rw [evR_eq ok_T_X0_pence.loc (ops := b_X0_pence_58) rfl]; rfl
theorem e_X0_pence_70 (E : AEn) (a_0 : Nat) (i_1 : Int32) (i_2 : Int32) (i_3 : Int32) (i_4 : Int32) (i_5 : Int32) (i_6 : Int32) (i_7 : Int32) (h : AH) : evR T_X0_pence E 70 ([(0, .ref a_0), (1, .int i_1), (2, .int i_2), (3, .int i_3), (4, .int i_4), (5, .int i_5), (6, .int i_6), (7, .int i_7)], [], h) =
  (rdR h a_0 0 1).bind fun r1 =>
  (rdR h r1 2 3).bind fun r2 =>
  (ldI h r2 0 i_7).bind fun i3 =>
  (nzI i_3).bind fun _ =>
  (nzI i_3).bind fun _ =>
  (nzI i_3).bind fun _ =>
  bif decide ((i_6 - i_6 / i_3 * i_3) < ((i_1 * i3) - (i_1 * i3) / i_3 * i_3)) then evR T_X0_pence E 123 ([(0, .ref a_0), (1, .int i_1), (2, .int i_2), (3, .int i_3), (4, .int (i_4 - ((i_1 * i3) / i_3))), (6, .int i_6), (7, .int i_7)], [.int i_5], h) else
  evR T_X0_pence E 106 ([(0, .ref a_0), (1, .int i_1), (2, .int i_2), (3, .int i_3), (4, .int (i_4 - ((i_1 * i3) / i_3))), (6, .int i_6), (7, .int i_7), (8, .int (i_1 * i3))], [.int i_5], h) := by
  rw [evR_eq ok_T_X0_pence.loc (ops := b_X0_pence_70) rfl]; rfl
theorem e_X0_pence_106 (E : AEn) (a_0 : Nat) (i_1 : Int32) (i_2 : Int32) (i_3 : Int32) (i_4 : Int32) (i_6 : Int32) (i_7 : Int32) (i_8 : Int32) (si_0 : Int32) (h : AH) : evR T_X0_pence E 106 ([(0, .ref a_0), (1, .int i_1), (2, .int i_2), (3, .int i_3), (4, .int i_4), (6, .int i_6), (7, .int i_7), (8, .int i_8)], [.int si_0], h) =
  (nzI i_3).bind fun _ =>
  (nzI i_3).bind fun _ =>
  bif !((i_8 - i_8 / i_3 * i_3) == (i_6 - i_6 / i_3 * i_3)) then evR T_X0_pence E 127 ([(0, .ref a_0), (1, .int i_1), (2, .int i_2), (3, .int i_3), (4, .int i_4), (6, .int i_6), (7, .int i_7)], [.int si_0], h) else
  evR T_X0_pence E 117 ([(0, .ref a_0), (1, .int i_1), (2, .int i_2), (3, .int i_3), (4, .int i_4), (6, .int i_6), (7, .int i_7)], [.int si_0], h) := by
  rw [evR_eq ok_T_X0_pence.loc (ops := b_X0_pence_106) rfl]; rfl
theorem e_X0_pence_117 (E : AEn) (a_0 : Nat) (i_1 : Int32) (i_2 : Int32) (i_3 : Int32) (i_4 : Int32) (i_6 : Int32) (i_7 : Int32) (si_0 : Int32) (h : AH) : evR T_X0_pence E 117 ([(0, .ref a_0), (1, .int i_1), (2, .int i_2), (3, .int i_3), (4, .int i_4), (6, .int i_6), (7, .int i_7)], [.int si_0], h) =
  bif decide (i_2 ≤ i_7) then evR T_X0_pence E 127 ([(0, .ref a_0), (1, .int i_1), (2, .int i_2), (3, .int i_3), (4, .int i_4), (6, .int i_6), (7, .int i_7)], [.int si_0], h) else
  evR T_X0_pence E 123 ([(0, .ref a_0), (1, .int i_1), (2, .int i_2), (3, .int i_3), (4, .int i_4), (6, .int i_6), (7, .int i_7)], [.int si_0], h) := by
  rw [evR_eq ok_T_X0_pence.loc (ops := b_X0_pence_117) rfl]; rfl
theorem e_X0_pence_123 (E : AEn) (a_0 : Nat) (i_1 : Int32) (i_2 : Int32) (i_3 : Int32) (i_4 : Int32) (i_6 : Int32) (i_7 : Int32) (si_0 : Int32) (h : AH) : evR T_X0_pence E 123 ([(0, .ref a_0), (1, .int i_1), (2, .int i_2), (3, .int i_3), (4, .int i_4), (6, .int i_6), (7, .int i_7)], [.int si_0], h) =
  evR T_X0_pence E 128 ([(0, .ref a_0), (1, .int i_1), (2, .int i_2), (3, .int i_3), (4, .int i_4), (6, .int i_6), (7, .int i_7)], [.int (1 : Int32), .int si_0], h) := by
  rw [evR_eq ok_T_X0_pence.loc (ops := b_X0_pence_123) rfl]; rfl
theorem e_X0_pence_127 (E : AEn) (a_0 : Nat) (i_1 : Int32) (i_2 : Int32) (i_3 : Int32) (i_4 : Int32) (i_6 : Int32) (i_7 : Int32) (si_0 : Int32) (h : AH) : evR T_X0_pence E 127 ([(0, .ref a_0), (1, .int i_1), (2, .int i_2), (3, .int i_3), (4, .int i_4), (6, .int i_6), (7, .int i_7)], [.int si_0], h) =
  evR T_X0_pence E 128 ([(0, .ref a_0), (1, .int i_1), (2, .int i_2), (3, .int i_3), (4, .int i_4), (6, .int i_6), (7, .int i_7)], [.int (0 : Int32), .int si_0], h) := by
  rw [evR_eq ok_T_X0_pence.loc (ops := b_X0_pence_127) rfl]; rfl
theorem e_X0_pence_128 (E : AEn) (a_0 : Nat) (i_1 : Int32) (i_2 : Int32) (i_3 : Int32) (i_4 : Int32) (i_6 : Int32) (i_7 : Int32) (si_0 : Int32) (si_1 : Int32) (h : AH) : evR T_X0_pence E 128 ([(0, .ref a_0), (1, .int i_1), (2, .int i_2), (3, .int i_3), (4, .int i_4), (6, .int i_6), (7, .int i_7)], [.int si_0, .int si_1], h) =
  rI (E n_X0_bit [.int si_0] h) (fun i2 h1 =>
  evR T_X0_pence E 58 ([(0, .ref a_0), (1, .int i_1), (2, .int i_2), (3, .int i_3), (4, .int i_4), (5, .int (si_1 + i2)), (6, .int i_6), (7, .int (i_7 + (1 : Int32)))], [], h1)) thr := by
  rw [evR_eq ok_T_X0_pence.loc (ops := b_X0_pence_128) rfl]; rfl
theorem e_X0_pence_140 (E : AEn) (i_3 : Int32) (i_4 : Int32) (i_5 : Int32) (i_6 : Int32) (h : AH) : evR T_X0_pence E 140 ([(3, .int i_3), (4, .int i_4), (5, .int i_5), (6, .int i_6)], [], h) =
  (nzI i_3).bind fun _ =>
  bif decide (i_4 ≤ i_5) then evR T_X0_pence E 155 ([], [.int (i_6 / i_3)], h) else
  evR T_X0_pence E 151 ([], [.int (i_6 / i_3)], h) := by
  rw [evR_eq ok_T_X0_pence.loc (ops := b_X0_pence_140) rfl]; rfl
theorem e_X0_pence_151 (E : AEn) (si_0 : Int32) (h : AH) : evR T_X0_pence E 151 ([], [.int si_0], h) =
  evR T_X0_pence E 156 ([], [.int (1 : Int32), .int si_0], h) := by
  rw [evR_eq ok_T_X0_pence.loc (ops := b_X0_pence_151) rfl]; rfl
theorem e_X0_pence_155 (E : AEn) (si_0 : Int32) (h : AH) : evR T_X0_pence E 155 ([], [.int si_0], h) =
  evR T_X0_pence E 156 ([], [.int (0 : Int32), .int si_0], h) := by
  rw [evR_eq ok_T_X0_pence.loc (ops := b_X0_pence_155) rfl]; rfl
theorem e_X0_pence_156 (E : AEn) (si_0 : Int32) (si_1 : Int32) (h : AH) : evR T_X0_pence E 156 ([], [.int si_0, .int si_1], h) =
  rI (E n_X0_bit [.int si_0] h) (fun i2 h1 =>
  some (.inl (some (.int (si_1 + i2))), h1)) thr := by
  rw [evR_eq ok_T_X0_pence.loc (ops := b_X0_pence_156) rfl]; rfl
theorem c_X0_pence (d : Nat) (a_0 : Nat) (i_1 : Int32) (i_2 : Int32) (h : AH) : callR (d + 1) n_X0_pence [.ref a_0, .int i_1, .int i_2] h =
  bif isO h a_0 0 then evR T_X0_pence (callR d) 0 ([(0, .ref a_0), (1, .int i_1), (2, .int i_2)], [], h) else none := by
  rw [callR_succ, show aMTl[n_X0_pence]? = some (T_X0_pence, [0, 1, 2]) from rfl]; show (bif (isO h a_0 0) && true then _ else _) = _; rw [Bool.and_true]; rfl
theorem e_X0_rests_0 (E : AEn) (a_0 : Nat) (i_1 : Int32) (i_2 : Int32) (i_3 : Int32) (i_4 : Int32) (h : AH) : evR T_X0_rests E 0 ([(0, .ref a_0), (1, .int i_1), (2, .int i_2), (3, .int i_3), (4, .int i_4)], [], h) =
  rI (E n_X0_isHouse [.ref a_0, .int i_1] h) (fun i2 h1 =>
  bif i2 == 0 then evR T_X0_rests E 46 ([], [], h1) else
  evR T_X0_rests E 8 ([(0, .ref a_0), (1, .int i_1), (2, .int i_2), (3, .int i_3), (4, .int i_4)], [], h1)) thr := by
  rw [evR_eq ok_T_X0_rests.loc (ops := b_X0_rests_0) rfl]; rfl
theorem e_X0_rests_8 (E : AEn) (a_0 : Nat) (i_1 : Int32) (i_2 : Int32) (i_3 : Int32) (i_4 : Int32) (h : AH) : evR T_X0_rests E 8 ([(0, .ref a_0), (1, .int i_1), (2, .int i_2), (3, .int i_3), (4, .int i_4)], [], h) =
  rI (E n_X0_isHouse [.ref a_0, .int i_2] h) (fun i2 h1 =>
  bif i2 == 0 then evR T_X0_rests E 46 ([], [], h1) else
  evR T_X0_rests E 16 ([(0, .ref a_0), (1, .int i_1), (2, .int i_2), (3, .int i_3), (4, .int i_4)], [], h1)) thr := by
  rw [evR_eq ok_T_X0_rests.loc (ops := b_X0_rests_8) rfl]; rfl
theorem e_X0_rests_16 (E : AEn) (a_0 : Nat) (i_1 : Int32) (i_2 : Int32) (i_3 : Int32) (i_4 : Int32) (h : AH) : evR T_X0_rests E 16 ([(0, .ref a_0), (1, .int i_1), (2, .int i_2), (3, .int i_3), (4, .int i_4)], [], h) =
  bif i_1 == i_2 then evR T_X0_rests E 46 ([], [], h) else
  evR T_X0_rests E 21 ([(0, .ref a_0), (1, .int i_1), (2, .int i_2), (3, .int i_3), (4, .int i_4)], [], h) := by
  rw [evR_eq ok_T_X0_rests.loc (ops := b_X0_rests_16) rfl]; rfl
theorem e_X0_rests_21 (E : AEn) (a_0 : Nat) (i_1 : Int32) (i_2 : Int32) (i_3 : Int32) (i_4 : Int32) (h : AH) : evR T_X0_rests E 21 ([(0, .ref a_0), (1, .int i_1), (2, .int i_2), (3, .int i_3), (4, .int i_4)], [], h) =
  rI (E n_X0_in [.long i_3.toInt64, .long (1 : Int64), .long (20 : Int64)] h) (fun i2 h1 =>
  bif i2 == 0 then evR T_X0_rests E 46 ([], [], h1) else
  evR T_X0_rests E 33 ([(0, .ref a_0), (1, .int i_1), (2, .int i_2), (3, .int i_3), (4, .int i_4)], [], h1)) thr := by
  rw [evR_eq ok_T_X0_rests.loc (ops := b_X0_rests_21) rfl]; rfl
theorem e_X0_rests_33 (E : AEn) (a_0 : Nat) (i_1 : Int32) (i_2 : Int32) (i_3 : Int32) (i_4 : Int32) (h : AH) : evR T_X0_rests E 33 ([(0, .ref a_0), (1, .int i_1), (2, .int i_2), (3, .int i_3), (4, .int i_4)], [], h) =
  rI (E n_X0_in [.long i_4.toInt64, .long (0 : Int64), .long (2 : Int64)] h) (fun i2 h1 =>
  bif !(i2 == 0) then evR T_X0_rests E 48 ([(0, .ref a_0), (1, .int i_1), (2, .int i_2), (3, .int i_3), (4, .int i_4)], [], h1) else
  evR T_X0_rests E 46 ([], [], h1)) thr := by
  rw [evR_eq ok_T_X0_rests.loc (ops := b_X0_rests_33) rfl]; rfl
theorem e_X0_rests_46 (E : AEn)  (h : AH) : evR T_X0_rests E 46 ([], [], h) =
  some (.inl (some (.int (-1 : Int32))), h) := by
  rw [evR_eq ok_T_X0_rests.loc (ops := b_X0_rests_46) rfl]; rfl
theorem e_X0_rests_48 (E : AEn) (a_0 : Nat) (i_1 : Int32) (i_2 : Int32) (i_3 : Int32) (i_4 : Int32) (h : AH) : evR T_X0_rests E 48 ([(0, .ref a_0), (1, .int i_1), (2, .int i_2), (3, .int i_3), (4, .int i_4)], [], h) =
  rV (E n_X0_laysWords [.ref a_0, .int i_1, .int i_2, .int i_3] h) (fun h1 =>
  evR T_X0_rests E 64 ([(0, .ref a_0), (4, .int i_4), (5, .int (0 : Int32)), (6, .int (-1 : Int32)), (7, .int (0 : Int32))], [], h1)) thr := by
  rw [evR_eq ok_T_X0_rests.loc (ops := b_X0_rests_48) rfl]; rfl
theorem e_X0_rests_64 (E : AEn) (a_0 : Nat) (i_4 : Int32) (i_5 : Int32) (i_6 : Int32) (i_7 : Int32) (h : AH) : evR T_X0_rests E 64 ([(0, .ref a_0), (4, .int i_4), (5, .int i_5), (6, .int i_6), (7, .int i_7)], [], h) =
  bif decide ((25 : Int32) ≤ i_7) then evR T_X0_rests E 106 ([(4, .int i_4), (5, .int i_5), (6, .int i_6)], [], h) else
  evR T_X0_rests E 71 ([(0, .ref a_0), (4, .int i_4), (5, .int i_5), (6, .int i_6), (7, .int i_7)], [], h) := by
  rw [evR_eq ok_T_X0_rests.loc (ops := b_X0_rests_64) rfl]; rfl
theorem e_X0_rests_71 (E : AEn) (a_0 : Nat) (i_4 : Int32) (i_5 : Int32) (i_6 : Int32) (i_7 : Int32) (h : AH) : evR T_X0_rests E 71 ([(0, .ref a_0), (4, .int i_4), (5, .int i_5), (6, .int i_6), (7, .int i_7)], [], h) =
  rI (E n_X0_isRest [.ref a_0, .int i_7] h) (fun i2 h1 =>
  bif !(i2 == 0) then evR T_X0_rests E 83 ([(0, .ref a_0), (4, .int i_4), (5, .int i_5), (6, .int i_6), (7, .int i_7)], [], h1) else
  evR T_X0_rests E 80 ([(0, .ref a_0), (4, .int i_4), (5, .int i_5), (6, .int i_6), (7, .int i_7)], [], h1)) thr := by
  rw [evR_eq ok_T_X0_rests.loc (ops := b_X0_rests_71) rfl]; rfl
theorem e_X0_rests_80 (E : AEn) (a_0 : Nat) (i_4 : Int32) (i_5 : Int32) (i_6 : Int32) (i_7 : Int32) (h : AH) : evR T_X0_rests E 80 ([(0, .ref a_0), (4, .int i_4), (5, .int i_5), (6, .int i_6), (7, .int i_7)], [], h) =
  evR T_X0_rests E 100 ([(0, .ref a_0), (4, .int i_4), (5, .int i_5), (6, .int i_6), (7, .int i_7)], [], h) := by
  rw [evR_eq ok_T_X0_rests.loc (ops := b_X0_rests_80) rfl]; rfl
theorem e_X0_rests_83 (E : AEn) (a_0 : Nat) (i_4 : Int32) (i_5 : Int32) (i_6 : Int32) (i_7 : Int32) (h : AH) : evR T_X0_rests E 83 ([(0, .ref a_0), (4, .int i_4), (5, .int i_5), (6, .int i_6), (7, .int i_7)], [], h) =
  bif !(i_5 == 0) then evR T_X0_rests E 93 ([(0, .ref a_0), (4, .int i_4), (5, .int i_5), (6, .int i_6), (7, .int i_7)], [], h) else
  evR T_X0_rests E 88 ([(0, .ref a_0), (4, .int i_4), (5, .int i_5), (7, .int i_7)], [], h) := by
  rw [evR_eq ok_T_X0_rests.loc (ops := b_X0_rests_83) rfl]; rfl
theorem e_X0_rests_88 (E : AEn) (a_0 : Nat) (i_4 : Int32) (i_5 : Int32) (i_7 : Int32) (h : AH) : evR T_X0_rests E 88 ([(0, .ref a_0), (4, .int i_4), (5, .int i_5), (7, .int i_7)], [], h) =
  evR T_X0_rests E 95 ([(0, .ref a_0), (4, .int i_4), (5, .int i_5), (7, .int i_7)], [.int i_7], h) := by
  rw [evR_eq ok_T_X0_rests.loc (ops := b_X0_rests_88) rfl]; rfl
theorem e_X0_rests_93 (E : AEn) (a_0 : Nat) (i_4 : Int32) (i_5 : Int32) (i_6 : Int32) (i_7 : Int32) (h : AH) : evR T_X0_rests E 93 ([(0, .ref a_0), (4, .int i_4), (5, .int i_5), (6, .int i_6), (7, .int i_7)], [], h) =
  evR T_X0_rests E 95 ([(0, .ref a_0), (4, .int i_4), (5, .int i_5), (7, .int i_7)], [.int i_6], h) := by
  rw [evR_eq ok_T_X0_rests.loc (ops := b_X0_rests_93) rfl]; rfl
theorem e_X0_rests_95 (E : AEn) (a_0 : Nat) (i_4 : Int32) (i_5 : Int32) (i_7 : Int32) (si_0 : Int32) (h : AH) : evR T_X0_rests E 95 ([(0, .ref a_0), (4, .int i_4), (5, .int i_5), (7, .int i_7)], [.int si_0], h) =
  evR T_X0_rests E 100 ([(0, .ref a_0), (4, .int i_4), (5, .int (i_5 + (1 : Int32))), (6, .int si_0), (7, .int i_7)], [], h) := by
  rw [evR_eq ok_T_X0_rests.loc (ops := b_X0_rests_95) rfl]; rfl
theorem e_X0_rests_100 (E : AEn) (a_0 : Nat) (i_4 : Int32) (i_5 : Int32) (i_6 : Int32) (i_7 : Int32) (h : AH) : evR T_X0_rests E 100 ([(0, .ref a_0), (4, .int i_4), (5, .int i_5), (6, .int i_6), (7, .int i_7)], [], h) =
  evR T_X0_rests E 64 ([(0, .ref a_0), (4, .int i_4), (5, .int i_5), (6, .int i_6), (7, .int (i_7 + (1 : Int32)))], [], h) := by
  rw [evR_eq ok_T_X0_rests.loc (ops := b_X0_rests_100) rfl]; rfl
theorem e_X0_rests_106 (E : AEn) (i_4 : Int32) (i_5 : Int32) (i_6 : Int32) (h : AH) : evR T_X0_rests E 106 ([(4, .int i_4), (5, .int i_5), (6, .int i_6)], [], h) =
  bif !(i_4 == 0) then evR T_X0_rests E 114 ([(4, .int i_4), (6, .int i_6)], [], h) else
  evR T_X0_rests E 111 ([(5, .int i_5)], [], h) := by
  rw [evR_eq ok_T_X0_rests.loc (ops := b_X0_rests_106) rfl]; rfl
theorem e_X0_rests_111 (E : AEn) (i_5 : Int32) (h : AH) : evR T_X0_rests E 111 ([(5, .int i_5)], [], h) =
  some (.inl (some (.int i_5)), h) := by
  rw [evR_eq ok_T_X0_rests.loc (ops := b_X0_rests_111) rfl]; rfl
theorem e_X0_rests_114 (E : AEn) (i_4 : Int32) (i_6 : Int32) (h : AH) : evR T_X0_rests E 114 ([(4, .int i_4), (6, .int i_6)], [], h) =
  bif !(i_6 == (-1 : Int32)) then evR T_X0_rests E 125 ([(4, .int i_4), (6, .int i_6)], [], h) else
  evR T_X0_rests E 120 ([], [], h) := by
  rw [evR_eq ok_T_X0_rests.loc (ops := b_X0_rests_114) rfl]; rfl
theorem e_X0_rests_120 (E : AEn)  (h : AH) : evR T_X0_rests E 120 ([], [], h) =
  evR T_X0_rests E 144 ([], [.int (-2 : Int32)], h) := by
  rw [evR_eq ok_T_X0_rests.loc (ops := b_X0_rests_120) rfl]; rfl
theorem e_X0_rests_125 (E : AEn) (i_4 : Int32) (i_6 : Int32) (h : AH) : evR T_X0_rests E 125 ([(4, .int i_4), (6, .int i_6)], [], h) =
  bif !(i_4 == (1 : Int32)) then evR T_X0_rests E 139 ([(6, .int i_6)], [.int (5 : Int32)], h) else
  evR T_X0_rests E 132 ([(6, .int i_6)], [.int (5 : Int32)], h) := by
  rw [evR_eq ok_T_X0_rests.loc (ops := b_X0_rests_125) rfl]; rfl
theorem e_X0_rests_132 (E : AEn) (i_6 : Int32) (si_0 : Int32) (h : AH) : evR T_X0_rests E 132 ([(6, .int i_6)], [.int si_0], h) =
  evR T_X0_rests E 143 ([], [.int (i_6 / (5 : Int32)), .int si_0], h) := by
  rw [evR_eq ok_T_X0_rests.loc (ops := b_X0_rests_132) rfl]; rfl
theorem e_X0_rests_139 (E : AEn) (i_6 : Int32) (si_0 : Int32) (h : AH) : evR T_X0_rests E 139 ([(6, .int i_6)], [.int si_0], h) =
  evR T_X0_rests E 143 ([], [.int (i_6 - i_6 / (5 : Int32) * (5 : Int32)), .int si_0], h) := by
  rw [evR_eq ok_T_X0_rests.loc (ops := b_X0_rests_139) rfl]; rfl
theorem e_X0_rests_143 (E : AEn) (si_0 : Int32) (si_1 : Int32) (h : AH) : evR T_X0_rests E 143 ([], [.int si_0, .int si_1], h) =
  evR T_X0_rests E 144 ([], [.int (si_1 * si_0)], h) := by
  rw [evR_eq ok_T_X0_rests.loc (ops := b_X0_rests_143) rfl]; rfl
theorem e_X0_rests_144 (E : AEn) (si_0 : Int32) (h : AH) : evR T_X0_rests E 144 ([], [.int si_0], h) =
  some (.inl (some (.int si_0)), h) := by
  rw [evR_eq ok_T_X0_rests.loc (ops := b_X0_rests_144) rfl]; rfl
theorem c_X0_rests (d : Nat) (a_0 : Nat) (i_1 : Int32) (i_2 : Int32) (i_3 : Int32) (i_4 : Int32) (h : AH) : callR (d + 1) n_X0_rests [.ref a_0, .int i_1, .int i_2, .int i_3, .int i_4] h =
  bif isO h a_0 0 then evR T_X0_rests (callR d) 0 ([(0, .ref a_0), (1, .int i_1), (2, .int i_2), (3, .int i_3), (4, .int i_4)], [], h) else none := by
  rw [callR_succ, show aMTl[n_X0_rests]? = some (T_X0_rests, [0, 1, 2, 3, 4]) from rfl]; show (bif (isO h a_0 0) && true then _ else _) = _; rw [Bool.and_true]; rfl
theorem e_X0_laysWords_0 (E : AEn) (a_0 : Nat) (i_1 : Int32) (i_2 : Int32) (i_3 : Int32) (h : AH) : evR T_X0_laysWords E 0 ([(0, .ref a_0), (1, .int i_1), (2, .int i_2), (3, .int i_3)], [], h) =
  evR T_X0_laysWords E 3 ([(0, .ref a_0), (1, .int i_1), (2, .int i_2), (3, .int i_3), (4, .int (0 : Int32))], [], h) := by
  rw [evR_eq ok_T_X0_laysWords.loc (ops := b_X0_laysWords_0) rfl]; rfl
theorem e_X0_laysWords_3 (E : AEn) (a_0 : Nat) (i_1 : Int32) (i_2 : Int32) (i_3 : Int32) (i_4 : Int32) (h : AH) : evR T_X0_laysWords E 3 ([(0, .ref a_0), (1, .int i_1), (2, .int i_2), (3, .int i_3), (4, .int i_4)], [], h) =
  bif decide ((25 : Int32) ≤ i_4) then evR T_X0_laysWords E 104 ([], [], h) else
  evR T_X0_laysWords E 10 ([(0, .ref a_0), (1, .int i_1), (2, .int i_2), (3, .int i_3), (4, .int i_4)], [], h) := by
  rw [evR_eq ok_T_X0_laysWords.loc (ops := b_X0_laysWords_3) rfl]; rfl
theorem e_X0_laysWords_10 (E : AEn) (a_0 : Nat) (i_1 : Int32) (i_2 : Int32) (i_3 : Int32) (i_4 : Int32) (h : AH) : evR T_X0_laysWords E 10 ([(0, .ref a_0), (1, .int i_1), (2, .int i_2), (3, .int i_3), (4, .int i_4)], [], h) =
  (rdR h a_0 0 2).bind fun r1 =>
  (rdR h a_0 0 1).bind fun r2 =>
  rV (E n_X2_copyFrom [.ref r1, .ref r2] h) (fun h3 =>
  (rdR h3 a_0 0 2).bind fun r4 =>
  (rdR h3 r4 2 2).bind fun r5 =>
  (stI h3 r5 0 i_1 ((5 : Int32) * (i_4 / (5 : Int32)))).bind fun h6 =>
  (rdR h6 a_0 0 2).bind fun r7 =>
  (rdR h6 r7 2 2).bind fun r8 =>
  (stI h6 r8 0 i_2 ((5 : Int32) * (i_4 - i_4 / (5 : Int32) * (5 : Int32)))).bind fun h9 =>
  rV (E n_X0_goesTill [.ref a_0, .int i_3] h9) (fun h10 =>
  (rdR h10 a_0 0 23).bind fun r11 =>
  (rdR h10 a_0 0 2).bind fun r12 =>
  (rdR h10 r12 2 0).bind fun r13 =>
  (ldI h10 r13 0 i_1).bind fun i14 =>
  (stI h10 r11 0 i_4 (i14 - (i_4 / (5 : Int32)))).bind fun h15 =>
  (rdR h15 a_0 0 24).bind fun r16 =>
  (rdR h15 a_0 0 2).bind fun r17 =>
  (rdR h15 r17 2 0).bind fun r18 =>
  (ldI h15 r18 0 i_2).bind fun i19 =>
  (stI h15 r16 0 i_4 (i19 - (i_4 - i_4 / (5 : Int32) * (5 : Int32)))).bind fun h20 =>
  evR T_X0_laysWords E 3 ([(0, .ref a_0), (1, .int i_1), (2, .int i_2), (3, .int i_3), (4, .int (i_4 + (1 : Int32)))], [], h20)) thr) thr := by
  rw [evR_eq ok_T_X0_laysWords.loc (ops := b_X0_laysWords_10) rfl]; rfl
theorem e_X0_laysWords_104 (E : AEn)  (h : AH) : evR T_X0_laysWords E 104 ([], [], h) =
  some (.inl none, h) := by
  rw [evR_eq ok_T_X0_laysWords.loc (ops := b_X0_laysWords_104) rfl]; rfl
theorem c_X0_laysWords (d : Nat) (a_0 : Nat) (i_1 : Int32) (i_2 : Int32) (i_3 : Int32) (h : AH) : callR (d + 1) n_X0_laysWords [.ref a_0, .int i_1, .int i_2, .int i_3] h =
  bif isO h a_0 0 then evR T_X0_laysWords (callR d) 0 ([(0, .ref a_0), (1, .int i_1), (2, .int i_2), (3, .int i_3)], [], h) else none := by
  rw [callR_succ, show aMTl[n_X0_laysWords]? = some (T_X0_laysWords, [0, 1, 2, 3]) from rfl]; show (bif (isO h a_0 0) && true then _ else _) = _; rw [Bool.and_true]; rfl
theorem e_X0_isRest_0 (E : AEn) (a_0 : Nat) (i_1 : Int32) (h : AH) : evR T_X0_isRest E 0 ([(0, .ref a_0), (1, .int i_1)], [], h) =
  evR T_X0_isRest E 2 ([(0, .ref a_0), (1, .int i_1), (2, .int (0 : Int32))], [], h) := by
  rw [evR_eq ok_T_X0_isRest.loc (ops := b_X0_isRest_0) rfl]; rfl
theorem e_X0_isRest_2 (E : AEn) (a_0 : Nat) (i_1 : Int32) (i_2 : Int32) (h : AH) : evR T_X0_isRest E 2 ([(0, .ref a_0), (1, .int i_1), (2, .int i_2)], [], h) =
  bif decide ((5 : Int32) ≤ i_2) then evR T_X0_isRest E 57 ([], [], h) else
  evR T_X0_isRest E 7 ([(0, .ref a_0), (1, .int i_1), (2, .int i_2)], [], h) := by
  rw [evR_eq ok_T_X0_isRest.loc (ops := b_X0_isRest_2) rfl]; rfl
theorem e_X0_isRest_7 (E : AEn) (a_0 : Nat) (i_1 : Int32) (i_2 : Int32) (h : AH) : evR T_X0_isRest E 7 ([(0, .ref a_0), (1, .int i_1), (2, .int i_2)], [], h) =
  (rdR h a_0 0 23).bind fun r1 =>
  (ldI h r1 0 (((5 : Int32) * i_2) + (i_1 - i_1 / (5 : Int32) * (5 : Int32)))).bind fun i2 =>
  (rdR h a_0 0 23).bind fun r3 =>
  (ldI h r3 0 i_1).bind fun i4 =>
  bif decide (i4 < i2) then evR T_X0_isRest E 49 ([], [], h) else
  evR T_X0_isRest E 28 ([(0, .ref a_0), (1, .int i_1), (2, .int i_2)], [], h) := by
  rw [evR_eq ok_T_X0_isRest.loc (ops := b_X0_isRest_7) rfl]; rfl
theorem e_X0_isRest_28 (E : AEn) (a_0 : Nat) (i_1 : Int32) (i_2 : Int32) (h : AH) : evR T_X0_isRest E 28 ([(0, .ref a_0), (1, .int i_1), (2, .int i_2)], [], h) =
  (rdR h a_0 0 24).bind fun r1 =>
  (ldI h r1 0 ((i_1 - (i_1 - i_1 / (5 : Int32) * (5 : Int32))) + i_2)).bind fun i2 =>
  (rdR h a_0 0 24).bind fun r3 =>
  (ldI h r3 0 i_1).bind fun i4 =>
  bif decide (i2 ≤ i4) then evR T_X0_isRest E 51 ([(0, .ref a_0), (1, .int i_1), (2, .int i_2)], [], h) else
  evR T_X0_isRest E 49 ([], [], h) := by
  rw [evR_eq ok_T_X0_isRest.loc (ops := b_X0_isRest_28) rfl]; rfl
theorem e_X0_isRest_49 (E : AEn)  (h : AH) : evR T_X0_isRest E 49 ([], [], h) =
  some (.inl (some (.int (0 : Int32))), h) := by
  rw [evR_eq ok_T_X0_isRest.loc (ops := b_X0_isRest_49) rfl]; rfl
theorem e_X0_isRest_51 (E : AEn) (a_0 : Nat) (i_1 : Int32) (i_2 : Int32) (h : AH) : evR T_X0_isRest E 51 ([(0, .ref a_0), (1, .int i_1), (2, .int i_2)], [], h) =
  evR T_X0_isRest E 2 ([(0, .ref a_0), (1, .int i_1), (2, .int (i_2 + (1 : Int32)))], [], h) := by
  rw [evR_eq ok_T_X0_isRest.loc (ops := b_X0_isRest_51) rfl]; rfl
theorem e_X0_isRest_57 (E : AEn)  (h : AH) : evR T_X0_isRest E 57 ([], [], h) =
  some (.inl (some (.int (1 : Int32))), h) := by
  rw [evR_eq ok_T_X0_isRest.loc (ops := b_X0_isRest_57) rfl]; rfl
theorem c_X0_isRest (d : Nat) (a_0 : Nat) (i_1 : Int32) (h : AH) : callR (d + 1) n_X0_isRest [.ref a_0, .int i_1] h =
  bif isO h a_0 0 then evR T_X0_isRest (callR d) 0 ([(0, .ref a_0), (1, .int i_1)], [], h) else none := by
  rw [callR_succ, show aMTl[n_X0_isRest]? = some (T_X0_isRest, [0, 1]) from rfl]; show (bif (isO h a_0 0) && true then _ else _) = _; rw [Bool.and_true]; rfl
theorem e_X0_first_0 (E : AEn) (a_0 : Nat) (i_1 : Int32) (h : AH) : evR T_X0_first E 0 ([(0, .ref a_0), (1, .int i_1)], [], h) =
  rI (E n_X0_isValley [.ref a_0] h) (fun i2 h1 =>
  bif i2 == 0 then evR T_X0_first E 17 ([], [], h1) else
  evR T_X0_first E 7 ([(0, .ref a_0), (1, .int i_1)], [], h1)) thr := by
  rw [evR_eq ok_T_X0_first.loc (ops := b_X0_first_0) rfl]; rfl
theorem e_X0_first_7 (E : AEn) (a_0 : Nat) (i_1 : Int32) (h : AH) : evR T_X0_first E 7 ([(0, .ref a_0), (1, .int i_1)], [], h) =
  rI (E n_X0_in [.long i_1.toInt64, .long (0 : Int64), .long (1 : Int64)] h) (fun i2 h1 =>
  bif !(i2 == 0) then evR T_X0_first E 19 ([(0, .ref a_0), (1, .int i_1)], [], h1) else
  evR T_X0_first E 17 ([], [], h1)) thr := by
  rw [evR_eq ok_T_X0_first.loc (ops := b_X0_first_7) rfl]; rfl
theorem e_X0_first_17 (E : AEn)  (h : AH) : evR T_X0_first E 17 ([], [], h) =
  some (.inl (some (.int (-1 : Int32))), h) := by
  rw [evR_eq ok_T_X0_first.loc (ops := b_X0_first_17) rfl]; rfl
theorem e_X0_first_19 (E : AEn) (a_0 : Nat) (i_1 : Int32) (h : AH) : evR T_X0_first E 19 ([(0, .ref a_0), (1, .int i_1)], [], h) =
  (rdR h a_0 0 2).bind fun r1 =>
  (rdR h a_0 0 1).bind fun r2 =>
  rV (E n_X2_copyFrom [.ref r1, .ref r2] h) (fun h3 =>
  evR T_X0_first E 32 ([(0, .ref a_0), (1, .int i_1), (2, .int (0 : Int32))], [], h3)) thr := by
  rw [evR_eq ok_T_X0_first.loc (ops := b_X0_first_19) rfl]; rfl
theorem e_X0_first_32 (E : AEn) (a_0 : Nat) (i_1 : Int32) (i_2 : Int32) (h : AH) : evR T_X0_first E 32 ([(0, .ref a_0), (1, .int i_1), (2, .int i_2)], [], h) =
  bif decide ((60 : Int32) ≤ i_2) then evR T_X0_first E 82 ([], [], h) else
  evR T_X0_first E 38 ([(0, .ref a_0), (1, .int i_1), (2, .int i_2)], [], h) := by
  rw [evR_eq ok_T_X0_first.loc (ops := b_X0_first_32) rfl]; rfl
theorem e_X0_first_38 (E : AEn) (a_0 : Nat) (i_1 : Int32) (i_2 : Int32) (h : AH) : evR T_X0_first E 38 ([(0, .ref a_0), (1, .int i_1), (2, .int i_2)], [], h) =
  (rdR h a_0 0 2).bind fun r1 =>
  rI (E n_X0_goesOn [.ref a_0, .ref r1] h) (fun i3 h2 =>
  (rdI h2 a_0 0 18).bind fun i4 =>
  bif i4 == (-1 : Int32) then evR T_X0_first E 76 ([(0, .ref a_0), (1, .int i_1), (2, .int i_2)], [], h2) else
  evR T_X0_first E 55 ([(0, .ref a_0), (1, .int i_1)], [], h2)) thr := by
  rw [evR_eq ok_T_X0_first.loc (ops := b_X0_first_38) rfl]; rfl
theorem e_X0_first_55 (E : AEn) (a_0 : Nat) (i_1 : Int32) (h : AH) : evR T_X0_first E 55 ([(0, .ref a_0), (1, .int i_1)], [], h) =
  bif !(i_1 == 0) then evR T_X0_first E 66 ([(0, .ref a_0)], [], h) else
  evR T_X0_first E 59 ([(0, .ref a_0)], [], h) := by
  rw [evR_eq ok_T_X0_first.loc (ops := b_X0_first_55) rfl]; rfl
theorem e_X0_first_59 (E : AEn) (a_0 : Nat) (h : AH) : evR T_X0_first E 59 ([(0, .ref a_0)], [], h) =
  (rdI h a_0 0 18).bind fun i1 =>
  evR T_X0_first E 75 ([], [.int i1], h) := by
  rw [evR_eq ok_T_X0_first.loc (ops := b_X0_first_59) rfl]; rfl
theorem e_X0_first_66 (E : AEn) (a_0 : Nat) (h : AH) : evR T_X0_first E 66 ([(0, .ref a_0)], [], h) =
  (rdR h a_0 0 2).bind fun r1 =>
  (rdI h r1 2 9).bind fun i2 =>
  evR T_X0_first E 75 ([], [.int (i2 - (1 : Int32))], h) := by
  rw [evR_eq ok_T_X0_first.loc (ops := b_X0_first_66) rfl]; rfl
theorem e_X0_first_75 (E : AEn) (si_0 : Int32) (h : AH) : evR T_X0_first E 75 ([], [.int si_0], h) =
  some (.inl (some (.int si_0)), h) := by
  rw [evR_eq ok_T_X0_first.loc (ops := b_X0_first_75) rfl]; rfl
theorem e_X0_first_76 (E : AEn) (a_0 : Nat) (i_1 : Int32) (i_2 : Int32) (h : AH) : evR T_X0_first E 76 ([(0, .ref a_0), (1, .int i_1), (2, .int i_2)], [], h) =
  evR T_X0_first E 32 ([(0, .ref a_0), (1, .int i_1), (2, .int (i_2 + (1 : Int32)))], [], h) := by
  rw [evR_eq ok_T_X0_first.loc (ops := b_X0_first_76) rfl]; rfl
theorem e_X0_first_82 (E : AEn)  (h : AH) : evR T_X0_first E 82 ([], [], h) =
  some (.inl (some (.int (-2 : Int32))), h) := by
  rw [evR_eq ok_T_X0_first.loc (ops := b_X0_first_82) rfl]; rfl
theorem c_X0_first (d : Nat) (a_0 : Nat) (i_1 : Int32) (h : AH) : callR (d + 1) n_X0_first [.ref a_0, .int i_1] h =
  bif isO h a_0 0 then evR T_X0_first (callR d) 0 ([(0, .ref a_0), (1, .int i_1)], [], h) else none := by
  rw [callR_succ, show aMTl[n_X0_first]? = some (T_X0_first, [0, 1]) from rfl]; show (bif (isO h a_0 0) && true then _ else _) = _; rw [Bool.and_true]; rfl
theorem e_X0_note_0 (E : AEn) (a_0 : Nat) (i_1 : Int32) (i_2 : Int32) (h : AH) : evR T_X0_note E 0 ([(0, .ref a_0), (1, .int i_1), (2, .int i_2)], [], h) =
  bif !(i_1 == (-1 : Int32)) then evR T_X0_note E 12 ([(0, .ref a_0), (1, .int i_1), (2, .int i_2)], [], h) else
  evR T_X0_note E 5 ([(0, .ref a_0)], [], h) := by
  rw [evR_eq ok_T_X0_note.loc (ops := b_X0_note_0) rfl]; rfl
theorem e_X0_note_5 (E : AEn) (a_0 : Nat) (h : AH) : evR T_X0_note E 5 ([(0, .ref a_0)], [], h) =
  (wrF h a_0 0 10 (.int (0 : Int32))).bind fun h1 =>
  some (.inl (some (.int (0 : Int32))), h1) := by
  rw [evR_eq ok_T_X0_note.loc (ops := b_X0_note_5) rfl]; rfl
theorem e_X0_note_12 (E : AEn) (a_0 : Nat) (i_1 : Int32) (i_2 : Int32) (h : AH) : evR T_X0_note E 12 ([(0, .ref a_0), (1, .int i_1), (2, .int i_2)], [], h) =
  rI (E n_X0_in [.long i_1.toInt64, .long (0 : Int64), .long (60 : Int64)] h) (fun i2 h1 =>
  bif i2 == 0 then evR T_X0_note E 41 ([], [], h1) else
  evR T_X0_note E 24 ([(0, .ref a_0), (1, .int i_1), (2, .int i_2)], [], h1)) thr := by
  rw [evR_eq ok_T_X0_note.loc (ops := b_X0_note_12) rfl]; rfl
theorem e_X0_note_24 (E : AEn) (a_0 : Nat) (i_1 : Int32) (i_2 : Int32) (h : AH) : evR T_X0_note E 24 ([(0, .ref a_0), (1, .int i_1), (2, .int i_2)], [], h) =
  rI (E n_X0_isPlace [.ref a_0, .int i_2] h) (fun i2 h1 =>
  bif i2 == 0 then evR T_X0_note E 41 ([], [], h1) else
  evR T_X0_note E 32 ([(0, .ref a_0), (1, .int i_1), (2, .int i_2)], [], h1)) thr := by
  rw [evR_eq ok_T_X0_note.loc (ops := b_X0_note_24) rfl]; rfl
theorem e_X0_note_32 (E : AEn) (a_0 : Nat) (i_1 : Int32) (i_2 : Int32) (h : AH) : evR T_X0_note E 32 ([(0, .ref a_0), (1, .int i_1), (2, .int i_2)], [], h) =
  (rdI h a_0 0 10).bind fun i1 =>
  bif !(i1 == (10 : Int32)) then evR T_X0_note E 44 ([(0, .ref a_0), (1, .int i_1), (2, .int i_2)], [], h) else
  evR T_X0_note E 41 ([], [], h) := by
  rw [evR_eq ok_T_X0_note.loc (ops := b_X0_note_32) rfl]; rfl
theorem e_X0_note_41 (E : AEn)  (h : AH) : evR T_X0_note E 41 ([], [], h) =
  some (.inl (some (.int (-2 : Int32))), h) := by
  rw [evR_eq ok_T_X0_note.loc (ops := b_X0_note_41) rfl]; rfl
theorem e_X0_note_44 (E : AEn) (a_0 : Nat) (i_1 : Int32) (i_2 : Int32) (h : AH) : evR T_X0_note E 44 ([(0, .ref a_0), (1, .int i_1), (2, .int i_2)], [], h) =
  (rdR h a_0 0 8).bind fun r1 =>
  (rdI h a_0 0 10).bind fun i2 =>
  (stI h r1 0 i2 i_1).bind fun h3 =>
  (rdR h3 a_0 0 9).bind fun r4 =>
  (rdI h3 a_0 0 10).bind fun i5 =>
  (stI h3 r4 0 i5 i_2).bind fun h6 =>
  (rdI h6 a_0 0 10).bind fun i7 =>
  (wrF h6 a_0 0 10 (.int (i7 + (1 : Int32)))).bind fun h8 =>
  (rdI h8 a_0 0 10).bind fun i9 =>
  some (.inl (some (.int i9)), h8) := by
  rw [evR_eq ok_T_X0_note.loc (ops := b_X0_note_44) rfl]; rfl
theorem c_X0_note (d : Nat) (a_0 : Nat) (i_1 : Int32) (i_2 : Int32) (h : AH) : callR (d + 1) n_X0_note [.ref a_0, .int i_1, .int i_2] h =
  bif isO h a_0 0 then evR T_X0_note (callR d) 0 ([(0, .ref a_0), (1, .int i_1), (2, .int i_2)], [], h) else none := by
  rw [callR_succ, show aMTl[n_X0_note]? = some (T_X0_note, [0, 1, 2]) from rfl]; show (bif (isO h a_0 0) && true then _ else _) = _; rw [Bool.and_true]; rfl
theorem e_X0_ruled_0 (E : AEn) (a_0 : Nat) (i_1 : Int32) (h : AH) : evR T_X0_ruled E 0 ([(0, .ref a_0), (1, .int i_1)], [], h) =
  rI (E n_X0_isValley [.ref a_0] h) (fun i2 h1 =>
  bif i2 == 0 then evR T_X0_ruled E 17 ([], [], h1) else
  evR T_X0_ruled E 7 ([(0, .ref a_0), (1, .int i_1)], [], h1)) thr := by
  rw [evR_eq ok_T_X0_ruled.loc (ops := b_X0_ruled_0) rfl]; rfl
theorem e_X0_ruled_7 (E : AEn) (a_0 : Nat) (i_1 : Int32) (h : AH) : evR T_X0_ruled E 7 ([(0, .ref a_0), (1, .int i_1)], [], h) =
  rI (E n_X0_in [.long i_1.toInt64, .long (0 : Int64), .long (1 : Int64)] h) (fun i2 h1 =>
  bif !(i2 == 0) then evR T_X0_ruled E 20 ([(0, .ref a_0), (1, .int i_1)], [], h1) else
  evR T_X0_ruled E 17 ([], [], h1)) thr := by
  rw [evR_eq ok_T_X0_ruled.loc (ops := b_X0_ruled_7) rfl]; rfl
theorem e_X0_ruled_17 (E : AEn)  (h : AH) : evR T_X0_ruled E 17 ([], [], h) =
  some (.inl (some (.int (-3 : Int32))), h) := by
  rw [evR_eq ok_T_X0_ruled.loc (ops := b_X0_ruled_17) rfl]; rfl
theorem e_X0_ruled_20 (E : AEn) (a_0 : Nat) (i_1 : Int32) (h : AH) : evR T_X0_ruled E 20 ([(0, .ref a_0), (1, .int i_1)], [], h) =
  evR T_X0_ruled E 28 ([(0, .ref a_0), (1, .int i_1), (2, .int (0 : Int32)), (3, .int (-2 : Int32)), (4, .int (-1 : Int32))], [], h) := by
  rw [evR_eq ok_T_X0_ruled.loc (ops := b_X0_ruled_20) rfl]; rfl
theorem e_X0_ruled_28 (E : AEn) (a_0 : Nat) (i_1 : Int32) (i_2 : Int32) (i_3 : Int32) (i_4 : Int32) (h : AH) : evR T_X0_ruled E 28 ([(0, .ref a_0), (1, .int i_1), (2, .int i_2), (3, .int i_3), (4, .int i_4)], [], h) =
  (rdR h a_0 0 3).bind fun r1 =>
  rI (E n_J2_size [.ref r1] h) (fun i3 h2 =>
  bif decide (i3 ≤ i_4) then evR T_X0_ruled E 72 ([(1, .int i_1), (2, .int i_2), (3, .int i_3)], [], h2) else
  evR T_X0_ruled E 40 ([(0, .ref a_0), (1, .int i_1), (2, .int i_2), (3, .int i_3), (4, .int i_4)], [], h2)) thr := by
  rw [evR_eq ok_T_X0_ruled.loc (ops := b_X0_ruled_28) rfl]; rfl
theorem e_X0_ruled_40 (E : AEn) (a_0 : Nat) (i_1 : Int32) (i_2 : Int32) (i_3 : Int32) (i_4 : Int32) (h : AH) : evR T_X0_ruled E 40 ([(0, .ref a_0), (1, .int i_1), (2, .int i_2), (3, .int i_3), (4, .int i_4)], [], h) =
  rI (E n_X0_couldRule [.ref a_0, .int i_4] h) (fun i2 h1 =>
  bif !(i2 == 0) then evR T_X0_ruled E 52 ([(0, .ref a_0), (1, .int i_1), (2, .int i_2), (3, .int i_3), (4, .int i_4)], [], h1) else
  evR T_X0_ruled E 49 ([(0, .ref a_0), (1, .int i_1), (2, .int i_2), (3, .int i_3), (4, .int i_4)], [], h1)) thr := by
  rw [evR_eq ok_T_X0_ruled.loc (ops := b_X0_ruled_40) rfl]; rfl
theorem e_X0_ruled_49 (E : AEn) (a_0 : Nat) (i_1 : Int32) (i_2 : Int32) (i_3 : Int32) (i_4 : Int32) (h : AH) : evR T_X0_ruled E 49 ([(0, .ref a_0), (1, .int i_1), (2, .int i_2), (3, .int i_3), (4, .int i_4)], [], h) =
  evR T_X0_ruled E 66 ([(0, .ref a_0), (1, .int i_1), (2, .int i_2), (3, .int i_3), (4, .int i_4)], [], h) := by
  rw [evR_eq ok_T_X0_ruled.loc (ops := b_X0_ruled_49) rfl]; rfl
theorem e_X0_ruled_52 (E : AEn) (a_0 : Nat) (i_1 : Int32) (i_2 : Int32) (i_3 : Int32) (i_4 : Int32) (h : AH) : evR T_X0_ruled E 52 ([(0, .ref a_0), (1, .int i_1), (2, .int i_2), (3, .int i_3), (4, .int i_4)], [], h) =
  bif !(i_2 == 0) then evR T_X0_ruled E 61 ([(0, .ref a_0), (1, .int i_1), (2, .int i_2), (3, .int i_3), (4, .int i_4)], [], h) else
  evR T_X0_ruled E 56 ([(0, .ref a_0), (1, .int i_1), (2, .int i_2), (4, .int i_4)], [], h) := by
  rw [evR_eq ok_T_X0_ruled.loc (ops := b_X0_ruled_52) rfl]; rfl
theorem e_X0_ruled_56 (E : AEn) (a_0 : Nat) (i_1 : Int32) (i_2 : Int32) (i_4 : Int32) (h : AH) : evR T_X0_ruled E 56 ([(0, .ref a_0), (1, .int i_1), (2, .int i_2), (4, .int i_4)], [], h) =
  evR T_X0_ruled E 62 ([(0, .ref a_0), (1, .int i_1), (2, .int i_2), (4, .int i_4)], [.int i_4], h) := by
  rw [evR_eq ok_T_X0_ruled.loc (ops := b_X0_ruled_56) rfl]; rfl
theorem e_X0_ruled_61 (E : AEn) (a_0 : Nat) (i_1 : Int32) (i_2 : Int32) (i_3 : Int32) (i_4 : Int32) (h : AH) : evR T_X0_ruled E 61 ([(0, .ref a_0), (1, .int i_1), (2, .int i_2), (3, .int i_3), (4, .int i_4)], [], h) =
  evR T_X0_ruled E 62 ([(0, .ref a_0), (1, .int i_1), (2, .int i_2), (4, .int i_4)], [.int i_3], h) := by
  rw [evR_eq ok_T_X0_ruled.loc (ops := b_X0_ruled_61) rfl]; rfl
theorem e_X0_ruled_62 (E : AEn) (a_0 : Nat) (i_1 : Int32) (i_2 : Int32) (i_4 : Int32) (si_0 : Int32) (h : AH) : evR T_X0_ruled E 62 ([(0, .ref a_0), (1, .int i_1), (2, .int i_2), (4, .int i_4)], [.int si_0], h) =
  evR T_X0_ruled E 66 ([(0, .ref a_0), (1, .int i_1), (2, .int (i_2 + (1 : Int32))), (3, .int si_0), (4, .int i_4)], [], h) := by
  rw [evR_eq ok_T_X0_ruled.loc (ops := b_X0_ruled_62) rfl]; rfl
theorem e_X0_ruled_66 (E : AEn) (a_0 : Nat) (i_1 : Int32) (i_2 : Int32) (i_3 : Int32) (i_4 : Int32) (h : AH) : evR T_X0_ruled E 66 ([(0, .ref a_0), (1, .int i_1), (2, .int i_2), (3, .int i_3), (4, .int i_4)], [], h) =
  evR T_X0_ruled E 28 ([(0, .ref a_0), (1, .int i_1), (2, .int i_2), (3, .int i_3), (4, .int (i_4 + (1 : Int32)))], [], h) := by
  rw [evR_eq ok_T_X0_ruled.loc (ops := b_X0_ruled_66) rfl]; rfl
theorem e_X0_ruled_72 (E : AEn) (i_1 : Int32) (i_2 : Int32) (i_3 : Int32) (h : AH) : evR T_X0_ruled E 72 ([(1, .int i_1), (2, .int i_2), (3, .int i_3)], [], h) =
  bif !(i_1 == 0) then evR T_X0_ruled E 80 ([(3, .int i_3)], [], h) else
  evR T_X0_ruled E 76 ([(2, .int i_2)], [], h) := by
  rw [evR_eq ok_T_X0_ruled.loc (ops := b_X0_ruled_72) rfl]; rfl
theorem e_X0_ruled_76 (E : AEn) (i_2 : Int32) (h : AH) : evR T_X0_ruled E 76 ([(2, .int i_2)], [], h) =
  evR T_X0_ruled E 81 ([], [.int i_2], h) := by
  rw [evR_eq ok_T_X0_ruled.loc (ops := b_X0_ruled_76) rfl]; rfl
theorem e_X0_ruled_80 (E : AEn) (i_3 : Int32) (h : AH) : evR T_X0_ruled E 80 ([(3, .int i_3)], [], h) =
  evR T_X0_ruled E 81 ([], [.int i_3], h) := by
  rw [evR_eq ok_T_X0_ruled.loc (ops := b_X0_ruled_80) rfl]; rfl
theorem e_X0_ruled_81 (E : AEn) (si_0 : Int32) (h : AH) : evR T_X0_ruled E 81 ([], [.int si_0], h) =
  some (.inl (some (.int si_0)), h) := by
  rw [evR_eq ok_T_X0_ruled.loc (ops := b_X0_ruled_81) rfl]; rfl
theorem c_X0_ruled (d : Nat) (a_0 : Nat) (i_1 : Int32) (h : AH) : callR (d + 1) n_X0_ruled [.ref a_0, .int i_1] h =
  bif isO h a_0 0 then evR T_X0_ruled (callR d) 0 ([(0, .ref a_0), (1, .int i_1)], [], h) else none := by
  rw [callR_succ, show aMTl[n_X0_ruled]? = some (T_X0_ruled, [0, 1]) from rfl]; show (bif (isO h a_0 0) && true then _ else _) = _; rw [Bool.and_true]; rfl
theorem e_X0_couldRule_0 (E : AEn) (a_0 : Nat) (i_1 : Int32) (h : AH) : evR T_X0_couldRule E 0 ([(0, .ref a_0), (1, .int i_1)], [], h) =
  (rdI h a_0 0 4).bind fun i1 =>
  (wrF h a_0 0 4 (.int i_1)).bind fun h2 =>
  (rdR h2 a_0 0 2).bind fun r3 =>
  (rdR h2 a_0 0 0).bind fun r4 =>
  rV (E n_X2_begin [.ref r3, .ref r4] h2) (fun h5 =>
  evR T_X0_couldRule E 23 ([(0, .ref a_0), (2, .int i1), (3, .int (0 : Int32))], [], h5)) thr := by
  rw [evR_eq ok_T_X0_couldRule.loc (ops := b_X0_couldRule_0) rfl]; rfl
theorem e_X0_couldRule_23 (E : AEn) (a_0 : Nat) (i_2 : Int32) (i_3 : Int32) (h : AH) : evR T_X0_couldRule E 23 ([(0, .ref a_0), (2, .int i_2), (3, .int i_3)], [], h) =
  bif decide ((60 : Int32) < i_3) then evR T_X0_couldRule E 57 ([(0, .ref a_0), (2, .int i_2)], [], h) else
  evR T_X0_couldRule E 29 ([(0, .ref a_0), (2, .int i_2), (3, .int i_3)], [], h) := by
  rw [evR_eq ok_T_X0_couldRule.loc (ops := b_X0_couldRule_23) rfl]; rfl
theorem e_X0_couldRule_29 (E : AEn) (a_0 : Nat) (i_2 : Int32) (i_3 : Int32) (h : AH) : evR T_X0_couldRule E 29 ([(0, .ref a_0), (2, .int i_2), (3, .int i_3)], [], h) =
  (rdR h a_0 0 25).bind fun r1 =>
  (rdR h a_0 0 2).bind fun r2 =>
  (rdI h r2 2 6).bind fun i3 =>
  (stI h r1 0 i_3 i3).bind fun h4 =>
  (rdR h4 a_0 0 2).bind fun r5 =>
  rI (E n_X0_goesOn [.ref a_0, .ref r5] h4) (fun i7 h6 =>
  evR T_X0_couldRule E 23 ([(0, .ref a_0), (2, .int i_2), (3, .int (i_3 + (1 : Int32)))], [], h6)) thr := by
  rw [evR_eq ok_T_X0_couldRule.loc (ops := b_X0_couldRule_29) rfl]; rfl
theorem e_X0_couldRule_57 (E : AEn) (a_0 : Nat) (i_2 : Int32) (h : AH) : evR T_X0_couldRule E 57 ([(0, .ref a_0), (2, .int i_2)], [], h) =
  (wrF h a_0 0 4 (.int i_2)).bind fun h1 =>
  evR T_X0_couldRule E 64 ([(0, .ref a_0), (3, .int (0 : Int32))], [], h1) := by
  rw [evR_eq ok_T_X0_couldRule.loc (ops := b_X0_couldRule_57) rfl]; rfl
theorem e_X0_couldRule_64 (E : AEn) (a_0 : Nat) (i_3 : Int32) (h : AH) : evR T_X0_couldRule E 64 ([(0, .ref a_0), (3, .int i_3)], [], h) =
  (rdI h a_0 0 10).bind fun i1 =>
  bif decide (i1 ≤ i_3) then evR T_X0_couldRule E 100 ([], [], h) else
  evR T_X0_couldRule E 72 ([(0, .ref a_0), (3, .int i_3)], [], h) := by
  rw [evR_eq ok_T_X0_couldRule.loc (ops := b_X0_couldRule_64) rfl]; rfl
theorem e_X0_couldRule_72 (E : AEn) (a_0 : Nat) (i_3 : Int32) (h : AH) : evR T_X0_couldRule E 72 ([(0, .ref a_0), (3, .int i_3)], [], h) =
  (rdR h a_0 0 25).bind fun r1 =>
  (rdR h a_0 0 8).bind fun r2 =>
  (ldI h r2 0 i_3).bind fun i3 =>
  (ldI h r1 0 i3).bind fun i4 =>
  (rdR h a_0 0 9).bind fun r5 =>
  (ldI h r5 0 i_3).bind fun i6 =>
  bif i4 == i6 then evR T_X0_couldRule E 94 ([(0, .ref a_0), (3, .int i_3)], [], h) else
  evR T_X0_couldRule E 92 ([], [], h) := by
  rw [evR_eq ok_T_X0_couldRule.loc (ops := b_X0_couldRule_72) rfl]; rfl
theorem e_X0_couldRule_92 (E : AEn)  (h : AH) : evR T_X0_couldRule E 92 ([], [], h) =
  some (.inl (some (.int (0 : Int32))), h) := by
  rw [evR_eq ok_T_X0_couldRule.loc (ops := b_X0_couldRule_92) rfl]; rfl
theorem e_X0_couldRule_94 (E : AEn) (a_0 : Nat) (i_3 : Int32) (h : AH) : evR T_X0_couldRule E 94 ([(0, .ref a_0), (3, .int i_3)], [], h) =
  evR T_X0_couldRule E 64 ([(0, .ref a_0), (3, .int (i_3 + (1 : Int32)))], [], h) := by
  rw [evR_eq ok_T_X0_couldRule.loc (ops := b_X0_couldRule_94) rfl]; rfl
theorem e_X0_couldRule_100 (E : AEn)  (h : AH) : evR T_X0_couldRule E 100 ([], [], h) =
  some (.inl (some (.int (1 : Int32))), h) := by
  rw [evR_eq ok_T_X0_couldRule.loc (ops := b_X0_couldRule_100) rfl]; rfl
theorem c_X0_couldRule (d : Nat) (a_0 : Nat) (i_1 : Int32) (h : AH) : callR (d + 1) n_X0_couldRule [.ref a_0, .int i_1] h =
  bif isO h a_0 0 then evR T_X0_couldRule (callR d) 0 ([(0, .ref a_0), (1, .int i_1)], [], h) else none := by
  rw [callR_succ, show aMTl[n_X0_couldRule]? = some (T_X0_couldRule, [0, 1]) from rfl]; show (bif (isO h a_0 0) && true then _ else _) = _; rw [Bool.and_true]; rfl
theorem e_X0_look_0 (E : AEn) (a_0 : Nat) (i_1 : Int32) (h : AH) : evR T_X0_look E 0 ([(0, .ref a_0), (1, .int i_1)], [], h) =
  rI (E n_X0_isValley [.ref a_0] h) (fun i2 h1 =>
  bif i2 == 0 then evR T_X0_look E 17 ([], [], h1) else
  evR T_X0_look E 7 ([(0, .ref a_0), (1, .int i_1)], [], h1)) thr := by
  rw [evR_eq ok_T_X0_look.loc (ops := b_X0_look_0) rfl]; rfl
theorem e_X0_look_7 (E : AEn) (a_0 : Nat) (i_1 : Int32) (h : AH) : evR T_X0_look E 7 ([(0, .ref a_0), (1, .int i_1)], [], h) =
  rI (E n_X0_in [.long i_1.toInt64, .long (0 : Int64), .long (1 : Int64)] h) (fun i2 h1 =>
  bif !(i2 == 0) then evR T_X0_look E 19 ([(0, .ref a_0), (1, .int i_1)], [], h1) else
  evR T_X0_look E 17 ([], [], h1)) thr := by
  rw [evR_eq ok_T_X0_look.loc (ops := b_X0_look_7) rfl]; rfl
theorem e_X0_look_17 (E : AEn)  (h : AH) : evR T_X0_look E 17 ([], [], h) =
  some (.inl (some (.int (-1 : Int32))), h) := by
  rw [evR_eq ok_T_X0_look.loc (ops := b_X0_look_17) rfl]; rfl
theorem e_X0_look_19 (E : AEn) (a_0 : Nat) (i_1 : Int32) (h : AH) : evR T_X0_look E 19 ([(0, .ref a_0), (1, .int i_1)], [], h) =
  evR T_X0_look E 23 ([(0, .ref a_0), (1, .int i_1), (2, .int (0 : Int32)), (3, .int (-1 : Int32))], [], h) := by
  rw [evR_eq ok_T_X0_look.loc (ops := b_X0_look_19) rfl]; rfl
theorem e_X0_look_23 (E : AEn) (a_0 : Nat) (i_1 : Int32) (i_2 : Int32) (i_3 : Int32) (h : AH) : evR T_X0_look E 23 ([(0, .ref a_0), (1, .int i_1), (2, .int i_2), (3, .int i_3)], [], h) =
  (rdR h a_0 0 3).bind fun r1 =>
  rI (E n_J2_size [.ref r1] h) (fun i3 h2 =>
  bif decide (i3 ≤ i_3) then evR T_X0_look E 89 ([(0, .ref a_0), (1, .int i_1), (2, .int i_2)], [], h2) else
  evR T_X0_look E 34 ([(0, .ref a_0), (1, .int i_1), (2, .int i_2), (3, .int i_3)], [], h2)) thr := by
  rw [evR_eq ok_T_X0_look.loc (ops := b_X0_look_23) rfl]; rfl
theorem e_X0_look_34 (E : AEn) (a_0 : Nat) (i_1 : Int32) (i_2 : Int32) (i_3 : Int32) (h : AH) : evR T_X0_look E 34 ([(0, .ref a_0), (1, .int i_1), (2, .int i_2), (3, .int i_3)], [], h) =
  rI (E n_X0_couldRule [.ref a_0, .int i_3] h) (fun i2 h1 =>
  bif !(i2 == 0) then evR T_X0_look E 45 ([(0, .ref a_0), (1, .int i_1), (2, .int i_2), (3, .int i_3)], [], h1) else
  evR T_X0_look E 42 ([(0, .ref a_0), (1, .int i_1), (2, .int i_2), (3, .int i_3)], [], h1)) thr := by
  rw [evR_eq ok_T_X0_look.loc (ops := b_X0_look_34) rfl]; rfl
theorem e_X0_look_42 (E : AEn) (a_0 : Nat) (i_1 : Int32) (i_2 : Int32) (i_3 : Int32) (h : AH) : evR T_X0_look E 42 ([(0, .ref a_0), (1, .int i_1), (2, .int i_2), (3, .int i_3)], [], h) =
  evR T_X0_look E 83 ([(0, .ref a_0), (1, .int i_1), (2, .int i_2), (3, .int i_3)], [], h) := by
  rw [evR_eq ok_T_X0_look.loc (ops := b_X0_look_42) rfl]; rfl
theorem e_X0_look_45 (E : AEn) (a_0 : Nat) (i_1 : Int32) (i_2 : Int32) (i_3 : Int32) (h : AH) : evR T_X0_look E 45 ([(0, .ref a_0), (1, .int i_1), (2, .int i_2), (3, .int i_3)], [], h) =
  evR T_X0_look E 48 ([(0, .ref a_0), (1, .int i_1), (2, .int i_2), (3, .int i_3), (4, .int (0 : Int32))], [], h) := by
  rw [evR_eq ok_T_X0_look.loc (ops := b_X0_look_45) rfl]; rfl
theorem e_X0_look_48 (E : AEn) (a_0 : Nat) (i_1 : Int32) (i_2 : Int32) (i_3 : Int32) (i_4 : Int32) (h : AH) : evR T_X0_look E 48 ([(0, .ref a_0), (1, .int i_1), (2, .int i_2), (3, .int i_3), (4, .int i_4)], [], h) =
  bif decide ((60 : Int32) < i_4) then evR T_X0_look E 80 ([(0, .ref a_0), (1, .int i_1), (2, .int i_2), (3, .int i_3)], [], h) else
  evR T_X0_look E 55 ([(0, .ref a_0), (1, .int i_1), (2, .int i_2), (3, .int i_3), (4, .int i_4)], [], h) := by
  rw [evR_eq ok_T_X0_look.loc (ops := b_X0_look_48) rfl]; rfl
theorem e_X0_look_55 (E : AEn) (a_0 : Nat) (i_1 : Int32) (i_2 : Int32) (i_3 : Int32) (i_4 : Int32) (h : AH) : evR T_X0_look E 55 ([(0, .ref a_0), (1, .int i_1), (2, .int i_2), (3, .int i_3), (4, .int i_4)], [], h) =
  (rdR h a_0 0 26).bind fun r1 =>
  (rdR h a_0 0 25).bind fun r2 =>
  (ldI h r2 0 i_4).bind fun i3 =>
  (stI h r1 0 (((61 : Int32) * i_2) + i_4) i3).bind fun h4 =>
  evR T_X0_look E 48 ([(0, .ref a_0), (1, .int i_1), (2, .int i_2), (3, .int i_3), (4, .int (i_4 + (1 : Int32)))], [], h4) := by
  rw [evR_eq ok_T_X0_look.loc (ops := b_X0_look_55) rfl]; rfl
theorem e_X0_look_80 (E : AEn) (a_0 : Nat) (i_1 : Int32) (i_2 : Int32) (i_3 : Int32) (h : AH) : evR T_X0_look E 80 ([(0, .ref a_0), (1, .int i_1), (2, .int i_2), (3, .int i_3)], [], h) =
  evR T_X0_look E 83 ([(0, .ref a_0), (1, .int i_1), (2, .int (i_2 + (1 : Int32))), (3, .int i_3)], [], h) := by
  rw [evR_eq ok_T_X0_look.loc (ops := b_X0_look_80) rfl]; rfl
theorem e_X0_look_83 (E : AEn) (a_0 : Nat) (i_1 : Int32) (i_2 : Int32) (i_3 : Int32) (h : AH) : evR T_X0_look E 83 ([(0, .ref a_0), (1, .int i_1), (2, .int i_2), (3, .int i_3)], [], h) =
  evR T_X0_look E 23 ([(0, .ref a_0), (1, .int i_1), (2, .int i_2), (3, .int (i_3 + (1 : Int32)))], [], h) := by
  rw [evR_eq ok_T_X0_look.loc (ops := b_X0_look_83) rfl]; rfl
theorem e_X0_look_89 (E : AEn) (a_0 : Nat) (i_1 : Int32) (i_2 : Int32) (h : AH) : evR T_X0_look E 89 ([(0, .ref a_0), (1, .int i_1), (2, .int i_2)], [], h) =
  bif !(i_2 == 0) then evR T_X0_look E 96 ([(0, .ref a_0), (1, .int i_1), (2, .int i_2)], [], h) else
  evR T_X0_look E 93 ([], [], h) := by
  rw [evR_eq ok_T_X0_look.loc (ops := b_X0_look_89) rfl]; rfl
theorem e_X0_look_93 (E : AEn)  (h : AH) : evR T_X0_look E 93 ([], [], h) =
  some (.inl (some (.int (-2 : Int32))), h) := by
  rw [evR_eq ok_T_X0_look.loc (ops := b_X0_look_93) rfl]; rfl
theorem e_X0_look_96 (E : AEn) (a_0 : Nat) (i_1 : Int32) (i_2 : Int32) (h : AH) : evR T_X0_look E 96 ([(0, .ref a_0), (1, .int i_1), (2, .int i_2)], [], h) =
  evR T_X0_look E 101 ([(0, .ref a_0), (1, .int i_1), (2, .int i_2), (3, .int (0 : Int32)), (4, .int (1 : Int32))], [], h) := by
  rw [evR_eq ok_T_X0_look.loc (ops := b_X0_look_96) rfl]; rfl
theorem e_X0_look_101 (E : AEn) (a_0 : Nat) (i_1 : Int32) (i_2 : Int32) (i_3 : Int32) (i_4 : Int32) (h : AH) : evR T_X0_look E 101 ([(0, .ref a_0), (1, .int i_1), (2, .int i_2), (3, .int i_3), (4, .int i_4)], [], h) =
  bif decide ((60 : Int32) < i_4) then evR T_X0_look E 133 ([(0, .ref a_0), (1, .int i_1), (2, .int i_2), (3, .int i_3)], [], h) else
  evR T_X0_look E 108 ([(0, .ref a_0), (1, .int i_1), (2, .int i_2), (3, .int i_3), (4, .int i_4)], [], h) := by
  rw [evR_eq ok_T_X0_look.loc (ops := b_X0_look_101) rfl]; rfl
theorem e_X0_look_108 (E : AEn) (a_0 : Nat) (i_1 : Int32) (i_2 : Int32) (i_3 : Int32) (i_4 : Int32) (h : AH) : evR T_X0_look E 108 ([(0, .ref a_0), (1, .int i_1), (2, .int i_2), (3, .int i_3), (4, .int i_4)], [], h) =
  rI (E n_X0_mostAlike [.ref a_0, .int i_4, .int i_2] h) (fun i2 h1 =>
  rI (E n_X0_mostAlike [.ref a_0, .int i_3, .int i_2] h1) (fun i4 h3 =>
  bif decide (i4 ≤ i2) then evR T_X0_look E 127 ([(0, .ref a_0), (1, .int i_1), (2, .int i_2), (3, .int i_3), (4, .int i_4)], [], h3) else
  evR T_X0_look E 124 ([(0, .ref a_0), (1, .int i_1), (2, .int i_2), (4, .int i_4)], [], h3)) thr) thr := by
  rw [evR_eq ok_T_X0_look.loc (ops := b_X0_look_108) rfl]; rfl
theorem e_X0_look_124 (E : AEn) (a_0 : Nat) (i_1 : Int32) (i_2 : Int32) (i_4 : Int32) (h : AH) : evR T_X0_look E 124 ([(0, .ref a_0), (1, .int i_1), (2, .int i_2), (4, .int i_4)], [], h) =
  evR T_X0_look E 127 ([(0, .ref a_0), (1, .int i_1), (2, .int i_2), (3, .int i_4), (4, .int i_4)], [], h) := by
  rw [evR_eq ok_T_X0_look.loc (ops := b_X0_look_124) rfl]; rfl
theorem e_X0_look_127 (E : AEn) (a_0 : Nat) (i_1 : Int32) (i_2 : Int32) (i_3 : Int32) (i_4 : Int32) (h : AH) : evR T_X0_look E 127 ([(0, .ref a_0), (1, .int i_1), (2, .int i_2), (3, .int i_3), (4, .int i_4)], [], h) =
  evR T_X0_look E 101 ([(0, .ref a_0), (1, .int i_1), (2, .int i_2), (3, .int i_3), (4, .int (i_4 + (1 : Int32)))], [], h) := by
  rw [evR_eq ok_T_X0_look.loc (ops := b_X0_look_127) rfl]; rfl
theorem e_X0_look_133 (E : AEn) (a_0 : Nat) (i_1 : Int32) (i_2 : Int32) (i_3 : Int32) (h : AH) : evR T_X0_look E 133 ([(0, .ref a_0), (1, .int i_1), (2, .int i_2), (3, .int i_3)], [], h) =
  bif !(i_1 == 0) then evR T_X0_look E 141 ([(0, .ref a_0), (2, .int i_2), (3, .int i_3)], [], h) else
  evR T_X0_look E 137 ([(3, .int i_3)], [], h) := by
  rw [evR_eq ok_T_X0_look.loc (ops := b_X0_look_133) rfl]; rfl
theorem e_X0_look_137 (E : AEn) (i_3 : Int32) (h : AH) : evR T_X0_look E 137 ([(3, .int i_3)], [], h) =
  evR T_X0_look E 147 ([], [.int i_3], h) := by
  rw [evR_eq ok_T_X0_look.loc (ops := b_X0_look_137) rfl]; rfl
theorem e_X0_look_141 (E : AEn) (a_0 : Nat) (i_2 : Int32) (i_3 : Int32) (h : AH) : evR T_X0_look E 141 ([(0, .ref a_0), (2, .int i_2), (3, .int i_3)], [], h) =
  rI (E n_X0_mostAlike [.ref a_0, .int i_3, .int i_2] h) (fun i2 h1 =>
  evR T_X0_look E 147 ([], [.int i2], h1)) thr := by
  rw [evR_eq ok_T_X0_look.loc (ops := b_X0_look_141) rfl]; rfl
theorem e_X0_look_147 (E : AEn) (si_0 : Int32) (h : AH) : evR T_X0_look E 147 ([], [.int si_0], h) =
  some (.inl (some (.int si_0)), h) := by
  rw [evR_eq ok_T_X0_look.loc (ops := b_X0_look_147) rfl]; rfl
theorem c_X0_look (d : Nat) (a_0 : Nat) (i_1 : Int32) (h : AH) : callR (d + 1) n_X0_look [.ref a_0, .int i_1] h =
  bif isO h a_0 0 then evR T_X0_look (callR d) 0 ([(0, .ref a_0), (1, .int i_1)], [], h) else none := by
  rw [callR_succ, show aMTl[n_X0_look]? = some (T_X0_look, [0, 1]) from rfl]; show (bif (isO h a_0 0) && true then _ else _) = _; rw [Bool.and_true]; rfl
theorem e_X0_mostAlike_0 (E : AEn) (a_0 : Nat) (i_1 : Int32) (i_2 : Int32) (h : AH) : evR T_X0_mostAlike E 0 ([(0, .ref a_0), (1, .int i_1), (2, .int i_2)], [], h) =
  evR T_X0_mostAlike E 5 ([(0, .ref a_0), (1, .int i_1), (2, .int i_2), (3, .int (0 : Int32)), (4, .int (0 : Int32))], [], h) := by
  rw [evR_eq ok_T_X0_mostAlike.loc (ops := b_X0_mostAlike_0) rfl]; rfl
theorem e_X0_mostAlike_5 (E : AEn) (a_0 : Nat) (i_1 : Int32) (i_2 : Int32) (i_3 : Int32) (i_4 : Int32) (h : AH) : evR T_X0_mostAlike E 5 ([(0, .ref a_0), (1, .int i_1), (2, .int i_2), (3, .int i_3), (4, .int i_4)], [], h) =
  bif decide (i_2 ≤ i_4) then evR T_X0_mostAlike E 82 ([(3, .int i_3)], [], h) else
  evR T_X0_mostAlike E 11 ([(0, .ref a_0), (1, .int i_1), (2, .int i_2), (3, .int i_3), (4, .int i_4)], [], h) := by
  rw [evR_eq ok_T_X0_mostAlike.loc (ops := b_X0_mostAlike_5) rfl]; rfl
theorem e_X0_mostAlike_11 (E : AEn) (a_0 : Nat) (i_1 : Int32) (i_2 : Int32) (i_3 : Int32) (i_4 : Int32) (h : AH) : evR T_X0_mostAlike E 11 ([(0, .ref a_0), (1, .int i_1), (2, .int i_2), (3, .int i_3), (4, .int i_4)], [], h) =
  evR T_X0_mostAlike E 17 ([(0, .ref a_0), (1, .int i_1), (2, .int i_2), (3, .int i_3), (4, .int i_4), (5, .int (0 : Int32)), (6, .int (0 : Int32))], [], h) := by
  rw [evR_eq ok_T_X0_mostAlike.loc (ops := b_X0_mostAlike_11) rfl]; rfl
theorem e_X0_mostAlike_17 (E : AEn) (a_0 : Nat) (i_1 : Int32) (i_2 : Int32) (i_3 : Int32) (i_4 : Int32) (i_5 : Int32) (i_6 : Int32) (h : AH) : evR T_X0_mostAlike E 17 ([(0, .ref a_0), (1, .int i_1), (2, .int i_2), (3, .int i_3), (4, .int i_4), (5, .int i_5), (6, .int i_6)], [], h) =
  bif decide (i_2 ≤ i_6) then evR T_X0_mostAlike E 69 ([(0, .ref a_0), (1, .int i_1), (2, .int i_2), (3, .int i_3), (4, .int i_4), (5, .int i_5)], [], h) else
  evR T_X0_mostAlike E 23 ([(0, .ref a_0), (1, .int i_1), (2, .int i_2), (3, .int i_3), (4, .int i_4), (5, .int i_5), (6, .int i_6)], [], h) := by
  rw [evR_eq ok_T_X0_mostAlike.loc (ops := b_X0_mostAlike_17) rfl]; rfl
theorem e_X0_mostAlike_23 (E : AEn) (a_0 : Nat) (i_1 : Int32) (i_2 : Int32) (i_3 : Int32) (i_4 : Int32) (i_5 : Int32) (i_6 : Int32) (h : AH) : evR T_X0_mostAlike E 23 ([(0, .ref a_0), (1, .int i_1), (2, .int i_2), (3, .int i_3), (4, .int i_4), (5, .int i_5), (6, .int i_6)], [], h) =
  (rdR h a_0 0 26).bind fun r1 =>
  (ldI h r1 0 (((61 : Int32) * i_6) + i_1)).bind fun i2 =>
  (rdR h a_0 0 26).bind fun r3 =>
  (ldI h r3 0 (((61 : Int32) * i_4) + i_1)).bind fun i4 =>
  bif !(i2 == i4) then evR T_X0_mostAlike E 56 ([(0, .ref a_0), (1, .int i_1), (2, .int i_2), (3, .int i_3), (4, .int i_4), (6, .int i_6)], [.int i_5], h) else
  evR T_X0_mostAlike E 52 ([(0, .ref a_0), (1, .int i_1), (2, .int i_2), (3, .int i_3), (4, .int i_4), (6, .int i_6)], [.int i_5], h) := by
  rw [evR_eq ok_T_X0_mostAlike.loc (ops := b_X0_mostAlike_23) rfl]; rfl
theorem e_X0_mostAlike_52 (E : AEn) (a_0 : Nat) (i_1 : Int32) (i_2 : Int32) (i_3 : Int32) (i_4 : Int32) (i_6 : Int32) (si_0 : Int32) (h : AH) : evR T_X0_mostAlike E 52 ([(0, .ref a_0), (1, .int i_1), (2, .int i_2), (3, .int i_3), (4, .int i_4), (6, .int i_6)], [.int si_0], h) =
  evR T_X0_mostAlike E 57 ([(0, .ref a_0), (1, .int i_1), (2, .int i_2), (3, .int i_3), (4, .int i_4), (6, .int i_6)], [.int (1 : Int32), .int si_0], h) := by
  rw [evR_eq ok_T_X0_mostAlike.loc (ops := b_X0_mostAlike_52) rfl]; rfl
theorem e_X0_mostAlike_56 (E : AEn) (a_0 : Nat) (i_1 : Int32) (i_2 : Int32) (i_3 : Int32) (i_4 : Int32) (i_6 : Int32) (si_0 : Int32) (h : AH) : evR T_X0_mostAlike E 56 ([(0, .ref a_0), (1, .int i_1), (2, .int i_2), (3, .int i_3), (4, .int i_4), (6, .int i_6)], [.int si_0], h) =
  evR T_X0_mostAlike E 57 ([(0, .ref a_0), (1, .int i_1), (2, .int i_2), (3, .int i_3), (4, .int i_4), (6, .int i_6)], [.int (0 : Int32), .int si_0], h) := by
  rw [evR_eq ok_T_X0_mostAlike.loc (ops := b_X0_mostAlike_56) rfl]; rfl
theorem e_X0_mostAlike_57 (E : AEn) (a_0 : Nat) (i_1 : Int32) (i_2 : Int32) (i_3 : Int32) (i_4 : Int32) (i_6 : Int32) (si_0 : Int32) (si_1 : Int32) (h : AH) : evR T_X0_mostAlike E 57 ([(0, .ref a_0), (1, .int i_1), (2, .int i_2), (3, .int i_3), (4, .int i_4), (6, .int i_6)], [.int si_0, .int si_1], h) =
  rI (E n_X0_bit [.int si_0] h) (fun i2 h1 =>
  evR T_X0_mostAlike E 17 ([(0, .ref a_0), (1, .int i_1), (2, .int i_2), (3, .int i_3), (4, .int i_4), (5, .int (si_1 + i2)), (6, .int (i_6 + (1 : Int32)))], [], h1)) thr := by
  rw [evR_eq ok_T_X0_mostAlike.loc (ops := b_X0_mostAlike_57) rfl]; rfl
theorem e_X0_mostAlike_69 (E : AEn) (a_0 : Nat) (i_1 : Int32) (i_2 : Int32) (i_3 : Int32) (i_4 : Int32) (i_5 : Int32) (h : AH) : evR T_X0_mostAlike E 69 ([(0, .ref a_0), (1, .int i_1), (2, .int i_2), (3, .int i_3), (4, .int i_4), (5, .int i_5)], [], h) =
  evR T_X0_mostAlike E 5 ([(0, .ref a_0), (1, .int i_1), (2, .int i_2), (3, .int (if i_3 < i_5 then i_5 else i_3)), (4, .int (i_4 + (1 : Int32)))], [], h) := by
  rw [evR_eq ok_T_X0_mostAlike.loc (ops := b_X0_mostAlike_69) rfl]; rfl
theorem e_X0_mostAlike_82 (E : AEn) (i_3 : Int32) (h : AH) : evR T_X0_mostAlike E 82 ([(3, .int i_3)], [], h) =
  some (.inl (some (.int i_3)), h) := by
  rw [evR_eq ok_T_X0_mostAlike.loc (ops := b_X0_mostAlike_82) rfl]; rfl
theorem c_X0_mostAlike (d : Nat) (a_0 : Nat) (i_1 : Int32) (i_2 : Int32) (h : AH) : callR (d + 1) n_X0_mostAlike [.ref a_0, .int i_1, .int i_2] h =
  bif isO h a_0 0 then evR T_X0_mostAlike (callR d) 0 ([(0, .ref a_0), (1, .int i_1), (2, .int i_2)], [], h) else none := by
  rw [callR_succ, show aMTl[n_X0_mostAlike]? = some (T_X0_mostAlike, [0, 1, 2]) from rfl]; show (bif (isO h a_0 0) && true then _ else _) = _; rw [Bool.and_true]; rfl
theorem e_X0_seed_0 (E : AEn) (a_0 : Nat) (i_1 : Int32) (h : AH) : evR T_X0_seed E 0 ([(0, .ref a_0), (1, .int i_1)], [], h) =
  bif decide (0 ≤ i_1) then evR T_X0_seed E 6 ([(0, .ref a_0), (1, .int i_1)], [], h) else
  evR T_X0_seed E 4 ([], [], h) := by
  rw [evR_eq ok_T_X0_seed.loc (ops := b_X0_seed_0) rfl]; rfl
theorem e_X0_seed_4 (E : AEn)  (h : AH) : evR T_X0_seed E 4 ([], [], h) =
  some (.inl (some (.int (-1 : Int32))), h) := by
  rw [evR_eq ok_T_X0_seed.loc (ops := b_X0_seed_4) rfl]; rfl
theorem e_X0_seed_6 (E : AEn) (a_0 : Nat) (i_1 : Int32) (h : AH) : evR T_X0_seed E 6 ([(0, .ref a_0), (1, .int i_1)], [], h) =
  (rdI h a_0 0 11).bind fun i1 =>
  (wrF h a_0 0 11 (.int i_1)).bind fun h2 =>
  some (.inl (some (.int i1)), h2) := by
  rw [evR_eq ok_T_X0_seed.loc (ops := b_X0_seed_6) rfl]; rfl
theorem c_X0_seed (d : Nat) (a_0 : Nat) (i_1 : Int32) (h : AH) : callR (d + 1) n_X0_seed [.ref a_0, .int i_1] h =
  bif isO h a_0 0 then evR T_X0_seed (callR d) 0 ([(0, .ref a_0), (1, .int i_1)], [], h) else none := by
  rw [callR_succ, show aMTl[n_X0_seed]? = some (T_X0_seed, [0, 1]) from rfl]; show (bif (isO h a_0 0) && true then _ else _) = _; rw [Bool.and_true]; rfl
theorem e_X0_sparks_0 (E : AEn) (a_0 : Nat) (i_1 : Int32) (i_2 : Int32) (i_3 : Int32) (i_4 : Int32) (h : AH) : evR T_X0_sparks E 0 ([(0, .ref a_0), (1, .int i_1), (2, .int i_2), (3, .int i_3), (4, .int i_4)], [], h) =
  rI (E n_X0_isValley [.ref a_0] h) (fun i2 h1 =>
  bif i2 == 0 then evR T_X0_sparks E 54 ([], [], h1) else
  evR T_X0_sparks E 7 ([(0, .ref a_0), (1, .int i_1), (2, .int i_2), (3, .int i_3), (4, .int i_4)], [], h1)) thr := by
  rw [evR_eq ok_T_X0_sparks.loc (ops := b_X0_sparks_0) rfl]; rfl
theorem e_X0_sparks_7 (E : AEn) (a_0 : Nat) (i_1 : Int32) (i_2 : Int32) (i_3 : Int32) (i_4 : Int32) (h : AH) : evR T_X0_sparks E 7 ([(0, .ref a_0), (1, .int i_1), (2, .int i_2), (3, .int i_3), (4, .int i_4)], [], h) =
  rI (E n_X0_in [.long i_1.toInt64, .long (1 : Int64), .long (10 : Int64)] h) (fun i2 h1 =>
  bif i2 == 0 then evR T_X0_sparks E 54 ([], [], h1) else
  evR T_X0_sparks E 19 ([(0, .ref a_0), (1, .int i_1), (2, .int i_2), (3, .int i_3), (4, .int i_4)], [], h1)) thr := by
  rw [evR_eq ok_T_X0_sparks.loc (ops := b_X0_sparks_7) rfl]; rfl
theorem e_X0_sparks_19 (E : AEn) (a_0 : Nat) (i_1 : Int32) (i_2 : Int32) (i_3 : Int32) (i_4 : Int32) (h : AH) : evR T_X0_sparks E 19 ([(0, .ref a_0), (1, .int i_1), (2, .int i_2), (3, .int i_3), (4, .int i_4)], [], h) =
  rI (E n_X0_in [.long i_2.toInt64, .long (1 : Int64), .long (60 : Int64)] h) (fun i2 h1 =>
  bif i2 == 0 then evR T_X0_sparks E 54 ([], [], h1) else
  evR T_X0_sparks E 31 ([(0, .ref a_0), (1, .int i_1), (2, .int i_2), (3, .int i_3), (4, .int i_4)], [], h1)) thr := by
  rw [evR_eq ok_T_X0_sparks.loc (ops := b_X0_sparks_19) rfl]; rfl
theorem e_X0_sparks_31 (E : AEn) (a_0 : Nat) (i_1 : Int32) (i_2 : Int32) (i_3 : Int32) (i_4 : Int32) (h : AH) : evR T_X0_sparks E 31 ([(0, .ref a_0), (1, .int i_1), (2, .int i_2), (3, .int i_3), (4, .int i_4)], [], h) =
  rI (E n_X0_in [.long i_3.toInt64, .long (0 : Int64), .long (100 : Int64)] h) (fun i2 h1 =>
  bif i2 == 0 then evR T_X0_sparks E 54 ([], [], h1) else
  evR T_X0_sparks E 43 ([(0, .ref a_0), (1, .int i_1), (2, .int i_2), (3, .int i_3), (4, .int i_4)], [], h1)) thr := by
  rw [evR_eq ok_T_X0_sparks.loc (ops := b_X0_sparks_31) rfl]; rfl
theorem e_X0_sparks_43 (E : AEn) (a_0 : Nat) (i_1 : Int32) (i_2 : Int32) (i_3 : Int32) (i_4 : Int32) (h : AH) : evR T_X0_sparks E 43 ([(0, .ref a_0), (1, .int i_1), (2, .int i_2), (3, .int i_3), (4, .int i_4)], [], h) =
  rI (E n_X0_in [.long i_4.toInt64, .long (0 : Int64), .long (1 : Int64)] h) (fun i2 h1 =>
  bif !(i2 == 0) then evR T_X0_sparks E 56 ([(0, .ref a_0), (1, .int i_1), (2, .int i_2), (3, .int i_3), (4, .int i_4)], [], h1) else
  evR T_X0_sparks E 54 ([], [], h1)) thr := by
  rw [evR_eq ok_T_X0_sparks.loc (ops := b_X0_sparks_43) rfl]; rfl
theorem e_X0_sparks_54 (E : AEn)  (h : AH) : evR T_X0_sparks E 54 ([], [], h) =
  some (.inl (some (.int (-1 : Int32))), h) := by
  rw [evR_eq ok_T_X0_sparks.loc (ops := b_X0_sparks_54) rfl]; rfl
theorem e_X0_sparks_56 (E : AEn) (a_0 : Nat) (i_1 : Int32) (i_2 : Int32) (i_3 : Int32) (i_4 : Int32) (h : AH) : evR T_X0_sparks E 56 ([(0, .ref a_0), (1, .int i_1), (2, .int i_2), (3, .int i_3), (4, .int i_4)], [], h) =
  (rdI h a_0 0 11).bind fun i1 =>
  evR T_X0_sparks E 71 ([(0, .ref a_0), (1, .int i_1), (2, .int i_2), (3, .int i_3), (4, .int i_4), (5, .int i1), (6, .int (0 : Int32)), (7, .int (0 : Int32)), (8, .int (0 : Int32))], [], h) := by
  rw [evR_eq ok_T_X0_sparks.loc (ops := b_X0_sparks_56) rfl]; rfl
theorem e_X0_sparks_71 (E : AEn) (a_0 : Nat) (i_1 : Int32) (i_2 : Int32) (i_3 : Int32) (i_4 : Int32) (i_5 : Int32) (i_6 : Int32) (i_7 : Int32) (i_8 : Int32) (h : AH) : evR T_X0_sparks E 71 ([(0, .ref a_0), (1, .int i_1), (2, .int i_2), (3, .int i_3), (4, .int i_4), (5, .int i_5), (6, .int i_6), (7, .int i_7), (8, .int i_8)], [], h) =
  bif decide (i_1 ≤ i_8) then evR T_X0_sparks E 150 ([(0, .ref a_0), (4, .int i_4), (5, .int i_5), (6, .int i_6), (7, .int i_7)], [], h) else
  evR T_X0_sparks E 77 ([(0, .ref a_0), (1, .int i_1), (2, .int i_2), (3, .int i_3), (4, .int i_4), (5, .int i_5), (6, .int i_6), (7, .int i_7), (8, .int i_8)], [], h) := by
  rw [evR_eq ok_T_X0_sparks.loc (ops := b_X0_sparks_71) rfl]; rfl
theorem e_X0_sparks_77 (E : AEn) (a_0 : Nat) (i_1 : Int32) (i_2 : Int32) (i_3 : Int32) (i_4 : Int32) (i_5 : Int32) (i_6 : Int32) (i_7 : Int32) (i_8 : Int32) (h : AH) : evR T_X0_sparks E 77 ([(0, .ref a_0), (1, .int i_1), (2, .int i_2), (3, .int i_3), (4, .int i_4), (5, .int i_5), (6, .int i_6), (7, .int i_7), (8, .int i_8)], [], h) =
  (rdR h a_0 0 2).bind fun r1 =>
  (rdR h a_0 0 1).bind fun r2 =>
  rV (E n_X2_copyFrom [.ref r1, .ref r2] h) (fun h3 =>
  evR T_X0_sparks E 91 ([(0, .ref a_0), (1, .int i_1), (2, .int i_2), (3, .int i_3), (4, .int i_4), (5, .int i_5), (6, .int i_6), (7, .int i_7), (8, .int i_8), (9, .int (0 : Int32))], [], h3)) thr := by
  rw [evR_eq ok_T_X0_sparks.loc (ops := b_X0_sparks_77) rfl]; rfl
theorem e_X0_sparks_91 (E : AEn) (a_0 : Nat) (i_1 : Int32) (i_2 : Int32) (i_3 : Int32) (i_4 : Int32) (i_5 : Int32) (i_6 : Int32) (i_7 : Int32) (i_8 : Int32) (i_9 : Int32) (h : AH) : evR T_X0_sparks E 91 ([(0, .ref a_0), (1, .int i_1), (2, .int i_2), (3, .int i_3), (4, .int i_4), (5, .int i_5), (6, .int i_6), (7, .int i_7), (8, .int i_8), (9, .int i_9)], [], h) =
  bif decide (i_2 ≤ i_9) then evR T_X0_sparks E 117 ([(0, .ref a_0), (1, .int i_1), (2, .int i_2), (3, .int i_3), (4, .int i_4), (5, .int i_5), (6, .int i_6), (7, .int i_7), (8, .int i_8)], [], h) else
  evR T_X0_sparks E 97 ([(0, .ref a_0), (1, .int i_1), (2, .int i_2), (3, .int i_3), (4, .int i_4), (5, .int i_5), (6, .int i_6), (7, .int i_7), (8, .int i_8), (9, .int i_9)], [], h) := by
  rw [evR_eq ok_T_X0_sparks.loc (ops := b_X0_sparks_91) rfl]; rfl
theorem e_X0_sparks_97 (E : AEn) (a_0 : Nat) (i_1 : Int32) (i_2 : Int32) (i_3 : Int32) (i_4 : Int32) (i_5 : Int32) (i_6 : Int32) (i_7 : Int32) (i_8 : Int32) (i_9 : Int32) (h : AH) : evR T_X0_sparks E 97 ([(0, .ref a_0), (1, .int i_1), (2, .int i_2), (3, .int i_3), (4, .int i_4), (5, .int i_5), (6, .int i_6), (7, .int i_7), (8, .int i_8), (9, .int i_9)], [], h) =
  rV (E n_X0_drawsSpark [.ref a_0, .int i_3] h) (fun h1 =>
  (rdR h1 a_0 0 2).bind fun r2 =>
  rI (E n_X0_goesOn [.ref a_0, .ref r2] h1) (fun i4 h3 =>
  evR T_X0_sparks E 91 ([(0, .ref a_0), (1, .int i_1), (2, .int i_2), (3, .int i_3), (4, .int i_4), (5, .int i_5), (6, .int i_6), (7, .int i_7), (8, .int i_8), (9, .int (i_9 + (1 : Int32)))], [], h3)) thr) thr := by
  rw [evR_eq ok_T_X0_sparks.loc (ops := b_X0_sparks_97) rfl]; rfl
theorem e_X0_sparks_117 (E : AEn) (a_0 : Nat) (i_1 : Int32) (i_2 : Int32) (i_3 : Int32) (i_4 : Int32) (i_5 : Int32) (i_6 : Int32) (i_7 : Int32) (i_8 : Int32) (h : AH) : evR T_X0_sparks E 117 ([(0, .ref a_0), (1, .int i_1), (2, .int i_2), (3, .int i_3), (4, .int i_4), (5, .int i_5), (6, .int i_6), (7, .int i_7), (8, .int i_8)], [], h) =
  (rdR h a_0 0 2).bind fun r1 =>
  rI (E n_X2_left [.ref r1] h) (fun i3 h2 =>
  (rdR h2 a_0 0 2).bind fun r4 =>
  rI (E n_X2_fires [.ref r4] h2) (fun i6 h5 =>
  rI (E n_J14_bitCount [.int i6] h5) (fun i8 h7 =>
  evR T_X0_sparks E 71 ([(0, .ref a_0), (1, .int i_1), (2, .int i_2), (3, .int i_3), (4, .int i_4), (5, .int i_5), (6, .int (i_6 + i3)), (7, .int (i_7 + i8)), (8, .int (i_8 + (1 : Int32)))], [], h7)) thr) thr) thr := by
  rw [evR_eq ok_T_X0_sparks.loc (ops := b_X0_sparks_117) rfl]; rfl
theorem e_X0_sparks_150 (E : AEn) (a_0 : Nat) (i_4 : Int32) (i_5 : Int32) (i_6 : Int32) (i_7 : Int32) (h : AH) : evR T_X0_sparks E 150 ([(0, .ref a_0), (4, .int i_4), (5, .int i_5), (6, .int i_6), (7, .int i_7)], [], h) =
  (wrF h a_0 0 11 (.int i_5)).bind fun h1 =>
  bif !(i_4 == 0) then evR T_X0_sparks E 166 ([(7, .int i_7)], [], h1) else
  evR T_X0_sparks E 161 ([(6, .int i_6)], [], h1) := by
  rw [evR_eq ok_T_X0_sparks.loc (ops := b_X0_sparks_150) rfl]; rfl
theorem e_X0_sparks_161 (E : AEn) (i_6 : Int32) (h : AH) : evR T_X0_sparks E 161 ([(6, .int i_6)], [], h) =
  evR T_X0_sparks E 168 ([], [.int i_6], h) := by
  rw [evR_eq ok_T_X0_sparks.loc (ops := b_X0_sparks_161) rfl]; rfl
theorem e_X0_sparks_166 (E : AEn) (i_7 : Int32) (h : AH) : evR T_X0_sparks E 166 ([(7, .int i_7)], [], h) =
  evR T_X0_sparks E 168 ([], [.int i_7], h) := by
  rw [evR_eq ok_T_X0_sparks.loc (ops := b_X0_sparks_166) rfl]; rfl
theorem e_X0_sparks_168 (E : AEn) (si_0 : Int32) (h : AH) : evR T_X0_sparks E 168 ([], [.int si_0], h) =
  some (.inl (some (.int si_0)), h) := by
  rw [evR_eq ok_T_X0_sparks.loc (ops := b_X0_sparks_168) rfl]; rfl
theorem c_X0_sparks (d : Nat) (a_0 : Nat) (i_1 : Int32) (i_2 : Int32) (i_3 : Int32) (i_4 : Int32) (h : AH) : callR (d + 1) n_X0_sparks [.ref a_0, .int i_1, .int i_2, .int i_3, .int i_4] h =
  bif isO h a_0 0 then evR T_X0_sparks (callR d) 0 ([(0, .ref a_0), (1, .int i_1), (2, .int i_2), (3, .int i_3), (4, .int i_4)], [], h) else none := by
  rw [callR_succ, show aMTl[n_X0_sparks]? = some (T_X0_sparks, [0, 1, 2, 3, 4]) from rfl]; show (bif (isO h a_0 0) && true then _ else _) = _; rw [Bool.and_true]; rfl
theorem e_X0_drawsSpark_0 (E : AEn) (a_0 : Nat) (i_1 : Int32) (h : AH) : evR T_X0_drawsSpark E 0 ([(0, .ref a_0), (1, .int i_1)], [], h) =
  rI (E n_X0_draws [.ref a_0, .int (100 : Int32)] h) (fun i2 h1 =>
  bif decide (i_1 ≤ i2) then evR T_X0_drawsSpark E 20 ([], [], h1) else
  evR T_X0_drawsSpark E 10 ([(0, .ref a_0)], [], h1)) thr := by
  rw [evR_eq ok_T_X0_drawsSpark.loc (ops := b_X0_drawsSpark_0) rfl]; rfl
theorem e_X0_drawsSpark_10 (E : AEn) (a_0 : Nat) (h : AH) : evR T_X0_drawsSpark E 10 ([(0, .ref a_0)], [], h) =
  (rdR h a_0 0 0).bind fun r1 =>
  rI (E n_X1_houses [.ref r1] h) (fun i3 h2 =>
  bif !(i3 == 0) then evR T_X0_drawsSpark E 21 ([(0, .ref a_0)], [], h2) else
  evR T_X0_drawsSpark E 20 ([], [], h2)) thr := by
  rw [evR_eq ok_T_X0_drawsSpark.loc (ops := b_X0_drawsSpark_10) rfl]; rfl
theorem e_X0_drawsSpark_20 (E : AEn)  (h : AH) : evR T_X0_drawsSpark E 20 ([], [], h) =
  some (.inl none, h) := by
  rw [evR_eq ok_T_X0_drawsSpark.loc (ops := b_X0_drawsSpark_20) rfl]; rfl
theorem e_X0_drawsSpark_21 (E : AEn) (a_0 : Nat) (h : AH) : evR T_X0_drawsSpark E 21 ([(0, .ref a_0)], [], h) =
  (rdR h a_0 0 0).bind fun r1 =>
  rI (E n_X1_houses [.ref r1] h) (fun i3 h2 =>
  rI (E n_X0_draws [.ref a_0, .int i3] h2) (fun i5 h4 =>
  (rdR h4 a_0 0 2).bind fun r6 =>
  (rdR h4 r6 2 0).bind fun r7 =>
  (ldI h4 r7 0 i5).bind fun i8 =>
  bif decide (i8 ≤ 0) then evR T_X0_drawsSpark E 67 ([], [], h4) else
  evR T_X0_drawsSpark E 45 ([(0, .ref a_0), (2, .int i5)], [], h4)) thr) thr := by
  rw [evR_eq ok_T_X0_drawsSpark.loc (ops := b_X0_drawsSpark_21) rfl]; rfl
theorem e_X0_drawsSpark_45 (E : AEn) (a_0 : Nat) (i_2 : Int32) (h : AH) : evR T_X0_drawsSpark E 45 ([(0, .ref a_0), (2, .int i_2)], [], h) =
  (rdR h a_0 0 2).bind fun r1 =>
  (rdR h r1 2 1).bind fun r2 =>
  (ldI h r2 0 i_2).bind fun i3 =>
  bif !(i3 == 0) then evR T_X0_drawsSpark E 67 ([], [], h) else
  evR T_X0_drawsSpark E 57 ([(0, .ref a_0), (2, .int i_2)], [], h) := by
  rw [evR_eq ok_T_X0_drawsSpark.loc (ops := b_X0_drawsSpark_45) rfl]; rfl
theorem e_X0_drawsSpark_57 (E : AEn) (a_0 : Nat) (i_2 : Int32) (h : AH) : evR T_X0_drawsSpark E 57 ([(0, .ref a_0), (2, .int i_2)], [], h) =
  (rdR h a_0 0 2).bind fun r1 =>
  (rdR h r1 2 1).bind fun r2 =>
  (stI h r2 0 i_2 (1 : Int32)).bind fun h3 =>
  evR T_X0_drawsSpark E 67 ([], [], h3) := by
  rw [evR_eq ok_T_X0_drawsSpark.loc (ops := b_X0_drawsSpark_57) rfl]; rfl
theorem e_X0_drawsSpark_67 (E : AEn)  (h : AH) : evR T_X0_drawsSpark E 67 ([], [], h) =
  some (.inl none, h) := by
  rw [evR_eq ok_T_X0_drawsSpark.loc (ops := b_X0_drawsSpark_67) rfl]; rfl
theorem c_X0_drawsSpark (d : Nat) (a_0 : Nat) (i_1 : Int32) (h : AH) : callR (d + 1) n_X0_drawsSpark [.ref a_0, .int i_1] h =
  bif isO h a_0 0 then evR T_X0_drawsSpark (callR d) 0 ([(0, .ref a_0), (1, .int i_1)], [], h) else none := by
  rw [callR_succ, show aMTl[n_X0_drawsSpark]? = some (T_X0_drawsSpark, [0, 1]) from rfl]; show (bif (isO h a_0 0) && true then _ else _) = _; rw [Bool.and_true]; rfl
theorem e_X0_draws_0 (E : AEn) (a_0 : Nat) (i_1 : Int32) (h : AH) : evR T_X0_draws E 0 ([(0, .ref a_0), (1, .int i_1)], [], h) =
  (rdI h a_0 0 11).bind fun i1 =>
  (wrF h a_0 0 11 (.int (((i1.toInt64 * (1103515245 : Int64)) + (12345 : Int64)) - ((i1.toInt64 * (1103515245 : Int64)) + (12345 : Int64)) / (2147483648 : Int64) * (2147483648 : Int64)).toInt32)).bind fun h2 =>
  (rdI h2 a_0 0 11).bind fun i3 =>
  (nzI i_1).bind fun _ =>
  some (.inl (some (.int ((i3 / (65536 : Int32)) - (i3 / (65536 : Int32)) / i_1 * i_1))), h2) := by
  rw [evR_eq ok_T_X0_draws.loc (ops := b_X0_draws_0) rfl]; rfl
theorem c_X0_draws (d : Nat) (a_0 : Nat) (i_1 : Int32) (h : AH) : callR (d + 1) n_X0_draws [.ref a_0, .int i_1] h =
  bif isO h a_0 0 then evR T_X0_draws (callR d) 0 ([(0, .ref a_0), (1, .int i_1)], [], h) else none := by
  rw [callR_succ, show aMTl[n_X0_draws]? = some (T_X0_draws, [0, 1]) from rfl]; show (bif (isO h a_0 0) && true then _ else _) = _; rw [Bool.and_true]; rfl
theorem e_X0_count_0 (E : AEn) (a_0 : Nat) (i_1 : Int32) (h : AH) : evR T_X0_count E 0 ([(0, .ref a_0), (1, .int i_1)], [], h) =
  bif i_1 == (0 : Int32) then evR T_X0_count E 80 ([(0, .ref a_0)], [], h) else
  bif i_1 == (1 : Int32) then evR T_X0_count E 88 ([(0, .ref a_0)], [], h) else
  bif i_1 == (2 : Int32) then evR T_X0_count E 96 ([(0, .ref a_0)], [], h) else
  bif i_1 == (3 : Int32) then evR T_X0_count E 104 ([(0, .ref a_0)], [], h) else
  bif i_1 == (4 : Int32) then evR T_X0_count E 112 ([(0, .ref a_0)], [], h) else
  bif i_1 == (5 : Int32) then evR T_X0_count E 117 ([(0, .ref a_0)], [], h) else
  bif i_1 == (6 : Int32) then evR T_X0_count E 125 ([(0, .ref a_0)], [], h) else
  bif i_1 == (7 : Int32) then evR T_X0_count E 133 ([(0, .ref a_0)], [], h) else
  bif i_1 == (8 : Int32) then evR T_X0_count E 155 ([(0, .ref a_0)], [], h) else
  bif i_1 == (9 : Int32) then evR T_X0_count E 163 ([(0, .ref a_0)], [], h) else
  bif i_1 == (10 : Int32) then evR T_X0_count E 171 ([(0, .ref a_0)], [], h) else
  bif i_1 == (11 : Int32) then evR T_X0_count E 179 ([(0, .ref a_0)], [], h) else
  bif i_1 == (12 : Int32) then evR T_X0_count E 187 ([(0, .ref a_0)], [], h) else
  bif i_1 == (13 : Int32) then evR T_X0_count E 192 ([(0, .ref a_0)], [], h) else
  bif i_1 == (14 : Int32) then evR T_X0_count E 197 ([(0, .ref a_0)], [], h) else
  bif i_1 == (15 : Int32) then evR T_X0_count E 202 ([(0, .ref a_0)], [], h) else
  evR T_X0_count E 207 ([], [], h) := by
  rw [evR_eq ok_T_X0_count.loc (ops := b_X0_count_0) rfl]; rfl
theorem e_X0_count_80 (E : AEn) (a_0 : Nat) (h : AH) : evR T_X0_count E 80 ([(0, .ref a_0)], [], h) =
  (rdR h a_0 0 0).bind fun r1 =>
  (rdI h r1 1 3).bind fun i2 =>
  some (.inl (some (.int i2)), h) := by
  rw [evR_eq ok_T_X0_count.loc (ops := b_X0_count_80) rfl]; rfl
theorem e_X0_count_88 (E : AEn) (a_0 : Nat) (h : AH) : evR T_X0_count E 88 ([(0, .ref a_0)], [], h) =
  (rdR h a_0 0 0).bind fun r1 =>
  (rdI h r1 1 4).bind fun i2 =>
  some (.inl (some (.int i2)), h) := by
  rw [evR_eq ok_T_X0_count.loc (ops := b_X0_count_88) rfl]; rfl
theorem e_X0_count_96 (E : AEn) (a_0 : Nat) (h : AH) : evR T_X0_count E 96 ([(0, .ref a_0)], [], h) =
  (rdR h a_0 0 0).bind fun r1 =>
  rI (E n_X1_houses [.ref r1] h) (fun i3 h2 =>
  some (.inl (some (.int i3)), h2)) thr := by
  rw [evR_eq ok_T_X0_count.loc (ops := b_X0_count_96) rfl]; rfl
theorem e_X0_count_104 (E : AEn) (a_0 : Nat) (h : AH) : evR T_X0_count E 104 ([(0, .ref a_0)], [], h) =
  (rdR h a_0 0 3).bind fun r1 =>
  rI (E n_J2_size [.ref r1] h) (fun i3 h2 =>
  some (.inl (some (.int i3)), h2)) thr := by
  rw [evR_eq ok_T_X0_count.loc (ops := b_X0_count_104) rfl]; rfl
theorem e_X0_count_112 (E : AEn) (a_0 : Nat) (h : AH) : evR T_X0_count E 112 ([(0, .ref a_0)], [], h) =
  (rdI h a_0 0 4).bind fun i1 =>
  some (.inl (some (.int i1)), h) := by
  rw [evR_eq ok_T_X0_count.loc (ops := b_X0_count_112) rfl]; rfl
theorem e_X0_count_117 (E : AEn) (a_0 : Nat) (h : AH) : evR T_X0_count E 117 ([(0, .ref a_0)], [], h) =
  (rdR h a_0 0 1).bind fun r1 =>
  (rdI h r1 2 9).bind fun i2 =>
  some (.inl (some (.int i2)), h) := by
  rw [evR_eq ok_T_X0_count.loc (ops := b_X0_count_117) rfl]; rfl
theorem e_X0_count_125 (E : AEn) (a_0 : Nat) (h : AH) : evR T_X0_count E 125 ([(0, .ref a_0)], [], h) =
  (rdR h a_0 0 1).bind fun r1 =>
  (rdI h r1 2 6).bind fun i2 =>
  some (.inl (some (.int i2)), h) := by
  rw [evR_eq ok_T_X0_count.loc (ops := b_X0_count_125) rfl]; rfl
theorem e_X0_count_133 (E : AEn) (a_0 : Nat) (h : AH) : evR T_X0_count E 133 ([(0, .ref a_0)], [], h) =
  (rdR h a_0 0 1).bind fun r1 =>
  rI (E n_X2_isAway [.ref r1] h) (fun i3 h2 =>
  bif i3 == 0 then evR T_X0_count E 153 ([], [], h2) else
  evR T_X0_count E 143 ([(0, .ref a_0)], [], h2)) thr := by
  rw [evR_eq ok_T_X0_count.loc (ops := b_X0_count_133) rfl]; rfl
theorem e_X0_count_143 (E : AEn) (a_0 : Nat) (h : AH) : evR T_X0_count E 143 ([(0, .ref a_0)], [], h) =
  (rdR h a_0 0 1).bind fun r1 =>
  (rdI h r1 2 7).bind fun i2 =>
  evR T_X0_count E 154 ([], [.int i2], h) := by
  rw [evR_eq ok_T_X0_count.loc (ops := b_X0_count_143) rfl]; rfl
theorem e_X0_count_153 (E : AEn)  (h : AH) : evR T_X0_count E 153 ([], [], h) =
  evR T_X0_count E 154 ([], [.int (-1 : Int32)], h) := by
  rw [evR_eq ok_T_X0_count.loc (ops := b_X0_count_153) rfl]; rfl
theorem e_X0_count_154 (E : AEn) (si_0 : Int32) (h : AH) : evR T_X0_count E 154 ([], [.int si_0], h) =
  some (.inl (some (.int si_0)), h) := by
  rw [evR_eq ok_T_X0_count.loc (ops := b_X0_count_154) rfl]; rfl
theorem e_X0_count_155 (E : AEn) (a_0 : Nat) (h : AH) : evR T_X0_count E 155 ([(0, .ref a_0)], [], h) =
  (rdR h a_0 0 1).bind fun r1 =>
  (rdI h r1 2 8).bind fun i2 =>
  some (.inl (some (.int i2)), h) := by
  rw [evR_eq ok_T_X0_count.loc (ops := b_X0_count_155) rfl]; rfl
theorem e_X0_count_163 (E : AEn) (a_0 : Nat) (h : AH) : evR T_X0_count E 163 ([(0, .ref a_0)], [], h) =
  (rdR h a_0 0 1).bind fun r1 =>
  rI (E n_X2_fires [.ref r1] h) (fun i3 h2 =>
  some (.inl (some (.int i3)), h2)) thr := by
  rw [evR_eq ok_T_X0_count.loc (ops := b_X0_count_163) rfl]; rfl
theorem e_X0_count_171 (E : AEn) (a_0 : Nat) (h : AH) : evR T_X0_count E 171 ([(0, .ref a_0)], [], h) =
  (rdR h a_0 0 1).bind fun r1 =>
  rI (E n_X2_left [.ref r1] h) (fun i3 h2 =>
  some (.inl (some (.int i3)), h2)) thr := by
  rw [evR_eq ok_T_X0_count.loc (ops := b_X0_count_171) rfl]; rfl
theorem e_X0_count_179 (E : AEn) (a_0 : Nat) (h : AH) : evR T_X0_count E 179 ([(0, .ref a_0)], [], h) =
  (rdR h a_0 0 1).bind fun r1 =>
  rI (E n_X2_gone [.ref r1] h) (fun i3 h2 =>
  some (.inl (some (.int i3)), h2)) thr := by
  rw [evR_eq ok_T_X0_count.loc (ops := b_X0_count_179) rfl]; rfl
theorem e_X0_count_187 (E : AEn) (a_0 : Nat) (h : AH) : evR T_X0_count E 187 ([(0, .ref a_0)], [], h) =
  (rdI h a_0 0 10).bind fun i1 =>
  some (.inl (some (.int i1)), h) := by
  rw [evR_eq ok_T_X0_count.loc (ops := b_X0_count_187) rfl]; rfl
theorem e_X0_count_192 (E : AEn) (a_0 : Nat) (h : AH) : evR T_X0_count E 192 ([(0, .ref a_0)], [], h) =
  (rdI h a_0 0 20).bind fun i1 =>
  some (.inl (some (.int i1)), h) := by
  rw [evR_eq ok_T_X0_count.loc (ops := b_X0_count_192) rfl]; rfl
theorem e_X0_count_197 (E : AEn) (a_0 : Nat) (h : AH) : evR T_X0_count E 197 ([(0, .ref a_0)], [], h) =
  (rdI h a_0 0 11).bind fun i1 =>
  some (.inl (some (.int i1)), h) := by
  rw [evR_eq ok_T_X0_count.loc (ops := b_X0_count_197) rfl]; rfl
theorem e_X0_count_202 (E : AEn) (a_0 : Nat) (h : AH) : evR T_X0_count E 202 ([(0, .ref a_0)], [], h) =
  (rdI h a_0 0 7).bind fun i1 =>
  some (.inl (some (.int i1)), h) := by
  rw [evR_eq ok_T_X0_count.loc (ops := b_X0_count_202) rfl]; rfl
theorem e_X0_count_207 (E : AEn)  (h : AH) : evR T_X0_count E 207 ([], [], h) =
  some (.inl (some (.int (-1 : Int32))), h) := by
  rw [evR_eq ok_T_X0_count.loc (ops := b_X0_count_207) rfl]; rfl
theorem c_X0_count (d : Nat) (a_0 : Nat) (i_1 : Int32) (h : AH) : callR (d + 1) n_X0_count [.ref a_0, .int i_1] h =
  bif isO h a_0 0 then evR T_X0_count (callR d) 0 ([(0, .ref a_0), (1, .int i_1)], [], h) else none := by
  rw [callR_succ, show aMTl[n_X0_count]? = some (T_X0_count, [0, 1]) from rfl]; show (bif (isO h a_0 0) && true then _ else _) = _; rw [Bool.and_true]; rfl
theorem e_X0_image_0 (E : AEn) (a_0 : Nat) (i_1 : Int32) (h : AH) : evR T_X0_image E 0 ([(0, .ref a_0), (1, .int i_1)], [], h) =
  rI (E n_X0_in [.long i_1.toInt64, .long (0 : Int64), .long (3 : Int64)] h) (fun i2 h1 =>
  bif !(i2 == 0) then evR T_X0_image E 14 ([(0, .ref a_0), (1, .int i_1)], [], h1) else
  evR T_X0_image E 12 ([], [], h1)) thr := by
  rw [evR_eq ok_T_X0_image.loc (ops := b_X0_image_0) rfl]; rfl
theorem e_X0_image_12 (E : AEn)  (h : AH) : evR T_X0_image E 12 ([], [], h) =
  some (.inl (some (.int (-1 : Int32))), h) := by
  rw [evR_eq ok_T_X0_image.loc (ops := b_X0_image_12) rfl]; rfl
theorem e_X0_image_14 (E : AEn) (a_0 : Nat) (i_1 : Int32) (h : AH) : evR T_X0_image E 14 ([(0, .ref a_0), (1, .int i_1)], [], h) =
  (rdR h a_0 0 27).bind fun r1 =>
  (ldQ h r1 6 i_1).bind fun q2 =>
  (nlV (va_rf q2)).bind fun b3 => bif !b3 then evR T_X0_image E 37 ([(0, .ref a_0), (1, .int i_1)], [], h) else
  evR T_X0_image E 23 ([(0, .ref a_0), (1, .int i_1)], [], h) := by
  rw [evR_eq ok_T_X0_image.loc (ops := b_X0_image_14) rfl]; rfl
theorem e_X0_image_23 (E : AEn) (a_0 : Nat) (i_1 : Int32) (h : AH) : evR T_X0_image E 23 ([(0, .ref a_0), (1, .int i_1)], [], h) =
  (rdR h a_0 0 27).bind fun r1 =>
  rV (E n_X17_init [.ref h.1, .ref a_0] (hpush h 8 (.inl (13, dF13)))) (fun h2 =>
  (stR h2 r1 6 i_1 h.1).bind fun h3 =>
  evR T_X0_image E 37 ([(0, .ref a_0), (1, .int i_1)], [], h3)) thr := by
  rw [evR_eq ok_T_X0_image.loc (ops := b_X0_image_23) rfl]; rfl
theorem e_X0_image_37 (E : AEn) (a_0 : Nat) (i_1 : Int32) (h : AH) : evR T_X0_image E 37 ([(0, .ref a_0), (1, .int i_1)], [], h) =
  (rdR h a_0 0 27).bind fun r1 =>
  (ldR h r1 6 i_1).bind fun r2 =>
  rV (E n_X17_keep [.ref r2] h) (fun h3 =>
  (rdR h3 a_0 0 1).bind fun r4 =>
  (rdI h3 r4 2 9).bind fun i5 =>
  some (.inl (some (.int i5)), h3)) thr := by
  rw [evR_eq ok_T_X0_image.loc (ops := b_X0_image_37) rfl]; rfl
theorem c_X0_image (d : Nat) (a_0 : Nat) (i_1 : Int32) (h : AH) : callR (d + 1) n_X0_image [.ref a_0, .int i_1] h =
  bif isO h a_0 0 then evR T_X0_image (callR d) 0 ([(0, .ref a_0), (1, .int i_1)], [], h) else none := by
  rw [callR_succ, show aMTl[n_X0_image]? = some (T_X0_image, [0, 1]) from rfl]; show (bif (isO h a_0 0) && true then _ else _) = _; rw [Bool.and_true]; rfl
theorem e_X0_back_0 (E : AEn) (a_0 : Nat) (i_1 : Int32) (h : AH) : evR T_X0_back E 0 ([(0, .ref a_0), (1, .int i_1)], [], h) =
  rI (E n_X0_in [.long i_1.toInt64, .long (0 : Int64), .long (3 : Int64)] h) (fun i2 h1 =>
  bif i2 == 0 then evR T_X0_back E 21 ([], [], h1) else
  evR T_X0_back E 12 ([(0, .ref a_0), (1, .int i_1)], [], h1)) thr := by
  rw [evR_eq ok_T_X0_back.loc (ops := b_X0_back_0) rfl]; rfl
theorem e_X0_back_12 (E : AEn) (a_0 : Nat) (i_1 : Int32) (h : AH) : evR T_X0_back E 12 ([(0, .ref a_0), (1, .int i_1)], [], h) =
  (rdR h a_0 0 27).bind fun r1 =>
  (ldQ h r1 6 i_1).bind fun q2 =>
  (nlV (va_rf q2)).bind fun b3 => bif !b3 then evR T_X0_back E 23 ([(0, .ref a_0), (1, .int i_1)], [], h) else
  evR T_X0_back E 21 ([], [], h) := by
  rw [evR_eq ok_T_X0_back.loc (ops := b_X0_back_12) rfl]; rfl
theorem e_X0_back_21 (E : AEn)  (h : AH) : evR T_X0_back E 21 ([], [], h) =
  some (.inl (some (.int (-1 : Int32))), h) := by
  rw [evR_eq ok_T_X0_back.loc (ops := b_X0_back_21) rfl]; rfl
theorem e_X0_back_23 (E : AEn) (a_0 : Nat) (i_1 : Int32) (h : AH) : evR T_X0_back E 23 ([(0, .ref a_0), (1, .int i_1)], [], h) =
  (rdR h a_0 0 27).bind fun r1 =>
  (ldR h r1 6 i_1).bind fun r2 =>
  rV (E n_X17_back [.ref r2] h) (fun h3 =>
  (rdR h3 a_0 0 1).bind fun r4 =>
  (rdI h3 r4 2 9).bind fun i5 =>
  some (.inl (some (.int i5)), h3)) thr := by
  rw [evR_eq ok_T_X0_back.loc (ops := b_X0_back_23) rfl]; rfl
theorem c_X0_back (d : Nat) (a_0 : Nat) (i_1 : Int32) (h : AH) : callR (d + 1) n_X0_back [.ref a_0, .int i_1] h =
  bif isO h a_0 0 then evR T_X0_back (callR d) 0 ([(0, .ref a_0), (1, .int i_1)], [], h) else none := by
  rw [callR_succ, show aMTl[n_X0_back]? = some (T_X0_back, [0, 1]) from rfl]; show (bif (isO h a_0 0) && true then _ else _) = _; rw [Bool.and_true]; rfl
