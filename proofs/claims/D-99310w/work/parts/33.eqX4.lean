set_option maxRecDepth 100000
theorem e_X4_init_0 (E : AEn) (a_0 : Nat) (h : AH) : evR T_X4_init E 0 ([(0, .ref a_0)], [], h) =
  (wrF (hpush h 400 (.inr (1, 400, .inl (fun _ => 0)))) a_0 4 0 (.ref h.1)).bind fun h1 =>
  (wrF (hpush h1 2400 (.inr (0, 2400, .inl (fun _ => 0)))) a_0 4 3 (.ref h1.1)).bind fun h2 =>
  (wrF (hpush h2 7 (.inr (0, 7, .inl (fun _ => 0)))) a_0 4 4 (.ref h2.1)).bind fun h3 =>
  (wrF (hpush h3 288 (.inr (0, 288, .inl (fun _ => 0)))) a_0 4 5 (.ref h3.1)).bind fun h4 =>
  (wrF (hpush h4 6 (.inr (0, 6, .inl (fun _ => 0)))) a_0 4 6 (.ref h4.1)).bind fun h5 =>
  (wrF (hpush h5 111 (.inr (0, 111, .inl (fun _ => 0)))) a_0 4 7 (.ref h5.1)).bind fun h6 =>
  (wrF (hpush h6 400 (.inr (0, 400, .inl (fun _ => 0)))) a_0 4 15 (.ref h6.1)).bind fun h7 =>
  (wrF (hpush h7 64 (.inr (2, 64, .inr (.inl (fun _ => 0))))) a_0 4 18 (.ref h7.1)).bind fun h8 =>
  (wrF (hpush h8 11 (.inr (2, 11, .inr (.inl (fun _ => 0))))) a_0 4 20 (.ref h8.1)).bind fun h9 =>
  (wrF (hpush h9 132 (.inr (0, 132, .inl (fun _ => 0)))) a_0 4 21 (.ref h9.1)).bind fun h10 =>
  (wrF h10 a_0 4 22 (.int (-1 : Int32))).bind fun h11 =>
  (wrF (hpush h11 6 (.inr (0, 6, .inl (fun _ => 0)))) a_0 4 24 (.ref h11.1)).bind fun h12 =>
  (wrF h12 a_0 4 25 (.int (-1 : Int32))).bind fun h13 =>
  (wrF (hpush h13 560 (.inr (0, 560, .inl (fun _ => 0)))) a_0 4 30 (.ref h13.1)).bind fun h14 =>
  (wrF (hpush h14 28 (.inr (0, 28, .inl (fun _ => 0)))) a_0 4 32 (.ref h14.1)).bind fun h15 =>
  (wrF (hpush h15 6 (.inr (0, 6, .inl (fun _ => 0)))) a_0 4 33 (.ref h15.1)).bind fun h16 =>
  (wrF (hpush h16 50 (.inr (0, 50, .inl (fun _ => 0)))) a_0 4 35 (.ref h16.1)).bind fun h17 =>
  (wrF (hpush h17 7 (.inr (3, 7, .inl (fun _ => 0)))) a_0 4 36 (.ref h17.1)).bind fun h18 =>
  (wrF (hpush h18 427 (.inr (0, 427, .inl (fun _ => 0)))) a_0 4 37 (.ref h18.1)).bind fun h19 =>
  (wrF (hpush h19 528 (.inr (0, 528, .inl (fun _ => 0)))) a_0 4 39 (.ref h19.1)).bind fun h20 =>
  (wrF (hpush h20 4 (.inr (0, 4, .inl (fun _ => 0)))) a_0 4 40 (.ref h20.1)).bind fun h21 =>
  (wrF (hpush h21 4 (.inr (0, 4, .inl (fun _ => 0)))) a_0 4 41 (.ref h21.1)).bind fun h22 =>
  (wrF (hpush h22 4 (.inr (3, 4, .inl (fun _ => 0)))) a_0 4 42 (.ref h22.1)).bind fun h23 =>
  some (.inl none, h23) := by
  rw [evR_eq ok_T_X4_init.loc (ops := b_X4_init_0) rfl]; rfl
theorem c_X4_init (d : Nat) (a_0 : Nat) (h : AH) : callR (d + 1) n_X4_init [.ref a_0] h =
  bif isO h a_0 4 then evR T_X4_init (callR d) 0 ([(0, .ref a_0)], [], h) else none := by
  rw [callR_succ, show aMTl[n_X4_init]? = some (T_X4_init, [0]) from rfl]; show (bif (isO h a_0 4) && true then _ else _) = _; rw [Bool.and_true]; rfl
theorem e_X4_feed_0 (E : AEn) (a_0 : Nat) (i_1 : Int32) (i_2 : Int32) (i_3 : Int32) (i_4 : Int32) (i_5 : Int32) (h : AH) : evR T_X4_feed E 0 ([(0, .ref a_0), (1, .int i_1), (2, .int i_2), (3, .int i_3), (4, .int i_4), (5, .int i_5)], [], h) =
  (rdI h a_0 4 1).bind fun i1 =>
  bif decide ((i1 + (20 : Int32)) ≤ (400 : Int32)) then evR T_X4_feed E 15 ([(0, .ref a_0), (1, .int i_1), (2, .int i_2), (3, .int i_3), (4, .int i_4), (5, .int i_5)], [], h) else
  evR T_X4_feed E 13 ([], [], h) := by
  rw [evR_eq ok_T_X4_feed.loc (ops := b_X4_feed_0) rfl]; rfl
theorem e_X4_feed_13 (E : AEn)  (h : AH) : evR T_X4_feed E 13 ([], [], h) =
  some (.inl (some (.int (-1 : Int32))), h) := by
  rw [evR_eq ok_T_X4_feed.loc (ops := b_X4_feed_13) rfl]; rfl
theorem e_X4_feed_15 (E : AEn) (a_0 : Nat) (i_1 : Int32) (i_2 : Int32) (i_3 : Int32) (i_4 : Int32) (i_5 : Int32) (h : AH) : evR T_X4_feed E 15 ([(0, .ref a_0), (1, .int i_1), (2, .int i_2), (3, .int i_3), (4, .int i_4), (5, .int i_5)], [], h) =
  rV (E n_X4_four [.ref a_0, .int i_1] h) (fun h1 =>
  rV (E n_X4_four [.ref a_0, .int i_2] h1) (fun h2 =>
  rV (E n_X4_four [.ref a_0, .int i_3] h2) (fun h3 =>
  rV (E n_X4_four [.ref a_0, .int i_4] h3) (fun h4 =>
  rV (E n_X4_four [.ref a_0, .int i_5] h4) (fun h5 =>
  (rdI h5 a_0 4 1).bind fun i6 =>
  some (.inl (some (.int i6)), h5)) thr) thr) thr) thr) thr := by
  rw [evR_eq ok_T_X4_feed.loc (ops := b_X4_feed_15) rfl]; rfl
theorem c_X4_feed (d : Nat) (a_0 : Nat) (i_1 : Int32) (i_2 : Int32) (i_3 : Int32) (i_4 : Int32) (i_5 : Int32) (h : AH) : callR (d + 1) n_X4_feed [.ref a_0, .int i_1, .int i_2, .int i_3, .int i_4, .int i_5] h =
  bif isO h a_0 4 then evR T_X4_feed (callR d) 0 ([(0, .ref a_0), (1, .int i_1), (2, .int i_2), (3, .int i_3), (4, .int i_4), (5, .int i_5)], [], h) else none := by
  rw [callR_succ, show aMTl[n_X4_feed]? = some (T_X4_feed, [0, 1, 2, 3, 4, 5]) from rfl]; show (bif (isO h a_0 4) && true then _ else _) = _; rw [Bool.and_true]; rfl
theorem e_X4_four_0 (E : AEn) (a_0 : Nat) (i_1 : Int32) (h : AH) : evR T_X4_four E 0 ([(0, .ref a_0), (1, .int i_1)], [], h) =
  evR T_X4_four E 3 ([(0, .ref a_0), (1, .int i_1), (2, .int (24 : Int32))], [], h) := by
  rw [evR_eq ok_T_X4_four.loc (ops := b_X4_four_0) rfl]; rfl
theorem e_X4_four_3 (E : AEn) (a_0 : Nat) (i_1 : Int32) (i_2 : Int32) (h : AH) : evR T_X4_four E 3 ([(0, .ref a_0), (1, .int i_1), (2, .int i_2)], [], h) =
  bif decide (i_2 < 0) then evR T_X4_four E 36 ([], [], h) else
  evR T_X4_four E 7 ([(0, .ref a_0), (1, .int i_1), (2, .int i_2)], [], h) := by
  rw [evR_eq ok_T_X4_four.loc (ops := b_X4_four_3) rfl]; rfl
theorem e_X4_four_7 (E : AEn) (a_0 : Nat) (i_1 : Int32) (i_2 : Int32) (h : AH) : evR T_X4_four E 7 ([(0, .ref a_0), (1, .int i_1), (2, .int i_2)], [], h) =
  (rdR h a_0 4 0).bind fun r1 =>
  (rdI h a_0 4 1).bind fun i2 =>
  (stI h r1 1 i2 (vp_nar .byte (i_1 >>> (i_2 &&& 31)).toInt8.toInt32)).bind fun h3 =>
  (rdI h3 a_0 4 1).bind fun i4 =>
  (wrF h3 a_0 4 1 (.int (i4 + (1 : Int32)))).bind fun h5 =>
  evR T_X4_four E 3 ([(0, .ref a_0), (1, .int i_1), (2, .int (i_2 + (-8 : Int32)))], [], h5) := by
  rw [evR_eq ok_T_X4_four.loc (ops := b_X4_four_7) rfl]; rfl
theorem e_X4_four_36 (E : AEn)  (h : AH) : evR T_X4_four E 36 ([], [], h) =
  some (.inl none, h) := by
  rw [evR_eq ok_T_X4_four.loc (ops := b_X4_four_36) rfl]; rfl
theorem c_X4_four (d : Nat) (a_0 : Nat) (i_1 : Int32) (h : AH) : callR (d + 1) n_X4_four [.ref a_0, .int i_1] h =
  bif isO h a_0 4 then evR T_X4_four (callR d) 0 ([(0, .ref a_0), (1, .int i_1)], [], h) else none := by
  rw [callR_succ, show aMTl[n_X4_four]? = some (T_X4_four, [0, 1]) from rfl]; show (bif (isO h a_0 4) && true then _ else _) = _; rw [Bool.and_true]; rfl
theorem e_X4_end_0 (E : AEn) (a_0 : Nat) (i_1 : Int32) (h : AH) : evR T_X4_end E 0 ([(0, .ref a_0), (1, .int i_1)], [], h) =
  bif decide (i_1 < 0) then evR T_X4_end E 12 ([], [], h) else
  evR T_X4_end E 4 ([(0, .ref a_0), (1, .int i_1)], [], h) := by
  rw [evR_eq ok_T_X4_end.loc (ops := b_X4_end_0) rfl]; rfl
theorem e_X4_end_4 (E : AEn) (a_0 : Nat) (i_1 : Int32) (h : AH) : evR T_X4_end E 4 ([(0, .ref a_0), (1, .int i_1)], [], h) =
  (rdI h a_0 4 1).bind fun i1 =>
  bif decide (i_1 ≤ i1) then evR T_X4_end E 14 ([(0, .ref a_0), (1, .int i_1)], [], h) else
  evR T_X4_end E 12 ([], [], h) := by
  rw [evR_eq ok_T_X4_end.loc (ops := b_X4_end_4) rfl]; rfl
theorem e_X4_end_12 (E : AEn)  (h : AH) : evR T_X4_end E 12 ([], [], h) =
  some (.inl (some (.int (-1 : Int32))), h) := by
  rw [evR_eq ok_T_X4_end.loc (ops := b_X4_end_12) rfl]; rfl
theorem e_X4_end_14 (E : AEn) (a_0 : Nat) (i_1 : Int32) (h : AH) : evR T_X4_end E 14 ([(0, .ref a_0), (1, .int i_1)], [], h) =
  (wrF h a_0 4 1 (.int i_1)).bind fun h1 =>
  some (.inl (some (.int i_1)), h1) := by
  rw [evR_eq ok_T_X4_end.loc (ops := b_X4_end_14) rfl]; rfl
theorem c_X4_end (d : Nat) (a_0 : Nat) (i_1 : Int32) (h : AH) : callR (d + 1) n_X4_end [.ref a_0, .int i_1] h =
  bif isO h a_0 4 then evR T_X4_end (callR d) 0 ([(0, .ref a_0), (1, .int i_1)], [], h) else none := by
  rw [callR_succ, show aMTl[n_X4_end]? = some (T_X4_end, [0, 1]) from rfl]; show (bif (isO h a_0 4) && true then _ else _) = _; rw [Bool.and_true]; rfl
theorem e_X4_rule_0 (E : AEn) (a_0 : Nat) (h : AH) : evR T_X4_rule E 0 ([(0, .ref a_0)], [], h) =
  (rdI h a_0 4 2).bind fun i1 =>
  bif !(i1 == (6 : Int32)) then evR T_X4_rule E 11 ([(0, .ref a_0)], [], h) else
  evR T_X4_rule E 9 ([], [], h) := by
  rw [evR_eq ok_T_X4_rule.loc (ops := b_X4_rule_0) rfl]; rfl
theorem e_X4_rule_9 (E : AEn)  (h : AH) : evR T_X4_rule E 9 ([], [], h) =
  some (.inl (some (.int (-1 : Int32))), h) := by
  rw [evR_eq ok_T_X4_rule.loc (ops := b_X4_rule_9) rfl]; rfl
theorem e_X4_rule_11 (E : AEn) (a_0 : Nat) (h : AH) : evR T_X4_rule E 11 ([(0, .ref a_0)], [], h) =
  (rdI h a_0 4 2).bind fun i1 =>
  (wrF h a_0 4 11 (.int i1)).bind fun h2 =>
  (rdR h2 a_0 4 6).bind fun r3 =>
  (rdI h2 a_0 4 11).bind fun i4 =>
  (stI h2 r3 0 i4 (0 : Int32)).bind fun h5 =>
  rI (E n_X4_readsAll [.ref a_0] h5) (fun i7 h6 =>
  bif !(i7 == 0) then evR T_X4_rule E 44 ([(0, .ref a_0)], [], h6) else
  evR T_X4_rule E 36 ([(0, .ref a_0)], [], h6)) thr := by
  rw [evR_eq ok_T_X4_rule.loc (ops := b_X4_rule_11) rfl]; rfl
theorem e_X4_rule_36 (E : AEn) (a_0 : Nat) (h : AH) : evR T_X4_rule E 36 ([(0, .ref a_0)], [], h) =
  (rdI h a_0 4 9).bind fun i1 =>
  some (.inl (some (.int ((-2 : Int32) - i1))), h) := by
  rw [evR_eq ok_T_X4_rule.loc (ops := b_X4_rule_36) rfl]; rfl
theorem e_X4_rule_44 (E : AEn) (a_0 : Nat) (h : AH) : evR T_X4_rule E 44 ([(0, .ref a_0)], [], h) =
  (rdI h a_0 4 2).bind fun i1 =>
  (wrF h a_0 4 2 (.int (i1 + (1 : Int32)))).bind fun h2 =>
  (rdI h2 a_0 4 2).bind fun i3 =>
  some (.inl (some (.int (i3 - (1 : Int32)))), h2) := by
  rw [evR_eq ok_T_X4_rule.loc (ops := b_X4_rule_44) rfl]; rfl
theorem c_X4_rule (d : Nat) (a_0 : Nat) (h : AH) : callR (d + 1) n_X4_rule [.ref a_0] h =
  bif isO h a_0 4 then evR T_X4_rule (callR d) 0 ([(0, .ref a_0)], [], h) else none := by
  rw [callR_succ, show aMTl[n_X4_rule]? = some (T_X4_rule, [0]) from rfl]; show (bif (isO h a_0 4) && true then _ else _) = _; rw [Bool.and_true]; rfl
theorem e_X4_readsAll_0 (E : AEn) (a_0 : Nat) (h : AH) : evR T_X4_readsAll E 0 ([(0, .ref a_0)], [], h) =
  (rdR h a_0 4 4).bind fun r1 =>
  (rdI h a_0 4 11).bind fun i2 =>
  (stI h r1 0 i2 (0 : Int32)).bind fun h3 =>
  (wrF h3 a_0 4 14 (.int (0 : Int32))).bind fun h4 =>
  (wrF h4 a_0 4 8 (.int (0 : Int32))).bind fun h5 =>
  (wrF h5 a_0 4 9 (.int (0 : Int32))).bind fun h6 =>
  (wrF h6 a_0 4 12 (.int (0 : Int32))).bind fun h7 =>
  rI (E n_X4_clauseHere [.ref a_0] h7) (fun i9 h8 =>
  evR T_X4_readsAll E 35 ([(0, .ref a_0), (1, .int i9)], [], h8)) thr := by
  rw [evR_eq ok_T_X4_readsAll.loc (ops := b_X4_readsAll_0) rfl]; rfl
theorem e_X4_readsAll_35 (E : AEn) (a_0 : Nat) (i_1 : Int32) (h : AH) : evR T_X4_readsAll E 35 ([(0, .ref a_0), (1, .int i_1)], [], h) =
  bif i_1 == 0 then evR T_X4_readsAll E 66 ([(0, .ref a_0), (1, .int i_1)], [], h) else
  evR T_X4_readsAll E 39 ([(0, .ref a_0), (1, .int i_1)], [], h) := by
  rw [evR_eq ok_T_X4_readsAll.loc (ops := b_X4_readsAll_35) rfl]; rfl
theorem e_X4_readsAll_39 (E : AEn) (a_0 : Nat) (i_1 : Int32) (h : AH) : evR T_X4_readsAll E 39 ([(0, .ref a_0), (1, .int i_1)], [], h) =
  rI (E n_X4_see [.ref a_0] h) (fun i2 h1 =>
  bif !(i2 == (59 : Int32)) then evR T_X4_readsAll E 66 ([(0, .ref a_0), (1, .int i_1)], [], h1) else
  evR T_X4_readsAll E 48 ([(0, .ref a_0)], [], h1)) thr := by
  rw [evR_eq ok_T_X4_readsAll.loc (ops := b_X4_readsAll_39) rfl]; rfl
theorem e_X4_readsAll_48 (E : AEn) (a_0 : Nat) (h : AH) : evR T_X4_readsAll E 48 ([(0, .ref a_0)], [], h) =
  (rdI h a_0 4 8).bind fun i1 =>
  (wrF h a_0 4 8 (.int (i1 + (1 : Int32)))).bind fun h2 =>
  rI (E n_X4_clauseHere [.ref a_0] h2) (fun i4 h3 =>
  evR T_X4_readsAll E 35 ([(0, .ref a_0), (1, .int i4)], [], h3)) thr := by
  rw [evR_eq ok_T_X4_readsAll.loc (ops := b_X4_readsAll_48) rfl]; rfl
theorem e_X4_readsAll_66 (E : AEn) (a_0 : Nat) (i_1 : Int32) (h : AH) : evR T_X4_readsAll E 66 ([(0, .ref a_0), (1, .int i_1)], [], h) =
  bif i_1 == 0 then evR T_X4_readsAll E 88 ([(0, .ref a_0)], [], h) else
  evR T_X4_readsAll E 70 ([(0, .ref a_0)], [], h) := by
  rw [evR_eq ok_T_X4_readsAll.loc (ops := b_X4_readsAll_66) rfl]; rfl
theorem e_X4_readsAll_70 (E : AEn) (a_0 : Nat) (h : AH) : evR T_X4_readsAll E 70 ([(0, .ref a_0)], [], h) =
  rI (E n_X4_see [.ref a_0] h) (fun i2 h1 =>
  bif i2 == (-1 : Int32) then evR T_X4_readsAll E 88 ([(0, .ref a_0)], [], h1) else
  evR T_X4_readsAll E 78 ([(0, .ref a_0)], [], h1)) thr := by
  rw [evR_eq ok_T_X4_readsAll.loc (ops := b_X4_readsAll_70) rfl]; rfl
theorem e_X4_readsAll_78 (E : AEn) (a_0 : Nat) (h : AH) : evR T_X4_readsAll E 78 ([(0, .ref a_0)], [], h) =
  (rdI h a_0 4 8).bind fun i1 =>
  rI (E n_X4_fails [.ref a_0, .int (0 : Int32), .int i1] h) (fun i3 h2 =>
  evR T_X4_readsAll E 88 ([(0, .ref a_0)], [], h2)) thr := by
  rw [evR_eq ok_T_X4_readsAll.loc (ops := b_X4_readsAll_78) rfl]; rfl
theorem e_X4_readsAll_88 (E : AEn) (a_0 : Nat) (h : AH) : evR T_X4_readsAll E 88 ([(0, .ref a_0)], [], h) =
  (wrF h a_0 4 1 (.int (0 : Int32))).bind fun h1 =>
  (rdI h1 a_0 4 9).bind fun i2 =>
  bif !(i2 == 0) then evR T_X4_readsAll E 104 ([], [], h1) else
  evR T_X4_readsAll E 100 ([], [], h1) := by
  rw [evR_eq ok_T_X4_readsAll.loc (ops := b_X4_readsAll_88) rfl]; rfl
theorem e_X4_readsAll_100 (E : AEn)  (h : AH) : evR T_X4_readsAll E 100 ([], [], h) =
  evR T_X4_readsAll E 105 ([], [.int (1 : Int32)], h) := by
  rw [evR_eq ok_T_X4_readsAll.loc (ops := b_X4_readsAll_100) rfl]; rfl
theorem e_X4_readsAll_104 (E : AEn)  (h : AH) : evR T_X4_readsAll E 104 ([], [], h) =
  evR T_X4_readsAll E 105 ([], [.int (0 : Int32)], h) := by
  rw [evR_eq ok_T_X4_readsAll.loc (ops := b_X4_readsAll_104) rfl]; rfl
theorem e_X4_readsAll_105 (E : AEn) (si_0 : Int32) (h : AH) : evR T_X4_readsAll E 105 ([], [.int si_0], h) =
  (bif si_0 == 0 || si_0 == 1 then some si_0 else none).bind fun i1 => some (.inl (some (.int i1)), h) := by
  rw [evR_eq ok_T_X4_readsAll.loc (ops := b_X4_readsAll_105) rfl]; rfl
theorem c_X4_readsAll (d : Nat) (a_0 : Nat) (h : AH) : callR (d + 1) n_X4_readsAll [.ref a_0] h =
  bif isO h a_0 4 then evR T_X4_readsAll (callR d) 0 ([(0, .ref a_0)], [], h) else none := by
  rw [callR_succ, show aMTl[n_X4_readsAll]? = some (T_X4_readsAll, [0]) from rfl]; show (bif (isO h a_0 4) && true then _ else _) = _; rw [Bool.and_true]; rfl
theorem e_X4_clauseHere_0 (E : AEn) (a_0 : Nat) (h : AH) : evR T_X4_clauseHere E 0 ([(0, .ref a_0)], [], h) =
  rI (E n_X4_see [.ref a_0] h) (fun i2 h1 =>
  (rdI h1 a_0 4 8).bind fun i3 =>
  (rdI h1 a_0 4 11).bind fun i4 =>
  bif !(i4 == (6 : Int32)) then evR T_X4_clauseHere E 23 ([(0, .ref a_0), (1, .int i3)], [], h1) else
  evR T_X4_clauseHere E 19 ([(0, .ref a_0), (1, .int i3)], [], h1)) thr := by
  rw [evR_eq ok_T_X4_clauseHere.loc (ops := b_X4_clauseHere_0) rfl]; rfl
theorem e_X4_clauseHere_19 (E : AEn) (a_0 : Nat) (i_1 : Int32) (h : AH) : evR T_X4_clauseHere E 19 ([(0, .ref a_0), (1, .int i_1)], [], h) =
  evR T_X4_clauseHere E 24 ([(0, .ref a_0), (1, .int i_1)], [.int (1 : Int32)], h) := by
  rw [evR_eq ok_T_X4_clauseHere.loc (ops := b_X4_clauseHere_19) rfl]; rfl
theorem e_X4_clauseHere_23 (E : AEn) (a_0 : Nat) (i_1 : Int32) (h : AH) : evR T_X4_clauseHere E 23 ([(0, .ref a_0), (1, .int i_1)], [], h) =
  evR T_X4_clauseHere E 24 ([(0, .ref a_0), (1, .int i_1)], [.int (0 : Int32)], h) := by
  rw [evR_eq ok_T_X4_clauseHere.loc (ops := b_X4_clauseHere_23) rfl]; rfl
theorem e_X4_clauseHere_24 (E : AEn) (a_0 : Nat) (i_1 : Int32) (si_0 : Int32) (h : AH) : evR T_X4_clauseHere E 24 ([(0, .ref a_0), (1, .int i_1)], [.int si_0], h) =
  bif si_0 == 0 then evR T_X4_clauseHere E 39 ([(0, .ref a_0), (1, .int i_1), (2, .int si_0)], [], h) else
  evR T_X4_clauseHere E 29 ([(0, .ref a_0), (1, .int i_1), (2, .int si_0)], [], h) := by
  rw [evR_eq ok_T_X4_clauseHere.loc (ops := b_X4_clauseHere_24) rfl]; rfl
theorem e_X4_clauseHere_29 (E : AEn) (a_0 : Nat) (i_1 : Int32) (i_2 : Int32) (h : AH) : evR T_X4_clauseHere E 29 ([(0, .ref a_0), (1, .int i_1), (2, .int i_2)], [], h) =
  rI (E n_X4_isValleyWord [.ref a_0] h) (fun i2 h1 =>
  bif !(i2 == 0) then evR T_X4_clauseHere E 56 ([(0, .ref a_0), (1, .int i_1), (2, .int i_2)], [], h1) else
  evR T_X4_clauseHere E 36 ([(0, .ref a_0), (1, .int i_1)], [], h1)) thr := by
  rw [evR_eq ok_T_X4_clauseHere.loc (ops := b_X4_clauseHere_29) rfl]; rfl
theorem e_X4_clauseHere_36 (E : AEn) (a_0 : Nat) (i_1 : Int32) (h : AH) : evR T_X4_clauseHere E 36 ([(0, .ref a_0), (1, .int i_1)], [], h) =
  evR T_X4_clauseHere E 49 ([(0, .ref a_0), (1, .int i_1)], [], h) := by
  rw [evR_eq ok_T_X4_clauseHere.loc (ops := b_X4_clauseHere_36) rfl]; rfl
theorem e_X4_clauseHere_39 (E : AEn) (a_0 : Nat) (i_1 : Int32) (i_2 : Int32) (h : AH) : evR T_X4_clauseHere E 39 ([(0, .ref a_0), (1, .int i_1), (2, .int i_2)], [], h) =
  rI (E n_X4_isWord [.ref a_0, .long (26479 : Int64)] h) (fun i2 h1 =>
  bif !(i2 == 0) then evR T_X4_clauseHere E 56 ([(0, .ref a_0), (1, .int i_1), (2, .int i_2)], [], h1) else
  evR T_X4_clauseHere E 49 ([(0, .ref a_0), (1, .int i_1)], [], h1)) thr := by
  rw [evR_eq ok_T_X4_clauseHere.loc (ops := b_X4_clauseHere_39) rfl]; rfl
theorem e_X4_clauseHere_49 (E : AEn) (a_0 : Nat) (i_1 : Int32) (h : AH) : evR T_X4_clauseHere E 49 ([(0, .ref a_0), (1, .int i_1)], [], h) =
  rI (E n_X4_fails [.ref a_0, .int (0 : Int32), .int i_1] h) (fun i2 h1 =>
  (bif i2 == 0 || i2 == 1 then some i2 else none).bind fun i3 => some (.inl (some (.int i3)), h1)) thr := by
  rw [evR_eq ok_T_X4_clauseHere.loc (ops := b_X4_clauseHere_49) rfl]; rfl
theorem e_X4_clauseHere_56 (E : AEn) (a_0 : Nat) (i_1 : Int32) (i_2 : Int32) (h : AH) : evR T_X4_clauseHere E 56 ([(0, .ref a_0), (1, .int i_1), (2, .int i_2)], [], h) =
  (rdI h a_0 4 14).bind fun i1 =>
  bif i_2 == 0 then evR T_X4_clauseHere E 69 ([(0, .ref a_0), (1, .int i_1), (2, .int i_2)], [.int i1], h) else
  evR T_X4_clauseHere E 64 ([(0, .ref a_0), (1, .int i_1), (2, .int i_2)], [.int i1], h) := by
  rw [evR_eq ok_T_X4_clauseHere.loc (ops := b_X4_clauseHere_56) rfl]; rfl
theorem e_X4_clauseHere_64 (E : AEn) (a_0 : Nat) (i_1 : Int32) (i_2 : Int32) (si_0 : Int32) (h : AH) : evR T_X4_clauseHere E 64 ([(0, .ref a_0), (1, .int i_1), (2, .int i_2)], [.int si_0], h) =
  evR T_X4_clauseHere E 71 ([(0, .ref a_0), (1, .int i_1), (2, .int i_2)], [.int (40 : Int32), .int si_0], h) := by
  rw [evR_eq ok_T_X4_clauseHere.loc (ops := b_X4_clauseHere_64) rfl]; rfl
theorem e_X4_clauseHere_69 (E : AEn) (a_0 : Nat) (i_1 : Int32) (i_2 : Int32) (si_0 : Int32) (h : AH) : evR T_X4_clauseHere E 69 ([(0, .ref a_0), (1, .int i_1), (2, .int i_2)], [.int si_0], h) =
  evR T_X4_clauseHere E 71 ([(0, .ref a_0), (1, .int i_1), (2, .int i_2)], [.int (12 : Int32), .int si_0], h) := by
  rw [evR_eq ok_T_X4_clauseHere.loc (ops := b_X4_clauseHere_69) rfl]; rfl
theorem e_X4_clauseHere_71 (E : AEn) (a_0 : Nat) (i_1 : Int32) (i_2 : Int32) (si_0 : Int32) (si_1 : Int32) (h : AH) : evR T_X4_clauseHere E 71 ([(0, .ref a_0), (1, .int i_1), (2, .int i_2)], [.int si_0, .int si_1], h) =
  bif !(si_1 == si_0) then evR T_X4_clauseHere E 81 ([(0, .ref a_0), (1, .int i_1), (2, .int i_2)], [], h) else
  evR T_X4_clauseHere E 74 ([(0, .ref a_0), (1, .int i_1)], [], h) := by
  rw [evR_eq ok_T_X4_clauseHere.loc (ops := b_X4_clauseHere_71) rfl]; rfl
theorem e_X4_clauseHere_74 (E : AEn) (a_0 : Nat) (i_1 : Int32) (h : AH) : evR T_X4_clauseHere E 74 ([(0, .ref a_0), (1, .int i_1)], [], h) =
  rI (E n_X4_fails [.ref a_0, .int (4 : Int32), .int i_1] h) (fun i2 h1 =>
  (bif i2 == 0 || i2 == 1 then some i2 else none).bind fun i3 => some (.inl (some (.int i3)), h1)) thr := by
  rw [evR_eq ok_T_X4_clauseHere.loc (ops := b_X4_clauseHere_74) rfl]; rfl
theorem e_X4_clauseHere_81 (E : AEn) (a_0 : Nat) (i_1 : Int32) (i_2 : Int32) (h : AH) : evR T_X4_clauseHere E 81 ([(0, .ref a_0), (1, .int i_1), (2, .int i_2)], [], h) =
  (rdI h a_0 4 14).bind fun i1 =>
  (wrF h a_0 4 14 (.int (i1 + (1 : Int32)))).bind fun h2 =>
  bif i_2 == 0 then evR T_X4_clauseHere E 103 ([(0, .ref a_0)], [], h2) else
  evR T_X4_clauseHere E 95 ([(0, .ref a_0), (1, .int i_1)], [], h2) := by
  rw [evR_eq ok_T_X4_clauseHere.loc (ops := b_X4_clauseHere_81) rfl]; rfl
theorem e_X4_clauseHere_95 (E : AEn) (a_0 : Nat) (i_1 : Int32) (h : AH) : evR T_X4_clauseHere E 95 ([(0, .ref a_0), (1, .int i_1)], [], h) =
  rI (E n_X4_valleyLineHere [.ref a_0, .int i_1] h) (fun i2 h1 =>
  evR T_X4_clauseHere E 107 ([], [.int i2], h1)) thr := by
  rw [evR_eq ok_T_X4_clauseHere.loc (ops := b_X4_clauseHere_95) rfl]; rfl
theorem e_X4_clauseHere_103 (E : AEn) (a_0 : Nat) (h : AH) : evR T_X4_clauseHere E 103 ([(0, .ref a_0)], [], h) =
  rI (E n_X4_isGoHere [.ref a_0] h) (fun i2 h1 =>
  evR T_X4_clauseHere E 107 ([], [.int i2], h1)) thr := by
  rw [evR_eq ok_T_X4_clauseHere.loc (ops := b_X4_clauseHere_103) rfl]; rfl
theorem e_X4_clauseHere_107 (E : AEn) (si_0 : Int32) (h : AH) : evR T_X4_clauseHere E 107 ([], [.int si_0], h) =
  (bif si_0 == 0 || si_0 == 1 then some si_0 else none).bind fun i1 => some (.inl (some (.int i1)), h) := by
  rw [evR_eq ok_T_X4_clauseHere.loc (ops := b_X4_clauseHere_107) rfl]; rfl
theorem c_X4_clauseHere (d : Nat) (a_0 : Nat) (h : AH) : callR (d + 1) n_X4_clauseHere [.ref a_0] h =
  bif isO h a_0 4 then evR T_X4_clauseHere (callR d) 0 ([(0, .ref a_0)], [], h) else none := by
  rw [callR_succ, show aMTl[n_X4_clauseHere]? = some (T_X4_clauseHere, [0]) from rfl]; show (bif (isO h a_0 4) && true then _ else _) = _; rw [Bool.and_true]; rfl
theorem e_X4_see_0 (E : AEn) (a_0 : Nat) (h : AH) : evR T_X4_see E 0 ([(0, .ref a_0)], [], h) =
  (rdI h a_0 4 8).bind fun i1 =>
  (rdI h a_0 4 1).bind fun i2 =>
  bif decide (i2 ≤ i1) then evR T_X4_see E 38 ([(0, .ref a_0)], [], h) else
  evR T_X4_see E 11 ([(0, .ref a_0)], [], h) := by
  rw [evR_eq ok_T_X4_see.loc (ops := b_X4_see_0) rfl]; rfl
theorem e_X4_see_11 (E : AEn) (a_0 : Nat) (h : AH) : evR T_X4_see E 11 ([(0, .ref a_0)], [], h) =
  (rdR h a_0 4 0).bind fun r1 =>
  (rdI h a_0 4 8).bind fun i2 =>
  (ldI h r1 1 i2).bind fun i3 =>
  bif !(i3 == (32 : Int32)) then evR T_X4_see E 38 ([(0, .ref a_0)], [], h) else
  evR T_X4_see E 25 ([(0, .ref a_0)], [], h) := by
  rw [evR_eq ok_T_X4_see.loc (ops := b_X4_see_11) rfl]; rfl
theorem e_X4_see_25 (E : AEn) (a_0 : Nat) (h : AH) : evR T_X4_see E 25 ([(0, .ref a_0)], [], h) =
  (rdI h a_0 4 8).bind fun i1 =>
  (wrF h a_0 4 8 (.int (i1 + (1 : Int32)))).bind fun h2 =>
  evR T_X4_see E 0 ([(0, .ref a_0)], [], h2) := by
  rw [evR_eq ok_T_X4_see.loc (ops := b_X4_see_25) rfl]; rfl
theorem e_X4_see_38 (E : AEn) (a_0 : Nat) (h : AH) : evR T_X4_see E 38 ([(0, .ref a_0)], [], h) =
  (rdI h a_0 4 8).bind fun i1 =>
  (rdI h a_0 4 1).bind fun i2 =>
  bif decide (i2 ≤ i1) then evR T_X4_see E 65 ([], [], h) else
  evR T_X4_see E 49 ([(0, .ref a_0)], [], h) := by
  rw [evR_eq ok_T_X4_see.loc (ops := b_X4_see_38) rfl]; rfl
theorem e_X4_see_49 (E : AEn) (a_0 : Nat) (h : AH) : evR T_X4_see E 49 ([(0, .ref a_0)], [], h) =
  (rdR h a_0 4 0).bind fun r1 =>
  (rdI h a_0 4 8).bind fun i2 =>
  (ldI h r1 1 i2).bind fun i3 =>
  evR T_X4_see E 66 ([], [.int (i3 &&& (255 : Int32))], h) := by
  rw [evR_eq ok_T_X4_see.loc (ops := b_X4_see_49) rfl]; rfl
theorem e_X4_see_65 (E : AEn)  (h : AH) : evR T_X4_see E 65 ([], [], h) =
  evR T_X4_see E 66 ([], [.int (-1 : Int32)], h) := by
  rw [evR_eq ok_T_X4_see.loc (ops := b_X4_see_65) rfl]; rfl
theorem e_X4_see_66 (E : AEn) (si_0 : Int32) (h : AH) : evR T_X4_see E 66 ([], [.int si_0], h) =
  some (.inl (some (.int si_0)), h) := by
  rw [evR_eq ok_T_X4_see.loc (ops := b_X4_see_66) rfl]; rfl
theorem c_X4_see (d : Nat) (a_0 : Nat) (h : AH) : callR (d + 1) n_X4_see [.ref a_0] h =
  bif isO h a_0 4 then evR T_X4_see (callR d) 0 ([(0, .ref a_0)], [], h) else none := by
  rw [callR_succ, show aMTl[n_X4_see]? = some (T_X4_see, [0]) from rfl]; show (bif (isO h a_0 4) && true then _ else _) = _; rw [Bool.and_true]; rfl
theorem e_X4_isValleyWord_0 (E : AEn) (a_0 : Nat) (h : AH) : evR T_X4_isValleyWord E 0 ([(0, .ref a_0)], [], h) =
  rI (E n_X4_isWord [.ref a_0, .long (130160802948473 : Int64)] h) (fun i2 h1 =>
  bif !(i2 == 0) then evR T_X4_isValleyWord E 40 ([], [], h1) else
  evR T_X4_isValleyWord E 10 ([(0, .ref a_0)], [], h1)) thr := by
  rw [evR_eq ok_T_X4_isValleyWord.loc (ops := b_X4_isValleyWord_0) rfl]; rfl
theorem e_X4_isValleyWord_10 (E : AEn) (a_0 : Nat) (h : AH) : evR T_X4_isValleyWord E 10 ([(0, .ref a_0)], [], h) =
  rI (E n_X4_isWord [.ref a_0, .long (448546567013 : Int64)] h) (fun i2 h1 =>
  bif !(i2 == 0) then evR T_X4_isValleyWord E 40 ([], [], h1) else
  evR T_X4_isValleyWord E 20 ([(0, .ref a_0)], [], h1)) thr := by
  rw [evR_eq ok_T_X4_isValleyWord.loc (ops := b_X4_isValleyWord_10) rfl]; rfl
theorem e_X4_isValleyWord_20 (E : AEn) (a_0 : Nat) (h : AH) : evR T_X4_isValleyWord E 20 ([(0, .ref a_0)], [], h) =
  rI (E n_X4_isWord [.ref a_0, .long (1919902052 : Int64)] h) (fun i2 h1 =>
  bif !(i2 == 0) then evR T_X4_isValleyWord E 40 ([], [], h1) else
  evR T_X4_isValleyWord E 30 ([(0, .ref a_0)], [], h1)) thr := by
  rw [evR_eq ok_T_X4_isValleyWord.loc (ops := b_X4_isValleyWord_20) rfl]; rfl
theorem e_X4_isValleyWord_30 (E : AEn) (a_0 : Nat) (h : AH) : evR T_X4_isValleyWord E 30 ([(0, .ref a_0)], [], h) =
  rI (E n_X4_isWord [.ref a_0, .long (108187867505765 : Int64)] h) (fun i2 h1 =>
  bif i2 == 0 then evR T_X4_isValleyWord E 44 ([], [], h1) else
  evR T_X4_isValleyWord E 40 ([], [], h1)) thr := by
  rw [evR_eq ok_T_X4_isValleyWord.loc (ops := b_X4_isValleyWord_30) rfl]; rfl
theorem e_X4_isValleyWord_40 (E : AEn)  (h : AH) : evR T_X4_isValleyWord E 40 ([], [], h) =
  evR T_X4_isValleyWord E 45 ([], [.int (1 : Int32)], h) := by
  rw [evR_eq ok_T_X4_isValleyWord.loc (ops := b_X4_isValleyWord_40) rfl]; rfl
theorem e_X4_isValleyWord_44 (E : AEn)  (h : AH) : evR T_X4_isValleyWord E 44 ([], [], h) =
  evR T_X4_isValleyWord E 45 ([], [.int (0 : Int32)], h) := by
  rw [evR_eq ok_T_X4_isValleyWord.loc (ops := b_X4_isValleyWord_44) rfl]; rfl
theorem e_X4_isValleyWord_45 (E : AEn) (si_0 : Int32) (h : AH) : evR T_X4_isValleyWord E 45 ([], [.int si_0], h) =
  (bif si_0 == 0 || si_0 == 1 then some si_0 else none).bind fun i1 => some (.inl (some (.int i1)), h) := by
  rw [evR_eq ok_T_X4_isValleyWord.loc (ops := b_X4_isValleyWord_45) rfl]; rfl
theorem c_X4_isValleyWord (d : Nat) (a_0 : Nat) (h : AH) : callR (d + 1) n_X4_isValleyWord [.ref a_0] h =
  bif isO h a_0 4 then evR T_X4_isValleyWord (callR d) 0 ([(0, .ref a_0)], [], h) else none := by
  rw [callR_succ, show aMTl[n_X4_isValleyWord]? = some (T_X4_isValleyWord, [0]) from rfl]; show (bif (isO h a_0 4) && true then _ else _) = _; rw [Bool.and_true]; rfl
theorem e_X4_isWord_0 (E : AEn) (a_0 : Nat) (l_1 : Int64) (h : AH) : evR T_X4_isWord E 0 ([(0, .ref a_0), (1, .long l_1)], [], h) =
  rI (E n_X4_see [.ref a_0] h) (fun i2 h1 =>
  evR T_X4_isWord E 10 ([(0, .ref a_0), (1, .long l_1), (3, .long (0 : Int64)), (5, .int (0 : Int32))], [], h1)) thr := by
  rw [evR_eq ok_T_X4_isWord.loc (ops := b_X4_isWord_0) rfl]; rfl
theorem e_X4_isWord_10 (E : AEn) (a_0 : Nat) (l_1 : Int64) (l_3 : Int64) (i_5 : Int32) (h : AH) : evR T_X4_isWord E 10 ([(0, .ref a_0), (1, .long l_1), (3, .long l_3), (5, .int i_5)], [], h) =
  (rdI h a_0 4 8).bind fun i1 =>
  rI (E n_X4_isLetter [.ref a_0, .int (i1 + i_5)] h) (fun i3 h2 =>
  bif i3 == 0 then evR T_X4_isWord E 56 ([(1, .long l_1), (3, .long l_3), (5, .int i_5)], [], h2) else
  evR T_X4_isWord E 24 ([(0, .ref a_0), (1, .long l_1), (3, .long l_3), (5, .int i_5)], [], h2)) thr := by
  rw [evR_eq ok_T_X4_isWord.loc (ops := b_X4_isWord_10) rfl]; rfl
theorem e_X4_isWord_24 (E : AEn) (a_0 : Nat) (l_1 : Int64) (l_3 : Int64) (i_5 : Int32) (h : AH) : evR T_X4_isWord E 24 ([(0, .ref a_0), (1, .long l_1), (3, .long l_3), (5, .int i_5)], [], h) =
  bif decide ((8 : Int32) ≤ i_5) then evR T_X4_isWord E 50 ([(0, .ref a_0), (1, .long l_1), (3, .long l_3), (5, .int i_5)], [], h) else
  evR T_X4_isWord E 31 ([(0, .ref a_0), (1, .long l_1), (3, .long l_3), (5, .int i_5)], [], h) := by
  rw [evR_eq ok_T_X4_isWord.loc (ops := b_X4_isWord_24) rfl]; rfl
theorem e_X4_isWord_31 (E : AEn) (a_0 : Nat) (l_1 : Int64) (l_3 : Int64) (i_5 : Int32) (h : AH) : evR T_X4_isWord E 31 ([(0, .ref a_0), (1, .long l_1), (3, .long l_3), (5, .int i_5)], [], h) =
  (rdR h a_0 4 0).bind fun r1 =>
  (rdI h a_0 4 8).bind fun i2 =>
  (ldI h r1 1 (i2 + i_5)).bind fun i3 =>
  evR T_X4_isWord E 50 ([(0, .ref a_0), (1, .long l_1), (3, .long ((l_3 <<< ((8 : Int32).toInt64 &&& 63)) ||| i3.toInt64)), (5, .int i_5)], [], h) := by
  rw [evR_eq ok_T_X4_isWord.loc (ops := b_X4_isWord_31) rfl]; rfl
theorem e_X4_isWord_50 (E : AEn) (a_0 : Nat) (l_1 : Int64) (l_3 : Int64) (i_5 : Int32) (h : AH) : evR T_X4_isWord E 50 ([(0, .ref a_0), (1, .long l_1), (3, .long l_3), (5, .int i_5)], [], h) =
  evR T_X4_isWord E 10 ([(0, .ref a_0), (1, .long l_1), (3, .long l_3), (5, .int (i_5 + (1 : Int32)))], [], h) := by
  rw [evR_eq ok_T_X4_isWord.loc (ops := b_X4_isWord_50) rfl]; rfl
theorem e_X4_isWord_56 (E : AEn) (l_1 : Int64) (l_3 : Int64) (i_5 : Int32) (h : AH) : evR T_X4_isWord E 56 ([(1, .long l_1), (3, .long l_3), (5, .int i_5)], [], h) =
  bif decide (i_5 ≤ 0) then evR T_X4_isWord E 78 ([], [], h) else
  evR T_X4_isWord E 61 ([(1, .long l_1), (3, .long l_3), (5, .int i_5)], [], h) := by
  rw [evR_eq ok_T_X4_isWord.loc (ops := b_X4_isWord_56) rfl]; rfl
theorem e_X4_isWord_61 (E : AEn) (l_1 : Int64) (l_3 : Int64) (i_5 : Int32) (h : AH) : evR T_X4_isWord E 61 ([(1, .long l_1), (3, .long l_3), (5, .int i_5)], [], h) =
  bif decide ((8 : Int32) ≤ i_5) then evR T_X4_isWord E 78 ([], [], h) else
  evR T_X4_isWord E 68 ([(1, .long l_1), (3, .long l_3)], [], h) := by
  rw [evR_eq ok_T_X4_isWord.loc (ops := b_X4_isWord_61) rfl]; rfl
theorem e_X4_isWord_68 (E : AEn) (l_1 : Int64) (l_3 : Int64) (h : AH) : evR T_X4_isWord E 68 ([(1, .long l_1), (3, .long l_3)], [], h) =
  bif !((lg_cmp l_3 l_1) == 0) then evR T_X4_isWord E 78 ([], [], h) else
  evR T_X4_isWord E 74 ([], [], h) := by
  rw [evR_eq ok_T_X4_isWord.loc (ops := b_X4_isWord_68) rfl]; rfl
theorem e_X4_isWord_74 (E : AEn)  (h : AH) : evR T_X4_isWord E 74 ([], [], h) =
  evR T_X4_isWord E 79 ([], [.int (1 : Int32)], h) := by
  rw [evR_eq ok_T_X4_isWord.loc (ops := b_X4_isWord_74) rfl]; rfl
theorem e_X4_isWord_78 (E : AEn)  (h : AH) : evR T_X4_isWord E 78 ([], [], h) =
  evR T_X4_isWord E 79 ([], [.int (0 : Int32)], h) := by
  rw [evR_eq ok_T_X4_isWord.loc (ops := b_X4_isWord_78) rfl]; rfl
theorem e_X4_isWord_79 (E : AEn) (si_0 : Int32) (h : AH) : evR T_X4_isWord E 79 ([], [.int si_0], h) =
  (bif si_0 == 0 || si_0 == 1 then some si_0 else none).bind fun i1 => some (.inl (some (.int i1)), h) := by
  rw [evR_eq ok_T_X4_isWord.loc (ops := b_X4_isWord_79) rfl]; rfl
theorem c_X4_isWord (d : Nat) (a_0 : Nat) (l_1 : Int64) (h : AH) : callR (d + 1) n_X4_isWord [.ref a_0, .long l_1] h =
  bif isO h a_0 4 then evR T_X4_isWord (callR d) 0 ([(0, .ref a_0), (1, .long l_1)], [], h) else none := by
  rw [callR_succ, show aMTl[n_X4_isWord]? = some (T_X4_isWord, [0, 1]) from rfl]; show (bif (isO h a_0 4) && true then _ else _) = _; rw [Bool.and_true]; rfl
theorem e_X4_isLetter_0 (E : AEn) (a_0 : Nat) (i_1 : Int32) (h : AH) : evR T_X4_isLetter E 0 ([(0, .ref a_0), (1, .int i_1)], [], h) =
  (rdI h a_0 4 1).bind fun i1 =>
  bif decide (i1 ≤ i_1) then evR T_X4_isLetter E 34 ([], [], h) else
  evR T_X4_isLetter E 8 ([(0, .ref a_0), (1, .int i_1)], [], h) := by
  rw [evR_eq ok_T_X4_isLetter.loc (ops := b_X4_isLetter_0) rfl]; rfl
theorem e_X4_isLetter_8 (E : AEn) (a_0 : Nat) (i_1 : Int32) (h : AH) : evR T_X4_isLetter E 8 ([(0, .ref a_0), (1, .int i_1)], [], h) =
  (rdR h a_0 4 0).bind fun r1 =>
  (ldI h r1 1 i_1).bind fun i2 =>
  bif decide (i2 < (97 : Int32)) then evR T_X4_isLetter E 34 ([], [], h) else
  evR T_X4_isLetter E 19 ([(0, .ref a_0), (1, .int i_1)], [], h) := by
  rw [evR_eq ok_T_X4_isLetter.loc (ops := b_X4_isLetter_8) rfl]; rfl
theorem e_X4_isLetter_19 (E : AEn) (a_0 : Nat) (i_1 : Int32) (h : AH) : evR T_X4_isLetter E 19 ([(0, .ref a_0), (1, .int i_1)], [], h) =
  (rdR h a_0 4 0).bind fun r1 =>
  (ldI h r1 1 i_1).bind fun i2 =>
  bif decide ((122 : Int32) < i2) then evR T_X4_isLetter E 34 ([], [], h) else
  evR T_X4_isLetter E 30 ([], [], h) := by
  rw [evR_eq ok_T_X4_isLetter.loc (ops := b_X4_isLetter_19) rfl]; rfl
theorem e_X4_isLetter_30 (E : AEn)  (h : AH) : evR T_X4_isLetter E 30 ([], [], h) =
  evR T_X4_isLetter E 35 ([], [.int (1 : Int32)], h) := by
  rw [evR_eq ok_T_X4_isLetter.loc (ops := b_X4_isLetter_30) rfl]; rfl
theorem e_X4_isLetter_34 (E : AEn)  (h : AH) : evR T_X4_isLetter E 34 ([], [], h) =
  evR T_X4_isLetter E 35 ([], [.int (0 : Int32)], h) := by
  rw [evR_eq ok_T_X4_isLetter.loc (ops := b_X4_isLetter_34) rfl]; rfl
theorem e_X4_isLetter_35 (E : AEn) (si_0 : Int32) (h : AH) : evR T_X4_isLetter E 35 ([], [.int si_0], h) =
  (bif si_0 == 0 || si_0 == 1 then some si_0 else none).bind fun i1 => some (.inl (some (.int i1)), h) := by
  rw [evR_eq ok_T_X4_isLetter.loc (ops := b_X4_isLetter_35) rfl]; rfl
theorem c_X4_isLetter (d : Nat) (a_0 : Nat) (i_1 : Int32) (h : AH) : callR (d + 1) n_X4_isLetter [.ref a_0, .int i_1] h =
  bif isO h a_0 4 then evR T_X4_isLetter (callR d) 0 ([(0, .ref a_0), (1, .int i_1)], [], h) else none := by
  rw [callR_succ, show aMTl[n_X4_isLetter]? = some (T_X4_isLetter, [0, 1]) from rfl]; show (bif (isO h a_0 4) && true then _ else _) = _; rw [Bool.and_true]; rfl
theorem e_X4_fails_0 (E : AEn) (a_0 : Nat) (i_1 : Int32) (i_2 : Int32) (h : AH) : evR T_X4_fails E 0 ([(0, .ref a_0), (1, .int i_1), (2, .int i_2)], [], h) =
  (rdI h a_0 4 9).bind fun i1 =>
  bif !(i1 == 0) then evR T_X4_fails E 19 ([], [], h) else
  evR T_X4_fails E 7 ([(0, .ref a_0), (1, .int i_1), (2, .int i_2)], [], h) := by
  rw [evR_eq ok_T_X4_fails.loc (ops := b_X4_fails_0) rfl]; rfl
theorem e_X4_fails_7 (E : AEn) (a_0 : Nat) (i_1 : Int32) (i_2 : Int32) (h : AH) : evR T_X4_fails E 7 ([(0, .ref a_0), (1, .int i_1), (2, .int i_2)], [], h) =
  (wrF h a_0 4 9 (.int (((1 : Int32) + ((8 : Int32) * i_2)) + i_1))).bind fun h1 =>
  evR T_X4_fails E 19 ([], [], h1) := by
  rw [evR_eq ok_T_X4_fails.loc (ops := b_X4_fails_7) rfl]; rfl
theorem e_X4_fails_19 (E : AEn)  (h : AH) : evR T_X4_fails E 19 ([], [], h) =
  some (.inl (some (.int (0 : Int32))), h) := by
  rw [evR_eq ok_T_X4_fails.loc (ops := b_X4_fails_19) rfl]; rfl
theorem c_X4_fails (d : Nat) (a_0 : Nat) (i_1 : Int32) (i_2 : Int32) (h : AH) : callR (d + 1) n_X4_fails [.ref a_0, .int i_1, .int i_2] h =
  bif isO h a_0 4 then evR T_X4_fails (callR d) 0 ([(0, .ref a_0), (1, .int i_1), (2, .int i_2)], [], h) else none := by
  rw [callR_succ, show aMTl[n_X4_fails]? = some (T_X4_fails, [0, 1, 2]) from rfl]; show (bif (isO h a_0 4) && true then _ else _) = _; rw [Bool.and_true]; rfl
theorem e_X4_valleyLineHere_0 (E : AEn) (a_0 : Nat) (i_1 : Int32) (h : AH) : evR T_X4_valleyLineHere E 0 ([(0, .ref a_0), (1, .int i_1)], [], h) =
  rI (E n_X4_isWord [.ref a_0, .long (130160802948473 : Int64)] h) (fun i2 h1 =>
  bif i2 == 0 then evR T_X4_valleyLineHere E 16 ([(0, .ref a_0), (1, .int i_1)], [], h1) else
  evR T_X4_valleyLineHere E 10 ([(0, .ref a_0), (1, .int i_1)], [], h1)) thr := by
  rw [evR_eq ok_T_X4_valleyLineHere.loc (ops := b_X4_valleyLineHere_0) rfl]; rfl
theorem e_X4_valleyLineHere_10 (E : AEn) (a_0 : Nat) (i_1 : Int32) (h : AH) : evR T_X4_valleyLineHere E 10 ([(0, .ref a_0), (1, .int i_1)], [], h) =
  rI (E n_X4_isValleyHere [.ref a_0, .int i_1] h) (fun i2 h1 =>
  (bif i2 == 0 || i2 == 1 then some i2 else none).bind fun i3 => some (.inl (some (.int i3)), h1)) thr := by
  rw [evR_eq ok_T_X4_valleyLineHere.loc (ops := b_X4_valleyLineHere_10) rfl]; rfl
theorem e_X4_valleyLineHere_16 (E : AEn) (a_0 : Nat) (i_1 : Int32) (h : AH) : evR T_X4_valleyLineHere E 16 ([(0, .ref a_0), (1, .int i_1)], [], h) =
  (rdR h a_0 4 7).bind fun r1 =>
  (ldI h r1 0 (0 : Int32)).bind fun i2 =>
  bif !(i2 == 0) then evR T_X4_valleyLineHere E 32 ([(0, .ref a_0), (1, .int i_1)], [], h) else
  evR T_X4_valleyLineHere E 25 ([(0, .ref a_0), (1, .int i_1)], [], h) := by
  rw [evR_eq ok_T_X4_valleyLineHere.loc (ops := b_X4_valleyLineHere_16) rfl]; rfl
theorem e_X4_valleyLineHere_25 (E : AEn) (a_0 : Nat) (i_1 : Int32) (h : AH) : evR T_X4_valleyLineHere E 25 ([(0, .ref a_0), (1, .int i_1)], [], h) =
  rI (E n_X4_fails [.ref a_0, .int (4 : Int32), .int i_1] h) (fun i2 h1 =>
  (bif i2 == 0 || i2 == 1 then some i2 else none).bind fun i3 => some (.inl (some (.int i3)), h1)) thr := by
  rw [evR_eq ok_T_X4_valleyLineHere.loc (ops := b_X4_valleyLineHere_25) rfl]; rfl
theorem e_X4_valleyLineHere_32 (E : AEn) (a_0 : Nat) (i_1 : Int32) (h : AH) : evR T_X4_valleyLineHere E 32 ([(0, .ref a_0), (1, .int i_1)], [], h) =
  rI (E n_X4_isWord [.ref a_0, .long (448546567013 : Int64)] h) (fun i2 h1 =>
  bif i2 == 0 then evR T_X4_valleyLineHere E 48 ([(0, .ref a_0)], [], h1) else
  evR T_X4_valleyLineHere E 42 ([(0, .ref a_0), (1, .int i_1)], [], h1)) thr := by
  rw [evR_eq ok_T_X4_valleyLineHere.loc (ops := b_X4_valleyLineHere_32) rfl]; rfl
theorem e_X4_valleyLineHere_42 (E : AEn) (a_0 : Nat) (i_1 : Int32) (h : AH) : evR T_X4_valleyLineHere E 42 ([(0, .ref a_0), (1, .int i_1)], [], h) =
  rI (E n_X4_isHouseHere [.ref a_0, .int i_1] h) (fun i2 h1 =>
  (bif i2 == 0 || i2 == 1 then some i2 else none).bind fun i3 => some (.inl (some (.int i3)), h1)) thr := by
  rw [evR_eq ok_T_X4_valleyLineHere.loc (ops := b_X4_valleyLineHere_42) rfl]; rfl
theorem e_X4_valleyLineHere_48 (E : AEn) (a_0 : Nat) (h : AH) : evR T_X4_valleyLineHere E 48 ([(0, .ref a_0)], [], h) =
  rI (E n_X4_isWord [.ref a_0, .long (1919902052 : Int64)] h) (fun i2 h1 =>
  bif i2 == 0 then evR T_X4_valleyLineHere E 65 ([(0, .ref a_0)], [], h1) else
  evR T_X4_valleyLineHere E 58 ([(0, .ref a_0)], [], h1)) thr := by
  rw [evR_eq ok_T_X4_valleyLineHere.loc (ops := b_X4_valleyLineHere_48) rfl]; rfl
theorem e_X4_valleyLineHere_58 (E : AEn) (a_0 : Nat) (h : AH) : evR T_X4_valleyLineHere E 58 ([(0, .ref a_0)], [], h) =
  rI (E n_X4_isRoadHere [.ref a_0] h) (fun i2 h1 =>
  evR T_X4_valleyLineHere E 69 ([], [.int i2], h1)) thr := by
  rw [evR_eq ok_T_X4_valleyLineHere.loc (ops := b_X4_valleyLineHere_58) rfl]; rfl
theorem e_X4_valleyLineHere_65 (E : AEn) (a_0 : Nat) (h : AH) : evR T_X4_valleyLineHere E 65 ([(0, .ref a_0)], [], h) =
  rI (E n_X4_isBesideHere [.ref a_0] h) (fun i2 h1 =>
  evR T_X4_valleyLineHere E 69 ([], [.int i2], h1)) thr := by
  rw [evR_eq ok_T_X4_valleyLineHere.loc (ops := b_X4_valleyLineHere_65) rfl]; rfl
theorem e_X4_valleyLineHere_69 (E : AEn) (si_0 : Int32) (h : AH) : evR T_X4_valleyLineHere E 69 ([], [.int si_0], h) =
  (bif si_0 == 0 || si_0 == 1 then some si_0 else none).bind fun i1 => some (.inl (some (.int i1)), h) := by
  rw [evR_eq ok_T_X4_valleyLineHere.loc (ops := b_X4_valleyLineHere_69) rfl]; rfl
theorem c_X4_valleyLineHere (d : Nat) (a_0 : Nat) (i_1 : Int32) (h : AH) : callR (d + 1) n_X4_valleyLineHere [.ref a_0, .int i_1] h =
  bif isO h a_0 4 then evR T_X4_valleyLineHere (callR d) 0 ([(0, .ref a_0), (1, .int i_1)], [], h) else none := by
  rw [callR_succ, show aMTl[n_X4_valleyLineHere]? = some (T_X4_valleyLineHere, [0, 1]) from rfl]; show (bif (isO h a_0 4) && true then _ else _) = _; rw [Bool.and_true]; rfl
theorem e_X4_isValleyHere_0 (E : AEn) (a_0 : Nat) (i_1 : Int32) (h : AH) : evR T_X4_isValleyHere E 0 ([(0, .ref a_0), (1, .int i_1)], [], h) =
  (rdR h a_0 4 7).bind fun r1 =>
  (ldI h r1 0 (0 : Int32)).bind fun i2 =>
  bif decide (i2 ≤ 0) then evR T_X4_isValleyHere E 16 ([(0, .ref a_0)], [], h) else
  evR T_X4_isValleyHere E 9 ([(0, .ref a_0), (1, .int i_1)], [], h) := by
  rw [evR_eq ok_T_X4_isValleyHere.loc (ops := b_X4_isValleyHere_0) rfl]; rfl
theorem e_X4_isValleyHere_9 (E : AEn) (a_0 : Nat) (i_1 : Int32) (h : AH) : evR T_X4_isValleyHere E 9 ([(0, .ref a_0), (1, .int i_1)], [], h) =
  rI (E n_X4_fails [.ref a_0, .int (4 : Int32), .int i_1] h) (fun i2 h1 =>
  (bif i2 == 0 || i2 == 1 then some i2 else none).bind fun i3 => some (.inl (some (.int i3)), h1)) thr := by
  rw [evR_eq ok_T_X4_isValleyHere.loc (ops := b_X4_isValleyHere_9) rfl]; rfl
theorem e_X4_isValleyHere_16 (E : AEn) (a_0 : Nat) (h : AH) : evR T_X4_isValleyHere E 16 ([(0, .ref a_0)], [], h) =
  rV (E n_X4_passWord [.ref a_0] h) (fun h1 =>
  rI (E n_X4_cellHere [.ref a_0, .int (1 : Int32), .int (0 : Int32), .int (9 : Int32)] h1) (fun i3 h2 =>
  bif i3 == 0 then evR T_X4_isValleyHere E 42 ([], [], h2) else
  evR T_X4_isValleyHere E 31 ([(0, .ref a_0)], [], h2)) thr) thr := by
  rw [evR_eq ok_T_X4_isValleyHere.loc (ops := b_X4_isValleyHere_16) rfl]; rfl
theorem e_X4_isValleyHere_31 (E : AEn) (a_0 : Nat) (h : AH) : evR T_X4_isValleyHere E 31 ([(0, .ref a_0)], [], h) =
  rI (E n_X4_cellHere [.ref a_0, .int (2 : Int32), .int (1 : Int32), .int (9 : Int32)] h) (fun i2 h1 =>
  bif !(i2 == 0) then evR T_X4_isValleyHere E 44 ([(0, .ref a_0)], [], h1) else
  evR T_X4_isValleyHere E 42 ([], [], h1)) thr := by
  rw [evR_eq ok_T_X4_isValleyHere.loc (ops := b_X4_isValleyHere_31) rfl]; rfl
theorem e_X4_isValleyHere_42 (E : AEn)  (h : AH) : evR T_X4_isValleyHere E 42 ([], [], h) =
  some (.inl (some (.int (0 : Int32))), h) := by
  rw [evR_eq ok_T_X4_isValleyHere.loc (ops := b_X4_isValleyHere_42) rfl]; rfl
theorem e_X4_isValleyHere_44 (E : AEn) (a_0 : Nat) (h : AH) : evR T_X4_isValleyHere E 44 ([(0, .ref a_0)], [], h) =
  (rdR h a_0 4 7).bind fun r1 =>
  (stI h r1 0 (0 : Int32) (1 : Int32)).bind fun h2 =>
  some (.inl (some (.int (1 : Int32))), h2) := by
  rw [evR_eq ok_T_X4_isValleyHere.loc (ops := b_X4_isValleyHere_44) rfl]; rfl
theorem c_X4_isValleyHere (d : Nat) (a_0 : Nat) (i_1 : Int32) (h : AH) : callR (d + 1) n_X4_isValleyHere [.ref a_0, .int i_1] h =
  bif isO h a_0 4 then evR T_X4_isValleyHere (callR d) 0 ([(0, .ref a_0), (1, .int i_1)], [], h) else none := by
  rw [callR_succ, show aMTl[n_X4_isValleyHere]? = some (T_X4_isValleyHere, [0, 1]) from rfl]; show (bif (isO h a_0 4) && true then _ else _) = _; rw [Bool.and_true]; rfl
theorem e_X4_passWord_0 (E : AEn) (a_0 : Nat) (h : AH) : evR T_X4_passWord E 0 ([(0, .ref a_0)], [], h) =
  (rdI h a_0 4 8).bind fun i1 =>
  rI (E n_X4_isLetter [.ref a_0, .int i1] h) (fun i3 h2 =>
  bif i3 == 0 then evR T_X4_passWord E 24 ([], [], h2) else
  evR T_X4_passWord E 11 ([(0, .ref a_0)], [], h2)) thr := by
  rw [evR_eq ok_T_X4_passWord.loc (ops := b_X4_passWord_0) rfl]; rfl
theorem e_X4_passWord_11 (E : AEn) (a_0 : Nat) (h : AH) : evR T_X4_passWord E 11 ([(0, .ref a_0)], [], h) =
  (rdI h a_0 4 8).bind fun i1 =>
  (wrF h a_0 4 8 (.int (i1 + (1 : Int32)))).bind fun h2 =>
  evR T_X4_passWord E 0 ([(0, .ref a_0)], [], h2) := by
  rw [evR_eq ok_T_X4_passWord.loc (ops := b_X4_passWord_11) rfl]; rfl
theorem e_X4_passWord_24 (E : AEn)  (h : AH) : evR T_X4_passWord E 24 ([], [], h) =
  some (.inl none, h) := by
  rw [evR_eq ok_T_X4_passWord.loc (ops := b_X4_passWord_24) rfl]; rfl
theorem c_X4_passWord (d : Nat) (a_0 : Nat) (h : AH) : callR (d + 1) n_X4_passWord [.ref a_0] h =
  bif isO h a_0 4 then evR T_X4_passWord (callR d) 0 ([(0, .ref a_0)], [], h) else none := by
  rw [callR_succ, show aMTl[n_X4_passWord]? = some (T_X4_passWord, [0]) from rfl]; show (bif (isO h a_0 4) && true then _ else _) = _; rw [Bool.and_true]; rfl
theorem e_X4_cellHere_0 (E : AEn) (a_0 : Nat) (i_1 : Int32) (i_2 : Int32) (i_3 : Int32) (h : AH) : evR T_X4_cellHere E 0 ([(0, .ref a_0), (1, .int i_1), (2, .int i_2), (3, .int i_3)], [], h) =
  rI (E n_X4_numberHere [.ref a_0, .int i_2, .int i_3] h) (fun i2 h1 =>
  bif !(i2 == 0) then evR T_X4_cellHere E 11 ([(0, .ref a_0), (1, .int i_1)], [], h1) else
  evR T_X4_cellHere E 9 ([], [], h1)) thr := by
  rw [evR_eq ok_T_X4_cellHere.loc (ops := b_X4_cellHere_0) rfl]; rfl
theorem e_X4_cellHere_9 (E : AEn)  (h : AH) : evR T_X4_cellHere E 9 ([], [], h) =
  some (.inl (some (.int (0 : Int32))), h) := by
  rw [evR_eq ok_T_X4_cellHere.loc (ops := b_X4_cellHere_9) rfl]; rfl
theorem e_X4_cellHere_11 (E : AEn) (a_0 : Nat) (i_1 : Int32) (h : AH) : evR T_X4_cellHere E 11 ([(0, .ref a_0), (1, .int i_1)], [], h) =
  (rdR h a_0 4 7).bind fun r1 =>
  (rdI h a_0 4 10).bind fun i2 =>
  (stI h r1 0 i_1 i2).bind fun h3 =>
  some (.inl (some (.int (1 : Int32))), h3) := by
  rw [evR_eq ok_T_X4_cellHere.loc (ops := b_X4_cellHere_11) rfl]; rfl
theorem c_X4_cellHere (d : Nat) (a_0 : Nat) (i_1 : Int32) (i_2 : Int32) (i_3 : Int32) (h : AH) : callR (d + 1) n_X4_cellHere [.ref a_0, .int i_1, .int i_2, .int i_3] h =
  bif isO h a_0 4 then evR T_X4_cellHere (callR d) 0 ([(0, .ref a_0), (1, .int i_1), (2, .int i_2), (3, .int i_3)], [], h) else none := by
  rw [callR_succ, show aMTl[n_X4_cellHere]? = some (T_X4_cellHere, [0, 1, 2, 3]) from rfl]; show (bif (isO h a_0 4) && true then _ else _) = _; rw [Bool.and_true]; rfl
theorem e_X4_numberHere_0 (E : AEn) (a_0 : Nat) (i_1 : Int32) (i_2 : Int32) (h : AH) : evR T_X4_numberHere E 0 ([(0, .ref a_0), (1, .int i_1), (2, .int i_2)], [], h) =
  rI (E n_X4_see [.ref a_0] h) (fun i2 h1 =>
  (rdI h1 a_0 4 8).bind fun i3 =>
  rI (E n_X4_isDigit [.ref a_0, .int i3] h1) (fun i5 h4 =>
  bif !(i5 == 0) then evR T_X4_numberHere E 26 ([(0, .ref a_0), (1, .int i_1), (2, .int i_2)], [], h4) else
  evR T_X4_numberHere E 16 ([(0, .ref a_0)], [], h4)) thr) thr := by
  rw [evR_eq ok_T_X4_numberHere.loc (ops := b_X4_numberHere_0) rfl]; rfl
theorem e_X4_numberHere_16 (E : AEn) (a_0 : Nat) (h : AH) : evR T_X4_numberHere E 16 ([(0, .ref a_0)], [], h) =
  (rdI h a_0 4 8).bind fun i1 =>
  rI (E n_X4_fails [.ref a_0, .int (0 : Int32), .int i1] h) (fun i3 h2 =>
  (bif i3 == 0 || i3 == 1 then some i3 else none).bind fun i4 => some (.inl (some (.int i4)), h2)) thr := by
  rw [evR_eq ok_T_X4_numberHere.loc (ops := b_X4_numberHere_16) rfl]; rfl
theorem e_X4_numberHere_26 (E : AEn) (a_0 : Nat) (i_1 : Int32) (i_2 : Int32) (h : AH) : evR T_X4_numberHere E 26 ([(0, .ref a_0), (1, .int i_1), (2, .int i_2)], [], h) =
  (rdI h a_0 4 8).bind fun i1 =>
  evR T_X4_numberHere E 34 ([(0, .ref a_0), (1, .int i_1), (2, .int i_2), (3, .int i1), (4, .int (0 : Int32))], [], h) := by
  rw [evR_eq ok_T_X4_numberHere.loc (ops := b_X4_numberHere_26) rfl]; rfl
theorem e_X4_numberHere_34 (E : AEn) (a_0 : Nat) (i_1 : Int32) (i_2 : Int32) (i_3 : Int32) (i_4 : Int32) (h : AH) : evR T_X4_numberHere E 34 ([(0, .ref a_0), (1, .int i_1), (2, .int i_2), (3, .int i_3), (4, .int i_4)], [], h) =
  (rdI h a_0 4 8).bind fun i1 =>
  rI (E n_X4_isDigit [.ref a_0, .int i1] h) (fun i3 h2 =>
  bif i3 == 0 then evR T_X4_numberHere E 88 ([(0, .ref a_0), (1, .int i_1), (2, .int i_2), (3, .int i_3), (4, .int i_4)], [], h2) else
  evR T_X4_numberHere E 45 ([(0, .ref a_0), (1, .int i_1), (2, .int i_2), (3, .int i_3), (4, .int i_4)], [], h2)) thr := by
  rw [evR_eq ok_T_X4_numberHere.loc (ops := b_X4_numberHere_34) rfl]; rfl
theorem e_X4_numberHere_45 (E : AEn) (a_0 : Nat) (i_1 : Int32) (i_2 : Int32) (i_3 : Int32) (i_4 : Int32) (h : AH) : evR T_X4_numberHere E 45 ([(0, .ref a_0), (1, .int i_1), (2, .int i_2), (3, .int i_3), (4, .int i_4)], [], h) =
  (rdI h a_0 4 8).bind fun i1 =>
  bif decide ((5 : Int32) ≤ (i1 - i_3)) then evR T_X4_numberHere E 75 ([(0, .ref a_0), (1, .int i_1), (2, .int i_2), (3, .int i_3), (4, .int i_4)], [], h) else
  evR T_X4_numberHere E 55 ([(0, .ref a_0), (1, .int i_1), (2, .int i_2), (3, .int i_3), (4, .int i_4)], [], h) := by
  rw [evR_eq ok_T_X4_numberHere.loc (ops := b_X4_numberHere_45) rfl]; rfl
theorem e_X4_numberHere_55 (E : AEn) (a_0 : Nat) (i_1 : Int32) (i_2 : Int32) (i_3 : Int32) (i_4 : Int32) (h : AH) : evR T_X4_numberHere E 55 ([(0, .ref a_0), (1, .int i_1), (2, .int i_2), (3, .int i_3), (4, .int i_4)], [], h) =
  (rdR h a_0 4 0).bind fun r1 =>
  (rdI h a_0 4 8).bind fun i2 =>
  (ldI h r1 1 i2).bind fun i3 =>
  evR T_X4_numberHere E 75 ([(0, .ref a_0), (1, .int i_1), (2, .int i_2), (3, .int i_3), (4, .int ((((10 : Int32) * i_4) + i3) - (48 : Int32)))], [], h) := by
  rw [evR_eq ok_T_X4_numberHere.loc (ops := b_X4_numberHere_55) rfl]; rfl
theorem e_X4_numberHere_75 (E : AEn) (a_0 : Nat) (i_1 : Int32) (i_2 : Int32) (i_3 : Int32) (i_4 : Int32) (h : AH) : evR T_X4_numberHere E 75 ([(0, .ref a_0), (1, .int i_1), (2, .int i_2), (3, .int i_3), (4, .int i_4)], [], h) =
  (rdI h a_0 4 8).bind fun i1 =>
  (wrF h a_0 4 8 (.int (i1 + (1 : Int32)))).bind fun h2 =>
  evR T_X4_numberHere E 34 ([(0, .ref a_0), (1, .int i_1), (2, .int i_2), (3, .int i_3), (4, .int i_4)], [], h2) := by
  rw [evR_eq ok_T_X4_numberHere.loc (ops := b_X4_numberHere_75) rfl]; rfl
theorem e_X4_numberHere_88 (E : AEn) (a_0 : Nat) (i_1 : Int32) (i_2 : Int32) (i_3 : Int32) (i_4 : Int32) (h : AH) : evR T_X4_numberHere E 88 ([(0, .ref a_0), (1, .int i_1), (2, .int i_2), (3, .int i_3), (4, .int i_4)], [], h) =
  (wrF h a_0 4 10 (.int i_4)).bind fun h1 =>
  (rdI h1 a_0 4 8).bind fun i2 =>
  bif decide ((5 : Int32) < (i2 - i_3)) then evR T_X4_numberHere E 117 ([(0, .ref a_0), (3, .int i_3)], [], h1) else
  evR T_X4_numberHere E 104 ([(0, .ref a_0), (1, .int i_1), (2, .int i_2), (3, .int i_3), (4, .int i_4)], [], h1) := by
  rw [evR_eq ok_T_X4_numberHere.loc (ops := b_X4_numberHere_88) rfl]; rfl
theorem e_X4_numberHere_104 (E : AEn) (a_0 : Nat) (i_1 : Int32) (i_2 : Int32) (i_3 : Int32) (i_4 : Int32) (h : AH) : evR T_X4_numberHere E 104 ([(0, .ref a_0), (1, .int i_1), (2, .int i_2), (3, .int i_3), (4, .int i_4)], [], h) =
  rI (E n_X4_in [.long i_4.toInt64, .long i_1.toInt64, .long i_2.toInt64] h) (fun i2 h1 =>
  bif !(i2 == 0) then evR T_X4_numberHere E 126 ([], [], h1) else
  evR T_X4_numberHere E 117 ([(0, .ref a_0), (3, .int i_3)], [], h1)) thr := by
  rw [evR_eq ok_T_X4_numberHere.loc (ops := b_X4_numberHere_104) rfl]; rfl
theorem e_X4_numberHere_117 (E : AEn) (a_0 : Nat) (i_3 : Int32) (h : AH) : evR T_X4_numberHere E 117 ([(0, .ref a_0), (3, .int i_3)], [], h) =
  rI (E n_X4_fails [.ref a_0, .int (1 : Int32), .int i_3] h) (fun i2 h1 =>
  bif i2 == 0 then evR T_X4_numberHere E 130 ([], [], h1) else
  evR T_X4_numberHere E 126 ([], [], h1)) thr := by
  rw [evR_eq ok_T_X4_numberHere.loc (ops := b_X4_numberHere_117) rfl]; rfl
theorem e_X4_numberHere_126 (E : AEn)  (h : AH) : evR T_X4_numberHere E 126 ([], [], h) =
  evR T_X4_numberHere E 131 ([], [.int (1 : Int32)], h) := by
  rw [evR_eq ok_T_X4_numberHere.loc (ops := b_X4_numberHere_126) rfl]; rfl
theorem e_X4_numberHere_130 (E : AEn)  (h : AH) : evR T_X4_numberHere E 130 ([], [], h) =
  evR T_X4_numberHere E 131 ([], [.int (0 : Int32)], h) := by
  rw [evR_eq ok_T_X4_numberHere.loc (ops := b_X4_numberHere_130) rfl]; rfl
theorem e_X4_numberHere_131 (E : AEn) (si_0 : Int32) (h : AH) : evR T_X4_numberHere E 131 ([], [.int si_0], h) =
  (bif si_0 == 0 || si_0 == 1 then some si_0 else none).bind fun i1 => some (.inl (some (.int i1)), h) := by
  rw [evR_eq ok_T_X4_numberHere.loc (ops := b_X4_numberHere_131) rfl]; rfl
theorem c_X4_numberHere (d : Nat) (a_0 : Nat) (i_1 : Int32) (i_2 : Int32) (h : AH) : callR (d + 1) n_X4_numberHere [.ref a_0, .int i_1, .int i_2] h =
  bif isO h a_0 4 then evR T_X4_numberHere (callR d) 0 ([(0, .ref a_0), (1, .int i_1), (2, .int i_2)], [], h) else none := by
  rw [callR_succ, show aMTl[n_X4_numberHere]? = some (T_X4_numberHere, [0, 1, 2]) from rfl]; show (bif (isO h a_0 4) && true then _ else _) = _; rw [Bool.and_true]; rfl
theorem e_X4_isDigit_0 (E : AEn) (a_0 : Nat) (i_1 : Int32) (h : AH) : evR T_X4_isDigit E 0 ([(0, .ref a_0), (1, .int i_1)], [], h) =
  (rdI h a_0 4 1).bind fun i1 =>
  bif decide (i1 ≤ i_1) then evR T_X4_isDigit E 34 ([], [], h) else
  evR T_X4_isDigit E 8 ([(0, .ref a_0), (1, .int i_1)], [], h) := by
  rw [evR_eq ok_T_X4_isDigit.loc (ops := b_X4_isDigit_0) rfl]; rfl
theorem e_X4_isDigit_8 (E : AEn) (a_0 : Nat) (i_1 : Int32) (h : AH) : evR T_X4_isDigit E 8 ([(0, .ref a_0), (1, .int i_1)], [], h) =
  (rdR h a_0 4 0).bind fun r1 =>
  (ldI h r1 1 i_1).bind fun i2 =>
  bif decide (i2 < (48 : Int32)) then evR T_X4_isDigit E 34 ([], [], h) else
  evR T_X4_isDigit E 19 ([(0, .ref a_0), (1, .int i_1)], [], h) := by
  rw [evR_eq ok_T_X4_isDigit.loc (ops := b_X4_isDigit_8) rfl]; rfl
theorem e_X4_isDigit_19 (E : AEn) (a_0 : Nat) (i_1 : Int32) (h : AH) : evR T_X4_isDigit E 19 ([(0, .ref a_0), (1, .int i_1)], [], h) =
  (rdR h a_0 4 0).bind fun r1 =>
  (ldI h r1 1 i_1).bind fun i2 =>
  bif decide ((57 : Int32) < i2) then evR T_X4_isDigit E 34 ([], [], h) else
  evR T_X4_isDigit E 30 ([], [], h) := by
  rw [evR_eq ok_T_X4_isDigit.loc (ops := b_X4_isDigit_19) rfl]; rfl
theorem e_X4_isDigit_30 (E : AEn)  (h : AH) : evR T_X4_isDigit E 30 ([], [], h) =
  evR T_X4_isDigit E 35 ([], [.int (1 : Int32)], h) := by
  rw [evR_eq ok_T_X4_isDigit.loc (ops := b_X4_isDigit_30) rfl]; rfl
theorem e_X4_isDigit_34 (E : AEn)  (h : AH) : evR T_X4_isDigit E 34 ([], [], h) =
  evR T_X4_isDigit E 35 ([], [.int (0 : Int32)], h) := by
  rw [evR_eq ok_T_X4_isDigit.loc (ops := b_X4_isDigit_34) rfl]; rfl
theorem e_X4_isDigit_35 (E : AEn) (si_0 : Int32) (h : AH) : evR T_X4_isDigit E 35 ([], [.int si_0], h) =
  (bif si_0 == 0 || si_0 == 1 then some si_0 else none).bind fun i1 => some (.inl (some (.int i1)), h) := by
  rw [evR_eq ok_T_X4_isDigit.loc (ops := b_X4_isDigit_35) rfl]; rfl
theorem c_X4_isDigit (d : Nat) (a_0 : Nat) (i_1 : Int32) (h : AH) : callR (d + 1) n_X4_isDigit [.ref a_0, .int i_1] h =
  bif isO h a_0 4 then evR T_X4_isDigit (callR d) 0 ([(0, .ref a_0), (1, .int i_1)], [], h) else none := by
  rw [callR_succ, show aMTl[n_X4_isDigit]? = some (T_X4_isDigit, [0, 1]) from rfl]; show (bif (isO h a_0 4) && true then _ else _) = _; rw [Bool.and_true]; rfl
theorem e_X4_in_0 (E : AEn) (l_0 : Int64) (l_2 : Int64) (l_4 : Int64) (h : AH) : evR T_X4_in E 0 ([(0, .long l_0), (2, .long l_2), (4, .long l_4)], [], h) =
  bif decide ((lg_cmp l_0 l_2) < 0) then evR T_X4_in E 17 ([], [], h) else
  evR T_X4_in E 6 ([(0, .long l_0), (4, .long l_4)], [], h) := by
  rw [evR_eq ok_T_X4_in.loc (ops := b_X4_in_0) rfl]; rfl
theorem e_X4_in_6 (E : AEn) (l_0 : Int64) (l_4 : Int64) (h : AH) : evR T_X4_in E 6 ([(0, .long l_0), (4, .long l_4)], [], h) =
  bif decide (0 < (lg_cmp l_0 l_4)) then evR T_X4_in E 17 ([], [], h) else
  evR T_X4_in E 13 ([], [], h) := by
  rw [evR_eq ok_T_X4_in.loc (ops := b_X4_in_6) rfl]; rfl
theorem e_X4_in_13 (E : AEn)  (h : AH) : evR T_X4_in E 13 ([], [], h) =
  evR T_X4_in E 18 ([], [.int (1 : Int32)], h) := by
  rw [evR_eq ok_T_X4_in.loc (ops := b_X4_in_13) rfl]; rfl
theorem e_X4_in_17 (E : AEn)  (h : AH) : evR T_X4_in E 17 ([], [], h) =
  evR T_X4_in E 18 ([], [.int (0 : Int32)], h) := by
  rw [evR_eq ok_T_X4_in.loc (ops := b_X4_in_17) rfl]; rfl
theorem e_X4_in_18 (E : AEn) (si_0 : Int32) (h : AH) : evR T_X4_in E 18 ([], [.int si_0], h) =
  (bif si_0 == 0 || si_0 == 1 then some si_0 else none).bind fun i1 => some (.inl (some (.int i1)), h) := by
  rw [evR_eq ok_T_X4_in.loc (ops := b_X4_in_18) rfl]; rfl
theorem c_X4_in (d : Nat) (l_0 : Int64) (l_2 : Int64) (l_4 : Int64) (h : AH) : callR (d + 1) n_X4_in [.long l_0, .long l_2, .long l_4] h =
  evR T_X4_in (callR d) 0 ([(0, .long l_0), (2, .long l_2), (4, .long l_4)], [], h) := by
  rw [callR_succ, show aMTl[n_X4_in]? = some (T_X4_in, [0, 2, 4]) from rfl]; rfl
theorem e_X4_isHouseHere_0 (E : AEn) (a_0 : Nat) (i_1 : Int32) (h : AH) : evR T_X4_isHouseHere E 0 ([(0, .ref a_0), (1, .int i_1)], [], h) =
  (rdR h a_0 4 7).bind fun r1 =>
  (ldI h r1 0 (3 : Int32)).bind fun i2 =>
  bif !(i2 == (6 : Int32)) then evR T_X4_isHouseHere E 18 ([(0, .ref a_0)], [], h) else
  evR T_X4_isHouseHere E 11 ([(0, .ref a_0), (1, .int i_1)], [], h) := by
  rw [evR_eq ok_T_X4_isHouseHere.loc (ops := b_X4_isHouseHere_0) rfl]; rfl
theorem e_X4_isHouseHere_11 (E : AEn) (a_0 : Nat) (i_1 : Int32) (h : AH) : evR T_X4_isHouseHere E 11 ([(0, .ref a_0), (1, .int i_1)], [], h) =
  rI (E n_X4_fails [.ref a_0, .int (4 : Int32), .int i_1] h) (fun i2 h1 =>
  (bif i2 == 0 || i2 == 1 then some i2 else none).bind fun i3 => some (.inl (some (.int i3)), h1)) thr := by
  rw [evR_eq ok_T_X4_isHouseHere.loc (ops := b_X4_isHouseHere_11) rfl]; rfl
theorem e_X4_isHouseHere_18 (E : AEn) (a_0 : Nat) (h : AH) : evR T_X4_isHouseHere E 18 ([(0, .ref a_0)], [], h) =
  rV (E n_X4_passWord [.ref a_0] h) (fun h1 =>
  (rdR h1 a_0 4 7).bind fun r2 =>
  (ldI h1 r2 0 (3 : Int32)).bind fun i3 =>
  rI (E n_X4_cellHere [.ref a_0, .int ((93 : Int32) + ((3 : Int32) * i3)), .int (0 : Int32), .int (99 : Int32)] h1) (fun i5 h4 =>
  bif i5 == 0 then evR T_X4_isHouseHere E 71 ([], [], h4) else
  evR T_X4_isHouseHere E 45 ([(0, .ref a_0), (2, .int ((93 : Int32) + ((3 : Int32) * i3)))], [], h4)) thr) thr := by
  rw [evR_eq ok_T_X4_isHouseHere.loc (ops := b_X4_isHouseHere_18) rfl]; rfl
theorem e_X4_isHouseHere_45 (E : AEn) (a_0 : Nat) (i_2 : Int32) (h : AH) : evR T_X4_isHouseHere E 45 ([(0, .ref a_0), (2, .int i_2)], [], h) =
  rI (E n_X4_cellHere [.ref a_0, .int (i_2 + (1 : Int32)), .int (0 : Int32), .int (9 : Int32)] h) (fun i2 h1 =>
  bif i2 == 0 then evR T_X4_isHouseHere E 71 ([], [], h1) else
  evR T_X4_isHouseHere E 58 ([(0, .ref a_0), (2, .int i_2)], [], h1)) thr := by
  rw [evR_eq ok_T_X4_isHouseHere.loc (ops := b_X4_isHouseHere_45) rfl]; rfl
theorem e_X4_isHouseHere_58 (E : AEn) (a_0 : Nat) (i_2 : Int32) (h : AH) : evR T_X4_isHouseHere E 58 ([(0, .ref a_0), (2, .int i_2)], [], h) =
  rI (E n_X4_cellHere [.ref a_0, .int (i_2 + (2 : Int32)), .int (0 : Int32), .int (20 : Int32)] h) (fun i2 h1 =>
  bif !(i2 == 0) then evR T_X4_isHouseHere E 73 ([(0, .ref a_0), (2, .int i_2)], [], h1) else
  evR T_X4_isHouseHere E 71 ([], [], h1)) thr := by
  rw [evR_eq ok_T_X4_isHouseHere.loc (ops := b_X4_isHouseHere_58) rfl]; rfl
theorem e_X4_isHouseHere_71 (E : AEn)  (h : AH) : evR T_X4_isHouseHere E 71 ([], [], h) =
  some (.inl (some (.int (0 : Int32))), h) := by
  rw [evR_eq ok_T_X4_isHouseHere.loc (ops := b_X4_isHouseHere_71) rfl]; rfl
theorem e_X4_isHouseHere_73 (E : AEn) (a_0 : Nat) (i_2 : Int32) (h : AH) : evR T_X4_isHouseHere E 73 ([(0, .ref a_0), (2, .int i_2)], [], h) =
  (rdR h a_0 4 7).bind fun r1 =>
  (ldI h r1 0 i_2).bind fun i2 =>
  bif !(i2 == 0) then evR T_X4_isHouseHere E 91 ([(0, .ref a_0)], [], h) else
  evR T_X4_isHouseHere E 82 ([(0, .ref a_0), (2, .int i_2)], [], h) := by
  rw [evR_eq ok_T_X4_isHouseHere.loc (ops := b_X4_isHouseHere_73) rfl]; rfl
theorem e_X4_isHouseHere_82 (E : AEn) (a_0 : Nat) (i_2 : Int32) (h : AH) : evR T_X4_isHouseHere E 82 ([(0, .ref a_0), (2, .int i_2)], [], h) =
  (rdR h a_0 4 7).bind fun r1 =>
  (stI h r1 0 (i_2 + (1 : Int32)) (0 : Int32)).bind fun h2 =>
  evR T_X4_isHouseHere E 91 ([(0, .ref a_0)], [], h2) := by
  rw [evR_eq ok_T_X4_isHouseHere.loc (ops := b_X4_isHouseHere_82) rfl]; rfl
theorem e_X4_isHouseHere_91 (E : AEn) (a_0 : Nat) (h : AH) : evR T_X4_isHouseHere E 91 ([(0, .ref a_0)], [], h) =
  (rdR h a_0 4 7).bind fun r1 =>
  (ldI h r1 0 (3 : Int32)).bind fun i2 =>
  (stI h r1 0 (3 : Int32) (i2 + (1 : Int32))).bind fun h3 =>
  some (.inl (some (.int (1 : Int32))), h3) := by
  rw [evR_eq ok_T_X4_isHouseHere.loc (ops := b_X4_isHouseHere_91) rfl]; rfl
theorem c_X4_isHouseHere (d : Nat) (a_0 : Nat) (i_1 : Int32) (h : AH) : callR (d + 1) n_X4_isHouseHere [.ref a_0, .int i_1] h =
  bif isO h a_0 4 then evR T_X4_isHouseHere (callR d) 0 ([(0, .ref a_0), (1, .int i_1)], [], h) else none := by
  rw [callR_succ, show aMTl[n_X4_isHouseHere]? = some (T_X4_isHouseHere, [0, 1]) from rfl]; show (bif (isO h a_0 4) && true then _ else _) = _; rw [Bool.and_true]; rfl
theorem e_X4_isRoadHere_0 (E : AEn) (a_0 : Nat) (h : AH) : evR T_X4_isRoadHere E 0 ([(0, .ref a_0)], [], h) =
  rV (E n_X4_passWord [.ref a_0] h) (fun h1 =>
  (rdR h1 a_0 4 7).bind fun r2 =>
  (ldI h1 r2 0 (3 : Int32)).bind fun i3 =>
  rI (E n_X4_areTwoHere [.ref a_0, .int i3] h1) (fun i5 h4 =>
  bif !(i5 == 0) then evR T_X4_isRoadHere E 19 ([(0, .ref a_0)], [], h4) else
  evR T_X4_isRoadHere E 17 ([], [], h4)) thr) thr := by
  rw [evR_eq ok_T_X4_isRoadHere.loc (ops := b_X4_isRoadHere_0) rfl]; rfl
theorem e_X4_isRoadHere_17 (E : AEn)  (h : AH) : evR T_X4_isRoadHere E 17 ([], [], h) =
  some (.inl (some (.int (0 : Int32))), h) := by
  rw [evR_eq ok_T_X4_isRoadHere.loc (ops := b_X4_isRoadHere_17) rfl]; rfl
theorem e_X4_isRoadHere_19 (E : AEn) (a_0 : Nat) (h : AH) : evR T_X4_isRoadHere E 19 ([(0, .ref a_0)], [], h) =
  (rdI h a_0 4 17).bind fun i1 =>
  (rdI h a_0 4 10).bind fun i2 =>
  (rdI h a_0 4 10).bind fun i3 =>
  (rdI h a_0 4 17).bind fun i4 =>
  rI (E n_X4_cellHere [.ref a_0, .int (((44 : Int32) + ((7 : Int32) * i1)) + i2), .int (1 : Int32), .int (9 : Int32)] h) (fun i6 h5 =>
  bif !(i6 == 0) then evR T_X4_isRoadHere E 64 ([(0, .ref a_0), (2, .int (((44 : Int32) + ((7 : Int32) * i3)) + i4))], [], h5) else
  evR T_X4_isRoadHere E 62 ([], [], h5)) thr := by
  rw [evR_eq ok_T_X4_isRoadHere.loc (ops := b_X4_isRoadHere_19) rfl]; rfl
theorem e_X4_isRoadHere_62 (E : AEn)  (h : AH) : evR T_X4_isRoadHere E 62 ([], [], h) =
  some (.inl (some (.int (0 : Int32))), h) := by
  rw [evR_eq ok_T_X4_isRoadHere.loc (ops := b_X4_isRoadHere_62) rfl]; rfl
theorem e_X4_isRoadHere_64 (E : AEn) (a_0 : Nat) (i_2 : Int32) (h : AH) : evR T_X4_isRoadHere E 64 ([(0, .ref a_0), (2, .int i_2)], [], h) =
  (rdR h a_0 4 7).bind fun r1 =>
  (rdI h a_0 4 10).bind fun i2 =>
  (stI h r1 0 i_2 i2).bind fun h3 =>
  some (.inl (some (.int (1 : Int32))), h3) := by
  rw [evR_eq ok_T_X4_isRoadHere.loc (ops := b_X4_isRoadHere_64) rfl]; rfl
theorem c_X4_isRoadHere (d : Nat) (a_0 : Nat) (h : AH) : callR (d + 1) n_X4_isRoadHere [.ref a_0] h =
  bif isO h a_0 4 then evR T_X4_isRoadHere (callR d) 0 ([(0, .ref a_0)], [], h) else none := by
  rw [callR_succ, show aMTl[n_X4_isRoadHere]? = some (T_X4_isRoadHere, [0]) from rfl]; show (bif (isO h a_0 4) && true then _ else _) = _; rw [Bool.and_true]; rfl
theorem e_X4_areTwoHere_0 (E : AEn) (a_0 : Nat) (i_1 : Int32) (h : AH) : evR T_X4_areTwoHere E 0 ([(0, .ref a_0), (1, .int i_1)], [], h) =
  rI (E n_X4_numberHere [.ref a_0, .int (0 : Int32), .int i_1] h) (fun i2 h1 =>
  bif !(i2 == 0) then evR T_X4_areTwoHere E 11 ([(0, .ref a_0), (1, .int i_1)], [], h1) else
  evR T_X4_areTwoHere E 9 ([], [], h1)) thr := by
  rw [evR_eq ok_T_X4_areTwoHere.loc (ops := b_X4_areTwoHere_0) rfl]; rfl
theorem e_X4_areTwoHere_9 (E : AEn)  (h : AH) : evR T_X4_areTwoHere E 9 ([], [], h) =
  some (.inl (some (.int (0 : Int32))), h) := by
  rw [evR_eq ok_T_X4_areTwoHere.loc (ops := b_X4_areTwoHere_9) rfl]; rfl
theorem e_X4_areTwoHere_11 (E : AEn) (a_0 : Nat) (i_1 : Int32) (h : AH) : evR T_X4_areTwoHere E 11 ([(0, .ref a_0), (1, .int i_1)], [], h) =
  (rdI h a_0 4 10).bind fun i1 =>
  (wrF h a_0 4 17 (.int i1)).bind fun h2 =>
  rI (E n_X4_see [.ref a_0] h2) (fun i4 h3 =>
  (rdI h3 a_0 4 8).bind fun i5 =>
  rI (E n_X4_numberHere [.ref a_0, .int (0 : Int32), .int i_1] h3) (fun i7 h6 =>
  bif !(i7 == 0) then evR T_X4_areTwoHere E 40 ([(0, .ref a_0), (2, .int i5)], [], h6) else
  evR T_X4_areTwoHere E 38 ([], [], h6)) thr) thr := by
  rw [evR_eq ok_T_X4_areTwoHere.loc (ops := b_X4_areTwoHere_11) rfl]; rfl
theorem e_X4_areTwoHere_38 (E : AEn)  (h : AH) : evR T_X4_areTwoHere E 38 ([], [], h) =
  some (.inl (some (.int (0 : Int32))), h) := by
  rw [evR_eq ok_T_X4_areTwoHere.loc (ops := b_X4_areTwoHere_38) rfl]; rfl
theorem e_X4_areTwoHere_40 (E : AEn) (a_0 : Nat) (i_2 : Int32) (h : AH) : evR T_X4_areTwoHere E 40 ([(0, .ref a_0), (2, .int i_2)], [], h) =
  (rdI h a_0 4 17).bind fun i1 =>
  (rdI h a_0 4 10).bind fun i2 =>
  bif !(i1 == i2) then evR T_X4_areTwoHere E 60 ([], [], h) else
  evR T_X4_areTwoHere E 51 ([(0, .ref a_0), (2, .int i_2)], [], h) := by
  rw [evR_eq ok_T_X4_areTwoHere.loc (ops := b_X4_areTwoHere_40) rfl]; rfl
theorem e_X4_areTwoHere_51 (E : AEn) (a_0 : Nat) (i_2 : Int32) (h : AH) : evR T_X4_areTwoHere E 51 ([(0, .ref a_0), (2, .int i_2)], [], h) =
  rI (E n_X4_fails [.ref a_0, .int (1 : Int32), .int i_2] h) (fun i2 h1 =>
  bif i2 == 0 then evR T_X4_areTwoHere E 64 ([], [], h1) else
  evR T_X4_areTwoHere E 60 ([], [], h1)) thr := by
  rw [evR_eq ok_T_X4_areTwoHere.loc (ops := b_X4_areTwoHere_51) rfl]; rfl
theorem e_X4_areTwoHere_60 (E : AEn)  (h : AH) : evR T_X4_areTwoHere E 60 ([], [], h) =
  evR T_X4_areTwoHere E 65 ([], [.int (1 : Int32)], h) := by
  rw [evR_eq ok_T_X4_areTwoHere.loc (ops := b_X4_areTwoHere_60) rfl]; rfl
theorem e_X4_areTwoHere_64 (E : AEn)  (h : AH) : evR T_X4_areTwoHere E 64 ([], [], h) =
  evR T_X4_areTwoHere E 65 ([], [.int (0 : Int32)], h) := by
  rw [evR_eq ok_T_X4_areTwoHere.loc (ops := b_X4_areTwoHere_64) rfl]; rfl
theorem e_X4_areTwoHere_65 (E : AEn) (si_0 : Int32) (h : AH) : evR T_X4_areTwoHere E 65 ([], [.int si_0], h) =
  (bif si_0 == 0 || si_0 == 1 then some si_0 else none).bind fun i1 => some (.inl (some (.int i1)), h) := by
  rw [evR_eq ok_T_X4_areTwoHere.loc (ops := b_X4_areTwoHere_65) rfl]; rfl
theorem c_X4_areTwoHere (d : Nat) (a_0 : Nat) (i_1 : Int32) (h : AH) : callR (d + 1) n_X4_areTwoHere [.ref a_0, .int i_1] h =
  bif isO h a_0 4 then evR T_X4_areTwoHere (callR d) 0 ([(0, .ref a_0), (1, .int i_1)], [], h) else none := by
  rw [callR_succ, show aMTl[n_X4_areTwoHere]? = some (T_X4_areTwoHere, [0, 1]) from rfl]; show (bif (isO h a_0 4) && true then _ else _) = _; rw [Bool.and_true]; rfl
theorem e_X4_isBesideHere_0 (E : AEn) (a_0 : Nat) (h : AH) : evR T_X4_isBesideHere E 0 ([(0, .ref a_0)], [], h) =
  rV (E n_X4_passWord [.ref a_0] h) (fun h1 =>
  (rdR h1 a_0 4 7).bind fun r2 =>
  (ldI h1 r2 0 (3 : Int32)).bind fun i3 =>
  rI (E n_X4_areTwoHere [.ref a_0, .int (i3 - (1 : Int32))] h1) (fun i5 h4 =>
  bif !(i5 == 0) then evR T_X4_isBesideHere E 21 ([(0, .ref a_0)], [], h4) else
  evR T_X4_isBesideHere E 19 ([], [], h4)) thr) thr := by
  rw [evR_eq ok_T_X4_isBesideHere.loc (ops := b_X4_isBesideHere_0) rfl]; rfl
theorem e_X4_isBesideHere_19 (E : AEn)  (h : AH) : evR T_X4_isBesideHere E 19 ([], [], h) =
  some (.inl (some (.int (0 : Int32))), h) := by
  rw [evR_eq ok_T_X4_isBesideHere.loc (ops := b_X4_isBesideHere_19) rfl]; rfl
theorem e_X4_isBesideHere_21 (E : AEn) (a_0 : Nat) (h : AH) : evR T_X4_isBesideHere E 21 ([(0, .ref a_0)], [], h) =
  (rdR h a_0 4 7).bind fun r1 =>
  (rdI h a_0 4 17).bind fun i2 =>
  (ldI h r1 0 ((38 : Int32) + i2)).bind fun i3 =>
  (rdI h a_0 4 10).bind fun i4 =>
  (stI h r1 0 ((38 : Int32) + i2) (i3 ||| ((1 : Int32) <<< (i4 &&& 31)))).bind fun h5 =>
  (rdR h5 a_0 4 7).bind fun r6 =>
  (rdI h5 a_0 4 10).bind fun i7 =>
  (ldI h5 r6 0 ((38 : Int32) + i7)).bind fun i8 =>
  (rdI h5 a_0 4 17).bind fun i9 =>
  (stI h5 r6 0 ((38 : Int32) + i7) (i8 ||| ((1 : Int32) <<< (i9 &&& 31)))).bind fun h10 =>
  some (.inl (some (.int (1 : Int32))), h10) := by
  rw [evR_eq ok_T_X4_isBesideHere.loc (ops := b_X4_isBesideHere_21) rfl]; rfl
theorem c_X4_isBesideHere (d : Nat) (a_0 : Nat) (h : AH) : callR (d + 1) n_X4_isBesideHere [.ref a_0] h =
  bif isO h a_0 4 then evR T_X4_isBesideHere (callR d) 0 ([(0, .ref a_0)], [], h) else none := by
  rw [callR_succ, show aMTl[n_X4_isBesideHere]? = some (T_X4_isBesideHere, [0]) from rfl]; show (bif (isO h a_0 4) && true then _ else _) = _; rw [Bool.and_true]; rfl
theorem e_X4_isGoHere_0 (E : AEn) (a_0 : Nat) (h : AH) : evR T_X4_isGoHere E 0 ([(0, .ref a_0)], [], h) =
  rV (E n_X4_passWord [.ref a_0] h) (fun h1 =>
  (rdI h1 a_0 4 11).bind fun i2 =>
  (rdR h1 a_0 4 6).bind fun r3 =>
  (rdI h1 a_0 4 11).bind fun i4 =>
  (ldI h1 r3 0 i4).bind fun i5 =>
  (rdR h1 a_0 4 5).bind fun r6 =>
  (rdR h1 a_0 4 4).bind fun r7 =>
  (rdI h1 a_0 4 11).bind fun i8 =>
  (ldI h1 r7 0 i8).bind fun i9 =>
  (stI h1 r6 0 (((48 : Int32) * i2) + ((4 : Int32) * i5)) i9).bind fun h10 =>
  rI (E n_X4_sum [.ref a_0] h10) (fun i12 h11 =>
  bif !(i12 == 0) then evR T_X4_isGoHere E 48 ([(0, .ref a_0), (1, .int (((48 : Int32) * i2) + ((4 : Int32) * i5)))], [], h11) else
  evR T_X4_isGoHere E 46 ([], [], h11)) thr) thr := by
  rw [evR_eq ok_T_X4_isGoHere.loc (ops := b_X4_isGoHere_0) rfl]; rfl
theorem e_X4_isGoHere_46 (E : AEn)  (h : AH) : evR T_X4_isGoHere E 46 ([], [], h) =
  some (.inl (some (.int (0 : Int32))), h) := by
  rw [evR_eq ok_T_X4_isGoHere.loc (ops := b_X4_isGoHere_46) rfl]; rfl
theorem e_X4_isGoHere_48 (E : AEn) (a_0 : Nat) (i_1 : Int32) (h : AH) : evR T_X4_isGoHere E 48 ([(0, .ref a_0), (1, .int i_1)], [], h) =
  (rdR h a_0 4 5).bind fun r1 =>
  (rdR h a_0 4 4).bind fun r2 =>
  (rdI h a_0 4 11).bind fun i3 =>
  (ldI h r2 0 i3).bind fun i4 =>
  (stI h r1 0 (i_1 + (1 : Int32)) i4).bind fun h5 =>
  (rdR h5 a_0 4 5).bind fun r6 =>
  (stI h5 r6 0 (i_1 + (2 : Int32)) (-1 : Int32)).bind fun h7 =>
  rI (E n_X4_takesWord [.ref a_0, .long (26982 : Int64)] h7) (fun i9 h8 =>
  bif i9 == 0 then evR T_X4_isGoHere E 110 ([(0, .ref a_0), (1, .int i_1)], [], h8) else
  evR T_X4_isGoHere E 84 ([(0, .ref a_0), (1, .int i_1)], [], h8)) thr := by
  rw [evR_eq ok_T_X4_isGoHere.loc (ops := b_X4_isGoHere_48) rfl]; rfl
theorem e_X4_isGoHere_84 (E : AEn) (a_0 : Nat) (i_1 : Int32) (h : AH) : evR T_X4_isGoHere E 84 ([(0, .ref a_0), (1, .int i_1)], [], h) =
  (rdR h a_0 4 5).bind fun r1 =>
  (rdR h a_0 4 4).bind fun r2 =>
  (rdI h a_0 4 11).bind fun i3 =>
  (ldI h r2 0 i3).bind fun i4 =>
  (stI h r1 0 (i_1 + (2 : Int32)) i4).bind fun h5 =>
  rI (E n_X4_tested [.ref a_0] h5) (fun i7 h6 =>
  bif !(i7 == 0) then evR T_X4_isGoHere E 110 ([(0, .ref a_0), (1, .int i_1)], [], h6) else
  evR T_X4_isGoHere E 108 ([], [], h6)) thr := by
  rw [evR_eq ok_T_X4_isGoHere.loc (ops := b_X4_isGoHere_84) rfl]; rfl
theorem e_X4_isGoHere_108 (E : AEn)  (h : AH) : evR T_X4_isGoHere E 108 ([], [], h) =
  some (.inl (some (.int (0 : Int32))), h) := by
  rw [evR_eq ok_T_X4_isGoHere.loc (ops := b_X4_isGoHere_108) rfl]; rfl
theorem e_X4_isGoHere_110 (E : AEn) (a_0 : Nat) (i_1 : Int32) (h : AH) : evR T_X4_isGoHere E 110 ([(0, .ref a_0), (1, .int i_1)], [], h) =
  (rdR h a_0 4 5).bind fun r1 =>
  (rdR h a_0 4 4).bind fun r2 =>
  (rdI h a_0 4 11).bind fun i3 =>
  (ldI h r2 0 i3).bind fun i4 =>
  (stI h r1 0 (i_1 + (3 : Int32)) i4).bind fun h5 =>
  (rdR h5 a_0 4 6).bind fun r6 =>
  (rdI h5 a_0 4 11).bind fun i7 =>
  (ldI h5 r6 0 i7).bind fun i8 =>
  (stI h5 r6 0 i7 (i8 + (1 : Int32))).bind fun h9 =>
  some (.inl (some (.int (1 : Int32))), h9) := by
  rw [evR_eq ok_T_X4_isGoHere.loc (ops := b_X4_isGoHere_110) rfl]; rfl
theorem c_X4_isGoHere (d : Nat) (a_0 : Nat) (h : AH) : callR (d + 1) n_X4_isGoHere [.ref a_0] h =
  bif isO h a_0 4 then evR T_X4_isGoHere (callR d) 0 ([(0, .ref a_0)], [], h) else none := by
  rw [callR_succ, show aMTl[n_X4_isGoHere]? = some (T_X4_isGoHere, [0]) from rfl]; show (bif (isO h a_0 4) && true then _ else _) = _; rw [Bool.and_true]; rfl
theorem e_X4_sum_0 (E : AEn) (a_0 : Nat) (h : AH) : evR T_X4_sum E 0 ([(0, .ref a_0)], [], h) =
  rI (E n_X4_term [.ref a_0] h) (fun i2 h1 =>
  bif !(i2 == 0) then evR T_X4_sum E 9 ([(0, .ref a_0)], [], h1) else
  evR T_X4_sum E 7 ([], [], h1)) thr := by
  rw [evR_eq ok_T_X4_sum.loc (ops := b_X4_sum_0) rfl]; rfl
theorem e_X4_sum_7 (E : AEn)  (h : AH) : evR T_X4_sum E 7 ([], [], h) =
  some (.inl (some (.int (0 : Int32))), h) := by
  rw [evR_eq ok_T_X4_sum.loc (ops := b_X4_sum_7) rfl]; rfl
theorem e_X4_sum_9 (E : AEn) (a_0 : Nat) (h : AH) : evR T_X4_sum E 9 ([(0, .ref a_0)], [], h) =
  rI (E n_X4_see [.ref a_0] h) (fun i2 h1 =>
  bif i2 == (43 : Int32) then evR T_X4_sum E 27 ([(0, .ref a_0)], [], h1) else
  evR T_X4_sum E 18 ([(0, .ref a_0)], [], h1)) thr := by
  rw [evR_eq ok_T_X4_sum.loc (ops := b_X4_sum_9) rfl]; rfl
theorem e_X4_sum_18 (E : AEn) (a_0 : Nat) (h : AH) : evR T_X4_sum E 18 ([(0, .ref a_0)], [], h) =
  rI (E n_X4_see [.ref a_0] h) (fun i2 h1 =>
  bif !(i2 == (45 : Int32)) then evR T_X4_sum E 75 ([], [], h1) else
  evR T_X4_sum E 27 ([(0, .ref a_0)], [], h1)) thr := by
  rw [evR_eq ok_T_X4_sum.loc (ops := b_X4_sum_18) rfl]; rfl
theorem e_X4_sum_27 (E : AEn) (a_0 : Nat) (h : AH) : evR T_X4_sum E 27 ([(0, .ref a_0)], [], h) =
  (rdR h a_0 4 0).bind fun r1 =>
  (rdI h a_0 4 8).bind fun i2 =>
  (ldI h r1 1 i2).bind fun i3 =>
  bif !(i3 == (43 : Int32)) then evR T_X4_sum E 45 ([(0, .ref a_0)], [], h) else
  evR T_X4_sum E 41 ([(0, .ref a_0)], [], h) := by
  rw [evR_eq ok_T_X4_sum.loc (ops := b_X4_sum_27) rfl]; rfl
theorem e_X4_sum_41 (E : AEn) (a_0 : Nat) (h : AH) : evR T_X4_sum E 41 ([(0, .ref a_0)], [], h) =
  evR T_X4_sum E 46 ([(0, .ref a_0)], [.int (2 : Int32)], h) := by
  rw [evR_eq ok_T_X4_sum.loc (ops := b_X4_sum_41) rfl]; rfl
theorem e_X4_sum_45 (E : AEn) (a_0 : Nat) (h : AH) : evR T_X4_sum E 45 ([(0, .ref a_0)], [], h) =
  evR T_X4_sum E 46 ([(0, .ref a_0)], [.int (3 : Int32)], h) := by
  rw [evR_eq ok_T_X4_sum.loc (ops := b_X4_sum_45) rfl]; rfl
theorem e_X4_sum_46 (E : AEn) (a_0 : Nat) (si_0 : Int32) (h : AH) : evR T_X4_sum E 46 ([(0, .ref a_0)], [.int si_0], h) =
  (rdI h a_0 4 8).bind fun i1 =>
  (wrF h a_0 4 8 (.int (i1 + (1 : Int32)))).bind fun h2 =>
  rI (E n_X4_term [.ref a_0] h2) (fun i4 h3 =>
  bif !(i4 == 0) then evR T_X4_sum E 66 ([(0, .ref a_0), (1, .int si_0)], [], h3) else
  evR T_X4_sum E 64 ([], [], h3)) thr := by
  rw [evR_eq ok_T_X4_sum.loc (ops := b_X4_sum_46) rfl]; rfl
theorem e_X4_sum_64 (E : AEn)  (h : AH) : evR T_X4_sum E 64 ([], [], h) =
  some (.inl (some (.int (0 : Int32))), h) := by
  rw [evR_eq ok_T_X4_sum.loc (ops := b_X4_sum_64) rfl]; rfl
theorem e_X4_sum_66 (E : AEn) (a_0 : Nat) (i_1 : Int32) (h : AH) : evR T_X4_sum E 66 ([(0, .ref a_0), (1, .int i_1)], [], h) =
  rV (E n_X4_puts [.ref a_0, .int i_1, .int (0 : Int32)] h) (fun h1 =>
  evR T_X4_sum E 9 ([(0, .ref a_0)], [], h1)) thr := by
  rw [evR_eq ok_T_X4_sum.loc (ops := b_X4_sum_66) rfl]; rfl
theorem e_X4_sum_75 (E : AEn)  (h : AH) : evR T_X4_sum E 75 ([], [], h) =
  some (.inl (some (.int (1 : Int32))), h) := by
  rw [evR_eq ok_T_X4_sum.loc (ops := b_X4_sum_75) rfl]; rfl
theorem c_X4_sum (d : Nat) (a_0 : Nat) (h : AH) : callR (d + 1) n_X4_sum [.ref a_0] h =
  bif isO h a_0 4 then evR T_X4_sum (callR d) 0 ([(0, .ref a_0)], [], h) else none := by
  rw [callR_succ, show aMTl[n_X4_sum]? = some (T_X4_sum, [0]) from rfl]; show (bif (isO h a_0 4) && true then _ else _) = _; rw [Bool.and_true]; rfl
theorem e_X4_term_0 (E : AEn) (a_0 : Nat) (h : AH) : evR T_X4_term E 0 ([(0, .ref a_0)], [], h) =
  rI (E n_X4_value [.ref a_0] h) (fun i2 h1 =>
  bif !(i2 == 0) then evR T_X4_term E 9 ([(0, .ref a_0)], [], h1) else
  evR T_X4_term E 7 ([], [], h1)) thr := by
  rw [evR_eq ok_T_X4_term.loc (ops := b_X4_term_0) rfl]; rfl
theorem e_X4_term_7 (E : AEn)  (h : AH) : evR T_X4_term E 7 ([], [], h) =
  some (.inl (some (.int (0 : Int32))), h) := by
  rw [evR_eq ok_T_X4_term.loc (ops := b_X4_term_7) rfl]; rfl
theorem e_X4_term_9 (E : AEn) (a_0 : Nat) (h : AH) : evR T_X4_term E 9 ([(0, .ref a_0)], [], h) =
  rI (E n_X4_see [.ref a_0] h) (fun i2 h1 =>
  bif i2 == (42 : Int32) then evR T_X4_term E 36 ([(0, .ref a_0)], [], h1) else
  evR T_X4_term E 18 ([(0, .ref a_0)], [], h1)) thr := by
  rw [evR_eq ok_T_X4_term.loc (ops := b_X4_term_9) rfl]; rfl
theorem e_X4_term_18 (E : AEn) (a_0 : Nat) (h : AH) : evR T_X4_term E 18 ([(0, .ref a_0)], [], h) =
  rI (E n_X4_see [.ref a_0] h) (fun i2 h1 =>
  bif i2 == (47 : Int32) then evR T_X4_term E 36 ([(0, .ref a_0)], [], h1) else
  evR T_X4_term E 27 ([(0, .ref a_0)], [], h1)) thr := by
  rw [evR_eq ok_T_X4_term.loc (ops := b_X4_term_18) rfl]; rfl
theorem e_X4_term_27 (E : AEn) (a_0 : Nat) (h : AH) : evR T_X4_term E 27 ([(0, .ref a_0)], [], h) =
  rI (E n_X4_see [.ref a_0] h) (fun i2 h1 =>
  bif !(i2 == (37 : Int32)) then evR T_X4_term E 103 ([], [], h1) else
  evR T_X4_term E 36 ([(0, .ref a_0)], [], h1)) thr := by
  rw [evR_eq ok_T_X4_term.loc (ops := b_X4_term_27) rfl]; rfl
theorem e_X4_term_36 (E : AEn) (a_0 : Nat) (h : AH) : evR T_X4_term E 36 ([(0, .ref a_0)], [], h) =
  (rdR h a_0 4 0).bind fun r1 =>
  (rdI h a_0 4 8).bind fun i2 =>
  (ldI h r1 1 i2).bind fun i3 =>
  bif !(i3 == (42 : Int32)) then evR T_X4_term E 54 ([(0, .ref a_0)], [], h) else
  evR T_X4_term E 50 ([(0, .ref a_0)], [], h) := by
  rw [evR_eq ok_T_X4_term.loc (ops := b_X4_term_36) rfl]; rfl
theorem e_X4_term_50 (E : AEn) (a_0 : Nat) (h : AH) : evR T_X4_term E 50 ([(0, .ref a_0)], [], h) =
  evR T_X4_term E 74 ([(0, .ref a_0)], [.int (4 : Int32)], h) := by
  rw [evR_eq ok_T_X4_term.loc (ops := b_X4_term_50) rfl]; rfl
theorem e_X4_term_54 (E : AEn) (a_0 : Nat) (h : AH) : evR T_X4_term E 54 ([(0, .ref a_0)], [], h) =
  (rdR h a_0 4 0).bind fun r1 =>
  (rdI h a_0 4 8).bind fun i2 =>
  (ldI h r1 1 i2).bind fun i3 =>
  bif !(i3 == (47 : Int32)) then evR T_X4_term E 72 ([(0, .ref a_0)], [], h) else
  evR T_X4_term E 68 ([(0, .ref a_0)], [], h) := by
  rw [evR_eq ok_T_X4_term.loc (ops := b_X4_term_54) rfl]; rfl
theorem e_X4_term_68 (E : AEn) (a_0 : Nat) (h : AH) : evR T_X4_term E 68 ([(0, .ref a_0)], [], h) =
  evR T_X4_term E 74 ([(0, .ref a_0)], [.int (5 : Int32)], h) := by
  rw [evR_eq ok_T_X4_term.loc (ops := b_X4_term_68) rfl]; rfl
theorem e_X4_term_72 (E : AEn) (a_0 : Nat) (h : AH) : evR T_X4_term E 72 ([(0, .ref a_0)], [], h) =
  evR T_X4_term E 74 ([(0, .ref a_0)], [.int (14 : Int32)], h) := by
  rw [evR_eq ok_T_X4_term.loc (ops := b_X4_term_72) rfl]; rfl
theorem e_X4_term_74 (E : AEn) (a_0 : Nat) (si_0 : Int32) (h : AH) : evR T_X4_term E 74 ([(0, .ref a_0)], [.int si_0], h) =
  (rdI h a_0 4 8).bind fun i1 =>
  (wrF h a_0 4 8 (.int (i1 + (1 : Int32)))).bind fun h2 =>
  rI (E n_X4_value [.ref a_0] h2) (fun i4 h3 =>
  bif !(i4 == 0) then evR T_X4_term E 94 ([(0, .ref a_0), (1, .int si_0)], [], h3) else
  evR T_X4_term E 92 ([], [], h3)) thr := by
  rw [evR_eq ok_T_X4_term.loc (ops := b_X4_term_74) rfl]; rfl
theorem e_X4_term_92 (E : AEn)  (h : AH) : evR T_X4_term E 92 ([], [], h) =
  some (.inl (some (.int (0 : Int32))), h) := by
  rw [evR_eq ok_T_X4_term.loc (ops := b_X4_term_92) rfl]; rfl
theorem e_X4_term_94 (E : AEn) (a_0 : Nat) (i_1 : Int32) (h : AH) : evR T_X4_term E 94 ([(0, .ref a_0), (1, .int i_1)], [], h) =
  rV (E n_X4_puts [.ref a_0, .int i_1, .int (0 : Int32)] h) (fun h1 =>
  evR T_X4_term E 9 ([(0, .ref a_0)], [], h1)) thr := by
  rw [evR_eq ok_T_X4_term.loc (ops := b_X4_term_94) rfl]; rfl
theorem e_X4_term_103 (E : AEn)  (h : AH) : evR T_X4_term E 103 ([], [], h) =
  some (.inl (some (.int (1 : Int32))), h) := by
  rw [evR_eq ok_T_X4_term.loc (ops := b_X4_term_103) rfl]; rfl
theorem c_X4_term (d : Nat) (a_0 : Nat) (h : AH) : callR (d + 1) n_X4_term [.ref a_0] h =
  bif isO h a_0 4 then evR T_X4_term (callR d) 0 ([(0, .ref a_0)], [], h) else none := by
  rw [callR_succ, show aMTl[n_X4_term]? = some (T_X4_term, [0]) from rfl]; show (bif (isO h a_0 4) && true then _ else _) = _; rw [Bool.and_true]; rfl
theorem e_X4_value_0 (E : AEn) (a_0 : Nat) (h : AH) : evR T_X4_value E 0 ([(0, .ref a_0)], [], h) =
  rI (E n_X4_see [.ref a_0] h) (fun i2 h1 =>
  (rdI h1 a_0 4 8).bind fun i3 =>
  (rdI h1 a_0 4 8).bind fun i4 =>
  rI (E n_X4_isDigit [.ref a_0, .int i4] h1) (fun i6 h5 =>
  bif i6 == 0 then evR T_X4_value E 52 ([(0, .ref a_0), (1, .int i3)], [], h5) else
  evR T_X4_value E 21 ([(0, .ref a_0), (1, .int i3)], [], h5)) thr) thr := by
  rw [evR_eq ok_T_X4_value.loc (ops := b_X4_value_0) rfl]; rfl
theorem e_X4_value_21 (E : AEn) (a_0 : Nat) (i_1 : Int32) (h : AH) : evR T_X4_value E 21 ([(0, .ref a_0), (1, .int i_1)], [], h) =
  rI (E n_X4_numberHere [.ref a_0, .int (0 : Int32), .int (99999 : Int32)] h) (fun i2 h1 =>
  bif i2 == 0 then evR T_X4_value E 39 ([], [], h1) else
  evR T_X4_value E 31 ([(0, .ref a_0), (1, .int i_1)], [], h1)) thr := by
  rw [evR_eq ok_T_X4_value.loc (ops := b_X4_value_21) rfl]; rfl
theorem e_X4_value_31 (E : AEn) (a_0 : Nat) (i_1 : Int32) (h : AH) : evR T_X4_value E 31 ([(0, .ref a_0), (1, .int i_1)], [], h) =
  rI (E n_X4_makes [.ref a_0, .int i_1] h) (fun i2 h1 =>
  bif !(i2 == 0) then evR T_X4_value E 41 ([(0, .ref a_0)], [], h1) else
  evR T_X4_value E 39 ([], [], h1)) thr := by
  rw [evR_eq ok_T_X4_value.loc (ops := b_X4_value_31) rfl]; rfl
theorem e_X4_value_39 (E : AEn)  (h : AH) : evR T_X4_value E 39 ([], [], h) =
  some (.inl (some (.int (0 : Int32))), h) := by
  rw [evR_eq ok_T_X4_value.loc (ops := b_X4_value_39) rfl]; rfl
theorem e_X4_value_41 (E : AEn) (a_0 : Nat) (h : AH) : evR T_X4_value E 41 ([(0, .ref a_0)], [], h) =
  (rdI h a_0 4 10).bind fun i1 =>
  rV (E n_X4_puts [.ref a_0, .int (0 : Int32), .int i1] h) (fun h2 =>
  some (.inl (some (.int (1 : Int32))), h2)) thr := by
  rw [evR_eq ok_T_X4_value.loc (ops := b_X4_value_41) rfl]; rfl
theorem e_X4_value_52 (E : AEn) (a_0 : Nat) (i_1 : Int32) (h : AH) : evR T_X4_value E 52 ([(0, .ref a_0), (1, .int i_1)], [], h) =
  rI (E n_X4_wordHere [.ref a_0] h) (fun i2 h1 =>
  bif decide (0 ≤ i2) then evR T_X4_value E 68 ([(0, .ref a_0), (1, .int i_1), (2, .int i2)], [], h1) else
  evR T_X4_value E 61 ([(0, .ref a_0), (1, .int i_1)], [], h1)) thr := by
  rw [evR_eq ok_T_X4_value.loc (ops := b_X4_value_52) rfl]; rfl
theorem e_X4_value_61 (E : AEn) (a_0 : Nat) (i_1 : Int32) (h : AH) : evR T_X4_value E 61 ([(0, .ref a_0), (1, .int i_1)], [], h) =
  rI (E n_X4_fails [.ref a_0, .int (0 : Int32), .int i_1] h) (fun i2 h1 =>
  (bif i2 == 0 || i2 == 1 then some i2 else none).bind fun i3 => some (.inl (some (.int i3)), h1)) thr := by
  rw [evR_eq ok_T_X4_value.loc (ops := b_X4_value_61) rfl]; rfl
theorem e_X4_value_68 (E : AEn) (a_0 : Nat) (i_1 : Int32) (i_2 : Int32) (h : AH) : evR T_X4_value E 68 ([(0, .ref a_0), (1, .int i_1), (2, .int i_2)], [], h) =
  rI (E n_X4_makes [.ref a_0, .int i_1] h) (fun i2 h1 =>
  bif !(i2 == 0) then evR T_X4_value E 78 ([(0, .ref a_0), (2, .int i_2)], [], h1) else
  evR T_X4_value E 76 ([], [], h1)) thr := by
  rw [evR_eq ok_T_X4_value.loc (ops := b_X4_value_68) rfl]; rfl
theorem e_X4_value_76 (E : AEn)  (h : AH) : evR T_X4_value E 76 ([], [], h) =
  some (.inl (some (.int (0 : Int32))), h) := by
  rw [evR_eq ok_T_X4_value.loc (ops := b_X4_value_76) rfl]; rfl
theorem e_X4_value_78 (E : AEn) (a_0 : Nat) (i_2 : Int32) (h : AH) : evR T_X4_value E 78 ([(0, .ref a_0), (2, .int i_2)], [], h) =
  rV (E n_X4_passWord [.ref a_0] h) (fun h1 =>
  rV (E n_X4_puts [.ref a_0, .int (1 : Int32), .int i_2] h1) (fun h2 =>
  some (.inl (some (.int (1 : Int32))), h2)) thr) thr := by
  rw [evR_eq ok_T_X4_value.loc (ops := b_X4_value_78) rfl]; rfl
theorem c_X4_value (d : Nat) (a_0 : Nat) (h : AH) : callR (d + 1) n_X4_value [.ref a_0] h =
  bif isO h a_0 4 then evR T_X4_value (callR d) 0 ([(0, .ref a_0)], [], h) else none := by
  rw [callR_succ, show aMTl[n_X4_value]? = some (T_X4_value, [0]) from rfl]; show (bif (isO h a_0 4) && true then _ else _) = _; rw [Bool.and_true]; rfl
theorem e_X4_makes_0 (E : AEn) (a_0 : Nat) (i_1 : Int32) (h : AH) : evR T_X4_makes E 0 ([(0, .ref a_0), (1, .int i_1)], [], h) =
  (rdI h a_0 4 12).bind fun i1 =>
  bif !(i1 == (60 : Int32)) then evR T_X4_makes E 16 ([(0, .ref a_0)], [], h) else
  evR T_X4_makes E 9 ([(0, .ref a_0), (1, .int i_1)], [], h) := by
  rw [evR_eq ok_T_X4_makes.loc (ops := b_X4_makes_0) rfl]; rfl
theorem e_X4_makes_9 (E : AEn) (a_0 : Nat) (i_1 : Int32) (h : AH) : evR T_X4_makes E 9 ([(0, .ref a_0), (1, .int i_1)], [], h) =
  rI (E n_X4_fails [.ref a_0, .int (3 : Int32), .int i_1] h) (fun i2 h1 =>
  (bif i2 == 0 || i2 == 1 then some i2 else none).bind fun i3 => some (.inl (some (.int i3)), h1)) thr := by
  rw [evR_eq ok_T_X4_makes.loc (ops := b_X4_makes_9) rfl]; rfl
theorem e_X4_makes_16 (E : AEn) (a_0 : Nat) (h : AH) : evR T_X4_makes E 16 ([(0, .ref a_0)], [], h) =
  (rdI h a_0 4 12).bind fun i1 =>
  (wrF h a_0 4 12 (.int (i1 + (1 : Int32)))).bind fun h2 =>
  some (.inl (some (.int (1 : Int32))), h2) := by
  rw [evR_eq ok_T_X4_makes.loc (ops := b_X4_makes_16) rfl]; rfl
theorem c_X4_makes (d : Nat) (a_0 : Nat) (i_1 : Int32) (h : AH) : callR (d + 1) n_X4_makes [.ref a_0, .int i_1] h =
  bif isO h a_0 4 then evR T_X4_makes (callR d) 0 ([(0, .ref a_0), (1, .int i_1)], [], h) else none := by
  rw [callR_succ, show aMTl[n_X4_makes]? = some (T_X4_makes, [0, 1]) from rfl]; show (bif (isO h a_0 4) && true then _ else _) = _; rw [Bool.and_true]; rfl
theorem e_X4_puts_0 (E : AEn) (a_0 : Nat) (i_1 : Int32) (i_2 : Int32) (h : AH) : evR T_X4_puts E 0 ([(0, .ref a_0), (1, .int i_1), (2, .int i_2)], [], h) =
  (rdR h a_0 4 3).bind fun r1 =>
  (rdI h a_0 4 11).bind fun i2 =>
  (rdR h a_0 4 4).bind fun r3 =>
  (rdI h a_0 4 11).bind fun i4 =>
  (ldI h r3 0 i4).bind fun i5 =>
  (stI h r1 0 (((400 : Int32) * i2) + i5) (i_1 + ((16 : Int32) * i_2))).bind fun h6 =>
  (rdR h6 a_0 4 4).bind fun r7 =>
  (rdI h6 a_0 4 11).bind fun i8 =>
  (ldI h6 r7 0 i8).bind fun i9 =>
  (stI h6 r7 0 i8 (i9 + (1 : Int32))).bind fun h10 =>
  some (.inl none, h10) := by
  rw [evR_eq ok_T_X4_puts.loc (ops := b_X4_puts_0) rfl]; rfl
theorem c_X4_puts (d : Nat) (a_0 : Nat) (i_1 : Int32) (i_2 : Int32) (h : AH) : callR (d + 1) n_X4_puts [.ref a_0, .int i_1, .int i_2] h =
  bif isO h a_0 4 then evR T_X4_puts (callR d) 0 ([(0, .ref a_0), (1, .int i_1), (2, .int i_2)], [], h) else none := by
  rw [callR_succ, show aMTl[n_X4_puts]? = some (T_X4_puts, [0, 1, 2]) from rfl]; show (bif (isO h a_0 4) && true then _ else _) = _; rw [Bool.and_true]; rfl
theorem e_X4_wordHere_0 (E : AEn) (a_0 : Nat) (h : AH) : evR T_X4_wordHere E 0 ([(0, .ref a_0)], [], h) =
  rI (E n_X4_isWord [.ref a_0, .long (448546567013 : Int64)] h) (fun i2 h1 =>
  bif i2 == 0 then evR T_X4_wordHere E 12 ([(0, .ref a_0)], [], h1) else
  evR T_X4_wordHere E 10 ([], [], h1)) thr := by
  rw [evR_eq ok_T_X4_wordHere.loc (ops := b_X4_wordHere_0) rfl]; rfl
theorem e_X4_wordHere_10 (E : AEn)  (h : AH) : evR T_X4_wordHere E 10 ([], [], h) =
  some (.inl (some (.int (0 : Int32))), h) := by
  rw [evR_eq ok_T_X4_wordHere.loc (ops := b_X4_wordHere_10) rfl]; rfl
theorem e_X4_wordHere_12 (E : AEn) (a_0 : Nat) (h : AH) : evR T_X4_wordHere E 12 ([(0, .ref a_0)], [], h) =
  rI (E n_X4_isWord [.ref a_0, .long (1935767923 : Int64)] h) (fun i2 h1 =>
  bif i2 == 0 then evR T_X4_wordHere E 24 ([(0, .ref a_0)], [], h1) else
  evR T_X4_wordHere E 22 ([], [], h1)) thr := by
  rw [evR_eq ok_T_X4_wordHere.loc (ops := b_X4_wordHere_12) rfl]; rfl
theorem e_X4_wordHere_22 (E : AEn)  (h : AH) : evR T_X4_wordHere E 22 ([], [], h) =
  some (.inl (some (.int (1 : Int32))), h) := by
  rw [evR_eq ok_T_X4_wordHere.loc (ops := b_X4_wordHere_22) rfl]; rfl
theorem e_X4_wordHere_24 (E : AEn) (a_0 : Nat) (h : AH) : evR T_X4_wordHere E 24 ([(0, .ref a_0)], [], h) =
  rI (E n_X4_isWord [.ref a_0, .long (512970880104 : Int64)] h) (fun i2 h1 =>
  bif i2 == 0 then evR T_X4_wordHere E 36 ([(0, .ref a_0)], [], h1) else
  evR T_X4_wordHere E 34 ([], [], h1)) thr := by
  rw [evR_eq ok_T_X4_wordHere.loc (ops := b_X4_wordHere_24) rfl]; rfl
theorem e_X4_wordHere_34 (E : AEn)  (h : AH) : evR T_X4_wordHere E 34 ([], [], h) =
  some (.inl (some (.int (2 : Int32))), h) := by
  rw [evR_eq ok_T_X4_wordHere.loc (ops := b_X4_wordHere_34) rfl]; rfl
theorem e_X4_wordHere_36 (E : AEn) (a_0 : Nat) (h : AH) : evR T_X4_wordHere E 36 ([(0, .ref a_0)], [], h) =
  rI (E n_X4_isWord [.ref a_0, .long (495757257573 : Int64)] h) (fun i2 h1 =>
  bif i2 == 0 then evR T_X4_wordHere E 48 ([(0, .ref a_0)], [], h1) else
  evR T_X4_wordHere E 46 ([], [], h1)) thr := by
  rw [evR_eq ok_T_X4_wordHere.loc (ops := b_X4_wordHere_36) rfl]; rfl
theorem e_X4_wordHere_46 (E : AEn)  (h : AH) : evR T_X4_wordHere E 46 ([], [], h) =
  some (.inl (some (.int (3 : Int32))), h) := by
  rw [evR_eq ok_T_X4_wordHere.loc (ops := b_X4_wordHere_46) rfl]; rfl
theorem e_X4_wordHere_48 (E : AEn) (a_0 : Nat) (h : AH) : evR T_X4_wordHere E 48 ([(0, .ref a_0)], [], h) =
  rI (E n_X4_isWord [.ref a_0, .long (6709618 : Int64)] h) (fun i2 h1 =>
  bif i2 == 0 then evR T_X4_wordHere E 60 ([(0, .ref a_0)], [], h1) else
  evR T_X4_wordHere E 58 ([], [], h1)) thr := by
  rw [evR_eq ok_T_X4_wordHere.loc (ops := b_X4_wordHere_48) rfl]; rfl
theorem e_X4_wordHere_58 (E : AEn)  (h : AH) : evR T_X4_wordHere E 58 ([], [], h) =
  some (.inl (some (.int (4 : Int32))), h) := by
  rw [evR_eq ok_T_X4_wordHere.loc (ops := b_X4_wordHere_58) rfl]; rfl
theorem e_X4_wordHere_60 (E : AEn) (a_0 : Nat) (h : AH) : evR T_X4_wordHere E 60 ([(0, .ref a_0)], [], h) =
  rI (E n_X4_isWord [.ref a_0, .long (1852137842 : Int64)] h) (fun i2 h1 =>
  bif i2 == 0 then evR T_X4_wordHere E 72 ([(0, .ref a_0)], [], h1) else
  evR T_X4_wordHere E 70 ([], [], h1)) thr := by
  rw [evR_eq ok_T_X4_wordHere.loc (ops := b_X4_wordHere_60) rfl]; rfl
theorem e_X4_wordHere_70 (E : AEn)  (h : AH) : evR T_X4_wordHere E 70 ([], [], h) =
  some (.inl (some (.int (5 : Int32))), h) := by
  rw [evR_eq ok_T_X4_wordHere.loc (ops := b_X4_wordHere_70) rfl]; rfl
theorem e_X4_wordHere_72 (E : AEn) (a_0 : Nat) (h : AH) : evR T_X4_wordHere E 72 ([(0, .ref a_0)], [], h) =
  rI (E n_X4_isWord [.ref a_0, .long (439855768947 : Int64)] h) (fun i2 h1 =>
  bif i2 == 0 then evR T_X4_wordHere E 85 ([(0, .ref a_0)], [], h1) else
  evR T_X4_wordHere E 82 ([], [], h1)) thr := by
  rw [evR_eq ok_T_X4_wordHere.loc (ops := b_X4_wordHere_72) rfl]; rfl
theorem e_X4_wordHere_82 (E : AEn)  (h : AH) : evR T_X4_wordHere E 82 ([], [], h) =
  some (.inl (some (.int (6 : Int32))), h) := by
  rw [evR_eq ok_T_X4_wordHere.loc (ops := b_X4_wordHere_82) rfl]; rfl
theorem e_X4_wordHere_85 (E : AEn) (a_0 : Nat) (h : AH) : evR T_X4_wordHere E 85 ([(0, .ref a_0)], [], h) =
  rI (E n_X4_isWord [.ref a_0, .long (1819243380 : Int64)] h) (fun i2 h1 =>
  bif i2 == 0 then evR T_X4_wordHere E 98 ([(0, .ref a_0)], [], h1) else
  evR T_X4_wordHere E 95 ([], [], h1)) thr := by
  rw [evR_eq ok_T_X4_wordHere.loc (ops := b_X4_wordHere_85) rfl]; rfl
theorem e_X4_wordHere_95 (E : AEn)  (h : AH) : evR T_X4_wordHere E 95 ([], [], h) =
  some (.inl (some (.int (7 : Int32))), h) := by
  rw [evR_eq ok_T_X4_wordHere.loc (ops := b_X4_wordHere_95) rfl]; rfl
theorem e_X4_wordHere_98 (E : AEn) (a_0 : Nat) (h : AH) : evR T_X4_wordHere E 98 ([(0, .ref a_0)], [], h) =
  rI (E n_X4_isWord [.ref a_0, .long (1650812270 : Int64)] h) (fun i2 h1 =>
  bif i2 == 0 then evR T_X4_wordHere E 111 ([(0, .ref a_0)], [], h1) else
  evR T_X4_wordHere E 108 ([], [], h1)) thr := by
  rw [evR_eq ok_T_X4_wordHere.loc (ops := b_X4_wordHere_98) rfl]; rfl
theorem e_X4_wordHere_108 (E : AEn)  (h : AH) : evR T_X4_wordHere E 108 ([], [], h) =
  some (.inl (some (.int (8 : Int32))), h) := by
  rw [evR_eq ok_T_X4_wordHere.loc (ops := b_X4_wordHere_108) rfl]; rfl
theorem e_X4_wordHere_111 (E : AEn) (a_0 : Nat) (h : AH) : evR T_X4_wordHere E 111 ([(0, .ref a_0)], [], h) =
  rI (E n_X4_isWord [.ref a_0, .long (512736126322 : Int64)] h) (fun i2 h1 =>
  bif i2 == 0 then evR T_X4_wordHere E 126 ([(0, .ref a_0)], [], h1) else
  evR T_X4_wordHere E 121 ([], [], h1)) thr := by
  rw [evR_eq ok_T_X4_wordHere.loc (ops := b_X4_wordHere_111) rfl]; rfl
theorem e_X4_wordHere_121 (E : AEn)  (h : AH) : evR T_X4_wordHere E 121 ([], [], h) =
  evR T_X4_wordHere E 142 ([], [.int (9 : Int32)], h) := by
  rw [evR_eq ok_T_X4_wordHere.loc (ops := b_X4_wordHere_121) rfl]; rfl
theorem e_X4_wordHere_126 (E : AEn) (a_0 : Nat) (h : AH) : evR T_X4_wordHere E 126 ([(0, .ref a_0)], [], h) =
  rI (E n_X4_isWord [.ref a_0, .long (1752135026 : Int64)] h) (fun i2 h1 =>
  bif i2 == 0 then evR T_X4_wordHere E 141 ([], [], h1) else
  evR T_X4_wordHere E 136 ([], [], h1)) thr := by
  rw [evR_eq ok_T_X4_wordHere.loc (ops := b_X4_wordHere_126) rfl]; rfl
theorem e_X4_wordHere_136 (E : AEn)  (h : AH) : evR T_X4_wordHere E 136 ([], [], h) =
  evR T_X4_wordHere E 142 ([], [.int (10 : Int32)], h) := by
  rw [evR_eq ok_T_X4_wordHere.loc (ops := b_X4_wordHere_136) rfl]; rfl
theorem e_X4_wordHere_141 (E : AEn)  (h : AH) : evR T_X4_wordHere E 141 ([], [], h) =
  evR T_X4_wordHere E 142 ([], [.int (-1 : Int32)], h) := by
  rw [evR_eq ok_T_X4_wordHere.loc (ops := b_X4_wordHere_141) rfl]; rfl
theorem e_X4_wordHere_142 (E : AEn) (si_0 : Int32) (h : AH) : evR T_X4_wordHere E 142 ([], [.int si_0], h) =
  some (.inl (some (.int si_0)), h) := by
  rw [evR_eq ok_T_X4_wordHere.loc (ops := b_X4_wordHere_142) rfl]; rfl
theorem c_X4_wordHere (d : Nat) (a_0 : Nat) (h : AH) : callR (d + 1) n_X4_wordHere [.ref a_0] h =
  bif isO h a_0 4 then evR T_X4_wordHere (callR d) 0 ([(0, .ref a_0)], [], h) else none := by
  rw [callR_succ, show aMTl[n_X4_wordHere]? = some (T_X4_wordHere, [0]) from rfl]; show (bif (isO h a_0 4) && true then _ else _) = _; rw [Bool.and_true]; rfl
theorem e_X4_takesWord_0 (E : AEn) (a_0 : Nat) (l_1 : Int64) (h : AH) : evR T_X4_takesWord E 0 ([(0, .ref a_0), (1, .long l_1)], [], h) =
  rI (E n_X4_isWord [.ref a_0, .long l_1] h) (fun i2 h1 =>
  bif !(i2 == 0) then evR T_X4_takesWord E 10 ([(0, .ref a_0)], [], h1) else
  evR T_X4_takesWord E 8 ([], [], h1)) thr := by
  rw [evR_eq ok_T_X4_takesWord.loc (ops := b_X4_takesWord_0) rfl]; rfl
theorem e_X4_takesWord_8 (E : AEn)  (h : AH) : evR T_X4_takesWord E 8 ([], [], h) =
  some (.inl (some (.int (0 : Int32))), h) := by
  rw [evR_eq ok_T_X4_takesWord.loc (ops := b_X4_takesWord_8) rfl]; rfl
theorem e_X4_takesWord_10 (E : AEn) (a_0 : Nat) (h : AH) : evR T_X4_takesWord E 10 ([(0, .ref a_0)], [], h) =
  rV (E n_X4_passWord [.ref a_0] h) (fun h1 =>
  some (.inl (some (.int (1 : Int32))), h1)) thr := by
  rw [evR_eq ok_T_X4_takesWord.loc (ops := b_X4_takesWord_10) rfl]; rfl
theorem c_X4_takesWord (d : Nat) (a_0 : Nat) (l_1 : Int64) (h : AH) : callR (d + 1) n_X4_takesWord [.ref a_0, .long l_1] h =
  bif isO h a_0 4 then evR T_X4_takesWord (callR d) 0 ([(0, .ref a_0), (1, .long l_1)], [], h) else none := by
  rw [callR_succ, show aMTl[n_X4_takesWord]? = some (T_X4_takesWord, [0, 1]) from rfl]; show (bif (isO h a_0 4) && true then _ else _) = _; rw [Bool.and_true]; rfl
theorem e_X4_tested_0 (E : AEn) (a_0 : Nat) (h : AH) : evR T_X4_tested E 0 ([(0, .ref a_0)], [], h) =
  (wrF h a_0 4 16 (.int (0 : Int32))).bind fun h1 =>
  (wrF h1 a_0 4 13 (.int (0 : Int32))).bind fun h2 =>
  evR T_X4_tested E 12 ([(0, .ref a_0), (1, .int (1 : Int32))], [], h2) := by
  rw [evR_eq ok_T_X4_tested.loc (ops := b_X4_tested_0) rfl]; rfl
theorem e_X4_tested_12 (E : AEn) (a_0 : Nat) (i_1 : Int32) (h : AH) : evR T_X4_tested E 12 ([(0, .ref a_0), (1, .int i_1)], [], h) =
  bif i_1 == 0 then evR T_X4_tested E 112 ([(0, .ref a_0)], [], h) else
  evR T_X4_tested E 16 ([(0, .ref a_0)], [], h) := by
  rw [evR_eq ok_T_X4_tested.loc (ops := b_X4_tested_12) rfl]; rfl
theorem e_X4_tested_16 (E : AEn) (a_0 : Nat) (h : AH) : evR T_X4_tested E 16 ([(0, .ref a_0)], [], h) =
  rI (E n_X4_fact [.ref a_0] h) (fun i2 h1 =>
  bif !(i2 == 0) then evR T_X4_tested E 25 ([(0, .ref a_0)], [], h1) else
  evR T_X4_tested E 23 ([], [], h1)) thr := by
  rw [evR_eq ok_T_X4_tested.loc (ops := b_X4_tested_16) rfl]; rfl
theorem e_X4_tested_23 (E : AEn)  (h : AH) : evR T_X4_tested E 23 ([], [], h) =
  some (.inl (some (.int (0 : Int32))), h) := by
  rw [evR_eq ok_T_X4_tested.loc (ops := b_X4_tested_23) rfl]; rfl
theorem e_X4_tested_25 (E : AEn) (a_0 : Nat) (h : AH) : evR T_X4_tested E 25 ([(0, .ref a_0)], [], h) =
  rV (E n_X4_closes [.ref a_0] h) (fun h1 =>
  rI (E n_X4_isWord [.ref a_0, .long (6385252 : Int64)] h1) (fun i3 h2 =>
  bif !(i3 == 0) then evR T_X4_tested E 49 ([(0, .ref a_0)], [], h2) else
  evR T_X4_tested E 39 ([(0, .ref a_0)], [], h2)) thr) thr := by
  rw [evR_eq ok_T_X4_tested.loc (ops := b_X4_tested_25) rfl]; rfl
theorem e_X4_tested_39 (E : AEn) (a_0 : Nat) (h : AH) : evR T_X4_tested E 39 ([(0, .ref a_0)], [], h) =
  rI (E n_X4_isWord [.ref a_0, .long (28530 : Int64)] h) (fun i2 h1 =>
  bif i2 == 0 then evR T_X4_tested E 53 ([(0, .ref a_0)], [], h1) else
  evR T_X4_tested E 49 ([(0, .ref a_0)], [], h1)) thr := by
  rw [evR_eq ok_T_X4_tested.loc (ops := b_X4_tested_39) rfl]; rfl
theorem e_X4_tested_49 (E : AEn) (a_0 : Nat) (h : AH) : evR T_X4_tested E 49 ([(0, .ref a_0)], [], h) =
  evR T_X4_tested E 54 ([(0, .ref a_0)], [.int (1 : Int32)], h) := by
  rw [evR_eq ok_T_X4_tested.loc (ops := b_X4_tested_49) rfl]; rfl
theorem e_X4_tested_53 (E : AEn) (a_0 : Nat) (h : AH) : evR T_X4_tested E 53 ([(0, .ref a_0)], [], h) =
  evR T_X4_tested E 54 ([(0, .ref a_0)], [.int (0 : Int32)], h) := by
  rw [evR_eq ok_T_X4_tested.loc (ops := b_X4_tested_53) rfl]; rfl
theorem e_X4_tested_54 (E : AEn) (a_0 : Nat) (si_0 : Int32) (h : AH) : evR T_X4_tested E 54 ([(0, .ref a_0)], [.int si_0], h) =
  bif si_0 == 0 then evR T_X4_tested E 12 ([(0, .ref a_0), (1, .int si_0)], [], h) else
  evR T_X4_tested E 59 ([(0, .ref a_0), (1, .int si_0)], [], h) := by
  rw [evR_eq ok_T_X4_tested.loc (ops := b_X4_tested_54) rfl]; rfl
theorem e_X4_tested_59 (E : AEn) (a_0 : Nat) (i_1 : Int32) (h : AH) : evR T_X4_tested E 59 ([(0, .ref a_0), (1, .int i_1)], [], h) =
  rI (E n_X4_isWord [.ref a_0, .long (6385252 : Int64)] h) (fun i2 h1 =>
  bif i2 == 0 then evR T_X4_tested E 74 ([(0, .ref a_0), (1, .int i_1)], [], h1) else
  evR T_X4_tested E 69 ([(0, .ref a_0), (1, .int i_1)], [], h1)) thr := by
  rw [evR_eq ok_T_X4_tested.loc (ops := b_X4_tested_59) rfl]; rfl
theorem e_X4_tested_69 (E : AEn) (a_0 : Nat) (i_1 : Int32) (h : AH) : evR T_X4_tested E 69 ([(0, .ref a_0), (1, .int i_1)], [], h) =
  evR T_X4_tested E 76 ([(0, .ref a_0), (1, .int i_1)], [.int (12 : Int32)], h) := by
  rw [evR_eq ok_T_X4_tested.loc (ops := b_X4_tested_69) rfl]; rfl
theorem e_X4_tested_74 (E : AEn) (a_0 : Nat) (i_1 : Int32) (h : AH) : evR T_X4_tested E 74 ([(0, .ref a_0), (1, .int i_1)], [], h) =
  evR T_X4_tested E 76 ([(0, .ref a_0), (1, .int i_1)], [.int (13 : Int32)], h) := by
  rw [evR_eq ok_T_X4_tested.loc (ops := b_X4_tested_74) rfl]; rfl
theorem e_X4_tested_76 (E : AEn) (a_0 : Nat) (i_1 : Int32) (si_0 : Int32) (h : AH) : evR T_X4_tested E 76 ([(0, .ref a_0), (1, .int i_1)], [.int si_0], h) =
  rV (E n_X4_passWord [.ref a_0] h) (fun h1 =>
  rI (E n_X4_strength [.int si_0] h1) (fun i3 h2 =>
  rV (E n_X4_layDown [.ref a_0, .int i3] h2) (fun h4 =>
  (rdR h4 a_0 4 15).bind fun r5 =>
  (rdI h4 a_0 4 16).bind fun i6 =>
  (stI h4 r5 0 i6 si_0).bind fun h7 =>
  (rdI h7 a_0 4 16).bind fun i8 =>
  (wrF h7 a_0 4 16 (.int (i8 + (1 : Int32)))).bind fun h9 =>
  evR T_X4_tested E 12 ([(0, .ref a_0), (1, .int i_1)], [], h9)) thr) thr) thr := by
  rw [evR_eq ok_T_X4_tested.loc (ops := b_X4_tested_76) rfl]; rfl
theorem e_X4_tested_112 (E : AEn) (a_0 : Nat) (h : AH) : evR T_X4_tested E 112 ([(0, .ref a_0)], [], h) =
  rI (E n_X4_isInside [.ref a_0] h) (fun i2 h1 =>
  bif i2 == 0 then evR T_X4_tested E 134 ([(0, .ref a_0)], [], h1) else
  evR T_X4_tested E 119 ([(0, .ref a_0)], [], h1)) thr := by
  rw [evR_eq ok_T_X4_tested.loc (ops := b_X4_tested_112) rfl]; rfl
theorem e_X4_tested_119 (E : AEn) (a_0 : Nat) (h : AH) : evR T_X4_tested E 119 ([(0, .ref a_0)], [], h) =
  rI (E n_X4_see [.ref a_0] h) (fun i2 h1 =>
  (rdI h1 a_0 4 8).bind fun i3 =>
  rI (E n_X4_fails [.ref a_0, .int (0 : Int32), .int i3] h1) (fun i5 h4 =>
  (bif i5 == 0 || i5 == 1 then some i5 else none).bind fun i6 => some (.inl (some (.int i6)), h4)) thr) thr := by
  rw [evR_eq ok_T_X4_tested.loc (ops := b_X4_tested_119) rfl]; rfl
theorem e_X4_tested_134 (E : AEn) (a_0 : Nat) (h : AH) : evR T_X4_tested E 134 ([(0, .ref a_0)], [], h) =
  rV (E n_X4_layDown [.ref a_0, .int (1 : Int32)] h) (fun h1 =>
  some (.inl (some (.int (1 : Int32))), h1)) thr := by
  rw [evR_eq ok_T_X4_tested.loc (ops := b_X4_tested_134) rfl]; rfl
theorem c_X4_tested (d : Nat) (a_0 : Nat) (h : AH) : callR (d + 1) n_X4_tested [.ref a_0] h =
  bif isO h a_0 4 then evR T_X4_tested (callR d) 0 ([(0, .ref a_0)], [], h) else none := by
  rw [callR_succ, show aMTl[n_X4_tested]? = some (T_X4_tested, [0]) from rfl]; show (bif (isO h a_0 4) && true then _ else _) = _; rw [Bool.and_true]; rfl
theorem e_X4_fact_0 (E : AEn) (a_0 : Nat) (h : AH) : evR T_X4_fact E 0 ([(0, .ref a_0)], [], h) =
  evR T_X4_fact E 2 ([(0, .ref a_0), (1, .int (1 : Int32))], [], h) := by
  rw [evR_eq ok_T_X4_fact.loc (ops := b_X4_fact_0) rfl]; rfl
theorem e_X4_fact_2 (E : AEn) (a_0 : Nat) (i_1 : Int32) (h : AH) : evR T_X4_fact E 2 ([(0, .ref a_0), (1, .int i_1)], [], h) =
  bif i_1 == 0 then evR T_X4_fact E 75 ([(0, .ref a_0)], [], h) else
  evR T_X4_fact E 6 ([(0, .ref a_0)], [], h) := by
  rw [evR_eq ok_T_X4_fact.loc (ops := b_X4_fact_2) rfl]; rfl
theorem e_X4_fact_6 (E : AEn) (a_0 : Nat) (h : AH) : evR T_X4_fact E 6 ([(0, .ref a_0)], [], h) =
  rI (E n_X4_see [.ref a_0] h) (fun i2 h1 =>
  rI (E n_X4_isWord [.ref a_0, .long (7237492 : Int64)] h1) (fun i4 h3 =>
  bif i4 == 0 then evR T_X4_fact E 43 ([(0, .ref a_0), (1, .int (0 : Int32)), (2, .int i2)], [], h3) else
  evR T_X4_fact E 23 ([(0, .ref a_0)], [], h3)) thr) thr := by
  rw [evR_eq ok_T_X4_fact.loc (ops := b_X4_fact_6) rfl]; rfl
theorem e_X4_fact_23 (E : AEn) (a_0 : Nat) (h : AH) : evR T_X4_fact E 23 ([(0, .ref a_0)], [], h) =
  rI (E n_X4_opens [.ref a_0, .int (11 : Int32)] h) (fun i2 h1 =>
  bif !(i2 == 0) then evR T_X4_fact E 34 ([(0, .ref a_0)], [], h1) else
  evR T_X4_fact E 32 ([], [], h1)) thr := by
  rw [evR_eq ok_T_X4_fact.loc (ops := b_X4_fact_23) rfl]; rfl
theorem e_X4_fact_32 (E : AEn)  (h : AH) : evR T_X4_fact E 32 ([], [], h) =
  some (.inl (some (.int (0 : Int32))), h) := by
  rw [evR_eq ok_T_X4_fact.loc (ops := b_X4_fact_32) rfl]; rfl
theorem e_X4_fact_34 (E : AEn) (a_0 : Nat) (h : AH) : evR T_X4_fact E 34 ([(0, .ref a_0)], [], h) =
  rV (E n_X4_passWord [.ref a_0] h) (fun h1 =>
  evR T_X4_fact E 72 ([(0, .ref a_0), (1, .int (1 : Int32))], [], h1)) thr := by
  rw [evR_eq ok_T_X4_fact.loc (ops := b_X4_fact_34) rfl]; rfl
theorem e_X4_fact_43 (E : AEn) (a_0 : Nat) (i_1 : Int32) (i_2 : Int32) (h : AH) : evR T_X4_fact E 43 ([(0, .ref a_0), (1, .int i_1), (2, .int i_2)], [], h) =
  bif !(i_2 == (91 : Int32)) then evR T_X4_fact E 72 ([(0, .ref a_0), (1, .int i_1)], [], h) else
  evR T_X4_fact E 49 ([(0, .ref a_0)], [], h) := by
  rw [evR_eq ok_T_X4_fact.loc (ops := b_X4_fact_43) rfl]; rfl
theorem e_X4_fact_49 (E : AEn) (a_0 : Nat) (h : AH) : evR T_X4_fact E 49 ([(0, .ref a_0)], [], h) =
  rI (E n_X4_opens [.ref a_0, .int (91 : Int32)] h) (fun i2 h1 =>
  bif !(i2 == 0) then evR T_X4_fact E 60 ([(0, .ref a_0)], [], h1) else
  evR T_X4_fact E 58 ([], [], h1)) thr := by
  rw [evR_eq ok_T_X4_fact.loc (ops := b_X4_fact_49) rfl]; rfl
theorem e_X4_fact_58 (E : AEn)  (h : AH) : evR T_X4_fact E 58 ([], [], h) =
  some (.inl (some (.int (0 : Int32))), h) := by
  rw [evR_eq ok_T_X4_fact.loc (ops := b_X4_fact_58) rfl]; rfl
theorem e_X4_fact_60 (E : AEn) (a_0 : Nat) (h : AH) : evR T_X4_fact E 60 ([(0, .ref a_0)], [], h) =
  (rdI h a_0 4 8).bind fun i1 =>
  (wrF h a_0 4 8 (.int (i1 + (1 : Int32)))).bind fun h2 =>
  evR T_X4_fact E 72 ([(0, .ref a_0), (1, .int (1 : Int32))], [], h2) := by
  rw [evR_eq ok_T_X4_fact.loc (ops := b_X4_fact_60) rfl]; rfl
theorem e_X4_fact_72 (E : AEn) (a_0 : Nat) (i_1 : Int32) (h : AH) : evR T_X4_fact E 72 ([(0, .ref a_0), (1, .int i_1)], [], h) =
  evR T_X4_fact E 2 ([(0, .ref a_0), (1, .int i_1)], [], h) := by
  rw [evR_eq ok_T_X4_fact.loc (ops := b_X4_fact_72) rfl]; rfl
theorem e_X4_fact_75 (E : AEn) (a_0 : Nat) (h : AH) : evR T_X4_fact E 75 ([(0, .ref a_0)], [], h) =
  rI (E n_X4_compare [.ref a_0] h) (fun i2 h1 =>
  (bif i2 == 0 || i2 == 1 then some i2 else none).bind fun i3 => some (.inl (some (.int i3)), h1)) thr := by
  rw [evR_eq ok_T_X4_fact.loc (ops := b_X4_fact_75) rfl]; rfl
theorem c_X4_fact (d : Nat) (a_0 : Nat) (h : AH) : callR (d + 1) n_X4_fact [.ref a_0] h =
  bif isO h a_0 4 then evR T_X4_fact (callR d) 0 ([(0, .ref a_0)], [], h) else none := by
  rw [callR_succ, show aMTl[n_X4_fact]? = some (T_X4_fact, [0]) from rfl]; show (bif (isO h a_0 4) && true then _ else _) = _; rw [Bool.and_true]; rfl
theorem e_X4_opens_0 (E : AEn) (a_0 : Nat) (i_1 : Int32) (h : AH) : evR T_X4_opens E 0 ([(0, .ref a_0), (1, .int i_1)], [], h) =
  (rdI h a_0 4 13).bind fun i1 =>
  bif !(i1 == (10 : Int32)) then evR T_X4_opens E 19 ([(0, .ref a_0), (1, .int i_1)], [], h) else
  evR T_X4_opens E 9 ([(0, .ref a_0)], [], h) := by
  rw [evR_eq ok_T_X4_opens.loc (ops := b_X4_opens_0) rfl]; rfl
theorem e_X4_opens_9 (E : AEn) (a_0 : Nat) (h : AH) : evR T_X4_opens E 9 ([(0, .ref a_0)], [], h) =
  (rdI h a_0 4 8).bind fun i1 =>
  rI (E n_X4_fails [.ref a_0, .int (2 : Int32), .int i1] h) (fun i3 h2 =>
  (bif i3 == 0 || i3 == 1 then some i3 else none).bind fun i4 => some (.inl (some (.int i4)), h2)) thr := by
  rw [evR_eq ok_T_X4_opens.loc (ops := b_X4_opens_9) rfl]; rfl
theorem e_X4_opens_19 (E : AEn) (a_0 : Nat) (i_1 : Int32) (h : AH) : evR T_X4_opens E 19 ([(0, .ref a_0), (1, .int i_1)], [], h) =
  (rdI h a_0 4 13).bind fun i1 =>
  (wrF h a_0 4 13 (.int (i1 + (1 : Int32)))).bind fun h2 =>
  (rdR h2 a_0 4 15).bind fun r3 =>
  (rdI h2 a_0 4 16).bind fun i4 =>
  (stI h2 r3 0 i4 i_1).bind fun h5 =>
  (rdI h5 a_0 4 16).bind fun i6 =>
  (wrF h5 a_0 4 16 (.int (i6 + (1 : Int32)))).bind fun h7 =>
  some (.inl (some (.int (1 : Int32))), h7) := by
  rw [evR_eq ok_T_X4_opens.loc (ops := b_X4_opens_19) rfl]; rfl
theorem c_X4_opens (d : Nat) (a_0 : Nat) (i_1 : Int32) (h : AH) : callR (d + 1) n_X4_opens [.ref a_0, .int i_1] h =
  bif isO h a_0 4 then evR T_X4_opens (callR d) 0 ([(0, .ref a_0), (1, .int i_1)], [], h) else none := by
  rw [callR_succ, show aMTl[n_X4_opens]? = some (T_X4_opens, [0, 1]) from rfl]; show (bif (isO h a_0 4) && true then _ else _) = _; rw [Bool.and_true]; rfl
theorem e_X4_compare_0 (E : AEn) (a_0 : Nat) (h : AH) : evR T_X4_compare E 0 ([(0, .ref a_0)], [], h) =
  rI (E n_X4_sum [.ref a_0] h) (fun i2 h1 =>
  bif !(i2 == 0) then evR T_X4_compare E 9 ([(0, .ref a_0)], [], h1) else
  evR T_X4_compare E 7 ([], [], h1)) thr := by
  rw [evR_eq ok_T_X4_compare.loc (ops := b_X4_compare_0) rfl]; rfl
theorem e_X4_compare_7 (E : AEn)  (h : AH) : evR T_X4_compare E 7 ([], [], h) =
  some (.inl (some (.int (0 : Int32))), h) := by
  rw [evR_eq ok_T_X4_compare.loc (ops := b_X4_compare_7) rfl]; rfl
theorem e_X4_compare_9 (E : AEn) (a_0 : Nat) (h : AH) : evR T_X4_compare E 9 ([(0, .ref a_0)], [], h) =
  rI (E n_X4_see [.ref a_0] h) (fun i2 h1 =>
  (rdI h1 a_0 4 8).bind fun i3 =>
  bif i2 == (60 : Int32) then evR T_X4_compare E 44 ([(0, .ref a_0), (1, .int i2), (2, .int i3)], [], h1) else
  evR T_X4_compare E 25 ([(0, .ref a_0), (1, .int i2), (2, .int i3)], [], h1)) thr := by
  rw [evR_eq ok_T_X4_compare.loc (ops := b_X4_compare_9) rfl]; rfl
theorem e_X4_compare_25 (E : AEn) (a_0 : Nat) (i_1 : Int32) (i_2 : Int32) (h : AH) : evR T_X4_compare E 25 ([(0, .ref a_0), (1, .int i_1), (2, .int i_2)], [], h) =
  bif i_1 == (61 : Int32) then evR T_X4_compare E 44 ([(0, .ref a_0), (1, .int i_1), (2, .int i_2)], [], h) else
  evR T_X4_compare E 31 ([(0, .ref a_0), (1, .int i_1), (2, .int i_2)], [], h) := by
  rw [evR_eq ok_T_X4_compare.loc (ops := b_X4_compare_25) rfl]; rfl
theorem e_X4_compare_31 (E : AEn) (a_0 : Nat) (i_1 : Int32) (i_2 : Int32) (h : AH) : evR T_X4_compare E 31 ([(0, .ref a_0), (1, .int i_1), (2, .int i_2)], [], h) =
  bif i_1 == (62 : Int32) then evR T_X4_compare E 44 ([(0, .ref a_0), (1, .int i_1), (2, .int i_2)], [], h) else
  evR T_X4_compare E 37 ([(0, .ref a_0), (2, .int i_2)], [], h) := by
  rw [evR_eq ok_T_X4_compare.loc (ops := b_X4_compare_31) rfl]; rfl
theorem e_X4_compare_37 (E : AEn) (a_0 : Nat) (i_2 : Int32) (h : AH) : evR T_X4_compare E 37 ([(0, .ref a_0), (2, .int i_2)], [], h) =
  rI (E n_X4_fails [.ref a_0, .int (0 : Int32), .int i_2] h) (fun i2 h1 =>
  (bif i2 == 0 || i2 == 1 then some i2 else none).bind fun i3 => some (.inl (some (.int i3)), h1)) thr := by
  rw [evR_eq ok_T_X4_compare.loc (ops := b_X4_compare_37) rfl]; rfl
theorem e_X4_compare_44 (E : AEn) (a_0 : Nat) (i_1 : Int32) (i_2 : Int32) (h : AH) : evR T_X4_compare E 44 ([(0, .ref a_0), (1, .int i_1), (2, .int i_2)], [], h) =
  (rdI h a_0 4 8).bind fun i1 =>
  (wrF h a_0 4 8 (.int (i1 + (1 : Int32)))).bind fun h2 =>
  bif i_1 == (61 : Int32) then evR T_X4_compare E 89 ([(0, .ref a_0), (1, .int i_1), (2, .int i_2)], [], h2) else
  evR T_X4_compare E 60 ([(0, .ref a_0), (1, .int i_1), (2, .int i_2)], [], h2) := by
  rw [evR_eq ok_T_X4_compare.loc (ops := b_X4_compare_44) rfl]; rfl
theorem e_X4_compare_60 (E : AEn) (a_0 : Nat) (i_1 : Int32) (i_2 : Int32) (h : AH) : evR T_X4_compare E 60 ([(0, .ref a_0), (1, .int i_1), (2, .int i_2)], [], h) =
  (rdI h a_0 4 8).bind fun i1 =>
  (rdI h a_0 4 1).bind fun i2 =>
  bif decide (i2 ≤ i1) then evR T_X4_compare E 89 ([(0, .ref a_0), (1, .int i_1), (2, .int i_2)], [], h) else
  evR T_X4_compare E 71 ([(0, .ref a_0), (1, .int i_1), (2, .int i_2)], [], h) := by
  rw [evR_eq ok_T_X4_compare.loc (ops := b_X4_compare_60) rfl]; rfl
theorem e_X4_compare_71 (E : AEn) (a_0 : Nat) (i_1 : Int32) (i_2 : Int32) (h : AH) : evR T_X4_compare E 71 ([(0, .ref a_0), (1, .int i_1), (2, .int i_2)], [], h) =
  (rdR h a_0 4 0).bind fun r1 =>
  (rdI h a_0 4 8).bind fun i2 =>
  (ldI h r1 1 i2).bind fun i3 =>
  bif !(i3 == (61 : Int32)) then evR T_X4_compare E 89 ([(0, .ref a_0), (1, .int i_1), (2, .int i_2)], [], h) else
  evR T_X4_compare E 85 ([(0, .ref a_0), (1, .int i_1), (2, .int i_2)], [], h) := by
  rw [evR_eq ok_T_X4_compare.loc (ops := b_X4_compare_71) rfl]; rfl
theorem e_X4_compare_85 (E : AEn) (a_0 : Nat) (i_1 : Int32) (i_2 : Int32) (h : AH) : evR T_X4_compare E 85 ([(0, .ref a_0), (1, .int i_1), (2, .int i_2)], [], h) =
  evR T_X4_compare E 90 ([(0, .ref a_0), (1, .int i_1), (2, .int i_2)], [.int (1 : Int32)], h) := by
  rw [evR_eq ok_T_X4_compare.loc (ops := b_X4_compare_85) rfl]; rfl
theorem e_X4_compare_89 (E : AEn) (a_0 : Nat) (i_1 : Int32) (i_2 : Int32) (h : AH) : evR T_X4_compare E 89 ([(0, .ref a_0), (1, .int i_1), (2, .int i_2)], [], h) =
  evR T_X4_compare E 90 ([(0, .ref a_0), (1, .int i_1), (2, .int i_2)], [.int (0 : Int32)], h) := by
  rw [evR_eq ok_T_X4_compare.loc (ops := b_X4_compare_89) rfl]; rfl
theorem e_X4_compare_90 (E : AEn) (a_0 : Nat) (i_1 : Int32) (i_2 : Int32) (si_0 : Int32) (h : AH) : evR T_X4_compare E 90 ([(0, .ref a_0), (1, .int i_1), (2, .int i_2)], [.int si_0], h) =
  bif si_0 == 0 then evR T_X4_compare E 105 ([(0, .ref a_0), (1, .int i_1), (2, .int i_2), (3, .int si_0)], [], h) else
  evR T_X4_compare E 95 ([(0, .ref a_0), (1, .int i_1), (2, .int i_2), (3, .int si_0)], [], h) := by
  rw [evR_eq ok_T_X4_compare.loc (ops := b_X4_compare_90) rfl]; rfl
theorem e_X4_compare_95 (E : AEn) (a_0 : Nat) (i_1 : Int32) (i_2 : Int32) (i_3 : Int32) (h : AH) : evR T_X4_compare E 95 ([(0, .ref a_0), (1, .int i_1), (2, .int i_2), (3, .int i_3)], [], h) =
  (rdI h a_0 4 8).bind fun i1 =>
  (wrF h a_0 4 8 (.int (i1 + (1 : Int32)))).bind fun h2 =>
  evR T_X4_compare E 105 ([(0, .ref a_0), (1, .int i_1), (2, .int i_2), (3, .int i_3)], [], h2) := by
  rw [evR_eq ok_T_X4_compare.loc (ops := b_X4_compare_95) rfl]; rfl
theorem e_X4_compare_105 (E : AEn) (a_0 : Nat) (i_1 : Int32) (i_2 : Int32) (i_3 : Int32) (h : AH) : evR T_X4_compare E 105 ([(0, .ref a_0), (1, .int i_1), (2, .int i_2), (3, .int i_3)], [], h) =
  rI (E n_X4_makes [.ref a_0, .int i_2] h) (fun i2 h1 =>
  bif !(i2 == 0) then evR T_X4_compare E 115 ([(0, .ref a_0), (1, .int i_1), (3, .int i_3)], [], h1) else
  evR T_X4_compare E 113 ([], [], h1)) thr := by
  rw [evR_eq ok_T_X4_compare.loc (ops := b_X4_compare_105) rfl]; rfl
theorem e_X4_compare_113 (E : AEn)  (h : AH) : evR T_X4_compare E 113 ([], [], h) =
  some (.inl (some (.int (0 : Int32))), h) := by
  rw [evR_eq ok_T_X4_compare.loc (ops := b_X4_compare_113) rfl]; rfl
theorem e_X4_compare_115 (E : AEn) (a_0 : Nat) (i_1 : Int32) (i_3 : Int32) (h : AH) : evR T_X4_compare E 115 ([(0, .ref a_0), (1, .int i_1), (3, .int i_3)], [], h) =
  bif !(i_1 == (60 : Int32)) then evR T_X4_compare E 133 ([(0, .ref a_0), (1, .int i_1), (3, .int i_3)], [], h) else
  evR T_X4_compare E 121 ([(0, .ref a_0), (3, .int i_3)], [], h) := by
  rw [evR_eq ok_T_X4_compare.loc (ops := b_X4_compare_115) rfl]; rfl
theorem e_X4_compare_121 (E : AEn) (a_0 : Nat) (i_3 : Int32) (h : AH) : evR T_X4_compare E 121 ([(0, .ref a_0), (3, .int i_3)], [], h) =
  bif i_3 == 0 then evR T_X4_compare E 129 ([(0, .ref a_0)], [], h) else
  evR T_X4_compare E 125 ([(0, .ref a_0)], [], h) := by
  rw [evR_eq ok_T_X4_compare.loc (ops := b_X4_compare_121) rfl]; rfl
theorem e_X4_compare_125 (E : AEn) (a_0 : Nat) (h : AH) : evR T_X4_compare E 125 ([(0, .ref a_0)], [], h) =
  evR T_X4_compare E 152 ([(0, .ref a_0)], [.int (1 : Int32)], h) := by
  rw [evR_eq ok_T_X4_compare.loc (ops := b_X4_compare_125) rfl]; rfl
theorem e_X4_compare_129 (E : AEn) (a_0 : Nat) (h : AH) : evR T_X4_compare E 129 ([(0, .ref a_0)], [], h) =
  evR T_X4_compare E 152 ([(0, .ref a_0)], [.int (0 : Int32)], h) := by
  rw [evR_eq ok_T_X4_compare.loc (ops := b_X4_compare_129) rfl]; rfl
theorem e_X4_compare_133 (E : AEn) (a_0 : Nat) (i_1 : Int32) (i_3 : Int32) (h : AH) : evR T_X4_compare E 133 ([(0, .ref a_0), (1, .int i_1), (3, .int i_3)], [], h) =
  bif !(i_1 == (61 : Int32)) then evR T_X4_compare E 143 ([(0, .ref a_0), (3, .int i_3)], [], h) else
  evR T_X4_compare E 139 ([(0, .ref a_0)], [], h) := by
  rw [evR_eq ok_T_X4_compare.loc (ops := b_X4_compare_133) rfl]; rfl
theorem e_X4_compare_139 (E : AEn) (a_0 : Nat) (h : AH) : evR T_X4_compare E 139 ([(0, .ref a_0)], [], h) =
  evR T_X4_compare E 152 ([(0, .ref a_0)], [.int (2 : Int32)], h) := by
  rw [evR_eq ok_T_X4_compare.loc (ops := b_X4_compare_139) rfl]; rfl
theorem e_X4_compare_143 (E : AEn) (a_0 : Nat) (i_3 : Int32) (h : AH) : evR T_X4_compare E 143 ([(0, .ref a_0), (3, .int i_3)], [], h) =
  bif i_3 == 0 then evR T_X4_compare E 151 ([(0, .ref a_0)], [], h) else
  evR T_X4_compare E 147 ([(0, .ref a_0)], [], h) := by
  rw [evR_eq ok_T_X4_compare.loc (ops := b_X4_compare_143) rfl]; rfl
theorem e_X4_compare_147 (E : AEn) (a_0 : Nat) (h : AH) : evR T_X4_compare E 147 ([(0, .ref a_0)], [], h) =
  evR T_X4_compare E 152 ([(0, .ref a_0)], [.int (3 : Int32)], h) := by
  rw [evR_eq ok_T_X4_compare.loc (ops := b_X4_compare_147) rfl]; rfl
theorem e_X4_compare_151 (E : AEn) (a_0 : Nat) (h : AH) : evR T_X4_compare E 151 ([(0, .ref a_0)], [], h) =
  evR T_X4_compare E 152 ([(0, .ref a_0)], [.int (4 : Int32)], h) := by
  rw [evR_eq ok_T_X4_compare.loc (ops := b_X4_compare_151) rfl]; rfl
theorem e_X4_compare_152 (E : AEn) (a_0 : Nat) (si_0 : Int32) (h : AH) : evR T_X4_compare E 152 ([(0, .ref a_0)], [.int si_0], h) =
  rI (E n_X4_sum [.ref a_0] h) (fun i2 h1 =>
  bif !(i2 == 0) then evR T_X4_compare E 163 ([(0, .ref a_0), (4, .int si_0)], [], h1) else
  evR T_X4_compare E 161 ([], [], h1)) thr := by
  rw [evR_eq ok_T_X4_compare.loc (ops := b_X4_compare_152) rfl]; rfl
theorem e_X4_compare_161 (E : AEn)  (h : AH) : evR T_X4_compare E 161 ([], [], h) =
  some (.inl (some (.int (0 : Int32))), h) := by
  rw [evR_eq ok_T_X4_compare.loc (ops := b_X4_compare_161) rfl]; rfl
theorem e_X4_compare_163 (E : AEn) (a_0 : Nat) (i_4 : Int32) (h : AH) : evR T_X4_compare E 163 ([(0, .ref a_0), (4, .int i_4)], [], h) =
  rV (E n_X4_puts [.ref a_0, .int ((6 : Int32) + i_4), .int (0 : Int32)] h) (fun h1 =>
  some (.inl (some (.int (1 : Int32))), h1)) thr := by
  rw [evR_eq ok_T_X4_compare.loc (ops := b_X4_compare_163) rfl]; rfl
theorem c_X4_compare (d : Nat) (a_0 : Nat) (h : AH) : callR (d + 1) n_X4_compare [.ref a_0] h =
  bif isO h a_0 4 then evR T_X4_compare (callR d) 0 ([(0, .ref a_0)], [], h) else none := by
  rw [callR_succ, show aMTl[n_X4_compare]? = some (T_X4_compare, [0]) from rfl]; show (bif (isO h a_0 4) && true then _ else _) = _; rw [Bool.and_true]; rfl
theorem e_X4_closes_0 (E : AEn) (a_0 : Nat) (h : AH) : evR T_X4_closes E 0 ([(0, .ref a_0)], [], h) =
  rV (E n_X4_layDown [.ref a_0, .int (3 : Int32)] h) (fun h1 =>
  evR T_X4_closes E 5 ([(0, .ref a_0)], [], h1)) thr := by
  rw [evR_eq ok_T_X4_closes.loc (ops := b_X4_closes_0) rfl]; rfl
theorem e_X4_closes_5 (E : AEn) (a_0 : Nat) (h : AH) : evR T_X4_closes E 5 ([(0, .ref a_0)], [], h) =
  rI (E n_X4_see [.ref a_0] h) (fun i2 h1 =>
  bif !(i2 == (93 : Int32)) then evR T_X4_closes E 64 ([], [], h1) else
  evR T_X4_closes E 14 ([(0, .ref a_0)], [], h1)) thr := by
  rw [evR_eq ok_T_X4_closes.loc (ops := b_X4_closes_5) rfl]; rfl
theorem e_X4_closes_14 (E : AEn) (a_0 : Nat) (h : AH) : evR T_X4_closes E 14 ([(0, .ref a_0)], [], h) =
  rI (E n_X4_isInside [.ref a_0] h) (fun i2 h1 =>
  bif i2 == 0 then evR T_X4_closes E 64 ([], [], h1) else
  evR T_X4_closes E 21 ([(0, .ref a_0)], [], h1)) thr := by
  rw [evR_eq ok_T_X4_closes.loc (ops := b_X4_closes_14) rfl]; rfl
theorem e_X4_closes_21 (E : AEn) (a_0 : Nat) (h : AH) : evR T_X4_closes E 21 ([(0, .ref a_0)], [], h) =
  rV (E n_X4_layDown [.ref a_0, .int (1 : Int32)] h) (fun h1 =>
  (rdI h1 a_0 4 16).bind fun i2 =>
  (wrF h1 a_0 4 16 (.int (i2 - (1 : Int32)))).bind fun h3 =>
  (rdI h3 a_0 4 13).bind fun i4 =>
  (wrF h3 a_0 4 13 (.int (i4 - (1 : Int32)))).bind fun h5 =>
  (rdI h5 a_0 4 8).bind fun i6 =>
  (wrF h5 a_0 4 8 (.int (i6 + (1 : Int32)))).bind fun h7 =>
  rV (E n_X4_layDown [.ref a_0, .int (3 : Int32)] h7) (fun h8 =>
  evR T_X4_closes E 5 ([(0, .ref a_0)], [], h8)) thr) thr := by
  rw [evR_eq ok_T_X4_closes.loc (ops := b_X4_closes_21) rfl]; rfl
theorem e_X4_closes_64 (E : AEn)  (h : AH) : evR T_X4_closes E 64 ([], [], h) =
  some (.inl none, h) := by
  rw [evR_eq ok_T_X4_closes.loc (ops := b_X4_closes_64) rfl]; rfl
theorem c_X4_closes (d : Nat) (a_0 : Nat) (h : AH) : callR (d + 1) n_X4_closes [.ref a_0] h =
  bif isO h a_0 4 then evR T_X4_closes (callR d) 0 ([(0, .ref a_0)], [], h) else none := by
  rw [callR_succ, show aMTl[n_X4_closes]? = some (T_X4_closes, [0]) from rfl]; show (bif (isO h a_0 4) && true then _ else _) = _; rw [Bool.and_true]; rfl
theorem e_X4_layDown_0 (E : AEn) (a_0 : Nat) (i_1 : Int32) (h : AH) : evR T_X4_layDown E 0 ([(0, .ref a_0), (1, .int i_1)], [], h) =
  (rdI h a_0 4 16).bind fun i1 =>
  bif decide (i1 ≤ 0) then evR T_X4_layDown E 76 ([], [], h) else
  evR T_X4_layDown E 7 ([(0, .ref a_0), (1, .int i_1)], [], h) := by
  rw [evR_eq ok_T_X4_layDown.loc (ops := b_X4_layDown_0) rfl]; rfl
theorem e_X4_layDown_7 (E : AEn) (a_0 : Nat) (i_1 : Int32) (h : AH) : evR T_X4_layDown E 7 ([(0, .ref a_0), (1, .int i_1)], [], h) =
  (rdR h a_0 4 15).bind fun r1 =>
  (rdI h a_0 4 16).bind fun i2 =>
  (ldI h r1 0 (i2 - (1 : Int32))).bind fun i3 =>
  rI (E n_X4_strength [.int i3] h) (fun i5 h4 =>
  bif decide (i5 < i_1) then evR T_X4_layDown E 76 ([], [], h4) else
  evR T_X4_layDown E 25 ([(0, .ref a_0), (1, .int i_1)], [], h4)) thr := by
  rw [evR_eq ok_T_X4_layDown.loc (ops := b_X4_layDown_7) rfl]; rfl
theorem e_X4_layDown_25 (E : AEn) (a_0 : Nat) (i_1 : Int32) (h : AH) : evR T_X4_layDown E 25 ([(0, .ref a_0), (1, .int i_1)], [], h) =
  (rdI h a_0 4 16).bind fun i1 =>
  (wrF h a_0 4 16 (.int (i1 - (1 : Int32)))).bind fun h2 =>
  (rdR h2 a_0 4 15).bind fun r3 =>
  (rdI h2 a_0 4 16).bind fun i4 =>
  (ldI h2 r3 0 i4).bind fun i5 =>
  rV (E n_X4_puts [.ref a_0, .int i5, .int (0 : Int32)] h2) (fun h6 =>
  (rdR h6 a_0 4 15).bind fun r7 =>
  (rdI h6 a_0 4 16).bind fun i8 =>
  (ldI h6 r7 0 i8).bind fun i9 =>
  bif !(i9 == (11 : Int32)) then evR T_X4_layDown E 0 ([(0, .ref a_0), (1, .int i_1)], [], h6) else
  evR T_X4_layDown E 63 ([(0, .ref a_0), (1, .int i_1)], [], h6)) thr := by
  rw [evR_eq ok_T_X4_layDown.loc (ops := b_X4_layDown_25) rfl]; rfl
theorem e_X4_layDown_63 (E : AEn) (a_0 : Nat) (i_1 : Int32) (h : AH) : evR T_X4_layDown E 63 ([(0, .ref a_0), (1, .int i_1)], [], h) =
  (rdI h a_0 4 13).bind fun i1 =>
  (wrF h a_0 4 13 (.int (i1 - (1 : Int32)))).bind fun h2 =>
  evR T_X4_layDown E 0 ([(0, .ref a_0), (1, .int i_1)], [], h2) := by
  rw [evR_eq ok_T_X4_layDown.loc (ops := b_X4_layDown_63) rfl]; rfl
theorem e_X4_layDown_76 (E : AEn)  (h : AH) : evR T_X4_layDown E 76 ([], [], h) =
  some (.inl none, h) := by
  rw [evR_eq ok_T_X4_layDown.loc (ops := b_X4_layDown_76) rfl]; rfl
theorem c_X4_layDown (d : Nat) (a_0 : Nat) (i_1 : Int32) (h : AH) : callR (d + 1) n_X4_layDown [.ref a_0, .int i_1] h =
  bif isO h a_0 4 then evR T_X4_layDown (callR d) 0 ([(0, .ref a_0), (1, .int i_1)], [], h) else none := by
  rw [callR_succ, show aMTl[n_X4_layDown]? = some (T_X4_layDown, [0, 1]) from rfl]; show (bif (isO h a_0 4) && true then _ else _) = _; rw [Bool.and_true]; rfl
theorem e_X4_strength_0 (E : AEn) (i_0 : Int32) (h : AH) : evR T_X4_strength E 0 ([(0, .int i_0)], [], h) =
  bif !(i_0 == (13 : Int32)) then evR T_X4_strength E 10 ([(0, .int i_0)], [], h) else
  evR T_X4_strength E 6 ([], [], h) := by
  rw [evR_eq ok_T_X4_strength.loc (ops := b_X4_strength_0) rfl]; rfl
theorem e_X4_strength_6 (E : AEn)  (h : AH) : evR T_X4_strength E 6 ([], [], h) =
  evR T_X4_strength E 31 ([], [.int (1 : Int32)], h) := by
  rw [evR_eq ok_T_X4_strength.loc (ops := b_X4_strength_6) rfl]; rfl
theorem e_X4_strength_10 (E : AEn) (i_0 : Int32) (h : AH) : evR T_X4_strength E 10 ([(0, .int i_0)], [], h) =
  bif !(i_0 == (12 : Int32)) then evR T_X4_strength E 20 ([(0, .int i_0)], [], h) else
  evR T_X4_strength E 16 ([], [], h) := by
  rw [evR_eq ok_T_X4_strength.loc (ops := b_X4_strength_10) rfl]; rfl
theorem e_X4_strength_16 (E : AEn)  (h : AH) : evR T_X4_strength E 16 ([], [], h) =
  evR T_X4_strength E 31 ([], [.int (2 : Int32)], h) := by
  rw [evR_eq ok_T_X4_strength.loc (ops := b_X4_strength_16) rfl]; rfl
theorem e_X4_strength_20 (E : AEn) (i_0 : Int32) (h : AH) : evR T_X4_strength E 20 ([(0, .int i_0)], [], h) =
  bif !(i_0 == (11 : Int32)) then evR T_X4_strength E 30 ([], [], h) else
  evR T_X4_strength E 26 ([], [], h) := by
  rw [evR_eq ok_T_X4_strength.loc (ops := b_X4_strength_20) rfl]; rfl
theorem e_X4_strength_26 (E : AEn)  (h : AH) : evR T_X4_strength E 26 ([], [], h) =
  evR T_X4_strength E 31 ([], [.int (3 : Int32)], h) := by
  rw [evR_eq ok_T_X4_strength.loc (ops := b_X4_strength_26) rfl]; rfl
theorem e_X4_strength_30 (E : AEn)  (h : AH) : evR T_X4_strength E 30 ([], [], h) =
  evR T_X4_strength E 31 ([], [.int (0 : Int32)], h) := by
  rw [evR_eq ok_T_X4_strength.loc (ops := b_X4_strength_30) rfl]; rfl
theorem e_X4_strength_31 (E : AEn) (si_0 : Int32) (h : AH) : evR T_X4_strength E 31 ([], [.int si_0], h) =
  some (.inl (some (.int si_0)), h) := by
  rw [evR_eq ok_T_X4_strength.loc (ops := b_X4_strength_31) rfl]; rfl
theorem c_X4_strength (d : Nat) (i_0 : Int32) (h : AH) : callR (d + 1) n_X4_strength [.int i_0] h =
  evR T_X4_strength (callR d) 0 ([(0, .int i_0)], [], h) := by
  rw [callR_succ, show aMTl[n_X4_strength]? = some (T_X4_strength, [0]) from rfl]; rfl
theorem e_X4_isInside_0 (E : AEn) (a_0 : Nat) (h : AH) : evR T_X4_isInside E 0 ([(0, .ref a_0)], [], h) =
  evR T_X4_isInside E 2 ([(0, .ref a_0), (1, .int (0 : Int32))], [], h) := by
  rw [evR_eq ok_T_X4_isInside.loc (ops := b_X4_isInside_0) rfl]; rfl
theorem e_X4_isInside_2 (E : AEn) (a_0 : Nat) (i_1 : Int32) (h : AH) : evR T_X4_isInside E 2 ([(0, .ref a_0), (1, .int i_1)], [], h) =
  (rdI h a_0 4 16).bind fun i1 =>
  bif decide (i1 ≤ i_1) then evR T_X4_isInside E 29 ([], [], h) else
  evR T_X4_isInside E 10 ([(0, .ref a_0), (1, .int i_1)], [], h) := by
  rw [evR_eq ok_T_X4_isInside.loc (ops := b_X4_isInside_2) rfl]; rfl
theorem e_X4_isInside_10 (E : AEn) (a_0 : Nat) (i_1 : Int32) (h : AH) : evR T_X4_isInside E 10 ([(0, .ref a_0), (1, .int i_1)], [], h) =
  (rdR h a_0 4 15).bind fun r1 =>
  (ldI h r1 0 i_1).bind fun i2 =>
  bif !(i2 == (91 : Int32)) then evR T_X4_isInside E 23 ([(0, .ref a_0), (1, .int i_1)], [], h) else
  evR T_X4_isInside E 21 ([], [], h) := by
  rw [evR_eq ok_T_X4_isInside.loc (ops := b_X4_isInside_10) rfl]; rfl
theorem e_X4_isInside_21 (E : AEn)  (h : AH) : evR T_X4_isInside E 21 ([], [], h) =
  some (.inl (some (.int (1 : Int32))), h) := by
  rw [evR_eq ok_T_X4_isInside.loc (ops := b_X4_isInside_21) rfl]; rfl
theorem e_X4_isInside_23 (E : AEn) (a_0 : Nat) (i_1 : Int32) (h : AH) : evR T_X4_isInside E 23 ([(0, .ref a_0), (1, .int i_1)], [], h) =
  evR T_X4_isInside E 2 ([(0, .ref a_0), (1, .int (i_1 + (1 : Int32)))], [], h) := by
  rw [evR_eq ok_T_X4_isInside.loc (ops := b_X4_isInside_23) rfl]; rfl
theorem e_X4_isInside_29 (E : AEn)  (h : AH) : evR T_X4_isInside E 29 ([], [], h) =
  some (.inl (some (.int (0 : Int32))), h) := by
  rw [evR_eq ok_T_X4_isInside.loc (ops := b_X4_isInside_29) rfl]; rfl
theorem c_X4_isInside (d : Nat) (a_0 : Nat) (h : AH) : callR (d + 1) n_X4_isInside [.ref a_0] h =
  bif isO h a_0 4 then evR T_X4_isInside (callR d) 0 ([(0, .ref a_0)], [], h) else none := by
  rw [callR_succ, show aMTl[n_X4_isInside]? = some (T_X4_isInside, [0]) from rfl]; show (bif (isO h a_0 4) && true then _ else _) = _; rw [Bool.and_true]; rfl
theorem e_X4_valley_0 (E : AEn) (a_0 : Nat) (h : AH) : evR T_X4_valley E 0 ([(0, .ref a_0)], [], h) =
  (wrF h a_0 4 11 (.int (6 : Int32))).bind fun h1 =>
  evR T_X4_valley E 8 ([(0, .ref a_0), (1, .int (0 : Int32))], [], h1) := by
  rw [evR_eq ok_T_X4_valley.loc (ops := b_X4_valley_0) rfl]; rfl
theorem e_X4_valley_8 (E : AEn) (a_0 : Nat) (i_1 : Int32) (h : AH) : evR T_X4_valley E 8 ([(0, .ref a_0), (1, .int i_1)], [], h) =
  bif decide ((111 : Int32) ≤ i_1) then evR T_X4_valley E 27 ([(0, .ref a_0)], [], h) else
  evR T_X4_valley E 14 ([(0, .ref a_0), (1, .int i_1)], [], h) := by
  rw [evR_eq ok_T_X4_valley.loc (ops := b_X4_valley_8) rfl]; rfl
theorem e_X4_valley_14 (E : AEn) (a_0 : Nat) (i_1 : Int32) (h : AH) : evR T_X4_valley E 14 ([(0, .ref a_0), (1, .int i_1)], [], h) =
  (rdR h a_0 4 7).bind fun r1 =>
  (stI h r1 0 i_1 (0 : Int32)).bind fun h2 =>
  evR T_X4_valley E 8 ([(0, .ref a_0), (1, .int (i_1 + (1 : Int32)))], [], h2) := by
  rw [evR_eq ok_T_X4_valley.loc (ops := b_X4_valley_14) rfl]; rfl
theorem e_X4_valley_27 (E : AEn) (a_0 : Nat) (h : AH) : evR T_X4_valley E 27 ([(0, .ref a_0)], [], h) =
  rI (E n_X4_readsAll [.ref a_0] h) (fun i2 h1 =>
  bif !(i2 == 0) then evR T_X4_valley E 42 ([(0, .ref a_0)], [], h1) else
  evR T_X4_valley E 34 ([(0, .ref a_0)], [], h1)) thr := by
  rw [evR_eq ok_T_X4_valley.loc (ops := b_X4_valley_27) rfl]; rfl
theorem e_X4_valley_34 (E : AEn) (a_0 : Nat) (h : AH) : evR T_X4_valley E 34 ([(0, .ref a_0)], [], h) =
  (rdI h a_0 4 9).bind fun i1 =>
  some (.inl (some (.int ((-2 : Int32) - i1))), h) := by
  rw [evR_eq ok_T_X4_valley.loc (ops := b_X4_valley_34) rfl]; rfl
theorem e_X4_valley_42 (E : AEn) (a_0 : Nat) (h : AH) : evR T_X4_valley E 42 ([(0, .ref a_0)], [], h) =
  evR T_X4_valley E 44 ([(0, .ref a_0), (1, .int (0 : Int32))], [], h) := by
  rw [evR_eq ok_T_X4_valley.loc (ops := b_X4_valley_42) rfl]; rfl
theorem e_X4_valley_44 (E : AEn) (a_0 : Nat) (i_1 : Int32) (h : AH) : evR T_X4_valley E 44 ([(0, .ref a_0), (1, .int i_1)], [], h) =
  bif decide ((132 : Int32) ≤ i_1) then evR T_X4_valley E 79 ([(0, .ref a_0)], [], h) else
  evR T_X4_valley E 51 ([(0, .ref a_0), (1, .int i_1)], [], h) := by
  rw [evR_eq ok_T_X4_valley.loc (ops := b_X4_valley_44) rfl]; rfl
theorem e_X4_valley_51 (E : AEn) (a_0 : Nat) (i_1 : Int32) (h : AH) : evR T_X4_valley E 51 ([(0, .ref a_0), (1, .int i_1)], [], h) =
  (rdR h a_0 4 21).bind fun r1 =>
  bif decide ((111 : Int32) ≤ i_1) then evR T_X4_valley E 71 ([(0, .ref a_0), (1, .int i_1)], [.int i_1, .ref r1], h) else
  evR T_X4_valley E 62 ([(0, .ref a_0), (1, .int i_1)], [.int i_1, .ref r1], h) := by
  rw [evR_eq ok_T_X4_valley.loc (ops := b_X4_valley_51) rfl]; rfl
theorem e_X4_valley_62 (E : AEn) (a_0 : Nat) (i_1 : Int32) (si_0 : Int32) (sa_1 : Nat) (h : AH) : evR T_X4_valley E 62 ([(0, .ref a_0), (1, .int i_1)], [.int si_0, .ref sa_1], h) =
  (rdR h a_0 4 7).bind fun r1 =>
  (ldI h r1 0 i_1).bind fun i2 =>
  evR T_X4_valley E 72 ([(0, .ref a_0), (1, .int i_1)], [.int i2, .int si_0, .ref sa_1], h) := by
  rw [evR_eq ok_T_X4_valley.loc (ops := b_X4_valley_62) rfl]; rfl
theorem e_X4_valley_71 (E : AEn) (a_0 : Nat) (i_1 : Int32) (si_0 : Int32) (sa_1 : Nat) (h : AH) : evR T_X4_valley E 71 ([(0, .ref a_0), (1, .int i_1)], [.int si_0, .ref sa_1], h) =
  evR T_X4_valley E 72 ([(0, .ref a_0), (1, .int i_1)], [.int (0 : Int32), .int si_0, .ref sa_1], h) := by
  rw [evR_eq ok_T_X4_valley.loc (ops := b_X4_valley_71) rfl]; rfl
theorem e_X4_valley_72 (E : AEn) (a_0 : Nat) (i_1 : Int32) (si_0 : Int32) (si_1 : Int32) (sa_2 : Nat) (h : AH) : evR T_X4_valley E 72 ([(0, .ref a_0), (1, .int i_1)], [.int si_0, .int si_1, .ref sa_2], h) =
  (stI h sa_2 0 si_1 si_0).bind fun h1 =>
  evR T_X4_valley E 44 ([(0, .ref a_0), (1, .int (i_1 + (1 : Int32)))], [], h1) := by
  rw [evR_eq ok_T_X4_valley.loc (ops := b_X4_valley_72) rfl]; rfl
theorem e_X4_valley_79 (E : AEn) (a_0 : Nat) (h : AH) : evR T_X4_valley E 79 ([(0, .ref a_0)], [], h) =
  rV (E n_X4_measures [.ref a_0] h) (fun h1 =>
  rV (E n_X4_begins [.ref a_0] h1) (fun h2 =>
  (wrF h2 a_0 4 31 (.int (0 : Int32))).bind fun h3 =>
  (rdR h3 a_0 4 21).bind fun r4 =>
  (ldI h3 r4 0 (3 : Int32)).bind fun i5 =>
  some (.inl (some (.int i5)), h3)) thr) thr := by
  rw [evR_eq ok_T_X4_valley.loc (ops := b_X4_valley_79) rfl]; rfl
theorem c_X4_valley (d : Nat) (a_0 : Nat) (h : AH) : callR (d + 1) n_X4_valley [.ref a_0] h =
  bif isO h a_0 4 then evR T_X4_valley (callR d) 0 ([(0, .ref a_0)], [], h) else none := by
  rw [callR_succ, show aMTl[n_X4_valley]? = some (T_X4_valley, [0]) from rfl]; show (bif (isO h a_0 4) && true then _ else _) = _; rw [Bool.and_true]; rfl
theorem e_X4_measures_0 (E : AEn) (a_0 : Nat) (h : AH) : evR T_X4_measures E 0 ([(0, .ref a_0)], [], h) =
  evR T_X4_measures E 2 ([(0, .ref a_0), (1, .int (0 : Int32))], [], h) := by
  rw [evR_eq ok_T_X4_measures.loc (ops := b_X4_measures_0) rfl]; rfl
theorem e_X4_measures_2 (E : AEn) (a_0 : Nat) (i_1 : Int32) (h : AH) : evR T_X4_measures E 2 ([(0, .ref a_0), (1, .int i_1)], [], h) =
  bif decide ((7 : Int32) ≤ i_1) then evR T_X4_measures E 76 ([(0, .ref a_0)], [], h) else
  evR T_X4_measures E 8 ([(0, .ref a_0), (1, .int i_1)], [], h) := by
  rw [evR_eq ok_T_X4_measures.loc (ops := b_X4_measures_2) rfl]; rfl
theorem e_X4_measures_8 (E : AEn) (a_0 : Nat) (i_1 : Int32) (h : AH) : evR T_X4_measures E 8 ([(0, .ref a_0), (1, .int i_1)], [], h) =
  evR T_X4_measures E 10 ([(0, .ref a_0), (1, .int i_1), (2, .int (0 : Int32))], [], h) := by
  rw [evR_eq ok_T_X4_measures.loc (ops := b_X4_measures_8) rfl]; rfl
theorem e_X4_measures_10 (E : AEn) (a_0 : Nat) (i_1 : Int32) (i_2 : Int32) (h : AH) : evR T_X4_measures E 10 ([(0, .ref a_0), (1, .int i_1), (2, .int i_2)], [], h) =
  bif decide ((7 : Int32) ≤ i_2) then evR T_X4_measures E 70 ([(0, .ref a_0), (1, .int i_1)], [], h) else
  evR T_X4_measures E 16 ([(0, .ref a_0), (1, .int i_1), (2, .int i_2)], [], h) := by
  rw [evR_eq ok_T_X4_measures.loc (ops := b_X4_measures_10) rfl]; rfl
theorem e_X4_measures_16 (E : AEn) (a_0 : Nat) (i_1 : Int32) (i_2 : Int32) (h : AH) : evR T_X4_measures E 16 ([(0, .ref a_0), (1, .int i_1), (2, .int i_2)], [], h) =
  bif !(i_1 == i_2) then evR T_X4_measures E 39 ([(0, .ref a_0), (1, .int i_1), (2, .int i_2)], [], h) else
  evR T_X4_measures E 21 ([(0, .ref a_0), (1, .int i_1), (2, .int i_2)], [], h) := by
  rw [evR_eq ok_T_X4_measures.loc (ops := b_X4_measures_16) rfl]; rfl
theorem e_X4_measures_21 (E : AEn) (a_0 : Nat) (i_1 : Int32) (i_2 : Int32) (h : AH) : evR T_X4_measures E 21 ([(0, .ref a_0), (1, .int i_1), (2, .int i_2)], [], h) =
  (rdR h a_0 4 21).bind fun r1 =>
  (stI h r1 0 (((44 : Int32) + ((7 : Int32) * i_1)) + i_2) (0 : Int32)).bind fun h2 =>
  evR T_X4_measures E 64 ([(0, .ref a_0), (1, .int i_1), (2, .int i_2)], [], h2) := by
  rw [evR_eq ok_T_X4_measures.loc (ops := b_X4_measures_21) rfl]; rfl
theorem e_X4_measures_39 (E : AEn) (a_0 : Nat) (i_1 : Int32) (i_2 : Int32) (h : AH) : evR T_X4_measures E 39 ([(0, .ref a_0), (1, .int i_1), (2, .int i_2)], [], h) =
  rI (E n_X4_farOf [.ref a_0, .int i_1, .int i_2] h) (fun i2 h1 =>
  bif !(i2 == 0) then evR T_X4_measures E 64 ([(0, .ref a_0), (1, .int i_1), (2, .int i_2)], [], h1) else
  evR T_X4_measures E 48 ([(0, .ref a_0), (1, .int i_1), (2, .int i_2)], [], h1)) thr := by
  rw [evR_eq ok_T_X4_measures.loc (ops := b_X4_measures_39) rfl]; rfl
theorem e_X4_measures_48 (E : AEn) (a_0 : Nat) (i_1 : Int32) (i_2 : Int32) (h : AH) : evR T_X4_measures E 48 ([(0, .ref a_0), (1, .int i_1), (2, .int i_2)], [], h) =
  (rdR h a_0 4 21).bind fun r1 =>
  (stI h r1 0 (((44 : Int32) + ((7 : Int32) * i_1)) + i_2) (-2 : Int32)).bind fun h2 =>
  evR T_X4_measures E 64 ([(0, .ref a_0), (1, .int i_1), (2, .int i_2)], [], h2) := by
  rw [evR_eq ok_T_X4_measures.loc (ops := b_X4_measures_48) rfl]; rfl
theorem e_X4_measures_64 (E : AEn) (a_0 : Nat) (i_1 : Int32) (i_2 : Int32) (h : AH) : evR T_X4_measures E 64 ([(0, .ref a_0), (1, .int i_1), (2, .int i_2)], [], h) =
  evR T_X4_measures E 10 ([(0, .ref a_0), (1, .int i_1), (2, .int (i_2 + (1 : Int32)))], [], h) := by
  rw [evR_eq ok_T_X4_measures.loc (ops := b_X4_measures_64) rfl]; rfl
theorem e_X4_measures_70 (E : AEn) (a_0 : Nat) (i_1 : Int32) (h : AH) : evR T_X4_measures E 70 ([(0, .ref a_0), (1, .int i_1)], [], h) =
  evR T_X4_measures E 2 ([(0, .ref a_0), (1, .int (i_1 + (1 : Int32)))], [], h) := by
  rw [evR_eq ok_T_X4_measures.loc (ops := b_X4_measures_70) rfl]; rfl
theorem e_X4_measures_76 (E : AEn) (a_0 : Nat) (h : AH) : evR T_X4_measures E 76 ([(0, .ref a_0)], [], h) =
  evR T_X4_measures E 78 ([(0, .ref a_0), (1, .int (0 : Int32))], [], h) := by
  rw [evR_eq ok_T_X4_measures.loc (ops := b_X4_measures_76) rfl]; rfl
theorem e_X4_measures_78 (E : AEn) (a_0 : Nat) (i_1 : Int32) (h : AH) : evR T_X4_measures E 78 ([(0, .ref a_0), (1, .int i_1)], [], h) =
  bif decide ((7 : Int32) ≤ i_1) then evR T_X4_measures E 190 ([], [], h) else
  evR T_X4_measures E 84 ([(0, .ref a_0), (1, .int i_1)], [], h) := by
  rw [evR_eq ok_T_X4_measures.loc (ops := b_X4_measures_78) rfl]; rfl
theorem e_X4_measures_84 (E : AEn) (a_0 : Nat) (i_1 : Int32) (h : AH) : evR T_X4_measures E 84 ([(0, .ref a_0), (1, .int i_1)], [], h) =
  evR T_X4_measures E 86 ([(0, .ref a_0), (1, .int i_1), (2, .int (0 : Int32))], [], h) := by
  rw [evR_eq ok_T_X4_measures.loc (ops := b_X4_measures_84) rfl]; rfl
theorem e_X4_measures_86 (E : AEn) (a_0 : Nat) (i_1 : Int32) (i_2 : Int32) (h : AH) : evR T_X4_measures E 86 ([(0, .ref a_0), (1, .int i_1), (2, .int i_2)], [], h) =
  bif decide ((7 : Int32) ≤ i_2) then evR T_X4_measures E 184 ([(0, .ref a_0), (1, .int i_1)], [], h) else
  evR T_X4_measures E 92 ([(0, .ref a_0), (1, .int i_1), (2, .int i_2)], [], h) := by
  rw [evR_eq ok_T_X4_measures.loc (ops := b_X4_measures_86) rfl]; rfl
theorem e_X4_measures_92 (E : AEn) (a_0 : Nat) (i_1 : Int32) (i_2 : Int32) (h : AH) : evR T_X4_measures E 92 ([(0, .ref a_0), (1, .int i_1), (2, .int i_2)], [], h) =
  evR T_X4_measures E 94 ([(0, .ref a_0), (1, .int i_1), (2, .int i_2), (3, .int (0 : Int32))], [], h) := by
  rw [evR_eq ok_T_X4_measures.loc (ops := b_X4_measures_92) rfl]; rfl
theorem e_X4_measures_94 (E : AEn) (a_0 : Nat) (i_1 : Int32) (i_2 : Int32) (i_3 : Int32) (h : AH) : evR T_X4_measures E 94 ([(0, .ref a_0), (1, .int i_1), (2, .int i_2), (3, .int i_3)], [], h) =
  bif decide ((7 : Int32) ≤ i_3) then evR T_X4_measures E 178 ([(0, .ref a_0), (1, .int i_1), (2, .int i_2)], [], h) else
  evR T_X4_measures E 100 ([(0, .ref a_0), (1, .int i_1), (2, .int i_2), (3, .int i_3)], [], h) := by
  rw [evR_eq ok_T_X4_measures.loc (ops := b_X4_measures_94) rfl]; rfl
theorem e_X4_measures_100 (E : AEn) (a_0 : Nat) (i_1 : Int32) (i_2 : Int32) (i_3 : Int32) (h : AH) : evR T_X4_measures E 100 ([(0, .ref a_0), (1, .int i_1), (2, .int i_2), (3, .int i_3)], [], h) =
  rI (E n_X4_farOf [.ref a_0, .int i_2, .int i_1] h) (fun i2 h1 =>
  bif decide (i2 < 0) then evR T_X4_measures E 172 ([(0, .ref a_0), (1, .int i_1), (2, .int i_2), (3, .int i_3)], [], h1) else
  evR T_X4_measures E 109 ([(0, .ref a_0), (1, .int i_1), (2, .int i_2), (3, .int i_3)], [], h1)) thr := by
  rw [evR_eq ok_T_X4_measures.loc (ops := b_X4_measures_100) rfl]; rfl
theorem e_X4_measures_109 (E : AEn) (a_0 : Nat) (i_1 : Int32) (i_2 : Int32) (i_3 : Int32) (h : AH) : evR T_X4_measures E 109 ([(0, .ref a_0), (1, .int i_1), (2, .int i_2), (3, .int i_3)], [], h) =
  rI (E n_X4_farOf [.ref a_0, .int i_1, .int i_3] h) (fun i2 h1 =>
  bif decide (0 ≤ i2) then evR T_X4_measures E 121 ([(0, .ref a_0), (1, .int i_1), (2, .int i_2), (3, .int i_3)], [], h1) else
  evR T_X4_measures E 118 ([(0, .ref a_0), (1, .int i_1), (2, .int i_2), (3, .int i_3)], [], h1)) thr := by
  rw [evR_eq ok_T_X4_measures.loc (ops := b_X4_measures_109) rfl]; rfl
theorem e_X4_measures_118 (E : AEn) (a_0 : Nat) (i_1 : Int32) (i_2 : Int32) (i_3 : Int32) (h : AH) : evR T_X4_measures E 118 ([(0, .ref a_0), (1, .int i_1), (2, .int i_2), (3, .int i_3)], [], h) =
  evR T_X4_measures E 172 ([(0, .ref a_0), (1, .int i_1), (2, .int i_2), (3, .int i_3)], [], h) := by
  rw [evR_eq ok_T_X4_measures.loc (ops := b_X4_measures_118) rfl]; rfl
theorem e_X4_measures_121 (E : AEn) (a_0 : Nat) (i_1 : Int32) (i_2 : Int32) (i_3 : Int32) (h : AH) : evR T_X4_measures E 121 ([(0, .ref a_0), (1, .int i_1), (2, .int i_2), (3, .int i_3)], [], h) =
  rI (E n_X4_farOf [.ref a_0, .int i_2, .int i_1] h) (fun i2 h1 =>
  rI (E n_X4_farOf [.ref a_0, .int i_1, .int i_3] h1) (fun i4 h3 =>
  rI (E n_X4_farOf [.ref a_0, .int i_2, .int i_3] h3) (fun i6 h5 =>
  bif decide (i6 < 0) then evR T_X4_measures E 156 ([(0, .ref a_0), (1, .int i_1), (2, .int i_2), (3, .int i_3), (4, .int (i2 + i4))], [], h5) else
  evR T_X4_measures E 145 ([(0, .ref a_0), (1, .int i_1), (2, .int i_2), (3, .int i_3), (4, .int (i2 + i4))], [], h5)) thr) thr) thr := by
  rw [evR_eq ok_T_X4_measures.loc (ops := b_X4_measures_121) rfl]; rfl
theorem e_X4_measures_145 (E : AEn) (a_0 : Nat) (i_1 : Int32) (i_2 : Int32) (i_3 : Int32) (i_4 : Int32) (h : AH) : evR T_X4_measures E 145 ([(0, .ref a_0), (1, .int i_1), (2, .int i_2), (3, .int i_3), (4, .int i_4)], [], h) =
  rI (E n_X4_farOf [.ref a_0, .int i_2, .int i_3] h) (fun i2 h1 =>
  bif decide (i2 ≤ i_4) then evR T_X4_measures E 172 ([(0, .ref a_0), (1, .int i_1), (2, .int i_2), (3, .int i_3)], [], h1) else
  evR T_X4_measures E 156 ([(0, .ref a_0), (1, .int i_1), (2, .int i_2), (3, .int i_3), (4, .int i_4)], [], h1)) thr := by
  rw [evR_eq ok_T_X4_measures.loc (ops := b_X4_measures_145) rfl]; rfl
theorem e_X4_measures_156 (E : AEn) (a_0 : Nat) (i_1 : Int32) (i_2 : Int32) (i_3 : Int32) (i_4 : Int32) (h : AH) : evR T_X4_measures E 156 ([(0, .ref a_0), (1, .int i_1), (2, .int i_2), (3, .int i_3), (4, .int i_4)], [], h) =
  (rdR h a_0 4 21).bind fun r1 =>
  (stI h r1 0 (((44 : Int32) + ((7 : Int32) * i_2)) + i_3) i_4).bind fun h2 =>
  evR T_X4_measures E 172 ([(0, .ref a_0), (1, .int i_1), (2, .int i_2), (3, .int i_3)], [], h2) := by
  rw [evR_eq ok_T_X4_measures.loc (ops := b_X4_measures_156) rfl]; rfl
theorem e_X4_measures_172 (E : AEn) (a_0 : Nat) (i_1 : Int32) (i_2 : Int32) (i_3 : Int32) (h : AH) : evR T_X4_measures E 172 ([(0, .ref a_0), (1, .int i_1), (2, .int i_2), (3, .int i_3)], [], h) =
  evR T_X4_measures E 94 ([(0, .ref a_0), (1, .int i_1), (2, .int i_2), (3, .int (i_3 + (1 : Int32)))], [], h) := by
  rw [evR_eq ok_T_X4_measures.loc (ops := b_X4_measures_172) rfl]; rfl
theorem e_X4_measures_178 (E : AEn) (a_0 : Nat) (i_1 : Int32) (i_2 : Int32) (h : AH) : evR T_X4_measures E 178 ([(0, .ref a_0), (1, .int i_1), (2, .int i_2)], [], h) =
  evR T_X4_measures E 86 ([(0, .ref a_0), (1, .int i_1), (2, .int (i_2 + (1 : Int32)))], [], h) := by
  rw [evR_eq ok_T_X4_measures.loc (ops := b_X4_measures_178) rfl]; rfl
theorem e_X4_measures_184 (E : AEn) (a_0 : Nat) (i_1 : Int32) (h : AH) : evR T_X4_measures E 184 ([(0, .ref a_0), (1, .int i_1)], [], h) =
  evR T_X4_measures E 78 ([(0, .ref a_0), (1, .int (i_1 + (1 : Int32)))], [], h) := by
  rw [evR_eq ok_T_X4_measures.loc (ops := b_X4_measures_184) rfl]; rfl
theorem e_X4_measures_190 (E : AEn)  (h : AH) : evR T_X4_measures E 190 ([], [], h) =
  some (.inl none, h) := by
  rw [evR_eq ok_T_X4_measures.loc (ops := b_X4_measures_190) rfl]; rfl
theorem c_X4_measures (d : Nat) (a_0 : Nat) (h : AH) : callR (d + 1) n_X4_measures [.ref a_0] h =
  bif isO h a_0 4 then evR T_X4_measures (callR d) 0 ([(0, .ref a_0)], [], h) else none := by
  rw [callR_succ, show aMTl[n_X4_measures]? = some (T_X4_measures, [0]) from rfl]; show (bif (isO h a_0 4) && true then _ else _) = _; rw [Bool.and_true]; rfl
theorem e_X4_farOf_0 (E : AEn) (a_0 : Nat) (i_1 : Int32) (i_2 : Int32) (h : AH) : evR T_X4_farOf E 0 ([(0, .ref a_0), (1, .int i_1), (2, .int i_2)], [], h) =
  (rdR h a_0 4 21).bind fun r1 =>
  (ldI h r1 0 (((44 : Int32) + ((7 : Int32) * i_1)) + i_2)).bind fun i2 =>
  some (.inl (some (.int i2)), h) := by
  rw [evR_eq ok_T_X4_farOf.loc (ops := b_X4_farOf_0) rfl]; rfl
theorem c_X4_farOf (d : Nat) (a_0 : Nat) (i_1 : Int32) (i_2 : Int32) (h : AH) : callR (d + 1) n_X4_farOf [.ref a_0, .int i_1, .int i_2] h =
  bif isO h a_0 4 then evR T_X4_farOf (callR d) 0 ([(0, .ref a_0), (1, .int i_1), (2, .int i_2)], [], h) else none := by
  rw [callR_succ, show aMTl[n_X4_farOf]? = some (T_X4_farOf, [0, 1, 2]) from rfl]; show (bif (isO h a_0 4) && true then _ else _) = _; rw [Bool.and_true]; rfl
theorem e_X4_begins_0 (E : AEn) (a_0 : Nat) (h : AH) : evR T_X4_begins E 0 ([(0, .ref a_0)], [], h) =
  (rdR h a_0 4 21).bind fun r1 =>
  (stI h r1 0 (10 : Int32) (0 : Int32)).bind fun h2 =>
  (rdR h2 a_0 4 21).bind fun r3 =>
  (stI h2 r3 0 (11 : Int32) (0 : Int32)).bind fun h4 =>
  (rdR h4 a_0 4 21).bind fun r5 =>
  (stI h4 r5 0 (12 : Int32) (-1 : Int32)).bind fun h6 =>
  (rdR h6 a_0 4 21).bind fun r7 =>
  (stI h6 r7 0 (13 : Int32) (0 : Int32)).bind fun h8 =>
  evR T_X4_begins E 34 ([(0, .ref a_0), (1, .int (0 : Int32))], [], h8) := by
  rw [evR_eq ok_T_X4_begins.loc (ops := b_X4_begins_0) rfl]; rfl
theorem e_X4_begins_34 (E : AEn) (a_0 : Nat) (i_1 : Int32) (h : AH) : evR T_X4_begins E 34 ([(0, .ref a_0), (1, .int i_1)], [], h) =
  bif decide ((6 : Int32) ≤ i_1) then evR T_X4_begins E 99 ([], [], h) else
  evR T_X4_begins E 40 ([(0, .ref a_0), (1, .int i_1)], [], h) := by
  rw [evR_eq ok_T_X4_begins.loc (ops := b_X4_begins_34) rfl]; rfl
theorem e_X4_begins_40 (E : AEn) (a_0 : Nat) (i_1 : Int32) (h : AH) : evR T_X4_begins E 40 ([(0, .ref a_0), (1, .int i_1)], [], h) =
  evR T_X4_begins E 42 ([(0, .ref a_0), (1, .int i_1), (2, .int (0 : Int32))], [], h) := by
  rw [evR_eq ok_T_X4_begins.loc (ops := b_X4_begins_40) rfl]; rfl
theorem e_X4_begins_42 (E : AEn) (a_0 : Nat) (i_1 : Int32) (i_2 : Int32) (h : AH) : evR T_X4_begins E 42 ([(0, .ref a_0), (1, .int i_1), (2, .int i_2)], [], h) =
  bif decide ((3 : Int32) ≤ i_2) then evR T_X4_begins E 79 ([(0, .ref a_0), (1, .int i_1)], [], h) else
  evR T_X4_begins E 47 ([(0, .ref a_0), (1, .int i_1), (2, .int i_2)], [], h) := by
  rw [evR_eq ok_T_X4_begins.loc (ops := b_X4_begins_42) rfl]; rfl
theorem e_X4_begins_47 (E : AEn) (a_0 : Nat) (i_1 : Int32) (i_2 : Int32) (h : AH) : evR T_X4_begins E 47 ([(0, .ref a_0), (1, .int i_1), (2, .int i_2)], [], h) =
  (rdR h a_0 4 21).bind fun r1 =>
  (rdR h a_0 4 21).bind fun r2 =>
  (ldI h r2 0 (((93 : Int32) + ((3 : Int32) * i_1)) + i_2)).bind fun i3 =>
  (stI h r1 0 (((14 : Int32) + ((4 : Int32) * i_1)) + i_2) i3).bind fun h4 =>
  evR T_X4_begins E 42 ([(0, .ref a_0), (1, .int i_1), (2, .int (i_2 + (1 : Int32)))], [], h4) := by
  rw [evR_eq ok_T_X4_begins.loc (ops := b_X4_begins_47) rfl]; rfl
theorem e_X4_begins_79 (E : AEn) (a_0 : Nat) (i_1 : Int32) (h : AH) : evR T_X4_begins E 79 ([(0, .ref a_0), (1, .int i_1)], [], h) =
  (rdR h a_0 4 21).bind fun r1 =>
  (stI h r1 0 (((14 : Int32) + ((4 : Int32) * i_1)) + (3 : Int32)) (0 : Int32)).bind fun h2 =>
  evR T_X4_begins E 34 ([(0, .ref a_0), (1, .int (i_1 + (1 : Int32)))], [], h2) := by
  rw [evR_eq ok_T_X4_begins.loc (ops := b_X4_begins_79) rfl]; rfl
theorem e_X4_begins_99 (E : AEn)  (h : AH) : evR T_X4_begins E 99 ([], [], h) =
  some (.inl none, h) := by
  rw [evR_eq ok_T_X4_begins.loc (ops := b_X4_begins_99) rfl]; rfl
theorem c_X4_begins (d : Nat) (a_0 : Nat) (h : AH) : callR (d + 1) n_X4_begins [.ref a_0] h =
  bif isO h a_0 4 then evR T_X4_begins (callR d) 0 ([(0, .ref a_0)], [], h) else none := by
  rw [callR_succ, show aMTl[n_X4_begins]? = some (T_X4_begins, [0]) from rfl]; show (bif (isO h a_0 4) && true then _ else _) = _; rw [Bool.and_true]; rfl
theorem e_X4_force_0 (E : AEn) (a_0 : Nat) (i_1 : Int32) (h : AH) : evR T_X4_force E 0 ([(0, .ref a_0), (1, .int i_1)], [], h) =
  bif i_1 == (-1 : Int32) then evR T_X4_force E 16 ([(0, .ref a_0), (1, .int i_1)], [], h) else
  evR T_X4_force E 5 ([(0, .ref a_0), (1, .int i_1)], [], h) := by
  rw [evR_eq ok_T_X4_force.loc (ops := b_X4_force_0) rfl]; rfl
theorem e_X4_force_5 (E : AEn) (a_0 : Nat) (i_1 : Int32) (h : AH) : evR T_X4_force E 5 ([(0, .ref a_0), (1, .int i_1)], [], h) =
  rI (E n_X4_isRule [.ref a_0, .int i_1] h) (fun i2 h1 =>
  bif !(i2 == 0) then evR T_X4_force E 16 ([(0, .ref a_0), (1, .int i_1)], [], h1) else
  evR T_X4_force E 13 ([], [], h1)) thr := by
  rw [evR_eq ok_T_X4_force.loc (ops := b_X4_force_5) rfl]; rfl
theorem e_X4_force_13 (E : AEn)  (h : AH) : evR T_X4_force E 13 ([], [], h) =
  some (.inl (some (.int (-2 : Int32))), h) := by
  rw [evR_eq ok_T_X4_force.loc (ops := b_X4_force_13) rfl]; rfl
theorem e_X4_force_16 (E : AEn) (a_0 : Nat) (i_1 : Int32) (h : AH) : evR T_X4_force E 16 ([(0, .ref a_0), (1, .int i_1)], [], h) =
  (rdI h a_0 4 22).bind fun i1 =>
  (wrF h a_0 4 22 (.int i_1)).bind fun h2 =>
  some (.inl (some (.int i1)), h2) := by
  rw [evR_eq ok_T_X4_force.loc (ops := b_X4_force_16) rfl]; rfl
theorem c_X4_force (d : Nat) (a_0 : Nat) (i_1 : Int32) (h : AH) : callR (d + 1) n_X4_force [.ref a_0, .int i_1] h =
  bif isO h a_0 4 then evR T_X4_force (callR d) 0 ([(0, .ref a_0), (1, .int i_1)], [], h) else none := by
  rw [callR_succ, show aMTl[n_X4_force]? = some (T_X4_force, [0, 1]) from rfl]; show (bif (isO h a_0 4) && true then _ else _) = _; rw [Bool.and_true]; rfl
theorem e_X4_isRule_0 (E : AEn) (a_0 : Nat) (i_1 : Int32) (h : AH) : evR T_X4_isRule E 0 ([(0, .ref a_0), (1, .int i_1)], [], h) =
  bif decide (i_1 < 0) then evR T_X4_isRule E 16 ([], [], h) else
  evR T_X4_isRule E 4 ([(0, .ref a_0), (1, .int i_1)], [], h) := by
  rw [evR_eq ok_T_X4_isRule.loc (ops := b_X4_isRule_0) rfl]; rfl
theorem e_X4_isRule_4 (E : AEn) (a_0 : Nat) (i_1 : Int32) (h : AH) : evR T_X4_isRule E 4 ([(0, .ref a_0), (1, .int i_1)], [], h) =
  (rdI h a_0 4 2).bind fun i1 =>
  bif decide (i1 ≤ i_1) then evR T_X4_isRule E 16 ([], [], h) else
  evR T_X4_isRule E 12 ([], [], h) := by
  rw [evR_eq ok_T_X4_isRule.loc (ops := b_X4_isRule_4) rfl]; rfl
theorem e_X4_isRule_12 (E : AEn)  (h : AH) : evR T_X4_isRule E 12 ([], [], h) =
  evR T_X4_isRule E 17 ([], [.int (1 : Int32)], h) := by
  rw [evR_eq ok_T_X4_isRule.loc (ops := b_X4_isRule_12) rfl]; rfl
theorem e_X4_isRule_16 (E : AEn)  (h : AH) : evR T_X4_isRule E 16 ([], [], h) =
  evR T_X4_isRule E 17 ([], [.int (0 : Int32)], h) := by
  rw [evR_eq ok_T_X4_isRule.loc (ops := b_X4_isRule_16) rfl]; rfl
theorem e_X4_isRule_17 (E : AEn) (si_0 : Int32) (h : AH) : evR T_X4_isRule E 17 ([], [.int si_0], h) =
  (bif si_0 == 0 || si_0 == 1 then some si_0 else none).bind fun i1 => some (.inl (some (.int i1)), h) := by
  rw [evR_eq ok_T_X4_isRule.loc (ops := b_X4_isRule_17) rfl]; rfl
theorem c_X4_isRule (d : Nat) (a_0 : Nat) (i_1 : Int32) (h : AH) : callR (d + 1) n_X4_isRule [.ref a_0, .int i_1] h =
  bif isO h a_0 4 then evR T_X4_isRule (callR d) 0 ([(0, .ref a_0), (1, .int i_1)], [], h) else none := by
  rw [callR_succ, show aMTl[n_X4_isRule]? = some (T_X4_isRule, [0, 1]) from rfl]; show (bif (isO h a_0 4) && true then _ else _) = _; rw [Bool.and_true]; rfl
theorem e_X4_house_0 (E : AEn) (a_0 : Nat) (i_1 : Int32) (i_2 : Int32) (h : AH) : evR T_X4_house E 0 ([(0, .ref a_0), (1, .int i_1), (2, .int i_2)], [], h) =
  rI (E n_X4_isHouse [.ref a_0, .int i_1] h) (fun i2 h1 =>
  bif !(i2 == 0) then evR T_X4_house E 10 ([(0, .ref a_0), (1, .int i_1), (2, .int i_2)], [], h1) else
  evR T_X4_house E 8 ([], [], h1)) thr := by
  rw [evR_eq ok_T_X4_house.loc (ops := b_X4_house_0) rfl]; rfl
theorem e_X4_house_8 (E : AEn)  (h : AH) : evR T_X4_house E 8 ([], [], h) =
  some (.inl (some (.int (-1 : Int32))), h) := by
  rw [evR_eq ok_T_X4_house.loc (ops := b_X4_house_8) rfl]; rfl
theorem e_X4_house_10 (E : AEn) (a_0 : Nat) (i_1 : Int32) (i_2 : Int32) (h : AH) : evR T_X4_house E 10 ([(0, .ref a_0), (1, .int i_1), (2, .int i_2)], [], h) =
  bif i_2 == (0 : Int32) then evR T_X4_house E 44 ([(0, .ref a_0), (1, .int i_1), (2, .int i_2)], [], h) else
  bif i_2 == (1 : Int32) then evR T_X4_house E 44 ([(0, .ref a_0), (1, .int i_1), (2, .int i_2)], [], h) else
  bif i_2 == (2 : Int32) then evR T_X4_house E 44 ([(0, .ref a_0), (1, .int i_1), (2, .int i_2)], [], h) else
  bif i_2 == (3 : Int32) then evR T_X4_house E 58 ([(0, .ref a_0), (1, .int i_1)], [], h) else
  bif i_2 == (4 : Int32) then evR T_X4_house E 68 ([(0, .ref a_0), (1, .int i_1)], [], h) else
  evR T_X4_house E 82 ([], [], h) := by
  rw [evR_eq ok_T_X4_house.loc (ops := b_X4_house_10) rfl]; rfl
theorem e_X4_house_44 (E : AEn) (a_0 : Nat) (i_1 : Int32) (i_2 : Int32) (h : AH) : evR T_X4_house E 44 ([(0, .ref a_0), (1, .int i_1), (2, .int i_2)], [], h) =
  (rdR h a_0 4 21).bind fun r1 =>
  (ldI h r1 0 (((14 : Int32) + ((4 : Int32) * i_1)) + i_2)).bind fun i2 =>
  some (.inl (some (.int i2)), h) := by
  rw [evR_eq ok_T_X4_house.loc (ops := b_X4_house_44) rfl]; rfl
theorem e_X4_house_58 (E : AEn) (a_0 : Nat) (i_1 : Int32) (h : AH) : evR T_X4_house E 58 ([(0, .ref a_0), (1, .int i_1)], [], h) =
  (rdR h a_0 4 21).bind fun r1 =>
  (ldI h r1 0 ((38 : Int32) + i_1)).bind fun i2 =>
  some (.inl (some (.int i2)), h) := by
  rw [evR_eq ok_T_X4_house.loc (ops := b_X4_house_58) rfl]; rfl
theorem e_X4_house_68 (E : AEn) (a_0 : Nat) (i_1 : Int32) (h : AH) : evR T_X4_house E 68 ([(0, .ref a_0), (1, .int i_1)], [], h) =
  (rdR h a_0 4 21).bind fun r1 =>
  (ldI h r1 0 (((14 : Int32) + ((4 : Int32) * i_1)) + (3 : Int32))).bind fun i2 =>
  some (.inl (some (.int i2)), h) := by
  rw [evR_eq ok_T_X4_house.loc (ops := b_X4_house_68) rfl]; rfl
theorem e_X4_house_82 (E : AEn)  (h : AH) : evR T_X4_house E 82 ([], [], h) =
  some (.inl (some (.int (-1 : Int32))), h) := by
  rw [evR_eq ok_T_X4_house.loc (ops := b_X4_house_82) rfl]; rfl
theorem c_X4_house (d : Nat) (a_0 : Nat) (i_1 : Int32) (i_2 : Int32) (h : AH) : callR (d + 1) n_X4_house [.ref a_0, .int i_1, .int i_2] h =
  bif isO h a_0 4 then evR T_X4_house (callR d) 0 ([(0, .ref a_0), (1, .int i_1), (2, .int i_2)], [], h) else none := by
  rw [callR_succ, show aMTl[n_X4_house]? = some (T_X4_house, [0, 1, 2]) from rfl]; show (bif (isO h a_0 4) && true then _ else _) = _; rw [Bool.and_true]; rfl
theorem e_X4_isHouse_0 (E : AEn) (a_0 : Nat) (i_1 : Int32) (h : AH) : evR T_X4_isHouse E 0 ([(0, .ref a_0), (1, .int i_1)], [], h) =
  bif decide (i_1 < 0) then evR T_X4_isHouse E 18 ([], [], h) else
  evR T_X4_isHouse E 4 ([(0, .ref a_0), (1, .int i_1)], [], h) := by
  rw [evR_eq ok_T_X4_isHouse.loc (ops := b_X4_isHouse_0) rfl]; rfl
theorem e_X4_isHouse_4 (E : AEn) (a_0 : Nat) (i_1 : Int32) (h : AH) : evR T_X4_isHouse E 4 ([(0, .ref a_0), (1, .int i_1)], [], h) =
  (rdR h a_0 4 21).bind fun r1 =>
  (ldI h r1 0 (3 : Int32)).bind fun i2 =>
  bif decide (i2 ≤ i_1) then evR T_X4_isHouse E 18 ([], [], h) else
  evR T_X4_isHouse E 14 ([], [], h) := by
  rw [evR_eq ok_T_X4_isHouse.loc (ops := b_X4_isHouse_4) rfl]; rfl
theorem e_X4_isHouse_14 (E : AEn)  (h : AH) : evR T_X4_isHouse E 14 ([], [], h) =
  evR T_X4_isHouse E 19 ([], [.int (1 : Int32)], h) := by
  rw [evR_eq ok_T_X4_isHouse.loc (ops := b_X4_isHouse_14) rfl]; rfl
theorem e_X4_isHouse_18 (E : AEn)  (h : AH) : evR T_X4_isHouse E 18 ([], [], h) =
  evR T_X4_isHouse E 19 ([], [.int (0 : Int32)], h) := by
  rw [evR_eq ok_T_X4_isHouse.loc (ops := b_X4_isHouse_18) rfl]; rfl
theorem e_X4_isHouse_19 (E : AEn) (si_0 : Int32) (h : AH) : evR T_X4_isHouse E 19 ([], [.int si_0], h) =
  (bif si_0 == 0 || si_0 == 1 then some si_0 else none).bind fun i1 => some (.inl (some (.int i1)), h) := by
  rw [evR_eq ok_T_X4_isHouse.loc (ops := b_X4_isHouse_19) rfl]; rfl
theorem c_X4_isHouse (d : Nat) (a_0 : Nat) (i_1 : Int32) (h : AH) : callR (d + 1) n_X4_isHouse [.ref a_0, .int i_1] h =
  bif isO h a_0 4 then evR T_X4_isHouse (callR d) 0 ([(0, .ref a_0), (1, .int i_1)], [], h) else none := by
  rw [callR_succ, show aMTl[n_X4_isHouse]? = some (T_X4_isHouse, [0, 1]) from rfl]; show (bif (isO h a_0 4) && true then _ else _) = _; rw [Bool.and_true]; rfl
theorem e_X4_far_0 (E : AEn) (a_0 : Nat) (i_1 : Int32) (i_2 : Int32) (h : AH) : evR T_X4_far E 0 ([(0, .ref a_0), (1, .int i_1), (2, .int i_2)], [], h) =
  rI (E n_X4_isPlace [.ref a_0, .int i_1] h) (fun i2 h1 =>
  bif i2 == 0 then evR T_X4_far E 25 ([], [], h1) else
  evR T_X4_far E 8 ([(0, .ref a_0), (1, .int i_1), (2, .int i_2)], [], h1)) thr := by
  rw [evR_eq ok_T_X4_far.loc (ops := b_X4_far_0) rfl]; rfl
theorem e_X4_far_8 (E : AEn) (a_0 : Nat) (i_1 : Int32) (i_2 : Int32) (h : AH) : evR T_X4_far E 8 ([(0, .ref a_0), (1, .int i_1), (2, .int i_2)], [], h) =
  rI (E n_X4_isPlace [.ref a_0, .int i_2] h) (fun i2 h1 =>
  bif i2 == 0 then evR T_X4_far E 25 ([], [], h1) else
  evR T_X4_far E 16 ([(0, .ref a_0), (1, .int i_1), (2, .int i_2)], [], h1)) thr := by
  rw [evR_eq ok_T_X4_far.loc (ops := b_X4_far_8) rfl]; rfl
theorem e_X4_far_16 (E : AEn) (a_0 : Nat) (i_1 : Int32) (i_2 : Int32) (h : AH) : evR T_X4_far E 16 ([(0, .ref a_0), (1, .int i_1), (2, .int i_2)], [], h) =
  rI (E n_X4_farOf [.ref a_0, .int i_1, .int i_2] h) (fun i2 h1 =>
  evR T_X4_far E 26 ([], [.int i2], h1)) thr := by
  rw [evR_eq ok_T_X4_far.loc (ops := b_X4_far_16) rfl]; rfl
theorem e_X4_far_25 (E : AEn)  (h : AH) : evR T_X4_far E 25 ([], [], h) =
  evR T_X4_far E 26 ([], [.int (-1 : Int32)], h) := by
  rw [evR_eq ok_T_X4_far.loc (ops := b_X4_far_25) rfl]; rfl
theorem e_X4_far_26 (E : AEn) (si_0 : Int32) (h : AH) : evR T_X4_far E 26 ([], [.int si_0], h) =
  some (.inl (some (.int si_0)), h) := by
  rw [evR_eq ok_T_X4_far.loc (ops := b_X4_far_26) rfl]; rfl
theorem c_X4_far (d : Nat) (a_0 : Nat) (i_1 : Int32) (i_2 : Int32) (h : AH) : callR (d + 1) n_X4_far [.ref a_0, .int i_1, .int i_2] h =
  bif isO h a_0 4 then evR T_X4_far (callR d) 0 ([(0, .ref a_0), (1, .int i_1), (2, .int i_2)], [], h) else none := by
  rw [callR_succ, show aMTl[n_X4_far]? = some (T_X4_far, [0, 1, 2]) from rfl]; show (bif (isO h a_0 4) && true then _ else _) = _; rw [Bool.and_true]; rfl
theorem e_X4_isPlace_0 (E : AEn) (a_0 : Nat) (i_1 : Int32) (h : AH) : evR T_X4_isPlace E 0 ([(0, .ref a_0), (1, .int i_1)], [], h) =
  rI (E n_X4_isValley [.ref a_0] h) (fun i2 h1 =>
  bif i2 == 0 then evR T_X4_isPlace E 25 ([], [], h1) else
  evR T_X4_isPlace E 7 ([(0, .ref a_0), (1, .int i_1)], [], h1)) thr := by
  rw [evR_eq ok_T_X4_isPlace.loc (ops := b_X4_isPlace_0) rfl]; rfl
theorem e_X4_isPlace_7 (E : AEn) (a_0 : Nat) (i_1 : Int32) (h : AH) : evR T_X4_isPlace E 7 ([(0, .ref a_0), (1, .int i_1)], [], h) =
  bif decide (i_1 < 0) then evR T_X4_isPlace E 25 ([], [], h) else
  evR T_X4_isPlace E 11 ([(0, .ref a_0), (1, .int i_1)], [], h) := by
  rw [evR_eq ok_T_X4_isPlace.loc (ops := b_X4_isPlace_7) rfl]; rfl
theorem e_X4_isPlace_11 (E : AEn) (a_0 : Nat) (i_1 : Int32) (h : AH) : evR T_X4_isPlace E 11 ([(0, .ref a_0), (1, .int i_1)], [], h) =
  (rdR h a_0 4 21).bind fun r1 =>
  (ldI h r1 0 (3 : Int32)).bind fun i2 =>
  bif decide (i2 < i_1) then evR T_X4_isPlace E 25 ([], [], h) else
  evR T_X4_isPlace E 21 ([], [], h) := by
  rw [evR_eq ok_T_X4_isPlace.loc (ops := b_X4_isPlace_11) rfl]; rfl
theorem e_X4_isPlace_21 (E : AEn)  (h : AH) : evR T_X4_isPlace E 21 ([], [], h) =
  evR T_X4_isPlace E 26 ([], [.int (1 : Int32)], h) := by
  rw [evR_eq ok_T_X4_isPlace.loc (ops := b_X4_isPlace_21) rfl]; rfl
theorem e_X4_isPlace_25 (E : AEn)  (h : AH) : evR T_X4_isPlace E 25 ([], [], h) =
  evR T_X4_isPlace E 26 ([], [.int (0 : Int32)], h) := by
  rw [evR_eq ok_T_X4_isPlace.loc (ops := b_X4_isPlace_25) rfl]; rfl
theorem e_X4_isPlace_26 (E : AEn) (si_0 : Int32) (h : AH) : evR T_X4_isPlace E 26 ([], [.int si_0], h) =
  (bif si_0 == 0 || si_0 == 1 then some si_0 else none).bind fun i1 => some (.inl (some (.int i1)), h) := by
  rw [evR_eq ok_T_X4_isPlace.loc (ops := b_X4_isPlace_26) rfl]; rfl
theorem c_X4_isPlace (d : Nat) (a_0 : Nat) (i_1 : Int32) (h : AH) : callR (d + 1) n_X4_isPlace [.ref a_0, .int i_1] h =
  bif isO h a_0 4 then evR T_X4_isPlace (callR d) 0 ([(0, .ref a_0), (1, .int i_1)], [], h) else none := by
  rw [callR_succ, show aMTl[n_X4_isPlace]? = some (T_X4_isPlace, [0, 1]) from rfl]; show (bif (isO h a_0 4) && true then _ else _) = _; rw [Bool.and_true]; rfl
theorem e_X4_isValley_0 (E : AEn) (a_0 : Nat) (h : AH) : evR T_X4_isValley E 0 ([(0, .ref a_0)], [], h) =
  (rdR h a_0 4 21).bind fun r1 =>
  (ldI h r1 0 (0 : Int32)).bind fun i2 =>
  bif !(i2 == (1 : Int32)) then evR T_X4_isValley E 14 ([], [], h) else
  evR T_X4_isValley E 10 ([], [], h) := by
  rw [evR_eq ok_T_X4_isValley.loc (ops := b_X4_isValley_0) rfl]; rfl
theorem e_X4_isValley_10 (E : AEn)  (h : AH) : evR T_X4_isValley E 10 ([], [], h) =
  evR T_X4_isValley E 15 ([], [.int (1 : Int32)], h) := by
  rw [evR_eq ok_T_X4_isValley.loc (ops := b_X4_isValley_10) rfl]; rfl
theorem e_X4_isValley_14 (E : AEn)  (h : AH) : evR T_X4_isValley E 14 ([], [], h) =
  evR T_X4_isValley E 15 ([], [.int (0 : Int32)], h) := by
  rw [evR_eq ok_T_X4_isValley.loc (ops := b_X4_isValley_14) rfl]; rfl
theorem e_X4_isValley_15 (E : AEn) (si_0 : Int32) (h : AH) : evR T_X4_isValley E 15 ([], [.int si_0], h) =
  (bif si_0 == 0 || si_0 == 1 then some si_0 else none).bind fun i1 => some (.inl (some (.int i1)), h) := by
  rw [evR_eq ok_T_X4_isValley.loc (ops := b_X4_isValley_15) rfl]; rfl
theorem c_X4_isValley (d : Nat) (a_0 : Nat) (h : AH) : callR (d + 1) n_X4_isValley [.ref a_0] h =
  bif isO h a_0 4 then evR T_X4_isValley (callR d) 0 ([(0, .ref a_0)], [], h) else none := by
  rw [callR_succ, show aMTl[n_X4_isValley]? = some (T_X4_isValley, [0]) from rfl]; show (bif (isO h a_0 4) && true then _ else _) = _; rw [Bool.and_true]; rfl
theorem e_X4_undo_0 (E : AEn) (a_0 : Nat) (h : AH) : evR T_X4_undo E 0 ([(0, .ref a_0)], [], h) =
  (rdI h a_0 4 31).bind fun i1 =>
  bif !(i1 == 0) then evR T_X4_undo E 9 ([(0, .ref a_0)], [], h) else
  evR T_X4_undo E 7 ([], [], h) := by
  rw [evR_eq ok_T_X4_undo.loc (ops := b_X4_undo_0) rfl]; rfl
theorem e_X4_undo_7 (E : AEn)  (h : AH) : evR T_X4_undo E 7 ([], [], h) =
  some (.inl (some (.int (-1 : Int32))), h) := by
  rw [evR_eq ok_T_X4_undo.loc (ops := b_X4_undo_7) rfl]; rfl
theorem e_X4_undo_9 (E : AEn) (a_0 : Nat) (h : AH) : evR T_X4_undo E 9 ([(0, .ref a_0)], [], h) =
  (rdI h a_0 4 31).bind fun i1 =>
  (wrF h a_0 4 31 (.int (i1 - (1 : Int32)))).bind fun h2 =>
  evR T_X4_undo E 21 ([(0, .ref a_0), (1, .int (0 : Int32))], [], h2) := by
  rw [evR_eq ok_T_X4_undo.loc (ops := b_X4_undo_9) rfl]; rfl
theorem e_X4_undo_21 (E : AEn) (a_0 : Nat) (i_1 : Int32) (h : AH) : evR T_X4_undo E 21 ([(0, .ref a_0), (1, .int i_1)], [], h) =
  bif decide ((28 : Int32) ≤ i_1) then evR T_X4_undo E 56 ([(0, .ref a_0)], [], h) else
  evR T_X4_undo E 27 ([(0, .ref a_0), (1, .int i_1)], [], h) := by
  rw [evR_eq ok_T_X4_undo.loc (ops := b_X4_undo_21) rfl]; rfl
theorem e_X4_undo_27 (E : AEn) (a_0 : Nat) (i_1 : Int32) (h : AH) : evR T_X4_undo E 27 ([(0, .ref a_0), (1, .int i_1)], [], h) =
  (rdR h a_0 4 21).bind fun r1 =>
  (rdR h a_0 4 30).bind fun r2 =>
  (rdI h a_0 4 31).bind fun i3 =>
  (ldI h r2 0 (((28 : Int32) * i3) + i_1)).bind fun i4 =>
  (stI h r1 0 ((10 : Int32) + i_1) i4).bind fun h5 =>
  evR T_X4_undo E 21 ([(0, .ref a_0), (1, .int (i_1 + (1 : Int32)))], [], h5) := by
  rw [evR_eq ok_T_X4_undo.loc (ops := b_X4_undo_27) rfl]; rfl
theorem e_X4_undo_56 (E : AEn) (a_0 : Nat) (h : AH) : evR T_X4_undo E 56 ([(0, .ref a_0)], [], h) =
  (rdI h a_0 4 31).bind fun i1 =>
  some (.inl (some (.int i1)), h) := by
  rw [evR_eq ok_T_X4_undo.loc (ops := b_X4_undo_56) rfl]; rfl
theorem c_X4_undo (d : Nat) (a_0 : Nat) (h : AH) : callR (d + 1) n_X4_undo [.ref a_0] h =
  bif isO h a_0 4 then evR T_X4_undo (callR d) 0 ([(0, .ref a_0)], [], h) else none := by
  rw [callR_succ, show aMTl[n_X4_undo]? = some (T_X4_undo, [0]) from rfl]; show (bif (isO h a_0 4) && true then _ else _) = _; rw [Bool.and_true]; rfl
theorem e_X4_hour_0 (E : AEn) (a_0 : Nat) (h : AH) : evR T_X4_hour E 0 ([(0, .ref a_0)], [], h) =
  rI (E n_X4_isValley [.ref a_0] h) (fun i2 h1 =>
  bif i2 == 0 then evR T_X4_hour E 20 ([], [], h1) else
  evR T_X4_hour E 7 ([(0, .ref a_0)], [], h1)) thr := by
  rw [evR_eq ok_T_X4_hour.loc (ops := b_X4_hour_0) rfl]; rfl
theorem e_X4_hour_7 (E : AEn) (a_0 : Nat) (h : AH) : evR T_X4_hour E 7 ([(0, .ref a_0)], [], h) =
  (rdR h a_0 4 21).bind fun r1 =>
  (ldI h r1 0 (10 : Int32)).bind fun i2 =>
  bif !(i2 == (999 : Int32)) then evR T_X4_hour E 22 ([(0, .ref a_0)], [], h) else
  evR T_X4_hour E 20 ([], [], h) := by
  rw [evR_eq ok_T_X4_hour.loc (ops := b_X4_hour_7) rfl]; rfl
theorem e_X4_hour_20 (E : AEn)  (h : AH) : evR T_X4_hour E 20 ([], [], h) =
  some (.inl (some (.int (-1 : Int32))), h) := by
  rw [evR_eq ok_T_X4_hour.loc (ops := b_X4_hour_20) rfl]; rfl
theorem e_X4_hour_22 (E : AEn) (a_0 : Nat) (h : AH) : evR T_X4_hour E 22 ([(0, .ref a_0)], [], h) =
  rV (E n_X4_keepsAct [.ref a_0] h) (fun h1 =>
  rI (E n_X4_passes [.ref a_0] h1) (fun i3 h2 =>
  some (.inl (some (.int i3)), h2)) thr) thr := by
  rw [evR_eq ok_T_X4_hour.loc (ops := b_X4_hour_22) rfl]; rfl
theorem c_X4_hour (d : Nat) (a_0 : Nat) (h : AH) : callR (d + 1) n_X4_hour [.ref a_0] h =
  bif isO h a_0 4 then evR T_X4_hour (callR d) 0 ([(0, .ref a_0)], [], h) else none := by
  rw [callR_succ, show aMTl[n_X4_hour]? = some (T_X4_hour, [0]) from rfl]; show (bif (isO h a_0 4) && true then _ else _) = _; rw [Bool.and_true]; rfl
theorem e_X4_keepsAct_0 (E : AEn) (a_0 : Nat) (h : AH) : evR T_X4_keepsAct E 0 ([(0, .ref a_0)], [], h) =
  (rdI h a_0 4 31).bind fun i1 =>
  bif !(i1 == (20 : Int32)) then evR T_X4_keepsAct E 50 ([(0, .ref a_0)], [], h) else
  evR T_X4_keepsAct E 9 ([(0, .ref a_0)], [], h) := by
  rw [evR_eq ok_T_X4_keepsAct.loc (ops := b_X4_keepsAct_0) rfl]; rfl
theorem e_X4_keepsAct_9 (E : AEn) (a_0 : Nat) (h : AH) : evR T_X4_keepsAct E 9 ([(0, .ref a_0)], [], h) =
  evR T_X4_keepsAct E 12 ([(0, .ref a_0), (1, .int (28 : Int32))], [], h) := by
  rw [evR_eq ok_T_X4_keepsAct.loc (ops := b_X4_keepsAct_9) rfl]; rfl
theorem e_X4_keepsAct_12 (E : AEn) (a_0 : Nat) (i_1 : Int32) (h : AH) : evR T_X4_keepsAct E 12 ([(0, .ref a_0), (1, .int i_1)], [], h) =
  bif decide ((560 : Int32) ≤ i_1) then evR T_X4_keepsAct E 40 ([(0, .ref a_0)], [], h) else
  evR T_X4_keepsAct E 19 ([(0, .ref a_0), (1, .int i_1)], [], h) := by
  rw [evR_eq ok_T_X4_keepsAct.loc (ops := b_X4_keepsAct_12) rfl]; rfl
theorem e_X4_keepsAct_19 (E : AEn) (a_0 : Nat) (i_1 : Int32) (h : AH) : evR T_X4_keepsAct E 19 ([(0, .ref a_0), (1, .int i_1)], [], h) =
  (rdR h a_0 4 30).bind fun r1 =>
  (rdR h a_0 4 30).bind fun r2 =>
  (ldI h r2 0 i_1).bind fun i3 =>
  (stI h r1 0 (i_1 - (28 : Int32)) i3).bind fun h4 =>
  evR T_X4_keepsAct E 12 ([(0, .ref a_0), (1, .int (i_1 + (1 : Int32)))], [], h4) := by
  rw [evR_eq ok_T_X4_keepsAct.loc (ops := b_X4_keepsAct_19) rfl]; rfl
theorem e_X4_keepsAct_40 (E : AEn) (a_0 : Nat) (h : AH) : evR T_X4_keepsAct E 40 ([(0, .ref a_0)], [], h) =
  (rdI h a_0 4 31).bind fun i1 =>
  (wrF h a_0 4 31 (.int (i1 - (1 : Int32)))).bind fun h2 =>
  evR T_X4_keepsAct E 50 ([(0, .ref a_0)], [], h2) := by
  rw [evR_eq ok_T_X4_keepsAct.loc (ops := b_X4_keepsAct_40) rfl]; rfl
theorem e_X4_keepsAct_50 (E : AEn) (a_0 : Nat) (h : AH) : evR T_X4_keepsAct E 50 ([(0, .ref a_0)], [], h) =
  evR T_X4_keepsAct E 52 ([(0, .ref a_0), (1, .int (0 : Int32))], [], h) := by
  rw [evR_eq ok_T_X4_keepsAct.loc (ops := b_X4_keepsAct_50) rfl]; rfl
theorem e_X4_keepsAct_52 (E : AEn) (a_0 : Nat) (i_1 : Int32) (h : AH) : evR T_X4_keepsAct E 52 ([(0, .ref a_0), (1, .int i_1)], [], h) =
  bif decide ((28 : Int32) ≤ i_1) then evR T_X4_keepsAct E 87 ([(0, .ref a_0)], [], h) else
  evR T_X4_keepsAct E 58 ([(0, .ref a_0), (1, .int i_1)], [], h) := by
  rw [evR_eq ok_T_X4_keepsAct.loc (ops := b_X4_keepsAct_52) rfl]; rfl
theorem e_X4_keepsAct_58 (E : AEn) (a_0 : Nat) (i_1 : Int32) (h : AH) : evR T_X4_keepsAct E 58 ([(0, .ref a_0), (1, .int i_1)], [], h) =
  (rdR h a_0 4 30).bind fun r1 =>
  (rdI h a_0 4 31).bind fun i2 =>
  (rdR h a_0 4 21).bind fun r3 =>
  (ldI h r3 0 ((10 : Int32) + i_1)).bind fun i4 =>
  (stI h r1 0 (((28 : Int32) * i2) + i_1) i4).bind fun h5 =>
  evR T_X4_keepsAct E 52 ([(0, .ref a_0), (1, .int (i_1 + (1 : Int32)))], [], h5) := by
  rw [evR_eq ok_T_X4_keepsAct.loc (ops := b_X4_keepsAct_58) rfl]; rfl
theorem e_X4_keepsAct_87 (E : AEn) (a_0 : Nat) (h : AH) : evR T_X4_keepsAct E 87 ([(0, .ref a_0)], [], h) =
  (rdI h a_0 4 31).bind fun i1 =>
  (wrF h a_0 4 31 (.int (i1 + (1 : Int32)))).bind fun h2 =>
  some (.inl none, h2) := by
  rw [evR_eq ok_T_X4_keepsAct.loc (ops := b_X4_keepsAct_87) rfl]; rfl
theorem c_X4_keepsAct (d : Nat) (a_0 : Nat) (h : AH) : callR (d + 1) n_X4_keepsAct [.ref a_0] h =
  bif isO h a_0 4 then evR T_X4_keepsAct (callR d) 0 ([(0, .ref a_0)], [], h) else none := by
  rw [callR_succ, show aMTl[n_X4_keepsAct]? = some (T_X4_keepsAct, [0]) from rfl]; show (bif (isO h a_0 4) && true then _ else _) = _; rw [Bool.and_true]; rfl
theorem e_X4_passes_0 (E : AEn) (a_0 : Nat) (h : AH) : evR T_X4_passes E 0 ([(0, .ref a_0)], [], h) =
  rI (E n_X4_worthAll [.ref a_0] h) (fun i2 h1 =>
  rV (E n_X4_goes [.ref a_0] h1) (fun h3 =>
  rI (E n_X4_comes [.ref a_0] h3) (fun i5 h4 =>
  (wrF h4 a_0 4 29 (.int i5)).bind fun h6 =>
  rV (E n_X4_burns [.ref a_0] h6) (fun h7 =>
  (rdR h7 a_0 4 21).bind fun r8 =>
  (ldI h7 r8 0 (10 : Int32)).bind fun i9 =>
  (stI h7 r8 0 (10 : Int32) (i9 + (1 : Int32))).bind fun h10 =>
  rI (E n_X4_worthAll [.ref a_0] h10) (fun i12 h11 =>
  some (.inl (some (.int (i2 - i12))), h11)) thr) thr) thr) thr) thr := by
  rw [evR_eq ok_T_X4_passes.loc (ops := b_X4_passes_0) rfl]; rfl
theorem c_X4_passes (d : Nat) (a_0 : Nat) (h : AH) : callR (d + 1) n_X4_passes [.ref a_0] h =
  bif isO h a_0 4 then evR T_X4_passes (callR d) 0 ([(0, .ref a_0)], [], h) else none := by
  rw [callR_succ, show aMTl[n_X4_passes]? = some (T_X4_passes, [0]) from rfl]; show (bif (isO h a_0 4) && true then _ else _) = _; rw [Bool.and_true]; rfl
theorem e_X4_worthAll_0 (E : AEn) (a_0 : Nat) (h : AH) : evR T_X4_worthAll E 0 ([(0, .ref a_0)], [], h) =
  evR T_X4_worthAll E 4 ([(0, .ref a_0), (1, .int (0 : Int32)), (2, .int (0 : Int32))], [], h) := by
  rw [evR_eq ok_T_X4_worthAll.loc (ops := b_X4_worthAll_0) rfl]; rfl
theorem e_X4_worthAll_4 (E : AEn) (a_0 : Nat) (i_1 : Int32) (i_2 : Int32) (h : AH) : evR T_X4_worthAll E 4 ([(0, .ref a_0), (1, .int i_1), (2, .int i_2)], [], h) =
  (rdR h a_0 4 21).bind fun r1 =>
  (ldI h r1 0 (3 : Int32)).bind fun i2 =>
  bif decide (i2 ≤ i_2) then evR T_X4_worthAll E 28 ([(1, .int i_1)], [], h) else
  evR T_X4_worthAll E 14 ([(0, .ref a_0), (1, .int i_1), (2, .int i_2)], [], h) := by
  rw [evR_eq ok_T_X4_worthAll.loc (ops := b_X4_worthAll_4) rfl]; rfl
theorem e_X4_worthAll_14 (E : AEn) (a_0 : Nat) (i_1 : Int32) (i_2 : Int32) (h : AH) : evR T_X4_worthAll E 14 ([(0, .ref a_0), (1, .int i_1), (2, .int i_2)], [], h) =
  rI (E n_X4_worthOf [.ref a_0, .int i_2] h) (fun i2 h1 =>
  evR T_X4_worthAll E 4 ([(0, .ref a_0), (1, .int (i_1 + i2)), (2, .int (i_2 + (1 : Int32)))], [], h1)) thr := by
  rw [evR_eq ok_T_X4_worthAll.loc (ops := b_X4_worthAll_14) rfl]; rfl
theorem e_X4_worthAll_28 (E : AEn) (i_1 : Int32) (h : AH) : evR T_X4_worthAll E 28 ([(1, .int i_1)], [], h) =
  some (.inl (some (.int i_1)), h) := by
  rw [evR_eq ok_T_X4_worthAll.loc (ops := b_X4_worthAll_28) rfl]; rfl
theorem c_X4_worthAll (d : Nat) (a_0 : Nat) (h : AH) : callR (d + 1) n_X4_worthAll [.ref a_0] h =
  bif isO h a_0 4 then evR T_X4_worthAll (callR d) 0 ([(0, .ref a_0)], [], h) else none := by
  rw [callR_succ, show aMTl[n_X4_worthAll]? = some (T_X4_worthAll, [0]) from rfl]; show (bif (isO h a_0 4) && true then _ else _) = _; rw [Bool.and_true]; rfl
theorem e_X4_worthOf_0 (E : AEn) (a_0 : Nat) (i_1 : Int32) (h : AH) : evR T_X4_worthOf E 0 ([(0, .ref a_0), (1, .int i_1)], [], h) =
  (rdR h a_0 4 21).bind fun r1 =>
  (ldI h r1 0 ((14 : Int32) + ((4 : Int32) * i_1))).bind fun i2 =>
  some (.inl (some (.int i2)), h) := by
  rw [evR_eq ok_T_X4_worthOf.loc (ops := b_X4_worthOf_0) rfl]; rfl
theorem c_X4_worthOf (d : Nat) (a_0 : Nat) (i_1 : Int32) (h : AH) : callR (d + 1) n_X4_worthOf [.ref a_0, .int i_1] h =
  bif isO h a_0 4 then evR T_X4_worthOf (callR d) 0 ([(0, .ref a_0), (1, .int i_1)], [], h) else none := by
  rw [callR_succ, show aMTl[n_X4_worthOf]? = some (T_X4_worthOf, [0, 1]) from rfl]; show (bif (isO h a_0 4) && true then _ else _) = _; rw [Bool.and_true]; rfl
theorem e_X4_goes_0 (E : AEn) (a_0 : Nat) (h : AH) : evR T_X4_goes E 0 ([(0, .ref a_0)], [], h) =
  rI (E n_X4_isOnItsWay [.ref a_0] h) (fun i2 h1 =>
  bif !(i2 == 0) then evR T_X4_goes E 46 ([(0, .ref a_0)], [], h1) else
  evR T_X4_goes E 7 ([(0, .ref a_0)], [], h1)) thr := by
  rw [evR_eq ok_T_X4_goes.loc (ops := b_X4_goes_0) rfl]; rfl
theorem e_X4_goes_7 (E : AEn) (a_0 : Nat) (h : AH) : evR T_X4_goes E 7 ([(0, .ref a_0)], [], h) =
  rI (E n_X4_whereItIs [.ref a_0] h) (fun i2 h1 =>
  bif decide (i2 < 0) then evR T_X4_goes E 24 ([(0, .ref a_0)], [], h1) else
  evR T_X4_goes E 16 ([(0, .ref a_0), (1, .int i2)], [], h1)) thr := by
  rw [evR_eq ok_T_X4_goes.loc (ops := b_X4_goes_7) rfl]; rfl
theorem e_X4_goes_16 (E : AEn) (a_0 : Nat) (i_1 : Int32) (h : AH) : evR T_X4_goes E 16 ([(0, .ref a_0), (1, .int i_1)], [], h) =
  rI (E n_X4_heatOf [.ref a_0, .int i_1] h) (fun i2 h1 =>
  bif !(i2 == 0) then evR T_X4_goes E 46 ([(0, .ref a_0)], [], h1) else
  evR T_X4_goes E 24 ([(0, .ref a_0)], [], h1)) thr := by
  rw [evR_eq ok_T_X4_goes.loc (ops := b_X4_goes_16) rfl]; rfl
theorem e_X4_goes_24 (E : AEn) (a_0 : Nat) (h : AH) : evR T_X4_goes E 24 ([(0, .ref a_0)], [], h) =
  (rdI h a_0 4 25).bind fun i1 =>
  bif decide (0 ≤ i1) then evR T_X4_goes E 39 ([(0, .ref a_0)], [.ref a_0], h) else
  evR T_X4_goes E 32 ([(0, .ref a_0)], [.ref a_0], h) := by
  rw [evR_eq ok_T_X4_goes.loc (ops := b_X4_goes_24) rfl]; rfl
theorem e_X4_goes_32 (E : AEn) (a_0 : Nat) (sa_0 : Nat) (h : AH) : evR T_X4_goes E 32 ([(0, .ref a_0)], [.ref sa_0], h) =
  rI (E n_X4_choice [.ref a_0] h) (fun i2 h1 =>
  evR T_X4_goes E 43 ([(0, .ref a_0)], [.int i2, .ref sa_0], h1)) thr := by
  rw [evR_eq ok_T_X4_goes.loc (ops := b_X4_goes_32) rfl]; rfl
theorem e_X4_goes_39 (E : AEn) (a_0 : Nat) (sa_0 : Nat) (h : AH) : evR T_X4_goes E 39 ([(0, .ref a_0)], [.ref sa_0], h) =
  rI (E n_X4_nextOfRow [.ref a_0] h) (fun i2 h1 =>
  evR T_X4_goes E 43 ([(0, .ref a_0)], [.int i2, .ref sa_0], h1)) thr := by
  rw [evR_eq ok_T_X4_goes.loc (ops := b_X4_goes_39) rfl]; rfl
theorem e_X4_goes_43 (E : AEn) (a_0 : Nat) (si_0 : Int32) (sa_1 : Nat) (h : AH) : evR T_X4_goes E 43 ([(0, .ref a_0)], [.int si_0, .ref sa_1], h) =
  rV (E n_X4_sends [.ref sa_1, .int si_0] h) (fun h1 =>
  evR T_X4_goes E 46 ([(0, .ref a_0)], [], h1)) thr := by
  rw [evR_eq ok_T_X4_goes.loc (ops := b_X4_goes_43) rfl]; rfl
theorem e_X4_goes_46 (E : AEn) (a_0 : Nat) (h : AH) : evR T_X4_goes E 46 ([(0, .ref a_0)], [], h) =
  rI (E n_X4_isOnItsWay [.ref a_0] h) (fun i2 h1 =>
  bif !(i2 == 0) then evR T_X4_goes E 54 ([(0, .ref a_0)], [], h1) else
  evR T_X4_goes E 53 ([], [], h1)) thr := by
  rw [evR_eq ok_T_X4_goes.loc (ops := b_X4_goes_46) rfl]; rfl
theorem e_X4_goes_53 (E : AEn)  (h : AH) : evR T_X4_goes E 53 ([], [], h) =
  some (.inl none, h) := by
  rw [evR_eq ok_T_X4_goes.loc (ops := b_X4_goes_53) rfl]; rfl
theorem e_X4_goes_54 (E : AEn) (a_0 : Nat) (h : AH) : evR T_X4_goes E 54 ([(0, .ref a_0)], [], h) =
  (rdR h a_0 4 21).bind fun r1 =>
  (ldI h r1 0 (13 : Int32)).bind fun i2 =>
  (stI h r1 0 (13 : Int32) (i2 - (1 : Int32))).bind fun h3 =>
  rI (E n_X4_isOnItsWay [.ref a_0] h3) (fun i5 h4 =>
  bif i5 == 0 then evR T_X4_goes E 73 ([(0, .ref a_0)], [], h4) else
  evR T_X4_goes E 72 ([], [], h4)) thr := by
  rw [evR_eq ok_T_X4_goes.loc (ops := b_X4_goes_54) rfl]; rfl
theorem e_X4_goes_72 (E : AEn)  (h : AH) : evR T_X4_goes E 72 ([], [], h) =
  some (.inl none, h) := by
  rw [evR_eq ok_T_X4_goes.loc (ops := b_X4_goes_72) rfl]; rfl
theorem e_X4_goes_73 (E : AEn) (a_0 : Nat) (h : AH) : evR T_X4_goes E 73 ([(0, .ref a_0)], [], h) =
  (rdR h a_0 4 21).bind fun r1 =>
  (rdR h a_0 4 21).bind fun r2 =>
  (ldI h r2 0 (12 : Int32)).bind fun i3 =>
  (stI h r1 0 (11 : Int32) i3).bind fun h4 =>
  (rdR h4 a_0 4 21).bind fun r5 =>
  (stI h4 r5 0 (12 : Int32) (-1 : Int32)).bind fun h6 =>
  some (.inl none, h6) := by
  rw [evR_eq ok_T_X4_goes.loc (ops := b_X4_goes_73) rfl]; rfl
theorem c_X4_goes (d : Nat) (a_0 : Nat) (h : AH) : callR (d + 1) n_X4_goes [.ref a_0] h =
  bif isO h a_0 4 then evR T_X4_goes (callR d) 0 ([(0, .ref a_0)], [], h) else none := by
  rw [callR_succ, show aMTl[n_X4_goes]? = some (T_X4_goes, [0]) from rfl]; show (bif (isO h a_0 4) && true then _ else _) = _; rw [Bool.and_true]; rfl
theorem e_X4_isOnItsWay_0 (E : AEn) (a_0 : Nat) (h : AH) : evR T_X4_isOnItsWay E 0 ([(0, .ref a_0)], [], h) =
  (rdR h a_0 4 21).bind fun r1 =>
  (ldI h r1 0 (13 : Int32)).bind fun i2 =>
  bif decide (i2 ≤ 0) then evR T_X4_isOnItsWay E 14 ([], [], h) else
  evR T_X4_isOnItsWay E 10 ([], [], h) := by
  rw [evR_eq ok_T_X4_isOnItsWay.loc (ops := b_X4_isOnItsWay_0) rfl]; rfl
theorem e_X4_isOnItsWay_10 (E : AEn)  (h : AH) : evR T_X4_isOnItsWay E 10 ([], [], h) =
  evR T_X4_isOnItsWay E 15 ([], [.int (1 : Int32)], h) := by
  rw [evR_eq ok_T_X4_isOnItsWay.loc (ops := b_X4_isOnItsWay_10) rfl]; rfl
theorem e_X4_isOnItsWay_14 (E : AEn)  (h : AH) : evR T_X4_isOnItsWay E 14 ([], [], h) =
  evR T_X4_isOnItsWay E 15 ([], [.int (0 : Int32)], h) := by
  rw [evR_eq ok_T_X4_isOnItsWay.loc (ops := b_X4_isOnItsWay_14) rfl]; rfl
theorem e_X4_isOnItsWay_15 (E : AEn) (si_0 : Int32) (h : AH) : evR T_X4_isOnItsWay E 15 ([], [.int si_0], h) =
  (bif si_0 == 0 || si_0 == 1 then some si_0 else none).bind fun i1 => some (.inl (some (.int i1)), h) := by
  rw [evR_eq ok_T_X4_isOnItsWay.loc (ops := b_X4_isOnItsWay_15) rfl]; rfl
theorem c_X4_isOnItsWay (d : Nat) (a_0 : Nat) (h : AH) : callR (d + 1) n_X4_isOnItsWay [.ref a_0] h =
  bif isO h a_0 4 then evR T_X4_isOnItsWay (callR d) 0 ([(0, .ref a_0)], [], h) else none := by
  rw [callR_succ, show aMTl[n_X4_isOnItsWay]? = some (T_X4_isOnItsWay, [0]) from rfl]; show (bif (isO h a_0 4) && true then _ else _) = _; rw [Bool.and_true]; rfl
theorem e_X4_whereItIs_0 (E : AEn) (a_0 : Nat) (h : AH) : evR T_X4_whereItIs E 0 ([(0, .ref a_0)], [], h) =
  rI (E n_X4_isOnItsWay [.ref a_0] h) (fun i2 h1 =>
  bif i2 == 0 then evR T_X4_whereItIs E 11 ([(0, .ref a_0)], [], h1) else
  evR T_X4_whereItIs E 7 ([], [], h1)) thr := by
  rw [evR_eq ok_T_X4_whereItIs.loc (ops := b_X4_whereItIs_0) rfl]; rfl
theorem e_X4_whereItIs_7 (E : AEn)  (h : AH) : evR T_X4_whereItIs E 7 ([], [], h) =
  evR T_X4_whereItIs E 20 ([], [.int (-1 : Int32)], h) := by
  rw [evR_eq ok_T_X4_whereItIs.loc (ops := b_X4_whereItIs_7) rfl]; rfl
theorem e_X4_whereItIs_11 (E : AEn) (a_0 : Nat) (h : AH) : evR T_X4_whereItIs E 11 ([(0, .ref a_0)], [], h) =
  (rdR h a_0 4 21).bind fun r1 =>
  (ldI h r1 0 (11 : Int32)).bind fun i2 =>
  evR T_X4_whereItIs E 20 ([], [.int (i2 - (1 : Int32))], h) := by
  rw [evR_eq ok_T_X4_whereItIs.loc (ops := b_X4_whereItIs_11) rfl]; rfl
theorem e_X4_whereItIs_20 (E : AEn) (si_0 : Int32) (h : AH) : evR T_X4_whereItIs E 20 ([], [.int si_0], h) =
  some (.inl (some (.int si_0)), h) := by
  rw [evR_eq ok_T_X4_whereItIs.loc (ops := b_X4_whereItIs_20) rfl]; rfl
theorem c_X4_whereItIs (d : Nat) (a_0 : Nat) (h : AH) : callR (d + 1) n_X4_whereItIs [.ref a_0] h =
  bif isO h a_0 4 then evR T_X4_whereItIs (callR d) 0 ([(0, .ref a_0)], [], h) else none := by
  rw [callR_succ, show aMTl[n_X4_whereItIs]? = some (T_X4_whereItIs, [0]) from rfl]; show (bif (isO h a_0 4) && true then _ else _) = _; rw [Bool.and_true]; rfl
theorem e_X4_heatOf_0 (E : AEn) (a_0 : Nat) (i_1 : Int32) (h : AH) : evR T_X4_heatOf E 0 ([(0, .ref a_0), (1, .int i_1)], [], h) =
  (rdR h a_0 4 21).bind fun r1 =>
  (ldI h r1 0 (((14 : Int32) + ((4 : Int32) * i_1)) + (1 : Int32))).bind fun i2 =>
  some (.inl (some (.int i2)), h) := by
  rw [evR_eq ok_T_X4_heatOf.loc (ops := b_X4_heatOf_0) rfl]; rfl
theorem c_X4_heatOf (d : Nat) (a_0 : Nat) (i_1 : Int32) (h : AH) : callR (d + 1) n_X4_heatOf [.ref a_0, .int i_1] h =
  bif isO h a_0 4 then evR T_X4_heatOf (callR d) 0 ([(0, .ref a_0), (1, .int i_1)], [], h) else none := by
  rw [callR_succ, show aMTl[n_X4_heatOf]? = some (T_X4_heatOf, [0, 1]) from rfl]; show (bif (isO h a_0 4) && true then _ else _) = _; rw [Bool.and_true]; rfl
theorem e_X4_choice_0 (E : AEn) (a_0 : Nat) (h : AH) : evR T_X4_choice E 0 ([(0, .ref a_0)], [], h) =
  evR T_X4_choice E 7 ([(0, .ref a_0), (1, .int (-1 : Int32)), (2, .long (0 : Int64)), (4, .int (0 : Int32))], [], h) := by
  rw [evR_eq ok_T_X4_choice.loc (ops := b_X4_choice_0) rfl]; rfl
theorem e_X4_choice_7 (E : AEn) (a_0 : Nat) (i_1 : Int32) (l_2 : Int64) (i_4 : Int32) (h : AH) : evR T_X4_choice E 7 ([(0, .ref a_0), (1, .int i_1), (2, .long l_2), (4, .int i_4)], [], h) =
  (rdR h a_0 4 21).bind fun r1 =>
  (ldI h r1 0 (3 : Int32)).bind fun i2 =>
  bif decide (i2 ≤ i_4) then evR T_X4_choice E 69 ([(1, .int i_1)], [], h) else
  evR T_X4_choice E 18 ([(0, .ref a_0), (1, .int i_1), (2, .long l_2), (4, .int i_4)], [], h) := by
  rw [evR_eq ok_T_X4_choice.loc (ops := b_X4_choice_7) rfl]; rfl
theorem e_X4_choice_18 (E : AEn) (a_0 : Nat) (i_1 : Int32) (l_2 : Int64) (i_4 : Int32) (h : AH) : evR T_X4_choice E 18 ([(0, .ref a_0), (1, .int i_1), (2, .long l_2), (4, .int i_4)], [], h) =
  (rdR h a_0 4 21).bind fun r1 =>
  (ldI h r1 0 (11 : Int32)).bind fun i2 =>
  rI (E n_X4_farOf [.ref a_0, .int i2, .int (i_4 + (1 : Int32))] h) (fun i4 h3 =>
  bif decide (0 ≤ i4) then evR T_X4_choice E 39 ([(0, .ref a_0), (1, .int i_1), (2, .long l_2), (4, .int i_4)], [], h3) else
  evR T_X4_choice E 36 ([(0, .ref a_0), (1, .int i_1), (2, .long l_2), (4, .int i_4)], [], h3)) thr := by
  rw [evR_eq ok_T_X4_choice.loc (ops := b_X4_choice_18) rfl]; rfl
theorem e_X4_choice_36 (E : AEn) (a_0 : Nat) (i_1 : Int32) (l_2 : Int64) (i_4 : Int32) (h : AH) : evR T_X4_choice E 36 ([(0, .ref a_0), (1, .int i_1), (2, .long l_2), (4, .int i_4)], [], h) =
  evR T_X4_choice E 63 ([(0, .ref a_0), (1, .int i_1), (2, .long l_2), (4, .int i_4)], [], h) := by
  rw [evR_eq ok_T_X4_choice.loc (ops := b_X4_choice_36) rfl]; rfl
theorem e_X4_choice_39 (E : AEn) (a_0 : Nat) (i_1 : Int32) (l_2 : Int64) (i_4 : Int32) (h : AH) : evR T_X4_choice E 39 ([(0, .ref a_0), (1, .int i_1), (2, .long l_2), (4, .int i_4)], [], h) =
  rL (E n_X4_sumOf [.ref a_0, .int i_4] h) (fun l2 h1 =>
  bif decide (0 < (lg_cmp l2 l_2)) then evR T_X4_choice E 57 ([(0, .ref a_0), (4, .int i_4), (5, .long l2)], [], h1) else
  evR T_X4_choice E 54 ([(0, .ref a_0), (1, .int i_1), (2, .long l_2), (4, .int i_4)], [], h1)) thr := by
  rw [evR_eq ok_T_X4_choice.loc (ops := b_X4_choice_39) rfl]; rfl
theorem e_X4_choice_54 (E : AEn) (a_0 : Nat) (i_1 : Int32) (l_2 : Int64) (i_4 : Int32) (h : AH) : evR T_X4_choice E 54 ([(0, .ref a_0), (1, .int i_1), (2, .long l_2), (4, .int i_4)], [], h) =
  evR T_X4_choice E 63 ([(0, .ref a_0), (1, .int i_1), (2, .long l_2), (4, .int i_4)], [], h) := by
  rw [evR_eq ok_T_X4_choice.loc (ops := b_X4_choice_54) rfl]; rfl
theorem e_X4_choice_57 (E : AEn) (a_0 : Nat) (i_4 : Int32) (l_5 : Int64) (h : AH) : evR T_X4_choice E 57 ([(0, .ref a_0), (4, .int i_4), (5, .long l_5)], [], h) =
  evR T_X4_choice E 63 ([(0, .ref a_0), (1, .int i_4), (2, .long l_5), (4, .int i_4)], [], h) := by
  rw [evR_eq ok_T_X4_choice.loc (ops := b_X4_choice_57) rfl]; rfl
theorem e_X4_choice_63 (E : AEn) (a_0 : Nat) (i_1 : Int32) (l_2 : Int64) (i_4 : Int32) (h : AH) : evR T_X4_choice E 63 ([(0, .ref a_0), (1, .int i_1), (2, .long l_2), (4, .int i_4)], [], h) =
  evR T_X4_choice E 7 ([(0, .ref a_0), (1, .int i_1), (2, .long l_2), (4, .int (i_4 + (1 : Int32)))], [], h) := by
  rw [evR_eq ok_T_X4_choice.loc (ops := b_X4_choice_63) rfl]; rfl
theorem e_X4_choice_69 (E : AEn) (i_1 : Int32) (h : AH) : evR T_X4_choice E 69 ([(1, .int i_1)], [], h) =
  some (.inl (some (.int i_1)), h) := by
  rw [evR_eq ok_T_X4_choice.loc (ops := b_X4_choice_69) rfl]; rfl
theorem c_X4_choice (d : Nat) (a_0 : Nat) (h : AH) : callR (d + 1) n_X4_choice [.ref a_0] h =
  bif isO h a_0 4 then evR T_X4_choice (callR d) 0 ([(0, .ref a_0)], [], h) else none := by
  rw [callR_succ, show aMTl[n_X4_choice]? = some (T_X4_choice, [0]) from rfl]; show (bif (isO h a_0 4) && true then _ else _) = _; rw [Bool.and_true]; rfl
theorem e_X4_sumOf_0 (E : AEn) (a_0 : Nat) (i_1 : Int32) (h : AH) : evR T_X4_sumOf E 0 ([(0, .ref a_0), (1, .int i_1)], [], h) =
  (rdI h a_0 4 22).bind fun i1 =>
  bif decide (0 ≤ i1) then evR T_X4_sumOf E 26 ([(0, .ref a_0), (1, .int i_1)], [], h) else
  evR T_X4_sumOf E 7 ([(0, .ref a_0), (1, .int i_1)], [], h) := by
  rw [evR_eq ok_T_X4_sumOf.loc (ops := b_X4_sumOf_0) rfl]; rfl
theorem e_X4_sumOf_7 (E : AEn) (a_0 : Nat) (i_1 : Int32) (h : AH) : evR T_X4_sumOf E 7 ([(0, .ref a_0), (1, .int i_1)], [], h) =
  rI (E n_X4_heatOf [.ref a_0, .int i_1] h) (fun i2 h1 =>
  bif decide (i2 ≤ 0) then evR T_X4_sumOf E 24 ([], [], h1) else
  evR T_X4_sumOf E 15 ([(0, .ref a_0), (1, .int i_1)], [], h1)) thr := by
  rw [evR_eq ok_T_X4_sumOf.loc (ops := b_X4_sumOf_7) rfl]; rfl
theorem e_X4_sumOf_15 (E : AEn) (a_0 : Nat) (i_1 : Int32) (h : AH) : evR T_X4_sumOf E 15 ([(0, .ref a_0), (1, .int i_1)], [], h) =
  rI (E n_X4_saysOf [.ref a_0, .int i_1] h) (fun i2 h1 =>
  evR T_X4_sumOf E 25 ([], [.long i2.toInt64], h1)) thr := by
  rw [evR_eq ok_T_X4_sumOf.loc (ops := b_X4_sumOf_15) rfl]; rfl
theorem e_X4_sumOf_24 (E : AEn)  (h : AH) : evR T_X4_sumOf E 24 ([], [], h) =
  evR T_X4_sumOf E 25 ([], [.long (0 : Int64)], h) := by
  rw [evR_eq ok_T_X4_sumOf.loc (ops := b_X4_sumOf_24) rfl]; rfl
theorem e_X4_sumOf_25 (E : AEn) (sl_0 : Int64) (h : AH) : evR T_X4_sumOf E 25 ([], [.long sl_0], h) =
  some (.inl (some (.long sl_0)), h) := by
  rw [evR_eq ok_T_X4_sumOf.loc (ops := b_X4_sumOf_25) rfl]; rfl
theorem e_X4_sumOf_26 (E : AEn) (a_0 : Nat) (i_1 : Int32) (h : AH) : evR T_X4_sumOf E 26 ([(0, .ref a_0), (1, .int i_1)], [], h) =
  (rdR h a_0 4 20).bind fun r1 =>
  (stL h r1 (0 : Int32) i_1.toInt64).bind fun h2 =>
  (rdR h2 a_0 4 20).bind fun r3 =>
  rI (E n_X4_saysOf [.ref a_0, .int i_1] h2) (fun i5 h4 =>
  (stL h4 r3 (1 : Int32) i5.toInt64).bind fun h6 =>
  (rdR h6 a_0 4 20).bind fun r7 =>
  rI (E n_X4_worthOf [.ref a_0, .int i_1] h6) (fun i9 h8 =>
  (stL h8 r7 (2 : Int32) i9.toInt64).bind fun h10 =>
  (rdR h10 a_0 4 20).bind fun r11 =>
  rI (E n_X4_heatOf [.ref a_0, .int i_1] h10) (fun i13 h12 =>
  bif decide (i13 ≤ 0) then evR T_X4_sumOf E 75 ([(0, .ref a_0), (1, .int i_1)], [.int (3 : Int32), .ref r11], h12) else
  evR T_X4_sumOf E 71 ([(0, .ref a_0), (1, .int i_1)], [.int (3 : Int32), .ref r11], h12)) thr) thr) thr := by
  rw [evR_eq ok_T_X4_sumOf.loc (ops := b_X4_sumOf_26) rfl]; rfl
theorem e_X4_sumOf_71 (E : AEn) (a_0 : Nat) (i_1 : Int32) (si_0 : Int32) (sa_1 : Nat) (h : AH) : evR T_X4_sumOf E 71 ([(0, .ref a_0), (1, .int i_1)], [.int si_0, .ref sa_1], h) =
  evR T_X4_sumOf E 76 ([(0, .ref a_0), (1, .int i_1)], [.long (1 : Int64), .int si_0, .ref sa_1], h) := by
  rw [evR_eq ok_T_X4_sumOf.loc (ops := b_X4_sumOf_71) rfl]; rfl
theorem e_X4_sumOf_75 (E : AEn) (a_0 : Nat) (i_1 : Int32) (si_0 : Int32) (sa_1 : Nat) (h : AH) : evR T_X4_sumOf E 75 ([(0, .ref a_0), (1, .int i_1)], [.int si_0, .ref sa_1], h) =
  evR T_X4_sumOf E 76 ([(0, .ref a_0), (1, .int i_1)], [.long (0 : Int64), .int si_0, .ref sa_1], h) := by
  rw [evR_eq ok_T_X4_sumOf.loc (ops := b_X4_sumOf_75) rfl]; rfl
theorem e_X4_sumOf_76 (E : AEn) (a_0 : Nat) (i_1 : Int32) (sl_0 : Int64) (si_1 : Int32) (sa_2 : Nat) (h : AH) : evR T_X4_sumOf E 76 ([(0, .ref a_0), (1, .int i_1)], [.long sl_0, .int si_1, .ref sa_2], h) =
  (stL h sa_2 si_1 sl_0).bind fun h1 =>
  (rdR h1 a_0 4 20).bind fun r2 =>
  (rdR h1 a_0 4 21).bind fun r3 =>
  (ldI h1 r3 0 (11 : Int32)).bind fun i4 =>
  rI (E n_X4_farOf [.ref a_0, .int i4, .int (i_1 + (1 : Int32))] h1) (fun i6 h5 =>
  (stL h5 r2 (4 : Int32) i6.toInt64).bind fun h7 =>
  (rdR h7 a_0 4 20).bind fun r8 =>
  (rdR h7 a_0 4 21).bind fun r9 =>
  (ldI h7 r9 0 ((38 : Int32) + i_1)).bind fun i10 =>
  rI (E n_X4_fires [.ref a_0] h7) (fun i12 h11 =>
  rI (E n_X4_bits [.int (i10 &&& i12)] h11) (fun i14 h13 =>
  (stL h13 r8 (5 : Int32) i14.toInt64).bind fun h15 =>
  (rdR h15 a_0 4 20).bind fun r16 =>
  rI (E n_X4_fires [.ref a_0] h15) (fun i18 h17 =>
  rI (E n_X4_bits [.int i18] h17) (fun i20 h19 =>
  (stL h19 r16 (6 : Int32) i20.toInt64).bind fun h21 =>
  (rdR h21 a_0 4 20).bind fun r22 =>
  rI (E n_X4_lostAll [.ref a_0] h21) (fun i24 h23 =>
  (stL h23 r22 (7 : Int32) i24.toInt64).bind fun h25 =>
  (rdR h25 a_0 4 20).bind fun r26 =>
  (rdR h25 a_0 4 21).bind fun r27 =>
  (ldI h25 r27 0 (((14 : Int32) + ((4 : Int32) * i_1)) + (3 : Int32))).bind fun i28 =>
  (stL h25 r26 (8 : Int32) i28.toInt64).bind fun h29 =>
  (rdR h29 a_0 4 20).bind fun r30 =>
  (rdR h29 a_0 4 21).bind fun r31 =>
  (ldI h29 r31 0 (1 : Int32)).bind fun i32 =>
  (stL h29 r30 (9 : Int32) i32.toInt64).bind fun h33 =>
  (rdR h33 a_0 4 20).bind fun r34 =>
  (rdR h33 a_0 4 21).bind fun r35 =>
  (ldI h33 r35 0 (10 : Int32)).bind fun i36 =>
  (stL h33 r34 (10 : Int32) i36.toInt64).bind fun h37 =>
  (rdI h37 a_0 4 22).bind fun i38 =>
  rL (E n_X4_summedBy [.ref a_0, .int i38] h37) (fun l40 h39 =>
  some (.inl (some (.long l40)), h39)) thr) thr) thr) thr) thr) thr) thr := by
  rw [evR_eq ok_T_X4_sumOf.loc (ops := b_X4_sumOf_76) rfl]; rfl
theorem c_X4_sumOf (d : Nat) (a_0 : Nat) (i_1 : Int32) (h : AH) : callR (d + 1) n_X4_sumOf [.ref a_0, .int i_1] h =
  bif isO h a_0 4 then evR T_X4_sumOf (callR d) 0 ([(0, .ref a_0), (1, .int i_1)], [], h) else none := by
  rw [callR_succ, show aMTl[n_X4_sumOf]? = some (T_X4_sumOf, [0, 1]) from rfl]; show (bif (isO h a_0 4) && true then _ else _) = _; rw [Bool.and_true]; rfl
theorem e_X4_saysOf_0 (E : AEn) (a_0 : Nat) (i_1 : Int32) (h : AH) : evR T_X4_saysOf E 0 ([(0, .ref a_0), (1, .int i_1)], [], h) =
  (rdR h a_0 4 21).bind fun r1 =>
  (ldI h r1 0 (((14 : Int32) + ((4 : Int32) * i_1)) + (2 : Int32))).bind fun i2 =>
  some (.inl (some (.int i2)), h) := by
  rw [evR_eq ok_T_X4_saysOf.loc (ops := b_X4_saysOf_0) rfl]; rfl
theorem c_X4_saysOf (d : Nat) (a_0 : Nat) (i_1 : Int32) (h : AH) : callR (d + 1) n_X4_saysOf [.ref a_0, .int i_1] h =
  bif isO h a_0 4 then evR T_X4_saysOf (callR d) 0 ([(0, .ref a_0), (1, .int i_1)], [], h) else none := by
  rw [callR_succ, show aMTl[n_X4_saysOf]? = some (T_X4_saysOf, [0, 1]) from rfl]; show (bif (isO h a_0 4) && true then _ else _) = _; rw [Bool.and_true]; rfl
theorem e_X4_fires_0 (E : AEn) (a_0 : Nat) (h : AH) : evR T_X4_fires E 0 ([(0, .ref a_0)], [], h) =
  evR T_X4_fires E 4 ([(0, .ref a_0), (1, .int (0 : Int32)), (2, .int (0 : Int32))], [], h) := by
  rw [evR_eq ok_T_X4_fires.loc (ops := b_X4_fires_0) rfl]; rfl
theorem e_X4_fires_4 (E : AEn) (a_0 : Nat) (i_1 : Int32) (i_2 : Int32) (h : AH) : evR T_X4_fires E 4 ([(0, .ref a_0), (1, .int i_1), (2, .int i_2)], [], h) =
  (rdR h a_0 4 21).bind fun r1 =>
  (ldI h r1 0 (3 : Int32)).bind fun i2 =>
  bif decide (i2 ≤ i_2) then evR T_X4_fires E 38 ([(1, .int i_1)], [], h) else
  evR T_X4_fires E 14 ([(0, .ref a_0), (1, .int i_1), (2, .int i_2)], [], h) := by
  rw [evR_eq ok_T_X4_fires.loc (ops := b_X4_fires_4) rfl]; rfl
theorem e_X4_fires_14 (E : AEn) (a_0 : Nat) (i_1 : Int32) (i_2 : Int32) (h : AH) : evR T_X4_fires E 14 ([(0, .ref a_0), (1, .int i_1), (2, .int i_2)], [], h) =
  rI (E n_X4_heatOf [.ref a_0, .int i_2] h) (fun i2 h1 =>
  bif decide (i2 ≤ 0) then evR T_X4_fires E 29 ([(0, .ref a_0), (2, .int i_2)], [.int i_1], h1) else
  evR T_X4_fires E 23 ([(0, .ref a_0), (2, .int i_2)], [.int i_1], h1)) thr := by
  rw [evR_eq ok_T_X4_fires.loc (ops := b_X4_fires_14) rfl]; rfl
theorem e_X4_fires_23 (E : AEn) (a_0 : Nat) (i_2 : Int32) (si_0 : Int32) (h : AH) : evR T_X4_fires E 23 ([(0, .ref a_0), (2, .int i_2)], [.int si_0], h) =
  evR T_X4_fires E 30 ([(0, .ref a_0), (2, .int i_2)], [.int ((1 : Int32) <<< (i_2 &&& 31)), .int si_0], h) := by
  rw [evR_eq ok_T_X4_fires.loc (ops := b_X4_fires_23) rfl]; rfl
theorem e_X4_fires_29 (E : AEn) (a_0 : Nat) (i_2 : Int32) (si_0 : Int32) (h : AH) : evR T_X4_fires E 29 ([(0, .ref a_0), (2, .int i_2)], [.int si_0], h) =
  evR T_X4_fires E 30 ([(0, .ref a_0), (2, .int i_2)], [.int (0 : Int32), .int si_0], h) := by
  rw [evR_eq ok_T_X4_fires.loc (ops := b_X4_fires_29) rfl]; rfl
theorem e_X4_fires_30 (E : AEn) (a_0 : Nat) (i_2 : Int32) (si_0 : Int32) (si_1 : Int32) (h : AH) : evR T_X4_fires E 30 ([(0, .ref a_0), (2, .int i_2)], [.int si_0, .int si_1], h) =
  evR T_X4_fires E 4 ([(0, .ref a_0), (1, .int (si_1 ||| si_0)), (2, .int (i_2 + (1 : Int32)))], [], h) := by
  rw [evR_eq ok_T_X4_fires.loc (ops := b_X4_fires_30) rfl]; rfl
theorem e_X4_fires_38 (E : AEn) (i_1 : Int32) (h : AH) : evR T_X4_fires E 38 ([(1, .int i_1)], [], h) =
  some (.inl (some (.int i_1)), h) := by
  rw [evR_eq ok_T_X4_fires.loc (ops := b_X4_fires_38) rfl]; rfl
theorem c_X4_fires (d : Nat) (a_0 : Nat) (h : AH) : callR (d + 1) n_X4_fires [.ref a_0] h =
  bif isO h a_0 4 then evR T_X4_fires (callR d) 0 ([(0, .ref a_0)], [], h) else none := by
  rw [callR_succ, show aMTl[n_X4_fires]? = some (T_X4_fires, [0]) from rfl]; show (bif (isO h a_0 4) && true then _ else _) = _; rw [Bool.and_true]; rfl
theorem e_X4_bits_0 (E : AEn) (i_0 : Int32) (h : AH) : evR T_X4_bits E 0 ([(0, .int i_0)], [], h) =
  evR T_X4_bits E 4 ([(1, .int (0 : Int32)), (2, .int i_0)], [], h) := by
  rw [evR_eq ok_T_X4_bits.loc (ops := b_X4_bits_0) rfl]; rfl
theorem e_X4_bits_4 (E : AEn) (i_1 : Int32) (i_2 : Int32) (h : AH) : evR T_X4_bits E 4 ([(1, .int i_1), (2, .int i_2)], [], h) =
  bif i_2 == 0 then evR T_X4_bits E 20 ([(1, .int i_1)], [], h) else
  evR T_X4_bits E 8 ([(1, .int i_1), (2, .int i_2)], [], h) := by
  rw [evR_eq ok_T_X4_bits.loc (ops := b_X4_bits_4) rfl]; rfl
theorem e_X4_bits_8 (E : AEn) (i_1 : Int32) (i_2 : Int32) (h : AH) : evR T_X4_bits E 8 ([(1, .int i_1), (2, .int i_2)], [], h) =
  evR T_X4_bits E 4 ([(1, .int (i_1 + (1 : Int32))), (2, .int (i_2 &&& (i_2 - (1 : Int32))))], [], h) := by
  rw [evR_eq ok_T_X4_bits.loc (ops := b_X4_bits_8) rfl]; rfl
theorem e_X4_bits_20 (E : AEn) (i_1 : Int32) (h : AH) : evR T_X4_bits E 20 ([(1, .int i_1)], [], h) =
  some (.inl (some (.int i_1)), h) := by
  rw [evR_eq ok_T_X4_bits.loc (ops := b_X4_bits_20) rfl]; rfl
theorem c_X4_bits (d : Nat) (i_0 : Int32) (h : AH) : callR (d + 1) n_X4_bits [.int i_0] h =
  evR T_X4_bits (callR d) 0 ([(0, .int i_0)], [], h) := by
  rw [callR_succ, show aMTl[n_X4_bits]? = some (T_X4_bits, [0]) from rfl]; rfl
theorem e_X4_lostAll_0 (E : AEn) (a_0 : Nat) (h : AH) : evR T_X4_lostAll E 0 ([(0, .ref a_0)], [], h) =
  evR T_X4_lostAll E 4 ([(0, .ref a_0), (1, .int (0 : Int32)), (2, .int (0 : Int32))], [], h) := by
  rw [evR_eq ok_T_X4_lostAll.loc (ops := b_X4_lostAll_0) rfl]; rfl
theorem e_X4_lostAll_4 (E : AEn) (a_0 : Nat) (i_1 : Int32) (i_2 : Int32) (h : AH) : evR T_X4_lostAll E 4 ([(0, .ref a_0), (1, .int i_1), (2, .int i_2)], [], h) =
  (rdR h a_0 4 21).bind fun r1 =>
  (ldI h r1 0 (3 : Int32)).bind fun i2 =>
  bif decide (i2 ≤ i_2) then evR T_X4_lostAll E 28 ([(0, .ref a_0), (1, .int i_1)], [], h) else
  evR T_X4_lostAll E 14 ([(0, .ref a_0), (1, .int i_1), (2, .int i_2)], [], h) := by
  rw [evR_eq ok_T_X4_lostAll.loc (ops := b_X4_lostAll_4) rfl]; rfl
theorem e_X4_lostAll_14 (E : AEn) (a_0 : Nat) (i_1 : Int32) (i_2 : Int32) (h : AH) : evR T_X4_lostAll E 14 ([(0, .ref a_0), (1, .int i_1), (2, .int i_2)], [], h) =
  rI (E n_X4_lostOf [.ref a_0, .int i_2] h) (fun i2 h1 =>
  evR T_X4_lostAll E 4 ([(0, .ref a_0), (1, .int (i_1 + i2)), (2, .int (i_2 + (1 : Int32)))], [], h1)) thr := by
  rw [evR_eq ok_T_X4_lostAll.loc (ops := b_X4_lostAll_14) rfl]; rfl
theorem e_X4_lostAll_28 (E : AEn) (a_0 : Nat) (i_1 : Int32) (h : AH) : evR T_X4_lostAll E 28 ([(0, .ref a_0), (1, .int i_1)], [], h) =
  (rdI h a_0 4 27).bind fun i1 =>
  some (.inl (some (.int (i_1 - i1))), h) := by
  rw [evR_eq ok_T_X4_lostAll.loc (ops := b_X4_lostAll_28) rfl]; rfl
theorem c_X4_lostAll (d : Nat) (a_0 : Nat) (h : AH) : callR (d + 1) n_X4_lostAll [.ref a_0] h =
  bif isO h a_0 4 then evR T_X4_lostAll (callR d) 0 ([(0, .ref a_0)], [], h) else none := by
  rw [callR_succ, show aMTl[n_X4_lostAll]? = some (T_X4_lostAll, [0]) from rfl]; show (bif (isO h a_0 4) && true then _ else _) = _; rw [Bool.and_true]; rfl
theorem e_X4_lostOf_0 (E : AEn) (a_0 : Nat) (i_1 : Int32) (h : AH) : evR T_X4_lostOf E 0 ([(0, .ref a_0), (1, .int i_1)], [], h) =
  (rdR h a_0 4 21).bind fun r1 =>
  (ldI h r1 0 ((93 : Int32) + ((3 : Int32) * i_1))).bind fun i2 =>
  rI (E n_X4_worthOf [.ref a_0, .int i_1] h) (fun i4 h3 =>
  some (.inl (some (.int (i2 - i4))), h3)) thr := by
  rw [evR_eq ok_T_X4_lostOf.loc (ops := b_X4_lostOf_0) rfl]; rfl
theorem c_X4_lostOf (d : Nat) (a_0 : Nat) (i_1 : Int32) (h : AH) : callR (d + 1) n_X4_lostOf [.ref a_0, .int i_1] h =
  bif isO h a_0 4 then evR T_X4_lostOf (callR d) 0 ([(0, .ref a_0), (1, .int i_1)], [], h) else none := by
  rw [callR_succ, show aMTl[n_X4_lostOf]? = some (T_X4_lostOf, [0, 1]) from rfl]; show (bif (isO h a_0 4) && true then _ else _) = _; rw [Bool.and_true]; rfl
theorem e_X4_summedBy_0 (E : AEn) (a_0 : Nat) (i_1 : Int32) (h : AH) : evR T_X4_summedBy E 0 ([(0, .ref a_0), (1, .int i_1)], [], h) =
  evR T_X4_summedBy E 2 ([(0, .ref a_0), (1, .int i_1), (2, .int (0 : Int32))], [], h) := by
  rw [evR_eq ok_T_X4_summedBy.loc (ops := b_X4_summedBy_0) rfl]; rfl
theorem e_X4_summedBy_2 (E : AEn) (a_0 : Nat) (i_1 : Int32) (i_2 : Int32) (h : AH) : evR T_X4_summedBy E 2 ([(0, .ref a_0), (1, .int i_1), (2, .int i_2)], [], h) =
  (rdR h a_0 4 6).bind fun r1 =>
  (ldI h r1 0 i_1).bind fun i2 =>
  bif decide (i2 ≤ i_2) then evR T_X4_summedBy E 84 ([], [], h) else
  evR T_X4_summedBy E 12 ([(0, .ref a_0), (1, .int i_1), (2, .int i_2)], [], h) := by
  rw [evR_eq ok_T_X4_summedBy.loc (ops := b_X4_summedBy_2) rfl]; rfl
theorem e_X4_summedBy_12 (E : AEn) (a_0 : Nat) (i_1 : Int32) (i_2 : Int32) (h : AH) : evR T_X4_summedBy E 12 ([(0, .ref a_0), (1, .int i_1), (2, .int i_2)], [], h) =
  (rdR h a_0 4 5).bind fun r1 =>
  (ldI h r1 0 ((((48 : Int32) * i_1) + ((4 : Int32) * i_2)) + (2 : Int32))).bind fun i2 =>
  bif decide (i2 < 0) then evR T_X4_summedBy E 58 ([(0, .ref a_0), (1, .int i_1), (3, .int (((48 : Int32) * i_1) + ((4 : Int32) * i_2)))], [], h) else
  evR T_X4_summedBy E 32 ([(0, .ref a_0), (1, .int i_1), (2, .int i_2), (3, .int (((48 : Int32) * i_1) + ((4 : Int32) * i_2)))], [], h) := by
  rw [evR_eq ok_T_X4_summedBy.loc (ops := b_X4_summedBy_12) rfl]; rfl
theorem e_X4_summedBy_32 (E : AEn) (a_0 : Nat) (i_1 : Int32) (i_2 : Int32) (i_3 : Int32) (h : AH) : evR T_X4_summedBy E 32 ([(0, .ref a_0), (1, .int i_1), (2, .int i_2), (3, .int i_3)], [], h) =
  (rdR h a_0 4 5).bind fun r1 =>
  (ldI h r1 0 (i_3 + (2 : Int32))).bind fun i2 =>
  (rdR h a_0 4 5).bind fun r3 =>
  (ldI h r3 0 (i_3 + (3 : Int32))).bind fun i4 =>
  rL (E n_X4_reckons [.ref a_0, .int i_1, .int i2, .int i4] h) (fun l6 h5 =>
  bif !((lg_cmp l6 (1 : Int64)) == 0) then evR T_X4_summedBy E 78 ([(0, .ref a_0), (1, .int i_1), (2, .int i_2)], [], h5) else
  evR T_X4_summedBy E 58 ([(0, .ref a_0), (1, .int i_1), (3, .int i_3)], [], h5)) thr := by
  rw [evR_eq ok_T_X4_summedBy.loc (ops := b_X4_summedBy_32) rfl]; rfl
theorem e_X4_summedBy_58 (E : AEn) (a_0 : Nat) (i_1 : Int32) (i_3 : Int32) (h : AH) : evR T_X4_summedBy E 58 ([(0, .ref a_0), (1, .int i_1), (3, .int i_3)], [], h) =
  (rdR h a_0 4 5).bind fun r1 =>
  (ldI h r1 0 i_3).bind fun i2 =>
  (rdR h a_0 4 5).bind fun r3 =>
  (ldI h r3 0 (i_3 + (1 : Int32))).bind fun i4 =>
  rL (E n_X4_reckons [.ref a_0, .int i_1, .int i2, .int i4] h) (fun l6 h5 =>
  some (.inl (some (.long l6)), h5)) thr := by
  rw [evR_eq ok_T_X4_summedBy.loc (ops := b_X4_summedBy_58) rfl]; rfl
theorem e_X4_summedBy_78 (E : AEn) (a_0 : Nat) (i_1 : Int32) (i_2 : Int32) (h : AH) : evR T_X4_summedBy E 78 ([(0, .ref a_0), (1, .int i_1), (2, .int i_2)], [], h) =
  evR T_X4_summedBy E 2 ([(0, .ref a_0), (1, .int i_1), (2, .int (i_2 + (1 : Int32)))], [], h) := by
  rw [evR_eq ok_T_X4_summedBy.loc (ops := b_X4_summedBy_78) rfl]; rfl
theorem e_X4_summedBy_84 (E : AEn)  (h : AH) : evR T_X4_summedBy E 84 ([], [], h) =
  some (.inl (some (.long (0 : Int64))), h) := by
  rw [evR_eq ok_T_X4_summedBy.loc (ops := b_X4_summedBy_84) rfl]; rfl
theorem c_X4_summedBy (d : Nat) (a_0 : Nat) (i_1 : Int32) (h : AH) : callR (d + 1) n_X4_summedBy [.ref a_0, .int i_1] h =
  bif isO h a_0 4 then evR T_X4_summedBy (callR d) 0 ([(0, .ref a_0), (1, .int i_1)], [], h) else none := by
  rw [callR_succ, show aMTl[n_X4_summedBy]? = some (T_X4_summedBy, [0, 1]) from rfl]; show (bif (isO h a_0 4) && true then _ else _) = _; rw [Bool.and_true]; rfl
theorem e_X4_reckons_0 (E : AEn) (a_0 : Nat) (i_1 : Int32) (i_2 : Int32) (i_3 : Int32) (h : AH) : evR T_X4_reckons E 0 ([(0, .ref a_0), (1, .int i_1), (2, .int i_2), (3, .int i_3)], [], h) =
  (wrF h a_0 4 19 (.int (0 : Int32))).bind fun h1 =>
  evR T_X4_reckons E 8 ([(0, .ref a_0), (1, .int i_1), (3, .int i_3), (4, .int i_2)], [], h1) := by
  rw [evR_eq ok_T_X4_reckons.loc (ops := b_X4_reckons_0) rfl]; rfl
theorem e_X4_reckons_8 (E : AEn) (a_0 : Nat) (i_1 : Int32) (i_3 : Int32) (i_4 : Int32) (h : AH) : evR T_X4_reckons E 8 ([(0, .ref a_0), (1, .int i_1), (3, .int i_3), (4, .int i_4)], [], h) =
  bif decide (i_3 ≤ i_4) then evR T_X4_reckons E 135 ([(0, .ref a_0)], [], h) else
  evR T_X4_reckons E 14 ([(0, .ref a_0), (1, .int i_1), (3, .int i_3), (4, .int i_4)], [], h) := by
  rw [evR_eq ok_T_X4_reckons.loc (ops := b_X4_reckons_8) rfl]; rfl
theorem e_X4_reckons_14 (E : AEn) (a_0 : Nat) (i_1 : Int32) (i_3 : Int32) (i_4 : Int32) (h : AH) : evR T_X4_reckons E 14 ([(0, .ref a_0), (1, .int i_1), (3, .int i_3), (4, .int i_4)], [], h) =
  (rdR h a_0 4 3).bind fun r1 =>
  (ldI h r1 0 (((400 : Int32) * i_1) + i_4)).bind fun i2 =>
  (rdR h a_0 4 3).bind fun r3 =>
  (ldI h r3 0 (((400 : Int32) * i_1) + i_4)).bind fun i4 =>
  bif !((i2 &&& (15 : Int32)) == 0) then evR T_X4_reckons E 64 ([(0, .ref a_0), (1, .int i_1), (3, .int i_3), (4, .int i_4), (5, .int (i2 &&& (15 : Int32))), (6, .int (i4 >>> ((4 : Int32) &&& 31)))], [], h) else
  evR T_X4_reckons E 54 ([(0, .ref a_0), (1, .int i_1), (3, .int i_3), (4, .int i_4), (6, .int (i4 >>> ((4 : Int32) &&& 31)))], [], h) := by
  rw [evR_eq ok_T_X4_reckons.loc (ops := b_X4_reckons_14) rfl]; rfl
theorem e_X4_reckons_54 (E : AEn) (a_0 : Nat) (i_1 : Int32) (i_3 : Int32) (i_4 : Int32) (i_6 : Int32) (h : AH) : evR T_X4_reckons E 54 ([(0, .ref a_0), (1, .int i_1), (3, .int i_3), (4, .int i_4), (6, .int i_6)], [], h) =
  rV (E n_X4_push [.ref a_0, .long i_6.toInt64] h) (fun h1 =>
  evR T_X4_reckons E 129 ([(0, .ref a_0), (1, .int i_1), (3, .int i_3), (4, .int i_4)], [], h1)) thr := by
  rw [evR_eq ok_T_X4_reckons.loc (ops := b_X4_reckons_54) rfl]; rfl
theorem e_X4_reckons_64 (E : AEn) (a_0 : Nat) (i_1 : Int32) (i_3 : Int32) (i_4 : Int32) (i_5 : Int32) (i_6 : Int32) (h : AH) : evR T_X4_reckons E 64 ([(0, .ref a_0), (1, .int i_1), (3, .int i_3), (4, .int i_4), (5, .int i_5), (6, .int i_6)], [], h) =
  bif !(i_5 == (1 : Int32)) then evR T_X4_reckons E 84 ([(0, .ref a_0), (1, .int i_1), (3, .int i_3), (4, .int i_4), (5, .int i_5)], [], h) else
  evR T_X4_reckons E 70 ([(0, .ref a_0), (1, .int i_1), (3, .int i_3), (4, .int i_4), (6, .int i_6)], [], h) := by
  rw [evR_eq ok_T_X4_reckons.loc (ops := b_X4_reckons_64) rfl]; rfl
theorem e_X4_reckons_70 (E : AEn) (a_0 : Nat) (i_1 : Int32) (i_3 : Int32) (i_4 : Int32) (i_6 : Int32) (h : AH) : evR T_X4_reckons E 70 ([(0, .ref a_0), (1, .int i_1), (3, .int i_3), (4, .int i_4), (6, .int i_6)], [], h) =
  (rdR h a_0 4 20).bind fun r1 =>
  (ldL h r1 i_6).bind fun l2 =>
  rV (E n_X4_push [.ref a_0, .long l2] h) (fun h3 =>
  evR T_X4_reckons E 129 ([(0, .ref a_0), (1, .int i_1), (3, .int i_3), (4, .int i_4)], [], h3)) thr := by
  rw [evR_eq ok_T_X4_reckons.loc (ops := b_X4_reckons_70) rfl]; rfl
theorem e_X4_reckons_84 (E : AEn) (a_0 : Nat) (i_1 : Int32) (i_3 : Int32) (i_4 : Int32) (i_5 : Int32) (h : AH) : evR T_X4_reckons E 84 ([(0, .ref a_0), (1, .int i_1), (3, .int i_3), (4, .int i_4), (5, .int i_5)], [], h) =
  bif !(i_5 == (11 : Int32)) then evR T_X4_reckons E 104 ([(0, .ref a_0), (1, .int i_1), (3, .int i_3), (4, .int i_4), (5, .int i_5)], [], h) else
  evR T_X4_reckons E 91 ([(0, .ref a_0), (1, .int i_1), (3, .int i_3), (4, .int i_4)], [], h) := by
  rw [evR_eq ok_T_X4_reckons.loc (ops := b_X4_reckons_84) rfl]; rfl
theorem e_X4_reckons_91 (E : AEn) (a_0 : Nat) (i_1 : Int32) (i_3 : Int32) (i_4 : Int32) (h : AH) : evR T_X4_reckons E 91 ([(0, .ref a_0), (1, .int i_1), (3, .int i_3), (4, .int i_4)], [], h) =
  rL (E n_X4_pop [.ref a_0] h) (fun l2 h1 =>
  rV (E n_X4_push [.ref a_0, .long ((1 : Int64) - l2)] h1) (fun h3 =>
  evR T_X4_reckons E 129 ([(0, .ref a_0), (1, .int i_1), (3, .int i_3), (4, .int i_4)], [], h3)) thr) thr := by
  rw [evR_eq ok_T_X4_reckons.loc (ops := b_X4_reckons_91) rfl]; rfl
theorem e_X4_reckons_104 (E : AEn) (a_0 : Nat) (i_1 : Int32) (i_3 : Int32) (i_4 : Int32) (i_5 : Int32) (h : AH) : evR T_X4_reckons E 104 ([(0, .ref a_0), (1, .int i_1), (3, .int i_3), (4, .int i_4), (5, .int i_5)], [], h) =
  rL (E n_X4_pop [.ref a_0] h) (fun l2 h1 =>
  rL (E n_X4_pop [.ref a_0] h1) (fun l4 h3 =>
  rL (E n_X4_one [.int i_5, .long l4, .long l2] h3) (fun l6 h5 =>
  rV (E n_X4_push [.ref a_0, .long l6] h5) (fun h7 =>
  evR T_X4_reckons E 129 ([(0, .ref a_0), (1, .int i_1), (3, .int i_3), (4, .int i_4)], [], h7)) thr) thr) thr) thr := by
  rw [evR_eq ok_T_X4_reckons.loc (ops := b_X4_reckons_104) rfl]; rfl
theorem e_X4_reckons_129 (E : AEn) (a_0 : Nat) (i_1 : Int32) (i_3 : Int32) (i_4 : Int32) (h : AH) : evR T_X4_reckons E 129 ([(0, .ref a_0), (1, .int i_1), (3, .int i_3), (4, .int i_4)], [], h) =
  evR T_X4_reckons E 8 ([(0, .ref a_0), (1, .int i_1), (3, .int i_3), (4, .int (i_4 + (1 : Int32)))], [], h) := by
  rw [evR_eq ok_T_X4_reckons.loc (ops := b_X4_reckons_129) rfl]; rfl
theorem e_X4_reckons_135 (E : AEn) (a_0 : Nat) (h : AH) : evR T_X4_reckons E 135 ([(0, .ref a_0)], [], h) =
  rL (E n_X4_pop [.ref a_0] h) (fun l2 h1 =>
  some (.inl (some (.long l2)), h1)) thr := by
  rw [evR_eq ok_T_X4_reckons.loc (ops := b_X4_reckons_135) rfl]; rfl
theorem c_X4_reckons (d : Nat) (a_0 : Nat) (i_1 : Int32) (i_2 : Int32) (i_3 : Int32) (h : AH) : callR (d + 1) n_X4_reckons [.ref a_0, .int i_1, .int i_2, .int i_3] h =
  bif isO h a_0 4 then evR T_X4_reckons (callR d) 0 ([(0, .ref a_0), (1, .int i_1), (2, .int i_2), (3, .int i_3)], [], h) else none := by
  rw [callR_succ, show aMTl[n_X4_reckons]? = some (T_X4_reckons, [0, 1, 2, 3]) from rfl]; show (bif (isO h a_0 4) && true then _ else _) = _; rw [Bool.and_true]; rfl
theorem e_X4_push_0 (E : AEn) (a_0 : Nat) (l_1 : Int64) (h : AH) : evR T_X4_push E 0 ([(0, .ref a_0), (1, .long l_1)], [], h) =
  (rdR h a_0 4 18).bind fun r1 =>
  (rdI h a_0 4 19).bind fun i2 =>
  (stL h r1 i2 l_1).bind fun h3 =>
  (rdI h3 a_0 4 19).bind fun i4 =>
  (wrF h3 a_0 4 19 (.int (i4 + (1 : Int32)))).bind fun h5 =>
  some (.inl none, h5) := by
  rw [evR_eq ok_T_X4_push.loc (ops := b_X4_push_0) rfl]; rfl
theorem c_X4_push (d : Nat) (a_0 : Nat) (l_1 : Int64) (h : AH) : callR (d + 1) n_X4_push [.ref a_0, .long l_1] h =
  bif isO h a_0 4 then evR T_X4_push (callR d) 0 ([(0, .ref a_0), (1, .long l_1)], [], h) else none := by
  rw [callR_succ, show aMTl[n_X4_push]? = some (T_X4_push, [0, 1]) from rfl]; show (bif (isO h a_0 4) && true then _ else _) = _; rw [Bool.and_true]; rfl
theorem e_X4_pop_0 (E : AEn) (a_0 : Nat) (h : AH) : evR T_X4_pop E 0 ([(0, .ref a_0)], [], h) =
  (rdI h a_0 4 19).bind fun i1 =>
  (wrF h a_0 4 19 (.int (i1 - (1 : Int32)))).bind fun h2 =>
  (rdR h2 a_0 4 18).bind fun r3 =>
  (rdI h2 a_0 4 19).bind fun i4 =>
  (ldL h2 r3 i4).bind fun l5 =>
  some (.inl (some (.long l5)), h2) := by
  rw [evR_eq ok_T_X4_pop.loc (ops := b_X4_pop_0) rfl]; rfl
theorem c_X4_pop (d : Nat) (a_0 : Nat) (h : AH) : callR (d + 1) n_X4_pop [.ref a_0] h =
  bif isO h a_0 4 then evR T_X4_pop (callR d) 0 ([(0, .ref a_0)], [], h) else none := by
  rw [callR_succ, show aMTl[n_X4_pop]? = some (T_X4_pop, [0]) from rfl]; show (bif (isO h a_0 4) && true then _ else _) = _; rw [Bool.and_true]; rfl
theorem e_X4_one_0 (E : AEn) (i_0 : Int32) (l_1 : Int64) (l_3 : Int64) (h : AH) : evR T_X4_one E 0 ([(0, .int i_0), (1, .long l_1), (3, .long l_3)], [], h) =
  bif i_0 == (2 : Int32) then evR T_X4_one E 68 ([(1, .long l_1), (3, .long l_3)], [], h) else
  bif i_0 == (3 : Int32) then evR T_X4_one E 72 ([(1, .long l_1), (3, .long l_3)], [], h) else
  bif i_0 == (4 : Int32) then evR T_X4_one E 76 ([(1, .long l_1), (3, .long l_3)], [], h) else
  bif i_0 == (5 : Int32) then evR T_X4_one E 80 ([(1, .long l_1), (3, .long l_3)], [], h) else
  bif i_0 == (6 : Int32) then evR T_X4_one E 108 ([(1, .long l_1), (3, .long l_3)], [], h) else
  bif i_0 == (7 : Int32) then evR T_X4_one E 120 ([(1, .long l_1), (3, .long l_3)], [], h) else
  bif i_0 == (8 : Int32) then evR T_X4_one E 132 ([(1, .long l_1), (3, .long l_3)], [], h) else
  bif i_0 == (9 : Int32) then evR T_X4_one E 144 ([(1, .long l_1), (3, .long l_3)], [], h) else
  bif i_0 == (10 : Int32) then evR T_X4_one E 156 ([(1, .long l_1), (3, .long l_3)], [], h) else
  bif i_0 == (11 : Int32) then evR T_X4_one E 172 ([(1, .long l_1), (3, .long l_3)], [], h) else
  bif i_0 == (12 : Int32) then evR T_X4_one E 168 ([(1, .long l_1), (3, .long l_3)], [], h) else
  bif i_0 == (13 : Int32) then evR T_X4_one E 172 ([(1, .long l_1), (3, .long l_3)], [], h) else
  bif i_0 == (14 : Int32) then evR T_X4_one E 94 ([(1, .long l_1), (3, .long l_3)], [], h) else
  evR T_X4_one E 172 ([(1, .long l_1), (3, .long l_3)], [], h) := by
  rw [evR_eq ok_T_X4_one.loc (ops := b_X4_one_0) rfl]; rfl
theorem e_X4_one_68 (E : AEn) (l_1 : Int64) (l_3 : Int64) (h : AH) : evR T_X4_one E 68 ([(1, .long l_1), (3, .long l_3)], [], h) =
  some (.inl (some (.long (l_1 + l_3))), h) := by
  rw [evR_eq ok_T_X4_one.loc (ops := b_X4_one_68) rfl]; rfl
theorem e_X4_one_72 (E : AEn) (l_1 : Int64) (l_3 : Int64) (h : AH) : evR T_X4_one E 72 ([(1, .long l_1), (3, .long l_3)], [], h) =
  some (.inl (some (.long (l_1 - l_3))), h) := by
  rw [evR_eq ok_T_X4_one.loc (ops := b_X4_one_72) rfl]; rfl
theorem e_X4_one_76 (E : AEn) (l_1 : Int64) (l_3 : Int64) (h : AH) : evR T_X4_one E 76 ([(1, .long l_1), (3, .long l_3)], [], h) =
  some (.inl (some (.long (l_1 * l_3))), h) := by
  rw [evR_eq ok_T_X4_one.loc (ops := b_X4_one_76) rfl]; rfl
theorem e_X4_one_80 (E : AEn) (l_1 : Int64) (l_3 : Int64) (h : AH) : evR T_X4_one E 80 ([(1, .long l_1), (3, .long l_3)], [], h) =
  bif !((lg_cmp l_3 (0 : Int64)) == 0) then evR T_X4_one E 90 ([(1, .long l_1), (3, .long l_3)], [], h) else
  evR T_X4_one E 86 ([], [], h) := by
  rw [evR_eq ok_T_X4_one.loc (ops := b_X4_one_80) rfl]; rfl
theorem e_X4_one_86 (E : AEn)  (h : AH) : evR T_X4_one E 86 ([], [], h) =
  evR T_X4_one E 93 ([], [.long (0 : Int64)], h) := by
  rw [evR_eq ok_T_X4_one.loc (ops := b_X4_one_86) rfl]; rfl
theorem e_X4_one_90 (E : AEn) (l_1 : Int64) (l_3 : Int64) (h : AH) : evR T_X4_one E 90 ([(1, .long l_1), (3, .long l_3)], [], h) =
  (nzL l_3).bind fun _ =>
  evR T_X4_one E 93 ([], [.long (l_1 / l_3)], h) := by
  rw [evR_eq ok_T_X4_one.loc (ops := b_X4_one_90) rfl]; rfl
theorem e_X4_one_93 (E : AEn) (sl_0 : Int64) (h : AH) : evR T_X4_one E 93 ([], [.long sl_0], h) =
  some (.inl (some (.long sl_0)), h) := by
  rw [evR_eq ok_T_X4_one.loc (ops := b_X4_one_93) rfl]; rfl
theorem e_X4_one_94 (E : AEn) (l_1 : Int64) (l_3 : Int64) (h : AH) : evR T_X4_one E 94 ([(1, .long l_1), (3, .long l_3)], [], h) =
  bif !((lg_cmp l_3 (0 : Int64)) == 0) then evR T_X4_one E 104 ([(1, .long l_1), (3, .long l_3)], [], h) else
  evR T_X4_one E 100 ([], [], h) := by
  rw [evR_eq ok_T_X4_one.loc (ops := b_X4_one_94) rfl]; rfl
theorem e_X4_one_100 (E : AEn)  (h : AH) : evR T_X4_one E 100 ([], [], h) =
  evR T_X4_one E 107 ([], [.long (0 : Int64)], h) := by
  rw [evR_eq ok_T_X4_one.loc (ops := b_X4_one_100) rfl]; rfl
theorem e_X4_one_104 (E : AEn) (l_1 : Int64) (l_3 : Int64) (h : AH) : evR T_X4_one E 104 ([(1, .long l_1), (3, .long l_3)], [], h) =
  (nzL l_3).bind fun _ =>
  evR T_X4_one E 107 ([], [.long (l_1 - l_1 / l_3 * l_3)], h) := by
  rw [evR_eq ok_T_X4_one.loc (ops := b_X4_one_104) rfl]; rfl
theorem e_X4_one_107 (E : AEn) (sl_0 : Int64) (h : AH) : evR T_X4_one E 107 ([], [.long sl_0], h) =
  some (.inl (some (.long sl_0)), h) := by
  rw [evR_eq ok_T_X4_one.loc (ops := b_X4_one_107) rfl]; rfl
theorem e_X4_one_108 (E : AEn) (l_1 : Int64) (l_3 : Int64) (h : AH) : evR T_X4_one E 108 ([(1, .long l_1), (3, .long l_3)], [], h) =
  bif decide (0 ≤ (lg_cmp l_1 l_3)) then evR T_X4_one E 118 ([], [], h) else
  evR T_X4_one E 114 ([], [], h) := by
  rw [evR_eq ok_T_X4_one.loc (ops := b_X4_one_108) rfl]; rfl
theorem e_X4_one_114 (E : AEn)  (h : AH) : evR T_X4_one E 114 ([], [], h) =
  evR T_X4_one E 119 ([], [.long (1 : Int64)], h) := by
  rw [evR_eq ok_T_X4_one.loc (ops := b_X4_one_114) rfl]; rfl
theorem e_X4_one_118 (E : AEn)  (h : AH) : evR T_X4_one E 118 ([], [], h) =
  evR T_X4_one E 119 ([], [.long (0 : Int64)], h) := by
  rw [evR_eq ok_T_X4_one.loc (ops := b_X4_one_118) rfl]; rfl
theorem e_X4_one_119 (E : AEn) (sl_0 : Int64) (h : AH) : evR T_X4_one E 119 ([], [.long sl_0], h) =
  some (.inl (some (.long sl_0)), h) := by
  rw [evR_eq ok_T_X4_one.loc (ops := b_X4_one_119) rfl]; rfl
theorem e_X4_one_120 (E : AEn) (l_1 : Int64) (l_3 : Int64) (h : AH) : evR T_X4_one E 120 ([(1, .long l_1), (3, .long l_3)], [], h) =
  bif decide (0 < (lg_cmp l_1 l_3)) then evR T_X4_one E 130 ([], [], h) else
  evR T_X4_one E 126 ([], [], h) := by
  rw [evR_eq ok_T_X4_one.loc (ops := b_X4_one_120) rfl]; rfl
theorem e_X4_one_126 (E : AEn)  (h : AH) : evR T_X4_one E 126 ([], [], h) =
  evR T_X4_one E 131 ([], [.long (1 : Int64)], h) := by
  rw [evR_eq ok_T_X4_one.loc (ops := b_X4_one_126) rfl]; rfl
theorem e_X4_one_130 (E : AEn)  (h : AH) : evR T_X4_one E 130 ([], [], h) =
  evR T_X4_one E 131 ([], [.long (0 : Int64)], h) := by
  rw [evR_eq ok_T_X4_one.loc (ops := b_X4_one_130) rfl]; rfl
theorem e_X4_one_131 (E : AEn) (sl_0 : Int64) (h : AH) : evR T_X4_one E 131 ([], [.long sl_0], h) =
  some (.inl (some (.long sl_0)), h) := by
  rw [evR_eq ok_T_X4_one.loc (ops := b_X4_one_131) rfl]; rfl
theorem e_X4_one_132 (E : AEn) (l_1 : Int64) (l_3 : Int64) (h : AH) : evR T_X4_one E 132 ([(1, .long l_1), (3, .long l_3)], [], h) =
  bif !((lg_cmp l_1 l_3) == 0) then evR T_X4_one E 142 ([], [], h) else
  evR T_X4_one E 138 ([], [], h) := by
  rw [evR_eq ok_T_X4_one.loc (ops := b_X4_one_132) rfl]; rfl
theorem e_X4_one_138 (E : AEn)  (h : AH) : evR T_X4_one E 138 ([], [], h) =
  evR T_X4_one E 143 ([], [.long (1 : Int64)], h) := by
  rw [evR_eq ok_T_X4_one.loc (ops := b_X4_one_138) rfl]; rfl
theorem e_X4_one_142 (E : AEn)  (h : AH) : evR T_X4_one E 142 ([], [], h) =
  evR T_X4_one E 143 ([], [.long (0 : Int64)], h) := by
  rw [evR_eq ok_T_X4_one.loc (ops := b_X4_one_142) rfl]; rfl
theorem e_X4_one_143 (E : AEn) (sl_0 : Int64) (h : AH) : evR T_X4_one E 143 ([], [.long sl_0], h) =
  some (.inl (some (.long sl_0)), h) := by
  rw [evR_eq ok_T_X4_one.loc (ops := b_X4_one_143) rfl]; rfl
theorem e_X4_one_144 (E : AEn) (l_1 : Int64) (l_3 : Int64) (h : AH) : evR T_X4_one E 144 ([(1, .long l_1), (3, .long l_3)], [], h) =
  bif decide ((lg_cmp l_1 l_3) < 0) then evR T_X4_one E 154 ([], [], h) else
  evR T_X4_one E 150 ([], [], h) := by
  rw [evR_eq ok_T_X4_one.loc (ops := b_X4_one_144) rfl]; rfl
theorem e_X4_one_150 (E : AEn)  (h : AH) : evR T_X4_one E 150 ([], [], h) =
  evR T_X4_one E 155 ([], [.long (1 : Int64)], h) := by
  rw [evR_eq ok_T_X4_one.loc (ops := b_X4_one_150) rfl]; rfl
theorem e_X4_one_154 (E : AEn)  (h : AH) : evR T_X4_one E 154 ([], [], h) =
  evR T_X4_one E 155 ([], [.long (0 : Int64)], h) := by
  rw [evR_eq ok_T_X4_one.loc (ops := b_X4_one_154) rfl]; rfl
theorem e_X4_one_155 (E : AEn) (sl_0 : Int64) (h : AH) : evR T_X4_one E 155 ([], [.long sl_0], h) =
  some (.inl (some (.long sl_0)), h) := by
  rw [evR_eq ok_T_X4_one.loc (ops := b_X4_one_155) rfl]; rfl
theorem e_X4_one_156 (E : AEn) (l_1 : Int64) (l_3 : Int64) (h : AH) : evR T_X4_one E 156 ([(1, .long l_1), (3, .long l_3)], [], h) =
  bif decide ((lg_cmp l_1 l_3) ≤ 0) then evR T_X4_one E 166 ([], [], h) else
  evR T_X4_one E 162 ([], [], h) := by
  rw [evR_eq ok_T_X4_one.loc (ops := b_X4_one_156) rfl]; rfl
theorem e_X4_one_162 (E : AEn)  (h : AH) : evR T_X4_one E 162 ([], [], h) =
  evR T_X4_one E 167 ([], [.long (1 : Int64)], h) := by
  rw [evR_eq ok_T_X4_one.loc (ops := b_X4_one_162) rfl]; rfl
theorem e_X4_one_166 (E : AEn)  (h : AH) : evR T_X4_one E 166 ([], [], h) =
  evR T_X4_one E 167 ([], [.long (0 : Int64)], h) := by
  rw [evR_eq ok_T_X4_one.loc (ops := b_X4_one_166) rfl]; rfl
theorem e_X4_one_167 (E : AEn) (sl_0 : Int64) (h : AH) : evR T_X4_one E 167 ([], [.long sl_0], h) =
  some (.inl (some (.long sl_0)), h) := by
  rw [evR_eq ok_T_X4_one.loc (ops := b_X4_one_167) rfl]; rfl
theorem e_X4_one_168 (E : AEn) (l_1 : Int64) (l_3 : Int64) (h : AH) : evR T_X4_one E 168 ([(1, .long l_1), (3, .long l_3)], [], h) =
  some (.inl (some (.long (l_1 &&& l_3))), h) := by
  rw [evR_eq ok_T_X4_one.loc (ops := b_X4_one_168) rfl]; rfl
theorem e_X4_one_172 (E : AEn) (l_1 : Int64) (l_3 : Int64) (h : AH) : evR T_X4_one E 172 ([(1, .long l_1), (3, .long l_3)], [], h) =
  some (.inl (some (.long (l_1 ||| l_3))), h) := by
  rw [evR_eq ok_T_X4_one.loc (ops := b_X4_one_172) rfl]; rfl
theorem c_X4_one (d : Nat) (i_0 : Int32) (l_1 : Int64) (l_3 : Int64) (h : AH) : callR (d + 1) n_X4_one [.int i_0, .long l_1, .long l_3] h =
  evR T_X4_one (callR d) 0 ([(0, .int i_0), (1, .long l_1), (3, .long l_3)], [], h) := by
  rw [callR_succ, show aMTl[n_X4_one]? = some (T_X4_one, [0, 1, 3]) from rfl]; rfl
theorem e_X4_nextOfRow_0 (E : AEn) (a_0 : Nat) (h : AH) : evR T_X4_nextOfRow E 0 ([(0, .ref a_0)], [], h) =
  (rdI h a_0 4 26).bind fun i1 =>
  (rdI h a_0 4 25).bind fun i2 =>
  bif decide (i2 ≤ i1) then evR T_X4_nextOfRow E 53 ([], [], h) else
  evR T_X4_nextOfRow E 11 ([(0, .ref a_0)], [], h) := by
  rw [evR_eq ok_T_X4_nextOfRow.loc (ops := b_X4_nextOfRow_0) rfl]; rfl
theorem e_X4_nextOfRow_11 (E : AEn) (a_0 : Nat) (h : AH) : evR T_X4_nextOfRow E 11 ([(0, .ref a_0)], [], h) =
  (rdR h a_0 4 24).bind fun r1 =>
  (rdI h a_0 4 26).bind fun i2 =>
  (ldI h r1 0 i2).bind fun i3 =>
  (rdI h a_0 4 26).bind fun i4 =>
  (wrF h a_0 4 26 (.int (i4 + (1 : Int32)))).bind fun h5 =>
  (rdR h5 a_0 4 21).bind fun r6 =>
  (ldI h5 r6 0 (11 : Int32)).bind fun i7 =>
  rI (E n_X4_farOf [.ref a_0, .int i7, .int (i3 + (1 : Int32))] h5) (fun i9 h8 =>
  bif decide (i9 < 0) then evR T_X4_nextOfRow E 50 ([(0, .ref a_0)], [], h8) else
  evR T_X4_nextOfRow E 48 ([(1, .int i3)], [], h8)) thr := by
  rw [evR_eq ok_T_X4_nextOfRow.loc (ops := b_X4_nextOfRow_11) rfl]; rfl
theorem e_X4_nextOfRow_48 (E : AEn) (i_1 : Int32) (h : AH) : evR T_X4_nextOfRow E 48 ([(1, .int i_1)], [], h) =
  some (.inl (some (.int i_1)), h) := by
  rw [evR_eq ok_T_X4_nextOfRow.loc (ops := b_X4_nextOfRow_48) rfl]; rfl
theorem e_X4_nextOfRow_50 (E : AEn) (a_0 : Nat) (h : AH) : evR T_X4_nextOfRow E 50 ([(0, .ref a_0)], [], h) =
  evR T_X4_nextOfRow E 0 ([(0, .ref a_0)], [], h) := by
  rw [evR_eq ok_T_X4_nextOfRow.loc (ops := b_X4_nextOfRow_50) rfl]; rfl
theorem e_X4_nextOfRow_53 (E : AEn)  (h : AH) : evR T_X4_nextOfRow E 53 ([], [], h) =
  some (.inl (some (.int (-1 : Int32))), h) := by
  rw [evR_eq ok_T_X4_nextOfRow.loc (ops := b_X4_nextOfRow_53) rfl]; rfl
theorem c_X4_nextOfRow (d : Nat) (a_0 : Nat) (h : AH) : callR (d + 1) n_X4_nextOfRow [.ref a_0] h =
  bif isO h a_0 4 then evR T_X4_nextOfRow (callR d) 0 ([(0, .ref a_0)], [], h) else none := by
  rw [callR_succ, show aMTl[n_X4_nextOfRow]? = some (T_X4_nextOfRow, [0]) from rfl]; show (bif (isO h a_0 4) && true then _ else _) = _; rw [Bool.and_true]; rfl
theorem e_X4_sends_0 (E : AEn) (a_0 : Nat) (i_1 : Int32) (h : AH) : evR T_X4_sends E 0 ([(0, .ref a_0), (1, .int i_1)], [], h) =
  bif decide (i_1 < 0) then evR T_X4_sends E 17 ([], [], h) else
  evR T_X4_sends E 4 ([(0, .ref a_0), (1, .int i_1)], [], h) := by
  rw [evR_eq ok_T_X4_sends.loc (ops := b_X4_sends_0) rfl]; rfl
theorem e_X4_sends_4 (E : AEn) (a_0 : Nat) (i_1 : Int32) (h : AH) : evR T_X4_sends E 4 ([(0, .ref a_0), (1, .int i_1)], [], h) =
  (rdR h a_0 4 21).bind fun r1 =>
  (ldI h r1 0 (11 : Int32)).bind fun i2 =>
  bif !((i_1 + (1 : Int32)) == i2) then evR T_X4_sends E 18 ([(0, .ref a_0), (1, .int i_1)], [], h) else
  evR T_X4_sends E 17 ([], [], h) := by
  rw [evR_eq ok_T_X4_sends.loc (ops := b_X4_sends_4) rfl]; rfl
theorem e_X4_sends_17 (E : AEn)  (h : AH) : evR T_X4_sends E 17 ([], [], h) =
  some (.inl none, h) := by
  rw [evR_eq ok_T_X4_sends.loc (ops := b_X4_sends_17) rfl]; rfl
theorem e_X4_sends_18 (E : AEn) (a_0 : Nat) (i_1 : Int32) (h : AH) : evR T_X4_sends E 18 ([(0, .ref a_0), (1, .int i_1)], [], h) =
  (rdR h a_0 4 21).bind fun r1 =>
  (stI h r1 0 (12 : Int32) (i_1 + (1 : Int32))).bind fun h2 =>
  (rdR h2 a_0 4 21).bind fun r3 =>
  (rdR h2 a_0 4 21).bind fun r4 =>
  (ldI h2 r4 0 (11 : Int32)).bind fun i5 =>
  rI (E n_X4_farOf [.ref a_0, .int i5, .int (i_1 + (1 : Int32))] h2) (fun i7 h6 =>
  (stI h6 r3 0 (13 : Int32) i7).bind fun h8 =>
  some (.inl none, h8)) thr := by
  rw [evR_eq ok_T_X4_sends.loc (ops := b_X4_sends_18) rfl]; rfl
theorem c_X4_sends (d : Nat) (a_0 : Nat) (i_1 : Int32) (h : AH) : callR (d + 1) n_X4_sends [.ref a_0, .int i_1] h =
  bif isO h a_0 4 then evR T_X4_sends (callR d) 0 ([(0, .ref a_0), (1, .int i_1)], [], h) else none := by
  rw [callR_succ, show aMTl[n_X4_sends]? = some (T_X4_sends, [0, 1]) from rfl]; show (bif (isO h a_0 4) && true then _ else _) = _; rw [Bool.and_true]; rfl
theorem e_X4_comes_0 (E : AEn) (a_0 : Nat) (h : AH) : evR T_X4_comes E 0 ([(0, .ref a_0)], [], h) =
  rI (E n_X4_whereItIs [.ref a_0] h) (fun i2 h1 =>
  bif decide (0 ≤ i2) then evR T_X4_comes E 11 ([(0, .ref a_0), (1, .int i2)], [], h1) else
  evR T_X4_comes E 9 ([], [], h1)) thr := by
  rw [evR_eq ok_T_X4_comes.loc (ops := b_X4_comes_0) rfl]; rfl
theorem e_X4_comes_9 (E : AEn)  (h : AH) : evR T_X4_comes E 9 ([], [], h) =
  some (.inl (some (.int (-1 : Int32))), h) := by
  rw [evR_eq ok_T_X4_comes.loc (ops := b_X4_comes_9) rfl]; rfl
theorem e_X4_comes_11 (E : AEn) (a_0 : Nat) (i_1 : Int32) (h : AH) : evR T_X4_comes E 11 ([(0, .ref a_0), (1, .int i_1)], [], h) =
  (rdR h a_0 4 21).bind fun r1 =>
  (ldI h r1 0 (((14 : Int32) + ((4 : Int32) * i_1)) + (3 : Int32))).bind fun i2 =>
  (stI h r1 0 (((14 : Int32) + ((4 : Int32) * i_1)) + (3 : Int32)) (i2 + (1 : Int32))).bind fun h3 =>
  rI (E n_X4_heatOf [.ref a_0, .int i_1] h3) (fun i5 h4 =>
  bif !(i5 == 0) then evR T_X4_comes E 38 ([(0, .ref a_0), (1, .int i_1)], [], h4) else
  evR T_X4_comes E 36 ([], [], h4)) thr := by
  rw [evR_eq ok_T_X4_comes.loc (ops := b_X4_comes_11) rfl]; rfl
theorem e_X4_comes_36 (E : AEn)  (h : AH) : evR T_X4_comes E 36 ([], [], h) =
  some (.inl (some (.int (-1 : Int32))), h) := by
  rw [evR_eq ok_T_X4_comes.loc (ops := b_X4_comes_36) rfl]; rfl
theorem e_X4_comes_38 (E : AEn) (a_0 : Nat) (i_1 : Int32) (h : AH) : evR T_X4_comes E 38 ([(0, .ref a_0), (1, .int i_1)], [], h) =
  rI (E n_X4_heatOf [.ref a_0, .int i_1] h) (fun i2 h1 =>
  (rdR h1 a_0 4 21).bind fun r3 =>
  (ldI h1 r3 0 (1 : Int32)).bind fun i4 =>
  (rdR h1 a_0 4 21).bind fun r5 =>
  bif decide (0 ≤ (i2 - i4)) then evR T_X4_comes E 71 ([(1, .int i_1), (2, .int (i2 - i4))], [.int (((14 : Int32) + ((4 : Int32) * i_1)) + (1 : Int32)), .ref r5], h1) else
  evR T_X4_comes E 67 ([(1, .int i_1)], [.int (((14 : Int32) + ((4 : Int32) * i_1)) + (1 : Int32)), .ref r5], h1)) thr := by
  rw [evR_eq ok_T_X4_comes.loc (ops := b_X4_comes_38) rfl]; rfl
theorem e_X4_comes_67 (E : AEn) (i_1 : Int32) (si_0 : Int32) (sa_1 : Nat) (h : AH) : evR T_X4_comes E 67 ([(1, .int i_1)], [.int si_0, .ref sa_1], h) =
  evR T_X4_comes E 72 ([(1, .int i_1)], [.int (0 : Int32), .int si_0, .ref sa_1], h) := by
  rw [evR_eq ok_T_X4_comes.loc (ops := b_X4_comes_67) rfl]; rfl
theorem e_X4_comes_71 (E : AEn) (i_1 : Int32) (i_2 : Int32) (si_0 : Int32) (sa_1 : Nat) (h : AH) : evR T_X4_comes E 71 ([(1, .int i_1), (2, .int i_2)], [.int si_0, .ref sa_1], h) =
  evR T_X4_comes E 72 ([(1, .int i_1)], [.int i_2, .int si_0, .ref sa_1], h) := by
  rw [evR_eq ok_T_X4_comes.loc (ops := b_X4_comes_71) rfl]; rfl
theorem e_X4_comes_72 (E : AEn) (i_1 : Int32) (si_0 : Int32) (si_1 : Int32) (sa_2 : Nat) (h : AH) : evR T_X4_comes E 72 ([(1, .int i_1)], [.int si_0, .int si_1, .ref sa_2], h) =
  (stI h sa_2 0 si_1 si_0).bind fun h1 =>
  some (.inl (some (.int i_1)), h1) := by
  rw [evR_eq ok_T_X4_comes.loc (ops := b_X4_comes_72) rfl]; rfl
theorem c_X4_comes (d : Nat) (a_0 : Nat) (h : AH) : callR (d + 1) n_X4_comes [.ref a_0] h =
  bif isO h a_0 4 then evR T_X4_comes (callR d) 0 ([(0, .ref a_0)], [], h) else none := by
  rw [callR_succ, show aMTl[n_X4_comes]? = some (T_X4_comes, [0]) from rfl]; show (bif (isO h a_0 4) && true then _ else _) = _; rw [Bool.and_true]; rfl
theorem e_X4_burns_0 (E : AEn) (a_0 : Nat) (h : AH) : evR T_X4_burns E 0 ([(0, .ref a_0)], [], h) =
  (wrF h a_0 4 28 (.int (0 : Int32))).bind fun h1 =>
  evR T_X4_burns E 7 ([(0, .ref a_0), (1, .int (0 : Int32))], [], h1) := by
  rw [evR_eq ok_T_X4_burns.loc (ops := b_X4_burns_0) rfl]; rfl
theorem e_X4_burns_7 (E : AEn) (a_0 : Nat) (i_1 : Int32) (h : AH) : evR T_X4_burns E 7 ([(0, .ref a_0), (1, .int i_1)], [], h) =
  (rdR h a_0 4 21).bind fun r1 =>
  (ldI h r1 0 (3 : Int32)).bind fun i2 =>
  bif decide (i2 ≤ i_1) then evR T_X4_burns E 103 ([(0, .ref a_0)], [], h) else
  evR T_X4_burns E 17 ([(0, .ref a_0), (1, .int i_1)], [], h) := by
  rw [evR_eq ok_T_X4_burns.loc (ops := b_X4_burns_7) rfl]; rfl
theorem e_X4_burns_17 (E : AEn) (a_0 : Nat) (i_1 : Int32) (h : AH) : evR T_X4_burns E 17 ([(0, .ref a_0), (1, .int i_1)], [], h) =
  rI (E n_X4_heatOf [.ref a_0, .int i_1] h) (fun i2 h1 =>
  rI (E n_X4_worthOf [.ref a_0, .int i_1] h1) (fun i4 h3 =>
  bif decide (i4 ≤ i2) then evR T_X4_burns E 38 ([(0, .ref a_0), (1, .int i_1)], [], h3) else
  evR T_X4_burns E 30 ([(0, .ref a_0), (1, .int i_1)], [], h3)) thr) thr := by
  rw [evR_eq ok_T_X4_burns.loc (ops := b_X4_burns_17) rfl]; rfl
theorem e_X4_burns_30 (E : AEn) (a_0 : Nat) (i_1 : Int32) (h : AH) : evR T_X4_burns E 30 ([(0, .ref a_0), (1, .int i_1)], [], h) =
  rI (E n_X4_heatOf [.ref a_0, .int i_1] h) (fun i2 h1 =>
  evR T_X4_burns E 43 ([(0, .ref a_0), (1, .int i_1)], [.int i2], h1)) thr := by
  rw [evR_eq ok_T_X4_burns.loc (ops := b_X4_burns_30) rfl]; rfl
theorem e_X4_burns_38 (E : AEn) (a_0 : Nat) (i_1 : Int32) (h : AH) : evR T_X4_burns E 38 ([(0, .ref a_0), (1, .int i_1)], [], h) =
  rI (E n_X4_worthOf [.ref a_0, .int i_1] h) (fun i2 h1 =>
  evR T_X4_burns E 43 ([(0, .ref a_0), (1, .int i_1)], [.int i2], h1)) thr := by
  rw [evR_eq ok_T_X4_burns.loc (ops := b_X4_burns_38) rfl]; rfl
theorem e_X4_burns_43 (E : AEn) (a_0 : Nat) (i_1 : Int32) (si_0 : Int32) (h : AH) : evR T_X4_burns E 43 ([(0, .ref a_0), (1, .int i_1)], [.int si_0], h) =
  (rdR h a_0 4 21).bind fun r1 =>
  (ldI h r1 0 ((14 : Int32) + ((4 : Int32) * i_1))).bind fun i2 =>
  (stI h r1 0 ((14 : Int32) + ((4 : Int32) * i_1)) (i2 - si_0)).bind fun h3 =>
  (rdI h3 a_0 4 28).bind fun i4 =>
  rI (E n_X4_heatOf [.ref a_0, .int i_1] h3) (fun i6 h5 =>
  (rdR h5 a_0 4 21).bind fun r7 =>
  (ldI h5 r7 0 (2 : Int32)).bind fun i8 =>
  bif decide (i6 < i8) then evR T_X4_burns E 92 ([(0, .ref a_0), (1, .int i_1)], [.int i4, .ref a_0], h5) else
  evR T_X4_burns E 78 ([(0, .ref a_0), (1, .int i_1)], [.int i4, .ref a_0], h5)) thr := by
  rw [evR_eq ok_T_X4_burns.loc (ops := b_X4_burns_43) rfl]; rfl
theorem e_X4_burns_78 (E : AEn) (a_0 : Nat) (i_1 : Int32) (si_0 : Int32) (sa_1 : Nat) (h : AH) : evR T_X4_burns E 78 ([(0, .ref a_0), (1, .int i_1)], [.int si_0, .ref sa_1], h) =
  rI (E n_X4_worthOf [.ref a_0, .int i_1] h) (fun i2 h1 =>
  bif decide (i2 ≤ 0) then evR T_X4_burns E 92 ([(0, .ref a_0), (1, .int i_1)], [.int si_0, .ref sa_1], h1) else
  evR T_X4_burns E 86 ([(0, .ref a_0), (1, .int i_1)], [.int si_0, .ref sa_1], h1)) thr := by
  rw [evR_eq ok_T_X4_burns.loc (ops := b_X4_burns_78) rfl]; rfl
theorem e_X4_burns_86 (E : AEn) (a_0 : Nat) (i_1 : Int32) (si_0 : Int32) (sa_1 : Nat) (h : AH) : evR T_X4_burns E 86 ([(0, .ref a_0), (1, .int i_1)], [.int si_0, .ref sa_1], h) =
  evR T_X4_burns E 93 ([(0, .ref a_0), (1, .int i_1)], [.int ((1 : Int32) <<< (i_1 &&& 31)), .int si_0, .ref sa_1], h) := by
  rw [evR_eq ok_T_X4_burns.loc (ops := b_X4_burns_86) rfl]; rfl
theorem e_X4_burns_92 (E : AEn) (a_0 : Nat) (i_1 : Int32) (si_0 : Int32) (sa_1 : Nat) (h : AH) : evR T_X4_burns E 92 ([(0, .ref a_0), (1, .int i_1)], [.int si_0, .ref sa_1], h) =
  evR T_X4_burns E 93 ([(0, .ref a_0), (1, .int i_1)], [.int (0 : Int32), .int si_0, .ref sa_1], h) := by
  rw [evR_eq ok_T_X4_burns.loc (ops := b_X4_burns_92) rfl]; rfl
theorem e_X4_burns_93 (E : AEn) (a_0 : Nat) (i_1 : Int32) (si_0 : Int32) (si_1 : Int32) (sa_2 : Nat) (h : AH) : evR T_X4_burns E 93 ([(0, .ref a_0), (1, .int i_1)], [.int si_0, .int si_1, .ref sa_2], h) =
  (wrF h sa_2 4 28 (.int (si_1 ||| si_0))).bind fun h1 =>
  evR T_X4_burns E 7 ([(0, .ref a_0), (1, .int (i_1 + (1 : Int32)))], [], h1) := by
  rw [evR_eq ok_T_X4_burns.loc (ops := b_X4_burns_93) rfl]; rfl
theorem e_X4_burns_103 (E : AEn) (a_0 : Nat) (h : AH) : evR T_X4_burns E 103 ([(0, .ref a_0)], [], h) =
  evR T_X4_burns E 105 ([(0, .ref a_0), (1, .int (0 : Int32))], [], h) := by
  rw [evR_eq ok_T_X4_burns.loc (ops := b_X4_burns_103) rfl]; rfl
theorem e_X4_burns_105 (E : AEn) (a_0 : Nat) (i_1 : Int32) (h : AH) : evR T_X4_burns E 105 ([(0, .ref a_0), (1, .int i_1)], [], h) =
  (rdR h a_0 4 21).bind fun r1 =>
  (ldI h r1 0 (3 : Int32)).bind fun i2 =>
  bif decide (i2 ≤ i_1) then evR T_X4_burns E 209 ([], [], h) else
  evR T_X4_burns E 115 ([(0, .ref a_0), (1, .int i_1)], [], h) := by
  rw [evR_eq ok_T_X4_burns.loc (ops := b_X4_burns_105) rfl]; rfl
theorem e_X4_burns_115 (E : AEn) (a_0 : Nat) (i_1 : Int32) (h : AH) : evR T_X4_burns E 115 ([(0, .ref a_0), (1, .int i_1)], [], h) =
  rI (E n_X4_worthOf [.ref a_0, .int i_1] h) (fun i2 h1 =>
  bif !(i2 == 0) then evR T_X4_burns E 142 ([(0, .ref a_0), (1, .int i_1), (2, .int (((14 : Int32) + ((4 : Int32) * i_1)) + (1 : Int32)))], [], h1) else
  evR T_X4_burns E 132 ([(0, .ref a_0), (1, .int i_1), (2, .int (((14 : Int32) + ((4 : Int32) * i_1)) + (1 : Int32)))], [], h1)) thr := by
  rw [evR_eq ok_T_X4_burns.loc (ops := b_X4_burns_115) rfl]; rfl
theorem e_X4_burns_132 (E : AEn) (a_0 : Nat) (i_1 : Int32) (i_2 : Int32) (h : AH) : evR T_X4_burns E 132 ([(0, .ref a_0), (1, .int i_1), (2, .int i_2)], [], h) =
  (rdR h a_0 4 21).bind fun r1 =>
  (stI h r1 0 i_2 (0 : Int32)).bind fun h2 =>
  evR T_X4_burns E 203 ([(0, .ref a_0), (1, .int i_1)], [], h2) := by
  rw [evR_eq ok_T_X4_burns.loc (ops := b_X4_burns_132) rfl]; rfl
theorem e_X4_burns_142 (E : AEn) (a_0 : Nat) (i_1 : Int32) (i_2 : Int32) (h : AH) : evR T_X4_burns E 142 ([(0, .ref a_0), (1, .int i_1), (2, .int i_2)], [], h) =
  (rdR h a_0 4 21).bind fun r1 =>
  (ldI h r1 0 i_2).bind fun i2 =>
  bif decide (i2 ≤ 0) then evR T_X4_burns E 179 ([(0, .ref a_0), (1, .int i_1), (2, .int i_2)], [], h) else
  evR T_X4_burns E 151 ([(0, .ref a_0), (1, .int i_1), (2, .int i_2)], [], h) := by
  rw [evR_eq ok_T_X4_burns.loc (ops := b_X4_burns_142) rfl]; rfl
theorem e_X4_burns_151 (E : AEn) (a_0 : Nat) (i_1 : Int32) (i_2 : Int32) (h : AH) : evR T_X4_burns E 151 ([(0, .ref a_0), (1, .int i_1), (2, .int i_2)], [], h) =
  (rdR h a_0 4 21).bind fun r1 =>
  (ldI h r1 0 i_2).bind fun i2 =>
  (rdR h a_0 4 21).bind fun r3 =>
  (ldI h r3 0 i_2).bind fun i4 =>
  bif decide ((9 : Int32) ≤ i4) then evR T_X4_burns E 173 ([(0, .ref a_0), (1, .int i_1)], [.int i2, .int i_2, .ref r1], h) else
  evR T_X4_burns E 169 ([(0, .ref a_0), (1, .int i_1)], [.int i2, .int i_2, .ref r1], h) := by
  rw [evR_eq ok_T_X4_burns.loc (ops := b_X4_burns_151) rfl]; rfl
theorem e_X4_burns_169 (E : AEn) (a_0 : Nat) (i_1 : Int32) (si_0 : Int32) (si_1 : Int32) (sa_2 : Nat) (h : AH) : evR T_X4_burns E 169 ([(0, .ref a_0), (1, .int i_1)], [.int si_0, .int si_1, .ref sa_2], h) =
  evR T_X4_burns E 174 ([(0, .ref a_0), (1, .int i_1)], [.int (1 : Int32), .int si_0, .int si_1, .ref sa_2], h) := by
  rw [evR_eq ok_T_X4_burns.loc (ops := b_X4_burns_169) rfl]; rfl
theorem e_X4_burns_173 (E : AEn) (a_0 : Nat) (i_1 : Int32) (si_0 : Int32) (si_1 : Int32) (sa_2 : Nat) (h : AH) : evR T_X4_burns E 173 ([(0, .ref a_0), (1, .int i_1)], [.int si_0, .int si_1, .ref sa_2], h) =
  evR T_X4_burns E 174 ([(0, .ref a_0), (1, .int i_1)], [.int (0 : Int32), .int si_0, .int si_1, .ref sa_2], h) := by
  rw [evR_eq ok_T_X4_burns.loc (ops := b_X4_burns_173) rfl]; rfl
theorem e_X4_burns_174 (E : AEn) (a_0 : Nat) (i_1 : Int32) (si_0 : Int32) (si_1 : Int32) (si_2 : Int32) (sa_3 : Nat) (h : AH) : evR T_X4_burns E 174 ([(0, .ref a_0), (1, .int i_1)], [.int si_0, .int si_1, .int si_2, .ref sa_3], h) =
  (stI h sa_3 0 si_2 (si_1 + si_0)).bind fun h1 =>
  evR T_X4_burns E 203 ([(0, .ref a_0), (1, .int i_1)], [], h1) := by
  rw [evR_eq ok_T_X4_burns.loc (ops := b_X4_burns_174) rfl]; rfl
theorem e_X4_burns_179 (E : AEn) (a_0 : Nat) (i_1 : Int32) (i_2 : Int32) (h : AH) : evR T_X4_burns E 179 ([(0, .ref a_0), (1, .int i_1), (2, .int i_2)], [], h) =
  (rdR h a_0 4 21).bind fun r1 =>
  (ldI h r1 0 ((38 : Int32) + i_1)).bind fun i2 =>
  (rdI h a_0 4 28).bind fun i3 =>
  bif (i2 &&& i3) == 0 then evR T_X4_burns E 203 ([(0, .ref a_0), (1, .int i_1)], [], h) else
  evR T_X4_burns E 196 ([(0, .ref a_0), (1, .int i_1), (2, .int i_2)], [], h) := by
  rw [evR_eq ok_T_X4_burns.loc (ops := b_X4_burns_179) rfl]; rfl
theorem e_X4_burns_196 (E : AEn) (a_0 : Nat) (i_1 : Int32) (i_2 : Int32) (h : AH) : evR T_X4_burns E 196 ([(0, .ref a_0), (1, .int i_1), (2, .int i_2)], [], h) =
  (rdR h a_0 4 21).bind fun r1 =>
  (stI h r1 0 i_2 (1 : Int32)).bind fun h2 =>
  evR T_X4_burns E 203 ([(0, .ref a_0), (1, .int i_1)], [], h2) := by
  rw [evR_eq ok_T_X4_burns.loc (ops := b_X4_burns_196) rfl]; rfl
theorem e_X4_burns_203 (E : AEn) (a_0 : Nat) (i_1 : Int32) (h : AH) : evR T_X4_burns E 203 ([(0, .ref a_0), (1, .int i_1)], [], h) =
  evR T_X4_burns E 105 ([(0, .ref a_0), (1, .int (i_1 + (1 : Int32)))], [], h) := by
  rw [evR_eq ok_T_X4_burns.loc (ops := b_X4_burns_203) rfl]; rfl
theorem e_X4_burns_209 (E : AEn)  (h : AH) : evR T_X4_burns E 209 ([], [], h) =
  some (.inl none, h) := by
  rw [evR_eq ok_T_X4_burns.loc (ops := b_X4_burns_209) rfl]; rfl
theorem c_X4_burns (d : Nat) (a_0 : Nat) (h : AH) : callR (d + 1) n_X4_burns [.ref a_0] h =
  bif isO h a_0 4 then evR T_X4_burns (callR d) 0 ([(0, .ref a_0)], [], h) else none := by
  rw [callR_succ, show aMTl[n_X4_burns]? = some (T_X4_burns, [0]) from rfl]; show (bif (isO h a_0 4) && true then _ else _) = _; rw [Bool.and_true]; rfl
theorem e_X4_light_0 (E : AEn) (a_0 : Nat) (i_1 : Int32) (h : AH) : evR T_X4_light E 0 ([(0, .ref a_0), (1, .int i_1)], [], h) =
  rI (E n_X4_isHouse [.ref a_0, .int i_1] h) (fun i2 h1 =>
  bif i2 == 0 then evR T_X4_light E 16 ([], [], h1) else
  evR T_X4_light E 8 ([(0, .ref a_0), (1, .int i_1)], [], h1)) thr := by
  rw [evR_eq ok_T_X4_light.loc (ops := b_X4_light_0) rfl]; rfl
theorem e_X4_light_8 (E : AEn) (a_0 : Nat) (i_1 : Int32) (h : AH) : evR T_X4_light E 8 ([(0, .ref a_0), (1, .int i_1)], [], h) =
  rI (E n_X4_canLight [.ref a_0, .int i_1] h) (fun i2 h1 =>
  bif !(i2 == 0) then evR T_X4_light E 18 ([(0, .ref a_0), (1, .int i_1)], [], h1) else
  evR T_X4_light E 16 ([], [], h1)) thr := by
  rw [evR_eq ok_T_X4_light.loc (ops := b_X4_light_8) rfl]; rfl
theorem e_X4_light_16 (E : AEn)  (h : AH) : evR T_X4_light E 16 ([], [], h) =
  some (.inl (some (.int (-1 : Int32))), h) := by
  rw [evR_eq ok_T_X4_light.loc (ops := b_X4_light_16) rfl]; rfl
theorem e_X4_light_18 (E : AEn) (a_0 : Nat) (i_1 : Int32) (h : AH) : evR T_X4_light E 18 ([(0, .ref a_0), (1, .int i_1)], [], h) =
  rV (E n_X4_keepsAct [.ref a_0] h) (fun h1 =>
  (rdR h1 a_0 4 21).bind fun r2 =>
  (stI h1 r2 0 (((14 : Int32) + ((4 : Int32) * i_1)) + (1 : Int32)) (1 : Int32)).bind fun h3 =>
  rI (E n_X4_worthOf [.ref a_0, .int i_1] h3) (fun i5 h4 =>
  some (.inl (some (.int i5)), h4)) thr) thr := by
  rw [evR_eq ok_T_X4_light.loc (ops := b_X4_light_18) rfl]; rfl
theorem c_X4_light (d : Nat) (a_0 : Nat) (i_1 : Int32) (h : AH) : callR (d + 1) n_X4_light [.ref a_0, .int i_1] h =
  bif isO h a_0 4 then evR T_X4_light (callR d) 0 ([(0, .ref a_0), (1, .int i_1)], [], h) else none := by
  rw [callR_succ, show aMTl[n_X4_light]? = some (T_X4_light, [0, 1]) from rfl]; show (bif (isO h a_0 4) && true then _ else _) = _; rw [Bool.and_true]; rfl
theorem e_X4_canLight_0 (E : AEn) (a_0 : Nat) (i_1 : Int32) (h : AH) : evR T_X4_canLight E 0 ([(0, .ref a_0), (1, .int i_1)], [], h) =
  rI (E n_X4_worthOf [.ref a_0, .int i_1] h) (fun i2 h1 =>
  bif decide (i2 ≤ 0) then evR T_X4_canLight E 20 ([], [], h1) else
  evR T_X4_canLight E 8 ([(0, .ref a_0), (1, .int i_1)], [], h1)) thr := by
  rw [evR_eq ok_T_X4_canLight.loc (ops := b_X4_canLight_0) rfl]; rfl
theorem e_X4_canLight_8 (E : AEn) (a_0 : Nat) (i_1 : Int32) (h : AH) : evR T_X4_canLight E 8 ([(0, .ref a_0), (1, .int i_1)], [], h) =
  rI (E n_X4_heatOf [.ref a_0, .int i_1] h) (fun i2 h1 =>
  bif !(i2 == 0) then evR T_X4_canLight E 20 ([], [], h1) else
  evR T_X4_canLight E 16 ([], [], h1)) thr := by
  rw [evR_eq ok_T_X4_canLight.loc (ops := b_X4_canLight_8) rfl]; rfl
theorem e_X4_canLight_16 (E : AEn)  (h : AH) : evR T_X4_canLight E 16 ([], [], h) =
  evR T_X4_canLight E 21 ([], [.int (1 : Int32)], h) := by
  rw [evR_eq ok_T_X4_canLight.loc (ops := b_X4_canLight_16) rfl]; rfl
theorem e_X4_canLight_20 (E : AEn)  (h : AH) : evR T_X4_canLight E 20 ([], [], h) =
  evR T_X4_canLight E 21 ([], [.int (0 : Int32)], h) := by
  rw [evR_eq ok_T_X4_canLight.loc (ops := b_X4_canLight_20) rfl]; rfl
theorem e_X4_canLight_21 (E : AEn) (si_0 : Int32) (h : AH) : evR T_X4_canLight E 21 ([], [.int si_0], h) =
  (bif si_0 == 0 || si_0 == 1 then some si_0 else none).bind fun i1 => some (.inl (some (.int i1)), h) := by
  rw [evR_eq ok_T_X4_canLight.loc (ops := b_X4_canLight_21) rfl]; rfl
theorem c_X4_canLight (d : Nat) (a_0 : Nat) (i_1 : Int32) (h : AH) : callR (d + 1) n_X4_canLight [.ref a_0, .int i_1] h =
  bif isO h a_0 4 then evR T_X4_canLight (callR d) 0 ([(0, .ref a_0), (1, .int i_1)], [], h) else none := by
  rw [callR_succ, show aMTl[n_X4_canLight]? = some (T_X4_canLight, [0, 1]) from rfl]; show (bif (isO h a_0 4) && true then _ else _) = _; rw [Bool.and_true]; rfl
theorem e_X4_douse_0 (E : AEn) (a_0 : Nat) (i_1 : Int32) (h : AH) : evR T_X4_douse E 0 ([(0, .ref a_0), (1, .int i_1)], [], h) =
  rI (E n_X4_isHouse [.ref a_0, .int i_1] h) (fun i2 h1 =>
  bif i2 == 0 then evR T_X4_douse E 16 ([], [], h1) else
  evR T_X4_douse E 8 ([(0, .ref a_0), (1, .int i_1)], [], h1)) thr := by
  rw [evR_eq ok_T_X4_douse.loc (ops := b_X4_douse_0) rfl]; rfl
theorem e_X4_douse_8 (E : AEn) (a_0 : Nat) (i_1 : Int32) (h : AH) : evR T_X4_douse E 8 ([(0, .ref a_0), (1, .int i_1)], [], h) =
  rI (E n_X4_heatOf [.ref a_0, .int i_1] h) (fun i2 h1 =>
  bif !(i2 == 0) then evR T_X4_douse E 18 ([(0, .ref a_0), (1, .int i_1)], [], h1) else
  evR T_X4_douse E 16 ([], [], h1)) thr := by
  rw [evR_eq ok_T_X4_douse.loc (ops := b_X4_douse_8) rfl]; rfl
theorem e_X4_douse_16 (E : AEn)  (h : AH) : evR T_X4_douse E 16 ([], [], h) =
  some (.inl (some (.int (-1 : Int32))), h) := by
  rw [evR_eq ok_T_X4_douse.loc (ops := b_X4_douse_16) rfl]; rfl
theorem e_X4_douse_18 (E : AEn) (a_0 : Nat) (i_1 : Int32) (h : AH) : evR T_X4_douse E 18 ([(0, .ref a_0), (1, .int i_1)], [], h) =
  rV (E n_X4_keepsAct [.ref a_0] h) (fun h1 =>
  rI (E n_X4_heatOf [.ref a_0, .int i_1] h1) (fun i3 h2 =>
  (rdR h2 a_0 4 21).bind fun r4 =>
  (stI h2 r4 0 (((14 : Int32) + ((4 : Int32) * i_1)) + (1 : Int32)) (0 : Int32)).bind fun h5 =>
  some (.inl (some (.int i3)), h5)) thr) thr := by
  rw [evR_eq ok_T_X4_douse.loc (ops := b_X4_douse_18) rfl]; rfl
theorem c_X4_douse (d : Nat) (a_0 : Nat) (i_1 : Int32) (h : AH) : callR (d + 1) n_X4_douse [.ref a_0, .int i_1] h =
  bif isO h a_0 4 then evR T_X4_douse (callR d) 0 ([(0, .ref a_0), (1, .int i_1)], [], h) else none := by
  rw [callR_succ, show aMTl[n_X4_douse]? = some (T_X4_douse, [0, 1]) from rfl]; show (bif (isO h a_0 4) && true then _ else _) = _; rw [Bool.and_true]; rfl
theorem e_X4_say_0 (E : AEn) (a_0 : Nat) (i_1 : Int32) (i_2 : Int32) (h : AH) : evR T_X4_say E 0 ([(0, .ref a_0), (1, .int i_1), (2, .int i_2)], [], h) =
  rI (E n_X4_isHouse [.ref a_0, .int i_1] h) (fun i2 h1 =>
  bif i2 == 0 then evR T_X4_say E 29 ([], [], h1) else
  evR T_X4_say E 8 ([(0, .ref a_0), (1, .int i_1), (2, .int i_2)], [], h1)) thr := by
  rw [evR_eq ok_T_X4_say.loc (ops := b_X4_say_0) rfl]; rfl
theorem e_X4_say_8 (E : AEn) (a_0 : Nat) (i_1 : Int32) (i_2 : Int32) (h : AH) : evR T_X4_say E 8 ([(0, .ref a_0), (1, .int i_1), (2, .int i_2)], [], h) =
  rI (E n_X4_in [.long i_2.toInt64, .long (0 : Int64), .long (20 : Int64)] h) (fun i2 h1 =>
  bif i2 == 0 then evR T_X4_say E 29 ([], [], h1) else
  evR T_X4_say E 20 ([(0, .ref a_0), (1, .int i_1), (2, .int i_2)], [], h1)) thr := by
  rw [evR_eq ok_T_X4_say.loc (ops := b_X4_say_8) rfl]; rfl
theorem e_X4_say_20 (E : AEn) (a_0 : Nat) (i_1 : Int32) (i_2 : Int32) (h : AH) : evR T_X4_say E 20 ([(0, .ref a_0), (1, .int i_1), (2, .int i_2)], [], h) =
  rI (E n_X4_saysOf [.ref a_0, .int i_1] h) (fun i2 h1 =>
  bif !(i2 == i_2) then evR T_X4_say E 31 ([(0, .ref a_0), (1, .int i_1), (2, .int i_2)], [], h1) else
  evR T_X4_say E 29 ([], [], h1)) thr := by
  rw [evR_eq ok_T_X4_say.loc (ops := b_X4_say_20) rfl]; rfl
theorem e_X4_say_29 (E : AEn)  (h : AH) : evR T_X4_say E 29 ([], [], h) =
  some (.inl (some (.int (-1 : Int32))), h) := by
  rw [evR_eq ok_T_X4_say.loc (ops := b_X4_say_29) rfl]; rfl
theorem e_X4_say_31 (E : AEn) (a_0 : Nat) (i_1 : Int32) (i_2 : Int32) (h : AH) : evR T_X4_say E 31 ([(0, .ref a_0), (1, .int i_1), (2, .int i_2)], [], h) =
  rV (E n_X4_keepsAct [.ref a_0] h) (fun h1 =>
  rI (E n_X4_saysOf [.ref a_0, .int i_1] h1) (fun i3 h2 =>
  (rdR h2 a_0 4 21).bind fun r4 =>
  (stI h2 r4 0 (((14 : Int32) + ((4 : Int32) * i_1)) + (2 : Int32)) i_2).bind fun h5 =>
  some (.inl (some (.int i3)), h5)) thr) thr := by
  rw [evR_eq ok_T_X4_say.loc (ops := b_X4_say_31) rfl]; rfl
theorem c_X4_say (d : Nat) (a_0 : Nat) (i_1 : Int32) (i_2 : Int32) (h : AH) : callR (d + 1) n_X4_say [.ref a_0, .int i_1, .int i_2] h =
  bif isO h a_0 4 then evR T_X4_say (callR d) 0 ([(0, .ref a_0), (1, .int i_1), (2, .int i_2)], [], h) else none := by
  rw [callR_succ, show aMTl[n_X4_say]? = some (T_X4_say, [0, 1, 2]) from rfl]; show (bif (isO h a_0 4) && true then _ else _) = _; rw [Bool.and_true]; rfl
theorem e_X4_send_0 (E : AEn) (a_0 : Nat) (i_1 : Int32) (h : AH) : evR T_X4_send E 0 ([(0, .ref a_0), (1, .int i_1)], [], h) =
  rI (E n_X4_isHouse [.ref a_0, .int i_1] h) (fun i2 h1 =>
  bif i2 == 0 then evR T_X4_send E 32 ([], [], h1) else
  evR T_X4_send E 8 ([(0, .ref a_0), (1, .int i_1)], [], h1)) thr := by
  rw [evR_eq ok_T_X4_send.loc (ops := b_X4_send_0) rfl]; rfl
theorem e_X4_send_8 (E : AEn) (a_0 : Nat) (i_1 : Int32) (h : AH) : evR T_X4_send E 8 ([(0, .ref a_0), (1, .int i_1)], [], h) =
  rI (E n_X4_isOnItsWay [.ref a_0] h) (fun i2 h1 =>
  bif !(i2 == 0) then evR T_X4_send E 32 ([], [], h1) else
  evR T_X4_send E 15 ([(0, .ref a_0), (1, .int i_1)], [], h1)) thr := by
  rw [evR_eq ok_T_X4_send.loc (ops := b_X4_send_8) rfl]; rfl
theorem e_X4_send_15 (E : AEn) (a_0 : Nat) (i_1 : Int32) (h : AH) : evR T_X4_send E 15 ([(0, .ref a_0), (1, .int i_1)], [], h) =
  (rdR h a_0 4 21).bind fun r1 =>
  (ldI h r1 0 (11 : Int32)).bind fun i2 =>
  rI (E n_X4_farOf [.ref a_0, .int i2, .int (i_1 + (1 : Int32))] h) (fun i4 h3 =>
  bif decide (0 < i4) then evR T_X4_send E 34 ([(0, .ref a_0), (1, .int i_1)], [], h3) else
  evR T_X4_send E 32 ([], [], h3)) thr := by
  rw [evR_eq ok_T_X4_send.loc (ops := b_X4_send_15) rfl]; rfl
theorem e_X4_send_32 (E : AEn)  (h : AH) : evR T_X4_send E 32 ([], [], h) =
  some (.inl (some (.int (-1 : Int32))), h) := by
  rw [evR_eq ok_T_X4_send.loc (ops := b_X4_send_32) rfl]; rfl
theorem e_X4_send_34 (E : AEn) (a_0 : Nat) (i_1 : Int32) (h : AH) : evR T_X4_send E 34 ([(0, .ref a_0), (1, .int i_1)], [], h) =
  rV (E n_X4_keepsAct [.ref a_0] h) (fun h1 =>
  rV (E n_X4_sends [.ref a_0, .int i_1] h1) (fun h2 =>
  (rdR h2 a_0 4 21).bind fun r3 =>
  (ldI h2 r3 0 (13 : Int32)).bind fun i4 =>
  some (.inl (some (.int i4)), h2)) thr) thr := by
  rw [evR_eq ok_T_X4_send.loc (ops := b_X4_send_34) rfl]; rfl
theorem c_X4_send (d : Nat) (a_0 : Nat) (i_1 : Int32) (h : AH) : callR (d + 1) n_X4_send [.ref a_0, .int i_1] h =
  bif isO h a_0 4 then evR T_X4_send (callR d) 0 ([(0, .ref a_0), (1, .int i_1)], [], h) else none := by
  rw [callR_succ, show aMTl[n_X4_send]? = some (T_X4_send, [0, 1]) from rfl]; show (bif (isO h a_0 4) && true then _ else _) = _; rw [Bool.and_true]; rfl
theorem e_X4_ahead_0 (E : AEn) (a_0 : Nat) (i_1 : Int32) (i_2 : Int32) (i_3 : Int32) (h : AH) : evR T_X4_ahead E 0 ([(0, .ref a_0), (1, .int i_1), (2, .int i_2), (3, .int i_3)], [], h) =
  rI (E n_X4_isValley [.ref a_0] h) (fun i2 h1 =>
  bif i2 == 0 then evR T_X4_ahead E 44 ([], [], h1) else
  evR T_X4_ahead E 7 ([(0, .ref a_0), (1, .int i_1), (2, .int i_2), (3, .int i_3)], [], h1)) thr := by
  rw [evR_eq ok_T_X4_ahead.loc (ops := b_X4_ahead_0) rfl]; rfl
theorem e_X4_ahead_7 (E : AEn) (a_0 : Nat) (i_1 : Int32) (i_2 : Int32) (i_3 : Int32) (h : AH) : evR T_X4_ahead E 7 ([(0, .ref a_0), (1, .int i_1), (2, .int i_2), (3, .int i_3)], [], h) =
  rI (E n_X4_in [.long i_2.toInt64, .long (0 : Int64), .long (100 : Int64)] h) (fun i2 h1 =>
  bif i2 == 0 then evR T_X4_ahead E 44 ([], [], h1) else
  evR T_X4_ahead E 19 ([(0, .ref a_0), (1, .int i_1), (2, .int i_2), (3, .int i_3)], [], h1)) thr := by
  rw [evR_eq ok_T_X4_ahead.loc (ops := b_X4_ahead_7) rfl]; rfl
theorem e_X4_ahead_19 (E : AEn) (a_0 : Nat) (i_1 : Int32) (i_2 : Int32) (i_3 : Int32) (h : AH) : evR T_X4_ahead E 19 ([(0, .ref a_0), (1, .int i_1), (2, .int i_2), (3, .int i_3)], [], h) =
  rI (E n_X4_in [.long i_3.toInt64, .long (0 : Int64), .long (2 : Int64)] h) (fun i2 h1 =>
  bif i2 == 0 then evR T_X4_ahead E 44 ([], [], h1) else
  evR T_X4_ahead E 31 ([(0, .ref a_0), (1, .int i_1), (2, .int i_2), (3, .int i_3)], [], h1)) thr := by
  rw [evR_eq ok_T_X4_ahead.loc (ops := b_X4_ahead_19) rfl]; rfl
theorem e_X4_ahead_31 (E : AEn) (a_0 : Nat) (i_1 : Int32) (i_2 : Int32) (i_3 : Int32) (h : AH) : evR T_X4_ahead E 31 ([(0, .ref a_0), (1, .int i_1), (2, .int i_2), (3, .int i_3)], [], h) =
  bif decide ((2 : Int32) ≤ i_3) then evR T_X4_ahead E 46 ([(0, .ref a_0), (1, .int i_1), (2, .int i_2), (3, .int i_3)], [], h) else
  evR T_X4_ahead E 36 ([(0, .ref a_0), (1, .int i_1), (2, .int i_2), (3, .int i_3)], [], h) := by
  rw [evR_eq ok_T_X4_ahead.loc (ops := b_X4_ahead_31) rfl]; rfl
theorem e_X4_ahead_36 (E : AEn) (a_0 : Nat) (i_1 : Int32) (i_2 : Int32) (i_3 : Int32) (h : AH) : evR T_X4_ahead E 36 ([(0, .ref a_0), (1, .int i_1), (2, .int i_2), (3, .int i_3)], [], h) =
  rI (E n_X4_isHouse [.ref a_0, .int i_1] h) (fun i2 h1 =>
  bif !(i2 == 0) then evR T_X4_ahead E 46 ([(0, .ref a_0), (1, .int i_1), (2, .int i_2), (3, .int i_3)], [], h1) else
  evR T_X4_ahead E 44 ([], [], h1)) thr := by
  rw [evR_eq ok_T_X4_ahead.loc (ops := b_X4_ahead_36) rfl]; rfl
theorem e_X4_ahead_44 (E : AEn)  (h : AH) : evR T_X4_ahead E 44 ([], [], h) =
  some (.inl (some (.int (-1 : Int32))), h) := by
  rw [evR_eq ok_T_X4_ahead.loc (ops := b_X4_ahead_44) rfl]; rfl
theorem e_X4_ahead_46 (E : AEn) (a_0 : Nat) (i_1 : Int32) (i_2 : Int32) (i_3 : Int32) (h : AH) : evR T_X4_ahead E 46 ([(0, .ref a_0), (1, .int i_1), (2, .int i_2), (3, .int i_3)], [], h) =
  rV (E n_X4_keeps [.ref a_0] h) (fun h1 =>
  rV (E n_X4_passesAll [.ref a_0, .int i_2] h1) (fun h2 =>
  bif !(i_3 == 0) then evR T_X4_ahead E 67 ([(0, .ref a_0), (1, .int i_1), (3, .int i_3)], [], h2) else
  evR T_X4_ahead E 59 ([(0, .ref a_0), (1, .int i_1)], [], h2)) thr) thr := by
  rw [evR_eq ok_T_X4_ahead.loc (ops := b_X4_ahead_46) rfl]; rfl
theorem e_X4_ahead_59 (E : AEn) (a_0 : Nat) (i_1 : Int32) (h : AH) : evR T_X4_ahead E 59 ([(0, .ref a_0), (1, .int i_1)], [], h) =
  rI (E n_X4_heatOf [.ref a_0, .int i_1] h) (fun i2 h1 =>
  evR T_X4_ahead E 87 ([(0, .ref a_0)], [.int i2], h1)) thr := by
  rw [evR_eq ok_T_X4_ahead.loc (ops := b_X4_ahead_59) rfl]; rfl
theorem e_X4_ahead_67 (E : AEn) (a_0 : Nat) (i_1 : Int32) (i_3 : Int32) (h : AH) : evR T_X4_ahead E 67 ([(0, .ref a_0), (1, .int i_1), (3, .int i_3)], [], h) =
  bif !(i_3 == (1 : Int32)) then evR T_X4_ahead E 80 ([(0, .ref a_0)], [], h) else
  evR T_X4_ahead E 72 ([(0, .ref a_0), (1, .int i_1)], [], h) := by
  rw [evR_eq ok_T_X4_ahead.loc (ops := b_X4_ahead_67) rfl]; rfl
theorem e_X4_ahead_72 (E : AEn) (a_0 : Nat) (i_1 : Int32) (h : AH) : evR T_X4_ahead E 72 ([(0, .ref a_0), (1, .int i_1)], [], h) =
  rI (E n_X4_worthOf [.ref a_0, .int i_1] h) (fun i2 h1 =>
  evR T_X4_ahead E 87 ([(0, .ref a_0)], [.int i2], h1)) thr := by
  rw [evR_eq ok_T_X4_ahead.loc (ops := b_X4_ahead_72) rfl]; rfl
theorem e_X4_ahead_80 (E : AEn) (a_0 : Nat) (h : AH) : evR T_X4_ahead E 80 ([(0, .ref a_0)], [], h) =
  (rdR h a_0 4 21).bind fun r1 =>
  (ldI h r1 0 (11 : Int32)).bind fun i2 =>
  evR T_X4_ahead E 87 ([(0, .ref a_0)], [.int i2], h) := by
  rw [evR_eq ok_T_X4_ahead.loc (ops := b_X4_ahead_80) rfl]; rfl
theorem e_X4_ahead_87 (E : AEn) (a_0 : Nat) (si_0 : Int32) (h : AH) : evR T_X4_ahead E 87 ([(0, .ref a_0)], [.int si_0], h) =
  rV (E n_X4_laysBack [.ref a_0] h) (fun h1 =>
  some (.inl (some (.int si_0)), h1)) thr := by
  rw [evR_eq ok_T_X4_ahead.loc (ops := b_X4_ahead_87) rfl]; rfl
theorem c_X4_ahead (d : Nat) (a_0 : Nat) (i_1 : Int32) (i_2 : Int32) (i_3 : Int32) (h : AH) : callR (d + 1) n_X4_ahead [.ref a_0, .int i_1, .int i_2, .int i_3] h =
  bif isO h a_0 4 then evR T_X4_ahead (callR d) 0 ([(0, .ref a_0), (1, .int i_1), (2, .int i_2), (3, .int i_3)], [], h) else none := by
  rw [callR_succ, show aMTl[n_X4_ahead]? = some (T_X4_ahead, [0, 1, 2, 3]) from rfl]; show (bif (isO h a_0 4) && true then _ else _) = _; rw [Bool.and_true]; rfl
theorem e_X4_keeps_0 (E : AEn) (a_0 : Nat) (h : AH) : evR T_X4_keeps E 0 ([(0, .ref a_0)], [], h) =
  evR T_X4_keeps E 2 ([(0, .ref a_0), (1, .int (0 : Int32))], [], h) := by
  rw [evR_eq ok_T_X4_keeps.loc (ops := b_X4_keeps_0) rfl]; rfl
theorem e_X4_keeps_2 (E : AEn) (a_0 : Nat) (i_1 : Int32) (h : AH) : evR T_X4_keeps E 2 ([(0, .ref a_0), (1, .int i_1)], [], h) =
  bif decide ((28 : Int32) ≤ i_1) then evR T_X4_keeps E 29 ([], [], h) else
  evR T_X4_keeps E 8 ([(0, .ref a_0), (1, .int i_1)], [], h) := by
  rw [evR_eq ok_T_X4_keeps.loc (ops := b_X4_keeps_2) rfl]; rfl
theorem e_X4_keeps_8 (E : AEn) (a_0 : Nat) (i_1 : Int32) (h : AH) : evR T_X4_keeps E 8 ([(0, .ref a_0), (1, .int i_1)], [], h) =
  (rdR h a_0 4 32).bind fun r1 =>
  (rdR h a_0 4 21).bind fun r2 =>
  (ldI h r2 0 ((10 : Int32) + i_1)).bind fun i3 =>
  (stI h r1 0 i_1 i3).bind fun h4 =>
  evR T_X4_keeps E 2 ([(0, .ref a_0), (1, .int (i_1 + (1 : Int32)))], [], h4) := by
  rw [evR_eq ok_T_X4_keeps.loc (ops := b_X4_keeps_8) rfl]; rfl
theorem e_X4_keeps_29 (E : AEn)  (h : AH) : evR T_X4_keeps E 29 ([], [], h) =
  some (.inl none, h) := by
  rw [evR_eq ok_T_X4_keeps.loc (ops := b_X4_keeps_29) rfl]; rfl
theorem c_X4_keeps (d : Nat) (a_0 : Nat) (h : AH) : callR (d + 1) n_X4_keeps [.ref a_0] h =
  bif isO h a_0 4 then evR T_X4_keeps (callR d) 0 ([(0, .ref a_0)], [], h) else none := by
  rw [callR_succ, show aMTl[n_X4_keeps]? = some (T_X4_keeps, [0]) from rfl]; show (bif (isO h a_0 4) && true then _ else _) = _; rw [Bool.and_true]; rfl
theorem e_X4_passesAll_0 (E : AEn) (a_0 : Nat) (i_1 : Int32) (h : AH) : evR T_X4_passesAll E 0 ([(0, .ref a_0), (1, .int i_1)], [], h) =
  evR T_X4_passesAll E 2 ([(0, .ref a_0), (1, .int i_1), (2, .int (0 : Int32))], [], h) := by
  rw [evR_eq ok_T_X4_passesAll.loc (ops := b_X4_passesAll_0) rfl]; rfl
theorem e_X4_passesAll_2 (E : AEn) (a_0 : Nat) (i_1 : Int32) (i_2 : Int32) (h : AH) : evR T_X4_passesAll E 2 ([(0, .ref a_0), (1, .int i_1), (2, .int i_2)], [], h) =
  bif decide (i_1 ≤ i_2) then evR T_X4_passesAll E 18 ([], [], h) else
  evR T_X4_passesAll E 7 ([(0, .ref a_0), (1, .int i_1), (2, .int i_2)], [], h) := by
  rw [evR_eq ok_T_X4_passesAll.loc (ops := b_X4_passesAll_2) rfl]; rfl
theorem e_X4_passesAll_7 (E : AEn) (a_0 : Nat) (i_1 : Int32) (i_2 : Int32) (h : AH) : evR T_X4_passesAll E 7 ([(0, .ref a_0), (1, .int i_1), (2, .int i_2)], [], h) =
  rI (E n_X4_passes [.ref a_0] h) (fun i2 h1 =>
  evR T_X4_passesAll E 2 ([(0, .ref a_0), (1, .int i_1), (2, .int (i_2 + (1 : Int32)))], [], h1)) thr := by
  rw [evR_eq ok_T_X4_passesAll.loc (ops := b_X4_passesAll_7) rfl]; rfl
theorem e_X4_passesAll_18 (E : AEn)  (h : AH) : evR T_X4_passesAll E 18 ([], [], h) =
  some (.inl none, h) := by
  rw [evR_eq ok_T_X4_passesAll.loc (ops := b_X4_passesAll_18) rfl]; rfl
theorem c_X4_passesAll (d : Nat) (a_0 : Nat) (i_1 : Int32) (h : AH) : callR (d + 1) n_X4_passesAll [.ref a_0, .int i_1] h =
  bif isO h a_0 4 then evR T_X4_passesAll (callR d) 0 ([(0, .ref a_0), (1, .int i_1)], [], h) else none := by
  rw [callR_succ, show aMTl[n_X4_passesAll]? = some (T_X4_passesAll, [0, 1]) from rfl]; show (bif (isO h a_0 4) && true then _ else _) = _; rw [Bool.and_true]; rfl
theorem e_X4_laysBack_0 (E : AEn) (a_0 : Nat) (h : AH) : evR T_X4_laysBack E 0 ([(0, .ref a_0)], [], h) =
  evR T_X4_laysBack E 2 ([(0, .ref a_0), (1, .int (0 : Int32))], [], h) := by
  rw [evR_eq ok_T_X4_laysBack.loc (ops := b_X4_laysBack_0) rfl]; rfl
theorem e_X4_laysBack_2 (E : AEn) (a_0 : Nat) (i_1 : Int32) (h : AH) : evR T_X4_laysBack E 2 ([(0, .ref a_0), (1, .int i_1)], [], h) =
  bif decide ((28 : Int32) ≤ i_1) then evR T_X4_laysBack E 29 ([], [], h) else
  evR T_X4_laysBack E 8 ([(0, .ref a_0), (1, .int i_1)], [], h) := by
  rw [evR_eq ok_T_X4_laysBack.loc (ops := b_X4_laysBack_2) rfl]; rfl
theorem e_X4_laysBack_8 (E : AEn) (a_0 : Nat) (i_1 : Int32) (h : AH) : evR T_X4_laysBack E 8 ([(0, .ref a_0), (1, .int i_1)], [], h) =
  (rdR h a_0 4 21).bind fun r1 =>
  (rdR h a_0 4 32).bind fun r2 =>
  (ldI h r2 0 i_1).bind fun i3 =>
  (stI h r1 0 ((10 : Int32) + i_1) i3).bind fun h4 =>
  evR T_X4_laysBack E 2 ([(0, .ref a_0), (1, .int (i_1 + (1 : Int32)))], [], h4) := by
  rw [evR_eq ok_T_X4_laysBack.loc (ops := b_X4_laysBack_8) rfl]; rfl
theorem e_X4_laysBack_29 (E : AEn)  (h : AH) : evR T_X4_laysBack E 29 ([], [], h) =
  some (.inl none, h) := by
  rw [evR_eq ok_T_X4_laysBack.loc (ops := b_X4_laysBack_29) rfl]; rfl
theorem c_X4_laysBack (d : Nat) (a_0 : Nat) (h : AH) : callR (d + 1) n_X4_laysBack [.ref a_0] h =
  bif isO h a_0 4 then evR T_X4_laysBack (callR d) 0 ([(0, .ref a_0)], [], h) else none := by
  rw [callR_succ, show aMTl[n_X4_laysBack]? = some (T_X4_laysBack, [0]) from rfl]; show (bif (isO h a_0 4) && true then _ else _) = _; rw [Bool.and_true]; rfl
theorem e_X4_left_0 (E : AEn) (a_0 : Nat) (i_1 : Int32) (h : AH) : evR T_X4_left E 0 ([(0, .ref a_0), (1, .int i_1)], [], h) =
  rI (E n_X4_isValley [.ref a_0] h) (fun i2 h1 =>
  bif i2 == 0 then evR T_X4_left E 19 ([], [], h1) else
  evR T_X4_left E 7 ([(0, .ref a_0), (1, .int i_1)], [], h1)) thr := by
  rw [evR_eq ok_T_X4_left.loc (ops := b_X4_left_0) rfl]; rfl
theorem e_X4_left_7 (E : AEn) (a_0 : Nat) (i_1 : Int32) (h : AH) : evR T_X4_left E 7 ([(0, .ref a_0), (1, .int i_1)], [], h) =
  rI (E n_X4_in [.long i_1.toInt64, .long (0 : Int64), .long (100 : Int64)] h) (fun i2 h1 =>
  bif !(i2 == 0) then evR T_X4_left E 21 ([(0, .ref a_0), (1, .int i_1)], [], h1) else
  evR T_X4_left E 19 ([], [], h1)) thr := by
  rw [evR_eq ok_T_X4_left.loc (ops := b_X4_left_7) rfl]; rfl
theorem e_X4_left_19 (E : AEn)  (h : AH) : evR T_X4_left E 19 ([], [], h) =
  some (.inl (some (.int (-1 : Int32))), h) := by
  rw [evR_eq ok_T_X4_left.loc (ops := b_X4_left_19) rfl]; rfl
theorem e_X4_left_21 (E : AEn) (a_0 : Nat) (i_1 : Int32) (h : AH) : evR T_X4_left E 21 ([(0, .ref a_0), (1, .int i_1)], [], h) =
  rV (E n_X4_keeps [.ref a_0] h) (fun h1 =>
  rI (E n_X4_worthIn [.ref a_0, .int i_1] h1) (fun i3 h2 =>
  some (.inl (some (.int i3)), h2)) thr) thr := by
  rw [evR_eq ok_T_X4_left.loc (ops := b_X4_left_21) rfl]; rfl
theorem c_X4_left (d : Nat) (a_0 : Nat) (i_1 : Int32) (h : AH) : callR (d + 1) n_X4_left [.ref a_0, .int i_1] h =
  bif isO h a_0 4 then evR T_X4_left (callR d) 0 ([(0, .ref a_0), (1, .int i_1)], [], h) else none := by
  rw [callR_succ, show aMTl[n_X4_left]? = some (T_X4_left, [0, 1]) from rfl]; show (bif (isO h a_0 4) && true then _ else _) = _; rw [Bool.and_true]; rfl
theorem e_X4_worthIn_0 (E : AEn) (a_0 : Nat) (i_1 : Int32) (h : AH) : evR T_X4_worthIn E 0 ([(0, .ref a_0), (1, .int i_1)], [], h) =
  rV (E n_X4_passesAll [.ref a_0, .int i_1] h) (fun h1 =>
  rI (E n_X4_worthAll [.ref a_0] h1) (fun i3 h2 =>
  rV (E n_X4_laysBack [.ref a_0] h2) (fun h4 =>
  some (.inl (some (.int i3)), h4)) thr) thr) thr := by
  rw [evR_eq ok_T_X4_worthIn.loc (ops := b_X4_worthIn_0) rfl]; rfl
theorem c_X4_worthIn (d : Nat) (a_0 : Nat) (i_1 : Int32) (h : AH) : callR (d + 1) n_X4_worthIn [.ref a_0, .int i_1] h =
  bif isO h a_0 4 then evR T_X4_worthIn (callR d) 0 ([(0, .ref a_0), (1, .int i_1)], [], h) else none := by
  rw [callR_succ, show aMTl[n_X4_worthIn]? = some (T_X4_worthIn, [0, 1]) from rfl]; show (bif (isO h a_0 4) && true then _ else _) = _; rw [Bool.and_true]; rfl
theorem e_X4_out_0 (E : AEn) (a_0 : Nat) (h : AH) : evR T_X4_out E 0 ([(0, .ref a_0)], [], h) =
  rI (E n_X4_isValley [.ref a_0] h) (fun i2 h1 =>
  bif !(i2 == 0) then evR T_X4_out E 9 ([(0, .ref a_0)], [], h1) else
  evR T_X4_out E 7 ([], [], h1)) thr := by
  rw [evR_eq ok_T_X4_out.loc (ops := b_X4_out_0) rfl]; rfl
theorem e_X4_out_7 (E : AEn)  (h : AH) : evR T_X4_out E 7 ([], [], h) =
  some (.inl (some (.int (-1 : Int32))), h) := by
  rw [evR_eq ok_T_X4_out.loc (ops := b_X4_out_7) rfl]; rfl
theorem e_X4_out_9 (E : AEn) (a_0 : Nat) (h : AH) : evR T_X4_out E 9 ([(0, .ref a_0)], [], h) =
  rV (E n_X4_keeps [.ref a_0] h) (fun h1 =>
  evR T_X4_out E 18 ([(0, .ref a_0), (1, .int (-2 : Int32)), (2, .int (0 : Int32))], [], h1)) thr := by
  rw [evR_eq ok_T_X4_out.loc (ops := b_X4_out_9) rfl]; rfl
theorem e_X4_out_18 (E : AEn) (a_0 : Nat) (i_1 : Int32) (i_2 : Int32) (h : AH) : evR T_X4_out E 18 ([(0, .ref a_0), (1, .int i_1), (2, .int i_2)], [], h) =
  bif decide ((200 : Int32) ≤ i_2) then evR T_X4_out E 55 ([(0, .ref a_0), (1, .int i_1)], [], h) else
  evR T_X4_out E 25 ([(0, .ref a_0), (1, .int i_1), (2, .int i_2)], [], h) := by
  rw [evR_eq ok_T_X4_out.loc (ops := b_X4_out_18) rfl]; rfl
theorem e_X4_out_25 (E : AEn) (a_0 : Nat) (i_1 : Int32) (i_2 : Int32) (h : AH) : evR T_X4_out E 25 ([(0, .ref a_0), (1, .int i_1), (2, .int i_2)], [], h) =
  bif decide (0 ≤ i_1) then evR T_X4_out E 55 ([(0, .ref a_0), (1, .int i_1)], [], h) else
  evR T_X4_out E 29 ([(0, .ref a_0), (1, .int i_1), (2, .int i_2)], [], h) := by
  rw [evR_eq ok_T_X4_out.loc (ops := b_X4_out_25) rfl]; rfl
theorem e_X4_out_29 (E : AEn) (a_0 : Nat) (i_1 : Int32) (i_2 : Int32) (h : AH) : evR T_X4_out E 29 ([(0, .ref a_0), (1, .int i_1), (2, .int i_2)], [], h) =
  rI (E n_X4_fires [.ref a_0] h) (fun i2 h1 =>
  bif !(i2 == 0) then evR T_X4_out E 44 ([(0, .ref a_0), (1, .int i_1), (2, .int i_2)], [], h1) else
  evR T_X4_out E 36 ([(0, .ref a_0), (2, .int i_2)], [], h1)) thr := by
  rw [evR_eq ok_T_X4_out.loc (ops := b_X4_out_29) rfl]; rfl
theorem e_X4_out_36 (E : AEn) (a_0 : Nat) (i_2 : Int32) (h : AH) : evR T_X4_out E 36 ([(0, .ref a_0), (2, .int i_2)], [], h) =
  (rdR h a_0 4 21).bind fun r1 =>
  (ldI h r1 0 (10 : Int32)).bind fun i2 =>
  evR T_X4_out E 44 ([(0, .ref a_0), (1, .int i2), (2, .int i_2)], [], h) := by
  rw [evR_eq ok_T_X4_out.loc (ops := b_X4_out_36) rfl]; rfl
theorem e_X4_out_44 (E : AEn) (a_0 : Nat) (i_1 : Int32) (i_2 : Int32) (h : AH) : evR T_X4_out E 44 ([(0, .ref a_0), (1, .int i_1), (2, .int i_2)], [], h) =
  rI (E n_X4_passes [.ref a_0] h) (fun i2 h1 =>
  evR T_X4_out E 18 ([(0, .ref a_0), (1, .int i_1), (2, .int (i_2 + (1 : Int32)))], [], h1)) thr := by
  rw [evR_eq ok_T_X4_out.loc (ops := b_X4_out_44) rfl]; rfl
theorem e_X4_out_55 (E : AEn) (a_0 : Nat) (i_1 : Int32) (h : AH) : evR T_X4_out E 55 ([(0, .ref a_0), (1, .int i_1)], [], h) =
  rV (E n_X4_laysBack [.ref a_0] h) (fun h1 =>
  some (.inl (some (.int i_1)), h1)) thr := by
  rw [evR_eq ok_T_X4_out.loc (ops := b_X4_out_55) rfl]; rfl
theorem c_X4_out (d : Nat) (a_0 : Nat) (h : AH) : callR (d + 1) n_X4_out [.ref a_0] h =
  bif isO h a_0 4 then evR T_X4_out (callR d) 0 ([(0, .ref a_0)], [], h) else none := by
  rw [callR_succ, show aMTl[n_X4_out]? = some (T_X4_out, [0]) from rfl]; show (bif (isO h a_0 4) && true then _ else _) = _; rw [Bool.and_true]; rfl
theorem e_X4_canBurn_0 (E : AEn) (a_0 : Nat) (h : AH) : evR T_X4_canBurn E 0 ([(0, .ref a_0)], [], h) =
  rI (E n_X4_isValley [.ref a_0] h) (fun i2 h1 =>
  bif !(i2 == 0) then evR T_X4_canBurn E 9 ([(0, .ref a_0)], [], h1) else
  evR T_X4_canBurn E 7 ([], [], h1)) thr := by
  rw [evR_eq ok_T_X4_canBurn.loc (ops := b_X4_canBurn_0) rfl]; rfl
theorem e_X4_canBurn_7 (E : AEn)  (h : AH) : evR T_X4_canBurn E 7 ([], [], h) =
  some (.inl (some (.int (-1 : Int32))), h) := by
  rw [evR_eq ok_T_X4_canBurn.loc (ops := b_X4_canBurn_7) rfl]; rfl
theorem e_X4_canBurn_9 (E : AEn) (a_0 : Nat) (h : AH) : evR T_X4_canBurn E 9 ([(0, .ref a_0)], [], h) =
  rI (E n_X4_fires [.ref a_0] h) (fun i2 h1 =>
  evR T_X4_canBurn E 16 ([(0, .ref a_0), (1, .int i2), (2, .int (1 : Int32))], [], h1)) thr := by
  rw [evR_eq ok_T_X4_canBurn.loc (ops := b_X4_canBurn_9) rfl]; rfl
theorem e_X4_canBurn_16 (E : AEn) (a_0 : Nat) (i_1 : Int32) (i_2 : Int32) (h : AH) : evR T_X4_canBurn E 16 ([(0, .ref a_0), (1, .int i_1), (2, .int i_2)], [], h) =
  bif i_2 == 0 then evR T_X4_canBurn E 84 ([(1, .int i_1)], [], h) else
  evR T_X4_canBurn E 20 ([(0, .ref a_0), (1, .int i_1)], [], h) := by
  rw [evR_eq ok_T_X4_canBurn.loc (ops := b_X4_canBurn_16) rfl]; rfl
theorem e_X4_canBurn_20 (E : AEn) (a_0 : Nat) (i_1 : Int32) (h : AH) : evR T_X4_canBurn E 20 ([(0, .ref a_0), (1, .int i_1)], [], h) =
  evR T_X4_canBurn E 24 ([(0, .ref a_0), (1, .int i_1), (2, .int (0 : Int32)), (3, .int (0 : Int32))], [], h) := by
  rw [evR_eq ok_T_X4_canBurn.loc (ops := b_X4_canBurn_20) rfl]; rfl
theorem e_X4_canBurn_24 (E : AEn) (a_0 : Nat) (i_1 : Int32) (i_2 : Int32) (i_3 : Int32) (h : AH) : evR T_X4_canBurn E 24 ([(0, .ref a_0), (1, .int i_1), (2, .int i_2), (3, .int i_3)], [], h) =
  (rdR h a_0 4 21).bind fun r1 =>
  (ldI h r1 0 (3 : Int32)).bind fun i2 =>
  bif decide (i2 ≤ i_3) then evR T_X4_canBurn E 81 ([(0, .ref a_0), (1, .int i_1), (2, .int i_2)], [], h) else
  evR T_X4_canBurn E 34 ([(0, .ref a_0), (1, .int i_1), (2, .int i_2), (3, .int i_3)], [], h) := by
  rw [evR_eq ok_T_X4_canBurn.loc (ops := b_X4_canBurn_24) rfl]; rfl
theorem e_X4_canBurn_34 (E : AEn) (a_0 : Nat) (i_1 : Int32) (i_2 : Int32) (i_3 : Int32) (h : AH) : evR T_X4_canBurn E 34 ([(0, .ref a_0), (1, .int i_1), (2, .int i_2), (3, .int i_3)], [], h) =
  rI (E n_X4_isOf [.int i_1, .int i_3] h) (fun i2 h1 =>
  bif !(i2 == 0) then evR T_X4_canBurn E 75 ([(0, .ref a_0), (1, .int i_1), (2, .int i_2), (3, .int i_3)], [], h1) else
  evR T_X4_canBurn E 42 ([(0, .ref a_0), (1, .int i_1), (2, .int i_2), (3, .int i_3)], [], h1)) thr := by
  rw [evR_eq ok_T_X4_canBurn.loc (ops := b_X4_canBurn_34) rfl]; rfl
theorem e_X4_canBurn_42 (E : AEn) (a_0 : Nat) (i_1 : Int32) (i_2 : Int32) (i_3 : Int32) (h : AH) : evR T_X4_canBurn E 42 ([(0, .ref a_0), (1, .int i_1), (2, .int i_2), (3, .int i_3)], [], h) =
  rI (E n_X4_worthOf [.ref a_0, .int i_3] h) (fun i2 h1 =>
  bif i2 == 0 then evR T_X4_canBurn E 75 ([(0, .ref a_0), (1, .int i_1), (2, .int i_2), (3, .int i_3)], [], h1) else
  evR T_X4_canBurn E 50 ([(0, .ref a_0), (1, .int i_1), (2, .int i_2), (3, .int i_3)], [], h1)) thr := by
  rw [evR_eq ok_T_X4_canBurn.loc (ops := b_X4_canBurn_42) rfl]; rfl
theorem e_X4_canBurn_50 (E : AEn) (a_0 : Nat) (i_1 : Int32) (i_2 : Int32) (i_3 : Int32) (h : AH) : evR T_X4_canBurn E 50 ([(0, .ref a_0), (1, .int i_1), (2, .int i_2), (3, .int i_3)], [], h) =
  (rdR h a_0 4 21).bind fun r1 =>
  (ldI h r1 0 ((38 : Int32) + i_3)).bind fun i2 =>
  bif !((i2 &&& i_1) == 0) then evR T_X4_canBurn E 67 ([(0, .ref a_0), (1, .int i_1), (3, .int i_3)], [], h) else
  evR T_X4_canBurn E 64 ([(0, .ref a_0), (1, .int i_1), (2, .int i_2), (3, .int i_3)], [], h) := by
  rw [evR_eq ok_T_X4_canBurn.loc (ops := b_X4_canBurn_50) rfl]; rfl
theorem e_X4_canBurn_64 (E : AEn) (a_0 : Nat) (i_1 : Int32) (i_2 : Int32) (i_3 : Int32) (h : AH) : evR T_X4_canBurn E 64 ([(0, .ref a_0), (1, .int i_1), (2, .int i_2), (3, .int i_3)], [], h) =
  evR T_X4_canBurn E 75 ([(0, .ref a_0), (1, .int i_1), (2, .int i_2), (3, .int i_3)], [], h) := by
  rw [evR_eq ok_T_X4_canBurn.loc (ops := b_X4_canBurn_64) rfl]; rfl
theorem e_X4_canBurn_67 (E : AEn) (a_0 : Nat) (i_1 : Int32) (i_3 : Int32) (h : AH) : evR T_X4_canBurn E 67 ([(0, .ref a_0), (1, .int i_1), (3, .int i_3)], [], h) =
  evR T_X4_canBurn E 75 ([(0, .ref a_0), (1, .int (i_1 ||| ((1 : Int32) <<< (i_3 &&& 31)))), (2, .int (1 : Int32)), (3, .int i_3)], [], h) := by
  rw [evR_eq ok_T_X4_canBurn.loc (ops := b_X4_canBurn_67) rfl]; rfl
theorem e_X4_canBurn_75 (E : AEn) (a_0 : Nat) (i_1 : Int32) (i_2 : Int32) (i_3 : Int32) (h : AH) : evR T_X4_canBurn E 75 ([(0, .ref a_0), (1, .int i_1), (2, .int i_2), (3, .int i_3)], [], h) =
  evR T_X4_canBurn E 24 ([(0, .ref a_0), (1, .int i_1), (2, .int i_2), (3, .int (i_3 + (1 : Int32)))], [], h) := by
  rw [evR_eq ok_T_X4_canBurn.loc (ops := b_X4_canBurn_75) rfl]; rfl
theorem e_X4_canBurn_81 (E : AEn) (a_0 : Nat) (i_1 : Int32) (i_2 : Int32) (h : AH) : evR T_X4_canBurn E 81 ([(0, .ref a_0), (1, .int i_1), (2, .int i_2)], [], h) =
  evR T_X4_canBurn E 16 ([(0, .ref a_0), (1, .int i_1), (2, .int i_2)], [], h) := by
  rw [evR_eq ok_T_X4_canBurn.loc (ops := b_X4_canBurn_81) rfl]; rfl
theorem e_X4_canBurn_84 (E : AEn) (i_1 : Int32) (h : AH) : evR T_X4_canBurn E 84 ([(1, .int i_1)], [], h) =
  some (.inl (some (.int i_1)), h) := by
  rw [evR_eq ok_T_X4_canBurn.loc (ops := b_X4_canBurn_84) rfl]; rfl
theorem c_X4_canBurn (d : Nat) (a_0 : Nat) (h : AH) : callR (d + 1) n_X4_canBurn [.ref a_0] h =
  bif isO h a_0 4 then evR T_X4_canBurn (callR d) 0 ([(0, .ref a_0)], [], h) else none := by
  rw [callR_succ, show aMTl[n_X4_canBurn]? = some (T_X4_canBurn, [0]) from rfl]; show (bif (isO h a_0 4) && true then _ else _) = _; rw [Bool.and_true]; rfl
theorem e_X4_isOf_0 (E : AEn) (i_0 : Int32) (i_1 : Int32) (h : AH) : evR T_X4_isOf E 0 ([(0, .int i_0), (1, .int i_1)], [], h) =
  bif !(((i_0 >>> (i_1 &&& 31)) &&& (1 : Int32)) == (1 : Int32)) then evR T_X4_isOf E 13 ([], [], h) else
  evR T_X4_isOf E 9 ([], [], h) := by
  rw [evR_eq ok_T_X4_isOf.loc (ops := b_X4_isOf_0) rfl]; rfl
theorem e_X4_isOf_9 (E : AEn)  (h : AH) : evR T_X4_isOf E 9 ([], [], h) =
  evR T_X4_isOf E 14 ([], [.int (1 : Int32)], h) := by
  rw [evR_eq ok_T_X4_isOf.loc (ops := b_X4_isOf_9) rfl]; rfl
theorem e_X4_isOf_13 (E : AEn)  (h : AH) : evR T_X4_isOf E 13 ([], [], h) =
  evR T_X4_isOf E 14 ([], [.int (0 : Int32)], h) := by
  rw [evR_eq ok_T_X4_isOf.loc (ops := b_X4_isOf_13) rfl]; rfl
theorem e_X4_isOf_14 (E : AEn) (si_0 : Int32) (h : AH) : evR T_X4_isOf E 14 ([], [.int si_0], h) =
  (bif si_0 == 0 || si_0 == 1 then some si_0 else none).bind fun i1 => some (.inl (some (.int i1)), h) := by
  rw [evR_eq ok_T_X4_isOf.loc (ops := b_X4_isOf_14) rfl]; rfl
theorem c_X4_isOf (d : Nat) (i_0 : Int32) (i_1 : Int32) (h : AH) : callR (d + 1) n_X4_isOf [.int i_0, .int i_1] h =
  evR T_X4_isOf (callR d) 0 ([(0, .int i_0), (1, .int i_1)], [], h) := by
  rw [callR_succ, show aMTl[n_X4_isOf]? = some (T_X4_isOf, [0, 1]) from rfl]; rfl
theorem e_X4_order_0 (E : AEn) (a_0 : Nat) (i_1 : Int32) (i_2 : Int32) (h : AH) : evR T_X4_order E 0 ([(0, .ref a_0), (1, .int i_1), (2, .int i_2)], [], h) =
  rI (E n_X4_isValley [.ref a_0] h) (fun i2 h1 =>
  bif i2 == 0 then evR T_X4_order E 33 ([], [], h1) else
  evR T_X4_order E 7 ([(0, .ref a_0), (1, .int i_1), (2, .int i_2)], [], h1)) thr := by
  rw [evR_eq ok_T_X4_order.loc (ops := b_X4_order_0) rfl]; rfl
theorem e_X4_order_7 (E : AEn) (a_0 : Nat) (i_1 : Int32) (i_2 : Int32) (h : AH) : evR T_X4_order E 7 ([(0, .ref a_0), (1, .int i_1), (2, .int i_2)], [], h) =
  rI (E n_X4_in [.long i_1.toInt64, .long (1 : Int64), .long (60 : Int64)] h) (fun i2 h1 =>
  bif i2 == 0 then evR T_X4_order E 33 ([], [], h1) else
  evR T_X4_order E 19 ([(0, .ref a_0), (1, .int i_1), (2, .int i_2)], [], h1)) thr := by
  rw [evR_eq ok_T_X4_order.loc (ops := b_X4_order_7) rfl]; rfl
theorem e_X4_order_19 (E : AEn) (a_0 : Nat) (i_1 : Int32) (i_2 : Int32) (h : AH) : evR T_X4_order E 19 ([(0, .ref a_0), (1, .int i_1), (2, .int i_2)], [], h) =
  rI (E n_X4_in [.long i_2.toInt64, .long (-1 : Int64), .long (5 : Int64)] h) (fun i2 h1 =>
  bif !(i2 == 0) then evR T_X4_order E 36 ([(0, .ref a_0), (1, .int i_1), (2, .int i_2)], [], h1) else
  evR T_X4_order E 33 ([], [], h1)) thr := by
  rw [evR_eq ok_T_X4_order.loc (ops := b_X4_order_19) rfl]; rfl
theorem e_X4_order_33 (E : AEn)  (h : AH) : evR T_X4_order E 33 ([], [], h) =
  some (.inl (some (.int (-3 : Int32))), h) := by
  rw [evR_eq ok_T_X4_order.loc (ops := b_X4_order_33) rfl]; rfl
theorem e_X4_order_36 (E : AEn) (a_0 : Nat) (i_1 : Int32) (i_2 : Int32) (h : AH) : evR T_X4_order E 36 ([(0, .ref a_0), (1, .int i_1), (2, .int i_2)], [], h) =
  rI (E n_X4_fires [.ref a_0] h) (fun i2 h1 =>
  rV (E n_X4_keeps [.ref a_0] h1) (fun h3 =>
  rV (E n_X4_findsOrder [.ref a_0, .int i_1, .int i2] h3) (fun h4 =>
  bif !(i_2 == (-1 : Int32)) then evR T_X4_order E 63 ([(0, .ref a_0), (2, .int i_2), (3, .int i2)], [], h4) else
  evR T_X4_order E 56 ([(0, .ref a_0)], [], h4)) thr) thr) thr := by
  rw [evR_eq ok_T_X4_order.loc (ops := b_X4_order_36) rfl]; rfl
theorem e_X4_order_56 (E : AEn) (a_0 : Nat) (h : AH) : evR T_X4_order E 56 ([(0, .ref a_0)], [], h) =
  (rdI h a_0 4 34).bind fun i1 =>
  evR T_X4_order E 82 ([], [.int i1], h) := by
  rw [evR_eq ok_T_X4_order.loc (ops := b_X4_order_56) rfl]; rfl
theorem e_X4_order_63 (E : AEn) (a_0 : Nat) (i_2 : Int32) (i_3 : Int32) (h : AH) : evR T_X4_order E 63 ([(0, .ref a_0), (2, .int i_2), (3, .int i_3)], [], h) =
  rI (E n_X4_bits [.int i_3] h) (fun i2 h1 =>
  bif decide (i2 ≤ i_2) then evR T_X4_order E 80 ([], [], h1) else
  evR T_X4_order E 71 ([(0, .ref a_0), (2, .int i_2)], [], h1)) thr := by
  rw [evR_eq ok_T_X4_order.loc (ops := b_X4_order_63) rfl]; rfl
theorem e_X4_order_71 (E : AEn) (a_0 : Nat) (i_2 : Int32) (h : AH) : evR T_X4_order E 71 ([(0, .ref a_0), (2, .int i_2)], [], h) =
  (rdR h a_0 4 33).bind fun r1 =>
  (ldI h r1 0 i_2).bind fun i2 =>
  evR T_X4_order E 82 ([], [.int i2], h) := by
  rw [evR_eq ok_T_X4_order.loc (ops := b_X4_order_71) rfl]; rfl
theorem e_X4_order_80 (E : AEn)  (h : AH) : evR T_X4_order E 80 ([], [], h) =
  evR T_X4_order E 82 ([], [.int (-2 : Int32)], h) := by
  rw [evR_eq ok_T_X4_order.loc (ops := b_X4_order_80) rfl]; rfl
theorem e_X4_order_82 (E : AEn) (si_0 : Int32) (h : AH) : evR T_X4_order E 82 ([], [.int si_0], h) =
  some (.inl (some (.int si_0)), h) := by
  rw [evR_eq ok_T_X4_order.loc (ops := b_X4_order_82) rfl]; rfl
theorem c_X4_order (d : Nat) (a_0 : Nat) (i_1 : Int32) (i_2 : Int32) (h : AH) : callR (d + 1) n_X4_order [.ref a_0, .int i_1, .int i_2] h =
  bif isO h a_0 4 then evR T_X4_order (callR d) 0 ([(0, .ref a_0), (1, .int i_1), (2, .int i_2)], [], h) else none := by
  rw [callR_succ, show aMTl[n_X4_order]? = some (T_X4_order, [0, 1, 2]) from rfl]; show (bif (isO h a_0 4) && true then _ else _) = _; rw [Bool.and_true]; rfl
theorem e_X4_findsOrder_0 (E : AEn) (a_0 : Nat) (i_1 : Int32) (i_2 : Int32) (h : AH) : evR T_X4_findsOrder E 0 ([(0, .ref a_0), (1, .int i_1), (2, .int i_2)], [], h) =
  rI (E n_X4_bits [.int i_2] h) (fun i2 h1 =>
  (wrF h1 a_0 4 34 (.int (-1 : Int32))).bind fun h3 =>
  bif !(i2 == 0) then evR T_X4_findsOrder E 21 ([(0, .ref a_0), (1, .int i_1), (2, .int i_2), (3, .int i2)], [], h3) else
  evR T_X4_findsOrder E 14 ([(0, .ref a_0), (1, .int i_1)], [], h3)) thr := by
  rw [evR_eq ok_T_X4_findsOrder.loc (ops := b_X4_findsOrder_0) rfl]; rfl
theorem e_X4_findsOrder_14 (E : AEn) (a_0 : Nat) (i_1 : Int32) (h : AH) : evR T_X4_findsOrder E 14 ([(0, .ref a_0), (1, .int i_1)], [], h) =
  rV (E n_X4_weighsRow [.ref a_0, .int i_1, .int (0 : Int32)] h) (fun h1 =>
  some (.inl none, h1)) thr := by
  rw [evR_eq ok_T_X4_findsOrder.loc (ops := b_X4_findsOrder_14) rfl]; rfl
theorem e_X4_findsOrder_21 (E : AEn) (a_0 : Nat) (i_1 : Int32) (i_2 : Int32) (i_3 : Int32) (h : AH) : evR T_X4_findsOrder E 21 ([(0, .ref a_0), (1, .int i_1), (2, .int i_2), (3, .int i_3)], [], h) =
  (rdR h a_0 4 24).bind fun r1 =>
  (stI h r1 0 (0 : Int32) (-1 : Int32)).bind fun h2 =>
  evR T_X4_findsOrder E 31 ([(0, .ref a_0), (1, .int i_1), (2, .int i_2), (3, .int i_3), (4, .int (0 : Int32))], [], h2) := by
  rw [evR_eq ok_T_X4_findsOrder.loc (ops := b_X4_findsOrder_21) rfl]; rfl
theorem e_X4_findsOrder_31 (E : AEn) (a_0 : Nat) (i_1 : Int32) (i_2 : Int32) (i_3 : Int32) (i_4 : Int32) (h : AH) : evR T_X4_findsOrder E 31 ([(0, .ref a_0), (1, .int i_1), (2, .int i_2), (3, .int i_3), (4, .int i_4)], [], h) =
  bif decide (i_4 < 0) then evR T_X4_findsOrder E 130 ([], [], h) else
  evR T_X4_findsOrder E 36 ([(0, .ref a_0), (1, .int i_1), (2, .int i_2), (3, .int i_3), (4, .int i_4)], [], h) := by
  rw [evR_eq ok_T_X4_findsOrder.loc (ops := b_X4_findsOrder_31) rfl]; rfl
theorem e_X4_findsOrder_36 (E : AEn) (a_0 : Nat) (i_1 : Int32) (i_2 : Int32) (i_3 : Int32) (i_4 : Int32) (h : AH) : evR T_X4_findsOrder E 36 ([(0, .ref a_0), (1, .int i_1), (2, .int i_2), (3, .int i_3), (4, .int i_4)], [], h) =
  (rdR h a_0 4 24).bind fun r1 =>
  (ldI h r1 0 i_4).bind fun i2 =>
  (stI h r1 0 i_4 (i2 + (1 : Int32))).bind fun h3 =>
  (rdR h3 a_0 4 24).bind fun r4 =>
  (ldI h3 r4 0 i_4).bind fun i5 =>
  (rdR h3 a_0 4 21).bind fun r6 =>
  (ldI h3 r6 0 (3 : Int32)).bind fun i7 =>
  bif decide (i5 < i7) then evR T_X4_findsOrder E 69 ([(0, .ref a_0), (1, .int i_1), (2, .int i_2), (3, .int i_3), (4, .int i_4)], [], h3) else
  evR T_X4_findsOrder E 63 ([(0, .ref a_0), (1, .int i_1), (2, .int i_2), (3, .int i_3), (4, .int i_4)], [], h3) := by
  rw [evR_eq ok_T_X4_findsOrder.loc (ops := b_X4_findsOrder_36) rfl]; rfl
theorem e_X4_findsOrder_63 (E : AEn) (a_0 : Nat) (i_1 : Int32) (i_2 : Int32) (i_3 : Int32) (i_4 : Int32) (h : AH) : evR T_X4_findsOrder E 63 ([(0, .ref a_0), (1, .int i_1), (2, .int i_2), (3, .int i_3), (4, .int i_4)], [], h) =
  evR T_X4_findsOrder E 31 ([(0, .ref a_0), (1, .int i_1), (2, .int i_2), (3, .int i_3), (4, .int (i_4 + (-1 : Int32)))], [], h) := by
  rw [evR_eq ok_T_X4_findsOrder.loc (ops := b_X4_findsOrder_63) rfl]; rfl
theorem e_X4_findsOrder_69 (E : AEn) (a_0 : Nat) (i_1 : Int32) (i_2 : Int32) (i_3 : Int32) (i_4 : Int32) (h : AH) : evR T_X4_findsOrder E 69 ([(0, .ref a_0), (1, .int i_1), (2, .int i_2), (3, .int i_3), (4, .int i_4)], [], h) =
  (rdR h a_0 4 24).bind fun r1 =>
  (ldI h r1 0 i_4).bind fun i2 =>
  rI (E n_X4_isOf [.int i_2, .int i2] h) (fun i4 h3 =>
  bif i4 == 0 then evR T_X4_findsOrder E 31 ([(0, .ref a_0), (1, .int i_1), (2, .int i_2), (3, .int i_3), (4, .int i_4)], [], h3) else
  evR T_X4_findsOrder E 83 ([(0, .ref a_0), (1, .int i_1), (2, .int i_2), (3, .int i_3), (4, .int i_4)], [], h3)) thr := by
  rw [evR_eq ok_T_X4_findsOrder.loc (ops := b_X4_findsOrder_69) rfl]; rfl
theorem e_X4_findsOrder_83 (E : AEn) (a_0 : Nat) (i_1 : Int32) (i_2 : Int32) (i_3 : Int32) (i_4 : Int32) (h : AH) : evR T_X4_findsOrder E 83 ([(0, .ref a_0), (1, .int i_1), (2, .int i_2), (3, .int i_3), (4, .int i_4)], [], h) =
  (rdR h a_0 4 24).bind fun r1 =>
  (ldI h r1 0 i_4).bind fun i2 =>
  rI (E n_X4_isInRow [.ref a_0, .int i_4, .int i2] h) (fun i4 h3 =>
  bif !(i4 == 0) then evR T_X4_findsOrder E 31 ([(0, .ref a_0), (1, .int i_1), (2, .int i_2), (3, .int i_3), (4, .int i_4)], [], h3) else
  evR T_X4_findsOrder E 99 ([(0, .ref a_0), (1, .int i_1), (2, .int i_2), (3, .int i_3), (4, .int i_4)], [], h3)) thr := by
  rw [evR_eq ok_T_X4_findsOrder.loc (ops := b_X4_findsOrder_83) rfl]; rfl
theorem e_X4_findsOrder_99 (E : AEn) (a_0 : Nat) (i_1 : Int32) (i_2 : Int32) (i_3 : Int32) (i_4 : Int32) (h : AH) : evR T_X4_findsOrder E 99 ([(0, .ref a_0), (1, .int i_1), (2, .int i_2), (3, .int i_3), (4, .int i_4)], [], h) =
  bif !((i_4 + (1 : Int32)) == i_3) then evR T_X4_findsOrder E 116 ([(0, .ref a_0), (1, .int i_1), (2, .int i_2), (3, .int i_3), (4, .int i_4)], [], h) else
  evR T_X4_findsOrder E 107 ([(0, .ref a_0), (1, .int i_1), (2, .int i_2), (3, .int i_3), (4, .int i_4)], [], h) := by
  rw [evR_eq ok_T_X4_findsOrder.loc (ops := b_X4_findsOrder_99) rfl]; rfl
theorem e_X4_findsOrder_107 (E : AEn) (a_0 : Nat) (i_1 : Int32) (i_2 : Int32) (i_3 : Int32) (i_4 : Int32) (h : AH) : evR T_X4_findsOrder E 107 ([(0, .ref a_0), (1, .int i_1), (2, .int i_2), (3, .int i_3), (4, .int i_4)], [], h) =
  rV (E n_X4_weighsRow [.ref a_0, .int i_1, .int i_3] h) (fun h1 =>
  evR T_X4_findsOrder E 31 ([(0, .ref a_0), (1, .int i_1), (2, .int i_2), (3, .int i_3), (4, .int i_4)], [], h1)) thr := by
  rw [evR_eq ok_T_X4_findsOrder.loc (ops := b_X4_findsOrder_107) rfl]; rfl
theorem e_X4_findsOrder_116 (E : AEn) (a_0 : Nat) (i_1 : Int32) (i_2 : Int32) (i_3 : Int32) (i_4 : Int32) (h : AH) : evR T_X4_findsOrder E 116 ([(0, .ref a_0), (1, .int i_1), (2, .int i_2), (3, .int i_3), (4, .int i_4)], [], h) =
  (rdR h a_0 4 24).bind fun r1 =>
  (stI h r1 0 (i_4 + (1 : Int32)) (-1 : Int32)).bind fun h2 =>
  evR T_X4_findsOrder E 31 ([(0, .ref a_0), (1, .int i_1), (2, .int i_2), (3, .int i_3), (4, .int (i_4 + (1 : Int32)))], [], h2) := by
  rw [evR_eq ok_T_X4_findsOrder.loc (ops := b_X4_findsOrder_116) rfl]; rfl
theorem e_X4_findsOrder_130 (E : AEn)  (h : AH) : evR T_X4_findsOrder E 130 ([], [], h) =
  some (.inl none, h) := by
  rw [evR_eq ok_T_X4_findsOrder.loc (ops := b_X4_findsOrder_130) rfl]; rfl
theorem c_X4_findsOrder (d : Nat) (a_0 : Nat) (i_1 : Int32) (i_2 : Int32) (h : AH) : callR (d + 1) n_X4_findsOrder [.ref a_0, .int i_1, .int i_2] h =
  bif isO h a_0 4 then evR T_X4_findsOrder (callR d) 0 ([(0, .ref a_0), (1, .int i_1), (2, .int i_2)], [], h) else none := by
  rw [callR_succ, show aMTl[n_X4_findsOrder]? = some (T_X4_findsOrder, [0, 1, 2]) from rfl]; show (bif (isO h a_0 4) && true then _ else _) = _; rw [Bool.and_true]; rfl
theorem e_X4_weighsRow_0 (E : AEn) (a_0 : Nat) (i_1 : Int32) (i_2 : Int32) (h : AH) : evR T_X4_weighsRow E 0 ([(0, .ref a_0), (1, .int i_1), (2, .int i_2)], [], h) =
  (wrF h a_0 4 25 (.int i_2)).bind fun h1 =>
  (wrF h1 a_0 4 26 (.int (0 : Int32))).bind fun h2 =>
  rI (E n_X4_worthIn [.ref a_0, .int i_1] h2) (fun i4 h3 =>
  (wrF h3 a_0 4 25 (.int (-1 : Int32))).bind fun h5 =>
  (rdI h5 a_0 4 34).bind fun i6 =>
  bif decide (i6 < i4) then evR T_X4_weighsRow E 30 ([(0, .ref a_0), (2, .int i_2), (3, .int i4)], [], h5) else
  evR T_X4_weighsRow E 29 ([], [], h5)) thr := by
  rw [evR_eq ok_T_X4_weighsRow.loc (ops := b_X4_weighsRow_0) rfl]; rfl
theorem e_X4_weighsRow_29 (E : AEn)  (h : AH) : evR T_X4_weighsRow E 29 ([], [], h) =
  some (.inl none, h) := by
  rw [evR_eq ok_T_X4_weighsRow.loc (ops := b_X4_weighsRow_29) rfl]; rfl
theorem e_X4_weighsRow_30 (E : AEn) (a_0 : Nat) (i_2 : Int32) (i_3 : Int32) (h : AH) : evR T_X4_weighsRow E 30 ([(0, .ref a_0), (2, .int i_2), (3, .int i_3)], [], h) =
  (wrF h a_0 4 34 (.int i_3)).bind fun h1 =>
  evR T_X4_weighsRow E 38 ([(0, .ref a_0), (2, .int i_2), (4, .int (0 : Int32))], [], h1) := by
  rw [evR_eq ok_T_X4_weighsRow.loc (ops := b_X4_weighsRow_30) rfl]; rfl
theorem e_X4_weighsRow_38 (E : AEn) (a_0 : Nat) (i_2 : Int32) (i_4 : Int32) (h : AH) : evR T_X4_weighsRow E 38 ([(0, .ref a_0), (2, .int i_2), (4, .int i_4)], [], h) =
  bif decide (i_2 ≤ i_4) then evR T_X4_weighsRow E 64 ([], [], h) else
  evR T_X4_weighsRow E 44 ([(0, .ref a_0), (2, .int i_2), (4, .int i_4)], [], h) := by
  rw [evR_eq ok_T_X4_weighsRow.loc (ops := b_X4_weighsRow_38) rfl]; rfl
theorem e_X4_weighsRow_44 (E : AEn) (a_0 : Nat) (i_2 : Int32) (i_4 : Int32) (h : AH) : evR T_X4_weighsRow E 44 ([(0, .ref a_0), (2, .int i_2), (4, .int i_4)], [], h) =
  (rdR h a_0 4 33).bind fun r1 =>
  (rdR h a_0 4 24).bind fun r2 =>
  (ldI h r2 0 i_4).bind fun i3 =>
  (stI h r1 0 i_4 i3).bind fun h4 =>
  evR T_X4_weighsRow E 38 ([(0, .ref a_0), (2, .int i_2), (4, .int (i_4 + (1 : Int32)))], [], h4) := by
  rw [evR_eq ok_T_X4_weighsRow.loc (ops := b_X4_weighsRow_44) rfl]; rfl
theorem e_X4_weighsRow_64 (E : AEn)  (h : AH) : evR T_X4_weighsRow E 64 ([], [], h) =
  some (.inl none, h) := by
  rw [evR_eq ok_T_X4_weighsRow.loc (ops := b_X4_weighsRow_64) rfl]; rfl
theorem c_X4_weighsRow (d : Nat) (a_0 : Nat) (i_1 : Int32) (i_2 : Int32) (h : AH) : callR (d + 1) n_X4_weighsRow [.ref a_0, .int i_1, .int i_2] h =
  bif isO h a_0 4 then evR T_X4_weighsRow (callR d) 0 ([(0, .ref a_0), (1, .int i_1), (2, .int i_2)], [], h) else none := by
  rw [callR_succ, show aMTl[n_X4_weighsRow]? = some (T_X4_weighsRow, [0, 1, 2]) from rfl]; show (bif (isO h a_0 4) && true then _ else _) = _; rw [Bool.and_true]; rfl
theorem e_X4_isInRow_0 (E : AEn) (a_0 : Nat) (i_1 : Int32) (i_2 : Int32) (h : AH) : evR T_X4_isInRow E 0 ([(0, .ref a_0), (1, .int i_1), (2, .int i_2)], [], h) =
  evR T_X4_isInRow E 2 ([(0, .ref a_0), (1, .int i_1), (2, .int i_2), (3, .int (0 : Int32))], [], h) := by
  rw [evR_eq ok_T_X4_isInRow.loc (ops := b_X4_isInRow_0) rfl]; rfl
theorem e_X4_isInRow_2 (E : AEn) (a_0 : Nat) (i_1 : Int32) (i_2 : Int32) (i_3 : Int32) (h : AH) : evR T_X4_isInRow E 2 ([(0, .ref a_0), (1, .int i_1), (2, .int i_2), (3, .int i_3)], [], h) =
  bif decide (i_1 ≤ i_3) then evR T_X4_isInRow E 25 ([], [], h) else
  evR T_X4_isInRow E 7 ([(0, .ref a_0), (1, .int i_1), (2, .int i_2), (3, .int i_3)], [], h) := by
  rw [evR_eq ok_T_X4_isInRow.loc (ops := b_X4_isInRow_2) rfl]; rfl
theorem e_X4_isInRow_7 (E : AEn) (a_0 : Nat) (i_1 : Int32) (i_2 : Int32) (i_3 : Int32) (h : AH) : evR T_X4_isInRow E 7 ([(0, .ref a_0), (1, .int i_1), (2, .int i_2), (3, .int i_3)], [], h) =
  (rdR h a_0 4 24).bind fun r1 =>
  (ldI h r1 0 i_3).bind fun i2 =>
  bif !(i2 == i_2) then evR T_X4_isInRow E 19 ([(0, .ref a_0), (1, .int i_1), (2, .int i_2), (3, .int i_3)], [], h) else
  evR T_X4_isInRow E 17 ([], [], h) := by
  rw [evR_eq ok_T_X4_isInRow.loc (ops := b_X4_isInRow_7) rfl]; rfl
theorem e_X4_isInRow_17 (E : AEn)  (h : AH) : evR T_X4_isInRow E 17 ([], [], h) =
  some (.inl (some (.int (1 : Int32))), h) := by
  rw [evR_eq ok_T_X4_isInRow.loc (ops := b_X4_isInRow_17) rfl]; rfl
theorem e_X4_isInRow_19 (E : AEn) (a_0 : Nat) (i_1 : Int32) (i_2 : Int32) (i_3 : Int32) (h : AH) : evR T_X4_isInRow E 19 ([(0, .ref a_0), (1, .int i_1), (2, .int i_2), (3, .int i_3)], [], h) =
  evR T_X4_isInRow E 2 ([(0, .ref a_0), (1, .int i_1), (2, .int i_2), (3, .int (i_3 + (1 : Int32)))], [], h) := by
  rw [evR_eq ok_T_X4_isInRow.loc (ops := b_X4_isInRow_19) rfl]; rfl
theorem e_X4_isInRow_25 (E : AEn)  (h : AH) : evR T_X4_isInRow E 25 ([], [], h) =
  some (.inl (some (.int (0 : Int32))), h) := by
  rw [evR_eq ok_T_X4_isInRow.loc (ops := b_X4_isInRow_25) rfl]; rfl
theorem c_X4_isInRow (d : Nat) (a_0 : Nat) (i_1 : Int32) (i_2 : Int32) (h : AH) : callR (d + 1) n_X4_isInRow [.ref a_0, .int i_1, .int i_2] h =
  bif isO h a_0 4 then evR T_X4_isInRow (callR d) 0 ([(0, .ref a_0), (1, .int i_1), (2, .int i_2)], [], h) else none := by
  rw [callR_succ, show aMTl[n_X4_isInRow]? = some (T_X4_isInRow, [0, 1, 2]) from rfl]; show (bif (isO h a_0 4) && true then _ else _) = _; rw [Bool.and_true]; rfl
theorem e_X4_heard_0 (E : AEn) (a_0 : Nat) (i_1 : Int32) (h : AH) : evR T_X4_heard E 0 ([(0, .ref a_0), (1, .int i_1)], [], h) =
  rI (E n_X4_isHouse [.ref a_0, .int i_1] h) (fun i2 h1 =>
  bif !(i2 == 0) then evR T_X4_heard E 10 ([(0, .ref a_0), (1, .int i_1)], [], h1) else
  evR T_X4_heard E 8 ([], [], h1)) thr := by
  rw [evR_eq ok_T_X4_heard.loc (ops := b_X4_heard_0) rfl]; rfl
theorem e_X4_heard_8 (E : AEn)  (h : AH) : evR T_X4_heard E 8 ([], [], h) =
  some (.inl (some (.int (-1 : Int32))), h) := by
  rw [evR_eq ok_T_X4_heard.loc (ops := b_X4_heard_8) rfl]; rfl
theorem e_X4_heard_10 (E : AEn) (a_0 : Nat) (i_1 : Int32) (h : AH) : evR T_X4_heard E 10 ([(0, .ref a_0), (1, .int i_1)], [], h) =
  rV (E n_X4_keeps [.ref a_0] h) (fun h1 =>
  evR T_X4_heard E 19 ([(0, .ref a_0), (1, .int i_1), (2, .int (-2 : Int32)), (3, .int (0 : Int32))], [], h1)) thr := by
  rw [evR_eq ok_T_X4_heard.loc (ops := b_X4_heard_10) rfl]; rfl
theorem e_X4_heard_19 (E : AEn) (a_0 : Nat) (i_1 : Int32) (i_2 : Int32) (i_3 : Int32) (h : AH) : evR T_X4_heard E 19 ([(0, .ref a_0), (1, .int i_1), (2, .int i_2), (3, .int i_3)], [], h) =
  bif decide ((20 : Int32) < i_3) then evR T_X4_heard E 61 ([(0, .ref a_0), (2, .int i_2)], [], h) else
  evR T_X4_heard E 25 ([(0, .ref a_0), (1, .int i_1), (2, .int i_2), (3, .int i_3)], [], h) := by
  rw [evR_eq ok_T_X4_heard.loc (ops := b_X4_heard_19) rfl]; rfl
theorem e_X4_heard_25 (E : AEn) (a_0 : Nat) (i_1 : Int32) (i_2 : Int32) (i_3 : Int32) (h : AH) : evR T_X4_heard E 25 ([(0, .ref a_0), (1, .int i_1), (2, .int i_2), (3, .int i_3)], [], h) =
  bif decide (0 ≤ i_2) then evR T_X4_heard E 61 ([(0, .ref a_0), (2, .int i_2)], [], h) else
  evR T_X4_heard E 29 ([(0, .ref a_0), (1, .int i_1), (2, .int i_2), (3, .int i_3)], [], h) := by
  rw [evR_eq ok_T_X4_heard.loc (ops := b_X4_heard_25) rfl]; rfl
theorem e_X4_heard_29 (E : AEn) (a_0 : Nat) (i_1 : Int32) (i_2 : Int32) (i_3 : Int32) (h : AH) : evR T_X4_heard E 29 ([(0, .ref a_0), (1, .int i_1), (2, .int i_2), (3, .int i_3)], [], h) =
  (rdR h a_0 4 21).bind fun r1 =>
  (stI h r1 0 (((14 : Int32) + ((4 : Int32) * i_1)) + (2 : Int32)) i_3).bind fun h2 =>
  rI (E n_X4_comesTo [.ref a_0, .int i_1, .int (20 : Int32)] h2) (fun i4 h3 =>
  bif i4 == 0 then evR T_X4_heard E 55 ([(0, .ref a_0), (1, .int i_1), (2, .int i_2), (3, .int i_3)], [], h3) else
  evR T_X4_heard E 53 ([(0, .ref a_0), (1, .int i_1), (3, .int i_3)], [], h3)) thr := by
  rw [evR_eq ok_T_X4_heard.loc (ops := b_X4_heard_29) rfl]; rfl
theorem e_X4_heard_53 (E : AEn) (a_0 : Nat) (i_1 : Int32) (i_3 : Int32) (h : AH) : evR T_X4_heard E 53 ([(0, .ref a_0), (1, .int i_1), (3, .int i_3)], [], h) =
  evR T_X4_heard E 55 ([(0, .ref a_0), (1, .int i_1), (2, .int i_3), (3, .int i_3)], [], h) := by
  rw [evR_eq ok_T_X4_heard.loc (ops := b_X4_heard_53) rfl]; rfl
theorem e_X4_heard_55 (E : AEn) (a_0 : Nat) (i_1 : Int32) (i_2 : Int32) (i_3 : Int32) (h : AH) : evR T_X4_heard E 55 ([(0, .ref a_0), (1, .int i_1), (2, .int i_2), (3, .int i_3)], [], h) =
  evR T_X4_heard E 19 ([(0, .ref a_0), (1, .int i_1), (2, .int i_2), (3, .int (i_3 + (1 : Int32)))], [], h) := by
  rw [evR_eq ok_T_X4_heard.loc (ops := b_X4_heard_55) rfl]; rfl
theorem e_X4_heard_61 (E : AEn) (a_0 : Nat) (i_2 : Int32) (h : AH) : evR T_X4_heard E 61 ([(0, .ref a_0), (2, .int i_2)], [], h) =
  rV (E n_X4_laysBack [.ref a_0] h) (fun h1 =>
  some (.inl (some (.int i_2)), h1)) thr := by
  rw [evR_eq ok_T_X4_heard.loc (ops := b_X4_heard_61) rfl]; rfl
theorem c_X4_heard (d : Nat) (a_0 : Nat) (i_1 : Int32) (h : AH) : callR (d + 1) n_X4_heard [.ref a_0, .int i_1] h =
  bif isO h a_0 4 then evR T_X4_heard (callR d) 0 ([(0, .ref a_0), (1, .int i_1)], [], h) else none := by
  rw [callR_succ, show aMTl[n_X4_heard]? = some (T_X4_heard, [0, 1]) from rfl]; show (bif (isO h a_0 4) && true then _ else _) = _; rw [Bool.and_true]; rfl
theorem e_X4_comesTo_0 (E : AEn) (a_0 : Nat) (i_1 : Int32) (i_2 : Int32) (h : AH) : evR T_X4_comesTo E 0 ([(0, .ref a_0), (1, .int i_1), (2, .int i_2)], [], h) =
  evR T_X4_comesTo E 5 ([(0, .ref a_0), (1, .int i_1), (2, .int i_2), (3, .int (0 : Int32)), (4, .int (0 : Int32))], [], h) := by
  rw [evR_eq ok_T_X4_comesTo.loc (ops := b_X4_comesTo_0) rfl]; rfl
theorem e_X4_comesTo_5 (E : AEn) (a_0 : Nat) (i_1 : Int32) (i_2 : Int32) (i_3 : Int32) (i_4 : Int32) (h : AH) : evR T_X4_comesTo E 5 ([(0, .ref a_0), (1, .int i_1), (2, .int i_2), (3, .int i_3), (4, .int i_4)], [], h) =
  bif decide (i_2 ≤ i_4) then evR T_X4_comesTo E 40 ([(0, .ref a_0), (3, .int i_3)], [], h) else
  evR T_X4_comesTo E 11 ([(0, .ref a_0), (1, .int i_1), (2, .int i_2), (3, .int i_3), (4, .int i_4)], [], h) := by
  rw [evR_eq ok_T_X4_comesTo.loc (ops := b_X4_comesTo_5) rfl]; rfl
theorem e_X4_comesTo_11 (E : AEn) (a_0 : Nat) (i_1 : Int32) (i_2 : Int32) (i_3 : Int32) (i_4 : Int32) (h : AH) : evR T_X4_comesTo E 11 ([(0, .ref a_0), (1, .int i_1), (2, .int i_2), (3, .int i_3), (4, .int i_4)], [], h) =
  bif !(i_3 == 0) then evR T_X4_comesTo E 40 ([(0, .ref a_0), (3, .int i_3)], [], h) else
  evR T_X4_comesTo E 15 ([(0, .ref a_0), (1, .int i_1), (2, .int i_2), (4, .int i_4)], [], h) := by
  rw [evR_eq ok_T_X4_comesTo.loc (ops := b_X4_comesTo_11) rfl]; rfl
theorem e_X4_comesTo_15 (E : AEn) (a_0 : Nat) (i_1 : Int32) (i_2 : Int32) (i_4 : Int32) (h : AH) : evR T_X4_comesTo E 15 ([(0, .ref a_0), (1, .int i_1), (2, .int i_2), (4, .int i_4)], [], h) =
  rI (E n_X4_passes [.ref a_0] h) (fun i2 h1 =>
  (rdI h1 a_0 4 29).bind fun i3 =>
  bif !(i3 == i_1) then evR T_X4_comesTo E 32 ([(0, .ref a_0), (1, .int i_1), (2, .int i_2), (4, .int i_4)], [], h1) else
  evR T_X4_comesTo E 28 ([(0, .ref a_0), (1, .int i_1), (2, .int i_2), (4, .int i_4)], [], h1)) thr := by
  rw [evR_eq ok_T_X4_comesTo.loc (ops := b_X4_comesTo_15) rfl]; rfl
theorem e_X4_comesTo_28 (E : AEn) (a_0 : Nat) (i_1 : Int32) (i_2 : Int32) (i_4 : Int32) (h : AH) : evR T_X4_comesTo E 28 ([(0, .ref a_0), (1, .int i_1), (2, .int i_2), (4, .int i_4)], [], h) =
  evR T_X4_comesTo E 33 ([(0, .ref a_0), (1, .int i_1), (2, .int i_2), (4, .int i_4)], [.int (1 : Int32)], h) := by
  rw [evR_eq ok_T_X4_comesTo.loc (ops := b_X4_comesTo_28) rfl]; rfl
theorem e_X4_comesTo_32 (E : AEn) (a_0 : Nat) (i_1 : Int32) (i_2 : Int32) (i_4 : Int32) (h : AH) : evR T_X4_comesTo E 32 ([(0, .ref a_0), (1, .int i_1), (2, .int i_2), (4, .int i_4)], [], h) =
  evR T_X4_comesTo E 33 ([(0, .ref a_0), (1, .int i_1), (2, .int i_2), (4, .int i_4)], [.int (0 : Int32)], h) := by
  rw [evR_eq ok_T_X4_comesTo.loc (ops := b_X4_comesTo_32) rfl]; rfl
theorem e_X4_comesTo_33 (E : AEn) (a_0 : Nat) (i_1 : Int32) (i_2 : Int32) (i_4 : Int32) (si_0 : Int32) (h : AH) : evR T_X4_comesTo E 33 ([(0, .ref a_0), (1, .int i_1), (2, .int i_2), (4, .int i_4)], [.int si_0], h) =
  evR T_X4_comesTo E 5 ([(0, .ref a_0), (1, .int i_1), (2, .int i_2), (3, .int si_0), (4, .int (i_4 + (1 : Int32)))], [], h) := by
  rw [evR_eq ok_T_X4_comesTo.loc (ops := b_X4_comesTo_33) rfl]; rfl
theorem e_X4_comesTo_40 (E : AEn) (a_0 : Nat) (i_3 : Int32) (h : AH) : evR T_X4_comesTo E 40 ([(0, .ref a_0), (3, .int i_3)], [], h) =
  rV (E n_X4_laysBack [.ref a_0] h) (fun h1 =>
  (bif i_3 == 0 || i_3 == 1 then some i_3 else none).bind fun i2 => some (.inl (some (.int i2)), h1)) thr := by
  rw [evR_eq ok_T_X4_comesTo.loc (ops := b_X4_comesTo_40) rfl]; rfl
theorem c_X4_comesTo (d : Nat) (a_0 : Nat) (i_1 : Int32) (i_2 : Int32) (h : AH) : callR (d + 1) n_X4_comesTo [.ref a_0, .int i_1, .int i_2] h =
  bif isO h a_0 4 then evR T_X4_comesTo (callR d) 0 ([(0, .ref a_0), (1, .int i_1), (2, .int i_2)], [], h) else none := by
  rw [callR_succ, show aMTl[n_X4_comesTo]? = some (T_X4_comesTo, [0, 1, 2]) from rfl]; show (bif (isO h a_0 4) && true then _ else _) = _; rw [Bool.and_true]; rfl
theorem e_X4_water_0 (E : AEn) (a_0 : Nat) (i_1 : Int32) (h : AH) : evR T_X4_water E 0 ([(0, .ref a_0), (1, .int i_1)], [], h) =
  rI (E n_X4_isValley [.ref a_0] h) (fun i2 h1 =>
  bif i2 == 0 then evR T_X4_water E 19 ([], [], h1) else
  evR T_X4_water E 7 ([(0, .ref a_0), (1, .int i_1)], [], h1)) thr := by
  rw [evR_eq ok_T_X4_water.loc (ops := b_X4_water_0) rfl]; rfl
theorem e_X4_water_7 (E : AEn) (a_0 : Nat) (i_1 : Int32) (h : AH) : evR T_X4_water E 7 ([(0, .ref a_0), (1, .int i_1)], [], h) =
  rI (E n_X4_in [.long i_1.toInt64, .long (1 : Int64), .long (60 : Int64)] h) (fun i2 h1 =>
  bif !(i2 == 0) then evR T_X4_water E 21 ([(0, .ref a_0), (1, .int i_1)], [], h1) else
  evR T_X4_water E 19 ([], [], h1)) thr := by
  rw [evR_eq ok_T_X4_water.loc (ops := b_X4_water_7) rfl]; rfl
theorem e_X4_water_19 (E : AEn)  (h : AH) : evR T_X4_water E 19 ([], [], h) =
  some (.inl (some (.int (-1 : Int32))), h) := by
  rw [evR_eq ok_T_X4_water.loc (ops := b_X4_water_19) rfl]; rfl
theorem e_X4_water_21 (E : AEn) (a_0 : Nat) (i_1 : Int32) (h : AH) : evR T_X4_water E 21 ([(0, .ref a_0), (1, .int i_1)], [], h) =
  (rdR h a_0 4 21).bind fun r1 =>
  (ldI h r1 0 (1 : Int32)).bind fun i2 =>
  rI (E n_X4_withWorth [.ref a_0] h) (fun i4 h3 =>
  rV (E n_X4_keeps [.ref a_0] h3) (fun h5 =>
  evR T_X4_water E 44 ([(0, .ref a_0), (1, .int i_1), (2, .int i2), (3, .int i4), (4, .int (-2 : Int32)), (5, .int (0 : Int32))], [], h5)) thr) thr := by
  rw [evR_eq ok_T_X4_water.loc (ops := b_X4_water_21) rfl]; rfl
theorem e_X4_water_44 (E : AEn) (a_0 : Nat) (i_1 : Int32) (i_2 : Int32) (i_3 : Int32) (i_4 : Int32) (i_5 : Int32) (h : AH) : evR T_X4_water E 44 ([(0, .ref a_0), (1, .int i_1), (2, .int i_2), (3, .int i_3), (4, .int i_4), (5, .int i_5)], [], h) =
  bif decide ((9 : Int32) < i_5) then evR T_X4_water E 91 ([(0, .ref a_0), (2, .int i_2), (4, .int i_4)], [], h) else
  evR T_X4_water E 51 ([(0, .ref a_0), (1, .int i_1), (2, .int i_2), (3, .int i_3), (4, .int i_4), (5, .int i_5)], [], h) := by
  rw [evR_eq ok_T_X4_water.loc (ops := b_X4_water_44) rfl]; rfl
theorem e_X4_water_51 (E : AEn) (a_0 : Nat) (i_1 : Int32) (i_2 : Int32) (i_3 : Int32) (i_4 : Int32) (i_5 : Int32) (h : AH) : evR T_X4_water E 51 ([(0, .ref a_0), (1, .int i_1), (2, .int i_2), (3, .int i_3), (4, .int i_4), (5, .int i_5)], [], h) =
  bif decide (0 ≤ i_4) then evR T_X4_water E 91 ([(0, .ref a_0), (2, .int i_2), (4, .int i_4)], [], h) else
  evR T_X4_water E 56 ([(0, .ref a_0), (1, .int i_1), (2, .int i_2), (3, .int i_3), (4, .int i_4), (5, .int i_5)], [], h) := by
  rw [evR_eq ok_T_X4_water.loc (ops := b_X4_water_51) rfl]; rfl
theorem e_X4_water_56 (E : AEn) (a_0 : Nat) (i_1 : Int32) (i_2 : Int32) (i_3 : Int32) (i_4 : Int32) (i_5 : Int32) (h : AH) : evR T_X4_water E 56 ([(0, .ref a_0), (1, .int i_1), (2, .int i_2), (3, .int i_3), (4, .int i_4), (5, .int i_5)], [], h) =
  (rdR h a_0 4 21).bind fun r1 =>
  (stI h r1 0 (1 : Int32) i_5).bind fun h2 =>
  rV (E n_X4_passesAll [.ref a_0, .int i_1] h2) (fun h3 =>
  rI (E n_X4_withWorth [.ref a_0] h3) (fun i5 h4 =>
  bif !(i5 == i_3) then evR T_X4_water E 81 ([(0, .ref a_0), (1, .int i_1), (2, .int i_2), (3, .int i_3), (4, .int i_4), (5, .int i_5)], [], h4) else
  evR T_X4_water E 77 ([(0, .ref a_0), (1, .int i_1), (2, .int i_2), (3, .int i_3), (5, .int i_5)], [], h4)) thr) thr := by
  rw [evR_eq ok_T_X4_water.loc (ops := b_X4_water_56) rfl]; rfl
theorem e_X4_water_77 (E : AEn) (a_0 : Nat) (i_1 : Int32) (i_2 : Int32) (i_3 : Int32) (i_5 : Int32) (h : AH) : evR T_X4_water E 77 ([(0, .ref a_0), (1, .int i_1), (2, .int i_2), (3, .int i_3), (5, .int i_5)], [], h) =
  evR T_X4_water E 81 ([(0, .ref a_0), (1, .int i_1), (2, .int i_2), (3, .int i_3), (4, .int i_5), (5, .int i_5)], [], h) := by
  rw [evR_eq ok_T_X4_water.loc (ops := b_X4_water_77) rfl]; rfl
theorem e_X4_water_81 (E : AEn) (a_0 : Nat) (i_1 : Int32) (i_2 : Int32) (i_3 : Int32) (i_4 : Int32) (i_5 : Int32) (h : AH) : evR T_X4_water E 81 ([(0, .ref a_0), (1, .int i_1), (2, .int i_2), (3, .int i_3), (4, .int i_4), (5, .int i_5)], [], h) =
  rV (E n_X4_laysBack [.ref a_0] h) (fun h1 =>
  evR T_X4_water E 44 ([(0, .ref a_0), (1, .int i_1), (2, .int i_2), (3, .int i_3), (4, .int i_4), (5, .int (i_5 + (1 : Int32)))], [], h1)) thr := by
  rw [evR_eq ok_T_X4_water.loc (ops := b_X4_water_81) rfl]; rfl
theorem e_X4_water_91 (E : AEn) (a_0 : Nat) (i_2 : Int32) (i_4 : Int32) (h : AH) : evR T_X4_water E 91 ([(0, .ref a_0), (2, .int i_2), (4, .int i_4)], [], h) =
  (rdR h a_0 4 21).bind fun r1 =>
  (stI h r1 0 (1 : Int32) i_2).bind fun h2 =>
  some (.inl (some (.int i_4)), h2) := by
  rw [evR_eq ok_T_X4_water.loc (ops := b_X4_water_91) rfl]; rfl
theorem c_X4_water (d : Nat) (a_0 : Nat) (i_1 : Int32) (h : AH) : callR (d + 1) n_X4_water [.ref a_0, .int i_1] h =
  bif isO h a_0 4 then evR T_X4_water (callR d) 0 ([(0, .ref a_0), (1, .int i_1)], [], h) else none := by
  rw [callR_succ, show aMTl[n_X4_water]? = some (T_X4_water, [0, 1]) from rfl]; show (bif (isO h a_0 4) && true then _ else _) = _; rw [Bool.and_true]; rfl
theorem e_X4_withWorth_0 (E : AEn) (a_0 : Nat) (h : AH) : evR T_X4_withWorth E 0 ([(0, .ref a_0)], [], h) =
  evR T_X4_withWorth E 4 ([(0, .ref a_0), (1, .int (0 : Int32)), (2, .int (0 : Int32))], [], h) := by
  rw [evR_eq ok_T_X4_withWorth.loc (ops := b_X4_withWorth_0) rfl]; rfl
theorem e_X4_withWorth_4 (E : AEn) (a_0 : Nat) (i_1 : Int32) (i_2 : Int32) (h : AH) : evR T_X4_withWorth E 4 ([(0, .ref a_0), (1, .int i_1), (2, .int i_2)], [], h) =
  (rdR h a_0 4 21).bind fun r1 =>
  (ldI h r1 0 (3 : Int32)).bind fun i2 =>
  bif decide (i2 ≤ i_2) then evR T_X4_withWorth E 38 ([(1, .int i_1)], [], h) else
  evR T_X4_withWorth E 14 ([(0, .ref a_0), (1, .int i_1), (2, .int i_2)], [], h) := by
  rw [evR_eq ok_T_X4_withWorth.loc (ops := b_X4_withWorth_4) rfl]; rfl
theorem e_X4_withWorth_14 (E : AEn) (a_0 : Nat) (i_1 : Int32) (i_2 : Int32) (h : AH) : evR T_X4_withWorth E 14 ([(0, .ref a_0), (1, .int i_1), (2, .int i_2)], [], h) =
  rI (E n_X4_worthOf [.ref a_0, .int i_2] h) (fun i2 h1 =>
  bif decide (i2 ≤ 0) then evR T_X4_withWorth E 29 ([(0, .ref a_0), (2, .int i_2)], [.int i_1], h1) else
  evR T_X4_withWorth E 23 ([(0, .ref a_0), (2, .int i_2)], [.int i_1], h1)) thr := by
  rw [evR_eq ok_T_X4_withWorth.loc (ops := b_X4_withWorth_14) rfl]; rfl
theorem e_X4_withWorth_23 (E : AEn) (a_0 : Nat) (i_2 : Int32) (si_0 : Int32) (h : AH) : evR T_X4_withWorth E 23 ([(0, .ref a_0), (2, .int i_2)], [.int si_0], h) =
  evR T_X4_withWorth E 30 ([(0, .ref a_0), (2, .int i_2)], [.int ((1 : Int32) <<< (i_2 &&& 31)), .int si_0], h) := by
  rw [evR_eq ok_T_X4_withWorth.loc (ops := b_X4_withWorth_23) rfl]; rfl
theorem e_X4_withWorth_29 (E : AEn) (a_0 : Nat) (i_2 : Int32) (si_0 : Int32) (h : AH) : evR T_X4_withWorth E 29 ([(0, .ref a_0), (2, .int i_2)], [.int si_0], h) =
  evR T_X4_withWorth E 30 ([(0, .ref a_0), (2, .int i_2)], [.int (0 : Int32), .int si_0], h) := by
  rw [evR_eq ok_T_X4_withWorth.loc (ops := b_X4_withWorth_29) rfl]; rfl
theorem e_X4_withWorth_30 (E : AEn) (a_0 : Nat) (i_2 : Int32) (si_0 : Int32) (si_1 : Int32) (h : AH) : evR T_X4_withWorth E 30 ([(0, .ref a_0), (2, .int i_2)], [.int si_0, .int si_1], h) =
  evR T_X4_withWorth E 4 ([(0, .ref a_0), (1, .int (si_1 ||| si_0)), (2, .int (i_2 + (1 : Int32)))], [], h) := by
  rw [evR_eq ok_T_X4_withWorth.loc (ops := b_X4_withWorth_30) rfl]; rfl
theorem e_X4_withWorth_38 (E : AEn) (i_1 : Int32) (h : AH) : evR T_X4_withWorth E 38 ([(1, .int i_1)], [], h) =
  some (.inl (some (.int i_1)), h) := by
  rw [evR_eq ok_T_X4_withWorth.loc (ops := b_X4_withWorth_38) rfl]; rfl
theorem c_X4_withWorth (d : Nat) (a_0 : Nat) (h : AH) : callR (d + 1) n_X4_withWorth [.ref a_0] h =
  bif isO h a_0 4 then evR T_X4_withWorth (callR d) 0 ([(0, .ref a_0)], [], h) else none := by
  rw [callR_succ, show aMTl[n_X4_withWorth]? = some (T_X4_withWorth, [0]) from rfl]; show (bif (isO h a_0 4) && true then _ else _) = _; rw [Bool.and_true]; rfl
theorem e_X4_clear_0 (E : AEn) (a_0 : Nat) (i_1 : Int32) (i_2 : Int32) (h : AH) : evR T_X4_clear E 0 ([(0, .ref a_0), (1, .int i_1), (2, .int i_2)], [], h) =
  rI (E n_X4_isValley [.ref a_0] h) (fun i2 h1 =>
  bif i2 == 0 then evR T_X4_clear E 29 ([], [], h1) else
  evR T_X4_clear E 7 ([(0, .ref a_0), (1, .int i_1), (2, .int i_2)], [], h1)) thr := by
  rw [evR_eq ok_T_X4_clear.loc (ops := b_X4_clear_0) rfl]; rfl
theorem e_X4_clear_7 (E : AEn) (a_0 : Nat) (i_1 : Int32) (i_2 : Int32) (h : AH) : evR T_X4_clear E 7 ([(0, .ref a_0), (1, .int i_1), (2, .int i_2)], [], h) =
  rI (E n_X4_in [.long i_1.toInt64, .long (1 : Int64), .long (60 : Int64)] h) (fun i2 h1 =>
  bif i2 == 0 then evR T_X4_clear E 29 ([], [], h1) else
  evR T_X4_clear E 19 ([(0, .ref a_0), (1, .int i_1), (2, .int i_2)], [], h1)) thr := by
  rw [evR_eq ok_T_X4_clear.loc (ops := b_X4_clear_7) rfl]; rfl
theorem e_X4_clear_19 (E : AEn) (a_0 : Nat) (i_1 : Int32) (i_2 : Int32) (h : AH) : evR T_X4_clear E 19 ([(0, .ref a_0), (1, .int i_1), (2, .int i_2)], [], h) =
  rI (E n_X4_in [.long i_2.toInt64, .long (0 : Int64), .long (1 : Int64)] h) (fun i2 h1 =>
  bif !(i2 == 0) then evR T_X4_clear E 32 ([(0, .ref a_0), (1, .int i_1), (2, .int i_2)], [], h1) else
  evR T_X4_clear E 29 ([], [], h1)) thr := by
  rw [evR_eq ok_T_X4_clear.loc (ops := b_X4_clear_19) rfl]; rfl
theorem e_X4_clear_29 (E : AEn)  (h : AH) : evR T_X4_clear E 29 ([], [], h) =
  some (.inl (some (.int (-2 : Int32))), h) := by
  rw [evR_eq ok_T_X4_clear.loc (ops := b_X4_clear_29) rfl]; rfl
theorem e_X4_clear_32 (E : AEn) (a_0 : Nat) (i_1 : Int32) (i_2 : Int32) (h : AH) : evR T_X4_clear E 32 ([(0, .ref a_0), (1, .int i_1), (2, .int i_2)], [], h) =
  rV (E n_X4_keeps [.ref a_0] h) (fun h1 =>
  rI (E n_X4_worthIn [.ref a_0, .int i_1] h1) (fun i3 h2 =>
  evR T_X4_clear E 48 ([(0, .ref a_0), (1, .int i_1), (2, .int i_2), (3, .int (-1 : Int32)), (4, .int i3), (5, .int (0 : Int32))], [], h2)) thr) thr := by
  rw [evR_eq ok_T_X4_clear.loc (ops := b_X4_clear_32) rfl]; rfl
theorem e_X4_clear_48 (E : AEn) (a_0 : Nat) (i_1 : Int32) (i_2 : Int32) (i_3 : Int32) (i_4 : Int32) (i_5 : Int32) (h : AH) : evR T_X4_clear E 48 ([(0, .ref a_0), (1, .int i_1), (2, .int i_2), (3, .int i_3), (4, .int i_4), (5, .int i_5)], [], h) =
  (rdR h a_0 4 21).bind fun r1 =>
  (ldI h r1 0 (3 : Int32)).bind fun i2 =>
  bif decide (i2 ≤ i_5) then evR T_X4_clear E 139 ([(2, .int i_2), (3, .int i_3), (4, .int i_4)], [], h) else
  evR T_X4_clear E 59 ([(0, .ref a_0), (1, .int i_1), (2, .int i_2), (3, .int i_3), (4, .int i_4), (5, .int i_5)], [], h) := by
  rw [evR_eq ok_T_X4_clear.loc (ops := b_X4_clear_48) rfl]; rfl
theorem e_X4_clear_59 (E : AEn) (a_0 : Nat) (i_1 : Int32) (i_2 : Int32) (i_3 : Int32) (i_4 : Int32) (i_5 : Int32) (h : AH) : evR T_X4_clear E 59 ([(0, .ref a_0), (1, .int i_1), (2, .int i_2), (3, .int i_3), (4, .int i_4), (5, .int i_5)], [], h) =
  rI (E n_X4_worthOf [.ref a_0, .int i_5] h) (fun i2 h1 =>
  (rdR h1 a_0 4 21).bind fun r3 =>
  (stI h1 r3 0 ((14 : Int32) + ((4 : Int32) * i_5)) (0 : Int32)).bind fun h4 =>
  (rdR h4 a_0 4 21).bind fun r5 =>
  (stI h4 r5 0 (((14 : Int32) + ((4 : Int32) * i_5)) + (1 : Int32)) (0 : Int32)).bind fun h6 =>
  (wrF h6 a_0 4 27 (.int i2)).bind fun h7 =>
  rI (E n_X4_worthIn [.ref a_0, .int i_1] h7) (fun i9 h8 =>
  (wrF h8 a_0 4 27 (.int (0 : Int32))).bind fun h10 =>
  bif decide (i_4 < (i2 + i9)) then evR T_X4_clear E 126 ([(0, .ref a_0), (1, .int i_1), (2, .int i_2), (5, .int i_5), (7, .int (i2 + i9))], [], h10) else
  evR T_X4_clear E 123 ([(0, .ref a_0), (1, .int i_1), (2, .int i_2), (3, .int i_3), (4, .int i_4), (5, .int i_5)], [], h10)) thr) thr := by
  rw [evR_eq ok_T_X4_clear.loc (ops := b_X4_clear_59) rfl]; rfl
theorem e_X4_clear_123 (E : AEn) (a_0 : Nat) (i_1 : Int32) (i_2 : Int32) (i_3 : Int32) (i_4 : Int32) (i_5 : Int32) (h : AH) : evR T_X4_clear E 123 ([(0, .ref a_0), (1, .int i_1), (2, .int i_2), (3, .int i_3), (4, .int i_4), (5, .int i_5)], [], h) =
  evR T_X4_clear E 133 ([(0, .ref a_0), (1, .int i_1), (2, .int i_2), (3, .int i_3), (4, .int i_4), (5, .int i_5)], [], h) := by
  rw [evR_eq ok_T_X4_clear.loc (ops := b_X4_clear_123) rfl]; rfl
theorem e_X4_clear_126 (E : AEn) (a_0 : Nat) (i_1 : Int32) (i_2 : Int32) (i_5 : Int32) (i_7 : Int32) (h : AH) : evR T_X4_clear E 126 ([(0, .ref a_0), (1, .int i_1), (2, .int i_2), (5, .int i_5), (7, .int i_7)], [], h) =
  evR T_X4_clear E 133 ([(0, .ref a_0), (1, .int i_1), (2, .int i_2), (3, .int i_5), (4, .int i_7), (5, .int i_5)], [], h) := by
  rw [evR_eq ok_T_X4_clear.loc (ops := b_X4_clear_126) rfl]; rfl
theorem e_X4_clear_133 (E : AEn) (a_0 : Nat) (i_1 : Int32) (i_2 : Int32) (i_3 : Int32) (i_4 : Int32) (i_5 : Int32) (h : AH) : evR T_X4_clear E 133 ([(0, .ref a_0), (1, .int i_1), (2, .int i_2), (3, .int i_3), (4, .int i_4), (5, .int i_5)], [], h) =
  evR T_X4_clear E 48 ([(0, .ref a_0), (1, .int i_1), (2, .int i_2), (3, .int i_3), (4, .int i_4), (5, .int (i_5 + (1 : Int32)))], [], h) := by
  rw [evR_eq ok_T_X4_clear.loc (ops := b_X4_clear_133) rfl]; rfl
theorem e_X4_clear_139 (E : AEn) (i_2 : Int32) (i_3 : Int32) (i_4 : Int32) (h : AH) : evR T_X4_clear E 139 ([(2, .int i_2), (3, .int i_3), (4, .int i_4)], [], h) =
  bif !(i_2 == 0) then evR T_X4_clear E 147 ([(4, .int i_4)], [], h) else
  evR T_X4_clear E 143 ([(3, .int i_3)], [], h) := by
  rw [evR_eq ok_T_X4_clear.loc (ops := b_X4_clear_139) rfl]; rfl
theorem e_X4_clear_143 (E : AEn) (i_3 : Int32) (h : AH) : evR T_X4_clear E 143 ([(3, .int i_3)], [], h) =
  evR T_X4_clear E 149 ([], [.int i_3], h) := by
  rw [evR_eq ok_T_X4_clear.loc (ops := b_X4_clear_143) rfl]; rfl
theorem e_X4_clear_147 (E : AEn) (i_4 : Int32) (h : AH) : evR T_X4_clear E 147 ([(4, .int i_4)], [], h) =
  evR T_X4_clear E 149 ([], [.int i_4], h) := by
  rw [evR_eq ok_T_X4_clear.loc (ops := b_X4_clear_147) rfl]; rfl
theorem e_X4_clear_149 (E : AEn) (si_0 : Int32) (h : AH) : evR T_X4_clear E 149 ([], [.int si_0], h) =
  some (.inl (some (.int si_0)), h) := by
  rw [evR_eq ok_T_X4_clear.loc (ops := b_X4_clear_149) rfl]; rfl
theorem c_X4_clear (d : Nat) (a_0 : Nat) (i_1 : Int32) (i_2 : Int32) (h : AH) : callR (d + 1) n_X4_clear [.ref a_0, .int i_1, .int i_2] h =
  bif isO h a_0 4 then evR T_X4_clear (callR d) 0 ([(0, .ref a_0), (1, .int i_1), (2, .int i_2)], [], h) else none := by
  rw [callR_succ, show aMTl[n_X4_clear]? = some (T_X4_clear, [0, 1, 2]) from rfl]; show (bif (isO h a_0 4) && true then _ else _) = _; rw [Bool.and_true]; rfl
theorem e_X4_silent_0 (E : AEn) (a_0 : Nat) (i_1 : Int32) (i_2 : Int32) (h : AH) : evR T_X4_silent E 0 ([(0, .ref a_0), (1, .int i_1), (2, .int i_2)], [], h) =
  rI (E n_X4_isValley [.ref a_0] h) (fun i2 h1 =>
  bif i2 == 0 then evR T_X4_silent E 31 ([], [], h1) else
  evR T_X4_silent E 7 ([(0, .ref a_0), (1, .int i_1), (2, .int i_2)], [], h1)) thr := by
  rw [evR_eq ok_T_X4_silent.loc (ops := b_X4_silent_0) rfl]; rfl
theorem e_X4_silent_7 (E : AEn) (a_0 : Nat) (i_1 : Int32) (i_2 : Int32) (h : AH) : evR T_X4_silent E 7 ([(0, .ref a_0), (1, .int i_1), (2, .int i_2)], [], h) =
  rI (E n_X4_in [.long i_1.toInt64, .long (1 : Int64), .long (60 : Int64)] h) (fun i2 h1 =>
  bif i2 == 0 then evR T_X4_silent E 31 ([], [], h1) else
  evR T_X4_silent E 19 ([(0, .ref a_0), (1, .int i_1), (2, .int i_2)], [], h1)) thr := by
  rw [evR_eq ok_T_X4_silent.loc (ops := b_X4_silent_7) rfl]; rfl
theorem e_X4_silent_19 (E : AEn) (a_0 : Nat) (i_1 : Int32) (i_2 : Int32) (h : AH) : evR T_X4_silent E 19 ([(0, .ref a_0), (1, .int i_1), (2, .int i_2)], [], h) =
  rI (E n_X4_in [.long i_2.toInt64, .long (0 : Int64), .long (2 : Int64)] h) (fun i2 h1 =>
  bif !(i2 == 0) then evR T_X4_silent E 33 ([(0, .ref a_0), (1, .int i_1), (2, .int i_2)], [], h1) else
  evR T_X4_silent E 31 ([], [], h1)) thr := by
  rw [evR_eq ok_T_X4_silent.loc (ops := b_X4_silent_19) rfl]; rfl
theorem e_X4_silent_31 (E : AEn)  (h : AH) : evR T_X4_silent E 31 ([], [], h) =
  some (.inl (some (.int (-1 : Int32))), h) := by
  rw [evR_eq ok_T_X4_silent.loc (ops := b_X4_silent_31) rfl]; rfl
theorem e_X4_silent_33 (E : AEn) (a_0 : Nat) (i_1 : Int32) (i_2 : Int32) (h : AH) : evR T_X4_silent E 33 ([(0, .ref a_0), (1, .int i_1), (2, .int i_2)], [], h) =
  rV (E n_X4_keeps [.ref a_0] h) (fun h1 =>
  evR T_X4_silent E 45 ([(0, .ref a_0), (1, .int i_1), (2, .int i_2), (3, .int (0 : Int32)), (4, .int (-1 : Int32)), (5, .int (0 : Int32))], [], h1)) thr := by
  rw [evR_eq ok_T_X4_silent.loc (ops := b_X4_silent_33) rfl]; rfl
theorem e_X4_silent_45 (E : AEn) (a_0 : Nat) (i_1 : Int32) (i_2 : Int32) (i_3 : Int32) (i_4 : Int32) (i_5 : Int32) (h : AH) : evR T_X4_silent E 45 ([(0, .ref a_0), (1, .int i_1), (2, .int i_2), (3, .int i_3), (4, .int i_4), (5, .int i_5)], [], h) =
  (rdR h a_0 4 21).bind fun r1 =>
  (ldI h r1 0 (3 : Int32)).bind fun i2 =>
  bif decide (((1 : Int32) <<< (i2 &&& 31)) ≤ i_5) then evR T_X4_silent E 152 ([(2, .int i_2), (3, .int i_3), (4, .int i_4)], [], h) else
  evR T_X4_silent E 58 ([(0, .ref a_0), (1, .int i_1), (2, .int i_2), (3, .int i_3), (4, .int i_4), (5, .int i_5)], [], h) := by
  rw [evR_eq ok_T_X4_silent.loc (ops := b_X4_silent_45) rfl]; rfl
theorem e_X4_silent_58 (E : AEn) (a_0 : Nat) (i_1 : Int32) (i_2 : Int32) (i_3 : Int32) (i_4 : Int32) (i_5 : Int32) (h : AH) : evR T_X4_silent E 58 ([(0, .ref a_0), (1, .int i_1), (2, .int i_2), (3, .int i_3), (4, .int i_4), (5, .int i_5)], [], h) =
  evR T_X4_silent E 61 ([(0, .ref a_0), (1, .int i_1), (2, .int i_2), (3, .int i_3), (4, .int i_4), (5, .int i_5), (6, .int (0 : Int32))], [], h) := by
  rw [evR_eq ok_T_X4_silent.loc (ops := b_X4_silent_58) rfl]; rfl
theorem e_X4_silent_61 (E : AEn) (a_0 : Nat) (i_1 : Int32) (i_2 : Int32) (i_3 : Int32) (i_4 : Int32) (i_5 : Int32) (i_6 : Int32) (h : AH) : evR T_X4_silent E 61 ([(0, .ref a_0), (1, .int i_1), (2, .int i_2), (3, .int i_3), (4, .int i_4), (5, .int i_5), (6, .int i_6)], [], h) =
  (rdR h a_0 4 21).bind fun r1 =>
  (ldI h r1 0 (3 : Int32)).bind fun i2 =>
  bif decide (i2 ≤ i_6) then evR T_X4_silent E 103 ([(0, .ref a_0), (1, .int i_1), (2, .int i_2), (3, .int i_3), (4, .int i_4), (5, .int i_5)], [], h) else
  evR T_X4_silent E 72 ([(0, .ref a_0), (1, .int i_1), (2, .int i_2), (3, .int i_3), (4, .int i_4), (5, .int i_5), (6, .int i_6)], [], h) := by
  rw [evR_eq ok_T_X4_silent.loc (ops := b_X4_silent_61) rfl]; rfl
theorem e_X4_silent_72 (E : AEn) (a_0 : Nat) (i_1 : Int32) (i_2 : Int32) (i_3 : Int32) (i_4 : Int32) (i_5 : Int32) (i_6 : Int32) (h : AH) : evR T_X4_silent E 72 ([(0, .ref a_0), (1, .int i_1), (2, .int i_2), (3, .int i_3), (4, .int i_4), (5, .int i_5), (6, .int i_6)], [], h) =
  rI (E n_X4_isOf [.int i_5, .int i_6] h) (fun i2 h1 =>
  bif i2 == 0 then evR T_X4_silent E 97 ([(0, .ref a_0), (1, .int i_1), (2, .int i_2), (3, .int i_3), (4, .int i_4), (5, .int i_5), (6, .int i_6)], [], h1) else
  evR T_X4_silent E 82 ([(0, .ref a_0), (1, .int i_1), (2, .int i_2), (3, .int i_3), (4, .int i_4), (5, .int i_5), (6, .int i_6)], [], h1)) thr := by
  rw [evR_eq ok_T_X4_silent.loc (ops := b_X4_silent_72) rfl]; rfl
theorem e_X4_silent_82 (E : AEn) (a_0 : Nat) (i_1 : Int32) (i_2 : Int32) (i_3 : Int32) (i_4 : Int32) (i_5 : Int32) (i_6 : Int32) (h : AH) : evR T_X4_silent E 82 ([(0, .ref a_0), (1, .int i_1), (2, .int i_2), (3, .int i_3), (4, .int i_4), (5, .int i_5), (6, .int i_6)], [], h) =
  (rdR h a_0 4 21).bind fun r1 =>
  (stI h r1 0 (((14 : Int32) + ((4 : Int32) * i_6)) + (2 : Int32)) (0 : Int32)).bind fun h2 =>
  evR T_X4_silent E 97 ([(0, .ref a_0), (1, .int i_1), (2, .int i_2), (3, .int i_3), (4, .int i_4), (5, .int i_5), (6, .int i_6)], [], h2) := by
  rw [evR_eq ok_T_X4_silent.loc (ops := b_X4_silent_82) rfl]; rfl
theorem e_X4_silent_97 (E : AEn) (a_0 : Nat) (i_1 : Int32) (i_2 : Int32) (i_3 : Int32) (i_4 : Int32) (i_5 : Int32) (i_6 : Int32) (h : AH) : evR T_X4_silent E 97 ([(0, .ref a_0), (1, .int i_1), (2, .int i_2), (3, .int i_3), (4, .int i_4), (5, .int i_5), (6, .int i_6)], [], h) =
  evR T_X4_silent E 61 ([(0, .ref a_0), (1, .int i_1), (2, .int i_2), (3, .int i_3), (4, .int i_4), (5, .int i_5), (6, .int (i_6 + (1 : Int32)))], [], h) := by
  rw [evR_eq ok_T_X4_silent.loc (ops := b_X4_silent_97) rfl]; rfl
theorem e_X4_silent_103 (E : AEn) (a_0 : Nat) (i_1 : Int32) (i_2 : Int32) (i_3 : Int32) (i_4 : Int32) (i_5 : Int32) (h : AH) : evR T_X4_silent E 103 ([(0, .ref a_0), (1, .int i_1), (2, .int i_2), (3, .int i_3), (4, .int i_4), (5, .int i_5)], [], h) =
  rI (E n_X4_worthIn [.ref a_0, .int i_1] h) (fun i2 h1 =>
  bif decide (i2 < i_4) then evR T_X4_silent E 146 ([(0, .ref a_0), (1, .int i_1), (2, .int i_2), (3, .int i_3), (4, .int i_4), (5, .int i_5)], [], h1) else
  evR T_X4_silent E 117 ([(0, .ref a_0), (1, .int i_1), (2, .int i_2), (3, .int i_3), (4, .int i_4), (5, .int i_5), (6, .int i2)], [], h1)) thr := by
  rw [evR_eq ok_T_X4_silent.loc (ops := b_X4_silent_103) rfl]; rfl
theorem e_X4_silent_117 (E : AEn) (a_0 : Nat) (i_1 : Int32) (i_2 : Int32) (i_3 : Int32) (i_4 : Int32) (i_5 : Int32) (i_6 : Int32) (h : AH) : evR T_X4_silent E 117 ([(0, .ref a_0), (1, .int i_1), (2, .int i_2), (3, .int i_3), (4, .int i_4), (5, .int i_5), (6, .int i_6)], [], h) =
  bif !(i_6 == i_4) then evR T_X4_silent E 139 ([(0, .ref a_0), (1, .int i_1), (2, .int i_2), (5, .int i_5), (6, .int i_6)], [], h) else
  evR T_X4_silent E 124 ([(0, .ref a_0), (1, .int i_1), (2, .int i_2), (3, .int i_3), (4, .int i_4), (5, .int i_5), (6, .int i_6)], [], h) := by
  rw [evR_eq ok_T_X4_silent.loc (ops := b_X4_silent_117) rfl]; rfl
theorem e_X4_silent_124 (E : AEn) (a_0 : Nat) (i_1 : Int32) (i_2 : Int32) (i_3 : Int32) (i_4 : Int32) (i_5 : Int32) (i_6 : Int32) (h : AH) : evR T_X4_silent E 124 ([(0, .ref a_0), (1, .int i_1), (2, .int i_2), (3, .int i_3), (4, .int i_4), (5, .int i_5), (6, .int i_6)], [], h) =
  rI (E n_X4_bits [.int i_5] h) (fun i2 h1 =>
  rI (E n_X4_bits [.int i_3] h1) (fun i4 h3 =>
  bif decide (i2 < i4) then evR T_X4_silent E 139 ([(0, .ref a_0), (1, .int i_1), (2, .int i_2), (5, .int i_5), (6, .int i_6)], [], h3) else
  evR T_X4_silent E 136 ([(0, .ref a_0), (1, .int i_1), (2, .int i_2), (3, .int i_3), (4, .int i_4), (5, .int i_5)], [], h3)) thr) thr := by
  rw [evR_eq ok_T_X4_silent.loc (ops := b_X4_silent_124) rfl]; rfl
theorem e_X4_silent_136 (E : AEn) (a_0 : Nat) (i_1 : Int32) (i_2 : Int32) (i_3 : Int32) (i_4 : Int32) (i_5 : Int32) (h : AH) : evR T_X4_silent E 136 ([(0, .ref a_0), (1, .int i_1), (2, .int i_2), (3, .int i_3), (4, .int i_4), (5, .int i_5)], [], h) =
  evR T_X4_silent E 146 ([(0, .ref a_0), (1, .int i_1), (2, .int i_2), (3, .int i_3), (4, .int i_4), (5, .int i_5)], [], h) := by
  rw [evR_eq ok_T_X4_silent.loc (ops := b_X4_silent_136) rfl]; rfl
theorem e_X4_silent_139 (E : AEn) (a_0 : Nat) (i_1 : Int32) (i_2 : Int32) (i_5 : Int32) (i_6 : Int32) (h : AH) : evR T_X4_silent E 139 ([(0, .ref a_0), (1, .int i_1), (2, .int i_2), (5, .int i_5), (6, .int i_6)], [], h) =
  evR T_X4_silent E 146 ([(0, .ref a_0), (1, .int i_1), (2, .int i_2), (3, .int i_5), (4, .int i_6), (5, .int i_5)], [], h) := by
  rw [evR_eq ok_T_X4_silent.loc (ops := b_X4_silent_139) rfl]; rfl
theorem e_X4_silent_146 (E : AEn) (a_0 : Nat) (i_1 : Int32) (i_2 : Int32) (i_3 : Int32) (i_4 : Int32) (i_5 : Int32) (h : AH) : evR T_X4_silent E 146 ([(0, .ref a_0), (1, .int i_1), (2, .int i_2), (3, .int i_3), (4, .int i_4), (5, .int i_5)], [], h) =
  evR T_X4_silent E 45 ([(0, .ref a_0), (1, .int i_1), (2, .int i_2), (3, .int i_3), (4, .int i_4), (5, .int (i_5 + (1 : Int32)))], [], h) := by
  rw [evR_eq ok_T_X4_silent.loc (ops := b_X4_silent_146) rfl]; rfl
theorem e_X4_silent_152 (E : AEn) (i_2 : Int32) (i_3 : Int32) (i_4 : Int32) (h : AH) : evR T_X4_silent E 152 ([(2, .int i_2), (3, .int i_3), (4, .int i_4)], [], h) =
  bif !(i_2 == 0) then evR T_X4_silent E 163 ([(2, .int i_2), (3, .int i_3), (4, .int i_4)], [], h) else
  evR T_X4_silent E 156 ([(3, .int i_3)], [], h) := by
  rw [evR_eq ok_T_X4_silent.loc (ops := b_X4_silent_152) rfl]; rfl
theorem e_X4_silent_156 (E : AEn) (i_3 : Int32) (h : AH) : evR T_X4_silent E 156 ([(3, .int i_3)], [], h) =
  rI (E n_X4_bits [.int i_3] h) (fun i2 h1 =>
  evR T_X4_silent E 174 ([], [.int i2], h1)) thr := by
  rw [evR_eq ok_T_X4_silent.loc (ops := b_X4_silent_156) rfl]; rfl
theorem e_X4_silent_163 (E : AEn) (i_2 : Int32) (i_3 : Int32) (i_4 : Int32) (h : AH) : evR T_X4_silent E 163 ([(2, .int i_2), (3, .int i_3), (4, .int i_4)], [], h) =
  bif !(i_2 == (1 : Int32)) then evR T_X4_silent E 172 ([(4, .int i_4)], [], h) else
  evR T_X4_silent E 168 ([(3, .int i_3)], [], h) := by
  rw [evR_eq ok_T_X4_silent.loc (ops := b_X4_silent_163) rfl]; rfl
theorem e_X4_silent_168 (E : AEn) (i_3 : Int32) (h : AH) : evR T_X4_silent E 168 ([(3, .int i_3)], [], h) =
  evR T_X4_silent E 174 ([], [.int i_3], h) := by
  rw [evR_eq ok_T_X4_silent.loc (ops := b_X4_silent_168) rfl]; rfl
theorem e_X4_silent_172 (E : AEn) (i_4 : Int32) (h : AH) : evR T_X4_silent E 172 ([(4, .int i_4)], [], h) =
  evR T_X4_silent E 174 ([], [.int i_4], h) := by
  rw [evR_eq ok_T_X4_silent.loc (ops := b_X4_silent_172) rfl]; rfl
theorem e_X4_silent_174 (E : AEn) (si_0 : Int32) (h : AH) : evR T_X4_silent E 174 ([], [.int si_0], h) =
  some (.inl (some (.int si_0)), h) := by
  rw [evR_eq ok_T_X4_silent.loc (ops := b_X4_silent_174) rfl]; rfl
theorem c_X4_silent (d : Nat) (a_0 : Nat) (i_1 : Int32) (i_2 : Int32) (h : AH) : callR (d + 1) n_X4_silent [.ref a_0, .int i_1, .int i_2] h =
  bif isO h a_0 4 then evR T_X4_silent (callR d) 0 ([(0, .ref a_0), (1, .int i_1), (2, .int i_2)], [], h) else none := by
  rw [callR_succ, show aMTl[n_X4_silent]? = some (T_X4_silent, [0, 1, 2]) from rfl]; show (bif (isO h a_0 4) && true then _ else _) = _; rw [Bool.and_true]; rfl
theorem e_X4_pence_0 (E : AEn) (a_0 : Nat) (i_1 : Int32) (i_2 : Int32) (h : AH) : evR T_X4_pence E 0 ([(0, .ref a_0), (1, .int i_1), (2, .int i_2)], [], h) =
  rI (E n_X4_isHouse [.ref a_0, .int i_2] h) (fun i2 h1 =>
  bif i2 == 0 then evR T_X4_pence E 20 ([], [], h1) else
  evR T_X4_pence E 8 ([(0, .ref a_0), (1, .int i_1), (2, .int i_2)], [], h1)) thr := by
  rw [evR_eq ok_T_X4_pence.loc (ops := b_X4_pence_0) rfl]; rfl
theorem e_X4_pence_8 (E : AEn) (a_0 : Nat) (i_1 : Int32) (i_2 : Int32) (h : AH) : evR T_X4_pence E 8 ([(0, .ref a_0), (1, .int i_1), (2, .int i_2)], [], h) =
  rI (E n_X4_in [.long i_1.toInt64, .long (0 : Int64), .long (9999 : Int64)] h) (fun i2 h1 =>
  bif !(i2 == 0) then evR T_X4_pence E 22 ([(0, .ref a_0), (1, .int i_1), (2, .int i_2)], [], h1) else
  evR T_X4_pence E 20 ([], [], h1)) thr := by
  rw [evR_eq ok_T_X4_pence.loc (ops := b_X4_pence_8) rfl]; rfl
theorem e_X4_pence_20 (E : AEn)  (h : AH) : evR T_X4_pence E 20 ([], [], h) =
  some (.inl (some (.int (-1 : Int32))), h) := by
  rw [evR_eq ok_T_X4_pence.loc (ops := b_X4_pence_20) rfl]; rfl
theorem e_X4_pence_22 (E : AEn) (a_0 : Nat) (i_1 : Int32) (i_2 : Int32) (h : AH) : evR T_X4_pence E 22 ([(0, .ref a_0), (1, .int i_1), (2, .int i_2)], [], h) =
  rI (E n_X4_lostAll [.ref a_0] h) (fun i2 h1 =>
  bif !(i2 == 0) then evR T_X4_pence E 33 ([(0, .ref a_0), (1, .int i_1), (2, .int i_2), (3, .int i2)], [], h1) else
  evR T_X4_pence E 31 ([], [], h1)) thr := by
  rw [evR_eq ok_T_X4_pence.loc (ops := b_X4_pence_22) rfl]; rfl
theorem e_X4_pence_31 (E : AEn)  (h : AH) : evR T_X4_pence E 31 ([], [], h) =
  some (.inl (some (.int (0 : Int32))), h) := by
  rw [evR_eq ok_T_X4_pence.loc (ops := b_X4_pence_31) rfl]; rfl
theorem e_X4_pence_33 (E : AEn) (a_0 : Nat) (i_1 : Int32) (i_2 : Int32) (i_3 : Int32) (h : AH) : evR T_X4_pence E 33 ([(0, .ref a_0), (1, .int i_1), (2, .int i_2), (3, .int i_3)], [], h) =
  rI (E n_X4_lostOf [.ref a_0, .int i_2] h) (fun i2 h1 =>
  evR T_X4_pence E 51 ([(0, .ref a_0), (1, .int i_1), (2, .int i_2), (3, .int i_3), (4, .int (i_1 * i2)), (5, .int i_1), (6, .int (0 : Int32)), (7, .int (0 : Int32))], [], h1)) thr := by
  rw [evR_eq ok_T_X4_pence.loc (ops := b_X4_pence_33) rfl]; rfl
theorem e_X4_pence_51 (E : AEn) (a_0 : Nat) (i_1 : Int32) (i_2 : Int32) (i_3 : Int32) (i_4 : Int32) (i_5 : Int32) (i_6 : Int32) (i_7 : Int32) (h : AH) : evR T_X4_pence E 51 ([(0, .ref a_0), (1, .int i_1), (2, .int i_2), (3, .int i_3), (4, .int i_4), (5, .int i_5), (6, .int i_6), (7, .int i_7)], [], h) =
  (rdR h a_0 4 21).bind fun r1 =>
  (ldI h r1 0 (3 : Int32)).bind fun i2 =>
  bif decide (i2 ≤ i_7) then evR T_X4_pence E 125 ([(3, .int i_3), (4, .int i_4), (5, .int i_5), (6, .int i_6)], [], h) else
  evR T_X4_pence E 62 ([(0, .ref a_0), (1, .int i_1), (2, .int i_2), (3, .int i_3), (4, .int i_4), (5, .int i_5), (6, .int i_6), (7, .int i_7)], [], h) := by
  rw [evR_eq ok_T_X4_pence.loc (ops := b_X4_pence_51) rfl]; rfl
theorem e_X4_pence_62 (E : AEn) (a_0 : Nat) (i_1 : Int32) (i_2 : Int32) (i_3 : Int32) (i_4 : Int32) (i_5 : Int32) (i_6 : Int32) (i_7 : Int32) (h : AH) : evR T_X4_pence E 62 ([(0, .ref a_0), (1, .int i_1), (2, .int i_2), (3, .int i_3), (4, .int i_4), (5, .int i_5), (6, .int i_6), (7, .int i_7)], [], h) =
  rI (E n_X4_lostOf [.ref a_0, .int i_7] h) (fun i2 h1 =>
  (nzI i_3).bind fun _ =>
  (nzI i_3).bind fun _ =>
  (nzI i_3).bind fun _ =>
  bif decide ((i_4 - i_4 / i_3 * i_3) < ((i_1 * i2) - (i_1 * i2) / i_3 * i_3)) then evR T_X4_pence E 111 ([(0, .ref a_0), (1, .int i_1), (2, .int i_2), (3, .int i_3), (4, .int i_4), (5, .int (i_5 - ((i_1 * i2) / i_3))), (7, .int i_7)], [.int i_6], h1) else
  evR T_X4_pence E 94 ([(0, .ref a_0), (1, .int i_1), (2, .int i_2), (3, .int i_3), (4, .int i_4), (5, .int (i_5 - ((i_1 * i2) / i_3))), (7, .int i_7), (8, .int (i_1 * i2))], [.int i_6], h1)) thr := by
  rw [evR_eq ok_T_X4_pence.loc (ops := b_X4_pence_62) rfl]; rfl
theorem e_X4_pence_94 (E : AEn) (a_0 : Nat) (i_1 : Int32) (i_2 : Int32) (i_3 : Int32) (i_4 : Int32) (i_5 : Int32) (i_7 : Int32) (i_8 : Int32) (si_0 : Int32) (h : AH) : evR T_X4_pence E 94 ([(0, .ref a_0), (1, .int i_1), (2, .int i_2), (3, .int i_3), (4, .int i_4), (5, .int i_5), (7, .int i_7), (8, .int i_8)], [.int si_0], h) =
  (nzI i_3).bind fun _ =>
  (nzI i_3).bind fun _ =>
  bif !((i_8 - i_8 / i_3 * i_3) == (i_4 - i_4 / i_3 * i_3)) then evR T_X4_pence E 115 ([(0, .ref a_0), (1, .int i_1), (2, .int i_2), (3, .int i_3), (4, .int i_4), (5, .int i_5), (7, .int i_7)], [.int si_0], h) else
  evR T_X4_pence E 105 ([(0, .ref a_0), (1, .int i_1), (2, .int i_2), (3, .int i_3), (4, .int i_4), (5, .int i_5), (7, .int i_7)], [.int si_0], h) := by
  rw [evR_eq ok_T_X4_pence.loc (ops := b_X4_pence_94) rfl]; rfl
theorem e_X4_pence_105 (E : AEn) (a_0 : Nat) (i_1 : Int32) (i_2 : Int32) (i_3 : Int32) (i_4 : Int32) (i_5 : Int32) (i_7 : Int32) (si_0 : Int32) (h : AH) : evR T_X4_pence E 105 ([(0, .ref a_0), (1, .int i_1), (2, .int i_2), (3, .int i_3), (4, .int i_4), (5, .int i_5), (7, .int i_7)], [.int si_0], h) =
  bif decide (i_2 ≤ i_7) then evR T_X4_pence E 115 ([(0, .ref a_0), (1, .int i_1), (2, .int i_2), (3, .int i_3), (4, .int i_4), (5, .int i_5), (7, .int i_7)], [.int si_0], h) else
  evR T_X4_pence E 111 ([(0, .ref a_0), (1, .int i_1), (2, .int i_2), (3, .int i_3), (4, .int i_4), (5, .int i_5), (7, .int i_7)], [.int si_0], h) := by
  rw [evR_eq ok_T_X4_pence.loc (ops := b_X4_pence_105) rfl]; rfl
theorem e_X4_pence_111 (E : AEn) (a_0 : Nat) (i_1 : Int32) (i_2 : Int32) (i_3 : Int32) (i_4 : Int32) (i_5 : Int32) (i_7 : Int32) (si_0 : Int32) (h : AH) : evR T_X4_pence E 111 ([(0, .ref a_0), (1, .int i_1), (2, .int i_2), (3, .int i_3), (4, .int i_4), (5, .int i_5), (7, .int i_7)], [.int si_0], h) =
  evR T_X4_pence E 116 ([(0, .ref a_0), (1, .int i_1), (2, .int i_2), (3, .int i_3), (4, .int i_4), (5, .int i_5), (7, .int i_7)], [.int (1 : Int32), .int si_0], h) := by
  rw [evR_eq ok_T_X4_pence.loc (ops := b_X4_pence_111) rfl]; rfl
theorem e_X4_pence_115 (E : AEn) (a_0 : Nat) (i_1 : Int32) (i_2 : Int32) (i_3 : Int32) (i_4 : Int32) (i_5 : Int32) (i_7 : Int32) (si_0 : Int32) (h : AH) : evR T_X4_pence E 115 ([(0, .ref a_0), (1, .int i_1), (2, .int i_2), (3, .int i_3), (4, .int i_4), (5, .int i_5), (7, .int i_7)], [.int si_0], h) =
  evR T_X4_pence E 116 ([(0, .ref a_0), (1, .int i_1), (2, .int i_2), (3, .int i_3), (4, .int i_4), (5, .int i_5), (7, .int i_7)], [.int (0 : Int32), .int si_0], h) := by
  rw [evR_eq ok_T_X4_pence.loc (ops := b_X4_pence_115) rfl]; rfl
theorem e_X4_pence_116 (E : AEn) (a_0 : Nat) (i_1 : Int32) (i_2 : Int32) (i_3 : Int32) (i_4 : Int32) (i_5 : Int32) (i_7 : Int32) (si_0 : Int32) (si_1 : Int32) (h : AH) : evR T_X4_pence E 116 ([(0, .ref a_0), (1, .int i_1), (2, .int i_2), (3, .int i_3), (4, .int i_4), (5, .int i_5), (7, .int i_7)], [.int si_0, .int si_1], h) =
  evR T_X4_pence E 51 ([(0, .ref a_0), (1, .int i_1), (2, .int i_2), (3, .int i_3), (4, .int i_4), (5, .int i_5), (6, .int (si_1 + si_0)), (7, .int (i_7 + (1 : Int32)))], [], h) := by
  rw [evR_eq ok_T_X4_pence.loc (ops := b_X4_pence_116) rfl]; rfl
theorem e_X4_pence_125 (E : AEn) (i_3 : Int32) (i_4 : Int32) (i_5 : Int32) (i_6 : Int32) (h : AH) : evR T_X4_pence E 125 ([(3, .int i_3), (4, .int i_4), (5, .int i_5), (6, .int i_6)], [], h) =
  (nzI i_3).bind fun _ =>
  bif decide (i_5 ≤ i_6) then evR T_X4_pence E 140 ([], [.int (i_4 / i_3)], h) else
  evR T_X4_pence E 136 ([], [.int (i_4 / i_3)], h) := by
  rw [evR_eq ok_T_X4_pence.loc (ops := b_X4_pence_125) rfl]; rfl
theorem e_X4_pence_136 (E : AEn) (si_0 : Int32) (h : AH) : evR T_X4_pence E 136 ([], [.int si_0], h) =
  evR T_X4_pence E 141 ([], [.int (1 : Int32), .int si_0], h) := by
  rw [evR_eq ok_T_X4_pence.loc (ops := b_X4_pence_136) rfl]; rfl
theorem e_X4_pence_140 (E : AEn) (si_0 : Int32) (h : AH) : evR T_X4_pence E 140 ([], [.int si_0], h) =
  evR T_X4_pence E 141 ([], [.int (0 : Int32), .int si_0], h) := by
  rw [evR_eq ok_T_X4_pence.loc (ops := b_X4_pence_140) rfl]; rfl
theorem e_X4_pence_141 (E : AEn) (si_0 : Int32) (si_1 : Int32) (h : AH) : evR T_X4_pence E 141 ([], [.int si_0, .int si_1], h) =
  some (.inl (some (.int (si_1 + si_0))), h) := by
  rw [evR_eq ok_T_X4_pence.loc (ops := b_X4_pence_141) rfl]; rfl
theorem c_X4_pence (d : Nat) (a_0 : Nat) (i_1 : Int32) (i_2 : Int32) (h : AH) : callR (d + 1) n_X4_pence [.ref a_0, .int i_1, .int i_2] h =
  bif isO h a_0 4 then evR T_X4_pence (callR d) 0 ([(0, .ref a_0), (1, .int i_1), (2, .int i_2)], [], h) else none := by
  rw [callR_succ, show aMTl[n_X4_pence]? = some (T_X4_pence, [0, 1, 2]) from rfl]; show (bif (isO h a_0 4) && true then _ else _) = _; rw [Bool.and_true]; rfl
theorem e_X4_rests_0 (E : AEn) (a_0 : Nat) (i_1 : Int32) (i_2 : Int32) (i_3 : Int32) (i_4 : Int32) (h : AH) : evR T_X4_rests E 0 ([(0, .ref a_0), (1, .int i_1), (2, .int i_2), (3, .int i_3), (4, .int i_4)], [], h) =
  rI (E n_X4_isHouse [.ref a_0, .int i_1] h) (fun i2 h1 =>
  bif i2 == 0 then evR T_X4_rests E 46 ([], [], h1) else
  evR T_X4_rests E 8 ([(0, .ref a_0), (1, .int i_1), (2, .int i_2), (3, .int i_3), (4, .int i_4)], [], h1)) thr := by
  rw [evR_eq ok_T_X4_rests.loc (ops := b_X4_rests_0) rfl]; rfl
theorem e_X4_rests_8 (E : AEn) (a_0 : Nat) (i_1 : Int32) (i_2 : Int32) (i_3 : Int32) (i_4 : Int32) (h : AH) : evR T_X4_rests E 8 ([(0, .ref a_0), (1, .int i_1), (2, .int i_2), (3, .int i_3), (4, .int i_4)], [], h) =
  rI (E n_X4_isHouse [.ref a_0, .int i_2] h) (fun i2 h1 =>
  bif i2 == 0 then evR T_X4_rests E 46 ([], [], h1) else
  evR T_X4_rests E 16 ([(0, .ref a_0), (1, .int i_1), (2, .int i_2), (3, .int i_3), (4, .int i_4)], [], h1)) thr := by
  rw [evR_eq ok_T_X4_rests.loc (ops := b_X4_rests_8) rfl]; rfl
theorem e_X4_rests_16 (E : AEn) (a_0 : Nat) (i_1 : Int32) (i_2 : Int32) (i_3 : Int32) (i_4 : Int32) (h : AH) : evR T_X4_rests E 16 ([(0, .ref a_0), (1, .int i_1), (2, .int i_2), (3, .int i_3), (4, .int i_4)], [], h) =
  bif i_1 == i_2 then evR T_X4_rests E 46 ([], [], h) else
  evR T_X4_rests E 21 ([(0, .ref a_0), (1, .int i_1), (2, .int i_2), (3, .int i_3), (4, .int i_4)], [], h) := by
  rw [evR_eq ok_T_X4_rests.loc (ops := b_X4_rests_16) rfl]; rfl
theorem e_X4_rests_21 (E : AEn) (a_0 : Nat) (i_1 : Int32) (i_2 : Int32) (i_3 : Int32) (i_4 : Int32) (h : AH) : evR T_X4_rests E 21 ([(0, .ref a_0), (1, .int i_1), (2, .int i_2), (3, .int i_3), (4, .int i_4)], [], h) =
  rI (E n_X4_in [.long i_3.toInt64, .long (1 : Int64), .long (20 : Int64)] h) (fun i2 h1 =>
  bif i2 == 0 then evR T_X4_rests E 46 ([], [], h1) else
  evR T_X4_rests E 33 ([(0, .ref a_0), (1, .int i_1), (2, .int i_2), (3, .int i_3), (4, .int i_4)], [], h1)) thr := by
  rw [evR_eq ok_T_X4_rests.loc (ops := b_X4_rests_21) rfl]; rfl
theorem e_X4_rests_33 (E : AEn) (a_0 : Nat) (i_1 : Int32) (i_2 : Int32) (i_3 : Int32) (i_4 : Int32) (h : AH) : evR T_X4_rests E 33 ([(0, .ref a_0), (1, .int i_1), (2, .int i_2), (3, .int i_3), (4, .int i_4)], [], h) =
  rI (E n_X4_in [.long i_4.toInt64, .long (0 : Int64), .long (2 : Int64)] h) (fun i2 h1 =>
  bif !(i2 == 0) then evR T_X4_rests E 48 ([(0, .ref a_0), (1, .int i_1), (2, .int i_2), (3, .int i_3), (4, .int i_4)], [], h1) else
  evR T_X4_rests E 46 ([], [], h1)) thr := by
  rw [evR_eq ok_T_X4_rests.loc (ops := b_X4_rests_33) rfl]; rfl
theorem e_X4_rests_46 (E : AEn)  (h : AH) : evR T_X4_rests E 46 ([], [], h) =
  some (.inl (some (.int (-1 : Int32))), h) := by
  rw [evR_eq ok_T_X4_rests.loc (ops := b_X4_rests_46) rfl]; rfl
theorem e_X4_rests_48 (E : AEn) (a_0 : Nat) (i_1 : Int32) (i_2 : Int32) (i_3 : Int32) (i_4 : Int32) (h : AH) : evR T_X4_rests E 48 ([(0, .ref a_0), (1, .int i_1), (2, .int i_2), (3, .int i_3), (4, .int i_4)], [], h) =
  rV (E n_X4_keeps [.ref a_0] h) (fun h1 =>
  evR T_X4_rests E 55 ([(0, .ref a_0), (1, .int i_1), (2, .int i_2), (3, .int i_3), (4, .int i_4), (5, .int (0 : Int32))], [], h1)) thr := by
  rw [evR_eq ok_T_X4_rests.loc (ops := b_X4_rests_48) rfl]; rfl
theorem e_X4_rests_55 (E : AEn) (a_0 : Nat) (i_1 : Int32) (i_2 : Int32) (i_3 : Int32) (i_4 : Int32) (i_5 : Int32) (h : AH) : evR T_X4_rests E 55 ([(0, .ref a_0), (1, .int i_1), (2, .int i_2), (3, .int i_3), (4, .int i_4), (5, .int i_5)], [], h) =
  bif decide ((25 : Int32) ≤ i_5) then evR T_X4_rests E 155 ([(0, .ref a_0), (4, .int i_4)], [], h) else
  evR T_X4_rests E 62 ([(0, .ref a_0), (1, .int i_1), (2, .int i_2), (3, .int i_3), (4, .int i_4), (5, .int i_5)], [], h) := by
  rw [evR_eq ok_T_X4_rests.loc (ops := b_X4_rests_55) rfl]; rfl
theorem e_X4_rests_62 (E : AEn) (a_0 : Nat) (i_1 : Int32) (i_2 : Int32) (i_3 : Int32) (i_4 : Int32) (i_5 : Int32) (h : AH) : evR T_X4_rests E 62 ([(0, .ref a_0), (1, .int i_1), (2, .int i_2), (3, .int i_3), (4, .int i_4), (5, .int i_5)], [], h) =
  (rdR h a_0 4 21).bind fun r1 =>
  (stI h r1 0 (((14 : Int32) + ((4 : Int32) * i_1)) + (2 : Int32)) ((5 : Int32) * (i_5 / (5 : Int32)))).bind fun h2 =>
  (rdR h2 a_0 4 21).bind fun r3 =>
  (stI h2 r3 0 (((14 : Int32) + ((4 : Int32) * i_2)) + (2 : Int32)) ((5 : Int32) * (i_5 - i_5 / (5 : Int32) * (5 : Int32)))).bind fun h4 =>
  rV (E n_X4_passesAll [.ref a_0, .int i_3] h4) (fun h5 =>
  (rdR h5 a_0 4 35).bind fun r6 =>
  rI (E n_X4_worthOf [.ref a_0, .int i_1] h5) (fun i8 h7 =>
  (stI h7 r6 0 ((2 : Int32) * i_5) (i8 - (i_5 / (5 : Int32)))).bind fun h9 =>
  (rdR h9 a_0 4 35).bind fun r10 =>
  rI (E n_X4_worthOf [.ref a_0, .int i_2] h9) (fun i12 h11 =>
  (stI h11 r10 0 (((2 : Int32) * i_5) + (1 : Int32)) (i12 - (i_5 - i_5 / (5 : Int32) * (5 : Int32)))).bind fun h13 =>
  rV (E n_X4_laysBack [.ref a_0] h13) (fun h14 =>
  evR T_X4_rests E 55 ([(0, .ref a_0), (1, .int i_1), (2, .int i_2), (3, .int i_3), (4, .int i_4), (5, .int (i_5 + (1 : Int32)))], [], h14)) thr) thr) thr) thr := by
  rw [evR_eq ok_T_X4_rests.loc (ops := b_X4_rests_62) rfl]; rfl
theorem e_X4_rests_155 (E : AEn) (a_0 : Nat) (i_4 : Int32) (h : AH) : evR T_X4_rests E 155 ([(0, .ref a_0), (4, .int i_4)], [], h) =
  evR T_X4_rests E 165 ([(0, .ref a_0), (4, .int i_4), (5, .int (0 : Int32)), (6, .int (-1 : Int32)), (7, .int (24 : Int32))], [], h) := by
  rw [evR_eq ok_T_X4_rests.loc (ops := b_X4_rests_155) rfl]; rfl
theorem e_X4_rests_165 (E : AEn) (a_0 : Nat) (i_4 : Int32) (i_5 : Int32) (i_6 : Int32) (i_7 : Int32) (h : AH) : evR T_X4_rests E 165 ([(0, .ref a_0), (4, .int i_4), (5, .int i_5), (6, .int i_6), (7, .int i_7)], [], h) =
  bif decide (i_7 < 0) then evR T_X4_rests E 201 ([(4, .int i_4), (5, .int i_5), (6, .int i_6)], [], h) else
  evR T_X4_rests E 170 ([(0, .ref a_0), (4, .int i_4), (5, .int i_5), (6, .int i_6), (7, .int i_7)], [], h) := by
  rw [evR_eq ok_T_X4_rests.loc (ops := b_X4_rests_165) rfl]; rfl
theorem e_X4_rests_170 (E : AEn) (a_0 : Nat) (i_4 : Int32) (i_5 : Int32) (i_6 : Int32) (i_7 : Int32) (h : AH) : evR T_X4_rests E 170 ([(0, .ref a_0), (4, .int i_4), (5, .int i_5), (6, .int i_6), (7, .int i_7)], [], h) =
  rI (E n_X4_isRest [.ref a_0, .int (i_7 / (5 : Int32)), .int (i_7 - i_7 / (5 : Int32) * (5 : Int32))] h) (fun i2 h1 =>
  bif !(i2 == 0) then evR T_X4_rests E 188 ([(0, .ref a_0), (4, .int i_4), (5, .int i_5), (7, .int i_7)], [], h1) else
  evR T_X4_rests E 185 ([(0, .ref a_0), (4, .int i_4), (5, .int i_5), (6, .int i_6), (7, .int i_7)], [], h1)) thr := by
  rw [evR_eq ok_T_X4_rests.loc (ops := b_X4_rests_170) rfl]; rfl
theorem e_X4_rests_185 (E : AEn) (a_0 : Nat) (i_4 : Int32) (i_5 : Int32) (i_6 : Int32) (i_7 : Int32) (h : AH) : evR T_X4_rests E 185 ([(0, .ref a_0), (4, .int i_4), (5, .int i_5), (6, .int i_6), (7, .int i_7)], [], h) =
  evR T_X4_rests E 195 ([(0, .ref a_0), (4, .int i_4), (5, .int i_5), (6, .int i_6), (7, .int i_7)], [], h) := by
  rw [evR_eq ok_T_X4_rests.loc (ops := b_X4_rests_185) rfl]; rfl
theorem e_X4_rests_188 (E : AEn) (a_0 : Nat) (i_4 : Int32) (i_5 : Int32) (i_7 : Int32) (h : AH) : evR T_X4_rests E 188 ([(0, .ref a_0), (4, .int i_4), (5, .int i_5), (7, .int i_7)], [], h) =
  evR T_X4_rests E 195 ([(0, .ref a_0), (4, .int i_4), (5, .int (i_5 + (1 : Int32))), (6, .int i_7), (7, .int i_7)], [], h) := by
  rw [evR_eq ok_T_X4_rests.loc (ops := b_X4_rests_188) rfl]; rfl
theorem e_X4_rests_195 (E : AEn) (a_0 : Nat) (i_4 : Int32) (i_5 : Int32) (i_6 : Int32) (i_7 : Int32) (h : AH) : evR T_X4_rests E 195 ([(0, .ref a_0), (4, .int i_4), (5, .int i_5), (6, .int i_6), (7, .int i_7)], [], h) =
  evR T_X4_rests E 165 ([(0, .ref a_0), (4, .int i_4), (5, .int i_5), (6, .int i_6), (7, .int (i_7 + (-1 : Int32)))], [], h) := by
  rw [evR_eq ok_T_X4_rests.loc (ops := b_X4_rests_195) rfl]; rfl
theorem e_X4_rests_201 (E : AEn) (i_4 : Int32) (i_5 : Int32) (i_6 : Int32) (h : AH) : evR T_X4_rests E 201 ([(4, .int i_4), (5, .int i_5), (6, .int i_6)], [], h) =
  bif !(i_4 == 0) then evR T_X4_rests E 209 ([(4, .int i_4), (6, .int i_6)], [], h) else
  evR T_X4_rests E 206 ([(5, .int i_5)], [], h) := by
  rw [evR_eq ok_T_X4_rests.loc (ops := b_X4_rests_201) rfl]; rfl
theorem e_X4_rests_206 (E : AEn) (i_5 : Int32) (h : AH) : evR T_X4_rests E 206 ([(5, .int i_5)], [], h) =
  some (.inl (some (.int i_5)), h) := by
  rw [evR_eq ok_T_X4_rests.loc (ops := b_X4_rests_206) rfl]; rfl
theorem e_X4_rests_209 (E : AEn) (i_4 : Int32) (i_6 : Int32) (h : AH) : evR T_X4_rests E 209 ([(4, .int i_4), (6, .int i_6)], [], h) =
  bif decide (0 ≤ i_6) then evR T_X4_rests E 219 ([(4, .int i_4), (6, .int i_6)], [], h) else
  evR T_X4_rests E 214 ([], [], h) := by
  rw [evR_eq ok_T_X4_rests.loc (ops := b_X4_rests_209) rfl]; rfl
theorem e_X4_rests_214 (E : AEn)  (h : AH) : evR T_X4_rests E 214 ([], [], h) =
  evR T_X4_rests E 240 ([], [.int (-2 : Int32)], h) := by
  rw [evR_eq ok_T_X4_rests.loc (ops := b_X4_rests_214) rfl]; rfl
theorem e_X4_rests_219 (E : AEn) (i_4 : Int32) (i_6 : Int32) (h : AH) : evR T_X4_rests E 219 ([(4, .int i_4), (6, .int i_6)], [], h) =
  bif !(i_4 == (1 : Int32)) then evR T_X4_rests E 234 ([(6, .int i_6)], [], h) else
  evR T_X4_rests E 225 ([(6, .int i_6)], [], h) := by
  rw [evR_eq ok_T_X4_rests.loc (ops := b_X4_rests_219) rfl]; rfl
theorem e_X4_rests_225 (E : AEn) (i_6 : Int32) (h : AH) : evR T_X4_rests E 225 ([(6, .int i_6)], [], h) =
  evR T_X4_rests E 240 ([], [.int ((5 : Int32) * (i_6 / (5 : Int32)))], h) := by
  rw [evR_eq ok_T_X4_rests.loc (ops := b_X4_rests_225) rfl]; rfl
theorem e_X4_rests_234 (E : AEn) (i_6 : Int32) (h : AH) : evR T_X4_rests E 234 ([(6, .int i_6)], [], h) =
  evR T_X4_rests E 240 ([], [.int ((5 : Int32) * (i_6 - i_6 / (5 : Int32) * (5 : Int32)))], h) := by
  rw [evR_eq ok_T_X4_rests.loc (ops := b_X4_rests_234) rfl]; rfl
theorem e_X4_rests_240 (E : AEn) (si_0 : Int32) (h : AH) : evR T_X4_rests E 240 ([], [.int si_0], h) =
  some (.inl (some (.int si_0)), h) := by
  rw [evR_eq ok_T_X4_rests.loc (ops := b_X4_rests_240) rfl]; rfl
theorem c_X4_rests (d : Nat) (a_0 : Nat) (i_1 : Int32) (i_2 : Int32) (i_3 : Int32) (i_4 : Int32) (h : AH) : callR (d + 1) n_X4_rests [.ref a_0, .int i_1, .int i_2, .int i_3, .int i_4] h =
  bif isO h a_0 4 then evR T_X4_rests (callR d) 0 ([(0, .ref a_0), (1, .int i_1), (2, .int i_2), (3, .int i_3), (4, .int i_4)], [], h) else none := by
  rw [callR_succ, show aMTl[n_X4_rests]? = some (T_X4_rests, [0, 1, 2, 3, 4]) from rfl]; show (bif (isO h a_0 4) && true then _ else _) = _; rw [Bool.and_true]; rfl
theorem e_X4_isRest_0 (E : AEn) (a_0 : Nat) (i_1 : Int32) (i_2 : Int32) (h : AH) : evR T_X4_isRest E 0 ([(0, .ref a_0), (1, .int i_1), (2, .int i_2)], [], h) =
  evR T_X4_isRest E 2 ([(0, .ref a_0), (1, .int i_1), (2, .int i_2), (3, .int (0 : Int32))], [], h) := by
  rw [evR_eq ok_T_X4_isRest.loc (ops := b_X4_isRest_0) rfl]; rfl
theorem e_X4_isRest_2 (E : AEn) (a_0 : Nat) (i_1 : Int32) (i_2 : Int32) (i_3 : Int32) (h : AH) : evR T_X4_isRest E 2 ([(0, .ref a_0), (1, .int i_1), (2, .int i_2), (3, .int i_3)], [], h) =
  bif decide ((5 : Int32) ≤ i_3) then evR T_X4_isRest E 73 ([], [], h) else
  evR T_X4_isRest E 7 ([(0, .ref a_0), (1, .int i_1), (2, .int i_2), (3, .int i_3)], [], h) := by
  rw [evR_eq ok_T_X4_isRest.loc (ops := b_X4_isRest_2) rfl]; rfl
theorem e_X4_isRest_7 (E : AEn) (a_0 : Nat) (i_1 : Int32) (i_2 : Int32) (i_3 : Int32) (h : AH) : evR T_X4_isRest E 7 ([(0, .ref a_0), (1, .int i_1), (2, .int i_2), (3, .int i_3)], [], h) =
  (rdR h a_0 4 35).bind fun r1 =>
  (ldI h r1 0 ((2 : Int32) * (((5 : Int32) * i_3) + i_2))).bind fun i2 =>
  (rdR h a_0 4 35).bind fun r3 =>
  (ldI h r3 0 ((2 : Int32) * (((5 : Int32) * i_1) + i_2))).bind fun i4 =>
  bif decide (i4 < i2) then evR T_X4_isRest E 65 ([], [], h) else
  evR T_X4_isRest E 34 ([(0, .ref a_0), (1, .int i_1), (2, .int i_2), (3, .int i_3)], [], h) := by
  rw [evR_eq ok_T_X4_isRest.loc (ops := b_X4_isRest_7) rfl]; rfl
theorem e_X4_isRest_34 (E : AEn) (a_0 : Nat) (i_1 : Int32) (i_2 : Int32) (i_3 : Int32) (h : AH) : evR T_X4_isRest E 34 ([(0, .ref a_0), (1, .int i_1), (2, .int i_2), (3, .int i_3)], [], h) =
  (rdR h a_0 4 35).bind fun r1 =>
  (ldI h r1 0 (((2 : Int32) * (((5 : Int32) * i_1) + i_3)) + (1 : Int32))).bind fun i2 =>
  (rdR h a_0 4 35).bind fun r3 =>
  (ldI h r3 0 (((2 : Int32) * (((5 : Int32) * i_1) + i_2)) + (1 : Int32))).bind fun i4 =>
  bif decide (i2 ≤ i4) then evR T_X4_isRest E 67 ([(0, .ref a_0), (1, .int i_1), (2, .int i_2), (3, .int i_3)], [], h) else
  evR T_X4_isRest E 65 ([], [], h) := by
  rw [evR_eq ok_T_X4_isRest.loc (ops := b_X4_isRest_34) rfl]; rfl
theorem e_X4_isRest_65 (E : AEn)  (h : AH) : evR T_X4_isRest E 65 ([], [], h) =
  some (.inl (some (.int (0 : Int32))), h) := by
  rw [evR_eq ok_T_X4_isRest.loc (ops := b_X4_isRest_65) rfl]; rfl
theorem e_X4_isRest_67 (E : AEn) (a_0 : Nat) (i_1 : Int32) (i_2 : Int32) (i_3 : Int32) (h : AH) : evR T_X4_isRest E 67 ([(0, .ref a_0), (1, .int i_1), (2, .int i_2), (3, .int i_3)], [], h) =
  evR T_X4_isRest E 2 ([(0, .ref a_0), (1, .int i_1), (2, .int i_2), (3, .int (i_3 + (1 : Int32)))], [], h) := by
  rw [evR_eq ok_T_X4_isRest.loc (ops := b_X4_isRest_67) rfl]; rfl
theorem e_X4_isRest_73 (E : AEn)  (h : AH) : evR T_X4_isRest E 73 ([], [], h) =
  some (.inl (some (.int (1 : Int32))), h) := by
  rw [evR_eq ok_T_X4_isRest.loc (ops := b_X4_isRest_73) rfl]; rfl
theorem c_X4_isRest (d : Nat) (a_0 : Nat) (i_1 : Int32) (i_2 : Int32) (h : AH) : callR (d + 1) n_X4_isRest [.ref a_0, .int i_1, .int i_2] h =
  bif isO h a_0 4 then evR T_X4_isRest (callR d) 0 ([(0, .ref a_0), (1, .int i_1), (2, .int i_2)], [], h) else none := by
  rw [callR_succ, show aMTl[n_X4_isRest]? = some (T_X4_isRest, [0, 1, 2]) from rfl]; show (bif (isO h a_0 4) && true then _ else _) = _; rw [Bool.and_true]; rfl
theorem e_X4_first_0 (E : AEn) (a_0 : Nat) (i_1 : Int32) (h : AH) : evR T_X4_first E 0 ([(0, .ref a_0), (1, .int i_1)], [], h) =
  rI (E n_X4_isValley [.ref a_0] h) (fun i2 h1 =>
  bif i2 == 0 then evR T_X4_first E 17 ([], [], h1) else
  evR T_X4_first E 7 ([(0, .ref a_0), (1, .int i_1)], [], h1)) thr := by
  rw [evR_eq ok_T_X4_first.loc (ops := b_X4_first_0) rfl]; rfl
theorem e_X4_first_7 (E : AEn) (a_0 : Nat) (i_1 : Int32) (h : AH) : evR T_X4_first E 7 ([(0, .ref a_0), (1, .int i_1)], [], h) =
  rI (E n_X4_in [.long i_1.toInt64, .long (0 : Int64), .long (1 : Int64)] h) (fun i2 h1 =>
  bif !(i2 == 0) then evR T_X4_first E 19 ([(0, .ref a_0), (1, .int i_1)], [], h1) else
  evR T_X4_first E 17 ([], [], h1)) thr := by
  rw [evR_eq ok_T_X4_first.loc (ops := b_X4_first_7) rfl]; rfl
theorem e_X4_first_17 (E : AEn)  (h : AH) : evR T_X4_first E 17 ([], [], h) =
  some (.inl (some (.int (-1 : Int32))), h) := by
  rw [evR_eq ok_T_X4_first.loc (ops := b_X4_first_17) rfl]; rfl
theorem e_X4_first_19 (E : AEn) (a_0 : Nat) (i_1 : Int32) (h : AH) : evR T_X4_first E 19 ([(0, .ref a_0), (1, .int i_1)], [], h) =
  rV (E n_X4_keeps [.ref a_0] h) (fun h1 =>
  evR T_X4_first E 28 ([(0, .ref a_0), (1, .int i_1), (2, .int (-2 : Int32)), (3, .int (0 : Int32))], [], h1)) thr := by
  rw [evR_eq ok_T_X4_first.loc (ops := b_X4_first_19) rfl]; rfl
theorem e_X4_first_28 (E : AEn) (a_0 : Nat) (i_1 : Int32) (i_2 : Int32) (i_3 : Int32) (h : AH) : evR T_X4_first E 28 ([(0, .ref a_0), (1, .int i_1), (2, .int i_2), (3, .int i_3)], [], h) =
  bif decide ((60 : Int32) ≤ i_3) then evR T_X4_first E 79 ([(0, .ref a_0), (2, .int i_2)], [], h) else
  evR T_X4_first E 34 ([(0, .ref a_0), (1, .int i_1), (2, .int i_2), (3, .int i_3)], [], h) := by
  rw [evR_eq ok_T_X4_first.loc (ops := b_X4_first_28) rfl]; rfl
theorem e_X4_first_34 (E : AEn) (a_0 : Nat) (i_1 : Int32) (i_2 : Int32) (i_3 : Int32) (h : AH) : evR T_X4_first E 34 ([(0, .ref a_0), (1, .int i_1), (2, .int i_2), (3, .int i_3)], [], h) =
  bif decide (0 ≤ i_2) then evR T_X4_first E 79 ([(0, .ref a_0), (2, .int i_2)], [], h) else
  evR T_X4_first E 38 ([(0, .ref a_0), (1, .int i_1), (2, .int i_2), (3, .int i_3)], [], h) := by
  rw [evR_eq ok_T_X4_first.loc (ops := b_X4_first_34) rfl]; rfl
theorem e_X4_first_38 (E : AEn) (a_0 : Nat) (i_1 : Int32) (i_2 : Int32) (i_3 : Int32) (h : AH) : evR T_X4_first E 38 ([(0, .ref a_0), (1, .int i_1), (2, .int i_2), (3, .int i_3)], [], h) =
  (rdR h a_0 4 21).bind fun r1 =>
  (ldI h r1 0 (10 : Int32)).bind fun i2 =>
  rI (E n_X4_passes [.ref a_0] h) (fun i4 h3 =>
  (rdI h3 a_0 4 29).bind fun i5 =>
  bif decide (i5 < 0) then evR T_X4_first E 73 ([(0, .ref a_0), (1, .int i_1), (2, .int i_2), (3, .int i_3)], [], h3) else
  evR T_X4_first E 59 ([(0, .ref a_0), (1, .int i_1), (3, .int i_3), (4, .int i2)], [], h3)) thr := by
  rw [evR_eq ok_T_X4_first.loc (ops := b_X4_first_38) rfl]; rfl
theorem e_X4_first_59 (E : AEn) (a_0 : Nat) (i_1 : Int32) (i_3 : Int32) (i_4 : Int32) (h : AH) : evR T_X4_first E 59 ([(0, .ref a_0), (1, .int i_1), (3, .int i_3), (4, .int i_4)], [], h) =
  bif !(i_1 == 0) then evR T_X4_first E 70 ([(0, .ref a_0), (1, .int i_1), (3, .int i_3), (4, .int i_4)], [], h) else
  evR T_X4_first E 63 ([(0, .ref a_0), (1, .int i_1), (3, .int i_3)], [], h) := by
  rw [evR_eq ok_T_X4_first.loc (ops := b_X4_first_59) rfl]; rfl
theorem e_X4_first_63 (E : AEn) (a_0 : Nat) (i_1 : Int32) (i_3 : Int32) (h : AH) : evR T_X4_first E 63 ([(0, .ref a_0), (1, .int i_1), (3, .int i_3)], [], h) =
  (rdI h a_0 4 29).bind fun i1 =>
  evR T_X4_first E 72 ([(0, .ref a_0), (1, .int i_1), (3, .int i_3)], [.int i1], h) := by
  rw [evR_eq ok_T_X4_first.loc (ops := b_X4_first_63) rfl]; rfl
theorem e_X4_first_70 (E : AEn) (a_0 : Nat) (i_1 : Int32) (i_3 : Int32) (i_4 : Int32) (h : AH) : evR T_X4_first E 70 ([(0, .ref a_0), (1, .int i_1), (3, .int i_3), (4, .int i_4)], [], h) =
  evR T_X4_first E 72 ([(0, .ref a_0), (1, .int i_1), (3, .int i_3)], [.int i_4], h) := by
  rw [evR_eq ok_T_X4_first.loc (ops := b_X4_first_70) rfl]; rfl
theorem e_X4_first_72 (E : AEn) (a_0 : Nat) (i_1 : Int32) (i_3 : Int32) (si_0 : Int32) (h : AH) : evR T_X4_first E 72 ([(0, .ref a_0), (1, .int i_1), (3, .int i_3)], [.int si_0], h) =
  evR T_X4_first E 73 ([(0, .ref a_0), (1, .int i_1), (2, .int si_0), (3, .int i_3)], [], h) := by
  rw [evR_eq ok_T_X4_first.loc (ops := b_X4_first_72) rfl]; rfl
theorem e_X4_first_73 (E : AEn) (a_0 : Nat) (i_1 : Int32) (i_2 : Int32) (i_3 : Int32) (h : AH) : evR T_X4_first E 73 ([(0, .ref a_0), (1, .int i_1), (2, .int i_2), (3, .int i_3)], [], h) =
  evR T_X4_first E 28 ([(0, .ref a_0), (1, .int i_1), (2, .int i_2), (3, .int (i_3 + (1 : Int32)))], [], h) := by
  rw [evR_eq ok_T_X4_first.loc (ops := b_X4_first_73) rfl]; rfl
theorem e_X4_first_79 (E : AEn) (a_0 : Nat) (i_2 : Int32) (h : AH) : evR T_X4_first E 79 ([(0, .ref a_0), (2, .int i_2)], [], h) =
  rV (E n_X4_laysBack [.ref a_0] h) (fun h1 =>
  some (.inl (some (.int i_2)), h1)) thr := by
  rw [evR_eq ok_T_X4_first.loc (ops := b_X4_first_79) rfl]; rfl
theorem c_X4_first (d : Nat) (a_0 : Nat) (i_1 : Int32) (h : AH) : callR (d + 1) n_X4_first [.ref a_0, .int i_1] h =
  bif isO h a_0 4 then evR T_X4_first (callR d) 0 ([(0, .ref a_0), (1, .int i_1)], [], h) else none := by
  rw [callR_succ, show aMTl[n_X4_first]? = some (T_X4_first, [0, 1]) from rfl]; show (bif (isO h a_0 4) && true then _ else _) = _; rw [Bool.and_true]; rfl
theorem e_X4_note_0 (E : AEn) (a_0 : Nat) (i_1 : Int32) (i_2 : Int32) (h : AH) : evR T_X4_note E 0 ([(0, .ref a_0), (1, .int i_1), (2, .int i_2)], [], h) =
  bif !(i_1 == (-1 : Int32)) then evR T_X4_note E 16 ([(0, .ref a_0), (1, .int i_1), (2, .int i_2)], [], h) else
  evR T_X4_note E 5 ([(0, .ref a_0)], [], h) := by
  rw [evR_eq ok_T_X4_note.loc (ops := b_X4_note_0) rfl]; rfl
theorem e_X4_note_5 (E : AEn) (a_0 : Nat) (h : AH) : evR T_X4_note E 5 ([(0, .ref a_0)], [], h) =
  (rdR h a_0 4 21).bind fun r1 =>
  (stI h r1 0 (131 : Int32) (0 : Int32)).bind fun h2 =>
  some (.inl (some (.int (0 : Int32))), h2) := by
  rw [evR_eq ok_T_X4_note.loc (ops := b_X4_note_5) rfl]; rfl
theorem e_X4_note_16 (E : AEn) (a_0 : Nat) (i_1 : Int32) (i_2 : Int32) (h : AH) : evR T_X4_note E 16 ([(0, .ref a_0), (1, .int i_1), (2, .int i_2)], [], h) =
  rI (E n_X4_in [.long i_1.toInt64, .long (0 : Int64), .long (60 : Int64)] h) (fun i2 h1 =>
  bif i2 == 0 then evR T_X4_note E 49 ([], [], h1) else
  evR T_X4_note E 28 ([(0, .ref a_0), (1, .int i_1), (2, .int i_2)], [], h1)) thr := by
  rw [evR_eq ok_T_X4_note.loc (ops := b_X4_note_16) rfl]; rfl
theorem e_X4_note_28 (E : AEn) (a_0 : Nat) (i_1 : Int32) (i_2 : Int32) (h : AH) : evR T_X4_note E 28 ([(0, .ref a_0), (1, .int i_1), (2, .int i_2)], [], h) =
  rI (E n_X4_isPlace [.ref a_0, .int i_2] h) (fun i2 h1 =>
  bif i2 == 0 then evR T_X4_note E 49 ([], [], h1) else
  evR T_X4_note E 36 ([(0, .ref a_0), (1, .int i_1), (2, .int i_2)], [], h1)) thr := by
  rw [evR_eq ok_T_X4_note.loc (ops := b_X4_note_28) rfl]; rfl
theorem e_X4_note_36 (E : AEn) (a_0 : Nat) (i_1 : Int32) (i_2 : Int32) (h : AH) : evR T_X4_note E 36 ([(0, .ref a_0), (1, .int i_1), (2, .int i_2)], [], h) =
  (rdR h a_0 4 21).bind fun r1 =>
  (ldI h r1 0 (131 : Int32)).bind fun i2 =>
  bif !(i2 == (10 : Int32)) then evR T_X4_note E 52 ([(0, .ref a_0), (1, .int i_1), (2, .int i_2)], [], h) else
  evR T_X4_note E 49 ([], [], h) := by
  rw [evR_eq ok_T_X4_note.loc (ops := b_X4_note_36) rfl]; rfl
theorem e_X4_note_49 (E : AEn)  (h : AH) : evR T_X4_note E 49 ([], [], h) =
  some (.inl (some (.int (-2 : Int32))), h) := by
  rw [evR_eq ok_T_X4_note.loc (ops := b_X4_note_49) rfl]; rfl
theorem e_X4_note_52 (E : AEn) (a_0 : Nat) (i_1 : Int32) (i_2 : Int32) (h : AH) : evR T_X4_note E 52 ([(0, .ref a_0), (1, .int i_1), (2, .int i_2)], [], h) =
  (rdR h a_0 4 21).bind fun r1 =>
  (ldI h r1 0 (131 : Int32)).bind fun i2 =>
  (rdR h a_0 4 21).bind fun r3 =>
  (stI h r3 0 ((111 : Int32) + ((2 : Int32) * i2)) i_1).bind fun h4 =>
  (rdR h4 a_0 4 21).bind fun r5 =>
  (stI h4 r5 0 (((111 : Int32) + ((2 : Int32) * i2)) + (1 : Int32)) i_2).bind fun h6 =>
  (rdR h6 a_0 4 21).bind fun r7 =>
  (ldI h6 r7 0 (131 : Int32)).bind fun i8 =>
  (stI h6 r7 0 (131 : Int32) (i8 + (1 : Int32))).bind fun h9 =>
  (rdR h9 a_0 4 21).bind fun r10 =>
  (ldI h9 r10 0 (131 : Int32)).bind fun i11 =>
  some (.inl (some (.int i11)), h9) := by
  rw [evR_eq ok_T_X4_note.loc (ops := b_X4_note_52) rfl]; rfl
theorem c_X4_note (d : Nat) (a_0 : Nat) (i_1 : Int32) (i_2 : Int32) (h : AH) : callR (d + 1) n_X4_note [.ref a_0, .int i_1, .int i_2] h =
  bif isO h a_0 4 then evR T_X4_note (callR d) 0 ([(0, .ref a_0), (1, .int i_1), (2, .int i_2)], [], h) else none := by
  rw [callR_succ, show aMTl[n_X4_note]? = some (T_X4_note, [0, 1, 2]) from rfl]; show (bif (isO h a_0 4) && true then _ else _) = _; rw [Bool.and_true]; rfl
theorem e_X4_ruled_0 (E : AEn) (a_0 : Nat) (i_1 : Int32) (h : AH) : evR T_X4_ruled E 0 ([(0, .ref a_0), (1, .int i_1)], [], h) =
  rI (E n_X4_isValley [.ref a_0] h) (fun i2 h1 =>
  bif i2 == 0 then evR T_X4_ruled E 17 ([], [], h1) else
  evR T_X4_ruled E 7 ([(0, .ref a_0), (1, .int i_1)], [], h1)) thr := by
  rw [evR_eq ok_T_X4_ruled.loc (ops := b_X4_ruled_0) rfl]; rfl
theorem e_X4_ruled_7 (E : AEn) (a_0 : Nat) (i_1 : Int32) (h : AH) : evR T_X4_ruled E 7 ([(0, .ref a_0), (1, .int i_1)], [], h) =
  rI (E n_X4_in [.long i_1.toInt64, .long (0 : Int64), .long (1 : Int64)] h) (fun i2 h1 =>
  bif !(i2 == 0) then evR T_X4_ruled E 20 ([(0, .ref a_0), (1, .int i_1)], [], h1) else
  evR T_X4_ruled E 17 ([], [], h1)) thr := by
  rw [evR_eq ok_T_X4_ruled.loc (ops := b_X4_ruled_7) rfl]; rfl
theorem e_X4_ruled_17 (E : AEn)  (h : AH) : evR T_X4_ruled E 17 ([], [], h) =
  some (.inl (some (.int (-3 : Int32))), h) := by
  rw [evR_eq ok_T_X4_ruled.loc (ops := b_X4_ruled_17) rfl]; rfl
theorem e_X4_ruled_20 (E : AEn) (a_0 : Nat) (i_1 : Int32) (h : AH) : evR T_X4_ruled E 20 ([(0, .ref a_0), (1, .int i_1)], [], h) =
  rV (E n_X4_fillsFits [.ref a_0] h) (fun h1 =>
  (rdI h1 a_0 4 2).bind fun i2 =>
  evR T_X4_ruled E 35 ([(0, .ref a_0), (1, .int i_1), (2, .int (0 : Int32)), (3, .int (-2 : Int32)), (4, .int i2)], [], h1)) thr := by
  rw [evR_eq ok_T_X4_ruled.loc (ops := b_X4_ruled_20) rfl]; rfl
theorem e_X4_ruled_35 (E : AEn) (a_0 : Nat) (i_1 : Int32) (i_2 : Int32) (i_3 : Int32) (i_4 : Int32) (h : AH) : evR T_X4_ruled E 35 ([(0, .ref a_0), (1, .int i_1), (2, .int i_2), (3, .int i_3), (4, .int i_4)], [], h) =
  bif decide (i_4 < 0) then evR T_X4_ruled E 67 ([(1, .int i_1), (2, .int i_2), (3, .int i_3)], [], h) else
  evR T_X4_ruled E 40 ([(0, .ref a_0), (1, .int i_1), (2, .int i_2), (3, .int i_3), (4, .int i_4)], [], h) := by
  rw [evR_eq ok_T_X4_ruled.loc (ops := b_X4_ruled_35) rfl]; rfl
theorem e_X4_ruled_40 (E : AEn) (a_0 : Nat) (i_1 : Int32) (i_2 : Int32) (i_3 : Int32) (i_4 : Int32) (h : AH) : evR T_X4_ruled E 40 ([(0, .ref a_0), (1, .int i_1), (2, .int i_2), (3, .int i_3), (4, .int i_4)], [], h) =
  (rdR h a_0 4 36).bind fun r1 =>
  (ldI h r1 3 i_4).bind fun i2 =>
  bif !(i2 == 0) then evR T_X4_ruled E 53 ([(0, .ref a_0), (1, .int i_1), (2, .int i_2), (4, .int i_4)], [], h) else
  evR T_X4_ruled E 50 ([(0, .ref a_0), (1, .int i_1), (2, .int i_2), (3, .int i_3), (4, .int i_4)], [], h) := by
  rw [evR_eq ok_T_X4_ruled.loc (ops := b_X4_ruled_40) rfl]; rfl
theorem e_X4_ruled_50 (E : AEn) (a_0 : Nat) (i_1 : Int32) (i_2 : Int32) (i_3 : Int32) (i_4 : Int32) (h : AH) : evR T_X4_ruled E 50 ([(0, .ref a_0), (1, .int i_1), (2, .int i_2), (3, .int i_3), (4, .int i_4)], [], h) =
  evR T_X4_ruled E 61 ([(0, .ref a_0), (1, .int i_1), (2, .int i_2), (3, .int i_3), (4, .int i_4)], [], h) := by
  rw [evR_eq ok_T_X4_ruled.loc (ops := b_X4_ruled_50) rfl]; rfl
theorem e_X4_ruled_53 (E : AEn) (a_0 : Nat) (i_1 : Int32) (i_2 : Int32) (i_4 : Int32) (h : AH) : evR T_X4_ruled E 53 ([(0, .ref a_0), (1, .int i_1), (2, .int i_2), (4, .int i_4)], [], h) =
  evR T_X4_ruled E 61 ([(0, .ref a_0), (1, .int i_1), (2, .int (i_2 + (1 : Int32))), (3, .int (i_4 - (1 : Int32))), (4, .int i_4)], [], h) := by
  rw [evR_eq ok_T_X4_ruled.loc (ops := b_X4_ruled_53) rfl]; rfl
theorem e_X4_ruled_61 (E : AEn) (a_0 : Nat) (i_1 : Int32) (i_2 : Int32) (i_3 : Int32) (i_4 : Int32) (h : AH) : evR T_X4_ruled E 61 ([(0, .ref a_0), (1, .int i_1), (2, .int i_2), (3, .int i_3), (4, .int i_4)], [], h) =
  evR T_X4_ruled E 35 ([(0, .ref a_0), (1, .int i_1), (2, .int i_2), (3, .int i_3), (4, .int (i_4 + (-1 : Int32)))], [], h) := by
  rw [evR_eq ok_T_X4_ruled.loc (ops := b_X4_ruled_61) rfl]; rfl
theorem e_X4_ruled_67 (E : AEn) (i_1 : Int32) (i_2 : Int32) (i_3 : Int32) (h : AH) : evR T_X4_ruled E 67 ([(1, .int i_1), (2, .int i_2), (3, .int i_3)], [], h) =
  bif !(i_1 == 0) then evR T_X4_ruled E 75 ([(3, .int i_3)], [], h) else
  evR T_X4_ruled E 71 ([(2, .int i_2)], [], h) := by
  rw [evR_eq ok_T_X4_ruled.loc (ops := b_X4_ruled_67) rfl]; rfl
theorem e_X4_ruled_71 (E : AEn) (i_2 : Int32) (h : AH) : evR T_X4_ruled E 71 ([(2, .int i_2)], [], h) =
  evR T_X4_ruled E 76 ([], [.int i_2], h) := by
  rw [evR_eq ok_T_X4_ruled.loc (ops := b_X4_ruled_71) rfl]; rfl
theorem e_X4_ruled_75 (E : AEn) (i_3 : Int32) (h : AH) : evR T_X4_ruled E 75 ([(3, .int i_3)], [], h) =
  evR T_X4_ruled E 76 ([], [.int i_3], h) := by
  rw [evR_eq ok_T_X4_ruled.loc (ops := b_X4_ruled_75) rfl]; rfl
theorem e_X4_ruled_76 (E : AEn) (si_0 : Int32) (h : AH) : evR T_X4_ruled E 76 ([], [.int si_0], h) =
  some (.inl (some (.int si_0)), h) := by
  rw [evR_eq ok_T_X4_ruled.loc (ops := b_X4_ruled_76) rfl]; rfl
theorem c_X4_ruled (d : Nat) (a_0 : Nat) (i_1 : Int32) (h : AH) : callR (d + 1) n_X4_ruled [.ref a_0, .int i_1] h =
  bif isO h a_0 4 then evR T_X4_ruled (callR d) 0 ([(0, .ref a_0), (1, .int i_1)], [], h) else none := by
  rw [callR_succ, show aMTl[n_X4_ruled]? = some (T_X4_ruled, [0, 1]) from rfl]; show (bif (isO h a_0 4) && true then _ else _) = _; rw [Bool.and_true]; rfl
theorem e_X4_fillsFits_0 (E : AEn) (a_0 : Nat) (h : AH) : evR T_X4_fillsFits E 0 ([(0, .ref a_0)], [], h) =
  (rdI h a_0 4 22).bind fun i1 =>
  rV (E n_X4_keeps [.ref a_0] h) (fun h2 =>
  evR T_X4_fillsFits E 11 ([(0, .ref a_0), (1, .int i1), (2, .int (0 : Int32))], [], h2)) thr := by
  rw [evR_eq ok_T_X4_fillsFits.loc (ops := b_X4_fillsFits_0) rfl]; rfl
theorem e_X4_fillsFits_11 (E : AEn) (a_0 : Nat) (i_1 : Int32) (i_2 : Int32) (h : AH) : evR T_X4_fillsFits E 11 ([(0, .ref a_0), (1, .int i_1), (2, .int i_2)], [], h) =
  (rdI h a_0 4 2).bind fun i1 =>
  bif decide (i1 < i_2) then evR T_X4_fillsFits E 83 ([(0, .ref a_0), (1, .int i_1)], [], h) else
  evR T_X4_fillsFits E 19 ([(0, .ref a_0), (1, .int i_1), (2, .int i_2)], [], h) := by
  rw [evR_eq ok_T_X4_fillsFits.loc (ops := b_X4_fillsFits_11) rfl]; rfl
theorem e_X4_fillsFits_19 (E : AEn) (a_0 : Nat) (i_1 : Int32) (i_2 : Int32) (h : AH) : evR T_X4_fillsFits E 19 ([(0, .ref a_0), (1, .int i_1), (2, .int i_2)], [], h) =
  (wrF h a_0 4 22 (.int (i_2 - (1 : Int32)))).bind fun h1 =>
  rV (E n_X4_begins [.ref a_0] h1) (fun h2 =>
  evR T_X4_fillsFits E 32 ([(0, .ref a_0), (1, .int i_1), (2, .int i_2), (3, .int (0 : Int32))], [], h2)) thr := by
  rw [evR_eq ok_T_X4_fillsFits.loc (ops := b_X4_fillsFits_19) rfl]; rfl
theorem e_X4_fillsFits_32 (E : AEn) (a_0 : Nat) (i_1 : Int32) (i_2 : Int32) (i_3 : Int32) (h : AH) : evR T_X4_fillsFits E 32 ([(0, .ref a_0), (1, .int i_1), (2, .int i_2), (3, .int i_3)], [], h) =
  bif decide ((60 : Int32) < i_3) then evR T_X4_fillsFits E 66 ([(0, .ref a_0), (1, .int i_1), (2, .int i_2)], [], h) else
  evR T_X4_fillsFits E 38 ([(0, .ref a_0), (1, .int i_1), (2, .int i_2), (3, .int i_3)], [], h) := by
  rw [evR_eq ok_T_X4_fillsFits.loc (ops := b_X4_fillsFits_32) rfl]; rfl
theorem e_X4_fillsFits_38 (E : AEn) (a_0 : Nat) (i_1 : Int32) (i_2 : Int32) (i_3 : Int32) (h : AH) : evR T_X4_fillsFits E 38 ([(0, .ref a_0), (1, .int i_1), (2, .int i_2), (3, .int i_3)], [], h) =
  (rdR h a_0 4 37).bind fun r1 =>
  rI (E n_X4_spot [.int i_2, .int i_3] h) (fun i3 h2 =>
  (rdR h2 a_0 4 21).bind fun r4 =>
  (ldI h2 r4 0 (11 : Int32)).bind fun i5 =>
  (stI h2 r1 0 i3 i5).bind fun h6 =>
  rI (E n_X4_passes [.ref a_0] h6) (fun i8 h7 =>
  evR T_X4_fillsFits E 32 ([(0, .ref a_0), (1, .int i_1), (2, .int i_2), (3, .int (i_3 + (1 : Int32)))], [], h7)) thr) thr := by
  rw [evR_eq ok_T_X4_fillsFits.loc (ops := b_X4_fillsFits_38) rfl]; rfl
theorem e_X4_fillsFits_66 (E : AEn) (a_0 : Nat) (i_1 : Int32) (i_2 : Int32) (h : AH) : evR T_X4_fillsFits E 66 ([(0, .ref a_0), (1, .int i_1), (2, .int i_2)], [], h) =
  (rdR h a_0 4 36).bind fun r1 =>
  rI (E n_X4_areNotesSo [.ref a_0, .int i_2] h) (fun i3 h2 =>
  (stI h2 r1 3 i_2 (vp_nar .boolean i3)).bind fun h4 =>
  evR T_X4_fillsFits E 11 ([(0, .ref a_0), (1, .int i_1), (2, .int (i_2 + (1 : Int32)))], [], h4)) thr := by
  rw [evR_eq ok_T_X4_fillsFits.loc (ops := b_X4_fillsFits_66) rfl]; rfl
theorem e_X4_fillsFits_83 (E : AEn) (a_0 : Nat) (i_1 : Int32) (h : AH) : evR T_X4_fillsFits E 83 ([(0, .ref a_0), (1, .int i_1)], [], h) =
  (wrF h a_0 4 22 (.int i_1)).bind fun h1 =>
  rV (E n_X4_laysBack [.ref a_0] h1) (fun h2 =>
  some (.inl none, h2)) thr := by
  rw [evR_eq ok_T_X4_fillsFits.loc (ops := b_X4_fillsFits_83) rfl]; rfl
theorem c_X4_fillsFits (d : Nat) (a_0 : Nat) (h : AH) : callR (d + 1) n_X4_fillsFits [.ref a_0] h =
  bif isO h a_0 4 then evR T_X4_fillsFits (callR d) 0 ([(0, .ref a_0)], [], h) else none := by
  rw [callR_succ, show aMTl[n_X4_fillsFits]? = some (T_X4_fillsFits, [0]) from rfl]; show (bif (isO h a_0 4) && true then _ else _) = _; rw [Bool.and_true]; rfl
theorem e_X4_spot_0 (E : AEn) (i_0 : Int32) (i_1 : Int32) (h : AH) : evR T_X4_spot E 0 ([(0, .int i_0), (1, .int i_1)], [], h) =
  some (.inl (some (.int (((61 : Int32) * i_0) + i_1))), h) := by
  rw [evR_eq ok_T_X4_spot.loc (ops := b_X4_spot_0) rfl]; rfl
theorem c_X4_spot (d : Nat) (i_0 : Int32) (i_1 : Int32) (h : AH) : callR (d + 1) n_X4_spot [.int i_0, .int i_1] h =
  evR T_X4_spot (callR d) 0 ([(0, .int i_0), (1, .int i_1)], [], h) := by
  rw [callR_succ, show aMTl[n_X4_spot]? = some (T_X4_spot, [0, 1]) from rfl]; rfl
theorem e_X4_areNotesSo_0 (E : AEn) (a_0 : Nat) (i_1 : Int32) (h : AH) : evR T_X4_areNotesSo E 0 ([(0, .ref a_0), (1, .int i_1)], [], h) =
  evR T_X4_areNotesSo E 2 ([(0, .ref a_0), (1, .int i_1), (2, .int (0 : Int32))], [], h) := by
  rw [evR_eq ok_T_X4_areNotesSo.loc (ops := b_X4_areNotesSo_0) rfl]; rfl
theorem e_X4_areNotesSo_2 (E : AEn) (a_0 : Nat) (i_1 : Int32) (i_2 : Int32) (h : AH) : evR T_X4_areNotesSo E 2 ([(0, .ref a_0), (1, .int i_1), (2, .int i_2)], [], h) =
  (rdR h a_0 4 21).bind fun r1 =>
  (ldI h r1 0 (131 : Int32)).bind fun i2 =>
  bif decide (((2 : Int32) * i2) ≤ i_2) then evR T_X4_areNotesSo E 56 ([], [], h) else
  evR T_X4_areNotesSo E 16 ([(0, .ref a_0), (1, .int i_1), (2, .int i_2)], [], h) := by
  rw [evR_eq ok_T_X4_areNotesSo.loc (ops := b_X4_areNotesSo_2) rfl]; rfl
theorem e_X4_areNotesSo_16 (E : AEn) (a_0 : Nat) (i_1 : Int32) (i_2 : Int32) (h : AH) : evR T_X4_areNotesSo E 16 ([(0, .ref a_0), (1, .int i_1), (2, .int i_2)], [], h) =
  (rdR h a_0 4 37).bind fun r1 =>
  (rdR h a_0 4 21).bind fun r2 =>
  (ldI h r2 0 ((111 : Int32) + i_2)).bind fun i3 =>
  rI (E n_X4_spot [.int i_1, .int i3] h) (fun i5 h4 =>
  (ldI h4 r1 0 i5).bind fun i6 =>
  (rdR h4 a_0 4 21).bind fun r7 =>
  (ldI h4 r7 0 (((111 : Int32) + i_2) + (1 : Int32))).bind fun i8 =>
  bif i6 == i8 then evR T_X4_areNotesSo E 50 ([(0, .ref a_0), (1, .int i_1), (2, .int i_2)], [], h4) else
  evR T_X4_areNotesSo E 48 ([], [], h4)) thr := by
  rw [evR_eq ok_T_X4_areNotesSo.loc (ops := b_X4_areNotesSo_16) rfl]; rfl
theorem e_X4_areNotesSo_48 (E : AEn)  (h : AH) : evR T_X4_areNotesSo E 48 ([], [], h) =
  some (.inl (some (.int (0 : Int32))), h) := by
  rw [evR_eq ok_T_X4_areNotesSo.loc (ops := b_X4_areNotesSo_48) rfl]; rfl
theorem e_X4_areNotesSo_50 (E : AEn) (a_0 : Nat) (i_1 : Int32) (i_2 : Int32) (h : AH) : evR T_X4_areNotesSo E 50 ([(0, .ref a_0), (1, .int i_1), (2, .int i_2)], [], h) =
  evR T_X4_areNotesSo E 2 ([(0, .ref a_0), (1, .int i_1), (2, .int (i_2 + (2 : Int32)))], [], h) := by
  rw [evR_eq ok_T_X4_areNotesSo.loc (ops := b_X4_areNotesSo_50) rfl]; rfl
theorem e_X4_areNotesSo_56 (E : AEn)  (h : AH) : evR T_X4_areNotesSo E 56 ([], [], h) =
  some (.inl (some (.int (1 : Int32))), h) := by
  rw [evR_eq ok_T_X4_areNotesSo.loc (ops := b_X4_areNotesSo_56) rfl]; rfl
theorem c_X4_areNotesSo (d : Nat) (a_0 : Nat) (i_1 : Int32) (h : AH) : callR (d + 1) n_X4_areNotesSo [.ref a_0, .int i_1] h =
  bif isO h a_0 4 then evR T_X4_areNotesSo (callR d) 0 ([(0, .ref a_0), (1, .int i_1)], [], h) else none := by
  rw [callR_succ, show aMTl[n_X4_areNotesSo]? = some (T_X4_areNotesSo, [0, 1]) from rfl]; show (bif (isO h a_0 4) && true then _ else _) = _; rw [Bool.and_true]; rfl
theorem e_X4_look_0 (E : AEn) (a_0 : Nat) (i_1 : Int32) (h : AH) : evR T_X4_look E 0 ([(0, .ref a_0), (1, .int i_1)], [], h) =
  rI (E n_X4_isValley [.ref a_0] h) (fun i2 h1 =>
  bif i2 == 0 then evR T_X4_look E 17 ([], [], h1) else
  evR T_X4_look E 7 ([(0, .ref a_0), (1, .int i_1)], [], h1)) thr := by
  rw [evR_eq ok_T_X4_look.loc (ops := b_X4_look_0) rfl]; rfl
theorem e_X4_look_7 (E : AEn) (a_0 : Nat) (i_1 : Int32) (h : AH) : evR T_X4_look E 7 ([(0, .ref a_0), (1, .int i_1)], [], h) =
  rI (E n_X4_in [.long i_1.toInt64, .long (0 : Int64), .long (1 : Int64)] h) (fun i2 h1 =>
  bif !(i2 == 0) then evR T_X4_look E 19 ([(0, .ref a_0), (1, .int i_1)], [], h1) else
  evR T_X4_look E 17 ([], [], h1)) thr := by
  rw [evR_eq ok_T_X4_look.loc (ops := b_X4_look_7) rfl]; rfl
theorem e_X4_look_17 (E : AEn)  (h : AH) : evR T_X4_look E 17 ([], [], h) =
  some (.inl (some (.int (-1 : Int32))), h) := by
  rw [evR_eq ok_T_X4_look.loc (ops := b_X4_look_17) rfl]; rfl
theorem e_X4_look_19 (E : AEn) (a_0 : Nat) (i_1 : Int32) (h : AH) : evR T_X4_look E 19 ([(0, .ref a_0), (1, .int i_1)], [], h) =
  rV (E n_X4_fillsFits [.ref a_0] h) (fun h1 =>
  evR T_X4_look E 27 ([(0, .ref a_0), (1, .int i_1), (2, .int (0 : Int32)), (3, .int (1 : Int32))], [], h1)) thr := by
  rw [evR_eq ok_T_X4_look.loc (ops := b_X4_look_19) rfl]; rfl
theorem e_X4_look_27 (E : AEn) (a_0 : Nat) (i_1 : Int32) (i_2 : Int32) (i_3 : Int32) (h : AH) : evR T_X4_look E 27 ([(0, .ref a_0), (1, .int i_1), (2, .int i_2), (3, .int i_3)], [], h) =
  bif decide ((60 : Int32) < i_3) then evR T_X4_look E 54 ([(0, .ref a_0), (1, .int i_1), (2, .int i_2)], [], h) else
  evR T_X4_look E 33 ([(0, .ref a_0), (1, .int i_1), (2, .int i_2), (3, .int i_3)], [], h) := by
  rw [evR_eq ok_T_X4_look.loc (ops := b_X4_look_27) rfl]; rfl
theorem e_X4_look_33 (E : AEn) (a_0 : Nat) (i_1 : Int32) (i_2 : Int32) (i_3 : Int32) (h : AH) : evR T_X4_look E 33 ([(0, .ref a_0), (1, .int i_1), (2, .int i_2), (3, .int i_3)], [], h) =
  rI (E n_X4_alikeAt [.ref a_0, .int i_3] h) (fun i2 h1 =>
  rI (E n_X4_alikeAt [.ref a_0, .int i_2] h1) (fun i4 h3 =>
  bif decide (i4 ≤ i2) then evR T_X4_look E 48 ([(0, .ref a_0), (1, .int i_1), (2, .int i_2), (3, .int i_3)], [], h3) else
  evR T_X4_look E 46 ([(0, .ref a_0), (1, .int i_1), (3, .int i_3)], [], h3)) thr) thr := by
  rw [evR_eq ok_T_X4_look.loc (ops := b_X4_look_33) rfl]; rfl
theorem e_X4_look_46 (E : AEn) (a_0 : Nat) (i_1 : Int32) (i_3 : Int32) (h : AH) : evR T_X4_look E 46 ([(0, .ref a_0), (1, .int i_1), (3, .int i_3)], [], h) =
  evR T_X4_look E 48 ([(0, .ref a_0), (1, .int i_1), (2, .int i_3), (3, .int i_3)], [], h) := by
  rw [evR_eq ok_T_X4_look.loc (ops := b_X4_look_46) rfl]; rfl
theorem e_X4_look_48 (E : AEn) (a_0 : Nat) (i_1 : Int32) (i_2 : Int32) (i_3 : Int32) (h : AH) : evR T_X4_look E 48 ([(0, .ref a_0), (1, .int i_1), (2, .int i_2), (3, .int i_3)], [], h) =
  evR T_X4_look E 27 ([(0, .ref a_0), (1, .int i_1), (2, .int i_2), (3, .int (i_3 + (1 : Int32)))], [], h) := by
  rw [evR_eq ok_T_X4_look.loc (ops := b_X4_look_48) rfl]; rfl
theorem e_X4_look_54 (E : AEn) (a_0 : Nat) (i_1 : Int32) (i_2 : Int32) (h : AH) : evR T_X4_look E 54 ([(0, .ref a_0), (1, .int i_1), (2, .int i_2)], [], h) =
  rI (E n_X4_alikeAt [.ref a_0, .int i_2] h) (fun i2 h1 =>
  bif !(i2 == 0) then evR T_X4_look E 67 ([(0, .ref a_0), (1, .int i_1), (2, .int i_2)], [], h1) else
  evR T_X4_look E 62 ([], [], h1)) thr := by
  rw [evR_eq ok_T_X4_look.loc (ops := b_X4_look_54) rfl]; rfl
theorem e_X4_look_62 (E : AEn)  (h : AH) : evR T_X4_look E 62 ([], [], h) =
  evR T_X4_look E 80 ([], [.int (-2 : Int32)], h) := by
  rw [evR_eq ok_T_X4_look.loc (ops := b_X4_look_62) rfl]; rfl
theorem e_X4_look_67 (E : AEn) (a_0 : Nat) (i_1 : Int32) (i_2 : Int32) (h : AH) : evR T_X4_look E 67 ([(0, .ref a_0), (1, .int i_1), (2, .int i_2)], [], h) =
  bif !(i_1 == 0) then evR T_X4_look E 75 ([(0, .ref a_0), (2, .int i_2)], [], h) else
  evR T_X4_look E 71 ([(2, .int i_2)], [], h) := by
  rw [evR_eq ok_T_X4_look.loc (ops := b_X4_look_67) rfl]; rfl
theorem e_X4_look_71 (E : AEn) (i_2 : Int32) (h : AH) : evR T_X4_look E 71 ([(2, .int i_2)], [], h) =
  evR T_X4_look E 80 ([], [.int i_2], h) := by
  rw [evR_eq ok_T_X4_look.loc (ops := b_X4_look_71) rfl]; rfl
theorem e_X4_look_75 (E : AEn) (a_0 : Nat) (i_2 : Int32) (h : AH) : evR T_X4_look E 75 ([(0, .ref a_0), (2, .int i_2)], [], h) =
  rI (E n_X4_alikeAt [.ref a_0, .int i_2] h) (fun i2 h1 =>
  evR T_X4_look E 80 ([], [.int i2], h1)) thr := by
  rw [evR_eq ok_T_X4_look.loc (ops := b_X4_look_75) rfl]; rfl
theorem e_X4_look_80 (E : AEn) (si_0 : Int32) (h : AH) : evR T_X4_look E 80 ([], [.int si_0], h) =
  some (.inl (some (.int si_0)), h) := by
  rw [evR_eq ok_T_X4_look.loc (ops := b_X4_look_80) rfl]; rfl
theorem c_X4_look (d : Nat) (a_0 : Nat) (i_1 : Int32) (h : AH) : callR (d + 1) n_X4_look [.ref a_0, .int i_1] h =
  bif isO h a_0 4 then evR T_X4_look (callR d) 0 ([(0, .ref a_0), (1, .int i_1)], [], h) else none := by
  rw [callR_succ, show aMTl[n_X4_look]? = some (T_X4_look, [0, 1]) from rfl]; show (bif (isO h a_0 4) && true then _ else _) = _; rw [Bool.and_true]; rfl
theorem e_X4_alikeAt_0 (E : AEn) (a_0 : Nat) (i_1 : Int32) (h : AH) : evR T_X4_alikeAt E 0 ([(0, .ref a_0), (1, .int i_1)], [], h) =
  evR T_X4_alikeAt E 4 ([(0, .ref a_0), (1, .int i_1), (2, .int (0 : Int32)), (3, .int (0 : Int32))], [], h) := by
  rw [evR_eq ok_T_X4_alikeAt.loc (ops := b_X4_alikeAt_0) rfl]; rfl
theorem e_X4_alikeAt_4 (E : AEn) (a_0 : Nat) (i_1 : Int32) (i_2 : Int32) (i_3 : Int32) (h : AH) : evR T_X4_alikeAt E 4 ([(0, .ref a_0), (1, .int i_1), (2, .int i_2), (3, .int i_3)], [], h) =
  (rdI h a_0 4 2).bind fun i1 =>
  bif decide (i1 < i_3) then evR T_X4_alikeAt E 105 ([(2, .int i_2)], [], h) else
  evR T_X4_alikeAt E 12 ([(0, .ref a_0), (1, .int i_1), (2, .int i_2), (3, .int i_3)], [], h) := by
  rw [evR_eq ok_T_X4_alikeAt.loc (ops := b_X4_alikeAt_4) rfl]; rfl
theorem e_X4_alikeAt_12 (E : AEn) (a_0 : Nat) (i_1 : Int32) (i_2 : Int32) (i_3 : Int32) (h : AH) : evR T_X4_alikeAt E 12 ([(0, .ref a_0), (1, .int i_1), (2, .int i_2), (3, .int i_3)], [], h) =
  evR T_X4_alikeAt E 18 ([(0, .ref a_0), (1, .int i_1), (2, .int i_2), (3, .int i_3), (4, .int (0 : Int32)), (5, .int (0 : Int32))], [], h) := by
  rw [evR_eq ok_T_X4_alikeAt.loc (ops := b_X4_alikeAt_12) rfl]; rfl
theorem e_X4_alikeAt_18 (E : AEn) (a_0 : Nat) (i_1 : Int32) (i_2 : Int32) (i_3 : Int32) (i_4 : Int32) (i_5 : Int32) (h : AH) : evR T_X4_alikeAt E 18 ([(0, .ref a_0), (1, .int i_1), (2, .int i_2), (3, .int i_3), (4, .int i_4), (5, .int i_5)], [], h) =
  (rdI h a_0 4 2).bind fun i1 =>
  bif decide (i1 < i_5) then evR T_X4_alikeAt E 86 ([(0, .ref a_0), (1, .int i_1), (2, .int i_2), (3, .int i_3), (4, .int i_4)], [], h) else
  evR T_X4_alikeAt E 27 ([(0, .ref a_0), (1, .int i_1), (2, .int i_2), (3, .int i_3), (4, .int i_4), (5, .int i_5)], [], h) := by
  rw [evR_eq ok_T_X4_alikeAt.loc (ops := b_X4_alikeAt_18) rfl]; rfl
theorem e_X4_alikeAt_27 (E : AEn) (a_0 : Nat) (i_1 : Int32) (i_2 : Int32) (i_3 : Int32) (i_4 : Int32) (i_5 : Int32) (h : AH) : evR T_X4_alikeAt E 27 ([(0, .ref a_0), (1, .int i_1), (2, .int i_2), (3, .int i_3), (4, .int i_4), (5, .int i_5)], [], h) =
  (rdR h a_0 4 36).bind fun r1 =>
  (ldI h r1 3 i_3).bind fun i2 =>
  bif i2 == 0 then evR T_X4_alikeAt E 86 ([(0, .ref a_0), (1, .int i_1), (2, .int i_2), (3, .int i_3), (4, .int i_4)], [], h) else
  evR T_X4_alikeAt E 36 ([(0, .ref a_0), (1, .int i_1), (2, .int i_2), (3, .int i_3), (4, .int i_4), (5, .int i_5)], [], h) := by
  rw [evR_eq ok_T_X4_alikeAt.loc (ops := b_X4_alikeAt_27) rfl]; rfl
theorem e_X4_alikeAt_36 (E : AEn) (a_0 : Nat) (i_1 : Int32) (i_2 : Int32) (i_3 : Int32) (i_4 : Int32) (i_5 : Int32) (h : AH) : evR T_X4_alikeAt E 36 ([(0, .ref a_0), (1, .int i_1), (2, .int i_2), (3, .int i_3), (4, .int i_4), (5, .int i_5)], [], h) =
  (rdR h a_0 4 36).bind fun r1 =>
  (ldI h r1 3 i_5).bind fun i2 =>
  bif i2 == 0 then evR T_X4_alikeAt E 76 ([(0, .ref a_0), (1, .int i_1), (2, .int i_2), (3, .int i_3), (5, .int i_5)], [.int i_4], h) else
  evR T_X4_alikeAt E 48 ([(0, .ref a_0), (1, .int i_1), (2, .int i_2), (3, .int i_3), (5, .int i_5)], [.int i_4], h) := by
  rw [evR_eq ok_T_X4_alikeAt.loc (ops := b_X4_alikeAt_36) rfl]; rfl
theorem e_X4_alikeAt_48 (E : AEn) (a_0 : Nat) (i_1 : Int32) (i_2 : Int32) (i_3 : Int32) (i_5 : Int32) (si_0 : Int32) (h : AH) : evR T_X4_alikeAt E 48 ([(0, .ref a_0), (1, .int i_1), (2, .int i_2), (3, .int i_3), (5, .int i_5)], [.int si_0], h) =
  (rdR h a_0 4 37).bind fun r1 =>
  rI (E n_X4_spot [.int i_3, .int i_1] h) (fun i3 h2 =>
  (ldI h2 r1 0 i3).bind fun i4 =>
  (rdR h2 a_0 4 37).bind fun r5 =>
  rI (E n_X4_spot [.int i_5, .int i_1] h2) (fun i7 h6 =>
  (ldI h6 r5 0 i7).bind fun i8 =>
  bif !(i4 == i8) then evR T_X4_alikeAt E 76 ([(0, .ref a_0), (1, .int i_1), (2, .int i_2), (3, .int i_3), (5, .int i_5)], [.int si_0], h6) else
  evR T_X4_alikeAt E 72 ([(0, .ref a_0), (1, .int i_1), (2, .int i_2), (3, .int i_3), (5, .int i_5)], [.int si_0], h6)) thr) thr := by
  rw [evR_eq ok_T_X4_alikeAt.loc (ops := b_X4_alikeAt_48) rfl]; rfl
theorem e_X4_alikeAt_72 (E : AEn) (a_0 : Nat) (i_1 : Int32) (i_2 : Int32) (i_3 : Int32) (i_5 : Int32) (si_0 : Int32) (h : AH) : evR T_X4_alikeAt E 72 ([(0, .ref a_0), (1, .int i_1), (2, .int i_2), (3, .int i_3), (5, .int i_5)], [.int si_0], h) =
  evR T_X4_alikeAt E 77 ([(0, .ref a_0), (1, .int i_1), (2, .int i_2), (3, .int i_3), (5, .int i_5)], [.int (1 : Int32), .int si_0], h) := by
  rw [evR_eq ok_T_X4_alikeAt.loc (ops := b_X4_alikeAt_72) rfl]; rfl
theorem e_X4_alikeAt_76 (E : AEn) (a_0 : Nat) (i_1 : Int32) (i_2 : Int32) (i_3 : Int32) (i_5 : Int32) (si_0 : Int32) (h : AH) : evR T_X4_alikeAt E 76 ([(0, .ref a_0), (1, .int i_1), (2, .int i_2), (3, .int i_3), (5, .int i_5)], [.int si_0], h) =
  evR T_X4_alikeAt E 77 ([(0, .ref a_0), (1, .int i_1), (2, .int i_2), (3, .int i_3), (5, .int i_5)], [.int (0 : Int32), .int si_0], h) := by
  rw [evR_eq ok_T_X4_alikeAt.loc (ops := b_X4_alikeAt_76) rfl]; rfl
theorem e_X4_alikeAt_77 (E : AEn) (a_0 : Nat) (i_1 : Int32) (i_2 : Int32) (i_3 : Int32) (i_5 : Int32) (si_0 : Int32) (si_1 : Int32) (h : AH) : evR T_X4_alikeAt E 77 ([(0, .ref a_0), (1, .int i_1), (2, .int i_2), (3, .int i_3), (5, .int i_5)], [.int si_0, .int si_1], h) =
  evR T_X4_alikeAt E 18 ([(0, .ref a_0), (1, .int i_1), (2, .int i_2), (3, .int i_3), (4, .int (si_1 + si_0)), (5, .int (i_5 + (1 : Int32)))], [], h) := by
  rw [evR_eq ok_T_X4_alikeAt.loc (ops := b_X4_alikeAt_77) rfl]; rfl
theorem e_X4_alikeAt_86 (E : AEn) (a_0 : Nat) (i_1 : Int32) (i_2 : Int32) (i_3 : Int32) (i_4 : Int32) (h : AH) : evR T_X4_alikeAt E 86 ([(0, .ref a_0), (1, .int i_1), (2, .int i_2), (3, .int i_3), (4, .int i_4)], [], h) =
  bif decide (i_4 ≤ i_2) then evR T_X4_alikeAt E 97 ([(0, .ref a_0), (1, .int i_1), (2, .int i_2), (3, .int i_3)], [], h) else
  evR T_X4_alikeAt E 92 ([(0, .ref a_0), (1, .int i_1), (3, .int i_3), (4, .int i_4)], [], h) := by
  rw [evR_eq ok_T_X4_alikeAt.loc (ops := b_X4_alikeAt_86) rfl]; rfl
theorem e_X4_alikeAt_92 (E : AEn) (a_0 : Nat) (i_1 : Int32) (i_3 : Int32) (i_4 : Int32) (h : AH) : evR T_X4_alikeAt E 92 ([(0, .ref a_0), (1, .int i_1), (3, .int i_3), (4, .int i_4)], [], h) =
  evR T_X4_alikeAt E 98 ([(0, .ref a_0), (1, .int i_1), (3, .int i_3)], [.int i_4], h) := by
  rw [evR_eq ok_T_X4_alikeAt.loc (ops := b_X4_alikeAt_92) rfl]; rfl
theorem e_X4_alikeAt_97 (E : AEn) (a_0 : Nat) (i_1 : Int32) (i_2 : Int32) (i_3 : Int32) (h : AH) : evR T_X4_alikeAt E 97 ([(0, .ref a_0), (1, .int i_1), (2, .int i_2), (3, .int i_3)], [], h) =
  evR T_X4_alikeAt E 98 ([(0, .ref a_0), (1, .int i_1), (3, .int i_3)], [.int i_2], h) := by
  rw [evR_eq ok_T_X4_alikeAt.loc (ops := b_X4_alikeAt_97) rfl]; rfl
theorem e_X4_alikeAt_98 (E : AEn) (a_0 : Nat) (i_1 : Int32) (i_3 : Int32) (si_0 : Int32) (h : AH) : evR T_X4_alikeAt E 98 ([(0, .ref a_0), (1, .int i_1), (3, .int i_3)], [.int si_0], h) =
  evR T_X4_alikeAt E 4 ([(0, .ref a_0), (1, .int i_1), (2, .int si_0), (3, .int (i_3 + (1 : Int32)))], [], h) := by
  rw [evR_eq ok_T_X4_alikeAt.loc (ops := b_X4_alikeAt_98) rfl]; rfl
theorem e_X4_alikeAt_105 (E : AEn) (i_2 : Int32) (h : AH) : evR T_X4_alikeAt E 105 ([(2, .int i_2)], [], h) =
  some (.inl (some (.int i_2)), h) := by
  rw [evR_eq ok_T_X4_alikeAt.loc (ops := b_X4_alikeAt_105) rfl]; rfl
theorem c_X4_alikeAt (d : Nat) (a_0 : Nat) (i_1 : Int32) (h : AH) : callR (d + 1) n_X4_alikeAt [.ref a_0, .int i_1] h =
  bif isO h a_0 4 then evR T_X4_alikeAt (callR d) 0 ([(0, .ref a_0), (1, .int i_1)], [], h) else none := by
  rw [callR_succ, show aMTl[n_X4_alikeAt]? = some (T_X4_alikeAt, [0, 1]) from rfl]; show (bif (isO h a_0 4) && true then _ else _) = _; rw [Bool.and_true]; rfl
theorem e_X4_seed_0 (E : AEn) (a_0 : Nat) (i_1 : Int32) (h : AH) : evR T_X4_seed E 0 ([(0, .ref a_0), (1, .int i_1)], [], h) =
  bif decide (0 ≤ i_1) then evR T_X4_seed E 6 ([(0, .ref a_0), (1, .int i_1)], [], h) else
  evR T_X4_seed E 4 ([], [], h) := by
  rw [evR_eq ok_T_X4_seed.loc (ops := b_X4_seed_0) rfl]; rfl
theorem e_X4_seed_4 (E : AEn)  (h : AH) : evR T_X4_seed E 4 ([], [], h) =
  some (.inl (some (.int (-1 : Int32))), h) := by
  rw [evR_eq ok_T_X4_seed.loc (ops := b_X4_seed_4) rfl]; rfl
theorem e_X4_seed_6 (E : AEn) (a_0 : Nat) (i_1 : Int32) (h : AH) : evR T_X4_seed E 6 ([(0, .ref a_0), (1, .int i_1)], [], h) =
  (rdI h a_0 4 23).bind fun i1 =>
  (wrF h a_0 4 23 (.int i_1)).bind fun h2 =>
  some (.inl (some (.int i1)), h2) := by
  rw [evR_eq ok_T_X4_seed.loc (ops := b_X4_seed_6) rfl]; rfl
theorem c_X4_seed (d : Nat) (a_0 : Nat) (i_1 : Int32) (h : AH) : callR (d + 1) n_X4_seed [.ref a_0, .int i_1] h =
  bif isO h a_0 4 then evR T_X4_seed (callR d) 0 ([(0, .ref a_0), (1, .int i_1)], [], h) else none := by
  rw [callR_succ, show aMTl[n_X4_seed]? = some (T_X4_seed, [0, 1]) from rfl]; show (bif (isO h a_0 4) && true then _ else _) = _; rw [Bool.and_true]; rfl
theorem e_X4_sparks_0 (E : AEn) (a_0 : Nat) (i_1 : Int32) (i_2 : Int32) (i_3 : Int32) (i_4 : Int32) (h : AH) : evR T_X4_sparks E 0 ([(0, .ref a_0), (1, .int i_1), (2, .int i_2), (3, .int i_3), (4, .int i_4)], [], h) =
  rI (E n_X4_isValley [.ref a_0] h) (fun i2 h1 =>
  bif i2 == 0 then evR T_X4_sparks E 54 ([], [], h1) else
  evR T_X4_sparks E 7 ([(0, .ref a_0), (1, .int i_1), (2, .int i_2), (3, .int i_3), (4, .int i_4)], [], h1)) thr := by
  rw [evR_eq ok_T_X4_sparks.loc (ops := b_X4_sparks_0) rfl]; rfl
theorem e_X4_sparks_7 (E : AEn) (a_0 : Nat) (i_1 : Int32) (i_2 : Int32) (i_3 : Int32) (i_4 : Int32) (h : AH) : evR T_X4_sparks E 7 ([(0, .ref a_0), (1, .int i_1), (2, .int i_2), (3, .int i_3), (4, .int i_4)], [], h) =
  rI (E n_X4_in [.long i_1.toInt64, .long (1 : Int64), .long (10 : Int64)] h) (fun i2 h1 =>
  bif i2 == 0 then evR T_X4_sparks E 54 ([], [], h1) else
  evR T_X4_sparks E 19 ([(0, .ref a_0), (1, .int i_1), (2, .int i_2), (3, .int i_3), (4, .int i_4)], [], h1)) thr := by
  rw [evR_eq ok_T_X4_sparks.loc (ops := b_X4_sparks_7) rfl]; rfl
theorem e_X4_sparks_19 (E : AEn) (a_0 : Nat) (i_1 : Int32) (i_2 : Int32) (i_3 : Int32) (i_4 : Int32) (h : AH) : evR T_X4_sparks E 19 ([(0, .ref a_0), (1, .int i_1), (2, .int i_2), (3, .int i_3), (4, .int i_4)], [], h) =
  rI (E n_X4_in [.long i_2.toInt64, .long (1 : Int64), .long (60 : Int64)] h) (fun i2 h1 =>
  bif i2 == 0 then evR T_X4_sparks E 54 ([], [], h1) else
  evR T_X4_sparks E 31 ([(0, .ref a_0), (1, .int i_1), (2, .int i_2), (3, .int i_3), (4, .int i_4)], [], h1)) thr := by
  rw [evR_eq ok_T_X4_sparks.loc (ops := b_X4_sparks_19) rfl]; rfl
theorem e_X4_sparks_31 (E : AEn) (a_0 : Nat) (i_1 : Int32) (i_2 : Int32) (i_3 : Int32) (i_4 : Int32) (h : AH) : evR T_X4_sparks E 31 ([(0, .ref a_0), (1, .int i_1), (2, .int i_2), (3, .int i_3), (4, .int i_4)], [], h) =
  rI (E n_X4_in [.long i_3.toInt64, .long (0 : Int64), .long (100 : Int64)] h) (fun i2 h1 =>
  bif i2 == 0 then evR T_X4_sparks E 54 ([], [], h1) else
  evR T_X4_sparks E 43 ([(0, .ref a_0), (1, .int i_1), (2, .int i_2), (3, .int i_3), (4, .int i_4)], [], h1)) thr := by
  rw [evR_eq ok_T_X4_sparks.loc (ops := b_X4_sparks_31) rfl]; rfl
theorem e_X4_sparks_43 (E : AEn) (a_0 : Nat) (i_1 : Int32) (i_2 : Int32) (i_3 : Int32) (i_4 : Int32) (h : AH) : evR T_X4_sparks E 43 ([(0, .ref a_0), (1, .int i_1), (2, .int i_2), (3, .int i_3), (4, .int i_4)], [], h) =
  rI (E n_X4_in [.long i_4.toInt64, .long (0 : Int64), .long (1 : Int64)] h) (fun i2 h1 =>
  bif !(i2 == 0) then evR T_X4_sparks E 56 ([(0, .ref a_0), (1, .int i_1), (2, .int i_2), (3, .int i_3), (4, .int i_4)], [], h1) else
  evR T_X4_sparks E 54 ([], [], h1)) thr := by
  rw [evR_eq ok_T_X4_sparks.loc (ops := b_X4_sparks_43) rfl]; rfl
theorem e_X4_sparks_54 (E : AEn)  (h : AH) : evR T_X4_sparks E 54 ([], [], h) =
  some (.inl (some (.int (-1 : Int32))), h) := by
  rw [evR_eq ok_T_X4_sparks.loc (ops := b_X4_sparks_54) rfl]; rfl
theorem e_X4_sparks_56 (E : AEn) (a_0 : Nat) (i_1 : Int32) (i_2 : Int32) (i_3 : Int32) (i_4 : Int32) (h : AH) : evR T_X4_sparks E 56 ([(0, .ref a_0), (1, .int i_1), (2, .int i_2), (3, .int i_3), (4, .int i_4)], [], h) =
  (rdI h a_0 4 23).bind fun i1 =>
  (wrF h a_0 4 38 (.long i1.toInt64)).bind fun h2 =>
  rV (E n_X4_keeps [.ref a_0] h2) (fun h3 =>
  evR T_X4_sparks E 78 ([(0, .ref a_0), (1, .int i_1), (2, .int i_2), (3, .int i_3), (4, .int i_4), (5, .int (0 : Int32)), (6, .int (0 : Int32)), (7, .int (0 : Int32))], [], h3)) thr := by
  rw [evR_eq ok_T_X4_sparks.loc (ops := b_X4_sparks_56) rfl]; rfl
theorem e_X4_sparks_78 (E : AEn) (a_0 : Nat) (i_1 : Int32) (i_2 : Int32) (i_3 : Int32) (i_4 : Int32) (i_5 : Int32) (i_6 : Int32) (i_7 : Int32) (h : AH) : evR T_X4_sparks E 78 ([(0, .ref a_0), (1, .int i_1), (2, .int i_2), (3, .int i_3), (4, .int i_4), (5, .int i_5), (6, .int i_6), (7, .int i_7)], [], h) =
  bif decide (i_1 ≤ i_7) then evR T_X4_sparks E 168 ([(4, .int i_4), (5, .int i_5), (6, .int i_6)], [], h) else
  evR T_X4_sparks E 84 ([(0, .ref a_0), (1, .int i_1), (2, .int i_2), (3, .int i_3), (4, .int i_4), (5, .int i_5), (6, .int i_6), (7, .int i_7)], [], h) := by
  rw [evR_eq ok_T_X4_sparks.loc (ops := b_X4_sparks_78) rfl]; rfl
theorem e_X4_sparks_84 (E : AEn) (a_0 : Nat) (i_1 : Int32) (i_2 : Int32) (i_3 : Int32) (i_4 : Int32) (i_5 : Int32) (i_6 : Int32) (i_7 : Int32) (h : AH) : evR T_X4_sparks E 84 ([(0, .ref a_0), (1, .int i_1), (2, .int i_2), (3, .int i_3), (4, .int i_4), (5, .int i_5), (6, .int i_6), (7, .int i_7)], [], h) =
  evR T_X4_sparks E 87 ([(0, .ref a_0), (1, .int i_1), (2, .int i_2), (3, .int i_3), (4, .int i_4), (5, .int i_5), (6, .int i_6), (7, .int i_7), (8, .int (0 : Int32))], [], h) := by
  rw [evR_eq ok_T_X4_sparks.loc (ops := b_X4_sparks_84) rfl]; rfl
theorem e_X4_sparks_87 (E : AEn) (a_0 : Nat) (i_1 : Int32) (i_2 : Int32) (i_3 : Int32) (i_4 : Int32) (i_5 : Int32) (i_6 : Int32) (i_7 : Int32) (i_8 : Int32) (h : AH) : evR T_X4_sparks E 87 ([(0, .ref a_0), (1, .int i_1), (2, .int i_2), (3, .int i_3), (4, .int i_4), (5, .int i_5), (6, .int i_6), (7, .int i_7), (8, .int i_8)], [], h) =
  bif decide (i_2 ≤ i_8) then evR T_X4_sparks E 137 ([(0, .ref a_0), (1, .int i_1), (2, .int i_2), (3, .int i_3), (4, .int i_4), (5, .int i_5), (6, .int i_6), (7, .int i_7)], [], h) else
  evR T_X4_sparks E 93 ([(0, .ref a_0), (1, .int i_1), (2, .int i_2), (3, .int i_3), (4, .int i_4), (5, .int i_5), (6, .int i_6), (7, .int i_7), (8, .int i_8)], [], h) := by
  rw [evR_eq ok_T_X4_sparks.loc (ops := b_X4_sparks_87) rfl]; rfl
theorem e_X4_sparks_93 (E : AEn) (a_0 : Nat) (i_1 : Int32) (i_2 : Int32) (i_3 : Int32) (i_4 : Int32) (i_5 : Int32) (i_6 : Int32) (i_7 : Int32) (i_8 : Int32) (h : AH) : evR T_X4_sparks E 93 ([(0, .ref a_0), (1, .int i_1), (2, .int i_2), (3, .int i_3), (4, .int i_4), (5, .int i_5), (6, .int i_6), (7, .int i_7), (8, .int i_8)], [], h) =
  rI (E n_X4_draw [.ref a_0, .int (100 : Int32)] h) (fun i2 h1 =>
  bif decide (i_3 ≤ i2) then evR T_X4_sparks E 126 ([(0, .ref a_0), (1, .int i_1), (2, .int i_2), (3, .int i_3), (4, .int i_4), (5, .int i_5), (6, .int i_6), (7, .int i_7), (8, .int i_8)], [], h1) else
  evR T_X4_sparks E 103 ([(0, .ref a_0), (1, .int i_1), (2, .int i_2), (3, .int i_3), (4, .int i_4), (5, .int i_5), (6, .int i_6), (7, .int i_7), (8, .int i_8)], [], h1)) thr := by
  rw [evR_eq ok_T_X4_sparks.loc (ops := b_X4_sparks_93) rfl]; rfl
theorem e_X4_sparks_103 (E : AEn) (a_0 : Nat) (i_1 : Int32) (i_2 : Int32) (i_3 : Int32) (i_4 : Int32) (i_5 : Int32) (i_6 : Int32) (i_7 : Int32) (i_8 : Int32) (h : AH) : evR T_X4_sparks E 103 ([(0, .ref a_0), (1, .int i_1), (2, .int i_2), (3, .int i_3), (4, .int i_4), (5, .int i_5), (6, .int i_6), (7, .int i_7), (8, .int i_8)], [], h) =
  (rdR h a_0 4 21).bind fun r1 =>
  (ldI h r1 0 (3 : Int32)).bind fun i2 =>
  bif decide (i2 ≤ 0) then evR T_X4_sparks E 126 ([(0, .ref a_0), (1, .int i_1), (2, .int i_2), (3, .int i_3), (4, .int i_4), (5, .int i_5), (6, .int i_6), (7, .int i_7), (8, .int i_8)], [], h) else
  evR T_X4_sparks E 112 ([(0, .ref a_0), (1, .int i_1), (2, .int i_2), (3, .int i_3), (4, .int i_4), (5, .int i_5), (6, .int i_6), (7, .int i_7), (8, .int i_8)], [], h) := by
  rw [evR_eq ok_T_X4_sparks.loc (ops := b_X4_sparks_103) rfl]; rfl
theorem e_X4_sparks_112 (E : AEn) (a_0 : Nat) (i_1 : Int32) (i_2 : Int32) (i_3 : Int32) (i_4 : Int32) (i_5 : Int32) (i_6 : Int32) (i_7 : Int32) (i_8 : Int32) (h : AH) : evR T_X4_sparks E 112 ([(0, .ref a_0), (1, .int i_1), (2, .int i_2), (3, .int i_3), (4, .int i_4), (5, .int i_5), (6, .int i_6), (7, .int i_7), (8, .int i_8)], [], h) =
  (rdR h a_0 4 21).bind fun r1 =>
  (ldI h r1 0 (3 : Int32)).bind fun i2 =>
  rI (E n_X4_draw [.ref a_0, .int i2] h) (fun i4 h3 =>
  rV (E n_X4_sparksOn [.ref a_0, .int i4] h3) (fun h5 =>
  evR T_X4_sparks E 126 ([(0, .ref a_0), (1, .int i_1), (2, .int i_2), (3, .int i_3), (4, .int i_4), (5, .int i_5), (6, .int i_6), (7, .int i_7), (8, .int i_8)], [], h5)) thr) thr := by
  rw [evR_eq ok_T_X4_sparks.loc (ops := b_X4_sparks_112) rfl]; rfl
theorem e_X4_sparks_126 (E : AEn) (a_0 : Nat) (i_1 : Int32) (i_2 : Int32) (i_3 : Int32) (i_4 : Int32) (i_5 : Int32) (i_6 : Int32) (i_7 : Int32) (i_8 : Int32) (h : AH) : evR T_X4_sparks E 126 ([(0, .ref a_0), (1, .int i_1), (2, .int i_2), (3, .int i_3), (4, .int i_4), (5, .int i_5), (6, .int i_6), (7, .int i_7), (8, .int i_8)], [], h) =
  rI (E n_X4_passes [.ref a_0] h) (fun i2 h1 =>
  evR T_X4_sparks E 87 ([(0, .ref a_0), (1, .int i_1), (2, .int i_2), (3, .int i_3), (4, .int i_4), (5, .int i_5), (6, .int i_6), (7, .int i_7), (8, .int (i_8 + (1 : Int32)))], [], h1)) thr := by
  rw [evR_eq ok_T_X4_sparks.loc (ops := b_X4_sparks_126) rfl]; rfl
theorem e_X4_sparks_137 (E : AEn) (a_0 : Nat) (i_1 : Int32) (i_2 : Int32) (i_3 : Int32) (i_4 : Int32) (i_5 : Int32) (i_6 : Int32) (i_7 : Int32) (h : AH) : evR T_X4_sparks E 137 ([(0, .ref a_0), (1, .int i_1), (2, .int i_2), (3, .int i_3), (4, .int i_4), (5, .int i_5), (6, .int i_6), (7, .int i_7)], [], h) =
  rI (E n_X4_worthAll [.ref a_0] h) (fun i2 h1 =>
  rI (E n_X4_fires [.ref a_0] h1) (fun i4 h3 =>
  rI (E n_X4_bits [.int i4] h3) (fun i6 h5 =>
  rV (E n_X4_laysBack [.ref a_0] h5) (fun h7 =>
  evR T_X4_sparks E 78 ([(0, .ref a_0), (1, .int i_1), (2, .int i_2), (3, .int i_3), (4, .int i_4), (5, .int (i_5 + i2)), (6, .int (i_6 + i6)), (7, .int (i_7 + (1 : Int32)))], [], h7)) thr) thr) thr) thr := by
  rw [evR_eq ok_T_X4_sparks.loc (ops := b_X4_sparks_137) rfl]; rfl
theorem e_X4_sparks_168 (E : AEn) (i_4 : Int32) (i_5 : Int32) (i_6 : Int32) (h : AH) : evR T_X4_sparks E 168 ([(4, .int i_4), (5, .int i_5), (6, .int i_6)], [], h) =
  bif !(i_4 == 0) then evR T_X4_sparks E 178 ([(6, .int i_6)], [], h) else
  evR T_X4_sparks E 173 ([(5, .int i_5)], [], h) := by
  rw [evR_eq ok_T_X4_sparks.loc (ops := b_X4_sparks_168) rfl]; rfl
theorem e_X4_sparks_173 (E : AEn) (i_5 : Int32) (h : AH) : evR T_X4_sparks E 173 ([(5, .int i_5)], [], h) =
  evR T_X4_sparks E 180 ([], [.int i_5], h) := by
  rw [evR_eq ok_T_X4_sparks.loc (ops := b_X4_sparks_173) rfl]; rfl
theorem e_X4_sparks_178 (E : AEn) (i_6 : Int32) (h : AH) : evR T_X4_sparks E 178 ([(6, .int i_6)], [], h) =
  evR T_X4_sparks E 180 ([], [.int i_6], h) := by
  rw [evR_eq ok_T_X4_sparks.loc (ops := b_X4_sparks_178) rfl]; rfl
theorem e_X4_sparks_180 (E : AEn) (si_0 : Int32) (h : AH) : evR T_X4_sparks E 180 ([], [.int si_0], h) =
  some (.inl (some (.int si_0)), h) := by
  rw [evR_eq ok_T_X4_sparks.loc (ops := b_X4_sparks_180) rfl]; rfl
theorem c_X4_sparks (d : Nat) (a_0 : Nat) (i_1 : Int32) (i_2 : Int32) (i_3 : Int32) (i_4 : Int32) (h : AH) : callR (d + 1) n_X4_sparks [.ref a_0, .int i_1, .int i_2, .int i_3, .int i_4] h =
  bif isO h a_0 4 then evR T_X4_sparks (callR d) 0 ([(0, .ref a_0), (1, .int i_1), (2, .int i_2), (3, .int i_3), (4, .int i_4)], [], h) else none := by
  rw [callR_succ, show aMTl[n_X4_sparks]? = some (T_X4_sparks, [0, 1, 2, 3, 4]) from rfl]; show (bif (isO h a_0 4) && true then _ else _) = _; rw [Bool.and_true]; rfl
theorem e_X4_draw_0 (E : AEn) (a_0 : Nat) (i_1 : Int32) (h : AH) : evR T_X4_draw E 0 ([(0, .ref a_0), (1, .int i_1)], [], h) =
  (rdL h a_0 4 38).bind fun l1 =>
  (wrF h a_0 4 38 (.long (((l1 * (1103515245 : Int64)) + (12345 : Int64)) - ((l1 * (1103515245 : Int64)) + (12345 : Int64)) / (2147483648 : Int64) * (2147483648 : Int64)))).bind fun h2 =>
  (rdL h2 a_0 4 38).bind fun l3 =>
  (nzL i_1.toInt64).bind fun _ =>
  some (.inl (some (.int ((l3 / (65536 : Int64)) - (l3 / (65536 : Int64)) / i_1.toInt64 * i_1.toInt64).toInt32)), h2) := by
  rw [evR_eq ok_T_X4_draw.loc (ops := b_X4_draw_0) rfl]; rfl
theorem c_X4_draw (d : Nat) (a_0 : Nat) (i_1 : Int32) (h : AH) : callR (d + 1) n_X4_draw [.ref a_0, .int i_1] h =
  bif isO h a_0 4 then evR T_X4_draw (callR d) 0 ([(0, .ref a_0), (1, .int i_1)], [], h) else none := by
  rw [callR_succ, show aMTl[n_X4_draw]? = some (T_X4_draw, [0, 1]) from rfl]; show (bif (isO h a_0 4) && true then _ else _) = _; rw [Bool.and_true]; rfl
theorem e_X4_sparksOn_0 (E : AEn) (a_0 : Nat) (i_1 : Int32) (h : AH) : evR T_X4_sparksOn E 0 ([(0, .ref a_0), (1, .int i_1)], [], h) =
  rI (E n_X4_canLight [.ref a_0, .int i_1] h) (fun i2 h1 =>
  bif i2 == 0 then evR T_X4_sparksOn E 22 ([], [], h1) else
  evR T_X4_sparksOn E 8 ([(0, .ref a_0), (1, .int i_1)], [], h1)) thr := by
  rw [evR_eq ok_T_X4_sparksOn.loc (ops := b_X4_sparksOn_0) rfl]; rfl
theorem e_X4_sparksOn_8 (E : AEn) (a_0 : Nat) (i_1 : Int32) (h : AH) : evR T_X4_sparksOn E 8 ([(0, .ref a_0), (1, .int i_1)], [], h) =
  (rdR h a_0 4 21).bind fun r1 =>
  (stI h r1 0 (((14 : Int32) + ((4 : Int32) * i_1)) + (1 : Int32)) (1 : Int32)).bind fun h2 =>
  evR T_X4_sparksOn E 22 ([], [], h2) := by
  rw [evR_eq ok_T_X4_sparksOn.loc (ops := b_X4_sparksOn_8) rfl]; rfl
theorem e_X4_sparksOn_22 (E : AEn)  (h : AH) : evR T_X4_sparksOn E 22 ([], [], h) =
  some (.inl none, h) := by
  rw [evR_eq ok_T_X4_sparksOn.loc (ops := b_X4_sparksOn_22) rfl]; rfl
theorem c_X4_sparksOn (d : Nat) (a_0 : Nat) (i_1 : Int32) (h : AH) : callR (d + 1) n_X4_sparksOn [.ref a_0, .int i_1] h =
  bif isO h a_0 4 then evR T_X4_sparksOn (callR d) 0 ([(0, .ref a_0), (1, .int i_1)], [], h) else none := by
  rw [callR_succ, show aMTl[n_X4_sparksOn]? = some (T_X4_sparksOn, [0, 1]) from rfl]; show (bif (isO h a_0 4) && true then _ else _) = _; rw [Bool.and_true]; rfl
theorem e_X4_count_0 (E : AEn) (a_0 : Nat) (i_1 : Int32) (h : AH) : evR T_X4_count E 0 ([(0, .ref a_0), (1, .int i_1)], [], h) =
  bif i_1 == (0 : Int32) then evR T_X4_count E 80 ([(0, .ref a_0), (1, .int i_1)], [], h) else
  bif i_1 == (1 : Int32) then evR T_X4_count E 80 ([(0, .ref a_0), (1, .int i_1)], [], h) else
  bif i_1 == (2 : Int32) then evR T_X4_count E 80 ([(0, .ref a_0), (1, .int i_1)], [], h) else
  bif i_1 == (3 : Int32) then evR T_X4_count E 89 ([(0, .ref a_0)], [], h) else
  bif i_1 == (4 : Int32) then evR T_X4_count E 94 ([(0, .ref a_0)], [], h) else
  bif i_1 == (5 : Int32) then evR T_X4_count E 99 ([(0, .ref a_0)], [], h) else
  bif i_1 == (6 : Int32) then evR T_X4_count E 107 ([(0, .ref a_0)], [], h) else
  bif i_1 == (7 : Int32) then evR T_X4_count E 115 ([(0, .ref a_0)], [], h) else
  bif i_1 == (8 : Int32) then evR T_X4_count E 134 ([(0, .ref a_0)], [], h) else
  bif i_1 == (9 : Int32) then evR T_X4_count E 142 ([(0, .ref a_0)], [], h) else
  bif i_1 == (10 : Int32) then evR T_X4_count E 147 ([(0, .ref a_0)], [], h) else
  bif i_1 == (11 : Int32) then evR T_X4_count E 152 ([(0, .ref a_0)], [], h) else
  bif i_1 == (12 : Int32) then evR T_X4_count E 157 ([(0, .ref a_0)], [], h) else
  bif i_1 == (13 : Int32) then evR T_X4_count E 166 ([(0, .ref a_0)], [], h) else
  bif i_1 == (14 : Int32) then evR T_X4_count E 171 ([(0, .ref a_0)], [], h) else
  bif i_1 == (15 : Int32) then evR T_X4_count E 176 ([(0, .ref a_0)], [], h) else
  evR T_X4_count E 181 ([], [], h) := by
  rw [evR_eq ok_T_X4_count.loc (ops := b_X4_count_0) rfl]; rfl
theorem e_X4_count_80 (E : AEn) (a_0 : Nat) (i_1 : Int32) (h : AH) : evR T_X4_count E 80 ([(0, .ref a_0), (1, .int i_1)], [], h) =
  (rdR h a_0 4 21).bind fun r1 =>
  (ldI h r1 0 (i_1 + (1 : Int32))).bind fun i2 =>
  some (.inl (some (.int i2)), h) := by
  rw [evR_eq ok_T_X4_count.loc (ops := b_X4_count_80) rfl]; rfl
theorem e_X4_count_89 (E : AEn) (a_0 : Nat) (h : AH) : evR T_X4_count E 89 ([(0, .ref a_0)], [], h) =
  (rdI h a_0 4 2).bind fun i1 =>
  some (.inl (some (.int i1)), h) := by
  rw [evR_eq ok_T_X4_count.loc (ops := b_X4_count_89) rfl]; rfl
theorem e_X4_count_94 (E : AEn) (a_0 : Nat) (h : AH) : evR T_X4_count E 94 ([(0, .ref a_0)], [], h) =
  (rdI h a_0 4 22).bind fun i1 =>
  some (.inl (some (.int i1)), h) := by
  rw [evR_eq ok_T_X4_count.loc (ops := b_X4_count_94) rfl]; rfl
theorem e_X4_count_99 (E : AEn) (a_0 : Nat) (h : AH) : evR T_X4_count E 99 ([(0, .ref a_0)], [], h) =
  (rdR h a_0 4 21).bind fun r1 =>
  (ldI h r1 0 (10 : Int32)).bind fun i2 =>
  some (.inl (some (.int i2)), h) := by
  rw [evR_eq ok_T_X4_count.loc (ops := b_X4_count_99) rfl]; rfl
theorem e_X4_count_107 (E : AEn) (a_0 : Nat) (h : AH) : evR T_X4_count E 107 ([(0, .ref a_0)], [], h) =
  (rdR h a_0 4 21).bind fun r1 =>
  (ldI h r1 0 (11 : Int32)).bind fun i2 =>
  some (.inl (some (.int i2)), h) := by
  rw [evR_eq ok_T_X4_count.loc (ops := b_X4_count_107) rfl]; rfl
theorem e_X4_count_115 (E : AEn) (a_0 : Nat) (h : AH) : evR T_X4_count E 115 ([(0, .ref a_0)], [], h) =
  rI (E n_X4_isOnItsWay [.ref a_0] h) (fun i2 h1 =>
  bif i2 == 0 then evR T_X4_count E 132 ([], [], h1) else
  evR T_X4_count E 122 ([(0, .ref a_0)], [], h1)) thr := by
  rw [evR_eq ok_T_X4_count.loc (ops := b_X4_count_115) rfl]; rfl
theorem e_X4_count_122 (E : AEn) (a_0 : Nat) (h : AH) : evR T_X4_count E 122 ([(0, .ref a_0)], [], h) =
  (rdR h a_0 4 21).bind fun r1 =>
  (ldI h r1 0 (12 : Int32)).bind fun i2 =>
  evR T_X4_count E 133 ([], [.int i2], h) := by
  rw [evR_eq ok_T_X4_count.loc (ops := b_X4_count_122) rfl]; rfl
theorem e_X4_count_132 (E : AEn)  (h : AH) : evR T_X4_count E 132 ([], [], h) =
  evR T_X4_count E 133 ([], [.int (-1 : Int32)], h) := by
  rw [evR_eq ok_T_X4_count.loc (ops := b_X4_count_132) rfl]; rfl
theorem e_X4_count_133 (E : AEn) (si_0 : Int32) (h : AH) : evR T_X4_count E 133 ([], [.int si_0], h) =
  some (.inl (some (.int si_0)), h) := by
  rw [evR_eq ok_T_X4_count.loc (ops := b_X4_count_133) rfl]; rfl
theorem e_X4_count_134 (E : AEn) (a_0 : Nat) (h : AH) : evR T_X4_count E 134 ([(0, .ref a_0)], [], h) =
  (rdR h a_0 4 21).bind fun r1 =>
  (ldI h r1 0 (13 : Int32)).bind fun i2 =>
  some (.inl (some (.int i2)), h) := by
  rw [evR_eq ok_T_X4_count.loc (ops := b_X4_count_134) rfl]; rfl
theorem e_X4_count_142 (E : AEn) (a_0 : Nat) (h : AH) : evR T_X4_count E 142 ([(0, .ref a_0)], [], h) =
  rI (E n_X4_fires [.ref a_0] h) (fun i2 h1 =>
  some (.inl (some (.int i2)), h1)) thr := by
  rw [evR_eq ok_T_X4_count.loc (ops := b_X4_count_142) rfl]; rfl
theorem e_X4_count_147 (E : AEn) (a_0 : Nat) (h : AH) : evR T_X4_count E 147 ([(0, .ref a_0)], [], h) =
  rI (E n_X4_worthAll [.ref a_0] h) (fun i2 h1 =>
  some (.inl (some (.int i2)), h1)) thr := by
  rw [evR_eq ok_T_X4_count.loc (ops := b_X4_count_147) rfl]; rfl
theorem e_X4_count_152 (E : AEn) (a_0 : Nat) (h : AH) : evR T_X4_count E 152 ([(0, .ref a_0)], [], h) =
  rI (E n_X4_lostAll [.ref a_0] h) (fun i2 h1 =>
  some (.inl (some (.int i2)), h1)) thr := by
  rw [evR_eq ok_T_X4_count.loc (ops := b_X4_count_152) rfl]; rfl
theorem e_X4_count_157 (E : AEn) (a_0 : Nat) (h : AH) : evR T_X4_count E 157 ([(0, .ref a_0)], [], h) =
  (rdR h a_0 4 21).bind fun r1 =>
  (ldI h r1 0 (131 : Int32)).bind fun i2 =>
  some (.inl (some (.int i2)), h) := by
  rw [evR_eq ok_T_X4_count.loc (ops := b_X4_count_157) rfl]; rfl
theorem e_X4_count_166 (E : AEn) (a_0 : Nat) (h : AH) : evR T_X4_count E 166 ([(0, .ref a_0)], [], h) =
  (rdI h a_0 4 31).bind fun i1 =>
  some (.inl (some (.int i1)), h) := by
  rw [evR_eq ok_T_X4_count.loc (ops := b_X4_count_166) rfl]; rfl
theorem e_X4_count_171 (E : AEn) (a_0 : Nat) (h : AH) : evR T_X4_count E 171 ([(0, .ref a_0)], [], h) =
  (rdI h a_0 4 23).bind fun i1 =>
  some (.inl (some (.int i1)), h) := by
  rw [evR_eq ok_T_X4_count.loc (ops := b_X4_count_171) rfl]; rfl
theorem e_X4_count_176 (E : AEn) (a_0 : Nat) (h : AH) : evR T_X4_count E 176 ([(0, .ref a_0)], [], h) =
  (rdI h a_0 4 1).bind fun i1 =>
  some (.inl (some (.int i1)), h) := by
  rw [evR_eq ok_T_X4_count.loc (ops := b_X4_count_176) rfl]; rfl
theorem e_X4_count_181 (E : AEn)  (h : AH) : evR T_X4_count E 181 ([], [], h) =
  some (.inl (some (.int (-1 : Int32))), h) := by
  rw [evR_eq ok_T_X4_count.loc (ops := b_X4_count_181) rfl]; rfl
theorem c_X4_count (d : Nat) (a_0 : Nat) (i_1 : Int32) (h : AH) : callR (d + 1) n_X4_count [.ref a_0, .int i_1] h =
  bif isO h a_0 4 then evR T_X4_count (callR d) 0 ([(0, .ref a_0), (1, .int i_1)], [], h) else none := by
  rw [callR_succ, show aMTl[n_X4_count]? = some (T_X4_count, [0, 1]) from rfl]; show (bif (isO h a_0 4) && true then _ else _) = _; rw [Bool.and_true]; rfl
theorem e_X4_image_0 (E : AEn) (a_0 : Nat) (i_1 : Int32) (h : AH) : evR T_X4_image E 0 ([(0, .ref a_0), (1, .int i_1)], [], h) =
  rI (E n_X4_in [.long i_1.toInt64, .long (0 : Int64), .long (3 : Int64)] h) (fun i2 h1 =>
  bif !(i2 == 0) then evR T_X4_image E 14 ([(0, .ref a_0), (1, .int i_1)], [], h1) else
  evR T_X4_image E 12 ([], [], h1)) thr := by
  rw [evR_eq ok_T_X4_image.loc (ops := b_X4_image_0) rfl]; rfl
theorem e_X4_image_12 (E : AEn)  (h : AH) : evR T_X4_image E 12 ([], [], h) =
  some (.inl (some (.int (-1 : Int32))), h) := by
  rw [evR_eq ok_T_X4_image.loc (ops := b_X4_image_12) rfl]; rfl
theorem e_X4_image_14 (E : AEn) (a_0 : Nat) (i_1 : Int32) (h : AH) : evR T_X4_image E 14 ([(0, .ref a_0), (1, .int i_1)], [], h) =
  (rdR h a_0 4 42).bind fun r1 =>
  (stI h r1 3 i_1 (vp_nar .boolean (1 : Int32))).bind fun h2 =>
  (rdR h2 a_0 4 40).bind fun r3 =>
  (rdI h2 a_0 4 22).bind fun i4 =>
  (stI h2 r3 0 i_1 i4).bind fun h5 =>
  (rdR h5 a_0 4 41).bind fun r6 =>
  (rdI h5 a_0 4 23).bind fun i7 =>
  (stI h5 r6 0 i_1 i7).bind fun h8 =>
  evR T_X4_image E 43 ([(0, .ref a_0), (1, .int i_1), (2, .int (0 : Int32))], [], h8) := by
  rw [evR_eq ok_T_X4_image.loc (ops := b_X4_image_14) rfl]; rfl
theorem e_X4_image_43 (E : AEn) (a_0 : Nat) (i_1 : Int32) (i_2 : Int32) (h : AH) : evR T_X4_image E 43 ([(0, .ref a_0), (1, .int i_1), (2, .int i_2)], [], h) =
  bif decide ((132 : Int32) ≤ i_2) then evR T_X4_image E 74 ([(0, .ref a_0)], [], h) else
  evR T_X4_image E 50 ([(0, .ref a_0), (1, .int i_1), (2, .int i_2)], [], h) := by
  rw [evR_eq ok_T_X4_image.loc (ops := b_X4_image_43) rfl]; rfl
theorem e_X4_image_50 (E : AEn) (a_0 : Nat) (i_1 : Int32) (i_2 : Int32) (h : AH) : evR T_X4_image E 50 ([(0, .ref a_0), (1, .int i_1), (2, .int i_2)], [], h) =
  (rdR h a_0 4 39).bind fun r1 =>
  (rdR h a_0 4 21).bind fun r2 =>
  (ldI h r2 0 i_2).bind fun i3 =>
  (stI h r1 0 (((132 : Int32) * i_1) + i_2) i3).bind fun h4 =>
  evR T_X4_image E 43 ([(0, .ref a_0), (1, .int i_1), (2, .int (i_2 + (1 : Int32)))], [], h4) := by
  rw [evR_eq ok_T_X4_image.loc (ops := b_X4_image_50) rfl]; rfl
theorem e_X4_image_74 (E : AEn) (a_0 : Nat) (h : AH) : evR T_X4_image E 74 ([(0, .ref a_0)], [], h) =
  (rdR h a_0 4 21).bind fun r1 =>
  (ldI h r1 0 (10 : Int32)).bind fun i2 =>
  some (.inl (some (.int i2)), h) := by
  rw [evR_eq ok_T_X4_image.loc (ops := b_X4_image_74) rfl]; rfl
theorem c_X4_image (d : Nat) (a_0 : Nat) (i_1 : Int32) (h : AH) : callR (d + 1) n_X4_image [.ref a_0, .int i_1] h =
  bif isO h a_0 4 then evR T_X4_image (callR d) 0 ([(0, .ref a_0), (1, .int i_1)], [], h) else none := by
  rw [callR_succ, show aMTl[n_X4_image]? = some (T_X4_image, [0, 1]) from rfl]; show (bif (isO h a_0 4) && true then _ else _) = _; rw [Bool.and_true]; rfl
theorem e_X4_back_0 (E : AEn) (a_0 : Nat) (i_1 : Int32) (h : AH) : evR T_X4_back E 0 ([(0, .ref a_0), (1, .int i_1)], [], h) =
  rI (E n_X4_in [.long i_1.toInt64, .long (0 : Int64), .long (3 : Int64)] h) (fun i2 h1 =>
  bif i2 == 0 then evR T_X4_back E 21 ([], [], h1) else
  evR T_X4_back E 12 ([(0, .ref a_0), (1, .int i_1)], [], h1)) thr := by
  rw [evR_eq ok_T_X4_back.loc (ops := b_X4_back_0) rfl]; rfl
theorem e_X4_back_12 (E : AEn) (a_0 : Nat) (i_1 : Int32) (h : AH) : evR T_X4_back E 12 ([(0, .ref a_0), (1, .int i_1)], [], h) =
  (rdR h a_0 4 42).bind fun r1 =>
  (ldI h r1 3 i_1).bind fun i2 =>
  bif !(i2 == 0) then evR T_X4_back E 23 ([(0, .ref a_0), (1, .int i_1)], [], h) else
  evR T_X4_back E 21 ([], [], h) := by
  rw [evR_eq ok_T_X4_back.loc (ops := b_X4_back_12) rfl]; rfl
theorem e_X4_back_21 (E : AEn)  (h : AH) : evR T_X4_back E 21 ([], [], h) =
  some (.inl (some (.int (-1 : Int32))), h) := by
  rw [evR_eq ok_T_X4_back.loc (ops := b_X4_back_21) rfl]; rfl
theorem e_X4_back_23 (E : AEn) (a_0 : Nat) (i_1 : Int32) (h : AH) : evR T_X4_back E 23 ([(0, .ref a_0), (1, .int i_1)], [], h) =
  (rdR h a_0 4 40).bind fun r1 =>
  (ldI h r1 0 i_1).bind fun i2 =>
  (wrF h a_0 4 22 (.int i2)).bind fun h3 =>
  (rdR h3 a_0 4 41).bind fun r4 =>
  (ldI h3 r4 0 i_1).bind fun i5 =>
  (wrF h3 a_0 4 23 (.int i5)).bind fun h6 =>
  (wrF h6 a_0 4 31 (.int (0 : Int32))).bind fun h7 =>
  evR T_X4_back E 50 ([(0, .ref a_0), (1, .int i_1), (2, .int (0 : Int32))], [], h7) := by
  rw [evR_eq ok_T_X4_back.loc (ops := b_X4_back_23) rfl]; rfl
theorem e_X4_back_50 (E : AEn) (a_0 : Nat) (i_1 : Int32) (i_2 : Int32) (h : AH) : evR T_X4_back E 50 ([(0, .ref a_0), (1, .int i_1), (2, .int i_2)], [], h) =
  bif decide ((132 : Int32) ≤ i_2) then evR T_X4_back E 81 ([(0, .ref a_0)], [], h) else
  evR T_X4_back E 57 ([(0, .ref a_0), (1, .int i_1), (2, .int i_2)], [], h) := by
  rw [evR_eq ok_T_X4_back.loc (ops := b_X4_back_50) rfl]; rfl
theorem e_X4_back_57 (E : AEn) (a_0 : Nat) (i_1 : Int32) (i_2 : Int32) (h : AH) : evR T_X4_back E 57 ([(0, .ref a_0), (1, .int i_1), (2, .int i_2)], [], h) =
  (rdR h a_0 4 21).bind fun r1 =>
  (rdR h a_0 4 39).bind fun r2 =>
  (ldI h r2 0 (((132 : Int32) * i_1) + i_2)).bind fun i3 =>
  (stI h r1 0 i_2 i3).bind fun h4 =>
  evR T_X4_back E 50 ([(0, .ref a_0), (1, .int i_1), (2, .int (i_2 + (1 : Int32)))], [], h4) := by
  rw [evR_eq ok_T_X4_back.loc (ops := b_X4_back_57) rfl]; rfl
theorem e_X4_back_81 (E : AEn) (a_0 : Nat) (h : AH) : evR T_X4_back E 81 ([(0, .ref a_0)], [], h) =
  (rdR h a_0 4 21).bind fun r1 =>
  (ldI h r1 0 (10 : Int32)).bind fun i2 =>
  some (.inl (some (.int i2)), h) := by
  rw [evR_eq ok_T_X4_back.loc (ops := b_X4_back_81) rfl]; rfl
theorem c_X4_back (d : Nat) (a_0 : Nat) (i_1 : Int32) (h : AH) : callR (d + 1) n_X4_back [.ref a_0, .int i_1] h =
  bif isO h a_0 4 then evR T_X4_back (callR d) 0 ([(0, .ref a_0), (1, .int i_1)], [], h) else none := by
  rw [callR_succ, show aMTl[n_X4_back]? = some (T_X4_back, [0, 1]) from rfl]; show (bif (isO h a_0 4) && true then _ else _) = _; rw [Bool.and_true]; rfl
