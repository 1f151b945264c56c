set_option maxRecDepth 100000
theorem e_X1_init_0 (E : AEn) (a_0 : Nat) (h : AH) : evR T_X1_init E 0 ([(0, .ref a_0)], [], h) =
  rV (E n_J2_init [.ref h.1, .int (2 : Int32)] (hpush h 3 (.inl (8, dF8)))) (fun h1 =>
  (wrF h1 a_0 1 0 (.ref h.1)).bind fun h2 =>
  (wrF (hpush h2 49 (.inr (0, 49, .inl (fun _ => 0)))) a_0 1 1 (.ref h2.1)).bind fun h3 =>
  (wrF (hpush h3 6 (.inr (0, 6, .inl (fun _ => 0)))) a_0 1 2 (.ref h3.1)).bind fun h4 =>
  evR T_X1_init E 34 ([(0, .ref a_0), (1, .int (0 : Int32))], [], h4)) thr := by
  rw [evR_eq ok_T_X1_init.loc (ops := b_X1_init_0) rfl]; rfl
theorem e_X1_init_34 (E : AEn) (a_0 : Nat) (i_1 : Int32) (h : AH) : evR T_X1_init E 34 ([(0, .ref a_0), (1, .int i_1)], [], h) =
  bif decide ((7 : Int32) ≤ i_1) then evR T_X1_init E 83 ([], [], h) else
  evR T_X1_init E 40 ([(0, .ref a_0), (1, .int i_1)], [], h) := by
  rw [evR_eq ok_T_X1_init.loc (ops := b_X1_init_34) rfl]; rfl
theorem e_X1_init_40 (E : AEn) (a_0 : Nat) (i_1 : Int32) (h : AH) : evR T_X1_init E 40 ([(0, .ref a_0), (1, .int i_1)], [], h) =
  evR T_X1_init E 42 ([(0, .ref a_0), (1, .int i_1), (2, .int (0 : Int32))], [], h) := by
  rw [evR_eq ok_T_X1_init.loc (ops := b_X1_init_40) rfl]; rfl
theorem e_X1_init_42 (E : AEn) (a_0 : Nat) (i_1 : Int32) (i_2 : Int32) (h : AH) : evR T_X1_init E 42 ([(0, .ref a_0), (1, .int i_1), (2, .int i_2)], [], h) =
  bif decide ((7 : Int32) ≤ i_2) then evR T_X1_init E 77 ([(0, .ref a_0), (1, .int i_1)], [], h) else
  evR T_X1_init E 48 ([(0, .ref a_0), (1, .int i_1), (2, .int i_2)], [], h) := by
  rw [evR_eq ok_T_X1_init.loc (ops := b_X1_init_42) rfl]; rfl
theorem e_X1_init_48 (E : AEn) (a_0 : Nat) (i_1 : Int32) (i_2 : Int32) (h : AH) : evR T_X1_init E 48 ([(0, .ref a_0), (1, .int i_1), (2, .int i_2)], [], h) =
  (rdR h a_0 1 1).bind fun r1 =>
  bif !(i_1 == i_2) then evR T_X1_init E 67 ([(0, .ref a_0), (1, .int i_1), (2, .int i_2)], [.int (((7 : Int32) * i_1) + i_2), .ref r1], h) else
  evR T_X1_init E 63 ([(0, .ref a_0), (1, .int i_1), (2, .int i_2)], [.int (((7 : Int32) * i_1) + i_2), .ref r1], h) := by
  rw [evR_eq ok_T_X1_init.loc (ops := b_X1_init_48) rfl]; rfl
theorem e_X1_init_63 (E : AEn) (a_0 : Nat) (i_1 : Int32) (i_2 : Int32) (si_0 : Int32) (sa_1 : Nat) (h : AH) : evR T_X1_init E 63 ([(0, .ref a_0), (1, .int i_1), (2, .int i_2)], [.int si_0, .ref sa_1], h) =
  evR T_X1_init E 70 ([(0, .ref a_0), (1, .int i_1), (2, .int i_2)], [.int (0 : Int32), .int si_0, .ref sa_1], h) := by
  rw [evR_eq ok_T_X1_init.loc (ops := b_X1_init_63) rfl]; rfl
theorem e_X1_init_67 (E : AEn) (a_0 : Nat) (i_1 : Int32) (i_2 : Int32) (si_0 : Int32) (sa_1 : Nat) (h : AH) : evR T_X1_init E 67 ([(0, .ref a_0), (1, .int i_1), (2, .int i_2)], [.int si_0, .ref sa_1], h) =
  evR T_X1_init E 70 ([(0, .ref a_0), (1, .int i_1), (2, .int i_2)], [.int (10000 : Int32), .int si_0, .ref sa_1], h) := by
  rw [evR_eq ok_T_X1_init.loc (ops := b_X1_init_67) rfl]; rfl
theorem e_X1_init_70 (E : AEn) (a_0 : Nat) (i_1 : Int32) (i_2 : Int32) (si_0 : Int32) (si_1 : Int32) (sa_2 : Nat) (h : AH) : evR T_X1_init E 70 ([(0, .ref a_0), (1, .int i_1), (2, .int i_2)], [.int si_0, .int si_1, .ref sa_2], h) =
  (stI h sa_2 0 si_1 si_0).bind fun h1 =>
  evR T_X1_init E 42 ([(0, .ref a_0), (1, .int i_1), (2, .int (i_2 + (1 : Int32)))], [], h1) := by
  rw [evR_eq ok_T_X1_init.loc (ops := b_X1_init_70) rfl]; rfl
theorem e_X1_init_77 (E : AEn) (a_0 : Nat) (i_1 : Int32) (h : AH) : evR T_X1_init E 77 ([(0, .ref a_0), (1, .int i_1)], [], h) =
  evR T_X1_init E 34 ([(0, .ref a_0), (1, .int (i_1 + (1 : Int32)))], [], h) := by
  rw [evR_eq ok_T_X1_init.loc (ops := b_X1_init_77) rfl]; rfl
theorem e_X1_init_83 (E : AEn)  (h : AH) : evR T_X1_init E 83 ([], [], h) =
  some (.inl none, h) := by
  rw [evR_eq ok_T_X1_init.loc (ops := b_X1_init_83) rfl]; rfl
theorem c_X1_init (d : Nat) (a_0 : Nat) (h : AH) : callR (d + 1) n_X1_init [.ref a_0] h =
  bif isO h a_0 1 then evR T_X1_init (callR d) 0 ([(0, .ref a_0)], [], h) else none := by
  rw [callR_succ, show aMTl[n_X1_init]? = some (T_X1_init, [0]) from rfl]; show (bif (isO h a_0 1) && true then _ else _) = _; rw [Bool.and_true]; rfl
theorem e_X1_houses_0 (E : AEn) (a_0 : Nat) (h : AH) : evR T_X1_houses E 0 ([(0, .ref a_0)], [], h) =
  (rdR h a_0 1 0).bind fun r1 =>
  rI (E n_J2_size [.ref r1] h) (fun i3 h2 =>
  some (.inl (some (.int i3)), h2)) thr := by
  rw [evR_eq ok_T_X1_houses.loc (ops := b_X1_houses_0) rfl]; rfl
theorem c_X1_houses (d : Nat) (a_0 : Nat) (h : AH) : callR (d + 1) n_X1_houses [.ref a_0] h =
  bif isO h a_0 1 then evR T_X1_houses (callR d) 0 ([(0, .ref a_0)], [], h) else none := by
  rw [callR_succ, show aMTl[n_X1_houses]? = some (T_X1_houses, [0]) from rfl]; show (bif (isO h a_0 1) && true then _ else _) = _; rw [Bool.and_true]; rfl
theorem e_X1_ends_0 (E : AEn) (a_0 : Nat) (h : AH) : evR T_X1_ends E 0 ([(0, .ref a_0)], [], h) =
  evR T_X1_ends E 2 ([(0, .ref a_0), (1, .int (0 : Int32))], [], h) := by
  rw [evR_eq ok_T_X1_ends.loc (ops := b_X1_ends_0) rfl]; rfl
theorem e_X1_ends_2 (E : AEn) (a_0 : Nat) (i_1 : Int32) (h : AH) : evR T_X1_ends E 2 ([(0, .ref a_0), (1, .int i_1)], [], h) =
  bif decide ((7 : Int32) ≤ i_1) then evR T_X1_ends E 75 ([], [], h) else
  evR T_X1_ends E 8 ([(0, .ref a_0), (1, .int i_1)], [], h) := by
  rw [evR_eq ok_T_X1_ends.loc (ops := b_X1_ends_2) rfl]; rfl
theorem e_X1_ends_8 (E : AEn) (a_0 : Nat) (i_1 : Int32) (h : AH) : evR T_X1_ends E 8 ([(0, .ref a_0), (1, .int i_1)], [], h) =
  evR T_X1_ends E 10 ([(0, .ref a_0), (1, .int i_1), (2, .int (0 : Int32))], [], h) := by
  rw [evR_eq ok_T_X1_ends.loc (ops := b_X1_ends_8) rfl]; rfl
theorem e_X1_ends_10 (E : AEn) (a_0 : Nat) (i_1 : Int32) (i_2 : Int32) (h : AH) : evR T_X1_ends E 10 ([(0, .ref a_0), (1, .int i_1), (2, .int i_2)], [], h) =
  bif decide ((7 : Int32) ≤ i_2) then evR T_X1_ends E 69 ([(0, .ref a_0), (1, .int i_1)], [], h) else
  evR T_X1_ends E 16 ([(0, .ref a_0), (1, .int i_1), (2, .int i_2)], [], h) := by
  rw [evR_eq ok_T_X1_ends.loc (ops := b_X1_ends_10) rfl]; rfl
theorem e_X1_ends_16 (E : AEn) (a_0 : Nat) (i_1 : Int32) (i_2 : Int32) (h : AH) : evR T_X1_ends E 16 ([(0, .ref a_0), (1, .int i_1), (2, .int i_2)], [], h) =
  evR T_X1_ends E 18 ([(0, .ref a_0), (1, .int i_1), (2, .int i_2), (3, .int (0 : Int32))], [], h) := by
  rw [evR_eq ok_T_X1_ends.loc (ops := b_X1_ends_16) rfl]; rfl
theorem e_X1_ends_18 (E : AEn) (a_0 : Nat) (i_1 : Int32) (i_2 : Int32) (i_3 : Int32) (h : AH) : evR T_X1_ends E 18 ([(0, .ref a_0), (1, .int i_1), (2, .int i_2), (3, .int i_3)], [], h) =
  bif decide ((7 : Int32) ≤ i_3) then evR T_X1_ends E 63 ([(0, .ref a_0), (1, .int i_1), (2, .int i_2)], [], h) else
  evR T_X1_ends E 24 ([(0, .ref a_0), (1, .int i_1), (2, .int i_2), (3, .int i_3)], [], h) := by
  rw [evR_eq ok_T_X1_ends.loc (ops := b_X1_ends_18) rfl]; rfl
theorem e_X1_ends_24 (E : AEn) (a_0 : Nat) (i_1 : Int32) (i_2 : Int32) (i_3 : Int32) (h : AH) : evR T_X1_ends E 24 ([(0, .ref a_0), (1, .int i_1), (2, .int i_2), (3, .int i_3)], [], h) =
  (rdR h a_0 1 1).bind fun r1 =>
  rI (E n_X1_far [.ref a_0, .int i_2, .int i_3] h) (fun i3 h2 =>
  rI (E n_X1_far [.ref a_0, .int i_2, .int i_1] h2) (fun i5 h4 =>
  rI (E n_X1_far [.ref a_0, .int i_1, .int i_3] h4) (fun i7 h6 =>
  (stI h6 r1 0 (((7 : Int32) * i_2) + i_3) (if (i5 + i7) < i3 then (i5 + i7) else i3)).bind fun h8 =>
  evR T_X1_ends E 18 ([(0, .ref a_0), (1, .int i_1), (2, .int i_2), (3, .int (i_3 + (1 : Int32)))], [], h8)) thr) thr) thr := by
  rw [evR_eq ok_T_X1_ends.loc (ops := b_X1_ends_24) rfl]; rfl
theorem e_X1_ends_63 (E : AEn) (a_0 : Nat) (i_1 : Int32) (i_2 : Int32) (h : AH) : evR T_X1_ends E 63 ([(0, .ref a_0), (1, .int i_1), (2, .int i_2)], [], h) =
  evR T_X1_ends E 10 ([(0, .ref a_0), (1, .int i_1), (2, .int (i_2 + (1 : Int32)))], [], h) := by
  rw [evR_eq ok_T_X1_ends.loc (ops := b_X1_ends_63) rfl]; rfl
theorem e_X1_ends_69 (E : AEn) (a_0 : Nat) (i_1 : Int32) (h : AH) : evR T_X1_ends E 69 ([(0, .ref a_0), (1, .int i_1)], [], h) =
  evR T_X1_ends E 2 ([(0, .ref a_0), (1, .int (i_1 + (1 : Int32)))], [], h) := by
  rw [evR_eq ok_T_X1_ends.loc (ops := b_X1_ends_69) rfl]; rfl
theorem e_X1_ends_75 (E : AEn)  (h : AH) : evR T_X1_ends E 75 ([], [], h) =
  some (.inl none, h) := by
  rw [evR_eq ok_T_X1_ends.loc (ops := b_X1_ends_75) rfl]; rfl
theorem c_X1_ends (d : Nat) (a_0 : Nat) (h : AH) : callR (d + 1) n_X1_ends [.ref a_0] h =
  bif isO h a_0 1 then evR T_X1_ends (callR d) 0 ([(0, .ref a_0)], [], h) else none := by
  rw [callR_succ, show aMTl[n_X1_ends]? = some (T_X1_ends, [0]) from rfl]; show (bif (isO h a_0 1) && true then _ else _) = _; rw [Bool.and_true]; rfl
theorem e_X1_far_0 (E : AEn) (a_0 : Nat) (i_1 : Int32) (i_2 : Int32) (h : AH) : evR T_X1_far E 0 ([(0, .ref a_0), (1, .int i_1), (2, .int i_2)], [], h) =
  (rdR h a_0 1 1).bind fun r1 =>
  (ldI h r1 0 (((7 : Int32) * i_1) + i_2)).bind fun i2 =>
  some (.inl (some (.int i2)), h) := by
  rw [evR_eq ok_T_X1_far.loc (ops := b_X1_far_0) rfl]; rfl
theorem c_X1_far (d : Nat) (a_0 : Nat) (i_1 : Int32) (i_2 : Int32) (h : AH) : callR (d + 1) n_X1_far [.ref a_0, .int i_1, .int i_2] h =
  bif isO h a_0 1 then evR T_X1_far (callR d) 0 ([(0, .ref a_0), (1, .int i_1), (2, .int i_2)], [], h) else none := by
  rw [callR_succ, show aMTl[n_X1_far]? = some (T_X1_far, [0, 1, 2]) from rfl]; show (bif (isO h a_0 1) && true then _ else _) = _; rw [Bool.and_true]; rfl
theorem e_X2_init_0 (E : AEn) (a_0 : Nat) (h : AH) : evR T_X2_init E 0 ([(0, .ref a_0)], [], h) =
  (wrF (hpush h 6 (.inr (0, 6, .inl (fun _ => 0)))) a_0 2 0 (.ref h.1)).bind fun h1 =>
  (wrF (hpush h1 6 (.inr (0, 6, .inl (fun _ => 0)))) a_0 2 1 (.ref h1.1)).bind fun h2 =>
  (wrF (hpush h2 6 (.inr (0, 6, .inl (fun _ => 0)))) a_0 2 2 (.ref h2.1)).bind fun h3 =>
  (wrF (hpush h3 6 (.inr (0, 6, .inl (fun _ => 0)))) a_0 2 3 (.ref h3.1)).bind fun h4 =>
  (wrF (hpush h4 6 (.inr (0, 6, .inl (fun _ => 0)))) a_0 2 4 (.ref h4.1)).bind fun h5 =>
  some (.inl none, h5) := by
  rw [evR_eq ok_T_X2_init.loc (ops := b_X2_init_0) rfl]; rfl
theorem c_X2_init (d : Nat) (a_0 : Nat) (h : AH) : callR (d + 1) n_X2_init [.ref a_0] h =
  bif isO h a_0 2 then evR T_X2_init (callR d) 0 ([(0, .ref a_0)], [], h) else none := by
  rw [callR_succ, show aMTl[n_X2_init]? = some (T_X2_init, [0]) from rfl]; show (bif (isO h a_0 2) && true then _ else _) = _; rw [Bool.and_true]; rfl
theorem e_X2_begin_0 (E : AEn) (a_0 : Nat) (a_1 : Nat) (h : AH) : evR T_X2_begin E 0 ([(0, .ref a_0), (1, .ref a_1)], [], h) =
  evR T_X2_begin E 2 ([(0, .ref a_0), (1, .ref a_1), (2, .int (0 : Int32))], [], h) := by
  rw [evR_eq ok_T_X2_begin.loc (ops := b_X2_begin_0) rfl]; rfl
theorem e_X2_begin_2 (E : AEn) (a_0 : Nat) (a_1 : Nat) (i_2 : Int32) (h : AH) : evR T_X2_begin E 2 ([(0, .ref a_0), (1, .ref a_1), (2, .int i_2)], [], h) =
  bif decide ((6 : Int32) ≤ i_2) then evR T_X2_begin E 135 ([(0, .ref a_0), (1, .ref a_1)], [], h) else
  evR T_X2_begin E 8 ([(0, .ref a_0), (1, .ref a_1), (2, .int i_2)], [], h) := by
  rw [evR_eq ok_T_X2_begin.loc (ops := b_X2_begin_2) rfl]; rfl
theorem e_X2_begin_8 (E : AEn) (a_0 : Nat) (a_1 : Nat) (i_2 : Int32) (h : AH) : evR T_X2_begin E 8 ([(0, .ref a_0), (1, .ref a_1), (2, .int i_2)], [], h) =
  rI (E n_X1_houses [.ref a_1] h) (fun i2 h1 =>
  bif decide (i2 ≤ i_2) then evR T_X2_begin E 20 ([(0, .ref a_0), (1, .ref a_1), (2, .int i_2)], [], h1) else
  evR T_X2_begin E 16 ([(0, .ref a_0), (1, .ref a_1), (2, .int i_2)], [], h1)) thr := by
  rw [evR_eq ok_T_X2_begin.loc (ops := b_X2_begin_8) rfl]; rfl
theorem e_X2_begin_16 (E : AEn) (a_0 : Nat) (a_1 : Nat) (i_2 : Int32) (h : AH) : evR T_X2_begin E 16 ([(0, .ref a_0), (1, .ref a_1), (2, .int i_2)], [], h) =
  evR T_X2_begin E 21 ([(0, .ref a_0), (1, .ref a_1), (2, .int i_2)], [.int (1 : Int32)], h) := by
  rw [evR_eq ok_T_X2_begin.loc (ops := b_X2_begin_16) rfl]; rfl
theorem e_X2_begin_20 (E : AEn) (a_0 : Nat) (a_1 : Nat) (i_2 : Int32) (h : AH) : evR T_X2_begin E 20 ([(0, .ref a_0), (1, .ref a_1), (2, .int i_2)], [], h) =
  evR T_X2_begin E 21 ([(0, .ref a_0), (1, .ref a_1), (2, .int i_2)], [.int (0 : Int32)], h) := by
  rw [evR_eq ok_T_X2_begin.loc (ops := b_X2_begin_20) rfl]; rfl
theorem e_X2_begin_21 (E : AEn) (a_0 : Nat) (a_1 : Nat) (i_2 : Int32) (si_0 : Int32) (h : AH) : evR T_X2_begin E 21 ([(0, .ref a_0), (1, .ref a_1), (2, .int i_2)], [.int si_0], h) =
  (rdR h a_0 2 0).bind fun r1 =>
  bif si_0 == 0 then evR T_X2_begin E 48 ([(0, .ref a_0), (1, .ref a_1), (2, .int i_2), (3, .int si_0)], [.int i_2, .ref r1], h) else
  evR T_X2_begin E 31 ([(0, .ref a_0), (1, .ref a_1), (2, .int i_2), (3, .int si_0)], [.int i_2, .ref r1], h) := by
  rw [evR_eq ok_T_X2_begin.loc (ops := b_X2_begin_21) rfl]; rfl
theorem e_X2_begin_31 (E : AEn) (a_0 : Nat) (a_1 : Nat) (i_2 : Int32) (i_3 : Int32) (si_0 : Int32) (sa_1 : Nat) (h : AH) : evR T_X2_begin E 31 ([(0, .ref a_0), (1, .ref a_1), (2, .int i_2), (3, .int i_3)], [.int si_0, .ref sa_1], h) =
  (rdR h a_1 1 0).bind fun r1 =>
  rR (E n_J2_get [.ref r1, .int i_2] h) (fun r3 h2 =>
  (okC h2 r3 6).bind fun _ =>
  (rdI h2 r3 6 0).bind fun i4 =>
  evR T_X2_begin E 49 ([(0, .ref a_0), (1, .ref a_1), (2, .int i_2), (3, .int i_3)], [.int i4, .int si_0, .ref sa_1], h2)) thr := by
  rw [evR_eq ok_T_X2_begin.loc (ops := b_X2_begin_31) rfl]; rfl
theorem e_X2_begin_48 (E : AEn) (a_0 : Nat) (a_1 : Nat) (i_2 : Int32) (i_3 : Int32) (si_0 : Int32) (sa_1 : Nat) (h : AH) : evR T_X2_begin E 48 ([(0, .ref a_0), (1, .ref a_1), (2, .int i_2), (3, .int i_3)], [.int si_0, .ref sa_1], h) =
  evR T_X2_begin E 49 ([(0, .ref a_0), (1, .ref a_1), (2, .int i_2), (3, .int i_3)], [.int (0 : Int32), .int si_0, .ref sa_1], h) := by
  rw [evR_eq ok_T_X2_begin.loc (ops := b_X2_begin_48) rfl]; rfl
theorem e_X2_begin_49 (E : AEn) (a_0 : Nat) (a_1 : Nat) (i_2 : Int32) (i_3 : Int32) (si_0 : Int32) (si_1 : Int32) (sa_2 : Nat) (h : AH) : evR T_X2_begin E 49 ([(0, .ref a_0), (1, .ref a_1), (2, .int i_2), (3, .int i_3)], [.int si_0, .int si_1, .ref sa_2], h) =
  (stI h sa_2 0 si_1 si_0).bind fun h1 =>
  (rdR h1 a_0 2 1).bind fun r2 =>
  bif i_3 == 0 then evR T_X2_begin E 85 ([(0, .ref a_0), (1, .ref a_1), (2, .int i_2), (3, .int i_3)], [.int i_2, .ref r2], h1) else
  evR T_X2_begin E 59 ([(0, .ref a_0), (1, .ref a_1), (2, .int i_2), (3, .int i_3)], [.int i_2, .ref r2], h1) := by
  rw [evR_eq ok_T_X2_begin.loc (ops := b_X2_begin_49) rfl]; rfl
theorem e_X2_begin_59 (E : AEn) (a_0 : Nat) (a_1 : Nat) (i_2 : Int32) (i_3 : Int32) (si_0 : Int32) (sa_1 : Nat) (h : AH) : evR T_X2_begin E 59 ([(0, .ref a_0), (1, .ref a_1), (2, .int i_2), (3, .int i_3)], [.int si_0, .ref sa_1], h) =
  (rdR h a_0 2 0).bind fun r1 =>
  (ldI h r1 0 i_2).bind fun i2 =>
  bif decide (i2 ≤ 0) then evR T_X2_begin E 85 ([(0, .ref a_0), (1, .ref a_1), (2, .int i_2), (3, .int i_3)], [.int si_0, .ref sa_1], h) else
  evR T_X2_begin E 68 ([(0, .ref a_0), (1, .ref a_1), (2, .int i_2), (3, .int i_3)], [.int si_0, .ref sa_1], h) := by
  rw [evR_eq ok_T_X2_begin.loc (ops := b_X2_begin_59) rfl]; rfl
theorem e_X2_begin_68 (E : AEn) (a_0 : Nat) (a_1 : Nat) (i_2 : Int32) (i_3 : Int32) (si_0 : Int32) (sa_1 : Nat) (h : AH) : evR T_X2_begin E 68 ([(0, .ref a_0), (1, .ref a_1), (2, .int i_2), (3, .int i_3)], [.int si_0, .ref sa_1], h) =
  (rdR h a_1 1 0).bind fun r1 =>
  rR (E n_J2_get [.ref r1, .int i_2] h) (fun r3 h2 =>
  (okC h2 r3 6).bind fun _ =>
  (rdI h2 r3 6 1).bind fun i4 =>
  evR T_X2_begin E 86 ([(0, .ref a_0), (1, .ref a_1), (2, .int i_2), (3, .int i_3)], [.int i4, .int si_0, .ref sa_1], h2)) thr := by
  rw [evR_eq ok_T_X2_begin.loc (ops := b_X2_begin_68) rfl]; rfl
theorem e_X2_begin_85 (E : AEn) (a_0 : Nat) (a_1 : Nat) (i_2 : Int32) (i_3 : Int32) (si_0 : Int32) (sa_1 : Nat) (h : AH) : evR T_X2_begin E 85 ([(0, .ref a_0), (1, .ref a_1), (2, .int i_2), (3, .int i_3)], [.int si_0, .ref sa_1], h) =
  evR T_X2_begin E 86 ([(0, .ref a_0), (1, .ref a_1), (2, .int i_2), (3, .int i_3)], [.int (0 : Int32), .int si_0, .ref sa_1], h) := by
  rw [evR_eq ok_T_X2_begin.loc (ops := b_X2_begin_85) rfl]; rfl
theorem e_X2_begin_86 (E : AEn) (a_0 : Nat) (a_1 : Nat) (i_2 : Int32) (i_3 : Int32) (si_0 : Int32) (si_1 : Int32) (sa_2 : Nat) (h : AH) : evR T_X2_begin E 86 ([(0, .ref a_0), (1, .ref a_1), (2, .int i_2), (3, .int i_3)], [.int si_0, .int si_1, .ref sa_2], h) =
  (stI h sa_2 0 si_1 si_0).bind fun h1 =>
  (rdR h1 a_0 2 2).bind fun r2 =>
  bif i_3 == 0 then evR T_X2_begin E 113 ([(0, .ref a_0), (1, .ref a_1), (2, .int i_2)], [.int i_2, .ref r2], h1) else
  evR T_X2_begin E 96 ([(0, .ref a_0), (1, .ref a_1), (2, .int i_2)], [.int i_2, .ref r2], h1) := by
  rw [evR_eq ok_T_X2_begin.loc (ops := b_X2_begin_86) rfl]; rfl
theorem e_X2_begin_96 (E : AEn) (a_0 : Nat) (a_1 : Nat) (i_2 : Int32) (si_0 : Int32) (sa_1 : Nat) (h : AH) : evR T_X2_begin E 96 ([(0, .ref a_0), (1, .ref a_1), (2, .int i_2)], [.int si_0, .ref sa_1], h) =
  (rdR h a_1 1 0).bind fun r1 =>
  rR (E n_J2_get [.ref r1, .int i_2] h) (fun r3 h2 =>
  (okC h2 r3 6).bind fun _ =>
  (rdI h2 r3 6 2).bind fun i4 =>
  evR T_X2_begin E 114 ([(0, .ref a_0), (1, .ref a_1), (2, .int i_2)], [.int i4, .int si_0, .ref sa_1], h2)) thr := by
  rw [evR_eq ok_T_X2_begin.loc (ops := b_X2_begin_96) rfl]; rfl
theorem e_X2_begin_113 (E : AEn) (a_0 : Nat) (a_1 : Nat) (i_2 : Int32) (si_0 : Int32) (sa_1 : Nat) (h : AH) : evR T_X2_begin E 113 ([(0, .ref a_0), (1, .ref a_1), (2, .int i_2)], [.int si_0, .ref sa_1], h) =
  evR T_X2_begin E 114 ([(0, .ref a_0), (1, .ref a_1), (2, .int i_2)], [.int (0 : Int32), .int si_0, .ref sa_1], h) := by
  rw [evR_eq ok_T_X2_begin.loc (ops := b_X2_begin_113) rfl]; rfl
theorem e_X2_begin_114 (E : AEn) (a_0 : Nat) (a_1 : Nat) (i_2 : Int32) (si_0 : Int32) (si_1 : Int32) (sa_2 : Nat) (h : AH) : evR T_X2_begin E 114 ([(0, .ref a_0), (1, .ref a_1), (2, .int i_2)], [.int si_0, .int si_1, .ref sa_2], h) =
  (stI h sa_2 0 si_1 si_0).bind fun h1 =>
  (rdR h1 a_0 2 3).bind fun r2 =>
  (stI h1 r2 0 i_2 (0 : Int32)).bind fun h3 =>
  (rdR h3 a_0 2 4).bind fun r4 =>
  (stI h3 r4 0 i_2 (0 : Int32)).bind fun h5 =>
  evR T_X2_begin E 2 ([(0, .ref a_0), (1, .ref a_1), (2, .int (i_2 + (1 : Int32)))], [], h5) := by
  rw [evR_eq ok_T_X2_begin.loc (ops := b_X2_begin_114) rfl]; rfl
theorem e_X2_begin_135 (E : AEn) (a_0 : Nat) (a_1 : Nat) (h : AH) : evR T_X2_begin E 135 ([(0, .ref a_0), (1, .ref a_1)], [], h) =
  (rdI h a_1 1 3).bind fun i1 =>
  (wrF h a_0 2 5 (.int i1)).bind fun h2 =>
  (wrF h2 a_0 2 6 (.int (0 : Int32))).bind fun h3 =>
  (wrF h3 a_0 2 7 (.int (-1 : Int32))).bind fun h4 =>
  (wrF h4 a_0 2 8 (.int (0 : Int32))).bind fun h5 =>
  (wrF h5 a_0 2 9 (.int (0 : Int32))).bind fun h6 =>
  some (.inl none, h6) := by
  rw [evR_eq ok_T_X2_begin.loc (ops := b_X2_begin_135) rfl]; rfl
theorem c_X2_begin (d : Nat) (a_0 : Nat) (a_1 : Nat) (h : AH) : callR (d + 1) n_X2_begin [.ref a_0, .ref a_1] h =
  bif isO h a_0 2 then evR T_X2_begin (callR d) 0 ([(0, .ref a_0), (1, .ref a_1)], [], h) else none := by
  rw [callR_succ, show aMTl[n_X2_begin]? = some (T_X2_begin, [0, 1]) from rfl]; show (bif (isO h a_0 2) && true then _ else _) = _; rw [Bool.and_true]; rfl
theorem e_X2_copyFrom_0 (E : AEn) (a_0 : Nat) (a_1 : Nat) (h : AH) : evR T_X2_copyFrom E 0 ([(0, .ref a_0), (1, .ref a_1)], [], h) =
  evR T_X2_copyFrom E 2 ([(0, .ref a_0), (1, .ref a_1), (2, .int (0 : Int32))], [], h) := by
  rw [evR_eq ok_T_X2_copyFrom.loc (ops := b_X2_copyFrom_0) rfl]; rfl
theorem e_X2_copyFrom_2 (E : AEn) (a_0 : Nat) (a_1 : Nat) (i_2 : Int32) (h : AH) : evR T_X2_copyFrom E 2 ([(0, .ref a_0), (1, .ref a_1), (2, .int i_2)], [], h) =
  bif decide ((6 : Int32) ≤ i_2) then evR T_X2_copyFrom E 74 ([(0, .ref a_0), (1, .ref a_1)], [], h) else
  evR T_X2_copyFrom E 8 ([(0, .ref a_0), (1, .ref a_1), (2, .int i_2)], [], h) := by
  rw [evR_eq ok_T_X2_copyFrom.loc (ops := b_X2_copyFrom_2) rfl]; rfl
theorem e_X2_copyFrom_8 (E : AEn) (a_0 : Nat) (a_1 : Nat) (i_2 : Int32) (h : AH) : evR T_X2_copyFrom E 8 ([(0, .ref a_0), (1, .ref a_1), (2, .int i_2)], [], h) =
  (rdR h a_0 2 0).bind fun r1 =>
  (rdR h a_1 2 0).bind fun r2 =>
  (ldI h r2 0 i_2).bind fun i3 =>
  (stI h r1 0 i_2 i3).bind fun h4 =>
  (rdR h4 a_0 2 1).bind fun r5 =>
  (rdR h4 a_1 2 1).bind fun r6 =>
  (ldI h4 r6 0 i_2).bind fun i7 =>
  (stI h4 r5 0 i_2 i7).bind fun h8 =>
  (rdR h8 a_0 2 2).bind fun r9 =>
  (rdR h8 a_1 2 2).bind fun r10 =>
  (ldI h8 r10 0 i_2).bind fun i11 =>
  (stI h8 r9 0 i_2 i11).bind fun h12 =>
  (rdR h12 a_0 2 3).bind fun r13 =>
  (rdR h12 a_1 2 3).bind fun r14 =>
  (ldI h12 r14 0 i_2).bind fun i15 =>
  (stI h12 r13 0 i_2 i15).bind fun h16 =>
  (rdR h16 a_0 2 4).bind fun r17 =>
  (rdR h16 a_1 2 4).bind fun r18 =>
  (ldI h16 r18 0 i_2).bind fun i19 =>
  (stI h16 r17 0 i_2 i19).bind fun h20 =>
  evR T_X2_copyFrom E 2 ([(0, .ref a_0), (1, .ref a_1), (2, .int (i_2 + (1 : Int32)))], [], h20) := by
  rw [evR_eq ok_T_X2_copyFrom.loc (ops := b_X2_copyFrom_8) rfl]; rfl
theorem e_X2_copyFrom_74 (E : AEn) (a_0 : Nat) (a_1 : Nat) (h : AH) : evR T_X2_copyFrom E 74 ([(0, .ref a_0), (1, .ref a_1)], [], h) =
  (rdI h a_1 2 5).bind fun i1 =>
  (wrF h a_0 2 5 (.int i1)).bind fun h2 =>
  (rdI h2 a_1 2 6).bind fun i3 =>
  (wrF h2 a_0 2 6 (.int i3)).bind fun h4 =>
  (rdI h4 a_1 2 7).bind fun i5 =>
  (wrF h4 a_0 2 7 (.int i5)).bind fun h6 =>
  (rdI h6 a_1 2 8).bind fun i7 =>
  (wrF h6 a_0 2 8 (.int i7)).bind fun h8 =>
  (rdI h8 a_1 2 9).bind fun i9 =>
  (wrF h8 a_0 2 9 (.int i9)).bind fun h10 =>
  some (.inl none, h10) := by
  rw [evR_eq ok_T_X2_copyFrom.loc (ops := b_X2_copyFrom_74) rfl]; rfl
theorem c_X2_copyFrom (d : Nat) (a_0 : Nat) (a_1 : Nat) (h : AH) : callR (d + 1) n_X2_copyFrom [.ref a_0, .ref a_1] h =
  bif isO h a_0 2 then evR T_X2_copyFrom (callR d) 0 ([(0, .ref a_0), (1, .ref a_1)], [], h) else none := by
  rw [callR_succ, show aMTl[n_X2_copyFrom]? = some (T_X2_copyFrom, [0, 1]) from rfl]; show (bif (isO h a_0 2) && true then _ else _) = _; rw [Bool.and_true]; rfl
theorem e_X2_isAway_0 (E : AEn) (a_0 : Nat) (h : AH) : evR T_X2_isAway E 0 ([(0, .ref a_0)], [], h) =
  (rdI h a_0 2 8).bind fun i1 =>
  bif decide (i1 ≤ 0) then evR T_X2_isAway E 11 ([], [], h) else
  evR T_X2_isAway E 7 ([], [], h) := by
  rw [evR_eq ok_T_X2_isAway.loc (ops := b_X2_isAway_0) rfl]; rfl
theorem e_X2_isAway_7 (E : AEn)  (h : AH) : evR T_X2_isAway E 7 ([], [], h) =
  evR T_X2_isAway E 12 ([], [.int (1 : Int32)], h) := by
  rw [evR_eq ok_T_X2_isAway.loc (ops := b_X2_isAway_7) rfl]; rfl
theorem e_X2_isAway_11 (E : AEn)  (h : AH) : evR T_X2_isAway E 11 ([], [], h) =
  evR T_X2_isAway E 12 ([], [.int (0 : Int32)], h) := by
  rw [evR_eq ok_T_X2_isAway.loc (ops := b_X2_isAway_11) rfl]; rfl
theorem e_X2_isAway_12 (E : AEn) (si_0 : Int32) (h : AH) : evR T_X2_isAway E 12 ([], [.int si_0], h) =
  (bif si_0 == 0 || si_0 == 1 then some si_0 else none).bind fun i1 => some (.inl (some (.int i1)), h) := by
  rw [evR_eq ok_T_X2_isAway.loc (ops := b_X2_isAway_12) rfl]; rfl
theorem c_X2_isAway (d : Nat) (a_0 : Nat) (h : AH) : callR (d + 1) n_X2_isAway [.ref a_0] h =
  bif isO h a_0 2 then evR T_X2_isAway (callR d) 0 ([(0, .ref a_0)], [], h) else none := by
  rw [callR_succ, show aMTl[n_X2_isAway]? = some (T_X2_isAway, [0]) from rfl]; show (bif (isO h a_0 2) && true then _ else _) = _; rw [Bool.and_true]; rfl
theorem e_X2_isAtFire_0 (E : AEn) (a_0 : Nat) (h : AH) : evR T_X2_isAtFire E 0 ([(0, .ref a_0)], [], h) =
  rI (E n_X2_isAway [.ref a_0] h) (fun i2 h1 =>
  bif !(i2 == 0) then evR T_X2_isAtFire E 32 ([], [], h1) else
  evR T_X2_isAtFire E 7 ([(0, .ref a_0)], [], h1)) thr := by
  rw [evR_eq ok_T_X2_isAtFire.loc (ops := b_X2_isAtFire_0) rfl]; rfl
theorem e_X2_isAtFire_7 (E : AEn) (a_0 : Nat) (h : AH) : evR T_X2_isAtFire E 7 ([(0, .ref a_0)], [], h) =
  (rdI h a_0 2 6).bind fun i1 =>
  bif decide (i1 ≤ 0) then evR T_X2_isAtFire E 32 ([], [], h) else
  evR T_X2_isAtFire E 14 ([(0, .ref a_0)], [], h) := by
  rw [evR_eq ok_T_X2_isAtFire.loc (ops := b_X2_isAtFire_7) rfl]; rfl
theorem e_X2_isAtFire_14 (E : AEn) (a_0 : Nat) (h : AH) : evR T_X2_isAtFire E 14 ([(0, .ref a_0)], [], h) =
  (rdR h a_0 2 1).bind fun r1 =>
  (rdI h a_0 2 6).bind fun i2 =>
  (ldI h r1 0 (i2 - (1 : Int32))).bind fun i3 =>
  bif decide (i3 ≤ 0) then evR T_X2_isAtFire E 32 ([], [], h) else
  evR T_X2_isAtFire E 28 ([], [], h) := by
  rw [evR_eq ok_T_X2_isAtFire.loc (ops := b_X2_isAtFire_14) rfl]; rfl
theorem e_X2_isAtFire_28 (E : AEn)  (h : AH) : evR T_X2_isAtFire E 28 ([], [], h) =
  evR T_X2_isAtFire E 33 ([], [.int (1 : Int32)], h) := by
  rw [evR_eq ok_T_X2_isAtFire.loc (ops := b_X2_isAtFire_28) rfl]; rfl
theorem e_X2_isAtFire_32 (E : AEn)  (h : AH) : evR T_X2_isAtFire E 32 ([], [], h) =
  evR T_X2_isAtFire E 33 ([], [.int (0 : Int32)], h) := by
  rw [evR_eq ok_T_X2_isAtFire.loc (ops := b_X2_isAtFire_32) rfl]; rfl
theorem e_X2_isAtFire_33 (E : AEn) (si_0 : Int32) (h : AH) : evR T_X2_isAtFire E 33 ([], [.int si_0], h) =
  (bif si_0 == 0 || si_0 == 1 then some si_0 else none).bind fun i1 => some (.inl (some (.int i1)), h) := by
  rw [evR_eq ok_T_X2_isAtFire.loc (ops := b_X2_isAtFire_33) rfl]; rfl
theorem c_X2_isAtFire (d : Nat) (a_0 : Nat) (h : AH) : callR (d + 1) n_X2_isAtFire [.ref a_0] h =
  bif isO h a_0 2 then evR T_X2_isAtFire (callR d) 0 ([(0, .ref a_0)], [], h) else none := by
  rw [callR_succ, show aMTl[n_X2_isAtFire]? = some (T_X2_isAtFire, [0]) from rfl]; show (bif (isO h a_0 2) && true then _ else _) = _; rw [Bool.and_true]; rfl
theorem e_X2_fires_0 (E : AEn) (a_0 : Nat) (h : AH) : evR T_X2_fires E 0 ([(0, .ref a_0)], [], h) =
  evR T_X2_fires E 4 ([(0, .ref a_0), (1, .int (0 : Int32)), (2, .int (0 : Int32))], [], h) := by
  rw [evR_eq ok_T_X2_fires.loc (ops := b_X2_fires_0) rfl]; rfl
theorem e_X2_fires_4 (E : AEn) (a_0 : Nat) (i_1 : Int32) (i_2 : Int32) (h : AH) : evR T_X2_fires E 4 ([(0, .ref a_0), (1, .int i_1), (2, .int i_2)], [], h) =
  bif decide ((6 : Int32) ≤ i_2) then evR T_X2_fires E 35 ([(1, .int i_1)], [], h) else
  evR T_X2_fires E 10 ([(0, .ref a_0), (1, .int i_1), (2, .int i_2)], [], h) := by
  rw [evR_eq ok_T_X2_fires.loc (ops := b_X2_fires_4) rfl]; rfl
theorem e_X2_fires_10 (E : AEn) (a_0 : Nat) (i_1 : Int32) (i_2 : Int32) (h : AH) : evR T_X2_fires E 10 ([(0, .ref a_0), (1, .int i_1), (2, .int i_2)], [], h) =
  (rdR h a_0 2 1).bind fun r1 =>
  (ldI h r1 0 i_2).bind fun i2 =>
  bif decide (i2 ≤ 0) then evR T_X2_fires E 26 ([(0, .ref a_0), (2, .int i_2)], [.int i_1], h) else
  evR T_X2_fires E 20 ([(0, .ref a_0), (2, .int i_2)], [.int i_1], h) := by
  rw [evR_eq ok_T_X2_fires.loc (ops := b_X2_fires_10) rfl]; rfl
theorem e_X2_fires_20 (E : AEn) (a_0 : Nat) (i_2 : Int32) (si_0 : Int32) (h : AH) : evR T_X2_fires E 20 ([(0, .ref a_0), (2, .int i_2)], [.int si_0], h) =
  evR T_X2_fires E 27 ([(0, .ref a_0), (2, .int i_2)], [.int ((1 : Int32) <<< (i_2 &&& 31)), .int si_0], h) := by
  rw [evR_eq ok_T_X2_fires.loc (ops := b_X2_fires_20) rfl]; rfl
theorem e_X2_fires_26 (E : AEn) (a_0 : Nat) (i_2 : Int32) (si_0 : Int32) (h : AH) : evR T_X2_fires E 26 ([(0, .ref a_0), (2, .int i_2)], [.int si_0], h) =
  evR T_X2_fires E 27 ([(0, .ref a_0), (2, .int i_2)], [.int (0 : Int32), .int si_0], h) := by
  rw [evR_eq ok_T_X2_fires.loc (ops := b_X2_fires_26) rfl]; rfl
theorem e_X2_fires_27 (E : AEn) (a_0 : Nat) (i_2 : Int32) (si_0 : Int32) (si_1 : Int32) (h : AH) : evR T_X2_fires E 27 ([(0, .ref a_0), (2, .int i_2)], [.int si_0, .int si_1], h) =
  evR T_X2_fires E 4 ([(0, .ref a_0), (1, .int (si_1 ||| si_0)), (2, .int (i_2 + (1 : Int32)))], [], h) := by
  rw [evR_eq ok_T_X2_fires.loc (ops := b_X2_fires_27) rfl]; rfl
theorem e_X2_fires_35 (E : AEn) (i_1 : Int32) (h : AH) : evR T_X2_fires E 35 ([(1, .int i_1)], [], h) =
  some (.inl (some (.int i_1)), h) := by
  rw [evR_eq ok_T_X2_fires.loc (ops := b_X2_fires_35) rfl]; rfl
theorem c_X2_fires (d : Nat) (a_0 : Nat) (h : AH) : callR (d + 1) n_X2_fires [.ref a_0] h =
  bif isO h a_0 2 then evR T_X2_fires (callR d) 0 ([(0, .ref a_0)], [], h) else none := by
  rw [callR_succ, show aMTl[n_X2_fires]? = some (T_X2_fires, [0]) from rfl]; show (bif (isO h a_0 2) && true then _ else _) = _; rw [Bool.and_true]; rfl
theorem e_X2_gone_0 (E : AEn) (a_0 : Nat) (h : AH) : evR T_X2_gone E 0 ([(0, .ref a_0)], [], h) =
  evR T_X2_gone E 4 ([(0, .ref a_0), (1, .int (0 : Int32)), (2, .int (0 : Int32))], [], h) := by
  rw [evR_eq ok_T_X2_gone.loc (ops := b_X2_gone_0) rfl]; rfl
theorem e_X2_gone_4 (E : AEn) (a_0 : Nat) (i_1 : Int32) (i_2 : Int32) (h : AH) : evR T_X2_gone E 4 ([(0, .ref a_0), (1, .int i_1), (2, .int i_2)], [], h) =
  bif decide ((6 : Int32) ≤ i_2) then evR T_X2_gone E 25 ([(1, .int i_1)], [], h) else
  evR T_X2_gone E 10 ([(0, .ref a_0), (1, .int i_1), (2, .int i_2)], [], h) := by
  rw [evR_eq ok_T_X2_gone.loc (ops := b_X2_gone_4) rfl]; rfl
theorem e_X2_gone_10 (E : AEn) (a_0 : Nat) (i_1 : Int32) (i_2 : Int32) (h : AH) : evR T_X2_gone E 10 ([(0, .ref a_0), (1, .int i_1), (2, .int i_2)], [], h) =
  (rdR h a_0 2 3).bind fun r1 =>
  (ldI h r1 0 i_2).bind fun i2 =>
  evR T_X2_gone E 4 ([(0, .ref a_0), (1, .int (i_1 + i2)), (2, .int (i_2 + (1 : Int32)))], [], h) := by
  rw [evR_eq ok_T_X2_gone.loc (ops := b_X2_gone_10) rfl]; rfl
theorem e_X2_gone_25 (E : AEn) (i_1 : Int32) (h : AH) : evR T_X2_gone E 25 ([(1, .int i_1)], [], h) =
  some (.inl (some (.int i_1)), h) := by
  rw [evR_eq ok_T_X2_gone.loc (ops := b_X2_gone_25) rfl]; rfl
theorem c_X2_gone (d : Nat) (a_0 : Nat) (h : AH) : callR (d + 1) n_X2_gone [.ref a_0] h =
  bif isO h a_0 2 then evR T_X2_gone (callR d) 0 ([(0, .ref a_0)], [], h) else none := by
  rw [callR_succ, show aMTl[n_X2_gone]? = some (T_X2_gone, [0]) from rfl]; show (bif (isO h a_0 2) && true then _ else _) = _; rw [Bool.and_true]; rfl
theorem e_X2_sends_0 (E : AEn) (a_0 : Nat) (a_1 : Nat) (i_2 : Int32) (h : AH) : evR T_X2_sends E 0 ([(0, .ref a_0), (1, .ref a_1), (2, .int i_2)], [], h) =
  (rdI h a_0 2 6).bind fun i1 =>
  bif !((i_2 + (1 : Int32)) == i1) then evR T_X2_sends E 11 ([(0, .ref a_0), (1, .ref a_1), (2, .int i_2)], [], h) else
  evR T_X2_sends E 10 ([], [], h) := by
  rw [evR_eq ok_T_X2_sends.loc (ops := b_X2_sends_0) rfl]; rfl
theorem e_X2_sends_10 (E : AEn)  (h : AH) : evR T_X2_sends E 10 ([], [], h) =
  some (.inl none, h) := by
  rw [evR_eq ok_T_X2_sends.loc (ops := b_X2_sends_10) rfl]; rfl
theorem e_X2_sends_11 (E : AEn) (a_0 : Nat) (a_1 : Nat) (i_2 : Int32) (h : AH) : evR T_X2_sends E 11 ([(0, .ref a_0), (1, .ref a_1), (2, .int i_2)], [], h) =
  (wrF h a_0 2 7 (.int (i_2 + (1 : Int32)))).bind fun h1 =>
  (rdI h1 a_0 2 6).bind fun i2 =>
  (rdI h1 a_0 2 7).bind fun i3 =>
  rI (E n_X1_far [.ref a_1, .int i2, .int i3] h1) (fun i5 h4 =>
  (wrF h4 a_0 2 8 (.int i5)).bind fun h6 =>
  some (.inl none, h6)) thr := by
  rw [evR_eq ok_T_X2_sends.loc (ops := b_X2_sends_11) rfl]; rfl
theorem c_X2_sends (d : Nat) (a_0 : Nat) (a_1 : Nat) (i_2 : Int32) (h : AH) : callR (d + 1) n_X2_sends [.ref a_0, .ref a_1, .int i_2] h =
  bif isO h a_0 2 then evR T_X2_sends (callR d) 0 ([(0, .ref a_0), (1, .ref a_1), (2, .int i_2)], [], h) else none := by
  rw [callR_succ, show aMTl[n_X2_sends]? = some (T_X2_sends, [0, 1, 2]) from rfl]; show (bif (isO h a_0 2) && true then _ else _) = _; rw [Bool.and_true]; rfl
theorem e_X2_goesOn_0 (E : AEn) (a_0 : Nat) (h : AH) : evR T_X2_goesOn E 0 ([(0, .ref a_0)], [], h) =
  rI (E n_X2_isAway [.ref a_0] h) (fun i2 h1 =>
  bif !(i2 == 0) then evR T_X2_goesOn E 8 ([(0, .ref a_0)], [], h1) else
  evR T_X2_goesOn E 7 ([], [], h1)) thr := by
  rw [evR_eq ok_T_X2_goesOn.loc (ops := b_X2_goesOn_0) rfl]; rfl
theorem e_X2_goesOn_7 (E : AEn)  (h : AH) : evR T_X2_goesOn E 7 ([], [], h) =
  some (.inl none, h) := by
  rw [evR_eq ok_T_X2_goesOn.loc (ops := b_X2_goesOn_7) rfl]; rfl
theorem e_X2_goesOn_8 (E : AEn) (a_0 : Nat) (h : AH) : evR T_X2_goesOn E 8 ([(0, .ref a_0)], [], h) =
  (rdI h a_0 2 8).bind fun i1 =>
  (wrF h a_0 2 8 (.int (i1 - (1 : Int32)))).bind fun h2 =>
  (rdI h2 a_0 2 8).bind fun i3 =>
  bif decide (i3 ≤ 0) then evR T_X2_goesOn E 26 ([(0, .ref a_0)], [], h2) else
  evR T_X2_goesOn E 25 ([], [], h2) := by
  rw [evR_eq ok_T_X2_goesOn.loc (ops := b_X2_goesOn_8) rfl]; rfl
theorem e_X2_goesOn_25 (E : AEn)  (h : AH) : evR T_X2_goesOn E 25 ([], [], h) =
  some (.inl none, h) := by
  rw [evR_eq ok_T_X2_goesOn.loc (ops := b_X2_goesOn_25) rfl]; rfl
theorem e_X2_goesOn_26 (E : AEn) (a_0 : Nat) (h : AH) : evR T_X2_goesOn E 26 ([(0, .ref a_0)], [], h) =
  (rdI h a_0 2 7).bind fun i1 =>
  (wrF h a_0 2 6 (.int i1)).bind fun h2 =>
  (wrF h2 a_0 2 7 (.int (-1 : Int32))).bind fun h3 =>
  some (.inl none, h3) := by
  rw [evR_eq ok_T_X2_goesOn.loc (ops := b_X2_goesOn_26) rfl]; rfl
theorem c_X2_goesOn (d : Nat) (a_0 : Nat) (h : AH) : callR (d + 1) n_X2_goesOn [.ref a_0] h =
  bif isO h a_0 2 then evR T_X2_goesOn (callR d) 0 ([(0, .ref a_0)], [], h) else none := by
  rw [callR_succ, show aMTl[n_X2_goesOn]? = some (T_X2_goesOn, [0]) from rfl]; show (bif (isO h a_0 2) && true then _ else _) = _; rw [Bool.and_true]; rfl
theorem e_X2_burn_0 (E : AEn) (a_0 : Nat) (a_1 : Nat) (h : AH) : evR T_X2_burn E 0 ([(0, .ref a_0), (1, .ref a_1)], [], h) =
  rI (E n_X2_gone [.ref a_0] h) (fun i2 h1 =>
  evR T_X2_burn E 10 ([(0, .ref a_0), (1, .ref a_1), (2, .int i2), (3, .int (0 : Int32)), (4, .int (0 : Int32))], [], h1)) thr := by
  rw [evR_eq ok_T_X2_burn.loc (ops := b_X2_burn_0) rfl]; rfl
theorem e_X2_burn_10 (E : AEn) (a_0 : Nat) (a_1 : Nat) (i_2 : Int32) (i_3 : Int32) (i_4 : Int32) (h : AH) : evR T_X2_burn E 10 ([(0, .ref a_0), (1, .ref a_1), (2, .int i_2), (3, .int i_3), (4, .int i_4)], [], h) =
  bif decide ((6 : Int32) ≤ i_4) then evR T_X2_burn E 101 ([(0, .ref a_0), (1, .ref a_1), (2, .int i_2), (3, .int i_3)], [], h) else
  evR T_X2_burn E 17 ([(0, .ref a_0), (1, .ref a_1), (2, .int i_2), (3, .int i_3), (4, .int i_4)], [], h) := by
  rw [evR_eq ok_T_X2_burn.loc (ops := b_X2_burn_10) rfl]; rfl
theorem e_X2_burn_17 (E : AEn) (a_0 : Nat) (a_1 : Nat) (i_2 : Int32) (i_3 : Int32) (i_4 : Int32) (h : AH) : evR T_X2_burn E 17 ([(0, .ref a_0), (1, .ref a_1), (2, .int i_2), (3, .int i_3), (4, .int i_4)], [], h) =
  (rdR h a_0 2 0).bind fun r1 =>
  (ldI h r1 0 i_4).bind fun i2 =>
  (rdR h a_0 2 1).bind fun r3 =>
  (ldI h r3 0 i_4).bind fun i4 =>
  (rdR h a_0 2 0).bind fun r5 =>
  (ldI h r5 0 i_4).bind fun i6 =>
  (stI h r5 0 i_4 (i6 - (if i4 < i2 then i4 else i2))).bind fun h7 =>
  (rdR h7 a_0 2 3).bind fun r8 =>
  (ldI h7 r8 0 i_4).bind fun i9 =>
  (stI h7 r8 0 i_4 (i9 + (if i4 < i2 then i4 else i2))).bind fun h10 =>
  (rdR h10 a_0 2 0).bind fun r11 =>
  (ldI h10 r11 0 i_4).bind fun i12 =>
  bif decide (i12 ≤ 0) then evR T_X2_burn E 92 ([(0, .ref a_0), (1, .ref a_1), (2, .int i_2), (4, .int i_4)], [.int i_3], h10) else
  evR T_X2_burn E 71 ([(0, .ref a_0), (1, .ref a_1), (2, .int i_2), (4, .int i_4)], [.int i_3], h10) := by
  rw [evR_eq ok_T_X2_burn.loc (ops := b_X2_burn_17) rfl]; rfl
theorem e_X2_burn_71 (E : AEn) (a_0 : Nat) (a_1 : Nat) (i_2 : Int32) (i_4 : Int32) (si_0 : Int32) (h : AH) : evR T_X2_burn E 71 ([(0, .ref a_0), (1, .ref a_1), (2, .int i_2), (4, .int i_4)], [.int si_0], h) =
  (rdR h a_0 2 1).bind fun r1 =>
  (ldI h r1 0 i_4).bind fun i2 =>
  (rdI h a_1 1 4).bind fun i3 =>
  bif decide (i2 < i3) then evR T_X2_burn E 92 ([(0, .ref a_0), (1, .ref a_1), (2, .int i_2), (4, .int i_4)], [.int si_0], h) else
  evR T_X2_burn E 85 ([(0, .ref a_0), (1, .ref a_1), (2, .int i_2), (4, .int i_4)], [.int si_0], h) := by
  rw [evR_eq ok_T_X2_burn.loc (ops := b_X2_burn_71) rfl]; rfl
theorem e_X2_burn_85 (E : AEn) (a_0 : Nat) (a_1 : Nat) (i_2 : Int32) (i_4 : Int32) (si_0 : Int32) (h : AH) : evR T_X2_burn E 85 ([(0, .ref a_0), (1, .ref a_1), (2, .int i_2), (4, .int i_4)], [.int si_0], h) =
  evR T_X2_burn E 93 ([(0, .ref a_0), (1, .ref a_1), (2, .int i_2), (4, .int i_4)], [.int ((1 : Int32) <<< (i_4 &&& 31)), .int si_0], h) := by
  rw [evR_eq ok_T_X2_burn.loc (ops := b_X2_burn_85) rfl]; rfl
theorem e_X2_burn_92 (E : AEn) (a_0 : Nat) (a_1 : Nat) (i_2 : Int32) (i_4 : Int32) (si_0 : Int32) (h : AH) : evR T_X2_burn E 92 ([(0, .ref a_0), (1, .ref a_1), (2, .int i_2), (4, .int i_4)], [.int si_0], h) =
  evR T_X2_burn E 93 ([(0, .ref a_0), (1, .ref a_1), (2, .int i_2), (4, .int i_4)], [.int (0 : Int32), .int si_0], h) := by
  rw [evR_eq ok_T_X2_burn.loc (ops := b_X2_burn_92) rfl]; rfl
theorem e_X2_burn_93 (E : AEn) (a_0 : Nat) (a_1 : Nat) (i_2 : Int32) (i_4 : Int32) (si_0 : Int32) (si_1 : Int32) (h : AH) : evR T_X2_burn E 93 ([(0, .ref a_0), (1, .ref a_1), (2, .int i_2), (4, .int i_4)], [.int si_0, .int si_1], h) =
  evR T_X2_burn E 10 ([(0, .ref a_0), (1, .ref a_1), (2, .int i_2), (3, .int (si_1 ||| si_0)), (4, .int (i_4 + (1 : Int32)))], [], h) := by
  rw [evR_eq ok_T_X2_burn.loc (ops := b_X2_burn_93) rfl]; rfl
theorem e_X2_burn_101 (E : AEn) (a_0 : Nat) (a_1 : Nat) (i_2 : Int32) (i_3 : Int32) (h : AH) : evR T_X2_burn E 101 ([(0, .ref a_0), (1, .ref a_1), (2, .int i_2), (3, .int i_3)], [], h) =
  evR T_X2_burn E 104 ([(0, .ref a_0), (1, .ref a_1), (2, .int i_2), (3, .int i_3), (4, .int (0 : Int32))], [], h) := by
  rw [evR_eq ok_T_X2_burn.loc (ops := b_X2_burn_101) rfl]; rfl
theorem e_X2_burn_104 (E : AEn) (a_0 : Nat) (a_1 : Nat) (i_2 : Int32) (i_3 : Int32) (i_4 : Int32) (h : AH) : evR T_X2_burn E 104 ([(0, .ref a_0), (1, .ref a_1), (2, .int i_2), (3, .int i_3), (4, .int i_4)], [], h) =
  bif decide ((6 : Int32) ≤ i_4) then evR T_X2_burn E 199 ([(0, .ref a_0), (2, .int i_2)], [], h) else
  evR T_X2_burn E 111 ([(0, .ref a_0), (1, .ref a_1), (2, .int i_2), (3, .int i_3), (4, .int i_4)], [], h) := by
  rw [evR_eq ok_T_X2_burn.loc (ops := b_X2_burn_104) rfl]; rfl
theorem e_X2_burn_111 (E : AEn) (a_0 : Nat) (a_1 : Nat) (i_2 : Int32) (i_3 : Int32) (i_4 : Int32) (h : AH) : evR T_X2_burn E 111 ([(0, .ref a_0), (1, .ref a_1), (2, .int i_2), (3, .int i_3), (4, .int i_4)], [], h) =
  (rdR h a_0 2 0).bind fun r1 =>
  (ldI h r1 0 i_4).bind fun i2 =>
  bif !(i2 == 0) then evR T_X2_burn E 132 ([(0, .ref a_0), (1, .ref a_1), (2, .int i_2), (3, .int i_3), (4, .int i_4)], [], h) else
  evR T_X2_burn E 121 ([(0, .ref a_0), (1, .ref a_1), (2, .int i_2), (3, .int i_3), (4, .int i_4)], [], h) := by
  rw [evR_eq ok_T_X2_burn.loc (ops := b_X2_burn_111) rfl]; rfl
theorem e_X2_burn_121 (E : AEn) (a_0 : Nat) (a_1 : Nat) (i_2 : Int32) (i_3 : Int32) (i_4 : Int32) (h : AH) : evR T_X2_burn E 121 ([(0, .ref a_0), (1, .ref a_1), (2, .int i_2), (3, .int i_3), (4, .int i_4)], [], h) =
  (rdR h a_0 2 1).bind fun r1 =>
  (stI h r1 0 i_4 (0 : Int32)).bind fun h2 =>
  evR T_X2_burn E 193 ([(0, .ref a_0), (1, .ref a_1), (2, .int i_2), (3, .int i_3), (4, .int i_4)], [], h2) := by
  rw [evR_eq ok_T_X2_burn.loc (ops := b_X2_burn_121) rfl]; rfl
theorem e_X2_burn_132 (E : AEn) (a_0 : Nat) (a_1 : Nat) (i_2 : Int32) (i_3 : Int32) (i_4 : Int32) (h : AH) : evR T_X2_burn E 132 ([(0, .ref a_0), (1, .ref a_1), (2, .int i_2), (3, .int i_3), (4, .int i_4)], [], h) =
  (rdR h a_0 2 1).bind fun r1 =>
  (ldI h r1 0 i_4).bind fun i2 =>
  bif decide (i2 ≤ 0) then evR T_X2_burn E 166 ([(0, .ref a_0), (1, .ref a_1), (2, .int i_2), (3, .int i_3), (4, .int i_4)], [], h) else
  evR T_X2_burn E 142 ([(0, .ref a_0), (1, .ref a_1), (2, .int i_2), (3, .int i_3), (4, .int i_4)], [], h) := by
  rw [evR_eq ok_T_X2_burn.loc (ops := b_X2_burn_132) rfl]; rfl
theorem e_X2_burn_142 (E : AEn) (a_0 : Nat) (a_1 : Nat) (i_2 : Int32) (i_3 : Int32) (i_4 : Int32) (h : AH) : evR T_X2_burn E 142 ([(0, .ref a_0), (1, .ref a_1), (2, .int i_2), (3, .int i_3), (4, .int i_4)], [], h) =
  (rdR h a_0 2 1).bind fun r1 =>
  (rdR h a_0 2 1).bind fun r2 =>
  (ldI h r2 0 i_4).bind fun i3 =>
  (stI h r1 0 i_4 (if (i3 + (1 : Int32)) < (9 : Int32) then (i3 + (1 : Int32)) else (9 : Int32))).bind fun h4 =>
  evR T_X2_burn E 193 ([(0, .ref a_0), (1, .ref a_1), (2, .int i_2), (3, .int i_3), (4, .int i_4)], [], h4) := by
  rw [evR_eq ok_T_X2_burn.loc (ops := b_X2_burn_142) rfl]; rfl
theorem e_X2_burn_166 (E : AEn) (a_0 : Nat) (a_1 : Nat) (i_2 : Int32) (i_3 : Int32) (i_4 : Int32) (h : AH) : evR T_X2_burn E 166 ([(0, .ref a_0), (1, .ref a_1), (2, .int i_2), (3, .int i_3), (4, .int i_4)], [], h) =
  (rdR h a_0 2 1).bind fun r1 =>
  (rdR h a_1 1 2).bind fun r2 =>
  (ldI h r2 0 i_4).bind fun i3 =>
  bif (i3 &&& i_3) == 0 then evR T_X2_burn E 188 ([(0, .ref a_0), (1, .ref a_1), (2, .int i_2), (3, .int i_3), (4, .int i_4)], [.int i_4, .ref r1], h) else
  evR T_X2_burn E 184 ([(0, .ref a_0), (1, .ref a_1), (2, .int i_2), (3, .int i_3), (4, .int i_4)], [.int i_4, .ref r1], h) := by
  rw [evR_eq ok_T_X2_burn.loc (ops := b_X2_burn_166) rfl]; rfl
theorem e_X2_burn_184 (E : AEn) (a_0 : Nat) (a_1 : Nat) (i_2 : Int32) (i_3 : Int32) (i_4 : Int32) (si_0 : Int32) (sa_1 : Nat) (h : AH) : evR T_X2_burn E 184 ([(0, .ref a_0), (1, .ref a_1), (2, .int i_2), (3, .int i_3), (4, .int i_4)], [.int si_0, .ref sa_1], h) =
  evR T_X2_burn E 189 ([(0, .ref a_0), (1, .ref a_1), (2, .int i_2), (3, .int i_3), (4, .int i_4)], [.int (1 : Int32), .int si_0, .ref sa_1], h) := by
  rw [evR_eq ok_T_X2_burn.loc (ops := b_X2_burn_184) rfl]; rfl
theorem e_X2_burn_188 (E : AEn) (a_0 : Nat) (a_1 : Nat) (i_2 : Int32) (i_3 : Int32) (i_4 : Int32) (si_0 : Int32) (sa_1 : Nat) (h : AH) : evR T_X2_burn E 188 ([(0, .ref a_0), (1, .ref a_1), (2, .int i_2), (3, .int i_3), (4, .int i_4)], [.int si_0, .ref sa_1], h) =
  evR T_X2_burn E 189 ([(0, .ref a_0), (1, .ref a_1), (2, .int i_2), (3, .int i_3), (4, .int i_4)], [.int (0 : Int32), .int si_0, .ref sa_1], h) := by
  rw [evR_eq ok_T_X2_burn.loc (ops := b_X2_burn_188) rfl]; rfl
theorem e_X2_burn_189 (E : AEn) (a_0 : Nat) (a_1 : Nat) (i_2 : Int32) (i_3 : Int32) (i_4 : Int32) (si_0 : Int32) (si_1 : Int32) (sa_2 : Nat) (h : AH) : evR T_X2_burn E 189 ([(0, .ref a_0), (1, .ref a_1), (2, .int i_2), (3, .int i_3), (4, .int i_4)], [.int si_0, .int si_1, .ref sa_2], h) =
  rI (E n_X0_bit [.int si_0] h) (fun i2 h1 =>
  (stI h1 sa_2 0 si_1 i2).bind fun h3 =>
  evR T_X2_burn E 193 ([(0, .ref a_0), (1, .ref a_1), (2, .int i_2), (3, .int i_3), (4, .int i_4)], [], h3)) thr := by
  rw [evR_eq ok_T_X2_burn.loc (ops := b_X2_burn_189) rfl]; rfl
theorem e_X2_burn_193 (E : AEn) (a_0 : Nat) (a_1 : Nat) (i_2 : Int32) (i_3 : Int32) (i_4 : Int32) (h : AH) : evR T_X2_burn E 193 ([(0, .ref a_0), (1, .ref a_1), (2, .int i_2), (3, .int i_3), (4, .int i_4)], [], h) =
  evR T_X2_burn E 104 ([(0, .ref a_0), (1, .ref a_1), (2, .int i_2), (3, .int i_3), (4, .int (i_4 + (1 : Int32)))], [], h) := by
  rw [evR_eq ok_T_X2_burn.loc (ops := b_X2_burn_193) rfl]; rfl
theorem e_X2_burn_199 (E : AEn) (a_0 : Nat) (i_2 : Int32) (h : AH) : evR T_X2_burn E 199 ([(0, .ref a_0), (2, .int i_2)], [], h) =
  rI (E n_X2_gone [.ref a_0] h) (fun i2 h1 =>
  some (.inl (some (.int (i2 - i_2))), h1)) thr := by
  rw [evR_eq ok_T_X2_burn.loc (ops := b_X2_burn_199) rfl]; rfl
theorem c_X2_burn (d : Nat) (a_0 : Nat) (a_1 : Nat) (h : AH) : callR (d + 1) n_X2_burn [.ref a_0, .ref a_1] h =
  bif isO h a_0 2 then evR T_X2_burn (callR d) 0 ([(0, .ref a_0), (1, .ref a_1)], [], h) else none := by
  rw [callR_succ, show aMTl[n_X2_burn]? = some (T_X2_burn, [0, 1]) from rfl]; show (bif (isO h a_0 2) && true then _ else _) = _; rw [Bool.and_true]; rfl
theorem e_X2_left_0 (E : AEn) (a_0 : Nat) (h : AH) : evR T_X2_left E 0 ([(0, .ref a_0)], [], h) =
  evR T_X2_left E 4 ([(0, .ref a_0), (1, .int (0 : Int32)), (2, .int (0 : Int32))], [], h) := by
  rw [evR_eq ok_T_X2_left.loc (ops := b_X2_left_0) rfl]; rfl
theorem e_X2_left_4 (E : AEn) (a_0 : Nat) (i_1 : Int32) (i_2 : Int32) (h : AH) : evR T_X2_left E 4 ([(0, .ref a_0), (1, .int i_1), (2, .int i_2)], [], h) =
  bif decide ((6 : Int32) ≤ i_2) then evR T_X2_left E 25 ([(1, .int i_1)], [], h) else
  evR T_X2_left E 10 ([(0, .ref a_0), (1, .int i_1), (2, .int i_2)], [], h) := by
  rw [evR_eq ok_T_X2_left.loc (ops := b_X2_left_4) rfl]; rfl
theorem e_X2_left_10 (E : AEn) (a_0 : Nat) (i_1 : Int32) (i_2 : Int32) (h : AH) : evR T_X2_left E 10 ([(0, .ref a_0), (1, .int i_1), (2, .int i_2)], [], h) =
  (rdR h a_0 2 0).bind fun r1 =>
  (ldI h r1 0 i_2).bind fun i2 =>
  evR T_X2_left E 4 ([(0, .ref a_0), (1, .int (i_1 + i2)), (2, .int (i_2 + (1 : Int32)))], [], h) := by
  rw [evR_eq ok_T_X2_left.loc (ops := b_X2_left_10) rfl]; rfl
theorem e_X2_left_25 (E : AEn) (i_1 : Int32) (h : AH) : evR T_X2_left E 25 ([(1, .int i_1)], [], h) =
  some (.inl (some (.int i_1)), h) := by
  rw [evR_eq ok_T_X2_left.loc (ops := b_X2_left_25) rfl]; rfl
theorem c_X2_left (d : Nat) (a_0 : Nat) (h : AH) : callR (d + 1) n_X2_left [.ref a_0] h =
  bif isO h a_0 2 then evR T_X2_left (callR d) 0 ([(0, .ref a_0)], [], h) else none := by
  rw [callR_succ, show aMTl[n_X2_left]? = some (T_X2_left, [0]) from rfl]; show (bif (isO h a_0 2) && true then _ else _) = _; rw [Bool.and_true]; rfl
theorem e_X5_init_0 (E : AEn) (a_0 : Nat) (a_1 : Nat) (p_2 : Nat) (i_3 : Int32) (h : AH) : evR T_X5_init E 0 ([(0, .ref a_0), (1, .ref a_1), (2, .retAddr p_2), (3, .int i_3)], [], h) =
  (wrF h a_0 5 6 (.ref a_1)).bind fun h1 =>
  (prP p_2).bind fun _ =>
  (bif isP p_2 then wrF h1 a_0 5 0 (.retAddr p_2) else none).bind fun h2 =>
  (wrF h2 a_0 5 5 (.int i_3)).bind fun h3 =>
  some (.inl none, h3) := by
  rw [evR_eq ok_T_X5_init.loc (ops := b_X5_init_0) rfl]; rfl
theorem c_X5_init (d : Nat) (a_0 : Nat) (a_1 : Nat) (p_2 : Nat) (i_3 : Int32) (h : AH) : callR (d + 1) n_X5_init [.ref a_0, .ref a_1, .retAddr p_2, .int i_3] h =
  bif isO h a_0 5 then evR T_X5_init (callR d) 0 ([(0, .ref a_0), (1, .ref a_1), (2, .retAddr p_2), (3, .int i_3)], [], h) else none := by
  rw [callR_succ, show aMTl[n_X5_init]? = some (T_X5_init, [0, 1, 2, 3]) from rfl]; show (bif (isO h a_0 5) && true then _ else _) = _; rw [Bool.and_true]; rfl
theorem e_X5_valley_0 (E : AEn) (a_0 : Nat) (h : AH) : evR T_X5_valley E 0 ([(0, .ref a_0)], [], h) =
  rV (E n_X1_init [.ref h.1] (hpush h 5 (.inl (1, dF1)))) (fun h1 =>
  rV (E n_X5_clause [.ref a_0, .ref h.1] h1) (fun h2 =>
  evR T_X5_valley E 13 ([(0, .ref a_0), (1, .ref h.1)], [], h2)) thr) thr := by
  rw [evR_eq ok_T_X5_valley.loc (ops := b_X5_valley_0) rfl]; rfl
theorem e_X5_valley_13 (E : AEn) (a_0 : Nat) (a_1 : Nat) (h : AH) : evR T_X5_valley E 13 ([(0, .ref a_0), (1, .ref a_1)], [], h) =
  rI (E n_X5_goesOn [.ref a_0] h) (fun i2 h1 =>
  bif i2 == 0 then evR T_X5_valley E 28 ([(1, .ref a_1)], [], h1) else
  evR T_X5_valley E 20 ([(0, .ref a_0), (1, .ref a_1)], [], h1)) thr := by
  rw [evR_eq ok_T_X5_valley.loc (ops := b_X5_valley_13) rfl]; rfl
theorem e_X5_valley_20 (E : AEn) (a_0 : Nat) (a_1 : Nat) (h : AH) : evR T_X5_valley E 20 ([(0, .ref a_0), (1, .ref a_1)], [], h) =
  rV (E n_X5_clause [.ref a_0, .ref a_1] h) (fun h1 =>
  evR T_X5_valley E 13 ([(0, .ref a_0), (1, .ref a_1)], [], h1)) thr := by
  rw [evR_eq ok_T_X5_valley.loc (ops := b_X5_valley_20) rfl]; rfl
theorem e_X5_valley_28 (E : AEn) (a_1 : Nat) (h : AH) : evR T_X5_valley E 28 ([(1, .ref a_1)], [], h) =
  rV (E n_X1_ends [.ref a_1] h) (fun h1 =>
  some (.inl (some (.ref a_1)), h1)) thr := by
  rw [evR_eq ok_T_X5_valley.loc (ops := b_X5_valley_28) rfl]; rfl
theorem c_X5_valley (d : Nat) (a_0 : Nat) (h : AH) : callR (d + 1) n_X5_valley [.ref a_0] h =
  bif isO h a_0 5 then evR T_X5_valley (callR d) 0 ([(0, .ref a_0)], [], h) else none := by
  rw [callR_succ, show aMTl[n_X5_valley]? = some (T_X5_valley, [0]) from rfl]; show (bif (isO h a_0 5) && true then _ else _) = _; rw [Bool.and_true]; rfl
theorem e_X5_clause_0 (E : AEn) (a_0 : Nat) (a_1 : Nat) (h : AH) : evR T_X5_clause E 0 ([(0, .ref a_0), (1, .ref a_1)], [], h) =
  (rdI h a_1 1 4).bind fun i1 =>
  bif decide (i1 ≤ 0) then evR T_X5_clause E 11 ([(0, .ref a_0), (1, .ref a_1)], [], h) else
  evR T_X5_clause E 7 ([(0, .ref a_0), (1, .ref a_1)], [], h) := by
  rw [evR_eq ok_T_X5_clause.loc (ops := b_X5_clause_0) rfl]; rfl
theorem e_X5_clause_7 (E : AEn) (a_0 : Nat) (a_1 : Nat) (h : AH) : evR T_X5_clause E 7 ([(0, .ref a_0), (1, .ref a_1)], [], h) =
  evR T_X5_clause E 12 ([(0, .ref a_0), (1, .ref a_1)], [.int (1 : Int32)], h) := by
  rw [evR_eq ok_T_X5_clause.loc (ops := b_X5_clause_7) rfl]; rfl
theorem e_X5_clause_11 (E : AEn) (a_0 : Nat) (a_1 : Nat) (h : AH) : evR T_X5_clause E 11 ([(0, .ref a_0), (1, .ref a_1)], [], h) =
  evR T_X5_clause E 12 ([(0, .ref a_0), (1, .ref a_1)], [.int (0 : Int32)], h) := by
  rw [evR_eq ok_T_X5_clause.loc (ops := b_X5_clause_11) rfl]; rfl
theorem e_X5_clause_12 (E : AEn) (a_0 : Nat) (a_1 : Nat) (si_0 : Int32) (h : AH) : evR T_X5_clause E 12 ([(0, .ref a_0), (1, .ref a_1)], [.int si_0], h) =
  bif !(si_0 == 0) then evR T_X5_clause E 24 ([(0, .ref a_0), (1, .ref a_1), (2, .int si_0)], [.retAddr 11, .ref a_0], h) else
  evR T_X5_clause E 20 ([(0, .ref a_0), (1, .ref a_1), (2, .int si_0)], [.retAddr 11, .ref a_0], h) := by
  rw [evR_eq ok_T_X5_clause.loc (ops := b_X5_clause_12) rfl]; rfl
theorem e_X5_clause_20 (E : AEn) (a_0 : Nat) (a_1 : Nat) (i_2 : Int32) (sp_0 : Nat) (sa_1 : Nat) (h : AH) : evR T_X5_clause E 20 ([(0, .ref a_0), (1, .ref a_1), (2, .int i_2)], [.retAddr sp_0, .ref sa_1], h) =
  evR T_X5_clause E 25 ([(0, .ref a_0), (1, .ref a_1), (2, .int i_2)], [.int (1 : Int32), .retAddr sp_0, .ref sa_1], h) := by
  rw [evR_eq ok_T_X5_clause.loc (ops := b_X5_clause_20) rfl]; rfl
theorem e_X5_clause_24 (E : AEn) (a_0 : Nat) (a_1 : Nat) (i_2 : Int32) (sp_0 : Nat) (sa_1 : Nat) (h : AH) : evR T_X5_clause E 24 ([(0, .ref a_0), (1, .ref a_1), (2, .int i_2)], [.retAddr sp_0, .ref sa_1], h) =
  evR T_X5_clause E 25 ([(0, .ref a_0), (1, .ref a_1), (2, .int i_2)], [.int (0 : Int32), .retAddr sp_0, .ref sa_1], h) := by
  rw [evR_eq ok_T_X5_clause.loc (ops := b_X5_clause_24) rfl]; rfl
theorem e_X5_clause_25 (E : AEn) (a_0 : Nat) (a_1 : Nat) (i_2 : Int32) (si_0 : Int32) (sp_1 : Nat) (sa_2 : Nat) (h : AH) : evR T_X5_clause E 25 ([(0, .ref a_0), (1, .ref a_1), (2, .int i_2)], [.int si_0, .retAddr sp_1, .ref sa_2], h) =
  rI (E n_X5_begins [.ref sa_2, .retAddr sp_1, .int si_0] h) (fun i2 h1 =>
  bif i2 == 0 then evR T_X5_clause E 56 ([(0, .ref a_0), (1, .ref a_1), (2, .int i_2)], [], h1) else
  evR T_X5_clause E 31 ([(0, .ref a_0), (1, .ref a_1)], [], h1)) thr := by
  rw [evR_eq ok_T_X5_clause.loc (ops := b_X5_clause_25) rfl]; rfl
theorem e_X5_clause_31 (E : AEn) (a_0 : Nat) (a_1 : Nat) (h : AH) : evR T_X5_clause E 31 ([(0, .ref a_0), (1, .ref a_1)], [], h) =
  rI (E n_X5_number [.ref a_0, .int (0 : Int32), .int (9 : Int32)] h) (fun i2 h1 =>
  (wrF h1 a_1 1 3 (.int i2)).bind fun h3 =>
  rI (E n_X5_number [.ref a_0, .int (1 : Int32), .int (9 : Int32)] h3) (fun i5 h4 =>
  (wrF h4 a_1 1 4 (.int i5)).bind fun h6 =>
  evR T_X5_clause E 140 ([], [], h6)) thr) thr := by
  rw [evR_eq ok_T_X5_clause.loc (ops := b_X5_clause_31) rfl]; rfl
theorem e_X5_clause_56 (E : AEn) (a_0 : Nat) (a_1 : Nat) (i_2 : Int32) (h : AH) : evR T_X5_clause E 56 ([(0, .ref a_0), (1, .ref a_1), (2, .int i_2)], [], h) =
  bif i_2 == 0 then evR T_X5_clause E 76 ([(0, .ref a_0), (1, .ref a_1), (2, .int i_2)], [.retAddr 12, .ref a_0], h) else
  evR T_X5_clause E 63 ([(0, .ref a_0), (1, .ref a_1), (2, .int i_2)], [.retAddr 12, .ref a_0], h) := by
  rw [evR_eq ok_T_X5_clause.loc (ops := b_X5_clause_56) rfl]; rfl
theorem e_X5_clause_63 (E : AEn) (a_0 : Nat) (a_1 : Nat) (i_2 : Int32) (sp_0 : Nat) (sa_1 : Nat) (h : AH) : evR T_X5_clause E 63 ([(0, .ref a_0), (1, .ref a_1), (2, .int i_2)], [.retAddr sp_0, .ref sa_1], h) =
  rI (E n_X1_houses [.ref a_1] h) (fun i2 h1 =>
  bif decide ((6 : Int32) ≤ i2) then evR T_X5_clause E 76 ([(0, .ref a_0), (1, .ref a_1), (2, .int i_2)], [.retAddr sp_0, .ref sa_1], h1) else
  evR T_X5_clause E 72 ([(0, .ref a_0), (1, .ref a_1), (2, .int i_2)], [.retAddr sp_0, .ref sa_1], h1)) thr := by
  rw [evR_eq ok_T_X5_clause.loc (ops := b_X5_clause_63) rfl]; rfl
theorem e_X5_clause_72 (E : AEn) (a_0 : Nat) (a_1 : Nat) (i_2 : Int32) (sp_0 : Nat) (sa_1 : Nat) (h : AH) : evR T_X5_clause E 72 ([(0, .ref a_0), (1, .ref a_1), (2, .int i_2)], [.retAddr sp_0, .ref sa_1], h) =
  evR T_X5_clause E 77 ([(0, .ref a_0), (1, .ref a_1), (2, .int i_2)], [.int (1 : Int32), .retAddr sp_0, .ref sa_1], h) := by
  rw [evR_eq ok_T_X5_clause.loc (ops := b_X5_clause_72) rfl]; rfl
theorem e_X5_clause_76 (E : AEn) (a_0 : Nat) (a_1 : Nat) (i_2 : Int32) (sp_0 : Nat) (sa_1 : Nat) (h : AH) : evR T_X5_clause E 76 ([(0, .ref a_0), (1, .ref a_1), (2, .int i_2)], [.retAddr sp_0, .ref sa_1], h) =
  evR T_X5_clause E 77 ([(0, .ref a_0), (1, .ref a_1), (2, .int i_2)], [.int (0 : Int32), .retAddr sp_0, .ref sa_1], h) := by
  rw [evR_eq ok_T_X5_clause.loc (ops := b_X5_clause_76) rfl]; rfl
theorem e_X5_clause_77 (E : AEn) (a_0 : Nat) (a_1 : Nat) (i_2 : Int32) (si_0 : Int32) (sp_1 : Nat) (sa_2 : Nat) (h : AH) : evR T_X5_clause E 77 ([(0, .ref a_0), (1, .ref a_1), (2, .int i_2)], [.int si_0, .retAddr sp_1, .ref sa_2], h) =
  rI (E n_X5_begins [.ref sa_2, .retAddr sp_1, .int si_0] h) (fun i2 h1 =>
  bif i2 == 0 then evR T_X5_clause E 91 ([(0, .ref a_0), (1, .ref a_1), (2, .int i_2)], [], h1) else
  evR T_X5_clause E 83 ([(0, .ref a_0), (1, .ref a_1)], [], h1)) thr := by
  rw [evR_eq ok_T_X5_clause.loc (ops := b_X5_clause_77) rfl]; rfl
theorem e_X5_clause_83 (E : AEn) (a_0 : Nat) (a_1 : Nat) (h : AH) : evR T_X5_clause E 83 ([(0, .ref a_0), (1, .ref a_1)], [], h) =
  rV (E n_X5_house [.ref a_0, .ref a_1] h) (fun h1 =>
  evR T_X5_clause E 140 ([], [], h1)) thr := by
  rw [evR_eq ok_T_X5_clause.loc (ops := b_X5_clause_83) rfl]; rfl
theorem e_X5_clause_91 (E : AEn) (a_0 : Nat) (a_1 : Nat) (i_2 : Int32) (h : AH) : evR T_X5_clause E 91 ([(0, .ref a_0), (1, .ref a_1), (2, .int i_2)], [], h) =
  rI (E n_X5_begins [.ref a_0, .retAddr 13, .int i_2] h) (fun i2 h1 =>
  bif i2 == 0 then evR T_X5_clause E 109 ([(0, .ref a_0), (1, .ref a_1), (2, .int i_2)], [], h1) else
  evR T_X5_clause E 101 ([(0, .ref a_0), (1, .ref a_1)], [], h1)) thr := by
  rw [evR_eq ok_T_X5_clause.loc (ops := b_X5_clause_91) rfl]; rfl
theorem e_X5_clause_101 (E : AEn) (a_0 : Nat) (a_1 : Nat) (h : AH) : evR T_X5_clause E 101 ([(0, .ref a_0), (1, .ref a_1)], [], h) =
  rV (E n_X5_road [.ref a_0, .ref a_1] h) (fun h1 =>
  evR T_X5_clause E 140 ([], [], h1)) thr := by
  rw [evR_eq ok_T_X5_clause.loc (ops := b_X5_clause_101) rfl]; rfl
theorem e_X5_clause_109 (E : AEn) (a_0 : Nat) (a_1 : Nat) (i_2 : Int32) (h : AH) : evR T_X5_clause E 109 ([(0, .ref a_0), (1, .ref a_1), (2, .int i_2)], [], h) =
  rI (E n_X5_begins [.ref a_0, .retAddr 14, .int i_2] h) (fun i2 h1 =>
  bif i2 == 0 then evR T_X5_clause E 127 ([(0, .ref a_0)], [], h1) else
  evR T_X5_clause E 119 ([(0, .ref a_0), (1, .ref a_1)], [], h1)) thr := by
  rw [evR_eq ok_T_X5_clause.loc (ops := b_X5_clause_109) rfl]; rfl
theorem e_X5_clause_119 (E : AEn) (a_0 : Nat) (a_1 : Nat) (h : AH) : evR T_X5_clause E 119 ([(0, .ref a_0), (1, .ref a_1)], [], h) =
  rV (E n_X5_beside [.ref a_0, .ref a_1] h) (fun h1 =>
  evR T_X5_clause E 140 ([], [], h1)) thr := by
  rw [evR_eq ok_T_X5_clause.loc (ops := b_X5_clause_119) rfl]; rfl
theorem e_X5_clause_127 (E : AEn) (a_0 : Nat) (h : AH) : evR T_X5_clause E 127 ([(0, .ref a_0)], [], h) =
  (rdR h a_0 5 6).bind fun r1 =>
  (rdI h a_0 5 1).bind fun i2 =>
  rR (E n_X0_fails [.ref r1, .int (0 : Int32), .int i2] h) (fun r4 h3 =>
  (bif isO h3 r4 3 then some r4 else none).bind fun q => some (.inr q, h3)) thr := by
  rw [evR_eq ok_T_X5_clause.loc (ops := b_X5_clause_127) rfl]; rfl
theorem e_X5_clause_140 (E : AEn)  (h : AH) : evR T_X5_clause E 140 ([], [], h) =
  some (.inl none, h) := by
  rw [evR_eq ok_T_X5_clause.loc (ops := b_X5_clause_140) rfl]; rfl
theorem c_X5_clause (d : Nat) (a_0 : Nat) (a_1 : Nat) (h : AH) : callR (d + 1) n_X5_clause [.ref a_0, .ref a_1] h =
  bif isO h a_0 5 then evR T_X5_clause (callR d) 0 ([(0, .ref a_0), (1, .ref a_1)], [], h) else none := by
  rw [callR_succ, show aMTl[n_X5_clause]? = some (T_X5_clause, [0, 1]) from rfl]; show (bif (isO h a_0 5) && true then _ else _) = _; rw [Bool.and_true]; rfl
theorem e_X5_begins_0 (E : AEn) (a_0 : Nat) (p_1 : Nat) (i_2 : Int32) (h : AH) : evR T_X5_begins E 0 ([(0, .ref a_0), (1, .retAddr p_1), (2, .int i_2)], [], h) =
  (prP p_1).bind fun _ =>
  rI (E n_X5_isWord [.ref a_0, .retAddr p_1] h) (fun i2 h1 =>
  bif !(i2 == 0) then evR T_X5_begins E 10 ([(0, .ref a_0), (1, .retAddr p_1), (2, .int i_2)], [], h1) else
  evR T_X5_begins E 8 ([], [], h1)) thr := by
  rw [evR_eq ok_T_X5_begins.loc (ops := b_X5_begins_0) rfl]; rfl
theorem e_X5_begins_8 (E : AEn)  (h : AH) : evR T_X5_begins E 8 ([], [], h) =
  some (.inl (some (.int (0 : Int32))), h) := by
  rw [evR_eq ok_T_X5_begins.loc (ops := b_X5_begins_8) rfl]; rfl
theorem e_X5_begins_10 (E : AEn) (a_0 : Nat) (p_1 : Nat) (i_2 : Int32) (h : AH) : evR T_X5_begins E 10 ([(0, .ref a_0), (1, .retAddr p_1), (2, .int i_2)], [], h) =
  (rdI h a_0 5 4).bind fun i1 =>
  (rdI h a_0 5 5).bind fun i2 =>
  bif i1 == i2 then evR T_X5_begins E 25 ([(0, .ref a_0)], [], h) else
  evR T_X5_begins E 21 ([(0, .ref a_0), (1, .retAddr p_1), (2, .int i_2)], [], h) := by
  rw [evR_eq ok_T_X5_begins.loc (ops := b_X5_begins_10) rfl]; rfl
theorem e_X5_begins_21 (E : AEn) (a_0 : Nat) (p_1 : Nat) (i_2 : Int32) (h : AH) : evR T_X5_begins E 21 ([(0, .ref a_0), (1, .retAddr p_1), (2, .int i_2)], [], h) =
  bif !(i_2 == 0) then evR T_X5_begins E 38 ([(0, .ref a_0), (1, .retAddr p_1)], [], h) else
  evR T_X5_begins E 25 ([(0, .ref a_0)], [], h) := by
  rw [evR_eq ok_T_X5_begins.loc (ops := b_X5_begins_21) rfl]; rfl
theorem e_X5_begins_25 (E : AEn) (a_0 : Nat) (h : AH) : evR T_X5_begins E 25 ([(0, .ref a_0)], [], h) =
  (rdR h a_0 5 6).bind fun r1 =>
  (rdI h a_0 5 1).bind fun i2 =>
  rR (E n_X0_fails [.ref r1, .int (4 : Int32), .int i2] h) (fun r4 h3 =>
  (bif isO h3 r4 3 then some r4 else none).bind fun q => some (.inr q, h3)) thr := by
  rw [evR_eq ok_T_X5_begins.loc (ops := b_X5_begins_25) rfl]; rfl
theorem e_X5_begins_38 (E : AEn) (a_0 : Nat) (p_1 : Nat) (h : AH) : evR T_X5_begins E 38 ([(0, .ref a_0), (1, .retAddr p_1)], [], h) =
  (rdI h a_0 5 4).bind fun i1 =>
  (wrF h a_0 5 4 (.int (i1 + (1 : Int32)))).bind fun h2 =>
  (rdI h2 a_0 5 1).bind fun i3 =>
  (prP p_1).bind fun _ =>
  rI (E n_J5_length [.retAddr p_1] h2) (fun i5 h4 =>
  (wrF h4 a_0 5 1 (.int (i3 + i5))).bind fun h6 =>
  some (.inl (some (.int (1 : Int32))), h6)) thr := by
  rw [evR_eq ok_T_X5_begins.loc (ops := b_X5_begins_38) rfl]; rfl
theorem c_X5_begins (d : Nat) (a_0 : Nat) (p_1 : Nat) (i_2 : Int32) (h : AH) : callR (d + 1) n_X5_begins [.ref a_0, .retAddr p_1, .int i_2] h =
  bif isO h a_0 5 then evR T_X5_begins (callR d) 0 ([(0, .ref a_0), (1, .retAddr p_1), (2, .int i_2)], [], h) else none := by
  rw [callR_succ, show aMTl[n_X5_begins]? = some (T_X5_begins, [0, 1, 2]) from rfl]; show (bif (isO h a_0 5) && true then _ else _) = _; rw [Bool.and_true]; rfl
theorem e_X5_isWord_0 (E : AEn) (a_0 : Nat) (p_1 : Nat) (h : AH) : evR T_X5_isWord E 0 ([(0, .ref a_0), (1, .retAddr p_1)], [], h) =
  rI (E n_X5_next [.ref a_0] h) (fun i2 h1 =>
  (rdI h1 a_0 5 1).bind fun i3 =>
  evR T_X5_isWord E 10 ([(0, .ref a_0), (1, .retAddr p_1), (2, .int i3)], [], h1)) thr := by
  rw [evR_eq ok_T_X5_isWord.loc (ops := b_X5_isWord_0) rfl]; rfl
theorem e_X5_isWord_10 (E : AEn) (a_0 : Nat) (p_1 : Nat) (i_2 : Int32) (h : AH) : evR T_X5_isWord E 10 ([(0, .ref a_0), (1, .retAddr p_1), (2, .int i_2)], [], h) =
  (rdR h a_0 5 6).bind fun r1 =>
  (rdI h r1 0 7).bind fun i2 =>
  bif decide (i2 ≤ i_2) then evR T_X5_isWord E 49 ([(0, .ref a_0), (1, .retAddr p_1), (2, .int i_2)], [], h) else
  evR T_X5_isWord E 21 ([(0, .ref a_0), (1, .retAddr p_1), (2, .int i_2)], [], h) := by
  rw [evR_eq ok_T_X5_isWord.loc (ops := b_X5_isWord_10) rfl]; rfl
theorem e_X5_isWord_21 (E : AEn) (a_0 : Nat) (p_1 : Nat) (i_2 : Int32) (h : AH) : evR T_X5_isWord E 21 ([(0, .ref a_0), (1, .retAddr p_1), (2, .int i_2)], [], h) =
  (rdR h a_0 5 6).bind fun r1 =>
  (rdR h r1 0 6).bind fun r2 =>
  (ldI h r2 1 i_2).bind fun i3 =>
  rI (E n_X0_in [.long i3.toInt64, .long (97 : Int64), .long (122 : Int64)] h) (fun i5 h4 =>
  bif i5 == 0 then evR T_X5_isWord E 49 ([(0, .ref a_0), (1, .retAddr p_1), (2, .int i_2)], [], h4) else
  evR T_X5_isWord E 43 ([(0, .ref a_0), (1, .retAddr p_1), (2, .int i_2)], [], h4)) thr := by
  rw [evR_eq ok_T_X5_isWord.loc (ops := b_X5_isWord_21) rfl]; rfl
theorem e_X5_isWord_43 (E : AEn) (a_0 : Nat) (p_1 : Nat) (i_2 : Int32) (h : AH) : evR T_X5_isWord E 43 ([(0, .ref a_0), (1, .retAddr p_1), (2, .int i_2)], [], h) =
  evR T_X5_isWord E 10 ([(0, .ref a_0), (1, .retAddr p_1), (2, .int (i_2 + (1 : Int32)))], [], h) := by
  rw [evR_eq ok_T_X5_isWord.loc (ops := b_X5_isWord_43) rfl]; rfl
theorem e_X5_isWord_49 (E : AEn) (a_0 : Nat) (p_1 : Nat) (i_2 : Int32) (h : AH) : evR T_X5_isWord E 49 ([(0, .ref a_0), (1, .retAddr p_1), (2, .int i_2)], [], h) =
  (rdI h a_0 5 1).bind fun i1 =>
  (prP p_1).bind fun _ =>
  rI (E n_J5_length [.retAddr p_1] h) (fun i3 h2 =>
  bif !((i_2 - i1) == i3) then evR T_X5_isWord E 66 ([(0, .ref a_0), (1, .retAddr p_1)], [], h2) else
  evR T_X5_isWord E 62 ([(0, .ref a_0), (1, .retAddr p_1)], [], h2)) thr := by
  rw [evR_eq ok_T_X5_isWord.loc (ops := b_X5_isWord_49) rfl]; rfl
theorem e_X5_isWord_62 (E : AEn) (a_0 : Nat) (p_1 : Nat) (h : AH) : evR T_X5_isWord E 62 ([(0, .ref a_0), (1, .retAddr p_1)], [], h) =
  evR T_X5_isWord E 67 ([(0, .ref a_0), (1, .retAddr p_1)], [.int (1 : Int32)], h) := by
  rw [evR_eq ok_T_X5_isWord.loc (ops := b_X5_isWord_62) rfl]; rfl
theorem e_X5_isWord_66 (E : AEn) (a_0 : Nat) (p_1 : Nat) (h : AH) : evR T_X5_isWord E 66 ([(0, .ref a_0), (1, .retAddr p_1)], [], h) =
  evR T_X5_isWord E 67 ([(0, .ref a_0), (1, .retAddr p_1)], [.int (0 : Int32)], h) := by
  rw [evR_eq ok_T_X5_isWord.loc (ops := b_X5_isWord_66) rfl]; rfl
theorem e_X5_isWord_67 (E : AEn) (a_0 : Nat) (p_1 : Nat) (si_0 : Int32) (h : AH) : evR T_X5_isWord E 67 ([(0, .ref a_0), (1, .retAddr p_1)], [.int si_0], h) =
  evR T_X5_isWord E 71 ([(0, .ref a_0), (1, .retAddr p_1), (3, .int si_0), (4, .int (0 : Int32))], [], h) := by
  rw [evR_eq ok_T_X5_isWord.loc (ops := b_X5_isWord_67) rfl]; rfl
theorem e_X5_isWord_71 (E : AEn) (a_0 : Nat) (p_1 : Nat) (i_3 : Int32) (i_4 : Int32) (h : AH) : evR T_X5_isWord E 71 ([(0, .ref a_0), (1, .retAddr p_1), (3, .int i_3), (4, .int i_4)], [], h) =
  (prP p_1).bind fun _ =>
  rI (E n_J5_length [.retAddr p_1] h) (fun i2 h1 =>
  bif decide (i2 ≤ i_4) then evR T_X5_isWord E 120 ([(3, .int i_3)], [], h1) else
  evR T_X5_isWord E 80 ([(0, .ref a_0), (1, .retAddr p_1), (3, .int i_3), (4, .int i_4)], [], h1)) thr := by
  rw [evR_eq ok_T_X5_isWord.loc (ops := b_X5_isWord_71) rfl]; rfl
theorem e_X5_isWord_80 (E : AEn) (a_0 : Nat) (p_1 : Nat) (i_3 : Int32) (i_4 : Int32) (h : AH) : evR T_X5_isWord E 80 ([(0, .ref a_0), (1, .retAddr p_1), (3, .int i_3), (4, .int i_4)], [], h) =
  bif i_3 == 0 then evR T_X5_isWord E 120 ([(3, .int i_3)], [], h) else
  evR T_X5_isWord E 84 ([(0, .ref a_0), (1, .retAddr p_1), (4, .int i_4)], [], h) := by
  rw [evR_eq ok_T_X5_isWord.loc (ops := b_X5_isWord_80) rfl]; rfl
theorem e_X5_isWord_84 (E : AEn) (a_0 : Nat) (p_1 : Nat) (i_4 : Int32) (h : AH) : evR T_X5_isWord E 84 ([(0, .ref a_0), (1, .retAddr p_1), (4, .int i_4)], [], h) =
  (rdR h a_0 5 6).bind fun r1 =>
  (rdR h r1 0 6).bind fun r2 =>
  (rdI h a_0 5 1).bind fun i3 =>
  (ldI h r2 1 (i3 + i_4)).bind fun i4 =>
  (prP p_1).bind fun _ =>
  rI (E n_J5_charAt [.retAddr p_1, .int i_4] h) (fun i6 h5 =>
  bif !(i4 == i6) then evR T_X5_isWord E 112 ([(0, .ref a_0), (1, .retAddr p_1), (4, .int i_4)], [], h5) else
  evR T_X5_isWord E 108 ([(0, .ref a_0), (1, .retAddr p_1), (4, .int i_4)], [], h5)) thr := by
  rw [evR_eq ok_T_X5_isWord.loc (ops := b_X5_isWord_84) rfl]; rfl
theorem e_X5_isWord_108 (E : AEn) (a_0 : Nat) (p_1 : Nat) (i_4 : Int32) (h : AH) : evR T_X5_isWord E 108 ([(0, .ref a_0), (1, .retAddr p_1), (4, .int i_4)], [], h) =
  evR T_X5_isWord E 113 ([(0, .ref a_0), (1, .retAddr p_1), (4, .int i_4)], [.int (1 : Int32)], h) := by
  rw [evR_eq ok_T_X5_isWord.loc (ops := b_X5_isWord_108) rfl]; rfl
theorem e_X5_isWord_112 (E : AEn) (a_0 : Nat) (p_1 : Nat) (i_4 : Int32) (h : AH) : evR T_X5_isWord E 112 ([(0, .ref a_0), (1, .retAddr p_1), (4, .int i_4)], [], h) =
  evR T_X5_isWord E 113 ([(0, .ref a_0), (1, .retAddr p_1), (4, .int i_4)], [.int (0 : Int32)], h) := by
  rw [evR_eq ok_T_X5_isWord.loc (ops := b_X5_isWord_112) rfl]; rfl
theorem e_X5_isWord_113 (E : AEn) (a_0 : Nat) (p_1 : Nat) (i_4 : Int32) (si_0 : Int32) (h : AH) : evR T_X5_isWord E 113 ([(0, .ref a_0), (1, .retAddr p_1), (4, .int i_4)], [.int si_0], h) =
  evR T_X5_isWord E 71 ([(0, .ref a_0), (1, .retAddr p_1), (3, .int si_0), (4, .int (i_4 + (1 : Int32)))], [], h) := by
  rw [evR_eq ok_T_X5_isWord.loc (ops := b_X5_isWord_113) rfl]; rfl
theorem e_X5_isWord_120 (E : AEn) (i_3 : Int32) (h : AH) : evR T_X5_isWord E 120 ([(3, .int i_3)], [], h) =
  (bif i_3 == 0 || i_3 == 1 then some i_3 else none).bind fun i1 => some (.inl (some (.int i1)), h) := by
  rw [evR_eq ok_T_X5_isWord.loc (ops := b_X5_isWord_120) rfl]; rfl
theorem c_X5_isWord (d : Nat) (a_0 : Nat) (p_1 : Nat) (h : AH) : callR (d + 1) n_X5_isWord [.ref a_0, .retAddr p_1] h =
  bif isO h a_0 5 then evR T_X5_isWord (callR d) 0 ([(0, .ref a_0), (1, .retAddr p_1)], [], h) else none := by
  rw [callR_succ, show aMTl[n_X5_isWord]? = some (T_X5_isWord, [0, 1]) from rfl]; show (bif (isO h a_0 5) && true then _ else _) = _; rw [Bool.and_true]; rfl
theorem e_X5_next_0 (E : AEn) (a_0 : Nat) (h : AH) : evR T_X5_next E 0 ([(0, .ref a_0)], [], h) =
  rI (E n_X5_sign [.ref a_0] h) (fun i2 h1 =>
  bif !(i2 == (32 : Int32)) then evR T_X5_next E 22 ([(0, .ref a_0)], [], h1) else
  evR T_X5_next E 9 ([(0, .ref a_0)], [], h1)) thr := by
  rw [evR_eq ok_T_X5_next.loc (ops := b_X5_next_0) rfl]; rfl
theorem e_X5_next_9 (E : AEn) (a_0 : Nat) (h : AH) : evR T_X5_next E 9 ([(0, .ref a_0)], [], h) =
  (rdI h a_0 5 1).bind fun i1 =>
  (wrF h a_0 5 1 (.int (i1 + (1 : Int32)))).bind fun h2 =>
  evR T_X5_next E 0 ([(0, .ref a_0)], [], h2) := by
  rw [evR_eq ok_T_X5_next.loc (ops := b_X5_next_9) rfl]; rfl
theorem e_X5_next_22 (E : AEn) (a_0 : Nat) (h : AH) : evR T_X5_next E 22 ([(0, .ref a_0)], [], h) =
  rI (E n_X5_sign [.ref a_0] h) (fun i2 h1 =>
  some (.inl (some (.int i2)), h1)) thr := by
  rw [evR_eq ok_T_X5_next.loc (ops := b_X5_next_22) rfl]; rfl
theorem c_X5_next (d : Nat) (a_0 : Nat) (h : AH) : callR (d + 1) n_X5_next [.ref a_0] h =
  bif isO h a_0 5 then evR T_X5_next (callR d) 0 ([(0, .ref a_0)], [], h) else none := by
  rw [callR_succ, show aMTl[n_X5_next]? = some (T_X5_next, [0]) from rfl]; show (bif (isO h a_0 5) && true then _ else _) = _; rw [Bool.and_true]; rfl
theorem e_X5_sign_0 (E : AEn) (a_0 : Nat) (h : AH) : evR T_X5_sign E 0 ([(0, .ref a_0)], [], h) =
  (rdI h a_0 5 1).bind fun i1 =>
  (rdR h a_0 5 6).bind fun r2 =>
  (rdI h r2 0 7).bind fun i3 =>
  bif decide (i3 ≤ i1) then evR T_X5_sign E 33 ([], [], h) else
  evR T_X5_sign E 14 ([(0, .ref a_0)], [], h) := by
  rw [evR_eq ok_T_X5_sign.loc (ops := b_X5_sign_0) rfl]; rfl
theorem e_X5_sign_14 (E : AEn) (a_0 : Nat) (h : AH) : evR T_X5_sign E 14 ([(0, .ref a_0)], [], h) =
  (rdR h a_0 5 6).bind fun r1 =>
  (rdR h r1 0 6).bind fun r2 =>
  (rdI h a_0 5 1).bind fun i3 =>
  (ldI h r2 1 i3).bind fun i4 =>
  evR T_X5_sign E 34 ([], [.int (i4 &&& (255 : Int32))], h) := by
  rw [evR_eq ok_T_X5_sign.loc (ops := b_X5_sign_14) rfl]; rfl
theorem e_X5_sign_33 (E : AEn)  (h : AH) : evR T_X5_sign E 33 ([], [], h) =
  evR T_X5_sign E 34 ([], [.int (-1 : Int32)], h) := by
  rw [evR_eq ok_T_X5_sign.loc (ops := b_X5_sign_33) rfl]; rfl
theorem e_X5_sign_34 (E : AEn) (si_0 : Int32) (h : AH) : evR T_X5_sign E 34 ([], [.int si_0], h) =
  some (.inl (some (.int si_0)), h) := by
  rw [evR_eq ok_T_X5_sign.loc (ops := b_X5_sign_34) rfl]; rfl
theorem c_X5_sign (d : Nat) (a_0 : Nat) (h : AH) : callR (d + 1) n_X5_sign [.ref a_0] h =
  bif isO h a_0 5 then evR T_X5_sign (callR d) 0 ([(0, .ref a_0)], [], h) else none := by
  rw [callR_succ, show aMTl[n_X5_sign]? = some (T_X5_sign, [0]) from rfl]; show (bif (isO h a_0 5) && true then _ else _) = _; rw [Bool.and_true]; rfl
theorem e_X5_number_0 (E : AEn) (a_0 : Nat) (i_1 : Int32) (i_2 : Int32) (h : AH) : evR T_X5_number E 0 ([(0, .ref a_0), (1, .int i_1), (2, .int i_2)], [], h) =
  rI (E n_X5_next [.ref a_0] h) (fun i2 h1 =>
  rI (E n_X5_isDigit [.ref a_0] h1) (fun i4 h3 =>
  bif !(i4 == 0) then evR T_X5_number E 25 ([(0, .ref a_0), (1, .int i_1), (2, .int i_2)], [], h3) else
  evR T_X5_number E 12 ([(0, .ref a_0)], [], h3)) thr) thr := by
  rw [evR_eq ok_T_X5_number.loc (ops := b_X5_number_0) rfl]; rfl
theorem e_X5_number_12 (E : AEn) (a_0 : Nat) (h : AH) : evR T_X5_number E 12 ([(0, .ref a_0)], [], h) =
  (rdR h a_0 5 6).bind fun r1 =>
  (rdI h a_0 5 1).bind fun i2 =>
  rR (E n_X0_fails [.ref r1, .int (0 : Int32), .int i2] h) (fun r4 h3 =>
  (bif isO h3 r4 3 then some r4 else none).bind fun q => some (.inr q, h3)) thr := by
  rw [evR_eq ok_T_X5_number.loc (ops := b_X5_number_12) rfl]; rfl
theorem e_X5_number_25 (E : AEn) (a_0 : Nat) (i_1 : Int32) (i_2 : Int32) (h : AH) : evR T_X5_number E 25 ([(0, .ref a_0), (1, .int i_1), (2, .int i_2)], [], h) =
  (rdI h a_0 5 1).bind fun i1 =>
  evR T_X5_number E 33 ([(0, .ref a_0), (1, .int i_1), (2, .int i_2), (3, .int i1), (4, .int (0 : Int32))], [], h) := by
  rw [evR_eq ok_T_X5_number.loc (ops := b_X5_number_25) rfl]; rfl
theorem e_X5_number_33 (E : AEn) (a_0 : Nat) (i_1 : Int32) (i_2 : Int32) (i_3 : Int32) (i_4 : Int32) (h : AH) : evR T_X5_number E 33 ([(0, .ref a_0), (1, .int i_1), (2, .int i_2), (3, .int i_3), (4, .int i_4)], [], h) =
  rI (E n_X5_isDigit [.ref a_0] h) (fun i2 h1 =>
  bif i2 == 0 then evR T_X5_number E 83 ([(0, .ref a_0), (1, .int i_1), (2, .int i_2), (3, .int i_3), (4, .int i_4)], [], h1) else
  evR T_X5_number E 40 ([(0, .ref a_0), (1, .int i_1), (2, .int i_2), (3, .int i_3), (4, .int i_4)], [], h1)) thr := by
  rw [evR_eq ok_T_X5_number.loc (ops := b_X5_number_33) rfl]; rfl
theorem e_X5_number_40 (E : AEn) (a_0 : Nat) (i_1 : Int32) (i_2 : Int32) (i_3 : Int32) (i_4 : Int32) (h : AH) : evR T_X5_number E 40 ([(0, .ref a_0), (1, .int i_1), (2, .int i_2), (3, .int i_3), (4, .int i_4)], [], h) =
  (rdI h a_0 5 1).bind fun i1 =>
  bif decide ((5 : Int32) ≤ (i1 - i_3)) then evR T_X5_number E 66 ([(0, .ref a_0), (1, .int i_1), (2, .int i_2), (3, .int i_3), (4, .int i_4)], [], h) else
  evR T_X5_number E 50 ([(0, .ref a_0), (1, .int i_1), (2, .int i_2), (3, .int i_3), (4, .int i_4)], [], h) := by
  rw [evR_eq ok_T_X5_number.loc (ops := b_X5_number_40) rfl]; rfl
theorem e_X5_number_50 (E : AEn) (a_0 : Nat) (i_1 : Int32) (i_2 : Int32) (i_3 : Int32) (i_4 : Int32) (h : AH) : evR T_X5_number E 50 ([(0, .ref a_0), (1, .int i_1), (2, .int i_2), (3, .int i_3), (4, .int i_4)], [], h) =
  rI (E n_X5_sign [.ref a_0] h) (fun i2 h1 =>
  evR T_X5_number E 68 ([(0, .ref a_0), (1, .int i_1), (2, .int i_2), (3, .int i_3)], [.int ((((10 : Int32) * i_4) + i2) - (48 : Int32))], h1)) thr := by
  rw [evR_eq ok_T_X5_number.loc (ops := b_X5_number_50) rfl]; rfl
theorem e_X5_number_66 (E : AEn) (a_0 : Nat) (i_1 : Int32) (i_2 : Int32) (i_3 : Int32) (i_4 : Int32) (h : AH) : evR T_X5_number E 66 ([(0, .ref a_0), (1, .int i_1), (2, .int i_2), (3, .int i_3), (4, .int i_4)], [], h) =
  evR T_X5_number E 68 ([(0, .ref a_0), (1, .int i_1), (2, .int i_2), (3, .int i_3)], [.int i_4], h) := by
  rw [evR_eq ok_T_X5_number.loc (ops := b_X5_number_66) rfl]; rfl
theorem e_X5_number_68 (E : AEn) (a_0 : Nat) (i_1 : Int32) (i_2 : Int32) (i_3 : Int32) (si_0 : Int32) (h : AH) : evR T_X5_number E 68 ([(0, .ref a_0), (1, .int i_1), (2, .int i_2), (3, .int i_3)], [.int si_0], h) =
  (rdI h a_0 5 1).bind fun i1 =>
  (wrF h a_0 5 1 (.int (i1 + (1 : Int32)))).bind fun h2 =>
  evR T_X5_number E 33 ([(0, .ref a_0), (1, .int i_1), (2, .int i_2), (3, .int i_3), (4, .int si_0)], [], h2) := by
  rw [evR_eq ok_T_X5_number.loc (ops := b_X5_number_68) rfl]; rfl
theorem e_X5_number_83 (E : AEn) (a_0 : Nat) (i_1 : Int32) (i_2 : Int32) (i_3 : Int32) (i_4 : Int32) (h : AH) : evR T_X5_number E 83 ([(0, .ref a_0), (1, .int i_1), (2, .int i_2), (3, .int i_3), (4, .int i_4)], [], h) =
  (rdI h a_0 5 1).bind fun i1 =>
  bif decide ((5 : Int32) < (i1 - i_3)) then evR T_X5_number E 106 ([(0, .ref a_0), (3, .int i_3)], [], h) else
  evR T_X5_number E 93 ([(0, .ref a_0), (1, .int i_1), (2, .int i_2), (3, .int i_3), (4, .int i_4)], [], h) := by
  rw [evR_eq ok_T_X5_number.loc (ops := b_X5_number_83) rfl]; rfl
theorem e_X5_number_93 (E : AEn) (a_0 : Nat) (i_1 : Int32) (i_2 : Int32) (i_3 : Int32) (i_4 : Int32) (h : AH) : evR T_X5_number E 93 ([(0, .ref a_0), (1, .int i_1), (2, .int i_2), (3, .int i_3), (4, .int i_4)], [], h) =
  rI (E n_X0_in [.long i_4.toInt64, .long i_1.toInt64, .long i_2.toInt64] h) (fun i2 h1 =>
  bif !(i2 == 0) then evR T_X5_number E 116 ([(4, .int i_4)], [], h1) else
  evR T_X5_number E 106 ([(0, .ref a_0), (3, .int i_3)], [], h1)) thr := by
  rw [evR_eq ok_T_X5_number.loc (ops := b_X5_number_93) rfl]; rfl
theorem e_X5_number_106 (E : AEn) (a_0 : Nat) (i_3 : Int32) (h : AH) : evR T_X5_number E 106 ([(0, .ref a_0), (3, .int i_3)], [], h) =
  (rdR h a_0 5 6).bind fun r1 =>
  rR (E n_X0_fails [.ref r1, .int (1 : Int32), .int i_3] h) (fun r3 h2 =>
  (bif isO h2 r3 3 then some r3 else none).bind fun q => some (.inr q, h2)) thr := by
  rw [evR_eq ok_T_X5_number.loc (ops := b_X5_number_106) rfl]; rfl
theorem e_X5_number_116 (E : AEn) (i_4 : Int32) (h : AH) : evR T_X5_number E 116 ([(4, .int i_4)], [], h) =
  some (.inl (some (.int i_4)), h) := by
  rw [evR_eq ok_T_X5_number.loc (ops := b_X5_number_116) rfl]; rfl
theorem c_X5_number (d : Nat) (a_0 : Nat) (i_1 : Int32) (i_2 : Int32) (h : AH) : callR (d + 1) n_X5_number [.ref a_0, .int i_1, .int i_2] h =
  bif isO h a_0 5 then evR T_X5_number (callR d) 0 ([(0, .ref a_0), (1, .int i_1), (2, .int i_2)], [], h) else none := by
  rw [callR_succ, show aMTl[n_X5_number]? = some (T_X5_number, [0, 1, 2]) from rfl]; show (bif (isO h a_0 5) && true then _ else _) = _; rw [Bool.and_true]; rfl
theorem e_X5_isDigit_0 (E : AEn) (a_0 : Nat) (h : AH) : evR T_X5_isDigit E 0 ([(0, .ref a_0)], [], h) =
  rI (E n_X5_sign [.ref a_0] h) (fun i2 h1 =>
  rI (E n_X0_in [.long i2.toInt64, .long (48 : Int64), .long (57 : Int64)] h1) (fun i4 h3 =>
  (bif i4 == 0 || i4 == 1 then some i4 else none).bind fun i5 => some (.inl (some (.int i5)), h3)) thr) thr := by
  rw [evR_eq ok_T_X5_isDigit.loc (ops := b_X5_isDigit_0) rfl]; rfl
theorem c_X5_isDigit (d : Nat) (a_0 : Nat) (h : AH) : callR (d + 1) n_X5_isDigit [.ref a_0] h =
  bif isO h a_0 5 then evR T_X5_isDigit (callR d) 0 ([(0, .ref a_0)], [], h) else none := by
  rw [callR_succ, show aMTl[n_X5_isDigit]? = some (T_X5_isDigit, [0]) from rfl]; show (bif (isO h a_0 5) && true then _ else _) = _; rw [Bool.and_true]; rfl
theorem e_X5_house_0 (E : AEn) (a_0 : Nat) (a_1 : Nat) (h : AH) : evR T_X5_house E 0 ([(0, .ref a_0), (1, .ref a_1)], [], h) =
  rI (E n_X5_number [.ref a_0, .int (0 : Int32), .int (99 : Int32)] h) (fun i2 h1 =>
  rI (E n_X5_number [.ref a_0, .int (0 : Int32), .int (9 : Int32)] h1) (fun i4 h3 =>
  (rdR h3 a_1 1 0).bind fun r5 =>
  rI (E n_X5_number [.ref a_0, .int (0 : Int32), .int (20 : Int32)] (hpush h3 3 (.inl (6, dF6)))) (fun i7 h6 =>
  rV (E n_X6_init [.ref h3.1, .int i2, .int i4, .int i7] h6) (fun h8 =>
  rI (E n_J2_add [.ref r5, .ref h3.1] h8) (fun i10 h9 =>
  some (.inl none, h9)) thr) thr) thr) thr) thr := by
  rw [evR_eq ok_T_X5_house.loc (ops := b_X5_house_0) rfl]; rfl
theorem c_X5_house (d : Nat) (a_0 : Nat) (a_1 : Nat) (h : AH) : callR (d + 1) n_X5_house [.ref a_0, .ref a_1] h =
  bif isO h a_0 5 then evR T_X5_house (callR d) 0 ([(0, .ref a_0), (1, .ref a_1)], [], h) else none := by
  rw [callR_succ, show aMTl[n_X5_house]? = some (T_X5_house, [0, 1]) from rfl]; show (bif (isO h a_0 5) && true then _ else _) = _; rw [Bool.and_true]; rfl
theorem e_X5_road_0 (E : AEn) (a_0 : Nat) (a_1 : Nat) (h : AH) : evR T_X5_road E 0 ([(0, .ref a_0), (1, .ref a_1)], [], h) =
  rI (E n_X1_houses [.ref a_1] h) (fun i2 h1 =>
  rI (E n_X5_number [.ref a_0, .int (0 : Int32), .int i2] h1) (fun i4 h3 =>
  rI (E n_X1_houses [.ref a_1] h3) (fun i6 h5 =>
  rI (E n_X5_other [.ref a_0, .int i4, .int i6] h5) (fun i8 h7 =>
  rI (E n_X5_number [.ref a_0, .int (1 : Int32), .int (9 : Int32)] h7) (fun i10 h9 =>
  (rdR h9 a_1 1 1).bind fun r11 =>
  (stI h9 r11 0 (((7 : Int32) * i4) + i8) i10).bind fun h12 =>
  (rdR h12 a_1 1 1).bind fun r13 =>
  (stI h12 r13 0 (((7 : Int32) * i8) + i4) i10).bind fun h14 =>
  some (.inl none, h14)) thr) thr) thr) thr) thr := by
  rw [evR_eq ok_T_X5_road.loc (ops := b_X5_road_0) rfl]; rfl
theorem c_X5_road (d : Nat) (a_0 : Nat) (a_1 : Nat) (h : AH) : callR (d + 1) n_X5_road [.ref a_0, .ref a_1] h =
  bif isO h a_0 5 then evR T_X5_road (callR d) 0 ([(0, .ref a_0), (1, .ref a_1)], [], h) else none := by
  rw [callR_succ, show aMTl[n_X5_road]? = some (T_X5_road, [0, 1]) from rfl]; show (bif (isO h a_0 5) && true then _ else _) = _; rw [Bool.and_true]; rfl
theorem e_X5_other_0 (E : AEn) (a_0 : Nat) (i_1 : Int32) (i_2 : Int32) (h : AH) : evR T_X5_other E 0 ([(0, .ref a_0), (1, .int i_1), (2, .int i_2)], [], h) =
  rI (E n_X5_next [.ref a_0] h) (fun i2 h1 =>
  (rdI h1 a_0 5 1).bind fun i3 =>
  rI (E n_X5_number [.ref a_0, .int (0 : Int32), .int i_2] h1) (fun i5 h4 =>
  bif !(i5 == i_1) then evR T_X5_other E 34 ([(4, .int i5)], [], h4) else
  evR T_X5_other E 24 ([(0, .ref a_0), (3, .int i3)], [], h4)) thr) thr := by
  rw [evR_eq ok_T_X5_other.loc (ops := b_X5_other_0) rfl]; rfl
theorem e_X5_other_24 (E : AEn) (a_0 : Nat) (i_3 : Int32) (h : AH) : evR T_X5_other E 24 ([(0, .ref a_0), (3, .int i_3)], [], h) =
  (rdR h a_0 5 6).bind fun r1 =>
  rR (E n_X0_fails [.ref r1, .int (1 : Int32), .int i_3] h) (fun r3 h2 =>
  (bif isO h2 r3 3 then some r3 else none).bind fun q => some (.inr q, h2)) thr := by
  rw [evR_eq ok_T_X5_other.loc (ops := b_X5_other_24) rfl]; rfl
theorem e_X5_other_34 (E : AEn) (i_4 : Int32) (h : AH) : evR T_X5_other E 34 ([(4, .int i_4)], [], h) =
  some (.inl (some (.int i_4)), h) := by
  rw [evR_eq ok_T_X5_other.loc (ops := b_X5_other_34) rfl]; rfl
theorem c_X5_other (d : Nat) (a_0 : Nat) (i_1 : Int32) (i_2 : Int32) (h : AH) : callR (d + 1) n_X5_other [.ref a_0, .int i_1, .int i_2] h =
  bif isO h a_0 5 then evR T_X5_other (callR d) 0 ([(0, .ref a_0), (1, .int i_1), (2, .int i_2)], [], h) else none := by
  rw [callR_succ, show aMTl[n_X5_other]? = some (T_X5_other, [0, 1, 2]) from rfl]; show (bif (isO h a_0 5) && true then _ else _) = _; rw [Bool.and_true]; rfl
theorem e_X5_beside_0 (E : AEn) (a_0 : Nat) (a_1 : Nat) (h : AH) : evR T_X5_beside E 0 ([(0, .ref a_0), (1, .ref a_1)], [], h) =
  rI (E n_X1_houses [.ref a_1] h) (fun i2 h1 =>
  rI (E n_X5_number [.ref a_0, .int (0 : Int32), .int (i2 - (1 : Int32))] h1) (fun i4 h3 =>
  rI (E n_X1_houses [.ref a_1] h3) (fun i6 h5 =>
  rI (E n_X5_other [.ref a_0, .int i4, .int (i6 - (1 : Int32))] h5) (fun i8 h7 =>
  (rdR h7 a_1 1 2).bind fun r9 =>
  (ldI h7 r9 0 i4).bind fun i10 =>
  (stI h7 r9 0 i4 (i10 ||| ((1 : Int32) <<< (i8 &&& 31)))).bind fun h11 =>
  (rdR h11 a_1 1 2).bind fun r12 =>
  (ldI h11 r12 0 i8).bind fun i13 =>
  (stI h11 r12 0 i8 (i13 ||| ((1 : Int32) <<< (i4 &&& 31)))).bind fun h14 =>
  some (.inl none, h14)) thr) thr) thr) thr := by
  rw [evR_eq ok_T_X5_beside.loc (ops := b_X5_beside_0) rfl]; rfl
theorem c_X5_beside (d : Nat) (a_0 : Nat) (a_1 : Nat) (h : AH) : callR (d + 1) n_X5_beside [.ref a_0, .ref a_1] h =
  bif isO h a_0 5 then evR T_X5_beside (callR d) 0 ([(0, .ref a_0), (1, .ref a_1)], [], h) else none := by
  rw [callR_succ, show aMTl[n_X5_beside]? = some (T_X5_beside, [0, 1]) from rfl]; show (bif (isO h a_0 5) && true then _ else _) = _; rw [Bool.and_true]; rfl
theorem e_X5_goesOn_0 (E : AEn) (a_0 : Nat) (h : AH) : evR T_X5_goesOn E 0 ([(0, .ref a_0)], [], h) =
  rI (E n_X5_next [.ref a_0] h) (fun i2 h1 =>
  bif !(i2 == (-1 : Int32)) then evR T_X5_goesOn E 12 ([(0, .ref a_0), (1, .int i2)], [], h1) else
  evR T_X5_goesOn E 10 ([], [], h1)) thr := by
  rw [evR_eq ok_T_X5_goesOn.loc (ops := b_X5_goesOn_0) rfl]; rfl
theorem e_X5_goesOn_10 (E : AEn)  (h : AH) : evR T_X5_goesOn E 10 ([], [], h) =
  some (.inl (some (.int (0 : Int32))), h) := by
  rw [evR_eq ok_T_X5_goesOn.loc (ops := b_X5_goesOn_10) rfl]; rfl
theorem e_X5_goesOn_12 (E : AEn) (a_0 : Nat) (i_1 : Int32) (h : AH) : evR T_X5_goesOn E 12 ([(0, .ref a_0), (1, .int i_1)], [], h) =
  bif i_1 == (59 : Int32) then evR T_X5_goesOn E 31 ([(0, .ref a_0)], [], h) else
  evR T_X5_goesOn E 18 ([(0, .ref a_0)], [], h) := by
  rw [evR_eq ok_T_X5_goesOn.loc (ops := b_X5_goesOn_12) rfl]; rfl
theorem e_X5_goesOn_18 (E : AEn) (a_0 : Nat) (h : AH) : evR T_X5_goesOn E 18 ([(0, .ref a_0)], [], h) =
  (rdR h a_0 5 6).bind fun r1 =>
  (rdI h a_0 5 1).bind fun i2 =>
  rR (E n_X0_fails [.ref r1, .int (0 : Int32), .int i2] h) (fun r4 h3 =>
  (bif isO h3 r4 3 then some r4 else none).bind fun q => some (.inr q, h3)) thr := by
  rw [evR_eq ok_T_X5_goesOn.loc (ops := b_X5_goesOn_18) rfl]; rfl
theorem e_X5_goesOn_31 (E : AEn) (a_0 : Nat) (h : AH) : evR T_X5_goesOn E 31 ([(0, .ref a_0)], [], h) =
  (rdI h a_0 5 1).bind fun i1 =>
  (wrF h a_0 5 1 (.int (i1 + (1 : Int32)))).bind fun h2 =>
  some (.inl (some (.int (1 : Int32))), h2) := by
  rw [evR_eq ok_T_X5_goesOn.loc (ops := b_X5_goesOn_31) rfl]; rfl
theorem c_X5_goesOn (d : Nat) (a_0 : Nat) (h : AH) : callR (d + 1) n_X5_goesOn [.ref a_0] h =
  bif isO h a_0 5 then evR T_X5_goesOn (callR d) 0 ([(0, .ref a_0)], [], h) else none := by
  rw [callR_succ, show aMTl[n_X5_goesOn]? = some (T_X5_goesOn, [0]) from rfl]; show (bif (isO h a_0 5) && true then _ else _) = _; rw [Bool.and_true]; rfl
theorem e_X5_rule_0 (E : AEn) (a_0 : Nat) (h : AH) : evR T_X5_rule E 0 ([(0, .ref a_0)], [], h) =
  rV (E n_X7_init [.ref h.1] (hpush h 1 (.inl (7, dF7)))) (fun h1 =>
  rV (E n_X5_clause_2 [.ref a_0, .ref h.1] h1) (fun h2 =>
  evR T_X5_rule E 13 ([(0, .ref a_0), (1, .ref h.1)], [], h2)) thr) thr := by
  rw [evR_eq ok_T_X5_rule.loc (ops := b_X5_rule_0) rfl]; rfl
theorem e_X5_rule_13 (E : AEn) (a_0 : Nat) (a_1 : Nat) (h : AH) : evR T_X5_rule E 13 ([(0, .ref a_0), (1, .ref a_1)], [], h) =
  rI (E n_X5_goesOn [.ref a_0] h) (fun i2 h1 =>
  bif i2 == 0 then evR T_X5_rule E 28 ([(0, .ref a_0), (1, .ref a_1)], [], h1) else
  evR T_X5_rule E 20 ([(0, .ref a_0), (1, .ref a_1)], [], h1)) thr := by
  rw [evR_eq ok_T_X5_rule.loc (ops := b_X5_rule_13) rfl]; rfl
theorem e_X5_rule_20 (E : AEn) (a_0 : Nat) (a_1 : Nat) (h : AH) : evR T_X5_rule E 20 ([(0, .ref a_0), (1, .ref a_1)], [], h) =
  rV (E n_X5_clause_2 [.ref a_0, .ref a_1] h) (fun h1 =>
  evR T_X5_rule E 13 ([(0, .ref a_0), (1, .ref a_1)], [], h1)) thr := by
  rw [evR_eq ok_T_X5_rule.loc (ops := b_X5_rule_20) rfl]; rfl
theorem e_X5_rule_28 (E : AEn) (a_0 : Nat) (a_1 : Nat) (h : AH) : evR T_X5_rule E 28 ([(0, .ref a_0), (1, .ref a_1)], [], h) =
  (rdR h a_0 5 6).bind fun r1 =>
  (rdR h r1 0 3).bind fun r2 =>
  rI (E n_J2_add [.ref r2, .ref a_1] h) (fun i4 h3 =>
  (rdR h3 a_0 5 6).bind fun r5 =>
  (rdR h3 r5 0 3).bind fun r6 =>
  rI (E n_J2_size [.ref r6] h3) (fun i8 h7 =>
  some (.inl (some (.int (i8 - (1 : Int32)))), h7)) thr) thr := by
  rw [evR_eq ok_T_X5_rule.loc (ops := b_X5_rule_28) rfl]; rfl
theorem c_X5_rule (d : Nat) (a_0 : Nat) (h : AH) : callR (d + 1) n_X5_rule [.ref a_0] h =
  bif isO h a_0 5 then evR T_X5_rule (callR d) 0 ([(0, .ref a_0)], [], h) else none := by
  rw [callR_succ, show aMTl[n_X5_rule]? = some (T_X5_rule, [0]) from rfl]; show (bif (isO h a_0 5) && true then _ else _) = _; rw [Bool.and_true]; rfl
theorem e_X5_clause_2_0 (E : AEn) (a_0 : Nat) (a_1 : Nat) (h : AH) : evR T_X5_clause_2 E 0 ([(0, .ref a_0), (1, .ref a_1)], [], h) =
  rI (E n_X5_begins [.ref a_0, .retAddr 15, .int (1 : Int32)] h) (fun i2 h1 =>
  bif !(i2 == 0) then evR T_X5_clause_2 E 23 ([(0, .ref a_0), (1, .ref a_1)], [], h1) else
  evR T_X5_clause_2 E 10 ([(0, .ref a_0)], [], h1)) thr := by
  rw [evR_eq ok_T_X5_clause_2.loc (ops := b_X5_clause_2_0) rfl]; rfl
theorem e_X5_clause_2_10 (E : AEn) (a_0 : Nat) (h : AH) : evR T_X5_clause_2 E 10 ([(0, .ref a_0)], [], h) =
  (rdR h a_0 5 6).bind fun r1 =>
  (rdI h a_0 5 1).bind fun i2 =>
  rR (E n_X0_fails [.ref r1, .int (0 : Int32), .int i2] h) (fun r4 h3 =>
  (bif isO h3 r4 3 then some r4 else none).bind fun q => some (.inr q, h3)) thr := by
  rw [evR_eq ok_T_X5_clause_2.loc (ops := b_X5_clause_2_10) rfl]; rfl
theorem e_X5_clause_2_23 (E : AEn) (a_0 : Nat) (a_1 : Nat) (h : AH) : evR T_X5_clause_2 E 23 ([(0, .ref a_0), (1, .ref a_1)], [], h) =
  rR (E n_X5_sum [.ref a_0] h) (fun r2 h1 =>
  (rdR h1 a_1 7 0).bind fun r3 =>
  rI (E n_X5_takes [.ref a_0, .retAddr 16] (hpush h1 2 (.inl (12, dF12)))) (fun i5 h4 =>
  bif i5 == 0 then evR T_X5_clause_2 E 53 ([], [.ref r2, .ref h1.1, .ref h1.1, .ref r3], h4) else
  evR T_X5_clause_2 E 46 ([(0, .ref a_0)], [.ref r2, .ref h1.1, .ref h1.1, .ref r3], h4)) thr) thr := by
  rw [evR_eq ok_T_X5_clause_2.loc (ops := b_X5_clause_2_23) rfl]; rfl
theorem e_X5_clause_2_46 (E : AEn) (a_0 : Nat) (sa_0 : Nat) (sa_1 : Nat) (sa_2 : Nat) (sa_3 : Nat) (h : AH) : evR T_X5_clause_2 E 46 ([(0, .ref a_0)], [.ref sa_0, .ref sa_1, .ref sa_2, .ref sa_3], h) =
  rR (E n_X5_test [.ref a_0] h) (fun r2 h1 =>
  evR T_X5_clause_2 E 54 ([], [.ref r2, .ref sa_0, .ref sa_1, .ref sa_2, .ref sa_3], h1)) thr := by
  rw [evR_eq ok_T_X5_clause_2.loc (ops := b_X5_clause_2_46) rfl]; rfl
theorem e_X5_clause_2_53 (E : AEn) (sa_0 : Nat) (sa_1 : Nat) (sa_2 : Nat) (sa_3 : Nat) (h : AH) : evR T_X5_clause_2 E 53 ([], [.ref sa_0, .ref sa_1, .ref sa_2, .ref sa_3], h) =
  evR T_X5_clause_2 E 54 ([], [.null, .ref sa_0, .ref sa_1, .ref sa_2, .ref sa_3], h) := by
  rw [evR_eq ok_T_X5_clause_2.loc (ops := b_X5_clause_2_53) rfl]; rfl
theorem e_X5_clause_2_54 (E : AEn) (sv_0 : Value) (sa_1 : Nat) (sa_2 : Nat) (sa_3 : Nat) (sa_4 : Nat) (h : AH) : evR T_X5_clause_2 E 54 ([], [sv_0, .ref sa_1, .ref sa_2, .ref sa_3, .ref sa_4], h) =
  rV (E n_X12_init [.ref sa_2, .ref sa_1, sv_0] h) (fun h1 =>
  rI (E n_J2_add [.ref sa_4, .ref sa_3] h1) (fun i3 h2 =>
  some (.inl none, h2)) thr) thr := by
  rw [evR_eq ok_T_X5_clause_2.loc (ops := b_X5_clause_2_54) rfl]; rfl
theorem c_X5_clause_2 (d : Nat) (a_0 : Nat) (a_1 : Nat) (h : AH) : callR (d + 1) n_X5_clause_2 [.ref a_0, .ref a_1] h =
  bif isO h a_0 5 then evR T_X5_clause_2 (callR d) 0 ([(0, .ref a_0), (1, .ref a_1)], [], h) else none := by
  rw [callR_succ, show aMTl[n_X5_clause_2]? = some (T_X5_clause_2, [0, 1]) from rfl]; show (bif (isO h a_0 5) && true then _ else _) = _; rw [Bool.and_true]; rfl
theorem e_X5_sum_0 (E : AEn) (a_0 : Nat) (h : AH) : evR T_X5_sum E 0 ([(0, .ref a_0)], [], h) =
  rR (E n_X5_term [.ref a_0] h) (fun r2 h1 =>
  evR T_X5_sum E 5 ([(0, .ref a_0), (1, .ref r2)], [], h1)) thr := by
  rw [evR_eq ok_T_X5_sum.loc (ops := b_X5_sum_0) rfl]; rfl
theorem e_X5_sum_5 (E : AEn) (a_0 : Nat) (a_1 : Nat) (h : AH) : evR T_X5_sum E 5 ([(0, .ref a_0), (1, .ref a_1)], [], h) =
  rI (E n_X5_next [.ref a_0] h) (fun i2 h1 =>
  bif i2 == (43 : Int32) then evR T_X5_sum E 23 ([(0, .ref a_0), (1, .ref a_1)], [], h1) else
  evR T_X5_sum E 14 ([(0, .ref a_0), (1, .ref a_1)], [], h1)) thr := by
  rw [evR_eq ok_T_X5_sum.loc (ops := b_X5_sum_5) rfl]; rfl
theorem e_X5_sum_14 (E : AEn) (a_0 : Nat) (a_1 : Nat) (h : AH) : evR T_X5_sum E 14 ([(0, .ref a_0), (1, .ref a_1)], [], h) =
  rI (E n_X5_sign [.ref a_0] h) (fun i2 h1 =>
  bif !(i2 == (45 : Int32)) then evR T_X5_sum E 55 ([(1, .ref a_1)], [], h1) else
  evR T_X5_sum E 23 ([(0, .ref a_0), (1, .ref a_1)], [], h1)) thr := by
  rw [evR_eq ok_T_X5_sum.loc (ops := b_X5_sum_14) rfl]; rfl
theorem e_X5_sum_23 (E : AEn) (a_0 : Nat) (a_1 : Nat) (h : AH) : evR T_X5_sum E 23 ([(0, .ref a_0), (1, .ref a_1)], [], h) =
  rI (E n_X5_sign [.ref a_0] h) (fun i2 h1 =>
  (rdI h1 a_0 5 1).bind fun i3 =>
  (wrF h1 a_0 5 1 (.int (i3 + (1 : Int32)))).bind fun h4 =>
  rR (E n_X5_term [.ref a_0] (hpush h4 3 (.inl (11, dF11)))) (fun r6 h5 =>
  rV (E n_X11_init [.ref h4.1, .ref a_1, .ref r6, .int i2] h5) (fun h7 =>
  evR T_X5_sum E 5 ([(0, .ref a_0), (1, .ref h4.1)], [], h7)) thr) thr) thr := by
  rw [evR_eq ok_T_X5_sum.loc (ops := b_X5_sum_23) rfl]; rfl
theorem e_X5_sum_55 (E : AEn) (a_1 : Nat) (h : AH) : evR T_X5_sum E 55 ([(1, .ref a_1)], [], h) =
  some (.inl (some (.ref a_1)), h) := by
  rw [evR_eq ok_T_X5_sum.loc (ops := b_X5_sum_55) rfl]; rfl
theorem c_X5_sum (d : Nat) (a_0 : Nat) (h : AH) : callR (d + 1) n_X5_sum [.ref a_0] h =
  bif isO h a_0 5 then evR T_X5_sum (callR d) 0 ([(0, .ref a_0)], [], h) else none := by
  rw [callR_succ, show aMTl[n_X5_sum]? = some (T_X5_sum, [0]) from rfl]; show (bif (isO h a_0 5) && true then _ else _) = _; rw [Bool.and_true]; rfl
theorem e_X5_term_0 (E : AEn) (a_0 : Nat) (h : AH) : evR T_X5_term E 0 ([(0, .ref a_0)], [], h) =
  rR (E n_X5_value [.ref a_0] h) (fun r2 h1 =>
  evR T_X5_term E 5 ([(0, .ref a_0), (1, .ref r2)], [], h1)) thr := by
  rw [evR_eq ok_T_X5_term.loc (ops := b_X5_term_0) rfl]; rfl
theorem e_X5_term_5 (E : AEn) (a_0 : Nat) (a_1 : Nat) (h : AH) : evR T_X5_term E 5 ([(0, .ref a_0), (1, .ref a_1)], [], h) =
  rI (E n_X5_next [.ref a_0] h) (fun i2 h1 =>
  bif i2 == (42 : Int32) then evR T_X5_term E 32 ([(0, .ref a_0), (1, .ref a_1)], [], h1) else
  evR T_X5_term E 14 ([(0, .ref a_0), (1, .ref a_1)], [], h1)) thr := by
  rw [evR_eq ok_T_X5_term.loc (ops := b_X5_term_5) rfl]; rfl
theorem e_X5_term_14 (E : AEn) (a_0 : Nat) (a_1 : Nat) (h : AH) : evR T_X5_term E 14 ([(0, .ref a_0), (1, .ref a_1)], [], h) =
  rI (E n_X5_sign [.ref a_0] h) (fun i2 h1 =>
  bif i2 == (47 : Int32) then evR T_X5_term E 32 ([(0, .ref a_0), (1, .ref a_1)], [], h1) else
  evR T_X5_term E 23 ([(0, .ref a_0), (1, .ref a_1)], [], h1)) thr := by
  rw [evR_eq ok_T_X5_term.loc (ops := b_X5_term_14) rfl]; rfl
theorem e_X5_term_23 (E : AEn) (a_0 : Nat) (a_1 : Nat) (h : AH) : evR T_X5_term E 23 ([(0, .ref a_0), (1, .ref a_1)], [], h) =
  rI (E n_X5_sign [.ref a_0] h) (fun i2 h1 =>
  bif !(i2 == (37 : Int32)) then evR T_X5_term E 64 ([(1, .ref a_1)], [], h1) else
  evR T_X5_term E 32 ([(0, .ref a_0), (1, .ref a_1)], [], h1)) thr := by
  rw [evR_eq ok_T_X5_term.loc (ops := b_X5_term_23) rfl]; rfl
theorem e_X5_term_32 (E : AEn) (a_0 : Nat) (a_1 : Nat) (h : AH) : evR T_X5_term E 32 ([(0, .ref a_0), (1, .ref a_1)], [], h) =
  rI (E n_X5_sign [.ref a_0] h) (fun i2 h1 =>
  (rdI h1 a_0 5 1).bind fun i3 =>
  (wrF h1 a_0 5 1 (.int (i3 + (1 : Int32)))).bind fun h4 =>
  rR (E n_X5_value [.ref a_0] (hpush h4 3 (.inl (11, dF11)))) (fun r6 h5 =>
  rV (E n_X11_init [.ref h4.1, .ref a_1, .ref r6, .int i2] h5) (fun h7 =>
  evR T_X5_term E 5 ([(0, .ref a_0), (1, .ref h4.1)], [], h7)) thr) thr) thr := by
  rw [evR_eq ok_T_X5_term.loc (ops := b_X5_term_32) rfl]; rfl
theorem e_X5_term_64 (E : AEn) (a_1 : Nat) (h : AH) : evR T_X5_term E 64 ([(1, .ref a_1)], [], h) =
  some (.inl (some (.ref a_1)), h) := by
  rw [evR_eq ok_T_X5_term.loc (ops := b_X5_term_64) rfl]; rfl
theorem c_X5_term (d : Nat) (a_0 : Nat) (h : AH) : callR (d + 1) n_X5_term [.ref a_0] h =
  bif isO h a_0 5 then evR T_X5_term (callR d) 0 ([(0, .ref a_0)], [], h) else none := by
  rw [callR_succ, show aMTl[n_X5_term]? = some (T_X5_term, [0]) from rfl]; show (bif (isO h a_0 5) && true then _ else _) = _; rw [Bool.and_true]; rfl
theorem e_X5_value_0 (E : AEn) (a_0 : Nat) (h : AH) : evR T_X5_value E 0 ([(0, .ref a_0)], [], h) =
  rI (E n_X5_next [.ref a_0] h) (fun i2 h1 =>
  (rdI h1 a_0 5 1).bind fun i3 =>
  rI (E n_X5_isDigit [.ref a_0] h1) (fun i5 h4 =>
  bif i5 == 0 then evR T_X5_value E 39 ([(0, .ref a_0), (1, .int i3)], [], h4) else
  evR T_X5_value E 17 ([(0, .ref a_0), (1, .int i3)], [], h4)) thr) thr := by
  rw [evR_eq ok_T_X5_value.loc (ops := b_X5_value_0) rfl]; rfl
theorem e_X5_value_17 (E : AEn) (a_0 : Nat) (i_1 : Int32) (h : AH) : evR T_X5_value E 17 ([(0, .ref a_0), (1, .int i_1)], [], h) =
  rI (E n_X5_number [.ref a_0, .int (0 : Int32), .int (99999 : Int32)] (hpush h 1 (.inl (9, dF9)))) (fun i2 h1 =>
  rV (E n_X9_init [.ref h.1, .int i2] h1) (fun h3 =>
  rV (E n_X5_counts [.ref a_0, .int i_1] h3) (fun h4 =>
  some (.inl (some (.ref h.1)), h4)) thr) thr) thr := by
  rw [evR_eq ok_T_X5_value.loc (ops := b_X5_value_17) rfl]; rfl
theorem e_X5_value_39 (E : AEn) (a_0 : Nat) (i_1 : Int32) (h : AH) : evR T_X5_value E 39 ([(0, .ref a_0), (1, .int i_1)], [], h) =
  evR T_X5_value E 41 ([(0, .ref a_0), (1, .int i_1), (2, .int (0 : Int32))], [], h) := by
  rw [evR_eq ok_T_X5_value.loc (ops := b_X5_value_39) rfl]; rfl
theorem e_X5_value_41 (E : AEn) (a_0 : Nat) (i_1 : Int32) (i_2 : Int32) (h : AH) : evR T_X5_value E 41 ([(0, .ref a_0), (1, .int i_1), (2, .int i_2)], [], h) =
  (rdP h a_0 5 0).bind fun p1 =>
  (plen p1).bind fun i2 =>
  bif decide (i2 ≤ i_2) then evR T_X5_value E 104 ([(0, .ref a_0), (1, .int i_1)], [], h) else
  evR T_X5_value E 50 ([(0, .ref a_0), (1, .int i_1), (2, .int i_2)], [], h) := by
  rw [evR_eq ok_T_X5_value.loc (ops := b_X5_value_41) rfl]; rfl
theorem e_X5_value_50 (E : AEn) (a_0 : Nat) (i_1 : Int32) (i_2 : Int32) (h : AH) : evR T_X5_value E 50 ([(0, .ref a_0), (1, .int i_1), (2, .int i_2)], [], h) =
  (rdP h a_0 5 0).bind fun p1 =>
  (pnm p1 i_2).bind fun p2 =>
  rI (E n_X5_isWord [.ref a_0, .retAddr p2] h) (fun i4 h3 =>
  bif !(i4 == 0) then evR T_X5_value E 66 ([(0, .ref a_0), (1, .int i_1), (2, .int i_2)], [], h3) else
  evR T_X5_value E 63 ([(0, .ref a_0), (1, .int i_1), (2, .int i_2)], [], h3)) thr := by
  rw [evR_eq ok_T_X5_value.loc (ops := b_X5_value_50) rfl]; rfl
theorem e_X5_value_63 (E : AEn) (a_0 : Nat) (i_1 : Int32) (i_2 : Int32) (h : AH) : evR T_X5_value E 63 ([(0, .ref a_0), (1, .int i_1), (2, .int i_2)], [], h) =
  evR T_X5_value E 98 ([(0, .ref a_0), (1, .int i_1), (2, .int i_2)], [], h) := by
  rw [evR_eq ok_T_X5_value.loc (ops := b_X5_value_63) rfl]; rfl
theorem e_X5_value_66 (E : AEn) (a_0 : Nat) (i_1 : Int32) (i_2 : Int32) (h : AH) : evR T_X5_value E 66 ([(0, .ref a_0), (1, .int i_1), (2, .int i_2)], [], h) =
  rV (E n_X5_counts [.ref a_0, .int i_1] h) (fun h1 =>
  (rdI h1 a_0 5 1).bind fun i2 =>
  (rdP h1 a_0 5 0).bind fun p3 =>
  (pnm p3 i_2).bind fun p4 =>
  rI (E n_J5_length [.retAddr p4] h1) (fun i6 h5 =>
  (wrF h5 a_0 5 1 (.int (i2 + i6))).bind fun h7 =>
  rV (E n_X10_init [.ref h7.1, .int i_2] (hpush h7 1 (.inl (10, dF10)))) (fun h8 =>
  some (.inl (some (.ref h7.1)), h8)) thr) thr) thr := by
  rw [evR_eq ok_T_X5_value.loc (ops := b_X5_value_66) rfl]; rfl
theorem e_X5_value_98 (E : AEn) (a_0 : Nat) (i_1 : Int32) (i_2 : Int32) (h : AH) : evR T_X5_value E 98 ([(0, .ref a_0), (1, .int i_1), (2, .int i_2)], [], h) =
  evR T_X5_value E 41 ([(0, .ref a_0), (1, .int i_1), (2, .int (i_2 + (1 : Int32)))], [], h) := by
  rw [evR_eq ok_T_X5_value.loc (ops := b_X5_value_98) rfl]; rfl
theorem e_X5_value_104 (E : AEn) (a_0 : Nat) (i_1 : Int32) (h : AH) : evR T_X5_value E 104 ([(0, .ref a_0), (1, .int i_1)], [], h) =
  (rdR h a_0 5 6).bind fun r1 =>
  rR (E n_X0_fails [.ref r1, .int (0 : Int32), .int i_1] h) (fun r3 h2 =>
  (bif isO h2 r3 3 then some r3 else none).bind fun q => some (.inr q, h2)) thr := by
  rw [evR_eq ok_T_X5_value.loc (ops := b_X5_value_104) rfl]; rfl
theorem c_X5_value (d : Nat) (a_0 : Nat) (h : AH) : callR (d + 1) n_X5_value [.ref a_0] h =
  bif isO h a_0 5 then evR T_X5_value (callR d) 0 ([(0, .ref a_0)], [], h) else none := by
  rw [callR_succ, show aMTl[n_X5_value]? = some (T_X5_value, [0]) from rfl]; show (bif (isO h a_0 5) && true then _ else _) = _; rw [Bool.and_true]; rfl
theorem e_X5_counts_0 (E : AEn) (a_0 : Nat) (i_1 : Int32) (h : AH) : evR T_X5_counts E 0 ([(0, .ref a_0), (1, .int i_1)], [], h) =
  (rdI h a_0 5 3).bind fun i1 =>
  bif !(i1 == (60 : Int32)) then evR T_X5_counts E 19 ([(0, .ref a_0)], [], h) else
  evR T_X5_counts E 9 ([(0, .ref a_0), (1, .int i_1)], [], h) := by
  rw [evR_eq ok_T_X5_counts.loc (ops := b_X5_counts_0) rfl]; rfl
theorem e_X5_counts_9 (E : AEn) (a_0 : Nat) (i_1 : Int32) (h : AH) : evR T_X5_counts E 9 ([(0, .ref a_0), (1, .int i_1)], [], h) =
  (rdR h a_0 5 6).bind fun r1 =>
  rR (E n_X0_fails [.ref r1, .int (3 : Int32), .int i_1] h) (fun r3 h2 =>
  (bif isO h2 r3 3 then some r3 else none).bind fun q => some (.inr q, h2)) thr := by
  rw [evR_eq ok_T_X5_counts.loc (ops := b_X5_counts_9) rfl]; rfl
theorem e_X5_counts_19 (E : AEn) (a_0 : Nat) (h : AH) : evR T_X5_counts E 19 ([(0, .ref a_0)], [], h) =
  (rdI h a_0 5 3).bind fun i1 =>
  (wrF h a_0 5 3 (.int (i1 + (1 : Int32)))).bind fun h2 =>
  some (.inl none, h2) := by
  rw [evR_eq ok_T_X5_counts.loc (ops := b_X5_counts_19) rfl]; rfl
theorem c_X5_counts (d : Nat) (a_0 : Nat) (i_1 : Int32) (h : AH) : callR (d + 1) n_X5_counts [.ref a_0, .int i_1] h =
  bif isO h a_0 5 then evR T_X5_counts (callR d) 0 ([(0, .ref a_0), (1, .int i_1)], [], h) else none := by
  rw [callR_succ, show aMTl[n_X5_counts]? = some (T_X5_counts, [0, 1]) from rfl]; show (bif (isO h a_0 5) && true then _ else _) = _; rw [Bool.and_true]; rfl
theorem e_X5_takes_0 (E : AEn) (a_0 : Nat) (p_1 : Nat) (h : AH) : evR T_X5_takes E 0 ([(0, .ref a_0), (1, .retAddr p_1)], [], h) =
  (prP p_1).bind fun _ =>
  rI (E n_X5_isWord [.ref a_0, .retAddr p_1] h) (fun i2 h1 =>
  (rdI h1 a_0 5 1).bind fun i3 =>
  bif i2 == 0 then evR T_X5_takes E 22 ([(2, .int i2)], [.int i3, .ref a_0], h1) else
  evR T_X5_takes E 15 ([(1, .retAddr p_1), (2, .int i2)], [.int i3, .ref a_0], h1)) thr := by
  rw [evR_eq ok_T_X5_takes.loc (ops := b_X5_takes_0) rfl]; rfl
theorem e_X5_takes_15 (E : AEn) (p_1 : Nat) (i_2 : Int32) (si_0 : Int32) (sa_1 : Nat) (h : AH) : evR T_X5_takes E 15 ([(1, .retAddr p_1), (2, .int i_2)], [.int si_0, .ref sa_1], h) =
  (prP p_1).bind fun _ =>
  rI (E n_J5_length [.retAddr p_1] h) (fun i2 h1 =>
  evR T_X5_takes E 23 ([(2, .int i_2)], [.int i2, .int si_0, .ref sa_1], h1)) thr := by
  rw [evR_eq ok_T_X5_takes.loc (ops := b_X5_takes_15) rfl]; rfl
theorem e_X5_takes_22 (E : AEn) (i_2 : Int32) (si_0 : Int32) (sa_1 : Nat) (h : AH) : evR T_X5_takes E 22 ([(2, .int i_2)], [.int si_0, .ref sa_1], h) =
  evR T_X5_takes E 23 ([(2, .int i_2)], [.int (0 : Int32), .int si_0, .ref sa_1], h) := by
  rw [evR_eq ok_T_X5_takes.loc (ops := b_X5_takes_22) rfl]; rfl
theorem e_X5_takes_23 (E : AEn) (i_2 : Int32) (si_0 : Int32) (si_1 : Int32) (sa_2 : Nat) (h : AH) : evR T_X5_takes E 23 ([(2, .int i_2)], [.int si_0, .int si_1, .ref sa_2], h) =
  (wrF h sa_2 5 1 (.int (si_1 + si_0))).bind fun h1 =>
  (bif i_2 == 0 || i_2 == 1 then some i_2 else none).bind fun i2 => some (.inl (some (.int i2)), h1) := by
  rw [evR_eq ok_T_X5_takes.loc (ops := b_X5_takes_23) rfl]; rfl
theorem c_X5_takes (d : Nat) (a_0 : Nat) (p_1 : Nat) (h : AH) : callR (d + 1) n_X5_takes [.ref a_0, .retAddr p_1] h =
  bif isO h a_0 5 then evR T_X5_takes (callR d) 0 ([(0, .ref a_0), (1, .retAddr p_1)], [], h) else none := by
  rw [callR_succ, show aMTl[n_X5_takes]? = some (T_X5_takes, [0, 1]) from rfl]; show (bif (isO h a_0 5) && true then _ else _) = _; rw [Bool.and_true]; rfl
theorem e_X5_test_0 (E : AEn) (a_0 : Nat) (h : AH) : evR T_X5_test E 0 ([(0, .ref a_0)], [], h) =
  rR (E n_X5_part [.ref a_0] h) (fun r2 h1 =>
  evR T_X5_test E 5 ([(0, .ref a_0), (1, .ref r2)], [], h1)) thr := by
  rw [evR_eq ok_T_X5_test.loc (ops := b_X5_test_0) rfl]; rfl
theorem e_X5_test_5 (E : AEn) (a_0 : Nat) (a_1 : Nat) (h : AH) : evR T_X5_test E 5 ([(0, .ref a_0), (1, .ref a_1)], [], h) =
  rI (E n_X5_takes [.ref a_0, .retAddr 19] h) (fun i2 h1 =>
  bif i2 == 0 then evR T_X5_test E 31 ([(1, .ref a_1)], [], h1) else
  evR T_X5_test E 14 ([(0, .ref a_0), (1, .ref a_1)], [], h1)) thr := by
  rw [evR_eq ok_T_X5_test.loc (ops := b_X5_test_5) rfl]; rfl
theorem e_X5_test_14 (E : AEn) (a_0 : Nat) (a_1 : Nat) (h : AH) : evR T_X5_test E 14 ([(0, .ref a_0), (1, .ref a_1)], [], h) =
  rR (E n_X5_part [.ref a_0] (hpush h 3 (.inl (16, dF16)))) (fun r2 h1 =>
  rV (E n_X16_init [.ref h.1, .ref a_1, .ref r2, .int (1 : Int32)] h1) (fun h3 =>
  evR T_X5_test E 5 ([(0, .ref a_0), (1, .ref h.1)], [], h3)) thr) thr := by
  rw [evR_eq ok_T_X5_test.loc (ops := b_X5_test_14) rfl]; rfl
theorem e_X5_test_31 (E : AEn) (a_1 : Nat) (h : AH) : evR T_X5_test E 31 ([(1, .ref a_1)], [], h) =
  some (.inl (some (.ref a_1)), h) := by
  rw [evR_eq ok_T_X5_test.loc (ops := b_X5_test_31) rfl]; rfl
theorem c_X5_test (d : Nat) (a_0 : Nat) (h : AH) : callR (d + 1) n_X5_test [.ref a_0] h =
  bif isO h a_0 5 then evR T_X5_test (callR d) 0 ([(0, .ref a_0)], [], h) else none := by
  rw [callR_succ, show aMTl[n_X5_test]? = some (T_X5_test, [0]) from rfl]; show (bif (isO h a_0 5) && true then _ else _) = _; rw [Bool.and_true]; rfl
theorem e_X5_part_0 (E : AEn) (a_0 : Nat) (h : AH) : evR T_X5_part E 0 ([(0, .ref a_0)], [], h) =
  rR (E n_X5_fact [.ref a_0] h) (fun r2 h1 =>
  evR T_X5_part E 5 ([(0, .ref a_0), (1, .ref r2)], [], h1)) thr := by
  rw [evR_eq ok_T_X5_part.loc (ops := b_X5_part_0) rfl]; rfl
theorem e_X5_part_5 (E : AEn) (a_0 : Nat) (a_1 : Nat) (h : AH) : evR T_X5_part E 5 ([(0, .ref a_0), (1, .ref a_1)], [], h) =
  rI (E n_X5_takes [.ref a_0, .retAddr 18] h) (fun i2 h1 =>
  bif i2 == 0 then evR T_X5_part E 31 ([(1, .ref a_1)], [], h1) else
  evR T_X5_part E 14 ([(0, .ref a_0), (1, .ref a_1)], [], h1)) thr := by
  rw [evR_eq ok_T_X5_part.loc (ops := b_X5_part_5) rfl]; rfl
theorem e_X5_part_14 (E : AEn) (a_0 : Nat) (a_1 : Nat) (h : AH) : evR T_X5_part E 14 ([(0, .ref a_0), (1, .ref a_1)], [], h) =
  rR (E n_X5_fact [.ref a_0] (hpush h 3 (.inl (16, dF16)))) (fun r2 h1 =>
  rV (E n_X16_init [.ref h.1, .ref a_1, .ref r2, .int (0 : Int32)] h1) (fun h3 =>
  evR T_X5_part E 5 ([(0, .ref a_0), (1, .ref h.1)], [], h3)) thr) thr := by
  rw [evR_eq ok_T_X5_part.loc (ops := b_X5_part_14) rfl]; rfl
theorem e_X5_part_31 (E : AEn) (a_1 : Nat) (h : AH) : evR T_X5_part E 31 ([(1, .ref a_1)], [], h) =
  some (.inl (some (.ref a_1)), h) := by
  rw [evR_eq ok_T_X5_part.loc (ops := b_X5_part_31) rfl]; rfl
theorem c_X5_part (d : Nat) (a_0 : Nat) (h : AH) : callR (d + 1) n_X5_part [.ref a_0] h =
  bif isO h a_0 5 then evR T_X5_part (callR d) 0 ([(0, .ref a_0)], [], h) else none := by
  rw [callR_succ, show aMTl[n_X5_part]? = some (T_X5_part, [0]) from rfl]; show (bif (isO h a_0 5) && true then _ else _) = _; rw [Bool.and_true]; rfl
theorem e_X5_fact_0 (E : AEn) (a_0 : Nat) (h : AH) : evR T_X5_fact E 0 ([(0, .ref a_0)], [], h) =
  rI (E n_X5_next [.ref a_0] h) (fun i2 h1 =>
  (rdI h1 a_0 5 1).bind fun i3 =>
  rI (E n_X5_isWord [.ref a_0, .retAddr 17] h1) (fun i5 h4 =>
  bif i5 == 0 then evR T_X5_fact E 58 ([(0, .ref a_0), (1, .int i3)], [], h4) else
  evR T_X5_fact E 19 ([(0, .ref a_0), (1, .int i3)], [], h4)) thr) thr := by
  rw [evR_eq ok_T_X5_fact.loc (ops := b_X5_fact_0) rfl]; rfl
theorem e_X5_fact_19 (E : AEn) (a_0 : Nat) (i_1 : Int32) (h : AH) : evR T_X5_fact E 19 ([(0, .ref a_0), (1, .int i_1)], [], h) =
  rV (E n_X5_goesDeeper [.ref a_0, .int i_1] h) (fun h1 =>
  (rdI h1 a_0 5 1).bind fun i2 =>
  (wrF h1 a_0 5 1 (.int (i2 + (3 : Int32)))).bind fun h3 =>
  rR (E n_X5_fact [.ref a_0] (hpush h3 1 (.inl (14, dF14)))) (fun r5 h4 =>
  rV (E n_X14_init [.ref h3.1, .ref r5] h4) (fun h6 =>
  (rdI h6 a_0 5 2).bind fun i7 =>
  (wrF h6 a_0 5 2 (.int (i7 - (1 : Int32)))).bind fun h8 =>
  some (.inl (some (.ref h3.1)), h8)) thr) thr) thr := by
  rw [evR_eq ok_T_X5_fact.loc (ops := b_X5_fact_19) rfl]; rfl
theorem e_X5_fact_58 (E : AEn) (a_0 : Nat) (i_1 : Int32) (h : AH) : evR T_X5_fact E 58 ([(0, .ref a_0), (1, .int i_1)], [], h) =
  rI (E n_X5_sign [.ref a_0] h) (fun i2 h1 =>
  bif !(i2 == (91 : Int32)) then evR T_X5_fact E 131 ([(0, .ref a_0)], [], h1) else
  evR T_X5_fact E 67 ([(0, .ref a_0), (1, .int i_1)], [], h1)) thr := by
  rw [evR_eq ok_T_X5_fact.loc (ops := b_X5_fact_58) rfl]; rfl
theorem e_X5_fact_67 (E : AEn) (a_0 : Nat) (i_1 : Int32) (h : AH) : evR T_X5_fact E 67 ([(0, .ref a_0), (1, .int i_1)], [], h) =
  rV (E n_X5_goesDeeper [.ref a_0, .int i_1] h) (fun h1 =>
  (rdI h1 a_0 5 1).bind fun i2 =>
  (wrF h1 a_0 5 1 (.int (i2 + (1 : Int32)))).bind fun h3 =>
  rR (E n_X5_test [.ref a_0] h3) (fun r5 h4 =>
  rI (E n_X5_next [.ref a_0] h4) (fun i7 h6 =>
  bif i7 == (93 : Int32) then evR T_X5_fact E 109 ([(0, .ref a_0), (2, .ref r5)], [], h6) else
  evR T_X5_fact E 96 ([(0, .ref a_0)], [], h6)) thr) thr) thr := by
  rw [evR_eq ok_T_X5_fact.loc (ops := b_X5_fact_67) rfl]; rfl
theorem e_X5_fact_96 (E : AEn) (a_0 : Nat) (h : AH) : evR T_X5_fact E 96 ([(0, .ref a_0)], [], h) =
  (rdR h a_0 5 6).bind fun r1 =>
  (rdI h a_0 5 1).bind fun i2 =>
  rR (E n_X0_fails [.ref r1, .int (0 : Int32), .int i2] h) (fun r4 h3 =>
  (bif isO h3 r4 3 then some r4 else none).bind fun q => some (.inr q, h3)) thr := by
  rw [evR_eq ok_T_X5_fact.loc (ops := b_X5_fact_96) rfl]; rfl
theorem e_X5_fact_109 (E : AEn) (a_0 : Nat) (a_2 : Nat) (h : AH) : evR T_X5_fact E 109 ([(0, .ref a_0), (2, .ref a_2)], [], h) =
  (rdI h a_0 5 1).bind fun i1 =>
  (wrF h a_0 5 1 (.int (i1 + (1 : Int32)))).bind fun h2 =>
  (rdI h2 a_0 5 2).bind fun i3 =>
  (wrF h2 a_0 5 2 (.int (i3 - (1 : Int32)))).bind fun h4 =>
  some (.inl (some (.ref a_2)), h4) := by
  rw [evR_eq ok_T_X5_fact.loc (ops := b_X5_fact_109) rfl]; rfl
theorem e_X5_fact_131 (E : AEn) (a_0 : Nat) (h : AH) : evR T_X5_fact E 131 ([(0, .ref a_0)], [], h) =
  rR (E n_X5_sum [.ref a_0] h) (fun r2 h1 =>
  rI (E n_X5_next [.ref a_0] h1) (fun i4 h3 =>
  bif i4 == (60 : Int32) then evR T_X5_fact E 172 ([(0, .ref a_0), (2, .ref r2), (3, .int i4)], [], h3) else
  evR T_X5_fact E 147 ([(0, .ref a_0), (2, .ref r2), (3, .int i4)], [], h3)) thr) thr := by
  rw [evR_eq ok_T_X5_fact.loc (ops := b_X5_fact_131) rfl]; rfl
theorem e_X5_fact_147 (E : AEn) (a_0 : Nat) (a_2 : Nat) (i_3 : Int32) (h : AH) : evR T_X5_fact E 147 ([(0, .ref a_0), (2, .ref a_2), (3, .int i_3)], [], h) =
  bif i_3 == (61 : Int32) then evR T_X5_fact E 172 ([(0, .ref a_0), (2, .ref a_2), (3, .int i_3)], [], h) else
  evR T_X5_fact E 153 ([(0, .ref a_0), (2, .ref a_2), (3, .int i_3)], [], h) := by
  rw [evR_eq ok_T_X5_fact.loc (ops := b_X5_fact_147) rfl]; rfl
theorem e_X5_fact_153 (E : AEn) (a_0 : Nat) (a_2 : Nat) (i_3 : Int32) (h : AH) : evR T_X5_fact E 153 ([(0, .ref a_0), (2, .ref a_2), (3, .int i_3)], [], h) =
  bif i_3 == (62 : Int32) then evR T_X5_fact E 172 ([(0, .ref a_0), (2, .ref a_2), (3, .int i_3)], [], h) else
  evR T_X5_fact E 159 ([(0, .ref a_0)], [], h) := by
  rw [evR_eq ok_T_X5_fact.loc (ops := b_X5_fact_153) rfl]; rfl
theorem e_X5_fact_159 (E : AEn) (a_0 : Nat) (h : AH) : evR T_X5_fact E 159 ([(0, .ref a_0)], [], h) =
  (rdR h a_0 5 6).bind fun r1 =>
  (rdI h a_0 5 1).bind fun i2 =>
  rR (E n_X0_fails [.ref r1, .int (0 : Int32), .int i2] h) (fun r4 h3 =>
  (bif isO h3 r4 3 then some r4 else none).bind fun q => some (.inr q, h3)) thr := by
  rw [evR_eq ok_T_X5_fact.loc (ops := b_X5_fact_159) rfl]; rfl
theorem e_X5_fact_172 (E : AEn) (a_0 : Nat) (a_2 : Nat) (i_3 : Int32) (h : AH) : evR T_X5_fact E 172 ([(0, .ref a_0), (2, .ref a_2), (3, .int i_3)], [], h) =
  (rdI h a_0 5 1).bind fun i1 =>
  rV (E n_X5_counts [.ref a_0, .int i1] h) (fun h2 =>
  (rdI h2 a_0 5 1).bind fun i3 =>
  (wrF h2 a_0 5 1 (.int (i3 + (1 : Int32)))).bind fun h4 =>
  bif i_3 == (61 : Int32) then evR T_X5_fact E 209 ([(0, .ref a_0), (2, .ref a_2), (3, .int i_3)], [], h4) else
  evR T_X5_fact E 196 ([(0, .ref a_0), (2, .ref a_2), (3, .int i_3)], [], h4)) thr := by
  rw [evR_eq ok_T_X5_fact.loc (ops := b_X5_fact_172) rfl]; rfl
theorem e_X5_fact_196 (E : AEn) (a_0 : Nat) (a_2 : Nat) (i_3 : Int32) (h : AH) : evR T_X5_fact E 196 ([(0, .ref a_0), (2, .ref a_2), (3, .int i_3)], [], h) =
  rI (E n_X5_sign [.ref a_0] h) (fun i2 h1 =>
  bif !(i2 == (61 : Int32)) then evR T_X5_fact E 209 ([(0, .ref a_0), (2, .ref a_2), (3, .int i_3)], [], h1) else
  evR T_X5_fact E 205 ([(0, .ref a_0), (2, .ref a_2), (3, .int i_3)], [], h1)) thr := by
  rw [evR_eq ok_T_X5_fact.loc (ops := b_X5_fact_196) rfl]; rfl
theorem e_X5_fact_205 (E : AEn) (a_0 : Nat) (a_2 : Nat) (i_3 : Int32) (h : AH) : evR T_X5_fact E 205 ([(0, .ref a_0), (2, .ref a_2), (3, .int i_3)], [], h) =
  evR T_X5_fact E 210 ([(0, .ref a_0), (2, .ref a_2), (3, .int i_3)], [.int (1 : Int32)], h) := by
  rw [evR_eq ok_T_X5_fact.loc (ops := b_X5_fact_205) rfl]; rfl
theorem e_X5_fact_209 (E : AEn) (a_0 : Nat) (a_2 : Nat) (i_3 : Int32) (h : AH) : evR T_X5_fact E 209 ([(0, .ref a_0), (2, .ref a_2), (3, .int i_3)], [], h) =
  evR T_X5_fact E 210 ([(0, .ref a_0), (2, .ref a_2), (3, .int i_3)], [.int (0 : Int32)], h) := by
  rw [evR_eq ok_T_X5_fact.loc (ops := b_X5_fact_209) rfl]; rfl
theorem e_X5_fact_210 (E : AEn) (a_0 : Nat) (a_2 : Nat) (i_3 : Int32) (si_0 : Int32) (h : AH) : evR T_X5_fact E 210 ([(0, .ref a_0), (2, .ref a_2), (3, .int i_3)], [.int si_0], h) =
  (rdI h a_0 5 1).bind fun i1 =>
  bif si_0 == 0 then evR T_X5_fact E 226 ([(0, .ref a_0), (2, .ref a_2), (3, .int i_3), (4, .int si_0)], [.int i1, .ref a_0], h) else
  evR T_X5_fact E 222 ([(0, .ref a_0), (2, .ref a_2), (3, .int i_3), (4, .int si_0)], [.int i1, .ref a_0], h) := by
  rw [evR_eq ok_T_X5_fact.loc (ops := b_X5_fact_210) rfl]; rfl
theorem e_X5_fact_222 (E : AEn) (a_0 : Nat) (a_2 : Nat) (i_3 : Int32) (i_4 : Int32) (si_0 : Int32) (sa_1 : Nat) (h : AH) : evR T_X5_fact E 222 ([(0, .ref a_0), (2, .ref a_2), (3, .int i_3), (4, .int i_4)], [.int si_0, .ref sa_1], h) =
  evR T_X5_fact E 227 ([(0, .ref a_0), (2, .ref a_2), (3, .int i_3), (4, .int i_4)], [.int (1 : Int32), .int si_0, .ref sa_1], h) := by
  rw [evR_eq ok_T_X5_fact.loc (ops := b_X5_fact_222) rfl]; rfl
theorem e_X5_fact_226 (E : AEn) (a_0 : Nat) (a_2 : Nat) (i_3 : Int32) (i_4 : Int32) (si_0 : Int32) (sa_1 : Nat) (h : AH) : evR T_X5_fact E 226 ([(0, .ref a_0), (2, .ref a_2), (3, .int i_3), (4, .int i_4)], [.int si_0, .ref sa_1], h) =
  evR T_X5_fact E 227 ([(0, .ref a_0), (2, .ref a_2), (3, .int i_3), (4, .int i_4)], [.int (0 : Int32), .int si_0, .ref sa_1], h) := by
  rw [evR_eq ok_T_X5_fact.loc (ops := b_X5_fact_226) rfl]; rfl
theorem e_X5_fact_227 (E : AEn) (a_0 : Nat) (a_2 : Nat) (i_3 : Int32) (i_4 : Int32) (si_0 : Int32) (si_1 : Int32) (sa_2 : Nat) (h : AH) : evR T_X5_fact E 227 ([(0, .ref a_0), (2, .ref a_2), (3, .int i_3), (4, .int i_4)], [.int si_0, .int si_1, .ref sa_2], h) =
  (wrF h sa_2 5 1 (.int (si_1 + si_0))).bind fun h1 =>
  rR (E n_X5_sum [.ref a_0] (hpush h1 4 (.inl (15, dF15)))) (fun r3 h2 =>
  rV (E n_X15_init [.ref h1.1, .ref a_2, .ref r3, .int i_3, .int i_4] h2) (fun h4 =>
  some (.inl (some (.ref h1.1)), h4)) thr) thr := by
  rw [evR_eq ok_T_X5_fact.loc (ops := b_X5_fact_227) rfl]; rfl
theorem c_X5_fact (d : Nat) (a_0 : Nat) (h : AH) : callR (d + 1) n_X5_fact [.ref a_0] h =
  bif isO h a_0 5 then evR T_X5_fact (callR d) 0 ([(0, .ref a_0)], [], h) else none := by
  rw [callR_succ, show aMTl[n_X5_fact]? = some (T_X5_fact, [0]) from rfl]; show (bif (isO h a_0 5) && true then _ else _) = _; rw [Bool.and_true]; rfl
theorem e_X5_goesDeeper_0 (E : AEn) (a_0 : Nat) (i_1 : Int32) (h : AH) : evR T_X5_goesDeeper E 0 ([(0, .ref a_0), (1, .int i_1)], [], h) =
  (rdI h a_0 5 2).bind fun i1 =>
  bif !(i1 == (10 : Int32)) then evR T_X5_goesDeeper E 19 ([(0, .ref a_0)], [], h) else
  evR T_X5_goesDeeper E 9 ([(0, .ref a_0), (1, .int i_1)], [], h) := by
  rw [evR_eq ok_T_X5_goesDeeper.loc (ops := b_X5_goesDeeper_0) rfl]; rfl
theorem e_X5_goesDeeper_9 (E : AEn) (a_0 : Nat) (i_1 : Int32) (h : AH) : evR T_X5_goesDeeper E 9 ([(0, .ref a_0), (1, .int i_1)], [], h) =
  (rdR h a_0 5 6).bind fun r1 =>
  rR (E n_X0_fails [.ref r1, .int (2 : Int32), .int i_1] h) (fun r3 h2 =>
  (bif isO h2 r3 3 then some r3 else none).bind fun q => some (.inr q, h2)) thr := by
  rw [evR_eq ok_T_X5_goesDeeper.loc (ops := b_X5_goesDeeper_9) rfl]; rfl
theorem e_X5_goesDeeper_19 (E : AEn) (a_0 : Nat) (h : AH) : evR T_X5_goesDeeper E 19 ([(0, .ref a_0)], [], h) =
  (rdI h a_0 5 2).bind fun i1 =>
  (wrF h a_0 5 2 (.int (i1 + (1 : Int32)))).bind fun h2 =>
  some (.inl none, h2) := by
  rw [evR_eq ok_T_X5_goesDeeper.loc (ops := b_X5_goesDeeper_19) rfl]; rfl
theorem c_X5_goesDeeper (d : Nat) (a_0 : Nat) (i_1 : Int32) (h : AH) : callR (d + 1) n_X5_goesDeeper [.ref a_0, .int i_1] h =
  bif isO h a_0 5 then evR T_X5_goesDeeper (callR d) 0 ([(0, .ref a_0), (1, .int i_1)], [], h) else none := by
  rw [callR_succ, show aMTl[n_X5_goesDeeper]? = some (T_X5_goesDeeper, [0, 1]) from rfl]; show (bif (isO h a_0 5) && true then _ else _) = _; rw [Bool.and_true]; rfl
theorem e_X6_init_0 (E : AEn) (a_0 : Nat) (i_1 : Int32) (i_2 : Int32) (i_3 : Int32) (h : AH) : evR T_X6_init E 0 ([(0, .ref a_0), (1, .int i_1), (2, .int i_2), (3, .int i_3)], [], h) =
  rV (E n_J9_init [.ref a_0] h) (fun h1 =>
  (wrF h1 a_0 6 0 (.int i_1)).bind fun h2 =>
  (wrF h2 a_0 6 1 (.int i_2)).bind fun h3 =>
  (wrF h3 a_0 6 2 (.int i_3)).bind fun h4 =>
  some (.inl none, h4)) thr := by
  rw [evR_eq ok_T_X6_init.loc (ops := b_X6_init_0) rfl]; rfl
theorem c_X6_init (d : Nat) (a_0 : Nat) (i_1 : Int32) (i_2 : Int32) (i_3 : Int32) (h : AH) : callR (d + 1) n_X6_init [.ref a_0, .int i_1, .int i_2, .int i_3] h =
  bif isO h a_0 6 then evR T_X6_init (callR d) 0 ([(0, .ref a_0), (1, .int i_1), (2, .int i_2), (3, .int i_3)], [], h) else none := by
  rw [callR_succ, show aMTl[n_X6_init]? = some (T_X6_init, [0, 1, 2, 3]) from rfl]; show (bif (isO h a_0 6) && true then _ else _) = _; rw [Bool.and_true]; rfl
theorem e_X7_init_0 (E : AEn) (a_0 : Nat) (h : AH) : evR T_X7_init E 0 ([(0, .ref a_0)], [], h) =
  rV (E n_J2_init [.ref h.1, .int (2 : Int32)] (hpush h 3 (.inl (8, dF8)))) (fun h1 =>
  (wrF h1 a_0 7 0 (.ref h.1)).bind fun h2 =>
  some (.inl none, h2)) thr := by
  rw [evR_eq ok_T_X7_init.loc (ops := b_X7_init_0) rfl]; rfl
theorem c_X7_init (d : Nat) (a_0 : Nat) (h : AH) : callR (d + 1) n_X7_init [.ref a_0] h =
  bif isO h a_0 7 then evR T_X7_init (callR d) 0 ([(0, .ref a_0)], [], h) else none := by
  rw [callR_succ, show aMTl[n_X7_init]? = some (T_X7_init, [0]) from rfl]; show (bif (isO h a_0 7) && true then _ else _) = _; rw [Bool.and_true]; rfl
theorem e_X7_wants_0 (E : AEn) (a_0 : Nat) (a_1 : Nat) (h : AH) : evR T_X7_wants E 0 ([(0, .ref a_0), (1, .ref a_1)], [], h) =
  evR T_X7_wants E 2 ([(0, .ref a_0), (1, .ref a_1), (2, .int (0 : Int32))], [], h) := by
  rw [evR_eq ok_T_X7_wants.loc (ops := b_X7_wants_0) rfl]; rfl
theorem e_X7_wants_2 (E : AEn) (a_0 : Nat) (a_1 : Nat) (i_2 : Int32) (h : AH) : evR T_X7_wants E 2 ([(0, .ref a_0), (1, .ref a_1), (2, .int i_2)], [], h) =
  (rdR h a_0 7 0).bind fun r1 =>
  rI (E n_J2_size [.ref r1] h) (fun i3 h2 =>
  bif decide (i3 ≤ i_2) then evR T_X7_wants E 56 ([], [], h2) else
  evR T_X7_wants E 13 ([(0, .ref a_0), (1, .ref a_1), (2, .int i_2)], [], h2)) thr := by
  rw [evR_eq ok_T_X7_wants.loc (ops := b_X7_wants_2) rfl]; rfl
theorem e_X7_wants_13 (E : AEn) (a_0 : Nat) (a_1 : Nat) (i_2 : Int32) (h : AH) : evR T_X7_wants E 13 ([(0, .ref a_0), (1, .ref a_1), (2, .int i_2)], [], h) =
  (rdR h a_0 7 0).bind fun r1 =>
  rR (E n_J2_get [.ref r1, .int i_2] h) (fun r3 h2 =>
  (okC h2 r3 12).bind fun _ =>
  rI (E n_X12_holds [.ref r3, .ref a_1] h2) (fun i5 h4 =>
  bif i5 == 0 then evR T_X7_wants E 50 ([(0, .ref a_0), (1, .ref a_1), (2, .int i_2)], [], h4) else
  evR T_X7_wants E 31 ([(0, .ref a_0), (1, .ref a_1), (2, .int i_2)], [], h4)) thr) thr := by
  rw [evR_eq ok_T_X7_wants.loc (ops := b_X7_wants_13) rfl]; rfl
theorem e_X7_wants_31 (E : AEn) (a_0 : Nat) (a_1 : Nat) (i_2 : Int32) (h : AH) : evR T_X7_wants E 31 ([(0, .ref a_0), (1, .ref a_1), (2, .int i_2)], [], h) =
  (rdR h a_0 7 0).bind fun r1 =>
  rR (E n_J2_get [.ref r1, .int i_2] h) (fun r3 h2 =>
  (okC h2 r3 12).bind fun _ =>
  (rdR h2 r3 12 0).bind fun r4 =>
  (vdis h2 [.ref r4, .ref a_1] [(9, 73), (10, 75), (11, 77)]).bind fun y6 =>
  rL (E y6 [.ref r4, .ref a_1] h2) (fun l7 h5 =>
  some (.inl (some (.long l7)), h5)) thr) thr := by
  rw [evR_eq ok_T_X7_wants.loc (ops := b_X7_wants_31) rfl]; rfl
theorem e_X7_wants_50 (E : AEn) (a_0 : Nat) (a_1 : Nat) (i_2 : Int32) (h : AH) : evR T_X7_wants E 50 ([(0, .ref a_0), (1, .ref a_1), (2, .int i_2)], [], h) =
  evR T_X7_wants E 2 ([(0, .ref a_0), (1, .ref a_1), (2, .int (i_2 + (1 : Int32)))], [], h) := by
  rw [evR_eq ok_T_X7_wants.loc (ops := b_X7_wants_50) rfl]; rfl
theorem e_X7_wants_56 (E : AEn)  (h : AH) : evR T_X7_wants E 56 ([], [], h) =
  some (.inl (some (.long (0 : Int64))), h) := by
  rw [evR_eq ok_T_X7_wants.loc (ops := b_X7_wants_56) rfl]; rfl
theorem c_X7_wants (d : Nat) (a_0 : Nat) (a_1 : Nat) (h : AH) : callR (d + 1) n_X7_wants [.ref a_0, .ref a_1] h =
  bif isO h a_0 7 then evR T_X7_wants (callR d) 0 ([(0, .ref a_0), (1, .ref a_1)], [], h) else none := by
  rw [callR_succ, show aMTl[n_X7_wants]? = some (T_X7_wants, [0, 1]) from rfl]; show (bif (isO h a_0 7) && true then _ else _) = _; rw [Bool.and_true]; rfl
theorem e_X8_init_0 (E : AEn) (a_0 : Nat) (h : AH) : evR T_X8_init E 0 ([(0, .ref a_0)], [], h) =
  some (.inl none, h) := by
  rw [evR_eq ok_T_X8_init.loc (ops := b_X8_init_0) rfl]; rfl
theorem c_X8_init (d : Nat) (a_0 : Nat) (h : AH) : callR (d + 1) n_X8_init [.ref a_0] h =
  evR T_X8_init (callR d) 0 ([(0, .ref a_0)], [], h) := by
  rw [callR_succ, show aMTl[n_X8_init]? = some (T_X8_init, [0]) from rfl]; rfl
theorem e_X9_init_0 (E : AEn) (a_0 : Nat) (i_1 : Int32) (h : AH) : evR T_X9_init E 0 ([(0, .ref a_0), (1, .int i_1)], [], h) =
  rV (E n_X8_init [.ref a_0] h) (fun h1 =>
  (wrF h1 a_0 9 0 (.int i_1)).bind fun h2 =>
  some (.inl none, h2)) thr := by
  rw [evR_eq ok_T_X9_init.loc (ops := b_X9_init_0) rfl]; rfl
theorem c_X9_init (d : Nat) (a_0 : Nat) (i_1 : Int32) (h : AH) : callR (d + 1) n_X9_init [.ref a_0, .int i_1] h =
  bif isO h a_0 9 then evR T_X9_init (callR d) 0 ([(0, .ref a_0), (1, .int i_1)], [], h) else none := by
  rw [callR_succ, show aMTl[n_X9_init]? = some (T_X9_init, [0, 1]) from rfl]; show (bif (isO h a_0 9) && true then _ else _) = _; rw [Bool.and_true]; rfl
theorem e_X9_of_0 (E : AEn) (a_0 : Nat) (h : AH) : evR T_X9_of E 0 ([(0, .ref a_0)], [], h) =
  (rdI h a_0 9 0).bind fun i1 =>
  some (.inl (some (.long i1.toInt64)), h) := by
  rw [evR_eq ok_T_X9_of.loc (ops := b_X9_of_0) rfl]; rfl
theorem c_X9_of (d : Nat) (a_0 : Nat) (a_1 : Nat) (h : AH) : callR (d + 1) n_X9_of [.ref a_0, .ref a_1] h =
  bif isO h a_0 9 then evR T_X9_of (callR d) 0 ([(0, .ref a_0)], [], h) else none := by
  rw [callR_succ, show aMTl[n_X9_of]? = some (T_X9_of, [0]) from rfl]; show (bif (isO h a_0 9) && true then _ else _) = _; rw [Bool.and_true]; rfl
theorem e_X10_init_0 (E : AEn) (a_0 : Nat) (i_1 : Int32) (h : AH) : evR T_X10_init E 0 ([(0, .ref a_0), (1, .int i_1)], [], h) =
  rV (E n_X8_init [.ref a_0] h) (fun h1 =>
  (wrF h1 a_0 10 0 (.int i_1)).bind fun h2 =>
  some (.inl none, h2)) thr := by
  rw [evR_eq ok_T_X10_init.loc (ops := b_X10_init_0) rfl]; rfl
theorem c_X10_init (d : Nat) (a_0 : Nat) (i_1 : Int32) (h : AH) : callR (d + 1) n_X10_init [.ref a_0, .int i_1] h =
  bif isO h a_0 10 then evR T_X10_init (callR d) 0 ([(0, .ref a_0), (1, .int i_1)], [], h) else none := by
  rw [callR_succ, show aMTl[n_X10_init]? = some (T_X10_init, [0, 1]) from rfl]; show (bif (isO h a_0 10) && true then _ else _) = _; rw [Bool.and_true]; rfl
theorem e_X10_of_0 (E : AEn) (a_0 : Nat) (a_1 : Nat) (h : AH) : evR T_X10_of E 0 ([(0, .ref a_0), (1, .ref a_1)], [], h) =
  (rdI h a_0 10 0).bind fun i1 =>
  (ldL h a_1 i1).bind fun l2 =>
  some (.inl (some (.long l2)), h) := by
  rw [evR_eq ok_T_X10_of.loc (ops := b_X10_of_0) rfl]; rfl
theorem c_X10_of (d : Nat) (a_0 : Nat) (a_1 : Nat) (h : AH) : callR (d + 1) n_X10_of [.ref a_0, .ref a_1] h =
  bif isO h a_0 10 then evR T_X10_of (callR d) 0 ([(0, .ref a_0), (1, .ref a_1)], [], h) else none := by
  rw [callR_succ, show aMTl[n_X10_of]? = some (T_X10_of, [0, 1]) from rfl]; show (bif (isO h a_0 10) && true then _ else _) = _; rw [Bool.and_true]; rfl
theorem e_X11_init_0 (E : AEn) (a_0 : Nat) (a_1 : Nat) (a_2 : Nat) (i_3 : Int32) (h : AH) : evR T_X11_init E 0 ([(0, .ref a_0), (1, .ref a_1), (2, .ref a_2), (3, .int i_3)], [], h) =
  rV (E n_X8_init [.ref a_0] h) (fun h1 =>
  (wrF h1 a_0 11 0 (.ref a_1)).bind fun h2 =>
  (wrF h2 a_0 11 1 (.ref a_2)).bind fun h3 =>
  (wrF h3 a_0 11 2 (.int i_3)).bind fun h4 =>
  some (.inl none, h4)) thr := by
  rw [evR_eq ok_T_X11_init.loc (ops := b_X11_init_0) rfl]; rfl
theorem c_X11_init (d : Nat) (a_0 : Nat) (a_1 : Nat) (a_2 : Nat) (i_3 : Int32) (h : AH) : callR (d + 1) n_X11_init [.ref a_0, .ref a_1, .ref a_2, .int i_3] h =
  bif isO h a_0 11 then evR T_X11_init (callR d) 0 ([(0, .ref a_0), (1, .ref a_1), (2, .ref a_2), (3, .int i_3)], [], h) else none := by
  rw [callR_succ, show aMTl[n_X11_init]? = some (T_X11_init, [0, 1, 2, 3]) from rfl]; show (bif (isO h a_0 11) && true then _ else _) = _; rw [Bool.and_true]; rfl
theorem e_X11_of_0 (E : AEn) (a_0 : Nat) (a_1 : Nat) (h : AH) : evR T_X11_of E 0 ([(0, .ref a_0), (1, .ref a_1)], [], h) =
  (rdR h a_0 11 0).bind fun r1 =>
  (vdis h [.ref r1, .ref a_1] [(9, 73), (10, 75), (11, 77)]).bind fun y3 =>
  rL (E y3 [.ref r1, .ref a_1] h) (fun l4 h2 =>
  (rdR h2 a_0 11 1).bind fun r5 =>
  (vdis h2 [.ref r5, .ref a_1] [(9, 73), (10, 75), (11, 77)]).bind fun y7 =>
  rL (E y7 [.ref r5, .ref a_1] h2) (fun l8 h6 =>
  (rdI h6 a_0 11 2).bind fun i9 =>
  bif !(i9 == (43 : Int32)) then evR T_X11_of E 35 ([(0, .ref a_0), (2, .long l4), (4, .long l8)], [], h6) else
  evR T_X11_of E 28 ([(2, .long l4), (4, .long l8)], [], h6)) thr) thr := by
  rw [evR_eq ok_T_X11_of.loc (ops := b_X11_of_0) rfl]; rfl
theorem e_X11_of_28 (E : AEn) (l_2 : Int64) (l_4 : Int64) (h : AH) : evR T_X11_of E 28 ([(2, .long l_2), (4, .long l_4)], [], h) =
  evR T_X11_of E 98 ([], [.long (l_2 + l_4)], h) := by
  rw [evR_eq ok_T_X11_of.loc (ops := b_X11_of_28) rfl]; rfl
theorem e_X11_of_35 (E : AEn) (a_0 : Nat) (l_2 : Int64) (l_4 : Int64) (h : AH) : evR T_X11_of E 35 ([(0, .ref a_0), (2, .long l_2), (4, .long l_4)], [], h) =
  (rdI h a_0 11 2).bind fun i1 =>
  bif !(i1 == (45 : Int32)) then evR T_X11_of E 51 ([(0, .ref a_0), (2, .long l_2), (4, .long l_4)], [], h) else
  evR T_X11_of E 44 ([(2, .long l_2), (4, .long l_4)], [], h) := by
  rw [evR_eq ok_T_X11_of.loc (ops := b_X11_of_35) rfl]; rfl
theorem e_X11_of_44 (E : AEn) (l_2 : Int64) (l_4 : Int64) (h : AH) : evR T_X11_of E 44 ([(2, .long l_2), (4, .long l_4)], [], h) =
  evR T_X11_of E 98 ([], [.long (l_2 - l_4)], h) := by
  rw [evR_eq ok_T_X11_of.loc (ops := b_X11_of_44) rfl]; rfl
theorem e_X11_of_51 (E : AEn) (a_0 : Nat) (l_2 : Int64) (l_4 : Int64) (h : AH) : evR T_X11_of E 51 ([(0, .ref a_0), (2, .long l_2), (4, .long l_4)], [], h) =
  (rdI h a_0 11 2).bind fun i1 =>
  bif !(i1 == (42 : Int32)) then evR T_X11_of E 67 ([(0, .ref a_0), (2, .long l_2), (4, .long l_4)], [], h) else
  evR T_X11_of E 60 ([(2, .long l_2), (4, .long l_4)], [], h) := by
  rw [evR_eq ok_T_X11_of.loc (ops := b_X11_of_51) rfl]; rfl
theorem e_X11_of_60 (E : AEn) (l_2 : Int64) (l_4 : Int64) (h : AH) : evR T_X11_of E 60 ([(2, .long l_2), (4, .long l_4)], [], h) =
  evR T_X11_of E 98 ([], [.long (l_2 * l_4)], h) := by
  rw [evR_eq ok_T_X11_of.loc (ops := b_X11_of_60) rfl]; rfl
theorem e_X11_of_67 (E : AEn) (a_0 : Nat) (l_2 : Int64) (l_4 : Int64) (h : AH) : evR T_X11_of E 67 ([(0, .ref a_0), (2, .long l_2), (4, .long l_4)], [], h) =
  bif !((lg_cmp l_4 (0 : Int64)) == 0) then evR T_X11_of E 78 ([(0, .ref a_0), (2, .long l_2), (4, .long l_4)], [], h) else
  evR T_X11_of E 74 ([], [], h) := by
  rw [evR_eq ok_T_X11_of.loc (ops := b_X11_of_67) rfl]; rfl
theorem e_X11_of_74 (E : AEn)  (h : AH) : evR T_X11_of E 74 ([], [], h) =
  evR T_X11_of E 98 ([], [.long (0 : Int64)], h) := by
  rw [evR_eq ok_T_X11_of.loc (ops := b_X11_of_74) rfl]; rfl
theorem e_X11_of_78 (E : AEn) (a_0 : Nat) (l_2 : Int64) (l_4 : Int64) (h : AH) : evR T_X11_of E 78 ([(0, .ref a_0), (2, .long l_2), (4, .long l_4)], [], h) =
  (rdI h a_0 11 2).bind fun i1 =>
  bif !(i1 == (47 : Int32)) then evR T_X11_of E 94 ([(2, .long l_2), (4, .long l_4)], [], h) else
  evR T_X11_of E 87 ([(2, .long l_2), (4, .long l_4)], [], h) := by
  rw [evR_eq ok_T_X11_of.loc (ops := b_X11_of_78) rfl]; rfl
theorem e_X11_of_87 (E : AEn) (l_2 : Int64) (l_4 : Int64) (h : AH) : evR T_X11_of E 87 ([(2, .long l_2), (4, .long l_4)], [], h) =
  (nzL l_4).bind fun _ =>
  evR T_X11_of E 98 ([], [.long (l_2 / l_4)], h) := by
  rw [evR_eq ok_T_X11_of.loc (ops := b_X11_of_87) rfl]; rfl
theorem e_X11_of_94 (E : AEn) (l_2 : Int64) (l_4 : Int64) (h : AH) : evR T_X11_of E 94 ([(2, .long l_2), (4, .long l_4)], [], h) =
  (nzL l_4).bind fun _ =>
  evR T_X11_of E 98 ([], [.long (l_2 - l_2 / l_4 * l_4)], h) := by
  rw [evR_eq ok_T_X11_of.loc (ops := b_X11_of_94) rfl]; rfl
theorem e_X11_of_98 (E : AEn) (sl_0 : Int64) (h : AH) : evR T_X11_of E 98 ([], [.long sl_0], h) =
  some (.inl (some (.long sl_0)), h) := by
  rw [evR_eq ok_T_X11_of.loc (ops := b_X11_of_98) rfl]; rfl
theorem c_X11_of (d : Nat) (a_0 : Nat) (a_1 : Nat) (h : AH) : callR (d + 1) n_X11_of [.ref a_0, .ref a_1] h =
  bif isO h a_0 11 then evR T_X11_of (callR d) 0 ([(0, .ref a_0), (1, .ref a_1)], [], h) else none := by
  rw [callR_succ, show aMTl[n_X11_of]? = some (T_X11_of, [0, 1]) from rfl]; show (bif (isO h a_0 11) && true then _ else _) = _; rw [Bool.and_true]; rfl
theorem e_X12_init_0 (E : AEn) (a_0 : Nat) (a_1 : Nat) (v_2 : Value) (h : AH) : evR T_X12_init E 0 ([(0, .ref a_0), (1, .ref a_1), (2, v_2)], [], h) =
  rV (E n_J9_init [.ref a_0] h) (fun h1 =>
  (wrF h1 a_0 12 0 (.ref a_1)).bind fun h2 =>
  (qV v_2).bind fun q3 =>
  (bif okV (.object "SmokeWord$Condition") (va_rf q3) then wrF h2 a_0 12 1 (va_rf q3) else none).bind fun h4 =>
  some (.inl none, h4)) thr := by
  rw [evR_eq ok_T_X12_init.loc (ops := b_X12_init_0) rfl]; rfl
theorem e_X12_holds_0 (E : AEn) (a_0 : Nat) (a_1 : Nat) (h : AH) : evR T_X12_holds E 0 ([(0, .ref a_0), (1, .ref a_1)], [], h) =
  (rdQ h a_0 12 1).bind fun q1 =>
  (nlV (va_rf q1)).bind fun b2 => bif b2 then evR T_X12_holds E 18 ([], [], h) else
  evR T_X12_holds E 7 ([(0, .ref a_0), (1, .ref a_1)], [], h) := by
  rw [evR_eq ok_T_X12_holds.loc (ops := b_X12_holds_0) rfl]; rfl
theorem e_X12_holds_7 (E : AEn) (a_0 : Nat) (a_1 : Nat) (h : AH) : evR T_X12_holds E 7 ([(0, .ref a_0), (1, .ref a_1)], [], h) =
  (rdR h a_0 12 1).bind fun r1 =>
  (vdis h [.ref r1, .ref a_1] [(14, 82), (15, 84), (16, 86)]).bind fun y3 =>
  rI (E y3 [.ref r1, .ref a_1] h) (fun i4 h2 =>
  bif i4 == 0 then evR T_X12_holds E 22 ([], [], h2) else
  evR T_X12_holds E 18 ([], [], h2)) thr := by
  rw [evR_eq ok_T_X12_holds.loc (ops := b_X12_holds_7) rfl]; rfl
theorem e_X12_holds_18 (E : AEn)  (h : AH) : evR T_X12_holds E 18 ([], [], h) =
  evR T_X12_holds E 23 ([], [.int (1 : Int32)], h) := by
  rw [evR_eq ok_T_X12_holds.loc (ops := b_X12_holds_18) rfl]; rfl
theorem e_X12_holds_22 (E : AEn)  (h : AH) : evR T_X12_holds E 22 ([], [], h) =
  evR T_X12_holds E 23 ([], [.int (0 : Int32)], h) := by
  rw [evR_eq ok_T_X12_holds.loc (ops := b_X12_holds_22) rfl]; rfl
theorem e_X12_holds_23 (E : AEn) (si_0 : Int32) (h : AH) : evR T_X12_holds E 23 ([], [.int si_0], h) =
  (bif si_0 == 0 || si_0 == 1 then some si_0 else none).bind fun i1 => some (.inl (some (.int i1)), h) := by
  rw [evR_eq ok_T_X12_holds.loc (ops := b_X12_holds_23) rfl]; rfl
theorem c_X12_holds (d : Nat) (a_0 : Nat) (a_1 : Nat) (h : AH) : callR (d + 1) n_X12_holds [.ref a_0, .ref a_1] h =
  bif isO h a_0 12 then evR T_X12_holds (callR d) 0 ([(0, .ref a_0), (1, .ref a_1)], [], h) else none := by
  rw [callR_succ, show aMTl[n_X12_holds]? = some (T_X12_holds, [0, 1]) from rfl]; show (bif (isO h a_0 12) && true then _ else _) = _; rw [Bool.and_true]; rfl
theorem e_X13_init_0 (E : AEn) (a_0 : Nat) (h : AH) : evR T_X13_init E 0 ([(0, .ref a_0)], [], h) =
  some (.inl none, h) := by
  rw [evR_eq ok_T_X13_init.loc (ops := b_X13_init_0) rfl]; rfl
theorem c_X13_init (d : Nat) (a_0 : Nat) (h : AH) : callR (d + 1) n_X13_init [.ref a_0] h =
  evR T_X13_init (callR d) 0 ([(0, .ref a_0)], [], h) := by
  rw [callR_succ, show aMTl[n_X13_init]? = some (T_X13_init, [0]) from rfl]; rfl
theorem e_X14_init_0 (E : AEn) (a_0 : Nat) (a_1 : Nat) (h : AH) : evR T_X14_init E 0 ([(0, .ref a_0), (1, .ref a_1)], [], h) =
  rV (E n_X13_init [.ref a_0] h) (fun h1 =>
  (wrF h1 a_0 14 0 (.ref a_1)).bind fun h2 =>
  some (.inl none, h2)) thr := by
  rw [evR_eq ok_T_X14_init.loc (ops := b_X14_init_0) rfl]; rfl
theorem c_X14_init (d : Nat) (a_0 : Nat) (a_1 : Nat) (h : AH) : callR (d + 1) n_X14_init [.ref a_0, .ref a_1] h =
  bif isO h a_0 14 then evR T_X14_init (callR d) 0 ([(0, .ref a_0), (1, .ref a_1)], [], h) else none := by
  rw [callR_succ, show aMTl[n_X14_init]? = some (T_X14_init, [0, 1]) from rfl]; show (bif (isO h a_0 14) && true then _ else _) = _; rw [Bool.and_true]; rfl
theorem e_X14_is_0 (E : AEn) (a_0 : Nat) (a_1 : Nat) (h : AH) : evR T_X14_is E 0 ([(0, .ref a_0), (1, .ref a_1)], [], h) =
  (rdR h a_0 14 0).bind fun r1 =>
  (vdis h [.ref r1, .ref a_1] [(14, 82), (15, 84), (16, 86)]).bind fun y3 =>
  rI (E y3 [.ref r1, .ref a_1] h) (fun i4 h2 =>
  bif !(i4 == 0) then evR T_X14_is E 15 ([], [], h2) else
  evR T_X14_is E 11 ([], [], h2)) thr := by
  rw [evR_eq ok_T_X14_is.loc (ops := b_X14_is_0) rfl]; rfl
theorem e_X14_is_11 (E : AEn)  (h : AH) : evR T_X14_is E 11 ([], [], h) =
  evR T_X14_is E 16 ([], [.int (1 : Int32)], h) := by
  rw [evR_eq ok_T_X14_is.loc (ops := b_X14_is_11) rfl]; rfl
theorem e_X14_is_15 (E : AEn)  (h : AH) : evR T_X14_is E 15 ([], [], h) =
  evR T_X14_is E 16 ([], [.int (0 : Int32)], h) := by
  rw [evR_eq ok_T_X14_is.loc (ops := b_X14_is_15) rfl]; rfl
theorem e_X14_is_16 (E : AEn) (si_0 : Int32) (h : AH) : evR T_X14_is E 16 ([], [.int si_0], h) =
  (bif si_0 == 0 || si_0 == 1 then some si_0 else none).bind fun i1 => some (.inl (some (.int i1)), h) := by
  rw [evR_eq ok_T_X14_is.loc (ops := b_X14_is_16) rfl]; rfl
theorem c_X14_is (d : Nat) (a_0 : Nat) (a_1 : Nat) (h : AH) : callR (d + 1) n_X14_is [.ref a_0, .ref a_1] h =
  bif isO h a_0 14 then evR T_X14_is (callR d) 0 ([(0, .ref a_0), (1, .ref a_1)], [], h) else none := by
  rw [callR_succ, show aMTl[n_X14_is]? = some (T_X14_is, [0, 1]) from rfl]; show (bif (isO h a_0 14) && true then _ else _) = _; rw [Bool.and_true]; rfl
theorem e_X15_init_0 (E : AEn) (a_0 : Nat) (a_1 : Nat) (a_2 : Nat) (i_3 : Int32) (i_4 : Int32) (h : AH) : evR T_X15_init E 0 ([(0, .ref a_0), (1, .ref a_1), (2, .ref a_2), (3, .int i_3), (4, .int i_4)], [], h) =
  rV (E n_X13_init [.ref a_0] h) (fun h1 =>
  (wrF h1 a_0 15 0 (.ref a_1)).bind fun h2 =>
  (wrF h2 a_0 15 1 (.ref a_2)).bind fun h3 =>
  (wrF h3 a_0 15 2 (.int i_3)).bind fun h4 =>
  (bif i_4 == 0 || i_4 == 1 then wrF h4 a_0 15 3 (.int i_4) else none).bind fun h5 =>
  some (.inl none, h5)) thr := by
  rw [evR_eq ok_T_X15_init.loc (ops := b_X15_init_0) rfl]; rfl
theorem c_X15_init (d : Nat) (a_0 : Nat) (a_1 : Nat) (a_2 : Nat) (i_3 : Int32) (i_4 : Int32) (h : AH) : callR (d + 1) n_X15_init [.ref a_0, .ref a_1, .ref a_2, .int i_3, .int i_4] h =
  bif isO h a_0 15 then evR T_X15_init (callR d) 0 ([(0, .ref a_0), (1, .ref a_1), (2, .ref a_2), (3, .int i_3), (4, .int i_4)], [], h) else none := by
  rw [callR_succ, show aMTl[n_X15_init]? = some (T_X15_init, [0, 1, 2, 3, 4]) from rfl]; show (bif (isO h a_0 15) && true then _ else _) = _; rw [Bool.and_true]; rfl
theorem e_X15_is_0 (E : AEn) (a_0 : Nat) (a_1 : Nat) (h : AH) : evR T_X15_is E 0 ([(0, .ref a_0), (1, .ref a_1)], [], h) =
  (rdR h a_0 15 0).bind fun r1 =>
  (vdis h [.ref r1, .ref a_1] [(9, 73), (10, 75), (11, 77)]).bind fun y3 =>
  rL (E y3 [.ref r1, .ref a_1] h) (fun l4 h2 =>
  (rdR h2 a_0 15 1).bind fun r5 =>
  (vdis h2 [.ref r5, .ref a_1] [(9, 73), (10, 75), (11, 77)]).bind fun y7 =>
  rL (E y7 [.ref r5, .ref a_1] h2) (fun l8 h6 =>
  bif !((lg_cmp l4 l8) == 0) then evR T_X15_is E 50 ([(0, .ref a_0), (2, .long l4), (4, .long l8)], [], h6) else
  evR T_X15_is E 26 ([(0, .ref a_0)], [], h6)) thr) thr := by
  rw [evR_eq ok_T_X15_is.loc (ops := b_X15_is_0) rfl]; rfl
theorem e_X15_is_26 (E : AEn) (a_0 : Nat) (h : AH) : evR T_X15_is E 26 ([(0, .ref a_0)], [], h) =
  (rdI h a_0 15 2).bind fun i1 =>
  bif i1 == (61 : Int32) then evR T_X15_is E 42 ([], [], h) else
  evR T_X15_is E 35 ([(0, .ref a_0)], [], h) := by
  rw [evR_eq ok_T_X15_is.loc (ops := b_X15_is_26) rfl]; rfl
theorem e_X15_is_35 (E : AEn) (a_0 : Nat) (h : AH) : evR T_X15_is E 35 ([(0, .ref a_0)], [], h) =
  (rdI h a_0 15 3).bind fun i1 =>
  bif i1 == 0 then evR T_X15_is E 46 ([], [], h) else
  evR T_X15_is E 42 ([], [], h) := by
  rw [evR_eq ok_T_X15_is.loc (ops := b_X15_is_35) rfl]; rfl
theorem e_X15_is_42 (E : AEn)  (h : AH) : evR T_X15_is E 42 ([], [], h) =
  evR T_X15_is E 87 ([], [.int (1 : Int32)], h) := by
  rw [evR_eq ok_T_X15_is.loc (ops := b_X15_is_42) rfl]; rfl
theorem e_X15_is_46 (E : AEn)  (h : AH) : evR T_X15_is E 46 ([], [], h) =
  evR T_X15_is E 87 ([], [.int (0 : Int32)], h) := by
  rw [evR_eq ok_T_X15_is.loc (ops := b_X15_is_46) rfl]; rfl
theorem e_X15_is_50 (E : AEn) (a_0 : Nat) (l_2 : Int64) (l_4 : Int64) (h : AH) : evR T_X15_is E 50 ([(0, .ref a_0), (2, .long l_2), (4, .long l_4)], [], h) =
  (rdI h a_0 15 2).bind fun i1 =>
  bif !(i1 == (60 : Int32)) then evR T_X15_is E 66 ([(0, .ref a_0), (2, .long l_2), (4, .long l_4)], [], h) else
  evR T_X15_is E 59 ([(0, .ref a_0), (2, .long l_2), (4, .long l_4)], [], h) := by
  rw [evR_eq ok_T_X15_is.loc (ops := b_X15_is_50) rfl]; rfl
theorem e_X15_is_59 (E : AEn) (a_0 : Nat) (l_2 : Int64) (l_4 : Int64) (h : AH) : evR T_X15_is E 59 ([(0, .ref a_0), (2, .long l_2), (4, .long l_4)], [], h) =
  bif decide ((lg_cmp l_2 l_4) < 0) then evR T_X15_is E 82 ([], [], h) else
  evR T_X15_is E 66 ([(0, .ref a_0), (2, .long l_2), (4, .long l_4)], [], h) := by
  rw [evR_eq ok_T_X15_is.loc (ops := b_X15_is_59) rfl]; rfl
theorem e_X15_is_66 (E : AEn) (a_0 : Nat) (l_2 : Int64) (l_4 : Int64) (h : AH) : evR T_X15_is E 66 ([(0, .ref a_0), (2, .long l_2), (4, .long l_4)], [], h) =
  (rdI h a_0 15 2).bind fun i1 =>
  bif !(i1 == (62 : Int32)) then evR T_X15_is E 86 ([], [], h) else
  evR T_X15_is E 75 ([(2, .long l_2), (4, .long l_4)], [], h) := by
  rw [evR_eq ok_T_X15_is.loc (ops := b_X15_is_66) rfl]; rfl
theorem e_X15_is_75 (E : AEn) (l_2 : Int64) (l_4 : Int64) (h : AH) : evR T_X15_is E 75 ([(2, .long l_2), (4, .long l_4)], [], h) =
  bif decide ((lg_cmp l_2 l_4) ≤ 0) then evR T_X15_is E 86 ([], [], h) else
  evR T_X15_is E 82 ([], [], h) := by
  rw [evR_eq ok_T_X15_is.loc (ops := b_X15_is_75) rfl]; rfl
theorem e_X15_is_82 (E : AEn)  (h : AH) : evR T_X15_is E 82 ([], [], h) =
  evR T_X15_is E 87 ([], [.int (1 : Int32)], h) := by
  rw [evR_eq ok_T_X15_is.loc (ops := b_X15_is_82) rfl]; rfl
theorem e_X15_is_86 (E : AEn)  (h : AH) : evR T_X15_is E 86 ([], [], h) =
  evR T_X15_is E 87 ([], [.int (0 : Int32)], h) := by
  rw [evR_eq ok_T_X15_is.loc (ops := b_X15_is_86) rfl]; rfl
theorem e_X15_is_87 (E : AEn) (si_0 : Int32) (h : AH) : evR T_X15_is E 87 ([], [.int si_0], h) =
  (bif si_0 == 0 || si_0 == 1 then some si_0 else none).bind fun i1 => some (.inl (some (.int i1)), h) := by
  rw [evR_eq ok_T_X15_is.loc (ops := b_X15_is_87) rfl]; rfl
theorem c_X15_is (d : Nat) (a_0 : Nat) (a_1 : Nat) (h : AH) : callR (d + 1) n_X15_is [.ref a_0, .ref a_1] h =
  bif isO h a_0 15 then evR T_X15_is (callR d) 0 ([(0, .ref a_0), (1, .ref a_1)], [], h) else none := by
  rw [callR_succ, show aMTl[n_X15_is]? = some (T_X15_is, [0, 1]) from rfl]; show (bif (isO h a_0 15) && true then _ else _) = _; rw [Bool.and_true]; rfl
theorem e_X16_init_0 (E : AEn) (a_0 : Nat) (a_1 : Nat) (a_2 : Nat) (i_3 : Int32) (h : AH) : evR T_X16_init E 0 ([(0, .ref a_0), (1, .ref a_1), (2, .ref a_2), (3, .int i_3)], [], h) =
  rV (E n_X13_init [.ref a_0] h) (fun h1 =>
  (wrF h1 a_0 16 0 (.ref a_1)).bind fun h2 =>
  (wrF h2 a_0 16 1 (.ref a_2)).bind fun h3 =>
  (bif i_3 == 0 || i_3 == 1 then wrF h3 a_0 16 2 (.int i_3) else none).bind fun h4 =>
  some (.inl none, h4)) thr := by
  rw [evR_eq ok_T_X16_init.loc (ops := b_X16_init_0) rfl]; rfl
theorem c_X16_init (d : Nat) (a_0 : Nat) (a_1 : Nat) (a_2 : Nat) (i_3 : Int32) (h : AH) : callR (d + 1) n_X16_init [.ref a_0, .ref a_1, .ref a_2, .int i_3] h =
  bif isO h a_0 16 then evR T_X16_init (callR d) 0 ([(0, .ref a_0), (1, .ref a_1), (2, .ref a_2), (3, .int i_3)], [], h) else none := by
  rw [callR_succ, show aMTl[n_X16_init]? = some (T_X16_init, [0, 1, 2, 3]) from rfl]; show (bif (isO h a_0 16) && true then _ else _) = _; rw [Bool.and_true]; rfl
theorem e_X16_is_0 (E : AEn) (a_0 : Nat) (a_1 : Nat) (h : AH) : evR T_X16_is E 0 ([(0, .ref a_0), (1, .ref a_1)], [], h) =
  (rdI h a_0 16 2).bind fun i1 =>
  bif i1 == 0 then evR T_X16_is E 37 ([(0, .ref a_0), (1, .ref a_1)], [], h) else
  evR T_X16_is E 7 ([(0, .ref a_0), (1, .ref a_1)], [], h) := by
  rw [evR_eq ok_T_X16_is.loc (ops := b_X16_is_0) rfl]; rfl
theorem e_X16_is_7 (E : AEn) (a_0 : Nat) (a_1 : Nat) (h : AH) : evR T_X16_is E 7 ([(0, .ref a_0), (1, .ref a_1)], [], h) =
  (rdR h a_0 16 0).bind fun r1 =>
  (vdis h [.ref r1, .ref a_1] [(14, 82), (15, 84), (16, 86)]).bind fun y3 =>
  rI (E y3 [.ref r1, .ref a_1] h) (fun i4 h2 =>
  bif !(i4 == 0) then evR T_X16_is E 29 ([], [], h2) else
  evR T_X16_is E 18 ([(0, .ref a_0), (1, .ref a_1)], [], h2)) thr := by
  rw [evR_eq ok_T_X16_is.loc (ops := b_X16_is_7) rfl]; rfl
theorem e_X16_is_18 (E : AEn) (a_0 : Nat) (a_1 : Nat) (h : AH) : evR T_X16_is E 18 ([(0, .ref a_0), (1, .ref a_1)], [], h) =
  (rdR h a_0 16 1).bind fun r1 =>
  (vdis h [.ref r1, .ref a_1] [(14, 82), (15, 84), (16, 86)]).bind fun y3 =>
  rI (E y3 [.ref r1, .ref a_1] h) (fun i4 h2 =>
  bif i4 == 0 then evR T_X16_is E 33 ([], [], h2) else
  evR T_X16_is E 29 ([], [], h2)) thr := by
  rw [evR_eq ok_T_X16_is.loc (ops := b_X16_is_18) rfl]; rfl
theorem e_X16_is_29 (E : AEn)  (h : AH) : evR T_X16_is E 29 ([], [], h) =
  evR T_X16_is E 64 ([], [.int (1 : Int32)], h) := by
  rw [evR_eq ok_T_X16_is.loc (ops := b_X16_is_29) rfl]; rfl
theorem e_X16_is_33 (E : AEn)  (h : AH) : evR T_X16_is E 33 ([], [], h) =
  evR T_X16_is E 64 ([], [.int (0 : Int32)], h) := by
  rw [evR_eq ok_T_X16_is.loc (ops := b_X16_is_33) rfl]; rfl
theorem e_X16_is_37 (E : AEn) (a_0 : Nat) (a_1 : Nat) (h : AH) : evR T_X16_is E 37 ([(0, .ref a_0), (1, .ref a_1)], [], h) =
  (rdR h a_0 16 0).bind fun r1 =>
  (vdis h [.ref r1, .ref a_1] [(14, 82), (15, 84), (16, 86)]).bind fun y3 =>
  rI (E y3 [.ref r1, .ref a_1] h) (fun i4 h2 =>
  bif i4 == 0 then evR T_X16_is E 63 ([], [], h2) else
  evR T_X16_is E 48 ([(0, .ref a_0), (1, .ref a_1)], [], h2)) thr := by
  rw [evR_eq ok_T_X16_is.loc (ops := b_X16_is_37) rfl]; rfl
theorem e_X16_is_48 (E : AEn) (a_0 : Nat) (a_1 : Nat) (h : AH) : evR T_X16_is E 48 ([(0, .ref a_0), (1, .ref a_1)], [], h) =
  (rdR h a_0 16 1).bind fun r1 =>
  (vdis h [.ref r1, .ref a_1] [(14, 82), (15, 84), (16, 86)]).bind fun y3 =>
  rI (E y3 [.ref r1, .ref a_1] h) (fun i4 h2 =>
  bif i4 == 0 then evR T_X16_is E 63 ([], [], h2) else
  evR T_X16_is E 59 ([], [], h2)) thr := by
  rw [evR_eq ok_T_X16_is.loc (ops := b_X16_is_48) rfl]; rfl
theorem e_X16_is_59 (E : AEn)  (h : AH) : evR T_X16_is E 59 ([], [], h) =
  evR T_X16_is E 64 ([], [.int (1 : Int32)], h) := by
  rw [evR_eq ok_T_X16_is.loc (ops := b_X16_is_59) rfl]; rfl
theorem e_X16_is_63 (E : AEn)  (h : AH) : evR T_X16_is E 63 ([], [], h) =
  evR T_X16_is E 64 ([], [.int (0 : Int32)], h) := by
  rw [evR_eq ok_T_X16_is.loc (ops := b_X16_is_63) rfl]; rfl
theorem e_X16_is_64 (E : AEn) (si_0 : Int32) (h : AH) : evR T_X16_is E 64 ([], [.int si_0], h) =
  (bif si_0 == 0 || si_0 == 1 then some si_0 else none).bind fun i1 => some (.inl (some (.int i1)), h) := by
  rw [evR_eq ok_T_X16_is.loc (ops := b_X16_is_64) rfl]; rfl
theorem c_X16_is (d : Nat) (a_0 : Nat) (a_1 : Nat) (h : AH) : callR (d + 1) n_X16_is [.ref a_0, .ref a_1] h =
  bif isO h a_0 16 then evR T_X16_is (callR d) 0 ([(0, .ref a_0), (1, .ref a_1)], [], h) else none := by
  rw [callR_succ, show aMTl[n_X16_is]? = some (T_X16_is, [0, 1]) from rfl]; show (bif (isO h a_0 16) && true then _ else _) = _; rw [Bool.and_true]; rfl
theorem e_X17_init_0 (E : AEn) (a_0 : Nat) (a_1 : Nat) (h : AH) : evR T_X17_init E 0 ([(0, .ref a_0), (1, .ref a_1)], [], h) =
  (wrF h a_0 13 7 (.ref a_1)).bind fun h1 =>
  rV (E n_X2_init [.ref h1.1] (hpush h1 10 (.inl (2, dF2)))) (fun h2 =>
  (wrF h2 a_0 13 1 (.ref h1.1)).bind fun h3 =>
  (wrF (hpush h3 10 (.inr (0, 10, .inl (fun _ => 0)))) a_0 13 2 (.ref h3.1)).bind fun h4 =>
  (wrF (hpush h4 10 (.inr (0, 10, .inl (fun _ => 0)))) a_0 13 3 (.ref h4.1)).bind fun h5 =>
  some (.inl none, h5)) thr := by
  rw [evR_eq ok_T_X17_init.loc (ops := b_X17_init_0) rfl]; rfl
theorem c_X17_init (d : Nat) (a_0 : Nat) (a_1 : Nat) (h : AH) : callR (d + 1) n_X17_init [.ref a_0, .ref a_1] h =
  bif isO h a_0 13 then evR T_X17_init (callR d) 0 ([(0, .ref a_0), (1, .ref a_1)], [], h) else none := by
  rw [callR_succ, show aMTl[n_X17_init]? = some (T_X17_init, [0, 1]) from rfl]; show (bif (isO h a_0 13) && true then _ else _) = _; rw [Bool.and_true]; rfl
theorem e_X17_keep_0 (E : AEn) (a_0 : Nat) (h : AH) : evR T_X17_keep E 0 ([(0, .ref a_0)], [], h) =
  (rdR h a_0 13 7).bind fun r1 =>
  (rdR h r1 0 0).bind fun r2 =>
  (wrF h a_0 13 0 (.ref r2)).bind fun h3 =>
  (rdR h3 a_0 13 1).bind fun r4 =>
  (rdR h3 a_0 13 7).bind fun r5 =>
  (rdR h3 r5 0 1).bind fun r6 =>
  rV (E n_X2_copyFrom [.ref r4, .ref r6] h3) (fun h7 =>
  evR T_X17_keep E 27 ([(0, .ref a_0), (1, .int (0 : Int32))], [], h7)) thr := by
  rw [evR_eq ok_T_X17_keep.loc (ops := b_X17_keep_0) rfl]; rfl
theorem e_X17_keep_27 (E : AEn) (a_0 : Nat) (i_1 : Int32) (h : AH) : evR T_X17_keep E 27 ([(0, .ref a_0), (1, .int i_1)], [], h) =
  bif decide ((10 : Int32) ≤ i_1) then evR T_X17_keep E 69 ([(0, .ref a_0)], [], h) else
  evR T_X17_keep E 33 ([(0, .ref a_0), (1, .int i_1)], [], h) := by
  rw [evR_eq ok_T_X17_keep.loc (ops := b_X17_keep_27) rfl]; rfl
theorem e_X17_keep_33 (E : AEn) (a_0 : Nat) (i_1 : Int32) (h : AH) : evR T_X17_keep E 33 ([(0, .ref a_0), (1, .int i_1)], [], h) =
  (rdR h a_0 13 2).bind fun r1 =>
  (rdR h a_0 13 7).bind fun r2 =>
  (rdR h r2 0 8).bind fun r3 =>
  (ldI h r3 0 i_1).bind fun i4 =>
  (stI h r1 0 i_1 i4).bind fun h5 =>
  (rdR h5 a_0 13 3).bind fun r6 =>
  (rdR h5 a_0 13 7).bind fun r7 =>
  (rdR h5 r7 0 9).bind fun r8 =>
  (ldI h5 r8 0 i_1).bind fun i9 =>
  (stI h5 r6 0 i_1 i9).bind fun h10 =>
  evR T_X17_keep E 27 ([(0, .ref a_0), (1, .int (i_1 + (1 : Int32)))], [], h10) := by
  rw [evR_eq ok_T_X17_keep.loc (ops := b_X17_keep_33) rfl]; rfl
theorem e_X17_keep_69 (E : AEn) (a_0 : Nat) (h : AH) : evR T_X17_keep E 69 ([(0, .ref a_0)], [], h) =
  (rdR h a_0 13 7).bind fun r1 =>
  (rdI h r1 0 10).bind fun i2 =>
  (wrF h a_0 13 4 (.int i2)).bind fun h3 =>
  (rdR h3 a_0 13 7).bind fun r4 =>
  (rdI h3 r4 0 4).bind fun i5 =>
  (wrF h3 a_0 13 5 (.int i5)).bind fun h6 =>
  (rdR h6 a_0 13 7).bind fun r7 =>
  (rdI h6 r7 0 11).bind fun i8 =>
  (wrF h6 a_0 13 6 (.int i8)).bind fun h9 =>
  some (.inl none, h9) := by
  rw [evR_eq ok_T_X17_keep.loc (ops := b_X17_keep_69) rfl]; rfl
theorem c_X17_keep (d : Nat) (a_0 : Nat) (h : AH) : callR (d + 1) n_X17_keep [.ref a_0] h =
  bif isO h a_0 13 then evR T_X17_keep (callR d) 0 ([(0, .ref a_0)], [], h) else none := by
  rw [callR_succ, show aMTl[n_X17_keep]? = some (T_X17_keep, [0]) from rfl]; show (bif (isO h a_0 13) && true then _ else _) = _; rw [Bool.and_true]; rfl
theorem e_X17_back_0 (E : AEn) (a_0 : Nat) (h : AH) : evR T_X17_back E 0 ([(0, .ref a_0)], [], h) =
  (rdR h a_0 13 7).bind fun r1 =>
  (rdR h a_0 13 0).bind fun r2 =>
  (wrF h r1 0 0 (.ref r2)).bind fun h3 =>
  (rdR h3 a_0 13 7).bind fun r4 =>
  (rdR h3 r4 0 1).bind fun r5 =>
  (rdR h3 a_0 13 1).bind fun r6 =>
  rV (E n_X2_copyFrom [.ref r5, .ref r6] h3) (fun h7 =>
  evR T_X17_back E 27 ([(0, .ref a_0), (1, .int (0 : Int32))], [], h7)) thr := by
  rw [evR_eq ok_T_X17_back.loc (ops := b_X17_back_0) rfl]; rfl
theorem e_X17_back_27 (E : AEn) (a_0 : Nat) (i_1 : Int32) (h : AH) : evR T_X17_back E 27 ([(0, .ref a_0), (1, .int i_1)], [], h) =
  bif decide ((10 : Int32) ≤ i_1) then evR T_X17_back E 69 ([(0, .ref a_0)], [], h) else
  evR T_X17_back E 33 ([(0, .ref a_0), (1, .int i_1)], [], h) := by
  rw [evR_eq ok_T_X17_back.loc (ops := b_X17_back_27) rfl]; rfl
theorem e_X17_back_33 (E : AEn) (a_0 : Nat) (i_1 : Int32) (h : AH) : evR T_X17_back E 33 ([(0, .ref a_0), (1, .int i_1)], [], h) =
  (rdR h a_0 13 7).bind fun r1 =>
  (rdR h r1 0 8).bind fun r2 =>
  (rdR h a_0 13 2).bind fun r3 =>
  (ldI h r3 0 i_1).bind fun i4 =>
  (stI h r2 0 i_1 i4).bind fun h5 =>
  (rdR h5 a_0 13 7).bind fun r6 =>
  (rdR h5 r6 0 9).bind fun r7 =>
  (rdR h5 a_0 13 3).bind fun r8 =>
  (ldI h5 r8 0 i_1).bind fun i9 =>
  (stI h5 r7 0 i_1 i9).bind fun h10 =>
  evR T_X17_back E 27 ([(0, .ref a_0), (1, .int (i_1 + (1 : Int32)))], [], h10) := by
  rw [evR_eq ok_T_X17_back.loc (ops := b_X17_back_33) rfl]; rfl
theorem e_X17_back_69 (E : AEn) (a_0 : Nat) (h : AH) : evR T_X17_back E 69 ([(0, .ref a_0)], [], h) =
  (rdR h a_0 13 7).bind fun r1 =>
  (rdI h a_0 13 4).bind fun i2 =>
  (wrF h r1 0 10 (.int i2)).bind fun h3 =>
  (rdR h3 a_0 13 7).bind fun r4 =>
  (rdI h3 a_0 13 5).bind fun i5 =>
  (wrF h3 r4 0 4 (.int i5)).bind fun h6 =>
  (rdR h6 a_0 13 7).bind fun r7 =>
  (rdI h6 a_0 13 6).bind fun i8 =>
  (wrF h6 r7 0 11 (.int i8)).bind fun h9 =>
  (rdR h9 a_0 13 7).bind fun r10 =>
  (wrF h9 r10 0 20 (.int (0 : Int32))).bind fun h11 =>
  some (.inl none, h11) := by
  rw [evR_eq ok_T_X17_back.loc (ops := b_X17_back_69) rfl]; rfl
theorem c_X17_back (d : Nat) (a_0 : Nat) (h : AH) : callR (d + 1) n_X17_back [.ref a_0] h =
  bif isO h a_0 13 then evR T_X17_back (callR d) 0 ([(0, .ref a_0)], [], h) else none := by
  rw [callR_succ, show aMTl[n_X17_back]? = some (T_X17_back, [0]) from rfl]; show (bif (isO h a_0 13) && true then _ else _) = _; rw [Bool.and_true]; rfl
