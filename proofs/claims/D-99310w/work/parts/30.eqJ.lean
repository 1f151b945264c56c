set_option maxRecDepth 100000
theorem e_J0_init_0 (E : AEn) (a_0 : Nat) (h : AH) : evR T_J0_init E 0 ([(0, .ref a_0)], [], h) =
  some (.inl none, h) := by
  rw [evR_eq ok_T_J0_init.loc (ops := b_J0_init_0) rfl]; rfl
theorem c_J0_init (d : Nat) (a_0 : Nat) (h : AH) : callR (d + 1) n_J0_init [.ref a_0] h =
  evR T_J0_init (callR d) 0 ([(0, .ref a_0)], [], h) := by
  rw [callR_succ, show aMTl[n_J0_init]? = some (T_J0_init, [0]) from rfl]; rfl
theorem e_J1_init_0 (E : AEn) (a_0 : Nat) (h : AH) : evR T_J1_init E 0 ([(0, .ref a_0)], [], h) =
  rV (E n_J0_init [.ref a_0] h) (fun h1 =>
  (wrF h1 a_0 8 0 (.int (0 : Int32))).bind fun h2 =>
  some (.inl none, h2)) thr := by
  rw [evR_eq ok_T_J1_init.loc (ops := b_J1_init_0) rfl]; rfl
theorem c_J1_init (d : Nat) (a_0 : Nat) (h : AH) : callR (d + 1) n_J1_init [.ref a_0] h =
  evR T_J1_init (callR d) 0 ([(0, .ref a_0)], [], h) := by
  rw [callR_succ, show aMTl[n_J1_init]? = some (T_J1_init, [0]) from rfl]; rfl
theorem e_J10_newLength_0 (E : AEn) (i_0 : Int32) (i_1 : Int32) (i_2 : Int32) (h : AH) : evR T_J10_newLength E 0 ([(0, .int i_0), (1, .int i_1), (2, .int i_2)], [], h) =
  bif decide ((i_0 + (if i_1 < i_2 then i_2 else i_1)) ≤ (0 : Int32)) then evR T_J10_newLength E 21 ([(0, .int i_0), (1, .int i_1)], [], h) else
  evR T_J10_newLength E 13 ([(0, .int i_0), (1, .int i_1), (3, .int (i_0 + (if i_1 < i_2 then i_2 else i_1)))], [], h) := by
  rw [evR_eq ok_T_J10_newLength.loc (ops := b_J10_newLength_0) rfl]; rfl
theorem e_J10_newLength_13 (E : AEn) (i_0 : Int32) (i_1 : Int32) (i_3 : Int32) (h : AH) : evR T_J10_newLength E 13 ([(0, .int i_0), (1, .int i_1), (3, .int i_3)], [], h) =
  bif decide ((2147483639 : Int32) < i_3) then evR T_J10_newLength E 21 ([(0, .int i_0), (1, .int i_1)], [], h) else
  evR T_J10_newLength E 19 ([(3, .int i_3)], [], h) := by
  rw [evR_eq ok_T_J10_newLength.loc (ops := b_J10_newLength_13) rfl]; rfl
theorem e_J10_newLength_19 (E : AEn) (i_3 : Int32) (h : AH) : evR T_J10_newLength E 19 ([(3, .int i_3)], [], h) =
  some (.inl (some (.int i_3)), h) := by
  rw [evR_eq ok_T_J10_newLength.loc (ops := b_J10_newLength_19) rfl]; rfl
theorem e_J10_newLength_21 (E : AEn) (i_0 : Int32) (i_1 : Int32) (h : AH) : evR T_J10_newLength E 21 ([(0, .int i_0), (1, .int i_1)], [], h) =
  rI (E n_J10_hugeLength [.int i_0, .int i_1] h) (fun i2 h1 =>
  some (.inl (some (.int i2)), h1)) thr := by
  rw [evR_eq ok_T_J10_newLength.loc (ops := b_J10_newLength_21) rfl]; rfl
theorem c_J10_newLength (d : Nat) (i_0 : Int32) (i_1 : Int32) (i_2 : Int32) (h : AH) : callR (d + 1) n_J10_newLength [.int i_0, .int i_1, .int i_2] h =
  evR T_J10_newLength (callR d) 0 ([(0, .int i_0), (1, .int i_1), (2, .int i_2)], [], h) := by
  rw [callR_succ, show aMTl[n_J10_newLength]? = some (T_J10_newLength, [0, 1, 2]) from rfl]; rfl
theorem e_J10_hugeLength_0 (E : AEn) (i_0 : Int32) (i_1 : Int32) (h : AH) : evR T_J10_hugeLength E 0 ([(0, .int i_0), (1, .int i_1)], [], h) =
  bif decide (0 ≤ (i_0 + i_1)) then evR T_J10_hugeLength E 49 ([(2, .int (i_0 + i_1))], [], h) else
  evR T_J10_hugeLength E 8 ([(0, .int i_0), (1, .int i_1)], [], h) := by
  rw [evR_eq ok_T_J10_hugeLength.loc (ops := b_J10_hugeLength_0) rfl]; rfl
theorem e_J10_hugeLength_8 (E : AEn) (i_0 : Int32) (i_1 : Int32) (h : AH) : evR T_J10_hugeLength E 8 ([(0, .int i_0), (1, .int i_1)], [], h) =
  none := by
  rw [evR_eq ok_T_J10_hugeLength.loc (ops := b_J10_hugeLength_8) rfl]; rfl
theorem e_J10_hugeLength_49 (E : AEn) (i_2 : Int32) (h : AH) : evR T_J10_hugeLength E 49 ([(2, .int i_2)], [], h) =
  bif decide ((2147483639 : Int32) < i_2) then evR T_J10_hugeLength E 58 ([(2, .int i_2)], [], h) else
  evR T_J10_hugeLength E 55 ([], [], h) := by
  rw [evR_eq ok_T_J10_hugeLength.loc (ops := b_J10_hugeLength_49) rfl]; rfl
theorem e_J10_hugeLength_55 (E : AEn)  (h : AH) : evR T_J10_hugeLength E 55 ([], [], h) =
  some (.inl (some (.int (2147483639 : Int32))), h) := by
  rw [evR_eq ok_T_J10_hugeLength.loc (ops := b_J10_hugeLength_55) rfl]; rfl
theorem e_J10_hugeLength_58 (E : AEn) (i_2 : Int32) (h : AH) : evR T_J10_hugeLength E 58 ([(2, .int i_2)], [], h) =
  some (.inl (some (.int i_2)), h) := by
  rw [evR_eq ok_T_J10_hugeLength.loc (ops := b_J10_hugeLength_58) rfl]; rfl
theorem c_J10_hugeLength (d : Nat) (i_0 : Int32) (i_1 : Int32) (h : AH) : callR (d + 1) n_J10_hugeLength [.int i_0, .int i_1] h =
  evR T_J10_hugeLength (callR d) 0 ([(0, .int i_0), (1, .int i_1)], [], h) := by
  rw [callR_succ, show aMTl[n_J10_hugeLength]? = some (T_J10_hugeLength, [0, 1]) from rfl]; rfl
theorem e_J12_copyOf_0 (E : AEn) (a_0 : Nat) (i_1 : Int32) (h : AH) : evR T_J12_copyOf E 0 ([(0, .ref a_0), (1, .int i_1)], [], h) =
  (clP h a_0).bind fun p1 =>
  rR (E n_J12_copyOf_2 [.ref a_0, .int i_1, .retAddr p1] h) (fun r3 h2 =>
  some (.inl (some (.ref r3)), h2)) thr := by
  rw [evR_eq ok_T_J12_copyOf.loc (ops := b_J12_copyOf_0) rfl]; rfl
theorem c_J12_copyOf (d : Nat) (a_0 : Nat) (i_1 : Int32) (h : AH) : callR (d + 1) n_J12_copyOf [.ref a_0, .int i_1] h =
  evR T_J12_copyOf (callR d) 0 ([(0, .ref a_0), (1, .int i_1)], [], h) := by
  rw [callR_succ, show aMTl[n_J12_copyOf]? = some (T_J12_copyOf, [0, 1]) from rfl]; rfl
theorem e_J12_copyOf_2_0 (E : AEn) (a_0 : Nat) (i_1 : Int32) (p_2 : Nat) (h : AH) : evR T_J12_copyOf_2 E 0 ([(0, .ref a_0), (1, .int i_1), (2, .retAddr p_2)], [], h) =
  (prP p_2).bind fun _ =>
  (bif (301 : Nat) == p_2 && isP 301 then some () else none).bind fun (_ : Unit) =>
  (mkN i_1).bind fun n1 =>
  evR T_J12_copyOf_2 E 24 ([(0, .ref a_0), (1, .int i_1)], [.ref h.1], (hpush h n1 (.inr (4, n1, .inr (.inr (fun _ => none)))))) := by
  rw [evR_eq ok_T_J12_copyOf_2.loc (ops := b_J12_copyOf_2_0) rfl]; rfl
theorem e_J12_copyOf_2_24 (E : AEn) (a_0 : Nat) (i_1 : Int32) (sa_0 : Nat) (h : AH) : evR T_J12_copyOf_2 E 24 ([(0, .ref a_0), (1, .int i_1)], [.ref sa_0], h) =
  (alen h a_0).bind fun i1 =>
  (cpQ h a_0 (0 : Int32) sa_0 (0 : Int32) (if i_1 < i1 then i_1 else i1)).bind fun h2 =>
  some (.inl (some (.ref sa_0)), h2) := by
  rw [evR_eq ok_T_J12_copyOf_2.loc (ops := b_J12_copyOf_2_24) rfl]; rfl
theorem c_J12_copyOf_2 (d : Nat) (a_0 : Nat) (i_1 : Int32) (p_2 : Nat) (h : AH) : callR (d + 1) n_J12_copyOf_2 [.ref a_0, .int i_1, .retAddr p_2] h =
  evR T_J12_copyOf_2 (callR d) 0 ([(0, .ref a_0), (1, .int i_1), (2, .retAddr p_2)], [], h) := by
  rw [callR_succ, show aMTl[n_J12_copyOf_2]? = some (T_J12_copyOf_2, [0, 1, 2]) from rfl]; rfl
theorem e_J13_checkIndex_0 (E : AEn) (i_0 : Int32) (i_1 : Int32) (h : AH) : evR T_J13_checkIndex E 0 ([(0, .int i_0), (1, .int i_1)], [], h) =
  rI (E n_J7_checkIndex [.int i_0, .int i_1, .null] h) (fun i2 h1 =>
  some (.inl (some (.int i2)), h1)) thr := by
  rw [evR_eq ok_T_J13_checkIndex.loc (ops := b_J13_checkIndex_0) rfl]; rfl
theorem c_J13_checkIndex (d : Nat) (i_0 : Int32) (i_1 : Int32) (h : AH) : callR (d + 1) n_J13_checkIndex [.int i_0, .int i_1] h =
  evR T_J13_checkIndex (callR d) 0 ([(0, .int i_0), (1, .int i_1)], [], h) := by
  rw [callR_succ, show aMTl[n_J13_checkIndex]? = some (T_J13_checkIndex, [0, 1]) from rfl]; rfl
theorem e_J14_bitCount_0 (E : AEn) (i_0 : Int32) (h : AH) : evR T_J14_bitCount E 0 ([(0, .int i_0)], [], h) =
  some (.inl (some (.int ((((((((i_0 - (((i_0.toUInt32 >>> ((1 : Int32).toUInt32 &&& Int32.toUInt32 31)).toInt32) &&& (1431655765 : Int32))) &&& (858993459 : Int32)) + ((((i_0 - (((i_0.toUInt32 >>> ((1 : Int32).toUInt32 &&& Int32.toUInt32 31)).toInt32) &&& (1431655765 : Int32))).toUInt32 >>> ((2 : Int32).toUInt32 &&& Int32.toUInt32 31)).toInt32) &&& (858993459 : Int32))) + (((((i_0 - (((i_0.toUInt32 >>> ((1 : Int32).toUInt32 &&& Int32.toUInt32 31)).toInt32) &&& (1431655765 : Int32))) &&& (858993459 : Int32)) + ((((i_0 - (((i_0.toUInt32 >>> ((1 : Int32).toUInt32 &&& Int32.toUInt32 31)).toInt32) &&& (1431655765 : Int32))).toUInt32 >>> ((2 : Int32).toUInt32 &&& Int32.toUInt32 31)).toInt32) &&& (858993459 : Int32))).toUInt32 >>> ((4 : Int32).toUInt32 &&& Int32.toUInt32 31)).toInt32)) &&& (252645135 : Int32)) + (((((((i_0 - (((i_0.toUInt32 >>> ((1 : Int32).toUInt32 &&& Int32.toUInt32 31)).toInt32) &&& (1431655765 : Int32))) &&& (858993459 : Int32)) + ((((i_0 - (((i_0.toUInt32 >>> ((1 : Int32).toUInt32 &&& Int32.toUInt32 31)).toInt32) &&& (1431655765 : Int32))).toUInt32 >>> ((2 : Int32).toUInt32 &&& Int32.toUInt32 31)).toInt32) &&& (858993459 : Int32))) + (((((i_0 - (((i_0.toUInt32 >>> ((1 : Int32).toUInt32 &&& Int32.toUInt32 31)).toInt32) &&& (1431655765 : Int32))) &&& (858993459 : Int32)) + ((((i_0 - (((i_0.toUInt32 >>> ((1 : Int32).toUInt32 &&& Int32.toUInt32 31)).toInt32) &&& (1431655765 : Int32))).toUInt32 >>> ((2 : Int32).toUInt32 &&& Int32.toUInt32 31)).toInt32) &&& (858993459 : Int32))).toUInt32 >>> ((4 : Int32).toUInt32 &&& Int32.toUInt32 31)).toInt32)) &&& (252645135 : Int32)).toUInt32 >>> ((8 : Int32).toUInt32 &&& Int32.toUInt32 31)).toInt32)) + ((((((((i_0 - (((i_0.toUInt32 >>> ((1 : Int32).toUInt32 &&& Int32.toUInt32 31)).toInt32) &&& (1431655765 : Int32))) &&& (858993459 : Int32)) + ((((i_0 - (((i_0.toUInt32 >>> ((1 : Int32).toUInt32 &&& Int32.toUInt32 31)).toInt32) &&& (1431655765 : Int32))).toUInt32 >>> ((2 : Int32).toUInt32 &&& Int32.toUInt32 31)).toInt32) &&& (858993459 : Int32))) + (((((i_0 - (((i_0.toUInt32 >>> ((1 : Int32).toUInt32 &&& Int32.toUInt32 31)).toInt32) &&& (1431655765 : Int32))) &&& (858993459 : Int32)) + ((((i_0 - (((i_0.toUInt32 >>> ((1 : Int32).toUInt32 &&& Int32.toUInt32 31)).toInt32) &&& (1431655765 : Int32))).toUInt32 >>> ((2 : Int32).toUInt32 &&& Int32.toUInt32 31)).toInt32) &&& (858993459 : Int32))).toUInt32 >>> ((4 : Int32).toUInt32 &&& Int32.toUInt32 31)).toInt32)) &&& (252645135 : Int32)) + (((((((i_0 - (((i_0.toUInt32 >>> ((1 : Int32).toUInt32 &&& Int32.toUInt32 31)).toInt32) &&& (1431655765 : Int32))) &&& (858993459 : Int32)) + ((((i_0 - (((i_0.toUInt32 >>> ((1 : Int32).toUInt32 &&& Int32.toUInt32 31)).toInt32) &&& (1431655765 : Int32))).toUInt32 >>> ((2 : Int32).toUInt32 &&& Int32.toUInt32 31)).toInt32) &&& (858993459 : Int32))) + (((((i_0 - (((i_0.toUInt32 >>> ((1 : Int32).toUInt32 &&& Int32.toUInt32 31)).toInt32) &&& (1431655765 : Int32))) &&& (858993459 : Int32)) + ((((i_0 - (((i_0.toUInt32 >>> ((1 : Int32).toUInt32 &&& Int32.toUInt32 31)).toInt32) &&& (1431655765 : Int32))).toUInt32 >>> ((2 : Int32).toUInt32 &&& Int32.toUInt32 31)).toInt32) &&& (858993459 : Int32))).toUInt32 >>> ((4 : Int32).toUInt32 &&& Int32.toUInt32 31)).toInt32)) &&& (252645135 : Int32)).toUInt32 >>> ((8 : Int32).toUInt32 &&& Int32.toUInt32 31)).toInt32)).toUInt32 >>> ((16 : Int32).toUInt32 &&& Int32.toUInt32 31)).toInt32)) &&& (63 : Int32)))), h) := by
  rw [evR_eq ok_T_J14_bitCount.loc (ops := b_J14_bitCount_0) rfl]; rfl
theorem c_J14_bitCount (d : Nat) (i_0 : Int32) (h : AH) : callR (d + 1) n_J14_bitCount [.int i_0] h =
  evR T_J14_bitCount (callR d) 0 ([(0, .int i_0)], [], h) := by
  rw [callR_succ, show aMTl[n_J14_bitCount]? = some (T_J14_bitCount, [0]) from rfl]; rfl
theorem e_J2_init_0 (E : AEn) (a_0 : Nat) (i_1 : Int32) (h : AH) : evR T_J2_init E 0 ([(0, .ref a_0), (1, .int i_1)], [], h) =
  rV (E n_J1_init [.ref a_0] h) (fun h1 =>
  bif decide (i_1 ≤ 0) then evR T_J2_init E 19 ([(0, .ref a_0), (1, .int i_1)], [], h1) else
  evR T_J2_init E 8 ([(0, .ref a_0), (1, .int i_1)], [], h1)) thr := by
  rw [evR_eq ok_T_J2_init.loc (ops := b_J2_init_0) rfl]; rfl
theorem e_J2_init_8 (E : AEn) (a_0 : Nat) (i_1 : Int32) (h : AH) : evR T_J2_init E 8 ([(0, .ref a_0), (1, .int i_1)], [], h) =
  (mkN i_1).bind fun n1 =>
  (wrF (hpush h n1 (.inr (4, n1, .inr (.inr (fun _ => none))))) a_0 8 1 (.ref h.1)).bind fun h2 =>
  evR T_J2_init E 60 ([], [], h2) := by
  rw [evR_eq ok_T_J2_init.loc (ops := b_J2_init_8) rfl]; rfl
theorem e_J2_init_19 (E : AEn) (a_0 : Nat) (i_1 : Int32) (h : AH) : evR T_J2_init E 19 ([(0, .ref a_0), (1, .int i_1)], [], h) =
  bif !(i_1 == 0) then evR T_J2_init E 33 ([(1, .int i_1)], [], h) else
  evR T_J2_init E 23 ([(0, .ref a_0)], [], h) := by
  rw [evR_eq ok_T_J2_init.loc (ops := b_J2_init_19) rfl]; rfl
theorem e_J2_init_23 (E : AEn) (a_0 : Nat) (h : AH) : evR T_J2_init E 23 ([(0, .ref a_0)], [], h) =
  none := by
  rw [evR_eq ok_T_J2_init.loc (ops := b_J2_init_23) rfl]; rfl
theorem e_J2_init_33 (E : AEn) (i_1 : Int32) (h : AH) : evR T_J2_init E 33 ([(1, .int i_1)], [], h) =
  none := by
  rw [evR_eq ok_T_J2_init.loc (ops := b_J2_init_33) rfl]; rfl
theorem e_J2_init_60 (E : AEn)  (h : AH) : evR T_J2_init E 60 ([], [], h) =
  some (.inl none, h) := by
  rw [evR_eq ok_T_J2_init.loc (ops := b_J2_init_60) rfl]; rfl
theorem c_J2_init (d : Nat) (a_0 : Nat) (i_1 : Int32) (h : AH) : callR (d + 1) n_J2_init [.ref a_0, .int i_1] h =
  bif isO h a_0 8 then evR T_J2_init (callR d) 0 ([(0, .ref a_0), (1, .int i_1)], [], h) else none := by
  rw [callR_succ, show aMTl[n_J2_init]? = some (T_J2_init, [0, 1]) from rfl]; show (bif (isO h a_0 8) && true then _ else _) = _; rw [Bool.and_true]; rfl
theorem e_J2_size_0 (E : AEn) (a_0 : Nat) (h : AH) : evR T_J2_size E 0 ([(0, .ref a_0)], [], h) =
  (rdI h a_0 8 2).bind fun i1 =>
  some (.inl (some (.int i1)), h) := by
  rw [evR_eq ok_T_J2_size.loc (ops := b_J2_size_0) rfl]; rfl
theorem c_J2_size (d : Nat) (a_0 : Nat) (h : AH) : callR (d + 1) n_J2_size [.ref a_0] h =
  bif isO h a_0 8 then evR T_J2_size (callR d) 0 ([(0, .ref a_0)], [], h) else none := by
  rw [callR_succ, show aMTl[n_J2_size]? = some (T_J2_size, [0]) from rfl]; show (bif (isO h a_0 8) && true then _ else _) = _; rw [Bool.and_true]; rfl
theorem e_J2_add_0 (E : AEn) (a_0 : Nat) (a_1 : Nat) (h : AH) : evR T_J2_add E 0 ([(0, .ref a_0), (1, .ref a_1)], [], h) =
  (rdI h a_0 8 0).bind fun i1 =>
  (wrF h a_0 8 0 (.int (i1 + (1 : Int32)))).bind fun h2 =>
  (rdR h2 a_0 8 1).bind fun r3 =>
  (rdI h2 a_0 8 2).bind fun i4 =>
  rV (E n_J2_add_2 [.ref a_0, .ref a_1, .ref r3, .int i4] h2) (fun h5 =>
  some (.inl (some (.int (1 : Int32))), h5)) thr := by
  rw [evR_eq ok_T_J2_add.loc (ops := b_J2_add_0) rfl]; rfl
theorem c_J2_add (d : Nat) (a_0 : Nat) (a_1 : Nat) (h : AH) : callR (d + 1) n_J2_add [.ref a_0, .ref a_1] h =
  bif isO h a_0 8 then evR T_J2_add (callR d) 0 ([(0, .ref a_0), (1, .ref a_1)], [], h) else none := by
  rw [callR_succ, show aMTl[n_J2_add]? = some (T_J2_add, [0, 1]) from rfl]; show (bif (isO h a_0 8) && true then _ else _) = _; rw [Bool.and_true]; rfl
theorem e_J2_add_2_0 (E : AEn) (a_0 : Nat) (a_1 : Nat) (a_2 : Nat) (i_3 : Int32) (h : AH) : evR T_J2_add_2 E 0 ([(0, .ref a_0), (1, .ref a_1), (2, .ref a_2), (3, .int i_3)], [], h) =
  (alen h a_2).bind fun i1 =>
  bif !(i_3 == i1) then evR T_J2_add_2 E 11 ([(0, .ref a_0), (1, .ref a_1), (2, .ref a_2), (3, .int i_3)], [], h) else
  evR T_J2_add_2 E 6 ([(0, .ref a_0), (1, .ref a_1), (3, .int i_3)], [], h) := by
  rw [evR_eq ok_T_J2_add_2.loc (ops := b_J2_add_2_0) rfl]; rfl
theorem e_J2_add_2_6 (E : AEn) (a_0 : Nat) (a_1 : Nat) (i_3 : Int32) (h : AH) : evR T_J2_add_2 E 6 ([(0, .ref a_0), (1, .ref a_1), (3, .int i_3)], [], h) =
  rR (E n_J2_grow [.ref a_0] h) (fun r2 h1 =>
  evR T_J2_add_2 E 11 ([(0, .ref a_0), (1, .ref a_1), (2, .ref r2), (3, .int i_3)], [], h1)) thr := by
  rw [evR_eq ok_T_J2_add_2.loc (ops := b_J2_add_2_6) rfl]; rfl
theorem e_J2_add_2_11 (E : AEn) (a_0 : Nat) (a_1 : Nat) (a_2 : Nat) (i_3 : Int32) (h : AH) : evR T_J2_add_2 E 11 ([(0, .ref a_0), (1, .ref a_1), (2, .ref a_2), (3, .int i_3)], [], h) =
  (stR h a_2 4 i_3 a_1).bind fun h1 =>
  (wrF h1 a_0 8 2 (.int (i_3 + (1 : Int32)))).bind fun h2 =>
  some (.inl none, h2) := by
  rw [evR_eq ok_T_J2_add_2.loc (ops := b_J2_add_2_11) rfl]; rfl
theorem c_J2_add_2 (d : Nat) (a_0 : Nat) (a_1 : Nat) (a_2 : Nat) (i_3 : Int32) (h : AH) : callR (d + 1) n_J2_add_2 [.ref a_0, .ref a_1, .ref a_2, .int i_3] h =
  bif isO h a_0 8 then evR T_J2_add_2 (callR d) 0 ([(0, .ref a_0), (1, .ref a_1), (2, .ref a_2), (3, .int i_3)], [], h) else none := by
  rw [callR_succ, show aMTl[n_J2_add_2]? = some (T_J2_add_2, [0, 1, 2, 3]) from rfl]; show (bif (isO h a_0 8) && true then _ else _) = _; rw [Bool.and_true]; rfl
theorem e_J2_grow_0 (E : AEn) (a_0 : Nat) (h : AH) : evR T_J2_grow E 0 ([(0, .ref a_0)], [], h) =
  (rdI h a_0 8 2).bind fun i1 =>
  rR (E n_J2_grow_2 [.ref a_0, .int (i1 + (1 : Int32))] h) (fun r3 h2 =>
  some (.inl (some (.ref r3)), h2)) thr := by
  rw [evR_eq ok_T_J2_grow.loc (ops := b_J2_grow_0) rfl]; rfl
theorem c_J2_grow (d : Nat) (a_0 : Nat) (h : AH) : callR (d + 1) n_J2_grow [.ref a_0] h =
  bif isO h a_0 8 then evR T_J2_grow (callR d) 0 ([(0, .ref a_0)], [], h) else none := by
  rw [callR_succ, show aMTl[n_J2_grow]? = some (T_J2_grow, [0]) from rfl]; show (bif (isO h a_0 8) && true then _ else _) = _; rw [Bool.and_true]; rfl
theorem e_J2_grow_2_0 (E : AEn) (a_0 : Nat) (i_1 : Int32) (h : AH) : evR T_J2_grow_2 E 0 ([(0, .ref a_0), (1, .int i_1)], [], h) =
  (rdR h a_0 8 1).bind fun r1 =>
  (alen h r1).bind fun i2 =>
  bif decide (0 < i2) then evR T_J2_grow_2 E 20 ([(0, .ref a_0), (1, .int i_1), (2, .int i2)], [], h) else
  evR T_J2_grow_2 E 10 ([(0, .ref a_0), (1, .int i_1), (2, .int i2)], [], h) := by
  rw [evR_eq ok_T_J2_grow_2.loc (ops := b_J2_grow_2_0) rfl]; rfl
theorem e_J2_grow_2_10 (E : AEn) (a_0 : Nat) (i_1 : Int32) (i_2 : Int32) (h : AH) : evR T_J2_grow_2 E 10 ([(0, .ref a_0), (1, .int i_1), (2, .int i_2)], [], h) =
  (rdR h a_0 8 1).bind fun r1 =>
  none := by
  rw [evR_eq ok_T_J2_grow_2.loc (ops := b_J2_grow_2_10) rfl]; rfl
theorem e_J2_grow_2_20 (E : AEn) (a_0 : Nat) (i_1 : Int32) (i_2 : Int32) (h : AH) : evR T_J2_grow_2 E 20 ([(0, .ref a_0), (1, .int i_1), (2, .int i_2)], [], h) =
  rI (E n_J10_newLength [.int i_2, .int (i_1 - i_2), .int (i_2 >>> ((1 : Int32) &&& 31))] h) (fun i2 h1 =>
  (rdR h1 a_0 8 1).bind fun r3 =>
  rR (E n_J12_copyOf [.ref r3, .int i2] h1) (fun r5 h4 =>
  (wrF h4 a_0 8 1 (.ref r5)).bind fun h6 =>
  some (.inl (some (.ref r5)), h6)) thr) thr := by
  rw [evR_eq ok_T_J2_grow_2.loc (ops := b_J2_grow_2_20) rfl]; rfl
theorem c_J2_grow_2 (d : Nat) (a_0 : Nat) (i_1 : Int32) (h : AH) : callR (d + 1) n_J2_grow_2 [.ref a_0, .int i_1] h =
  bif isO h a_0 8 then evR T_J2_grow_2 (callR d) 0 ([(0, .ref a_0), (1, .int i_1)], [], h) else none := by
  rw [callR_succ, show aMTl[n_J2_grow_2]? = some (T_J2_grow_2, [0, 1]) from rfl]; show (bif (isO h a_0 8) && true then _ else _) = _; rw [Bool.and_true]; rfl
theorem e_J2_get_0 (E : AEn) (a_0 : Nat) (i_1 : Int32) (h : AH) : evR T_J2_get E 0 ([(0, .ref a_0), (1, .int i_1)], [], h) =
  (rdI h a_0 8 2).bind fun i1 =>
  rI (E n_J13_checkIndex [.int i_1, .int i1] h) (fun i3 h2 =>
  rR (E n_J2_elementData [.ref a_0, .int i_1] h2) (fun r5 h4 =>
  some (.inl (some (.ref r5)), h4)) thr) thr := by
  rw [evR_eq ok_T_J2_get.loc (ops := b_J2_get_0) rfl]; rfl
theorem c_J2_get (d : Nat) (a_0 : Nat) (i_1 : Int32) (h : AH) : callR (d + 1) n_J2_get [.ref a_0, .int i_1] h =
  bif isO h a_0 8 then evR T_J2_get (callR d) 0 ([(0, .ref a_0), (1, .int i_1)], [], h) else none := by
  rw [callR_succ, show aMTl[n_J2_get]? = some (T_J2_get, [0, 1]) from rfl]; show (bif (isO h a_0 8) && true then _ else _) = _; rw [Bool.and_true]; rfl
theorem e_J2_elementData_0 (E : AEn) (a_0 : Nat) (i_1 : Int32) (h : AH) : evR T_J2_elementData E 0 ([(0, .ref a_0), (1, .int i_1)], [], h) =
  (rdR h a_0 8 1).bind fun r1 =>
  (ldR h r1 4 i_1).bind fun r2 =>
  some (.inl (some (.ref r2)), h) := by
  rw [evR_eq ok_T_J2_elementData.loc (ops := b_J2_elementData_0) rfl]; rfl
theorem c_J2_elementData (d : Nat) (a_0 : Nat) (i_1 : Int32) (h : AH) : callR (d + 1) n_J2_elementData [.ref a_0, .int i_1] h =
  bif isO h a_0 8 then evR T_J2_elementData (callR d) 0 ([(0, .ref a_0), (1, .int i_1)], [], h) else none := by
  rw [callR_succ, show aMTl[n_J2_elementData]? = some (T_J2_elementData, [0, 1]) from rfl]; show (bif (isO h a_0 8) && true then _ else _) = _; rw [Bool.and_true]; rfl
theorem e_J5_length_0 (E : AEn) (p_0 : Nat) (h : AH) : evR T_J5_length E 0 ([(0, .retAddr p_0)], [], h) =
  (prP p_0).bind fun _ =>
  (txV p_0).bind fun p1 =>
  (plen p1).bind fun i2 =>
  (prP p_0).bind fun _ =>
  rI (E n_J5_coder [.retAddr p_0] h) (fun i4 h3 =>
  some (.inl (some (.int (i2 >>> (i4 &&& 31)))), h3)) thr := by
  rw [evR_eq ok_T_J5_length.loc (ops := b_J5_length_0) rfl]; rfl
theorem c_J5_length (d : Nat) (p_0 : Nat) (h : AH) : callR (d + 1) n_J5_length [.retAddr p_0] h =
  bif decide (p_0 < 20) then evR T_J5_length (callR d) 0 ([(0, .retAddr p_0)], [], h) else none := by
  rw [callR_succ, show aMTl[n_J5_length]? = some (T_J5_length, [0]) from rfl]; show (bif (99 == 99 && decide (p_0 < 20)) && true then _ else _) = _; rw [Bool.and_true]; rfl
theorem e_J5_coder_0 (E : AEn) (p_0 : Nat) (h : AH) : evR T_J5_coder E 0 ([(0, .retAddr p_0)], [], h) =
  bif (1 : Int32) == 0 then evR T_J5_coder E 13 ([], [], h) else
  evR T_J5_coder E 6 ([(0, .retAddr p_0)], [], h) := by
  rw [evR_eq ok_T_J5_coder.loc (ops := b_J5_coder_0) rfl]; rfl
theorem e_J5_coder_6 (E : AEn) (p_0 : Nat) (h : AH) : evR T_J5_coder E 6 ([(0, .retAddr p_0)], [], h) =
  (prP p_0).bind fun _ =>
  (txC p_0).bind fun _ =>
  evR T_J5_coder E 14 ([], [.int (0 : Int32)], h) := by
  rw [evR_eq ok_T_J5_coder.loc (ops := b_J5_coder_6) rfl]; rfl
theorem e_J5_coder_13 (E : AEn)  (h : AH) : evR T_J5_coder E 13 ([], [], h) =
  evR T_J5_coder E 14 ([], [.int (1 : Int32)], h) := by
  rw [evR_eq ok_T_J5_coder.loc (ops := b_J5_coder_13) rfl]; rfl
theorem e_J5_coder_14 (E : AEn) (si_0 : Int32) (h : AH) : evR T_J5_coder E 14 ([], [.int si_0], h) =
  (bif si_0.toInt8.toInt32 == si_0 then some si_0 else none).bind fun i1 => some (.inl (some (.int i1)), h) := by
  rw [evR_eq ok_T_J5_coder.loc (ops := b_J5_coder_14) rfl]; rfl
theorem c_J5_coder (d : Nat) (p_0 : Nat) (h : AH) : callR (d + 1) n_J5_coder [.retAddr p_0] h =
  bif decide (p_0 < 20) then evR T_J5_coder (callR d) 0 ([(0, .retAddr p_0)], [], h) else none := by
  rw [callR_succ, show aMTl[n_J5_coder]? = some (T_J5_coder, [0]) from rfl]; show (bif (99 == 99 && decide (p_0 < 20)) && true then _ else _) = _; rw [Bool.and_true]; rfl
theorem e_J5_charAt_0 (E : AEn) (p_0 : Nat) (i_1 : Int32) (h : AH) : evR T_J5_charAt E 0 ([(0, .retAddr p_0), (1, .int i_1)], [], h) =
  (prP p_0).bind fun _ =>
  rI (E n_J5_isLatin1 [.retAddr p_0] h) (fun i2 h1 =>
  bif i2 == 0 then evR T_J5_charAt E 16 ([(0, .retAddr p_0), (1, .int i_1)], [], h1) else
  evR T_J5_charAt E 7 ([(0, .retAddr p_0), (1, .int i_1)], [], h1)) thr := by
  rw [evR_eq ok_T_J5_charAt.loc (ops := b_J5_charAt_0) rfl]; rfl
theorem e_J5_charAt_7 (E : AEn) (p_0 : Nat) (i_1 : Int32) (h : AH) : evR T_J5_charAt E 7 ([(0, .retAddr p_0), (1, .int i_1)], [], h) =
  (prP p_0).bind fun _ =>
  (txV p_0).bind fun p1 =>
  rI (E n_J6_charAt [.retAddr p1, .int i_1] h) (fun i3 h2 =>
  (bif i3.toUInt32.toUInt16.toUInt32.toInt32 == i3 then some i3 else none).bind fun i4 => some (.inl (some (.int i4)), h2)) thr := by
  rw [evR_eq ok_T_J5_charAt.loc (ops := b_J5_charAt_7) rfl]; rfl
theorem e_J5_charAt_16 (E : AEn) (p_0 : Nat) (i_1 : Int32) (h : AH) : evR T_J5_charAt E 16 ([(0, .retAddr p_0), (1, .int i_1)], [], h) =
  (prP p_0).bind fun _ =>
  (txV p_0).bind fun p1 =>
  rI (E n_J8_charAt [.retAddr p1, .int i_1] h) (fun i3 h2 =>
  (bif i3.toUInt32.toUInt16.toUInt32.toInt32 == i3 then some i3 else none).bind fun i4 => some (.inl (some (.int i4)), h2)) thr := by
  rw [evR_eq ok_T_J5_charAt.loc (ops := b_J5_charAt_16) rfl]; rfl
theorem c_J5_charAt (d : Nat) (p_0 : Nat) (i_1 : Int32) (h : AH) : callR (d + 1) n_J5_charAt [.retAddr p_0, .int i_1] h =
  bif decide (p_0 < 20) then evR T_J5_charAt (callR d) 0 ([(0, .retAddr p_0), (1, .int i_1)], [], h) else none := by
  rw [callR_succ, show aMTl[n_J5_charAt]? = some (T_J5_charAt, [0, 1]) from rfl]; show (bif (99 == 99 && decide (p_0 < 20)) && true then _ else _) = _; rw [Bool.and_true]; rfl
theorem e_J5_isLatin1_0 (E : AEn) (p_0 : Nat) (h : AH) : evR T_J5_isLatin1 E 0 ([(0, .retAddr p_0)], [], h) =
  bif (1 : Int32) == 0 then evR T_J5_isLatin1 E 17 ([], [], h) else
  evR T_J5_isLatin1 E 6 ([(0, .retAddr p_0)], [], h) := by
  rw [evR_eq ok_T_J5_isLatin1.loc (ops := b_J5_isLatin1_0) rfl]; rfl
theorem e_J5_isLatin1_6 (E : AEn) (p_0 : Nat) (h : AH) : evR T_J5_isLatin1 E 6 ([(0, .retAddr p_0)], [], h) =
  (prP p_0).bind fun _ =>
  (txC p_0).bind fun _ =>
  bif !((0 : Int32) == 0) then evR T_J5_isLatin1 E 17 ([], [], h) else
  evR T_J5_isLatin1 E 13 ([], [], h) := by
  rw [evR_eq ok_T_J5_isLatin1.loc (ops := b_J5_isLatin1_6) rfl]; rfl
theorem e_J5_isLatin1_13 (E : AEn)  (h : AH) : evR T_J5_isLatin1 E 13 ([], [], h) =
  evR T_J5_isLatin1 E 18 ([], [.int (1 : Int32)], h) := by
  rw [evR_eq ok_T_J5_isLatin1.loc (ops := b_J5_isLatin1_13) rfl]; rfl
theorem e_J5_isLatin1_17 (E : AEn)  (h : AH) : evR T_J5_isLatin1 E 17 ([], [], h) =
  evR T_J5_isLatin1 E 18 ([], [.int (0 : Int32)], h) := by
  rw [evR_eq ok_T_J5_isLatin1.loc (ops := b_J5_isLatin1_17) rfl]; rfl
theorem e_J5_isLatin1_18 (E : AEn) (si_0 : Int32) (h : AH) : evR T_J5_isLatin1 E 18 ([], [.int si_0], h) =
  (bif si_0 == 0 || si_0 == 1 then some si_0 else none).bind fun i1 => some (.inl (some (.int i1)), h) := by
  rw [evR_eq ok_T_J5_isLatin1.loc (ops := b_J5_isLatin1_18) rfl]; rfl
theorem c_J5_isLatin1 (d : Nat) (p_0 : Nat) (h : AH) : callR (d + 1) n_J5_isLatin1 [.retAddr p_0] h =
  bif decide (p_0 < 20) then evR T_J5_isLatin1 (callR d) 0 ([(0, .retAddr p_0)], [], h) else none := by
  rw [callR_succ, show aMTl[n_J5_isLatin1]? = some (T_J5_isLatin1, [0]) from rfl]; show (bif (99 == 99 && decide (p_0 < 20)) && true then _ else _) = _; rw [Bool.and_true]; rfl
theorem e_J5_checkIndex_0 (E : AEn) (i_0 : Int32) (i_1 : Int32) (h : AH) : evR T_J5_checkIndex E 0 ([(0, .int i_0), (1, .int i_1)], [], h) =
  rI (E n_J7_checkIndex [.int i_0, .int i_1, .retAddr 302] h) (fun i2 h1 =>
  some (.inl none, h1)) thr := by
  rw [evR_eq ok_T_J5_checkIndex.loc (ops := b_J5_checkIndex_0) rfl]; rfl
theorem c_J5_checkIndex (d : Nat) (i_0 : Int32) (i_1 : Int32) (h : AH) : callR (d + 1) n_J5_checkIndex [.int i_0, .int i_1] h =
  evR T_J5_checkIndex (callR d) 0 ([(0, .int i_0), (1, .int i_1)], [], h) := by
  rw [callR_succ, show aMTl[n_J5_checkIndex]? = some (T_J5_checkIndex, [0, 1]) from rfl]; rfl
theorem e_J6_charAt_0 (E : AEn) (p_0 : Nat) (i_1 : Int32) (h : AH) : evR T_J6_charAt E 0 ([(0, .retAddr p_0), (1, .int i_1)], [], h) =
  (prP p_0).bind fun _ =>
  (plen p_0).bind fun i1 =>
  rV (E n_J5_checkIndex [.int i_1, .int i1] h) (fun h2 =>
  (prP p_0).bind fun _ =>
  (pld p_0 i_1).bind fun i3 =>
  (bif ((i3 &&& (255 : Int32)).toUInt32 % 65536).toInt32.toUInt32.toUInt16.toUInt32.toInt32 == ((i3 &&& (255 : Int32)).toUInt32 % 65536).toInt32 then some ((i3 &&& (255 : Int32)).toUInt32 % 65536).toInt32 else none).bind fun i4 => some (.inl (some (.int i4)), h2)) thr := by
  rw [evR_eq ok_T_J6_charAt.loc (ops := b_J6_charAt_0) rfl]; rfl
theorem c_J6_charAt (d : Nat) (p_0 : Nat) (i_1 : Int32) (h : AH) : callR (d + 1) n_J6_charAt [.retAddr p_0, .int i_1] h =
  evR T_J6_charAt (callR d) 0 ([(0, .retAddr p_0), (1, .int i_1)], [], h) := by
  rw [callR_succ, show aMTl[n_J6_charAt]? = some (T_J6_charAt, [0, 1]) from rfl]; rfl
theorem e_J7_checkIndex_0 (E : AEn) (i_0 : Int32) (i_1 : Int32) (p_2 : Nat) (h : AH) : evR T_J7_checkIndex E 0 ([(0, .int i_0), (1, .int i_1), (2, .retAddr p_2)], [], h) =
  bif decide (i_0 < 0) then evR T_J7_checkIndex E 9 ([(0, .int i_0), (1, .int i_1), (2, .retAddr p_2)], [], h) else
  evR T_J7_checkIndex E 4 ([(0, .int i_0), (1, .int i_1), (2, .retAddr p_2)], [], h) := by
  rw [evR_eq ok_T_J7_checkIndex.loc (ops := b_J7_checkIndex_0) rfl]; rfl
theorem e_J7_checkIndex_4 (E : AEn) (i_0 : Int32) (i_1 : Int32) (p_2 : Nat) (h : AH) : evR T_J7_checkIndex E 4 ([(0, .int i_0), (1, .int i_1), (2, .retAddr p_2)], [], h) =
  bif decide (i_0 < i_1) then evR T_J7_checkIndex E 16 ([(0, .int i_0)], [], h) else
  evR T_J7_checkIndex E 9 ([(0, .int i_0), (1, .int i_1), (2, .retAddr p_2)], [], h) := by
  rw [evR_eq ok_T_J7_checkIndex.loc (ops := b_J7_checkIndex_4) rfl]; rfl
theorem e_J7_checkIndex_9 (E : AEn) (i_0 : Int32) (i_1 : Int32) (p_2 : Nat) (h : AH) : evR T_J7_checkIndex E 9 ([(0, .int i_0), (1, .int i_1), (2, .retAddr p_2)], [], h) =
  (prP p_2).bind fun _ =>
  none := by
  rw [evR_eq ok_T_J7_checkIndex.loc (ops := b_J7_checkIndex_9) rfl]; rfl
theorem e_J7_checkIndex_16 (E : AEn) (i_0 : Int32) (h : AH) : evR T_J7_checkIndex E 16 ([(0, .int i_0)], [], h) =
  some (.inl (some (.int i_0)), h) := by
  rw [evR_eq ok_T_J7_checkIndex.loc (ops := b_J7_checkIndex_16) rfl]; rfl
theorem c_J7_checkIndex (d : Nat) (i_0 : Int32) (i_1 : Int32) (p_2 : Nat) (h : AH) : callR (d + 1) n_J7_checkIndex [.int i_0, .int i_1, .retAddr p_2] h =
  evR T_J7_checkIndex (callR d) 0 ([(0, .int i_0), (1, .int i_1), (2, .retAddr p_2)], [], h) := by
  rw [callR_succ, show aMTl[n_J7_checkIndex]? = some (T_J7_checkIndex, [0, 1, 2]) from rfl]; rfl
theorem e_J8_charAt_0 (E : AEn) (p_0 : Nat) (i_1 : Int32) (h : AH) : evR T_J8_charAt E 0 ([(0, .retAddr p_0), (1, .int i_1)], [], h) =
  (prP p_0).bind fun _ =>
  rV (E n_J8_checkIndex [.int i_1, .retAddr p_0] h) (fun h1 =>
  (prP p_0).bind fun _ =>
  rI (E n_J8_getChar [.retAddr p_0, .int i_1] h1) (fun i3 h2 =>
  (bif i3.toUInt32.toUInt16.toUInt32.toInt32 == i3 then some i3 else none).bind fun i4 => some (.inl (some (.int i4)), h2)) thr) thr := by
  rw [evR_eq ok_T_J8_charAt.loc (ops := b_J8_charAt_0) rfl]; rfl
theorem c_J8_charAt (d : Nat) (p_0 : Nat) (i_1 : Int32) (h : AH) : callR (d + 1) n_J8_charAt [.retAddr p_0, .int i_1] h =
  evR T_J8_charAt (callR d) 0 ([(0, .retAddr p_0), (1, .int i_1)], [], h) := by
  rw [callR_succ, show aMTl[n_J8_charAt]? = some (T_J8_charAt, [0, 1]) from rfl]; rfl
theorem e_J8_checkIndex_0 (E : AEn) (i_0 : Int32) (p_1 : Nat) (h : AH) : evR T_J8_checkIndex E 0 ([(0, .int i_0), (1, .retAddr p_1)], [], h) =
  (prP p_1).bind fun _ =>
  rI (E n_J8_length [.retAddr p_1] h) (fun i2 h1 =>
  rV (E n_J5_checkIndex [.int i_0, .int i2] h1) (fun h3 =>
  some (.inl none, h3)) thr) thr := by
  rw [evR_eq ok_T_J8_checkIndex.loc (ops := b_J8_checkIndex_0) rfl]; rfl
theorem c_J8_checkIndex (d : Nat) (i_0 : Int32) (p_1 : Nat) (h : AH) : callR (d + 1) n_J8_checkIndex [.int i_0, .retAddr p_1] h =
  evR T_J8_checkIndex (callR d) 0 ([(0, .int i_0), (1, .retAddr p_1)], [], h) := by
  rw [callR_succ, show aMTl[n_J8_checkIndex]? = some (T_J8_checkIndex, [0, 1]) from rfl]; rfl
theorem e_J8_length_0 (E : AEn) (p_0 : Nat) (h : AH) : evR T_J8_length E 0 ([(0, .retAddr p_0)], [], h) =
  (prP p_0).bind fun _ =>
  (plen p_0).bind fun i1 =>
  some (.inl (some (.int (i1 >>> ((1 : Int32) &&& 31)))), h) := by
  rw [evR_eq ok_T_J8_length.loc (ops := b_J8_length_0) rfl]; rfl
theorem c_J8_length (d : Nat) (p_0 : Nat) (h : AH) : callR (d + 1) n_J8_length [.retAddr p_0] h =
  evR T_J8_length (callR d) 0 ([(0, .retAddr p_0)], [], h) := by
  rw [callR_succ, show aMTl[n_J8_length]? = some (T_J8_length, [0]) from rfl]; rfl
theorem e_J8_getChar_0 (E : AEn) (p_0 : Nat) (i_1 : Int32) (h : AH) : evR T_J8_getChar E 0 ([(0, .retAddr p_0), (1, .int i_1)], [], h) =
  none := by
  rw [evR_eq ok_T_J8_getChar.loc (ops := b_J8_getChar_0) rfl]; rfl
theorem c_J8_getChar (d : Nat) (p_0 : Nat) (i_1 : Int32) (h : AH) : callR (d + 1) n_J8_getChar [.retAddr p_0, .int i_1] h =
  evR T_J8_getChar (callR d) 0 ([(0, .retAddr p_0), (1, .int i_1)], [], h) := by
  rw [callR_succ, show aMTl[n_J8_getChar]? = some (T_J8_getChar, [0, 1]) from rfl]; rfl
theorem e_J9_init_0 (E : AEn) (a_0 : Nat) (h : AH) : evR T_J9_init E 0 ([(0, .ref a_0)], [], h) =
  some (.inl none, h) := by
  rw [evR_eq ok_T_J9_init.loc (ops := b_J9_init_0) rfl]; rfl
theorem c_J9_init (d : Nat) (a_0 : Nat) (h : AH) : callR (d + 1) n_J9_init [.ref a_0] h =
  evR T_J9_init (callR d) 0 ([(0, .ref a_0)], [], h) := by
  rw [callR_succ, show aMTl[n_J9_init]? = some (T_J9_init, [0]) from rfl]; rfl
