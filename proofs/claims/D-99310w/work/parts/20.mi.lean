/-! the methods by number: name, code, locals, answer, handlers, law, receiver's class -/
set_option maxRecDepth 100000
def tyWr : Nat → FieldType := fun k => match k with
  | _ => .int
theorem in_Wr : ∀ x ∈ u_ws RX3 TWr 1, x ∈ lw_all := lw_in (u_ws RX3 TWr 1) [329] (by decide +kernel) (by decide +kernel)
theorem nmWr : ∀ a, a < 1 → ∀ b, b < 1 → a ≠ b → (TWr a).2.1 ≠ (TWr b).2.1 := by decide +kernel
theorem tyWr_ok : ∀ k, k < 1 → parseFieldDescriptor (TWr k).2.2.1 = some (tyWr k) := by decide +kernel
def dF0 : List Value := [.null, .null, .null, .null, .int 0, .null, .null, .int 0, .null, .null, .int 0, .int 0, .null, .null, .null, .int 0, .int 0, .int 0, .int 0, .null, .int 0, .int 0, .int 0, .null, .null, .null, .null, .null]
theorem dF0_ok : ∀ j, j < 28 → defaultValue (tyX0 j) = vp_V dF0 j := by decide +kernel
theorem dF0_id : ∀ w : AW, dF0.map (cv w) = dF0 := fun _ => rfl
def dF1 : List Value := [.null, .null, .null, .int 0, .int 0]
theorem dF1_ok : ∀ j, j < 5 → defaultValue (tyX1 j) = vp_V dF1 j := by decide +kernel
theorem dF1_id : ∀ w : AW, dF1.map (cv w) = dF1 := fun _ => rfl
def dF2 : List Value := [.null, .null, .null, .null, .null, .int 0, .int 0, .int 0, .int 0, .int 0]
theorem dF2_ok : ∀ j, j < 10 → defaultValue (tyX2 j) = vp_V dF2 j := by decide +kernel
theorem dF2_id : ∀ w : AW, dF2.map (cv w) = dF2 := fun _ => rfl
def dF4 : List Value := [.null, .int 0, .int 0, .null, .null, .null, .null, .null, .int 0, .int 0, .int 0, .int 0, .int 0, .int 0, .int 0, .null, .int 0, .int 0, .null, .int 0, .null, .null, .int 0, .int 0, .null, .int 0, .int 0, .int 0, .int 0, .int 0, .null, .int 0, .null, .null, .int 0, .null, .null, .null, .long 0, .null, .null, .null, .null]
theorem dF4_ok : ∀ j, j < 43 → defaultValue (tyX4 j) = vp_V dF4 j := by decide +kernel
theorem dF4_id : ∀ w : AW, dF4.map (cv w) = dF4 := fun _ => rfl
def dF5 : List Value := [.null, .int 0, .int 0, .int 0, .int 0, .int 0, .null]
theorem dF5_ok : ∀ j, j < 7 → defaultValue (tyX5 j) = vp_V dF5 j := by decide +kernel
theorem dF5_id : ∀ w : AW, dF5.map (cv w) = dF5 := fun _ => rfl
def dF6 : List Value := [.int 0, .int 0, .int 0]
theorem dF6_ok : ∀ j, j < 3 → defaultValue (tyX6 j) = vp_V dF6 j := by decide +kernel
theorem dF6_id : ∀ w : AW, dF6.map (cv w) = dF6 := fun _ => rfl
def dF7 : List Value := [.null]
theorem dF7_ok : ∀ j, j < 1 → defaultValue (tyX7 j) = vp_V dF7 j := by decide +kernel
theorem dF7_id : ∀ w : AW, dF7.map (cv w) = dF7 := fun _ => rfl
def dF8 : List Value := [.int 0, .null, .int 0]
theorem dF8_ok : ∀ j, j < 3 → defaultValue (tyJ2 j) = vp_V dF8 j := by decide +kernel
theorem dF8_id : ∀ w : AW, dF8.map (cv w) = dF8 := fun _ => rfl
def dF9 : List Value := [.int 0]
theorem dF9_ok : ∀ j, j < 1 → defaultValue (tyX9 j) = vp_V dF9 j := by decide +kernel
theorem dF9_id : ∀ w : AW, dF9.map (cv w) = dF9 := fun _ => rfl
def dF10 : List Value := [.int 0]
theorem dF10_ok : ∀ j, j < 1 → defaultValue (tyX10 j) = vp_V dF10 j := by decide +kernel
theorem dF10_id : ∀ w : AW, dF10.map (cv w) = dF10 := fun _ => rfl
def dF11 : List Value := [.null, .null, .int 0]
theorem dF11_ok : ∀ j, j < 3 → defaultValue (tyX11 j) = vp_V dF11 j := by decide +kernel
theorem dF11_id : ∀ w : AW, dF11.map (cv w) = dF11 := fun _ => rfl
def dF12 : List Value := [.null, .null]
theorem dF12_ok : ∀ j, j < 2 → defaultValue (tyX12 j) = vp_V dF12 j := by decide +kernel
theorem dF12_id : ∀ w : AW, dF12.map (cv w) = dF12 := fun _ => rfl
def dF13 : List Value := [.null, .null, .null, .null, .int 0, .int 0, .int 0, .null]
theorem dF13_ok : ∀ j, j < 8 → defaultValue (tyX17 j) = vp_V dF13 j := by decide +kernel
theorem dF13_id : ∀ w : AW, dF13.map (cv w) = dF13 := fun _ => rfl
def dF14 : List Value := [.null]
theorem dF14_ok : ∀ j, j < 1 → defaultValue (tyX14 j) = vp_V dF14 j := by decide +kernel
theorem dF14_id : ∀ w : AW, dF14.map (cv w) = dF14 := fun _ => rfl
def dF15 : List Value := [.null, .null, .int 0, .int 0]
theorem dF15_ok : ∀ j, j < 4 → defaultValue (tyX15 j) = vp_V dF15 j := by decide +kernel
theorem dF15_id : ∀ w : AW, dF15.map (cv w) = dF15 := fun _ => rfl
def dF16 : List Value := [.null, .null, .int 0]
theorem dF16_ok : ∀ j, j < 3 → defaultValue (tyX16 j) = vp_V dF16 j := by decide +kernel
theorem dF16_id : ∀ w : AW, dF16.map (cv w) = dF16 := fun _ => rfl
abbrev m_J0_init : AMI := (yJ0_init, cJ0_init, 1, none, none, false, (some 98))
abbrev n_J0_init : Nat := 0
theorem yok_J0_init : YOK m_J0_init 0 := ⟨rfl, q130, q186, ⟨by decide, by decide, by decide +kernel⟩, by decide⟩
abbrev m_J1_init : AMI := (yJ1_init, cJ1_init, 1, none, none, false, (some 98))
abbrev n_J1_init : Nat := 1
theorem yok_J1_init : YOK m_J1_init 0 := ⟨rfl, q131, q183, ⟨by decide, by decide, by decide +kernel⟩, by decide⟩
abbrev m_J10_newLength : AMI := (yJ10_newLength, cJ10_newLength, 4, (some .int), none, false, none)
abbrev n_J10_newLength : Nat := 2
theorem yok_J10_newLength : YOK m_J10_newLength 3 := ⟨rfl, q145, q638, ⟨by decide, by decide, by decide +kernel⟩, by decide⟩
abbrev m_J10_hugeLength : AMI := (yJ10_hugeLength, cJ10_hugeLength, 3, (some .int), none, false, none)
abbrev n_J10_hugeLength : Nat := 3
theorem yok_J10_hugeLength : YOK m_J10_hugeLength 2 := ⟨rfl, q145, q645, ⟨by decide, by decide, by decide +kernel⟩, by decide⟩
abbrev m_J12_copyOf : AMI := (yJ12_copyOf, cJ12_copyOf, 2, (some (.array (.object "java/lang/Object"))), none, false, none)
abbrev n_J12_copyOf : Nat := 4
theorem yok_J12_copyOf : YOK m_J12_copyOf 2 := ⟨rfl, q147, q648, ⟨by decide, by decide, by decide +kernel⟩, by decide⟩
abbrev m_J12_copyOf_2 : AMI := (yJ12_copyOf_2, cJ12_copyOf_2, 4, (some (.array (.object "java/lang/Object"))), none, false, none)
abbrev n_J12_copyOf_2 : Nat := 5
theorem yok_J12_copyOf_2 : YOK m_J12_copyOf_2 3 := ⟨rfl, q147, q672, ⟨by decide, by decide, by decide +kernel⟩, by decide⟩
abbrev m_J13_checkIndex : AMI := (yJ13_checkIndex, cJ13_checkIndex, 2, (some .int), none, false, none)
abbrev n_J13_checkIndex : Nat := 6
theorem yok_J13_checkIndex : YOK m_J13_checkIndex 2 := ⟨rfl, q149, q720, ⟨by decide, by decide, by decide +kernel⟩, by decide⟩
abbrev m_J14_bitCount : AMI := (yJ14_bitCount, cJ14_bitCount, 1, (some .int), none, false, none)
abbrev n_J14_bitCount : Nat := 7
theorem yok_J14_bitCount : YOK m_J14_bitCount 1 := ⟨rfl, q160, q988, ⟨by decide, by decide, by decide +kernel⟩, by decide⟩
abbrev m_J2_init : AMI := (yJ2_init, cJ2_init, 2, none, none, false, (some 8))
abbrev n_J2_init : Nat := 8
theorem yok_J2_init : YOK m_J2_init 1 := ⟨rfl, q132, q180, ⟨by decide, by decide, by decide +kernel⟩, by decide⟩
abbrev m_J2_size : AMI := (yJ2_size, cJ2_size, 1, (some .int), none, false, (some 8))
abbrev n_J2_size : Nat := 9
theorem yok_J2_size : YOK m_J2_size 0 := ⟨rfl, q132, q591, ⟨by decide, by decide, by decide +kernel⟩, by decide⟩
abbrev m_J2_add : AMI := (yJ2_add, cJ2_add, 2, (some .boolean), none, false, (some 8))
abbrev n_J2_add : Nat := 10
theorem yok_J2_add : YOK m_J2_add 1 := ⟨rfl, q132, q621, ⟨by decide, by decide, by decide +kernel⟩, by decide⟩
abbrev m_J2_add_2 : AMI := (yJ2_add_2, cJ2_add_2, 4, none, none, false, (some 8))
abbrev n_J2_add_2 : Nat := 11
theorem yok_J2_add_2 : YOK m_J2_add_2 3 := ⟨rfl, q132, q625, ⟨by decide, by decide, by decide +kernel⟩, by decide⟩
abbrev m_J2_grow : AMI := (yJ2_grow, cJ2_grow, 1, (some (.array (.object "java/lang/Object"))), none, false, (some 8))
abbrev n_J2_grow : Nat := 12
theorem yok_J2_grow : YOK m_J2_grow 0 := ⟨rfl, q132, q629, ⟨by decide, by decide, by decide +kernel⟩, by decide⟩
abbrev m_J2_grow_2 : AMI := (yJ2_grow_2, cJ2_grow_2, 4, (some (.array (.object "java/lang/Object"))), none, false, (some 8))
abbrev n_J2_grow_2 : Nat := 13
theorem yok_J2_grow_2 : YOK m_J2_grow_2 1 := ⟨rfl, q132, q633, ⟨by decide, by decide, by decide +kernel⟩, by decide⟩
abbrev m_J2_get : AMI := (yJ2_get, cJ2_get, 2, (some (.object "java/lang/Object")), none, false, (some 8))
abbrev n_J2_get : Nat := 14
theorem yok_J2_get : YOK m_J2_get 1 := ⟨rfl, q132, q717, ⟨by decide, by decide, by decide +kernel⟩, by decide⟩
abbrev m_J2_elementData : AMI := (yJ2_elementData, cJ2_elementData, 2, (some (.object "java/lang/Object")), none, false, (some 8))
abbrev n_J2_elementData : Nat := 15
theorem yok_J2_elementData : YOK m_J2_elementData 1 := ⟨rfl, q132, q725, ⟨by decide, by decide, by decide +kernel⟩, by decide⟩
abbrev m_J5_length : AMI := (yJ5_length, cJ5_length, 1, (some .int), none, false, (some 99))
abbrev n_J5_length : Nat := 16
theorem yok_J5_length : YOK m_J5_length 0 := ⟨rfl, q139, q524, ⟨by decide, by decide, by decide +kernel⟩, by decide⟩
abbrev m_J5_coder : AMI := (yJ5_coder, cJ5_coder, 1, (some .byte), none, false, (some 99))
abbrev n_J5_coder : Nat := 17
theorem yok_J5_coder : YOK m_J5_coder 0 := ⟨rfl, q139, q528, ⟨by decide, by decide, by decide +kernel⟩, by decide⟩
abbrev m_J5_charAt : AMI := (yJ5_charAt, cJ5_charAt, 2, (some .char), none, false, (some 99))
abbrev n_J5_charAt : Nat := 18
theorem yok_J5_charAt : YOK m_J5_charAt 1 := ⟨rfl, q139, q534, ⟨by decide, by decide, by decide +kernel⟩, by decide⟩
abbrev m_J5_isLatin1 : AMI := (yJ5_isLatin1, cJ5_isLatin1, 1, (some .boolean), none, false, (some 99))
abbrev n_J5_isLatin1 : Nat := 19
theorem yok_J5_isLatin1 : YOK m_J5_isLatin1 0 := ⟨rfl, q139, q538, ⟨by decide, by decide, by decide +kernel⟩, by decide⟩
abbrev m_J5_checkIndex : AMI := (yJ5_checkIndex, cJ5_checkIndex, 2, none, none, false, none)
abbrev n_J5_checkIndex : Nat := 20
theorem yok_J5_checkIndex : YOK m_J5_checkIndex 2 := ⟨rfl, q139, q544, ⟨by decide, by decide, by decide +kernel⟩, by decide⟩
abbrev m_J6_charAt : AMI := (yJ6_charAt, cJ6_charAt, 2, (some .char), none, false, none)
abbrev n_J6_charAt : Nat := 21
theorem yok_J6_charAt : YOK m_J6_charAt 2 := ⟨rfl, q140, q541, ⟨by decide, by decide, by decide +kernel⟩, by decide⟩
abbrev m_J7_checkIndex : AMI := (yJ7_checkIndex, cJ7_checkIndex, 3, (some .int), none, false, none)
abbrev n_J7_checkIndex : Nat := 22
theorem yok_J7_checkIndex : YOK m_J7_checkIndex 3 := ⟨rfl, q141, q549, ⟨by decide, by decide, by decide +kernel⟩, by decide⟩
abbrev m_J8_charAt : AMI := (yJ8_charAt, cJ8_charAt, 2, (some .char), none, false, none)
abbrev n_J8_charAt : Nat := 23
theorem yok_J8_charAt : YOK m_J8_charAt 2 := ⟨rfl, q142, q552, ⟨by decide, by decide, by decide +kernel⟩, by decide⟩
abbrev m_J8_checkIndex : AMI := (yJ8_checkIndex, cJ8_checkIndex, 2, none, none, false, none)
abbrev n_J8_checkIndex : Nat := 24
theorem yok_J8_checkIndex : YOK m_J8_checkIndex 2 := ⟨rfl, q142, q555, ⟨by decide, by decide, by decide +kernel⟩, by decide⟩
abbrev m_J8_length : AMI := (yJ8_length, cJ8_length, 1, (some .int), none, false, none)
abbrev n_J8_length : Nat := 25
theorem yok_J8_length : YOK m_J8_length 1 := ⟨rfl, q142, q558, ⟨by decide, by decide, by decide +kernel⟩, by decide⟩
abbrev m_J8_getChar : AMI := (yJ8_getChar, cJ8_getChar, 2, (some .char), none, false, none)
abbrev n_J8_getChar : Nat := 26
theorem yok_J8_getChar : YOK m_J8_getChar 2 := ⟨rfl, q142, q562, ⟨by decide, by decide, by decide +kernel⟩, by decide⟩
abbrev m_J9_init : AMI := (yJ9_init, cJ9_init, 1, none, none, false, (some 98))
abbrev n_J9_init : Nat := 27
theorem yok_J9_init : YOK m_J9_init 0 := ⟨rfl, q143, q603, ⟨by decide, by decide, by decide +kernel⟩, by decide⟩
abbrev m_X1_init : AMI := (yX1_init, cX1_init, 3, none, none, false, (some 1))
abbrev n_X1_init : Nat := 28
theorem yok_X1_init : YOK m_X1_init 0 := ⟨rfl, q129, q174, ⟨by decide, by decide, by decide +kernel⟩, by decide⟩
abbrev m_X1_houses : AMI := (yX1_houses, cX1_houses, 1, (some .int), none, false, (some 1))
abbrev n_X1_houses : Nat := 29
theorem yok_X1_houses : YOK m_X1_houses 0 := ⟨rfl, q129, q587, ⟨by decide, by decide, by decide +kernel⟩, by decide⟩
abbrev m_X1_ends : AMI := (yX1_ends, cX1_ends, 4, none, none, false, (some 1))
abbrev n_X1_ends : Nat := 30
theorem yok_X1_ends : YOK m_X1_ends 0 := ⟨rfl, q129, q703, ⟨by decide, by decide, by decide +kernel⟩, by decide⟩
abbrev m_X1_far : AMI := (yX1_far, cX1_far, 3, (some .int), none, false, (some 1))
abbrev n_X1_far : Nat := 31
theorem yok_X1_far : YOK m_X1_far 2 := ⟨rfl, q129, q707, ⟨by decide, by decide, by decide +kernel⟩, by decide⟩
abbrev m_X2_init : AMI := (yX2_init, cX2_init, 1, none, none, false, (some 2))
abbrev n_X2_init : Nat := 32
theorem yok_X2_init : YOK m_X2_init 0 := ⟨rfl, q133, q235, ⟨by decide, by decide, by decide +kernel⟩, by decide⟩
abbrev m_X2_begin : AMI := (yX2_begin, cX2_begin, 4, none, none, false, (some 2))
abbrev n_X2_begin : Nat := 33
theorem yok_X2_begin : YOK m_X2_begin 1 := ⟨rfl, q133, q712, ⟨by decide, by decide, by decide +kernel⟩, by decide⟩
abbrev m_X2_copyFrom : AMI := (yX2_copyFrom, cX2_copyFrom, 3, none, none, false, (some 2))
abbrev n_X2_copyFrom : Nat := 34
theorem yok_X2_copyFrom : YOK m_X2_copyFrom 1 := ⟨rfl, q133, q932, ⟨by decide, by decide, by decide +kernel⟩, by decide⟩
abbrev m_X2_isAway : AMI := (yX2_isAway, cX2_isAway, 1, (some .boolean), none, false, (some 2))
abbrev n_X2_isAway : Nat := 35
theorem yok_X2_isAway : YOK m_X2_isAway 0 := ⟨rfl, q133, q953, ⟨by decide, by decide, by decide +kernel⟩, by decide⟩
abbrev m_X2_isAtFire : AMI := (yX2_isAtFire, cX2_isAtFire, 1, (some .boolean), none, false, (some 2))
abbrev n_X2_isAtFire : Nat := 36
theorem yok_X2_isAtFire : YOK m_X2_isAtFire 0 := ⟨rfl, q133, q957, ⟨by decide, by decide, by decide +kernel⟩, by decide⟩
abbrev m_X2_fires : AMI := (yX2_fires, cX2_fires, 3, (some .int), none, false, (some 2))
abbrev n_X2_fires : Nat := 37
theorem yok_X2_fires : YOK m_X2_fires 0 := ⟨rfl, q133, q985, ⟨by decide, by decide, by decide +kernel⟩, by decide⟩
abbrev m_X2_gone : AMI := (yX2_gone, cX2_gone, 3, (some .int), none, false, (some 2))
abbrev n_X2_gone : Nat := 38
theorem yok_X2_gone : YOK m_X2_gone 0 := ⟨rfl, q133, q995, ⟨by decide, by decide, by decide +kernel⟩, by decide⟩
abbrev m_X2_sends : AMI := (yX2_sends, cX2_sends, 3, none, none, false, (some 2))
abbrev n_X2_sends : Nat := 39
theorem yok_X2_sends : YOK m_X2_sends 2 := ⟨rfl, q133, q1040, ⟨by decide, by decide, by decide +kernel⟩, by decide⟩
abbrev m_X2_goesOn : AMI := (yX2_goesOn, cX2_goesOn, 1, none, none, false, (some 2))
abbrev n_X2_goesOn : Nat := 40
theorem yok_X2_goesOn : YOK m_X2_goesOn 0 := ⟨rfl, q133, q1045, ⟨by decide, by decide, by decide +kernel⟩, by decide⟩
abbrev m_X2_burn : AMI := (yX2_burn, cX2_burn, 6, (some .int), none, false, (some 2))
abbrev n_X2_burn : Nat := 41
theorem yok_X2_burn : YOK m_X2_burn 1 := ⟨rfl, q133, q1050, ⟨by decide, by decide, by decide +kernel⟩, by decide⟩
abbrev m_X2_left : AMI := (yX2_left, cX2_left, 3, (some .int), none, false, (some 2))
abbrev n_X2_left : Nat := 42
theorem yok_X2_left : YOK m_X2_left 0 := ⟨rfl, q133, q1088, ⟨by decide, by decide, by decide +kernel⟩, by decide⟩
abbrev m_X5_init : AMI := (yX5_init, cX5_init, 4, none, none, false, (some 5))
abbrev n_X5_init : Nat := 43
theorem yok_X5_init : YOK m_X5_init 3 := ⟨rfl, q138, q465, ⟨by decide, by decide, by decide +kernel⟩, by decide⟩
abbrev m_X5_valley : AMI := (yX5_valley, cX5_valley, 2, (some (.object "SmokeWord$Valley")), none, false, (some 5))
abbrev n_X5_valley : Nat := 44
theorem yok_X5_valley : YOK m_X5_valley 0 := ⟨rfl, q138, q492, ⟨by decide, by decide, by decide +kernel⟩, by decide⟩
abbrev m_X5_clause : AMI := (yX5_clause, cX5_clause, 3, none, none, false, (some 5))
abbrev n_X5_clause : Nat := 45
theorem yok_X5_clause : YOK m_X5_clause 1 := ⟨rfl, q138, q498, ⟨by decide, by decide, by decide +kernel⟩, by decide⟩
abbrev m_X5_begins : AMI := (yX5_begins, cX5_begins, 3, (some .boolean), none, false, (some 5))
abbrev n_X5_begins : Nat := 46
theorem yok_X5_begins : YOK m_X5_begins 2 := ⟨rfl, q138, q503, ⟨by decide, by decide, by decide +kernel⟩, by decide⟩
abbrev m_X5_isWord : AMI := (yX5_isWord, cX5_isWord, 5, (some .boolean), none, false, (some 5))
abbrev n_X5_isWord : Nat := 47
theorem yok_X5_isWord : YOK m_X5_isWord 1 := ⟨rfl, q138, q507, ⟨by decide, by decide, by decide +kernel⟩, by decide⟩
abbrev m_X5_next : AMI := (yX5_next, cX5_next, 1, (some .int), none, false, (some 5))
abbrev n_X5_next : Nat := 48
theorem yok_X5_next : YOK m_X5_next 0 := ⟨rfl, q138, q511, ⟨by decide, by decide, by decide +kernel⟩, by decide⟩
abbrev m_X5_sign : AMI := (yX5_sign, cX5_sign, 1, (some .int), none, false, (some 5))
abbrev n_X5_sign : Nat := 49
theorem yok_X5_sign : YOK m_X5_sign 0 := ⟨rfl, q138, q515, ⟨by decide, by decide, by decide +kernel⟩, by decide⟩
abbrev m_X5_number : AMI := (yX5_number, cX5_number, 5, (some .int), none, false, (some 5))
abbrev n_X5_number : Nat := 50
theorem yok_X5_number : YOK m_X5_number 2 := ⟨rfl, q138, q576, ⟨by decide, by decide, by decide +kernel⟩, by decide⟩
abbrev m_X5_isDigit : AMI := (yX5_isDigit, cX5_isDigit, 1, (some .boolean), none, false, (some 5))
abbrev n_X5_isDigit : Nat := 51
theorem yok_X5_isDigit : YOK m_X5_isDigit 0 := ⟨rfl, q138, q580, ⟨by decide, by decide, by decide +kernel⟩, by decide⟩
abbrev m_X5_house : AMI := (yX5_house, cX5_house, 4, none, none, false, (some 5))
abbrev n_X5_house : Nat := 52
theorem yok_X5_house : YOK m_X5_house 1 := ⟨rfl, q138, q595, ⟨by decide, by decide, by decide +kernel⟩, by decide⟩
abbrev m_X5_road : AMI := (yX5_road, cX5_road, 5, none, none, false, (some 5))
abbrev n_X5_road : Nat := 53
theorem yok_X5_road : YOK m_X5_road 1 := ⟨rfl, q138, q686, ⟨by decide, by decide, by decide +kernel⟩, by decide⟩
abbrev m_X5_other : AMI := (yX5_other, cX5_other, 5, (some .int), none, false, (some 5))
abbrev n_X5_other : Nat := 54
theorem yok_X5_other : YOK m_X5_other 2 := ⟨rfl, q138, q690, ⟨by decide, by decide, by decide +kernel⟩, by decide⟩
abbrev m_X5_beside : AMI := (yX5_beside, cX5_beside, 4, none, none, false, (some 5))
abbrev n_X5_beside : Nat := 55
theorem yok_X5_beside : YOK m_X5_beside 1 := ⟨rfl, q138, q695, ⟨by decide, by decide, by decide +kernel⟩, by decide⟩
abbrev m_X5_goesOn : AMI := (yX5_goesOn, cX5_goesOn, 2, (some .boolean), none, false, (some 5))
abbrev n_X5_goesOn : Nat := 56
theorem yok_X5_goesOn : YOK m_X5_goesOn 0 := ⟨rfl, q138, q699, ⟨by decide, by decide, by decide +kernel⟩, by decide⟩
abbrev m_X5_rule : AMI := (yX5_rule, cX5_rule, 2, (some .int), none, false, (some 5))
abbrev n_X5_rule : Nat := 57
theorem yok_X5_rule : YOK m_X5_rule 0 := ⟨rfl, q138, q736, ⟨by decide, by decide, by decide +kernel⟩, by decide⟩
abbrev m_X5_clause_2 : AMI := (yX5_clause_2, cX5_clause_2, 3, none, none, false, (some 5))
abbrev n_X5_clause_2 : Nat := 58
theorem yok_X5_clause_2 : YOK m_X5_clause_2 1 := ⟨rfl, q138, q753, ⟨by decide, by decide, by decide +kernel⟩, by decide⟩
abbrev m_X5_sum : AMI := (yX5_sum, cX5_sum, 3, (some (.object "SmokeWord$Value")), none, false, (some 5))
abbrev n_X5_sum : Nat := 59
theorem yok_X5_sum : YOK m_X5_sum 0 := ⟨rfl, q138, q758, ⟨by decide, by decide, by decide +kernel⟩, by decide⟩
abbrev m_X5_term : AMI := (yX5_term, cX5_term, 3, (some (.object "SmokeWord$Value")), none, false, (some 5))
abbrev n_X5_term : Nat := 60
theorem yok_X5_term : YOK m_X5_term 0 := ⟨rfl, q138, q762, ⟨by decide, by decide, by decide +kernel⟩, by decide⟩
abbrev m_X5_value : AMI := (yX5_value, cX5_value, 3, (some (.object "SmokeWord$Value")), none, false, (some 5))
abbrev n_X5_value : Nat := 61
theorem yok_X5_value : YOK m_X5_value 0 := ⟨rfl, q138, q766, ⟨by decide, by decide, by decide +kernel⟩, by decide⟩
abbrev m_X5_counts : AMI := (yX5_counts, cX5_counts, 2, none, none, false, (some 5))
abbrev n_X5_counts : Nat := 62
theorem yok_X5_counts : YOK m_X5_counts 1 := ⟨rfl, q138, q784, ⟨by decide, by decide, by decide +kernel⟩, by decide⟩
abbrev m_X5_takes : AMI := (yX5_takes, cX5_takes, 3, (some .boolean), none, false, (some 5))
abbrev n_X5_takes : Nat := 63
theorem yok_X5_takes : YOK m_X5_takes 1 := ⟨rfl, q138, q817, ⟨by decide, by decide, by decide +kernel⟩, by decide⟩
abbrev m_X5_test : AMI := (yX5_test, cX5_test, 2, (some (.object "SmokeWord$Condition")), none, false, (some 5))
abbrev n_X5_test : Nat := 64
theorem yok_X5_test : YOK m_X5_test 0 := ⟨rfl, q138, q821, ⟨by decide, by decide, by decide +kernel⟩, by decide⟩
abbrev m_X5_part : AMI := (yX5_part, cX5_part, 2, (some (.object "SmokeWord$Condition")), none, false, (some 5))
abbrev n_X5_part : Nat := 65
theorem yok_X5_part : YOK m_X5_part 0 := ⟨rfl, q138, q825, ⟨by decide, by decide, by decide +kernel⟩, by decide⟩
abbrev m_X5_fact : AMI := (yX5_fact, cX5_fact, 5, (some (.object "SmokeWord$Condition")), none, false, (some 5))
abbrev n_X5_fact : Nat := 66
theorem yok_X5_fact : YOK m_X5_fact 0 := ⟨rfl, q138, q829, ⟨by decide, by decide, by decide +kernel⟩, by decide⟩
abbrev m_X5_goesDeeper : AMI := (yX5_goesDeeper, cX5_goesDeeper, 2, none, none, false, (some 5))
abbrev n_X5_goesDeeper : Nat := 67
theorem yok_X5_goesDeeper : YOK m_X5_goesDeeper 1 := ⟨rfl, q138, q834, ⟨by decide, by decide, by decide +kernel⟩, by decide⟩
abbrev m_X6_init : AMI := (yX6_init, cX6_init, 4, none, none, false, (some 6))
abbrev n_X6_init : Nat := 68
theorem yok_X6_init : YOK m_X6_init 3 := ⟨rfl, q144, q600, ⟨by decide, by decide, by decide +kernel⟩, by decide⟩
abbrev m_X7_init : AMI := (yX7_init, cX7_init, 1, none, none, false, (some 7))
abbrev n_X7_init : Nat := 69
theorem yok_X7_init : YOK m_X7_init 0 := ⟨rfl, q150, q741, ⟨by decide, by decide, by decide +kernel⟩, by decide⟩
abbrev m_X7_wants : AMI := (yX7_wants, cX7_wants, 3, (some .long), none, false, (some 7))
abbrev n_X7_wants : Nat := 70
theorem yok_X7_wants : YOK m_X7_wants 1 := ⟨rfl, q150, q1001, ⟨by decide, by decide, by decide +kernel⟩, by decide⟩
abbrev m_X8_init : AMI := (yX8_init, cX8_init, 1, none, none, false, (some 98))
abbrev n_X8_init : Nat := 71
theorem yok_X8_init : YOK m_X8_init 0 := ⟨rfl, q151, q775, ⟨by decide, by decide, by decide +kernel⟩, by decide⟩
abbrev m_X9_init : AMI := (yX9_init, cX9_init, 2, none, none, false, (some 9))
abbrev n_X9_init : Nat := 72
theorem yok_X9_init : YOK m_X9_init 1 := ⟨rfl, q152, q772, ⟨by decide, by decide, by decide +kernel⟩, by decide⟩
abbrev m_X9_of : AMI := (yX9_of, cX9_of, 2, (some .long), none, false, (some 9))
abbrev n_X9_of : Nat := 73
theorem yok_X9_of : YOK m_X9_of 1 := ⟨rfl, q152, q1029, ⟨by decide, by decide, by decide +kernel⟩, by decide⟩
abbrev m_X10_init : AMI := (yX10_init, cX10_init, 2, none, none, false, (some 10))
abbrev n_X10_init : Nat := 74
theorem yok_X10_init : YOK m_X10_init 1 := ⟨rfl, q153, q789, ⟨by decide, by decide, by decide +kernel⟩, by decide⟩
abbrev m_X10_of : AMI := (yX10_of, cX10_of, 2, (some .long), none, false, (some 10))
abbrev n_X10_of : Nat := 75
theorem yok_X10_of : YOK m_X10_of 1 := ⟨rfl, q153, q1023, ⟨by decide, by decide, by decide +kernel⟩, by decide⟩
abbrev m_X11_init : AMI := (yX11_init, cX11_init, 4, none, none, false, (some 11))
abbrev n_X11_init : Nat := 76
theorem yok_X11_init : YOK m_X11_init 3 := ⟨rfl, q154, q799, ⟨by decide, by decide, by decide +kernel⟩, by decide⟩
abbrev m_X11_of : AMI := (yX11_of, cX11_of, 6, (some .long), none, false, (some 11))
abbrev n_X11_of : Nat := 77
theorem yok_X11_of : YOK m_X11_of 1 := ⟨rfl, q154, q1026, ⟨by decide, by decide, by decide +kernel⟩, by decide⟩
abbrev m_X12_init : AMI := (yX12_init, cX12_init, 3, none, none, false, (some 12))
abbrev n_X12_init : Nat := 78
theorem yok_X12_init : YOK m_X12_init 2 := ⟨rfl, q155, q887, ⟨by decide, by decide, by decide +kernel⟩, by decide⟩
abbrev m_X12_holds : AMI := (yX12_holds, cX12_holds, 2, (some .boolean), none, false, (some 12))
abbrev n_X12_holds : Nat := 79
theorem yok_X12_holds : YOK m_X12_holds 1 := ⟨rfl, q155, q1008, ⟨by decide, by decide, by decide +kernel⟩, by decide⟩
abbrev m_X13_init : AMI := (yX13_init, cX13_init, 1, none, none, false, (some 98))
abbrev n_X13_init : Nat := 80
theorem yok_X13_init : YOK m_X13_init 0 := ⟨rfl, q156, q842, ⟨by decide, by decide, by decide +kernel⟩, by decide⟩
abbrev m_X14_init : AMI := (yX14_init, cX14_init, 2, none, none, false, (some 14))
abbrev n_X14_init : Nat := 81
theorem yok_X14_init : YOK m_X14_init 1 := ⟨rfl, q157, q839, ⟨by decide, by decide, by decide +kernel⟩, by decide⟩
abbrev m_X14_is : AMI := (yX14_is, cX14_is, 2, (some .boolean), none, false, (some 14))
abbrev n_X14_is : Nat := 82
theorem yok_X14_is : YOK m_X14_is 1 := ⟨rfl, q157, q1032, ⟨by decide, by decide, by decide +kernel⟩, by decide⟩
abbrev m_X15_init : AMI := (yX15_init, cX15_init, 5, none, none, false, (some 15))
abbrev n_X15_init : Nat := 83
theorem yok_X15_init : YOK m_X15_init 4 := ⟨rfl, q158, q852, ⟨by decide, by decide, by decide +kernel⟩, by decide⟩
abbrev m_X15_is : AMI := (yX15_is, cX15_is, 6, (some .boolean), none, false, (some 15))
abbrev n_X15_is : Nat := 84
theorem yok_X15_is : YOK m_X15_is 1 := ⟨rfl, q158, q1017, ⟨by decide, by decide, by decide +kernel⟩, by decide⟩
abbrev m_X16_init : AMI := (yX16_init, cX16_init, 4, none, none, false, (some 16))
abbrev n_X16_init : Nat := 85
theorem yok_X16_init : YOK m_X16_init 3 := ⟨rfl, q159, q872, ⟨by decide, by decide, by decide +kernel⟩, by decide⟩
abbrev m_X16_is : AMI := (yX16_is, cX16_is, 2, (some .boolean), none, false, (some 16))
abbrev n_X16_is : Nat := 86
theorem yok_X16_is : YOK m_X16_is 1 := ⟨rfl, q159, q1014, ⟨by decide, by decide, by decide +kernel⟩, by decide⟩
abbrev m_X17_init : AMI := (yX17_init, cX17_init, 2, none, none, false, (some 13))
abbrev n_X17_init : Nat := 87
theorem yok_X17_init : YOK m_X17_init 1 := ⟨rfl, q161, q1211, ⟨by decide, by decide, by decide +kernel⟩, by decide⟩
abbrev m_X17_keep : AMI := (yX17_keep, cX17_keep, 2, none, none, false, (some 13))
abbrev n_X17_keep : Nat := 88
theorem yok_X17_keep : YOK m_X17_keep 0 := ⟨rfl, q161, q1243, ⟨by decide, by decide, by decide +kernel⟩, by decide⟩
abbrev m_X17_back : AMI := (yX17_back, cX17_back, 2, none, none, false, (some 13))
abbrev n_X17_back : Nat := 89
theorem yok_X17_back : YOK m_X17_back 0 := ⟨rfl, q161, q1252, ⟨by decide, by decide, by decide +kernel⟩, by decide⟩
abbrev m_X0_init : AMI := (yX0_init, cX0_init, 1, none, none, false, (some 0))
abbrev n_X0_init : Nat := 90
theorem yok_X0_init : YOK m_X0_init 0 := ⟨rfl, q128, q166, ⟨by decide, by decide, by decide +kernel⟩, by decide⟩
abbrev m_X0_newStates : AMI := (yX0_newStates, cX0_newStates, 3, (some (.array (.object "SmokeWord$State"))), none, false, none)
abbrev n_X0_newStates : Nat := 91
theorem yok_X0_newStates : YOK m_X0_newStates 1 := ⟨rfl, q128, q343, ⟨by decide, by decide, by decide +kernel⟩, by decide⟩
abbrev m_X0_feed : AMI := (yX0_feed, cX0_feed, 6, (some .int), none, false, (some 0))
abbrev n_X0_feed : Nat := 92
theorem yok_X0_feed : YOK m_X0_feed 5 := ⟨rfl, q128, q448, ⟨by decide, by decide, by decide +kernel⟩, by decide⟩
abbrev m_X0_put : AMI := (yX0_put, cX0_put, 3, none, none, false, (some 0))
abbrev n_X0_put : Nat := 93
theorem yok_X0_put : YOK m_X0_put 1 := ⟨rfl, q128, q452, ⟨by decide, by decide, by decide +kernel⟩, by decide⟩
abbrev m_X0_end : AMI := (yX0_end, cX0_end, 2, (some .int), none, false, (some 0))
abbrev n_X0_end : Nat := 94
theorem yok_X0_end : YOK m_X0_end 1 := ⟨rfl, q128, q456, ⟨by decide, by decide, by decide +kernel⟩, by decide⟩
abbrev m_X0_valley : AMI := (yX0_valley, cX0_valley, 4, (some .int), (some [(0, 49, 56, 39), (0, 49, 72, 0), (56, 65, 72, 0)]), false, (some 0))
abbrev n_X0_valley : Nat := 95
theorem yok_X0_valley : YOKW m_X0_valley [(0, 49, 56, 39), (0, 49, 72, 0), (56, 65, 72, 0)] 0 := ⟨rfl, q128, q460, ⟨by decide, by decide, by decide +kernel⟩, by decide⟩
abbrev m_X0_in : AMI := (yX0_in, cX0_in, 6, (some .boolean), none, false, none)
abbrev n_X0_in : Nat := 96
theorem yok_X0_in : YOK m_X0_in 3 := ⟨rfl, q128, q520, ⟨by decide, by decide, by decide +kernel⟩, by decide⟩
abbrev m_X0_fails : AMI := (yX0_fails, cX0_fails, 3, (some (.object "SmokeWord$Wrong")), none, false, (some 0))
abbrev n_X0_fails : Nat := 97
theorem yok_X0_fails : YOK m_X0_fails 2 := ⟨rfl, q128, q572, ⟨by decide, by decide, by decide +kernel⟩, by decide⟩
abbrev m_X0_rule : AMI := (yX0_rule, cX0_rule, 4, (some .int), (some [(14, 31, 38, 39), (14, 31, 54, 0), (38, 47, 54, 0)]), false, (some 0))
abbrev n_X0_rule : Nat := 98
theorem yok_X0_rule : YOKW m_X0_rule [(14, 31, 38, 39), (14, 31, 54, 0), (38, 47, 54, 0)] 0 := ⟨rfl, q128, q731, ⟨by decide, by decide, by decide +kernel⟩, by decide⟩
abbrev m_X0_force : AMI := (yX0_force, cX0_force, 3, (some .int), none, false, (some 0))
abbrev n_X0_force : Nat := 99
theorem yok_X0_force : YOK m_X0_force 1 := ⟨rfl, q128, q901, ⟨by decide, by decide, by decide +kernel⟩, by decide⟩
abbrev m_X0_house : AMI := (yX0_house, cX0_house, 3, (some .int), none, false, (some 0))
abbrev n_X0_house : Nat := 100
theorem yok_X0_house : YOK m_X0_house 2 := ⟨rfl, q128, q907, ⟨by decide, by decide, by decide +kernel⟩, by decide⟩
abbrev m_X0_isHouse : AMI := (yX0_isHouse, cX0_isHouse, 2, (some .boolean), none, false, (some 0))
abbrev n_X0_isHouse : Nat := 101
theorem yok_X0_isHouse : YOK m_X0_isHouse 1 := ⟨rfl, q128, q911, ⟨by decide, by decide, by decide +kernel⟩, by decide⟩
abbrev m_X0_far : AMI := (yX0_far, cX0_far, 3, (some .int), none, false, (some 0))
abbrev n_X0_far : Nat := 102
theorem yok_X0_far : YOK m_X0_far 2 := ⟨rfl, q128, q915, ⟨by decide, by decide, by decide +kernel⟩, by decide⟩
abbrev m_X0_isPlace : AMI := (yX0_isPlace, cX0_isPlace, 2, (some .boolean), none, false, (some 0))
abbrev n_X0_isPlace : Nat := 103
theorem yok_X0_isPlace : YOK m_X0_isPlace 1 := ⟨rfl, q128, q919, ⟨by decide, by decide, by decide +kernel⟩, by decide⟩
abbrev m_X0_isValley : AMI := (yX0_isValley, cX0_isValley, 1, (some .boolean), none, false, (some 0))
abbrev n_X0_isValley : Nat := 104
theorem yok_X0_isValley : YOK m_X0_isValley 0 := ⟨rfl, q128, q923, ⟨by decide, by decide, by decide +kernel⟩, by decide⟩
abbrev m_X0_undo : AMI := (yX0_undo, cX0_undo, 1, (some .int), none, false, (some 0))
abbrev n_X0_undo : Nat := 105
theorem yok_X0_undo : YOK m_X0_undo 0 := ⟨rfl, q128, q928, ⟨by decide, by decide, by decide +kernel⟩, by decide⟩
abbrev m_X0_hour : AMI := (yX0_hour, cX0_hour, 1, (some .int), none, false, (some 0))
abbrev n_X0_hour : Nat := 106
theorem yok_X0_hour : YOK m_X0_hour 0 := ⟨rfl, q128, q936, ⟨by decide, by decide, by decide +kernel⟩, by decide⟩
abbrev m_X0_keeps : AMI := (yX0_keeps, cX0_keeps, 1, none, none, false, (some 0))
abbrev n_X0_keeps : Nat := 107
theorem yok_X0_keeps : YOK m_X0_keeps 0 := ⟨rfl, q128, q940, ⟨by decide, by decide, by decide +kernel⟩, by decide⟩
abbrev m_X0_goesOn : AMI := (yX0_goesOn, cX0_goesOn, 3, (some .int), none, false, (some 0))
abbrev n_X0_goesOn : Nat := 108
theorem yok_X0_goesOn : YOK m_X0_goesOn 1 := ⟨rfl, q128, q945, ⟨by decide, by decide, by decide +kernel⟩, by decide⟩
abbrev m_X0_brigade : AMI := (yX0_brigade, cX0_brigade, 4, (some .int), none, false, (some 0))
abbrev n_X0_brigade : Nat := 109
theorem yok_X0_brigade : YOK m_X0_brigade 1 := ⟨rfl, q128, q949, ⟨by decide, by decide, by decide +kernel⟩, by decide⟩
abbrev m_X0_nextOf : AMI := (yX0_nextOf, cX0_nextOf, 2, (some .int), none, false, (some 0))
abbrev n_X0_nextOf : Nat := 110
theorem yok_X0_nextOf : YOK m_X0_nextOf 1 := ⟨rfl, q128, q962, ⟨by decide, by decide, by decide +kernel⟩, by decide⟩
abbrev m_X0_isReached : AMI := (yX0_isReached, cX0_isReached, 3, (some .boolean), none, false, (some 0))
abbrev n_X0_isReached : Nat := 111
theorem yok_X0_isReached : YOK m_X0_isReached 2 := ⟨rfl, q128, q966, ⟨by decide, by decide, by decide +kernel⟩, by decide⟩
abbrev m_X0_choiceOf : AMI := (yX0_choiceOf, cX0_choiceOf, 8, (some .int), none, false, (some 0))
abbrev n_X0_choiceOf : Nat := 112
theorem yok_X0_choiceOf : YOK m_X0_choiceOf 1 := ⟨rfl, q128, q970, ⟨by decide, by decide, by decide +kernel⟩, by decide⟩
abbrev m_X0_wants : AMI := (yX0_wants, cX0_wants, 3, (some .long), none, false, (some 0))
abbrev n_X0_wants : Nat := 113
theorem yok_X0_wants : YOK m_X0_wants 2 := ⟨rfl, q128, q974, ⟨by decide, by decide, by decide +kernel⟩, by decide⟩
abbrev m_X0_asks : AMI := (yX0_asks, cX0_asks, 3, none, none, false, (some 0))
abbrev n_X0_asks : Nat := 114
theorem yok_X0_asks : YOK m_X0_asks 2 := ⟨rfl, q128, q978, ⟨by decide, by decide, by decide +kernel⟩, by decide⟩
abbrev m_X0_bit : AMI := (yX0_bit, cX0_bit, 1, (some .int), none, false, none)
abbrev n_X0_bit : Nat := 115
theorem yok_X0_bit : YOK m_X0_bit 1 := ⟨rfl, q128, q981, ⟨by decide, by decide, by decide +kernel⟩, by decide⟩
abbrev m_X0_light : AMI := (yX0_light, cX0_light, 2, (some .int), none, false, (some 0))
abbrev n_X0_light : Nat := 116
theorem yok_X0_light : YOK m_X0_light 1 := ⟨rfl, q128, q1057, ⟨by decide, by decide, by decide +kernel⟩, by decide⟩
abbrev m_X0_douse : AMI := (yX0_douse, cX0_douse, 3, (some .int), none, false, (some 0))
abbrev n_X0_douse : Nat := 117
theorem yok_X0_douse : YOK m_X0_douse 1 := ⟨rfl, q128, q1061, ⟨by decide, by decide, by decide +kernel⟩, by decide⟩
abbrev m_X0_say : AMI := (yX0_say, cX0_say, 4, (some .int), none, false, (some 0))
abbrev n_X0_say : Nat := 118
theorem yok_X0_say : YOK m_X0_say 2 := ⟨rfl, q128, q1065, ⟨by decide, by decide, by decide +kernel⟩, by decide⟩
abbrev m_X0_send : AMI := (yX0_send, cX0_send, 2, (some .int), none, false, (some 0))
abbrev n_X0_send : Nat := 119
theorem yok_X0_send : YOK m_X0_send 1 := ⟨rfl, q128, q1070, ⟨by decide, by decide, by decide +kernel⟩, by decide⟩
abbrev m_X0_ahead : AMI := (yX0_ahead, cX0_ahead, 4, (some .int), none, false, (some 0))
abbrev n_X0_ahead : Nat := 120
theorem yok_X0_ahead : YOK m_X0_ahead 3 := ⟨rfl, q128, q1074, ⟨by decide, by decide, by decide +kernel⟩, by decide⟩
abbrev m_X0_goesTill : AMI := (yX0_goesTill, cX0_goesTill, 3, none, none, false, (some 0))
abbrev n_X0_goesTill : Nat := 121
theorem yok_X0_goesTill : YOK m_X0_goesTill 1 := ⟨rfl, q128, q1080, ⟨by decide, by decide, by decide +kernel⟩, by decide⟩
abbrev m_X0_left : AMI := (yX0_left, cX0_left, 2, (some .int), none, false, (some 0))
abbrev n_X0_left : Nat := 122
theorem yok_X0_left : YOK m_X0_left 1 := ⟨rfl, q128, q1084, ⟨by decide, by decide, by decide +kernel⟩, by decide⟩
abbrev m_X0_out : AMI := (yX0_out, cX0_out, 2, (some .int), none, false, (some 0))
abbrev n_X0_out : Nat := 123
theorem yok_X0_out : YOK m_X0_out 0 := ⟨rfl, q128, q1092, ⟨by decide, by decide, by decide +kernel⟩, by decide⟩
abbrev m_X0_canBurn : AMI := (yX0_canBurn, cX0_canBurn, 4, (some .int), none, false, (some 0))
abbrev n_X0_canBurn : Nat := 124
theorem yok_X0_canBurn : YOK m_X0_canBurn 0 := ⟨rfl, q128, q1096, ⟨by decide, by decide, by decide +kernel⟩, by decide⟩
abbrev m_X0_order : AMI := (yX0_order, cX0_order, 3, (some .int), none, false, (some 0))
abbrev n_X0_order : Nat := 125
theorem yok_X0_order : YOK m_X0_order 2 := ⟨rfl, q128, q1100, ⟨by decide, by decide, by decide +kernel⟩, by decide⟩
abbrev m_X0_rowsFrom : AMI := (yX0_rowsFrom, cX0_rowsFrom, 5, none, none, false, none)
abbrev n_X0_rowsFrom : Nat := 126
theorem yok_X0_rowsFrom : YOK m_X0_rowsFrom 4 := ⟨rfl, q128, q1105, ⟨by decide, by decide, by decide +kernel⟩, by decide⟩
abbrev m_X0_triesRow : AMI := (yX0_triesRow, cX0_triesRow, 3, none, none, false, (some 0))
abbrev n_X0_triesRow : Nat := 127
theorem yok_X0_triesRow : YOK m_X0_triesRow 1 := ⟨rfl, q128, q1109, ⟨by decide, by decide, by decide +kernel⟩, by decide⟩
abbrev m_X0_has : AMI := (yX0_has, cX0_has, 2, (some .boolean), none, false, none)
abbrev n_X0_has : Nat := 128
theorem yok_X0_has : YOK m_X0_has 2 := ⟨rfl, q128, q1112, ⟨by decide, by decide, by decide +kernel⟩, by decide⟩
abbrev m_X0_heard : AMI := (yX0_heard, cX0_heard, 3, (some .int), none, false, (some 0))
abbrev n_X0_heard : Nat := 129
theorem yok_X0_heard : YOK m_X0_heard 1 := ⟨rfl, q128, q1116, ⟨by decide, by decide, by decide +kernel⟩, by decide⟩
abbrev m_X0_isComeTo : AMI := (yX0_isComeTo, cX0_isComeTo, 5, (some .boolean), none, false, (some 0))
abbrev n_X0_isComeTo : Nat := 130
theorem yok_X0_isComeTo : YOK m_X0_isComeTo 2 := ⟨rfl, q128, q1120, ⟨by decide, by decide, by decide +kernel⟩, by decide⟩
abbrev m_X0_water : AMI := (yX0_water, cX0_water, 3, (some .int), none, false, (some 0))
abbrev n_X0_water : Nat := 131
theorem yok_X0_water : YOK m_X0_water 1 := ⟨rfl, q128, q1124, ⟨by decide, by decide, by decide +kernel⟩, by decide⟩
abbrev m_X0_doesNobodyLoseAll : AMI := (yX0_doesNobodyLoseAll, cX0_doesNobodyLoseAll, 2, (some .boolean), none, false, (some 0))
abbrev n_X0_doesNobodyLoseAll : Nat := 132
theorem yok_X0_doesNobodyLoseAll : YOK m_X0_doesNobodyLoseAll 0 := ⟨rfl, q128, q1128, ⟨by decide, by decide, by decide +kernel⟩, by decide⟩
abbrev m_X0_clear : AMI := (yX0_clear, cX0_clear, 7, (some .int), none, false, (some 0))
abbrev n_X0_clear : Nat := 133
theorem yok_X0_clear : YOK m_X0_clear 2 := ⟨rfl, q128, q1132, ⟨by decide, by decide, by decide +kernel⟩, by decide⟩
abbrev m_X0_silent : AMI := (yX0_silent, cX0_silent, 7, (some .int), none, false, (some 0))
abbrev n_X0_silent : Nat := 134
theorem yok_X0_silent : YOK m_X0_silent 2 := ⟨rfl, q128, q1136, ⟨by decide, by decide, by decide +kernel⟩, by decide⟩
abbrev m_X0_pence : AMI := (yX0_pence, cX0_pence, 9, (some .int), none, false, (some 0))
abbrev n_X0_pence : Nat := 135
theorem yok_X0_pence : YOK m_X0_pence 2 := ⟨rfl, q128, q1140, ⟨by decide, by decide, by decide +kernel⟩, by decide⟩
abbrev m_X0_rests : AMI := (yX0_rests, cX0_rests, 8, (some .int), none, false, (some 0))
abbrev n_X0_rests : Nat := 136
theorem yok_X0_rests : YOK m_X0_rests 4 := ⟨rfl, q128, q1145, ⟨by decide, by decide, by decide +kernel⟩, by decide⟩
abbrev m_X0_laysWords : AMI := (yX0_laysWords, cX0_laysWords, 5, none, none, false, (some 0))
abbrev n_X0_laysWords : Nat := 137
theorem yok_X0_laysWords : YOK m_X0_laysWords 3 := ⟨rfl, q128, q1149, ⟨by decide, by decide, by decide +kernel⟩, by decide⟩
abbrev m_X0_isRest : AMI := (yX0_isRest, cX0_isRest, 3, (some .boolean), none, false, (some 0))
abbrev n_X0_isRest : Nat := 138
theorem yok_X0_isRest : YOK m_X0_isRest 1 := ⟨rfl, q128, q1153, ⟨by decide, by decide, by decide +kernel⟩, by decide⟩
abbrev m_X0_first : AMI := (yX0_first, cX0_first, 3, (some .int), none, false, (some 0))
abbrev n_X0_first : Nat := 139
theorem yok_X0_first : YOK m_X0_first 1 := ⟨rfl, q128, q1157, ⟨by decide, by decide, by decide +kernel⟩, by decide⟩
abbrev m_X0_note : AMI := (yX0_note, cX0_note, 3, (some .int), none, false, (some 0))
abbrev n_X0_note : Nat := 140
theorem yok_X0_note : YOK m_X0_note 2 := ⟨rfl, q128, q1161, ⟨by decide, by decide, by decide +kernel⟩, by decide⟩
abbrev m_X0_ruled : AMI := (yX0_ruled, cX0_ruled, 5, (some .int), none, false, (some 0))
abbrev n_X0_ruled : Nat := 141
theorem yok_X0_ruled : YOK m_X0_ruled 1 := ⟨rfl, q128, q1165, ⟨by decide, by decide, by decide +kernel⟩, by decide⟩
abbrev m_X0_couldRule : AMI := (yX0_couldRule, cX0_couldRule, 4, (some .boolean), none, false, (some 0))
abbrev n_X0_couldRule : Nat := 142
theorem yok_X0_couldRule : YOK m_X0_couldRule 1 := ⟨rfl, q128, q1169, ⟨by decide, by decide, by decide +kernel⟩, by decide⟩
abbrev m_X0_look : AMI := (yX0_look, cX0_look, 5, (some .int), none, false, (some 0))
abbrev n_X0_look : Nat := 143
theorem yok_X0_look : YOK m_X0_look 1 := ⟨rfl, q128, q1173, ⟨by decide, by decide, by decide +kernel⟩, by decide⟩
abbrev m_X0_mostAlike : AMI := (yX0_mostAlike, cX0_mostAlike, 7, (some .int), none, false, (some 0))
abbrev n_X0_mostAlike : Nat := 144
theorem yok_X0_mostAlike : YOK m_X0_mostAlike 2 := ⟨rfl, q128, q1177, ⟨by decide, by decide, by decide +kernel⟩, by decide⟩
abbrev m_X0_seed : AMI := (yX0_seed, cX0_seed, 3, (some .int), none, false, (some 0))
abbrev n_X0_seed : Nat := 145
theorem yok_X0_seed : YOK m_X0_seed 1 := ⟨rfl, q128, q1181, ⟨by decide, by decide, by decide +kernel⟩, by decide⟩
abbrev m_X0_sparks : AMI := (yX0_sparks, cX0_sparks, 10, (some .int), none, false, (some 0))
abbrev n_X0_sparks : Nat := 146
theorem yok_X0_sparks : YOK m_X0_sparks 4 := ⟨rfl, q128, q1185, ⟨by decide, by decide, by decide +kernel⟩, by decide⟩
abbrev m_X0_drawsSpark : AMI := (yX0_drawsSpark, cX0_drawsSpark, 3, none, none, false, (some 0))
abbrev n_X0_drawsSpark : Nat := 147
theorem yok_X0_drawsSpark : YOK m_X0_drawsSpark 1 := ⟨rfl, q128, q1190, ⟨by decide, by decide, by decide +kernel⟩, by decide⟩
abbrev m_X0_draws : AMI := (yX0_draws, cX0_draws, 2, (some .int), none, false, (some 0))
abbrev n_X0_draws : Nat := 148
theorem yok_X0_draws : YOK m_X0_draws 1 := ⟨rfl, q128, q1194, ⟨by decide, by decide, by decide +kernel⟩, by decide⟩
abbrev m_X0_count : AMI := (yX0_count, cX0_count, 2, (some .int), none, false, (some 0))
abbrev n_X0_count : Nat := 149
theorem yok_X0_count : YOK m_X0_count 1 := ⟨rfl, q128, q1202, ⟨by decide, by decide, by decide +kernel⟩, by decide⟩
abbrev m_X0_image : AMI := (yX0_image, cX0_image, 2, (some .int), none, false, (some 0))
abbrev n_X0_image : Nat := 150
theorem yok_X0_image : YOK m_X0_image 1 := ⟨rfl, q128, q1206, ⟨by decide, by decide, by decide +kernel⟩, by decide⟩
abbrev m_X0_back : AMI := (yX0_back, cX0_back, 2, (some .int), none, false, (some 0))
abbrev n_X0_back : Nat := 151
theorem yok_X0_back : YOK m_X0_back 1 := ⟨rfl, q128, q1248, ⟨by decide, by decide, by decide +kernel⟩, by decide⟩
abbrev m_X4_init : AMI := (yX4_init, cX4_init, 1, none, none, false, (some 4))
abbrev n_X4_init : Nat := 152
theorem yok_X4_init : YOK m_X4_init 0 := ⟨rfl, q137, q1257, ⟨by decide, by decide, by decide +kernel⟩, by decide⟩
abbrev m_X4_feed : AMI := (yX4_feed, cX4_feed, 6, (some .int), none, false, (some 4))
abbrev n_X4_feed : Nat := 153
theorem yok_X4_feed : YOK m_X4_feed 5 := ⟨rfl, q137, q1393, ⟨by decide, by decide, by decide +kernel⟩, by decide⟩
abbrev m_X4_four : AMI := (yX4_four, cX4_four, 3, none, none, false, (some 4))
abbrev n_X4_four : Nat := 154
theorem yok_X4_four : YOK m_X4_four 1 := ⟨rfl, q137, q1397, ⟨by decide, by decide, by decide +kernel⟩, by decide⟩
abbrev m_X4_end : AMI := (yX4_end, cX4_end, 2, (some .int), none, false, (some 4))
abbrev n_X4_end : Nat := 155
theorem yok_X4_end : YOK m_X4_end 1 := ⟨rfl, q137, q1401, ⟨by decide, by decide, by decide +kernel⟩, by decide⟩
abbrev m_X4_rule : AMI := (yX4_rule, cX4_rule, 1, (some .int), none, false, (some 4))
abbrev n_X4_rule : Nat := 156
theorem yok_X4_rule : YOK m_X4_rule 0 := ⟨rfl, q137, q1405, ⟨by decide, by decide, by decide +kernel⟩, by decide⟩
abbrev m_X4_readsAll : AMI := (yX4_readsAll, cX4_readsAll, 2, (some .boolean), none, false, (some 4))
abbrev n_X4_readsAll : Nat := 157
theorem yok_X4_readsAll : YOK m_X4_readsAll 0 := ⟨rfl, q137, q1409, ⟨by decide, by decide, by decide +kernel⟩, by decide⟩
abbrev m_X4_clauseHere : AMI := (yX4_clauseHere, cX4_clauseHere, 3, (some .boolean), none, false, (some 4))
abbrev n_X4_clauseHere : Nat := 158
theorem yok_X4_clauseHere : YOK m_X4_clauseHere 0 := ⟨rfl, q137, q1413, ⟨by decide, by decide, by decide +kernel⟩, by decide⟩
abbrev m_X4_see : AMI := (yX4_see, cX4_see, 1, (some .int), none, false, (some 4))
abbrev n_X4_see : Nat := 159
theorem yok_X4_see : YOK m_X4_see 0 := ⟨rfl, q137, q1417, ⟨by decide, by decide, by decide +kernel⟩, by decide⟩
abbrev m_X4_isValleyWord : AMI := (yX4_isValleyWord, cX4_isValleyWord, 1, (some .boolean), none, false, (some 4))
abbrev n_X4_isValleyWord : Nat := 160
theorem yok_X4_isValleyWord : YOK m_X4_isValleyWord 0 := ⟨rfl, q137, q1421, ⟨by decide, by decide, by decide +kernel⟩, by decide⟩
abbrev m_X4_isWord : AMI := (yX4_isWord, cX4_isWord, 6, (some .boolean), none, false, (some 4))
abbrev n_X4_isWord : Nat := 161
theorem yok_X4_isWord : YOK m_X4_isWord 1 := ⟨rfl, q137, q1426, ⟨by decide, by decide, by decide +kernel⟩, by decide⟩
abbrev m_X4_isLetter : AMI := (yX4_isLetter, cX4_isLetter, 2, (some .boolean), none, false, (some 4))
abbrev n_X4_isLetter : Nat := 162
theorem yok_X4_isLetter : YOK m_X4_isLetter 1 := ⟨rfl, q137, q1430, ⟨by decide, by decide, by decide +kernel⟩, by decide⟩
abbrev m_X4_fails : AMI := (yX4_fails, cX4_fails, 3, (some .boolean), none, false, (some 4))
abbrev n_X4_fails : Nat := 163
theorem yok_X4_fails : YOK m_X4_fails 2 := ⟨rfl, q137, q1438, ⟨by decide, by decide, by decide +kernel⟩, by decide⟩
abbrev m_X4_valleyLineHere : AMI := (yX4_valleyLineHere, cX4_valleyLineHere, 2, (some .boolean), none, false, (some 4))
abbrev n_X4_valleyLineHere : Nat := 164
theorem yok_X4_valleyLineHere : YOK m_X4_valleyLineHere 1 := ⟨rfl, q137, q1442, ⟨by decide, by decide, by decide +kernel⟩, by decide⟩
abbrev m_X4_isValleyHere : AMI := (yX4_isValleyHere, cX4_isValleyHere, 2, (some .boolean), none, false, (some 4))
abbrev n_X4_isValleyHere : Nat := 165
theorem yok_X4_isValleyHere : YOK m_X4_isValleyHere 1 := ⟨rfl, q137, q1446, ⟨by decide, by decide, by decide +kernel⟩, by decide⟩
abbrev m_X4_passWord : AMI := (yX4_passWord, cX4_passWord, 1, none, none, false, (some 4))
abbrev n_X4_passWord : Nat := 166
theorem yok_X4_passWord : YOK m_X4_passWord 0 := ⟨rfl, q137, q1450, ⟨by decide, by decide, by decide +kernel⟩, by decide⟩
abbrev m_X4_cellHere : AMI := (yX4_cellHere, cX4_cellHere, 4, (some .boolean), none, false, (some 4))
abbrev n_X4_cellHere : Nat := 167
theorem yok_X4_cellHere : YOK m_X4_cellHere 3 := ⟨rfl, q137, q1454, ⟨by decide, by decide, by decide +kernel⟩, by decide⟩
abbrev m_X4_numberHere : AMI := (yX4_numberHere, cX4_numberHere, 5, (some .boolean), none, false, (some 4))
abbrev n_X4_numberHere : Nat := 168
theorem yok_X4_numberHere : YOK m_X4_numberHere 2 := ⟨rfl, q137, q1458, ⟨by decide, by decide, by decide +kernel⟩, by decide⟩
abbrev m_X4_isDigit : AMI := (yX4_isDigit, cX4_isDigit, 2, (some .boolean), none, false, (some 4))
abbrev n_X4_isDigit : Nat := 169
theorem yok_X4_isDigit : YOK m_X4_isDigit 1 := ⟨rfl, q137, q1462, ⟨by decide, by decide, by decide +kernel⟩, by decide⟩
abbrev m_X4_in : AMI := (yX4_in, cX4_in, 6, (some .boolean), none, false, none)
abbrev n_X4_in : Nat := 170
theorem yok_X4_in : YOK m_X4_in 3 := ⟨rfl, q137, q1465, ⟨by decide, by decide, by decide +kernel⟩, by decide⟩
abbrev m_X4_isHouseHere : AMI := (yX4_isHouseHere, cX4_isHouseHere, 3, (some .boolean), none, false, (some 4))
abbrev n_X4_isHouseHere : Nat := 171
theorem yok_X4_isHouseHere : YOK m_X4_isHouseHere 1 := ⟨rfl, q137, q1469, ⟨by decide, by decide, by decide +kernel⟩, by decide⟩
abbrev m_X4_isRoadHere : AMI := (yX4_isRoadHere, cX4_isRoadHere, 3, (some .boolean), none, false, (some 4))
abbrev n_X4_isRoadHere : Nat := 172
theorem yok_X4_isRoadHere : YOK m_X4_isRoadHere 0 := ⟨rfl, q137, q1473, ⟨by decide, by decide, by decide +kernel⟩, by decide⟩
abbrev m_X4_areTwoHere : AMI := (yX4_areTwoHere, cX4_areTwoHere, 3, (some .boolean), none, false, (some 4))
abbrev n_X4_areTwoHere : Nat := 173
theorem yok_X4_areTwoHere : YOK m_X4_areTwoHere 1 := ⟨rfl, q137, q1477, ⟨by decide, by decide, by decide +kernel⟩, by decide⟩
abbrev m_X4_isBesideHere : AMI := (yX4_isBesideHere, cX4_isBesideHere, 1, (some .boolean), none, false, (some 4))
abbrev n_X4_isBesideHere : Nat := 174
theorem yok_X4_isBesideHere : YOK m_X4_isBesideHere 0 := ⟨rfl, q137, q1481, ⟨by decide, by decide, by decide +kernel⟩, by decide⟩
abbrev m_X4_isGoHere : AMI := (yX4_isGoHere, cX4_isGoHere, 2, (some .boolean), none, false, (some 4))
abbrev n_X4_isGoHere : Nat := 175
theorem yok_X4_isGoHere : YOK m_X4_isGoHere 0 := ⟨rfl, q137, q1485, ⟨by decide, by decide, by decide +kernel⟩, by decide⟩
abbrev m_X4_sum : AMI := (yX4_sum, cX4_sum, 2, (some .boolean), none, false, (some 4))
abbrev n_X4_sum : Nat := 176
theorem yok_X4_sum : YOK m_X4_sum 0 := ⟨rfl, q137, q1489, ⟨by decide, by decide, by decide +kernel⟩, by decide⟩
abbrev m_X4_term : AMI := (yX4_term, cX4_term, 2, (some .boolean), none, false, (some 4))
abbrev n_X4_term : Nat := 177
theorem yok_X4_term : YOK m_X4_term 0 := ⟨rfl, q137, q1493, ⟨by decide, by decide, by decide +kernel⟩, by decide⟩
abbrev m_X4_value : AMI := (yX4_value, cX4_value, 3, (some .boolean), none, false, (some 4))
abbrev n_X4_value : Nat := 178
theorem yok_X4_value : YOK m_X4_value 0 := ⟨rfl, q137, q1497, ⟨by decide, by decide, by decide +kernel⟩, by decide⟩
abbrev m_X4_makes : AMI := (yX4_makes, cX4_makes, 2, (some .boolean), none, false, (some 4))
abbrev n_X4_makes : Nat := 179
theorem yok_X4_makes : YOK m_X4_makes 1 := ⟨rfl, q137, q1502, ⟨by decide, by decide, by decide +kernel⟩, by decide⟩
abbrev m_X4_puts : AMI := (yX4_puts, cX4_puts, 3, none, none, false, (some 4))
abbrev n_X4_puts : Nat := 180
theorem yok_X4_puts : YOK m_X4_puts 2 := ⟨rfl, q137, q1506, ⟨by decide, by decide, by decide +kernel⟩, by decide⟩
abbrev m_X4_wordHere : AMI := (yX4_wordHere, cX4_wordHere, 1, (some .int), none, false, (some 4))
abbrev n_X4_wordHere : Nat := 181
theorem yok_X4_wordHere : YOK m_X4_wordHere 0 := ⟨rfl, q137, q1510, ⟨by decide, by decide, by decide +kernel⟩, by decide⟩
abbrev m_X4_takesWord : AMI := (yX4_takesWord, cX4_takesWord, 3, (some .boolean), none, false, (some 4))
abbrev n_X4_takesWord : Nat := 182
theorem yok_X4_takesWord : YOK m_X4_takesWord 1 := ⟨rfl, q137, q1525, ⟨by decide, by decide, by decide +kernel⟩, by decide⟩
abbrev m_X4_tested : AMI := (yX4_tested, cX4_tested, 3, (some .boolean), none, false, (some 4))
abbrev n_X4_tested : Nat := 183
theorem yok_X4_tested : YOK m_X4_tested 0 := ⟨rfl, q137, q1529, ⟨by decide, by decide, by decide +kernel⟩, by decide⟩
abbrev m_X4_fact : AMI := (yX4_fact, cX4_fact, 3, (some .boolean), none, false, (some 4))
abbrev n_X4_fact : Nat := 184
theorem yok_X4_fact : YOK m_X4_fact 0 := ⟨rfl, q137, q1533, ⟨by decide, by decide, by decide +kernel⟩, by decide⟩
abbrev m_X4_opens : AMI := (yX4_opens, cX4_opens, 2, (some .boolean), none, false, (some 4))
abbrev n_X4_opens : Nat := 185
theorem yok_X4_opens : YOK m_X4_opens 1 := ⟨rfl, q137, q1538, ⟨by decide, by decide, by decide +kernel⟩, by decide⟩
abbrev m_X4_compare : AMI := (yX4_compare, cX4_compare, 5, (some .boolean), none, false, (some 4))
abbrev n_X4_compare : Nat := 186
theorem yok_X4_compare : YOK m_X4_compare 0 := ⟨rfl, q137, q1542, ⟨by decide, by decide, by decide +kernel⟩, by decide⟩
abbrev m_X4_closes : AMI := (yX4_closes, cX4_closes, 1, none, none, false, (some 4))
abbrev n_X4_closes : Nat := 187
theorem yok_X4_closes : YOK m_X4_closes 0 := ⟨rfl, q137, q1546, ⟨by decide, by decide, by decide +kernel⟩, by decide⟩
abbrev m_X4_layDown : AMI := (yX4_layDown, cX4_layDown, 2, none, none, false, (some 4))
abbrev n_X4_layDown : Nat := 188
theorem yok_X4_layDown : YOK m_X4_layDown 1 := ⟨rfl, q137, q1550, ⟨by decide, by decide, by decide +kernel⟩, by decide⟩
abbrev m_X4_strength : AMI := (yX4_strength, cX4_strength, 1, (some .int), none, false, none)
abbrev n_X4_strength : Nat := 189
theorem yok_X4_strength : YOK m_X4_strength 1 := ⟨rfl, q137, q1553, ⟨by decide, by decide, by decide +kernel⟩, by decide⟩
abbrev m_X4_isInside : AMI := (yX4_isInside, cX4_isInside, 2, (some .boolean), none, false, (some 4))
abbrev n_X4_isInside : Nat := 190
theorem yok_X4_isInside : YOK m_X4_isInside 0 := ⟨rfl, q137, q1557, ⟨by decide, by decide, by decide +kernel⟩, by decide⟩
abbrev m_X4_valley : AMI := (yX4_valley, cX4_valley, 2, (some .int), none, false, (some 4))
abbrev n_X4_valley : Nat := 191
theorem yok_X4_valley : YOK m_X4_valley 0 := ⟨rfl, q137, q1563, ⟨by decide, by decide, by decide +kernel⟩, by decide⟩
abbrev m_X4_measures : AMI := (yX4_measures, cX4_measures, 5, none, none, false, (some 4))
abbrev n_X4_measures : Nat := 192
theorem yok_X4_measures : YOK m_X4_measures 0 := ⟨rfl, q137, q1567, ⟨by decide, by decide, by decide +kernel⟩, by decide⟩
abbrev m_X4_farOf : AMI := (yX4_farOf, cX4_farOf, 3, (some .int), none, false, (some 4))
abbrev n_X4_farOf : Nat := 193
theorem yok_X4_farOf : YOK m_X4_farOf 2 := ⟨rfl, q137, q1571, ⟨by decide, by decide, by decide +kernel⟩, by decide⟩
abbrev m_X4_begins : AMI := (yX4_begins, cX4_begins, 3, none, none, false, (some 4))
abbrev n_X4_begins : Nat := 194
theorem yok_X4_begins : YOK m_X4_begins 0 := ⟨rfl, q137, q1575, ⟨by decide, by decide, by decide +kernel⟩, by decide⟩
abbrev m_X4_force : AMI := (yX4_force, cX4_force, 3, (some .int), none, false, (some 4))
abbrev n_X4_force : Nat := 195
theorem yok_X4_force : YOK m_X4_force 1 := ⟨rfl, q137, q1579, ⟨by decide, by decide, by decide +kernel⟩, by decide⟩
abbrev m_X4_isRule : AMI := (yX4_isRule, cX4_isRule, 2, (some .boolean), none, false, (some 4))
abbrev n_X4_isRule : Nat := 196
theorem yok_X4_isRule : YOK m_X4_isRule 1 := ⟨rfl, q137, q1583, ⟨by decide, by decide, by decide +kernel⟩, by decide⟩
abbrev m_X4_house : AMI := (yX4_house, cX4_house, 3, (some .int), none, false, (some 4))
abbrev n_X4_house : Nat := 197
theorem yok_X4_house : YOK m_X4_house 2 := ⟨rfl, q137, q1587, ⟨by decide, by decide, by decide +kernel⟩, by decide⟩
abbrev m_X4_isHouse : AMI := (yX4_isHouse, cX4_isHouse, 2, (some .boolean), none, false, (some 4))
abbrev n_X4_isHouse : Nat := 198
theorem yok_X4_isHouse : YOK m_X4_isHouse 1 := ⟨rfl, q137, q1591, ⟨by decide, by decide, by decide +kernel⟩, by decide⟩
abbrev m_X4_far : AMI := (yX4_far, cX4_far, 3, (some .int), none, false, (some 4))
abbrev n_X4_far : Nat := 199
theorem yok_X4_far : YOK m_X4_far 2 := ⟨rfl, q137, q1595, ⟨by decide, by decide, by decide +kernel⟩, by decide⟩
abbrev m_X4_isPlace : AMI := (yX4_isPlace, cX4_isPlace, 2, (some .boolean), none, false, (some 4))
abbrev n_X4_isPlace : Nat := 200
theorem yok_X4_isPlace : YOK m_X4_isPlace 1 := ⟨rfl, q137, q1599, ⟨by decide, by decide, by decide +kernel⟩, by decide⟩
abbrev m_X4_isValley : AMI := (yX4_isValley, cX4_isValley, 1, (some .boolean), none, false, (some 4))
abbrev n_X4_isValley : Nat := 201
theorem yok_X4_isValley : YOK m_X4_isValley 0 := ⟨rfl, q137, q1603, ⟨by decide, by decide, by decide +kernel⟩, by decide⟩
abbrev m_X4_undo : AMI := (yX4_undo, cX4_undo, 2, (some .int), none, false, (some 4))
abbrev n_X4_undo : Nat := 202
theorem yok_X4_undo : YOK m_X4_undo 0 := ⟨rfl, q137, q1607, ⟨by decide, by decide, by decide +kernel⟩, by decide⟩
abbrev m_X4_hour : AMI := (yX4_hour, cX4_hour, 1, (some .int), none, false, (some 4))
abbrev n_X4_hour : Nat := 203
theorem yok_X4_hour : YOK m_X4_hour 0 := ⟨rfl, q137, q1611, ⟨by decide, by decide, by decide +kernel⟩, by decide⟩
abbrev m_X4_keepsAct : AMI := (yX4_keepsAct, cX4_keepsAct, 2, none, none, false, (some 4))
abbrev n_X4_keepsAct : Nat := 204
theorem yok_X4_keepsAct : YOK m_X4_keepsAct 0 := ⟨rfl, q137, q1615, ⟨by decide, by decide, by decide +kernel⟩, by decide⟩
abbrev m_X4_passes : AMI := (yX4_passes, cX4_passes, 2, (some .int), none, false, (some 4))
abbrev n_X4_passes : Nat := 205
theorem yok_X4_passes : YOK m_X4_passes 0 := ⟨rfl, q137, q1619, ⟨by decide, by decide, by decide +kernel⟩, by decide⟩
abbrev m_X4_worthAll : AMI := (yX4_worthAll, cX4_worthAll, 3, (some .int), none, false, (some 4))
abbrev n_X4_worthAll : Nat := 206
theorem yok_X4_worthAll : YOK m_X4_worthAll 0 := ⟨rfl, q137, q1623, ⟨by decide, by decide, by decide +kernel⟩, by decide⟩
abbrev m_X4_worthOf : AMI := (yX4_worthOf, cX4_worthOf, 2, (some .int), none, false, (some 4))
abbrev n_X4_worthOf : Nat := 207
theorem yok_X4_worthOf : YOK m_X4_worthOf 1 := ⟨rfl, q137, q1627, ⟨by decide, by decide, by decide +kernel⟩, by decide⟩
abbrev m_X4_goes : AMI := (yX4_goes, cX4_goes, 2, none, none, false, (some 4))
abbrev n_X4_goes : Nat := 208
theorem yok_X4_goes : YOK m_X4_goes 0 := ⟨rfl, q137, q1631, ⟨by decide, by decide, by decide +kernel⟩, by decide⟩
abbrev m_X4_isOnItsWay : AMI := (yX4_isOnItsWay, cX4_isOnItsWay, 1, (some .boolean), none, false, (some 4))
abbrev n_X4_isOnItsWay : Nat := 209
theorem yok_X4_isOnItsWay : YOK m_X4_isOnItsWay 0 := ⟨rfl, q137, q1635, ⟨by decide, by decide, by decide +kernel⟩, by decide⟩
abbrev m_X4_whereItIs : AMI := (yX4_whereItIs, cX4_whereItIs, 1, (some .int), none, false, (some 4))
abbrev n_X4_whereItIs : Nat := 210
theorem yok_X4_whereItIs : YOK m_X4_whereItIs 0 := ⟨rfl, q137, q1639, ⟨by decide, by decide, by decide +kernel⟩, by decide⟩
abbrev m_X4_heatOf : AMI := (yX4_heatOf, cX4_heatOf, 2, (some .int), none, false, (some 4))
abbrev n_X4_heatOf : Nat := 211
theorem yok_X4_heatOf : YOK m_X4_heatOf 1 := ⟨rfl, q137, q1643, ⟨by decide, by decide, by decide +kernel⟩, by decide⟩
abbrev m_X4_choice : AMI := (yX4_choice, cX4_choice, 7, (some .int), none, false, (some 4))
abbrev n_X4_choice : Nat := 212
theorem yok_X4_choice : YOK m_X4_choice 0 := ⟨rfl, q137, q1647, ⟨by decide, by decide, by decide +kernel⟩, by decide⟩
abbrev m_X4_sumOf : AMI := (yX4_sumOf, cX4_sumOf, 2, (some .long), none, false, (some 4))
abbrev n_X4_sumOf : Nat := 213
theorem yok_X4_sumOf : YOK m_X4_sumOf 1 := ⟨rfl, q137, q1651, ⟨by decide, by decide, by decide +kernel⟩, by decide⟩
abbrev m_X4_saysOf : AMI := (yX4_saysOf, cX4_saysOf, 2, (some .int), none, false, (some 4))
abbrev n_X4_saysOf : Nat := 214
theorem yok_X4_saysOf : YOK m_X4_saysOf 1 := ⟨rfl, q137, q1655, ⟨by decide, by decide, by decide +kernel⟩, by decide⟩
abbrev m_X4_fires : AMI := (yX4_fires, cX4_fires, 3, (some .int), none, false, (some 4))
abbrev n_X4_fires : Nat := 215
theorem yok_X4_fires : YOK m_X4_fires 0 := ⟨rfl, q137, q1659, ⟨by decide, by decide, by decide +kernel⟩, by decide⟩
abbrev m_X4_bits : AMI := (yX4_bits, cX4_bits, 3, (some .int), none, false, none)
abbrev n_X4_bits : Nat := 216
theorem yok_X4_bits : YOK m_X4_bits 1 := ⟨rfl, q137, q1662, ⟨by decide, by decide, by decide +kernel⟩, by decide⟩
abbrev m_X4_lostAll : AMI := (yX4_lostAll, cX4_lostAll, 3, (some .int), none, false, (some 4))
abbrev n_X4_lostAll : Nat := 217
theorem yok_X4_lostAll : YOK m_X4_lostAll 0 := ⟨rfl, q137, q1666, ⟨by decide, by decide, by decide +kernel⟩, by decide⟩
abbrev m_X4_lostOf : AMI := (yX4_lostOf, cX4_lostOf, 2, (some .int), none, false, (some 4))
abbrev n_X4_lostOf : Nat := 218
theorem yok_X4_lostOf : YOK m_X4_lostOf 1 := ⟨rfl, q137, q1670, ⟨by decide, by decide, by decide +kernel⟩, by decide⟩
abbrev m_X4_summedBy : AMI := (yX4_summedBy, cX4_summedBy, 4, (some .long), none, false, (some 4))
abbrev n_X4_summedBy : Nat := 219
theorem yok_X4_summedBy : YOK m_X4_summedBy 1 := ⟨rfl, q137, q1674, ⟨by decide, by decide, by decide +kernel⟩, by decide⟩
abbrev m_X4_reckons : AMI := (yX4_reckons, cX4_reckons, 11, (some .long), none, false, (some 4))
abbrev n_X4_reckons : Nat := 220
theorem yok_X4_reckons : YOK m_X4_reckons 3 := ⟨rfl, q137, q1678, ⟨by decide, by decide, by decide +kernel⟩, by decide⟩
abbrev m_X4_push : AMI := (yX4_push, cX4_push, 3, none, none, false, (some 4))
abbrev n_X4_push : Nat := 221
theorem yok_X4_push : YOK m_X4_push 1 := ⟨rfl, q137, q1682, ⟨by decide, by decide, by decide +kernel⟩, by decide⟩
abbrev m_X4_pop : AMI := (yX4_pop, cX4_pop, 1, (some .long), none, false, (some 4))
abbrev n_X4_pop : Nat := 222
theorem yok_X4_pop : YOK m_X4_pop 0 := ⟨rfl, q137, q1686, ⟨by decide, by decide, by decide +kernel⟩, by decide⟩
abbrev m_X4_one : AMI := (yX4_one, cX4_one, 5, (some .long), none, false, none)
abbrev n_X4_one : Nat := 223
theorem yok_X4_one : YOK m_X4_one 3 := ⟨rfl, q137, q1689, ⟨by decide, by decide, by decide +kernel⟩, by decide⟩
abbrev m_X4_nextOfRow : AMI := (yX4_nextOfRow, cX4_nextOfRow, 2, (some .int), none, false, (some 4))
abbrev n_X4_nextOfRow : Nat := 224
theorem yok_X4_nextOfRow : YOK m_X4_nextOfRow 0 := ⟨rfl, q137, q1693, ⟨by decide, by decide, by decide +kernel⟩, by decide⟩
abbrev m_X4_sends : AMI := (yX4_sends, cX4_sends, 2, none, none, false, (some 4))
abbrev n_X4_sends : Nat := 225
theorem yok_X4_sends : YOK m_X4_sends 1 := ⟨rfl, q137, q1697, ⟨by decide, by decide, by decide +kernel⟩, by decide⟩
abbrev m_X4_comes : AMI := (yX4_comes, cX4_comes, 3, (some .int), none, false, (some 4))
abbrev n_X4_comes : Nat := 226
theorem yok_X4_comes : YOK m_X4_comes 0 := ⟨rfl, q137, q1701, ⟨by decide, by decide, by decide +kernel⟩, by decide⟩
abbrev m_X4_burns : AMI := (yX4_burns, cX4_burns, 3, none, none, false, (some 4))
abbrev n_X4_burns : Nat := 227
theorem yok_X4_burns : YOK m_X4_burns 0 := ⟨rfl, q137, q1705, ⟨by decide, by decide, by decide +kernel⟩, by decide⟩
abbrev m_X4_light : AMI := (yX4_light, cX4_light, 2, (some .int), none, false, (some 4))
abbrev n_X4_light : Nat := 228
theorem yok_X4_light : YOK m_X4_light 1 := ⟨rfl, q137, q1709, ⟨by decide, by decide, by decide +kernel⟩, by decide⟩
abbrev m_X4_canLight : AMI := (yX4_canLight, cX4_canLight, 2, (some .boolean), none, false, (some 4))
abbrev n_X4_canLight : Nat := 229
theorem yok_X4_canLight : YOK m_X4_canLight 1 := ⟨rfl, q137, q1713, ⟨by decide, by decide, by decide +kernel⟩, by decide⟩
abbrev m_X4_douse : AMI := (yX4_douse, cX4_douse, 3, (some .int), none, false, (some 4))
abbrev n_X4_douse : Nat := 230
theorem yok_X4_douse : YOK m_X4_douse 1 := ⟨rfl, q137, q1717, ⟨by decide, by decide, by decide +kernel⟩, by decide⟩
abbrev m_X4_say : AMI := (yX4_say, cX4_say, 4, (some .int), none, false, (some 4))
abbrev n_X4_say : Nat := 231
theorem yok_X4_say : YOK m_X4_say 2 := ⟨rfl, q137, q1721, ⟨by decide, by decide, by decide +kernel⟩, by decide⟩
abbrev m_X4_send : AMI := (yX4_send, cX4_send, 2, (some .int), none, false, (some 4))
abbrev n_X4_send : Nat := 232
theorem yok_X4_send : YOK m_X4_send 1 := ⟨rfl, q137, q1726, ⟨by decide, by decide, by decide +kernel⟩, by decide⟩
abbrev m_X4_ahead : AMI := (yX4_ahead, cX4_ahead, 5, (some .int), none, false, (some 4))
abbrev n_X4_ahead : Nat := 233
theorem yok_X4_ahead : YOK m_X4_ahead 3 := ⟨rfl, q137, q1730, ⟨by decide, by decide, by decide +kernel⟩, by decide⟩
abbrev m_X4_keeps : AMI := (yX4_keeps, cX4_keeps, 2, none, none, false, (some 4))
abbrev n_X4_keeps : Nat := 234
theorem yok_X4_keeps : YOK m_X4_keeps 0 := ⟨rfl, q137, q1736, ⟨by decide, by decide, by decide +kernel⟩, by decide⟩
abbrev m_X4_passesAll : AMI := (yX4_passesAll, cX4_passesAll, 3, none, none, false, (some 4))
abbrev n_X4_passesAll : Nat := 235
theorem yok_X4_passesAll : YOK m_X4_passesAll 1 := ⟨rfl, q137, q1740, ⟨by decide, by decide, by decide +kernel⟩, by decide⟩
abbrev m_X4_laysBack : AMI := (yX4_laysBack, cX4_laysBack, 2, none, none, false, (some 4))
abbrev n_X4_laysBack : Nat := 236
theorem yok_X4_laysBack : YOK m_X4_laysBack 0 := ⟨rfl, q137, q1744, ⟨by decide, by decide, by decide +kernel⟩, by decide⟩
abbrev m_X4_left : AMI := (yX4_left, cX4_left, 2, (some .int), none, false, (some 4))
abbrev n_X4_left : Nat := 237
theorem yok_X4_left : YOK m_X4_left 1 := ⟨rfl, q137, q1748, ⟨by decide, by decide, by decide +kernel⟩, by decide⟩
abbrev m_X4_worthIn : AMI := (yX4_worthIn, cX4_worthIn, 3, (some .int), none, false, (some 4))
abbrev n_X4_worthIn : Nat := 238
theorem yok_X4_worthIn : YOK m_X4_worthIn 1 := ⟨rfl, q137, q1752, ⟨by decide, by decide, by decide +kernel⟩, by decide⟩
abbrev m_X4_out : AMI := (yX4_out, cX4_out, 3, (some .int), none, false, (some 4))
abbrev n_X4_out : Nat := 239
theorem yok_X4_out : YOK m_X4_out 0 := ⟨rfl, q137, q1756, ⟨by decide, by decide, by decide +kernel⟩, by decide⟩
abbrev m_X4_canBurn : AMI := (yX4_canBurn, cX4_canBurn, 4, (some .int), none, false, (some 4))
abbrev n_X4_canBurn : Nat := 240
theorem yok_X4_canBurn : YOK m_X4_canBurn 0 := ⟨rfl, q137, q1760, ⟨by decide, by decide, by decide +kernel⟩, by decide⟩
abbrev m_X4_isOf : AMI := (yX4_isOf, cX4_isOf, 2, (some .boolean), none, false, none)
abbrev n_X4_isOf : Nat := 241
theorem yok_X4_isOf : YOK m_X4_isOf 2 := ⟨rfl, q137, q1763, ⟨by decide, by decide, by decide +kernel⟩, by decide⟩
abbrev m_X4_order : AMI := (yX4_order, cX4_order, 4, (some .int), none, false, (some 4))
abbrev n_X4_order : Nat := 242
theorem yok_X4_order : YOK m_X4_order 2 := ⟨rfl, q137, q1767, ⟨by decide, by decide, by decide +kernel⟩, by decide⟩
abbrev m_X4_findsOrder : AMI := (yX4_findsOrder, cX4_findsOrder, 5, none, none, false, (some 4))
abbrev n_X4_findsOrder : Nat := 243
theorem yok_X4_findsOrder : YOK m_X4_findsOrder 2 := ⟨rfl, q137, q1774, ⟨by decide, by decide, by decide +kernel⟩, by decide⟩
abbrev m_X4_weighsRow : AMI := (yX4_weighsRow, cX4_weighsRow, 5, none, none, false, (some 4))
abbrev n_X4_weighsRow : Nat := 244
theorem yok_X4_weighsRow : YOK m_X4_weighsRow 2 := ⟨rfl, q137, q1778, ⟨by decide, by decide, by decide +kernel⟩, by decide⟩
abbrev m_X4_isInRow : AMI := (yX4_isInRow, cX4_isInRow, 4, (some .boolean), none, false, (some 4))
abbrev n_X4_isInRow : Nat := 245
theorem yok_X4_isInRow : YOK m_X4_isInRow 2 := ⟨rfl, q137, q1782, ⟨by decide, by decide, by decide +kernel⟩, by decide⟩
abbrev m_X4_heard : AMI := (yX4_heard, cX4_heard, 4, (some .int), none, false, (some 4))
abbrev n_X4_heard : Nat := 246
theorem yok_X4_heard : YOK m_X4_heard 1 := ⟨rfl, q137, q1786, ⟨by decide, by decide, by decide +kernel⟩, by decide⟩
abbrev m_X4_comesTo : AMI := (yX4_comesTo, cX4_comesTo, 5, (some .boolean), none, false, (some 4))
abbrev n_X4_comesTo : Nat := 247
theorem yok_X4_comesTo : YOK m_X4_comesTo 2 := ⟨rfl, q137, q1790, ⟨by decide, by decide, by decide +kernel⟩, by decide⟩
abbrev m_X4_water : AMI := (yX4_water, cX4_water, 6, (some .int), none, false, (some 4))
abbrev n_X4_water : Nat := 248
theorem yok_X4_water : YOK m_X4_water 1 := ⟨rfl, q137, q1794, ⟨by decide, by decide, by decide +kernel⟩, by decide⟩
abbrev m_X4_withWorth : AMI := (yX4_withWorth, cX4_withWorth, 3, (some .int), none, false, (some 4))
abbrev n_X4_withWorth : Nat := 249
theorem yok_X4_withWorth : YOK m_X4_withWorth 0 := ⟨rfl, q137, q1798, ⟨by decide, by decide, by decide +kernel⟩, by decide⟩
abbrev m_X4_clear : AMI := (yX4_clear, cX4_clear, 8, (some .int), none, false, (some 4))
abbrev n_X4_clear : Nat := 250
theorem yok_X4_clear : YOK m_X4_clear 2 := ⟨rfl, q137, q1802, ⟨by decide, by decide, by decide +kernel⟩, by decide⟩
abbrev m_X4_silent : AMI := (yX4_silent, cX4_silent, 7, (some .int), none, false, (some 4))
abbrev n_X4_silent : Nat := 251
theorem yok_X4_silent : YOK m_X4_silent 2 := ⟨rfl, q137, q1806, ⟨by decide, by decide, by decide +kernel⟩, by decide⟩
abbrev m_X4_pence : AMI := (yX4_pence, cX4_pence, 9, (some .int), none, false, (some 4))
abbrev n_X4_pence : Nat := 252
theorem yok_X4_pence : YOK m_X4_pence 2 := ⟨rfl, q137, q1810, ⟨by decide, by decide, by decide +kernel⟩, by decide⟩
abbrev m_X4_rests : AMI := (yX4_rests, cX4_rests, 8, (some .int), none, false, (some 4))
abbrev n_X4_rests : Nat := 253
theorem yok_X4_rests : YOK m_X4_rests 4 := ⟨rfl, q137, q1815, ⟨by decide, by decide, by decide +kernel⟩, by decide⟩
abbrev m_X4_isRest : AMI := (yX4_isRest, cX4_isRest, 4, (some .boolean), none, false, (some 4))
abbrev n_X4_isRest : Nat := 254
theorem yok_X4_isRest : YOK m_X4_isRest 2 := ⟨rfl, q137, q1819, ⟨by decide, by decide, by decide +kernel⟩, by decide⟩
abbrev m_X4_first : AMI := (yX4_first, cX4_first, 5, (some .int), none, false, (some 4))
abbrev n_X4_first : Nat := 255
theorem yok_X4_first : YOK m_X4_first 1 := ⟨rfl, q137, q1823, ⟨by decide, by decide, by decide +kernel⟩, by decide⟩
abbrev m_X4_note : AMI := (yX4_note, cX4_note, 4, (some .int), none, false, (some 4))
abbrev n_X4_note : Nat := 256
theorem yok_X4_note : YOK m_X4_note 2 := ⟨rfl, q137, q1827, ⟨by decide, by decide, by decide +kernel⟩, by decide⟩
abbrev m_X4_ruled : AMI := (yX4_ruled, cX4_ruled, 5, (some .int), none, false, (some 4))
abbrev n_X4_ruled : Nat := 257
theorem yok_X4_ruled : YOK m_X4_ruled 1 := ⟨rfl, q137, q1831, ⟨by decide, by decide, by decide +kernel⟩, by decide⟩
abbrev m_X4_fillsFits : AMI := (yX4_fillsFits, cX4_fillsFits, 4, none, none, false, (some 4))
abbrev n_X4_fillsFits : Nat := 258
theorem yok_X4_fillsFits : YOK m_X4_fillsFits 0 := ⟨rfl, q137, q1835, ⟨by decide, by decide, by decide +kernel⟩, by decide⟩
abbrev m_X4_spot : AMI := (yX4_spot, cX4_spot, 2, (some .int), none, false, none)
abbrev n_X4_spot : Nat := 259
theorem yok_X4_spot : YOK m_X4_spot 2 := ⟨rfl, q137, q1838, ⟨by decide, by decide, by decide +kernel⟩, by decide⟩
abbrev m_X4_areNotesSo : AMI := (yX4_areNotesSo, cX4_areNotesSo, 3, (some .boolean), none, false, (some 4))
abbrev n_X4_areNotesSo : Nat := 260
theorem yok_X4_areNotesSo : YOK m_X4_areNotesSo 1 := ⟨rfl, q137, q1842, ⟨by decide, by decide, by decide +kernel⟩, by decide⟩
abbrev m_X4_look : AMI := (yX4_look, cX4_look, 4, (some .int), none, false, (some 4))
abbrev n_X4_look : Nat := 261
theorem yok_X4_look : YOK m_X4_look 1 := ⟨rfl, q137, q1846, ⟨by decide, by decide, by decide +kernel⟩, by decide⟩
abbrev m_X4_alikeAt : AMI := (yX4_alikeAt, cX4_alikeAt, 6, (some .int), none, false, (some 4))
abbrev n_X4_alikeAt : Nat := 262
theorem yok_X4_alikeAt : YOK m_X4_alikeAt 1 := ⟨rfl, q137, q1850, ⟨by decide, by decide, by decide +kernel⟩, by decide⟩
abbrev m_X4_seed : AMI := (yX4_seed, cX4_seed, 3, (some .int), none, false, (some 4))
abbrev n_X4_seed : Nat := 263
theorem yok_X4_seed : YOK m_X4_seed 1 := ⟨rfl, q137, q1854, ⟨by decide, by decide, by decide +kernel⟩, by decide⟩
abbrev m_X4_sparks : AMI := (yX4_sparks, cX4_sparks, 9, (some .int), none, false, (some 4))
abbrev n_X4_sparks : Nat := 264
theorem yok_X4_sparks : YOK m_X4_sparks 4 := ⟨rfl, q137, q1858, ⟨by decide, by decide, by decide +kernel⟩, by decide⟩
abbrev m_X4_draw : AMI := (yX4_draw, cX4_draw, 2, (some .int), none, false, (some 4))
abbrev n_X4_draw : Nat := 265
theorem yok_X4_draw : YOK m_X4_draw 1 := ⟨rfl, q137, q1863, ⟨by decide, by decide, by decide +kernel⟩, by decide⟩
abbrev m_X4_sparksOn : AMI := (yX4_sparksOn, cX4_sparksOn, 2, none, none, false, (some 4))
abbrev n_X4_sparksOn : Nat := 266
theorem yok_X4_sparksOn : YOK m_X4_sparksOn 1 := ⟨rfl, q137, q1871, ⟨by decide, by decide, by decide +kernel⟩, by decide⟩
abbrev m_X4_count : AMI := (yX4_count, cX4_count, 2, (some .int), none, false, (some 4))
abbrev n_X4_count : Nat := 267
theorem yok_X4_count : YOK m_X4_count 1 := ⟨rfl, q137, q1875, ⟨by decide, by decide, by decide +kernel⟩, by decide⟩
abbrev m_X4_image : AMI := (yX4_image, cX4_image, 3, (some .int), none, false, (some 4))
abbrev n_X4_image : Nat := 268
theorem yok_X4_image : YOK m_X4_image 1 := ⟨rfl, q137, q1879, ⟨by decide, by decide, by decide +kernel⟩, by decide⟩
abbrev m_X4_back : AMI := (yX4_back, cX4_back, 3, (some .int), none, false, (some 4))
abbrev n_X4_back : Nat := 269
theorem yok_X4_back : YOK m_X4_back 1 := ⟨rfl, q137, q1884, ⟨by decide, by decide, by decide +kernel⟩, by decide⟩
def aMIl : List AMI := [m_J0_init, m_J1_init, m_J10_newLength, m_J10_hugeLength, m_J12_copyOf, m_J12_copyOf_2, m_J13_checkIndex, m_J14_bitCount, m_J2_init, m_J2_size, m_J2_add, m_J2_add_2, m_J2_grow, m_J2_grow_2, m_J2_get, m_J2_elementData, m_J5_length, m_J5_coder, m_J5_charAt, m_J5_isLatin1, m_J5_checkIndex, m_J6_charAt, m_J7_checkIndex, m_J8_charAt, m_J8_checkIndex, m_J8_length, m_J8_getChar, m_J9_init, m_X1_init, m_X1_houses, m_X1_ends, m_X1_far, m_X2_init, m_X2_begin, m_X2_copyFrom, m_X2_isAway, m_X2_isAtFire, m_X2_fires, m_X2_gone, m_X2_sends, m_X2_goesOn, m_X2_burn, m_X2_left, m_X5_init, m_X5_valley, m_X5_clause, m_X5_begins, m_X5_isWord, m_X5_next, m_X5_sign, m_X5_number, m_X5_isDigit, m_X5_house, m_X5_road, m_X5_other, m_X5_beside, m_X5_goesOn, m_X5_rule, m_X5_clause_2, m_X5_sum, m_X5_term, m_X5_value, m_X5_counts, m_X5_takes, m_X5_test, m_X5_part, m_X5_fact, m_X5_goesDeeper, m_X6_init, m_X7_init, m_X7_wants, m_X8_init, m_X9_init, m_X9_of, m_X10_init, m_X10_of, m_X11_init, m_X11_of, m_X12_init, m_X12_holds, m_X13_init, m_X14_init, m_X14_is, m_X15_init, m_X15_is, m_X16_init, m_X16_is, m_X17_init, m_X17_keep, m_X17_back, m_X0_init, m_X0_newStates, m_X0_feed, m_X0_put, m_X0_end, m_X0_valley, m_X0_in, m_X0_fails, m_X0_rule, m_X0_force, m_X0_house, m_X0_isHouse, m_X0_far, m_X0_isPlace, m_X0_isValley, m_X0_undo, m_X0_hour, m_X0_keeps, m_X0_goesOn, m_X0_brigade, m_X0_nextOf, m_X0_isReached, m_X0_choiceOf, m_X0_wants, m_X0_asks, m_X0_bit, m_X0_light, m_X0_douse, m_X0_say, m_X0_send, m_X0_ahead, m_X0_goesTill, m_X0_left, m_X0_out, m_X0_canBurn, m_X0_order, m_X0_rowsFrom, m_X0_triesRow, m_X0_has, m_X0_heard, m_X0_isComeTo, m_X0_water, m_X0_doesNobodyLoseAll, m_X0_clear, m_X0_silent, m_X0_pence, m_X0_rests, m_X0_laysWords, m_X0_isRest, m_X0_first, m_X0_note, m_X0_ruled, m_X0_couldRule, m_X0_look, m_X0_mostAlike, m_X0_seed, m_X0_sparks, m_X0_drawsSpark, m_X0_draws, m_X0_count, m_X0_image, m_X0_back, m_X4_init, m_X4_feed, m_X4_four, m_X4_end, m_X4_rule, m_X4_readsAll, m_X4_clauseHere, m_X4_see, m_X4_isValleyWord, m_X4_isWord, m_X4_isLetter, m_X4_fails, m_X4_valleyLineHere, m_X4_isValleyHere, m_X4_passWord, m_X4_cellHere, m_X4_numberHere, m_X4_isDigit, m_X4_in, m_X4_isHouseHere, m_X4_isRoadHere, m_X4_areTwoHere, m_X4_isBesideHere, m_X4_isGoHere, m_X4_sum, m_X4_term, m_X4_value, m_X4_makes, m_X4_puts, m_X4_wordHere, m_X4_takesWord, m_X4_tested, m_X4_fact, m_X4_opens, m_X4_compare, m_X4_closes, m_X4_layDown, m_X4_strength, m_X4_isInside, m_X4_valley, m_X4_measures, m_X4_farOf, m_X4_begins, m_X4_force, m_X4_isRule, m_X4_house, m_X4_isHouse, m_X4_far, m_X4_isPlace, m_X4_isValley, m_X4_undo, m_X4_hour, m_X4_keepsAct, m_X4_passes, m_X4_worthAll, m_X4_worthOf, m_X4_goes, m_X4_isOnItsWay, m_X4_whereItIs, m_X4_heatOf, m_X4_choice, m_X4_sumOf, m_X4_saysOf, m_X4_fires, m_X4_bits, m_X4_lostAll, m_X4_lostOf, m_X4_summedBy, m_X4_reckons, m_X4_push, m_X4_pop, m_X4_one, m_X4_nextOfRow, m_X4_sends, m_X4_comes, m_X4_burns, m_X4_light, m_X4_canLight, m_X4_douse, m_X4_say, m_X4_send, m_X4_ahead, m_X4_keeps, m_X4_passesAll, m_X4_laysBack, m_X4_left, m_X4_worthIn, m_X4_out, m_X4_canBurn, m_X4_isOf, m_X4_order, m_X4_findsOrder, m_X4_weighsRow, m_X4_isInRow, m_X4_heard, m_X4_comesTo, m_X4_water, m_X4_withWorth, m_X4_clear, m_X4_silent, m_X4_pence, m_X4_rests, m_X4_isRest, m_X4_first, m_X4_note, m_X4_ruled, m_X4_fillsFits, m_X4_spot, m_X4_areNotesSo, m_X4_look, m_X4_alikeAt, m_X4_seed, m_X4_sparks, m_X4_draw, m_X4_sparksOn, m_X4_count, m_X4_image, m_X4_back]
def aMI (y : Nat) : AMI := aMIl.getD y m_J0_init
theorem aMI_J0_init : aMI n_J0_init = m_J0_init := rfl
theorem aMI_J1_init : aMI n_J1_init = m_J1_init := rfl
theorem aMI_J10_newLength : aMI n_J10_newLength = m_J10_newLength := rfl
theorem aMI_J10_hugeLength : aMI n_J10_hugeLength = m_J10_hugeLength := rfl
theorem aMI_J12_copyOf : aMI n_J12_copyOf = m_J12_copyOf := rfl
theorem aMI_J12_copyOf_2 : aMI n_J12_copyOf_2 = m_J12_copyOf_2 := rfl
theorem aMI_J13_checkIndex : aMI n_J13_checkIndex = m_J13_checkIndex := rfl
theorem aMI_J14_bitCount : aMI n_J14_bitCount = m_J14_bitCount := rfl
theorem aMI_J2_init : aMI n_J2_init = m_J2_init := rfl
theorem aMI_J2_size : aMI n_J2_size = m_J2_size := rfl
theorem aMI_J2_add : aMI n_J2_add = m_J2_add := rfl
theorem aMI_J2_add_2 : aMI n_J2_add_2 = m_J2_add_2 := rfl
theorem aMI_J2_grow : aMI n_J2_grow = m_J2_grow := rfl
theorem aMI_J2_grow_2 : aMI n_J2_grow_2 = m_J2_grow_2 := rfl
theorem aMI_J2_get : aMI n_J2_get = m_J2_get := rfl
theorem aMI_J2_elementData : aMI n_J2_elementData = m_J2_elementData := rfl
theorem aMI_J5_length : aMI n_J5_length = m_J5_length := rfl
theorem aMI_J5_coder : aMI n_J5_coder = m_J5_coder := rfl
theorem aMI_J5_charAt : aMI n_J5_charAt = m_J5_charAt := rfl
theorem aMI_J5_isLatin1 : aMI n_J5_isLatin1 = m_J5_isLatin1 := rfl
theorem aMI_J5_checkIndex : aMI n_J5_checkIndex = m_J5_checkIndex := rfl
theorem aMI_J6_charAt : aMI n_J6_charAt = m_J6_charAt := rfl
theorem aMI_J7_checkIndex : aMI n_J7_checkIndex = m_J7_checkIndex := rfl
theorem aMI_J8_charAt : aMI n_J8_charAt = m_J8_charAt := rfl
theorem aMI_J8_checkIndex : aMI n_J8_checkIndex = m_J8_checkIndex := rfl
theorem aMI_J8_length : aMI n_J8_length = m_J8_length := rfl
theorem aMI_J8_getChar : aMI n_J8_getChar = m_J8_getChar := rfl
theorem aMI_J9_init : aMI n_J9_init = m_J9_init := rfl
theorem aMI_X1_init : aMI n_X1_init = m_X1_init := rfl
theorem aMI_X1_houses : aMI n_X1_houses = m_X1_houses := rfl
theorem aMI_X1_ends : aMI n_X1_ends = m_X1_ends := rfl
theorem aMI_X1_far : aMI n_X1_far = m_X1_far := rfl
theorem aMI_X2_init : aMI n_X2_init = m_X2_init := rfl
theorem aMI_X2_begin : aMI n_X2_begin = m_X2_begin := rfl
theorem aMI_X2_copyFrom : aMI n_X2_copyFrom = m_X2_copyFrom := rfl
theorem aMI_X2_isAway : aMI n_X2_isAway = m_X2_isAway := rfl
theorem aMI_X2_isAtFire : aMI n_X2_isAtFire = m_X2_isAtFire := rfl
theorem aMI_X2_fires : aMI n_X2_fires = m_X2_fires := rfl
theorem aMI_X2_gone : aMI n_X2_gone = m_X2_gone := rfl
theorem aMI_X2_sends : aMI n_X2_sends = m_X2_sends := rfl
theorem aMI_X2_goesOn : aMI n_X2_goesOn = m_X2_goesOn := rfl
theorem aMI_X2_burn : aMI n_X2_burn = m_X2_burn := rfl
theorem aMI_X2_left : aMI n_X2_left = m_X2_left := rfl
theorem aMI_X5_init : aMI n_X5_init = m_X5_init := rfl
theorem aMI_X5_valley : aMI n_X5_valley = m_X5_valley := rfl
theorem aMI_X5_clause : aMI n_X5_clause = m_X5_clause := rfl
theorem aMI_X5_begins : aMI n_X5_begins = m_X5_begins := rfl
theorem aMI_X5_isWord : aMI n_X5_isWord = m_X5_isWord := rfl
theorem aMI_X5_next : aMI n_X5_next = m_X5_next := rfl
theorem aMI_X5_sign : aMI n_X5_sign = m_X5_sign := rfl
theorem aMI_X5_number : aMI n_X5_number = m_X5_number := rfl
theorem aMI_X5_isDigit : aMI n_X5_isDigit = m_X5_isDigit := rfl
theorem aMI_X5_house : aMI n_X5_house = m_X5_house := rfl
theorem aMI_X5_road : aMI n_X5_road = m_X5_road := rfl
theorem aMI_X5_other : aMI n_X5_other = m_X5_other := rfl
theorem aMI_X5_beside : aMI n_X5_beside = m_X5_beside := rfl
theorem aMI_X5_goesOn : aMI n_X5_goesOn = m_X5_goesOn := rfl
theorem aMI_X5_rule : aMI n_X5_rule = m_X5_rule := rfl
theorem aMI_X5_clause_2 : aMI n_X5_clause_2 = m_X5_clause_2 := rfl
theorem aMI_X5_sum : aMI n_X5_sum = m_X5_sum := rfl
theorem aMI_X5_term : aMI n_X5_term = m_X5_term := rfl
theorem aMI_X5_value : aMI n_X5_value = m_X5_value := rfl
theorem aMI_X5_counts : aMI n_X5_counts = m_X5_counts := rfl
theorem aMI_X5_takes : aMI n_X5_takes = m_X5_takes := rfl
theorem aMI_X5_test : aMI n_X5_test = m_X5_test := rfl
theorem aMI_X5_part : aMI n_X5_part = m_X5_part := rfl
theorem aMI_X5_fact : aMI n_X5_fact = m_X5_fact := rfl
theorem aMI_X5_goesDeeper : aMI n_X5_goesDeeper = m_X5_goesDeeper := rfl
theorem aMI_X6_init : aMI n_X6_init = m_X6_init := rfl
theorem aMI_X7_init : aMI n_X7_init = m_X7_init := rfl
theorem aMI_X7_wants : aMI n_X7_wants = m_X7_wants := rfl
theorem aMI_X8_init : aMI n_X8_init = m_X8_init := rfl
theorem aMI_X9_init : aMI n_X9_init = m_X9_init := rfl
theorem aMI_X9_of : aMI n_X9_of = m_X9_of := rfl
theorem aMI_X10_init : aMI n_X10_init = m_X10_init := rfl
theorem aMI_X10_of : aMI n_X10_of = m_X10_of := rfl
theorem aMI_X11_init : aMI n_X11_init = m_X11_init := rfl
theorem aMI_X11_of : aMI n_X11_of = m_X11_of := rfl
theorem aMI_X12_init : aMI n_X12_init = m_X12_init := rfl
theorem aMI_X12_holds : aMI n_X12_holds = m_X12_holds := rfl
theorem aMI_X13_init : aMI n_X13_init = m_X13_init := rfl
theorem aMI_X14_init : aMI n_X14_init = m_X14_init := rfl
theorem aMI_X14_is : aMI n_X14_is = m_X14_is := rfl
theorem aMI_X15_init : aMI n_X15_init = m_X15_init := rfl
theorem aMI_X15_is : aMI n_X15_is = m_X15_is := rfl
theorem aMI_X16_init : aMI n_X16_init = m_X16_init := rfl
theorem aMI_X16_is : aMI n_X16_is = m_X16_is := rfl
theorem aMI_X17_init : aMI n_X17_init = m_X17_init := rfl
theorem aMI_X17_keep : aMI n_X17_keep = m_X17_keep := rfl
theorem aMI_X17_back : aMI n_X17_back = m_X17_back := rfl
theorem aMI_X0_init : aMI n_X0_init = m_X0_init := rfl
theorem aMI_X0_newStates : aMI n_X0_newStates = m_X0_newStates := rfl
theorem aMI_X0_feed : aMI n_X0_feed = m_X0_feed := rfl
theorem aMI_X0_put : aMI n_X0_put = m_X0_put := rfl
theorem aMI_X0_end : aMI n_X0_end = m_X0_end := rfl
theorem aMI_X0_valley : aMI n_X0_valley = m_X0_valley := rfl
theorem aMI_X0_in : aMI n_X0_in = m_X0_in := rfl
theorem aMI_X0_fails : aMI n_X0_fails = m_X0_fails := rfl
theorem aMI_X0_rule : aMI n_X0_rule = m_X0_rule := rfl
theorem aMI_X0_force : aMI n_X0_force = m_X0_force := rfl
theorem aMI_X0_house : aMI n_X0_house = m_X0_house := rfl
theorem aMI_X0_isHouse : aMI n_X0_isHouse = m_X0_isHouse := rfl
theorem aMI_X0_far : aMI n_X0_far = m_X0_far := rfl
theorem aMI_X0_isPlace : aMI n_X0_isPlace = m_X0_isPlace := rfl
theorem aMI_X0_isValley : aMI n_X0_isValley = m_X0_isValley := rfl
theorem aMI_X0_undo : aMI n_X0_undo = m_X0_undo := rfl
theorem aMI_X0_hour : aMI n_X0_hour = m_X0_hour := rfl
theorem aMI_X0_keeps : aMI n_X0_keeps = m_X0_keeps := rfl
theorem aMI_X0_goesOn : aMI n_X0_goesOn = m_X0_goesOn := rfl
theorem aMI_X0_brigade : aMI n_X0_brigade = m_X0_brigade := rfl
theorem aMI_X0_nextOf : aMI n_X0_nextOf = m_X0_nextOf := rfl
theorem aMI_X0_isReached : aMI n_X0_isReached = m_X0_isReached := rfl
theorem aMI_X0_choiceOf : aMI n_X0_choiceOf = m_X0_choiceOf := rfl
theorem aMI_X0_wants : aMI n_X0_wants = m_X0_wants := rfl
theorem aMI_X0_asks : aMI n_X0_asks = m_X0_asks := rfl
theorem aMI_X0_bit : aMI n_X0_bit = m_X0_bit := rfl
theorem aMI_X0_light : aMI n_X0_light = m_X0_light := rfl
theorem aMI_X0_douse : aMI n_X0_douse = m_X0_douse := rfl
theorem aMI_X0_say : aMI n_X0_say = m_X0_say := rfl
theorem aMI_X0_send : aMI n_X0_send = m_X0_send := rfl
theorem aMI_X0_ahead : aMI n_X0_ahead = m_X0_ahead := rfl
theorem aMI_X0_goesTill : aMI n_X0_goesTill = m_X0_goesTill := rfl
theorem aMI_X0_left : aMI n_X0_left = m_X0_left := rfl
theorem aMI_X0_out : aMI n_X0_out = m_X0_out := rfl
theorem aMI_X0_canBurn : aMI n_X0_canBurn = m_X0_canBurn := rfl
theorem aMI_X0_order : aMI n_X0_order = m_X0_order := rfl
theorem aMI_X0_rowsFrom : aMI n_X0_rowsFrom = m_X0_rowsFrom := rfl
theorem aMI_X0_triesRow : aMI n_X0_triesRow = m_X0_triesRow := rfl
theorem aMI_X0_has : aMI n_X0_has = m_X0_has := rfl
theorem aMI_X0_heard : aMI n_X0_heard = m_X0_heard := rfl
theorem aMI_X0_isComeTo : aMI n_X0_isComeTo = m_X0_isComeTo := rfl
theorem aMI_X0_water : aMI n_X0_water = m_X0_water := rfl
theorem aMI_X0_doesNobodyLoseAll : aMI n_X0_doesNobodyLoseAll = m_X0_doesNobodyLoseAll := rfl
theorem aMI_X0_clear : aMI n_X0_clear = m_X0_clear := rfl
theorem aMI_X0_silent : aMI n_X0_silent = m_X0_silent := rfl
theorem aMI_X0_pence : aMI n_X0_pence = m_X0_pence := rfl
theorem aMI_X0_rests : aMI n_X0_rests = m_X0_rests := rfl
theorem aMI_X0_laysWords : aMI n_X0_laysWords = m_X0_laysWords := rfl
theorem aMI_X0_isRest : aMI n_X0_isRest = m_X0_isRest := rfl
theorem aMI_X0_first : aMI n_X0_first = m_X0_first := rfl
theorem aMI_X0_note : aMI n_X0_note = m_X0_note := rfl
theorem aMI_X0_ruled : aMI n_X0_ruled = m_X0_ruled := rfl
theorem aMI_X0_couldRule : aMI n_X0_couldRule = m_X0_couldRule := rfl
theorem aMI_X0_look : aMI n_X0_look = m_X0_look := rfl
theorem aMI_X0_mostAlike : aMI n_X0_mostAlike = m_X0_mostAlike := rfl
theorem aMI_X0_seed : aMI n_X0_seed = m_X0_seed := rfl
theorem aMI_X0_sparks : aMI n_X0_sparks = m_X0_sparks := rfl
theorem aMI_X0_drawsSpark : aMI n_X0_drawsSpark = m_X0_drawsSpark := rfl
theorem aMI_X0_draws : aMI n_X0_draws = m_X0_draws := rfl
theorem aMI_X0_count : aMI n_X0_count = m_X0_count := rfl
theorem aMI_X0_image : aMI n_X0_image = m_X0_image := rfl
theorem aMI_X0_back : aMI n_X0_back = m_X0_back := rfl
theorem aMI_X4_init : aMI n_X4_init = m_X4_init := rfl
theorem aMI_X4_feed : aMI n_X4_feed = m_X4_feed := rfl
theorem aMI_X4_four : aMI n_X4_four = m_X4_four := rfl
theorem aMI_X4_end : aMI n_X4_end = m_X4_end := rfl
theorem aMI_X4_rule : aMI n_X4_rule = m_X4_rule := rfl
theorem aMI_X4_readsAll : aMI n_X4_readsAll = m_X4_readsAll := rfl
theorem aMI_X4_clauseHere : aMI n_X4_clauseHere = m_X4_clauseHere := rfl
theorem aMI_X4_see : aMI n_X4_see = m_X4_see := rfl
theorem aMI_X4_isValleyWord : aMI n_X4_isValleyWord = m_X4_isValleyWord := rfl
theorem aMI_X4_isWord : aMI n_X4_isWord = m_X4_isWord := rfl
theorem aMI_X4_isLetter : aMI n_X4_isLetter = m_X4_isLetter := rfl
theorem aMI_X4_fails : aMI n_X4_fails = m_X4_fails := rfl
theorem aMI_X4_valleyLineHere : aMI n_X4_valleyLineHere = m_X4_valleyLineHere := rfl
theorem aMI_X4_isValleyHere : aMI n_X4_isValleyHere = m_X4_isValleyHere := rfl
theorem aMI_X4_passWord : aMI n_X4_passWord = m_X4_passWord := rfl
theorem aMI_X4_cellHere : aMI n_X4_cellHere = m_X4_cellHere := rfl
theorem aMI_X4_numberHere : aMI n_X4_numberHere = m_X4_numberHere := rfl
theorem aMI_X4_isDigit : aMI n_X4_isDigit = m_X4_isDigit := rfl
theorem aMI_X4_in : aMI n_X4_in = m_X4_in := rfl
theorem aMI_X4_isHouseHere : aMI n_X4_isHouseHere = m_X4_isHouseHere := rfl
theorem aMI_X4_isRoadHere : aMI n_X4_isRoadHere = m_X4_isRoadHere := rfl
theorem aMI_X4_areTwoHere : aMI n_X4_areTwoHere = m_X4_areTwoHere := rfl
theorem aMI_X4_isBesideHere : aMI n_X4_isBesideHere = m_X4_isBesideHere := rfl
theorem aMI_X4_isGoHere : aMI n_X4_isGoHere = m_X4_isGoHere := rfl
theorem aMI_X4_sum : aMI n_X4_sum = m_X4_sum := rfl
theorem aMI_X4_term : aMI n_X4_term = m_X4_term := rfl
theorem aMI_X4_value : aMI n_X4_value = m_X4_value := rfl
theorem aMI_X4_makes : aMI n_X4_makes = m_X4_makes := rfl
theorem aMI_X4_puts : aMI n_X4_puts = m_X4_puts := rfl
theorem aMI_X4_wordHere : aMI n_X4_wordHere = m_X4_wordHere := rfl
theorem aMI_X4_takesWord : aMI n_X4_takesWord = m_X4_takesWord := rfl
theorem aMI_X4_tested : aMI n_X4_tested = m_X4_tested := rfl
theorem aMI_X4_fact : aMI n_X4_fact = m_X4_fact := rfl
theorem aMI_X4_opens : aMI n_X4_opens = m_X4_opens := rfl
theorem aMI_X4_compare : aMI n_X4_compare = m_X4_compare := rfl
theorem aMI_X4_closes : aMI n_X4_closes = m_X4_closes := rfl
theorem aMI_X4_layDown : aMI n_X4_layDown = m_X4_layDown := rfl
theorem aMI_X4_strength : aMI n_X4_strength = m_X4_strength := rfl
theorem aMI_X4_isInside : aMI n_X4_isInside = m_X4_isInside := rfl
theorem aMI_X4_valley : aMI n_X4_valley = m_X4_valley := rfl
theorem aMI_X4_measures : aMI n_X4_measures = m_X4_measures := rfl
theorem aMI_X4_farOf : aMI n_X4_farOf = m_X4_farOf := rfl
theorem aMI_X4_begins : aMI n_X4_begins = m_X4_begins := rfl
theorem aMI_X4_force : aMI n_X4_force = m_X4_force := rfl
theorem aMI_X4_isRule : aMI n_X4_isRule = m_X4_isRule := rfl
theorem aMI_X4_house : aMI n_X4_house = m_X4_house := rfl
theorem aMI_X4_isHouse : aMI n_X4_isHouse = m_X4_isHouse := rfl
theorem aMI_X4_far : aMI n_X4_far = m_X4_far := rfl
theorem aMI_X4_isPlace : aMI n_X4_isPlace = m_X4_isPlace := rfl
theorem aMI_X4_isValley : aMI n_X4_isValley = m_X4_isValley := rfl
theorem aMI_X4_undo : aMI n_X4_undo = m_X4_undo := rfl
theorem aMI_X4_hour : aMI n_X4_hour = m_X4_hour := rfl
theorem aMI_X4_keepsAct : aMI n_X4_keepsAct = m_X4_keepsAct := rfl
theorem aMI_X4_passes : aMI n_X4_passes = m_X4_passes := rfl
theorem aMI_X4_worthAll : aMI n_X4_worthAll = m_X4_worthAll := rfl
theorem aMI_X4_worthOf : aMI n_X4_worthOf = m_X4_worthOf := rfl
theorem aMI_X4_goes : aMI n_X4_goes = m_X4_goes := rfl
theorem aMI_X4_isOnItsWay : aMI n_X4_isOnItsWay = m_X4_isOnItsWay := rfl
theorem aMI_X4_whereItIs : aMI n_X4_whereItIs = m_X4_whereItIs := rfl
theorem aMI_X4_heatOf : aMI n_X4_heatOf = m_X4_heatOf := rfl
theorem aMI_X4_choice : aMI n_X4_choice = m_X4_choice := rfl
theorem aMI_X4_sumOf : aMI n_X4_sumOf = m_X4_sumOf := rfl
theorem aMI_X4_saysOf : aMI n_X4_saysOf = m_X4_saysOf := rfl
theorem aMI_X4_fires : aMI n_X4_fires = m_X4_fires := rfl
theorem aMI_X4_bits : aMI n_X4_bits = m_X4_bits := rfl
theorem aMI_X4_lostAll : aMI n_X4_lostAll = m_X4_lostAll := rfl
theorem aMI_X4_lostOf : aMI n_X4_lostOf = m_X4_lostOf := rfl
theorem aMI_X4_summedBy : aMI n_X4_summedBy = m_X4_summedBy := rfl
theorem aMI_X4_reckons : aMI n_X4_reckons = m_X4_reckons := rfl
theorem aMI_X4_push : aMI n_X4_push = m_X4_push := rfl
theorem aMI_X4_pop : aMI n_X4_pop = m_X4_pop := rfl
theorem aMI_X4_one : aMI n_X4_one = m_X4_one := rfl
theorem aMI_X4_nextOfRow : aMI n_X4_nextOfRow = m_X4_nextOfRow := rfl
theorem aMI_X4_sends : aMI n_X4_sends = m_X4_sends := rfl
theorem aMI_X4_comes : aMI n_X4_comes = m_X4_comes := rfl
theorem aMI_X4_burns : aMI n_X4_burns = m_X4_burns := rfl
theorem aMI_X4_light : aMI n_X4_light = m_X4_light := rfl
theorem aMI_X4_canLight : aMI n_X4_canLight = m_X4_canLight := rfl
theorem aMI_X4_douse : aMI n_X4_douse = m_X4_douse := rfl
theorem aMI_X4_say : aMI n_X4_say = m_X4_say := rfl
theorem aMI_X4_send : aMI n_X4_send = m_X4_send := rfl
theorem aMI_X4_ahead : aMI n_X4_ahead = m_X4_ahead := rfl
theorem aMI_X4_keeps : aMI n_X4_keeps = m_X4_keeps := rfl
theorem aMI_X4_passesAll : aMI n_X4_passesAll = m_X4_passesAll := rfl
theorem aMI_X4_laysBack : aMI n_X4_laysBack = m_X4_laysBack := rfl
theorem aMI_X4_left : aMI n_X4_left = m_X4_left := rfl
theorem aMI_X4_worthIn : aMI n_X4_worthIn = m_X4_worthIn := rfl
theorem aMI_X4_out : aMI n_X4_out = m_X4_out := rfl
theorem aMI_X4_canBurn : aMI n_X4_canBurn = m_X4_canBurn := rfl
theorem aMI_X4_isOf : aMI n_X4_isOf = m_X4_isOf := rfl
theorem aMI_X4_order : aMI n_X4_order = m_X4_order := rfl
theorem aMI_X4_findsOrder : aMI n_X4_findsOrder = m_X4_findsOrder := rfl
theorem aMI_X4_weighsRow : aMI n_X4_weighsRow = m_X4_weighsRow := rfl
theorem aMI_X4_isInRow : aMI n_X4_isInRow = m_X4_isInRow := rfl
theorem aMI_X4_heard : aMI n_X4_heard = m_X4_heard := rfl
theorem aMI_X4_comesTo : aMI n_X4_comesTo = m_X4_comesTo := rfl
theorem aMI_X4_water : aMI n_X4_water = m_X4_water := rfl
theorem aMI_X4_withWorth : aMI n_X4_withWorth = m_X4_withWorth := rfl
theorem aMI_X4_clear : aMI n_X4_clear = m_X4_clear := rfl
theorem aMI_X4_silent : aMI n_X4_silent = m_X4_silent := rfl
theorem aMI_X4_pence : aMI n_X4_pence = m_X4_pence := rfl
theorem aMI_X4_rests : aMI n_X4_rests = m_X4_rests := rfl
theorem aMI_X4_isRest : aMI n_X4_isRest = m_X4_isRest := rfl
theorem aMI_X4_first : aMI n_X4_first = m_X4_first := rfl
theorem aMI_X4_note : aMI n_X4_note = m_X4_note := rfl
theorem aMI_X4_ruled : aMI n_X4_ruled = m_X4_ruled := rfl
theorem aMI_X4_fillsFits : aMI n_X4_fillsFits = m_X4_fillsFits := rfl
theorem aMI_X4_spot : aMI n_X4_spot = m_X4_spot := rfl
theorem aMI_X4_areNotesSo : aMI n_X4_areNotesSo = m_X4_areNotesSo := rfl
theorem aMI_X4_look : aMI n_X4_look = m_X4_look := rfl
theorem aMI_X4_alikeAt : aMI n_X4_alikeAt = m_X4_alikeAt := rfl
theorem aMI_X4_seed : aMI n_X4_seed = m_X4_seed := rfl
theorem aMI_X4_sparks : aMI n_X4_sparks = m_X4_sparks := rfl
theorem aMI_X4_draw : aMI n_X4_draw = m_X4_draw := rfl
theorem aMI_X4_sparksOn : aMI n_X4_sparksOn = m_X4_sparksOn := rfl
theorem aMI_X4_count : aMI n_X4_count = m_X4_count := rfl
theorem aMI_X4_image : aMI n_X4_image = m_X4_image := rfl
theorem aMI_X4_back : aMI n_X4_back = m_X4_back := rfl
/-! lists of blocks -/
def alkF (pc : Nat) : List (Nat × List AOp) → Option (List AOp)
  | [] => none
  | (p, b) :: r => bif pc == p then some b else alkF pc r
def alk (l : List (Nat × List AOp)) : ATb := fun pc => alkF pc l
theorem alk_mem {l : List (Nat × List AOp)} {pc : Nat} {ops : List AOp} (h : alk l pc = some ops) : (pc, ops) ∈ l := by
  unfold alk at h
  induction l with
  | nil => cases h
  | cons q r ih =>
    obtain ⟨p, b⟩ := q
    unfold alkF at h
    cases hb : pc == p with
    | true =>
      rw [hb] at h
      cases h
      have : pc = p := by simpa using hb
      subst this
      exact List.mem_cons_self
    | false =>
      rw [hb] at h
      exact List.mem_cons_of_mem _ (ih h)
theorem alk_ok {l : List (Nat × List AOp)} (h : ∀ q ∈ l, ∀ o ∈ q.2, AOk o) : TOk (alk l) := fun pc ops hp => h _ (alk_mem hp)
theorem alk_chn {MI : Nat → AMI} {w : AW} {X : AMI} {d : Nat} {l : List (Nat × List AOp)} (h : ∀ q ∈ l, Chn MI w X d q.1 q.2) : ∀ pc ops, alk l pc = some ops → Chn MI w X d pc ops := fun pc ops hp => h _ (alk_mem hp)
theorem fa_cons {α : Type} {p : α → Prop} {a : α} {l : List α} (h : p a) (t : ∀ x ∈ l, p x) : ∀ x ∈ a :: l, p x := List.forall_mem_cons.mpr ⟨h, t⟩
theorem fa_nil {α : Type} {p : α → Prop} : ∀ x ∈ ([] : List α), p x := fun _ h => absurd h List.not_mem_nil
theorem ch_cons {MI : Nat → AMI} {w : AW} {X : AMI} {d pc nx : Nat} {o : AOp} {os : List AOp} (h : Snd MI w X d pc nx o) (t : Chn MI w X d nx os) : Chn MI w X d pc (o :: os) := ⟨nx, h, t⟩
theorem ch_nil {MI : Nat → AMI} {w : AW} {X : AMI} {d pc : Nat} : Chn MI w X d pc [] := trivial
theorem sw_hall {lo hi : Int} {cs : List (Int32 × Nat × List Nat)} (n : Nat) (hn : hi = lo + n - 1) (hk : ∀ j, j < n → ∃ q ∈ cs, q.1.toInt = lo + (j : Int)) : ∀ x : Int32, (∀ q ∈ cs, q.1 ≠ x) → x.toInt < lo ∨ hi < x.toInt := by
  intro x h
  by_cases h1 : x.toInt < lo
  · exact Or.inl h1
  · by_cases h2 : hi < x.toInt
    · exact Or.inr h2
    · exfalso
      obtain ⟨q, hq, e⟩ := hk (x.toInt - lo).toNat (by omega)
      exact h q hq (Int32.toInt_inj.mp (by rw [e]; omega))
theorem sw_hin {lo hi : Int} {offs : Array Int} {pc : Nat} {cs : List (Int32 × Nat × List Nat)} (h : ∀ q ∈ cs, lo ≤ q.1.toInt ∧ q.1.toInt ≤ hi ∧ offs[(q.1.toInt - lo).toNat]? = some ((q.2.1 : Int) - pc)) : ∀ q ∈ cs, ¬ q.1.toInt < lo ∧ ¬ hi < q.1.toInt ∧ ∃ off, offs[(q.1.toInt - lo).toNat]? = some off ∧ (pc : Int) + off = (q.2.1 : Int) := by
  intro q hq
  obtain ⟨h1, h2, h3⟩ := h q hq
  exact ⟨by omega, by omega, _, h3, by omega⟩
