/-! a new object's fields -/
theorem dft0 : am_dft 0 = [.null, .null, .int (nI 0), .null, .int (nI 0), .null, .null] := rfl
theorem dft1 : am_dft 1 = [.null, .null, .null, .int (nI 0), .null, .null, .int (nI 0), .null, .null] := rfl
theorem dft2 : am_dft 2 = [.int (nI 0), .int (nI 0), .null, .int (nI 0)] := rfl
theorem dft3 : am_dft 3 = [.int (nI 0), .int (nI 0), .int (nI 0), .null] := rfl
theorem dft4 : am_dft 4 = [.int (nI 0), .int (nI 0), .null] := rfl
theorem dft6 : am_dft 6 = [.int (nI 0), .null] := rfl
theorem dft7 : am_dft 7 = [.null, .null, .null, .null, .null, .int (nI 0), .int (nI 0)] := rfl
theorem dft8 : am_dft 8 = [.int (nI 0), .int (nI 0), .null] := rfl
theorem dft9 : am_dft 9 = [.null, .int (nI 0), .int (nI 0), .int (nI 0)] := rfl
theorem dft5 : am_dft 5 = [.null, .null, .int (nI 0), .null, .null, .int (nI 0), .null, .int (nI 0), .null, .int (nI 0), .int (nI 0), .null, .int (nI 0), .null, .int (nI 0), .null, .null, .null, .int (nI 0), .int (nI 0), .null, .null, .int (nI 0)] := rfl
