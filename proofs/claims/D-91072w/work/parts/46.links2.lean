/-! fields that a class above declares, printed by tools/links2.py -/
theorem fl_J1_7_14 : FL RJ1 7 14 0 .int false := ⟨RJ2, TJ2, 3, tyJ2, rfl, by decide, by decide, in_J2, tyJ2_ok, nmJ2, rfl, rfl, Or.inl ⟨_, q416, Or.inl rfl⟩, by decide +kernel⟩
theorem fl_J10_198_7 : FL RJ10 198 7 4 (.object "java/lang/Object") false := ⟨RX8, TX8, 7, tyX8, rfl, by decide, by decide, in_X8, tyX8_ok, nmX8, rfl, rfl, Or.inl ⟨_, q786, Or.inl rfl⟩, by decide +kernel⟩
theorem fl_J10_198_15 : FL RJ10 198 15 4 (.object "java/lang/Object") false := ⟨RJ16, TJ16, 6, tyJ16, rfl, by decide, by decide, in_J16, tyJ16_ok, nmJ16, rfl, rfl, Or.inl ⟨_, q786, Or.inl rfl⟩, by decide +kernel⟩
theorem fl_J10_31_7 : FL RJ10 31 7 3 (.object "java/lang/String") false := ⟨RX8, TX8, 7, tyX8, rfl, by decide, by decide, in_X8, tyX8_ok, nmX8, rfl, rfl, Or.inl ⟨_, q820, Or.inl rfl⟩, by decide +kernel⟩
theorem fl_J10_31_15 : FL RJ10 31 15 3 (.object "java/lang/String") false := ⟨RJ16, TJ16, 6, tyJ16, rfl, by decide, by decide, in_J16, tyJ16_ok, nmJ16, rfl, rfl, Or.inl ⟨_, q820, Or.inl rfl⟩, by decide +kernel⟩
theorem fl_J10_7_7 : FL RJ10 7 7 0 (.object "java/lang/Throwable") false := ⟨RX8, TX8, 7, tyX8, rfl, by decide, by decide, in_X8, tyX8_ok, nmX8, rfl, rfl, Or.inl ⟨_, q821, Or.inl rfl⟩, by decide +kernel⟩
theorem fl_J10_7_15 : FL RJ10 7 15 0 (.object "java/lang/Throwable") false := ⟨RJ16, TJ16, 6, tyJ16, rfl, by decide, by decide, in_J16, tyJ16_ok, nmJ16, rfl, rfl, Or.inl ⟨_, q821, Or.inl rfl⟩, by decide +kernel⟩
theorem fl_J10_17_7 : FL RJ10 17 7 1 (.array (.object "java/lang/StackTraceElement")) false := ⟨RX8, TX8, 7, tyX8, rfl, by decide, by decide, in_X8, tyX8_ok, nmX8, rfl, rfl, Or.inl ⟨_, q822, Or.inl rfl⟩, by decide +kernel⟩
theorem fl_J10_17_15 : FL RJ10 17 15 1 (.array (.object "java/lang/StackTraceElement")) false := ⟨RJ16, TJ16, 6, tyJ16, rfl, by decide, by decide, in_J16, tyJ16_ok, nmJ16, rfl, rfl, Or.inl ⟨_, q822, Or.inl rfl⟩, by decide +kernel⟩
theorem fl_J10_24_7 : FL RJ10 24 7 2 (.object "java/util/List") false := ⟨RX8, TX8, 7, tyX8, rfl, by decide, by decide, in_X8, tyX8_ok, nmX8, rfl, rfl, Or.inl ⟨_, q823, Or.inl rfl⟩, by decide +kernel⟩
theorem fl_J10_24_15 : FL RJ10 24 15 2 (.object "java/util/List") false := ⟨RJ16, TJ16, 6, tyJ16, rfl, by decide, by decide, in_J16, tyJ16_ok, nmJ16, rfl, rfl, Or.inl ⟨_, q823, Or.inl rfl⟩, by decide +kernel⟩
theorem fl_X12_7_10 : FL RX12 7 10 0 (.object "TourRooms$Exp") true := ⟨RX13, TX13, 3, tyX13, rfl, by decide, by decide, in_X13, tyX13_ok, nmX13, rfl, rfl, Or.inl ⟨_, q896, Or.inl rfl⟩, by decide +kernel⟩
theorem fl_X12_7_11 : FL RX12 7 11 0 (.object "TourRooms$Exp") true := ⟨RX14, TX14, 3, tyX14, rfl, by decide, by decide, in_X14, tyX14_ok, nmX14, rfl, rfl, Or.inl ⟨_, q896, Or.inl rfl⟩, by decide +kernel⟩
theorem fl_X12_7_12 : FL RX12 7 12 0 (.object "TourRooms$Exp") true := ⟨RX15, TX15, 2, tyX15, rfl, by decide, by decide, in_X15, tyX15_ok, nmX15, rfl, rfl, Or.inl ⟨_, q896, Or.inl rfl⟩, by decide +kernel⟩
theorem fl_X12_13_10 : FL RX12 13 10 1 (.object "TourRooms$Exp") true := ⟨RX13, TX13, 3, tyX13, rfl, by decide, by decide, in_X13, tyX13_ok, nmX13, rfl, rfl, Or.inl ⟨_, q897, Or.inl rfl⟩, by decide +kernel⟩
theorem fl_X12_13_11 : FL RX12 13 11 1 (.object "TourRooms$Exp") true := ⟨RX14, TX14, 3, tyX14, rfl, by decide, by decide, in_X14, tyX14_ok, nmX14, rfl, rfl, Or.inl ⟨_, q897, Or.inl rfl⟩, by decide +kernel⟩
theorem fl_X12_13_12 : FL RX12 13 12 1 (.object "TourRooms$Exp") true := ⟨RX15, TX15, 2, tyX15, rfl, by decide, by decide, in_X15, tyX15_ok, nmX15, rfl, rfl, Or.inl ⟨_, q897, Or.inl rfl⟩, by decide +kernel⟩
