/-! bytes and shorts as they lie in their arrays -/
theorem i8_32 (k : Int8) : iI k.toInt = k.toInt32 := by
  have h1 := Int8.le_toInt k
  have h2 := Int8.toInt_lt k
  apply Int32.toInt_inj.mp
  rw [iI_toInt (by omega) (by omega), Int8.toInt_toInt32]
theorem i16_32 (k : Int16) : iI k.toInt = k.toInt32 := by
  have h1 := Int16.le_toInt k
  have h2 := Int16.toInt_lt k
  apply Int32.toInt_inj.mp
  rw [iI_toInt (by omega) (by omega), Int16.toInt_toInt32]
theorem nar_b (v : Int) : narrow .byte (.int (iI (Int8.ofInt v).toInt)) = .int (iI (Int8.ofInt v).toInt) := by
  rw [i8_32]
  show Value.int ((Int8.ofInt v).toInt32.toInt8.toInt32) = _
  rw [Int8.toInt8_toInt32]
theorem nar_s (v : Int) : narrow .short (.int (iI (Int16.ofInt v).toInt)) = .int (iI (Int16.ofInt v).toInt) := by
  rw [i16_32]
  show Value.int ((Int16.ofInt v).toInt32.toInt16.toInt32) = _
  rw [Int16.toInt16_toInt32]
