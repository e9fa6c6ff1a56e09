theorem i16_i16 (x : Int16) : (x.toInt32).toInt16 = x := Int16.toInt16_toInt32 x
theorem nar_8 {v : Int32} : narV (nI 8) v = vp_nar .byte (v.toInt8.toInt32) := by
  show (if nI 8 = nI 8 then v.toInt8.toInt32 else _) = (v.toInt8.toInt32).toInt8.toInt32
  rw [if_pos rfl, i8_i8]
theorem nar_16 {v : Int32} : narV (nI 16) v = vp_nar .short (v.toInt16.toInt32) := by
  show (if nI 16 = nI 8 then v.toInt8.toInt32 else if nI 16 = nI 16 then v.toInt16.toInt32 else v) = (v.toInt16.toInt32).toInt16.toInt32
  rw [if_neg (by decide), if_pos rfl, i16_i16]
