set_option maxRecDepth 100000
theorem ok244_10 : ((tb244.drop 300).take 30).all (okE 244) = true := by decide +kernel
theorem ok244_11 : ((tb244.drop 330).take 30).all (okE 244) = true := by decide +kernel
theorem ok244_12 : ((tb244.drop 360).take 30).all (okE 244) = true := by decide +kernel
theorem ok244_13 : ((tb244.drop 390).take 30).all (okE 244) = true := by decide +kernel
