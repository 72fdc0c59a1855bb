set_option maxRecDepth 100000
theorem ok244_0 : ((tb244.drop 0).take 30).all (okE 244) = true := by decide +kernel
theorem ok244_1 : ((tb244.drop 30).take 30).all (okE 244) = true := by decide +kernel
theorem ok244_2 : ((tb244.drop 60).take 30).all (okE 244) = true := by decide +kernel
theorem ok244_3 : ((tb244.drop 90).take 30).all (okE 244) = true := by decide +kernel
theorem ok244_4 : ((tb244.drop 120).take 30).all (okE 244) = true := by decide +kernel
