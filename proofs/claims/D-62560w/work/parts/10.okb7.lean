set_option maxRecDepth 100000
theorem ok244_5 : ((tb244.drop 150).take 30).all (okE 244) = true := by decide +kernel
theorem ok244_6 : ((tb244.drop 180).take 30).all (okE 244) = true := by decide +kernel
theorem ok244_7 : ((tb244.drop 210).take 30).all (okE 244) = true := by decide +kernel
theorem ok244_8 : ((tb244.drop 240).take 30).all (okE 244) = true := by decide +kernel
theorem ok244_9 : ((tb244.drop 270).take 30).all (okE 244) = true := by decide +kernel
