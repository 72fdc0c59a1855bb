set_option maxRecDepth 100000
theorem ok240 : tb240.all (okE 240) = true := by decide +kernel
theorem ok241 : tb241.all (okE 241) = true := by decide +kernel
theorem ok242 : tb242.all (okE 242) = true := by decide +kernel
theorem ok243 : tb243.all (okE 243) = true := by decide +kernel
theorem ok245 : tb245.all (okE 245) = true := by decide +kernel
theorem ok246 : tb246.all (okE 246) = true := by decide +kernel
theorem ok247 : tb247.all (okE 247) = true := by decide +kernel
theorem ok248 : tb248.all (okE 248) = true := by decide +kernel
theorem ok249 : tb249.all (okE 249) = true := by decide +kernel
theorem ok250 : tb250.all (okE 250) = true := by decide +kernel
theorem ok251 : tb251.all (okE 251) = true := by decide +kernel
theorem ok252 : tb252.all (okE 252) = true := by decide +kernel
theorem ok253 : tb253.all (okE 253) = true := by decide +kernel
theorem ok254 : tb254.all (okE 254) = true := by decide +kernel
