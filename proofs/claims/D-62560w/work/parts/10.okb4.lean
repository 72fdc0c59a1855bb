set_option maxRecDepth 100000
theorem ok225 : tb225.all (okE 225) = true := by decide +kernel
theorem ok226 : tb226.all (okE 226) = true := by decide +kernel
theorem ok227 : tb227.all (okE 227) = true := by decide +kernel
theorem ok228 : tb228.all (okE 228) = true := by decide +kernel
theorem ok229 : tb229.all (okE 229) = true := by decide +kernel
theorem ok230 : tb230.all (okE 230) = true := by decide +kernel
theorem ok231 : tb231.all (okE 231) = true := by decide +kernel
theorem ok232 : tb232.all (okE 232) = true := by decide +kernel
theorem ok233 : tb233.all (okE 233) = true := by decide +kernel
theorem ok234 : tb234.all (okE 234) = true := by decide +kernel
theorem ok235 : tb235.all (okE 235) = true := by decide +kernel
theorem ok236 : tb236.all (okE 236) = true := by decide +kernel
theorem ok237 : tb237.all (okE 237) = true := by decide +kernel
theorem ok238 : tb238.all (okE 238) = true := by decide +kernel
theorem ok239 : tb239.all (okE 239) = true := by decide +kernel
