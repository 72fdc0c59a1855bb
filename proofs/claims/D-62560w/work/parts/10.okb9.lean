set_option maxRecDepth 100000
theorem ok244_14 : ((tb244.drop 420).take 30).all (okE 244) = true := by decide +kernel
theorem ok244_15 : ((tb244.drop 450).take 30).all (okE 244) = true := by decide +kernel
theorem ok244_16 : ((tb244.drop 480).take 30).all (okE 244) = true := by decide +kernel
theorem ok244_17 : ((tb244.drop 510).take 30).all (okE 244) = true := by decide +kernel
theorem ok244_18 : ((tb244.drop 540).take 30).all (okE 244) = true := by decide +kernel
theorem all_cut {α : Type} (f : α → Bool) (l : List α) (n : Nat) (k : Nat) (h1 : ((l.drop n).take k).all f = true) (h2 : (l.drop (n + k)).all f = true) : (l.drop n).all f = true := by
  rw [← List.take_append_drop k (l.drop n), List.all_append, h1, List.drop_drop, h2]; rfl
theorem ok244 : tb244.all (okE 244) = true := (all_cut _ _ 0 30 ok244_0 (all_cut _ _ 30 30 ok244_1 (all_cut _ _ 60 30 ok244_2 (all_cut _ _ 90 30 ok244_3 (all_cut _ _ 120 30 ok244_4 (all_cut _ _ 150 30 ok244_5 (all_cut _ _ 180 30 ok244_6 (all_cut _ _ 210 30 ok244_7 (all_cut _ _ 240 30 ok244_8 (all_cut _ _ 270 30 ok244_9 (all_cut _ _ 300 30 ok244_10 (all_cut _ _ 330 30 ok244_11 (all_cut _ _ 360 30 ok244_12 (all_cut _ _ 390 30 ok244_13 (all_cut _ _ 420 30 ok244_14 (all_cut _ _ 450 30 ok244_15 (all_cut _ _ 480 30 ok244_16 (all_cut _ _ 510 30 ok244_17 (all_cut _ _ 540 30 ok244_18 (by decide +kernel))))))))))))))))))))
