/-! THE TWIN's READING: names, suffixes, what stands first -/
set_option maxRecDepth 100000
section tw10
variable {f : Int → Int} {n : Int} {T : List (Int × Int × Int)} {G0 : mG} {st : Nat} {i : Nat} {out : List Sp} {fr wt : List Fm} {F : Fm} {ta ts : Int} {G : mG} {op : Bool} {d : Nat} {Q : mR → Prop}
theorem tw_named {name soft : Int} (hE : PEnv f n T G0 st) (p : PR T G0 st G i out op (F :: fr) wt ta ts) (hs : soft = 0 ∨ soft = 1) (hn : 0 ≤ name ∧ name ≤ 14348906) (ho : out.length + 2 ≤ 90) : Wp (d + 3, 170, 0, [some (.ref 98), some (.int (N name)), some (.int (N soft))], [], G) (RV (NmP n T G0 st i out fr wt F ta ts name soft)) := by
  have hT := p.hts hE
  have est := p.zst hE
  obtain ⟨t1, t2, t3, t4⟩ := p.tok hE
  have t5 := p.zl hE
  obtain ⟨⟨e1, e2, e3, e4, e5⟩, ⟨e6, e7, e8, e9⟩, b1, b2, b3, b4⟩ := p.bd
  try simp only [List.length_cons, List.length_append, List.length_nil, ptc_len, List.length_dropLast] at e2 e4 e5 b1 b2 b3 b4
  refine w_load rfl rfl rfl ?_
  refine w_const (40) rfl rfl ?_
  refine w_callI2 rfl (Nat.le_of_ble_eq_true rfl) (Or.inr (Or.inr hT.o)) (Nat.le_of_ble_eq_true rfl) (tw_isSign hE p (by decide)) (fun z3 G3 h3 => ?_)
  obtain ⟨rfl, rfl⟩ := h3
  refine w_if_eq rfl (fun hc6 => ?_) (fun hc6 => ?_)
  · try simp (disch := omega) only [zF_wF, zF_wA, zF_wJ, zF_wD, zA_wF, zA_wA, zA_wJ, zA_wD, zL_wJ, zL_wF, zL_wA, zL_wD, J_wr, wr_zF, wr_zA, wrJ_zL, wr_id, wrJ_id, ne_eq, reduceCtorEq, not_false_eq_true, not_true_eq_false, if_true, if_false, Nat.reduceEqDiff, eq_self, wif0, if0, Decidable.not_not] at hc6
    refine w_load rfl rfl rfl ?_
    refine w_load rfl rfl rfl ?_
    refine w_if_eq rfl (fun hc20 => ?_) (fun hc20 => ?_)
    · try simp (disch := omega) only [zF_wF, zF_wA, zF_wJ, zF_wD, zA_wF, zA_wA, zA_wJ, zA_wD, zL_wJ, zL_wF, zL_wA, zL_wD, J_wr, wr_zF, wr_zA, wrJ_zL, wr_id, wrJ_id, ne_eq, reduceCtorEq, not_false_eq_true, not_true_eq_false, if_true, if_false, Nat.reduceEqDiff, eq_self, wif0, if0, Decidable.not_not] at hc20
      refine w_const (11) rfl rfl ?_
      refine w_load rfl rfl rfl ?_
      refine w_i2l rfl ?_
      refine w_callI3 rfl (Nat.le_of_ble_eq_true rfl) (Or.inr (Or.inr hT.o)) (Nat.le_of_ble_eq_true rfl) (tw_emit hE p (v := name) (by omega) (by decide) (J_wr_eq rfl (by omega))) (fun z32 G32 h32 => ?_)
      obtain ⟨-, p, -⟩ := h32
      have hT := p.hts hE
      have est := p.zst hE
      obtain ⟨t1, t2, t3, t4⟩ := p.tok hE
      have t5 := p.zl hE
      obtain ⟨⟨e1, e2, e3, e4, e5⟩, ⟨e6, e7, e8, e9⟩, b1, b2, b3, b4⟩ := p.bd
      try simp only [List.length_cons, List.length_append, List.length_nil, ptc_len, List.length_dropLast] at e2 e4 e5 b1 b2 b3 b4
      refine w_pop rfl rfl ?_
      refine w_load rfl rfl rfl ?_
      refine w_const (1) rfl rfl ?_
      refine w_callV2 rfl (Nat.le_of_ble_eq_true rfl) (Or.inr (Or.inr hT.o)) (Nat.le_of_ble_eq_true rfl) (tw_ready hE p (Or.inr rfl)) (fun G38 h38 => ?_)
      skip
      refine w_return rfl ?_
      first | exact RV.mk (Or.inr ⟨hc6, h12⟩) | exact RV.mk (Or.inl ⟨hc6, by rw [if_pos (by omega)]; exact h38⟩) | exact RV.mk (Or.inl ⟨hc6, by rw [if_neg (by omega)]; exact h38⟩)
    · try simp (disch := omega) only [zF_wF, zF_wA, zF_wJ, zF_wD, zA_wF, zA_wA, zA_wJ, zA_wD, zL_wJ, zL_wF, zL_wA, zL_wD, J_wr, wr_zF, wr_zA, wrJ_zL, wr_id, wrJ_id, ne_eq, reduceCtorEq, not_false_eq_true, not_true_eq_false, if_true, if_false, Nat.reduceEqDiff, eq_self, wif0, if0, Decidable.not_not] at hc20
      refine w_const (12) rfl rfl ?_
      refine w_goto rfl ?_
      refine w_load rfl rfl rfl ?_
      refine w_i2l rfl ?_
      refine w_callI3 rfl (Nat.le_of_ble_eq_true rfl) (Or.inr (Or.inr hT.o)) (Nat.le_of_ble_eq_true rfl) (tw_emit hE p (v := name) (by omega) (by decide) (J_wr_eq rfl (by omega))) (fun z32 G32 h32 => ?_)
      obtain ⟨-, p, -⟩ := h32
      have hT := p.hts hE
      have est := p.zst hE
      obtain ⟨t1, t2, t3, t4⟩ := p.tok hE
      have t5 := p.zl hE
      obtain ⟨⟨e1, e2, e3, e4, e5⟩, ⟨e6, e7, e8, e9⟩, b1, b2, b3, b4⟩ := p.bd
      try simp only [List.length_cons, List.length_append, List.length_nil, ptc_len, List.length_dropLast] at e2 e4 e5 b1 b2 b3 b4
      refine w_pop rfl rfl ?_
      refine w_load rfl rfl rfl ?_
      refine w_const (1) rfl rfl ?_
      refine w_callV2 rfl (Nat.le_of_ble_eq_true rfl) (Or.inr (Or.inr hT.o)) (Nat.le_of_ble_eq_true rfl) (tw_ready hE p (Or.inr rfl)) (fun G38 h38 => ?_)
      skip
      refine w_return rfl ?_
      first | exact RV.mk (Or.inr ⟨hc6, h12⟩) | exact RV.mk (Or.inl ⟨hc6, by rw [if_pos (by omega)]; exact h38⟩) | exact RV.mk (Or.inl ⟨hc6, by rw [if_neg (by omega)]; exact h38⟩)
  · try simp (disch := omega) only [zF_wF, zF_wA, zF_wJ, zF_wD, zA_wF, zA_wA, zA_wJ, zA_wD, zL_wJ, zL_wF, zL_wA, zL_wD, J_wr, wr_zF, wr_zA, wrJ_zL, wr_id, wrJ_id, ne_eq, reduceCtorEq, not_false_eq_true, not_true_eq_false, if_true, if_false, Nat.reduceEqDiff, eq_self, wif0, if0, Decidable.not_not] at hc6
    refine w_load rfl rfl rfl ?_
    refine w_load rfl rfl rfl ?_
    refine w_load rfl rfl rfl ?_
    refine w_callV3 rfl (Nat.le_of_ble_eq_true rfl) (Or.inr (Or.inr hT.o)) (Nat.le_of_ble_eq_true rfl) (tw_call hE p hc6 hs hn ho) (fun G12 h12 => ?_)
    skip
    refine w_goto rfl ?_
    refine w_return rfl ?_
    first | exact RV.mk (Or.inr ⟨hc6, h12⟩) | exact RV.mk (Or.inl ⟨hc6, by rw [if_pos (by omega)]; exact h38⟩) | exact RV.mk (Or.inl ⟨hc6, by rw [if_neg (by omega)]; exact h38⟩)
theorem fixd_iff {v : Int} : fixd v = true ↔ v = 407354 ∨ v = 3217595 ∨ v = 291207 := by unfold fixd; exact decide_eq_true_iff
/-- what a word leaves; it is token i -/
theorem tw_word (hE : PEnv f n T G0 st) (p : PR T G0 st G i out op (F :: fr) wt ta ts) (h97 : tkd n T i = 97) (ho : out.length + 3 ≤ 90) : Wp (d + 4, 169, 0, [some (.ref 98), none], [], G) (RV fun G' =>
    fixd (tvl f n T i) = true ∧ PR T G0 st G' (i + 1) (out ++ [(fixS (tvl f n T i), 0)]) false (up F 115 0 :: fr) wt ta ts
    ∨ ¬ fixd (tvl f n T i) = true ∧ NmP n T G0 st (i + 1) (out ++ [(10, 0)]) fr wt F ta ts (tvl f n T i) 0 G') := by
  have h41 := hE.2.2.1
  have hlt := p.lt hE (by omega)
  have hn := hE.2.2.2.2.2.2.2.1 i h97
  have hT := p.hts hE
  have est := p.zst hE
  obtain ⟨t1, t2, t3, t4⟩ := p.tok hE
  have t5 := p.zl hE
  obtain ⟨⟨e1, e2, e3, e4, e5⟩, ⟨e6, e7, e8, e9⟩, b1, b2, b3, b4⟩ := p.bd
  try simp only [List.length_cons, List.length_append, List.length_nil, ptc_len, List.length_dropLast] at e2 e4 e5 b1 b2 b3 b4
  rw [fixd_iff]
  refine w_load rfl rfl rfl ?_
  refine w_getP rfl hT.o (hT.p rfl) ?_
  refine w_load rfl rfl rfl ?_
  refine w_getI0k rfl hT.o (e1) ?_
  refine w_lald rfl (hT.t rfl) (hT.n rfl) (by omega) (by decide) ?_
  refine w_l2i rfl ?_
  rw [t5, show N (wrJ (tvl f n T i)) = N (tvl f n T i) from by rw [wrJ_id (by omega) (by omega)]]
  refine w_st1 rfl rfl rfl ?_
  refine w_load rfl rfl rfl ?_
  refine w_dup rfl rfl ?_
  refine w_getI0k rfl hT.o (e1) ?_
  refine w_const (1) rfl rfl ?_
  refine w_iadd rfl ?_
  refine w_putI0 rfl hT.o ?_
  refine w_pr (p.nxt hlt h41 rfl) (fun G p => ?_)
  have hT := p.hts hE
  have est := p.zst hE
  obtain ⟨t1, t2, t3, t4⟩ := p.tok hE
  have t5 := p.zl hE
  obtain ⟨⟨e1, e2, e3, e4, e5⟩, ⟨e6, e7, e8, e9⟩, b1, b2, b3, b4⟩ := p.bd
  try simp only [List.length_cons, List.length_append, List.length_nil, ptc_len, List.length_dropLast] at e2 e4 e5 b1 b2 b3 b4
  refine w_load rfl rfl rfl ?_
  refine w_const (407354) rfl rfl ?_
  refine w_icmp_eq rfl (fun hc24 => ?_) (fun hc24 => ?_)
  · try simp (disch := omega) only [zF_wF, zF_wA, zF_wJ, zF_wD, zA_wF, zA_wA, zA_wJ, zA_wD, zL_wJ, zL_wF, zL_wA, zL_wD, J_wr, wr_zF, wr_zA, wrJ_zL, wr_id, wrJ_id, ne_eq, reduceCtorEq, not_false_eq_true, not_true_eq_false, if_true, if_false, Nat.reduceEqDiff, eq_self, wif0, if0, Decidable.not_not] at hc24
    refine w_load rfl rfl rfl ?_
    refine w_load rfl rfl rfl ?_
    refine w_const (407354) rfl rfl ?_
    refine w_icmp_ne rfl (fun hc43 => ?_) (fun hc43 => ?_)
    · try simp (disch := omega) only [zF_wF, zF_wA, zF_wJ, zF_wD, zA_wF, zA_wA, zA_wJ, zA_wD, zL_wJ, zL_wF, zL_wA, zL_wD, J_wr, wr_zF, wr_zA, wrJ_zL, wr_id, wrJ_id, ne_eq, reduceCtorEq, not_false_eq_true, not_true_eq_false, if_true, if_false, Nat.reduceEqDiff, eq_self, wif0, if0, Decidable.not_not] at hc43
      refine w_load rfl rfl rfl ?_
      refine w_const (3217595) rfl rfl ?_
      refine w_icmp_ne rfl (fun hc54 => ?_) (fun hc54 => ?_)
      · try simp (disch := omega) only [zF_wF, zF_wA, zF_wJ, zF_wD, zA_wF, zA_wA, zA_wJ, zA_wD, zL_wJ, zL_wF, zL_wA, zL_wD, J_wr, wr_zF, wr_zA, wrJ_zL, wr_id, wrJ_id, ne_eq, reduceCtorEq, not_false_eq_true, not_true_eq_false, if_true, if_false, Nat.reduceEqDiff, eq_self, wif0, if0, Decidable.not_not] at hc54
        refine w_const (8) rfl rfl ?_
        refine w_lconst (0) rfl rfl ?_
        refine w_callI3 rfl (Nat.le_of_ble_eq_true rfl) (Or.inr (Or.inr hT.o)) (Nat.le_of_ble_eq_true rfl) (tw_emit hE p (v := 0) (by omega) (by decide) rfl) (fun z65 G65 h65 => ?_)
        obtain ⟨-, p, -⟩ := h65
        have hT := p.hts hE
        have est := p.zst hE
        obtain ⟨t1, t2, t3, t4⟩ := p.tok hE
        have t5 := p.zl hE
        obtain ⟨⟨e1, e2, e3, e4, e5⟩, ⟨e6, e7, e8, e9⟩, b1, b2, b3, b4⟩ := p.bd
        try simp only [List.length_cons, List.length_append, List.length_nil, ptc_len, List.length_dropLast] at e2 e4 e5 b1 b2 b3 b4
        refine w_pop rfl rfl ?_
        refine w_load rfl rfl rfl ?_
        refine w_const (0) rfl rfl ?_
        refine w_callV2 rfl (Nat.le_of_ble_eq_true rfl) (Or.inr (Or.inr hT.o)) (Nat.le_of_ble_eq_true rfl) (tw_ready hE p (Or.inl rfl)) (fun G71 h71 => ?_)
        skip
        refine w_goto rfl ?_
        refine w_return rfl ?_
        first
        | exact RV.mk (Or.inr ⟨by omega, h88⟩)
        | (refine RV.mk (Or.inl ⟨by omega, ?_⟩)
           unfold fixS
           first | (rw [if_pos (by omega)]; exact h71) | (rw [if_neg (by omega), if_pos (by omega)]; exact h71) | (rw [if_neg (by omega), if_neg (by omega)]; exact h71))
      · try simp (disch := omega) only [zF_wF, zF_wA, zF_wJ, zF_wD, zA_wF, zA_wA, zA_wJ, zA_wD, zL_wJ, zL_wF, zL_wA, zL_wD, J_wr, wr_zF, wr_zA, wrJ_zL, wr_id, wrJ_id, ne_eq, reduceCtorEq, not_false_eq_true, not_true_eq_false, if_true, if_false, Nat.reduceEqDiff, eq_self, wif0, if0, Decidable.not_not] at hc54
        refine w_const (7) rfl rfl ?_
        refine w_goto rfl ?_
        refine w_lconst (0) rfl rfl ?_
        refine w_callI3 rfl (Nat.le_of_ble_eq_true rfl) (Or.inr (Or.inr hT.o)) (Nat.le_of_ble_eq_true rfl) (tw_emit hE p (v := 0) (by omega) (by decide) rfl) (fun z65 G65 h65 => ?_)
        obtain ⟨-, p, -⟩ := h65
        have hT := p.hts hE
        have est := p.zst hE
        obtain ⟨t1, t2, t3, t4⟩ := p.tok hE
        have t5 := p.zl hE
        obtain ⟨⟨e1, e2, e3, e4, e5⟩, ⟨e6, e7, e8, e9⟩, b1, b2, b3, b4⟩ := p.bd
        try simp only [List.length_cons, List.length_append, List.length_nil, ptc_len, List.length_dropLast] at e2 e4 e5 b1 b2 b3 b4
        refine w_pop rfl rfl ?_
        refine w_load rfl rfl rfl ?_
        refine w_const (0) rfl rfl ?_
        refine w_callV2 rfl (Nat.le_of_ble_eq_true rfl) (Or.inr (Or.inr hT.o)) (Nat.le_of_ble_eq_true rfl) (tw_ready hE p (Or.inl rfl)) (fun G71 h71 => ?_)
        skip
        refine w_goto rfl ?_
        refine w_return rfl ?_
        first
        | exact RV.mk (Or.inr ⟨by omega, h88⟩)
        | (refine RV.mk (Or.inl ⟨by omega, ?_⟩)
           unfold fixS
           first | (rw [if_pos (by omega)]; exact h71) | (rw [if_neg (by omega), if_pos (by omega)]; exact h71) | (rw [if_neg (by omega), if_neg (by omega)]; exact h71))
    · try simp (disch := omega) only [zF_wF, zF_wA, zF_wJ, zF_wD, zA_wF, zA_wA, zA_wJ, zA_wD, zL_wJ, zL_wF, zL_wA, zL_wD, J_wr, wr_zF, wr_zA, wrJ_zL, wr_id, wrJ_id, ne_eq, reduceCtorEq, not_false_eq_true, not_true_eq_false, if_true, if_false, Nat.reduceEqDiff, eq_self, wif0, if0, Decidable.not_not] at hc43
      refine w_const (6) rfl rfl ?_
      refine w_goto rfl ?_
      refine w_lconst (0) rfl rfl ?_
      refine w_callI3 rfl (Nat.le_of_ble_eq_true rfl) (Or.inr (Or.inr hT.o)) (Nat.le_of_ble_eq_true rfl) (tw_emit hE p (v := 0) (by omega) (by decide) rfl) (fun z65 G65 h65 => ?_)
      obtain ⟨-, p, -⟩ := h65
      have hT := p.hts hE
      have est := p.zst hE
      obtain ⟨t1, t2, t3, t4⟩ := p.tok hE
      have t5 := p.zl hE
      obtain ⟨⟨e1, e2, e3, e4, e5⟩, ⟨e6, e7, e8, e9⟩, b1, b2, b3, b4⟩ := p.bd
      try simp only [List.length_cons, List.length_append, List.length_nil, ptc_len, List.length_dropLast] at e2 e4 e5 b1 b2 b3 b4
      refine w_pop rfl rfl ?_
      refine w_load rfl rfl rfl ?_
      refine w_const (0) rfl rfl ?_
      refine w_callV2 rfl (Nat.le_of_ble_eq_true rfl) (Or.inr (Or.inr hT.o)) (Nat.le_of_ble_eq_true rfl) (tw_ready hE p (Or.inl rfl)) (fun G71 h71 => ?_)
      skip
      refine w_goto rfl ?_
      refine w_return rfl ?_
      first
      | exact RV.mk (Or.inr ⟨by omega, h88⟩)
      | (refine RV.mk (Or.inl ⟨by omega, ?_⟩)
         unfold fixS
         first | (rw [if_pos (by omega)]; exact h71) | (rw [if_neg (by omega), if_pos (by omega)]; exact h71) | (rw [if_neg (by omega), if_neg (by omega)]; exact h71))
  · try simp (disch := omega) only [zF_wF, zF_wA, zF_wJ, zF_wD, zA_wF, zA_wA, zA_wJ, zA_wD, zL_wJ, zL_wF, zL_wA, zL_wD, J_wr, wr_zF, wr_zA, wrJ_zL, wr_id, wrJ_id, ne_eq, reduceCtorEq, not_false_eq_true, not_true_eq_false, if_true, if_false, Nat.reduceEqDiff, eq_self, wif0, if0, Decidable.not_not] at hc24
    refine w_load rfl rfl rfl ?_
    refine w_const (3217595) rfl rfl ?_
    refine w_icmp_eq rfl (fun hc30 => ?_) (fun hc30 => ?_)
    · try simp (disch := omega) only [zF_wF, zF_wA, zF_wJ, zF_wD, zA_wF, zA_wA, zA_wJ, zA_wD, zL_wJ, zL_wF, zL_wA, zL_wD, J_wr, wr_zF, wr_zA, wrJ_zL, wr_id, wrJ_id, ne_eq, reduceCtorEq, not_false_eq_true, not_true_eq_false, if_true, if_false, Nat.reduceEqDiff, eq_self, wif0, if0, Decidable.not_not] at hc30
      refine w_load rfl rfl rfl ?_
      refine w_load rfl rfl rfl ?_
      refine w_const (407354) rfl rfl ?_
      refine w_icmp_ne rfl (fun hc43 => ?_) (fun hc43 => ?_)
      · try simp (disch := omega) only [zF_wF, zF_wA, zF_wJ, zF_wD, zA_wF, zA_wA, zA_wJ, zA_wD, zL_wJ, zL_wF, zL_wA, zL_wD, J_wr, wr_zF, wr_zA, wrJ_zL, wr_id, wrJ_id, ne_eq, reduceCtorEq, not_false_eq_true, not_true_eq_false, if_true, if_false, Nat.reduceEqDiff, eq_self, wif0, if0, Decidable.not_not] at hc43
        refine w_load rfl rfl rfl ?_
        refine w_const (3217595) rfl rfl ?_
        refine w_icmp_ne rfl (fun hc54 => ?_) (fun hc54 => ?_)
        · try simp (disch := omega) only [zF_wF, zF_wA, zF_wJ, zF_wD, zA_wF, zA_wA, zA_wJ, zA_wD, zL_wJ, zL_wF, zL_wA, zL_wD, J_wr, wr_zF, wr_zA, wrJ_zL, wr_id, wrJ_id, ne_eq, reduceCtorEq, not_false_eq_true, not_true_eq_false, if_true, if_false, Nat.reduceEqDiff, eq_self, wif0, if0, Decidable.not_not] at hc54
          refine w_const (8) rfl rfl ?_
          refine w_lconst (0) rfl rfl ?_
          refine w_callI3 rfl (Nat.le_of_ble_eq_true rfl) (Or.inr (Or.inr hT.o)) (Nat.le_of_ble_eq_true rfl) (tw_emit hE p (v := 0) (by omega) (by decide) rfl) (fun z65 G65 h65 => ?_)
          obtain ⟨-, p, -⟩ := h65
          have hT := p.hts hE
          have est := p.zst hE
          obtain ⟨t1, t2, t3, t4⟩ := p.tok hE
          have t5 := p.zl hE
          obtain ⟨⟨e1, e2, e3, e4, e5⟩, ⟨e6, e7, e8, e9⟩, b1, b2, b3, b4⟩ := p.bd
          try simp only [List.length_cons, List.length_append, List.length_nil, ptc_len, List.length_dropLast] at e2 e4 e5 b1 b2 b3 b4
          refine w_pop rfl rfl ?_
          refine w_load rfl rfl rfl ?_
          refine w_const (0) rfl rfl ?_
          refine w_callV2 rfl (Nat.le_of_ble_eq_true rfl) (Or.inr (Or.inr hT.o)) (Nat.le_of_ble_eq_true rfl) (tw_ready hE p (Or.inl rfl)) (fun G71 h71 => ?_)
          skip
          refine w_goto rfl ?_
          refine w_return rfl ?_
          first
          | exact RV.mk (Or.inr ⟨by omega, h88⟩)
          | (refine RV.mk (Or.inl ⟨by omega, ?_⟩)
             unfold fixS
             first | (rw [if_pos (by omega)]; exact h71) | (rw [if_neg (by omega), if_pos (by omega)]; exact h71) | (rw [if_neg (by omega), if_neg (by omega)]; exact h71))
        · try simp (disch := omega) only [zF_wF, zF_wA, zF_wJ, zF_wD, zA_wF, zA_wA, zA_wJ, zA_wD, zL_wJ, zL_wF, zL_wA, zL_wD, J_wr, wr_zF, wr_zA, wrJ_zL, wr_id, wrJ_id, ne_eq, reduceCtorEq, not_false_eq_true, not_true_eq_false, if_true, if_false, Nat.reduceEqDiff, eq_self, wif0, if0, Decidable.not_not] at hc54
          refine w_const (7) rfl rfl ?_
          refine w_goto rfl ?_
          refine w_lconst (0) rfl rfl ?_
          refine w_callI3 rfl (Nat.le_of_ble_eq_true rfl) (Or.inr (Or.inr hT.o)) (Nat.le_of_ble_eq_true rfl) (tw_emit hE p (v := 0) (by omega) (by decide) rfl) (fun z65 G65 h65 => ?_)
          obtain ⟨-, p, -⟩ := h65
          have hT := p.hts hE
          have est := p.zst hE
          obtain ⟨t1, t2, t3, t4⟩ := p.tok hE
          have t5 := p.zl hE
          obtain ⟨⟨e1, e2, e3, e4, e5⟩, ⟨e6, e7, e8, e9⟩, b1, b2, b3, b4⟩ := p.bd
          try simp only [List.length_cons, List.length_append, List.length_nil, ptc_len, List.length_dropLast] at e2 e4 e5 b1 b2 b3 b4
          refine w_pop rfl rfl ?_
          refine w_load rfl rfl rfl ?_
          refine w_const (0) rfl rfl ?_
          refine w_callV2 rfl (Nat.le_of_ble_eq_true rfl) (Or.inr (Or.inr hT.o)) (Nat.le_of_ble_eq_true rfl) (tw_ready hE p (Or.inl rfl)) (fun G71 h71 => ?_)
          skip
          refine w_goto rfl ?_
          refine w_return rfl ?_
          first
          | exact RV.mk (Or.inr ⟨by omega, h88⟩)
          | (refine RV.mk (Or.inl ⟨by omega, ?_⟩)
             unfold fixS
             first | (rw [if_pos (by omega)]; exact h71) | (rw [if_neg (by omega), if_pos (by omega)]; exact h71) | (rw [if_neg (by omega), if_neg (by omega)]; exact h71))
      · try simp (disch := omega) only [zF_wF, zF_wA, zF_wJ, zF_wD, zA_wF, zA_wA, zA_wJ, zA_wD, zL_wJ, zL_wF, zL_wA, zL_wD, J_wr, wr_zF, wr_zA, wrJ_zL, wr_id, wrJ_id, ne_eq, reduceCtorEq, not_false_eq_true, not_true_eq_false, if_true, if_false, Nat.reduceEqDiff, eq_self, wif0, if0, Decidable.not_not] at hc43
        refine w_const (6) rfl rfl ?_
        refine w_goto rfl ?_
        refine w_lconst (0) rfl rfl ?_
        refine w_callI3 rfl (Nat.le_of_ble_eq_true rfl) (Or.inr (Or.inr hT.o)) (Nat.le_of_ble_eq_true rfl) (tw_emit hE p (v := 0) (by omega) (by decide) rfl) (fun z65 G65 h65 => ?_)
        obtain ⟨-, p, -⟩ := h65
        have hT := p.hts hE
        have est := p.zst hE
        obtain ⟨t1, t2, t3, t4⟩ := p.tok hE
        have t5 := p.zl hE
        obtain ⟨⟨e1, e2, e3, e4, e5⟩, ⟨e6, e7, e8, e9⟩, b1, b2, b3, b4⟩ := p.bd
        try simp only [List.length_cons, List.length_append, List.length_nil, ptc_len, List.length_dropLast] at e2 e4 e5 b1 b2 b3 b4
        refine w_pop rfl rfl ?_
        refine w_load rfl rfl rfl ?_
        refine w_const (0) rfl rfl ?_
        refine w_callV2 rfl (Nat.le_of_ble_eq_true rfl) (Or.inr (Or.inr hT.o)) (Nat.le_of_ble_eq_true rfl) (tw_ready hE p (Or.inl rfl)) (fun G71 h71 => ?_)
        skip
        refine w_goto rfl ?_
        refine w_return rfl ?_
        first
        | exact RV.mk (Or.inr ⟨by omega, h88⟩)
        | (refine RV.mk (Or.inl ⟨by omega, ?_⟩)
           unfold fixS
           first | (rw [if_pos (by omega)]; exact h71) | (rw [if_neg (by omega), if_pos (by omega)]; exact h71) | (rw [if_neg (by omega), if_neg (by omega)]; exact h71))
    · try simp (disch := omega) only [zF_wF, zF_wA, zF_wJ, zF_wD, zA_wF, zA_wA, zA_wJ, zA_wD, zL_wJ, zL_wF, zL_wA, zL_wD, J_wr, wr_zF, wr_zA, wrJ_zL, wr_id, wrJ_id, ne_eq, reduceCtorEq, not_false_eq_true, not_true_eq_false, if_true, if_false, Nat.reduceEqDiff, eq_self, wif0, if0, Decidable.not_not] at hc30
      refine w_load rfl rfl rfl ?_
      refine w_const (291207) rfl rfl ?_
      refine w_icmp_ne rfl (fun hc36 => ?_) (fun hc36 => ?_)
      · try simp (disch := omega) only [zF_wF, zF_wA, zF_wJ, zF_wD, zA_wF, zA_wA, zA_wJ, zA_wD, zL_wJ, zL_wF, zL_wA, zL_wD, J_wr, wr_zF, wr_zA, wrJ_zL, wr_id, wrJ_id, ne_eq, reduceCtorEq, not_false_eq_true, not_true_eq_false, if_true, if_false, Nat.reduceEqDiff, eq_self, wif0, if0, Decidable.not_not] at hc36
        refine w_load rfl rfl rfl ?_
        refine w_const (10) rfl rfl ?_
        refine w_lconst (0) rfl rfl ?_
        refine w_callI3 rfl (Nat.le_of_ble_eq_true rfl) (Or.inr (Or.inr hT.o)) (Nat.le_of_ble_eq_true rfl) (tw_emit hE p (v := 0) (by omega) (by decide) rfl) (fun z81 G81 h81 => ?_)
        obtain ⟨-, p, -⟩ := h81
        have hT := p.hts hE
        have est := p.zst hE
        obtain ⟨t1, t2, t3, t4⟩ := p.tok hE
        have t5 := p.zl hE
        obtain ⟨⟨e1, e2, e3, e4, e5⟩, ⟨e6, e7, e8, e9⟩, b1, b2, b3, b4⟩ := p.bd
        try simp only [List.length_cons, List.length_append, List.length_nil, ptc_len, List.length_dropLast] at e2 e4 e5 b1 b2 b3 b4
        refine w_pop rfl rfl ?_
        refine w_load rfl rfl rfl ?_
        refine w_load rfl rfl rfl ?_
        refine w_const (0) rfl rfl ?_
        refine w_callV3 rfl (Nat.le_of_ble_eq_true rfl) (Or.inr (Or.inr hT.o)) (Nat.le_of_ble_eq_true rfl) (tw_named hE p (Or.inl rfl) hn (by simp only [List.length_append, List.length_cons, List.length_nil, ptc_len]; omega)) (fun G88 h88 => ?_)
        skip
        refine w_return rfl ?_
        first
        | exact RV.mk (Or.inr ⟨by omega, h88⟩)
        | (refine RV.mk (Or.inl ⟨by omega, ?_⟩)
           unfold fixS
           first | (rw [if_pos (by omega)]; exact h71) | (rw [if_neg (by omega), if_pos (by omega)]; exact h71) | (rw [if_neg (by omega), if_neg (by omega)]; exact h71))
      · try simp (disch := omega) only [zF_wF, zF_wA, zF_wJ, zF_wD, zA_wF, zA_wA, zA_wJ, zA_wD, zL_wJ, zL_wF, zL_wA, zL_wD, J_wr, wr_zF, wr_zA, wrJ_zL, wr_id, wrJ_id, ne_eq, reduceCtorEq, not_false_eq_true, not_true_eq_false, if_true, if_false, Nat.reduceEqDiff, eq_self, wif0, if0, Decidable.not_not] at hc36
        refine w_load rfl rfl rfl ?_
        refine w_load rfl rfl rfl ?_
        refine w_const (407354) rfl rfl ?_
        refine w_icmp_ne rfl (fun hc43 => ?_) (fun hc43 => ?_)
        · try simp (disch := omega) only [zF_wF, zF_wA, zF_wJ, zF_wD, zA_wF, zA_wA, zA_wJ, zA_wD, zL_wJ, zL_wF, zL_wA, zL_wD, J_wr, wr_zF, wr_zA, wrJ_zL, wr_id, wrJ_id, ne_eq, reduceCtorEq, not_false_eq_true, not_true_eq_false, if_true, if_false, Nat.reduceEqDiff, eq_self, wif0, if0, Decidable.not_not] at hc43
          refine w_load rfl rfl rfl ?_
          refine w_const (3217595) rfl rfl ?_
          refine w_icmp_ne rfl (fun hc54 => ?_) (fun hc54 => ?_)
          · try simp (disch := omega) only [zF_wF, zF_wA, zF_wJ, zF_wD, zA_wF, zA_wA, zA_wJ, zA_wD, zL_wJ, zL_wF, zL_wA, zL_wD, J_wr, wr_zF, wr_zA, wrJ_zL, wr_id, wrJ_id, ne_eq, reduceCtorEq, not_false_eq_true, not_true_eq_false, if_true, if_false, Nat.reduceEqDiff, eq_self, wif0, if0, Decidable.not_not] at hc54
            refine w_const (8) rfl rfl ?_
            refine w_lconst (0) rfl rfl ?_
            refine w_callI3 rfl (Nat.le_of_ble_eq_true rfl) (Or.inr (Or.inr hT.o)) (Nat.le_of_ble_eq_true rfl) (tw_emit hE p (v := 0) (by omega) (by decide) rfl) (fun z65 G65 h65 => ?_)
            obtain ⟨-, p, -⟩ := h65
            have hT := p.hts hE
            have est := p.zst hE
            obtain ⟨t1, t2, t3, t4⟩ := p.tok hE
            have t5 := p.zl hE
            obtain ⟨⟨e1, e2, e3, e4, e5⟩, ⟨e6, e7, e8, e9⟩, b1, b2, b3, b4⟩ := p.bd
            try simp only [List.length_cons, List.length_append, List.length_nil, ptc_len, List.length_dropLast] at e2 e4 e5 b1 b2 b3 b4
            refine w_pop rfl rfl ?_
            refine w_load rfl rfl rfl ?_
            refine w_const (0) rfl rfl ?_
            refine w_callV2 rfl (Nat.le_of_ble_eq_true rfl) (Or.inr (Or.inr hT.o)) (Nat.le_of_ble_eq_true rfl) (tw_ready hE p (Or.inl rfl)) (fun G71 h71 => ?_)
            skip
            refine w_goto rfl ?_
            refine w_return rfl ?_
            first
            | exact RV.mk (Or.inr ⟨by omega, h88⟩)
            | (refine RV.mk (Or.inl ⟨by omega, ?_⟩)
               unfold fixS
               first | (rw [if_pos (by omega)]; exact h71) | (rw [if_neg (by omega), if_pos (by omega)]; exact h71) | (rw [if_neg (by omega), if_neg (by omega)]; exact h71))
          · try simp (disch := omega) only [zF_wF, zF_wA, zF_wJ, zF_wD, zA_wF, zA_wA, zA_wJ, zA_wD, zL_wJ, zL_wF, zL_wA, zL_wD, J_wr, wr_zF, wr_zA, wrJ_zL, wr_id, wrJ_id, ne_eq, reduceCtorEq, not_false_eq_true, not_true_eq_false, if_true, if_false, Nat.reduceEqDiff, eq_self, wif0, if0, Decidable.not_not] at hc54
            refine w_const (7) rfl rfl ?_
            refine w_goto rfl ?_
            refine w_lconst (0) rfl rfl ?_
            refine w_callI3 rfl (Nat.le_of_ble_eq_true rfl) (Or.inr (Or.inr hT.o)) (Nat.le_of_ble_eq_true rfl) (tw_emit hE p (v := 0) (by omega) (by decide) rfl) (fun z65 G65 h65 => ?_)
            obtain ⟨-, p, -⟩ := h65
            have hT := p.hts hE
            have est := p.zst hE
            obtain ⟨t1, t2, t3, t4⟩ := p.tok hE
            have t5 := p.zl hE
            obtain ⟨⟨e1, e2, e3, e4, e5⟩, ⟨e6, e7, e8, e9⟩, b1, b2, b3, b4⟩ := p.bd
            try simp only [List.length_cons, List.length_append, List.length_nil, ptc_len, List.length_dropLast] at e2 e4 e5 b1 b2 b3 b4
            refine w_pop rfl rfl ?_
            refine w_load rfl rfl rfl ?_
            refine w_const (0) rfl rfl ?_
            refine w_callV2 rfl (Nat.le_of_ble_eq_true rfl) (Or.inr (Or.inr hT.o)) (Nat.le_of_ble_eq_true rfl) (tw_ready hE p (Or.inl rfl)) (fun G71 h71 => ?_)
            skip
            refine w_goto rfl ?_
            refine w_return rfl ?_
            first
            | exact RV.mk (Or.inr ⟨by omega, h88⟩)
            | (refine RV.mk (Or.inl ⟨by omega, ?_⟩)
               unfold fixS
               first | (rw [if_pos (by omega)]; exact h71) | (rw [if_neg (by omega), if_pos (by omega)]; exact h71) | (rw [if_neg (by omega), if_neg (by omega)]; exact h71))
        · try simp (disch := omega) only [zF_wF, zF_wA, zF_wJ, zF_wD, zA_wF, zA_wA, zA_wJ, zA_wD, zL_wJ, zL_wF, zL_wA, zL_wD, J_wr, wr_zF, wr_zA, wrJ_zL, wr_id, wrJ_id, ne_eq, reduceCtorEq, not_false_eq_true, not_true_eq_false, if_true, if_false, Nat.reduceEqDiff, eq_self, wif0, if0, Decidable.not_not] at hc43
          refine w_const (6) rfl rfl ?_
          refine w_goto rfl ?_
          refine w_lconst (0) rfl rfl ?_
          refine w_callI3 rfl (Nat.le_of_ble_eq_true rfl) (Or.inr (Or.inr hT.o)) (Nat.le_of_ble_eq_true rfl) (tw_emit hE p (v := 0) (by omega) (by decide) rfl) (fun z65 G65 h65 => ?_)
          obtain ⟨-, p, -⟩ := h65
          have hT := p.hts hE
          have est := p.zst hE
          obtain ⟨t1, t2, t3, t4⟩ := p.tok hE
          have t5 := p.zl hE
          obtain ⟨⟨e1, e2, e3, e4, e5⟩, ⟨e6, e7, e8, e9⟩, b1, b2, b3, b4⟩ := p.bd
          try simp only [List.length_cons, List.length_append, List.length_nil, ptc_len, List.length_dropLast] at e2 e4 e5 b1 b2 b3 b4
          refine w_pop rfl rfl ?_
          refine w_load rfl rfl rfl ?_
          refine w_const (0) rfl rfl ?_
          refine w_callV2 rfl (Nat.le_of_ble_eq_true rfl) (Or.inr (Or.inr hT.o)) (Nat.le_of_ble_eq_true rfl) (tw_ready hE p (Or.inl rfl)) (fun G71 h71 => ?_)
          skip
          refine w_goto rfl ?_
          refine w_return rfl ?_
          first
          | exact RV.mk (Or.inr ⟨by omega, h88⟩)
          | (refine RV.mk (Or.inl ⟨by omega, ?_⟩)
             unfold fixS
             first | (rw [if_pos (by omega)]; exact h71) | (rw [if_neg (by omega), if_pos (by omega)]; exact h71) | (rw [if_neg (by omega), if_neg (by omega)]; exact h71))
theorem tkc3 {c : Int} : tkc c = 3 ↔ c = 97 := by
  unfold tkc
  repeat' split
  all_goals omega
theorem tkc0 {c : Int} : tkc c = 0 ↔ c = 36 := by
  unfold tkc
  repeat' split
  all_goals omega
theorem tkc1 {c : Int} : tkc c = 1 ↔ c = 48 := by
  unfold tkc
  repeat' split
  all_goals omega
theorem tkc2 {c : Int} : tkc c = 2 ↔ c = 11776 := by
  unfold tkc
  repeat' split
  all_goals omega
theorem tkc4 {c : Int} : tkc c = 4 ↔ c = 39 := by
  unfold tkc
  repeat' split
  all_goals omega
theorem tw_suffix (hE : PEnv f n T G0 st) (p : PR T G0 st G i out op (F :: fr) wt ta ts) (ho : out.length + 2 ≤ 90) : Wp (d + 4, 179, 0, [some (.ref 98), none, none], [], G) (RI fun z G' =>
    z = 0 ∧ (¬ tkd n T i = 46 ∧ ¬ tkd n T i = 16174) ∧ G = G'
    ∨ z = 1 ∧ (tkd n T i = 46 ∨ tkd n T i = 16174) ∧ (¬ tkd n T (i + 1) = 97 ∧ PE G0 st G' 2 (tpl n T (i + 1)) ∨ tkd n T (i + 1) = 97 ∧ NmP n T G0 st (i + 2) out fr wt F ta ts (tvl f n T (i + 1)) (if tkd n T i = 16174 then 1 else 0) G')) := by
  have h41 := hE.2.2.1
  have hT := p.hts hE
  have est := p.zst hE
  obtain ⟨t1, t2, t3, t4⟩ := p.tok hE
  have t5 := p.zl hE
  obtain ⟨⟨e1, e2, e3, e4, e5⟩, ⟨e6, e7, e8, e9⟩, b1, b2, b3, b4⟩ := p.bd
  try simp only [List.length_cons, List.length_append, List.length_nil, ptc_len, List.length_dropLast] at e2 e4 e5 b1 b2 b3 b4
  refine w_load rfl rfl rfl ?_
  refine w_const (16174) rfl rfl ?_
  refine w_callI2 rfl (Nat.le_of_ble_eq_true rfl) (Or.inr (Or.inr hT.o)) (Nat.le_of_ble_eq_true rfl) (tw_isSign hE p (by decide)) (fun z4 G4 h4 => ?_)
  obtain ⟨rfl, rfl⟩ := h4
  refine w_st1 rfl rfl rfl ?_
  refine w_load rfl rfl rfl ?_
  refine w_if_ne rfl (fun hc9 => ?_) (fun hc9 => ?_)
  · try simp (disch := omega) only [zF_wF, zF_wA, zF_wJ, zF_wD, zA_wF, zA_wA, zA_wJ, zA_wD, zL_wJ, zL_wF, zL_wA, zL_wD, J_wr, wr_zF, wr_zA, wrJ_zL, wr_id, wrJ_id, ne_eq, reduceCtorEq, not_false_eq_true, not_true_eq_false, if_true, if_false, Nat.reduceEqDiff, eq_self, wif0, if0, Decidable.not_not, t1, wr_tkc, tkc3] at hc9
    have hsx : tkd n T i = 46 ∨ tkd n T i = 16174 := by omega
    have hlt := p.lt hE (by omega)
    refine w_load rfl rfl rfl ?_
    refine w_dup rfl rfl ?_
    refine w_getI0k rfl hT.o (e1) ?_
    refine w_const (1) rfl rfl ?_
    refine w_iadd rfl ?_
    refine w_putI0 rfl hT.o ?_
    refine w_pr (p.nxt hlt h41 rfl) (fun G p => ?_)
    have hT := p.hts hE
    have est := p.zst hE
    obtain ⟨t1, t2, t3, t4⟩ := p.tok hE
    have t5 := p.zl hE
    obtain ⟨⟨e1, e2, e3, e4, e5⟩, ⟨e6, e7, e8, e9⟩, b1, b2, b3, b4⟩ := p.bd
    try simp only [List.length_cons, List.length_append, List.length_nil, ptc_len, List.length_dropLast] at e2 e4 e5 b1 b2 b3 b4
    refine w_load rfl rfl rfl ?_
    refine w_getP rfl hT.o (hT.p rfl) ?_
    refine w_load rfl rfl rfl ?_
    refine w_getI0k rfl hT.o (e1) ?_
    refine w_iald rfl (hT.t rfl) (hT.n rfl) (by omega) (by decide) ?_
    refine w_const (3) rfl rfl ?_
    refine w_icmp_eq rfl (fun hc43 => ?_) (fun hc43 => ?_)
    · try simp (disch := omega) only [zF_wF, zF_wA, zF_wJ, zF_wD, zA_wF, zA_wA, zA_wJ, zA_wD, zL_wJ, zL_wF, zL_wA, zL_wD, J_wr, wr_zF, wr_zA, wrJ_zL, wr_id, wrJ_id, ne_eq, reduceCtorEq, not_false_eq_true, not_true_eq_false, if_true, if_false, Nat.reduceEqDiff, eq_self, wif0, if0, Decidable.not_not, t1, wr_tkc, tkc3] at hc43
      have hlt2 := p.lt hE (by omega)
      have hn := hE.2.2.2.2.2.2.2.1 (i + 1) hc43
      refine w_load rfl rfl rfl ?_
      refine w_getP rfl hT.o (hT.p rfl) ?_
      refine w_load rfl rfl rfl ?_
      refine w_getI0k rfl hT.o (e1) ?_
      refine w_lald rfl (hT.t rfl) (hT.n rfl) (by omega) (by decide) ?_
      refine w_l2i rfl ?_
      rw [t5, show N (wrJ (tvl f n T (i + 1))) = N (tvl f n T (i + 1)) from by rw [wrJ_id (by omega) (by omega)]]
      refine w_st2 rfl rfl rfl ?_
      refine w_load rfl rfl rfl ?_
      refine w_dup rfl rfl ?_
      refine w_getI0k rfl hT.o (e1) ?_
      refine w_const (1) rfl rfl ?_
      refine w_iadd rfl ?_
      refine w_putI0 rfl hT.o ?_
      refine w_pr (p.nxt hlt2 h41 rfl) (fun G p => ?_)
      have hT := p.hts hE
      have est := p.zst hE
      obtain ⟨t1, t2, t3, t4⟩ := p.tok hE
      have t5 := p.zl hE
      obtain ⟨⟨e1, e2, e3, e4, e5⟩, ⟨e6, e7, e8, e9⟩, b1, b2, b3, b4⟩ := p.bd
      try simp only [List.length_cons, List.length_append, List.length_nil, ptc_len, List.length_dropLast] at e2 e4 e5 b1 b2 b3 b4
      refine w_load rfl rfl rfl ?_
      refine w_load rfl rfl rfl ?_
      refine w_load rfl rfl rfl ?_
      refine w_callV3 rfl (Nat.le_of_ble_eq_true rfl) (Or.inr (Or.inr hT.o)) (Nat.le_of_ble_eq_true rfl) (tw_named hE p (by split <;> omega) hn ho) (fun G76 h76 => ?_)
      skip
      refine w_const (1) rfl rfl ?_
      refine w_ireturn rfl rfl ?_
      exact RI.mk (Or.inr ⟨rfl, hsx, Or.inr ⟨hc43, h76⟩⟩)
    · try simp (disch := omega) only [zF_wF, zF_wA, zF_wJ, zF_wD, zA_wF, zA_wA, zA_wJ, zA_wD, zL_wJ, zL_wF, zL_wA, zL_wD, J_wr, wr_zF, wr_zA, wrJ_zL, wr_id, wrJ_id, ne_eq, reduceCtorEq, not_false_eq_true, not_true_eq_false, if_true, if_false, Nat.reduceEqDiff, eq_self, wif0, if0, Decidable.not_not, t1, wr_tkc, tkc3] at hc43
      refine w_load rfl rfl rfl ?_
      refine w_callV1 rfl (Nat.le_of_ble_eq_true rfl) (Or.inr (Or.inr hT.o)) (Nat.le_of_ble_eq_true rfl) (tw_misfit hE p) (fun G47 h47 => ?_)
      skip
      refine w_const (1) rfl rfl ?_
      refine w_ireturn rfl rfl ?_
      exact RI.mk (Or.inr ⟨rfl, hsx, Or.inl ⟨hc43, h47⟩⟩)
  · try simp (disch := omega) only [zF_wF, zF_wA, zF_wJ, zF_wD, zA_wF, zA_wA, zA_wJ, zA_wD, zL_wJ, zL_wF, zL_wA, zL_wD, J_wr, wr_zF, wr_zA, wrJ_zL, wr_id, wrJ_id, ne_eq, reduceCtorEq, not_false_eq_true, not_true_eq_false, if_true, if_false, Nat.reduceEqDiff, eq_self, wif0, if0, Decidable.not_not, t1, wr_tkc, tkc3] at hc9
    refine w_load rfl rfl rfl ?_
    refine w_const (46) rfl rfl ?_
    refine w_callI2 rfl (Nat.le_of_ble_eq_true rfl) (Or.inr (Or.inr hT.o)) (Nat.le_of_ble_eq_true rfl) (tw_isSign hE p (by decide)) (fun z15 G15 h15 => ?_)
    obtain ⟨rfl, rfl⟩ := h15
    refine w_if_ne rfl (fun hc18 => ?_) (fun hc18 => ?_)
    · try simp (disch := omega) only [zF_wF, zF_wA, zF_wJ, zF_wD, zA_wF, zA_wA, zA_wJ, zA_wD, zL_wJ, zL_wF, zL_wA, zL_wD, J_wr, wr_zF, wr_zA, wrJ_zL, wr_id, wrJ_id, ne_eq, reduceCtorEq, not_false_eq_true, not_true_eq_false, if_true, if_false, Nat.reduceEqDiff, eq_self, wif0, if0, Decidable.not_not, t1, wr_tkc, tkc3] at hc18
      have hsx : tkd n T i = 46 ∨ tkd n T i = 16174 := by omega
      have hlt := p.lt hE (by omega)
      refine w_load rfl rfl rfl ?_
      refine w_dup rfl rfl ?_
      refine w_getI0k rfl hT.o (e1) ?_
      refine w_const (1) rfl rfl ?_
      refine w_iadd rfl ?_
      refine w_putI0 rfl hT.o ?_
      refine w_pr (p.nxt hlt h41 rfl) (fun G p => ?_)
      have hT := p.hts hE
      have est := p.zst hE
      obtain ⟨t1, t2, t3, t4⟩ := p.tok hE
      have t5 := p.zl hE
      obtain ⟨⟨e1, e2, e3, e4, e5⟩, ⟨e6, e7, e8, e9⟩, b1, b2, b3, b4⟩ := p.bd
      try simp only [List.length_cons, List.length_append, List.length_nil, ptc_len, List.length_dropLast] at e2 e4 e5 b1 b2 b3 b4
      refine w_load rfl rfl rfl ?_
      refine w_getP rfl hT.o (hT.p rfl) ?_
      refine w_load rfl rfl rfl ?_
      refine w_getI0k rfl hT.o (e1) ?_
      refine w_iald rfl (hT.t rfl) (hT.n rfl) (by omega) (by decide) ?_
      refine w_const (3) rfl rfl ?_
      refine w_icmp_eq rfl (fun hc43 => ?_) (fun hc43 => ?_)
      · try simp (disch := omega) only [zF_wF, zF_wA, zF_wJ, zF_wD, zA_wF, zA_wA, zA_wJ, zA_wD, zL_wJ, zL_wF, zL_wA, zL_wD, J_wr, wr_zF, wr_zA, wrJ_zL, wr_id, wrJ_id, ne_eq, reduceCtorEq, not_false_eq_true, not_true_eq_false, if_true, if_false, Nat.reduceEqDiff, eq_self, wif0, if0, Decidable.not_not, t1, wr_tkc, tkc3] at hc43
        have hlt2 := p.lt hE (by omega)
        have hn := hE.2.2.2.2.2.2.2.1 (i + 1) hc43
        refine w_load rfl rfl rfl ?_
        refine w_getP rfl hT.o (hT.p rfl) ?_
        refine w_load rfl rfl rfl ?_
        refine w_getI0k rfl hT.o (e1) ?_
        refine w_lald rfl (hT.t rfl) (hT.n rfl) (by omega) (by decide) ?_
        refine w_l2i rfl ?_
        rw [t5, show N (wrJ (tvl f n T (i + 1))) = N (tvl f n T (i + 1)) from by rw [wrJ_id (by omega) (by omega)]]
        refine w_st2 rfl rfl rfl ?_
        refine w_load rfl rfl rfl ?_
        refine w_dup rfl rfl ?_
        refine w_getI0k rfl hT.o (e1) ?_
        refine w_const (1) rfl rfl ?_
        refine w_iadd rfl ?_
        refine w_putI0 rfl hT.o ?_
        refine w_pr (p.nxt hlt2 h41 rfl) (fun G p => ?_)
        have hT := p.hts hE
        have est := p.zst hE
        obtain ⟨t1, t2, t3, t4⟩ := p.tok hE
        have t5 := p.zl hE
        obtain ⟨⟨e1, e2, e3, e4, e5⟩, ⟨e6, e7, e8, e9⟩, b1, b2, b3, b4⟩ := p.bd
        try simp only [List.length_cons, List.length_append, List.length_nil, ptc_len, List.length_dropLast] at e2 e4 e5 b1 b2 b3 b4
        refine w_load rfl rfl rfl ?_
        refine w_load rfl rfl rfl ?_
        refine w_load rfl rfl rfl ?_
        refine w_callV3 rfl (Nat.le_of_ble_eq_true rfl) (Or.inr (Or.inr hT.o)) (Nat.le_of_ble_eq_true rfl) (tw_named hE p (by split <;> omega) hn ho) (fun G76 h76 => ?_)
        skip
        refine w_const (1) rfl rfl ?_
        refine w_ireturn rfl rfl ?_
        exact RI.mk (Or.inr ⟨rfl, hsx, Or.inr ⟨hc43, h76⟩⟩)
      · try simp (disch := omega) only [zF_wF, zF_wA, zF_wJ, zF_wD, zA_wF, zA_wA, zA_wJ, zA_wD, zL_wJ, zL_wF, zL_wA, zL_wD, J_wr, wr_zF, wr_zA, wrJ_zL, wr_id, wrJ_id, ne_eq, reduceCtorEq, not_false_eq_true, not_true_eq_false, if_true, if_false, Nat.reduceEqDiff, eq_self, wif0, if0, Decidable.not_not, t1, wr_tkc, tkc3] at hc43
        refine w_load rfl rfl rfl ?_
        refine w_callV1 rfl (Nat.le_of_ble_eq_true rfl) (Or.inr (Or.inr hT.o)) (Nat.le_of_ble_eq_true rfl) (tw_misfit hE p) (fun G47 h47 => ?_)
        skip
        refine w_const (1) rfl rfl ?_
        refine w_ireturn rfl rfl ?_
        exact RI.mk (Or.inr ⟨rfl, hsx, Or.inl ⟨hc43, h47⟩⟩)
    · try simp (disch := omega) only [zF_wF, zF_wA, zF_wJ, zF_wD, zA_wF, zA_wA, zA_wJ, zA_wD, zL_wJ, zL_wF, zL_wA, zL_wD, J_wr, wr_zF, wr_zA, wrJ_zL, wr_id, wrJ_id, ne_eq, reduceCtorEq, not_false_eq_true, not_true_eq_false, if_true, if_false, Nat.reduceEqDiff, eq_self, wif0, if0, Decidable.not_not, t1, wr_tkc, tkc3] at hc18
      refine w_const (0) rfl rfl ?_
      refine w_ireturn rfl rfl ?_
      exact RI.mk (Or.inl ⟨rfl, ⟨hc18, hc9⟩, rfl⟩)
end tw10

