/-! THE TWIN's READING: choices opened, operations -/
set_option maxRecDepth 100000
/-- a choice that begins -/
def Frsh (F : Fm) (how : Int) (b : Nat) : Prop := F 107 = how ∧ F 108 = b ∧ F 109 = 0 ∧ F 113 = 0 ∧ F 114 = 1 ∧ F 115 = 0
def freshF (F : Fm) (b : Int) : Fm := up (up (up (up (up F 108 b) 109 0) 113 0) 114 1) 115 0
theorem freshF_ok {F : Fm} {b : Nat} : Frsh (freshF F b) (F 107) b := ⟨rfl, rfl, rfl, rfl, rfl, rfl⟩
section tw7
variable {f : Int → Int} {n : Int} {T : List (Int × Int × Int)} {G0 : mG} {st : Nat} {G : mG} {i : Nat} {out : List Sp} {op : Bool} {fr wt : List Fm} {F : Fm} {ta ts : Int} {d : Nat} {Q : mR → Prop}
theorem tw_ready {a : Int} (hE : PEnv f n T G0 st) (p : PR T G0 st G i out op (F :: fr) wt ta ts) (ha : a = 0 ∨ a = 1) : Wp (d, 168, 0, [some (.ref 98), some (.int (N a))], [], G) (RV fun G' => PR T G0 st G' i out false (up F 115 a :: fr) wt ta ts) := by
  have hT := p.hts hE
  have est := p.zst hE
  obtain ⟨t1, t2, t3, t4⟩ := p.tok hE
  have t5 := p.zl hE
  obtain ⟨⟨e1, e2, e3, e4, e5⟩, ⟨e6, e7, e8, e9⟩, b1, b2, b3, b4⟩ := p.bd
  try simp only [List.length_cons, List.length_append, List.length_nil, ptc_len, List.length_dropLast] at e2 e4 e5 b1 b2 b3 b4
  refine w_load rfl rfl rfl ?_
  refine w_getP rfl hT.o (hT.p rfl) ?_
  refine w_load rfl rfl rfl ?_
  refine w_getI0k rfl hT.o (e4) ?_
  refine w_const (1) rfl rfl ?_
  refine w_isub rfl ?_
  refine w_load rfl rfl rfl ?_
  refine w_zast rfl (hT.t rfl) (hT.n rfl) (by omega) (by decide) ha ?_
  refine w_pr (p.fset (by decide) (by omega) (by omega)) (fun G p => ?_)
  have hT := p.hts hE
  have est := p.zst hE
  obtain ⟨t1, t2, t3, t4⟩ := p.tok hE
  have t5 := p.zl hE
  obtain ⟨⟨e1, e2, e3, e4, e5⟩, ⟨e6, e7, e8, e9⟩, b1, b2, b3, b4⟩ := p.bd
  try simp only [List.length_cons, List.length_append, List.length_nil, ptc_len, List.length_dropLast] at e2 e4 e5 b1 b2 b3 b4
  refine w_load rfl rfl rfl ?_
  refine w_const (0) rfl rfl ?_
  refine w_putI4 rfl hT.o (by first | exact Or.inl rfl | exact Or.inr rfl | omega) ?_
  refine w_pr (p.op17 (o := false) rfl) (fun G p => ?_)
  have hT := p.hts hE
  have est := p.zst hE
  obtain ⟨t1, t2, t3, t4⟩ := p.tok hE
  have t5 := p.zl hE
  obtain ⟨⟨e1, e2, e3, e4, e5⟩, ⟨e6, e7, e8, e9⟩, b1, b2, b3, b4⟩ := p.bd
  try simp only [List.length_cons, List.length_append, List.length_nil, ptc_len, List.length_dropLast] at e2 e4 e5 b1 b2 b3 b4
  refine w_return rfl ?_
  exact RV.mk p
theorem tw_fresh (hE : PEnv f n T G0 st) (p : PR T G0 st G i out op (F :: fr) wt ta ts) : Wp (d, 165, 0, [some (.ref 98), none], [], G) (RV fun G' => PR T G0 st G' i out true (freshF F wt.length :: fr) wt ta ts) := by
  have hT := p.hts hE
  have est := p.zst hE
  obtain ⟨t1, t2, t3, t4⟩ := p.tok hE
  have t5 := p.zl hE
  obtain ⟨⟨e1, e2, e3, e4, e5⟩, ⟨e6, e7, e8, e9⟩, b1, b2, b3, b4⟩ := p.bd
  try simp only [List.length_cons, List.length_append, List.length_nil, ptc_len, List.length_dropLast] at e2 e4 e5 b1 b2 b3 b4
  refine w_load rfl rfl rfl ?_
  refine w_getI0k rfl hT.o (e4) ?_
  refine w_const (1) rfl rfl ?_
  refine w_isub rfl ?_
  refine w_st1 rfl rfl rfl ?_
  refine w_load rfl rfl rfl ?_
  refine w_getP rfl hT.o (hT.p rfl) ?_
  refine w_load rfl rfl rfl ?_
  refine w_load rfl rfl rfl ?_
  refine w_getI0k rfl hT.o (e5) ?_
  refine w_iast rfl (hT.t rfl) (hT.n rfl) (by omega) (by decide) ?_
  refine w_pr (p.fset (by decide) (by omega) (by omega)) (fun G p => ?_)
  have hT := p.hts hE
  have est := p.zst hE
  obtain ⟨t1, t2, t3, t4⟩ := p.tok hE
  have t5 := p.zl hE
  obtain ⟨⟨e1, e2, e3, e4, e5⟩, ⟨e6, e7, e8, e9⟩, b1, b2, b3, b4⟩ := p.bd
  try simp only [List.length_cons, List.length_append, List.length_nil, ptc_len, List.length_dropLast] at e2 e4 e5 b1 b2 b3 b4
  refine w_load rfl rfl rfl ?_
  refine w_getP rfl hT.o (hT.p rfl) ?_
  refine w_load rfl rfl rfl ?_
  refine w_const (0) rfl rfl ?_
  refine w_iast rfl (hT.t rfl) (hT.n rfl) (by omega) (by decide) ?_
  refine w_pr (p.fset (by decide) (by omega) (by omega)) (fun G p => ?_)
  have hT := p.hts hE
  have est := p.zst hE
  obtain ⟨t1, t2, t3, t4⟩ := p.tok hE
  have t5 := p.zl hE
  obtain ⟨⟨e1, e2, e3, e4, e5⟩, ⟨e6, e7, e8, e9⟩, b1, b2, b3, b4⟩ := p.bd
  try simp only [List.length_cons, List.length_append, List.length_nil, ptc_len, List.length_dropLast] at e2 e4 e5 b1 b2 b3 b4
  refine w_load rfl rfl rfl ?_
  refine w_getP rfl hT.o (hT.p rfl) ?_
  refine w_load rfl rfl rfl ?_
  refine w_const (0) rfl rfl ?_
  refine w_zast rfl (hT.t rfl) (hT.n rfl) (by omega) (by decide) (by first | exact Or.inl rfl | exact Or.inr rfl | omega) ?_
  refine w_pr (p.fset (by decide) (by omega) (by omega)) (fun G p => ?_)
  have hT := p.hts hE
  have est := p.zst hE
  obtain ⟨t1, t2, t3, t4⟩ := p.tok hE
  have t5 := p.zl hE
  obtain ⟨⟨e1, e2, e3, e4, e5⟩, ⟨e6, e7, e8, e9⟩, b1, b2, b3, b4⟩ := p.bd
  try simp only [List.length_cons, List.length_append, List.length_nil, ptc_len, List.length_dropLast] at e2 e4 e5 b1 b2 b3 b4
  refine w_load rfl rfl rfl ?_
  refine w_getP rfl hT.o (hT.p rfl) ?_
  refine w_load rfl rfl rfl ?_
  refine w_const (1) rfl rfl ?_
  refine w_zast rfl (hT.t rfl) (hT.n rfl) (by omega) (by decide) (by first | exact Or.inl rfl | exact Or.inr rfl | omega) ?_
  refine w_pr (p.fset (by decide) (by omega) (by omega)) (fun G p => ?_)
  have hT := p.hts hE
  have est := p.zst hE
  obtain ⟨t1, t2, t3, t4⟩ := p.tok hE
  have t5 := p.zl hE
  obtain ⟨⟨e1, e2, e3, e4, e5⟩, ⟨e6, e7, e8, e9⟩, b1, b2, b3, b4⟩ := p.bd
  try simp only [List.length_cons, List.length_append, List.length_nil, ptc_len, List.length_dropLast] at e2 e4 e5 b1 b2 b3 b4
  refine w_load rfl rfl rfl ?_
  refine w_getP rfl hT.o (hT.p rfl) ?_
  refine w_load rfl rfl rfl ?_
  refine w_const (0) rfl rfl ?_
  refine w_zast rfl (hT.t rfl) (hT.n rfl) (by omega) (by decide) (by first | exact Or.inl rfl | exact Or.inr rfl | omega) ?_
  refine w_pr (p.fset (by decide) (by omega) (by omega)) (fun G p => ?_)
  have hT := p.hts hE
  have est := p.zst hE
  obtain ⟨t1, t2, t3, t4⟩ := p.tok hE
  have t5 := p.zl hE
  obtain ⟨⟨e1, e2, e3, e4, e5⟩, ⟨e6, e7, e8, e9⟩, b1, b2, b3, b4⟩ := p.bd
  try simp only [List.length_cons, List.length_append, List.length_nil, ptc_len, List.length_dropLast] at e2 e4 e5 b1 b2 b3 b4
  refine w_load rfl rfl rfl ?_
  refine w_const (1) rfl rfl ?_
  refine w_putI4 rfl hT.o (by first | exact Or.inl rfl | exact Or.inr rfl | omega) ?_
  refine w_pr (p.op17 (o := true) rfl) (fun G p => ?_)
  have hT := p.hts hE
  have est := p.zst hE
  obtain ⟨t1, t2, t3, t4⟩ := p.tok hE
  have t5 := p.zl hE
  obtain ⟨⟨e1, e2, e3, e4, e5⟩, ⟨e6, e7, e8, e9⟩, b1, b2, b3, b4⟩ := p.bd
  try simp only [List.length_cons, List.length_append, List.length_nil, ptc_len, List.length_dropLast] at e2 e4 e5 b1 b2 b3 b4
  refine w_return rfl ?_
  exact RV.mk p
theorem tw_open {how : Int} (hE : PEnv f n T G0 st) (p : PR T G0 st G i out op fr wt ta ts) (hh : 0 ≤ how ∧ how ≤ 5) : Wp (d + 1, 164, 0, [some (.ref 98), some (.int (N how))], [], G) (RV fun G' => fr.length = 5 ∧ (PE G0 st G' 3 (tpl n T i) ∧ zF G' 98 19 = 5) ∨ fr.length < 5 ∧ ∃ F, Frsh F how wt.length ∧ PR T G0 st G' i out true (F :: fr) wt ta ts) := by
  have hT := p.hts hE
  have est := p.zst hE
  obtain ⟨t1, t2, t3, t4⟩ := p.tok hE
  have t5 := p.zl hE
  obtain ⟨⟨e1, e2, e3, e4, e5⟩, ⟨e6, e7, e8, e9⟩, b1, b2, b3, b4⟩ := p.bd
  try simp only [List.length_cons, List.length_append, List.length_nil, ptc_len, List.length_dropLast] at e2 e4 e5 b1 b2 b3 b4
  have hr := hE.2.2.2.2.2.2.1 i
  have hl := hE.2.2.1
  refine w_load rfl rfl rfl ?_
  refine w_getI0k rfl hT.o (e4) ?_
  refine w_const (5) rfl rfl ?_
  refine w_icmp_ne rfl (fun hc5 => ?_) (fun hc5 => ?_)
  · try simp (disch := omega) only [zF_wF, zF_wA, zF_wJ, zF_wD, zA_wF, zA_wA, zA_wJ, zA_wD, zL_wJ, zL_wF, zL_wA, zL_wD, J_wr, wr_zF, wr_zA, wrJ_zL, wr_id, wrJ_id, ne_eq, reduceCtorEq, not_false_eq_true, not_true_eq_false, if_true, if_false, Nat.reduceEqDiff, eq_self, wif0, if0, Decidable.not_not] at hc5
    refine w_load rfl rfl rfl ?_
    refine w_getP rfl hT.o (hT.p rfl) ?_
    refine w_load rfl rfl rfl ?_
    refine w_getI0k rfl hT.o (e4) ?_
    refine w_load rfl rfl rfl ?_
    refine w_iast rfl (hT.t rfl) (hT.n rfl) (by omega) (by decide) ?_
    refine w_load rfl rfl rfl ?_
    refine w_dup rfl rfl ?_
    refine w_getI0k rfl hT.o ((zF_wA _ _ _ _ _ _ (by decide)).trans e4) ?_
    refine w_const (1) rfl rfl ?_
    refine w_iadd rfl ?_
    refine w_putI0 rfl hT.o ?_
    refine w_pr ((p.fabove (x := 107) (v := how) (by decide) rfl).fexp (by omega) rfl) (fun G p => ?_)
    have hT := p.hts hE
    have est := p.zst hE
    obtain ⟨t1, t2, t3, t4⟩ := p.tok hE
    have t5 := p.zl hE
    obtain ⟨⟨e1, e2, e3, e4, e5⟩, ⟨e6, e7, e8, e9⟩, b1, b2, b3, b4⟩ := p.bd
    try simp only [List.length_cons, List.length_append, List.length_nil, ptc_len, List.length_dropLast] at e2 e4 e5 b1 b2 b3 b4
    refine w_load rfl rfl rfl ?_
    refine w_callV1 rfl (Nat.le_of_ble_eq_true rfl) (Or.inr (Or.inr hT.o)) (Nat.le_of_ble_eq_true rfl) (tw_fresh hE p) (fun G44 h44 => ?_)
    skip
    refine w_return rfl ?_
    exact RV.mk (Or.inr ⟨by omega, _, ⟨(by show zA (wA _ 107 _ how) 107 _ = how; rw [zA_wA, if_pos rfl, if_pos rfl, wr_id (by omega) (by omega)]), rfl, rfl, rfl, rfl, rfl⟩, h44⟩)
  · try simp (disch := omega) only [zF_wF, zF_wA, zF_wJ, zF_wD, zA_wF, zA_wA, zA_wJ, zA_wD, zL_wJ, zL_wF, zL_wA, zL_wD, J_wr, wr_zF, wr_zA, wrJ_zL, wr_id, wrJ_id, ne_eq, reduceCtorEq, not_false_eq_true, not_true_eq_false, if_true, if_false, Nat.reduceEqDiff, eq_self, wif0, if0, Decidable.not_not] at hc5
    refine w_load rfl rfl rfl ?_
    refine w_const (3) rfl rfl ?_
    refine w_load rfl rfl rfl ?_
    refine w_getP rfl hT.o (hT.p rfl) ?_
    refine w_load rfl rfl rfl ?_
    refine w_getI0k rfl hT.o (e1) ?_
    refine w_iald rfl (hT.t rfl) (hT.n rfl) (by omega) (by decide) ?_
    refine w_callV3 rfl (Nat.le_of_ble_eq_true rfl) (Or.inr (Or.inr hT.o)) (Nat.le_of_ble_eq_true rfl) (tw_wrong hT) (fun G19 h19 => ?_)
    obtain rfl := h19
    refine w_return rfl ?_
    exact RV.mk (Or.inl ⟨by omega, by rw [t2]; exact p.wrong (by decide) (by omega), by unfold wrongG; rw [if_pos e8, zF_putn (by decide), zF_putn (by decide)]; omega⟩)
theorem tw_levelNext (hE : PEnv f n T G0 st) (p : PR T G0 st G i out op fr wt ta ts) : Wp (d, 180, 0, [some (.ref 98), none], [], G) (RI fun z G' => z = lvlK (tkd n T i) ∧ G = G') := by
  have hT := p.hts hE
  have est := p.zst hE
  obtain ⟨t1, t2, t3, t4⟩ := p.tok hE
  have t5 := p.zl hE
  obtain ⟨⟨e1, e2, e3, e4, e5⟩, ⟨e6, e7, e8, e9⟩, b1, b2, b3, b4⟩ := p.bd
  try simp only [List.length_cons, List.length_append, List.length_nil, ptc_len, List.length_dropLast] at e2 e4 e5 b1 b2 b3 b4
  have hr := hE.2.2.2.2.2.2.1 i
  have hl := hE.2.2.1
  refine w_load rfl rfl rfl ?_
  refine w_getP rfl hT.o (hT.p rfl) ?_
  refine w_load rfl rfl rfl ?_
  refine w_getI0k rfl hT.o (e1) ?_
  refine w_iald rfl (hT.t rfl) (hT.n rfl) (by omega) (by decide) ?_
  refine w_const (5) rfl rfl ?_
  refine w_icmp_eq rfl (fun hc10 => ?_) (fun hc10 => ?_)
  · try simp (disch := omega) only [zF_wF, zF_wA, zF_wJ, zF_wD, zA_wF, zA_wA, zA_wJ, zA_wD, zL_wJ, zL_wF, zL_wA, zL_wD, J_wr, wr_zF, wr_zA, wrJ_zL, wr_id, wrJ_id, ne_eq, reduceCtorEq, not_false_eq_true, not_true_eq_false, if_true, if_false, Nat.reduceEqDiff, eq_self, wif0, if0, Decidable.not_not, t1, t5, wr_tkc, wrJJ] at hc10
    refine w_load rfl rfl rfl ?_
    refine w_getP rfl hT.o (hT.p rfl) ?_
    refine w_load rfl rfl rfl ?_
    refine w_getI0k rfl hT.o (e1) ?_
    refine w_lald rfl (hT.t rfl) (hT.n rfl) (by omega) (by decide) ?_
    refine w_l2i rfl ?_
    rw [t5, show N (wrJ (tvl f n T i)) = N (tkd n T i) from by rw [tvl5 hc10, wrJ_id (by omega) (by omega)]]
    have hq := tkc5.mp hc10
    refine w_st1 rfl rfl rfl ?_
    refine w_load rfl rfl rfl ?_
    refine w_const (43) rfl rfl ?_
    refine w_icmp_eq rfl (fun hc29 => ?_) (fun hc29 => ?_)
    · try simp (disch := omega) only [zF_wF, zF_wA, zF_wJ, zF_wD, zA_wF, zA_wA, zA_wJ, zA_wD, zL_wJ, zL_wF, zL_wA, zL_wD, J_wr, wr_zF, wr_zA, wrJ_zL, wr_id, wrJ_id, ne_eq, reduceCtorEq, not_false_eq_true, not_true_eq_false, if_true, if_false, Nat.reduceEqDiff, eq_self, wif0, if0, Decidable.not_not, t1, t5, wr_tkc, wrJJ] at hc29
      refine w_const (4) rfl rfl ?_
      refine w_ireturn rfl rfl ?_
      refine RI.mk ⟨?_, rfl⟩
      unfold lvlK
      repeat' (first | rw [if_pos (by omega)] | rw [if_neg (by omega)])
    · try simp (disch := omega) only [zF_wF, zF_wA, zF_wJ, zF_wD, zA_wF, zA_wA, zA_wJ, zA_wD, zL_wJ, zL_wF, zL_wA, zL_wD, J_wr, wr_zF, wr_zA, wrJ_zL, wr_id, wrJ_id, ne_eq, reduceCtorEq, not_false_eq_true, not_true_eq_false, if_true, if_false, Nat.reduceEqDiff, eq_self, wif0, if0, Decidable.not_not, t1, t5, wr_tkc, wrJJ] at hc29
      refine w_load rfl rfl rfl ?_
      refine w_const (45) rfl rfl ?_
      refine w_icmp_ne rfl (fun hc35 => ?_) (fun hc35 => ?_)
      · try simp (disch := omega) only [zF_wF, zF_wA, zF_wJ, zF_wD, zA_wF, zA_wA, zA_wJ, zA_wD, zL_wJ, zL_wF, zL_wA, zL_wD, J_wr, wr_zF, wr_zA, wrJ_zL, wr_id, wrJ_id, ne_eq, reduceCtorEq, not_false_eq_true, not_true_eq_false, if_true, if_false, Nat.reduceEqDiff, eq_self, wif0, if0, Decidable.not_not, t1, t5, wr_tkc, wrJJ] at hc35
        refine w_load rfl rfl rfl ?_
        refine w_const (42) rfl rfl ?_
        refine w_icmp_eq rfl (fun hc43 => ?_) (fun hc43 => ?_)
        · try simp (disch := omega) only [zF_wF, zF_wA, zF_wJ, zF_wD, zA_wF, zA_wA, zA_wJ, zA_wD, zL_wJ, zL_wF, zL_wA, zL_wD, J_wr, wr_zF, wr_zA, wrJ_zL, wr_id, wrJ_id, ne_eq, reduceCtorEq, not_false_eq_true, not_true_eq_false, if_true, if_false, Nat.reduceEqDiff, eq_self, wif0, if0, Decidable.not_not, t1, t5, wr_tkc, wrJJ] at hc43
          refine w_const (5) rfl rfl ?_
          refine w_ireturn rfl rfl ?_
          refine RI.mk ⟨?_, rfl⟩
          unfold lvlK
          repeat' (first | rw [if_pos (by omega)] | rw [if_neg (by omega)])
        · try simp (disch := omega) only [zF_wF, zF_wA, zF_wJ, zF_wD, zA_wF, zA_wA, zA_wJ, zA_wD, zL_wJ, zL_wF, zL_wA, zL_wD, J_wr, wr_zF, wr_zA, wrJ_zL, wr_id, wrJ_id, ne_eq, reduceCtorEq, not_false_eq_true, not_true_eq_false, if_true, if_false, Nat.reduceEqDiff, eq_self, wif0, if0, Decidable.not_not, t1, t5, wr_tkc, wrJJ] at hc43
          refine w_load rfl rfl rfl ?_
          refine w_const (47) rfl rfl ?_
          refine w_icmp_eq rfl (fun hc49 => ?_) (fun hc49 => ?_)
          · try simp (disch := omega) only [zF_wF, zF_wA, zF_wJ, zF_wD, zA_wF, zA_wA, zA_wJ, zA_wD, zL_wJ, zL_wF, zL_wA, zL_wD, J_wr, wr_zF, wr_zA, wrJ_zL, wr_id, wrJ_id, ne_eq, reduceCtorEq, not_false_eq_true, not_true_eq_false, if_true, if_false, Nat.reduceEqDiff, eq_self, wif0, if0, Decidable.not_not, t1, t5, wr_tkc, wrJJ] at hc49
            refine w_const (5) rfl rfl ?_
            refine w_ireturn rfl rfl ?_
            refine RI.mk ⟨?_, rfl⟩
            unfold lvlK
            repeat' (first | rw [if_pos (by omega)] | rw [if_neg (by omega)])
          · try simp (disch := omega) only [zF_wF, zF_wA, zF_wJ, zF_wD, zA_wF, zA_wA, zA_wJ, zA_wD, zL_wJ, zL_wF, zL_wA, zL_wD, J_wr, wr_zF, wr_zA, wrJ_zL, wr_id, wrJ_id, ne_eq, reduceCtorEq, not_false_eq_true, not_true_eq_false, if_true, if_false, Nat.reduceEqDiff, eq_self, wif0, if0, Decidable.not_not, t1, t5, wr_tkc, wrJJ] at hc49
            refine w_load rfl rfl rfl ?_
            refine w_const (37) rfl rfl ?_
            refine w_icmp_ne rfl (fun hc55 => ?_) (fun hc55 => ?_)
            · try simp (disch := omega) only [zF_wF, zF_wA, zF_wJ, zF_wD, zA_wF, zA_wA, zA_wJ, zA_wD, zL_wJ, zL_wF, zL_wA, zL_wD, J_wr, wr_zF, wr_zA, wrJ_zL, wr_id, wrJ_id, ne_eq, reduceCtorEq, not_false_eq_true, not_true_eq_false, if_true, if_false, Nat.reduceEqDiff, eq_self, wif0, if0, Decidable.not_not, t1, t5, wr_tkc, wrJJ] at hc55
              refine w_load rfl rfl rfl ?_
              refine w_const (60) rfl rfl ?_
              refine w_icmp_eq rfl (fun hc63 => ?_) (fun hc63 => ?_)
              · try simp (disch := omega) only [zF_wF, zF_wA, zF_wJ, zF_wD, zA_wF, zA_wA, zA_wJ, zA_wD, zL_wJ, zL_wF, zL_wA, zL_wD, J_wr, wr_zF, wr_zA, wrJ_zL, wr_id, wrJ_id, ne_eq, reduceCtorEq, not_false_eq_true, not_true_eq_false, if_true, if_false, Nat.reduceEqDiff, eq_self, wif0, if0, Decidable.not_not, t1, t5, wr_tkc, wrJJ] at hc63
                refine w_const (3) rfl rfl ?_
                refine w_ireturn rfl rfl ?_
                refine RI.mk ⟨?_, rfl⟩
                unfold lvlK
                repeat' (first | rw [if_pos (by omega)] | rw [if_neg (by omega)])
              · try simp (disch := omega) only [zF_wF, zF_wA, zF_wJ, zF_wD, zA_wF, zA_wA, zA_wJ, zA_wD, zL_wJ, zL_wF, zL_wA, zL_wD, J_wr, wr_zF, wr_zA, wrJ_zL, wr_id, wrJ_id, ne_eq, reduceCtorEq, not_false_eq_true, not_true_eq_false, if_true, if_false, Nat.reduceEqDiff, eq_self, wif0, if0, Decidable.not_not, t1, t5, wr_tkc, wrJJ] at hc63
                refine w_load rfl rfl rfl ?_
                refine w_const (62) rfl rfl ?_
                refine w_icmp_eq rfl (fun hc69 => ?_) (fun hc69 => ?_)
                · try simp (disch := omega) only [zF_wF, zF_wA, zF_wJ, zF_wD, zA_wF, zA_wA, zA_wJ, zA_wD, zL_wJ, zL_wF, zL_wA, zL_wD, J_wr, wr_zF, wr_zA, wrJ_zL, wr_id, wrJ_id, ne_eq, reduceCtorEq, not_false_eq_true, not_true_eq_false, if_true, if_false, Nat.reduceEqDiff, eq_self, wif0, if0, Decidable.not_not, t1, t5, wr_tkc, wrJJ] at hc69
                  refine w_const (3) rfl rfl ?_
                  refine w_ireturn rfl rfl ?_
                  refine RI.mk ⟨?_, rfl⟩
                  unfold lvlK
                  repeat' (first | rw [if_pos (by omega)] | rw [if_neg (by omega)])
                · try simp (disch := omega) only [zF_wF, zF_wA, zF_wJ, zF_wD, zA_wF, zA_wA, zA_wJ, zA_wD, zL_wJ, zL_wF, zL_wA, zL_wD, J_wr, wr_zF, wr_zA, wrJ_zL, wr_id, wrJ_id, ne_eq, reduceCtorEq, not_false_eq_true, not_true_eq_false, if_true, if_false, Nat.reduceEqDiff, eq_self, wif0, if0, Decidable.not_not, t1, t5, wr_tkc, wrJJ] at hc69
                  refine w_load rfl rfl rfl ?_
                  refine w_const (15421) rfl rfl ?_
                  refine w_icmp_eq rfl (fun hc76 => ?_) (fun hc76 => ?_)
                  · try simp (disch := omega) only [zF_wF, zF_wA, zF_wJ, zF_wD, zA_wF, zA_wA, zA_wJ, zA_wD, zL_wJ, zL_wF, zL_wA, zL_wD, J_wr, wr_zF, wr_zA, wrJ_zL, wr_id, wrJ_id, ne_eq, reduceCtorEq, not_false_eq_true, not_true_eq_false, if_true, if_false, Nat.reduceEqDiff, eq_self, wif0, if0, Decidable.not_not, t1, t5, wr_tkc, wrJJ] at hc76
                    refine w_const (3) rfl rfl ?_
                    refine w_ireturn rfl rfl ?_
                    refine RI.mk ⟨?_, rfl⟩
                    unfold lvlK
                    repeat' (first | rw [if_pos (by omega)] | rw [if_neg (by omega)])
                  · try simp (disch := omega) only [zF_wF, zF_wA, zF_wJ, zF_wD, zA_wF, zA_wA, zA_wJ, zA_wD, zL_wJ, zL_wF, zL_wA, zL_wD, J_wr, wr_zF, wr_zA, wrJ_zL, wr_id, wrJ_id, ne_eq, reduceCtorEq, not_false_eq_true, not_true_eq_false, if_true, if_false, Nat.reduceEqDiff, eq_self, wif0, if0, Decidable.not_not, t1, t5, wr_tkc, wrJJ] at hc76
                    refine w_load rfl rfl rfl ?_
                    refine w_const (15933) rfl rfl ?_
                    refine w_icmp_eq rfl (fun hc83 => ?_) (fun hc83 => ?_)
                    · try simp (disch := omega) only [zF_wF, zF_wA, zF_wJ, zF_wD, zA_wF, zA_wA, zA_wJ, zA_wD, zL_wJ, zL_wF, zL_wA, zL_wD, J_wr, wr_zF, wr_zA, wrJ_zL, wr_id, wrJ_id, ne_eq, reduceCtorEq, not_false_eq_true, not_true_eq_false, if_true, if_false, Nat.reduceEqDiff, eq_self, wif0, if0, Decidable.not_not, t1, t5, wr_tkc, wrJJ] at hc83
                      refine w_const (3) rfl rfl ?_
                      refine w_ireturn rfl rfl ?_
                      refine RI.mk ⟨?_, rfl⟩
                      unfold lvlK
                      repeat' (first | rw [if_pos (by omega)] | rw [if_neg (by omega)])
                    · try simp (disch := omega) only [zF_wF, zF_wA, zF_wJ, zF_wD, zA_wF, zA_wA, zA_wJ, zA_wD, zL_wJ, zL_wF, zL_wA, zL_wD, J_wr, wr_zF, wr_zA, wrJ_zL, wr_id, wrJ_id, ne_eq, reduceCtorEq, not_false_eq_true, not_true_eq_false, if_true, if_false, Nat.reduceEqDiff, eq_self, wif0, if0, Decidable.not_not, t1, t5, wr_tkc, wrJJ] at hc83
                      refine w_load rfl rfl rfl ?_
                      refine w_const (15677) rfl rfl ?_
                      refine w_icmp_eq rfl (fun hc90 => ?_) (fun hc90 => ?_)
                      · try simp (disch := omega) only [zF_wF, zF_wA, zF_wJ, zF_wD, zA_wF, zA_wA, zA_wJ, zA_wD, zL_wJ, zL_wF, zL_wA, zL_wD, J_wr, wr_zF, wr_zA, wrJ_zL, wr_id, wrJ_id, ne_eq, reduceCtorEq, not_false_eq_true, not_true_eq_false, if_true, if_false, Nat.reduceEqDiff, eq_self, wif0, if0, Decidable.not_not, t1, t5, wr_tkc, wrJJ] at hc90
                        refine w_const (3) rfl rfl ?_
                        refine w_ireturn rfl rfl ?_
                        refine RI.mk ⟨?_, rfl⟩
                        unfold lvlK
                        repeat' (first | rw [if_pos (by omega)] | rw [if_neg (by omega)])
                      · try simp (disch := omega) only [zF_wF, zF_wA, zF_wJ, zF_wD, zA_wF, zA_wA, zA_wJ, zA_wD, zL_wJ, zL_wF, zL_wA, zL_wD, J_wr, wr_zF, wr_zA, wrJ_zL, wr_id, wrJ_id, ne_eq, reduceCtorEq, not_false_eq_true, not_true_eq_false, if_true, if_false, Nat.reduceEqDiff, eq_self, wif0, if0, Decidable.not_not, t1, t5, wr_tkc, wrJJ] at hc90
                        refine w_load rfl rfl rfl ?_
                        refine w_const (8509) rfl rfl ?_
                        refine w_icmp_ne rfl (fun hc97 => ?_) (fun hc97 => ?_)
                        · try simp (disch := omega) only [zF_wF, zF_wA, zF_wJ, zF_wD, zA_wF, zA_wA, zA_wJ, zA_wD, zL_wJ, zL_wF, zL_wA, zL_wD, J_wr, wr_zF, wr_zA, wrJ_zL, wr_id, wrJ_id, ne_eq, reduceCtorEq, not_false_eq_true, not_true_eq_false, if_true, if_false, Nat.reduceEqDiff, eq_self, wif0, if0, Decidable.not_not, t1, t5, wr_tkc, wrJJ] at hc97
                          refine w_load rfl rfl rfl ?_
                          refine w_const (9766) rfl rfl ?_
                          refine w_icmp_ne rfl (fun hc106 => ?_) (fun hc106 => ?_)
                          · try simp (disch := omega) only [zF_wF, zF_wA, zF_wJ, zF_wD, zA_wF, zA_wA, zA_wJ, zA_wD, zL_wJ, zL_wF, zL_wA, zL_wD, J_wr, wr_zF, wr_zA, wrJ_zL, wr_id, wrJ_id, ne_eq, reduceCtorEq, not_false_eq_true, not_true_eq_false, if_true, if_false, Nat.reduceEqDiff, eq_self, wif0, if0, Decidable.not_not, t1, t5, wr_tkc, wrJJ] at hc106
                            refine w_load rfl rfl rfl ?_
                            refine w_const (31868) rfl rfl ?_
                            refine w_icmp_ne rfl (fun hc117 => ?_) (fun hc117 => ?_)
                            · try simp (disch := omega) only [zF_wF, zF_wA, zF_wJ, zF_wD, zA_wF, zA_wA, zA_wJ, zA_wD, zL_wJ, zL_wF, zL_wA, zL_wD, J_wr, wr_zF, wr_zA, wrJ_zL, wr_id, wrJ_id, ne_eq, reduceCtorEq, not_false_eq_true, not_true_eq_false, if_true, if_false, Nat.reduceEqDiff, eq_self, wif0, if0, Decidable.not_not, t1, t5, wr_tkc, wrJJ] at hc117
                              refine w_const (0) rfl rfl ?_
                              refine w_ireturn rfl rfl ?_
                              refine RI.mk ⟨?_, rfl⟩
                              unfold lvlK
                              repeat' (first | rw [if_pos (by omega)] | rw [if_neg (by omega)])
                            · try simp (disch := omega) only [zF_wF, zF_wA, zF_wJ, zF_wD, zA_wF, zA_wA, zA_wJ, zA_wD, zL_wJ, zL_wF, zL_wA, zL_wD, J_wr, wr_zF, wr_zA, wrJ_zL, wr_id, wrJ_id, ne_eq, reduceCtorEq, not_false_eq_true, not_true_eq_false, if_true, if_false, Nat.reduceEqDiff, eq_self, wif0, if0, Decidable.not_not, t1, t5, wr_tkc, wrJJ] at hc117
                              refine w_const (1) rfl rfl ?_
                              refine w_goto rfl ?_
                              refine w_ireturn rfl rfl ?_
                              refine RI.mk ⟨?_, rfl⟩
                              unfold lvlK
                              repeat' (first | rw [if_pos (by omega)] | rw [if_neg (by omega)])
                          · try simp (disch := omega) only [zF_wF, zF_wA, zF_wJ, zF_wD, zA_wF, zA_wA, zA_wJ, zA_wD, zL_wJ, zL_wF, zL_wA, zL_wD, J_wr, wr_zF, wr_zA, wrJ_zL, wr_id, wrJ_id, ne_eq, reduceCtorEq, not_false_eq_true, not_true_eq_false, if_true, if_false, Nat.reduceEqDiff, eq_self, wif0, if0, Decidable.not_not, t1, t5, wr_tkc, wrJJ] at hc106
                            refine w_const (2) rfl rfl ?_
                            refine w_goto rfl ?_
                            refine w_ireturn rfl rfl ?_
                            refine RI.mk ⟨?_, rfl⟩
                            unfold lvlK
                            repeat' (first | rw [if_pos (by omega)] | rw [if_neg (by omega)])
                        · try simp (disch := omega) only [zF_wF, zF_wA, zF_wJ, zF_wD, zA_wF, zA_wA, zA_wJ, zA_wD, zL_wJ, zL_wF, zL_wA, zL_wD, J_wr, wr_zF, wr_zA, wrJ_zL, wr_id, wrJ_id, ne_eq, reduceCtorEq, not_false_eq_true, not_true_eq_false, if_true, if_false, Nat.reduceEqDiff, eq_self, wif0, if0, Decidable.not_not, t1, t5, wr_tkc, wrJJ] at hc97
                          refine w_const (3) rfl rfl ?_
                          refine w_ireturn rfl rfl ?_
                          refine RI.mk ⟨?_, rfl⟩
                          unfold lvlK
                          repeat' (first | rw [if_pos (by omega)] | rw [if_neg (by omega)])
            · try simp (disch := omega) only [zF_wF, zF_wA, zF_wJ, zF_wD, zA_wF, zA_wA, zA_wJ, zA_wD, zL_wJ, zL_wF, zL_wA, zL_wD, J_wr, wr_zF, wr_zA, wrJ_zL, wr_id, wrJ_id, ne_eq, reduceCtorEq, not_false_eq_true, not_true_eq_false, if_true, if_false, Nat.reduceEqDiff, eq_self, wif0, if0, Decidable.not_not, t1, t5, wr_tkc, wrJJ] at hc55
              refine w_const (5) rfl rfl ?_
              refine w_ireturn rfl rfl ?_
              refine RI.mk ⟨?_, rfl⟩
              unfold lvlK
              repeat' (first | rw [if_pos (by omega)] | rw [if_neg (by omega)])
      · try simp (disch := omega) only [zF_wF, zF_wA, zF_wJ, zF_wD, zA_wF, zA_wA, zA_wJ, zA_wD, zL_wJ, zL_wF, zL_wA, zL_wD, J_wr, wr_zF, wr_zA, wrJ_zL, wr_id, wrJ_id, ne_eq, reduceCtorEq, not_false_eq_true, not_true_eq_false, if_true, if_false, Nat.reduceEqDiff, eq_self, wif0, if0, Decidable.not_not, t1, t5, wr_tkc, wrJJ] at hc35
        refine w_const (4) rfl rfl ?_
        refine w_ireturn rfl rfl ?_
        refine RI.mk ⟨?_, rfl⟩
        unfold lvlK
        repeat' (first | rw [if_pos (by omega)] | rw [if_neg (by omega)])
  · try simp (disch := omega) only [zF_wF, zF_wA, zF_wJ, zF_wD, zA_wF, zA_wA, zA_wJ, zA_wD, zL_wJ, zL_wF, zL_wA, zL_wD, J_wr, wr_zF, wr_zA, wrJ_zL, wr_id, wrJ_id, ne_eq, reduceCtorEq, not_false_eq_true, not_true_eq_false, if_true, if_false, Nat.reduceEqDiff, eq_self, wif0, if0, Decidable.not_not, t1, t5, wr_tkc, wrJJ] at hc10
    refine w_const (0) rfl rfl ?_
    refine w_ireturn rfl rfl ?_
    refine RI.mk ⟨?_, rfl⟩
    have hq : tkd n T i = 48 ∨ tkd n T i = 11776 ∨ tkd n T i = 97 ∨ tkd n T i = 39 ∨ tkd n T i = 36 := by have := (not_congr tkc5).mp hc10; omega
    unfold lvlK
    rw [if_neg (by omega), if_neg (by omega), if_neg (by omega), if_neg (by omega), if_neg (by omega)]
theorem tw_stepOf {c : Int} (hc : 0 ≤ c ∧ c ≤ 40000) : Wp (d, 183, 0, [some (.int (N c))], [], G) (RI fun z G' => z = opS c ∧ G = G') := by
  refine w_load rfl rfl rfl ?_
  refine w_const (43) rfl rfl ?_
  refine w_icmp_ne rfl (fun hc3 => ?_) (fun hc3 => ?_)
  · try simp (disch := omega) only [zF_wF, zF_wA, zF_wJ, zF_wD, zA_wF, zA_wA, zA_wJ, zA_wD, zL_wJ, zL_wF, zL_wA, zL_wD, J_wr, wr_zF, wr_zA, wrJ_zL, wr_id, wrJ_id, ne_eq, reduceCtorEq, not_false_eq_true, not_true_eq_false, if_true, if_false, Nat.reduceEqDiff, eq_self] at hc3
    refine w_load rfl rfl rfl ?_
    refine w_const (45) rfl rfl ?_
    refine w_icmp_ne rfl (fun hc14 => ?_) (fun hc14 => ?_)
    · try simp (disch := omega) only [zF_wF, zF_wA, zF_wJ, zF_wD, zA_wF, zA_wA, zA_wJ, zA_wD, zL_wJ, zL_wF, zL_wA, zL_wD, J_wr, wr_zF, wr_zA, wrJ_zL, wr_id, wrJ_id, ne_eq, reduceCtorEq, not_false_eq_true, not_true_eq_false, if_true, if_false, Nat.reduceEqDiff, eq_self] at hc14
      refine w_load rfl rfl rfl ?_
      refine w_const (42) rfl rfl ?_
      refine w_icmp_ne rfl (fun hc25 => ?_) (fun hc25 => ?_)
      · try simp (disch := omega) only [zF_wF, zF_wA, zF_wJ, zF_wD, zA_wF, zA_wA, zA_wJ, zA_wD, zL_wJ, zL_wF, zL_wA, zL_wD, J_wr, wr_zF, wr_zA, wrJ_zL, wr_id, wrJ_id, ne_eq, reduceCtorEq, not_false_eq_true, not_true_eq_false, if_true, if_false, Nat.reduceEqDiff, eq_self] at hc25
        refine w_load rfl rfl rfl ?_
        refine w_const (47) rfl rfl ?_
        refine w_icmp_ne rfl (fun hc36 => ?_) (fun hc36 => ?_)
        · try simp (disch := omega) only [zF_wF, zF_wA, zF_wJ, zF_wD, zA_wF, zA_wA, zA_wJ, zA_wD, zL_wJ, zL_wF, zL_wA, zL_wD, J_wr, wr_zF, wr_zA, wrJ_zL, wr_id, wrJ_id, ne_eq, reduceCtorEq, not_false_eq_true, not_true_eq_false, if_true, if_false, Nat.reduceEqDiff, eq_self] at hc36
          refine w_load rfl rfl rfl ?_
          refine w_const (37) rfl rfl ?_
          refine w_icmp_ne rfl (fun hc47 => ?_) (fun hc47 => ?_)
          · try simp (disch := omega) only [zF_wF, zF_wA, zF_wJ, zF_wD, zA_wF, zA_wA, zA_wJ, zA_wD, zL_wJ, zL_wF, zL_wA, zL_wD, J_wr, wr_zF, wr_zA, wrJ_zL, wr_id, wrJ_id, ne_eq, reduceCtorEq, not_false_eq_true, not_true_eq_false, if_true, if_false, Nat.reduceEqDiff, eq_self] at hc47
            refine w_load rfl rfl rfl ?_
            refine w_const (60) rfl rfl ?_
            refine w_icmp_ne rfl (fun hc58 => ?_) (fun hc58 => ?_)
            · try simp (disch := omega) only [zF_wF, zF_wA, zF_wJ, zF_wD, zA_wF, zA_wA, zA_wJ, zA_wD, zL_wJ, zL_wF, zL_wA, zL_wD, J_wr, wr_zF, wr_zA, wrJ_zL, wr_id, wrJ_id, ne_eq, reduceCtorEq, not_false_eq_true, not_true_eq_false, if_true, if_false, Nat.reduceEqDiff, eq_self] at hc58
              refine w_load rfl rfl rfl ?_
              refine w_const (62) rfl rfl ?_
              refine w_icmp_ne rfl (fun hc69 => ?_) (fun hc69 => ?_)
              · try simp (disch := omega) only [zF_wF, zF_wA, zF_wJ, zF_wD, zA_wF, zA_wA, zA_wJ, zA_wD, zL_wJ, zL_wF, zL_wA, zL_wD, J_wr, wr_zF, wr_zA, wrJ_zL, wr_id, wrJ_id, ne_eq, reduceCtorEq, not_false_eq_true, not_true_eq_false, if_true, if_false, Nat.reduceEqDiff, eq_self] at hc69
                refine w_load rfl rfl rfl ?_
                refine w_const (15421) rfl rfl ?_
                refine w_icmp_ne rfl (fun hc81 => ?_) (fun hc81 => ?_)
                · try simp (disch := omega) only [zF_wF, zF_wA, zF_wJ, zF_wD, zA_wF, zA_wA, zA_wJ, zA_wD, zL_wJ, zL_wF, zL_wA, zL_wD, J_wr, wr_zF, wr_zA, wrJ_zL, wr_id, wrJ_id, ne_eq, reduceCtorEq, not_false_eq_true, not_true_eq_false, if_true, if_false, Nat.reduceEqDiff, eq_self] at hc81
                  refine w_load rfl rfl rfl ?_
                  refine w_const (15933) rfl rfl ?_
                  refine w_icmp_ne rfl (fun hc93 => ?_) (fun hc93 => ?_)
                  · try simp (disch := omega) only [zF_wF, zF_wA, zF_wJ, zF_wD, zA_wF, zA_wA, zA_wJ, zA_wD, zL_wJ, zL_wF, zL_wA, zL_wD, J_wr, wr_zF, wr_zA, wrJ_zL, wr_id, wrJ_id, ne_eq, reduceCtorEq, not_false_eq_true, not_true_eq_false, if_true, if_false, Nat.reduceEqDiff, eq_self] at hc93
                    refine w_load rfl rfl rfl ?_
                    refine w_const (15677) rfl rfl ?_
                    refine w_icmp_ne rfl (fun hc105 => ?_) (fun hc105 => ?_)
                    · try simp (disch := omega) only [zF_wF, zF_wA, zF_wJ, zF_wD, zA_wF, zA_wA, zA_wJ, zA_wD, zL_wJ, zL_wF, zL_wA, zL_wD, J_wr, wr_zF, wr_zA, wrJ_zL, wr_id, wrJ_id, ne_eq, reduceCtorEq, not_false_eq_true, not_true_eq_false, if_true, if_false, Nat.reduceEqDiff, eq_self] at hc105
                      refine w_const (26) rfl rfl ?_
                      refine w_ireturn rfl rfl ?_
                      refine RI.mk ⟨?_, rfl⟩
                      unfold opS
                      repeat' (first | rw [if_pos (by omega)] | rw [if_neg (by omega)])
                    · try simp (disch := omega) only [zF_wF, zF_wA, zF_wJ, zF_wD, zA_wF, zA_wA, zA_wJ, zA_wD, zL_wJ, zL_wF, zL_wA, zL_wD, J_wr, wr_zF, wr_zA, wrJ_zL, wr_id, wrJ_id, ne_eq, reduceCtorEq, not_false_eq_true, not_true_eq_false, if_true, if_false, Nat.reduceEqDiff, eq_self] at hc105
                      refine w_const (25) rfl rfl ?_
                      refine w_goto rfl ?_
                      refine w_ireturn rfl rfl ?_
                      refine RI.mk ⟨?_, rfl⟩
                      unfold opS
                      repeat' (first | rw [if_pos (by omega)] | rw [if_neg (by omega)])
                  · try simp (disch := omega) only [zF_wF, zF_wA, zF_wJ, zF_wD, zA_wF, zA_wA, zA_wJ, zA_wD, zL_wJ, zL_wF, zL_wA, zL_wD, J_wr, wr_zF, wr_zA, wrJ_zL, wr_id, wrJ_id, ne_eq, reduceCtorEq, not_false_eq_true, not_true_eq_false, if_true, if_false, Nat.reduceEqDiff, eq_self] at hc93
                    refine w_const (24) rfl rfl ?_
                    refine w_goto rfl ?_
                    refine w_ireturn rfl rfl ?_
                    refine RI.mk ⟨?_, rfl⟩
                    unfold opS
                    repeat' (first | rw [if_pos (by omega)] | rw [if_neg (by omega)])
                · try simp (disch := omega) only [zF_wF, zF_wA, zF_wJ, zF_wD, zA_wF, zA_wA, zA_wJ, zA_wD, zL_wJ, zL_wF, zL_wA, zL_wD, J_wr, wr_zF, wr_zA, wrJ_zL, wr_id, wrJ_id, ne_eq, reduceCtorEq, not_false_eq_true, not_true_eq_false, if_true, if_false, Nat.reduceEqDiff, eq_self] at hc81
                  refine w_const (23) rfl rfl ?_
                  refine w_goto rfl ?_
                  refine w_ireturn rfl rfl ?_
                  refine RI.mk ⟨?_, rfl⟩
                  unfold opS
                  repeat' (first | rw [if_pos (by omega)] | rw [if_neg (by omega)])
              · try simp (disch := omega) only [zF_wF, zF_wA, zF_wJ, zF_wD, zA_wF, zA_wA, zA_wJ, zA_wD, zL_wJ, zL_wF, zL_wA, zL_wD, J_wr, wr_zF, wr_zA, wrJ_zL, wr_id, wrJ_id, ne_eq, reduceCtorEq, not_false_eq_true, not_true_eq_false, if_true, if_false, Nat.reduceEqDiff, eq_self] at hc69
                refine w_const (22) rfl rfl ?_
                refine w_goto rfl ?_
                refine w_ireturn rfl rfl ?_
                refine RI.mk ⟨?_, rfl⟩
                unfold opS
                repeat' (first | rw [if_pos (by omega)] | rw [if_neg (by omega)])
            · try simp (disch := omega) only [zF_wF, zF_wA, zF_wJ, zF_wD, zA_wF, zA_wA, zA_wJ, zA_wD, zL_wJ, zL_wF, zL_wA, zL_wD, J_wr, wr_zF, wr_zA, wrJ_zL, wr_id, wrJ_id, ne_eq, reduceCtorEq, not_false_eq_true, not_true_eq_false, if_true, if_false, Nat.reduceEqDiff, eq_self] at hc58
              refine w_const (21) rfl rfl ?_
              refine w_goto rfl ?_
              refine w_ireturn rfl rfl ?_
              refine RI.mk ⟨?_, rfl⟩
              unfold opS
              repeat' (first | rw [if_pos (by omega)] | rw [if_neg (by omega)])
          · try simp (disch := omega) only [zF_wF, zF_wA, zF_wJ, zF_wD, zA_wF, zA_wA, zA_wJ, zA_wD, zL_wJ, zL_wF, zL_wA, zL_wD, J_wr, wr_zF, wr_zA, wrJ_zL, wr_id, wrJ_id, ne_eq, reduceCtorEq, not_false_eq_true, not_true_eq_false, if_true, if_false, Nat.reduceEqDiff, eq_self] at hc47
            refine w_const (20) rfl rfl ?_
            refine w_goto rfl ?_
            refine w_ireturn rfl rfl ?_
            refine RI.mk ⟨?_, rfl⟩
            unfold opS
            repeat' (first | rw [if_pos (by omega)] | rw [if_neg (by omega)])
        · try simp (disch := omega) only [zF_wF, zF_wA, zF_wJ, zF_wD, zA_wF, zA_wA, zA_wJ, zA_wD, zL_wJ, zL_wF, zL_wA, zL_wD, J_wr, wr_zF, wr_zA, wrJ_zL, wr_id, wrJ_id, ne_eq, reduceCtorEq, not_false_eq_true, not_true_eq_false, if_true, if_false, Nat.reduceEqDiff, eq_self] at hc36
          refine w_const (19) rfl rfl ?_
          refine w_goto rfl ?_
          refine w_ireturn rfl rfl ?_
          refine RI.mk ⟨?_, rfl⟩
          unfold opS
          repeat' (first | rw [if_pos (by omega)] | rw [if_neg (by omega)])
      · try simp (disch := omega) only [zF_wF, zF_wA, zF_wJ, zF_wD, zA_wF, zA_wA, zA_wJ, zA_wD, zL_wJ, zL_wF, zL_wA, zL_wD, J_wr, wr_zF, wr_zA, wrJ_zL, wr_id, wrJ_id, ne_eq, reduceCtorEq, not_false_eq_true, not_true_eq_false, if_true, if_false, Nat.reduceEqDiff, eq_self] at hc25
        refine w_const (18) rfl rfl ?_
        refine w_goto rfl ?_
        refine w_ireturn rfl rfl ?_
        refine RI.mk ⟨?_, rfl⟩
        unfold opS
        repeat' (first | rw [if_pos (by omega)] | rw [if_neg (by omega)])
    · try simp (disch := omega) only [zF_wF, zF_wA, zF_wJ, zF_wD, zA_wF, zA_wA, zA_wJ, zA_wD, zL_wJ, zL_wF, zL_wA, zL_wD, J_wr, wr_zF, wr_zA, wrJ_zL, wr_id, wrJ_id, ne_eq, reduceCtorEq, not_false_eq_true, not_true_eq_false, if_true, if_false, Nat.reduceEqDiff, eq_self] at hc14
      refine w_const (17) rfl rfl ?_
      refine w_goto rfl ?_
      refine w_ireturn rfl rfl ?_
      refine RI.mk ⟨?_, rfl⟩
      unfold opS
      repeat' (first | rw [if_pos (by omega)] | rw [if_neg (by omega)])
  · try simp (disch := omega) only [zF_wF, zF_wA, zF_wJ, zF_wD, zA_wF, zA_wA, zA_wJ, zA_wD, zL_wJ, zL_wF, zL_wA, zL_wD, J_wr, wr_zF, wr_zA, wrJ_zL, wr_id, wrJ_id, ne_eq, reduceCtorEq, not_false_eq_true, not_true_eq_false, if_true, if_false, Nat.reduceEqDiff, eq_self] at hc3
    refine w_const (16) rfl rfl ?_
    refine w_goto rfl ?_
    refine w_ireturn rfl rfl ?_
    refine RI.mk ⟨?_, rfl⟩
    unfold opS
    repeat' (first | rw [if_pos (by omega)] | rw [if_neg (by omega)])
end tw7

