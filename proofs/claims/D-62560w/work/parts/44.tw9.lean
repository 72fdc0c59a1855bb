/-! THE TWIN's READING: an operation more, calls and names -/
set_option maxRecDepth 100000
section tw9
variable (f : Int → Int) (n : Int) (T : List (Int × Int × Int)) (G0 : mG) (st : Nat) (i : Nat) (out : List Sp) (fr wt : List Fm) (F : Fm) (ta ts : Int)
/-- what a call leaves; the bracket is token i -/
def ClP (name soft : Int) (G' : mG) : Prop :=
  tkd n T (i + 1) = 41 ∧ PR T G0 st G' (i + 2) (out ++ [(if soft = 0 then 13 else 14, (st : Int) + out.length + 2), (15, 4 * name)]) false (up F 115 0 :: fr) wt ta ts
  ∨ ¬ tkd n T (i + 1) = 41 ∧ fr.length = 4 ∧ PE G0 st G' 3 (tpl n T (i + 1))
  ∨ ¬ tkd n T (i + 1) = 41 ∧ fr.length < 4 ∧ ∃ F', Frsh F' 3 wt.length ∧ F' 110 = (st : Int) + out.length ∧ F' 111 = name ∧ F' 112 = 1 ∧ PR T G0 st G' (i + 1) (out ++ [(if soft = 0 then 13 else 14, 0)]) true (F' :: F :: fr) wt ta ts
def NmP (name soft : Int) (G' : mG) : Prop :=
  ¬ tkd n T i = 40 ∧ PR T G0 st G' i (out ++ [(if soft = 0 then 11 else 12, name)]) false (up F 115 1 :: fr) wt ta ts
  ∨ tkd n T i = 40 ∧ ClP n T G0 st i out fr wt F ta ts name soft G'
variable {f n T G0 st i out fr wt F ta ts} {G : mG} {op : Bool} {d : Nat} {Q : mR → Prop}
theorem PR.lt (hE : PEnv f n T G0 st) (p : PR T G0 st G i out op fr wt ta ts) (h : ¬ tkd n T i = 36) : i + 1 < T.length := by
  have h1 := p.bd.2.2.1
  by_cases h2 : i + 1 = T.length
  · exact absurd (hE.2.2.2.1 i h2) h
  · omega
theorem lvlK_pos {k : Int} (h : lvlK k > 0) : tkc k = 5 ∧ lvlK k ≤ 5 := by
  unfold lvlK at h ⊢
  rw [tkc5]
  repeat' (first | split at h)
  all_goals (refine ⟨by omega, ?_⟩)
  all_goals (repeat' split)
  all_goals omega
theorem opS_rng (c : Int) : 16 ≤ opS c ∧ opS c ≤ 26 := by
  unfold opS
  repeat' (first | split | decide)
theorem tw_binary {l : Int} (hE : PEnv f n T G0 st) (p : PR T G0 st G i out op (F :: fr) wt ta ts) (hl : l = lvlK (tkd n T i)) (hl0 : l > 0) (ho : out.length < 90) (hw : wt.length < 48) : Wp (d + 1, 182, 0, [some (.ref 98), some (.int (N l)), none], [], G)
    (RV fun G' => ∃ W : Fm, W 117 = l ∧ W 116 = (if l > 2 then opS (tkd n T i) else 0) ∧ (l ≤ 2 → W 118 = (st : Int) + out.length) ∧ PR T G0 st G' (i + 1) (if l > 2 then out else out ++ [(if l = 2 then 32 else 33, 0)]) true (up F 114 0 :: fr) (W :: wt) ta ts) := by
  obtain ⟨h5, hl5⟩ := lvlK_pos (k := tkd n T i) (by omega)
  have hr := hE.2.2.2.2.2.2.1 i
  have h41 := hE.2.2.1
  have h35 := hE.2.2.2.2.2.1
  have hlt := p.lt hE (tkc5.mp h5).2.2.2.2
  have hop := opS_rng (tkd n T i)
  have hT := p.hts hE
  have est := p.zst hE
  obtain ⟨t1, t2, t3, t4⟩ := p.tok hE
  have t5 := p.zl hE
  obtain ⟨⟨e1, e2, e3, e4, e5⟩, ⟨e6, e7, e8, e9⟩, b1, b2, b3, b4⟩ := p.bd
  try simp only [List.length_cons, List.length_append, List.length_nil, ptc_len, List.length_dropLast] at e2 e4 e5 b1 b2 b3 b4
  by_cases h2 : l > 2
  · refine w_load rfl rfl rfl ?_
    refine w_getP rfl hT.o (hT.p rfl) ?_
    refine w_load rfl rfl rfl ?_
    refine w_getI0k rfl hT.o (e1) ?_
    refine w_lald rfl (hT.t rfl) (hT.n rfl) (by omega) (by decide) ?_
    refine w_l2i rfl ?_
    rw [t5, show N (wrJ (tvl f n T i)) = N (tkd n T i) from by rw [tvl5 h5, wrJ_id (by omega) (by omega)]]
    refine w_st2 rfl rfl rfl ?_
    refine w_load rfl rfl rfl ?_
    refine w_dup rfl rfl ?_
    refine w_getI0k rfl hT.o (e1) ?_
    refine w_const (1) rfl rfl ?_
    refine w_iadd rfl ?_
    refine w_putI0 rfl hT.o ?_
    refine w_pr (p.nxt hlt h41 rfl) (fun G p => ?_)
    have hT := p.hts hE
    have est := p.zst hE
    obtain ⟨t1, t2, t3, t4⟩ := p.tok hE
    have t5 := p.zl hE
    obtain ⟨⟨e1, e2, e3, e4, e5⟩, ⟨e6, e7, e8, e9⟩, b1, b2, b3, b4⟩ := p.bd
    try simp only [List.length_cons, List.length_append, List.length_nil, ptc_len, List.length_dropLast] at e2 e4 e5 b1 b2 b3 b4
    refine w_load rfl rfl rfl ?_
    refine w_getP rfl hT.o (hT.p rfl) ?_
    refine w_load rfl rfl rfl ?_
    refine w_getI0k rfl hT.o (e4) ?_
    refine w_const (1) rfl rfl ?_
    refine w_isub rfl ?_
    refine w_const (0) rfl rfl ?_
    refine w_zast rfl (hT.t rfl) (hT.n rfl) (by omega) (by decide) (by first | exact Or.inl rfl | exact Or.inr rfl | omega) ?_
    refine w_pr (p.fset (by decide) (by omega) (by decide)) (fun G p => ?_)
    have hT := p.hts hE
    have est := p.zst hE
    obtain ⟨t1, t2, t3, t4⟩ := p.tok hE
    have t5 := p.zl hE
    obtain ⟨⟨e1, e2, e3, e4, e5⟩, ⟨e6, e7, e8, e9⟩, b1, b2, b3, b4⟩ := p.bd
    try simp only [List.length_cons, List.length_append, List.length_nil, ptc_len, List.length_dropLast] at e2 e4 e5 b1 b2 b3 b4
    refine w_load rfl rfl rfl ?_
    refine w_getP rfl hT.o (hT.p rfl) ?_
    refine w_load rfl rfl rfl ?_
    refine w_getI0k rfl hT.o (e5) ?_
    refine w_load rfl rfl rfl ?_
    refine w_iast rfl (hT.t rfl) (hT.n rfl) (by omega) (by decide) ?_
    refine w_load rfl rfl rfl ?_
    refine w_getP rfl hT.o (hT.p rfl) ?_
    refine w_load rfl rfl rfl ?_
    refine w_getI0k rfl hT.o ((zF_A (by decide)).trans e5) ?_
    refine w_load rfl rfl rfl ?_
    refine w_const (2) rfl rfl ?_
    refine w_icmp_le rfl (fun hc53 => ?_) (fun hc53 => ?_)
    · exfalso; simp (disch := omega) only [zF_wF, zF_wA, zF_wJ, zF_wD, zA_wF, zA_wA, zA_wJ, zA_wD, zL_wJ, zL_wF, zL_wA, zL_wD, J_wr, wr_zF, wr_zA, wrJ_zL, wr_id, wrJ_id, ne_eq, reduceCtorEq, not_false_eq_true, not_true_eq_false, if_true, if_false, Nat.reduceEqDiff, eq_self, wif0, if0, Decidable.not_not] at hc53 <;> omega
    · try simp (disch := omega) only [zF_wF, zF_wA, zF_wJ, zF_wD, zA_wF, zA_wA, zA_wJ, zA_wD, zL_wJ, zL_wF, zL_wA, zL_wD, J_wr, wr_zF, wr_zA, wrJ_zL, wr_id, wrJ_id, ne_eq, reduceCtorEq, not_false_eq_true, not_true_eq_false, if_true, if_false, Nat.reduceEqDiff, eq_self, wif0, if0, Decidable.not_not] at hc53
      refine w_load rfl rfl rfl ?_
      refine w_callI1 rfl (Nat.le_of_ble_eq_true rfl) ((by first | rfl | exact Or.inl rfl)) (Nat.le_of_ble_eq_true rfl) (tw_stepOf (by omega)) (fun z57 G57 h57 => ?_)
      obtain ⟨rfl, rfl⟩ := h57
      refine w_goto rfl ?_
      refine w_iast rfl (hT.t rfl) (hT.n rfl) (by omega) (by decide) ?_
      refine w_load rfl rfl rfl ?_
      refine w_getP rfl hT.o (hT.p rfl) ?_
      refine w_load rfl rfl rfl ?_
      refine w_getI0k rfl hT.o ((zF_A (by decide)).trans ((zF_A (by decide)).trans e5)) ?_
      refine w_load rfl rfl rfl ?_
      refine w_const (2) rfl rfl ?_
      refine w_icmp_le rfl (fun hc75 => ?_) (fun hc75 => ?_)
      · exfalso; simp (disch := omega) only [zF_wF, zF_wA, zF_wJ, zF_wD, zA_wF, zA_wA, zA_wJ, zA_wD, zL_wJ, zL_wF, zL_wA, zL_wD, J_wr, wr_zF, wr_zA, wrJ_zL, wr_id, wrJ_id, ne_eq, reduceCtorEq, not_false_eq_true, not_true_eq_false, if_true, if_false, Nat.reduceEqDiff, eq_self, wif0, if0, Decidable.not_not] at hc75 <;> omega
      · try simp (disch := omega) only [zF_wF, zF_wA, zF_wJ, zF_wD, zA_wF, zA_wA, zA_wJ, zA_wD, zL_wJ, zL_wF, zL_wA, zL_wD, J_wr, wr_zF, wr_zA, wrJ_zL, wr_id, wrJ_id, ne_eq, reduceCtorEq, not_false_eq_true, not_true_eq_false, if_true, if_false, Nat.reduceEqDiff, eq_self, wif0, if0, Decidable.not_not] at hc75
        refine w_const (0) rfl rfl ?_
        refine w_goto rfl ?_
        refine w_iast rfl (hT.t rfl) (hT.n rfl) (by omega) (by decide) ?_
        have p3 := ((p.wabove (x := 117) (v := l) (by decide) rfl).wabove (x := 116) (v := opS (tkd n T i)) (by decide) rfl)
        refine w_load rfl rfl rfl ?_
        refine w_dup rfl rfl ?_
        refine w_getI0k rfl hT.o ((zF_A (by decide)).trans p3.bd.1.2.2.2.2) ?_
        refine w_const (1) rfl rfl ?_
        refine w_iadd rfl ?_
        refine w_putI0 rfl hT.o ?_
        refine w_pr ((p3.wabove (x := 118) (by decide) rfl).wexp (by omega) rfl) (fun G p => ?_)
        have hT := p.hts hE
        have est := p.zst hE
        obtain ⟨t1, t2, t3, t4⟩ := p.tok hE
        have t5 := p.zl hE
        obtain ⟨⟨e1, e2, e3, e4, e5⟩, ⟨e6, e7, e8, e9⟩, b1, b2, b3, b4⟩ := p.bd
        try simp only [List.length_cons, List.length_append, List.length_nil, ptc_len, List.length_dropLast] at e2 e4 e5 b1 b2 b3 b4
        refine w_load rfl rfl rfl ?_
        refine w_const (1) rfl rfl ?_
        refine w_putI4 rfl hT.o (by first | exact Or.inl rfl | exact Or.inr rfl | omega) ?_
        refine w_pr (p.op17 (o := true) rfl) (fun G p => ?_)
        have hT := p.hts hE
        have est := p.zst hE
        obtain ⟨t1, t2, t3, t4⟩ := p.tok hE
        have t5 := p.zl hE
        obtain ⟨⟨e1, e2, e3, e4, e5⟩, ⟨e6, e7, e8, e9⟩, b1, b2, b3, b4⟩ := p.bd
        try simp only [List.length_cons, List.length_append, List.length_nil, ptc_len, List.length_dropLast] at e2 e4 e5 b1 b2 b3 b4
        refine w_return rfl ?_
        refine RV.mk ⟨_, ?_, ?_, fun _ => by omega, by rw [if_pos h2]; exact p⟩
        · simp (disch := omega) only [zA_wA, if_true, if_false, Nat.reduceEqDiff, wr_id]
        · simp (disch := omega) only [zA_wA, if_true, if_false, Nat.reduceEqDiff, wr_id]
          rw [if_pos h2]
  · refine w_load rfl rfl rfl ?_
    refine w_getP rfl hT.o (hT.p rfl) ?_
    refine w_load rfl rfl rfl ?_
    refine w_getI0k rfl hT.o (e1) ?_
    refine w_lald rfl (hT.t rfl) (hT.n rfl) (by omega) (by decide) ?_
    refine w_l2i rfl ?_
    rw [t5, show N (wrJ (tvl f n T i)) = N (tkd n T i) from by rw [tvl5 h5, wrJ_id (by omega) (by omega)]]
    refine w_st2 rfl rfl rfl ?_
    refine w_load rfl rfl rfl ?_
    refine w_dup rfl rfl ?_
    refine w_getI0k rfl hT.o (e1) ?_
    refine w_const (1) rfl rfl ?_
    refine w_iadd rfl ?_
    refine w_putI0 rfl hT.o ?_
    refine w_pr (p.nxt hlt h41 rfl) (fun G p => ?_)
    have hT := p.hts hE
    have est := p.zst hE
    obtain ⟨t1, t2, t3, t4⟩ := p.tok hE
    have t5 := p.zl hE
    obtain ⟨⟨e1, e2, e3, e4, e5⟩, ⟨e6, e7, e8, e9⟩, b1, b2, b3, b4⟩ := p.bd
    try simp only [List.length_cons, List.length_append, List.length_nil, ptc_len, List.length_dropLast] at e2 e4 e5 b1 b2 b3 b4
    refine w_load rfl rfl rfl ?_
    refine w_getP rfl hT.o (hT.p rfl) ?_
    refine w_load rfl rfl rfl ?_
    refine w_getI0k rfl hT.o (e4) ?_
    refine w_const (1) rfl rfl ?_
    refine w_isub rfl ?_
    refine w_const (0) rfl rfl ?_
    refine w_zast rfl (hT.t rfl) (hT.n rfl) (by omega) (by decide) (by first | exact Or.inl rfl | exact Or.inr rfl | omega) ?_
    refine w_pr (p.fset (by decide) (by omega) (by decide)) (fun G p => ?_)
    have hT := p.hts hE
    have est := p.zst hE
    obtain ⟨t1, t2, t3, t4⟩ := p.tok hE
    have t5 := p.zl hE
    obtain ⟨⟨e1, e2, e3, e4, e5⟩, ⟨e6, e7, e8, e9⟩, b1, b2, b3, b4⟩ := p.bd
    try simp only [List.length_cons, List.length_append, List.length_nil, ptc_len, List.length_dropLast] at e2 e4 e5 b1 b2 b3 b4
    refine w_load rfl rfl rfl ?_
    refine w_getP rfl hT.o (hT.p rfl) ?_
    refine w_load rfl rfl rfl ?_
    refine w_getI0k rfl hT.o (e5) ?_
    refine w_load rfl rfl rfl ?_
    refine w_iast rfl (hT.t rfl) (hT.n rfl) (by omega) (by decide) ?_
    refine w_load rfl rfl rfl ?_
    refine w_getP rfl hT.o (hT.p rfl) ?_
    refine w_load rfl rfl rfl ?_
    refine w_getI0k rfl hT.o ((zF_A (by decide)).trans e5) ?_
    refine w_load rfl rfl rfl ?_
    refine w_const (2) rfl rfl ?_
    refine w_icmp_le rfl (fun hc53 => ?_) (fun hc53 => ?_)
    · try simp (disch := omega) only [zF_wF, zF_wA, zF_wJ, zF_wD, zA_wF, zA_wA, zA_wJ, zA_wD, zL_wJ, zL_wF, zL_wA, zL_wD, J_wr, wr_zF, wr_zA, wrJ_zL, wr_id, wrJ_id, ne_eq, reduceCtorEq, not_false_eq_true, not_true_eq_false, if_true, if_false, Nat.reduceEqDiff, eq_self, wif0, if0, Decidable.not_not] at hc53
      refine w_const (0) rfl rfl ?_
      refine w_iast rfl (hT.t rfl) (hT.n rfl) (by omega) (by decide) ?_
      refine w_load rfl rfl rfl ?_
      refine w_getP rfl hT.o (hT.p rfl) ?_
      refine w_load rfl rfl rfl ?_
      refine w_getI0k rfl hT.o ((zF_A (by decide)).trans ((zF_A (by decide)).trans e5)) ?_
      refine w_load rfl rfl rfl ?_
      refine w_const (2) rfl rfl ?_
      refine w_icmp_le rfl (fun hc75 => ?_) (fun hc75 => ?_)
      · try simp (disch := omega) only [zF_wF, zF_wA, zF_wJ, zF_wD, zA_wF, zA_wA, zA_wJ, zA_wD, zL_wJ, zL_wF, zL_wA, zL_wD, J_wr, wr_zF, wr_zA, wrJ_zL, wr_id, wrJ_id, ne_eq, reduceCtorEq, not_false_eq_true, not_true_eq_false, if_true, if_false, Nat.reduceEqDiff, eq_self, wif0, if0, Decidable.not_not] at hc75
        refine w_load rfl rfl rfl ?_
        refine w_load rfl rfl rfl ?_
        refine w_const (2) rfl rfl ?_
        refine w_icmp_ne rfl (fun hc85 => ?_) (fun hc85 => ?_)
        · try simp (disch := omega) only [zF_wF, zF_wA, zF_wJ, zF_wD, zA_wF, zA_wA, zA_wJ, zA_wD, zL_wJ, zL_wF, zL_wA, zL_wD, J_wr, wr_zF, wr_zA, wrJ_zL, wr_id, wrJ_id, ne_eq, reduceCtorEq, not_false_eq_true, not_true_eq_false, if_true, if_false, Nat.reduceEqDiff, eq_self, wif0, if0, Decidable.not_not] at hc85
          refine w_const (33) rfl rfl ?_
          refine w_lconst (0) rfl rfl ?_
          refine w_callI3 rfl (Nat.le_of_ble_eq_true rfl) (Or.inr (Or.inr hT.o)) (Nat.le_of_ble_eq_true rfl) (tw_emit hE ((p.wabove (x := 117) (v := l) (by decide) rfl).wabove (x := 116) (v := 0) (by decide) rfl) (by omega) (by decide) (show _ = J 0 from rfl)) (fun z96 G96 h96 => ?_)
          obtain ⟨rfl, p3, hz⟩ := h96
          have hT := p3.hts hE
          refine w_iast rfl (hT.t rfl) (hT.n rfl) (by omega) (by decide) ?_
          refine w_load rfl rfl rfl ?_
          refine w_dup rfl rfl ?_
          refine w_getI0k rfl hT.o ((zF_A (by decide)).trans p3.bd.1.2.2.2.2) ?_
          refine w_const (1) rfl rfl ?_
          refine w_iadd rfl ?_
          refine w_putI0 rfl hT.o ?_
          refine w_pr ((p3.wabove (x := 118) (by decide) rfl).wexp (by omega) rfl) (fun G p => ?_)
          have hT := p.hts hE
          have est := p.zst hE
          obtain ⟨t1, t2, t3, t4⟩ := p.tok hE
          have t5 := p.zl hE
          obtain ⟨⟨e1, e2, e3, e4, e5⟩, ⟨e6, e7, e8, e9⟩, b1, b2, b3, b4⟩ := p.bd
          try simp only [List.length_cons, List.length_append, List.length_nil, ptc_len, List.length_dropLast] at e2 e4 e5 b1 b2 b3 b4
          refine w_load rfl rfl rfl ?_
          refine w_const (1) rfl rfl ?_
          refine w_putI4 rfl hT.o (by first | exact Or.inl rfl | exact Or.inr rfl | omega) ?_
          refine w_pr (p.op17 (o := true) rfl) (fun G p => ?_)
          have hT := p.hts hE
          have est := p.zst hE
          obtain ⟨t1, t2, t3, t4⟩ := p.tok hE
          have t5 := p.zl hE
          obtain ⟨⟨e1, e2, e3, e4, e5⟩, ⟨e6, e7, e8, e9⟩, b1, b2, b3, b4⟩ := p.bd
          try simp only [List.length_cons, List.length_append, List.length_nil, ptc_len, List.length_dropLast] at e2 e4 e5 b1 b2 b3 b4
          refine w_return rfl ?_
          refine RV.mk ⟨_, ?_, ?_, ?_, by rw [if_neg h2]; first | (rw [if_pos (by omega)]; exact p) | (rw [if_neg (by omega)]; exact p)⟩
          · simp (disch := omega) only [zA_wA, if_true, if_false, Nat.reduceEqDiff, wr_id, hz]
          · simp (disch := omega) only [zA_wA, if_true, if_false, Nat.reduceEqDiff, wr_id, hz]
            rw [if_neg h2]
          · intro hl2
            simp (disch := omega) only [zA_wA, if_true, if_false, Nat.reduceEqDiff, wr_id, hz]
        · try simp (disch := omega) only [zF_wF, zF_wA, zF_wJ, zF_wD, zA_wF, zA_wA, zA_wJ, zA_wD, zL_wJ, zL_wF, zL_wA, zL_wD, J_wr, wr_zF, wr_zA, wrJ_zL, wr_id, wrJ_id, ne_eq, reduceCtorEq, not_false_eq_true, not_true_eq_false, if_true, if_false, Nat.reduceEqDiff, eq_self, wif0, if0, Decidable.not_not] at hc85
          refine w_const (32) rfl rfl ?_
          refine w_goto rfl ?_
          refine w_lconst (0) rfl rfl ?_
          refine w_callI3 rfl (Nat.le_of_ble_eq_true rfl) (Or.inr (Or.inr hT.o)) (Nat.le_of_ble_eq_true rfl) (tw_emit hE ((p.wabove (x := 117) (v := l) (by decide) rfl).wabove (x := 116) (v := 0) (by decide) rfl) (by omega) (by decide) (show _ = J 0 from rfl)) (fun z96 G96 h96 => ?_)
          obtain ⟨rfl, p3, hz⟩ := h96
          have hT := p3.hts hE
          refine w_iast rfl (hT.t rfl) (hT.n rfl) (by omega) (by decide) ?_
          refine w_load rfl rfl rfl ?_
          refine w_dup rfl rfl ?_
          refine w_getI0k rfl hT.o ((zF_A (by decide)).trans p3.bd.1.2.2.2.2) ?_
          refine w_const (1) rfl rfl ?_
          refine w_iadd rfl ?_
          refine w_putI0 rfl hT.o ?_
          refine w_pr ((p3.wabove (x := 118) (by decide) rfl).wexp (by omega) rfl) (fun G p => ?_)
          have hT := p.hts hE
          have est := p.zst hE
          obtain ⟨t1, t2, t3, t4⟩ := p.tok hE
          have t5 := p.zl hE
          obtain ⟨⟨e1, e2, e3, e4, e5⟩, ⟨e6, e7, e8, e9⟩, b1, b2, b3, b4⟩ := p.bd
          try simp only [List.length_cons, List.length_append, List.length_nil, ptc_len, List.length_dropLast] at e2 e4 e5 b1 b2 b3 b4
          refine w_load rfl rfl rfl ?_
          refine w_const (1) rfl rfl ?_
          refine w_putI4 rfl hT.o (by first | exact Or.inl rfl | exact Or.inr rfl | omega) ?_
          refine w_pr (p.op17 (o := true) rfl) (fun G p => ?_)
          have hT := p.hts hE
          have est := p.zst hE
          obtain ⟨t1, t2, t3, t4⟩ := p.tok hE
          have t5 := p.zl hE
          obtain ⟨⟨e1, e2, e3, e4, e5⟩, ⟨e6, e7, e8, e9⟩, b1, b2, b3, b4⟩ := p.bd
          try simp only [List.length_cons, List.length_append, List.length_nil, ptc_len, List.length_dropLast] at e2 e4 e5 b1 b2 b3 b4
          refine w_return rfl ?_
          refine RV.mk ⟨_, ?_, ?_, ?_, by rw [if_neg h2]; first | (rw [if_pos (by omega)]; exact p) | (rw [if_neg (by omega)]; exact p)⟩
          · simp (disch := omega) only [zA_wA, if_true, if_false, Nat.reduceEqDiff, wr_id, hz]
          · simp (disch := omega) only [zA_wA, if_true, if_false, Nat.reduceEqDiff, wr_id, hz]
            rw [if_neg h2]
          · intro hl2
            simp (disch := omega) only [zA_wA, if_true, if_false, Nat.reduceEqDiff, wr_id, hz]
      · exfalso; simp (disch := omega) only [zF_wF, zF_wA, zF_wJ, zF_wD, zA_wF, zA_wA, zA_wJ, zA_wD, zL_wJ, zL_wF, zL_wA, zL_wD, J_wr, wr_zF, wr_zA, wrJ_zL, wr_id, wrJ_id, ne_eq, reduceCtorEq, not_false_eq_true, not_true_eq_false, if_true, if_false, Nat.reduceEqDiff, eq_self, wif0, if0, Decidable.not_not] at hc75 <;> omega
    · exfalso; simp (disch := omega) only [zF_wF, zF_wA, zF_wJ, zF_wD, zA_wF, zA_wA, zA_wJ, zA_wD, zL_wJ, zL_wF, zL_wA, zL_wD, J_wr, wr_zF, wr_zA, wrJ_zL, wr_id, wrJ_id, ne_eq, reduceCtorEq, not_false_eq_true, not_true_eq_false, if_true, if_false, Nat.reduceEqDiff, eq_self, wif0, if0, Decidable.not_not] at hc53 <;> omega
theorem PE.hts {e q : Int} (hE : PEnv f n T G0 st) (h : PE G0 st G e q) : TS G := h.1.1.ts hE.1
theorem tw_call86E {L : mL} {P : mG → Prop} {e q : Int} (hE : PEnv f n T G0 st) (h : PE G0 st G e q) (he : ¬ e = 0) (hP : P G) : Wp (d, 172, 86, some (.ref 98) :: L, [], G) (RV P) := by
  have hT := h.hts hE
  have e8 := h.2.1
  have hw : wr e = e := by rw [← e8]; exact wr_zF _ _ _
  refine w_load rfl rfl rfl ?_
  refine w_getI0k rfl hT.o (e8) ?_
  refine w_if_ne rfl (fun hc90 => ?_) (fun hc90 => ?_)
  · try simp (disch := omega) only [zF_wF, zF_wA, zF_wJ, zF_wD, zA_wF, zA_wA, zA_wJ, zA_wD, zL_wJ, zL_wF, zL_wA, zL_wD, J_wr, wr_zF, wr_zA, wrJ_zL, wr_id, wrJ_id, ne_eq, reduceCtorEq, not_false_eq_true, not_true_eq_false, if_true, if_false, Nat.reduceEqDiff, eq_self, hw] at hc90
    refine w_return rfl ?_
    exact RV.mk hP
  · exact absurd hc90 (by rw [hw]; exact he)
theorem tw_call86F {P : mG → Prop} {F' : Fm} {name k : Int} {l2 : Option Value} (hE : PEnv f n T G0 st) (p : PR T G0 st G i out op (F' :: fr) wt ta ts) (hn : 0 ≤ name ∧ name ≤ 14348906) (hk : 0 ≤ k ∧ k ≤ 3600) (hP : ∀ G, PR T G0 st G i out op (up (up (up F' 110 k) 111 name) 112 1 :: fr) wt ta ts → P G) : Wp (d, 172, 86, [some (.ref 98), some (.int (N name)), l2, some (.int (N k))], [], G) (RV P) := by
  have hT := p.hts hE
  have est := p.zst hE
  obtain ⟨t1, t2, t3, t4⟩ := p.tok hE
  have t5 := p.zl hE
  obtain ⟨⟨e1, e2, e3, e4, e5⟩, ⟨e6, e7, e8, e9⟩, b1, b2, b3, b4⟩ := p.bd
  try simp only [List.length_cons, List.length_append, List.length_nil, ptc_len, List.length_dropLast] at e2 e4 e5 b1 b2 b3 b4
  refine w_load rfl rfl rfl ?_
  refine w_getI0k rfl hT.o (e8) ?_
  refine w_if_ne rfl (fun hc90 => ?_) (fun hc90 => ?_)
  · exfalso; simp (disch := omega) only [zF_wF, zF_wA, zF_wJ, zF_wD, zA_wF, zA_wA, zA_wJ, zA_wD, zL_wJ, zL_wF, zL_wA, zL_wD, J_wr, wr_zF, wr_zA, wrJ_zL, wr_id, wrJ_id, ne_eq, reduceCtorEq, not_false_eq_true, not_true_eq_false, if_true, if_false, Nat.reduceEqDiff, eq_self, wif0, if0, Decidable.not_not] at hc90 <;> omega
  · try simp (disch := omega) only [zF_wF, zF_wA, zF_wJ, zF_wD, zA_wF, zA_wA, zA_wJ, zA_wD, zL_wJ, zL_wF, zL_wA, zL_wD, J_wr, wr_zF, wr_zA, wrJ_zL, wr_id, wrJ_id, ne_eq, reduceCtorEq, not_false_eq_true, not_true_eq_false, if_true, if_false, Nat.reduceEqDiff, eq_self, wif0, if0, Decidable.not_not] at hc90
    refine w_load rfl rfl rfl ?_
    refine w_getP rfl hT.o (hT.p rfl) ?_
    refine w_load rfl rfl rfl ?_
    refine w_getI0k rfl hT.o (e4) ?_
    refine w_const (1) rfl rfl ?_
    refine w_isub rfl ?_
    refine w_load rfl rfl rfl ?_
    refine w_iast rfl (hT.t rfl) (hT.n rfl) (by omega) (by decide) ?_
    refine w_pr (p.fset (by decide) (by omega) (by omega)) (fun G p => ?_)
    have hT := p.hts hE
    have est := p.zst hE
    obtain ⟨t1, t2, t3, t4⟩ := p.tok hE
    have t5 := p.zl hE
    obtain ⟨⟨e1, e2, e3, e4, e5⟩, ⟨e6, e7, e8, e9⟩, b1, b2, b3, b4⟩ := p.bd
    try simp only [List.length_cons, List.length_append, List.length_nil, ptc_len, List.length_dropLast] at e2 e4 e5 b1 b2 b3 b4
    refine w_load rfl rfl rfl ?_
    refine w_getP rfl hT.o (hT.p rfl) ?_
    refine w_load rfl rfl rfl ?_
    refine w_getI0k rfl hT.o (e4) ?_
    refine w_const (1) rfl rfl ?_
    refine w_isub rfl ?_
    refine w_load rfl rfl rfl ?_
    refine w_iast rfl (hT.t rfl) (hT.n rfl) (by omega) (by decide) ?_
    refine w_pr (p.fset (by decide) (by omega) (by omega)) (fun G p => ?_)
    have hT := p.hts hE
    have est := p.zst hE
    obtain ⟨t1, t2, t3, t4⟩ := p.tok hE
    have t5 := p.zl hE
    obtain ⟨⟨e1, e2, e3, e4, e5⟩, ⟨e6, e7, e8, e9⟩, b1, b2, b3, b4⟩ := p.bd
    try simp only [List.length_cons, List.length_append, List.length_nil, ptc_len, List.length_dropLast] at e2 e4 e5 b1 b2 b3 b4
    refine w_load rfl rfl rfl ?_
    refine w_getP rfl hT.o (hT.p rfl) ?_
    refine w_load rfl rfl rfl ?_
    refine w_getI0k rfl hT.o (e4) ?_
    refine w_const (1) rfl rfl ?_
    refine w_isub rfl ?_
    refine w_const (1) rfl rfl ?_
    refine w_iast rfl (hT.t rfl) (hT.n rfl) (by omega) (by decide) ?_
    refine w_pr (p.fset (by decide) (by omega) (by omega)) (fun G p => ?_)
    have hT := p.hts hE
    have est := p.zst hE
    obtain ⟨t1, t2, t3, t4⟩ := p.tok hE
    have t5 := p.zl hE
    obtain ⟨⟨e1, e2, e3, e4, e5⟩, ⟨e6, e7, e8, e9⟩, b1, b2, b3, b4⟩ := p.bd
    try simp only [List.length_cons, List.length_append, List.length_nil, ptc_len, List.length_dropLast] at e2 e4 e5 b1 b2 b3 b4
    refine w_return rfl ?_
    exact RV.mk (hP _ p)
theorem tw_call {name soft : Int} (hE : PEnv f n T G0 st) (p : PR T G0 st G i out op (F :: fr) wt ta ts) (h40 : tkd n T i = 40) (hs : soft = 0 ∨ soft = 1) (hn : 0 ≤ name ∧ name ≤ 14348906) (ho : out.length + 2 ≤ 90) : Wp (d + 2, 172, 0, [some (.ref 98), some (.int (N name)), some (.int (N soft)), none], [], G) (RV (ClP n T G0 st i out fr wt F ta ts name soft)) := by
  have h41 := hE.2.2.1
  have h35 := hE.2.2.2.2.2.1
  have hlt := p.lt hE (by omega)
  have hsf : ∀ x : Int, x = (if soft = 0 then 13 else 14) → x = 13 ∨ x = 14 := fun x h => by rw [h]; split <;> omega
  have hT := p.hts hE
  have est := p.zst hE
  obtain ⟨t1, t2, t3, t4⟩ := p.tok hE
  have t5 := p.zl hE
  obtain ⟨⟨e1, e2, e3, e4, e5⟩, ⟨e6, e7, e8, e9⟩, b1, b2, b3, b4⟩ := p.bd
  try simp only [List.length_cons, List.length_append, List.length_nil, ptc_len, List.length_dropLast] at e2 e4 e5 b1 b2 b3 b4
  refine w_load rfl rfl rfl ?_
  refine w_dup rfl rfl ?_
  refine w_getI0k rfl hT.o (e1) ?_
  refine w_const (1) rfl rfl ?_
  refine w_iadd rfl ?_
  refine w_putI0 rfl hT.o ?_
  refine w_pr (p.nxt hlt h41 rfl) (fun G p => ?_)
  have hT := p.hts hE
  have est := p.zst hE
  obtain ⟨t1, t2, t3, t4⟩ := p.tok hE
  have t5 := p.zl hE
  obtain ⟨⟨e1, e2, e3, e4, e5⟩, ⟨e6, e7, e8, e9⟩, b1, b2, b3, b4⟩ := p.bd
  try simp only [List.length_cons, List.length_append, List.length_nil, ptc_len, List.length_dropLast] at e2 e4 e5 b1 b2 b3 b4
  refine w_load rfl rfl rfl ?_
  refine w_load rfl rfl rfl ?_
  refine w_if_eq rfl (fun hc12 => ?_) (fun hc12 => ?_)
  · try simp (disch := omega) only [zF_wF, zF_wA, zF_wJ, zF_wD, zA_wF, zA_wA, zA_wJ, zA_wD, zL_wJ, zL_wF, zL_wA, zL_wD, J_wr, wr_zF, wr_zA, wrJ_zL, wr_id, wrJ_id, ne_eq, reduceCtorEq, not_false_eq_true, not_true_eq_false, if_true, if_false, Nat.reduceEqDiff, eq_self, wif0, if0, Decidable.not_not] at hc12
    refine w_const (13) rfl rfl ?_
    refine w_lconst (0) rfl rfl ?_
    refine w_callI3 rfl (Nat.le_of_ble_eq_true rfl) (Or.inr (Or.inr hT.o)) (Nat.le_of_ble_eq_true rfl) (tw_emit hE p (v := 0) (by omega) (by decide) rfl) (fun z23 G23 h23 => ?_)
    obtain ⟨rfl, p, -⟩ := h23
    have hT := p.hts hE
    have est := p.zst hE
    obtain ⟨t1, t2, t3, t4⟩ := p.tok hE
    have t5 := p.zl hE
    obtain ⟨⟨e1, e2, e3, e4, e5⟩, ⟨e6, e7, e8, e9⟩, b1, b2, b3, b4⟩ := p.bd
    try simp only [List.length_cons, List.length_append, List.length_nil, ptc_len, List.length_dropLast] at e2 e4 e5 b1 b2 b3 b4
    refine w_st3 rfl rfl rfl ?_
    refine w_load rfl rfl rfl ?_
    refine w_const (41) rfl rfl ?_
    refine w_callI2 rfl (Nat.le_of_ble_eq_true rfl) (Or.inr (Or.inr hT.o)) (Nat.le_of_ble_eq_true rfl) (tw_isSign hE p (by decide)) (fun z30 G30 h30 => ?_)
    obtain ⟨rfl, rfl⟩ := h30
    refine w_if_eq rfl (fun hc33 => ?_) (fun hc33 => ?_)
    · try simp (disch := omega) only [zF_wF, zF_wA, zF_wJ, zF_wD, zA_wF, zA_wA, zA_wJ, zA_wD, zL_wJ, zL_wF, zL_wA, zL_wD, J_wr, wr_zF, wr_zA, wrJ_zL, wr_id, wrJ_id, ne_eq, reduceCtorEq, not_false_eq_true, not_true_eq_false, if_true, if_false, Nat.reduceEqDiff, eq_self, wif0, if0, Decidable.not_not] at hc33
      have h41b : ¬ tkd n T (i + 1) = 41 := hc33
      refine w_load rfl rfl rfl ?_
      refine w_const (3) rfl rfl ?_
      refine w_callV2 rfl (Nat.le_of_ble_eq_true rfl) (Or.inr (Or.inr hT.o)) (Nat.le_of_ble_eq_true rfl) (tw_open hE p (by decide)) (fun G83 h83 => ?_)
      simp only [List.length_cons] at h83
      rcases h83 with ⟨hq, h83, -⟩ | ⟨hq, F', hf, p⟩
      · exact tw_call86E hE h83 (by decide) (Or.inr (Or.inl ⟨h41b, by omega, h83⟩))
      · refine tw_call86F hE p hn ⟨by omega, by omega⟩ (fun G p => Or.inr (Or.inr ⟨h41b, by omega, up (up (up F' 110 (st + out.length)) 111 name) 112 1, ?_, ?_, rfl, rfl, ?_⟩))
        · exact hf
        · rfl
        · first | (rw [if_pos (by omega)]; exact p) | (rw [if_neg (by omega)]; exact p)
    · try simp (disch := omega) only [zF_wF, zF_wA, zF_wJ, zF_wD, zA_wF, zA_wA, zA_wJ, zA_wD, zL_wJ, zL_wF, zL_wA, zL_wD, J_wr, wr_zF, wr_zA, wrJ_zL, wr_id, wrJ_id, ne_eq, reduceCtorEq, not_false_eq_true, not_true_eq_false, if_true, if_false, Nat.reduceEqDiff, eq_self, wif0, if0, Decidable.not_not] at hc33
      have h41b : tkd n T (i + 1) = 41 := hc33
      have hlt2 := p.lt hE (by omega)
      refine w_load rfl rfl rfl ?_
      refine w_dup rfl rfl ?_
      refine w_getI0k rfl hT.o (e1) ?_
      refine w_const (1) rfl rfl ?_
      refine w_iadd rfl ?_
      refine w_putI0 rfl hT.o ?_
      refine w_pr (p.nxt hlt2 h41 rfl) (fun G p => ?_)
      have hT := p.hts hE
      have est := p.zst hE
      obtain ⟨t1, t2, t3, t4⟩ := p.tok hE
      have t5 := p.zl hE
      obtain ⟨⟨e1, e2, e3, e4, e5⟩, ⟨e6, e7, e8, e9⟩, b1, b2, b3, b4⟩ := p.bd
      try simp only [List.length_cons, List.length_append, List.length_nil, ptc_len, List.length_dropLast] at e2 e4 e5 b1 b2 b3 b4
      refine w_load rfl rfl rfl ?_
      refine w_const (15) rfl rfl ?_
      refine w_lconst (4) rfl rfl ?_
      refine w_load rfl rfl rfl ?_
      refine w_i2l rfl ?_
      refine w_lmul rfl ?_
      refine w_callI3 rfl (Nat.le_of_ble_eq_true rfl) (Or.inr (Or.inr hT.o)) (Nat.le_of_ble_eq_true rfl) (tw_emit hE p (v := 4 * name) (by simp only [List.length_append, List.length_cons, List.length_nil, ptc_len]; omega) (by decide) (by rw [wr_id (by omega) (by omega)])) (fun z55 G55 h55 => ?_)
      obtain ⟨-, p, -⟩ := h55
      have hT := p.hts hE
      have est := p.zst hE
      obtain ⟨t1, t2, t3, t4⟩ := p.tok hE
      have t5 := p.zl hE
      obtain ⟨⟨e1, e2, e3, e4, e5⟩, ⟨e6, e7, e8, e9⟩, b1, b2, b3, b4⟩ := p.bd
      try simp only [List.length_cons, List.length_append, List.length_nil, ptc_len, List.length_dropLast] at e2 e4 e5 b1 b2 b3 b4
      refine w_pop rfl rfl ?_
      refine w_load rfl rfl rfl ?_
      refine w_getP rfl hT.o (hT.p rfl) ?_
      refine w_load rfl rfl rfl ?_
      refine w_load rfl rfl rfl ?_
      refine w_getI0k rfl hT.o (est) ?_
      refine w_load rfl rfl rfl ?_
      refine w_getI0k rfl hT.o (e2) ?_
      refine w_iadd rfl ?_
      refine w_i2l rfl ?_
      refine w_last rfl (hT.t rfl) (hT.n rfl) (by omega) (by decide) ?_
      refine w_pr (p.patch (k := out.length) (by simp only [List.length_append, List.length_cons, List.length_nil]; omega) rfl (J_wr_eq (v := (st : Int) + out.length + 2) (by omega) (by omega))) (fun G p => ?_)
      have hT := p.hts hE
      have est := p.zst hE
      obtain ⟨t1, t2, t3, t4⟩ := p.tok hE
      have t5 := p.zl hE
      obtain ⟨⟨e1, e2, e3, e4, e5⟩, ⟨e6, e7, e8, e9⟩, b1, b2, b3, b4⟩ := p.bd
      try simp only [List.length_cons, List.length_append, List.length_nil, ptc_len, List.length_dropLast] at e2 e4 e5 b1 b2 b3 b4
      refine w_load rfl rfl rfl ?_
      refine w_const (0) rfl rfl ?_
      refine w_callV2 rfl (Nat.le_of_ble_eq_true rfl) (Or.inr (Or.inr hT.o)) (Nat.le_of_ble_eq_true rfl) (tw_ready hE p (Or.inl rfl)) (fun G77 h77 => ?_)
      skip
      refine w_return rfl ?_
      refine RV.mk (Or.inl ⟨h41b, ?_⟩)
      simp only [List.append_assoc, List.cons_append, List.nil_append, ptc_at] at h77
      first | (rw [if_pos (by omega)]; exact h77) | (rw [if_neg (by omega)]; exact h77)
  · try simp (disch := omega) only [zF_wF, zF_wA, zF_wJ, zF_wD, zA_wF, zA_wA, zA_wJ, zA_wD, zL_wJ, zL_wF, zL_wA, zL_wD, J_wr, wr_zF, wr_zA, wrJ_zL, wr_id, wrJ_id, ne_eq, reduceCtorEq, not_false_eq_true, not_true_eq_false, if_true, if_false, Nat.reduceEqDiff, eq_self, wif0, if0, Decidable.not_not] at hc12
    refine w_const (14) rfl rfl ?_
    refine w_goto rfl ?_
    refine w_lconst (0) rfl rfl ?_
    refine w_callI3 rfl (Nat.le_of_ble_eq_true rfl) (Or.inr (Or.inr hT.o)) (Nat.le_of_ble_eq_true rfl) (tw_emit hE p (v := 0) (by omega) (by decide) rfl) (fun z23 G23 h23 => ?_)
    obtain ⟨rfl, p, -⟩ := h23
    have hT := p.hts hE
    have est := p.zst hE
    obtain ⟨t1, t2, t3, t4⟩ := p.tok hE
    have t5 := p.zl hE
    obtain ⟨⟨e1, e2, e3, e4, e5⟩, ⟨e6, e7, e8, e9⟩, b1, b2, b3, b4⟩ := p.bd
    try simp only [List.length_cons, List.length_append, List.length_nil, ptc_len, List.length_dropLast] at e2 e4 e5 b1 b2 b3 b4
    refine w_st3 rfl rfl rfl ?_
    refine w_load rfl rfl rfl ?_
    refine w_const (41) rfl rfl ?_
    refine w_callI2 rfl (Nat.le_of_ble_eq_true rfl) (Or.inr (Or.inr hT.o)) (Nat.le_of_ble_eq_true rfl) (tw_isSign hE p (by decide)) (fun z30 G30 h30 => ?_)
    obtain ⟨rfl, rfl⟩ := h30
    refine w_if_eq rfl (fun hc33 => ?_) (fun hc33 => ?_)
    · try simp (disch := omega) only [zF_wF, zF_wA, zF_wJ, zF_wD, zA_wF, zA_wA, zA_wJ, zA_wD, zL_wJ, zL_wF, zL_wA, zL_wD, J_wr, wr_zF, wr_zA, wrJ_zL, wr_id, wrJ_id, ne_eq, reduceCtorEq, not_false_eq_true, not_true_eq_false, if_true, if_false, Nat.reduceEqDiff, eq_self, wif0, if0, Decidable.not_not] at hc33
      have h41b : ¬ tkd n T (i + 1) = 41 := hc33
      refine w_load rfl rfl rfl ?_
      refine w_const (3) rfl rfl ?_
      refine w_callV2 rfl (Nat.le_of_ble_eq_true rfl) (Or.inr (Or.inr hT.o)) (Nat.le_of_ble_eq_true rfl) (tw_open hE p (by decide)) (fun G83 h83 => ?_)
      simp only [List.length_cons] at h83
      rcases h83 with ⟨hq, h83, -⟩ | ⟨hq, F', hf, p⟩
      · exact tw_call86E hE h83 (by decide) (Or.inr (Or.inl ⟨h41b, by omega, h83⟩))
      · refine tw_call86F hE p hn ⟨by omega, by omega⟩ (fun G p => Or.inr (Or.inr ⟨h41b, by omega, up (up (up F' 110 (st + out.length)) 111 name) 112 1, ?_, ?_, rfl, rfl, ?_⟩))
        · exact hf
        · rfl
        · first | (rw [if_pos (by omega)]; exact p) | (rw [if_neg (by omega)]; exact p)
    · try simp (disch := omega) only [zF_wF, zF_wA, zF_wJ, zF_wD, zA_wF, zA_wA, zA_wJ, zA_wD, zL_wJ, zL_wF, zL_wA, zL_wD, J_wr, wr_zF, wr_zA, wrJ_zL, wr_id, wrJ_id, ne_eq, reduceCtorEq, not_false_eq_true, not_true_eq_false, if_true, if_false, Nat.reduceEqDiff, eq_self, wif0, if0, Decidable.not_not] at hc33
      have h41b : tkd n T (i + 1) = 41 := hc33
      have hlt2 := p.lt hE (by omega)
      refine w_load rfl rfl rfl ?_
      refine w_dup rfl rfl ?_
      refine w_getI0k rfl hT.o (e1) ?_
      refine w_const (1) rfl rfl ?_
      refine w_iadd rfl ?_
      refine w_putI0 rfl hT.o ?_
      refine w_pr (p.nxt hlt2 h41 rfl) (fun G p => ?_)
      have hT := p.hts hE
      have est := p.zst hE
      obtain ⟨t1, t2, t3, t4⟩ := p.tok hE
      have t5 := p.zl hE
      obtain ⟨⟨e1, e2, e3, e4, e5⟩, ⟨e6, e7, e8, e9⟩, b1, b2, b3, b4⟩ := p.bd
      try simp only [List.length_cons, List.length_append, List.length_nil, ptc_len, List.length_dropLast] at e2 e4 e5 b1 b2 b3 b4
      refine w_load rfl rfl rfl ?_
      refine w_const (15) rfl rfl ?_
      refine w_lconst (4) rfl rfl ?_
      refine w_load rfl rfl rfl ?_
      refine w_i2l rfl ?_
      refine w_lmul rfl ?_
      refine w_callI3 rfl (Nat.le_of_ble_eq_true rfl) (Or.inr (Or.inr hT.o)) (Nat.le_of_ble_eq_true rfl) (tw_emit hE p (v := 4 * name) (by simp only [List.length_append, List.length_cons, List.length_nil, ptc_len]; omega) (by decide) (by rw [wr_id (by omega) (by omega)])) (fun z55 G55 h55 => ?_)
      obtain ⟨-, p, -⟩ := h55
      have hT := p.hts hE
      have est := p.zst hE
      obtain ⟨t1, t2, t3, t4⟩ := p.tok hE
      have t5 := p.zl hE
      obtain ⟨⟨e1, e2, e3, e4, e5⟩, ⟨e6, e7, e8, e9⟩, b1, b2, b3, b4⟩ := p.bd
      try simp only [List.length_cons, List.length_append, List.length_nil, ptc_len, List.length_dropLast] at e2 e4 e5 b1 b2 b3 b4
      refine w_pop rfl rfl ?_
      refine w_load rfl rfl rfl ?_
      refine w_getP rfl hT.o (hT.p rfl) ?_
      refine w_load rfl rfl rfl ?_
      refine w_load rfl rfl rfl ?_
      refine w_getI0k rfl hT.o (est) ?_
      refine w_load rfl rfl rfl ?_
      refine w_getI0k rfl hT.o (e2) ?_
      refine w_iadd rfl ?_
      refine w_i2l rfl ?_
      refine w_last rfl (hT.t rfl) (hT.n rfl) (by omega) (by decide) ?_
      refine w_pr (p.patch (k := out.length) (by simp only [List.length_append, List.length_cons, List.length_nil]; omega) rfl (J_wr_eq (v := (st : Int) + out.length + 2) (by omega) (by omega))) (fun G p => ?_)
      have hT := p.hts hE
      have est := p.zst hE
      obtain ⟨t1, t2, t3, t4⟩ := p.tok hE
      have t5 := p.zl hE
      obtain ⟨⟨e1, e2, e3, e4, e5⟩, ⟨e6, e7, e8, e9⟩, b1, b2, b3, b4⟩ := p.bd
      try simp only [List.length_cons, List.length_append, List.length_nil, ptc_len, List.length_dropLast] at e2 e4 e5 b1 b2 b3 b4
      refine w_load rfl rfl rfl ?_
      refine w_const (0) rfl rfl ?_
      refine w_callV2 rfl (Nat.le_of_ble_eq_true rfl) (Or.inr (Or.inr hT.o)) (Nat.le_of_ble_eq_true rfl) (tw_ready hE p (Or.inl rfl)) (fun G77 h77 => ?_)
      skip
      refine w_return rfl ?_
      refine RV.mk (Or.inl ⟨h41b, ?_⟩)
      simp only [List.append_assoc, List.cons_append, List.nil_append, ptc_at] at h77
      first | (rw [if_pos (by omega)]; exact h77) | (rw [if_neg (by omega)]; exact h77)
end tw9

