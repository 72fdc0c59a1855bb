/-! THE TWIN's READING: finish -/
set_option maxRecDepth 100000
section tw13
variable (G0 : mG) (st : Nat)
/-- the phrase is read -/
def PD (G : mG) (out : List Sp) : Prop := PK G0 st G ∧ zF G 98 8 = 0 ∧ zF G 98 18 = 1 ∧ zF G 98 16 = out.length ∧ outR st G out ∧ out.length ≤ 90
variable {f : Int → Int} {n : Int} {T : List (Int × Int × Int)} {G0 : mG} {st : Nat} {i k : Nat} {out : List Sp} {fr wt own outer : List Fm} {F P : Fm} {ta ts : Int} {G : mG} {op : Bool} {d : Nat} {Q : mR → Prop}
theorem PR.don (h : PR T G0 st G i out op fr wt ta ts) : PD G0 st (wF G 98 18 1) out := by
  obtain ⟨hK, ⟨s1, s2, s3, s4, s5, s6, s7, s8, s9⟩, ho, hf, hw, b1, b2, b3, b4⟩ := h
  exact ⟨hK.pF (by decide), (zF_putn (by decide)).trans s8, zF_put (by decide) (by decide), (zF_putn (by decide)).trans s2, outR_F ho, b2⟩
theorem tw_fin_r (hE : PEnv f n T G0 st) (p : PR T G0 st G i out op (F :: fr) (own ++ outer) ta ts) (hb : F 108 = outer.length) (ho : wOK st out.length own) (hl : out.length + own.length ≤ 89)
    (hx : ∀ G, PR T G0 st G i (redF st 1 own out).2 op (F :: fr) outer ta ts → (redF st 1 own out).2.length = out.length + own.length → Wp (d + 3, 175, 12, [some (.ref 98), some (.int (N fr.length)), none], [], G) Q) : Wp (d + 3, 175, 0, [some (.ref 98), none, none], [], G) Q := by
  have h1 := redF_all (o := out) ho
  have h2 := redF_len (st := st) (lv := 1) (own := own) (o := out)
  rw [h1] at h2
  have hT := p.hts hE
  have est := p.zst hE
  obtain ⟨t1, t2, t3, t4⟩ := p.tok hE
  have t5 := p.zl hE
  obtain ⟨⟨e1, e2, e3, e4, e5⟩, ⟨e6, e7, e8, e9⟩, b1, b2, b3, b4⟩ := p.bd
  try simp only [List.length_cons, List.length_append, List.length_nil, ptc_len, List.length_dropLast] at e2 e4 e5 b1 b2 b3 b4
  refine w_load rfl rfl rfl ?_
  refine w_getI0k rfl hT.o (e4) ?_
  refine w_const (1) rfl rfl ?_
  refine w_isub rfl ?_
  refine w_st1 rfl rfl rfl ?_
  rw [show ((fr.length + 1 : Nat) : Int) - 1 = (fr.length : Int) by omega]
  refine w_load rfl rfl rfl ?_
  refine w_const (1) rfl rfl ?_
  refine w_callV2 rfl (Nat.le_of_ble_eq_true rfl) (Or.inr (Or.inr hT.o)) (Nat.le_of_ble_eq_true rfl) (tw_reduce hE (by decide) hb own out G p (by omega) ho) (fun G9 h9 => ?_)
  rw [h1] at h9
  exact hx _ h9 (by simpa using h2)
theorem tw_fin5 (hE : PEnv f n T G0 st) (p : PR T G0 st G i out op (F :: P :: fr) wt ta ts) (h7 : F 107 = 5) (hk : F 110 = (st : Int) + k) (hk2 : k < out.length) : Wp (d + 3, 175, 12, [some (.ref 98), some (.int (N (fr.length + 1 : Nat))), none], [], G) (RV fun G' => PR T G0 st G' i (ptc out k ((st : Int) + out.length)) op (up (up P 113 1) 114 0 :: fr) wt ta ts) := by
  have h35 := hE.2.2.2.2.2.1
  have hT := p.hts hE
  have est := p.zst hE
  obtain ⟨t1, t2, t3, t4⟩ := p.tok hE
  have t5 := p.zl hE
  obtain ⟨⟨e1, e2, e3, e4, e5⟩, ⟨e6, e7, e8, e9⟩, b1, b2, b3, b4⟩ := p.bd
  try simp only [List.length_cons, List.length_append, List.length_nil, ptc_len, List.length_dropLast] at e2 e4 e5 b1 b2 b3 b4
  have rd : ∀ {x : Nat} {k : Int}, k = ((fr.length + 1 : Nat) : Int) → 107 ≤ x → x ≤ 115 → zA G x k = F x := fun h a b => p.rd h a b
  have hz := rd (x := 110) rfl (by decide) (by decide)
  refine w_load rfl rfl rfl ?_
  refine w_getP rfl hT.o (hT.p rfl) ?_
  refine w_load rfl rfl rfl ?_
  refine w_iald rfl (hT.t rfl) (hT.n rfl) (by omega) (by decide) ?_
  refine w_const (5) rfl rfl ?_
  refine w_icmp_ne rfl (fun hc19 => ?_) (fun hc19 => ?_)
  · exfalso; simp (disch := omega) only [zF_wF, zF_wA, zF_wJ, zF_wD, zA_wF, zA_wA, zA_wJ, zA_wD, zL_wJ, zL_wF, zL_wA, zL_wD, J_wr, wr_zF, wr_zA, wrJ_zL, wr_id, wrJ_id, ne_eq, reduceCtorEq, not_false_eq_true, not_true_eq_false, if_true, if_false, Nat.reduceEqDiff, eq_self, wif0, if0, Decidable.not_not, rd, h7] at hc19 <;> omega
  · try simp (disch := omega) only [zF_wF, zF_wA, zF_wJ, zF_wD, zA_wF, zA_wA, zA_wJ, zA_wD, zL_wJ, zL_wF, zL_wA, zL_wD, J_wr, wr_zF, wr_zA, wrJ_zL, wr_id, wrJ_id, ne_eq, reduceCtorEq, not_false_eq_true, not_true_eq_false, if_true, if_false, Nat.reduceEqDiff, eq_self, wif0, if0, Decidable.not_not, rd, h7] at hc19
    refine w_load rfl rfl rfl ?_
    refine w_getP rfl hT.o (hT.p rfl) ?_
    refine w_load rfl rfl rfl ?_
    refine w_getP rfl hT.o (hT.p rfl) ?_
    refine w_load rfl rfl rfl ?_
    refine w_iald rfl (hT.t rfl) (hT.n rfl) (by omega) (by decide) ?_
    refine w_load rfl rfl rfl ?_
    refine w_getI0k rfl hT.o (est) ?_
    refine w_load rfl rfl rfl ?_
    refine w_getI0k rfl hT.o (e2) ?_
    refine w_iadd rfl ?_
    refine w_i2l rfl ?_
    refine w_last rfl (hT.t rfl) (hT.n rfl) (by omega) (by decide) ?_
    refine w_pr (p.patch (k := k) hk2 (by omega) (J_wr_eq (v := (st : Int) + out.length) (by omega) (by omega))) (fun G p => ?_)
    have hT := p.hts hE
    have est := p.zst hE
    obtain ⟨t1, t2, t3, t4⟩ := p.tok hE
    have t5 := p.zl hE
    obtain ⟨⟨e1, e2, e3, e4, e5⟩, ⟨e6, e7, e8, e9⟩, b1, b2, b3, b4⟩ := p.bd
    try simp only [List.length_cons, List.length_append, List.length_nil, ptc_len, List.length_dropLast] at e2 e4 e5 b1 b2 b3 b4
    refine w_load rfl rfl rfl ?_
    refine w_dup rfl rfl ?_
    refine w_getI0k rfl hT.o (e4) ?_
    refine w_const (1) rfl rfl ?_
    refine w_isub rfl ?_
    refine w_putI0 rfl hT.o ?_
    refine w_pr (p.fpop (by simp only [List.length_append, List.length_cons, List.length_nil, ptc_len]; omega)) (fun G p => ?_)
    have hT := p.hts hE
    have est := p.zst hE
    obtain ⟨t1, t2, t3, t4⟩ := p.tok hE
    have t5 := p.zl hE
    obtain ⟨⟨e1, e2, e3, e4, e5⟩, ⟨e6, e7, e8, e9⟩, b1, b2, b3, b4⟩ := p.bd
    try simp only [List.length_cons, List.length_append, List.length_nil, ptc_len, List.length_dropLast] at e2 e4 e5 b1 b2 b3 b4
    refine w_load rfl rfl rfl ?_
    refine w_getP rfl hT.o (hT.p rfl) ?_
    refine w_load rfl rfl rfl ?_
    refine w_getI0k rfl hT.o (e4) ?_
    refine w_const (1) rfl rfl ?_
    refine w_isub rfl ?_
    refine w_const (1) rfl rfl ?_
    refine w_zast rfl (hT.t rfl) (hT.n rfl) (by omega) (by decide) (by first | exact Or.inl rfl | exact Or.inr rfl | omega) ?_
    refine w_pr (p.fset (by decide) (by omega) (by decide)) (fun G p => ?_)
    have hT := p.hts hE
    have est := p.zst hE
    obtain ⟨t1, t2, t3, t4⟩ := p.tok hE
    have t5 := p.zl hE
    obtain ⟨⟨e1, e2, e3, e4, e5⟩, ⟨e6, e7, e8, e9⟩, b1, b2, b3, b4⟩ := p.bd
    try simp only [List.length_cons, List.length_append, List.length_nil, ptc_len, List.length_dropLast] at e2 e4 e5 b1 b2 b3 b4
    refine w_load rfl rfl rfl ?_
    refine w_getP rfl hT.o (hT.p rfl) ?_
    refine w_load rfl rfl rfl ?_
    refine w_getI0k rfl hT.o (e4) ?_
    refine w_const (1) rfl rfl ?_
    refine w_isub rfl ?_
    refine w_const (0) rfl rfl ?_
    refine w_zast rfl (hT.t rfl) (hT.n rfl) (by omega) (by decide) (by first | exact Or.inl rfl | exact Or.inr rfl | omega) ?_
    refine w_pr (p.fset (by decide) (by omega) (by decide)) (fun G p => ?_)
    have hT := p.hts hE
    have est := p.zst hE
    obtain ⟨t1, t2, t3, t4⟩ := p.tok hE
    have t5 := p.zl hE
    obtain ⟨⟨e1, e2, e3, e4, e5⟩, ⟨e6, e7, e8, e9⟩, b1, b2, b3, b4⟩ := p.bd
    try simp only [List.length_cons, List.length_append, List.length_nil, ptc_len, List.length_dropLast] at e2 e4 e5 b1 b2 b3 b4
    refine w_goto rfl ?_
    refine w_return rfl ?_
    exact RV.mk p
theorem tw_fin4 (hE : PEnv f n T G0 st) (p : PR T G0 st G i out op (F :: fr) wt ta ts) (h7 : F 107 = 4) (hk : F 110 = (st : Int) + k) (hk2 : k < out.length) (hl : out.length ≤ 89) : Wp (d + 3, 175, 12, [some (.ref 98), some (.int (N fr.length)), none], [], G) (RV fun G' => ¬ tkd n T i = 58 ∧ PE G0 st G' 2 (tpl n T i) ∨ tkd n T i = 58 ∧ PR T G0 st G' (i + 1) (ptc (out ++ [(36, 0)]) k ((st : Int) + out.length + 1)) true (freshF (up (up F 107 5) 110 (st + out.length)) wt.length :: fr) wt ta ts) := by
  have h41 := hE.2.2.1
  have h35 := hE.2.2.2.2.2.1
  have hT := p.hts hE
  have est := p.zst hE
  obtain ⟨t1, t2, t3, t4⟩ := p.tok hE
  have t5 := p.zl hE
  obtain ⟨⟨e1, e2, e3, e4, e5⟩, ⟨e6, e7, e8, e9⟩, b1, b2, b3, b4⟩ := p.bd
  try simp only [List.length_cons, List.length_append, List.length_nil, ptc_len, List.length_dropLast] at e2 e4 e5 b1 b2 b3 b4
  refine w_load rfl rfl rfl ?_
  refine w_getP rfl hT.o (hT.p rfl) ?_
  refine w_load rfl rfl rfl ?_
  refine w_iald rfl (hT.t rfl) (hT.n rfl) (by omega) (by decide) ?_
  refine w_const (5) rfl rfl ?_
  refine w_icmp_ne rfl (fun hc19 => ?_) (fun hc19 => ?_)
  · try simp (disch := omega) only [zF_wF, zF_wA, zF_wJ, zF_wD, zA_wF, zA_wA, zA_wJ, zA_wD, zL_wJ, zL_wF, zL_wA, zL_wD, J_wr, wr_zF, wr_zA, wrJ_zL, wr_id, wrJ_id, ne_eq, reduceCtorEq, not_false_eq_true, not_true_eq_false, if_true, if_false, Nat.reduceEqDiff, eq_self, wif0, if0, Decidable.not_not, p.rd, h7] at hc19
    refine w_load rfl rfl rfl ?_
    refine w_getP rfl hT.o (hT.p rfl) ?_
    refine w_load rfl rfl rfl ?_
    refine w_iald rfl (hT.t rfl) (hT.n rfl) (by omega) (by decide) ?_
    refine w_const (4) rfl rfl ?_
    refine w_icmp_ne rfl (fun hc87 => ?_) (fun hc87 => ?_)
    · exfalso; simp (disch := omega) only [zF_wF, zF_wA, zF_wJ, zF_wD, zA_wF, zA_wA, zA_wJ, zA_wD, zL_wJ, zL_wF, zL_wA, zL_wD, J_wr, wr_zF, wr_zA, wrJ_zL, wr_id, wrJ_id, ne_eq, reduceCtorEq, not_false_eq_true, not_true_eq_false, if_true, if_false, Nat.reduceEqDiff, eq_self, wif0, if0, Decidable.not_not, p.rd, h7] at hc87 <;> omega
    · try simp (disch := omega) only [zF_wF, zF_wA, zF_wJ, zF_wD, zA_wF, zA_wA, zA_wJ, zA_wD, zL_wJ, zL_wF, zL_wA, zL_wD, J_wr, wr_zF, wr_zA, wrJ_zL, wr_id, wrJ_id, ne_eq, reduceCtorEq, not_false_eq_true, not_true_eq_false, if_true, if_false, Nat.reduceEqDiff, eq_self, wif0, if0, Decidable.not_not, p.rd, h7] at hc87
      refine w_load rfl rfl rfl ?_
      refine w_const (58) rfl rfl ?_
      refine w_callI2 rfl (Nat.le_of_ble_eq_true rfl) (Or.inr (Or.inr hT.o)) (Nat.le_of_ble_eq_true rfl) (tw_isSign hE p (by decide)) (fun z93 G93 h93 => ?_)
      obtain ⟨rfl, rfl⟩ := h93
      refine w_if_ne rfl (fun hc96 => ?_) (fun hc96 => ?_)
      · try simp (disch := omega) only [zF_wF, zF_wA, zF_wJ, zF_wD, zA_wF, zA_wA, zA_wJ, zA_wD, zL_wJ, zL_wF, zL_wA, zL_wD, J_wr, wr_zF, wr_zA, wrJ_zL, wr_id, wrJ_id, ne_eq, reduceCtorEq, not_false_eq_true, not_true_eq_false, if_true, if_false, Nat.reduceEqDiff, eq_self, wif0, if0, Decidable.not_not, p.rd, h7] at hc96
        refine w_load rfl rfl rfl ?_
        refine w_dup rfl rfl ?_
        refine w_getI0k rfl hT.o (e1) ?_
        refine w_const (1) rfl rfl ?_
        refine w_iadd rfl ?_
        refine w_putI0 rfl hT.o ?_
        refine w_pr (p.nxt (p.lt hE (by omega)) h41 rfl) (fun G p => ?_)
        have hT := p.hts hE
        have est := p.zst hE
        obtain ⟨t1, t2, t3, t4⟩ := p.tok hE
        have t5 := p.zl hE
        obtain ⟨⟨e1, e2, e3, e4, e5⟩, ⟨e6, e7, e8, e9⟩, b1, b2, b3, b4⟩ := p.bd
        try simp only [List.length_cons, List.length_append, List.length_nil, ptc_len, List.length_dropLast] at e2 e4 e5 b1 b2 b3 b4
        refine w_load rfl rfl rfl ?_
        refine w_const (36) rfl rfl ?_
        refine w_lconst (0) rfl rfl ?_
        refine w_callI3 rfl (Nat.le_of_ble_eq_true rfl) (Or.inr (Or.inr hT.o)) (Nat.le_of_ble_eq_true rfl) (tw_emit hE p (v := 0) (by omega) (by decide) rfl) (fun z118 G118 h118 => ?_)
        obtain ⟨rfl, p, -⟩ := h118
        have hT := p.hts hE
        have est := p.zst hE
        obtain ⟨t1, t2, t3, t4⟩ := p.tok hE
        have t5 := p.zl hE
        obtain ⟨⟨e1, e2, e3, e4, e5⟩, ⟨e6, e7, e8, e9⟩, b1, b2, b3, b4⟩ := p.bd
        try simp only [List.length_cons, List.length_append, List.length_nil, ptc_len, List.length_dropLast] at e2 e4 e5 b1 b2 b3 b4
        have hz := p.rd (x := 110) rfl (by decide) (by decide)
        refine w_st2 rfl rfl rfl ?_
        refine w_load rfl rfl rfl ?_
        refine w_getP rfl hT.o (hT.p rfl) ?_
        refine w_load rfl rfl rfl ?_
        refine w_getP rfl hT.o (hT.p rfl) ?_
        refine w_load rfl rfl rfl ?_
        refine w_iald rfl (hT.t rfl) (hT.n rfl) (by omega) (by decide) ?_
        refine w_load rfl rfl rfl ?_
        refine w_getI0k rfl hT.o (est) ?_
        refine w_load rfl rfl rfl ?_
        refine w_getI0k rfl hT.o (e2) ?_
        refine w_iadd rfl ?_
        refine w_i2l rfl ?_
        refine w_last rfl (hT.t rfl) (hT.n rfl) (by omega) (by decide) ?_
        refine w_pr (p.patch (k := k) (by simp only [List.length_append, List.length_cons, List.length_nil, ptc_len]; omega) (by omega) (J_wr_eq (v := (st : Int) + out.length + 1) (by omega) (by omega))) (fun G p => ?_)
        have hT := p.hts hE
        have est := p.zst hE
        obtain ⟨t1, t2, t3, t4⟩ := p.tok hE
        have t5 := p.zl hE
        obtain ⟨⟨e1, e2, e3, e4, e5⟩, ⟨e6, e7, e8, e9⟩, b1, b2, b3, b4⟩ := p.bd
        try simp only [List.length_cons, List.length_append, List.length_nil, ptc_len, List.length_dropLast] at e2 e4 e5 b1 b2 b3 b4
        refine w_load rfl rfl rfl ?_
        refine w_getP rfl hT.o (hT.p rfl) ?_
        refine w_load rfl rfl rfl ?_
        refine w_const (5) rfl rfl ?_
        refine w_iast rfl (hT.t rfl) (hT.n rfl) (by omega) (by decide) ?_
        refine w_pr (p.fset (by decide) rfl (by decide)) (fun G p => ?_)
        have hT := p.hts hE
        have est := p.zst hE
        obtain ⟨t1, t2, t3, t4⟩ := p.tok hE
        have t5 := p.zl hE
        obtain ⟨⟨e1, e2, e3, e4, e5⟩, ⟨e6, e7, e8, e9⟩, b1, b2, b3, b4⟩ := p.bd
        try simp only [List.length_cons, List.length_append, List.length_nil, ptc_len, List.length_dropLast] at e2 e4 e5 b1 b2 b3 b4
        refine w_load rfl rfl rfl ?_
        refine w_getP rfl hT.o (hT.p rfl) ?_
        refine w_load rfl rfl rfl ?_
        refine w_load rfl rfl rfl ?_
        refine w_iast rfl (hT.t rfl) (hT.n rfl) (by omega) (by decide) ?_
        refine w_pr (p.fset (by decide) rfl (by omega)) (fun G p => ?_)
        have hT := p.hts hE
        have est := p.zst hE
        obtain ⟨t1, t2, t3, t4⟩ := p.tok hE
        have t5 := p.zl hE
        obtain ⟨⟨e1, e2, e3, e4, e5⟩, ⟨e6, e7, e8, e9⟩, b1, b2, b3, b4⟩ := p.bd
        try simp only [List.length_cons, List.length_append, List.length_nil, ptc_len, List.length_dropLast] at e2 e4 e5 b1 b2 b3 b4
        refine w_load rfl rfl rfl ?_
        refine w_callV1 rfl (Nat.le_of_ble_eq_true rfl) (Or.inr (Or.inr hT.o)) (Nat.le_of_ble_eq_true rfl) (tw_fresh hE p) (fun G158 h158 => ?_)
        skip
        refine w_goto rfl ?_
        refine w_return rfl ?_
        exact RV.mk (Or.inr ⟨hc96, h158⟩)
      · try simp (disch := omega) only [zF_wF, zF_wA, zF_wJ, zF_wD, zA_wF, zA_wA, zA_wJ, zA_wD, zL_wJ, zL_wF, zL_wA, zL_wD, J_wr, wr_zF, wr_zA, wrJ_zL, wr_id, wrJ_id, ne_eq, reduceCtorEq, not_false_eq_true, not_true_eq_false, if_true, if_false, Nat.reduceEqDiff, eq_self, wif0, if0, Decidable.not_not, p.rd, h7] at hc96
        refine w_load rfl rfl rfl ?_
        refine w_callV1 rfl (Nat.le_of_ble_eq_true rfl) (Or.inr (Or.inr hT.o)) (Nat.le_of_ble_eq_true rfl) (tw_misfit hE p) (fun G100 h100 => ?_)
        skip
        refine w_return rfl ?_
        exact RV.mk (Or.inl ⟨hc96, h100⟩)
  · exfalso; simp (disch := omega) only [zF_wF, zF_wA, zF_wJ, zF_wD, zA_wF, zA_wA, zA_wJ, zA_wD, zL_wJ, zL_wF, zL_wA, zL_wD, J_wr, wr_zF, wr_zA, wrJ_zL, wr_id, wrJ_id, ne_eq, reduceCtorEq, not_false_eq_true, not_true_eq_false, if_true, if_false, Nat.reduceEqDiff, eq_self, wif0, if0, Decidable.not_not, p.rd, h7] at hc19 <;> omega
theorem tw_fin2 (hE : PEnv f n T G0 st) (p : PR T G0 st G i out op (F :: P :: fr) wt ta ts) (h7 : F 107 = 2) : Wp (d + 3, 175, 12, [some (.ref 98), some (.int (N (fr.length + 1 : Nat))), none], [], G) (RV fun G' => ¬ tkd n T i = 41 ∧ PE G0 st G' 2 (tpl n T i) ∨ tkd n T i = 41 ∧ PR T G0 st G' (i + 1) out false (up P 115 0 :: fr) wt ta ts) := by
  have h41 := hE.2.2.1
  have hT := p.hts hE
  have est := p.zst hE
  obtain ⟨t1, t2, t3, t4⟩ := p.tok hE
  have t5 := p.zl hE
  obtain ⟨⟨e1, e2, e3, e4, e5⟩, ⟨e6, e7, e8, e9⟩, b1, b2, b3, b4⟩ := p.bd
  try simp only [List.length_cons, List.length_append, List.length_nil, ptc_len, List.length_dropLast] at e2 e4 e5 b1 b2 b3 b4
  have rd : ∀ {x : Nat} {k : Int}, k = ((fr.length + 1 : Nat) : Int) → 107 ≤ x → x ≤ 115 → zA G x k = F x := fun h a b => p.rd h a b
  refine w_load rfl rfl rfl ?_
  refine w_getP rfl hT.o (hT.p rfl) ?_
  refine w_load rfl rfl rfl ?_
  refine w_iald rfl (hT.t rfl) (hT.n rfl) (by omega) (by decide) ?_
  refine w_const (5) rfl rfl ?_
  refine w_icmp_ne rfl (fun hc19 => ?_) (fun hc19 => ?_)
  · try simp (disch := omega) only [zF_wF, zF_wA, zF_wJ, zF_wD, zA_wF, zA_wA, zA_wJ, zA_wD, zL_wJ, zL_wF, zL_wA, zL_wD, J_wr, wr_zF, wr_zA, wrJ_zL, wr_id, wrJ_id, ne_eq, reduceCtorEq, not_false_eq_true, not_true_eq_false, if_true, if_false, Nat.reduceEqDiff, eq_self, wif0, if0, Decidable.not_not, rd, h7] at hc19
    refine w_load rfl rfl rfl ?_
    refine w_getP rfl hT.o (hT.p rfl) ?_
    refine w_load rfl rfl rfl ?_
    refine w_iald rfl (hT.t rfl) (hT.n rfl) (by omega) (by decide) ?_
    refine w_const (4) rfl rfl ?_
    refine w_icmp_ne rfl (fun hc87 => ?_) (fun hc87 => ?_)
    · try simp (disch := omega) only [zF_wF, zF_wA, zF_wJ, zF_wD, zA_wF, zA_wA, zA_wJ, zA_wD, zL_wJ, zL_wF, zL_wA, zL_wD, J_wr, wr_zF, wr_zA, wrJ_zL, wr_id, wrJ_id, ne_eq, reduceCtorEq, not_false_eq_true, not_true_eq_false, if_true, if_false, Nat.reduceEqDiff, eq_self, wif0, if0, Decidable.not_not, rd, h7] at hc87
      refine w_load rfl rfl rfl ?_
      refine w_getP rfl hT.o (hT.p rfl) ?_
      refine w_load rfl rfl rfl ?_
      refine w_iald rfl (hT.t rfl) (hT.n rfl) (by omega) (by decide) ?_
      refine w_const (2) rfl rfl ?_
      refine w_icmp_ne rfl (fun hc171 => ?_) (fun hc171 => ?_)
      · exfalso; simp (disch := omega) only [zF_wF, zF_wA, zF_wJ, zF_wD, zA_wF, zA_wA, zA_wJ, zA_wD, zL_wJ, zL_wF, zL_wA, zL_wD, J_wr, wr_zF, wr_zA, wrJ_zL, wr_id, wrJ_id, ne_eq, reduceCtorEq, not_false_eq_true, not_true_eq_false, if_true, if_false, Nat.reduceEqDiff, eq_self, wif0, if0, Decidable.not_not, rd, h7] at hc171 <;> omega
      · try simp (disch := omega) only [zF_wF, zF_wA, zF_wJ, zF_wD, zA_wF, zA_wA, zA_wJ, zA_wD, zL_wJ, zL_wF, zL_wA, zL_wD, J_wr, wr_zF, wr_zA, wrJ_zL, wr_id, wrJ_id, ne_eq, reduceCtorEq, not_false_eq_true, not_true_eq_false, if_true, if_false, Nat.reduceEqDiff, eq_self, wif0, if0, Decidable.not_not, rd, h7] at hc171
        refine w_load rfl rfl rfl ?_
        refine w_const (41) rfl rfl ?_
        refine w_callI2 rfl (Nat.le_of_ble_eq_true rfl) (Or.inr (Or.inr hT.o)) (Nat.le_of_ble_eq_true rfl) (tw_isSign hE p (by decide)) (fun z177 G177 h177 => ?_)
        obtain ⟨rfl, rfl⟩ := h177
        refine w_if_ne rfl (fun hc180 => ?_) (fun hc180 => ?_)
        · try simp (disch := omega) only [zF_wF, zF_wA, zF_wJ, zF_wD, zA_wF, zA_wA, zA_wJ, zA_wD, zL_wJ, zL_wF, zL_wA, zL_wD, J_wr, wr_zF, wr_zA, wrJ_zL, wr_id, wrJ_id, ne_eq, reduceCtorEq, not_false_eq_true, not_true_eq_false, if_true, if_false, Nat.reduceEqDiff, eq_self, wif0, if0, Decidable.not_not, rd, h7] at hc180
          refine w_load rfl rfl rfl ?_
          refine w_dup rfl rfl ?_
          refine w_getI0k rfl hT.o (e1) ?_
          refine w_const (1) rfl rfl ?_
          refine w_iadd rfl ?_
          refine w_putI0 rfl hT.o ?_
          refine w_pr (p.nxt (p.lt hE (by omega)) h41 rfl) (fun G p => ?_)
          have hT := p.hts hE
          have est := p.zst hE
          obtain ⟨t1, t2, t3, t4⟩ := p.tok hE
          have t5 := p.zl hE
          obtain ⟨⟨e1, e2, e3, e4, e5⟩, ⟨e6, e7, e8, e9⟩, b1, b2, b3, b4⟩ := p.bd
          try simp only [List.length_cons, List.length_append, List.length_nil, ptc_len, List.length_dropLast] at e2 e4 e5 b1 b2 b3 b4
          refine w_load rfl rfl rfl ?_
          refine w_dup rfl rfl ?_
          refine w_getI0k rfl hT.o (e4) ?_
          refine w_const (1) rfl rfl ?_
          refine w_isub rfl ?_
          refine w_putI0 rfl hT.o ?_
          refine w_pr (p.fpop (by simp only [List.length_append, List.length_cons, List.length_nil, ptc_len]; omega)) (fun G p => ?_)
          have hT := p.hts hE
          have est := p.zst hE
          obtain ⟨t1, t2, t3, t4⟩ := p.tok hE
          have t5 := p.zl hE
          obtain ⟨⟨e1, e2, e3, e4, e5⟩, ⟨e6, e7, e8, e9⟩, b1, b2, b3, b4⟩ := p.bd
          try simp only [List.length_cons, List.length_append, List.length_nil, ptc_len, List.length_dropLast] at e2 e4 e5 b1 b2 b3 b4
          refine w_load rfl rfl rfl ?_
          refine w_const (0) rfl rfl ?_
          refine w_callV2 rfl (Nat.le_of_ble_eq_true rfl) (Or.inr (Or.inr hT.o)) (Nat.le_of_ble_eq_true rfl) (tw_ready hE p (Or.inl rfl)) (fun G210 h210 => ?_)
          skip
          refine w_goto rfl ?_
          refine w_return rfl ?_
          exact RV.mk (Or.inr ⟨hc180, h210⟩)
        · try simp (disch := omega) only [zF_wF, zF_wA, zF_wJ, zF_wD, zA_wF, zA_wA, zA_wJ, zA_wD, zL_wJ, zL_wF, zL_wA, zL_wD, J_wr, wr_zF, wr_zA, wrJ_zL, wr_id, wrJ_id, ne_eq, reduceCtorEq, not_false_eq_true, not_true_eq_false, if_true, if_false, Nat.reduceEqDiff, eq_self, wif0, if0, Decidable.not_not, rd, h7] at hc180
          refine w_load rfl rfl rfl ?_
          refine w_callV1 rfl (Nat.le_of_ble_eq_true rfl) (Or.inr (Or.inr hT.o)) (Nat.le_of_ble_eq_true rfl) (tw_misfit hE p) (fun G184 h184 => ?_)
          skip
          refine w_return rfl ?_
          exact RV.mk (Or.inl ⟨hc180, h184⟩)
    · exfalso; simp (disch := omega) only [zF_wF, zF_wA, zF_wJ, zF_wD, zA_wF, zA_wA, zA_wJ, zA_wD, zL_wJ, zL_wF, zL_wA, zL_wD, J_wr, wr_zF, wr_zA, wrJ_zL, wr_id, wrJ_id, ne_eq, reduceCtorEq, not_false_eq_true, not_true_eq_false, if_true, if_false, Nat.reduceEqDiff, eq_self, wif0, if0, Decidable.not_not, rd, h7] at hc87 <;> omega
  · exfalso; simp (disch := omega) only [zF_wF, zF_wA, zF_wJ, zF_wD, zA_wF, zA_wA, zA_wJ, zA_wD, zL_wJ, zL_wF, zL_wA, zL_wD, J_wr, wr_zF, wr_zA, wrJ_zL, wr_id, wrJ_id, ne_eq, reduceCtorEq, not_false_eq_true, not_true_eq_false, if_true, if_false, Nat.reduceEqDiff, eq_self, wif0, if0, Decidable.not_not, rd, h7] at hc19 <;> omega
theorem tw_fin3 {R : mG → Prop} (hE : PEnv f n T G0 st) (p : PR T G0 st G i out op (F :: fr) wt ta ts) (h7 : F 107 = 3) (hA : Wp (d + 2, 177, 0, [some (.ref 98), none], [], G) (RV R)) : Wp (d + 3, 175, 12, [some (.ref 98), some (.int (N fr.length)), none], [], G) (RV R) := by
  have hT := p.hts hE
  have est := p.zst hE
  obtain ⟨t1, t2, t3, t4⟩ := p.tok hE
  have t5 := p.zl hE
  obtain ⟨⟨e1, e2, e3, e4, e5⟩, ⟨e6, e7, e8, e9⟩, b1, b2, b3, b4⟩ := p.bd
  try simp only [List.length_cons, List.length_append, List.length_nil, ptc_len, List.length_dropLast] at e2 e4 e5 b1 b2 b3 b4
  refine w_load rfl rfl rfl ?_
  refine w_getP rfl hT.o (hT.p rfl) ?_
  refine w_load rfl rfl rfl ?_
  refine w_iald rfl (hT.t rfl) (hT.n rfl) (by omega) (by decide) ?_
  refine w_const (5) rfl rfl ?_
  refine w_icmp_ne rfl (fun hc19 => ?_) (fun hc19 => ?_)
  · try simp (disch := omega) only [zF_wF, zF_wA, zF_wJ, zF_wD, zA_wF, zA_wA, zA_wJ, zA_wD, zL_wJ, zL_wF, zL_wA, zL_wD, J_wr, wr_zF, wr_zA, wrJ_zL, wr_id, wrJ_id, ne_eq, reduceCtorEq, not_false_eq_true, not_true_eq_false, if_true, if_false, Nat.reduceEqDiff, eq_self, wif0, if0, Decidable.not_not, p.rd, h7] at hc19
    refine w_load rfl rfl rfl ?_
    refine w_getP rfl hT.o (hT.p rfl) ?_
    refine w_load rfl rfl rfl ?_
    refine w_iald rfl (hT.t rfl) (hT.n rfl) (by omega) (by decide) ?_
    refine w_const (4) rfl rfl ?_
    refine w_icmp_ne rfl (fun hc87 => ?_) (fun hc87 => ?_)
    · try simp (disch := omega) only [zF_wF, zF_wA, zF_wJ, zF_wD, zA_wF, zA_wA, zA_wJ, zA_wD, zL_wJ, zL_wF, zL_wA, zL_wD, J_wr, wr_zF, wr_zA, wrJ_zL, wr_id, wrJ_id, ne_eq, reduceCtorEq, not_false_eq_true, not_true_eq_false, if_true, if_false, Nat.reduceEqDiff, eq_self, wif0, if0, Decidable.not_not, p.rd, h7] at hc87
      refine w_load rfl rfl rfl ?_
      refine w_getP rfl hT.o (hT.p rfl) ?_
      refine w_load rfl rfl rfl ?_
      refine w_iald rfl (hT.t rfl) (hT.n rfl) (by omega) (by decide) ?_
      refine w_const (2) rfl rfl ?_
      refine w_icmp_ne rfl (fun hc171 => ?_) (fun hc171 => ?_)
      · try simp (disch := omega) only [zF_wF, zF_wA, zF_wJ, zF_wD, zA_wF, zA_wA, zA_wJ, zA_wD, zL_wJ, zL_wF, zL_wA, zL_wD, J_wr, wr_zF, wr_zA, wrJ_zL, wr_id, wrJ_id, ne_eq, reduceCtorEq, not_false_eq_true, not_true_eq_false, if_true, if_false, Nat.reduceEqDiff, eq_self, wif0, if0, Decidable.not_not, p.rd, h7] at hc171
        refine w_load rfl rfl rfl ?_
        refine w_getP rfl hT.o (hT.p rfl) ?_
        refine w_load rfl rfl rfl ?_
        refine w_iald rfl (hT.t rfl) (hT.n rfl) (by omega) (by decide) ?_
        refine w_const (3) rfl rfl ?_
        refine w_icmp_ne rfl (fun hc223 => ?_) (fun hc223 => ?_)
        · exfalso; simp (disch := omega) only [zF_wF, zF_wA, zF_wJ, zF_wD, zA_wF, zA_wA, zA_wJ, zA_wD, zL_wJ, zL_wF, zL_wA, zL_wD, J_wr, wr_zF, wr_zA, wrJ_zL, wr_id, wrJ_id, ne_eq, reduceCtorEq, not_false_eq_true, not_true_eq_false, if_true, if_false, Nat.reduceEqDiff, eq_self, wif0, if0, Decidable.not_not, p.rd, h7] at hc223 <;> omega
        · try simp (disch := omega) only [zF_wF, zF_wA, zF_wJ, zF_wD, zA_wF, zA_wA, zA_wJ, zA_wD, zL_wJ, zL_wF, zL_wA, zL_wD, J_wr, wr_zF, wr_zA, wrJ_zL, wr_id, wrJ_id, ne_eq, reduceCtorEq, not_false_eq_true, not_true_eq_false, if_true, if_false, Nat.reduceEqDiff, eq_self, wif0, if0, Decidable.not_not, p.rd, h7] at hc223
          refine w_load rfl rfl rfl ?_
          refine w_callV1 rfl (Nat.le_of_ble_eq_true rfl) (Or.inr (Or.inr hT.o)) (Nat.le_of_ble_eq_true rfl) (hA) (fun G227 h227 => ?_)
          skip
          refine w_goto rfl ?_
          refine w_return rfl ?_
          exact RV.mk h227
      · exfalso; simp (disch := omega) only [zF_wF, zF_wA, zF_wJ, zF_wD, zA_wF, zA_wA, zA_wJ, zA_wD, zL_wJ, zL_wF, zL_wA, zL_wD, J_wr, wr_zF, wr_zA, wrJ_zL, wr_id, wrJ_id, ne_eq, reduceCtorEq, not_false_eq_true, not_true_eq_false, if_true, if_false, Nat.reduceEqDiff, eq_self, wif0, if0, Decidable.not_not, p.rd, h7] at hc171 <;> omega
    · exfalso; simp (disch := omega) only [zF_wF, zF_wA, zF_wJ, zF_wD, zA_wF, zA_wA, zA_wJ, zA_wD, zL_wJ, zL_wF, zL_wA, zL_wD, J_wr, wr_zF, wr_zA, wrJ_zL, wr_id, wrJ_id, ne_eq, reduceCtorEq, not_false_eq_true, not_true_eq_false, if_true, if_false, Nat.reduceEqDiff, eq_self, wif0, if0, Decidable.not_not, p.rd, h7] at hc87 <;> omega
  · exfalso; simp (disch := omega) only [zF_wF, zF_wA, zF_wJ, zF_wD, zA_wF, zA_wA, zA_wJ, zA_wD, zL_wJ, zL_wF, zL_wA, zL_wD, J_wr, wr_zF, wr_zA, wrJ_zL, wr_id, wrJ_id, ne_eq, reduceCtorEq, not_false_eq_true, not_true_eq_false, if_true, if_false, Nat.reduceEqDiff, eq_self, wif0, if0, Decidable.not_not, p.rd, h7] at hc19 <;> omega
theorem tw_fin0 {R : mG → Prop} (hE : PEnv f n T G0 st) (p : PR T G0 st G i out op [F] wt ta ts) (h7 : F 107 = 0 ∨ F 107 = 1) (h36 : ¬ tkd n T i = 36) (hA : Wp (d + 2, 178, 0, [some (.ref 98), none, none], [], G) (RV R)) : Wp (d + 3, 175, 12, [some (.ref 98), some (.int (N (0 : Nat))), none], [], G) (RV R) := by
  have h41 := hE.2.2.1
  have hT := p.hts hE
  have est := p.zst hE
  obtain ⟨t1, t2, t3, t4⟩ := p.tok hE
  have t5 := p.zl hE
  obtain ⟨⟨e1, e2, e3, e4, e5⟩, ⟨e6, e7, e8, e9⟩, b1, b2, b3, b4⟩ := p.bd
  try simp only [List.length_cons, List.length_append, List.length_nil, ptc_len, List.length_dropLast] at e2 e4 e5 b1 b2 b3 b4
  have rd : ∀ {x : Nat} {k : Int}, k = ((0 : Nat) : Int) → 107 ≤ x → x ≤ 115 → zA G x k = F x := fun h a b => p.rd h a b
  have hw : wr (F 107) = F 107 := wr_id (by omega) (by omega)
  refine w_load rfl rfl rfl ?_
  refine w_getP rfl hT.o (hT.p rfl) ?_
  refine w_load rfl rfl rfl ?_
  refine w_iald rfl (hT.t rfl) (hT.n rfl) (by omega) (by decide) ?_
  refine w_const (5) rfl rfl ?_
  refine w_icmp_ne rfl (fun hc19 => ?_) (fun hc19 => ?_)
  · try simp (disch := omega) only [zF_wF, zF_wA, zF_wJ, zF_wD, zA_wF, zA_wA, zA_wJ, zA_wD, zL_wJ, zL_wF, zL_wA, zL_wD, J_wr, wr_zF, wr_zA, wrJ_zL, wr_id, wrJ_id, ne_eq, reduceCtorEq, not_false_eq_true, not_true_eq_false, if_true, if_false, Nat.reduceEqDiff, eq_self, wif0, if0, Decidable.not_not, rd, hw, t1, wr_tkc, tkc0] at hc19
    refine w_load rfl rfl rfl ?_
    refine w_getP rfl hT.o (hT.p rfl) ?_
    refine w_load rfl rfl rfl ?_
    refine w_iald rfl (hT.t rfl) (hT.n rfl) (by omega) (by decide) ?_
    refine w_const (4) rfl rfl ?_
    refine w_icmp_ne rfl (fun hc87 => ?_) (fun hc87 => ?_)
    · try simp (disch := omega) only [zF_wF, zF_wA, zF_wJ, zF_wD, zA_wF, zA_wA, zA_wJ, zA_wD, zL_wJ, zL_wF, zL_wA, zL_wD, J_wr, wr_zF, wr_zA, wrJ_zL, wr_id, wrJ_id, ne_eq, reduceCtorEq, not_false_eq_true, not_true_eq_false, if_true, if_false, Nat.reduceEqDiff, eq_self, wif0, if0, Decidable.not_not, rd, hw, t1, wr_tkc, tkc0] at hc87
      refine w_load rfl rfl rfl ?_
      refine w_getP rfl hT.o (hT.p rfl) ?_
      refine w_load rfl rfl rfl ?_
      refine w_iald rfl (hT.t rfl) (hT.n rfl) (by omega) (by decide) ?_
      refine w_const (2) rfl rfl ?_
      refine w_icmp_ne rfl (fun hc171 => ?_) (fun hc171 => ?_)
      · try simp (disch := omega) only [zF_wF, zF_wA, zF_wJ, zF_wD, zA_wF, zA_wA, zA_wJ, zA_wD, zL_wJ, zL_wF, zL_wA, zL_wD, J_wr, wr_zF, wr_zA, wrJ_zL, wr_id, wrJ_id, ne_eq, reduceCtorEq, not_false_eq_true, not_true_eq_false, if_true, if_false, Nat.reduceEqDiff, eq_self, wif0, if0, Decidable.not_not, rd, hw, t1, wr_tkc, tkc0] at hc171
        refine w_load rfl rfl rfl ?_
        refine w_getP rfl hT.o (hT.p rfl) ?_
        refine w_load rfl rfl rfl ?_
        refine w_iald rfl (hT.t rfl) (hT.n rfl) (by omega) (by decide) ?_
        refine w_const (3) rfl rfl ?_
        refine w_icmp_ne rfl (fun hc223 => ?_) (fun hc223 => ?_)
        · try simp (disch := omega) only [zF_wF, zF_wA, zF_wJ, zF_wD, zA_wF, zA_wA, zA_wJ, zA_wD, zL_wJ, zL_wF, zL_wA, zL_wD, J_wr, wr_zF, wr_zA, wrJ_zL, wr_id, wrJ_id, ne_eq, reduceCtorEq, not_false_eq_true, not_true_eq_false, if_true, if_false, Nat.reduceEqDiff, eq_self, wif0, if0, Decidable.not_not, rd, hw, t1, wr_tkc, tkc0] at hc223
          refine w_load rfl rfl rfl ?_
          refine w_getP rfl hT.o (hT.p rfl) ?_
          refine w_load rfl rfl rfl ?_
          refine w_getI0k rfl hT.o (e1) ?_
          refine w_iald rfl (hT.t rfl) (hT.n rfl) (by omega) (by decide) ?_
          refine w_if_eq rfl (fun hc242 => ?_) (fun hc242 => ?_)
          · exfalso; simp (disch := omega) only [zF_wF, zF_wA, zF_wJ, zF_wD, zA_wF, zA_wA, zA_wJ, zA_wD, zL_wJ, zL_wF, zL_wA, zL_wD, J_wr, wr_zF, wr_zA, wrJ_zL, wr_id, wrJ_id, ne_eq, reduceCtorEq, not_false_eq_true, not_true_eq_false, if_true, if_false, Nat.reduceEqDiff, eq_self, wif0, if0, Decidable.not_not, rd, hw, t1, wr_tkc, tkc0] at hc242 <;> omega
          · try simp (disch := omega) only [zF_wF, zF_wA, zF_wJ, zF_wD, zA_wF, zA_wA, zA_wJ, zA_wD, zL_wJ, zL_wF, zL_wA, zL_wD, J_wr, wr_zF, wr_zA, wrJ_zL, wr_id, wrJ_id, ne_eq, reduceCtorEq, not_false_eq_true, not_true_eq_false, if_true, if_false, Nat.reduceEqDiff, eq_self, wif0, if0, Decidable.not_not, rd, hw, t1, wr_tkc, tkc0] at hc242
            refine w_load rfl rfl rfl ?_
            refine w_callV1 rfl (Nat.le_of_ble_eq_true rfl) (Or.inr (Or.inr hT.o)) (Nat.le_of_ble_eq_true rfl) (hA) (fun G246 h246 => ?_)
            skip
            refine w_goto rfl ?_
            refine w_return rfl ?_
            exact RV.mk h246
        · exfalso; simp (disch := omega) only [zF_wF, zF_wA, zF_wJ, zF_wD, zA_wF, zA_wA, zA_wJ, zA_wD, zL_wJ, zL_wF, zL_wA, zL_wD, J_wr, wr_zF, wr_zA, wrJ_zL, wr_id, wrJ_id, ne_eq, reduceCtorEq, not_false_eq_true, not_true_eq_false, if_true, if_false, Nat.reduceEqDiff, eq_self, wif0, if0, Decidable.not_not, rd, hw, t1, wr_tkc, tkc0] at hc223 <;> omega
      · exfalso; simp (disch := omega) only [zF_wF, zF_wA, zF_wJ, zF_wD, zA_wF, zA_wA, zA_wJ, zA_wD, zL_wJ, zL_wF, zL_wA, zL_wD, J_wr, wr_zF, wr_zA, wrJ_zL, wr_id, wrJ_id, ne_eq, reduceCtorEq, not_false_eq_true, not_true_eq_false, if_true, if_false, Nat.reduceEqDiff, eq_self, wif0, if0, Decidable.not_not, rd, hw, t1, wr_tkc, tkc0] at hc171 <;> omega
    · exfalso; simp (disch := omega) only [zF_wF, zF_wA, zF_wJ, zF_wD, zA_wF, zA_wA, zA_wJ, zA_wD, zL_wJ, zL_wF, zL_wA, zL_wD, J_wr, wr_zF, wr_zA, wrJ_zL, wr_id, wrJ_id, ne_eq, reduceCtorEq, not_false_eq_true, not_true_eq_false, if_true, if_false, Nat.reduceEqDiff, eq_self, wif0, if0, Decidable.not_not, rd, hw, t1, wr_tkc, tkc0] at hc87 <;> omega
  · exfalso; simp (disch := omega) only [zF_wF, zF_wA, zF_wJ, zF_wD, zA_wF, zA_wA, zA_wJ, zA_wD, zL_wJ, zL_wF, zL_wA, zL_wD, J_wr, wr_zF, wr_zA, wrJ_zL, wr_id, wrJ_id, ne_eq, reduceCtorEq, not_false_eq_true, not_true_eq_false, if_true, if_false, Nat.reduceEqDiff, eq_self, wif0, if0, Decidable.not_not, rd, hw, t1, wr_tkc, tkc0] at hc19 <;> omega
theorem tw_fin0e (hE : PEnv f n T G0 st) (p : PR T G0 st G i out op [F] wt ta ts) (h7 : F 107 = 0 ∨ F 107 = 1) (h36 : tkd n T i = 36) (hl : out.length ≤ 89) (ht : F 107 = 1 → 0 ≤ ts ∧ ts ≤ 100) : Wp (d + 3, 175, 12, [some (.ref 98), some (.int (N (0 : Nat))), none], [], G) (RV fun G' => PD G0 st G' (if F 107 = 1 then out ++ [(ts, ta)] else out)) := by
  have h41 := hE.2.2.1
  have hT := p.hts hE
  have est := p.zst hE
  obtain ⟨t1, t2, t3, t4⟩ := p.tok hE
  have t5 := p.zl hE
  obtain ⟨⟨e1, e2, e3, e4, e5⟩, ⟨e6, e7, e8, e9⟩, b1, b2, b3, b4⟩ := p.bd
  try simp only [List.length_cons, List.length_append, List.length_nil, ptc_len, List.length_dropLast] at e2 e4 e5 b1 b2 b3 b4
  have rd : ∀ {x : Nat} {k : Int}, k = ((0 : Nat) : Int) → 107 ≤ x → x ≤ 115 → zA G x k = F x := fun h a b => p.rd h a b
  have hw : wr (F 107) = F 107 := wr_id (by omega) (by omega)
  have hta : wr ta = ta := by rw [← e6]; exact wr_zF _ _ _
  refine w_load rfl rfl rfl ?_
  refine w_getP rfl hT.o (hT.p rfl) ?_
  refine w_load rfl rfl rfl ?_
  refine w_iald rfl (hT.t rfl) (hT.n rfl) (by omega) (by decide) ?_
  refine w_const (5) rfl rfl ?_
  refine w_icmp_ne rfl (fun hc19 => ?_) (fun hc19 => ?_)
  · try simp (disch := omega) only [zF_wF, zF_wA, zF_wJ, zF_wD, zA_wF, zA_wA, zA_wJ, zA_wD, zL_wJ, zL_wF, zL_wA, zL_wD, J_wr, wr_zF, wr_zA, wrJ_zL, wr_id, wrJ_id, ne_eq, reduceCtorEq, not_false_eq_true, not_true_eq_false, if_true, if_false, Nat.reduceEqDiff, eq_self, wif0, if0, Decidable.not_not, rd, hw, t1, wr_tkc, tkc0] at hc19
    refine w_load rfl rfl rfl ?_
    refine w_getP rfl hT.o (hT.p rfl) ?_
    refine w_load rfl rfl rfl ?_
    refine w_iald rfl (hT.t rfl) (hT.n rfl) (by omega) (by decide) ?_
    refine w_const (4) rfl rfl ?_
    refine w_icmp_ne rfl (fun hc87 => ?_) (fun hc87 => ?_)
    · try simp (disch := omega) only [zF_wF, zF_wA, zF_wJ, zF_wD, zA_wF, zA_wA, zA_wJ, zA_wD, zL_wJ, zL_wF, zL_wA, zL_wD, J_wr, wr_zF, wr_zA, wrJ_zL, wr_id, wrJ_id, ne_eq, reduceCtorEq, not_false_eq_true, not_true_eq_false, if_true, if_false, Nat.reduceEqDiff, eq_self, wif0, if0, Decidable.not_not, rd, hw, t1, wr_tkc, tkc0] at hc87
      refine w_load rfl rfl rfl ?_
      refine w_getP rfl hT.o (hT.p rfl) ?_
      refine w_load rfl rfl rfl ?_
      refine w_iald rfl (hT.t rfl) (hT.n rfl) (by omega) (by decide) ?_
      refine w_const (2) rfl rfl ?_
      refine w_icmp_ne rfl (fun hc171 => ?_) (fun hc171 => ?_)
      · try simp (disch := omega) only [zF_wF, zF_wA, zF_wJ, zF_wD, zA_wF, zA_wA, zA_wJ, zA_wD, zL_wJ, zL_wF, zL_wA, zL_wD, J_wr, wr_zF, wr_zA, wrJ_zL, wr_id, wrJ_id, ne_eq, reduceCtorEq, not_false_eq_true, not_true_eq_false, if_true, if_false, Nat.reduceEqDiff, eq_self, wif0, if0, Decidable.not_not, rd, hw, t1, wr_tkc, tkc0] at hc171
        refine w_load rfl rfl rfl ?_
        refine w_getP rfl hT.o (hT.p rfl) ?_
        refine w_load rfl rfl rfl ?_
        refine w_iald rfl (hT.t rfl) (hT.n rfl) (by omega) (by decide) ?_
        refine w_const (3) rfl rfl ?_
        refine w_icmp_ne rfl (fun hc223 => ?_) (fun hc223 => ?_)
        · try simp (disch := omega) only [zF_wF, zF_wA, zF_wJ, zF_wD, zA_wF, zA_wA, zA_wJ, zA_wD, zL_wJ, zL_wF, zL_wA, zL_wD, J_wr, wr_zF, wr_zA, wrJ_zL, wr_id, wrJ_id, ne_eq, reduceCtorEq, not_false_eq_true, not_true_eq_false, if_true, if_false, Nat.reduceEqDiff, eq_self, wif0, if0, Decidable.not_not, rd, hw, t1, wr_tkc, tkc0] at hc223
          refine w_load rfl rfl rfl ?_
          refine w_getP rfl hT.o (hT.p rfl) ?_
          refine w_load rfl rfl rfl ?_
          refine w_getI0k rfl hT.o (e1) ?_
          refine w_iald rfl (hT.t rfl) (hT.n rfl) (by omega) (by decide) ?_
          refine w_if_eq rfl (fun hc242 => ?_) (fun hc242 => ?_)
          · try simp (disch := omega) only [zF_wF, zF_wA, zF_wJ, zF_wD, zA_wF, zA_wA, zA_wJ, zA_wD, zL_wJ, zL_wF, zL_wA, zL_wD, J_wr, wr_zF, wr_zA, wrJ_zL, wr_id, wrJ_id, ne_eq, reduceCtorEq, not_false_eq_true, not_true_eq_false, if_true, if_false, Nat.reduceEqDiff, eq_self, wif0, if0, Decidable.not_not, rd, hw, t1, wr_tkc, tkc0] at hc242
            refine w_load rfl rfl rfl ?_
            refine w_getP rfl hT.o (hT.p rfl) ?_
            refine w_load rfl rfl rfl ?_
            refine w_iald rfl (hT.t rfl) (hT.n rfl) (by omega) (by decide) ?_
            refine w_const (1) rfl rfl ?_
            refine w_icmp_ne rfl (fun hc259 => ?_) (fun hc259 => ?_)
            · try simp (disch := omega) only [zF_wF, zF_wA, zF_wJ, zF_wD, zA_wF, zA_wA, zA_wJ, zA_wD, zL_wJ, zL_wF, zL_wA, zL_wD, J_wr, wr_zF, wr_zA, wrJ_zL, wr_id, wrJ_id, ne_eq, reduceCtorEq, not_false_eq_true, not_true_eq_false, if_true, if_false, Nat.reduceEqDiff, eq_self, wif0, if0, Decidable.not_not, rd, hw, t1, wr_tkc, tkc0] at hc259
              refine w_load rfl rfl rfl ?_
              refine w_const (1) rfl rfl ?_
              refine w_putI4 rfl hT.o (by first | exact Or.inl rfl | exact Or.inr rfl | omega) ?_
              refine w_return rfl ?_
              first | exact RV.mk (by rw [if_pos (by omega)]; exact p.don) | exact RV.mk (by rw [if_neg (by omega)]; exact p.don)
            · try simp (disch := omega) only [zF_wF, zF_wA, zF_wJ, zF_wD, zA_wF, zA_wA, zA_wJ, zA_wD, zL_wJ, zL_wF, zL_wA, zL_wD, J_wr, wr_zF, wr_zA, wrJ_zL, wr_id, wrJ_id, ne_eq, reduceCtorEq, not_false_eq_true, not_true_eq_false, if_true, if_false, Nat.reduceEqDiff, eq_self, wif0, if0, Decidable.not_not, rd, hw, t1, wr_tkc, tkc0] at hc259
              refine w_load rfl rfl rfl ?_
              refine w_load rfl rfl rfl ?_
              refine w_getI0k rfl hT.o (e7) ?_
              refine w_load rfl rfl rfl ?_
              refine w_getI0k rfl hT.o (e6) ?_
              refine w_i2l rfl ?_
              refine w_callI3 rfl (Nat.le_of_ble_eq_true rfl) (Or.inr (Or.inr hT.o)) (Nat.le_of_ble_eq_true rfl) (tw_emit hE p (v := ta) (by omega) (ht (by omega)) (by rw [hta])) (fun z272 G272 h272 => ?_)
              obtain ⟨-, p, -⟩ := h272
              have hT := p.hts hE
              have est := p.zst hE
              obtain ⟨t1, t2, t3, t4⟩ := p.tok hE
              have t5 := p.zl hE
              obtain ⟨⟨e1, e2, e3, e4, e5⟩, ⟨e6, e7, e8, e9⟩, b1, b2, b3, b4⟩ := p.bd
              try simp only [List.length_cons, List.length_append, List.length_nil, ptc_len, List.length_dropLast] at e2 e4 e5 b1 b2 b3 b4
              refine w_pop rfl rfl ?_
              refine w_load rfl rfl rfl ?_
              refine w_const (1) rfl rfl ?_
              refine w_putI4 rfl hT.o (by first | exact Or.inl rfl | exact Or.inr rfl | omega) ?_
              refine w_return rfl ?_
              first | exact RV.mk (by rw [if_pos (by omega)]; exact p.don) | exact RV.mk (by rw [if_neg (by omega)]; exact p.don)
          · exfalso; simp (disch := omega) only [zF_wF, zF_wA, zF_wJ, zF_wD, zA_wF, zA_wA, zA_wJ, zA_wD, zL_wJ, zL_wF, zL_wA, zL_wD, J_wr, wr_zF, wr_zA, wrJ_zL, wr_id, wrJ_id, ne_eq, reduceCtorEq, not_false_eq_true, not_true_eq_false, if_true, if_false, Nat.reduceEqDiff, eq_self, wif0, if0, Decidable.not_not, rd, hw, t1, wr_tkc, tkc0] at hc242 <;> omega
        · exfalso; simp (disch := omega) only [zF_wF, zF_wA, zF_wJ, zF_wD, zA_wF, zA_wA, zA_wJ, zA_wD, zL_wJ, zL_wF, zL_wA, zL_wD, J_wr, wr_zF, wr_zA, wrJ_zL, wr_id, wrJ_id, ne_eq, reduceCtorEq, not_false_eq_true, not_true_eq_false, if_true, if_false, Nat.reduceEqDiff, eq_self, wif0, if0, Decidable.not_not, rd, hw, t1, wr_tkc, tkc0] at hc223 <;> omega
      · exfalso; simp (disch := omega) only [zF_wF, zF_wA, zF_wJ, zF_wD, zA_wF, zA_wA, zA_wJ, zA_wD, zL_wJ, zL_wF, zL_wA, zL_wD, J_wr, wr_zF, wr_zA, wrJ_zL, wr_id, wrJ_id, ne_eq, reduceCtorEq, not_false_eq_true, not_true_eq_false, if_true, if_false, Nat.reduceEqDiff, eq_self, wif0, if0, Decidable.not_not, rd, hw, t1, wr_tkc, tkc0] at hc171 <;> omega
    · exfalso; simp (disch := omega) only [zF_wF, zF_wA, zF_wJ, zF_wD, zA_wF, zA_wA, zA_wJ, zA_wD, zL_wJ, zL_wF, zL_wA, zL_wD, J_wr, wr_zF, wr_zA, wrJ_zL, wr_id, wrJ_id, ne_eq, reduceCtorEq, not_false_eq_true, not_true_eq_false, if_true, if_false, Nat.reduceEqDiff, eq_self, wif0, if0, Decidable.not_not, rd, hw, t1, wr_tkc, tkc0] at hc87 <;> omega
  · exfalso; simp (disch := omega) only [zF_wF, zF_wA, zF_wJ, zF_wD, zA_wF, zA_wA, zA_wJ, zA_wD, zL_wJ, zL_wF, zL_wA, zL_wD, J_wr, wr_zF, wr_zA, wrJ_zL, wr_id, wrJ_id, ne_eq, reduceCtorEq, not_false_eq_true, not_true_eq_false, if_true, if_false, Nat.reduceEqDiff, eq_self, wif0, if0, Decidable.not_not, rd, hw, t1, wr_tkc, tkc0] at hc19 <;> omega
end tw13

