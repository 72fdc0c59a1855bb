/-! THE TWIN's READING: what stands first -/
set_option maxRecDepth 100000
section tw11
variable (f : Int → Int) (n : Int) (T : List (Int × Int × Int)) (G0 : mG) (st : Nat) (i : Nat) (out : List Sp) (fr wt : List Fm) (F : Fm) (ta ts : Int)
/-- what first leaves -/
def FsP (G' : mG) : Prop :=
  (tkd n T i = 48 ∨ tkd n T i = 39 ∨ tkd n T i = 11776) ∧ PR T G0 st G' (i + 1) (out ++ [(if tkd n T i = 48 then 1 else if tkd n T i = 39 then 5 else 1 + tsc f n T i, tvl f n T i)]) false (up F 115 0 :: fr) wt ta ts
  ∨ tkd n T i = 97 ∧ (fixd (tvl f n T i) = true ∧ PR T G0 st G' (i + 1) (out ++ [(fixS (tvl f n T i), 0)]) false (up F 115 0 :: fr) wt ta ts
    ∨ ¬ fixd (tvl f n T i) = true ∧ NmP n T G0 st (i + 1) (out ++ [(10, 0)]) fr wt F ta ts (tvl f n T i) 0 G')
  ∨ (F 109 = 0 ∧ (tkd n T i = 45 ∨ tkd n T i = 33)) ∧ PR T G0 st G' (i + 1) out true (up (up F 109 (if tkd n T i = 45 then 30 else 31)) 114 0 :: fr) wt ta ts
  ∨ tkd n T i = 40 ∧ (fr.length = 4 ∧ PE G0 st G' 3 (tpl n T (i + 1)) ∨ fr.length < 4 ∧ ∃ F', Frsh F' 2 wt.length ∧ PR T G0 st G' (i + 1) out true (F' :: F :: fr) wt ta ts)
  ∨ tkd n T i = 35 ∧ (tkd n T (i + 1) = 97 ∧ PR T G0 st G' (i + 2) (out ++ [(9, tvl f n T (i + 1))]) false (up F 115 1 :: fr) wt ta ts ∨ ¬ tkd n T (i + 1) = 97 ∧ PE G0 st G' 2 (tpl n T (i + 1)))
  ∨ (¬ tkd n T i = 48 ∧ ¬ tkd n T i = 39 ∧ ¬ tkd n T i = 11776 ∧ ¬ tkd n T i = 97 ∧ ¬ (F 109 = 0 ∧ (tkd n T i = 45 ∨ tkd n T i = 33)) ∧ ¬ tkd n T i = 40 ∧ ¬ tkd n T i = 35) ∧ PE G0 st G' 2 (tpl n T i)
variable {f n T G0 st i out fr wt F ta ts} {G : mG} {d : Nat} {Q : mR → Prop}
theorem tw_first (hE : PEnv f n T G0 st) (p : PR T G0 st G i out true (F :: fr) wt ta ts) (ho : out.length + 3 ≤ 90) : Wp (d + 5, 166, 0, [some (.ref 98), none, none], [], G) (RV (FsP f n T G0 st i out fr wt F ta ts)) := by
  have h41 := hE.2.2.1
  have hF : wr (F 109) = F 109 := by rw [← p.rd (x := 109) rfl (by decide) (by decide)]; exact wr_zA _ _ _
  have hsc := hE.2.2.2.2.2.2.2.2 i
  have hT := p.hts hE
  have est := p.zst hE
  obtain ⟨t1, t2, t3, t4⟩ := p.tok hE
  have t5 := p.zl hE
  obtain ⟨⟨e1, e2, e3, e4, e5⟩, ⟨e6, e7, e8, e9⟩, b1, b2, b3, b4⟩ := p.bd
  try simp only [List.length_cons, List.length_append, List.length_nil, ptc_len, List.length_dropLast] at e2 e4 e5 b1 b2 b3 b4
  refine w_load rfl rfl rfl ?_
  refine w_getP rfl hT.o (hT.p rfl) ?_
  refine w_load rfl rfl rfl ?_
  refine w_getI0k rfl hT.o (e1) ?_
  refine w_iald rfl (hT.t rfl) (hT.n rfl) (by omega) (by decide) ?_
  refine w_st1 rfl rfl rfl ?_
  refine w_load rfl rfl rfl ?_
  refine w_getI0k rfl hT.o (e4) ?_
  refine w_const (1) rfl rfl ?_
  refine w_isub rfl ?_
  refine w_st2 rfl rfl rfl ?_
  refine w_load rfl rfl rfl ?_
  refine w_const (1) rfl rfl ?_
  refine w_icmp_eq rfl (fun hc19 => ?_) (fun hc19 => ?_)
  · try simp (disch := omega) only [zF_wF, zF_wA, zF_wJ, zF_wD, zA_wF, zA_wA, zA_wJ, zA_wD, zL_wJ, zL_wF, zL_wA, zL_wD, J_wr, wr_zF, wr_zA, wrJ_zL, wr_id, wrJ_id, ne_eq, reduceCtorEq, not_false_eq_true, not_true_eq_false, if_true, if_false, Nat.reduceEqDiff, eq_self, wif0, if0, Decidable.not_not, t1, wr_tkc, tkc1, tkc2, tkc3, tkc4, p.rd, hF] at hc19
    refine w_load rfl rfl rfl ?_
    refine w_load rfl rfl rfl ?_
    refine w_const (1) rfl rfl ?_
    refine w_icmp_ne rfl (fun hc35 => ?_) (fun hc35 => ?_)
    · try simp (disch := omega) only [zF_wF, zF_wA, zF_wJ, zF_wD, zA_wF, zA_wA, zA_wJ, zA_wD, zL_wJ, zL_wF, zL_wA, zL_wD, J_wr, wr_zF, wr_zA, wrJ_zL, wr_id, wrJ_id, ne_eq, reduceCtorEq, not_false_eq_true, not_true_eq_false, if_true, if_false, Nat.reduceEqDiff, eq_self, wif0, if0, Decidable.not_not, t1, wr_tkc, tkc1, tkc2, tkc3, tkc4, p.rd, hF] at hc35
      refine w_load rfl rfl rfl ?_
      refine w_const (4) rfl rfl ?_
      refine w_icmp_ne rfl (fun hc44 => ?_) (fun hc44 => ?_)
      · try simp (disch := omega) only [zF_wF, zF_wA, zF_wJ, zF_wD, zA_wF, zA_wA, zA_wJ, zA_wD, zL_wJ, zL_wF, zL_wA, zL_wD, J_wr, wr_zF, wr_zA, wrJ_zL, wr_id, wrJ_id, ne_eq, reduceCtorEq, not_false_eq_true, not_true_eq_false, if_true, if_false, Nat.reduceEqDiff, eq_self, wif0, if0, Decidable.not_not, t1, wr_tkc, tkc1, tkc2, tkc3, tkc4, p.rd, hF] at hc44
        refine w_const (2) rfl rfl ?_
        refine w_load rfl rfl rfl ?_
        refine w_getP rfl hT.o (hT.p rfl) ?_
        refine w_load rfl rfl rfl ?_
        refine w_getI0k rfl hT.o (e1) ?_
        refine w_iald rfl (hT.t rfl) (hT.n rfl) (by omega) (by decide) ?_
        refine w_iadd rfl ?_
        refine w_const (1) rfl rfl ?_
        refine w_isub rfl ?_
        refine w_load rfl rfl rfl ?_
        refine w_getP rfl hT.o (hT.p rfl) ?_
        refine w_load rfl rfl rfl ?_
        refine w_getI0k rfl hT.o (e1) ?_
        refine w_lald rfl (hT.t rfl) (hT.n rfl) (by omega) (by decide) ?_
        first
        | (rw [t5]; rw [t4])
        | rw [t5]
        refine w_callI3 rfl (Nat.le_of_ble_eq_true rfl) (Or.inr (Or.inr hT.o)) (Nat.le_of_ble_eq_true rfl) (tw_emit hE p (v := tvl f n T i) (by omega) (by omega) (by rw [J_wrJ])) (fun z73 G73 h73 => ?_)
        obtain ⟨-, p, -⟩ := h73
        have hT := p.hts hE
        have est := p.zst hE
        obtain ⟨t1, t2, t3, t4⟩ := p.tok hE
        have t5 := p.zl hE
        obtain ⟨⟨e1, e2, e3, e4, e5⟩, ⟨e6, e7, e8, e9⟩, b1, b2, b3, b4⟩ := p.bd
        try simp only [List.length_cons, List.length_append, List.length_nil, ptc_len, List.length_dropLast] at e2 e4 e5 b1 b2 b3 b4
        refine w_pop rfl rfl ?_
        refine w_load rfl rfl rfl ?_
        refine w_dup rfl rfl ?_
        refine w_getI0k rfl hT.o (e1) ?_
        refine w_const (1) rfl rfl ?_
        refine w_iadd rfl ?_
        refine w_putI0 rfl hT.o ?_
        refine w_pr (p.nxt (p.lt hE (by omega)) h41 rfl) (fun G p => ?_)
        have hT := p.hts hE
        have est := p.zst hE
        obtain ⟨t1, t2, t3, t4⟩ := p.tok hE
        have t5 := p.zl hE
        obtain ⟨⟨e1, e2, e3, e4, e5⟩, ⟨e6, e7, e8, e9⟩, b1, b2, b3, b4⟩ := p.bd
        try simp only [List.length_cons, List.length_append, List.length_nil, ptc_len, List.length_dropLast] at e2 e4 e5 b1 b2 b3 b4
        refine w_load rfl rfl rfl ?_
        refine w_const (0) rfl rfl ?_
        refine w_callV2 rfl (Nat.le_of_ble_eq_true rfl) (Or.inr (Or.inr hT.o)) (Nat.le_of_ble_eq_true rfl) (tw_ready hE p (Or.inl rfl)) (fun G89 h89 => ?_)
        skip
        refine w_goto rfl ?_
        refine w_return rfl ?_
        first
        | (refine RV.mk (Or.inl ⟨by omega, ?_⟩)
           first | (rw [if_pos (by omega)]; exact h89) | (rw [if_neg (by omega), if_pos (by omega)]; exact h89) | (rw [if_neg (by omega), if_neg (by omega), show 1 + tsc f n T i = 2 + tsc f n T i - 1 by omega]; exact h89))
        | exact RV.mk (Or.inr (Or.inl ⟨by omega, h101⟩))
        | (refine RV.mk (Or.inr (Or.inr (Or.inl ⟨⟨by omega, by omega⟩, ?_⟩)))
           first | (rw [if_pos (by omega)]; exact p) | (rw [if_neg (by omega)]; exact p))
        | (simp only [List.length_cons] at h197
           refine RV.mk (Or.inr (Or.inr (Or.inr (Or.inl ⟨by omega, ?_⟩))))
           rcases h197 with ⟨h1, h2, -⟩ | ⟨h1, h2⟩
           · exact Or.inl ⟨by omega, h2⟩
           · exact Or.inr ⟨by omega, h2⟩)
        | exact RV.mk (Or.inr (Or.inr (Or.inr (Or.inr (Or.inl ⟨by omega, Or.inl ⟨by omega, h268⟩⟩)))))
        | exact RV.mk (Or.inr (Or.inr (Or.inr (Or.inr (Or.inr ⟨by omega, h275⟩)))))
      · try simp (disch := omega) only [zF_wF, zF_wA, zF_wJ, zF_wD, zA_wF, zA_wA, zA_wJ, zA_wD, zL_wJ, zL_wF, zL_wA, zL_wD, J_wr, wr_zF, wr_zA, wrJ_zL, wr_id, wrJ_id, ne_eq, reduceCtorEq, not_false_eq_true, not_true_eq_false, if_true, if_false, Nat.reduceEqDiff, eq_self, wif0, if0, Decidable.not_not, t1, wr_tkc, tkc1, tkc2, tkc3, tkc4, p.rd, hF] at hc44
        refine w_const (5) rfl rfl ?_
        refine w_goto rfl ?_
        refine w_load rfl rfl rfl ?_
        refine w_getP rfl hT.o (hT.p rfl) ?_
        refine w_load rfl rfl rfl ?_
        refine w_getI0k rfl hT.o (e1) ?_
        refine w_lald rfl (hT.t rfl) (hT.n rfl) (by omega) (by decide) ?_
        first
        | (rw [t5]; rw [t4])
        | rw [t5]
        refine w_callI3 rfl (Nat.le_of_ble_eq_true rfl) (Or.inr (Or.inr hT.o)) (Nat.le_of_ble_eq_true rfl) (tw_emit hE p (v := tvl f n T i) (by omega) (by omega) (by rw [J_wrJ])) (fun z73 G73 h73 => ?_)
        obtain ⟨-, p, -⟩ := h73
        have hT := p.hts hE
        have est := p.zst hE
        obtain ⟨t1, t2, t3, t4⟩ := p.tok hE
        have t5 := p.zl hE
        obtain ⟨⟨e1, e2, e3, e4, e5⟩, ⟨e6, e7, e8, e9⟩, b1, b2, b3, b4⟩ := p.bd
        try simp only [List.length_cons, List.length_append, List.length_nil, ptc_len, List.length_dropLast] at e2 e4 e5 b1 b2 b3 b4
        refine w_pop rfl rfl ?_
        refine w_load rfl rfl rfl ?_
        refine w_dup rfl rfl ?_
        refine w_getI0k rfl hT.o (e1) ?_
        refine w_const (1) rfl rfl ?_
        refine w_iadd rfl ?_
        refine w_putI0 rfl hT.o ?_
        refine w_pr (p.nxt (p.lt hE (by omega)) h41 rfl) (fun G p => ?_)
        have hT := p.hts hE
        have est := p.zst hE
        obtain ⟨t1, t2, t3, t4⟩ := p.tok hE
        have t5 := p.zl hE
        obtain ⟨⟨e1, e2, e3, e4, e5⟩, ⟨e6, e7, e8, e9⟩, b1, b2, b3, b4⟩ := p.bd
        try simp only [List.length_cons, List.length_append, List.length_nil, ptc_len, List.length_dropLast] at e2 e4 e5 b1 b2 b3 b4
        refine w_load rfl rfl rfl ?_
        refine w_const (0) rfl rfl ?_
        refine w_callV2 rfl (Nat.le_of_ble_eq_true rfl) (Or.inr (Or.inr hT.o)) (Nat.le_of_ble_eq_true rfl) (tw_ready hE p (Or.inl rfl)) (fun G89 h89 => ?_)
        skip
        refine w_goto rfl ?_
        refine w_return rfl ?_
        first
        | (refine RV.mk (Or.inl ⟨by omega, ?_⟩)
           first | (rw [if_pos (by omega)]; exact h89) | (rw [if_neg (by omega), if_pos (by omega)]; exact h89) | (rw [if_neg (by omega), if_neg (by omega), show 1 + tsc f n T i = 2 + tsc f n T i - 1 by omega]; exact h89))
        | exact RV.mk (Or.inr (Or.inl ⟨by omega, h101⟩))
        | (refine RV.mk (Or.inr (Or.inr (Or.inl ⟨⟨by omega, by omega⟩, ?_⟩)))
           first | (rw [if_pos (by omega)]; exact p) | (rw [if_neg (by omega)]; exact p))
        | (simp only [List.length_cons] at h197
           refine RV.mk (Or.inr (Or.inr (Or.inr (Or.inl ⟨by omega, ?_⟩))))
           rcases h197 with ⟨h1, h2, -⟩ | ⟨h1, h2⟩
           · exact Or.inl ⟨by omega, h2⟩
           · exact Or.inr ⟨by omega, h2⟩)
        | exact RV.mk (Or.inr (Or.inr (Or.inr (Or.inr (Or.inl ⟨by omega, Or.inl ⟨by omega, h268⟩⟩)))))
        | exact RV.mk (Or.inr (Or.inr (Or.inr (Or.inr (Or.inr ⟨by omega, h275⟩)))))
    · try simp (disch := omega) only [zF_wF, zF_wA, zF_wJ, zF_wD, zA_wF, zA_wA, zA_wJ, zA_wD, zL_wJ, zL_wF, zL_wA, zL_wD, J_wr, wr_zF, wr_zA, wrJ_zL, wr_id, wrJ_id, ne_eq, reduceCtorEq, not_false_eq_true, not_true_eq_false, if_true, if_false, Nat.reduceEqDiff, eq_self, wif0, if0, Decidable.not_not, t1, wr_tkc, tkc1, tkc2, tkc3, tkc4, p.rd, hF] at hc35
      refine w_const (1) rfl rfl ?_
      refine w_goto rfl ?_
      refine w_load rfl rfl rfl ?_
      refine w_getP rfl hT.o (hT.p rfl) ?_
      refine w_load rfl rfl rfl ?_
      refine w_getI0k rfl hT.o (e1) ?_
      refine w_lald rfl (hT.t rfl) (hT.n rfl) (by omega) (by decide) ?_
      first
      | (rw [t5]; rw [t4])
      | rw [t5]
      refine w_callI3 rfl (Nat.le_of_ble_eq_true rfl) (Or.inr (Or.inr hT.o)) (Nat.le_of_ble_eq_true rfl) (tw_emit hE p (v := tvl f n T i) (by omega) (by omega) (by rw [J_wrJ])) (fun z73 G73 h73 => ?_)
      obtain ⟨-, p, -⟩ := h73
      have hT := p.hts hE
      have est := p.zst hE
      obtain ⟨t1, t2, t3, t4⟩ := p.tok hE
      have t5 := p.zl hE
      obtain ⟨⟨e1, e2, e3, e4, e5⟩, ⟨e6, e7, e8, e9⟩, b1, b2, b3, b4⟩ := p.bd
      try simp only [List.length_cons, List.length_append, List.length_nil, ptc_len, List.length_dropLast] at e2 e4 e5 b1 b2 b3 b4
      refine w_pop rfl rfl ?_
      refine w_load rfl rfl rfl ?_
      refine w_dup rfl rfl ?_
      refine w_getI0k rfl hT.o (e1) ?_
      refine w_const (1) rfl rfl ?_
      refine w_iadd rfl ?_
      refine w_putI0 rfl hT.o ?_
      refine w_pr (p.nxt (p.lt hE (by omega)) h41 rfl) (fun G p => ?_)
      have hT := p.hts hE
      have est := p.zst hE
      obtain ⟨t1, t2, t3, t4⟩ := p.tok hE
      have t5 := p.zl hE
      obtain ⟨⟨e1, e2, e3, e4, e5⟩, ⟨e6, e7, e8, e9⟩, b1, b2, b3, b4⟩ := p.bd
      try simp only [List.length_cons, List.length_append, List.length_nil, ptc_len, List.length_dropLast] at e2 e4 e5 b1 b2 b3 b4
      refine w_load rfl rfl rfl ?_
      refine w_const (0) rfl rfl ?_
      refine w_callV2 rfl (Nat.le_of_ble_eq_true rfl) (Or.inr (Or.inr hT.o)) (Nat.le_of_ble_eq_true rfl) (tw_ready hE p (Or.inl rfl)) (fun G89 h89 => ?_)
      skip
      refine w_goto rfl ?_
      refine w_return rfl ?_
      first
      | (refine RV.mk (Or.inl ⟨by omega, ?_⟩)
         first | (rw [if_pos (by omega)]; exact h89) | (rw [if_neg (by omega), if_pos (by omega)]; exact h89) | (rw [if_neg (by omega), if_neg (by omega), show 1 + tsc f n T i = 2 + tsc f n T i - 1 by omega]; exact h89))
      | exact RV.mk (Or.inr (Or.inl ⟨by omega, h101⟩))
      | (refine RV.mk (Or.inr (Or.inr (Or.inl ⟨⟨by omega, by omega⟩, ?_⟩)))
         first | (rw [if_pos (by omega)]; exact p) | (rw [if_neg (by omega)]; exact p))
      | (simp only [List.length_cons] at h197
         refine RV.mk (Or.inr (Or.inr (Or.inr (Or.inl ⟨by omega, ?_⟩))))
         rcases h197 with ⟨h1, h2, -⟩ | ⟨h1, h2⟩
         · exact Or.inl ⟨by omega, h2⟩
         · exact Or.inr ⟨by omega, h2⟩)
      | exact RV.mk (Or.inr (Or.inr (Or.inr (Or.inr (Or.inl ⟨by omega, Or.inl ⟨by omega, h268⟩⟩)))))
      | exact RV.mk (Or.inr (Or.inr (Or.inr (Or.inr (Or.inr ⟨by omega, h275⟩)))))
  · try simp (disch := omega) only [zF_wF, zF_wA, zF_wJ, zF_wD, zA_wF, zA_wA, zA_wJ, zA_wD, zL_wJ, zL_wF, zL_wA, zL_wD, J_wr, wr_zF, wr_zA, wrJ_zL, wr_id, wrJ_id, ne_eq, reduceCtorEq, not_false_eq_true, not_true_eq_false, if_true, if_false, Nat.reduceEqDiff, eq_self, wif0, if0, Decidable.not_not, t1, wr_tkc, tkc1, tkc2, tkc3, tkc4, p.rd, hF] at hc19
    refine w_load rfl rfl rfl ?_
    refine w_const (4) rfl rfl ?_
    refine w_icmp_eq rfl (fun hc24 => ?_) (fun hc24 => ?_)
    · try simp (disch := omega) only [zF_wF, zF_wA, zF_wJ, zF_wD, zA_wF, zA_wA, zA_wJ, zA_wD, zL_wJ, zL_wF, zL_wA, zL_wD, J_wr, wr_zF, wr_zA, wrJ_zL, wr_id, wrJ_id, ne_eq, reduceCtorEq, not_false_eq_true, not_true_eq_false, if_true, if_false, Nat.reduceEqDiff, eq_self, wif0, if0, Decidable.not_not, t1, wr_tkc, tkc1, tkc2, tkc3, tkc4, p.rd, hF] at hc24
      refine w_load rfl rfl rfl ?_
      refine w_load rfl rfl rfl ?_
      refine w_const (1) rfl rfl ?_
      refine w_icmp_ne rfl (fun hc35 => ?_) (fun hc35 => ?_)
      · try simp (disch := omega) only [zF_wF, zF_wA, zF_wJ, zF_wD, zA_wF, zA_wA, zA_wJ, zA_wD, zL_wJ, zL_wF, zL_wA, zL_wD, J_wr, wr_zF, wr_zA, wrJ_zL, wr_id, wrJ_id, ne_eq, reduceCtorEq, not_false_eq_true, not_true_eq_false, if_true, if_false, Nat.reduceEqDiff, eq_self, wif0, if0, Decidable.not_not, t1, wr_tkc, tkc1, tkc2, tkc3, tkc4, p.rd, hF] at hc35
        refine w_load rfl rfl rfl ?_
        refine w_const (4) rfl rfl ?_
        refine w_icmp_ne rfl (fun hc44 => ?_) (fun hc44 => ?_)
        · try simp (disch := omega) only [zF_wF, zF_wA, zF_wJ, zF_wD, zA_wF, zA_wA, zA_wJ, zA_wD, zL_wJ, zL_wF, zL_wA, zL_wD, J_wr, wr_zF, wr_zA, wrJ_zL, wr_id, wrJ_id, ne_eq, reduceCtorEq, not_false_eq_true, not_true_eq_false, if_true, if_false, Nat.reduceEqDiff, eq_self, wif0, if0, Decidable.not_not, t1, wr_tkc, tkc1, tkc2, tkc3, tkc4, p.rd, hF] at hc44
          refine w_const (2) rfl rfl ?_
          refine w_load rfl rfl rfl ?_
          refine w_getP rfl hT.o (hT.p rfl) ?_
          refine w_load rfl rfl rfl ?_
          refine w_getI0k rfl hT.o (e1) ?_
          refine w_iald rfl (hT.t rfl) (hT.n rfl) (by omega) (by decide) ?_
          refine w_iadd rfl ?_
          refine w_const (1) rfl rfl ?_
          refine w_isub rfl ?_
          refine w_load rfl rfl rfl ?_
          refine w_getP rfl hT.o (hT.p rfl) ?_
          refine w_load rfl rfl rfl ?_
          refine w_getI0k rfl hT.o (e1) ?_
          refine w_lald rfl (hT.t rfl) (hT.n rfl) (by omega) (by decide) ?_
          first
          | (rw [t5]; rw [t4])
          | rw [t5]
          refine w_callI3 rfl (Nat.le_of_ble_eq_true rfl) (Or.inr (Or.inr hT.o)) (Nat.le_of_ble_eq_true rfl) (tw_emit hE p (v := tvl f n T i) (by omega) (by omega) (by rw [J_wrJ])) (fun z73 G73 h73 => ?_)
          obtain ⟨-, p, -⟩ := h73
          have hT := p.hts hE
          have est := p.zst hE
          obtain ⟨t1, t2, t3, t4⟩ := p.tok hE
          have t5 := p.zl hE
          obtain ⟨⟨e1, e2, e3, e4, e5⟩, ⟨e6, e7, e8, e9⟩, b1, b2, b3, b4⟩ := p.bd
          try simp only [List.length_cons, List.length_append, List.length_nil, ptc_len, List.length_dropLast] at e2 e4 e5 b1 b2 b3 b4
          refine w_pop rfl rfl ?_
          refine w_load rfl rfl rfl ?_
          refine w_dup rfl rfl ?_
          refine w_getI0k rfl hT.o (e1) ?_
          refine w_const (1) rfl rfl ?_
          refine w_iadd rfl ?_
          refine w_putI0 rfl hT.o ?_
          refine w_pr (p.nxt (p.lt hE (by omega)) h41 rfl) (fun G p => ?_)
          have hT := p.hts hE
          have est := p.zst hE
          obtain ⟨t1, t2, t3, t4⟩ := p.tok hE
          have t5 := p.zl hE
          obtain ⟨⟨e1, e2, e3, e4, e5⟩, ⟨e6, e7, e8, e9⟩, b1, b2, b3, b4⟩ := p.bd
          try simp only [List.length_cons, List.length_append, List.length_nil, ptc_len, List.length_dropLast] at e2 e4 e5 b1 b2 b3 b4
          refine w_load rfl rfl rfl ?_
          refine w_const (0) rfl rfl ?_
          refine w_callV2 rfl (Nat.le_of_ble_eq_true rfl) (Or.inr (Or.inr hT.o)) (Nat.le_of_ble_eq_true rfl) (tw_ready hE p (Or.inl rfl)) (fun G89 h89 => ?_)
          skip
          refine w_goto rfl ?_
          refine w_return rfl ?_
          first
          | (refine RV.mk (Or.inl ⟨by omega, ?_⟩)
             first | (rw [if_pos (by omega)]; exact h89) | (rw [if_neg (by omega), if_pos (by omega)]; exact h89) | (rw [if_neg (by omega), if_neg (by omega), show 1 + tsc f n T i = 2 + tsc f n T i - 1 by omega]; exact h89))
          | exact RV.mk (Or.inr (Or.inl ⟨by omega, h101⟩))
          | (refine RV.mk (Or.inr (Or.inr (Or.inl ⟨⟨by omega, by omega⟩, ?_⟩)))
             first | (rw [if_pos (by omega)]; exact p) | (rw [if_neg (by omega)]; exact p))
          | (simp only [List.length_cons] at h197
             refine RV.mk (Or.inr (Or.inr (Or.inr (Or.inl ⟨by omega, ?_⟩))))
             rcases h197 with ⟨h1, h2, -⟩ | ⟨h1, h2⟩
             · exact Or.inl ⟨by omega, h2⟩
             · exact Or.inr ⟨by omega, h2⟩)
          | exact RV.mk (Or.inr (Or.inr (Or.inr (Or.inr (Or.inl ⟨by omega, Or.inl ⟨by omega, h268⟩⟩)))))
          | exact RV.mk (Or.inr (Or.inr (Or.inr (Or.inr (Or.inr ⟨by omega, h275⟩)))))
        · try simp (disch := omega) only [zF_wF, zF_wA, zF_wJ, zF_wD, zA_wF, zA_wA, zA_wJ, zA_wD, zL_wJ, zL_wF, zL_wA, zL_wD, J_wr, wr_zF, wr_zA, wrJ_zL, wr_id, wrJ_id, ne_eq, reduceCtorEq, not_false_eq_true, not_true_eq_false, if_true, if_false, Nat.reduceEqDiff, eq_self, wif0, if0, Decidable.not_not, t1, wr_tkc, tkc1, tkc2, tkc3, tkc4, p.rd, hF] at hc44
          refine w_const (5) rfl rfl ?_
          refine w_goto rfl ?_
          refine w_load rfl rfl rfl ?_
          refine w_getP rfl hT.o (hT.p rfl) ?_
          refine w_load rfl rfl rfl ?_
          refine w_getI0k rfl hT.o (e1) ?_
          refine w_lald rfl (hT.t rfl) (hT.n rfl) (by omega) (by decide) ?_
          first
          | (rw [t5]; rw [t4])
          | rw [t5]
          refine w_callI3 rfl (Nat.le_of_ble_eq_true rfl) (Or.inr (Or.inr hT.o)) (Nat.le_of_ble_eq_true rfl) (tw_emit hE p (v := tvl f n T i) (by omega) (by omega) (by rw [J_wrJ])) (fun z73 G73 h73 => ?_)
          obtain ⟨-, p, -⟩ := h73
          have hT := p.hts hE
          have est := p.zst hE
          obtain ⟨t1, t2, t3, t4⟩ := p.tok hE
          have t5 := p.zl hE
          obtain ⟨⟨e1, e2, e3, e4, e5⟩, ⟨e6, e7, e8, e9⟩, b1, b2, b3, b4⟩ := p.bd
          try simp only [List.length_cons, List.length_append, List.length_nil, ptc_len, List.length_dropLast] at e2 e4 e5 b1 b2 b3 b4
          refine w_pop rfl rfl ?_
          refine w_load rfl rfl rfl ?_
          refine w_dup rfl rfl ?_
          refine w_getI0k rfl hT.o (e1) ?_
          refine w_const (1) rfl rfl ?_
          refine w_iadd rfl ?_
          refine w_putI0 rfl hT.o ?_
          refine w_pr (p.nxt (p.lt hE (by omega)) h41 rfl) (fun G p => ?_)
          have hT := p.hts hE
          have est := p.zst hE
          obtain ⟨t1, t2, t3, t4⟩ := p.tok hE
          have t5 := p.zl hE
          obtain ⟨⟨e1, e2, e3, e4, e5⟩, ⟨e6, e7, e8, e9⟩, b1, b2, b3, b4⟩ := p.bd
          try simp only [List.length_cons, List.length_append, List.length_nil, ptc_len, List.length_dropLast] at e2 e4 e5 b1 b2 b3 b4
          refine w_load rfl rfl rfl ?_
          refine w_const (0) rfl rfl ?_
          refine w_callV2 rfl (Nat.le_of_ble_eq_true rfl) (Or.inr (Or.inr hT.o)) (Nat.le_of_ble_eq_true rfl) (tw_ready hE p (Or.inl rfl)) (fun G89 h89 => ?_)
          skip
          refine w_goto rfl ?_
          refine w_return rfl ?_
          first
          | (refine RV.mk (Or.inl ⟨by omega, ?_⟩)
             first | (rw [if_pos (by omega)]; exact h89) | (rw [if_neg (by omega), if_pos (by omega)]; exact h89) | (rw [if_neg (by omega), if_neg (by omega), show 1 + tsc f n T i = 2 + tsc f n T i - 1 by omega]; exact h89))
          | exact RV.mk (Or.inr (Or.inl ⟨by omega, h101⟩))
          | (refine RV.mk (Or.inr (Or.inr (Or.inl ⟨⟨by omega, by omega⟩, ?_⟩)))
             first | (rw [if_pos (by omega)]; exact p) | (rw [if_neg (by omega)]; exact p))
          | (simp only [List.length_cons] at h197
             refine RV.mk (Or.inr (Or.inr (Or.inr (Or.inl ⟨by omega, ?_⟩))))
             rcases h197 with ⟨h1, h2, -⟩ | ⟨h1, h2⟩
             · exact Or.inl ⟨by omega, h2⟩
             · exact Or.inr ⟨by omega, h2⟩)
          | exact RV.mk (Or.inr (Or.inr (Or.inr (Or.inr (Or.inl ⟨by omega, Or.inl ⟨by omega, h268⟩⟩)))))
          | exact RV.mk (Or.inr (Or.inr (Or.inr (Or.inr (Or.inr ⟨by omega, h275⟩)))))
      · try simp (disch := omega) only [zF_wF, zF_wA, zF_wJ, zF_wD, zA_wF, zA_wA, zA_wJ, zA_wD, zL_wJ, zL_wF, zL_wA, zL_wD, J_wr, wr_zF, wr_zA, wrJ_zL, wr_id, wrJ_id, ne_eq, reduceCtorEq, not_false_eq_true, not_true_eq_false, if_true, if_false, Nat.reduceEqDiff, eq_self, wif0, if0, Decidable.not_not, t1, wr_tkc, tkc1, tkc2, tkc3, tkc4, p.rd, hF] at hc35
        refine w_const (1) rfl rfl ?_
        refine w_goto rfl ?_
        refine w_load rfl rfl rfl ?_
        refine w_getP rfl hT.o (hT.p rfl) ?_
        refine w_load rfl rfl rfl ?_
        refine w_getI0k rfl hT.o (e1) ?_
        refine w_lald rfl (hT.t rfl) (hT.n rfl) (by omega) (by decide) ?_
        first
        | (rw [t5]; rw [t4])
        | rw [t5]
        refine w_callI3 rfl (Nat.le_of_ble_eq_true rfl) (Or.inr (Or.inr hT.o)) (Nat.le_of_ble_eq_true rfl) (tw_emit hE p (v := tvl f n T i) (by omega) (by omega) (by rw [J_wrJ])) (fun z73 G73 h73 => ?_)
        obtain ⟨-, p, -⟩ := h73
        have hT := p.hts hE
        have est := p.zst hE
        obtain ⟨t1, t2, t3, t4⟩ := p.tok hE
        have t5 := p.zl hE
        obtain ⟨⟨e1, e2, e3, e4, e5⟩, ⟨e6, e7, e8, e9⟩, b1, b2, b3, b4⟩ := p.bd
        try simp only [List.length_cons, List.length_append, List.length_nil, ptc_len, List.length_dropLast] at e2 e4 e5 b1 b2 b3 b4
        refine w_pop rfl rfl ?_
        refine w_load rfl rfl rfl ?_
        refine w_dup rfl rfl ?_
        refine w_getI0k rfl hT.o (e1) ?_
        refine w_const (1) rfl rfl ?_
        refine w_iadd rfl ?_
        refine w_putI0 rfl hT.o ?_
        refine w_pr (p.nxt (p.lt hE (by omega)) h41 rfl) (fun G p => ?_)
        have hT := p.hts hE
        have est := p.zst hE
        obtain ⟨t1, t2, t3, t4⟩ := p.tok hE
        have t5 := p.zl hE
        obtain ⟨⟨e1, e2, e3, e4, e5⟩, ⟨e6, e7, e8, e9⟩, b1, b2, b3, b4⟩ := p.bd
        try simp only [List.length_cons, List.length_append, List.length_nil, ptc_len, List.length_dropLast] at e2 e4 e5 b1 b2 b3 b4
        refine w_load rfl rfl rfl ?_
        refine w_const (0) rfl rfl ?_
        refine w_callV2 rfl (Nat.le_of_ble_eq_true rfl) (Or.inr (Or.inr hT.o)) (Nat.le_of_ble_eq_true rfl) (tw_ready hE p (Or.inl rfl)) (fun G89 h89 => ?_)
        skip
        refine w_goto rfl ?_
        refine w_return rfl ?_
        first
        | (refine RV.mk (Or.inl ⟨by omega, ?_⟩)
           first | (rw [if_pos (by omega)]; exact h89) | (rw [if_neg (by omega), if_pos (by omega)]; exact h89) | (rw [if_neg (by omega), if_neg (by omega), show 1 + tsc f n T i = 2 + tsc f n T i - 1 by omega]; exact h89))
        | exact RV.mk (Or.inr (Or.inl ⟨by omega, h101⟩))
        | (refine RV.mk (Or.inr (Or.inr (Or.inl ⟨⟨by omega, by omega⟩, ?_⟩)))
           first | (rw [if_pos (by omega)]; exact p) | (rw [if_neg (by omega)]; exact p))
        | (simp only [List.length_cons] at h197
           refine RV.mk (Or.inr (Or.inr (Or.inr (Or.inl ⟨by omega, ?_⟩))))
           rcases h197 with ⟨h1, h2, -⟩ | ⟨h1, h2⟩
           · exact Or.inl ⟨by omega, h2⟩
           · exact Or.inr ⟨by omega, h2⟩)
        | exact RV.mk (Or.inr (Or.inr (Or.inr (Or.inr (Or.inl ⟨by omega, Or.inl ⟨by omega, h268⟩⟩)))))
        | exact RV.mk (Or.inr (Or.inr (Or.inr (Or.inr (Or.inr ⟨by omega, h275⟩)))))
    · try simp (disch := omega) only [zF_wF, zF_wA, zF_wJ, zF_wD, zA_wF, zA_wA, zA_wJ, zA_wD, zL_wJ, zL_wF, zL_wA, zL_wD, J_wr, wr_zF, wr_zA, wrJ_zL, wr_id, wrJ_id, ne_eq, reduceCtorEq, not_false_eq_true, not_true_eq_false, if_true, if_false, Nat.reduceEqDiff, eq_self, wif0, if0, Decidable.not_not, t1, wr_tkc, tkc1, tkc2, tkc3, tkc4, p.rd, hF] at hc24
      refine w_load rfl rfl rfl ?_
      refine w_const (2) rfl rfl ?_
      refine w_icmp_ne rfl (fun hc29 => ?_) (fun hc29 => ?_)
      · try simp (disch := omega) only [zF_wF, zF_wA, zF_wJ, zF_wD, zA_wF, zA_wA, zA_wJ, zA_wD, zL_wJ, zL_wF, zL_wA, zL_wD, J_wr, wr_zF, wr_zA, wrJ_zL, wr_id, wrJ_id, ne_eq, reduceCtorEq, not_false_eq_true, not_true_eq_false, if_true, if_false, Nat.reduceEqDiff, eq_self, wif0, if0, Decidable.not_not, t1, wr_tkc, tkc1, tkc2, tkc3, tkc4, p.rd, hF] at hc29
        refine w_load rfl rfl rfl ?_
        refine w_const (3) rfl rfl ?_
        refine w_icmp_ne rfl (fun hc97 => ?_) (fun hc97 => ?_)
        · try simp (disch := omega) only [zF_wF, zF_wA, zF_wJ, zF_wD, zA_wF, zA_wA, zA_wJ, zA_wD, zL_wJ, zL_wF, zL_wA, zL_wD, J_wr, wr_zF, wr_zA, wrJ_zL, wr_id, wrJ_id, ne_eq, reduceCtorEq, not_false_eq_true, not_true_eq_false, if_true, if_false, Nat.reduceEqDiff, eq_self, wif0, if0, Decidable.not_not, t1, wr_tkc, tkc1, tkc2, tkc3, tkc4, p.rd, hF] at hc97
          refine w_load rfl rfl rfl ?_
          refine w_getP rfl hT.o (hT.p rfl) ?_
          refine w_load rfl rfl rfl ?_
          refine w_iald rfl (hT.t rfl) (hT.n rfl) (by omega) (by decide) ?_
          refine w_if_ne rfl (fun hc113 => ?_) (fun hc113 => ?_)
          · try simp (disch := omega) only [zF_wF, zF_wA, zF_wJ, zF_wD, zA_wF, zA_wA, zA_wJ, zA_wD, zL_wJ, zL_wF, zL_wA, zL_wD, J_wr, wr_zF, wr_zA, wrJ_zL, wr_id, wrJ_id, ne_eq, reduceCtorEq, not_false_eq_true, not_true_eq_false, if_true, if_false, Nat.reduceEqDiff, eq_self, wif0, if0, Decidable.not_not, t1, wr_tkc, tkc1, tkc2, tkc3, tkc4, p.rd, hF] at hc113
            refine w_load rfl rfl rfl ?_
            refine w_const (40) rfl rfl ?_
            refine w_callI2 rfl (Nat.le_of_ble_eq_true rfl) (Or.inr (Or.inr hT.o)) (Nat.le_of_ble_eq_true rfl) (tw_isSign hE p (by decide)) (fun z179 G179 h179 => ?_)
            obtain ⟨rfl, rfl⟩ := h179
            refine w_if_eq rfl (fun hc182 => ?_) (fun hc182 => ?_)
            · try simp (disch := omega) only [zF_wF, zF_wA, zF_wJ, zF_wD, zA_wF, zA_wA, zA_wJ, zA_wD, zL_wJ, zL_wF, zL_wA, zL_wD, J_wr, wr_zF, wr_zA, wrJ_zL, wr_id, wrJ_id, ne_eq, reduceCtorEq, not_false_eq_true, not_true_eq_false, if_true, if_false, Nat.reduceEqDiff, eq_self, wif0, if0, Decidable.not_not, t1, wr_tkc, tkc1, tkc2, tkc3, tkc4, p.rd, hF] at hc182
              refine w_load rfl rfl rfl ?_
              refine w_const (35) rfl rfl ?_
              refine w_callI2 rfl (Nat.le_of_ble_eq_true rfl) (Or.inr (Or.inr hT.o)) (Nat.le_of_ble_eq_true rfl) (tw_isSign hE p (by decide)) (fun z206 G206 h206 => ?_)
              obtain ⟨rfl, rfl⟩ := h206
              refine w_if_eq rfl (fun hc209 => ?_) (fun hc209 => ?_)
              · try simp (disch := omega) only [zF_wF, zF_wA, zF_wJ, zF_wD, zA_wF, zA_wA, zA_wJ, zA_wD, zL_wJ, zL_wF, zL_wA, zL_wD, J_wr, wr_zF, wr_zA, wrJ_zL, wr_id, wrJ_id, ne_eq, reduceCtorEq, not_false_eq_true, not_true_eq_false, if_true, if_false, Nat.reduceEqDiff, eq_self, wif0, if0, Decidable.not_not, t1, wr_tkc, tkc1, tkc2, tkc3, tkc4, p.rd, hF] at hc209
                refine w_load rfl rfl rfl ?_
                refine w_callV1 rfl (Nat.le_of_ble_eq_true rfl) (Or.inr (Or.inr hT.o)) (Nat.le_of_ble_eq_true rfl) (tw_misfit hE p) (fun G275 h275 => ?_)
                skip
                refine w_return rfl ?_
                first
                | (refine RV.mk (Or.inl ⟨by omega, ?_⟩)
                   first | (rw [if_pos (by omega)]; exact h89) | (rw [if_neg (by omega), if_pos (by omega)]; exact h89) | (rw [if_neg (by omega), if_neg (by omega), show 1 + tsc f n T i = 2 + tsc f n T i - 1 by omega]; exact h89))
                | exact RV.mk (Or.inr (Or.inl ⟨by omega, h101⟩))
                | (refine RV.mk (Or.inr (Or.inr (Or.inl ⟨⟨by omega, by omega⟩, ?_⟩)))
                   first | (rw [if_pos (by omega)]; exact p) | (rw [if_neg (by omega)]; exact p))
                | (simp only [List.length_cons] at h197
                   refine RV.mk (Or.inr (Or.inr (Or.inr (Or.inl ⟨by omega, ?_⟩))))
                   rcases h197 with ⟨h1, h2, -⟩ | ⟨h1, h2⟩
                   · exact Or.inl ⟨by omega, h2⟩
                   · exact Or.inr ⟨by omega, h2⟩)
                | exact RV.mk (Or.inr (Or.inr (Or.inr (Or.inr (Or.inl ⟨by omega, Or.inl ⟨by omega, h268⟩⟩)))))
                | exact RV.mk (Or.inr (Or.inr (Or.inr (Or.inr (Or.inr ⟨by omega, h275⟩)))))
              · try simp (disch := omega) only [zF_wF, zF_wA, zF_wJ, zF_wD, zA_wF, zA_wA, zA_wJ, zA_wD, zL_wJ, zL_wF, zL_wA, zL_wD, J_wr, wr_zF, wr_zA, wrJ_zL, wr_id, wrJ_id, ne_eq, reduceCtorEq, not_false_eq_true, not_true_eq_false, if_true, if_false, Nat.reduceEqDiff, eq_self, wif0, if0, Decidable.not_not, t1, wr_tkc, tkc1, tkc2, tkc3, tkc4, p.rd, hF] at hc209
                refine w_load rfl rfl rfl ?_
                refine w_dup rfl rfl ?_
                refine w_getI0k rfl hT.o (e1) ?_
                refine w_const (1) rfl rfl ?_
                refine w_iadd rfl ?_
                refine w_putI0 rfl hT.o ?_
                refine w_pr (p.nxt (p.lt hE (by omega)) h41 rfl) (fun G p => ?_)
                have hT := p.hts hE
                have est := p.zst hE
                obtain ⟨t1, t2, t3, t4⟩ := p.tok hE
                have t5 := p.zl hE
                obtain ⟨⟨e1, e2, e3, e4, e5⟩, ⟨e6, e7, e8, e9⟩, b1, b2, b3, b4⟩ := p.bd
                try simp only [List.length_cons, List.length_append, List.length_nil, ptc_len, List.length_dropLast] at e2 e4 e5 b1 b2 b3 b4
                refine w_load rfl rfl rfl ?_
                refine w_getP rfl hT.o (hT.p rfl) ?_
                refine w_load rfl rfl rfl ?_
                refine w_getI0k rfl hT.o (e1) ?_
                refine w_iald rfl (hT.t rfl) (hT.n rfl) (by omega) (by decide) ?_
                refine w_const (3) rfl rfl ?_
                refine w_icmp_eq rfl (fun hc232 => ?_) (fun hc232 => ?_)
                · try simp (disch := omega) only [zF_wF, zF_wA, zF_wJ, zF_wD, zA_wF, zA_wA, zA_wJ, zA_wD, zL_wJ, zL_wF, zL_wA, zL_wD, J_wr, wr_zF, wr_zA, wrJ_zL, wr_id, wrJ_id, ne_eq, reduceCtorEq, not_false_eq_true, not_true_eq_false, if_true, if_false, Nat.reduceEqDiff, eq_self, wif0, if0, Decidable.not_not, t1, wr_tkc, tkc1, tkc2, tkc3, tkc4, p.rd, hF] at hc232
                  refine w_load rfl rfl rfl ?_
                  refine w_const (9) rfl rfl ?_
                  refine w_load rfl rfl rfl ?_
                  refine w_getP rfl hT.o (hT.p rfl) ?_
                  refine w_load rfl rfl rfl ?_
                  refine w_getI0k rfl hT.o (e1) ?_
                  refine w_lald rfl (hT.t rfl) (hT.n rfl) (by omega) (by decide) ?_
                  rw [t5]
                  refine w_callI3 rfl (Nat.le_of_ble_eq_true rfl) (Or.inr (Or.inr hT.o)) (Nat.le_of_ble_eq_true rfl) (tw_emit hE p (v := tvl f n T (i + 1)) (by omega) (by decide) (by rw [J_wrJ])) (fun z252 G252 h252 => ?_)
                  obtain ⟨-, p, -⟩ := h252
                  have hT := p.hts hE
                  have est := p.zst hE
                  obtain ⟨t1, t2, t3, t4⟩ := p.tok hE
                  have t5 := p.zl hE
                  obtain ⟨⟨e1, e2, e3, e4, e5⟩, ⟨e6, e7, e8, e9⟩, b1, b2, b3, b4⟩ := p.bd
                  try simp only [List.length_cons, List.length_append, List.length_nil, ptc_len, List.length_dropLast] at e2 e4 e5 b1 b2 b3 b4
                  refine w_pop rfl rfl ?_
                  refine w_load rfl rfl rfl ?_
                  refine w_dup rfl rfl ?_
                  refine w_getI0k rfl hT.o (e1) ?_
                  refine w_const (1) rfl rfl ?_
                  refine w_iadd rfl ?_
                  refine w_putI0 rfl hT.o ?_
                  refine w_pr (p.nxt (p.lt hE (by omega)) h41 rfl) (fun G p => ?_)
                  have hT := p.hts hE
                  have est := p.zst hE
                  obtain ⟨t1, t2, t3, t4⟩ := p.tok hE
                  have t5 := p.zl hE
                  obtain ⟨⟨e1, e2, e3, e4, e5⟩, ⟨e6, e7, e8, e9⟩, b1, b2, b3, b4⟩ := p.bd
                  try simp only [List.length_cons, List.length_append, List.length_nil, ptc_len, List.length_dropLast] at e2 e4 e5 b1 b2 b3 b4
                  refine w_load rfl rfl rfl ?_
                  refine w_const (1) rfl rfl ?_
                  refine w_callV2 rfl (Nat.le_of_ble_eq_true rfl) (Or.inr (Or.inr hT.o)) (Nat.le_of_ble_eq_true rfl) (tw_ready hE p (Or.inr rfl)) (fun G268 h268 => ?_)
                  skip
                  refine w_goto rfl ?_
                  refine w_return rfl ?_
                  first
                  | (refine RV.mk (Or.inl ⟨by omega, ?_⟩)
                     first | (rw [if_pos (by omega)]; exact h89) | (rw [if_neg (by omega), if_pos (by omega)]; exact h89) | (rw [if_neg (by omega), if_neg (by omega), show 1 + tsc f n T i = 2 + tsc f n T i - 1 by omega]; exact h89))
                  | exact RV.mk (Or.inr (Or.inl ⟨by omega, h101⟩))
                  | (refine RV.mk (Or.inr (Or.inr (Or.inl ⟨⟨by omega, by omega⟩, ?_⟩)))
                     first | (rw [if_pos (by omega)]; exact p) | (rw [if_neg (by omega)]; exact p))
                  | (simp only [List.length_cons] at h197
                     refine RV.mk (Or.inr (Or.inr (Or.inr (Or.inl ⟨by omega, ?_⟩))))
                     rcases h197 with ⟨h1, h2, -⟩ | ⟨h1, h2⟩
                     · exact Or.inl ⟨by omega, h2⟩
                     · exact Or.inr ⟨by omega, h2⟩)
                  | exact RV.mk (Or.inr (Or.inr (Or.inr (Or.inr (Or.inl ⟨by omega, Or.inl ⟨by omega, h268⟩⟩)))))
                  | exact RV.mk (Or.inr (Or.inr (Or.inr (Or.inr (Or.inr ⟨by omega, h275⟩)))))
                · try simp (disch := omega) only [zF_wF, zF_wA, zF_wJ, zF_wD, zA_wF, zA_wA, zA_wJ, zA_wD, zL_wJ, zL_wF, zL_wA, zL_wD, J_wr, wr_zF, wr_zA, wrJ_zL, wr_id, wrJ_id, ne_eq, reduceCtorEq, not_false_eq_true, not_true_eq_false, if_true, if_false, Nat.reduceEqDiff, eq_self, wif0, if0, Decidable.not_not, t1, wr_tkc, tkc1, tkc2, tkc3, tkc4, p.rd, hF] at hc232
                  refine w_load rfl rfl rfl ?_
                  refine w_callV1 rfl (Nat.le_of_ble_eq_true rfl) (Or.inr (Or.inr hT.o)) (Nat.le_of_ble_eq_true rfl) (tw_misfit hE p) (fun G236 h236 => ?_)
                  skip
                  refine w_return rfl ?_
                  exact RV.mk (Or.inr (Or.inr (Or.inr (Or.inr (Or.inl ⟨by omega, Or.inr ⟨by omega, h236⟩⟩)))))
            · try simp (disch := omega) only [zF_wF, zF_wA, zF_wJ, zF_wD, zA_wF, zA_wA, zA_wJ, zA_wD, zL_wJ, zL_wF, zL_wA, zL_wD, J_wr, wr_zF, wr_zA, wrJ_zL, wr_id, wrJ_id, ne_eq, reduceCtorEq, not_false_eq_true, not_true_eq_false, if_true, if_false, Nat.reduceEqDiff, eq_self, wif0, if0, Decidable.not_not, t1, wr_tkc, tkc1, tkc2, tkc3, tkc4, p.rd, hF] at hc182
              refine w_load rfl rfl rfl ?_
              refine w_dup rfl rfl ?_
              refine w_getI0k rfl hT.o (e1) ?_
              refine w_const (1) rfl rfl ?_
              refine w_iadd rfl ?_
              refine w_putI0 rfl hT.o ?_
              refine w_pr (p.nxt (p.lt hE (by omega)) h41 rfl) (fun G p => ?_)
              have hT := p.hts hE
              have est := p.zst hE
              obtain ⟨t1, t2, t3, t4⟩ := p.tok hE
              have t5 := p.zl hE
              obtain ⟨⟨e1, e2, e3, e4, e5⟩, ⟨e6, e7, e8, e9⟩, b1, b2, b3, b4⟩ := p.bd
              try simp only [List.length_cons, List.length_append, List.length_nil, ptc_len, List.length_dropLast] at e2 e4 e5 b1 b2 b3 b4
              refine w_load rfl rfl rfl ?_
              refine w_const (2) rfl rfl ?_
              refine w_callV2 rfl (Nat.le_of_ble_eq_true rfl) (Or.inr (Or.inr hT.o)) (Nat.le_of_ble_eq_true rfl) (tw_open hE p (by decide)) (fun G197 h197 => ?_)
              skip
              refine w_goto rfl ?_
              refine w_return rfl ?_
              first
              | (refine RV.mk (Or.inl ⟨by omega, ?_⟩)
                 first | (rw [if_pos (by omega)]; exact h89) | (rw [if_neg (by omega), if_pos (by omega)]; exact h89) | (rw [if_neg (by omega), if_neg (by omega), show 1 + tsc f n T i = 2 + tsc f n T i - 1 by omega]; exact h89))
              | exact RV.mk (Or.inr (Or.inl ⟨by omega, h101⟩))
              | (refine RV.mk (Or.inr (Or.inr (Or.inl ⟨⟨by omega, by omega⟩, ?_⟩)))
                 first | (rw [if_pos (by omega)]; exact p) | (rw [if_neg (by omega)]; exact p))
              | (simp only [List.length_cons] at h197
                 refine RV.mk (Or.inr (Or.inr (Or.inr (Or.inl ⟨by omega, ?_⟩))))
                 rcases h197 with ⟨h1, h2, -⟩ | ⟨h1, h2⟩
                 · exact Or.inl ⟨by omega, h2⟩
                 · exact Or.inr ⟨by omega, h2⟩)
              | exact RV.mk (Or.inr (Or.inr (Or.inr (Or.inr (Or.inl ⟨by omega, Or.inl ⟨by omega, h268⟩⟩)))))
              | exact RV.mk (Or.inr (Or.inr (Or.inr (Or.inr (Or.inr ⟨by omega, h275⟩)))))
          · try simp (disch := omega) only [zF_wF, zF_wA, zF_wJ, zF_wD, zA_wF, zA_wA, zA_wJ, zA_wD, zL_wJ, zL_wF, zL_wA, zL_wD, J_wr, wr_zF, wr_zA, wrJ_zL, wr_id, wrJ_id, ne_eq, reduceCtorEq, not_false_eq_true, not_true_eq_false, if_true, if_false, Nat.reduceEqDiff, eq_self, wif0, if0, Decidable.not_not, t1, wr_tkc, tkc1, tkc2, tkc3, tkc4, p.rd, hF] at hc113
            refine w_load rfl rfl rfl ?_
            refine w_const (45) rfl rfl ?_
            refine w_callI2 rfl (Nat.le_of_ble_eq_true rfl) (Or.inr (Or.inr hT.o)) (Nat.le_of_ble_eq_true rfl) (tw_isSign hE p (by decide)) (fun z119 G119 h119 => ?_)
            obtain ⟨rfl, rfl⟩ := h119
            refine w_if_ne rfl (fun hc122 => ?_) (fun hc122 => ?_)
            · try simp (disch := omega) only [zF_wF, zF_wA, zF_wJ, zF_wD, zA_wF, zA_wA, zA_wJ, zA_wD, zL_wJ, zL_wF, zL_wA, zL_wD, J_wr, wr_zF, wr_zA, wrJ_zL, wr_id, wrJ_id, ne_eq, reduceCtorEq, not_false_eq_true, not_true_eq_false, if_true, if_false, Nat.reduceEqDiff, eq_self, wif0, if0, Decidable.not_not, t1, wr_tkc, tkc1, tkc2, tkc3, tkc4, p.rd, hF] at hc122
              refine w_load rfl rfl rfl ?_
              refine w_getP rfl hT.o (hT.p rfl) ?_
              refine w_load rfl rfl rfl ?_
              refine w_load rfl rfl rfl ?_
              refine w_const (45) rfl rfl ?_
              refine w_callI2 rfl (Nat.le_of_ble_eq_true rfl) (Or.inr (Or.inr hT.o)) (Nat.le_of_ble_eq_true rfl) (tw_isSign hE p (by decide)) (fun z142 G142 h142 => ?_)
              obtain ⟨rfl, rfl⟩ := h142
              refine w_if_eq rfl (fun hc145 => ?_) (fun hc145 => ?_)
              · try simp (disch := omega) only [zF_wF, zF_wA, zF_wJ, zF_wD, zA_wF, zA_wA, zA_wJ, zA_wD, zL_wJ, zL_wF, zL_wA, zL_wD, J_wr, wr_zF, wr_zA, wrJ_zL, wr_id, wrJ_id, ne_eq, reduceCtorEq, not_false_eq_true, not_true_eq_false, if_true, if_false, Nat.reduceEqDiff, eq_self, wif0, if0, Decidable.not_not, t1, wr_tkc, tkc1, tkc2, tkc3, tkc4, p.rd, hF] at hc145
                refine w_const (31) rfl rfl ?_
                refine w_iast rfl (hT.t rfl) (hT.n rfl) (by omega) (by decide) ?_
                refine w_pr (p.fset (by decide) (by omega) (by decide)) (fun G p => ?_)
                have hT := p.hts hE
                have est := p.zst hE
                obtain ⟨t1, t2, t3, t4⟩ := p.tok hE
                have t5 := p.zl hE
                obtain ⟨⟨e1, e2, e3, e4, e5⟩, ⟨e6, e7, e8, e9⟩, b1, b2, b3, b4⟩ := p.bd
                try simp only [List.length_cons, List.length_append, List.length_nil, ptc_len, List.length_dropLast] at e2 e4 e5 b1 b2 b3 b4
                refine w_load rfl rfl rfl ?_
                refine w_getP rfl hT.o (hT.p rfl) ?_
                refine w_load rfl rfl rfl ?_
                refine w_const (0) rfl rfl ?_
                refine w_zast rfl (hT.t rfl) (hT.n rfl) (by omega) (by decide) (by first | exact Or.inl rfl | exact Or.inr rfl | omega) ?_
                refine w_pr (p.fset (by decide) (by omega) (by decide)) (fun G p => ?_)
                have hT := p.hts hE
                have est := p.zst hE
                obtain ⟨t1, t2, t3, t4⟩ := p.tok hE
                have t5 := p.zl hE
                obtain ⟨⟨e1, e2, e3, e4, e5⟩, ⟨e6, e7, e8, e9⟩, b1, b2, b3, b4⟩ := p.bd
                try simp only [List.length_cons, List.length_append, List.length_nil, ptc_len, List.length_dropLast] at e2 e4 e5 b1 b2 b3 b4
                refine w_load rfl rfl rfl ?_
                refine w_dup rfl rfl ?_
                refine w_getI0k rfl hT.o (e1) ?_
                refine w_const (1) rfl rfl ?_
                refine w_iadd rfl ?_
                refine w_putI0 rfl hT.o ?_
                refine w_pr (p.nxt (p.lt hE (by omega)) h41 rfl) (fun G p => ?_)
                have hT := p.hts hE
                have est := p.zst hE
                obtain ⟨t1, t2, t3, t4⟩ := p.tok hE
                have t5 := p.zl hE
                obtain ⟨⟨e1, e2, e3, e4, e5⟩, ⟨e6, e7, e8, e9⟩, b1, b2, b3, b4⟩ := p.bd
                try simp only [List.length_cons, List.length_append, List.length_nil, ptc_len, List.length_dropLast] at e2 e4 e5 b1 b2 b3 b4
                refine w_goto rfl ?_
                refine w_return rfl ?_
                first
                | (refine RV.mk (Or.inl ⟨by omega, ?_⟩)
                   first | (rw [if_pos (by omega)]; exact h89) | (rw [if_neg (by omega), if_pos (by omega)]; exact h89) | (rw [if_neg (by omega), if_neg (by omega), show 1 + tsc f n T i = 2 + tsc f n T i - 1 by omega]; exact h89))
                | exact RV.mk (Or.inr (Or.inl ⟨by omega, h101⟩))
                | (refine RV.mk (Or.inr (Or.inr (Or.inl ⟨⟨by omega, by omega⟩, ?_⟩)))
                   first | (rw [if_pos (by omega)]; exact p) | (rw [if_neg (by omega)]; exact p))
                | (simp only [List.length_cons] at h197
                   refine RV.mk (Or.inr (Or.inr (Or.inr (Or.inl ⟨by omega, ?_⟩))))
                   rcases h197 with ⟨h1, h2, -⟩ | ⟨h1, h2⟩
                   · exact Or.inl ⟨by omega, h2⟩
                   · exact Or.inr ⟨by omega, h2⟩)
                | exact RV.mk (Or.inr (Or.inr (Or.inr (Or.inr (Or.inl ⟨by omega, Or.inl ⟨by omega, h268⟩⟩)))))
                | exact RV.mk (Or.inr (Or.inr (Or.inr (Or.inr (Or.inr ⟨by omega, h275⟩)))))
              · try simp (disch := omega) only [zF_wF, zF_wA, zF_wJ, zF_wD, zA_wF, zA_wA, zA_wJ, zA_wD, zL_wJ, zL_wF, zL_wA, zL_wD, J_wr, wr_zF, wr_zA, wrJ_zL, wr_id, wrJ_id, ne_eq, reduceCtorEq, not_false_eq_true, not_true_eq_false, if_true, if_false, Nat.reduceEqDiff, eq_self, wif0, if0, Decidable.not_not, t1, wr_tkc, tkc1, tkc2, tkc3, tkc4, p.rd, hF] at hc145
                refine w_const (30) rfl rfl ?_
                refine w_goto rfl ?_
                refine w_iast rfl (hT.t rfl) (hT.n rfl) (by omega) (by decide) ?_
                refine w_pr (p.fset (by decide) (by omega) (by decide)) (fun G p => ?_)
                have hT := p.hts hE
                have est := p.zst hE
                obtain ⟨t1, t2, t3, t4⟩ := p.tok hE
                have t5 := p.zl hE
                obtain ⟨⟨e1, e2, e3, e4, e5⟩, ⟨e6, e7, e8, e9⟩, b1, b2, b3, b4⟩ := p.bd
                try simp only [List.length_cons, List.length_append, List.length_nil, ptc_len, List.length_dropLast] at e2 e4 e5 b1 b2 b3 b4
                refine w_load rfl rfl rfl ?_
                refine w_getP rfl hT.o (hT.p rfl) ?_
                refine w_load rfl rfl rfl ?_
                refine w_const (0) rfl rfl ?_
                refine w_zast rfl (hT.t rfl) (hT.n rfl) (by omega) (by decide) (by first | exact Or.inl rfl | exact Or.inr rfl | omega) ?_
                refine w_pr (p.fset (by decide) (by omega) (by decide)) (fun G p => ?_)
                have hT := p.hts hE
                have est := p.zst hE
                obtain ⟨t1, t2, t3, t4⟩ := p.tok hE
                have t5 := p.zl hE
                obtain ⟨⟨e1, e2, e3, e4, e5⟩, ⟨e6, e7, e8, e9⟩, b1, b2, b3, b4⟩ := p.bd
                try simp only [List.length_cons, List.length_append, List.length_nil, ptc_len, List.length_dropLast] at e2 e4 e5 b1 b2 b3 b4
                refine w_load rfl rfl rfl ?_
                refine w_dup rfl rfl ?_
                refine w_getI0k rfl hT.o (e1) ?_
                refine w_const (1) rfl rfl ?_
                refine w_iadd rfl ?_
                refine w_putI0 rfl hT.o ?_
                refine w_pr (p.nxt (p.lt hE (by omega)) h41 rfl) (fun G p => ?_)
                have hT := p.hts hE
                have est := p.zst hE
                obtain ⟨t1, t2, t3, t4⟩ := p.tok hE
                have t5 := p.zl hE
                obtain ⟨⟨e1, e2, e3, e4, e5⟩, ⟨e6, e7, e8, e9⟩, b1, b2, b3, b4⟩ := p.bd
                try simp only [List.length_cons, List.length_append, List.length_nil, ptc_len, List.length_dropLast] at e2 e4 e5 b1 b2 b3 b4
                refine w_goto rfl ?_
                refine w_return rfl ?_
                first
                | (refine RV.mk (Or.inl ⟨by omega, ?_⟩)
                   first | (rw [if_pos (by omega)]; exact h89) | (rw [if_neg (by omega), if_pos (by omega)]; exact h89) | (rw [if_neg (by omega), if_neg (by omega), show 1 + tsc f n T i = 2 + tsc f n T i - 1 by omega]; exact h89))
                | exact RV.mk (Or.inr (Or.inl ⟨by omega, h101⟩))
                | (refine RV.mk (Or.inr (Or.inr (Or.inl ⟨⟨by omega, by omega⟩, ?_⟩)))
                   first | (rw [if_pos (by omega)]; exact p) | (rw [if_neg (by omega)]; exact p))
                | (simp only [List.length_cons] at h197
                   refine RV.mk (Or.inr (Or.inr (Or.inr (Or.inl ⟨by omega, ?_⟩))))
                   rcases h197 with ⟨h1, h2, -⟩ | ⟨h1, h2⟩
                   · exact Or.inl ⟨by omega, h2⟩
                   · exact Or.inr ⟨by omega, h2⟩)
                | exact RV.mk (Or.inr (Or.inr (Or.inr (Or.inr (Or.inl ⟨by omega, Or.inl ⟨by omega, h268⟩⟩)))))
                | exact RV.mk (Or.inr (Or.inr (Or.inr (Or.inr (Or.inr ⟨by omega, h275⟩)))))
            · try simp (disch := omega) only [zF_wF, zF_wA, zF_wJ, zF_wD, zA_wF, zA_wA, zA_wJ, zA_wD, zL_wJ, zL_wF, zL_wA, zL_wD, J_wr, wr_zF, wr_zA, wrJ_zL, wr_id, wrJ_id, ne_eq, reduceCtorEq, not_false_eq_true, not_true_eq_false, if_true, if_false, Nat.reduceEqDiff, eq_self, wif0, if0, Decidable.not_not, t1, wr_tkc, tkc1, tkc2, tkc3, tkc4, p.rd, hF] at hc122
              refine w_load rfl rfl rfl ?_
              refine w_const (33) rfl rfl ?_
              refine w_callI2 rfl (Nat.le_of_ble_eq_true rfl) (Or.inr (Or.inr hT.o)) (Nat.le_of_ble_eq_true rfl) (tw_isSign hE p (by decide)) (fun z128 G128 h128 => ?_)
              obtain ⟨rfl, rfl⟩ := h128
              refine w_if_eq rfl (fun hc131 => ?_) (fun hc131 => ?_)
              · try simp (disch := omega) only [zF_wF, zF_wA, zF_wJ, zF_wD, zA_wF, zA_wA, zA_wJ, zA_wD, zL_wJ, zL_wF, zL_wA, zL_wD, J_wr, wr_zF, wr_zA, wrJ_zL, wr_id, wrJ_id, ne_eq, reduceCtorEq, not_false_eq_true, not_true_eq_false, if_true, if_false, Nat.reduceEqDiff, eq_self, wif0, if0, Decidable.not_not, t1, wr_tkc, tkc1, tkc2, tkc3, tkc4, p.rd, hF] at hc131
                refine w_load rfl rfl rfl ?_
                refine w_const (40) rfl rfl ?_
                refine w_callI2 rfl (Nat.le_of_ble_eq_true rfl) (Or.inr (Or.inr hT.o)) (Nat.le_of_ble_eq_true rfl) (tw_isSign hE p (by decide)) (fun z179 G179 h179 => ?_)
                obtain ⟨rfl, rfl⟩ := h179
                refine w_if_eq rfl (fun hc182 => ?_) (fun hc182 => ?_)
                · try simp (disch := omega) only [zF_wF, zF_wA, zF_wJ, zF_wD, zA_wF, zA_wA, zA_wJ, zA_wD, zL_wJ, zL_wF, zL_wA, zL_wD, J_wr, wr_zF, wr_zA, wrJ_zL, wr_id, wrJ_id, ne_eq, reduceCtorEq, not_false_eq_true, not_true_eq_false, if_true, if_false, Nat.reduceEqDiff, eq_self, wif0, if0, Decidable.not_not, t1, wr_tkc, tkc1, tkc2, tkc3, tkc4, p.rd, hF] at hc182
                  refine w_load rfl rfl rfl ?_
                  refine w_const (35) rfl rfl ?_
                  refine w_callI2 rfl (Nat.le_of_ble_eq_true rfl) (Or.inr (Or.inr hT.o)) (Nat.le_of_ble_eq_true rfl) (tw_isSign hE p (by decide)) (fun z206 G206 h206 => ?_)
                  obtain ⟨rfl, rfl⟩ := h206
                  refine w_if_eq rfl (fun hc209 => ?_) (fun hc209 => ?_)
                  · try simp (disch := omega) only [zF_wF, zF_wA, zF_wJ, zF_wD, zA_wF, zA_wA, zA_wJ, zA_wD, zL_wJ, zL_wF, zL_wA, zL_wD, J_wr, wr_zF, wr_zA, wrJ_zL, wr_id, wrJ_id, ne_eq, reduceCtorEq, not_false_eq_true, not_true_eq_false, if_true, if_false, Nat.reduceEqDiff, eq_self, wif0, if0, Decidable.not_not, t1, wr_tkc, tkc1, tkc2, tkc3, tkc4, p.rd, hF] at hc209
                    refine w_load rfl rfl rfl ?_
                    refine w_callV1 rfl (Nat.le_of_ble_eq_true rfl) (Or.inr (Or.inr hT.o)) (Nat.le_of_ble_eq_true rfl) (tw_misfit hE p) (fun G275 h275 => ?_)
                    skip
                    refine w_return rfl ?_
                    first
                    | (refine RV.mk (Or.inl ⟨by omega, ?_⟩)
                       first | (rw [if_pos (by omega)]; exact h89) | (rw [if_neg (by omega), if_pos (by omega)]; exact h89) | (rw [if_neg (by omega), if_neg (by omega), show 1 + tsc f n T i = 2 + tsc f n T i - 1 by omega]; exact h89))
                    | exact RV.mk (Or.inr (Or.inl ⟨by omega, h101⟩))
                    | (refine RV.mk (Or.inr (Or.inr (Or.inl ⟨⟨by omega, by omega⟩, ?_⟩)))
                       first | (rw [if_pos (by omega)]; exact p) | (rw [if_neg (by omega)]; exact p))
                    | (simp only [List.length_cons] at h197
                       refine RV.mk (Or.inr (Or.inr (Or.inr (Or.inl ⟨by omega, ?_⟩))))
                       rcases h197 with ⟨h1, h2, -⟩ | ⟨h1, h2⟩
                       · exact Or.inl ⟨by omega, h2⟩
                       · exact Or.inr ⟨by omega, h2⟩)
                    | exact RV.mk (Or.inr (Or.inr (Or.inr (Or.inr (Or.inl ⟨by omega, Or.inl ⟨by omega, h268⟩⟩)))))
                    | exact RV.mk (Or.inr (Or.inr (Or.inr (Or.inr (Or.inr ⟨by omega, h275⟩)))))
                  · try simp (disch := omega) only [zF_wF, zF_wA, zF_wJ, zF_wD, zA_wF, zA_wA, zA_wJ, zA_wD, zL_wJ, zL_wF, zL_wA, zL_wD, J_wr, wr_zF, wr_zA, wrJ_zL, wr_id, wrJ_id, ne_eq, reduceCtorEq, not_false_eq_true, not_true_eq_false, if_true, if_false, Nat.reduceEqDiff, eq_self, wif0, if0, Decidable.not_not, t1, wr_tkc, tkc1, tkc2, tkc3, tkc4, p.rd, hF] at hc209
                    refine w_load rfl rfl rfl ?_
                    refine w_dup rfl rfl ?_
                    refine w_getI0k rfl hT.o (e1) ?_
                    refine w_const (1) rfl rfl ?_
                    refine w_iadd rfl ?_
                    refine w_putI0 rfl hT.o ?_
                    refine w_pr (p.nxt (p.lt hE (by omega)) h41 rfl) (fun G p => ?_)
                    have hT := p.hts hE
                    have est := p.zst hE
                    obtain ⟨t1, t2, t3, t4⟩ := p.tok hE
                    have t5 := p.zl hE
                    obtain ⟨⟨e1, e2, e3, e4, e5⟩, ⟨e6, e7, e8, e9⟩, b1, b2, b3, b4⟩ := p.bd
                    try simp only [List.length_cons, List.length_append, List.length_nil, ptc_len, List.length_dropLast] at e2 e4 e5 b1 b2 b3 b4
                    refine w_load rfl rfl rfl ?_
                    refine w_getP rfl hT.o (hT.p rfl) ?_
                    refine w_load rfl rfl rfl ?_
                    refine w_getI0k rfl hT.o (e1) ?_
                    refine w_iald rfl (hT.t rfl) (hT.n rfl) (by omega) (by decide) ?_
                    refine w_const (3) rfl rfl ?_
                    refine w_icmp_eq rfl (fun hc232 => ?_) (fun hc232 => ?_)
                    · try simp (disch := omega) only [zF_wF, zF_wA, zF_wJ, zF_wD, zA_wF, zA_wA, zA_wJ, zA_wD, zL_wJ, zL_wF, zL_wA, zL_wD, J_wr, wr_zF, wr_zA, wrJ_zL, wr_id, wrJ_id, ne_eq, reduceCtorEq, not_false_eq_true, not_true_eq_false, if_true, if_false, Nat.reduceEqDiff, eq_self, wif0, if0, Decidable.not_not, t1, wr_tkc, tkc1, tkc2, tkc3, tkc4, p.rd, hF] at hc232
                      refine w_load rfl rfl rfl ?_
                      refine w_const (9) rfl rfl ?_
                      refine w_load rfl rfl rfl ?_
                      refine w_getP rfl hT.o (hT.p rfl) ?_
                      refine w_load rfl rfl rfl ?_
                      refine w_getI0k rfl hT.o (e1) ?_
                      refine w_lald rfl (hT.t rfl) (hT.n rfl) (by omega) (by decide) ?_
                      rw [t5]
                      refine w_callI3 rfl (Nat.le_of_ble_eq_true rfl) (Or.inr (Or.inr hT.o)) (Nat.le_of_ble_eq_true rfl) (tw_emit hE p (v := tvl f n T (i + 1)) (by omega) (by decide) (by rw [J_wrJ])) (fun z252 G252 h252 => ?_)
                      obtain ⟨-, p, -⟩ := h252
                      have hT := p.hts hE
                      have est := p.zst hE
                      obtain ⟨t1, t2, t3, t4⟩ := p.tok hE
                      have t5 := p.zl hE
                      obtain ⟨⟨e1, e2, e3, e4, e5⟩, ⟨e6, e7, e8, e9⟩, b1, b2, b3, b4⟩ := p.bd
                      try simp only [List.length_cons, List.length_append, List.length_nil, ptc_len, List.length_dropLast] at e2 e4 e5 b1 b2 b3 b4
                      refine w_pop rfl rfl ?_
                      refine w_load rfl rfl rfl ?_
                      refine w_dup rfl rfl ?_
                      refine w_getI0k rfl hT.o (e1) ?_
                      refine w_const (1) rfl rfl ?_
                      refine w_iadd rfl ?_
                      refine w_putI0 rfl hT.o ?_
                      refine w_pr (p.nxt (p.lt hE (by omega)) h41 rfl) (fun G p => ?_)
                      have hT := p.hts hE
                      have est := p.zst hE
                      obtain ⟨t1, t2, t3, t4⟩ := p.tok hE
                      have t5 := p.zl hE
                      obtain ⟨⟨e1, e2, e3, e4, e5⟩, ⟨e6, e7, e8, e9⟩, b1, b2, b3, b4⟩ := p.bd
                      try simp only [List.length_cons, List.length_append, List.length_nil, ptc_len, List.length_dropLast] at e2 e4 e5 b1 b2 b3 b4
                      refine w_load rfl rfl rfl ?_
                      refine w_const (1) rfl rfl ?_
                      refine w_callV2 rfl (Nat.le_of_ble_eq_true rfl) (Or.inr (Or.inr hT.o)) (Nat.le_of_ble_eq_true rfl) (tw_ready hE p (Or.inr rfl)) (fun G268 h268 => ?_)
                      skip
                      refine w_goto rfl ?_
                      refine w_return rfl ?_
                      first
                      | (refine RV.mk (Or.inl ⟨by omega, ?_⟩)
                         first | (rw [if_pos (by omega)]; exact h89) | (rw [if_neg (by omega), if_pos (by omega)]; exact h89) | (rw [if_neg (by omega), if_neg (by omega), show 1 + tsc f n T i = 2 + tsc f n T i - 1 by omega]; exact h89))
                      | exact RV.mk (Or.inr (Or.inl ⟨by omega, h101⟩))
                      | (refine RV.mk (Or.inr (Or.inr (Or.inl ⟨⟨by omega, by omega⟩, ?_⟩)))
                         first | (rw [if_pos (by omega)]; exact p) | (rw [if_neg (by omega)]; exact p))
                      | (simp only [List.length_cons] at h197
                         refine RV.mk (Or.inr (Or.inr (Or.inr (Or.inl ⟨by omega, ?_⟩))))
                         rcases h197 with ⟨h1, h2, -⟩ | ⟨h1, h2⟩
                         · exact Or.inl ⟨by omega, h2⟩
                         · exact Or.inr ⟨by omega, h2⟩)
                      | exact RV.mk (Or.inr (Or.inr (Or.inr (Or.inr (Or.inl ⟨by omega, Or.inl ⟨by omega, h268⟩⟩)))))
                      | exact RV.mk (Or.inr (Or.inr (Or.inr (Or.inr (Or.inr ⟨by omega, h275⟩)))))
                    · try simp (disch := omega) only [zF_wF, zF_wA, zF_wJ, zF_wD, zA_wF, zA_wA, zA_wJ, zA_wD, zL_wJ, zL_wF, zL_wA, zL_wD, J_wr, wr_zF, wr_zA, wrJ_zL, wr_id, wrJ_id, ne_eq, reduceCtorEq, not_false_eq_true, not_true_eq_false, if_true, if_false, Nat.reduceEqDiff, eq_self, wif0, if0, Decidable.not_not, t1, wr_tkc, tkc1, tkc2, tkc3, tkc4, p.rd, hF] at hc232
                      refine w_load rfl rfl rfl ?_
                      refine w_callV1 rfl (Nat.le_of_ble_eq_true rfl) (Or.inr (Or.inr hT.o)) (Nat.le_of_ble_eq_true rfl) (tw_misfit hE p) (fun G236 h236 => ?_)
                      skip
                      refine w_return rfl ?_
                      exact RV.mk (Or.inr (Or.inr (Or.inr (Or.inr (Or.inl ⟨by omega, Or.inr ⟨by omega, h236⟩⟩)))))
                · try simp (disch := omega) only [zF_wF, zF_wA, zF_wJ, zF_wD, zA_wF, zA_wA, zA_wJ, zA_wD, zL_wJ, zL_wF, zL_wA, zL_wD, J_wr, wr_zF, wr_zA, wrJ_zL, wr_id, wrJ_id, ne_eq, reduceCtorEq, not_false_eq_true, not_true_eq_false, if_true, if_false, Nat.reduceEqDiff, eq_self, wif0, if0, Decidable.not_not, t1, wr_tkc, tkc1, tkc2, tkc3, tkc4, p.rd, hF] at hc182
                  refine w_load rfl rfl rfl ?_
                  refine w_dup rfl rfl ?_
                  refine w_getI0k rfl hT.o (e1) ?_
                  refine w_const (1) rfl rfl ?_
                  refine w_iadd rfl ?_
                  refine w_putI0 rfl hT.o ?_
                  refine w_pr (p.nxt (p.lt hE (by omega)) h41 rfl) (fun G p => ?_)
                  have hT := p.hts hE
                  have est := p.zst hE
                  obtain ⟨t1, t2, t3, t4⟩ := p.tok hE
                  have t5 := p.zl hE
                  obtain ⟨⟨e1, e2, e3, e4, e5⟩, ⟨e6, e7, e8, e9⟩, b1, b2, b3, b4⟩ := p.bd
                  try simp only [List.length_cons, List.length_append, List.length_nil, ptc_len, List.length_dropLast] at e2 e4 e5 b1 b2 b3 b4
                  refine w_load rfl rfl rfl ?_
                  refine w_const (2) rfl rfl ?_
                  refine w_callV2 rfl (Nat.le_of_ble_eq_true rfl) (Or.inr (Or.inr hT.o)) (Nat.le_of_ble_eq_true rfl) (tw_open hE p (by decide)) (fun G197 h197 => ?_)
                  skip
                  refine w_goto rfl ?_
                  refine w_return rfl ?_
                  first
                  | (refine RV.mk (Or.inl ⟨by omega, ?_⟩)
                     first | (rw [if_pos (by omega)]; exact h89) | (rw [if_neg (by omega), if_pos (by omega)]; exact h89) | (rw [if_neg (by omega), if_neg (by omega), show 1 + tsc f n T i = 2 + tsc f n T i - 1 by omega]; exact h89))
                  | exact RV.mk (Or.inr (Or.inl ⟨by omega, h101⟩))
                  | (refine RV.mk (Or.inr (Or.inr (Or.inl ⟨⟨by omega, by omega⟩, ?_⟩)))
                     first | (rw [if_pos (by omega)]; exact p) | (rw [if_neg (by omega)]; exact p))
                  | (simp only [List.length_cons] at h197
                     refine RV.mk (Or.inr (Or.inr (Or.inr (Or.inl ⟨by omega, ?_⟩))))
                     rcases h197 with ⟨h1, h2, -⟩ | ⟨h1, h2⟩
                     · exact Or.inl ⟨by omega, h2⟩
                     · exact Or.inr ⟨by omega, h2⟩)
                  | exact RV.mk (Or.inr (Or.inr (Or.inr (Or.inr (Or.inl ⟨by omega, Or.inl ⟨by omega, h268⟩⟩)))))
                  | exact RV.mk (Or.inr (Or.inr (Or.inr (Or.inr (Or.inr ⟨by omega, h275⟩)))))
              · try simp (disch := omega) only [zF_wF, zF_wA, zF_wJ, zF_wD, zA_wF, zA_wA, zA_wJ, zA_wD, zL_wJ, zL_wF, zL_wA, zL_wD, J_wr, wr_zF, wr_zA, wrJ_zL, wr_id, wrJ_id, ne_eq, reduceCtorEq, not_false_eq_true, not_true_eq_false, if_true, if_false, Nat.reduceEqDiff, eq_self, wif0, if0, Decidable.not_not, t1, wr_tkc, tkc1, tkc2, tkc3, tkc4, p.rd, hF] at hc131
                refine w_load rfl rfl rfl ?_
                refine w_getP rfl hT.o (hT.p rfl) ?_
                refine w_load rfl rfl rfl ?_
                refine w_load rfl rfl rfl ?_
                refine w_const (45) rfl rfl ?_
                refine w_callI2 rfl (Nat.le_of_ble_eq_true rfl) (Or.inr (Or.inr hT.o)) (Nat.le_of_ble_eq_true rfl) (tw_isSign hE p (by decide)) (fun z142 G142 h142 => ?_)
                obtain ⟨rfl, rfl⟩ := h142
                refine w_if_eq rfl (fun hc145 => ?_) (fun hc145 => ?_)
                · try simp (disch := omega) only [zF_wF, zF_wA, zF_wJ, zF_wD, zA_wF, zA_wA, zA_wJ, zA_wD, zL_wJ, zL_wF, zL_wA, zL_wD, J_wr, wr_zF, wr_zA, wrJ_zL, wr_id, wrJ_id, ne_eq, reduceCtorEq, not_false_eq_true, not_true_eq_false, if_true, if_false, Nat.reduceEqDiff, eq_self, wif0, if0, Decidable.not_not, t1, wr_tkc, tkc1, tkc2, tkc3, tkc4, p.rd, hF] at hc145
                  refine w_const (31) rfl rfl ?_
                  refine w_iast rfl (hT.t rfl) (hT.n rfl) (by omega) (by decide) ?_
                  refine w_pr (p.fset (by decide) (by omega) (by decide)) (fun G p => ?_)
                  have hT := p.hts hE
                  have est := p.zst hE
                  obtain ⟨t1, t2, t3, t4⟩ := p.tok hE
                  have t5 := p.zl hE
                  obtain ⟨⟨e1, e2, e3, e4, e5⟩, ⟨e6, e7, e8, e9⟩, b1, b2, b3, b4⟩ := p.bd
                  try simp only [List.length_cons, List.length_append, List.length_nil, ptc_len, List.length_dropLast] at e2 e4 e5 b1 b2 b3 b4
                  refine w_load rfl rfl rfl ?_
                  refine w_getP rfl hT.o (hT.p rfl) ?_
                  refine w_load rfl rfl rfl ?_
                  refine w_const (0) rfl rfl ?_
                  refine w_zast rfl (hT.t rfl) (hT.n rfl) (by omega) (by decide) (by first | exact Or.inl rfl | exact Or.inr rfl | omega) ?_
                  refine w_pr (p.fset (by decide) (by omega) (by decide)) (fun G p => ?_)
                  have hT := p.hts hE
                  have est := p.zst hE
                  obtain ⟨t1, t2, t3, t4⟩ := p.tok hE
                  have t5 := p.zl hE
                  obtain ⟨⟨e1, e2, e3, e4, e5⟩, ⟨e6, e7, e8, e9⟩, b1, b2, b3, b4⟩ := p.bd
                  try simp only [List.length_cons, List.length_append, List.length_nil, ptc_len, List.length_dropLast] at e2 e4 e5 b1 b2 b3 b4
                  refine w_load rfl rfl rfl ?_
                  refine w_dup rfl rfl ?_
                  refine w_getI0k rfl hT.o (e1) ?_
                  refine w_const (1) rfl rfl ?_
                  refine w_iadd rfl ?_
                  refine w_putI0 rfl hT.o ?_
                  refine w_pr (p.nxt (p.lt hE (by omega)) h41 rfl) (fun G p => ?_)
                  have hT := p.hts hE
                  have est := p.zst hE
                  obtain ⟨t1, t2, t3, t4⟩ := p.tok hE
                  have t5 := p.zl hE
                  obtain ⟨⟨e1, e2, e3, e4, e5⟩, ⟨e6, e7, e8, e9⟩, b1, b2, b3, b4⟩ := p.bd
                  try simp only [List.length_cons, List.length_append, List.length_nil, ptc_len, List.length_dropLast] at e2 e4 e5 b1 b2 b3 b4
                  refine w_goto rfl ?_
                  refine w_return rfl ?_
                  first
                  | (refine RV.mk (Or.inl ⟨by omega, ?_⟩)
                     first | (rw [if_pos (by omega)]; exact h89) | (rw [if_neg (by omega), if_pos (by omega)]; exact h89) | (rw [if_neg (by omega), if_neg (by omega), show 1 + tsc f n T i = 2 + tsc f n T i - 1 by omega]; exact h89))
                  | exact RV.mk (Or.inr (Or.inl ⟨by omega, h101⟩))
                  | (refine RV.mk (Or.inr (Or.inr (Or.inl ⟨⟨by omega, by omega⟩, ?_⟩)))
                     first | (rw [if_pos (by omega)]; exact p) | (rw [if_neg (by omega)]; exact p))
                  | (simp only [List.length_cons] at h197
                     refine RV.mk (Or.inr (Or.inr (Or.inr (Or.inl ⟨by omega, ?_⟩))))
                     rcases h197 with ⟨h1, h2, -⟩ | ⟨h1, h2⟩
                     · exact Or.inl ⟨by omega, h2⟩
                     · exact Or.inr ⟨by omega, h2⟩)
                  | exact RV.mk (Or.inr (Or.inr (Or.inr (Or.inr (Or.inl ⟨by omega, Or.inl ⟨by omega, h268⟩⟩)))))
                  | exact RV.mk (Or.inr (Or.inr (Or.inr (Or.inr (Or.inr ⟨by omega, h275⟩)))))
                · try simp (disch := omega) only [zF_wF, zF_wA, zF_wJ, zF_wD, zA_wF, zA_wA, zA_wJ, zA_wD, zL_wJ, zL_wF, zL_wA, zL_wD, J_wr, wr_zF, wr_zA, wrJ_zL, wr_id, wrJ_id, ne_eq, reduceCtorEq, not_false_eq_true, not_true_eq_false, if_true, if_false, Nat.reduceEqDiff, eq_self, wif0, if0, Decidable.not_not, t1, wr_tkc, tkc1, tkc2, tkc3, tkc4, p.rd, hF] at hc145
                  refine w_const (30) rfl rfl ?_
                  refine w_goto rfl ?_
                  refine w_iast rfl (hT.t rfl) (hT.n rfl) (by omega) (by decide) ?_
                  refine w_pr (p.fset (by decide) (by omega) (by decide)) (fun G p => ?_)
                  have hT := p.hts hE
                  have est := p.zst hE
                  obtain ⟨t1, t2, t3, t4⟩ := p.tok hE
                  have t5 := p.zl hE
                  obtain ⟨⟨e1, e2, e3, e4, e5⟩, ⟨e6, e7, e8, e9⟩, b1, b2, b3, b4⟩ := p.bd
                  try simp only [List.length_cons, List.length_append, List.length_nil, ptc_len, List.length_dropLast] at e2 e4 e5 b1 b2 b3 b4
                  refine w_load rfl rfl rfl ?_
                  refine w_getP rfl hT.o (hT.p rfl) ?_
                  refine w_load rfl rfl rfl ?_
                  refine w_const (0) rfl rfl ?_
                  refine w_zast rfl (hT.t rfl) (hT.n rfl) (by omega) (by decide) (by first | exact Or.inl rfl | exact Or.inr rfl | omega) ?_
                  refine w_pr (p.fset (by decide) (by omega) (by decide)) (fun G p => ?_)
                  have hT := p.hts hE
                  have est := p.zst hE
                  obtain ⟨t1, t2, t3, t4⟩ := p.tok hE
                  have t5 := p.zl hE
                  obtain ⟨⟨e1, e2, e3, e4, e5⟩, ⟨e6, e7, e8, e9⟩, b1, b2, b3, b4⟩ := p.bd
                  try simp only [List.length_cons, List.length_append, List.length_nil, ptc_len, List.length_dropLast] at e2 e4 e5 b1 b2 b3 b4
                  refine w_load rfl rfl rfl ?_
                  refine w_dup rfl rfl ?_
                  refine w_getI0k rfl hT.o (e1) ?_
                  refine w_const (1) rfl rfl ?_
                  refine w_iadd rfl ?_
                  refine w_putI0 rfl hT.o ?_
                  refine w_pr (p.nxt (p.lt hE (by omega)) h41 rfl) (fun G p => ?_)
                  have hT := p.hts hE
                  have est := p.zst hE
                  obtain ⟨t1, t2, t3, t4⟩ := p.tok hE
                  have t5 := p.zl hE
                  obtain ⟨⟨e1, e2, e3, e4, e5⟩, ⟨e6, e7, e8, e9⟩, b1, b2, b3, b4⟩ := p.bd
                  try simp only [List.length_cons, List.length_append, List.length_nil, ptc_len, List.length_dropLast] at e2 e4 e5 b1 b2 b3 b4
                  refine w_goto rfl ?_
                  refine w_return rfl ?_
                  first
                  | (refine RV.mk (Or.inl ⟨by omega, ?_⟩)
                     first | (rw [if_pos (by omega)]; exact h89) | (rw [if_neg (by omega), if_pos (by omega)]; exact h89) | (rw [if_neg (by omega), if_neg (by omega), show 1 + tsc f n T i = 2 + tsc f n T i - 1 by omega]; exact h89))
                  | exact RV.mk (Or.inr (Or.inl ⟨by omega, h101⟩))
                  | (refine RV.mk (Or.inr (Or.inr (Or.inl ⟨⟨by omega, by omega⟩, ?_⟩)))
                     first | (rw [if_pos (by omega)]; exact p) | (rw [if_neg (by omega)]; exact p))
                  | (simp only [List.length_cons] at h197
                     refine RV.mk (Or.inr (Or.inr (Or.inr (Or.inl ⟨by omega, ?_⟩))))
                     rcases h197 with ⟨h1, h2, -⟩ | ⟨h1, h2⟩
                     · exact Or.inl ⟨by omega, h2⟩
                     · exact Or.inr ⟨by omega, h2⟩)
                  | exact RV.mk (Or.inr (Or.inr (Or.inr (Or.inr (Or.inl ⟨by omega, Or.inl ⟨by omega, h268⟩⟩)))))
                  | exact RV.mk (Or.inr (Or.inr (Or.inr (Or.inr (Or.inr ⟨by omega, h275⟩)))))
        · try simp (disch := omega) only [zF_wF, zF_wA, zF_wJ, zF_wD, zA_wF, zA_wA, zA_wJ, zA_wD, zL_wJ, zL_wF, zL_wA, zL_wD, J_wr, wr_zF, wr_zA, wrJ_zL, wr_id, wrJ_id, ne_eq, reduceCtorEq, not_false_eq_true, not_true_eq_false, if_true, if_false, Nat.reduceEqDiff, eq_self, wif0, if0, Decidable.not_not, t1, wr_tkc, tkc1, tkc2, tkc3, tkc4, p.rd, hF] at hc97
          refine w_load rfl rfl rfl ?_
          refine w_callV1 rfl (Nat.le_of_ble_eq_true rfl) (Or.inr (Or.inr hT.o)) (Nat.le_of_ble_eq_true rfl) (tw_word hE p (by omega) (by omega)) (fun G101 h101 => ?_)
          skip
          refine w_goto rfl ?_
          refine w_return rfl ?_
          first
          | (refine RV.mk (Or.inl ⟨by omega, ?_⟩)
             first | (rw [if_pos (by omega)]; exact h89) | (rw [if_neg (by omega), if_pos (by omega)]; exact h89) | (rw [if_neg (by omega), if_neg (by omega), show 1 + tsc f n T i = 2 + tsc f n T i - 1 by omega]; exact h89))
          | exact RV.mk (Or.inr (Or.inl ⟨by omega, h101⟩))
          | (refine RV.mk (Or.inr (Or.inr (Or.inl ⟨⟨by omega, by omega⟩, ?_⟩)))
             first | (rw [if_pos (by omega)]; exact p) | (rw [if_neg (by omega)]; exact p))
          | (simp only [List.length_cons] at h197
             refine RV.mk (Or.inr (Or.inr (Or.inr (Or.inl ⟨by omega, ?_⟩))))
             rcases h197 with ⟨h1, h2, -⟩ | ⟨h1, h2⟩
             · exact Or.inl ⟨by omega, h2⟩
             · exact Or.inr ⟨by omega, h2⟩)
          | exact RV.mk (Or.inr (Or.inr (Or.inr (Or.inr (Or.inl ⟨by omega, Or.inl ⟨by omega, h268⟩⟩)))))
          | exact RV.mk (Or.inr (Or.inr (Or.inr (Or.inr (Or.inr ⟨by omega, h275⟩)))))
      · try simp (disch := omega) only [zF_wF, zF_wA, zF_wJ, zF_wD, zA_wF, zA_wA, zA_wJ, zA_wD, zL_wJ, zL_wF, zL_wA, zL_wD, J_wr, wr_zF, wr_zA, wrJ_zL, wr_id, wrJ_id, ne_eq, reduceCtorEq, not_false_eq_true, not_true_eq_false, if_true, if_false, Nat.reduceEqDiff, eq_self, wif0, if0, Decidable.not_not, t1, wr_tkc, tkc1, tkc2, tkc3, tkc4, p.rd, hF] at hc29
        refine w_load rfl rfl rfl ?_
        refine w_load rfl rfl rfl ?_
        refine w_const (1) rfl rfl ?_
        refine w_icmp_ne rfl (fun hc35 => ?_) (fun hc35 => ?_)
        · try simp (disch := omega) only [zF_wF, zF_wA, zF_wJ, zF_wD, zA_wF, zA_wA, zA_wJ, zA_wD, zL_wJ, zL_wF, zL_wA, zL_wD, J_wr, wr_zF, wr_zA, wrJ_zL, wr_id, wrJ_id, ne_eq, reduceCtorEq, not_false_eq_true, not_true_eq_false, if_true, if_false, Nat.reduceEqDiff, eq_self, wif0, if0, Decidable.not_not, t1, wr_tkc, tkc1, tkc2, tkc3, tkc4, p.rd, hF] at hc35
          refine w_load rfl rfl rfl ?_
          refine w_const (4) rfl rfl ?_
          refine w_icmp_ne rfl (fun hc44 => ?_) (fun hc44 => ?_)
          · try simp (disch := omega) only [zF_wF, zF_wA, zF_wJ, zF_wD, zA_wF, zA_wA, zA_wJ, zA_wD, zL_wJ, zL_wF, zL_wA, zL_wD, J_wr, wr_zF, wr_zA, wrJ_zL, wr_id, wrJ_id, ne_eq, reduceCtorEq, not_false_eq_true, not_true_eq_false, if_true, if_false, Nat.reduceEqDiff, eq_self, wif0, if0, Decidable.not_not, t1, wr_tkc, tkc1, tkc2, tkc3, tkc4, p.rd, hF] at hc44
            refine w_const (2) rfl rfl ?_
            refine w_load rfl rfl rfl ?_
            refine w_getP rfl hT.o (hT.p rfl) ?_
            refine w_load rfl rfl rfl ?_
            refine w_getI0k rfl hT.o (e1) ?_
            refine w_iald rfl (hT.t rfl) (hT.n rfl) (by omega) (by decide) ?_
            refine w_iadd rfl ?_
            refine w_const (1) rfl rfl ?_
            refine w_isub rfl ?_
            refine w_load rfl rfl rfl ?_
            refine w_getP rfl hT.o (hT.p rfl) ?_
            refine w_load rfl rfl rfl ?_
            refine w_getI0k rfl hT.o (e1) ?_
            refine w_lald rfl (hT.t rfl) (hT.n rfl) (by omega) (by decide) ?_
            first
            | (rw [t5]; rw [t4])
            | rw [t5]
            refine w_callI3 rfl (Nat.le_of_ble_eq_true rfl) (Or.inr (Or.inr hT.o)) (Nat.le_of_ble_eq_true rfl) (tw_emit hE p (v := tvl f n T i) (by omega) (by omega) (by rw [J_wrJ])) (fun z73 G73 h73 => ?_)
            obtain ⟨-, p, -⟩ := h73
            have hT := p.hts hE
            have est := p.zst hE
            obtain ⟨t1, t2, t3, t4⟩ := p.tok hE
            have t5 := p.zl hE
            obtain ⟨⟨e1, e2, e3, e4, e5⟩, ⟨e6, e7, e8, e9⟩, b1, b2, b3, b4⟩ := p.bd
            try simp only [List.length_cons, List.length_append, List.length_nil, ptc_len, List.length_dropLast] at e2 e4 e5 b1 b2 b3 b4
            refine w_pop rfl rfl ?_
            refine w_load rfl rfl rfl ?_
            refine w_dup rfl rfl ?_
            refine w_getI0k rfl hT.o (e1) ?_
            refine w_const (1) rfl rfl ?_
            refine w_iadd rfl ?_
            refine w_putI0 rfl hT.o ?_
            refine w_pr (p.nxt (p.lt hE (by omega)) h41 rfl) (fun G p => ?_)
            have hT := p.hts hE
            have est := p.zst hE
            obtain ⟨t1, t2, t3, t4⟩ := p.tok hE
            have t5 := p.zl hE
            obtain ⟨⟨e1, e2, e3, e4, e5⟩, ⟨e6, e7, e8, e9⟩, b1, b2, b3, b4⟩ := p.bd
            try simp only [List.length_cons, List.length_append, List.length_nil, ptc_len, List.length_dropLast] at e2 e4 e5 b1 b2 b3 b4
            refine w_load rfl rfl rfl ?_
            refine w_const (0) rfl rfl ?_
            refine w_callV2 rfl (Nat.le_of_ble_eq_true rfl) (Or.inr (Or.inr hT.o)) (Nat.le_of_ble_eq_true rfl) (tw_ready hE p (Or.inl rfl)) (fun G89 h89 => ?_)
            skip
            refine w_goto rfl ?_
            refine w_return rfl ?_
            first
            | (refine RV.mk (Or.inl ⟨by omega, ?_⟩)
               first | (rw [if_pos (by omega)]; exact h89) | (rw [if_neg (by omega), if_pos (by omega)]; exact h89) | (rw [if_neg (by omega), if_neg (by omega), show 1 + tsc f n T i = 2 + tsc f n T i - 1 by omega]; exact h89))
            | exact RV.mk (Or.inr (Or.inl ⟨by omega, h101⟩))
            | (refine RV.mk (Or.inr (Or.inr (Or.inl ⟨⟨by omega, by omega⟩, ?_⟩)))
               first | (rw [if_pos (by omega)]; exact p) | (rw [if_neg (by omega)]; exact p))
            | (simp only [List.length_cons] at h197
               refine RV.mk (Or.inr (Or.inr (Or.inr (Or.inl ⟨by omega, ?_⟩))))
               rcases h197 with ⟨h1, h2, -⟩ | ⟨h1, h2⟩
               · exact Or.inl ⟨by omega, h2⟩
               · exact Or.inr ⟨by omega, h2⟩)
            | exact RV.mk (Or.inr (Or.inr (Or.inr (Or.inr (Or.inl ⟨by omega, Or.inl ⟨by omega, h268⟩⟩)))))
            | exact RV.mk (Or.inr (Or.inr (Or.inr (Or.inr (Or.inr ⟨by omega, h275⟩)))))
          · try simp (disch := omega) only [zF_wF, zF_wA, zF_wJ, zF_wD, zA_wF, zA_wA, zA_wJ, zA_wD, zL_wJ, zL_wF, zL_wA, zL_wD, J_wr, wr_zF, wr_zA, wrJ_zL, wr_id, wrJ_id, ne_eq, reduceCtorEq, not_false_eq_true, not_true_eq_false, if_true, if_false, Nat.reduceEqDiff, eq_self, wif0, if0, Decidable.not_not, t1, wr_tkc, tkc1, tkc2, tkc3, tkc4, p.rd, hF] at hc44
            refine w_const (5) rfl rfl ?_
            refine w_goto rfl ?_
            refine w_load rfl rfl rfl ?_
            refine w_getP rfl hT.o (hT.p rfl) ?_
            refine w_load rfl rfl rfl ?_
            refine w_getI0k rfl hT.o (e1) ?_
            refine w_lald rfl (hT.t rfl) (hT.n rfl) (by omega) (by decide) ?_
            first
            | (rw [t5]; rw [t4])
            | rw [t5]
            refine w_callI3 rfl (Nat.le_of_ble_eq_true rfl) (Or.inr (Or.inr hT.o)) (Nat.le_of_ble_eq_true rfl) (tw_emit hE p (v := tvl f n T i) (by omega) (by omega) (by rw [J_wrJ])) (fun z73 G73 h73 => ?_)
            obtain ⟨-, p, -⟩ := h73
            have hT := p.hts hE
            have est := p.zst hE
            obtain ⟨t1, t2, t3, t4⟩ := p.tok hE
            have t5 := p.zl hE
            obtain ⟨⟨e1, e2, e3, e4, e5⟩, ⟨e6, e7, e8, e9⟩, b1, b2, b3, b4⟩ := p.bd
            try simp only [List.length_cons, List.length_append, List.length_nil, ptc_len, List.length_dropLast] at e2 e4 e5 b1 b2 b3 b4
            refine w_pop rfl rfl ?_
            refine w_load rfl rfl rfl ?_
            refine w_dup rfl rfl ?_
            refine w_getI0k rfl hT.o (e1) ?_
            refine w_const (1) rfl rfl ?_
            refine w_iadd rfl ?_
            refine w_putI0 rfl hT.o ?_
            refine w_pr (p.nxt (p.lt hE (by omega)) h41 rfl) (fun G p => ?_)
            have hT := p.hts hE
            have est := p.zst hE
            obtain ⟨t1, t2, t3, t4⟩ := p.tok hE
            have t5 := p.zl hE
            obtain ⟨⟨e1, e2, e3, e4, e5⟩, ⟨e6, e7, e8, e9⟩, b1, b2, b3, b4⟩ := p.bd
            try simp only [List.length_cons, List.length_append, List.length_nil, ptc_len, List.length_dropLast] at e2 e4 e5 b1 b2 b3 b4
            refine w_load rfl rfl rfl ?_
            refine w_const (0) rfl rfl ?_
            refine w_callV2 rfl (Nat.le_of_ble_eq_true rfl) (Or.inr (Or.inr hT.o)) (Nat.le_of_ble_eq_true rfl) (tw_ready hE p (Or.inl rfl)) (fun G89 h89 => ?_)
            skip
            refine w_goto rfl ?_
            refine w_return rfl ?_
            first
            | (refine RV.mk (Or.inl ⟨by omega, ?_⟩)
               first | (rw [if_pos (by omega)]; exact h89) | (rw [if_neg (by omega), if_pos (by omega)]; exact h89) | (rw [if_neg (by omega), if_neg (by omega), show 1 + tsc f n T i = 2 + tsc f n T i - 1 by omega]; exact h89))
            | exact RV.mk (Or.inr (Or.inl ⟨by omega, h101⟩))
            | (refine RV.mk (Or.inr (Or.inr (Or.inl ⟨⟨by omega, by omega⟩, ?_⟩)))
               first | (rw [if_pos (by omega)]; exact p) | (rw [if_neg (by omega)]; exact p))
            | (simp only [List.length_cons] at h197
               refine RV.mk (Or.inr (Or.inr (Or.inr (Or.inl ⟨by omega, ?_⟩))))
               rcases h197 with ⟨h1, h2, -⟩ | ⟨h1, h2⟩
               · exact Or.inl ⟨by omega, h2⟩
               · exact Or.inr ⟨by omega, h2⟩)
            | exact RV.mk (Or.inr (Or.inr (Or.inr (Or.inr (Or.inl ⟨by omega, Or.inl ⟨by omega, h268⟩⟩)))))
            | exact RV.mk (Or.inr (Or.inr (Or.inr (Or.inr (Or.inr ⟨by omega, h275⟩)))))
        · try simp (disch := omega) only [zF_wF, zF_wA, zF_wJ, zF_wD, zA_wF, zA_wA, zA_wJ, zA_wD, zL_wJ, zL_wF, zL_wA, zL_wD, J_wr, wr_zF, wr_zA, wrJ_zL, wr_id, wrJ_id, ne_eq, reduceCtorEq, not_false_eq_true, not_true_eq_false, if_true, if_false, Nat.reduceEqDiff, eq_self, wif0, if0, Decidable.not_not, t1, wr_tkc, tkc1, tkc2, tkc3, tkc4, p.rd, hF] at hc35
          refine w_const (1) rfl rfl ?_
          refine w_goto rfl ?_
          refine w_load rfl rfl rfl ?_
          refine w_getP rfl hT.o (hT.p rfl) ?_
          refine w_load rfl rfl rfl ?_
          refine w_getI0k rfl hT.o (e1) ?_
          refine w_lald rfl (hT.t rfl) (hT.n rfl) (by omega) (by decide) ?_
          first
          | (rw [t5]; rw [t4])
          | rw [t5]
          refine w_callI3 rfl (Nat.le_of_ble_eq_true rfl) (Or.inr (Or.inr hT.o)) (Nat.le_of_ble_eq_true rfl) (tw_emit hE p (v := tvl f n T i) (by omega) (by omega) (by rw [J_wrJ])) (fun z73 G73 h73 => ?_)
          obtain ⟨-, p, -⟩ := h73
          have hT := p.hts hE
          have est := p.zst hE
          obtain ⟨t1, t2, t3, t4⟩ := p.tok hE
          have t5 := p.zl hE
          obtain ⟨⟨e1, e2, e3, e4, e5⟩, ⟨e6, e7, e8, e9⟩, b1, b2, b3, b4⟩ := p.bd
          try simp only [List.length_cons, List.length_append, List.length_nil, ptc_len, List.length_dropLast] at e2 e4 e5 b1 b2 b3 b4
          refine w_pop rfl rfl ?_
          refine w_load rfl rfl rfl ?_
          refine w_dup rfl rfl ?_
          refine w_getI0k rfl hT.o (e1) ?_
          refine w_const (1) rfl rfl ?_
          refine w_iadd rfl ?_
          refine w_putI0 rfl hT.o ?_
          refine w_pr (p.nxt (p.lt hE (by omega)) h41 rfl) (fun G p => ?_)
          have hT := p.hts hE
          have est := p.zst hE
          obtain ⟨t1, t2, t3, t4⟩ := p.tok hE
          have t5 := p.zl hE
          obtain ⟨⟨e1, e2, e3, e4, e5⟩, ⟨e6, e7, e8, e9⟩, b1, b2, b3, b4⟩ := p.bd
          try simp only [List.length_cons, List.length_append, List.length_nil, ptc_len, List.length_dropLast] at e2 e4 e5 b1 b2 b3 b4
          refine w_load rfl rfl rfl ?_
          refine w_const (0) rfl rfl ?_
          refine w_callV2 rfl (Nat.le_of_ble_eq_true rfl) (Or.inr (Or.inr hT.o)) (Nat.le_of_ble_eq_true rfl) (tw_ready hE p (Or.inl rfl)) (fun G89 h89 => ?_)
          skip
          refine w_goto rfl ?_
          refine w_return rfl ?_
          first
          | (refine RV.mk (Or.inl ⟨by omega, ?_⟩)
             first | (rw [if_pos (by omega)]; exact h89) | (rw [if_neg (by omega), if_pos (by omega)]; exact h89) | (rw [if_neg (by omega), if_neg (by omega), show 1 + tsc f n T i = 2 + tsc f n T i - 1 by omega]; exact h89))
          | exact RV.mk (Or.inr (Or.inl ⟨by omega, h101⟩))
          | (refine RV.mk (Or.inr (Or.inr (Or.inl ⟨⟨by omega, by omega⟩, ?_⟩)))
             first | (rw [if_pos (by omega)]; exact p) | (rw [if_neg (by omega)]; exact p))
          | (simp only [List.length_cons] at h197
             refine RV.mk (Or.inr (Or.inr (Or.inr (Or.inl ⟨by omega, ?_⟩))))
             rcases h197 with ⟨h1, h2, -⟩ | ⟨h1, h2⟩
             · exact Or.inl ⟨by omega, h2⟩
             · exact Or.inr ⟨by omega, h2⟩)
          | exact RV.mk (Or.inr (Or.inr (Or.inr (Or.inr (Or.inl ⟨by omega, Or.inl ⟨by omega, h268⟩⟩)))))
          | exact RV.mk (Or.inr (Or.inr (Or.inr (Or.inr (Or.inr ⟨by omega, h275⟩)))))
end tw11

