/-! THE TWIN's READING: a choice ends -/
set_option maxRecDepth 100000
theorem redF_len {st : Nat} {lv : Int} : ∀ {own : List Fm} {o : List Sp}, (redF st lv own o).2.length + (redF st lv own o).1.length = o.length + own.length
  | [], o => rfl
  | W :: ws, o => by
    rw [redF]
    split
    · rfl
    · split
      · have := redF_len (st := st) (lv := lv) (own := ws) (o := ptc (o ++ [(34, 0)]) (W 118 - st).toNat (st + o.length + 1))
        simp only [ptc_len, List.length_append, List.length_cons, List.length_nil] at this ⊢
        omega
      · have := redF_len (st := st) (lv := lv) (own := ws) (o := o ++ [(W 116, 0)])
        simp only [List.length_append, List.length_cons, List.length_nil] at this ⊢
        omega
theorem redF_le {st : Nat} {lv : Int} : ∀ {own : List Fm} {o : List Sp}, (redF st lv own o).1.length ≤ own.length
  | [], o => Nat.le_refl _
  | W :: ws, o => by
    rw [redF]
    split
    · exact Nat.le_refl _
    · split <;> exact Nat.le_succ_of_le redF_le
theorem redF_all {st m : Nat} : ∀ {own : List Fm} {o : List Sp}, wOK st m own → (redF st 1 own o).1 = []
  | [], o, _ => rfl
  | W :: ws, o, h => by
    have h1 := (h W (List.mem_cons_self ..)).1
    rw [redF, if_neg (by omega)]
    split <;> exact redF_all (fun V hV => h V (List.mem_cons_of_mem _ hV))
section tw12
variable {f : Int → Int} {n : Int} {T : List (Int × Int × Int)} {G0 : mG} {st : Nat} {i k : Nat} {out : List Sp} {fr wt own outer : List Fm} {F P : Fm} {ta ts : Int} {G : mG} {op : Bool} {d : Nat} {Q : mR → Prop}
theorem tw_argument (hE : PEnv f n T G0 st) (p : PR T G0 st G i out op (F :: P :: fr) wt ta ts) (hc : F 112 = 1 ∨ F 112 = 2) (hn : 0 ≤ F 111 ∧ F 111 ≤ 14348906) (hk : F 110 = (st : Int) + k) (hk2 : k < out.length) (ho : out.length + 1 ≤ 90) : Wp (d + 2, 177, 0, [some (.ref 98), none], [], G) (RV fun G' =>
    (tkd n T i = 44 ∧ F 112 = 1) ∧ PR T G0 st G' (i + 1) out true (freshF (up F 112 2) wt.length :: P :: fr) wt ta ts
    ∨ (¬ (tkd n T i = 44 ∧ F 112 = 1) ∧ ¬ tkd n T i = 41) ∧ PE G0 st G' 2 (tpl n T i)
    ∨ tkd n T i = 41 ∧ PR T G0 st G' (i + 1) (ptc (out ++ [(15, 4 * F 111 + F 112)]) k ((st : Int) + out.length + 1)) false (up P 115 0 :: fr) wt ta ts) := by
  have h41 := hE.2.2.1
  have h35 := hE.2.2.2.2.2.1
  have hT := p.hts hE
  have est := p.zst hE
  obtain ⟨t1, t2, t3, t4⟩ := p.tok hE
  have t5 := p.zl hE
  obtain ⟨⟨e1, e2, e3, e4, e5⟩, ⟨e6, e7, e8, e9⟩, b1, b2, b3, b4⟩ := p.bd
  try simp only [List.length_cons, List.length_append, List.length_nil, ptc_len, List.length_dropLast] at e2 e4 e5 b1 b2 b3 b4
  have rd : ∀ {x : Nat} {k : Int}, k = ((fr.length + 1 : Nat) : Int) → 107 ≤ x → x ≤ 115 → zA G x k = F x := fun h a b => p.rd h a b
  have hw : wr (F 112) = F 112 := by rw [← p.rd (x := 112) rfl (by decide) (by decide)]; exact wr_zA _ _ _
  refine w_load rfl rfl rfl ?_
  refine w_getI0k rfl hT.o (e4) ?_
  refine w_const (1) rfl rfl ?_
  refine w_isub rfl ?_
  refine w_st1 rfl rfl rfl ?_
  refine w_load rfl rfl rfl ?_
  refine w_const (44) rfl rfl ?_
  refine w_callI2 rfl (Nat.le_of_ble_eq_true rfl) (Or.inr (Or.inr hT.o)) (Nat.le_of_ble_eq_true rfl) (tw_isSign hE p (by decide)) (fun z10 G10 h10 => ?_)
  obtain ⟨rfl, rfl⟩ := h10
  refine w_if_eq rfl (fun hc13 => ?_) (fun hc13 => ?_)
  · try simp (disch := omega) only [zF_wF, zF_wA, zF_wJ, zF_wD, zA_wF, zA_wA, zA_wJ, zA_wD, zL_wJ, zL_wF, zL_wA, zL_wD, J_wr, wr_zF, wr_zA, wrJ_zL, wr_id, wrJ_id, ne_eq, reduceCtorEq, not_false_eq_true, not_true_eq_false, if_true, if_false, Nat.reduceEqDiff, eq_self, wif0, if0, Decidable.not_not, rd, hw] at hc13
    refine w_load rfl rfl rfl ?_
    refine w_const (41) rfl rfl ?_
    refine w_callI2 rfl (Nat.le_of_ble_eq_true rfl) (Or.inr (Or.inr hT.o)) (Nat.le_of_ble_eq_true rfl) (tw_isSign hE p (by decide)) (fun z51 G51 h51 => ?_)
    obtain ⟨rfl, rfl⟩ := h51
    refine w_if_ne rfl (fun hc54 => ?_) (fun hc54 => ?_)
    · try simp (disch := omega) only [zF_wF, zF_wA, zF_wJ, zF_wD, zA_wF, zA_wA, zA_wJ, zA_wD, zL_wJ, zL_wF, zL_wA, zL_wD, J_wr, wr_zF, wr_zA, wrJ_zL, wr_id, wrJ_id, ne_eq, reduceCtorEq, not_false_eq_true, not_true_eq_false, if_true, if_false, Nat.reduceEqDiff, eq_self, wif0, if0, Decidable.not_not, rd, hw] at hc54
      refine w_load rfl rfl rfl ?_
      refine w_dup rfl rfl ?_
      refine w_getI0k rfl hT.o (e1) ?_
      refine w_const (1) rfl rfl ?_
      refine w_iadd rfl ?_
      refine w_putI0 rfl hT.o ?_
      refine w_pr (p.nxt (p.lt hE (by omega)) h41 rfl) (fun G p => ?_)
      have hT := p.hts hE
      have est := p.zst hE
      obtain ⟨t1, t2, t3, t4⟩ := p.tok hE
      have t5 := p.zl hE
      obtain ⟨⟨e1, e2, e3, e4, e5⟩, ⟨e6, e7, e8, e9⟩, b1, b2, b3, b4⟩ := p.bd
      try simp only [List.length_cons, List.length_append, List.length_nil, ptc_len, List.length_dropLast] at e2 e4 e5 b1 b2 b3 b4
      refine w_load rfl rfl rfl ?_
      refine w_const (15) rfl rfl ?_
      refine w_lconst (4) rfl rfl ?_
      refine w_load rfl rfl rfl ?_
      refine w_getP rfl hT.o (hT.p rfl) ?_
      refine w_load rfl rfl rfl ?_
      refine w_iald rfl (hT.t rfl) (hT.n rfl) (by omega) (by decide) ?_
      rw [p.rd (by simp only [List.length_append, List.length_cons, List.length_nil, ptc_len]; omega) (by decide) (by decide)]
      refine w_i2l rfl ?_
      refine w_lmul rfl ?_
      refine w_load rfl rfl rfl ?_
      refine w_getP rfl hT.o (hT.p rfl) ?_
      refine w_load rfl rfl rfl ?_
      refine w_iald rfl (hT.t rfl) (hT.n rfl) (by omega) (by decide) ?_
      rw [p.rd (by simp only [List.length_append, List.length_cons, List.length_nil, ptc_len]; omega) (by decide) (by decide)]
      refine w_i2l rfl ?_
      refine w_ladd rfl ?_
      refine w_callI3 rfl (Nat.le_of_ble_eq_true rfl) (Or.inr (Or.inr hT.o)) (Nat.le_of_ble_eq_true rfl) (tw_emit hE p (v := 4 * F 111 + F 112) (by omega) (by decide) (by rw [wr_id (by omega) (by omega), wr_id (by omega) (by omega)])) (fun z94 G94 h94 => ?_)
      obtain ⟨-, p, -⟩ := h94
      have hT := p.hts hE
      have est := p.zst hE
      obtain ⟨t1, t2, t3, t4⟩ := p.tok hE
      have t5 := p.zl hE
      obtain ⟨⟨e1, e2, e3, e4, e5⟩, ⟨e6, e7, e8, e9⟩, b1, b2, b3, b4⟩ := p.bd
      try simp only [List.length_cons, List.length_append, List.length_nil, ptc_len, List.length_dropLast] at e2 e4 e5 b1 b2 b3 b4
      refine w_pop rfl rfl ?_
      refine w_load rfl rfl rfl ?_
      refine w_getP rfl hT.o (hT.p rfl) ?_
      refine w_load rfl rfl rfl ?_
      refine w_getP rfl hT.o (hT.p rfl) ?_
      refine w_load rfl rfl rfl ?_
      refine w_iald rfl (hT.t rfl) (hT.n rfl) (by omega) (by decide) ?_
      have hz : zA G94 110 (((fr.length + 1 + 1 : Nat) : Int) - 1) = F 110 := p.rd (by simp only [List.length_append, List.length_cons, List.length_nil, ptc_len]; omega) (by decide) (by decide)
      refine w_load rfl rfl rfl ?_
      refine w_getI0k rfl hT.o (est) ?_
      refine w_load rfl rfl rfl ?_
      refine w_getI0k rfl hT.o (e2) ?_
      refine w_iadd rfl ?_
      refine w_i2l rfl ?_
      refine w_last rfl (hT.t rfl) (hT.n rfl) (by omega) (by decide) ?_
      refine w_pr (p.patch (k := k) (by simp only [List.length_append, List.length_cons, List.length_nil, ptc_len]; omega) (by omega) (J_wr_eq (v := (st : Int) + out.length + 1) (by omega) (by omega))) (fun G p => ?_)
      have hT := p.hts hE
      have est := p.zst hE
      obtain ⟨t1, t2, t3, t4⟩ := p.tok hE
      have t5 := p.zl hE
      obtain ⟨⟨e1, e2, e3, e4, e5⟩, ⟨e6, e7, e8, e9⟩, b1, b2, b3, b4⟩ := p.bd
      try simp only [List.length_cons, List.length_append, List.length_nil, ptc_len, List.length_dropLast] at e2 e4 e5 b1 b2 b3 b4
      refine w_load rfl rfl rfl ?_
      refine w_dup rfl rfl ?_
      refine w_getI0k rfl hT.o (e4) ?_
      refine w_const (1) rfl rfl ?_
      refine w_isub rfl ?_
      refine w_putI0 rfl hT.o ?_
      refine w_pr (p.fpop (by simp only [List.length_append, List.length_cons, List.length_nil, ptc_len]; omega)) (fun G p => ?_)
      have hT := p.hts hE
      have est := p.zst hE
      obtain ⟨t1, t2, t3, t4⟩ := p.tok hE
      have t5 := p.zl hE
      obtain ⟨⟨e1, e2, e3, e4, e5⟩, ⟨e6, e7, e8, e9⟩, b1, b2, b3, b4⟩ := p.bd
      try simp only [List.length_cons, List.length_append, List.length_nil, ptc_len, List.length_dropLast] at e2 e4 e5 b1 b2 b3 b4
      refine w_load rfl rfl rfl ?_
      refine w_const (0) rfl rfl ?_
      refine w_callV2 rfl (Nat.le_of_ble_eq_true rfl) (Or.inr (Or.inr hT.o)) (Nat.le_of_ble_eq_true rfl) (tw_ready hE p (Or.inl rfl)) (fun G131 h131 => ?_)
      skip
      refine w_return rfl ?_
      exact RV.mk (Or.inr (Or.inr ⟨by omega, h131⟩))
    · try simp (disch := omega) only [zF_wF, zF_wA, zF_wJ, zF_wD, zA_wF, zA_wA, zA_wJ, zA_wD, zL_wJ, zL_wF, zL_wA, zL_wD, J_wr, wr_zF, wr_zA, wrJ_zL, wr_id, wrJ_id, ne_eq, reduceCtorEq, not_false_eq_true, not_true_eq_false, if_true, if_false, Nat.reduceEqDiff, eq_self, wif0, if0, Decidable.not_not, rd, hw] at hc54
      refine w_load rfl rfl rfl ?_
      refine w_callV1 rfl (Nat.le_of_ble_eq_true rfl) (Or.inr (Or.inr hT.o)) (Nat.le_of_ble_eq_true rfl) (tw_misfit hE p) (fun G58 h58 => ?_)
      skip
      refine w_return rfl ?_
      exact RV.mk (Or.inr (Or.inl ⟨⟨by omega, by omega⟩, h58⟩))
  · try simp (disch := omega) only [zF_wF, zF_wA, zF_wJ, zF_wD, zA_wF, zA_wA, zA_wJ, zA_wD, zL_wJ, zL_wF, zL_wA, zL_wD, J_wr, wr_zF, wr_zA, wrJ_zL, wr_id, wrJ_id, ne_eq, reduceCtorEq, not_false_eq_true, not_true_eq_false, if_true, if_false, Nat.reduceEqDiff, eq_self, wif0, if0, Decidable.not_not, rd, hw] at hc13
    refine w_load rfl rfl rfl ?_
    refine w_getP rfl hT.o (hT.p rfl) ?_
    refine w_load rfl rfl rfl ?_
    refine w_iald rfl (hT.t rfl) (hT.n rfl) (by omega) (by decide) ?_
    refine w_const (1) rfl rfl ?_
    refine w_icmp_ne rfl (fun hc23 => ?_) (fun hc23 => ?_)
    · try simp (disch := omega) only [zF_wF, zF_wA, zF_wJ, zF_wD, zA_wF, zA_wA, zA_wJ, zA_wD, zL_wJ, zL_wF, zL_wA, zL_wD, J_wr, wr_zF, wr_zA, wrJ_zL, wr_id, wrJ_id, ne_eq, reduceCtorEq, not_false_eq_true, not_true_eq_false, if_true, if_false, Nat.reduceEqDiff, eq_self, wif0, if0, Decidable.not_not, rd, hw] at hc23
      refine w_load rfl rfl rfl ?_
      refine w_const (41) rfl rfl ?_
      refine w_callI2 rfl (Nat.le_of_ble_eq_true rfl) (Or.inr (Or.inr hT.o)) (Nat.le_of_ble_eq_true rfl) (tw_isSign hE p (by decide)) (fun z51 G51 h51 => ?_)
      obtain ⟨rfl, rfl⟩ := h51
      refine w_if_ne rfl (fun hc54 => ?_) (fun hc54 => ?_)
      · try simp (disch := omega) only [zF_wF, zF_wA, zF_wJ, zF_wD, zA_wF, zA_wA, zA_wJ, zA_wD, zL_wJ, zL_wF, zL_wA, zL_wD, J_wr, wr_zF, wr_zA, wrJ_zL, wr_id, wrJ_id, ne_eq, reduceCtorEq, not_false_eq_true, not_true_eq_false, if_true, if_false, Nat.reduceEqDiff, eq_self, wif0, if0, Decidable.not_not, rd, hw] at hc54
        refine w_load rfl rfl rfl ?_
        refine w_dup rfl rfl ?_
        refine w_getI0k rfl hT.o (e1) ?_
        refine w_const (1) rfl rfl ?_
        refine w_iadd rfl ?_
        refine w_putI0 rfl hT.o ?_
        refine w_pr (p.nxt (p.lt hE (by omega)) h41 rfl) (fun G p => ?_)
        have hT := p.hts hE
        have est := p.zst hE
        obtain ⟨t1, t2, t3, t4⟩ := p.tok hE
        have t5 := p.zl hE
        obtain ⟨⟨e1, e2, e3, e4, e5⟩, ⟨e6, e7, e8, e9⟩, b1, b2, b3, b4⟩ := p.bd
        try simp only [List.length_cons, List.length_append, List.length_nil, ptc_len, List.length_dropLast] at e2 e4 e5 b1 b2 b3 b4
        refine w_load rfl rfl rfl ?_
        refine w_const (15) rfl rfl ?_
        refine w_lconst (4) rfl rfl ?_
        refine w_load rfl rfl rfl ?_
        refine w_getP rfl hT.o (hT.p rfl) ?_
        refine w_load rfl rfl rfl ?_
        refine w_iald rfl (hT.t rfl) (hT.n rfl) (by omega) (by decide) ?_
        rw [p.rd (by simp only [List.length_append, List.length_cons, List.length_nil, ptc_len]; omega) (by decide) (by decide)]
        refine w_i2l rfl ?_
        refine w_lmul rfl ?_
        refine w_load rfl rfl rfl ?_
        refine w_getP rfl hT.o (hT.p rfl) ?_
        refine w_load rfl rfl rfl ?_
        refine w_iald rfl (hT.t rfl) (hT.n rfl) (by omega) (by decide) ?_
        rw [p.rd (by simp only [List.length_append, List.length_cons, List.length_nil, ptc_len]; omega) (by decide) (by decide)]
        refine w_i2l rfl ?_
        refine w_ladd rfl ?_
        refine w_callI3 rfl (Nat.le_of_ble_eq_true rfl) (Or.inr (Or.inr hT.o)) (Nat.le_of_ble_eq_true rfl) (tw_emit hE p (v := 4 * F 111 + F 112) (by omega) (by decide) (by rw [wr_id (by omega) (by omega), wr_id (by omega) (by omega)])) (fun z94 G94 h94 => ?_)
        obtain ⟨-, p, -⟩ := h94
        have hT := p.hts hE
        have est := p.zst hE
        obtain ⟨t1, t2, t3, t4⟩ := p.tok hE
        have t5 := p.zl hE
        obtain ⟨⟨e1, e2, e3, e4, e5⟩, ⟨e6, e7, e8, e9⟩, b1, b2, b3, b4⟩ := p.bd
        try simp only [List.length_cons, List.length_append, List.length_nil, ptc_len, List.length_dropLast] at e2 e4 e5 b1 b2 b3 b4
        refine w_pop rfl rfl ?_
        refine w_load rfl rfl rfl ?_
        refine w_getP rfl hT.o (hT.p rfl) ?_
        refine w_load rfl rfl rfl ?_
        refine w_getP rfl hT.o (hT.p rfl) ?_
        refine w_load rfl rfl rfl ?_
        refine w_iald rfl (hT.t rfl) (hT.n rfl) (by omega) (by decide) ?_
        have hz : zA G94 110 (((fr.length + 1 + 1 : Nat) : Int) - 1) = F 110 := p.rd (by simp only [List.length_append, List.length_cons, List.length_nil, ptc_len]; omega) (by decide) (by decide)
        refine w_load rfl rfl rfl ?_
        refine w_getI0k rfl hT.o (est) ?_
        refine w_load rfl rfl rfl ?_
        refine w_getI0k rfl hT.o (e2) ?_
        refine w_iadd rfl ?_
        refine w_i2l rfl ?_
        refine w_last rfl (hT.t rfl) (hT.n rfl) (by omega) (by decide) ?_
        refine w_pr (p.patch (k := k) (by simp only [List.length_append, List.length_cons, List.length_nil, ptc_len]; omega) (by omega) (J_wr_eq (v := (st : Int) + out.length + 1) (by omega) (by omega))) (fun G p => ?_)
        have hT := p.hts hE
        have est := p.zst hE
        obtain ⟨t1, t2, t3, t4⟩ := p.tok hE
        have t5 := p.zl hE
        obtain ⟨⟨e1, e2, e3, e4, e5⟩, ⟨e6, e7, e8, e9⟩, b1, b2, b3, b4⟩ := p.bd
        try simp only [List.length_cons, List.length_append, List.length_nil, ptc_len, List.length_dropLast] at e2 e4 e5 b1 b2 b3 b4
        refine w_load rfl rfl rfl ?_
        refine w_dup rfl rfl ?_
        refine w_getI0k rfl hT.o (e4) ?_
        refine w_const (1) rfl rfl ?_
        refine w_isub rfl ?_
        refine w_putI0 rfl hT.o ?_
        refine w_pr (p.fpop (by simp only [List.length_append, List.length_cons, List.length_nil, ptc_len]; omega)) (fun G p => ?_)
        have hT := p.hts hE
        have est := p.zst hE
        obtain ⟨t1, t2, t3, t4⟩ := p.tok hE
        have t5 := p.zl hE
        obtain ⟨⟨e1, e2, e3, e4, e5⟩, ⟨e6, e7, e8, e9⟩, b1, b2, b3, b4⟩ := p.bd
        try simp only [List.length_cons, List.length_append, List.length_nil, ptc_len, List.length_dropLast] at e2 e4 e5 b1 b2 b3 b4
        refine w_load rfl rfl rfl ?_
        refine w_const (0) rfl rfl ?_
        refine w_callV2 rfl (Nat.le_of_ble_eq_true rfl) (Or.inr (Or.inr hT.o)) (Nat.le_of_ble_eq_true rfl) (tw_ready hE p (Or.inl rfl)) (fun G131 h131 => ?_)
        skip
        refine w_return rfl ?_
        exact RV.mk (Or.inr (Or.inr ⟨by omega, h131⟩))
      · try simp (disch := omega) only [zF_wF, zF_wA, zF_wJ, zF_wD, zA_wF, zA_wA, zA_wJ, zA_wD, zL_wJ, zL_wF, zL_wA, zL_wD, J_wr, wr_zF, wr_zA, wrJ_zL, wr_id, wrJ_id, ne_eq, reduceCtorEq, not_false_eq_true, not_true_eq_false, if_true, if_false, Nat.reduceEqDiff, eq_self, wif0, if0, Decidable.not_not, rd, hw] at hc54
        refine w_load rfl rfl rfl ?_
        refine w_callV1 rfl (Nat.le_of_ble_eq_true rfl) (Or.inr (Or.inr hT.o)) (Nat.le_of_ble_eq_true rfl) (tw_misfit hE p) (fun G58 h58 => ?_)
        skip
        refine w_return rfl ?_
        exact RV.mk (Or.inr (Or.inl ⟨⟨by omega, by omega⟩, h58⟩))
    · try simp (disch := omega) only [zF_wF, zF_wA, zF_wJ, zF_wD, zA_wF, zA_wA, zA_wJ, zA_wD, zL_wJ, zL_wF, zL_wA, zL_wD, J_wr, wr_zF, wr_zA, wrJ_zL, wr_id, wrJ_id, ne_eq, reduceCtorEq, not_false_eq_true, not_true_eq_false, if_true, if_false, Nat.reduceEqDiff, eq_self, wif0, if0, Decidable.not_not, rd, hw] at hc23
      refine w_load rfl rfl rfl ?_
      refine w_dup rfl rfl ?_
      refine w_getI0k rfl hT.o (e1) ?_
      refine w_const (1) rfl rfl ?_
      refine w_iadd rfl ?_
      refine w_putI0 rfl hT.o ?_
      refine w_pr (p.nxt (p.lt hE (by omega)) h41 rfl) (fun G p => ?_)
      have hT := p.hts hE
      have est := p.zst hE
      obtain ⟨t1, t2, t3, t4⟩ := p.tok hE
      have t5 := p.zl hE
      obtain ⟨⟨e1, e2, e3, e4, e5⟩, ⟨e6, e7, e8, e9⟩, b1, b2, b3, b4⟩ := p.bd
      try simp only [List.length_cons, List.length_append, List.length_nil, ptc_len, List.length_dropLast] at e2 e4 e5 b1 b2 b3 b4
      refine w_load rfl rfl rfl ?_
      refine w_getP rfl hT.o (hT.p rfl) ?_
      refine w_load rfl rfl rfl ?_
      refine w_const (2) rfl rfl ?_
      refine w_iast rfl (hT.t rfl) (hT.n rfl) (by omega) (by decide) ?_
      refine w_pr (p.fset (by decide) (by simp only [List.length_append, List.length_cons, List.length_nil, ptc_len]; omega) (by decide)) (fun G p => ?_)
      have hT := p.hts hE
      have est := p.zst hE
      obtain ⟨t1, t2, t3, t4⟩ := p.tok hE
      have t5 := p.zl hE
      obtain ⟨⟨e1, e2, e3, e4, e5⟩, ⟨e6, e7, e8, e9⟩, b1, b2, b3, b4⟩ := p.bd
      try simp only [List.length_cons, List.length_append, List.length_nil, ptc_len, List.length_dropLast] at e2 e4 e5 b1 b2 b3 b4
      refine w_load rfl rfl rfl ?_
      refine w_callV1 rfl (Nat.le_of_ble_eq_true rfl) (Or.inr (Or.inr hT.o)) (Nat.le_of_ble_eq_true rfl) (tw_fresh hE p) (fun G44 h44 => ?_)
      skip
      refine w_return rfl ?_
      exact RV.mk (Or.inl ⟨⟨by omega, by omega⟩, h44⟩)
theorem tw_assign {s v : Int} (hE : PEnv f n T G0 st) (p : PR T G0 st G i (out ++ [(s, v)]) op [F] wt ta ts) (ho : out.length + 1 ≤ 90) (hv : (F 107 = 0 ∧ tkd n T i = 61 ∧ ¬ F 114 = 0 ∧ ¬ F 115 = 0) → 0 ≤ v ∧ v ≤ 14348906 ∧ 0 ≤ s ∧ s ≤ 100) : Wp (d + 2, 178, 0, [some (.ref 98), none, none], [], G) (RV fun G' =>
    ¬ (F 107 = 0 ∧ tkd n T i = 61 ∧ ¬ F 114 = 0 ∧ ¬ F 115 = 0) ∧ PE G0 st G' 2 (tpl n T i)
    ∨ (F 107 = 0 ∧ tkd n T i = 61 ∧ ¬ F 114 = 0 ∧ ¬ F 115 = 0) ∧ (s = 9 ∧ PR T G0 st G' (i + 1) out true [freshF (up F 107 1) wt.length] wt v 38
      ∨ ¬ s = 9 ∧ PR T G0 st G' (i + 1) (out ++ [(39, v)]) true [freshF (up F 107 1) wt.length] wt v 40)) := by
  have h41 := hE.2.2.1
  have h35 := hE.2.2.2.2.2.1
  have hw : ∀ x, 107 ≤ x → x ≤ 115 → wr (F x) = F x := fun x h1 h2 => by rw [← p.rd (x := x) rfl h1 h2]; exact wr_zA _ _ _
  have hw1 := hw 107 (by decide) (by decide)
  have hw2 := hw 114 (by decide) (by decide)
  have hw3 := hw 115 (by decide) (by decide)
  have hT := p.hts hE
  have est := p.zst hE
  obtain ⟨t1, t2, t3, t4⟩ := p.tok hE
  have t5 := p.zl hE
  obtain ⟨⟨e1, e2, e3, e4, e5⟩, ⟨e6, e7, e8, e9⟩, b1, b2, b3, b4⟩ := p.bd
  try simp only [List.length_cons, List.length_append, List.length_nil, ptc_len, List.length_dropLast] at e2 e4 e5 b1 b2 b3 b4
  have hi : (st : Int) + (((out.length + (0 + 1) : Nat) : Int) - 1) = st + out.length := by omega
  have rd : ∀ {x : Nat} {k : Int}, k = 0 → 107 ≤ x → x ≤ 115 → zA G x k = F x := fun h a b => p.rd h a b
  by_cases hs9 : s = 9
  · refine w_load rfl rfl rfl ?_
    refine w_getP rfl hT.o (hT.p rfl) ?_
    refine w_const (0) rfl rfl ?_
    refine w_iald rfl (hT.t rfl) (hT.n rfl) (by omega) (by decide) ?_
    refine w_if_ne rfl (fun hc6 => ?_) (fun hc6 => ?_)
    · try simp (disch := omega) only [zF_wF, zF_wA, zF_wJ, zF_wD, zA_wF, zA_wA, zA_wJ, zA_wD, zL_wJ, zL_wF, zL_wA, zL_wD, J_wr, wr_zF, wr_zA, wrJ_zL, wr_id, wrJ_id, ne_eq, reduceCtorEq, not_false_eq_true, not_true_eq_false, if_true, if_false, Nat.reduceEqDiff, eq_self, wif0, if0, Decidable.not_not, rd, hw1, hw2, hw3] at hc6
      refine w_const (0) rfl rfl ?_
      refine w_st1 rfl rfl rfl ?_
      refine w_load rfl rfl rfl ?_
      refine w_if_ne rfl (fun hc43 => ?_) (fun hc43 => ?_)
      · exfalso; simp (disch := omega) only [zF_wF, zF_wA, zF_wJ, zF_wD, zA_wF, zA_wA, zA_wJ, zA_wD, zL_wJ, zL_wF, zL_wA, zL_wD, J_wr, wr_zF, wr_zA, wrJ_zL, wr_id, wrJ_id, ne_eq, reduceCtorEq, not_false_eq_true, not_true_eq_false, if_true, if_false, Nat.reduceEqDiff, eq_self, wif0, if0, Decidable.not_not, rd, hw1, hw2, hw3] at hc43 <;> omega
      · try simp (disch := omega) only [zF_wF, zF_wA, zF_wJ, zF_wD, zA_wF, zA_wA, zA_wJ, zA_wD, zL_wJ, zL_wF, zL_wA, zL_wD, J_wr, wr_zF, wr_zA, wrJ_zL, wr_id, wrJ_id, ne_eq, reduceCtorEq, not_false_eq_true, not_true_eq_false, if_true, if_false, Nat.reduceEqDiff, eq_self, wif0, if0, Decidable.not_not, rd, hw1, hw2, hw3] at hc43
        refine w_load rfl rfl rfl ?_
        refine w_callV1 rfl (Nat.le_of_ble_eq_true rfl) (Or.inr (Or.inr hT.o)) (Nat.le_of_ble_eq_true rfl) (tw_misfit hE p) (fun G47 h47 => ?_)
        skip
        refine w_return rfl ?_
        exact RV.mk (Or.inl ⟨by omega, h47⟩)
    · try simp (disch := omega) only [zF_wF, zF_wA, zF_wJ, zF_wD, zA_wF, zA_wA, zA_wJ, zA_wD, zL_wJ, zL_wF, zL_wA, zL_wD, J_wr, wr_zF, wr_zA, wrJ_zL, wr_id, wrJ_id, ne_eq, reduceCtorEq, not_false_eq_true, not_true_eq_false, if_true, if_false, Nat.reduceEqDiff, eq_self, wif0, if0, Decidable.not_not, rd, hw1, hw2, hw3] at hc6
      refine w_load rfl rfl rfl ?_
      refine w_const (61) rfl rfl ?_
      refine w_callI2 rfl (Nat.le_of_ble_eq_true rfl) (Or.inr (Or.inr hT.o)) (Nat.le_of_ble_eq_true rfl) (tw_isSign hE p (by decide)) (fun z12 G12 h12 => ?_)
      obtain ⟨rfl, rfl⟩ := h12
      refine w_if_eq rfl (fun hc15 => ?_) (fun hc15 => ?_)
      · try simp (disch := omega) only [zF_wF, zF_wA, zF_wJ, zF_wD, zA_wF, zA_wA, zA_wJ, zA_wD, zL_wJ, zL_wF, zL_wA, zL_wD, J_wr, wr_zF, wr_zA, wrJ_zL, wr_id, wrJ_id, ne_eq, reduceCtorEq, not_false_eq_true, not_true_eq_false, if_true, if_false, Nat.reduceEqDiff, eq_self, wif0, if0, Decidable.not_not, rd, hw1, hw2, hw3] at hc15
        refine w_const (0) rfl rfl ?_
        refine w_st1 rfl rfl rfl ?_
        refine w_load rfl rfl rfl ?_
        refine w_if_ne rfl (fun hc43 => ?_) (fun hc43 => ?_)
        · exfalso; simp (disch := omega) only [zF_wF, zF_wA, zF_wJ, zF_wD, zA_wF, zA_wA, zA_wJ, zA_wD, zL_wJ, zL_wF, zL_wA, zL_wD, J_wr, wr_zF, wr_zA, wrJ_zL, wr_id, wrJ_id, ne_eq, reduceCtorEq, not_false_eq_true, not_true_eq_false, if_true, if_false, Nat.reduceEqDiff, eq_self, wif0, if0, Decidable.not_not, rd, hw1, hw2, hw3] at hc43 <;> omega
        · try simp (disch := omega) only [zF_wF, zF_wA, zF_wJ, zF_wD, zA_wF, zA_wA, zA_wJ, zA_wD, zL_wJ, zL_wF, zL_wA, zL_wD, J_wr, wr_zF, wr_zA, wrJ_zL, wr_id, wrJ_id, ne_eq, reduceCtorEq, not_false_eq_true, not_true_eq_false, if_true, if_false, Nat.reduceEqDiff, eq_self, wif0, if0, Decidable.not_not, rd, hw1, hw2, hw3] at hc43
          refine w_load rfl rfl rfl ?_
          refine w_callV1 rfl (Nat.le_of_ble_eq_true rfl) (Or.inr (Or.inr hT.o)) (Nat.le_of_ble_eq_true rfl) (tw_misfit hE p) (fun G47 h47 => ?_)
          skip
          refine w_return rfl ?_
          exact RV.mk (Or.inl ⟨by omega, h47⟩)
      · try simp (disch := omega) only [zF_wF, zF_wA, zF_wJ, zF_wD, zA_wF, zA_wA, zA_wJ, zA_wD, zL_wJ, zL_wF, zL_wA, zL_wD, J_wr, wr_zF, wr_zA, wrJ_zL, wr_id, wrJ_id, ne_eq, reduceCtorEq, not_false_eq_true, not_true_eq_false, if_true, if_false, Nat.reduceEqDiff, eq_self, wif0, if0, Decidable.not_not, rd, hw1, hw2, hw3] at hc15
        refine w_load rfl rfl rfl ?_
        refine w_getP rfl hT.o (hT.p rfl) ?_
        refine w_const (0) rfl rfl ?_
        refine w_zald rfl (hT.t rfl) (hT.n rfl) (by omega) (by decide) ?_
        refine w_if_eq rfl (fun hc24 => ?_) (fun hc24 => ?_)
        · try simp (disch := omega) only [zF_wF, zF_wA, zF_wJ, zF_wD, zA_wF, zA_wA, zA_wJ, zA_wD, zL_wJ, zL_wF, zL_wA, zL_wD, J_wr, wr_zF, wr_zA, wrJ_zL, wr_id, wrJ_id, ne_eq, reduceCtorEq, not_false_eq_true, not_true_eq_false, if_true, if_false, Nat.reduceEqDiff, eq_self, wif0, if0, Decidable.not_not, rd, hw1, hw2, hw3] at hc24
          refine w_const (0) rfl rfl ?_
          refine w_st1 rfl rfl rfl ?_
          refine w_load rfl rfl rfl ?_
          refine w_if_ne rfl (fun hc43 => ?_) (fun hc43 => ?_)
          · exfalso; simp (disch := omega) only [zF_wF, zF_wA, zF_wJ, zF_wD, zA_wF, zA_wA, zA_wJ, zA_wD, zL_wJ, zL_wF, zL_wA, zL_wD, J_wr, wr_zF, wr_zA, wrJ_zL, wr_id, wrJ_id, ne_eq, reduceCtorEq, not_false_eq_true, not_true_eq_false, if_true, if_false, Nat.reduceEqDiff, eq_self, wif0, if0, Decidable.not_not, rd, hw1, hw2, hw3] at hc43 <;> omega
          · try simp (disch := omega) only [zF_wF, zF_wA, zF_wJ, zF_wD, zA_wF, zA_wA, zA_wJ, zA_wD, zL_wJ, zL_wF, zL_wA, zL_wD, J_wr, wr_zF, wr_zA, wrJ_zL, wr_id, wrJ_id, ne_eq, reduceCtorEq, not_false_eq_true, not_true_eq_false, if_true, if_false, Nat.reduceEqDiff, eq_self, wif0, if0, Decidable.not_not, rd, hw1, hw2, hw3] at hc43
            refine w_load rfl rfl rfl ?_
            refine w_callV1 rfl (Nat.le_of_ble_eq_true rfl) (Or.inr (Or.inr hT.o)) (Nat.le_of_ble_eq_true rfl) (tw_misfit hE p) (fun G47 h47 => ?_)
            skip
            refine w_return rfl ?_
            exact RV.mk (Or.inl ⟨by omega, h47⟩)
        · try simp (disch := omega) only [zF_wF, zF_wA, zF_wJ, zF_wD, zA_wF, zA_wA, zA_wJ, zA_wD, zL_wJ, zL_wF, zL_wA, zL_wD, J_wr, wr_zF, wr_zA, wrJ_zL, wr_id, wrJ_id, ne_eq, reduceCtorEq, not_false_eq_true, not_true_eq_false, if_true, if_false, Nat.reduceEqDiff, eq_self, wif0, if0, Decidable.not_not, rd, hw1, hw2, hw3] at hc24
          refine w_load rfl rfl rfl ?_
          refine w_getP rfl hT.o (hT.p rfl) ?_
          refine w_const (0) rfl rfl ?_
          refine w_zald rfl (hT.t rfl) (hT.n rfl) (by omega) (by decide) ?_
          refine w_if_eq rfl (fun hc33 => ?_) (fun hc33 => ?_)
          · try simp (disch := omega) only [zF_wF, zF_wA, zF_wJ, zF_wD, zA_wF, zA_wA, zA_wJ, zA_wD, zL_wJ, zL_wF, zL_wA, zL_wD, J_wr, wr_zF, wr_zA, wrJ_zL, wr_id, wrJ_id, ne_eq, reduceCtorEq, not_false_eq_true, not_true_eq_false, if_true, if_false, Nat.reduceEqDiff, eq_self, wif0, if0, Decidable.not_not, rd, hw1, hw2, hw3] at hc33
            refine w_const (0) rfl rfl ?_
            refine w_st1 rfl rfl rfl ?_
            refine w_load rfl rfl rfl ?_
            refine w_if_ne rfl (fun hc43 => ?_) (fun hc43 => ?_)
            · exfalso; simp (disch := omega) only [zF_wF, zF_wA, zF_wJ, zF_wD, zA_wF, zA_wA, zA_wJ, zA_wD, zL_wJ, zL_wF, zL_wA, zL_wD, J_wr, wr_zF, wr_zA, wrJ_zL, wr_id, wrJ_id, ne_eq, reduceCtorEq, not_false_eq_true, not_true_eq_false, if_true, if_false, Nat.reduceEqDiff, eq_self, wif0, if0, Decidable.not_not, rd, hw1, hw2, hw3] at hc43 <;> omega
            · try simp (disch := omega) only [zF_wF, zF_wA, zF_wJ, zF_wD, zA_wF, zA_wA, zA_wJ, zA_wD, zL_wJ, zL_wF, zL_wA, zL_wD, J_wr, wr_zF, wr_zA, wrJ_zL, wr_id, wrJ_id, ne_eq, reduceCtorEq, not_false_eq_true, not_true_eq_false, if_true, if_false, Nat.reduceEqDiff, eq_self, wif0, if0, Decidable.not_not, rd, hw1, hw2, hw3] at hc43
              refine w_load rfl rfl rfl ?_
              refine w_callV1 rfl (Nat.le_of_ble_eq_true rfl) (Or.inr (Or.inr hT.o)) (Nat.le_of_ble_eq_true rfl) (tw_misfit hE p) (fun G47 h47 => ?_)
              skip
              refine w_return rfl ?_
              exact RV.mk (Or.inl ⟨by omega, h47⟩)
          · try simp (disch := omega) only [zF_wF, zF_wA, zF_wJ, zF_wD, zA_wF, zA_wA, zA_wJ, zA_wD, zL_wJ, zL_wF, zL_wA, zL_wD, J_wr, wr_zF, wr_zA, wrJ_zL, wr_id, wrJ_id, ne_eq, reduceCtorEq, not_false_eq_true, not_true_eq_false, if_true, if_false, Nat.reduceEqDiff, eq_self, wif0, if0, Decidable.not_not, rd, hw1, hw2, hw3] at hc33
            refine w_const (1) rfl rfl ?_
            refine w_goto rfl ?_
            refine w_st1 rfl rfl rfl ?_
            refine w_load rfl rfl rfl ?_
            refine w_if_ne rfl (fun hc43 => ?_) (fun hc43 => ?_)
            · try simp (disch := omega) only [zF_wF, zF_wA, zF_wJ, zF_wD, zA_wF, zA_wA, zA_wJ, zA_wD, zL_wJ, zL_wF, zL_wA, zL_wD, J_wr, wr_zF, wr_zA, wrJ_zL, wr_id, wrJ_id, ne_eq, reduceCtorEq, not_false_eq_true, not_true_eq_false, if_true, if_false, Nat.reduceEqDiff, eq_self, wif0, if0, Decidable.not_not, rd, hw1, hw2, hw3] at hc43
              refine w_load rfl rfl rfl ?_
              refine w_dup rfl rfl ?_
              refine w_getI0k rfl hT.o (e1) ?_
              refine w_const (1) rfl rfl ?_
              refine w_iadd rfl ?_
              refine w_putI0 rfl hT.o ?_
              refine w_pr (p.nxt (p.lt hE (by omega)) h41 rfl) (fun G p => ?_)
              have hT := p.hts hE
              have est := p.zst hE
              obtain ⟨t1, t2, t3, t4⟩ := p.tok hE
              have t5 := p.zl hE
              obtain ⟨⟨e1, e2, e3, e4, e5⟩, ⟨e6, e7, e8, e9⟩, b1, b2, b3, b4⟩ := p.bd
              try simp only [List.length_cons, List.length_append, List.length_nil, ptc_len, List.length_dropLast] at e2 e4 e5 b1 b2 b3 b4
              refine w_load rfl rfl rfl ?_
              refine w_dup rfl rfl ?_
              refine w_getI0k rfl hT.o (e2) ?_
              refine w_const (1) rfl rfl ?_
              refine w_isub rfl ?_
              refine w_putI0 rfl hT.o ?_
              have hq := p.2.2.1 out.length (s, v) (by rw [List.getElem?_append_right (Nat.le_refl _), Nat.sub_self]; rfl)
              have p2 := p.back1 (v := ((out.length + (0 + 1) : Nat) : Int) - 1) (by omega)
              have hv2 := hv ⟨by omega, by omega, by omega, by omega⟩
              refine w_load rfl rfl rfl ?_
              refine w_getP rfl hT.o (hT.p rfl) ?_
              refine w_load rfl rfl rfl ?_
              refine w_getI0k rfl hT.o ((zF_putn (by decide)).trans est) ?_
              refine w_load rfl rfl rfl ?_
              refine w_getI0k rfl hT.o (zF_put (by omega) (by omega)) ?_
              refine w_iadd rfl ?_
              refine w_iald rfl (hT.t rfl) (hT.n rfl) (by omega) (by decide) ?_
              rw [zA_wF _ _ _ _ _ _ (by decide), hi, hq.1]
              refine w_st2 rfl rfl rfl ?_
              refine w_load rfl rfl rfl ?_
              refine w_load rfl rfl rfl ?_
              refine w_getP rfl hT.o (hT.p rfl) ?_
              refine w_load rfl rfl rfl ?_
              refine w_getI0k rfl hT.o ((zF_putn (by decide)).trans est) ?_
              refine w_load rfl rfl rfl ?_
              refine w_getI0k rfl hT.o (zF_put (by omega) (by omega)) ?_
              refine w_iadd rfl ?_
              refine w_lald rfl (hT.t rfl) (hT.n rfl) (by omega) (by decide) ?_
              rw [zL_wF, hi, zL_jA, hq.2, J_toInt]
              refine w_l2i rfl ?_
              refine w_putI0 rfl hT.o ?_
              refine w_load rfl rfl rfl ?_
              refine w_load rfl rfl rfl ?_
              refine w_const (9) rfl rfl ?_
              refine w_icmp_ne rfl (fun hc109 => ?_) (fun hc109 => ?_)
              · exfalso; simp (disch := omega) only [zF_wF, zF_wA, zF_wJ, zF_wD, zA_wF, zA_wA, zA_wJ, zA_wD, zL_wJ, zL_wF, zL_wA, zL_wD, J_wr, wr_zF, wr_zA, wrJ_zL, wr_id, wrJ_id, ne_eq, reduceCtorEq, not_false_eq_true, not_true_eq_false, if_true, if_false, Nat.reduceEqDiff, eq_self, wif0, if0, Decidable.not_not, rd, hw1, hw2, hw3] at hc109 <;> omega
              · try simp (disch := omega) only [zF_wF, zF_wA, zF_wJ, zF_wD, zA_wF, zA_wA, zA_wJ, zA_wD, zL_wJ, zL_wF, zL_wA, zL_wD, J_wr, wr_zF, wr_zA, wrJ_zL, wr_id, wrJ_id, ne_eq, reduceCtorEq, not_false_eq_true, not_true_eq_false, if_true, if_false, Nat.reduceEqDiff, eq_self, wif0, if0, Decidable.not_not, rd, hw1, hw2, hw3] at hc109
                refine w_const (38) rfl rfl ?_
                refine w_goto rfl ?_
                refine w_putI0 rfl hT.o ?_
                refine w_pr (p2.aim (v := v) (by omega) (by decide)) (fun G p => ?_)
                have hT := p.hts hE
                have est := p.zst hE
                obtain ⟨t1, t2, t3, t4⟩ := p.tok hE
                have t5 := p.zl hE
                obtain ⟨⟨e1, e2, e3, e4, e5⟩, ⟨e6, e7, e8, e9⟩, b1, b2, b3, b4⟩ := p.bd
                try simp only [List.length_cons, List.length_append, List.length_nil, ptc_len, List.length_dropLast] at e2 e4 e5 b1 b2 b3 b4
                refine w_load rfl rfl rfl ?_
                refine w_const (9) rfl rfl ?_
                refine w_icmp_eq rfl (fun hc125 => ?_) (fun hc125 => ?_)
                · try simp (disch := omega) only [zF_wF, zF_wA, zF_wJ, zF_wD, zA_wF, zA_wA, zA_wJ, zA_wD, zL_wJ, zL_wF, zL_wA, zL_wD, J_wr, wr_zF, wr_zA, wrJ_zL, wr_id, wrJ_id, ne_eq, reduceCtorEq, not_false_eq_true, not_true_eq_false, if_true, if_false, Nat.reduceEqDiff, eq_self, wif0, if0, Decidable.not_not, rd, hw1, hw2, hw3] at hc125
                  refine w_load rfl rfl rfl ?_
                  refine w_getP rfl hT.o (hT.p rfl) ?_
                  refine w_const (0) rfl rfl ?_
                  refine w_const (1) rfl rfl ?_
                  refine w_iast rfl (hT.t rfl) (hT.n rfl) (by omega) (by decide) ?_
                  refine w_pr (p.fset (by decide) rfl (by decide)) (fun G p => ?_)
                  have hT := p.hts hE
                  have est := p.zst hE
                  obtain ⟨t1, t2, t3, t4⟩ := p.tok hE
                  have t5 := p.zl hE
                  obtain ⟨⟨e1, e2, e3, e4, e5⟩, ⟨e6, e7, e8, e9⟩, b1, b2, b3, b4⟩ := p.bd
                  try simp only [List.length_cons, List.length_append, List.length_nil, ptc_len, List.length_dropLast] at e2 e4 e5 b1 b2 b3 b4
                  refine w_load rfl rfl rfl ?_
                  refine w_callV1 rfl (Nat.le_of_ble_eq_true rfl) (Or.inr (Or.inr hT.o)) (Nat.le_of_ble_eq_true rfl) (tw_fresh hE p) (fun G148 h148 => ?_)
                  skip
                  refine w_return rfl ?_
                  exact RV.mk (Or.inr ⟨⟨by omega, by omega, by omega, by omega⟩, Or.inl ⟨hs9, h148⟩⟩)
                · exfalso; simp (disch := omega) only [zF_wF, zF_wA, zF_wJ, zF_wD, zA_wF, zA_wA, zA_wJ, zA_wD, zL_wJ, zL_wF, zL_wA, zL_wD, J_wr, wr_zF, wr_zA, wrJ_zL, wr_id, wrJ_id, ne_eq, reduceCtorEq, not_false_eq_true, not_true_eq_false, if_true, if_false, Nat.reduceEqDiff, eq_self, wif0, if0, Decidable.not_not, rd, hw1, hw2, hw3] at hc125 <;> omega
            · exfalso; simp (disch := omega) only [zF_wF, zF_wA, zF_wJ, zF_wD, zA_wF, zA_wA, zA_wJ, zA_wD, zL_wJ, zL_wF, zL_wA, zL_wD, J_wr, wr_zF, wr_zA, wrJ_zL, wr_id, wrJ_id, ne_eq, reduceCtorEq, not_false_eq_true, not_true_eq_false, if_true, if_false, Nat.reduceEqDiff, eq_self, wif0, if0, Decidable.not_not, rd, hw1, hw2, hw3] at hc43 <;> omega
  · refine w_load rfl rfl rfl ?_
    refine w_getP rfl hT.o (hT.p rfl) ?_
    refine w_const (0) rfl rfl ?_
    refine w_iald rfl (hT.t rfl) (hT.n rfl) (by omega) (by decide) ?_
    refine w_if_ne rfl (fun hc6 => ?_) (fun hc6 => ?_)
    · try simp (disch := omega) only [zF_wF, zF_wA, zF_wJ, zF_wD, zA_wF, zA_wA, zA_wJ, zA_wD, zL_wJ, zL_wF, zL_wA, zL_wD, J_wr, wr_zF, wr_zA, wrJ_zL, wr_id, wrJ_id, ne_eq, reduceCtorEq, not_false_eq_true, not_true_eq_false, if_true, if_false, Nat.reduceEqDiff, eq_self, wif0, if0, Decidable.not_not, rd, hw1, hw2, hw3] at hc6
      refine w_const (0) rfl rfl ?_
      refine w_st1 rfl rfl rfl ?_
      refine w_load rfl rfl rfl ?_
      refine w_if_ne rfl (fun hc43 => ?_) (fun hc43 => ?_)
      · exfalso; simp (disch := omega) only [zF_wF, zF_wA, zF_wJ, zF_wD, zA_wF, zA_wA, zA_wJ, zA_wD, zL_wJ, zL_wF, zL_wA, zL_wD, J_wr, wr_zF, wr_zA, wrJ_zL, wr_id, wrJ_id, ne_eq, reduceCtorEq, not_false_eq_true, not_true_eq_false, if_true, if_false, Nat.reduceEqDiff, eq_self, wif0, if0, Decidable.not_not, rd, hw1, hw2, hw3] at hc43 <;> omega
      · try simp (disch := omega) only [zF_wF, zF_wA, zF_wJ, zF_wD, zA_wF, zA_wA, zA_wJ, zA_wD, zL_wJ, zL_wF, zL_wA, zL_wD, J_wr, wr_zF, wr_zA, wrJ_zL, wr_id, wrJ_id, ne_eq, reduceCtorEq, not_false_eq_true, not_true_eq_false, if_true, if_false, Nat.reduceEqDiff, eq_self, wif0, if0, Decidable.not_not, rd, hw1, hw2, hw3] at hc43
        refine w_load rfl rfl rfl ?_
        refine w_callV1 rfl (Nat.le_of_ble_eq_true rfl) (Or.inr (Or.inr hT.o)) (Nat.le_of_ble_eq_true rfl) (tw_misfit hE p) (fun G47 h47 => ?_)
        skip
        refine w_return rfl ?_
        exact RV.mk (Or.inl ⟨by omega, h47⟩)
    · try simp (disch := omega) only [zF_wF, zF_wA, zF_wJ, zF_wD, zA_wF, zA_wA, zA_wJ, zA_wD, zL_wJ, zL_wF, zL_wA, zL_wD, J_wr, wr_zF, wr_zA, wrJ_zL, wr_id, wrJ_id, ne_eq, reduceCtorEq, not_false_eq_true, not_true_eq_false, if_true, if_false, Nat.reduceEqDiff, eq_self, wif0, if0, Decidable.not_not, rd, hw1, hw2, hw3] at hc6
      refine w_load rfl rfl rfl ?_
      refine w_const (61) rfl rfl ?_
      refine w_callI2 rfl (Nat.le_of_ble_eq_true rfl) (Or.inr (Or.inr hT.o)) (Nat.le_of_ble_eq_true rfl) (tw_isSign hE p (by decide)) (fun z12 G12 h12 => ?_)
      obtain ⟨rfl, rfl⟩ := h12
      refine w_if_eq rfl (fun hc15 => ?_) (fun hc15 => ?_)
      · try simp (disch := omega) only [zF_wF, zF_wA, zF_wJ, zF_wD, zA_wF, zA_wA, zA_wJ, zA_wD, zL_wJ, zL_wF, zL_wA, zL_wD, J_wr, wr_zF, wr_zA, wrJ_zL, wr_id, wrJ_id, ne_eq, reduceCtorEq, not_false_eq_true, not_true_eq_false, if_true, if_false, Nat.reduceEqDiff, eq_self, wif0, if0, Decidable.not_not, rd, hw1, hw2, hw3] at hc15
        refine w_const (0) rfl rfl ?_
        refine w_st1 rfl rfl rfl ?_
        refine w_load rfl rfl rfl ?_
        refine w_if_ne rfl (fun hc43 => ?_) (fun hc43 => ?_)
        · exfalso; simp (disch := omega) only [zF_wF, zF_wA, zF_wJ, zF_wD, zA_wF, zA_wA, zA_wJ, zA_wD, zL_wJ, zL_wF, zL_wA, zL_wD, J_wr, wr_zF, wr_zA, wrJ_zL, wr_id, wrJ_id, ne_eq, reduceCtorEq, not_false_eq_true, not_true_eq_false, if_true, if_false, Nat.reduceEqDiff, eq_self, wif0, if0, Decidable.not_not, rd, hw1, hw2, hw3] at hc43 <;> omega
        · try simp (disch := omega) only [zF_wF, zF_wA, zF_wJ, zF_wD, zA_wF, zA_wA, zA_wJ, zA_wD, zL_wJ, zL_wF, zL_wA, zL_wD, J_wr, wr_zF, wr_zA, wrJ_zL, wr_id, wrJ_id, ne_eq, reduceCtorEq, not_false_eq_true, not_true_eq_false, if_true, if_false, Nat.reduceEqDiff, eq_self, wif0, if0, Decidable.not_not, rd, hw1, hw2, hw3] at hc43
          refine w_load rfl rfl rfl ?_
          refine w_callV1 rfl (Nat.le_of_ble_eq_true rfl) (Or.inr (Or.inr hT.o)) (Nat.le_of_ble_eq_true rfl) (tw_misfit hE p) (fun G47 h47 => ?_)
          skip
          refine w_return rfl ?_
          exact RV.mk (Or.inl ⟨by omega, h47⟩)
      · try simp (disch := omega) only [zF_wF, zF_wA, zF_wJ, zF_wD, zA_wF, zA_wA, zA_wJ, zA_wD, zL_wJ, zL_wF, zL_wA, zL_wD, J_wr, wr_zF, wr_zA, wrJ_zL, wr_id, wrJ_id, ne_eq, reduceCtorEq, not_false_eq_true, not_true_eq_false, if_true, if_false, Nat.reduceEqDiff, eq_self, wif0, if0, Decidable.not_not, rd, hw1, hw2, hw3] at hc15
        refine w_load rfl rfl rfl ?_
        refine w_getP rfl hT.o (hT.p rfl) ?_
        refine w_const (0) rfl rfl ?_
        refine w_zald rfl (hT.t rfl) (hT.n rfl) (by omega) (by decide) ?_
        refine w_if_eq rfl (fun hc24 => ?_) (fun hc24 => ?_)
        · try simp (disch := omega) only [zF_wF, zF_wA, zF_wJ, zF_wD, zA_wF, zA_wA, zA_wJ, zA_wD, zL_wJ, zL_wF, zL_wA, zL_wD, J_wr, wr_zF, wr_zA, wrJ_zL, wr_id, wrJ_id, ne_eq, reduceCtorEq, not_false_eq_true, not_true_eq_false, if_true, if_false, Nat.reduceEqDiff, eq_self, wif0, if0, Decidable.not_not, rd, hw1, hw2, hw3] at hc24
          refine w_const (0) rfl rfl ?_
          refine w_st1 rfl rfl rfl ?_
          refine w_load rfl rfl rfl ?_
          refine w_if_ne rfl (fun hc43 => ?_) (fun hc43 => ?_)
          · exfalso; simp (disch := omega) only [zF_wF, zF_wA, zF_wJ, zF_wD, zA_wF, zA_wA, zA_wJ, zA_wD, zL_wJ, zL_wF, zL_wA, zL_wD, J_wr, wr_zF, wr_zA, wrJ_zL, wr_id, wrJ_id, ne_eq, reduceCtorEq, not_false_eq_true, not_true_eq_false, if_true, if_false, Nat.reduceEqDiff, eq_self, wif0, if0, Decidable.not_not, rd, hw1, hw2, hw3] at hc43 <;> omega
          · try simp (disch := omega) only [zF_wF, zF_wA, zF_wJ, zF_wD, zA_wF, zA_wA, zA_wJ, zA_wD, zL_wJ, zL_wF, zL_wA, zL_wD, J_wr, wr_zF, wr_zA, wrJ_zL, wr_id, wrJ_id, ne_eq, reduceCtorEq, not_false_eq_true, not_true_eq_false, if_true, if_false, Nat.reduceEqDiff, eq_self, wif0, if0, Decidable.not_not, rd, hw1, hw2, hw3] at hc43
            refine w_load rfl rfl rfl ?_
            refine w_callV1 rfl (Nat.le_of_ble_eq_true rfl) (Or.inr (Or.inr hT.o)) (Nat.le_of_ble_eq_true rfl) (tw_misfit hE p) (fun G47 h47 => ?_)
            skip
            refine w_return rfl ?_
            exact RV.mk (Or.inl ⟨by omega, h47⟩)
        · try simp (disch := omega) only [zF_wF, zF_wA, zF_wJ, zF_wD, zA_wF, zA_wA, zA_wJ, zA_wD, zL_wJ, zL_wF, zL_wA, zL_wD, J_wr, wr_zF, wr_zA, wrJ_zL, wr_id, wrJ_id, ne_eq, reduceCtorEq, not_false_eq_true, not_true_eq_false, if_true, if_false, Nat.reduceEqDiff, eq_self, wif0, if0, Decidable.not_not, rd, hw1, hw2, hw3] at hc24
          refine w_load rfl rfl rfl ?_
          refine w_getP rfl hT.o (hT.p rfl) ?_
          refine w_const (0) rfl rfl ?_
          refine w_zald rfl (hT.t rfl) (hT.n rfl) (by omega) (by decide) ?_
          refine w_if_eq rfl (fun hc33 => ?_) (fun hc33 => ?_)
          · try simp (disch := omega) only [zF_wF, zF_wA, zF_wJ, zF_wD, zA_wF, zA_wA, zA_wJ, zA_wD, zL_wJ, zL_wF, zL_wA, zL_wD, J_wr, wr_zF, wr_zA, wrJ_zL, wr_id, wrJ_id, ne_eq, reduceCtorEq, not_false_eq_true, not_true_eq_false, if_true, if_false, Nat.reduceEqDiff, eq_self, wif0, if0, Decidable.not_not, rd, hw1, hw2, hw3] at hc33
            refine w_const (0) rfl rfl ?_
            refine w_st1 rfl rfl rfl ?_
            refine w_load rfl rfl rfl ?_
            refine w_if_ne rfl (fun hc43 => ?_) (fun hc43 => ?_)
            · exfalso; simp (disch := omega) only [zF_wF, zF_wA, zF_wJ, zF_wD, zA_wF, zA_wA, zA_wJ, zA_wD, zL_wJ, zL_wF, zL_wA, zL_wD, J_wr, wr_zF, wr_zA, wrJ_zL, wr_id, wrJ_id, ne_eq, reduceCtorEq, not_false_eq_true, not_true_eq_false, if_true, if_false, Nat.reduceEqDiff, eq_self, wif0, if0, Decidable.not_not, rd, hw1, hw2, hw3] at hc43 <;> omega
            · try simp (disch := omega) only [zF_wF, zF_wA, zF_wJ, zF_wD, zA_wF, zA_wA, zA_wJ, zA_wD, zL_wJ, zL_wF, zL_wA, zL_wD, J_wr, wr_zF, wr_zA, wrJ_zL, wr_id, wrJ_id, ne_eq, reduceCtorEq, not_false_eq_true, not_true_eq_false, if_true, if_false, Nat.reduceEqDiff, eq_self, wif0, if0, Decidable.not_not, rd, hw1, hw2, hw3] at hc43
              refine w_load rfl rfl rfl ?_
              refine w_callV1 rfl (Nat.le_of_ble_eq_true rfl) (Or.inr (Or.inr hT.o)) (Nat.le_of_ble_eq_true rfl) (tw_misfit hE p) (fun G47 h47 => ?_)
              skip
              refine w_return rfl ?_
              exact RV.mk (Or.inl ⟨by omega, h47⟩)
          · try simp (disch := omega) only [zF_wF, zF_wA, zF_wJ, zF_wD, zA_wF, zA_wA, zA_wJ, zA_wD, zL_wJ, zL_wF, zL_wA, zL_wD, J_wr, wr_zF, wr_zA, wrJ_zL, wr_id, wrJ_id, ne_eq, reduceCtorEq, not_false_eq_true, not_true_eq_false, if_true, if_false, Nat.reduceEqDiff, eq_self, wif0, if0, Decidable.not_not, rd, hw1, hw2, hw3] at hc33
            refine w_const (1) rfl rfl ?_
            refine w_goto rfl ?_
            refine w_st1 rfl rfl rfl ?_
            refine w_load rfl rfl rfl ?_
            refine w_if_ne rfl (fun hc43 => ?_) (fun hc43 => ?_)
            · try simp (disch := omega) only [zF_wF, zF_wA, zF_wJ, zF_wD, zA_wF, zA_wA, zA_wJ, zA_wD, zL_wJ, zL_wF, zL_wA, zL_wD, J_wr, wr_zF, wr_zA, wrJ_zL, wr_id, wrJ_id, ne_eq, reduceCtorEq, not_false_eq_true, not_true_eq_false, if_true, if_false, Nat.reduceEqDiff, eq_self, wif0, if0, Decidable.not_not, rd, hw1, hw2, hw3] at hc43
              refine w_load rfl rfl rfl ?_
              refine w_dup rfl rfl ?_
              refine w_getI0k rfl hT.o (e1) ?_
              refine w_const (1) rfl rfl ?_
              refine w_iadd rfl ?_
              refine w_putI0 rfl hT.o ?_
              refine w_pr (p.nxt (p.lt hE (by omega)) h41 rfl) (fun G p => ?_)
              have hT := p.hts hE
              have est := p.zst hE
              obtain ⟨t1, t2, t3, t4⟩ := p.tok hE
              have t5 := p.zl hE
              obtain ⟨⟨e1, e2, e3, e4, e5⟩, ⟨e6, e7, e8, e9⟩, b1, b2, b3, b4⟩ := p.bd
              try simp only [List.length_cons, List.length_append, List.length_nil, ptc_len, List.length_dropLast] at e2 e4 e5 b1 b2 b3 b4
              refine w_load rfl rfl rfl ?_
              refine w_dup rfl rfl ?_
              refine w_getI0k rfl hT.o (e2) ?_
              refine w_const (1) rfl rfl ?_
              refine w_isub rfl ?_
              refine w_putI0 rfl hT.o ?_
              have hq := p.2.2.1 out.length (s, v) (by rw [List.getElem?_append_right (Nat.le_refl _), Nat.sub_self]; rfl)
              have p2 := p.back1 (v := ((out.length + (0 + 1) : Nat) : Int) - 1) (by omega)
              have hv2 := hv ⟨by omega, by omega, by omega, by omega⟩
              refine w_load rfl rfl rfl ?_
              refine w_getP rfl hT.o (hT.p rfl) ?_
              refine w_load rfl rfl rfl ?_
              refine w_getI0k rfl hT.o ((zF_putn (by decide)).trans est) ?_
              refine w_load rfl rfl rfl ?_
              refine w_getI0k rfl hT.o (zF_put (by omega) (by omega)) ?_
              refine w_iadd rfl ?_
              refine w_iald rfl (hT.t rfl) (hT.n rfl) (by omega) (by decide) ?_
              rw [zA_wF _ _ _ _ _ _ (by decide), hi, hq.1]
              refine w_st2 rfl rfl rfl ?_
              refine w_load rfl rfl rfl ?_
              refine w_load rfl rfl rfl ?_
              refine w_getP rfl hT.o (hT.p rfl) ?_
              refine w_load rfl rfl rfl ?_
              refine w_getI0k rfl hT.o ((zF_putn (by decide)).trans est) ?_
              refine w_load rfl rfl rfl ?_
              refine w_getI0k rfl hT.o (zF_put (by omega) (by omega)) ?_
              refine w_iadd rfl ?_
              refine w_lald rfl (hT.t rfl) (hT.n rfl) (by omega) (by decide) ?_
              rw [zL_wF, hi, zL_jA, hq.2, J_toInt]
              refine w_l2i rfl ?_
              refine w_putI0 rfl hT.o ?_
              refine w_load rfl rfl rfl ?_
              refine w_load rfl rfl rfl ?_
              refine w_const (9) rfl rfl ?_
              refine w_icmp_ne rfl (fun hc109 => ?_) (fun hc109 => ?_)
              · try simp (disch := omega) only [zF_wF, zF_wA, zF_wJ, zF_wD, zA_wF, zA_wA, zA_wJ, zA_wD, zL_wJ, zL_wF, zL_wA, zL_wD, J_wr, wr_zF, wr_zA, wrJ_zL, wr_id, wrJ_id, ne_eq, reduceCtorEq, not_false_eq_true, not_true_eq_false, if_true, if_false, Nat.reduceEqDiff, eq_self, wif0, if0, Decidable.not_not, rd, hw1, hw2, hw3] at hc109
                refine w_const (40) rfl rfl ?_
                refine w_putI0 rfl hT.o ?_
                refine w_pr (p2.aim (v := v) (by omega) (by decide)) (fun G p => ?_)
                have hT := p.hts hE
                have est := p.zst hE
                obtain ⟨t1, t2, t3, t4⟩ := p.tok hE
                have t5 := p.zl hE
                obtain ⟨⟨e1, e2, e3, e4, e5⟩, ⟨e6, e7, e8, e9⟩, b1, b2, b3, b4⟩ := p.bd
                try simp only [List.length_cons, List.length_append, List.length_nil, ptc_len, List.length_dropLast] at e2 e4 e5 b1 b2 b3 b4
                refine w_load rfl rfl rfl ?_
                refine w_const (9) rfl rfl ?_
                refine w_icmp_eq rfl (fun hc125 => ?_) (fun hc125 => ?_)
                · exfalso; simp (disch := omega) only [zF_wF, zF_wA, zF_wJ, zF_wD, zA_wF, zA_wA, zA_wJ, zA_wD, zL_wJ, zL_wF, zL_wA, zL_wD, J_wr, wr_zF, wr_zA, wrJ_zL, wr_id, wrJ_id, ne_eq, reduceCtorEq, not_false_eq_true, not_true_eq_false, if_true, if_false, Nat.reduceEqDiff, eq_self, wif0, if0, Decidable.not_not, rd, hw1, hw2, hw3] at hc125 <;> omega
                · try simp (disch := omega) only [zF_wF, zF_wA, zF_wJ, zF_wD, zA_wF, zA_wA, zA_wJ, zA_wD, zL_wJ, zL_wF, zL_wA, zL_wD, J_wr, wr_zF, wr_zA, wrJ_zL, wr_id, wrJ_id, ne_eq, reduceCtorEq, not_false_eq_true, not_true_eq_false, if_true, if_false, Nat.reduceEqDiff, eq_self, wif0, if0, Decidable.not_not, rd, hw1, hw2, hw3] at hc125
                  refine w_load rfl rfl rfl ?_
                  refine w_const (39) rfl rfl ?_
                  refine w_load rfl rfl rfl ?_
                  refine w_getI0k rfl hT.o (e6) ?_
                  refine w_i2l rfl ?_
                  refine w_callI3 rfl (Nat.le_of_ble_eq_true rfl) (Or.inr (Or.inr hT.o)) (Nat.le_of_ble_eq_true rfl) (tw_emit hE p (v := v) (by omega) (by decide) (J_wr_eq rfl (by omega))) (fun z136 G136 h136 => ?_)
                  obtain ⟨-, p, -⟩ := h136
                  have hT := p.hts hE
                  have est := p.zst hE
                  obtain ⟨t1, t2, t3, t4⟩ := p.tok hE
                  have t5 := p.zl hE
                  obtain ⟨⟨e1, e2, e3, e4, e5⟩, ⟨e6, e7, e8, e9⟩, b1, b2, b3, b4⟩ := p.bd
                  try simp only [List.length_cons, List.length_append, List.length_nil, ptc_len, List.length_dropLast] at e2 e4 e5 b1 b2 b3 b4
                  refine w_pop rfl rfl ?_
                  refine w_load rfl rfl rfl ?_
                  refine w_getP rfl hT.o (hT.p rfl) ?_
                  refine w_const (0) rfl rfl ?_
                  refine w_const (1) rfl rfl ?_
                  refine w_iast rfl (hT.t rfl) (hT.n rfl) (by omega) (by decide) ?_
                  refine w_pr (p.fset (by decide) rfl (by decide)) (fun G p => ?_)
                  have hT := p.hts hE
                  have est := p.zst hE
                  obtain ⟨t1, t2, t3, t4⟩ := p.tok hE
                  have t5 := p.zl hE
                  obtain ⟨⟨e1, e2, e3, e4, e5⟩, ⟨e6, e7, e8, e9⟩, b1, b2, b3, b4⟩ := p.bd
                  try simp only [List.length_cons, List.length_append, List.length_nil, ptc_len, List.length_dropLast] at e2 e4 e5 b1 b2 b3 b4
                  refine w_load rfl rfl rfl ?_
                  refine w_callV1 rfl (Nat.le_of_ble_eq_true rfl) (Or.inr (Or.inr hT.o)) (Nat.le_of_ble_eq_true rfl) (tw_fresh hE p) (fun G148 h148 => ?_)
                  skip
                  refine w_return rfl ?_
                  exact RV.mk (Or.inr ⟨⟨by omega, by omega, by omega, by omega⟩, Or.inr ⟨hs9, h148⟩⟩)
              · exfalso; simp (disch := omega) only [zF_wF, zF_wA, zF_wJ, zF_wD, zA_wF, zA_wA, zA_wJ, zA_wD, zL_wJ, zL_wF, zL_wA, zL_wD, J_wr, wr_zF, wr_zA, wrJ_zL, wr_id, wrJ_id, ne_eq, reduceCtorEq, not_false_eq_true, not_true_eq_false, if_true, if_false, Nat.reduceEqDiff, eq_self, wif0, if0, Decidable.not_not, rd, hw1, hw2, hw3] at hc109 <;> omega
            · exfalso; simp (disch := omega) only [zF_wF, zF_wA, zF_wJ, zF_wD, zA_wF, zA_wA, zA_wJ, zA_wD, zL_wJ, zL_wF, zL_wA, zL_wD, J_wr, wr_zF, wr_zA, wrJ_zL, wr_id, wrJ_id, ne_eq, reduceCtorEq, not_false_eq_true, not_true_eq_false, if_true, if_false, Nat.reduceEqDiff, eq_self, wif0, if0, Decidable.not_not, rd, hw1, hw2, hw3] at hc43 <;> omega
end tw12

