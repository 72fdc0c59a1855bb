/-! THE TWIN's READING: its small methods -/
set_option maxRecDepth 100000
section tw6
variable {f : Int → Int} {n : Int} {T : List (Int × Int × Int)} {G0 : mG} {st : Nat} {G : mG} {i : Nat} {out : List Sp} {op : Bool} {fr wt : List Fm} {ta ts : Int} {d : Nat} {Q : mR → Prop}
theorem w_pr {m pc : Nat} {L : mL} {s : List Value} (h : PR T G0 st G i out op fr wt ta ts) (k : ∀ G, PR T G0 st G i out op fr wt ta ts → Wp (d, m, pc, L, s, G) Q) : Wp (d, m, pc, L, s, G) Q := k G h
theorem tkc5 {c : Int} : tkc c = 5 ↔ ¬ c = 48 ∧ ¬ c = 11776 ∧ ¬ c = 97 ∧ ¬ c = 39 ∧ ¬ c = 36 := by
  unfold tkc
  split <;> rename_i h1
  · omega
  · split <;> rename_i h2
    · omega
    · split <;> rename_i h3
      · omega
      · split <;> rename_i h4
        · omega
        · split <;> rename_i h5 <;> omega
theorem tkc_rng (c : Int) : 0 ≤ tkc c ∧ tkc c ≤ 5 := by
  unfold tkc
  repeat' (first | split | decide)
theorem wr_tkc (c : Int) : wr (tkc c) = tkc c := by have := tkc_rng c; exact wr_id (by omega) (by omega)
theorem wrJJ (x : Int) : wrJ (wrJ x) = wrJ x := congrArg Int64.toInt (J_wrJ x)
theorem tvl5 (h : tkc (tkd n T i) = 5) : tvl f n T i = tkd n T i := by
  rw [tkc5] at h
  unfold tvl tkv
  rw [if_neg (by omega), if_neg h.2.2.1, if_neg h.2.2.2.1, if_neg h.2.2.2.2]
theorem tw_isSign {c : Int} (hE : PEnv f n T G0 st) (p : PR T G0 st G i out op fr wt ta ts) (hc : tkc c = 5 ∧ 0 ≤ c ∧ c ≤ 40000) : Wp (d, 171, 0, [some (.ref 98), some (.int (N c))], [], G) (RI fun z G' => z = (if tkd n T i = c then 1 else 0) ∧ G = G') := by
  have hT := p.hts hE
  have est := p.zst hE
  obtain ⟨t1, t2, t3, t4⟩ := p.tok hE
  have t5 := p.zl hE
  obtain ⟨⟨e1, e2, e3, e4, e5⟩, ⟨e6, e7, e8, e9⟩, b1, b2, b3, b4⟩ := p.bd
  try simp only [List.length_cons, List.length_append, List.length_nil, ptc_len, List.length_dropLast] at e2 e4 e5 b1 b2 b3 b4
  have hr := hE.2.2.2.2.2.2.1 i
  have hl := hE.2.2.1
  refine w_load rfl rfl rfl ?_
  refine w_getP rfl hT.o (hT.p rfl) ?_
  refine w_load rfl rfl rfl ?_
  refine w_getI0k rfl hT.o (e1) ?_
  refine w_iald rfl (hT.t rfl) (hT.n rfl) (by omega) (by decide) ?_
  refine w_const (5) rfl rfl ?_
  refine w_icmp_ne rfl (fun hc10 => ?_) (fun hc10 => ?_)
  · try simp (disch := omega) only [zF_wF, zF_wA, zF_wJ, zF_wD, zA_wF, zA_wA, zA_wJ, zA_wD, zL_wJ, zL_wF, zL_wA, zL_wD, J_wr, wr_zF, wr_zA, wrJ_zL, wr_id, wrJ_id, ne_eq, reduceCtorEq, not_false_eq_true, not_true_eq_false, if_true, if_false, Nat.reduceEqDiff, eq_self, wif0, if0, Decidable.not_not, t1, t5, wr_tkc, wrJJ] at hc10
    have hx : ¬ tkd n T i = c := fun e => by rw [e] at hc10; exact hc10 hc.1
    refine w_const (0) rfl rfl ?_
    refine w_ireturn rfl rfl ?_
    first | exact RI.mk ⟨by rw [if_pos hx], rfl⟩ | exact RI.mk ⟨by rw [if_neg hx], rfl⟩
  · try simp (disch := omega) only [zF_wF, zF_wA, zF_wJ, zF_wD, zA_wF, zA_wA, zA_wJ, zA_wD, zL_wJ, zL_wF, zL_wA, zL_wD, J_wr, wr_zF, wr_zA, wrJ_zL, wr_id, wrJ_id, ne_eq, reduceCtorEq, not_false_eq_true, not_true_eq_false, if_true, if_false, Nat.reduceEqDiff, eq_self, wif0, if0, Decidable.not_not, t1, t5, wr_tkc, wrJJ] at hc10
    refine w_load rfl rfl rfl ?_
    refine w_getP rfl hT.o (hT.p rfl) ?_
    refine w_load rfl rfl rfl ?_
    refine w_getI0k rfl hT.o (e1) ?_
    refine w_lald rfl (hT.t rfl) (hT.n rfl) (by omega) (by decide) ?_
    refine w_load rfl rfl rfl ?_
    refine w_i2l rfl ?_
    refine w_lif_ne rfl rfl (fun hc25 => ?_) (fun hc25 => ?_)
    · try simp (disch := omega) only [zF_wF, zF_wA, zF_wJ, zF_wD, zA_wF, zA_wA, zA_wJ, zA_wD, zL_wJ, zL_wF, zL_wA, zL_wD, J_wr, wr_zF, wr_zA, wrJ_zL, wr_id, wrJ_id, ne_eq, reduceCtorEq, not_false_eq_true, not_true_eq_false, if_true, if_false, Nat.reduceEqDiff, eq_self, wif0, if0, Decidable.not_not, t1, t5, wr_tkc, wrJJ] at hc25
      have hx : ¬ tkd n T i = c := by rw [tvl5 (by simpa using hc10)] at hc25; (try simp (disch := omega) only [wrJ_id, wr_id] at hc25); exact hc25
      refine w_const (0) rfl rfl ?_
      refine w_ireturn rfl rfl ?_
      first | exact RI.mk ⟨by rw [if_pos hx], rfl⟩ | exact RI.mk ⟨by rw [if_neg hx], rfl⟩
    · try simp (disch := omega) only [zF_wF, zF_wA, zF_wJ, zF_wD, zA_wF, zA_wA, zA_wJ, zA_wD, zL_wJ, zL_wF, zL_wA, zL_wD, J_wr, wr_zF, wr_zA, wrJ_zL, wr_id, wrJ_id, ne_eq, reduceCtorEq, not_false_eq_true, not_true_eq_false, if_true, if_false, Nat.reduceEqDiff, eq_self, wif0, if0, Decidable.not_not, t1, t5, wr_tkc, wrJJ] at hc25
      have hx : tkd n T i = c := by rw [tvl5 (by simpa using hc10)] at hc25; (try simp (disch := omega) only [wrJ_id, wr_id] at hc25); exact hc25
      refine w_const (1) rfl rfl ?_
      refine w_goto rfl ?_
      refine w_ireturn rfl rfl ?_
      first | exact RI.mk ⟨by rw [if_pos hx], rfl⟩ | exact RI.mk ⟨by rw [if_neg hx], rfl⟩
theorem tw_misfit (hE : PEnv f n T G0 st) (p : PR T G0 st G i out op fr wt ta ts) : Wp (d + 1, 173, 0, [some (.ref 98)], [], G) (RV fun G' => PE G0 st G' 2 (tpl n T i)) := by
  have hT := p.hts hE
  have est := p.zst hE
  obtain ⟨t1, t2, t3, t4⟩ := p.tok hE
  have t5 := p.zl hE
  obtain ⟨⟨e1, e2, e3, e4, e5⟩, ⟨e6, e7, e8, e9⟩, b1, b2, b3, b4⟩ := p.bd
  try simp only [List.length_cons, List.length_append, List.length_nil, ptc_len, List.length_dropLast] at e2 e4 e5 b1 b2 b3 b4
  have hr := hE.2.2.2.2.2.2.1 i
  have hl := hE.2.2.1
  refine w_load rfl rfl rfl ?_
  refine w_const (2) rfl rfl ?_
  refine w_load rfl rfl rfl ?_
  refine w_getP rfl hT.o (hT.p rfl) ?_
  refine w_load rfl rfl rfl ?_
  refine w_getI0k rfl hT.o (e1) ?_
  refine w_iald rfl (hT.t rfl) (hT.n rfl) (by omega) (by decide) ?_
  refine w_callV3 rfl (Nat.le_of_ble_eq_true rfl) (Or.inr (Or.inr hT.o)) (Nat.le_of_ble_eq_true rfl) (tw_wrong hT) (fun G11 h11 => ?_)
  obtain rfl := h11
  refine w_return rfl ?_
  exact RV.mk (by rw [t2]; exact p.wrong (by decide) (by omega))
theorem tw_emit {s v : Int} {u : Int64} (hE : PEnv f n T G0 st) (p : PR T G0 st G i out op fr wt ta ts) (ho : out.length < 90) (hs : 0 ≤ s ∧ s ≤ 100) (hu : u = J v) : Wp (d, 167, 0, [some (.ref 98), some (.int (N s)), some (.long u), none], [], G) (RI fun z G' => z = st + out.length ∧ PR T G0 st G' i (out ++ [(s, v)]) op fr wt ta ts ∧ ∀ x k, 106 < x → zA G' x k = zA G x k) := by
  subst hu
  have hT := p.hts hE
  have est := p.zst hE
  obtain ⟨t1, t2, t3, t4⟩ := p.tok hE
  have t5 := p.zl hE
  obtain ⟨⟨e1, e2, e3, e4, e5⟩, ⟨e6, e7, e8, e9⟩, b1, b2, b3, b4⟩ := p.bd
  try simp only [List.length_cons, List.length_append, List.length_nil, ptc_len, List.length_dropLast] at e2 e4 e5 b1 b2 b3 b4
  have h35 := hE.2.2.2.2.2.1
  have p2 := p.emit hE (s := s) (v := v) ho hs
  unfold emitG at p2
  rw [est, e2] at p2
  refine w_load rfl rfl rfl ?_
  refine w_getP rfl hT.o (hT.p rfl) ?_
  refine w_load rfl rfl rfl ?_
  refine w_getI0k rfl hT.o (est) ?_
  refine w_load rfl rfl rfl ?_
  refine w_getI0k rfl hT.o (e2) ?_
  refine w_iadd rfl ?_
  refine w_load rfl rfl rfl ?_
  refine w_iast rfl (hT.t rfl) (hT.n rfl) (by omega) (by decide) ?_
  refine w_load rfl rfl rfl ?_
  refine w_getP rfl hT.o (hT.p rfl) ?_
  refine w_load rfl rfl rfl ?_
  refine w_getI0k rfl hT.o (by simp (disch := omega) only [zF_wA, ne_eq, reduceCtorEq, not_false_eq_true, Nat.reduceEqDiff]; exact est) ?_
  refine w_load rfl rfl rfl ?_
  refine w_getI0k rfl hT.o (by simp (disch := omega) only [zF_wA, ne_eq, reduceCtorEq, not_false_eq_true, Nat.reduceEqDiff]; exact e2) ?_
  refine w_iadd rfl ?_
  refine w_load rfl rfl rfl ?_
  refine w_last rfl (hT.t rfl) (hT.n rfl) (by omega) (by decide) ?_
  refine w_load rfl rfl rfl ?_
  refine w_dup rfl rfl ?_
  refine w_getI0k rfl hT.o (by simp (disch := omega) only [zF_wJ, zF_wA, ne_eq, reduceCtorEq, not_false_eq_true, Nat.reduceEqDiff]; exact e2) ?_
  refine w_const (1) rfl rfl ?_
  refine w_iadd rfl ?_
  refine w_putI0 rfl hT.o ?_
  refine w_load rfl rfl rfl ?_
  refine w_getI0k rfl hT.o (by simp (disch := omega) only [zF_wF, zF_wA, zF_wJ, ne_eq, reduceCtorEq, not_false_eq_true, if_true, if_false, Nat.reduceEqDiff]; exact est) ?_
  refine w_load rfl rfl rfl ?_
  refine w_getI0k rfl hT.o (by simp (disch := omega) only [zF_wF, if_true]; exact wr_id (by omega) (by omega)) ?_
  refine w_iadd rfl ?_
  refine w_const (1) rfl rfl ?_
  refine w_isub rfl ?_
  refine w_ireturn rfl rfl ?_
  exact RI.mk ⟨by omega, p2, fun x k hx => by rw [zA_wF _ _ _ _ _ _ (by omega), zA_wJ, zA_wA, if_neg (by omega)]⟩
end tw6

