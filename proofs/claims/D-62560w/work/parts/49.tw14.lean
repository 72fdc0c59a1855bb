/-! THE TWIN's READING: behind -/
set_option maxRecDepth 100000
section tw14
variable {f : Int → Int} {n : Int} {T : List (Int × Int × Int)} {G0 : mG} {st : Nat} {i k : Nat} {out : List Sp} {fr wt own outer : List Fm} {F P : Fm} {ta ts : Int} {G : mG} {op : Bool} {d : Nat} {Q : mR → Prop}
theorem up_same {F : Fm} {x : Nat} {v : Int} (h : F x = v) : up F x v = F := by
  funext y
  unfold up
  split
  · rename_i e; rw [e, h]
  · rfl
def sgo (F : Fm) (out : List Sp) : List Sp := if F 109 = 0 then out else out ++ [(F 109, 0)]
theorem tw_behC {R : mG → Prop} (hE : PEnv f n T G0 st) (p : PR T G0 st G i out op (F :: fr) wt ta ts) (hc : F 113 = 1) (hA : Wp (d + 4, 175, 0, [some (.ref 98), none, none], [], G) (RV R)) : Wp (d + 5, 174, 0, [some (.ref 98), none, none, none, none], [], G) (RV R) := by
  have hT := p.hts hE
  have est := p.zst hE
  obtain ⟨t1, t2, t3, t4⟩ := p.tok hE
  have t5 := p.zl hE
  obtain ⟨⟨e1, e2, e3, e4, e5⟩, ⟨e6, e7, e8, e9⟩, b1, b2, b3, b4⟩ := p.bd
  try simp only [List.length_cons, List.length_append, List.length_nil, ptc_len, List.length_dropLast] at e2 e4 e5 b1 b2 b3 b4
  refine w_load rfl rfl rfl ?_
  refine w_getI0k rfl hT.o (e4) ?_
  refine w_const (1) rfl rfl ?_
  refine w_isub rfl ?_
  refine w_st1 rfl rfl rfl ?_
  refine w_load rfl rfl rfl ?_
  refine w_getP rfl hT.o (hT.p rfl) ?_
  refine w_load rfl rfl rfl ?_
  refine w_zald rfl (hT.t rfl) (hT.n rfl) (by omega) (by decide) ?_
  refine w_if_eq rfl (fun hc13 => ?_) (fun hc13 => ?_)
  · exfalso; simp (disch := omega) only [zF_wF, zF_wA, zF_wJ, zF_wD, zA_wF, zA_wA, zA_wJ, zA_wD, zL_wJ, zL_wF, zL_wA, zL_wD, J_wr, wr_zF, wr_zA, wrJ_zL, wr_id, wrJ_id, ne_eq, reduceCtorEq, not_false_eq_true, not_true_eq_false, if_true, if_false, Nat.reduceEqDiff, eq_self, wif0, if0, Decidable.not_not, p.rd, hc] at hc13 <;> omega
  · try simp (disch := omega) only [zF_wF, zF_wA, zF_wJ, zF_wD, zA_wF, zA_wA, zA_wJ, zA_wD, zL_wJ, zL_wF, zL_wA, zL_wD, J_wr, wr_zF, wr_zA, wrJ_zL, wr_id, wrJ_id, ne_eq, reduceCtorEq, not_false_eq_true, not_true_eq_false, if_true, if_false, Nat.reduceEqDiff, eq_self, wif0, if0, Decidable.not_not, p.rd, hc] at hc13
    refine w_load rfl rfl rfl ?_
    refine w_callV1 rfl (Nat.le_of_ble_eq_true rfl) (Or.inr (Or.inr hT.o)) (Nat.le_of_ble_eq_true rfl) (hA) (fun G17 h17 => ?_)
    skip
    refine w_return rfl ?_
    exact RV.mk h17
theorem tw_behS (hE : PEnv f n T G0 st) (p : PR T G0 st G i out op (F :: fr) wt ta ts) (hc : F 113 = 0) (h46 : tkd n T i = 46 ∨ tkd n T i = 16174) (ho : out.length + 2 ≤ 90) : Wp (d + 5, 174, 0, [some (.ref 98), none, none, none, none], [], G) (RV fun G' => ¬ tkd n T (i + 1) = 97 ∧ PE G0 st G' 2 (tpl n T (i + 1)) ∨ tkd n T (i + 1) = 97 ∧ NmP n T G0 st (i + 2) out fr wt F ta ts (tvl f n T (i + 1)) (if tkd n T i = 16174 then 1 else 0) G') := by
  have hT := p.hts hE
  have est := p.zst hE
  obtain ⟨t1, t2, t3, t4⟩ := p.tok hE
  have t5 := p.zl hE
  obtain ⟨⟨e1, e2, e3, e4, e5⟩, ⟨e6, e7, e8, e9⟩, b1, b2, b3, b4⟩ := p.bd
  try simp only [List.length_cons, List.length_append, List.length_nil, ptc_len, List.length_dropLast] at e2 e4 e5 b1 b2 b3 b4
  refine w_load rfl rfl rfl ?_
  refine w_getI0k rfl hT.o (e4) ?_
  refine w_const (1) rfl rfl ?_
  refine w_isub rfl ?_
  refine w_st1 rfl rfl rfl ?_
  refine w_load rfl rfl rfl ?_
  refine w_getP rfl hT.o (hT.p rfl) ?_
  refine w_load rfl rfl rfl ?_
  refine w_zald rfl (hT.t rfl) (hT.n rfl) (by omega) (by decide) ?_
  refine w_if_eq rfl (fun hc13 => ?_) (fun hc13 => ?_)
  · try simp (disch := omega) only [zF_wF, zF_wA, zF_wJ, zF_wD, zA_wF, zA_wA, zA_wJ, zA_wD, zL_wJ, zL_wF, zL_wA, zL_wD, J_wr, wr_zF, wr_zA, wrJ_zL, wr_id, wrJ_id, ne_eq, reduceCtorEq, not_false_eq_true, not_true_eq_false, if_true, if_false, Nat.reduceEqDiff, eq_self, wif0, if0, Decidable.not_not, p.rd, hc] at hc13
    refine w_load rfl rfl rfl ?_
    refine w_callI1 rfl (Nat.le_of_ble_eq_true rfl) (Or.inr (Or.inr hT.o)) (Nat.le_of_ble_eq_true rfl) (tw_suffix hE p ho) (fun z22 G22 h22 => ?_)
    skip
    rcases h22 with ⟨-, hq, -⟩ | ⟨rfl, -, h22⟩
    · exfalso; omega
    refine w_if_eq rfl (fun hc25 => ?_) (fun hc25 => ?_)
    · exfalso; simp (disch := omega) only [zF_wF, zF_wA, zF_wJ, zF_wD, zA_wF, zA_wA, zA_wJ, zA_wD, zL_wJ, zL_wF, zL_wA, zL_wD, J_wr, wr_zF, wr_zA, wrJ_zL, wr_id, wrJ_id, ne_eq, reduceCtorEq, not_false_eq_true, not_true_eq_false, if_true, if_false, Nat.reduceEqDiff, eq_self, wif0, if0, Decidable.not_not, p.rd, hc] at hc25 <;> omega
    · try simp (disch := omega) only [zF_wF, zF_wA, zF_wJ, zF_wD, zA_wF, zA_wA, zA_wJ, zA_wD, zL_wJ, zL_wF, zL_wA, zL_wD, J_wr, wr_zF, wr_zA, wrJ_zL, wr_id, wrJ_id, ne_eq, reduceCtorEq, not_false_eq_true, not_true_eq_false, if_true, if_false, Nat.reduceEqDiff, eq_self, wif0, if0, Decidable.not_not, p.rd, hc] at hc25
      refine w_return rfl ?_
      exact RV.mk h22
  · exfalso; simp (disch := omega) only [zF_wF, zF_wA, zF_wJ, zF_wD, zA_wF, zA_wA, zA_wJ, zA_wD, zL_wJ, zL_wF, zL_wA, zL_wD, J_wr, wr_zF, wr_zA, wrJ_zL, wr_id, wrJ_id, ne_eq, reduceCtorEq, not_false_eq_true, not_true_eq_false, if_true, if_false, Nat.reduceEqDiff, eq_self, wif0, if0, Decidable.not_not, p.rd, hc] at hc13 <;> omega
theorem tw_beh0 (hE : PEnv f n T G0 st) (p : PR T G0 st G i out op (F :: fr) wt ta ts) (hc : F 113 = 0) (h46 : ¬ tkd n T i = 46 ∧ ¬ tkd n T i = 16174) (ho : out.length + 2 ≤ 90) (hs : 0 ≤ F 109 ∧ F 109 ≤ 100)
    (hx : ∀ G, PR T G0 st G i (sgo F out) op (up F 109 0 :: fr) wt ta ts → Wp (d + 5, 174, 57, [some (.ref 98), some (.int (N fr.length)), none, none, none], [], G) Q) : Wp (d + 5, 174, 0, [some (.ref 98), none, none, none, none], [], G) Q := by
  have hT := p.hts hE
  have est := p.zst hE
  obtain ⟨t1, t2, t3, t4⟩ := p.tok hE
  have t5 := p.zl hE
  obtain ⟨⟨e1, e2, e3, e4, e5⟩, ⟨e6, e7, e8, e9⟩, b1, b2, b3, b4⟩ := p.bd
  try simp only [List.length_cons, List.length_append, List.length_nil, ptc_len, List.length_dropLast] at e2 e4 e5 b1 b2 b3 b4
  have hw : wr (F 109) = F 109 := wr_id (by omega) (by omega)
  unfold sgo at hx
  refine w_load rfl rfl rfl ?_
  refine w_getI0k rfl hT.o (e4) ?_
  refine w_const (1) rfl rfl ?_
  refine w_isub rfl ?_
  rw [show ((fr.length + 1 : Nat) : Int) - 1 = (fr.length : Int) by omega]
  refine w_st1 rfl rfl rfl ?_
  refine w_load rfl rfl rfl ?_
  refine w_getP rfl hT.o (hT.p rfl) ?_
  refine w_load rfl rfl rfl ?_
  refine w_zald rfl (hT.t rfl) (hT.n rfl) (by omega) (by decide) ?_
  refine w_if_eq rfl (fun hc13 => ?_) (fun hc13 => ?_)
  · try simp (disch := omega) only [zF_wF, zF_wA, zF_wJ, zF_wD, zA_wF, zA_wA, zA_wJ, zA_wD, zL_wJ, zL_wF, zL_wA, zL_wD, J_wr, wr_zF, wr_zA, wrJ_zL, wr_id, wrJ_id, ne_eq, reduceCtorEq, not_false_eq_true, not_true_eq_false, if_true, if_false, Nat.reduceEqDiff, eq_self, wif0, if0, Decidable.not_not, p.rd, hc, hw] at hc13
    refine w_load rfl rfl rfl ?_
    refine w_callI1 rfl (Nat.le_of_ble_eq_true rfl) (Or.inr (Or.inr hT.o)) (Nat.le_of_ble_eq_true rfl) (tw_suffix hE p ho) (fun z22 G22 h22 => ?_)
    skip
    rcases h22 with ⟨rfl, -, rfl⟩ | ⟨-, hq, -⟩
    rotate_left
    · exfalso; omega
    refine w_if_eq rfl (fun hc25 => ?_) (fun hc25 => ?_)
    · try simp (disch := omega) only [zF_wF, zF_wA, zF_wJ, zF_wD, zA_wF, zA_wA, zA_wJ, zA_wD, zL_wJ, zL_wF, zL_wA, zL_wD, J_wr, wr_zF, wr_zA, wrJ_zL, wr_id, wrJ_id, ne_eq, reduceCtorEq, not_false_eq_true, not_true_eq_false, if_true, if_false, Nat.reduceEqDiff, eq_self, wif0, if0, Decidable.not_not, p.rd, hc, hw] at hc25
      refine w_load rfl rfl rfl ?_
      refine w_getP rfl hT.o (hT.p rfl) ?_
      refine w_load rfl rfl rfl ?_
      refine w_iald rfl (hT.t rfl) (hT.n rfl) (by omega) (by decide) ?_
      refine w_if_eq rfl (fun hc35 => ?_) (fun hc35 => ?_)
      · try simp (disch := omega) only [zF_wF, zF_wA, zF_wJ, zF_wD, zA_wF, zA_wA, zA_wJ, zA_wD, zL_wJ, zL_wF, zL_wA, zL_wD, J_wr, wr_zF, wr_zA, wrJ_zL, wr_id, wrJ_id, ne_eq, reduceCtorEq, not_false_eq_true, not_true_eq_false, if_true, if_false, Nat.reduceEqDiff, eq_self, wif0, if0, Decidable.not_not, p.rd, hc, hw] at hc35
        first | exact hx _ (by rw [if_pos hc35, up_same hc35]; exact p) | exact hx _ (by rw [if_neg hc35]; exact p.fset (by decide) rfl (by decide))
      · try simp (disch := omega) only [zF_wF, zF_wA, zF_wJ, zF_wD, zA_wF, zA_wA, zA_wJ, zA_wD, zL_wJ, zL_wF, zL_wA, zL_wD, J_wr, wr_zF, wr_zA, wrJ_zL, wr_id, wrJ_id, ne_eq, reduceCtorEq, not_false_eq_true, not_true_eq_false, if_true, if_false, Nat.reduceEqDiff, eq_self, wif0, if0, Decidable.not_not, p.rd, hc, hw] at hc35
        refine w_load rfl rfl rfl ?_
        refine w_load rfl rfl rfl ?_
        refine w_getP rfl hT.o (hT.p rfl) ?_
        refine w_load rfl rfl rfl ?_
        refine w_iald rfl (hT.t rfl) (hT.n rfl) (by omega) (by decide) ?_
        rw [p.rd rfl (by decide) (by decide)]
        refine w_lconst (0) rfl rfl ?_
        refine w_callI3 rfl (Nat.le_of_ble_eq_true rfl) (Or.inr (Or.inr hT.o)) (Nat.le_of_ble_eq_true rfl) (tw_emit hE p (v := 0) (by omega) (by omega) rfl) (fun z46 G46 h46 => ?_)
        obtain ⟨-, p, -⟩ := h46
        have hT := p.hts hE
        have est := p.zst hE
        obtain ⟨t1, t2, t3, t4⟩ := p.tok hE
        have t5 := p.zl hE
        obtain ⟨⟨e1, e2, e3, e4, e5⟩, ⟨e6, e7, e8, e9⟩, b1, b2, b3, b4⟩ := p.bd
        try simp only [List.length_cons, List.length_append, List.length_nil, ptc_len, List.length_dropLast] at e2 e4 e5 b1 b2 b3 b4
        refine w_pop rfl rfl ?_
        refine w_load rfl rfl rfl ?_
        refine w_getP rfl hT.o (hT.p rfl) ?_
        refine w_load rfl rfl rfl ?_
        refine w_const (0) rfl rfl ?_
        refine w_iast rfl (hT.t rfl) (hT.n rfl) (by omega) (by decide) ?_
        first | exact hx _ (by rw [if_pos hc35, up_same hc35]; exact p) | exact hx _ (by rw [if_neg hc35]; exact p.fset (by decide) rfl (by decide))
    · exfalso; simp (disch := omega) only [zF_wF, zF_wA, zF_wJ, zF_wD, zA_wF, zA_wA, zA_wJ, zA_wD, zL_wJ, zL_wF, zL_wA, zL_wD, J_wr, wr_zF, wr_zA, wrJ_zL, wr_id, wrJ_id, ne_eq, reduceCtorEq, not_false_eq_true, not_true_eq_false, if_true, if_false, Nat.reduceEqDiff, eq_self, wif0, if0, Decidable.not_not, p.rd, hc, hw] at hc25 <;> omega
  · exfalso; simp (disch := omega) only [zF_wF, zF_wA, zF_wJ, zF_wD, zA_wF, zA_wA, zA_wJ, zA_wD, zL_wJ, zL_wF, zL_wA, zL_wD, J_wr, wr_zF, wr_zA, wrJ_zL, wr_id, wrJ_id, ne_eq, reduceCtorEq, not_false_eq_true, not_true_eq_false, if_true, if_false, Nat.reduceEqDiff, eq_self, wif0, if0, Decidable.not_not, p.rd, hc, hw] at hc13 <;> omega
theorem lvlK_lo (k : Int) : 0 ≤ lvlK k ∧ lvlK k ≤ 5 := by
  unfold lvlK
  repeat' (first | split | decide)
/-- an operation comes -/
theorem tw_behB (hE : PEnv f n T G0 st) (p : PR T G0 st G i out op (F :: fr) (own ++ outer) ta ts) (hb : F 108 = outer.length) (ho : wOK st out.length own) (hl : out.length + own.length ≤ 88) (hw : own.length + outer.length < 48) {l lv : Int} (hll : l = lvlK (tkd n T i)) (hl0 : l > 0) (hlv : lv = if l = 3 then 4 else l)
    (hno : ¬ (l = 3 ∧ top3F (redF st lv own out).1 = true)) : Wp (d + 5, 174, 57, [some (.ref 98), some (.int (N fr.length)), none, none, none], [], G) (RV fun G' => ∃ W : Fm, W 117 = l ∧ W 116 = (if l > 2 then opS (tkd n T i) else 0) ∧ (l ≤ 2 → W 118 = (st : Int) + (redF st lv own out).2.length) ∧ PR T G0 st G' (i + 1) (if l > 2 then (redF st lv own out).2 else (redF st lv own out).2 ++ [(if l = 2 then 32 else 33, 0)]) true (up F 114 0 :: fr) (W :: ((redF st lv own out).1 ++ outer)) ta ts) := by
  have h5 := lvlK_lo (tkd n T i)
  have hlen := redF_len (st := st) (lv := lv) (own := own) (o := out)
  have hle := redF_le (st := st) (lv := lv) (own := own) (o := out)
  have hT := p.hts hE
  have est := p.zst hE
  obtain ⟨t1, t2, t3, t4⟩ := p.tok hE
  have t5 := p.zl hE
  obtain ⟨⟨e1, e2, e3, e4, e5⟩, ⟨e6, e7, e8, e9⟩, b1, b2, b3, b4⟩ := p.bd
  try simp only [List.length_cons, List.length_append, List.length_nil, ptc_len, List.length_dropLast] at e2 e4 e5 b1 b2 b3 b4
  by_cases h3 : l = 3
  · rw [if_pos h3] at hlv
    subst hlv
    refine w_load rfl rfl rfl ?_
    skip
    refine w_callI1 rfl (Nat.le_of_ble_eq_true rfl) (Or.inr (Or.inr hT.o)) (Nat.le_of_ble_eq_true rfl) (tw_levelNext hE p) (fun z58 G58 h58 => ?_)
    obtain ⟨rfl, rfl⟩ := h58
    refine w_st2 rfl rfl rfl ?_
    refine w_load rfl rfl rfl ?_
    refine w_if_le rfl (fun hc63 => ?_) (fun hc63 => ?_)
    · exfalso; simp (disch := omega) only [zF_wF, zF_wA, zF_wJ, zF_wD, zA_wF, zA_wA, zA_wJ, zA_wD, zL_wJ, zL_wF, zL_wA, zL_wD, J_wr, wr_zF, wr_zA, wrJ_zL, wr_id, wrJ_id, ne_eq, reduceCtorEq, not_false_eq_true, not_true_eq_false, if_true, if_false, Nat.reduceEqDiff, eq_self, wif0, if0, Decidable.not_not] at hc63 <;> omega
    · try simp (disch := omega) only [zF_wF, zF_wA, zF_wJ, zF_wD, zA_wF, zA_wA, zA_wJ, zA_wD, zL_wJ, zL_wF, zL_wA, zL_wD, J_wr, wr_zF, wr_zA, wrJ_zL, wr_id, wrJ_id, ne_eq, reduceCtorEq, not_false_eq_true, not_true_eq_false, if_true, if_false, Nat.reduceEqDiff, eq_self, wif0, if0, Decidable.not_not] at hc63
      refine w_load rfl rfl rfl ?_
      refine w_load rfl rfl rfl ?_
      refine w_const (3) rfl rfl ?_
      refine w_icmp_ne rfl (fun hc69 => ?_) (fun hc69 => ?_)
      · exfalso; simp (disch := omega) only [zF_wF, zF_wA, zF_wJ, zF_wD, zA_wF, zA_wA, zA_wJ, zA_wD, zL_wJ, zL_wF, zL_wA, zL_wD, J_wr, wr_zF, wr_zA, wrJ_zL, wr_id, wrJ_id, ne_eq, reduceCtorEq, not_false_eq_true, not_true_eq_false, if_true, if_false, Nat.reduceEqDiff, eq_self, wif0, if0, Decidable.not_not] at hc69 <;> omega
      · try simp (disch := omega) only [zF_wF, zF_wA, zF_wJ, zF_wD, zA_wF, zA_wA, zA_wJ, zA_wD, zL_wJ, zL_wF, zL_wA, zL_wD, J_wr, wr_zF, wr_zA, wrJ_zL, wr_id, wrJ_id, ne_eq, reduceCtorEq, not_false_eq_true, not_true_eq_false, if_true, if_false, Nat.reduceEqDiff, eq_self, wif0, if0, Decidable.not_not] at hc69
        refine w_const (4) rfl rfl ?_
        refine w_goto rfl ?_
        refine w_callV2 rfl (Nat.le_of_ble_eq_true rfl) (Or.inr (Or.inr hT.o)) (Nat.le_of_ble_eq_true rfl) (tw_reduce hE (by decide) hb own out _ p (by omega) ho) (fun G77 h77 => ?_)
        have p := h77
        have hT := p.hts hE
        have est := p.zst hE
        obtain ⟨t1, t2, t3, t4⟩ := p.tok hE
        have t5 := p.zl hE
        obtain ⟨⟨e1, e2, e3, e4, e5⟩, ⟨e6, e7, e8, e9⟩, b1, b2, b3, b4⟩ := p.bd
        try simp only [List.length_cons, List.length_append, List.length_nil, ptc_len, List.length_dropLast] at e2 e4 e5 b1 b2 b3 b4
        refine w_load rfl rfl rfl ?_
        refine w_if_le rfl (fun hc81 => ?_) (fun hc81 => ?_)
        · exfalso; simp (disch := omega) only [zF_wF, zF_wA, zF_wJ, zF_wD, zA_wF, zA_wA, zA_wJ, zA_wD, zL_wJ, zL_wF, zL_wA, zL_wD, J_wr, wr_zF, wr_zA, wrJ_zL, wr_id, wrJ_id, ne_eq, reduceCtorEq, not_false_eq_true, not_true_eq_false, if_true, if_false, Nat.reduceEqDiff, eq_self, wif0, if0, Decidable.not_not] at hc81 <;> omega
        · try simp (disch := omega) only [zF_wF, zF_wA, zF_wJ, zF_wD, zA_wF, zA_wA, zA_wJ, zA_wD, zL_wJ, zL_wF, zL_wA, zL_wD, J_wr, wr_zF, wr_zA, wrJ_zL, wr_id, wrJ_id, ne_eq, reduceCtorEq, not_false_eq_true, not_true_eq_false, if_true, if_false, Nat.reduceEqDiff, eq_self, wif0, if0, Decidable.not_not] at hc81
          refine w_load rfl rfl rfl ?_
          refine w_const (3) rfl rfl ?_
          refine w_icmp_ne rfl (fun hc86 => ?_) (fun hc86 => ?_)
          · exfalso; simp (disch := omega) only [zF_wF, zF_wA, zF_wJ, zF_wD, zA_wF, zA_wA, zA_wJ, zA_wD, zL_wJ, zL_wF, zL_wA, zL_wD, J_wr, wr_zF, wr_zA, wrJ_zL, wr_id, wrJ_id, ne_eq, reduceCtorEq, not_false_eq_true, not_true_eq_false, if_true, if_false, Nat.reduceEqDiff, eq_self, wif0, if0, Decidable.not_not] at hc86 <;> omega
          · try simp (disch := omega) only [zF_wF, zF_wA, zF_wJ, zF_wD, zA_wF, zA_wA, zA_wJ, zA_wD, zL_wJ, zL_wF, zL_wA, zL_wD, J_wr, wr_zF, wr_zA, wrJ_zL, wr_id, wrJ_id, ne_eq, reduceCtorEq, not_false_eq_true, not_true_eq_false, if_true, if_false, Nat.reduceEqDiff, eq_self, wif0, if0, Decidable.not_not] at hc86
            refine w_load rfl rfl rfl ?_
            refine w_callI1 rfl (Nat.le_of_ble_eq_true rfl) (Or.inr (Or.inr hT.o)) (Nat.le_of_ble_eq_true rfl) (tw_compared hE p hb) (fun z90 G90 h90 => ?_)
            obtain ⟨rfl, rfl⟩ := h90
            refine w_if_ne rfl (fun hc93 => ?_) (fun hc93 => ?_)
            · exfalso; exact hno ⟨h3, by simpa only [wif0, if0, Decidable.not_not] using hc93⟩
            · try simp (disch := omega) only [zF_wF, zF_wA, zF_wJ, zF_wD, zA_wF, zA_wA, zA_wJ, zA_wD, zL_wJ, zL_wF, zL_wA, zL_wD, J_wr, wr_zF, wr_zA, wrJ_zL, wr_id, wrJ_id, ne_eq, reduceCtorEq, not_false_eq_true, not_true_eq_false, if_true, if_false, Nat.reduceEqDiff, eq_self, wif0, if0, Decidable.not_not] at hc93
              refine w_load rfl rfl rfl ?_
              refine w_load rfl rfl rfl ?_
              refine w_callV2 rfl (Nat.le_of_ble_eq_true rfl) (Or.inr (Or.inr hT.o)) (Nat.le_of_ble_eq_true rfl) (tw_binary hE p rfl (by omega) (by omega) (by simp only [List.length_append, List.length_cons, List.length_nil, ptc_len]; omega)) (fun G98 h98 => ?_)
              skip
              refine w_return rfl ?_
              rw [hll]; exact RV.mk h98
  · rw [if_neg h3] at hlv
    subst hlv
    refine w_load rfl rfl rfl ?_
    refine w_callI1 rfl (Nat.le_of_ble_eq_true rfl) (Or.inr (Or.inr hT.o)) (Nat.le_of_ble_eq_true rfl) (tw_levelNext hE p) (fun z58 G58 h58 => ?_)
    obtain ⟨rfl, rfl⟩ := h58
    refine w_st2 rfl rfl rfl ?_
    refine w_load rfl rfl rfl ?_
    refine w_if_le rfl (fun hc63 => ?_) (fun hc63 => ?_)
    · exfalso; simp (disch := omega) only [zF_wF, zF_wA, zF_wJ, zF_wD, zA_wF, zA_wA, zA_wJ, zA_wD, zL_wJ, zL_wF, zL_wA, zL_wD, J_wr, wr_zF, wr_zA, wrJ_zL, wr_id, wrJ_id, ne_eq, reduceCtorEq, not_false_eq_true, not_true_eq_false, if_true, if_false, Nat.reduceEqDiff, eq_self, wif0, if0, Decidable.not_not] at hc63 <;> omega
    · try simp (disch := omega) only [zF_wF, zF_wA, zF_wJ, zF_wD, zA_wF, zA_wA, zA_wJ, zA_wD, zL_wJ, zL_wF, zL_wA, zL_wD, J_wr, wr_zF, wr_zA, wrJ_zL, wr_id, wrJ_id, ne_eq, reduceCtorEq, not_false_eq_true, not_true_eq_false, if_true, if_false, Nat.reduceEqDiff, eq_self, wif0, if0, Decidable.not_not] at hc63
      refine w_load rfl rfl rfl ?_
      refine w_load rfl rfl rfl ?_
      refine w_const (3) rfl rfl ?_
      refine w_icmp_ne rfl (fun hc69 => ?_) (fun hc69 => ?_)
      · try simp (disch := omega) only [zF_wF, zF_wA, zF_wJ, zF_wD, zA_wF, zA_wA, zA_wJ, zA_wD, zL_wJ, zL_wF, zL_wA, zL_wD, J_wr, wr_zF, wr_zA, wrJ_zL, wr_id, wrJ_id, ne_eq, reduceCtorEq, not_false_eq_true, not_true_eq_false, if_true, if_false, Nat.reduceEqDiff, eq_self, wif0, if0, Decidable.not_not] at hc69
        refine w_load rfl rfl rfl ?_
        rw [← hll]
        refine w_callV2 rfl (Nat.le_of_ble_eq_true rfl) (Or.inr (Or.inr hT.o)) (Nat.le_of_ble_eq_true rfl) (tw_reduce hE (by omega) hb own out _ p (by omega) ho) (fun G77 h77 => ?_)
        have p := h77
        have hT := p.hts hE
        have est := p.zst hE
        obtain ⟨t1, t2, t3, t4⟩ := p.tok hE
        have t5 := p.zl hE
        obtain ⟨⟨e1, e2, e3, e4, e5⟩, ⟨e6, e7, e8, e9⟩, b1, b2, b3, b4⟩ := p.bd
        try simp only [List.length_cons, List.length_append, List.length_nil, ptc_len, List.length_dropLast] at e2 e4 e5 b1 b2 b3 b4
        refine w_load rfl rfl rfl ?_
        refine w_if_le rfl (fun hc81 => ?_) (fun hc81 => ?_)
        · exfalso; simp (disch := omega) only [zF_wF, zF_wA, zF_wJ, zF_wD, zA_wF, zA_wA, zA_wJ, zA_wD, zL_wJ, zL_wF, zL_wA, zL_wD, J_wr, wr_zF, wr_zA, wrJ_zL, wr_id, wrJ_id, ne_eq, reduceCtorEq, not_false_eq_true, not_true_eq_false, if_true, if_false, Nat.reduceEqDiff, eq_self, wif0, if0, Decidable.not_not] at hc81 <;> omega
        · try simp (disch := omega) only [zF_wF, zF_wA, zF_wJ, zF_wD, zA_wF, zA_wA, zA_wJ, zA_wD, zL_wJ, zL_wF, zL_wA, zL_wD, J_wr, wr_zF, wr_zA, wrJ_zL, wr_id, wrJ_id, ne_eq, reduceCtorEq, not_false_eq_true, not_true_eq_false, if_true, if_false, Nat.reduceEqDiff, eq_self, wif0, if0, Decidable.not_not] at hc81
          refine w_load rfl rfl rfl ?_
          refine w_const (3) rfl rfl ?_
          refine w_icmp_ne rfl (fun hc86 => ?_) (fun hc86 => ?_)
          · try simp (disch := omega) only [zF_wF, zF_wA, zF_wJ, zF_wD, zA_wF, zA_wA, zA_wJ, zA_wD, zL_wJ, zL_wF, zL_wA, zL_wD, J_wr, wr_zF, wr_zA, wrJ_zL, wr_id, wrJ_id, ne_eq, reduceCtorEq, not_false_eq_true, not_true_eq_false, if_true, if_false, Nat.reduceEqDiff, eq_self, wif0, if0, Decidable.not_not] at hc86
            refine w_load rfl rfl rfl ?_
            refine w_load rfl rfl rfl ?_
            refine w_callV2 rfl (Nat.le_of_ble_eq_true rfl) (Or.inr (Or.inr hT.o)) (Nat.le_of_ble_eq_true rfl) (tw_binary hE p hll (by omega) (by omega) (by simp only [List.length_append, List.length_cons, List.length_nil, ptc_len]; omega)) (fun G98 h98 => ?_)
            skip
            refine w_return rfl ?_
            exact RV.mk h98
          · exfalso; simp (disch := omega) only [zF_wF, zF_wA, zF_wJ, zF_wD, zA_wF, zA_wA, zA_wJ, zA_wD, zL_wJ, zL_wF, zL_wA, zL_wD, J_wr, wr_zF, wr_zA, wrJ_zL, wr_id, wrJ_id, ne_eq, reduceCtorEq, not_false_eq_true, not_true_eq_false, if_true, if_false, Nat.reduceEqDiff, eq_self, wif0, if0, Decidable.not_not] at hc86 <;> omega
      · exfalso; simp (disch := omega) only [zF_wF, zF_wA, zF_wJ, zF_wD, zA_wF, zA_wA, zA_wJ, zA_wD, zL_wJ, zL_wF, zL_wA, zL_wD, J_wr, wr_zF, wr_zA, wrJ_zL, wr_id, wrJ_id, ne_eq, reduceCtorEq, not_false_eq_true, not_true_eq_false, if_true, if_false, Nat.reduceEqDiff, eq_self, wif0, if0, Decidable.not_not] at hc69 <;> omega
theorem tw_behA3 {l1 l2 l3 : Option Value} {R : mG → Prop} {e q k : Int} (hE : PEnv f n T G0 st) (h : PE G0 st G e q) (h5 : zF G 98 19 = 5) (hk : 0 ≤ k ∧ k ≤ 3600) (hR : ∀ G, PE G0 st G e q → R G) : Wp (d, 174, 180, [some (.ref 98), l1, l2, l3, some (.int (N k))], [], G) (RV R) := by
  have hT := h.hts hE
  refine w_load rfl rfl rfl ?_
  refine w_getP rfl hT.o (hT.p rfl) ?_
  refine w_load rfl rfl rfl ?_
  refine w_getI0k rfl hT.o (h5) ?_
  refine w_const (1) rfl rfl ?_
  refine w_isub rfl ?_
  refine w_load rfl rfl rfl ?_
  refine w_iast rfl (hT.t rfl) (hT.n rfl) (by omega) (by decide) ?_
  refine w_return rfl ?_
  exact RV.mk (hR _ ⟨h.1.pA (by decide) (by decide), (zF_A (by decide)).trans h.2.1, (zF_A (by decide)).trans h.2.2.1, h.2.2.2⟩)
theorem tw_behA4 {l1 l2 l3 : Option Value} {R : mG → Prop} {k : Int} (hE : PEnv f n T G0 st) (p : PR T G0 st G i out op (F :: fr) wt ta ts) (hk : 0 ≤ k ∧ k ≤ 3600) (hR : ∀ G, PR T G0 st G i out op (up F 110 k :: fr) wt ta ts → R G) : Wp (d, 174, 180, [some (.ref 98), l1, l2, l3, some (.int (N k))], [], G) (RV R) := by
  have hT := p.hts hE
  have est := p.zst hE
  obtain ⟨t1, t2, t3, t4⟩ := p.tok hE
  have t5 := p.zl hE
  obtain ⟨⟨e1, e2, e3, e4, e5⟩, ⟨e6, e7, e8, e9⟩, b1, b2, b3, b4⟩ := p.bd
  try simp only [List.length_cons, List.length_append, List.length_nil, ptc_len, List.length_dropLast] at e2 e4 e5 b1 b2 b3 b4
  refine w_load rfl rfl rfl ?_
  refine w_getP rfl hT.o (hT.p rfl) ?_
  refine w_load rfl rfl rfl ?_
  refine w_getI0k rfl hT.o (e4) ?_
  refine w_const (1) rfl rfl ?_
  refine w_isub rfl ?_
  refine w_load rfl rfl rfl ?_
  refine w_iast rfl (hT.t rfl) (hT.n rfl) (by omega) (by decide) ?_
  refine w_pr (p.fset (by decide) (by omega) (by omega)) (fun G p => ?_)
  have hT := p.hts hE
  have est := p.zst hE
  obtain ⟨t1, t2, t3, t4⟩ := p.tok hE
  have t5 := p.zl hE
  obtain ⟨⟨e1, e2, e3, e4, e5⟩, ⟨e6, e7, e8, e9⟩, b1, b2, b3, b4⟩ := p.bd
  try simp only [List.length_cons, List.length_append, List.length_nil, ptc_len, List.length_dropLast] at e2 e4 e5 b1 b2 b3 b4
  refine w_return rfl ?_
  exact RV.mk (hR _ p)
theorem tw_behA2 {a : Int} {l2 : Option Value} (hE : PEnv f n T G0 st) (p : PR T G0 st G i out op (F :: fr) wt ta ts) (ha : a = 0 ∨ a = 1) (h36 : ¬ tkd n T i = 36) (hl : out.length ≤ 89) : Wp (d + 5, 174, 139, [some (.ref 98), some (.int (N fr.length)), l2, some (.int (N a)), none], [], G) (RV fun G' =>
    fr.length = 4 ∧ PE G0 st G' 3 (tpl n T (i + 1)) ∨ fr.length < 4 ∧ ∃ F', Frsh F' (if a = 1 then 4 else 5) wt.length ∧ F' 110 = (st : Int) + out.length ∧ PR T G0 st G' (i + 1) (out ++ [(if a = 1 then 35 else 37, 0)]) true (F' :: F :: fr) wt ta ts) := by
  have h41 := hE.2.2.1
  have h35 := hE.2.2.2.2.2.1
  have hT := p.hts hE
  have est := p.zst hE
  obtain ⟨t1, t2, t3, t4⟩ := p.tok hE
  have t5 := p.zl hE
  obtain ⟨⟨e1, e2, e3, e4, e5⟩, ⟨e6, e7, e8, e9⟩, b1, b2, b3, b4⟩ := p.bd
  try simp only [List.length_cons, List.length_append, List.length_nil, ptc_len, List.length_dropLast] at e2 e4 e5 b1 b2 b3 b4
  rcases ha with rfl | rfl
  · refine w_load rfl rfl rfl ?_
    refine w_load rfl rfl rfl ?_
    refine w_if_eq rfl (fun hc141 => ?_) (fun hc141 => ?_)
    · try simp (disch := omega) only [zF_wF, zF_wA, zF_wJ, zF_wD, zA_wF, zA_wA, zA_wJ, zA_wD, zL_wJ, zL_wF, zL_wA, zL_wD, J_wr, wr_zF, wr_zA, wrJ_zL, wr_id, wrJ_id, ne_eq, reduceCtorEq, not_false_eq_true, not_true_eq_false, if_true, if_false, Nat.reduceEqDiff, eq_self, wif0, if0, Decidable.not_not] at hc141
      refine w_const (37) rfl rfl ?_
      refine w_lconst (0) rfl rfl ?_
      refine w_callI3 rfl (Nat.le_of_ble_eq_true rfl) (Or.inr (Or.inr hT.o)) (Nat.le_of_ble_eq_true rfl) (tw_emit hE p (v := 0) (by omega) (by decide) rfl) (fun z152 G152 h152 => ?_)
      obtain ⟨rfl, p, -⟩ := h152
      have hT := p.hts hE
      have est := p.zst hE
      obtain ⟨t1, t2, t3, t4⟩ := p.tok hE
      have t5 := p.zl hE
      obtain ⟨⟨e1, e2, e3, e4, e5⟩, ⟨e6, e7, e8, e9⟩, b1, b2, b3, b4⟩ := p.bd
      try simp only [List.length_cons, List.length_append, List.length_nil, ptc_len, List.length_dropLast] at e2 e4 e5 b1 b2 b3 b4
      refine w_st4 rfl rfl rfl ?_
      refine w_load rfl rfl rfl ?_
      refine w_dup rfl rfl ?_
      refine w_getI0k rfl hT.o (e1) ?_
      refine w_const (1) rfl rfl ?_
      refine w_iadd rfl ?_
      refine w_putI0 rfl hT.o ?_
      refine w_pr (p.nxt (p.lt hE h36) h41 rfl) (fun G p => ?_)
      have hT := p.hts hE
      have est := p.zst hE
      obtain ⟨t1, t2, t3, t4⟩ := p.tok hE
      have t5 := p.zl hE
      obtain ⟨⟨e1, e2, e3, e4, e5⟩, ⟨e6, e7, e8, e9⟩, b1, b2, b3, b4⟩ := p.bd
      try simp only [List.length_cons, List.length_append, List.length_nil, ptc_len, List.length_dropLast] at e2 e4 e5 b1 b2 b3 b4
      refine w_load rfl rfl rfl ?_
      refine w_load rfl rfl rfl ?_
      refine w_if_eq rfl (fun hc169 => ?_) (fun hc169 => ?_)
      · try simp (disch := omega) only [zF_wF, zF_wA, zF_wJ, zF_wD, zA_wF, zA_wA, zA_wJ, zA_wD, zL_wJ, zL_wF, zL_wA, zL_wD, J_wr, wr_zF, wr_zA, wrJ_zL, wr_id, wrJ_id, ne_eq, reduceCtorEq, not_false_eq_true, not_true_eq_false, if_true, if_false, Nat.reduceEqDiff, eq_self, wif0, if0, Decidable.not_not] at hc169
        refine w_const (5) rfl rfl ?_
        refine w_callV2 rfl (Nat.le_of_ble_eq_true rfl) (Or.inr (Or.inr hT.o)) (Nat.le_of_ble_eq_true rfl) (tw_open hE p (by decide)) (fun G177 h177 => ?_)
        simp only [List.length_cons] at h177
        rcases h177 with ⟨h1, h2, h3⟩ | ⟨h1, F', hf, p⟩
        · exact tw_behA3 hE h2 h3 (by omega) (fun G h => Or.inl ⟨by omega, h⟩)
        · exact tw_behA4 hE p (by omega) (fun G p => Or.inr ⟨by omega, up F' 110 (st + out.length), hf, rfl, p⟩)
      · exfalso; simp (disch := omega) only [zF_wF, zF_wA, zF_wJ, zF_wD, zA_wF, zA_wA, zA_wJ, zA_wD, zL_wJ, zL_wF, zL_wA, zL_wD, J_wr, wr_zF, wr_zA, wrJ_zL, wr_id, wrJ_id, ne_eq, reduceCtorEq, not_false_eq_true, not_true_eq_false, if_true, if_false, Nat.reduceEqDiff, eq_self, wif0, if0, Decidable.not_not] at hc169 <;> omega
    · exfalso; simp (disch := omega) only [zF_wF, zF_wA, zF_wJ, zF_wD, zA_wF, zA_wA, zA_wJ, zA_wD, zL_wJ, zL_wF, zL_wA, zL_wD, J_wr, wr_zF, wr_zA, wrJ_zL, wr_id, wrJ_id, ne_eq, reduceCtorEq, not_false_eq_true, not_true_eq_false, if_true, if_false, Nat.reduceEqDiff, eq_self, wif0, if0, Decidable.not_not] at hc141 <;> omega
  · refine w_load rfl rfl rfl ?_
    refine w_load rfl rfl rfl ?_
    refine w_if_eq rfl (fun hc141 => ?_) (fun hc141 => ?_)
    · exfalso; simp (disch := omega) only [zF_wF, zF_wA, zF_wJ, zF_wD, zA_wF, zA_wA, zA_wJ, zA_wD, zL_wJ, zL_wF, zL_wA, zL_wD, J_wr, wr_zF, wr_zA, wrJ_zL, wr_id, wrJ_id, ne_eq, reduceCtorEq, not_false_eq_true, not_true_eq_false, if_true, if_false, Nat.reduceEqDiff, eq_self, wif0, if0, Decidable.not_not] at hc141 <;> omega
    · try simp (disch := omega) only [zF_wF, zF_wA, zF_wJ, zF_wD, zA_wF, zA_wA, zA_wJ, zA_wD, zL_wJ, zL_wF, zL_wA, zL_wD, J_wr, wr_zF, wr_zA, wrJ_zL, wr_id, wrJ_id, ne_eq, reduceCtorEq, not_false_eq_true, not_true_eq_false, if_true, if_false, Nat.reduceEqDiff, eq_self, wif0, if0, Decidable.not_not] at hc141
      refine w_const (35) rfl rfl ?_
      refine w_goto rfl ?_
      refine w_lconst (0) rfl rfl ?_
      refine w_callI3 rfl (Nat.le_of_ble_eq_true rfl) (Or.inr (Or.inr hT.o)) (Nat.le_of_ble_eq_true rfl) (tw_emit hE p (v := 0) (by omega) (by decide) rfl) (fun z152 G152 h152 => ?_)
      obtain ⟨rfl, p, -⟩ := h152
      have hT := p.hts hE
      have est := p.zst hE
      obtain ⟨t1, t2, t3, t4⟩ := p.tok hE
      have t5 := p.zl hE
      obtain ⟨⟨e1, e2, e3, e4, e5⟩, ⟨e6, e7, e8, e9⟩, b1, b2, b3, b4⟩ := p.bd
      try simp only [List.length_cons, List.length_append, List.length_nil, ptc_len, List.length_dropLast] at e2 e4 e5 b1 b2 b3 b4
      refine w_st4 rfl rfl rfl ?_
      refine w_load rfl rfl rfl ?_
      refine w_dup rfl rfl ?_
      refine w_getI0k rfl hT.o (e1) ?_
      refine w_const (1) rfl rfl ?_
      refine w_iadd rfl ?_
      refine w_putI0 rfl hT.o ?_
      refine w_pr (p.nxt (p.lt hE h36) h41 rfl) (fun G p => ?_)
      have hT := p.hts hE
      have est := p.zst hE
      obtain ⟨t1, t2, t3, t4⟩ := p.tok hE
      have t5 := p.zl hE
      obtain ⟨⟨e1, e2, e3, e4, e5⟩, ⟨e6, e7, e8, e9⟩, b1, b2, b3, b4⟩ := p.bd
      try simp only [List.length_cons, List.length_append, List.length_nil, ptc_len, List.length_dropLast] at e2 e4 e5 b1 b2 b3 b4
      refine w_load rfl rfl rfl ?_
      refine w_load rfl rfl rfl ?_
      refine w_if_eq rfl (fun hc169 => ?_) (fun hc169 => ?_)
      · exfalso; simp (disch := omega) only [zF_wF, zF_wA, zF_wJ, zF_wD, zA_wF, zA_wA, zA_wJ, zA_wD, zL_wJ, zL_wF, zL_wA, zL_wD, J_wr, wr_zF, wr_zA, wrJ_zL, wr_id, wrJ_id, ne_eq, reduceCtorEq, not_false_eq_true, not_true_eq_false, if_true, if_false, Nat.reduceEqDiff, eq_self, wif0, if0, Decidable.not_not] at hc169 <;> omega
      · try simp (disch := omega) only [zF_wF, zF_wA, zF_wJ, zF_wD, zA_wF, zA_wA, zA_wJ, zA_wD, zL_wJ, zL_wF, zL_wA, zL_wD, J_wr, wr_zF, wr_zA, wrJ_zL, wr_id, wrJ_id, ne_eq, reduceCtorEq, not_false_eq_true, not_true_eq_false, if_true, if_false, Nat.reduceEqDiff, eq_self, wif0, if0, Decidable.not_not] at hc169
        refine w_const (4) rfl rfl ?_
        refine w_goto rfl ?_
        refine w_callV2 rfl (Nat.le_of_ble_eq_true rfl) (Or.inr (Or.inr hT.o)) (Nat.le_of_ble_eq_true rfl) (tw_open hE p (by decide)) (fun G177 h177 => ?_)
        simp only [List.length_cons] at h177
        rcases h177 with ⟨h1, h2, h3⟩ | ⟨h1, F', hf, p⟩
        · exact tw_behA3 hE h2 h3 (by omega) (fun G h => Or.inl ⟨by omega, h⟩)
        · exact tw_behA4 hE p (by omega) (fun G p => Or.inr ⟨by omega, up F' 110 (st + out.length), hf, rfl, p⟩)
/-- a question comes -/
theorem tw_behA (hE : PEnv f n T G0 st) (p : PR T G0 st G i out op (F :: fr) (own ++ outer) ta ts) (hb : F 108 = outer.length) (ho : wOK st out.length own) (hl : out.length + own.length ≤ 88) (ha : tkd n T i = 63 ∨ tkd n T i = 16186) : Wp (d + 5, 174, 57, [some (.ref 98), some (.int (N fr.length)), none, none, none], [], G) (RV fun G' =>
    fr.length = 4 ∧ PE G0 st G' 3 (tpl n T (i + 1)) ∨ fr.length < 4 ∧ ∃ F', Frsh F' (if tkd n T i = 63 then 4 else 5) outer.length ∧ F' 110 = (st : Int) + (redF st 1 own out).2.length ∧ PR T G0 st G' (i + 1) ((redF st 1 own out).2 ++ [(if tkd n T i = 63 then 35 else 37, 0)]) true (F' :: up F 114 0 :: fr) outer ta ts) := by
  have h0 : lvlK (tkd n T i) = 0 := by rcases ha with h | h <;> rw [h] <;> rfl
  have h41 := hE.2.2.1
  have h35 := hE.2.2.2.2.2.1
  have hlen := redF_len (st := st) (lv := 1) (own := own) (o := out)
  have hall := redF_all (o := out) ho
  rw [hall] at hlen
  simp only [List.length_nil] at hlen
  have hT := p.hts hE
  have est := p.zst hE
  obtain ⟨t1, t2, t3, t4⟩ := p.tok hE
  have t5 := p.zl hE
  obtain ⟨⟨e1, e2, e3, e4, e5⟩, ⟨e6, e7, e8, e9⟩, b1, b2, b3, b4⟩ := p.bd
  try simp only [List.length_cons, List.length_append, List.length_nil, ptc_len, List.length_dropLast] at e2 e4 e5 b1 b2 b3 b4
  refine w_load rfl rfl rfl ?_
  refine w_callI1 rfl (Nat.le_of_ble_eq_true rfl) (Or.inr (Or.inr hT.o)) (Nat.le_of_ble_eq_true rfl) (tw_levelNext hE p) (fun z58 G58 h58 => ?_)
  obtain ⟨rfl, rfl⟩ := h58
  rw [h0]
  refine w_st2 rfl rfl rfl ?_
  refine w_load rfl rfl rfl ?_
  refine w_if_le rfl (fun hc63 => ?_) (fun hc63 => ?_)
  · try simp (disch := omega) only [zF_wF, zF_wA, zF_wJ, zF_wD, zA_wF, zA_wA, zA_wJ, zA_wD, zL_wJ, zL_wF, zL_wA, zL_wD, J_wr, wr_zF, wr_zA, wrJ_zL, wr_id, wrJ_id, ne_eq, reduceCtorEq, not_false_eq_true, not_true_eq_false, if_true, if_false, Nat.reduceEqDiff, eq_self, wif0, if0, Decidable.not_not] at hc63
    refine w_load rfl rfl rfl ?_
    refine w_if_le rfl (fun hc81 => ?_) (fun hc81 => ?_)
    · try simp (disch := omega) only [zF_wF, zF_wA, zF_wJ, zF_wD, zA_wF, zA_wA, zA_wJ, zA_wD, zL_wJ, zL_wF, zL_wA, zL_wD, J_wr, wr_zF, wr_zA, wrJ_zL, wr_id, wrJ_id, ne_eq, reduceCtorEq, not_false_eq_true, not_true_eq_false, if_true, if_false, Nat.reduceEqDiff, eq_self, wif0, if0, Decidable.not_not] at hc81
      refine w_load rfl rfl rfl ?_
      refine w_const (63) rfl rfl ?_
      refine w_callI2 rfl (Nat.le_of_ble_eq_true rfl) (Or.inr (Or.inr hT.o)) (Nat.le_of_ble_eq_true rfl) (tw_isSign hE p (by decide)) (fun z105 G105 h105 => ?_)
      obtain ⟨rfl, rfl⟩ := h105
      refine w_st3 rfl rfl rfl ?_
      refine w_load rfl rfl rfl ?_
      refine w_if_ne rfl (fun hc110 => ?_) (fun hc110 => ?_)
      · exfalso; simp (disch := omega) only [zF_wF, zF_wA, zF_wJ, zF_wD, zA_wF, zA_wA, zA_wJ, zA_wD, zL_wJ, zL_wF, zL_wA, zL_wD, J_wr, wr_zF, wr_zA, wrJ_zL, wr_id, wrJ_id, ne_eq, reduceCtorEq, not_false_eq_true, not_true_eq_false, if_true, if_false, Nat.reduceEqDiff, eq_self, wif0, if0, Decidable.not_not] at hc110 <;> omega
      · try simp (disch := omega) only [zF_wF, zF_wA, zF_wJ, zF_wD, zA_wF, zA_wA, zA_wJ, zA_wD, zL_wJ, zL_wF, zL_wA, zL_wD, J_wr, wr_zF, wr_zA, wrJ_zL, wr_id, wrJ_id, ne_eq, reduceCtorEq, not_false_eq_true, not_true_eq_false, if_true, if_false, Nat.reduceEqDiff, eq_self, wif0, if0, Decidable.not_not] at hc110
        refine w_load rfl rfl rfl ?_
        refine w_if_ne rfl (fun hc114 => ?_) (fun hc114 => ?_)
        · try simp (disch := omega) only [zF_wF, zF_wA, zF_wJ, zF_wD, zA_wF, zA_wA, zA_wJ, zA_wD, zL_wJ, zL_wF, zL_wA, zL_wD, J_wr, wr_zF, wr_zA, wrJ_zL, wr_id, wrJ_id, ne_eq, reduceCtorEq, not_false_eq_true, not_true_eq_false, if_true, if_false, Nat.reduceEqDiff, eq_self, wif0, if0, Decidable.not_not] at hc114
          refine w_load rfl rfl rfl ?_
          refine w_const (1) rfl rfl ?_
          refine w_callV2 rfl (Nat.le_of_ble_eq_true rfl) (Or.inr (Or.inr hT.o)) (Nat.le_of_ble_eq_true rfl) (tw_reduce hE (by decide) hb own out _ p (by omega) ho) (fun G129 h129 => ?_)
          have p := h129
          rw [hall, List.nil_append] at p
          have hT := p.hts hE
          have est := p.zst hE
          obtain ⟨t1, t2, t3, t4⟩ := p.tok hE
          have t5 := p.zl hE
          obtain ⟨⟨e1, e2, e3, e4, e5⟩, ⟨e6, e7, e8, e9⟩, b1, b2, b3, b4⟩ := p.bd
          try simp only [List.length_cons, List.length_append, List.length_nil, ptc_len, List.length_dropLast] at e2 e4 e5 b1 b2 b3 b4
          refine w_load rfl rfl rfl ?_
          refine w_getP rfl hT.o (hT.p rfl) ?_
          refine w_load rfl rfl rfl ?_
          refine w_const (0) rfl rfl ?_
          refine w_zast rfl (hT.t rfl) (hT.n rfl) (by omega) (by decide) (by first | exact Or.inl rfl | exact Or.inr rfl | omega) ?_
          have hx := tw_behA2 (d := d) (l2 := some (.int (N 0))) (a := if tkd n T i = 63 then 1 else 0) hE (p.fset (x := 114) (v := 0) (by decide) rfl (by decide)) (by split <;> omega) (by omega) (by omega)
          rw [show (if (if tkd n T i = 63 then (1 : Int) else 0) = 1 then (4 : Int) else 5) = (if tkd n T i = 63 then 4 else 5) from by split <;> rfl, show (if (if tkd n T i = 63 then (1 : Int) else 0) = 1 then (35 : Int) else 37) = (if tkd n T i = 63 then 35 else 37) from by split <;> rfl] at hx
          exact hx
        · try simp (disch := omega) only [zF_wF, zF_wA, zF_wJ, zF_wD, zA_wF, zA_wA, zA_wJ, zA_wD, zL_wJ, zL_wF, zL_wA, zL_wD, J_wr, wr_zF, wr_zA, wrJ_zL, wr_id, wrJ_id, ne_eq, reduceCtorEq, not_false_eq_true, not_true_eq_false, if_true, if_false, Nat.reduceEqDiff, eq_self, wif0, if0, Decidable.not_not] at hc114
          refine w_load rfl rfl rfl ?_
          refine w_const (16186) rfl rfl ?_
          refine w_callI2 rfl (Nat.le_of_ble_eq_true rfl) (Or.inr (Or.inr hT.o)) (Nat.le_of_ble_eq_true rfl) (tw_isSign hE p (by decide)) (fun z121 G121 h121 => ?_)
          obtain ⟨rfl, rfl⟩ := h121
          refine w_if_eq rfl (fun hc124 => ?_) (fun hc124 => ?_)
          · exfalso; simp only [wif0, if0, Decidable.not_not] at hc124 hc114; omega
          · try simp (disch := omega) only [zF_wF, zF_wA, zF_wJ, zF_wD, zA_wF, zA_wA, zA_wJ, zA_wD, zL_wJ, zL_wF, zL_wA, zL_wD, J_wr, wr_zF, wr_zA, wrJ_zL, wr_id, wrJ_id, ne_eq, reduceCtorEq, not_false_eq_true, not_true_eq_false, if_true, if_false, Nat.reduceEqDiff, eq_self, wif0, if0, Decidable.not_not] at hc124
            refine w_load rfl rfl rfl ?_
            refine w_const (1) rfl rfl ?_
            refine w_callV2 rfl (Nat.le_of_ble_eq_true rfl) (Or.inr (Or.inr hT.o)) (Nat.le_of_ble_eq_true rfl) (tw_reduce hE (by decide) hb own out _ p (by omega) ho) (fun G129 h129 => ?_)
            have p := h129
            rw [hall, List.nil_append] at p
            have hT := p.hts hE
            have est := p.zst hE
            obtain ⟨t1, t2, t3, t4⟩ := p.tok hE
            have t5 := p.zl hE
            obtain ⟨⟨e1, e2, e3, e4, e5⟩, ⟨e6, e7, e8, e9⟩, b1, b2, b3, b4⟩ := p.bd
            try simp only [List.length_cons, List.length_append, List.length_nil, ptc_len, List.length_dropLast] at e2 e4 e5 b1 b2 b3 b4
            refine w_load rfl rfl rfl ?_
            refine w_getP rfl hT.o (hT.p rfl) ?_
            refine w_load rfl rfl rfl ?_
            refine w_const (0) rfl rfl ?_
            refine w_zast rfl (hT.t rfl) (hT.n rfl) (by omega) (by decide) (by first | exact Or.inl rfl | exact Or.inr rfl | omega) ?_
            have hx := tw_behA2 (d := d) (l2 := some (.int (N 0))) (a := if tkd n T i = 63 then 1 else 0) hE (p.fset (x := 114) (v := 0) (by decide) rfl (by decide)) (by split <;> omega) (by omega) (by omega)
            rw [show (if (if tkd n T i = 63 then (1 : Int) else 0) = 1 then (4 : Int) else 5) = (if tkd n T i = 63 then 4 else 5) from by split <;> rfl, show (if (if tkd n T i = 63 then (1 : Int) else 0) = 1 then (35 : Int) else 37) = (if tkd n T i = 63 then 35 else 37) from by split <;> rfl] at hx
            exact hx
    · exfalso; simp (disch := omega) only [zF_wF, zF_wA, zF_wJ, zF_wD, zA_wF, zA_wA, zA_wJ, zA_wD, zL_wJ, zL_wF, zL_wA, zL_wD, J_wr, wr_zF, wr_zA, wrJ_zL, wr_id, wrJ_id, ne_eq, reduceCtorEq, not_false_eq_true, not_true_eq_false, if_true, if_false, Nat.reduceEqDiff, eq_self, wif0, if0, Decidable.not_not] at hc81 <;> omega
  · exfalso; simp (disch := omega) only [zF_wF, zF_wA, zF_wJ, zF_wD, zA_wF, zA_wA, zA_wJ, zA_wD, zL_wJ, zL_wF, zL_wA, zL_wD, J_wr, wr_zF, wr_zA, wrJ_zL, wr_id, wrJ_id, ne_eq, reduceCtorEq, not_false_eq_true, not_true_eq_false, if_true, if_false, Nat.reduceEqDiff, eq_self, wif0, if0, Decidable.not_not] at hc63 <;> omega
/-- nothing more comes -/
theorem tw_behF {R : mG → Prop} (hE : PEnv f n T G0 st) (p : PR T G0 st G i out op (F :: fr) wt ta ts) (h0 : lvlK (tkd n T i) = 0) (ha : ¬ tkd n T i = 63 ∧ ¬ tkd n T i = 16186) (hA : Wp (d + 4, 175, 0, [some (.ref 98), none, none], [], G) (RV R)) : Wp (d + 5, 174, 57, [some (.ref 98), some (.int (N fr.length)), none, none, none], [], G) (RV R) := by
  have hT := p.hts hE
  have est := p.zst hE
  obtain ⟨t1, t2, t3, t4⟩ := p.tok hE
  have t5 := p.zl hE
  obtain ⟨⟨e1, e2, e3, e4, e5⟩, ⟨e6, e7, e8, e9⟩, b1, b2, b3, b4⟩ := p.bd
  try simp only [List.length_cons, List.length_append, List.length_nil, ptc_len, List.length_dropLast] at e2 e4 e5 b1 b2 b3 b4
  refine w_load rfl rfl rfl ?_
  refine w_callI1 rfl (Nat.le_of_ble_eq_true rfl) (Or.inr (Or.inr hT.o)) (Nat.le_of_ble_eq_true rfl) (tw_levelNext hE p) (fun z58 G58 h58 => ?_)
  obtain ⟨rfl, rfl⟩ := h58
  rw [h0]
  refine w_st2 rfl rfl rfl ?_
  refine w_load rfl rfl rfl ?_
  refine w_if_le rfl (fun hc63 => ?_) (fun hc63 => ?_)
  · try simp (disch := omega) only [zF_wF, zF_wA, zF_wJ, zF_wD, zA_wF, zA_wA, zA_wJ, zA_wD, zL_wJ, zL_wF, zL_wA, zL_wD, J_wr, wr_zF, wr_zA, wrJ_zL, wr_id, wrJ_id, ne_eq, reduceCtorEq, not_false_eq_true, not_true_eq_false, if_true, if_false, Nat.reduceEqDiff, eq_self, wif0, if0, Decidable.not_not] at hc63
    refine w_load rfl rfl rfl ?_
    refine w_if_le rfl (fun hc81 => ?_) (fun hc81 => ?_)
    · try simp (disch := omega) only [zF_wF, zF_wA, zF_wJ, zF_wD, zA_wF, zA_wA, zA_wJ, zA_wD, zL_wJ, zL_wF, zL_wA, zL_wD, J_wr, wr_zF, wr_zA, wrJ_zL, wr_id, wrJ_id, ne_eq, reduceCtorEq, not_false_eq_true, not_true_eq_false, if_true, if_false, Nat.reduceEqDiff, eq_self, wif0, if0, Decidable.not_not] at hc81
      refine w_load rfl rfl rfl ?_
      refine w_const (63) rfl rfl ?_
      refine w_callI2 rfl (Nat.le_of_ble_eq_true rfl) (Or.inr (Or.inr hT.o)) (Nat.le_of_ble_eq_true rfl) (tw_isSign hE p (by decide)) (fun z105 G105 h105 => ?_)
      obtain ⟨rfl, rfl⟩ := h105
      refine w_st3 rfl rfl rfl ?_
      refine w_load rfl rfl rfl ?_
      refine w_if_ne rfl (fun hc110 => ?_) (fun hc110 => ?_)
      · exfalso; simp (disch := omega) only [zF_wF, zF_wA, zF_wJ, zF_wD, zA_wF, zA_wA, zA_wJ, zA_wD, zL_wJ, zL_wF, zL_wA, zL_wD, J_wr, wr_zF, wr_zA, wrJ_zL, wr_id, wrJ_id, ne_eq, reduceCtorEq, not_false_eq_true, not_true_eq_false, if_true, if_false, Nat.reduceEqDiff, eq_self, wif0, if0, Decidable.not_not] at hc110 <;> omega
      · try simp (disch := omega) only [zF_wF, zF_wA, zF_wJ, zF_wD, zA_wF, zA_wA, zA_wJ, zA_wD, zL_wJ, zL_wF, zL_wA, zL_wD, J_wr, wr_zF, wr_zA, wrJ_zL, wr_id, wrJ_id, ne_eq, reduceCtorEq, not_false_eq_true, not_true_eq_false, if_true, if_false, Nat.reduceEqDiff, eq_self, wif0, if0, Decidable.not_not] at hc110
        refine w_load rfl rfl rfl ?_
        refine w_if_ne rfl (fun hc114 => ?_) (fun hc114 => ?_)
        · exfalso; simp only [wif0, if0, Decidable.not_not] at hc114; omega
        · try simp (disch := omega) only [zF_wF, zF_wA, zF_wJ, zF_wD, zA_wF, zA_wA, zA_wJ, zA_wD, zL_wJ, zL_wF, zL_wA, zL_wD, J_wr, wr_zF, wr_zA, wrJ_zL, wr_id, wrJ_id, ne_eq, reduceCtorEq, not_false_eq_true, not_true_eq_false, if_true, if_false, Nat.reduceEqDiff, eq_self, wif0, if0, Decidable.not_not] at hc114
          refine w_load rfl rfl rfl ?_
          refine w_const (16186) rfl rfl ?_
          refine w_callI2 rfl (Nat.le_of_ble_eq_true rfl) (Or.inr (Or.inr hT.o)) (Nat.le_of_ble_eq_true rfl) (tw_isSign hE p (by decide)) (fun z121 G121 h121 => ?_)
          obtain ⟨rfl, rfl⟩ := h121
          refine w_if_eq rfl (fun hc124 => ?_) (fun hc124 => ?_)
          · try simp (disch := omega) only [zF_wF, zF_wA, zF_wJ, zF_wD, zA_wF, zA_wA, zA_wJ, zA_wD, zL_wJ, zL_wF, zL_wA, zL_wD, J_wr, wr_zF, wr_zA, wrJ_zL, wr_id, wrJ_id, ne_eq, reduceCtorEq, not_false_eq_true, not_true_eq_false, if_true, if_false, Nat.reduceEqDiff, eq_self, wif0, if0, Decidable.not_not] at hc124
            refine w_load rfl rfl rfl ?_
            refine w_callV1 rfl (Nat.le_of_ble_eq_true rfl) (Or.inr (Or.inr hT.o)) (Nat.le_of_ble_eq_true rfl) (hA) (fun G195 h195 => ?_)
            skip
            refine w_return rfl ?_
            exact RV.mk h195
          · exfalso; simp only [wif0, if0, Decidable.not_not] at hc124; omega
    · exfalso; simp (disch := omega) only [zF_wF, zF_wA, zF_wJ, zF_wD, zA_wF, zA_wA, zA_wJ, zA_wD, zL_wJ, zL_wF, zL_wA, zL_wD, J_wr, wr_zF, wr_zA, wrJ_zL, wr_id, wrJ_id, ne_eq, reduceCtorEq, not_false_eq_true, not_true_eq_false, if_true, if_false, Nat.reduceEqDiff, eq_self, wif0, if0, Decidable.not_not] at hc81 <;> omega
  · exfalso; simp (disch := omega) only [zF_wF, zF_wA, zF_wJ, zF_wD, zA_wF, zA_wA, zA_wJ, zA_wD, zL_wJ, zL_wF, zL_wA, zL_wD, J_wr, wr_zF, wr_zA, wrJ_zL, wr_id, wrJ_id, ne_eq, reduceCtorEq, not_false_eq_true, not_true_eq_false, if_true, if_false, Nat.reduceEqDiff, eq_self, wif0, if0, Decidable.not_not] at hc63 <;> omega
/-- a second comparison -/
theorem tw_behG {R : mG → Prop} (hE : PEnv f n T G0 st) (p : PR T G0 st G i out op (F :: fr) (own ++ outer) ta ts) (hb : F 108 = outer.length) (ho : wOK st out.length own) (hl : out.length + own.length ≤ 88) (h0 : lvlK (tkd n T i) = 3) (h3 : top3F (redF st 4 own out).1 = true)
    (hA : ∀ G, PR T G0 st G i (redF st 4 own out).2 op (F :: fr) ((redF st 4 own out).1 ++ outer) ta ts → Wp (d + 4, 175, 0, [some (.ref 98), none, none], [], G) (RV R)) : Wp (d + 5, 174, 57, [some (.ref 98), some (.int (N fr.length)), none, none, none], [], G) (RV R) := by
  have hT := p.hts hE
  have est := p.zst hE
  obtain ⟨t1, t2, t3, t4⟩ := p.tok hE
  have t5 := p.zl hE
  obtain ⟨⟨e1, e2, e3, e4, e5⟩, ⟨e6, e7, e8, e9⟩, b1, b2, b3, b4⟩ := p.bd
  try simp only [List.length_cons, List.length_append, List.length_nil, ptc_len, List.length_dropLast] at e2 e4 e5 b1 b2 b3 b4
  refine w_load rfl rfl rfl ?_
  refine w_callI1 rfl (Nat.le_of_ble_eq_true rfl) (Or.inr (Or.inr hT.o)) (Nat.le_of_ble_eq_true rfl) (tw_levelNext hE p) (fun z58 G58 h58 => ?_)
  obtain ⟨rfl, rfl⟩ := h58
  rw [h0]
  refine w_st2 rfl rfl rfl ?_
  refine w_load rfl rfl rfl ?_
  refine w_if_le rfl (fun hc63 => ?_) (fun hc63 => ?_)
  · exfalso; simp (disch := omega) only [zF_wF, zF_wA, zF_wJ, zF_wD, zA_wF, zA_wA, zA_wJ, zA_wD, zL_wJ, zL_wF, zL_wA, zL_wD, J_wr, wr_zF, wr_zA, wrJ_zL, wr_id, wrJ_id, ne_eq, reduceCtorEq, not_false_eq_true, not_true_eq_false, if_true, if_false, Nat.reduceEqDiff, eq_self, wif0, if0, Decidable.not_not] at hc63 <;> omega
  · try simp (disch := omega) only [zF_wF, zF_wA, zF_wJ, zF_wD, zA_wF, zA_wA, zA_wJ, zA_wD, zL_wJ, zL_wF, zL_wA, zL_wD, J_wr, wr_zF, wr_zA, wrJ_zL, wr_id, wrJ_id, ne_eq, reduceCtorEq, not_false_eq_true, not_true_eq_false, if_true, if_false, Nat.reduceEqDiff, eq_self, wif0, if0, Decidable.not_not] at hc63
    refine w_load rfl rfl rfl ?_
    refine w_load rfl rfl rfl ?_
    refine w_const (3) rfl rfl ?_
    refine w_icmp_ne rfl (fun hc69 => ?_) (fun hc69 => ?_)
    · exfalso; simp (disch := omega) only [zF_wF, zF_wA, zF_wJ, zF_wD, zA_wF, zA_wA, zA_wJ, zA_wD, zL_wJ, zL_wF, zL_wA, zL_wD, J_wr, wr_zF, wr_zA, wrJ_zL, wr_id, wrJ_id, ne_eq, reduceCtorEq, not_false_eq_true, not_true_eq_false, if_true, if_false, Nat.reduceEqDiff, eq_self, wif0, if0, Decidable.not_not] at hc69 <;> omega
    · try simp (disch := omega) only [zF_wF, zF_wA, zF_wJ, zF_wD, zA_wF, zA_wA, zA_wJ, zA_wD, zL_wJ, zL_wF, zL_wA, zL_wD, J_wr, wr_zF, wr_zA, wrJ_zL, wr_id, wrJ_id, ne_eq, reduceCtorEq, not_false_eq_true, not_true_eq_false, if_true, if_false, Nat.reduceEqDiff, eq_self, wif0, if0, Decidable.not_not] at hc69
      refine w_const (4) rfl rfl ?_
      refine w_goto rfl ?_
      refine w_callV2 rfl (Nat.le_of_ble_eq_true rfl) (Or.inr (Or.inr hT.o)) (Nat.le_of_ble_eq_true rfl) (tw_reduce hE (by decide) hb own out _ p (by omega) ho) (fun G77 h77 => ?_)
      have p := h77
      have hT := p.hts hE
      have est := p.zst hE
      obtain ⟨t1, t2, t3, t4⟩ := p.tok hE
      have t5 := p.zl hE
      obtain ⟨⟨e1, e2, e3, e4, e5⟩, ⟨e6, e7, e8, e9⟩, b1, b2, b3, b4⟩ := p.bd
      try simp only [List.length_cons, List.length_append, List.length_nil, ptc_len, List.length_dropLast] at e2 e4 e5 b1 b2 b3 b4
      refine w_load rfl rfl rfl ?_
      refine w_if_le rfl (fun hc81 => ?_) (fun hc81 => ?_)
      · exfalso; simp (disch := omega) only [zF_wF, zF_wA, zF_wJ, zF_wD, zA_wF, zA_wA, zA_wJ, zA_wD, zL_wJ, zL_wF, zL_wA, zL_wD, J_wr, wr_zF, wr_zA, wrJ_zL, wr_id, wrJ_id, ne_eq, reduceCtorEq, not_false_eq_true, not_true_eq_false, if_true, if_false, Nat.reduceEqDiff, eq_self, wif0, if0, Decidable.not_not] at hc81 <;> omega
      · try simp (disch := omega) only [zF_wF, zF_wA, zF_wJ, zF_wD, zA_wF, zA_wA, zA_wJ, zA_wD, zL_wJ, zL_wF, zL_wA, zL_wD, J_wr, wr_zF, wr_zA, wrJ_zL, wr_id, wrJ_id, ne_eq, reduceCtorEq, not_false_eq_true, not_true_eq_false, if_true, if_false, Nat.reduceEqDiff, eq_self, wif0, if0, Decidable.not_not] at hc81
        refine w_load rfl rfl rfl ?_
        refine w_const (3) rfl rfl ?_
        refine w_icmp_ne rfl (fun hc86 => ?_) (fun hc86 => ?_)
        · exfalso; simp (disch := omega) only [zF_wF, zF_wA, zF_wJ, zF_wD, zA_wF, zA_wA, zA_wJ, zA_wD, zL_wJ, zL_wF, zL_wA, zL_wD, J_wr, wr_zF, wr_zA, wrJ_zL, wr_id, wrJ_id, ne_eq, reduceCtorEq, not_false_eq_true, not_true_eq_false, if_true, if_false, Nat.reduceEqDiff, eq_self, wif0, if0, Decidable.not_not] at hc86 <;> omega
        · try simp (disch := omega) only [zF_wF, zF_wA, zF_wJ, zF_wD, zA_wF, zA_wA, zA_wJ, zA_wD, zL_wJ, zL_wF, zL_wA, zL_wD, J_wr, wr_zF, wr_zA, wrJ_zL, wr_id, wrJ_id, ne_eq, reduceCtorEq, not_false_eq_true, not_true_eq_false, if_true, if_false, Nat.reduceEqDiff, eq_self, wif0, if0, Decidable.not_not] at hc86
          refine w_load rfl rfl rfl ?_
          refine w_callI1 rfl (Nat.le_of_ble_eq_true rfl) (Or.inr (Or.inr hT.o)) (Nat.le_of_ble_eq_true rfl) (tw_compared hE p hb) (fun z90 G90 h90 => ?_)
          obtain ⟨rfl, rfl⟩ := h90
          rw [if_pos h3]
          refine w_if_ne rfl (fun hc93 => ?_) (fun hc93 => ?_)
          · try simp (disch := omega) only [zF_wF, zF_wA, zF_wJ, zF_wD, zA_wF, zA_wA, zA_wJ, zA_wD, zL_wJ, zL_wF, zL_wA, zL_wD, J_wr, wr_zF, wr_zA, wrJ_zL, wr_id, wrJ_id, ne_eq, reduceCtorEq, not_false_eq_true, not_true_eq_false, if_true, if_false, Nat.reduceEqDiff, eq_self, wif0, if0, Decidable.not_not] at hc93
            refine w_load rfl rfl rfl ?_
            refine w_const (63) rfl rfl ?_
            refine w_callI2 rfl (Nat.le_of_ble_eq_true rfl) (Or.inr (Or.inr hT.o)) (Nat.le_of_ble_eq_true rfl) (tw_isSign hE p (by decide)) (fun z105 G105 h105 => ?_)
            obtain ⟨rfl, rfl⟩ := h105
            refine w_st3 rfl rfl rfl ?_
            refine w_load rfl rfl rfl ?_
            refine w_if_ne rfl (fun hc110 => ?_) (fun hc110 => ?_)
            · try simp (disch := omega) only [zF_wF, zF_wA, zF_wJ, zF_wD, zA_wF, zA_wA, zA_wJ, zA_wD, zL_wJ, zL_wF, zL_wA, zL_wD, J_wr, wr_zF, wr_zA, wrJ_zL, wr_id, wrJ_id, ne_eq, reduceCtorEq, not_false_eq_true, not_true_eq_false, if_true, if_false, Nat.reduceEqDiff, eq_self, wif0, if0, Decidable.not_not] at hc110
              refine w_load rfl rfl rfl ?_
              refine w_callV1 rfl (Nat.le_of_ble_eq_true rfl) (Or.inr (Or.inr hT.o)) (Nat.le_of_ble_eq_true rfl) (hA _ p) (fun G195 h195 => ?_)
              skip
              refine w_return rfl ?_
              exact RV.mk h195
            · exfalso; simp (disch := omega) only [zF_wF, zF_wA, zF_wJ, zF_wD, zA_wF, zA_wA, zA_wJ, zA_wD, zL_wJ, zL_wF, zL_wA, zL_wD, J_wr, wr_zF, wr_zA, wrJ_zL, wr_id, wrJ_id, ne_eq, reduceCtorEq, not_false_eq_true, not_true_eq_false, if_true, if_false, Nat.reduceEqDiff, eq_self, wif0, if0, Decidable.not_not] at hc110 <;> omega
          · exfalso; simp (disch := omega) only [zF_wF, zF_wA, zF_wJ, zF_wD, zA_wF, zA_wA, zA_wJ, zA_wD, zL_wJ, zL_wF, zL_wA, zL_wD, J_wr, wr_zF, wr_zA, wrJ_zL, wr_id, wrJ_id, ne_eq, reduceCtorEq, not_false_eq_true, not_true_eq_false, if_true, if_false, Nat.reduceEqDiff, eq_self, wif0, if0, Decidable.not_not] at hc93 <;> omega
end tw14

