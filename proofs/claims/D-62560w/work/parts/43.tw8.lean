/-! THE TWIN's READING: operations that wait, calls -/
set_option maxRecDepth 100000
def top3F (own : List Fm) : Bool := match own with
  | W :: _ => decide (W 117 = 3)
  | [] => false
/-- what may wait -/
def wOK (st : Nat) (m : Nat) (own : List Fm) : Prop := ∀ W, W ∈ own → 1 ≤ W 117 ∧ W 117 ≤ 5 ∧ 0 ≤ W 116 ∧ W 116 ≤ 100 ∧ (W 117 ≤ 2 → (st : Int) ≤ W 118 ∧ W 118 < st + m)
def redF (st : Nat) (lv : Int) : List Fm → List Sp → List Fm × List Sp
  | [], o => ([], o)
  | W :: ws, o => if W 117 < lv then (W :: ws, o) else if W 117 ≤ 2 then redF st lv ws (ptc (o ++ [(34, 0)]) (W 118 - st).toNat (st + o.length + 1)) else redF st lv ws (o ++ [(W 116, 0)])
theorem ptc_at (o : List Sp) (s v w : Int) (r : List Sp) : ptc (o ++ (s, v) :: r) o.length w = o ++ (s, w) :: r := by
  unfold ptc
  rw [List.getD_eq_getElem?_getD, List.getElem?_append_right (Nat.le_refl _), Nat.sub_self, List.set_append_right _ _ (Nat.le_refl _), Nat.sub_self]
  rfl
section tw8
variable {f : Int → Int} {n : Int} {T : List (Int × Int × Int)} {G0 : mG} {st : Nat} {G : mG} {i : Nat} {out : List Sp} {op : Bool} {fr wt own outer : List Fm} {F : Fm} {ta ts : Int} {d : Nat} {Q : mR → Prop}
theorem tw_compared (hE : PEnv f n T G0 st) (p : PR T G0 st G i out op (F :: fr) (own ++ outer) ta ts) (hb : F 108 = outer.length) : Wp (d, 181, 0, [some (.ref 98)], [], G) (RI fun z G' => z = (if top3F own = true then 1 else 0) ∧ G = G') := by
  cases own with
  | nil =>
    simp only [List.nil_append] at p
    have hT := p.hts hE
    have est := p.zst hE
    obtain ⟨t1, t2, t3, t4⟩ := p.tok hE
    have t5 := p.zl hE
    obtain ⟨⟨e1, e2, e3, e4, e5⟩, ⟨e6, e7, e8, e9⟩, b1, b2, b3, b4⟩ := p.bd
    try simp only [List.length_cons, List.length_append, List.length_nil, ptc_len, List.length_dropLast] at e2 e4 e5 b1 b2 b3 b4
    refine w_load rfl rfl rfl ?_
    refine w_getI0k rfl hT.o (e5) ?_
    refine w_load rfl rfl rfl ?_
    refine w_getP rfl hT.o (hT.p rfl) ?_
    refine w_load rfl rfl rfl ?_
    refine w_getI0k rfl hT.o (e4) ?_
    refine w_const (1) rfl rfl ?_
    refine w_isub rfl ?_
    refine w_iald rfl (hT.t rfl) (hT.n rfl) (by omega) (by decide) ?_
    refine w_icmp_le rfl (fun hc15 => ?_) (fun hc15 => ?_)
    · try simp (disch := omega) only [zF_wF, zF_wA, zF_wJ, zF_wD, zA_wF, zA_wA, zA_wJ, zA_wD, zL_wJ, zL_wF, zL_wA, zL_wD, J_wr, wr_zF, wr_zA, wrJ_zL, wr_id, wrJ_id, ne_eq, reduceCtorEq, not_false_eq_true, not_true_eq_false, if_true, if_false, Nat.reduceEqDiff, eq_self, wif0, if0, Decidable.not_not, p.rd, hb] at hc15
      refine w_const (0) rfl rfl ?_
      refine w_ireturn rfl rfl ?_
      exact RI.mk ⟨rfl, rfl⟩
    · exfalso; simp (disch := omega) only [zF_wF, zF_wA, zF_wJ, zF_wD, zA_wF, zA_wA, zA_wJ, zA_wD, zL_wJ, zL_wF, zL_wA, zL_wD, J_wr, wr_zF, wr_zA, wrJ_zL, wr_id, wrJ_id, ne_eq, reduceCtorEq, not_false_eq_true, not_true_eq_false, if_true, if_false, Nat.reduceEqDiff, eq_self, wif0, if0, Decidable.not_not, p.rd, hb] at hc15 <;> omega
  | cons W ws =>
    simp only [List.cons_append] at p
    have hT := p.hts hE
    have est := p.zst hE
    obtain ⟨t1, t2, t3, t4⟩ := p.tok hE
    have t5 := p.zl hE
    obtain ⟨⟨e1, e2, e3, e4, e5⟩, ⟨e6, e7, e8, e9⟩, b1, b2, b3, b4⟩ := p.bd
    try simp only [List.length_cons, List.length_append, List.length_nil, ptc_len, List.length_dropLast] at e2 e4 e5 b1 b2 b3 b4
    have hw : zA G 117 ((ws ++ outer).length : Nat) = W 117 := p.rw rfl (by decide) (by decide)
    simp only [List.length_append] at hw
    have hk : ((ws.length + outer.length + 1 : Nat) : Int) - 1 = ((ws.length + outer.length : Nat) : Int) := by omega
    have hwr : wr (W 117) = W 117 := by rw [← hw]; exact wr_zA _ _ _
    refine w_load rfl rfl rfl ?_
    refine w_getI0k rfl hT.o (e5) ?_
    refine w_load rfl rfl rfl ?_
    refine w_getP rfl hT.o (hT.p rfl) ?_
    refine w_load rfl rfl rfl ?_
    refine w_getI0k rfl hT.o (e4) ?_
    refine w_const (1) rfl rfl ?_
    refine w_isub rfl ?_
    refine w_iald rfl (hT.t rfl) (hT.n rfl) (by omega) (by decide) ?_
    refine w_icmp_le rfl (fun hc15 => ?_) (fun hc15 => ?_)
    · exfalso; simp (disch := omega) only [zF_wF, zF_wA, zF_wJ, zF_wD, zA_wF, zA_wA, zA_wJ, zA_wD, zL_wJ, zL_wF, zL_wA, zL_wD, J_wr, wr_zF, wr_zA, wrJ_zL, wr_id, wrJ_id, ne_eq, reduceCtorEq, not_false_eq_true, not_true_eq_false, if_true, if_false, Nat.reduceEqDiff, eq_self, wif0, if0, Decidable.not_not, p.rd, hb, hk, hw, hwr] at hc15 <;> omega
    · try simp (disch := omega) only [zF_wF, zF_wA, zF_wJ, zF_wD, zA_wF, zA_wA, zA_wJ, zA_wD, zL_wJ, zL_wF, zL_wA, zL_wD, J_wr, wr_zF, wr_zA, wrJ_zL, wr_id, wrJ_id, ne_eq, reduceCtorEq, not_false_eq_true, not_true_eq_false, if_true, if_false, Nat.reduceEqDiff, eq_self, wif0, if0, Decidable.not_not, p.rd, hb, hk, hw, hwr] at hc15
      refine w_load rfl rfl rfl ?_
      refine w_getP rfl hT.o (hT.p rfl) ?_
      refine w_load rfl rfl rfl ?_
      refine w_getI0k rfl hT.o (e5) ?_
      refine w_const (1) rfl rfl ?_
      refine w_isub rfl ?_
      refine w_iald rfl (hT.t rfl) (hT.n rfl) (by omega) (by decide) ?_
      refine w_const (3) rfl rfl ?_
      refine w_icmp_ne rfl (fun hc30 => ?_) (fun hc30 => ?_)
      · try simp (disch := omega) only [zF_wF, zF_wA, zF_wJ, zF_wD, zA_wF, zA_wA, zA_wJ, zA_wD, zL_wJ, zL_wF, zL_wA, zL_wD, J_wr, wr_zF, wr_zA, wrJ_zL, wr_id, wrJ_id, ne_eq, reduceCtorEq, not_false_eq_true, not_true_eq_false, if_true, if_false, Nat.reduceEqDiff, eq_self, wif0, if0, Decidable.not_not, p.rd, hb, hk, hw, hwr] at hc30
        refine w_const (0) rfl rfl ?_
        refine w_ireturn rfl rfl ?_
        first | exact RI.mk ⟨by unfold top3F; rw [if_pos (by simpa using hc30)], rfl⟩ | exact RI.mk ⟨by unfold top3F; rw [if_neg (by simpa using hc30)], rfl⟩
      · try simp (disch := omega) only [zF_wF, zF_wA, zF_wJ, zF_wD, zA_wF, zA_wA, zA_wJ, zA_wD, zL_wJ, zL_wF, zL_wA, zL_wD, J_wr, wr_zF, wr_zA, wrJ_zL, wr_id, wrJ_id, ne_eq, reduceCtorEq, not_false_eq_true, not_true_eq_false, if_true, if_false, Nat.reduceEqDiff, eq_self, wif0, if0, Decidable.not_not, p.rd, hb, hk, hw, hwr] at hc30
        refine w_const (1) rfl rfl ?_
        refine w_goto rfl ?_
        refine w_ireturn rfl rfl ?_
        first | exact RI.mk ⟨by unfold top3F; rw [if_pos (by simpa using hc30)], rfl⟩ | exact RI.mk ⟨by unfold top3F; rw [if_neg (by simpa using hc30)], rfl⟩
theorem tw_reduce (hE : PEnv f n T G0 st) {lv : Int} (hlv : 1 ≤ lv ∧ lv ≤ 5) (hb : F 108 = outer.length) : ∀ (own : List Fm) (out : List Sp) (G : mG), PR T G0 st G i out op (F :: fr) (own ++ outer) ta ts → out.length + own.length ≤ 90 → wOK st out.length own →
    Wp (d + 1, 176, 0, [some (.ref 98), some (.int (N lv))], [], G) (RV fun G' => PR T G0 st G' i (redF st lv own out).2 op (F :: fr) ((redF st lv own out).1 ++ outer) ta ts) := by
  intro own
  induction own with
  | nil =>
    intro out G p hl ho
    simp only [List.nil_append] at p
    have hT := p.hts hE
    have est := p.zst hE
    obtain ⟨t1, t2, t3, t4⟩ := p.tok hE
    have t5 := p.zl hE
    obtain ⟨⟨e1, e2, e3, e4, e5⟩, ⟨e6, e7, e8, e9⟩, b1, b2, b3, b4⟩ := p.bd
    try simp only [List.length_cons, List.length_append, List.length_nil, ptc_len, List.length_dropLast] at e2 e4 e5 b1 b2 b3 b4
    refine w_load rfl rfl rfl ?_
    refine w_getI0k rfl hT.o (e5) ?_
    refine w_load rfl rfl rfl ?_
    refine w_getP rfl hT.o (hT.p rfl) ?_
    refine w_load rfl rfl rfl ?_
    refine w_getI0k rfl hT.o (e4) ?_
    refine w_const (1) rfl rfl ?_
    refine w_isub rfl ?_
    refine w_iald rfl (hT.t rfl) (hT.n rfl) (by omega) (by decide) ?_
    refine w_icmp_le rfl (fun hc15 => ?_) (fun hc15 => ?_)
    · try simp (disch := omega) only [zF_wF, zF_wA, zF_wJ, zF_wD, zA_wF, zA_wA, zA_wJ, zA_wD, zL_wJ, zL_wF, zL_wA, zL_wD, J_wr, wr_zF, wr_zA, wrJ_zL, wr_id, wrJ_id, ne_eq, reduceCtorEq, not_false_eq_true, not_true_eq_false, if_true, if_false, Nat.reduceEqDiff, eq_self, wif0, if0, Decidable.not_not, p.rd, hb] at hc15
      refine w_return rfl ?_
      exact RV.mk p
    · exfalso; simp (disch := omega) only [zF_wF, zF_wA, zF_wJ, zF_wD, zA_wF, zA_wA, zA_wJ, zA_wD, zL_wJ, zL_wF, zL_wA, zL_wD, J_wr, wr_zF, wr_zA, wrJ_zL, wr_id, wrJ_id, ne_eq, reduceCtorEq, not_false_eq_true, not_true_eq_false, if_true, if_false, Nat.reduceEqDiff, eq_self, wif0, if0, Decidable.not_not, p.rd, hb] at hc15 <;> omega
  | cons W ws ih =>
    intro out G p hl ho
    simp only [List.cons_append] at p
    have hT := p.hts hE
    have est := p.zst hE
    obtain ⟨t1, t2, t3, t4⟩ := p.tok hE
    have t5 := p.zl hE
    obtain ⟨⟨e1, e2, e3, e4, e5⟩, ⟨e6, e7, e8, e9⟩, b1, b2, b3, b4⟩ := p.bd
    try simp only [List.length_cons, List.length_append, List.length_nil, ptc_len, List.length_dropLast] at e2 e4 e5 b1 b2 b3 b4
    have hw : ∀ x, 116 ≤ x → x ≤ 118 → zA G x ((ws.length + outer.length : Nat) : Int) = W x := fun x h1 h2 => p.rw (by simp only [List.length_append]) h1 h2
    have hk : ((ws.length + outer.length + 1 : Nat) : Int) - 1 = ((ws.length + outer.length : Nat) : Int) := by omega
    have hw1 := hw 117 (by decide) (by decide)
    have hw2 := hw 116 (by decide) (by decide)
    have hw3 := hw 118 (by decide) (by decide)
    obtain ⟨o1, o2, o3, o4, o5⟩ := ho W (List.mem_cons_self ..)
    have p2 := p.wpop (v := ((ws.length + outer.length : Nat) : Int)) (by simp only [List.length_append])
    have h35 := hE.2.2.2.2.2.1
    simp only [List.length_cons] at hl
    have ho2 : ∀ m, out.length ≤ m → wOK st m ws := fun m hm V hV => by
      obtain ⟨v1, v2, v3, v4, v5⟩ := ho V (List.mem_cons_of_mem _ hV)
      exact ⟨v1, v2, v3, v4, fun h => by have := v5 h; omega⟩
    refine w_load rfl rfl rfl ?_
    refine w_getI0k rfl hT.o (e5) ?_
    refine w_load rfl rfl rfl ?_
    refine w_getP rfl hT.o (hT.p rfl) ?_
    refine w_load rfl rfl rfl ?_
    refine w_getI0k rfl hT.o (e4) ?_
    refine w_const (1) rfl rfl ?_
    refine w_isub rfl ?_
    refine w_iald rfl (hT.t rfl) (hT.n rfl) (by omega) (by decide) ?_
    refine w_icmp_le rfl (fun hc15 => ?_) (fun hc15 => ?_)
    · exfalso; simp (disch := omega) only [zF_wF, zF_wA, zF_wJ, zF_wD, zA_wF, zA_wA, zA_wJ, zA_wD, zL_wJ, zL_wF, zL_wA, zL_wD, J_wr, wr_zF, wr_zA, wrJ_zL, wr_id, wrJ_id, ne_eq, reduceCtorEq, not_false_eq_true, not_true_eq_false, if_true, if_false, Nat.reduceEqDiff, eq_self, wif0, if0, Decidable.not_not, p.rd, hb, hk, hw1, hw2, hw3] at hc15 <;> omega
    · try simp (disch := omega) only [zF_wF, zF_wA, zF_wJ, zF_wD, zA_wF, zA_wA, zA_wJ, zA_wD, zL_wJ, zL_wF, zL_wA, zL_wD, J_wr, wr_zF, wr_zA, wrJ_zL, wr_id, wrJ_id, ne_eq, reduceCtorEq, not_false_eq_true, not_true_eq_false, if_true, if_false, Nat.reduceEqDiff, eq_self, wif0, if0, Decidable.not_not, p.rd, hb, hk, hw1, hw2, hw3] at hc15
      refine w_load rfl rfl rfl ?_
      refine w_getP rfl hT.o (hT.p rfl) ?_
      refine w_load rfl rfl rfl ?_
      refine w_getI0k rfl hT.o (e5) ?_
      refine w_const (1) rfl rfl ?_
      refine w_isub rfl ?_
      refine w_iald rfl (hT.t rfl) (hT.n rfl) (by omega) (by decide) ?_
      refine w_load rfl rfl rfl ?_
      refine w_icmp_lt rfl (fun hc30 => ?_) (fun hc30 => ?_)
      · try simp (disch := omega) only [zF_wF, zF_wA, zF_wJ, zF_wD, zA_wF, zA_wA, zA_wJ, zA_wD, zL_wJ, zL_wF, zL_wA, zL_wD, J_wr, wr_zF, wr_zA, wrJ_zL, wr_id, wrJ_id, ne_eq, reduceCtorEq, not_false_eq_true, not_true_eq_false, if_true, if_false, Nat.reduceEqDiff, eq_self, wif0, if0, Decidable.not_not, p.rd, hb, hk, hw1, hw2, hw3] at hc30
        refine w_return rfl ?_
        exact RV.mk (by rw [redF, if_pos (by omega)]; exact p)
      · try simp (disch := omega) only [zF_wF, zF_wA, zF_wJ, zF_wD, zA_wF, zA_wA, zA_wJ, zA_wD, zL_wJ, zL_wF, zL_wA, zL_wD, J_wr, wr_zF, wr_zA, wrJ_zL, wr_id, wrJ_id, ne_eq, reduceCtorEq, not_false_eq_true, not_true_eq_false, if_true, if_false, Nat.reduceEqDiff, eq_self, wif0, if0, Decidable.not_not, p.rd, hb, hk, hw1, hw2, hw3] at hc30
        refine w_load rfl rfl rfl ?_
        refine w_dup rfl rfl ?_
        refine w_getI0k rfl hT.o (e5) ?_
        refine w_const (1) rfl rfl ?_
        refine w_isub rfl ?_
        refine w_putI0 rfl hT.o ?_
        rw [hk]
        refine w_load rfl rfl rfl ?_
        refine w_getP rfl hT.o (hT.p rfl) ?_
        refine w_load rfl rfl rfl ?_
        refine w_getI0k rfl hT.o (zF_put (by omega) (by omega)) ?_
        refine w_iald rfl (hT.t rfl) (hT.n rfl) (by omega) (by decide) ?_
        refine w_const (2) rfl rfl ?_
        refine w_icmp_gt rfl (fun hc53 => ?_) (fun hc53 => ?_)
        · try simp (disch := omega) only [zF_wF, zF_wA, zF_wJ, zF_wD, zA_wF, zA_wA, zA_wJ, zA_wD, zL_wJ, zL_wF, zL_wA, zL_wD, J_wr, wr_zF, wr_zA, wrJ_zL, wr_id, wrJ_id, ne_eq, reduceCtorEq, not_false_eq_true, not_true_eq_false, if_true, if_false, Nat.reduceEqDiff, eq_self, wif0, if0, Decidable.not_not, p.rd, hb, hk, hw1, hw2, hw3] at hc53
          refine w_load rfl rfl rfl ?_
          refine w_load rfl rfl rfl ?_
          refine w_getP rfl hT.o (hT.p rfl) ?_
          refine w_load rfl rfl rfl ?_
          refine w_getI0k rfl hT.o (zF_put (by omega) (by omega)) ?_
          refine w_iald rfl (hT.t rfl) (hT.n rfl) (by omega) (by decide) ?_
          rw [zA_wF _ _ _ _ _ _ (by decide), hw2]
          refine w_lconst (0) rfl rfl ?_
          refine w_callI3 rfl (Nat.le_of_ble_eq_true rfl) (Or.inr (Or.inr hT.o)) (Nat.le_of_ble_eq_true rfl) (tw_emit hE p2 (by omega) (s := W 116) (by omega) (show _ = J 0 from rfl)) (fun z102 G102 h102 => ?_)
          obtain ⟨-, p, hz⟩ := h102
          have hT := p.hts hE
          have est := p.zst hE
          obtain ⟨t1, t2, t3, t4⟩ := p.tok hE
          have t5 := p.zl hE
          obtain ⟨⟨e1, e2, e3, e4, e5⟩, ⟨e6, e7, e8, e9⟩, b1, b2, b3, b4⟩ := p.bd
          try simp only [List.length_cons, List.length_append, List.length_nil, ptc_len, List.length_dropLast] at e2 e4 e5 b1 b2 b3 b4
          refine w_pop rfl rfl ?_
          refine w_goto rfl ?_
          first
          | (rw [redF, if_neg (by omega), if_pos (by omega)]
             exact ih _ _ (p.patch (k := (W 118 - st).toNat) (by simp only [List.length_append, List.length_cons, List.length_nil]; omega) (by omega) (J_wr_eq (by omega) (by omega))) (by simp only [ptc_len, List.length_append, List.length_cons, List.length_nil]; omega) (ho2 _ (by simp only [ptc_len, List.length_append, List.length_cons, List.length_nil]; omega)))
          | (rw [redF, if_neg (by omega), if_neg (by omega)]
             exact ih _ _ p (by simp only [List.length_append, List.length_cons, List.length_nil]; omega) (ho2 _ (by simp only [List.length_append, List.length_cons, List.length_nil]; omega)))
        · try simp (disch := omega) only [zF_wF, zF_wA, zF_wJ, zF_wD, zA_wF, zA_wA, zA_wJ, zA_wD, zL_wJ, zL_wF, zL_wA, zL_wD, J_wr, wr_zF, wr_zA, wrJ_zL, wr_id, wrJ_id, ne_eq, reduceCtorEq, not_false_eq_true, not_true_eq_false, if_true, if_false, Nat.reduceEqDiff, eq_self, wif0, if0, Decidable.not_not, p.rd, hb, hk, hw1, hw2, hw3] at hc53
          refine w_load rfl rfl rfl ?_
          refine w_const (34) rfl rfl ?_
          refine w_lconst (0) rfl rfl ?_
          refine w_callI3 rfl (Nat.le_of_ble_eq_true rfl) (Or.inr (Or.inr hT.o)) (Nat.le_of_ble_eq_true rfl) (tw_emit hE p2 (by omega) (by decide) (show _ = J 0 from rfl)) (fun z60 G60 h60 => ?_)
          obtain ⟨-, p, hz⟩ := h60
          have hT := p.hts hE
          have est := p.zst hE
          obtain ⟨t1, t2, t3, t4⟩ := p.tok hE
          have t5 := p.zl hE
          obtain ⟨⟨e1, e2, e3, e4, e5⟩, ⟨e6, e7, e8, e9⟩, b1, b2, b3, b4⟩ := p.bd
          try simp only [List.length_cons, List.length_append, List.length_nil, ptc_len, List.length_dropLast] at e2 e4 e5 b1 b2 b3 b4
          have hj : zA G60 118 ((ws.length + outer.length : Nat) : Int) = W 118 := by rw [hz 118 _ (by decide), zA_wF _ _ _ _ _ _ (by decide)]; exact hw3
          refine w_pop rfl rfl ?_
          refine w_load rfl rfl rfl ?_
          refine w_getP rfl hT.o (hT.p rfl) ?_
          refine w_load rfl rfl rfl ?_
          refine w_getP rfl hT.o (hT.p rfl) ?_
          refine w_load rfl rfl rfl ?_
          refine w_getI0k rfl hT.o (e5) ?_
          refine w_iald rfl (hT.t rfl) (hT.n rfl) (by omega) (by decide) ?_
          refine w_load rfl rfl rfl ?_
          refine w_getI0k rfl hT.o (est) ?_
          refine w_load rfl rfl rfl ?_
          refine w_getI0k rfl hT.o (e2) ?_
          refine w_iadd rfl ?_
          refine w_i2l rfl ?_
          refine w_last rfl (hT.t rfl) (hT.n rfl) (by omega) (by decide) ?_
          refine w_goto rfl ?_
          first
          | (rw [redF, if_neg (by omega), if_pos (by omega)]
             exact ih _ _ (p.patch (k := (W 118 - st).toNat) (by simp only [List.length_append, List.length_cons, List.length_nil]; omega) (by omega) (J_wr_eq (by omega) (by omega))) (by simp only [ptc_len, List.length_append, List.length_cons, List.length_nil]; omega) (ho2 _ (by simp only [ptc_len, List.length_append, List.length_cons, List.length_nil]; omega)))
          | (rw [redF, if_neg (by omega), if_neg (by omega)]
             exact ih _ _ p (by simp only [List.length_append, List.length_cons, List.length_nil]; omega) (ho2 _ (by simp only [List.length_append, List.length_cons, List.length_nil]; omega)))
end tw8

