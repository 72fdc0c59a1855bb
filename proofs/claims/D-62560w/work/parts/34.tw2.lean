/-! THE TWIN: tokens -/
set_option maxRecDepth 100000
/-- the text that waits: its length and its signs -/
def TX (G : mG) : Prop := 0 ≤ zF G 98 1 ∧ zF G 98 1 ≤ 40 ∧ ∀ k, 0 ≤ k → k < zF G 98 1 → 32 ≤ zA G 99 k ∧ zA G 99 k ≤ 126
theorem tAt_rng {G : mG} (h : TX G) {k : Int} (hk : 0 ≤ k) : 0 ≤ tAt G k ∧ tAt G k ≤ 126 := by
  unfold tAt
  split
  · rename_i h1
    have := h.2.2 k hk h1
    omega
  · omega
theorem tAt_out {G : mG} {k : Int} (hk : zF G 98 1 ≤ k) : tAt G k = 0 := by
  unfold tAt
  rw [if_neg (by omega)]
/-- a token more -/
def addG (G : mG) (k p : Int) (v : Int64) : mG := wF (wA (wJ (wA (wA G 100 (zF G 98 3) k) 101 (zF G 98 3) p) 102 (zF G 98 3) v) 103 (zF G 98 3) 0) 98 3 (zF G 98 3 + 1)
section tw2
variable {d : Nat} {G : mG} {Q : mR → Prop}
theorem tw_lower {k : Int} (hT : TS G) (hk : 0 ≤ k ∧ k < 1000) (hs : zF G 98 1 ≤ 40) : Wp (d + 1, 158, 0, [some (.ref 98), some (.int (N k))], [], G) (RI fun z G' => z = (if low (tAt G k) = true then 1 else 0) ∧ G = G') := by
  simp only [low_iff]
  refine w_load rfl rfl rfl ?_
  refine w_load rfl rfl rfl ?_
  refine w_callI2 rfl (Nat.le_of_ble_eq_true rfl) (Or.inr (Or.inr hT.o)) (Nat.le_of_ble_eq_true rfl) (tw_at hT hk hs) (fun z2 G2 h2 => ?_)
  obtain ⟨rfl, rfl⟩ := h2
  refine w_const (97) rfl rfl ?_
  refine w_icmp_lt rfl (fun hc7 => ?_) (fun hc7 => ?_)
  · try simp (disch := omega) only [zF_wF, zF_wA, zF_wJ, zF_wD, zA_wF, zA_wA, zA_wJ, zA_wD, zL_wJ, zL_wF, zL_wA, zL_wD, J_wr, wr_zF, wr_zA, wrJ_zL, wr_id, wrJ_id, ne_eq, reduceCtorEq, not_false_eq_true, not_true_eq_false, if_true, if_false, Nat.reduceEqDiff, eq_self, wr_tAt] at hc7
    refine w_const (0) rfl rfl ?_
    refine w_ireturn rfl rfl ?_
    first | exact RI.mk ⟨by rw [if_pos (by omega)], rfl⟩ | exact RI.mk ⟨by rw [if_neg (by omega)], rfl⟩
  · try simp (disch := omega) only [zF_wF, zF_wA, zF_wJ, zF_wD, zA_wF, zA_wA, zA_wJ, zA_wD, zL_wJ, zL_wF, zL_wA, zL_wD, J_wr, wr_zF, wr_zA, wrJ_zL, wr_id, wrJ_id, ne_eq, reduceCtorEq, not_false_eq_true, not_true_eq_false, if_true, if_false, Nat.reduceEqDiff, eq_self, wr_tAt] at hc7
    refine w_load rfl rfl rfl ?_
    refine w_load rfl rfl rfl ?_
    refine w_callI2 rfl (Nat.le_of_ble_eq_true rfl) (Or.inr (Or.inr hT.o)) (Nat.le_of_ble_eq_true rfl) (tw_at hT hk hs) (fun z12 G12 h12 => ?_)
    obtain ⟨rfl, rfl⟩ := h12
    refine w_const (122) rfl rfl ?_
    refine w_icmp_gt rfl (fun hc17 => ?_) (fun hc17 => ?_)
    · try simp (disch := omega) only [zF_wF, zF_wA, zF_wJ, zF_wD, zA_wF, zA_wA, zA_wJ, zA_wD, zL_wJ, zL_wF, zL_wA, zL_wD, J_wr, wr_zF, wr_zA, wrJ_zL, wr_id, wrJ_id, ne_eq, reduceCtorEq, not_false_eq_true, not_true_eq_false, if_true, if_false, Nat.reduceEqDiff, eq_self, wr_tAt] at hc17
      refine w_const (0) rfl rfl ?_
      refine w_ireturn rfl rfl ?_
      first | exact RI.mk ⟨by rw [if_pos (by omega)], rfl⟩ | exact RI.mk ⟨by rw [if_neg (by omega)], rfl⟩
    · try simp (disch := omega) only [zF_wF, zF_wA, zF_wJ, zF_wD, zA_wF, zA_wA, zA_wJ, zA_wD, zL_wJ, zL_wF, zL_wA, zL_wD, J_wr, wr_zF, wr_zA, wrJ_zL, wr_id, wrJ_id, ne_eq, reduceCtorEq, not_false_eq_true, not_true_eq_false, if_true, if_false, Nat.reduceEqDiff, eq_self, wr_tAt] at hc17
      refine w_const (1) rfl rfl ?_
      refine w_goto rfl ?_
      refine w_ireturn rfl rfl ?_
      first | exact RI.mk ⟨by rw [if_pos (by omega)], rfl⟩ | exact RI.mk ⟨by rw [if_neg (by omega)], rfl⟩
theorem tw_dgt {k : Int} (hT : TS G) (hk : 0 ≤ k ∧ k < 1000) (hs : zF G 98 1 ≤ 40) : Wp (d + 1, 154, 0, [some (.ref 98), some (.int (N k))], [], G) (RI fun z G' => z = (if dgt (tAt G k) = true then 1 else 0) ∧ G = G') := by
  simp only [dgt_iff]
  exact tw_digit hT hk hs
theorem tw_add {k p : Int} {v : Int64} (hT : TS G) (ht : 0 ≤ zF G 98 3 ∧ zF G 98 3 < 42) : Wp (d, 157, 0, [some (.ref 98), some (.int (N k)), some (.int (N p)), some (.long v), none], [], G) (RV fun G' => G' = addG G k p v) := by
  refine w_load rfl rfl rfl ?_
  refine w_getP rfl hT.o (hT.p rfl) ?_
  refine w_load rfl rfl rfl ?_
  refine w_getI0 rfl hT.o ?_
  refine w_load rfl rfl rfl ?_
  refine w_iast rfl (hT.t rfl) (hT.n rfl) (by omega) (by decide) ?_
  refine w_load rfl rfl rfl ?_
  refine w_getP rfl hT.o (hT.p rfl) ?_
  refine w_load rfl rfl rfl ?_
  refine w_getI0k rfl hT.o (by (try simp (disch := omega) only [zF_wF, zF_wA, zF_wJ, zF_wD, zA_wF, zA_wA, zA_wJ, zA_wD, zL_wJ, zL_wF, zL_wA, zL_wD, J_wr, wr_zF, wr_zA, wrJ_zL, wr_id, wrJ_id, ne_eq, reduceCtorEq, not_false_eq_true, not_true_eq_false, if_true, if_false, Nat.reduceEqDiff, eq_self]); rfl) ?_
  refine w_load rfl rfl rfl ?_
  refine w_iast rfl (hT.t rfl) (hT.n rfl) (by omega) (by decide) ?_
  refine w_load rfl rfl rfl ?_
  refine w_getP rfl hT.o (hT.p rfl) ?_
  refine w_load rfl rfl rfl ?_
  refine w_getI0k rfl hT.o (by (try simp (disch := omega) only [zF_wF, zF_wA, zF_wJ, zF_wD, zA_wF, zA_wA, zA_wJ, zA_wD, zL_wJ, zL_wF, zL_wA, zL_wD, J_wr, wr_zF, wr_zA, wrJ_zL, wr_id, wrJ_id, ne_eq, reduceCtorEq, not_false_eq_true, not_true_eq_false, if_true, if_false, Nat.reduceEqDiff, eq_self]); rfl) ?_
  refine w_load rfl rfl rfl ?_
  refine w_last rfl (hT.t rfl) (hT.n rfl) (by omega) (by decide) ?_
  refine w_load rfl rfl rfl ?_
  refine w_getP rfl hT.o (hT.p rfl) ?_
  refine w_load rfl rfl rfl ?_
  refine w_getI0k rfl hT.o (by (try simp (disch := omega) only [zF_wF, zF_wA, zF_wJ, zF_wD, zA_wF, zA_wA, zA_wJ, zA_wD, zL_wJ, zL_wF, zL_wA, zL_wD, J_wr, wr_zF, wr_zA, wrJ_zL, wr_id, wrJ_id, ne_eq, reduceCtorEq, not_false_eq_true, not_true_eq_false, if_true, if_false, Nat.reduceEqDiff, eq_self]); rfl) ?_
  refine w_const (0) rfl rfl ?_
  refine w_iast rfl (hT.t rfl) (hT.n rfl) (by omega) (by decide) ?_
  refine w_load rfl rfl rfl ?_
  refine w_dup rfl rfl ?_
  refine w_getI0k rfl hT.o (by (try simp (disch := omega) only [zF_wF, zF_wA, zF_wJ, zF_wD, zA_wF, zA_wA, zA_wJ, zA_wD, zL_wJ, zL_wF, zL_wA, zL_wD, J_wr, wr_zF, wr_zA, wrJ_zL, wr_id, wrJ_id, ne_eq, reduceCtorEq, not_false_eq_true, not_true_eq_false, if_true, if_false, Nat.reduceEqDiff, eq_self]); rfl) ?_
  refine w_const (1) rfl rfl ?_
  refine w_iadd rfl ?_
  refine w_putI0 rfl hT.o ?_
  refine w_return rfl ?_
  exact RV.mk rfl
theorem tw_num1 {f0 : Int} {l5 l6 : Option Value} (hT : TS G) (hs : TX G) : ∀ (n : Nat) (k v : Int), 0 ≤ k → k + n = 41 →
    Wp (d + 2, 155, 35, [some (.ref 98), some (.int (N f0)), some (.int (N (spn (fun j => dgt (tAt G j)) n k))), some (.long (J (dvl (tAt G) n k v))), none, l5, l6], [], G) Q →
    Wp (d + 2, 155, 4, [some (.ref 98), some (.int (N f0)), some (.int (N k)), some (.long (J v)), none, l5, l6], [], G) Q := by
  intro n
  induction n with
  | zero =>
    intro k v hk hkn hx
    have h0 : tAt G k = 0 := tAt_out (by have := hs.2.1; omega)
    have h1 : dgt (tAt G k) = false := by rw [h0]; rfl
    refine w_load rfl rfl rfl ?_
    refine w_load rfl rfl rfl ?_
    refine w_callI2 rfl (Nat.le_of_ble_eq_true rfl) (Or.inr (Or.inr hT.o)) (Nat.le_of_ble_eq_true rfl) (tw_dgt hT (by omega) hs.2.1) (fun z6 G6 h6 => ?_)
    obtain ⟨rfl, rfl⟩ := h6
    refine w_if_eq rfl (fun hc9 => ?_) (fun hc9 => ?_)
    · try simp (disch := omega) only [zF_wF, zF_wA, zF_wJ, zF_wD, zA_wF, zA_wA, zA_wJ, zA_wD, zL_wJ, zL_wF, zL_wA, zL_wD, J_wr, wr_zF, wr_zA, wrJ_zL, wr_id, wrJ_id, ne_eq, reduceCtorEq, not_false_eq_true, not_true_eq_false, if_true, if_false, Nat.reduceEqDiff, eq_self] at hc9
      exact hx
    · exfalso; rw [h1] at hc9; exact hc9 rfl
  | succ n ih =>
    intro k v hk hkn hx
    rw [spn, dvl] at hx
    refine w_load rfl rfl rfl ?_
    refine w_load rfl rfl rfl ?_
    refine w_callI2 rfl (Nat.le_of_ble_eq_true rfl) (Or.inr (Or.inr hT.o)) (Nat.le_of_ble_eq_true rfl) (tw_dgt hT (by omega) hs.2.1) (fun z6 G6 h6 => ?_)
    obtain ⟨rfl, rfl⟩ := h6
    refine w_if_eq rfl (fun hc9 => ?_) (fun hc9 => ?_)
    · try simp (disch := omega) only [zF_wF, zF_wA, zF_wJ, zF_wD, zA_wF, zA_wA, zA_wJ, zA_wD, zL_wJ, zL_wF, zL_wA, zL_wD, J_wr, wr_zF, wr_zA, wrJ_zL, wr_id, wrJ_id, ne_eq, reduceCtorEq, not_false_eq_true, not_true_eq_false, if_true, if_false, Nat.reduceEqDiff, eq_self] at hc9
      have hd : ¬ dgt (tAt G k) = true := by intro h; rw [if_pos h] at hc9; exact absurd hc9 (by decide)
      rw [if_neg hd, if_neg hd] at hx; exact hx
    · try simp (disch := omega) only [zF_wF, zF_wA, zF_wJ, zF_wD, zA_wF, zA_wA, zA_wJ, zA_wD, zL_wJ, zL_wF, zL_wA, zL_wD, J_wr, wr_zF, wr_zA, wrJ_zL, wr_id, wrJ_id, ne_eq, reduceCtorEq, not_false_eq_true, not_true_eq_false, if_true, if_false, Nat.reduceEqDiff, eq_self] at hc9
      have hd : dgt (tAt G k) = true := by by_cases h : dgt (tAt G k) = true; exact h; exfalso; rw [if_neg h] at hc9; exact hc9 rfl
      refine w_load rfl rfl rfl ?_
      refine w_lconst (10) rfl rfl ?_
      refine w_lmul rfl ?_
      refine w_load rfl rfl rfl ?_
      refine w_load rfl rfl rfl ?_
      refine w_callI2 rfl (Nat.le_of_ble_eq_true rfl) (Or.inr (Or.inr hT.o)) (Nat.le_of_ble_eq_true rfl) (tw_at hT (by omega) hs.2.1) (fun z19 G19 h19 => ?_)
      obtain ⟨rfl, rfl⟩ := h19
      refine w_i2l rfl ?_
      refine w_ladd rfl ?_
      refine w_lconst (48) rfl rfl ?_
      refine w_lsub rfl ?_
      refine w_stw3 rfl rfl rfl ?_
      refine w_inc2 (1) rfl rfl rfl ?_
      refine w_goto rfl ?_
      rw [if_pos hd, if_pos hd] at hx
      rw [wr_tAt]
      exact ih (k + 1) _ (by omega) (by omega) hx
theorem tAt_far (hs : TX G) {j : Int} (h : 41 ≤ j) : tAt G j = 0 := tAt_out (by have := hs.2.1; omega)
theorem far_dgt (hs : TX G) {k : Int} {n : Nat} (h : k + n = 41) : ∀ j, k + n ≤ j → dgt (tAt G j) = false := fun j hj => by rw [tAt_far hs (by omega)]; rfl
theorem far_low (hs : TX G) {k : Int} {n : Nat} (h : k + n = 41) : ∀ j, k + n ≤ j → low (tAt G j) = false := fun j hj => by rw [tAt_far hs (by omega)]; rfl
theorem fuel41 {k : Int} {n : Nat} (hk : 0 ≤ k) (h : k + n = 41) : ∃ m, 41 = n + m := ⟨41 - n, by omega⟩
theorem tw_num1' {f0 k v : Int} {l5 l6 : Option Value} (hT : TS G) (hs : TX G) (hk : 0 ≤ k ∧ k ≤ 41)
    (hx : Wp (d + 2, 155, 35, [some (.ref 98), some (.int (N f0)), some (.int (N (spn (fun j => dgt (tAt G j)) 41 k))), some (.long (J (dvl (tAt G) 41 k v))), none, l5, l6], [], G) Q) :
    Wp (d + 2, 155, 4, [some (.ref 98), some (.int (N f0)), some (.int (N k)), some (.long (J v)), none, l5, l6], [], G) Q := by
  have hn : k + (41 - k).toNat = 41 := by omega
  obtain ⟨m, hm⟩ := fuel41 hk.1 hn
  rw [hm, spn_more m _ k (far_dgt hs hn), dvl_more m _ k v (far_dgt hs hn)] at hx
  exact tw_num1 hT hs _ k v hk.1 hn hx
theorem tw_num2 {f0 : Int} {w5 : Int32} (hT : TS G) (hs : TX G) : ∀ (n : Nat) (k v p : Int), 0 ≤ k → k + n = 41 → 0 ≤ p → p ≤ k →
    Wp (d + 2, 155, 100, [some (.ref 98), some (.int (N f0)), some (.int (N (spn (fun j => dgt (tAt G j)) n k))), some (.long (J (dvl (tAt G) n k v))), none, some (.int w5), some (.int (N (p + (spn (fun j => dgt (tAt G j)) n k - k))))], [], G) Q →
    Wp (d + 2, 155, 66, [some (.ref 98), some (.int (N f0)), some (.int (N k)), some (.long (J v)), none, some (.int w5), some (.int (N p))], [], G) Q := by
  intro n
  induction n with
  | zero =>
    intro k v p hk hkn hp hp2 hx
    have h1 : dgt (tAt G k) = false := by rw [tAt_far hs (by omega)]; rfl
    rw [show p + (spn (fun j => dgt (tAt G j)) 0 k - k) = p by simp [spn]] at hx
    refine w_load rfl rfl rfl ?_
    refine w_load rfl rfl rfl ?_
    refine w_callI2 rfl (Nat.le_of_ble_eq_true rfl) (Or.inr (Or.inr hT.o)) (Nat.le_of_ble_eq_true rfl) (tw_dgt hT (by omega) hs.2.1) (fun z68 G68 h68 => ?_)
    obtain ⟨rfl, rfl⟩ := h68
    refine w_if_eq rfl (fun hc71 => ?_) (fun hc71 => ?_)
    · try simp (disch := omega) only [zF_wF, zF_wA, zF_wJ, zF_wD, zA_wF, zA_wA, zA_wJ, zA_wD, zL_wJ, zL_wF, zL_wA, zL_wD, J_wr, wr_zF, wr_zA, wrJ_zL, wr_id, wrJ_id, ne_eq, reduceCtorEq, not_false_eq_true, not_true_eq_false, if_true, if_false, Nat.reduceEqDiff, eq_self] at hc71
      exact hx
    · exfalso; rw [h1] at hc71; exact hc71 rfl
  | succ n ih =>
    intro k v p hk hkn hp hp2 hx
    rw [spn, dvl] at hx
    refine w_load rfl rfl rfl ?_
    refine w_load rfl rfl rfl ?_
    refine w_callI2 rfl (Nat.le_of_ble_eq_true rfl) (Or.inr (Or.inr hT.o)) (Nat.le_of_ble_eq_true rfl) (tw_dgt hT (by omega) hs.2.1) (fun z68 G68 h68 => ?_)
    obtain ⟨rfl, rfl⟩ := h68
    refine w_if_eq rfl (fun hc71 => ?_) (fun hc71 => ?_)
    · try simp (disch := omega) only [zF_wF, zF_wA, zF_wJ, zF_wD, zA_wF, zA_wA, zA_wJ, zA_wD, zL_wJ, zL_wF, zL_wA, zL_wD, J_wr, wr_zF, wr_zA, wrJ_zL, wr_id, wrJ_id, ne_eq, reduceCtorEq, not_false_eq_true, not_true_eq_false, if_true, if_false, Nat.reduceEqDiff, eq_self] at hc71
      have hd : ¬ dgt (tAt G k) = true := by intro h; rw [if_pos h] at hc71; exact absurd hc71 (by decide)
      rw [if_neg hd, if_neg hd] at hx; rw [show p + (k - k) = p by omega] at hx; exact hx
    · try simp (disch := omega) only [zF_wF, zF_wA, zF_wJ, zF_wD, zA_wF, zA_wA, zA_wJ, zA_wD, zL_wJ, zL_wF, zL_wA, zL_wD, J_wr, wr_zF, wr_zA, wrJ_zL, wr_id, wrJ_id, ne_eq, reduceCtorEq, not_false_eq_true, not_true_eq_false, if_true, if_false, Nat.reduceEqDiff, eq_self] at hc71
      have hd : dgt (tAt G k) = true := by by_cases h : dgt (tAt G k) = true; exact h; exfalso; rw [if_neg h] at hc71; exact hc71 rfl
      refine w_load rfl rfl rfl ?_
      refine w_lconst (10) rfl rfl ?_
      refine w_lmul rfl ?_
      refine w_load rfl rfl rfl ?_
      refine w_load rfl rfl rfl ?_
      refine w_callI2 rfl (Nat.le_of_ble_eq_true rfl) (Or.inr (Or.inr hT.o)) (Nat.le_of_ble_eq_true rfl) (tw_at hT (by omega) hs.2.1) (fun z81 G81 h81 => ?_)
      obtain ⟨rfl, rfl⟩ := h81
      refine w_i2l rfl ?_
      refine w_ladd rfl ?_
      refine w_lconst (48) rfl rfl ?_
      refine w_lsub rfl ?_
      refine w_stw3 rfl rfl rfl ?_
      refine w_inc2 (1) rfl rfl rfl ?_
      refine w_inc6 (1) rfl rfl rfl ?_
      refine w_goto rfl ?_
      rw [if_pos hd, if_pos hd] at hx
      rw [wr_tAt]
      refine ih (k + 1) _ (p + 1) (by omega) (by omega) (by omega) (by omega) ?_
      rw [show p + (spn (fun j => dgt (tAt G j)) n (k + 1) - k) = p + 1 + (spn (fun j => dgt (tAt G j)) n (k + 1) - (k + 1)) by omega] at hx
      exact hx
theorem tw_number {f0 : Int} (hT : TS G) (hs : TX G) (hf : 0 ≤ f0 ∧ f0 < 40) (ht : 0 ≤ zF G 98 3 ∧ zF G 98 3 ≤ 40) : Wp (d + 2, 155, 0, [some (.ref 98), some (.int (N f0)), none, none, none, none, none], [], G)
    (RI fun z G' => z = nE (tAt G) f0 ∧ G' = if nE1 (tAt G) f0 - f0 > 6 ∨ nP (tAt G) f0 > 3 then wrongG G 1 f0 else wA (addG G (if nP (tAt G) f0 > 0 then 2 else 1) f0 (J (nV (tAt G) f0))) 103 (zF G 98 3) (nP (tAt G) f0)) := by
  refine w_load rfl rfl rfl ?_
  refine w_st2 rfl rfl rfl ?_
  refine w_lconst (0) rfl rfl ?_
  refine w_stw3 rfl rfl rfl ?_
  refine tw_num1' hT hs (by omega) ?_
  have h1 := spn_ge (fun j => dgt (tAt G j)) 41 f0
  have h2 := spn_le (fun j => dgt (tAt G j)) 41 f0
  have hE1 : spn (fun j => dgt (tAt G j)) 41 f0 = nE1 (tAt G) f0 := rfl
  rw [hE1] at h1 h2 ⊢
  have h3 : nE1 (tAt G) f0 ≤ 40 := by
    by_cases h : nE1 (tAt G) f0 ≤ 40
    · exact h
    · have h4 := spn_all (fun j => dgt (tAt G j)) 41 f0 40 (by omega) (by rw [hE1]; omega)
      rw [tAt_out hs.2.1] at h4
      cases h4
  have hfin : ∀ (kk vv pp : Int), f0 ≤ kk → kk ≤ 41 → 0 ≤ pp → pp ≤ 41 → kk = nE (tAt G) f0 → vv = nV (tAt G) f0 → pp = nP (tAt G) f0 → Wp (d + 2, 155, 100, [some (.ref 98), some (.int (N f0)), some (.int (N kk)), some (.long (J vv)), none, some (.int (N (nE1 (tAt G) f0 - f0))), some (.int (N pp))], [], G)
    (RI fun z G' => z = nE (tAt G) f0 ∧ G' = if nE1 (tAt G) f0 - f0 > 6 ∨ nP (tAt G) f0 > 3 then wrongG G 1 f0 else wA (addG G (if nP (tAt G) f0 > 0 then 2 else 1) f0 (J (nV (tAt G) f0))) 103 (zF G 98 3) (nP (tAt G) f0)) := by
    intro kk vv pp b1 b2 b3 b4 e1 e2 e3
    rw [← e1, ← e2, ← e3]
    have hz : zF (addG G (if pp > 0 then 2 else 1) f0 (J vv)) 98 3 - 1 = zF G 98 3 := by
      unfold addG
      simp (disch := omega) only [zF_wF, if_true, wr_id]
      omega
    refine w_load rfl rfl rfl ?_
    refine w_const (6) rfl rfl ?_
    refine w_icmp_gt rfl (fun hc104 => ?_) (fun hc104 => ?_)
    · try simp (disch := omega) only [zF_wF, zF_wA, zF_wJ, zF_wD, zA_wF, zA_wA, zA_wJ, zA_wD, zL_wJ, zL_wF, zL_wA, zL_wD, J_wr, wr_zF, wr_zA, wrJ_zL, wr_id, wrJ_id, ne_eq, reduceCtorEq, not_false_eq_true, not_true_eq_false, if_true, if_false, Nat.reduceEqDiff, eq_self] at hc104
      refine w_load rfl rfl rfl ?_
      refine w_const (1) rfl rfl ?_
      refine w_load rfl rfl rfl ?_
      refine w_callV3 rfl (Nat.le_of_ble_eq_true rfl) (Or.inr (Or.inr hT.o)) (Nat.le_of_ble_eq_true rfl) (tw_wrong hT) (fun G116 h116 => ?_)
      obtain rfl := h116
      refine w_load rfl rfl rfl ?_
      refine w_ireturn rfl rfl ?_
      exact RI.mk ⟨rfl, by rw [if_pos (by omega)]⟩
    · try simp (disch := omega) only [zF_wF, zF_wA, zF_wJ, zF_wD, zA_wF, zA_wA, zA_wJ, zA_wD, zL_wJ, zL_wF, zL_wA, zL_wD, J_wr, wr_zF, wr_zA, wrJ_zL, wr_id, wrJ_id, ne_eq, reduceCtorEq, not_false_eq_true, not_true_eq_false, if_true, if_false, Nat.reduceEqDiff, eq_self] at hc104
      refine w_load rfl rfl rfl ?_
      refine w_const (3) rfl rfl ?_
      refine w_icmp_le rfl (fun hc110 => ?_) (fun hc110 => ?_)
      · try simp (disch := omega) only [zF_wF, zF_wA, zF_wJ, zF_wD, zA_wF, zA_wA, zA_wJ, zA_wD, zL_wJ, zL_wF, zL_wA, zL_wD, J_wr, wr_zF, wr_zA, wrJ_zL, wr_id, wrJ_id, ne_eq, reduceCtorEq, not_false_eq_true, not_true_eq_false, if_true, if_false, Nat.reduceEqDiff, eq_self] at hc110
        refine w_load rfl rfl rfl ?_
        refine w_load rfl rfl rfl ?_
        refine w_if_le rfl (fun hc124 => ?_) (fun hc124 => ?_)
        · try simp (disch := omega) only [zF_wF, zF_wA, zF_wJ, zF_wD, zA_wF, zA_wA, zA_wJ, zA_wD, zL_wJ, zL_wF, zL_wA, zL_wD, J_wr, wr_zF, wr_zA, wrJ_zL, wr_id, wrJ_id, ne_eq, reduceCtorEq, not_false_eq_true, not_true_eq_false, if_true, if_false, Nat.reduceEqDiff, eq_self] at hc124
          refine w_const (1) rfl rfl ?_
          refine w_load rfl rfl rfl ?_
          refine w_load rfl rfl rfl ?_
          refine w_callV4 rfl (Nat.le_of_ble_eq_true rfl) (Or.inr (Or.inr hT.o)) (Nat.le_of_ble_eq_true rfl) (tw_add hT (by omega)) (fun G134 h134 => ?_)
          obtain rfl := h134
          refine w_load rfl rfl rfl ?_
          refine w_getP rfl hT.o (hT.p rfl) ?_
          refine w_load rfl rfl rfl ?_
          refine w_getI0 rfl hT.o ?_
          refine w_const (1) rfl rfl ?_
          refine w_isub rfl ?_
          refine w_load rfl rfl rfl ?_
          refine w_iast rfl (hT.t rfl) (hT.n rfl) (by first | (rw [if_pos (by omega)] at hz; omega) | (rw [if_neg (by omega)] at hz; omega)) (by decide) ?_
          refine w_load rfl rfl rfl ?_
          refine w_ireturn rfl rfl ?_
          first
          | exact RI.mk ⟨rfl, by rw [if_neg (by omega), if_pos (by omega), ← hz, if_pos (by omega)]⟩
          | exact RI.mk ⟨rfl, by rw [if_neg (by omega), if_neg (by omega), ← hz, if_neg (by omega)]⟩
        · try simp (disch := omega) only [zF_wF, zF_wA, zF_wJ, zF_wD, zA_wF, zA_wA, zA_wJ, zA_wD, zL_wJ, zL_wF, zL_wA, zL_wD, J_wr, wr_zF, wr_zA, wrJ_zL, wr_id, wrJ_id, ne_eq, reduceCtorEq, not_false_eq_true, not_true_eq_false, if_true, if_false, Nat.reduceEqDiff, eq_self] at hc124
          refine w_const (2) rfl rfl ?_
          refine w_goto rfl ?_
          refine w_load rfl rfl rfl ?_
          refine w_load rfl rfl rfl ?_
          refine w_callV4 rfl (Nat.le_of_ble_eq_true rfl) (Or.inr (Or.inr hT.o)) (Nat.le_of_ble_eq_true rfl) (tw_add hT (by omega)) (fun G134 h134 => ?_)
          obtain rfl := h134
          refine w_load rfl rfl rfl ?_
          refine w_getP rfl hT.o (hT.p rfl) ?_
          refine w_load rfl rfl rfl ?_
          refine w_getI0 rfl hT.o ?_
          refine w_const (1) rfl rfl ?_
          refine w_isub rfl ?_
          refine w_load rfl rfl rfl ?_
          refine w_iast rfl (hT.t rfl) (hT.n rfl) (by first | (rw [if_pos (by omega)] at hz; omega) | (rw [if_neg (by omega)] at hz; omega)) (by decide) ?_
          refine w_load rfl rfl rfl ?_
          refine w_ireturn rfl rfl ?_
          first
          | exact RI.mk ⟨rfl, by rw [if_neg (by omega), if_pos (by omega), ← hz, if_pos (by omega)]⟩
          | exact RI.mk ⟨rfl, by rw [if_neg (by omega), if_neg (by omega), ← hz, if_neg (by omega)]⟩
      · try simp (disch := omega) only [zF_wF, zF_wA, zF_wJ, zF_wD, zA_wF, zA_wA, zA_wJ, zA_wD, zL_wJ, zL_wF, zL_wA, zL_wD, J_wr, wr_zF, wr_zA, wrJ_zL, wr_id, wrJ_id, ne_eq, reduceCtorEq, not_false_eq_true, not_true_eq_false, if_true, if_false, Nat.reduceEqDiff, eq_self] at hc110
        refine w_load rfl rfl rfl ?_
        refine w_const (1) rfl rfl ?_
        refine w_load rfl rfl rfl ?_
        refine w_callV3 rfl (Nat.le_of_ble_eq_true rfl) (Or.inr (Or.inr hT.o)) (Nat.le_of_ble_eq_true rfl) (tw_wrong hT) (fun G116 h116 => ?_)
        obtain rfl := h116
        refine w_load rfl rfl rfl ?_
        refine w_ireturn rfl rfl ?_
        exact RI.mk ⟨rfl, by rw [if_pos (by omega)]⟩
  have hno : ¬ (tAt G (nE1 (tAt G) f0) = 46 ∧ dgt (tAt G (nE1 (tAt G) f0 + 1)) = true) → Wp (d + 2, 155, 100, [some (.ref 98), some (.int (N f0)), some (.int (N (nE1 (tAt G) f0))), some (.long (J (dvl (tAt G) 41 f0 0))), none, some (.int (N (nE1 (tAt G) f0 - f0))), some (.int (N 0))], [], G)
    (RI fun z G' => z = nE (tAt G) f0 ∧ G' = if nE1 (tAt G) f0 - f0 > 6 ∨ nP (tAt G) f0 > 3 then wrongG G 1 f0 else wA (addG G (if nP (tAt G) f0 > 0 then 2 else 1) f0 (J (nV (tAt G) f0))) 103 (zF G 98 3) (nP (tAt G) f0)) := by
    intro h
    refine hfin _ _ 0 h1 (by omega) (by omega) (by omega) ?_ ?_ ?_
    · unfold nE; rw [if_neg h]
    · unfold nV; rw [if_neg h]
    · unfold nP; rw [if_neg h]
  refine w_load rfl rfl rfl ?_
  refine w_load rfl rfl rfl ?_
  refine w_isub rfl ?_
  refine w_st5 rfl rfl rfl ?_
  refine w_const (0) rfl rfl ?_
  refine w_st6 rfl rfl rfl ?_
  refine w_load rfl rfl rfl ?_
  refine w_load rfl rfl rfl ?_
  refine w_callI2 rfl (Nat.le_of_ble_eq_true rfl) (Or.inr (Or.inr hT.o)) (Nat.le_of_ble_eq_true rfl) (tw_at hT (by omega) hs.2.1) (fun z45 G45 h45 => ?_)
  obtain ⟨rfl, rfl⟩ := h45
  refine w_const (46) rfl rfl ?_
  refine w_icmp_ne rfl (fun hc50 => ?_) (fun hc50 => ?_)
  · try simp (disch := omega) only [zF_wF, zF_wA, zF_wJ, zF_wD, zA_wF, zA_wA, zA_wJ, zA_wD, zL_wJ, zL_wF, zL_wA, zL_wD, J_wr, wr_zF, wr_zA, wrJ_zL, wr_id, wrJ_id, ne_eq, reduceCtorEq, not_false_eq_true, not_true_eq_false, if_true, if_false, Nat.reduceEqDiff, eq_self, wr_tAt] at hc50
    first
    | exact hno (fun h => hc50 h.1)
    | exact hno (fun h => by rw [if_pos h.2] at hc60; exact absurd hc60 (by decide))
  · try simp (disch := omega) only [zF_wF, zF_wA, zF_wJ, zF_wD, zA_wF, zA_wA, zA_wJ, zA_wD, zL_wJ, zL_wF, zL_wA, zL_wD, J_wr, wr_zF, wr_zA, wrJ_zL, wr_id, wrJ_id, ne_eq, reduceCtorEq, not_false_eq_true, not_true_eq_false, if_true, if_false, Nat.reduceEqDiff, eq_self, wr_tAt] at hc50
    refine w_load rfl rfl rfl ?_
    refine w_load rfl rfl rfl ?_
    refine w_const (1) rfl rfl ?_
    refine w_iadd rfl ?_
    refine w_callI2 rfl (Nat.le_of_ble_eq_true rfl) (Or.inr (Or.inr hT.o)) (Nat.le_of_ble_eq_true rfl) (tw_dgt hT (by omega) hs.2.1) (fun z57 G57 h57 => ?_)
    obtain ⟨rfl, rfl⟩ := h57
    refine w_if_eq rfl (fun hc60 => ?_) (fun hc60 => ?_)
    · try simp (disch := omega) only [zF_wF, zF_wA, zF_wJ, zF_wD, zA_wF, zA_wA, zA_wJ, zA_wD, zL_wJ, zL_wF, zL_wA, zL_wD, J_wr, wr_zF, wr_zA, wrJ_zL, wr_id, wrJ_id, ne_eq, reduceCtorEq, not_false_eq_true, not_true_eq_false, if_true, if_false, Nat.reduceEqDiff, eq_self, wr_tAt] at hc60
      first
      | exact hno (fun h => hc50 h.1)
      | exact hno (fun h => by rw [if_pos h.2] at hc60; exact absurd hc60 (by decide))
    · try simp (disch := omega) only [zF_wF, zF_wA, zF_wJ, zF_wD, zA_wF, zA_wA, zA_wJ, zA_wD, zL_wJ, zL_wF, zL_wA, zL_wD, J_wr, wr_zF, wr_zA, wrJ_zL, wr_id, wrJ_id, ne_eq, reduceCtorEq, not_false_eq_true, not_true_eq_false, if_true, if_false, Nat.reduceEqDiff, eq_self, wr_tAt] at hc60
      refine w_inc2 (1) rfl rfl rfl ?_
      have hd : dgt (tAt G (nE1 (tAt G) f0 + 1)) = true := by
        by_cases h : dgt (tAt G (nE1 (tAt G) f0 + 1)) = true
        · exact h
        · exfalso; rw [if_neg h] at hc60; exact hc60 rfl
      have hyes : tAt G (nE1 (tAt G) f0) = 46 ∧ dgt (tAt G (nE1 (tAt G) f0 + 1)) = true := ⟨hc50, hd⟩
      have h4 : nE1 (tAt G) f0 < 40 := by
        by_cases h : nE1 (tAt G) f0 < 40
        · exact h
        · rw [tAt_out (by have := hs.2.1; omega)] at hc50; omega
      have hn : nE1 (tAt G) f0 + 1 + (40 - nE1 (tAt G) f0).toNat = 41 := by omega
      obtain ⟨m, hm⟩ := fuel41 (by omega) hn
      refine tw_num2 hT hs _ (nE1 (tAt G) f0 + 1) _ 0 (by omega) hn (by omega) (by omega) ?_
      have g1 := spn_ge (fun j => dgt (tAt G j)) (40 - nE1 (tAt G) f0).toNat (nE1 (tAt G) f0 + 1)
      have g2 := spn_le (fun j => dgt (tAt G j)) (40 - nE1 (tAt G) f0).toNat (nE1 (tAt G) f0 + 1)
      have g3 := spn_more m _ (nE1 (tAt G) f0 + 1) (far_dgt hs hn)
      have g4 := dvl_more m _ (nE1 (tAt G) f0 + 1) (dvl (tAt G) 41 f0 0) (far_dgt hs hn)
      rw [← hm] at g3 g4
      refine hfin _ _ _ (by omega) (by omega) (by omega) (by omega) ?_ ?_ ?_
      · unfold nE; rw [if_pos hyes, g3]
      · unfold nV; rw [if_pos hyes, g4]
      · unfold nP; rw [if_pos hyes, g3]; omega
end tw2

