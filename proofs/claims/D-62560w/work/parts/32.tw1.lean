/-! THE TWIN: its small methods -/
set_option maxRecDepth 100000
section tw1
variable {d : Nat} {G : mG}
/-- what at answers -/
def tAt (G : mG) (k : Int) : Int := if k < zF G 98 1 then zA G 99 k else 0
theorem wr_tAt (k : Int) : wr (tAt G k) = tAt G k := by
  unfold tAt
  split
  · exact wr_zA _ _ _
  · rfl
theorem tw_at {k : Int} (hT : TS G) (hk : 0 ≤ k ∧ k < 1000) (hs : zF G 98 1 ≤ 40) : Wp (d, 153, 0, [some (.ref 98), some (.int (N k))], [], G) (RI fun z G' => z = tAt G k ∧ G = G') := by
  unfold tAt
  refine w_load rfl rfl rfl ?_
  refine w_load rfl rfl rfl ?_
  refine w_getI0 rfl hT.o ?_
  refine w_icmp_ge rfl (fun hc5 => ?_) (fun hc5 => ?_)
  · try simp (disch := omega) only [zF_wF, zF_wA, zF_wJ, zF_wD, zA_wF, zA_wA, zA_wJ, zA_wD, zL_wJ, zL_wF, zL_wA, zL_wD, J_wr, wr_zF, wr_zA, wrJ_zL, wr_id, wrJ_id, ne_eq, reduceCtorEq, not_false_eq_true, not_true_eq_false, if_true, if_false, Nat.reduceEqDiff, eq_self] at hc5
    refine w_const (0) rfl rfl ?_
    refine w_ireturn rfl rfl ?_
    first | exact RI.mk ⟨by rw [if_pos (by omega)], rfl⟩ | exact RI.mk ⟨by rw [if_neg (by omega)], rfl⟩
  · try simp (disch := omega) only [zF_wF, zF_wA, zF_wJ, zF_wD, zA_wF, zA_wA, zA_wJ, zA_wD, zL_wJ, zL_wF, zL_wA, zL_wD, J_wr, wr_zF, wr_zA, wrJ_zL, wr_id, wrJ_id, ne_eq, reduceCtorEq, not_false_eq_true, not_true_eq_false, if_true, if_false, Nat.reduceEqDiff, eq_self] at hc5
    refine w_load rfl rfl rfl ?_
    refine w_getP rfl hT.o (hT.p rfl) ?_
    refine w_load rfl rfl rfl ?_
    refine w_iald rfl (hT.t rfl) (hT.n rfl) (by omega) (by decide) ?_
    refine w_goto rfl ?_
    refine w_ireturn rfl rfl ?_
    first | exact RI.mk ⟨by rw [if_pos (by omega)], rfl⟩ | exact RI.mk ⟨by rw [if_neg (by omega)], rfl⟩
theorem tw_thrown (hT : TS G) : Wp (d, 149, 0, [some (.ref 98)], [], G) (RI fun z G' => z = zF G 98 0 ∧ G = G') := by
  refine w_load rfl rfl rfl ?_
  refine w_getI0 rfl hT.o ?_
  refine w_ireturn rfl rfl ?_
  exact RI.mk ⟨rfl, rfl⟩
theorem tw_digit {k : Int} (hT : TS G) (hk : 0 ≤ k ∧ k < 1000) (hs : zF G 98 1 ≤ 40) : Wp (d + 1, 154, 0, [some (.ref 98), some (.int (N k))], [], G) (RI fun z G' => z = (if 48 ≤ tAt G k ∧ tAt G k ≤ 57 then 1 else 0) ∧ G = G') := by
  refine w_load rfl rfl rfl ?_
  refine w_load rfl rfl rfl ?_
  refine w_callI2 rfl (Nat.le_of_ble_eq_true rfl) (Or.inr (Or.inr hT.o)) (Nat.le_of_ble_eq_true rfl) (tw_at hT hk hs) (fun z2 G2 h2 => ?_)
  obtain ⟨rfl, rfl⟩ := h2
  refine w_const (48) rfl rfl ?_
  refine w_icmp_lt rfl (fun hc7 => ?_) (fun hc7 => ?_)
  · try simp (disch := omega) only [zF_wF, zF_wA, zF_wJ, zF_wD, zA_wF, zA_wA, zA_wJ, zA_wD, zL_wJ, zL_wF, zL_wA, zL_wD, J_wr, wr_zF, wr_zA, wrJ_zL, wr_id, wrJ_id, ne_eq, reduceCtorEq, not_false_eq_true, not_true_eq_false, if_true, if_false, Nat.reduceEqDiff, eq_self, wr_tAt] at hc7
    refine w_const (0) rfl rfl ?_
    refine w_ireturn rfl rfl ?_
    first | exact RI.mk ⟨by rw [if_pos (by omega)], rfl⟩ | exact RI.mk ⟨by rw [if_neg (by omega)], rfl⟩
  · try simp (disch := omega) only [zF_wF, zF_wA, zF_wJ, zF_wD, zA_wF, zA_wA, zA_wJ, zA_wD, zL_wJ, zL_wF, zL_wA, zL_wD, J_wr, wr_zF, wr_zA, wrJ_zL, wr_id, wrJ_id, ne_eq, reduceCtorEq, not_false_eq_true, not_true_eq_false, if_true, if_false, Nat.reduceEqDiff, eq_self, wr_tAt] at hc7
    refine w_load rfl rfl rfl ?_
    refine w_load rfl rfl rfl ?_
    refine w_callI2 rfl (Nat.le_of_ble_eq_true rfl) (Or.inr (Or.inr hT.o)) (Nat.le_of_ble_eq_true rfl) (tw_at hT hk hs) (fun z12 G12 h12 => ?_)
    obtain ⟨rfl, rfl⟩ := h12
    refine w_const (57) rfl rfl ?_
    refine w_icmp_gt rfl (fun hc17 => ?_) (fun hc17 => ?_)
    · try simp (disch := omega) only [zF_wF, zF_wA, zF_wJ, zF_wD, zA_wF, zA_wA, zA_wJ, zA_wD, zL_wJ, zL_wF, zL_wA, zL_wD, J_wr, wr_zF, wr_zA, wrJ_zL, wr_id, wrJ_id, ne_eq, reduceCtorEq, not_false_eq_true, not_true_eq_false, if_true, if_false, Nat.reduceEqDiff, eq_self, wr_tAt] at hc17
      refine w_const (0) rfl rfl ?_
      refine w_ireturn rfl rfl ?_
      first | exact RI.mk ⟨by rw [if_pos (by omega)], rfl⟩ | exact RI.mk ⟨by rw [if_neg (by omega)], rfl⟩
    · try simp (disch := omega) only [zF_wF, zF_wA, zF_wJ, zF_wD, zA_wF, zA_wA, zA_wJ, zA_wD, zL_wJ, zL_wF, zL_wA, zL_wD, J_wr, wr_zF, wr_zA, wrJ_zL, wr_id, wrJ_id, ne_eq, reduceCtorEq, not_false_eq_true, not_true_eq_false, if_true, if_false, Nat.reduceEqDiff, eq_self, wr_tAt] at hc17
      refine w_const (1) rfl rfl ?_
      refine w_goto rfl ?_
      refine w_ireturn rfl rfl ?_
      first | exact RI.mk ⟨by rw [if_pos (by omega)], rfl⟩ | exact RI.mk ⟨by rw [if_neg (by omega)], rfl⟩
def wrongG (G : mG) (e p : Int) : mG := if zF G 98 8 = 0 then wF (wF G 98 8 e) 98 9 p else G
theorem tw_wrong {e p : Int} (hT : TS G) : Wp (d, 156, 0, [some (.ref 98), some (.int (N e)), some (.int (N p))], [], G) (RV fun G' => G' = wrongG G e p) := by
  unfold wrongG
  refine w_load rfl rfl rfl ?_
  refine w_getI0 rfl hT.o ?_
  refine w_if_ne rfl (fun hc4 => ?_) (fun hc4 => ?_)
  · try simp (disch := omega) only [zF_wF, zF_wA, zF_wJ, zF_wD, zA_wF, zA_wA, zA_wJ, zA_wD, zL_wJ, zL_wF, zL_wA, zL_wD, J_wr, wr_zF, wr_zA, wrJ_zL, wr_id, wrJ_id, ne_eq, reduceCtorEq, not_false_eq_true, not_true_eq_false, if_true, if_false, Nat.reduceEqDiff, eq_self] at hc4
    refine w_return rfl ?_
    first | exact RV.mk (by rw [if_pos (by omega)]) | exact RV.mk (by rw [if_neg (by omega)])
  · try simp (disch := omega) only [zF_wF, zF_wA, zF_wJ, zF_wD, zA_wF, zA_wA, zA_wJ, zA_wD, zL_wJ, zL_wF, zL_wA, zL_wD, J_wr, wr_zF, wr_zA, wrJ_zL, wr_id, wrJ_id, ne_eq, reduceCtorEq, not_false_eq_true, not_true_eq_false, if_true, if_false, Nat.reduceEqDiff, eq_self] at hc4
    refine w_load rfl rfl rfl ?_
    refine w_load rfl rfl rfl ?_
    refine w_putI0 rfl hT.o ?_
    refine w_load rfl rfl rfl ?_
    refine w_load rfl rfl rfl ?_
    refine w_putI0 rfl hT.o ?_
    refine w_return rfl ?_
    first | exact RV.mk (by rw [if_pos (by omega)]) | exact RV.mk (by rw [if_neg (by omega)])
theorem tw_letter {c : Int} (hT : TS G) (hc : wr c = c) (hs : 0 ≤ zF G 98 1 ∧ zF G 98 1 ≤ 40) : Wp (d, 150, 0, [some (.ref 98), some (.int (N c))], [], G) (RI fun z G' => (c < 32 ∨ 126 < c) ∧ z = zF G 98 1 ∧ G' = wF G 98 0 1 ∨ (32 ≤ c ∧ c ≤ 126) ∧ zF G 98 1 = 40 ∧ z = zF G 98 1 ∧ G' = wF G 98 0 2 ∨ (32 ≤ c ∧ c ≤ 126) ∧ zF G 98 1 < 40 ∧ z = zF G 98 1 + 1 ∧ G' = wF (wA (wF G 98 0 0) 99 (zF G 98 1) c) 98 1 (zF G 98 1 + 1)) := by
  refine w_load rfl rfl rfl ?_
  refine w_load rfl rfl rfl ?_
  refine w_const (32) rfl rfl ?_
  refine w_icmp_lt rfl (fun hc4 => ?_) (fun hc4 => ?_)
  · try simp (disch := omega) only [zF_wF, zF_wA, zF_wJ, zF_wD, zA_wF, zA_wA, zA_wJ, zA_wD, zL_wJ, zL_wF, zL_wA, zL_wD, J_wr, wr_zF, wr_zA, wrJ_zL, wr_id, wrJ_id, ne_eq, reduceCtorEq, not_false_eq_true, not_true_eq_false, if_true, if_false, Nat.reduceEqDiff, eq_self, hc] at hc4
    refine w_const (1) rfl rfl ?_
    refine w_goto rfl ?_
    refine w_putI0 rfl hT.o ?_
    refine w_load rfl rfl rfl ?_
    refine w_getI0k rfl hT.o (by (try simp (disch := omega) only [zF_wF, zF_wA, zF_wJ, zF_wD, zA_wF, zA_wA, zA_wJ, zA_wD, zL_wJ, zL_wF, zL_wA, zL_wD, J_wr, wr_zF, wr_zA, wrJ_zL, wr_id, wrJ_id, ne_eq, reduceCtorEq, not_false_eq_true, not_true_eq_false, if_true, if_false, Nat.reduceEqDiff, eq_self, hc]); rfl) ?_
    refine w_if_ne rfl (fun hc38 => ?_) (fun hc38 => ?_)
    · try simp (disch := omega) only [zF_wF, zF_wA, zF_wJ, zF_wD, zA_wF, zA_wA, zA_wJ, zA_wD, zL_wJ, zL_wF, zL_wA, zL_wD, J_wr, wr_zF, wr_zA, wrJ_zL, wr_id, wrJ_id, ne_eq, reduceCtorEq, not_false_eq_true, not_true_eq_false, if_true, if_false, Nat.reduceEqDiff, eq_self, hc] at hc38
      refine w_load rfl rfl rfl ?_
      refine w_getI0k rfl hT.o (by (try simp (disch := omega) only [zF_wF, zF_wA, zF_wJ, zF_wD, zA_wF, zA_wA, zA_wJ, zA_wD, zL_wJ, zL_wF, zL_wA, zL_wD, J_wr, wr_zF, wr_zA, wrJ_zL, wr_id, wrJ_id, ne_eq, reduceCtorEq, not_false_eq_true, not_true_eq_false, if_true, if_false, Nat.reduceEqDiff, eq_self, hc]); rfl) ?_
      refine w_ireturn rfl rfl ?_
      first | exact RI.mk (Or.inl ⟨by omega, rfl, rfl⟩) | exact RI.mk (Or.inr (Or.inl ⟨by omega, by omega, rfl, rfl⟩)) | exact RI.mk (Or.inr (Or.inr ⟨by omega, by omega, rfl, rfl⟩))
    · exfalso; simp (disch := omega) only [zF_wF, zF_wA, zF_wJ, zF_wD, zA_wF, zA_wA, zA_wJ, zA_wD, zL_wJ, zL_wF, zL_wA, zL_wD, J_wr, wr_zF, wr_zA, wrJ_zL, wr_id, wrJ_id, ne_eq, reduceCtorEq, not_false_eq_true, not_true_eq_false, if_true, if_false, Nat.reduceEqDiff, eq_self, hc] at hc38 <;> omega
  · try simp (disch := omega) only [zF_wF, zF_wA, zF_wJ, zF_wD, zA_wF, zA_wA, zA_wJ, zA_wD, zL_wJ, zL_wF, zL_wA, zL_wD, J_wr, wr_zF, wr_zA, wrJ_zL, wr_id, wrJ_id, ne_eq, reduceCtorEq, not_false_eq_true, not_true_eq_false, if_true, if_false, Nat.reduceEqDiff, eq_self, hc] at hc4
    refine w_load rfl rfl rfl ?_
    refine w_const (126) rfl rfl ?_
    refine w_icmp_le rfl (fun hc10 => ?_) (fun hc10 => ?_)
    · try simp (disch := omega) only [zF_wF, zF_wA, zF_wJ, zF_wD, zA_wF, zA_wA, zA_wJ, zA_wD, zL_wJ, zL_wF, zL_wA, zL_wD, J_wr, wr_zF, wr_zA, wrJ_zL, wr_id, wrJ_id, ne_eq, reduceCtorEq, not_false_eq_true, not_true_eq_false, if_true, if_false, Nat.reduceEqDiff, eq_self, hc] at hc10
      refine w_load rfl rfl rfl ?_
      refine w_getI0 rfl hT.o ?_
      refine w_const (40) rfl rfl ?_
      refine w_icmp_ne rfl (fun hc23 => ?_) (fun hc23 => ?_)
      · try simp (disch := omega) only [zF_wF, zF_wA, zF_wJ, zF_wD, zA_wF, zA_wA, zA_wJ, zA_wD, zL_wJ, zL_wF, zL_wA, zL_wD, J_wr, wr_zF, wr_zA, wrJ_zL, wr_id, wrJ_id, ne_eq, reduceCtorEq, not_false_eq_true, not_true_eq_false, if_true, if_false, Nat.reduceEqDiff, eq_self, hc] at hc23
        refine w_const (0) rfl rfl ?_
        refine w_putI0 rfl hT.o ?_
        refine w_load rfl rfl rfl ?_
        refine w_getI0k rfl hT.o (by (try simp (disch := omega) only [zF_wF, zF_wA, zF_wJ, zF_wD, zA_wF, zA_wA, zA_wJ, zA_wD, zL_wJ, zL_wF, zL_wA, zL_wD, J_wr, wr_zF, wr_zA, wrJ_zL, wr_id, wrJ_id, ne_eq, reduceCtorEq, not_false_eq_true, not_true_eq_false, if_true, if_false, Nat.reduceEqDiff, eq_self, hc]); rfl) ?_
        refine w_if_ne rfl (fun hc38 => ?_) (fun hc38 => ?_)
        · exfalso; simp (disch := omega) only [zF_wF, zF_wA, zF_wJ, zF_wD, zA_wF, zA_wA, zA_wJ, zA_wD, zL_wJ, zL_wF, zL_wA, zL_wD, J_wr, wr_zF, wr_zA, wrJ_zL, wr_id, wrJ_id, ne_eq, reduceCtorEq, not_false_eq_true, not_true_eq_false, if_true, if_false, Nat.reduceEqDiff, eq_self, hc] at hc38 <;> omega
        · try simp (disch := omega) only [zF_wF, zF_wA, zF_wJ, zF_wD, zA_wF, zA_wA, zA_wJ, zA_wD, zL_wJ, zL_wF, zL_wA, zL_wD, J_wr, wr_zF, wr_zA, wrJ_zL, wr_id, wrJ_id, ne_eq, reduceCtorEq, not_false_eq_true, not_true_eq_false, if_true, if_false, Nat.reduceEqDiff, eq_self, hc] at hc38
          refine w_load rfl rfl rfl ?_
          refine w_getP rfl hT.o (hT.p rfl) ?_
          refine w_load rfl rfl rfl ?_
          refine w_getI0k rfl hT.o (by (try simp (disch := omega) only [zF_wF, zF_wA, zF_wJ, zF_wD, zA_wF, zA_wA, zA_wJ, zA_wD, zL_wJ, zL_wF, zL_wA, zL_wD, J_wr, wr_zF, wr_zA, wrJ_zL, wr_id, wrJ_id, ne_eq, reduceCtorEq, not_false_eq_true, not_true_eq_false, if_true, if_false, Nat.reduceEqDiff, eq_self, hc]); rfl) ?_
          refine w_load rfl rfl rfl ?_
          refine w_iast rfl (hT.t rfl) (hT.n rfl) (by omega) (by decide) ?_
          refine w_load rfl rfl rfl ?_
          refine w_dup rfl rfl ?_
          refine w_getI0k rfl hT.o (by (try simp (disch := omega) only [zF_wF, zF_wA, zF_wJ, zF_wD, zA_wF, zA_wA, zA_wJ, zA_wD, zL_wJ, zL_wF, zL_wA, zL_wD, J_wr, wr_zF, wr_zA, wrJ_zL, wr_id, wrJ_id, ne_eq, reduceCtorEq, not_false_eq_true, not_true_eq_false, if_true, if_false, Nat.reduceEqDiff, eq_self, hc]); rfl) ?_
          refine w_const (1) rfl rfl ?_
          refine w_iadd rfl ?_
          refine w_putI0 rfl hT.o ?_
          refine w_load rfl rfl rfl ?_
          refine w_getI0k rfl hT.o (by (try simp (disch := omega) only [zF_wF, zF_wA, zF_wJ, zF_wD, zA_wF, zA_wA, zA_wJ, zA_wD, zL_wJ, zL_wF, zL_wA, zL_wD, J_wr, wr_zF, wr_zA, wrJ_zL, wr_id, wrJ_id, ne_eq, reduceCtorEq, not_false_eq_true, not_true_eq_false, if_true, if_false, Nat.reduceEqDiff, eq_self, hc]); rfl) ?_
          refine w_ireturn rfl rfl ?_
          first | exact RI.mk (Or.inl ⟨by omega, rfl, rfl⟩) | exact RI.mk (Or.inr (Or.inl ⟨by omega, by omega, rfl, rfl⟩)) | exact RI.mk (Or.inr (Or.inr ⟨by omega, by omega, rfl, rfl⟩))
      · try simp (disch := omega) only [zF_wF, zF_wA, zF_wJ, zF_wD, zA_wF, zA_wA, zA_wJ, zA_wD, zL_wJ, zL_wF, zL_wA, zL_wD, J_wr, wr_zF, wr_zA, wrJ_zL, wr_id, wrJ_id, ne_eq, reduceCtorEq, not_false_eq_true, not_true_eq_false, if_true, if_false, Nat.reduceEqDiff, eq_self, hc] at hc23
        refine w_const (2) rfl rfl ?_
        refine w_goto rfl ?_
        refine w_putI0 rfl hT.o ?_
        refine w_load rfl rfl rfl ?_
        refine w_getI0k rfl hT.o (by (try simp (disch := omega) only [zF_wF, zF_wA, zF_wJ, zF_wD, zA_wF, zA_wA, zA_wJ, zA_wD, zL_wJ, zL_wF, zL_wA, zL_wD, J_wr, wr_zF, wr_zA, wrJ_zL, wr_id, wrJ_id, ne_eq, reduceCtorEq, not_false_eq_true, not_true_eq_false, if_true, if_false, Nat.reduceEqDiff, eq_self, hc]); rfl) ?_
        refine w_if_ne rfl (fun hc38 => ?_) (fun hc38 => ?_)
        · try simp (disch := omega) only [zF_wF, zF_wA, zF_wJ, zF_wD, zA_wF, zA_wA, zA_wJ, zA_wD, zL_wJ, zL_wF, zL_wA, zL_wD, J_wr, wr_zF, wr_zA, wrJ_zL, wr_id, wrJ_id, ne_eq, reduceCtorEq, not_false_eq_true, not_true_eq_false, if_true, if_false, Nat.reduceEqDiff, eq_self, hc] at hc38
          refine w_load rfl rfl rfl ?_
          refine w_getI0k rfl hT.o (by (try simp (disch := omega) only [zF_wF, zF_wA, zF_wJ, zF_wD, zA_wF, zA_wA, zA_wJ, zA_wD, zL_wJ, zL_wF, zL_wA, zL_wD, J_wr, wr_zF, wr_zA, wrJ_zL, wr_id, wrJ_id, ne_eq, reduceCtorEq, not_false_eq_true, not_true_eq_false, if_true, if_false, Nat.reduceEqDiff, eq_self, hc]); rfl) ?_
          refine w_ireturn rfl rfl ?_
          first | exact RI.mk (Or.inl ⟨by omega, rfl, rfl⟩) | exact RI.mk (Or.inr (Or.inl ⟨by omega, by omega, rfl, rfl⟩)) | exact RI.mk (Or.inr (Or.inr ⟨by omega, by omega, rfl, rfl⟩))
        · exfalso; simp (disch := omega) only [zF_wF, zF_wA, zF_wJ, zF_wD, zA_wF, zA_wA, zA_wJ, zA_wD, zL_wJ, zL_wF, zL_wA, zL_wD, J_wr, wr_zF, wr_zA, wrJ_zL, wr_id, wrJ_id, ne_eq, reduceCtorEq, not_false_eq_true, not_true_eq_false, if_true, if_false, Nat.reduceEqDiff, eq_self, hc] at hc38 <;> omega
    · try simp (disch := omega) only [zF_wF, zF_wA, zF_wJ, zF_wD, zA_wF, zA_wA, zA_wJ, zA_wD, zL_wJ, zL_wF, zL_wA, zL_wD, J_wr, wr_zF, wr_zA, wrJ_zL, wr_id, wrJ_id, ne_eq, reduceCtorEq, not_false_eq_true, not_true_eq_false, if_true, if_false, Nat.reduceEqDiff, eq_self, hc] at hc10
      refine w_const (1) rfl rfl ?_
      refine w_goto rfl ?_
      refine w_putI0 rfl hT.o ?_
      refine w_load rfl rfl rfl ?_
      refine w_getI0k rfl hT.o (by (try simp (disch := omega) only [zF_wF, zF_wA, zF_wJ, zF_wD, zA_wF, zA_wA, zA_wJ, zA_wD, zL_wJ, zL_wF, zL_wA, zL_wD, J_wr, wr_zF, wr_zA, wrJ_zL, wr_id, wrJ_id, ne_eq, reduceCtorEq, not_false_eq_true, not_true_eq_false, if_true, if_false, Nat.reduceEqDiff, eq_self, hc]); rfl) ?_
      refine w_if_ne rfl (fun hc38 => ?_) (fun hc38 => ?_)
      · try simp (disch := omega) only [zF_wF, zF_wA, zF_wJ, zF_wD, zA_wF, zA_wA, zA_wJ, zA_wD, zL_wJ, zL_wF, zL_wA, zL_wD, J_wr, wr_zF, wr_zA, wrJ_zL, wr_id, wrJ_id, ne_eq, reduceCtorEq, not_false_eq_true, not_true_eq_false, if_true, if_false, Nat.reduceEqDiff, eq_self, hc] at hc38
        refine w_load rfl rfl rfl ?_
        refine w_getI0k rfl hT.o (by (try simp (disch := omega) only [zF_wF, zF_wA, zF_wJ, zF_wD, zA_wF, zA_wA, zA_wJ, zA_wD, zL_wJ, zL_wF, zL_wA, zL_wD, J_wr, wr_zF, wr_zA, wrJ_zL, wr_id, wrJ_id, ne_eq, reduceCtorEq, not_false_eq_true, not_true_eq_false, if_true, if_false, Nat.reduceEqDiff, eq_self, hc]); rfl) ?_
        refine w_ireturn rfl rfl ?_
        first | exact RI.mk (Or.inl ⟨by omega, rfl, rfl⟩) | exact RI.mk (Or.inr (Or.inl ⟨by omega, by omega, rfl, rfl⟩)) | exact RI.mk (Or.inr (Or.inr ⟨by omega, by omega, rfl, rfl⟩))
      · exfalso; simp (disch := omega) only [zF_wF, zF_wA, zF_wJ, zF_wD, zA_wF, zA_wA, zA_wJ, zA_wD, zL_wJ, zL_wF, zL_wA, zL_wD, J_wr, wr_zF, wr_zA, wrJ_zL, wr_id, wrJ_id, ne_eq, reduceCtorEq, not_false_eq_true, not_true_eq_false, if_true, if_false, Nat.reduceEqDiff, eq_self, hc] at hc38 <;> omega
end tw1

