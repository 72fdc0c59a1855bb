/-! THE TWIN: classes, objects, converters -/
set_option maxRecDepth 100000
section tw17
variable {d : Nat} {G : mG}
theorem tw_isClass {c : Int} (hT : TS G) (hc : wr c = c) : Wp (d, 185, 0, [some (.ref 98), some (.int (N c))], [], G) (RI fun z G' => z = (if 0 ≤ c ∧ c < zF G 98 35 then 1 else 0) ∧ G = G') := by
  refine w_load rfl rfl rfl ?_
  refine w_if_lt rfl (fun hc1 => ?_) (fun hc1 => ?_)
  · try simp (disch := omega) only [zF_wF, zF_wA, zF_wJ, zF_wD, zA_wF, zA_wA, zA_wJ, zA_wD, zL_wJ, zL_wF, zL_wA, zL_wD, J_wr, wr_zF, wr_zA, wrJ_zL, wr_id, wrJ_id, ne_eq, reduceCtorEq, not_false_eq_true, not_true_eq_false, if_true, if_false, Nat.reduceEqDiff, eq_self, hc] at hc1
    refine w_const (0) rfl rfl ?_
    refine w_ireturn rfl rfl ?_
    first | exact RI.mk ⟨by rw [if_pos (by omega)], rfl⟩ | exact RI.mk ⟨by rw [if_neg (by omega)], rfl⟩
  · try simp (disch := omega) only [zF_wF, zF_wA, zF_wJ, zF_wD, zA_wF, zA_wA, zA_wJ, zA_wD, zL_wJ, zL_wF, zL_wA, zL_wD, J_wr, wr_zF, wr_zA, wrJ_zL, wr_id, wrJ_id, ne_eq, reduceCtorEq, not_false_eq_true, not_true_eq_false, if_true, if_false, Nat.reduceEqDiff, eq_self, hc] at hc1
    refine w_load rfl rfl rfl ?_
    refine w_load rfl rfl rfl ?_
    refine w_getI0 rfl hT.o ?_
    refine w_icmp_ge rfl (fun hc9 => ?_) (fun hc9 => ?_)
    · try simp (disch := omega) only [zF_wF, zF_wA, zF_wJ, zF_wD, zA_wF, zA_wA, zA_wJ, zA_wD, zL_wJ, zL_wF, zL_wA, zL_wD, J_wr, wr_zF, wr_zA, wrJ_zL, wr_id, wrJ_id, ne_eq, reduceCtorEq, not_false_eq_true, not_true_eq_false, if_true, if_false, Nat.reduceEqDiff, eq_self, hc] at hc9
      refine w_const (0) rfl rfl ?_
      refine w_ireturn rfl rfl ?_
      first | exact RI.mk ⟨by rw [if_pos (by omega)], rfl⟩ | exact RI.mk ⟨by rw [if_neg (by omega)], rfl⟩
    · try simp (disch := omega) only [zF_wF, zF_wA, zF_wJ, zF_wD, zA_wF, zA_wA, zA_wJ, zA_wD, zL_wJ, zL_wF, zL_wA, zL_wD, J_wr, wr_zF, wr_zA, wrJ_zL, wr_id, wrJ_id, ne_eq, reduceCtorEq, not_false_eq_true, not_true_eq_false, if_true, if_false, Nat.reduceEqDiff, eq_self, hc] at hc9
      refine w_const (1) rfl rfl ?_
      refine w_goto rfl ?_
      refine w_ireturn rfl rfl ?_
      first | exact RI.mk ⟨by rw [if_pos (by omega)], rfl⟩ | exact RI.mk ⟨by rw [if_neg (by omega)], rfl⟩
theorem tw_isName {c : Int} (hc : wr c = c) : Wp (d, 187, 0, [some (.int (N c))], [], G) (RI fun z G' => z = (if 1 ≤ c ∧ c ≤ 14348906 then 1 else 0) ∧ G = G') := by
  refine w_load rfl rfl rfl ?_
  refine w_const (1) rfl rfl ?_
  refine w_icmp_lt rfl (fun hc2 => ?_) (fun hc2 => ?_)
  · try simp (disch := omega) only [zF_wF, zF_wA, zF_wJ, zF_wD, zA_wF, zA_wA, zA_wJ, zA_wD, zL_wJ, zL_wF, zL_wA, zL_wD, J_wr, wr_zF, wr_zA, wrJ_zL, wr_id, wrJ_id, ne_eq, reduceCtorEq, not_false_eq_true, not_true_eq_false, if_true, if_false, Nat.reduceEqDiff, eq_self, hc] at hc2
    refine w_const (0) rfl rfl ?_
    refine w_ireturn rfl rfl ?_
    first | exact RI.mk ⟨by rw [if_pos (by omega)], rfl⟩ | exact RI.mk ⟨by rw [if_neg (by omega)], rfl⟩
  · try simp (disch := omega) only [zF_wF, zF_wA, zF_wJ, zF_wD, zA_wF, zA_wA, zA_wJ, zA_wD, zL_wJ, zL_wF, zL_wA, zL_wD, J_wr, wr_zF, wr_zA, wrJ_zL, wr_id, wrJ_id, ne_eq, reduceCtorEq, not_false_eq_true, not_true_eq_false, if_true, if_false, Nat.reduceEqDiff, eq_self, hc] at hc2
    refine w_load rfl rfl rfl ?_
    refine w_const (14348906) rfl rfl ?_
    refine w_icmp_gt rfl (fun hc9 => ?_) (fun hc9 => ?_)
    · try simp (disch := omega) only [zF_wF, zF_wA, zF_wJ, zF_wD, zA_wF, zA_wA, zA_wJ, zA_wD, zL_wJ, zL_wF, zL_wA, zL_wD, J_wr, wr_zF, wr_zA, wrJ_zL, wr_id, wrJ_id, ne_eq, reduceCtorEq, not_false_eq_true, not_true_eq_false, if_true, if_false, Nat.reduceEqDiff, eq_self, hc] at hc9
      refine w_const (0) rfl rfl ?_
      refine w_ireturn rfl rfl ?_
      first | exact RI.mk ⟨by rw [if_pos (by omega)], rfl⟩ | exact RI.mk ⟨by rw [if_neg (by omega)], rfl⟩
    · try simp (disch := omega) only [zF_wF, zF_wA, zF_wJ, zF_wD, zA_wF, zA_wA, zA_wJ, zA_wD, zL_wJ, zL_wF, zL_wA, zL_wD, J_wr, wr_zF, wr_zA, wrJ_zL, wr_id, wrJ_id, ne_eq, reduceCtorEq, not_false_eq_true, not_true_eq_false, if_true, if_false, Nat.reduceEqDiff, eq_self, hc] at hc9
      refine w_const (1) rfl rfl ?_
      refine w_goto rfl ?_
      refine w_ireturn rfl rfl ?_
      first | exact RI.mk ⟨by rw [if_pos (by omega)], rfl⟩ | exact RI.mk ⟨by rw [if_neg (by omega)], rfl⟩
theorem wr_rng {c : Int} (h : wr c = c) : -2147483648 ≤ c ∧ c < 2147483648 := by
  have h1 := wr_lo c
  have h2 := wr_hi c
  omega
theorem tw_isType {c : Int} (hT : TS G) (hc : wr c = c) : Wp (d + 1, 188, 0, [some (.ref 98), some (.int (N c))], [], G) (RI fun z G' => z = (if 1 ≤ c ∧ c ≤ 5 ∨ 8 ≤ c ∧ c - 8 < zF G 98 35 then 1 else 0) ∧ G = G') := by
  have hr := wr_rng hc
  refine w_load rfl rfl rfl ?_
  refine w_const (1) rfl rfl ?_
  refine w_icmp_lt rfl (fun hc2 => ?_) (fun hc2 => ?_)
  · try simp (disch := omega) only [zF_wF, zF_wA, zF_wJ, zF_wD, zA_wF, zA_wA, zA_wJ, zA_wD, zL_wJ, zL_wF, zL_wA, zL_wD, J_wr, wr_zF, wr_zA, wrJ_zL, wr_id, wrJ_id, ne_eq, reduceCtorEq, not_false_eq_true, not_true_eq_false, if_true, if_false, Nat.reduceEqDiff, eq_self, hc, wif0, if0, Decidable.not_not] at hc2
    refine w_load rfl rfl rfl ?_
    refine w_const (8) rfl rfl ?_
    refine w_icmp_lt rfl (fun hc13 => ?_) (fun hc13 => ?_)
    · try simp (disch := omega) only [zF_wF, zF_wA, zF_wJ, zF_wD, zA_wF, zA_wA, zA_wJ, zA_wD, zL_wJ, zL_wF, zL_wA, zL_wD, J_wr, wr_zF, wr_zA, wrJ_zL, wr_id, wrJ_id, ne_eq, reduceCtorEq, not_false_eq_true, not_true_eq_false, if_true, if_false, Nat.reduceEqDiff, eq_self, hc, wif0, if0, Decidable.not_not] at hc13
      refine w_const (0) rfl rfl ?_
      refine w_ireturn rfl rfl ?_
      first | (exfalso; omega) | exact RI.mk ⟨by rw [if_pos (by omega)], rfl⟩ | exact RI.mk ⟨by rw [if_neg (by omega)], rfl⟩
    · try simp (disch := omega) only [zF_wF, zF_wA, zF_wJ, zF_wD, zA_wF, zA_wA, zA_wJ, zA_wD, zL_wJ, zL_wF, zL_wA, zL_wD, J_wr, wr_zF, wr_zA, wrJ_zL, wr_id, wrJ_id, ne_eq, reduceCtorEq, not_false_eq_true, not_true_eq_false, if_true, if_false, Nat.reduceEqDiff, eq_self, hc, wif0, if0, Decidable.not_not] at hc13
      refine w_load rfl rfl rfl ?_
      refine w_load rfl rfl rfl ?_
      refine w_const (8) rfl rfl ?_
      refine w_isub rfl ?_
      refine w_callI2 rfl (Nat.le_of_ble_eq_true rfl) (Or.inr (Or.inr hT.o)) (Nat.le_of_ble_eq_true rfl) (tw_isClass hT (wr_id (by omega) (by omega))) (fun z21 G21 h21 => ?_)
      obtain ⟨rfl, rfl⟩ := h21
      refine w_if_eq rfl (fun hc24 => ?_) (fun hc24 => ?_)
      · try simp (disch := omega) only [zF_wF, zF_wA, zF_wJ, zF_wD, zA_wF, zA_wA, zA_wJ, zA_wD, zL_wJ, zL_wF, zL_wA, zL_wD, J_wr, wr_zF, wr_zA, wrJ_zL, wr_id, wrJ_id, ne_eq, reduceCtorEq, not_false_eq_true, not_true_eq_false, if_true, if_false, Nat.reduceEqDiff, eq_self, hc, wif0, if0, Decidable.not_not] at hc24
        refine w_const (0) rfl rfl ?_
        refine w_ireturn rfl rfl ?_
        first | (exfalso; omega) | exact RI.mk ⟨by rw [if_pos (by omega)], rfl⟩ | exact RI.mk ⟨by rw [if_neg (by omega)], rfl⟩
      · try simp (disch := omega) only [zF_wF, zF_wA, zF_wJ, zF_wD, zA_wF, zA_wA, zA_wJ, zA_wD, zL_wJ, zL_wF, zL_wA, zL_wD, J_wr, wr_zF, wr_zA, wrJ_zL, wr_id, wrJ_id, ne_eq, reduceCtorEq, not_false_eq_true, not_true_eq_false, if_true, if_false, Nat.reduceEqDiff, eq_self, hc, wif0, if0, Decidable.not_not] at hc24
        refine w_const (1) rfl rfl ?_
        refine w_goto rfl ?_
        refine w_ireturn rfl rfl ?_
        first | (exfalso; omega) | exact RI.mk ⟨by rw [if_pos (by omega)], rfl⟩ | exact RI.mk ⟨by rw [if_neg (by omega)], rfl⟩
  · try simp (disch := omega) only [zF_wF, zF_wA, zF_wJ, zF_wD, zA_wF, zA_wA, zA_wJ, zA_wD, zL_wJ, zL_wF, zL_wA, zL_wD, J_wr, wr_zF, wr_zA, wrJ_zL, wr_id, wrJ_id, ne_eq, reduceCtorEq, not_false_eq_true, not_true_eq_false, if_true, if_false, Nat.reduceEqDiff, eq_self, hc, wif0, if0, Decidable.not_not] at hc2
    refine w_load rfl rfl rfl ?_
    refine w_const (5) rfl rfl ?_
    refine w_icmp_le rfl (fun hc7 => ?_) (fun hc7 => ?_)
    · try simp (disch := omega) only [zF_wF, zF_wA, zF_wJ, zF_wD, zA_wF, zA_wA, zA_wJ, zA_wD, zL_wJ, zL_wF, zL_wA, zL_wD, J_wr, wr_zF, wr_zA, wrJ_zL, wr_id, wrJ_id, ne_eq, reduceCtorEq, not_false_eq_true, not_true_eq_false, if_true, if_false, Nat.reduceEqDiff, eq_self, hc, wif0, if0, Decidable.not_not] at hc7
      refine w_const (1) rfl rfl ?_
      refine w_goto rfl ?_
      refine w_ireturn rfl rfl ?_
      first | (exfalso; omega) | exact RI.mk ⟨by rw [if_pos (by omega)], rfl⟩ | exact RI.mk ⟨by rw [if_neg (by omega)], rfl⟩
    · try simp (disch := omega) only [zF_wF, zF_wA, zF_wJ, zF_wD, zA_wF, zA_wA, zA_wJ, zA_wD, zL_wJ, zL_wF, zL_wA, zL_wD, J_wr, wr_zF, wr_zA, wrJ_zL, wr_id, wrJ_id, ne_eq, reduceCtorEq, not_false_eq_true, not_true_eq_false, if_true, if_false, Nat.reduceEqDiff, eq_self, hc, wif0, if0, Decidable.not_not] at hc7
      refine w_load rfl rfl rfl ?_
      refine w_const (8) rfl rfl ?_
      refine w_icmp_lt rfl (fun hc13 => ?_) (fun hc13 => ?_)
      · try simp (disch := omega) only [zF_wF, zF_wA, zF_wJ, zF_wD, zA_wF, zA_wA, zA_wJ, zA_wD, zL_wJ, zL_wF, zL_wA, zL_wD, J_wr, wr_zF, wr_zA, wrJ_zL, wr_id, wrJ_id, ne_eq, reduceCtorEq, not_false_eq_true, not_true_eq_false, if_true, if_false, Nat.reduceEqDiff, eq_self, hc, wif0, if0, Decidable.not_not] at hc13
        refine w_const (0) rfl rfl ?_
        refine w_ireturn rfl rfl ?_
        first | (exfalso; omega) | exact RI.mk ⟨by rw [if_pos (by omega)], rfl⟩ | exact RI.mk ⟨by rw [if_neg (by omega)], rfl⟩
      · try simp (disch := omega) only [zF_wF, zF_wA, zF_wJ, zF_wD, zA_wF, zA_wA, zA_wJ, zA_wD, zL_wJ, zL_wF, zL_wA, zL_wD, J_wr, wr_zF, wr_zA, wrJ_zL, wr_id, wrJ_id, ne_eq, reduceCtorEq, not_false_eq_true, not_true_eq_false, if_true, if_false, Nat.reduceEqDiff, eq_self, hc, wif0, if0, Decidable.not_not] at hc13
        refine w_load rfl rfl rfl ?_
        refine w_load rfl rfl rfl ?_
        refine w_const (8) rfl rfl ?_
        refine w_isub rfl ?_
        refine w_callI2 rfl (Nat.le_of_ble_eq_true rfl) (Or.inr (Or.inr hT.o)) (Nat.le_of_ble_eq_true rfl) (tw_isClass hT (wr_id (by omega) (by omega))) (fun z21 G21 h21 => ?_)
        obtain ⟨rfl, rfl⟩ := h21
        refine w_if_eq rfl (fun hc24 => ?_) (fun hc24 => ?_)
        · try simp (disch := omega) only [zF_wF, zF_wA, zF_wJ, zF_wD, zA_wF, zA_wA, zA_wJ, zA_wD, zL_wJ, zL_wF, zL_wA, zL_wD, J_wr, wr_zF, wr_zA, wrJ_zL, wr_id, wrJ_id, ne_eq, reduceCtorEq, not_false_eq_true, not_true_eq_false, if_true, if_false, Nat.reduceEqDiff, eq_self, hc, wif0, if0, Decidable.not_not] at hc24
          refine w_const (0) rfl rfl ?_
          refine w_ireturn rfl rfl ?_
          first | (exfalso; omega) | exact RI.mk ⟨by rw [if_pos (by omega)], rfl⟩ | exact RI.mk ⟨by rw [if_neg (by omega)], rfl⟩
        · try simp (disch := omega) only [zF_wF, zF_wA, zF_wJ, zF_wD, zA_wF, zA_wA, zA_wJ, zA_wD, zL_wJ, zL_wF, zL_wA, zL_wD, J_wr, wr_zF, wr_zA, wrJ_zL, wr_id, wrJ_id, ne_eq, reduceCtorEq, not_false_eq_true, not_true_eq_false, if_true, if_false, Nat.reduceEqDiff, eq_self, hc, wif0, if0, Decidable.not_not] at hc24
          refine w_const (1) rfl rfl ?_
          refine w_goto rfl ?_
          refine w_ireturn rfl rfl ?_
          first | (exfalso; omega) | exact RI.mk ⟨by rw [if_pos (by omega)], rfl⟩ | exact RI.mk ⟨by rw [if_neg (by omega)], rfl⟩
theorem tw_type {p : Int} (hT : TS G) (hc : wr p = p) (hn : 0 ≤ zF G 98 35 ∧ zF G 98 35 ≤ 5) : Wp (d + 1, 184, 0, [some (.ref 98), some (.int (N p))], [], G) (RI fun z G' =>
    ¬ (p = -1 ∨ 0 ≤ p ∧ p < zF G 98 35) ∧ z = 0 ∧ G' = wF G 98 0 1
    ∨ (p = -1 ∨ 0 ≤ p ∧ p < zF G 98 35) ∧ zF G 98 35 = 5 ∧ z = 0 ∧ G' = wF G 98 0 2
    ∨ (p = -1 ∨ 0 ≤ p ∧ p < zF G 98 35) ∧ zF G 98 35 < 5 ∧ z = zF G 98 35 ∧ G' = wF (wA (wF G 98 0 0) 119 (zF G 98 35) p) 98 35 (zF G 98 35 + 1)) := by
  have hr := wr_rng hc
  refine w_load rfl rfl rfl ?_
  refine w_load rfl rfl rfl ?_
  refine w_const (-1) rfl rfl ?_
  refine w_icmp_eq rfl (fun hc3 => ?_) (fun hc3 => ?_)
  · try simp (disch := omega) only [zF_wF, zF_wA, zF_wJ, zF_wD, zA_wF, zA_wA, zA_wJ, zA_wD, zL_wJ, zL_wF, zL_wA, zL_wD, J_wr, wr_zF, wr_zA, wrJ_zL, wr_id, wrJ_id, ne_eq, reduceCtorEq, not_false_eq_true, not_true_eq_false, if_true, if_false, Nat.reduceEqDiff, eq_self, hc, wif0, if0, Decidable.not_not] at hc3
    refine w_load rfl rfl rfl ?_
    refine w_getI0 rfl hT.o ?_
    refine w_const (5) rfl rfl ?_
    refine w_icmp_ne rfl (fun hc23 => ?_) (fun hc23 => ?_)
    · try simp (disch := omega) only [zF_wF, zF_wA, zF_wJ, zF_wD, zA_wF, zA_wA, zA_wJ, zA_wD, zL_wJ, zL_wF, zL_wA, zL_wD, J_wr, wr_zF, wr_zA, wrJ_zL, wr_id, wrJ_id, ne_eq, reduceCtorEq, not_false_eq_true, not_true_eq_false, if_true, if_false, Nat.reduceEqDiff, eq_self, hc, wif0, if0, Decidable.not_not] at hc23
      refine w_const (0) rfl rfl ?_
      refine w_putI0 rfl hT.o ?_
      refine w_load rfl rfl rfl ?_
      refine w_getI0k rfl hT.o (by (try simp (disch := omega) only [zF_wF, zF_wA, zF_wJ, zF_wD, zA_wF, zA_wA, zA_wJ, zA_wD, zL_wJ, zL_wF, zL_wA, zL_wD, J_wr, wr_zF, wr_zA, wrJ_zL, wr_id, wrJ_id, ne_eq, reduceCtorEq, not_false_eq_true, not_true_eq_false, if_true, if_false, Nat.reduceEqDiff, eq_self, hc, wif0, if0, Decidable.not_not]); rfl) ?_
      refine w_if_le rfl (fun hc38 => ?_) (fun hc38 => ?_)
      · try simp (disch := omega) only [zF_wF, zF_wA, zF_wJ, zF_wD, zA_wF, zA_wA, zA_wJ, zA_wD, zL_wJ, zL_wF, zL_wA, zL_wD, J_wr, wr_zF, wr_zA, wrJ_zL, wr_id, wrJ_id, ne_eq, reduceCtorEq, not_false_eq_true, not_true_eq_false, if_true, if_false, Nat.reduceEqDiff, eq_self, hc, wif0, if0, Decidable.not_not] at hc38
        refine w_load rfl rfl rfl ?_
        refine w_getP rfl hT.o (hT.p rfl) ?_
        refine w_load rfl rfl rfl ?_
        refine w_getI0k rfl hT.o (by (try simp (disch := omega) only [zF_wF, zF_wA, zF_wJ, zF_wD, zA_wF, zA_wA, zA_wJ, zA_wD, zL_wJ, zL_wF, zL_wA, zL_wD, J_wr, wr_zF, wr_zA, wrJ_zL, wr_id, wrJ_id, ne_eq, reduceCtorEq, not_false_eq_true, not_true_eq_false, if_true, if_false, Nat.reduceEqDiff, eq_self, hc, wif0, if0, Decidable.not_not]); rfl) ?_
        refine w_load rfl rfl rfl ?_
        refine w_iast rfl (hT.t rfl) (hT.n rfl) (by omega) (by decide) ?_
        refine w_load rfl rfl rfl ?_
        refine w_dup rfl rfl ?_
        refine w_getI0k rfl hT.o (by (try simp (disch := omega) only [zF_wF, zF_wA, zF_wJ, zF_wD, zA_wF, zA_wA, zA_wJ, zA_wD, zL_wJ, zL_wF, zL_wA, zL_wD, J_wr, wr_zF, wr_zA, wrJ_zL, wr_id, wrJ_id, ne_eq, reduceCtorEq, not_false_eq_true, not_true_eq_false, if_true, if_false, Nat.reduceEqDiff, eq_self, hc, wif0, if0, Decidable.not_not]); rfl) ?_
        refine w_const (1) rfl rfl ?_
        refine w_iadd rfl ?_
        refine w_putI0 rfl hT.o ?_
        refine w_load rfl rfl rfl ?_
        refine w_getI0k rfl hT.o (by (try simp (disch := omega) only [zF_wF, zF_wA, zF_wJ, zF_wD, zA_wF, zA_wA, zA_wJ, zA_wD, zL_wJ, zL_wF, zL_wA, zL_wD, J_wr, wr_zF, wr_zA, wrJ_zL, wr_id, wrJ_id, ne_eq, reduceCtorEq, not_false_eq_true, not_true_eq_false, if_true, if_false, Nat.reduceEqDiff, eq_self, hc, wif0, if0, Decidable.not_not]); rfl) ?_
        refine w_const (1) rfl rfl ?_
        refine w_isub rfl ?_
        refine w_ireturn rfl rfl ?_
        first
        | exact RI.mk (Or.inl ⟨by omega, rfl, rfl⟩)
        | exact RI.mk (Or.inr (Or.inl ⟨by omega, by omega, rfl, rfl⟩))
        | exact RI.mk (Or.inr (Or.inr ⟨by omega, by omega, by omega, rfl⟩))
      · exfalso; simp (disch := omega) only [zF_wF, zF_wA, zF_wJ, zF_wD, zA_wF, zA_wA, zA_wJ, zA_wD, zL_wJ, zL_wF, zL_wA, zL_wD, J_wr, wr_zF, wr_zA, wrJ_zL, wr_id, wrJ_id, ne_eq, reduceCtorEq, not_false_eq_true, not_true_eq_false, if_true, if_false, Nat.reduceEqDiff, eq_self, hc, wif0, if0, Decidable.not_not] at hc38 <;> omega
    · try simp (disch := omega) only [zF_wF, zF_wA, zF_wJ, zF_wD, zA_wF, zA_wA, zA_wJ, zA_wD, zL_wJ, zL_wF, zL_wA, zL_wD, J_wr, wr_zF, wr_zA, wrJ_zL, wr_id, wrJ_id, ne_eq, reduceCtorEq, not_false_eq_true, not_true_eq_false, if_true, if_false, Nat.reduceEqDiff, eq_self, hc, wif0, if0, Decidable.not_not] at hc23
      refine w_const (2) rfl rfl ?_
      refine w_goto rfl ?_
      refine w_putI0 rfl hT.o ?_
      refine w_load rfl rfl rfl ?_
      refine w_getI0k rfl hT.o (by (try simp (disch := omega) only [zF_wF, zF_wA, zF_wJ, zF_wD, zA_wF, zA_wA, zA_wJ, zA_wD, zL_wJ, zL_wF, zL_wA, zL_wD, J_wr, wr_zF, wr_zA, wrJ_zL, wr_id, wrJ_id, ne_eq, reduceCtorEq, not_false_eq_true, not_true_eq_false, if_true, if_false, Nat.reduceEqDiff, eq_self, hc, wif0, if0, Decidable.not_not]); rfl) ?_
      refine w_if_le rfl (fun hc38 => ?_) (fun hc38 => ?_)
      · exfalso; simp (disch := omega) only [zF_wF, zF_wA, zF_wJ, zF_wD, zA_wF, zA_wA, zA_wJ, zA_wD, zL_wJ, zL_wF, zL_wA, zL_wD, J_wr, wr_zF, wr_zA, wrJ_zL, wr_id, wrJ_id, ne_eq, reduceCtorEq, not_false_eq_true, not_true_eq_false, if_true, if_false, Nat.reduceEqDiff, eq_self, hc, wif0, if0, Decidable.not_not] at hc38 <;> omega
      · try simp (disch := omega) only [zF_wF, zF_wA, zF_wJ, zF_wD, zA_wF, zA_wA, zA_wJ, zA_wD, zL_wJ, zL_wF, zL_wA, zL_wD, J_wr, wr_zF, wr_zA, wrJ_zL, wr_id, wrJ_id, ne_eq, reduceCtorEq, not_false_eq_true, not_true_eq_false, if_true, if_false, Nat.reduceEqDiff, eq_self, hc, wif0, if0, Decidable.not_not] at hc38
        refine w_const (0) rfl rfl ?_
        refine w_ireturn rfl rfl ?_
        first
        | exact RI.mk (Or.inl ⟨by omega, rfl, rfl⟩)
        | exact RI.mk (Or.inr (Or.inl ⟨by omega, by omega, rfl, rfl⟩))
        | exact RI.mk (Or.inr (Or.inr ⟨by omega, by omega, by omega, rfl⟩))
  · try simp (disch := omega) only [zF_wF, zF_wA, zF_wJ, zF_wD, zA_wF, zA_wA, zA_wJ, zA_wD, zL_wJ, zL_wF, zL_wA, zL_wD, J_wr, wr_zF, wr_zA, wrJ_zL, wr_id, wrJ_id, ne_eq, reduceCtorEq, not_false_eq_true, not_true_eq_false, if_true, if_false, Nat.reduceEqDiff, eq_self, hc, wif0, if0, Decidable.not_not] at hc3
    refine w_load rfl rfl rfl ?_
    refine w_load rfl rfl rfl ?_
    refine w_callI2 rfl (Nat.le_of_ble_eq_true rfl) (Or.inr (Or.inr hT.o)) (Nat.le_of_ble_eq_true rfl) (tw_isClass hT hc) (fun z8 G8 h8 => ?_)
    obtain ⟨rfl, rfl⟩ := h8
    refine w_if_ne rfl (fun hc11 => ?_) (fun hc11 => ?_)
    · try simp (disch := omega) only [zF_wF, zF_wA, zF_wJ, zF_wD, zA_wF, zA_wA, zA_wJ, zA_wD, zL_wJ, zL_wF, zL_wA, zL_wD, J_wr, wr_zF, wr_zA, wrJ_zL, wr_id, wrJ_id, ne_eq, reduceCtorEq, not_false_eq_true, not_true_eq_false, if_true, if_false, Nat.reduceEqDiff, eq_self, hc, wif0, if0, Decidable.not_not] at hc11
      refine w_load rfl rfl rfl ?_
      refine w_getI0 rfl hT.o ?_
      refine w_const (5) rfl rfl ?_
      refine w_icmp_ne rfl (fun hc23 => ?_) (fun hc23 => ?_)
      · try simp (disch := omega) only [zF_wF, zF_wA, zF_wJ, zF_wD, zA_wF, zA_wA, zA_wJ, zA_wD, zL_wJ, zL_wF, zL_wA, zL_wD, J_wr, wr_zF, wr_zA, wrJ_zL, wr_id, wrJ_id, ne_eq, reduceCtorEq, not_false_eq_true, not_true_eq_false, if_true, if_false, Nat.reduceEqDiff, eq_self, hc, wif0, if0, Decidable.not_not] at hc23
        refine w_const (0) rfl rfl ?_
        refine w_putI0 rfl hT.o ?_
        refine w_load rfl rfl rfl ?_
        refine w_getI0k rfl hT.o (by (try simp (disch := omega) only [zF_wF, zF_wA, zF_wJ, zF_wD, zA_wF, zA_wA, zA_wJ, zA_wD, zL_wJ, zL_wF, zL_wA, zL_wD, J_wr, wr_zF, wr_zA, wrJ_zL, wr_id, wrJ_id, ne_eq, reduceCtorEq, not_false_eq_true, not_true_eq_false, if_true, if_false, Nat.reduceEqDiff, eq_self, hc, wif0, if0, Decidable.not_not]); rfl) ?_
        refine w_if_le rfl (fun hc38 => ?_) (fun hc38 => ?_)
        · try simp (disch := omega) only [zF_wF, zF_wA, zF_wJ, zF_wD, zA_wF, zA_wA, zA_wJ, zA_wD, zL_wJ, zL_wF, zL_wA, zL_wD, J_wr, wr_zF, wr_zA, wrJ_zL, wr_id, wrJ_id, ne_eq, reduceCtorEq, not_false_eq_true, not_true_eq_false, if_true, if_false, Nat.reduceEqDiff, eq_self, hc, wif0, if0, Decidable.not_not] at hc38
          refine w_load rfl rfl rfl ?_
          refine w_getP rfl hT.o (hT.p rfl) ?_
          refine w_load rfl rfl rfl ?_
          refine w_getI0k rfl hT.o (by (try simp (disch := omega) only [zF_wF, zF_wA, zF_wJ, zF_wD, zA_wF, zA_wA, zA_wJ, zA_wD, zL_wJ, zL_wF, zL_wA, zL_wD, J_wr, wr_zF, wr_zA, wrJ_zL, wr_id, wrJ_id, ne_eq, reduceCtorEq, not_false_eq_true, not_true_eq_false, if_true, if_false, Nat.reduceEqDiff, eq_self, hc, wif0, if0, Decidable.not_not]); rfl) ?_
          refine w_load rfl rfl rfl ?_
          refine w_iast rfl (hT.t rfl) (hT.n rfl) (by omega) (by decide) ?_
          refine w_load rfl rfl rfl ?_
          refine w_dup rfl rfl ?_
          refine w_getI0k rfl hT.o (by (try simp (disch := omega) only [zF_wF, zF_wA, zF_wJ, zF_wD, zA_wF, zA_wA, zA_wJ, zA_wD, zL_wJ, zL_wF, zL_wA, zL_wD, J_wr, wr_zF, wr_zA, wrJ_zL, wr_id, wrJ_id, ne_eq, reduceCtorEq, not_false_eq_true, not_true_eq_false, if_true, if_false, Nat.reduceEqDiff, eq_self, hc, wif0, if0, Decidable.not_not]); rfl) ?_
          refine w_const (1) rfl rfl ?_
          refine w_iadd rfl ?_
          refine w_putI0 rfl hT.o ?_
          refine w_load rfl rfl rfl ?_
          refine w_getI0k rfl hT.o (by (try simp (disch := omega) only [zF_wF, zF_wA, zF_wJ, zF_wD, zA_wF, zA_wA, zA_wJ, zA_wD, zL_wJ, zL_wF, zL_wA, zL_wD, J_wr, wr_zF, wr_zA, wrJ_zL, wr_id, wrJ_id, ne_eq, reduceCtorEq, not_false_eq_true, not_true_eq_false, if_true, if_false, Nat.reduceEqDiff, eq_self, hc, wif0, if0, Decidable.not_not]); rfl) ?_
          refine w_const (1) rfl rfl ?_
          refine w_isub rfl ?_
          refine w_ireturn rfl rfl ?_
          first
          | exact RI.mk (Or.inl ⟨by omega, rfl, rfl⟩)
          | exact RI.mk (Or.inr (Or.inl ⟨by omega, by omega, rfl, rfl⟩))
          | exact RI.mk (Or.inr (Or.inr ⟨by omega, by omega, by omega, rfl⟩))
        · exfalso; simp (disch := omega) only [zF_wF, zF_wA, zF_wJ, zF_wD, zA_wF, zA_wA, zA_wJ, zA_wD, zL_wJ, zL_wF, zL_wA, zL_wD, J_wr, wr_zF, wr_zA, wrJ_zL, wr_id, wrJ_id, ne_eq, reduceCtorEq, not_false_eq_true, not_true_eq_false, if_true, if_false, Nat.reduceEqDiff, eq_self, hc, wif0, if0, Decidable.not_not] at hc38 <;> omega
      · try simp (disch := omega) only [zF_wF, zF_wA, zF_wJ, zF_wD, zA_wF, zA_wA, zA_wJ, zA_wD, zL_wJ, zL_wF, zL_wA, zL_wD, J_wr, wr_zF, wr_zA, wrJ_zL, wr_id, wrJ_id, ne_eq, reduceCtorEq, not_false_eq_true, not_true_eq_false, if_true, if_false, Nat.reduceEqDiff, eq_self, hc, wif0, if0, Decidable.not_not] at hc23
        refine w_const (2) rfl rfl ?_
        refine w_goto rfl ?_
        refine w_putI0 rfl hT.o ?_
        refine w_load rfl rfl rfl ?_
        refine w_getI0k rfl hT.o (by (try simp (disch := omega) only [zF_wF, zF_wA, zF_wJ, zF_wD, zA_wF, zA_wA, zA_wJ, zA_wD, zL_wJ, zL_wF, zL_wA, zL_wD, J_wr, wr_zF, wr_zA, wrJ_zL, wr_id, wrJ_id, ne_eq, reduceCtorEq, not_false_eq_true, not_true_eq_false, if_true, if_false, Nat.reduceEqDiff, eq_self, hc, wif0, if0, Decidable.not_not]); rfl) ?_
        refine w_if_le rfl (fun hc38 => ?_) (fun hc38 => ?_)
        · exfalso; simp (disch := omega) only [zF_wF, zF_wA, zF_wJ, zF_wD, zA_wF, zA_wA, zA_wJ, zA_wD, zL_wJ, zL_wF, zL_wA, zL_wD, J_wr, wr_zF, wr_zA, wrJ_zL, wr_id, wrJ_id, ne_eq, reduceCtorEq, not_false_eq_true, not_true_eq_false, if_true, if_false, Nat.reduceEqDiff, eq_self, hc, wif0, if0, Decidable.not_not] at hc38 <;> omega
        · try simp (disch := omega) only [zF_wF, zF_wA, zF_wJ, zF_wD, zA_wF, zA_wA, zA_wJ, zA_wD, zL_wJ, zL_wF, zL_wA, zL_wD, J_wr, wr_zF, wr_zA, wrJ_zL, wr_id, wrJ_id, ne_eq, reduceCtorEq, not_false_eq_true, not_true_eq_false, if_true, if_false, Nat.reduceEqDiff, eq_self, hc, wif0, if0, Decidable.not_not] at hc38
          refine w_const (0) rfl rfl ?_
          refine w_ireturn rfl rfl ?_
          first
          | exact RI.mk (Or.inl ⟨by omega, rfl, rfl⟩)
          | exact RI.mk (Or.inr (Or.inl ⟨by omega, by omega, rfl, rfl⟩))
          | exact RI.mk (Or.inr (Or.inr ⟨by omega, by omega, by omega, rfl⟩))
    · try simp (disch := omega) only [zF_wF, zF_wA, zF_wJ, zF_wD, zA_wF, zA_wA, zA_wJ, zA_wD, zL_wJ, zL_wF, zL_wA, zL_wD, J_wr, wr_zF, wr_zA, wrJ_zL, wr_id, wrJ_id, ne_eq, reduceCtorEq, not_false_eq_true, not_true_eq_false, if_true, if_false, Nat.reduceEqDiff, eq_self, hc, wif0, if0, Decidable.not_not] at hc11
      refine w_const (1) rfl rfl ?_
      refine w_goto rfl ?_
      refine w_putI0 rfl hT.o ?_
      refine w_load rfl rfl rfl ?_
      refine w_getI0k rfl hT.o (by (try simp (disch := omega) only [zF_wF, zF_wA, zF_wJ, zF_wD, zA_wF, zA_wA, zA_wJ, zA_wD, zL_wJ, zL_wF, zL_wA, zL_wD, J_wr, wr_zF, wr_zA, wrJ_zL, wr_id, wrJ_id, ne_eq, reduceCtorEq, not_false_eq_true, not_true_eq_false, if_true, if_false, Nat.reduceEqDiff, eq_self, hc, wif0, if0, Decidable.not_not]); rfl) ?_
      refine w_if_le rfl (fun hc38 => ?_) (fun hc38 => ?_)
      · exfalso; simp (disch := omega) only [zF_wF, zF_wA, zF_wJ, zF_wD, zA_wF, zA_wA, zA_wJ, zA_wD, zL_wJ, zL_wF, zL_wA, zL_wD, J_wr, wr_zF, wr_zA, wrJ_zL, wr_id, wrJ_id, ne_eq, reduceCtorEq, not_false_eq_true, not_true_eq_false, if_true, if_false, Nat.reduceEqDiff, eq_self, hc, wif0, if0, Decidable.not_not] at hc38 <;> omega
      · try simp (disch := omega) only [zF_wF, zF_wA, zF_wJ, zF_wD, zA_wF, zA_wA, zA_wJ, zA_wD, zL_wJ, zL_wF, zL_wA, zL_wD, J_wr, wr_zF, wr_zA, wrJ_zL, wr_id, wrJ_id, ne_eq, reduceCtorEq, not_false_eq_true, not_true_eq_false, if_true, if_false, Nat.reduceEqDiff, eq_self, hc, wif0, if0, Decidable.not_not] at hc38
        refine w_const (0) rfl rfl ?_
        refine w_ireturn rfl rfl ?_
        first
        | exact RI.mk (Or.inl ⟨by omega, rfl, rfl⟩)
        | exact RI.mk (Or.inr (Or.inl ⟨by omega, by omega, rfl, rfl⟩))
        | exact RI.mk (Or.inr (Or.inr ⟨by omega, by omega, by omega, rfl⟩))
theorem tw_make {c : Int} (hT : TS G) (hc : wr c = c) (hn : 0 ≤ zF G 98 47 ∧ zF G 98 47 ≤ 30) : Wp (d + 1, 190, 0, [some (.ref 98), some (.int (N c))], [], G) (RI fun z G' =>
    ¬ (0 ≤ c ∧ c < zF G 98 35) ∧ z = 0 ∧ G' = wF G 98 0 1
    ∨ (0 ≤ c ∧ c < zF G 98 35) ∧ zF G 98 47 = 30 ∧ z = 0 ∧ G' = wF G 98 0 2
    ∨ (0 ≤ c ∧ c < zF G 98 35) ∧ zF G 98 47 < 30 ∧ z = zF G 98 47 ∧ G' = wF (wA (wF G 98 0 0) 130 (zF G 98 47) c) 98 47 (zF G 98 47 + 1)) := by
  have hr := wr_rng hc
  refine w_load rfl rfl rfl ?_
  refine w_load rfl rfl rfl ?_
  refine w_load rfl rfl rfl ?_
  refine w_callI2 rfl (Nat.le_of_ble_eq_true rfl) (Or.inr (Or.inr hT.o)) (Nat.le_of_ble_eq_true rfl) (tw_isClass hT hc) (fun z3 G3 h3 => ?_)
  obtain ⟨rfl, rfl⟩ := h3
  refine w_if_ne rfl (fun hc6 => ?_) (fun hc6 => ?_)
  · try simp (disch := omega) only [zF_wF, zF_wA, zF_wJ, zF_wD, zA_wF, zA_wA, zA_wJ, zA_wD, zL_wJ, zL_wF, zL_wA, zL_wD, J_wr, wr_zF, wr_zA, wrJ_zL, wr_id, wrJ_id, ne_eq, reduceCtorEq, not_false_eq_true, not_true_eq_false, if_true, if_false, Nat.reduceEqDiff, eq_self, hc, wif0, if0, Decidable.not_not] at hc6
    refine w_load rfl rfl rfl ?_
    refine w_getI0 rfl hT.o ?_
    refine w_const (30) rfl rfl ?_
    refine w_icmp_ne rfl (fun hc19 => ?_) (fun hc19 => ?_)
    · try simp (disch := omega) only [zF_wF, zF_wA, zF_wJ, zF_wD, zA_wF, zA_wA, zA_wJ, zA_wD, zL_wJ, zL_wF, zL_wA, zL_wD, J_wr, wr_zF, wr_zA, wrJ_zL, wr_id, wrJ_id, ne_eq, reduceCtorEq, not_false_eq_true, not_true_eq_false, if_true, if_false, Nat.reduceEqDiff, eq_self, hc, wif0, if0, Decidable.not_not] at hc19
      refine w_const (0) rfl rfl ?_
      refine w_putI0 rfl hT.o ?_
      refine w_load rfl rfl rfl ?_
      refine w_getI0k rfl hT.o (by (try simp (disch := omega) only [zF_wF, zF_wA, zF_wJ, zF_wD, zA_wF, zA_wA, zA_wJ, zA_wD, zL_wJ, zL_wF, zL_wA, zL_wD, J_wr, wr_zF, wr_zA, wrJ_zL, wr_id, wrJ_id, ne_eq, reduceCtorEq, not_false_eq_true, not_true_eq_false, if_true, if_false, Nat.reduceEqDiff, eq_self, hc, wif0, if0, Decidable.not_not]); rfl) ?_
      refine w_if_le rfl (fun hc34 => ?_) (fun hc34 => ?_)
      · try simp (disch := omega) only [zF_wF, zF_wA, zF_wJ, zF_wD, zA_wF, zA_wA, zA_wJ, zA_wD, zL_wJ, zL_wF, zL_wA, zL_wD, J_wr, wr_zF, wr_zA, wrJ_zL, wr_id, wrJ_id, ne_eq, reduceCtorEq, not_false_eq_true, not_true_eq_false, if_true, if_false, Nat.reduceEqDiff, eq_self, hc, wif0, if0, Decidable.not_not] at hc34
        refine w_load rfl rfl rfl ?_
        refine w_getP rfl hT.o (hT.p rfl) ?_
        refine w_load rfl rfl rfl ?_
        refine w_getI0k rfl hT.o (by (try simp (disch := omega) only [zF_wF, zF_wA, zF_wJ, zF_wD, zA_wF, zA_wA, zA_wJ, zA_wD, zL_wJ, zL_wF, zL_wA, zL_wD, J_wr, wr_zF, wr_zA, wrJ_zL, wr_id, wrJ_id, ne_eq, reduceCtorEq, not_false_eq_true, not_true_eq_false, if_true, if_false, Nat.reduceEqDiff, eq_self, hc, wif0, if0, Decidable.not_not]); rfl) ?_
        refine w_load rfl rfl rfl ?_
        refine w_iast rfl (hT.t rfl) (hT.n rfl) (by omega) (by decide) ?_
        refine w_load rfl rfl rfl ?_
        refine w_dup rfl rfl ?_
        refine w_getI0k rfl hT.o (by (try simp (disch := omega) only [zF_wF, zF_wA, zF_wJ, zF_wD, zA_wF, zA_wA, zA_wJ, zA_wD, zL_wJ, zL_wF, zL_wA, zL_wD, J_wr, wr_zF, wr_zA, wrJ_zL, wr_id, wrJ_id, ne_eq, reduceCtorEq, not_false_eq_true, not_true_eq_false, if_true, if_false, Nat.reduceEqDiff, eq_self, hc, wif0, if0, Decidable.not_not]); rfl) ?_
        refine w_const (1) rfl rfl ?_
        refine w_iadd rfl ?_
        refine w_putI0 rfl hT.o ?_
        refine w_load rfl rfl rfl ?_
        refine w_getI0k rfl hT.o (by (try simp (disch := omega) only [zF_wF, zF_wA, zF_wJ, zF_wD, zA_wF, zA_wA, zA_wJ, zA_wD, zL_wJ, zL_wF, zL_wA, zL_wD, J_wr, wr_zF, wr_zA, wrJ_zL, wr_id, wrJ_id, ne_eq, reduceCtorEq, not_false_eq_true, not_true_eq_false, if_true, if_false, Nat.reduceEqDiff, eq_self, hc, wif0, if0, Decidable.not_not]); rfl) ?_
        refine w_const (1) rfl rfl ?_
        refine w_isub rfl ?_
        refine w_ireturn rfl rfl ?_
        first
        | exact RI.mk (Or.inl ⟨by omega, rfl, rfl⟩)
        | exact RI.mk (Or.inr (Or.inl ⟨by omega, by omega, rfl, rfl⟩))
        | exact RI.mk (Or.inr (Or.inr ⟨by omega, by omega, by omega, rfl⟩))
      · exfalso; simp (disch := omega) only [zF_wF, zF_wA, zF_wJ, zF_wD, zA_wF, zA_wA, zA_wJ, zA_wD, zL_wJ, zL_wF, zL_wA, zL_wD, J_wr, wr_zF, wr_zA, wrJ_zL, wr_id, wrJ_id, ne_eq, reduceCtorEq, not_false_eq_true, not_true_eq_false, if_true, if_false, Nat.reduceEqDiff, eq_self, hc, wif0, if0, Decidable.not_not] at hc34 <;> omega
    · try simp (disch := omega) only [zF_wF, zF_wA, zF_wJ, zF_wD, zA_wF, zA_wA, zA_wJ, zA_wD, zL_wJ, zL_wF, zL_wA, zL_wD, J_wr, wr_zF, wr_zA, wrJ_zL, wr_id, wrJ_id, ne_eq, reduceCtorEq, not_false_eq_true, not_true_eq_false, if_true, if_false, Nat.reduceEqDiff, eq_self, hc, wif0, if0, Decidable.not_not] at hc19
      refine w_const (2) rfl rfl ?_
      refine w_goto rfl ?_
      refine w_putI0 rfl hT.o ?_
      refine w_load rfl rfl rfl ?_
      refine w_getI0k rfl hT.o (by (try simp (disch := omega) only [zF_wF, zF_wA, zF_wJ, zF_wD, zA_wF, zA_wA, zA_wJ, zA_wD, zL_wJ, zL_wF, zL_wA, zL_wD, J_wr, wr_zF, wr_zA, wrJ_zL, wr_id, wrJ_id, ne_eq, reduceCtorEq, not_false_eq_true, not_true_eq_false, if_true, if_false, Nat.reduceEqDiff, eq_self, hc, wif0, if0, Decidable.not_not]); rfl) ?_
      refine w_if_le rfl (fun hc34 => ?_) (fun hc34 => ?_)
      · exfalso; simp (disch := omega) only [zF_wF, zF_wA, zF_wJ, zF_wD, zA_wF, zA_wA, zA_wJ, zA_wD, zL_wJ, zL_wF, zL_wA, zL_wD, J_wr, wr_zF, wr_zA, wrJ_zL, wr_id, wrJ_id, ne_eq, reduceCtorEq, not_false_eq_true, not_true_eq_false, if_true, if_false, Nat.reduceEqDiff, eq_self, hc, wif0, if0, Decidable.not_not] at hc34 <;> omega
      · try simp (disch := omega) only [zF_wF, zF_wA, zF_wJ, zF_wD, zA_wF, zA_wA, zA_wJ, zA_wD, zL_wJ, zL_wF, zL_wA, zL_wD, J_wr, wr_zF, wr_zA, wrJ_zL, wr_id, wrJ_id, ne_eq, reduceCtorEq, not_false_eq_true, not_true_eq_false, if_true, if_false, Nat.reduceEqDiff, eq_self, hc, wif0, if0, Decidable.not_not] at hc34
        refine w_const (0) rfl rfl ?_
        refine w_ireturn rfl rfl ?_
        first
        | exact RI.mk (Or.inl ⟨by omega, rfl, rfl⟩)
        | exact RI.mk (Or.inr (Or.inl ⟨by omega, by omega, rfl, rfl⟩))
        | exact RI.mk (Or.inr (Or.inr ⟨by omega, by omega, by omega, rfl⟩))
  · try simp (disch := omega) only [zF_wF, zF_wA, zF_wJ, zF_wD, zA_wF, zA_wA, zA_wJ, zA_wD, zL_wJ, zL_wF, zL_wA, zL_wD, J_wr, wr_zF, wr_zA, wrJ_zL, wr_id, wrJ_id, ne_eq, reduceCtorEq, not_false_eq_true, not_true_eq_false, if_true, if_false, Nat.reduceEqDiff, eq_self, hc, wif0, if0, Decidable.not_not] at hc6
    refine w_const (1) rfl rfl ?_
    refine w_goto rfl ?_
    refine w_putI0 rfl hT.o ?_
    refine w_load rfl rfl rfl ?_
    refine w_getI0k rfl hT.o (by (try simp (disch := omega) only [zF_wF, zF_wA, zF_wJ, zF_wD, zA_wF, zA_wA, zA_wJ, zA_wD, zL_wJ, zL_wF, zL_wA, zL_wD, J_wr, wr_zF, wr_zA, wrJ_zL, wr_id, wrJ_id, ne_eq, reduceCtorEq, not_false_eq_true, not_true_eq_false, if_true, if_false, Nat.reduceEqDiff, eq_self, hc, wif0, if0, Decidable.not_not]); rfl) ?_
    refine w_if_le rfl (fun hc34 => ?_) (fun hc34 => ?_)
    · exfalso; simp (disch := omega) only [zF_wF, zF_wA, zF_wJ, zF_wD, zA_wF, zA_wA, zA_wJ, zA_wD, zL_wJ, zL_wF, zL_wA, zL_wD, J_wr, wr_zF, wr_zA, wrJ_zL, wr_id, wrJ_id, ne_eq, reduceCtorEq, not_false_eq_true, not_true_eq_false, if_true, if_false, Nat.reduceEqDiff, eq_self, hc, wif0, if0, Decidable.not_not] at hc34 <;> omega
    · try simp (disch := omega) only [zF_wF, zF_wA, zF_wJ, zF_wD, zA_wF, zA_wA, zA_wJ, zA_wD, zL_wJ, zL_wF, zL_wA, zL_wD, J_wr, wr_zF, wr_zA, wrJ_zL, wr_id, wrJ_id, ne_eq, reduceCtorEq, not_false_eq_true, not_true_eq_false, if_true, if_false, Nat.reduceEqDiff, eq_self, hc, wif0, if0, Decidable.not_not] at hc34
      refine w_const (0) rfl rfl ?_
      refine w_ireturn rfl rfl ?_
      first
      | exact RI.mk (Or.inl ⟨by omega, rfl, rfl⟩)
      | exact RI.mk (Or.inr (Or.inl ⟨by omega, by omega, rfl, rfl⟩))
      | exact RI.mk (Or.inr (Or.inr ⟨by omega, by omega, by omega, rfl⟩))
theorem tw_converter {a b t : Int} (hT : TS G) (ha : wr a = a) (hb : wr b = b) (ht : t = 0 ∨ t = 1) (hcv : ∀ k, zA G 129 k = 0 ∨ zA G 129 k = 1) : Wp (d, 191, 0, [some (.ref 98), some (.int (N a)), some (.int (N b)), some (.int (N t)), none, none], [], G) (RI fun z G' =>
    ¬ ((1 ≤ a ∧ a ≤ 5 ∨ 8 ≤ a ∧ a ≤ 12) ∧ 1 ≤ b ∧ b ≤ 4 ∧ ¬ a = b) ∧ z = 0 ∧ G' = wF G 98 0 1
    ∨ ((1 ≤ a ∧ a ≤ 5 ∨ 8 ≤ a ∧ a ≤ 12) ∧ 1 ≤ b ∧ b ≤ 4 ∧ ¬ a = b) ∧ z = zA G 129 (5 * a + b) ∧ G' = wA (wF G 98 0 0) 129 (5 * a + b) t) := by
  have hr := wr_rng ha
  have hr2 := wr_rng hb
  refine w_load rfl rfl rfl ?_
  refine w_const (1) rfl rfl ?_
  refine w_icmp_lt rfl (fun hc2 => ?_) (fun hc2 => ?_)
  · try simp (disch := omega) only [zF_wF, zF_wA, zF_wJ, zF_wD, zA_wF, zA_wA, zA_wJ, zA_wD, zL_wJ, zL_wF, zL_wA, zL_wD, J_wr, wr_zF, wr_zA, wrJ_zL, wr_id, wrJ_id, ne_eq, reduceCtorEq, not_false_eq_true, not_true_eq_false, if_true, if_false, Nat.reduceEqDiff, eq_self, ha, hb] at hc2
    refine w_load rfl rfl rfl ?_
    refine w_const (8) rfl rfl ?_
    refine w_icmp_lt rfl (fun hc13 => ?_) (fun hc13 => ?_)
    · try simp (disch := omega) only [zF_wF, zF_wA, zF_wJ, zF_wD, zA_wF, zA_wA, zA_wJ, zA_wD, zL_wJ, zL_wF, zL_wA, zL_wD, J_wr, wr_zF, wr_zA, wrJ_zL, wr_id, wrJ_id, ne_eq, reduceCtorEq, not_false_eq_true, not_true_eq_false, if_true, if_false, Nat.reduceEqDiff, eq_self, ha, hb] at hc13
      refine w_const (0) rfl rfl ?_
      refine w_st4 rfl rfl rfl ?_
      refine w_load rfl rfl rfl ?_
      refine w_load rfl rfl rfl ?_
      refine w_if_eq rfl (fun hc47 => ?_) (fun hc47 => ?_)
      · try simp (disch := omega) only [zF_wF, zF_wA, zF_wJ, zF_wD, zA_wF, zA_wA, zA_wJ, zA_wD, zL_wJ, zL_wF, zL_wA, zL_wD, J_wr, wr_zF, wr_zA, wrJ_zL, wr_id, wrJ_id, ne_eq, reduceCtorEq, not_false_eq_true, not_true_eq_false, if_true, if_false, Nat.reduceEqDiff, eq_self, ha, hb] at hc47
        refine w_const (1) rfl rfl ?_
        refine w_putI0 rfl hT.o ?_
        refine w_load rfl rfl rfl ?_
        refine w_if_ne rfl (fun hc60 => ?_) (fun hc60 => ?_)
        · exfalso; simp (disch := omega) only [zF_wF, zF_wA, zF_wJ, zF_wD, zA_wF, zA_wA, zA_wJ, zA_wD, zL_wJ, zL_wF, zL_wA, zL_wD, J_wr, wr_zF, wr_zA, wrJ_zL, wr_id, wrJ_id, ne_eq, reduceCtorEq, not_false_eq_true, not_true_eq_false, if_true, if_false, Nat.reduceEqDiff, eq_self, ha, hb] at hc60 <;> omega
        · try simp (disch := omega) only [zF_wF, zF_wA, zF_wJ, zF_wD, zA_wF, zA_wA, zA_wJ, zA_wD, zL_wJ, zL_wF, zL_wA, zL_wD, J_wr, wr_zF, wr_zA, wrJ_zL, wr_id, wrJ_id, ne_eq, reduceCtorEq, not_false_eq_true, not_true_eq_false, if_true, if_false, Nat.reduceEqDiff, eq_self, ha, hb] at hc60
          refine w_const (0) rfl rfl ?_
          refine w_ireturn rfl rfl ?_
          first
          | exact RI.mk (Or.inl ⟨by omega, rfl, rfl⟩)
          | exact RI.mk (Or.inr ⟨by omega, by rw [zA_wF _ _ _ _ _ _ (by decide)], rfl⟩)
      · exfalso; simp (disch := omega) only [zF_wF, zF_wA, zF_wJ, zF_wD, zA_wF, zA_wA, zA_wJ, zA_wD, zL_wJ, zL_wF, zL_wA, zL_wD, J_wr, wr_zF, wr_zA, wrJ_zL, wr_id, wrJ_id, ne_eq, reduceCtorEq, not_false_eq_true, not_true_eq_false, if_true, if_false, Nat.reduceEqDiff, eq_self, ha, hb] at hc47 <;> omega
    · try simp (disch := omega) only [zF_wF, zF_wA, zF_wJ, zF_wD, zA_wF, zA_wA, zA_wJ, zA_wD, zL_wJ, zL_wF, zL_wA, zL_wD, J_wr, wr_zF, wr_zA, wrJ_zL, wr_id, wrJ_id, ne_eq, reduceCtorEq, not_false_eq_true, not_true_eq_false, if_true, if_false, Nat.reduceEqDiff, eq_self, ha, hb] at hc13
      refine w_load rfl rfl rfl ?_
      refine w_const (12) rfl rfl ?_
      refine w_icmp_gt rfl (fun hc19 => ?_) (fun hc19 => ?_)
      · try simp (disch := omega) only [zF_wF, zF_wA, zF_wJ, zF_wD, zA_wF, zA_wA, zA_wJ, zA_wD, zL_wJ, zL_wF, zL_wA, zL_wD, J_wr, wr_zF, wr_zA, wrJ_zL, wr_id, wrJ_id, ne_eq, reduceCtorEq, not_false_eq_true, not_true_eq_false, if_true, if_false, Nat.reduceEqDiff, eq_self, ha, hb] at hc19
        refine w_const (0) rfl rfl ?_
        refine w_st4 rfl rfl rfl ?_
        refine w_load rfl rfl rfl ?_
        refine w_load rfl rfl rfl ?_
        refine w_if_eq rfl (fun hc47 => ?_) (fun hc47 => ?_)
        · try simp (disch := omega) only [zF_wF, zF_wA, zF_wJ, zF_wD, zA_wF, zA_wA, zA_wJ, zA_wD, zL_wJ, zL_wF, zL_wA, zL_wD, J_wr, wr_zF, wr_zA, wrJ_zL, wr_id, wrJ_id, ne_eq, reduceCtorEq, not_false_eq_true, not_true_eq_false, if_true, if_false, Nat.reduceEqDiff, eq_self, ha, hb] at hc47
          refine w_const (1) rfl rfl ?_
          refine w_putI0 rfl hT.o ?_
          refine w_load rfl rfl rfl ?_
          refine w_if_ne rfl (fun hc60 => ?_) (fun hc60 => ?_)
          · exfalso; simp (disch := omega) only [zF_wF, zF_wA, zF_wJ, zF_wD, zA_wF, zA_wA, zA_wJ, zA_wD, zL_wJ, zL_wF, zL_wA, zL_wD, J_wr, wr_zF, wr_zA, wrJ_zL, wr_id, wrJ_id, ne_eq, reduceCtorEq, not_false_eq_true, not_true_eq_false, if_true, if_false, Nat.reduceEqDiff, eq_self, ha, hb] at hc60 <;> omega
          · try simp (disch := omega) only [zF_wF, zF_wA, zF_wJ, zF_wD, zA_wF, zA_wA, zA_wJ, zA_wD, zL_wJ, zL_wF, zL_wA, zL_wD, J_wr, wr_zF, wr_zA, wrJ_zL, wr_id, wrJ_id, ne_eq, reduceCtorEq, not_false_eq_true, not_true_eq_false, if_true, if_false, Nat.reduceEqDiff, eq_self, ha, hb] at hc60
            refine w_const (0) rfl rfl ?_
            refine w_ireturn rfl rfl ?_
            first
            | exact RI.mk (Or.inl ⟨by omega, rfl, rfl⟩)
            | exact RI.mk (Or.inr ⟨by omega, by rw [zA_wF _ _ _ _ _ _ (by decide)], rfl⟩)
        · exfalso; simp (disch := omega) only [zF_wF, zF_wA, zF_wJ, zF_wD, zA_wF, zA_wA, zA_wJ, zA_wD, zL_wJ, zL_wF, zL_wA, zL_wD, J_wr, wr_zF, wr_zA, wrJ_zL, wr_id, wrJ_id, ne_eq, reduceCtorEq, not_false_eq_true, not_true_eq_false, if_true, if_false, Nat.reduceEqDiff, eq_self, ha, hb] at hc47 <;> omega
      · try simp (disch := omega) only [zF_wF, zF_wA, zF_wJ, zF_wD, zA_wF, zA_wA, zA_wJ, zA_wD, zL_wJ, zL_wF, zL_wA, zL_wD, J_wr, wr_zF, wr_zA, wrJ_zL, wr_id, wrJ_id, ne_eq, reduceCtorEq, not_false_eq_true, not_true_eq_false, if_true, if_false, Nat.reduceEqDiff, eq_self, ha, hb] at hc19
        refine w_load rfl rfl rfl ?_
        refine w_const (1) rfl rfl ?_
        refine w_icmp_lt rfl (fun hc24 => ?_) (fun hc24 => ?_)
        · try simp (disch := omega) only [zF_wF, zF_wA, zF_wJ, zF_wD, zA_wF, zA_wA, zA_wJ, zA_wD, zL_wJ, zL_wF, zL_wA, zL_wD, J_wr, wr_zF, wr_zA, wrJ_zL, wr_id, wrJ_id, ne_eq, reduceCtorEq, not_false_eq_true, not_true_eq_false, if_true, if_false, Nat.reduceEqDiff, eq_self, ha, hb] at hc24
          refine w_const (0) rfl rfl ?_
          refine w_st4 rfl rfl rfl ?_
          refine w_load rfl rfl rfl ?_
          refine w_load rfl rfl rfl ?_
          refine w_if_eq rfl (fun hc47 => ?_) (fun hc47 => ?_)
          · try simp (disch := omega) only [zF_wF, zF_wA, zF_wJ, zF_wD, zA_wF, zA_wA, zA_wJ, zA_wD, zL_wJ, zL_wF, zL_wA, zL_wD, J_wr, wr_zF, wr_zA, wrJ_zL, wr_id, wrJ_id, ne_eq, reduceCtorEq, not_false_eq_true, not_true_eq_false, if_true, if_false, Nat.reduceEqDiff, eq_self, ha, hb] at hc47
            refine w_const (1) rfl rfl ?_
            refine w_putI0 rfl hT.o ?_
            refine w_load rfl rfl rfl ?_
            refine w_if_ne rfl (fun hc60 => ?_) (fun hc60 => ?_)
            · exfalso; simp (disch := omega) only [zF_wF, zF_wA, zF_wJ, zF_wD, zA_wF, zA_wA, zA_wJ, zA_wD, zL_wJ, zL_wF, zL_wA, zL_wD, J_wr, wr_zF, wr_zA, wrJ_zL, wr_id, wrJ_id, ne_eq, reduceCtorEq, not_false_eq_true, not_true_eq_false, if_true, if_false, Nat.reduceEqDiff, eq_self, ha, hb] at hc60 <;> omega
            · try simp (disch := omega) only [zF_wF, zF_wA, zF_wJ, zF_wD, zA_wF, zA_wA, zA_wJ, zA_wD, zL_wJ, zL_wF, zL_wA, zL_wD, J_wr, wr_zF, wr_zA, wrJ_zL, wr_id, wrJ_id, ne_eq, reduceCtorEq, not_false_eq_true, not_true_eq_false, if_true, if_false, Nat.reduceEqDiff, eq_self, ha, hb] at hc60
              refine w_const (0) rfl rfl ?_
              refine w_ireturn rfl rfl ?_
              first
              | exact RI.mk (Or.inl ⟨by omega, rfl, rfl⟩)
              | exact RI.mk (Or.inr ⟨by omega, by rw [zA_wF _ _ _ _ _ _ (by decide)], rfl⟩)
          · exfalso; simp (disch := omega) only [zF_wF, zF_wA, zF_wJ, zF_wD, zA_wF, zA_wA, zA_wJ, zA_wD, zL_wJ, zL_wF, zL_wA, zL_wD, J_wr, wr_zF, wr_zA, wrJ_zL, wr_id, wrJ_id, ne_eq, reduceCtorEq, not_false_eq_true, not_true_eq_false, if_true, if_false, Nat.reduceEqDiff, eq_self, ha, hb] at hc47 <;> omega
        · try simp (disch := omega) only [zF_wF, zF_wA, zF_wJ, zF_wD, zA_wF, zA_wA, zA_wJ, zA_wD, zL_wJ, zL_wF, zL_wA, zL_wD, J_wr, wr_zF, wr_zA, wrJ_zL, wr_id, wrJ_id, ne_eq, reduceCtorEq, not_false_eq_true, not_true_eq_false, if_true, if_false, Nat.reduceEqDiff, eq_self, ha, hb] at hc24
          refine w_load rfl rfl rfl ?_
          refine w_const (4) rfl rfl ?_
          refine w_icmp_gt rfl (fun hc29 => ?_) (fun hc29 => ?_)
          · try simp (disch := omega) only [zF_wF, zF_wA, zF_wJ, zF_wD, zA_wF, zA_wA, zA_wJ, zA_wD, zL_wJ, zL_wF, zL_wA, zL_wD, J_wr, wr_zF, wr_zA, wrJ_zL, wr_id, wrJ_id, ne_eq, reduceCtorEq, not_false_eq_true, not_true_eq_false, if_true, if_false, Nat.reduceEqDiff, eq_self, ha, hb] at hc29
            refine w_const (0) rfl rfl ?_
            refine w_st4 rfl rfl rfl ?_
            refine w_load rfl rfl rfl ?_
            refine w_load rfl rfl rfl ?_
            refine w_if_eq rfl (fun hc47 => ?_) (fun hc47 => ?_)
            · try simp (disch := omega) only [zF_wF, zF_wA, zF_wJ, zF_wD, zA_wF, zA_wA, zA_wJ, zA_wD, zL_wJ, zL_wF, zL_wA, zL_wD, J_wr, wr_zF, wr_zA, wrJ_zL, wr_id, wrJ_id, ne_eq, reduceCtorEq, not_false_eq_true, not_true_eq_false, if_true, if_false, Nat.reduceEqDiff, eq_self, ha, hb] at hc47
              refine w_const (1) rfl rfl ?_
              refine w_putI0 rfl hT.o ?_
              refine w_load rfl rfl rfl ?_
              refine w_if_ne rfl (fun hc60 => ?_) (fun hc60 => ?_)
              · exfalso; simp (disch := omega) only [zF_wF, zF_wA, zF_wJ, zF_wD, zA_wF, zA_wA, zA_wJ, zA_wD, zL_wJ, zL_wF, zL_wA, zL_wD, J_wr, wr_zF, wr_zA, wrJ_zL, wr_id, wrJ_id, ne_eq, reduceCtorEq, not_false_eq_true, not_true_eq_false, if_true, if_false, Nat.reduceEqDiff, eq_self, ha, hb] at hc60 <;> omega
              · try simp (disch := omega) only [zF_wF, zF_wA, zF_wJ, zF_wD, zA_wF, zA_wA, zA_wJ, zA_wD, zL_wJ, zL_wF, zL_wA, zL_wD, J_wr, wr_zF, wr_zA, wrJ_zL, wr_id, wrJ_id, ne_eq, reduceCtorEq, not_false_eq_true, not_true_eq_false, if_true, if_false, Nat.reduceEqDiff, eq_self, ha, hb] at hc60
                refine w_const (0) rfl rfl ?_
                refine w_ireturn rfl rfl ?_
                first
                | exact RI.mk (Or.inl ⟨by omega, rfl, rfl⟩)
                | exact RI.mk (Or.inr ⟨by omega, by rw [zA_wF _ _ _ _ _ _ (by decide)], rfl⟩)
            · exfalso; simp (disch := omega) only [zF_wF, zF_wA, zF_wJ, zF_wD, zA_wF, zA_wA, zA_wJ, zA_wD, zL_wJ, zL_wF, zL_wA, zL_wD, J_wr, wr_zF, wr_zA, wrJ_zL, wr_id, wrJ_id, ne_eq, reduceCtorEq, not_false_eq_true, not_true_eq_false, if_true, if_false, Nat.reduceEqDiff, eq_self, ha, hb] at hc47 <;> omega
          · try simp (disch := omega) only [zF_wF, zF_wA, zF_wJ, zF_wD, zA_wF, zA_wA, zA_wJ, zA_wD, zL_wJ, zL_wF, zL_wA, zL_wD, J_wr, wr_zF, wr_zA, wrJ_zL, wr_id, wrJ_id, ne_eq, reduceCtorEq, not_false_eq_true, not_true_eq_false, if_true, if_false, Nat.reduceEqDiff, eq_self, ha, hb] at hc29
            refine w_load rfl rfl rfl ?_
            refine w_load rfl rfl rfl ?_
            refine w_icmp_eq rfl (fun hc34 => ?_) (fun hc34 => ?_)
            · try simp (disch := omega) only [zF_wF, zF_wA, zF_wJ, zF_wD, zA_wF, zA_wA, zA_wJ, zA_wD, zL_wJ, zL_wF, zL_wA, zL_wD, J_wr, wr_zF, wr_zA, wrJ_zL, wr_id, wrJ_id, ne_eq, reduceCtorEq, not_false_eq_true, not_true_eq_false, if_true, if_false, Nat.reduceEqDiff, eq_self, ha, hb] at hc34
              refine w_const (0) rfl rfl ?_
              refine w_st4 rfl rfl rfl ?_
              refine w_load rfl rfl rfl ?_
              refine w_load rfl rfl rfl ?_
              refine w_if_eq rfl (fun hc47 => ?_) (fun hc47 => ?_)
              · try simp (disch := omega) only [zF_wF, zF_wA, zF_wJ, zF_wD, zA_wF, zA_wA, zA_wJ, zA_wD, zL_wJ, zL_wF, zL_wA, zL_wD, J_wr, wr_zF, wr_zA, wrJ_zL, wr_id, wrJ_id, ne_eq, reduceCtorEq, not_false_eq_true, not_true_eq_false, if_true, if_false, Nat.reduceEqDiff, eq_self, ha, hb] at hc47
                refine w_const (1) rfl rfl ?_
                refine w_putI0 rfl hT.o ?_
                refine w_load rfl rfl rfl ?_
                refine w_if_ne rfl (fun hc60 => ?_) (fun hc60 => ?_)
                · exfalso; simp (disch := omega) only [zF_wF, zF_wA, zF_wJ, zF_wD, zA_wF, zA_wA, zA_wJ, zA_wD, zL_wJ, zL_wF, zL_wA, zL_wD, J_wr, wr_zF, wr_zA, wrJ_zL, wr_id, wrJ_id, ne_eq, reduceCtorEq, not_false_eq_true, not_true_eq_false, if_true, if_false, Nat.reduceEqDiff, eq_self, ha, hb] at hc60 <;> omega
                · try simp (disch := omega) only [zF_wF, zF_wA, zF_wJ, zF_wD, zA_wF, zA_wA, zA_wJ, zA_wD, zL_wJ, zL_wF, zL_wA, zL_wD, J_wr, wr_zF, wr_zA, wrJ_zL, wr_id, wrJ_id, ne_eq, reduceCtorEq, not_false_eq_true, not_true_eq_false, if_true, if_false, Nat.reduceEqDiff, eq_self, ha, hb] at hc60
                  refine w_const (0) rfl rfl ?_
                  refine w_ireturn rfl rfl ?_
                  first
                  | exact RI.mk (Or.inl ⟨by omega, rfl, rfl⟩)
                  | exact RI.mk (Or.inr ⟨by omega, by rw [zA_wF _ _ _ _ _ _ (by decide)], rfl⟩)
              · exfalso; simp (disch := omega) only [zF_wF, zF_wA, zF_wJ, zF_wD, zA_wF, zA_wA, zA_wJ, zA_wD, zL_wJ, zL_wF, zL_wA, zL_wD, J_wr, wr_zF, wr_zA, wrJ_zL, wr_id, wrJ_id, ne_eq, reduceCtorEq, not_false_eq_true, not_true_eq_false, if_true, if_false, Nat.reduceEqDiff, eq_self, ha, hb] at hc47 <;> omega
            · try simp (disch := omega) only [zF_wF, zF_wA, zF_wJ, zF_wD, zA_wF, zA_wA, zA_wJ, zA_wD, zL_wJ, zL_wF, zL_wA, zL_wD, J_wr, wr_zF, wr_zA, wrJ_zL, wr_id, wrJ_id, ne_eq, reduceCtorEq, not_false_eq_true, not_true_eq_false, if_true, if_false, Nat.reduceEqDiff, eq_self, ha, hb] at hc34
              refine w_const (1) rfl rfl ?_
              refine w_goto rfl ?_
              refine w_st4 rfl rfl rfl ?_
              refine w_load rfl rfl rfl ?_
              refine w_load rfl rfl rfl ?_
              refine w_if_eq rfl (fun hc47 => ?_) (fun hc47 => ?_)
              · exfalso; simp (disch := omega) only [zF_wF, zF_wA, zF_wJ, zF_wD, zA_wF, zA_wA, zA_wJ, zA_wD, zL_wJ, zL_wF, zL_wA, zL_wD, J_wr, wr_zF, wr_zA, wrJ_zL, wr_id, wrJ_id, ne_eq, reduceCtorEq, not_false_eq_true, not_true_eq_false, if_true, if_false, Nat.reduceEqDiff, eq_self, ha, hb] at hc47 <;> omega
              · try simp (disch := omega) only [zF_wF, zF_wA, zF_wJ, zF_wD, zA_wF, zA_wA, zA_wJ, zA_wD, zL_wJ, zL_wF, zL_wA, zL_wD, J_wr, wr_zF, wr_zA, wrJ_zL, wr_id, wrJ_id, ne_eq, reduceCtorEq, not_false_eq_true, not_true_eq_false, if_true, if_false, Nat.reduceEqDiff, eq_self, ha, hb] at hc47
                refine w_const (0) rfl rfl ?_
                refine w_goto rfl ?_
                refine w_putI0 rfl hT.o ?_
                refine w_load rfl rfl rfl ?_
                refine w_if_ne rfl (fun hc60 => ?_) (fun hc60 => ?_)
                · try simp (disch := omega) only [zF_wF, zF_wA, zF_wJ, zF_wD, zA_wF, zA_wA, zA_wJ, zA_wD, zL_wJ, zL_wF, zL_wA, zL_wD, J_wr, wr_zF, wr_zA, wrJ_zL, wr_id, wrJ_id, ne_eq, reduceCtorEq, not_false_eq_true, not_true_eq_false, if_true, if_false, Nat.reduceEqDiff, eq_self, ha, hb] at hc60
                  refine w_load rfl rfl rfl ?_
                  refine w_getP rfl hT.o (hT.p rfl) ?_
                  refine w_const (5) rfl rfl ?_
                  refine w_load rfl rfl rfl ?_
                  refine w_imul rfl ?_
                  refine w_load rfl rfl rfl ?_
                  refine w_iadd rfl ?_
                  refine w_zald rfl (hT.t rfl) (hT.n rfl) (by omega) (by decide) ?_
                  refine w_st5 rfl rfl rfl ?_
                  refine w_load rfl rfl rfl ?_
                  refine w_getP rfl hT.o (hT.p rfl) ?_
                  refine w_const (5) rfl rfl ?_
                  refine w_load rfl rfl rfl ?_
                  refine w_imul rfl ?_
                  refine w_load rfl rfl rfl ?_
                  refine w_iadd rfl ?_
                  refine w_load rfl rfl rfl ?_
                  refine w_zast rfl (hT.t rfl) (hT.n rfl) (by omega) (by decide) ht ?_
                  refine w_load rfl rfl rfl ?_
                  refine w_ireturn rfl (by rw [zA_wF _ _ _ _ _ _ (by decide)]; rcases hcv (5 * a + b) with h | h <;> rw [h] <;> rfl) ?_
                  first
                  | exact RI.mk (Or.inl ⟨by omega, rfl, rfl⟩)
                  | exact RI.mk (Or.inr ⟨by omega, by rw [zA_wF _ _ _ _ _ _ (by decide)], rfl⟩)
                · exfalso; simp (disch := omega) only [zF_wF, zF_wA, zF_wJ, zF_wD, zA_wF, zA_wA, zA_wJ, zA_wD, zL_wJ, zL_wF, zL_wA, zL_wD, J_wr, wr_zF, wr_zA, wrJ_zL, wr_id, wrJ_id, ne_eq, reduceCtorEq, not_false_eq_true, not_true_eq_false, if_true, if_false, Nat.reduceEqDiff, eq_self, ha, hb] at hc60 <;> omega
  · try simp (disch := omega) only [zF_wF, zF_wA, zF_wJ, zF_wD, zA_wF, zA_wA, zA_wJ, zA_wD, zL_wJ, zL_wF, zL_wA, zL_wD, J_wr, wr_zF, wr_zA, wrJ_zL, wr_id, wrJ_id, ne_eq, reduceCtorEq, not_false_eq_true, not_true_eq_false, if_true, if_false, Nat.reduceEqDiff, eq_self, ha, hb] at hc2
    refine w_load rfl rfl rfl ?_
    refine w_const (5) rfl rfl ?_
    refine w_icmp_le rfl (fun hc7 => ?_) (fun hc7 => ?_)
    · try simp (disch := omega) only [zF_wF, zF_wA, zF_wJ, zF_wD, zA_wF, zA_wA, zA_wJ, zA_wD, zL_wJ, zL_wF, zL_wA, zL_wD, J_wr, wr_zF, wr_zA, wrJ_zL, wr_id, wrJ_id, ne_eq, reduceCtorEq, not_false_eq_true, not_true_eq_false, if_true, if_false, Nat.reduceEqDiff, eq_self, ha, hb] at hc7
      refine w_load rfl rfl rfl ?_
      refine w_const (1) rfl rfl ?_
      refine w_icmp_lt rfl (fun hc24 => ?_) (fun hc24 => ?_)
      · try simp (disch := omega) only [zF_wF, zF_wA, zF_wJ, zF_wD, zA_wF, zA_wA, zA_wJ, zA_wD, zL_wJ, zL_wF, zL_wA, zL_wD, J_wr, wr_zF, wr_zA, wrJ_zL, wr_id, wrJ_id, ne_eq, reduceCtorEq, not_false_eq_true, not_true_eq_false, if_true, if_false, Nat.reduceEqDiff, eq_self, ha, hb] at hc24
        refine w_const (0) rfl rfl ?_
        refine w_st4 rfl rfl rfl ?_
        refine w_load rfl rfl rfl ?_
        refine w_load rfl rfl rfl ?_
        refine w_if_eq rfl (fun hc47 => ?_) (fun hc47 => ?_)
        · try simp (disch := omega) only [zF_wF, zF_wA, zF_wJ, zF_wD, zA_wF, zA_wA, zA_wJ, zA_wD, zL_wJ, zL_wF, zL_wA, zL_wD, J_wr, wr_zF, wr_zA, wrJ_zL, wr_id, wrJ_id, ne_eq, reduceCtorEq, not_false_eq_true, not_true_eq_false, if_true, if_false, Nat.reduceEqDiff, eq_self, ha, hb] at hc47
          refine w_const (1) rfl rfl ?_
          refine w_putI0 rfl hT.o ?_
          refine w_load rfl rfl rfl ?_
          refine w_if_ne rfl (fun hc60 => ?_) (fun hc60 => ?_)
          · exfalso; simp (disch := omega) only [zF_wF, zF_wA, zF_wJ, zF_wD, zA_wF, zA_wA, zA_wJ, zA_wD, zL_wJ, zL_wF, zL_wA, zL_wD, J_wr, wr_zF, wr_zA, wrJ_zL, wr_id, wrJ_id, ne_eq, reduceCtorEq, not_false_eq_true, not_true_eq_false, if_true, if_false, Nat.reduceEqDiff, eq_self, ha, hb] at hc60 <;> omega
          · try simp (disch := omega) only [zF_wF, zF_wA, zF_wJ, zF_wD, zA_wF, zA_wA, zA_wJ, zA_wD, zL_wJ, zL_wF, zL_wA, zL_wD, J_wr, wr_zF, wr_zA, wrJ_zL, wr_id, wrJ_id, ne_eq, reduceCtorEq, not_false_eq_true, not_true_eq_false, if_true, if_false, Nat.reduceEqDiff, eq_self, ha, hb] at hc60
            refine w_const (0) rfl rfl ?_
            refine w_ireturn rfl rfl ?_
            first
            | exact RI.mk (Or.inl ⟨by omega, rfl, rfl⟩)
            | exact RI.mk (Or.inr ⟨by omega, by rw [zA_wF _ _ _ _ _ _ (by decide)], rfl⟩)
        · exfalso; simp (disch := omega) only [zF_wF, zF_wA, zF_wJ, zF_wD, zA_wF, zA_wA, zA_wJ, zA_wD, zL_wJ, zL_wF, zL_wA, zL_wD, J_wr, wr_zF, wr_zA, wrJ_zL, wr_id, wrJ_id, ne_eq, reduceCtorEq, not_false_eq_true, not_true_eq_false, if_true, if_false, Nat.reduceEqDiff, eq_self, ha, hb] at hc47 <;> omega
      · try simp (disch := omega) only [zF_wF, zF_wA, zF_wJ, zF_wD, zA_wF, zA_wA, zA_wJ, zA_wD, zL_wJ, zL_wF, zL_wA, zL_wD, J_wr, wr_zF, wr_zA, wrJ_zL, wr_id, wrJ_id, ne_eq, reduceCtorEq, not_false_eq_true, not_true_eq_false, if_true, if_false, Nat.reduceEqDiff, eq_self, ha, hb] at hc24
        refine w_load rfl rfl rfl ?_
        refine w_const (4) rfl rfl ?_
        refine w_icmp_gt rfl (fun hc29 => ?_) (fun hc29 => ?_)
        · try simp (disch := omega) only [zF_wF, zF_wA, zF_wJ, zF_wD, zA_wF, zA_wA, zA_wJ, zA_wD, zL_wJ, zL_wF, zL_wA, zL_wD, J_wr, wr_zF, wr_zA, wrJ_zL, wr_id, wrJ_id, ne_eq, reduceCtorEq, not_false_eq_true, not_true_eq_false, if_true, if_false, Nat.reduceEqDiff, eq_self, ha, hb] at hc29
          refine w_const (0) rfl rfl ?_
          refine w_st4 rfl rfl rfl ?_
          refine w_load rfl rfl rfl ?_
          refine w_load rfl rfl rfl ?_
          refine w_if_eq rfl (fun hc47 => ?_) (fun hc47 => ?_)
          · try simp (disch := omega) only [zF_wF, zF_wA, zF_wJ, zF_wD, zA_wF, zA_wA, zA_wJ, zA_wD, zL_wJ, zL_wF, zL_wA, zL_wD, J_wr, wr_zF, wr_zA, wrJ_zL, wr_id, wrJ_id, ne_eq, reduceCtorEq, not_false_eq_true, not_true_eq_false, if_true, if_false, Nat.reduceEqDiff, eq_self, ha, hb] at hc47
            refine w_const (1) rfl rfl ?_
            refine w_putI0 rfl hT.o ?_
            refine w_load rfl rfl rfl ?_
            refine w_if_ne rfl (fun hc60 => ?_) (fun hc60 => ?_)
            · exfalso; simp (disch := omega) only [zF_wF, zF_wA, zF_wJ, zF_wD, zA_wF, zA_wA, zA_wJ, zA_wD, zL_wJ, zL_wF, zL_wA, zL_wD, J_wr, wr_zF, wr_zA, wrJ_zL, wr_id, wrJ_id, ne_eq, reduceCtorEq, not_false_eq_true, not_true_eq_false, if_true, if_false, Nat.reduceEqDiff, eq_self, ha, hb] at hc60 <;> omega
            · try simp (disch := omega) only [zF_wF, zF_wA, zF_wJ, zF_wD, zA_wF, zA_wA, zA_wJ, zA_wD, zL_wJ, zL_wF, zL_wA, zL_wD, J_wr, wr_zF, wr_zA, wrJ_zL, wr_id, wrJ_id, ne_eq, reduceCtorEq, not_false_eq_true, not_true_eq_false, if_true, if_false, Nat.reduceEqDiff, eq_self, ha, hb] at hc60
              refine w_const (0) rfl rfl ?_
              refine w_ireturn rfl rfl ?_
              first
              | exact RI.mk (Or.inl ⟨by omega, rfl, rfl⟩)
              | exact RI.mk (Or.inr ⟨by omega, by rw [zA_wF _ _ _ _ _ _ (by decide)], rfl⟩)
          · exfalso; simp (disch := omega) only [zF_wF, zF_wA, zF_wJ, zF_wD, zA_wF, zA_wA, zA_wJ, zA_wD, zL_wJ, zL_wF, zL_wA, zL_wD, J_wr, wr_zF, wr_zA, wrJ_zL, wr_id, wrJ_id, ne_eq, reduceCtorEq, not_false_eq_true, not_true_eq_false, if_true, if_false, Nat.reduceEqDiff, eq_self, ha, hb] at hc47 <;> omega
        · try simp (disch := omega) only [zF_wF, zF_wA, zF_wJ, zF_wD, zA_wF, zA_wA, zA_wJ, zA_wD, zL_wJ, zL_wF, zL_wA, zL_wD, J_wr, wr_zF, wr_zA, wrJ_zL, wr_id, wrJ_id, ne_eq, reduceCtorEq, not_false_eq_true, not_true_eq_false, if_true, if_false, Nat.reduceEqDiff, eq_self, ha, hb] at hc29
          refine w_load rfl rfl rfl ?_
          refine w_load rfl rfl rfl ?_
          refine w_icmp_eq rfl (fun hc34 => ?_) (fun hc34 => ?_)
          · try simp (disch := omega) only [zF_wF, zF_wA, zF_wJ, zF_wD, zA_wF, zA_wA, zA_wJ, zA_wD, zL_wJ, zL_wF, zL_wA, zL_wD, J_wr, wr_zF, wr_zA, wrJ_zL, wr_id, wrJ_id, ne_eq, reduceCtorEq, not_false_eq_true, not_true_eq_false, if_true, if_false, Nat.reduceEqDiff, eq_self, ha, hb] at hc34
            refine w_const (0) rfl rfl ?_
            refine w_st4 rfl rfl rfl ?_
            refine w_load rfl rfl rfl ?_
            refine w_load rfl rfl rfl ?_
            refine w_if_eq rfl (fun hc47 => ?_) (fun hc47 => ?_)
            · try simp (disch := omega) only [zF_wF, zF_wA, zF_wJ, zF_wD, zA_wF, zA_wA, zA_wJ, zA_wD, zL_wJ, zL_wF, zL_wA, zL_wD, J_wr, wr_zF, wr_zA, wrJ_zL, wr_id, wrJ_id, ne_eq, reduceCtorEq, not_false_eq_true, not_true_eq_false, if_true, if_false, Nat.reduceEqDiff, eq_self, ha, hb] at hc47
              refine w_const (1) rfl rfl ?_
              refine w_putI0 rfl hT.o ?_
              refine w_load rfl rfl rfl ?_
              refine w_if_ne rfl (fun hc60 => ?_) (fun hc60 => ?_)
              · exfalso; simp (disch := omega) only [zF_wF, zF_wA, zF_wJ, zF_wD, zA_wF, zA_wA, zA_wJ, zA_wD, zL_wJ, zL_wF, zL_wA, zL_wD, J_wr, wr_zF, wr_zA, wrJ_zL, wr_id, wrJ_id, ne_eq, reduceCtorEq, not_false_eq_true, not_true_eq_false, if_true, if_false, Nat.reduceEqDiff, eq_self, ha, hb] at hc60 <;> omega
              · try simp (disch := omega) only [zF_wF, zF_wA, zF_wJ, zF_wD, zA_wF, zA_wA, zA_wJ, zA_wD, zL_wJ, zL_wF, zL_wA, zL_wD, J_wr, wr_zF, wr_zA, wrJ_zL, wr_id, wrJ_id, ne_eq, reduceCtorEq, not_false_eq_true, not_true_eq_false, if_true, if_false, Nat.reduceEqDiff, eq_self, ha, hb] at hc60
                refine w_const (0) rfl rfl ?_
                refine w_ireturn rfl rfl ?_
                first
                | exact RI.mk (Or.inl ⟨by omega, rfl, rfl⟩)
                | exact RI.mk (Or.inr ⟨by omega, by rw [zA_wF _ _ _ _ _ _ (by decide)], rfl⟩)
            · exfalso; simp (disch := omega) only [zF_wF, zF_wA, zF_wJ, zF_wD, zA_wF, zA_wA, zA_wJ, zA_wD, zL_wJ, zL_wF, zL_wA, zL_wD, J_wr, wr_zF, wr_zA, wrJ_zL, wr_id, wrJ_id, ne_eq, reduceCtorEq, not_false_eq_true, not_true_eq_false, if_true, if_false, Nat.reduceEqDiff, eq_self, ha, hb] at hc47 <;> omega
          · try simp (disch := omega) only [zF_wF, zF_wA, zF_wJ, zF_wD, zA_wF, zA_wA, zA_wJ, zA_wD, zL_wJ, zL_wF, zL_wA, zL_wD, J_wr, wr_zF, wr_zA, wrJ_zL, wr_id, wrJ_id, ne_eq, reduceCtorEq, not_false_eq_true, not_true_eq_false, if_true, if_false, Nat.reduceEqDiff, eq_self, ha, hb] at hc34
            refine w_const (1) rfl rfl ?_
            refine w_goto rfl ?_
            refine w_st4 rfl rfl rfl ?_
            refine w_load rfl rfl rfl ?_
            refine w_load rfl rfl rfl ?_
            refine w_if_eq rfl (fun hc47 => ?_) (fun hc47 => ?_)
            · exfalso; simp (disch := omega) only [zF_wF, zF_wA, zF_wJ, zF_wD, zA_wF, zA_wA, zA_wJ, zA_wD, zL_wJ, zL_wF, zL_wA, zL_wD, J_wr, wr_zF, wr_zA, wrJ_zL, wr_id, wrJ_id, ne_eq, reduceCtorEq, not_false_eq_true, not_true_eq_false, if_true, if_false, Nat.reduceEqDiff, eq_self, ha, hb] at hc47 <;> omega
            · try simp (disch := omega) only [zF_wF, zF_wA, zF_wJ, zF_wD, zA_wF, zA_wA, zA_wJ, zA_wD, zL_wJ, zL_wF, zL_wA, zL_wD, J_wr, wr_zF, wr_zA, wrJ_zL, wr_id, wrJ_id, ne_eq, reduceCtorEq, not_false_eq_true, not_true_eq_false, if_true, if_false, Nat.reduceEqDiff, eq_self, ha, hb] at hc47
              refine w_const (0) rfl rfl ?_
              refine w_goto rfl ?_
              refine w_putI0 rfl hT.o ?_
              refine w_load rfl rfl rfl ?_
              refine w_if_ne rfl (fun hc60 => ?_) (fun hc60 => ?_)
              · try simp (disch := omega) only [zF_wF, zF_wA, zF_wJ, zF_wD, zA_wF, zA_wA, zA_wJ, zA_wD, zL_wJ, zL_wF, zL_wA, zL_wD, J_wr, wr_zF, wr_zA, wrJ_zL, wr_id, wrJ_id, ne_eq, reduceCtorEq, not_false_eq_true, not_true_eq_false, if_true, if_false, Nat.reduceEqDiff, eq_self, ha, hb] at hc60
                refine w_load rfl rfl rfl ?_
                refine w_getP rfl hT.o (hT.p rfl) ?_
                refine w_const (5) rfl rfl ?_
                refine w_load rfl rfl rfl ?_
                refine w_imul rfl ?_
                refine w_load rfl rfl rfl ?_
                refine w_iadd rfl ?_
                refine w_zald rfl (hT.t rfl) (hT.n rfl) (by omega) (by decide) ?_
                refine w_st5 rfl rfl rfl ?_
                refine w_load rfl rfl rfl ?_
                refine w_getP rfl hT.o (hT.p rfl) ?_
                refine w_const (5) rfl rfl ?_
                refine w_load rfl rfl rfl ?_
                refine w_imul rfl ?_
                refine w_load rfl rfl rfl ?_
                refine w_iadd rfl ?_
                refine w_load rfl rfl rfl ?_
                refine w_zast rfl (hT.t rfl) (hT.n rfl) (by omega) (by decide) ht ?_
                refine w_load rfl rfl rfl ?_
                refine w_ireturn rfl (by rw [zA_wF _ _ _ _ _ _ (by decide)]; rcases hcv (5 * a + b) with h | h <;> rw [h] <;> rfl) ?_
                first
                | exact RI.mk (Or.inl ⟨by omega, rfl, rfl⟩)
                | exact RI.mk (Or.inr ⟨by omega, by rw [zA_wF _ _ _ _ _ _ (by decide)], rfl⟩)
              · exfalso; simp (disch := omega) only [zF_wF, zF_wA, zF_wJ, zF_wD, zA_wF, zA_wA, zA_wJ, zA_wD, zL_wJ, zL_wF, zL_wA, zL_wD, J_wr, wr_zF, wr_zA, wrJ_zL, wr_id, wrJ_id, ne_eq, reduceCtorEq, not_false_eq_true, not_true_eq_false, if_true, if_false, Nat.reduceEqDiff, eq_self, ha, hb] at hc60 <;> omega
    · try simp (disch := omega) only [zF_wF, zF_wA, zF_wJ, zF_wD, zA_wF, zA_wA, zA_wJ, zA_wD, zL_wJ, zL_wF, zL_wA, zL_wD, J_wr, wr_zF, wr_zA, wrJ_zL, wr_id, wrJ_id, ne_eq, reduceCtorEq, not_false_eq_true, not_true_eq_false, if_true, if_false, Nat.reduceEqDiff, eq_self, ha, hb] at hc7
      refine w_load rfl rfl rfl ?_
      refine w_const (8) rfl rfl ?_
      refine w_icmp_lt rfl (fun hc13 => ?_) (fun hc13 => ?_)
      · try simp (disch := omega) only [zF_wF, zF_wA, zF_wJ, zF_wD, zA_wF, zA_wA, zA_wJ, zA_wD, zL_wJ, zL_wF, zL_wA, zL_wD, J_wr, wr_zF, wr_zA, wrJ_zL, wr_id, wrJ_id, ne_eq, reduceCtorEq, not_false_eq_true, not_true_eq_false, if_true, if_false, Nat.reduceEqDiff, eq_self, ha, hb] at hc13
        refine w_const (0) rfl rfl ?_
        refine w_st4 rfl rfl rfl ?_
        refine w_load rfl rfl rfl ?_
        refine w_load rfl rfl rfl ?_
        refine w_if_eq rfl (fun hc47 => ?_) (fun hc47 => ?_)
        · try simp (disch := omega) only [zF_wF, zF_wA, zF_wJ, zF_wD, zA_wF, zA_wA, zA_wJ, zA_wD, zL_wJ, zL_wF, zL_wA, zL_wD, J_wr, wr_zF, wr_zA, wrJ_zL, wr_id, wrJ_id, ne_eq, reduceCtorEq, not_false_eq_true, not_true_eq_false, if_true, if_false, Nat.reduceEqDiff, eq_self, ha, hb] at hc47
          refine w_const (1) rfl rfl ?_
          refine w_putI0 rfl hT.o ?_
          refine w_load rfl rfl rfl ?_
          refine w_if_ne rfl (fun hc60 => ?_) (fun hc60 => ?_)
          · exfalso; simp (disch := omega) only [zF_wF, zF_wA, zF_wJ, zF_wD, zA_wF, zA_wA, zA_wJ, zA_wD, zL_wJ, zL_wF, zL_wA, zL_wD, J_wr, wr_zF, wr_zA, wrJ_zL, wr_id, wrJ_id, ne_eq, reduceCtorEq, not_false_eq_true, not_true_eq_false, if_true, if_false, Nat.reduceEqDiff, eq_self, ha, hb] at hc60 <;> omega
          · try simp (disch := omega) only [zF_wF, zF_wA, zF_wJ, zF_wD, zA_wF, zA_wA, zA_wJ, zA_wD, zL_wJ, zL_wF, zL_wA, zL_wD, J_wr, wr_zF, wr_zA, wrJ_zL, wr_id, wrJ_id, ne_eq, reduceCtorEq, not_false_eq_true, not_true_eq_false, if_true, if_false, Nat.reduceEqDiff, eq_self, ha, hb] at hc60
            refine w_const (0) rfl rfl ?_
            refine w_ireturn rfl rfl ?_
            first
            | exact RI.mk (Or.inl ⟨by omega, rfl, rfl⟩)
            | exact RI.mk (Or.inr ⟨by omega, by rw [zA_wF _ _ _ _ _ _ (by decide)], rfl⟩)
        · exfalso; simp (disch := omega) only [zF_wF, zF_wA, zF_wJ, zF_wD, zA_wF, zA_wA, zA_wJ, zA_wD, zL_wJ, zL_wF, zL_wA, zL_wD, J_wr, wr_zF, wr_zA, wrJ_zL, wr_id, wrJ_id, ne_eq, reduceCtorEq, not_false_eq_true, not_true_eq_false, if_true, if_false, Nat.reduceEqDiff, eq_self, ha, hb] at hc47 <;> omega
      · try simp (disch := omega) only [zF_wF, zF_wA, zF_wJ, zF_wD, zA_wF, zA_wA, zA_wJ, zA_wD, zL_wJ, zL_wF, zL_wA, zL_wD, J_wr, wr_zF, wr_zA, wrJ_zL, wr_id, wrJ_id, ne_eq, reduceCtorEq, not_false_eq_true, not_true_eq_false, if_true, if_false, Nat.reduceEqDiff, eq_self, ha, hb] at hc13
        refine w_load rfl rfl rfl ?_
        refine w_const (12) rfl rfl ?_
        refine w_icmp_gt rfl (fun hc19 => ?_) (fun hc19 => ?_)
        · try simp (disch := omega) only [zF_wF, zF_wA, zF_wJ, zF_wD, zA_wF, zA_wA, zA_wJ, zA_wD, zL_wJ, zL_wF, zL_wA, zL_wD, J_wr, wr_zF, wr_zA, wrJ_zL, wr_id, wrJ_id, ne_eq, reduceCtorEq, not_false_eq_true, not_true_eq_false, if_true, if_false, Nat.reduceEqDiff, eq_self, ha, hb] at hc19
          refine w_const (0) rfl rfl ?_
          refine w_st4 rfl rfl rfl ?_
          refine w_load rfl rfl rfl ?_
          refine w_load rfl rfl rfl ?_
          refine w_if_eq rfl (fun hc47 => ?_) (fun hc47 => ?_)
          · try simp (disch := omega) only [zF_wF, zF_wA, zF_wJ, zF_wD, zA_wF, zA_wA, zA_wJ, zA_wD, zL_wJ, zL_wF, zL_wA, zL_wD, J_wr, wr_zF, wr_zA, wrJ_zL, wr_id, wrJ_id, ne_eq, reduceCtorEq, not_false_eq_true, not_true_eq_false, if_true, if_false, Nat.reduceEqDiff, eq_self, ha, hb] at hc47
            refine w_const (1) rfl rfl ?_
            refine w_putI0 rfl hT.o ?_
            refine w_load rfl rfl rfl ?_
            refine w_if_ne rfl (fun hc60 => ?_) (fun hc60 => ?_)
            · exfalso; simp (disch := omega) only [zF_wF, zF_wA, zF_wJ, zF_wD, zA_wF, zA_wA, zA_wJ, zA_wD, zL_wJ, zL_wF, zL_wA, zL_wD, J_wr, wr_zF, wr_zA, wrJ_zL, wr_id, wrJ_id, ne_eq, reduceCtorEq, not_false_eq_true, not_true_eq_false, if_true, if_false, Nat.reduceEqDiff, eq_self, ha, hb] at hc60 <;> omega
            · try simp (disch := omega) only [zF_wF, zF_wA, zF_wJ, zF_wD, zA_wF, zA_wA, zA_wJ, zA_wD, zL_wJ, zL_wF, zL_wA, zL_wD, J_wr, wr_zF, wr_zA, wrJ_zL, wr_id, wrJ_id, ne_eq, reduceCtorEq, not_false_eq_true, not_true_eq_false, if_true, if_false, Nat.reduceEqDiff, eq_self, ha, hb] at hc60
              refine w_const (0) rfl rfl ?_
              refine w_ireturn rfl rfl ?_
              first
              | exact RI.mk (Or.inl ⟨by omega, rfl, rfl⟩)
              | exact RI.mk (Or.inr ⟨by omega, by rw [zA_wF _ _ _ _ _ _ (by decide)], rfl⟩)
          · exfalso; simp (disch := omega) only [zF_wF, zF_wA, zF_wJ, zF_wD, zA_wF, zA_wA, zA_wJ, zA_wD, zL_wJ, zL_wF, zL_wA, zL_wD, J_wr, wr_zF, wr_zA, wrJ_zL, wr_id, wrJ_id, ne_eq, reduceCtorEq, not_false_eq_true, not_true_eq_false, if_true, if_false, Nat.reduceEqDiff, eq_self, ha, hb] at hc47 <;> omega
        · try simp (disch := omega) only [zF_wF, zF_wA, zF_wJ, zF_wD, zA_wF, zA_wA, zA_wJ, zA_wD, zL_wJ, zL_wF, zL_wA, zL_wD, J_wr, wr_zF, wr_zA, wrJ_zL, wr_id, wrJ_id, ne_eq, reduceCtorEq, not_false_eq_true, not_true_eq_false, if_true, if_false, Nat.reduceEqDiff, eq_self, ha, hb] at hc19
          refine w_load rfl rfl rfl ?_
          refine w_const (1) rfl rfl ?_
          refine w_icmp_lt rfl (fun hc24 => ?_) (fun hc24 => ?_)
          · try simp (disch := omega) only [zF_wF, zF_wA, zF_wJ, zF_wD, zA_wF, zA_wA, zA_wJ, zA_wD, zL_wJ, zL_wF, zL_wA, zL_wD, J_wr, wr_zF, wr_zA, wrJ_zL, wr_id, wrJ_id, ne_eq, reduceCtorEq, not_false_eq_true, not_true_eq_false, if_true, if_false, Nat.reduceEqDiff, eq_self, ha, hb] at hc24
            refine w_const (0) rfl rfl ?_
            refine w_st4 rfl rfl rfl ?_
            refine w_load rfl rfl rfl ?_
            refine w_load rfl rfl rfl ?_
            refine w_if_eq rfl (fun hc47 => ?_) (fun hc47 => ?_)
            · try simp (disch := omega) only [zF_wF, zF_wA, zF_wJ, zF_wD, zA_wF, zA_wA, zA_wJ, zA_wD, zL_wJ, zL_wF, zL_wA, zL_wD, J_wr, wr_zF, wr_zA, wrJ_zL, wr_id, wrJ_id, ne_eq, reduceCtorEq, not_false_eq_true, not_true_eq_false, if_true, if_false, Nat.reduceEqDiff, eq_self, ha, hb] at hc47
              refine w_const (1) rfl rfl ?_
              refine w_putI0 rfl hT.o ?_
              refine w_load rfl rfl rfl ?_
              refine w_if_ne rfl (fun hc60 => ?_) (fun hc60 => ?_)
              · exfalso; simp (disch := omega) only [zF_wF, zF_wA, zF_wJ, zF_wD, zA_wF, zA_wA, zA_wJ, zA_wD, zL_wJ, zL_wF, zL_wA, zL_wD, J_wr, wr_zF, wr_zA, wrJ_zL, wr_id, wrJ_id, ne_eq, reduceCtorEq, not_false_eq_true, not_true_eq_false, if_true, if_false, Nat.reduceEqDiff, eq_self, ha, hb] at hc60 <;> omega
              · try simp (disch := omega) only [zF_wF, zF_wA, zF_wJ, zF_wD, zA_wF, zA_wA, zA_wJ, zA_wD, zL_wJ, zL_wF, zL_wA, zL_wD, J_wr, wr_zF, wr_zA, wrJ_zL, wr_id, wrJ_id, ne_eq, reduceCtorEq, not_false_eq_true, not_true_eq_false, if_true, if_false, Nat.reduceEqDiff, eq_self, ha, hb] at hc60
                refine w_const (0) rfl rfl ?_
                refine w_ireturn rfl rfl ?_
                first
                | exact RI.mk (Or.inl ⟨by omega, rfl, rfl⟩)
                | exact RI.mk (Or.inr ⟨by omega, by rw [zA_wF _ _ _ _ _ _ (by decide)], rfl⟩)
            · exfalso; simp (disch := omega) only [zF_wF, zF_wA, zF_wJ, zF_wD, zA_wF, zA_wA, zA_wJ, zA_wD, zL_wJ, zL_wF, zL_wA, zL_wD, J_wr, wr_zF, wr_zA, wrJ_zL, wr_id, wrJ_id, ne_eq, reduceCtorEq, not_false_eq_true, not_true_eq_false, if_true, if_false, Nat.reduceEqDiff, eq_self, ha, hb] at hc47 <;> omega
          · try simp (disch := omega) only [zF_wF, zF_wA, zF_wJ, zF_wD, zA_wF, zA_wA, zA_wJ, zA_wD, zL_wJ, zL_wF, zL_wA, zL_wD, J_wr, wr_zF, wr_zA, wrJ_zL, wr_id, wrJ_id, ne_eq, reduceCtorEq, not_false_eq_true, not_true_eq_false, if_true, if_false, Nat.reduceEqDiff, eq_self, ha, hb] at hc24
            refine w_load rfl rfl rfl ?_
            refine w_const (4) rfl rfl ?_
            refine w_icmp_gt rfl (fun hc29 => ?_) (fun hc29 => ?_)
            · try simp (disch := omega) only [zF_wF, zF_wA, zF_wJ, zF_wD, zA_wF, zA_wA, zA_wJ, zA_wD, zL_wJ, zL_wF, zL_wA, zL_wD, J_wr, wr_zF, wr_zA, wrJ_zL, wr_id, wrJ_id, ne_eq, reduceCtorEq, not_false_eq_true, not_true_eq_false, if_true, if_false, Nat.reduceEqDiff, eq_self, ha, hb] at hc29
              refine w_const (0) rfl rfl ?_
              refine w_st4 rfl rfl rfl ?_
              refine w_load rfl rfl rfl ?_
              refine w_load rfl rfl rfl ?_
              refine w_if_eq rfl (fun hc47 => ?_) (fun hc47 => ?_)
              · try simp (disch := omega) only [zF_wF, zF_wA, zF_wJ, zF_wD, zA_wF, zA_wA, zA_wJ, zA_wD, zL_wJ, zL_wF, zL_wA, zL_wD, J_wr, wr_zF, wr_zA, wrJ_zL, wr_id, wrJ_id, ne_eq, reduceCtorEq, not_false_eq_true, not_true_eq_false, if_true, if_false, Nat.reduceEqDiff, eq_self, ha, hb] at hc47
                refine w_const (1) rfl rfl ?_
                refine w_putI0 rfl hT.o ?_
                refine w_load rfl rfl rfl ?_
                refine w_if_ne rfl (fun hc60 => ?_) (fun hc60 => ?_)
                · exfalso; simp (disch := omega) only [zF_wF, zF_wA, zF_wJ, zF_wD, zA_wF, zA_wA, zA_wJ, zA_wD, zL_wJ, zL_wF, zL_wA, zL_wD, J_wr, wr_zF, wr_zA, wrJ_zL, wr_id, wrJ_id, ne_eq, reduceCtorEq, not_false_eq_true, not_true_eq_false, if_true, if_false, Nat.reduceEqDiff, eq_self, ha, hb] at hc60 <;> omega
                · try simp (disch := omega) only [zF_wF, zF_wA, zF_wJ, zF_wD, zA_wF, zA_wA, zA_wJ, zA_wD, zL_wJ, zL_wF, zL_wA, zL_wD, J_wr, wr_zF, wr_zA, wrJ_zL, wr_id, wrJ_id, ne_eq, reduceCtorEq, not_false_eq_true, not_true_eq_false, if_true, if_false, Nat.reduceEqDiff, eq_self, ha, hb] at hc60
                  refine w_const (0) rfl rfl ?_
                  refine w_ireturn rfl rfl ?_
                  first
                  | exact RI.mk (Or.inl ⟨by omega, rfl, rfl⟩)
                  | exact RI.mk (Or.inr ⟨by omega, by rw [zA_wF _ _ _ _ _ _ (by decide)], rfl⟩)
              · exfalso; simp (disch := omega) only [zF_wF, zF_wA, zF_wJ, zF_wD, zA_wF, zA_wA, zA_wJ, zA_wD, zL_wJ, zL_wF, zL_wA, zL_wD, J_wr, wr_zF, wr_zA, wrJ_zL, wr_id, wrJ_id, ne_eq, reduceCtorEq, not_false_eq_true, not_true_eq_false, if_true, if_false, Nat.reduceEqDiff, eq_self, ha, hb] at hc47 <;> omega
            · try simp (disch := omega) only [zF_wF, zF_wA, zF_wJ, zF_wD, zA_wF, zA_wA, zA_wJ, zA_wD, zL_wJ, zL_wF, zL_wA, zL_wD, J_wr, wr_zF, wr_zA, wrJ_zL, wr_id, wrJ_id, ne_eq, reduceCtorEq, not_false_eq_true, not_true_eq_false, if_true, if_false, Nat.reduceEqDiff, eq_self, ha, hb] at hc29
              refine w_load rfl rfl rfl ?_
              refine w_load rfl rfl rfl ?_
              refine w_icmp_eq rfl (fun hc34 => ?_) (fun hc34 => ?_)
              · try simp (disch := omega) only [zF_wF, zF_wA, zF_wJ, zF_wD, zA_wF, zA_wA, zA_wJ, zA_wD, zL_wJ, zL_wF, zL_wA, zL_wD, J_wr, wr_zF, wr_zA, wrJ_zL, wr_id, wrJ_id, ne_eq, reduceCtorEq, not_false_eq_true, not_true_eq_false, if_true, if_false, Nat.reduceEqDiff, eq_self, ha, hb] at hc34
                refine w_const (0) rfl rfl ?_
                refine w_st4 rfl rfl rfl ?_
                refine w_load rfl rfl rfl ?_
                refine w_load rfl rfl rfl ?_
                refine w_if_eq rfl (fun hc47 => ?_) (fun hc47 => ?_)
                · try simp (disch := omega) only [zF_wF, zF_wA, zF_wJ, zF_wD, zA_wF, zA_wA, zA_wJ, zA_wD, zL_wJ, zL_wF, zL_wA, zL_wD, J_wr, wr_zF, wr_zA, wrJ_zL, wr_id, wrJ_id, ne_eq, reduceCtorEq, not_false_eq_true, not_true_eq_false, if_true, if_false, Nat.reduceEqDiff, eq_self, ha, hb] at hc47
                  refine w_const (1) rfl rfl ?_
                  refine w_putI0 rfl hT.o ?_
                  refine w_load rfl rfl rfl ?_
                  refine w_if_ne rfl (fun hc60 => ?_) (fun hc60 => ?_)
                  · exfalso; simp (disch := omega) only [zF_wF, zF_wA, zF_wJ, zF_wD, zA_wF, zA_wA, zA_wJ, zA_wD, zL_wJ, zL_wF, zL_wA, zL_wD, J_wr, wr_zF, wr_zA, wrJ_zL, wr_id, wrJ_id, ne_eq, reduceCtorEq, not_false_eq_true, not_true_eq_false, if_true, if_false, Nat.reduceEqDiff, eq_self, ha, hb] at hc60 <;> omega
                  · try simp (disch := omega) only [zF_wF, zF_wA, zF_wJ, zF_wD, zA_wF, zA_wA, zA_wJ, zA_wD, zL_wJ, zL_wF, zL_wA, zL_wD, J_wr, wr_zF, wr_zA, wrJ_zL, wr_id, wrJ_id, ne_eq, reduceCtorEq, not_false_eq_true, not_true_eq_false, if_true, if_false, Nat.reduceEqDiff, eq_self, ha, hb] at hc60
                    refine w_const (0) rfl rfl ?_
                    refine w_ireturn rfl rfl ?_
                    first
                    | exact RI.mk (Or.inl ⟨by omega, rfl, rfl⟩)
                    | exact RI.mk (Or.inr ⟨by omega, by rw [zA_wF _ _ _ _ _ _ (by decide)], rfl⟩)
                · exfalso; simp (disch := omega) only [zF_wF, zF_wA, zF_wJ, zF_wD, zA_wF, zA_wA, zA_wJ, zA_wD, zL_wJ, zL_wF, zL_wA, zL_wD, J_wr, wr_zF, wr_zA, wrJ_zL, wr_id, wrJ_id, ne_eq, reduceCtorEq, not_false_eq_true, not_true_eq_false, if_true, if_false, Nat.reduceEqDiff, eq_self, ha, hb] at hc47 <;> omega
              · try simp (disch := omega) only [zF_wF, zF_wA, zF_wJ, zF_wD, zA_wF, zA_wA, zA_wJ, zA_wD, zL_wJ, zL_wF, zL_wA, zL_wD, J_wr, wr_zF, wr_zA, wrJ_zL, wr_id, wrJ_id, ne_eq, reduceCtorEq, not_false_eq_true, not_true_eq_false, if_true, if_false, Nat.reduceEqDiff, eq_self, ha, hb] at hc34
                refine w_const (1) rfl rfl ?_
                refine w_goto rfl ?_
                refine w_st4 rfl rfl rfl ?_
                refine w_load rfl rfl rfl ?_
                refine w_load rfl rfl rfl ?_
                refine w_if_eq rfl (fun hc47 => ?_) (fun hc47 => ?_)
                · exfalso; simp (disch := omega) only [zF_wF, zF_wA, zF_wJ, zF_wD, zA_wF, zA_wA, zA_wJ, zA_wD, zL_wJ, zL_wF, zL_wA, zL_wD, J_wr, wr_zF, wr_zA, wrJ_zL, wr_id, wrJ_id, ne_eq, reduceCtorEq, not_false_eq_true, not_true_eq_false, if_true, if_false, Nat.reduceEqDiff, eq_self, ha, hb] at hc47 <;> omega
                · try simp (disch := omega) only [zF_wF, zF_wA, zF_wJ, zF_wD, zA_wF, zA_wA, zA_wJ, zA_wD, zL_wJ, zL_wF, zL_wA, zL_wD, J_wr, wr_zF, wr_zA, wrJ_zL, wr_id, wrJ_id, ne_eq, reduceCtorEq, not_false_eq_true, not_true_eq_false, if_true, if_false, Nat.reduceEqDiff, eq_self, ha, hb] at hc47
                  refine w_const (0) rfl rfl ?_
                  refine w_goto rfl ?_
                  refine w_putI0 rfl hT.o ?_
                  refine w_load rfl rfl rfl ?_
                  refine w_if_ne rfl (fun hc60 => ?_) (fun hc60 => ?_)
                  · try simp (disch := omega) only [zF_wF, zF_wA, zF_wJ, zF_wD, zA_wF, zA_wA, zA_wJ, zA_wD, zL_wJ, zL_wF, zL_wA, zL_wD, J_wr, wr_zF, wr_zA, wrJ_zL, wr_id, wrJ_id, ne_eq, reduceCtorEq, not_false_eq_true, not_true_eq_false, if_true, if_false, Nat.reduceEqDiff, eq_self, ha, hb] at hc60
                    refine w_load rfl rfl rfl ?_
                    refine w_getP rfl hT.o (hT.p rfl) ?_
                    refine w_const (5) rfl rfl ?_
                    refine w_load rfl rfl rfl ?_
                    refine w_imul rfl ?_
                    refine w_load rfl rfl rfl ?_
                    refine w_iadd rfl ?_
                    refine w_zald rfl (hT.t rfl) (hT.n rfl) (by omega) (by decide) ?_
                    refine w_st5 rfl rfl rfl ?_
                    refine w_load rfl rfl rfl ?_
                    refine w_getP rfl hT.o (hT.p rfl) ?_
                    refine w_const (5) rfl rfl ?_
                    refine w_load rfl rfl rfl ?_
                    refine w_imul rfl ?_
                    refine w_load rfl rfl rfl ?_
                    refine w_iadd rfl ?_
                    refine w_load rfl rfl rfl ?_
                    refine w_zast rfl (hT.t rfl) (hT.n rfl) (by omega) (by decide) ht ?_
                    refine w_load rfl rfl rfl ?_
                    refine w_ireturn rfl (by rw [zA_wF _ _ _ _ _ _ (by decide)]; rcases hcv (5 * a + b) with h | h <;> rw [h] <;> rfl) ?_
                    first
                    | exact RI.mk (Or.inl ⟨by omega, rfl, rfl⟩)
                    | exact RI.mk (Or.inr ⟨by omega, by rw [zA_wF _ _ _ _ _ _ (by decide)], rfl⟩)
                  · exfalso; simp (disch := omega) only [zF_wF, zF_wA, zF_wJ, zF_wD, zA_wF, zA_wA, zA_wJ, zA_wD, zL_wJ, zL_wF, zL_wA, zL_wD, J_wr, wr_zF, wr_zA, wrJ_zL, wr_id, wrJ_id, ne_eq, reduceCtorEq, not_false_eq_true, not_true_eq_false, if_true, if_false, Nat.reduceEqDiff, eq_self, ha, hb] at hc60 <;> omega
end tw17

