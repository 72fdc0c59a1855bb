/-! THE TWIN: names, quoted texts, signs -/
set_option maxRecDepth 100000
theorem p7 (i : Nat) : (2 : Int) ^ (7 * (i + 1)) = 128 * 2 ^ (7 * i) := by
  rw [show 7 * (i + 1) = 7 * i + 7 by omega, Int.pow_add, Int.mul_comm]
  rfl
theorem p7_pos (i : Nat) : 0 < (2 : Int) ^ (7 * i) := Int.pow_pos (by decide)
theorem p7_le : ∀ i, i ≤ 8 → (2 : Int) ^ (7 * i) ≤ 72057594037927936 := by decide
theorem pk_bound {v c : Int} {i : Nat} (hv : 0 ≤ v ∧ v < 2 ^ (7 * i)) (hc : 0 ≤ c ∧ c < 128) : 0 ≤ v + c * 2 ^ (7 * i) ∧ v + c * 2 ^ (7 * i) < 2 ^ (7 * (i + 1)) := by
  have hp := p7_pos i
  have h1 : 0 ≤ c * 2 ^ (7 * i) := Int.mul_nonneg hc.1 (by omega)
  have h2 : c * 2 ^ (7 * i) ≤ 127 * 2 ^ (7 * i) := Int.mul_le_mul_of_nonneg_right (by omega) (by omega)
  rw [p7]
  omega
theorem pk_step {v c z : Int} (i : Nat) (hz : z = 7 * i) (hi : i ≤ 8) (hv : 0 ≤ v ∧ v < 2 ^ (7 * i)) (hc : 0 ≤ c ∧ c < 128) : J v ||| (J c <<< ((N z).toInt64 &&& 63)) = J (v + c * 2 ^ (7 * i)) := by
  have e : z = ((7 * i : Nat) : Int) := by omega
  have hb := pk_bound hv hc
  have hle := p7_le i hi
  have h2 : c * 2 ^ (7 * i) ≤ 127 * 2 ^ (7 * i) := Int.mul_le_mul_of_nonneg_right (by omega) (by have := p7_pos i; omega)
  rw [e, shc (s := 7 * i) (by omega), J_shl c (smd (7 * i) (by omega)) (by omega), J_or hv.1 hv.2 hc.1 (by omega) (by omega)]
section tw3
variable {d : Nat} {G : mG} {Q : mR → Prop}
theorem tw_nam1 {f0 : Int} (hT : TS G) (hs : TX G) (hf : 0 ≤ f0) : ∀ (n : Nat) (k v : Int), f0 ≤ k → k + n = 41 →
    Wp (d + 2, 159, 49, [some (.ref 98), some (.int (N f0)), some (.int (N (spn (fun j => low (tAt G j)) n k))), some (.long (J (nvl (tAt G) f0 n k v))), none], [], G) Q →
    Wp (d + 2, 159, 4, [some (.ref 98), some (.int (N f0)), some (.int (N k)), some (.long (J v)), none], [], G) Q := by
  intro n
  induction n with
  | zero =>
    intro k v hk hkn hx
    have h1 : low (tAt G k) = false := by rw [tAt_far hs (by omega)]; rfl
    refine w_load rfl rfl rfl ?_
    refine w_load rfl rfl rfl ?_
    refine w_callI2 rfl (Nat.le_of_ble_eq_true rfl) (Or.inr (Or.inr hT.o)) (Nat.le_of_ble_eq_true rfl) (tw_lower hT (by omega) hs.2.1) (fun z6 G6 h6 => ?_)
    obtain ⟨rfl, rfl⟩ := h6
    refine w_if_eq rfl (fun hc9 => ?_) (fun hc9 => ?_)
    · try simp (disch := omega) only [zF_wF, zF_wA, zF_wJ, zF_wD, zA_wF, zA_wA, zA_wJ, zA_wD, zL_wJ, zL_wF, zL_wA, zL_wD, J_wr, wr_zF, wr_zA, wrJ_zL, wr_id, wrJ_id, ne_eq, reduceCtorEq, not_false_eq_true, not_true_eq_false, if_true, if_false, Nat.reduceEqDiff, eq_self] at hc9
      exact hx
    · exfalso; rw [h1] at hc9; exact hc9 rfl
  | succ n ih =>
    intro k v hk hkn hx
    rw [spn, nvl] at hx
    refine w_load rfl rfl rfl ?_
    refine w_load rfl rfl rfl ?_
    refine w_callI2 rfl (Nat.le_of_ble_eq_true rfl) (Or.inr (Or.inr hT.o)) (Nat.le_of_ble_eq_true rfl) (tw_lower hT (by omega) hs.2.1) (fun z6 G6 h6 => ?_)
    obtain ⟨rfl, rfl⟩ := h6
    refine w_if_eq rfl (fun hc9 => ?_) (fun hc9 => ?_)
    · try simp (disch := omega) only [zF_wF, zF_wA, zF_wJ, zF_wD, zA_wF, zA_wA, zA_wJ, zA_wD, zL_wJ, zL_wF, zL_wA, zL_wD, J_wr, wr_zF, wr_zA, wrJ_zL, wr_id, wrJ_id, ne_eq, reduceCtorEq, not_false_eq_true, not_true_eq_false, if_true, if_false, Nat.reduceEqDiff, eq_self] at hc9
      have hd : ¬ low (tAt G k) = true := by intro h; rw [if_pos h] at hc9; exact absurd hc9 (by decide)
      rw [if_neg hd, if_neg hd] at hx; exact hx
    · try simp (disch := omega) only [zF_wF, zF_wA, zF_wJ, zF_wD, zA_wF, zA_wA, zA_wJ, zA_wD, zL_wJ, zL_wF, zL_wA, zL_wD, J_wr, wr_zF, wr_zA, wrJ_zL, wr_id, wrJ_id, ne_eq, reduceCtorEq, not_false_eq_true, not_true_eq_false, if_true, if_false, Nat.reduceEqDiff, eq_self] at hc9
      have hd : low (tAt G k) = true := by by_cases h : low (tAt G k) = true; exact h; exfalso; rw [if_neg h] at hc9; exact hc9 rfl
      refine w_load rfl rfl rfl ?_
      refine w_load rfl rfl rfl ?_
      refine w_isub rfl ?_
      refine w_const (6) rfl rfl ?_
      refine w_icmp_ge rfl (fun hc17 => ?_) (fun hc17 => ?_)
      · try simp (disch := omega) only [zF_wF, zF_wA, zF_wJ, zF_wD, zA_wF, zA_wA, zA_wJ, zA_wD, zL_wJ, zL_wF, zL_wA, zL_wD, J_wr, wr_zF, wr_zA, wrJ_zL, wr_id, wrJ_id, ne_eq, reduceCtorEq, not_false_eq_true, not_true_eq_false, if_true, if_false, Nat.reduceEqDiff, eq_self] at hc17
        refine w_load rfl rfl rfl ?_
        refine w_stw3 rfl rfl rfl ?_
        refine w_inc2 (1) rfl rfl rfl ?_
        refine w_goto rfl ?_
        rw [if_pos hd, if_pos hd] at hx
        try rw [wr_tAt]
        first
          | (rw [if_pos (by omega)] at hx; exact ih (k + 1) _ (by omega) (by omega) hx)
          | (rw [if_neg (by omega)] at hx; exact ih (k + 1) _ (by omega) (by omega) hx)
      · try simp (disch := omega) only [zF_wF, zF_wA, zF_wJ, zF_wD, zA_wF, zA_wA, zA_wJ, zA_wD, zL_wJ, zL_wF, zL_wA, zL_wD, J_wr, wr_zF, wr_zA, wrJ_zL, wr_id, wrJ_id, ne_eq, reduceCtorEq, not_false_eq_true, not_true_eq_false, if_true, if_false, Nat.reduceEqDiff, eq_self] at hc17
        refine w_load rfl rfl rfl ?_
        refine w_lconst (27) rfl rfl ?_
        refine w_lmul rfl ?_
        refine w_load rfl rfl rfl ?_
        refine w_load rfl rfl rfl ?_
        refine w_callI2 rfl (Nat.le_of_ble_eq_true rfl) (Or.inr (Or.inr hT.o)) (Nat.le_of_ble_eq_true rfl) (tw_at hT (by omega) hs.2.1) (fun z27 G27 h27 => ?_)
        obtain ⟨rfl, rfl⟩ := h27
        refine w_i2l rfl ?_
        refine w_ladd rfl ?_
        refine w_lconst (97) rfl rfl ?_
        refine w_lsub rfl ?_
        refine w_lconst (1) rfl rfl ?_
        refine w_ladd rfl ?_
        refine w_goto rfl ?_
        refine w_stw3 rfl rfl rfl ?_
        refine w_inc2 (1) rfl rfl rfl ?_
        refine w_goto rfl ?_
        rw [if_pos hd, if_pos hd] at hx
        try rw [wr_tAt]
        first
          | (rw [if_pos (by omega)] at hx; exact ih (k + 1) _ (by omega) (by omega) hx)
          | (rw [if_neg (by omega)] at hx; exact ih (k + 1) _ (by omega) (by omega) hx)
theorem tw_name {f0 : Int} (hT : TS G) (hs : TX G) (hf : 0 ≤ f0 ∧ f0 < 40) (ht : 0 ≤ zF G 98 3 ∧ zF G 98 3 ≤ 40) : Wp (d + 2, 159, 0, [some (.ref 98), some (.int (N f0)), none, none, none], [], G)
    (RI fun z G' => z = naE (tAt G) f0 ∧ G' = if naE (tAt G) f0 - f0 > 5 then wrongG G 1 f0 else addG G 3 f0 (J (naV (tAt G) f0))) := by
  have hn : f0 + (41 - f0).toNat = 41 := by omega
  obtain ⟨m, hm⟩ := fuel41 hf.1 hn
  have g3 := spn_more m _ f0 (far_low hs hn)
  have g4 := nvl_more (k0 := f0) m _ f0 0 (far_low hs hn)
  rw [← hm] at g3 g4
  have h1 : f0 ≤ naE (tAt G) f0 := spn_ge _ _ _
  have h2 : naE (tAt G) f0 ≤ f0 + 41 := spn_le _ _ _
  refine w_load rfl rfl rfl ?_
  refine w_st2 rfl rfl rfl ?_
  refine w_lconst (0) rfl rfl ?_
  refine w_stw3 rfl rfl rfl ?_
  refine tw_nam1 hT hs hf.1 _ f0 0 (by omega) hn ?_
  rw [← g3, ← g4]
  show Wp (d + 2, 159, 49, [some (.ref 98), some (.int (N f0)), some (.int (N (naE (tAt G) f0))), some (.long (J (naV (tAt G) f0))), none], [], G) _
  refine w_load rfl rfl rfl ?_
  refine w_load rfl rfl rfl ?_
  refine w_isub rfl ?_
  refine w_const (5) rfl rfl ?_
  refine w_icmp_le rfl (fun hc53 => ?_) (fun hc53 => ?_)
  · try simp (disch := omega) only [zF_wF, zF_wA, zF_wJ, zF_wD, zA_wF, zA_wA, zA_wJ, zA_wD, zL_wJ, zL_wF, zL_wA, zL_wD, J_wr, wr_zF, wr_zA, wrJ_zL, wr_id, wrJ_id, ne_eq, reduceCtorEq, not_false_eq_true, not_true_eq_false, if_true, if_false, Nat.reduceEqDiff, eq_self] at hc53
    refine w_load rfl rfl rfl ?_
    refine w_const (3) rfl rfl ?_
    refine w_load rfl rfl rfl ?_
    refine w_load rfl rfl rfl ?_
    refine w_callV4 rfl (Nat.le_of_ble_eq_true rfl) (Or.inr (Or.inr hT.o)) (Nat.le_of_ble_eq_true rfl) (tw_add hT (by omega)) (fun G69 h69 => ?_)
    obtain rfl := h69
    refine w_load rfl rfl rfl ?_
    refine w_ireturn rfl rfl ?_
    first | exact RI.mk ⟨rfl, by rw [if_pos (by omega)]⟩ | exact RI.mk ⟨rfl, by rw [if_neg (by omega)]⟩
  · try simp (disch := omega) only [zF_wF, zF_wA, zF_wJ, zF_wD, zA_wF, zA_wA, zA_wJ, zA_wD, zL_wJ, zL_wF, zL_wA, zL_wD, J_wr, wr_zF, wr_zA, wrJ_zL, wr_id, wrJ_id, ne_eq, reduceCtorEq, not_false_eq_true, not_true_eq_false, if_true, if_false, Nat.reduceEqDiff, eq_self] at hc53
    refine w_load rfl rfl rfl ?_
    refine w_const (1) rfl rfl ?_
    refine w_load rfl rfl rfl ?_
    refine w_callV3 rfl (Nat.le_of_ble_eq_true rfl) (Or.inr (Or.inr hT.o)) (Nat.le_of_ble_eq_true rfl) (tw_wrong hT) (fun G59 h59 => ?_)
    obtain rfl := h59
    refine w_goto rfl ?_
    refine w_load rfl rfl rfl ?_
    refine w_ireturn rfl rfl ?_
    first | exact RI.mk ⟨rfl, by rw [if_pos (by omega)]⟩ | exact RI.mk ⟨rfl, by rw [if_neg (by omega)]⟩
theorem tw_twice {c e : Int} (hc : 0 ≤ c ∧ c < 1000) (he : 0 ≤ e ∧ e < 1000) : Wp (d, 162, 0, [some (.int (N c)), some (.int (N e))], [], G) (RI fun z G' => z = (if sgTwo c e = true then 1 else 0) ∧ G = G') := by
  simp only [sgTwo_iff]
  refine w_load rfl rfl rfl ?_
  refine w_const (61) rfl rfl ?_
  refine w_icmp_ne rfl (fun hc3 => ?_) (fun hc3 => ?_)
  · try simp (disch := omega) only [zF_wF, zF_wA, zF_wJ, zF_wD, zA_wF, zA_wA, zA_wJ, zA_wD, zL_wJ, zL_wF, zL_wA, zL_wD, J_wr, wr_zF, wr_zA, wrJ_zL, wr_id, wrJ_id, ne_eq, reduceCtorEq, not_false_eq_true, not_true_eq_false, if_true, if_false, Nat.reduceEqDiff, eq_self] at hc3
    refine w_load rfl rfl rfl ?_
    refine w_const (38) rfl rfl ?_
    refine w_icmp_ne rfl (fun hc33 => ?_) (fun hc33 => ?_)
    · try simp (disch := omega) only [zF_wF, zF_wA, zF_wJ, zF_wD, zA_wF, zA_wA, zA_wJ, zA_wD, zL_wJ, zL_wF, zL_wA, zL_wD, J_wr, wr_zF, wr_zA, wrJ_zL, wr_id, wrJ_id, ne_eq, reduceCtorEq, not_false_eq_true, not_true_eq_false, if_true, if_false, Nat.reduceEqDiff, eq_self] at hc33
      refine w_load rfl rfl rfl ?_
      refine w_const (124) rfl rfl ?_
      refine w_icmp_ne rfl (fun hc45 => ?_) (fun hc45 => ?_)
      · try simp (disch := omega) only [zF_wF, zF_wA, zF_wJ, zF_wD, zA_wF, zA_wA, zA_wJ, zA_wD, zL_wJ, zL_wF, zL_wA, zL_wD, J_wr, wr_zF, wr_zA, wrJ_zL, wr_id, wrJ_id, ne_eq, reduceCtorEq, not_false_eq_true, not_true_eq_false, if_true, if_false, Nat.reduceEqDiff, eq_self] at hc45
        refine w_load rfl rfl rfl ?_
        refine w_const (63) rfl rfl ?_
        refine w_icmp_ne rfl (fun hc57 => ?_) (fun hc57 => ?_)
        · try simp (disch := omega) only [zF_wF, zF_wA, zF_wJ, zF_wD, zA_wF, zA_wA, zA_wJ, zA_wD, zL_wJ, zL_wF, zL_wA, zL_wD, J_wr, wr_zF, wr_zA, wrJ_zL, wr_id, wrJ_id, ne_eq, reduceCtorEq, not_false_eq_true, not_true_eq_false, if_true, if_false, Nat.reduceEqDiff, eq_self] at hc57
          refine w_const (0) rfl rfl ?_
          refine w_ireturn rfl rfl ?_
          first | (exfalso; omega) | exact RI.mk ⟨by rw [if_pos (by omega)], rfl⟩ | exact RI.mk ⟨by rw [if_neg (by omega)], rfl⟩
        · try simp (disch := omega) only [zF_wF, zF_wA, zF_wJ, zF_wD, zA_wF, zA_wA, zA_wJ, zA_wD, zL_wJ, zL_wF, zL_wA, zL_wD, J_wr, wr_zF, wr_zA, wrJ_zL, wr_id, wrJ_id, ne_eq, reduceCtorEq, not_false_eq_true, not_true_eq_false, if_true, if_false, Nat.reduceEqDiff, eq_self] at hc57
          refine w_load rfl rfl rfl ?_
          refine w_const (58) rfl rfl ?_
          refine w_icmp_eq rfl (fun hc63 => ?_) (fun hc63 => ?_)
          · try simp (disch := omega) only [zF_wF, zF_wA, zF_wJ, zF_wD, zA_wF, zA_wA, zA_wJ, zA_wD, zL_wJ, zL_wF, zL_wA, zL_wD, J_wr, wr_zF, wr_zA, wrJ_zL, wr_id, wrJ_id, ne_eq, reduceCtorEq, not_false_eq_true, not_true_eq_false, if_true, if_false, Nat.reduceEqDiff, eq_self] at hc63
            refine w_const (1) rfl rfl ?_
            refine w_goto rfl ?_
            refine w_ireturn rfl rfl ?_
            first | (exfalso; omega) | exact RI.mk ⟨by rw [if_pos (by omega)], rfl⟩ | exact RI.mk ⟨by rw [if_neg (by omega)], rfl⟩
          · try simp (disch := omega) only [zF_wF, zF_wA, zF_wJ, zF_wD, zA_wF, zA_wA, zA_wJ, zA_wD, zL_wJ, zL_wF, zL_wA, zL_wD, J_wr, wr_zF, wr_zA, wrJ_zL, wr_id, wrJ_id, ne_eq, reduceCtorEq, not_false_eq_true, not_true_eq_false, if_true, if_false, Nat.reduceEqDiff, eq_self] at hc63
            refine w_load rfl rfl rfl ?_
            refine w_const (46) rfl rfl ?_
            refine w_icmp_ne rfl (fun hc69 => ?_) (fun hc69 => ?_)
            · try simp (disch := omega) only [zF_wF, zF_wA, zF_wJ, zF_wD, zA_wF, zA_wA, zA_wJ, zA_wD, zL_wJ, zL_wF, zL_wA, zL_wD, J_wr, wr_zF, wr_zA, wrJ_zL, wr_id, wrJ_id, ne_eq, reduceCtorEq, not_false_eq_true, not_true_eq_false, if_true, if_false, Nat.reduceEqDiff, eq_self] at hc69
              refine w_const (0) rfl rfl ?_
              refine w_ireturn rfl rfl ?_
              first | (exfalso; omega) | exact RI.mk ⟨by rw [if_pos (by omega)], rfl⟩ | exact RI.mk ⟨by rw [if_neg (by omega)], rfl⟩
            · try simp (disch := omega) only [zF_wF, zF_wA, zF_wJ, zF_wD, zA_wF, zA_wA, zA_wJ, zA_wD, zL_wJ, zL_wF, zL_wA, zL_wD, J_wr, wr_zF, wr_zA, wrJ_zL, wr_id, wrJ_id, ne_eq, reduceCtorEq, not_false_eq_true, not_true_eq_false, if_true, if_false, Nat.reduceEqDiff, eq_self] at hc69
              refine w_const (1) rfl rfl ?_
              refine w_goto rfl ?_
              refine w_ireturn rfl rfl ?_
              first | (exfalso; omega) | exact RI.mk ⟨by rw [if_pos (by omega)], rfl⟩ | exact RI.mk ⟨by rw [if_neg (by omega)], rfl⟩
      · try simp (disch := omega) only [zF_wF, zF_wA, zF_wJ, zF_wD, zA_wF, zA_wA, zA_wJ, zA_wD, zL_wJ, zL_wF, zL_wA, zL_wD, J_wr, wr_zF, wr_zA, wrJ_zL, wr_id, wrJ_id, ne_eq, reduceCtorEq, not_false_eq_true, not_true_eq_false, if_true, if_false, Nat.reduceEqDiff, eq_self] at hc45
        refine w_load rfl rfl rfl ?_
        refine w_const (124) rfl rfl ?_
        refine w_icmp_eq rfl (fun hc51 => ?_) (fun hc51 => ?_)
        · try simp (disch := omega) only [zF_wF, zF_wA, zF_wJ, zF_wD, zA_wF, zA_wA, zA_wJ, zA_wD, zL_wJ, zL_wF, zL_wA, zL_wD, J_wr, wr_zF, wr_zA, wrJ_zL, wr_id, wrJ_id, ne_eq, reduceCtorEq, not_false_eq_true, not_true_eq_false, if_true, if_false, Nat.reduceEqDiff, eq_self] at hc51
          refine w_const (1) rfl rfl ?_
          refine w_goto rfl ?_
          refine w_ireturn rfl rfl ?_
          first | (exfalso; omega) | exact RI.mk ⟨by rw [if_pos (by omega)], rfl⟩ | exact RI.mk ⟨by rw [if_neg (by omega)], rfl⟩
        · try simp (disch := omega) only [zF_wF, zF_wA, zF_wJ, zF_wD, zA_wF, zA_wA, zA_wJ, zA_wD, zL_wJ, zL_wF, zL_wA, zL_wD, J_wr, wr_zF, wr_zA, wrJ_zL, wr_id, wrJ_id, ne_eq, reduceCtorEq, not_false_eq_true, not_true_eq_false, if_true, if_false, Nat.reduceEqDiff, eq_self] at hc51
          refine w_load rfl rfl rfl ?_
          refine w_const (63) rfl rfl ?_
          refine w_icmp_ne rfl (fun hc57 => ?_) (fun hc57 => ?_)
          · try simp (disch := omega) only [zF_wF, zF_wA, zF_wJ, zF_wD, zA_wF, zA_wA, zA_wJ, zA_wD, zL_wJ, zL_wF, zL_wA, zL_wD, J_wr, wr_zF, wr_zA, wrJ_zL, wr_id, wrJ_id, ne_eq, reduceCtorEq, not_false_eq_true, not_true_eq_false, if_true, if_false, Nat.reduceEqDiff, eq_self] at hc57
            refine w_const (0) rfl rfl ?_
            refine w_ireturn rfl rfl ?_
            first | (exfalso; omega) | exact RI.mk ⟨by rw [if_pos (by omega)], rfl⟩ | exact RI.mk ⟨by rw [if_neg (by omega)], rfl⟩
          · try simp (disch := omega) only [zF_wF, zF_wA, zF_wJ, zF_wD, zA_wF, zA_wA, zA_wJ, zA_wD, zL_wJ, zL_wF, zL_wA, zL_wD, J_wr, wr_zF, wr_zA, wrJ_zL, wr_id, wrJ_id, ne_eq, reduceCtorEq, not_false_eq_true, not_true_eq_false, if_true, if_false, Nat.reduceEqDiff, eq_self] at hc57
            refine w_load rfl rfl rfl ?_
            refine w_const (58) rfl rfl ?_
            refine w_icmp_eq rfl (fun hc63 => ?_) (fun hc63 => ?_)
            · try simp (disch := omega) only [zF_wF, zF_wA, zF_wJ, zF_wD, zA_wF, zA_wA, zA_wJ, zA_wD, zL_wJ, zL_wF, zL_wA, zL_wD, J_wr, wr_zF, wr_zA, wrJ_zL, wr_id, wrJ_id, ne_eq, reduceCtorEq, not_false_eq_true, not_true_eq_false, if_true, if_false, Nat.reduceEqDiff, eq_self] at hc63
              refine w_const (1) rfl rfl ?_
              refine w_goto rfl ?_
              refine w_ireturn rfl rfl ?_
              first | (exfalso; omega) | exact RI.mk ⟨by rw [if_pos (by omega)], rfl⟩ | exact RI.mk ⟨by rw [if_neg (by omega)], rfl⟩
            · try simp (disch := omega) only [zF_wF, zF_wA, zF_wJ, zF_wD, zA_wF, zA_wA, zA_wJ, zA_wD, zL_wJ, zL_wF, zL_wA, zL_wD, J_wr, wr_zF, wr_zA, wrJ_zL, wr_id, wrJ_id, ne_eq, reduceCtorEq, not_false_eq_true, not_true_eq_false, if_true, if_false, Nat.reduceEqDiff, eq_self] at hc63
              refine w_load rfl rfl rfl ?_
              refine w_const (46) rfl rfl ?_
              refine w_icmp_ne rfl (fun hc69 => ?_) (fun hc69 => ?_)
              · try simp (disch := omega) only [zF_wF, zF_wA, zF_wJ, zF_wD, zA_wF, zA_wA, zA_wJ, zA_wD, zL_wJ, zL_wF, zL_wA, zL_wD, J_wr, wr_zF, wr_zA, wrJ_zL, wr_id, wrJ_id, ne_eq, reduceCtorEq, not_false_eq_true, not_true_eq_false, if_true, if_false, Nat.reduceEqDiff, eq_self] at hc69
                refine w_const (0) rfl rfl ?_
                refine w_ireturn rfl rfl ?_
                first | (exfalso; omega) | exact RI.mk ⟨by rw [if_pos (by omega)], rfl⟩ | exact RI.mk ⟨by rw [if_neg (by omega)], rfl⟩
              · try simp (disch := omega) only [zF_wF, zF_wA, zF_wJ, zF_wD, zA_wF, zA_wA, zA_wJ, zA_wD, zL_wJ, zL_wF, zL_wA, zL_wD, J_wr, wr_zF, wr_zA, wrJ_zL, wr_id, wrJ_id, ne_eq, reduceCtorEq, not_false_eq_true, not_true_eq_false, if_true, if_false, Nat.reduceEqDiff, eq_self] at hc69
                refine w_const (1) rfl rfl ?_
                refine w_goto rfl ?_
                refine w_ireturn rfl rfl ?_
                first | (exfalso; omega) | exact RI.mk ⟨by rw [if_pos (by omega)], rfl⟩ | exact RI.mk ⟨by rw [if_neg (by omega)], rfl⟩
    · try simp (disch := omega) only [zF_wF, zF_wA, zF_wJ, zF_wD, zA_wF, zA_wA, zA_wJ, zA_wD, zL_wJ, zL_wF, zL_wA, zL_wD, J_wr, wr_zF, wr_zA, wrJ_zL, wr_id, wrJ_id, ne_eq, reduceCtorEq, not_false_eq_true, not_true_eq_false, if_true, if_false, Nat.reduceEqDiff, eq_self] at hc33
      refine w_load rfl rfl rfl ?_
      refine w_const (38) rfl rfl ?_
      refine w_icmp_eq rfl (fun hc39 => ?_) (fun hc39 => ?_)
      · try simp (disch := omega) only [zF_wF, zF_wA, zF_wJ, zF_wD, zA_wF, zA_wA, zA_wJ, zA_wD, zL_wJ, zL_wF, zL_wA, zL_wD, J_wr, wr_zF, wr_zA, wrJ_zL, wr_id, wrJ_id, ne_eq, reduceCtorEq, not_false_eq_true, not_true_eq_false, if_true, if_false, Nat.reduceEqDiff, eq_self] at hc39
        refine w_const (1) rfl rfl ?_
        refine w_goto rfl ?_
        refine w_ireturn rfl rfl ?_
        first | (exfalso; omega) | exact RI.mk ⟨by rw [if_pos (by omega)], rfl⟩ | exact RI.mk ⟨by rw [if_neg (by omega)], rfl⟩
      · try simp (disch := omega) only [zF_wF, zF_wA, zF_wJ, zF_wD, zA_wF, zA_wA, zA_wJ, zA_wD, zL_wJ, zL_wF, zL_wA, zL_wD, J_wr, wr_zF, wr_zA, wrJ_zL, wr_id, wrJ_id, ne_eq, reduceCtorEq, not_false_eq_true, not_true_eq_false, if_true, if_false, Nat.reduceEqDiff, eq_self] at hc39
        refine w_load rfl rfl rfl ?_
        refine w_const (124) rfl rfl ?_
        refine w_icmp_ne rfl (fun hc45 => ?_) (fun hc45 => ?_)
        · try simp (disch := omega) only [zF_wF, zF_wA, zF_wJ, zF_wD, zA_wF, zA_wA, zA_wJ, zA_wD, zL_wJ, zL_wF, zL_wA, zL_wD, J_wr, wr_zF, wr_zA, wrJ_zL, wr_id, wrJ_id, ne_eq, reduceCtorEq, not_false_eq_true, not_true_eq_false, if_true, if_false, Nat.reduceEqDiff, eq_self] at hc45
          refine w_load rfl rfl rfl ?_
          refine w_const (63) rfl rfl ?_
          refine w_icmp_ne rfl (fun hc57 => ?_) (fun hc57 => ?_)
          · try simp (disch := omega) only [zF_wF, zF_wA, zF_wJ, zF_wD, zA_wF, zA_wA, zA_wJ, zA_wD, zL_wJ, zL_wF, zL_wA, zL_wD, J_wr, wr_zF, wr_zA, wrJ_zL, wr_id, wrJ_id, ne_eq, reduceCtorEq, not_false_eq_true, not_true_eq_false, if_true, if_false, Nat.reduceEqDiff, eq_self] at hc57
            refine w_const (0) rfl rfl ?_
            refine w_ireturn rfl rfl ?_
            first | (exfalso; omega) | exact RI.mk ⟨by rw [if_pos (by omega)], rfl⟩ | exact RI.mk ⟨by rw [if_neg (by omega)], rfl⟩
          · try simp (disch := omega) only [zF_wF, zF_wA, zF_wJ, zF_wD, zA_wF, zA_wA, zA_wJ, zA_wD, zL_wJ, zL_wF, zL_wA, zL_wD, J_wr, wr_zF, wr_zA, wrJ_zL, wr_id, wrJ_id, ne_eq, reduceCtorEq, not_false_eq_true, not_true_eq_false, if_true, if_false, Nat.reduceEqDiff, eq_self] at hc57
            refine w_load rfl rfl rfl ?_
            refine w_const (58) rfl rfl ?_
            refine w_icmp_eq rfl (fun hc63 => ?_) (fun hc63 => ?_)
            · try simp (disch := omega) only [zF_wF, zF_wA, zF_wJ, zF_wD, zA_wF, zA_wA, zA_wJ, zA_wD, zL_wJ, zL_wF, zL_wA, zL_wD, J_wr, wr_zF, wr_zA, wrJ_zL, wr_id, wrJ_id, ne_eq, reduceCtorEq, not_false_eq_true, not_true_eq_false, if_true, if_false, Nat.reduceEqDiff, eq_self] at hc63
              refine w_const (1) rfl rfl ?_
              refine w_goto rfl ?_
              refine w_ireturn rfl rfl ?_
              first | (exfalso; omega) | exact RI.mk ⟨by rw [if_pos (by omega)], rfl⟩ | exact RI.mk ⟨by rw [if_neg (by omega)], rfl⟩
            · try simp (disch := omega) only [zF_wF, zF_wA, zF_wJ, zF_wD, zA_wF, zA_wA, zA_wJ, zA_wD, zL_wJ, zL_wF, zL_wA, zL_wD, J_wr, wr_zF, wr_zA, wrJ_zL, wr_id, wrJ_id, ne_eq, reduceCtorEq, not_false_eq_true, not_true_eq_false, if_true, if_false, Nat.reduceEqDiff, eq_self] at hc63
              refine w_load rfl rfl rfl ?_
              refine w_const (46) rfl rfl ?_
              refine w_icmp_ne rfl (fun hc69 => ?_) (fun hc69 => ?_)
              · try simp (disch := omega) only [zF_wF, zF_wA, zF_wJ, zF_wD, zA_wF, zA_wA, zA_wJ, zA_wD, zL_wJ, zL_wF, zL_wA, zL_wD, J_wr, wr_zF, wr_zA, wrJ_zL, wr_id, wrJ_id, ne_eq, reduceCtorEq, not_false_eq_true, not_true_eq_false, if_true, if_false, Nat.reduceEqDiff, eq_self] at hc69
                refine w_const (0) rfl rfl ?_
                refine w_ireturn rfl rfl ?_
                first | (exfalso; omega) | exact RI.mk ⟨by rw [if_pos (by omega)], rfl⟩ | exact RI.mk ⟨by rw [if_neg (by omega)], rfl⟩
              · try simp (disch := omega) only [zF_wF, zF_wA, zF_wJ, zF_wD, zA_wF, zA_wA, zA_wJ, zA_wD, zL_wJ, zL_wF, zL_wA, zL_wD, J_wr, wr_zF, wr_zA, wrJ_zL, wr_id, wrJ_id, ne_eq, reduceCtorEq, not_false_eq_true, not_true_eq_false, if_true, if_false, Nat.reduceEqDiff, eq_self] at hc69
                refine w_const (1) rfl rfl ?_
                refine w_goto rfl ?_
                refine w_ireturn rfl rfl ?_
                first | (exfalso; omega) | exact RI.mk ⟨by rw [if_pos (by omega)], rfl⟩ | exact RI.mk ⟨by rw [if_neg (by omega)], rfl⟩
        · try simp (disch := omega) only [zF_wF, zF_wA, zF_wJ, zF_wD, zA_wF, zA_wA, zA_wJ, zA_wD, zL_wJ, zL_wF, zL_wA, zL_wD, J_wr, wr_zF, wr_zA, wrJ_zL, wr_id, wrJ_id, ne_eq, reduceCtorEq, not_false_eq_true, not_true_eq_false, if_true, if_false, Nat.reduceEqDiff, eq_self] at hc45
          refine w_load rfl rfl rfl ?_
          refine w_const (124) rfl rfl ?_
          refine w_icmp_eq rfl (fun hc51 => ?_) (fun hc51 => ?_)
          · try simp (disch := omega) only [zF_wF, zF_wA, zF_wJ, zF_wD, zA_wF, zA_wA, zA_wJ, zA_wD, zL_wJ, zL_wF, zL_wA, zL_wD, J_wr, wr_zF, wr_zA, wrJ_zL, wr_id, wrJ_id, ne_eq, reduceCtorEq, not_false_eq_true, not_true_eq_false, if_true, if_false, Nat.reduceEqDiff, eq_self] at hc51
            refine w_const (1) rfl rfl ?_
            refine w_goto rfl ?_
            refine w_ireturn rfl rfl ?_
            first | (exfalso; omega) | exact RI.mk ⟨by rw [if_pos (by omega)], rfl⟩ | exact RI.mk ⟨by rw [if_neg (by omega)], rfl⟩
          · try simp (disch := omega) only [zF_wF, zF_wA, zF_wJ, zF_wD, zA_wF, zA_wA, zA_wJ, zA_wD, zL_wJ, zL_wF, zL_wA, zL_wD, J_wr, wr_zF, wr_zA, wrJ_zL, wr_id, wrJ_id, ne_eq, reduceCtorEq, not_false_eq_true, not_true_eq_false, if_true, if_false, Nat.reduceEqDiff, eq_self] at hc51
            refine w_load rfl rfl rfl ?_
            refine w_const (63) rfl rfl ?_
            refine w_icmp_ne rfl (fun hc57 => ?_) (fun hc57 => ?_)
            · try simp (disch := omega) only [zF_wF, zF_wA, zF_wJ, zF_wD, zA_wF, zA_wA, zA_wJ, zA_wD, zL_wJ, zL_wF, zL_wA, zL_wD, J_wr, wr_zF, wr_zA, wrJ_zL, wr_id, wrJ_id, ne_eq, reduceCtorEq, not_false_eq_true, not_true_eq_false, if_true, if_false, Nat.reduceEqDiff, eq_self] at hc57
              refine w_const (0) rfl rfl ?_
              refine w_ireturn rfl rfl ?_
              first | (exfalso; omega) | exact RI.mk ⟨by rw [if_pos (by omega)], rfl⟩ | exact RI.mk ⟨by rw [if_neg (by omega)], rfl⟩
            · try simp (disch := omega) only [zF_wF, zF_wA, zF_wJ, zF_wD, zA_wF, zA_wA, zA_wJ, zA_wD, zL_wJ, zL_wF, zL_wA, zL_wD, J_wr, wr_zF, wr_zA, wrJ_zL, wr_id, wrJ_id, ne_eq, reduceCtorEq, not_false_eq_true, not_true_eq_false, if_true, if_false, Nat.reduceEqDiff, eq_self] at hc57
              refine w_load rfl rfl rfl ?_
              refine w_const (58) rfl rfl ?_
              refine w_icmp_eq rfl (fun hc63 => ?_) (fun hc63 => ?_)
              · try simp (disch := omega) only [zF_wF, zF_wA, zF_wJ, zF_wD, zA_wF, zA_wA, zA_wJ, zA_wD, zL_wJ, zL_wF, zL_wA, zL_wD, J_wr, wr_zF, wr_zA, wrJ_zL, wr_id, wrJ_id, ne_eq, reduceCtorEq, not_false_eq_true, not_true_eq_false, if_true, if_false, Nat.reduceEqDiff, eq_self] at hc63
                refine w_const (1) rfl rfl ?_
                refine w_goto rfl ?_
                refine w_ireturn rfl rfl ?_
                first | (exfalso; omega) | exact RI.mk ⟨by rw [if_pos (by omega)], rfl⟩ | exact RI.mk ⟨by rw [if_neg (by omega)], rfl⟩
              · try simp (disch := omega) only [zF_wF, zF_wA, zF_wJ, zF_wD, zA_wF, zA_wA, zA_wJ, zA_wD, zL_wJ, zL_wF, zL_wA, zL_wD, J_wr, wr_zF, wr_zA, wrJ_zL, wr_id, wrJ_id, ne_eq, reduceCtorEq, not_false_eq_true, not_true_eq_false, if_true, if_false, Nat.reduceEqDiff, eq_self] at hc63
                refine w_load rfl rfl rfl ?_
                refine w_const (46) rfl rfl ?_
                refine w_icmp_ne rfl (fun hc69 => ?_) (fun hc69 => ?_)
                · try simp (disch := omega) only [zF_wF, zF_wA, zF_wJ, zF_wD, zA_wF, zA_wA, zA_wJ, zA_wD, zL_wJ, zL_wF, zL_wA, zL_wD, J_wr, wr_zF, wr_zA, wrJ_zL, wr_id, wrJ_id, ne_eq, reduceCtorEq, not_false_eq_true, not_true_eq_false, if_true, if_false, Nat.reduceEqDiff, eq_self] at hc69
                  refine w_const (0) rfl rfl ?_
                  refine w_ireturn rfl rfl ?_
                  first | (exfalso; omega) | exact RI.mk ⟨by rw [if_pos (by omega)], rfl⟩ | exact RI.mk ⟨by rw [if_neg (by omega)], rfl⟩
                · try simp (disch := omega) only [zF_wF, zF_wA, zF_wJ, zF_wD, zA_wF, zA_wA, zA_wJ, zA_wD, zL_wJ, zL_wF, zL_wA, zL_wD, J_wr, wr_zF, wr_zA, wrJ_zL, wr_id, wrJ_id, ne_eq, reduceCtorEq, not_false_eq_true, not_true_eq_false, if_true, if_false, Nat.reduceEqDiff, eq_self] at hc69
                  refine w_const (1) rfl rfl ?_
                  refine w_goto rfl ?_
                  refine w_ireturn rfl rfl ?_
                  first | (exfalso; omega) | exact RI.mk ⟨by rw [if_pos (by omega)], rfl⟩ | exact RI.mk ⟨by rw [if_neg (by omega)], rfl⟩
  · try simp (disch := omega) only [zF_wF, zF_wA, zF_wJ, zF_wD, zA_wF, zA_wA, zA_wJ, zA_wD, zL_wJ, zL_wF, zL_wA, zL_wD, J_wr, wr_zF, wr_zA, wrJ_zL, wr_id, wrJ_id, ne_eq, reduceCtorEq, not_false_eq_true, not_true_eq_false, if_true, if_false, Nat.reduceEqDiff, eq_self] at hc3
    refine w_load rfl rfl rfl ?_
    refine w_const (60) rfl rfl ?_
    refine w_icmp_eq rfl (fun hc9 => ?_) (fun hc9 => ?_)
    · try simp (disch := omega) only [zF_wF, zF_wA, zF_wJ, zF_wD, zA_wF, zA_wA, zA_wJ, zA_wD, zL_wJ, zL_wF, zL_wA, zL_wD, J_wr, wr_zF, wr_zA, wrJ_zL, wr_id, wrJ_id, ne_eq, reduceCtorEq, not_false_eq_true, not_true_eq_false, if_true, if_false, Nat.reduceEqDiff, eq_self] at hc9
      refine w_const (1) rfl rfl ?_
      refine w_goto rfl ?_
      refine w_ireturn rfl rfl ?_
      first | (exfalso; omega) | exact RI.mk ⟨by rw [if_pos (by omega)], rfl⟩ | exact RI.mk ⟨by rw [if_neg (by omega)], rfl⟩
    · try simp (disch := omega) only [zF_wF, zF_wA, zF_wJ, zF_wD, zA_wF, zA_wA, zA_wJ, zA_wD, zL_wJ, zL_wF, zL_wA, zL_wD, J_wr, wr_zF, wr_zA, wrJ_zL, wr_id, wrJ_id, ne_eq, reduceCtorEq, not_false_eq_true, not_true_eq_false, if_true, if_false, Nat.reduceEqDiff, eq_self] at hc9
      refine w_load rfl rfl rfl ?_
      refine w_const (62) rfl rfl ?_
      refine w_icmp_eq rfl (fun hc15 => ?_) (fun hc15 => ?_)
      · try simp (disch := omega) only [zF_wF, zF_wA, zF_wJ, zF_wD, zA_wF, zA_wA, zA_wJ, zA_wD, zL_wJ, zL_wF, zL_wA, zL_wD, J_wr, wr_zF, wr_zA, wrJ_zL, wr_id, wrJ_id, ne_eq, reduceCtorEq, not_false_eq_true, not_true_eq_false, if_true, if_false, Nat.reduceEqDiff, eq_self] at hc15
        refine w_const (1) rfl rfl ?_
        refine w_goto rfl ?_
        refine w_ireturn rfl rfl ?_
        first | (exfalso; omega) | exact RI.mk ⟨by rw [if_pos (by omega)], rfl⟩ | exact RI.mk ⟨by rw [if_neg (by omega)], rfl⟩
      · try simp (disch := omega) only [zF_wF, zF_wA, zF_wJ, zF_wD, zA_wF, zA_wA, zA_wJ, zA_wD, zL_wJ, zL_wF, zL_wA, zL_wD, J_wr, wr_zF, wr_zA, wrJ_zL, wr_id, wrJ_id, ne_eq, reduceCtorEq, not_false_eq_true, not_true_eq_false, if_true, if_false, Nat.reduceEqDiff, eq_self] at hc15
        refine w_load rfl rfl rfl ?_
        refine w_const (61) rfl rfl ?_
        refine w_icmp_eq rfl (fun hc21 => ?_) (fun hc21 => ?_)
        · try simp (disch := omega) only [zF_wF, zF_wA, zF_wJ, zF_wD, zA_wF, zA_wA, zA_wJ, zA_wD, zL_wJ, zL_wF, zL_wA, zL_wD, J_wr, wr_zF, wr_zA, wrJ_zL, wr_id, wrJ_id, ne_eq, reduceCtorEq, not_false_eq_true, not_true_eq_false, if_true, if_false, Nat.reduceEqDiff, eq_self] at hc21
          refine w_const (1) rfl rfl ?_
          refine w_goto rfl ?_
          refine w_ireturn rfl rfl ?_
          first | (exfalso; omega) | exact RI.mk ⟨by rw [if_pos (by omega)], rfl⟩ | exact RI.mk ⟨by rw [if_neg (by omega)], rfl⟩
        · try simp (disch := omega) only [zF_wF, zF_wA, zF_wJ, zF_wD, zA_wF, zA_wA, zA_wJ, zA_wD, zL_wJ, zL_wF, zL_wA, zL_wD, J_wr, wr_zF, wr_zA, wrJ_zL, wr_id, wrJ_id, ne_eq, reduceCtorEq, not_false_eq_true, not_true_eq_false, if_true, if_false, Nat.reduceEqDiff, eq_self] at hc21
          refine w_load rfl rfl rfl ?_
          refine w_const (33) rfl rfl ?_
          refine w_icmp_eq rfl (fun hc27 => ?_) (fun hc27 => ?_)
          · try simp (disch := omega) only [zF_wF, zF_wA, zF_wJ, zF_wD, zA_wF, zA_wA, zA_wJ, zA_wD, zL_wJ, zL_wF, zL_wA, zL_wD, J_wr, wr_zF, wr_zA, wrJ_zL, wr_id, wrJ_id, ne_eq, reduceCtorEq, not_false_eq_true, not_true_eq_false, if_true, if_false, Nat.reduceEqDiff, eq_self] at hc27
            refine w_const (1) rfl rfl ?_
            refine w_goto rfl ?_
            refine w_ireturn rfl rfl ?_
            first | (exfalso; omega) | exact RI.mk ⟨by rw [if_pos (by omega)], rfl⟩ | exact RI.mk ⟨by rw [if_neg (by omega)], rfl⟩
          · try simp (disch := omega) only [zF_wF, zF_wA, zF_wJ, zF_wD, zA_wF, zA_wA, zA_wJ, zA_wD, zL_wJ, zL_wF, zL_wA, zL_wD, J_wr, wr_zF, wr_zA, wrJ_zL, wr_id, wrJ_id, ne_eq, reduceCtorEq, not_false_eq_true, not_true_eq_false, if_true, if_false, Nat.reduceEqDiff, eq_self] at hc27
            refine w_load rfl rfl rfl ?_
            refine w_const (38) rfl rfl ?_
            refine w_icmp_ne rfl (fun hc33 => ?_) (fun hc33 => ?_)
            · try simp (disch := omega) only [zF_wF, zF_wA, zF_wJ, zF_wD, zA_wF, zA_wA, zA_wJ, zA_wD, zL_wJ, zL_wF, zL_wA, zL_wD, J_wr, wr_zF, wr_zA, wrJ_zL, wr_id, wrJ_id, ne_eq, reduceCtorEq, not_false_eq_true, not_true_eq_false, if_true, if_false, Nat.reduceEqDiff, eq_self] at hc33
              refine w_load rfl rfl rfl ?_
              refine w_const (124) rfl rfl ?_
              refine w_icmp_ne rfl (fun hc45 => ?_) (fun hc45 => ?_)
              · try simp (disch := omega) only [zF_wF, zF_wA, zF_wJ, zF_wD, zA_wF, zA_wA, zA_wJ, zA_wD, zL_wJ, zL_wF, zL_wA, zL_wD, J_wr, wr_zF, wr_zA, wrJ_zL, wr_id, wrJ_id, ne_eq, reduceCtorEq, not_false_eq_true, not_true_eq_false, if_true, if_false, Nat.reduceEqDiff, eq_self] at hc45
                refine w_load rfl rfl rfl ?_
                refine w_const (63) rfl rfl ?_
                refine w_icmp_ne rfl (fun hc57 => ?_) (fun hc57 => ?_)
                · try simp (disch := omega) only [zF_wF, zF_wA, zF_wJ, zF_wD, zA_wF, zA_wA, zA_wJ, zA_wD, zL_wJ, zL_wF, zL_wA, zL_wD, J_wr, wr_zF, wr_zA, wrJ_zL, wr_id, wrJ_id, ne_eq, reduceCtorEq, not_false_eq_true, not_true_eq_false, if_true, if_false, Nat.reduceEqDiff, eq_self] at hc57
                  refine w_const (0) rfl rfl ?_
                  refine w_ireturn rfl rfl ?_
                  first | (exfalso; omega) | exact RI.mk ⟨by rw [if_pos (by omega)], rfl⟩ | exact RI.mk ⟨by rw [if_neg (by omega)], rfl⟩
                · try simp (disch := omega) only [zF_wF, zF_wA, zF_wJ, zF_wD, zA_wF, zA_wA, zA_wJ, zA_wD, zL_wJ, zL_wF, zL_wA, zL_wD, J_wr, wr_zF, wr_zA, wrJ_zL, wr_id, wrJ_id, ne_eq, reduceCtorEq, not_false_eq_true, not_true_eq_false, if_true, if_false, Nat.reduceEqDiff, eq_self] at hc57
                  refine w_load rfl rfl rfl ?_
                  refine w_const (58) rfl rfl ?_
                  refine w_icmp_eq rfl (fun hc63 => ?_) (fun hc63 => ?_)
                  · try simp (disch := omega) only [zF_wF, zF_wA, zF_wJ, zF_wD, zA_wF, zA_wA, zA_wJ, zA_wD, zL_wJ, zL_wF, zL_wA, zL_wD, J_wr, wr_zF, wr_zA, wrJ_zL, wr_id, wrJ_id, ne_eq, reduceCtorEq, not_false_eq_true, not_true_eq_false, if_true, if_false, Nat.reduceEqDiff, eq_self] at hc63
                    refine w_const (1) rfl rfl ?_
                    refine w_goto rfl ?_
                    refine w_ireturn rfl rfl ?_
                    first | (exfalso; omega) | exact RI.mk ⟨by rw [if_pos (by omega)], rfl⟩ | exact RI.mk ⟨by rw [if_neg (by omega)], rfl⟩
                  · try simp (disch := omega) only [zF_wF, zF_wA, zF_wJ, zF_wD, zA_wF, zA_wA, zA_wJ, zA_wD, zL_wJ, zL_wF, zL_wA, zL_wD, J_wr, wr_zF, wr_zA, wrJ_zL, wr_id, wrJ_id, ne_eq, reduceCtorEq, not_false_eq_true, not_true_eq_false, if_true, if_false, Nat.reduceEqDiff, eq_self] at hc63
                    refine w_load rfl rfl rfl ?_
                    refine w_const (46) rfl rfl ?_
                    refine w_icmp_ne rfl (fun hc69 => ?_) (fun hc69 => ?_)
                    · try simp (disch := omega) only [zF_wF, zF_wA, zF_wJ, zF_wD, zA_wF, zA_wA, zA_wJ, zA_wD, zL_wJ, zL_wF, zL_wA, zL_wD, J_wr, wr_zF, wr_zA, wrJ_zL, wr_id, wrJ_id, ne_eq, reduceCtorEq, not_false_eq_true, not_true_eq_false, if_true, if_false, Nat.reduceEqDiff, eq_self] at hc69
                      refine w_const (0) rfl rfl ?_
                      refine w_ireturn rfl rfl ?_
                      first | (exfalso; omega) | exact RI.mk ⟨by rw [if_pos (by omega)], rfl⟩ | exact RI.mk ⟨by rw [if_neg (by omega)], rfl⟩
                    · try simp (disch := omega) only [zF_wF, zF_wA, zF_wJ, zF_wD, zA_wF, zA_wA, zA_wJ, zA_wD, zL_wJ, zL_wF, zL_wA, zL_wD, J_wr, wr_zF, wr_zA, wrJ_zL, wr_id, wrJ_id, ne_eq, reduceCtorEq, not_false_eq_true, not_true_eq_false, if_true, if_false, Nat.reduceEqDiff, eq_self] at hc69
                      refine w_const (1) rfl rfl ?_
                      refine w_goto rfl ?_
                      refine w_ireturn rfl rfl ?_
                      first | (exfalso; omega) | exact RI.mk ⟨by rw [if_pos (by omega)], rfl⟩ | exact RI.mk ⟨by rw [if_neg (by omega)], rfl⟩
              · try simp (disch := omega) only [zF_wF, zF_wA, zF_wJ, zF_wD, zA_wF, zA_wA, zA_wJ, zA_wD, zL_wJ, zL_wF, zL_wA, zL_wD, J_wr, wr_zF, wr_zA, wrJ_zL, wr_id, wrJ_id, ne_eq, reduceCtorEq, not_false_eq_true, not_true_eq_false, if_true, if_false, Nat.reduceEqDiff, eq_self] at hc45
                refine w_load rfl rfl rfl ?_
                refine w_const (124) rfl rfl ?_
                refine w_icmp_eq rfl (fun hc51 => ?_) (fun hc51 => ?_)
                · try simp (disch := omega) only [zF_wF, zF_wA, zF_wJ, zF_wD, zA_wF, zA_wA, zA_wJ, zA_wD, zL_wJ, zL_wF, zL_wA, zL_wD, J_wr, wr_zF, wr_zA, wrJ_zL, wr_id, wrJ_id, ne_eq, reduceCtorEq, not_false_eq_true, not_true_eq_false, if_true, if_false, Nat.reduceEqDiff, eq_self] at hc51
                  refine w_const (1) rfl rfl ?_
                  refine w_goto rfl ?_
                  refine w_ireturn rfl rfl ?_
                  first | (exfalso; omega) | exact RI.mk ⟨by rw [if_pos (by omega)], rfl⟩ | exact RI.mk ⟨by rw [if_neg (by omega)], rfl⟩
                · try simp (disch := omega) only [zF_wF, zF_wA, zF_wJ, zF_wD, zA_wF, zA_wA, zA_wJ, zA_wD, zL_wJ, zL_wF, zL_wA, zL_wD, J_wr, wr_zF, wr_zA, wrJ_zL, wr_id, wrJ_id, ne_eq, reduceCtorEq, not_false_eq_true, not_true_eq_false, if_true, if_false, Nat.reduceEqDiff, eq_self] at hc51
                  refine w_load rfl rfl rfl ?_
                  refine w_const (63) rfl rfl ?_
                  refine w_icmp_ne rfl (fun hc57 => ?_) (fun hc57 => ?_)
                  · try simp (disch := omega) only [zF_wF, zF_wA, zF_wJ, zF_wD, zA_wF, zA_wA, zA_wJ, zA_wD, zL_wJ, zL_wF, zL_wA, zL_wD, J_wr, wr_zF, wr_zA, wrJ_zL, wr_id, wrJ_id, ne_eq, reduceCtorEq, not_false_eq_true, not_true_eq_false, if_true, if_false, Nat.reduceEqDiff, eq_self] at hc57
                    refine w_const (0) rfl rfl ?_
                    refine w_ireturn rfl rfl ?_
                    first | (exfalso; omega) | exact RI.mk ⟨by rw [if_pos (by omega)], rfl⟩ | exact RI.mk ⟨by rw [if_neg (by omega)], rfl⟩
                  · try simp (disch := omega) only [zF_wF, zF_wA, zF_wJ, zF_wD, zA_wF, zA_wA, zA_wJ, zA_wD, zL_wJ, zL_wF, zL_wA, zL_wD, J_wr, wr_zF, wr_zA, wrJ_zL, wr_id, wrJ_id, ne_eq, reduceCtorEq, not_false_eq_true, not_true_eq_false, if_true, if_false, Nat.reduceEqDiff, eq_self] at hc57
                    refine w_load rfl rfl rfl ?_
                    refine w_const (58) rfl rfl ?_
                    refine w_icmp_eq rfl (fun hc63 => ?_) (fun hc63 => ?_)
                    · try simp (disch := omega) only [zF_wF, zF_wA, zF_wJ, zF_wD, zA_wF, zA_wA, zA_wJ, zA_wD, zL_wJ, zL_wF, zL_wA, zL_wD, J_wr, wr_zF, wr_zA, wrJ_zL, wr_id, wrJ_id, ne_eq, reduceCtorEq, not_false_eq_true, not_true_eq_false, if_true, if_false, Nat.reduceEqDiff, eq_self] at hc63
                      refine w_const (1) rfl rfl ?_
                      refine w_goto rfl ?_
                      refine w_ireturn rfl rfl ?_
                      first | (exfalso; omega) | exact RI.mk ⟨by rw [if_pos (by omega)], rfl⟩ | exact RI.mk ⟨by rw [if_neg (by omega)], rfl⟩
                    · try simp (disch := omega) only [zF_wF, zF_wA, zF_wJ, zF_wD, zA_wF, zA_wA, zA_wJ, zA_wD, zL_wJ, zL_wF, zL_wA, zL_wD, J_wr, wr_zF, wr_zA, wrJ_zL, wr_id, wrJ_id, ne_eq, reduceCtorEq, not_false_eq_true, not_true_eq_false, if_true, if_false, Nat.reduceEqDiff, eq_self] at hc63
                      refine w_load rfl rfl rfl ?_
                      refine w_const (46) rfl rfl ?_
                      refine w_icmp_ne rfl (fun hc69 => ?_) (fun hc69 => ?_)
                      · try simp (disch := omega) only [zF_wF, zF_wA, zF_wJ, zF_wD, zA_wF, zA_wA, zA_wJ, zA_wD, zL_wJ, zL_wF, zL_wA, zL_wD, J_wr, wr_zF, wr_zA, wrJ_zL, wr_id, wrJ_id, ne_eq, reduceCtorEq, not_false_eq_true, not_true_eq_false, if_true, if_false, Nat.reduceEqDiff, eq_self] at hc69
                        refine w_const (0) rfl rfl ?_
                        refine w_ireturn rfl rfl ?_
                        first | (exfalso; omega) | exact RI.mk ⟨by rw [if_pos (by omega)], rfl⟩ | exact RI.mk ⟨by rw [if_neg (by omega)], rfl⟩
                      · try simp (disch := omega) only [zF_wF, zF_wA, zF_wJ, zF_wD, zA_wF, zA_wA, zA_wJ, zA_wD, zL_wJ, zL_wF, zL_wA, zL_wD, J_wr, wr_zF, wr_zA, wrJ_zL, wr_id, wrJ_id, ne_eq, reduceCtorEq, not_false_eq_true, not_true_eq_false, if_true, if_false, Nat.reduceEqDiff, eq_self] at hc69
                        refine w_const (1) rfl rfl ?_
                        refine w_goto rfl ?_
                        refine w_ireturn rfl rfl ?_
                        first | (exfalso; omega) | exact RI.mk ⟨by rw [if_pos (by omega)], rfl⟩ | exact RI.mk ⟨by rw [if_neg (by omega)], rfl⟩
            · try simp (disch := omega) only [zF_wF, zF_wA, zF_wJ, zF_wD, zA_wF, zA_wA, zA_wJ, zA_wD, zL_wJ, zL_wF, zL_wA, zL_wD, J_wr, wr_zF, wr_zA, wrJ_zL, wr_id, wrJ_id, ne_eq, reduceCtorEq, not_false_eq_true, not_true_eq_false, if_true, if_false, Nat.reduceEqDiff, eq_self] at hc33
              refine w_load rfl rfl rfl ?_
              refine w_const (38) rfl rfl ?_
              refine w_icmp_eq rfl (fun hc39 => ?_) (fun hc39 => ?_)
              · try simp (disch := omega) only [zF_wF, zF_wA, zF_wJ, zF_wD, zA_wF, zA_wA, zA_wJ, zA_wD, zL_wJ, zL_wF, zL_wA, zL_wD, J_wr, wr_zF, wr_zA, wrJ_zL, wr_id, wrJ_id, ne_eq, reduceCtorEq, not_false_eq_true, not_true_eq_false, if_true, if_false, Nat.reduceEqDiff, eq_self] at hc39
                refine w_const (1) rfl rfl ?_
                refine w_goto rfl ?_
                refine w_ireturn rfl rfl ?_
                first | (exfalso; omega) | exact RI.mk ⟨by rw [if_pos (by omega)], rfl⟩ | exact RI.mk ⟨by rw [if_neg (by omega)], rfl⟩
              · try simp (disch := omega) only [zF_wF, zF_wA, zF_wJ, zF_wD, zA_wF, zA_wA, zA_wJ, zA_wD, zL_wJ, zL_wF, zL_wA, zL_wD, J_wr, wr_zF, wr_zA, wrJ_zL, wr_id, wrJ_id, ne_eq, reduceCtorEq, not_false_eq_true, not_true_eq_false, if_true, if_false, Nat.reduceEqDiff, eq_self] at hc39
                refine w_load rfl rfl rfl ?_
                refine w_const (124) rfl rfl ?_
                refine w_icmp_ne rfl (fun hc45 => ?_) (fun hc45 => ?_)
                · try simp (disch := omega) only [zF_wF, zF_wA, zF_wJ, zF_wD, zA_wF, zA_wA, zA_wJ, zA_wD, zL_wJ, zL_wF, zL_wA, zL_wD, J_wr, wr_zF, wr_zA, wrJ_zL, wr_id, wrJ_id, ne_eq, reduceCtorEq, not_false_eq_true, not_true_eq_false, if_true, if_false, Nat.reduceEqDiff, eq_self] at hc45
                  refine w_load rfl rfl rfl ?_
                  refine w_const (63) rfl rfl ?_
                  refine w_icmp_ne rfl (fun hc57 => ?_) (fun hc57 => ?_)
                  · try simp (disch := omega) only [zF_wF, zF_wA, zF_wJ, zF_wD, zA_wF, zA_wA, zA_wJ, zA_wD, zL_wJ, zL_wF, zL_wA, zL_wD, J_wr, wr_zF, wr_zA, wrJ_zL, wr_id, wrJ_id, ne_eq, reduceCtorEq, not_false_eq_true, not_true_eq_false, if_true, if_false, Nat.reduceEqDiff, eq_self] at hc57
                    refine w_const (0) rfl rfl ?_
                    refine w_ireturn rfl rfl ?_
                    first | (exfalso; omega) | exact RI.mk ⟨by rw [if_pos (by omega)], rfl⟩ | exact RI.mk ⟨by rw [if_neg (by omega)], rfl⟩
                  · try simp (disch := omega) only [zF_wF, zF_wA, zF_wJ, zF_wD, zA_wF, zA_wA, zA_wJ, zA_wD, zL_wJ, zL_wF, zL_wA, zL_wD, J_wr, wr_zF, wr_zA, wrJ_zL, wr_id, wrJ_id, ne_eq, reduceCtorEq, not_false_eq_true, not_true_eq_false, if_true, if_false, Nat.reduceEqDiff, eq_self] at hc57
                    refine w_load rfl rfl rfl ?_
                    refine w_const (58) rfl rfl ?_
                    refine w_icmp_eq rfl (fun hc63 => ?_) (fun hc63 => ?_)
                    · try simp (disch := omega) only [zF_wF, zF_wA, zF_wJ, zF_wD, zA_wF, zA_wA, zA_wJ, zA_wD, zL_wJ, zL_wF, zL_wA, zL_wD, J_wr, wr_zF, wr_zA, wrJ_zL, wr_id, wrJ_id, ne_eq, reduceCtorEq, not_false_eq_true, not_true_eq_false, if_true, if_false, Nat.reduceEqDiff, eq_self] at hc63
                      refine w_const (1) rfl rfl ?_
                      refine w_goto rfl ?_
                      refine w_ireturn rfl rfl ?_
                      first | (exfalso; omega) | exact RI.mk ⟨by rw [if_pos (by omega)], rfl⟩ | exact RI.mk ⟨by rw [if_neg (by omega)], rfl⟩
                    · try simp (disch := omega) only [zF_wF, zF_wA, zF_wJ, zF_wD, zA_wF, zA_wA, zA_wJ, zA_wD, zL_wJ, zL_wF, zL_wA, zL_wD, J_wr, wr_zF, wr_zA, wrJ_zL, wr_id, wrJ_id, ne_eq, reduceCtorEq, not_false_eq_true, not_true_eq_false, if_true, if_false, Nat.reduceEqDiff, eq_self] at hc63
                      refine w_load rfl rfl rfl ?_
                      refine w_const (46) rfl rfl ?_
                      refine w_icmp_ne rfl (fun hc69 => ?_) (fun hc69 => ?_)
                      · try simp (disch := omega) only [zF_wF, zF_wA, zF_wJ, zF_wD, zA_wF, zA_wA, zA_wJ, zA_wD, zL_wJ, zL_wF, zL_wA, zL_wD, J_wr, wr_zF, wr_zA, wrJ_zL, wr_id, wrJ_id, ne_eq, reduceCtorEq, not_false_eq_true, not_true_eq_false, if_true, if_false, Nat.reduceEqDiff, eq_self] at hc69
                        refine w_const (0) rfl rfl ?_
                        refine w_ireturn rfl rfl ?_
                        first | (exfalso; omega) | exact RI.mk ⟨by rw [if_pos (by omega)], rfl⟩ | exact RI.mk ⟨by rw [if_neg (by omega)], rfl⟩
                      · try simp (disch := omega) only [zF_wF, zF_wA, zF_wJ, zF_wD, zA_wF, zA_wA, zA_wJ, zA_wD, zL_wJ, zL_wF, zL_wA, zL_wD, J_wr, wr_zF, wr_zA, wrJ_zL, wr_id, wrJ_id, ne_eq, reduceCtorEq, not_false_eq_true, not_true_eq_false, if_true, if_false, Nat.reduceEqDiff, eq_self] at hc69
                        refine w_const (1) rfl rfl ?_
                        refine w_goto rfl ?_
                        refine w_ireturn rfl rfl ?_
                        first | (exfalso; omega) | exact RI.mk ⟨by rw [if_pos (by omega)], rfl⟩ | exact RI.mk ⟨by rw [if_neg (by omega)], rfl⟩
                · try simp (disch := omega) only [zF_wF, zF_wA, zF_wJ, zF_wD, zA_wF, zA_wA, zA_wJ, zA_wD, zL_wJ, zL_wF, zL_wA, zL_wD, J_wr, wr_zF, wr_zA, wrJ_zL, wr_id, wrJ_id, ne_eq, reduceCtorEq, not_false_eq_true, not_true_eq_false, if_true, if_false, Nat.reduceEqDiff, eq_self] at hc45
                  refine w_load rfl rfl rfl ?_
                  refine w_const (124) rfl rfl ?_
                  refine w_icmp_eq rfl (fun hc51 => ?_) (fun hc51 => ?_)
                  · try simp (disch := omega) only [zF_wF, zF_wA, zF_wJ, zF_wD, zA_wF, zA_wA, zA_wJ, zA_wD, zL_wJ, zL_wF, zL_wA, zL_wD, J_wr, wr_zF, wr_zA, wrJ_zL, wr_id, wrJ_id, ne_eq, reduceCtorEq, not_false_eq_true, not_true_eq_false, if_true, if_false, Nat.reduceEqDiff, eq_self] at hc51
                    refine w_const (1) rfl rfl ?_
                    refine w_goto rfl ?_
                    refine w_ireturn rfl rfl ?_
                    first | (exfalso; omega) | exact RI.mk ⟨by rw [if_pos (by omega)], rfl⟩ | exact RI.mk ⟨by rw [if_neg (by omega)], rfl⟩
                  · try simp (disch := omega) only [zF_wF, zF_wA, zF_wJ, zF_wD, zA_wF, zA_wA, zA_wJ, zA_wD, zL_wJ, zL_wF, zL_wA, zL_wD, J_wr, wr_zF, wr_zA, wrJ_zL, wr_id, wrJ_id, ne_eq, reduceCtorEq, not_false_eq_true, not_true_eq_false, if_true, if_false, Nat.reduceEqDiff, eq_self] at hc51
                    refine w_load rfl rfl rfl ?_
                    refine w_const (63) rfl rfl ?_
                    refine w_icmp_ne rfl (fun hc57 => ?_) (fun hc57 => ?_)
                    · try simp (disch := omega) only [zF_wF, zF_wA, zF_wJ, zF_wD, zA_wF, zA_wA, zA_wJ, zA_wD, zL_wJ, zL_wF, zL_wA, zL_wD, J_wr, wr_zF, wr_zA, wrJ_zL, wr_id, wrJ_id, ne_eq, reduceCtorEq, not_false_eq_true, not_true_eq_false, if_true, if_false, Nat.reduceEqDiff, eq_self] at hc57
                      refine w_const (0) rfl rfl ?_
                      refine w_ireturn rfl rfl ?_
                      first | (exfalso; omega) | exact RI.mk ⟨by rw [if_pos (by omega)], rfl⟩ | exact RI.mk ⟨by rw [if_neg (by omega)], rfl⟩
                    · try simp (disch := omega) only [zF_wF, zF_wA, zF_wJ, zF_wD, zA_wF, zA_wA, zA_wJ, zA_wD, zL_wJ, zL_wF, zL_wA, zL_wD, J_wr, wr_zF, wr_zA, wrJ_zL, wr_id, wrJ_id, ne_eq, reduceCtorEq, not_false_eq_true, not_true_eq_false, if_true, if_false, Nat.reduceEqDiff, eq_self] at hc57
                      refine w_load rfl rfl rfl ?_
                      refine w_const (58) rfl rfl ?_
                      refine w_icmp_eq rfl (fun hc63 => ?_) (fun hc63 => ?_)
                      · try simp (disch := omega) only [zF_wF, zF_wA, zF_wJ, zF_wD, zA_wF, zA_wA, zA_wJ, zA_wD, zL_wJ, zL_wF, zL_wA, zL_wD, J_wr, wr_zF, wr_zA, wrJ_zL, wr_id, wrJ_id, ne_eq, reduceCtorEq, not_false_eq_true, not_true_eq_false, if_true, if_false, Nat.reduceEqDiff, eq_self] at hc63
                        refine w_const (1) rfl rfl ?_
                        refine w_goto rfl ?_
                        refine w_ireturn rfl rfl ?_
                        first | (exfalso; omega) | exact RI.mk ⟨by rw [if_pos (by omega)], rfl⟩ | exact RI.mk ⟨by rw [if_neg (by omega)], rfl⟩
                      · try simp (disch := omega) only [zF_wF, zF_wA, zF_wJ, zF_wD, zA_wF, zA_wA, zA_wJ, zA_wD, zL_wJ, zL_wF, zL_wA, zL_wD, J_wr, wr_zF, wr_zA, wrJ_zL, wr_id, wrJ_id, ne_eq, reduceCtorEq, not_false_eq_true, not_true_eq_false, if_true, if_false, Nat.reduceEqDiff, eq_self] at hc63
                        refine w_load rfl rfl rfl ?_
                        refine w_const (46) rfl rfl ?_
                        refine w_icmp_ne rfl (fun hc69 => ?_) (fun hc69 => ?_)
                        · try simp (disch := omega) only [zF_wF, zF_wA, zF_wJ, zF_wD, zA_wF, zA_wA, zA_wJ, zA_wD, zL_wJ, zL_wF, zL_wA, zL_wD, J_wr, wr_zF, wr_zA, wrJ_zL, wr_id, wrJ_id, ne_eq, reduceCtorEq, not_false_eq_true, not_true_eq_false, if_true, if_false, Nat.reduceEqDiff, eq_self] at hc69
                          refine w_const (0) rfl rfl ?_
                          refine w_ireturn rfl rfl ?_
                          first | (exfalso; omega) | exact RI.mk ⟨by rw [if_pos (by omega)], rfl⟩ | exact RI.mk ⟨by rw [if_neg (by omega)], rfl⟩
                        · try simp (disch := omega) only [zF_wF, zF_wA, zF_wJ, zF_wD, zA_wF, zA_wA, zA_wJ, zA_wD, zL_wJ, zL_wF, zL_wA, zL_wD, J_wr, wr_zF, wr_zA, wrJ_zL, wr_id, wrJ_id, ne_eq, reduceCtorEq, not_false_eq_true, not_true_eq_false, if_true, if_false, Nat.reduceEqDiff, eq_self] at hc69
                          refine w_const (1) rfl rfl ?_
                          refine w_goto rfl ?_
                          refine w_ireturn rfl rfl ?_
                          first | (exfalso; omega) | exact RI.mk ⟨by rw [if_pos (by omega)], rfl⟩ | exact RI.mk ⟨by rw [if_neg (by omega)], rfl⟩
theorem tw_single {c : Int} (hc : 0 ≤ c ∧ c < 1000) : Wp (d, 163, 0, [some (.int (N c))], [], G) (RI fun z G' => z = (if sgOne c = true then 1 else 0) ∧ G = G') := by
  simp only [sgOne_iff]
  refine w_load rfl rfl rfl ?_
  refine w_const (43) rfl rfl ?_
  refine w_icmp_eq rfl (fun hc3 => ?_) (fun hc3 => ?_)
  · try simp (disch := omega) only [zF_wF, zF_wA, zF_wJ, zF_wD, zA_wF, zA_wA, zA_wJ, zA_wD, zL_wJ, zL_wF, zL_wA, zL_wD, J_wr, wr_zF, wr_zA, wrJ_zL, wr_id, wrJ_id, ne_eq, reduceCtorEq, not_false_eq_true, not_true_eq_false, if_true, if_false, Nat.reduceEqDiff, eq_self] at hc3
    refine w_const (1) rfl rfl ?_
    refine w_goto rfl ?_
    refine w_ireturn rfl rfl ?_
    first | (exfalso; omega) | exact RI.mk ⟨by rw [if_pos (by omega)], rfl⟩ | exact RI.mk ⟨by rw [if_neg (by omega)], rfl⟩
  · try simp (disch := omega) only [zF_wF, zF_wA, zF_wJ, zF_wD, zA_wF, zA_wA, zA_wJ, zA_wD, zL_wJ, zL_wF, zL_wA, zL_wD, J_wr, wr_zF, wr_zA, wrJ_zL, wr_id, wrJ_id, ne_eq, reduceCtorEq, not_false_eq_true, not_true_eq_false, if_true, if_false, Nat.reduceEqDiff, eq_self] at hc3
    refine w_load rfl rfl rfl ?_
    refine w_const (45) rfl rfl ?_
    refine w_icmp_eq rfl (fun hc9 => ?_) (fun hc9 => ?_)
    · try simp (disch := omega) only [zF_wF, zF_wA, zF_wJ, zF_wD, zA_wF, zA_wA, zA_wJ, zA_wD, zL_wJ, zL_wF, zL_wA, zL_wD, J_wr, wr_zF, wr_zA, wrJ_zL, wr_id, wrJ_id, ne_eq, reduceCtorEq, not_false_eq_true, not_true_eq_false, if_true, if_false, Nat.reduceEqDiff, eq_self] at hc9
      refine w_const (1) rfl rfl ?_
      refine w_goto rfl ?_
      refine w_ireturn rfl rfl ?_
      first | (exfalso; omega) | exact RI.mk ⟨by rw [if_pos (by omega)], rfl⟩ | exact RI.mk ⟨by rw [if_neg (by omega)], rfl⟩
    · try simp (disch := omega) only [zF_wF, zF_wA, zF_wJ, zF_wD, zA_wF, zA_wA, zA_wJ, zA_wD, zL_wJ, zL_wF, zL_wA, zL_wD, J_wr, wr_zF, wr_zA, wrJ_zL, wr_id, wrJ_id, ne_eq, reduceCtorEq, not_false_eq_true, not_true_eq_false, if_true, if_false, Nat.reduceEqDiff, eq_self] at hc9
      refine w_load rfl rfl rfl ?_
      refine w_const (42) rfl rfl ?_
      refine w_icmp_eq rfl (fun hc15 => ?_) (fun hc15 => ?_)
      · try simp (disch := omega) only [zF_wF, zF_wA, zF_wJ, zF_wD, zA_wF, zA_wA, zA_wJ, zA_wD, zL_wJ, zL_wF, zL_wA, zL_wD, J_wr, wr_zF, wr_zA, wrJ_zL, wr_id, wrJ_id, ne_eq, reduceCtorEq, not_false_eq_true, not_true_eq_false, if_true, if_false, Nat.reduceEqDiff, eq_self] at hc15
        refine w_const (1) rfl rfl ?_
        refine w_goto rfl ?_
        refine w_ireturn rfl rfl ?_
        first | (exfalso; omega) | exact RI.mk ⟨by rw [if_pos (by omega)], rfl⟩ | exact RI.mk ⟨by rw [if_neg (by omega)], rfl⟩
      · try simp (disch := omega) only [zF_wF, zF_wA, zF_wJ, zF_wD, zA_wF, zA_wA, zA_wJ, zA_wD, zL_wJ, zL_wF, zL_wA, zL_wD, J_wr, wr_zF, wr_zA, wrJ_zL, wr_id, wrJ_id, ne_eq, reduceCtorEq, not_false_eq_true, not_true_eq_false, if_true, if_false, Nat.reduceEqDiff, eq_self] at hc15
        refine w_load rfl rfl rfl ?_
        refine w_const (47) rfl rfl ?_
        refine w_icmp_eq rfl (fun hc21 => ?_) (fun hc21 => ?_)
        · try simp (disch := omega) only [zF_wF, zF_wA, zF_wJ, zF_wD, zA_wF, zA_wA, zA_wJ, zA_wD, zL_wJ, zL_wF, zL_wA, zL_wD, J_wr, wr_zF, wr_zA, wrJ_zL, wr_id, wrJ_id, ne_eq, reduceCtorEq, not_false_eq_true, not_true_eq_false, if_true, if_false, Nat.reduceEqDiff, eq_self] at hc21
          refine w_const (1) rfl rfl ?_
          refine w_goto rfl ?_
          refine w_ireturn rfl rfl ?_
          first | (exfalso; omega) | exact RI.mk ⟨by rw [if_pos (by omega)], rfl⟩ | exact RI.mk ⟨by rw [if_neg (by omega)], rfl⟩
        · try simp (disch := omega) only [zF_wF, zF_wA, zF_wJ, zF_wD, zA_wF, zA_wA, zA_wJ, zA_wD, zL_wJ, zL_wF, zL_wA, zL_wD, J_wr, wr_zF, wr_zA, wrJ_zL, wr_id, wrJ_id, ne_eq, reduceCtorEq, not_false_eq_true, not_true_eq_false, if_true, if_false, Nat.reduceEqDiff, eq_self] at hc21
          refine w_load rfl rfl rfl ?_
          refine w_const (37) rfl rfl ?_
          refine w_icmp_eq rfl (fun hc27 => ?_) (fun hc27 => ?_)
          · try simp (disch := omega) only [zF_wF, zF_wA, zF_wJ, zF_wD, zA_wF, zA_wA, zA_wJ, zA_wD, zL_wJ, zL_wF, zL_wA, zL_wD, J_wr, wr_zF, wr_zA, wrJ_zL, wr_id, wrJ_id, ne_eq, reduceCtorEq, not_false_eq_true, not_true_eq_false, if_true, if_false, Nat.reduceEqDiff, eq_self] at hc27
            refine w_const (1) rfl rfl ?_
            refine w_goto rfl ?_
            refine w_ireturn rfl rfl ?_
            first | (exfalso; omega) | exact RI.mk ⟨by rw [if_pos (by omega)], rfl⟩ | exact RI.mk ⟨by rw [if_neg (by omega)], rfl⟩
          · try simp (disch := omega) only [zF_wF, zF_wA, zF_wJ, zF_wD, zA_wF, zA_wA, zA_wJ, zA_wD, zL_wJ, zL_wF, zL_wA, zL_wD, J_wr, wr_zF, wr_zA, wrJ_zL, wr_id, wrJ_id, ne_eq, reduceCtorEq, not_false_eq_true, not_true_eq_false, if_true, if_false, Nat.reduceEqDiff, eq_self] at hc27
            refine w_load rfl rfl rfl ?_
            refine w_const (60) rfl rfl ?_
            refine w_icmp_eq rfl (fun hc33 => ?_) (fun hc33 => ?_)
            · try simp (disch := omega) only [zF_wF, zF_wA, zF_wJ, zF_wD, zA_wF, zA_wA, zA_wJ, zA_wD, zL_wJ, zL_wF, zL_wA, zL_wD, J_wr, wr_zF, wr_zA, wrJ_zL, wr_id, wrJ_id, ne_eq, reduceCtorEq, not_false_eq_true, not_true_eq_false, if_true, if_false, Nat.reduceEqDiff, eq_self] at hc33
              refine w_const (1) rfl rfl ?_
              refine w_goto rfl ?_
              refine w_ireturn rfl rfl ?_
              first | (exfalso; omega) | exact RI.mk ⟨by rw [if_pos (by omega)], rfl⟩ | exact RI.mk ⟨by rw [if_neg (by omega)], rfl⟩
            · try simp (disch := omega) only [zF_wF, zF_wA, zF_wJ, zF_wD, zA_wF, zA_wA, zA_wJ, zA_wD, zL_wJ, zL_wF, zL_wA, zL_wD, J_wr, wr_zF, wr_zA, wrJ_zL, wr_id, wrJ_id, ne_eq, reduceCtorEq, not_false_eq_true, not_true_eq_false, if_true, if_false, Nat.reduceEqDiff, eq_self] at hc33
              refine w_load rfl rfl rfl ?_
              refine w_const (62) rfl rfl ?_
              refine w_icmp_eq rfl (fun hc39 => ?_) (fun hc39 => ?_)
              · try simp (disch := omega) only [zF_wF, zF_wA, zF_wJ, zF_wD, zA_wF, zA_wA, zA_wJ, zA_wD, zL_wJ, zL_wF, zL_wA, zL_wD, J_wr, wr_zF, wr_zA, wrJ_zL, wr_id, wrJ_id, ne_eq, reduceCtorEq, not_false_eq_true, not_true_eq_false, if_true, if_false, Nat.reduceEqDiff, eq_self] at hc39
                refine w_const (1) rfl rfl ?_
                refine w_goto rfl ?_
                refine w_ireturn rfl rfl ?_
                first | (exfalso; omega) | exact RI.mk ⟨by rw [if_pos (by omega)], rfl⟩ | exact RI.mk ⟨by rw [if_neg (by omega)], rfl⟩
              · try simp (disch := omega) only [zF_wF, zF_wA, zF_wJ, zF_wD, zA_wF, zA_wA, zA_wJ, zA_wD, zL_wJ, zL_wF, zL_wA, zL_wD, J_wr, wr_zF, wr_zA, wrJ_zL, wr_id, wrJ_id, ne_eq, reduceCtorEq, not_false_eq_true, not_true_eq_false, if_true, if_false, Nat.reduceEqDiff, eq_self] at hc39
                refine w_load rfl rfl rfl ?_
                refine w_const (33) rfl rfl ?_
                refine w_icmp_eq rfl (fun hc45 => ?_) (fun hc45 => ?_)
                · try simp (disch := omega) only [zF_wF, zF_wA, zF_wJ, zF_wD, zA_wF, zA_wA, zA_wJ, zA_wD, zL_wJ, zL_wF, zL_wA, zL_wD, J_wr, wr_zF, wr_zA, wrJ_zL, wr_id, wrJ_id, ne_eq, reduceCtorEq, not_false_eq_true, not_true_eq_false, if_true, if_false, Nat.reduceEqDiff, eq_self] at hc45
                  refine w_const (1) rfl rfl ?_
                  refine w_goto rfl ?_
                  refine w_ireturn rfl rfl ?_
                  first | (exfalso; omega) | exact RI.mk ⟨by rw [if_pos (by omega)], rfl⟩ | exact RI.mk ⟨by rw [if_neg (by omega)], rfl⟩
                · try simp (disch := omega) only [zF_wF, zF_wA, zF_wJ, zF_wD, zA_wF, zA_wA, zA_wJ, zA_wD, zL_wJ, zL_wF, zL_wA, zL_wD, J_wr, wr_zF, wr_zA, wrJ_zL, wr_id, wrJ_id, ne_eq, reduceCtorEq, not_false_eq_true, not_true_eq_false, if_true, if_false, Nat.reduceEqDiff, eq_self] at hc45
                  refine w_load rfl rfl rfl ?_
                  refine w_const (63) rfl rfl ?_
                  refine w_icmp_eq rfl (fun hc51 => ?_) (fun hc51 => ?_)
                  · try simp (disch := omega) only [zF_wF, zF_wA, zF_wJ, zF_wD, zA_wF, zA_wA, zA_wJ, zA_wD, zL_wJ, zL_wF, zL_wA, zL_wD, J_wr, wr_zF, wr_zA, wrJ_zL, wr_id, wrJ_id, ne_eq, reduceCtorEq, not_false_eq_true, not_true_eq_false, if_true, if_false, Nat.reduceEqDiff, eq_self] at hc51
                    refine w_const (1) rfl rfl ?_
                    refine w_goto rfl ?_
                    refine w_ireturn rfl rfl ?_
                    first | (exfalso; omega) | exact RI.mk ⟨by rw [if_pos (by omega)], rfl⟩ | exact RI.mk ⟨by rw [if_neg (by omega)], rfl⟩
                  · try simp (disch := omega) only [zF_wF, zF_wA, zF_wJ, zF_wD, zA_wF, zA_wA, zA_wJ, zA_wD, zL_wJ, zL_wF, zL_wA, zL_wD, J_wr, wr_zF, wr_zA, wrJ_zL, wr_id, wrJ_id, ne_eq, reduceCtorEq, not_false_eq_true, not_true_eq_false, if_true, if_false, Nat.reduceEqDiff, eq_self] at hc51
                    refine w_load rfl rfl rfl ?_
                    refine w_const (58) rfl rfl ?_
                    refine w_icmp_eq rfl (fun hc57 => ?_) (fun hc57 => ?_)
                    · try simp (disch := omega) only [zF_wF, zF_wA, zF_wJ, zF_wD, zA_wF, zA_wA, zA_wJ, zA_wD, zL_wJ, zL_wF, zL_wA, zL_wD, J_wr, wr_zF, wr_zA, wrJ_zL, wr_id, wrJ_id, ne_eq, reduceCtorEq, not_false_eq_true, not_true_eq_false, if_true, if_false, Nat.reduceEqDiff, eq_self] at hc57
                      refine w_const (1) rfl rfl ?_
                      refine w_goto rfl ?_
                      refine w_ireturn rfl rfl ?_
                      first | (exfalso; omega) | exact RI.mk ⟨by rw [if_pos (by omega)], rfl⟩ | exact RI.mk ⟨by rw [if_neg (by omega)], rfl⟩
                    · try simp (disch := omega) only [zF_wF, zF_wA, zF_wJ, zF_wD, zA_wF, zA_wA, zA_wJ, zA_wD, zL_wJ, zL_wF, zL_wA, zL_wD, J_wr, wr_zF, wr_zA, wrJ_zL, wr_id, wrJ_id, ne_eq, reduceCtorEq, not_false_eq_true, not_true_eq_false, if_true, if_false, Nat.reduceEqDiff, eq_self] at hc57
                      refine w_load rfl rfl rfl ?_
                      refine w_const (46) rfl rfl ?_
                      refine w_icmp_eq rfl (fun hc63 => ?_) (fun hc63 => ?_)
                      · try simp (disch := omega) only [zF_wF, zF_wA, zF_wJ, zF_wD, zA_wF, zA_wA, zA_wJ, zA_wD, zL_wJ, zL_wF, zL_wA, zL_wD, J_wr, wr_zF, wr_zA, wrJ_zL, wr_id, wrJ_id, ne_eq, reduceCtorEq, not_false_eq_true, not_true_eq_false, if_true, if_false, Nat.reduceEqDiff, eq_self] at hc63
                        refine w_const (1) rfl rfl ?_
                        refine w_goto rfl ?_
                        refine w_ireturn rfl rfl ?_
                        first | (exfalso; omega) | exact RI.mk ⟨by rw [if_pos (by omega)], rfl⟩ | exact RI.mk ⟨by rw [if_neg (by omega)], rfl⟩
                      · try simp (disch := omega) only [zF_wF, zF_wA, zF_wJ, zF_wD, zA_wF, zA_wA, zA_wJ, zA_wD, zL_wJ, zL_wF, zL_wA, zL_wD, J_wr, wr_zF, wr_zA, wrJ_zL, wr_id, wrJ_id, ne_eq, reduceCtorEq, not_false_eq_true, not_true_eq_false, if_true, if_false, Nat.reduceEqDiff, eq_self] at hc63
                        refine w_load rfl rfl rfl ?_
                        refine w_const (40) rfl rfl ?_
                        refine w_icmp_eq rfl (fun hc69 => ?_) (fun hc69 => ?_)
                        · try simp (disch := omega) only [zF_wF, zF_wA, zF_wJ, zF_wD, zA_wF, zA_wA, zA_wJ, zA_wD, zL_wJ, zL_wF, zL_wA, zL_wD, J_wr, wr_zF, wr_zA, wrJ_zL, wr_id, wrJ_id, ne_eq, reduceCtorEq, not_false_eq_true, not_true_eq_false, if_true, if_false, Nat.reduceEqDiff, eq_self] at hc69
                          refine w_const (1) rfl rfl ?_
                          refine w_goto rfl ?_
                          refine w_ireturn rfl rfl ?_
                          first | (exfalso; omega) | exact RI.mk ⟨by rw [if_pos (by omega)], rfl⟩ | exact RI.mk ⟨by rw [if_neg (by omega)], rfl⟩
                        · try simp (disch := omega) only [zF_wF, zF_wA, zF_wJ, zF_wD, zA_wF, zA_wA, zA_wJ, zA_wD, zL_wJ, zL_wF, zL_wA, zL_wD, J_wr, wr_zF, wr_zA, wrJ_zL, wr_id, wrJ_id, ne_eq, reduceCtorEq, not_false_eq_true, not_true_eq_false, if_true, if_false, Nat.reduceEqDiff, eq_self] at hc69
                          refine w_load rfl rfl rfl ?_
                          refine w_const (41) rfl rfl ?_
                          refine w_icmp_eq rfl (fun hc75 => ?_) (fun hc75 => ?_)
                          · try simp (disch := omega) only [zF_wF, zF_wA, zF_wJ, zF_wD, zA_wF, zA_wA, zA_wJ, zA_wD, zL_wJ, zL_wF, zL_wA, zL_wD, J_wr, wr_zF, wr_zA, wrJ_zL, wr_id, wrJ_id, ne_eq, reduceCtorEq, not_false_eq_true, not_true_eq_false, if_true, if_false, Nat.reduceEqDiff, eq_self] at hc75
                            refine w_const (1) rfl rfl ?_
                            refine w_goto rfl ?_
                            refine w_ireturn rfl rfl ?_
                            first | (exfalso; omega) | exact RI.mk ⟨by rw [if_pos (by omega)], rfl⟩ | exact RI.mk ⟨by rw [if_neg (by omega)], rfl⟩
                          · try simp (disch := omega) only [zF_wF, zF_wA, zF_wJ, zF_wD, zA_wF, zA_wA, zA_wJ, zA_wD, zL_wJ, zL_wF, zL_wA, zL_wD, J_wr, wr_zF, wr_zA, wrJ_zL, wr_id, wrJ_id, ne_eq, reduceCtorEq, not_false_eq_true, not_true_eq_false, if_true, if_false, Nat.reduceEqDiff, eq_self] at hc75
                            refine w_load rfl rfl rfl ?_
                            refine w_const (44) rfl rfl ?_
                            refine w_icmp_eq rfl (fun hc81 => ?_) (fun hc81 => ?_)
                            · try simp (disch := omega) only [zF_wF, zF_wA, zF_wJ, zF_wD, zA_wF, zA_wA, zA_wJ, zA_wD, zL_wJ, zL_wF, zL_wA, zL_wD, J_wr, wr_zF, wr_zA, wrJ_zL, wr_id, wrJ_id, ne_eq, reduceCtorEq, not_false_eq_true, not_true_eq_false, if_true, if_false, Nat.reduceEqDiff, eq_self] at hc81
                              refine w_const (1) rfl rfl ?_
                              refine w_goto rfl ?_
                              refine w_ireturn rfl rfl ?_
                              first | (exfalso; omega) | exact RI.mk ⟨by rw [if_pos (by omega)], rfl⟩ | exact RI.mk ⟨by rw [if_neg (by omega)], rfl⟩
                            · try simp (disch := omega) only [zF_wF, zF_wA, zF_wJ, zF_wD, zA_wF, zA_wA, zA_wJ, zA_wD, zL_wJ, zL_wF, zL_wA, zL_wD, J_wr, wr_zF, wr_zA, wrJ_zL, wr_id, wrJ_id, ne_eq, reduceCtorEq, not_false_eq_true, not_true_eq_false, if_true, if_false, Nat.reduceEqDiff, eq_self] at hc81
                              refine w_load rfl rfl rfl ?_
                              refine w_const (35) rfl rfl ?_
                              refine w_icmp_eq rfl (fun hc87 => ?_) (fun hc87 => ?_)
                              · try simp (disch := omega) only [zF_wF, zF_wA, zF_wJ, zF_wD, zA_wF, zA_wA, zA_wJ, zA_wD, zL_wJ, zL_wF, zL_wA, zL_wD, J_wr, wr_zF, wr_zA, wrJ_zL, wr_id, wrJ_id, ne_eq, reduceCtorEq, not_false_eq_true, not_true_eq_false, if_true, if_false, Nat.reduceEqDiff, eq_self] at hc87
                                refine w_const (1) rfl rfl ?_
                                refine w_goto rfl ?_
                                refine w_ireturn rfl rfl ?_
                                first | (exfalso; omega) | exact RI.mk ⟨by rw [if_pos (by omega)], rfl⟩ | exact RI.mk ⟨by rw [if_neg (by omega)], rfl⟩
                              · try simp (disch := omega) only [zF_wF, zF_wA, zF_wJ, zF_wD, zA_wF, zA_wA, zA_wJ, zA_wD, zL_wJ, zL_wF, zL_wA, zL_wD, J_wr, wr_zF, wr_zA, wrJ_zL, wr_id, wrJ_id, ne_eq, reduceCtorEq, not_false_eq_true, not_true_eq_false, if_true, if_false, Nat.reduceEqDiff, eq_self] at hc87
                                refine w_load rfl rfl rfl ?_
                                refine w_const (61) rfl rfl ?_
                                refine w_icmp_ne rfl (fun hc93 => ?_) (fun hc93 => ?_)
                                · try simp (disch := omega) only [zF_wF, zF_wA, zF_wJ, zF_wD, zA_wF, zA_wA, zA_wJ, zA_wD, zL_wJ, zL_wF, zL_wA, zL_wD, J_wr, wr_zF, wr_zA, wrJ_zL, wr_id, wrJ_id, ne_eq, reduceCtorEq, not_false_eq_true, not_true_eq_false, if_true, if_false, Nat.reduceEqDiff, eq_self] at hc93
                                  refine w_const (0) rfl rfl ?_
                                  refine w_ireturn rfl rfl ?_
                                  first | (exfalso; omega) | exact RI.mk ⟨by rw [if_pos (by omega)], rfl⟩ | exact RI.mk ⟨by rw [if_neg (by omega)], rfl⟩
                                · try simp (disch := omega) only [zF_wF, zF_wA, zF_wJ, zF_wD, zA_wF, zA_wA, zA_wJ, zA_wD, zL_wJ, zL_wF, zL_wA, zL_wD, J_wr, wr_zF, wr_zA, wrJ_zL, wr_id, wrJ_id, ne_eq, reduceCtorEq, not_false_eq_true, not_true_eq_false, if_true, if_false, Nat.reduceEqDiff, eq_self] at hc93
                                  refine w_const (1) rfl rfl ?_
                                  refine w_goto rfl ?_
                                  refine w_ireturn rfl rfl ?_
                                  first | (exfalso; omega) | exact RI.mk ⟨by rw [if_pos (by omega)], rfl⟩ | exact RI.mk ⟨by rw [if_neg (by omega)], rfl⟩
theorem tw_quo1 {f0 : Int} (hT : TS G) (hs : TX G) (hf : 0 ≤ f0) : ∀ (n : Nat) (k v : Int), f0 + 1 ≤ k → k ≤ f0 + 9 → k + n = 41 → 0 ≤ v ∧ v < 2 ^ (7 * (k - f0 - 1).toNat) →
    (∀ v', 0 ≤ v' → v' < 72057594037927936 → v' = qvl (tAt G) (zF G 98 1) f0 n k v → Wp (d + 2, 160, 56, [some (.ref 98), some (.int (N f0)), some (.int (N (spn (qp (tAt G) (zF G 98 1) f0) n k))), some (.long (J v')), none], [], G) Q) →
    Wp (d + 2, 160, 6, [some (.ref 98), some (.int (N f0)), some (.int (N k)), some (.long (J v)), none], [], G) Q := by
  intro n
  induction n with
  | zero =>
    intro k v hk hk9 hkn hv hx
    have hsz := hs.2.1
    have hle := p7_le (k - f0 - 1).toNat (by omega)
    refine w_load rfl rfl rfl ?_
    refine w_load rfl rfl rfl ?_
    refine w_getI0 rfl hT.o ?_
    refine w_icmp_ge rfl (fun hc11 => ?_) (fun hc11 => ?_)
    · try simp (disch := omega) only [zF_wF, zF_wA, zF_wJ, zF_wD, zA_wF, zA_wA, zA_wJ, zA_wD, zL_wJ, zL_wF, zL_wA, zL_wD, J_wr, wr_zF, wr_zA, wrJ_zL, wr_id, wrJ_id, ne_eq, reduceCtorEq, not_false_eq_true, not_true_eq_false, if_true, if_false, Nat.reduceEqDiff, eq_self] at hc11
      exact hx v hv.1 (by omega) rfl
    · exfalso; simp (disch := omega) only [zF_wF, zF_wA, zF_wJ, zF_wD, zA_wF, zA_wA, zA_wJ, zA_wD, zL_wJ, zL_wF, zL_wA, zL_wD, J_wr, wr_zF, wr_zA, wrJ_zL, wr_id, wrJ_id, ne_eq, reduceCtorEq, not_false_eq_true, not_true_eq_false, if_true, if_false, Nat.reduceEqDiff, eq_self] at hc11 <;> omega
  | succ n ih =>
    intro k v hk hk9 hkn hv hx
    rw [spn, qvl] at hx
    have hle := p7_le (k - f0 - 1).toNat (by omega)
    have hno : ¬ qp (tAt G) (zF G 98 1) f0 k = true → Wp (d + 2, 160, 56, [some (.ref 98), some (.int (N f0)), some (.int (N k)), some (.long (J v)), none], [], G) Q := by
      intro h
      simp only [if_neg h] at hx
      exact hx v hv.1 (by omega) rfl
    have hr := tAt_rng hs (k := k) (by omega)
    refine w_load rfl rfl rfl ?_
    refine w_load rfl rfl rfl ?_
    refine w_getI0 rfl hT.o ?_
    refine w_icmp_ge rfl (fun hc11 => ?_) (fun hc11 => ?_)
    · try simp (disch := omega) only [zF_wF, zF_wA, zF_wJ, zF_wD, zA_wF, zA_wA, zA_wJ, zA_wD, zL_wJ, zL_wF, zL_wA, zL_wD, J_wr, wr_zF, wr_zA, wrJ_zL, wr_id, wrJ_id, ne_eq, reduceCtorEq, not_false_eq_true, not_true_eq_false, if_true, if_false, Nat.reduceEqDiff, eq_self, wr_tAt] at hc11
      exact hno (by rw [qp_iff]; omega)
    · try simp (disch := omega) only [zF_wF, zF_wA, zF_wJ, zF_wD, zA_wF, zA_wA, zA_wJ, zA_wD, zL_wJ, zL_wF, zL_wA, zL_wD, J_wr, wr_zF, wr_zA, wrJ_zL, wr_id, wrJ_id, ne_eq, reduceCtorEq, not_false_eq_true, not_true_eq_false, if_true, if_false, Nat.reduceEqDiff, eq_self, wr_tAt] at hc11
      refine w_load rfl rfl rfl ?_
      refine w_load rfl rfl rfl ?_
      refine w_callI2 rfl (Nat.le_of_ble_eq_true rfl) (Or.inr (Or.inr hT.o)) (Nat.le_of_ble_eq_true rfl) (tw_at hT (by omega) hs.2.1) (fun z16 G16 h16 => ?_)
      obtain ⟨rfl, rfl⟩ := h16
      refine w_const (39) rfl rfl ?_
      refine w_icmp_eq rfl (fun hc21 => ?_) (fun hc21 => ?_)
      · try simp (disch := omega) only [zF_wF, zF_wA, zF_wJ, zF_wD, zA_wF, zA_wA, zA_wJ, zA_wD, zL_wJ, zL_wF, zL_wA, zL_wD, J_wr, wr_zF, wr_zA, wrJ_zL, wr_id, wrJ_id, ne_eq, reduceCtorEq, not_false_eq_true, not_true_eq_false, if_true, if_false, Nat.reduceEqDiff, eq_self, wr_tAt] at hc21
        exact hno (by rw [qp_iff]; omega)
      · try simp (disch := omega) only [zF_wF, zF_wA, zF_wJ, zF_wD, zA_wF, zA_wA, zA_wJ, zA_wD, zL_wJ, zL_wF, zL_wA, zL_wD, J_wr, wr_zF, wr_zA, wrJ_zL, wr_id, wrJ_id, ne_eq, reduceCtorEq, not_false_eq_true, not_true_eq_false, if_true, if_false, Nat.reduceEqDiff, eq_self, wr_tAt] at hc21
        refine w_load rfl rfl rfl ?_
        refine w_load rfl rfl rfl ?_
        refine w_isub rfl ?_
        refine w_const (8) rfl rfl ?_
        refine w_icmp_gt rfl (fun hc29 => ?_) (fun hc29 => ?_)
        · try simp (disch := omega) only [zF_wF, zF_wA, zF_wJ, zF_wD, zA_wF, zA_wA, zA_wJ, zA_wD, zL_wJ, zL_wF, zL_wA, zL_wD, J_wr, wr_zF, wr_zA, wrJ_zL, wr_id, wrJ_id, ne_eq, reduceCtorEq, not_false_eq_true, not_true_eq_false, if_true, if_false, Nat.reduceEqDiff, eq_self, wr_tAt] at hc29
          exact hno (by rw [qp_iff]; omega)
        · try simp (disch := omega) only [zF_wF, zF_wA, zF_wJ, zF_wD, zA_wF, zA_wA, zA_wJ, zA_wD, zL_wJ, zL_wF, zL_wA, zL_wD, J_wr, wr_zF, wr_zA, wrJ_zL, wr_id, wrJ_id, ne_eq, reduceCtorEq, not_false_eq_true, not_true_eq_false, if_true, if_false, Nat.reduceEqDiff, eq_self, wr_tAt] at hc29
          refine w_load rfl rfl rfl ?_
          refine w_load rfl rfl rfl ?_
          refine w_load rfl rfl rfl ?_
          refine w_callI2 rfl (Nat.le_of_ble_eq_true rfl) (Or.inr (Or.inr hT.o)) (Nat.le_of_ble_eq_true rfl) (tw_at hT (by omega) hs.2.1) (fun z35 G35 h35 => ?_)
          obtain ⟨rfl, rfl⟩ := h35
          refine w_i2l rfl ?_
          refine w_const (7) rfl rfl ?_
          refine w_load rfl rfl rfl ?_
          refine w_load rfl rfl rfl ?_
          refine w_isub rfl ?_
          refine w_const (1) rfl rfl ?_
          refine w_isub rfl ?_
          refine w_imul rfl ?_
          refine w_lshl rfl ?_
          refine w_lor rfl ?_
          refine w_stw3 rfl rfl rfl ?_
          refine w_inc2 (1) rfl rfl rfl ?_
          refine w_goto rfl ?_
          have hq : qp (tAt G) (zF G 98 1) f0 k = true := qp_iff.mpr ⟨by omega, by omega, by omega⟩
          simp only [if_pos hq] at hx
          have hb := pk_bound hv (c := tAt G k) (by omega)
          rw [wr_tAt, pk_step (k - f0 - 1).toNat (by omega) (by omega) hv (by omega)]
          refine ih (k + 1) _ (by omega) (by omega) (by omega) ?_ hx
          rw [show (k + 1 - f0 - 1).toNat = (k - f0 - 1).toNat + 1 by omega]
          exact hb
theorem tw_quoted {f0 : Int} (hT : TS G) (hs : TX G) (hf : 0 ≤ f0 ∧ f0 < 40) (ht : 0 ≤ zF G 98 3 ∧ zF G 98 3 ≤ 40) : Wp (d + 2, 160, 0, [some (.ref 98), some (.int (N f0)), none, none, none], [], G)
    (RI fun z G' => if tAt G (qE (tAt G) (zF G 98 1) f0) = 39 then z = qE (tAt G) (zF G 98 1) f0 + 1 ∧ G' = addG G 4 f0 (J (qV (tAt G) (zF G 98 1) f0 + (qE (tAt G) (zF G 98 1) f0 - f0 - 1) * 2 ^ 56)) else z = zF G 98 1 ∧ G' = wrongG G 1 f0) := by
  have hn : f0 + 1 + (40 - f0).toNat = 41 := by omega
  obtain ⟨m, hm⟩ := fuel41 (by omega) hn
  have hfar : ∀ j, f0 + 1 + (40 - f0).toNat ≤ j → qp (tAt G) (zF G 98 1) f0 j = false := by
    intro j hj
    have := hs.2.1
    cases h : qp (tAt G) (zF G 98 1) f0 j with
    | false => rfl
    | true => rw [qp_iff] at h; omega
  have g3 := spn_more m _ (f0 + 1) hfar
  have g4 := qvl_more m _ (f0 + 1) 0 hfar
  rw [← hm] at g3 g4
  have h1 : f0 + 1 ≤ qE (tAt G) (zF G 98 1) f0 := spn_ge _ _ _
  have h2 : qE (tAt G) (zF G 98 1) f0 ≤ f0 + 9 := by
    by_cases h : qE (tAt G) (zF G 98 1) f0 ≤ f0 + 9
    · exact h
    · have := spn_all (qp (tAt G) (zF G 98 1) f0) 41 (f0 + 1) (f0 + 9) (by omega) (by show _ < qE _ _ _; omega)
      rw [qp_iff] at this
      omega
  refine w_load rfl rfl rfl ?_
  refine w_const (1) rfl rfl ?_
  refine w_iadd rfl ?_
  refine w_st2 rfl rfl rfl ?_
  refine w_lconst (0) rfl rfl ?_
  refine w_stw3 rfl rfl rfl ?_
  refine tw_quo1 hT hs hf.1 _ (f0 + 1) 0 (by omega) (by omega) hn (by have := p7_pos (f0 + 1 - f0 - 1).toNat; omega) (fun v' a1 a2 a3 => ?_)
  rw [← g3]
  rw [← g4] at a3
  have hv' : v' = qV (tAt G) (zF G 98 1) f0 := a3
  rw [← hv']
  show Wp (d + 2, 160, 56, [some (.ref 98), some (.int (N f0)), some (.int (N (qE (tAt G) (zF G 98 1) f0))), some (.long (J v')), none], [], G) _
  generalize qE (tAt G) (zF G 98 1) f0 = q at h1 h2 ⊢
  refine w_load rfl rfl rfl ?_
  refine w_load rfl rfl rfl ?_
  refine w_callI2 rfl (Nat.le_of_ble_eq_true rfl) (Or.inr (Or.inr hT.o)) (Nat.le_of_ble_eq_true rfl) (tw_at hT (by omega) hs.2.1) (fun z58 G58 h58 => ?_)
  obtain ⟨rfl, rfl⟩ := h58
  refine w_const (39) rfl rfl ?_
  refine w_icmp_eq rfl (fun hc63 => ?_) (fun hc63 => ?_)
  · try simp (disch := omega) only [zF_wF, zF_wA, zF_wJ, zF_wD, zA_wF, zA_wA, zA_wJ, zA_wD, zL_wJ, zL_wF, zL_wA, zL_wD, J_wr, wr_zF, wr_zA, wrJ_zL, wr_id, wrJ_id, ne_eq, reduceCtorEq, not_false_eq_true, not_true_eq_false, if_true, if_false, Nat.reduceEqDiff, eq_self, wr_tAt] at hc63
    refine w_load rfl rfl rfl ?_
    refine w_const (4) rfl rfl ?_
    refine w_load rfl rfl rfl ?_
    refine w_load rfl rfl rfl ?_
    refine w_load rfl rfl rfl ?_
    refine w_load rfl rfl rfl ?_
    refine w_isub rfl ?_
    refine w_const (1) rfl rfl ?_
    refine w_isub rfl ?_
    refine w_i2l rfl ?_
    refine w_const (56) rfl rfl ?_
    refine w_lshl rfl ?_
    refine w_lor rfl ?_
    refine w_callV4 rfl (Nat.le_of_ble_eq_true rfl) (Or.inr (Or.inr hT.o)) (Nat.le_of_ble_eq_true rfl) (tw_add hT (by omega)) (fun G91 h91 => ?_)
    obtain rfl := h91
    refine w_load rfl rfl rfl ?_
    refine w_const (1) rfl rfl ?_
    refine w_iadd rfl ?_
    refine w_ireturn rfl rfl ?_
    refine RI.mk ?_
    rw [if_pos (by omega), wr_id (by omega) (by omega)]
    have e : (56 : Int) = 7 * ((8 : Nat) : Int) := rfl
    rw [pk_step (v := v') (c := q - f0 - 1) 8 e (by decide) ⟨a1, a2⟩ (by omega)]
    exact ⟨rfl, rfl⟩
  · try simp (disch := omega) only [zF_wF, zF_wA, zF_wJ, zF_wD, zA_wF, zA_wA, zA_wJ, zA_wD, zL_wJ, zL_wF, zL_wA, zL_wD, J_wr, wr_zF, wr_zA, wrJ_zL, wr_id, wrJ_id, ne_eq, reduceCtorEq, not_false_eq_true, not_true_eq_false, if_true, if_false, Nat.reduceEqDiff, eq_self, wr_tAt] at hc63
    refine w_load rfl rfl rfl ?_
    refine w_const (1) rfl rfl ?_
    refine w_load rfl rfl rfl ?_
    refine w_callV3 rfl (Nat.le_of_ble_eq_true rfl) (Or.inr (Or.inr hT.o)) (Nat.le_of_ble_eq_true rfl) (tw_wrong hT) (fun G69 h69 => ?_)
    obtain rfl := h69
    refine w_load rfl rfl rfl ?_
    refine w_getI0k rfl (show tg (wrongG G 1 f0) 98 = 21 by unfold wrongG; split <;> exact hT.o) ((show zF (wrongG G 1 f0) 98 1 = zF G 98 1 by unfold wrongG; split <;> simp [zF_wF])) ?_
    refine w_ireturn rfl rfl ?_
    exact RI.mk (by rw [if_neg (by omega)]; exact ⟨rfl, rfl⟩)
theorem tw_sign {f0 : Int} (hT : TS G) (hs : TX G) (hf : 0 ≤ f0 ∧ f0 < 40) (ht : 0 ≤ zF G 98 3 ∧ zF G 98 3 ≤ 40) : Wp (d + 2, 161, 0, [some (.ref 98), some (.int (N f0)), none], [], G)
    (RI fun z G' => if sgTwo (tAt G f0) (tAt G (f0 + 1)) = true then z = f0 + 2 ∧ G' = addG G 5 f0 (J (256 * tAt G f0 + tAt G (f0 + 1))) else z = f0 + 1 ∧ G' = if sgOne (tAt G f0) = true then addG G 5 f0 (J (tAt G f0)) else wrongG G 1 f0) := by
  have r1 := tAt_rng hs (k := f0) (by omega)
  have r2 := tAt_rng hs (k := f0 + 1) (by omega)
  refine w_load rfl rfl rfl ?_
  refine w_load rfl rfl rfl ?_
  refine w_callI2 rfl (Nat.le_of_ble_eq_true rfl) (Or.inr (Or.inr hT.o)) (Nat.le_of_ble_eq_true rfl) (tw_at hT (by omega) hs.2.1) (fun z2 G2 h2 => ?_)
  obtain ⟨rfl, rfl⟩ := h2
  refine w_st2 rfl rfl rfl ?_
  refine w_load rfl rfl rfl ?_
  refine w_load rfl rfl rfl ?_
  refine w_load rfl rfl rfl ?_
  refine w_const (1) rfl rfl ?_
  refine w_iadd rfl ?_
  refine w_callI2 rfl (Nat.le_of_ble_eq_true rfl) (Or.inr (Or.inr hT.o)) (Nat.le_of_ble_eq_true rfl) (tw_at hT (by omega) hs.2.1) (fun z11 G11 h11 => ?_)
  obtain ⟨rfl, rfl⟩ := h11
  refine w_callI2 rfl (Nat.le_of_ble_eq_true rfl) ((by first | rfl | exact Or.inl rfl)) (Nat.le_of_ble_eq_true rfl) (tw_twice (by omega) (by omega)) (fun z14 G14 h14 => ?_)
  obtain ⟨rfl, rfl⟩ := h14
  refine w_if_eq rfl (fun hc17 => ?_) (fun hc17 => ?_)
  · try simp (disch := omega) only [zF_wF, zF_wA, zF_wJ, zF_wD, zA_wF, zA_wA, zA_wJ, zA_wD, zL_wJ, zL_wF, zL_wA, zL_wD, J_wr, wr_zF, wr_zA, wrJ_zL, wr_id, wrJ_id, ne_eq, reduceCtorEq, not_false_eq_true, not_true_eq_false, if_true, if_false, Nat.reduceEqDiff, eq_self, wr_tAt] at hc17
    have hd : ¬ sgTwo (tAt G f0) (tAt G (f0 + 1)) = true := by intro h; rw [if_pos h] at hc17; exact absurd hc17 (by decide)
    refine w_load rfl rfl rfl ?_
    refine w_callI1 rfl (Nat.le_of_ble_eq_true rfl) ((by first | rfl | exact Or.inl rfl)) (Nat.le_of_ble_eq_true rfl) (tw_single (by omega)) (fun z46 G46 h46 => ?_)
    obtain ⟨rfl, rfl⟩ := h46
    refine w_if_eq rfl (fun hc49 => ?_) (fun hc49 => ?_)
    · try simp (disch := omega) only [zF_wF, zF_wA, zF_wJ, zF_wD, zA_wF, zA_wA, zA_wJ, zA_wD, zL_wJ, zL_wF, zL_wA, zL_wD, J_wr, wr_zF, wr_zA, wrJ_zL, wr_id, wrJ_id, ne_eq, reduceCtorEq, not_false_eq_true, not_true_eq_false, if_true, if_false, Nat.reduceEqDiff, eq_self, wr_tAt] at hc49
      have ho : ¬ sgOne (tAt G f0) = true := by intro h; rw [if_pos h] at hc49; exact absurd hc49 (by decide)
      refine w_load rfl rfl rfl ?_
      refine w_const (1) rfl rfl ?_
      refine w_load rfl rfl rfl ?_
      refine w_callV3 rfl (Nat.le_of_ble_eq_true rfl) (Or.inr (Or.inr hT.o)) (Nat.le_of_ble_eq_true rfl) (tw_wrong hT) (fun G66 h66 => ?_)
      obtain rfl := h66
      refine w_load rfl rfl rfl ?_
      refine w_const (1) rfl rfl ?_
      refine w_iadd rfl ?_
      refine w_ireturn rfl rfl ?_
      first
      | exact RI.mk (by rw [if_neg hd, if_pos ho, wr_tAt]; exact ⟨rfl, rfl⟩)
      | exact RI.mk (by rw [if_neg hd, if_neg ho]; exact ⟨rfl, rfl⟩)
    · try simp (disch := omega) only [zF_wF, zF_wA, zF_wJ, zF_wD, zA_wF, zA_wA, zA_wJ, zA_wD, zL_wJ, zL_wF, zL_wA, zL_wD, J_wr, wr_zF, wr_zA, wrJ_zL, wr_id, wrJ_id, ne_eq, reduceCtorEq, not_false_eq_true, not_true_eq_false, if_true, if_false, Nat.reduceEqDiff, eq_self, wr_tAt] at hc49
      have ho : sgOne (tAt G f0) = true := by by_cases h : sgOne (tAt G f0) = true; exact h; exfalso; rw [if_neg h] at hc49; exact hc49 rfl
      refine w_load rfl rfl rfl ?_
      refine w_const (5) rfl rfl ?_
      refine w_load rfl rfl rfl ?_
      refine w_load rfl rfl rfl ?_
      refine w_i2l rfl ?_
      refine w_callV4 rfl (Nat.le_of_ble_eq_true rfl) (Or.inr (Or.inr hT.o)) (Nat.le_of_ble_eq_true rfl) (tw_add hT (by omega)) (fun G57 h57 => ?_)
      obtain rfl := h57
      refine w_goto rfl ?_
      refine w_load rfl rfl rfl ?_
      refine w_const (1) rfl rfl ?_
      refine w_iadd rfl ?_
      refine w_ireturn rfl rfl ?_
      first
      | exact RI.mk (by rw [if_neg hd, if_pos ho, wr_tAt]; exact ⟨rfl, rfl⟩)
      | exact RI.mk (by rw [if_neg hd, if_neg ho]; exact ⟨rfl, rfl⟩)
  · try simp (disch := omega) only [zF_wF, zF_wA, zF_wJ, zF_wD, zA_wF, zA_wA, zA_wJ, zA_wD, zL_wJ, zL_wF, zL_wA, zL_wD, J_wr, wr_zF, wr_zA, wrJ_zL, wr_id, wrJ_id, ne_eq, reduceCtorEq, not_false_eq_true, not_true_eq_false, if_true, if_false, Nat.reduceEqDiff, eq_self, wr_tAt] at hc17
    have hd : sgTwo (tAt G f0) (tAt G (f0 + 1)) = true := by by_cases h : sgTwo (tAt G f0) (tAt G (f0 + 1)) = true; exact h; exfalso; rw [if_neg h] at hc17; exact hc17 rfl
    refine w_load rfl rfl rfl ?_
    refine w_const (5) rfl rfl ?_
    refine w_load rfl rfl rfl ?_
    refine w_lconst (256) rfl rfl ?_
    refine w_load rfl rfl rfl ?_
    refine w_i2l rfl ?_
    refine w_lmul rfl ?_
    refine w_load rfl rfl rfl ?_
    refine w_load rfl rfl rfl ?_
    refine w_const (1) rfl rfl ?_
    refine w_iadd rfl ?_
    refine w_callI2 rfl (Nat.le_of_ble_eq_true rfl) (Or.inr (Or.inr hT.o)) (Nat.le_of_ble_eq_true rfl) (tw_at hT (by omega) hs.2.1) (fun z33 G33 h33 => ?_)
    obtain ⟨rfl, rfl⟩ := h33
    refine w_i2l rfl ?_
    refine w_ladd rfl ?_
    refine w_callV4 rfl (Nat.le_of_ble_eq_true rfl) (Or.inr (Or.inr hT.o)) (Nat.le_of_ble_eq_true rfl) (tw_add hT (by omega)) (fun G38 h38 => ?_)
    obtain rfl := h38
    refine w_load rfl rfl rfl ?_
    refine w_const (2) rfl rfl ?_
    refine w_iadd rfl ?_
    refine w_ireturn rfl rfl ?_
    exact RI.mk (by rw [if_pos hd, wr_tAt, wr_tAt]; exact ⟨rfl, rfl⟩)
end tw3

