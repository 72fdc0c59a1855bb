/-! THE TWIN: methods -/
set_option maxRecDepth 100000
section tw18
variable {d : Nat} {G : mG}
/-- the heap behind a method more -/
def methG (G : mG) (c nm o1 o2 ac nu : Int) : mG :=
  wA (wA (wA (wA (wA (wA (wF G 98 0 0) 124 (6 * c + zA G 123 c) nm) 125 (6 * c + zA G 123 c) o1) 126 (6 * c + zA G 123 c) o2) 127 (6 * c + zA G 123 c) ac) 128 (6 * c + zA G 123 c) nu) 123 c (zA G 123 c + 1)
theorem tw_meth39 {c nm o1 o2 ac nu t : Int} (hT : TS G) (hc : wr c = c) (hn : wr nm = nm) (ha : wr ac = ac) (ht : t = 0 ∨ t = 1) (hcl : zF G 98 35 ≤ 5) (hm : ∀ c, 0 ≤ c → c < 5 → 0 ≤ zA G 123 c ∧ zA G 123 c ≤ 6) :
    Wp (d + 2, 189, 39, [some (.ref 98), some (.int (N c)), some (.int (N nm)), some (.int (N o1)), some (.int (N o2)), some (.int (N ac)), some (.int (N nu)), none, none], [.int (N t)], G) (RI fun z G' =>
      ¬ ((0 ≤ c ∧ c < zF G 98 35) ∧ (1 ≤ nm ∧ nm ≤ 14348906) ∧ 0 ≤ ac ∧ ac ≤ 5 ∧ t = 1) ∧ z = 0 ∧ G' = wF G 98 0 1
      ∨ ((0 ≤ c ∧ c < zF G 98 35) ∧ (1 ≤ nm ∧ nm ≤ 14348906) ∧ 0 ≤ ac ∧ ac ≤ 5 ∧ t = 1) ∧ (zA G 123 c = 6 ∧ z = 0 ∧ G' = wF G 98 0 2 ∨ zA G 123 c < 6 ∧ z = zA G 123 c + 1 ∧ G' = methG G c nm o1 o2 ac nu)) := by
  have hr := wr_rng hc
  have hr2 := wr_rng hn
  have hr3 := wr_rng ha
  have hm2 := hm c
  have hz : ∀ H : mG, (∀ x, x = 123 → ∀ k, zA H x k = zA G x k) → zA H 123 c = zA G 123 c := fun H h => h 123 rfl c
  refine w_st7 rfl rfl rfl ?_
  refine w_load rfl rfl rfl ?_
  refine w_load rfl rfl rfl ?_
  refine w_load rfl rfl rfl ?_
  refine w_callI2 rfl (Nat.le_of_ble_eq_true rfl) (Or.inr (Or.inr hT.o)) (Nat.le_of_ble_eq_true rfl) (tw_isClass hT hc) (fun z44 G44 h44 => ?_)
  obtain ⟨rfl, rfl⟩ := h44
  refine w_if_eq rfl (fun hc47 => ?_) (fun hc47 => ?_)
  · try simp (disch := omega) only [zF_wF, zF_wA, zF_wJ, zF_wD, zA_wF, zA_wA, zA_wJ, zA_wD, zL_wJ, zL_wF, zL_wA, zL_wD, J_wr, wr_zF, wr_zA, wrJ_zL, wr_id, wrJ_id, ne_eq, reduceCtorEq, not_false_eq_true, not_true_eq_false, if_true, if_false, Nat.reduceEqDiff, eq_self, hc, hn, ha, wif0, if0, Decidable.not_not] at hc47
    refine w_const (1) rfl rfl ?_
    refine w_goto rfl ?_
    refine w_putI0 rfl hT.o ?_
    refine w_load rfl rfl rfl ?_
    refine w_getI0k rfl hT.o (by (try simp (disch := omega) only [zF_wF, zF_wA, zF_wJ, zF_wD, zA_wF, zA_wA, zA_wJ, zA_wD, zL_wJ, zL_wF, zL_wA, zL_wD, J_wr, wr_zF, wr_zA, wrJ_zL, wr_id, wrJ_id, ne_eq, reduceCtorEq, not_false_eq_true, not_true_eq_false, if_true, if_false, Nat.reduceEqDiff, eq_self, hc, hn, ha, wif0, if0, Decidable.not_not]); rfl) ?_
    refine w_if_le rfl (fun hc100 => ?_) (fun hc100 => ?_)
    · exfalso; simp (disch := omega) only [zF_wF, zF_wA, zF_wJ, zF_wD, zA_wF, zA_wA, zA_wJ, zA_wD, zL_wJ, zL_wF, zL_wA, zL_wD, J_wr, wr_zF, wr_zA, wrJ_zL, wr_id, wrJ_id, ne_eq, reduceCtorEq, not_false_eq_true, not_true_eq_false, if_true, if_false, Nat.reduceEqDiff, eq_self, hc, hn, ha, wif0, if0, Decidable.not_not] at hc100 <;> omega
    · try simp (disch := omega) only [zF_wF, zF_wA, zF_wJ, zF_wD, zA_wF, zA_wA, zA_wJ, zA_wD, zL_wJ, zL_wF, zL_wA, zL_wD, J_wr, wr_zF, wr_zA, wrJ_zL, wr_id, wrJ_id, ne_eq, reduceCtorEq, not_false_eq_true, not_true_eq_false, if_true, if_false, Nat.reduceEqDiff, eq_self, hc, hn, ha, wif0, if0, Decidable.not_not] at hc100
      refine w_const (0) rfl rfl ?_
      refine w_ireturn rfl rfl ?_
      first
      | exact RI.mk (Or.inl ⟨by omega, rfl, rfl⟩)
      | exact RI.mk (Or.inr ⟨by omega, Or.inl ⟨by omega, rfl, rfl⟩⟩)
      | exact RI.mk (Or.inr ⟨by omega, Or.inr ⟨by omega, rfl, rfl⟩⟩)
  · try simp (disch := omega) only [zF_wF, zF_wA, zF_wJ, zF_wD, zA_wF, zA_wA, zA_wJ, zA_wD, zL_wJ, zL_wF, zL_wA, zL_wD, J_wr, wr_zF, wr_zA, wrJ_zL, wr_id, wrJ_id, ne_eq, reduceCtorEq, not_false_eq_true, not_true_eq_false, if_true, if_false, Nat.reduceEqDiff, eq_self, hc, hn, ha, wif0, if0, Decidable.not_not] at hc47
    refine w_load rfl rfl rfl ?_
    refine w_callI1 rfl (Nat.le_of_ble_eq_true rfl) ((by first | rfl | exact Or.inl rfl)) (Nat.le_of_ble_eq_true rfl) (tw_isName hn) (fun z51 G51 h51 => ?_)
    obtain ⟨rfl, rfl⟩ := h51
    refine w_if_eq rfl (fun hc54 => ?_) (fun hc54 => ?_)
    · try simp (disch := omega) only [zF_wF, zF_wA, zF_wJ, zF_wD, zA_wF, zA_wA, zA_wJ, zA_wD, zL_wJ, zL_wF, zL_wA, zL_wD, J_wr, wr_zF, wr_zA, wrJ_zL, wr_id, wrJ_id, ne_eq, reduceCtorEq, not_false_eq_true, not_true_eq_false, if_true, if_false, Nat.reduceEqDiff, eq_self, hc, hn, ha, wif0, if0, Decidable.not_not] at hc54
      refine w_const (1) rfl rfl ?_
      refine w_goto rfl ?_
      refine w_putI0 rfl hT.o ?_
      refine w_load rfl rfl rfl ?_
      refine w_getI0k rfl hT.o (by (try simp (disch := omega) only [zF_wF, zF_wA, zF_wJ, zF_wD, zA_wF, zA_wA, zA_wJ, zA_wD, zL_wJ, zL_wF, zL_wA, zL_wD, J_wr, wr_zF, wr_zA, wrJ_zL, wr_id, wrJ_id, ne_eq, reduceCtorEq, not_false_eq_true, not_true_eq_false, if_true, if_false, Nat.reduceEqDiff, eq_self, hc, hn, ha, wif0, if0, Decidable.not_not]); rfl) ?_
      refine w_if_le rfl (fun hc100 => ?_) (fun hc100 => ?_)
      · exfalso; simp (disch := omega) only [zF_wF, zF_wA, zF_wJ, zF_wD, zA_wF, zA_wA, zA_wJ, zA_wD, zL_wJ, zL_wF, zL_wA, zL_wD, J_wr, wr_zF, wr_zA, wrJ_zL, wr_id, wrJ_id, ne_eq, reduceCtorEq, not_false_eq_true, not_true_eq_false, if_true, if_false, Nat.reduceEqDiff, eq_self, hc, hn, ha, wif0, if0, Decidable.not_not] at hc100 <;> omega
      · try simp (disch := omega) only [zF_wF, zF_wA, zF_wJ, zF_wD, zA_wF, zA_wA, zA_wJ, zA_wD, zL_wJ, zL_wF, zL_wA, zL_wD, J_wr, wr_zF, wr_zA, wrJ_zL, wr_id, wrJ_id, ne_eq, reduceCtorEq, not_false_eq_true, not_true_eq_false, if_true, if_false, Nat.reduceEqDiff, eq_self, hc, hn, ha, wif0, if0, Decidable.not_not] at hc100
        refine w_const (0) rfl rfl ?_
        refine w_ireturn rfl rfl ?_
        first
        | exact RI.mk (Or.inl ⟨by omega, rfl, rfl⟩)
        | exact RI.mk (Or.inr ⟨by omega, Or.inl ⟨by omega, rfl, rfl⟩⟩)
        | exact RI.mk (Or.inr ⟨by omega, Or.inr ⟨by omega, rfl, rfl⟩⟩)
    · try simp (disch := omega) only [zF_wF, zF_wA, zF_wJ, zF_wD, zA_wF, zA_wA, zA_wJ, zA_wD, zL_wJ, zL_wF, zL_wA, zL_wD, J_wr, wr_zF, wr_zA, wrJ_zL, wr_id, wrJ_id, ne_eq, reduceCtorEq, not_false_eq_true, not_true_eq_false, if_true, if_false, Nat.reduceEqDiff, eq_self, hc, hn, ha, wif0, if0, Decidable.not_not] at hc54
      refine w_load rfl rfl rfl ?_
      refine w_if_lt rfl (fun hc59 => ?_) (fun hc59 => ?_)
      · try simp (disch := omega) only [zF_wF, zF_wA, zF_wJ, zF_wD, zA_wF, zA_wA, zA_wJ, zA_wD, zL_wJ, zL_wF, zL_wA, zL_wD, J_wr, wr_zF, wr_zA, wrJ_zL, wr_id, wrJ_id, ne_eq, reduceCtorEq, not_false_eq_true, not_true_eq_false, if_true, if_false, Nat.reduceEqDiff, eq_self, hc, hn, ha, wif0, if0, Decidable.not_not] at hc59
        refine w_const (1) rfl rfl ?_
        refine w_goto rfl ?_
        refine w_putI0 rfl hT.o ?_
        refine w_load rfl rfl rfl ?_
        refine w_getI0k rfl hT.o (by (try simp (disch := omega) only [zF_wF, zF_wA, zF_wJ, zF_wD, zA_wF, zA_wA, zA_wJ, zA_wD, zL_wJ, zL_wF, zL_wA, zL_wD, J_wr, wr_zF, wr_zA, wrJ_zL, wr_id, wrJ_id, ne_eq, reduceCtorEq, not_false_eq_true, not_true_eq_false, if_true, if_false, Nat.reduceEqDiff, eq_self, hc, hn, ha, wif0, if0, Decidable.not_not]); rfl) ?_
        refine w_if_le rfl (fun hc100 => ?_) (fun hc100 => ?_)
        · exfalso; simp (disch := omega) only [zF_wF, zF_wA, zF_wJ, zF_wD, zA_wF, zA_wA, zA_wJ, zA_wD, zL_wJ, zL_wF, zL_wA, zL_wD, J_wr, wr_zF, wr_zA, wrJ_zL, wr_id, wrJ_id, ne_eq, reduceCtorEq, not_false_eq_true, not_true_eq_false, if_true, if_false, Nat.reduceEqDiff, eq_self, hc, hn, ha, wif0, if0, Decidable.not_not] at hc100 <;> omega
        · try simp (disch := omega) only [zF_wF, zF_wA, zF_wJ, zF_wD, zA_wF, zA_wA, zA_wJ, zA_wD, zL_wJ, zL_wF, zL_wA, zL_wD, J_wr, wr_zF, wr_zA, wrJ_zL, wr_id, wrJ_id, ne_eq, reduceCtorEq, not_false_eq_true, not_true_eq_false, if_true, if_false, Nat.reduceEqDiff, eq_self, hc, hn, ha, wif0, if0, Decidable.not_not] at hc100
          refine w_const (0) rfl rfl ?_
          refine w_ireturn rfl rfl ?_
          first
          | exact RI.mk (Or.inl ⟨by omega, rfl, rfl⟩)
          | exact RI.mk (Or.inr ⟨by omega, Or.inl ⟨by omega, rfl, rfl⟩⟩)
          | exact RI.mk (Or.inr ⟨by omega, Or.inr ⟨by omega, rfl, rfl⟩⟩)
      · try simp (disch := omega) only [zF_wF, zF_wA, zF_wJ, zF_wD, zA_wF, zA_wA, zA_wJ, zA_wD, zL_wJ, zL_wF, zL_wA, zL_wD, J_wr, wr_zF, wr_zA, wrJ_zL, wr_id, wrJ_id, ne_eq, reduceCtorEq, not_false_eq_true, not_true_eq_false, if_true, if_false, Nat.reduceEqDiff, eq_self, hc, hn, ha, wif0, if0, Decidable.not_not] at hc59
        refine w_load rfl rfl rfl ?_
        refine w_const (5) rfl rfl ?_
        refine w_icmp_gt rfl (fun hc65 => ?_) (fun hc65 => ?_)
        · try simp (disch := omega) only [zF_wF, zF_wA, zF_wJ, zF_wD, zA_wF, zA_wA, zA_wJ, zA_wD, zL_wJ, zL_wF, zL_wA, zL_wD, J_wr, wr_zF, wr_zA, wrJ_zL, wr_id, wrJ_id, ne_eq, reduceCtorEq, not_false_eq_true, not_true_eq_false, if_true, if_false, Nat.reduceEqDiff, eq_self, hc, hn, ha, wif0, if0, Decidable.not_not] at hc65
          refine w_const (1) rfl rfl ?_
          refine w_goto rfl ?_
          refine w_putI0 rfl hT.o ?_
          refine w_load rfl rfl rfl ?_
          refine w_getI0k rfl hT.o (by (try simp (disch := omega) only [zF_wF, zF_wA, zF_wJ, zF_wD, zA_wF, zA_wA, zA_wJ, zA_wD, zL_wJ, zL_wF, zL_wA, zL_wD, J_wr, wr_zF, wr_zA, wrJ_zL, wr_id, wrJ_id, ne_eq, reduceCtorEq, not_false_eq_true, not_true_eq_false, if_true, if_false, Nat.reduceEqDiff, eq_self, hc, hn, ha, wif0, if0, Decidable.not_not]); rfl) ?_
          refine w_if_le rfl (fun hc100 => ?_) (fun hc100 => ?_)
          · exfalso; simp (disch := omega) only [zF_wF, zF_wA, zF_wJ, zF_wD, zA_wF, zA_wA, zA_wJ, zA_wD, zL_wJ, zL_wF, zL_wA, zL_wD, J_wr, wr_zF, wr_zA, wrJ_zL, wr_id, wrJ_id, ne_eq, reduceCtorEq, not_false_eq_true, not_true_eq_false, if_true, if_false, Nat.reduceEqDiff, eq_self, hc, hn, ha, wif0, if0, Decidable.not_not] at hc100 <;> omega
          · try simp (disch := omega) only [zF_wF, zF_wA, zF_wJ, zF_wD, zA_wF, zA_wA, zA_wJ, zA_wD, zL_wJ, zL_wF, zL_wA, zL_wD, J_wr, wr_zF, wr_zA, wrJ_zL, wr_id, wrJ_id, ne_eq, reduceCtorEq, not_false_eq_true, not_true_eq_false, if_true, if_false, Nat.reduceEqDiff, eq_self, hc, hn, ha, wif0, if0, Decidable.not_not] at hc100
            refine w_const (0) rfl rfl ?_
            refine w_ireturn rfl rfl ?_
            first
            | exact RI.mk (Or.inl ⟨by omega, rfl, rfl⟩)
            | exact RI.mk (Or.inr ⟨by omega, Or.inl ⟨by omega, rfl, rfl⟩⟩)
            | exact RI.mk (Or.inr ⟨by omega, Or.inr ⟨by omega, rfl, rfl⟩⟩)
        · try simp (disch := omega) only [zF_wF, zF_wA, zF_wJ, zF_wD, zA_wF, zA_wA, zA_wJ, zA_wD, zL_wJ, zL_wF, zL_wA, zL_wD, J_wr, wr_zF, wr_zA, wrJ_zL, wr_id, wrJ_id, ne_eq, reduceCtorEq, not_false_eq_true, not_true_eq_false, if_true, if_false, Nat.reduceEqDiff, eq_self, hc, hn, ha, wif0, if0, Decidable.not_not] at hc65
          refine w_load rfl rfl rfl ?_
          refine w_if_ne rfl (fun hc70 => ?_) (fun hc70 => ?_)
          · try simp (disch := omega) only [zF_wF, zF_wA, zF_wJ, zF_wD, zA_wF, zA_wA, zA_wJ, zA_wD, zL_wJ, zL_wF, zL_wA, zL_wD, J_wr, wr_zF, wr_zA, wrJ_zL, wr_id, wrJ_id, ne_eq, reduceCtorEq, not_false_eq_true, not_true_eq_false, if_true, if_false, Nat.reduceEqDiff, eq_self, hc, hn, ha, wif0, if0, Decidable.not_not] at hc70
            refine w_load rfl rfl rfl ?_
            refine w_getP rfl hT.o (hT.p rfl) ?_
            refine w_load rfl rfl rfl ?_
            refine w_iald rfl (hT.t rfl) (hT.n rfl) (by omega) (by decide) ?_
            refine w_const (6) rfl rfl ?_
            refine w_icmp_ne rfl (fun hc85 => ?_) (fun hc85 => ?_)
            · try simp (disch := omega) only [zF_wF, zF_wA, zF_wJ, zF_wD, zA_wF, zA_wA, zA_wJ, zA_wD, zL_wJ, zL_wF, zL_wA, zL_wD, J_wr, wr_zF, wr_zA, wrJ_zL, wr_id, wrJ_id, ne_eq, reduceCtorEq, not_false_eq_true, not_true_eq_false, if_true, if_false, Nat.reduceEqDiff, eq_self, hc, hn, ha, wif0, if0, Decidable.not_not] at hc85
              refine w_const (0) rfl rfl ?_
              refine w_putI0 rfl hT.o ?_
              refine w_load rfl rfl rfl ?_
              refine w_getI0k rfl hT.o (by (try simp (disch := omega) only [zF_wF, zF_wA, zF_wJ, zF_wD, zA_wF, zA_wA, zA_wJ, zA_wD, zL_wJ, zL_wF, zL_wA, zL_wD, J_wr, wr_zF, wr_zA, wrJ_zL, wr_id, wrJ_id, ne_eq, reduceCtorEq, not_false_eq_true, not_true_eq_false, if_true, if_false, Nat.reduceEqDiff, eq_self, hc, hn, ha, wif0, if0, Decidable.not_not]); rfl) ?_
              refine w_if_le rfl (fun hc100 => ?_) (fun hc100 => ?_)
              · try simp (disch := omega) only [zF_wF, zF_wA, zF_wJ, zF_wD, zA_wF, zA_wA, zA_wJ, zA_wD, zL_wJ, zL_wF, zL_wA, zL_wD, J_wr, wr_zF, wr_zA, wrJ_zL, wr_id, wrJ_id, ne_eq, reduceCtorEq, not_false_eq_true, not_true_eq_false, if_true, if_false, Nat.reduceEqDiff, eq_self, hc, hn, ha, wif0, if0, Decidable.not_not] at hc100
                refine w_const (6) rfl rfl ?_
                refine w_load rfl rfl rfl ?_
                refine w_imul rfl ?_
                refine w_load rfl rfl rfl ?_
                refine w_getP rfl hT.o (hT.p rfl) ?_
                refine w_load rfl rfl rfl ?_
                refine w_iald rfl (hT.t rfl) (hT.n rfl) (by omega) (by decide) ?_
                rw [zA_wF _ _ _ _ _ _ (by decide)]
                refine w_iadd rfl ?_
                refine w_st8 rfl rfl rfl ?_
                refine w_load rfl rfl rfl ?_
                refine w_getP rfl hT.o (hT.p rfl) ?_
                refine w_load rfl rfl rfl ?_
                refine w_load rfl rfl rfl ?_
                refine w_iast rfl (hT.t rfl) (hT.n rfl) (by omega) (by decide) ?_
                refine w_load rfl rfl rfl ?_
                refine w_getP rfl hT.o (hT.p rfl) ?_
                refine w_load rfl rfl rfl ?_
                refine w_load rfl rfl rfl ?_
                refine w_iast rfl (hT.t rfl) (hT.n rfl) (by omega) (by decide) ?_
                refine w_load rfl rfl rfl ?_
                refine w_getP rfl hT.o (hT.p rfl) ?_
                refine w_load rfl rfl rfl ?_
                refine w_load rfl rfl rfl ?_
                refine w_iast rfl (hT.t rfl) (hT.n rfl) (by omega) (by decide) ?_
                refine w_load rfl rfl rfl ?_
                refine w_getP rfl hT.o (hT.p rfl) ?_
                refine w_load rfl rfl rfl ?_
                refine w_load rfl rfl rfl ?_
                refine w_iast rfl (hT.t rfl) (hT.n rfl) (by omega) (by decide) ?_
                refine w_load rfl rfl rfl ?_
                refine w_getP rfl hT.o (hT.p rfl) ?_
                refine w_load rfl rfl rfl ?_
                refine w_load rfl rfl rfl ?_
                refine w_iast rfl (hT.t rfl) (hT.n rfl) (by omega) (by decide) ?_
                refine w_load rfl rfl rfl ?_
                refine w_getP rfl hT.o (hT.p rfl) ?_
                refine w_load rfl rfl rfl ?_
                refine w_dup2 rfl rfl rfl ?_
                refine w_iald rfl (hT.t rfl) (hT.n rfl) (by omega) (by decide) ?_
                simp (disch := omega) only [zA_wA, zA_wF, ne_eq, reduceCtorEq, not_false_eq_true, if_false, Nat.reduceEqDiff]
                refine w_const (1) rfl rfl ?_
                refine w_iadd rfl ?_
                refine w_iast rfl (hT.t rfl) (hT.n rfl) (by omega) (by decide) ?_
                refine w_load rfl rfl rfl ?_
                refine w_getP rfl hT.o (hT.p rfl) ?_
                refine w_load rfl rfl rfl ?_
                refine w_iald rfl (hT.t rfl) (hT.n rfl) (by omega) (by decide) ?_
                rw [zA_wA, if_pos rfl, if_pos rfl, wr_id (by omega) (by omega)]
                refine w_ireturn rfl rfl ?_
                first
                | exact RI.mk (Or.inl ⟨by omega, rfl, rfl⟩)
                | exact RI.mk (Or.inr ⟨by omega, Or.inl ⟨by omega, rfl, rfl⟩⟩)
                | exact RI.mk (Or.inr ⟨by omega, Or.inr ⟨by omega, rfl, rfl⟩⟩)
              · exfalso; simp (disch := omega) only [zF_wF, zF_wA, zF_wJ, zF_wD, zA_wF, zA_wA, zA_wJ, zA_wD, zL_wJ, zL_wF, zL_wA, zL_wD, J_wr, wr_zF, wr_zA, wrJ_zL, wr_id, wrJ_id, ne_eq, reduceCtorEq, not_false_eq_true, not_true_eq_false, if_true, if_false, Nat.reduceEqDiff, eq_self, hc, hn, ha, wif0, if0, Decidable.not_not] at hc100 <;> omega
            · try simp (disch := omega) only [zF_wF, zF_wA, zF_wJ, zF_wD, zA_wF, zA_wA, zA_wJ, zA_wD, zL_wJ, zL_wF, zL_wA, zL_wD, J_wr, wr_zF, wr_zA, wrJ_zL, wr_id, wrJ_id, ne_eq, reduceCtorEq, not_false_eq_true, not_true_eq_false, if_true, if_false, Nat.reduceEqDiff, eq_self, hc, hn, ha, wif0, if0, Decidable.not_not] at hc85
              refine w_const (2) rfl rfl ?_
              refine w_goto rfl ?_
              refine w_putI0 rfl hT.o ?_
              refine w_load rfl rfl rfl ?_
              refine w_getI0k rfl hT.o (by (try simp (disch := omega) only [zF_wF, zF_wA, zF_wJ, zF_wD, zA_wF, zA_wA, zA_wJ, zA_wD, zL_wJ, zL_wF, zL_wA, zL_wD, J_wr, wr_zF, wr_zA, wrJ_zL, wr_id, wrJ_id, ne_eq, reduceCtorEq, not_false_eq_true, not_true_eq_false, if_true, if_false, Nat.reduceEqDiff, eq_self, hc, hn, ha, wif0, if0, Decidable.not_not]); rfl) ?_
              refine w_if_le rfl (fun hc100 => ?_) (fun hc100 => ?_)
              · exfalso; simp (disch := omega) only [zF_wF, zF_wA, zF_wJ, zF_wD, zA_wF, zA_wA, zA_wJ, zA_wD, zL_wJ, zL_wF, zL_wA, zL_wD, J_wr, wr_zF, wr_zA, wrJ_zL, wr_id, wrJ_id, ne_eq, reduceCtorEq, not_false_eq_true, not_true_eq_false, if_true, if_false, Nat.reduceEqDiff, eq_self, hc, hn, ha, wif0, if0, Decidable.not_not] at hc100 <;> omega
              · try simp (disch := omega) only [zF_wF, zF_wA, zF_wJ, zF_wD, zA_wF, zA_wA, zA_wJ, zA_wD, zL_wJ, zL_wF, zL_wA, zL_wD, J_wr, wr_zF, wr_zA, wrJ_zL, wr_id, wrJ_id, ne_eq, reduceCtorEq, not_false_eq_true, not_true_eq_false, if_true, if_false, Nat.reduceEqDiff, eq_self, hc, hn, ha, wif0, if0, Decidable.not_not] at hc100
                refine w_const (0) rfl rfl ?_
                refine w_ireturn rfl rfl ?_
                first
                | exact RI.mk (Or.inl ⟨by omega, rfl, rfl⟩)
                | exact RI.mk (Or.inr ⟨by omega, Or.inl ⟨by omega, rfl, rfl⟩⟩)
                | exact RI.mk (Or.inr ⟨by omega, Or.inr ⟨by omega, rfl, rfl⟩⟩)
          · try simp (disch := omega) only [zF_wF, zF_wA, zF_wJ, zF_wD, zA_wF, zA_wA, zA_wJ, zA_wD, zL_wJ, zL_wF, zL_wA, zL_wD, J_wr, wr_zF, wr_zA, wrJ_zL, wr_id, wrJ_id, ne_eq, reduceCtorEq, not_false_eq_true, not_true_eq_false, if_true, if_false, Nat.reduceEqDiff, eq_self, hc, hn, ha, wif0, if0, Decidable.not_not] at hc70
            refine w_const (1) rfl rfl ?_
            refine w_goto rfl ?_
            refine w_putI0 rfl hT.o ?_
            refine w_load rfl rfl rfl ?_
            refine w_getI0k rfl hT.o (by (try simp (disch := omega) only [zF_wF, zF_wA, zF_wJ, zF_wD, zA_wF, zA_wA, zA_wJ, zA_wD, zL_wJ, zL_wF, zL_wA, zL_wD, J_wr, wr_zF, wr_zA, wrJ_zL, wr_id, wrJ_id, ne_eq, reduceCtorEq, not_false_eq_true, not_true_eq_false, if_true, if_false, Nat.reduceEqDiff, eq_self, hc, hn, ha, wif0, if0, Decidable.not_not]); rfl) ?_
            refine w_if_le rfl (fun hc100 => ?_) (fun hc100 => ?_)
            · exfalso; simp (disch := omega) only [zF_wF, zF_wA, zF_wJ, zF_wD, zA_wF, zA_wA, zA_wJ, zA_wD, zL_wJ, zL_wF, zL_wA, zL_wD, J_wr, wr_zF, wr_zA, wrJ_zL, wr_id, wrJ_id, ne_eq, reduceCtorEq, not_false_eq_true, not_true_eq_false, if_true, if_false, Nat.reduceEqDiff, eq_self, hc, hn, ha, wif0, if0, Decidable.not_not] at hc100 <;> omega
            · try simp (disch := omega) only [zF_wF, zF_wA, zF_wJ, zF_wD, zA_wF, zA_wA, zA_wJ, zA_wD, zL_wJ, zL_wF, zL_wA, zL_wD, J_wr, wr_zF, wr_zA, wrJ_zL, wr_id, wrJ_id, ne_eq, reduceCtorEq, not_false_eq_true, not_true_eq_false, if_true, if_false, Nat.reduceEqDiff, eq_self, hc, hn, ha, wif0, if0, Decidable.not_not] at hc100
              refine w_const (0) rfl rfl ?_
              refine w_ireturn rfl rfl ?_
              first
              | exact RI.mk (Or.inl ⟨by omega, rfl, rfl⟩)
              | exact RI.mk (Or.inr ⟨by omega, Or.inl ⟨by omega, rfl, rfl⟩⟩)
              | exact RI.mk (Or.inr ⟨by omega, Or.inr ⟨by omega, rfl, rfl⟩⟩)
/-- whether a method's types are good -/
def tyOK (G : mG) (o1 o2 : Int) : Prop := (if o1 = 0 then o2 = 0 else (1 ≤ o1 ∧ o1 ≤ 5 ∨ 8 ≤ o1 ∧ o1 - 8 < zF G 98 35)) ∧ (o2 = 0 ∨ (1 ≤ o2 ∧ o2 ≤ 5 ∨ 8 ≤ o2 ∧ o2 - 8 < zF G 98 35))
theorem tw_method {c nm o1 o2 ac nu : Int} (hT : TS G) (hc : wr c = c) (hn : wr nm = nm) (ha : wr ac = ac) (h1 : wr o1 = o1) (h2 : wr o2 = o2) (hcl : zF G 98 35 ≤ 5) (hm : ∀ c, 0 ≤ c → c < 5 → 0 ≤ zA G 123 c ∧ zA G 123 c ≤ 6) :
    Wp (d + 2, 189, 0, [some (.ref 98), some (.int (N c)), some (.int (N nm)), some (.int (N o1)), some (.int (N o2)), some (.int (N ac)), some (.int (N nu)), none, none], [], G) (RI fun z G' =>
      ¬ ((0 ≤ c ∧ c < zF G 98 35) ∧ (1 ≤ nm ∧ nm ≤ 14348906) ∧ 0 ≤ ac ∧ ac ≤ 5 ∧ tyOK G o1 o2) ∧ z = 0 ∧ G' = wF G 98 0 1
      ∨ ((0 ≤ c ∧ c < zF G 98 35) ∧ (1 ≤ nm ∧ nm ≤ 14348906) ∧ 0 ≤ ac ∧ ac ≤ 5 ∧ tyOK G o1 o2) ∧ (zA G 123 c = 6 ∧ z = 0 ∧ G' = wF G 98 0 2 ∨ zA G 123 c < 6 ∧ z = zA G 123 c + 1 ∧ G' = methG G c nm o1 o2 ac nu)) := by
  have s0 := tw_meth39 (d := d) (o1 := o1) (o2 := o2) (nu := nu) (t := 0) hT hc hn ha (Or.inl rfl) hcl hm
  have s1 := tw_meth39 (d := d) (o1 := o1) (o2 := o2) (nu := nu) (t := 1) hT hc hn ha (Or.inr rfl) hcl hm
  have y0 : ¬ tyOK G o1 o2 → (tyOK G o1 o2 ↔ (0 : Int) = 1) := fun h => ⟨fun e => absurd e h, fun e => absurd e (by decide)⟩
  have y1 : tyOK G o1 o2 → (tyOK G o1 o2 ↔ (1 : Int) = 1) := fun h => ⟨fun _ => rfl, fun _ => h⟩
  refine w_load rfl rfl rfl ?_
  refine w_if_ne rfl (fun hc1 => ?_) (fun hc1 => ?_)
  · try simp (disch := omega) only [zF_wF, zF_wA, zF_wJ, zF_wD, zA_wF, zA_wA, zA_wJ, zA_wD, zL_wJ, zL_wF, zL_wA, zL_wD, J_wr, wr_zF, wr_zA, wrJ_zL, wr_id, wrJ_id, ne_eq, reduceCtorEq, not_false_eq_true, not_true_eq_false, if_true, if_false, Nat.reduceEqDiff, eq_self, h1, h2, wif0, if0, Decidable.not_not] at hc1
    refine w_load rfl rfl rfl ?_
    refine w_load rfl rfl rfl ?_
    refine w_callI2 rfl (Nat.le_of_ble_eq_true rfl) (Or.inr (Or.inr hT.o)) (Nat.le_of_ble_eq_true rfl) (tw_isType hT h1) (fun z14 G14 h14 => ?_)
    obtain ⟨rfl, rfl⟩ := h14
    refine w_if_eq rfl (fun hc17 => ?_) (fun hc17 => ?_)
    · try simp (disch := omega) only [zF_wF, zF_wA, zF_wJ, zF_wD, zA_wF, zA_wA, zA_wJ, zA_wD, zL_wJ, zL_wF, zL_wA, zL_wD, J_wr, wr_zF, wr_zA, wrJ_zL, wr_id, wrJ_id, ne_eq, reduceCtorEq, not_false_eq_true, not_true_eq_false, if_true, if_false, Nat.reduceEqDiff, eq_self, h1, h2, wif0, if0, Decidable.not_not] at hc17
      refine w_const (0) rfl rfl ?_
      first
      | (rw [y1 (by unfold tyOK; first | (rw [if_pos (by omega)]; omega) | (rw [if_neg (by omega)]; omega))]; exact s1)
      | (rw [y0 (by unfold tyOK; first | (rw [if_pos (by omega)]; omega) | (rw [if_neg (by omega)]; omega))]; exact s0)
    · try simp (disch := omega) only [zF_wF, zF_wA, zF_wJ, zF_wD, zA_wF, zA_wA, zA_wJ, zA_wD, zL_wJ, zL_wF, zL_wA, zL_wD, J_wr, wr_zF, wr_zA, wrJ_zL, wr_id, wrJ_id, ne_eq, reduceCtorEq, not_false_eq_true, not_true_eq_false, if_true, if_false, Nat.reduceEqDiff, eq_self, h1, h2, wif0, if0, Decidable.not_not] at hc17
      refine w_load rfl rfl rfl ?_
      refine w_if_eq rfl (fun hc22 => ?_) (fun hc22 => ?_)
      · try simp (disch := omega) only [zF_wF, zF_wA, zF_wJ, zF_wD, zA_wF, zA_wA, zA_wJ, zA_wD, zL_wJ, zL_wF, zL_wA, zL_wD, J_wr, wr_zF, wr_zA, wrJ_zL, wr_id, wrJ_id, ne_eq, reduceCtorEq, not_false_eq_true, not_true_eq_false, if_true, if_false, Nat.reduceEqDiff, eq_self, h1, h2, wif0, if0, Decidable.not_not] at hc22
        refine w_const (1) rfl rfl ?_
        refine w_goto rfl ?_
        first
        | (rw [y1 (by unfold tyOK; first | (rw [if_pos (by omega)]; omega) | (rw [if_neg (by omega)]; omega))]; exact s1)
        | (rw [y0 (by unfold tyOK; first | (rw [if_pos (by omega)]; omega) | (rw [if_neg (by omega)]; omega))]; exact s0)
      · try simp (disch := omega) only [zF_wF, zF_wA, zF_wJ, zF_wD, zA_wF, zA_wA, zA_wJ, zA_wD, zL_wJ, zL_wF, zL_wA, zL_wD, J_wr, wr_zF, wr_zA, wrJ_zL, wr_id, wrJ_id, ne_eq, reduceCtorEq, not_false_eq_true, not_true_eq_false, if_true, if_false, Nat.reduceEqDiff, eq_self, h1, h2, wif0, if0, Decidable.not_not] at hc22
        refine w_load rfl rfl rfl ?_
        refine w_load rfl rfl rfl ?_
        refine w_callI2 rfl (Nat.le_of_ble_eq_true rfl) (Or.inr (Or.inr hT.o)) (Nat.le_of_ble_eq_true rfl) (tw_isType hT h2) (fun z28 G28 h28 => ?_)
        obtain ⟨rfl, rfl⟩ := h28
        refine w_if_eq rfl (fun hc31 => ?_) (fun hc31 => ?_)
        · try simp (disch := omega) only [zF_wF, zF_wA, zF_wJ, zF_wD, zA_wF, zA_wA, zA_wJ, zA_wD, zL_wJ, zL_wF, zL_wA, zL_wD, J_wr, wr_zF, wr_zA, wrJ_zL, wr_id, wrJ_id, ne_eq, reduceCtorEq, not_false_eq_true, not_true_eq_false, if_true, if_false, Nat.reduceEqDiff, eq_self, h1, h2, wif0, if0, Decidable.not_not] at hc31
          refine w_const (0) rfl rfl ?_
          first
          | (rw [y1 (by unfold tyOK; first | (rw [if_pos (by omega)]; omega) | (rw [if_neg (by omega)]; omega))]; exact s1)
          | (rw [y0 (by unfold tyOK; first | (rw [if_pos (by omega)]; omega) | (rw [if_neg (by omega)]; omega))]; exact s0)
        · try simp (disch := omega) only [zF_wF, zF_wA, zF_wJ, zF_wD, zA_wF, zA_wA, zA_wJ, zA_wD, zL_wJ, zL_wF, zL_wA, zL_wD, J_wr, wr_zF, wr_zA, wrJ_zL, wr_id, wrJ_id, ne_eq, reduceCtorEq, not_false_eq_true, not_true_eq_false, if_true, if_false, Nat.reduceEqDiff, eq_self, h1, h2, wif0, if0, Decidable.not_not] at hc31
          refine w_const (1) rfl rfl ?_
          refine w_goto rfl ?_
          first
          | (rw [y1 (by unfold tyOK; first | (rw [if_pos (by omega)]; omega) | (rw [if_neg (by omega)]; omega))]; exact s1)
          | (rw [y0 (by unfold tyOK; first | (rw [if_pos (by omega)]; omega) | (rw [if_neg (by omega)]; omega))]; exact s0)
  · try simp (disch := omega) only [zF_wF, zF_wA, zF_wJ, zF_wD, zA_wF, zA_wA, zA_wJ, zA_wD, zL_wJ, zL_wF, zL_wA, zL_wD, J_wr, wr_zF, wr_zA, wrJ_zL, wr_id, wrJ_id, ne_eq, reduceCtorEq, not_false_eq_true, not_true_eq_false, if_true, if_false, Nat.reduceEqDiff, eq_self, h1, h2, wif0, if0, Decidable.not_not] at hc1
    refine w_load rfl rfl rfl ?_
    refine w_if_ne rfl (fun hc6 => ?_) (fun hc6 => ?_)
    · try simp (disch := omega) only [zF_wF, zF_wA, zF_wJ, zF_wD, zA_wF, zA_wA, zA_wJ, zA_wD, zL_wJ, zL_wF, zL_wA, zL_wD, J_wr, wr_zF, wr_zA, wrJ_zL, wr_id, wrJ_id, ne_eq, reduceCtorEq, not_false_eq_true, not_true_eq_false, if_true, if_false, Nat.reduceEqDiff, eq_self, h1, h2, wif0, if0, Decidable.not_not] at hc6
      refine w_const (0) rfl rfl ?_
      first
      | (rw [y1 (by unfold tyOK; first | (rw [if_pos (by omega)]; omega) | (rw [if_neg (by omega)]; omega))]; exact s1)
      | (rw [y0 (by unfold tyOK; first | (rw [if_pos (by omega)]; omega) | (rw [if_neg (by omega)]; omega))]; exact s0)
    · try simp (disch := omega) only [zF_wF, zF_wA, zF_wJ, zF_wD, zA_wF, zA_wA, zA_wJ, zA_wD, zL_wJ, zL_wF, zL_wA, zL_wD, J_wr, wr_zF, wr_zA, wrJ_zL, wr_id, wrJ_id, ne_eq, reduceCtorEq, not_false_eq_true, not_true_eq_false, if_true, if_false, Nat.reduceEqDiff, eq_self, h1, h2, wif0, if0, Decidable.not_not] at hc6
      refine w_goto rfl ?_
      refine w_load rfl rfl rfl ?_
      refine w_if_eq rfl (fun hc22 => ?_) (fun hc22 => ?_)
      · try simp (disch := omega) only [zF_wF, zF_wA, zF_wJ, zF_wD, zA_wF, zA_wA, zA_wJ, zA_wD, zL_wJ, zL_wF, zL_wA, zL_wD, J_wr, wr_zF, wr_zA, wrJ_zL, wr_id, wrJ_id, ne_eq, reduceCtorEq, not_false_eq_true, not_true_eq_false, if_true, if_false, Nat.reduceEqDiff, eq_self, h1, h2, wif0, if0, Decidable.not_not] at hc22
        refine w_const (1) rfl rfl ?_
        refine w_goto rfl ?_
        first
        | (rw [y1 (by unfold tyOK; first | (rw [if_pos (by omega)]; omega) | (rw [if_neg (by omega)]; omega))]; exact s1)
        | (rw [y0 (by unfold tyOK; first | (rw [if_pos (by omega)]; omega) | (rw [if_neg (by omega)]; omega))]; exact s0)
      · try simp (disch := omega) only [zF_wF, zF_wA, zF_wJ, zF_wD, zA_wF, zA_wA, zA_wJ, zA_wD, zL_wJ, zL_wF, zL_wA, zL_wD, J_wr, wr_zF, wr_zA, wrJ_zL, wr_id, wrJ_id, ne_eq, reduceCtorEq, not_false_eq_true, not_true_eq_false, if_true, if_false, Nat.reduceEqDiff, eq_self, h1, h2, wif0, if0, Decidable.not_not] at hc22
        refine w_load rfl rfl rfl ?_
        refine w_load rfl rfl rfl ?_
        refine w_callI2 rfl (Nat.le_of_ble_eq_true rfl) (Or.inr (Or.inr hT.o)) (Nat.le_of_ble_eq_true rfl) (tw_isType hT h2) (fun z28 G28 h28 => ?_)
        obtain ⟨rfl, rfl⟩ := h28
        refine w_if_eq rfl (fun hc31 => ?_) (fun hc31 => ?_)
        · try simp (disch := omega) only [zF_wF, zF_wA, zF_wJ, zF_wD, zA_wF, zA_wA, zA_wJ, zA_wD, zL_wJ, zL_wF, zL_wA, zL_wD, J_wr, wr_zF, wr_zA, wrJ_zL, wr_id, wrJ_id, ne_eq, reduceCtorEq, not_false_eq_true, not_true_eq_false, if_true, if_false, Nat.reduceEqDiff, eq_self, h1, h2, wif0, if0, Decidable.not_not] at hc31
          refine w_const (0) rfl rfl ?_
          first
          | (rw [y1 (by unfold tyOK; first | (rw [if_pos (by omega)]; omega) | (rw [if_neg (by omega)]; omega))]; exact s1)
          | (rw [y0 (by unfold tyOK; first | (rw [if_pos (by omega)]; omega) | (rw [if_neg (by omega)]; omega))]; exact s0)
        · try simp (disch := omega) only [zF_wF, zF_wA, zF_wJ, zF_wD, zA_wF, zA_wA, zA_wJ, zA_wD, zL_wJ, zL_wF, zL_wA, zL_wD, J_wr, wr_zF, wr_zA, wrJ_zL, wr_id, wrJ_id, ne_eq, reduceCtorEq, not_false_eq_true, not_true_eq_false, if_true, if_false, Nat.reduceEqDiff, eq_self, h1, h2, wif0, if0, Decidable.not_not] at hc31
          refine w_const (1) rfl rfl ?_
          refine w_goto rfl ?_
          first
          | (rw [y1 (by unfold tyOK; first | (rw [if_pos (by omega)]; omega) | (rw [if_neg (by omega)]; omega))]; exact s1)
          | (rw [y0 (by unfold tyOK; first | (rw [if_pos (by omega)]; omega) | (rw [if_neg (by omega)]; omega))]; exact s0)
end tw18

