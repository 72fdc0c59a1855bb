/-! THE TWIN: parse -/
set_option maxRecDepth 100000
/-- a text's steps, or its error -/
def parR (f : Int → Int) (n : Int) : (Int × Int) ⊕ List Sp := match lexL f n 41 0 with
  | .inl p => .inl (1, p)
  | .inr ts => phrR f n (ts ++ [(36, n, 0)])
def psA : List Nat := [100, 101, 102, 103, 104, 105, 106, 107, 108, 109, 110, 111, 112, 113, 114, 115, 116, 117, 118]
def psK : List Nat := [0, 1, 3, 8, 9, 10, 14, 15, 16, 17, 18, 19, 29, 33, 34]
theorem TkR.pF {f : Int → Int} {n : Int} {G : mG} {ts : List (Int × Int × Int)} {k : Nat} {v : Int} (h : TkR f n G ts) (hk : ¬ 3 = k) : TkR f n (wF G 98 k v) ts := by
  refine ⟨by rw [zF_wF, if_pos rfl, if_neg hk]; exact h.1, fun i t ht => ?_⟩
  rw [zA_wF _ _ _ _ _ _ (by decide), zA_wF _ _ _ _ _ _ (by decide), zA_wF _ _ _ _ _ _ (by decide), jA_wF]
  exact h.2 i t ht
section tw15
variable {d : Nat} {G : mG} {Q : mR → Prop} {G0 : mG} {st : Nat} {k : Nat} {e q : Int} {l1 : Option Value} {P : Int → mG → Prop}
theorem par_err (hT : TS G) (h8 : zF G 98 8 = e) (h9 : zF G 98 9 = q) (he : 1 ≤ e ∧ e ≤ 3) (hq : 0 ≤ q ∧ q ≤ 50) (hP : P (-1000 * e - q) G) : Wp (d, 151, 139, [some (.ref 98), l1], [], G) (RI P) := by
  refine w_load rfl rfl rfl ?_
  refine w_getI0k rfl hT.o (h8) ?_
  refine w_if_le rfl (fun hc143 => ?_) (fun hc143 => ?_)
  · exfalso; simp (disch := omega) only [zF_wF, zF_wA, zF_wJ, zF_wD, zA_wF, zA_wA, zA_wJ, zA_wD, zL_wJ, zL_wF, zL_wA, zL_wD, J_wr, wr_zF, wr_zA, wrJ_zL, wr_id, wrJ_id, ne_eq, reduceCtorEq, not_false_eq_true, not_true_eq_false, if_true, if_false, Nat.reduceEqDiff, eq_self] at hc143 <;> omega
  · try simp (disch := omega) only [zF_wF, zF_wA, zF_wJ, zF_wD, zA_wF, zA_wA, zA_wJ, zA_wD, zL_wJ, zL_wF, zL_wA, zL_wD, J_wr, wr_zF, wr_zA, wrJ_zL, wr_id, wrJ_id, ne_eq, reduceCtorEq, not_false_eq_true, not_true_eq_false, if_true, if_false, Nat.reduceEqDiff, eq_self] at hc143
    refine w_const (-1000) rfl rfl ?_
    refine w_load rfl rfl rfl ?_
    refine w_getI0k rfl hT.o (h8) ?_
    refine w_imul rfl ?_
    refine w_load rfl rfl rfl ?_
    refine w_getI0k rfl hT.o (h9) ?_
    refine w_isub rfl ?_
    refine w_ireturn rfl rfl ?_
    exact RI.mk hP
theorem lp_err (hT : TS G) (h8 : zF G 98 8 = e) (he : 1 ≤ e ∧ e ≤ 3) (hx : Wp (d + 6, 151, 139, [some (.ref 98), some (.int (N k))], [], G) Q) : Lp d Q k G := by
  unfold Lp
  refine w_load rfl rfl rfl ?_
  refine w_const (400) rfl rfl ?_
  refine w_icmp_ge rfl (fun hc83 => ?_) (fun hc83 => ?_)
  · try simp (disch := omega) only [zF_wF, zF_wA, zF_wJ, zF_wD, zA_wF, zA_wA, zA_wJ, zA_wD, zL_wJ, zL_wF, zL_wA, zL_wD, J_wr, wr_zF, wr_zA, wrJ_zL, wr_id, wrJ_id, ne_eq, reduceCtorEq, not_false_eq_true, not_true_eq_false, if_true, if_false, Nat.reduceEqDiff, eq_self] at hc83
    exact hx
  · try simp (disch := omega) only [zF_wF, zF_wA, zF_wJ, zF_wD, zA_wF, zA_wA, zA_wJ, zA_wD, zL_wJ, zL_wF, zL_wA, zL_wD, J_wr, wr_zF, wr_zA, wrJ_zL, wr_id, wrJ_id, ne_eq, reduceCtorEq, not_false_eq_true, not_true_eq_false, if_true, if_false, Nat.reduceEqDiff, eq_self] at hc83
    refine w_load rfl rfl rfl ?_
    refine w_getI0k rfl hT.o (h8) ?_
    refine w_if_ne rfl (fun hc90 => ?_) (fun hc90 => ?_)
    · try simp (disch := omega) only [zF_wF, zF_wA, zF_wJ, zF_wD, zA_wF, zA_wA, zA_wJ, zA_wD, zL_wJ, zL_wF, zL_wA, zL_wD, J_wr, wr_zF, wr_zA, wrJ_zL, wr_id, wrJ_id, ne_eq, reduceCtorEq, not_false_eq_true, not_true_eq_false, if_true, if_false, Nat.reduceEqDiff, eq_self] at hc90
      exact hx
    · exfalso; simp (disch := omega) only [zF_wF, zF_wA, zF_wJ, zF_wD, zA_wF, zA_wA, zA_wJ, zA_wD, zL_wJ, zL_wF, zL_wA, zL_wD, J_wr, wr_zF, wr_zA, wrJ_zL, wr_id, wrJ_id, ne_eq, reduceCtorEq, not_false_eq_true, not_true_eq_false, if_true, if_false, Nat.reduceEqDiff, eq_self] at hc90 <;> omega
theorem lp_don (hT : TS G) (h8 : zF G 98 8 = 0) (h18 : zF G 98 18 = 1) (hx : Wp (d + 6, 151, 139, [some (.ref 98), some (.int (N k))], [], G) Q) : Lp d Q k G := by
  unfold Lp
  refine w_load rfl rfl rfl ?_
  refine w_const (400) rfl rfl ?_
  refine w_icmp_ge rfl (fun hc83 => ?_) (fun hc83 => ?_)
  · try simp (disch := omega) only [zF_wF, zF_wA, zF_wJ, zF_wD, zA_wF, zA_wA, zA_wJ, zA_wD, zL_wJ, zL_wF, zL_wA, zL_wD, J_wr, wr_zF, wr_zA, wrJ_zL, wr_id, wrJ_id, ne_eq, reduceCtorEq, not_false_eq_true, not_true_eq_false, if_true, if_false, Nat.reduceEqDiff, eq_self] at hc83
    exact hx
  · try simp (disch := omega) only [zF_wF, zF_wA, zF_wJ, zF_wD, zA_wF, zA_wA, zA_wJ, zA_wD, zL_wJ, zL_wF, zL_wA, zL_wD, J_wr, wr_zF, wr_zA, wrJ_zL, wr_id, wrJ_id, ne_eq, reduceCtorEq, not_false_eq_true, not_true_eq_false, if_true, if_false, Nat.reduceEqDiff, eq_self] at hc83
    refine w_load rfl rfl rfl ?_
    refine w_getI0k rfl hT.o (h8) ?_
    refine w_if_ne rfl (fun hc90 => ?_) (fun hc90 => ?_)
    · exfalso; simp (disch := omega) only [zF_wF, zF_wA, zF_wJ, zF_wD, zA_wF, zA_wA, zA_wJ, zA_wD, zL_wJ, zL_wF, zL_wA, zL_wD, J_wr, wr_zF, wr_zA, wrJ_zL, wr_id, wrJ_id, ne_eq, reduceCtorEq, not_false_eq_true, not_true_eq_false, if_true, if_false, Nat.reduceEqDiff, eq_self] at hc90 <;> omega
    · try simp (disch := omega) only [zF_wF, zF_wA, zF_wJ, zF_wD, zA_wF, zA_wA, zA_wJ, zA_wD, zL_wJ, zL_wF, zL_wA, zL_wD, J_wr, wr_zF, wr_zA, wrJ_zL, wr_id, wrJ_id, ne_eq, reduceCtorEq, not_false_eq_true, not_true_eq_false, if_true, if_false, Nat.reduceEqDiff, eq_self] at hc90
      refine w_load rfl rfl rfl ?_
      refine w_getI4k rfl hT.o (h18) ?_
      refine w_if_ne rfl (fun hc97 => ?_) (fun hc97 => ?_)
      · try simp (disch := omega) only [zF_wF, zF_wA, zF_wJ, zF_wD, zA_wF, zA_wA, zA_wJ, zA_wD, zL_wJ, zL_wF, zL_wA, zL_wD, J_wr, wr_zF, wr_zA, wrJ_zL, wr_id, wrJ_id, ne_eq, reduceCtorEq, not_false_eq_true, not_true_eq_false, if_true, if_false, Nat.reduceEqDiff, eq_self] at hc97
        exact hx
      · exfalso; simp (disch := omega) only [zF_wF, zF_wA, zF_wJ, zF_wD, zA_wF, zA_wA, zA_wJ, zA_wD, zL_wJ, zL_wF, zL_wA, zL_wD, J_wr, wr_zF, wr_zA, wrJ_zL, wr_id, wrJ_id, ne_eq, reduceCtorEq, not_false_eq_true, not_true_eq_false, if_true, if_false, Nat.reduceEqDiff, eq_self] at hc97 <;> omega
theorem par_don {p w : Int} (hT : TS G) (h8 : zF G 98 8 = 0) (h10 : zF G 98 10 = p) (h16 : zF G 98 16 = w) (hp : 0 ≤ p ∧ p < 40) (hP : P p (wF (wA G 106 p w) 98 10 (p + 1))) : Wp (d, 151, 139, [some (.ref 98), l1], [], G) (RI P) := by
  refine w_load rfl rfl rfl ?_
  refine w_getI0k rfl hT.o (h8) ?_
  refine w_if_le rfl (fun hc143 => ?_) (fun hc143 => ?_)
  · try simp (disch := omega) only [zF_wF, zF_wA, zF_wJ, zF_wD, zA_wF, zA_wA, zA_wJ, zA_wD, zL_wJ, zL_wF, zL_wA, zL_wD, J_wr, wr_zF, wr_zA, wrJ_zL, wr_id, wrJ_id, ne_eq, reduceCtorEq, not_false_eq_true, not_true_eq_false, if_true, if_false, Nat.reduceEqDiff, eq_self] at hc143
    refine w_load rfl rfl rfl ?_
    refine w_getP rfl hT.o (hT.p rfl) ?_
    refine w_load rfl rfl rfl ?_
    refine w_getI0k rfl hT.o (h10) ?_
    refine w_load rfl rfl rfl ?_
    refine w_getI0k rfl hT.o (h16) ?_
    refine w_iast rfl (hT.t rfl) (hT.n rfl) (by omega) (by decide) ?_
    refine w_load rfl rfl rfl ?_
    refine w_dup rfl rfl ?_
    refine w_getI0k rfl hT.o ((zF_A (by decide)).trans h10) ?_
    refine w_const (1) rfl rfl ?_
    refine w_iadd rfl ?_
    refine w_putI0 rfl hT.o ?_
    refine w_load rfl rfl rfl ?_
    refine w_getI0k rfl hT.o (zF_put (by omega) (by omega)) ?_
    refine w_const (1) rfl rfl ?_
    refine w_isub rfl ?_
    refine w_ireturn rfl rfl ?_
    exact RI.mk (by rw [show p + 1 - 1 = p by omega]; exact hP)
  · exfalso; simp (disch := omega) only [zF_wF, zF_wA, zF_wJ, zF_wD, zA_wF, zA_wA, zA_wJ, zA_wD, zL_wJ, zL_wF, zL_wA, zL_wD, J_wr, wr_zF, wr_zA, wrJ_zL, wr_id, wrJ_id, ne_eq, reduceCtorEq, not_false_eq_true, not_true_eq_false, if_true, if_false, Nat.reduceEqDiff, eq_self] at hc143 <;> omega
end tw15

