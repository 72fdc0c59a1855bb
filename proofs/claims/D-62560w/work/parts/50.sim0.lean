/-! THE TWIN's READING: turns -/
set_option maxRecDepth 100000
/-- steps whose number is a jump -/
def isJ (s : Int) : Bool := decide (s = 13 ∨ s = 14 ∨ s = 32 ∨ s = 33 ∨ s = 35 ∨ s = 36 ∨ s = 37)
def enc1 (st : Nat) (b : Nat) (s : Sp) : Sp := (s.1, if isJ s.1 = true then (st : Int) + b + 1 + s.2 else s.2)
def encL (st : Nat) : Nat → List Sp → List Sp
  | _, [] => []
  | b, s :: ss => enc1 st b s :: encL st (b + 1) ss
theorem encL_len {st : Nat} : ∀ {b : Nat} {l : List Sp}, (encL st b l).length = l.length
  | _, [] => rfl
  | b, s :: ss => by rw [encL, List.length_cons, List.length_cons, encL_len]
theorem encL_app {st : Nat} : ∀ {b : Nat} {l m : List Sp}, encL st b (l ++ m) = encL st b l ++ encL st (b + l.length) m
  | b, [], m => rfl
  | b, s :: ss, m => by
    rw [List.cons_append, encL, encL, encL_app, List.cons_append, List.length_cons, show b + 1 + ss.length = b + (ss.length + 1) by omega]
section sim0
variable (d : Nat) (Q : mR → Prop) (T : List (Int × Int × Int)) (G0 : mG) (st : Nat)
/-- before turn k -/
def Lp (k : Nat) (G : mG) : Prop := Wp (d + 6, 151, 79, [some (.ref 98), some (.int (N k))], [], G) Q
def LF (G : mG) : Prop := TS G ∧ zF G 98 8 = 0 ∧ zF G 98 18 = 0 ∧ 1 ≤ zF G 98 19 ∧ zF G 98 17 = 0
def Sim (res : PRes) (K : Nat × List Sp × Nat → Nat → mG → Prop) (k : Nat) (G : mG) : Prop := match res with
  | .inl e => (∀ k' G', PE G0 st G' e.1 e.2 → Lp d Q k' G') → Lp d Q k G
  | .inr q => (∀ k' G', K q k' G' → Lp d Q k' G') → Lp d Q k G
def At57 (G : mG) (j : Nat) (o : List Sp) (F : Fm) (fr wt : List Fm) (ta ts : Int) : Prop := LF G ∧ ∀ R : mG → Prop, (∀ G', PR T G0 st G' j o false (F :: fr) wt ta ts → Wp (d + 5, 174, 57, [some (.ref 98), some (.int (N fr.length)), none, none, none], [], G') (RV R)) → Wp (d + 5, 174, 0, [some (.ref 98), none, none, none, none], [], G) (RV R)
def At12 (G : mG) (j : Nat) (o : List Sp) (F : Fm) (fr wt : List Fm) (ta ts : Int) : Prop := LF G ∧ ∀ R : mG → Prop, (∀ G', PR T G0 st G' j o false (F :: fr) wt ta ts → Wp (d + 4, 175, 12, [some (.ref 98), some (.int (N fr.length)), none], [], G') (RV R)) → Wp (d + 5, 174, 0, [some (.ref 98), none, none, none, none], [], G) (RV R)
variable {d Q T G0 st} {f : Int → Int} {n : Int} {G : mG} {i k : Nat} {out : List Sp} {op : Bool} {fr wt : List Fm} {F : Fm} {ta ts : Int}
theorem PR.lf (hE : PEnv f n T G0 st) (p : PR T G0 st G i out false (F :: fr) wt ta ts) : LF G := by
  have b := p.bd
  have h := b.1.2.2.2.1
  simp only [List.length_cons] at h
  exact ⟨p.hts hE, b.2.1.2.2.1, b.2.1.2.2.2, by omega, b.1.2.2.1⟩
theorem turn_beh {R : mG → Prop} (h : LF G) (hk : k < 400) (hb : Wp (d + 5, 174, 0, [some (.ref 98), none, none, none, none], [], G) (RV R)) (hx : ∀ G', R G' → Lp d Q (k + 1) G') : Lp d Q k G := by
  obtain ⟨hT, e8, e9, e4, e3⟩ := h
  unfold Lp at hx ⊢
  refine w_load rfl rfl rfl ?_
  refine w_const (400) rfl rfl ?_
  refine w_icmp_ge rfl (fun hc83 => ?_) (fun hc83 => ?_)
  · exfalso; simp (disch := omega) only [zF_wF, zF_wA, zF_wJ, zF_wD, zA_wF, zA_wA, zA_wJ, zA_wD, zL_wJ, zL_wF, zL_wA, zL_wD, J_wr, wr_zF, wr_zA, wrJ_zL, wr_id, wrJ_id, ne_eq, reduceCtorEq, not_false_eq_true, not_true_eq_false, if_true, if_false, Nat.reduceEqDiff, eq_self] at hc83 <;> omega
  · try simp (disch := omega) only [zF_wF, zF_wA, zF_wJ, zF_wD, zA_wF, zA_wA, zA_wJ, zA_wD, zL_wJ, zL_wF, zL_wA, zL_wD, J_wr, wr_zF, wr_zA, wrJ_zL, wr_id, wrJ_id, ne_eq, reduceCtorEq, not_false_eq_true, not_true_eq_false, if_true, if_false, Nat.reduceEqDiff, eq_self] at hc83
    refine w_load rfl rfl rfl ?_
    refine w_getI0k rfl hT.o (e8) ?_
    refine w_if_ne rfl (fun hc90 => ?_) (fun hc90 => ?_)
    · exfalso; simp (disch := omega) only [zF_wF, zF_wA, zF_wJ, zF_wD, zA_wF, zA_wA, zA_wJ, zA_wD, zL_wJ, zL_wF, zL_wA, zL_wD, J_wr, wr_zF, wr_zA, wrJ_zL, wr_id, wrJ_id, ne_eq, reduceCtorEq, not_false_eq_true, not_true_eq_false, if_true, if_false, Nat.reduceEqDiff, eq_self] at hc90 <;> omega
    · try simp (disch := omega) only [zF_wF, zF_wA, zF_wJ, zF_wD, zA_wF, zA_wA, zA_wJ, zA_wD, zL_wJ, zL_wF, zL_wA, zL_wD, J_wr, wr_zF, wr_zA, wrJ_zL, wr_id, wrJ_id, ne_eq, reduceCtorEq, not_false_eq_true, not_true_eq_false, if_true, if_false, Nat.reduceEqDiff, eq_self] at hc90
      refine w_load rfl rfl rfl ?_
      refine w_getI4k rfl hT.o (e9) ?_
      refine w_if_ne rfl (fun hc97 => ?_) (fun hc97 => ?_)
      · exfalso; simp (disch := omega) only [zF_wF, zF_wA, zF_wJ, zF_wD, zA_wF, zA_wA, zA_wJ, zA_wD, zL_wJ, zL_wF, zL_wA, zL_wD, J_wr, wr_zF, wr_zA, wrJ_zL, wr_id, wrJ_id, ne_eq, reduceCtorEq, not_false_eq_true, not_true_eq_false, if_true, if_false, Nat.reduceEqDiff, eq_self] at hc97 <;> omega
      · try simp (disch := omega) only [zF_wF, zF_wA, zF_wJ, zF_wD, zA_wF, zA_wA, zA_wJ, zA_wD, zL_wJ, zL_wF, zL_wA, zL_wD, J_wr, wr_zF, wr_zA, wrJ_zL, wr_id, wrJ_id, ne_eq, reduceCtorEq, not_false_eq_true, not_true_eq_false, if_true, if_false, Nat.reduceEqDiff, eq_self] at hc97
        refine w_load rfl rfl rfl ?_
        refine w_getI0 rfl hT.o ?_
        refine w_if_ne rfl (fun hc104 => ?_) (fun hc104 => ?_)
        · try simp (disch := omega) only [zF_wF, zF_wA, zF_wJ, zF_wD, zA_wF, zA_wA, zA_wJ, zA_wD, zL_wJ, zL_wF, zL_wA, zL_wD, J_wr, wr_zF, wr_zA, wrJ_zL, wr_id, wrJ_id, ne_eq, reduceCtorEq, not_false_eq_true, not_true_eq_false, if_true, if_false, Nat.reduceEqDiff, eq_self] at hc104
          refine w_load rfl rfl rfl ?_
          refine w_getI4k rfl hT.o (e3) ?_
          refine w_if_eq rfl (fun hc119 => ?_) (fun hc119 => ?_)
          · try simp (disch := omega) only [zF_wF, zF_wA, zF_wJ, zF_wD, zA_wF, zA_wA, zA_wJ, zA_wD, zL_wJ, zL_wF, zL_wA, zL_wD, J_wr, wr_zF, wr_zA, wrJ_zL, wr_id, wrJ_id, ne_eq, reduceCtorEq, not_false_eq_true, not_true_eq_false, if_true, if_false, Nat.reduceEqDiff, eq_self] at hc119
            refine w_load rfl rfl rfl ?_
            refine w_callV1 rfl (Nat.le_of_ble_eq_true rfl) (Or.inr (Or.inr hT.o)) (Nat.le_of_ble_eq_true rfl) (hb) (fun G130 h130 => ?_)
            skip
            refine w_inc1 (1) rfl rfl rfl ?_
            refine w_goto rfl ?_
            exact hx _ h130
          · exfalso; simp (disch := omega) only [zF_wF, zF_wA, zF_wJ, zF_wD, zA_wF, zA_wA, zA_wJ, zA_wD, zL_wJ, zL_wF, zL_wA, zL_wD, J_wr, wr_zF, wr_zA, wrJ_zL, wr_id, wrJ_id, ne_eq, reduceCtorEq, not_false_eq_true, not_true_eq_false, if_true, if_false, Nat.reduceEqDiff, eq_self] at hc119 <;> omega
        · exfalso; simp (disch := omega) only [zF_wF, zF_wA, zF_wJ, zF_wD, zA_wF, zA_wA, zA_wJ, zA_wD, zL_wJ, zL_wF, zL_wA, zL_wD, J_wr, wr_zF, wr_zA, wrJ_zL, wr_id, wrJ_id, ne_eq, reduceCtorEq, not_false_eq_true, not_true_eq_false, if_true, if_false, Nat.reduceEqDiff, eq_self] at hc104 <;> omega
theorem turn_first {R : mG → Prop} (hE : PEnv f n T G0 st) (p : PR T G0 st G i out true (F :: fr) wt ta ts) (hk : k < 400) (hb : Wp (d + 5, 166, 0, [some (.ref 98), none, none], [], G) (RV R)) (hx : ∀ G', R G' → Lp d Q (k + 1) G') : Lp d Q k G := by
  have hT := p.hts hE
  have est := p.zst hE
  obtain ⟨t1, t2, t3, t4⟩ := p.tok hE
  have t5 := p.zl hE
  obtain ⟨⟨e1, e2, e3, e4, e5⟩, ⟨e6, e7, e8, e9⟩, b1, b2, b3, b4⟩ := p.bd
  try simp only [List.length_cons, List.length_append, List.length_nil, ptc_len, List.length_dropLast] at e2 e4 e5 b1 b2 b3 b4
  unfold Lp at hx ⊢
  refine w_load rfl rfl rfl ?_
  refine w_const (400) rfl rfl ?_
  refine w_icmp_ge rfl (fun hc83 => ?_) (fun hc83 => ?_)
  · exfalso; simp (disch := omega) only [zF_wF, zF_wA, zF_wJ, zF_wD, zA_wF, zA_wA, zA_wJ, zA_wD, zL_wJ, zL_wF, zL_wA, zL_wD, J_wr, wr_zF, wr_zA, wrJ_zL, wr_id, wrJ_id, ne_eq, reduceCtorEq, not_false_eq_true, not_true_eq_false, if_true, if_false, Nat.reduceEqDiff, eq_self, wif0, if0, Decidable.not_not] at hc83 <;> omega
  · try simp (disch := omega) only [zF_wF, zF_wA, zF_wJ, zF_wD, zA_wF, zA_wA, zA_wJ, zA_wD, zL_wJ, zL_wF, zL_wA, zL_wD, J_wr, wr_zF, wr_zA, wrJ_zL, wr_id, wrJ_id, ne_eq, reduceCtorEq, not_false_eq_true, not_true_eq_false, if_true, if_false, Nat.reduceEqDiff, eq_self, wif0, if0, Decidable.not_not] at hc83
    refine w_load rfl rfl rfl ?_
    refine w_getI0k rfl hT.o (e8) ?_
    refine w_if_ne rfl (fun hc90 => ?_) (fun hc90 => ?_)
    · exfalso; simp (disch := omega) only [zF_wF, zF_wA, zF_wJ, zF_wD, zA_wF, zA_wA, zA_wJ, zA_wD, zL_wJ, zL_wF, zL_wA, zL_wD, J_wr, wr_zF, wr_zA, wrJ_zL, wr_id, wrJ_id, ne_eq, reduceCtorEq, not_false_eq_true, not_true_eq_false, if_true, if_false, Nat.reduceEqDiff, eq_self, wif0, if0, Decidable.not_not] at hc90 <;> omega
    · try simp (disch := omega) only [zF_wF, zF_wA, zF_wJ, zF_wD, zA_wF, zA_wA, zA_wJ, zA_wD, zL_wJ, zL_wF, zL_wA, zL_wD, J_wr, wr_zF, wr_zA, wrJ_zL, wr_id, wrJ_id, ne_eq, reduceCtorEq, not_false_eq_true, not_true_eq_false, if_true, if_false, Nat.reduceEqDiff, eq_self, wif0, if0, Decidable.not_not] at hc90
      refine w_load rfl rfl rfl ?_
      refine w_getI4k rfl hT.o (e9) ?_
      refine w_if_ne rfl (fun hc97 => ?_) (fun hc97 => ?_)
      · exfalso; simp (disch := omega) only [zF_wF, zF_wA, zF_wJ, zF_wD, zA_wF, zA_wA, zA_wJ, zA_wD, zL_wJ, zL_wF, zL_wA, zL_wD, J_wr, wr_zF, wr_zA, wrJ_zL, wr_id, wrJ_id, ne_eq, reduceCtorEq, not_false_eq_true, not_true_eq_false, if_true, if_false, Nat.reduceEqDiff, eq_self, wif0, if0, Decidable.not_not] at hc97 <;> omega
      · try simp (disch := omega) only [zF_wF, zF_wA, zF_wJ, zF_wD, zA_wF, zA_wA, zA_wJ, zA_wD, zL_wJ, zL_wF, zL_wA, zL_wD, J_wr, wr_zF, wr_zA, wrJ_zL, wr_id, wrJ_id, ne_eq, reduceCtorEq, not_false_eq_true, not_true_eq_false, if_true, if_false, Nat.reduceEqDiff, eq_self, wif0, if0, Decidable.not_not] at hc97
        refine w_load rfl rfl rfl ?_
        refine w_getI0k rfl hT.o (e4) ?_
        refine w_if_ne rfl (fun hc104 => ?_) (fun hc104 => ?_)
        · try simp (disch := omega) only [zF_wF, zF_wA, zF_wJ, zF_wD, zA_wF, zA_wA, zA_wJ, zA_wD, zL_wJ, zL_wF, zL_wA, zL_wD, J_wr, wr_zF, wr_zA, wrJ_zL, wr_id, wrJ_id, ne_eq, reduceCtorEq, not_false_eq_true, not_true_eq_false, if_true, if_false, Nat.reduceEqDiff, eq_self, wif0, if0, Decidable.not_not] at hc104
          refine w_load rfl rfl rfl ?_
          refine w_getI4k rfl hT.o (e3.trans (if_pos rfl)) ?_
          refine w_if_eq rfl (fun hc119 => ?_) (fun hc119 => ?_)
          · exfalso; simp (disch := omega) only [zF_wF, zF_wA, zF_wJ, zF_wD, zA_wF, zA_wA, zA_wJ, zA_wD, zL_wJ, zL_wF, zL_wA, zL_wD, J_wr, wr_zF, wr_zA, wrJ_zL, wr_id, wrJ_id, ne_eq, reduceCtorEq, not_false_eq_true, not_true_eq_false, if_true, if_false, Nat.reduceEqDiff, eq_self, wif0, if0, Decidable.not_not] at hc119 <;> omega
          · try simp (disch := omega) only [zF_wF, zF_wA, zF_wJ, zF_wD, zA_wF, zA_wA, zA_wJ, zA_wD, zL_wJ, zL_wF, zL_wA, zL_wD, J_wr, wr_zF, wr_zA, wrJ_zL, wr_id, wrJ_id, ne_eq, reduceCtorEq, not_false_eq_true, not_true_eq_false, if_true, if_false, Nat.reduceEqDiff, eq_self, wif0, if0, Decidable.not_not] at hc119
            refine w_load rfl rfl rfl ?_
            refine w_callV1 rfl (Nat.le_of_ble_eq_true rfl) (Or.inr (Or.inr hT.o)) (Nat.le_of_ble_eq_true rfl) (hb) (fun G123 h123 => ?_)
            skip
            refine w_goto rfl ?_
            refine w_inc1 (1) rfl rfl rfl ?_
            refine w_goto rfl ?_
            exact hx _ h123
        · exfalso; simp (disch := omega) only [zF_wF, zF_wA, zF_wJ, zF_wD, zA_wF, zA_wA, zA_wJ, zA_wD, zL_wJ, zL_wF, zL_wA, zL_wD, J_wr, wr_zF, wr_zA, wrJ_zL, wr_id, wrJ_id, ne_eq, reduceCtorEq, not_false_eq_true, not_true_eq_false, if_true, if_false, Nat.reduceEqDiff, eq_self, wif0, if0, Decidable.not_not] at hc104 <;> omega
/-- a turn with an operand -/
theorem turn1 (hE : PEnv f n T G0 st) (p : PR T G0 st G i out true (F :: fr) wt ta ts) (hk : k < 400) (ho : out.length + 3 ≤ 90) (hx : ∀ G', FsP f n T G0 st i out fr wt F ta ts G' → Lp d Q (k + 1) G') : Lp d Q k G := turn_first hE p hk (tw_first hE p ho) hx
end sim0

