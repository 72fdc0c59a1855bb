/-! THE TWIN: cut -/
set_option maxRecDepth 100000
section cut
variable {d : Nat} {Q : mR → Prop}
theorem wrongG_8 {G : mG} {e p : Int} (h : zF G 98 8 = 0) (he : 0 ≤ e ∧ e ≤ 3) (hp : 0 ≤ p ∧ p ≤ 50) : zF (wrongG G e p) 98 8 = e ∧ zF (wrongG G e p) 98 9 = p := by
  unfold wrongG
  rw [if_pos h]
  simp (disch := omega) only [zF_wF, if_true, if_false, Nat.reduceEqDiff, reduceCtorEq, wr_id, and_self]
theorem addG_8 {G : mG} {k p : Int} {v : Int64} : zF (addG G k p v) 98 8 = zF G 98 8 := by
  unfold addG
  simp (disch := omega) only [zF_wF, zF_wA, zF_wJ, ne_eq, reduceCtorEq, not_false_eq_true, if_true, if_false, Nat.reduceEqDiff]
/-- what stands before the next token is read -/
def CutI (G0 G : mG) (acc : List (Int × Int × Int)) (k : Int) : Prop := Fr tkA tkK G0 G ∧ TkR (tAt G0) (zF G0 98 1) G acc ∧ zF G 98 8 = 0 ∧ 0 ≤ k ∧ acc.length ≤ k ∧ acc.length ≤ 40 ∧ k ≤ 42
/-- what stands at the loop's end -/
def CutE (G0 G : mG) (acc : List (Int × Int × Int)) (r : Int ⊕ List (Int × Int × Int)) : Prop := Fr tkA tkK G0 G ∧ match r with
  | .inr ts => zF G 98 8 = 0 ∧ TkR (tAt G0) (zF G0 98 1) G (acc ++ ts) ∧ (acc ++ ts).length ≤ 40
  | .inl p => zF G 98 8 = 1 ∧ zF G 98 9 = p ∧ 0 ≤ zF G 98 3 ∧ zF G 98 3 ≤ 40
def CutD (G : mG) (acc : List (Int × Int × Int)) (k z : Int) (G' : mG) : Prop := lexOne (tAt G) (zF G 98 1) k = none ∧ G' = wrongG G 1 k ∧ 0 ≤ z ∧ z ≤ 50 ∨ ∃ kd, lexOne (tAt G) (zF G 98 1) k = some (kd, z) ∧ TkR (tAt G) (zF G 98 1) G' (acc ++ [(kd, k, z - k)]) ∧ Fr tkA tkK G G' ∧ zF G' 98 8 = 0
section lx
variable {G G' : mG} {acc : List (Int × Int × Int)} {k z : Int}
theorem spd_le (hs : TX G) (m : Nat) {j : Int} (hj : j ≤ 41) : spn (fun i => dgt (tAt G i)) m j ≤ 41 := by
  by_cases h : spn (fun i => dgt (tAt G i)) m j ≤ 41
  · exact h
  · have := spn_all (fun i => dgt (tAt G i)) m j 41 hj (by omega)
    rw [tAt_far hs (by omega)] at this
    cases this
theorem lx_num (hs : TX G) (hTk : TkR (tAt G) (zF G 98 1) G acc) (h8 : zF G 98 8 = 0) (hl : acc.length ≤ 40) (hk : 0 ≤ k ∧ k < 40) (hd : dgt (tAt G k) = true)
    (h : z = nE (tAt G) k ∧ G' = if nE1 (tAt G) k - k > 6 ∨ nP (tAt G) k > 3 then wrongG G 1 k else wA (addG G (if nP (tAt G) k > 0 then 2 else 1) k (J (nV (tAt G) k))) 103 (zF G 98 3) (nP (tAt G) k)) : CutD G acc k z G' := by
  obtain ⟨rfl, rfl⟩ := h
  have h1 : k ≤ nE1 (tAt G) k := spn_ge _ _ _
  have h2 : nE1 (tAt G) k ≤ 41 := spd_le hs _ (by omega)
  have h3 : k ≤ nE (tAt G) k ∧ nE (tAt G) k ≤ 50 ∧ 0 ≤ nP (tAt G) k := by
    unfold nE nP
    split
    · rename_i hh
      have := spn_ge (fun j => dgt (tAt G j)) 41 (nE1 (tAt G) k + 1)
      have := spn_le (fun j => dgt (tAt G j)) 41 (nE1 (tAt G) k + 1)
      have h4 : nE1 (tAt G) k < 40 := by
        by_cases h : nE1 (tAt G) k < 40
        · exact h
        · rw [tAt_out (by have := hs.2.1; omega)] at hh; omega
      have := spd_le hs 41 (j := nE1 (tAt G) k + 1) (by omega)
      omega
    · omega
  unfold CutD lexOne
  rw [if_pos hd]
  by_cases hb : nE1 (tAt G) k - k > 6 ∨ nP (tAt G) k > 3
  · rw [if_pos hb, if_pos hb]
    exact Or.inl ⟨rfl, rfl, by omega, by omega⟩
  · rw [if_neg hb, if_neg hb]
    refine Or.inr ⟨_, rfl, ?_, ?_, ?_⟩
    · have hnum := TkR.num (t := (if nP (tAt G) k > 0 then 11776 else 48, k, nE (tAt G) k - k)) (c := if nP (tAt G) k > 0 then 2 else 1) (v := nV (tAt G) k) (u := nP (tAt G) k) hTk (by omega) (by split <;> rfl) (by split <;> decide) (by dsimp only; omega) (by unfold tkv; split <;> rfl) (by unfold tks; split <;> rfl) (by omega)
      exact hnum
    · exact Fr.pA Fr.fadd (by decide)
    · have : zF (wA (addG G (if nP (tAt G) k > 0 then 2 else 1) k (J (nV (tAt G) k))) 103 (zF G 98 3) (nP (tAt G) k)) 98 8 = zF (addG G (if nP (tAt G) k > 0 then 2 else 1) k (J (nV (tAt G) k))) 98 8 := zF_wA _ _ _ _ _ _ (by decide)
      rw [this, addG_8]; exact h8
theorem lx_name (hs : TX G) (hTk : TkR (tAt G) (zF G 98 1) G acc) (h8 : zF G 98 8 = 0) (hl : acc.length ≤ 40) (hk : 0 ≤ k ∧ k < 40) (hd : ¬ dgt (tAt G k) = true) (ho : low (tAt G k) = true)
    (h : z = naE (tAt G) k ∧ G' = if naE (tAt G) k - k > 5 then wrongG G 1 k else addG G 3 k (J (naV (tAt G) k))) : CutD G acc k z G' := by
  obtain ⟨rfl, rfl⟩ := h
  have h1 : k ≤ naE (tAt G) k := spn_ge _ _ _
  have h2 : naE (tAt G) k ≤ 41 := by
    by_cases h : naE (tAt G) k ≤ 41
    · exact h
    · have := spn_all (fun i => low (tAt G i)) 41 k 41 (by omega) (by show 41 < naE _ _; omega)
      rw [tAt_far hs (by omega)] at this
      cases this
  unfold CutD lexOne
  rw [if_neg hd, if_pos ho]
  by_cases hb : naE (tAt G) k - k > 5
  · rw [if_pos hb, if_pos hb]
    exact Or.inl ⟨rfl, rfl, by omega, by omega⟩
  · rw [if_neg hb, if_neg hb]
    exact Or.inr ⟨_, rfl, TkR.add (t := (97, k, naE (tAt G) k - k)) hTk (by omega) rfl (by decide) (by dsimp only; omega) rfl rfl, Fr.fadd, by rw [addG_8]; exact h8⟩
theorem lx_quo (hs : TX G) (hTk : TkR (tAt G) (zF G 98 1) G acc) (h8 : zF G 98 8 = 0) (hl : acc.length ≤ 40) (hk : 0 ≤ k ∧ k < 40) (hd : ¬ dgt (tAt G k) = true) (ho : ¬ low (tAt G k) = true) (h39 : tAt G k = 39)
    (h : if tAt G (qE (tAt G) (zF G 98 1) k) = 39 then z = qE (tAt G) (zF G 98 1) k + 1 ∧ G' = addG G 4 k (J (qV (tAt G) (zF G 98 1) k + (qE (tAt G) (zF G 98 1) k - k - 1) * 2 ^ 56)) else z = zF G 98 1 ∧ G' = wrongG G 1 k) : CutD G acc k z G' := by
  have h40 := hs.2.1
  have h0 := hs.1
  unfold CutD lexOne
  rw [if_neg hd, if_neg ho, if_pos h39]
  by_cases hb : tAt G (qE (tAt G) (zF G 98 1) k) = 39
  · rw [if_pos hb] at h ⊢
    obtain ⟨rfl, rfl⟩ := h
    exact Or.inr ⟨_, rfl, TkR.add (t := (39, k, qE (tAt G) (zF G 98 1) k + 1 - k)) hTk (by omega) rfl (by decide) (by dsimp only; omega) rfl rfl, Fr.fadd, by rw [addG_8]; exact h8⟩
  · rw [if_neg hb] at h ⊢
    obtain ⟨rfl, rfl⟩ := h
    exact Or.inl ⟨rfl, rfl, by omega, by omega⟩
theorem tk5 {c : Int} (h : 256 ≤ c ∨ sgOne c = true) (h2 : ¬ c = 11776) : tkc c = 5 ∧ (∀ f n p, tkv f n c p = c) ∧ ∀ f p, tks f c p = 0 := by
  have h3 : ¬ c = 48 ∧ ¬ c = 97 ∧ ¬ c = 39 ∧ ¬ c = 36 := by
    rcases h with h | h
    · omega
    · rw [sgOne_iff] at h; omega
  refine ⟨?_, fun f n p => ?_, fun f p => ?_⟩
  · unfold tkc; rw [if_neg h3.1, if_neg h2, if_neg h3.2.1, if_neg h3.2.2.1, if_neg h3.2.2.2]
  · unfold tkv; rw [if_neg (by omega), if_neg h3.2.1, if_neg h3.2.2.1, if_neg h3.2.2.2]
  · unfold tks; rw [if_neg (by omega)]
theorem lx_sign (hs : TX G) (hTk : TkR (tAt G) (zF G 98 1) G acc) (h8 : zF G 98 8 = 0) (hl : acc.length ≤ 40) (hk : 0 ≤ k ∧ k < 40) (hd : ¬ dgt (tAt G k) = true) (ho : ¬ low (tAt G k) = true) (h39 : ¬ tAt G k = 39)
    (h : if sgTwo (tAt G k) (tAt G (k + 1)) = true then z = k + 2 ∧ G' = addG G 5 k (J (256 * tAt G k + tAt G (k + 1))) else z = k + 1 ∧ G' = if sgOne (tAt G k) = true then addG G 5 k (J (tAt G k)) else wrongG G 1 k) : CutD G acc k z G' := by
  unfold CutD lexOne
  rw [if_neg hd, if_neg ho, if_neg h39]
  have r1 := tAt_rng hs (k := k) (by omega)
  by_cases hb : sgTwo (tAt G k) (tAt G (k + 1)) = true
  · rw [if_pos hb] at h ⊢
    obtain ⟨rfl, rfl⟩ := h
    have hb2 := sgTwo_iff.mp hb
    obtain ⟨t1, t2, t3⟩ := tk5 (c := 256 * tAt G k + tAt G (k + 1)) (Or.inl (by omega)) (by omega)
    exact Or.inr ⟨_, rfl, TkR.add (t := (256 * tAt G k + tAt G (k + 1), k, k + 2 - k)) hTk (by omega) t1.symm (by decide) (by dsimp only; omega) (t2 _ _ _).symm (t3 _ _), Fr.fadd, by rw [addG_8]; exact h8⟩
  · rw [if_neg hb] at h ⊢
    by_cases hc : sgOne (tAt G k) = true
    · rw [if_pos hc] at h ⊢
      obtain ⟨rfl, rfl⟩ := h
      have hc2 := sgOne_iff.mp hc
      obtain ⟨t1, t2, t3⟩ := tk5 (c := tAt G k) (Or.inr hc) (by omega)
      exact Or.inr ⟨_, rfl, TkR.add (t := (tAt G k, k, k + 1 - k)) hTk (by omega) t1.symm (by decide) (by dsimp only; omega) (t2 _ _ _).symm (t3 _ _), Fr.fadd, by rw [addG_8]; exact h8⟩
    · rw [if_neg hc] at h ⊢
      obtain ⟨rfl, rfl⟩ := h
      exact Or.inl ⟨rfl, rfl, by omega, by omega⟩
end lx
theorem tw_cutE {G : mG} {k : Int} (hT : TS G) (he : zF G 98 8 = 1) (hk : 0 ≤ k ∧ k ≤ 50) (hx : Wp (d + 3, 152, 97, [some (.ref 98), some (.int (N k))], [], G) Q) : Wp (d + 3, 152, 7, [some (.ref 98), some (.int (N k))], [], G) Q := by
  refine w_load rfl rfl rfl ?_
  refine w_load rfl rfl rfl ?_
  refine w_getI0 rfl hT.o ?_
  refine w_icmp_ge rfl (fun hc12 => ?_) (fun hc12 => ?_)
  · try simp (disch := omega) only [zF_wF, zF_wA, zF_wJ, zF_wD, zA_wF, zA_wA, zA_wJ, zA_wD, zL_wJ, zL_wF, zL_wA, zL_wD, J_wr, wr_zF, wr_zA, wrJ_zL, wr_id, wrJ_id, ne_eq, reduceCtorEq, not_false_eq_true, not_true_eq_false, if_true, if_false, Nat.reduceEqDiff, eq_self] at hc12
    exact hx
  · try simp (disch := omega) only [zF_wF, zF_wA, zF_wJ, zF_wD, zA_wF, zA_wA, zA_wJ, zA_wD, zL_wJ, zL_wF, zL_wA, zL_wD, J_wr, wr_zF, wr_zA, wrJ_zL, wr_id, wrJ_id, ne_eq, reduceCtorEq, not_false_eq_true, not_true_eq_false, if_true, if_false, Nat.reduceEqDiff, eq_self] at hc12
    refine w_load rfl rfl rfl ?_
    refine w_getI0 rfl hT.o ?_
    refine w_if_ne rfl (fun hc19 => ?_) (fun hc19 => ?_)
    · try simp (disch := omega) only [zF_wF, zF_wA, zF_wJ, zF_wD, zA_wF, zA_wA, zA_wJ, zA_wD, zL_wJ, zL_wF, zL_wA, zL_wD, J_wr, wr_zF, wr_zA, wrJ_zL, wr_id, wrJ_id, ne_eq, reduceCtorEq, not_false_eq_true, not_true_eq_false, if_true, if_false, Nat.reduceEqDiff, eq_self] at hc19
      exact hx
    · exfalso; simp (disch := omega) only [zF_wF, zF_wA, zF_wJ, zF_wD, zA_wF, zA_wA, zA_wJ, zA_wD, zL_wJ, zL_wF, zL_wA, zL_wD, J_wr, wr_zF, wr_zA, wrJ_zL, wr_id, wrJ_id, ne_eq, reduceCtorEq, not_false_eq_true, not_true_eq_false, if_true, if_false, Nat.reduceEqDiff, eq_self] at hc19 <;> omega
theorem tw_cutL {G0 : mG} (hT0 : TS G0) (hs0 : TX G0) : ∀ (m : Nat) (k : Int) (acc : List (Int × Int × Int)) (G : mG), CutI G0 G acc k → 41 ≤ k + m →
    (∀ G' k', 0 ≤ k' → k' ≤ 50 → CutE G0 G' acc (lexL (tAt G0) (zF G0 98 1) m k) → Wp (d + 3, 152, 97, [some (.ref 98), some (.int (N k'))], [], G') Q) →
    Wp (d + 3, 152, 7, [some (.ref 98), some (.int (N k))], [], G) Q := by
  intro m
  induction m with
  | zero =>
    intro k acc G hI hm hx
    obtain ⟨hF, hTk, h8, hk, hl, hl40, hk42⟩ := hI
    have hT := hF.ts hT0
    have e1 := hF.vF 1 (by decide) (by decide)
    have h40 := hs0.2.1
    refine w_load rfl rfl rfl ?_
    refine w_load rfl rfl rfl ?_
    refine w_getI0 rfl hT.o ?_
    refine w_icmp_ge rfl (fun hc12 => ?_) (fun hc12 => ?_)
    · try simp (disch := omega) only [zF_wF, zF_wA, zF_wJ, zF_wD, zA_wF, zA_wA, zA_wJ, zA_wD, zL_wJ, zL_wF, zL_wA, zL_wD, J_wr, wr_zF, wr_zA, wrJ_zL, wr_id, wrJ_id, ne_eq, reduceCtorEq, not_false_eq_true, not_true_eq_false, if_true, if_false, Nat.reduceEqDiff, eq_self] at hc12
      exact hx G k hk (by omega) ⟨hF, h8, by simpa using hTk, by simpa using hl40⟩
    · exfalso; simp (disch := omega) only [zF_wF, zF_wA, zF_wJ, zF_wD, zA_wF, zA_wA, zA_wJ, zA_wD, zL_wJ, zL_wF, zL_wA, zL_wD, J_wr, wr_zF, wr_zA, wrJ_zL, wr_id, wrJ_id, ne_eq, reduceCtorEq, not_false_eq_true, not_true_eq_false, if_true, if_false, Nat.reduceEqDiff, eq_self] at hc12 <;> omega
  | succ m ih =>
    intro k acc G hI hm hx
    obtain ⟨hF, hTk, h8, hk, hl, hl40, hk42⟩ := id hI
    have hT := hF.ts hT0
    have e1 := hF.vF 1 (by decide) (by decide)
    obtain ⟨e2, hXX⟩ := hF.txt (by decide) (by decide) (by decide)
    have hs := hXX hs0
    have h40 := hs.2.1
    have h3 := hTk.1
    by_cases hkn : k < zF G 98 1
    · have hkn0 : k < zF G0 98 1 := by omega
      rw [lexL, if_pos hkn0, ← e2, ← e1] at hx
      rw [← e2, ← e1] at hTk
      have hgo : ∀ z G', CutD G acc k z G' → ¬ tAt G k = 32 → Wp (d + 3, 152, 93, [some (.ref 98), some (.int (N k))], [.int (N z)], G') Q := by
        intro z G' hz h32
        rw [if_neg h32] at hx
        rcases hz with ⟨hn, rfl, hz1, hz2⟩ | ⟨kd, hn, hTk', hF', h8'⟩
        · rw [hn] at hx
          have hw := wrongG_8 (e := 1) (p := k) h8 (by omega) (by omega)
          have hFw : Fr tkA tkK G (wrongG G 1 k) := Fr.fwrong
          have hTw := hFw.ts hT
          have h3w : zF (wrongG G 1 k) 98 3 = zF G 98 3 := by
            unfold wrongG
            split <;> simp [zF_wF]
          refine w_st1 rfl rfl rfl ?_
          refine w_goto rfl ?_
          exact tw_cutE hTw hw.1 (by omega) (hx _ z hz1 hz2 ⟨hF.trans hFw, hw.1, hw.2, by omega, by omega⟩)
        · rw [hn] at hx
          have hadv := lexOne_adv hs (by omega) hn
          dsimp only at hadv hx
          refine w_st1 rfl rfl rfl ?_
          refine w_goto rfl ?_
          refine ih z (acc ++ [(kd, k, z - k)]) G' ⟨hF.trans hF', by rw [← e2, ← e1]; exact hTk', h8', by omega, by simp; omega, by simp; omega, by omega⟩ (by omega) (fun G2 k2 q1 q2 hE => hx G2 k2 q1 q2 ?_)
          rw [← e2, ← e1] at hE
          obtain ⟨hE1, hE2⟩ := hE
          refine ⟨hE1, ?_⟩
          cases hL : lexL (tAt G) (zF G 98 1) m z with
          | inl p => rw [hL] at hE2; exact hE2
          | inr ts =>
            rw [hL] at hE2
            dsimp only at hE2 ⊢
            rw [List.append_assoc] at hE2
            rw [← e2, ← e1]
            rw [← e2, ← e1] at hE2
            exact hE2
      have hrk := tAt_rng hs (k := k) hk
      refine w_load rfl rfl rfl ?_
      refine w_load rfl rfl rfl ?_
      refine w_getI0 rfl hT.o ?_
      refine w_icmp_ge rfl (fun hc12 => ?_) (fun hc12 => ?_)
      · exfalso; simp (disch := omega) only [zF_wF, zF_wA, zF_wJ, zF_wD, zA_wF, zA_wA, zA_wJ, zA_wD, zL_wJ, zL_wF, zL_wA, zL_wD, J_wr, wr_zF, wr_zA, wrJ_zL, wr_id, wrJ_id, ne_eq, reduceCtorEq, not_false_eq_true, not_true_eq_false, if_true, if_false, Nat.reduceEqDiff, eq_self, wr_tAt] at hc12 <;> omega
      · try simp (disch := omega) only [zF_wF, zF_wA, zF_wJ, zF_wD, zA_wF, zA_wA, zA_wJ, zA_wD, zL_wJ, zL_wF, zL_wA, zL_wD, J_wr, wr_zF, wr_zA, wrJ_zL, wr_id, wrJ_id, ne_eq, reduceCtorEq, not_false_eq_true, not_true_eq_false, if_true, if_false, Nat.reduceEqDiff, eq_self, wr_tAt] at hc12
        refine w_load rfl rfl rfl ?_
        refine w_getI0 rfl hT.o ?_
        refine w_if_ne rfl (fun hc19 => ?_) (fun hc19 => ?_)
        · exfalso; simp (disch := omega) only [zF_wF, zF_wA, zF_wJ, zF_wD, zA_wF, zA_wA, zA_wJ, zA_wD, zL_wJ, zL_wF, zL_wA, zL_wD, J_wr, wr_zF, wr_zA, wrJ_zL, wr_id, wrJ_id, ne_eq, reduceCtorEq, not_false_eq_true, not_true_eq_false, if_true, if_false, Nat.reduceEqDiff, eq_self, wr_tAt] at hc19 <;> omega
        · try simp (disch := omega) only [zF_wF, zF_wA, zF_wJ, zF_wD, zA_wF, zA_wA, zA_wJ, zA_wD, zL_wJ, zL_wF, zL_wA, zL_wD, J_wr, wr_zF, wr_zA, wrJ_zL, wr_id, wrJ_id, ne_eq, reduceCtorEq, not_false_eq_true, not_true_eq_false, if_true, if_false, Nat.reduceEqDiff, eq_self, wr_tAt] at hc19
          refine w_load rfl rfl rfl ?_
          refine w_load rfl rfl rfl ?_
          refine w_callI2 rfl (Nat.le_of_ble_eq_true rfl) (Or.inr (Or.inr hT.o)) (Nat.le_of_ble_eq_true rfl) (tw_at hT (by omega) h40) (fun z24 G24 h24 => ?_)
          obtain ⟨rfl, rfl⟩ := h24
          refine w_const (32) rfl rfl ?_
          refine w_icmp_ne rfl (fun hc29 => ?_) (fun hc29 => ?_)
          · try simp (disch := omega) only [zF_wF, zF_wA, zF_wJ, zF_wD, zA_wF, zA_wA, zA_wJ, zA_wD, zL_wJ, zL_wF, zL_wA, zL_wD, J_wr, wr_zF, wr_zA, wrJ_zL, wr_id, wrJ_id, ne_eq, reduceCtorEq, not_false_eq_true, not_true_eq_false, if_true, if_false, Nat.reduceEqDiff, eq_self, wr_tAt] at hc29
            refine w_load rfl rfl rfl ?_
            refine w_load rfl rfl rfl ?_
            refine w_callI2 rfl (Nat.le_of_ble_eq_true rfl) (Or.inr (Or.inr hT.o)) (Nat.le_of_ble_eq_true rfl) (tw_dgt hT (by omega) h40) (fun z40 G40 h40 => ?_)
            obtain ⟨rfl, rfl⟩ := h40
            refine w_if_eq rfl (fun hc43 => ?_) (fun hc43 => ?_)
            · try simp (disch := omega) only [zF_wF, zF_wA, zF_wJ, zF_wD, zA_wF, zA_wA, zA_wJ, zA_wD, zL_wJ, zL_wF, zL_wA, zL_wD, J_wr, wr_zF, wr_zA, wrJ_zL, wr_id, wrJ_id, ne_eq, reduceCtorEq, not_false_eq_true, not_true_eq_false, if_true, if_false, Nat.reduceEqDiff, eq_self, wr_tAt] at hc43
              have hd : ¬ dgt (tAt G k) = true := by intro h; rw [if_pos h] at hc43; exact absurd hc43 (by decide)
              refine w_load rfl rfl rfl ?_
              refine w_load rfl rfl rfl ?_
              refine w_callI2 rfl (Nat.le_of_ble_eq_true rfl) (Or.inr (Or.inr hT.o)) (Nat.le_of_ble_eq_true rfl) (tw_lower hT (by omega) h40) (fun z56 G56 h56 => ?_)
              obtain ⟨rfl, rfl⟩ := h56
              refine w_if_eq rfl (fun hc59 => ?_) (fun hc59 => ?_)
              · try simp (disch := omega) only [zF_wF, zF_wA, zF_wJ, zF_wD, zA_wF, zA_wA, zA_wJ, zA_wD, zL_wJ, zL_wF, zL_wA, zL_wD, J_wr, wr_zF, wr_zA, wrJ_zL, wr_id, wrJ_id, ne_eq, reduceCtorEq, not_false_eq_true, not_true_eq_false, if_true, if_false, Nat.reduceEqDiff, eq_self, wr_tAt] at hc59
                have ho : ¬ low (tAt G k) = true := by intro h; rw [if_pos h] at hc59; exact absurd hc59 (by decide)
                refine w_load rfl rfl rfl ?_
                refine w_load rfl rfl rfl ?_
                refine w_callI2 rfl (Nat.le_of_ble_eq_true rfl) (Or.inr (Or.inr hT.o)) (Nat.le_of_ble_eq_true rfl) (tw_at hT (by omega) h40) (fun z72 G72 h72 => ?_)
                obtain ⟨rfl, rfl⟩ := h72
                refine w_const (39) rfl rfl ?_
                refine w_icmp_ne rfl (fun hc77 => ?_) (fun hc77 => ?_)
                · try simp (disch := omega) only [zF_wF, zF_wA, zF_wJ, zF_wD, zA_wF, zA_wA, zA_wJ, zA_wD, zL_wJ, zL_wF, zL_wA, zL_wD, J_wr, wr_zF, wr_zA, wrJ_zL, wr_id, wrJ_id, ne_eq, reduceCtorEq, not_false_eq_true, not_true_eq_false, if_true, if_false, Nat.reduceEqDiff, eq_self, wr_tAt] at hc77
                  refine w_load rfl rfl rfl ?_
                  refine w_load rfl rfl rfl ?_
                  refine w_callI2 rfl (Nat.le_of_ble_eq_true rfl) (Or.inr (Or.inr hT.o)) (Nat.le_of_ble_eq_true rfl) (tw_sign hT hs (by omega) (by omega)) (fun z90 G90 h90 => ?_)
                  refine hgo _ _ ?_ hc29
                  first
                    | exact lx_num hs hTk h8 hl40 (by omega) hd h48
                    | exact lx_name hs hTk h8 hl40 (by omega) hd ho h64
                    | exact lx_quo hs hTk h8 hl40 (by omega) hd ho hc77 h82
                    | exact lx_sign hs hTk h8 hl40 (by omega) hd ho hc77 h90
                · try simp (disch := omega) only [zF_wF, zF_wA, zF_wJ, zF_wD, zA_wF, zA_wA, zA_wJ, zA_wD, zL_wJ, zL_wF, zL_wA, zL_wD, J_wr, wr_zF, wr_zA, wrJ_zL, wr_id, wrJ_id, ne_eq, reduceCtorEq, not_false_eq_true, not_true_eq_false, if_true, if_false, Nat.reduceEqDiff, eq_self, wr_tAt] at hc77
                  refine w_load rfl rfl rfl ?_
                  refine w_load rfl rfl rfl ?_
                  refine w_callI2 rfl (Nat.le_of_ble_eq_true rfl) (Or.inr (Or.inr hT.o)) (Nat.le_of_ble_eq_true rfl) (tw_quoted hT hs (by omega) (by omega)) (fun z82 G82 h82 => ?_)
                  refine w_goto rfl ?_
                  refine hgo _ _ ?_ hc29
                  first
                    | exact lx_num hs hTk h8 hl40 (by omega) hd h48
                    | exact lx_name hs hTk h8 hl40 (by omega) hd ho h64
                    | exact lx_quo hs hTk h8 hl40 (by omega) hd ho hc77 h82
                    | exact lx_sign hs hTk h8 hl40 (by omega) hd ho hc77 h90
              · try simp (disch := omega) only [zF_wF, zF_wA, zF_wJ, zF_wD, zA_wF, zA_wA, zA_wJ, zA_wD, zL_wJ, zL_wF, zL_wA, zL_wD, J_wr, wr_zF, wr_zA, wrJ_zL, wr_id, wrJ_id, ne_eq, reduceCtorEq, not_false_eq_true, not_true_eq_false, if_true, if_false, Nat.reduceEqDiff, eq_self, wr_tAt] at hc59
                have ho : low (tAt G k) = true := by by_cases h : low (tAt G k) = true; exact h; exfalso; rw [if_neg h] at hc59; exact hc59 rfl
                refine w_load rfl rfl rfl ?_
                refine w_load rfl rfl rfl ?_
                refine w_callI2 rfl (Nat.le_of_ble_eq_true rfl) (Or.inr (Or.inr hT.o)) (Nat.le_of_ble_eq_true rfl) (tw_name hT hs (by omega) (by omega)) (fun z64 G64 h64 => ?_)
                refine w_goto rfl ?_
                refine hgo _ _ ?_ hc29
                first
                  | exact lx_num hs hTk h8 hl40 (by omega) hd h48
                  | exact lx_name hs hTk h8 hl40 (by omega) hd ho h64
                  | exact lx_quo hs hTk h8 hl40 (by omega) hd ho hc77 h82
                  | exact lx_sign hs hTk h8 hl40 (by omega) hd ho hc77 h90
            · try simp (disch := omega) only [zF_wF, zF_wA, zF_wJ, zF_wD, zA_wF, zA_wA, zA_wJ, zA_wD, zL_wJ, zL_wF, zL_wA, zL_wD, J_wr, wr_zF, wr_zA, wrJ_zL, wr_id, wrJ_id, ne_eq, reduceCtorEq, not_false_eq_true, not_true_eq_false, if_true, if_false, Nat.reduceEqDiff, eq_self, wr_tAt] at hc43
              have hd : dgt (tAt G k) = true := by by_cases h : dgt (tAt G k) = true; exact h; exfalso; rw [if_neg h] at hc43; exact hc43 rfl
              refine w_load rfl rfl rfl ?_
              refine w_load rfl rfl rfl ?_
              refine w_callI2 rfl (Nat.le_of_ble_eq_true rfl) (Or.inr (Or.inr hT.o)) (Nat.le_of_ble_eq_true rfl) (tw_number hT hs (by omega) (by omega)) (fun z48 G48 h48 => ?_)
              refine w_goto rfl ?_
              refine hgo _ _ ?_ hc29
              first
                | exact lx_num hs hTk h8 hl40 (by omega) hd h48
                | exact lx_name hs hTk h8 hl40 (by omega) hd ho h64
                | exact lx_quo hs hTk h8 hl40 (by omega) hd ho hc77 h82
                | exact lx_sign hs hTk h8 hl40 (by omega) hd ho hc77 h90
          · try simp (disch := omega) only [zF_wF, zF_wA, zF_wJ, zF_wD, zA_wF, zA_wA, zA_wJ, zA_wD, zL_wJ, zL_wF, zL_wA, zL_wD, J_wr, wr_zF, wr_zA, wrJ_zL, wr_id, wrJ_id, ne_eq, reduceCtorEq, not_false_eq_true, not_true_eq_false, if_true, if_false, Nat.reduceEqDiff, eq_self, wr_tAt] at hc29
            refine w_inc1 (1) rfl rfl rfl ?_
            refine w_goto rfl ?_
            rw [if_pos hc29] at hx
            exact ih (k + 1) acc G ⟨hF, by rw [← e2, ← e1]; exact hTk, h8, by omega, by omega, hl40, by omega⟩ (by omega) (by rw [e2, e1] at hx; exact hx)
    · rw [lexL, if_neg (by omega)] at hx
      refine w_load rfl rfl rfl ?_
      refine w_load rfl rfl rfl ?_
      refine w_getI0 rfl hT.o ?_
      refine w_icmp_ge rfl (fun hc12 => ?_) (fun hc12 => ?_)
      · try simp (disch := omega) only [zF_wF, zF_wA, zF_wJ, zF_wD, zA_wF, zA_wA, zA_wJ, zA_wD, zL_wJ, zL_wF, zL_wA, zL_wD, J_wr, wr_zF, wr_zA, wrJ_zL, wr_id, wrJ_id, ne_eq, reduceCtorEq, not_false_eq_true, not_true_eq_false, if_true, if_false, Nat.reduceEqDiff, eq_self] at hc12
        exact hx G k hk (by omega) ⟨hF, h8, by simpa using hTk, by simpa using hl40⟩
      · exfalso; simp (disch := omega) only [zF_wF, zF_wA, zF_wJ, zF_wD, zA_wF, zA_wA, zA_wJ, zA_wD, zL_wJ, zL_wF, zL_wA, zL_wD, J_wr, wr_zF, wr_zA, wrJ_zL, wr_id, wrJ_id, ne_eq, reduceCtorEq, not_false_eq_true, not_true_eq_false, if_true, if_false, Nat.reduceEqDiff, eq_self] at hc12 <;> omega
theorem tw_cut {G : mG} (hT : TS G) (hs : TX G) (he : zF G 98 8 = 0) : Wp (d + 3, 152, 0, [some (.ref 98), none], [], G) (RV fun G' => Fr tkA tkK G G' ∧ match lexL (tAt G) (zF G 98 1) 41 0 with
    | .inr ts => zF G' 98 8 = 0 ∧ TkR (tAt G) (zF G 98 1) G' (ts ++ [(36, zF G 98 1, 0)]) ∧ ts.length ≤ 40
    | .inl p => zF G' 98 8 = 1 ∧ zF G' 98 9 = p) := by
  have h0 := hs.1
  have h40 := hs.2.1
  refine w_load rfl rfl rfl ?_
  refine w_const (0) rfl rfl ?_
  refine w_putI0 rfl hT.o ?_
  refine w_const (0) rfl rfl ?_
  refine w_st1 rfl rfl rfl ?_
  skip
  have hF : Fr tkA tkK G (wF G 98 3 0) := Fr.pF (Fr.refl _ _ _) (by decide)
  refine tw_cutL hT hs 41 0 [] (wF G 98 3 0) ⟨hF, ⟨?_, fun i t h => by simp at h⟩, ?_, by omega, by simp, by simp, by omega⟩ (by omega) (fun G' k' q1 q2 hE => ?_)
  · simp [zF_wF]; rfl
  · simp [zF_wF]; exact he
  · obtain ⟨hE1, hE2⟩ := hE
    have hT' := hE1.ts hT
    have e1 := hE1.vF 1 (by decide) (by decide)
    cases hL : lexL (tAt G) (zF G 98 1) 41 0 with
    | inl p =>
      rw [hL] at hE2
      dsimp only at hE2
      obtain ⟨x1, x2, x3, x4⟩ := hE2
      refine w_load rfl rfl rfl ?_
      refine w_const (0) rfl rfl ?_
      refine w_load rfl rfl rfl ?_
      refine w_getI0k rfl hT'.o (e1) ?_
      refine w_lconst (0) rfl rfl ?_
      refine w_callV4 rfl (Nat.le_of_ble_eq_true rfl) (Or.inr (Or.inr hT'.o)) (Nat.le_of_ble_eq_true rfl) (tw_add hT' (by omega)) (fun G104 h104 => ?_)
      obtain rfl := h104
      refine w_return rfl ?_
      refine RV.mk ⟨hE1.trans Fr.fadd, ?_⟩
      refine ⟨by rw [addG_8]; exact x1, ?_⟩
      unfold addG
      simp (disch := omega) only [zF_wF, zF_wA, zF_wJ, ne_eq, reduceCtorEq, not_false_eq_true, if_true, if_false, Nat.reduceEqDiff]
      exact x2
    | inr ts =>
      rw [hL] at hE2
      dsimp only at hE2
      obtain ⟨x1, x2, x3⟩ := hE2
      rw [List.nil_append] at x2 x3
      have x4 := x2.1
      refine w_load rfl rfl rfl ?_
      refine w_const (0) rfl rfl ?_
      refine w_load rfl rfl rfl ?_
      refine w_getI0k rfl hT'.o (e1) ?_
      refine w_lconst (0) rfl rfl ?_
      refine w_callV4 rfl (Nat.le_of_ble_eq_true rfl) (Or.inr (Or.inr hT'.o)) (Nat.le_of_ble_eq_true rfl) (tw_add hT' (by omega)) (fun G104 h104 => ?_)
      obtain rfl := h104
      refine w_return rfl ?_
      refine RV.mk ⟨hE1.trans Fr.fadd, ?_⟩
      exact ⟨by rw [addG_8]; exact x1, TkR.add (t := (36, zF G 98 1, 0)) x2 (by omega) rfl (by decide) (by dsimp only; omega) rfl rfl, x3⟩
end cut

