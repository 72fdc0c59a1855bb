/-! THE TWIN: parse (2) -/
set_option maxRecDepth 100000
section tw16
variable {d : Nat} {G : mG} {st : Nat} {f : Int → Int} {n : Int} {ts : List (Int × Int × Int)}
theorem parse_env (hT : TS G) (hTk : TkR f n G (ts ++ [(36, n, 0)])) (hl : ts.length ≤ 40) (hn : 0 ≤ n ∧ n ≤ 40) (hok : ∀ t, t ∈ ts → TokOK f n t) (h15 : zF G 98 15 = st) (hst : st ≤ 3510) : PEnv f n (ts ++ [(36, n, 0)]) G st := by
  have hg : ∀ i, (∃ t, t ∈ ts ∧ (ts ++ [(36, n, 0)]).getD i (36, n, 0) = t) ∨ (ts ++ [(36, n, 0)]).getD i (36, n, 0) = (36, n, 0) := fun i => by
    rw [List.getD_eq_getElem?_getD]
    by_cases hi : i < ts.length
    · rw [List.getElem?_append_left hi, List.getElem?_eq_getElem hi]
      exact Or.inl ⟨_, List.getElem_mem hi, rfl⟩
    · rw [List.getElem?_append_right (by omega)]
      by_cases h0 : i - ts.length = 0
      · rw [h0]; exact Or.inr rfl
      · rw [List.getElem?_eq_none (by simp only [List.length_cons, List.length_nil]; omega)]
        exact Or.inr rfl
  refine ⟨hT, hTk, by rw [List.length_append]; simp only [List.length_cons, List.length_nil]; omega, fun i hi => ?_, h15, hst, fun i => ?_, fun i h97 => ?_, fun i hd => ?_⟩
  · have : i = ts.length := by rw [List.length_append] at hi; simp only [List.length_cons, List.length_nil] at hi; omega
    subst this
    unfold tkd
    rw [List.getD_eq_getElem?_getD, List.getElem?_append_right (Nat.le_refl _), Nat.sub_self]
    rfl
  · unfold tkd tpl
    rcases hg i with ⟨t, h1, h2⟩ | h2
    · rw [h2]
      obtain ⟨a, b, -, -⟩ := hok t h1
      omega
    · rw [h2]
      dsimp only
      omega
  · unfold tvl
    unfold tkd at h97
    unfold tkd tpl
    rcases hg i with ⟨t, h1, h2⟩ | h2
    · rw [h2] at h97 ⊢
      exact (hok t h1).2.2.1 h97
    · rw [h2] at h97
      exact absurd h97 (by dsimp only; decide)
  · unfold tsc
    unfold tkd at hd
    unfold tkd tpl
    rcases hg i with ⟨t, h1, h2⟩ | h2
    · rw [h2] at hd ⊢
      exact (hok t h1).2.2.2 hd
    · rw [h2] at hd
      exact absurd hd (by dsimp only; decide)
/-- what parse leaves -/
def PsP (G : mG) (z : Int) (G' : mG) : Prop := zF G 98 10 = 40 ∧ z = 0 ∧ G' = wF G 98 0 1
  ∨ ¬ zF G 98 10 = 40 ∧ Fr psA psK G G' ∧ zF G' 98 0 = 0 ∧ zF G' 98 1 = 0 ∧ (zF G' 98 17 = 0 ∨ zF G' 98 17 = 1) ∧ (∀ k : Int, 0 ≤ k → k < 90 * zF G 98 10 → zA G' 104 k = zA G 104 k ∧ jA G' 105 k = jA G 105 k) ∧ (∀ k : Int, 0 ≤ k → k < zF G 98 10 → zA G' 106 k = zA G 106 k)
    ∧ match parR (tAt G) (zF G 98 1) with
      | .inl e => z = -1000 * e.1 - e.2 ∧ zF G' 98 10 = zF G 98 10
      | .inr sp => z = zF G 98 10 ∧ zF G' 98 10 = zF G 98 10 + 1 ∧ zA G' 106 (zF G 98 10) = sp.length ∧ outR (90 * (zF G 98 10).toNat) G' (encL (90 * (zF G 98 10).toNat) 0 sp) ∧ sp.length ≤ 90
theorem prsub {G1 G2 : mG} (h : Fr prA prK G1 G2) : Fr psA psK G1 G2 := h.mono (by decide) (by decide)
theorem tksub {G1 G2 : mG} (h : Fr tkA tkK G1 G2) : Fr psA psK G1 G2 := h.mono (by decide) (by decide)
theorem tw_par79 {G33 H : mG} (hs : TX G) (hp : 0 ≤ zF G 98 10 ∧ zF G 98 10 ≤ 40) (h17 : zF G 98 17 = 0 ∨ zF G 98 17 = 1) (h40 : ¬ zF G 98 10 = 40) (hFr0 : Fr [] [0, 8] G (wF (wF G 98 0 0) 98 8 0)) (hT0 : TS G)
    (h33 : Fr tkA tkK (wF (wF G 98 0 0) 98 8 0) G33 ∧ match lexL (tAt G) (zF G 98 1) 41 0 with
      | .inr ts => zF G33 98 8 = 0 ∧ TkR (tAt G) (zF G 98 1) G33 (ts ++ [(36, zF G 98 1, 0)]) ∧ ts.length ≤ 40
      | .inl p => zF G33 98 8 = 1 ∧ zF G33 98 9 = p)
    (hH : H = wF (wF (wF (wF (wF (wF (wF G33 98 1 0) 98 14 0) 98 15 (90 * zF G 98 10)) 98 16 0) 98 19 0) 98 29 0) 98 18 0) : Lp d (RI (PsP G)) 0 H := by
  have hn0 := hs.1
  have hn40 := hs.2.1
  have hFr : Fr tkA [0, 1, 3, 8, 9, 14, 15, 16, 18, 19, 29] G H := by
    rw [hH]
    exact (((((((((hFr0.mono (by decide) (by decide)).trans (h33.1.mono (by decide) (by decide))).pF (by decide)).pF (by decide)).pF (by decide)).pF (by decide)).pF (by decide)).pF (by decide)).pF (by decide))
  have hTH : TS H := hFr.ts hT0
  have hv : ∀ q, ¬ q = 1 → ¬ q = 14 → ¬ q = 15 → ¬ q = 16 → ¬ q = 19 → ¬ q = 29 → ¬ q = 18 → zF H 98 q = zF G33 98 q := fun q a1 a2 a3 a4 a5 a6 a7 => by
    rw [hH, zF_putn a7, zF_putn a6, zF_putn a5, zF_putn a4, zF_putn a3, zF_putn a2, zF_putn a1]
  have e0 : zF H 98 0 = 0 := by
    rw [hv 0 (by decide) (by decide) (by decide) (by decide) (by decide) (by decide) (by decide), h33.1.vF 0 (by decide) (by decide), zF_putn (by decide), zF_put (by decide) (by decide)]
  have e1 : zF H 98 1 = 0 := by rw [hH, zF_putn (by decide), zF_putn (by decide), zF_putn (by decide), zF_putn (by decide), zF_putn (by decide), zF_putn (by decide), zF_put (by decide) (by decide)]
  have e14 : zF H 98 14 = 0 := by rw [hH, zF_putn (by decide), zF_putn (by decide), zF_putn (by decide), zF_putn (by decide), zF_putn (by decide), zF_put (by decide) (by decide)]
  have e15 : zF H 98 15 = 90 * zF G 98 10 := by rw [hH, zF_putn (by decide), zF_putn (by decide), zF_putn (by decide), zF_putn (by decide), zF_put (by omega) (by omega)]
  have e16 : zF H 98 16 = 0 := by rw [hH, zF_putn (by decide), zF_putn (by decide), zF_putn (by decide), zF_put (by decide) (by decide)]
  have e19 : zF H 98 19 = 0 := by rw [hH, zF_putn (by decide), zF_putn (by decide), zF_put (by decide) (by decide)]
  have e29 : zF H 98 29 = 0 := by rw [hH, zF_putn (by decide), zF_put (by decide) (by decide)]
  have e18 : zF H 98 18 = 0 := by rw [hH, zF_put (by decide) (by decide)]
  have e10 : zF H 98 10 = zF G 98 10 := hFr.vF 10 (by decide) (by decide)
  have e17 : zF H 98 17 = zF G 98 17 := hFr.vF 17 (by decide) (by decide)
  have hadv : ∀ k q, 0 ≤ k → k < zF G 98 1 → lexOne (tAt G) (zF G 98 1) k = some q → k < q.2 := fun k q a b c => (lexOne_adv hs ⟨a, b⟩ c).1
  have hFs : Fr psA psK G H := hFr.mono (by decide) (by decide)
  have hkA : ∀ x k, ¬ x ∈ tkA → ¬ x = 98 → zA H x k = zA G x k ∧ jA H x k = jA G x k := fun x k a b => ⟨hFr.vA x k a b, hFr.vJ x k a⟩
  obtain ⟨-, h33⟩ := h33
  cases hl : lexL (tAt G) (zF G 98 1) 41 0 with
  | inl p =>
    rw [hl] at h33
    have hpr := lexL_err hadv 41 0 p (by decide) hl
    have e8 : zF H 98 8 = 1 := by rw [hv 8 (by decide) (by decide) (by decide) (by decide) (by decide) (by decide) (by decide)]; exact h33.1
    have e9 : zF H 98 9 = p := by rw [hv 9 (by decide) (by decide) (by decide) (by decide) (by decide) (by decide) (by decide)]; exact h33.2
    refine lp_err hTH e8 (by decide) (par_err hTH e8 e9 (by decide) (by omega) (Or.inr ⟨h40, hFs, e0, e1, by rw [e17]; exact h17, fun k _ _ => ⟨(hkA 104 k (by decide) (by decide)).1, (hkA 105 k (by decide) (by decide)).2⟩, fun k _ _ => (hkA 106 k (by decide) (by decide)).1, ?_⟩))
    unfold parR
    rw [hl]
    exact ⟨rfl, e10⟩
  | inr ts =>
    rw [hl] at h33
    obtain ⟨e8, hTk, hlen⟩ := h33
    have hok := lexL_ok (fun k hk => tAt_rng hs hk) hadv 41 0 ts (by decide) hl
    have e8' : zF H 98 8 = 0 := by rw [hv 8 (by decide) (by decide) (by decide) (by decide) (by decide) (by decide) (by decide)]; exact e8
    have hst : ((90 * (zF G 98 10).toNat : Nat) : Int) = 90 * zF G 98 10 := by omega
    have hE : PEnv (tAt G) (zF G 98 1) (ts ++ [(36, zF G 98 1, 0)]) H (90 * (zF G 98 10).toNat) := by
      refine parse_env hTH ?_ hlen ⟨hn0, hn40⟩ hok (by rw [e15, hst]) (by omega)
      rw [hH]
      exact ((((((hTk.pF (by decide)).pF (by decide)).pF (by decide)).pF (by decide)).pF (by decide)).pF (by decide)).pF (by decide)
    have p : PR (ts ++ [(36, zF G 98 1, 0)]) H (90 * (zF G 98 10).toNat) H 0 [] (decide (zF H 98 17 = 1)) [] [] (zF H 98 33) (zF H 98 34) := by
      refine ⟨⟨Fr.refl _ _ _, fun _ _ _ => ⟨rfl, rfl⟩, by rw [e17]; exact h17⟩, ⟨e14, e16, ?_, e19, e29, rfl, rfl, e8', e18⟩, (fun k s h => by cases h), trivial, trivial, (by rw [List.length_append]; exact Nat.succ_pos _), (by decide), (by decide), (by decide)⟩
      rw [e17]
      rcases h17 with h | h <;> rw [h] <;> rfl
    have s := phr_sim (d := d) (Q := RI (PsP G)) hE p
    have hkeep : ∀ G', PK H (90 * (zF G 98 10).toNat) G' → ∀ k : Int, 0 ≤ k → k < 90 * zF G 98 10 → zA G' 104 k = zA G 104 k ∧ jA G' 105 k = jA G 105 k := fun G' hK k a b => by
      obtain ⟨c1, c2⟩ := hK.2.1 k a (by omega)
      exact ⟨c1.trans (hkA 104 k (by decide) (by decide)).1, c2.trans (hkA 105 k (by decide) (by decide)).2⟩
    unfold phr2 at s
    cases hph : phrR (tAt G) (zF G 98 1) (ts ++ [(36, zF G 98 1, 0)]) with
    | inl e =>
      rw [hph] at s
      refine s (fun k' G' hpe => ?_)
      obtain ⟨hK, x8, x9, r1, r2, r3, r4⟩ := hpe
      have hT' : TS G' := hK.1.ts hTH
      refine lp_err hT' x8 ⟨r1, r2⟩ (par_err hT' x8 x9 ⟨r1, r2⟩ ⟨r3, r4⟩ (Or.inr ⟨h40, hFs.trans (prsub hK.1), by rw [hK.1.vF 0 (by decide) (by decide)]; exact e0, by rw [hK.1.vF 1 (by decide) (by decide)]; exact e1, hK.2.2, hkeep G' hK, fun k _ _ => (hK.1.vA 106 k (by decide) (by decide)).trans (hkA 106 k (by decide) (by decide)).1, ?_⟩))
      unfold parR
      rw [hl]
      dsimp only
      rw [hph]
      exact ⟨rfl, by rw [hK.1.vF 10 (by decide) (by decide)]; exact e10⟩
    | inr sp =>
      rw [hph] at s
      refine s (fun k' G' hpd => ?_)
      obtain ⟨hK, x8, x18, x16, hout, hle⟩ := hpd
      have hT' : TS G' := hK.1.ts hTH
      have x10 : zF G' 98 10 = zF G 98 10 := by rw [hK.1.vF 10 (by decide) (by decide)]; exact e10
      dsimp only at x16 hout hle
      rw [encL_len] at x16 hle
      refine lp_don hT' x8 x18 (par_don hT' x8 x10 x16 (by omega) (Or.inr ⟨h40, ((hFs.trans (prsub hK.1)).pA (by decide)).pF (by decide), ?_, ?_, ?_, fun k a b => ?_, fun k a b => ?_, ?_⟩))
      · rw [zF_putn (by decide), zF_A (by decide), hK.1.vF 0 (by decide) (by decide)]; exact e0
      · rw [zF_putn (by decide), zF_A (by decide), hK.1.vF 1 (by decide) (by decide)]; exact e1
      · rw [zF_putn (by decide), zF_A (by decide)]; exact hK.2.2
      · rw [zA_wF _ _ _ _ _ _ (by decide), jA_wF, zA_wA, if_neg (by decide), jA_wA]
        exact hkeep G' hK k a b
      · rw [zA_wF _ _ _ _ _ _ (by decide), zA_wA, if_pos rfl, if_neg (by omega), hK.1.vA 106 k (by decide) (by decide)]
        exact (hkA 106 k (by decide) (by decide)).1
      · unfold parR
        rw [hl]
        dsimp only
        rw [hph]
        refine ⟨rfl, zF_put (by omega) (by omega), ?_, outR_F (outR_A (by decide) hout), hle⟩
        rw [zA_wF _ _ _ _ _ _ (by decide), zA_wA, if_pos rfl, if_pos rfl, wr_id (by omega) (by omega)]
theorem tw_parse (hT : TS G) (hs : TX G) (hp : 0 ≤ zF G 98 10 ∧ zF G 98 10 ≤ 40) (h17 : zF G 98 17 = 0 ∨ zF G 98 17 = 1) : Wp (d + 6, 151, 0, [some (.ref 98), none], [], G) (RI (PsP G)) := by
  have hn0 := hs.1
  have hn40 := hs.2.1
  have hFr0 : Fr [] [0, 8] G (wF (wF G 98 0 0) 98 8 0) := ((Fr.refl [] [0, 8] G).pF (by decide)).pF (by decide)
  obtain ⟨htx1, htx2⟩ := hFr0.txt (by decide) (by decide) (by decide)
  have hz1 : zF (wF (wF G 98 0 0) 98 8 0) 98 1 = zF G 98 1 := hFr0.vF 1 (by decide) (by decide)
  refine w_load rfl rfl rfl ?_
  refine w_load rfl rfl rfl ?_
  refine w_getI0 rfl hT.o ?_
  refine w_const (40) rfl rfl ?_
  refine w_icmp_ne rfl (fun hc7 => ?_) (fun hc7 => ?_)
  · try simp (disch := omega) only [zF_wF, zF_wA, zF_wJ, zF_wD, zA_wF, zA_wA, zA_wJ, zA_wD, zL_wJ, zL_wF, zL_wA, zL_wD, J_wr, wr_zF, wr_zA, wrJ_zL, wr_id, wrJ_id, ne_eq, reduceCtorEq, not_false_eq_true, not_true_eq_false, if_true, if_false, Nat.reduceEqDiff, eq_self] at hc7
    refine w_const (0) rfl rfl ?_
    refine w_putI0 rfl hT.o ?_
    refine w_load rfl rfl rfl ?_
    refine w_getI0k rfl hT.o (by (try simp (disch := omega) only [zF_wF, zF_wA, zF_wJ, zF_wD, zA_wF, zA_wA, zA_wJ, zA_wD, zL_wJ, zL_wF, zL_wA, zL_wD, J_wr, wr_zF, wr_zA, wrJ_zL, wr_id, wrJ_id, ne_eq, reduceCtorEq, not_false_eq_true, not_true_eq_false, if_true, if_false, Nat.reduceEqDiff, eq_self]); rfl) ?_
    refine w_if_le rfl (fun hc22 => ?_) (fun hc22 => ?_)
    · try simp (disch := omega) only [zF_wF, zF_wA, zF_wJ, zF_wD, zA_wF, zA_wA, zA_wJ, zA_wD, zL_wJ, zL_wF, zL_wA, zL_wD, J_wr, wr_zF, wr_zA, wrJ_zL, wr_id, wrJ_id, ne_eq, reduceCtorEq, not_false_eq_true, not_true_eq_false, if_true, if_false, Nat.reduceEqDiff, eq_self] at hc22
      refine w_load rfl rfl rfl ?_
      refine w_const (0) rfl rfl ?_
      refine w_putI0 rfl hT.o ?_
      refine w_load rfl rfl rfl ?_
      refine w_callV1 rfl (Nat.le_of_ble_eq_true rfl) (Or.inr (Or.inr hT.o)) (Nat.le_of_ble_eq_true rfl) (tw_cut (d := d + 2) hT (htx2 hs) (zF_put (by decide) (by decide))) (fun G33 h33 => ?_)
      rw [htx1, hz1] at h33
      have hT := h33.1.ts (show TS (wF (wF G 98 0 0) 98 8 0) from hT)
      have hz10 : zF G33 98 10 = zF G 98 10 := by rw [h33.1.vF 10 (by decide) (by decide), hFr0.vF 10 (by decide) (by decide)]
      refine w_load rfl rfl rfl ?_
      refine w_const (0) rfl rfl ?_
      refine w_putI0 rfl hT.o ?_
      refine w_load rfl rfl rfl ?_
      refine w_const (0) rfl rfl ?_
      refine w_putI0 rfl hT.o ?_
      refine w_load rfl rfl rfl ?_
      refine w_const (90) rfl rfl ?_
      refine w_load rfl rfl rfl ?_
      refine w_getI0k rfl hT.o ((zF_putn (by decide)).trans ((zF_putn (by decide)).trans hz10)) ?_
      refine w_imul rfl ?_
      refine w_putI0 rfl hT.o ?_
      refine w_load rfl rfl rfl ?_
      refine w_const (0) rfl rfl ?_
      refine w_putI0 rfl hT.o ?_
      refine w_load rfl rfl rfl ?_
      refine w_const (0) rfl rfl ?_
      refine w_putI0 rfl hT.o ?_
      refine w_load rfl rfl rfl ?_
      refine w_const (0) rfl rfl ?_
      refine w_putI0 rfl hT.o ?_
      refine w_load rfl rfl rfl ?_
      refine w_const (0) rfl rfl ?_
      refine w_putI4 rfl hT.o (by first | exact Or.inl rfl | exact Or.inr rfl | omega) ?_
      refine w_const (0) rfl rfl ?_
      refine w_st1 rfl rfl rfl ?_
      exact tw_par79 hs hp h17 hc7 hFr0 (by assumption) h33 rfl
    · exfalso; simp (disch := omega) only [zF_wF, zF_wA, zF_wJ, zF_wD, zA_wF, zA_wA, zA_wJ, zA_wD, zL_wJ, zL_wF, zL_wA, zL_wD, J_wr, wr_zF, wr_zA, wrJ_zL, wr_id, wrJ_id, ne_eq, reduceCtorEq, not_false_eq_true, not_true_eq_false, if_true, if_false, Nat.reduceEqDiff, eq_self] at hc22 <;> omega
  · try simp (disch := omega) only [zF_wF, zF_wA, zF_wJ, zF_wD, zA_wF, zA_wA, zA_wJ, zA_wD, zL_wJ, zL_wF, zL_wA, zL_wD, J_wr, wr_zF, wr_zA, wrJ_zL, wr_id, wrJ_id, ne_eq, reduceCtorEq, not_false_eq_true, not_true_eq_false, if_true, if_false, Nat.reduceEqDiff, eq_self] at hc7
    refine w_const (1) rfl rfl ?_
    refine w_goto rfl ?_
    refine w_putI0 rfl hT.o ?_
    refine w_load rfl rfl rfl ?_
    refine w_getI0k rfl hT.o (by (try simp (disch := omega) only [zF_wF, zF_wA, zF_wJ, zF_wD, zA_wF, zA_wA, zA_wJ, zA_wD, zL_wJ, zL_wF, zL_wA, zL_wD, J_wr, wr_zF, wr_zA, wrJ_zL, wr_id, wrJ_id, ne_eq, reduceCtorEq, not_false_eq_true, not_true_eq_false, if_true, if_false, Nat.reduceEqDiff, eq_self]); rfl) ?_
    refine w_if_le rfl (fun hc22 => ?_) (fun hc22 => ?_)
    · exfalso; simp (disch := omega) only [zF_wF, zF_wA, zF_wJ, zF_wD, zA_wF, zA_wA, zA_wJ, zA_wD, zL_wJ, zL_wF, zL_wA, zL_wD, J_wr, wr_zF, wr_zA, wrJ_zL, wr_id, wrJ_id, ne_eq, reduceCtorEq, not_false_eq_true, not_true_eq_false, if_true, if_false, Nat.reduceEqDiff, eq_self] at hc22 <;> omega
    · try simp (disch := omega) only [zF_wF, zF_wA, zF_wJ, zF_wD, zA_wF, zA_wA, zA_wJ, zA_wD, zL_wJ, zL_wF, zL_wA, zL_wD, J_wr, wr_zF, wr_zA, wrJ_zL, wr_id, wrJ_id, ne_eq, reduceCtorEq, not_false_eq_true, not_true_eq_false, if_true, if_false, Nat.reduceEqDiff, eq_self] at hc22
      refine w_const (0) rfl rfl ?_
      refine w_ireturn rfl rfl ?_
      exact RI.mk (Or.inl ⟨hc7, rfl, rfl⟩)
end tw16

